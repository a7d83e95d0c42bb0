/-! AppealrentModel -/
set_option maxRecDepth 100000
def RX3 : String := "AppealrentModel"
def TX3 : u_T := fun k => match k with
  | 0 => ("AppealrentModel", "thrown", "I", false)
  | 1 => ("AppealrentModel", "today", "I", false)
  | 2 => ("AppealrentModel", "tape", "[I", true)
  | 3 => ("AppealrentModel", "taped", "I", false)
  | 4 => ("AppealrentModel", "cases", "I", false)
  | 5 => ("AppealrentModel", "name", "[[I", true)
  | 6 => ("AppealrentModel", "first", "[I", true)
  | 7 => ("AppealrentModel", "end", "[I", true)
  | 8 => ("AppealrentModel", "kept", "[I", true)
  | 9 => ("AppealrentModel", "toTenant", "[I", true)
  | 10 => ("AppealrentModel", "toLandlord", "[I", true)
  | 11 => ("AppealrentModel", "paid", "[I", true)
  | 12 => ("AppealrentModel", "claimed", "[I", true)
  | 13 => ("AppealrentModel", "forms", "I", false)
  | 14 => ("AppealrentModel", "formCase", "[I", true)
  | 15 => ("AppealrentModel", "came", "[I", true)
  | 16 => ("AppealrentModel", "formFrom", "[I", true)
  | 17 => ("AppealrentModel", "formState", "[I", true)
  | 18 => ("AppealrentModel", "told", "[I", true)
  | 19 => ("AppealrentModel", "rules", "I", false)
  | 20 => ("AppealrentModel", "number", "[I", true)
  | 21 => ("AppealrentModel", "ruleFrom", "[I", true)
  | 22 => ("AppealrentModel", "court", "[Z", true)
  | 23 => ("AppealrentModel", "counts", "[Z", true)
  | 24 => ("AppealrentModel", "claims", "I", false)
  | 25 => ("AppealrentModel", "claim", "[I", false)
  | 26 => ("AppealrentModel", "output", "Ljava/lang/StringBuilder;", true)
  | 27 => ("AppealrentModel", "at", "I", false)
  | _ => ("AppealrentModel", "read", "[I", true)
def tyX3 : Nat → FieldType := fun k => match k with
  | 0 => .int
  | 1 => .int
  | 2 => .array .int
  | 3 => .int
  | 4 => .int
  | 5 => .array (.array .int)
  | 6 => .array .int
  | 7 => .array .int
  | 8 => .array .int
  | 9 => .array .int
  | 10 => .array .int
  | 11 => .array .int
  | 12 => .array .int
  | 13 => .int
  | 14 => .array .int
  | 15 => .array .int
  | 16 => .array .int
  | 17 => .array .int
  | 18 => .array .int
  | 19 => .int
  | 20 => .array .int
  | 21 => .array .int
  | 22 => .array .boolean
  | 23 => .array .boolean
  | 24 => .int
  | 25 => .array .int
  | 26 => .object "java/lang/StringBuilder"
  | 27 => .int
  | _ => .array .int
abbrev wsX30 : List Cond := u_ws RX3 TX3 29
set_option maxRecDepth 100000 in
theorem nmX3 : ∀ a, a < 29 → ∀ b, b < 29 → a ≠ b → (TX3 a).2.1 ≠ (TX3 b).2.1 := by decide +kernel
set_option maxRecDepth 100000 in
theorem tyX3_ok : ∀ k, k < 29 → parseFieldDescriptor (TX3 k).2.2.1 = some (tyX3 k) := by decide +kernel
abbrev cX3_init : ByteArray := prog_13_method_1_code
def yX3_init : MethodName := ⟨RX3, "<init>", "()V"⟩
def dkwX3_init_10 : List UInt8 := [27, 4, 84, 132, 1, 1, 167, 255, 240, 177]
abbrev dktX3_init_10 : List UInt8 := dkwX3_init_10 ++ []
def dkwX3_init_9 : List UInt8 := [16, 20, 79, 42, 180, 0, 58, 7, 17, 3, 232, 79, 3, 60, 27, 16, 10, 162, 0, 16, 42, 180, 0, 68]
abbrev dktX3_init_9 : List UInt8 := dkwX3_init_9 ++ dktX3_init_10
def dkwX3_init_8 : List UInt8 := [18, 84, 79, 42, 180, 0, 58, 4, 16, 80, 79, 42, 180, 0, 58, 5, 18, 85, 79, 42, 180, 0, 58, 6]
abbrev dktX3_init_8 : List UInt8 := dkwX3_init_8 ++ dktX3_init_9
def dkwX3_init_7 : List UInt8 := [42, 187, 0, 74, 89, 183, 0, 76, 181, 0, 77, 42, 8, 188, 10, 181, 0, 81, 42, 180, 0, 58, 3]
abbrev dktX3_init_7 : List UInt8 := dkwX3_init_7 ++ dktX3_init_8
def dkwX3_init_6 : List UInt8 := [42, 16, 12, 188, 4, 181, 0, 64, 42, 16, 120, 188, 4, 181, 0, 68, 42, 16, 96, 188, 10, 181, 0, 71]
abbrev dktX3_init_6 : List UInt8 := dkwX3_init_6 ++ dktX3_init_7
def dkwX3_init_5 : List UInt8 := [181, 0, 51, 42, 4, 181, 0, 54, 42, 16, 60, 188, 10, 181, 0, 58, 42, 16, 12, 188, 10, 181, 0, 61]
abbrev dktX3_init_5 : List UInt8 := dkwX3_init_5 ++ dktX3_init_6
def dkwX3_init_4 : List UInt8 := [42, 16, 60, 188, 10, 181, 0, 45, 42, 16, 60, 188, 10, 181, 0, 48, 42, 17, 0, 240, 188, 10]
abbrev dktX3_init_4 : List UInt8 := dkwX3_init_4 ++ dktX3_init_5
def dkwX3_init_3 : List UInt8 := [17, 1, 254, 188, 10, 181, 0, 36, 42, 16, 60, 188, 10, 181, 0, 39, 42, 16, 60, 188, 10, 181, 0, 42]
abbrev dktX3_init_3 : List UInt8 := dkwX3_init_3 ++ dktX3_init_4
def dkwX3_init_2 : List UInt8 := [188, 10, 181, 0, 27, 42, 16, 10, 188, 10, 181, 0, 30, 42, 17, 1, 254, 188, 10, 181, 0, 33, 42]
abbrev dktX3_init_2 : List UInt8 := dkwX3_init_2 ++ dktX3_init_3
def dkwX3_init_1 : List UInt8 := [188, 10, 181, 0, 18, 42, 16, 10, 188, 10, 181, 0, 21, 42, 16, 10, 188, 10, 181, 0, 24, 42, 16, 10]
abbrev dktX3_init_1 : List UInt8 := dkwX3_init_1 ++ dktX3_init_2
def dkwX3_init_0 : List UInt8 := [42, 183, 0, 1, 42, 16, 60, 188, 10, 181, 0, 9, 42, 16, 10, 189, 0, 13, 181, 0, 14, 42, 16, 10]
abbrev dktX3_init_0 : List UInt8 := dkwX3_init_0 ++ dktX3_init_1
theorem dksX3_init_0 : cX3_init.data.toList.drop 0 = dktX3_init_0 := by decide +kernel
theorem dksX3_init_1 : cX3_init.data.toList.drop 24 = dktX3_init_1 := dk_seg dksX3_init_0 24 rfl rfl
theorem dksX3_init_2 : cX3_init.data.toList.drop 48 = dktX3_init_2 := dk_seg dksX3_init_1 24 rfl rfl
theorem dksX3_init_3 : cX3_init.data.toList.drop 71 = dktX3_init_3 := dk_seg dksX3_init_2 23 rfl rfl
theorem dksX3_init_4 : cX3_init.data.toList.drop 95 = dktX3_init_4 := dk_seg dksX3_init_3 24 rfl rfl
theorem dksX3_init_5 : cX3_init.data.toList.drop 117 = dktX3_init_5 := dk_seg dksX3_init_4 22 rfl rfl
theorem dksX3_init_6 : cX3_init.data.toList.drop 141 = dktX3_init_6 := dk_seg dksX3_init_5 24 rfl rfl
theorem dksX3_init_7 : cX3_init.data.toList.drop 165 = dktX3_init_7 := dk_seg dksX3_init_6 24 rfl rfl
theorem dksX3_init_8 : cX3_init.data.toList.drop 188 = dktX3_init_8 := dk_seg dksX3_init_7 23 rfl rfl
theorem dksX3_init_9 : cX3_init.data.toList.drop 212 = dktX3_init_9 := dk_seg dksX3_init_8 24 rfl rfl
theorem dksX3_init_10 : cX3_init.data.toList.drop 236 = dktX3_init_10 := dk_seg dksX3_init_9 24 rfl rfl
theorem dX3_init_0 : decode cX3_init 0 = .ok (.aload_n 0, 1) := dk_42 (dk_at dksX3_init_0 0 rfl rfl)
theorem dX3_init_1 : decode cX3_init 1 = .ok (.invokespecial 1, 3) := dk_183 0 1 (dk_at dksX3_init_0 1 rfl rfl)
theorem dX3_init_4 : decode cX3_init 4 = .ok (.aload_n 0, 1) := dk_42 (dk_at dksX3_init_0 4 rfl rfl)
theorem dX3_init_5 : decode cX3_init 5 = .ok (.bipush 60, 2) := dk_16 60 (dk_at dksX3_init_0 5 rfl rfl)
theorem dX3_init_7 : decode cX3_init 7 = .ok (.newarray .int, 2) := dk_188_10 (dk_at dksX3_init_0 7 rfl rfl)
theorem dX3_init_9 : decode cX3_init 9 = .ok (.putfield 9, 3) := dk_181 0 9 (dk_at dksX3_init_0 9 rfl rfl)
theorem dX3_init_12 : decode cX3_init 12 = .ok (.aload_n 0, 1) := dk_42 (dk_at dksX3_init_0 12 rfl rfl)
theorem dX3_init_13 : decode cX3_init 13 = .ok (.bipush 10, 2) := dk_16 10 (dk_at dksX3_init_0 13 rfl rfl)
theorem dX3_init_15 : decode cX3_init 15 = .ok (.anewarray 13, 3) := dk_189 0 13 (dk_at dksX3_init_0 15 rfl rfl)
theorem dX3_init_18 : decode cX3_init 18 = .ok (.putfield 14, 3) := dk_181 0 14 (dk_at dksX3_init_0 18 rfl rfl)
theorem dX3_init_21 : decode cX3_init 21 = .ok (.aload_n 0, 1) := dk_42 (dk_at dksX3_init_0 21 rfl rfl)
theorem dX3_init_22 : decode cX3_init 22 = .ok (.bipush 10, 2) := dk_16 10 (dk_at dksX3_init_0 22 rfl rfl)
theorem dX3_init_24 : decode cX3_init 24 = .ok (.newarray .int, 2) := dk_188_10 (dk_at dksX3_init_1 0 rfl rfl)
theorem dX3_init_26 : decode cX3_init 26 = .ok (.putfield 18, 3) := dk_181 0 18 (dk_at dksX3_init_1 2 rfl rfl)
theorem dX3_init_29 : decode cX3_init 29 = .ok (.aload_n 0, 1) := dk_42 (dk_at dksX3_init_1 5 rfl rfl)
theorem dX3_init_30 : decode cX3_init 30 = .ok (.bipush 10, 2) := dk_16 10 (dk_at dksX3_init_1 6 rfl rfl)
theorem dX3_init_32 : decode cX3_init 32 = .ok (.newarray .int, 2) := dk_188_10 (dk_at dksX3_init_1 8 rfl rfl)
theorem dX3_init_34 : decode cX3_init 34 = .ok (.putfield 21, 3) := dk_181 0 21 (dk_at dksX3_init_1 10 rfl rfl)
theorem dX3_init_37 : decode cX3_init 37 = .ok (.aload_n 0, 1) := dk_42 (dk_at dksX3_init_1 13 rfl rfl)
theorem dX3_init_38 : decode cX3_init 38 = .ok (.bipush 10, 2) := dk_16 10 (dk_at dksX3_init_1 14 rfl rfl)
theorem dX3_init_40 : decode cX3_init 40 = .ok (.newarray .int, 2) := dk_188_10 (dk_at dksX3_init_1 16 rfl rfl)
theorem dX3_init_42 : decode cX3_init 42 = .ok (.putfield 24, 3) := dk_181 0 24 (dk_at dksX3_init_1 18 rfl rfl)
theorem dX3_init_45 : decode cX3_init 45 = .ok (.aload_n 0, 1) := dk_42 (dk_at dksX3_init_1 21 rfl rfl)
theorem dX3_init_46 : decode cX3_init 46 = .ok (.bipush 10, 2) := dk_16 10 (dk_at dksX3_init_1 22 rfl rfl)
theorem dX3_init_48 : decode cX3_init 48 = .ok (.newarray .int, 2) := dk_188_10 (dk_at dksX3_init_2 0 rfl rfl)
theorem dX3_init_50 : decode cX3_init 50 = .ok (.putfield 27, 3) := dk_181 0 27 (dk_at dksX3_init_2 2 rfl rfl)
theorem dX3_init_53 : decode cX3_init 53 = .ok (.aload_n 0, 1) := dk_42 (dk_at dksX3_init_2 5 rfl rfl)
theorem dX3_init_54 : decode cX3_init 54 = .ok (.bipush 10, 2) := dk_16 10 (dk_at dksX3_init_2 6 rfl rfl)
theorem dX3_init_56 : decode cX3_init 56 = .ok (.newarray .int, 2) := dk_188_10 (dk_at dksX3_init_2 8 rfl rfl)
theorem dX3_init_58 : decode cX3_init 58 = .ok (.putfield 30, 3) := dk_181 0 30 (dk_at dksX3_init_2 10 rfl rfl)
theorem dX3_init_61 : decode cX3_init 61 = .ok (.aload_n 0, 1) := dk_42 (dk_at dksX3_init_2 13 rfl rfl)
theorem dX3_init_62 : decode cX3_init 62 = .ok (.sipush 510, 3) := dk_17 1 254 (dk_at dksX3_init_2 14 rfl rfl)
theorem dX3_init_65 : decode cX3_init 65 = .ok (.newarray .int, 2) := dk_188_10 (dk_at dksX3_init_2 17 rfl rfl)
theorem dX3_init_67 : decode cX3_init 67 = .ok (.putfield 33, 3) := dk_181 0 33 (dk_at dksX3_init_2 19 rfl rfl)
theorem dX3_init_70 : decode cX3_init 70 = .ok (.aload_n 0, 1) := dk_42 (dk_at dksX3_init_2 22 rfl rfl)
theorem dX3_init_71 : decode cX3_init 71 = .ok (.sipush 510, 3) := dk_17 1 254 (dk_at dksX3_init_3 0 rfl rfl)
theorem dX3_init_74 : decode cX3_init 74 = .ok (.newarray .int, 2) := dk_188_10 (dk_at dksX3_init_3 3 rfl rfl)
theorem dX3_init_76 : decode cX3_init 76 = .ok (.putfield 36, 3) := dk_181 0 36 (dk_at dksX3_init_3 5 rfl rfl)
theorem dX3_init_79 : decode cX3_init 79 = .ok (.aload_n 0, 1) := dk_42 (dk_at dksX3_init_3 8 rfl rfl)
theorem dX3_init_80 : decode cX3_init 80 = .ok (.bipush 60, 2) := dk_16 60 (dk_at dksX3_init_3 9 rfl rfl)
theorem dX3_init_82 : decode cX3_init 82 = .ok (.newarray .int, 2) := dk_188_10 (dk_at dksX3_init_3 11 rfl rfl)
theorem dX3_init_84 : decode cX3_init 84 = .ok (.putfield 39, 3) := dk_181 0 39 (dk_at dksX3_init_3 13 rfl rfl)
theorem dX3_init_87 : decode cX3_init 87 = .ok (.aload_n 0, 1) := dk_42 (dk_at dksX3_init_3 16 rfl rfl)
theorem dX3_init_88 : decode cX3_init 88 = .ok (.bipush 60, 2) := dk_16 60 (dk_at dksX3_init_3 17 rfl rfl)
theorem dX3_init_90 : decode cX3_init 90 = .ok (.newarray .int, 2) := dk_188_10 (dk_at dksX3_init_3 19 rfl rfl)
theorem dX3_init_92 : decode cX3_init 92 = .ok (.putfield 42, 3) := dk_181 0 42 (dk_at dksX3_init_3 21 rfl rfl)
theorem dX3_init_95 : decode cX3_init 95 = .ok (.aload_n 0, 1) := dk_42 (dk_at dksX3_init_4 0 rfl rfl)
theorem dX3_init_96 : decode cX3_init 96 = .ok (.bipush 60, 2) := dk_16 60 (dk_at dksX3_init_4 1 rfl rfl)
theorem dX3_init_98 : decode cX3_init 98 = .ok (.newarray .int, 2) := dk_188_10 (dk_at dksX3_init_4 3 rfl rfl)
theorem dX3_init_100 : decode cX3_init 100 = .ok (.putfield 45, 3) := dk_181 0 45 (dk_at dksX3_init_4 5 rfl rfl)
theorem dX3_init_103 : decode cX3_init 103 = .ok (.aload_n 0, 1) := dk_42 (dk_at dksX3_init_4 8 rfl rfl)
theorem dX3_init_104 : decode cX3_init 104 = .ok (.bipush 60, 2) := dk_16 60 (dk_at dksX3_init_4 9 rfl rfl)
theorem dX3_init_106 : decode cX3_init 106 = .ok (.newarray .int, 2) := dk_188_10 (dk_at dksX3_init_4 11 rfl rfl)
theorem dX3_init_108 : decode cX3_init 108 = .ok (.putfield 48, 3) := dk_181 0 48 (dk_at dksX3_init_4 13 rfl rfl)
theorem dX3_init_111 : decode cX3_init 111 = .ok (.aload_n 0, 1) := dk_42 (dk_at dksX3_init_4 16 rfl rfl)
theorem dX3_init_112 : decode cX3_init 112 = .ok (.sipush 240, 3) := dk_17 0 240 (dk_at dksX3_init_4 17 rfl rfl)
theorem dX3_init_115 : decode cX3_init 115 = .ok (.newarray .int, 2) := dk_188_10 (dk_at dksX3_init_4 20 rfl rfl)
theorem dX3_init_117 : decode cX3_init 117 = .ok (.putfield 51, 3) := dk_181 0 51 (dk_at dksX3_init_5 0 rfl rfl)
theorem dX3_init_120 : decode cX3_init 120 = .ok (.aload_n 0, 1) := dk_42 (dk_at dksX3_init_5 3 rfl rfl)
theorem dX3_init_121 : decode cX3_init 121 = .ok (.iconst 1, 1) := dk_4 (dk_at dksX3_init_5 4 rfl rfl)
theorem dX3_init_122 : decode cX3_init 122 = .ok (.putfield 54, 3) := dk_181 0 54 (dk_at dksX3_init_5 5 rfl rfl)
theorem dX3_init_125 : decode cX3_init 125 = .ok (.aload_n 0, 1) := dk_42 (dk_at dksX3_init_5 8 rfl rfl)
theorem dX3_init_126 : decode cX3_init 126 = .ok (.bipush 60, 2) := dk_16 60 (dk_at dksX3_init_5 9 rfl rfl)
theorem dX3_init_128 : decode cX3_init 128 = .ok (.newarray .int, 2) := dk_188_10 (dk_at dksX3_init_5 11 rfl rfl)
theorem dX3_init_130 : decode cX3_init 130 = .ok (.putfield 58, 3) := dk_181 0 58 (dk_at dksX3_init_5 13 rfl rfl)
theorem dX3_init_133 : decode cX3_init 133 = .ok (.aload_n 0, 1) := dk_42 (dk_at dksX3_init_5 16 rfl rfl)
theorem dX3_init_134 : decode cX3_init 134 = .ok (.bipush 12, 2) := dk_16 12 (dk_at dksX3_init_5 17 rfl rfl)
theorem dX3_init_136 : decode cX3_init 136 = .ok (.newarray .int, 2) := dk_188_10 (dk_at dksX3_init_5 19 rfl rfl)
theorem dX3_init_138 : decode cX3_init 138 = .ok (.putfield 61, 3) := dk_181 0 61 (dk_at dksX3_init_5 21 rfl rfl)
theorem dX3_init_141 : decode cX3_init 141 = .ok (.aload_n 0, 1) := dk_42 (dk_at dksX3_init_6 0 rfl rfl)
theorem dX3_init_142 : decode cX3_init 142 = .ok (.bipush 12, 2) := dk_16 12 (dk_at dksX3_init_6 1 rfl rfl)
theorem dX3_init_144 : decode cX3_init 144 = .ok (.newarray .boolean, 2) := dk_188_4 (dk_at dksX3_init_6 3 rfl rfl)
theorem dX3_init_146 : decode cX3_init 146 = .ok (.putfield 64, 3) := dk_181 0 64 (dk_at dksX3_init_6 5 rfl rfl)
theorem dX3_init_149 : decode cX3_init 149 = .ok (.aload_n 0, 1) := dk_42 (dk_at dksX3_init_6 8 rfl rfl)
theorem dX3_init_150 : decode cX3_init 150 = .ok (.bipush 120, 2) := dk_16 120 (dk_at dksX3_init_6 9 rfl rfl)
theorem dX3_init_152 : decode cX3_init 152 = .ok (.newarray .boolean, 2) := dk_188_4 (dk_at dksX3_init_6 11 rfl rfl)
theorem dX3_init_154 : decode cX3_init 154 = .ok (.putfield 68, 3) := dk_181 0 68 (dk_at dksX3_init_6 13 rfl rfl)
theorem dX3_init_157 : decode cX3_init 157 = .ok (.aload_n 0, 1) := dk_42 (dk_at dksX3_init_6 16 rfl rfl)
theorem dX3_init_158 : decode cX3_init 158 = .ok (.bipush 96, 2) := dk_16 96 (dk_at dksX3_init_6 17 rfl rfl)
theorem dX3_init_160 : decode cX3_init 160 = .ok (.newarray .int, 2) := dk_188_10 (dk_at dksX3_init_6 19 rfl rfl)
theorem dX3_init_162 : decode cX3_init 162 = .ok (.putfield 71, 3) := dk_181 0 71 (dk_at dksX3_init_6 21 rfl rfl)
theorem dX3_init_165 : decode cX3_init 165 = .ok (.aload_n 0, 1) := dk_42 (dk_at dksX3_init_7 0 rfl rfl)
theorem dX3_init_166 : decode cX3_init 166 = .ok (.new 74, 3) := dk_187 0 74 (dk_at dksX3_init_7 1 rfl rfl)
theorem dX3_init_169 : decode cX3_init 169 = .ok (.dup, 1) := dk_89 (dk_at dksX3_init_7 4 rfl rfl)
theorem dX3_init_170 : decode cX3_init 170 = .ok (.invokespecial 76, 3) := dk_183 0 76 (dk_at dksX3_init_7 5 rfl rfl)
theorem dX3_init_173 : decode cX3_init 173 = .ok (.putfield 77, 3) := dk_181 0 77 (dk_at dksX3_init_7 8 rfl rfl)
theorem dX3_init_176 : decode cX3_init 176 = .ok (.aload_n 0, 1) := dk_42 (dk_at dksX3_init_7 11 rfl rfl)
theorem dX3_init_177 : decode cX3_init 177 = .ok (.iconst 5, 1) := dk_8 (dk_at dksX3_init_7 12 rfl rfl)
theorem dX3_init_178 : decode cX3_init 178 = .ok (.newarray .int, 2) := dk_188_10 (dk_at dksX3_init_7 13 rfl rfl)
theorem dX3_init_180 : decode cX3_init 180 = .ok (.putfield 81, 3) := dk_181 0 81 (dk_at dksX3_init_7 15 rfl rfl)
theorem dX3_init_183 : decode cX3_init 183 = .ok (.aload_n 0, 1) := dk_42 (dk_at dksX3_init_7 18 rfl rfl)
theorem dX3_init_184 : decode cX3_init 184 = .ok (.getfield 58, 3) := dk_180 0 58 (dk_at dksX3_init_7 19 rfl rfl)
theorem dX3_init_187 : decode cX3_init 187 = .ok (.iconst 0, 1) := dk_3 (dk_at dksX3_init_7 22 rfl rfl)
theorem dX3_init_188 : decode cX3_init 188 = .ok (.ldc 84, 2) := dk_18 84 (dk_at dksX3_init_8 0 rfl rfl)
theorem dX3_init_190 : decode cX3_init 190 = .ok (.iastore, 1) := dk_79 (dk_at dksX3_init_8 2 rfl rfl)
theorem dX3_init_191 : decode cX3_init 191 = .ok (.aload_n 0, 1) := dk_42 (dk_at dksX3_init_8 3 rfl rfl)
theorem dX3_init_192 : decode cX3_init 192 = .ok (.getfield 58, 3) := dk_180 0 58 (dk_at dksX3_init_8 4 rfl rfl)
theorem dX3_init_195 : decode cX3_init 195 = .ok (.iconst 1, 1) := dk_4 (dk_at dksX3_init_8 7 rfl rfl)
theorem dX3_init_196 : decode cX3_init 196 = .ok (.bipush 80, 2) := dk_16 80 (dk_at dksX3_init_8 8 rfl rfl)
theorem dX3_init_198 : decode cX3_init 198 = .ok (.iastore, 1) := dk_79 (dk_at dksX3_init_8 10 rfl rfl)
theorem dX3_init_199 : decode cX3_init 199 = .ok (.aload_n 0, 1) := dk_42 (dk_at dksX3_init_8 11 rfl rfl)
theorem dX3_init_200 : decode cX3_init 200 = .ok (.getfield 58, 3) := dk_180 0 58 (dk_at dksX3_init_8 12 rfl rfl)
theorem dX3_init_203 : decode cX3_init 203 = .ok (.iconst 2, 1) := dk_5 (dk_at dksX3_init_8 15 rfl rfl)
theorem dX3_init_204 : decode cX3_init 204 = .ok (.ldc 85, 2) := dk_18 85 (dk_at dksX3_init_8 16 rfl rfl)
theorem dX3_init_206 : decode cX3_init 206 = .ok (.iastore, 1) := dk_79 (dk_at dksX3_init_8 18 rfl rfl)
theorem dX3_init_207 : decode cX3_init 207 = .ok (.aload_n 0, 1) := dk_42 (dk_at dksX3_init_8 19 rfl rfl)
theorem dX3_init_208 : decode cX3_init 208 = .ok (.getfield 58, 3) := dk_180 0 58 (dk_at dksX3_init_8 20 rfl rfl)
theorem dX3_init_211 : decode cX3_init 211 = .ok (.iconst 3, 1) := dk_6 (dk_at dksX3_init_8 23 rfl rfl)
theorem dX3_init_212 : decode cX3_init 212 = .ok (.bipush 20, 2) := dk_16 20 (dk_at dksX3_init_9 0 rfl rfl)
theorem dX3_init_214 : decode cX3_init 214 = .ok (.iastore, 1) := dk_79 (dk_at dksX3_init_9 2 rfl rfl)
theorem dX3_init_215 : decode cX3_init 215 = .ok (.aload_n 0, 1) := dk_42 (dk_at dksX3_init_9 3 rfl rfl)
theorem dX3_init_216 : decode cX3_init 216 = .ok (.getfield 58, 3) := dk_180 0 58 (dk_at dksX3_init_9 4 rfl rfl)
theorem dX3_init_219 : decode cX3_init 219 = .ok (.iconst 4, 1) := dk_7 (dk_at dksX3_init_9 7 rfl rfl)
theorem dX3_init_220 : decode cX3_init 220 = .ok (.sipush 1000, 3) := dk_17 3 232 (dk_at dksX3_init_9 8 rfl rfl)
theorem dX3_init_223 : decode cX3_init 223 = .ok (.iastore, 1) := dk_79 (dk_at dksX3_init_9 11 rfl rfl)
theorem dX3_init_224 : decode cX3_init 224 = .ok (.iconst 0, 1) := dk_3 (dk_at dksX3_init_9 12 rfl rfl)
theorem dX3_init_225 : decode cX3_init 225 = .ok (.istore_n 1, 1) := dk_60 (dk_at dksX3_init_9 13 rfl rfl)
theorem dX3_init_226 : decode cX3_init 226 = .ok (.iload_n 1, 1) := dk_27 (dk_at dksX3_init_9 14 rfl rfl)
theorem dX3_init_227 : decode cX3_init 227 = .ok (.bipush 10, 2) := dk_16 10 (dk_at dksX3_init_9 15 rfl rfl)
theorem dX3_init_229 : decode cX3_init 229 = .ok (.if_icmp .ge 16, 3) := dk_162 0 16 (dk_at dksX3_init_9 17 rfl rfl)
theorem dX3_init_232 : decode cX3_init 232 = .ok (.aload_n 0, 1) := dk_42 (dk_at dksX3_init_9 20 rfl rfl)
theorem dX3_init_233 : decode cX3_init 233 = .ok (.getfield 68, 3) := dk_180 0 68 (dk_at dksX3_init_9 21 rfl rfl)
theorem dX3_init_236 : decode cX3_init 236 = .ok (.iload_n 1, 1) := dk_27 (dk_at dksX3_init_10 0 rfl rfl)
theorem dX3_init_237 : decode cX3_init 237 = .ok (.iconst 1, 1) := dk_4 (dk_at dksX3_init_10 1 rfl rfl)
theorem dX3_init_238 : decode cX3_init 238 = .ok (.bastore, 1) := dk_84 (dk_at dksX3_init_10 2 rfl rfl)
theorem dX3_init_239 : decode cX3_init 239 = .ok (.iinc 1 1, 3) := dk_132 1 1 (dk_at dksX3_init_10 3 rfl rfl)
theorem dX3_init_242 : decode cX3_init 242 = .ok (.goto (-16), 3) := dk_167 255 240 (dk_at dksX3_init_10 6 rfl rfl)
theorem dX3_init_245 : decode cX3_init 245 = .ok (.return_, 1) := dk_177 (dk_at dksX3_init_10 9 rfl rfl)
abbrev cX3_thrown : ByteArray := prog_13_method_2_code
def yX3_thrown : MethodName := ⟨RX3, "thrown", "()I"⟩
theorem dX3_thrown_0 : decode cX3_thrown 0 = .ok (.aload_n 0, 1) := by decide +kernel
theorem dX3_thrown_1 : decode cX3_thrown 1 = .ok (.getfield 86, 3) := by decide +kernel
theorem dX3_thrown_4 : decode cX3_thrown 4 = .ok (.ireturn, 1) := by decide +kernel
abbrev cX3_sign : ByteArray := prog_13_method_29_code
def yX3_sign : MethodName := ⟨RX3, "sign", "(I)I"⟩
def dkwX3_sign_3 : List UInt8 := [180, 0, 105, 4, 96, 181, 0, 105, 42, 180, 0, 105, 172]
abbrev dktX3_sign_3 : List UInt8 := dkwX3_sign_3 ++ []
def dkwX3_sign_2 : List UInt8 := [167, 0, 4, 3, 182, 0, 234, 154, 0, 5, 3, 172, 42, 180, 0, 9, 42, 180, 0, 105, 27, 79, 42, 89]
abbrev dktX3_sign_2 : List UInt8 := dkwX3_sign_2 ++ dktX3_sign_3
def dkwX3_sign_1 : List UInt8 := [184, 0, 92, 154, 0, 7, 4, 167, 0, 4, 3, 61, 42, 28, 42, 180, 0, 105, 16, 60, 162, 0, 7, 4]
abbrev dktX3_sign_1 : List UInt8 := dkwX3_sign_1 ++ dktX3_sign_2
def dkwX3_sign_0 : List UInt8 := [27, 133, 20, 0, 226, 20, 0, 228, 184, 0, 92, 153, 0, 21, 27, 133, 20, 0, 230, 20, 0, 232]
abbrev dktX3_sign_0 : List UInt8 := dkwX3_sign_0 ++ dktX3_sign_1
theorem dksX3_sign_0 : cX3_sign.data.toList.drop 0 = dktX3_sign_0 := by decide +kernel
theorem dksX3_sign_1 : cX3_sign.data.toList.drop 22 = dktX3_sign_1 := dk_seg dksX3_sign_0 22 rfl rfl
theorem dksX3_sign_2 : cX3_sign.data.toList.drop 46 = dktX3_sign_2 := dk_seg dksX3_sign_1 24 rfl rfl
theorem dksX3_sign_3 : cX3_sign.data.toList.drop 70 = dktX3_sign_3 := dk_seg dksX3_sign_2 24 rfl rfl
theorem dX3_sign_0 : decode cX3_sign 0 = .ok (.iload_n 1, 1) := dk_27 (dk_at dksX3_sign_0 0 rfl rfl)
theorem dX3_sign_1 : decode cX3_sign 1 = .ok (.i2l, 1) := dk_133 (dk_at dksX3_sign_0 1 rfl rfl)
theorem dX3_sign_2 : decode cX3_sign 2 = .ok (.ldc2_w 226, 3) := dk_20 0 226 (dk_at dksX3_sign_0 2 rfl rfl)
theorem dX3_sign_5 : decode cX3_sign 5 = .ok (.ldc2_w 228, 3) := dk_20 0 228 (dk_at dksX3_sign_0 5 rfl rfl)
theorem dX3_sign_8 : decode cX3_sign 8 = .ok (.invokestatic 92, 3) := dk_184 0 92 (dk_at dksX3_sign_0 8 rfl rfl)
theorem dX3_sign_11 : decode cX3_sign 11 = .ok (.ifCond .eq 21, 3) := dk_153 0 21 (dk_at dksX3_sign_0 11 rfl rfl)
theorem dX3_sign_14 : decode cX3_sign 14 = .ok (.iload_n 1, 1) := dk_27 (dk_at dksX3_sign_0 14 rfl rfl)
theorem dX3_sign_15 : decode cX3_sign 15 = .ok (.i2l, 1) := dk_133 (dk_at dksX3_sign_0 15 rfl rfl)
theorem dX3_sign_16 : decode cX3_sign 16 = .ok (.ldc2_w 230, 3) := dk_20 0 230 (dk_at dksX3_sign_0 16 rfl rfl)
theorem dX3_sign_19 : decode cX3_sign 19 = .ok (.ldc2_w 232, 3) := dk_20 0 232 (dk_at dksX3_sign_0 19 rfl rfl)
theorem dX3_sign_22 : decode cX3_sign 22 = .ok (.invokestatic 92, 3) := dk_184 0 92 (dk_at dksX3_sign_1 0 rfl rfl)
theorem dX3_sign_25 : decode cX3_sign 25 = .ok (.ifCond .ne 7, 3) := dk_154 0 7 (dk_at dksX3_sign_1 3 rfl rfl)
theorem dX3_sign_28 : decode cX3_sign 28 = .ok (.iconst 1, 1) := dk_4 (dk_at dksX3_sign_1 6 rfl rfl)
theorem dX3_sign_29 : decode cX3_sign 29 = .ok (.goto 4, 3) := dk_167 0 4 (dk_at dksX3_sign_1 7 rfl rfl)
theorem dX3_sign_32 : decode cX3_sign 32 = .ok (.iconst 0, 1) := dk_3 (dk_at dksX3_sign_1 10 rfl rfl)
theorem dX3_sign_33 : decode cX3_sign 33 = .ok (.istore_n 2, 1) := dk_61 (dk_at dksX3_sign_1 11 rfl rfl)
theorem dX3_sign_34 : decode cX3_sign 34 = .ok (.aload_n 0, 1) := dk_42 (dk_at dksX3_sign_1 12 rfl rfl)
theorem dX3_sign_35 : decode cX3_sign 35 = .ok (.iload_n 2, 1) := dk_28 (dk_at dksX3_sign_1 13 rfl rfl)
theorem dX3_sign_36 : decode cX3_sign 36 = .ok (.aload_n 0, 1) := dk_42 (dk_at dksX3_sign_1 14 rfl rfl)
theorem dX3_sign_37 : decode cX3_sign 37 = .ok (.getfield 105, 3) := dk_180 0 105 (dk_at dksX3_sign_1 15 rfl rfl)
theorem dX3_sign_40 : decode cX3_sign 40 = .ok (.bipush 60, 2) := dk_16 60 (dk_at dksX3_sign_1 18 rfl rfl)
theorem dX3_sign_42 : decode cX3_sign 42 = .ok (.if_icmp .ge 7, 3) := dk_162 0 7 (dk_at dksX3_sign_1 20 rfl rfl)
theorem dX3_sign_45 : decode cX3_sign 45 = .ok (.iconst 1, 1) := dk_4 (dk_at dksX3_sign_1 23 rfl rfl)
theorem dX3_sign_46 : decode cX3_sign 46 = .ok (.goto 4, 3) := dk_167 0 4 (dk_at dksX3_sign_2 0 rfl rfl)
theorem dX3_sign_49 : decode cX3_sign 49 = .ok (.iconst 0, 1) := dk_3 (dk_at dksX3_sign_2 3 rfl rfl)
theorem dX3_sign_50 : decode cX3_sign 50 = .ok (.invokevirtual 234, 3) := dk_182 0 234 (dk_at dksX3_sign_2 4 rfl rfl)
theorem dX3_sign_53 : decode cX3_sign 53 = .ok (.ifCond .ne 5, 3) := dk_154 0 5 (dk_at dksX3_sign_2 7 rfl rfl)
theorem dX3_sign_56 : decode cX3_sign 56 = .ok (.iconst 0, 1) := dk_3 (dk_at dksX3_sign_2 10 rfl rfl)
theorem dX3_sign_57 : decode cX3_sign 57 = .ok (.ireturn, 1) := dk_172 (dk_at dksX3_sign_2 11 rfl rfl)
theorem dX3_sign_58 : decode cX3_sign 58 = .ok (.aload_n 0, 1) := dk_42 (dk_at dksX3_sign_2 12 rfl rfl)
theorem dX3_sign_59 : decode cX3_sign 59 = .ok (.getfield 9, 3) := dk_180 0 9 (dk_at dksX3_sign_2 13 rfl rfl)
theorem dX3_sign_62 : decode cX3_sign 62 = .ok (.aload_n 0, 1) := dk_42 (dk_at dksX3_sign_2 16 rfl rfl)
theorem dX3_sign_63 : decode cX3_sign 63 = .ok (.getfield 105, 3) := dk_180 0 105 (dk_at dksX3_sign_2 17 rfl rfl)
theorem dX3_sign_66 : decode cX3_sign 66 = .ok (.iload_n 1, 1) := dk_27 (dk_at dksX3_sign_2 20 rfl rfl)
theorem dX3_sign_67 : decode cX3_sign 67 = .ok (.iastore, 1) := dk_79 (dk_at dksX3_sign_2 21 rfl rfl)
theorem dX3_sign_68 : decode cX3_sign 68 = .ok (.aload_n 0, 1) := dk_42 (dk_at dksX3_sign_2 22 rfl rfl)
theorem dX3_sign_69 : decode cX3_sign 69 = .ok (.dup, 1) := dk_89 (dk_at dksX3_sign_2 23 rfl rfl)
theorem dX3_sign_70 : decode cX3_sign 70 = .ok (.getfield 105, 3) := dk_180 0 105 (dk_at dksX3_sign_3 0 rfl rfl)
theorem dX3_sign_73 : decode cX3_sign 73 = .ok (.iconst 1, 1) := dk_4 (dk_at dksX3_sign_3 3 rfl rfl)
theorem dX3_sign_74 : decode cX3_sign 74 = .ok (.iadd, 1) := dk_96 (dk_at dksX3_sign_3 4 rfl rfl)
theorem dX3_sign_75 : decode cX3_sign 75 = .ok (.putfield 105, 3) := dk_181 0 105 (dk_at dksX3_sign_3 5 rfl rfl)
theorem dX3_sign_78 : decode cX3_sign 78 = .ok (.aload_n 0, 1) := dk_42 (dk_at dksX3_sign_3 8 rfl rfl)
theorem dX3_sign_79 : decode cX3_sign 79 = .ok (.getfield 105, 3) := dk_180 0 105 (dk_at dksX3_sign_3 9 rfl rfl)
theorem dX3_sign_82 : decode cX3_sign 82 = .ok (.ireturn, 1) := dk_172 (dk_at dksX3_sign_3 12 rfl rfl)
abbrev cX3_isIn : ByteArray := prog_13_method_6_code
def yX3_isIn : MethodName := ⟨RX3, "isIn", "(JJJ)Z"⟩
def dkwX3_isIn_0 : List UInt8 := [30, 32, 148, 155, 0, 14, 30, 22, 4, 148, 157, 0, 7, 4, 167, 0, 4, 3, 172]
abbrev dktX3_isIn_0 : List UInt8 := dkwX3_isIn_0 ++ []
theorem dksX3_isIn_0 : cX3_isIn.data.toList.drop 0 = dktX3_isIn_0 := by decide +kernel
theorem dX3_isIn_0 : decode cX3_isIn 0 = .ok (.lload_n 0, 1) := dk_30 (dk_at dksX3_isIn_0 0 rfl rfl)
theorem dX3_isIn_1 : decode cX3_isIn 1 = .ok (.lload_n 2, 1) := dk_32 (dk_at dksX3_isIn_0 1 rfl rfl)
theorem dX3_isIn_2 : decode cX3_isIn 2 = .ok (.lcmp, 1) := dk_148 (dk_at dksX3_isIn_0 2 rfl rfl)
theorem dX3_isIn_3 : decode cX3_isIn 3 = .ok (.ifCond .lt 14, 3) := dk_155 0 14 (dk_at dksX3_isIn_0 3 rfl rfl)
theorem dX3_isIn_6 : decode cX3_isIn 6 = .ok (.lload_n 0, 1) := dk_30 (dk_at dksX3_isIn_0 6 rfl rfl)
theorem dX3_isIn_7 : decode cX3_isIn 7 = .ok (.lload 4, 2) := dk_22 4 (dk_at dksX3_isIn_0 7 rfl rfl)
theorem dX3_isIn_9 : decode cX3_isIn 9 = .ok (.lcmp, 1) := dk_148 (dk_at dksX3_isIn_0 9 rfl rfl)
theorem dX3_isIn_10 : decode cX3_isIn 10 = .ok (.ifCond .gt 7, 3) := dk_157 0 7 (dk_at dksX3_isIn_0 10 rfl rfl)
theorem dX3_isIn_13 : decode cX3_isIn 13 = .ok (.iconst 1, 1) := dk_4 (dk_at dksX3_isIn_0 13 rfl rfl)
theorem dX3_isIn_14 : decode cX3_isIn 14 = .ok (.goto 4, 3) := dk_167 0 4 (dk_at dksX3_isIn_0 14 rfl rfl)
theorem dX3_isIn_17 : decode cX3_isIn 17 = .ok (.iconst 0, 1) := dk_3 (dk_at dksX3_isIn_0 17 rfl rfl)
theorem dX3_isIn_18 : decode cX3_isIn 18 = .ok (.ireturn, 1) := dk_172 (dk_at dksX3_isIn_0 18 rfl rfl)
abbrev cX3_fits : ByteArray := prog_13_method_4_code
def yX3_fits : MethodName := ⟨RX3, "fits", "(ZZ)Z"⟩
def dkwX3_fits_1 : List UInt8 := [180, 0, 86, 154, 0, 7, 4, 167, 0, 4, 3, 172]
abbrev dktX3_fits_1 : List UInt8 := dkwX3_fits_1 ++ []
def dkwX3_fits_0 : List UInt8 := [42, 27, 154, 0, 7, 4, 167, 0, 12, 28, 153, 0, 7, 3, 167, 0, 4, 5, 181, 0, 86, 42]
abbrev dktX3_fits_0 : List UInt8 := dkwX3_fits_0 ++ dktX3_fits_1
theorem dksX3_fits_0 : cX3_fits.data.toList.drop 0 = dktX3_fits_0 := by decide +kernel
theorem dksX3_fits_1 : cX3_fits.data.toList.drop 22 = dktX3_fits_1 := dk_seg dksX3_fits_0 22 rfl rfl
theorem dX3_fits_0 : decode cX3_fits 0 = .ok (.aload_n 0, 1) := dk_42 (dk_at dksX3_fits_0 0 rfl rfl)
theorem dX3_fits_1 : decode cX3_fits 1 = .ok (.iload_n 1, 1) := dk_27 (dk_at dksX3_fits_0 1 rfl rfl)
theorem dX3_fits_2 : decode cX3_fits 2 = .ok (.ifCond .ne 7, 3) := dk_154 0 7 (dk_at dksX3_fits_0 2 rfl rfl)
theorem dX3_fits_5 : decode cX3_fits 5 = .ok (.iconst 1, 1) := dk_4 (dk_at dksX3_fits_0 5 rfl rfl)
theorem dX3_fits_6 : decode cX3_fits 6 = .ok (.goto 12, 3) := dk_167 0 12 (dk_at dksX3_fits_0 6 rfl rfl)
theorem dX3_fits_9 : decode cX3_fits 9 = .ok (.iload_n 2, 1) := dk_28 (dk_at dksX3_fits_0 9 rfl rfl)
theorem dX3_fits_10 : decode cX3_fits 10 = .ok (.ifCond .eq 7, 3) := dk_153 0 7 (dk_at dksX3_fits_0 10 rfl rfl)
theorem dX3_fits_13 : decode cX3_fits 13 = .ok (.iconst 0, 1) := dk_3 (dk_at dksX3_fits_0 13 rfl rfl)
theorem dX3_fits_14 : decode cX3_fits 14 = .ok (.goto 4, 3) := dk_167 0 4 (dk_at dksX3_fits_0 14 rfl rfl)
theorem dX3_fits_17 : decode cX3_fits 17 = .ok (.iconst 2, 1) := dk_5 (dk_at dksX3_fits_0 17 rfl rfl)
theorem dX3_fits_18 : decode cX3_fits 18 = .ok (.putfield 86, 3) := dk_181 0 86 (dk_at dksX3_fits_0 18 rfl rfl)
theorem dX3_fits_21 : decode cX3_fits 21 = .ok (.aload_n 0, 1) := dk_42 (dk_at dksX3_fits_0 21 rfl rfl)
theorem dX3_fits_22 : decode cX3_fits 22 = .ok (.getfield 86, 3) := dk_180 0 86 (dk_at dksX3_fits_1 0 rfl rfl)
theorem dX3_fits_25 : decode cX3_fits 25 = .ok (.ifCond .ne 7, 3) := dk_154 0 7 (dk_at dksX3_fits_1 3 rfl rfl)
theorem dX3_fits_28 : decode cX3_fits 28 = .ok (.iconst 1, 1) := dk_4 (dk_at dksX3_fits_1 6 rfl rfl)
theorem dX3_fits_29 : decode cX3_fits 29 = .ok (.goto 4, 3) := dk_167 0 4 (dk_at dksX3_fits_1 7 rfl rfl)
theorem dX3_fits_32 : decode cX3_fits 32 = .ok (.iconst 0, 1) := dk_3 (dk_at dksX3_fits_1 10 rfl rfl)
theorem dX3_fits_33 : decode cX3_fits 33 = .ok (.ireturn, 1) := dk_172 (dk_at dksX3_fits_1 11 rfl rfl)
abbrev cX3_clear : ByteArray := prog_13_method_30_code
def yX3_clear : MethodName := ⟨RX3, "clear", "()I"⟩
def dkwX3_clear_0 : List UInt8 := [42, 3, 181, 0, 86, 42, 180, 0, 105, 60, 42, 3, 181, 0, 105, 27, 172]
abbrev dktX3_clear_0 : List UInt8 := dkwX3_clear_0 ++ []
theorem dksX3_clear_0 : cX3_clear.data.toList.drop 0 = dktX3_clear_0 := by decide +kernel
theorem dX3_clear_0 : decode cX3_clear 0 = .ok (.aload_n 0, 1) := dk_42 (dk_at dksX3_clear_0 0 rfl rfl)
theorem dX3_clear_1 : decode cX3_clear 1 = .ok (.iconst 0, 1) := dk_3 (dk_at dksX3_clear_0 1 rfl rfl)
theorem dX3_clear_2 : decode cX3_clear 2 = .ok (.putfield 86, 3) := dk_181 0 86 (dk_at dksX3_clear_0 2 rfl rfl)
theorem dX3_clear_5 : decode cX3_clear 5 = .ok (.aload_n 0, 1) := dk_42 (dk_at dksX3_clear_0 5 rfl rfl)
theorem dX3_clear_6 : decode cX3_clear 6 = .ok (.getfield 105, 3) := dk_180 0 105 (dk_at dksX3_clear_0 6 rfl rfl)
theorem dX3_clear_9 : decode cX3_clear 9 = .ok (.istore_n 1, 1) := dk_60 (dk_at dksX3_clear_0 9 rfl rfl)
theorem dX3_clear_10 : decode cX3_clear 10 = .ok (.aload_n 0, 1) := dk_42 (dk_at dksX3_clear_0 10 rfl rfl)
theorem dX3_clear_11 : decode cX3_clear 11 = .ok (.iconst 0, 1) := dk_3 (dk_at dksX3_clear_0 11 rfl rfl)
theorem dX3_clear_12 : decode cX3_clear 12 = .ok (.putfield 105, 3) := dk_181 0 105 (dk_at dksX3_clear_0 12 rfl rfl)
theorem dX3_clear_15 : decode cX3_clear 15 = .ok (.iload_n 1, 1) := dk_27 (dk_at dksX3_clear_0 15 rfl rfl)
theorem dX3_clear_16 : decode cX3_clear 16 = .ok (.ireturn, 1) := dk_172 (dk_at dksX3_clear_0 16 rfl rfl)
abbrev cX3_open : ByteArray := prog_13_method_31_code
def yX3_open : MethodName := ⟨RX3, "open", "()I"⟩
def dkwX3_open_6 : List UInt8 := [132, 1, 1, 167, 255, 230, 42, 89, 180, 0, 89, 4, 96, 181, 0, 89, 42, 180, 0, 89, 4, 100, 172]
abbrev dktX3_open_6 : List UInt8 := dkwX3_open_6 ++ []
def dkwX3_open_5 : List UInt8 := [27, 42, 180, 0, 54, 162, 0, 24, 42, 180, 0, 68, 16, 10, 27, 104, 42, 180, 0, 89, 96, 4, 84]
abbrev dktX3_open_5 : List UInt8 := dkwX3_open_5 ++ dktX3_open_6
def dkwX3_open_4 : List UInt8 := [180, 0, 18, 42, 180, 0, 89, 42, 180, 0, 135, 79, 42, 180, 0, 21, 42, 180, 0, 89, 2, 79, 3, 60]
abbrev dktX3_open_4 : List UInt8 := dkwX3_open_4 ++ dktX3_open_5
def dkwX3_open_3 : List UInt8 := [180, 0, 89, 50, 27, 42, 180, 0, 9, 27, 46, 79, 132, 1, 1, 167, 255, 228, 42, 3, 181, 0, 105, 42]
abbrev dktX3_open_3 : List UInt8 := dkwX3_open_3 ++ dktX3_open_4
def dkwX3_open_2 : List UInt8 := [42, 180, 0, 105, 188, 10, 83, 3, 60, 27, 42, 180, 0, 105, 162, 0, 26, 42, 180, 0, 14, 42]
abbrev dktX3_open_2 : List UInt8 := dkwX3_open_2 ++ dktX3_open_3
def dkwX3_open_1 : List UInt8 := [153, 0, 7, 4, 167, 0, 4, 3, 182, 0, 240, 154, 0, 5, 3, 172, 42, 180, 0, 14, 42, 180, 0, 89]
abbrev dktX3_open_1 : List UInt8 := dkwX3_open_1 ++ dktX3_open_2
def dkwX3_open_0 : List UInt8 := [42, 42, 180, 0, 89, 16, 10, 162, 0, 22, 42, 180, 0, 105, 133, 10, 20, 0, 238, 184, 0, 92]
abbrev dktX3_open_0 : List UInt8 := dkwX3_open_0 ++ dktX3_open_1
theorem dksX3_open_0 : cX3_open.data.toList.drop 0 = dktX3_open_0 := by decide +kernel
theorem dksX3_open_1 : cX3_open.data.toList.drop 22 = dktX3_open_1 := dk_seg dksX3_open_0 22 rfl rfl
theorem dksX3_open_2 : cX3_open.data.toList.drop 46 = dktX3_open_2 := dk_seg dksX3_open_1 24 rfl rfl
theorem dksX3_open_3 : cX3_open.data.toList.drop 68 = dktX3_open_3 := dk_seg dksX3_open_2 22 rfl rfl
theorem dksX3_open_4 : cX3_open.data.toList.drop 92 = dktX3_open_4 := dk_seg dksX3_open_3 24 rfl rfl
theorem dksX3_open_5 : cX3_open.data.toList.drop 116 = dktX3_open_5 := dk_seg dksX3_open_4 24 rfl rfl
theorem dksX3_open_6 : cX3_open.data.toList.drop 139 = dktX3_open_6 := dk_seg dksX3_open_5 23 rfl rfl
theorem dX3_open_0 : decode cX3_open 0 = .ok (.aload_n 0, 1) := dk_42 (dk_at dksX3_open_0 0 rfl rfl)
theorem dX3_open_1 : decode cX3_open 1 = .ok (.aload_n 0, 1) := dk_42 (dk_at dksX3_open_0 1 rfl rfl)
theorem dX3_open_2 : decode cX3_open 2 = .ok (.getfield 89, 3) := dk_180 0 89 (dk_at dksX3_open_0 2 rfl rfl)
theorem dX3_open_5 : decode cX3_open 5 = .ok (.bipush 10, 2) := dk_16 10 (dk_at dksX3_open_0 5 rfl rfl)
theorem dX3_open_7 : decode cX3_open 7 = .ok (.if_icmp .ge 22, 3) := dk_162 0 22 (dk_at dksX3_open_0 7 rfl rfl)
theorem dX3_open_10 : decode cX3_open 10 = .ok (.aload_n 0, 1) := dk_42 (dk_at dksX3_open_0 10 rfl rfl)
theorem dX3_open_11 : decode cX3_open 11 = .ok (.getfield 105, 3) := dk_180 0 105 (dk_at dksX3_open_0 11 rfl rfl)
theorem dX3_open_14 : decode cX3_open 14 = .ok (.i2l, 1) := dk_133 (dk_at dksX3_open_0 14 rfl rfl)
theorem dX3_open_15 : decode cX3_open 15 = .ok (.lconst 1, 1) := dk_10 (dk_at dksX3_open_0 15 rfl rfl)
theorem dX3_open_16 : decode cX3_open 16 = .ok (.ldc2_w 238, 3) := dk_20 0 238 (dk_at dksX3_open_0 16 rfl rfl)
theorem dX3_open_19 : decode cX3_open 19 = .ok (.invokestatic 92, 3) := dk_184 0 92 (dk_at dksX3_open_0 19 rfl rfl)
theorem dX3_open_22 : decode cX3_open 22 = .ok (.ifCond .eq 7, 3) := dk_153 0 7 (dk_at dksX3_open_1 0 rfl rfl)
theorem dX3_open_25 : decode cX3_open 25 = .ok (.iconst 1, 1) := dk_4 (dk_at dksX3_open_1 3 rfl rfl)
theorem dX3_open_26 : decode cX3_open 26 = .ok (.goto 4, 3) := dk_167 0 4 (dk_at dksX3_open_1 4 rfl rfl)
theorem dX3_open_29 : decode cX3_open 29 = .ok (.iconst 0, 1) := dk_3 (dk_at dksX3_open_1 7 rfl rfl)
theorem dX3_open_30 : decode cX3_open 30 = .ok (.invokevirtual 240, 3) := dk_182 0 240 (dk_at dksX3_open_1 8 rfl rfl)
theorem dX3_open_33 : decode cX3_open 33 = .ok (.ifCond .ne 5, 3) := dk_154 0 5 (dk_at dksX3_open_1 11 rfl rfl)
theorem dX3_open_36 : decode cX3_open 36 = .ok (.iconst 0, 1) := dk_3 (dk_at dksX3_open_1 14 rfl rfl)
theorem dX3_open_37 : decode cX3_open 37 = .ok (.ireturn, 1) := dk_172 (dk_at dksX3_open_1 15 rfl rfl)
theorem dX3_open_38 : decode cX3_open 38 = .ok (.aload_n 0, 1) := dk_42 (dk_at dksX3_open_1 16 rfl rfl)
theorem dX3_open_39 : decode cX3_open 39 = .ok (.getfield 14, 3) := dk_180 0 14 (dk_at dksX3_open_1 17 rfl rfl)
theorem dX3_open_42 : decode cX3_open 42 = .ok (.aload_n 0, 1) := dk_42 (dk_at dksX3_open_1 20 rfl rfl)
theorem dX3_open_43 : decode cX3_open 43 = .ok (.getfield 89, 3) := dk_180 0 89 (dk_at dksX3_open_1 21 rfl rfl)
theorem dX3_open_46 : decode cX3_open 46 = .ok (.aload_n 0, 1) := dk_42 (dk_at dksX3_open_2 0 rfl rfl)
theorem dX3_open_47 : decode cX3_open 47 = .ok (.getfield 105, 3) := dk_180 0 105 (dk_at dksX3_open_2 1 rfl rfl)
theorem dX3_open_50 : decode cX3_open 50 = .ok (.newarray .int, 2) := dk_188_10 (dk_at dksX3_open_2 4 rfl rfl)
theorem dX3_open_52 : decode cX3_open 52 = .ok (.aastore, 1) := dk_83 (dk_at dksX3_open_2 6 rfl rfl)
theorem dX3_open_53 : decode cX3_open 53 = .ok (.iconst 0, 1) := dk_3 (dk_at dksX3_open_2 7 rfl rfl)
theorem dX3_open_54 : decode cX3_open 54 = .ok (.istore_n 1, 1) := dk_60 (dk_at dksX3_open_2 8 rfl rfl)
theorem dX3_open_55 : decode cX3_open 55 = .ok (.iload_n 1, 1) := dk_27 (dk_at dksX3_open_2 9 rfl rfl)
theorem dX3_open_56 : decode cX3_open 56 = .ok (.aload_n 0, 1) := dk_42 (dk_at dksX3_open_2 10 rfl rfl)
theorem dX3_open_57 : decode cX3_open 57 = .ok (.getfield 105, 3) := dk_180 0 105 (dk_at dksX3_open_2 11 rfl rfl)
theorem dX3_open_60 : decode cX3_open 60 = .ok (.if_icmp .ge 26, 3) := dk_162 0 26 (dk_at dksX3_open_2 14 rfl rfl)
theorem dX3_open_63 : decode cX3_open 63 = .ok (.aload_n 0, 1) := dk_42 (dk_at dksX3_open_2 17 rfl rfl)
theorem dX3_open_64 : decode cX3_open 64 = .ok (.getfield 14, 3) := dk_180 0 14 (dk_at dksX3_open_2 18 rfl rfl)
theorem dX3_open_67 : decode cX3_open 67 = .ok (.aload_n 0, 1) := dk_42 (dk_at dksX3_open_2 21 rfl rfl)
theorem dX3_open_68 : decode cX3_open 68 = .ok (.getfield 89, 3) := dk_180 0 89 (dk_at dksX3_open_3 0 rfl rfl)
theorem dX3_open_71 : decode cX3_open 71 = .ok (.aaload, 1) := dk_50 (dk_at dksX3_open_3 3 rfl rfl)
theorem dX3_open_72 : decode cX3_open 72 = .ok (.iload_n 1, 1) := dk_27 (dk_at dksX3_open_3 4 rfl rfl)
theorem dX3_open_73 : decode cX3_open 73 = .ok (.aload_n 0, 1) := dk_42 (dk_at dksX3_open_3 5 rfl rfl)
theorem dX3_open_74 : decode cX3_open 74 = .ok (.getfield 9, 3) := dk_180 0 9 (dk_at dksX3_open_3 6 rfl rfl)
theorem dX3_open_77 : decode cX3_open 77 = .ok (.iload_n 1, 1) := dk_27 (dk_at dksX3_open_3 9 rfl rfl)
theorem dX3_open_78 : decode cX3_open 78 = .ok (.iaload, 1) := dk_46 (dk_at dksX3_open_3 10 rfl rfl)
theorem dX3_open_79 : decode cX3_open 79 = .ok (.iastore, 1) := dk_79 (dk_at dksX3_open_3 11 rfl rfl)
theorem dX3_open_80 : decode cX3_open 80 = .ok (.iinc 1 1, 3) := dk_132 1 1 (dk_at dksX3_open_3 12 rfl rfl)
theorem dX3_open_83 : decode cX3_open 83 = .ok (.goto (-28), 3) := dk_167 255 228 (dk_at dksX3_open_3 15 rfl rfl)
theorem dX3_open_86 : decode cX3_open 86 = .ok (.aload_n 0, 1) := dk_42 (dk_at dksX3_open_3 18 rfl rfl)
theorem dX3_open_87 : decode cX3_open 87 = .ok (.iconst 0, 1) := dk_3 (dk_at dksX3_open_3 19 rfl rfl)
theorem dX3_open_88 : decode cX3_open 88 = .ok (.putfield 105, 3) := dk_181 0 105 (dk_at dksX3_open_3 20 rfl rfl)
theorem dX3_open_91 : decode cX3_open 91 = .ok (.aload_n 0, 1) := dk_42 (dk_at dksX3_open_3 23 rfl rfl)
theorem dX3_open_92 : decode cX3_open 92 = .ok (.getfield 18, 3) := dk_180 0 18 (dk_at dksX3_open_4 0 rfl rfl)
theorem dX3_open_95 : decode cX3_open 95 = .ok (.aload_n 0, 1) := dk_42 (dk_at dksX3_open_4 3 rfl rfl)
theorem dX3_open_96 : decode cX3_open 96 = .ok (.getfield 89, 3) := dk_180 0 89 (dk_at dksX3_open_4 4 rfl rfl)
theorem dX3_open_99 : decode cX3_open 99 = .ok (.aload_n 0, 1) := dk_42 (dk_at dksX3_open_4 7 rfl rfl)
theorem dX3_open_100 : decode cX3_open 100 = .ok (.getfield 135, 3) := dk_180 0 135 (dk_at dksX3_open_4 8 rfl rfl)
theorem dX3_open_103 : decode cX3_open 103 = .ok (.iastore, 1) := dk_79 (dk_at dksX3_open_4 11 rfl rfl)
theorem dX3_open_104 : decode cX3_open 104 = .ok (.aload_n 0, 1) := dk_42 (dk_at dksX3_open_4 12 rfl rfl)
theorem dX3_open_105 : decode cX3_open 105 = .ok (.getfield 21, 3) := dk_180 0 21 (dk_at dksX3_open_4 13 rfl rfl)
theorem dX3_open_108 : decode cX3_open 108 = .ok (.aload_n 0, 1) := dk_42 (dk_at dksX3_open_4 16 rfl rfl)
theorem dX3_open_109 : decode cX3_open 109 = .ok (.getfield 89, 3) := dk_180 0 89 (dk_at dksX3_open_4 17 rfl rfl)
theorem dX3_open_112 : decode cX3_open 112 = .ok (.iconst (-1), 1) := dk_2 (dk_at dksX3_open_4 20 rfl rfl)
theorem dX3_open_113 : decode cX3_open 113 = .ok (.iastore, 1) := dk_79 (dk_at dksX3_open_4 21 rfl rfl)
theorem dX3_open_114 : decode cX3_open 114 = .ok (.iconst 0, 1) := dk_3 (dk_at dksX3_open_4 22 rfl rfl)
theorem dX3_open_115 : decode cX3_open 115 = .ok (.istore_n 1, 1) := dk_60 (dk_at dksX3_open_4 23 rfl rfl)
theorem dX3_open_116 : decode cX3_open 116 = .ok (.iload_n 1, 1) := dk_27 (dk_at dksX3_open_5 0 rfl rfl)
theorem dX3_open_117 : decode cX3_open 117 = .ok (.aload_n 0, 1) := dk_42 (dk_at dksX3_open_5 1 rfl rfl)
theorem dX3_open_118 : decode cX3_open 118 = .ok (.getfield 54, 3) := dk_180 0 54 (dk_at dksX3_open_5 2 rfl rfl)
theorem dX3_open_121 : decode cX3_open 121 = .ok (.if_icmp .ge 24, 3) := dk_162 0 24 (dk_at dksX3_open_5 5 rfl rfl)
theorem dX3_open_124 : decode cX3_open 124 = .ok (.aload_n 0, 1) := dk_42 (dk_at dksX3_open_5 8 rfl rfl)
theorem dX3_open_125 : decode cX3_open 125 = .ok (.getfield 68, 3) := dk_180 0 68 (dk_at dksX3_open_5 9 rfl rfl)
theorem dX3_open_128 : decode cX3_open 128 = .ok (.bipush 10, 2) := dk_16 10 (dk_at dksX3_open_5 12 rfl rfl)
theorem dX3_open_130 : decode cX3_open 130 = .ok (.iload_n 1, 1) := dk_27 (dk_at dksX3_open_5 14 rfl rfl)
theorem dX3_open_131 : decode cX3_open 131 = .ok (.imul, 1) := dk_104 (dk_at dksX3_open_5 15 rfl rfl)
theorem dX3_open_132 : decode cX3_open 132 = .ok (.aload_n 0, 1) := dk_42 (dk_at dksX3_open_5 16 rfl rfl)
theorem dX3_open_133 : decode cX3_open 133 = .ok (.getfield 89, 3) := dk_180 0 89 (dk_at dksX3_open_5 17 rfl rfl)
theorem dX3_open_136 : decode cX3_open 136 = .ok (.iadd, 1) := dk_96 (dk_at dksX3_open_5 20 rfl rfl)
theorem dX3_open_137 : decode cX3_open 137 = .ok (.iconst 1, 1) := dk_4 (dk_at dksX3_open_5 21 rfl rfl)
theorem dX3_open_138 : decode cX3_open 138 = .ok (.bastore, 1) := dk_84 (dk_at dksX3_open_5 22 rfl rfl)
theorem dX3_open_139 : decode cX3_open 139 = .ok (.iinc 1 1, 3) := dk_132 1 1 (dk_at dksX3_open_6 0 rfl rfl)
theorem dX3_open_142 : decode cX3_open 142 = .ok (.goto (-26), 3) := dk_167 255 230 (dk_at dksX3_open_6 3 rfl rfl)
theorem dX3_open_145 : decode cX3_open 145 = .ok (.aload_n 0, 1) := dk_42 (dk_at dksX3_open_6 6 rfl rfl)
theorem dX3_open_146 : decode cX3_open 146 = .ok (.dup, 1) := dk_89 (dk_at dksX3_open_6 7 rfl rfl)
theorem dX3_open_147 : decode cX3_open 147 = .ok (.getfield 89, 3) := dk_180 0 89 (dk_at dksX3_open_6 8 rfl rfl)
theorem dX3_open_150 : decode cX3_open 150 = .ok (.iconst 1, 1) := dk_4 (dk_at dksX3_open_6 11 rfl rfl)
theorem dX3_open_151 : decode cX3_open 151 = .ok (.iadd, 1) := dk_96 (dk_at dksX3_open_6 12 rfl rfl)
theorem dX3_open_152 : decode cX3_open 152 = .ok (.putfield 89, 3) := dk_181 0 89 (dk_at dksX3_open_6 13 rfl rfl)
theorem dX3_open_155 : decode cX3_open 155 = .ok (.aload_n 0, 1) := dk_42 (dk_at dksX3_open_6 16 rfl rfl)
theorem dX3_open_156 : decode cX3_open 156 = .ok (.getfield 89, 3) := dk_180 0 89 (dk_at dksX3_open_6 17 rfl rfl)
theorem dX3_open_159 : decode cX3_open 159 = .ok (.iconst 1, 1) := dk_4 (dk_at dksX3_open_6 20 rfl rfl)
theorem dX3_open_160 : decode cX3_open 160 = .ok (.isub, 1) := dk_100 (dk_at dksX3_open_6 21 rfl rfl)
theorem dX3_open_161 : decode cX3_open 161 = .ok (.ireturn, 1) := dk_172 (dk_at dksX3_open_6 22 rfl rfl)
abbrev cX3_fits_2 : ByteArray := prog_13_method_3_code
def yX3_fits_2 : MethodName := ⟨RX3, "fits", "(Z)Z"⟩
def dkwX3_fits_2_0 : List UInt8 := [42, 27, 153, 0, 7, 3, 167, 0, 4, 4, 181, 0, 86, 27, 172]
abbrev dktX3_fits_2_0 : List UInt8 := dkwX3_fits_2_0 ++ []
theorem dksX3_fits_2_0 : cX3_fits_2.data.toList.drop 0 = dktX3_fits_2_0 := by decide +kernel
theorem dX3_fits_2_0 : decode cX3_fits_2 0 = .ok (.aload_n 0, 1) := dk_42 (dk_at dksX3_fits_2_0 0 rfl rfl)
theorem dX3_fits_2_1 : decode cX3_fits_2 1 = .ok (.iload_n 1, 1) := dk_27 (dk_at dksX3_fits_2_0 1 rfl rfl)
theorem dX3_fits_2_2 : decode cX3_fits_2 2 = .ok (.ifCond .eq 7, 3) := dk_153 0 7 (dk_at dksX3_fits_2_0 2 rfl rfl)
theorem dX3_fits_2_5 : decode cX3_fits_2 5 = .ok (.iconst 0, 1) := dk_3 (dk_at dksX3_fits_2_0 5 rfl rfl)
theorem dX3_fits_2_6 : decode cX3_fits_2 6 = .ok (.goto 4, 3) := dk_167 0 4 (dk_at dksX3_fits_2_0 6 rfl rfl)
theorem dX3_fits_2_9 : decode cX3_fits_2 9 = .ok (.iconst 1, 1) := dk_4 (dk_at dksX3_fits_2_0 9 rfl rfl)
theorem dX3_fits_2_10 : decode cX3_fits_2 10 = .ok (.putfield 86, 3) := dk_181 0 86 (dk_at dksX3_fits_2_0 10 rfl rfl)
theorem dX3_fits_2_13 : decode cX3_fits_2 13 = .ok (.iload_n 1, 1) := dk_27 (dk_at dksX3_fits_2_0 13 rfl rfl)
theorem dX3_fits_2_14 : decode cX3_fits_2 14 = .ok (.ireturn, 1) := dk_172 (dk_at dksX3_fits_2_0 14 rfl rfl)
abbrev cX3_end : ByteArray := prog_13_method_33_code
def yX3_end : MethodName := ⟨RX3, "end", "(I)I"⟩
def dkwX3_end_2 : List UInt8 := [182, 0, 246, 100, 172]
abbrev dktX3_end_2 : List UInt8 := dkwX3_end_2 ++ []
def dkwX3_end_1 : List UInt8 := [3, 182, 0, 234, 154, 0, 5, 3, 172, 42, 180, 0, 21, 27, 42, 180, 0, 135, 79, 42, 180, 0, 89, 42]
abbrev dktX3_end_1 : List UInt8 := dkwX3_end_1 ++ dktX3_end_2
def dkwX3_end_0 : List UInt8 := [42, 27, 182, 0, 243, 61, 42, 28, 28, 153, 0, 15, 42, 27, 182, 0, 178, 154, 0, 7, 4, 167, 0, 4]
abbrev dktX3_end_0 : List UInt8 := dkwX3_end_0 ++ dktX3_end_1
theorem dksX3_end_0 : cX3_end.data.toList.drop 0 = dktX3_end_0 := by decide +kernel
theorem dksX3_end_1 : cX3_end.data.toList.drop 24 = dktX3_end_1 := dk_seg dksX3_end_0 24 rfl rfl
theorem dksX3_end_2 : cX3_end.data.toList.drop 48 = dktX3_end_2 := dk_seg dksX3_end_1 24 rfl rfl
theorem dX3_end_0 : decode cX3_end 0 = .ok (.aload_n 0, 1) := dk_42 (dk_at dksX3_end_0 0 rfl rfl)
theorem dX3_end_1 : decode cX3_end 1 = .ok (.iload_n 1, 1) := dk_27 (dk_at dksX3_end_0 1 rfl rfl)
theorem dX3_end_2 : decode cX3_end 2 = .ok (.invokevirtual 243, 3) := dk_182 0 243 (dk_at dksX3_end_0 2 rfl rfl)
theorem dX3_end_5 : decode cX3_end 5 = .ok (.istore_n 2, 1) := dk_61 (dk_at dksX3_end_0 5 rfl rfl)
theorem dX3_end_6 : decode cX3_end 6 = .ok (.aload_n 0, 1) := dk_42 (dk_at dksX3_end_0 6 rfl rfl)
theorem dX3_end_7 : decode cX3_end 7 = .ok (.iload_n 2, 1) := dk_28 (dk_at dksX3_end_0 7 rfl rfl)
theorem dX3_end_8 : decode cX3_end 8 = .ok (.iload_n 2, 1) := dk_28 (dk_at dksX3_end_0 8 rfl rfl)
theorem dX3_end_9 : decode cX3_end 9 = .ok (.ifCond .eq 15, 3) := dk_153 0 15 (dk_at dksX3_end_0 9 rfl rfl)
theorem dX3_end_12 : decode cX3_end 12 = .ok (.aload_n 0, 1) := dk_42 (dk_at dksX3_end_0 12 rfl rfl)
theorem dX3_end_13 : decode cX3_end 13 = .ok (.iload_n 1, 1) := dk_27 (dk_at dksX3_end_0 13 rfl rfl)
theorem dX3_end_14 : decode cX3_end 14 = .ok (.invokevirtual 178, 3) := dk_182 0 178 (dk_at dksX3_end_0 14 rfl rfl)
theorem dX3_end_17 : decode cX3_end 17 = .ok (.ifCond .ne 7, 3) := dk_154 0 7 (dk_at dksX3_end_0 17 rfl rfl)
theorem dX3_end_20 : decode cX3_end 20 = .ok (.iconst 1, 1) := dk_4 (dk_at dksX3_end_0 20 rfl rfl)
theorem dX3_end_21 : decode cX3_end 21 = .ok (.goto 4, 3) := dk_167 0 4 (dk_at dksX3_end_0 21 rfl rfl)
theorem dX3_end_24 : decode cX3_end 24 = .ok (.iconst 0, 1) := dk_3 (dk_at dksX3_end_1 0 rfl rfl)
theorem dX3_end_25 : decode cX3_end 25 = .ok (.invokevirtual 234, 3) := dk_182 0 234 (dk_at dksX3_end_1 1 rfl rfl)
theorem dX3_end_28 : decode cX3_end 28 = .ok (.ifCond .ne 5, 3) := dk_154 0 5 (dk_at dksX3_end_1 4 rfl rfl)
theorem dX3_end_31 : decode cX3_end 31 = .ok (.iconst 0, 1) := dk_3 (dk_at dksX3_end_1 7 rfl rfl)
theorem dX3_end_32 : decode cX3_end 32 = .ok (.ireturn, 1) := dk_172 (dk_at dksX3_end_1 8 rfl rfl)
theorem dX3_end_33 : decode cX3_end 33 = .ok (.aload_n 0, 1) := dk_42 (dk_at dksX3_end_1 9 rfl rfl)
theorem dX3_end_34 : decode cX3_end 34 = .ok (.getfield 21, 3) := dk_180 0 21 (dk_at dksX3_end_1 10 rfl rfl)
theorem dX3_end_37 : decode cX3_end 37 = .ok (.iload_n 1, 1) := dk_27 (dk_at dksX3_end_1 13 rfl rfl)
theorem dX3_end_38 : decode cX3_end 38 = .ok (.aload_n 0, 1) := dk_42 (dk_at dksX3_end_1 14 rfl rfl)
theorem dX3_end_39 : decode cX3_end 39 = .ok (.getfield 135, 3) := dk_180 0 135 (dk_at dksX3_end_1 15 rfl rfl)
theorem dX3_end_42 : decode cX3_end 42 = .ok (.iastore, 1) := dk_79 (dk_at dksX3_end_1 18 rfl rfl)
theorem dX3_end_43 : decode cX3_end 43 = .ok (.aload_n 0, 1) := dk_42 (dk_at dksX3_end_1 19 rfl rfl)
theorem dX3_end_44 : decode cX3_end 44 = .ok (.getfield 89, 3) := dk_180 0 89 (dk_at dksX3_end_1 20 rfl rfl)
theorem dX3_end_47 : decode cX3_end 47 = .ok (.aload_n 0, 1) := dk_42 (dk_at dksX3_end_1 23 rfl rfl)
theorem dX3_end_48 : decode cX3_end 48 = .ok (.invokevirtual 246, 3) := dk_182 0 246 (dk_at dksX3_end_2 0 rfl rfl)
theorem dX3_end_51 : decode cX3_end 51 = .ok (.isub, 1) := dk_100 (dk_at dksX3_end_2 3 rfl rfl)
theorem dX3_end_52 : decode cX3_end 52 = .ok (.ireturn, 1) := dk_172 (dk_at dksX3_end_2 4 rfl rfl)
abbrev cX3_isCase : ByteArray := prog_13_method_7_code
def yX3_isCase : MethodName := ⟨RX3, "isCase", "(I)Z"⟩
def dkwX3_isCase_0 : List UInt8 := [27, 133, 9, 42, 180, 0, 89, 133, 10, 101, 184, 0, 92, 172]
abbrev dktX3_isCase_0 : List UInt8 := dkwX3_isCase_0 ++ []
theorem dksX3_isCase_0 : cX3_isCase.data.toList.drop 0 = dktX3_isCase_0 := by decide +kernel
theorem dX3_isCase_0 : decode cX3_isCase 0 = .ok (.iload_n 1, 1) := dk_27 (dk_at dksX3_isCase_0 0 rfl rfl)
theorem dX3_isCase_1 : decode cX3_isCase 1 = .ok (.i2l, 1) := dk_133 (dk_at dksX3_isCase_0 1 rfl rfl)
theorem dX3_isCase_2 : decode cX3_isCase 2 = .ok (.lconst 0, 1) := dk_9 (dk_at dksX3_isCase_0 2 rfl rfl)
theorem dX3_isCase_3 : decode cX3_isCase 3 = .ok (.aload_n 0, 1) := dk_42 (dk_at dksX3_isCase_0 3 rfl rfl)
theorem dX3_isCase_4 : decode cX3_isCase 4 = .ok (.getfield 89, 3) := dk_180 0 89 (dk_at dksX3_isCase_0 4 rfl rfl)
theorem dX3_isCase_7 : decode cX3_isCase 7 = .ok (.i2l, 1) := dk_133 (dk_at dksX3_isCase_0 7 rfl rfl)
theorem dX3_isCase_8 : decode cX3_isCase 8 = .ok (.lconst 1, 1) := dk_10 (dk_at dksX3_isCase_0 8 rfl rfl)
theorem dX3_isCase_9 : decode cX3_isCase 9 = .ok (.lsub, 1) := dk_101 (dk_at dksX3_isCase_0 9 rfl rfl)
theorem dX3_isCase_10 : decode cX3_isCase 10 = .ok (.invokestatic 92, 3) := dk_184 0 92 (dk_at dksX3_isCase_0 10 rfl rfl)
theorem dX3_isCase_13 : decode cX3_isCase 13 = .ok (.ireturn, 1) := dk_172 (dk_at dksX3_isCase_0 13 rfl rfl)
abbrev cX3_isEnded : ByteArray := prog_13_method_10_code
def yX3_isEnded : MethodName := ⟨RX3, "isEnded", "(I)Z"⟩
def dkwX3_isEnded_0 : List UInt8 := [42, 180, 0, 21, 27, 46, 2, 159, 0, 7, 4, 167, 0, 4, 3, 172]
abbrev dktX3_isEnded_0 : List UInt8 := dkwX3_isEnded_0 ++ []
theorem dksX3_isEnded_0 : cX3_isEnded.data.toList.drop 0 = dktX3_isEnded_0 := by decide +kernel
theorem dX3_isEnded_0 : decode cX3_isEnded 0 = .ok (.aload_n 0, 1) := dk_42 (dk_at dksX3_isEnded_0 0 rfl rfl)
theorem dX3_isEnded_1 : decode cX3_isEnded 1 = .ok (.getfield 21, 3) := dk_180 0 21 (dk_at dksX3_isEnded_0 1 rfl rfl)
theorem dX3_isEnded_4 : decode cX3_isEnded 4 = .ok (.iload_n 1, 1) := dk_27 (dk_at dksX3_isEnded_0 4 rfl rfl)
theorem dX3_isEnded_5 : decode cX3_isEnded 5 = .ok (.iaload, 1) := dk_46 (dk_at dksX3_isEnded_0 5 rfl rfl)
theorem dX3_isEnded_6 : decode cX3_isEnded 6 = .ok (.iconst (-1), 1) := dk_2 (dk_at dksX3_isEnded_0 6 rfl rfl)
theorem dX3_isEnded_7 : decode cX3_isEnded 7 = .ok (.if_icmp .eq 7, 3) := dk_159 0 7 (dk_at dksX3_isEnded_0 7 rfl rfl)
theorem dX3_isEnded_10 : decode cX3_isEnded 10 = .ok (.iconst 1, 1) := dk_4 (dk_at dksX3_isEnded_0 10 rfl rfl)
theorem dX3_isEnded_11 : decode cX3_isEnded 11 = .ok (.goto 4, 3) := dk_167 0 4 (dk_at dksX3_isEnded_0 11 rfl rfl)
theorem dX3_isEnded_14 : decode cX3_isEnded 14 = .ok (.iconst 0, 1) := dk_3 (dk_at dksX3_isEnded_0 14 rfl rfl)
theorem dX3_isEnded_15 : decode cX3_isEnded 15 = .ok (.ireturn, 1) := dk_172 (dk_at dksX3_isEnded_0 15 rfl rfl)
abbrev cX3_endedOnes : ByteArray := prog_13_method_32_code
def yX3_endedOnes : MethodName := ⟨RX3, "endedOnes", "()I"⟩
def dkwX3_endedOnes_1 : List UInt8 := [167, 0, 4, 3, 96, 60, 132, 2, 1, 167, 255, 229, 27, 172]
abbrev dktX3_endedOnes_1 : List UInt8 := dkwX3_endedOnes_1 ++ []
def dkwX3_endedOnes_0 : List UInt8 := [3, 60, 3, 61, 28, 42, 180, 0, 89, 162, 0, 25, 27, 42, 28, 182, 0, 178, 153, 0, 7, 4]
abbrev dktX3_endedOnes_0 : List UInt8 := dkwX3_endedOnes_0 ++ dktX3_endedOnes_1
theorem dksX3_endedOnes_0 : cX3_endedOnes.data.toList.drop 0 = dktX3_endedOnes_0 := by decide +kernel
theorem dksX3_endedOnes_1 : cX3_endedOnes.data.toList.drop 22 = dktX3_endedOnes_1 := dk_seg dksX3_endedOnes_0 22 rfl rfl
theorem dX3_endedOnes_0 : decode cX3_endedOnes 0 = .ok (.iconst 0, 1) := dk_3 (dk_at dksX3_endedOnes_0 0 rfl rfl)
theorem dX3_endedOnes_1 : decode cX3_endedOnes 1 = .ok (.istore_n 1, 1) := dk_60 (dk_at dksX3_endedOnes_0 1 rfl rfl)
theorem dX3_endedOnes_2 : decode cX3_endedOnes 2 = .ok (.iconst 0, 1) := dk_3 (dk_at dksX3_endedOnes_0 2 rfl rfl)
theorem dX3_endedOnes_3 : decode cX3_endedOnes 3 = .ok (.istore_n 2, 1) := dk_61 (dk_at dksX3_endedOnes_0 3 rfl rfl)
theorem dX3_endedOnes_4 : decode cX3_endedOnes 4 = .ok (.iload_n 2, 1) := dk_28 (dk_at dksX3_endedOnes_0 4 rfl rfl)
theorem dX3_endedOnes_5 : decode cX3_endedOnes 5 = .ok (.aload_n 0, 1) := dk_42 (dk_at dksX3_endedOnes_0 5 rfl rfl)
theorem dX3_endedOnes_6 : decode cX3_endedOnes 6 = .ok (.getfield 89, 3) := dk_180 0 89 (dk_at dksX3_endedOnes_0 6 rfl rfl)
theorem dX3_endedOnes_9 : decode cX3_endedOnes 9 = .ok (.if_icmp .ge 25, 3) := dk_162 0 25 (dk_at dksX3_endedOnes_0 9 rfl rfl)
theorem dX3_endedOnes_12 : decode cX3_endedOnes 12 = .ok (.iload_n 1, 1) := dk_27 (dk_at dksX3_endedOnes_0 12 rfl rfl)
theorem dX3_endedOnes_13 : decode cX3_endedOnes 13 = .ok (.aload_n 0, 1) := dk_42 (dk_at dksX3_endedOnes_0 13 rfl rfl)
theorem dX3_endedOnes_14 : decode cX3_endedOnes 14 = .ok (.iload_n 2, 1) := dk_28 (dk_at dksX3_endedOnes_0 14 rfl rfl)
theorem dX3_endedOnes_15 : decode cX3_endedOnes 15 = .ok (.invokevirtual 178, 3) := dk_182 0 178 (dk_at dksX3_endedOnes_0 15 rfl rfl)
theorem dX3_endedOnes_18 : decode cX3_endedOnes 18 = .ok (.ifCond .eq 7, 3) := dk_153 0 7 (dk_at dksX3_endedOnes_0 18 rfl rfl)
theorem dX3_endedOnes_21 : decode cX3_endedOnes 21 = .ok (.iconst 1, 1) := dk_4 (dk_at dksX3_endedOnes_0 21 rfl rfl)
theorem dX3_endedOnes_22 : decode cX3_endedOnes 22 = .ok (.goto 4, 3) := dk_167 0 4 (dk_at dksX3_endedOnes_1 0 rfl rfl)
theorem dX3_endedOnes_25 : decode cX3_endedOnes 25 = .ok (.iconst 0, 1) := dk_3 (dk_at dksX3_endedOnes_1 3 rfl rfl)
theorem dX3_endedOnes_26 : decode cX3_endedOnes 26 = .ok (.iadd, 1) := dk_96 (dk_at dksX3_endedOnes_1 4 rfl rfl)
theorem dX3_endedOnes_27 : decode cX3_endedOnes 27 = .ok (.istore_n 1, 1) := dk_60 (dk_at dksX3_endedOnes_1 5 rfl rfl)
theorem dX3_endedOnes_28 : decode cX3_endedOnes 28 = .ok (.iinc 2 1, 3) := dk_132 2 1 (dk_at dksX3_endedOnes_1 6 rfl rfl)
theorem dX3_endedOnes_31 : decode cX3_endedOnes 31 = .ok (.goto (-27), 3) := dk_167 255 229 (dk_at dksX3_endedOnes_1 9 rfl rfl)
theorem dX3_endedOnes_34 : decode cX3_endedOnes 34 = .ok (.iload_n 1, 1) := dk_27 (dk_at dksX3_endedOnes_1 12 rfl rfl)
theorem dX3_endedOnes_35 : decode cX3_endedOnes 35 = .ok (.ireturn, 1) := dk_172 (dk_at dksX3_endedOnes_1 13 rfl rfl)
abbrev cX3_form : ByteArray := prog_13_method_34_code
def yX3_form : MethodName := ⟨RX3, "form", "(I)I"⟩
def dkwX3_form_7 : List UInt8 := [167, 255, 226, 42, 89, 180, 0, 96, 4, 96, 181, 0, 96, 42, 180, 0, 96, 4, 100, 172]
abbrev dktX3_form_7 : List UInt8 := dkwX3_form_7 ++ []
def dkwX3_form_6 : List UInt8 := [180, 0, 51, 7, 42, 180, 0, 96, 104, 21, 4, 96, 42, 180, 0, 81, 21, 4, 46, 79, 132, 4, 1]
abbrev dktX3_form_6 : List UInt8 := dkwX3_form_6 ++ dktX3_form_7
def dkwX3_form_5 : List UInt8 := [7, 46, 79, 42, 180, 0, 48, 42, 180, 0, 96, 3, 79, 3, 54, 4, 21, 4, 7, 162, 0, 30, 42]
abbrev dktX3_form_5 : List UInt8 := dkwX3_form_5 ++ dktX3_form_6
def dkwX3_form_4 : List UInt8 := [180, 0, 96, 42, 180, 0, 81, 7, 46, 2, 160, 0, 10, 42, 180, 0, 135, 167, 0, 9, 42, 180, 0, 81]
abbrev dktX3_form_4 : List UInt8 := dkwX3_form_4 ++ dktX3_form_5
def dkwX3_form_3 : List UInt8 := [180, 0, 96, 27, 79, 42, 180, 0, 42, 42, 180, 0, 96, 42, 180, 0, 135, 79, 42, 180, 0, 45, 42]
abbrev dktX3_form_3 : List UInt8 := dkwX3_form_3 ++ dktX3_form_4
def dkwX3_form_2 : List UInt8 := [62, 42, 3, 181, 0, 105, 29, 154, 0, 11, 16, 254, 42, 180, 0, 102, 100, 172, 42, 180, 0, 39, 42]
abbrev dktX3_form_2 : List UInt8 := dkwX3_form_2 ++ dktX3_form_3
def dkwX3_form_1 : List UInt8 := [182, 0, 178, 154, 0, 7, 4, 167, 0, 4, 3, 182, 0, 234, 154, 0, 5, 3, 172, 42, 4, 182, 0, 249]
abbrev dktX3_form_1 : List UInt8 := dkwX3_form_1 ++ dktX3_form_2
def dkwX3_form_0 : List UInt8 := [42, 27, 182, 0, 243, 61, 42, 28, 28, 153, 0, 24, 42, 180, 0, 96, 16, 60, 162, 0, 15, 42, 27]
abbrev dktX3_form_0 : List UInt8 := dkwX3_form_0 ++ dktX3_form_1
theorem dksX3_form_0 : cX3_form.data.toList.drop 0 = dktX3_form_0 := by decide +kernel
theorem dksX3_form_1 : cX3_form.data.toList.drop 23 = dktX3_form_1 := dk_seg dksX3_form_0 23 rfl rfl
theorem dksX3_form_2 : cX3_form.data.toList.drop 47 = dktX3_form_2 := dk_seg dksX3_form_1 24 rfl rfl
theorem dksX3_form_3 : cX3_form.data.toList.drop 70 = dktX3_form_3 := dk_seg dksX3_form_2 23 rfl rfl
theorem dksX3_form_4 : cX3_form.data.toList.drop 93 = dktX3_form_4 := dk_seg dksX3_form_3 23 rfl rfl
theorem dksX3_form_5 : cX3_form.data.toList.drop 117 = dktX3_form_5 := dk_seg dksX3_form_4 24 rfl rfl
theorem dksX3_form_6 : cX3_form.data.toList.drop 140 = dktX3_form_6 := dk_seg dksX3_form_5 23 rfl rfl
theorem dksX3_form_7 : cX3_form.data.toList.drop 163 = dktX3_form_7 := dk_seg dksX3_form_6 23 rfl rfl
theorem dX3_form_0 : decode cX3_form 0 = .ok (.aload_n 0, 1) := dk_42 (dk_at dksX3_form_0 0 rfl rfl)
theorem dX3_form_1 : decode cX3_form 1 = .ok (.iload_n 1, 1) := dk_27 (dk_at dksX3_form_0 1 rfl rfl)
theorem dX3_form_2 : decode cX3_form 2 = .ok (.invokevirtual 243, 3) := dk_182 0 243 (dk_at dksX3_form_0 2 rfl rfl)
theorem dX3_form_5 : decode cX3_form 5 = .ok (.istore_n 2, 1) := dk_61 (dk_at dksX3_form_0 5 rfl rfl)
theorem dX3_form_6 : decode cX3_form 6 = .ok (.aload_n 0, 1) := dk_42 (dk_at dksX3_form_0 6 rfl rfl)
theorem dX3_form_7 : decode cX3_form 7 = .ok (.iload_n 2, 1) := dk_28 (dk_at dksX3_form_0 7 rfl rfl)
theorem dX3_form_8 : decode cX3_form 8 = .ok (.iload_n 2, 1) := dk_28 (dk_at dksX3_form_0 8 rfl rfl)
theorem dX3_form_9 : decode cX3_form 9 = .ok (.ifCond .eq 24, 3) := dk_153 0 24 (dk_at dksX3_form_0 9 rfl rfl)
theorem dX3_form_12 : decode cX3_form 12 = .ok (.aload_n 0, 1) := dk_42 (dk_at dksX3_form_0 12 rfl rfl)
theorem dX3_form_13 : decode cX3_form 13 = .ok (.getfield 96, 3) := dk_180 0 96 (dk_at dksX3_form_0 13 rfl rfl)
theorem dX3_form_16 : decode cX3_form 16 = .ok (.bipush 60, 2) := dk_16 60 (dk_at dksX3_form_0 16 rfl rfl)
theorem dX3_form_18 : decode cX3_form 18 = .ok (.if_icmp .ge 15, 3) := dk_162 0 15 (dk_at dksX3_form_0 18 rfl rfl)
theorem dX3_form_21 : decode cX3_form 21 = .ok (.aload_n 0, 1) := dk_42 (dk_at dksX3_form_0 21 rfl rfl)
theorem dX3_form_22 : decode cX3_form 22 = .ok (.iload_n 1, 1) := dk_27 (dk_at dksX3_form_0 22 rfl rfl)
theorem dX3_form_23 : decode cX3_form 23 = .ok (.invokevirtual 178, 3) := dk_182 0 178 (dk_at dksX3_form_1 0 rfl rfl)
theorem dX3_form_26 : decode cX3_form 26 = .ok (.ifCond .ne 7, 3) := dk_154 0 7 (dk_at dksX3_form_1 3 rfl rfl)
theorem dX3_form_29 : decode cX3_form 29 = .ok (.iconst 1, 1) := dk_4 (dk_at dksX3_form_1 6 rfl rfl)
theorem dX3_form_30 : decode cX3_form 30 = .ok (.goto 4, 3) := dk_167 0 4 (dk_at dksX3_form_1 7 rfl rfl)
theorem dX3_form_33 : decode cX3_form 33 = .ok (.iconst 0, 1) := dk_3 (dk_at dksX3_form_1 10 rfl rfl)
theorem dX3_form_34 : decode cX3_form 34 = .ok (.invokevirtual 234, 3) := dk_182 0 234 (dk_at dksX3_form_1 11 rfl rfl)
theorem dX3_form_37 : decode cX3_form 37 = .ok (.ifCond .ne 5, 3) := dk_154 0 5 (dk_at dksX3_form_1 14 rfl rfl)
theorem dX3_form_40 : decode cX3_form 40 = .ok (.iconst 0, 1) := dk_3 (dk_at dksX3_form_1 17 rfl rfl)
theorem dX3_form_41 : decode cX3_form 41 = .ok (.ireturn, 1) := dk_172 (dk_at dksX3_form_1 18 rfl rfl)
theorem dX3_form_42 : decode cX3_form 42 = .ok (.aload_n 0, 1) := dk_42 (dk_at dksX3_form_1 19 rfl rfl)
theorem dX3_form_43 : decode cX3_form 43 = .ok (.iconst 1, 1) := dk_4 (dk_at dksX3_form_1 20 rfl rfl)
theorem dX3_form_44 : decode cX3_form 44 = .ok (.invokevirtual 249, 3) := dk_182 0 249 (dk_at dksX3_form_1 21 rfl rfl)
theorem dX3_form_47 : decode cX3_form 47 = .ok (.istore_n 3, 1) := dk_62 (dk_at dksX3_form_2 0 rfl rfl)
theorem dX3_form_48 : decode cX3_form 48 = .ok (.aload_n 0, 1) := dk_42 (dk_at dksX3_form_2 1 rfl rfl)
theorem dX3_form_49 : decode cX3_form 49 = .ok (.iconst 0, 1) := dk_3 (dk_at dksX3_form_2 2 rfl rfl)
theorem dX3_form_50 : decode cX3_form 50 = .ok (.putfield 105, 3) := dk_181 0 105 (dk_at dksX3_form_2 3 rfl rfl)
theorem dX3_form_53 : decode cX3_form 53 = .ok (.iload_n 3, 1) := dk_29 (dk_at dksX3_form_2 6 rfl rfl)
theorem dX3_form_54 : decode cX3_form 54 = .ok (.ifCond .ne 11, 3) := dk_154 0 11 (dk_at dksX3_form_2 7 rfl rfl)
theorem dX3_form_57 : decode cX3_form 57 = .ok (.bipush (-2), 2) := dk_16 254 (dk_at dksX3_form_2 10 rfl rfl)
theorem dX3_form_59 : decode cX3_form 59 = .ok (.aload_n 0, 1) := dk_42 (dk_at dksX3_form_2 12 rfl rfl)
theorem dX3_form_60 : decode cX3_form 60 = .ok (.getfield 102, 3) := dk_180 0 102 (dk_at dksX3_form_2 13 rfl rfl)
theorem dX3_form_63 : decode cX3_form 63 = .ok (.isub, 1) := dk_100 (dk_at dksX3_form_2 16 rfl rfl)
theorem dX3_form_64 : decode cX3_form 64 = .ok (.ireturn, 1) := dk_172 (dk_at dksX3_form_2 17 rfl rfl)
theorem dX3_form_65 : decode cX3_form 65 = .ok (.aload_n 0, 1) := dk_42 (dk_at dksX3_form_2 18 rfl rfl)
theorem dX3_form_66 : decode cX3_form 66 = .ok (.getfield 39, 3) := dk_180 0 39 (dk_at dksX3_form_2 19 rfl rfl)
theorem dX3_form_69 : decode cX3_form 69 = .ok (.aload_n 0, 1) := dk_42 (dk_at dksX3_form_2 22 rfl rfl)
theorem dX3_form_70 : decode cX3_form 70 = .ok (.getfield 96, 3) := dk_180 0 96 (dk_at dksX3_form_3 0 rfl rfl)
theorem dX3_form_73 : decode cX3_form 73 = .ok (.iload_n 1, 1) := dk_27 (dk_at dksX3_form_3 3 rfl rfl)
theorem dX3_form_74 : decode cX3_form 74 = .ok (.iastore, 1) := dk_79 (dk_at dksX3_form_3 4 rfl rfl)
theorem dX3_form_75 : decode cX3_form 75 = .ok (.aload_n 0, 1) := dk_42 (dk_at dksX3_form_3 5 rfl rfl)
theorem dX3_form_76 : decode cX3_form 76 = .ok (.getfield 42, 3) := dk_180 0 42 (dk_at dksX3_form_3 6 rfl rfl)
theorem dX3_form_79 : decode cX3_form 79 = .ok (.aload_n 0, 1) := dk_42 (dk_at dksX3_form_3 9 rfl rfl)
theorem dX3_form_80 : decode cX3_form 80 = .ok (.getfield 96, 3) := dk_180 0 96 (dk_at dksX3_form_3 10 rfl rfl)
theorem dX3_form_83 : decode cX3_form 83 = .ok (.aload_n 0, 1) := dk_42 (dk_at dksX3_form_3 13 rfl rfl)
theorem dX3_form_84 : decode cX3_form 84 = .ok (.getfield 135, 3) := dk_180 0 135 (dk_at dksX3_form_3 14 rfl rfl)
theorem dX3_form_87 : decode cX3_form 87 = .ok (.iastore, 1) := dk_79 (dk_at dksX3_form_3 17 rfl rfl)
theorem dX3_form_88 : decode cX3_form 88 = .ok (.aload_n 0, 1) := dk_42 (dk_at dksX3_form_3 18 rfl rfl)
theorem dX3_form_89 : decode cX3_form 89 = .ok (.getfield 45, 3) := dk_180 0 45 (dk_at dksX3_form_3 19 rfl rfl)
theorem dX3_form_92 : decode cX3_form 92 = .ok (.aload_n 0, 1) := dk_42 (dk_at dksX3_form_3 22 rfl rfl)
theorem dX3_form_93 : decode cX3_form 93 = .ok (.getfield 96, 3) := dk_180 0 96 (dk_at dksX3_form_4 0 rfl rfl)
theorem dX3_form_96 : decode cX3_form 96 = .ok (.aload_n 0, 1) := dk_42 (dk_at dksX3_form_4 3 rfl rfl)
theorem dX3_form_97 : decode cX3_form 97 = .ok (.getfield 81, 3) := dk_180 0 81 (dk_at dksX3_form_4 4 rfl rfl)
theorem dX3_form_100 : decode cX3_form 100 = .ok (.iconst 4, 1) := dk_7 (dk_at dksX3_form_4 7 rfl rfl)
theorem dX3_form_101 : decode cX3_form 101 = .ok (.iaload, 1) := dk_46 (dk_at dksX3_form_4 8 rfl rfl)
theorem dX3_form_102 : decode cX3_form 102 = .ok (.iconst (-1), 1) := dk_2 (dk_at dksX3_form_4 9 rfl rfl)
theorem dX3_form_103 : decode cX3_form 103 = .ok (.if_icmp .ne 10, 3) := dk_160 0 10 (dk_at dksX3_form_4 10 rfl rfl)
theorem dX3_form_106 : decode cX3_form 106 = .ok (.aload_n 0, 1) := dk_42 (dk_at dksX3_form_4 13 rfl rfl)
theorem dX3_form_107 : decode cX3_form 107 = .ok (.getfield 135, 3) := dk_180 0 135 (dk_at dksX3_form_4 14 rfl rfl)
theorem dX3_form_110 : decode cX3_form 110 = .ok (.goto 9, 3) := dk_167 0 9 (dk_at dksX3_form_4 17 rfl rfl)
theorem dX3_form_113 : decode cX3_form 113 = .ok (.aload_n 0, 1) := dk_42 (dk_at dksX3_form_4 20 rfl rfl)
theorem dX3_form_114 : decode cX3_form 114 = .ok (.getfield 81, 3) := dk_180 0 81 (dk_at dksX3_form_4 21 rfl rfl)
theorem dX3_form_117 : decode cX3_form 117 = .ok (.iconst 4, 1) := dk_7 (dk_at dksX3_form_5 0 rfl rfl)
theorem dX3_form_118 : decode cX3_form 118 = .ok (.iaload, 1) := dk_46 (dk_at dksX3_form_5 1 rfl rfl)
theorem dX3_form_119 : decode cX3_form 119 = .ok (.iastore, 1) := dk_79 (dk_at dksX3_form_5 2 rfl rfl)
theorem dX3_form_120 : decode cX3_form 120 = .ok (.aload_n 0, 1) := dk_42 (dk_at dksX3_form_5 3 rfl rfl)
theorem dX3_form_121 : decode cX3_form 121 = .ok (.getfield 48, 3) := dk_180 0 48 (dk_at dksX3_form_5 4 rfl rfl)
theorem dX3_form_124 : decode cX3_form 124 = .ok (.aload_n 0, 1) := dk_42 (dk_at dksX3_form_5 7 rfl rfl)
theorem dX3_form_125 : decode cX3_form 125 = .ok (.getfield 96, 3) := dk_180 0 96 (dk_at dksX3_form_5 8 rfl rfl)
theorem dX3_form_128 : decode cX3_form 128 = .ok (.iconst 0, 1) := dk_3 (dk_at dksX3_form_5 11 rfl rfl)
theorem dX3_form_129 : decode cX3_form 129 = .ok (.iastore, 1) := dk_79 (dk_at dksX3_form_5 12 rfl rfl)
theorem dX3_form_130 : decode cX3_form 130 = .ok (.iconst 0, 1) := dk_3 (dk_at dksX3_form_5 13 rfl rfl)
theorem dX3_form_131 : decode cX3_form 131 = .ok (.istore 4, 2) := dk_54 4 (dk_at dksX3_form_5 14 rfl rfl)
theorem dX3_form_133 : decode cX3_form 133 = .ok (.iload 4, 2) := dk_21 4 (dk_at dksX3_form_5 16 rfl rfl)
theorem dX3_form_135 : decode cX3_form 135 = .ok (.iconst 4, 1) := dk_7 (dk_at dksX3_form_5 18 rfl rfl)
theorem dX3_form_136 : decode cX3_form 136 = .ok (.if_icmp .ge 30, 3) := dk_162 0 30 (dk_at dksX3_form_5 19 rfl rfl)
theorem dX3_form_139 : decode cX3_form 139 = .ok (.aload_n 0, 1) := dk_42 (dk_at dksX3_form_5 22 rfl rfl)
theorem dX3_form_140 : decode cX3_form 140 = .ok (.getfield 51, 3) := dk_180 0 51 (dk_at dksX3_form_6 0 rfl rfl)
theorem dX3_form_143 : decode cX3_form 143 = .ok (.iconst 4, 1) := dk_7 (dk_at dksX3_form_6 3 rfl rfl)
theorem dX3_form_144 : decode cX3_form 144 = .ok (.aload_n 0, 1) := dk_42 (dk_at dksX3_form_6 4 rfl rfl)
theorem dX3_form_145 : decode cX3_form 145 = .ok (.getfield 96, 3) := dk_180 0 96 (dk_at dksX3_form_6 5 rfl rfl)
theorem dX3_form_148 : decode cX3_form 148 = .ok (.imul, 1) := dk_104 (dk_at dksX3_form_6 8 rfl rfl)
theorem dX3_form_149 : decode cX3_form 149 = .ok (.iload 4, 2) := dk_21 4 (dk_at dksX3_form_6 9 rfl rfl)
theorem dX3_form_151 : decode cX3_form 151 = .ok (.iadd, 1) := dk_96 (dk_at dksX3_form_6 11 rfl rfl)
theorem dX3_form_152 : decode cX3_form 152 = .ok (.aload_n 0, 1) := dk_42 (dk_at dksX3_form_6 12 rfl rfl)
theorem dX3_form_153 : decode cX3_form 153 = .ok (.getfield 81, 3) := dk_180 0 81 (dk_at dksX3_form_6 13 rfl rfl)
theorem dX3_form_156 : decode cX3_form 156 = .ok (.iload 4, 2) := dk_21 4 (dk_at dksX3_form_6 16 rfl rfl)
theorem dX3_form_158 : decode cX3_form 158 = .ok (.iaload, 1) := dk_46 (dk_at dksX3_form_6 18 rfl rfl)
theorem dX3_form_159 : decode cX3_form 159 = .ok (.iastore, 1) := dk_79 (dk_at dksX3_form_6 19 rfl rfl)
theorem dX3_form_160 : decode cX3_form 160 = .ok (.iinc 4 1, 3) := dk_132 4 1 (dk_at dksX3_form_6 20 rfl rfl)
theorem dX3_form_163 : decode cX3_form 163 = .ok (.goto (-30), 3) := dk_167 255 226 (dk_at dksX3_form_7 0 rfl rfl)
theorem dX3_form_166 : decode cX3_form 166 = .ok (.aload_n 0, 1) := dk_42 (dk_at dksX3_form_7 3 rfl rfl)
theorem dX3_form_167 : decode cX3_form 167 = .ok (.dup, 1) := dk_89 (dk_at dksX3_form_7 4 rfl rfl)
theorem dX3_form_168 : decode cX3_form 168 = .ok (.getfield 96, 3) := dk_180 0 96 (dk_at dksX3_form_7 5 rfl rfl)
theorem dX3_form_171 : decode cX3_form 171 = .ok (.iconst 1, 1) := dk_4 (dk_at dksX3_form_7 8 rfl rfl)
theorem dX3_form_172 : decode cX3_form 172 = .ok (.iadd, 1) := dk_96 (dk_at dksX3_form_7 9 rfl rfl)
theorem dX3_form_173 : decode cX3_form 173 = .ok (.putfield 96, 3) := dk_181 0 96 (dk_at dksX3_form_7 10 rfl rfl)
theorem dX3_form_176 : decode cX3_form 176 = .ok (.aload_n 0, 1) := dk_42 (dk_at dksX3_form_7 13 rfl rfl)
theorem dX3_form_177 : decode cX3_form 177 = .ok (.getfield 96, 3) := dk_180 0 96 (dk_at dksX3_form_7 14 rfl rfl)
theorem dX3_form_180 : decode cX3_form 180 = .ok (.iconst 1, 1) := dk_4 (dk_at dksX3_form_7 17 rfl rfl)
theorem dX3_form_181 : decode cX3_form 181 = .ok (.isub, 1) := dk_100 (dk_at dksX3_form_7 18 rfl rfl)
theorem dX3_form_182 : decode cX3_form 182 = .ok (.ireturn, 1) := dk_172 (dk_at dksX3_form_7 19 rfl rfl)
abbrev cX3_text : ByteArray := prog_13_method_18_code
def yX3_text : MethodName := ⟨RX3, "text", "(Z)Z"⟩
def dkwX3_text_10 : List UInt8 := [167, 0, 4, 3, 62, 167, 255, 126, 29, 172]
abbrev dktX3_text_10 : List UInt8 := dkwX3_text_10 ++ []
def dkwX3_text_9 : List UInt8 := [42, 180, 0, 81, 21, 4, 21, 5, 79, 29, 154, 0, 13, 27, 153, 0, 9, 21, 4, 7, 159, 0, 7, 4]
abbrev dktX3_text_9 : List UInt8 := dkwX3_text_9 ++ dktX3_text_10
def dkwX3_text_8 : List UInt8 := [21, 4, 182, 0, 171, 167, 0, 9, 42, 21, 4, 182, 0, 175, 54, 5, 21, 5, 2, 160, 0, 5, 3, 172]
abbrev dktX3_text_8 : List UInt8 := dkwX3_text_8 ++ dktX3_text_9
def dkwX3_text_7 : List UInt8 := [132, 5, 1, 167, 255, 216, 21, 4, 2, 160, 0, 5, 3, 172, 42, 182, 0, 126, 27, 153, 0, 12, 42]
abbrev dktX3_text_7 : List UInt8 := dkwX3_text_7 ++ dktX3_text_8
def dkwX3_text_6 : List UInt8 := [160, 0, 19, 42, 44, 21, 5, 50, 182, 0, 145, 153, 0, 8, 21, 5, 167, 0, 5, 21, 4, 54, 4]
abbrev dktX3_text_6 : List UInt8 := dkwX3_text_6 ++ dktX3_text_7
def dkwX3_text_5 : List UInt8 := [162, 0, 125, 2, 54, 4, 3, 54, 5, 21, 5, 8, 162, 0, 40, 42, 180, 0, 81, 21, 5, 46, 2]
abbrev dktX3_text_5 : List UInt8 := dkwX3_text_5 ++ dktX3_text_6
def dkwX3_text_4 : List UInt8 := [132, 4, 1, 167, 255, 239, 42, 3, 181, 0, 102, 42, 182, 0, 121, 42, 180, 0, 102, 42, 180, 0, 105]
abbrev dktX3_text_4 : List UInt8 := dkwX3_text_4 ++ dktX3_text_5
def dkwX3_text_3 : List UInt8 := [18, 169, 83, 77, 3, 62, 3, 54, 4, 21, 4, 8, 162, 0, 17, 42, 180, 0, 81, 21, 4, 2, 79]
abbrev dktX3_text_3 : List UInt8 := dkwX3_text_3 ++ dktX3_text_4
def dkwX3_text_2 : List UInt8 := [27, 153, 0, 8, 18, 163, 167, 0, 5, 18, 165, 83, 89, 7, 27, 153, 0, 8, 18, 167, 167, 0, 5]
abbrev dktX3_text_2 : List UInt8 := dkwX3_text_2 ++ dktX3_text_3
def dkwX3_text_1 : List UInt8 := [18, 155, 167, 0, 5, 18, 157, 83, 89, 5, 27, 153, 0, 8, 18, 159, 167, 0, 5, 18, 161, 83, 89, 6]
abbrev dktX3_text_1 : List UInt8 := dkwX3_text_1 ++ dktX3_text_2
def dkwX3_text_0 : List UInt8 := [8, 189, 0, 113, 89, 3, 27, 153, 0, 8, 18, 151, 167, 0, 5, 18, 153, 83, 89, 4, 27, 153, 0, 8]
abbrev dktX3_text_0 : List UInt8 := dkwX3_text_0 ++ dktX3_text_1
theorem dksX3_text_0 : cX3_text.data.toList.drop 0 = dktX3_text_0 := by decide +kernel
theorem dksX3_text_1 : cX3_text.data.toList.drop 24 = dktX3_text_1 := dk_seg dksX3_text_0 24 rfl rfl
theorem dksX3_text_2 : cX3_text.data.toList.drop 48 = dktX3_text_2 := dk_seg dksX3_text_1 24 rfl rfl
theorem dksX3_text_3 : cX3_text.data.toList.drop 71 = dktX3_text_3 := dk_seg dksX3_text_2 23 rfl rfl
theorem dksX3_text_4 : cX3_text.data.toList.drop 94 = dktX3_text_4 := dk_seg dksX3_text_3 23 rfl rfl
theorem dksX3_text_5 : cX3_text.data.toList.drop 117 = dktX3_text_5 := dk_seg dksX3_text_4 23 rfl rfl
theorem dksX3_text_6 : cX3_text.data.toList.drop 140 = dktX3_text_6 := dk_seg dksX3_text_5 23 rfl rfl
theorem dksX3_text_7 : cX3_text.data.toList.drop 163 = dktX3_text_7 := dk_seg dksX3_text_6 23 rfl rfl
theorem dksX3_text_8 : cX3_text.data.toList.drop 186 = dktX3_text_8 := dk_seg dksX3_text_7 23 rfl rfl
theorem dksX3_text_9 : cX3_text.data.toList.drop 210 = dktX3_text_9 := dk_seg dksX3_text_8 24 rfl rfl
theorem dksX3_text_10 : cX3_text.data.toList.drop 234 = dktX3_text_10 := dk_seg dksX3_text_9 24 rfl rfl
theorem dX3_text_0 : decode cX3_text 0 = .ok (.iconst 5, 1) := dk_8 (dk_at dksX3_text_0 0 rfl rfl)
theorem dX3_text_1 : decode cX3_text 1 = .ok (.anewarray 113, 3) := dk_189 0 113 (dk_at dksX3_text_0 1 rfl rfl)
theorem dX3_text_4 : decode cX3_text 4 = .ok (.dup, 1) := dk_89 (dk_at dksX3_text_0 4 rfl rfl)
theorem dX3_text_5 : decode cX3_text 5 = .ok (.iconst 0, 1) := dk_3 (dk_at dksX3_text_0 5 rfl rfl)
theorem dX3_text_6 : decode cX3_text 6 = .ok (.iload_n 1, 1) := dk_27 (dk_at dksX3_text_0 6 rfl rfl)
theorem dX3_text_7 : decode cX3_text 7 = .ok (.ifCond .eq 8, 3) := dk_153 0 8 (dk_at dksX3_text_0 7 rfl rfl)
theorem dX3_text_10 : decode cX3_text 10 = .ok (.ldc 151, 2) := dk_18 151 (dk_at dksX3_text_0 10 rfl rfl)
theorem dX3_text_12 : decode cX3_text 12 = .ok (.goto 5, 3) := dk_167 0 5 (dk_at dksX3_text_0 12 rfl rfl)
theorem dX3_text_15 : decode cX3_text 15 = .ok (.ldc 153, 2) := dk_18 153 (dk_at dksX3_text_0 15 rfl rfl)
theorem dX3_text_17 : decode cX3_text 17 = .ok (.aastore, 1) := dk_83 (dk_at dksX3_text_0 17 rfl rfl)
theorem dX3_text_18 : decode cX3_text 18 = .ok (.dup, 1) := dk_89 (dk_at dksX3_text_0 18 rfl rfl)
theorem dX3_text_19 : decode cX3_text 19 = .ok (.iconst 1, 1) := dk_4 (dk_at dksX3_text_0 19 rfl rfl)
theorem dX3_text_20 : decode cX3_text 20 = .ok (.iload_n 1, 1) := dk_27 (dk_at dksX3_text_0 20 rfl rfl)
theorem dX3_text_21 : decode cX3_text 21 = .ok (.ifCond .eq 8, 3) := dk_153 0 8 (dk_at dksX3_text_0 21 rfl rfl)
theorem dX3_text_24 : decode cX3_text 24 = .ok (.ldc 155, 2) := dk_18 155 (dk_at dksX3_text_1 0 rfl rfl)
theorem dX3_text_26 : decode cX3_text 26 = .ok (.goto 5, 3) := dk_167 0 5 (dk_at dksX3_text_1 2 rfl rfl)
theorem dX3_text_29 : decode cX3_text 29 = .ok (.ldc 157, 2) := dk_18 157 (dk_at dksX3_text_1 5 rfl rfl)
theorem dX3_text_31 : decode cX3_text 31 = .ok (.aastore, 1) := dk_83 (dk_at dksX3_text_1 7 rfl rfl)
theorem dX3_text_32 : decode cX3_text 32 = .ok (.dup, 1) := dk_89 (dk_at dksX3_text_1 8 rfl rfl)
theorem dX3_text_33 : decode cX3_text 33 = .ok (.iconst 2, 1) := dk_5 (dk_at dksX3_text_1 9 rfl rfl)
theorem dX3_text_34 : decode cX3_text 34 = .ok (.iload_n 1, 1) := dk_27 (dk_at dksX3_text_1 10 rfl rfl)
theorem dX3_text_35 : decode cX3_text 35 = .ok (.ifCond .eq 8, 3) := dk_153 0 8 (dk_at dksX3_text_1 11 rfl rfl)
theorem dX3_text_38 : decode cX3_text 38 = .ok (.ldc 159, 2) := dk_18 159 (dk_at dksX3_text_1 14 rfl rfl)
theorem dX3_text_40 : decode cX3_text 40 = .ok (.goto 5, 3) := dk_167 0 5 (dk_at dksX3_text_1 16 rfl rfl)
theorem dX3_text_43 : decode cX3_text 43 = .ok (.ldc 161, 2) := dk_18 161 (dk_at dksX3_text_1 19 rfl rfl)
theorem dX3_text_45 : decode cX3_text 45 = .ok (.aastore, 1) := dk_83 (dk_at dksX3_text_1 21 rfl rfl)
theorem dX3_text_46 : decode cX3_text 46 = .ok (.dup, 1) := dk_89 (dk_at dksX3_text_1 22 rfl rfl)
theorem dX3_text_47 : decode cX3_text 47 = .ok (.iconst 3, 1) := dk_6 (dk_at dksX3_text_1 23 rfl rfl)
theorem dX3_text_48 : decode cX3_text 48 = .ok (.iload_n 1, 1) := dk_27 (dk_at dksX3_text_2 0 rfl rfl)
theorem dX3_text_49 : decode cX3_text 49 = .ok (.ifCond .eq 8, 3) := dk_153 0 8 (dk_at dksX3_text_2 1 rfl rfl)
theorem dX3_text_52 : decode cX3_text 52 = .ok (.ldc 163, 2) := dk_18 163 (dk_at dksX3_text_2 4 rfl rfl)
theorem dX3_text_54 : decode cX3_text 54 = .ok (.goto 5, 3) := dk_167 0 5 (dk_at dksX3_text_2 6 rfl rfl)
theorem dX3_text_57 : decode cX3_text 57 = .ok (.ldc 165, 2) := dk_18 165 (dk_at dksX3_text_2 9 rfl rfl)
theorem dX3_text_59 : decode cX3_text 59 = .ok (.aastore, 1) := dk_83 (dk_at dksX3_text_2 11 rfl rfl)
theorem dX3_text_60 : decode cX3_text 60 = .ok (.dup, 1) := dk_89 (dk_at dksX3_text_2 12 rfl rfl)
theorem dX3_text_61 : decode cX3_text 61 = .ok (.iconst 4, 1) := dk_7 (dk_at dksX3_text_2 13 rfl rfl)
theorem dX3_text_62 : decode cX3_text 62 = .ok (.iload_n 1, 1) := dk_27 (dk_at dksX3_text_2 14 rfl rfl)
theorem dX3_text_63 : decode cX3_text 63 = .ok (.ifCond .eq 8, 3) := dk_153 0 8 (dk_at dksX3_text_2 15 rfl rfl)
theorem dX3_text_66 : decode cX3_text 66 = .ok (.ldc 167, 2) := dk_18 167 (dk_at dksX3_text_2 18 rfl rfl)
theorem dX3_text_68 : decode cX3_text 68 = .ok (.goto 5, 3) := dk_167 0 5 (dk_at dksX3_text_2 20 rfl rfl)
theorem dX3_text_71 : decode cX3_text 71 = .ok (.ldc 169, 2) := dk_18 169 (dk_at dksX3_text_3 0 rfl rfl)
theorem dX3_text_73 : decode cX3_text 73 = .ok (.aastore, 1) := dk_83 (dk_at dksX3_text_3 2 rfl rfl)
theorem dX3_text_74 : decode cX3_text 74 = .ok (.astore_n 2, 1) := dk_77 (dk_at dksX3_text_3 3 rfl rfl)
theorem dX3_text_75 : decode cX3_text 75 = .ok (.iconst 0, 1) := dk_3 (dk_at dksX3_text_3 4 rfl rfl)
theorem dX3_text_76 : decode cX3_text 76 = .ok (.istore_n 3, 1) := dk_62 (dk_at dksX3_text_3 5 rfl rfl)
theorem dX3_text_77 : decode cX3_text 77 = .ok (.iconst 0, 1) := dk_3 (dk_at dksX3_text_3 6 rfl rfl)
theorem dX3_text_78 : decode cX3_text 78 = .ok (.istore 4, 2) := dk_54 4 (dk_at dksX3_text_3 7 rfl rfl)
theorem dX3_text_80 : decode cX3_text 80 = .ok (.iload 4, 2) := dk_21 4 (dk_at dksX3_text_3 9 rfl rfl)
theorem dX3_text_82 : decode cX3_text 82 = .ok (.iconst 5, 1) := dk_8 (dk_at dksX3_text_3 11 rfl rfl)
theorem dX3_text_83 : decode cX3_text 83 = .ok (.if_icmp .ge 17, 3) := dk_162 0 17 (dk_at dksX3_text_3 12 rfl rfl)
theorem dX3_text_86 : decode cX3_text 86 = .ok (.aload_n 0, 1) := dk_42 (dk_at dksX3_text_3 15 rfl rfl)
theorem dX3_text_87 : decode cX3_text 87 = .ok (.getfield 81, 3) := dk_180 0 81 (dk_at dksX3_text_3 16 rfl rfl)
theorem dX3_text_90 : decode cX3_text 90 = .ok (.iload 4, 2) := dk_21 4 (dk_at dksX3_text_3 19 rfl rfl)
theorem dX3_text_92 : decode cX3_text 92 = .ok (.iconst (-1), 1) := dk_2 (dk_at dksX3_text_3 21 rfl rfl)
theorem dX3_text_93 : decode cX3_text 93 = .ok (.iastore, 1) := dk_79 (dk_at dksX3_text_3 22 rfl rfl)
theorem dX3_text_94 : decode cX3_text 94 = .ok (.iinc 4 1, 3) := dk_132 4 1 (dk_at dksX3_text_4 0 rfl rfl)
theorem dX3_text_97 : decode cX3_text 97 = .ok (.goto (-17), 3) := dk_167 255 239 (dk_at dksX3_text_4 3 rfl rfl)
theorem dX3_text_100 : decode cX3_text 100 = .ok (.aload_n 0, 1) := dk_42 (dk_at dksX3_text_4 6 rfl rfl)
theorem dX3_text_101 : decode cX3_text 101 = .ok (.iconst 0, 1) := dk_3 (dk_at dksX3_text_4 7 rfl rfl)
theorem dX3_text_102 : decode cX3_text 102 = .ok (.putfield 102, 3) := dk_181 0 102 (dk_at dksX3_text_4 8 rfl rfl)
theorem dX3_text_105 : decode cX3_text 105 = .ok (.aload_n 0, 1) := dk_42 (dk_at dksX3_text_4 11 rfl rfl)
theorem dX3_text_106 : decode cX3_text 106 = .ok (.invokevirtual 121, 3) := dk_182 0 121 (dk_at dksX3_text_4 12 rfl rfl)
theorem dX3_text_109 : decode cX3_text 109 = .ok (.aload_n 0, 1) := dk_42 (dk_at dksX3_text_4 15 rfl rfl)
theorem dX3_text_110 : decode cX3_text 110 = .ok (.getfield 102, 3) := dk_180 0 102 (dk_at dksX3_text_4 16 rfl rfl)
theorem dX3_text_113 : decode cX3_text 113 = .ok (.aload_n 0, 1) := dk_42 (dk_at dksX3_text_4 19 rfl rfl)
theorem dX3_text_114 : decode cX3_text 114 = .ok (.getfield 105, 3) := dk_180 0 105 (dk_at dksX3_text_4 20 rfl rfl)
theorem dX3_text_117 : decode cX3_text 117 = .ok (.if_icmp .ge 125, 3) := dk_162 0 125 (dk_at dksX3_text_5 0 rfl rfl)
theorem dX3_text_120 : decode cX3_text 120 = .ok (.iconst (-1), 1) := dk_2 (dk_at dksX3_text_5 3 rfl rfl)
theorem dX3_text_121 : decode cX3_text 121 = .ok (.istore 4, 2) := dk_54 4 (dk_at dksX3_text_5 4 rfl rfl)
theorem dX3_text_123 : decode cX3_text 123 = .ok (.iconst 0, 1) := dk_3 (dk_at dksX3_text_5 6 rfl rfl)
theorem dX3_text_124 : decode cX3_text 124 = .ok (.istore 5, 2) := dk_54 5 (dk_at dksX3_text_5 7 rfl rfl)
theorem dX3_text_126 : decode cX3_text 126 = .ok (.iload 5, 2) := dk_21 5 (dk_at dksX3_text_5 9 rfl rfl)
theorem dX3_text_128 : decode cX3_text 128 = .ok (.iconst 5, 1) := dk_8 (dk_at dksX3_text_5 11 rfl rfl)
theorem dX3_text_129 : decode cX3_text 129 = .ok (.if_icmp .ge 40, 3) := dk_162 0 40 (dk_at dksX3_text_5 12 rfl rfl)
theorem dX3_text_132 : decode cX3_text 132 = .ok (.aload_n 0, 1) := dk_42 (dk_at dksX3_text_5 15 rfl rfl)
theorem dX3_text_133 : decode cX3_text 133 = .ok (.getfield 81, 3) := dk_180 0 81 (dk_at dksX3_text_5 16 rfl rfl)
theorem dX3_text_136 : decode cX3_text 136 = .ok (.iload 5, 2) := dk_21 5 (dk_at dksX3_text_5 19 rfl rfl)
theorem dX3_text_138 : decode cX3_text 138 = .ok (.iaload, 1) := dk_46 (dk_at dksX3_text_5 21 rfl rfl)
theorem dX3_text_139 : decode cX3_text 139 = .ok (.iconst (-1), 1) := dk_2 (dk_at dksX3_text_5 22 rfl rfl)
theorem dX3_text_140 : decode cX3_text 140 = .ok (.if_icmp .ne 19, 3) := dk_160 0 19 (dk_at dksX3_text_6 0 rfl rfl)
theorem dX3_text_143 : decode cX3_text 143 = .ok (.aload_n 0, 1) := dk_42 (dk_at dksX3_text_6 3 rfl rfl)
theorem dX3_text_144 : decode cX3_text 144 = .ok (.aload_n 2, 1) := dk_44 (dk_at dksX3_text_6 4 rfl rfl)
theorem dX3_text_145 : decode cX3_text 145 = .ok (.iload 5, 2) := dk_21 5 (dk_at dksX3_text_6 5 rfl rfl)
theorem dX3_text_147 : decode cX3_text 147 = .ok (.aaload, 1) := dk_50 (dk_at dksX3_text_6 7 rfl rfl)
theorem dX3_text_148 : decode cX3_text 148 = .ok (.invokevirtual 145, 3) := dk_182 0 145 (dk_at dksX3_text_6 8 rfl rfl)
theorem dX3_text_151 : decode cX3_text 151 = .ok (.ifCond .eq 8, 3) := dk_153 0 8 (dk_at dksX3_text_6 11 rfl rfl)
theorem dX3_text_154 : decode cX3_text 154 = .ok (.iload 5, 2) := dk_21 5 (dk_at dksX3_text_6 14 rfl rfl)
theorem dX3_text_156 : decode cX3_text 156 = .ok (.goto 5, 3) := dk_167 0 5 (dk_at dksX3_text_6 16 rfl rfl)
theorem dX3_text_159 : decode cX3_text 159 = .ok (.iload 4, 2) := dk_21 4 (dk_at dksX3_text_6 19 rfl rfl)
theorem dX3_text_161 : decode cX3_text 161 = .ok (.istore 4, 2) := dk_54 4 (dk_at dksX3_text_6 21 rfl rfl)
theorem dX3_text_163 : decode cX3_text 163 = .ok (.iinc 5 1, 3) := dk_132 5 1 (dk_at dksX3_text_7 0 rfl rfl)
theorem dX3_text_166 : decode cX3_text 166 = .ok (.goto (-40), 3) := dk_167 255 216 (dk_at dksX3_text_7 3 rfl rfl)
theorem dX3_text_169 : decode cX3_text 169 = .ok (.iload 4, 2) := dk_21 4 (dk_at dksX3_text_7 6 rfl rfl)
theorem dX3_text_171 : decode cX3_text 171 = .ok (.iconst (-1), 1) := dk_2 (dk_at dksX3_text_7 8 rfl rfl)
theorem dX3_text_172 : decode cX3_text 172 = .ok (.if_icmp .ne 5, 3) := dk_160 0 5 (dk_at dksX3_text_7 9 rfl rfl)
theorem dX3_text_175 : decode cX3_text 175 = .ok (.iconst 0, 1) := dk_3 (dk_at dksX3_text_7 12 rfl rfl)
theorem dX3_text_176 : decode cX3_text 176 = .ok (.ireturn, 1) := dk_172 (dk_at dksX3_text_7 13 rfl rfl)
theorem dX3_text_177 : decode cX3_text 177 = .ok (.aload_n 0, 1) := dk_42 (dk_at dksX3_text_7 14 rfl rfl)
theorem dX3_text_178 : decode cX3_text 178 = .ok (.invokevirtual 126, 3) := dk_182 0 126 (dk_at dksX3_text_7 15 rfl rfl)
theorem dX3_text_181 : decode cX3_text 181 = .ok (.iload_n 1, 1) := dk_27 (dk_at dksX3_text_7 18 rfl rfl)
theorem dX3_text_182 : decode cX3_text 182 = .ok (.ifCond .eq 12, 3) := dk_153 0 12 (dk_at dksX3_text_7 19 rfl rfl)
theorem dX3_text_185 : decode cX3_text 185 = .ok (.aload_n 0, 1) := dk_42 (dk_at dksX3_text_7 22 rfl rfl)
theorem dX3_text_186 : decode cX3_text 186 = .ok (.iload 4, 2) := dk_21 4 (dk_at dksX3_text_8 0 rfl rfl)
theorem dX3_text_188 : decode cX3_text 188 = .ok (.invokevirtual 171, 3) := dk_182 0 171 (dk_at dksX3_text_8 2 rfl rfl)
theorem dX3_text_191 : decode cX3_text 191 = .ok (.goto 9, 3) := dk_167 0 9 (dk_at dksX3_text_8 5 rfl rfl)
theorem dX3_text_194 : decode cX3_text 194 = .ok (.aload_n 0, 1) := dk_42 (dk_at dksX3_text_8 8 rfl rfl)
theorem dX3_text_195 : decode cX3_text 195 = .ok (.iload 4, 2) := dk_21 4 (dk_at dksX3_text_8 9 rfl rfl)
theorem dX3_text_197 : decode cX3_text 197 = .ok (.invokevirtual 175, 3) := dk_182 0 175 (dk_at dksX3_text_8 11 rfl rfl)
theorem dX3_text_200 : decode cX3_text 200 = .ok (.istore 5, 2) := dk_54 5 (dk_at dksX3_text_8 14 rfl rfl)
theorem dX3_text_202 : decode cX3_text 202 = .ok (.iload 5, 2) := dk_21 5 (dk_at dksX3_text_8 16 rfl rfl)
theorem dX3_text_204 : decode cX3_text 204 = .ok (.iconst (-1), 1) := dk_2 (dk_at dksX3_text_8 18 rfl rfl)
theorem dX3_text_205 : decode cX3_text 205 = .ok (.if_icmp .ne 5, 3) := dk_160 0 5 (dk_at dksX3_text_8 19 rfl rfl)
theorem dX3_text_208 : decode cX3_text 208 = .ok (.iconst 0, 1) := dk_3 (dk_at dksX3_text_8 22 rfl rfl)
theorem dX3_text_209 : decode cX3_text 209 = .ok (.ireturn, 1) := dk_172 (dk_at dksX3_text_8 23 rfl rfl)
theorem dX3_text_210 : decode cX3_text 210 = .ok (.aload_n 0, 1) := dk_42 (dk_at dksX3_text_9 0 rfl rfl)
theorem dX3_text_211 : decode cX3_text 211 = .ok (.getfield 81, 3) := dk_180 0 81 (dk_at dksX3_text_9 1 rfl rfl)
theorem dX3_text_214 : decode cX3_text 214 = .ok (.iload 4, 2) := dk_21 4 (dk_at dksX3_text_9 4 rfl rfl)
theorem dX3_text_216 : decode cX3_text 216 = .ok (.iload 5, 2) := dk_21 5 (dk_at dksX3_text_9 6 rfl rfl)
theorem dX3_text_218 : decode cX3_text 218 = .ok (.iastore, 1) := dk_79 (dk_at dksX3_text_9 8 rfl rfl)
theorem dX3_text_219 : decode cX3_text 219 = .ok (.iload_n 3, 1) := dk_29 (dk_at dksX3_text_9 9 rfl rfl)
theorem dX3_text_220 : decode cX3_text 220 = .ok (.ifCond .ne 13, 3) := dk_154 0 13 (dk_at dksX3_text_9 10 rfl rfl)
theorem dX3_text_223 : decode cX3_text 223 = .ok (.iload_n 1, 1) := dk_27 (dk_at dksX3_text_9 13 rfl rfl)
theorem dX3_text_224 : decode cX3_text 224 = .ok (.ifCond .eq 9, 3) := dk_153 0 9 (dk_at dksX3_text_9 14 rfl rfl)
theorem dX3_text_227 : decode cX3_text 227 = .ok (.iload 4, 2) := dk_21 4 (dk_at dksX3_text_9 17 rfl rfl)
theorem dX3_text_229 : decode cX3_text 229 = .ok (.iconst 4, 1) := dk_7 (dk_at dksX3_text_9 19 rfl rfl)
theorem dX3_text_230 : decode cX3_text 230 = .ok (.if_icmp .eq 7, 3) := dk_159 0 7 (dk_at dksX3_text_9 20 rfl rfl)
theorem dX3_text_233 : decode cX3_text 233 = .ok (.iconst 1, 1) := dk_4 (dk_at dksX3_text_9 23 rfl rfl)
theorem dX3_text_234 : decode cX3_text 234 = .ok (.goto 4, 3) := dk_167 0 4 (dk_at dksX3_text_10 0 rfl rfl)
theorem dX3_text_237 : decode cX3_text 237 = .ok (.iconst 0, 1) := dk_3 (dk_at dksX3_text_10 3 rfl rfl)
theorem dX3_text_238 : decode cX3_text 238 = .ok (.istore_n 3, 1) := dk_62 (dk_at dksX3_text_10 4 rfl rfl)
theorem dX3_text_239 : decode cX3_text 239 = .ok (.goto (-130), 3) := dk_167 255 126 (dk_at dksX3_text_10 5 rfl rfl)
theorem dX3_text_242 : decode cX3_text 242 = .ok (.iload_n 3, 1) := dk_29 (dk_at dksX3_text_10 8 rfl rfl)
theorem dX3_text_243 : decode cX3_text 243 = .ok (.ireturn, 1) := dk_172 (dk_at dksX3_text_10 9 rfl rfl)
abbrev cX3_skip : ByteArray := prog_13_method_11_code
def yX3_skip : MethodName := ⟨RX3, "skip", "()V"⟩
def dkwX3_skip_1 : List UInt8 := [160, 0, 16, 42, 89, 180, 0, 102, 4, 96, 181, 0, 102, 167, 255, 221, 177]
abbrev dktX3_skip_1 : List UInt8 := dkwX3_skip_1 ++ []
def dkwX3_skip_0 : List UInt8 := [42, 180, 0, 102, 42, 180, 0, 105, 162, 0, 30, 42, 180, 0, 9, 42, 180, 0, 102, 46, 16, 32]
abbrev dktX3_skip_0 : List UInt8 := dkwX3_skip_0 ++ dktX3_skip_1
theorem dksX3_skip_0 : cX3_skip.data.toList.drop 0 = dktX3_skip_0 := by decide +kernel
theorem dksX3_skip_1 : cX3_skip.data.toList.drop 22 = dktX3_skip_1 := dk_seg dksX3_skip_0 22 rfl rfl
theorem dX3_skip_0 : decode cX3_skip 0 = .ok (.aload_n 0, 1) := dk_42 (dk_at dksX3_skip_0 0 rfl rfl)
theorem dX3_skip_1 : decode cX3_skip 1 = .ok (.getfield 102, 3) := dk_180 0 102 (dk_at dksX3_skip_0 1 rfl rfl)
theorem dX3_skip_4 : decode cX3_skip 4 = .ok (.aload_n 0, 1) := dk_42 (dk_at dksX3_skip_0 4 rfl rfl)
theorem dX3_skip_5 : decode cX3_skip 5 = .ok (.getfield 105, 3) := dk_180 0 105 (dk_at dksX3_skip_0 5 rfl rfl)
theorem dX3_skip_8 : decode cX3_skip 8 = .ok (.if_icmp .ge 30, 3) := dk_162 0 30 (dk_at dksX3_skip_0 8 rfl rfl)
theorem dX3_skip_11 : decode cX3_skip 11 = .ok (.aload_n 0, 1) := dk_42 (dk_at dksX3_skip_0 11 rfl rfl)
theorem dX3_skip_12 : decode cX3_skip 12 = .ok (.getfield 9, 3) := dk_180 0 9 (dk_at dksX3_skip_0 12 rfl rfl)
theorem dX3_skip_15 : decode cX3_skip 15 = .ok (.aload_n 0, 1) := dk_42 (dk_at dksX3_skip_0 15 rfl rfl)
theorem dX3_skip_16 : decode cX3_skip 16 = .ok (.getfield 102, 3) := dk_180 0 102 (dk_at dksX3_skip_0 16 rfl rfl)
theorem dX3_skip_19 : decode cX3_skip 19 = .ok (.iaload, 1) := dk_46 (dk_at dksX3_skip_0 19 rfl rfl)
theorem dX3_skip_20 : decode cX3_skip 20 = .ok (.bipush 32, 2) := dk_16 32 (dk_at dksX3_skip_0 20 rfl rfl)
theorem dX3_skip_22 : decode cX3_skip 22 = .ok (.if_icmp .ne 16, 3) := dk_160 0 16 (dk_at dksX3_skip_1 0 rfl rfl)
theorem dX3_skip_25 : decode cX3_skip 25 = .ok (.aload_n 0, 1) := dk_42 (dk_at dksX3_skip_1 3 rfl rfl)
theorem dX3_skip_26 : decode cX3_skip 26 = .ok (.dup, 1) := dk_89 (dk_at dksX3_skip_1 4 rfl rfl)
theorem dX3_skip_27 : decode cX3_skip 27 = .ok (.getfield 102, 3) := dk_180 0 102 (dk_at dksX3_skip_1 5 rfl rfl)
theorem dX3_skip_30 : decode cX3_skip 30 = .ok (.iconst 1, 1) := dk_4 (dk_at dksX3_skip_1 8 rfl rfl)
theorem dX3_skip_31 : decode cX3_skip 31 = .ok (.iadd, 1) := dk_96 (dk_at dksX3_skip_1 9 rfl rfl)
theorem dX3_skip_32 : decode cX3_skip 32 = .ok (.putfield 102, 3) := dk_181 0 102 (dk_at dksX3_skip_1 10 rfl rfl)
theorem dX3_skip_35 : decode cX3_skip 35 = .ok (.goto (-35), 3) := dk_167 255 221 (dk_at dksX3_skip_1 13 rfl rfl)
theorem dX3_skip_38 : decode cX3_skip 38 = .ok (.return_, 1) := dk_177 (dk_at dksX3_skip_1 16 rfl rfl)
abbrev cX3_sees : ByteArray := prog_13_method_13_code
def yX3_sees : MethodName := ⟨RX3, "sees", "(Ljava/lang/String;)Z"⟩
def dkwX3_sees_3 : List UInt8 := [167, 255, 213, 29, 172]
abbrev dktX3_sees_3 : List UInt8 := dkwX3_sees_3 ++ []
def dkwX3_sees_2 : List UInt8 := [21, 4, 96, 46, 43, 21, 4, 182, 0, 117, 160, 0, 7, 4, 167, 0, 4, 3, 62, 132, 4, 1]
abbrev dktX3_sees_2 : List UInt8 := dkwX3_sees_2 ++ dktX3_sees_3
def dkwX3_sees_1 : List UInt8 := [3, 54, 4, 21, 4, 43, 182, 0, 112, 162, 0, 40, 29, 153, 0, 36, 42, 180, 0, 9, 42, 180, 0, 102]
abbrev dktX3_sees_1 : List UInt8 := dkwX3_sees_1 ++ dktX3_sees_2
def dkwX3_sees_0 : List UInt8 := [42, 182, 0, 108, 61, 28, 42, 180, 0, 102, 100, 43, 182, 0, 112, 160, 0, 7, 4, 167, 0, 4, 3, 62]
abbrev dktX3_sees_0 : List UInt8 := dkwX3_sees_0 ++ dktX3_sees_1
theorem dksX3_sees_0 : cX3_sees.data.toList.drop 0 = dktX3_sees_0 := by decide +kernel
theorem dksX3_sees_1 : cX3_sees.data.toList.drop 24 = dktX3_sees_1 := dk_seg dksX3_sees_0 24 rfl rfl
theorem dksX3_sees_2 : cX3_sees.data.toList.drop 48 = dktX3_sees_2 := dk_seg dksX3_sees_1 24 rfl rfl
theorem dksX3_sees_3 : cX3_sees.data.toList.drop 70 = dktX3_sees_3 := dk_seg dksX3_sees_2 22 rfl rfl
theorem dX3_sees_0 : decode cX3_sees 0 = .ok (.aload_n 0, 1) := dk_42 (dk_at dksX3_sees_0 0 rfl rfl)
theorem dX3_sees_1 : decode cX3_sees 1 = .ok (.invokevirtual 108, 3) := dk_182 0 108 (dk_at dksX3_sees_0 1 rfl rfl)
theorem dX3_sees_4 : decode cX3_sees 4 = .ok (.istore_n 2, 1) := dk_61 (dk_at dksX3_sees_0 4 rfl rfl)
theorem dX3_sees_5 : decode cX3_sees 5 = .ok (.iload_n 2, 1) := dk_28 (dk_at dksX3_sees_0 5 rfl rfl)
theorem dX3_sees_6 : decode cX3_sees 6 = .ok (.aload_n 0, 1) := dk_42 (dk_at dksX3_sees_0 6 rfl rfl)
theorem dX3_sees_7 : decode cX3_sees 7 = .ok (.getfield 102, 3) := dk_180 0 102 (dk_at dksX3_sees_0 7 rfl rfl)
theorem dX3_sees_10 : decode cX3_sees 10 = .ok (.isub, 1) := dk_100 (dk_at dksX3_sees_0 10 rfl rfl)
theorem dX3_sees_11 : decode cX3_sees 11 = .ok (.aload_n 1, 1) := dk_43 (dk_at dksX3_sees_0 11 rfl rfl)
theorem dX3_sees_12 : decode cX3_sees 12 = .ok (.invokevirtual 112, 3) := dk_182 0 112 (dk_at dksX3_sees_0 12 rfl rfl)
theorem dX3_sees_15 : decode cX3_sees 15 = .ok (.if_icmp .ne 7, 3) := dk_160 0 7 (dk_at dksX3_sees_0 15 rfl rfl)
theorem dX3_sees_18 : decode cX3_sees 18 = .ok (.iconst 1, 1) := dk_4 (dk_at dksX3_sees_0 18 rfl rfl)
theorem dX3_sees_19 : decode cX3_sees 19 = .ok (.goto 4, 3) := dk_167 0 4 (dk_at dksX3_sees_0 19 rfl rfl)
theorem dX3_sees_22 : decode cX3_sees 22 = .ok (.iconst 0, 1) := dk_3 (dk_at dksX3_sees_0 22 rfl rfl)
theorem dX3_sees_23 : decode cX3_sees 23 = .ok (.istore_n 3, 1) := dk_62 (dk_at dksX3_sees_0 23 rfl rfl)
theorem dX3_sees_24 : decode cX3_sees 24 = .ok (.iconst 0, 1) := dk_3 (dk_at dksX3_sees_1 0 rfl rfl)
theorem dX3_sees_25 : decode cX3_sees 25 = .ok (.istore 4, 2) := dk_54 4 (dk_at dksX3_sees_1 1 rfl rfl)
theorem dX3_sees_27 : decode cX3_sees 27 = .ok (.iload 4, 2) := dk_21 4 (dk_at dksX3_sees_1 3 rfl rfl)
theorem dX3_sees_29 : decode cX3_sees 29 = .ok (.aload_n 1, 1) := dk_43 (dk_at dksX3_sees_1 5 rfl rfl)
theorem dX3_sees_30 : decode cX3_sees 30 = .ok (.invokevirtual 112, 3) := dk_182 0 112 (dk_at dksX3_sees_1 6 rfl rfl)
theorem dX3_sees_33 : decode cX3_sees 33 = .ok (.if_icmp .ge 40, 3) := dk_162 0 40 (dk_at dksX3_sees_1 9 rfl rfl)
theorem dX3_sees_36 : decode cX3_sees 36 = .ok (.iload_n 3, 1) := dk_29 (dk_at dksX3_sees_1 12 rfl rfl)
theorem dX3_sees_37 : decode cX3_sees 37 = .ok (.ifCond .eq 36, 3) := dk_153 0 36 (dk_at dksX3_sees_1 13 rfl rfl)
theorem dX3_sees_40 : decode cX3_sees 40 = .ok (.aload_n 0, 1) := dk_42 (dk_at dksX3_sees_1 16 rfl rfl)
theorem dX3_sees_41 : decode cX3_sees 41 = .ok (.getfield 9, 3) := dk_180 0 9 (dk_at dksX3_sees_1 17 rfl rfl)
theorem dX3_sees_44 : decode cX3_sees 44 = .ok (.aload_n 0, 1) := dk_42 (dk_at dksX3_sees_1 20 rfl rfl)
theorem dX3_sees_45 : decode cX3_sees 45 = .ok (.getfield 102, 3) := dk_180 0 102 (dk_at dksX3_sees_1 21 rfl rfl)
theorem dX3_sees_48 : decode cX3_sees 48 = .ok (.iload 4, 2) := dk_21 4 (dk_at dksX3_sees_2 0 rfl rfl)
theorem dX3_sees_50 : decode cX3_sees 50 = .ok (.iadd, 1) := dk_96 (dk_at dksX3_sees_2 2 rfl rfl)
theorem dX3_sees_51 : decode cX3_sees 51 = .ok (.iaload, 1) := dk_46 (dk_at dksX3_sees_2 3 rfl rfl)
theorem dX3_sees_52 : decode cX3_sees 52 = .ok (.aload_n 1, 1) := dk_43 (dk_at dksX3_sees_2 4 rfl rfl)
theorem dX3_sees_53 : decode cX3_sees 53 = .ok (.iload 4, 2) := dk_21 4 (dk_at dksX3_sees_2 5 rfl rfl)
theorem dX3_sees_55 : decode cX3_sees 55 = .ok (.invokevirtual 117, 3) := dk_182 0 117 (dk_at dksX3_sees_2 7 rfl rfl)
theorem dX3_sees_58 : decode cX3_sees 58 = .ok (.if_icmp .ne 7, 3) := dk_160 0 7 (dk_at dksX3_sees_2 10 rfl rfl)
theorem dX3_sees_61 : decode cX3_sees 61 = .ok (.iconst 1, 1) := dk_4 (dk_at dksX3_sees_2 13 rfl rfl)
theorem dX3_sees_62 : decode cX3_sees 62 = .ok (.goto 4, 3) := dk_167 0 4 (dk_at dksX3_sees_2 14 rfl rfl)
theorem dX3_sees_65 : decode cX3_sees 65 = .ok (.iconst 0, 1) := dk_3 (dk_at dksX3_sees_2 17 rfl rfl)
theorem dX3_sees_66 : decode cX3_sees 66 = .ok (.istore_n 3, 1) := dk_62 (dk_at dksX3_sees_2 18 rfl rfl)
theorem dX3_sees_67 : decode cX3_sees 67 = .ok (.iinc 4 1, 3) := dk_132 4 1 (dk_at dksX3_sees_2 19 rfl rfl)
theorem dX3_sees_70 : decode cX3_sees 70 = .ok (.goto (-43), 3) := dk_167 255 213 (dk_at dksX3_sees_3 0 rfl rfl)
theorem dX3_sees_73 : decode cX3_sees 73 = .ok (.iload_n 3, 1) := dk_29 (dk_at dksX3_sees_3 3 rfl rfl)
theorem dX3_sees_74 : decode cX3_sees 74 = .ok (.ireturn, 1) := dk_172 (dk_at dksX3_sees_3 4 rfl rfl)
abbrev cX3_wordEnd : ByteArray := prog_13_method_12_code
def yX3_wordEnd : MethodName := ⟨RX3, "wordEnd", "()I"⟩
def dkwX3_wordEnd_1 : List UInt8 := [132, 1, 1, 167, 255, 234, 27, 172]
abbrev dktX3_wordEnd_1 : List UInt8 := dkwX3_wordEnd_1 ++ []
def dkwX3_wordEnd_0 : List UInt8 := [42, 180, 0, 102, 60, 27, 42, 180, 0, 105, 162, 0, 20, 42, 180, 0, 9, 27, 46, 16, 32, 159, 0, 9]
abbrev dktX3_wordEnd_0 : List UInt8 := dkwX3_wordEnd_0 ++ dktX3_wordEnd_1
theorem dksX3_wordEnd_0 : cX3_wordEnd.data.toList.drop 0 = dktX3_wordEnd_0 := by decide +kernel
theorem dksX3_wordEnd_1 : cX3_wordEnd.data.toList.drop 24 = dktX3_wordEnd_1 := dk_seg dksX3_wordEnd_0 24 rfl rfl
theorem dX3_wordEnd_0 : decode cX3_wordEnd 0 = .ok (.aload_n 0, 1) := dk_42 (dk_at dksX3_wordEnd_0 0 rfl rfl)
theorem dX3_wordEnd_1 : decode cX3_wordEnd 1 = .ok (.getfield 102, 3) := dk_180 0 102 (dk_at dksX3_wordEnd_0 1 rfl rfl)
theorem dX3_wordEnd_4 : decode cX3_wordEnd 4 = .ok (.istore_n 1, 1) := dk_60 (dk_at dksX3_wordEnd_0 4 rfl rfl)
theorem dX3_wordEnd_5 : decode cX3_wordEnd 5 = .ok (.iload_n 1, 1) := dk_27 (dk_at dksX3_wordEnd_0 5 rfl rfl)
theorem dX3_wordEnd_6 : decode cX3_wordEnd 6 = .ok (.aload_n 0, 1) := dk_42 (dk_at dksX3_wordEnd_0 6 rfl rfl)
theorem dX3_wordEnd_7 : decode cX3_wordEnd 7 = .ok (.getfield 105, 3) := dk_180 0 105 (dk_at dksX3_wordEnd_0 7 rfl rfl)
theorem dX3_wordEnd_10 : decode cX3_wordEnd 10 = .ok (.if_icmp .ge 20, 3) := dk_162 0 20 (dk_at dksX3_wordEnd_0 10 rfl rfl)
theorem dX3_wordEnd_13 : decode cX3_wordEnd 13 = .ok (.aload_n 0, 1) := dk_42 (dk_at dksX3_wordEnd_0 13 rfl rfl)
theorem dX3_wordEnd_14 : decode cX3_wordEnd 14 = .ok (.getfield 9, 3) := dk_180 0 9 (dk_at dksX3_wordEnd_0 14 rfl rfl)
theorem dX3_wordEnd_17 : decode cX3_wordEnd 17 = .ok (.iload_n 1, 1) := dk_27 (dk_at dksX3_wordEnd_0 17 rfl rfl)
theorem dX3_wordEnd_18 : decode cX3_wordEnd 18 = .ok (.iaload, 1) := dk_46 (dk_at dksX3_wordEnd_0 18 rfl rfl)
theorem dX3_wordEnd_19 : decode cX3_wordEnd 19 = .ok (.bipush 32, 2) := dk_16 32 (dk_at dksX3_wordEnd_0 19 rfl rfl)
theorem dX3_wordEnd_21 : decode cX3_wordEnd 21 = .ok (.if_icmp .eq 9, 3) := dk_159 0 9 (dk_at dksX3_wordEnd_0 21 rfl rfl)
theorem dX3_wordEnd_24 : decode cX3_wordEnd 24 = .ok (.iinc 1 1, 3) := dk_132 1 1 (dk_at dksX3_wordEnd_1 0 rfl rfl)
theorem dX3_wordEnd_27 : decode cX3_wordEnd 27 = .ok (.goto (-22), 3) := dk_167 255 234 (dk_at dksX3_wordEnd_1 3 rfl rfl)
theorem dX3_wordEnd_30 : decode cX3_wordEnd 30 = .ok (.iload_n 1, 1) := dk_27 (dk_at dksX3_wordEnd_1 6 rfl rfl)
theorem dX3_wordEnd_31 : decode cX3_wordEnd 31 = .ok (.ireturn, 1) := dk_172 (dk_at dksX3_wordEnd_1 7 rfl rfl)
abbrev cX3_pass : ByteArray := prog_13_method_14_code
def yX3_pass : MethodName := ⟨RX3, "pass", "()V"⟩
def dkwX3_pass_0 : List UInt8 := [42, 42, 182, 0, 108, 181, 0, 102, 42, 182, 0, 121, 177]
abbrev dktX3_pass_0 : List UInt8 := dkwX3_pass_0 ++ []
theorem dksX3_pass_0 : cX3_pass.data.toList.drop 0 = dktX3_pass_0 := by decide +kernel
theorem dX3_pass_0 : decode cX3_pass 0 = .ok (.aload_n 0, 1) := dk_42 (dk_at dksX3_pass_0 0 rfl rfl)
theorem dX3_pass_1 : decode cX3_pass 1 = .ok (.aload_n 0, 1) := dk_42 (dk_at dksX3_pass_0 1 rfl rfl)
theorem dX3_pass_2 : decode cX3_pass 2 = .ok (.invokevirtual 108, 3) := dk_182 0 108 (dk_at dksX3_pass_0 2 rfl rfl)
theorem dX3_pass_5 : decode cX3_pass 5 = .ok (.putfield 102, 3) := dk_181 0 102 (dk_at dksX3_pass_0 5 rfl rfl)
theorem dX3_pass_8 : decode cX3_pass 8 = .ok (.aload_n 0, 1) := dk_42 (dk_at dksX3_pass_0 8 rfl rfl)
theorem dX3_pass_9 : decode cX3_pass 9 = .ok (.invokevirtual 121, 3) := dk_182 0 121 (dk_at dksX3_pass_0 9 rfl rfl)
theorem dX3_pass_12 : decode cX3_pass 12 = .ok (.return_, 1) := dk_177 (dk_at dksX3_pass_0 12 rfl rfl)
abbrev cX3_factHere : ByteArray := prog_13_method_16_code
def yX3_factHere : MethodName := ⟨RX3, "factHere", "(I)I"⟩
def dkwX3_factHere_4 : List UInt8 := [153, 0, 7, 4, 167, 0, 4, 2, 61, 28, 2, 159, 0, 7, 42, 182, 0, 126, 28, 172]
abbrev dktX3_factHere_4 : List UInt8 := dkwX3_factHere_4 ++ []
def dkwX3_factHere_3 : List UInt8 := [182, 0, 130, 172, 42, 18, 143, 182, 0, 145, 153, 0, 7, 3, 167, 0, 17, 42, 18, 149, 182, 0, 145]
abbrev dktX3_factHere_3 : List UInt8 := dkwX3_factHere_3 ++ dktX3_factHere_4
def dkwX3_factHere_2 : List UInt8 := [167, 0, 25, 42, 3, 42, 180, 0, 135, 16, 120, 100, 184, 0, 138, 42, 180, 0, 135, 16, 30, 96]
abbrev dktX3_factHere_2 : List UInt8 := dkwX3_factHere_2 ++ dktX3_factHere_3
def dkwX3_factHere_1 : List UInt8 := [42, 3, 18, 134, 182, 0, 130, 167, 0, 40, 27, 5, 160, 0, 13, 42, 4, 16, 9, 182, 0, 130]
abbrev dktX3_factHere_1 : List UInt8 := dkwX3_factHere_1 ++ dktX3_factHere_2
def dkwX3_factHere_0 : List UInt8 := [27, 6, 159, 0, 70, 27, 154, 0, 13, 42, 3, 18, 129, 182, 0, 130, 167, 0, 55, 27, 4, 160, 0, 13]
abbrev dktX3_factHere_0 : List UInt8 := dkwX3_factHere_0 ++ dktX3_factHere_1
theorem dksX3_factHere_0 : cX3_factHere.data.toList.drop 0 = dktX3_factHere_0 := by decide +kernel
theorem dksX3_factHere_1 : cX3_factHere.data.toList.drop 24 = dktX3_factHere_1 := dk_seg dksX3_factHere_0 24 rfl rfl
theorem dksX3_factHere_2 : cX3_factHere.data.toList.drop 46 = dktX3_factHere_2 := dk_seg dksX3_factHere_1 22 rfl rfl
theorem dksX3_factHere_3 : cX3_factHere.data.toList.drop 68 = dktX3_factHere_3 := dk_seg dksX3_factHere_2 22 rfl rfl
theorem dksX3_factHere_4 : cX3_factHere.data.toList.drop 91 = dktX3_factHere_4 := dk_seg dksX3_factHere_3 23 rfl rfl
theorem dX3_factHere_0 : decode cX3_factHere 0 = .ok (.iload_n 1, 1) := dk_27 (dk_at dksX3_factHere_0 0 rfl rfl)
theorem dX3_factHere_1 : decode cX3_factHere 1 = .ok (.iconst 3, 1) := dk_6 (dk_at dksX3_factHere_0 1 rfl rfl)
theorem dX3_factHere_2 : decode cX3_factHere 2 = .ok (.if_icmp .eq 70, 3) := dk_159 0 70 (dk_at dksX3_factHere_0 2 rfl rfl)
theorem dX3_factHere_5 : decode cX3_factHere 5 = .ok (.iload_n 1, 1) := dk_27 (dk_at dksX3_factHere_0 5 rfl rfl)
theorem dX3_factHere_6 : decode cX3_factHere 6 = .ok (.ifCond .ne 13, 3) := dk_154 0 13 (dk_at dksX3_factHere_0 6 rfl rfl)
theorem dX3_factHere_9 : decode cX3_factHere 9 = .ok (.aload_n 0, 1) := dk_42 (dk_at dksX3_factHere_0 9 rfl rfl)
theorem dX3_factHere_10 : decode cX3_factHere 10 = .ok (.iconst 0, 1) := dk_3 (dk_at dksX3_factHere_0 10 rfl rfl)
theorem dX3_factHere_11 : decode cX3_factHere 11 = .ok (.ldc 129, 2) := dk_18 129 (dk_at dksX3_factHere_0 11 rfl rfl)
theorem dX3_factHere_13 : decode cX3_factHere 13 = .ok (.invokevirtual 130, 3) := dk_182 0 130 (dk_at dksX3_factHere_0 13 rfl rfl)
theorem dX3_factHere_16 : decode cX3_factHere 16 = .ok (.goto 55, 3) := dk_167 0 55 (dk_at dksX3_factHere_0 16 rfl rfl)
theorem dX3_factHere_19 : decode cX3_factHere 19 = .ok (.iload_n 1, 1) := dk_27 (dk_at dksX3_factHere_0 19 rfl rfl)
theorem dX3_factHere_20 : decode cX3_factHere 20 = .ok (.iconst 1, 1) := dk_4 (dk_at dksX3_factHere_0 20 rfl rfl)
theorem dX3_factHere_21 : decode cX3_factHere 21 = .ok (.if_icmp .ne 13, 3) := dk_160 0 13 (dk_at dksX3_factHere_0 21 rfl rfl)
theorem dX3_factHere_24 : decode cX3_factHere 24 = .ok (.aload_n 0, 1) := dk_42 (dk_at dksX3_factHere_1 0 rfl rfl)
theorem dX3_factHere_25 : decode cX3_factHere 25 = .ok (.iconst 0, 1) := dk_3 (dk_at dksX3_factHere_1 1 rfl rfl)
theorem dX3_factHere_26 : decode cX3_factHere 26 = .ok (.ldc 134, 2) := dk_18 134 (dk_at dksX3_factHere_1 2 rfl rfl)
theorem dX3_factHere_28 : decode cX3_factHere 28 = .ok (.invokevirtual 130, 3) := dk_182 0 130 (dk_at dksX3_factHere_1 4 rfl rfl)
theorem dX3_factHere_31 : decode cX3_factHere 31 = .ok (.goto 40, 3) := dk_167 0 40 (dk_at dksX3_factHere_1 7 rfl rfl)
theorem dX3_factHere_34 : decode cX3_factHere 34 = .ok (.iload_n 1, 1) := dk_27 (dk_at dksX3_factHere_1 10 rfl rfl)
theorem dX3_factHere_35 : decode cX3_factHere 35 = .ok (.iconst 2, 1) := dk_5 (dk_at dksX3_factHere_1 11 rfl rfl)
theorem dX3_factHere_36 : decode cX3_factHere 36 = .ok (.if_icmp .ne 13, 3) := dk_160 0 13 (dk_at dksX3_factHere_1 12 rfl rfl)
theorem dX3_factHere_39 : decode cX3_factHere 39 = .ok (.aload_n 0, 1) := dk_42 (dk_at dksX3_factHere_1 15 rfl rfl)
theorem dX3_factHere_40 : decode cX3_factHere 40 = .ok (.iconst 1, 1) := dk_4 (dk_at dksX3_factHere_1 16 rfl rfl)
theorem dX3_factHere_41 : decode cX3_factHere 41 = .ok (.bipush 9, 2) := dk_16 9 (dk_at dksX3_factHere_1 17 rfl rfl)
theorem dX3_factHere_43 : decode cX3_factHere 43 = .ok (.invokevirtual 130, 3) := dk_182 0 130 (dk_at dksX3_factHere_1 19 rfl rfl)
theorem dX3_factHere_46 : decode cX3_factHere 46 = .ok (.goto 25, 3) := dk_167 0 25 (dk_at dksX3_factHere_2 0 rfl rfl)
theorem dX3_factHere_49 : decode cX3_factHere 49 = .ok (.aload_n 0, 1) := dk_42 (dk_at dksX3_factHere_2 3 rfl rfl)
theorem dX3_factHere_50 : decode cX3_factHere 50 = .ok (.iconst 0, 1) := dk_3 (dk_at dksX3_factHere_2 4 rfl rfl)
theorem dX3_factHere_51 : decode cX3_factHere 51 = .ok (.aload_n 0, 1) := dk_42 (dk_at dksX3_factHere_2 5 rfl rfl)
theorem dX3_factHere_52 : decode cX3_factHere 52 = .ok (.getfield 135, 3) := dk_180 0 135 (dk_at dksX3_factHere_2 6 rfl rfl)
theorem dX3_factHere_55 : decode cX3_factHere 55 = .ok (.bipush 120, 2) := dk_16 120 (dk_at dksX3_factHere_2 9 rfl rfl)
theorem dX3_factHere_57 : decode cX3_factHere 57 = .ok (.isub, 1) := dk_100 (dk_at dksX3_factHere_2 11 rfl rfl)
theorem dX3_factHere_58 : decode cX3_factHere 58 = .ok (.invokestatic 138, 3) := dk_184 0 138 (dk_at dksX3_factHere_2 12 rfl rfl)
theorem dX3_factHere_61 : decode cX3_factHere 61 = .ok (.aload_n 0, 1) := dk_42 (dk_at dksX3_factHere_2 15 rfl rfl)
theorem dX3_factHere_62 : decode cX3_factHere 62 = .ok (.getfield 135, 3) := dk_180 0 135 (dk_at dksX3_factHere_2 16 rfl rfl)
theorem dX3_factHere_65 : decode cX3_factHere 65 = .ok (.bipush 30, 2) := dk_16 30 (dk_at dksX3_factHere_2 19 rfl rfl)
theorem dX3_factHere_67 : decode cX3_factHere 67 = .ok (.iadd, 1) := dk_96 (dk_at dksX3_factHere_2 21 rfl rfl)
theorem dX3_factHere_68 : decode cX3_factHere 68 = .ok (.invokevirtual 130, 3) := dk_182 0 130 (dk_at dksX3_factHere_3 0 rfl rfl)
theorem dX3_factHere_71 : decode cX3_factHere 71 = .ok (.ireturn, 1) := dk_172 (dk_at dksX3_factHere_3 3 rfl rfl)
theorem dX3_factHere_72 : decode cX3_factHere 72 = .ok (.aload_n 0, 1) := dk_42 (dk_at dksX3_factHere_3 4 rfl rfl)
theorem dX3_factHere_73 : decode cX3_factHere 73 = .ok (.ldc 143, 2) := dk_18 143 (dk_at dksX3_factHere_3 5 rfl rfl)
theorem dX3_factHere_75 : decode cX3_factHere 75 = .ok (.invokevirtual 145, 3) := dk_182 0 145 (dk_at dksX3_factHere_3 7 rfl rfl)
theorem dX3_factHere_78 : decode cX3_factHere 78 = .ok (.ifCond .eq 7, 3) := dk_153 0 7 (dk_at dksX3_factHere_3 10 rfl rfl)
theorem dX3_factHere_81 : decode cX3_factHere 81 = .ok (.iconst 0, 1) := dk_3 (dk_at dksX3_factHere_3 13 rfl rfl)
theorem dX3_factHere_82 : decode cX3_factHere 82 = .ok (.goto 17, 3) := dk_167 0 17 (dk_at dksX3_factHere_3 14 rfl rfl)
theorem dX3_factHere_85 : decode cX3_factHere 85 = .ok (.aload_n 0, 1) := dk_42 (dk_at dksX3_factHere_3 17 rfl rfl)
theorem dX3_factHere_86 : decode cX3_factHere 86 = .ok (.ldc 149, 2) := dk_18 149 (dk_at dksX3_factHere_3 18 rfl rfl)
theorem dX3_factHere_88 : decode cX3_factHere 88 = .ok (.invokevirtual 145, 3) := dk_182 0 145 (dk_at dksX3_factHere_3 20 rfl rfl)
theorem dX3_factHere_91 : decode cX3_factHere 91 = .ok (.ifCond .eq 7, 3) := dk_153 0 7 (dk_at dksX3_factHere_4 0 rfl rfl)
theorem dX3_factHere_94 : decode cX3_factHere 94 = .ok (.iconst 1, 1) := dk_4 (dk_at dksX3_factHere_4 3 rfl rfl)
theorem dX3_factHere_95 : decode cX3_factHere 95 = .ok (.goto 4, 3) := dk_167 0 4 (dk_at dksX3_factHere_4 4 rfl rfl)
theorem dX3_factHere_98 : decode cX3_factHere 98 = .ok (.iconst (-1), 1) := dk_2 (dk_at dksX3_factHere_4 7 rfl rfl)
theorem dX3_factHere_99 : decode cX3_factHere 99 = .ok (.istore_n 2, 1) := dk_61 (dk_at dksX3_factHere_4 8 rfl rfl)
theorem dX3_factHere_100 : decode cX3_factHere 100 = .ok (.iload_n 2, 1) := dk_28 (dk_at dksX3_factHere_4 9 rfl rfl)
theorem dX3_factHere_101 : decode cX3_factHere 101 = .ok (.iconst (-1), 1) := dk_2 (dk_at dksX3_factHere_4 10 rfl rfl)
theorem dX3_factHere_102 : decode cX3_factHere 102 = .ok (.if_icmp .eq 7, 3) := dk_159 0 7 (dk_at dksX3_factHere_4 11 rfl rfl)
theorem dX3_factHere_105 : decode cX3_factHere 105 = .ok (.aload_n 0, 1) := dk_42 (dk_at dksX3_factHere_4 14 rfl rfl)
theorem dX3_factHere_106 : decode cX3_factHere 106 = .ok (.invokevirtual 126, 3) := dk_182 0 126 (dk_at dksX3_factHere_4 15 rfl rfl)
theorem dX3_factHere_109 : decode cX3_factHere 109 = .ok (.iload_n 2, 1) := dk_28 (dk_at dksX3_factHere_4 18 rfl rfl)
theorem dX3_factHere_110 : decode cX3_factHere 110 = .ok (.ireturn, 1) := dk_172 (dk_at dksX3_factHere_4 19 rfl rfl)
abbrev cX3_reads : ByteArray := prog_13_method_15_code
def yX3_reads : MethodName := ⟨RX3, "reads", "(II)I"⟩
def dkwX3_reads_5 : List UInt8 := [21, 5, 172]
abbrev dktX3_reads_5 : List UInt8 := dkwX3_reads_5 ++ []
def dkwX3_reads_4 : List UInt8 := [21, 4, 153, 0, 16, 21, 5, 133, 27, 133, 28, 133, 184, 0, 92, 154, 0, 5, 2, 172, 42, 182, 0, 126]
abbrev dktX3_reads_4 : List UInt8 := dkwX3_reads_4 ++ dktX3_reads_5
def dkwX3_reads_3 : List UInt8 := [16, 10, 21, 5, 104, 42, 180, 0, 9, 21, 6, 46, 96, 16, 48, 100, 54, 5, 132, 6, 1, 167, 255, 193]
abbrev dktX3_reads_3 : List UInt8 := dkwX3_reads_3 ++ dktX3_reads_4
def dkwX3_reads_2 : List UInt8 := [16, 48, 161, 0, 19, 42, 180, 0, 9, 21, 6, 46, 16, 57, 163, 0, 7, 4, 167, 0, 4, 3, 54, 4]
abbrev dktX3_reads_2 : List UInt8 := dkwX3_reads_2 ++ dktX3_reads_3
def dkwX3_reads_1 : List UInt8 := [42, 180, 0, 102, 54, 6, 21, 6, 29, 162, 0, 63, 21, 4, 153, 0, 58, 42, 180, 0, 9, 21, 6, 46]
abbrev dktX3_reads_1 : List UInt8 := dkwX3_reads_1 ++ dktX3_reads_2
def dkwX3_reads_0 : List UInt8 := [42, 182, 0, 108, 62, 29, 42, 180, 0, 102, 100, 133, 10, 20, 0, 124, 184, 0, 92, 54, 4, 3, 54, 5]
abbrev dktX3_reads_0 : List UInt8 := dkwX3_reads_0 ++ dktX3_reads_1
theorem dksX3_reads_0 : cX3_reads.data.toList.drop 0 = dktX3_reads_0 := by decide +kernel
theorem dksX3_reads_1 : cX3_reads.data.toList.drop 24 = dktX3_reads_1 := dk_seg dksX3_reads_0 24 rfl rfl
theorem dksX3_reads_2 : cX3_reads.data.toList.drop 48 = dktX3_reads_2 := dk_seg dksX3_reads_1 24 rfl rfl
theorem dksX3_reads_3 : cX3_reads.data.toList.drop 72 = dktX3_reads_3 := dk_seg dksX3_reads_2 24 rfl rfl
theorem dksX3_reads_4 : cX3_reads.data.toList.drop 96 = dktX3_reads_4 := dk_seg dksX3_reads_3 24 rfl rfl
theorem dksX3_reads_5 : cX3_reads.data.toList.drop 120 = dktX3_reads_5 := dk_seg dksX3_reads_4 24 rfl rfl
theorem dX3_reads_0 : decode cX3_reads 0 = .ok (.aload_n 0, 1) := dk_42 (dk_at dksX3_reads_0 0 rfl rfl)
theorem dX3_reads_1 : decode cX3_reads 1 = .ok (.invokevirtual 108, 3) := dk_182 0 108 (dk_at dksX3_reads_0 1 rfl rfl)
theorem dX3_reads_4 : decode cX3_reads 4 = .ok (.istore_n 3, 1) := dk_62 (dk_at dksX3_reads_0 4 rfl rfl)
theorem dX3_reads_5 : decode cX3_reads 5 = .ok (.iload_n 3, 1) := dk_29 (dk_at dksX3_reads_0 5 rfl rfl)
theorem dX3_reads_6 : decode cX3_reads 6 = .ok (.aload_n 0, 1) := dk_42 (dk_at dksX3_reads_0 6 rfl rfl)
theorem dX3_reads_7 : decode cX3_reads 7 = .ok (.getfield 102, 3) := dk_180 0 102 (dk_at dksX3_reads_0 7 rfl rfl)
theorem dX3_reads_10 : decode cX3_reads 10 = .ok (.isub, 1) := dk_100 (dk_at dksX3_reads_0 10 rfl rfl)
theorem dX3_reads_11 : decode cX3_reads 11 = .ok (.i2l, 1) := dk_133 (dk_at dksX3_reads_0 11 rfl rfl)
theorem dX3_reads_12 : decode cX3_reads 12 = .ok (.lconst 1, 1) := dk_10 (dk_at dksX3_reads_0 12 rfl rfl)
theorem dX3_reads_13 : decode cX3_reads 13 = .ok (.ldc2_w 124, 3) := dk_20 0 124 (dk_at dksX3_reads_0 13 rfl rfl)
theorem dX3_reads_16 : decode cX3_reads 16 = .ok (.invokestatic 92, 3) := dk_184 0 92 (dk_at dksX3_reads_0 16 rfl rfl)
theorem dX3_reads_19 : decode cX3_reads 19 = .ok (.istore 4, 2) := dk_54 4 (dk_at dksX3_reads_0 19 rfl rfl)
theorem dX3_reads_21 : decode cX3_reads 21 = .ok (.iconst 0, 1) := dk_3 (dk_at dksX3_reads_0 21 rfl rfl)
theorem dX3_reads_22 : decode cX3_reads 22 = .ok (.istore 5, 2) := dk_54 5 (dk_at dksX3_reads_0 22 rfl rfl)
theorem dX3_reads_24 : decode cX3_reads 24 = .ok (.aload_n 0, 1) := dk_42 (dk_at dksX3_reads_1 0 rfl rfl)
theorem dX3_reads_25 : decode cX3_reads 25 = .ok (.getfield 102, 3) := dk_180 0 102 (dk_at dksX3_reads_1 1 rfl rfl)
theorem dX3_reads_28 : decode cX3_reads 28 = .ok (.istore 6, 2) := dk_54 6 (dk_at dksX3_reads_1 4 rfl rfl)
theorem dX3_reads_30 : decode cX3_reads 30 = .ok (.iload 6, 2) := dk_21 6 (dk_at dksX3_reads_1 6 rfl rfl)
theorem dX3_reads_32 : decode cX3_reads 32 = .ok (.iload_n 3, 1) := dk_29 (dk_at dksX3_reads_1 8 rfl rfl)
theorem dX3_reads_33 : decode cX3_reads 33 = .ok (.if_icmp .ge 63, 3) := dk_162 0 63 (dk_at dksX3_reads_1 9 rfl rfl)
theorem dX3_reads_36 : decode cX3_reads 36 = .ok (.iload 4, 2) := dk_21 4 (dk_at dksX3_reads_1 12 rfl rfl)
theorem dX3_reads_38 : decode cX3_reads 38 = .ok (.ifCond .eq 58, 3) := dk_153 0 58 (dk_at dksX3_reads_1 14 rfl rfl)
theorem dX3_reads_41 : decode cX3_reads 41 = .ok (.aload_n 0, 1) := dk_42 (dk_at dksX3_reads_1 17 rfl rfl)
theorem dX3_reads_42 : decode cX3_reads 42 = .ok (.getfield 9, 3) := dk_180 0 9 (dk_at dksX3_reads_1 18 rfl rfl)
theorem dX3_reads_45 : decode cX3_reads 45 = .ok (.iload 6, 2) := dk_21 6 (dk_at dksX3_reads_1 21 rfl rfl)
theorem dX3_reads_47 : decode cX3_reads 47 = .ok (.iaload, 1) := dk_46 (dk_at dksX3_reads_1 23 rfl rfl)
theorem dX3_reads_48 : decode cX3_reads 48 = .ok (.bipush 48, 2) := dk_16 48 (dk_at dksX3_reads_2 0 rfl rfl)
theorem dX3_reads_50 : decode cX3_reads 50 = .ok (.if_icmp .lt 19, 3) := dk_161 0 19 (dk_at dksX3_reads_2 2 rfl rfl)
theorem dX3_reads_53 : decode cX3_reads 53 = .ok (.aload_n 0, 1) := dk_42 (dk_at dksX3_reads_2 5 rfl rfl)
theorem dX3_reads_54 : decode cX3_reads 54 = .ok (.getfield 9, 3) := dk_180 0 9 (dk_at dksX3_reads_2 6 rfl rfl)
theorem dX3_reads_57 : decode cX3_reads 57 = .ok (.iload 6, 2) := dk_21 6 (dk_at dksX3_reads_2 9 rfl rfl)
theorem dX3_reads_59 : decode cX3_reads 59 = .ok (.iaload, 1) := dk_46 (dk_at dksX3_reads_2 11 rfl rfl)
theorem dX3_reads_60 : decode cX3_reads 60 = .ok (.bipush 57, 2) := dk_16 57 (dk_at dksX3_reads_2 12 rfl rfl)
theorem dX3_reads_62 : decode cX3_reads 62 = .ok (.if_icmp .gt 7, 3) := dk_163 0 7 (dk_at dksX3_reads_2 14 rfl rfl)
theorem dX3_reads_65 : decode cX3_reads 65 = .ok (.iconst 1, 1) := dk_4 (dk_at dksX3_reads_2 17 rfl rfl)
theorem dX3_reads_66 : decode cX3_reads 66 = .ok (.goto 4, 3) := dk_167 0 4 (dk_at dksX3_reads_2 18 rfl rfl)
theorem dX3_reads_69 : decode cX3_reads 69 = .ok (.iconst 0, 1) := dk_3 (dk_at dksX3_reads_2 21 rfl rfl)
theorem dX3_reads_70 : decode cX3_reads 70 = .ok (.istore 4, 2) := dk_54 4 (dk_at dksX3_reads_2 22 rfl rfl)
theorem dX3_reads_72 : decode cX3_reads 72 = .ok (.bipush 10, 2) := dk_16 10 (dk_at dksX3_reads_3 0 rfl rfl)
theorem dX3_reads_74 : decode cX3_reads 74 = .ok (.iload 5, 2) := dk_21 5 (dk_at dksX3_reads_3 2 rfl rfl)
theorem dX3_reads_76 : decode cX3_reads 76 = .ok (.imul, 1) := dk_104 (dk_at dksX3_reads_3 4 rfl rfl)
theorem dX3_reads_77 : decode cX3_reads 77 = .ok (.aload_n 0, 1) := dk_42 (dk_at dksX3_reads_3 5 rfl rfl)
theorem dX3_reads_78 : decode cX3_reads 78 = .ok (.getfield 9, 3) := dk_180 0 9 (dk_at dksX3_reads_3 6 rfl rfl)
theorem dX3_reads_81 : decode cX3_reads 81 = .ok (.iload 6, 2) := dk_21 6 (dk_at dksX3_reads_3 9 rfl rfl)
theorem dX3_reads_83 : decode cX3_reads 83 = .ok (.iaload, 1) := dk_46 (dk_at dksX3_reads_3 11 rfl rfl)
theorem dX3_reads_84 : decode cX3_reads 84 = .ok (.iadd, 1) := dk_96 (dk_at dksX3_reads_3 12 rfl rfl)
theorem dX3_reads_85 : decode cX3_reads 85 = .ok (.bipush 48, 2) := dk_16 48 (dk_at dksX3_reads_3 13 rfl rfl)
theorem dX3_reads_87 : decode cX3_reads 87 = .ok (.isub, 1) := dk_100 (dk_at dksX3_reads_3 15 rfl rfl)
theorem dX3_reads_88 : decode cX3_reads 88 = .ok (.istore 5, 2) := dk_54 5 (dk_at dksX3_reads_3 16 rfl rfl)
theorem dX3_reads_90 : decode cX3_reads 90 = .ok (.iinc 6 1, 3) := dk_132 6 1 (dk_at dksX3_reads_3 18 rfl rfl)
theorem dX3_reads_93 : decode cX3_reads 93 = .ok (.goto (-63), 3) := dk_167 255 193 (dk_at dksX3_reads_3 21 rfl rfl)
theorem dX3_reads_96 : decode cX3_reads 96 = .ok (.iload 4, 2) := dk_21 4 (dk_at dksX3_reads_4 0 rfl rfl)
theorem dX3_reads_98 : decode cX3_reads 98 = .ok (.ifCond .eq 16, 3) := dk_153 0 16 (dk_at dksX3_reads_4 2 rfl rfl)
theorem dX3_reads_101 : decode cX3_reads 101 = .ok (.iload 5, 2) := dk_21 5 (dk_at dksX3_reads_4 5 rfl rfl)
theorem dX3_reads_103 : decode cX3_reads 103 = .ok (.i2l, 1) := dk_133 (dk_at dksX3_reads_4 7 rfl rfl)
theorem dX3_reads_104 : decode cX3_reads 104 = .ok (.iload_n 1, 1) := dk_27 (dk_at dksX3_reads_4 8 rfl rfl)
theorem dX3_reads_105 : decode cX3_reads 105 = .ok (.i2l, 1) := dk_133 (dk_at dksX3_reads_4 9 rfl rfl)
theorem dX3_reads_106 : decode cX3_reads 106 = .ok (.iload_n 2, 1) := dk_28 (dk_at dksX3_reads_4 10 rfl rfl)
theorem dX3_reads_107 : decode cX3_reads 107 = .ok (.i2l, 1) := dk_133 (dk_at dksX3_reads_4 11 rfl rfl)
theorem dX3_reads_108 : decode cX3_reads 108 = .ok (.invokestatic 92, 3) := dk_184 0 92 (dk_at dksX3_reads_4 12 rfl rfl)
theorem dX3_reads_111 : decode cX3_reads 111 = .ok (.ifCond .ne 5, 3) := dk_154 0 5 (dk_at dksX3_reads_4 15 rfl rfl)
theorem dX3_reads_114 : decode cX3_reads 114 = .ok (.iconst (-1), 1) := dk_2 (dk_at dksX3_reads_4 18 rfl rfl)
theorem dX3_reads_115 : decode cX3_reads 115 = .ok (.ireturn, 1) := dk_172 (dk_at dksX3_reads_4 19 rfl rfl)
theorem dX3_reads_116 : decode cX3_reads 116 = .ok (.aload_n 0, 1) := dk_42 (dk_at dksX3_reads_4 20 rfl rfl)
theorem dX3_reads_117 : decode cX3_reads 117 = .ok (.invokevirtual 126, 3) := dk_182 0 126 (dk_at dksX3_reads_4 21 rfl rfl)
theorem dX3_reads_120 : decode cX3_reads 120 = .ok (.iload 5, 2) := dk_21 5 (dk_at dksX3_reads_5 0 rfl rfl)
theorem dX3_reads_122 : decode cX3_reads 122 = .ok (.ireturn, 1) := dk_172 (dk_at dksX3_reads_5 2 rfl rfl)
abbrev cX3_numberHere : ByteArray := prog_13_method_17_code
def yX3_numberHere : MethodName := ⟨RX3, "numberHere", "(I)I"⟩
def dkwX3_numberHere_1 : List UInt8 := [42, 3, 18, 134, 182, 0, 130, 167, 0, 10, 42, 3, 16, 100, 182, 0, 130, 172]
abbrev dktX3_numberHere_1 : List UInt8 := dkwX3_numberHere_1 ++ []
def dkwX3_numberHere_0 : List UInt8 := [27, 153, 0, 8, 27, 7, 160, 0, 13, 42, 3, 18, 129, 182, 0, 130, 167, 0, 25, 27, 5, 160, 0, 13]
abbrev dktX3_numberHere_0 : List UInt8 := dkwX3_numberHere_0 ++ dktX3_numberHere_1
theorem dksX3_numberHere_0 : cX3_numberHere.data.toList.drop 0 = dktX3_numberHere_0 := by decide +kernel
theorem dksX3_numberHere_1 : cX3_numberHere.data.toList.drop 24 = dktX3_numberHere_1 := dk_seg dksX3_numberHere_0 24 rfl rfl
theorem dX3_numberHere_0 : decode cX3_numberHere 0 = .ok (.iload_n 1, 1) := dk_27 (dk_at dksX3_numberHere_0 0 rfl rfl)
theorem dX3_numberHere_1 : decode cX3_numberHere 1 = .ok (.ifCond .eq 8, 3) := dk_153 0 8 (dk_at dksX3_numberHere_0 1 rfl rfl)
theorem dX3_numberHere_4 : decode cX3_numberHere 4 = .ok (.iload_n 1, 1) := dk_27 (dk_at dksX3_numberHere_0 4 rfl rfl)
theorem dX3_numberHere_5 : decode cX3_numberHere 5 = .ok (.iconst 4, 1) := dk_7 (dk_at dksX3_numberHere_0 5 rfl rfl)
theorem dX3_numberHere_6 : decode cX3_numberHere 6 = .ok (.if_icmp .ne 13, 3) := dk_160 0 13 (dk_at dksX3_numberHere_0 6 rfl rfl)
theorem dX3_numberHere_9 : decode cX3_numberHere 9 = .ok (.aload_n 0, 1) := dk_42 (dk_at dksX3_numberHere_0 9 rfl rfl)
theorem dX3_numberHere_10 : decode cX3_numberHere 10 = .ok (.iconst 0, 1) := dk_3 (dk_at dksX3_numberHere_0 10 rfl rfl)
theorem dX3_numberHere_11 : decode cX3_numberHere 11 = .ok (.ldc 129, 2) := dk_18 129 (dk_at dksX3_numberHere_0 11 rfl rfl)
theorem dX3_numberHere_13 : decode cX3_numberHere 13 = .ok (.invokevirtual 130, 3) := dk_182 0 130 (dk_at dksX3_numberHere_0 13 rfl rfl)
theorem dX3_numberHere_16 : decode cX3_numberHere 16 = .ok (.goto 25, 3) := dk_167 0 25 (dk_at dksX3_numberHere_0 16 rfl rfl)
theorem dX3_numberHere_19 : decode cX3_numberHere 19 = .ok (.iload_n 1, 1) := dk_27 (dk_at dksX3_numberHere_0 19 rfl rfl)
theorem dX3_numberHere_20 : decode cX3_numberHere 20 = .ok (.iconst 2, 1) := dk_5 (dk_at dksX3_numberHere_0 20 rfl rfl)
theorem dX3_numberHere_21 : decode cX3_numberHere 21 = .ok (.if_icmp .ne 13, 3) := dk_160 0 13 (dk_at dksX3_numberHere_0 21 rfl rfl)
theorem dX3_numberHere_24 : decode cX3_numberHere 24 = .ok (.aload_n 0, 1) := dk_42 (dk_at dksX3_numberHere_1 0 rfl rfl)
theorem dX3_numberHere_25 : decode cX3_numberHere 25 = .ok (.iconst 0, 1) := dk_3 (dk_at dksX3_numberHere_1 1 rfl rfl)
theorem dX3_numberHere_26 : decode cX3_numberHere 26 = .ok (.ldc 134, 2) := dk_18 134 (dk_at dksX3_numberHere_1 2 rfl rfl)
theorem dX3_numberHere_28 : decode cX3_numberHere 28 = .ok (.invokevirtual 130, 3) := dk_182 0 130 (dk_at dksX3_numberHere_1 4 rfl rfl)
theorem dX3_numberHere_31 : decode cX3_numberHere 31 = .ok (.goto 10, 3) := dk_167 0 10 (dk_at dksX3_numberHere_1 7 rfl rfl)
theorem dX3_numberHere_34 : decode cX3_numberHere 34 = .ok (.aload_n 0, 1) := dk_42 (dk_at dksX3_numberHere_1 10 rfl rfl)
theorem dX3_numberHere_35 : decode cX3_numberHere 35 = .ok (.iconst 0, 1) := dk_3 (dk_at dksX3_numberHere_1 11 rfl rfl)
theorem dX3_numberHere_36 : decode cX3_numberHere 36 = .ok (.bipush 100, 2) := dk_16 100 (dk_at dksX3_numberHere_1 12 rfl rfl)
theorem dX3_numberHere_38 : decode cX3_numberHere 38 = .ok (.invokevirtual 130, 3) := dk_182 0 130 (dk_at dksX3_numberHere_1 14 rfl rfl)
theorem dX3_numberHere_41 : decode cX3_numberHere 41 = .ok (.ireturn, 1) := dk_172 (dk_at dksX3_numberHere_1 17 rfl rfl)
abbrev cX3_prove : ByteArray := prog_13_method_36_code
def yX3_prove : MethodName := ⟨RX3, "prove", "(I)I"⟩
def dkwX3_prove_2 : List UInt8 := [172]
abbrev dktX3_prove_2 : List UInt8 := dkwX3_prove_2 ++ []
def dkwX3_prove_1 : List UInt8 := [167, 0, 4, 3, 182, 0, 234, 154, 0, 5, 3, 172, 42, 180, 0, 48, 27, 4, 79, 42, 3, 182, 0, 255]
abbrev dktX3_prove_1 : List UInt8 := dkwX3_prove_1 ++ dktX3_prove_2
def dkwX3_prove_0 : List UInt8 := [42, 27, 182, 0, 252, 61, 42, 28, 28, 153, 0, 16, 42, 180, 0, 48, 27, 46, 154, 0, 7, 4]
abbrev dktX3_prove_0 : List UInt8 := dkwX3_prove_0 ++ dktX3_prove_1
theorem dksX3_prove_0 : cX3_prove.data.toList.drop 0 = dktX3_prove_0 := by decide +kernel
theorem dksX3_prove_1 : cX3_prove.data.toList.drop 22 = dktX3_prove_1 := dk_seg dksX3_prove_0 22 rfl rfl
theorem dksX3_prove_2 : cX3_prove.data.toList.drop 46 = dktX3_prove_2 := dk_seg dksX3_prove_1 24 rfl rfl
theorem dX3_prove_0 : decode cX3_prove 0 = .ok (.aload_n 0, 1) := dk_42 (dk_at dksX3_prove_0 0 rfl rfl)
theorem dX3_prove_1 : decode cX3_prove 1 = .ok (.iload_n 1, 1) := dk_27 (dk_at dksX3_prove_0 1 rfl rfl)
theorem dX3_prove_2 : decode cX3_prove 2 = .ok (.invokevirtual 252, 3) := dk_182 0 252 (dk_at dksX3_prove_0 2 rfl rfl)
theorem dX3_prove_5 : decode cX3_prove 5 = .ok (.istore_n 2, 1) := dk_61 (dk_at dksX3_prove_0 5 rfl rfl)
theorem dX3_prove_6 : decode cX3_prove 6 = .ok (.aload_n 0, 1) := dk_42 (dk_at dksX3_prove_0 6 rfl rfl)
theorem dX3_prove_7 : decode cX3_prove 7 = .ok (.iload_n 2, 1) := dk_28 (dk_at dksX3_prove_0 7 rfl rfl)
theorem dX3_prove_8 : decode cX3_prove 8 = .ok (.iload_n 2, 1) := dk_28 (dk_at dksX3_prove_0 8 rfl rfl)
theorem dX3_prove_9 : decode cX3_prove 9 = .ok (.ifCond .eq 16, 3) := dk_153 0 16 (dk_at dksX3_prove_0 9 rfl rfl)
theorem dX3_prove_12 : decode cX3_prove 12 = .ok (.aload_n 0, 1) := dk_42 (dk_at dksX3_prove_0 12 rfl rfl)
theorem dX3_prove_13 : decode cX3_prove 13 = .ok (.getfield 48, 3) := dk_180 0 48 (dk_at dksX3_prove_0 13 rfl rfl)
theorem dX3_prove_16 : decode cX3_prove 16 = .ok (.iload_n 1, 1) := dk_27 (dk_at dksX3_prove_0 16 rfl rfl)
theorem dX3_prove_17 : decode cX3_prove 17 = .ok (.iaload, 1) := dk_46 (dk_at dksX3_prove_0 17 rfl rfl)
theorem dX3_prove_18 : decode cX3_prove 18 = .ok (.ifCond .ne 7, 3) := dk_154 0 7 (dk_at dksX3_prove_0 18 rfl rfl)
theorem dX3_prove_21 : decode cX3_prove 21 = .ok (.iconst 1, 1) := dk_4 (dk_at dksX3_prove_0 21 rfl rfl)
theorem dX3_prove_22 : decode cX3_prove 22 = .ok (.goto 4, 3) := dk_167 0 4 (dk_at dksX3_prove_1 0 rfl rfl)
theorem dX3_prove_25 : decode cX3_prove 25 = .ok (.iconst 0, 1) := dk_3 (dk_at dksX3_prove_1 3 rfl rfl)
theorem dX3_prove_26 : decode cX3_prove 26 = .ok (.invokevirtual 234, 3) := dk_182 0 234 (dk_at dksX3_prove_1 4 rfl rfl)
theorem dX3_prove_29 : decode cX3_prove 29 = .ok (.ifCond .ne 5, 3) := dk_154 0 5 (dk_at dksX3_prove_1 7 rfl rfl)
theorem dX3_prove_32 : decode cX3_prove 32 = .ok (.iconst 0, 1) := dk_3 (dk_at dksX3_prove_1 10 rfl rfl)
theorem dX3_prove_33 : decode cX3_prove 33 = .ok (.ireturn, 1) := dk_172 (dk_at dksX3_prove_1 11 rfl rfl)
theorem dX3_prove_34 : decode cX3_prove 34 = .ok (.aload_n 0, 1) := dk_42 (dk_at dksX3_prove_1 12 rfl rfl)
theorem dX3_prove_35 : decode cX3_prove 35 = .ok (.getfield 48, 3) := dk_180 0 48 (dk_at dksX3_prove_1 13 rfl rfl)
theorem dX3_prove_38 : decode cX3_prove 38 = .ok (.iload_n 1, 1) := dk_27 (dk_at dksX3_prove_1 16 rfl rfl)
theorem dX3_prove_39 : decode cX3_prove 39 = .ok (.iconst 1, 1) := dk_4 (dk_at dksX3_prove_1 17 rfl rfl)
theorem dX3_prove_40 : decode cX3_prove 40 = .ok (.iastore, 1) := dk_79 (dk_at dksX3_prove_1 18 rfl rfl)
theorem dX3_prove_41 : decode cX3_prove 41 = .ok (.aload_n 0, 1) := dk_42 (dk_at dksX3_prove_1 19 rfl rfl)
theorem dX3_prove_42 : decode cX3_prove 42 = .ok (.iconst 0, 1) := dk_3 (dk_at dksX3_prove_1 20 rfl rfl)
theorem dX3_prove_43 : decode cX3_prove 43 = .ok (.invokevirtual 255, 3) := dk_182 0 255 (dk_at dksX3_prove_1 21 rfl rfl)
theorem dX3_prove_46 : decode cX3_prove 46 = .ok (.ireturn, 1) := dk_172 (dk_at dksX3_prove_2 0 rfl rfl)
abbrev cX3_isForm : ByteArray := prog_13_method_8_code
def yX3_isForm : MethodName := ⟨RX3, "isForm", "(I)Z"⟩
def dkwX3_isForm_0 : List UInt8 := [27, 133, 9, 42, 180, 0, 96, 133, 10, 101, 184, 0, 92, 172]
abbrev dktX3_isForm_0 : List UInt8 := dkwX3_isForm_0 ++ []
theorem dksX3_isForm_0 : cX3_isForm.data.toList.drop 0 = dktX3_isForm_0 := by decide +kernel
theorem dX3_isForm_0 : decode cX3_isForm 0 = .ok (.iload_n 1, 1) := dk_27 (dk_at dksX3_isForm_0 0 rfl rfl)
theorem dX3_isForm_1 : decode cX3_isForm 1 = .ok (.i2l, 1) := dk_133 (dk_at dksX3_isForm_0 1 rfl rfl)
theorem dX3_isForm_2 : decode cX3_isForm 2 = .ok (.lconst 0, 1) := dk_9 (dk_at dksX3_isForm_0 2 rfl rfl)
theorem dX3_isForm_3 : decode cX3_isForm 3 = .ok (.aload_n 0, 1) := dk_42 (dk_at dksX3_isForm_0 3 rfl rfl)
theorem dX3_isForm_4 : decode cX3_isForm 4 = .ok (.getfield 96, 3) := dk_180 0 96 (dk_at dksX3_isForm_0 4 rfl rfl)
theorem dX3_isForm_7 : decode cX3_isForm 7 = .ok (.i2l, 1) := dk_133 (dk_at dksX3_isForm_0 7 rfl rfl)
theorem dX3_isForm_8 : decode cX3_isForm 8 = .ok (.lconst 1, 1) := dk_10 (dk_at dksX3_isForm_0 8 rfl rfl)
theorem dX3_isForm_9 : decode cX3_isForm 9 = .ok (.lsub, 1) := dk_101 (dk_at dksX3_isForm_0 9 rfl rfl)
theorem dX3_isForm_10 : decode cX3_isForm 10 = .ok (.invokestatic 92, 3) := dk_184 0 92 (dk_at dksX3_isForm_0 10 rfl rfl)
theorem dX3_isForm_13 : decode cX3_isForm 13 = .ok (.ireturn, 1) := dk_172 (dk_at dksX3_isForm_0 13 rfl rfl)
abbrev cX3_formsIn : ByteArray := prog_13_method_35_code
def yX3_formsIn : MethodName := ⟨RX3, "formsIn", "(I)I"⟩
def dkwX3_formsIn_1 : List UInt8 := [167, 0, 4, 3, 96, 61, 132, 3, 1, 167, 255, 227, 28, 172]
abbrev dktX3_formsIn_1 : List UInt8 := dkwX3_formsIn_1 ++ []
def dkwX3_formsIn_0 : List UInt8 := [3, 61, 3, 62, 29, 42, 180, 0, 96, 162, 0, 27, 28, 42, 180, 0, 48, 29, 46, 27, 160, 0, 7, 4]
abbrev dktX3_formsIn_0 : List UInt8 := dkwX3_formsIn_0 ++ dktX3_formsIn_1
theorem dksX3_formsIn_0 : cX3_formsIn.data.toList.drop 0 = dktX3_formsIn_0 := by decide +kernel
theorem dksX3_formsIn_1 : cX3_formsIn.data.toList.drop 24 = dktX3_formsIn_1 := dk_seg dksX3_formsIn_0 24 rfl rfl
theorem dX3_formsIn_0 : decode cX3_formsIn 0 = .ok (.iconst 0, 1) := dk_3 (dk_at dksX3_formsIn_0 0 rfl rfl)
theorem dX3_formsIn_1 : decode cX3_formsIn 1 = .ok (.istore_n 2, 1) := dk_61 (dk_at dksX3_formsIn_0 1 rfl rfl)
theorem dX3_formsIn_2 : decode cX3_formsIn 2 = .ok (.iconst 0, 1) := dk_3 (dk_at dksX3_formsIn_0 2 rfl rfl)
theorem dX3_formsIn_3 : decode cX3_formsIn 3 = .ok (.istore_n 3, 1) := dk_62 (dk_at dksX3_formsIn_0 3 rfl rfl)
theorem dX3_formsIn_4 : decode cX3_formsIn 4 = .ok (.iload_n 3, 1) := dk_29 (dk_at dksX3_formsIn_0 4 rfl rfl)
theorem dX3_formsIn_5 : decode cX3_formsIn 5 = .ok (.aload_n 0, 1) := dk_42 (dk_at dksX3_formsIn_0 5 rfl rfl)
theorem dX3_formsIn_6 : decode cX3_formsIn 6 = .ok (.getfield 96, 3) := dk_180 0 96 (dk_at dksX3_formsIn_0 6 rfl rfl)
theorem dX3_formsIn_9 : decode cX3_formsIn 9 = .ok (.if_icmp .ge 27, 3) := dk_162 0 27 (dk_at dksX3_formsIn_0 9 rfl rfl)
theorem dX3_formsIn_12 : decode cX3_formsIn 12 = .ok (.iload_n 2, 1) := dk_28 (dk_at dksX3_formsIn_0 12 rfl rfl)
theorem dX3_formsIn_13 : decode cX3_formsIn 13 = .ok (.aload_n 0, 1) := dk_42 (dk_at dksX3_formsIn_0 13 rfl rfl)
theorem dX3_formsIn_14 : decode cX3_formsIn 14 = .ok (.getfield 48, 3) := dk_180 0 48 (dk_at dksX3_formsIn_0 14 rfl rfl)
theorem dX3_formsIn_17 : decode cX3_formsIn 17 = .ok (.iload_n 3, 1) := dk_29 (dk_at dksX3_formsIn_0 17 rfl rfl)
theorem dX3_formsIn_18 : decode cX3_formsIn 18 = .ok (.iaload, 1) := dk_46 (dk_at dksX3_formsIn_0 18 rfl rfl)
theorem dX3_formsIn_19 : decode cX3_formsIn 19 = .ok (.iload_n 1, 1) := dk_27 (dk_at dksX3_formsIn_0 19 rfl rfl)
theorem dX3_formsIn_20 : decode cX3_formsIn 20 = .ok (.if_icmp .ne 7, 3) := dk_160 0 7 (dk_at dksX3_formsIn_0 20 rfl rfl)
theorem dX3_formsIn_23 : decode cX3_formsIn 23 = .ok (.iconst 1, 1) := dk_4 (dk_at dksX3_formsIn_0 23 rfl rfl)
theorem dX3_formsIn_24 : decode cX3_formsIn 24 = .ok (.goto 4, 3) := dk_167 0 4 (dk_at dksX3_formsIn_1 0 rfl rfl)
theorem dX3_formsIn_27 : decode cX3_formsIn 27 = .ok (.iconst 0, 1) := dk_3 (dk_at dksX3_formsIn_1 3 rfl rfl)
theorem dX3_formsIn_28 : decode cX3_formsIn 28 = .ok (.iadd, 1) := dk_96 (dk_at dksX3_formsIn_1 4 rfl rfl)
theorem dX3_formsIn_29 : decode cX3_formsIn 29 = .ok (.istore_n 2, 1) := dk_61 (dk_at dksX3_formsIn_1 5 rfl rfl)
theorem dX3_formsIn_30 : decode cX3_formsIn 30 = .ok (.iinc 3 1, 3) := dk_132 3 1 (dk_at dksX3_formsIn_1 6 rfl rfl)
theorem dX3_formsIn_33 : decode cX3_formsIn 33 = .ok (.goto (-29), 3) := dk_167 255 227 (dk_at dksX3_formsIn_1 9 rfl rfl)
theorem dX3_formsIn_36 : decode cX3_formsIn 36 = .ok (.iload_n 2, 1) := dk_28 (dk_at dksX3_formsIn_1 12 rfl rfl)
theorem dX3_formsIn_37 : decode cX3_formsIn 37 = .ok (.ireturn, 1) := dk_172 (dk_at dksX3_formsIn_1 13 rfl rfl)
abbrev cX3_rule : ByteArray := prog_13_method_37_code
def yX3_rule : MethodName := ⟨RX3, "rule", "(IZ)I"⟩
def dkwX3_rule_10 : List UInt8 := [172]
abbrev dktX3_rule_10 : List UInt8 := dkwX3_rule_10 ++ []
def dkwX3_rule_9 : List UInt8 := [3, 84, 132, 5, 1, 167, 255, 211, 42, 89, 180, 0, 54, 4, 96, 181, 0, 54, 42, 180, 0, 54, 4, 100]
abbrev dktX3_rule_9 : List UInt8 := dkwX3_rule_9 ++ dktX3_rule_10
def dkwX3_rule_8 : List UInt8 := [180, 0, 54, 104, 21, 5, 96, 28, 153, 0, 12, 42, 21, 5, 182, 0, 178, 154, 0, 7, 4, 167, 0, 4]
abbrev dktX3_rule_8 : List UInt8 := dkwX3_rule_8 ++ dktX3_rule_9
def dkwX3_rule_7 : List UInt8 := [180, 0, 54, 28, 84, 3, 54, 5, 21, 5, 42, 180, 0, 89, 162, 0, 42, 42, 180, 0, 68, 16, 10, 42]
abbrev dktX3_rule_7 : List UInt8 := dkwX3_rule_7 ++ dktX3_rule_8
def dkwX3_rule_6 : List UInt8 := [46, 79, 132, 5, 1, 167, 255, 196, 42, 180, 0, 61, 42, 180, 0, 54, 27, 79, 42, 180, 0, 64, 42]
abbrev dktX3_rule_6 : List UInt8 := dkwX3_rule_6 ++ dktX3_rule_7
def dkwX3_rule_5 : List UInt8 := [180, 0, 58, 8, 42, 180, 0, 54, 104, 8, 100, 21, 5, 96, 46, 167, 0, 10, 42, 180, 0, 81, 21, 5]
abbrev dktX3_rule_5 : List UInt8 := dkwX3_rule_5 ++ dktX3_rule_6
def dkwX3_rule_4 : List UInt8 := [180, 0, 58, 8, 42, 180, 0, 54, 104, 21, 5, 96, 42, 180, 0, 81, 21, 5, 46, 2, 160, 0, 22, 42]
abbrev dktX3_rule_4 : List UInt8 := dkwX3_rule_4 ++ dktX3_rule_5
def dkwX3_rule_3 : List UInt8 := [21, 4, 154, 0, 11, 16, 254, 42, 180, 0, 102, 100, 172, 3, 54, 5, 21, 5, 8, 162, 0, 60, 42]
abbrev dktX3_rule_3 : List UInt8 := dkwX3_rule_3 ++ dktX3_rule_4
def dkwX3_rule_2 : List UInt8 := [167, 0, 4, 3, 182, 0, 234, 154, 0, 5, 3, 172, 42, 3, 182, 0, 249, 54, 4, 42, 3, 181, 0, 105]
abbrev dktX3_rule_2 : List UInt8 := dkwX3_rule_2 ++ dktX3_rule_3
def dkwX3_rule_1 : List UInt8 := [133, 10, 97, 20, 1, 2, 184, 0, 92, 62, 42, 29, 42, 180, 0, 54, 16, 12, 162, 0, 7, 4]
abbrev dktX3_rule_1 : List UInt8 := dkwX3_rule_1 ++ dktX3_rule_2
def dkwX3_rule_0 : List UInt8 := [28, 153, 0, 17, 27, 133, 9, 42, 180, 0, 135, 133, 184, 0, 92, 167, 0, 18, 27, 133, 42, 180, 0, 135]
abbrev dktX3_rule_0 : List UInt8 := dkwX3_rule_0 ++ dktX3_rule_1
theorem dksX3_rule_0 : cX3_rule.data.toList.drop 0 = dktX3_rule_0 := by decide +kernel
theorem dksX3_rule_1 : cX3_rule.data.toList.drop 24 = dktX3_rule_1 := dk_seg dksX3_rule_0 24 rfl rfl
theorem dksX3_rule_2 : cX3_rule.data.toList.drop 46 = dktX3_rule_2 := dk_seg dksX3_rule_1 22 rfl rfl
theorem dksX3_rule_3 : cX3_rule.data.toList.drop 70 = dktX3_rule_3 := dk_seg dksX3_rule_2 24 rfl rfl
theorem dksX3_rule_4 : cX3_rule.data.toList.drop 93 = dktX3_rule_4 := dk_seg dksX3_rule_3 23 rfl rfl
theorem dksX3_rule_5 : cX3_rule.data.toList.drop 117 = dktX3_rule_5 := dk_seg dksX3_rule_4 24 rfl rfl
theorem dksX3_rule_6 : cX3_rule.data.toList.drop 141 = dktX3_rule_6 := dk_seg dksX3_rule_5 24 rfl rfl
theorem dksX3_rule_7 : cX3_rule.data.toList.drop 164 = dktX3_rule_7 := dk_seg dksX3_rule_6 23 rfl rfl
theorem dksX3_rule_8 : cX3_rule.data.toList.drop 188 = dktX3_rule_8 := dk_seg dksX3_rule_7 24 rfl rfl
theorem dksX3_rule_9 : cX3_rule.data.toList.drop 212 = dktX3_rule_9 := dk_seg dksX3_rule_8 24 rfl rfl
theorem dksX3_rule_10 : cX3_rule.data.toList.drop 236 = dktX3_rule_10 := dk_seg dksX3_rule_9 24 rfl rfl
theorem dX3_rule_0 : decode cX3_rule 0 = .ok (.iload_n 2, 1) := dk_28 (dk_at dksX3_rule_0 0 rfl rfl)
theorem dX3_rule_1 : decode cX3_rule 1 = .ok (.ifCond .eq 17, 3) := dk_153 0 17 (dk_at dksX3_rule_0 1 rfl rfl)
theorem dX3_rule_4 : decode cX3_rule 4 = .ok (.iload_n 1, 1) := dk_27 (dk_at dksX3_rule_0 4 rfl rfl)
theorem dX3_rule_5 : decode cX3_rule 5 = .ok (.i2l, 1) := dk_133 (dk_at dksX3_rule_0 5 rfl rfl)
theorem dX3_rule_6 : decode cX3_rule 6 = .ok (.lconst 0, 1) := dk_9 (dk_at dksX3_rule_0 6 rfl rfl)
theorem dX3_rule_7 : decode cX3_rule 7 = .ok (.aload_n 0, 1) := dk_42 (dk_at dksX3_rule_0 7 rfl rfl)
theorem dX3_rule_8 : decode cX3_rule 8 = .ok (.getfield 135, 3) := dk_180 0 135 (dk_at dksX3_rule_0 8 rfl rfl)
theorem dX3_rule_11 : decode cX3_rule 11 = .ok (.i2l, 1) := dk_133 (dk_at dksX3_rule_0 11 rfl rfl)
theorem dX3_rule_12 : decode cX3_rule 12 = .ok (.invokestatic 92, 3) := dk_184 0 92 (dk_at dksX3_rule_0 12 rfl rfl)
theorem dX3_rule_15 : decode cX3_rule 15 = .ok (.goto 18, 3) := dk_167 0 18 (dk_at dksX3_rule_0 15 rfl rfl)
theorem dX3_rule_18 : decode cX3_rule 18 = .ok (.iload_n 1, 1) := dk_27 (dk_at dksX3_rule_0 18 rfl rfl)
theorem dX3_rule_19 : decode cX3_rule 19 = .ok (.i2l, 1) := dk_133 (dk_at dksX3_rule_0 19 rfl rfl)
theorem dX3_rule_20 : decode cX3_rule 20 = .ok (.aload_n 0, 1) := dk_42 (dk_at dksX3_rule_0 20 rfl rfl)
theorem dX3_rule_21 : decode cX3_rule 21 = .ok (.getfield 135, 3) := dk_180 0 135 (dk_at dksX3_rule_0 21 rfl rfl)
theorem dX3_rule_24 : decode cX3_rule 24 = .ok (.i2l, 1) := dk_133 (dk_at dksX3_rule_1 0 rfl rfl)
theorem dX3_rule_25 : decode cX3_rule 25 = .ok (.lconst 1, 1) := dk_10 (dk_at dksX3_rule_1 1 rfl rfl)
theorem dX3_rule_26 : decode cX3_rule 26 = .ok (.ladd, 1) := dk_97 (dk_at dksX3_rule_1 2 rfl rfl)
theorem dX3_rule_27 : decode cX3_rule 27 = .ok (.ldc2_w 258, 3) := dk_20 1 2 (dk_at dksX3_rule_1 3 rfl rfl)
theorem dX3_rule_30 : decode cX3_rule 30 = .ok (.invokestatic 92, 3) := dk_184 0 92 (dk_at dksX3_rule_1 6 rfl rfl)
theorem dX3_rule_33 : decode cX3_rule 33 = .ok (.istore_n 3, 1) := dk_62 (dk_at dksX3_rule_1 9 rfl rfl)
theorem dX3_rule_34 : decode cX3_rule 34 = .ok (.aload_n 0, 1) := dk_42 (dk_at dksX3_rule_1 10 rfl rfl)
theorem dX3_rule_35 : decode cX3_rule 35 = .ok (.iload_n 3, 1) := dk_29 (dk_at dksX3_rule_1 11 rfl rfl)
theorem dX3_rule_36 : decode cX3_rule 36 = .ok (.aload_n 0, 1) := dk_42 (dk_at dksX3_rule_1 12 rfl rfl)
theorem dX3_rule_37 : decode cX3_rule 37 = .ok (.getfield 54, 3) := dk_180 0 54 (dk_at dksX3_rule_1 13 rfl rfl)
theorem dX3_rule_40 : decode cX3_rule 40 = .ok (.bipush 12, 2) := dk_16 12 (dk_at dksX3_rule_1 16 rfl rfl)
theorem dX3_rule_42 : decode cX3_rule 42 = .ok (.if_icmp .ge 7, 3) := dk_162 0 7 (dk_at dksX3_rule_1 18 rfl rfl)
theorem dX3_rule_45 : decode cX3_rule 45 = .ok (.iconst 1, 1) := dk_4 (dk_at dksX3_rule_1 21 rfl rfl)
theorem dX3_rule_46 : decode cX3_rule 46 = .ok (.goto 4, 3) := dk_167 0 4 (dk_at dksX3_rule_2 0 rfl rfl)
theorem dX3_rule_49 : decode cX3_rule 49 = .ok (.iconst 0, 1) := dk_3 (dk_at dksX3_rule_2 3 rfl rfl)
theorem dX3_rule_50 : decode cX3_rule 50 = .ok (.invokevirtual 234, 3) := dk_182 0 234 (dk_at dksX3_rule_2 4 rfl rfl)
theorem dX3_rule_53 : decode cX3_rule 53 = .ok (.ifCond .ne 5, 3) := dk_154 0 5 (dk_at dksX3_rule_2 7 rfl rfl)
theorem dX3_rule_56 : decode cX3_rule 56 = .ok (.iconst 0, 1) := dk_3 (dk_at dksX3_rule_2 10 rfl rfl)
theorem dX3_rule_57 : decode cX3_rule 57 = .ok (.ireturn, 1) := dk_172 (dk_at dksX3_rule_2 11 rfl rfl)
theorem dX3_rule_58 : decode cX3_rule 58 = .ok (.aload_n 0, 1) := dk_42 (dk_at dksX3_rule_2 12 rfl rfl)
theorem dX3_rule_59 : decode cX3_rule 59 = .ok (.iconst 0, 1) := dk_3 (dk_at dksX3_rule_2 13 rfl rfl)
theorem dX3_rule_60 : decode cX3_rule 60 = .ok (.invokevirtual 249, 3) := dk_182 0 249 (dk_at dksX3_rule_2 14 rfl rfl)
theorem dX3_rule_63 : decode cX3_rule 63 = .ok (.istore 4, 2) := dk_54 4 (dk_at dksX3_rule_2 17 rfl rfl)
theorem dX3_rule_65 : decode cX3_rule 65 = .ok (.aload_n 0, 1) := dk_42 (dk_at dksX3_rule_2 19 rfl rfl)
theorem dX3_rule_66 : decode cX3_rule 66 = .ok (.iconst 0, 1) := dk_3 (dk_at dksX3_rule_2 20 rfl rfl)
theorem dX3_rule_67 : decode cX3_rule 67 = .ok (.putfield 105, 3) := dk_181 0 105 (dk_at dksX3_rule_2 21 rfl rfl)
theorem dX3_rule_70 : decode cX3_rule 70 = .ok (.iload 4, 2) := dk_21 4 (dk_at dksX3_rule_3 0 rfl rfl)
theorem dX3_rule_72 : decode cX3_rule 72 = .ok (.ifCond .ne 11, 3) := dk_154 0 11 (dk_at dksX3_rule_3 2 rfl rfl)
theorem dX3_rule_75 : decode cX3_rule 75 = .ok (.bipush (-2), 2) := dk_16 254 (dk_at dksX3_rule_3 5 rfl rfl)
theorem dX3_rule_77 : decode cX3_rule 77 = .ok (.aload_n 0, 1) := dk_42 (dk_at dksX3_rule_3 7 rfl rfl)
theorem dX3_rule_78 : decode cX3_rule 78 = .ok (.getfield 102, 3) := dk_180 0 102 (dk_at dksX3_rule_3 8 rfl rfl)
theorem dX3_rule_81 : decode cX3_rule 81 = .ok (.isub, 1) := dk_100 (dk_at dksX3_rule_3 11 rfl rfl)
theorem dX3_rule_82 : decode cX3_rule 82 = .ok (.ireturn, 1) := dk_172 (dk_at dksX3_rule_3 12 rfl rfl)
theorem dX3_rule_83 : decode cX3_rule 83 = .ok (.iconst 0, 1) := dk_3 (dk_at dksX3_rule_3 13 rfl rfl)
theorem dX3_rule_84 : decode cX3_rule 84 = .ok (.istore 5, 2) := dk_54 5 (dk_at dksX3_rule_3 14 rfl rfl)
theorem dX3_rule_86 : decode cX3_rule 86 = .ok (.iload 5, 2) := dk_21 5 (dk_at dksX3_rule_3 16 rfl rfl)
theorem dX3_rule_88 : decode cX3_rule 88 = .ok (.iconst 5, 1) := dk_8 (dk_at dksX3_rule_3 18 rfl rfl)
theorem dX3_rule_89 : decode cX3_rule 89 = .ok (.if_icmp .ge 60, 3) := dk_162 0 60 (dk_at dksX3_rule_3 19 rfl rfl)
theorem dX3_rule_92 : decode cX3_rule 92 = .ok (.aload_n 0, 1) := dk_42 (dk_at dksX3_rule_3 22 rfl rfl)
theorem dX3_rule_93 : decode cX3_rule 93 = .ok (.getfield 58, 3) := dk_180 0 58 (dk_at dksX3_rule_4 0 rfl rfl)
theorem dX3_rule_96 : decode cX3_rule 96 = .ok (.iconst 5, 1) := dk_8 (dk_at dksX3_rule_4 3 rfl rfl)
theorem dX3_rule_97 : decode cX3_rule 97 = .ok (.aload_n 0, 1) := dk_42 (dk_at dksX3_rule_4 4 rfl rfl)
theorem dX3_rule_98 : decode cX3_rule 98 = .ok (.getfield 54, 3) := dk_180 0 54 (dk_at dksX3_rule_4 5 rfl rfl)
theorem dX3_rule_101 : decode cX3_rule 101 = .ok (.imul, 1) := dk_104 (dk_at dksX3_rule_4 8 rfl rfl)
theorem dX3_rule_102 : decode cX3_rule 102 = .ok (.iload 5, 2) := dk_21 5 (dk_at dksX3_rule_4 9 rfl rfl)
theorem dX3_rule_104 : decode cX3_rule 104 = .ok (.iadd, 1) := dk_96 (dk_at dksX3_rule_4 11 rfl rfl)
theorem dX3_rule_105 : decode cX3_rule 105 = .ok (.aload_n 0, 1) := dk_42 (dk_at dksX3_rule_4 12 rfl rfl)
theorem dX3_rule_106 : decode cX3_rule 106 = .ok (.getfield 81, 3) := dk_180 0 81 (dk_at dksX3_rule_4 13 rfl rfl)
theorem dX3_rule_109 : decode cX3_rule 109 = .ok (.iload 5, 2) := dk_21 5 (dk_at dksX3_rule_4 16 rfl rfl)
theorem dX3_rule_111 : decode cX3_rule 111 = .ok (.iaload, 1) := dk_46 (dk_at dksX3_rule_4 18 rfl rfl)
theorem dX3_rule_112 : decode cX3_rule 112 = .ok (.iconst (-1), 1) := dk_2 (dk_at dksX3_rule_4 19 rfl rfl)
theorem dX3_rule_113 : decode cX3_rule 113 = .ok (.if_icmp .ne 22, 3) := dk_160 0 22 (dk_at dksX3_rule_4 20 rfl rfl)
theorem dX3_rule_116 : decode cX3_rule 116 = .ok (.aload_n 0, 1) := dk_42 (dk_at dksX3_rule_4 23 rfl rfl)
theorem dX3_rule_117 : decode cX3_rule 117 = .ok (.getfield 58, 3) := dk_180 0 58 (dk_at dksX3_rule_5 0 rfl rfl)
theorem dX3_rule_120 : decode cX3_rule 120 = .ok (.iconst 5, 1) := dk_8 (dk_at dksX3_rule_5 3 rfl rfl)
theorem dX3_rule_121 : decode cX3_rule 121 = .ok (.aload_n 0, 1) := dk_42 (dk_at dksX3_rule_5 4 rfl rfl)
theorem dX3_rule_122 : decode cX3_rule 122 = .ok (.getfield 54, 3) := dk_180 0 54 (dk_at dksX3_rule_5 5 rfl rfl)
theorem dX3_rule_125 : decode cX3_rule 125 = .ok (.imul, 1) := dk_104 (dk_at dksX3_rule_5 8 rfl rfl)
theorem dX3_rule_126 : decode cX3_rule 126 = .ok (.iconst 5, 1) := dk_8 (dk_at dksX3_rule_5 9 rfl rfl)
theorem dX3_rule_127 : decode cX3_rule 127 = .ok (.isub, 1) := dk_100 (dk_at dksX3_rule_5 10 rfl rfl)
theorem dX3_rule_128 : decode cX3_rule 128 = .ok (.iload 5, 2) := dk_21 5 (dk_at dksX3_rule_5 11 rfl rfl)
theorem dX3_rule_130 : decode cX3_rule 130 = .ok (.iadd, 1) := dk_96 (dk_at dksX3_rule_5 13 rfl rfl)
theorem dX3_rule_131 : decode cX3_rule 131 = .ok (.iaload, 1) := dk_46 (dk_at dksX3_rule_5 14 rfl rfl)
theorem dX3_rule_132 : decode cX3_rule 132 = .ok (.goto 10, 3) := dk_167 0 10 (dk_at dksX3_rule_5 15 rfl rfl)
theorem dX3_rule_135 : decode cX3_rule 135 = .ok (.aload_n 0, 1) := dk_42 (dk_at dksX3_rule_5 18 rfl rfl)
theorem dX3_rule_136 : decode cX3_rule 136 = .ok (.getfield 81, 3) := dk_180 0 81 (dk_at dksX3_rule_5 19 rfl rfl)
theorem dX3_rule_139 : decode cX3_rule 139 = .ok (.iload 5, 2) := dk_21 5 (dk_at dksX3_rule_5 22 rfl rfl)
theorem dX3_rule_141 : decode cX3_rule 141 = .ok (.iaload, 1) := dk_46 (dk_at dksX3_rule_6 0 rfl rfl)
theorem dX3_rule_142 : decode cX3_rule 142 = .ok (.iastore, 1) := dk_79 (dk_at dksX3_rule_6 1 rfl rfl)
theorem dX3_rule_143 : decode cX3_rule 143 = .ok (.iinc 5 1, 3) := dk_132 5 1 (dk_at dksX3_rule_6 2 rfl rfl)
theorem dX3_rule_146 : decode cX3_rule 146 = .ok (.goto (-60), 3) := dk_167 255 196 (dk_at dksX3_rule_6 5 rfl rfl)
theorem dX3_rule_149 : decode cX3_rule 149 = .ok (.aload_n 0, 1) := dk_42 (dk_at dksX3_rule_6 8 rfl rfl)
theorem dX3_rule_150 : decode cX3_rule 150 = .ok (.getfield 61, 3) := dk_180 0 61 (dk_at dksX3_rule_6 9 rfl rfl)
theorem dX3_rule_153 : decode cX3_rule 153 = .ok (.aload_n 0, 1) := dk_42 (dk_at dksX3_rule_6 12 rfl rfl)
theorem dX3_rule_154 : decode cX3_rule 154 = .ok (.getfield 54, 3) := dk_180 0 54 (dk_at dksX3_rule_6 13 rfl rfl)
theorem dX3_rule_157 : decode cX3_rule 157 = .ok (.iload_n 1, 1) := dk_27 (dk_at dksX3_rule_6 16 rfl rfl)
theorem dX3_rule_158 : decode cX3_rule 158 = .ok (.iastore, 1) := dk_79 (dk_at dksX3_rule_6 17 rfl rfl)
theorem dX3_rule_159 : decode cX3_rule 159 = .ok (.aload_n 0, 1) := dk_42 (dk_at dksX3_rule_6 18 rfl rfl)
theorem dX3_rule_160 : decode cX3_rule 160 = .ok (.getfield 64, 3) := dk_180 0 64 (dk_at dksX3_rule_6 19 rfl rfl)
theorem dX3_rule_163 : decode cX3_rule 163 = .ok (.aload_n 0, 1) := dk_42 (dk_at dksX3_rule_6 22 rfl rfl)
theorem dX3_rule_164 : decode cX3_rule 164 = .ok (.getfield 54, 3) := dk_180 0 54 (dk_at dksX3_rule_7 0 rfl rfl)
theorem dX3_rule_167 : decode cX3_rule 167 = .ok (.iload_n 2, 1) := dk_28 (dk_at dksX3_rule_7 3 rfl rfl)
theorem dX3_rule_168 : decode cX3_rule 168 = .ok (.bastore, 1) := dk_84 (dk_at dksX3_rule_7 4 rfl rfl)
theorem dX3_rule_169 : decode cX3_rule 169 = .ok (.iconst 0, 1) := dk_3 (dk_at dksX3_rule_7 5 rfl rfl)
theorem dX3_rule_170 : decode cX3_rule 170 = .ok (.istore 5, 2) := dk_54 5 (dk_at dksX3_rule_7 6 rfl rfl)
theorem dX3_rule_172 : decode cX3_rule 172 = .ok (.iload 5, 2) := dk_21 5 (dk_at dksX3_rule_7 8 rfl rfl)
theorem dX3_rule_174 : decode cX3_rule 174 = .ok (.aload_n 0, 1) := dk_42 (dk_at dksX3_rule_7 10 rfl rfl)
theorem dX3_rule_175 : decode cX3_rule 175 = .ok (.getfield 89, 3) := dk_180 0 89 (dk_at dksX3_rule_7 11 rfl rfl)
theorem dX3_rule_178 : decode cX3_rule 178 = .ok (.if_icmp .ge 42, 3) := dk_162 0 42 (dk_at dksX3_rule_7 14 rfl rfl)
theorem dX3_rule_181 : decode cX3_rule 181 = .ok (.aload_n 0, 1) := dk_42 (dk_at dksX3_rule_7 17 rfl rfl)
theorem dX3_rule_182 : decode cX3_rule 182 = .ok (.getfield 68, 3) := dk_180 0 68 (dk_at dksX3_rule_7 18 rfl rfl)
theorem dX3_rule_185 : decode cX3_rule 185 = .ok (.bipush 10, 2) := dk_16 10 (dk_at dksX3_rule_7 21 rfl rfl)
theorem dX3_rule_187 : decode cX3_rule 187 = .ok (.aload_n 0, 1) := dk_42 (dk_at dksX3_rule_7 23 rfl rfl)
theorem dX3_rule_188 : decode cX3_rule 188 = .ok (.getfield 54, 3) := dk_180 0 54 (dk_at dksX3_rule_8 0 rfl rfl)
theorem dX3_rule_191 : decode cX3_rule 191 = .ok (.imul, 1) := dk_104 (dk_at dksX3_rule_8 3 rfl rfl)
theorem dX3_rule_192 : decode cX3_rule 192 = .ok (.iload 5, 2) := dk_21 5 (dk_at dksX3_rule_8 4 rfl rfl)
theorem dX3_rule_194 : decode cX3_rule 194 = .ok (.iadd, 1) := dk_96 (dk_at dksX3_rule_8 6 rfl rfl)
theorem dX3_rule_195 : decode cX3_rule 195 = .ok (.iload_n 2, 1) := dk_28 (dk_at dksX3_rule_8 7 rfl rfl)
theorem dX3_rule_196 : decode cX3_rule 196 = .ok (.ifCond .eq 12, 3) := dk_153 0 12 (dk_at dksX3_rule_8 8 rfl rfl)
theorem dX3_rule_199 : decode cX3_rule 199 = .ok (.aload_n 0, 1) := dk_42 (dk_at dksX3_rule_8 11 rfl rfl)
theorem dX3_rule_200 : decode cX3_rule 200 = .ok (.iload 5, 2) := dk_21 5 (dk_at dksX3_rule_8 12 rfl rfl)
theorem dX3_rule_202 : decode cX3_rule 202 = .ok (.invokevirtual 178, 3) := dk_182 0 178 (dk_at dksX3_rule_8 14 rfl rfl)
theorem dX3_rule_205 : decode cX3_rule 205 = .ok (.ifCond .ne 7, 3) := dk_154 0 7 (dk_at dksX3_rule_8 17 rfl rfl)
theorem dX3_rule_208 : decode cX3_rule 208 = .ok (.iconst 1, 1) := dk_4 (dk_at dksX3_rule_8 20 rfl rfl)
theorem dX3_rule_209 : decode cX3_rule 209 = .ok (.goto 4, 3) := dk_167 0 4 (dk_at dksX3_rule_8 21 rfl rfl)
theorem dX3_rule_212 : decode cX3_rule 212 = .ok (.iconst 0, 1) := dk_3 (dk_at dksX3_rule_9 0 rfl rfl)
theorem dX3_rule_213 : decode cX3_rule 213 = .ok (.bastore, 1) := dk_84 (dk_at dksX3_rule_9 1 rfl rfl)
theorem dX3_rule_214 : decode cX3_rule 214 = .ok (.iinc 5 1, 3) := dk_132 5 1 (dk_at dksX3_rule_9 2 rfl rfl)
theorem dX3_rule_217 : decode cX3_rule 217 = .ok (.goto (-45), 3) := dk_167 255 211 (dk_at dksX3_rule_9 5 rfl rfl)
theorem dX3_rule_220 : decode cX3_rule 220 = .ok (.aload_n 0, 1) := dk_42 (dk_at dksX3_rule_9 8 rfl rfl)
theorem dX3_rule_221 : decode cX3_rule 221 = .ok (.dup, 1) := dk_89 (dk_at dksX3_rule_9 9 rfl rfl)
theorem dX3_rule_222 : decode cX3_rule 222 = .ok (.getfield 54, 3) := dk_180 0 54 (dk_at dksX3_rule_9 10 rfl rfl)
theorem dX3_rule_225 : decode cX3_rule 225 = .ok (.iconst 1, 1) := dk_4 (dk_at dksX3_rule_9 13 rfl rfl)
theorem dX3_rule_226 : decode cX3_rule 226 = .ok (.iadd, 1) := dk_96 (dk_at dksX3_rule_9 14 rfl rfl)
theorem dX3_rule_227 : decode cX3_rule 227 = .ok (.putfield 54, 3) := dk_181 0 54 (dk_at dksX3_rule_9 15 rfl rfl)
theorem dX3_rule_230 : decode cX3_rule 230 = .ok (.aload_n 0, 1) := dk_42 (dk_at dksX3_rule_9 18 rfl rfl)
theorem dX3_rule_231 : decode cX3_rule 231 = .ok (.getfield 54, 3) := dk_180 0 54 (dk_at dksX3_rule_9 19 rfl rfl)
theorem dX3_rule_234 : decode cX3_rule 234 = .ok (.iconst 1, 1) := dk_4 (dk_at dksX3_rule_9 22 rfl rfl)
theorem dX3_rule_235 : decode cX3_rule 235 = .ok (.isub, 1) := dk_100 (dk_at dksX3_rule_9 23 rfl rfl)
theorem dX3_rule_236 : decode cX3_rule 236 = .ok (.ireturn, 1) := dk_172 (dk_at dksX3_rule_10 0 rfl rfl)
abbrev cX3_appeal : ByteArray := prog_13_method_38_code
def yX3_appeal : MethodName := ⟨RX3, "appeal", "(I)I"⟩
def dkwX3_appeal_2 : List UInt8 := [8, 96, 4, 79, 16, 14, 42, 180, 0, 135, 42, 180, 0, 71, 16, 6, 27, 104, 5, 96, 46, 100, 100, 172]
abbrev dktX3_appeal_2 : List UInt8 := dkwX3_appeal_2 ++ []
def dkwX3_appeal_1 : List UInt8 := [154, 0, 7, 4, 167, 0, 4, 3, 182, 0, 234, 154, 0, 5, 3, 172, 42, 180, 0, 71, 16, 6, 27, 104]
abbrev dktX3_appeal_1 : List UInt8 := dkwX3_appeal_1 ++ dktX3_appeal_2
def dkwX3_appeal_0 : List UInt8 := [42, 27, 182, 1, 4, 61, 42, 28, 28, 153, 0, 21, 42, 180, 0, 71, 16, 6, 27, 104, 8, 96, 46]
abbrev dktX3_appeal_0 : List UInt8 := dkwX3_appeal_0 ++ dktX3_appeal_1
theorem dksX3_appeal_0 : cX3_appeal.data.toList.drop 0 = dktX3_appeal_0 := by decide +kernel
theorem dksX3_appeal_1 : cX3_appeal.data.toList.drop 23 = dktX3_appeal_1 := dk_seg dksX3_appeal_0 23 rfl rfl
theorem dksX3_appeal_2 : cX3_appeal.data.toList.drop 47 = dktX3_appeal_2 := dk_seg dksX3_appeal_1 24 rfl rfl
theorem dX3_appeal_0 : decode cX3_appeal 0 = .ok (.aload_n 0, 1) := dk_42 (dk_at dksX3_appeal_0 0 rfl rfl)
theorem dX3_appeal_1 : decode cX3_appeal 1 = .ok (.iload_n 1, 1) := dk_27 (dk_at dksX3_appeal_0 1 rfl rfl)
theorem dX3_appeal_2 : decode cX3_appeal 2 = .ok (.invokevirtual 260, 3) := dk_182 1 4 (dk_at dksX3_appeal_0 2 rfl rfl)
theorem dX3_appeal_5 : decode cX3_appeal 5 = .ok (.istore_n 2, 1) := dk_61 (dk_at dksX3_appeal_0 5 rfl rfl)
theorem dX3_appeal_6 : decode cX3_appeal 6 = .ok (.aload_n 0, 1) := dk_42 (dk_at dksX3_appeal_0 6 rfl rfl)
theorem dX3_appeal_7 : decode cX3_appeal 7 = .ok (.iload_n 2, 1) := dk_28 (dk_at dksX3_appeal_0 7 rfl rfl)
theorem dX3_appeal_8 : decode cX3_appeal 8 = .ok (.iload_n 2, 1) := dk_28 (dk_at dksX3_appeal_0 8 rfl rfl)
theorem dX3_appeal_9 : decode cX3_appeal 9 = .ok (.ifCond .eq 21, 3) := dk_153 0 21 (dk_at dksX3_appeal_0 9 rfl rfl)
theorem dX3_appeal_12 : decode cX3_appeal 12 = .ok (.aload_n 0, 1) := dk_42 (dk_at dksX3_appeal_0 12 rfl rfl)
theorem dX3_appeal_13 : decode cX3_appeal 13 = .ok (.getfield 71, 3) := dk_180 0 71 (dk_at dksX3_appeal_0 13 rfl rfl)
theorem dX3_appeal_16 : decode cX3_appeal 16 = .ok (.bipush 6, 2) := dk_16 6 (dk_at dksX3_appeal_0 16 rfl rfl)
theorem dX3_appeal_18 : decode cX3_appeal 18 = .ok (.iload_n 1, 1) := dk_27 (dk_at dksX3_appeal_0 18 rfl rfl)
theorem dX3_appeal_19 : decode cX3_appeal 19 = .ok (.imul, 1) := dk_104 (dk_at dksX3_appeal_0 19 rfl rfl)
theorem dX3_appeal_20 : decode cX3_appeal 20 = .ok (.iconst 5, 1) := dk_8 (dk_at dksX3_appeal_0 20 rfl rfl)
theorem dX3_appeal_21 : decode cX3_appeal 21 = .ok (.iadd, 1) := dk_96 (dk_at dksX3_appeal_0 21 rfl rfl)
theorem dX3_appeal_22 : decode cX3_appeal 22 = .ok (.iaload, 1) := dk_46 (dk_at dksX3_appeal_0 22 rfl rfl)
theorem dX3_appeal_23 : decode cX3_appeal 23 = .ok (.ifCond .ne 7, 3) := dk_154 0 7 (dk_at dksX3_appeal_1 0 rfl rfl)
theorem dX3_appeal_26 : decode cX3_appeal 26 = .ok (.iconst 1, 1) := dk_4 (dk_at dksX3_appeal_1 3 rfl rfl)
theorem dX3_appeal_27 : decode cX3_appeal 27 = .ok (.goto 4, 3) := dk_167 0 4 (dk_at dksX3_appeal_1 4 rfl rfl)
theorem dX3_appeal_30 : decode cX3_appeal 30 = .ok (.iconst 0, 1) := dk_3 (dk_at dksX3_appeal_1 7 rfl rfl)
theorem dX3_appeal_31 : decode cX3_appeal 31 = .ok (.invokevirtual 234, 3) := dk_182 0 234 (dk_at dksX3_appeal_1 8 rfl rfl)
theorem dX3_appeal_34 : decode cX3_appeal 34 = .ok (.ifCond .ne 5, 3) := dk_154 0 5 (dk_at dksX3_appeal_1 11 rfl rfl)
theorem dX3_appeal_37 : decode cX3_appeal 37 = .ok (.iconst 0, 1) := dk_3 (dk_at dksX3_appeal_1 14 rfl rfl)
theorem dX3_appeal_38 : decode cX3_appeal 38 = .ok (.ireturn, 1) := dk_172 (dk_at dksX3_appeal_1 15 rfl rfl)
theorem dX3_appeal_39 : decode cX3_appeal 39 = .ok (.aload_n 0, 1) := dk_42 (dk_at dksX3_appeal_1 16 rfl rfl)
theorem dX3_appeal_40 : decode cX3_appeal 40 = .ok (.getfield 71, 3) := dk_180 0 71 (dk_at dksX3_appeal_1 17 rfl rfl)
theorem dX3_appeal_43 : decode cX3_appeal 43 = .ok (.bipush 6, 2) := dk_16 6 (dk_at dksX3_appeal_1 20 rfl rfl)
theorem dX3_appeal_45 : decode cX3_appeal 45 = .ok (.iload_n 1, 1) := dk_27 (dk_at dksX3_appeal_1 22 rfl rfl)
theorem dX3_appeal_46 : decode cX3_appeal 46 = .ok (.imul, 1) := dk_104 (dk_at dksX3_appeal_1 23 rfl rfl)
theorem dX3_appeal_47 : decode cX3_appeal 47 = .ok (.iconst 5, 1) := dk_8 (dk_at dksX3_appeal_2 0 rfl rfl)
theorem dX3_appeal_48 : decode cX3_appeal 48 = .ok (.iadd, 1) := dk_96 (dk_at dksX3_appeal_2 1 rfl rfl)
theorem dX3_appeal_49 : decode cX3_appeal 49 = .ok (.iconst 1, 1) := dk_4 (dk_at dksX3_appeal_2 2 rfl rfl)
theorem dX3_appeal_50 : decode cX3_appeal 50 = .ok (.iastore, 1) := dk_79 (dk_at dksX3_appeal_2 3 rfl rfl)
theorem dX3_appeal_51 : decode cX3_appeal 51 = .ok (.bipush 14, 2) := dk_16 14 (dk_at dksX3_appeal_2 4 rfl rfl)
theorem dX3_appeal_53 : decode cX3_appeal 53 = .ok (.aload_n 0, 1) := dk_42 (dk_at dksX3_appeal_2 6 rfl rfl)
theorem dX3_appeal_54 : decode cX3_appeal 54 = .ok (.getfield 135, 3) := dk_180 0 135 (dk_at dksX3_appeal_2 7 rfl rfl)
theorem dX3_appeal_57 : decode cX3_appeal 57 = .ok (.aload_n 0, 1) := dk_42 (dk_at dksX3_appeal_2 10 rfl rfl)
theorem dX3_appeal_58 : decode cX3_appeal 58 = .ok (.getfield 71, 3) := dk_180 0 71 (dk_at dksX3_appeal_2 11 rfl rfl)
theorem dX3_appeal_61 : decode cX3_appeal 61 = .ok (.bipush 6, 2) := dk_16 6 (dk_at dksX3_appeal_2 14 rfl rfl)
theorem dX3_appeal_63 : decode cX3_appeal 63 = .ok (.iload_n 1, 1) := dk_27 (dk_at dksX3_appeal_2 16 rfl rfl)
theorem dX3_appeal_64 : decode cX3_appeal 64 = .ok (.imul, 1) := dk_104 (dk_at dksX3_appeal_2 17 rfl rfl)
theorem dX3_appeal_65 : decode cX3_appeal 65 = .ok (.iconst 2, 1) := dk_5 (dk_at dksX3_appeal_2 18 rfl rfl)
theorem dX3_appeal_66 : decode cX3_appeal 66 = .ok (.iadd, 1) := dk_96 (dk_at dksX3_appeal_2 19 rfl rfl)
theorem dX3_appeal_67 : decode cX3_appeal 67 = .ok (.iaload, 1) := dk_46 (dk_at dksX3_appeal_2 20 rfl rfl)
theorem dX3_appeal_68 : decode cX3_appeal 68 = .ok (.isub, 1) := dk_100 (dk_at dksX3_appeal_2 21 rfl rfl)
theorem dX3_appeal_69 : decode cX3_appeal 69 = .ok (.isub, 1) := dk_100 (dk_at dksX3_appeal_2 22 rfl rfl)
theorem dX3_appeal_70 : decode cX3_appeal 70 = .ok (.ireturn, 1) := dk_172 (dk_at dksX3_appeal_2 23 rfl rfl)
abbrev cX3_isClaim : ByteArray := prog_13_method_9_code
def yX3_isClaim : MethodName := ⟨RX3, "isClaim", "(I)Z"⟩
def dkwX3_isClaim_0 : List UInt8 := [27, 133, 9, 42, 180, 0, 99, 133, 10, 101, 184, 0, 92, 172]
abbrev dktX3_isClaim_0 : List UInt8 := dkwX3_isClaim_0 ++ []
theorem dksX3_isClaim_0 : cX3_isClaim.data.toList.drop 0 = dktX3_isClaim_0 := by decide +kernel
theorem dX3_isClaim_0 : decode cX3_isClaim 0 = .ok (.iload_n 1, 1) := dk_27 (dk_at dksX3_isClaim_0 0 rfl rfl)
theorem dX3_isClaim_1 : decode cX3_isClaim 1 = .ok (.i2l, 1) := dk_133 (dk_at dksX3_isClaim_0 1 rfl rfl)
theorem dX3_isClaim_2 : decode cX3_isClaim 2 = .ok (.lconst 0, 1) := dk_9 (dk_at dksX3_isClaim_0 2 rfl rfl)
theorem dX3_isClaim_3 : decode cX3_isClaim 3 = .ok (.aload_n 0, 1) := dk_42 (dk_at dksX3_isClaim_0 3 rfl rfl)
theorem dX3_isClaim_4 : decode cX3_isClaim 4 = .ok (.getfield 99, 3) := dk_180 0 99 (dk_at dksX3_isClaim_0 4 rfl rfl)
theorem dX3_isClaim_7 : decode cX3_isClaim 7 = .ok (.i2l, 1) := dk_133 (dk_at dksX3_isClaim_0 7 rfl rfl)
theorem dX3_isClaim_8 : decode cX3_isClaim 8 = .ok (.lconst 1, 1) := dk_10 (dk_at dksX3_isClaim_0 8 rfl rfl)
theorem dX3_isClaim_9 : decode cX3_isClaim 9 = .ok (.lsub, 1) := dk_101 (dk_at dksX3_isClaim_0 9 rfl rfl)
theorem dX3_isClaim_10 : decode cX3_isClaim 10 = .ok (.invokestatic 92, 3) := dk_184 0 92 (dk_at dksX3_isClaim_0 10 rfl rfl)
theorem dX3_isClaim_13 : decode cX3_isClaim 13 = .ok (.ireturn, 1) := dk_172 (dk_at dksX3_isClaim_0 13 rfl rfl)
abbrev cX3_decide : ByteArray := prog_13_method_39_code
def yX3_decide : MethodName := ⟨RX3, "decide", "(II)I"⟩
def dkwX3_decide_4 : List UInt8 := [16, 6, 27, 104, 7, 96, 46, 172]
abbrev dktX3_decide_4 : List UInt8 := dkwX3_decide_4 ++ []
def dkwX3_decide_3 : List UInt8 := [16, 6, 27, 104, 6, 96, 46, 133, 28, 133, 105, 20, 0, 195, 109, 136, 182, 0, 208, 42, 180, 0, 71]
abbrev dktX3_decide_3 : List UInt8 := dkwX3_decide_3 ++ dktX3_decide_4
def dkwX3_decide_2 : List UInt8 := [154, 0, 5, 3, 172, 42, 180, 0, 71, 16, 6, 27, 104, 8, 96, 5, 79, 42, 27, 42, 180, 0, 71]
abbrev dktX3_decide_2 : List UInt8 := dkwX3_decide_2 ++ dktX3_decide_3
def dkwX3_decide_1 : List UInt8 := [180, 0, 71, 16, 6, 27, 104, 8, 96, 46, 4, 160, 0, 7, 4, 167, 0, 4, 3, 182, 1, 7]
abbrev dktX3_decide_1 : List UInt8 := dkwX3_decide_1 ++ dktX3_decide_2
def dkwX3_decide_0 : List UInt8 := [42, 27, 182, 1, 4, 62, 42, 29, 28, 133, 9, 20, 0, 195, 184, 0, 92, 29, 153, 0, 22, 42]
abbrev dktX3_decide_0 : List UInt8 := dkwX3_decide_0 ++ dktX3_decide_1
theorem dksX3_decide_0 : cX3_decide.data.toList.drop 0 = dktX3_decide_0 := by decide +kernel
theorem dksX3_decide_1 : cX3_decide.data.toList.drop 22 = dktX3_decide_1 := dk_seg dksX3_decide_0 22 rfl rfl
theorem dksX3_decide_2 : cX3_decide.data.toList.drop 44 = dktX3_decide_2 := dk_seg dksX3_decide_1 22 rfl rfl
theorem dksX3_decide_3 : cX3_decide.data.toList.drop 67 = dktX3_decide_3 := dk_seg dksX3_decide_2 23 rfl rfl
theorem dksX3_decide_4 : cX3_decide.data.toList.drop 90 = dktX3_decide_4 := dk_seg dksX3_decide_3 23 rfl rfl
theorem dX3_decide_0 : decode cX3_decide 0 = .ok (.aload_n 0, 1) := dk_42 (dk_at dksX3_decide_0 0 rfl rfl)
theorem dX3_decide_1 : decode cX3_decide 1 = .ok (.iload_n 1, 1) := dk_27 (dk_at dksX3_decide_0 1 rfl rfl)
theorem dX3_decide_2 : decode cX3_decide 2 = .ok (.invokevirtual 260, 3) := dk_182 1 4 (dk_at dksX3_decide_0 2 rfl rfl)
theorem dX3_decide_5 : decode cX3_decide 5 = .ok (.istore_n 3, 1) := dk_62 (dk_at dksX3_decide_0 5 rfl rfl)
theorem dX3_decide_6 : decode cX3_decide 6 = .ok (.aload_n 0, 1) := dk_42 (dk_at dksX3_decide_0 6 rfl rfl)
theorem dX3_decide_7 : decode cX3_decide 7 = .ok (.iload_n 3, 1) := dk_29 (dk_at dksX3_decide_0 7 rfl rfl)
theorem dX3_decide_8 : decode cX3_decide 8 = .ok (.iload_n 2, 1) := dk_28 (dk_at dksX3_decide_0 8 rfl rfl)
theorem dX3_decide_9 : decode cX3_decide 9 = .ok (.i2l, 1) := dk_133 (dk_at dksX3_decide_0 9 rfl rfl)
theorem dX3_decide_10 : decode cX3_decide 10 = .ok (.lconst 0, 1) := dk_9 (dk_at dksX3_decide_0 10 rfl rfl)
theorem dX3_decide_11 : decode cX3_decide 11 = .ok (.ldc2_w 195, 3) := dk_20 0 195 (dk_at dksX3_decide_0 11 rfl rfl)
theorem dX3_decide_14 : decode cX3_decide 14 = .ok (.invokestatic 92, 3) := dk_184 0 92 (dk_at dksX3_decide_0 14 rfl rfl)
theorem dX3_decide_17 : decode cX3_decide 17 = .ok (.iload_n 3, 1) := dk_29 (dk_at dksX3_decide_0 17 rfl rfl)
theorem dX3_decide_18 : decode cX3_decide 18 = .ok (.ifCond .eq 22, 3) := dk_153 0 22 (dk_at dksX3_decide_0 18 rfl rfl)
theorem dX3_decide_21 : decode cX3_decide 21 = .ok (.aload_n 0, 1) := dk_42 (dk_at dksX3_decide_0 21 rfl rfl)
theorem dX3_decide_22 : decode cX3_decide 22 = .ok (.getfield 71, 3) := dk_180 0 71 (dk_at dksX3_decide_1 0 rfl rfl)
theorem dX3_decide_25 : decode cX3_decide 25 = .ok (.bipush 6, 2) := dk_16 6 (dk_at dksX3_decide_1 3 rfl rfl)
theorem dX3_decide_27 : decode cX3_decide 27 = .ok (.iload_n 1, 1) := dk_27 (dk_at dksX3_decide_1 5 rfl rfl)
theorem dX3_decide_28 : decode cX3_decide 28 = .ok (.imul, 1) := dk_104 (dk_at dksX3_decide_1 6 rfl rfl)
theorem dX3_decide_29 : decode cX3_decide 29 = .ok (.iconst 5, 1) := dk_8 (dk_at dksX3_decide_1 7 rfl rfl)
theorem dX3_decide_30 : decode cX3_decide 30 = .ok (.iadd, 1) := dk_96 (dk_at dksX3_decide_1 8 rfl rfl)
theorem dX3_decide_31 : decode cX3_decide 31 = .ok (.iaload, 1) := dk_46 (dk_at dksX3_decide_1 9 rfl rfl)
theorem dX3_decide_32 : decode cX3_decide 32 = .ok (.iconst 1, 1) := dk_4 (dk_at dksX3_decide_1 10 rfl rfl)
theorem dX3_decide_33 : decode cX3_decide 33 = .ok (.if_icmp .ne 7, 3) := dk_160 0 7 (dk_at dksX3_decide_1 11 rfl rfl)
theorem dX3_decide_36 : decode cX3_decide 36 = .ok (.iconst 1, 1) := dk_4 (dk_at dksX3_decide_1 14 rfl rfl)
theorem dX3_decide_37 : decode cX3_decide 37 = .ok (.goto 4, 3) := dk_167 0 4 (dk_at dksX3_decide_1 15 rfl rfl)
theorem dX3_decide_40 : decode cX3_decide 40 = .ok (.iconst 0, 1) := dk_3 (dk_at dksX3_decide_1 18 rfl rfl)
theorem dX3_decide_41 : decode cX3_decide 41 = .ok (.invokevirtual 263, 3) := dk_182 1 7 (dk_at dksX3_decide_1 19 rfl rfl)
theorem dX3_decide_44 : decode cX3_decide 44 = .ok (.ifCond .ne 5, 3) := dk_154 0 5 (dk_at dksX3_decide_2 0 rfl rfl)
theorem dX3_decide_47 : decode cX3_decide 47 = .ok (.iconst 0, 1) := dk_3 (dk_at dksX3_decide_2 3 rfl rfl)
theorem dX3_decide_48 : decode cX3_decide 48 = .ok (.ireturn, 1) := dk_172 (dk_at dksX3_decide_2 4 rfl rfl)
theorem dX3_decide_49 : decode cX3_decide 49 = .ok (.aload_n 0, 1) := dk_42 (dk_at dksX3_decide_2 5 rfl rfl)
theorem dX3_decide_50 : decode cX3_decide 50 = .ok (.getfield 71, 3) := dk_180 0 71 (dk_at dksX3_decide_2 6 rfl rfl)
theorem dX3_decide_53 : decode cX3_decide 53 = .ok (.bipush 6, 2) := dk_16 6 (dk_at dksX3_decide_2 9 rfl rfl)
theorem dX3_decide_55 : decode cX3_decide 55 = .ok (.iload_n 1, 1) := dk_27 (dk_at dksX3_decide_2 11 rfl rfl)
theorem dX3_decide_56 : decode cX3_decide 56 = .ok (.imul, 1) := dk_104 (dk_at dksX3_decide_2 12 rfl rfl)
theorem dX3_decide_57 : decode cX3_decide 57 = .ok (.iconst 5, 1) := dk_8 (dk_at dksX3_decide_2 13 rfl rfl)
theorem dX3_decide_58 : decode cX3_decide 58 = .ok (.iadd, 1) := dk_96 (dk_at dksX3_decide_2 14 rfl rfl)
theorem dX3_decide_59 : decode cX3_decide 59 = .ok (.iconst 2, 1) := dk_5 (dk_at dksX3_decide_2 15 rfl rfl)
theorem dX3_decide_60 : decode cX3_decide 60 = .ok (.iastore, 1) := dk_79 (dk_at dksX3_decide_2 16 rfl rfl)
theorem dX3_decide_61 : decode cX3_decide 61 = .ok (.aload_n 0, 1) := dk_42 (dk_at dksX3_decide_2 17 rfl rfl)
theorem dX3_decide_62 : decode cX3_decide 62 = .ok (.iload_n 1, 1) := dk_27 (dk_at dksX3_decide_2 18 rfl rfl)
theorem dX3_decide_63 : decode cX3_decide 63 = .ok (.aload_n 0, 1) := dk_42 (dk_at dksX3_decide_2 19 rfl rfl)
theorem dX3_decide_64 : decode cX3_decide 64 = .ok (.getfield 71, 3) := dk_180 0 71 (dk_at dksX3_decide_2 20 rfl rfl)
theorem dX3_decide_67 : decode cX3_decide 67 = .ok (.bipush 6, 2) := dk_16 6 (dk_at dksX3_decide_3 0 rfl rfl)
theorem dX3_decide_69 : decode cX3_decide 69 = .ok (.iload_n 1, 1) := dk_27 (dk_at dksX3_decide_3 2 rfl rfl)
theorem dX3_decide_70 : decode cX3_decide 70 = .ok (.imul, 1) := dk_104 (dk_at dksX3_decide_3 3 rfl rfl)
theorem dX3_decide_71 : decode cX3_decide 71 = .ok (.iconst 3, 1) := dk_6 (dk_at dksX3_decide_3 4 rfl rfl)
theorem dX3_decide_72 : decode cX3_decide 72 = .ok (.iadd, 1) := dk_96 (dk_at dksX3_decide_3 5 rfl rfl)
theorem dX3_decide_73 : decode cX3_decide 73 = .ok (.iaload, 1) := dk_46 (dk_at dksX3_decide_3 6 rfl rfl)
theorem dX3_decide_74 : decode cX3_decide 74 = .ok (.i2l, 1) := dk_133 (dk_at dksX3_decide_3 7 rfl rfl)
theorem dX3_decide_75 : decode cX3_decide 75 = .ok (.iload_n 2, 1) := dk_28 (dk_at dksX3_decide_3 8 rfl rfl)
theorem dX3_decide_76 : decode cX3_decide 76 = .ok (.i2l, 1) := dk_133 (dk_at dksX3_decide_3 9 rfl rfl)
theorem dX3_decide_77 : decode cX3_decide 77 = .ok (.lmul, 1) := dk_105 (dk_at dksX3_decide_3 10 rfl rfl)
theorem dX3_decide_78 : decode cX3_decide 78 = .ok (.ldc2_w 195, 3) := dk_20 0 195 (dk_at dksX3_decide_3 11 rfl rfl)
theorem dX3_decide_81 : decode cX3_decide 81 = .ok (.ldiv, 1) := dk_109 (dk_at dksX3_decide_3 14 rfl rfl)
theorem dX3_decide_82 : decode cX3_decide 82 = .ok (.l2i, 1) := dk_136 (dk_at dksX3_decide_3 15 rfl rfl)
theorem dX3_decide_83 : decode cX3_decide 83 = .ok (.invokevirtual 208, 3) := dk_182 0 208 (dk_at dksX3_decide_3 16 rfl rfl)
theorem dX3_decide_86 : decode cX3_decide 86 = .ok (.aload_n 0, 1) := dk_42 (dk_at dksX3_decide_3 19 rfl rfl)
theorem dX3_decide_87 : decode cX3_decide 87 = .ok (.getfield 71, 3) := dk_180 0 71 (dk_at dksX3_decide_3 20 rfl rfl)
theorem dX3_decide_90 : decode cX3_decide 90 = .ok (.bipush 6, 2) := dk_16 6 (dk_at dksX3_decide_4 0 rfl rfl)
theorem dX3_decide_92 : decode cX3_decide 92 = .ok (.iload_n 1, 1) := dk_27 (dk_at dksX3_decide_4 2 rfl rfl)
theorem dX3_decide_93 : decode cX3_decide 93 = .ok (.imul, 1) := dk_104 (dk_at dksX3_decide_4 3 rfl rfl)
theorem dX3_decide_94 : decode cX3_decide 94 = .ok (.iconst 4, 1) := dk_7 (dk_at dksX3_decide_4 4 rfl rfl)
theorem dX3_decide_95 : decode cX3_decide 95 = .ok (.iadd, 1) := dk_96 (dk_at dksX3_decide_4 5 rfl rfl)
theorem dX3_decide_96 : decode cX3_decide 96 = .ok (.iaload, 1) := dk_46 (dk_at dksX3_decide_4 6 rfl rfl)
theorem dX3_decide_97 : decode cX3_decide 97 = .ok (.ireturn, 1) := dk_172 (dk_at dksX3_decide_4 7 rfl rfl)
abbrev cX3_fits_3 : ByteArray := prog_13_method_5_code
def yX3_fits_3 : MethodName := ⟨RX3, "fits", "(ZZZ)Z"⟩
def dkwX3_fits_3_1 : List UInt8 := [167, 0, 4, 6, 181, 0, 86, 42, 180, 0, 86, 154, 0, 7, 4, 167, 0, 4, 3, 172]
abbrev dktX3_fits_3_1 : List UInt8 := dkwX3_fits_3_1 ++ []
def dkwX3_fits_3_0 : List UInt8 := [42, 27, 154, 0, 7, 4, 167, 0, 20, 28, 154, 0, 7, 5, 167, 0, 12, 29, 153, 0, 7, 3]
abbrev dktX3_fits_3_0 : List UInt8 := dkwX3_fits_3_0 ++ dktX3_fits_3_1
theorem dksX3_fits_3_0 : cX3_fits_3.data.toList.drop 0 = dktX3_fits_3_0 := by decide +kernel
theorem dksX3_fits_3_1 : cX3_fits_3.data.toList.drop 22 = dktX3_fits_3_1 := dk_seg dksX3_fits_3_0 22 rfl rfl
theorem dX3_fits_3_0 : decode cX3_fits_3 0 = .ok (.aload_n 0, 1) := dk_42 (dk_at dksX3_fits_3_0 0 rfl rfl)
theorem dX3_fits_3_1 : decode cX3_fits_3 1 = .ok (.iload_n 1, 1) := dk_27 (dk_at dksX3_fits_3_0 1 rfl rfl)
theorem dX3_fits_3_2 : decode cX3_fits_3 2 = .ok (.ifCond .ne 7, 3) := dk_154 0 7 (dk_at dksX3_fits_3_0 2 rfl rfl)
theorem dX3_fits_3_5 : decode cX3_fits_3 5 = .ok (.iconst 1, 1) := dk_4 (dk_at dksX3_fits_3_0 5 rfl rfl)
theorem dX3_fits_3_6 : decode cX3_fits_3 6 = .ok (.goto 20, 3) := dk_167 0 20 (dk_at dksX3_fits_3_0 6 rfl rfl)
theorem dX3_fits_3_9 : decode cX3_fits_3 9 = .ok (.iload_n 2, 1) := dk_28 (dk_at dksX3_fits_3_0 9 rfl rfl)
theorem dX3_fits_3_10 : decode cX3_fits_3 10 = .ok (.ifCond .ne 7, 3) := dk_154 0 7 (dk_at dksX3_fits_3_0 10 rfl rfl)
theorem dX3_fits_3_13 : decode cX3_fits_3 13 = .ok (.iconst 2, 1) := dk_5 (dk_at dksX3_fits_3_0 13 rfl rfl)
theorem dX3_fits_3_14 : decode cX3_fits_3 14 = .ok (.goto 12, 3) := dk_167 0 12 (dk_at dksX3_fits_3_0 14 rfl rfl)
theorem dX3_fits_3_17 : decode cX3_fits_3 17 = .ok (.iload_n 3, 1) := dk_29 (dk_at dksX3_fits_3_0 17 rfl rfl)
theorem dX3_fits_3_18 : decode cX3_fits_3 18 = .ok (.ifCond .eq 7, 3) := dk_153 0 7 (dk_at dksX3_fits_3_0 18 rfl rfl)
theorem dX3_fits_3_21 : decode cX3_fits_3 21 = .ok (.iconst 0, 1) := dk_3 (dk_at dksX3_fits_3_0 21 rfl rfl)
theorem dX3_fits_3_22 : decode cX3_fits_3 22 = .ok (.goto 4, 3) := dk_167 0 4 (dk_at dksX3_fits_3_1 0 rfl rfl)
theorem dX3_fits_3_25 : decode cX3_fits_3 25 = .ok (.iconst 3, 1) := dk_6 (dk_at dksX3_fits_3_1 3 rfl rfl)
theorem dX3_fits_3_26 : decode cX3_fits_3 26 = .ok (.putfield 86, 3) := dk_181 0 86 (dk_at dksX3_fits_3_1 4 rfl rfl)
theorem dX3_fits_3_29 : decode cX3_fits_3 29 = .ok (.aload_n 0, 1) := dk_42 (dk_at dksX3_fits_3_1 7 rfl rfl)
theorem dX3_fits_3_30 : decode cX3_fits_3 30 = .ok (.getfield 86, 3) := dk_180 0 86 (dk_at dksX3_fits_3_1 8 rfl rfl)
theorem dX3_fits_3_33 : decode cX3_fits_3 33 = .ok (.ifCond .ne 7, 3) := dk_154 0 7 (dk_at dksX3_fits_3_1 11 rfl rfl)
theorem dX3_fits_3_36 : decode cX3_fits_3 36 = .ok (.iconst 1, 1) := dk_4 (dk_at dksX3_fits_3_1 14 rfl rfl)
theorem dX3_fits_3_37 : decode cX3_fits_3 37 = .ok (.goto 4, 3) := dk_167 0 4 (dk_at dksX3_fits_3_1 15 rfl rfl)
theorem dX3_fits_3_40 : decode cX3_fits_3 40 = .ok (.iconst 0, 1) := dk_3 (dk_at dksX3_fits_3_1 18 rfl rfl)
theorem dX3_fits_3_41 : decode cX3_fits_3 41 = .ok (.ireturn, 1) := dk_172 (dk_at dksX3_fits_3_1 19 rfl rfl)
abbrev cX3_lessen : ByteArray := prog_13_method_23_code
def yX3_lessen : MethodName := ⟨RX3, "lessen", "(II)V"⟩
def dkwX3_lessen_3 : List UInt8 := [16, 6, 27, 104, 8, 96, 46, 79, 177]
abbrev dktX3_lessen_3 : List UInt8 := dkwX3_lessen_3 ++ []
def dkwX3_lessen_2 : List UInt8 := [3, 62, 42, 180, 0, 71, 16, 6, 27, 104, 8, 96, 29, 153, 0, 7, 6, 167, 0, 14, 42, 180, 0, 71]
abbrev dktX3_lessen_2 : List UInt8 := dkwX3_lessen_2 ++ dktX3_lessen_3
def dkwX3_lessen_1 : List UInt8 := [96, 46, 5, 160, 0, 21, 42, 180, 0, 71, 16, 6, 27, 104, 7, 96, 46, 154, 0, 7, 4, 167, 0, 4]
abbrev dktX3_lessen_1 : List UInt8 := dkwX3_lessen_1 ++ dktX3_lessen_2
def dkwX3_lessen_0 : List UInt8 := [42, 180, 0, 71, 16, 6, 27, 104, 7, 96, 92, 46, 28, 100, 79, 42, 180, 0, 71, 16, 6, 27, 104, 8]
abbrev dktX3_lessen_0 : List UInt8 := dkwX3_lessen_0 ++ dktX3_lessen_1
theorem dksX3_lessen_0 : cX3_lessen.data.toList.drop 0 = dktX3_lessen_0 := by decide +kernel
theorem dksX3_lessen_1 : cX3_lessen.data.toList.drop 24 = dktX3_lessen_1 := dk_seg dksX3_lessen_0 24 rfl rfl
theorem dksX3_lessen_2 : cX3_lessen.data.toList.drop 48 = dktX3_lessen_2 := dk_seg dksX3_lessen_1 24 rfl rfl
theorem dksX3_lessen_3 : cX3_lessen.data.toList.drop 72 = dktX3_lessen_3 := dk_seg dksX3_lessen_2 24 rfl rfl
theorem dX3_lessen_0 : decode cX3_lessen 0 = .ok (.aload_n 0, 1) := dk_42 (dk_at dksX3_lessen_0 0 rfl rfl)
theorem dX3_lessen_1 : decode cX3_lessen 1 = .ok (.getfield 71, 3) := dk_180 0 71 (dk_at dksX3_lessen_0 1 rfl rfl)
theorem dX3_lessen_4 : decode cX3_lessen 4 = .ok (.bipush 6, 2) := dk_16 6 (dk_at dksX3_lessen_0 4 rfl rfl)
theorem dX3_lessen_6 : decode cX3_lessen 6 = .ok (.iload_n 1, 1) := dk_27 (dk_at dksX3_lessen_0 6 rfl rfl)
theorem dX3_lessen_7 : decode cX3_lessen 7 = .ok (.imul, 1) := dk_104 (dk_at dksX3_lessen_0 7 rfl rfl)
theorem dX3_lessen_8 : decode cX3_lessen 8 = .ok (.iconst 4, 1) := dk_7 (dk_at dksX3_lessen_0 8 rfl rfl)
theorem dX3_lessen_9 : decode cX3_lessen 9 = .ok (.iadd, 1) := dk_96 (dk_at dksX3_lessen_0 9 rfl rfl)
theorem dX3_lessen_10 : decode cX3_lessen 10 = .ok (.dup2, 1) := dk_92 (dk_at dksX3_lessen_0 10 rfl rfl)
theorem dX3_lessen_11 : decode cX3_lessen 11 = .ok (.iaload, 1) := dk_46 (dk_at dksX3_lessen_0 11 rfl rfl)
theorem dX3_lessen_12 : decode cX3_lessen 12 = .ok (.iload_n 2, 1) := dk_28 (dk_at dksX3_lessen_0 12 rfl rfl)
theorem dX3_lessen_13 : decode cX3_lessen 13 = .ok (.isub, 1) := dk_100 (dk_at dksX3_lessen_0 13 rfl rfl)
theorem dX3_lessen_14 : decode cX3_lessen 14 = .ok (.iastore, 1) := dk_79 (dk_at dksX3_lessen_0 14 rfl rfl)
theorem dX3_lessen_15 : decode cX3_lessen 15 = .ok (.aload_n 0, 1) := dk_42 (dk_at dksX3_lessen_0 15 rfl rfl)
theorem dX3_lessen_16 : decode cX3_lessen 16 = .ok (.getfield 71, 3) := dk_180 0 71 (dk_at dksX3_lessen_0 16 rfl rfl)
theorem dX3_lessen_19 : decode cX3_lessen 19 = .ok (.bipush 6, 2) := dk_16 6 (dk_at dksX3_lessen_0 19 rfl rfl)
theorem dX3_lessen_21 : decode cX3_lessen 21 = .ok (.iload_n 1, 1) := dk_27 (dk_at dksX3_lessen_0 21 rfl rfl)
theorem dX3_lessen_22 : decode cX3_lessen 22 = .ok (.imul, 1) := dk_104 (dk_at dksX3_lessen_0 22 rfl rfl)
theorem dX3_lessen_23 : decode cX3_lessen 23 = .ok (.iconst 5, 1) := dk_8 (dk_at dksX3_lessen_0 23 rfl rfl)
theorem dX3_lessen_24 : decode cX3_lessen 24 = .ok (.iadd, 1) := dk_96 (dk_at dksX3_lessen_1 0 rfl rfl)
theorem dX3_lessen_25 : decode cX3_lessen 25 = .ok (.iaload, 1) := dk_46 (dk_at dksX3_lessen_1 1 rfl rfl)
theorem dX3_lessen_26 : decode cX3_lessen 26 = .ok (.iconst 2, 1) := dk_5 (dk_at dksX3_lessen_1 2 rfl rfl)
theorem dX3_lessen_27 : decode cX3_lessen 27 = .ok (.if_icmp .ne 21, 3) := dk_160 0 21 (dk_at dksX3_lessen_1 3 rfl rfl)
theorem dX3_lessen_30 : decode cX3_lessen 30 = .ok (.aload_n 0, 1) := dk_42 (dk_at dksX3_lessen_1 6 rfl rfl)
theorem dX3_lessen_31 : decode cX3_lessen 31 = .ok (.getfield 71, 3) := dk_180 0 71 (dk_at dksX3_lessen_1 7 rfl rfl)
theorem dX3_lessen_34 : decode cX3_lessen 34 = .ok (.bipush 6, 2) := dk_16 6 (dk_at dksX3_lessen_1 10 rfl rfl)
theorem dX3_lessen_36 : decode cX3_lessen 36 = .ok (.iload_n 1, 1) := dk_27 (dk_at dksX3_lessen_1 12 rfl rfl)
theorem dX3_lessen_37 : decode cX3_lessen 37 = .ok (.imul, 1) := dk_104 (dk_at dksX3_lessen_1 13 rfl rfl)
theorem dX3_lessen_38 : decode cX3_lessen 38 = .ok (.iconst 4, 1) := dk_7 (dk_at dksX3_lessen_1 14 rfl rfl)
theorem dX3_lessen_39 : decode cX3_lessen 39 = .ok (.iadd, 1) := dk_96 (dk_at dksX3_lessen_1 15 rfl rfl)
theorem dX3_lessen_40 : decode cX3_lessen 40 = .ok (.iaload, 1) := dk_46 (dk_at dksX3_lessen_1 16 rfl rfl)
theorem dX3_lessen_41 : decode cX3_lessen 41 = .ok (.ifCond .ne 7, 3) := dk_154 0 7 (dk_at dksX3_lessen_1 17 rfl rfl)
theorem dX3_lessen_44 : decode cX3_lessen 44 = .ok (.iconst 1, 1) := dk_4 (dk_at dksX3_lessen_1 20 rfl rfl)
theorem dX3_lessen_45 : decode cX3_lessen 45 = .ok (.goto 4, 3) := dk_167 0 4 (dk_at dksX3_lessen_1 21 rfl rfl)
theorem dX3_lessen_48 : decode cX3_lessen 48 = .ok (.iconst 0, 1) := dk_3 (dk_at dksX3_lessen_2 0 rfl rfl)
theorem dX3_lessen_49 : decode cX3_lessen 49 = .ok (.istore_n 3, 1) := dk_62 (dk_at dksX3_lessen_2 1 rfl rfl)
theorem dX3_lessen_50 : decode cX3_lessen 50 = .ok (.aload_n 0, 1) := dk_42 (dk_at dksX3_lessen_2 2 rfl rfl)
theorem dX3_lessen_51 : decode cX3_lessen 51 = .ok (.getfield 71, 3) := dk_180 0 71 (dk_at dksX3_lessen_2 3 rfl rfl)
theorem dX3_lessen_54 : decode cX3_lessen 54 = .ok (.bipush 6, 2) := dk_16 6 (dk_at dksX3_lessen_2 6 rfl rfl)
theorem dX3_lessen_56 : decode cX3_lessen 56 = .ok (.iload_n 1, 1) := dk_27 (dk_at dksX3_lessen_2 8 rfl rfl)
theorem dX3_lessen_57 : decode cX3_lessen 57 = .ok (.imul, 1) := dk_104 (dk_at dksX3_lessen_2 9 rfl rfl)
theorem dX3_lessen_58 : decode cX3_lessen 58 = .ok (.iconst 5, 1) := dk_8 (dk_at dksX3_lessen_2 10 rfl rfl)
theorem dX3_lessen_59 : decode cX3_lessen 59 = .ok (.iadd, 1) := dk_96 (dk_at dksX3_lessen_2 11 rfl rfl)
theorem dX3_lessen_60 : decode cX3_lessen 60 = .ok (.iload_n 3, 1) := dk_29 (dk_at dksX3_lessen_2 12 rfl rfl)
theorem dX3_lessen_61 : decode cX3_lessen 61 = .ok (.ifCond .eq 7, 3) := dk_153 0 7 (dk_at dksX3_lessen_2 13 rfl rfl)
theorem dX3_lessen_64 : decode cX3_lessen 64 = .ok (.iconst 3, 1) := dk_6 (dk_at dksX3_lessen_2 16 rfl rfl)
theorem dX3_lessen_65 : decode cX3_lessen 65 = .ok (.goto 14, 3) := dk_167 0 14 (dk_at dksX3_lessen_2 17 rfl rfl)
theorem dX3_lessen_68 : decode cX3_lessen 68 = .ok (.aload_n 0, 1) := dk_42 (dk_at dksX3_lessen_2 20 rfl rfl)
theorem dX3_lessen_69 : decode cX3_lessen 69 = .ok (.getfield 71, 3) := dk_180 0 71 (dk_at dksX3_lessen_2 21 rfl rfl)
theorem dX3_lessen_72 : decode cX3_lessen 72 = .ok (.bipush 6, 2) := dk_16 6 (dk_at dksX3_lessen_3 0 rfl rfl)
theorem dX3_lessen_74 : decode cX3_lessen 74 = .ok (.iload_n 1, 1) := dk_27 (dk_at dksX3_lessen_3 2 rfl rfl)
theorem dX3_lessen_75 : decode cX3_lessen 75 = .ok (.imul, 1) := dk_104 (dk_at dksX3_lessen_3 3 rfl rfl)
theorem dX3_lessen_76 : decode cX3_lessen 76 = .ok (.iconst 5, 1) := dk_8 (dk_at dksX3_lessen_3 4 rfl rfl)
theorem dX3_lessen_77 : decode cX3_lessen 77 = .ok (.iadd, 1) := dk_96 (dk_at dksX3_lessen_3 5 rfl rfl)
theorem dX3_lessen_78 : decode cX3_lessen 78 = .ok (.iaload, 1) := dk_46 (dk_at dksX3_lessen_3 6 rfl rfl)
theorem dX3_lessen_79 : decode cX3_lessen 79 = .ok (.iastore, 1) := dk_79 (dk_at dksX3_lessen_3 7 rfl rfl)
theorem dX3_lessen_80 : decode cX3_lessen 80 = .ok (.return_, 1) := dk_177 (dk_at dksX3_lessen_3 8 rfl rfl)
abbrev cX3_payBack : ByteArray := prog_13_method_40_code
def yX3_payBack : MethodName := ⟨RX3, "payBack", "(II)I"⟩
def dkwX3_payBack_3 : List UInt8 := [27, 28, 182, 0, 208, 42, 180, 0, 71, 16, 6, 27, 104, 7, 96, 46, 172]
abbrev dktX3_payBack_3 : List UInt8 := dkwX3_payBack_3 ++ []
def dkwX3_payBack_2 : List UInt8 := [54, 4, 42, 29, 28, 133, 10, 20, 1, 10, 184, 0, 92, 21, 4, 182, 1, 7, 154, 0, 5, 3, 172, 42]
abbrev dktX3_payBack_2 : List UInt8 := dkwX3_payBack_2 ++ dktX3_payBack_3
def dkwX3_payBack_1 : List UInt8 := [160, 0, 22, 42, 180, 0, 71, 16, 6, 27, 104, 7, 96, 46, 28, 161, 0, 7, 4, 167, 0, 4, 3]
abbrev dktX3_payBack_1 : List UInt8 := dkwX3_payBack_1 ++ dktX3_payBack_2
def dkwX3_payBack_0 : List UInt8 := [42, 27, 182, 1, 4, 62, 29, 153, 0, 37, 42, 180, 0, 71, 16, 6, 27, 104, 8, 96, 46, 5]
abbrev dktX3_payBack_0 : List UInt8 := dkwX3_payBack_0 ++ dktX3_payBack_1
theorem dksX3_payBack_0 : cX3_payBack.data.toList.drop 0 = dktX3_payBack_0 := by decide +kernel
theorem dksX3_payBack_1 : cX3_payBack.data.toList.drop 22 = dktX3_payBack_1 := dk_seg dksX3_payBack_0 22 rfl rfl
theorem dksX3_payBack_2 : cX3_payBack.data.toList.drop 45 = dktX3_payBack_2 := dk_seg dksX3_payBack_1 23 rfl rfl
theorem dksX3_payBack_3 : cX3_payBack.data.toList.drop 69 = dktX3_payBack_3 := dk_seg dksX3_payBack_2 24 rfl rfl
theorem dX3_payBack_0 : decode cX3_payBack 0 = .ok (.aload_n 0, 1) := dk_42 (dk_at dksX3_payBack_0 0 rfl rfl)
theorem dX3_payBack_1 : decode cX3_payBack 1 = .ok (.iload_n 1, 1) := dk_27 (dk_at dksX3_payBack_0 1 rfl rfl)
theorem dX3_payBack_2 : decode cX3_payBack 2 = .ok (.invokevirtual 260, 3) := dk_182 1 4 (dk_at dksX3_payBack_0 2 rfl rfl)
theorem dX3_payBack_5 : decode cX3_payBack 5 = .ok (.istore_n 3, 1) := dk_62 (dk_at dksX3_payBack_0 5 rfl rfl)
theorem dX3_payBack_6 : decode cX3_payBack 6 = .ok (.iload_n 3, 1) := dk_29 (dk_at dksX3_payBack_0 6 rfl rfl)
theorem dX3_payBack_7 : decode cX3_payBack 7 = .ok (.ifCond .eq 37, 3) := dk_153 0 37 (dk_at dksX3_payBack_0 7 rfl rfl)
theorem dX3_payBack_10 : decode cX3_payBack 10 = .ok (.aload_n 0, 1) := dk_42 (dk_at dksX3_payBack_0 10 rfl rfl)
theorem dX3_payBack_11 : decode cX3_payBack 11 = .ok (.getfield 71, 3) := dk_180 0 71 (dk_at dksX3_payBack_0 11 rfl rfl)
theorem dX3_payBack_14 : decode cX3_payBack 14 = .ok (.bipush 6, 2) := dk_16 6 (dk_at dksX3_payBack_0 14 rfl rfl)
theorem dX3_payBack_16 : decode cX3_payBack 16 = .ok (.iload_n 1, 1) := dk_27 (dk_at dksX3_payBack_0 16 rfl rfl)
theorem dX3_payBack_17 : decode cX3_payBack 17 = .ok (.imul, 1) := dk_104 (dk_at dksX3_payBack_0 17 rfl rfl)
theorem dX3_payBack_18 : decode cX3_payBack 18 = .ok (.iconst 5, 1) := dk_8 (dk_at dksX3_payBack_0 18 rfl rfl)
theorem dX3_payBack_19 : decode cX3_payBack 19 = .ok (.iadd, 1) := dk_96 (dk_at dksX3_payBack_0 19 rfl rfl)
theorem dX3_payBack_20 : decode cX3_payBack 20 = .ok (.iaload, 1) := dk_46 (dk_at dksX3_payBack_0 20 rfl rfl)
theorem dX3_payBack_21 : decode cX3_payBack 21 = .ok (.iconst 2, 1) := dk_5 (dk_at dksX3_payBack_0 21 rfl rfl)
theorem dX3_payBack_22 : decode cX3_payBack 22 = .ok (.if_icmp .ne 22, 3) := dk_160 0 22 (dk_at dksX3_payBack_1 0 rfl rfl)
theorem dX3_payBack_25 : decode cX3_payBack 25 = .ok (.aload_n 0, 1) := dk_42 (dk_at dksX3_payBack_1 3 rfl rfl)
theorem dX3_payBack_26 : decode cX3_payBack 26 = .ok (.getfield 71, 3) := dk_180 0 71 (dk_at dksX3_payBack_1 4 rfl rfl)
theorem dX3_payBack_29 : decode cX3_payBack 29 = .ok (.bipush 6, 2) := dk_16 6 (dk_at dksX3_payBack_1 7 rfl rfl)
theorem dX3_payBack_31 : decode cX3_payBack 31 = .ok (.iload_n 1, 1) := dk_27 (dk_at dksX3_payBack_1 9 rfl rfl)
theorem dX3_payBack_32 : decode cX3_payBack 32 = .ok (.imul, 1) := dk_104 (dk_at dksX3_payBack_1 10 rfl rfl)
theorem dX3_payBack_33 : decode cX3_payBack 33 = .ok (.iconst 4, 1) := dk_7 (dk_at dksX3_payBack_1 11 rfl rfl)
theorem dX3_payBack_34 : decode cX3_payBack 34 = .ok (.iadd, 1) := dk_96 (dk_at dksX3_payBack_1 12 rfl rfl)
theorem dX3_payBack_35 : decode cX3_payBack 35 = .ok (.iaload, 1) := dk_46 (dk_at dksX3_payBack_1 13 rfl rfl)
theorem dX3_payBack_36 : decode cX3_payBack 36 = .ok (.iload_n 2, 1) := dk_28 (dk_at dksX3_payBack_1 14 rfl rfl)
theorem dX3_payBack_37 : decode cX3_payBack 37 = .ok (.if_icmp .lt 7, 3) := dk_161 0 7 (dk_at dksX3_payBack_1 15 rfl rfl)
theorem dX3_payBack_40 : decode cX3_payBack 40 = .ok (.iconst 1, 1) := dk_4 (dk_at dksX3_payBack_1 18 rfl rfl)
theorem dX3_payBack_41 : decode cX3_payBack 41 = .ok (.goto 4, 3) := dk_167 0 4 (dk_at dksX3_payBack_1 19 rfl rfl)
theorem dX3_payBack_44 : decode cX3_payBack 44 = .ok (.iconst 0, 1) := dk_3 (dk_at dksX3_payBack_1 22 rfl rfl)
theorem dX3_payBack_45 : decode cX3_payBack 45 = .ok (.istore 4, 2) := dk_54 4 (dk_at dksX3_payBack_2 0 rfl rfl)
theorem dX3_payBack_47 : decode cX3_payBack 47 = .ok (.aload_n 0, 1) := dk_42 (dk_at dksX3_payBack_2 2 rfl rfl)
theorem dX3_payBack_48 : decode cX3_payBack 48 = .ok (.iload_n 3, 1) := dk_29 (dk_at dksX3_payBack_2 3 rfl rfl)
theorem dX3_payBack_49 : decode cX3_payBack 49 = .ok (.iload_n 2, 1) := dk_28 (dk_at dksX3_payBack_2 4 rfl rfl)
theorem dX3_payBack_50 : decode cX3_payBack 50 = .ok (.i2l, 1) := dk_133 (dk_at dksX3_payBack_2 5 rfl rfl)
theorem dX3_payBack_51 : decode cX3_payBack 51 = .ok (.lconst 1, 1) := dk_10 (dk_at dksX3_payBack_2 6 rfl rfl)
theorem dX3_payBack_52 : decode cX3_payBack 52 = .ok (.ldc2_w 266, 3) := dk_20 1 10 (dk_at dksX3_payBack_2 7 rfl rfl)
theorem dX3_payBack_55 : decode cX3_payBack 55 = .ok (.invokestatic 92, 3) := dk_184 0 92 (dk_at dksX3_payBack_2 10 rfl rfl)
theorem dX3_payBack_58 : decode cX3_payBack 58 = .ok (.iload 4, 2) := dk_21 4 (dk_at dksX3_payBack_2 13 rfl rfl)
theorem dX3_payBack_60 : decode cX3_payBack 60 = .ok (.invokevirtual 263, 3) := dk_182 1 7 (dk_at dksX3_payBack_2 15 rfl rfl)
theorem dX3_payBack_63 : decode cX3_payBack 63 = .ok (.ifCond .ne 5, 3) := dk_154 0 5 (dk_at dksX3_payBack_2 18 rfl rfl)
theorem dX3_payBack_66 : decode cX3_payBack 66 = .ok (.iconst 0, 1) := dk_3 (dk_at dksX3_payBack_2 21 rfl rfl)
theorem dX3_payBack_67 : decode cX3_payBack 67 = .ok (.ireturn, 1) := dk_172 (dk_at dksX3_payBack_2 22 rfl rfl)
theorem dX3_payBack_68 : decode cX3_payBack 68 = .ok (.aload_n 0, 1) := dk_42 (dk_at dksX3_payBack_2 23 rfl rfl)
theorem dX3_payBack_69 : decode cX3_payBack 69 = .ok (.iload_n 1, 1) := dk_27 (dk_at dksX3_payBack_3 0 rfl rfl)
theorem dX3_payBack_70 : decode cX3_payBack 70 = .ok (.iload_n 2, 1) := dk_28 (dk_at dksX3_payBack_3 1 rfl rfl)
theorem dX3_payBack_71 : decode cX3_payBack 71 = .ok (.invokevirtual 208, 3) := dk_182 0 208 (dk_at dksX3_payBack_3 2 rfl rfl)
theorem dX3_payBack_74 : decode cX3_payBack 74 = .ok (.aload_n 0, 1) := dk_42 (dk_at dksX3_payBack_3 5 rfl rfl)
theorem dX3_payBack_75 : decode cX3_payBack 75 = .ok (.getfield 71, 3) := dk_180 0 71 (dk_at dksX3_payBack_3 6 rfl rfl)
theorem dX3_payBack_78 : decode cX3_payBack 78 = .ok (.bipush 6, 2) := dk_16 6 (dk_at dksX3_payBack_3 9 rfl rfl)
theorem dX3_payBack_80 : decode cX3_payBack 80 = .ok (.iload_n 1, 1) := dk_27 (dk_at dksX3_payBack_3 11 rfl rfl)
theorem dX3_payBack_81 : decode cX3_payBack 81 = .ok (.imul, 1) := dk_104 (dk_at dksX3_payBack_3 12 rfl rfl)
theorem dX3_payBack_82 : decode cX3_payBack 82 = .ok (.iconst 4, 1) := dk_7 (dk_at dksX3_payBack_3 13 rfl rfl)
theorem dX3_payBack_83 : decode cX3_payBack 83 = .ok (.iadd, 1) := dk_96 (dk_at dksX3_payBack_3 14 rfl rfl)
theorem dX3_payBack_84 : decode cX3_payBack 84 = .ok (.iaload, 1) := dk_46 (dk_at dksX3_payBack_3 15 rfl rfl)
theorem dX3_payBack_85 : decode cX3_payBack 85 = .ok (.ireturn, 1) := dk_172 (dk_at dksX3_payBack_3 16 rfl rfl)
abbrev cX3_pass_2 : ByteArray := prog_13_method_41_code
def yX3_pass_2 : MethodName := ⟨RX3, "pass", "(I)I"⟩
def dkwX3_pass_2_2 : List UInt8 := [162, 0, 13, 42, 182, 1, 12, 132, 3, 1, 167, 255, 244, 42, 180, 0, 135, 172]
abbrev dktX3_pass_2_2 : List UInt8 := dkwX3_pass_2_2 ++ []
def dkwX3_pass_2_1 : List UInt8 := [17, 5, 220, 163, 0, 7, 4, 167, 0, 4, 3, 182, 0, 234, 154, 0, 5, 3, 172, 3, 62, 29, 27]
abbrev dktX3_pass_2_1 : List UInt8 := dkwX3_pass_2_1 ++ dktX3_pass_2_2
def dkwX3_pass_2_0 : List UInt8 := [27, 133, 10, 20, 0, 195, 184, 0, 92, 61, 42, 28, 28, 153, 0, 19, 42, 180, 0, 135, 27, 96]
abbrev dktX3_pass_2_0 : List UInt8 := dkwX3_pass_2_0 ++ dktX3_pass_2_1
theorem dksX3_pass_2_0 : cX3_pass_2.data.toList.drop 0 = dktX3_pass_2_0 := by decide +kernel
theorem dksX3_pass_2_1 : cX3_pass_2.data.toList.drop 22 = dktX3_pass_2_1 := dk_seg dksX3_pass_2_0 22 rfl rfl
theorem dksX3_pass_2_2 : cX3_pass_2.data.toList.drop 45 = dktX3_pass_2_2 := dk_seg dksX3_pass_2_1 23 rfl rfl
theorem dX3_pass_2_0 : decode cX3_pass_2 0 = .ok (.iload_n 1, 1) := dk_27 (dk_at dksX3_pass_2_0 0 rfl rfl)
theorem dX3_pass_2_1 : decode cX3_pass_2 1 = .ok (.i2l, 1) := dk_133 (dk_at dksX3_pass_2_0 1 rfl rfl)
theorem dX3_pass_2_2 : decode cX3_pass_2 2 = .ok (.lconst 1, 1) := dk_10 (dk_at dksX3_pass_2_0 2 rfl rfl)
theorem dX3_pass_2_3 : decode cX3_pass_2 3 = .ok (.ldc2_w 195, 3) := dk_20 0 195 (dk_at dksX3_pass_2_0 3 rfl rfl)
theorem dX3_pass_2_6 : decode cX3_pass_2 6 = .ok (.invokestatic 92, 3) := dk_184 0 92 (dk_at dksX3_pass_2_0 6 rfl rfl)
theorem dX3_pass_2_9 : decode cX3_pass_2 9 = .ok (.istore_n 2, 1) := dk_61 (dk_at dksX3_pass_2_0 9 rfl rfl)
theorem dX3_pass_2_10 : decode cX3_pass_2 10 = .ok (.aload_n 0, 1) := dk_42 (dk_at dksX3_pass_2_0 10 rfl rfl)
theorem dX3_pass_2_11 : decode cX3_pass_2 11 = .ok (.iload_n 2, 1) := dk_28 (dk_at dksX3_pass_2_0 11 rfl rfl)
theorem dX3_pass_2_12 : decode cX3_pass_2 12 = .ok (.iload_n 2, 1) := dk_28 (dk_at dksX3_pass_2_0 12 rfl rfl)
theorem dX3_pass_2_13 : decode cX3_pass_2 13 = .ok (.ifCond .eq 19, 3) := dk_153 0 19 (dk_at dksX3_pass_2_0 13 rfl rfl)
theorem dX3_pass_2_16 : decode cX3_pass_2 16 = .ok (.aload_n 0, 1) := dk_42 (dk_at dksX3_pass_2_0 16 rfl rfl)
theorem dX3_pass_2_17 : decode cX3_pass_2 17 = .ok (.getfield 135, 3) := dk_180 0 135 (dk_at dksX3_pass_2_0 17 rfl rfl)
theorem dX3_pass_2_20 : decode cX3_pass_2 20 = .ok (.iload_n 1, 1) := dk_27 (dk_at dksX3_pass_2_0 20 rfl rfl)
theorem dX3_pass_2_21 : decode cX3_pass_2 21 = .ok (.iadd, 1) := dk_96 (dk_at dksX3_pass_2_0 21 rfl rfl)
theorem dX3_pass_2_22 : decode cX3_pass_2 22 = .ok (.sipush 1500, 3) := dk_17 5 220 (dk_at dksX3_pass_2_1 0 rfl rfl)
theorem dX3_pass_2_25 : decode cX3_pass_2 25 = .ok (.if_icmp .gt 7, 3) := dk_163 0 7 (dk_at dksX3_pass_2_1 3 rfl rfl)
theorem dX3_pass_2_28 : decode cX3_pass_2 28 = .ok (.iconst 1, 1) := dk_4 (dk_at dksX3_pass_2_1 6 rfl rfl)
theorem dX3_pass_2_29 : decode cX3_pass_2 29 = .ok (.goto 4, 3) := dk_167 0 4 (dk_at dksX3_pass_2_1 7 rfl rfl)
theorem dX3_pass_2_32 : decode cX3_pass_2 32 = .ok (.iconst 0, 1) := dk_3 (dk_at dksX3_pass_2_1 10 rfl rfl)
theorem dX3_pass_2_33 : decode cX3_pass_2 33 = .ok (.invokevirtual 234, 3) := dk_182 0 234 (dk_at dksX3_pass_2_1 11 rfl rfl)
theorem dX3_pass_2_36 : decode cX3_pass_2 36 = .ok (.ifCond .ne 5, 3) := dk_154 0 5 (dk_at dksX3_pass_2_1 14 rfl rfl)
theorem dX3_pass_2_39 : decode cX3_pass_2 39 = .ok (.iconst 0, 1) := dk_3 (dk_at dksX3_pass_2_1 17 rfl rfl)
theorem dX3_pass_2_40 : decode cX3_pass_2 40 = .ok (.ireturn, 1) := dk_172 (dk_at dksX3_pass_2_1 18 rfl rfl)
theorem dX3_pass_2_41 : decode cX3_pass_2 41 = .ok (.iconst 0, 1) := dk_3 (dk_at dksX3_pass_2_1 19 rfl rfl)
theorem dX3_pass_2_42 : decode cX3_pass_2 42 = .ok (.istore_n 3, 1) := dk_62 (dk_at dksX3_pass_2_1 20 rfl rfl)
theorem dX3_pass_2_43 : decode cX3_pass_2 43 = .ok (.iload_n 3, 1) := dk_29 (dk_at dksX3_pass_2_1 21 rfl rfl)
theorem dX3_pass_2_44 : decode cX3_pass_2 44 = .ok (.iload_n 1, 1) := dk_27 (dk_at dksX3_pass_2_1 22 rfl rfl)
theorem dX3_pass_2_45 : decode cX3_pass_2 45 = .ok (.if_icmp .ge 13, 3) := dk_162 0 13 (dk_at dksX3_pass_2_2 0 rfl rfl)
theorem dX3_pass_2_48 : decode cX3_pass_2 48 = .ok (.aload_n 0, 1) := dk_42 (dk_at dksX3_pass_2_2 3 rfl rfl)
theorem dX3_pass_2_49 : decode cX3_pass_2 49 = .ok (.invokevirtual 268, 3) := dk_182 1 12 (dk_at dksX3_pass_2_2 4 rfl rfl)
theorem dX3_pass_2_52 : decode cX3_pass_2 52 = .ok (.iinc 3 1, 3) := dk_132 3 1 (dk_at dksX3_pass_2_2 7 rfl rfl)
theorem dX3_pass_2_55 : decode cX3_pass_2 55 = .ok (.goto (-12), 3) := dk_167 255 244 (dk_at dksX3_pass_2_2 10 rfl rfl)
theorem dX3_pass_2_58 : decode cX3_pass_2 58 = .ok (.aload_n 0, 1) := dk_42 (dk_at dksX3_pass_2_2 13 rfl rfl)
theorem dX3_pass_2_59 : decode cX3_pass_2 59 = .ok (.getfield 135, 3) := dk_180 0 135 (dk_at dksX3_pass_2_2 14 rfl rfl)
theorem dX3_pass_2_62 : decode cX3_pass_2 62 = .ok (.ireturn, 1) := dk_172 (dk_at dksX3_pass_2_2 17 rfl rfl)
abbrev cX3_beginDay : ByteArray := prog_13_method_28_code
def yX3_beginDay : MethodName := ⟨RX3, "beginDay", "()V"⟩
def dkwX3_beginDay_7 : List UInt8 := [180, 0, 135, 16, 30, 112, 154, 0, 14, 42, 27, 182, 0, 222, 132, 1, 1, 167, 255, 230, 177]
abbrev dktX3_beginDay_7 : List UInt8 := dkwX3_beginDay_7 ++ []
def dkwX3_beginDay_6 : List UInt8 := [104, 8, 96, 46, 79, 132, 1, 1, 167, 255, 174, 3, 60, 27, 42, 180, 0, 89, 162, 0, 24, 42]
abbrev dktX3_beginDay_6 : List UInt8 := dkwX3_beginDay_6 ++ dktX3_beginDay_7
def dkwX3_beginDay_5 : List UInt8 := [180, 0, 71, 16, 6, 27, 104, 8, 96, 28, 153, 0, 7, 5, 167, 0, 14, 42, 180, 0, 71, 16, 6, 27]
abbrev dktX3_beginDay_5 : List UInt8 := dkwX3_beginDay_5 ++ dktX3_beginDay_6
def dkwX3_beginDay_4 : List UInt8 := [16, 6, 27, 104, 5, 96, 46, 16, 15, 96, 42, 180, 0, 135, 160, 0, 7, 4, 167, 0, 4, 3, 61, 42]
abbrev dktX3_beginDay_4 : List UInt8 := dkwX3_beginDay_4 ++ dktX3_beginDay_5
def dkwX3_beginDay_3 : List UInt8 := [180, 0, 99, 162, 0, 80, 42, 180, 0, 71, 16, 6, 27, 104, 8, 96, 46, 154, 0, 28, 42, 180, 0, 71]
abbrev dktX3_beginDay_3 : List UInt8 := dkwX3_beginDay_3 ++ dktX3_beginDay_4
def dkwX3_beginDay_2 : List UInt8 := [160, 0, 7, 5, 167, 0, 9, 42, 180, 0, 48, 27, 46, 79, 132, 1, 1, 167, 255, 204, 3, 60, 27, 42]
abbrev dktX3_beginDay_2 : List UInt8 := dkwX3_beginDay_2 ++ dktX3_beginDay_3
def dkwX3_beginDay_1 : List UInt8 := [27, 42, 180, 0, 48, 27, 46, 154, 0, 23, 42, 180, 0, 42, 27, 46, 16, 21, 96, 42, 180, 0, 135]
abbrev dktX3_beginDay_1 : List UInt8 := dkwX3_beginDay_1 ++ dktX3_beginDay_2
def dkwX3_beginDay_0 : List UInt8 := [42, 89, 180, 0, 135, 4, 96, 181, 0, 135, 3, 60, 27, 42, 180, 0, 96, 162, 0, 50, 42, 180, 0, 48]
abbrev dktX3_beginDay_0 : List UInt8 := dkwX3_beginDay_0 ++ dktX3_beginDay_1
theorem dksX3_beginDay_0 : cX3_beginDay.data.toList.drop 0 = dktX3_beginDay_0 := by decide +kernel
theorem dksX3_beginDay_1 : cX3_beginDay.data.toList.drop 24 = dktX3_beginDay_1 := dk_seg dksX3_beginDay_0 24 rfl rfl
theorem dksX3_beginDay_2 : cX3_beginDay.data.toList.drop 47 = dktX3_beginDay_2 := dk_seg dksX3_beginDay_1 23 rfl rfl
theorem dksX3_beginDay_3 : cX3_beginDay.data.toList.drop 71 = dktX3_beginDay_3 := dk_seg dksX3_beginDay_2 24 rfl rfl
theorem dksX3_beginDay_4 : cX3_beginDay.data.toList.drop 95 = dktX3_beginDay_4 := dk_seg dksX3_beginDay_3 24 rfl rfl
theorem dksX3_beginDay_5 : cX3_beginDay.data.toList.drop 119 = dktX3_beginDay_5 := dk_seg dksX3_beginDay_4 24 rfl rfl
theorem dksX3_beginDay_6 : cX3_beginDay.data.toList.drop 143 = dktX3_beginDay_6 := dk_seg dksX3_beginDay_5 24 rfl rfl
theorem dksX3_beginDay_7 : cX3_beginDay.data.toList.drop 165 = dktX3_beginDay_7 := dk_seg dksX3_beginDay_6 22 rfl rfl
theorem dX3_beginDay_0 : decode cX3_beginDay 0 = .ok (.aload_n 0, 1) := dk_42 (dk_at dksX3_beginDay_0 0 rfl rfl)
theorem dX3_beginDay_1 : decode cX3_beginDay 1 = .ok (.dup, 1) := dk_89 (dk_at dksX3_beginDay_0 1 rfl rfl)
theorem dX3_beginDay_2 : decode cX3_beginDay 2 = .ok (.getfield 135, 3) := dk_180 0 135 (dk_at dksX3_beginDay_0 2 rfl rfl)
theorem dX3_beginDay_5 : decode cX3_beginDay 5 = .ok (.iconst 1, 1) := dk_4 (dk_at dksX3_beginDay_0 5 rfl rfl)
theorem dX3_beginDay_6 : decode cX3_beginDay 6 = .ok (.iadd, 1) := dk_96 (dk_at dksX3_beginDay_0 6 rfl rfl)
theorem dX3_beginDay_7 : decode cX3_beginDay 7 = .ok (.putfield 135, 3) := dk_181 0 135 (dk_at dksX3_beginDay_0 7 rfl rfl)
theorem dX3_beginDay_10 : decode cX3_beginDay 10 = .ok (.iconst 0, 1) := dk_3 (dk_at dksX3_beginDay_0 10 rfl rfl)
theorem dX3_beginDay_11 : decode cX3_beginDay 11 = .ok (.istore_n 1, 1) := dk_60 (dk_at dksX3_beginDay_0 11 rfl rfl)
theorem dX3_beginDay_12 : decode cX3_beginDay 12 = .ok (.iload_n 1, 1) := dk_27 (dk_at dksX3_beginDay_0 12 rfl rfl)
theorem dX3_beginDay_13 : decode cX3_beginDay 13 = .ok (.aload_n 0, 1) := dk_42 (dk_at dksX3_beginDay_0 13 rfl rfl)
theorem dX3_beginDay_14 : decode cX3_beginDay 14 = .ok (.getfield 96, 3) := dk_180 0 96 (dk_at dksX3_beginDay_0 14 rfl rfl)
theorem dX3_beginDay_17 : decode cX3_beginDay 17 = .ok (.if_icmp .ge 50, 3) := dk_162 0 50 (dk_at dksX3_beginDay_0 17 rfl rfl)
theorem dX3_beginDay_20 : decode cX3_beginDay 20 = .ok (.aload_n 0, 1) := dk_42 (dk_at dksX3_beginDay_0 20 rfl rfl)
theorem dX3_beginDay_21 : decode cX3_beginDay 21 = .ok (.getfield 48, 3) := dk_180 0 48 (dk_at dksX3_beginDay_0 21 rfl rfl)
theorem dX3_beginDay_24 : decode cX3_beginDay 24 = .ok (.iload_n 1, 1) := dk_27 (dk_at dksX3_beginDay_1 0 rfl rfl)
theorem dX3_beginDay_25 : decode cX3_beginDay 25 = .ok (.aload_n 0, 1) := dk_42 (dk_at dksX3_beginDay_1 1 rfl rfl)
theorem dX3_beginDay_26 : decode cX3_beginDay 26 = .ok (.getfield 48, 3) := dk_180 0 48 (dk_at dksX3_beginDay_1 2 rfl rfl)
theorem dX3_beginDay_29 : decode cX3_beginDay 29 = .ok (.iload_n 1, 1) := dk_27 (dk_at dksX3_beginDay_1 5 rfl rfl)
theorem dX3_beginDay_30 : decode cX3_beginDay 30 = .ok (.iaload, 1) := dk_46 (dk_at dksX3_beginDay_1 6 rfl rfl)
theorem dX3_beginDay_31 : decode cX3_beginDay 31 = .ok (.ifCond .ne 23, 3) := dk_154 0 23 (dk_at dksX3_beginDay_1 7 rfl rfl)
theorem dX3_beginDay_34 : decode cX3_beginDay 34 = .ok (.aload_n 0, 1) := dk_42 (dk_at dksX3_beginDay_1 10 rfl rfl)
theorem dX3_beginDay_35 : decode cX3_beginDay 35 = .ok (.getfield 42, 3) := dk_180 0 42 (dk_at dksX3_beginDay_1 11 rfl rfl)
theorem dX3_beginDay_38 : decode cX3_beginDay 38 = .ok (.iload_n 1, 1) := dk_27 (dk_at dksX3_beginDay_1 14 rfl rfl)
theorem dX3_beginDay_39 : decode cX3_beginDay 39 = .ok (.iaload, 1) := dk_46 (dk_at dksX3_beginDay_1 15 rfl rfl)
theorem dX3_beginDay_40 : decode cX3_beginDay 40 = .ok (.bipush 21, 2) := dk_16 21 (dk_at dksX3_beginDay_1 16 rfl rfl)
theorem dX3_beginDay_42 : decode cX3_beginDay 42 = .ok (.iadd, 1) := dk_96 (dk_at dksX3_beginDay_1 18 rfl rfl)
theorem dX3_beginDay_43 : decode cX3_beginDay 43 = .ok (.aload_n 0, 1) := dk_42 (dk_at dksX3_beginDay_1 19 rfl rfl)
theorem dX3_beginDay_44 : decode cX3_beginDay 44 = .ok (.getfield 135, 3) := dk_180 0 135 (dk_at dksX3_beginDay_1 20 rfl rfl)
theorem dX3_beginDay_47 : decode cX3_beginDay 47 = .ok (.if_icmp .ne 7, 3) := dk_160 0 7 (dk_at dksX3_beginDay_2 0 rfl rfl)
theorem dX3_beginDay_50 : decode cX3_beginDay 50 = .ok (.iconst 2, 1) := dk_5 (dk_at dksX3_beginDay_2 3 rfl rfl)
theorem dX3_beginDay_51 : decode cX3_beginDay 51 = .ok (.goto 9, 3) := dk_167 0 9 (dk_at dksX3_beginDay_2 4 rfl rfl)
theorem dX3_beginDay_54 : decode cX3_beginDay 54 = .ok (.aload_n 0, 1) := dk_42 (dk_at dksX3_beginDay_2 7 rfl rfl)
theorem dX3_beginDay_55 : decode cX3_beginDay 55 = .ok (.getfield 48, 3) := dk_180 0 48 (dk_at dksX3_beginDay_2 8 rfl rfl)
theorem dX3_beginDay_58 : decode cX3_beginDay 58 = .ok (.iload_n 1, 1) := dk_27 (dk_at dksX3_beginDay_2 11 rfl rfl)
theorem dX3_beginDay_59 : decode cX3_beginDay 59 = .ok (.iaload, 1) := dk_46 (dk_at dksX3_beginDay_2 12 rfl rfl)
theorem dX3_beginDay_60 : decode cX3_beginDay 60 = .ok (.iastore, 1) := dk_79 (dk_at dksX3_beginDay_2 13 rfl rfl)
theorem dX3_beginDay_61 : decode cX3_beginDay 61 = .ok (.iinc 1 1, 3) := dk_132 1 1 (dk_at dksX3_beginDay_2 14 rfl rfl)
theorem dX3_beginDay_64 : decode cX3_beginDay 64 = .ok (.goto (-52), 3) := dk_167 255 204 (dk_at dksX3_beginDay_2 17 rfl rfl)
theorem dX3_beginDay_67 : decode cX3_beginDay 67 = .ok (.iconst 0, 1) := dk_3 (dk_at dksX3_beginDay_2 20 rfl rfl)
theorem dX3_beginDay_68 : decode cX3_beginDay 68 = .ok (.istore_n 1, 1) := dk_60 (dk_at dksX3_beginDay_2 21 rfl rfl)
theorem dX3_beginDay_69 : decode cX3_beginDay 69 = .ok (.iload_n 1, 1) := dk_27 (dk_at dksX3_beginDay_2 22 rfl rfl)
theorem dX3_beginDay_70 : decode cX3_beginDay 70 = .ok (.aload_n 0, 1) := dk_42 (dk_at dksX3_beginDay_2 23 rfl rfl)
theorem dX3_beginDay_71 : decode cX3_beginDay 71 = .ok (.getfield 99, 3) := dk_180 0 99 (dk_at dksX3_beginDay_3 0 rfl rfl)
theorem dX3_beginDay_74 : decode cX3_beginDay 74 = .ok (.if_icmp .ge 80, 3) := dk_162 0 80 (dk_at dksX3_beginDay_3 3 rfl rfl)
theorem dX3_beginDay_77 : decode cX3_beginDay 77 = .ok (.aload_n 0, 1) := dk_42 (dk_at dksX3_beginDay_3 6 rfl rfl)
theorem dX3_beginDay_78 : decode cX3_beginDay 78 = .ok (.getfield 71, 3) := dk_180 0 71 (dk_at dksX3_beginDay_3 7 rfl rfl)
theorem dX3_beginDay_81 : decode cX3_beginDay 81 = .ok (.bipush 6, 2) := dk_16 6 (dk_at dksX3_beginDay_3 10 rfl rfl)
theorem dX3_beginDay_83 : decode cX3_beginDay 83 = .ok (.iload_n 1, 1) := dk_27 (dk_at dksX3_beginDay_3 12 rfl rfl)
theorem dX3_beginDay_84 : decode cX3_beginDay 84 = .ok (.imul, 1) := dk_104 (dk_at dksX3_beginDay_3 13 rfl rfl)
theorem dX3_beginDay_85 : decode cX3_beginDay 85 = .ok (.iconst 5, 1) := dk_8 (dk_at dksX3_beginDay_3 14 rfl rfl)
theorem dX3_beginDay_86 : decode cX3_beginDay 86 = .ok (.iadd, 1) := dk_96 (dk_at dksX3_beginDay_3 15 rfl rfl)
theorem dX3_beginDay_87 : decode cX3_beginDay 87 = .ok (.iaload, 1) := dk_46 (dk_at dksX3_beginDay_3 16 rfl rfl)
theorem dX3_beginDay_88 : decode cX3_beginDay 88 = .ok (.ifCond .ne 28, 3) := dk_154 0 28 (dk_at dksX3_beginDay_3 17 rfl rfl)
theorem dX3_beginDay_91 : decode cX3_beginDay 91 = .ok (.aload_n 0, 1) := dk_42 (dk_at dksX3_beginDay_3 20 rfl rfl)
theorem dX3_beginDay_92 : decode cX3_beginDay 92 = .ok (.getfield 71, 3) := dk_180 0 71 (dk_at dksX3_beginDay_3 21 rfl rfl)
theorem dX3_beginDay_95 : decode cX3_beginDay 95 = .ok (.bipush 6, 2) := dk_16 6 (dk_at dksX3_beginDay_4 0 rfl rfl)
theorem dX3_beginDay_97 : decode cX3_beginDay 97 = .ok (.iload_n 1, 1) := dk_27 (dk_at dksX3_beginDay_4 2 rfl rfl)
theorem dX3_beginDay_98 : decode cX3_beginDay 98 = .ok (.imul, 1) := dk_104 (dk_at dksX3_beginDay_4 3 rfl rfl)
theorem dX3_beginDay_99 : decode cX3_beginDay 99 = .ok (.iconst 2, 1) := dk_5 (dk_at dksX3_beginDay_4 4 rfl rfl)
theorem dX3_beginDay_100 : decode cX3_beginDay 100 = .ok (.iadd, 1) := dk_96 (dk_at dksX3_beginDay_4 5 rfl rfl)
theorem dX3_beginDay_101 : decode cX3_beginDay 101 = .ok (.iaload, 1) := dk_46 (dk_at dksX3_beginDay_4 6 rfl rfl)
theorem dX3_beginDay_102 : decode cX3_beginDay 102 = .ok (.bipush 15, 2) := dk_16 15 (dk_at dksX3_beginDay_4 7 rfl rfl)
theorem dX3_beginDay_104 : decode cX3_beginDay 104 = .ok (.iadd, 1) := dk_96 (dk_at dksX3_beginDay_4 9 rfl rfl)
theorem dX3_beginDay_105 : decode cX3_beginDay 105 = .ok (.aload_n 0, 1) := dk_42 (dk_at dksX3_beginDay_4 10 rfl rfl)
theorem dX3_beginDay_106 : decode cX3_beginDay 106 = .ok (.getfield 135, 3) := dk_180 0 135 (dk_at dksX3_beginDay_4 11 rfl rfl)
theorem dX3_beginDay_109 : decode cX3_beginDay 109 = .ok (.if_icmp .ne 7, 3) := dk_160 0 7 (dk_at dksX3_beginDay_4 14 rfl rfl)
theorem dX3_beginDay_112 : decode cX3_beginDay 112 = .ok (.iconst 1, 1) := dk_4 (dk_at dksX3_beginDay_4 17 rfl rfl)
theorem dX3_beginDay_113 : decode cX3_beginDay 113 = .ok (.goto 4, 3) := dk_167 0 4 (dk_at dksX3_beginDay_4 18 rfl rfl)
theorem dX3_beginDay_116 : decode cX3_beginDay 116 = .ok (.iconst 0, 1) := dk_3 (dk_at dksX3_beginDay_4 21 rfl rfl)
theorem dX3_beginDay_117 : decode cX3_beginDay 117 = .ok (.istore_n 2, 1) := dk_61 (dk_at dksX3_beginDay_4 22 rfl rfl)
theorem dX3_beginDay_118 : decode cX3_beginDay 118 = .ok (.aload_n 0, 1) := dk_42 (dk_at dksX3_beginDay_4 23 rfl rfl)
theorem dX3_beginDay_119 : decode cX3_beginDay 119 = .ok (.getfield 71, 3) := dk_180 0 71 (dk_at dksX3_beginDay_5 0 rfl rfl)
theorem dX3_beginDay_122 : decode cX3_beginDay 122 = .ok (.bipush 6, 2) := dk_16 6 (dk_at dksX3_beginDay_5 3 rfl rfl)
theorem dX3_beginDay_124 : decode cX3_beginDay 124 = .ok (.iload_n 1, 1) := dk_27 (dk_at dksX3_beginDay_5 5 rfl rfl)
theorem dX3_beginDay_125 : decode cX3_beginDay 125 = .ok (.imul, 1) := dk_104 (dk_at dksX3_beginDay_5 6 rfl rfl)
theorem dX3_beginDay_126 : decode cX3_beginDay 126 = .ok (.iconst 5, 1) := dk_8 (dk_at dksX3_beginDay_5 7 rfl rfl)
theorem dX3_beginDay_127 : decode cX3_beginDay 127 = .ok (.iadd, 1) := dk_96 (dk_at dksX3_beginDay_5 8 rfl rfl)
theorem dX3_beginDay_128 : decode cX3_beginDay 128 = .ok (.iload_n 2, 1) := dk_28 (dk_at dksX3_beginDay_5 9 rfl rfl)
theorem dX3_beginDay_129 : decode cX3_beginDay 129 = .ok (.ifCond .eq 7, 3) := dk_153 0 7 (dk_at dksX3_beginDay_5 10 rfl rfl)
theorem dX3_beginDay_132 : decode cX3_beginDay 132 = .ok (.iconst 2, 1) := dk_5 (dk_at dksX3_beginDay_5 13 rfl rfl)
theorem dX3_beginDay_133 : decode cX3_beginDay 133 = .ok (.goto 14, 3) := dk_167 0 14 (dk_at dksX3_beginDay_5 14 rfl rfl)
theorem dX3_beginDay_136 : decode cX3_beginDay 136 = .ok (.aload_n 0, 1) := dk_42 (dk_at dksX3_beginDay_5 17 rfl rfl)
theorem dX3_beginDay_137 : decode cX3_beginDay 137 = .ok (.getfield 71, 3) := dk_180 0 71 (dk_at dksX3_beginDay_5 18 rfl rfl)
theorem dX3_beginDay_140 : decode cX3_beginDay 140 = .ok (.bipush 6, 2) := dk_16 6 (dk_at dksX3_beginDay_5 21 rfl rfl)
theorem dX3_beginDay_142 : decode cX3_beginDay 142 = .ok (.iload_n 1, 1) := dk_27 (dk_at dksX3_beginDay_5 23 rfl rfl)
theorem dX3_beginDay_143 : decode cX3_beginDay 143 = .ok (.imul, 1) := dk_104 (dk_at dksX3_beginDay_6 0 rfl rfl)
theorem dX3_beginDay_144 : decode cX3_beginDay 144 = .ok (.iconst 5, 1) := dk_8 (dk_at dksX3_beginDay_6 1 rfl rfl)
theorem dX3_beginDay_145 : decode cX3_beginDay 145 = .ok (.iadd, 1) := dk_96 (dk_at dksX3_beginDay_6 2 rfl rfl)
theorem dX3_beginDay_146 : decode cX3_beginDay 146 = .ok (.iaload, 1) := dk_46 (dk_at dksX3_beginDay_6 3 rfl rfl)
theorem dX3_beginDay_147 : decode cX3_beginDay 147 = .ok (.iastore, 1) := dk_79 (dk_at dksX3_beginDay_6 4 rfl rfl)
theorem dX3_beginDay_148 : decode cX3_beginDay 148 = .ok (.iinc 1 1, 3) := dk_132 1 1 (dk_at dksX3_beginDay_6 5 rfl rfl)
theorem dX3_beginDay_151 : decode cX3_beginDay 151 = .ok (.goto (-82), 3) := dk_167 255 174 (dk_at dksX3_beginDay_6 8 rfl rfl)
theorem dX3_beginDay_154 : decode cX3_beginDay 154 = .ok (.iconst 0, 1) := dk_3 (dk_at dksX3_beginDay_6 11 rfl rfl)
theorem dX3_beginDay_155 : decode cX3_beginDay 155 = .ok (.istore_n 1, 1) := dk_60 (dk_at dksX3_beginDay_6 12 rfl rfl)
theorem dX3_beginDay_156 : decode cX3_beginDay 156 = .ok (.iload_n 1, 1) := dk_27 (dk_at dksX3_beginDay_6 13 rfl rfl)
theorem dX3_beginDay_157 : decode cX3_beginDay 157 = .ok (.aload_n 0, 1) := dk_42 (dk_at dksX3_beginDay_6 14 rfl rfl)
theorem dX3_beginDay_158 : decode cX3_beginDay 158 = .ok (.getfield 89, 3) := dk_180 0 89 (dk_at dksX3_beginDay_6 15 rfl rfl)
theorem dX3_beginDay_161 : decode cX3_beginDay 161 = .ok (.if_icmp .ge 24, 3) := dk_162 0 24 (dk_at dksX3_beginDay_6 18 rfl rfl)
theorem dX3_beginDay_164 : decode cX3_beginDay 164 = .ok (.aload_n 0, 1) := dk_42 (dk_at dksX3_beginDay_6 21 rfl rfl)
theorem dX3_beginDay_165 : decode cX3_beginDay 165 = .ok (.getfield 135, 3) := dk_180 0 135 (dk_at dksX3_beginDay_7 0 rfl rfl)
theorem dX3_beginDay_168 : decode cX3_beginDay 168 = .ok (.bipush 30, 2) := dk_16 30 (dk_at dksX3_beginDay_7 3 rfl rfl)
theorem dX3_beginDay_170 : decode cX3_beginDay 170 = .ok (.irem, 1) := dk_112 (dk_at dksX3_beginDay_7 5 rfl rfl)
theorem dX3_beginDay_171 : decode cX3_beginDay 171 = .ok (.ifCond .ne 14, 3) := dk_154 0 14 (dk_at dksX3_beginDay_7 6 rfl rfl)
theorem dX3_beginDay_174 : decode cX3_beginDay 174 = .ok (.aload_n 0, 1) := dk_42 (dk_at dksX3_beginDay_7 9 rfl rfl)
theorem dX3_beginDay_175 : decode cX3_beginDay 175 = .ok (.iload_n 1, 1) := dk_27 (dk_at dksX3_beginDay_7 10 rfl rfl)
theorem dX3_beginDay_176 : decode cX3_beginDay 176 = .ok (.invokevirtual 222, 3) := dk_182 0 222 (dk_at dksX3_beginDay_7 11 rfl rfl)
theorem dX3_beginDay_179 : decode cX3_beginDay 179 = .ok (.iinc 1 1, 3) := dk_132 1 1 (dk_at dksX3_beginDay_7 14 rfl rfl)
theorem dX3_beginDay_182 : decode cX3_beginDay 182 = .ok (.goto (-26), 3) := dk_167 255 230 (dk_at dksX3_beginDay_7 17 rfl rfl)
theorem dX3_beginDay_185 : decode cX3_beginDay 185 = .ok (.return_, 1) := dk_177 (dk_at dksX3_beginDay_7 20 rfl rfl)
abbrev cX3_beginMonth : ByteArray := prog_13_method_27_code
def yX3_beginMonth : MethodName := ⟨RX3, "beginMonth", "(I)V"⟩
def dkwX3_beginMonth_4 : List UInt8 := [182, 0, 178, 154, 0, 15, 42, 27, 28, 42, 27, 28, 182, 0, 212, 182, 0, 215, 177]
abbrev dktX3_beginMonth_4 : List UInt8 := dkwX3_beginMonth_4 ++ []
def dkwX3_beginMonth_3 : List UInt8 := [21, 5, 162, 0, 14, 42, 27, 29, 21, 5, 21, 4, 100, 182, 0, 219, 132, 3, 1, 167, 255, 176, 42, 27]
abbrev dktX3_beginMonth_3 : List UInt8 := dkwX3_beginMonth_3 ++ dktX3_beginMonth_4
def dkwX3_beginMonth_2 : List UInt8 := [21, 4, 21, 5, 164, 0, 17, 42, 27, 29, 21, 4, 21, 5, 100, 182, 0, 215, 167, 0, 21, 21, 4]
abbrev dktX3_beginMonth_2 : List UInt8 := dkwX3_beginMonth_2 ++ dktX3_beginMonth_3
def dkwX3_beginMonth_1 : List UInt8 := [180, 0, 33, 16, 51, 27, 104, 29, 96, 46, 42, 180, 0, 36, 16, 51, 27, 104, 29, 96, 46, 100, 54, 5]
abbrev dktX3_beginMonth_1 : List UInt8 := dkwX3_beginMonth_1 ++ dktX3_beginMonth_2
def dkwX3_beginMonth_0 : List UInt8 := [42, 180, 0, 135, 16, 30, 108, 61, 3, 62, 29, 28, 162, 0, 81, 42, 27, 29, 182, 0, 212, 54, 4, 42]
abbrev dktX3_beginMonth_0 : List UInt8 := dkwX3_beginMonth_0 ++ dktX3_beginMonth_1
theorem dksX3_beginMonth_0 : cX3_beginMonth.data.toList.drop 0 = dktX3_beginMonth_0 := by decide +kernel
theorem dksX3_beginMonth_1 : cX3_beginMonth.data.toList.drop 24 = dktX3_beginMonth_1 := dk_seg dksX3_beginMonth_0 24 rfl rfl
theorem dksX3_beginMonth_2 : cX3_beginMonth.data.toList.drop 48 = dktX3_beginMonth_2 := dk_seg dksX3_beginMonth_1 24 rfl rfl
theorem dksX3_beginMonth_3 : cX3_beginMonth.data.toList.drop 71 = dktX3_beginMonth_3 := dk_seg dksX3_beginMonth_2 23 rfl rfl
theorem dksX3_beginMonth_4 : cX3_beginMonth.data.toList.drop 95 = dktX3_beginMonth_4 := dk_seg dksX3_beginMonth_3 24 rfl rfl
theorem dX3_beginMonth_0 : decode cX3_beginMonth 0 = .ok (.aload_n 0, 1) := dk_42 (dk_at dksX3_beginMonth_0 0 rfl rfl)
theorem dX3_beginMonth_1 : decode cX3_beginMonth 1 = .ok (.getfield 135, 3) := dk_180 0 135 (dk_at dksX3_beginMonth_0 1 rfl rfl)
theorem dX3_beginMonth_4 : decode cX3_beginMonth 4 = .ok (.bipush 30, 2) := dk_16 30 (dk_at dksX3_beginMonth_0 4 rfl rfl)
theorem dX3_beginMonth_6 : decode cX3_beginMonth 6 = .ok (.idiv, 1) := dk_108 (dk_at dksX3_beginMonth_0 6 rfl rfl)
theorem dX3_beginMonth_7 : decode cX3_beginMonth 7 = .ok (.istore_n 2, 1) := dk_61 (dk_at dksX3_beginMonth_0 7 rfl rfl)
theorem dX3_beginMonth_8 : decode cX3_beginMonth 8 = .ok (.iconst 0, 1) := dk_3 (dk_at dksX3_beginMonth_0 8 rfl rfl)
theorem dX3_beginMonth_9 : decode cX3_beginMonth 9 = .ok (.istore_n 3, 1) := dk_62 (dk_at dksX3_beginMonth_0 9 rfl rfl)
theorem dX3_beginMonth_10 : decode cX3_beginMonth 10 = .ok (.iload_n 3, 1) := dk_29 (dk_at dksX3_beginMonth_0 10 rfl rfl)
theorem dX3_beginMonth_11 : decode cX3_beginMonth 11 = .ok (.iload_n 2, 1) := dk_28 (dk_at dksX3_beginMonth_0 11 rfl rfl)
theorem dX3_beginMonth_12 : decode cX3_beginMonth 12 = .ok (.if_icmp .ge 81, 3) := dk_162 0 81 (dk_at dksX3_beginMonth_0 12 rfl rfl)
theorem dX3_beginMonth_15 : decode cX3_beginMonth 15 = .ok (.aload_n 0, 1) := dk_42 (dk_at dksX3_beginMonth_0 15 rfl rfl)
theorem dX3_beginMonth_16 : decode cX3_beginMonth 16 = .ok (.iload_n 1, 1) := dk_27 (dk_at dksX3_beginMonth_0 16 rfl rfl)
theorem dX3_beginMonth_17 : decode cX3_beginMonth 17 = .ok (.iload_n 3, 1) := dk_29 (dk_at dksX3_beginMonth_0 17 rfl rfl)
theorem dX3_beginMonth_18 : decode cX3_beginMonth 18 = .ok (.invokevirtual 212, 3) := dk_182 0 212 (dk_at dksX3_beginMonth_0 18 rfl rfl)
theorem dX3_beginMonth_21 : decode cX3_beginMonth 21 = .ok (.istore 4, 2) := dk_54 4 (dk_at dksX3_beginMonth_0 21 rfl rfl)
theorem dX3_beginMonth_23 : decode cX3_beginMonth 23 = .ok (.aload_n 0, 1) := dk_42 (dk_at dksX3_beginMonth_0 23 rfl rfl)
theorem dX3_beginMonth_24 : decode cX3_beginMonth 24 = .ok (.getfield 33, 3) := dk_180 0 33 (dk_at dksX3_beginMonth_1 0 rfl rfl)
theorem dX3_beginMonth_27 : decode cX3_beginMonth 27 = .ok (.bipush 51, 2) := dk_16 51 (dk_at dksX3_beginMonth_1 3 rfl rfl)
theorem dX3_beginMonth_29 : decode cX3_beginMonth 29 = .ok (.iload_n 1, 1) := dk_27 (dk_at dksX3_beginMonth_1 5 rfl rfl)
theorem dX3_beginMonth_30 : decode cX3_beginMonth 30 = .ok (.imul, 1) := dk_104 (dk_at dksX3_beginMonth_1 6 rfl rfl)
theorem dX3_beginMonth_31 : decode cX3_beginMonth 31 = .ok (.iload_n 3, 1) := dk_29 (dk_at dksX3_beginMonth_1 7 rfl rfl)
theorem dX3_beginMonth_32 : decode cX3_beginMonth 32 = .ok (.iadd, 1) := dk_96 (dk_at dksX3_beginMonth_1 8 rfl rfl)
theorem dX3_beginMonth_33 : decode cX3_beginMonth 33 = .ok (.iaload, 1) := dk_46 (dk_at dksX3_beginMonth_1 9 rfl rfl)
theorem dX3_beginMonth_34 : decode cX3_beginMonth 34 = .ok (.aload_n 0, 1) := dk_42 (dk_at dksX3_beginMonth_1 10 rfl rfl)
theorem dX3_beginMonth_35 : decode cX3_beginMonth 35 = .ok (.getfield 36, 3) := dk_180 0 36 (dk_at dksX3_beginMonth_1 11 rfl rfl)
theorem dX3_beginMonth_38 : decode cX3_beginMonth 38 = .ok (.bipush 51, 2) := dk_16 51 (dk_at dksX3_beginMonth_1 14 rfl rfl)
theorem dX3_beginMonth_40 : decode cX3_beginMonth 40 = .ok (.iload_n 1, 1) := dk_27 (dk_at dksX3_beginMonth_1 16 rfl rfl)
theorem dX3_beginMonth_41 : decode cX3_beginMonth 41 = .ok (.imul, 1) := dk_104 (dk_at dksX3_beginMonth_1 17 rfl rfl)
theorem dX3_beginMonth_42 : decode cX3_beginMonth 42 = .ok (.iload_n 3, 1) := dk_29 (dk_at dksX3_beginMonth_1 18 rfl rfl)
theorem dX3_beginMonth_43 : decode cX3_beginMonth 43 = .ok (.iadd, 1) := dk_96 (dk_at dksX3_beginMonth_1 19 rfl rfl)
theorem dX3_beginMonth_44 : decode cX3_beginMonth 44 = .ok (.iaload, 1) := dk_46 (dk_at dksX3_beginMonth_1 20 rfl rfl)
theorem dX3_beginMonth_45 : decode cX3_beginMonth 45 = .ok (.isub, 1) := dk_100 (dk_at dksX3_beginMonth_1 21 rfl rfl)
theorem dX3_beginMonth_46 : decode cX3_beginMonth 46 = .ok (.istore 5, 2) := dk_54 5 (dk_at dksX3_beginMonth_1 22 rfl rfl)
theorem dX3_beginMonth_48 : decode cX3_beginMonth 48 = .ok (.iload 4, 2) := dk_21 4 (dk_at dksX3_beginMonth_2 0 rfl rfl)
theorem dX3_beginMonth_50 : decode cX3_beginMonth 50 = .ok (.iload 5, 2) := dk_21 5 (dk_at dksX3_beginMonth_2 2 rfl rfl)
theorem dX3_beginMonth_52 : decode cX3_beginMonth 52 = .ok (.if_icmp .le 17, 3) := dk_164 0 17 (dk_at dksX3_beginMonth_2 4 rfl rfl)
theorem dX3_beginMonth_55 : decode cX3_beginMonth 55 = .ok (.aload_n 0, 1) := dk_42 (dk_at dksX3_beginMonth_2 7 rfl rfl)
theorem dX3_beginMonth_56 : decode cX3_beginMonth 56 = .ok (.iload_n 1, 1) := dk_27 (dk_at dksX3_beginMonth_2 8 rfl rfl)
theorem dX3_beginMonth_57 : decode cX3_beginMonth 57 = .ok (.iload_n 3, 1) := dk_29 (dk_at dksX3_beginMonth_2 9 rfl rfl)
theorem dX3_beginMonth_58 : decode cX3_beginMonth 58 = .ok (.iload 4, 2) := dk_21 4 (dk_at dksX3_beginMonth_2 10 rfl rfl)
theorem dX3_beginMonth_60 : decode cX3_beginMonth 60 = .ok (.iload 5, 2) := dk_21 5 (dk_at dksX3_beginMonth_2 12 rfl rfl)
theorem dX3_beginMonth_62 : decode cX3_beginMonth 62 = .ok (.isub, 1) := dk_100 (dk_at dksX3_beginMonth_2 14 rfl rfl)
theorem dX3_beginMonth_63 : decode cX3_beginMonth 63 = .ok (.invokevirtual 215, 3) := dk_182 0 215 (dk_at dksX3_beginMonth_2 15 rfl rfl)
theorem dX3_beginMonth_66 : decode cX3_beginMonth 66 = .ok (.goto 21, 3) := dk_167 0 21 (dk_at dksX3_beginMonth_2 18 rfl rfl)
theorem dX3_beginMonth_69 : decode cX3_beginMonth 69 = .ok (.iload 4, 2) := dk_21 4 (dk_at dksX3_beginMonth_2 21 rfl rfl)
theorem dX3_beginMonth_71 : decode cX3_beginMonth 71 = .ok (.iload 5, 2) := dk_21 5 (dk_at dksX3_beginMonth_3 0 rfl rfl)
theorem dX3_beginMonth_73 : decode cX3_beginMonth 73 = .ok (.if_icmp .ge 14, 3) := dk_162 0 14 (dk_at dksX3_beginMonth_3 2 rfl rfl)
theorem dX3_beginMonth_76 : decode cX3_beginMonth 76 = .ok (.aload_n 0, 1) := dk_42 (dk_at dksX3_beginMonth_3 5 rfl rfl)
theorem dX3_beginMonth_77 : decode cX3_beginMonth 77 = .ok (.iload_n 1, 1) := dk_27 (dk_at dksX3_beginMonth_3 6 rfl rfl)
theorem dX3_beginMonth_78 : decode cX3_beginMonth 78 = .ok (.iload_n 3, 1) := dk_29 (dk_at dksX3_beginMonth_3 7 rfl rfl)
theorem dX3_beginMonth_79 : decode cX3_beginMonth 79 = .ok (.iload 5, 2) := dk_21 5 (dk_at dksX3_beginMonth_3 8 rfl rfl)
theorem dX3_beginMonth_81 : decode cX3_beginMonth 81 = .ok (.iload 4, 2) := dk_21 4 (dk_at dksX3_beginMonth_3 10 rfl rfl)
theorem dX3_beginMonth_83 : decode cX3_beginMonth 83 = .ok (.isub, 1) := dk_100 (dk_at dksX3_beginMonth_3 12 rfl rfl)
theorem dX3_beginMonth_84 : decode cX3_beginMonth 84 = .ok (.invokevirtual 219, 3) := dk_182 0 219 (dk_at dksX3_beginMonth_3 13 rfl rfl)
theorem dX3_beginMonth_87 : decode cX3_beginMonth 87 = .ok (.iinc 3 1, 3) := dk_132 3 1 (dk_at dksX3_beginMonth_3 16 rfl rfl)
theorem dX3_beginMonth_90 : decode cX3_beginMonth 90 = .ok (.goto (-80), 3) := dk_167 255 176 (dk_at dksX3_beginMonth_3 19 rfl rfl)
theorem dX3_beginMonth_93 : decode cX3_beginMonth 93 = .ok (.aload_n 0, 1) := dk_42 (dk_at dksX3_beginMonth_3 22 rfl rfl)
theorem dX3_beginMonth_94 : decode cX3_beginMonth 94 = .ok (.iload_n 1, 1) := dk_27 (dk_at dksX3_beginMonth_3 23 rfl rfl)
theorem dX3_beginMonth_95 : decode cX3_beginMonth 95 = .ok (.invokevirtual 178, 3) := dk_182 0 178 (dk_at dksX3_beginMonth_4 0 rfl rfl)
theorem dX3_beginMonth_98 : decode cX3_beginMonth 98 = .ok (.ifCond .ne 15, 3) := dk_154 0 15 (dk_at dksX3_beginMonth_4 3 rfl rfl)
theorem dX3_beginMonth_101 : decode cX3_beginMonth 101 = .ok (.aload_n 0, 1) := dk_42 (dk_at dksX3_beginMonth_4 6 rfl rfl)
theorem dX3_beginMonth_102 : decode cX3_beginMonth 102 = .ok (.iload_n 1, 1) := dk_27 (dk_at dksX3_beginMonth_4 7 rfl rfl)
theorem dX3_beginMonth_103 : decode cX3_beginMonth 103 = .ok (.iload_n 2, 1) := dk_28 (dk_at dksX3_beginMonth_4 8 rfl rfl)
theorem dX3_beginMonth_104 : decode cX3_beginMonth 104 = .ok (.aload_n 0, 1) := dk_42 (dk_at dksX3_beginMonth_4 9 rfl rfl)
theorem dX3_beginMonth_105 : decode cX3_beginMonth 105 = .ok (.iload_n 1, 1) := dk_27 (dk_at dksX3_beginMonth_4 10 rfl rfl)
theorem dX3_beginMonth_106 : decode cX3_beginMonth 106 = .ok (.iload_n 2, 1) := dk_28 (dk_at dksX3_beginMonth_4 11 rfl rfl)
theorem dX3_beginMonth_107 : decode cX3_beginMonth 107 = .ok (.invokevirtual 212, 3) := dk_182 0 212 (dk_at dksX3_beginMonth_4 12 rfl rfl)
theorem dX3_beginMonth_110 : decode cX3_beginMonth 110 = .ok (.invokevirtual 215, 3) := dk_182 0 215 (dk_at dksX3_beginMonth_4 15 rfl rfl)
theorem dX3_beginMonth_113 : decode cX3_beginMonth 113 = .ok (.return_, 1) := dk_177 (dk_at dksX3_beginMonth_4 18 rfl rfl)
abbrev cX3_dueOf : ByteArray := prog_13_method_22_code
def yX3_dueOf : MethodName := ⟨RX3, "dueOf", "(II)I"⟩
def dkwX3_dueOf_1 : List UInt8 := [21, 4, 182, 0, 197, 16, 30, 108, 96, 62, 132, 4, 1, 167, 255, 228, 29, 172]
abbrev dktX3_dueOf_1 : List UInt8 := dkwX3_dueOf_1 ++ []
def dkwX3_dueOf_0 : List UInt8 := [3, 62, 16, 30, 28, 104, 54, 4, 21, 4, 16, 30, 28, 104, 16, 30, 96, 162, 0, 22, 29, 42, 27]
abbrev dktX3_dueOf_0 : List UInt8 := dkwX3_dueOf_0 ++ dktX3_dueOf_1
theorem dksX3_dueOf_0 : cX3_dueOf.data.toList.drop 0 = dktX3_dueOf_0 := by decide +kernel
theorem dksX3_dueOf_1 : cX3_dueOf.data.toList.drop 23 = dktX3_dueOf_1 := dk_seg dksX3_dueOf_0 23 rfl rfl
theorem dX3_dueOf_0 : decode cX3_dueOf 0 = .ok (.iconst 0, 1) := dk_3 (dk_at dksX3_dueOf_0 0 rfl rfl)
theorem dX3_dueOf_1 : decode cX3_dueOf 1 = .ok (.istore_n 3, 1) := dk_62 (dk_at dksX3_dueOf_0 1 rfl rfl)
theorem dX3_dueOf_2 : decode cX3_dueOf 2 = .ok (.bipush 30, 2) := dk_16 30 (dk_at dksX3_dueOf_0 2 rfl rfl)
theorem dX3_dueOf_4 : decode cX3_dueOf 4 = .ok (.iload_n 2, 1) := dk_28 (dk_at dksX3_dueOf_0 4 rfl rfl)
theorem dX3_dueOf_5 : decode cX3_dueOf 5 = .ok (.imul, 1) := dk_104 (dk_at dksX3_dueOf_0 5 rfl rfl)
theorem dX3_dueOf_6 : decode cX3_dueOf 6 = .ok (.istore 4, 2) := dk_54 4 (dk_at dksX3_dueOf_0 6 rfl rfl)
theorem dX3_dueOf_8 : decode cX3_dueOf 8 = .ok (.iload 4, 2) := dk_21 4 (dk_at dksX3_dueOf_0 8 rfl rfl)
theorem dX3_dueOf_10 : decode cX3_dueOf 10 = .ok (.bipush 30, 2) := dk_16 30 (dk_at dksX3_dueOf_0 10 rfl rfl)
theorem dX3_dueOf_12 : decode cX3_dueOf 12 = .ok (.iload_n 2, 1) := dk_28 (dk_at dksX3_dueOf_0 12 rfl rfl)
theorem dX3_dueOf_13 : decode cX3_dueOf 13 = .ok (.imul, 1) := dk_104 (dk_at dksX3_dueOf_0 13 rfl rfl)
theorem dX3_dueOf_14 : decode cX3_dueOf 14 = .ok (.bipush 30, 2) := dk_16 30 (dk_at dksX3_dueOf_0 14 rfl rfl)
theorem dX3_dueOf_16 : decode cX3_dueOf 16 = .ok (.iadd, 1) := dk_96 (dk_at dksX3_dueOf_0 16 rfl rfl)
theorem dX3_dueOf_17 : decode cX3_dueOf 17 = .ok (.if_icmp .ge 22, 3) := dk_162 0 22 (dk_at dksX3_dueOf_0 17 rfl rfl)
theorem dX3_dueOf_20 : decode cX3_dueOf 20 = .ok (.iload_n 3, 1) := dk_29 (dk_at dksX3_dueOf_0 20 rfl rfl)
theorem dX3_dueOf_21 : decode cX3_dueOf 21 = .ok (.aload_n 0, 1) := dk_42 (dk_at dksX3_dueOf_0 21 rfl rfl)
theorem dX3_dueOf_22 : decode cX3_dueOf 22 = .ok (.iload_n 1, 1) := dk_27 (dk_at dksX3_dueOf_0 22 rfl rfl)
theorem dX3_dueOf_23 : decode cX3_dueOf 23 = .ok (.iload 4, 2) := dk_21 4 (dk_at dksX3_dueOf_1 0 rfl rfl)
theorem dX3_dueOf_25 : decode cX3_dueOf 25 = .ok (.invokevirtual 197, 3) := dk_182 0 197 (dk_at dksX3_dueOf_1 2 rfl rfl)
theorem dX3_dueOf_28 : decode cX3_dueOf 28 = .ok (.bipush 30, 2) := dk_16 30 (dk_at dksX3_dueOf_1 5 rfl rfl)
theorem dX3_dueOf_30 : decode cX3_dueOf 30 = .ok (.idiv, 1) := dk_108 (dk_at dksX3_dueOf_1 7 rfl rfl)
theorem dX3_dueOf_31 : decode cX3_dueOf 31 = .ok (.iadd, 1) := dk_96 (dk_at dksX3_dueOf_1 8 rfl rfl)
theorem dX3_dueOf_32 : decode cX3_dueOf 32 = .ok (.istore_n 3, 1) := dk_62 (dk_at dksX3_dueOf_1 9 rfl rfl)
theorem dX3_dueOf_33 : decode cX3_dueOf 33 = .ok (.iinc 4 1, 3) := dk_132 4 1 (dk_at dksX3_dueOf_1 10 rfl rfl)
theorem dX3_dueOf_36 : decode cX3_dueOf 36 = .ok (.goto (-28), 3) := dk_167 255 228 (dk_at dksX3_dueOf_1 13 rfl rfl)
theorem dX3_dueOf_39 : decode cX3_dueOf 39 = .ok (.iload_n 3, 1) := dk_29 (dk_at dksX3_dueOf_1 16 rfl rfl)
theorem dX3_dueOf_40 : decode cX3_dueOf 40 = .ok (.ireturn, 1) := dk_172 (dk_at dksX3_dueOf_1 17 rfl rfl)
abbrev cX3_helpOn : ByteArray := prog_13_method_21_code
def yX3_helpOn : MethodName := ⟨RX3, "helpOn", "(II)I"⟩
def dkwX3_helpOn_6 : List UInt8 := [96, 46, 133, 148, 156, 0, 7, 3, 167, 0, 6, 22, 10, 136, 172]
abbrev dktX3_helpOn_6 : List UInt8 := dkwX3_helpOn_6 ++ []
def dkwX3_helpOn_5 : List UInt8 := [180, 0, 58, 29, 6, 96, 46, 133, 105, 20, 0, 195, 109, 101, 55, 10, 22, 10, 42, 180, 0, 58, 29, 7]
abbrev dktX3_helpOn_5 : List UInt8 := dkwX3_helpOn_5 ++ dktX3_helpOn_6
def dkwX3_helpOn_4 : List UInt8 := [184, 0, 193, 55, 8, 22, 6, 42, 180, 0, 58, 29, 4, 96, 46, 133, 105, 20, 0, 195, 109, 22, 8, 42]
abbrev dktX3_helpOn_4 : List UInt8 := dkwX3_helpOn_4 ++ dktX3_helpOn_5
def dkwX3_helpOn_3 : List UInt8 := [55, 6, 9, 42, 27, 28, 4, 182, 0, 185, 133, 42, 180, 0, 58, 29, 5, 96, 46, 133, 22, 4, 105, 101]
abbrev dktX3_helpOn_3 : List UInt8 := dkwX3_helpOn_3 ++ dktX3_helpOn_4
def dkwX3_helpOn_2 : List UInt8 := [55, 4, 42, 27, 28, 3, 182, 0, 185, 133, 42, 180, 0, 58, 29, 46, 133, 22, 4, 105, 184, 0, 189]
abbrev dktX3_helpOn_2 : List UInt8 := dkwX3_helpOn_2 ++ dktX3_helpOn_3
def dkwX3_helpOn_1 : List UInt8 := [46, 164, 0, 5, 3, 172, 8, 42, 27, 28, 182, 0, 182, 104, 62, 42, 27, 28, 5, 182, 0, 185, 133]
abbrev dktX3_helpOn_1 : List UInt8 := dkwX3_helpOn_1 ++ dktX3_helpOn_2
def dkwX3_helpOn_0 : List UInt8 := [28, 42, 180, 0, 18, 27, 46, 161, 0, 21, 42, 27, 182, 0, 178, 153, 0, 15, 28, 42, 180, 0, 21, 27]
abbrev dktX3_helpOn_0 : List UInt8 := dkwX3_helpOn_0 ++ dktX3_helpOn_1
theorem dksX3_helpOn_0 : cX3_helpOn.data.toList.drop 0 = dktX3_helpOn_0 := by decide +kernel
theorem dksX3_helpOn_1 : cX3_helpOn.data.toList.drop 24 = dktX3_helpOn_1 := dk_seg dksX3_helpOn_0 24 rfl rfl
theorem dksX3_helpOn_2 : cX3_helpOn.data.toList.drop 47 = dktX3_helpOn_2 := dk_seg dksX3_helpOn_1 23 rfl rfl
theorem dksX3_helpOn_3 : cX3_helpOn.data.toList.drop 70 = dktX3_helpOn_3 := dk_seg dksX3_helpOn_2 23 rfl rfl
theorem dksX3_helpOn_4 : cX3_helpOn.data.toList.drop 94 = dktX3_helpOn_4 := dk_seg dksX3_helpOn_3 24 rfl rfl
theorem dksX3_helpOn_5 : cX3_helpOn.data.toList.drop 118 = dktX3_helpOn_5 := dk_seg dksX3_helpOn_4 24 rfl rfl
theorem dksX3_helpOn_6 : cX3_helpOn.data.toList.drop 142 = dktX3_helpOn_6 := dk_seg dksX3_helpOn_5 24 rfl rfl
theorem dX3_helpOn_0 : decode cX3_helpOn 0 = .ok (.iload_n 2, 1) := dk_28 (dk_at dksX3_helpOn_0 0 rfl rfl)
theorem dX3_helpOn_1 : decode cX3_helpOn 1 = .ok (.aload_n 0, 1) := dk_42 (dk_at dksX3_helpOn_0 1 rfl rfl)
theorem dX3_helpOn_2 : decode cX3_helpOn 2 = .ok (.getfield 18, 3) := dk_180 0 18 (dk_at dksX3_helpOn_0 2 rfl rfl)
theorem dX3_helpOn_5 : decode cX3_helpOn 5 = .ok (.iload_n 1, 1) := dk_27 (dk_at dksX3_helpOn_0 5 rfl rfl)
theorem dX3_helpOn_6 : decode cX3_helpOn 6 = .ok (.iaload, 1) := dk_46 (dk_at dksX3_helpOn_0 6 rfl rfl)
theorem dX3_helpOn_7 : decode cX3_helpOn 7 = .ok (.if_icmp .lt 21, 3) := dk_161 0 21 (dk_at dksX3_helpOn_0 7 rfl rfl)
theorem dX3_helpOn_10 : decode cX3_helpOn 10 = .ok (.aload_n 0, 1) := dk_42 (dk_at dksX3_helpOn_0 10 rfl rfl)
theorem dX3_helpOn_11 : decode cX3_helpOn 11 = .ok (.iload_n 1, 1) := dk_27 (dk_at dksX3_helpOn_0 11 rfl rfl)
theorem dX3_helpOn_12 : decode cX3_helpOn 12 = .ok (.invokevirtual 178, 3) := dk_182 0 178 (dk_at dksX3_helpOn_0 12 rfl rfl)
theorem dX3_helpOn_15 : decode cX3_helpOn 15 = .ok (.ifCond .eq 15, 3) := dk_153 0 15 (dk_at dksX3_helpOn_0 15 rfl rfl)
theorem dX3_helpOn_18 : decode cX3_helpOn 18 = .ok (.iload_n 2, 1) := dk_28 (dk_at dksX3_helpOn_0 18 rfl rfl)
theorem dX3_helpOn_19 : decode cX3_helpOn 19 = .ok (.aload_n 0, 1) := dk_42 (dk_at dksX3_helpOn_0 19 rfl rfl)
theorem dX3_helpOn_20 : decode cX3_helpOn 20 = .ok (.getfield 21, 3) := dk_180 0 21 (dk_at dksX3_helpOn_0 20 rfl rfl)
theorem dX3_helpOn_23 : decode cX3_helpOn 23 = .ok (.iload_n 1, 1) := dk_27 (dk_at dksX3_helpOn_0 23 rfl rfl)
theorem dX3_helpOn_24 : decode cX3_helpOn 24 = .ok (.iaload, 1) := dk_46 (dk_at dksX3_helpOn_1 0 rfl rfl)
theorem dX3_helpOn_25 : decode cX3_helpOn 25 = .ok (.if_icmp .le 5, 3) := dk_164 0 5 (dk_at dksX3_helpOn_1 1 rfl rfl)
theorem dX3_helpOn_28 : decode cX3_helpOn 28 = .ok (.iconst 0, 1) := dk_3 (dk_at dksX3_helpOn_1 4 rfl rfl)
theorem dX3_helpOn_29 : decode cX3_helpOn 29 = .ok (.ireturn, 1) := dk_172 (dk_at dksX3_helpOn_1 5 rfl rfl)
theorem dX3_helpOn_30 : decode cX3_helpOn 30 = .ok (.iconst 5, 1) := dk_8 (dk_at dksX3_helpOn_1 6 rfl rfl)
theorem dX3_helpOn_31 : decode cX3_helpOn 31 = .ok (.aload_n 0, 1) := dk_42 (dk_at dksX3_helpOn_1 7 rfl rfl)
theorem dX3_helpOn_32 : decode cX3_helpOn 32 = .ok (.iload_n 1, 1) := dk_27 (dk_at dksX3_helpOn_1 8 rfl rfl)
theorem dX3_helpOn_33 : decode cX3_helpOn 33 = .ok (.iload_n 2, 1) := dk_28 (dk_at dksX3_helpOn_1 9 rfl rfl)
theorem dX3_helpOn_34 : decode cX3_helpOn 34 = .ok (.invokevirtual 182, 3) := dk_182 0 182 (dk_at dksX3_helpOn_1 10 rfl rfl)
theorem dX3_helpOn_37 : decode cX3_helpOn 37 = .ok (.imul, 1) := dk_104 (dk_at dksX3_helpOn_1 13 rfl rfl)
theorem dX3_helpOn_38 : decode cX3_helpOn 38 = .ok (.istore_n 3, 1) := dk_62 (dk_at dksX3_helpOn_1 14 rfl rfl)
theorem dX3_helpOn_39 : decode cX3_helpOn 39 = .ok (.aload_n 0, 1) := dk_42 (dk_at dksX3_helpOn_1 15 rfl rfl)
theorem dX3_helpOn_40 : decode cX3_helpOn 40 = .ok (.iload_n 1, 1) := dk_27 (dk_at dksX3_helpOn_1 16 rfl rfl)
theorem dX3_helpOn_41 : decode cX3_helpOn 41 = .ok (.iload_n 2, 1) := dk_28 (dk_at dksX3_helpOn_1 17 rfl rfl)
theorem dX3_helpOn_42 : decode cX3_helpOn 42 = .ok (.iconst 2, 1) := dk_5 (dk_at dksX3_helpOn_1 18 rfl rfl)
theorem dX3_helpOn_43 : decode cX3_helpOn 43 = .ok (.invokevirtual 185, 3) := dk_182 0 185 (dk_at dksX3_helpOn_1 19 rfl rfl)
theorem dX3_helpOn_46 : decode cX3_helpOn 46 = .ok (.i2l, 1) := dk_133 (dk_at dksX3_helpOn_1 22 rfl rfl)
theorem dX3_helpOn_47 : decode cX3_helpOn 47 = .ok (.lstore 4, 2) := dk_55 4 (dk_at dksX3_helpOn_2 0 rfl rfl)
theorem dX3_helpOn_49 : decode cX3_helpOn 49 = .ok (.aload_n 0, 1) := dk_42 (dk_at dksX3_helpOn_2 2 rfl rfl)
theorem dX3_helpOn_50 : decode cX3_helpOn 50 = .ok (.iload_n 1, 1) := dk_27 (dk_at dksX3_helpOn_2 3 rfl rfl)
theorem dX3_helpOn_51 : decode cX3_helpOn 51 = .ok (.iload_n 2, 1) := dk_28 (dk_at dksX3_helpOn_2 4 rfl rfl)
theorem dX3_helpOn_52 : decode cX3_helpOn 52 = .ok (.iconst 0, 1) := dk_3 (dk_at dksX3_helpOn_2 5 rfl rfl)
theorem dX3_helpOn_53 : decode cX3_helpOn 53 = .ok (.invokevirtual 185, 3) := dk_182 0 185 (dk_at dksX3_helpOn_2 6 rfl rfl)
theorem dX3_helpOn_56 : decode cX3_helpOn 56 = .ok (.i2l, 1) := dk_133 (dk_at dksX3_helpOn_2 9 rfl rfl)
theorem dX3_helpOn_57 : decode cX3_helpOn 57 = .ok (.aload_n 0, 1) := dk_42 (dk_at dksX3_helpOn_2 10 rfl rfl)
theorem dX3_helpOn_58 : decode cX3_helpOn 58 = .ok (.getfield 58, 3) := dk_180 0 58 (dk_at dksX3_helpOn_2 11 rfl rfl)
theorem dX3_helpOn_61 : decode cX3_helpOn 61 = .ok (.iload_n 3, 1) := dk_29 (dk_at dksX3_helpOn_2 14 rfl rfl)
theorem dX3_helpOn_62 : decode cX3_helpOn 62 = .ok (.iaload, 1) := dk_46 (dk_at dksX3_helpOn_2 15 rfl rfl)
theorem dX3_helpOn_63 : decode cX3_helpOn 63 = .ok (.i2l, 1) := dk_133 (dk_at dksX3_helpOn_2 16 rfl rfl)
theorem dX3_helpOn_64 : decode cX3_helpOn 64 = .ok (.lload 4, 2) := dk_22 4 (dk_at dksX3_helpOn_2 17 rfl rfl)
theorem dX3_helpOn_66 : decode cX3_helpOn 66 = .ok (.lmul, 1) := dk_105 (dk_at dksX3_helpOn_2 19 rfl rfl)
theorem dX3_helpOn_67 : decode cX3_helpOn 67 = .ok (.invokestatic 189, 3) := dk_184 0 189 (dk_at dksX3_helpOn_2 20 rfl rfl)
theorem dX3_helpOn_70 : decode cX3_helpOn 70 = .ok (.lstore 6, 2) := dk_55 6 (dk_at dksX3_helpOn_3 0 rfl rfl)
theorem dX3_helpOn_72 : decode cX3_helpOn 72 = .ok (.lconst 0, 1) := dk_9 (dk_at dksX3_helpOn_3 2 rfl rfl)
theorem dX3_helpOn_73 : decode cX3_helpOn 73 = .ok (.aload_n 0, 1) := dk_42 (dk_at dksX3_helpOn_3 3 rfl rfl)
theorem dX3_helpOn_74 : decode cX3_helpOn 74 = .ok (.iload_n 1, 1) := dk_27 (dk_at dksX3_helpOn_3 4 rfl rfl)
theorem dX3_helpOn_75 : decode cX3_helpOn 75 = .ok (.iload_n 2, 1) := dk_28 (dk_at dksX3_helpOn_3 5 rfl rfl)
theorem dX3_helpOn_76 : decode cX3_helpOn 76 = .ok (.iconst 1, 1) := dk_4 (dk_at dksX3_helpOn_3 6 rfl rfl)
theorem dX3_helpOn_77 : decode cX3_helpOn 77 = .ok (.invokevirtual 185, 3) := dk_182 0 185 (dk_at dksX3_helpOn_3 7 rfl rfl)
theorem dX3_helpOn_80 : decode cX3_helpOn 80 = .ok (.i2l, 1) := dk_133 (dk_at dksX3_helpOn_3 10 rfl rfl)
theorem dX3_helpOn_81 : decode cX3_helpOn 81 = .ok (.aload_n 0, 1) := dk_42 (dk_at dksX3_helpOn_3 11 rfl rfl)
theorem dX3_helpOn_82 : decode cX3_helpOn 82 = .ok (.getfield 58, 3) := dk_180 0 58 (dk_at dksX3_helpOn_3 12 rfl rfl)
theorem dX3_helpOn_85 : decode cX3_helpOn 85 = .ok (.iload_n 3, 1) := dk_29 (dk_at dksX3_helpOn_3 15 rfl rfl)
theorem dX3_helpOn_86 : decode cX3_helpOn 86 = .ok (.iconst 2, 1) := dk_5 (dk_at dksX3_helpOn_3 16 rfl rfl)
theorem dX3_helpOn_87 : decode cX3_helpOn 87 = .ok (.iadd, 1) := dk_96 (dk_at dksX3_helpOn_3 17 rfl rfl)
theorem dX3_helpOn_88 : decode cX3_helpOn 88 = .ok (.iaload, 1) := dk_46 (dk_at dksX3_helpOn_3 18 rfl rfl)
theorem dX3_helpOn_89 : decode cX3_helpOn 89 = .ok (.i2l, 1) := dk_133 (dk_at dksX3_helpOn_3 19 rfl rfl)
theorem dX3_helpOn_90 : decode cX3_helpOn 90 = .ok (.lload 4, 2) := dk_22 4 (dk_at dksX3_helpOn_3 20 rfl rfl)
theorem dX3_helpOn_92 : decode cX3_helpOn 92 = .ok (.lmul, 1) := dk_105 (dk_at dksX3_helpOn_3 22 rfl rfl)
theorem dX3_helpOn_93 : decode cX3_helpOn 93 = .ok (.lsub, 1) := dk_101 (dk_at dksX3_helpOn_3 23 rfl rfl)
theorem dX3_helpOn_94 : decode cX3_helpOn 94 = .ok (.invokestatic 193, 3) := dk_184 0 193 (dk_at dksX3_helpOn_4 0 rfl rfl)
theorem dX3_helpOn_97 : decode cX3_helpOn 97 = .ok (.lstore 8, 2) := dk_55 8 (dk_at dksX3_helpOn_4 3 rfl rfl)
theorem dX3_helpOn_99 : decode cX3_helpOn 99 = .ok (.lload 6, 2) := dk_22 6 (dk_at dksX3_helpOn_4 5 rfl rfl)
theorem dX3_helpOn_101 : decode cX3_helpOn 101 = .ok (.aload_n 0, 1) := dk_42 (dk_at dksX3_helpOn_4 7 rfl rfl)
theorem dX3_helpOn_102 : decode cX3_helpOn 102 = .ok (.getfield 58, 3) := dk_180 0 58 (dk_at dksX3_helpOn_4 8 rfl rfl)
theorem dX3_helpOn_105 : decode cX3_helpOn 105 = .ok (.iload_n 3, 1) := dk_29 (dk_at dksX3_helpOn_4 11 rfl rfl)
theorem dX3_helpOn_106 : decode cX3_helpOn 106 = .ok (.iconst 1, 1) := dk_4 (dk_at dksX3_helpOn_4 12 rfl rfl)
theorem dX3_helpOn_107 : decode cX3_helpOn 107 = .ok (.iadd, 1) := dk_96 (dk_at dksX3_helpOn_4 13 rfl rfl)
theorem dX3_helpOn_108 : decode cX3_helpOn 108 = .ok (.iaload, 1) := dk_46 (dk_at dksX3_helpOn_4 14 rfl rfl)
theorem dX3_helpOn_109 : decode cX3_helpOn 109 = .ok (.i2l, 1) := dk_133 (dk_at dksX3_helpOn_4 15 rfl rfl)
theorem dX3_helpOn_110 : decode cX3_helpOn 110 = .ok (.lmul, 1) := dk_105 (dk_at dksX3_helpOn_4 16 rfl rfl)
theorem dX3_helpOn_111 : decode cX3_helpOn 111 = .ok (.ldc2_w 195, 3) := dk_20 0 195 (dk_at dksX3_helpOn_4 17 rfl rfl)
theorem dX3_helpOn_114 : decode cX3_helpOn 114 = .ok (.ldiv, 1) := dk_109 (dk_at dksX3_helpOn_4 20 rfl rfl)
theorem dX3_helpOn_115 : decode cX3_helpOn 115 = .ok (.lload 8, 2) := dk_22 8 (dk_at dksX3_helpOn_4 21 rfl rfl)
theorem dX3_helpOn_117 : decode cX3_helpOn 117 = .ok (.aload_n 0, 1) := dk_42 (dk_at dksX3_helpOn_4 23 rfl rfl)
theorem dX3_helpOn_118 : decode cX3_helpOn 118 = .ok (.getfield 58, 3) := dk_180 0 58 (dk_at dksX3_helpOn_5 0 rfl rfl)
theorem dX3_helpOn_121 : decode cX3_helpOn 121 = .ok (.iload_n 3, 1) := dk_29 (dk_at dksX3_helpOn_5 3 rfl rfl)
theorem dX3_helpOn_122 : decode cX3_helpOn 122 = .ok (.iconst 3, 1) := dk_6 (dk_at dksX3_helpOn_5 4 rfl rfl)
theorem dX3_helpOn_123 : decode cX3_helpOn 123 = .ok (.iadd, 1) := dk_96 (dk_at dksX3_helpOn_5 5 rfl rfl)
theorem dX3_helpOn_124 : decode cX3_helpOn 124 = .ok (.iaload, 1) := dk_46 (dk_at dksX3_helpOn_5 6 rfl rfl)
theorem dX3_helpOn_125 : decode cX3_helpOn 125 = .ok (.i2l, 1) := dk_133 (dk_at dksX3_helpOn_5 7 rfl rfl)
theorem dX3_helpOn_126 : decode cX3_helpOn 126 = .ok (.lmul, 1) := dk_105 (dk_at dksX3_helpOn_5 8 rfl rfl)
theorem dX3_helpOn_127 : decode cX3_helpOn 127 = .ok (.ldc2_w 195, 3) := dk_20 0 195 (dk_at dksX3_helpOn_5 9 rfl rfl)
theorem dX3_helpOn_130 : decode cX3_helpOn 130 = .ok (.ldiv, 1) := dk_109 (dk_at dksX3_helpOn_5 12 rfl rfl)
theorem dX3_helpOn_131 : decode cX3_helpOn 131 = .ok (.lsub, 1) := dk_101 (dk_at dksX3_helpOn_5 13 rfl rfl)
theorem dX3_helpOn_132 : decode cX3_helpOn 132 = .ok (.lstore 10, 2) := dk_55 10 (dk_at dksX3_helpOn_5 14 rfl rfl)
theorem dX3_helpOn_134 : decode cX3_helpOn 134 = .ok (.lload 10, 2) := dk_22 10 (dk_at dksX3_helpOn_5 16 rfl rfl)
theorem dX3_helpOn_136 : decode cX3_helpOn 136 = .ok (.aload_n 0, 1) := dk_42 (dk_at dksX3_helpOn_5 18 rfl rfl)
theorem dX3_helpOn_137 : decode cX3_helpOn 137 = .ok (.getfield 58, 3) := dk_180 0 58 (dk_at dksX3_helpOn_5 19 rfl rfl)
theorem dX3_helpOn_140 : decode cX3_helpOn 140 = .ok (.iload_n 3, 1) := dk_29 (dk_at dksX3_helpOn_5 22 rfl rfl)
theorem dX3_helpOn_141 : decode cX3_helpOn 141 = .ok (.iconst 4, 1) := dk_7 (dk_at dksX3_helpOn_5 23 rfl rfl)
theorem dX3_helpOn_142 : decode cX3_helpOn 142 = .ok (.iadd, 1) := dk_96 (dk_at dksX3_helpOn_6 0 rfl rfl)
theorem dX3_helpOn_143 : decode cX3_helpOn 143 = .ok (.iaload, 1) := dk_46 (dk_at dksX3_helpOn_6 1 rfl rfl)
theorem dX3_helpOn_144 : decode cX3_helpOn 144 = .ok (.i2l, 1) := dk_133 (dk_at dksX3_helpOn_6 2 rfl rfl)
theorem dX3_helpOn_145 : decode cX3_helpOn 145 = .ok (.lcmp, 1) := dk_148 (dk_at dksX3_helpOn_6 3 rfl rfl)
theorem dX3_helpOn_146 : decode cX3_helpOn 146 = .ok (.ifCond .ge 7, 3) := dk_156 0 7 (dk_at dksX3_helpOn_6 4 rfl rfl)
theorem dX3_helpOn_149 : decode cX3_helpOn 149 = .ok (.iconst 0, 1) := dk_3 (dk_at dksX3_helpOn_6 7 rfl rfl)
theorem dX3_helpOn_150 : decode cX3_helpOn 150 = .ok (.goto 6, 3) := dk_167 0 6 (dk_at dksX3_helpOn_6 8 rfl rfl)
theorem dX3_helpOn_153 : decode cX3_helpOn 153 = .ok (.lload 10, 2) := dk_22 10 (dk_at dksX3_helpOn_6 11 rfl rfl)
theorem dX3_helpOn_155 : decode cX3_helpOn 155 = .ok (.l2i, 1) := dk_136 (dk_at dksX3_helpOn_6 13 rfl rfl)
theorem dX3_helpOn_156 : decode cX3_helpOn 156 = .ok (.ireturn, 1) := dk_172 (dk_at dksX3_helpOn_6 14 rfl rfl)
abbrev cX3_ruleFor : ByteArray := prog_13_method_20_code
def yX3_ruleFor : MethodName := ⟨RX3, "ruleFor", "(II)I"⟩
def dkwX3_ruleFor_2 : List UInt8 := [132, 4, 1, 167, 255, 211, 29, 172]
abbrev dktX3_ruleFor_2 : List UInt8 := dkwX3_ruleFor_2 ++ []
def dkwX3_ruleFor_1 : List UInt8 := [96, 51, 153, 0, 19, 42, 180, 0, 61, 21, 4, 46, 28, 163, 0, 8, 21, 4, 167, 0, 4, 29, 62]
abbrev dktX3_ruleFor_1 : List UInt8 := dkwX3_ruleFor_1 ++ dktX3_ruleFor_2
def dkwX3_ruleFor_0 : List UInt8 := [3, 62, 4, 54, 4, 21, 4, 42, 180, 0, 54, 162, 0, 42, 42, 180, 0, 68, 16, 10, 21, 4, 104, 27]
abbrev dktX3_ruleFor_0 : List UInt8 := dkwX3_ruleFor_0 ++ dktX3_ruleFor_1
theorem dksX3_ruleFor_0 : cX3_ruleFor.data.toList.drop 0 = dktX3_ruleFor_0 := by decide +kernel
theorem dksX3_ruleFor_1 : cX3_ruleFor.data.toList.drop 24 = dktX3_ruleFor_1 := dk_seg dksX3_ruleFor_0 24 rfl rfl
theorem dksX3_ruleFor_2 : cX3_ruleFor.data.toList.drop 47 = dktX3_ruleFor_2 := dk_seg dksX3_ruleFor_1 23 rfl rfl
theorem dX3_ruleFor_0 : decode cX3_ruleFor 0 = .ok (.iconst 0, 1) := dk_3 (dk_at dksX3_ruleFor_0 0 rfl rfl)
theorem dX3_ruleFor_1 : decode cX3_ruleFor 1 = .ok (.istore_n 3, 1) := dk_62 (dk_at dksX3_ruleFor_0 1 rfl rfl)
theorem dX3_ruleFor_2 : decode cX3_ruleFor 2 = .ok (.iconst 1, 1) := dk_4 (dk_at dksX3_ruleFor_0 2 rfl rfl)
theorem dX3_ruleFor_3 : decode cX3_ruleFor 3 = .ok (.istore 4, 2) := dk_54 4 (dk_at dksX3_ruleFor_0 3 rfl rfl)
theorem dX3_ruleFor_5 : decode cX3_ruleFor 5 = .ok (.iload 4, 2) := dk_21 4 (dk_at dksX3_ruleFor_0 5 rfl rfl)
theorem dX3_ruleFor_7 : decode cX3_ruleFor 7 = .ok (.aload_n 0, 1) := dk_42 (dk_at dksX3_ruleFor_0 7 rfl rfl)
theorem dX3_ruleFor_8 : decode cX3_ruleFor 8 = .ok (.getfield 54, 3) := dk_180 0 54 (dk_at dksX3_ruleFor_0 8 rfl rfl)
theorem dX3_ruleFor_11 : decode cX3_ruleFor 11 = .ok (.if_icmp .ge 42, 3) := dk_162 0 42 (dk_at dksX3_ruleFor_0 11 rfl rfl)
theorem dX3_ruleFor_14 : decode cX3_ruleFor 14 = .ok (.aload_n 0, 1) := dk_42 (dk_at dksX3_ruleFor_0 14 rfl rfl)
theorem dX3_ruleFor_15 : decode cX3_ruleFor 15 = .ok (.getfield 68, 3) := dk_180 0 68 (dk_at dksX3_ruleFor_0 15 rfl rfl)
theorem dX3_ruleFor_18 : decode cX3_ruleFor 18 = .ok (.bipush 10, 2) := dk_16 10 (dk_at dksX3_ruleFor_0 18 rfl rfl)
theorem dX3_ruleFor_20 : decode cX3_ruleFor 20 = .ok (.iload 4, 2) := dk_21 4 (dk_at dksX3_ruleFor_0 20 rfl rfl)
theorem dX3_ruleFor_22 : decode cX3_ruleFor 22 = .ok (.imul, 1) := dk_104 (dk_at dksX3_ruleFor_0 22 rfl rfl)
theorem dX3_ruleFor_23 : decode cX3_ruleFor 23 = .ok (.iload_n 1, 1) := dk_27 (dk_at dksX3_ruleFor_0 23 rfl rfl)
theorem dX3_ruleFor_24 : decode cX3_ruleFor 24 = .ok (.iadd, 1) := dk_96 (dk_at dksX3_ruleFor_1 0 rfl rfl)
theorem dX3_ruleFor_25 : decode cX3_ruleFor 25 = .ok (.baload, 1) := dk_51 (dk_at dksX3_ruleFor_1 1 rfl rfl)
theorem dX3_ruleFor_26 : decode cX3_ruleFor 26 = .ok (.ifCond .eq 19, 3) := dk_153 0 19 (dk_at dksX3_ruleFor_1 2 rfl rfl)
theorem dX3_ruleFor_29 : decode cX3_ruleFor 29 = .ok (.aload_n 0, 1) := dk_42 (dk_at dksX3_ruleFor_1 5 rfl rfl)
theorem dX3_ruleFor_30 : decode cX3_ruleFor 30 = .ok (.getfield 61, 3) := dk_180 0 61 (dk_at dksX3_ruleFor_1 6 rfl rfl)
theorem dX3_ruleFor_33 : decode cX3_ruleFor 33 = .ok (.iload 4, 2) := dk_21 4 (dk_at dksX3_ruleFor_1 9 rfl rfl)
theorem dX3_ruleFor_35 : decode cX3_ruleFor 35 = .ok (.iaload, 1) := dk_46 (dk_at dksX3_ruleFor_1 11 rfl rfl)
theorem dX3_ruleFor_36 : decode cX3_ruleFor 36 = .ok (.iload_n 2, 1) := dk_28 (dk_at dksX3_ruleFor_1 12 rfl rfl)
theorem dX3_ruleFor_37 : decode cX3_ruleFor 37 = .ok (.if_icmp .gt 8, 3) := dk_163 0 8 (dk_at dksX3_ruleFor_1 13 rfl rfl)
theorem dX3_ruleFor_40 : decode cX3_ruleFor 40 = .ok (.iload 4, 2) := dk_21 4 (dk_at dksX3_ruleFor_1 16 rfl rfl)
theorem dX3_ruleFor_42 : decode cX3_ruleFor 42 = .ok (.goto 4, 3) := dk_167 0 4 (dk_at dksX3_ruleFor_1 18 rfl rfl)
theorem dX3_ruleFor_45 : decode cX3_ruleFor 45 = .ok (.iload_n 3, 1) := dk_29 (dk_at dksX3_ruleFor_1 21 rfl rfl)
theorem dX3_ruleFor_46 : decode cX3_ruleFor 46 = .ok (.istore_n 3, 1) := dk_62 (dk_at dksX3_ruleFor_1 22 rfl rfl)
theorem dX3_ruleFor_47 : decode cX3_ruleFor 47 = .ok (.iinc 4 1, 3) := dk_132 4 1 (dk_at dksX3_ruleFor_2 0 rfl rfl)
theorem dX3_ruleFor_50 : decode cX3_ruleFor 50 = .ok (.goto (-45), 3) := dk_167 255 211 (dk_at dksX3_ruleFor_2 3 rfl rfl)
theorem dX3_ruleFor_53 : decode cX3_ruleFor 53 = .ok (.iload_n 3, 1) := dk_29 (dk_at dksX3_ruleFor_2 6 rfl rfl)
theorem dX3_ruleFor_54 : decode cX3_ruleFor 54 = .ok (.ireturn, 1) := dk_172 (dk_at dksX3_ruleFor_2 7 rfl rfl)
abbrev cX3_factOn : ByteArray := prog_13_method_19_code
def yX3_factOn : MethodName := ⟨RX3, "factOn", "(III)I"⟩
def dkwX3_factOn_6 : List UInt8 := [29, 96, 46, 172]
abbrev dktX3_factOn_6 : List UInt8 := dkwX3_factOn_6 ++ []
def dkwX3_factOn_5 : List UInt8 := [160, 0, 16, 29, 5, 160, 0, 7, 4, 167, 0, 18, 3, 167, 0, 14, 42, 180, 0, 51, 7, 21, 4, 104]
abbrev dktX3_factOn_5 : List UInt8 := dkwX3_factOn_5 ++ dktX3_factOn_6
def dkwX3_factOn_4 : List UInt8 := [46, 161, 0, 8, 21, 5, 167, 0, 5, 21, 4, 54, 4, 132, 5, 1, 167, 255, 152, 21, 4, 2]
abbrev dktX3_factOn_4 : List UInt8 := dkwX3_factOn_4 ++ dktX3_factOn_5
def dkwX3_factOn_3 : List UInt8 := [21, 6, 153, 0, 31, 21, 4, 2, 159, 0, 20, 42, 180, 0, 45, 21, 5, 46, 42, 180, 0, 45, 21, 4]
abbrev dktX3_factOn_3 : List UInt8 := dkwX3_factOn_3 ++ dktX3_factOn_4
def dkwX3_factOn_2 : List UInt8 := [46, 2, 159, 0, 18, 42, 180, 0, 45, 21, 5, 46, 28, 163, 0, 7, 4, 167, 0, 4, 3, 54, 6]
abbrev dktX3_factOn_2 : List UInt8 := dkwX3_factOn_2 ++ dktX3_factOn_3
def dkwX3_factOn_1 : List UInt8 := [160, 0, 44, 42, 180, 0, 48, 21, 5, 46, 4, 160, 0, 33, 42, 180, 0, 51, 7, 21, 5, 104, 29, 96]
abbrev dktX3_factOn_1 : List UInt8 := dkwX3_factOn_1 ++ dktX3_factOn_2
def dkwX3_factOn_0 : List UInt8 := [2, 54, 4, 3, 54, 5, 21, 5, 42, 180, 0, 96, 162, 0, 101, 42, 180, 0, 39, 21, 5, 46, 27]
abbrev dktX3_factOn_0 : List UInt8 := dkwX3_factOn_0 ++ dktX3_factOn_1
theorem dksX3_factOn_0 : cX3_factOn.data.toList.drop 0 = dktX3_factOn_0 := by decide +kernel
theorem dksX3_factOn_1 : cX3_factOn.data.toList.drop 23 = dktX3_factOn_1 := dk_seg dksX3_factOn_0 23 rfl rfl
theorem dksX3_factOn_2 : cX3_factOn.data.toList.drop 47 = dktX3_factOn_2 := dk_seg dksX3_factOn_1 24 rfl rfl
theorem dksX3_factOn_3 : cX3_factOn.data.toList.drop 70 = dktX3_factOn_3 := dk_seg dksX3_factOn_2 23 rfl rfl
theorem dksX3_factOn_4 : cX3_factOn.data.toList.drop 94 = dktX3_factOn_4 := dk_seg dksX3_factOn_3 24 rfl rfl
theorem dksX3_factOn_5 : cX3_factOn.data.toList.drop 116 = dktX3_factOn_5 := dk_seg dksX3_factOn_4 22 rfl rfl
theorem dksX3_factOn_6 : cX3_factOn.data.toList.drop 140 = dktX3_factOn_6 := dk_seg dksX3_factOn_5 24 rfl rfl
theorem dX3_factOn_0 : decode cX3_factOn 0 = .ok (.iconst (-1), 1) := dk_2 (dk_at dksX3_factOn_0 0 rfl rfl)
theorem dX3_factOn_1 : decode cX3_factOn 1 = .ok (.istore 4, 2) := dk_54 4 (dk_at dksX3_factOn_0 1 rfl rfl)
theorem dX3_factOn_3 : decode cX3_factOn 3 = .ok (.iconst 0, 1) := dk_3 (dk_at dksX3_factOn_0 3 rfl rfl)
theorem dX3_factOn_4 : decode cX3_factOn 4 = .ok (.istore 5, 2) := dk_54 5 (dk_at dksX3_factOn_0 4 rfl rfl)
theorem dX3_factOn_6 : decode cX3_factOn 6 = .ok (.iload 5, 2) := dk_21 5 (dk_at dksX3_factOn_0 6 rfl rfl)
theorem dX3_factOn_8 : decode cX3_factOn 8 = .ok (.aload_n 0, 1) := dk_42 (dk_at dksX3_factOn_0 8 rfl rfl)
theorem dX3_factOn_9 : decode cX3_factOn 9 = .ok (.getfield 96, 3) := dk_180 0 96 (dk_at dksX3_factOn_0 9 rfl rfl)
theorem dX3_factOn_12 : decode cX3_factOn 12 = .ok (.if_icmp .ge 101, 3) := dk_162 0 101 (dk_at dksX3_factOn_0 12 rfl rfl)
theorem dX3_factOn_15 : decode cX3_factOn 15 = .ok (.aload_n 0, 1) := dk_42 (dk_at dksX3_factOn_0 15 rfl rfl)
theorem dX3_factOn_16 : decode cX3_factOn 16 = .ok (.getfield 39, 3) := dk_180 0 39 (dk_at dksX3_factOn_0 16 rfl rfl)
theorem dX3_factOn_19 : decode cX3_factOn 19 = .ok (.iload 5, 2) := dk_21 5 (dk_at dksX3_factOn_0 19 rfl rfl)
theorem dX3_factOn_21 : decode cX3_factOn 21 = .ok (.iaload, 1) := dk_46 (dk_at dksX3_factOn_0 21 rfl rfl)
theorem dX3_factOn_22 : decode cX3_factOn 22 = .ok (.iload_n 1, 1) := dk_27 (dk_at dksX3_factOn_0 22 rfl rfl)
theorem dX3_factOn_23 : decode cX3_factOn 23 = .ok (.if_icmp .ne 44, 3) := dk_160 0 44 (dk_at dksX3_factOn_1 0 rfl rfl)
theorem dX3_factOn_26 : decode cX3_factOn 26 = .ok (.aload_n 0, 1) := dk_42 (dk_at dksX3_factOn_1 3 rfl rfl)
theorem dX3_factOn_27 : decode cX3_factOn 27 = .ok (.getfield 48, 3) := dk_180 0 48 (dk_at dksX3_factOn_1 4 rfl rfl)
theorem dX3_factOn_30 : decode cX3_factOn 30 = .ok (.iload 5, 2) := dk_21 5 (dk_at dksX3_factOn_1 7 rfl rfl)
theorem dX3_factOn_32 : decode cX3_factOn 32 = .ok (.iaload, 1) := dk_46 (dk_at dksX3_factOn_1 9 rfl rfl)
theorem dX3_factOn_33 : decode cX3_factOn 33 = .ok (.iconst 1, 1) := dk_4 (dk_at dksX3_factOn_1 10 rfl rfl)
theorem dX3_factOn_34 : decode cX3_factOn 34 = .ok (.if_icmp .ne 33, 3) := dk_160 0 33 (dk_at dksX3_factOn_1 11 rfl rfl)
theorem dX3_factOn_37 : decode cX3_factOn 37 = .ok (.aload_n 0, 1) := dk_42 (dk_at dksX3_factOn_1 14 rfl rfl)
theorem dX3_factOn_38 : decode cX3_factOn 38 = .ok (.getfield 51, 3) := dk_180 0 51 (dk_at dksX3_factOn_1 15 rfl rfl)
theorem dX3_factOn_41 : decode cX3_factOn 41 = .ok (.iconst 4, 1) := dk_7 (dk_at dksX3_factOn_1 18 rfl rfl)
theorem dX3_factOn_42 : decode cX3_factOn 42 = .ok (.iload 5, 2) := dk_21 5 (dk_at dksX3_factOn_1 19 rfl rfl)
theorem dX3_factOn_44 : decode cX3_factOn 44 = .ok (.imul, 1) := dk_104 (dk_at dksX3_factOn_1 21 rfl rfl)
theorem dX3_factOn_45 : decode cX3_factOn 45 = .ok (.iload_n 3, 1) := dk_29 (dk_at dksX3_factOn_1 22 rfl rfl)
theorem dX3_factOn_46 : decode cX3_factOn 46 = .ok (.iadd, 1) := dk_96 (dk_at dksX3_factOn_1 23 rfl rfl)
theorem dX3_factOn_47 : decode cX3_factOn 47 = .ok (.iaload, 1) := dk_46 (dk_at dksX3_factOn_2 0 rfl rfl)
theorem dX3_factOn_48 : decode cX3_factOn 48 = .ok (.iconst (-1), 1) := dk_2 (dk_at dksX3_factOn_2 1 rfl rfl)
theorem dX3_factOn_49 : decode cX3_factOn 49 = .ok (.if_icmp .eq 18, 3) := dk_159 0 18 (dk_at dksX3_factOn_2 2 rfl rfl)
theorem dX3_factOn_52 : decode cX3_factOn 52 = .ok (.aload_n 0, 1) := dk_42 (dk_at dksX3_factOn_2 5 rfl rfl)
theorem dX3_factOn_53 : decode cX3_factOn 53 = .ok (.getfield 45, 3) := dk_180 0 45 (dk_at dksX3_factOn_2 6 rfl rfl)
theorem dX3_factOn_56 : decode cX3_factOn 56 = .ok (.iload 5, 2) := dk_21 5 (dk_at dksX3_factOn_2 9 rfl rfl)
theorem dX3_factOn_58 : decode cX3_factOn 58 = .ok (.iaload, 1) := dk_46 (dk_at dksX3_factOn_2 11 rfl rfl)
theorem dX3_factOn_59 : decode cX3_factOn 59 = .ok (.iload_n 2, 1) := dk_28 (dk_at dksX3_factOn_2 12 rfl rfl)
theorem dX3_factOn_60 : decode cX3_factOn 60 = .ok (.if_icmp .gt 7, 3) := dk_163 0 7 (dk_at dksX3_factOn_2 13 rfl rfl)
theorem dX3_factOn_63 : decode cX3_factOn 63 = .ok (.iconst 1, 1) := dk_4 (dk_at dksX3_factOn_2 16 rfl rfl)
theorem dX3_factOn_64 : decode cX3_factOn 64 = .ok (.goto 4, 3) := dk_167 0 4 (dk_at dksX3_factOn_2 17 rfl rfl)
theorem dX3_factOn_67 : decode cX3_factOn 67 = .ok (.iconst 0, 1) := dk_3 (dk_at dksX3_factOn_2 20 rfl rfl)
theorem dX3_factOn_68 : decode cX3_factOn 68 = .ok (.istore 6, 2) := dk_54 6 (dk_at dksX3_factOn_2 21 rfl rfl)
theorem dX3_factOn_70 : decode cX3_factOn 70 = .ok (.iload 6, 2) := dk_21 6 (dk_at dksX3_factOn_3 0 rfl rfl)
theorem dX3_factOn_72 : decode cX3_factOn 72 = .ok (.ifCond .eq 31, 3) := dk_153 0 31 (dk_at dksX3_factOn_3 2 rfl rfl)
theorem dX3_factOn_75 : decode cX3_factOn 75 = .ok (.iload 4, 2) := dk_21 4 (dk_at dksX3_factOn_3 5 rfl rfl)
theorem dX3_factOn_77 : decode cX3_factOn 77 = .ok (.iconst (-1), 1) := dk_2 (dk_at dksX3_factOn_3 7 rfl rfl)
theorem dX3_factOn_78 : decode cX3_factOn 78 = .ok (.if_icmp .eq 20, 3) := dk_159 0 20 (dk_at dksX3_factOn_3 8 rfl rfl)
theorem dX3_factOn_81 : decode cX3_factOn 81 = .ok (.aload_n 0, 1) := dk_42 (dk_at dksX3_factOn_3 11 rfl rfl)
theorem dX3_factOn_82 : decode cX3_factOn 82 = .ok (.getfield 45, 3) := dk_180 0 45 (dk_at dksX3_factOn_3 12 rfl rfl)
theorem dX3_factOn_85 : decode cX3_factOn 85 = .ok (.iload 5, 2) := dk_21 5 (dk_at dksX3_factOn_3 15 rfl rfl)
theorem dX3_factOn_87 : decode cX3_factOn 87 = .ok (.iaload, 1) := dk_46 (dk_at dksX3_factOn_3 17 rfl rfl)
theorem dX3_factOn_88 : decode cX3_factOn 88 = .ok (.aload_n 0, 1) := dk_42 (dk_at dksX3_factOn_3 18 rfl rfl)
theorem dX3_factOn_89 : decode cX3_factOn 89 = .ok (.getfield 45, 3) := dk_180 0 45 (dk_at dksX3_factOn_3 19 rfl rfl)
theorem dX3_factOn_92 : decode cX3_factOn 92 = .ok (.iload 4, 2) := dk_21 4 (dk_at dksX3_factOn_3 22 rfl rfl)
theorem dX3_factOn_94 : decode cX3_factOn 94 = .ok (.iaload, 1) := dk_46 (dk_at dksX3_factOn_4 0 rfl rfl)
theorem dX3_factOn_95 : decode cX3_factOn 95 = .ok (.if_icmp .lt 8, 3) := dk_161 0 8 (dk_at dksX3_factOn_4 1 rfl rfl)
theorem dX3_factOn_98 : decode cX3_factOn 98 = .ok (.iload 5, 2) := dk_21 5 (dk_at dksX3_factOn_4 4 rfl rfl)
theorem dX3_factOn_100 : decode cX3_factOn 100 = .ok (.goto 5, 3) := dk_167 0 5 (dk_at dksX3_factOn_4 6 rfl rfl)
theorem dX3_factOn_103 : decode cX3_factOn 103 = .ok (.iload 4, 2) := dk_21 4 (dk_at dksX3_factOn_4 9 rfl rfl)
theorem dX3_factOn_105 : decode cX3_factOn 105 = .ok (.istore 4, 2) := dk_54 4 (dk_at dksX3_factOn_4 11 rfl rfl)
theorem dX3_factOn_107 : decode cX3_factOn 107 = .ok (.iinc 5 1, 3) := dk_132 5 1 (dk_at dksX3_factOn_4 13 rfl rfl)
theorem dX3_factOn_110 : decode cX3_factOn 110 = .ok (.goto (-104), 3) := dk_167 255 152 (dk_at dksX3_factOn_4 16 rfl rfl)
theorem dX3_factOn_113 : decode cX3_factOn 113 = .ok (.iload 4, 2) := dk_21 4 (dk_at dksX3_factOn_4 19 rfl rfl)
theorem dX3_factOn_115 : decode cX3_factOn 115 = .ok (.iconst (-1), 1) := dk_2 (dk_at dksX3_factOn_4 21 rfl rfl)
theorem dX3_factOn_116 : decode cX3_factOn 116 = .ok (.if_icmp .ne 16, 3) := dk_160 0 16 (dk_at dksX3_factOn_5 0 rfl rfl)
theorem dX3_factOn_119 : decode cX3_factOn 119 = .ok (.iload_n 3, 1) := dk_29 (dk_at dksX3_factOn_5 3 rfl rfl)
theorem dX3_factOn_120 : decode cX3_factOn 120 = .ok (.iconst 2, 1) := dk_5 (dk_at dksX3_factOn_5 4 rfl rfl)
theorem dX3_factOn_121 : decode cX3_factOn 121 = .ok (.if_icmp .ne 7, 3) := dk_160 0 7 (dk_at dksX3_factOn_5 5 rfl rfl)
theorem dX3_factOn_124 : decode cX3_factOn 124 = .ok (.iconst 1, 1) := dk_4 (dk_at dksX3_factOn_5 8 rfl rfl)
theorem dX3_factOn_125 : decode cX3_factOn 125 = .ok (.goto 18, 3) := dk_167 0 18 (dk_at dksX3_factOn_5 9 rfl rfl)
theorem dX3_factOn_128 : decode cX3_factOn 128 = .ok (.iconst 0, 1) := dk_3 (dk_at dksX3_factOn_5 12 rfl rfl)
theorem dX3_factOn_129 : decode cX3_factOn 129 = .ok (.goto 14, 3) := dk_167 0 14 (dk_at dksX3_factOn_5 13 rfl rfl)
theorem dX3_factOn_132 : decode cX3_factOn 132 = .ok (.aload_n 0, 1) := dk_42 (dk_at dksX3_factOn_5 16 rfl rfl)
theorem dX3_factOn_133 : decode cX3_factOn 133 = .ok (.getfield 51, 3) := dk_180 0 51 (dk_at dksX3_factOn_5 17 rfl rfl)
theorem dX3_factOn_136 : decode cX3_factOn 136 = .ok (.iconst 4, 1) := dk_7 (dk_at dksX3_factOn_5 20 rfl rfl)
theorem dX3_factOn_137 : decode cX3_factOn 137 = .ok (.iload 4, 2) := dk_21 4 (dk_at dksX3_factOn_5 21 rfl rfl)
theorem dX3_factOn_139 : decode cX3_factOn 139 = .ok (.imul, 1) := dk_104 (dk_at dksX3_factOn_5 23 rfl rfl)
theorem dX3_factOn_140 : decode cX3_factOn 140 = .ok (.iload_n 3, 1) := dk_29 (dk_at dksX3_factOn_6 0 rfl rfl)
theorem dX3_factOn_141 : decode cX3_factOn 141 = .ok (.iadd, 1) := dk_96 (dk_at dksX3_factOn_6 1 rfl rfl)
theorem dX3_factOn_142 : decode cX3_factOn 142 = .ok (.iaload, 1) := dk_46 (dk_at dksX3_factOn_6 2 rfl rfl)
theorem dX3_factOn_143 : decode cX3_factOn 143 = .ok (.ireturn, 1) := dk_172 (dk_at dksX3_factOn_6 3 rfl rfl)
abbrev cX3_pays : ByteArray := prog_13_method_26_code
def yX3_pays : MethodName := ⟨RX3, "pays", "(III)V"⟩
def dkwX3_pays_7 : List UInt8 := [96, 79, 167, 0, 16, 42, 180, 0, 30, 27, 92, 46, 29, 21, 4, 100, 96, 79, 177]
abbrev dktX3_pays_7 : List UInt8 := dkwX3_pays_7 ++ []
def dkwX3_pays_6 : List UInt8 := [42, 27, 42, 180, 0, 135, 6, 182, 0, 185, 154, 0, 19, 42, 180, 0, 27, 27, 92, 46, 29, 21, 4, 100]
abbrev dktX3_pays_6 : List UInt8 := dkwX3_pays_6 ++ dktX3_pays_7
def dkwX3_pays_5 : List UInt8 := [21, 6, 21, 7, 182, 0, 208, 132, 6, 1, 167, 255, 180, 42, 180, 0, 24, 27, 92, 46, 21, 4, 96, 79]
abbrev dktX3_pays_5 : List UInt8 := dkwX3_pays_5 ++ dktX3_pays_6
def dkwX3_pays_4 : List UInt8 := [180, 0, 71, 16, 6, 21, 6, 104, 7, 96, 46, 184, 0, 206, 54, 7, 21, 5, 21, 7, 100, 54, 5, 42]
abbrev dktX3_pays_4 : List UInt8 := dkwX3_pays_4 ++ dktX3_pays_5
def dkwX3_pays_3 : List UInt8 := [160, 0, 53, 42, 180, 0, 71, 16, 6, 21, 6, 104, 8, 96, 46, 5, 160, 0, 37, 21, 5, 42]
abbrev dktX3_pays_3 : List UInt8 := dkwX3_pays_3 ++ dktX3_pays_4
def dkwX3_pays_2 : List UInt8 := [3, 54, 6, 21, 6, 42, 180, 0, 99, 162, 0, 73, 42, 180, 0, 71, 16, 6, 21, 6, 104, 46, 27]
abbrev dktX3_pays_2 : List UInt8 := dkwX3_pays_2 ++ dktX3_pays_3
def dkwX3_pays_1 : List UInt8 := [20, 0, 200, 105, 20, 0, 195, 109, 136, 42, 27, 4, 182, 0, 202, 184, 0, 206, 54, 4, 21, 4, 54, 5]
abbrev dktX3_pays_1 : List UInt8 := dkwX3_pays_1 ++ dktX3_pays_2
def dkwX3_pays_0 : List UInt8 := [29, 154, 0, 4, 177, 42, 180, 0, 33, 16, 51, 27, 104, 28, 96, 92, 46, 29, 96, 79, 29, 133]
abbrev dktX3_pays_0 : List UInt8 := dkwX3_pays_0 ++ dktX3_pays_1
theorem dksX3_pays_0 : cX3_pays.data.toList.drop 0 = dktX3_pays_0 := by decide +kernel
theorem dksX3_pays_1 : cX3_pays.data.toList.drop 22 = dktX3_pays_1 := dk_seg dksX3_pays_0 22 rfl rfl
theorem dksX3_pays_2 : cX3_pays.data.toList.drop 46 = dktX3_pays_2 := dk_seg dksX3_pays_1 24 rfl rfl
theorem dksX3_pays_3 : cX3_pays.data.toList.drop 69 = dktX3_pays_3 := dk_seg dksX3_pays_2 23 rfl rfl
theorem dksX3_pays_4 : cX3_pays.data.toList.drop 91 = dktX3_pays_4 := dk_seg dksX3_pays_3 22 rfl rfl
theorem dksX3_pays_5 : cX3_pays.data.toList.drop 115 = dktX3_pays_5 := dk_seg dksX3_pays_4 24 rfl rfl
theorem dksX3_pays_6 : cX3_pays.data.toList.drop 139 = dktX3_pays_6 := dk_seg dksX3_pays_5 24 rfl rfl
theorem dksX3_pays_7 : cX3_pays.data.toList.drop 163 = dktX3_pays_7 := dk_seg dksX3_pays_6 24 rfl rfl
theorem dX3_pays_0 : decode cX3_pays 0 = .ok (.iload_n 3, 1) := dk_29 (dk_at dksX3_pays_0 0 rfl rfl)
theorem dX3_pays_1 : decode cX3_pays 1 = .ok (.ifCond .ne 4, 3) := dk_154 0 4 (dk_at dksX3_pays_0 1 rfl rfl)
theorem dX3_pays_4 : decode cX3_pays 4 = .ok (.return_, 1) := dk_177 (dk_at dksX3_pays_0 4 rfl rfl)
theorem dX3_pays_5 : decode cX3_pays 5 = .ok (.aload_n 0, 1) := dk_42 (dk_at dksX3_pays_0 5 rfl rfl)
theorem dX3_pays_6 : decode cX3_pays 6 = .ok (.getfield 33, 3) := dk_180 0 33 (dk_at dksX3_pays_0 6 rfl rfl)
theorem dX3_pays_9 : decode cX3_pays 9 = .ok (.bipush 51, 2) := dk_16 51 (dk_at dksX3_pays_0 9 rfl rfl)
theorem dX3_pays_11 : decode cX3_pays 11 = .ok (.iload_n 1, 1) := dk_27 (dk_at dksX3_pays_0 11 rfl rfl)
theorem dX3_pays_12 : decode cX3_pays 12 = .ok (.imul, 1) := dk_104 (dk_at dksX3_pays_0 12 rfl rfl)
theorem dX3_pays_13 : decode cX3_pays 13 = .ok (.iload_n 2, 1) := dk_28 (dk_at dksX3_pays_0 13 rfl rfl)
theorem dX3_pays_14 : decode cX3_pays 14 = .ok (.iadd, 1) := dk_96 (dk_at dksX3_pays_0 14 rfl rfl)
theorem dX3_pays_15 : decode cX3_pays 15 = .ok (.dup2, 1) := dk_92 (dk_at dksX3_pays_0 15 rfl rfl)
theorem dX3_pays_16 : decode cX3_pays 16 = .ok (.iaload, 1) := dk_46 (dk_at dksX3_pays_0 16 rfl rfl)
theorem dX3_pays_17 : decode cX3_pays 17 = .ok (.iload_n 3, 1) := dk_29 (dk_at dksX3_pays_0 17 rfl rfl)
theorem dX3_pays_18 : decode cX3_pays 18 = .ok (.iadd, 1) := dk_96 (dk_at dksX3_pays_0 18 rfl rfl)
theorem dX3_pays_19 : decode cX3_pays 19 = .ok (.iastore, 1) := dk_79 (dk_at dksX3_pays_0 19 rfl rfl)
theorem dX3_pays_20 : decode cX3_pays 20 = .ok (.iload_n 3, 1) := dk_29 (dk_at dksX3_pays_0 20 rfl rfl)
theorem dX3_pays_21 : decode cX3_pays 21 = .ok (.i2l, 1) := dk_133 (dk_at dksX3_pays_0 21 rfl rfl)
theorem dX3_pays_22 : decode cX3_pays 22 = .ok (.ldc2_w 200, 3) := dk_20 0 200 (dk_at dksX3_pays_1 0 rfl rfl)
theorem dX3_pays_25 : decode cX3_pays 25 = .ok (.lmul, 1) := dk_105 (dk_at dksX3_pays_1 3 rfl rfl)
theorem dX3_pays_26 : decode cX3_pays 26 = .ok (.ldc2_w 195, 3) := dk_20 0 195 (dk_at dksX3_pays_1 4 rfl rfl)
theorem dX3_pays_29 : decode cX3_pays 29 = .ok (.ldiv, 1) := dk_109 (dk_at dksX3_pays_1 7 rfl rfl)
theorem dX3_pays_30 : decode cX3_pays 30 = .ok (.l2i, 1) := dk_136 (dk_at dksX3_pays_1 8 rfl rfl)
theorem dX3_pays_31 : decode cX3_pays 31 = .ok (.aload_n 0, 1) := dk_42 (dk_at dksX3_pays_1 9 rfl rfl)
theorem dX3_pays_32 : decode cX3_pays 32 = .ok (.iload_n 1, 1) := dk_27 (dk_at dksX3_pays_1 10 rfl rfl)
theorem dX3_pays_33 : decode cX3_pays 33 = .ok (.iconst 1, 1) := dk_4 (dk_at dksX3_pays_1 11 rfl rfl)
theorem dX3_pays_34 : decode cX3_pays 34 = .ok (.invokevirtual 202, 3) := dk_182 0 202 (dk_at dksX3_pays_1 12 rfl rfl)
theorem dX3_pays_37 : decode cX3_pays 37 = .ok (.invokestatic 206, 3) := dk_184 0 206 (dk_at dksX3_pays_1 15 rfl rfl)
theorem dX3_pays_40 : decode cX3_pays 40 = .ok (.istore 4, 2) := dk_54 4 (dk_at dksX3_pays_1 18 rfl rfl)
theorem dX3_pays_42 : decode cX3_pays 42 = .ok (.iload 4, 2) := dk_21 4 (dk_at dksX3_pays_1 20 rfl rfl)
theorem dX3_pays_44 : decode cX3_pays 44 = .ok (.istore 5, 2) := dk_54 5 (dk_at dksX3_pays_1 22 rfl rfl)
theorem dX3_pays_46 : decode cX3_pays 46 = .ok (.iconst 0, 1) := dk_3 (dk_at dksX3_pays_2 0 rfl rfl)
theorem dX3_pays_47 : decode cX3_pays 47 = .ok (.istore 6, 2) := dk_54 6 (dk_at dksX3_pays_2 1 rfl rfl)
theorem dX3_pays_49 : decode cX3_pays 49 = .ok (.iload 6, 2) := dk_21 6 (dk_at dksX3_pays_2 3 rfl rfl)
theorem dX3_pays_51 : decode cX3_pays 51 = .ok (.aload_n 0, 1) := dk_42 (dk_at dksX3_pays_2 5 rfl rfl)
theorem dX3_pays_52 : decode cX3_pays 52 = .ok (.getfield 99, 3) := dk_180 0 99 (dk_at dksX3_pays_2 6 rfl rfl)
theorem dX3_pays_55 : decode cX3_pays 55 = .ok (.if_icmp .ge 73, 3) := dk_162 0 73 (dk_at dksX3_pays_2 9 rfl rfl)
theorem dX3_pays_58 : decode cX3_pays 58 = .ok (.aload_n 0, 1) := dk_42 (dk_at dksX3_pays_2 12 rfl rfl)
theorem dX3_pays_59 : decode cX3_pays 59 = .ok (.getfield 71, 3) := dk_180 0 71 (dk_at dksX3_pays_2 13 rfl rfl)
theorem dX3_pays_62 : decode cX3_pays 62 = .ok (.bipush 6, 2) := dk_16 6 (dk_at dksX3_pays_2 16 rfl rfl)
theorem dX3_pays_64 : decode cX3_pays 64 = .ok (.iload 6, 2) := dk_21 6 (dk_at dksX3_pays_2 18 rfl rfl)
theorem dX3_pays_66 : decode cX3_pays 66 = .ok (.imul, 1) := dk_104 (dk_at dksX3_pays_2 20 rfl rfl)
theorem dX3_pays_67 : decode cX3_pays 67 = .ok (.iaload, 1) := dk_46 (dk_at dksX3_pays_2 21 rfl rfl)
theorem dX3_pays_68 : decode cX3_pays 68 = .ok (.iload_n 1, 1) := dk_27 (dk_at dksX3_pays_2 22 rfl rfl)
theorem dX3_pays_69 : decode cX3_pays 69 = .ok (.if_icmp .ne 53, 3) := dk_160 0 53 (dk_at dksX3_pays_3 0 rfl rfl)
theorem dX3_pays_72 : decode cX3_pays 72 = .ok (.aload_n 0, 1) := dk_42 (dk_at dksX3_pays_3 3 rfl rfl)
theorem dX3_pays_73 : decode cX3_pays 73 = .ok (.getfield 71, 3) := dk_180 0 71 (dk_at dksX3_pays_3 4 rfl rfl)
theorem dX3_pays_76 : decode cX3_pays 76 = .ok (.bipush 6, 2) := dk_16 6 (dk_at dksX3_pays_3 7 rfl rfl)
theorem dX3_pays_78 : decode cX3_pays 78 = .ok (.iload 6, 2) := dk_21 6 (dk_at dksX3_pays_3 9 rfl rfl)
theorem dX3_pays_80 : decode cX3_pays 80 = .ok (.imul, 1) := dk_104 (dk_at dksX3_pays_3 11 rfl rfl)
theorem dX3_pays_81 : decode cX3_pays 81 = .ok (.iconst 5, 1) := dk_8 (dk_at dksX3_pays_3 12 rfl rfl)
theorem dX3_pays_82 : decode cX3_pays 82 = .ok (.iadd, 1) := dk_96 (dk_at dksX3_pays_3 13 rfl rfl)
theorem dX3_pays_83 : decode cX3_pays 83 = .ok (.iaload, 1) := dk_46 (dk_at dksX3_pays_3 14 rfl rfl)
theorem dX3_pays_84 : decode cX3_pays 84 = .ok (.iconst 2, 1) := dk_5 (dk_at dksX3_pays_3 15 rfl rfl)
theorem dX3_pays_85 : decode cX3_pays 85 = .ok (.if_icmp .ne 37, 3) := dk_160 0 37 (dk_at dksX3_pays_3 16 rfl rfl)
theorem dX3_pays_88 : decode cX3_pays 88 = .ok (.iload 5, 2) := dk_21 5 (dk_at dksX3_pays_3 19 rfl rfl)
theorem dX3_pays_90 : decode cX3_pays 90 = .ok (.aload_n 0, 1) := dk_42 (dk_at dksX3_pays_3 21 rfl rfl)
theorem dX3_pays_91 : decode cX3_pays 91 = .ok (.getfield 71, 3) := dk_180 0 71 (dk_at dksX3_pays_4 0 rfl rfl)
theorem dX3_pays_94 : decode cX3_pays 94 = .ok (.bipush 6, 2) := dk_16 6 (dk_at dksX3_pays_4 3 rfl rfl)
theorem dX3_pays_96 : decode cX3_pays 96 = .ok (.iload 6, 2) := dk_21 6 (dk_at dksX3_pays_4 5 rfl rfl)
theorem dX3_pays_98 : decode cX3_pays 98 = .ok (.imul, 1) := dk_104 (dk_at dksX3_pays_4 7 rfl rfl)
theorem dX3_pays_99 : decode cX3_pays 99 = .ok (.iconst 4, 1) := dk_7 (dk_at dksX3_pays_4 8 rfl rfl)
theorem dX3_pays_100 : decode cX3_pays 100 = .ok (.iadd, 1) := dk_96 (dk_at dksX3_pays_4 9 rfl rfl)
theorem dX3_pays_101 : decode cX3_pays 101 = .ok (.iaload, 1) := dk_46 (dk_at dksX3_pays_4 10 rfl rfl)
theorem dX3_pays_102 : decode cX3_pays 102 = .ok (.invokestatic 206, 3) := dk_184 0 206 (dk_at dksX3_pays_4 11 rfl rfl)
theorem dX3_pays_105 : decode cX3_pays 105 = .ok (.istore 7, 2) := dk_54 7 (dk_at dksX3_pays_4 14 rfl rfl)
theorem dX3_pays_107 : decode cX3_pays 107 = .ok (.iload 5, 2) := dk_21 5 (dk_at dksX3_pays_4 16 rfl rfl)
theorem dX3_pays_109 : decode cX3_pays 109 = .ok (.iload 7, 2) := dk_21 7 (dk_at dksX3_pays_4 18 rfl rfl)
theorem dX3_pays_111 : decode cX3_pays 111 = .ok (.isub, 1) := dk_100 (dk_at dksX3_pays_4 20 rfl rfl)
theorem dX3_pays_112 : decode cX3_pays 112 = .ok (.istore 5, 2) := dk_54 5 (dk_at dksX3_pays_4 21 rfl rfl)
theorem dX3_pays_114 : decode cX3_pays 114 = .ok (.aload_n 0, 1) := dk_42 (dk_at dksX3_pays_4 23 rfl rfl)
theorem dX3_pays_115 : decode cX3_pays 115 = .ok (.iload 6, 2) := dk_21 6 (dk_at dksX3_pays_5 0 rfl rfl)
theorem dX3_pays_117 : decode cX3_pays 117 = .ok (.iload 7, 2) := dk_21 7 (dk_at dksX3_pays_5 2 rfl rfl)
theorem dX3_pays_119 : decode cX3_pays 119 = .ok (.invokevirtual 208, 3) := dk_182 0 208 (dk_at dksX3_pays_5 4 rfl rfl)
theorem dX3_pays_122 : decode cX3_pays 122 = .ok (.iinc 6 1, 3) := dk_132 6 1 (dk_at dksX3_pays_5 7 rfl rfl)
theorem dX3_pays_125 : decode cX3_pays 125 = .ok (.goto (-76), 3) := dk_167 255 180 (dk_at dksX3_pays_5 10 rfl rfl)
theorem dX3_pays_128 : decode cX3_pays 128 = .ok (.aload_n 0, 1) := dk_42 (dk_at dksX3_pays_5 13 rfl rfl)
theorem dX3_pays_129 : decode cX3_pays 129 = .ok (.getfield 24, 3) := dk_180 0 24 (dk_at dksX3_pays_5 14 rfl rfl)
theorem dX3_pays_132 : decode cX3_pays 132 = .ok (.iload_n 1, 1) := dk_27 (dk_at dksX3_pays_5 17 rfl rfl)
theorem dX3_pays_133 : decode cX3_pays 133 = .ok (.dup2, 1) := dk_92 (dk_at dksX3_pays_5 18 rfl rfl)
theorem dX3_pays_134 : decode cX3_pays 134 = .ok (.iaload, 1) := dk_46 (dk_at dksX3_pays_5 19 rfl rfl)
theorem dX3_pays_135 : decode cX3_pays 135 = .ok (.iload 4, 2) := dk_21 4 (dk_at dksX3_pays_5 20 rfl rfl)
theorem dX3_pays_137 : decode cX3_pays 137 = .ok (.iadd, 1) := dk_96 (dk_at dksX3_pays_5 22 rfl rfl)
theorem dX3_pays_138 : decode cX3_pays 138 = .ok (.iastore, 1) := dk_79 (dk_at dksX3_pays_5 23 rfl rfl)
theorem dX3_pays_139 : decode cX3_pays 139 = .ok (.aload_n 0, 1) := dk_42 (dk_at dksX3_pays_6 0 rfl rfl)
theorem dX3_pays_140 : decode cX3_pays 140 = .ok (.iload_n 1, 1) := dk_27 (dk_at dksX3_pays_6 1 rfl rfl)
theorem dX3_pays_141 : decode cX3_pays 141 = .ok (.aload_n 0, 1) := dk_42 (dk_at dksX3_pays_6 2 rfl rfl)
theorem dX3_pays_142 : decode cX3_pays 142 = .ok (.getfield 135, 3) := dk_180 0 135 (dk_at dksX3_pays_6 3 rfl rfl)
theorem dX3_pays_145 : decode cX3_pays 145 = .ok (.iconst 3, 1) := dk_6 (dk_at dksX3_pays_6 6 rfl rfl)
theorem dX3_pays_146 : decode cX3_pays 146 = .ok (.invokevirtual 185, 3) := dk_182 0 185 (dk_at dksX3_pays_6 7 rfl rfl)
theorem dX3_pays_149 : decode cX3_pays 149 = .ok (.ifCond .ne 19, 3) := dk_154 0 19 (dk_at dksX3_pays_6 10 rfl rfl)
theorem dX3_pays_152 : decode cX3_pays 152 = .ok (.aload_n 0, 1) := dk_42 (dk_at dksX3_pays_6 13 rfl rfl)
theorem dX3_pays_153 : decode cX3_pays 153 = .ok (.getfield 27, 3) := dk_180 0 27 (dk_at dksX3_pays_6 14 rfl rfl)
theorem dX3_pays_156 : decode cX3_pays 156 = .ok (.iload_n 1, 1) := dk_27 (dk_at dksX3_pays_6 17 rfl rfl)
theorem dX3_pays_157 : decode cX3_pays 157 = .ok (.dup2, 1) := dk_92 (dk_at dksX3_pays_6 18 rfl rfl)
theorem dX3_pays_158 : decode cX3_pays 158 = .ok (.iaload, 1) := dk_46 (dk_at dksX3_pays_6 19 rfl rfl)
theorem dX3_pays_159 : decode cX3_pays 159 = .ok (.iload_n 3, 1) := dk_29 (dk_at dksX3_pays_6 20 rfl rfl)
theorem dX3_pays_160 : decode cX3_pays 160 = .ok (.iload 4, 2) := dk_21 4 (dk_at dksX3_pays_6 21 rfl rfl)
theorem dX3_pays_162 : decode cX3_pays 162 = .ok (.isub, 1) := dk_100 (dk_at dksX3_pays_6 23 rfl rfl)
theorem dX3_pays_163 : decode cX3_pays 163 = .ok (.iadd, 1) := dk_96 (dk_at dksX3_pays_7 0 rfl rfl)
theorem dX3_pays_164 : decode cX3_pays 164 = .ok (.iastore, 1) := dk_79 (dk_at dksX3_pays_7 1 rfl rfl)
theorem dX3_pays_165 : decode cX3_pays 165 = .ok (.goto 16, 3) := dk_167 0 16 (dk_at dksX3_pays_7 2 rfl rfl)
theorem dX3_pays_168 : decode cX3_pays 168 = .ok (.aload_n 0, 1) := dk_42 (dk_at dksX3_pays_7 5 rfl rfl)
theorem dX3_pays_169 : decode cX3_pays 169 = .ok (.getfield 30, 3) := dk_180 0 30 (dk_at dksX3_pays_7 6 rfl rfl)
theorem dX3_pays_172 : decode cX3_pays 172 = .ok (.iload_n 1, 1) := dk_27 (dk_at dksX3_pays_7 9 rfl rfl)
theorem dX3_pays_173 : decode cX3_pays 173 = .ok (.dup2, 1) := dk_92 (dk_at dksX3_pays_7 10 rfl rfl)
theorem dX3_pays_174 : decode cX3_pays 174 = .ok (.iaload, 1) := dk_46 (dk_at dksX3_pays_7 11 rfl rfl)
theorem dX3_pays_175 : decode cX3_pays 175 = .ok (.iload_n 3, 1) := dk_29 (dk_at dksX3_pays_7 12 rfl rfl)
theorem dX3_pays_176 : decode cX3_pays 176 = .ok (.iload 4, 2) := dk_21 4 (dk_at dksX3_pays_7 13 rfl rfl)
theorem dX3_pays_178 : decode cX3_pays 178 = .ok (.isub, 1) := dk_100 (dk_at dksX3_pays_7 15 rfl rfl)
theorem dX3_pays_179 : decode cX3_pays 179 = .ok (.iadd, 1) := dk_96 (dk_at dksX3_pays_7 16 rfl rfl)
theorem dX3_pays_180 : decode cX3_pays 180 = .ok (.iastore, 1) := dk_79 (dk_at dksX3_pays_7 17 rfl rfl)
theorem dX3_pays_181 : decode cX3_pays 181 = .ok (.return_, 1) := dk_177 (dk_at dksX3_pays_7 18 rfl rfl)
abbrev cX3_leftOf : ByteArray := prog_13_method_25_code
def yX3_leftOf : MethodName := ⟨RX3, "leftOf", "(IZ)I"⟩
def dkwX3_leftOf_3 : List UInt8 := [167, 255, 191, 29, 172]
abbrev dktX3_leftOf_3 : List UInt8 := dkwX3_leftOf_3 ++ []
def dkwX3_leftOf_2 : List UInt8 := [160, 0, 18, 42, 180, 0, 71, 16, 6, 21, 4, 104, 7, 96, 46, 167, 0, 4, 3, 96, 62, 132, 4, 1]
abbrev dktX3_leftOf_2 : List UInt8 := dkwX3_leftOf_2 ++ dktX3_leftOf_3
def dkwX3_leftOf_1 : List UInt8 := [46, 27, 160, 0, 38, 28, 153, 0, 19, 42, 180, 0, 71, 16, 6, 21, 4, 104, 8, 96, 46, 5]
abbrev dktX3_leftOf_1 : List UInt8 := dkwX3_leftOf_1 ++ dktX3_leftOf_2
def dkwX3_leftOf_0 : List UInt8 := [3, 62, 3, 54, 4, 21, 4, 42, 180, 0, 99, 162, 0, 62, 29, 42, 180, 0, 71, 16, 6, 21, 4, 104]
abbrev dktX3_leftOf_0 : List UInt8 := dkwX3_leftOf_0 ++ dktX3_leftOf_1
theorem dksX3_leftOf_0 : cX3_leftOf.data.toList.drop 0 = dktX3_leftOf_0 := by decide +kernel
theorem dksX3_leftOf_1 : cX3_leftOf.data.toList.drop 24 = dktX3_leftOf_1 := dk_seg dksX3_leftOf_0 24 rfl rfl
theorem dksX3_leftOf_2 : cX3_leftOf.data.toList.drop 46 = dktX3_leftOf_2 := dk_seg dksX3_leftOf_1 22 rfl rfl
theorem dksX3_leftOf_3 : cX3_leftOf.data.toList.drop 70 = dktX3_leftOf_3 := dk_seg dksX3_leftOf_2 24 rfl rfl
theorem dX3_leftOf_0 : decode cX3_leftOf 0 = .ok (.iconst 0, 1) := dk_3 (dk_at dksX3_leftOf_0 0 rfl rfl)
theorem dX3_leftOf_1 : decode cX3_leftOf 1 = .ok (.istore_n 3, 1) := dk_62 (dk_at dksX3_leftOf_0 1 rfl rfl)
theorem dX3_leftOf_2 : decode cX3_leftOf 2 = .ok (.iconst 0, 1) := dk_3 (dk_at dksX3_leftOf_0 2 rfl rfl)
theorem dX3_leftOf_3 : decode cX3_leftOf 3 = .ok (.istore 4, 2) := dk_54 4 (dk_at dksX3_leftOf_0 3 rfl rfl)
theorem dX3_leftOf_5 : decode cX3_leftOf 5 = .ok (.iload 4, 2) := dk_21 4 (dk_at dksX3_leftOf_0 5 rfl rfl)
theorem dX3_leftOf_7 : decode cX3_leftOf 7 = .ok (.aload_n 0, 1) := dk_42 (dk_at dksX3_leftOf_0 7 rfl rfl)
theorem dX3_leftOf_8 : decode cX3_leftOf 8 = .ok (.getfield 99, 3) := dk_180 0 99 (dk_at dksX3_leftOf_0 8 rfl rfl)
theorem dX3_leftOf_11 : decode cX3_leftOf 11 = .ok (.if_icmp .ge 62, 3) := dk_162 0 62 (dk_at dksX3_leftOf_0 11 rfl rfl)
theorem dX3_leftOf_14 : decode cX3_leftOf 14 = .ok (.iload_n 3, 1) := dk_29 (dk_at dksX3_leftOf_0 14 rfl rfl)
theorem dX3_leftOf_15 : decode cX3_leftOf 15 = .ok (.aload_n 0, 1) := dk_42 (dk_at dksX3_leftOf_0 15 rfl rfl)
theorem dX3_leftOf_16 : decode cX3_leftOf 16 = .ok (.getfield 71, 3) := dk_180 0 71 (dk_at dksX3_leftOf_0 16 rfl rfl)
theorem dX3_leftOf_19 : decode cX3_leftOf 19 = .ok (.bipush 6, 2) := dk_16 6 (dk_at dksX3_leftOf_0 19 rfl rfl)
theorem dX3_leftOf_21 : decode cX3_leftOf 21 = .ok (.iload 4, 2) := dk_21 4 (dk_at dksX3_leftOf_0 21 rfl rfl)
theorem dX3_leftOf_23 : decode cX3_leftOf 23 = .ok (.imul, 1) := dk_104 (dk_at dksX3_leftOf_0 23 rfl rfl)
theorem dX3_leftOf_24 : decode cX3_leftOf 24 = .ok (.iaload, 1) := dk_46 (dk_at dksX3_leftOf_1 0 rfl rfl)
theorem dX3_leftOf_25 : decode cX3_leftOf 25 = .ok (.iload_n 1, 1) := dk_27 (dk_at dksX3_leftOf_1 1 rfl rfl)
theorem dX3_leftOf_26 : decode cX3_leftOf 26 = .ok (.if_icmp .ne 38, 3) := dk_160 0 38 (dk_at dksX3_leftOf_1 2 rfl rfl)
theorem dX3_leftOf_29 : decode cX3_leftOf 29 = .ok (.iload_n 2, 1) := dk_28 (dk_at dksX3_leftOf_1 5 rfl rfl)
theorem dX3_leftOf_30 : decode cX3_leftOf 30 = .ok (.ifCond .eq 19, 3) := dk_153 0 19 (dk_at dksX3_leftOf_1 6 rfl rfl)
theorem dX3_leftOf_33 : decode cX3_leftOf 33 = .ok (.aload_n 0, 1) := dk_42 (dk_at dksX3_leftOf_1 9 rfl rfl)
theorem dX3_leftOf_34 : decode cX3_leftOf 34 = .ok (.getfield 71, 3) := dk_180 0 71 (dk_at dksX3_leftOf_1 10 rfl rfl)
theorem dX3_leftOf_37 : decode cX3_leftOf 37 = .ok (.bipush 6, 2) := dk_16 6 (dk_at dksX3_leftOf_1 13 rfl rfl)
theorem dX3_leftOf_39 : decode cX3_leftOf 39 = .ok (.iload 4, 2) := dk_21 4 (dk_at dksX3_leftOf_1 15 rfl rfl)
theorem dX3_leftOf_41 : decode cX3_leftOf 41 = .ok (.imul, 1) := dk_104 (dk_at dksX3_leftOf_1 17 rfl rfl)
theorem dX3_leftOf_42 : decode cX3_leftOf 42 = .ok (.iconst 5, 1) := dk_8 (dk_at dksX3_leftOf_1 18 rfl rfl)
theorem dX3_leftOf_43 : decode cX3_leftOf 43 = .ok (.iadd, 1) := dk_96 (dk_at dksX3_leftOf_1 19 rfl rfl)
theorem dX3_leftOf_44 : decode cX3_leftOf 44 = .ok (.iaload, 1) := dk_46 (dk_at dksX3_leftOf_1 20 rfl rfl)
theorem dX3_leftOf_45 : decode cX3_leftOf 45 = .ok (.iconst 2, 1) := dk_5 (dk_at dksX3_leftOf_1 21 rfl rfl)
theorem dX3_leftOf_46 : decode cX3_leftOf 46 = .ok (.if_icmp .ne 18, 3) := dk_160 0 18 (dk_at dksX3_leftOf_2 0 rfl rfl)
theorem dX3_leftOf_49 : decode cX3_leftOf 49 = .ok (.aload_n 0, 1) := dk_42 (dk_at dksX3_leftOf_2 3 rfl rfl)
theorem dX3_leftOf_50 : decode cX3_leftOf 50 = .ok (.getfield 71, 3) := dk_180 0 71 (dk_at dksX3_leftOf_2 4 rfl rfl)
theorem dX3_leftOf_53 : decode cX3_leftOf 53 = .ok (.bipush 6, 2) := dk_16 6 (dk_at dksX3_leftOf_2 7 rfl rfl)
theorem dX3_leftOf_55 : decode cX3_leftOf 55 = .ok (.iload 4, 2) := dk_21 4 (dk_at dksX3_leftOf_2 9 rfl rfl)
theorem dX3_leftOf_57 : decode cX3_leftOf 57 = .ok (.imul, 1) := dk_104 (dk_at dksX3_leftOf_2 11 rfl rfl)
theorem dX3_leftOf_58 : decode cX3_leftOf 58 = .ok (.iconst 4, 1) := dk_7 (dk_at dksX3_leftOf_2 12 rfl rfl)
theorem dX3_leftOf_59 : decode cX3_leftOf 59 = .ok (.iadd, 1) := dk_96 (dk_at dksX3_leftOf_2 13 rfl rfl)
theorem dX3_leftOf_60 : decode cX3_leftOf 60 = .ok (.iaload, 1) := dk_46 (dk_at dksX3_leftOf_2 14 rfl rfl)
theorem dX3_leftOf_61 : decode cX3_leftOf 61 = .ok (.goto 4, 3) := dk_167 0 4 (dk_at dksX3_leftOf_2 15 rfl rfl)
theorem dX3_leftOf_64 : decode cX3_leftOf 64 = .ok (.iconst 0, 1) := dk_3 (dk_at dksX3_leftOf_2 18 rfl rfl)
theorem dX3_leftOf_65 : decode cX3_leftOf 65 = .ok (.iadd, 1) := dk_96 (dk_at dksX3_leftOf_2 19 rfl rfl)
theorem dX3_leftOf_66 : decode cX3_leftOf 66 = .ok (.istore_n 3, 1) := dk_62 (dk_at dksX3_leftOf_2 20 rfl rfl)
theorem dX3_leftOf_67 : decode cX3_leftOf 67 = .ok (.iinc 4 1, 3) := dk_132 4 1 (dk_at dksX3_leftOf_2 21 rfl rfl)
theorem dX3_leftOf_70 : decode cX3_leftOf 70 = .ok (.goto (-65), 3) := dk_167 255 191 (dk_at dksX3_leftOf_3 0 rfl rfl)
theorem dX3_leftOf_73 : decode cX3_leftOf 73 = .ok (.iload_n 3, 1) := dk_29 (dk_at dksX3_leftOf_3 3 rfl rfl)
theorem dX3_leftOf_74 : decode cX3_leftOf 74 = .ok (.ireturn, 1) := dk_172 (dk_at dksX3_leftOf_3 4 rfl rfl)
abbrev cX3_addClaim : ByteArray := prog_13_method_24_code
def yX3_addClaim : MethodName := ⟨RX3, "addClaim", "(III)V"⟩
def dkwX3_addClaim_6 : List UInt8 := [181, 0, 99, 42, 180, 0, 36, 16, 51, 27, 104, 28, 96, 92, 46, 29, 96, 79, 177]
abbrev dktX3_addClaim_6 : List UInt8 := dkwX3_addClaim_6 ++ []
def dkwX3_addClaim_5 : List UInt8 := [21, 4, 7, 96, 29, 79, 42, 180, 0, 71, 21, 4, 8, 96, 3, 79, 42, 89, 180, 0, 99, 4, 96]
abbrev dktX3_addClaim_5 : List UInt8 := dkwX3_addClaim_5 ++ dktX3_addClaim_6
def dkwX3_addClaim_4 : List UInt8 := [21, 4, 5, 96, 42, 180, 0, 135, 79, 42, 180, 0, 71, 21, 4, 6, 96, 29, 79, 42, 180, 0, 71]
abbrev dktX3_addClaim_4 : List UInt8 := dkwX3_addClaim_4 ++ dktX3_addClaim_5
def dkwX3_addClaim_3 : List UInt8 := [54, 4, 42, 180, 0, 71, 21, 4, 27, 79, 42, 180, 0, 71, 21, 4, 4, 96, 28, 79, 42, 180, 0, 71]
abbrev dktX3_addClaim_3 : List UInt8 := dkwX3_addClaim_3 ++ dktX3_addClaim_4
def dkwX3_addClaim_2 : List UInt8 := [21, 5, 46, 79, 132, 5, 1, 167, 255, 231, 42, 25, 4, 181, 0, 71, 16, 6, 42, 180, 0, 99, 104]
abbrev dktX3_addClaim_2 : List UInt8 := dkwX3_addClaim_2 ++ dktX3_addClaim_3
def dkwX3_addClaim_1 : List UInt8 := [58, 4, 3, 54, 5, 21, 5, 42, 180, 0, 71, 190, 162, 0, 21, 25, 4, 21, 5, 42, 180, 0, 71]
abbrev dktX3_addClaim_1 : List UInt8 := dkwX3_addClaim_1 ++ dktX3_addClaim_2
def dkwX3_addClaim_0 : List UInt8 := [16, 6, 42, 180, 0, 99, 104, 42, 180, 0, 71, 190, 160, 0, 51, 5, 42, 180, 0, 71, 190, 104, 188, 10]
abbrev dktX3_addClaim_0 : List UInt8 := dkwX3_addClaim_0 ++ dktX3_addClaim_1
theorem dksX3_addClaim_0 : cX3_addClaim.data.toList.drop 0 = dktX3_addClaim_0 := by decide +kernel
theorem dksX3_addClaim_1 : cX3_addClaim.data.toList.drop 24 = dktX3_addClaim_1 := dk_seg dksX3_addClaim_0 24 rfl rfl
theorem dksX3_addClaim_2 : cX3_addClaim.data.toList.drop 47 = dktX3_addClaim_2 := dk_seg dksX3_addClaim_1 23 rfl rfl
theorem dksX3_addClaim_3 : cX3_addClaim.data.toList.drop 70 = dktX3_addClaim_3 := dk_seg dksX3_addClaim_2 23 rfl rfl
theorem dksX3_addClaim_4 : cX3_addClaim.data.toList.drop 94 = dktX3_addClaim_4 := dk_seg dksX3_addClaim_3 24 rfl rfl
theorem dksX3_addClaim_5 : cX3_addClaim.data.toList.drop 117 = dktX3_addClaim_5 := dk_seg dksX3_addClaim_4 23 rfl rfl
theorem dksX3_addClaim_6 : cX3_addClaim.data.toList.drop 140 = dktX3_addClaim_6 := dk_seg dksX3_addClaim_5 23 rfl rfl
theorem dX3_addClaim_0 : decode cX3_addClaim 0 = .ok (.bipush 6, 2) := dk_16 6 (dk_at dksX3_addClaim_0 0 rfl rfl)
theorem dX3_addClaim_2 : decode cX3_addClaim 2 = .ok (.aload_n 0, 1) := dk_42 (dk_at dksX3_addClaim_0 2 rfl rfl)
theorem dX3_addClaim_3 : decode cX3_addClaim 3 = .ok (.getfield 99, 3) := dk_180 0 99 (dk_at dksX3_addClaim_0 3 rfl rfl)
theorem dX3_addClaim_6 : decode cX3_addClaim 6 = .ok (.imul, 1) := dk_104 (dk_at dksX3_addClaim_0 6 rfl rfl)
theorem dX3_addClaim_7 : decode cX3_addClaim 7 = .ok (.aload_n 0, 1) := dk_42 (dk_at dksX3_addClaim_0 7 rfl rfl)
theorem dX3_addClaim_8 : decode cX3_addClaim 8 = .ok (.getfield 71, 3) := dk_180 0 71 (dk_at dksX3_addClaim_0 8 rfl rfl)
theorem dX3_addClaim_11 : decode cX3_addClaim 11 = .ok (.arraylength, 1) := dk_190 (dk_at dksX3_addClaim_0 11 rfl rfl)
theorem dX3_addClaim_12 : decode cX3_addClaim 12 = .ok (.if_icmp .ne 51, 3) := dk_160 0 51 (dk_at dksX3_addClaim_0 12 rfl rfl)
theorem dX3_addClaim_15 : decode cX3_addClaim 15 = .ok (.iconst 2, 1) := dk_5 (dk_at dksX3_addClaim_0 15 rfl rfl)
theorem dX3_addClaim_16 : decode cX3_addClaim 16 = .ok (.aload_n 0, 1) := dk_42 (dk_at dksX3_addClaim_0 16 rfl rfl)
theorem dX3_addClaim_17 : decode cX3_addClaim 17 = .ok (.getfield 71, 3) := dk_180 0 71 (dk_at dksX3_addClaim_0 17 rfl rfl)
theorem dX3_addClaim_20 : decode cX3_addClaim 20 = .ok (.arraylength, 1) := dk_190 (dk_at dksX3_addClaim_0 20 rfl rfl)
theorem dX3_addClaim_21 : decode cX3_addClaim 21 = .ok (.imul, 1) := dk_104 (dk_at dksX3_addClaim_0 21 rfl rfl)
theorem dX3_addClaim_22 : decode cX3_addClaim 22 = .ok (.newarray .int, 2) := dk_188_10 (dk_at dksX3_addClaim_0 22 rfl rfl)
theorem dX3_addClaim_24 : decode cX3_addClaim 24 = .ok (.astore 4, 2) := dk_58 4 (dk_at dksX3_addClaim_1 0 rfl rfl)
theorem dX3_addClaim_26 : decode cX3_addClaim 26 = .ok (.iconst 0, 1) := dk_3 (dk_at dksX3_addClaim_1 2 rfl rfl)
theorem dX3_addClaim_27 : decode cX3_addClaim 27 = .ok (.istore 5, 2) := dk_54 5 (dk_at dksX3_addClaim_1 3 rfl rfl)
theorem dX3_addClaim_29 : decode cX3_addClaim 29 = .ok (.iload 5, 2) := dk_21 5 (dk_at dksX3_addClaim_1 5 rfl rfl)
theorem dX3_addClaim_31 : decode cX3_addClaim 31 = .ok (.aload_n 0, 1) := dk_42 (dk_at dksX3_addClaim_1 7 rfl rfl)
theorem dX3_addClaim_32 : decode cX3_addClaim 32 = .ok (.getfield 71, 3) := dk_180 0 71 (dk_at dksX3_addClaim_1 8 rfl rfl)
theorem dX3_addClaim_35 : decode cX3_addClaim 35 = .ok (.arraylength, 1) := dk_190 (dk_at dksX3_addClaim_1 11 rfl rfl)
theorem dX3_addClaim_36 : decode cX3_addClaim 36 = .ok (.if_icmp .ge 21, 3) := dk_162 0 21 (dk_at dksX3_addClaim_1 12 rfl rfl)
theorem dX3_addClaim_39 : decode cX3_addClaim 39 = .ok (.aload 4, 2) := dk_25 4 (dk_at dksX3_addClaim_1 15 rfl rfl)
theorem dX3_addClaim_41 : decode cX3_addClaim 41 = .ok (.iload 5, 2) := dk_21 5 (dk_at dksX3_addClaim_1 17 rfl rfl)
theorem dX3_addClaim_43 : decode cX3_addClaim 43 = .ok (.aload_n 0, 1) := dk_42 (dk_at dksX3_addClaim_1 19 rfl rfl)
theorem dX3_addClaim_44 : decode cX3_addClaim 44 = .ok (.getfield 71, 3) := dk_180 0 71 (dk_at dksX3_addClaim_1 20 rfl rfl)
theorem dX3_addClaim_47 : decode cX3_addClaim 47 = .ok (.iload 5, 2) := dk_21 5 (dk_at dksX3_addClaim_2 0 rfl rfl)
theorem dX3_addClaim_49 : decode cX3_addClaim 49 = .ok (.iaload, 1) := dk_46 (dk_at dksX3_addClaim_2 2 rfl rfl)
theorem dX3_addClaim_50 : decode cX3_addClaim 50 = .ok (.iastore, 1) := dk_79 (dk_at dksX3_addClaim_2 3 rfl rfl)
theorem dX3_addClaim_51 : decode cX3_addClaim 51 = .ok (.iinc 5 1, 3) := dk_132 5 1 (dk_at dksX3_addClaim_2 4 rfl rfl)
theorem dX3_addClaim_54 : decode cX3_addClaim 54 = .ok (.goto (-25), 3) := dk_167 255 231 (dk_at dksX3_addClaim_2 7 rfl rfl)
theorem dX3_addClaim_57 : decode cX3_addClaim 57 = .ok (.aload_n 0, 1) := dk_42 (dk_at dksX3_addClaim_2 10 rfl rfl)
theorem dX3_addClaim_58 : decode cX3_addClaim 58 = .ok (.aload 4, 2) := dk_25 4 (dk_at dksX3_addClaim_2 11 rfl rfl)
theorem dX3_addClaim_60 : decode cX3_addClaim 60 = .ok (.putfield 71, 3) := dk_181 0 71 (dk_at dksX3_addClaim_2 13 rfl rfl)
theorem dX3_addClaim_63 : decode cX3_addClaim 63 = .ok (.bipush 6, 2) := dk_16 6 (dk_at dksX3_addClaim_2 16 rfl rfl)
theorem dX3_addClaim_65 : decode cX3_addClaim 65 = .ok (.aload_n 0, 1) := dk_42 (dk_at dksX3_addClaim_2 18 rfl rfl)
theorem dX3_addClaim_66 : decode cX3_addClaim 66 = .ok (.getfield 99, 3) := dk_180 0 99 (dk_at dksX3_addClaim_2 19 rfl rfl)
theorem dX3_addClaim_69 : decode cX3_addClaim 69 = .ok (.imul, 1) := dk_104 (dk_at dksX3_addClaim_2 22 rfl rfl)
theorem dX3_addClaim_70 : decode cX3_addClaim 70 = .ok (.istore 4, 2) := dk_54 4 (dk_at dksX3_addClaim_3 0 rfl rfl)
theorem dX3_addClaim_72 : decode cX3_addClaim 72 = .ok (.aload_n 0, 1) := dk_42 (dk_at dksX3_addClaim_3 2 rfl rfl)
theorem dX3_addClaim_73 : decode cX3_addClaim 73 = .ok (.getfield 71, 3) := dk_180 0 71 (dk_at dksX3_addClaim_3 3 rfl rfl)
theorem dX3_addClaim_76 : decode cX3_addClaim 76 = .ok (.iload 4, 2) := dk_21 4 (dk_at dksX3_addClaim_3 6 rfl rfl)
theorem dX3_addClaim_78 : decode cX3_addClaim 78 = .ok (.iload_n 1, 1) := dk_27 (dk_at dksX3_addClaim_3 8 rfl rfl)
theorem dX3_addClaim_79 : decode cX3_addClaim 79 = .ok (.iastore, 1) := dk_79 (dk_at dksX3_addClaim_3 9 rfl rfl)
theorem dX3_addClaim_80 : decode cX3_addClaim 80 = .ok (.aload_n 0, 1) := dk_42 (dk_at dksX3_addClaim_3 10 rfl rfl)
theorem dX3_addClaim_81 : decode cX3_addClaim 81 = .ok (.getfield 71, 3) := dk_180 0 71 (dk_at dksX3_addClaim_3 11 rfl rfl)
theorem dX3_addClaim_84 : decode cX3_addClaim 84 = .ok (.iload 4, 2) := dk_21 4 (dk_at dksX3_addClaim_3 14 rfl rfl)
theorem dX3_addClaim_86 : decode cX3_addClaim 86 = .ok (.iconst 1, 1) := dk_4 (dk_at dksX3_addClaim_3 16 rfl rfl)
theorem dX3_addClaim_87 : decode cX3_addClaim 87 = .ok (.iadd, 1) := dk_96 (dk_at dksX3_addClaim_3 17 rfl rfl)
theorem dX3_addClaim_88 : decode cX3_addClaim 88 = .ok (.iload_n 2, 1) := dk_28 (dk_at dksX3_addClaim_3 18 rfl rfl)
theorem dX3_addClaim_89 : decode cX3_addClaim 89 = .ok (.iastore, 1) := dk_79 (dk_at dksX3_addClaim_3 19 rfl rfl)
theorem dX3_addClaim_90 : decode cX3_addClaim 90 = .ok (.aload_n 0, 1) := dk_42 (dk_at dksX3_addClaim_3 20 rfl rfl)
theorem dX3_addClaim_91 : decode cX3_addClaim 91 = .ok (.getfield 71, 3) := dk_180 0 71 (dk_at dksX3_addClaim_3 21 rfl rfl)
theorem dX3_addClaim_94 : decode cX3_addClaim 94 = .ok (.iload 4, 2) := dk_21 4 (dk_at dksX3_addClaim_4 0 rfl rfl)
theorem dX3_addClaim_96 : decode cX3_addClaim 96 = .ok (.iconst 2, 1) := dk_5 (dk_at dksX3_addClaim_4 2 rfl rfl)
theorem dX3_addClaim_97 : decode cX3_addClaim 97 = .ok (.iadd, 1) := dk_96 (dk_at dksX3_addClaim_4 3 rfl rfl)
theorem dX3_addClaim_98 : decode cX3_addClaim 98 = .ok (.aload_n 0, 1) := dk_42 (dk_at dksX3_addClaim_4 4 rfl rfl)
theorem dX3_addClaim_99 : decode cX3_addClaim 99 = .ok (.getfield 135, 3) := dk_180 0 135 (dk_at dksX3_addClaim_4 5 rfl rfl)
theorem dX3_addClaim_102 : decode cX3_addClaim 102 = .ok (.iastore, 1) := dk_79 (dk_at dksX3_addClaim_4 8 rfl rfl)
theorem dX3_addClaim_103 : decode cX3_addClaim 103 = .ok (.aload_n 0, 1) := dk_42 (dk_at dksX3_addClaim_4 9 rfl rfl)
theorem dX3_addClaim_104 : decode cX3_addClaim 104 = .ok (.getfield 71, 3) := dk_180 0 71 (dk_at dksX3_addClaim_4 10 rfl rfl)
theorem dX3_addClaim_107 : decode cX3_addClaim 107 = .ok (.iload 4, 2) := dk_21 4 (dk_at dksX3_addClaim_4 13 rfl rfl)
theorem dX3_addClaim_109 : decode cX3_addClaim 109 = .ok (.iconst 3, 1) := dk_6 (dk_at dksX3_addClaim_4 15 rfl rfl)
theorem dX3_addClaim_110 : decode cX3_addClaim 110 = .ok (.iadd, 1) := dk_96 (dk_at dksX3_addClaim_4 16 rfl rfl)
theorem dX3_addClaim_111 : decode cX3_addClaim 111 = .ok (.iload_n 3, 1) := dk_29 (dk_at dksX3_addClaim_4 17 rfl rfl)
theorem dX3_addClaim_112 : decode cX3_addClaim 112 = .ok (.iastore, 1) := dk_79 (dk_at dksX3_addClaim_4 18 rfl rfl)
theorem dX3_addClaim_113 : decode cX3_addClaim 113 = .ok (.aload_n 0, 1) := dk_42 (dk_at dksX3_addClaim_4 19 rfl rfl)
theorem dX3_addClaim_114 : decode cX3_addClaim 114 = .ok (.getfield 71, 3) := dk_180 0 71 (dk_at dksX3_addClaim_4 20 rfl rfl)
theorem dX3_addClaim_117 : decode cX3_addClaim 117 = .ok (.iload 4, 2) := dk_21 4 (dk_at dksX3_addClaim_5 0 rfl rfl)
theorem dX3_addClaim_119 : decode cX3_addClaim 119 = .ok (.iconst 4, 1) := dk_7 (dk_at dksX3_addClaim_5 2 rfl rfl)
theorem dX3_addClaim_120 : decode cX3_addClaim 120 = .ok (.iadd, 1) := dk_96 (dk_at dksX3_addClaim_5 3 rfl rfl)
theorem dX3_addClaim_121 : decode cX3_addClaim 121 = .ok (.iload_n 3, 1) := dk_29 (dk_at dksX3_addClaim_5 4 rfl rfl)
theorem dX3_addClaim_122 : decode cX3_addClaim 122 = .ok (.iastore, 1) := dk_79 (dk_at dksX3_addClaim_5 5 rfl rfl)
theorem dX3_addClaim_123 : decode cX3_addClaim 123 = .ok (.aload_n 0, 1) := dk_42 (dk_at dksX3_addClaim_5 6 rfl rfl)
theorem dX3_addClaim_124 : decode cX3_addClaim 124 = .ok (.getfield 71, 3) := dk_180 0 71 (dk_at dksX3_addClaim_5 7 rfl rfl)
theorem dX3_addClaim_127 : decode cX3_addClaim 127 = .ok (.iload 4, 2) := dk_21 4 (dk_at dksX3_addClaim_5 10 rfl rfl)
theorem dX3_addClaim_129 : decode cX3_addClaim 129 = .ok (.iconst 5, 1) := dk_8 (dk_at dksX3_addClaim_5 12 rfl rfl)
theorem dX3_addClaim_130 : decode cX3_addClaim 130 = .ok (.iadd, 1) := dk_96 (dk_at dksX3_addClaim_5 13 rfl rfl)
theorem dX3_addClaim_131 : decode cX3_addClaim 131 = .ok (.iconst 0, 1) := dk_3 (dk_at dksX3_addClaim_5 14 rfl rfl)
theorem dX3_addClaim_132 : decode cX3_addClaim 132 = .ok (.iastore, 1) := dk_79 (dk_at dksX3_addClaim_5 15 rfl rfl)
theorem dX3_addClaim_133 : decode cX3_addClaim 133 = .ok (.aload_n 0, 1) := dk_42 (dk_at dksX3_addClaim_5 16 rfl rfl)
theorem dX3_addClaim_134 : decode cX3_addClaim 134 = .ok (.dup, 1) := dk_89 (dk_at dksX3_addClaim_5 17 rfl rfl)
theorem dX3_addClaim_135 : decode cX3_addClaim 135 = .ok (.getfield 99, 3) := dk_180 0 99 (dk_at dksX3_addClaim_5 18 rfl rfl)
theorem dX3_addClaim_138 : decode cX3_addClaim 138 = .ok (.iconst 1, 1) := dk_4 (dk_at dksX3_addClaim_5 21 rfl rfl)
theorem dX3_addClaim_139 : decode cX3_addClaim 139 = .ok (.iadd, 1) := dk_96 (dk_at dksX3_addClaim_5 22 rfl rfl)
theorem dX3_addClaim_140 : decode cX3_addClaim 140 = .ok (.putfield 99, 3) := dk_181 0 99 (dk_at dksX3_addClaim_6 0 rfl rfl)
theorem dX3_addClaim_143 : decode cX3_addClaim 143 = .ok (.aload_n 0, 1) := dk_42 (dk_at dksX3_addClaim_6 3 rfl rfl)
theorem dX3_addClaim_144 : decode cX3_addClaim 144 = .ok (.getfield 36, 3) := dk_180 0 36 (dk_at dksX3_addClaim_6 4 rfl rfl)
theorem dX3_addClaim_147 : decode cX3_addClaim 147 = .ok (.bipush 51, 2) := dk_16 51 (dk_at dksX3_addClaim_6 7 rfl rfl)
theorem dX3_addClaim_149 : decode cX3_addClaim 149 = .ok (.iload_n 1, 1) := dk_27 (dk_at dksX3_addClaim_6 9 rfl rfl)
theorem dX3_addClaim_150 : decode cX3_addClaim 150 = .ok (.imul, 1) := dk_104 (dk_at dksX3_addClaim_6 10 rfl rfl)
theorem dX3_addClaim_151 : decode cX3_addClaim 151 = .ok (.iload_n 2, 1) := dk_28 (dk_at dksX3_addClaim_6 11 rfl rfl)
theorem dX3_addClaim_152 : decode cX3_addClaim 152 = .ok (.iadd, 1) := dk_96 (dk_at dksX3_addClaim_6 12 rfl rfl)
theorem dX3_addClaim_153 : decode cX3_addClaim 153 = .ok (.dup2, 1) := dk_92 (dk_at dksX3_addClaim_6 13 rfl rfl)
theorem dX3_addClaim_154 : decode cX3_addClaim 154 = .ok (.iaload, 1) := dk_46 (dk_at dksX3_addClaim_6 14 rfl rfl)
theorem dX3_addClaim_155 : decode cX3_addClaim 155 = .ok (.iload_n 3, 1) := dk_29 (dk_at dksX3_addClaim_6 15 rfl rfl)
theorem dX3_addClaim_156 : decode cX3_addClaim 156 = .ok (.iadd, 1) := dk_96 (dk_at dksX3_addClaim_6 16 rfl rfl)
theorem dX3_addClaim_157 : decode cX3_addClaim 157 = .ok (.iastore, 1) := dk_79 (dk_at dksX3_addClaim_6 17 rfl rfl)
theorem dX3_addClaim_158 : decode cX3_addClaim 158 = .ok (.return_, 1) := dk_177 (dk_at dksX3_addClaim_6 18 rfl rfl)
abbrev cX3_fact : ByteArray := prog_13_method_43_code
def yX3_fact : MethodName := ⟨RX3, "fact", "(III)I"⟩
def dkwX3_fact_2 : List UInt8 := [3, 172]
abbrev dktX3_fact_2 : List UInt8 := dkwX3_fact_2 ++ []
def dkwX3_fact_1 : List UInt8 := [153, 0, 7, 4, 167, 0, 4, 3, 182, 0, 234, 153, 0, 13, 42, 27, 28, 29, 182, 0, 185, 167, 0, 4]
abbrev dktX3_fact_1 : List UInt8 := dkwX3_fact_1 ++ dktX3_fact_2
def dkwX3_fact_0 : List UInt8 := [42, 42, 27, 182, 0, 243, 28, 184, 1, 17, 153, 0, 19, 29, 133, 9, 20, 1, 20, 184, 0, 92]
abbrev dktX3_fact_0 : List UInt8 := dkwX3_fact_0 ++ dktX3_fact_1
theorem dksX3_fact_0 : cX3_fact.data.toList.drop 0 = dktX3_fact_0 := by decide +kernel
theorem dksX3_fact_1 : cX3_fact.data.toList.drop 22 = dktX3_fact_1 := dk_seg dksX3_fact_0 22 rfl rfl
theorem dksX3_fact_2 : cX3_fact.data.toList.drop 46 = dktX3_fact_2 := dk_seg dksX3_fact_1 24 rfl rfl
theorem dX3_fact_0 : decode cX3_fact 0 = .ok (.aload_n 0, 1) := dk_42 (dk_at dksX3_fact_0 0 rfl rfl)
theorem dX3_fact_1 : decode cX3_fact 1 = .ok (.aload_n 0, 1) := dk_42 (dk_at dksX3_fact_0 1 rfl rfl)
theorem dX3_fact_2 : decode cX3_fact 2 = .ok (.iload_n 1, 1) := dk_27 (dk_at dksX3_fact_0 2 rfl rfl)
theorem dX3_fact_3 : decode cX3_fact 3 = .ok (.invokevirtual 243, 3) := dk_182 0 243 (dk_at dksX3_fact_0 3 rfl rfl)
theorem dX3_fact_6 : decode cX3_fact 6 = .ok (.iload_n 2, 1) := dk_28 (dk_at dksX3_fact_0 6 rfl rfl)
theorem dX3_fact_7 : decode cX3_fact 7 = .ok (.invokestatic 273, 3) := dk_184 1 17 (dk_at dksX3_fact_0 7 rfl rfl)
theorem dX3_fact_10 : decode cX3_fact 10 = .ok (.ifCond .eq 19, 3) := dk_153 0 19 (dk_at dksX3_fact_0 10 rfl rfl)
theorem dX3_fact_13 : decode cX3_fact 13 = .ok (.iload_n 3, 1) := dk_29 (dk_at dksX3_fact_0 13 rfl rfl)
theorem dX3_fact_14 : decode cX3_fact 14 = .ok (.i2l, 1) := dk_133 (dk_at dksX3_fact_0 14 rfl rfl)
theorem dX3_fact_15 : decode cX3_fact 15 = .ok (.lconst 0, 1) := dk_9 (dk_at dksX3_fact_0 15 rfl rfl)
theorem dX3_fact_16 : decode cX3_fact 16 = .ok (.ldc2_w 276, 3) := dk_20 1 20 (dk_at dksX3_fact_0 16 rfl rfl)
theorem dX3_fact_19 : decode cX3_fact 19 = .ok (.invokestatic 92, 3) := dk_184 0 92 (dk_at dksX3_fact_0 19 rfl rfl)
theorem dX3_fact_22 : decode cX3_fact 22 = .ok (.ifCond .eq 7, 3) := dk_153 0 7 (dk_at dksX3_fact_1 0 rfl rfl)
theorem dX3_fact_25 : decode cX3_fact 25 = .ok (.iconst 1, 1) := dk_4 (dk_at dksX3_fact_1 3 rfl rfl)
theorem dX3_fact_26 : decode cX3_fact 26 = .ok (.goto 4, 3) := dk_167 0 4 (dk_at dksX3_fact_1 4 rfl rfl)
theorem dX3_fact_29 : decode cX3_fact 29 = .ok (.iconst 0, 1) := dk_3 (dk_at dksX3_fact_1 7 rfl rfl)
theorem dX3_fact_30 : decode cX3_fact 30 = .ok (.invokevirtual 234, 3) := dk_182 0 234 (dk_at dksX3_fact_1 8 rfl rfl)
theorem dX3_fact_33 : decode cX3_fact 33 = .ok (.ifCond .eq 13, 3) := dk_153 0 13 (dk_at dksX3_fact_1 11 rfl rfl)
theorem dX3_fact_36 : decode cX3_fact 36 = .ok (.aload_n 0, 1) := dk_42 (dk_at dksX3_fact_1 14 rfl rfl)
theorem dX3_fact_37 : decode cX3_fact 37 = .ok (.iload_n 1, 1) := dk_27 (dk_at dksX3_fact_1 15 rfl rfl)
theorem dX3_fact_38 : decode cX3_fact 38 = .ok (.iload_n 2, 1) := dk_28 (dk_at dksX3_fact_1 16 rfl rfl)
theorem dX3_fact_39 : decode cX3_fact 39 = .ok (.iload_n 3, 1) := dk_29 (dk_at dksX3_fact_1 17 rfl rfl)
theorem dX3_fact_40 : decode cX3_fact 40 = .ok (.invokevirtual 185, 3) := dk_182 0 185 (dk_at dksX3_fact_1 18 rfl rfl)
theorem dX3_fact_43 : decode cX3_fact 43 = .ok (.goto 4, 3) := dk_167 0 4 (dk_at dksX3_fact_1 21 rfl rfl)
theorem dX3_fact_46 : decode cX3_fact 46 = .ok (.iconst 0, 1) := dk_3 (dk_at dksX3_fact_2 0 rfl rfl)
theorem dX3_fact_47 : decode cX3_fact 47 = .ok (.ireturn, 1) := dk_172 (dk_at dksX3_fact_2 1 rfl rfl)
abbrev cX3_isDay : ByteArray := prog_13_method_42_code
def yX3_isDay : MethodName := ⟨RX3, "isDay", "(I)Z"⟩
def dkwX3_isDay_0 : List UInt8 := [26, 133, 9, 20, 1, 15, 184, 0, 92, 172]
abbrev dktX3_isDay_0 : List UInt8 := dkwX3_isDay_0 ++ []
theorem dksX3_isDay_0 : cX3_isDay.data.toList.drop 0 = dktX3_isDay_0 := by decide +kernel
theorem dX3_isDay_0 : decode cX3_isDay 0 = .ok (.iload_n 0, 1) := dk_26 (dk_at dksX3_isDay_0 0 rfl rfl)
theorem dX3_isDay_1 : decode cX3_isDay 1 = .ok (.i2l, 1) := dk_133 (dk_at dksX3_isDay_0 1 rfl rfl)
theorem dX3_isDay_2 : decode cX3_isDay 2 = .ok (.lconst 0, 1) := dk_9 (dk_at dksX3_isDay_0 2 rfl rfl)
theorem dX3_isDay_3 : decode cX3_isDay 3 = .ok (.ldc2_w 271, 3) := dk_20 1 15 (dk_at dksX3_isDay_0 3 rfl rfl)
theorem dX3_isDay_6 : decode cX3_isDay 6 = .ok (.invokestatic 92, 3) := dk_184 0 92 (dk_at dksX3_isDay_0 6 rfl rfl)
theorem dX3_isDay_9 : decode cX3_isDay 9 = .ok (.ireturn, 1) := dk_172 (dk_at dksX3_isDay_0 9 rfl rfl)
abbrev cX3_ruleOn : ByteArray := prog_13_method_44_code
def yX3_ruleOn : MethodName := ⟨RX3, "ruleOn", "(II)I"⟩
def dkwX3_ruleOn_1 : List UInt8 := [167, 0, 4, 3, 172]
abbrev dktX3_ruleOn_1 : List UInt8 := dkwX3_ruleOn_1 ++ []
def dkwX3_ruleOn_0 : List UInt8 := [42, 42, 27, 182, 0, 243, 28, 184, 1, 17, 182, 0, 234, 153, 0, 12, 42, 27, 28, 182, 0, 182]
abbrev dktX3_ruleOn_0 : List UInt8 := dkwX3_ruleOn_0 ++ dktX3_ruleOn_1
theorem dksX3_ruleOn_0 : cX3_ruleOn.data.toList.drop 0 = dktX3_ruleOn_0 := by decide +kernel
theorem dksX3_ruleOn_1 : cX3_ruleOn.data.toList.drop 22 = dktX3_ruleOn_1 := dk_seg dksX3_ruleOn_0 22 rfl rfl
theorem dX3_ruleOn_0 : decode cX3_ruleOn 0 = .ok (.aload_n 0, 1) := dk_42 (dk_at dksX3_ruleOn_0 0 rfl rfl)
theorem dX3_ruleOn_1 : decode cX3_ruleOn 1 = .ok (.aload_n 0, 1) := dk_42 (dk_at dksX3_ruleOn_0 1 rfl rfl)
theorem dX3_ruleOn_2 : decode cX3_ruleOn 2 = .ok (.iload_n 1, 1) := dk_27 (dk_at dksX3_ruleOn_0 2 rfl rfl)
theorem dX3_ruleOn_3 : decode cX3_ruleOn 3 = .ok (.invokevirtual 243, 3) := dk_182 0 243 (dk_at dksX3_ruleOn_0 3 rfl rfl)
theorem dX3_ruleOn_6 : decode cX3_ruleOn 6 = .ok (.iload_n 2, 1) := dk_28 (dk_at dksX3_ruleOn_0 6 rfl rfl)
theorem dX3_ruleOn_7 : decode cX3_ruleOn 7 = .ok (.invokestatic 273, 3) := dk_184 1 17 (dk_at dksX3_ruleOn_0 7 rfl rfl)
theorem dX3_ruleOn_10 : decode cX3_ruleOn 10 = .ok (.invokevirtual 234, 3) := dk_182 0 234 (dk_at dksX3_ruleOn_0 10 rfl rfl)
theorem dX3_ruleOn_13 : decode cX3_ruleOn 13 = .ok (.ifCond .eq 12, 3) := dk_153 0 12 (dk_at dksX3_ruleOn_0 13 rfl rfl)
theorem dX3_ruleOn_16 : decode cX3_ruleOn 16 = .ok (.aload_n 0, 1) := dk_42 (dk_at dksX3_ruleOn_0 16 rfl rfl)
theorem dX3_ruleOn_17 : decode cX3_ruleOn 17 = .ok (.iload_n 1, 1) := dk_27 (dk_at dksX3_ruleOn_0 17 rfl rfl)
theorem dX3_ruleOn_18 : decode cX3_ruleOn 18 = .ok (.iload_n 2, 1) := dk_28 (dk_at dksX3_ruleOn_0 18 rfl rfl)
theorem dX3_ruleOn_19 : decode cX3_ruleOn 19 = .ok (.invokevirtual 182, 3) := dk_182 0 182 (dk_at dksX3_ruleOn_0 19 rfl rfl)
theorem dX3_ruleOn_22 : decode cX3_ruleOn 22 = .ok (.goto 4, 3) := dk_167 0 4 (dk_at dksX3_ruleOn_1 0 rfl rfl)
theorem dX3_ruleOn_25 : decode cX3_ruleOn 25 = .ok (.iconst 0, 1) := dk_3 (dk_at dksX3_ruleOn_1 3 rfl rfl)
theorem dX3_ruleOn_26 : decode cX3_ruleOn 26 = .ok (.ireturn, 1) := dk_172 (dk_at dksX3_ruleOn_1 4 rfl rfl)
abbrev cX3_help : ByteArray := prog_13_method_45_code
def yX3_help : MethodName := ⟨RX3, "help", "(II)I"⟩
def dkwX3_help_1 : List UInt8 := [167, 0, 4, 3, 172]
abbrev dktX3_help_1 : List UInt8 := dkwX3_help_1 ++ []
def dkwX3_help_0 : List UInt8 := [42, 42, 27, 182, 0, 243, 28, 184, 1, 17, 182, 0, 234, 153, 0, 12, 42, 27, 28, 182, 0, 197]
abbrev dktX3_help_0 : List UInt8 := dkwX3_help_0 ++ dktX3_help_1
theorem dksX3_help_0 : cX3_help.data.toList.drop 0 = dktX3_help_0 := by decide +kernel
theorem dksX3_help_1 : cX3_help.data.toList.drop 22 = dktX3_help_1 := dk_seg dksX3_help_0 22 rfl rfl
theorem dX3_help_0 : decode cX3_help 0 = .ok (.aload_n 0, 1) := dk_42 (dk_at dksX3_help_0 0 rfl rfl)
theorem dX3_help_1 : decode cX3_help 1 = .ok (.aload_n 0, 1) := dk_42 (dk_at dksX3_help_0 1 rfl rfl)
theorem dX3_help_2 : decode cX3_help 2 = .ok (.iload_n 1, 1) := dk_27 (dk_at dksX3_help_0 2 rfl rfl)
theorem dX3_help_3 : decode cX3_help 3 = .ok (.invokevirtual 243, 3) := dk_182 0 243 (dk_at dksX3_help_0 3 rfl rfl)
theorem dX3_help_6 : decode cX3_help 6 = .ok (.iload_n 2, 1) := dk_28 (dk_at dksX3_help_0 6 rfl rfl)
theorem dX3_help_7 : decode cX3_help 7 = .ok (.invokestatic 273, 3) := dk_184 1 17 (dk_at dksX3_help_0 7 rfl rfl)
theorem dX3_help_10 : decode cX3_help 10 = .ok (.invokevirtual 234, 3) := dk_182 0 234 (dk_at dksX3_help_0 10 rfl rfl)
theorem dX3_help_13 : decode cX3_help 13 = .ok (.ifCond .eq 12, 3) := dk_153 0 12 (dk_at dksX3_help_0 13 rfl rfl)
theorem dX3_help_16 : decode cX3_help 16 = .ok (.aload_n 0, 1) := dk_42 (dk_at dksX3_help_0 16 rfl rfl)
theorem dX3_help_17 : decode cX3_help 17 = .ok (.iload_n 1, 1) := dk_27 (dk_at dksX3_help_0 17 rfl rfl)
theorem dX3_help_18 : decode cX3_help 18 = .ok (.iload_n 2, 1) := dk_28 (dk_at dksX3_help_0 18 rfl rfl)
theorem dX3_help_19 : decode cX3_help 19 = .ok (.invokevirtual 197, 3) := dk_182 0 197 (dk_at dksX3_help_0 19 rfl rfl)
theorem dX3_help_22 : decode cX3_help 22 = .ok (.goto 4, 3) := dk_167 0 4 (dk_at dksX3_help_1 0 rfl rfl)
theorem dX3_help_25 : decode cX3_help 25 = .ok (.iconst 0, 1) := dk_3 (dk_at dksX3_help_1 3 rfl rfl)
theorem dX3_help_26 : decode cX3_help 26 = .ok (.ireturn, 1) := dk_172 (dk_at dksX3_help_1 4 rfl rfl)
abbrev cX3_due : ByteArray := prog_13_method_46_code
def yX3_due : MethodName := ⟨RX3, "due", "(II)I"⟩
def dkwX3_due_1 : List UInt8 := [182, 0, 212, 167, 0, 4, 3, 172]
abbrev dktX3_due_1 : List UInt8 := dkwX3_due_1 ++ []
def dkwX3_due_0 : List UInt8 := [42, 42, 27, 182, 0, 243, 28, 133, 9, 20, 1, 22, 184, 0, 92, 182, 0, 234, 153, 0, 12, 42, 27, 28]
abbrev dktX3_due_0 : List UInt8 := dkwX3_due_0 ++ dktX3_due_1
theorem dksX3_due_0 : cX3_due.data.toList.drop 0 = dktX3_due_0 := by decide +kernel
theorem dksX3_due_1 : cX3_due.data.toList.drop 24 = dktX3_due_1 := dk_seg dksX3_due_0 24 rfl rfl
theorem dX3_due_0 : decode cX3_due 0 = .ok (.aload_n 0, 1) := dk_42 (dk_at dksX3_due_0 0 rfl rfl)
theorem dX3_due_1 : decode cX3_due 1 = .ok (.aload_n 0, 1) := dk_42 (dk_at dksX3_due_0 1 rfl rfl)
theorem dX3_due_2 : decode cX3_due 2 = .ok (.iload_n 1, 1) := dk_27 (dk_at dksX3_due_0 2 rfl rfl)
theorem dX3_due_3 : decode cX3_due 3 = .ok (.invokevirtual 243, 3) := dk_182 0 243 (dk_at dksX3_due_0 3 rfl rfl)
theorem dX3_due_6 : decode cX3_due 6 = .ok (.iload_n 2, 1) := dk_28 (dk_at dksX3_due_0 6 rfl rfl)
theorem dX3_due_7 : decode cX3_due 7 = .ok (.i2l, 1) := dk_133 (dk_at dksX3_due_0 7 rfl rfl)
theorem dX3_due_8 : decode cX3_due 8 = .ok (.lconst 0, 1) := dk_9 (dk_at dksX3_due_0 8 rfl rfl)
theorem dX3_due_9 : decode cX3_due 9 = .ok (.ldc2_w 278, 3) := dk_20 1 22 (dk_at dksX3_due_0 9 rfl rfl)
theorem dX3_due_12 : decode cX3_due 12 = .ok (.invokestatic 92, 3) := dk_184 0 92 (dk_at dksX3_due_0 12 rfl rfl)
theorem dX3_due_15 : decode cX3_due 15 = .ok (.invokevirtual 234, 3) := dk_182 0 234 (dk_at dksX3_due_0 15 rfl rfl)
theorem dX3_due_18 : decode cX3_due 18 = .ok (.ifCond .eq 12, 3) := dk_153 0 12 (dk_at dksX3_due_0 18 rfl rfl)
theorem dX3_due_21 : decode cX3_due 21 = .ok (.aload_n 0, 1) := dk_42 (dk_at dksX3_due_0 21 rfl rfl)
theorem dX3_due_22 : decode cX3_due 22 = .ok (.iload_n 1, 1) := dk_27 (dk_at dksX3_due_0 22 rfl rfl)
theorem dX3_due_23 : decode cX3_due 23 = .ok (.iload_n 2, 1) := dk_28 (dk_at dksX3_due_0 23 rfl rfl)
theorem dX3_due_24 : decode cX3_due 24 = .ok (.invokevirtual 212, 3) := dk_182 0 212 (dk_at dksX3_due_1 0 rfl rfl)
theorem dX3_due_27 : decode cX3_due 27 = .ok (.goto 4, 3) := dk_167 0 4 (dk_at dksX3_due_1 3 rfl rfl)
theorem dX3_due_30 : decode cX3_due 30 = .ok (.iconst 0, 1) := dk_3 (dk_at dksX3_due_1 6 rfl rfl)
theorem dX3_due_31 : decode cX3_due 31 = .ok (.ireturn, 1) := dk_172 (dk_at dksX3_due_1 7 rfl rfl)
abbrev cX3_paid : ByteArray := prog_13_method_47_code
def yX3_paid : MethodName := ⟨RX3, "paid", "(II)I"⟩
def dkwX3_paid_1 : List UInt8 := [180, 0, 33, 16, 51, 27, 104, 28, 96, 46, 167, 0, 4, 3, 172]
abbrev dktX3_paid_1 : List UInt8 := dkwX3_paid_1 ++ []
def dkwX3_paid_0 : List UInt8 := [42, 42, 27, 182, 0, 243, 28, 133, 9, 20, 1, 22, 184, 0, 92, 182, 0, 234, 153, 0, 17, 42]
abbrev dktX3_paid_0 : List UInt8 := dkwX3_paid_0 ++ dktX3_paid_1
theorem dksX3_paid_0 : cX3_paid.data.toList.drop 0 = dktX3_paid_0 := by decide +kernel
theorem dksX3_paid_1 : cX3_paid.data.toList.drop 22 = dktX3_paid_1 := dk_seg dksX3_paid_0 22 rfl rfl
theorem dX3_paid_0 : decode cX3_paid 0 = .ok (.aload_n 0, 1) := dk_42 (dk_at dksX3_paid_0 0 rfl rfl)
theorem dX3_paid_1 : decode cX3_paid 1 = .ok (.aload_n 0, 1) := dk_42 (dk_at dksX3_paid_0 1 rfl rfl)
theorem dX3_paid_2 : decode cX3_paid 2 = .ok (.iload_n 1, 1) := dk_27 (dk_at dksX3_paid_0 2 rfl rfl)
theorem dX3_paid_3 : decode cX3_paid 3 = .ok (.invokevirtual 243, 3) := dk_182 0 243 (dk_at dksX3_paid_0 3 rfl rfl)
theorem dX3_paid_6 : decode cX3_paid 6 = .ok (.iload_n 2, 1) := dk_28 (dk_at dksX3_paid_0 6 rfl rfl)
theorem dX3_paid_7 : decode cX3_paid 7 = .ok (.i2l, 1) := dk_133 (dk_at dksX3_paid_0 7 rfl rfl)
theorem dX3_paid_8 : decode cX3_paid 8 = .ok (.lconst 0, 1) := dk_9 (dk_at dksX3_paid_0 8 rfl rfl)
theorem dX3_paid_9 : decode cX3_paid 9 = .ok (.ldc2_w 278, 3) := dk_20 1 22 (dk_at dksX3_paid_0 9 rfl rfl)
theorem dX3_paid_12 : decode cX3_paid 12 = .ok (.invokestatic 92, 3) := dk_184 0 92 (dk_at dksX3_paid_0 12 rfl rfl)
theorem dX3_paid_15 : decode cX3_paid 15 = .ok (.invokevirtual 234, 3) := dk_182 0 234 (dk_at dksX3_paid_0 15 rfl rfl)
theorem dX3_paid_18 : decode cX3_paid 18 = .ok (.ifCond .eq 17, 3) := dk_153 0 17 (dk_at dksX3_paid_0 18 rfl rfl)
theorem dX3_paid_21 : decode cX3_paid 21 = .ok (.aload_n 0, 1) := dk_42 (dk_at dksX3_paid_0 21 rfl rfl)
theorem dX3_paid_22 : decode cX3_paid 22 = .ok (.getfield 33, 3) := dk_180 0 33 (dk_at dksX3_paid_1 0 rfl rfl)
theorem dX3_paid_25 : decode cX3_paid 25 = .ok (.bipush 51, 2) := dk_16 51 (dk_at dksX3_paid_1 3 rfl rfl)
theorem dX3_paid_27 : decode cX3_paid 27 = .ok (.iload_n 1, 1) := dk_27 (dk_at dksX3_paid_1 5 rfl rfl)
theorem dX3_paid_28 : decode cX3_paid 28 = .ok (.imul, 1) := dk_104 (dk_at dksX3_paid_1 6 rfl rfl)
theorem dX3_paid_29 : decode cX3_paid 29 = .ok (.iload_n 2, 1) := dk_28 (dk_at dksX3_paid_1 7 rfl rfl)
theorem dX3_paid_30 : decode cX3_paid 30 = .ok (.iadd, 1) := dk_96 (dk_at dksX3_paid_1 8 rfl rfl)
theorem dX3_paid_31 : decode cX3_paid 31 = .ok (.iaload, 1) := dk_46 (dk_at dksX3_paid_1 9 rfl rfl)
theorem dX3_paid_32 : decode cX3_paid 32 = .ok (.goto 4, 3) := dk_167 0 4 (dk_at dksX3_paid_1 10 rfl rfl)
theorem dX3_paid_35 : decode cX3_paid 35 = .ok (.iconst 0, 1) := dk_3 (dk_at dksX3_paid_1 13 rfl rfl)
theorem dX3_paid_36 : decode cX3_paid 36 = .ok (.ireturn, 1) := dk_172 (dk_at dksX3_paid_1 14 rfl rfl)
abbrev cX3_caseAt : ByteArray := prog_13_method_51_code
def yX3_caseAt : MethodName := ⟨RX3, "caseAt", "(II)I"⟩
def dkwX3_caseAt_5 : List UInt8 := [27, 46, 172]
abbrev dktX3_caseAt_5 : List UInt8 := dkwX3_caseAt_5 ++ []
def dkwX3_caseAt_4 : List UInt8 := [42, 27, 182, 1, 32, 172, 42, 180, 0, 24, 27, 46, 172, 42, 180, 0, 27, 27, 46, 172, 42, 180, 0, 30]
abbrev dktX3_caseAt_4 : List UInt8 := dkwX3_caseAt_4 ++ dktX3_caseAt_5
def dkwX3_caseAt_3 : List UInt8 := [182, 1, 26, 172, 42, 27, 182, 1, 29, 172, 42, 27, 3, 182, 0, 202, 172, 42, 27, 4, 182, 0, 202, 172]
abbrev dktX3_caseAt_3 : List UInt8 := dkwX3_caseAt_3 ++ dktX3_caseAt_4
def dkwX3_caseAt_2 : List UInt8 := [42, 180, 0, 18, 27, 46, 172, 42, 180, 0, 21, 27, 46, 172, 42, 180, 0, 14, 27, 50, 190, 172, 42, 27]
abbrev dktX3_caseAt_2 : List UInt8 := dkwX3_caseAt_2 ++ dktX3_caseAt_3
def dkwX3_caseAt_1 : List UInt8 := [170, 0, 0, 0, 0, 0, 0, 124, 0, 0, 0, 0, 0, 0, 0, 9, 0, 0, 0, 56, 0, 0, 0, 63, 0, 0, 0, 70, 0, 0, 0, 78, 0, 0, 0, 84, 0, 0, 0, 90, 0, 0, 0, 97, 0, 0, 0, 104, 0, 0, 0, 110, 0, 0, 0, 117]
abbrev dktX3_caseAt_1 : List UInt8 := dkwX3_caseAt_1 ++ dktX3_caseAt_2
def dkwX3_caseAt_0 : List UInt8 := [42, 42, 27, 182, 0, 243, 28, 133, 9, 20, 1, 24, 184, 0, 92, 182, 0, 234, 154, 0, 5, 3, 172, 28]
abbrev dktX3_caseAt_0 : List UInt8 := dkwX3_caseAt_0 ++ dktX3_caseAt_1
theorem dksX3_caseAt_0 : cX3_caseAt.data.toList.drop 0 = dktX3_caseAt_0 := by decide +kernel
theorem dksX3_caseAt_1 : cX3_caseAt.data.toList.drop 24 = dktX3_caseAt_1 := dk_seg dksX3_caseAt_0 24 rfl rfl
theorem dksX3_caseAt_2 : cX3_caseAt.data.toList.drop 80 = dktX3_caseAt_2 := dk_seg dksX3_caseAt_1 56 rfl rfl
theorem dksX3_caseAt_3 : cX3_caseAt.data.toList.drop 104 = dktX3_caseAt_3 := dk_seg dksX3_caseAt_2 24 rfl rfl
theorem dksX3_caseAt_4 : cX3_caseAt.data.toList.drop 128 = dktX3_caseAt_4 := dk_seg dksX3_caseAt_3 24 rfl rfl
theorem dksX3_caseAt_5 : cX3_caseAt.data.toList.drop 152 = dktX3_caseAt_5 := dk_seg dksX3_caseAt_4 24 rfl rfl
theorem dX3_caseAt_0 : decode cX3_caseAt 0 = .ok (.aload_n 0, 1) := dk_42 (dk_at dksX3_caseAt_0 0 rfl rfl)
theorem dX3_caseAt_1 : decode cX3_caseAt 1 = .ok (.aload_n 0, 1) := dk_42 (dk_at dksX3_caseAt_0 1 rfl rfl)
theorem dX3_caseAt_2 : decode cX3_caseAt 2 = .ok (.iload_n 1, 1) := dk_27 (dk_at dksX3_caseAt_0 2 rfl rfl)
theorem dX3_caseAt_3 : decode cX3_caseAt 3 = .ok (.invokevirtual 243, 3) := dk_182 0 243 (dk_at dksX3_caseAt_0 3 rfl rfl)
theorem dX3_caseAt_6 : decode cX3_caseAt 6 = .ok (.iload_n 2, 1) := dk_28 (dk_at dksX3_caseAt_0 6 rfl rfl)
theorem dX3_caseAt_7 : decode cX3_caseAt 7 = .ok (.i2l, 1) := dk_133 (dk_at dksX3_caseAt_0 7 rfl rfl)
theorem dX3_caseAt_8 : decode cX3_caseAt 8 = .ok (.lconst 0, 1) := dk_9 (dk_at dksX3_caseAt_0 8 rfl rfl)
theorem dX3_caseAt_9 : decode cX3_caseAt 9 = .ok (.ldc2_w 280, 3) := dk_20 1 24 (dk_at dksX3_caseAt_0 9 rfl rfl)
theorem dX3_caseAt_12 : decode cX3_caseAt 12 = .ok (.invokestatic 92, 3) := dk_184 0 92 (dk_at dksX3_caseAt_0 12 rfl rfl)
theorem dX3_caseAt_15 : decode cX3_caseAt 15 = .ok (.invokevirtual 234, 3) := dk_182 0 234 (dk_at dksX3_caseAt_0 15 rfl rfl)
theorem dX3_caseAt_18 : decode cX3_caseAt 18 = .ok (.ifCond .ne 5, 3) := dk_154 0 5 (dk_at dksX3_caseAt_0 18 rfl rfl)
theorem dX3_caseAt_21 : decode cX3_caseAt 21 = .ok (.iconst 0, 1) := dk_3 (dk_at dksX3_caseAt_0 21 rfl rfl)
theorem dX3_caseAt_22 : decode cX3_caseAt 22 = .ok (.ireturn, 1) := dk_172 (dk_at dksX3_caseAt_0 22 rfl rfl)
theorem dX3_caseAt_23 : decode cX3_caseAt 23 = .ok (.iload_n 2, 1) := dk_28 (dk_at dksX3_caseAt_0 23 rfl rfl)
theorem dX3_caseAt_24 : decode cX3_caseAt 24 = .ok (.tableswitch 124 0 9 #[56, 63, 70, 78, 84, 90, 97, 104, 110, 117], 56) := by decide +kernel
theorem dX3_caseAt_80 : decode cX3_caseAt 80 = .ok (.aload_n 0, 1) := dk_42 (dk_at dksX3_caseAt_2 0 rfl rfl)
theorem dX3_caseAt_81 : decode cX3_caseAt 81 = .ok (.getfield 18, 3) := dk_180 0 18 (dk_at dksX3_caseAt_2 1 rfl rfl)
theorem dX3_caseAt_84 : decode cX3_caseAt 84 = .ok (.iload_n 1, 1) := dk_27 (dk_at dksX3_caseAt_2 4 rfl rfl)
theorem dX3_caseAt_85 : decode cX3_caseAt 85 = .ok (.iaload, 1) := dk_46 (dk_at dksX3_caseAt_2 5 rfl rfl)
theorem dX3_caseAt_86 : decode cX3_caseAt 86 = .ok (.ireturn, 1) := dk_172 (dk_at dksX3_caseAt_2 6 rfl rfl)
theorem dX3_caseAt_87 : decode cX3_caseAt 87 = .ok (.aload_n 0, 1) := dk_42 (dk_at dksX3_caseAt_2 7 rfl rfl)
theorem dX3_caseAt_88 : decode cX3_caseAt 88 = .ok (.getfield 21, 3) := dk_180 0 21 (dk_at dksX3_caseAt_2 8 rfl rfl)
theorem dX3_caseAt_91 : decode cX3_caseAt 91 = .ok (.iload_n 1, 1) := dk_27 (dk_at dksX3_caseAt_2 11 rfl rfl)
theorem dX3_caseAt_92 : decode cX3_caseAt 92 = .ok (.iaload, 1) := dk_46 (dk_at dksX3_caseAt_2 12 rfl rfl)
theorem dX3_caseAt_93 : decode cX3_caseAt 93 = .ok (.ireturn, 1) := dk_172 (dk_at dksX3_caseAt_2 13 rfl rfl)
theorem dX3_caseAt_94 : decode cX3_caseAt 94 = .ok (.aload_n 0, 1) := dk_42 (dk_at dksX3_caseAt_2 14 rfl rfl)
theorem dX3_caseAt_95 : decode cX3_caseAt 95 = .ok (.getfield 14, 3) := dk_180 0 14 (dk_at dksX3_caseAt_2 15 rfl rfl)
theorem dX3_caseAt_98 : decode cX3_caseAt 98 = .ok (.iload_n 1, 1) := dk_27 (dk_at dksX3_caseAt_2 18 rfl rfl)
theorem dX3_caseAt_99 : decode cX3_caseAt 99 = .ok (.aaload, 1) := dk_50 (dk_at dksX3_caseAt_2 19 rfl rfl)
theorem dX3_caseAt_100 : decode cX3_caseAt 100 = .ok (.arraylength, 1) := dk_190 (dk_at dksX3_caseAt_2 20 rfl rfl)
theorem dX3_caseAt_101 : decode cX3_caseAt 101 = .ok (.ireturn, 1) := dk_172 (dk_at dksX3_caseAt_2 21 rfl rfl)
theorem dX3_caseAt_102 : decode cX3_caseAt 102 = .ok (.aload_n 0, 1) := dk_42 (dk_at dksX3_caseAt_2 22 rfl rfl)
theorem dX3_caseAt_103 : decode cX3_caseAt 103 = .ok (.iload_n 1, 1) := dk_27 (dk_at dksX3_caseAt_2 23 rfl rfl)
theorem dX3_caseAt_104 : decode cX3_caseAt 104 = .ok (.invokevirtual 282, 3) := dk_182 1 26 (dk_at dksX3_caseAt_3 0 rfl rfl)
theorem dX3_caseAt_107 : decode cX3_caseAt 107 = .ok (.ireturn, 1) := dk_172 (dk_at dksX3_caseAt_3 3 rfl rfl)
theorem dX3_caseAt_108 : decode cX3_caseAt 108 = .ok (.aload_n 0, 1) := dk_42 (dk_at dksX3_caseAt_3 4 rfl rfl)
theorem dX3_caseAt_109 : decode cX3_caseAt 109 = .ok (.iload_n 1, 1) := dk_27 (dk_at dksX3_caseAt_3 5 rfl rfl)
theorem dX3_caseAt_110 : decode cX3_caseAt 110 = .ok (.invokevirtual 285, 3) := dk_182 1 29 (dk_at dksX3_caseAt_3 6 rfl rfl)
theorem dX3_caseAt_113 : decode cX3_caseAt 113 = .ok (.ireturn, 1) := dk_172 (dk_at dksX3_caseAt_3 9 rfl rfl)
theorem dX3_caseAt_114 : decode cX3_caseAt 114 = .ok (.aload_n 0, 1) := dk_42 (dk_at dksX3_caseAt_3 10 rfl rfl)
theorem dX3_caseAt_115 : decode cX3_caseAt 115 = .ok (.iload_n 1, 1) := dk_27 (dk_at dksX3_caseAt_3 11 rfl rfl)
theorem dX3_caseAt_116 : decode cX3_caseAt 116 = .ok (.iconst 0, 1) := dk_3 (dk_at dksX3_caseAt_3 12 rfl rfl)
theorem dX3_caseAt_117 : decode cX3_caseAt 117 = .ok (.invokevirtual 202, 3) := dk_182 0 202 (dk_at dksX3_caseAt_3 13 rfl rfl)
theorem dX3_caseAt_120 : decode cX3_caseAt 120 = .ok (.ireturn, 1) := dk_172 (dk_at dksX3_caseAt_3 16 rfl rfl)
theorem dX3_caseAt_121 : decode cX3_caseAt 121 = .ok (.aload_n 0, 1) := dk_42 (dk_at dksX3_caseAt_3 17 rfl rfl)
theorem dX3_caseAt_122 : decode cX3_caseAt 122 = .ok (.iload_n 1, 1) := dk_27 (dk_at dksX3_caseAt_3 18 rfl rfl)
theorem dX3_caseAt_123 : decode cX3_caseAt 123 = .ok (.iconst 1, 1) := dk_4 (dk_at dksX3_caseAt_3 19 rfl rfl)
theorem dX3_caseAt_124 : decode cX3_caseAt 124 = .ok (.invokevirtual 202, 3) := dk_182 0 202 (dk_at dksX3_caseAt_3 20 rfl rfl)
theorem dX3_caseAt_127 : decode cX3_caseAt 127 = .ok (.ireturn, 1) := dk_172 (dk_at dksX3_caseAt_3 23 rfl rfl)
theorem dX3_caseAt_128 : decode cX3_caseAt 128 = .ok (.aload_n 0, 1) := dk_42 (dk_at dksX3_caseAt_4 0 rfl rfl)
theorem dX3_caseAt_129 : decode cX3_caseAt 129 = .ok (.iload_n 1, 1) := dk_27 (dk_at dksX3_caseAt_4 1 rfl rfl)
theorem dX3_caseAt_130 : decode cX3_caseAt 130 = .ok (.invokevirtual 288, 3) := dk_182 1 32 (dk_at dksX3_caseAt_4 2 rfl rfl)
theorem dX3_caseAt_133 : decode cX3_caseAt 133 = .ok (.ireturn, 1) := dk_172 (dk_at dksX3_caseAt_4 5 rfl rfl)
theorem dX3_caseAt_134 : decode cX3_caseAt 134 = .ok (.aload_n 0, 1) := dk_42 (dk_at dksX3_caseAt_4 6 rfl rfl)
theorem dX3_caseAt_135 : decode cX3_caseAt 135 = .ok (.getfield 24, 3) := dk_180 0 24 (dk_at dksX3_caseAt_4 7 rfl rfl)
theorem dX3_caseAt_138 : decode cX3_caseAt 138 = .ok (.iload_n 1, 1) := dk_27 (dk_at dksX3_caseAt_4 10 rfl rfl)
theorem dX3_caseAt_139 : decode cX3_caseAt 139 = .ok (.iaload, 1) := dk_46 (dk_at dksX3_caseAt_4 11 rfl rfl)
theorem dX3_caseAt_140 : decode cX3_caseAt 140 = .ok (.ireturn, 1) := dk_172 (dk_at dksX3_caseAt_4 12 rfl rfl)
theorem dX3_caseAt_141 : decode cX3_caseAt 141 = .ok (.aload_n 0, 1) := dk_42 (dk_at dksX3_caseAt_4 13 rfl rfl)
theorem dX3_caseAt_142 : decode cX3_caseAt 142 = .ok (.getfield 27, 3) := dk_180 0 27 (dk_at dksX3_caseAt_4 14 rfl rfl)
theorem dX3_caseAt_145 : decode cX3_caseAt 145 = .ok (.iload_n 1, 1) := dk_27 (dk_at dksX3_caseAt_4 17 rfl rfl)
theorem dX3_caseAt_146 : decode cX3_caseAt 146 = .ok (.iaload, 1) := dk_46 (dk_at dksX3_caseAt_4 18 rfl rfl)
theorem dX3_caseAt_147 : decode cX3_caseAt 147 = .ok (.ireturn, 1) := dk_172 (dk_at dksX3_caseAt_4 19 rfl rfl)
theorem dX3_caseAt_148 : decode cX3_caseAt 148 = .ok (.aload_n 0, 1) := dk_42 (dk_at dksX3_caseAt_4 20 rfl rfl)
theorem dX3_caseAt_149 : decode cX3_caseAt 149 = .ok (.getfield 30, 3) := dk_180 0 30 (dk_at dksX3_caseAt_4 21 rfl rfl)
theorem dX3_caseAt_152 : decode cX3_caseAt 152 = .ok (.iload_n 1, 1) := dk_27 (dk_at dksX3_caseAt_5 0 rfl rfl)
theorem dX3_caseAt_153 : decode cX3_caseAt 153 = .ok (.iaload, 1) := dk_46 (dk_at dksX3_caseAt_5 1 rfl rfl)
theorem dX3_caseAt_154 : decode cX3_caseAt 154 = .ok (.ireturn, 1) := dk_172 (dk_at dksX3_caseAt_5 2 rfl rfl)
abbrev cX3_formsOf : ByteArray := prog_13_method_48_code
def yX3_formsOf : MethodName := ⟨RX3, "formsOf", "(I)I"⟩
def dkwX3_formsOf_1 : List UInt8 := [167, 0, 4, 3, 96, 61, 132, 3, 1, 167, 255, 227, 28, 172]
abbrev dktX3_formsOf_1 : List UInt8 := dkwX3_formsOf_1 ++ []
def dkwX3_formsOf_0 : List UInt8 := [3, 61, 3, 62, 29, 42, 180, 0, 96, 162, 0, 27, 28, 42, 180, 0, 39, 29, 46, 27, 160, 0, 7, 4]
abbrev dktX3_formsOf_0 : List UInt8 := dkwX3_formsOf_0 ++ dktX3_formsOf_1
theorem dksX3_formsOf_0 : cX3_formsOf.data.toList.drop 0 = dktX3_formsOf_0 := by decide +kernel
theorem dksX3_formsOf_1 : cX3_formsOf.data.toList.drop 24 = dktX3_formsOf_1 := dk_seg dksX3_formsOf_0 24 rfl rfl
theorem dX3_formsOf_0 : decode cX3_formsOf 0 = .ok (.iconst 0, 1) := dk_3 (dk_at dksX3_formsOf_0 0 rfl rfl)
theorem dX3_formsOf_1 : decode cX3_formsOf 1 = .ok (.istore_n 2, 1) := dk_61 (dk_at dksX3_formsOf_0 1 rfl rfl)
theorem dX3_formsOf_2 : decode cX3_formsOf 2 = .ok (.iconst 0, 1) := dk_3 (dk_at dksX3_formsOf_0 2 rfl rfl)
theorem dX3_formsOf_3 : decode cX3_formsOf 3 = .ok (.istore_n 3, 1) := dk_62 (dk_at dksX3_formsOf_0 3 rfl rfl)
theorem dX3_formsOf_4 : decode cX3_formsOf 4 = .ok (.iload_n 3, 1) := dk_29 (dk_at dksX3_formsOf_0 4 rfl rfl)
theorem dX3_formsOf_5 : decode cX3_formsOf 5 = .ok (.aload_n 0, 1) := dk_42 (dk_at dksX3_formsOf_0 5 rfl rfl)
theorem dX3_formsOf_6 : decode cX3_formsOf 6 = .ok (.getfield 96, 3) := dk_180 0 96 (dk_at dksX3_formsOf_0 6 rfl rfl)
theorem dX3_formsOf_9 : decode cX3_formsOf 9 = .ok (.if_icmp .ge 27, 3) := dk_162 0 27 (dk_at dksX3_formsOf_0 9 rfl rfl)
theorem dX3_formsOf_12 : decode cX3_formsOf 12 = .ok (.iload_n 2, 1) := dk_28 (dk_at dksX3_formsOf_0 12 rfl rfl)
theorem dX3_formsOf_13 : decode cX3_formsOf 13 = .ok (.aload_n 0, 1) := dk_42 (dk_at dksX3_formsOf_0 13 rfl rfl)
theorem dX3_formsOf_14 : decode cX3_formsOf 14 = .ok (.getfield 39, 3) := dk_180 0 39 (dk_at dksX3_formsOf_0 14 rfl rfl)
theorem dX3_formsOf_17 : decode cX3_formsOf 17 = .ok (.iload_n 3, 1) := dk_29 (dk_at dksX3_formsOf_0 17 rfl rfl)
theorem dX3_formsOf_18 : decode cX3_formsOf 18 = .ok (.iaload, 1) := dk_46 (dk_at dksX3_formsOf_0 18 rfl rfl)
theorem dX3_formsOf_19 : decode cX3_formsOf 19 = .ok (.iload_n 1, 1) := dk_27 (dk_at dksX3_formsOf_0 19 rfl rfl)
theorem dX3_formsOf_20 : decode cX3_formsOf 20 = .ok (.if_icmp .ne 7, 3) := dk_160 0 7 (dk_at dksX3_formsOf_0 20 rfl rfl)
theorem dX3_formsOf_23 : decode cX3_formsOf 23 = .ok (.iconst 1, 1) := dk_4 (dk_at dksX3_formsOf_0 23 rfl rfl)
theorem dX3_formsOf_24 : decode cX3_formsOf 24 = .ok (.goto 4, 3) := dk_167 0 4 (dk_at dksX3_formsOf_1 0 rfl rfl)
theorem dX3_formsOf_27 : decode cX3_formsOf 27 = .ok (.iconst 0, 1) := dk_3 (dk_at dksX3_formsOf_1 3 rfl rfl)
theorem dX3_formsOf_28 : decode cX3_formsOf 28 = .ok (.iadd, 1) := dk_96 (dk_at dksX3_formsOf_1 4 rfl rfl)
theorem dX3_formsOf_29 : decode cX3_formsOf 29 = .ok (.istore_n 2, 1) := dk_61 (dk_at dksX3_formsOf_1 5 rfl rfl)
theorem dX3_formsOf_30 : decode cX3_formsOf 30 = .ok (.iinc 3 1, 3) := dk_132 3 1 (dk_at dksX3_formsOf_1 6 rfl rfl)
theorem dX3_formsOf_33 : decode cX3_formsOf 33 = .ok (.goto (-29), 3) := dk_167 255 227 (dk_at dksX3_formsOf_1 9 rfl rfl)
theorem dX3_formsOf_36 : decode cX3_formsOf 36 = .ok (.iload_n 2, 1) := dk_28 (dk_at dksX3_formsOf_1 12 rfl rfl)
theorem dX3_formsOf_37 : decode cX3_formsOf 37 = .ok (.ireturn, 1) := dk_172 (dk_at dksX3_formsOf_1 13 rfl rfl)
abbrev cX3_claimsOf : ByteArray := prog_13_method_49_code
def yX3_claimsOf : MethodName := ⟨RX3, "claimsOf", "(I)I"⟩
def dkwX3_claimsOf_1 : List UInt8 := [160, 0, 7, 4, 167, 0, 4, 3, 96, 61, 132, 3, 1, 167, 255, 224, 28, 172]
abbrev dktX3_claimsOf_1 : List UInt8 := dkwX3_claimsOf_1 ++ []
def dkwX3_claimsOf_0 : List UInt8 := [3, 61, 3, 62, 29, 42, 180, 0, 99, 162, 0, 30, 28, 42, 180, 0, 71, 16, 6, 29, 104, 46, 27]
abbrev dktX3_claimsOf_0 : List UInt8 := dkwX3_claimsOf_0 ++ dktX3_claimsOf_1
theorem dksX3_claimsOf_0 : cX3_claimsOf.data.toList.drop 0 = dktX3_claimsOf_0 := by decide +kernel
theorem dksX3_claimsOf_1 : cX3_claimsOf.data.toList.drop 23 = dktX3_claimsOf_1 := dk_seg dksX3_claimsOf_0 23 rfl rfl
theorem dX3_claimsOf_0 : decode cX3_claimsOf 0 = .ok (.iconst 0, 1) := dk_3 (dk_at dksX3_claimsOf_0 0 rfl rfl)
theorem dX3_claimsOf_1 : decode cX3_claimsOf 1 = .ok (.istore_n 2, 1) := dk_61 (dk_at dksX3_claimsOf_0 1 rfl rfl)
theorem dX3_claimsOf_2 : decode cX3_claimsOf 2 = .ok (.iconst 0, 1) := dk_3 (dk_at dksX3_claimsOf_0 2 rfl rfl)
theorem dX3_claimsOf_3 : decode cX3_claimsOf 3 = .ok (.istore_n 3, 1) := dk_62 (dk_at dksX3_claimsOf_0 3 rfl rfl)
theorem dX3_claimsOf_4 : decode cX3_claimsOf 4 = .ok (.iload_n 3, 1) := dk_29 (dk_at dksX3_claimsOf_0 4 rfl rfl)
theorem dX3_claimsOf_5 : decode cX3_claimsOf 5 = .ok (.aload_n 0, 1) := dk_42 (dk_at dksX3_claimsOf_0 5 rfl rfl)
theorem dX3_claimsOf_6 : decode cX3_claimsOf 6 = .ok (.getfield 99, 3) := dk_180 0 99 (dk_at dksX3_claimsOf_0 6 rfl rfl)
theorem dX3_claimsOf_9 : decode cX3_claimsOf 9 = .ok (.if_icmp .ge 30, 3) := dk_162 0 30 (dk_at dksX3_claimsOf_0 9 rfl rfl)
theorem dX3_claimsOf_12 : decode cX3_claimsOf 12 = .ok (.iload_n 2, 1) := dk_28 (dk_at dksX3_claimsOf_0 12 rfl rfl)
theorem dX3_claimsOf_13 : decode cX3_claimsOf 13 = .ok (.aload_n 0, 1) := dk_42 (dk_at dksX3_claimsOf_0 13 rfl rfl)
theorem dX3_claimsOf_14 : decode cX3_claimsOf 14 = .ok (.getfield 71, 3) := dk_180 0 71 (dk_at dksX3_claimsOf_0 14 rfl rfl)
theorem dX3_claimsOf_17 : decode cX3_claimsOf 17 = .ok (.bipush 6, 2) := dk_16 6 (dk_at dksX3_claimsOf_0 17 rfl rfl)
theorem dX3_claimsOf_19 : decode cX3_claimsOf 19 = .ok (.iload_n 3, 1) := dk_29 (dk_at dksX3_claimsOf_0 19 rfl rfl)
theorem dX3_claimsOf_20 : decode cX3_claimsOf 20 = .ok (.imul, 1) := dk_104 (dk_at dksX3_claimsOf_0 20 rfl rfl)
theorem dX3_claimsOf_21 : decode cX3_claimsOf 21 = .ok (.iaload, 1) := dk_46 (dk_at dksX3_claimsOf_0 21 rfl rfl)
theorem dX3_claimsOf_22 : decode cX3_claimsOf 22 = .ok (.iload_n 1, 1) := dk_27 (dk_at dksX3_claimsOf_0 22 rfl rfl)
theorem dX3_claimsOf_23 : decode cX3_claimsOf 23 = .ok (.if_icmp .ne 7, 3) := dk_160 0 7 (dk_at dksX3_claimsOf_1 0 rfl rfl)
theorem dX3_claimsOf_26 : decode cX3_claimsOf 26 = .ok (.iconst 1, 1) := dk_4 (dk_at dksX3_claimsOf_1 3 rfl rfl)
theorem dX3_claimsOf_27 : decode cX3_claimsOf 27 = .ok (.goto 4, 3) := dk_167 0 4 (dk_at dksX3_claimsOf_1 4 rfl rfl)
theorem dX3_claimsOf_30 : decode cX3_claimsOf 30 = .ok (.iconst 0, 1) := dk_3 (dk_at dksX3_claimsOf_1 7 rfl rfl)
theorem dX3_claimsOf_31 : decode cX3_claimsOf 31 = .ok (.iadd, 1) := dk_96 (dk_at dksX3_claimsOf_1 8 rfl rfl)
theorem dX3_claimsOf_32 : decode cX3_claimsOf 32 = .ok (.istore_n 2, 1) := dk_61 (dk_at dksX3_claimsOf_1 9 rfl rfl)
theorem dX3_claimsOf_33 : decode cX3_claimsOf 33 = .ok (.iinc 3 1, 3) := dk_132 3 1 (dk_at dksX3_claimsOf_1 10 rfl rfl)
theorem dX3_claimsOf_36 : decode cX3_claimsOf 36 = .ok (.goto (-32), 3) := dk_167 255 224 (dk_at dksX3_claimsOf_1 13 rfl rfl)
theorem dX3_claimsOf_39 : decode cX3_claimsOf 39 = .ok (.iload_n 2, 1) := dk_28 (dk_at dksX3_claimsOf_1 16 rfl rfl)
theorem dX3_claimsOf_40 : decode cX3_claimsOf 40 = .ok (.ireturn, 1) := dk_172 (dk_at dksX3_claimsOf_1 17 rfl rfl)
abbrev cX3_paidTo : ByteArray := prog_13_method_50_code
def yX3_paidTo : MethodName := ⟨RX3, "paidTo", "(I)I"⟩
def dkwX3_paidTo_1 : List UInt8 := [132, 3, 1, 167, 255, 233, 28, 172]
abbrev dktX3_paidTo_1 : List UInt8 := dkwX3_paidTo_1 ++ []
def dkwX3_paidTo_0 : List UInt8 := [3, 61, 3, 62, 29, 16, 51, 162, 0, 23, 28, 42, 180, 0, 33, 16, 51, 27, 104, 29, 96, 46, 96, 61]
abbrev dktX3_paidTo_0 : List UInt8 := dkwX3_paidTo_0 ++ dktX3_paidTo_1
theorem dksX3_paidTo_0 : cX3_paidTo.data.toList.drop 0 = dktX3_paidTo_0 := by decide +kernel
theorem dksX3_paidTo_1 : cX3_paidTo.data.toList.drop 24 = dktX3_paidTo_1 := dk_seg dksX3_paidTo_0 24 rfl rfl
theorem dX3_paidTo_0 : decode cX3_paidTo 0 = .ok (.iconst 0, 1) := dk_3 (dk_at dksX3_paidTo_0 0 rfl rfl)
theorem dX3_paidTo_1 : decode cX3_paidTo 1 = .ok (.istore_n 2, 1) := dk_61 (dk_at dksX3_paidTo_0 1 rfl rfl)
theorem dX3_paidTo_2 : decode cX3_paidTo 2 = .ok (.iconst 0, 1) := dk_3 (dk_at dksX3_paidTo_0 2 rfl rfl)
theorem dX3_paidTo_3 : decode cX3_paidTo 3 = .ok (.istore_n 3, 1) := dk_62 (dk_at dksX3_paidTo_0 3 rfl rfl)
theorem dX3_paidTo_4 : decode cX3_paidTo 4 = .ok (.iload_n 3, 1) := dk_29 (dk_at dksX3_paidTo_0 4 rfl rfl)
theorem dX3_paidTo_5 : decode cX3_paidTo 5 = .ok (.bipush 51, 2) := dk_16 51 (dk_at dksX3_paidTo_0 5 rfl rfl)
theorem dX3_paidTo_7 : decode cX3_paidTo 7 = .ok (.if_icmp .ge 23, 3) := dk_162 0 23 (dk_at dksX3_paidTo_0 7 rfl rfl)
theorem dX3_paidTo_10 : decode cX3_paidTo 10 = .ok (.iload_n 2, 1) := dk_28 (dk_at dksX3_paidTo_0 10 rfl rfl)
theorem dX3_paidTo_11 : decode cX3_paidTo 11 = .ok (.aload_n 0, 1) := dk_42 (dk_at dksX3_paidTo_0 11 rfl rfl)
theorem dX3_paidTo_12 : decode cX3_paidTo 12 = .ok (.getfield 33, 3) := dk_180 0 33 (dk_at dksX3_paidTo_0 12 rfl rfl)
theorem dX3_paidTo_15 : decode cX3_paidTo 15 = .ok (.bipush 51, 2) := dk_16 51 (dk_at dksX3_paidTo_0 15 rfl rfl)
theorem dX3_paidTo_17 : decode cX3_paidTo 17 = .ok (.iload_n 1, 1) := dk_27 (dk_at dksX3_paidTo_0 17 rfl rfl)
theorem dX3_paidTo_18 : decode cX3_paidTo 18 = .ok (.imul, 1) := dk_104 (dk_at dksX3_paidTo_0 18 rfl rfl)
theorem dX3_paidTo_19 : decode cX3_paidTo 19 = .ok (.iload_n 3, 1) := dk_29 (dk_at dksX3_paidTo_0 19 rfl rfl)
theorem dX3_paidTo_20 : decode cX3_paidTo 20 = .ok (.iadd, 1) := dk_96 (dk_at dksX3_paidTo_0 20 rfl rfl)
theorem dX3_paidTo_21 : decode cX3_paidTo 21 = .ok (.iaload, 1) := dk_46 (dk_at dksX3_paidTo_0 21 rfl rfl)
theorem dX3_paidTo_22 : decode cX3_paidTo 22 = .ok (.iadd, 1) := dk_96 (dk_at dksX3_paidTo_0 22 rfl rfl)
theorem dX3_paidTo_23 : decode cX3_paidTo 23 = .ok (.istore_n 2, 1) := dk_61 (dk_at dksX3_paidTo_0 23 rfl rfl)
theorem dX3_paidTo_24 : decode cX3_paidTo 24 = .ok (.iinc 3 1, 3) := dk_132 3 1 (dk_at dksX3_paidTo_1 0 rfl rfl)
theorem dX3_paidTo_27 : decode cX3_paidTo 27 = .ok (.goto (-23), 3) := dk_167 255 233 (dk_at dksX3_paidTo_1 3 rfl rfl)
theorem dX3_paidTo_30 : decode cX3_paidTo 30 = .ok (.iload_n 2, 1) := dk_28 (dk_at dksX3_paidTo_1 6 rfl rfl)
theorem dX3_paidTo_31 : decode cX3_paidTo 31 = .ok (.ireturn, 1) := dk_172 (dk_at dksX3_paidTo_1 7 rfl rfl)
abbrev cX3_formAt : ByteArray := prog_13_method_52_code
def yX3_formAt : MethodName := ⟨RX3, "formAt", "(II)I"⟩
def dkwX3_formAt_5 : List UInt8 := [172]
abbrev dktX3_formAt_5 : List UInt8 := dkwX3_formAt_5 ++ []
def dkwX3_formAt_4 : List UInt8 := [42, 180, 0, 45, 27, 46, 167, 0, 18, 28, 6, 160, 0, 12, 42, 180, 0, 48, 27, 46, 167, 0, 4, 29]
abbrev dktX3_formAt_4 : List UInt8 := dkwX3_formAt_4 ++ dktX3_formAt_5
def dkwX3_formAt_3 : List UInt8 := [27, 46, 167, 0, 46, 28, 4, 160, 0, 12, 42, 180, 0, 42, 27, 46, 167, 0, 32, 28, 5, 160, 0, 12]
abbrev dktX3_formAt_3 : List UInt8 := dkwX3_formAt_3 ++ dktX3_formAt_4
def dkwX3_formAt_2 : List UInt8 := [160, 0, 7, 3, 167, 0, 4, 4, 96, 62, 132, 4, 1, 167, 255, 224, 28, 154, 0, 12, 42, 180, 0, 39]
abbrev dktX3_formAt_2 : List UInt8 := dkwX3_formAt_2 ++ dktX3_formAt_3
def dkwX3_formAt_1 : List UInt8 := [62, 3, 54, 4, 21, 4, 7, 162, 0, 32, 29, 42, 180, 0, 51, 7, 27, 104, 21, 4, 96, 46, 2]
abbrev dktX3_formAt_1 : List UInt8 := dkwX3_formAt_1 ++ dktX3_formAt_2
def dkwX3_formAt_0 : List UInt8 := [42, 42, 27, 182, 0, 252, 28, 133, 9, 20, 1, 35, 184, 0, 92, 182, 0, 234, 154, 0, 5, 3, 172, 3]
abbrev dktX3_formAt_0 : List UInt8 := dkwX3_formAt_0 ++ dktX3_formAt_1
theorem dksX3_formAt_0 : cX3_formAt.data.toList.drop 0 = dktX3_formAt_0 := by decide +kernel
theorem dksX3_formAt_1 : cX3_formAt.data.toList.drop 24 = dktX3_formAt_1 := dk_seg dksX3_formAt_0 24 rfl rfl
theorem dksX3_formAt_2 : cX3_formAt.data.toList.drop 47 = dktX3_formAt_2 := dk_seg dksX3_formAt_1 23 rfl rfl
theorem dksX3_formAt_3 : cX3_formAt.data.toList.drop 71 = dktX3_formAt_3 := dk_seg dksX3_formAt_2 24 rfl rfl
theorem dksX3_formAt_4 : cX3_formAt.data.toList.drop 95 = dktX3_formAt_4 := dk_seg dksX3_formAt_3 24 rfl rfl
theorem dksX3_formAt_5 : cX3_formAt.data.toList.drop 119 = dktX3_formAt_5 := dk_seg dksX3_formAt_4 24 rfl rfl
theorem dX3_formAt_0 : decode cX3_formAt 0 = .ok (.aload_n 0, 1) := dk_42 (dk_at dksX3_formAt_0 0 rfl rfl)
theorem dX3_formAt_1 : decode cX3_formAt 1 = .ok (.aload_n 0, 1) := dk_42 (dk_at dksX3_formAt_0 1 rfl rfl)
theorem dX3_formAt_2 : decode cX3_formAt 2 = .ok (.iload_n 1, 1) := dk_27 (dk_at dksX3_formAt_0 2 rfl rfl)
theorem dX3_formAt_3 : decode cX3_formAt 3 = .ok (.invokevirtual 252, 3) := dk_182 0 252 (dk_at dksX3_formAt_0 3 rfl rfl)
theorem dX3_formAt_6 : decode cX3_formAt 6 = .ok (.iload_n 2, 1) := dk_28 (dk_at dksX3_formAt_0 6 rfl rfl)
theorem dX3_formAt_7 : decode cX3_formAt 7 = .ok (.i2l, 1) := dk_133 (dk_at dksX3_formAt_0 7 rfl rfl)
theorem dX3_formAt_8 : decode cX3_formAt 8 = .ok (.lconst 0, 1) := dk_9 (dk_at dksX3_formAt_0 8 rfl rfl)
theorem dX3_formAt_9 : decode cX3_formAt 9 = .ok (.ldc2_w 291, 3) := dk_20 1 35 (dk_at dksX3_formAt_0 9 rfl rfl)
theorem dX3_formAt_12 : decode cX3_formAt 12 = .ok (.invokestatic 92, 3) := dk_184 0 92 (dk_at dksX3_formAt_0 12 rfl rfl)
theorem dX3_formAt_15 : decode cX3_formAt 15 = .ok (.invokevirtual 234, 3) := dk_182 0 234 (dk_at dksX3_formAt_0 15 rfl rfl)
theorem dX3_formAt_18 : decode cX3_formAt 18 = .ok (.ifCond .ne 5, 3) := dk_154 0 5 (dk_at dksX3_formAt_0 18 rfl rfl)
theorem dX3_formAt_21 : decode cX3_formAt 21 = .ok (.iconst 0, 1) := dk_3 (dk_at dksX3_formAt_0 21 rfl rfl)
theorem dX3_formAt_22 : decode cX3_formAt 22 = .ok (.ireturn, 1) := dk_172 (dk_at dksX3_formAt_0 22 rfl rfl)
theorem dX3_formAt_23 : decode cX3_formAt 23 = .ok (.iconst 0, 1) := dk_3 (dk_at dksX3_formAt_0 23 rfl rfl)
theorem dX3_formAt_24 : decode cX3_formAt 24 = .ok (.istore_n 3, 1) := dk_62 (dk_at dksX3_formAt_1 0 rfl rfl)
theorem dX3_formAt_25 : decode cX3_formAt 25 = .ok (.iconst 0, 1) := dk_3 (dk_at dksX3_formAt_1 1 rfl rfl)
theorem dX3_formAt_26 : decode cX3_formAt 26 = .ok (.istore 4, 2) := dk_54 4 (dk_at dksX3_formAt_1 2 rfl rfl)
theorem dX3_formAt_28 : decode cX3_formAt 28 = .ok (.iload 4, 2) := dk_21 4 (dk_at dksX3_formAt_1 4 rfl rfl)
theorem dX3_formAt_30 : decode cX3_formAt 30 = .ok (.iconst 4, 1) := dk_7 (dk_at dksX3_formAt_1 6 rfl rfl)
theorem dX3_formAt_31 : decode cX3_formAt 31 = .ok (.if_icmp .ge 32, 3) := dk_162 0 32 (dk_at dksX3_formAt_1 7 rfl rfl)
theorem dX3_formAt_34 : decode cX3_formAt 34 = .ok (.iload_n 3, 1) := dk_29 (dk_at dksX3_formAt_1 10 rfl rfl)
theorem dX3_formAt_35 : decode cX3_formAt 35 = .ok (.aload_n 0, 1) := dk_42 (dk_at dksX3_formAt_1 11 rfl rfl)
theorem dX3_formAt_36 : decode cX3_formAt 36 = .ok (.getfield 51, 3) := dk_180 0 51 (dk_at dksX3_formAt_1 12 rfl rfl)
theorem dX3_formAt_39 : decode cX3_formAt 39 = .ok (.iconst 4, 1) := dk_7 (dk_at dksX3_formAt_1 15 rfl rfl)
theorem dX3_formAt_40 : decode cX3_formAt 40 = .ok (.iload_n 1, 1) := dk_27 (dk_at dksX3_formAt_1 16 rfl rfl)
theorem dX3_formAt_41 : decode cX3_formAt 41 = .ok (.imul, 1) := dk_104 (dk_at dksX3_formAt_1 17 rfl rfl)
theorem dX3_formAt_42 : decode cX3_formAt 42 = .ok (.iload 4, 2) := dk_21 4 (dk_at dksX3_formAt_1 18 rfl rfl)
theorem dX3_formAt_44 : decode cX3_formAt 44 = .ok (.iadd, 1) := dk_96 (dk_at dksX3_formAt_1 20 rfl rfl)
theorem dX3_formAt_45 : decode cX3_formAt 45 = .ok (.iaload, 1) := dk_46 (dk_at dksX3_formAt_1 21 rfl rfl)
theorem dX3_formAt_46 : decode cX3_formAt 46 = .ok (.iconst (-1), 1) := dk_2 (dk_at dksX3_formAt_1 22 rfl rfl)
theorem dX3_formAt_47 : decode cX3_formAt 47 = .ok (.if_icmp .ne 7, 3) := dk_160 0 7 (dk_at dksX3_formAt_2 0 rfl rfl)
theorem dX3_formAt_50 : decode cX3_formAt 50 = .ok (.iconst 0, 1) := dk_3 (dk_at dksX3_formAt_2 3 rfl rfl)
theorem dX3_formAt_51 : decode cX3_formAt 51 = .ok (.goto 4, 3) := dk_167 0 4 (dk_at dksX3_formAt_2 4 rfl rfl)
theorem dX3_formAt_54 : decode cX3_formAt 54 = .ok (.iconst 1, 1) := dk_4 (dk_at dksX3_formAt_2 7 rfl rfl)
theorem dX3_formAt_55 : decode cX3_formAt 55 = .ok (.iadd, 1) := dk_96 (dk_at dksX3_formAt_2 8 rfl rfl)
theorem dX3_formAt_56 : decode cX3_formAt 56 = .ok (.istore_n 3, 1) := dk_62 (dk_at dksX3_formAt_2 9 rfl rfl)
theorem dX3_formAt_57 : decode cX3_formAt 57 = .ok (.iinc 4 1, 3) := dk_132 4 1 (dk_at dksX3_formAt_2 10 rfl rfl)
theorem dX3_formAt_60 : decode cX3_formAt 60 = .ok (.goto (-32), 3) := dk_167 255 224 (dk_at dksX3_formAt_2 13 rfl rfl)
theorem dX3_formAt_63 : decode cX3_formAt 63 = .ok (.iload_n 2, 1) := dk_28 (dk_at dksX3_formAt_2 16 rfl rfl)
theorem dX3_formAt_64 : decode cX3_formAt 64 = .ok (.ifCond .ne 12, 3) := dk_154 0 12 (dk_at dksX3_formAt_2 17 rfl rfl)
theorem dX3_formAt_67 : decode cX3_formAt 67 = .ok (.aload_n 0, 1) := dk_42 (dk_at dksX3_formAt_2 20 rfl rfl)
theorem dX3_formAt_68 : decode cX3_formAt 68 = .ok (.getfield 39, 3) := dk_180 0 39 (dk_at dksX3_formAt_2 21 rfl rfl)
theorem dX3_formAt_71 : decode cX3_formAt 71 = .ok (.iload_n 1, 1) := dk_27 (dk_at dksX3_formAt_3 0 rfl rfl)
theorem dX3_formAt_72 : decode cX3_formAt 72 = .ok (.iaload, 1) := dk_46 (dk_at dksX3_formAt_3 1 rfl rfl)
theorem dX3_formAt_73 : decode cX3_formAt 73 = .ok (.goto 46, 3) := dk_167 0 46 (dk_at dksX3_formAt_3 2 rfl rfl)
theorem dX3_formAt_76 : decode cX3_formAt 76 = .ok (.iload_n 2, 1) := dk_28 (dk_at dksX3_formAt_3 5 rfl rfl)
theorem dX3_formAt_77 : decode cX3_formAt 77 = .ok (.iconst 1, 1) := dk_4 (dk_at dksX3_formAt_3 6 rfl rfl)
theorem dX3_formAt_78 : decode cX3_formAt 78 = .ok (.if_icmp .ne 12, 3) := dk_160 0 12 (dk_at dksX3_formAt_3 7 rfl rfl)
theorem dX3_formAt_81 : decode cX3_formAt 81 = .ok (.aload_n 0, 1) := dk_42 (dk_at dksX3_formAt_3 10 rfl rfl)
theorem dX3_formAt_82 : decode cX3_formAt 82 = .ok (.getfield 42, 3) := dk_180 0 42 (dk_at dksX3_formAt_3 11 rfl rfl)
theorem dX3_formAt_85 : decode cX3_formAt 85 = .ok (.iload_n 1, 1) := dk_27 (dk_at dksX3_formAt_3 14 rfl rfl)
theorem dX3_formAt_86 : decode cX3_formAt 86 = .ok (.iaload, 1) := dk_46 (dk_at dksX3_formAt_3 15 rfl rfl)
theorem dX3_formAt_87 : decode cX3_formAt 87 = .ok (.goto 32, 3) := dk_167 0 32 (dk_at dksX3_formAt_3 16 rfl rfl)
theorem dX3_formAt_90 : decode cX3_formAt 90 = .ok (.iload_n 2, 1) := dk_28 (dk_at dksX3_formAt_3 19 rfl rfl)
theorem dX3_formAt_91 : decode cX3_formAt 91 = .ok (.iconst 2, 1) := dk_5 (dk_at dksX3_formAt_3 20 rfl rfl)
theorem dX3_formAt_92 : decode cX3_formAt 92 = .ok (.if_icmp .ne 12, 3) := dk_160 0 12 (dk_at dksX3_formAt_3 21 rfl rfl)
theorem dX3_formAt_95 : decode cX3_formAt 95 = .ok (.aload_n 0, 1) := dk_42 (dk_at dksX3_formAt_4 0 rfl rfl)
theorem dX3_formAt_96 : decode cX3_formAt 96 = .ok (.getfield 45, 3) := dk_180 0 45 (dk_at dksX3_formAt_4 1 rfl rfl)
theorem dX3_formAt_99 : decode cX3_formAt 99 = .ok (.iload_n 1, 1) := dk_27 (dk_at dksX3_formAt_4 4 rfl rfl)
theorem dX3_formAt_100 : decode cX3_formAt 100 = .ok (.iaload, 1) := dk_46 (dk_at dksX3_formAt_4 5 rfl rfl)
theorem dX3_formAt_101 : decode cX3_formAt 101 = .ok (.goto 18, 3) := dk_167 0 18 (dk_at dksX3_formAt_4 6 rfl rfl)
theorem dX3_formAt_104 : decode cX3_formAt 104 = .ok (.iload_n 2, 1) := dk_28 (dk_at dksX3_formAt_4 9 rfl rfl)
theorem dX3_formAt_105 : decode cX3_formAt 105 = .ok (.iconst 3, 1) := dk_6 (dk_at dksX3_formAt_4 10 rfl rfl)
theorem dX3_formAt_106 : decode cX3_formAt 106 = .ok (.if_icmp .ne 12, 3) := dk_160 0 12 (dk_at dksX3_formAt_4 11 rfl rfl)
theorem dX3_formAt_109 : decode cX3_formAt 109 = .ok (.aload_n 0, 1) := dk_42 (dk_at dksX3_formAt_4 14 rfl rfl)
theorem dX3_formAt_110 : decode cX3_formAt 110 = .ok (.getfield 48, 3) := dk_180 0 48 (dk_at dksX3_formAt_4 15 rfl rfl)
theorem dX3_formAt_113 : decode cX3_formAt 113 = .ok (.iload_n 1, 1) := dk_27 (dk_at dksX3_formAt_4 18 rfl rfl)
theorem dX3_formAt_114 : decode cX3_formAt 114 = .ok (.iaload, 1) := dk_46 (dk_at dksX3_formAt_4 19 rfl rfl)
theorem dX3_formAt_115 : decode cX3_formAt 115 = .ok (.goto 4, 3) := dk_167 0 4 (dk_at dksX3_formAt_4 20 rfl rfl)
theorem dX3_formAt_118 : decode cX3_formAt 118 = .ok (.iload_n 3, 1) := dk_29 (dk_at dksX3_formAt_4 23 rfl rfl)
theorem dX3_formAt_119 : decode cX3_formAt 119 = .ok (.ireturn, 1) := dk_172 (dk_at dksX3_formAt_5 0 rfl rfl)
abbrev cX3_ruleAt : ByteArray := prog_13_method_53_code
def yX3_ruleAt : MethodName := ⟨RX3, "ruleAt", "(II)I"⟩
def dkwX3_ruleAt_3 : List UInt8 := [8, 27, 104, 28, 96, 5, 100, 46, 172]
abbrev dktX3_ruleAt_3 : List UInt8 := dkwX3_ruleAt_3 ++ []
def dkwX3_ruleAt_2 : List UInt8 := [160, 0, 20, 42, 180, 0, 64, 27, 51, 153, 0, 7, 4, 167, 0, 19, 3, 167, 0, 15, 42, 180, 0, 58]
abbrev dktX3_ruleAt_2 : List UInt8 := dkwX3_ruleAt_2 ++ dktX3_ruleAt_3
def dkwX3_ruleAt_1 : List UInt8 := [182, 0, 234, 154, 0, 5, 3, 172, 28, 154, 0, 12, 42, 180, 0, 61, 27, 46, 167, 0, 37, 28, 4]
abbrev dktX3_ruleAt_1 : List UInt8 := dkwX3_ruleAt_1 ++ dktX3_ruleAt_2
def dkwX3_ruleAt_0 : List UInt8 := [42, 27, 133, 9, 42, 180, 0, 54, 133, 10, 101, 184, 0, 92, 28, 133, 9, 20, 1, 37, 184, 0, 92]
abbrev dktX3_ruleAt_0 : List UInt8 := dkwX3_ruleAt_0 ++ dktX3_ruleAt_1
theorem dksX3_ruleAt_0 : cX3_ruleAt.data.toList.drop 0 = dktX3_ruleAt_0 := by decide +kernel
theorem dksX3_ruleAt_1 : cX3_ruleAt.data.toList.drop 23 = dktX3_ruleAt_1 := dk_seg dksX3_ruleAt_0 23 rfl rfl
theorem dksX3_ruleAt_2 : cX3_ruleAt.data.toList.drop 46 = dktX3_ruleAt_2 := dk_seg dksX3_ruleAt_1 23 rfl rfl
theorem dksX3_ruleAt_3 : cX3_ruleAt.data.toList.drop 70 = dktX3_ruleAt_3 := dk_seg dksX3_ruleAt_2 24 rfl rfl
theorem dX3_ruleAt_0 : decode cX3_ruleAt 0 = .ok (.aload_n 0, 1) := dk_42 (dk_at dksX3_ruleAt_0 0 rfl rfl)
theorem dX3_ruleAt_1 : decode cX3_ruleAt 1 = .ok (.iload_n 1, 1) := dk_27 (dk_at dksX3_ruleAt_0 1 rfl rfl)
theorem dX3_ruleAt_2 : decode cX3_ruleAt 2 = .ok (.i2l, 1) := dk_133 (dk_at dksX3_ruleAt_0 2 rfl rfl)
theorem dX3_ruleAt_3 : decode cX3_ruleAt 3 = .ok (.lconst 0, 1) := dk_9 (dk_at dksX3_ruleAt_0 3 rfl rfl)
theorem dX3_ruleAt_4 : decode cX3_ruleAt 4 = .ok (.aload_n 0, 1) := dk_42 (dk_at dksX3_ruleAt_0 4 rfl rfl)
theorem dX3_ruleAt_5 : decode cX3_ruleAt 5 = .ok (.getfield 54, 3) := dk_180 0 54 (dk_at dksX3_ruleAt_0 5 rfl rfl)
theorem dX3_ruleAt_8 : decode cX3_ruleAt 8 = .ok (.i2l, 1) := dk_133 (dk_at dksX3_ruleAt_0 8 rfl rfl)
theorem dX3_ruleAt_9 : decode cX3_ruleAt 9 = .ok (.lconst 1, 1) := dk_10 (dk_at dksX3_ruleAt_0 9 rfl rfl)
theorem dX3_ruleAt_10 : decode cX3_ruleAt 10 = .ok (.lsub, 1) := dk_101 (dk_at dksX3_ruleAt_0 10 rfl rfl)
theorem dX3_ruleAt_11 : decode cX3_ruleAt 11 = .ok (.invokestatic 92, 3) := dk_184 0 92 (dk_at dksX3_ruleAt_0 11 rfl rfl)
theorem dX3_ruleAt_14 : decode cX3_ruleAt 14 = .ok (.iload_n 2, 1) := dk_28 (dk_at dksX3_ruleAt_0 14 rfl rfl)
theorem dX3_ruleAt_15 : decode cX3_ruleAt 15 = .ok (.i2l, 1) := dk_133 (dk_at dksX3_ruleAt_0 15 rfl rfl)
theorem dX3_ruleAt_16 : decode cX3_ruleAt 16 = .ok (.lconst 0, 1) := dk_9 (dk_at dksX3_ruleAt_0 16 rfl rfl)
theorem dX3_ruleAt_17 : decode cX3_ruleAt 17 = .ok (.ldc2_w 293, 3) := dk_20 1 37 (dk_at dksX3_ruleAt_0 17 rfl rfl)
theorem dX3_ruleAt_20 : decode cX3_ruleAt 20 = .ok (.invokestatic 92, 3) := dk_184 0 92 (dk_at dksX3_ruleAt_0 20 rfl rfl)
theorem dX3_ruleAt_23 : decode cX3_ruleAt 23 = .ok (.invokevirtual 234, 3) := dk_182 0 234 (dk_at dksX3_ruleAt_1 0 rfl rfl)
theorem dX3_ruleAt_26 : decode cX3_ruleAt 26 = .ok (.ifCond .ne 5, 3) := dk_154 0 5 (dk_at dksX3_ruleAt_1 3 rfl rfl)
theorem dX3_ruleAt_29 : decode cX3_ruleAt 29 = .ok (.iconst 0, 1) := dk_3 (dk_at dksX3_ruleAt_1 6 rfl rfl)
theorem dX3_ruleAt_30 : decode cX3_ruleAt 30 = .ok (.ireturn, 1) := dk_172 (dk_at dksX3_ruleAt_1 7 rfl rfl)
theorem dX3_ruleAt_31 : decode cX3_ruleAt 31 = .ok (.iload_n 2, 1) := dk_28 (dk_at dksX3_ruleAt_1 8 rfl rfl)
theorem dX3_ruleAt_32 : decode cX3_ruleAt 32 = .ok (.ifCond .ne 12, 3) := dk_154 0 12 (dk_at dksX3_ruleAt_1 9 rfl rfl)
theorem dX3_ruleAt_35 : decode cX3_ruleAt 35 = .ok (.aload_n 0, 1) := dk_42 (dk_at dksX3_ruleAt_1 12 rfl rfl)
theorem dX3_ruleAt_36 : decode cX3_ruleAt 36 = .ok (.getfield 61, 3) := dk_180 0 61 (dk_at dksX3_ruleAt_1 13 rfl rfl)
theorem dX3_ruleAt_39 : decode cX3_ruleAt 39 = .ok (.iload_n 1, 1) := dk_27 (dk_at dksX3_ruleAt_1 16 rfl rfl)
theorem dX3_ruleAt_40 : decode cX3_ruleAt 40 = .ok (.iaload, 1) := dk_46 (dk_at dksX3_ruleAt_1 17 rfl rfl)
theorem dX3_ruleAt_41 : decode cX3_ruleAt 41 = .ok (.goto 37, 3) := dk_167 0 37 (dk_at dksX3_ruleAt_1 18 rfl rfl)
theorem dX3_ruleAt_44 : decode cX3_ruleAt 44 = .ok (.iload_n 2, 1) := dk_28 (dk_at dksX3_ruleAt_1 21 rfl rfl)
theorem dX3_ruleAt_45 : decode cX3_ruleAt 45 = .ok (.iconst 1, 1) := dk_4 (dk_at dksX3_ruleAt_1 22 rfl rfl)
theorem dX3_ruleAt_46 : decode cX3_ruleAt 46 = .ok (.if_icmp .ne 20, 3) := dk_160 0 20 (dk_at dksX3_ruleAt_2 0 rfl rfl)
theorem dX3_ruleAt_49 : decode cX3_ruleAt 49 = .ok (.aload_n 0, 1) := dk_42 (dk_at dksX3_ruleAt_2 3 rfl rfl)
theorem dX3_ruleAt_50 : decode cX3_ruleAt 50 = .ok (.getfield 64, 3) := dk_180 0 64 (dk_at dksX3_ruleAt_2 4 rfl rfl)
theorem dX3_ruleAt_53 : decode cX3_ruleAt 53 = .ok (.iload_n 1, 1) := dk_27 (dk_at dksX3_ruleAt_2 7 rfl rfl)
theorem dX3_ruleAt_54 : decode cX3_ruleAt 54 = .ok (.baload, 1) := dk_51 (dk_at dksX3_ruleAt_2 8 rfl rfl)
theorem dX3_ruleAt_55 : decode cX3_ruleAt 55 = .ok (.ifCond .eq 7, 3) := dk_153 0 7 (dk_at dksX3_ruleAt_2 9 rfl rfl)
theorem dX3_ruleAt_58 : decode cX3_ruleAt 58 = .ok (.iconst 1, 1) := dk_4 (dk_at dksX3_ruleAt_2 12 rfl rfl)
theorem dX3_ruleAt_59 : decode cX3_ruleAt 59 = .ok (.goto 19, 3) := dk_167 0 19 (dk_at dksX3_ruleAt_2 13 rfl rfl)
theorem dX3_ruleAt_62 : decode cX3_ruleAt 62 = .ok (.iconst 0, 1) := dk_3 (dk_at dksX3_ruleAt_2 16 rfl rfl)
theorem dX3_ruleAt_63 : decode cX3_ruleAt 63 = .ok (.goto 15, 3) := dk_167 0 15 (dk_at dksX3_ruleAt_2 17 rfl rfl)
theorem dX3_ruleAt_66 : decode cX3_ruleAt 66 = .ok (.aload_n 0, 1) := dk_42 (dk_at dksX3_ruleAt_2 20 rfl rfl)
theorem dX3_ruleAt_67 : decode cX3_ruleAt 67 = .ok (.getfield 58, 3) := dk_180 0 58 (dk_at dksX3_ruleAt_2 21 rfl rfl)
theorem dX3_ruleAt_70 : decode cX3_ruleAt 70 = .ok (.iconst 5, 1) := dk_8 (dk_at dksX3_ruleAt_3 0 rfl rfl)
theorem dX3_ruleAt_71 : decode cX3_ruleAt 71 = .ok (.iload_n 1, 1) := dk_27 (dk_at dksX3_ruleAt_3 1 rfl rfl)
theorem dX3_ruleAt_72 : decode cX3_ruleAt 72 = .ok (.imul, 1) := dk_104 (dk_at dksX3_ruleAt_3 2 rfl rfl)
theorem dX3_ruleAt_73 : decode cX3_ruleAt 73 = .ok (.iload_n 2, 1) := dk_28 (dk_at dksX3_ruleAt_3 3 rfl rfl)
theorem dX3_ruleAt_74 : decode cX3_ruleAt 74 = .ok (.iadd, 1) := dk_96 (dk_at dksX3_ruleAt_3 4 rfl rfl)
theorem dX3_ruleAt_75 : decode cX3_ruleAt 75 = .ok (.iconst 2, 1) := dk_5 (dk_at dksX3_ruleAt_3 5 rfl rfl)
theorem dX3_ruleAt_76 : decode cX3_ruleAt 76 = .ok (.isub, 1) := dk_100 (dk_at dksX3_ruleAt_3 6 rfl rfl)
theorem dX3_ruleAt_77 : decode cX3_ruleAt 77 = .ok (.iaload, 1) := dk_46 (dk_at dksX3_ruleAt_3 7 rfl rfl)
theorem dX3_ruleAt_78 : decode cX3_ruleAt 78 = .ok (.ireturn, 1) := dk_172 (dk_at dksX3_ruleAt_3 8 rfl rfl)
abbrev cX3_claimAt : ByteArray := prog_13_method_54_code
def yX3_claimAt : MethodName := ⟨RX3, "claimAt", "(II)I"⟩
def dkwX3_claimAt_1 : List UInt8 := [180, 0, 71, 16, 6, 27, 104, 28, 96, 46, 167, 0, 4, 3, 172]
abbrev dktX3_claimAt_1 : List UInt8 := dkwX3_claimAt_1 ++ []
def dkwX3_claimAt_0 : List UInt8 := [42, 42, 27, 182, 1, 4, 28, 133, 9, 20, 1, 39, 184, 0, 92, 182, 0, 234, 153, 0, 17, 42]
abbrev dktX3_claimAt_0 : List UInt8 := dkwX3_claimAt_0 ++ dktX3_claimAt_1
theorem dksX3_claimAt_0 : cX3_claimAt.data.toList.drop 0 = dktX3_claimAt_0 := by decide +kernel
theorem dksX3_claimAt_1 : cX3_claimAt.data.toList.drop 22 = dktX3_claimAt_1 := dk_seg dksX3_claimAt_0 22 rfl rfl
theorem dX3_claimAt_0 : decode cX3_claimAt 0 = .ok (.aload_n 0, 1) := dk_42 (dk_at dksX3_claimAt_0 0 rfl rfl)
theorem dX3_claimAt_1 : decode cX3_claimAt 1 = .ok (.aload_n 0, 1) := dk_42 (dk_at dksX3_claimAt_0 1 rfl rfl)
theorem dX3_claimAt_2 : decode cX3_claimAt 2 = .ok (.iload_n 1, 1) := dk_27 (dk_at dksX3_claimAt_0 2 rfl rfl)
theorem dX3_claimAt_3 : decode cX3_claimAt 3 = .ok (.invokevirtual 260, 3) := dk_182 1 4 (dk_at dksX3_claimAt_0 3 rfl rfl)
theorem dX3_claimAt_6 : decode cX3_claimAt 6 = .ok (.iload_n 2, 1) := dk_28 (dk_at dksX3_claimAt_0 6 rfl rfl)
theorem dX3_claimAt_7 : decode cX3_claimAt 7 = .ok (.i2l, 1) := dk_133 (dk_at dksX3_claimAt_0 7 rfl rfl)
theorem dX3_claimAt_8 : decode cX3_claimAt 8 = .ok (.lconst 0, 1) := dk_9 (dk_at dksX3_claimAt_0 8 rfl rfl)
theorem dX3_claimAt_9 : decode cX3_claimAt 9 = .ok (.ldc2_w 295, 3) := dk_20 1 39 (dk_at dksX3_claimAt_0 9 rfl rfl)
theorem dX3_claimAt_12 : decode cX3_claimAt 12 = .ok (.invokestatic 92, 3) := dk_184 0 92 (dk_at dksX3_claimAt_0 12 rfl rfl)
theorem dX3_claimAt_15 : decode cX3_claimAt 15 = .ok (.invokevirtual 234, 3) := dk_182 0 234 (dk_at dksX3_claimAt_0 15 rfl rfl)
theorem dX3_claimAt_18 : decode cX3_claimAt 18 = .ok (.ifCond .eq 17, 3) := dk_153 0 17 (dk_at dksX3_claimAt_0 18 rfl rfl)
theorem dX3_claimAt_21 : decode cX3_claimAt 21 = .ok (.aload_n 0, 1) := dk_42 (dk_at dksX3_claimAt_0 21 rfl rfl)
theorem dX3_claimAt_22 : decode cX3_claimAt 22 = .ok (.getfield 71, 3) := dk_180 0 71 (dk_at dksX3_claimAt_1 0 rfl rfl)
theorem dX3_claimAt_25 : decode cX3_claimAt 25 = .ok (.bipush 6, 2) := dk_16 6 (dk_at dksX3_claimAt_1 3 rfl rfl)
theorem dX3_claimAt_27 : decode cX3_claimAt 27 = .ok (.iload_n 1, 1) := dk_27 (dk_at dksX3_claimAt_1 5 rfl rfl)
theorem dX3_claimAt_28 : decode cX3_claimAt 28 = .ok (.imul, 1) := dk_104 (dk_at dksX3_claimAt_1 6 rfl rfl)
theorem dX3_claimAt_29 : decode cX3_claimAt 29 = .ok (.iload_n 2, 1) := dk_28 (dk_at dksX3_claimAt_1 7 rfl rfl)
theorem dX3_claimAt_30 : decode cX3_claimAt 30 = .ok (.iadd, 1) := dk_96 (dk_at dksX3_claimAt_1 8 rfl rfl)
theorem dX3_claimAt_31 : decode cX3_claimAt 31 = .ok (.iaload, 1) := dk_46 (dk_at dksX3_claimAt_1 9 rfl rfl)
theorem dX3_claimAt_32 : decode cX3_claimAt 32 = .ok (.goto 4, 3) := dk_167 0 4 (dk_at dksX3_claimAt_1 10 rfl rfl)
theorem dX3_claimAt_35 : decode cX3_claimAt 35 = .ok (.iconst 0, 1) := dk_3 (dk_at dksX3_claimAt_1 13 rfl rfl)
theorem dX3_claimAt_36 : decode cX3_claimAt 36 = .ok (.ireturn, 1) := dk_172 (dk_at dksX3_claimAt_1 14 rfl rfl)
abbrev cX3_write : ByteArray := prog_13_method_55_code
def yX3_write : MethodName := ⟨RX3, "write", "(IZ)I"⟩
def dkwX3_write_6 : List UInt8 := [42, 180, 0, 77, 182, 1, 59, 172]
abbrev dktX3_write_6 : List UInt8 := dkwX3_write_6 ++ []
def dkwX3_write_5 : List UInt8 := [112, 182, 1, 52, 87, 42, 27, 182, 0, 178, 153, 0, 14, 42, 180, 0, 77, 19, 1, 54, 182, 1, 56, 87]
abbrev dktX3_write_5 : List UInt8 := dkwX3_write_5 ++ dktX3_write_6
def dkwX3_write_4 : List UInt8 := [108, 182, 1, 52, 16, 46, 182, 1, 48, 21, 4, 16, 10, 108, 16, 10, 112, 182, 1, 52, 21, 4, 16, 10]
abbrev dktX3_write_4 : List UInt8 := dkwX3_write_4 ++ dktX3_write_5
def dkwX3_write_3 : List UInt8 := [167, 255, 220, 42, 27, 3, 182, 0, 202, 54, 4, 42, 180, 0, 77, 16, 32, 182, 1, 48, 21, 4, 16, 100]
abbrev dktX3_write_3 : List UInt8 := dkwX3_write_3 ++ dktX3_write_4
def dkwX3_write_2 : List UInt8 := [153, 0, 13, 45, 190, 4, 100, 21, 4, 100, 167, 0, 5, 21, 4, 46, 182, 1, 44, 87, 132, 4, 1]
abbrev dktX3_write_2 : List UInt8 := dkwX3_write_2 ++ dktX3_write_3
def dkwX3_write_1 : List UInt8 := [180, 0, 14, 27, 50, 78, 3, 54, 4, 21, 4, 45, 190, 162, 0, 35, 42, 180, 0, 77, 45, 28]
abbrev dktX3_write_1 : List UInt8 := dkwX3_write_1 ++ dktX3_write_2
def dkwX3_write_0 : List UInt8 := [42, 42, 27, 182, 0, 243, 182, 0, 240, 154, 0, 5, 3, 172, 42, 180, 0, 77, 3, 182, 1, 41, 42]
abbrev dktX3_write_0 : List UInt8 := dkwX3_write_0 ++ dktX3_write_1
theorem dksX3_write_0 : cX3_write.data.toList.drop 0 = dktX3_write_0 := by decide +kernel
theorem dksX3_write_1 : cX3_write.data.toList.drop 23 = dktX3_write_1 := dk_seg dksX3_write_0 23 rfl rfl
theorem dksX3_write_2 : cX3_write.data.toList.drop 45 = dktX3_write_2 := dk_seg dksX3_write_1 22 rfl rfl
theorem dksX3_write_3 : cX3_write.data.toList.drop 68 = dktX3_write_3 := dk_seg dksX3_write_2 23 rfl rfl
theorem dksX3_write_4 : cX3_write.data.toList.drop 92 = dktX3_write_4 := dk_seg dksX3_write_3 24 rfl rfl
theorem dksX3_write_5 : cX3_write.data.toList.drop 116 = dktX3_write_5 := dk_seg dksX3_write_4 24 rfl rfl
theorem dksX3_write_6 : cX3_write.data.toList.drop 140 = dktX3_write_6 := dk_seg dksX3_write_5 24 rfl rfl
theorem dX3_write_0 : decode cX3_write 0 = .ok (.aload_n 0, 1) := dk_42 (dk_at dksX3_write_0 0 rfl rfl)
theorem dX3_write_1 : decode cX3_write 1 = .ok (.aload_n 0, 1) := dk_42 (dk_at dksX3_write_0 1 rfl rfl)
theorem dX3_write_2 : decode cX3_write 2 = .ok (.iload_n 1, 1) := dk_27 (dk_at dksX3_write_0 2 rfl rfl)
theorem dX3_write_3 : decode cX3_write 3 = .ok (.invokevirtual 243, 3) := dk_182 0 243 (dk_at dksX3_write_0 3 rfl rfl)
theorem dX3_write_6 : decode cX3_write 6 = .ok (.invokevirtual 240, 3) := dk_182 0 240 (dk_at dksX3_write_0 6 rfl rfl)
theorem dX3_write_9 : decode cX3_write 9 = .ok (.ifCond .ne 5, 3) := dk_154 0 5 (dk_at dksX3_write_0 9 rfl rfl)
theorem dX3_write_12 : decode cX3_write 12 = .ok (.iconst 0, 1) := dk_3 (dk_at dksX3_write_0 12 rfl rfl)
theorem dX3_write_13 : decode cX3_write 13 = .ok (.ireturn, 1) := dk_172 (dk_at dksX3_write_0 13 rfl rfl)
theorem dX3_write_14 : decode cX3_write 14 = .ok (.aload_n 0, 1) := dk_42 (dk_at dksX3_write_0 14 rfl rfl)
theorem dX3_write_15 : decode cX3_write 15 = .ok (.getfield 77, 3) := dk_180 0 77 (dk_at dksX3_write_0 15 rfl rfl)
theorem dX3_write_18 : decode cX3_write 18 = .ok (.iconst 0, 1) := dk_3 (dk_at dksX3_write_0 18 rfl rfl)
theorem dX3_write_19 : decode cX3_write 19 = .ok (.invokevirtual 297, 3) := dk_182 1 41 (dk_at dksX3_write_0 19 rfl rfl)
theorem dX3_write_22 : decode cX3_write 22 = .ok (.aload_n 0, 1) := dk_42 (dk_at dksX3_write_0 22 rfl rfl)
theorem dX3_write_23 : decode cX3_write 23 = .ok (.getfield 14, 3) := dk_180 0 14 (dk_at dksX3_write_1 0 rfl rfl)
theorem dX3_write_26 : decode cX3_write 26 = .ok (.iload_n 1, 1) := dk_27 (dk_at dksX3_write_1 3 rfl rfl)
theorem dX3_write_27 : decode cX3_write 27 = .ok (.aaload, 1) := dk_50 (dk_at dksX3_write_1 4 rfl rfl)
theorem dX3_write_28 : decode cX3_write 28 = .ok (.astore_n 3, 1) := dk_78 (dk_at dksX3_write_1 5 rfl rfl)
theorem dX3_write_29 : decode cX3_write 29 = .ok (.iconst 0, 1) := dk_3 (dk_at dksX3_write_1 6 rfl rfl)
theorem dX3_write_30 : decode cX3_write 30 = .ok (.istore 4, 2) := dk_54 4 (dk_at dksX3_write_1 7 rfl rfl)
theorem dX3_write_32 : decode cX3_write 32 = .ok (.iload 4, 2) := dk_21 4 (dk_at dksX3_write_1 9 rfl rfl)
theorem dX3_write_34 : decode cX3_write 34 = .ok (.aload_n 3, 1) := dk_45 (dk_at dksX3_write_1 11 rfl rfl)
theorem dX3_write_35 : decode cX3_write 35 = .ok (.arraylength, 1) := dk_190 (dk_at dksX3_write_1 12 rfl rfl)
theorem dX3_write_36 : decode cX3_write 36 = .ok (.if_icmp .ge 35, 3) := dk_162 0 35 (dk_at dksX3_write_1 13 rfl rfl)
theorem dX3_write_39 : decode cX3_write 39 = .ok (.aload_n 0, 1) := dk_42 (dk_at dksX3_write_1 16 rfl rfl)
theorem dX3_write_40 : decode cX3_write 40 = .ok (.getfield 77, 3) := dk_180 0 77 (dk_at dksX3_write_1 17 rfl rfl)
theorem dX3_write_43 : decode cX3_write 43 = .ok (.aload_n 3, 1) := dk_45 (dk_at dksX3_write_1 20 rfl rfl)
theorem dX3_write_44 : decode cX3_write 44 = .ok (.iload_n 2, 1) := dk_28 (dk_at dksX3_write_1 21 rfl rfl)
theorem dX3_write_45 : decode cX3_write 45 = .ok (.ifCond .eq 13, 3) := dk_153 0 13 (dk_at dksX3_write_2 0 rfl rfl)
theorem dX3_write_48 : decode cX3_write 48 = .ok (.aload_n 3, 1) := dk_45 (dk_at dksX3_write_2 3 rfl rfl)
theorem dX3_write_49 : decode cX3_write 49 = .ok (.arraylength, 1) := dk_190 (dk_at dksX3_write_2 4 rfl rfl)
theorem dX3_write_50 : decode cX3_write 50 = .ok (.iconst 1, 1) := dk_4 (dk_at dksX3_write_2 5 rfl rfl)
theorem dX3_write_51 : decode cX3_write 51 = .ok (.isub, 1) := dk_100 (dk_at dksX3_write_2 6 rfl rfl)
theorem dX3_write_52 : decode cX3_write 52 = .ok (.iload 4, 2) := dk_21 4 (dk_at dksX3_write_2 7 rfl rfl)
theorem dX3_write_54 : decode cX3_write 54 = .ok (.isub, 1) := dk_100 (dk_at dksX3_write_2 9 rfl rfl)
theorem dX3_write_55 : decode cX3_write 55 = .ok (.goto 5, 3) := dk_167 0 5 (dk_at dksX3_write_2 10 rfl rfl)
theorem dX3_write_58 : decode cX3_write 58 = .ok (.iload 4, 2) := dk_21 4 (dk_at dksX3_write_2 13 rfl rfl)
theorem dX3_write_60 : decode cX3_write 60 = .ok (.iaload, 1) := dk_46 (dk_at dksX3_write_2 15 rfl rfl)
theorem dX3_write_61 : decode cX3_write 61 = .ok (.invokevirtual 300, 3) := dk_182 1 44 (dk_at dksX3_write_2 16 rfl rfl)
theorem dX3_write_64 : decode cX3_write 64 = .ok (.pop, 1) := dk_87 (dk_at dksX3_write_2 19 rfl rfl)
theorem dX3_write_65 : decode cX3_write 65 = .ok (.iinc 4 1, 3) := dk_132 4 1 (dk_at dksX3_write_2 20 rfl rfl)
theorem dX3_write_68 : decode cX3_write 68 = .ok (.goto (-36), 3) := dk_167 255 220 (dk_at dksX3_write_3 0 rfl rfl)
theorem dX3_write_71 : decode cX3_write 71 = .ok (.aload_n 0, 1) := dk_42 (dk_at dksX3_write_3 3 rfl rfl)
theorem dX3_write_72 : decode cX3_write 72 = .ok (.iload_n 1, 1) := dk_27 (dk_at dksX3_write_3 4 rfl rfl)
theorem dX3_write_73 : decode cX3_write 73 = .ok (.iconst 0, 1) := dk_3 (dk_at dksX3_write_3 5 rfl rfl)
theorem dX3_write_74 : decode cX3_write 74 = .ok (.invokevirtual 202, 3) := dk_182 0 202 (dk_at dksX3_write_3 6 rfl rfl)
theorem dX3_write_77 : decode cX3_write 77 = .ok (.istore 4, 2) := dk_54 4 (dk_at dksX3_write_3 9 rfl rfl)
theorem dX3_write_79 : decode cX3_write 79 = .ok (.aload_n 0, 1) := dk_42 (dk_at dksX3_write_3 11 rfl rfl)
theorem dX3_write_80 : decode cX3_write 80 = .ok (.getfield 77, 3) := dk_180 0 77 (dk_at dksX3_write_3 12 rfl rfl)
theorem dX3_write_83 : decode cX3_write 83 = .ok (.bipush 32, 2) := dk_16 32 (dk_at dksX3_write_3 15 rfl rfl)
theorem dX3_write_85 : decode cX3_write 85 = .ok (.invokevirtual 304, 3) := dk_182 1 48 (dk_at dksX3_write_3 17 rfl rfl)
theorem dX3_write_88 : decode cX3_write 88 = .ok (.iload 4, 2) := dk_21 4 (dk_at dksX3_write_3 20 rfl rfl)
theorem dX3_write_90 : decode cX3_write 90 = .ok (.bipush 100, 2) := dk_16 100 (dk_at dksX3_write_3 22 rfl rfl)
theorem dX3_write_92 : decode cX3_write 92 = .ok (.idiv, 1) := dk_108 (dk_at dksX3_write_4 0 rfl rfl)
theorem dX3_write_93 : decode cX3_write 93 = .ok (.invokevirtual 308, 3) := dk_182 1 52 (dk_at dksX3_write_4 1 rfl rfl)
theorem dX3_write_96 : decode cX3_write 96 = .ok (.bipush 46, 2) := dk_16 46 (dk_at dksX3_write_4 4 rfl rfl)
theorem dX3_write_98 : decode cX3_write 98 = .ok (.invokevirtual 304, 3) := dk_182 1 48 (dk_at dksX3_write_4 6 rfl rfl)
theorem dX3_write_101 : decode cX3_write 101 = .ok (.iload 4, 2) := dk_21 4 (dk_at dksX3_write_4 9 rfl rfl)
theorem dX3_write_103 : decode cX3_write 103 = .ok (.bipush 10, 2) := dk_16 10 (dk_at dksX3_write_4 11 rfl rfl)
theorem dX3_write_105 : decode cX3_write 105 = .ok (.idiv, 1) := dk_108 (dk_at dksX3_write_4 13 rfl rfl)
theorem dX3_write_106 : decode cX3_write 106 = .ok (.bipush 10, 2) := dk_16 10 (dk_at dksX3_write_4 14 rfl rfl)
theorem dX3_write_108 : decode cX3_write 108 = .ok (.irem, 1) := dk_112 (dk_at dksX3_write_4 16 rfl rfl)
theorem dX3_write_109 : decode cX3_write 109 = .ok (.invokevirtual 308, 3) := dk_182 1 52 (dk_at dksX3_write_4 17 rfl rfl)
theorem dX3_write_112 : decode cX3_write 112 = .ok (.iload 4, 2) := dk_21 4 (dk_at dksX3_write_4 20 rfl rfl)
theorem dX3_write_114 : decode cX3_write 114 = .ok (.bipush 10, 2) := dk_16 10 (dk_at dksX3_write_4 22 rfl rfl)
theorem dX3_write_116 : decode cX3_write 116 = .ok (.irem, 1) := dk_112 (dk_at dksX3_write_5 0 rfl rfl)
theorem dX3_write_117 : decode cX3_write 117 = .ok (.invokevirtual 308, 3) := dk_182 1 52 (dk_at dksX3_write_5 1 rfl rfl)
theorem dX3_write_120 : decode cX3_write 120 = .ok (.pop, 1) := dk_87 (dk_at dksX3_write_5 4 rfl rfl)
theorem dX3_write_121 : decode cX3_write 121 = .ok (.aload_n 0, 1) := dk_42 (dk_at dksX3_write_5 5 rfl rfl)
theorem dX3_write_122 : decode cX3_write 122 = .ok (.iload_n 1, 1) := dk_27 (dk_at dksX3_write_5 6 rfl rfl)
theorem dX3_write_123 : decode cX3_write 123 = .ok (.invokevirtual 178, 3) := dk_182 0 178 (dk_at dksX3_write_5 7 rfl rfl)
theorem dX3_write_126 : decode cX3_write 126 = .ok (.ifCond .eq 14, 3) := dk_153 0 14 (dk_at dksX3_write_5 10 rfl rfl)
theorem dX3_write_129 : decode cX3_write 129 = .ok (.aload_n 0, 1) := dk_42 (dk_at dksX3_write_5 13 rfl rfl)
theorem dX3_write_130 : decode cX3_write 130 = .ok (.getfield 77, 3) := dk_180 0 77 (dk_at dksX3_write_5 14 rfl rfl)
theorem dX3_write_133 : decode cX3_write 133 = .ok (.ldc_w 310, 3) := dk_19 1 54 (dk_at dksX3_write_5 17 rfl rfl)
theorem dX3_write_136 : decode cX3_write 136 = .ok (.invokevirtual 312, 3) := dk_182 1 56 (dk_at dksX3_write_5 20 rfl rfl)
theorem dX3_write_139 : decode cX3_write 139 = .ok (.pop, 1) := dk_87 (dk_at dksX3_write_5 23 rfl rfl)
theorem dX3_write_140 : decode cX3_write 140 = .ok (.aload_n 0, 1) := dk_42 (dk_at dksX3_write_6 0 rfl rfl)
theorem dX3_write_141 : decode cX3_write 141 = .ok (.getfield 77, 3) := dk_180 0 77 (dk_at dksX3_write_6 1 rfl rfl)
theorem dX3_write_144 : decode cX3_write 144 = .ok (.invokevirtual 315, 3) := dk_182 1 59 (dk_at dksX3_write_6 4 rfl rfl)
theorem dX3_write_147 : decode cX3_write 147 = .ok (.ireturn, 1) := dk_172 (dk_at dksX3_write_6 7 rfl rfl)
abbrev cX3_outputAt : ByteArray := prog_13_method_56_code
def yX3_outputAt : MethodName := ⟨RX3, "outputAt", "(I)I"⟩
def dkwX3_outputAt_1 : List UInt8 := [180, 0, 77, 27, 182, 1, 60, 167, 0, 4, 3, 172]
abbrev dktX3_outputAt_1 : List UInt8 := dkwX3_outputAt_1 ++ []
def dkwX3_outputAt_0 : List UInt8 := [42, 27, 133, 9, 42, 180, 0, 77, 182, 1, 59, 133, 10, 101, 184, 0, 92, 182, 0, 240, 153, 0, 14, 42]
abbrev dktX3_outputAt_0 : List UInt8 := dkwX3_outputAt_0 ++ dktX3_outputAt_1
theorem dksX3_outputAt_0 : cX3_outputAt.data.toList.drop 0 = dktX3_outputAt_0 := by decide +kernel
theorem dksX3_outputAt_1 : cX3_outputAt.data.toList.drop 24 = dktX3_outputAt_1 := dk_seg dksX3_outputAt_0 24 rfl rfl
theorem dX3_outputAt_0 : decode cX3_outputAt 0 = .ok (.aload_n 0, 1) := dk_42 (dk_at dksX3_outputAt_0 0 rfl rfl)
theorem dX3_outputAt_1 : decode cX3_outputAt 1 = .ok (.iload_n 1, 1) := dk_27 (dk_at dksX3_outputAt_0 1 rfl rfl)
theorem dX3_outputAt_2 : decode cX3_outputAt 2 = .ok (.i2l, 1) := dk_133 (dk_at dksX3_outputAt_0 2 rfl rfl)
theorem dX3_outputAt_3 : decode cX3_outputAt 3 = .ok (.lconst 0, 1) := dk_9 (dk_at dksX3_outputAt_0 3 rfl rfl)
theorem dX3_outputAt_4 : decode cX3_outputAt 4 = .ok (.aload_n 0, 1) := dk_42 (dk_at dksX3_outputAt_0 4 rfl rfl)
theorem dX3_outputAt_5 : decode cX3_outputAt 5 = .ok (.getfield 77, 3) := dk_180 0 77 (dk_at dksX3_outputAt_0 5 rfl rfl)
theorem dX3_outputAt_8 : decode cX3_outputAt 8 = .ok (.invokevirtual 315, 3) := dk_182 1 59 (dk_at dksX3_outputAt_0 8 rfl rfl)
theorem dX3_outputAt_11 : decode cX3_outputAt 11 = .ok (.i2l, 1) := dk_133 (dk_at dksX3_outputAt_0 11 rfl rfl)
theorem dX3_outputAt_12 : decode cX3_outputAt 12 = .ok (.lconst 1, 1) := dk_10 (dk_at dksX3_outputAt_0 12 rfl rfl)
theorem dX3_outputAt_13 : decode cX3_outputAt 13 = .ok (.lsub, 1) := dk_101 (dk_at dksX3_outputAt_0 13 rfl rfl)
theorem dX3_outputAt_14 : decode cX3_outputAt 14 = .ok (.invokestatic 92, 3) := dk_184 0 92 (dk_at dksX3_outputAt_0 14 rfl rfl)
theorem dX3_outputAt_17 : decode cX3_outputAt 17 = .ok (.invokevirtual 240, 3) := dk_182 0 240 (dk_at dksX3_outputAt_0 17 rfl rfl)
theorem dX3_outputAt_20 : decode cX3_outputAt 20 = .ok (.ifCond .eq 14, 3) := dk_153 0 14 (dk_at dksX3_outputAt_0 20 rfl rfl)
theorem dX3_outputAt_23 : decode cX3_outputAt 23 = .ok (.aload_n 0, 1) := dk_42 (dk_at dksX3_outputAt_0 23 rfl rfl)
theorem dX3_outputAt_24 : decode cX3_outputAt 24 = .ok (.getfield 77, 3) := dk_180 0 77 (dk_at dksX3_outputAt_1 0 rfl rfl)
theorem dX3_outputAt_27 : decode cX3_outputAt 27 = .ok (.iload_n 1, 1) := dk_27 (dk_at dksX3_outputAt_1 3 rfl rfl)
theorem dX3_outputAt_28 : decode cX3_outputAt 28 = .ok (.invokevirtual 316, 3) := dk_182 1 60 (dk_at dksX3_outputAt_1 4 rfl rfl)
theorem dX3_outputAt_31 : decode cX3_outputAt 31 = .ok (.goto 4, 3) := dk_167 0 4 (dk_at dksX3_outputAt_1 7 rfl rfl)
theorem dX3_outputAt_34 : decode cX3_outputAt 34 = .ok (.iconst 0, 1) := dk_3 (dk_at dksX3_outputAt_1 10 rfl rfl)
theorem dX3_outputAt_35 : decode cX3_outputAt 35 = .ok (.ireturn, 1) := dk_172 (dk_at dksX3_outputAt_1 11 rfl rfl)
abbrev cX3_count : ByteArray := prog_13_method_58_code
def yX3_count : MethodName := ⟨RX3, "count", "(I)I"⟩
def dkwX3_count_4 : List UInt8 := [180, 0, 99, 172, 42, 180, 0, 105, 172, 42, 27, 16, 9, 100, 182, 1, 63, 172]
abbrev dktX3_count_4 : List UInt8 := dkwX3_count_4 ++ []
def dkwX3_count_3 : List UInt8 := [182, 0, 255, 172, 42, 4, 182, 0, 255, 172, 42, 5, 182, 0, 255, 172, 42, 180, 0, 54, 172, 42]
abbrev dktX3_count_3 : List UInt8 := dkwX3_count_3 ++ dktX3_count_4
def dkwX3_count_2 : List UInt8 := [42, 180, 0, 135, 172, 42, 180, 0, 89, 172, 42, 182, 0, 246, 172, 42, 180, 0, 96, 172, 42, 3]
abbrev dktX3_count_2 : List UInt8 := dkwX3_count_2 ++ dktX3_count_3
def dkwX3_count_1 : List UInt8 := [170, 0, 0, 0, 122, 0, 0, 0, 0, 0, 0, 0, 13, 0, 0, 0, 69, 0, 0, 0, 74, 0, 0, 0, 79, 0, 0, 0, 84, 0, 0, 0, 89, 0, 0, 0, 95, 0, 0, 0, 101, 0, 0, 0, 107, 0, 0, 0, 112, 0, 0, 0, 122, 0, 0, 0, 122, 0, 0, 0, 122, 0, 0, 0, 122, 0, 0, 0, 117]
abbrev dktX3_count_1 : List UInt8 := dkwX3_count_1 ++ dktX3_count_2
def dkwX3_count_0 : List UInt8 := [42, 27, 133, 9, 20, 1, 61, 184, 0, 92, 182, 0, 240, 154, 0, 5, 3, 172, 27]
abbrev dktX3_count_0 : List UInt8 := dkwX3_count_0 ++ dktX3_count_1
theorem dksX3_count_0 : cX3_count.data.toList.drop 0 = dktX3_count_0 := by decide +kernel
theorem dksX3_count_1 : cX3_count.data.toList.drop 19 = dktX3_count_1 := dk_seg dksX3_count_0 19 rfl rfl
theorem dksX3_count_2 : cX3_count.data.toList.drop 88 = dktX3_count_2 := dk_seg dksX3_count_1 69 rfl rfl
theorem dksX3_count_3 : cX3_count.data.toList.drop 110 = dktX3_count_3 := dk_seg dksX3_count_2 22 rfl rfl
theorem dksX3_count_4 : cX3_count.data.toList.drop 132 = dktX3_count_4 := dk_seg dksX3_count_3 22 rfl rfl
theorem dX3_count_0 : decode cX3_count 0 = .ok (.aload_n 0, 1) := dk_42 (dk_at dksX3_count_0 0 rfl rfl)
theorem dX3_count_1 : decode cX3_count 1 = .ok (.iload_n 1, 1) := dk_27 (dk_at dksX3_count_0 1 rfl rfl)
theorem dX3_count_2 : decode cX3_count 2 = .ok (.i2l, 1) := dk_133 (dk_at dksX3_count_0 2 rfl rfl)
theorem dX3_count_3 : decode cX3_count 3 = .ok (.lconst 0, 1) := dk_9 (dk_at dksX3_count_0 3 rfl rfl)
theorem dX3_count_4 : decode cX3_count 4 = .ok (.ldc2_w 317, 3) := dk_20 1 61 (dk_at dksX3_count_0 4 rfl rfl)
theorem dX3_count_7 : decode cX3_count 7 = .ok (.invokestatic 92, 3) := dk_184 0 92 (dk_at dksX3_count_0 7 rfl rfl)
theorem dX3_count_10 : decode cX3_count 10 = .ok (.invokevirtual 240, 3) := dk_182 0 240 (dk_at dksX3_count_0 10 rfl rfl)
theorem dX3_count_13 : decode cX3_count 13 = .ok (.ifCond .ne 5, 3) := dk_154 0 5 (dk_at dksX3_count_0 13 rfl rfl)
theorem dX3_count_16 : decode cX3_count 16 = .ok (.iconst 0, 1) := dk_3 (dk_at dksX3_count_0 16 rfl rfl)
theorem dX3_count_17 : decode cX3_count 17 = .ok (.ireturn, 1) := dk_172 (dk_at dksX3_count_0 17 rfl rfl)
theorem dX3_count_18 : decode cX3_count 18 = .ok (.iload_n 1, 1) := dk_27 (dk_at dksX3_count_0 18 rfl rfl)
theorem dX3_count_19 : decode cX3_count 19 = .ok (.tableswitch 122 0 13 #[69, 74, 79, 84, 89, 95, 101, 107, 112, 122, 122, 122, 122, 117], 69) := by decide +kernel
theorem dX3_count_88 : decode cX3_count 88 = .ok (.aload_n 0, 1) := dk_42 (dk_at dksX3_count_2 0 rfl rfl)
theorem dX3_count_89 : decode cX3_count 89 = .ok (.getfield 135, 3) := dk_180 0 135 (dk_at dksX3_count_2 1 rfl rfl)
theorem dX3_count_92 : decode cX3_count 92 = .ok (.ireturn, 1) := dk_172 (dk_at dksX3_count_2 4 rfl rfl)
theorem dX3_count_93 : decode cX3_count 93 = .ok (.aload_n 0, 1) := dk_42 (dk_at dksX3_count_2 5 rfl rfl)
theorem dX3_count_94 : decode cX3_count 94 = .ok (.getfield 89, 3) := dk_180 0 89 (dk_at dksX3_count_2 6 rfl rfl)
theorem dX3_count_97 : decode cX3_count 97 = .ok (.ireturn, 1) := dk_172 (dk_at dksX3_count_2 9 rfl rfl)
theorem dX3_count_98 : decode cX3_count 98 = .ok (.aload_n 0, 1) := dk_42 (dk_at dksX3_count_2 10 rfl rfl)
theorem dX3_count_99 : decode cX3_count 99 = .ok (.invokevirtual 246, 3) := dk_182 0 246 (dk_at dksX3_count_2 11 rfl rfl)
theorem dX3_count_102 : decode cX3_count 102 = .ok (.ireturn, 1) := dk_172 (dk_at dksX3_count_2 14 rfl rfl)
theorem dX3_count_103 : decode cX3_count 103 = .ok (.aload_n 0, 1) := dk_42 (dk_at dksX3_count_2 15 rfl rfl)
theorem dX3_count_104 : decode cX3_count 104 = .ok (.getfield 96, 3) := dk_180 0 96 (dk_at dksX3_count_2 16 rfl rfl)
theorem dX3_count_107 : decode cX3_count 107 = .ok (.ireturn, 1) := dk_172 (dk_at dksX3_count_2 19 rfl rfl)
theorem dX3_count_108 : decode cX3_count 108 = .ok (.aload_n 0, 1) := dk_42 (dk_at dksX3_count_2 20 rfl rfl)
theorem dX3_count_109 : decode cX3_count 109 = .ok (.iconst 0, 1) := dk_3 (dk_at dksX3_count_2 21 rfl rfl)
theorem dX3_count_110 : decode cX3_count 110 = .ok (.invokevirtual 255, 3) := dk_182 0 255 (dk_at dksX3_count_3 0 rfl rfl)
theorem dX3_count_113 : decode cX3_count 113 = .ok (.ireturn, 1) := dk_172 (dk_at dksX3_count_3 3 rfl rfl)
theorem dX3_count_114 : decode cX3_count 114 = .ok (.aload_n 0, 1) := dk_42 (dk_at dksX3_count_3 4 rfl rfl)
theorem dX3_count_115 : decode cX3_count 115 = .ok (.iconst 1, 1) := dk_4 (dk_at dksX3_count_3 5 rfl rfl)
theorem dX3_count_116 : decode cX3_count 116 = .ok (.invokevirtual 255, 3) := dk_182 0 255 (dk_at dksX3_count_3 6 rfl rfl)
theorem dX3_count_119 : decode cX3_count 119 = .ok (.ireturn, 1) := dk_172 (dk_at dksX3_count_3 9 rfl rfl)
theorem dX3_count_120 : decode cX3_count 120 = .ok (.aload_n 0, 1) := dk_42 (dk_at dksX3_count_3 10 rfl rfl)
theorem dX3_count_121 : decode cX3_count 121 = .ok (.iconst 2, 1) := dk_5 (dk_at dksX3_count_3 11 rfl rfl)
theorem dX3_count_122 : decode cX3_count 122 = .ok (.invokevirtual 255, 3) := dk_182 0 255 (dk_at dksX3_count_3 12 rfl rfl)
theorem dX3_count_125 : decode cX3_count 125 = .ok (.ireturn, 1) := dk_172 (dk_at dksX3_count_3 15 rfl rfl)
theorem dX3_count_126 : decode cX3_count 126 = .ok (.aload_n 0, 1) := dk_42 (dk_at dksX3_count_3 16 rfl rfl)
theorem dX3_count_127 : decode cX3_count 127 = .ok (.getfield 54, 3) := dk_180 0 54 (dk_at dksX3_count_3 17 rfl rfl)
theorem dX3_count_130 : decode cX3_count 130 = .ok (.ireturn, 1) := dk_172 (dk_at dksX3_count_3 20 rfl rfl)
theorem dX3_count_131 : decode cX3_count 131 = .ok (.aload_n 0, 1) := dk_42 (dk_at dksX3_count_3 21 rfl rfl)
theorem dX3_count_132 : decode cX3_count 132 = .ok (.getfield 99, 3) := dk_180 0 99 (dk_at dksX3_count_4 0 rfl rfl)
theorem dX3_count_135 : decode cX3_count 135 = .ok (.ireturn, 1) := dk_172 (dk_at dksX3_count_4 3 rfl rfl)
theorem dX3_count_136 : decode cX3_count 136 = .ok (.aload_n 0, 1) := dk_42 (dk_at dksX3_count_4 4 rfl rfl)
theorem dX3_count_137 : decode cX3_count 137 = .ok (.getfield 105, 3) := dk_180 0 105 (dk_at dksX3_count_4 5 rfl rfl)
theorem dX3_count_140 : decode cX3_count 140 = .ok (.ireturn, 1) := dk_172 (dk_at dksX3_count_4 8 rfl rfl)
theorem dX3_count_141 : decode cX3_count 141 = .ok (.aload_n 0, 1) := dk_42 (dk_at dksX3_count_4 9 rfl rfl)
theorem dX3_count_142 : decode cX3_count 142 = .ok (.iload_n 1, 1) := dk_27 (dk_at dksX3_count_4 10 rfl rfl)
theorem dX3_count_143 : decode cX3_count 143 = .ok (.bipush 9, 2) := dk_16 9 (dk_at dksX3_count_4 11 rfl rfl)
theorem dX3_count_145 : decode cX3_count 145 = .ok (.isub, 1) := dk_100 (dk_at dksX3_count_4 13 rfl rfl)
theorem dX3_count_146 : decode cX3_count 146 = .ok (.invokevirtual 319, 3) := dk_182 1 63 (dk_at dksX3_count_4 14 rfl rfl)
theorem dX3_count_149 : decode cX3_count 149 = .ok (.ireturn, 1) := dk_172 (dk_at dksX3_count_4 17 rfl rfl)
abbrev cX3_claimsIn : ByteArray := prog_13_method_57_code
def yX3_claimsIn : MethodName := ⟨RX3, "claimsIn", "(I)I"⟩
def dkwX3_claimsIn_1 : List UInt8 := [27, 160, 0, 7, 4, 167, 0, 4, 3, 96, 61, 132, 3, 1, 167, 255, 222, 28, 172]
abbrev dktX3_claimsIn_1 : List UInt8 := dkwX3_claimsIn_1 ++ []
def dkwX3_claimsIn_0 : List UInt8 := [3, 61, 3, 62, 29, 42, 180, 0, 99, 162, 0, 32, 28, 42, 180, 0, 71, 16, 6, 29, 104, 8, 96, 46]
abbrev dktX3_claimsIn_0 : List UInt8 := dkwX3_claimsIn_0 ++ dktX3_claimsIn_1
theorem dksX3_claimsIn_0 : cX3_claimsIn.data.toList.drop 0 = dktX3_claimsIn_0 := by decide +kernel
theorem dksX3_claimsIn_1 : cX3_claimsIn.data.toList.drop 24 = dktX3_claimsIn_1 := dk_seg dksX3_claimsIn_0 24 rfl rfl
theorem dX3_claimsIn_0 : decode cX3_claimsIn 0 = .ok (.iconst 0, 1) := dk_3 (dk_at dksX3_claimsIn_0 0 rfl rfl)
theorem dX3_claimsIn_1 : decode cX3_claimsIn 1 = .ok (.istore_n 2, 1) := dk_61 (dk_at dksX3_claimsIn_0 1 rfl rfl)
theorem dX3_claimsIn_2 : decode cX3_claimsIn 2 = .ok (.iconst 0, 1) := dk_3 (dk_at dksX3_claimsIn_0 2 rfl rfl)
theorem dX3_claimsIn_3 : decode cX3_claimsIn 3 = .ok (.istore_n 3, 1) := dk_62 (dk_at dksX3_claimsIn_0 3 rfl rfl)
theorem dX3_claimsIn_4 : decode cX3_claimsIn 4 = .ok (.iload_n 3, 1) := dk_29 (dk_at dksX3_claimsIn_0 4 rfl rfl)
theorem dX3_claimsIn_5 : decode cX3_claimsIn 5 = .ok (.aload_n 0, 1) := dk_42 (dk_at dksX3_claimsIn_0 5 rfl rfl)
theorem dX3_claimsIn_6 : decode cX3_claimsIn 6 = .ok (.getfield 99, 3) := dk_180 0 99 (dk_at dksX3_claimsIn_0 6 rfl rfl)
theorem dX3_claimsIn_9 : decode cX3_claimsIn 9 = .ok (.if_icmp .ge 32, 3) := dk_162 0 32 (dk_at dksX3_claimsIn_0 9 rfl rfl)
theorem dX3_claimsIn_12 : decode cX3_claimsIn 12 = .ok (.iload_n 2, 1) := dk_28 (dk_at dksX3_claimsIn_0 12 rfl rfl)
theorem dX3_claimsIn_13 : decode cX3_claimsIn 13 = .ok (.aload_n 0, 1) := dk_42 (dk_at dksX3_claimsIn_0 13 rfl rfl)
theorem dX3_claimsIn_14 : decode cX3_claimsIn 14 = .ok (.getfield 71, 3) := dk_180 0 71 (dk_at dksX3_claimsIn_0 14 rfl rfl)
theorem dX3_claimsIn_17 : decode cX3_claimsIn 17 = .ok (.bipush 6, 2) := dk_16 6 (dk_at dksX3_claimsIn_0 17 rfl rfl)
theorem dX3_claimsIn_19 : decode cX3_claimsIn 19 = .ok (.iload_n 3, 1) := dk_29 (dk_at dksX3_claimsIn_0 19 rfl rfl)
theorem dX3_claimsIn_20 : decode cX3_claimsIn 20 = .ok (.imul, 1) := dk_104 (dk_at dksX3_claimsIn_0 20 rfl rfl)
theorem dX3_claimsIn_21 : decode cX3_claimsIn 21 = .ok (.iconst 5, 1) := dk_8 (dk_at dksX3_claimsIn_0 21 rfl rfl)
theorem dX3_claimsIn_22 : decode cX3_claimsIn 22 = .ok (.iadd, 1) := dk_96 (dk_at dksX3_claimsIn_0 22 rfl rfl)
theorem dX3_claimsIn_23 : decode cX3_claimsIn 23 = .ok (.iaload, 1) := dk_46 (dk_at dksX3_claimsIn_0 23 rfl rfl)
theorem dX3_claimsIn_24 : decode cX3_claimsIn 24 = .ok (.iload_n 1, 1) := dk_27 (dk_at dksX3_claimsIn_1 0 rfl rfl)
theorem dX3_claimsIn_25 : decode cX3_claimsIn 25 = .ok (.if_icmp .ne 7, 3) := dk_160 0 7 (dk_at dksX3_claimsIn_1 1 rfl rfl)
theorem dX3_claimsIn_28 : decode cX3_claimsIn 28 = .ok (.iconst 1, 1) := dk_4 (dk_at dksX3_claimsIn_1 4 rfl rfl)
theorem dX3_claimsIn_29 : decode cX3_claimsIn 29 = .ok (.goto 4, 3) := dk_167 0 4 (dk_at dksX3_claimsIn_1 5 rfl rfl)
theorem dX3_claimsIn_32 : decode cX3_claimsIn 32 = .ok (.iconst 0, 1) := dk_3 (dk_at dksX3_claimsIn_1 8 rfl rfl)
theorem dX3_claimsIn_33 : decode cX3_claimsIn 33 = .ok (.iadd, 1) := dk_96 (dk_at dksX3_claimsIn_1 9 rfl rfl)
theorem dX3_claimsIn_34 : decode cX3_claimsIn 34 = .ok (.istore_n 2, 1) := dk_61 (dk_at dksX3_claimsIn_1 10 rfl rfl)
theorem dX3_claimsIn_35 : decode cX3_claimsIn 35 = .ok (.iinc 3 1, 3) := dk_132 3 1 (dk_at dksX3_claimsIn_1 11 rfl rfl)
theorem dX3_claimsIn_38 : decode cX3_claimsIn 38 = .ok (.goto (-34), 3) := dk_167 255 222 (dk_at dksX3_claimsIn_1 14 rfl rfl)
theorem dX3_claimsIn_41 : decode cX3_claimsIn 41 = .ok (.iload_n 2, 1) := dk_28 (dk_at dksX3_claimsIn_1 17 rfl rfl)
theorem dX3_claimsIn_42 : decode cX3_claimsIn 42 = .ok (.ireturn, 1) := dk_172 (dk_at dksX3_claimsIn_1 18 rfl rfl)
abbrev cX3_meanHelp : ByteArray := prog_13_method_59_code
def yX3_meanHelp : MethodName := ⟨RX3, "meanHelp", "()D"⟩
def dkwX3_meanHelp_2 : List UInt8 := [138, 42, 180, 0, 89, 135, 111, 175]
abbrev dktX3_meanHelp_2 : List UInt8 := dkwX3_meanHelp_2 ++ []
def dkwX3_meanHelp_1 : List UInt8 := [182, 0, 197, 133, 97, 64, 132, 3, 1, 167, 255, 232, 42, 180, 0, 89, 154, 0, 7, 14, 167, 0, 11, 31]
abbrev dktX3_meanHelp_1 : List UInt8 := dkwX3_meanHelp_1 ++ dktX3_meanHelp_2
def dkwX3_meanHelp_0 : List UInt8 := [42, 3, 181, 0, 86, 9, 64, 3, 62, 29, 42, 180, 0, 89, 162, 0, 22, 31, 42, 29, 42, 180, 0, 135]
abbrev dktX3_meanHelp_0 : List UInt8 := dkwX3_meanHelp_0 ++ dktX3_meanHelp_1
theorem dksX3_meanHelp_0 : cX3_meanHelp.data.toList.drop 0 = dktX3_meanHelp_0 := by decide +kernel
theorem dksX3_meanHelp_1 : cX3_meanHelp.data.toList.drop 24 = dktX3_meanHelp_1 := dk_seg dksX3_meanHelp_0 24 rfl rfl
theorem dksX3_meanHelp_2 : cX3_meanHelp.data.toList.drop 48 = dktX3_meanHelp_2 := dk_seg dksX3_meanHelp_1 24 rfl rfl
theorem dX3_meanHelp_0 : decode cX3_meanHelp 0 = .ok (.aload_n 0, 1) := dk_42 (dk_at dksX3_meanHelp_0 0 rfl rfl)
theorem dX3_meanHelp_1 : decode cX3_meanHelp 1 = .ok (.iconst 0, 1) := dk_3 (dk_at dksX3_meanHelp_0 1 rfl rfl)
theorem dX3_meanHelp_2 : decode cX3_meanHelp 2 = .ok (.putfield 86, 3) := dk_181 0 86 (dk_at dksX3_meanHelp_0 2 rfl rfl)
theorem dX3_meanHelp_5 : decode cX3_meanHelp 5 = .ok (.lconst 0, 1) := dk_9 (dk_at dksX3_meanHelp_0 5 rfl rfl)
theorem dX3_meanHelp_6 : decode cX3_meanHelp 6 = .ok (.lstore_n 1, 1) := dk_64 (dk_at dksX3_meanHelp_0 6 rfl rfl)
theorem dX3_meanHelp_7 : decode cX3_meanHelp 7 = .ok (.iconst 0, 1) := dk_3 (dk_at dksX3_meanHelp_0 7 rfl rfl)
theorem dX3_meanHelp_8 : decode cX3_meanHelp 8 = .ok (.istore_n 3, 1) := dk_62 (dk_at dksX3_meanHelp_0 8 rfl rfl)
theorem dX3_meanHelp_9 : decode cX3_meanHelp 9 = .ok (.iload_n 3, 1) := dk_29 (dk_at dksX3_meanHelp_0 9 rfl rfl)
theorem dX3_meanHelp_10 : decode cX3_meanHelp 10 = .ok (.aload_n 0, 1) := dk_42 (dk_at dksX3_meanHelp_0 10 rfl rfl)
theorem dX3_meanHelp_11 : decode cX3_meanHelp 11 = .ok (.getfield 89, 3) := dk_180 0 89 (dk_at dksX3_meanHelp_0 11 rfl rfl)
theorem dX3_meanHelp_14 : decode cX3_meanHelp 14 = .ok (.if_icmp .ge 22, 3) := dk_162 0 22 (dk_at dksX3_meanHelp_0 14 rfl rfl)
theorem dX3_meanHelp_17 : decode cX3_meanHelp 17 = .ok (.lload_n 1, 1) := dk_31 (dk_at dksX3_meanHelp_0 17 rfl rfl)
theorem dX3_meanHelp_18 : decode cX3_meanHelp 18 = .ok (.aload_n 0, 1) := dk_42 (dk_at dksX3_meanHelp_0 18 rfl rfl)
theorem dX3_meanHelp_19 : decode cX3_meanHelp 19 = .ok (.iload_n 3, 1) := dk_29 (dk_at dksX3_meanHelp_0 19 rfl rfl)
theorem dX3_meanHelp_20 : decode cX3_meanHelp 20 = .ok (.aload_n 0, 1) := dk_42 (dk_at dksX3_meanHelp_0 20 rfl rfl)
theorem dX3_meanHelp_21 : decode cX3_meanHelp 21 = .ok (.getfield 135, 3) := dk_180 0 135 (dk_at dksX3_meanHelp_0 21 rfl rfl)
theorem dX3_meanHelp_24 : decode cX3_meanHelp 24 = .ok (.invokevirtual 197, 3) := dk_182 0 197 (dk_at dksX3_meanHelp_1 0 rfl rfl)
theorem dX3_meanHelp_27 : decode cX3_meanHelp 27 = .ok (.i2l, 1) := dk_133 (dk_at dksX3_meanHelp_1 3 rfl rfl)
theorem dX3_meanHelp_28 : decode cX3_meanHelp 28 = .ok (.ladd, 1) := dk_97 (dk_at dksX3_meanHelp_1 4 rfl rfl)
theorem dX3_meanHelp_29 : decode cX3_meanHelp 29 = .ok (.lstore_n 1, 1) := dk_64 (dk_at dksX3_meanHelp_1 5 rfl rfl)
theorem dX3_meanHelp_30 : decode cX3_meanHelp 30 = .ok (.iinc 3 1, 3) := dk_132 3 1 (dk_at dksX3_meanHelp_1 6 rfl rfl)
theorem dX3_meanHelp_33 : decode cX3_meanHelp 33 = .ok (.goto (-24), 3) := dk_167 255 232 (dk_at dksX3_meanHelp_1 9 rfl rfl)
theorem dX3_meanHelp_36 : decode cX3_meanHelp 36 = .ok (.aload_n 0, 1) := dk_42 (dk_at dksX3_meanHelp_1 12 rfl rfl)
theorem dX3_meanHelp_37 : decode cX3_meanHelp 37 = .ok (.getfield 89, 3) := dk_180 0 89 (dk_at dksX3_meanHelp_1 13 rfl rfl)
theorem dX3_meanHelp_40 : decode cX3_meanHelp 40 = .ok (.ifCond .ne 7, 3) := dk_154 0 7 (dk_at dksX3_meanHelp_1 16 rfl rfl)
theorem dX3_meanHelp_43 : decode cX3_meanHelp 43 = .ok (.dconst 0, 1) := dk_14 (dk_at dksX3_meanHelp_1 19 rfl rfl)
theorem dX3_meanHelp_44 : decode cX3_meanHelp 44 = .ok (.goto 11, 3) := dk_167 0 11 (dk_at dksX3_meanHelp_1 20 rfl rfl)
theorem dX3_meanHelp_47 : decode cX3_meanHelp 47 = .ok (.lload_n 1, 1) := dk_31 (dk_at dksX3_meanHelp_1 23 rfl rfl)
theorem dX3_meanHelp_48 : decode cX3_meanHelp 48 = .ok (.l2d, 1) := dk_138 (dk_at dksX3_meanHelp_2 0 rfl rfl)
theorem dX3_meanHelp_49 : decode cX3_meanHelp 49 = .ok (.aload_n 0, 1) := dk_42 (dk_at dksX3_meanHelp_2 1 rfl rfl)
theorem dX3_meanHelp_50 : decode cX3_meanHelp 50 = .ok (.getfield 89, 3) := dk_180 0 89 (dk_at dksX3_meanHelp_2 2 rfl rfl)
theorem dX3_meanHelp_53 : decode cX3_meanHelp 53 = .ok (.i2d, 1) := dk_135 (dk_at dksX3_meanHelp_2 5 rfl rfl)
theorem dX3_meanHelp_54 : decode cX3_meanHelp 54 = .ok (.ddiv, 1) := dk_111 (dk_at dksX3_meanHelp_2 6 rfl rfl)
theorem dX3_meanHelp_55 : decode cX3_meanHelp 55 = .ok (.dreturn, 1) := dk_175 (dk_at dksX3_meanHelp_2 7 rfl rfl)
abbrev cX3_calledBack : ByteArray := prog_13_method_60_code
def yX3_calledBack : MethodName := ⟨RX3, "calledBack", "()F"⟩
def dkwX3_calledBack_3 : List UInt8 := [167, 255, 234, 33, 9, 148, 154, 0, 7, 11, 167, 0, 8, 31, 137, 33, 137, 110, 174]
abbrev dktX3_calledBack_3 : List UInt8 := dkwX3_calledBack_3 ++ []
def dkwX3_calledBack_2 : List UInt8 := [21, 5, 42, 180, 0, 89, 162, 0, 19, 33, 42, 21, 5, 182, 1, 32, 133, 97, 66, 132, 5, 1]
abbrev dktX3_calledBack_2 : List UInt8 := dkwX3_calledBack_2 ++ dktX3_calledBack_3
def dkwX3_calledBack_1 : List UInt8 := [180, 0, 71, 16, 6, 21, 5, 104, 6, 96, 46, 133, 97, 64, 132, 5, 1, 167, 255, 228, 3, 54, 5]
abbrev dktX3_calledBack_1 : List UInt8 := dkwX3_calledBack_1 ++ dktX3_calledBack_2
def dkwX3_calledBack_0 : List UInt8 := [42, 3, 181, 0, 86, 9, 64, 9, 66, 3, 54, 5, 21, 5, 42, 180, 0, 99, 162, 0, 25, 31, 42]
abbrev dktX3_calledBack_0 : List UInt8 := dkwX3_calledBack_0 ++ dktX3_calledBack_1
theorem dksX3_calledBack_0 : cX3_calledBack.data.toList.drop 0 = dktX3_calledBack_0 := by decide +kernel
theorem dksX3_calledBack_1 : cX3_calledBack.data.toList.drop 23 = dktX3_calledBack_1 := dk_seg dksX3_calledBack_0 23 rfl rfl
theorem dksX3_calledBack_2 : cX3_calledBack.data.toList.drop 46 = dktX3_calledBack_2 := dk_seg dksX3_calledBack_1 23 rfl rfl
theorem dksX3_calledBack_3 : cX3_calledBack.data.toList.drop 68 = dktX3_calledBack_3 := dk_seg dksX3_calledBack_2 22 rfl rfl
theorem dX3_calledBack_0 : decode cX3_calledBack 0 = .ok (.aload_n 0, 1) := dk_42 (dk_at dksX3_calledBack_0 0 rfl rfl)
theorem dX3_calledBack_1 : decode cX3_calledBack 1 = .ok (.iconst 0, 1) := dk_3 (dk_at dksX3_calledBack_0 1 rfl rfl)
theorem dX3_calledBack_2 : decode cX3_calledBack 2 = .ok (.putfield 86, 3) := dk_181 0 86 (dk_at dksX3_calledBack_0 2 rfl rfl)
theorem dX3_calledBack_5 : decode cX3_calledBack 5 = .ok (.lconst 0, 1) := dk_9 (dk_at dksX3_calledBack_0 5 rfl rfl)
theorem dX3_calledBack_6 : decode cX3_calledBack 6 = .ok (.lstore_n 1, 1) := dk_64 (dk_at dksX3_calledBack_0 6 rfl rfl)
theorem dX3_calledBack_7 : decode cX3_calledBack 7 = .ok (.lconst 0, 1) := dk_9 (dk_at dksX3_calledBack_0 7 rfl rfl)
theorem dX3_calledBack_8 : decode cX3_calledBack 8 = .ok (.lstore_n 3, 1) := dk_66 (dk_at dksX3_calledBack_0 8 rfl rfl)
theorem dX3_calledBack_9 : decode cX3_calledBack 9 = .ok (.iconst 0, 1) := dk_3 (dk_at dksX3_calledBack_0 9 rfl rfl)
theorem dX3_calledBack_10 : decode cX3_calledBack 10 = .ok (.istore 5, 2) := dk_54 5 (dk_at dksX3_calledBack_0 10 rfl rfl)
theorem dX3_calledBack_12 : decode cX3_calledBack 12 = .ok (.iload 5, 2) := dk_21 5 (dk_at dksX3_calledBack_0 12 rfl rfl)
theorem dX3_calledBack_14 : decode cX3_calledBack 14 = .ok (.aload_n 0, 1) := dk_42 (dk_at dksX3_calledBack_0 14 rfl rfl)
theorem dX3_calledBack_15 : decode cX3_calledBack 15 = .ok (.getfield 99, 3) := dk_180 0 99 (dk_at dksX3_calledBack_0 15 rfl rfl)
theorem dX3_calledBack_18 : decode cX3_calledBack 18 = .ok (.if_icmp .ge 25, 3) := dk_162 0 25 (dk_at dksX3_calledBack_0 18 rfl rfl)
theorem dX3_calledBack_21 : decode cX3_calledBack 21 = .ok (.lload_n 1, 1) := dk_31 (dk_at dksX3_calledBack_0 21 rfl rfl)
theorem dX3_calledBack_22 : decode cX3_calledBack 22 = .ok (.aload_n 0, 1) := dk_42 (dk_at dksX3_calledBack_0 22 rfl rfl)
theorem dX3_calledBack_23 : decode cX3_calledBack 23 = .ok (.getfield 71, 3) := dk_180 0 71 (dk_at dksX3_calledBack_1 0 rfl rfl)
theorem dX3_calledBack_26 : decode cX3_calledBack 26 = .ok (.bipush 6, 2) := dk_16 6 (dk_at dksX3_calledBack_1 3 rfl rfl)
theorem dX3_calledBack_28 : decode cX3_calledBack 28 = .ok (.iload 5, 2) := dk_21 5 (dk_at dksX3_calledBack_1 5 rfl rfl)
theorem dX3_calledBack_30 : decode cX3_calledBack 30 = .ok (.imul, 1) := dk_104 (dk_at dksX3_calledBack_1 7 rfl rfl)
theorem dX3_calledBack_31 : decode cX3_calledBack 31 = .ok (.iconst 3, 1) := dk_6 (dk_at dksX3_calledBack_1 8 rfl rfl)
theorem dX3_calledBack_32 : decode cX3_calledBack 32 = .ok (.iadd, 1) := dk_96 (dk_at dksX3_calledBack_1 9 rfl rfl)
theorem dX3_calledBack_33 : decode cX3_calledBack 33 = .ok (.iaload, 1) := dk_46 (dk_at dksX3_calledBack_1 10 rfl rfl)
theorem dX3_calledBack_34 : decode cX3_calledBack 34 = .ok (.i2l, 1) := dk_133 (dk_at dksX3_calledBack_1 11 rfl rfl)
theorem dX3_calledBack_35 : decode cX3_calledBack 35 = .ok (.ladd, 1) := dk_97 (dk_at dksX3_calledBack_1 12 rfl rfl)
theorem dX3_calledBack_36 : decode cX3_calledBack 36 = .ok (.lstore_n 1, 1) := dk_64 (dk_at dksX3_calledBack_1 13 rfl rfl)
theorem dX3_calledBack_37 : decode cX3_calledBack 37 = .ok (.iinc 5 1, 3) := dk_132 5 1 (dk_at dksX3_calledBack_1 14 rfl rfl)
theorem dX3_calledBack_40 : decode cX3_calledBack 40 = .ok (.goto (-28), 3) := dk_167 255 228 (dk_at dksX3_calledBack_1 17 rfl rfl)
theorem dX3_calledBack_43 : decode cX3_calledBack 43 = .ok (.iconst 0, 1) := dk_3 (dk_at dksX3_calledBack_1 20 rfl rfl)
theorem dX3_calledBack_44 : decode cX3_calledBack 44 = .ok (.istore 5, 2) := dk_54 5 (dk_at dksX3_calledBack_1 21 rfl rfl)
theorem dX3_calledBack_46 : decode cX3_calledBack 46 = .ok (.iload 5, 2) := dk_21 5 (dk_at dksX3_calledBack_2 0 rfl rfl)
theorem dX3_calledBack_48 : decode cX3_calledBack 48 = .ok (.aload_n 0, 1) := dk_42 (dk_at dksX3_calledBack_2 2 rfl rfl)
theorem dX3_calledBack_49 : decode cX3_calledBack 49 = .ok (.getfield 89, 3) := dk_180 0 89 (dk_at dksX3_calledBack_2 3 rfl rfl)
theorem dX3_calledBack_52 : decode cX3_calledBack 52 = .ok (.if_icmp .ge 19, 3) := dk_162 0 19 (dk_at dksX3_calledBack_2 6 rfl rfl)
theorem dX3_calledBack_55 : decode cX3_calledBack 55 = .ok (.lload_n 3, 1) := dk_33 (dk_at dksX3_calledBack_2 9 rfl rfl)
theorem dX3_calledBack_56 : decode cX3_calledBack 56 = .ok (.aload_n 0, 1) := dk_42 (dk_at dksX3_calledBack_2 10 rfl rfl)
theorem dX3_calledBack_57 : decode cX3_calledBack 57 = .ok (.iload 5, 2) := dk_21 5 (dk_at dksX3_calledBack_2 11 rfl rfl)
theorem dX3_calledBack_59 : decode cX3_calledBack 59 = .ok (.invokevirtual 288, 3) := dk_182 1 32 (dk_at dksX3_calledBack_2 13 rfl rfl)
theorem dX3_calledBack_62 : decode cX3_calledBack 62 = .ok (.i2l, 1) := dk_133 (dk_at dksX3_calledBack_2 16 rfl rfl)
theorem dX3_calledBack_63 : decode cX3_calledBack 63 = .ok (.ladd, 1) := dk_97 (dk_at dksX3_calledBack_2 17 rfl rfl)
theorem dX3_calledBack_64 : decode cX3_calledBack 64 = .ok (.lstore_n 3, 1) := dk_66 (dk_at dksX3_calledBack_2 18 rfl rfl)
theorem dX3_calledBack_65 : decode cX3_calledBack 65 = .ok (.iinc 5 1, 3) := dk_132 5 1 (dk_at dksX3_calledBack_2 19 rfl rfl)
theorem dX3_calledBack_68 : decode cX3_calledBack 68 = .ok (.goto (-22), 3) := dk_167 255 234 (dk_at dksX3_calledBack_3 0 rfl rfl)
theorem dX3_calledBack_71 : decode cX3_calledBack 71 = .ok (.lload_n 3, 1) := dk_33 (dk_at dksX3_calledBack_3 3 rfl rfl)
theorem dX3_calledBack_72 : decode cX3_calledBack 72 = .ok (.lconst 0, 1) := dk_9 (dk_at dksX3_calledBack_3 4 rfl rfl)
theorem dX3_calledBack_73 : decode cX3_calledBack 73 = .ok (.lcmp, 1) := dk_148 (dk_at dksX3_calledBack_3 5 rfl rfl)
theorem dX3_calledBack_74 : decode cX3_calledBack 74 = .ok (.ifCond .ne 7, 3) := dk_154 0 7 (dk_at dksX3_calledBack_3 6 rfl rfl)
theorem dX3_calledBack_77 : decode cX3_calledBack 77 = .ok (.fconst 0, 1) := dk_11 (dk_at dksX3_calledBack_3 9 rfl rfl)
theorem dX3_calledBack_78 : decode cX3_calledBack 78 = .ok (.goto 8, 3) := dk_167 0 8 (dk_at dksX3_calledBack_3 10 rfl rfl)
theorem dX3_calledBack_81 : decode cX3_calledBack 81 = .ok (.lload_n 1, 1) := dk_31 (dk_at dksX3_calledBack_3 13 rfl rfl)
theorem dX3_calledBack_82 : decode cX3_calledBack 82 = .ok (.l2f, 1) := dk_137 (dk_at dksX3_calledBack_3 14 rfl rfl)
theorem dX3_calledBack_83 : decode cX3_calledBack 83 = .ok (.lload_n 3, 1) := dk_33 (dk_at dksX3_calledBack_3 15 rfl rfl)
theorem dX3_calledBack_84 : decode cX3_calledBack 84 = .ok (.l2f, 1) := dk_137 (dk_at dksX3_calledBack_3 16 rfl rfl)
theorem dX3_calledBack_85 : decode cX3_calledBack 85 = .ok (.fdiv, 1) := dk_110 (dk_at dksX3_calledBack_3 17 rfl rfl)
theorem dX3_calledBack_86 : decode cX3_calledBack 86 = .ok (.freturn, 1) := dk_174 (dk_at dksX3_calledBack_3 18 rfl rfl)
abbrev cX3_errors : ByteArray := prog_13_method_61_code
def yX3_errors : MethodName := ⟨RX3, "errors", "()I"⟩
def dkwX3_errors_7 : List UInt8 := [167, 0, 4, 3, 96, 60, 132, 2, 1, 167, 255, 192, 27, 172]
abbrev dktX3_errors_7 : List UInt8 := dkwX3_errors_7 ++ []
def dkwX3_errors_6 : List UInt8 := [27, 21, 4, 5, 160, 0, 7, 29, 153, 0, 13, 21, 4, 6, 160, 0, 11, 29, 153, 0, 7, 4]
abbrev dktX3_errors_6 : List UInt8 := dkwX3_errors_6 ++ dktX3_errors_7
def dkwX3_errors_5 : List UInt8 := [180, 0, 71, 16, 6, 28, 104, 7, 96, 46, 62, 42, 180, 0, 71, 16, 6, 28, 104, 8, 96, 46, 54, 4]
abbrev dktX3_errors_5 : List UInt8 := dkwX3_errors_5 ++ dktX3_errors_6
def dkwX3_errors_4 : List UInt8 := [167, 0, 4, 4, 96, 60, 132, 2, 1, 167, 255, 162, 3, 61, 28, 42, 180, 0, 99, 162, 0, 62, 42]
abbrev dktX3_errors_4 : List UInt8 := dkwX3_errors_4 ++ dktX3_errors_5
def dkwX3_errors_3 : List UInt8 := [42, 180, 0, 24, 28, 46, 42, 180, 0, 27, 28, 46, 96, 42, 180, 0, 30, 28, 46, 96, 160, 0, 7, 3]
abbrev dktX3_errors_3 : List UInt8 := dkwX3_errors_3 ++ dktX3_errors_4
def dkwX3_errors_2 : List UInt8 := [96, 46, 164, 0, 7, 4, 167, 0, 4, 3, 96, 60, 132, 3, 1, 167, 255, 214, 27, 42, 28, 182, 1, 32]
abbrev dktX3_errors_2 : List UInt8 := dkwX3_errors_2 ++ dktX3_errors_3
def dkwX3_errors_1 : List UInt8 := [162, 0, 42, 27, 42, 180, 0, 36, 16, 51, 28, 104, 29, 96, 46, 42, 180, 0, 33, 16, 51, 28, 104, 29]
abbrev dktX3_errors_1 : List UInt8 := dkwX3_errors_1 ++ dktX3_errors_2
def dkwX3_errors_0 : List UInt8 := [42, 3, 181, 0, 86, 3, 60, 3, 61, 28, 42, 180, 0, 89, 162, 0, 92, 3, 62, 29, 16, 51]
abbrev dktX3_errors_0 : List UInt8 := dkwX3_errors_0 ++ dktX3_errors_1
theorem dksX3_errors_0 : cX3_errors.data.toList.drop 0 = dktX3_errors_0 := by decide +kernel
theorem dksX3_errors_1 : cX3_errors.data.toList.drop 22 = dktX3_errors_1 := dk_seg dksX3_errors_0 22 rfl rfl
theorem dksX3_errors_2 : cX3_errors.data.toList.drop 46 = dktX3_errors_2 := dk_seg dksX3_errors_1 24 rfl rfl
theorem dksX3_errors_3 : cX3_errors.data.toList.drop 70 = dktX3_errors_3 := dk_seg dksX3_errors_2 24 rfl rfl
theorem dksX3_errors_4 : cX3_errors.data.toList.drop 94 = dktX3_errors_4 := dk_seg dksX3_errors_3 24 rfl rfl
theorem dksX3_errors_5 : cX3_errors.data.toList.drop 117 = dktX3_errors_5 := dk_seg dksX3_errors_4 23 rfl rfl
theorem dksX3_errors_6 : cX3_errors.data.toList.drop 141 = dktX3_errors_6 := dk_seg dksX3_errors_5 24 rfl rfl
theorem dksX3_errors_7 : cX3_errors.data.toList.drop 163 = dktX3_errors_7 := dk_seg dksX3_errors_6 22 rfl rfl
theorem dX3_errors_0 : decode cX3_errors 0 = .ok (.aload_n 0, 1) := dk_42 (dk_at dksX3_errors_0 0 rfl rfl)
theorem dX3_errors_1 : decode cX3_errors 1 = .ok (.iconst 0, 1) := dk_3 (dk_at dksX3_errors_0 1 rfl rfl)
theorem dX3_errors_2 : decode cX3_errors 2 = .ok (.putfield 86, 3) := dk_181 0 86 (dk_at dksX3_errors_0 2 rfl rfl)
theorem dX3_errors_5 : decode cX3_errors 5 = .ok (.iconst 0, 1) := dk_3 (dk_at dksX3_errors_0 5 rfl rfl)
theorem dX3_errors_6 : decode cX3_errors 6 = .ok (.istore_n 1, 1) := dk_60 (dk_at dksX3_errors_0 6 rfl rfl)
theorem dX3_errors_7 : decode cX3_errors 7 = .ok (.iconst 0, 1) := dk_3 (dk_at dksX3_errors_0 7 rfl rfl)
theorem dX3_errors_8 : decode cX3_errors 8 = .ok (.istore_n 2, 1) := dk_61 (dk_at dksX3_errors_0 8 rfl rfl)
theorem dX3_errors_9 : decode cX3_errors 9 = .ok (.iload_n 2, 1) := dk_28 (dk_at dksX3_errors_0 9 rfl rfl)
theorem dX3_errors_10 : decode cX3_errors 10 = .ok (.aload_n 0, 1) := dk_42 (dk_at dksX3_errors_0 10 rfl rfl)
theorem dX3_errors_11 : decode cX3_errors 11 = .ok (.getfield 89, 3) := dk_180 0 89 (dk_at dksX3_errors_0 11 rfl rfl)
theorem dX3_errors_14 : decode cX3_errors 14 = .ok (.if_icmp .ge 92, 3) := dk_162 0 92 (dk_at dksX3_errors_0 14 rfl rfl)
theorem dX3_errors_17 : decode cX3_errors 17 = .ok (.iconst 0, 1) := dk_3 (dk_at dksX3_errors_0 17 rfl rfl)
theorem dX3_errors_18 : decode cX3_errors 18 = .ok (.istore_n 3, 1) := dk_62 (dk_at dksX3_errors_0 18 rfl rfl)
theorem dX3_errors_19 : decode cX3_errors 19 = .ok (.iload_n 3, 1) := dk_29 (dk_at dksX3_errors_0 19 rfl rfl)
theorem dX3_errors_20 : decode cX3_errors 20 = .ok (.bipush 51, 2) := dk_16 51 (dk_at dksX3_errors_0 20 rfl rfl)
theorem dX3_errors_22 : decode cX3_errors 22 = .ok (.if_icmp .ge 42, 3) := dk_162 0 42 (dk_at dksX3_errors_1 0 rfl rfl)
theorem dX3_errors_25 : decode cX3_errors 25 = .ok (.iload_n 1, 1) := dk_27 (dk_at dksX3_errors_1 3 rfl rfl)
theorem dX3_errors_26 : decode cX3_errors 26 = .ok (.aload_n 0, 1) := dk_42 (dk_at dksX3_errors_1 4 rfl rfl)
theorem dX3_errors_27 : decode cX3_errors 27 = .ok (.getfield 36, 3) := dk_180 0 36 (dk_at dksX3_errors_1 5 rfl rfl)
theorem dX3_errors_30 : decode cX3_errors 30 = .ok (.bipush 51, 2) := dk_16 51 (dk_at dksX3_errors_1 8 rfl rfl)
theorem dX3_errors_32 : decode cX3_errors 32 = .ok (.iload_n 2, 1) := dk_28 (dk_at dksX3_errors_1 10 rfl rfl)
theorem dX3_errors_33 : decode cX3_errors 33 = .ok (.imul, 1) := dk_104 (dk_at dksX3_errors_1 11 rfl rfl)
theorem dX3_errors_34 : decode cX3_errors 34 = .ok (.iload_n 3, 1) := dk_29 (dk_at dksX3_errors_1 12 rfl rfl)
theorem dX3_errors_35 : decode cX3_errors 35 = .ok (.iadd, 1) := dk_96 (dk_at dksX3_errors_1 13 rfl rfl)
theorem dX3_errors_36 : decode cX3_errors 36 = .ok (.iaload, 1) := dk_46 (dk_at dksX3_errors_1 14 rfl rfl)
theorem dX3_errors_37 : decode cX3_errors 37 = .ok (.aload_n 0, 1) := dk_42 (dk_at dksX3_errors_1 15 rfl rfl)
theorem dX3_errors_38 : decode cX3_errors 38 = .ok (.getfield 33, 3) := dk_180 0 33 (dk_at dksX3_errors_1 16 rfl rfl)
theorem dX3_errors_41 : decode cX3_errors 41 = .ok (.bipush 51, 2) := dk_16 51 (dk_at dksX3_errors_1 19 rfl rfl)
theorem dX3_errors_43 : decode cX3_errors 43 = .ok (.iload_n 2, 1) := dk_28 (dk_at dksX3_errors_1 21 rfl rfl)
theorem dX3_errors_44 : decode cX3_errors 44 = .ok (.imul, 1) := dk_104 (dk_at dksX3_errors_1 22 rfl rfl)
theorem dX3_errors_45 : decode cX3_errors 45 = .ok (.iload_n 3, 1) := dk_29 (dk_at dksX3_errors_1 23 rfl rfl)
theorem dX3_errors_46 : decode cX3_errors 46 = .ok (.iadd, 1) := dk_96 (dk_at dksX3_errors_2 0 rfl rfl)
theorem dX3_errors_47 : decode cX3_errors 47 = .ok (.iaload, 1) := dk_46 (dk_at dksX3_errors_2 1 rfl rfl)
theorem dX3_errors_48 : decode cX3_errors 48 = .ok (.if_icmp .le 7, 3) := dk_164 0 7 (dk_at dksX3_errors_2 2 rfl rfl)
theorem dX3_errors_51 : decode cX3_errors 51 = .ok (.iconst 1, 1) := dk_4 (dk_at dksX3_errors_2 5 rfl rfl)
theorem dX3_errors_52 : decode cX3_errors 52 = .ok (.goto 4, 3) := dk_167 0 4 (dk_at dksX3_errors_2 6 rfl rfl)
theorem dX3_errors_55 : decode cX3_errors 55 = .ok (.iconst 0, 1) := dk_3 (dk_at dksX3_errors_2 9 rfl rfl)
theorem dX3_errors_56 : decode cX3_errors 56 = .ok (.iadd, 1) := dk_96 (dk_at dksX3_errors_2 10 rfl rfl)
theorem dX3_errors_57 : decode cX3_errors 57 = .ok (.istore_n 1, 1) := dk_60 (dk_at dksX3_errors_2 11 rfl rfl)
theorem dX3_errors_58 : decode cX3_errors 58 = .ok (.iinc 3 1, 3) := dk_132 3 1 (dk_at dksX3_errors_2 12 rfl rfl)
theorem dX3_errors_61 : decode cX3_errors 61 = .ok (.goto (-42), 3) := dk_167 255 214 (dk_at dksX3_errors_2 15 rfl rfl)
theorem dX3_errors_64 : decode cX3_errors 64 = .ok (.iload_n 1, 1) := dk_27 (dk_at dksX3_errors_2 18 rfl rfl)
theorem dX3_errors_65 : decode cX3_errors 65 = .ok (.aload_n 0, 1) := dk_42 (dk_at dksX3_errors_2 19 rfl rfl)
theorem dX3_errors_66 : decode cX3_errors 66 = .ok (.iload_n 2, 1) := dk_28 (dk_at dksX3_errors_2 20 rfl rfl)
theorem dX3_errors_67 : decode cX3_errors 67 = .ok (.invokevirtual 288, 3) := dk_182 1 32 (dk_at dksX3_errors_2 21 rfl rfl)
theorem dX3_errors_70 : decode cX3_errors 70 = .ok (.aload_n 0, 1) := dk_42 (dk_at dksX3_errors_3 0 rfl rfl)
theorem dX3_errors_71 : decode cX3_errors 71 = .ok (.getfield 24, 3) := dk_180 0 24 (dk_at dksX3_errors_3 1 rfl rfl)
theorem dX3_errors_74 : decode cX3_errors 74 = .ok (.iload_n 2, 1) := dk_28 (dk_at dksX3_errors_3 4 rfl rfl)
theorem dX3_errors_75 : decode cX3_errors 75 = .ok (.iaload, 1) := dk_46 (dk_at dksX3_errors_3 5 rfl rfl)
theorem dX3_errors_76 : decode cX3_errors 76 = .ok (.aload_n 0, 1) := dk_42 (dk_at dksX3_errors_3 6 rfl rfl)
theorem dX3_errors_77 : decode cX3_errors 77 = .ok (.getfield 27, 3) := dk_180 0 27 (dk_at dksX3_errors_3 7 rfl rfl)
theorem dX3_errors_80 : decode cX3_errors 80 = .ok (.iload_n 2, 1) := dk_28 (dk_at dksX3_errors_3 10 rfl rfl)
theorem dX3_errors_81 : decode cX3_errors 81 = .ok (.iaload, 1) := dk_46 (dk_at dksX3_errors_3 11 rfl rfl)
theorem dX3_errors_82 : decode cX3_errors 82 = .ok (.iadd, 1) := dk_96 (dk_at dksX3_errors_3 12 rfl rfl)
theorem dX3_errors_83 : decode cX3_errors 83 = .ok (.aload_n 0, 1) := dk_42 (dk_at dksX3_errors_3 13 rfl rfl)
theorem dX3_errors_84 : decode cX3_errors 84 = .ok (.getfield 30, 3) := dk_180 0 30 (dk_at dksX3_errors_3 14 rfl rfl)
theorem dX3_errors_87 : decode cX3_errors 87 = .ok (.iload_n 2, 1) := dk_28 (dk_at dksX3_errors_3 17 rfl rfl)
theorem dX3_errors_88 : decode cX3_errors 88 = .ok (.iaload, 1) := dk_46 (dk_at dksX3_errors_3 18 rfl rfl)
theorem dX3_errors_89 : decode cX3_errors 89 = .ok (.iadd, 1) := dk_96 (dk_at dksX3_errors_3 19 rfl rfl)
theorem dX3_errors_90 : decode cX3_errors 90 = .ok (.if_icmp .ne 7, 3) := dk_160 0 7 (dk_at dksX3_errors_3 20 rfl rfl)
theorem dX3_errors_93 : decode cX3_errors 93 = .ok (.iconst 0, 1) := dk_3 (dk_at dksX3_errors_3 23 rfl rfl)
theorem dX3_errors_94 : decode cX3_errors 94 = .ok (.goto 4, 3) := dk_167 0 4 (dk_at dksX3_errors_4 0 rfl rfl)
theorem dX3_errors_97 : decode cX3_errors 97 = .ok (.iconst 1, 1) := dk_4 (dk_at dksX3_errors_4 3 rfl rfl)
theorem dX3_errors_98 : decode cX3_errors 98 = .ok (.iadd, 1) := dk_96 (dk_at dksX3_errors_4 4 rfl rfl)
theorem dX3_errors_99 : decode cX3_errors 99 = .ok (.istore_n 1, 1) := dk_60 (dk_at dksX3_errors_4 5 rfl rfl)
theorem dX3_errors_100 : decode cX3_errors 100 = .ok (.iinc 2 1, 3) := dk_132 2 1 (dk_at dksX3_errors_4 6 rfl rfl)
theorem dX3_errors_103 : decode cX3_errors 103 = .ok (.goto (-94), 3) := dk_167 255 162 (dk_at dksX3_errors_4 9 rfl rfl)
theorem dX3_errors_106 : decode cX3_errors 106 = .ok (.iconst 0, 1) := dk_3 (dk_at dksX3_errors_4 12 rfl rfl)
theorem dX3_errors_107 : decode cX3_errors 107 = .ok (.istore_n 2, 1) := dk_61 (dk_at dksX3_errors_4 13 rfl rfl)
theorem dX3_errors_108 : decode cX3_errors 108 = .ok (.iload_n 2, 1) := dk_28 (dk_at dksX3_errors_4 14 rfl rfl)
theorem dX3_errors_109 : decode cX3_errors 109 = .ok (.aload_n 0, 1) := dk_42 (dk_at dksX3_errors_4 15 rfl rfl)
theorem dX3_errors_110 : decode cX3_errors 110 = .ok (.getfield 99, 3) := dk_180 0 99 (dk_at dksX3_errors_4 16 rfl rfl)
theorem dX3_errors_113 : decode cX3_errors 113 = .ok (.if_icmp .ge 62, 3) := dk_162 0 62 (dk_at dksX3_errors_4 19 rfl rfl)
theorem dX3_errors_116 : decode cX3_errors 116 = .ok (.aload_n 0, 1) := dk_42 (dk_at dksX3_errors_4 22 rfl rfl)
theorem dX3_errors_117 : decode cX3_errors 117 = .ok (.getfield 71, 3) := dk_180 0 71 (dk_at dksX3_errors_5 0 rfl rfl)
theorem dX3_errors_120 : decode cX3_errors 120 = .ok (.bipush 6, 2) := dk_16 6 (dk_at dksX3_errors_5 3 rfl rfl)
theorem dX3_errors_122 : decode cX3_errors 122 = .ok (.iload_n 2, 1) := dk_28 (dk_at dksX3_errors_5 5 rfl rfl)
theorem dX3_errors_123 : decode cX3_errors 123 = .ok (.imul, 1) := dk_104 (dk_at dksX3_errors_5 6 rfl rfl)
theorem dX3_errors_124 : decode cX3_errors 124 = .ok (.iconst 4, 1) := dk_7 (dk_at dksX3_errors_5 7 rfl rfl)
theorem dX3_errors_125 : decode cX3_errors 125 = .ok (.iadd, 1) := dk_96 (dk_at dksX3_errors_5 8 rfl rfl)
theorem dX3_errors_126 : decode cX3_errors 126 = .ok (.iaload, 1) := dk_46 (dk_at dksX3_errors_5 9 rfl rfl)
theorem dX3_errors_127 : decode cX3_errors 127 = .ok (.istore_n 3, 1) := dk_62 (dk_at dksX3_errors_5 10 rfl rfl)
theorem dX3_errors_128 : decode cX3_errors 128 = .ok (.aload_n 0, 1) := dk_42 (dk_at dksX3_errors_5 11 rfl rfl)
theorem dX3_errors_129 : decode cX3_errors 129 = .ok (.getfield 71, 3) := dk_180 0 71 (dk_at dksX3_errors_5 12 rfl rfl)
theorem dX3_errors_132 : decode cX3_errors 132 = .ok (.bipush 6, 2) := dk_16 6 (dk_at dksX3_errors_5 15 rfl rfl)
theorem dX3_errors_134 : decode cX3_errors 134 = .ok (.iload_n 2, 1) := dk_28 (dk_at dksX3_errors_5 17 rfl rfl)
theorem dX3_errors_135 : decode cX3_errors 135 = .ok (.imul, 1) := dk_104 (dk_at dksX3_errors_5 18 rfl rfl)
theorem dX3_errors_136 : decode cX3_errors 136 = .ok (.iconst 5, 1) := dk_8 (dk_at dksX3_errors_5 19 rfl rfl)
theorem dX3_errors_137 : decode cX3_errors 137 = .ok (.iadd, 1) := dk_96 (dk_at dksX3_errors_5 20 rfl rfl)
theorem dX3_errors_138 : decode cX3_errors 138 = .ok (.iaload, 1) := dk_46 (dk_at dksX3_errors_5 21 rfl rfl)
theorem dX3_errors_139 : decode cX3_errors 139 = .ok (.istore 4, 2) := dk_54 4 (dk_at dksX3_errors_5 22 rfl rfl)
theorem dX3_errors_141 : decode cX3_errors 141 = .ok (.iload_n 1, 1) := dk_27 (dk_at dksX3_errors_6 0 rfl rfl)
theorem dX3_errors_142 : decode cX3_errors 142 = .ok (.iload 4, 2) := dk_21 4 (dk_at dksX3_errors_6 1 rfl rfl)
theorem dX3_errors_144 : decode cX3_errors 144 = .ok (.iconst 2, 1) := dk_5 (dk_at dksX3_errors_6 3 rfl rfl)
theorem dX3_errors_145 : decode cX3_errors 145 = .ok (.if_icmp .ne 7, 3) := dk_160 0 7 (dk_at dksX3_errors_6 4 rfl rfl)
theorem dX3_errors_148 : decode cX3_errors 148 = .ok (.iload_n 3, 1) := dk_29 (dk_at dksX3_errors_6 7 rfl rfl)
theorem dX3_errors_149 : decode cX3_errors 149 = .ok (.ifCond .eq 13, 3) := dk_153 0 13 (dk_at dksX3_errors_6 8 rfl rfl)
theorem dX3_errors_152 : decode cX3_errors 152 = .ok (.iload 4, 2) := dk_21 4 (dk_at dksX3_errors_6 11 rfl rfl)
theorem dX3_errors_154 : decode cX3_errors 154 = .ok (.iconst 3, 1) := dk_6 (dk_at dksX3_errors_6 13 rfl rfl)
theorem dX3_errors_155 : decode cX3_errors 155 = .ok (.if_icmp .ne 11, 3) := dk_160 0 11 (dk_at dksX3_errors_6 14 rfl rfl)
theorem dX3_errors_158 : decode cX3_errors 158 = .ok (.iload_n 3, 1) := dk_29 (dk_at dksX3_errors_6 17 rfl rfl)
theorem dX3_errors_159 : decode cX3_errors 159 = .ok (.ifCond .eq 7, 3) := dk_153 0 7 (dk_at dksX3_errors_6 18 rfl rfl)
theorem dX3_errors_162 : decode cX3_errors 162 = .ok (.iconst 1, 1) := dk_4 (dk_at dksX3_errors_6 21 rfl rfl)
theorem dX3_errors_163 : decode cX3_errors 163 = .ok (.goto 4, 3) := dk_167 0 4 (dk_at dksX3_errors_7 0 rfl rfl)
theorem dX3_errors_166 : decode cX3_errors 166 = .ok (.iconst 0, 1) := dk_3 (dk_at dksX3_errors_7 3 rfl rfl)
theorem dX3_errors_167 : decode cX3_errors 167 = .ok (.iadd, 1) := dk_96 (dk_at dksX3_errors_7 4 rfl rfl)
theorem dX3_errors_168 : decode cX3_errors 168 = .ok (.istore_n 1, 1) := dk_60 (dk_at dksX3_errors_7 5 rfl rfl)
theorem dX3_errors_169 : decode cX3_errors 169 = .ok (.iinc 2 1, 3) := dk_132 2 1 (dk_at dksX3_errors_7 6 rfl rfl)
theorem dX3_errors_172 : decode cX3_errors 172 = .ok (.goto (-64), 3) := dk_167 255 192 (dk_at dksX3_errors_7 9 rfl rfl)
theorem dX3_errors_175 : decode cX3_errors 175 = .ok (.iload_n 1, 1) := dk_27 (dk_at dksX3_errors_7 12 rfl rfl)
theorem dX3_errors_176 : decode cX3_errors 176 = .ok (.ireturn, 1) := dk_172 (dk_at dksX3_errors_7 13 rfl rfl)
theorem q94 : (Jvm.Cond.initialized "AppealrentModel") ∈ lw_all := lw_g (lw_at lw_m1 23 rfl) rfl
theorem q579 : (Jvm.Cond.selects "AppealrentModel" ({ cls := "java/lang/Object", name := "getClass", desc := "()Ljava/lang/Class;" } : Jvm.MethodName) ({ cls := "java/lang/Object", name := "getClass", desc := "()Ljava/lang/Class;" } : Jvm.MethodName)) ∈ lw_all := lw_g (lw_at lw_m3 28 rfl) rfl
theorem q1716 : (Jvm.Cond.selects "AppealrentModel" ({ cls := "java/lang/Object", name := "toString", desc := "()Ljava/lang/String;" } : Jvm.MethodName) ({ cls := "java/lang/Object", name := "toString", desc := "()Ljava/lang/String;" } : Jvm.MethodName)) ∈ lw_all := lw_g (lw_at lw_m7 205 rfl) rfl
theorem q1808 : (Jvm.Cond.instantiable "AppealrentModel" (29 : Nat)) ∈ lw_all := lw_g (lw_at lw_m8 57 rfl) rfl
theorem q1810 : (Jvm.Cond.instanceMethod ({ cls := "AppealrentModel", name := "<init>", desc := "()V" } : Jvm.MethodName)) ∈ lw_all := lw_g (lw_at lw_m8 59 rfl) rfl
theorem q1811 : (Jvm.Cond.code ({ cls := "AppealrentModel", name := "<init>", desc := "()V" } : Jvm.MethodName) prog_13_method_1_code (2 : Nat) (Option.none : Option Jvm.ClassFile.FieldType)) ∈ lw_all := lw_g (lw_at lw_m8 60 rfl) rfl
theorem q1812 : (Jvm.Cond.methodLink "AppealrentModel" (1 : Nat) ({ cls := "java/lang/Object", name := "<init>", desc := "()V" } : Jvm.MethodName)) ∈ lw_all := lw_g (lw_at lw_m8 61 rfl) rfl
theorem q1813 : (Jvm.Cond.classLink "AppealrentModel" (13 : Nat) "[I") ∈ lw_all := lw_g (lw_at lw_m8 62 rfl) rfl
theorem q1815 : (Jvm.Cond.classLink "AppealrentModel" (74 : Nat) "java/lang/StringBuilder") ∈ lw_all := lw_g (lw_at lw_m8 64 rfl) rfl
theorem q1816 : (Jvm.Cond.methodLink "AppealrentModel" (76 : Nat) ({ cls := "java/lang/StringBuilder", name := "<init>", desc := "()V" } : Jvm.MethodName)) ∈ lw_all := lw_g (lw_at lw_m8 65 rfl) rfl
theorem q1817 : (Jvm.Cond.constant "AppealrentModel" (84 : Nat) (40000 : Int32)) ∈ lw_all := lw_g (lw_at lw_m8 66 rfl) rfl
theorem q1818 : (Jvm.Cond.constant "AppealrentModel" (85 : Nat) (50000 : Int32)) ∈ lw_all := lw_g (lw_at lw_m8 67 rfl) rfl
theorem q1819 : (Jvm.Cond.fieldLink "AppealrentModel" (86 : Nat) "AppealrentModel" "thrown" "I") ∈ lw_all := lw_g (lw_at lw_m8 68 rfl) rfl
theorem q1820 : (Jvm.Cond.fieldLink "AppealrentModel" (135 : Nat) "AppealrentModel" "today" "I") ∈ lw_all := lw_g (lw_at lw_m8 69 rfl) rfl
theorem q1821 : (Jvm.Cond.fieldLink "AppealrentModel" (9 : Nat) "AppealrentModel" "tape" "[I") ∈ lw_all := lw_g (lw_at lw_m8 70 rfl) rfl
theorem q1822 : (Jvm.Cond.fieldLink "AppealrentModel" (105 : Nat) "AppealrentModel" "taped" "I") ∈ lw_all := lw_g (lw_at lw_m8 71 rfl) rfl
theorem q1823 : (Jvm.Cond.fieldLink "AppealrentModel" (89 : Nat) "AppealrentModel" "cases" "I") ∈ lw_all := lw_g (lw_at lw_m8 72 rfl) rfl
theorem q1824 : (Jvm.Cond.fieldLink "AppealrentModel" (14 : Nat) "AppealrentModel" "name" "[[I") ∈ lw_all := lw_g (lw_at lw_m8 73 rfl) rfl
theorem q1825 : (Jvm.Cond.fieldLink "AppealrentModel" (18 : Nat) "AppealrentModel" "first" "[I") ∈ lw_all := lw_g (lw_at lw_m8 74 rfl) rfl
theorem q1826 : (Jvm.Cond.fieldLink "AppealrentModel" (21 : Nat) "AppealrentModel" "end" "[I") ∈ lw_all := lw_g (lw_at lw_m8 75 rfl) rfl
theorem q1827 : (Jvm.Cond.fieldLink "AppealrentModel" (24 : Nat) "AppealrentModel" "kept" "[I") ∈ lw_all := lw_g (lw_at lw_m8 76 rfl) rfl
theorem q1828 : (Jvm.Cond.fieldLink "AppealrentModel" (27 : Nat) "AppealrentModel" "toTenant" "[I") ∈ lw_all := lw_g (lw_at lw_m8 77 rfl) rfl
theorem q1829 : (Jvm.Cond.fieldLink "AppealrentModel" (30 : Nat) "AppealrentModel" "toLandlord" "[I") ∈ lw_all := lw_g (lw_at lw_m8 78 rfl) rfl
theorem q1830 : (Jvm.Cond.fieldLink "AppealrentModel" (33 : Nat) "AppealrentModel" "paid" "[I") ∈ lw_all := lw_g (lw_at lw_m8 79 rfl) rfl
theorem q1831 : (Jvm.Cond.fieldLink "AppealrentModel" (36 : Nat) "AppealrentModel" "claimed" "[I") ∈ lw_all := lw_g (lw_at lw_m8 80 rfl) rfl
theorem q1832 : (Jvm.Cond.fieldLink "AppealrentModel" (96 : Nat) "AppealrentModel" "forms" "I") ∈ lw_all := lw_g (lw_at lw_m8 81 rfl) rfl
theorem q1833 : (Jvm.Cond.fieldLink "AppealrentModel" (39 : Nat) "AppealrentModel" "formCase" "[I") ∈ lw_all := lw_g (lw_at lw_m8 82 rfl) rfl
theorem q1834 : (Jvm.Cond.fieldLink "AppealrentModel" (42 : Nat) "AppealrentModel" "came" "[I") ∈ lw_all := lw_g (lw_at lw_m8 83 rfl) rfl
theorem q1835 : (Jvm.Cond.fieldLink "AppealrentModel" (45 : Nat) "AppealrentModel" "formFrom" "[I") ∈ lw_all := lw_g (lw_at lw_m8 84 rfl) rfl
theorem q1836 : (Jvm.Cond.fieldLink "AppealrentModel" (48 : Nat) "AppealrentModel" "formState" "[I") ∈ lw_all := lw_g (lw_at lw_m8 85 rfl) rfl
theorem q1837 : (Jvm.Cond.fieldLink "AppealrentModel" (51 : Nat) "AppealrentModel" "told" "[I") ∈ lw_all := lw_g (lw_at lw_m8 86 rfl) rfl
theorem q1838 : (Jvm.Cond.fieldLink "AppealrentModel" (54 : Nat) "AppealrentModel" "rules" "I") ∈ lw_all := lw_g (lw_at lw_m8 87 rfl) rfl
theorem q1839 : (Jvm.Cond.fieldLink "AppealrentModel" (58 : Nat) "AppealrentModel" "number" "[I") ∈ lw_all := lw_g (lw_at lw_m8 88 rfl) rfl
theorem q1840 : (Jvm.Cond.fieldLink "AppealrentModel" (61 : Nat) "AppealrentModel" "ruleFrom" "[I") ∈ lw_all := lw_g (lw_at lw_m8 89 rfl) rfl
theorem q1841 : (Jvm.Cond.fieldLink "AppealrentModel" (64 : Nat) "AppealrentModel" "court" "[Z") ∈ lw_all := lw_g (lw_at lw_m8 90 rfl) rfl
theorem q1842 : (Jvm.Cond.fieldLink "AppealrentModel" (68 : Nat) "AppealrentModel" "counts" "[Z") ∈ lw_all := lw_g (lw_at lw_m8 91 rfl) rfl
theorem q1843 : (Jvm.Cond.fieldLink "AppealrentModel" (99 : Nat) "AppealrentModel" "claims" "I") ∈ lw_all := lw_g (lw_at lw_m8 92 rfl) rfl
theorem q1844 : (Jvm.Cond.fieldLink "AppealrentModel" (71 : Nat) "AppealrentModel" "claim" "[I") ∈ lw_all := lw_g (lw_at lw_m8 93 rfl) rfl
theorem q1845 : (Jvm.Cond.fieldLink "AppealrentModel" (77 : Nat) "AppealrentModel" "output" "Ljava/lang/StringBuilder;") ∈ lw_all := lw_g (lw_at lw_m8 94 rfl) rfl
theorem q1846 : (Jvm.Cond.fieldLink "AppealrentModel" (102 : Nat) "AppealrentModel" "at" "I") ∈ lw_all := lw_g (lw_at lw_m8 95 rfl) rfl
theorem q1847 : (Jvm.Cond.fieldLink "AppealrentModel" (81 : Nat) "AppealrentModel" "read" "[I") ∈ lw_all := lw_g (lw_at lw_m8 96 rfl) rfl
theorem q1848 : (Jvm.Cond.lays "AppealrentModel" "AppealrentModel" "thrown" "I") ∈ lw_all := lw_g (lw_at lw_m8 97 rfl) rfl
theorem q1849 : (Jvm.Cond.soleField "AppealrentModel" "thrown") ∈ lw_all := lw_g (lw_at lw_m8 98 rfl) rfl
theorem q1850 : (Jvm.Cond.lays "AppealrentModel" "AppealrentModel" "today" "I") ∈ lw_all := lw_g (lw_at lw_m8 99 rfl) rfl
theorem q1851 : (Jvm.Cond.soleField "AppealrentModel" "today") ∈ lw_all := lw_g (lw_at lw_m8 100 rfl) rfl
theorem q1852 : (Jvm.Cond.laysFinal "AppealrentModel" "AppealrentModel" "tape" "[I") ∈ lw_all := lw_g (lw_at lw_m8 101 rfl) rfl
theorem q1853 : (Jvm.Cond.soleField "AppealrentModel" "tape") ∈ lw_all := lw_g (lw_at lw_m8 102 rfl) rfl
theorem q1854 : (Jvm.Cond.lays "AppealrentModel" "AppealrentModel" "taped" "I") ∈ lw_all := lw_g (lw_at lw_m8 103 rfl) rfl
theorem q1855 : (Jvm.Cond.soleField "AppealrentModel" "taped") ∈ lw_all := lw_g (lw_at lw_m8 104 rfl) rfl
theorem q1856 : (Jvm.Cond.lays "AppealrentModel" "AppealrentModel" "cases" "I") ∈ lw_all := lw_g (lw_at lw_m8 105 rfl) rfl
theorem q1857 : (Jvm.Cond.soleField "AppealrentModel" "cases") ∈ lw_all := lw_g (lw_at lw_m8 106 rfl) rfl
theorem q1858 : (Jvm.Cond.laysFinal "AppealrentModel" "AppealrentModel" "name" "[[I") ∈ lw_all := lw_g (lw_at lw_m8 107 rfl) rfl
theorem q1859 : (Jvm.Cond.soleField "AppealrentModel" "name") ∈ lw_all := lw_g (lw_at lw_m8 108 rfl) rfl
theorem q1860 : (Jvm.Cond.laysFinal "AppealrentModel" "AppealrentModel" "first" "[I") ∈ lw_all := lw_g (lw_at lw_m8 109 rfl) rfl
theorem q1861 : (Jvm.Cond.soleField "AppealrentModel" "first") ∈ lw_all := lw_g (lw_at lw_m8 110 rfl) rfl
theorem q1862 : (Jvm.Cond.laysFinal "AppealrentModel" "AppealrentModel" "end" "[I") ∈ lw_all := lw_g (lw_at lw_m8 111 rfl) rfl
theorem q1863 : (Jvm.Cond.soleField "AppealrentModel" "end") ∈ lw_all := lw_g (lw_at lw_m8 112 rfl) rfl
theorem q1864 : (Jvm.Cond.laysFinal "AppealrentModel" "AppealrentModel" "kept" "[I") ∈ lw_all := lw_g (lw_at lw_m8 113 rfl) rfl
theorem q1865 : (Jvm.Cond.soleField "AppealrentModel" "kept") ∈ lw_all := lw_g (lw_at lw_m8 114 rfl) rfl
theorem q1866 : (Jvm.Cond.laysFinal "AppealrentModel" "AppealrentModel" "toTenant" "[I") ∈ lw_all := lw_g (lw_at lw_m8 115 rfl) rfl
theorem q1867 : (Jvm.Cond.soleField "AppealrentModel" "toTenant") ∈ lw_all := lw_g (lw_at lw_m8 116 rfl) rfl
theorem q1868 : (Jvm.Cond.laysFinal "AppealrentModel" "AppealrentModel" "toLandlord" "[I") ∈ lw_all := lw_g (lw_at lw_m8 117 rfl) rfl
theorem q1869 : (Jvm.Cond.soleField "AppealrentModel" "toLandlord") ∈ lw_all := lw_g (lw_at lw_m8 118 rfl) rfl
theorem q1870 : (Jvm.Cond.laysFinal "AppealrentModel" "AppealrentModel" "paid" "[I") ∈ lw_all := lw_g (lw_at lw_m8 119 rfl) rfl
theorem q1871 : (Jvm.Cond.soleField "AppealrentModel" "paid") ∈ lw_all := lw_g (lw_at lw_m8 120 rfl) rfl
theorem q1872 : (Jvm.Cond.laysFinal "AppealrentModel" "AppealrentModel" "claimed" "[I") ∈ lw_all := lw_g (lw_at lw_m8 121 rfl) rfl
theorem q1873 : (Jvm.Cond.soleField "AppealrentModel" "claimed") ∈ lw_all := lw_g (lw_at lw_m8 122 rfl) rfl
theorem q1874 : (Jvm.Cond.lays "AppealrentModel" "AppealrentModel" "forms" "I") ∈ lw_all := lw_g (lw_at lw_m8 123 rfl) rfl
theorem q1875 : (Jvm.Cond.soleField "AppealrentModel" "forms") ∈ lw_all := lw_g (lw_at lw_m8 124 rfl) rfl
theorem q1876 : (Jvm.Cond.laysFinal "AppealrentModel" "AppealrentModel" "formCase" "[I") ∈ lw_all := lw_g (lw_at lw_m8 125 rfl) rfl
theorem q1877 : (Jvm.Cond.soleField "AppealrentModel" "formCase") ∈ lw_all := lw_g (lw_at lw_m8 126 rfl) rfl
theorem q1878 : (Jvm.Cond.laysFinal "AppealrentModel" "AppealrentModel" "came" "[I") ∈ lw_all := lw_g (lw_at lw_m8 127 rfl) rfl
theorem q1879 : (Jvm.Cond.soleField "AppealrentModel" "came") ∈ lw_all := lw_g (lw_at lw_m8 128 rfl) rfl
theorem q1880 : (Jvm.Cond.laysFinal "AppealrentModel" "AppealrentModel" "formFrom" "[I") ∈ lw_all := lw_g (lw_at lw_m8 129 rfl) rfl
theorem q1881 : (Jvm.Cond.soleField "AppealrentModel" "formFrom") ∈ lw_all := lw_g (lw_at lw_m8 130 rfl) rfl
theorem q1882 : (Jvm.Cond.laysFinal "AppealrentModel" "AppealrentModel" "formState" "[I") ∈ lw_all := lw_g (lw_at lw_m8 131 rfl) rfl
theorem q1883 : (Jvm.Cond.soleField "AppealrentModel" "formState") ∈ lw_all := lw_g (lw_at lw_m8 132 rfl) rfl
theorem q1884 : (Jvm.Cond.laysFinal "AppealrentModel" "AppealrentModel" "told" "[I") ∈ lw_all := lw_g (lw_at lw_m8 133 rfl) rfl
theorem q1885 : (Jvm.Cond.soleField "AppealrentModel" "told") ∈ lw_all := lw_g (lw_at lw_m8 134 rfl) rfl
theorem q1886 : (Jvm.Cond.lays "AppealrentModel" "AppealrentModel" "rules" "I") ∈ lw_all := lw_g (lw_at lw_m8 135 rfl) rfl
theorem q1887 : (Jvm.Cond.soleField "AppealrentModel" "rules") ∈ lw_all := lw_g (lw_at lw_m8 136 rfl) rfl
theorem q1888 : (Jvm.Cond.laysFinal "AppealrentModel" "AppealrentModel" "number" "[I") ∈ lw_all := lw_g (lw_at lw_m8 137 rfl) rfl
theorem q1889 : (Jvm.Cond.soleField "AppealrentModel" "number") ∈ lw_all := lw_g (lw_at lw_m8 138 rfl) rfl
theorem q1890 : (Jvm.Cond.laysFinal "AppealrentModel" "AppealrentModel" "ruleFrom" "[I") ∈ lw_all := lw_g (lw_at lw_m8 139 rfl) rfl
theorem q1891 : (Jvm.Cond.soleField "AppealrentModel" "ruleFrom") ∈ lw_all := lw_g (lw_at lw_m8 140 rfl) rfl
theorem q1892 : (Jvm.Cond.laysFinal "AppealrentModel" "AppealrentModel" "court" "[Z") ∈ lw_all := lw_g (lw_at lw_m8 141 rfl) rfl
theorem q1893 : (Jvm.Cond.soleField "AppealrentModel" "court") ∈ lw_all := lw_g (lw_at lw_m8 142 rfl) rfl
theorem q1894 : (Jvm.Cond.laysFinal "AppealrentModel" "AppealrentModel" "counts" "[Z") ∈ lw_all := lw_g (lw_at lw_m8 143 rfl) rfl
theorem q1895 : (Jvm.Cond.soleField "AppealrentModel" "counts") ∈ lw_all := lw_g (lw_at lw_m8 144 rfl) rfl
theorem q1896 : (Jvm.Cond.lays "AppealrentModel" "AppealrentModel" "claims" "I") ∈ lw_all := lw_g (lw_at lw_m8 145 rfl) rfl
theorem q1897 : (Jvm.Cond.soleField "AppealrentModel" "claims") ∈ lw_all := lw_g (lw_at lw_m8 146 rfl) rfl
theorem q1898 : (Jvm.Cond.lays "AppealrentModel" "AppealrentModel" "claim" "[I") ∈ lw_all := lw_g (lw_at lw_m8 147 rfl) rfl
theorem q1899 : (Jvm.Cond.soleField "AppealrentModel" "claim") ∈ lw_all := lw_g (lw_at lw_m8 148 rfl) rfl
theorem q1900 : (Jvm.Cond.laysFinal "AppealrentModel" "AppealrentModel" "output" "Ljava/lang/StringBuilder;") ∈ lw_all := lw_g (lw_at lw_m8 149 rfl) rfl
theorem q1901 : (Jvm.Cond.soleField "AppealrentModel" "output") ∈ lw_all := lw_g (lw_at lw_m8 150 rfl) rfl
theorem q1902 : (Jvm.Cond.lays "AppealrentModel" "AppealrentModel" "at" "I") ∈ lw_all := lw_g (lw_at lw_m8 151 rfl) rfl
theorem q1903 : (Jvm.Cond.soleField "AppealrentModel" "at") ∈ lw_all := lw_g (lw_at lw_m8 152 rfl) rfl
theorem q1904 : (Jvm.Cond.laysFinal "AppealrentModel" "AppealrentModel" "read" "[I") ∈ lw_all := lw_g (lw_at lw_m8 153 rfl) rfl
theorem q1905 : (Jvm.Cond.soleField "AppealrentModel" "read") ∈ lw_all := lw_g (lw_at lw_m8 154 rfl) rfl
theorem q1906 : (Jvm.Cond.superclass "AppealrentModel" "java/lang/Object") ∈ lw_all := lw_g (lw_at lw_m8 155 rfl) rfl
theorem q1908 : (Jvm.Cond.instanceMethod ({ cls := "AppealrentModel", name := "thrown", desc := "()I" } : Jvm.MethodName)) ∈ lw_all := lw_g (lw_at lw_m8 157 rfl) rfl
theorem q1909 : (Jvm.Cond.selects "AppealrentModel" ({ cls := "AppealrentModel", name := "thrown", desc := "()I" } : Jvm.MethodName) ({ cls := "AppealrentModel", name := "thrown", desc := "()I" } : Jvm.MethodName)) ∈ lw_all := lw_g (lw_at lw_m8 158 rfl) rfl
theorem q1910 : (Jvm.Cond.code ({ cls := "AppealrentModel", name := "thrown", desc := "()I" } : Jvm.MethodName) prog_13_method_2_code (1 : Nat) (Option.some Jvm.ClassFile.FieldType.int)) ∈ lw_all := lw_g (lw_at lw_m8 159 rfl) rfl
theorem q1912 : (Jvm.Cond.instanceMethod ({ cls := "AppealrentModel", name := "sign", desc := "(I)I" } : Jvm.MethodName)) ∈ lw_all := lw_g (lw_at lw_m8 161 rfl) rfl
theorem q1913 : (Jvm.Cond.selects "AppealrentModel" ({ cls := "AppealrentModel", name := "sign", desc := "(I)I" } : Jvm.MethodName) ({ cls := "AppealrentModel", name := "sign", desc := "(I)I" } : Jvm.MethodName)) ∈ lw_all := lw_g (lw_at lw_m8 162 rfl) rfl
theorem q1914 : (Jvm.Cond.code ({ cls := "AppealrentModel", name := "sign", desc := "(I)I" } : Jvm.MethodName) prog_13_method_29_code (3 : Nat) (Option.some Jvm.ClassFile.FieldType.int)) ∈ lw_all := lw_g (lw_at lw_m8 163 rfl) rfl
theorem q1915 : (Jvm.Cond.constantLong "AppealrentModel" (226 : Nat) (32 : Int64)) ∈ lw_all := lw_g (lw_at lw_m8 164 rfl) rfl
theorem q1916 : (Jvm.Cond.constantLong "AppealrentModel" (228 : Nat) (1114111 : Int64)) ∈ lw_all := lw_g (lw_at lw_m8 165 rfl) rfl
theorem q1917 : (Jvm.Cond.methodLink "AppealrentModel" (92 : Nat) ({ cls := "AppealrentModel", name := "isIn", desc := "(JJJ)Z" } : Jvm.MethodName)) ∈ lw_all := lw_g (lw_at lw_m8 166 rfl) rfl
theorem q1918 : (Jvm.Cond.static ({ cls := "AppealrentModel", name := "isIn", desc := "(JJJ)Z" } : Jvm.MethodName)) ∈ lw_all := lw_g (lw_at lw_m8 167 rfl) rfl
theorem q1919 : (Jvm.Cond.code ({ cls := "AppealrentModel", name := "isIn", desc := "(JJJ)Z" } : Jvm.MethodName) prog_13_method_6_code (6 : Nat) (Option.some Jvm.ClassFile.FieldType.boolean)) ∈ lw_all := lw_g (lw_at lw_m8 168 rfl) rfl
theorem q1920 : (Jvm.Cond.constantLong "AppealrentModel" (230 : Nat) (55296 : Int64)) ∈ lw_all := lw_g (lw_at lw_m8 169 rfl) rfl
theorem q1921 : (Jvm.Cond.constantLong "AppealrentModel" (232 : Nat) (57343 : Int64)) ∈ lw_all := lw_g (lw_at lw_m8 170 rfl) rfl
theorem q1922 : (Jvm.Cond.methodLink "AppealrentModel" (234 : Nat) ({ cls := "AppealrentModel", name := "fits", desc := "(ZZ)Z" } : Jvm.MethodName)) ∈ lw_all := lw_g (lw_at lw_m8 171 rfl) rfl
theorem q1923 : (Jvm.Cond.privateMethod ({ cls := "AppealrentModel", name := "fits", desc := "(ZZ)Z" } : Jvm.MethodName)) ∈ lw_tbl := lw_at lw_m8 172 rfl
theorem q1924 : (Jvm.Cond.instanceMethod ({ cls := "AppealrentModel", name := "fits", desc := "(ZZ)Z" } : Jvm.MethodName)) ∈ lw_all := lw_g (lw_at lw_m8 173 rfl) rfl
theorem q1925 : (Jvm.Cond.code ({ cls := "AppealrentModel", name := "fits", desc := "(ZZ)Z" } : Jvm.MethodName) prog_13_method_4_code (3 : Nat) (Option.some Jvm.ClassFile.FieldType.boolean)) ∈ lw_all := lw_g (lw_at lw_m8 174 rfl) rfl
theorem q1927 : (Jvm.Cond.instanceMethod ({ cls := "AppealrentModel", name := "clear", desc := "()I" } : Jvm.MethodName)) ∈ lw_all := lw_g (lw_at lw_m8 176 rfl) rfl
theorem q1928 : (Jvm.Cond.selects "AppealrentModel" ({ cls := "AppealrentModel", name := "clear", desc := "()I" } : Jvm.MethodName) ({ cls := "AppealrentModel", name := "clear", desc := "()I" } : Jvm.MethodName)) ∈ lw_all := lw_g (lw_at lw_m8 177 rfl) rfl
theorem q1929 : (Jvm.Cond.code ({ cls := "AppealrentModel", name := "clear", desc := "()I" } : Jvm.MethodName) prog_13_method_30_code (2 : Nat) (Option.some Jvm.ClassFile.FieldType.int)) ∈ lw_all := lw_g (lw_at lw_m8 178 rfl) rfl
theorem q1931 : (Jvm.Cond.instanceMethod ({ cls := "AppealrentModel", name := "open", desc := "()I" } : Jvm.MethodName)) ∈ lw_all := lw_g (lw_at lw_m8 180 rfl) rfl
theorem q1932 : (Jvm.Cond.selects "AppealrentModel" ({ cls := "AppealrentModel", name := "open", desc := "()I" } : Jvm.MethodName) ({ cls := "AppealrentModel", name := "open", desc := "()I" } : Jvm.MethodName)) ∈ lw_all := lw_g (lw_at lw_m8 181 rfl) rfl
theorem q1933 : (Jvm.Cond.code ({ cls := "AppealrentModel", name := "open", desc := "()I" } : Jvm.MethodName) prog_13_method_31_code (2 : Nat) (Option.some Jvm.ClassFile.FieldType.int)) ∈ lw_all := lw_g (lw_at lw_m8 182 rfl) rfl
theorem q1934 : (Jvm.Cond.constantLong "AppealrentModel" (238 : Nat) (12 : Int64)) ∈ lw_all := lw_g (lw_at lw_m8 183 rfl) rfl
theorem q1935 : (Jvm.Cond.methodLink "AppealrentModel" (240 : Nat) ({ cls := "AppealrentModel", name := "fits", desc := "(Z)Z" } : Jvm.MethodName)) ∈ lw_all := lw_g (lw_at lw_m8 184 rfl) rfl
theorem q1936 : (Jvm.Cond.privateMethod ({ cls := "AppealrentModel", name := "fits", desc := "(Z)Z" } : Jvm.MethodName)) ∈ lw_tbl := lw_at lw_m8 185 rfl
theorem q1937 : (Jvm.Cond.instanceMethod ({ cls := "AppealrentModel", name := "fits", desc := "(Z)Z" } : Jvm.MethodName)) ∈ lw_all := lw_g (lw_at lw_m8 186 rfl) rfl
theorem q1938 : (Jvm.Cond.code ({ cls := "AppealrentModel", name := "fits", desc := "(Z)Z" } : Jvm.MethodName) prog_13_method_3_code (2 : Nat) (Option.some Jvm.ClassFile.FieldType.boolean)) ∈ lw_all := lw_g (lw_at lw_m8 187 rfl) rfl
theorem q1940 : (Jvm.Cond.instanceMethod ({ cls := "AppealrentModel", name := "end", desc := "(I)I" } : Jvm.MethodName)) ∈ lw_all := lw_g (lw_at lw_m8 189 rfl) rfl
theorem q1941 : (Jvm.Cond.selects "AppealrentModel" ({ cls := "AppealrentModel", name := "end", desc := "(I)I" } : Jvm.MethodName) ({ cls := "AppealrentModel", name := "end", desc := "(I)I" } : Jvm.MethodName)) ∈ lw_all := lw_g (lw_at lw_m8 190 rfl) rfl
theorem q1942 : (Jvm.Cond.code ({ cls := "AppealrentModel", name := "end", desc := "(I)I" } : Jvm.MethodName) prog_13_method_33_code (3 : Nat) (Option.some Jvm.ClassFile.FieldType.int)) ∈ lw_all := lw_g (lw_at lw_m8 191 rfl) rfl
theorem q1943 : (Jvm.Cond.methodLink "AppealrentModel" (243 : Nat) ({ cls := "AppealrentModel", name := "isCase", desc := "(I)Z" } : Jvm.MethodName)) ∈ lw_all := lw_g (lw_at lw_m8 192 rfl) rfl
theorem q1944 : (Jvm.Cond.privateMethod ({ cls := "AppealrentModel", name := "isCase", desc := "(I)Z" } : Jvm.MethodName)) ∈ lw_tbl := lw_at lw_m8 193 rfl
theorem q1945 : (Jvm.Cond.instanceMethod ({ cls := "AppealrentModel", name := "isCase", desc := "(I)Z" } : Jvm.MethodName)) ∈ lw_all := lw_g (lw_at lw_m8 194 rfl) rfl
theorem q1946 : (Jvm.Cond.code ({ cls := "AppealrentModel", name := "isCase", desc := "(I)Z" } : Jvm.MethodName) prog_13_method_7_code (2 : Nat) (Option.some Jvm.ClassFile.FieldType.boolean)) ∈ lw_all := lw_g (lw_at lw_m8 195 rfl) rfl
theorem q1947 : (Jvm.Cond.methodLink "AppealrentModel" (178 : Nat) ({ cls := "AppealrentModel", name := "isEnded", desc := "(I)Z" } : Jvm.MethodName)) ∈ lw_all := lw_g (lw_at lw_m8 196 rfl) rfl
theorem q1948 : (Jvm.Cond.privateMethod ({ cls := "AppealrentModel", name := "isEnded", desc := "(I)Z" } : Jvm.MethodName)) ∈ lw_tbl := lw_at lw_m8 197 rfl
theorem q1949 : (Jvm.Cond.instanceMethod ({ cls := "AppealrentModel", name := "isEnded", desc := "(I)Z" } : Jvm.MethodName)) ∈ lw_all := lw_g (lw_at lw_m8 198 rfl) rfl
theorem q1950 : (Jvm.Cond.code ({ cls := "AppealrentModel", name := "isEnded", desc := "(I)Z" } : Jvm.MethodName) prog_13_method_10_code (2 : Nat) (Option.some Jvm.ClassFile.FieldType.boolean)) ∈ lw_all := lw_g (lw_at lw_m8 199 rfl) rfl
theorem q1951 : (Jvm.Cond.methodLink "AppealrentModel" (246 : Nat) ({ cls := "AppealrentModel", name := "endedOnes", desc := "()I" } : Jvm.MethodName)) ∈ lw_all := lw_g (lw_at lw_m8 200 rfl) rfl
theorem q1952 : (Jvm.Cond.privateMethod ({ cls := "AppealrentModel", name := "endedOnes", desc := "()I" } : Jvm.MethodName)) ∈ lw_tbl := lw_at lw_m8 201 rfl
theorem q1953 : (Jvm.Cond.instanceMethod ({ cls := "AppealrentModel", name := "endedOnes", desc := "()I" } : Jvm.MethodName)) ∈ lw_all := lw_g (lw_at lw_m8 202 rfl) rfl
theorem q1954 : (Jvm.Cond.code ({ cls := "AppealrentModel", name := "endedOnes", desc := "()I" } : Jvm.MethodName) prog_13_method_32_code (3 : Nat) (Option.some Jvm.ClassFile.FieldType.int)) ∈ lw_all := lw_g (lw_at lw_m8 203 rfl) rfl
theorem q1956 : (Jvm.Cond.instanceMethod ({ cls := "AppealrentModel", name := "form", desc := "(I)I" } : Jvm.MethodName)) ∈ lw_all := lw_g (lw_at lw_m8 205 rfl) rfl
theorem q1957 : (Jvm.Cond.selects "AppealrentModel" ({ cls := "AppealrentModel", name := "form", desc := "(I)I" } : Jvm.MethodName) ({ cls := "AppealrentModel", name := "form", desc := "(I)I" } : Jvm.MethodName)) ∈ lw_all := lw_g (lw_at lw_m8 206 rfl) rfl
theorem q1958 : (Jvm.Cond.code ({ cls := "AppealrentModel", name := "form", desc := "(I)I" } : Jvm.MethodName) prog_13_method_34_code (5 : Nat) (Option.some Jvm.ClassFile.FieldType.int)) ∈ lw_all := lw_g (lw_at lw_m8 207 rfl) rfl
theorem q1959 : (Jvm.Cond.methodLink "AppealrentModel" (249 : Nat) ({ cls := "AppealrentModel", name := "text", desc := "(Z)Z" } : Jvm.MethodName)) ∈ lw_all := lw_g (lw_at lw_m8 208 rfl) rfl
theorem q1960 : (Jvm.Cond.privateMethod ({ cls := "AppealrentModel", name := "text", desc := "(Z)Z" } : Jvm.MethodName)) ∈ lw_tbl := lw_at lw_m8 209 rfl
theorem q1961 : (Jvm.Cond.instanceMethod ({ cls := "AppealrentModel", name := "text", desc := "(Z)Z" } : Jvm.MethodName)) ∈ lw_all := lw_g (lw_at lw_m8 210 rfl) rfl
theorem q1962 : (Jvm.Cond.code ({ cls := "AppealrentModel", name := "text", desc := "(Z)Z" } : Jvm.MethodName) prog_13_method_18_code (6 : Nat) (Option.some Jvm.ClassFile.FieldType.boolean)) ∈ lw_all := lw_g (lw_at lw_m8 211 rfl) rfl
theorem q1963 : (Jvm.Cond.classLink "AppealrentModel" (113 : Nat) "java/lang/String") ∈ lw_all := lw_g (lw_at lw_m8 212 rfl) rfl
theorem q1965 : (Jvm.Cond.stringRef "AppealrentModel" (151 : Nat) "rent") ∈ lw_tbl := lw_at lw_m8 214 rfl
theorem q1966 : (Jvm.Cond.stringRef "AppealrentModel" (153 : Nat) "cap") ∈ lw_tbl := lw_at lw_m8 215 rfl
theorem q1967 : (Jvm.Cond.stringRef "AppealrentModel" (155 : Nat) "income") ∈ lw_tbl := lw_at lw_m8 216 rfl
theorem q1968 : (Jvm.Cond.stringRef "AppealrentModel" (157 : Nat) "share") ∈ lw_tbl := lw_at lw_m8 217 rfl
theorem q1969 : (Jvm.Cond.stringRef "AppealrentModel" (159 : Nat) "heads") ∈ lw_tbl := lw_at lw_m8 218 rfl
theorem q1970 : (Jvm.Cond.stringRef "AppealrentModel" (161 : Nat) "free") ∈ lw_tbl := lw_at lw_m8 219 rfl
theorem q1971 : (Jvm.Cond.stringRef "AppealrentModel" (163 : Nat) "to") ∈ lw_tbl := lw_at lw_m8 220 rfl
theorem q1972 : (Jvm.Cond.stringRef "AppealrentModel" (165 : Nat) "cut") ∈ lw_tbl := lw_at lw_m8 221 rfl
theorem q1973 : (Jvm.Cond.stringRef "AppealrentModel" (167 : Nat) "from") ∈ lw_tbl := lw_at lw_m8 222 rfl
theorem q1974 : (Jvm.Cond.stringRef "AppealrentModel" (169 : Nat) "least") ∈ lw_tbl := lw_at lw_m8 223 rfl
theorem q1975 : (Jvm.Cond.methodLink "AppealrentModel" (121 : Nat) ({ cls := "AppealrentModel", name := "skip", desc := "()V" } : Jvm.MethodName)) ∈ lw_all := lw_g (lw_at lw_m8 224 rfl) rfl
theorem q1976 : (Jvm.Cond.privateMethod ({ cls := "AppealrentModel", name := "skip", desc := "()V" } : Jvm.MethodName)) ∈ lw_tbl := lw_at lw_m8 225 rfl
theorem q1977 : (Jvm.Cond.instanceMethod ({ cls := "AppealrentModel", name := "skip", desc := "()V" } : Jvm.MethodName)) ∈ lw_all := lw_g (lw_at lw_m8 226 rfl) rfl
theorem q1978 : (Jvm.Cond.code ({ cls := "AppealrentModel", name := "skip", desc := "()V" } : Jvm.MethodName) prog_13_method_11_code (1 : Nat) (Option.none : Option Jvm.ClassFile.FieldType)) ∈ lw_all := lw_g (lw_at lw_m8 227 rfl) rfl
theorem q1979 : (Jvm.Cond.methodLink "AppealrentModel" (145 : Nat) ({ cls := "AppealrentModel", name := "sees", desc := "(Ljava/lang/String;)Z" } : Jvm.MethodName)) ∈ lw_all := lw_g (lw_at lw_m8 228 rfl) rfl
theorem q1980 : (Jvm.Cond.privateMethod ({ cls := "AppealrentModel", name := "sees", desc := "(Ljava/lang/String;)Z" } : Jvm.MethodName)) ∈ lw_tbl := lw_at lw_m8 229 rfl
theorem q1981 : (Jvm.Cond.instanceMethod ({ cls := "AppealrentModel", name := "sees", desc := "(Ljava/lang/String;)Z" } : Jvm.MethodName)) ∈ lw_all := lw_g (lw_at lw_m8 230 rfl) rfl
theorem q1982 : (Jvm.Cond.code ({ cls := "AppealrentModel", name := "sees", desc := "(Ljava/lang/String;)Z" } : Jvm.MethodName) prog_13_method_13_code (5 : Nat) (Option.some Jvm.ClassFile.FieldType.boolean)) ∈ lw_all := lw_g (lw_at lw_m8 231 rfl) rfl
theorem q1983 : (Jvm.Cond.methodLink "AppealrentModel" (108 : Nat) ({ cls := "AppealrentModel", name := "wordEnd", desc := "()I" } : Jvm.MethodName)) ∈ lw_all := lw_g (lw_at lw_m8 232 rfl) rfl
theorem q1984 : (Jvm.Cond.privateMethod ({ cls := "AppealrentModel", name := "wordEnd", desc := "()I" } : Jvm.MethodName)) ∈ lw_tbl := lw_at lw_m8 233 rfl
theorem q1985 : (Jvm.Cond.instanceMethod ({ cls := "AppealrentModel", name := "wordEnd", desc := "()I" } : Jvm.MethodName)) ∈ lw_all := lw_g (lw_at lw_m8 234 rfl) rfl
theorem q1986 : (Jvm.Cond.code ({ cls := "AppealrentModel", name := "wordEnd", desc := "()I" } : Jvm.MethodName) prog_13_method_12_code (2 : Nat) (Option.some Jvm.ClassFile.FieldType.int)) ∈ lw_all := lw_g (lw_at lw_m8 235 rfl) rfl
theorem q1987 : (Jvm.Cond.methodLink "AppealrentModel" (112 : Nat) ({ cls := "java/lang/String", name := "length", desc := "()I" } : Jvm.MethodName)) ∈ lw_all := lw_g (lw_at lw_m8 236 rfl) rfl
theorem q1988 : (Jvm.Cond.methodLink "AppealrentModel" (117 : Nat) ({ cls := "java/lang/String", name := "charAt", desc := "(I)C" } : Jvm.MethodName)) ∈ lw_all := lw_g (lw_at lw_m8 237 rfl) rfl
theorem q1989 : (Jvm.Cond.methodLink "AppealrentModel" (126 : Nat) ({ cls := "AppealrentModel", name := "pass", desc := "()V" } : Jvm.MethodName)) ∈ lw_all := lw_g (lw_at lw_m8 238 rfl) rfl
theorem q1990 : (Jvm.Cond.privateMethod ({ cls := "AppealrentModel", name := "pass", desc := "()V" } : Jvm.MethodName)) ∈ lw_tbl := lw_at lw_m8 239 rfl
theorem q1991 : (Jvm.Cond.instanceMethod ({ cls := "AppealrentModel", name := "pass", desc := "()V" } : Jvm.MethodName)) ∈ lw_all := lw_g (lw_at lw_m9 0 rfl) rfl
theorem q1992 : (Jvm.Cond.code ({ cls := "AppealrentModel", name := "pass", desc := "()V" } : Jvm.MethodName) prog_13_method_14_code (1 : Nat) (Option.none : Option Jvm.ClassFile.FieldType)) ∈ lw_all := lw_g (lw_at lw_m9 1 rfl) rfl
theorem q1993 : (Jvm.Cond.methodLink "AppealrentModel" (171 : Nat) ({ cls := "AppealrentModel", name := "factHere", desc := "(I)I" } : Jvm.MethodName)) ∈ lw_all := lw_g (lw_at lw_m9 2 rfl) rfl
theorem q1994 : (Jvm.Cond.privateMethod ({ cls := "AppealrentModel", name := "factHere", desc := "(I)I" } : Jvm.MethodName)) ∈ lw_tbl := lw_at lw_m9 3 rfl
theorem q1995 : (Jvm.Cond.instanceMethod ({ cls := "AppealrentModel", name := "factHere", desc := "(I)I" } : Jvm.MethodName)) ∈ lw_all := lw_g (lw_at lw_m9 4 rfl) rfl
theorem q1996 : (Jvm.Cond.code ({ cls := "AppealrentModel", name := "factHere", desc := "(I)I" } : Jvm.MethodName) prog_13_method_16_code (3 : Nat) (Option.some Jvm.ClassFile.FieldType.int)) ∈ lw_all := lw_g (lw_at lw_m9 5 rfl) rfl
theorem q1997 : (Jvm.Cond.constant "AppealrentModel" (129 : Nat) (1000000 : Int32)) ∈ lw_all := lw_g (lw_at lw_m9 6 rfl) rfl
theorem q1998 : (Jvm.Cond.methodLink "AppealrentModel" (130 : Nat) ({ cls := "AppealrentModel", name := "reads", desc := "(II)I" } : Jvm.MethodName)) ∈ lw_all := lw_g (lw_at lw_m9 7 rfl) rfl
theorem q1999 : (Jvm.Cond.privateMethod ({ cls := "AppealrentModel", name := "reads", desc := "(II)I" } : Jvm.MethodName)) ∈ lw_tbl := lw_at lw_m9 8 rfl
theorem q2000 : (Jvm.Cond.instanceMethod ({ cls := "AppealrentModel", name := "reads", desc := "(II)I" } : Jvm.MethodName)) ∈ lw_all := lw_g (lw_at lw_m9 9 rfl) rfl
theorem q2001 : (Jvm.Cond.code ({ cls := "AppealrentModel", name := "reads", desc := "(II)I" } : Jvm.MethodName) prog_13_method_15_code (7 : Nat) (Option.some Jvm.ClassFile.FieldType.int)) ∈ lw_all := lw_g (lw_at lw_m9 10 rfl) rfl
theorem q2002 : (Jvm.Cond.constantLong "AppealrentModel" (124 : Nat) (7 : Int64)) ∈ lw_all := lw_g (lw_at lw_m9 11 rfl) rfl
theorem q2003 : (Jvm.Cond.constant "AppealrentModel" (134 : Nat) (9999999 : Int32)) ∈ lw_all := lw_g (lw_at lw_m9 12 rfl) rfl
theorem q2004 : (Jvm.Cond.methodLink "AppealrentModel" (138 : Nat) ({ cls := "java/lang/Math", name := "max", desc := "(II)I" } : Jvm.MethodName)) ∈ lw_all := lw_g (lw_at lw_m9 13 rfl) rfl
theorem q2005 : (Jvm.Cond.stringRef "AppealrentModel" (143 : Nat) "tenant") ∈ lw_tbl := lw_at lw_m9 14 rfl
theorem q2006 : (Jvm.Cond.stringRef "AppealrentModel" (149 : Nat) "landlord") ∈ lw_tbl := lw_at lw_m9 15 rfl
theorem q2007 : (Jvm.Cond.methodLink "AppealrentModel" (175 : Nat) ({ cls := "AppealrentModel", name := "numberHere", desc := "(I)I" } : Jvm.MethodName)) ∈ lw_all := lw_g (lw_at lw_m9 16 rfl) rfl
theorem q2008 : (Jvm.Cond.privateMethod ({ cls := "AppealrentModel", name := "numberHere", desc := "(I)I" } : Jvm.MethodName)) ∈ lw_tbl := lw_at lw_m9 17 rfl
theorem q2009 : (Jvm.Cond.instanceMethod ({ cls := "AppealrentModel", name := "numberHere", desc := "(I)I" } : Jvm.MethodName)) ∈ lw_all := lw_g (lw_at lw_m9 18 rfl) rfl
theorem q2010 : (Jvm.Cond.code ({ cls := "AppealrentModel", name := "numberHere", desc := "(I)I" } : Jvm.MethodName) prog_13_method_17_code (2 : Nat) (Option.some Jvm.ClassFile.FieldType.int)) ∈ lw_all := lw_g (lw_at lw_m9 19 rfl) rfl
theorem q2012 : (Jvm.Cond.instanceMethod ({ cls := "AppealrentModel", name := "prove", desc := "(I)I" } : Jvm.MethodName)) ∈ lw_all := lw_g (lw_at lw_m9 21 rfl) rfl
theorem q2013 : (Jvm.Cond.selects "AppealrentModel" ({ cls := "AppealrentModel", name := "prove", desc := "(I)I" } : Jvm.MethodName) ({ cls := "AppealrentModel", name := "prove", desc := "(I)I" } : Jvm.MethodName)) ∈ lw_all := lw_g (lw_at lw_m9 22 rfl) rfl
theorem q2014 : (Jvm.Cond.code ({ cls := "AppealrentModel", name := "prove", desc := "(I)I" } : Jvm.MethodName) prog_13_method_36_code (3 : Nat) (Option.some Jvm.ClassFile.FieldType.int)) ∈ lw_all := lw_g (lw_at lw_m9 23 rfl) rfl
theorem q2015 : (Jvm.Cond.methodLink "AppealrentModel" (252 : Nat) ({ cls := "AppealrentModel", name := "isForm", desc := "(I)Z" } : Jvm.MethodName)) ∈ lw_all := lw_g (lw_at lw_m9 24 rfl) rfl
theorem q2016 : (Jvm.Cond.privateMethod ({ cls := "AppealrentModel", name := "isForm", desc := "(I)Z" } : Jvm.MethodName)) ∈ lw_tbl := lw_at lw_m9 25 rfl
theorem q2017 : (Jvm.Cond.instanceMethod ({ cls := "AppealrentModel", name := "isForm", desc := "(I)Z" } : Jvm.MethodName)) ∈ lw_all := lw_g (lw_at lw_m9 26 rfl) rfl
theorem q2018 : (Jvm.Cond.code ({ cls := "AppealrentModel", name := "isForm", desc := "(I)Z" } : Jvm.MethodName) prog_13_method_8_code (2 : Nat) (Option.some Jvm.ClassFile.FieldType.boolean)) ∈ lw_all := lw_g (lw_at lw_m9 27 rfl) rfl
theorem q2019 : (Jvm.Cond.methodLink "AppealrentModel" (255 : Nat) ({ cls := "AppealrentModel", name := "formsIn", desc := "(I)I" } : Jvm.MethodName)) ∈ lw_all := lw_g (lw_at lw_m9 28 rfl) rfl
theorem q2020 : (Jvm.Cond.privateMethod ({ cls := "AppealrentModel", name := "formsIn", desc := "(I)I" } : Jvm.MethodName)) ∈ lw_tbl := lw_at lw_m9 29 rfl
theorem q2021 : (Jvm.Cond.instanceMethod ({ cls := "AppealrentModel", name := "formsIn", desc := "(I)I" } : Jvm.MethodName)) ∈ lw_all := lw_g (lw_at lw_m9 30 rfl) rfl
theorem q2022 : (Jvm.Cond.code ({ cls := "AppealrentModel", name := "formsIn", desc := "(I)I" } : Jvm.MethodName) prog_13_method_35_code (4 : Nat) (Option.some Jvm.ClassFile.FieldType.int)) ∈ lw_all := lw_g (lw_at lw_m9 31 rfl) rfl
theorem q2024 : (Jvm.Cond.instanceMethod ({ cls := "AppealrentModel", name := "rule", desc := "(IZ)I" } : Jvm.MethodName)) ∈ lw_all := lw_g (lw_at lw_m9 33 rfl) rfl
theorem q2025 : (Jvm.Cond.selects "AppealrentModel" ({ cls := "AppealrentModel", name := "rule", desc := "(IZ)I" } : Jvm.MethodName) ({ cls := "AppealrentModel", name := "rule", desc := "(IZ)I" } : Jvm.MethodName)) ∈ lw_all := lw_g (lw_at lw_m9 34 rfl) rfl
theorem q2026 : (Jvm.Cond.code ({ cls := "AppealrentModel", name := "rule", desc := "(IZ)I" } : Jvm.MethodName) prog_13_method_37_code (6 : Nat) (Option.some Jvm.ClassFile.FieldType.int)) ∈ lw_all := lw_g (lw_at lw_m9 35 rfl) rfl
theorem q2027 : (Jvm.Cond.constantLong "AppealrentModel" (258 : Nat) (1500 : Int64)) ∈ lw_all := lw_g (lw_at lw_m9 36 rfl) rfl
theorem q2029 : (Jvm.Cond.instanceMethod ({ cls := "AppealrentModel", name := "appeal", desc := "(I)I" } : Jvm.MethodName)) ∈ lw_all := lw_g (lw_at lw_m9 38 rfl) rfl
theorem q2030 : (Jvm.Cond.selects "AppealrentModel" ({ cls := "AppealrentModel", name := "appeal", desc := "(I)I" } : Jvm.MethodName) ({ cls := "AppealrentModel", name := "appeal", desc := "(I)I" } : Jvm.MethodName)) ∈ lw_all := lw_g (lw_at lw_m9 39 rfl) rfl
theorem q2031 : (Jvm.Cond.code ({ cls := "AppealrentModel", name := "appeal", desc := "(I)I" } : Jvm.MethodName) prog_13_method_38_code (3 : Nat) (Option.some Jvm.ClassFile.FieldType.int)) ∈ lw_all := lw_g (lw_at lw_m9 40 rfl) rfl
theorem q2032 : (Jvm.Cond.methodLink "AppealrentModel" (260 : Nat) ({ cls := "AppealrentModel", name := "isClaim", desc := "(I)Z" } : Jvm.MethodName)) ∈ lw_all := lw_g (lw_at lw_m9 41 rfl) rfl
theorem q2033 : (Jvm.Cond.privateMethod ({ cls := "AppealrentModel", name := "isClaim", desc := "(I)Z" } : Jvm.MethodName)) ∈ lw_tbl := lw_at lw_m9 42 rfl
theorem q2034 : (Jvm.Cond.instanceMethod ({ cls := "AppealrentModel", name := "isClaim", desc := "(I)Z" } : Jvm.MethodName)) ∈ lw_all := lw_g (lw_at lw_m9 43 rfl) rfl
theorem q2035 : (Jvm.Cond.code ({ cls := "AppealrentModel", name := "isClaim", desc := "(I)Z" } : Jvm.MethodName) prog_13_method_9_code (2 : Nat) (Option.some Jvm.ClassFile.FieldType.boolean)) ∈ lw_all := lw_g (lw_at lw_m9 44 rfl) rfl
theorem q2037 : (Jvm.Cond.instanceMethod ({ cls := "AppealrentModel", name := "decide", desc := "(II)I" } : Jvm.MethodName)) ∈ lw_all := lw_g (lw_at lw_m9 46 rfl) rfl
theorem q2038 : (Jvm.Cond.selects "AppealrentModel" ({ cls := "AppealrentModel", name := "decide", desc := "(II)I" } : Jvm.MethodName) ({ cls := "AppealrentModel", name := "decide", desc := "(II)I" } : Jvm.MethodName)) ∈ lw_all := lw_g (lw_at lw_m9 47 rfl) rfl
theorem q2039 : (Jvm.Cond.code ({ cls := "AppealrentModel", name := "decide", desc := "(II)I" } : Jvm.MethodName) prog_13_method_39_code (4 : Nat) (Option.some Jvm.ClassFile.FieldType.int)) ∈ lw_all := lw_g (lw_at lw_m9 48 rfl) rfl
theorem q2040 : (Jvm.Cond.constantLong "AppealrentModel" (195 : Nat) (100 : Int64)) ∈ lw_all := lw_g (lw_at lw_m9 49 rfl) rfl
theorem q2041 : (Jvm.Cond.methodLink "AppealrentModel" (263 : Nat) ({ cls := "AppealrentModel", name := "fits", desc := "(ZZZ)Z" } : Jvm.MethodName)) ∈ lw_all := lw_g (lw_at lw_m9 50 rfl) rfl
theorem q2042 : (Jvm.Cond.privateMethod ({ cls := "AppealrentModel", name := "fits", desc := "(ZZZ)Z" } : Jvm.MethodName)) ∈ lw_tbl := lw_at lw_m9 51 rfl
theorem q2043 : (Jvm.Cond.instanceMethod ({ cls := "AppealrentModel", name := "fits", desc := "(ZZZ)Z" } : Jvm.MethodName)) ∈ lw_all := lw_g (lw_at lw_m9 52 rfl) rfl
theorem q2044 : (Jvm.Cond.code ({ cls := "AppealrentModel", name := "fits", desc := "(ZZZ)Z" } : Jvm.MethodName) prog_13_method_5_code (4 : Nat) (Option.some Jvm.ClassFile.FieldType.boolean)) ∈ lw_all := lw_g (lw_at lw_m9 53 rfl) rfl
theorem q2045 : (Jvm.Cond.methodLink "AppealrentModel" (208 : Nat) ({ cls := "AppealrentModel", name := "lessen", desc := "(II)V" } : Jvm.MethodName)) ∈ lw_all := lw_g (lw_at lw_m9 54 rfl) rfl
theorem q2046 : (Jvm.Cond.privateMethod ({ cls := "AppealrentModel", name := "lessen", desc := "(II)V" } : Jvm.MethodName)) ∈ lw_tbl := lw_at lw_m9 55 rfl
theorem q2047 : (Jvm.Cond.instanceMethod ({ cls := "AppealrentModel", name := "lessen", desc := "(II)V" } : Jvm.MethodName)) ∈ lw_all := lw_g (lw_at lw_m9 56 rfl) rfl
theorem q2048 : (Jvm.Cond.code ({ cls := "AppealrentModel", name := "lessen", desc := "(II)V" } : Jvm.MethodName) prog_13_method_23_code (4 : Nat) (Option.none : Option Jvm.ClassFile.FieldType)) ∈ lw_all := lw_g (lw_at lw_m9 57 rfl) rfl
theorem q2050 : (Jvm.Cond.instanceMethod ({ cls := "AppealrentModel", name := "payBack", desc := "(II)I" } : Jvm.MethodName)) ∈ lw_all := lw_g (lw_at lw_m9 59 rfl) rfl
theorem q2051 : (Jvm.Cond.selects "AppealrentModel" ({ cls := "AppealrentModel", name := "payBack", desc := "(II)I" } : Jvm.MethodName) ({ cls := "AppealrentModel", name := "payBack", desc := "(II)I" } : Jvm.MethodName)) ∈ lw_all := lw_g (lw_at lw_m9 60 rfl) rfl
theorem q2052 : (Jvm.Cond.code ({ cls := "AppealrentModel", name := "payBack", desc := "(II)I" } : Jvm.MethodName) prog_13_method_40_code (5 : Nat) (Option.some Jvm.ClassFile.FieldType.int)) ∈ lw_all := lw_g (lw_at lw_m9 61 rfl) rfl
theorem q2053 : (Jvm.Cond.constantLong "AppealrentModel" (266 : Nat) (10000000 : Int64)) ∈ lw_all := lw_g (lw_at lw_m9 62 rfl) rfl
theorem q2055 : (Jvm.Cond.instanceMethod ({ cls := "AppealrentModel", name := "pass", desc := "(I)I" } : Jvm.MethodName)) ∈ lw_all := lw_g (lw_at lw_m9 64 rfl) rfl
theorem q2056 : (Jvm.Cond.selects "AppealrentModel" ({ cls := "AppealrentModel", name := "pass", desc := "(I)I" } : Jvm.MethodName) ({ cls := "AppealrentModel", name := "pass", desc := "(I)I" } : Jvm.MethodName)) ∈ lw_all := lw_g (lw_at lw_m9 65 rfl) rfl
theorem q2057 : (Jvm.Cond.code ({ cls := "AppealrentModel", name := "pass", desc := "(I)I" } : Jvm.MethodName) prog_13_method_41_code (4 : Nat) (Option.some Jvm.ClassFile.FieldType.int)) ∈ lw_all := lw_g (lw_at lw_m9 66 rfl) rfl
theorem q2058 : (Jvm.Cond.methodLink "AppealrentModel" (268 : Nat) ({ cls := "AppealrentModel", name := "beginDay", desc := "()V" } : Jvm.MethodName)) ∈ lw_all := lw_g (lw_at lw_m9 67 rfl) rfl
theorem q2059 : (Jvm.Cond.privateMethod ({ cls := "AppealrentModel", name := "beginDay", desc := "()V" } : Jvm.MethodName)) ∈ lw_tbl := lw_at lw_m9 68 rfl
theorem q2060 : (Jvm.Cond.instanceMethod ({ cls := "AppealrentModel", name := "beginDay", desc := "()V" } : Jvm.MethodName)) ∈ lw_all := lw_g (lw_at lw_m9 69 rfl) rfl
theorem q2061 : (Jvm.Cond.code ({ cls := "AppealrentModel", name := "beginDay", desc := "()V" } : Jvm.MethodName) prog_13_method_28_code (3 : Nat) (Option.none : Option Jvm.ClassFile.FieldType)) ∈ lw_all := lw_g (lw_at lw_m9 70 rfl) rfl
theorem q2062 : (Jvm.Cond.methodLink "AppealrentModel" (222 : Nat) ({ cls := "AppealrentModel", name := "beginMonth", desc := "(I)V" } : Jvm.MethodName)) ∈ lw_all := lw_g (lw_at lw_m9 71 rfl) rfl
theorem q2063 : (Jvm.Cond.privateMethod ({ cls := "AppealrentModel", name := "beginMonth", desc := "(I)V" } : Jvm.MethodName)) ∈ lw_tbl := lw_at lw_m9 72 rfl
theorem q2064 : (Jvm.Cond.instanceMethod ({ cls := "AppealrentModel", name := "beginMonth", desc := "(I)V" } : Jvm.MethodName)) ∈ lw_all := lw_g (lw_at lw_m9 73 rfl) rfl
theorem q2065 : (Jvm.Cond.code ({ cls := "AppealrentModel", name := "beginMonth", desc := "(I)V" } : Jvm.MethodName) prog_13_method_27_code (6 : Nat) (Option.none : Option Jvm.ClassFile.FieldType)) ∈ lw_all := lw_g (lw_at lw_m9 74 rfl) rfl
theorem q2066 : (Jvm.Cond.methodLink "AppealrentModel" (212 : Nat) ({ cls := "AppealrentModel", name := "dueOf", desc := "(II)I" } : Jvm.MethodName)) ∈ lw_all := lw_g (lw_at lw_m9 75 rfl) rfl
theorem q2067 : (Jvm.Cond.privateMethod ({ cls := "AppealrentModel", name := "dueOf", desc := "(II)I" } : Jvm.MethodName)) ∈ lw_tbl := lw_at lw_m9 76 rfl
theorem q2068 : (Jvm.Cond.instanceMethod ({ cls := "AppealrentModel", name := "dueOf", desc := "(II)I" } : Jvm.MethodName)) ∈ lw_all := lw_g (lw_at lw_m9 77 rfl) rfl
theorem q2069 : (Jvm.Cond.code ({ cls := "AppealrentModel", name := "dueOf", desc := "(II)I" } : Jvm.MethodName) prog_13_method_22_code (5 : Nat) (Option.some Jvm.ClassFile.FieldType.int)) ∈ lw_all := lw_g (lw_at lw_m9 78 rfl) rfl
theorem q2070 : (Jvm.Cond.methodLink "AppealrentModel" (197 : Nat) ({ cls := "AppealrentModel", name := "helpOn", desc := "(II)I" } : Jvm.MethodName)) ∈ lw_all := lw_g (lw_at lw_m9 79 rfl) rfl
theorem q2071 : (Jvm.Cond.privateMethod ({ cls := "AppealrentModel", name := "helpOn", desc := "(II)I" } : Jvm.MethodName)) ∈ lw_tbl := lw_at lw_m9 80 rfl
theorem q2072 : (Jvm.Cond.instanceMethod ({ cls := "AppealrentModel", name := "helpOn", desc := "(II)I" } : Jvm.MethodName)) ∈ lw_all := lw_g (lw_at lw_m9 81 rfl) rfl
theorem q2073 : (Jvm.Cond.code ({ cls := "AppealrentModel", name := "helpOn", desc := "(II)I" } : Jvm.MethodName) prog_13_method_21_code (12 : Nat) (Option.some Jvm.ClassFile.FieldType.int)) ∈ lw_all := lw_g (lw_at lw_m9 82 rfl) rfl
theorem q2074 : (Jvm.Cond.methodLink "AppealrentModel" (182 : Nat) ({ cls := "AppealrentModel", name := "ruleFor", desc := "(II)I" } : Jvm.MethodName)) ∈ lw_all := lw_g (lw_at lw_m9 83 rfl) rfl
theorem q2075 : (Jvm.Cond.privateMethod ({ cls := "AppealrentModel", name := "ruleFor", desc := "(II)I" } : Jvm.MethodName)) ∈ lw_tbl := lw_at lw_m9 84 rfl
theorem q2076 : (Jvm.Cond.instanceMethod ({ cls := "AppealrentModel", name := "ruleFor", desc := "(II)I" } : Jvm.MethodName)) ∈ lw_all := lw_g (lw_at lw_m9 85 rfl) rfl
theorem q2077 : (Jvm.Cond.code ({ cls := "AppealrentModel", name := "ruleFor", desc := "(II)I" } : Jvm.MethodName) prog_13_method_20_code (5 : Nat) (Option.some Jvm.ClassFile.FieldType.int)) ∈ lw_all := lw_g (lw_at lw_m9 86 rfl) rfl
theorem q2078 : (Jvm.Cond.methodLink "AppealrentModel" (185 : Nat) ({ cls := "AppealrentModel", name := "factOn", desc := "(III)I" } : Jvm.MethodName)) ∈ lw_all := lw_g (lw_at lw_m9 87 rfl) rfl
theorem q2079 : (Jvm.Cond.privateMethod ({ cls := "AppealrentModel", name := "factOn", desc := "(III)I" } : Jvm.MethodName)) ∈ lw_tbl := lw_at lw_m9 88 rfl
theorem q2080 : (Jvm.Cond.instanceMethod ({ cls := "AppealrentModel", name := "factOn", desc := "(III)I" } : Jvm.MethodName)) ∈ lw_all := lw_g (lw_at lw_m9 89 rfl) rfl
theorem q2081 : (Jvm.Cond.code ({ cls := "AppealrentModel", name := "factOn", desc := "(III)I" } : Jvm.MethodName) prog_13_method_19_code (7 : Nat) (Option.some Jvm.ClassFile.FieldType.int)) ∈ lw_all := lw_g (lw_at lw_m9 90 rfl) rfl
theorem q2082 : (Jvm.Cond.methodLink "AppealrentModel" (189 : Nat) ({ cls := "java/lang/Math", name := "min", desc := "(JJ)J" } : Jvm.MethodName)) ∈ lw_all := lw_g (lw_at lw_m9 91 rfl) rfl
theorem q2083 : (Jvm.Cond.methodLink "AppealrentModel" (193 : Nat) ({ cls := "java/lang/Math", name := "max", desc := "(JJ)J" } : Jvm.MethodName)) ∈ lw_all := lw_g (lw_at lw_m9 92 rfl) rfl
theorem q2084 : (Jvm.Cond.methodLink "AppealrentModel" (215 : Nat) ({ cls := "AppealrentModel", name := "pays", desc := "(III)V" } : Jvm.MethodName)) ∈ lw_all := lw_g (lw_at lw_m9 93 rfl) rfl
theorem q2085 : (Jvm.Cond.privateMethod ({ cls := "AppealrentModel", name := "pays", desc := "(III)V" } : Jvm.MethodName)) ∈ lw_tbl := lw_at lw_m9 94 rfl
theorem q2086 : (Jvm.Cond.instanceMethod ({ cls := "AppealrentModel", name := "pays", desc := "(III)V" } : Jvm.MethodName)) ∈ lw_all := lw_g (lw_at lw_m9 95 rfl) rfl
theorem q2087 : (Jvm.Cond.code ({ cls := "AppealrentModel", name := "pays", desc := "(III)V" } : Jvm.MethodName) prog_13_method_26_code (8 : Nat) (Option.none : Option Jvm.ClassFile.FieldType)) ∈ lw_all := lw_g (lw_at lw_m9 96 rfl) rfl
theorem q2088 : (Jvm.Cond.constantLong "AppealrentModel" (200 : Nat) (20 : Int64)) ∈ lw_all := lw_g (lw_at lw_m9 97 rfl) rfl
theorem q2089 : (Jvm.Cond.methodLink "AppealrentModel" (202 : Nat) ({ cls := "AppealrentModel", name := "leftOf", desc := "(IZ)I" } : Jvm.MethodName)) ∈ lw_all := lw_g (lw_at lw_m9 98 rfl) rfl
theorem q2090 : (Jvm.Cond.privateMethod ({ cls := "AppealrentModel", name := "leftOf", desc := "(IZ)I" } : Jvm.MethodName)) ∈ lw_tbl := lw_at lw_m9 99 rfl
theorem q2091 : (Jvm.Cond.instanceMethod ({ cls := "AppealrentModel", name := "leftOf", desc := "(IZ)I" } : Jvm.MethodName)) ∈ lw_all := lw_g (lw_at lw_m9 100 rfl) rfl
theorem q2092 : (Jvm.Cond.code ({ cls := "AppealrentModel", name := "leftOf", desc := "(IZ)I" } : Jvm.MethodName) prog_13_method_25_code (5 : Nat) (Option.some Jvm.ClassFile.FieldType.int)) ∈ lw_all := lw_g (lw_at lw_m9 101 rfl) rfl
theorem q2093 : (Jvm.Cond.methodLink "AppealrentModel" (206 : Nat) ({ cls := "java/lang/Math", name := "min", desc := "(II)I" } : Jvm.MethodName)) ∈ lw_all := lw_g (lw_at lw_m9 102 rfl) rfl
theorem q2094 : (Jvm.Cond.methodLink "AppealrentModel" (219 : Nat) ({ cls := "AppealrentModel", name := "addClaim", desc := "(III)V" } : Jvm.MethodName)) ∈ lw_all := lw_g (lw_at lw_m9 103 rfl) rfl
theorem q2095 : (Jvm.Cond.privateMethod ({ cls := "AppealrentModel", name := "addClaim", desc := "(III)V" } : Jvm.MethodName)) ∈ lw_tbl := lw_at lw_m9 104 rfl
theorem q2096 : (Jvm.Cond.instanceMethod ({ cls := "AppealrentModel", name := "addClaim", desc := "(III)V" } : Jvm.MethodName)) ∈ lw_all := lw_g (lw_at lw_m9 105 rfl) rfl
theorem q2097 : (Jvm.Cond.code ({ cls := "AppealrentModel", name := "addClaim", desc := "(III)V" } : Jvm.MethodName) prog_13_method_24_code (6 : Nat) (Option.none : Option Jvm.ClassFile.FieldType)) ∈ lw_all := lw_g (lw_at lw_m9 106 rfl) rfl
theorem q2099 : (Jvm.Cond.instanceMethod ({ cls := "AppealrentModel", name := "fact", desc := "(III)I" } : Jvm.MethodName)) ∈ lw_all := lw_g (lw_at lw_m9 108 rfl) rfl
theorem q2100 : (Jvm.Cond.selects "AppealrentModel" ({ cls := "AppealrentModel", name := "fact", desc := "(III)I" } : Jvm.MethodName) ({ cls := "AppealrentModel", name := "fact", desc := "(III)I" } : Jvm.MethodName)) ∈ lw_all := lw_g (lw_at lw_m9 109 rfl) rfl
theorem q2101 : (Jvm.Cond.code ({ cls := "AppealrentModel", name := "fact", desc := "(III)I" } : Jvm.MethodName) prog_13_method_43_code (4 : Nat) (Option.some Jvm.ClassFile.FieldType.int)) ∈ lw_all := lw_g (lw_at lw_m9 110 rfl) rfl
theorem q2102 : (Jvm.Cond.methodLink "AppealrentModel" (273 : Nat) ({ cls := "AppealrentModel", name := "isDay", desc := "(I)Z" } : Jvm.MethodName)) ∈ lw_all := lw_g (lw_at lw_m9 111 rfl) rfl
theorem q2103 : (Jvm.Cond.static ({ cls := "AppealrentModel", name := "isDay", desc := "(I)Z" } : Jvm.MethodName)) ∈ lw_all := lw_g (lw_at lw_m9 112 rfl) rfl
theorem q2104 : (Jvm.Cond.code ({ cls := "AppealrentModel", name := "isDay", desc := "(I)Z" } : Jvm.MethodName) prog_13_method_42_code (1 : Nat) (Option.some Jvm.ClassFile.FieldType.boolean)) ∈ lw_all := lw_g (lw_at lw_m9 113 rfl) rfl
theorem q2105 : (Jvm.Cond.constantLong "AppealrentModel" (271 : Nat) (1529 : Int64)) ∈ lw_all := lw_g (lw_at lw_m9 114 rfl) rfl
theorem q2106 : (Jvm.Cond.constantLong "AppealrentModel" (276 : Nat) (3 : Int64)) ∈ lw_all := lw_g (lw_at lw_m9 115 rfl) rfl
theorem q2108 : (Jvm.Cond.instanceMethod ({ cls := "AppealrentModel", name := "ruleOn", desc := "(II)I" } : Jvm.MethodName)) ∈ lw_all := lw_g (lw_at lw_m9 117 rfl) rfl
theorem q2109 : (Jvm.Cond.selects "AppealrentModel" ({ cls := "AppealrentModel", name := "ruleOn", desc := "(II)I" } : Jvm.MethodName) ({ cls := "AppealrentModel", name := "ruleOn", desc := "(II)I" } : Jvm.MethodName)) ∈ lw_all := lw_g (lw_at lw_m9 118 rfl) rfl
theorem q2110 : (Jvm.Cond.code ({ cls := "AppealrentModel", name := "ruleOn", desc := "(II)I" } : Jvm.MethodName) prog_13_method_44_code (3 : Nat) (Option.some Jvm.ClassFile.FieldType.int)) ∈ lw_all := lw_g (lw_at lw_m9 119 rfl) rfl
theorem q2112 : (Jvm.Cond.instanceMethod ({ cls := "AppealrentModel", name := "help", desc := "(II)I" } : Jvm.MethodName)) ∈ lw_all := lw_g (lw_at lw_m9 121 rfl) rfl
theorem q2113 : (Jvm.Cond.selects "AppealrentModel" ({ cls := "AppealrentModel", name := "help", desc := "(II)I" } : Jvm.MethodName) ({ cls := "AppealrentModel", name := "help", desc := "(II)I" } : Jvm.MethodName)) ∈ lw_all := lw_g (lw_at lw_m9 122 rfl) rfl
theorem q2114 : (Jvm.Cond.code ({ cls := "AppealrentModel", name := "help", desc := "(II)I" } : Jvm.MethodName) prog_13_method_45_code (3 : Nat) (Option.some Jvm.ClassFile.FieldType.int)) ∈ lw_all := lw_g (lw_at lw_m9 123 rfl) rfl
theorem q2116 : (Jvm.Cond.instanceMethod ({ cls := "AppealrentModel", name := "due", desc := "(II)I" } : Jvm.MethodName)) ∈ lw_all := lw_g (lw_at lw_m9 125 rfl) rfl
theorem q2117 : (Jvm.Cond.selects "AppealrentModel" ({ cls := "AppealrentModel", name := "due", desc := "(II)I" } : Jvm.MethodName) ({ cls := "AppealrentModel", name := "due", desc := "(II)I" } : Jvm.MethodName)) ∈ lw_all := lw_g (lw_at lw_m9 126 rfl) rfl
theorem q2118 : (Jvm.Cond.code ({ cls := "AppealrentModel", name := "due", desc := "(II)I" } : Jvm.MethodName) prog_13_method_46_code (3 : Nat) (Option.some Jvm.ClassFile.FieldType.int)) ∈ lw_all := lw_g (lw_at lw_m9 127 rfl) rfl
theorem q2119 : (Jvm.Cond.constantLong "AppealrentModel" (278 : Nat) (50 : Int64)) ∈ lw_all := lw_g (lw_at lw_m9 128 rfl) rfl
theorem q2121 : (Jvm.Cond.instanceMethod ({ cls := "AppealrentModel", name := "paid", desc := "(II)I" } : Jvm.MethodName)) ∈ lw_all := lw_g (lw_at lw_m9 130 rfl) rfl
theorem q2122 : (Jvm.Cond.selects "AppealrentModel" ({ cls := "AppealrentModel", name := "paid", desc := "(II)I" } : Jvm.MethodName) ({ cls := "AppealrentModel", name := "paid", desc := "(II)I" } : Jvm.MethodName)) ∈ lw_all := lw_g (lw_at lw_m9 131 rfl) rfl
theorem q2123 : (Jvm.Cond.code ({ cls := "AppealrentModel", name := "paid", desc := "(II)I" } : Jvm.MethodName) prog_13_method_47_code (3 : Nat) (Option.some Jvm.ClassFile.FieldType.int)) ∈ lw_all := lw_g (lw_at lw_m9 132 rfl) rfl
theorem q2125 : (Jvm.Cond.instanceMethod ({ cls := "AppealrentModel", name := "caseAt", desc := "(II)I" } : Jvm.MethodName)) ∈ lw_all := lw_g (lw_at lw_m9 134 rfl) rfl
theorem q2126 : (Jvm.Cond.selects "AppealrentModel" ({ cls := "AppealrentModel", name := "caseAt", desc := "(II)I" } : Jvm.MethodName) ({ cls := "AppealrentModel", name := "caseAt", desc := "(II)I" } : Jvm.MethodName)) ∈ lw_all := lw_g (lw_at lw_m9 135 rfl) rfl
theorem q2127 : (Jvm.Cond.code ({ cls := "AppealrentModel", name := "caseAt", desc := "(II)I" } : Jvm.MethodName) prog_13_method_51_code (3 : Nat) (Option.some Jvm.ClassFile.FieldType.int)) ∈ lw_all := lw_g (lw_at lw_m9 136 rfl) rfl
theorem q2128 : (Jvm.Cond.constantLong "AppealrentModel" (280 : Nat) (10 : Int64)) ∈ lw_all := lw_g (lw_at lw_m9 137 rfl) rfl
theorem q2129 : (Jvm.Cond.methodLink "AppealrentModel" (282 : Nat) ({ cls := "AppealrentModel", name := "formsOf", desc := "(I)I" } : Jvm.MethodName)) ∈ lw_all := lw_g (lw_at lw_m9 138 rfl) rfl
theorem q2130 : (Jvm.Cond.privateMethod ({ cls := "AppealrentModel", name := "formsOf", desc := "(I)I" } : Jvm.MethodName)) ∈ lw_tbl := lw_at lw_m9 139 rfl
theorem q2131 : (Jvm.Cond.instanceMethod ({ cls := "AppealrentModel", name := "formsOf", desc := "(I)I" } : Jvm.MethodName)) ∈ lw_all := lw_g (lw_at lw_m9 140 rfl) rfl
theorem q2132 : (Jvm.Cond.code ({ cls := "AppealrentModel", name := "formsOf", desc := "(I)I" } : Jvm.MethodName) prog_13_method_48_code (4 : Nat) (Option.some Jvm.ClassFile.FieldType.int)) ∈ lw_all := lw_g (lw_at lw_m9 141 rfl) rfl
theorem q2133 : (Jvm.Cond.methodLink "AppealrentModel" (285 : Nat) ({ cls := "AppealrentModel", name := "claimsOf", desc := "(I)I" } : Jvm.MethodName)) ∈ lw_all := lw_g (lw_at lw_m9 142 rfl) rfl
theorem q2134 : (Jvm.Cond.privateMethod ({ cls := "AppealrentModel", name := "claimsOf", desc := "(I)I" } : Jvm.MethodName)) ∈ lw_tbl := lw_at lw_m9 143 rfl
theorem q2135 : (Jvm.Cond.instanceMethod ({ cls := "AppealrentModel", name := "claimsOf", desc := "(I)I" } : Jvm.MethodName)) ∈ lw_all := lw_g (lw_at lw_m9 144 rfl) rfl
theorem q2136 : (Jvm.Cond.code ({ cls := "AppealrentModel", name := "claimsOf", desc := "(I)I" } : Jvm.MethodName) prog_13_method_49_code (4 : Nat) (Option.some Jvm.ClassFile.FieldType.int)) ∈ lw_all := lw_g (lw_at lw_m9 145 rfl) rfl
theorem q2137 : (Jvm.Cond.methodLink "AppealrentModel" (288 : Nat) ({ cls := "AppealrentModel", name := "paidTo", desc := "(I)I" } : Jvm.MethodName)) ∈ lw_all := lw_g (lw_at lw_m9 146 rfl) rfl
theorem q2138 : (Jvm.Cond.privateMethod ({ cls := "AppealrentModel", name := "paidTo", desc := "(I)I" } : Jvm.MethodName)) ∈ lw_tbl := lw_at lw_m9 147 rfl
theorem q2139 : (Jvm.Cond.instanceMethod ({ cls := "AppealrentModel", name := "paidTo", desc := "(I)I" } : Jvm.MethodName)) ∈ lw_all := lw_g (lw_at lw_m9 148 rfl) rfl
theorem q2140 : (Jvm.Cond.code ({ cls := "AppealrentModel", name := "paidTo", desc := "(I)I" } : Jvm.MethodName) prog_13_method_50_code (4 : Nat) (Option.some Jvm.ClassFile.FieldType.int)) ∈ lw_all := lw_g (lw_at lw_m9 149 rfl) rfl
theorem q2142 : (Jvm.Cond.instanceMethod ({ cls := "AppealrentModel", name := "formAt", desc := "(II)I" } : Jvm.MethodName)) ∈ lw_all := lw_g (lw_at lw_m9 151 rfl) rfl
theorem q2143 : (Jvm.Cond.selects "AppealrentModel" ({ cls := "AppealrentModel", name := "formAt", desc := "(II)I" } : Jvm.MethodName) ({ cls := "AppealrentModel", name := "formAt", desc := "(II)I" } : Jvm.MethodName)) ∈ lw_all := lw_g (lw_at lw_m9 152 rfl) rfl
theorem q2144 : (Jvm.Cond.code ({ cls := "AppealrentModel", name := "formAt", desc := "(II)I" } : Jvm.MethodName) prog_13_method_52_code (5 : Nat) (Option.some Jvm.ClassFile.FieldType.int)) ∈ lw_all := lw_g (lw_at lw_m9 153 rfl) rfl
theorem q2145 : (Jvm.Cond.constantLong "AppealrentModel" (291 : Nat) (4 : Int64)) ∈ lw_all := lw_g (lw_at lw_m9 154 rfl) rfl
theorem q2147 : (Jvm.Cond.instanceMethod ({ cls := "AppealrentModel", name := "ruleAt", desc := "(II)I" } : Jvm.MethodName)) ∈ lw_all := lw_g (lw_at lw_m9 156 rfl) rfl
theorem q2148 : (Jvm.Cond.selects "AppealrentModel" ({ cls := "AppealrentModel", name := "ruleAt", desc := "(II)I" } : Jvm.MethodName) ({ cls := "AppealrentModel", name := "ruleAt", desc := "(II)I" } : Jvm.MethodName)) ∈ lw_all := lw_g (lw_at lw_m9 157 rfl) rfl
theorem q2149 : (Jvm.Cond.code ({ cls := "AppealrentModel", name := "ruleAt", desc := "(II)I" } : Jvm.MethodName) prog_13_method_53_code (3 : Nat) (Option.some Jvm.ClassFile.FieldType.int)) ∈ lw_all := lw_g (lw_at lw_m9 158 rfl) rfl
theorem q2150 : (Jvm.Cond.constantLong "AppealrentModel" (293 : Nat) (6 : Int64)) ∈ lw_all := lw_g (lw_at lw_m9 159 rfl) rfl
theorem q2152 : (Jvm.Cond.instanceMethod ({ cls := "AppealrentModel", name := "claimAt", desc := "(II)I" } : Jvm.MethodName)) ∈ lw_all := lw_g (lw_at lw_m9 161 rfl) rfl
theorem q2153 : (Jvm.Cond.selects "AppealrentModel" ({ cls := "AppealrentModel", name := "claimAt", desc := "(II)I" } : Jvm.MethodName) ({ cls := "AppealrentModel", name := "claimAt", desc := "(II)I" } : Jvm.MethodName)) ∈ lw_all := lw_g (lw_at lw_m9 162 rfl) rfl
theorem q2154 : (Jvm.Cond.code ({ cls := "AppealrentModel", name := "claimAt", desc := "(II)I" } : Jvm.MethodName) prog_13_method_54_code (3 : Nat) (Option.some Jvm.ClassFile.FieldType.int)) ∈ lw_all := lw_g (lw_at lw_m9 163 rfl) rfl
theorem q2155 : (Jvm.Cond.constantLong "AppealrentModel" (295 : Nat) (5 : Int64)) ∈ lw_all := lw_g (lw_at lw_m9 164 rfl) rfl
theorem q2157 : (Jvm.Cond.instanceMethod ({ cls := "AppealrentModel", name := "write", desc := "(IZ)I" } : Jvm.MethodName)) ∈ lw_all := lw_g (lw_at lw_m9 166 rfl) rfl
theorem q2158 : (Jvm.Cond.selects "AppealrentModel" ({ cls := "AppealrentModel", name := "write", desc := "(IZ)I" } : Jvm.MethodName) ({ cls := "AppealrentModel", name := "write", desc := "(IZ)I" } : Jvm.MethodName)) ∈ lw_all := lw_g (lw_at lw_m9 167 rfl) rfl
theorem q2159 : (Jvm.Cond.code ({ cls := "AppealrentModel", name := "write", desc := "(IZ)I" } : Jvm.MethodName) prog_13_method_55_code (5 : Nat) (Option.some Jvm.ClassFile.FieldType.int)) ∈ lw_all := lw_g (lw_at lw_m9 168 rfl) rfl
theorem q2160 : (Jvm.Cond.methodLink "AppealrentModel" (297 : Nat) ({ cls := "java/lang/StringBuilder", name := "setLength", desc := "(I)V" } : Jvm.MethodName)) ∈ lw_all := lw_g (lw_at lw_m9 169 rfl) rfl
theorem q2161 : (Jvm.Cond.methodLink "AppealrentModel" (300 : Nat) ({ cls := "java/lang/StringBuilder", name := "appendCodePoint", desc := "(I)Ljava/lang/StringBuilder;" } : Jvm.MethodName)) ∈ lw_all := lw_g (lw_at lw_m9 170 rfl) rfl
theorem q2162 : (Jvm.Cond.methodLink "AppealrentModel" (304 : Nat) ({ cls := "java/lang/StringBuilder", name := "append", desc := "(C)Ljava/lang/StringBuilder;" } : Jvm.MethodName)) ∈ lw_all := lw_g (lw_at lw_m9 171 rfl) rfl
theorem q2163 : (Jvm.Cond.methodLink "AppealrentModel" (308 : Nat) ({ cls := "java/lang/StringBuilder", name := "append", desc := "(I)Ljava/lang/StringBuilder;" } : Jvm.MethodName)) ∈ lw_all := lw_g (lw_at lw_m9 172 rfl) rfl
theorem q2164 : (Jvm.Cond.stringRef "AppealrentModel" (310 : Nat) " ended") ∈ lw_tbl := lw_at lw_m9 173 rfl
theorem q2165 : (Jvm.Cond.methodLink "AppealrentModel" (312 : Nat) ({ cls := "java/lang/StringBuilder", name := "append", desc := "(Ljava/lang/String;)Ljava/lang/StringBuilder;" } : Jvm.MethodName)) ∈ lw_all := lw_g (lw_at lw_m9 174 rfl) rfl
theorem q2166 : (Jvm.Cond.methodLink "AppealrentModel" (315 : Nat) ({ cls := "java/lang/StringBuilder", name := "length", desc := "()I" } : Jvm.MethodName)) ∈ lw_all := lw_g (lw_at lw_m9 175 rfl) rfl
theorem q2168 : (Jvm.Cond.instanceMethod ({ cls := "AppealrentModel", name := "outputAt", desc := "(I)I" } : Jvm.MethodName)) ∈ lw_all := lw_g (lw_at lw_m9 177 rfl) rfl
theorem q2169 : (Jvm.Cond.selects "AppealrentModel" ({ cls := "AppealrentModel", name := "outputAt", desc := "(I)I" } : Jvm.MethodName) ({ cls := "AppealrentModel", name := "outputAt", desc := "(I)I" } : Jvm.MethodName)) ∈ lw_all := lw_g (lw_at lw_m9 178 rfl) rfl
theorem q2170 : (Jvm.Cond.code ({ cls := "AppealrentModel", name := "outputAt", desc := "(I)I" } : Jvm.MethodName) prog_13_method_56_code (2 : Nat) (Option.some Jvm.ClassFile.FieldType.int)) ∈ lw_all := lw_g (lw_at lw_m9 179 rfl) rfl
theorem q2171 : (Jvm.Cond.methodLink "AppealrentModel" (316 : Nat) ({ cls := "java/lang/StringBuilder", name := "charAt", desc := "(I)C" } : Jvm.MethodName)) ∈ lw_all := lw_g (lw_at lw_m9 180 rfl) rfl
theorem q2181 : (Jvm.Cond.instanceMethod ({ cls := "AppealrentModel", name := "count", desc := "(I)I" } : Jvm.MethodName)) ∈ lw_all := lw_g (lw_at lw_m9 190 rfl) rfl
theorem q2182 : (Jvm.Cond.selects "AppealrentModel" ({ cls := "AppealrentModel", name := "count", desc := "(I)I" } : Jvm.MethodName) ({ cls := "AppealrentModel", name := "count", desc := "(I)I" } : Jvm.MethodName)) ∈ lw_all := lw_g (lw_at lw_m9 191 rfl) rfl
theorem q2183 : (Jvm.Cond.code ({ cls := "AppealrentModel", name := "count", desc := "(I)I" } : Jvm.MethodName) prog_13_method_58_code (2 : Nat) (Option.some Jvm.ClassFile.FieldType.int)) ∈ lw_all := lw_g (lw_at lw_m9 192 rfl) rfl
theorem q2184 : (Jvm.Cond.constantLong "AppealrentModel" (317 : Nat) (13 : Int64)) ∈ lw_all := lw_g (lw_at lw_m9 193 rfl) rfl
theorem q2185 : (Jvm.Cond.methodLink "AppealrentModel" (319 : Nat) ({ cls := "AppealrentModel", name := "claimsIn", desc := "(I)I" } : Jvm.MethodName)) ∈ lw_all := lw_g (lw_at lw_m9 194 rfl) rfl
theorem q2186 : (Jvm.Cond.privateMethod ({ cls := "AppealrentModel", name := "claimsIn", desc := "(I)I" } : Jvm.MethodName)) ∈ lw_tbl := lw_at lw_m9 195 rfl
theorem q2187 : (Jvm.Cond.instanceMethod ({ cls := "AppealrentModel", name := "claimsIn", desc := "(I)I" } : Jvm.MethodName)) ∈ lw_all := lw_g (lw_at lw_m9 196 rfl) rfl
theorem q2188 : (Jvm.Cond.code ({ cls := "AppealrentModel", name := "claimsIn", desc := "(I)I" } : Jvm.MethodName) prog_13_method_57_code (4 : Nat) (Option.some Jvm.ClassFile.FieldType.int)) ∈ lw_all := lw_g (lw_at lw_m9 197 rfl) rfl
theorem q2190 : (Jvm.Cond.instanceMethod ({ cls := "AppealrentModel", name := "meanHelp", desc := "()D" } : Jvm.MethodName)) ∈ lw_all := lw_g (lw_at lw_m9 199 rfl) rfl
theorem q2191 : (Jvm.Cond.selects "AppealrentModel" ({ cls := "AppealrentModel", name := "meanHelp", desc := "()D" } : Jvm.MethodName) ({ cls := "AppealrentModel", name := "meanHelp", desc := "()D" } : Jvm.MethodName)) ∈ lw_all := lw_g (lw_at lw_m9 200 rfl) rfl
theorem q2192 : (Jvm.Cond.code ({ cls := "AppealrentModel", name := "meanHelp", desc := "()D" } : Jvm.MethodName) prog_13_method_59_code (4 : Nat) (Option.some Jvm.ClassFile.FieldType.double)) ∈ lw_all := lw_g (lw_at lw_m9 201 rfl) rfl
theorem q2194 : (Jvm.Cond.instanceMethod ({ cls := "AppealrentModel", name := "calledBack", desc := "()F" } : Jvm.MethodName)) ∈ lw_all := lw_g (lw_at lw_m9 203 rfl) rfl
theorem q2195 : (Jvm.Cond.selects "AppealrentModel" ({ cls := "AppealrentModel", name := "calledBack", desc := "()F" } : Jvm.MethodName) ({ cls := "AppealrentModel", name := "calledBack", desc := "()F" } : Jvm.MethodName)) ∈ lw_all := lw_g (lw_at lw_m9 204 rfl) rfl
theorem q2196 : (Jvm.Cond.code ({ cls := "AppealrentModel", name := "calledBack", desc := "()F" } : Jvm.MethodName) prog_13_method_60_code (6 : Nat) (Option.some Jvm.ClassFile.FieldType.float)) ∈ lw_all := lw_g (lw_at lw_m9 205 rfl) rfl
theorem q2198 : (Jvm.Cond.instanceMethod ({ cls := "AppealrentModel", name := "errors", desc := "()I" } : Jvm.MethodName)) ∈ lw_all := lw_g (lw_at lw_m9 207 rfl) rfl
theorem q2199 : (Jvm.Cond.selects "AppealrentModel" ({ cls := "AppealrentModel", name := "errors", desc := "()I" } : Jvm.MethodName) ({ cls := "AppealrentModel", name := "errors", desc := "()I" } : Jvm.MethodName)) ∈ lw_all := lw_g (lw_at lw_m9 208 rfl) rfl
theorem q2200 : (Jvm.Cond.code ({ cls := "AppealrentModel", name := "errors", desc := "()I" } : Jvm.MethodName) prog_13_method_61_code (5 : Nat) (Option.some Jvm.ClassFile.FieldType.int)) ∈ lw_all := lw_g (lw_at lw_m9 209 rfl) rfl
theorem q2234 : (Jvm.Cond.castable "AppealrentModel" "java/lang/Object") ∈ lw_tbl := lw_at lw_m10 3 rfl
theorem in_X3 : ∀ w ∈ wsX30, w ∈ lw_all := lw_in wsX30 [1848, 1850, 1852, 1854, 1856, 1858, 1860, 1862, 1864, 1866, 1868, 1870, 1872, 1874, 1876, 1878, 1880, 1882, 1884, 1886, 1888, 1890, 1892, 1894, 1896, 1898, 1900, 1902, 1904] (by decide +kernel) (by decide +kernel)
