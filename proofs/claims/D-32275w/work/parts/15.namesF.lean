/-! java/lang/Character -/
set_option maxRecDepth 100000
def RJ18 : String := "java/lang/Character"
abbrev cJ18_isHighSurrogate : ByteArray := prog_19_method_14_code
def yJ18_isHighSurrogate : MethodName := ⟨RJ18, "isHighSurrogate", "(C)Z"⟩
def dkwJ18_isHighSurrogate_0 : List UInt8 := [26, 18, 75, 161, 0, 13, 26, 18, 76, 162, 0, 7, 4, 167, 0, 4, 3, 172]
abbrev dktJ18_isHighSurrogate_0 : List UInt8 := dkwJ18_isHighSurrogate_0 ++ []
theorem dksJ18_isHighSurrogate_0 : cJ18_isHighSurrogate.data.toList.drop 0 = dktJ18_isHighSurrogate_0 := by decide +kernel
theorem dJ18_isHighSurrogate_0 : decode cJ18_isHighSurrogate 0 = .ok (.iload_n 0, 1) := dk_26 (dk_at dksJ18_isHighSurrogate_0 0 rfl rfl)
theorem dJ18_isHighSurrogate_1 : decode cJ18_isHighSurrogate 1 = .ok (.ldc 75, 2) := dk_18 75 (dk_at dksJ18_isHighSurrogate_0 1 rfl rfl)
theorem dJ18_isHighSurrogate_3 : decode cJ18_isHighSurrogate 3 = .ok (.if_icmp .lt 13, 3) := dk_161 0 13 (dk_at dksJ18_isHighSurrogate_0 3 rfl rfl)
theorem dJ18_isHighSurrogate_6 : decode cJ18_isHighSurrogate 6 = .ok (.iload_n 0, 1) := dk_26 (dk_at dksJ18_isHighSurrogate_0 6 rfl rfl)
theorem dJ18_isHighSurrogate_7 : decode cJ18_isHighSurrogate 7 = .ok (.ldc 76, 2) := dk_18 76 (dk_at dksJ18_isHighSurrogate_0 7 rfl rfl)
theorem dJ18_isHighSurrogate_9 : decode cJ18_isHighSurrogate 9 = .ok (.if_icmp .ge 7, 3) := dk_162 0 7 (dk_at dksJ18_isHighSurrogate_0 9 rfl rfl)
theorem dJ18_isHighSurrogate_12 : decode cJ18_isHighSurrogate 12 = .ok (.iconst 1, 1) := dk_4 (dk_at dksJ18_isHighSurrogate_0 12 rfl rfl)
theorem dJ18_isHighSurrogate_13 : decode cJ18_isHighSurrogate 13 = .ok (.goto 4, 3) := dk_167 0 4 (dk_at dksJ18_isHighSurrogate_0 13 rfl rfl)
theorem dJ18_isHighSurrogate_16 : decode cJ18_isHighSurrogate 16 = .ok (.iconst 0, 1) := dk_3 (dk_at dksJ18_isHighSurrogate_0 16 rfl rfl)
theorem dJ18_isHighSurrogate_17 : decode cJ18_isHighSurrogate 17 = .ok (.ireturn, 1) := dk_172 (dk_at dksJ18_isHighSurrogate_0 17 rfl rfl)
abbrev cJ18_isLowSurrogate : ByteArray := prog_19_method_15_code
def yJ18_isLowSurrogate : MethodName := ⟨RJ18, "isLowSurrogate", "(C)Z"⟩
def dkwJ18_isLowSurrogate_0 : List UInt8 := [26, 18, 76, 161, 0, 13, 26, 18, 77, 162, 0, 7, 4, 167, 0, 4, 3, 172]
abbrev dktJ18_isLowSurrogate_0 : List UInt8 := dkwJ18_isLowSurrogate_0 ++ []
theorem dksJ18_isLowSurrogate_0 : cJ18_isLowSurrogate.data.toList.drop 0 = dktJ18_isLowSurrogate_0 := by decide +kernel
theorem dJ18_isLowSurrogate_0 : decode cJ18_isLowSurrogate 0 = .ok (.iload_n 0, 1) := dk_26 (dk_at dksJ18_isLowSurrogate_0 0 rfl rfl)
theorem dJ18_isLowSurrogate_1 : decode cJ18_isLowSurrogate 1 = .ok (.ldc 76, 2) := dk_18 76 (dk_at dksJ18_isLowSurrogate_0 1 rfl rfl)
theorem dJ18_isLowSurrogate_3 : decode cJ18_isLowSurrogate 3 = .ok (.if_icmp .lt 13, 3) := dk_161 0 13 (dk_at dksJ18_isLowSurrogate_0 3 rfl rfl)
theorem dJ18_isLowSurrogate_6 : decode cJ18_isLowSurrogate 6 = .ok (.iload_n 0, 1) := dk_26 (dk_at dksJ18_isLowSurrogate_0 6 rfl rfl)
theorem dJ18_isLowSurrogate_7 : decode cJ18_isLowSurrogate 7 = .ok (.ldc 77, 2) := dk_18 77 (dk_at dksJ18_isLowSurrogate_0 7 rfl rfl)
theorem dJ18_isLowSurrogate_9 : decode cJ18_isLowSurrogate 9 = .ok (.if_icmp .ge 7, 3) := dk_162 0 7 (dk_at dksJ18_isLowSurrogate_0 9 rfl rfl)
theorem dJ18_isLowSurrogate_12 : decode cJ18_isLowSurrogate 12 = .ok (.iconst 1, 1) := dk_4 (dk_at dksJ18_isLowSurrogate_0 12 rfl rfl)
theorem dJ18_isLowSurrogate_13 : decode cJ18_isLowSurrogate 13 = .ok (.goto 4, 3) := dk_167 0 4 (dk_at dksJ18_isLowSurrogate_0 13 rfl rfl)
theorem dJ18_isLowSurrogate_16 : decode cJ18_isLowSurrogate 16 = .ok (.iconst 0, 1) := dk_3 (dk_at dksJ18_isLowSurrogate_0 16 rfl rfl)
theorem dJ18_isLowSurrogate_17 : decode cJ18_isLowSurrogate 17 = .ok (.ireturn, 1) := dk_172 (dk_at dksJ18_isLowSurrogate_0 17 rfl rfl)
abbrev cJ18_isBmpCodePoint : ByteArray := prog_19_method_12_code
def yJ18_isBmpCodePoint : MethodName := ⟨RJ18, "isBmpCodePoint", "(I)Z"⟩
def dkwJ18_isBmpCodePoint_0 : List UInt8 := [26, 16, 16, 124, 154, 0, 7, 4, 167, 0, 4, 3, 172]
abbrev dktJ18_isBmpCodePoint_0 : List UInt8 := dkwJ18_isBmpCodePoint_0 ++ []
theorem dksJ18_isBmpCodePoint_0 : cJ18_isBmpCodePoint.data.toList.drop 0 = dktJ18_isBmpCodePoint_0 := by decide +kernel
theorem dJ18_isBmpCodePoint_0 : decode cJ18_isBmpCodePoint 0 = .ok (.iload_n 0, 1) := dk_26 (dk_at dksJ18_isBmpCodePoint_0 0 rfl rfl)
theorem dJ18_isBmpCodePoint_1 : decode cJ18_isBmpCodePoint 1 = .ok (.bipush 16, 2) := dk_16 16 (dk_at dksJ18_isBmpCodePoint_0 1 rfl rfl)
theorem dJ18_isBmpCodePoint_3 : decode cJ18_isBmpCodePoint 3 = .ok (.iushr, 1) := dk_124 (dk_at dksJ18_isBmpCodePoint_0 3 rfl rfl)
theorem dJ18_isBmpCodePoint_4 : decode cJ18_isBmpCodePoint 4 = .ok (.ifCond .ne 7, 3) := dk_154 0 7 (dk_at dksJ18_isBmpCodePoint_0 4 rfl rfl)
theorem dJ18_isBmpCodePoint_7 : decode cJ18_isBmpCodePoint 7 = .ok (.iconst 1, 1) := dk_4 (dk_at dksJ18_isBmpCodePoint_0 7 rfl rfl)
theorem dJ18_isBmpCodePoint_8 : decode cJ18_isBmpCodePoint 8 = .ok (.goto 4, 3) := dk_167 0 4 (dk_at dksJ18_isBmpCodePoint_0 8 rfl rfl)
theorem dJ18_isBmpCodePoint_11 : decode cJ18_isBmpCodePoint 11 = .ok (.iconst 0, 1) := dk_3 (dk_at dksJ18_isBmpCodePoint_0 11 rfl rfl)
theorem dJ18_isBmpCodePoint_12 : decode cJ18_isBmpCodePoint 12 = .ok (.ireturn, 1) := dk_172 (dk_at dksJ18_isBmpCodePoint_0 12 rfl rfl)
abbrev cJ18_toChars : ByteArray := prog_19_method_31_code
def yJ18_toChars : MethodName := ⟨RJ18, "toChars", "(I)[C"⟩
def dkwJ18_toChars_2 : List UInt8 := [184, 0, 23, 83, 184, 0, 126, 183, 0, 130, 191]
abbrev dktJ18_toChars_2 : List UInt8 := dkwJ18_toChars_2 ++ []
def dkwJ18_toChars_1 : List UInt8 := [188, 5, 76, 26, 43, 3, 184, 0, 118, 43, 176, 187, 0, 122, 89, 18, 124, 4, 189, 0, 42, 89, 3, 26]
abbrev dktJ18_toChars_1 : List UInt8 := dkwJ18_toChars_1 ++ dktJ18_toChars_2
def dkwJ18_toChars_0 : List UInt8 := [26, 184, 0, 111, 153, 0, 12, 4, 188, 5, 89, 3, 26, 146, 85, 176, 26, 184, 0, 115, 153, 0, 15, 5]
abbrev dktJ18_toChars_0 : List UInt8 := dkwJ18_toChars_0 ++ dktJ18_toChars_1
theorem dksJ18_toChars_0 : cJ18_toChars.data.toList.drop 0 = dktJ18_toChars_0 := by decide +kernel
theorem dksJ18_toChars_1 : cJ18_toChars.data.toList.drop 24 = dktJ18_toChars_1 := dk_seg dksJ18_toChars_0 24 rfl rfl
theorem dksJ18_toChars_2 : cJ18_toChars.data.toList.drop 48 = dktJ18_toChars_2 := dk_seg dksJ18_toChars_1 24 rfl rfl
theorem dJ18_toChars_0 : decode cJ18_toChars 0 = .ok (.iload_n 0, 1) := dk_26 (dk_at dksJ18_toChars_0 0 rfl rfl)
theorem dJ18_toChars_1 : decode cJ18_toChars 1 = .ok (.invokestatic 111, 3) := dk_184 0 111 (dk_at dksJ18_toChars_0 1 rfl rfl)
theorem dJ18_toChars_4 : decode cJ18_toChars 4 = .ok (.ifCond .eq 12, 3) := dk_153 0 12 (dk_at dksJ18_toChars_0 4 rfl rfl)
theorem dJ18_toChars_7 : decode cJ18_toChars 7 = .ok (.iconst 1, 1) := dk_4 (dk_at dksJ18_toChars_0 7 rfl rfl)
theorem dJ18_toChars_8 : decode cJ18_toChars 8 = .ok (.newarray .char, 2) := dk_188_5 (dk_at dksJ18_toChars_0 8 rfl rfl)
theorem dJ18_toChars_10 : decode cJ18_toChars 10 = .ok (.dup, 1) := dk_89 (dk_at dksJ18_toChars_0 10 rfl rfl)
theorem dJ18_toChars_11 : decode cJ18_toChars 11 = .ok (.iconst 0, 1) := dk_3 (dk_at dksJ18_toChars_0 11 rfl rfl)
theorem dJ18_toChars_12 : decode cJ18_toChars 12 = .ok (.iload_n 0, 1) := dk_26 (dk_at dksJ18_toChars_0 12 rfl rfl)
theorem dJ18_toChars_13 : decode cJ18_toChars 13 = .ok (.i2c, 1) := dk_146 (dk_at dksJ18_toChars_0 13 rfl rfl)
theorem dJ18_toChars_14 : decode cJ18_toChars 14 = .ok (.castore, 1) := dk_85 (dk_at dksJ18_toChars_0 14 rfl rfl)
theorem dJ18_toChars_15 : decode cJ18_toChars 15 = .ok (.areturn, 1) := dk_176 (dk_at dksJ18_toChars_0 15 rfl rfl)
theorem dJ18_toChars_16 : decode cJ18_toChars 16 = .ok (.iload_n 0, 1) := dk_26 (dk_at dksJ18_toChars_0 16 rfl rfl)
theorem dJ18_toChars_17 : decode cJ18_toChars 17 = .ok (.invokestatic 115, 3) := dk_184 0 115 (dk_at dksJ18_toChars_0 17 rfl rfl)
theorem dJ18_toChars_20 : decode cJ18_toChars 20 = .ok (.ifCond .eq 15, 3) := dk_153 0 15 (dk_at dksJ18_toChars_0 20 rfl rfl)
theorem dJ18_toChars_23 : decode cJ18_toChars 23 = .ok (.iconst 2, 1) := dk_5 (dk_at dksJ18_toChars_0 23 rfl rfl)
theorem dJ18_toChars_24 : decode cJ18_toChars 24 = .ok (.newarray .char, 2) := dk_188_5 (dk_at dksJ18_toChars_1 0 rfl rfl)
theorem dJ18_toChars_26 : decode cJ18_toChars 26 = .ok (.astore_n 1, 1) := dk_76 (dk_at dksJ18_toChars_1 2 rfl rfl)
theorem dJ18_toChars_27 : decode cJ18_toChars 27 = .ok (.iload_n 0, 1) := dk_26 (dk_at dksJ18_toChars_1 3 rfl rfl)
theorem dJ18_toChars_28 : decode cJ18_toChars 28 = .ok (.aload_n 1, 1) := dk_43 (dk_at dksJ18_toChars_1 4 rfl rfl)
theorem dJ18_toChars_29 : decode cJ18_toChars 29 = .ok (.iconst 0, 1) := dk_3 (dk_at dksJ18_toChars_1 5 rfl rfl)
theorem dJ18_toChars_30 : decode cJ18_toChars 30 = .ok (.invokestatic 118, 3) := dk_184 0 118 (dk_at dksJ18_toChars_1 6 rfl rfl)
theorem dJ18_toChars_33 : decode cJ18_toChars 33 = .ok (.aload_n 1, 1) := dk_43 (dk_at dksJ18_toChars_1 9 rfl rfl)
theorem dJ18_toChars_34 : decode cJ18_toChars 34 = .ok (.areturn, 1) := dk_176 (dk_at dksJ18_toChars_1 10 rfl rfl)
theorem dJ18_toChars_35 : decode cJ18_toChars 35 = .ok (.new 122, 3) := dk_187 0 122 (dk_at dksJ18_toChars_1 11 rfl rfl)
theorem dJ18_toChars_38 : decode cJ18_toChars 38 = .ok (.dup, 1) := dk_89 (dk_at dksJ18_toChars_1 14 rfl rfl)
theorem dJ18_toChars_39 : decode cJ18_toChars 39 = .ok (.ldc 124, 2) := dk_18 124 (dk_at dksJ18_toChars_1 15 rfl rfl)
theorem dJ18_toChars_41 : decode cJ18_toChars 41 = .ok (.iconst 1, 1) := dk_4 (dk_at dksJ18_toChars_1 17 rfl rfl)
theorem dJ18_toChars_42 : decode cJ18_toChars 42 = .ok (.anewarray 42, 3) := dk_189 0 42 (dk_at dksJ18_toChars_1 18 rfl rfl)
theorem dJ18_toChars_45 : decode cJ18_toChars 45 = .ok (.dup, 1) := dk_89 (dk_at dksJ18_toChars_1 21 rfl rfl)
theorem dJ18_toChars_46 : decode cJ18_toChars 46 = .ok (.iconst 0, 1) := dk_3 (dk_at dksJ18_toChars_1 22 rfl rfl)
theorem dJ18_toChars_47 : decode cJ18_toChars 47 = .ok (.iload_n 0, 1) := dk_26 (dk_at dksJ18_toChars_1 23 rfl rfl)
theorem dJ18_toChars_48 : decode cJ18_toChars 48 = .ok (.invokestatic 23, 3) := dk_184 0 23 (dk_at dksJ18_toChars_2 0 rfl rfl)
theorem dJ18_toChars_51 : decode cJ18_toChars 51 = .ok (.aastore, 1) := dk_83 (dk_at dksJ18_toChars_2 3 rfl rfl)
theorem dJ18_toChars_52 : decode cJ18_toChars 52 = .ok (.invokestatic 126, 3) := dk_184 0 126 (dk_at dksJ18_toChars_2 4 rfl rfl)
theorem dJ18_toChars_55 : decode cJ18_toChars 55 = .ok (.invokespecial 130, 3) := dk_183 0 130 (dk_at dksJ18_toChars_2 7 rfl rfl)
theorem dJ18_toChars_58 : decode cJ18_toChars 58 = .ok (.athrow, 1) := dk_191 (dk_at dksJ18_toChars_2 10 rfl rfl)
abbrev cJ18_isValidCodePoint : ByteArray := prog_19_method_11_code
def yJ18_isValidCodePoint : MethodName := ⟨RJ18, "isValidCodePoint", "(I)Z"⟩
def dkwJ18_isValidCodePoint_0 : List UInt8 := [26, 16, 16, 124, 60, 27, 16, 17, 162, 0, 7, 4, 167, 0, 4, 3, 172]
abbrev dktJ18_isValidCodePoint_0 : List UInt8 := dkwJ18_isValidCodePoint_0 ++ []
theorem dksJ18_isValidCodePoint_0 : cJ18_isValidCodePoint.data.toList.drop 0 = dktJ18_isValidCodePoint_0 := by decide +kernel
theorem dJ18_isValidCodePoint_0 : decode cJ18_isValidCodePoint 0 = .ok (.iload_n 0, 1) := dk_26 (dk_at dksJ18_isValidCodePoint_0 0 rfl rfl)
theorem dJ18_isValidCodePoint_1 : decode cJ18_isValidCodePoint 1 = .ok (.bipush 16, 2) := dk_16 16 (dk_at dksJ18_isValidCodePoint_0 1 rfl rfl)
theorem dJ18_isValidCodePoint_3 : decode cJ18_isValidCodePoint 3 = .ok (.iushr, 1) := dk_124 (dk_at dksJ18_isValidCodePoint_0 3 rfl rfl)
theorem dJ18_isValidCodePoint_4 : decode cJ18_isValidCodePoint 4 = .ok (.istore_n 1, 1) := dk_60 (dk_at dksJ18_isValidCodePoint_0 4 rfl rfl)
theorem dJ18_isValidCodePoint_5 : decode cJ18_isValidCodePoint 5 = .ok (.iload_n 1, 1) := dk_27 (dk_at dksJ18_isValidCodePoint_0 5 rfl rfl)
theorem dJ18_isValidCodePoint_6 : decode cJ18_isValidCodePoint 6 = .ok (.bipush 17, 2) := dk_16 17 (dk_at dksJ18_isValidCodePoint_0 6 rfl rfl)
theorem dJ18_isValidCodePoint_8 : decode cJ18_isValidCodePoint 8 = .ok (.if_icmp .ge 7, 3) := dk_162 0 7 (dk_at dksJ18_isValidCodePoint_0 8 rfl rfl)
theorem dJ18_isValidCodePoint_11 : decode cJ18_isValidCodePoint 11 = .ok (.iconst 1, 1) := dk_4 (dk_at dksJ18_isValidCodePoint_0 11 rfl rfl)
theorem dJ18_isValidCodePoint_12 : decode cJ18_isValidCodePoint 12 = .ok (.goto 4, 3) := dk_167 0 4 (dk_at dksJ18_isValidCodePoint_0 12 rfl rfl)
theorem dJ18_isValidCodePoint_15 : decode cJ18_isValidCodePoint 15 = .ok (.iconst 0, 1) := dk_3 (dk_at dksJ18_isValidCodePoint_0 15 rfl rfl)
theorem dJ18_isValidCodePoint_16 : decode cJ18_isValidCodePoint 16 = .ok (.ireturn, 1) := dk_172 (dk_at dksJ18_isValidCodePoint_0 16 rfl rfl)
abbrev cJ18_toSurrogates : ByteArray := prog_19_method_32_code
def yJ18_toSurrogates : MethodName := ⟨RJ18, "toSurrogates", "(I[CI)V"⟩
def dkwJ18_toSurrogates_0 : List UInt8 := [43, 28, 4, 96, 26, 184, 0, 133, 85, 43, 28, 26, 184, 0, 136, 85, 177]
abbrev dktJ18_toSurrogates_0 : List UInt8 := dkwJ18_toSurrogates_0 ++ []
theorem dksJ18_toSurrogates_0 : cJ18_toSurrogates.data.toList.drop 0 = dktJ18_toSurrogates_0 := by decide +kernel
theorem dJ18_toSurrogates_0 : decode cJ18_toSurrogates 0 = .ok (.aload_n 1, 1) := dk_43 (dk_at dksJ18_toSurrogates_0 0 rfl rfl)
theorem dJ18_toSurrogates_1 : decode cJ18_toSurrogates 1 = .ok (.iload_n 2, 1) := dk_28 (dk_at dksJ18_toSurrogates_0 1 rfl rfl)
theorem dJ18_toSurrogates_2 : decode cJ18_toSurrogates 2 = .ok (.iconst 1, 1) := dk_4 (dk_at dksJ18_toSurrogates_0 2 rfl rfl)
theorem dJ18_toSurrogates_3 : decode cJ18_toSurrogates 3 = .ok (.iadd, 1) := dk_96 (dk_at dksJ18_toSurrogates_0 3 rfl rfl)
theorem dJ18_toSurrogates_4 : decode cJ18_toSurrogates 4 = .ok (.iload_n 0, 1) := dk_26 (dk_at dksJ18_toSurrogates_0 4 rfl rfl)
theorem dJ18_toSurrogates_5 : decode cJ18_toSurrogates 5 = .ok (.invokestatic 133, 3) := dk_184 0 133 (dk_at dksJ18_toSurrogates_0 5 rfl rfl)
theorem dJ18_toSurrogates_8 : decode cJ18_toSurrogates 8 = .ok (.castore, 1) := dk_85 (dk_at dksJ18_toSurrogates_0 8 rfl rfl)
theorem dJ18_toSurrogates_9 : decode cJ18_toSurrogates 9 = .ok (.aload_n 1, 1) := dk_43 (dk_at dksJ18_toSurrogates_0 9 rfl rfl)
theorem dJ18_toSurrogates_10 : decode cJ18_toSurrogates 10 = .ok (.iload_n 2, 1) := dk_28 (dk_at dksJ18_toSurrogates_0 10 rfl rfl)
theorem dJ18_toSurrogates_11 : decode cJ18_toSurrogates 11 = .ok (.iload_n 0, 1) := dk_26 (dk_at dksJ18_toSurrogates_0 11 rfl rfl)
theorem dJ18_toSurrogates_12 : decode cJ18_toSurrogates 12 = .ok (.invokestatic 136, 3) := dk_184 0 136 (dk_at dksJ18_toSurrogates_0 12 rfl rfl)
theorem dJ18_toSurrogates_15 : decode cJ18_toSurrogates 15 = .ok (.castore, 1) := dk_85 (dk_at dksJ18_toSurrogates_0 15 rfl rfl)
theorem dJ18_toSurrogates_16 : decode cJ18_toSurrogates 16 = .ok (.return_, 1) := dk_177 (dk_at dksJ18_toSurrogates_0 16 rfl rfl)
abbrev cJ18_lowSurrogate : ByteArray := prog_19_method_29_code
def yJ18_lowSurrogate : MethodName := ⟨RJ18, "lowSurrogate", "(I)C"⟩
def dkwJ18_lowSurrogate_0 : List UInt8 := [26, 17, 3, 255, 126, 18, 76, 96, 146, 172]
abbrev dktJ18_lowSurrogate_0 : List UInt8 := dkwJ18_lowSurrogate_0 ++ []
theorem dksJ18_lowSurrogate_0 : cJ18_lowSurrogate.data.toList.drop 0 = dktJ18_lowSurrogate_0 := by decide +kernel
theorem dJ18_lowSurrogate_0 : decode cJ18_lowSurrogate 0 = .ok (.iload_n 0, 1) := dk_26 (dk_at dksJ18_lowSurrogate_0 0 rfl rfl)
theorem dJ18_lowSurrogate_1 : decode cJ18_lowSurrogate 1 = .ok (.sipush 1023, 3) := dk_17 3 255 (dk_at dksJ18_lowSurrogate_0 1 rfl rfl)
theorem dJ18_lowSurrogate_4 : decode cJ18_lowSurrogate 4 = .ok (.iand, 1) := dk_126 (dk_at dksJ18_lowSurrogate_0 4 rfl rfl)
theorem dJ18_lowSurrogate_5 : decode cJ18_lowSurrogate 5 = .ok (.ldc 76, 2) := dk_18 76 (dk_at dksJ18_lowSurrogate_0 5 rfl rfl)
theorem dJ18_lowSurrogate_7 : decode cJ18_lowSurrogate 7 = .ok (.iadd, 1) := dk_96 (dk_at dksJ18_lowSurrogate_0 7 rfl rfl)
theorem dJ18_lowSurrogate_8 : decode cJ18_lowSurrogate 8 = .ok (.i2c, 1) := dk_146 (dk_at dksJ18_lowSurrogate_0 8 rfl rfl)
theorem dJ18_lowSurrogate_9 : decode cJ18_lowSurrogate 9 = .ok (.ireturn, 1) := dk_172 (dk_at dksJ18_lowSurrogate_0 9 rfl rfl)
abbrev cJ18_highSurrogate : ByteArray := prog_19_method_28_code
def yJ18_highSurrogate : MethodName := ⟨RJ18, "highSurrogate", "(I)C"⟩
def dkwJ18_highSurrogate_0 : List UInt8 := [26, 16, 10, 124, 18, 110, 96, 146, 172]
abbrev dktJ18_highSurrogate_0 : List UInt8 := dkwJ18_highSurrogate_0 ++ []
theorem dksJ18_highSurrogate_0 : cJ18_highSurrogate.data.toList.drop 0 = dktJ18_highSurrogate_0 := by decide +kernel
theorem dJ18_highSurrogate_0 : decode cJ18_highSurrogate 0 = .ok (.iload_n 0, 1) := dk_26 (dk_at dksJ18_highSurrogate_0 0 rfl rfl)
theorem dJ18_highSurrogate_1 : decode cJ18_highSurrogate 1 = .ok (.bipush 10, 2) := dk_16 10 (dk_at dksJ18_highSurrogate_0 1 rfl rfl)
theorem dJ18_highSurrogate_3 : decode cJ18_highSurrogate 3 = .ok (.iushr, 1) := dk_124 (dk_at dksJ18_highSurrogate_0 3 rfl rfl)
theorem dJ18_highSurrogate_4 : decode cJ18_highSurrogate 4 = .ok (.ldc 110, 2) := dk_18 110 (dk_at dksJ18_highSurrogate_0 4 rfl rfl)
theorem dJ18_highSurrogate_6 : decode cJ18_highSurrogate 6 = .ok (.iadd, 1) := dk_96 (dk_at dksJ18_highSurrogate_0 6 rfl rfl)
theorem dJ18_highSurrogate_7 : decode cJ18_highSurrogate 7 = .ok (.i2c, 1) := dk_146 (dk_at dksJ18_highSurrogate_0 7 rfl rfl)
theorem dJ18_highSurrogate_8 : decode cJ18_highSurrogate 8 = .ok (.ireturn, 1) := dk_172 (dk_at dksJ18_highSurrogate_0 8 rfl rfl)
abbrev cJ18_toCodePoint : ByteArray := prog_19_method_19_code
def yJ18_toCodePoint : MethodName := ⟨RJ18, "toCodePoint", "(CC)I"⟩
def dkwJ18_toCodePoint_0 : List UInt8 := [26, 16, 10, 120, 27, 96, 18, 85, 96, 172]
abbrev dktJ18_toCodePoint_0 : List UInt8 := dkwJ18_toCodePoint_0 ++ []
theorem dksJ18_toCodePoint_0 : cJ18_toCodePoint.data.toList.drop 0 = dktJ18_toCodePoint_0 := by decide +kernel
theorem dJ18_toCodePoint_0 : decode cJ18_toCodePoint 0 = .ok (.iload_n 0, 1) := dk_26 (dk_at dksJ18_toCodePoint_0 0 rfl rfl)
theorem dJ18_toCodePoint_1 : decode cJ18_toCodePoint 1 = .ok (.bipush 10, 2) := dk_16 10 (dk_at dksJ18_toCodePoint_0 1 rfl rfl)
theorem dJ18_toCodePoint_3 : decode cJ18_toCodePoint 3 = .ok (.ishl, 1) := dk_120 (dk_at dksJ18_toCodePoint_0 3 rfl rfl)
theorem dJ18_toCodePoint_4 : decode cJ18_toCodePoint 4 = .ok (.iload_n 1, 1) := dk_27 (dk_at dksJ18_toCodePoint_0 4 rfl rfl)
theorem dJ18_toCodePoint_5 : decode cJ18_toCodePoint 5 = .ok (.iadd, 1) := dk_96 (dk_at dksJ18_toCodePoint_0 5 rfl rfl)
theorem dJ18_toCodePoint_6 : decode cJ18_toCodePoint 6 = .ok (.ldc 85, 2) := dk_18 85 (dk_at dksJ18_toCodePoint_0 6 rfl rfl)
theorem dJ18_toCodePoint_8 : decode cJ18_toCodePoint 8 = .ok (.iadd, 1) := dk_96 (dk_at dksJ18_toCodePoint_0 8 rfl rfl)
theorem dJ18_toCodePoint_9 : decode cJ18_toCodePoint 9 = .ok (.ireturn, 1) := dk_172 (dk_at dksJ18_toCodePoint_0 9 rfl rfl)
abbrev cJ18_charCount : ByteArray := prog_19_method_18_code
def yJ18_charCount : MethodName := ⟨RJ18, "charCount", "(I)I"⟩
def dkwJ18_charCount_0 : List UInt8 := [26, 18, 73, 161, 0, 7, 5, 167, 0, 4, 4, 172]
abbrev dktJ18_charCount_0 : List UInt8 := dkwJ18_charCount_0 ++ []
theorem dksJ18_charCount_0 : cJ18_charCount.data.toList.drop 0 = dktJ18_charCount_0 := by decide +kernel
theorem dJ18_charCount_0 : decode cJ18_charCount 0 = .ok (.iload_n 0, 1) := dk_26 (dk_at dksJ18_charCount_0 0 rfl rfl)
theorem dJ18_charCount_1 : decode cJ18_charCount 1 = .ok (.ldc 73, 2) := dk_18 73 (dk_at dksJ18_charCount_0 1 rfl rfl)
theorem dJ18_charCount_3 : decode cJ18_charCount 3 = .ok (.if_icmp .lt 7, 3) := dk_161 0 7 (dk_at dksJ18_charCount_0 3 rfl rfl)
theorem dJ18_charCount_6 : decode cJ18_charCount 6 = .ok (.iconst 2, 1) := dk_5 (dk_at dksJ18_charCount_0 6 rfl rfl)
theorem dJ18_charCount_7 : decode cJ18_charCount 7 = .ok (.goto 4, 3) := dk_167 0 4 (dk_at dksJ18_charCount_0 7 rfl rfl)
theorem dJ18_charCount_10 : decode cJ18_charCount 10 = .ok (.iconst 1, 1) := dk_4 (dk_at dksJ18_charCount_0 10 rfl rfl)
theorem dJ18_charCount_11 : decode cJ18_charCount 11 = .ok (.ireturn, 1) := dk_172 (dk_at dksJ18_charCount_0 11 rfl rfl)
abbrev cJ18_isSurrogate : ByteArray := prog_19_method_16_code
def yJ18_isSurrogate : MethodName := ⟨RJ18, "isSurrogate", "(C)Z"⟩
def dkwJ18_isSurrogate_0 : List UInt8 := [26, 18, 75, 161, 0, 13, 26, 18, 77, 162, 0, 7, 4, 167, 0, 4, 3, 172]
abbrev dktJ18_isSurrogate_0 : List UInt8 := dkwJ18_isSurrogate_0 ++ []
theorem dksJ18_isSurrogate_0 : cJ18_isSurrogate.data.toList.drop 0 = dktJ18_isSurrogate_0 := by decide +kernel
theorem dJ18_isSurrogate_0 : decode cJ18_isSurrogate 0 = .ok (.iload_n 0, 1) := dk_26 (dk_at dksJ18_isSurrogate_0 0 rfl rfl)
theorem dJ18_isSurrogate_1 : decode cJ18_isSurrogate 1 = .ok (.ldc 75, 2) := dk_18 75 (dk_at dksJ18_isSurrogate_0 1 rfl rfl)
theorem dJ18_isSurrogate_3 : decode cJ18_isSurrogate 3 = .ok (.if_icmp .lt 13, 3) := dk_161 0 13 (dk_at dksJ18_isSurrogate_0 3 rfl rfl)
theorem dJ18_isSurrogate_6 : decode cJ18_isSurrogate 6 = .ok (.iload_n 0, 1) := dk_26 (dk_at dksJ18_isSurrogate_0 6 rfl rfl)
theorem dJ18_isSurrogate_7 : decode cJ18_isSurrogate 7 = .ok (.ldc 77, 2) := dk_18 77 (dk_at dksJ18_isSurrogate_0 7 rfl rfl)
theorem dJ18_isSurrogate_9 : decode cJ18_isSurrogate 9 = .ok (.if_icmp .ge 7, 3) := dk_162 0 7 (dk_at dksJ18_isSurrogate_0 9 rfl rfl)
theorem dJ18_isSurrogate_12 : decode cJ18_isSurrogate 12 = .ok (.iconst 1, 1) := dk_4 (dk_at dksJ18_isSurrogate_0 12 rfl rfl)
theorem dJ18_isSurrogate_13 : decode cJ18_isSurrogate 13 = .ok (.goto 4, 3) := dk_167 0 4 (dk_at dksJ18_isSurrogate_0 13 rfl rfl)
theorem dJ18_isSurrogate_16 : decode cJ18_isSurrogate 16 = .ok (.iconst 0, 1) := dk_3 (dk_at dksJ18_isSurrogate_0 16 rfl rfl)
theorem dJ18_isSurrogate_17 : decode cJ18_isSurrogate 17 = .ok (.ireturn, 1) := dk_172 (dk_at dksJ18_isSurrogate_0 17 rfl rfl)
theorem q95 : (Jvm.Cond.initialized "java/lang/Character") ∈ lw_all := lw_g (lw_at lw_m1 24 rfl) rfl
theorem q645 : (Jvm.Cond.static ({ cls := "java/lang/Character", name := "isHighSurrogate", desc := "(C)Z" } : Jvm.MethodName)) ∈ lw_all := lw_g (lw_at lw_m3 94 rfl) rfl
theorem q646 : (Jvm.Cond.code ({ cls := "java/lang/Character", name := "isHighSurrogate", desc := "(C)Z" } : Jvm.MethodName) prog_19_method_14_code (1 : Nat) (Option.some Jvm.ClassFile.FieldType.boolean)) ∈ lw_all := lw_g (lw_at lw_m3 95 rfl) rfl
theorem q647 : (Jvm.Cond.constant "java/lang/Character" (75 : Nat) (55296 : Int32)) ∈ lw_all := lw_g (lw_at lw_m3 96 rfl) rfl
theorem q648 : (Jvm.Cond.constant "java/lang/Character" (76 : Nat) (56320 : Int32)) ∈ lw_all := lw_g (lw_at lw_m3 97 rfl) rfl
theorem q650 : (Jvm.Cond.static ({ cls := "java/lang/Character", name := "isLowSurrogate", desc := "(C)Z" } : Jvm.MethodName)) ∈ lw_all := lw_g (lw_at lw_m3 99 rfl) rfl
theorem q651 : (Jvm.Cond.code ({ cls := "java/lang/Character", name := "isLowSurrogate", desc := "(C)Z" } : Jvm.MethodName) prog_19_method_15_code (1 : Nat) (Option.some Jvm.ClassFile.FieldType.boolean)) ∈ lw_all := lw_g (lw_at lw_m3 100 rfl) rfl
theorem q652 : (Jvm.Cond.constant "java/lang/Character" (77 : Nat) (57344 : Int32)) ∈ lw_all := lw_g (lw_at lw_m3 101 rfl) rfl
theorem q854 : (Jvm.Cond.static ({ cls := "java/lang/Character", name := "isBmpCodePoint", desc := "(I)Z" } : Jvm.MethodName)) ∈ lw_all := lw_g (lw_at lw_m4 63 rfl) rfl
theorem q855 : (Jvm.Cond.code ({ cls := "java/lang/Character", name := "isBmpCodePoint", desc := "(I)Z" } : Jvm.MethodName) prog_19_method_12_code (1 : Nat) (Option.some Jvm.ClassFile.FieldType.boolean)) ∈ lw_all := lw_g (lw_at lw_m4 64 rfl) rfl
theorem q882 : (Jvm.Cond.static ({ cls := "java/lang/Character", name := "toChars", desc := "(I)[C" } : Jvm.MethodName)) ∈ lw_all := lw_g (lw_at lw_m4 91 rfl) rfl
theorem q883 : (Jvm.Cond.code ({ cls := "java/lang/Character", name := "toChars", desc := "(I)[C" } : Jvm.MethodName) prog_19_method_31_code (2 : Nat) (Option.some (Jvm.ClassFile.FieldType.array Jvm.ClassFile.FieldType.char))) ∈ lw_all := lw_g (lw_at lw_m4 92 rfl) rfl
theorem q884 : (Jvm.Cond.methodLink "java/lang/Character" (111 : Nat) ({ cls := "java/lang/Character", name := "isBmpCodePoint", desc := "(I)Z" } : Jvm.MethodName)) ∈ lw_all := lw_g (lw_at lw_m4 93 rfl) rfl
theorem q885 : (Jvm.Cond.methodLink "java/lang/Character" (115 : Nat) ({ cls := "java/lang/Character", name := "isValidCodePoint", desc := "(I)Z" } : Jvm.MethodName)) ∈ lw_all := lw_g (lw_at lw_m4 94 rfl) rfl
theorem q886 : (Jvm.Cond.static ({ cls := "java/lang/Character", name := "isValidCodePoint", desc := "(I)Z" } : Jvm.MethodName)) ∈ lw_all := lw_g (lw_at lw_m4 95 rfl) rfl
theorem q887 : (Jvm.Cond.code ({ cls := "java/lang/Character", name := "isValidCodePoint", desc := "(I)Z" } : Jvm.MethodName) prog_19_method_11_code (2 : Nat) (Option.some Jvm.ClassFile.FieldType.boolean)) ∈ lw_all := lw_g (lw_at lw_m4 96 rfl) rfl
theorem q888 : (Jvm.Cond.methodLink "java/lang/Character" (118 : Nat) ({ cls := "java/lang/Character", name := "toSurrogates", desc := "(I[CI)V" } : Jvm.MethodName)) ∈ lw_all := lw_g (lw_at lw_m4 97 rfl) rfl
theorem q889 : (Jvm.Cond.static ({ cls := "java/lang/Character", name := "toSurrogates", desc := "(I[CI)V" } : Jvm.MethodName)) ∈ lw_all := lw_g (lw_at lw_m4 98 rfl) rfl
theorem q890 : (Jvm.Cond.code ({ cls := "java/lang/Character", name := "toSurrogates", desc := "(I[CI)V" } : Jvm.MethodName) prog_19_method_32_code (3 : Nat) (Option.none : Option Jvm.ClassFile.FieldType)) ∈ lw_all := lw_g (lw_at lw_m4 99 rfl) rfl
theorem q891 : (Jvm.Cond.methodLink "java/lang/Character" (133 : Nat) ({ cls := "java/lang/Character", name := "lowSurrogate", desc := "(I)C" } : Jvm.MethodName)) ∈ lw_all := lw_g (lw_at lw_m4 100 rfl) rfl
theorem q892 : (Jvm.Cond.static ({ cls := "java/lang/Character", name := "lowSurrogate", desc := "(I)C" } : Jvm.MethodName)) ∈ lw_all := lw_g (lw_at lw_m4 101 rfl) rfl
theorem q893 : (Jvm.Cond.code ({ cls := "java/lang/Character", name := "lowSurrogate", desc := "(I)C" } : Jvm.MethodName) prog_19_method_29_code (1 : Nat) (Option.some Jvm.ClassFile.FieldType.char)) ∈ lw_all := lw_g (lw_at lw_m4 102 rfl) rfl
theorem q894 : (Jvm.Cond.methodLink "java/lang/Character" (136 : Nat) ({ cls := "java/lang/Character", name := "highSurrogate", desc := "(I)C" } : Jvm.MethodName)) ∈ lw_all := lw_g (lw_at lw_m4 103 rfl) rfl
theorem q895 : (Jvm.Cond.static ({ cls := "java/lang/Character", name := "highSurrogate", desc := "(I)C" } : Jvm.MethodName)) ∈ lw_all := lw_g (lw_at lw_m4 104 rfl) rfl
theorem q896 : (Jvm.Cond.code ({ cls := "java/lang/Character", name := "highSurrogate", desc := "(I)C" } : Jvm.MethodName) prog_19_method_28_code (1 : Nat) (Option.some Jvm.ClassFile.FieldType.char)) ∈ lw_all := lw_g (lw_at lw_m4 105 rfl) rfl
theorem q897 : (Jvm.Cond.constant "java/lang/Character" (110 : Nat) (55232 : Int32)) ∈ lw_all := lw_g (lw_at lw_m4 106 rfl) rfl
theorem q1059 : (Jvm.Cond.static ({ cls := "java/lang/Character", name := "toCodePoint", desc := "(CC)I" } : Jvm.MethodName)) ∈ lw_all := lw_g (lw_at lw_m5 28 rfl) rfl
theorem q1060 : (Jvm.Cond.code ({ cls := "java/lang/Character", name := "toCodePoint", desc := "(CC)I" } : Jvm.MethodName) prog_19_method_19_code (2 : Nat) (Option.some Jvm.ClassFile.FieldType.int)) ∈ lw_all := lw_g (lw_at lw_m5 29 rfl) rfl
theorem q1061 : (Jvm.Cond.constant "java/lang/Character" (85 : Nat) (-56613888 : Int32)) ∈ lw_all := lw_g (lw_at lw_m5 30 rfl) rfl
theorem q1063 : (Jvm.Cond.static ({ cls := "java/lang/Character", name := "charCount", desc := "(I)I" } : Jvm.MethodName)) ∈ lw_all := lw_g (lw_at lw_m5 32 rfl) rfl
theorem q1064 : (Jvm.Cond.code ({ cls := "java/lang/Character", name := "charCount", desc := "(I)I" } : Jvm.MethodName) prog_19_method_18_code (1 : Nat) (Option.some Jvm.ClassFile.FieldType.int)) ∈ lw_all := lw_g (lw_at lw_m5 33 rfl) rfl
theorem q1065 : (Jvm.Cond.constant "java/lang/Character" (73 : Nat) (65536 : Int32)) ∈ lw_all := lw_g (lw_at lw_m5 34 rfl) rfl
theorem q1631 : (Jvm.Cond.static ({ cls := "java/lang/Character", name := "isSurrogate", desc := "(C)Z" } : Jvm.MethodName)) ∈ lw_all := lw_g (lw_at lw_m7 120 rfl) rfl
theorem q1632 : (Jvm.Cond.code ({ cls := "java/lang/Character", name := "isSurrogate", desc := "(C)Z" } : Jvm.MethodName) prog_19_method_16_code (1 : Nat) (Option.some Jvm.ClassFile.FieldType.boolean)) ∈ lw_all := lw_g (lw_at lw_m7 121 rfl) rfl
/-! java/lang/IllegalStateException -/
set_option maxRecDepth 100000
def RJ19 : String := "java/lang/IllegalStateException"
def TJ19 : u_T := fun k => match k with
  | 0 => ("java/lang/Throwable", "cause", "Ljava/lang/Throwable;", false)
  | 1 => ("java/lang/Throwable", "stackTrace", "[Ljava/lang/StackTraceElement;", false)
  | 2 => ("java/lang/Throwable", "suppressedExceptions", "Ljava/util/List;", false)
  | 3 => ("java/lang/Throwable", "detailMessage", "Ljava/lang/String;", false)
  | 4 => ("java/lang/Throwable", "backtrace", "Ljava/lang/Object;", false)
  | _ => ("java/lang/Throwable", "depth", "I", false)
def tyJ19 : Nat → FieldType := fun k => match k with
  | 0 => .object "java/lang/Throwable"
  | 1 => .array (.object "java/lang/StackTraceElement")
  | 2 => .object "java/util/List"
  | 3 => .object "java/lang/String"
  | 4 => .object "java/lang/Object"
  | _ => .int
abbrev wsJ190 : List Cond := u_ws RJ19 TJ19 6
theorem nmJ19 : ∀ a, a < 6 → ∀ b, b < 6 → a ≠ b → (TJ19 a).2.1 ≠ (TJ19 b).2.1 := by decide +kernel
theorem tyJ19_ok : ∀ k, k < 6 → parseFieldDescriptor (TJ19 k).2.2.1 = some (tyJ19 k) := by decide +kernel
abbrev cJ19_init : ByteArray := prog_24_method_1_code
def yJ19_init : MethodName := ⟨RJ19, "<init>", "()V"⟩
theorem dJ19_init_0 : decode cJ19_init 0 = .ok (.aload_n 0, 1) := by decide +kernel
theorem dJ19_init_1 : decode cJ19_init 1 = .ok (.invokespecial 1, 3) := by decide +kernel
theorem dJ19_init_4 : decode cJ19_init 4 = .ok (.return_, 1) := by decide +kernel
theorem q96 : (Jvm.Cond.initialized "java/lang/IllegalStateException") ∈ lw_all := lw_g (lw_at lw_m1 25 rfl) rfl
theorem q170 : (Jvm.Cond.selects "java/lang/IllegalStateException" ({ cls := "java/lang/Throwable", name := "fillInStackTrace", desc := "()Ljava/lang/Throwable;" } : Jvm.MethodName) ({ cls := "java/lang/Throwable", name := "fillInStackTrace", desc := "()Ljava/lang/Throwable;" } : Jvm.MethodName)) ∈ lw_all := lw_g (lw_at lw_m1 99 rfl) rfl
theorem q582 : (Jvm.Cond.selects "java/lang/IllegalStateException" ({ cls := "java/lang/Object", name := "getClass", desc := "()Ljava/lang/Class;" } : Jvm.MethodName) ({ cls := "java/lang/Object", name := "getClass", desc := "()Ljava/lang/Class;" } : Jvm.MethodName)) ∈ lw_all := lw_g (lw_at lw_m3 31 rfl) rfl
theorem q832 : (Jvm.Cond.instantiable "java/lang/IllegalStateException" (6 : Nat)) ∈ lw_all := lw_g (lw_at lw_m4 41 rfl) rfl
theorem q833 : (Jvm.Cond.castable "java/lang/IllegalStateException" "java/lang/IllegalStateException") ∈ lw_tbl := lw_at lw_m4 42 rfl
theorem q834 : (Jvm.Cond.selects "java/lang/IllegalStateException" ({ cls := "java/lang/Throwable", name := "fillInStackTrace", desc := "(I)Ljava/lang/Throwable;" } : Jvm.MethodName) ({ cls := "java/lang/Throwable", name := "fillInStackTrace", desc := "(I)Ljava/lang/Throwable;" } : Jvm.MethodName)) ∈ lw_all := lw_g (lw_at lw_m4 43 rfl) rfl
theorem q835 : (Jvm.Cond.lays "java/lang/IllegalStateException" "java/lang/Throwable" "cause" "Ljava/lang/Throwable;") ∈ lw_all := lw_g (lw_at lw_m4 44 rfl) rfl
theorem q836 : (Jvm.Cond.lays "java/lang/IllegalStateException" "java/lang/Throwable" "stackTrace" "[Ljava/lang/StackTraceElement;") ∈ lw_all := lw_g (lw_at lw_m4 45 rfl) rfl
theorem q837 : (Jvm.Cond.lays "java/lang/IllegalStateException" "java/lang/Throwable" "suppressedExceptions" "Ljava/util/List;") ∈ lw_all := lw_g (lw_at lw_m4 46 rfl) rfl
theorem q838 : (Jvm.Cond.lays "java/lang/IllegalStateException" "java/lang/Throwable" "detailMessage" "Ljava/lang/String;") ∈ lw_all := lw_g (lw_at lw_m4 47 rfl) rfl
theorem q839 : (Jvm.Cond.lays "java/lang/IllegalStateException" "java/lang/Throwable" "backtrace" "Ljava/lang/Object;") ∈ lw_all := lw_g (lw_at lw_m4 48 rfl) rfl
theorem q841 : (Jvm.Cond.instanceMethod ({ cls := "java/lang/IllegalStateException", name := "<init>", desc := "()V" } : Jvm.MethodName)) ∈ lw_all := lw_g (lw_at lw_m4 50 rfl) rfl
theorem q842 : (Jvm.Cond.code ({ cls := "java/lang/IllegalStateException", name := "<init>", desc := "()V" } : Jvm.MethodName) prog_24_method_1_code (1 : Nat) (Option.none : Option Jvm.ClassFile.FieldType)) ∈ lw_all := lw_g (lw_at lw_m4 51 rfl) rfl
theorem q843 : (Jvm.Cond.methodLink "java/lang/IllegalStateException" (1 : Nat) ({ cls := "java/lang/RuntimeException", name := "<init>", desc := "()V" } : Jvm.MethodName)) ∈ lw_all := lw_g (lw_at lw_m4 52 rfl) rfl
theorem q844 : (Jvm.Cond.lays "java/lang/IllegalStateException" "java/lang/Throwable" "depth" "I") ∈ lw_all := lw_g (lw_at lw_m4 53 rfl) rfl
theorem q845 : (Jvm.Cond.superclass "java/lang/IllegalStateException" "java/lang/RuntimeException") ∈ lw_all := lw_g (lw_at lw_m4 54 rfl) rfl
theorem q1688 : (Jvm.Cond.selects "java/lang/IllegalStateException" ({ cls := "java/lang/Throwable", name := "getLocalizedMessage", desc := "()Ljava/lang/String;" } : Jvm.MethodName) ({ cls := "java/lang/Throwable", name := "getLocalizedMessage", desc := "()Ljava/lang/String;" } : Jvm.MethodName)) ∈ lw_all := lw_g (lw_at lw_m7 177 rfl) rfl
theorem q1701 : (Jvm.Cond.selects "java/lang/IllegalStateException" ({ cls := "java/lang/Throwable", name := "getMessage", desc := "()Ljava/lang/String;" } : Jvm.MethodName) ({ cls := "java/lang/Throwable", name := "getMessage", desc := "()Ljava/lang/String;" } : Jvm.MethodName)) ∈ lw_all := lw_g (lw_at lw_m7 190 rfl) rfl
theorem q1719 : (Jvm.Cond.selects "java/lang/IllegalStateException" ({ cls := "java/lang/Object", name := "toString", desc := "()Ljava/lang/String;" } : Jvm.MethodName) ({ cls := "java/lang/Throwable", name := "toString", desc := "()Ljava/lang/String;" } : Jvm.MethodName)) ∈ lw_all := lw_g (lw_at lw_m7 208 rfl) rfl
theorem q2235 : (Jvm.Cond.castable "java/lang/IllegalStateException" "java/lang/Object") ∈ lw_tbl := lw_at lw_m10 4 rfl
theorem in_J19 : ∀ w ∈ wsJ190, w ∈ lw_all := lw_in wsJ190 [835, 836, 837, 838, 839, 844] (by decide +kernel) (by decide +kernel)
/-! java/lang/IndexOutOfBoundsException -/
set_option maxRecDepth 100000
def RJ20 : String := "java/lang/IndexOutOfBoundsException"
def TJ20 : u_T := fun k => match k with
  | 0 => ("java/lang/Throwable", "cause", "Ljava/lang/Throwable;", false)
  | 1 => ("java/lang/Throwable", "stackTrace", "[Ljava/lang/StackTraceElement;", false)
  | 2 => ("java/lang/Throwable", "suppressedExceptions", "Ljava/util/List;", false)
  | 3 => ("java/lang/Throwable", "detailMessage", "Ljava/lang/String;", false)
  | 4 => ("java/lang/Throwable", "backtrace", "Ljava/lang/Object;", false)
  | _ => ("java/lang/Throwable", "depth", "I", false)
def tyJ20 : Nat → FieldType := fun k => match k with
  | 0 => .object "java/lang/Throwable"
  | 1 => .array (.object "java/lang/StackTraceElement")
  | 2 => .object "java/util/List"
  | 3 => .object "java/lang/String"
  | 4 => .object "java/lang/Object"
  | _ => .int
abbrev wsJ200 : List Cond := u_ws RJ20 TJ20 6
theorem nmJ20 : ∀ a, a < 6 → ∀ b, b < 6 → a ≠ b → (TJ20 a).2.1 ≠ (TJ20 b).2.1 := by decide +kernel
theorem tyJ20_ok : ∀ k, k < 6 → parseFieldDescriptor (TJ20 k).2.2.1 = some (tyJ20 k) := by decide +kernel
abbrev cJ20_init : ByteArray := prog_25_method_2_code
def yJ20_init : MethodName := ⟨RJ20, "<init>", "(Ljava/lang/String;)V"⟩
def dkwJ20_init_0 : List UInt8 := [42, 43, 183, 0, 7, 177]
abbrev dktJ20_init_0 : List UInt8 := dkwJ20_init_0 ++ []
theorem dksJ20_init_0 : cJ20_init.data.toList.drop 0 = dktJ20_init_0 := by decide +kernel
theorem dJ20_init_0 : decode cJ20_init 0 = .ok (.aload_n 0, 1) := dk_42 (dk_at dksJ20_init_0 0 rfl rfl)
theorem dJ20_init_1 : decode cJ20_init 1 = .ok (.aload_n 1, 1) := dk_43 (dk_at dksJ20_init_0 1 rfl rfl)
theorem dJ20_init_2 : decode cJ20_init 2 = .ok (.invokespecial 7, 3) := dk_183 0 7 (dk_at dksJ20_init_0 2 rfl rfl)
theorem dJ20_init_5 : decode cJ20_init 5 = .ok (.return_, 1) := dk_177 (dk_at dksJ20_init_0 5 rfl rfl)
abbrev cJ20_init_2 : ByteArray := prog_25_method_1_code
def yJ20_init_2 : MethodName := ⟨RJ20, "<init>", "()V"⟩
theorem dJ20_init_2_0 : decode cJ20_init_2 0 = .ok (.aload_n 0, 1) := by decide +kernel
theorem dJ20_init_2_1 : decode cJ20_init_2 1 = .ok (.invokespecial 1, 3) := by decide +kernel
theorem dJ20_init_2_4 : decode cJ20_init_2 4 = .ok (.return_, 1) := by decide +kernel
theorem q97 : (Jvm.Cond.initialized "java/lang/IndexOutOfBoundsException") ∈ lw_all := lw_g (lw_at lw_m1 26 rfl) rfl
theorem q171 : (Jvm.Cond.selects "java/lang/IndexOutOfBoundsException" ({ cls := "java/lang/Throwable", name := "fillInStackTrace", desc := "()Ljava/lang/Throwable;" } : Jvm.MethodName) ({ cls := "java/lang/Throwable", name := "fillInStackTrace", desc := "()Ljava/lang/Throwable;" } : Jvm.MethodName)) ∈ lw_all := lw_g (lw_at lw_m1 100 rfl) rfl
theorem q583 : (Jvm.Cond.selects "java/lang/IndexOutOfBoundsException" ({ cls := "java/lang/Object", name := "getClass", desc := "()Ljava/lang/Class;" } : Jvm.MethodName) ({ cls := "java/lang/Object", name := "getClass", desc := "()Ljava/lang/Class;" } : Jvm.MethodName)) ∈ lw_all := lw_g (lw_at lw_m3 32 rfl) rfl
theorem q672 : (Jvm.Cond.instanceMethod ({ cls := "java/lang/IndexOutOfBoundsException", name := "<init>", desc := "(Ljava/lang/String;)V" } : Jvm.MethodName)) ∈ lw_all := lw_g (lw_at lw_m3 121 rfl) rfl
theorem q673 : (Jvm.Cond.code ({ cls := "java/lang/IndexOutOfBoundsException", name := "<init>", desc := "(Ljava/lang/String;)V" } : Jvm.MethodName) prog_25_method_2_code (2 : Nat) (Option.none : Option Jvm.ClassFile.FieldType)) ∈ lw_all := lw_g (lw_at lw_m3 122 rfl) rfl
theorem q674 : (Jvm.Cond.methodLink "java/lang/IndexOutOfBoundsException" (7 : Nat) ({ cls := "java/lang/RuntimeException", name := "<init>", desc := "(Ljava/lang/String;)V" } : Jvm.MethodName)) ∈ lw_all := lw_g (lw_at lw_m3 123 rfl) rfl
theorem q697 : (Jvm.Cond.declares ({ cls := "java/lang/IndexOutOfBoundsException", name := "<init>", desc := "()V" } : Jvm.MethodName)) ∈ lw_tbl := lw_at lw_m3 146 rfl
theorem q698 : (Jvm.Cond.declares ({ cls := "java/lang/IndexOutOfBoundsException", name := "<init>", desc := "(Ljava/lang/String;)V" } : Jvm.MethodName)) ∈ lw_tbl := lw_at lw_m3 147 rfl
theorem q985 : (Jvm.Cond.instantiable "java/lang/IndexOutOfBoundsException" (6 : Nat)) ∈ lw_all := lw_g (lw_at lw_m4 194 rfl) rfl
theorem q986 : (Jvm.Cond.castable "java/lang/IndexOutOfBoundsException" "java/lang/IndexOutOfBoundsException") ∈ lw_tbl := lw_at lw_m4 195 rfl
theorem q987 : (Jvm.Cond.selects "java/lang/IndexOutOfBoundsException" ({ cls := "java/lang/Throwable", name := "fillInStackTrace", desc := "(I)Ljava/lang/Throwable;" } : Jvm.MethodName) ({ cls := "java/lang/Throwable", name := "fillInStackTrace", desc := "(I)Ljava/lang/Throwable;" } : Jvm.MethodName)) ∈ lw_all := lw_g (lw_at lw_m4 196 rfl) rfl
theorem q988 : (Jvm.Cond.lays "java/lang/IndexOutOfBoundsException" "java/lang/Throwable" "cause" "Ljava/lang/Throwable;") ∈ lw_all := lw_g (lw_at lw_m4 197 rfl) rfl
theorem q989 : (Jvm.Cond.lays "java/lang/IndexOutOfBoundsException" "java/lang/Throwable" "stackTrace" "[Ljava/lang/StackTraceElement;") ∈ lw_all := lw_g (lw_at lw_m4 198 rfl) rfl
theorem q990 : (Jvm.Cond.lays "java/lang/IndexOutOfBoundsException" "java/lang/Throwable" "suppressedExceptions" "Ljava/util/List;") ∈ lw_all := lw_g (lw_at lw_m4 199 rfl) rfl
theorem q991 : (Jvm.Cond.lays "java/lang/IndexOutOfBoundsException" "java/lang/Throwable" "detailMessage" "Ljava/lang/String;") ∈ lw_all := lw_g (lw_at lw_m4 200 rfl) rfl
theorem q992 : (Jvm.Cond.lays "java/lang/IndexOutOfBoundsException" "java/lang/Throwable" "backtrace" "Ljava/lang/Object;") ∈ lw_all := lw_g (lw_at lw_m4 201 rfl) rfl
theorem q994 : (Jvm.Cond.instanceMethod ({ cls := "java/lang/IndexOutOfBoundsException", name := "<init>", desc := "()V" } : Jvm.MethodName)) ∈ lw_all := lw_g (lw_at lw_m4 203 rfl) rfl
theorem q995 : (Jvm.Cond.code ({ cls := "java/lang/IndexOutOfBoundsException", name := "<init>", desc := "()V" } : Jvm.MethodName) prog_25_method_1_code (1 : Nat) (Option.none : Option Jvm.ClassFile.FieldType)) ∈ lw_all := lw_g (lw_at lw_m4 204 rfl) rfl
theorem q996 : (Jvm.Cond.methodLink "java/lang/IndexOutOfBoundsException" (1 : Nat) ({ cls := "java/lang/RuntimeException", name := "<init>", desc := "()V" } : Jvm.MethodName)) ∈ lw_all := lw_g (lw_at lw_m4 205 rfl) rfl
theorem q997 : (Jvm.Cond.lays "java/lang/IndexOutOfBoundsException" "java/lang/Throwable" "depth" "I") ∈ lw_all := lw_g (lw_at lw_m4 206 rfl) rfl
theorem q998 : (Jvm.Cond.superclass "java/lang/IndexOutOfBoundsException" "java/lang/RuntimeException") ∈ lw_all := lw_g (lw_at lw_m4 207 rfl) rfl
theorem q1689 : (Jvm.Cond.selects "java/lang/IndexOutOfBoundsException" ({ cls := "java/lang/Throwable", name := "getLocalizedMessage", desc := "()Ljava/lang/String;" } : Jvm.MethodName) ({ cls := "java/lang/Throwable", name := "getLocalizedMessage", desc := "()Ljava/lang/String;" } : Jvm.MethodName)) ∈ lw_all := lw_g (lw_at lw_m7 178 rfl) rfl
theorem q1702 : (Jvm.Cond.selects "java/lang/IndexOutOfBoundsException" ({ cls := "java/lang/Throwable", name := "getMessage", desc := "()Ljava/lang/String;" } : Jvm.MethodName) ({ cls := "java/lang/Throwable", name := "getMessage", desc := "()Ljava/lang/String;" } : Jvm.MethodName)) ∈ lw_all := lw_g (lw_at lw_m7 191 rfl) rfl
theorem q1720 : (Jvm.Cond.selects "java/lang/IndexOutOfBoundsException" ({ cls := "java/lang/Object", name := "toString", desc := "()Ljava/lang/String;" } : Jvm.MethodName) ({ cls := "java/lang/Throwable", name := "toString", desc := "()Ljava/lang/String;" } : Jvm.MethodName)) ∈ lw_all := lw_g (lw_at lw_m7 209 rfl) rfl
theorem q2239 : (Jvm.Cond.castable "java/lang/IndexOutOfBoundsException" "java/lang/Object") ∈ lw_tbl := lw_at lw_m10 8 rfl
theorem in_J20 : ∀ w ∈ wsJ200, w ∈ lw_all := lw_in wsJ200 [988, 989, 990, 991, 992, 997] (by decide +kernel) (by decide +kernel)
/-! java/lang/StringIndexOutOfBoundsException -/
set_option maxRecDepth 100000
def RJ21 : String := "java/lang/StringIndexOutOfBoundsException"
def TJ21 : u_T := fun k => match k with
  | 0 => ("java/lang/Throwable", "backtrace", "Ljava/lang/Object;", false)
  | 1 => ("java/lang/Throwable", "detailMessage", "Ljava/lang/String;", false)
  | 2 => ("java/lang/Throwable", "cause", "Ljava/lang/Throwable;", false)
  | 3 => ("java/lang/Throwable", "stackTrace", "[Ljava/lang/StackTraceElement;", false)
  | 4 => ("java/lang/Throwable", "depth", "I", false)
  | _ => ("java/lang/Throwable", "suppressedExceptions", "Ljava/util/List;", false)
def tyJ21 : Nat → FieldType := fun k => match k with
  | 0 => .object "java/lang/Object"
  | 1 => .object "java/lang/String"
  | 2 => .object "java/lang/Throwable"
  | 3 => .array (.object "java/lang/StackTraceElement")
  | 4 => .int
  | _ => .object "java/util/List"
abbrev wsJ210 : List Cond := u_ws RJ21 TJ21 6
theorem nmJ21 : ∀ a, a < 6 → ∀ b, b < 6 → a ≠ b → (TJ21 a).2.1 ≠ (TJ21 b).2.1 := by decide +kernel
theorem tyJ21_ok : ∀ k, k < 6 → parseFieldDescriptor (TJ21 k).2.2.1 = some (tyJ21 k) := by decide +kernel
abbrev cJ21_init : ByteArray := prog_33_method_3_code
def yJ21_init : MethodName := ⟨RJ21, "<init>", "(I)V"⟩
def dkwJ21_init_0 : List UInt8 := [42, 187, 0, 10, 89, 183, 0, 12, 18, 13, 182, 0, 15, 27, 182, 0, 19, 182, 0, 22, 183, 0, 7, 177]
abbrev dktJ21_init_0 : List UInt8 := dkwJ21_init_0 ++ []
theorem dksJ21_init_0 : cJ21_init.data.toList.drop 0 = dktJ21_init_0 := by decide +kernel
theorem dJ21_init_0 : decode cJ21_init 0 = .ok (.aload_n 0, 1) := dk_42 (dk_at dksJ21_init_0 0 rfl rfl)
theorem dJ21_init_1 : decode cJ21_init 1 = .ok (.new 10, 3) := dk_187 0 10 (dk_at dksJ21_init_0 1 rfl rfl)
theorem dJ21_init_4 : decode cJ21_init 4 = .ok (.dup, 1) := dk_89 (dk_at dksJ21_init_0 4 rfl rfl)
theorem dJ21_init_5 : decode cJ21_init 5 = .ok (.invokespecial 12, 3) := dk_183 0 12 (dk_at dksJ21_init_0 5 rfl rfl)
theorem dJ21_init_8 : decode cJ21_init 8 = .ok (.ldc 13, 2) := dk_18 13 (dk_at dksJ21_init_0 8 rfl rfl)
theorem dJ21_init_10 : decode cJ21_init 10 = .ok (.invokevirtual 15, 3) := dk_182 0 15 (dk_at dksJ21_init_0 10 rfl rfl)
theorem dJ21_init_13 : decode cJ21_init 13 = .ok (.iload_n 1, 1) := dk_27 (dk_at dksJ21_init_0 13 rfl rfl)
theorem dJ21_init_14 : decode cJ21_init 14 = .ok (.invokevirtual 19, 3) := dk_182 0 19 (dk_at dksJ21_init_0 14 rfl rfl)
theorem dJ21_init_17 : decode cJ21_init 17 = .ok (.invokevirtual 22, 3) := dk_182 0 22 (dk_at dksJ21_init_0 17 rfl rfl)
theorem dJ21_init_20 : decode cJ21_init 20 = .ok (.invokespecial 7, 3) := dk_183 0 7 (dk_at dksJ21_init_0 20 rfl rfl)
theorem dJ21_init_23 : decode cJ21_init 23 = .ok (.return_, 1) := dk_177 (dk_at dksJ21_init_0 23 rfl rfl)
theorem q98 : (Jvm.Cond.initialized "java/lang/StringIndexOutOfBoundsException") ∈ lw_all := lw_g (lw_at lw_m1 27 rfl) rfl
theorem q172 : (Jvm.Cond.selects "java/lang/StringIndexOutOfBoundsException" ({ cls := "java/lang/Throwable", name := "fillInStackTrace", desc := "()Ljava/lang/Throwable;" } : Jvm.MethodName) ({ cls := "java/lang/Throwable", name := "fillInStackTrace", desc := "()Ljava/lang/Throwable;" } : Jvm.MethodName)) ∈ lw_all := lw_g (lw_at lw_m1 101 rfl) rfl
theorem q586 : (Jvm.Cond.selects "java/lang/StringIndexOutOfBoundsException" ({ cls := "java/lang/Object", name := "getClass", desc := "()Ljava/lang/Class;" } : Jvm.MethodName) ({ cls := "java/lang/Object", name := "getClass", desc := "()Ljava/lang/Class;" } : Jvm.MethodName)) ∈ lw_all := lw_g (lw_at lw_m3 35 rfl) rfl
theorem q661 : (Jvm.Cond.instantiable "java/lang/StringIndexOutOfBoundsException" (6 : Nat)) ∈ lw_all := lw_g (lw_at lw_m3 110 rfl) rfl
theorem q663 : (Jvm.Cond.instanceMethod ({ cls := "java/lang/StringIndexOutOfBoundsException", name := "<init>", desc := "(I)V" } : Jvm.MethodName)) ∈ lw_all := lw_g (lw_at lw_m3 112 rfl) rfl
theorem q664 : (Jvm.Cond.code ({ cls := "java/lang/StringIndexOutOfBoundsException", name := "<init>", desc := "(I)V" } : Jvm.MethodName) prog_33_method_3_code (2 : Nat) (Option.none : Option Jvm.ClassFile.FieldType)) ∈ lw_all := lw_g (lw_at lw_m3 113 rfl) rfl
theorem q665 : (Jvm.Cond.classLink "java/lang/StringIndexOutOfBoundsException" (10 : Nat) "java/lang/StringBuilder") ∈ lw_all := lw_g (lw_at lw_m3 114 rfl) rfl
theorem q666 : (Jvm.Cond.methodLink "java/lang/StringIndexOutOfBoundsException" (12 : Nat) ({ cls := "java/lang/StringBuilder", name := "<init>", desc := "()V" } : Jvm.MethodName)) ∈ lw_all := lw_g (lw_at lw_m3 115 rfl) rfl
theorem q667 : (Jvm.Cond.stringRef "java/lang/StringIndexOutOfBoundsException" (13 : Nat) "String index out of range: ") ∈ lw_tbl := lw_at lw_m3 116 rfl
theorem q668 : (Jvm.Cond.methodLink "java/lang/StringIndexOutOfBoundsException" (15 : Nat) ({ cls := "java/lang/StringBuilder", name := "append", desc := "(Ljava/lang/String;)Ljava/lang/StringBuilder;" } : Jvm.MethodName)) ∈ lw_all := lw_g (lw_at lw_m3 117 rfl) rfl
theorem q669 : (Jvm.Cond.methodLink "java/lang/StringIndexOutOfBoundsException" (19 : Nat) ({ cls := "java/lang/StringBuilder", name := "append", desc := "(I)Ljava/lang/StringBuilder;" } : Jvm.MethodName)) ∈ lw_all := lw_g (lw_at lw_m3 118 rfl) rfl
theorem q670 : (Jvm.Cond.methodLink "java/lang/StringIndexOutOfBoundsException" (22 : Nat) ({ cls := "java/lang/StringBuilder", name := "toString", desc := "()Ljava/lang/String;" } : Jvm.MethodName)) ∈ lw_all := lw_g (lw_at lw_m3 119 rfl) rfl
theorem q671 : (Jvm.Cond.methodLink "java/lang/StringIndexOutOfBoundsException" (7 : Nat) ({ cls := "java/lang/IndexOutOfBoundsException", name := "<init>", desc := "(Ljava/lang/String;)V" } : Jvm.MethodName)) ∈ lw_all := lw_g (lw_at lw_m3 120 rfl) rfl
theorem q675 : (Jvm.Cond.lays "java/lang/StringIndexOutOfBoundsException" "java/lang/Throwable" "backtrace" "Ljava/lang/Object;") ∈ lw_all := lw_g (lw_at lw_m3 124 rfl) rfl
theorem q676 : (Jvm.Cond.lays "java/lang/StringIndexOutOfBoundsException" "java/lang/Throwable" "detailMessage" "Ljava/lang/String;") ∈ lw_all := lw_g (lw_at lw_m3 125 rfl) rfl
theorem q677 : (Jvm.Cond.lays "java/lang/StringIndexOutOfBoundsException" "java/lang/Throwable" "cause" "Ljava/lang/Throwable;") ∈ lw_all := lw_g (lw_at lw_m3 126 rfl) rfl
theorem q678 : (Jvm.Cond.lays "java/lang/StringIndexOutOfBoundsException" "java/lang/Throwable" "stackTrace" "[Ljava/lang/StackTraceElement;") ∈ lw_all := lw_g (lw_at lw_m3 127 rfl) rfl
theorem q679 : (Jvm.Cond.lays "java/lang/StringIndexOutOfBoundsException" "java/lang/Throwable" "depth" "I") ∈ lw_all := lw_g (lw_at lw_m3 128 rfl) rfl
theorem q680 : (Jvm.Cond.lays "java/lang/StringIndexOutOfBoundsException" "java/lang/Throwable" "suppressedExceptions" "Ljava/util/List;") ∈ lw_all := lw_g (lw_at lw_m3 129 rfl) rfl
theorem q681 : (Jvm.Cond.superclass "java/lang/StringIndexOutOfBoundsException" "java/lang/IndexOutOfBoundsException") ∈ lw_all := lw_g (lw_at lw_m3 130 rfl) rfl
theorem q1690 : (Jvm.Cond.selects "java/lang/StringIndexOutOfBoundsException" ({ cls := "java/lang/Throwable", name := "getLocalizedMessage", desc := "()Ljava/lang/String;" } : Jvm.MethodName) ({ cls := "java/lang/Throwable", name := "getLocalizedMessage", desc := "()Ljava/lang/String;" } : Jvm.MethodName)) ∈ lw_all := lw_g (lw_at lw_m7 179 rfl) rfl
theorem q1703 : (Jvm.Cond.selects "java/lang/StringIndexOutOfBoundsException" ({ cls := "java/lang/Throwable", name := "getMessage", desc := "()Ljava/lang/String;" } : Jvm.MethodName) ({ cls := "java/lang/Throwable", name := "getMessage", desc := "()Ljava/lang/String;" } : Jvm.MethodName)) ∈ lw_all := lw_g (lw_at lw_m7 192 rfl) rfl
theorem q1725 : (Jvm.Cond.selects "java/lang/StringIndexOutOfBoundsException" ({ cls := "java/lang/Object", name := "toString", desc := "()Ljava/lang/String;" } : Jvm.MethodName) ({ cls := "java/lang/Throwable", name := "toString", desc := "()Ljava/lang/String;" } : Jvm.MethodName)) ∈ lw_all := lw_g (lw_at lw_m7 214 rfl) rfl
theorem q2225 : (Jvm.Cond.castable "java/lang/StringIndexOutOfBoundsException" "java/lang/IndexOutOfBoundsException") ∈ lw_tbl := lw_at lw_m9 234 rfl
theorem q2236 : (Jvm.Cond.castable "java/lang/StringIndexOutOfBoundsException" "java/lang/Object") ∈ lw_tbl := lw_at lw_m10 5 rfl
theorem in_J21 : ∀ w ∈ wsJ210, w ∈ lw_all := lw_in wsJ210 [675, 676, 677, 678, 679, 680] (by decide +kernel) (by decide +kernel)
/-! java/lang/ArrayIndexOutOfBoundsException -/
set_option maxRecDepth 100000
def RJ22 : String := "java/lang/ArrayIndexOutOfBoundsException"
def TJ22 : u_T := fun k => match k with
  | 0 => ("java/lang/Throwable", "cause", "Ljava/lang/Throwable;", false)
  | 1 => ("java/lang/Throwable", "stackTrace", "[Ljava/lang/StackTraceElement;", false)
  | 2 => ("java/lang/Throwable", "suppressedExceptions", "Ljava/util/List;", false)
  | 3 => ("java/lang/Throwable", "detailMessage", "Ljava/lang/String;", false)
  | 4 => ("java/lang/Throwable", "backtrace", "Ljava/lang/Object;", false)
  | _ => ("java/lang/Throwable", "depth", "I", false)
def tyJ22 : Nat → FieldType := fun k => match k with
  | 0 => .object "java/lang/Throwable"
  | 1 => .array (.object "java/lang/StackTraceElement")
  | 2 => .object "java/util/List"
  | 3 => .object "java/lang/String"
  | 4 => .object "java/lang/Object"
  | _ => .int
abbrev wsJ220 : List Cond := u_ws RJ22 TJ22 6
theorem nmJ22 : ∀ a, a < 6 → ∀ b, b < 6 → a ≠ b → (TJ22 a).2.1 ≠ (TJ22 b).2.1 := by decide +kernel
theorem tyJ22_ok : ∀ k, k < 6 → parseFieldDescriptor (TJ22 k).2.2.1 = some (tyJ22 k) := by decide +kernel
abbrev cJ22_init : ByteArray := prog_17_method_3_code
def yJ22_init : MethodName := ⟨RJ22, "<init>", "(I)V"⟩
def dkwJ22_init_0 : List UInt8 := [42, 187, 0, 10, 89, 183, 0, 12, 18, 13, 182, 0, 15, 27, 182, 0, 19, 182, 0, 22, 183, 0, 7, 177]
abbrev dktJ22_init_0 : List UInt8 := dkwJ22_init_0 ++ []
theorem dksJ22_init_0 : cJ22_init.data.toList.drop 0 = dktJ22_init_0 := by decide +kernel
theorem dJ22_init_0 : decode cJ22_init 0 = .ok (.aload_n 0, 1) := dk_42 (dk_at dksJ22_init_0 0 rfl rfl)
theorem dJ22_init_1 : decode cJ22_init 1 = .ok (.new 10, 3) := dk_187 0 10 (dk_at dksJ22_init_0 1 rfl rfl)
theorem dJ22_init_4 : decode cJ22_init 4 = .ok (.dup, 1) := dk_89 (dk_at dksJ22_init_0 4 rfl rfl)
theorem dJ22_init_5 : decode cJ22_init 5 = .ok (.invokespecial 12, 3) := dk_183 0 12 (dk_at dksJ22_init_0 5 rfl rfl)
theorem dJ22_init_8 : decode cJ22_init 8 = .ok (.ldc 13, 2) := dk_18 13 (dk_at dksJ22_init_0 8 rfl rfl)
theorem dJ22_init_10 : decode cJ22_init 10 = .ok (.invokevirtual 15, 3) := dk_182 0 15 (dk_at dksJ22_init_0 10 rfl rfl)
theorem dJ22_init_13 : decode cJ22_init 13 = .ok (.iload_n 1, 1) := dk_27 (dk_at dksJ22_init_0 13 rfl rfl)
theorem dJ22_init_14 : decode cJ22_init 14 = .ok (.invokevirtual 19, 3) := dk_182 0 19 (dk_at dksJ22_init_0 14 rfl rfl)
theorem dJ22_init_17 : decode cJ22_init 17 = .ok (.invokevirtual 22, 3) := dk_182 0 22 (dk_at dksJ22_init_0 17 rfl rfl)
theorem dJ22_init_20 : decode cJ22_init 20 = .ok (.invokespecial 7, 3) := dk_183 0 7 (dk_at dksJ22_init_0 20 rfl rfl)
theorem dJ22_init_23 : decode cJ22_init 23 = .ok (.return_, 1) := dk_177 (dk_at dksJ22_init_0 23 rfl rfl)
abbrev cJ22_init_2 : ByteArray := prog_17_method_2_code
def yJ22_init_2 : MethodName := ⟨RJ22, "<init>", "(Ljava/lang/String;)V"⟩
def dkwJ22_init_2_0 : List UInt8 := [42, 43, 183, 0, 7, 177]
abbrev dktJ22_init_2_0 : List UInt8 := dkwJ22_init_2_0 ++ []
theorem dksJ22_init_2_0 : cJ22_init_2.data.toList.drop 0 = dktJ22_init_2_0 := by decide +kernel
theorem dJ22_init_2_0 : decode cJ22_init_2 0 = .ok (.aload_n 0, 1) := dk_42 (dk_at dksJ22_init_2_0 0 rfl rfl)
theorem dJ22_init_2_1 : decode cJ22_init_2 1 = .ok (.aload_n 1, 1) := dk_43 (dk_at dksJ22_init_2_0 1 rfl rfl)
theorem dJ22_init_2_2 : decode cJ22_init_2 2 = .ok (.invokespecial 7, 3) := dk_183 0 7 (dk_at dksJ22_init_2_0 2 rfl rfl)
theorem dJ22_init_2_5 : decode cJ22_init_2 5 = .ok (.return_, 1) := dk_177 (dk_at dksJ22_init_2_0 5 rfl rfl)
theorem q99 : (Jvm.Cond.initialized "java/lang/ArrayIndexOutOfBoundsException") ∈ lw_all := lw_g (lw_at lw_m1 28 rfl) rfl
theorem q169 : (Jvm.Cond.selects "java/lang/ArrayIndexOutOfBoundsException" ({ cls := "java/lang/Throwable", name := "fillInStackTrace", desc := "()Ljava/lang/Throwable;" } : Jvm.MethodName) ({ cls := "java/lang/Throwable", name := "fillInStackTrace", desc := "()Ljava/lang/Throwable;" } : Jvm.MethodName)) ∈ lw_all := lw_g (lw_at lw_m1 98 rfl) rfl
theorem q580 : (Jvm.Cond.selects "java/lang/ArrayIndexOutOfBoundsException" ({ cls := "java/lang/Object", name := "getClass", desc := "()Ljava/lang/Class;" } : Jvm.MethodName) ({ cls := "java/lang/Object", name := "getClass", desc := "()Ljava/lang/Class;" } : Jvm.MethodName)) ∈ lw_all := lw_g (lw_at lw_m3 29 rfl) rfl
theorem q695 : (Jvm.Cond.instantiable "java/lang/ArrayIndexOutOfBoundsException" (6 : Nat)) ∈ lw_all := lw_g (lw_at lw_m3 144 rfl) rfl
theorem q696 : (Jvm.Cond.castable "java/lang/ArrayIndexOutOfBoundsException" "java/lang/ArrayIndexOutOfBoundsException") ∈ lw_tbl := lw_at lw_m3 145 rfl
theorem q699 : (Jvm.Cond.selects "java/lang/ArrayIndexOutOfBoundsException" ({ cls := "java/lang/Throwable", name := "fillInStackTrace", desc := "(I)Ljava/lang/Throwable;" } : Jvm.MethodName) ({ cls := "java/lang/Throwable", name := "fillInStackTrace", desc := "(I)Ljava/lang/Throwable;" } : Jvm.MethodName)) ∈ lw_all := lw_g (lw_at lw_m3 148 rfl) rfl
theorem q700 : (Jvm.Cond.lays "java/lang/ArrayIndexOutOfBoundsException" "java/lang/Throwable" "cause" "Ljava/lang/Throwable;") ∈ lw_all := lw_g (lw_at lw_m3 149 rfl) rfl
theorem q701 : (Jvm.Cond.lays "java/lang/ArrayIndexOutOfBoundsException" "java/lang/Throwable" "stackTrace" "[Ljava/lang/StackTraceElement;") ∈ lw_all := lw_g (lw_at lw_m3 150 rfl) rfl
theorem q702 : (Jvm.Cond.lays "java/lang/ArrayIndexOutOfBoundsException" "java/lang/Throwable" "suppressedExceptions" "Ljava/util/List;") ∈ lw_all := lw_g (lw_at lw_m3 151 rfl) rfl
theorem q703 : (Jvm.Cond.lays "java/lang/ArrayIndexOutOfBoundsException" "java/lang/Throwable" "detailMessage" "Ljava/lang/String;") ∈ lw_all := lw_g (lw_at lw_m3 152 rfl) rfl
theorem q704 : (Jvm.Cond.lays "java/lang/ArrayIndexOutOfBoundsException" "java/lang/Throwable" "backtrace" "Ljava/lang/Object;") ∈ lw_all := lw_g (lw_at lw_m3 153 rfl) rfl
theorem q706 : (Jvm.Cond.instanceMethod ({ cls := "java/lang/ArrayIndexOutOfBoundsException", name := "<init>", desc := "(I)V" } : Jvm.MethodName)) ∈ lw_all := lw_g (lw_at lw_m3 155 rfl) rfl
theorem q707 : (Jvm.Cond.code ({ cls := "java/lang/ArrayIndexOutOfBoundsException", name := "<init>", desc := "(I)V" } : Jvm.MethodName) prog_17_method_3_code (2 : Nat) (Option.none : Option Jvm.ClassFile.FieldType)) ∈ lw_all := lw_g (lw_at lw_m3 156 rfl) rfl
theorem q708 : (Jvm.Cond.classLink "java/lang/ArrayIndexOutOfBoundsException" (10 : Nat) "java/lang/StringBuilder") ∈ lw_all := lw_g (lw_at lw_m3 157 rfl) rfl
theorem q709 : (Jvm.Cond.methodLink "java/lang/ArrayIndexOutOfBoundsException" (12 : Nat) ({ cls := "java/lang/StringBuilder", name := "<init>", desc := "()V" } : Jvm.MethodName)) ∈ lw_all := lw_g (lw_at lw_m3 158 rfl) rfl
theorem q710 : (Jvm.Cond.stringRef "java/lang/ArrayIndexOutOfBoundsException" (13 : Nat) "Array index out of range: ") ∈ lw_tbl := lw_at lw_m3 159 rfl
theorem q711 : (Jvm.Cond.methodLink "java/lang/ArrayIndexOutOfBoundsException" (15 : Nat) ({ cls := "java/lang/StringBuilder", name := "append", desc := "(Ljava/lang/String;)Ljava/lang/StringBuilder;" } : Jvm.MethodName)) ∈ lw_all := lw_g (lw_at lw_m3 160 rfl) rfl
theorem q712 : (Jvm.Cond.methodLink "java/lang/ArrayIndexOutOfBoundsException" (19 : Nat) ({ cls := "java/lang/StringBuilder", name := "append", desc := "(I)Ljava/lang/StringBuilder;" } : Jvm.MethodName)) ∈ lw_all := lw_g (lw_at lw_m3 161 rfl) rfl
theorem q713 : (Jvm.Cond.methodLink "java/lang/ArrayIndexOutOfBoundsException" (22 : Nat) ({ cls := "java/lang/StringBuilder", name := "toString", desc := "()Ljava/lang/String;" } : Jvm.MethodName)) ∈ lw_all := lw_g (lw_at lw_m3 162 rfl) rfl
theorem q714 : (Jvm.Cond.methodLink "java/lang/ArrayIndexOutOfBoundsException" (7 : Nat) ({ cls := "java/lang/IndexOutOfBoundsException", name := "<init>", desc := "(Ljava/lang/String;)V" } : Jvm.MethodName)) ∈ lw_all := lw_g (lw_at lw_m3 163 rfl) rfl
theorem q715 : (Jvm.Cond.lays "java/lang/ArrayIndexOutOfBoundsException" "java/lang/Throwable" "depth" "I") ∈ lw_all := lw_g (lw_at lw_m3 164 rfl) rfl
theorem q716 : (Jvm.Cond.superclass "java/lang/ArrayIndexOutOfBoundsException" "java/lang/IndexOutOfBoundsException") ∈ lw_all := lw_g (lw_at lw_m3 165 rfl) rfl
theorem q971 : (Jvm.Cond.instanceMethod ({ cls := "java/lang/ArrayIndexOutOfBoundsException", name := "<init>", desc := "(Ljava/lang/String;)V" } : Jvm.MethodName)) ∈ lw_all := lw_g (lw_at lw_m4 180 rfl) rfl
theorem q972 : (Jvm.Cond.code ({ cls := "java/lang/ArrayIndexOutOfBoundsException", name := "<init>", desc := "(Ljava/lang/String;)V" } : Jvm.MethodName) prog_17_method_2_code (2 : Nat) (Option.none : Option Jvm.ClassFile.FieldType)) ∈ lw_all := lw_g (lw_at lw_m4 181 rfl) rfl
theorem q1686 : (Jvm.Cond.selects "java/lang/ArrayIndexOutOfBoundsException" ({ cls := "java/lang/Throwable", name := "getLocalizedMessage", desc := "()Ljava/lang/String;" } : Jvm.MethodName) ({ cls := "java/lang/Throwable", name := "getLocalizedMessage", desc := "()Ljava/lang/String;" } : Jvm.MethodName)) ∈ lw_all := lw_g (lw_at lw_m7 175 rfl) rfl
theorem q1699 : (Jvm.Cond.selects "java/lang/ArrayIndexOutOfBoundsException" ({ cls := "java/lang/Throwable", name := "getMessage", desc := "()Ljava/lang/String;" } : Jvm.MethodName) ({ cls := "java/lang/Throwable", name := "getMessage", desc := "()Ljava/lang/String;" } : Jvm.MethodName)) ∈ lw_all := lw_g (lw_at lw_m7 188 rfl) rfl
theorem q1717 : (Jvm.Cond.selects "java/lang/ArrayIndexOutOfBoundsException" ({ cls := "java/lang/Object", name := "toString", desc := "()Ljava/lang/String;" } : Jvm.MethodName) ({ cls := "java/lang/Throwable", name := "toString", desc := "()Ljava/lang/String;" } : Jvm.MethodName)) ∈ lw_all := lw_g (lw_at lw_m7 206 rfl) rfl
theorem q2224 : (Jvm.Cond.castable "java/lang/ArrayIndexOutOfBoundsException" "java/lang/IndexOutOfBoundsException") ∈ lw_tbl := lw_at lw_m9 233 rfl
theorem q2237 : (Jvm.Cond.castable "java/lang/ArrayIndexOutOfBoundsException" "java/lang/Object") ∈ lw_tbl := lw_at lw_m10 6 rfl
theorem in_J22 : ∀ w ∈ wsJ220, w ∈ lw_all := lw_in wsJ220 [700, 701, 702, 703, 704, 715] (by decide +kernel) (by decide +kernel)
/-! Appealrent$Case -/
set_option maxRecDepth 100000
def RX4 : String := "Appealrent$Case"
def TX4 : u_T := fun k => match k with
  | 0 => ("Appealrent$Case", "number", "I", true)
  | 1 => ("Appealrent$Case", "name", "Ljava/lang/String;", true)
  | 2 => ("Appealrent$Case", "first", "I", true)
  | 3 => ("Appealrent$Case", "last", "I", false)
  | 4 => ("Appealrent$Case", "paid", "[I", true)
  | 5 => ("Appealrent$Case", "claimed", "[I", true)
  | 6 => ("Appealrent$Case", "kept", "I", false)
  | _ => ("Appealrent$Case", "sent", "[I", true)
def tyX4 : Nat → FieldType := fun k => match k with
  | 0 => .int
  | 1 => .object "java/lang/String"
  | 2 => .int
  | 3 => .int
  | 4 => .array .int
  | 5 => .array .int
  | 6 => .int
  | _ => .array .int
abbrev wsX40 : List Cond := u_ws RX4 TX4 8
theorem nmX4 : ∀ a, a < 8 → ∀ b, b < 8 → a ≠ b → (TX4 a).2.1 ≠ (TX4 b).2.1 := by decide +kernel
theorem tyX4_ok : ∀ k, k < 8 → parseFieldDescriptor (TX4 k).2.2.1 = some (tyX4 k) := by decide +kernel
abbrev cX4_hasEnded : ByteArray := prog_2_method_2_code
def yX4_hasEnded : MethodName := ⟨RX4, "hasEnded", "()Z"⟩
def dkwX4_hasEnded_0 : List UInt8 := [42, 180, 0, 9, 2, 159, 0, 7, 4, 167, 0, 4, 3, 172]
abbrev dktX4_hasEnded_0 : List UInt8 := dkwX4_hasEnded_0 ++ []
theorem dksX4_hasEnded_0 : cX4_hasEnded.data.toList.drop 0 = dktX4_hasEnded_0 := by decide +kernel
theorem dX4_hasEnded_0 : decode cX4_hasEnded 0 = .ok (.aload_n 0, 1) := dk_42 (dk_at dksX4_hasEnded_0 0 rfl rfl)
theorem dX4_hasEnded_1 : decode cX4_hasEnded 1 = .ok (.getfield 9, 3) := dk_180 0 9 (dk_at dksX4_hasEnded_0 1 rfl rfl)
theorem dX4_hasEnded_4 : decode cX4_hasEnded 4 = .ok (.iconst (-1), 1) := dk_2 (dk_at dksX4_hasEnded_0 4 rfl rfl)
theorem dX4_hasEnded_5 : decode cX4_hasEnded 5 = .ok (.if_icmp .eq 7, 3) := dk_159 0 7 (dk_at dksX4_hasEnded_0 5 rfl rfl)
theorem dX4_hasEnded_8 : decode cX4_hasEnded 8 = .ok (.iconst 1, 1) := dk_4 (dk_at dksX4_hasEnded_0 8 rfl rfl)
theorem dX4_hasEnded_9 : decode cX4_hasEnded 9 = .ok (.goto 4, 3) := dk_167 0 4 (dk_at dksX4_hasEnded_0 9 rfl rfl)
theorem dX4_hasEnded_12 : decode cX4_hasEnded 12 = .ok (.iconst 0, 1) := dk_3 (dk_at dksX4_hasEnded_0 12 rfl rfl)
theorem dX4_hasEnded_13 : decode cX4_hasEnded 13 = .ok (.ireturn, 1) := dk_172 (dk_at dksX4_hasEnded_0 13 rfl rfl)
abbrev cX4_has : ByteArray := prog_2_method_3_code
def yX4_has : MethodName := ⟨RX4, "has", "(I)Z"⟩
def dkwX4_has_1 : List UInt8 := [4, 167, 0, 4, 3, 172]
abbrev dktX4_has_1 : List UInt8 := dkwX4_has_1 ++ []
def dkwX4_has_0 : List UInt8 := [27, 42, 180, 0, 32, 161, 0, 23, 42, 180, 0, 9, 2, 159, 0, 11, 27, 42, 180, 0, 9, 163, 0, 7]
abbrev dktX4_has_0 : List UInt8 := dkwX4_has_0 ++ dktX4_has_1
theorem dksX4_has_0 : cX4_has.data.toList.drop 0 = dktX4_has_0 := by decide +kernel
theorem dksX4_has_1 : cX4_has.data.toList.drop 24 = dktX4_has_1 := dk_seg dksX4_has_0 24 rfl rfl
theorem dX4_has_0 : decode cX4_has 0 = .ok (.iload_n 1, 1) := dk_27 (dk_at dksX4_has_0 0 rfl rfl)
theorem dX4_has_1 : decode cX4_has 1 = .ok (.aload_n 0, 1) := dk_42 (dk_at dksX4_has_0 1 rfl rfl)
theorem dX4_has_2 : decode cX4_has 2 = .ok (.getfield 32, 3) := dk_180 0 32 (dk_at dksX4_has_0 2 rfl rfl)
theorem dX4_has_5 : decode cX4_has 5 = .ok (.if_icmp .lt 23, 3) := dk_161 0 23 (dk_at dksX4_has_0 5 rfl rfl)
theorem dX4_has_8 : decode cX4_has 8 = .ok (.aload_n 0, 1) := dk_42 (dk_at dksX4_has_0 8 rfl rfl)
theorem dX4_has_9 : decode cX4_has 9 = .ok (.getfield 9, 3) := dk_180 0 9 (dk_at dksX4_has_0 9 rfl rfl)
theorem dX4_has_12 : decode cX4_has 12 = .ok (.iconst (-1), 1) := dk_2 (dk_at dksX4_has_0 12 rfl rfl)
theorem dX4_has_13 : decode cX4_has 13 = .ok (.if_icmp .eq 11, 3) := dk_159 0 11 (dk_at dksX4_has_0 13 rfl rfl)
theorem dX4_has_16 : decode cX4_has 16 = .ok (.iload_n 1, 1) := dk_27 (dk_at dksX4_has_0 16 rfl rfl)
theorem dX4_has_17 : decode cX4_has 17 = .ok (.aload_n 0, 1) := dk_42 (dk_at dksX4_has_0 17 rfl rfl)
theorem dX4_has_18 : decode cX4_has 18 = .ok (.getfield 9, 3) := dk_180 0 9 (dk_at dksX4_has_0 18 rfl rfl)
theorem dX4_has_21 : decode cX4_has 21 = .ok (.if_icmp .gt 7, 3) := dk_163 0 7 (dk_at dksX4_has_0 21 rfl rfl)
theorem dX4_has_24 : decode cX4_has 24 = .ok (.iconst 1, 1) := dk_4 (dk_at dksX4_has_1 0 rfl rfl)
theorem dX4_has_25 : decode cX4_has 25 = .ok (.goto 4, 3) := dk_167 0 4 (dk_at dksX4_has_1 1 rfl rfl)
theorem dX4_has_28 : decode cX4_has 28 = .ok (.iconst 0, 1) := dk_3 (dk_at dksX4_has_1 4 rfl rfl)
theorem dX4_has_29 : decode cX4_has 29 = .ok (.ireturn, 1) := dk_172 (dk_at dksX4_has_1 5 rfl rfl)
abbrev cX4_allPaid : ByteArray := prog_2_method_4_code
def yX4_allPaid : MethodName := ⟨RX4, "allPaid", "()I"⟩
def dkwX4_allPaid_1 : List UInt8 := [167, 255, 238, 27, 172]
abbrev dktX4_allPaid_1 : List UInt8 := dkwX4_allPaid_1 ++ []
def dkwX4_allPaid_0 : List UInt8 := [3, 60, 3, 61, 28, 16, 51, 162, 0, 18, 27, 42, 180, 0, 15, 28, 46, 96, 60, 132, 2, 1]
abbrev dktX4_allPaid_0 : List UInt8 := dkwX4_allPaid_0 ++ dktX4_allPaid_1
theorem dksX4_allPaid_0 : cX4_allPaid.data.toList.drop 0 = dktX4_allPaid_0 := by decide +kernel
theorem dksX4_allPaid_1 : cX4_allPaid.data.toList.drop 22 = dktX4_allPaid_1 := dk_seg dksX4_allPaid_0 22 rfl rfl
theorem dX4_allPaid_0 : decode cX4_allPaid 0 = .ok (.iconst 0, 1) := dk_3 (dk_at dksX4_allPaid_0 0 rfl rfl)
theorem dX4_allPaid_1 : decode cX4_allPaid 1 = .ok (.istore_n 1, 1) := dk_60 (dk_at dksX4_allPaid_0 1 rfl rfl)
theorem dX4_allPaid_2 : decode cX4_allPaid 2 = .ok (.iconst 0, 1) := dk_3 (dk_at dksX4_allPaid_0 2 rfl rfl)
theorem dX4_allPaid_3 : decode cX4_allPaid 3 = .ok (.istore_n 2, 1) := dk_61 (dk_at dksX4_allPaid_0 3 rfl rfl)
theorem dX4_allPaid_4 : decode cX4_allPaid 4 = .ok (.iload_n 2, 1) := dk_28 (dk_at dksX4_allPaid_0 4 rfl rfl)
theorem dX4_allPaid_5 : decode cX4_allPaid 5 = .ok (.bipush 51, 2) := dk_16 51 (dk_at dksX4_allPaid_0 5 rfl rfl)
theorem dX4_allPaid_7 : decode cX4_allPaid 7 = .ok (.if_icmp .ge 18, 3) := dk_162 0 18 (dk_at dksX4_allPaid_0 7 rfl rfl)
theorem dX4_allPaid_10 : decode cX4_allPaid 10 = .ok (.iload_n 1, 1) := dk_27 (dk_at dksX4_allPaid_0 10 rfl rfl)
theorem dX4_allPaid_11 : decode cX4_allPaid 11 = .ok (.aload_n 0, 1) := dk_42 (dk_at dksX4_allPaid_0 11 rfl rfl)
theorem dX4_allPaid_12 : decode cX4_allPaid 12 = .ok (.getfield 15, 3) := dk_180 0 15 (dk_at dksX4_allPaid_0 12 rfl rfl)
theorem dX4_allPaid_15 : decode cX4_allPaid 15 = .ok (.iload_n 2, 1) := dk_28 (dk_at dksX4_allPaid_0 15 rfl rfl)
theorem dX4_allPaid_16 : decode cX4_allPaid 16 = .ok (.iaload, 1) := dk_46 (dk_at dksX4_allPaid_0 16 rfl rfl)
theorem dX4_allPaid_17 : decode cX4_allPaid 17 = .ok (.iadd, 1) := dk_96 (dk_at dksX4_allPaid_0 17 rfl rfl)
theorem dX4_allPaid_18 : decode cX4_allPaid 18 = .ok (.istore_n 1, 1) := dk_60 (dk_at dksX4_allPaid_0 18 rfl rfl)
theorem dX4_allPaid_19 : decode cX4_allPaid 19 = .ok (.iinc 2 1, 3) := dk_132 2 1 (dk_at dksX4_allPaid_0 19 rfl rfl)
theorem dX4_allPaid_22 : decode cX4_allPaid 22 = .ok (.goto (-18), 3) := dk_167 255 238 (dk_at dksX4_allPaid_1 0 rfl rfl)
theorem dX4_allPaid_25 : decode cX4_allPaid 25 = .ok (.iload_n 1, 1) := dk_27 (dk_at dksX4_allPaid_1 3 rfl rfl)
theorem dX4_allPaid_26 : decode cX4_allPaid 26 = .ok (.ireturn, 1) := dk_172 (dk_at dksX4_allPaid_1 4 rfl rfl)
abbrev cX4_init : ByteArray := prog_2_method_1_code
def yX4_init : MethodName := ⟨RX4, "<init>", "(ILjava/lang/String;I)V"⟩
def dkwX4_init_2 : List UInt8 := [181, 0, 32, 177]
abbrev dktX4_init_2 : List UInt8 := dkwX4_init_2 ++ []
def dkwX4_init_1 : List UInt8 := [181, 0, 19, 42, 5, 188, 10, 181, 0, 22, 42, 27, 181, 0, 25, 42, 44, 181, 0, 28, 42, 29]
abbrev dktX4_init_1 : List UInt8 := dkwX4_init_1 ++ dktX4_init_2
def dkwX4_init_0 : List UInt8 := [42, 183, 0, 3, 42, 2, 181, 0, 9, 42, 16, 51, 188, 10, 181, 0, 15, 42, 16, 51, 188, 10]
abbrev dktX4_init_0 : List UInt8 := dkwX4_init_0 ++ dktX4_init_1
theorem dksX4_init_0 : cX4_init.data.toList.drop 0 = dktX4_init_0 := by decide +kernel
theorem dksX4_init_1 : cX4_init.data.toList.drop 22 = dktX4_init_1 := dk_seg dksX4_init_0 22 rfl rfl
theorem dksX4_init_2 : cX4_init.data.toList.drop 44 = dktX4_init_2 := dk_seg dksX4_init_1 22 rfl rfl
theorem dX4_init_0 : decode cX4_init 0 = .ok (.aload_n 0, 1) := dk_42 (dk_at dksX4_init_0 0 rfl rfl)
theorem dX4_init_1 : decode cX4_init 1 = .ok (.invokespecial 3, 3) := dk_183 0 3 (dk_at dksX4_init_0 1 rfl rfl)
theorem dX4_init_4 : decode cX4_init 4 = .ok (.aload_n 0, 1) := dk_42 (dk_at dksX4_init_0 4 rfl rfl)
theorem dX4_init_5 : decode cX4_init 5 = .ok (.iconst (-1), 1) := dk_2 (dk_at dksX4_init_0 5 rfl rfl)
theorem dX4_init_6 : decode cX4_init 6 = .ok (.putfield 9, 3) := dk_181 0 9 (dk_at dksX4_init_0 6 rfl rfl)
theorem dX4_init_9 : decode cX4_init 9 = .ok (.aload_n 0, 1) := dk_42 (dk_at dksX4_init_0 9 rfl rfl)
theorem dX4_init_10 : decode cX4_init 10 = .ok (.bipush 51, 2) := dk_16 51 (dk_at dksX4_init_0 10 rfl rfl)
theorem dX4_init_12 : decode cX4_init 12 = .ok (.newarray .int, 2) := dk_188_10 (dk_at dksX4_init_0 12 rfl rfl)
theorem dX4_init_14 : decode cX4_init 14 = .ok (.putfield 15, 3) := dk_181 0 15 (dk_at dksX4_init_0 14 rfl rfl)
theorem dX4_init_17 : decode cX4_init 17 = .ok (.aload_n 0, 1) := dk_42 (dk_at dksX4_init_0 17 rfl rfl)
theorem dX4_init_18 : decode cX4_init 18 = .ok (.bipush 51, 2) := dk_16 51 (dk_at dksX4_init_0 18 rfl rfl)
theorem dX4_init_20 : decode cX4_init 20 = .ok (.newarray .int, 2) := dk_188_10 (dk_at dksX4_init_0 20 rfl rfl)
theorem dX4_init_22 : decode cX4_init 22 = .ok (.putfield 19, 3) := dk_181 0 19 (dk_at dksX4_init_1 0 rfl rfl)
theorem dX4_init_25 : decode cX4_init 25 = .ok (.aload_n 0, 1) := dk_42 (dk_at dksX4_init_1 3 rfl rfl)
theorem dX4_init_26 : decode cX4_init 26 = .ok (.iconst 2, 1) := dk_5 (dk_at dksX4_init_1 4 rfl rfl)
theorem dX4_init_27 : decode cX4_init 27 = .ok (.newarray .int, 2) := dk_188_10 (dk_at dksX4_init_1 5 rfl rfl)
theorem dX4_init_29 : decode cX4_init 29 = .ok (.putfield 22, 3) := dk_181 0 22 (dk_at dksX4_init_1 7 rfl rfl)
theorem dX4_init_32 : decode cX4_init 32 = .ok (.aload_n 0, 1) := dk_42 (dk_at dksX4_init_1 10 rfl rfl)
theorem dX4_init_33 : decode cX4_init 33 = .ok (.iload_n 1, 1) := dk_27 (dk_at dksX4_init_1 11 rfl rfl)
theorem dX4_init_34 : decode cX4_init 34 = .ok (.putfield 25, 3) := dk_181 0 25 (dk_at dksX4_init_1 12 rfl rfl)
theorem dX4_init_37 : decode cX4_init 37 = .ok (.aload_n 0, 1) := dk_42 (dk_at dksX4_init_1 15 rfl rfl)
theorem dX4_init_38 : decode cX4_init 38 = .ok (.aload_n 2, 1) := dk_44 (dk_at dksX4_init_1 16 rfl rfl)
theorem dX4_init_39 : decode cX4_init 39 = .ok (.putfield 28, 3) := dk_181 0 28 (dk_at dksX4_init_1 17 rfl rfl)
theorem dX4_init_42 : decode cX4_init 42 = .ok (.aload_n 0, 1) := dk_42 (dk_at dksX4_init_1 20 rfl rfl)
theorem dX4_init_43 : decode cX4_init 43 = .ok (.iload_n 3, 1) := dk_29 (dk_at dksX4_init_1 21 rfl rfl)
theorem dX4_init_44 : decode cX4_init 44 = .ok (.putfield 32, 3) := dk_181 0 32 (dk_at dksX4_init_2 0 rfl rfl)
theorem dX4_init_47 : decode cX4_init 47 = .ok (.return_, 1) := dk_177 (dk_at dksX4_init_2 3 rfl rfl)
theorem q100 : (Jvm.Cond.initialized "Appealrent$Case") ∈ lw_all := lw_g (lw_at lw_m1 29 rfl) rfl
theorem q509 : (Jvm.Cond.instanceMethod ({ cls := "Appealrent$Case", name := "hasEnded", desc := "()Z" } : Jvm.MethodName)) ∈ lw_all := lw_g (lw_at lw_m2 198 rfl) rfl
theorem q510 : (Jvm.Cond.selects "Appealrent$Case" ({ cls := "Appealrent$Case", name := "hasEnded", desc := "()Z" } : Jvm.MethodName) ({ cls := "Appealrent$Case", name := "hasEnded", desc := "()Z" } : Jvm.MethodName)) ∈ lw_all := lw_g (lw_at lw_m2 199 rfl) rfl
theorem q511 : (Jvm.Cond.code ({ cls := "Appealrent$Case", name := "hasEnded", desc := "()Z" } : Jvm.MethodName) prog_2_method_2_code (1 : Nat) (Option.some Jvm.ClassFile.FieldType.boolean)) ∈ lw_all := lw_g (lw_at lw_m2 200 rfl) rfl
theorem q571 : (Jvm.Cond.selects "Appealrent$Case" ({ cls := "java/lang/Object", name := "getClass", desc := "()Ljava/lang/Class;" } : Jvm.MethodName) ({ cls := "java/lang/Object", name := "getClass", desc := "()Ljava/lang/Class;" } : Jvm.MethodName)) ∈ lw_all := lw_g (lw_at lw_m3 20 rfl) rfl
theorem q735 : (Jvm.Cond.instanceMethod ({ cls := "Appealrent$Case", name := "has", desc := "(I)Z" } : Jvm.MethodName)) ∈ lw_all := lw_g (lw_at lw_m3 184 rfl) rfl
theorem q736 : (Jvm.Cond.selects "Appealrent$Case" ({ cls := "Appealrent$Case", name := "has", desc := "(I)Z" } : Jvm.MethodName) ({ cls := "Appealrent$Case", name := "has", desc := "(I)Z" } : Jvm.MethodName)) ∈ lw_all := lw_g (lw_at lw_m3 185 rfl) rfl
theorem q737 : (Jvm.Cond.code ({ cls := "Appealrent$Case", name := "has", desc := "(I)Z" } : Jvm.MethodName) prog_2_method_3_code (2 : Nat) (Option.some Jvm.ClassFile.FieldType.boolean)) ∈ lw_all := lw_g (lw_at lw_m3 186 rfl) rfl
theorem q780 : (Jvm.Cond.instanceMethod ({ cls := "Appealrent$Case", name := "allPaid", desc := "()I" } : Jvm.MethodName)) ∈ lw_all := lw_g (lw_at lw_m3 229 rfl) rfl
theorem q781 : (Jvm.Cond.selects "Appealrent$Case" ({ cls := "Appealrent$Case", name := "allPaid", desc := "()I" } : Jvm.MethodName) ({ cls := "Appealrent$Case", name := "allPaid", desc := "()I" } : Jvm.MethodName)) ∈ lw_all := lw_g (lw_at lw_m3 230 rfl) rfl
theorem q782 : (Jvm.Cond.code ({ cls := "Appealrent$Case", name := "allPaid", desc := "()I" } : Jvm.MethodName) prog_2_method_4_code (3 : Nat) (Option.some Jvm.ClassFile.FieldType.int)) ∈ lw_all := lw_g (lw_at lw_m3 231 rfl) rfl
theorem q928 : (Jvm.Cond.instantiable "Appealrent$Case" (8 : Nat)) ∈ lw_all := lw_g (lw_at lw_m4 137 rfl) rfl
theorem q931 : (Jvm.Cond.instanceMethod ({ cls := "Appealrent$Case", name := "<init>", desc := "(ILjava/lang/String;I)V" } : Jvm.MethodName)) ∈ lw_all := lw_g (lw_at lw_m4 140 rfl) rfl
theorem q932 : (Jvm.Cond.code ({ cls := "Appealrent$Case", name := "<init>", desc := "(ILjava/lang/String;I)V" } : Jvm.MethodName) prog_2_method_1_code (4 : Nat) (Option.none : Option Jvm.ClassFile.FieldType)) ∈ lw_all := lw_g (lw_at lw_m4 141 rfl) rfl
theorem q933 : (Jvm.Cond.methodLink "Appealrent$Case" (3 : Nat) ({ cls := "java/lang/Object", name := "<init>", desc := "()V" } : Jvm.MethodName)) ∈ lw_all := lw_g (lw_at lw_m4 142 rfl) rfl
theorem q934 : (Jvm.Cond.fieldLink "Appealrent$Case" (25 : Nat) "Appealrent$Case" "number" "I") ∈ lw_all := lw_g (lw_at lw_m4 143 rfl) rfl
theorem q937 : (Jvm.Cond.fieldLink "Appealrent$Case" (28 : Nat) "Appealrent$Case" "name" "Ljava/lang/String;") ∈ lw_all := lw_g (lw_at lw_m4 146 rfl) rfl
theorem q939 : (Jvm.Cond.fieldLink "Appealrent$Case" (32 : Nat) "Appealrent$Case" "first" "I") ∈ lw_all := lw_g (lw_at lw_m4 148 rfl) rfl
theorem q941 : (Jvm.Cond.fieldLink "Appealrent$Case" (9 : Nat) "Appealrent$Case" "last" "I") ∈ lw_all := lw_g (lw_at lw_m4 150 rfl) rfl
theorem q943 : (Jvm.Cond.fieldLink "Appealrent$Case" (15 : Nat) "Appealrent$Case" "paid" "[I") ∈ lw_all := lw_g (lw_at lw_m4 152 rfl) rfl
theorem q945 : (Jvm.Cond.fieldLink "Appealrent$Case" (19 : Nat) "Appealrent$Case" "claimed" "[I") ∈ lw_all := lw_g (lw_at lw_m4 154 rfl) rfl
theorem q948 : (Jvm.Cond.fieldLink "Appealrent$Case" (22 : Nat) "Appealrent$Case" "sent" "[I") ∈ lw_all := lw_g (lw_at lw_m4 157 rfl) rfl
theorem q950 : (Jvm.Cond.laysFinal "Appealrent$Case" "Appealrent$Case" "number" "I") ∈ lw_all := lw_g (lw_at lw_m4 159 rfl) rfl
theorem q951 : (Jvm.Cond.soleField "Appealrent$Case" "number") ∈ lw_all := lw_g (lw_at lw_m4 160 rfl) rfl
theorem q952 : (Jvm.Cond.laysFinal "Appealrent$Case" "Appealrent$Case" "name" "Ljava/lang/String;") ∈ lw_all := lw_g (lw_at lw_m4 161 rfl) rfl
theorem q953 : (Jvm.Cond.soleField "Appealrent$Case" "name") ∈ lw_all := lw_g (lw_at lw_m4 162 rfl) rfl
theorem q954 : (Jvm.Cond.laysFinal "Appealrent$Case" "Appealrent$Case" "first" "I") ∈ lw_all := lw_g (lw_at lw_m4 163 rfl) rfl
theorem q955 : (Jvm.Cond.soleField "Appealrent$Case" "first") ∈ lw_all := lw_g (lw_at lw_m4 164 rfl) rfl
theorem q956 : (Jvm.Cond.lays "Appealrent$Case" "Appealrent$Case" "last" "I") ∈ lw_all := lw_g (lw_at lw_m4 165 rfl) rfl
theorem q957 : (Jvm.Cond.soleField "Appealrent$Case" "last") ∈ lw_all := lw_g (lw_at lw_m4 166 rfl) rfl
theorem q958 : (Jvm.Cond.laysFinal "Appealrent$Case" "Appealrent$Case" "paid" "[I") ∈ lw_all := lw_g (lw_at lw_m4 167 rfl) rfl
theorem q959 : (Jvm.Cond.soleField "Appealrent$Case" "paid") ∈ lw_all := lw_g (lw_at lw_m4 168 rfl) rfl
theorem q960 : (Jvm.Cond.laysFinal "Appealrent$Case" "Appealrent$Case" "claimed" "[I") ∈ lw_all := lw_g (lw_at lw_m4 169 rfl) rfl
theorem q961 : (Jvm.Cond.soleField "Appealrent$Case" "claimed") ∈ lw_all := lw_g (lw_at lw_m4 170 rfl) rfl
theorem q962 : (Jvm.Cond.lays "Appealrent$Case" "Appealrent$Case" "kept" "I") ∈ lw_all := lw_g (lw_at lw_m4 171 rfl) rfl
theorem q963 : (Jvm.Cond.soleField "Appealrent$Case" "kept") ∈ lw_all := lw_g (lw_at lw_m4 172 rfl) rfl
theorem q964 : (Jvm.Cond.laysFinal "Appealrent$Case" "Appealrent$Case" "sent" "[I") ∈ lw_all := lw_g (lw_at lw_m4 173 rfl) rfl
theorem q965 : (Jvm.Cond.soleField "Appealrent$Case" "sent") ∈ lw_all := lw_g (lw_at lw_m4 174 rfl) rfl
theorem q966 : (Jvm.Cond.superclass "Appealrent$Case" "java/lang/Object") ∈ lw_all := lw_g (lw_at lw_m4 175 rfl) rfl
theorem q1674 : (Jvm.Cond.selects "Appealrent$Case" ({ cls := "java/lang/Object", name := "toString", desc := "()Ljava/lang/String;" } : Jvm.MethodName) ({ cls := "java/lang/Object", name := "toString", desc := "()Ljava/lang/String;" } : Jvm.MethodName)) ∈ lw_all := lw_g (lw_at lw_m7 163 rfl) rfl
theorem q2238 : (Jvm.Cond.castable "Appealrent$Case" "java/lang/Object") ∈ lw_tbl := lw_at lw_m10 7 rfl
theorem in_X4 : ∀ w ∈ wsX40, w ∈ lw_all := lw_in wsX40 [950, 952, 954, 956, 958, 960, 962, 964] (by decide +kernel) (by decide +kernel)
/-! Appealrent$Form -/
set_option maxRecDepth 100000
def RX5 : String := "Appealrent$Form"
def TX5 : u_T := fun k => match k with
  | 0 => ("Appealrent$Form", "number", "I", true)
  | 1 => ("Appealrent$Form", "its", "LAppealrent$Case;", true)
  | 2 => ("Appealrent$Form", "came", "I", true)
  | 3 => ("Appealrent$Form", "facts", "[I", true)
  | 4 => ("Appealrent$Form", "from", "I", false)
  | 5 => ("Appealrent$Form", "isFrom", "Z", false)
  | _ => ("Appealrent$Form", "state", "I", false)
def tyX5 : Nat → FieldType := fun k => match k with
  | 0 => .int
  | 1 => .object "Appealrent$Case"
  | 2 => .int
  | 3 => .array .int
  | 4 => .int
  | 5 => .boolean
  | _ => .int
abbrev wsX50 : List Cond := u_ws RX5 TX5 7
theorem nmX5 : ∀ a, a < 7 → ∀ b, b < 7 → a ≠ b → (TX5 a).2.1 ≠ (TX5 b).2.1 := by decide +kernel
theorem tyX5_ok : ∀ k, k < 7 → parseFieldDescriptor (TX5 k).2.2.1 = some (tyX5 k) := by decide +kernel
abbrev cX5_init : ByteArray := prog_8_method_1_code
def yX5_init : MethodName := ⟨RX5, "<init>", "(ILAppealrent$Case;I)V"⟩
def dkwX5_init_2 : List UInt8 := [29, 181, 0, 29, 177]
abbrev dktX5_init_2 : List UInt8 := dkwX5_init_2 ++ []
def dkwX5_init_1 : List UInt8 := [181, 0, 9, 42, 3, 181, 0, 15, 42, 27, 181, 0, 19, 42, 44, 181, 0, 22, 42, 29, 181, 0, 26, 42]
abbrev dktX5_init_1 : List UInt8 := dkwX5_init_1 ++ dktX5_init_2
def dkwX5_init_0 : List UInt8 := [42, 183, 0, 3, 42, 7, 188, 10, 89, 3, 2, 79, 89, 4, 2, 79, 89, 5, 2, 79, 89, 6, 2, 79]
abbrev dktX5_init_0 : List UInt8 := dkwX5_init_0 ++ dktX5_init_1
theorem dksX5_init_0 : cX5_init.data.toList.drop 0 = dktX5_init_0 := by decide +kernel
theorem dksX5_init_1 : cX5_init.data.toList.drop 24 = dktX5_init_1 := dk_seg dksX5_init_0 24 rfl rfl
theorem dksX5_init_2 : cX5_init.data.toList.drop 48 = dktX5_init_2 := dk_seg dksX5_init_1 24 rfl rfl
theorem dX5_init_0 : decode cX5_init 0 = .ok (.aload_n 0, 1) := dk_42 (dk_at dksX5_init_0 0 rfl rfl)
theorem dX5_init_1 : decode cX5_init 1 = .ok (.invokespecial 3, 3) := dk_183 0 3 (dk_at dksX5_init_0 1 rfl rfl)
theorem dX5_init_4 : decode cX5_init 4 = .ok (.aload_n 0, 1) := dk_42 (dk_at dksX5_init_0 4 rfl rfl)
theorem dX5_init_5 : decode cX5_init 5 = .ok (.iconst 4, 1) := dk_7 (dk_at dksX5_init_0 5 rfl rfl)
theorem dX5_init_6 : decode cX5_init 6 = .ok (.newarray .int, 2) := dk_188_10 (dk_at dksX5_init_0 6 rfl rfl)
theorem dX5_init_8 : decode cX5_init 8 = .ok (.dup, 1) := dk_89 (dk_at dksX5_init_0 8 rfl rfl)
theorem dX5_init_9 : decode cX5_init 9 = .ok (.iconst 0, 1) := dk_3 (dk_at dksX5_init_0 9 rfl rfl)
theorem dX5_init_10 : decode cX5_init 10 = .ok (.iconst (-1), 1) := dk_2 (dk_at dksX5_init_0 10 rfl rfl)
theorem dX5_init_11 : decode cX5_init 11 = .ok (.iastore, 1) := dk_79 (dk_at dksX5_init_0 11 rfl rfl)
theorem dX5_init_12 : decode cX5_init 12 = .ok (.dup, 1) := dk_89 (dk_at dksX5_init_0 12 rfl rfl)
theorem dX5_init_13 : decode cX5_init 13 = .ok (.iconst 1, 1) := dk_4 (dk_at dksX5_init_0 13 rfl rfl)
theorem dX5_init_14 : decode cX5_init 14 = .ok (.iconst (-1), 1) := dk_2 (dk_at dksX5_init_0 14 rfl rfl)
theorem dX5_init_15 : decode cX5_init 15 = .ok (.iastore, 1) := dk_79 (dk_at dksX5_init_0 15 rfl rfl)
theorem dX5_init_16 : decode cX5_init 16 = .ok (.dup, 1) := dk_89 (dk_at dksX5_init_0 16 rfl rfl)
theorem dX5_init_17 : decode cX5_init 17 = .ok (.iconst 2, 1) := dk_5 (dk_at dksX5_init_0 17 rfl rfl)
theorem dX5_init_18 : decode cX5_init 18 = .ok (.iconst (-1), 1) := dk_2 (dk_at dksX5_init_0 18 rfl rfl)
theorem dX5_init_19 : decode cX5_init 19 = .ok (.iastore, 1) := dk_79 (dk_at dksX5_init_0 19 rfl rfl)
theorem dX5_init_20 : decode cX5_init 20 = .ok (.dup, 1) := dk_89 (dk_at dksX5_init_0 20 rfl rfl)
theorem dX5_init_21 : decode cX5_init 21 = .ok (.iconst 3, 1) := dk_6 (dk_at dksX5_init_0 21 rfl rfl)
theorem dX5_init_22 : decode cX5_init 22 = .ok (.iconst (-1), 1) := dk_2 (dk_at dksX5_init_0 22 rfl rfl)
theorem dX5_init_23 : decode cX5_init 23 = .ok (.iastore, 1) := dk_79 (dk_at dksX5_init_0 23 rfl rfl)
theorem dX5_init_24 : decode cX5_init 24 = .ok (.putfield 9, 3) := dk_181 0 9 (dk_at dksX5_init_1 0 rfl rfl)
theorem dX5_init_27 : decode cX5_init 27 = .ok (.aload_n 0, 1) := dk_42 (dk_at dksX5_init_1 3 rfl rfl)
theorem dX5_init_28 : decode cX5_init 28 = .ok (.iconst 0, 1) := dk_3 (dk_at dksX5_init_1 4 rfl rfl)
theorem dX5_init_29 : decode cX5_init 29 = .ok (.putfield 15, 3) := dk_181 0 15 (dk_at dksX5_init_1 5 rfl rfl)
theorem dX5_init_32 : decode cX5_init 32 = .ok (.aload_n 0, 1) := dk_42 (dk_at dksX5_init_1 8 rfl rfl)
theorem dX5_init_33 : decode cX5_init 33 = .ok (.iload_n 1, 1) := dk_27 (dk_at dksX5_init_1 9 rfl rfl)
theorem dX5_init_34 : decode cX5_init 34 = .ok (.putfield 19, 3) := dk_181 0 19 (dk_at dksX5_init_1 10 rfl rfl)
theorem dX5_init_37 : decode cX5_init 37 = .ok (.aload_n 0, 1) := dk_42 (dk_at dksX5_init_1 13 rfl rfl)
theorem dX5_init_38 : decode cX5_init 38 = .ok (.aload_n 2, 1) := dk_44 (dk_at dksX5_init_1 14 rfl rfl)
theorem dX5_init_39 : decode cX5_init 39 = .ok (.putfield 22, 3) := dk_181 0 22 (dk_at dksX5_init_1 15 rfl rfl)
theorem dX5_init_42 : decode cX5_init 42 = .ok (.aload_n 0, 1) := dk_42 (dk_at dksX5_init_1 18 rfl rfl)
theorem dX5_init_43 : decode cX5_init 43 = .ok (.iload_n 3, 1) := dk_29 (dk_at dksX5_init_1 19 rfl rfl)
theorem dX5_init_44 : decode cX5_init 44 = .ok (.putfield 26, 3) := dk_181 0 26 (dk_at dksX5_init_1 20 rfl rfl)
theorem dX5_init_47 : decode cX5_init 47 = .ok (.aload_n 0, 1) := dk_42 (dk_at dksX5_init_1 23 rfl rfl)
theorem dX5_init_48 : decode cX5_init 48 = .ok (.iload_n 3, 1) := dk_29 (dk_at dksX5_init_2 0 rfl rfl)
theorem dX5_init_49 : decode cX5_init 49 = .ok (.putfield 29, 3) := dk_181 0 29 (dk_at dksX5_init_2 1 rfl rfl)
theorem dX5_init_52 : decode cX5_init 52 = .ok (.return_, 1) := dk_177 (dk_at dksX5_init_2 4 rfl rfl)
abbrev cX5_takes : ByteArray := prog_8_method_3_code
def yX5_takes : MethodName := ⟨RX5, "takes", "(Ljava/lang/String;LAppealrent$Words;)Z"⟩
def dkwX5_takes_11 : List UInt8 := [4, 181, 0, 71, 4, 172, 3, 172]
abbrev dktX5_takes_11 : List UInt8 := dkwX5_takes_11 ++ []
def dkwX5_takes_10 : List UInt8 := [42, 180, 0, 26, 16, 120, 100, 184, 0, 75, 42, 180, 0, 26, 16, 30, 96, 182, 0, 81, 181, 0, 29, 42]
abbrev dktX5_takes_10 : List UInt8 := dkwX5_takes_10 ++ dktX5_takes_11
def dkwX5_takes_9 : List UInt8 := [182, 0, 67, 153, 0, 7, 4, 167, 0, 4, 3, 172, 42, 180, 0, 71, 153, 0, 5, 3, 172, 42, 44, 3]
abbrev dktX5_takes_9 : List UInt8 := dkwX5_takes_9 ++ dktX5_takes_10
def dkwX5_takes_8 : List UInt8 := [16, 9, 182, 0, 56, 172, 42, 180, 0, 9, 6, 46, 2, 160, 0, 19, 42, 44, 182, 0, 61, 44]
abbrev dktX5_takes_8 : List UInt8 := dkwX5_takes_8 ++ dktX5_takes_9
def dkwX5_takes_7 : List UInt8 := [42, 3, 44, 3, 18, 55, 182, 0, 56, 172, 42, 4, 44, 3, 18, 60, 182, 0, 56, 172, 42, 5, 44, 4]
abbrev dktX5_takes_7 : List UInt8 := dkwX5_takes_7 ++ dktX5_takes_8
def dkwX5_takes_6 : List UInt8 := [170, 0, 0, 0, 0, 134, 0, 0, 0, 0, 0, 0, 0, 4, 0, 0, 0, 34, 0, 0, 0, 44, 0, 0, 0, 54, 0, 0, 0, 64, 0, 0, 0, 92]
abbrev dktX5_takes_6 : List UInt8 := dkwX5_takes_6 ++ dktX5_takes_7
def dkwX5_takes_5 : List UInt8 := [21, 4]
abbrev dktX5_takes_5 : List UInt8 := dkwX5_takes_5 ++ dktX5_takes_6
def dkwX5_takes_4 : List UInt8 := [182, 0, 44, 153, 0, 21, 6, 54, 4, 167, 0, 15, 45, 18, 54, 182, 0, 44, 153, 0, 6, 7, 54, 4]
abbrev dktX5_takes_4 : List UInt8 := dkwX5_takes_4 ++ dktX5_takes_5
def dkwX5_takes_3 : List UInt8 := [4, 54, 4, 167, 0, 45, 45, 18, 50, 182, 0, 44, 153, 0, 36, 5, 54, 4, 167, 0, 30, 45, 18, 52]
abbrev dktX5_takes_3 : List UInt8 := dkwX5_takes_3 ++ dktX5_takes_4
def dkwX5_takes_2 : List UInt8 := [45, 18, 42, 182, 0, 44, 153, 0, 66, 3, 54, 4, 167, 0, 60, 45, 18, 48, 182, 0, 44, 153, 0, 51]
abbrev dktX5_takes_2 : List UInt8 := dkwX5_takes_2 ++ dktX5_takes_3
def dkwX5_takes_1 : List UInt8 := [171, 0, 0, 0, 0, 0, 123, 0, 0, 0, 5, 185, 105, 161, 169, 0, 0, 0, 66, 0, 0, 14, 123, 0, 0, 0, 96, 0, 48, 23, 170, 0, 0, 0, 111, 0, 53, 91, 57, 0, 0, 0, 51, 5, 232, 238, 147, 0, 0, 0, 81]
abbrev dktX5_takes_1 : List UInt8 := dkwX5_takes_1 ++ dktX5_takes_2
def dkwX5_takes_0 : List UInt8 := [43, 78, 2, 54, 4, 45, 182, 0, 36]
abbrev dktX5_takes_0 : List UInt8 := dkwX5_takes_0 ++ dktX5_takes_1
theorem dksX5_takes_0 : cX5_takes.data.toList.drop 0 = dktX5_takes_0 := by decide +kernel
theorem dksX5_takes_1 : cX5_takes.data.toList.drop 9 = dktX5_takes_1 := dk_seg dksX5_takes_0 9 rfl rfl
theorem dksX5_takes_2 : cX5_takes.data.toList.drop 60 = dktX5_takes_2 := dk_seg dksX5_takes_1 51 rfl rfl
theorem dksX5_takes_3 : cX5_takes.data.toList.drop 84 = dktX5_takes_3 := dk_seg dksX5_takes_2 24 rfl rfl
theorem dksX5_takes_4 : cX5_takes.data.toList.drop 108 = dktX5_takes_4 := dk_seg dksX5_takes_3 24 rfl rfl
theorem dksX5_takes_5 : cX5_takes.data.toList.drop 132 = dktX5_takes_5 := dk_seg dksX5_takes_4 24 rfl rfl
theorem dksX5_takes_6 : cX5_takes.data.toList.drop 134 = dktX5_takes_6 := dk_seg dksX5_takes_5 2 rfl rfl
theorem dksX5_takes_7 : cX5_takes.data.toList.drop 168 = dktX5_takes_7 := dk_seg dksX5_takes_6 34 rfl rfl
theorem dksX5_takes_8 : cX5_takes.data.toList.drop 192 = dktX5_takes_8 := dk_seg dksX5_takes_7 24 rfl rfl
theorem dksX5_takes_9 : cX5_takes.data.toList.drop 214 = dktX5_takes_9 := dk_seg dksX5_takes_8 22 rfl rfl
theorem dksX5_takes_10 : cX5_takes.data.toList.drop 238 = dktX5_takes_10 := dk_seg dksX5_takes_9 24 rfl rfl
theorem dksX5_takes_11 : cX5_takes.data.toList.drop 262 = dktX5_takes_11 := dk_seg dksX5_takes_10 24 rfl rfl
theorem dX5_takes_0 : decode cX5_takes 0 = .ok (.aload_n 1, 1) := dk_43 (dk_at dksX5_takes_0 0 rfl rfl)
theorem dX5_takes_1 : decode cX5_takes 1 = .ok (.astore_n 3, 1) := dk_78 (dk_at dksX5_takes_0 1 rfl rfl)
theorem dX5_takes_2 : decode cX5_takes 2 = .ok (.iconst (-1), 1) := dk_2 (dk_at dksX5_takes_0 2 rfl rfl)
theorem dX5_takes_3 : decode cX5_takes 3 = .ok (.istore 4, 2) := dk_54 4 (dk_at dksX5_takes_0 3 rfl rfl)
theorem dX5_takes_5 : decode cX5_takes 5 = .ok (.aload_n 3, 1) := dk_45 (dk_at dksX5_takes_0 5 rfl rfl)
theorem dX5_takes_6 : decode cX5_takes 6 = .ok (.invokevirtual 36, 3) := dk_182 0 36 (dk_at dksX5_takes_0 6 rfl rfl)
theorem dX5_takes_9 : decode cX5_takes 9 = .ok (.lookupswitch 123 #[(-1184259671, 66), (3707, 96), (3151786, 111), (3496761, 51), (99151507, 81)], 51) := by decide +kernel
theorem dX5_takes_60 : decode cX5_takes 60 = .ok (.aload_n 3, 1) := dk_45 (dk_at dksX5_takes_2 0 rfl rfl)
theorem dX5_takes_61 : decode cX5_takes 61 = .ok (.ldc 42, 2) := dk_18 42 (dk_at dksX5_takes_2 1 rfl rfl)
theorem dX5_takes_63 : decode cX5_takes 63 = .ok (.invokevirtual 44, 3) := dk_182 0 44 (dk_at dksX5_takes_2 3 rfl rfl)
theorem dX5_takes_66 : decode cX5_takes 66 = .ok (.ifCond .eq 66, 3) := dk_153 0 66 (dk_at dksX5_takes_2 6 rfl rfl)
theorem dX5_takes_69 : decode cX5_takes 69 = .ok (.iconst 0, 1) := dk_3 (dk_at dksX5_takes_2 9 rfl rfl)
theorem dX5_takes_70 : decode cX5_takes 70 = .ok (.istore 4, 2) := dk_54 4 (dk_at dksX5_takes_2 10 rfl rfl)
theorem dX5_takes_72 : decode cX5_takes 72 = .ok (.goto 60, 3) := dk_167 0 60 (dk_at dksX5_takes_2 12 rfl rfl)
theorem dX5_takes_75 : decode cX5_takes 75 = .ok (.aload_n 3, 1) := dk_45 (dk_at dksX5_takes_2 15 rfl rfl)
theorem dX5_takes_76 : decode cX5_takes 76 = .ok (.ldc 48, 2) := dk_18 48 (dk_at dksX5_takes_2 16 rfl rfl)
theorem dX5_takes_78 : decode cX5_takes 78 = .ok (.invokevirtual 44, 3) := dk_182 0 44 (dk_at dksX5_takes_2 18 rfl rfl)
theorem dX5_takes_81 : decode cX5_takes 81 = .ok (.ifCond .eq 51, 3) := dk_153 0 51 (dk_at dksX5_takes_2 21 rfl rfl)
theorem dX5_takes_84 : decode cX5_takes 84 = .ok (.iconst 1, 1) := dk_4 (dk_at dksX5_takes_3 0 rfl rfl)
theorem dX5_takes_85 : decode cX5_takes 85 = .ok (.istore 4, 2) := dk_54 4 (dk_at dksX5_takes_3 1 rfl rfl)
theorem dX5_takes_87 : decode cX5_takes 87 = .ok (.goto 45, 3) := dk_167 0 45 (dk_at dksX5_takes_3 3 rfl rfl)
theorem dX5_takes_90 : decode cX5_takes 90 = .ok (.aload_n 3, 1) := dk_45 (dk_at dksX5_takes_3 6 rfl rfl)
theorem dX5_takes_91 : decode cX5_takes 91 = .ok (.ldc 50, 2) := dk_18 50 (dk_at dksX5_takes_3 7 rfl rfl)
theorem dX5_takes_93 : decode cX5_takes 93 = .ok (.invokevirtual 44, 3) := dk_182 0 44 (dk_at dksX5_takes_3 9 rfl rfl)
theorem dX5_takes_96 : decode cX5_takes 96 = .ok (.ifCond .eq 36, 3) := dk_153 0 36 (dk_at dksX5_takes_3 12 rfl rfl)
theorem dX5_takes_99 : decode cX5_takes 99 = .ok (.iconst 2, 1) := dk_5 (dk_at dksX5_takes_3 15 rfl rfl)
theorem dX5_takes_100 : decode cX5_takes 100 = .ok (.istore 4, 2) := dk_54 4 (dk_at dksX5_takes_3 16 rfl rfl)
theorem dX5_takes_102 : decode cX5_takes 102 = .ok (.goto 30, 3) := dk_167 0 30 (dk_at dksX5_takes_3 18 rfl rfl)
theorem dX5_takes_105 : decode cX5_takes 105 = .ok (.aload_n 3, 1) := dk_45 (dk_at dksX5_takes_3 21 rfl rfl)
theorem dX5_takes_106 : decode cX5_takes 106 = .ok (.ldc 52, 2) := dk_18 52 (dk_at dksX5_takes_3 22 rfl rfl)
theorem dX5_takes_108 : decode cX5_takes 108 = .ok (.invokevirtual 44, 3) := dk_182 0 44 (dk_at dksX5_takes_4 0 rfl rfl)
theorem dX5_takes_111 : decode cX5_takes 111 = .ok (.ifCond .eq 21, 3) := dk_153 0 21 (dk_at dksX5_takes_4 3 rfl rfl)
theorem dX5_takes_114 : decode cX5_takes 114 = .ok (.iconst 3, 1) := dk_6 (dk_at dksX5_takes_4 6 rfl rfl)
theorem dX5_takes_115 : decode cX5_takes 115 = .ok (.istore 4, 2) := dk_54 4 (dk_at dksX5_takes_4 7 rfl rfl)
theorem dX5_takes_117 : decode cX5_takes 117 = .ok (.goto 15, 3) := dk_167 0 15 (dk_at dksX5_takes_4 9 rfl rfl)
theorem dX5_takes_120 : decode cX5_takes 120 = .ok (.aload_n 3, 1) := dk_45 (dk_at dksX5_takes_4 12 rfl rfl)
theorem dX5_takes_121 : decode cX5_takes 121 = .ok (.ldc 54, 2) := dk_18 54 (dk_at dksX5_takes_4 13 rfl rfl)
theorem dX5_takes_123 : decode cX5_takes 123 = .ok (.invokevirtual 44, 3) := dk_182 0 44 (dk_at dksX5_takes_4 15 rfl rfl)
theorem dX5_takes_126 : decode cX5_takes 126 = .ok (.ifCond .eq 6, 3) := dk_153 0 6 (dk_at dksX5_takes_4 18 rfl rfl)
theorem dX5_takes_129 : decode cX5_takes 129 = .ok (.iconst 4, 1) := dk_7 (dk_at dksX5_takes_4 21 rfl rfl)
theorem dX5_takes_130 : decode cX5_takes 130 = .ok (.istore 4, 2) := dk_54 4 (dk_at dksX5_takes_4 22 rfl rfl)
theorem dX5_takes_132 : decode cX5_takes 132 = .ok (.iload 4, 2) := dk_21 4 (dk_at dksX5_takes_5 0 rfl rfl)
theorem dX5_takes_134 : decode cX5_takes 134 = .ok (.tableswitch 134 0 4 #[34, 44, 54, 64, 92], 34) := by decide +kernel
theorem dX5_takes_168 : decode cX5_takes 168 = .ok (.aload_n 0, 1) := dk_42 (dk_at dksX5_takes_7 0 rfl rfl)
theorem dX5_takes_169 : decode cX5_takes 169 = .ok (.iconst 0, 1) := dk_3 (dk_at dksX5_takes_7 1 rfl rfl)
theorem dX5_takes_170 : decode cX5_takes 170 = .ok (.aload_n 2, 1) := dk_44 (dk_at dksX5_takes_7 2 rfl rfl)
theorem dX5_takes_171 : decode cX5_takes 171 = .ok (.iconst 0, 1) := dk_3 (dk_at dksX5_takes_7 3 rfl rfl)
theorem dX5_takes_172 : decode cX5_takes 172 = .ok (.ldc 55, 2) := dk_18 55 (dk_at dksX5_takes_7 4 rfl rfl)
theorem dX5_takes_174 : decode cX5_takes 174 = .ok (.invokevirtual 56, 3) := dk_182 0 56 (dk_at dksX5_takes_7 6 rfl rfl)
theorem dX5_takes_177 : decode cX5_takes 177 = .ok (.ireturn, 1) := dk_172 (dk_at dksX5_takes_7 9 rfl rfl)
theorem dX5_takes_178 : decode cX5_takes 178 = .ok (.aload_n 0, 1) := dk_42 (dk_at dksX5_takes_7 10 rfl rfl)
theorem dX5_takes_179 : decode cX5_takes 179 = .ok (.iconst 1, 1) := dk_4 (dk_at dksX5_takes_7 11 rfl rfl)
theorem dX5_takes_180 : decode cX5_takes 180 = .ok (.aload_n 2, 1) := dk_44 (dk_at dksX5_takes_7 12 rfl rfl)
theorem dX5_takes_181 : decode cX5_takes 181 = .ok (.iconst 0, 1) := dk_3 (dk_at dksX5_takes_7 13 rfl rfl)
theorem dX5_takes_182 : decode cX5_takes 182 = .ok (.ldc 60, 2) := dk_18 60 (dk_at dksX5_takes_7 14 rfl rfl)
theorem dX5_takes_184 : decode cX5_takes 184 = .ok (.invokevirtual 56, 3) := dk_182 0 56 (dk_at dksX5_takes_7 16 rfl rfl)
theorem dX5_takes_187 : decode cX5_takes 187 = .ok (.ireturn, 1) := dk_172 (dk_at dksX5_takes_7 19 rfl rfl)
theorem dX5_takes_188 : decode cX5_takes 188 = .ok (.aload_n 0, 1) := dk_42 (dk_at dksX5_takes_7 20 rfl rfl)
theorem dX5_takes_189 : decode cX5_takes 189 = .ok (.iconst 2, 1) := dk_5 (dk_at dksX5_takes_7 21 rfl rfl)
theorem dX5_takes_190 : decode cX5_takes 190 = .ok (.aload_n 2, 1) := dk_44 (dk_at dksX5_takes_7 22 rfl rfl)
theorem dX5_takes_191 : decode cX5_takes 191 = .ok (.iconst 1, 1) := dk_4 (dk_at dksX5_takes_7 23 rfl rfl)
theorem dX5_takes_192 : decode cX5_takes 192 = .ok (.bipush 9, 2) := dk_16 9 (dk_at dksX5_takes_8 0 rfl rfl)
theorem dX5_takes_194 : decode cX5_takes 194 = .ok (.invokevirtual 56, 3) := dk_182 0 56 (dk_at dksX5_takes_8 2 rfl rfl)
theorem dX5_takes_197 : decode cX5_takes 197 = .ok (.ireturn, 1) := dk_172 (dk_at dksX5_takes_8 5 rfl rfl)
theorem dX5_takes_198 : decode cX5_takes 198 = .ok (.aload_n 0, 1) := dk_42 (dk_at dksX5_takes_8 6 rfl rfl)
theorem dX5_takes_199 : decode cX5_takes 199 = .ok (.getfield 9, 3) := dk_180 0 9 (dk_at dksX5_takes_8 7 rfl rfl)
theorem dX5_takes_202 : decode cX5_takes 202 = .ok (.iconst 3, 1) := dk_6 (dk_at dksX5_takes_8 10 rfl rfl)
theorem dX5_takes_203 : decode cX5_takes 203 = .ok (.iaload, 1) := dk_46 (dk_at dksX5_takes_8 11 rfl rfl)
theorem dX5_takes_204 : decode cX5_takes 204 = .ok (.iconst (-1), 1) := dk_2 (dk_at dksX5_takes_8 12 rfl rfl)
theorem dX5_takes_205 : decode cX5_takes 205 = .ok (.if_icmp .ne 19, 3) := dk_160 0 19 (dk_at dksX5_takes_8 13 rfl rfl)
theorem dX5_takes_208 : decode cX5_takes 208 = .ok (.aload_n 0, 1) := dk_42 (dk_at dksX5_takes_8 16 rfl rfl)
theorem dX5_takes_209 : decode cX5_takes 209 = .ok (.aload_n 2, 1) := dk_44 (dk_at dksX5_takes_8 17 rfl rfl)
theorem dX5_takes_210 : decode cX5_takes 210 = .ok (.invokevirtual 61, 3) := dk_182 0 61 (dk_at dksX5_takes_8 18 rfl rfl)
theorem dX5_takes_213 : decode cX5_takes 213 = .ok (.aload_n 2, 1) := dk_44 (dk_at dksX5_takes_8 21 rfl rfl)
theorem dX5_takes_214 : decode cX5_takes 214 = .ok (.invokevirtual 67, 3) := dk_182 0 67 (dk_at dksX5_takes_9 0 rfl rfl)
theorem dX5_takes_217 : decode cX5_takes 217 = .ok (.ifCond .eq 7, 3) := dk_153 0 7 (dk_at dksX5_takes_9 3 rfl rfl)
theorem dX5_takes_220 : decode cX5_takes 220 = .ok (.iconst 1, 1) := dk_4 (dk_at dksX5_takes_9 6 rfl rfl)
theorem dX5_takes_221 : decode cX5_takes 221 = .ok (.goto 4, 3) := dk_167 0 4 (dk_at dksX5_takes_9 7 rfl rfl)
theorem dX5_takes_224 : decode cX5_takes 224 = .ok (.iconst 0, 1) := dk_3 (dk_at dksX5_takes_9 10 rfl rfl)
theorem dX5_takes_225 : decode cX5_takes 225 = .ok (.ireturn, 1) := dk_172 (dk_at dksX5_takes_9 11 rfl rfl)
theorem dX5_takes_226 : decode cX5_takes 226 = .ok (.aload_n 0, 1) := dk_42 (dk_at dksX5_takes_9 12 rfl rfl)
theorem dX5_takes_227 : decode cX5_takes 227 = .ok (.getfield 71, 3) := dk_180 0 71 (dk_at dksX5_takes_9 13 rfl rfl)
theorem dX5_takes_230 : decode cX5_takes 230 = .ok (.ifCond .eq 5, 3) := dk_153 0 5 (dk_at dksX5_takes_9 16 rfl rfl)
theorem dX5_takes_233 : decode cX5_takes 233 = .ok (.iconst 0, 1) := dk_3 (dk_at dksX5_takes_9 19 rfl rfl)
theorem dX5_takes_234 : decode cX5_takes 234 = .ok (.ireturn, 1) := dk_172 (dk_at dksX5_takes_9 20 rfl rfl)
theorem dX5_takes_235 : decode cX5_takes 235 = .ok (.aload_n 0, 1) := dk_42 (dk_at dksX5_takes_9 21 rfl rfl)
theorem dX5_takes_236 : decode cX5_takes 236 = .ok (.aload_n 2, 1) := dk_44 (dk_at dksX5_takes_9 22 rfl rfl)
theorem dX5_takes_237 : decode cX5_takes 237 = .ok (.iconst 0, 1) := dk_3 (dk_at dksX5_takes_9 23 rfl rfl)
theorem dX5_takes_238 : decode cX5_takes 238 = .ok (.aload_n 0, 1) := dk_42 (dk_at dksX5_takes_10 0 rfl rfl)
theorem dX5_takes_239 : decode cX5_takes 239 = .ok (.getfield 26, 3) := dk_180 0 26 (dk_at dksX5_takes_10 1 rfl rfl)
theorem dX5_takes_242 : decode cX5_takes 242 = .ok (.bipush 120, 2) := dk_16 120 (dk_at dksX5_takes_10 4 rfl rfl)
theorem dX5_takes_244 : decode cX5_takes 244 = .ok (.isub, 1) := dk_100 (dk_at dksX5_takes_10 6 rfl rfl)
theorem dX5_takes_245 : decode cX5_takes 245 = .ok (.invokestatic 75, 3) := dk_184 0 75 (dk_at dksX5_takes_10 7 rfl rfl)
theorem dX5_takes_248 : decode cX5_takes 248 = .ok (.aload_n 0, 1) := dk_42 (dk_at dksX5_takes_10 10 rfl rfl)
theorem dX5_takes_249 : decode cX5_takes 249 = .ok (.getfield 26, 3) := dk_180 0 26 (dk_at dksX5_takes_10 11 rfl rfl)
theorem dX5_takes_252 : decode cX5_takes 252 = .ok (.bipush 30, 2) := dk_16 30 (dk_at dksX5_takes_10 14 rfl rfl)
theorem dX5_takes_254 : decode cX5_takes 254 = .ok (.iadd, 1) := dk_96 (dk_at dksX5_takes_10 16 rfl rfl)
theorem dX5_takes_255 : decode cX5_takes 255 = .ok (.invokevirtual 81, 3) := dk_182 0 81 (dk_at dksX5_takes_10 17 rfl rfl)
theorem dX5_takes_258 : decode cX5_takes 258 = .ok (.putfield 29, 3) := dk_181 0 29 (dk_at dksX5_takes_10 20 rfl rfl)
theorem dX5_takes_261 : decode cX5_takes 261 = .ok (.aload_n 0, 1) := dk_42 (dk_at dksX5_takes_10 23 rfl rfl)
theorem dX5_takes_262 : decode cX5_takes 262 = .ok (.iconst 1, 1) := dk_4 (dk_at dksX5_takes_11 0 rfl rfl)
theorem dX5_takes_263 : decode cX5_takes 263 = .ok (.putfield 71, 3) := dk_181 0 71 (dk_at dksX5_takes_11 1 rfl rfl)
theorem dX5_takes_266 : decode cX5_takes 266 = .ok (.iconst 1, 1) := dk_4 (dk_at dksX5_takes_11 4 rfl rfl)
theorem dX5_takes_267 : decode cX5_takes 267 = .ok (.ireturn, 1) := dk_172 (dk_at dksX5_takes_11 5 rfl rfl)
theorem dX5_takes_268 : decode cX5_takes 268 = .ok (.iconst 0, 1) := dk_3 (dk_at dksX5_takes_11 6 rfl rfl)
theorem dX5_takes_269 : decode cX5_takes 269 = .ok (.ireturn, 1) := dk_172 (dk_at dksX5_takes_11 7 rfl rfl)
abbrev cX5_puts : ByteArray := prog_8_method_4_code
def yX5_puts : MethodName := ⟨RX5, "puts", "(ILAppealrent$Words;II)Z"⟩
def dkwX5_puts_1 : List UInt8 := [153, 0, 13, 44, 29, 21, 4, 182, 0, 81, 167, 0, 9, 42, 180, 0, 9, 27, 46, 79, 21, 5, 172]
abbrev dktX5_puts_1 : List UInt8 := dkwX5_puts_1 ++ []
def dkwX5_puts_0 : List UInt8 := [42, 180, 0, 9, 27, 46, 2, 160, 0, 7, 4, 167, 0, 4, 3, 54, 5, 42, 180, 0, 9, 27, 21, 5]
abbrev dktX5_puts_0 : List UInt8 := dkwX5_puts_0 ++ dktX5_puts_1
theorem dksX5_puts_0 : cX5_puts.data.toList.drop 0 = dktX5_puts_0 := by decide +kernel
theorem dksX5_puts_1 : cX5_puts.data.toList.drop 24 = dktX5_puts_1 := dk_seg dksX5_puts_0 24 rfl rfl
theorem dX5_puts_0 : decode cX5_puts 0 = .ok (.aload_n 0, 1) := dk_42 (dk_at dksX5_puts_0 0 rfl rfl)
theorem dX5_puts_1 : decode cX5_puts 1 = .ok (.getfield 9, 3) := dk_180 0 9 (dk_at dksX5_puts_0 1 rfl rfl)
theorem dX5_puts_4 : decode cX5_puts 4 = .ok (.iload_n 1, 1) := dk_27 (dk_at dksX5_puts_0 4 rfl rfl)
theorem dX5_puts_5 : decode cX5_puts 5 = .ok (.iaload, 1) := dk_46 (dk_at dksX5_puts_0 5 rfl rfl)
theorem dX5_puts_6 : decode cX5_puts 6 = .ok (.iconst (-1), 1) := dk_2 (dk_at dksX5_puts_0 6 rfl rfl)
theorem dX5_puts_7 : decode cX5_puts 7 = .ok (.if_icmp .ne 7, 3) := dk_160 0 7 (dk_at dksX5_puts_0 7 rfl rfl)
theorem dX5_puts_10 : decode cX5_puts 10 = .ok (.iconst 1, 1) := dk_4 (dk_at dksX5_puts_0 10 rfl rfl)
theorem dX5_puts_11 : decode cX5_puts 11 = .ok (.goto 4, 3) := dk_167 0 4 (dk_at dksX5_puts_0 11 rfl rfl)
theorem dX5_puts_14 : decode cX5_puts 14 = .ok (.iconst 0, 1) := dk_3 (dk_at dksX5_puts_0 14 rfl rfl)
theorem dX5_puts_15 : decode cX5_puts 15 = .ok (.istore 5, 2) := dk_54 5 (dk_at dksX5_puts_0 15 rfl rfl)
theorem dX5_puts_17 : decode cX5_puts 17 = .ok (.aload_n 0, 1) := dk_42 (dk_at dksX5_puts_0 17 rfl rfl)
theorem dX5_puts_18 : decode cX5_puts 18 = .ok (.getfield 9, 3) := dk_180 0 9 (dk_at dksX5_puts_0 18 rfl rfl)
theorem dX5_puts_21 : decode cX5_puts 21 = .ok (.iload_n 1, 1) := dk_27 (dk_at dksX5_puts_0 21 rfl rfl)
theorem dX5_puts_22 : decode cX5_puts 22 = .ok (.iload 5, 2) := dk_21 5 (dk_at dksX5_puts_0 22 rfl rfl)
theorem dX5_puts_24 : decode cX5_puts 24 = .ok (.ifCond .eq 13, 3) := dk_153 0 13 (dk_at dksX5_puts_1 0 rfl rfl)
theorem dX5_puts_27 : decode cX5_puts 27 = .ok (.aload_n 2, 1) := dk_44 (dk_at dksX5_puts_1 3 rfl rfl)
theorem dX5_puts_28 : decode cX5_puts 28 = .ok (.iload_n 3, 1) := dk_29 (dk_at dksX5_puts_1 4 rfl rfl)
theorem dX5_puts_29 : decode cX5_puts 29 = .ok (.iload 4, 2) := dk_21 4 (dk_at dksX5_puts_1 5 rfl rfl)
theorem dX5_puts_31 : decode cX5_puts 31 = .ok (.invokevirtual 81, 3) := dk_182 0 81 (dk_at dksX5_puts_1 7 rfl rfl)
theorem dX5_puts_34 : decode cX5_puts 34 = .ok (.goto 9, 3) := dk_167 0 9 (dk_at dksX5_puts_1 10 rfl rfl)
theorem dX5_puts_37 : decode cX5_puts 37 = .ok (.aload_n 0, 1) := dk_42 (dk_at dksX5_puts_1 13 rfl rfl)
theorem dX5_puts_38 : decode cX5_puts 38 = .ok (.getfield 9, 3) := dk_180 0 9 (dk_at dksX5_puts_1 14 rfl rfl)
theorem dX5_puts_41 : decode cX5_puts 41 = .ok (.iload_n 1, 1) := dk_27 (dk_at dksX5_puts_1 17 rfl rfl)
theorem dX5_puts_42 : decode cX5_puts 42 = .ok (.iaload, 1) := dk_46 (dk_at dksX5_puts_1 18 rfl rfl)
theorem dX5_puts_43 : decode cX5_puts 43 = .ok (.iastore, 1) := dk_79 (dk_at dksX5_puts_1 19 rfl rfl)
theorem dX5_puts_44 : decode cX5_puts 44 = .ok (.iload 5, 2) := dk_21 5 (dk_at dksX5_puts_1 20 rfl rfl)
theorem dX5_puts_46 : decode cX5_puts 46 = .ok (.ireturn, 1) := dk_172 (dk_at dksX5_puts_1 22 rfl rfl)
abbrev cX5_goesTo : ByteArray := prog_8_method_5_code
def yX5_goesTo : MethodName := ⟨RX5, "goesTo", "(Ljava/lang/String;LAppealrent$Words;)Z"⟩
def dkwX5_goesTo_5 : List UInt8 := [42, 180, 0, 9, 6, 3, 79, 4, 172, 42, 180, 0, 9, 6, 4, 79, 4, 172, 44, 182, 0, 87, 191]
abbrev dktX5_goesTo_5 : List UInt8 := dkwX5_goesTo_5 ++ []
def dkwX5_goesTo_4 : List UInt8 := [171, 0, 0, 0, 0, 0, 45, 0, 0, 0, 2, 0, 0, 0, 0, 0, 0, 0, 27, 0, 0, 0, 1, 0, 0, 0, 36]
abbrev dktX5_goesTo_4 : List UInt8 := dkwX5_goesTo_4 ++ dktX5_goesTo_5
def dkwX5_goesTo_3 : List UInt8 := [4, 54, 4, 21, 4]
abbrev dktX5_goesTo_3 : List UInt8 := dkwX5_goesTo_3 ++ dktX5_goesTo_4
def dkwX5_goesTo_2 : List UInt8 := [45, 18, 83, 182, 0, 44, 153, 0, 21, 3, 54, 4, 167, 0, 15, 45, 18, 85, 182, 0, 44, 153, 0, 6]
abbrev dktX5_goesTo_2 : List UInt8 := dkwX5_goesTo_2 ++ dktX5_goesTo_3
def dkwX5_goesTo_1 : List UInt8 := [171, 0, 0, 0, 0, 0, 54, 0, 0, 0, 2, 159, 164, 107, 96, 0, 0, 0, 42, 203, 180, 232, 170, 0, 0, 0, 27]
abbrev dktX5_goesTo_1 : List UInt8 := dkwX5_goesTo_1 ++ dktX5_goesTo_2
def dkwX5_goesTo_0 : List UInt8 := [43, 78, 2, 54, 4, 45, 182, 0, 36]
abbrev dktX5_goesTo_0 : List UInt8 := dkwX5_goesTo_0 ++ dktX5_goesTo_1
theorem dksX5_goesTo_0 : cX5_goesTo.data.toList.drop 0 = dktX5_goesTo_0 := by decide +kernel
theorem dksX5_goesTo_1 : cX5_goesTo.data.toList.drop 9 = dktX5_goesTo_1 := dk_seg dksX5_goesTo_0 9 rfl rfl
theorem dksX5_goesTo_2 : cX5_goesTo.data.toList.drop 36 = dktX5_goesTo_2 := dk_seg dksX5_goesTo_1 27 rfl rfl
theorem dksX5_goesTo_3 : cX5_goesTo.data.toList.drop 60 = dktX5_goesTo_3 := dk_seg dksX5_goesTo_2 24 rfl rfl
theorem dksX5_goesTo_4 : cX5_goesTo.data.toList.drop 65 = dktX5_goesTo_4 := dk_seg dksX5_goesTo_3 5 rfl rfl
theorem dksX5_goesTo_5 : cX5_goesTo.data.toList.drop 92 = dktX5_goesTo_5 := dk_seg dksX5_goesTo_4 27 rfl rfl
theorem dX5_goesTo_0 : decode cX5_goesTo 0 = .ok (.aload_n 1, 1) := dk_43 (dk_at dksX5_goesTo_0 0 rfl rfl)
theorem dX5_goesTo_1 : decode cX5_goesTo 1 = .ok (.astore_n 3, 1) := dk_78 (dk_at dksX5_goesTo_0 1 rfl rfl)
theorem dX5_goesTo_2 : decode cX5_goesTo 2 = .ok (.iconst (-1), 1) := dk_2 (dk_at dksX5_goesTo_0 2 rfl rfl)
theorem dX5_goesTo_3 : decode cX5_goesTo 3 = .ok (.istore 4, 2) := dk_54 4 (dk_at dksX5_goesTo_0 3 rfl rfl)
theorem dX5_goesTo_5 : decode cX5_goesTo 5 = .ok (.aload_n 3, 1) := dk_45 (dk_at dksX5_goesTo_0 5 rfl rfl)
theorem dX5_goesTo_6 : decode cX5_goesTo 6 = .ok (.invokevirtual 36, 3) := dk_182 0 36 (dk_at dksX5_goesTo_0 6 rfl rfl)
theorem dX5_goesTo_9 : decode cX5_goesTo 9 = .ok (.lookupswitch 54 #[(-1616614560, 42), (-877336406, 27)], 27) := by decide +kernel
theorem dX5_goesTo_36 : decode cX5_goesTo 36 = .ok (.aload_n 3, 1) := dk_45 (dk_at dksX5_goesTo_2 0 rfl rfl)
theorem dX5_goesTo_37 : decode cX5_goesTo 37 = .ok (.ldc 83, 2) := dk_18 83 (dk_at dksX5_goesTo_2 1 rfl rfl)
theorem dX5_goesTo_39 : decode cX5_goesTo 39 = .ok (.invokevirtual 44, 3) := dk_182 0 44 (dk_at dksX5_goesTo_2 3 rfl rfl)
theorem dX5_goesTo_42 : decode cX5_goesTo 42 = .ok (.ifCond .eq 21, 3) := dk_153 0 21 (dk_at dksX5_goesTo_2 6 rfl rfl)
theorem dX5_goesTo_45 : decode cX5_goesTo 45 = .ok (.iconst 0, 1) := dk_3 (dk_at dksX5_goesTo_2 9 rfl rfl)
theorem dX5_goesTo_46 : decode cX5_goesTo 46 = .ok (.istore 4, 2) := dk_54 4 (dk_at dksX5_goesTo_2 10 rfl rfl)
theorem dX5_goesTo_48 : decode cX5_goesTo 48 = .ok (.goto 15, 3) := dk_167 0 15 (dk_at dksX5_goesTo_2 12 rfl rfl)
theorem dX5_goesTo_51 : decode cX5_goesTo 51 = .ok (.aload_n 3, 1) := dk_45 (dk_at dksX5_goesTo_2 15 rfl rfl)
theorem dX5_goesTo_52 : decode cX5_goesTo 52 = .ok (.ldc 85, 2) := dk_18 85 (dk_at dksX5_goesTo_2 16 rfl rfl)
theorem dX5_goesTo_54 : decode cX5_goesTo 54 = .ok (.invokevirtual 44, 3) := dk_182 0 44 (dk_at dksX5_goesTo_2 18 rfl rfl)
theorem dX5_goesTo_57 : decode cX5_goesTo 57 = .ok (.ifCond .eq 6, 3) := dk_153 0 6 (dk_at dksX5_goesTo_2 21 rfl rfl)
theorem dX5_goesTo_60 : decode cX5_goesTo 60 = .ok (.iconst 1, 1) := dk_4 (dk_at dksX5_goesTo_3 0 rfl rfl)
theorem dX5_goesTo_61 : decode cX5_goesTo 61 = .ok (.istore 4, 2) := dk_54 4 (dk_at dksX5_goesTo_3 1 rfl rfl)
theorem dX5_goesTo_63 : decode cX5_goesTo 63 = .ok (.iload 4, 2) := dk_21 4 (dk_at dksX5_goesTo_3 3 rfl rfl)
theorem dX5_goesTo_65 : decode cX5_goesTo 65 = .ok (.lookupswitch 45 #[(0, 27), (1, 36)], 27) := by decide +kernel
theorem dX5_goesTo_92 : decode cX5_goesTo 92 = .ok (.aload_n 0, 1) := dk_42 (dk_at dksX5_goesTo_5 0 rfl rfl)
theorem dX5_goesTo_93 : decode cX5_goesTo 93 = .ok (.getfield 9, 3) := dk_180 0 9 (dk_at dksX5_goesTo_5 1 rfl rfl)
theorem dX5_goesTo_96 : decode cX5_goesTo 96 = .ok (.iconst 3, 1) := dk_6 (dk_at dksX5_goesTo_5 4 rfl rfl)
theorem dX5_goesTo_97 : decode cX5_goesTo 97 = .ok (.iconst 0, 1) := dk_3 (dk_at dksX5_goesTo_5 5 rfl rfl)
theorem dX5_goesTo_98 : decode cX5_goesTo 98 = .ok (.iastore, 1) := dk_79 (dk_at dksX5_goesTo_5 6 rfl rfl)
theorem dX5_goesTo_99 : decode cX5_goesTo 99 = .ok (.iconst 1, 1) := dk_4 (dk_at dksX5_goesTo_5 7 rfl rfl)
theorem dX5_goesTo_100 : decode cX5_goesTo 100 = .ok (.ireturn, 1) := dk_172 (dk_at dksX5_goesTo_5 8 rfl rfl)
theorem dX5_goesTo_101 : decode cX5_goesTo 101 = .ok (.aload_n 0, 1) := dk_42 (dk_at dksX5_goesTo_5 9 rfl rfl)
theorem dX5_goesTo_102 : decode cX5_goesTo 102 = .ok (.getfield 9, 3) := dk_180 0 9 (dk_at dksX5_goesTo_5 10 rfl rfl)
theorem dX5_goesTo_105 : decode cX5_goesTo 105 = .ok (.iconst 3, 1) := dk_6 (dk_at dksX5_goesTo_5 13 rfl rfl)
theorem dX5_goesTo_106 : decode cX5_goesTo 106 = .ok (.iconst 1, 1) := dk_4 (dk_at dksX5_goesTo_5 14 rfl rfl)
theorem dX5_goesTo_107 : decode cX5_goesTo 107 = .ok (.iastore, 1) := dk_79 (dk_at dksX5_goesTo_5 15 rfl rfl)
theorem dX5_goesTo_108 : decode cX5_goesTo 108 = .ok (.iconst 1, 1) := dk_4 (dk_at dksX5_goesTo_5 16 rfl rfl)
theorem dX5_goesTo_109 : decode cX5_goesTo 109 = .ok (.ireturn, 1) := dk_172 (dk_at dksX5_goesTo_5 17 rfl rfl)
theorem dX5_goesTo_110 : decode cX5_goesTo 110 = .ok (.aload_n 2, 1) := dk_44 (dk_at dksX5_goesTo_5 18 rfl rfl)
theorem dX5_goesTo_111 : decode cX5_goesTo 111 = .ok (.invokevirtual 87, 3) := dk_182 0 87 (dk_at dksX5_goesTo_5 19 rfl rfl)
theorem dX5_goesTo_114 : decode cX5_goesTo 114 = .ok (.athrow, 1) := dk_191 (dk_at dksX5_goesTo_5 22 rfl rfl)
abbrev cX5_isEnough : ByteArray := prog_8_method_6_code
def yX5_isEnough : MethodName := ⟨RX5, "isEnough", "()Z"⟩
def dkwX5_isEnough_0 : List UInt8 := [42, 182, 0, 91, 158, 0, 7, 4, 167, 0, 4, 3, 172]
abbrev dktX5_isEnough_0 : List UInt8 := dkwX5_isEnough_0 ++ []
theorem dksX5_isEnough_0 : cX5_isEnough.data.toList.drop 0 = dktX5_isEnough_0 := by decide +kernel
theorem dX5_isEnough_0 : decode cX5_isEnough 0 = .ok (.aload_n 0, 1) := dk_42 (dk_at dksX5_isEnough_0 0 rfl rfl)
theorem dX5_isEnough_1 : decode cX5_isEnough 1 = .ok (.invokevirtual 91, 3) := dk_182 0 91 (dk_at dksX5_isEnough_0 1 rfl rfl)
theorem dX5_isEnough_4 : decode cX5_isEnough 4 = .ok (.ifCond .le 7, 3) := dk_158 0 7 (dk_at dksX5_isEnough_0 4 rfl rfl)
theorem dX5_isEnough_7 : decode cX5_isEnough 7 = .ok (.iconst 1, 1) := dk_4 (dk_at dksX5_isEnough_0 7 rfl rfl)
theorem dX5_isEnough_8 : decode cX5_isEnough 8 = .ok (.goto 4, 3) := dk_167 0 4 (dk_at dksX5_isEnough_0 8 rfl rfl)
theorem dX5_isEnough_11 : decode cX5_isEnough 11 = .ok (.iconst 0, 1) := dk_3 (dk_at dksX5_isEnough_0 11 rfl rfl)
theorem dX5_isEnough_12 : decode cX5_isEnough 12 = .ok (.ireturn, 1) := dk_172 (dk_at dksX5_isEnough_0 12 rfl rfl)
abbrev cX5_has : ByteArray := prog_8_method_2_code
def yX5_has : MethodName := ⟨RX5, "has", "()I"⟩
def dkwX5_has_2 : List UInt8 := [167, 255, 224, 27, 172]
abbrev dktX5_has_2 : List UInt8 := dkwX5_has_2 ++ []
def dkwX5_has_1 : List UInt8 := [54, 5, 27, 21, 5, 2, 159, 0, 7, 4, 167, 0, 4, 3, 184, 0, 32, 96, 60, 132, 4, 1]
abbrev dktX5_has_1 : List UInt8 := dkwX5_has_1 ++ dktX5_has_2
def dkwX5_has_0 : List UInt8 := [3, 60, 42, 180, 0, 9, 77, 44, 190, 62, 3, 54, 4, 21, 4, 29, 162, 0, 32, 44, 21, 4, 46]
abbrev dktX5_has_0 : List UInt8 := dkwX5_has_0 ++ dktX5_has_1
theorem dksX5_has_0 : cX5_has.data.toList.drop 0 = dktX5_has_0 := by decide +kernel
theorem dksX5_has_1 : cX5_has.data.toList.drop 23 = dktX5_has_1 := dk_seg dksX5_has_0 23 rfl rfl
theorem dksX5_has_2 : cX5_has.data.toList.drop 45 = dktX5_has_2 := dk_seg dksX5_has_1 22 rfl rfl
theorem dX5_has_0 : decode cX5_has 0 = .ok (.iconst 0, 1) := dk_3 (dk_at dksX5_has_0 0 rfl rfl)
theorem dX5_has_1 : decode cX5_has 1 = .ok (.istore_n 1, 1) := dk_60 (dk_at dksX5_has_0 1 rfl rfl)
theorem dX5_has_2 : decode cX5_has 2 = .ok (.aload_n 0, 1) := dk_42 (dk_at dksX5_has_0 2 rfl rfl)
theorem dX5_has_3 : decode cX5_has 3 = .ok (.getfield 9, 3) := dk_180 0 9 (dk_at dksX5_has_0 3 rfl rfl)
theorem dX5_has_6 : decode cX5_has 6 = .ok (.astore_n 2, 1) := dk_77 (dk_at dksX5_has_0 6 rfl rfl)
theorem dX5_has_7 : decode cX5_has 7 = .ok (.aload_n 2, 1) := dk_44 (dk_at dksX5_has_0 7 rfl rfl)
theorem dX5_has_8 : decode cX5_has 8 = .ok (.arraylength, 1) := dk_190 (dk_at dksX5_has_0 8 rfl rfl)
theorem dX5_has_9 : decode cX5_has 9 = .ok (.istore_n 3, 1) := dk_62 (dk_at dksX5_has_0 9 rfl rfl)
theorem dX5_has_10 : decode cX5_has 10 = .ok (.iconst 0, 1) := dk_3 (dk_at dksX5_has_0 10 rfl rfl)
theorem dX5_has_11 : decode cX5_has 11 = .ok (.istore 4, 2) := dk_54 4 (dk_at dksX5_has_0 11 rfl rfl)
theorem dX5_has_13 : decode cX5_has 13 = .ok (.iload 4, 2) := dk_21 4 (dk_at dksX5_has_0 13 rfl rfl)
theorem dX5_has_15 : decode cX5_has 15 = .ok (.iload_n 3, 1) := dk_29 (dk_at dksX5_has_0 15 rfl rfl)
theorem dX5_has_16 : decode cX5_has 16 = .ok (.if_icmp .ge 32, 3) := dk_162 0 32 (dk_at dksX5_has_0 16 rfl rfl)
theorem dX5_has_19 : decode cX5_has 19 = .ok (.aload_n 2, 1) := dk_44 (dk_at dksX5_has_0 19 rfl rfl)
theorem dX5_has_20 : decode cX5_has 20 = .ok (.iload 4, 2) := dk_21 4 (dk_at dksX5_has_0 20 rfl rfl)
theorem dX5_has_22 : decode cX5_has 22 = .ok (.iaload, 1) := dk_46 (dk_at dksX5_has_0 22 rfl rfl)
theorem dX5_has_23 : decode cX5_has 23 = .ok (.istore 5, 2) := dk_54 5 (dk_at dksX5_has_1 0 rfl rfl)
theorem dX5_has_25 : decode cX5_has 25 = .ok (.iload_n 1, 1) := dk_27 (dk_at dksX5_has_1 2 rfl rfl)
theorem dX5_has_26 : decode cX5_has 26 = .ok (.iload 5, 2) := dk_21 5 (dk_at dksX5_has_1 3 rfl rfl)
theorem dX5_has_28 : decode cX5_has 28 = .ok (.iconst (-1), 1) := dk_2 (dk_at dksX5_has_1 5 rfl rfl)
theorem dX5_has_29 : decode cX5_has 29 = .ok (.if_icmp .eq 7, 3) := dk_159 0 7 (dk_at dksX5_has_1 6 rfl rfl)
theorem dX5_has_32 : decode cX5_has 32 = .ok (.iconst 1, 1) := dk_4 (dk_at dksX5_has_1 9 rfl rfl)
theorem dX5_has_33 : decode cX5_has 33 = .ok (.goto 4, 3) := dk_167 0 4 (dk_at dksX5_has_1 10 rfl rfl)
theorem dX5_has_36 : decode cX5_has 36 = .ok (.iconst 0, 1) := dk_3 (dk_at dksX5_has_1 13 rfl rfl)
theorem dX5_has_37 : decode cX5_has 37 = .ok (.invokestatic 32, 3) := dk_184 0 32 (dk_at dksX5_has_1 14 rfl rfl)
theorem dX5_has_40 : decode cX5_has 40 = .ok (.iadd, 1) := dk_96 (dk_at dksX5_has_1 17 rfl rfl)
theorem dX5_has_41 : decode cX5_has 41 = .ok (.istore_n 1, 1) := dk_60 (dk_at dksX5_has_1 18 rfl rfl)
theorem dX5_has_42 : decode cX5_has 42 = .ok (.iinc 4 1, 3) := dk_132 4 1 (dk_at dksX5_has_1 19 rfl rfl)
theorem dX5_has_45 : decode cX5_has 45 = .ok (.goto (-32), 3) := dk_167 255 224 (dk_at dksX5_has_2 0 rfl rfl)
theorem dX5_has_48 : decode cX5_has 48 = .ok (.iload_n 1, 1) := dk_27 (dk_at dksX5_has_2 3 rfl rfl)
theorem dX5_has_49 : decode cX5_has 49 = .ok (.ireturn, 1) := dk_172 (dk_at dksX5_has_2 4 rfl rfl)
theorem q101 : (Jvm.Cond.initialized "Appealrent$Form") ∈ lw_all := lw_g (lw_at lw_m1 30 rfl) rfl
theorem q575 : (Jvm.Cond.selects "Appealrent$Form" ({ cls := "java/lang/Object", name := "getClass", desc := "()Ljava/lang/Class;" } : Jvm.MethodName) ({ cls := "java/lang/Object", name := "getClass", desc := "()Ljava/lang/Class;" } : Jvm.MethodName)) ∈ lw_all := lw_g (lw_at lw_m3 24 rfl) rfl
theorem q1007 : (Jvm.Cond.instantiable "Appealrent$Form" (7 : Nat)) ∈ lw_all := lw_g (lw_at lw_m4 216 rfl) rfl
theorem q1009 : (Jvm.Cond.instanceMethod ({ cls := "Appealrent$Form", name := "<init>", desc := "(ILAppealrent$Case;I)V" } : Jvm.MethodName)) ∈ lw_all := lw_g (lw_at lw_m4 218 rfl) rfl
theorem q1010 : (Jvm.Cond.code ({ cls := "Appealrent$Form", name := "<init>", desc := "(ILAppealrent$Case;I)V" } : Jvm.MethodName) prog_8_method_1_code (4 : Nat) (Option.none : Option Jvm.ClassFile.FieldType)) ∈ lw_all := lw_g (lw_at lw_m4 219 rfl) rfl
theorem q1011 : (Jvm.Cond.methodLink "Appealrent$Form" (3 : Nat) ({ cls := "java/lang/Object", name := "<init>", desc := "()V" } : Jvm.MethodName)) ∈ lw_all := lw_g (lw_at lw_m4 220 rfl) rfl
theorem q1012 : (Jvm.Cond.fieldLink "Appealrent$Form" (19 : Nat) "Appealrent$Form" "number" "I") ∈ lw_all := lw_g (lw_at lw_m4 221 rfl) rfl
theorem q1014 : (Jvm.Cond.fieldLink "Appealrent$Form" (22 : Nat) "Appealrent$Form" "its" "LAppealrent$Case;") ∈ lw_all := lw_g (lw_at lw_m4 223 rfl) rfl
theorem q1016 : (Jvm.Cond.fieldLink "Appealrent$Form" (26 : Nat) "Appealrent$Form" "came" "I") ∈ lw_all := lw_g (lw_at lw_m4 225 rfl) rfl
theorem q1018 : (Jvm.Cond.fieldLink "Appealrent$Form" (9 : Nat) "Appealrent$Form" "facts" "[I") ∈ lw_all := lw_g (lw_at lw_m4 227 rfl) rfl
theorem q1020 : (Jvm.Cond.fieldLink "Appealrent$Form" (29 : Nat) "Appealrent$Form" "from" "I") ∈ lw_all := lw_g (lw_at lw_m4 229 rfl) rfl
theorem q1022 : (Jvm.Cond.fieldLink "Appealrent$Form" (71 : Nat) "Appealrent$Form" "isFrom" "Z") ∈ lw_all := lw_g (lw_at lw_m4 231 rfl) rfl
theorem q1023 : (Jvm.Cond.fieldLink "Appealrent$Form" (15 : Nat) "Appealrent$Form" "state" "I") ∈ lw_all := lw_g (lw_at lw_m4 232 rfl) rfl
theorem q1025 : (Jvm.Cond.laysFinal "Appealrent$Form" "Appealrent$Form" "number" "I") ∈ lw_all := lw_g (lw_at lw_m4 234 rfl) rfl
theorem q1026 : (Jvm.Cond.soleField "Appealrent$Form" "number") ∈ lw_all := lw_g (lw_at lw_m4 235 rfl) rfl
theorem q1027 : (Jvm.Cond.laysFinal "Appealrent$Form" "Appealrent$Form" "its" "LAppealrent$Case;") ∈ lw_all := lw_g (lw_at lw_m4 236 rfl) rfl
theorem q1028 : (Jvm.Cond.soleField "Appealrent$Form" "its") ∈ lw_all := lw_g (lw_at lw_m4 237 rfl) rfl
theorem q1029 : (Jvm.Cond.laysFinal "Appealrent$Form" "Appealrent$Form" "came" "I") ∈ lw_all := lw_g (lw_at lw_m4 238 rfl) rfl
theorem q1030 : (Jvm.Cond.soleField "Appealrent$Form" "came") ∈ lw_all := lw_g (lw_at lw_m4 239 rfl) rfl
theorem q1031 : (Jvm.Cond.laysFinal "Appealrent$Form" "Appealrent$Form" "facts" "[I") ∈ lw_all := lw_g (lw_at lw_m5 0 rfl) rfl
theorem q1032 : (Jvm.Cond.soleField "Appealrent$Form" "facts") ∈ lw_all := lw_g (lw_at lw_m5 1 rfl) rfl
theorem q1033 : (Jvm.Cond.lays "Appealrent$Form" "Appealrent$Form" "from" "I") ∈ lw_all := lw_g (lw_at lw_m5 2 rfl) rfl
theorem q1034 : (Jvm.Cond.soleField "Appealrent$Form" "from") ∈ lw_all := lw_g (lw_at lw_m5 3 rfl) rfl
theorem q1035 : (Jvm.Cond.lays "Appealrent$Form" "Appealrent$Form" "isFrom" "Z") ∈ lw_all := lw_g (lw_at lw_m5 4 rfl) rfl
theorem q1036 : (Jvm.Cond.soleField "Appealrent$Form" "isFrom") ∈ lw_all := lw_g (lw_at lw_m5 5 rfl) rfl
theorem q1037 : (Jvm.Cond.lays "Appealrent$Form" "Appealrent$Form" "state" "I") ∈ lw_all := lw_g (lw_at lw_m5 6 rfl) rfl
theorem q1038 : (Jvm.Cond.soleField "Appealrent$Form" "state") ∈ lw_all := lw_g (lw_at lw_m5 7 rfl) rfl
theorem q1039 : (Jvm.Cond.superclass "Appealrent$Form" "java/lang/Object") ∈ lw_all := lw_g (lw_at lw_m5 8 rfl) rfl
theorem q1092 : (Jvm.Cond.castable "Appealrent$Form" "Appealrent$Clauses") ∈ lw_tbl := lw_at lw_m5 61 rfl
theorem q1093 : (Jvm.Cond.unhidden "Appealrent$Form" "reads" "(LAppealrent$Words;)V") ∈ lw_tbl := lw_at lw_m5 62 rfl
theorem q1157 : (Jvm.Cond.selects "Appealrent$Form" ({ cls := "Appealrent$Clauses", name := "takes", desc := "(Ljava/lang/String;LAppealrent$Words;)Z" } : Jvm.MethodName) ({ cls := "Appealrent$Form", name := "takes", desc := "(Ljava/lang/String;LAppealrent$Words;)Z" } : Jvm.MethodName)) ∈ lw_all := lw_g (lw_at lw_m5 126 rfl) rfl
theorem q1158 : (Jvm.Cond.unhidden "Appealrent$Form" "takes" "(Ljava/lang/String;LAppealrent$Words;)Z") ∈ lw_tbl := lw_at lw_m5 127 rfl
theorem q1159 : (Jvm.Cond.instanceMethod ({ cls := "Appealrent$Form", name := "takes", desc := "(Ljava/lang/String;LAppealrent$Words;)Z" } : Jvm.MethodName)) ∈ lw_all := lw_g (lw_at lw_m5 128 rfl) rfl
theorem q1160 : (Jvm.Cond.publicMethod ({ cls := "Appealrent$Form", name := "takes", desc := "(Ljava/lang/String;LAppealrent$Words;)Z" } : Jvm.MethodName)) ∈ lw_tbl := lw_at lw_m5 129 rfl
theorem q1161 : (Jvm.Cond.code ({ cls := "Appealrent$Form", name := "takes", desc := "(Ljava/lang/String;LAppealrent$Words;)Z" } : Jvm.MethodName) prog_8_method_3_code (5 : Nat) (Option.some Jvm.ClassFile.FieldType.boolean)) ∈ lw_all := lw_g (lw_at lw_m5 130 rfl) rfl
theorem q1162 : (Jvm.Cond.methodLink "Appealrent$Form" (36 : Nat) ({ cls := "java/lang/String", name := "hashCode", desc := "()I" } : Jvm.MethodName)) ∈ lw_all := lw_g (lw_at lw_m5 131 rfl) rfl
theorem q1223 : (Jvm.Cond.stringRef "Appealrent$Form" (42 : Nat) "rent") ∈ lw_tbl := lw_at lw_m5 192 rfl
theorem q1224 : (Jvm.Cond.methodLink "Appealrent$Form" (44 : Nat) ({ cls := "java/lang/String", name := "equals", desc := "(Ljava/lang/Object;)Z" } : Jvm.MethodName)) ∈ lw_all := lw_g (lw_at lw_m5 193 rfl) rfl
theorem q1232 : (Jvm.Cond.stringRef "Appealrent$Form" (48 : Nat) "income") ∈ lw_tbl := lw_at lw_m5 201 rfl
theorem q1233 : (Jvm.Cond.stringRef "Appealrent$Form" (50 : Nat) "heads") ∈ lw_tbl := lw_at lw_m5 202 rfl
theorem q1234 : (Jvm.Cond.stringRef "Appealrent$Form" (52 : Nat) "to") ∈ lw_tbl := lw_at lw_m5 203 rfl
theorem q1235 : (Jvm.Cond.stringRef "Appealrent$Form" (54 : Nat) "from") ∈ lw_tbl := lw_at lw_m5 204 rfl
theorem q1236 : (Jvm.Cond.constant "Appealrent$Form" (55 : Nat) (1000000 : Int32)) ∈ lw_all := lw_g (lw_at lw_m5 205 rfl) rfl
theorem q1237 : (Jvm.Cond.methodLink "Appealrent$Form" (56 : Nat) ({ cls := "Appealrent$Form", name := "puts", desc := "(ILAppealrent$Words;II)Z" } : Jvm.MethodName)) ∈ lw_all := lw_g (lw_at lw_m5 206 rfl) rfl
theorem q1238 : (Jvm.Cond.privateMethod ({ cls := "Appealrent$Form", name := "puts", desc := "(ILAppealrent$Words;II)Z" } : Jvm.MethodName)) ∈ lw_tbl := lw_at lw_m5 207 rfl
theorem q1239 : (Jvm.Cond.instanceMethod ({ cls := "Appealrent$Form", name := "puts", desc := "(ILAppealrent$Words;II)Z" } : Jvm.MethodName)) ∈ lw_all := lw_g (lw_at lw_m5 208 rfl) rfl
theorem q1240 : (Jvm.Cond.code ({ cls := "Appealrent$Form", name := "puts", desc := "(ILAppealrent$Words;II)Z" } : Jvm.MethodName) prog_8_method_4_code (6 : Nat) (Option.some Jvm.ClassFile.FieldType.boolean)) ∈ lw_all := lw_g (lw_at lw_m5 209 rfl) rfl
theorem q1241 : (Jvm.Cond.methodLink "Appealrent$Form" (81 : Nat) ({ cls := "Appealrent$Words", name := "number", desc := "(II)I" } : Jvm.MethodName)) ∈ lw_all := lw_g (lw_at lw_m5 210 rfl) rfl
theorem q1277 : (Jvm.Cond.constant "Appealrent$Form" (60 : Nat) (9999999 : Int32)) ∈ lw_all := lw_g (lw_at lw_m6 6 rfl) rfl
theorem q1278 : (Jvm.Cond.methodLink "Appealrent$Form" (61 : Nat) ({ cls := "Appealrent$Words", name := "next", desc := "()Ljava/lang/String;" } : Jvm.MethodName)) ∈ lw_all := lw_g (lw_at lw_m6 7 rfl) rfl
theorem q1279 : (Jvm.Cond.methodLink "Appealrent$Form" (67 : Nat) ({ cls := "Appealrent$Form", name := "goesTo", desc := "(Ljava/lang/String;LAppealrent$Words;)Z" } : Jvm.MethodName)) ∈ lw_all := lw_g (lw_at lw_m6 8 rfl) rfl
theorem q1280 : (Jvm.Cond.privateMethod ({ cls := "Appealrent$Form", name := "goesTo", desc := "(Ljava/lang/String;LAppealrent$Words;)Z" } : Jvm.MethodName)) ∈ lw_tbl := lw_at lw_m6 9 rfl
theorem q1281 : (Jvm.Cond.instanceMethod ({ cls := "Appealrent$Form", name := "goesTo", desc := "(Ljava/lang/String;LAppealrent$Words;)Z" } : Jvm.MethodName)) ∈ lw_all := lw_g (lw_at lw_m6 10 rfl) rfl
theorem q1282 : (Jvm.Cond.code ({ cls := "Appealrent$Form", name := "goesTo", desc := "(Ljava/lang/String;LAppealrent$Words;)Z" } : Jvm.MethodName) prog_8_method_5_code (5 : Nat) (Option.some Jvm.ClassFile.FieldType.boolean)) ∈ lw_all := lw_g (lw_at lw_m6 11 rfl) rfl
theorem q1283 : (Jvm.Cond.stringRef "Appealrent$Form" (83 : Nat) "tenant") ∈ lw_tbl := lw_at lw_m6 12 rfl
theorem q1284 : (Jvm.Cond.stringRef "Appealrent$Form" (85 : Nat) "landlord") ∈ lw_tbl := lw_at lw_m6 13 rfl
theorem q1285 : (Jvm.Cond.methodLink "Appealrent$Form" (87 : Nat) ({ cls := "Appealrent$Words", name := "fault", desc := "()LAppealrent$FaultException;" } : Jvm.MethodName)) ∈ lw_all := lw_g (lw_at lw_m6 14 rfl) rfl
theorem q1286 : (Jvm.Cond.methodLink "Appealrent$Form" (75 : Nat) ({ cls := "java/lang/Math", name := "max", desc := "(II)I" } : Jvm.MethodName)) ∈ lw_all := lw_g (lw_at lw_m6 15 rfl) rfl
theorem q1307 : (Jvm.Cond.selects "Appealrent$Form" ({ cls := "Appealrent$Clauses", name := "isEnough", desc := "()Z" } : Jvm.MethodName) ({ cls := "Appealrent$Form", name := "isEnough", desc := "()Z" } : Jvm.MethodName)) ∈ lw_all := lw_g (lw_at lw_m6 36 rfl) rfl
theorem q1308 : (Jvm.Cond.unhidden "Appealrent$Form" "isEnough" "()Z") ∈ lw_tbl := lw_at lw_m6 37 rfl
theorem q1309 : (Jvm.Cond.instanceMethod ({ cls := "Appealrent$Form", name := "isEnough", desc := "()Z" } : Jvm.MethodName)) ∈ lw_all := lw_g (lw_at lw_m6 38 rfl) rfl
theorem q1310 : (Jvm.Cond.publicMethod ({ cls := "Appealrent$Form", name := "isEnough", desc := "()Z" } : Jvm.MethodName)) ∈ lw_tbl := lw_at lw_m6 39 rfl
theorem q1311 : (Jvm.Cond.code ({ cls := "Appealrent$Form", name := "isEnough", desc := "()Z" } : Jvm.MethodName) prog_8_method_6_code (1 : Nat) (Option.some Jvm.ClassFile.FieldType.boolean)) ∈ lw_all := lw_g (lw_at lw_m6 40 rfl) rfl
theorem q1312 : (Jvm.Cond.methodLink "Appealrent$Form" (91 : Nat) ({ cls := "Appealrent$Form", name := "has", desc := "()I" } : Jvm.MethodName)) ∈ lw_all := lw_g (lw_at lw_m6 41 rfl) rfl
theorem q1313 : (Jvm.Cond.instanceMethod ({ cls := "Appealrent$Form", name := "has", desc := "()I" } : Jvm.MethodName)) ∈ lw_all := lw_g (lw_at lw_m6 42 rfl) rfl
theorem q1314 : (Jvm.Cond.selects "Appealrent$Form" ({ cls := "Appealrent$Form", name := "has", desc := "()I" } : Jvm.MethodName) ({ cls := "Appealrent$Form", name := "has", desc := "()I" } : Jvm.MethodName)) ∈ lw_all := lw_g (lw_at lw_m6 43 rfl) rfl
theorem q1315 : (Jvm.Cond.code ({ cls := "Appealrent$Form", name := "has", desc := "()I" } : Jvm.MethodName) prog_8_method_2_code (6 : Nat) (Option.some Jvm.ClassFile.FieldType.int)) ∈ lw_all := lw_g (lw_at lw_m6 44 rfl) rfl
theorem q1316 : (Jvm.Cond.methodLinkNest "Appealrent$Form" (32 : Nat) ({ cls := "Appealrent", name := "one", desc := "(Z)I" } : Jvm.MethodName) "Appealrent") ∈ lw_tbl := lw_at lw_m6 45 rfl
theorem q1712 : (Jvm.Cond.selects "Appealrent$Form" ({ cls := "java/lang/Object", name := "toString", desc := "()Ljava/lang/String;" } : Jvm.MethodName) ({ cls := "java/lang/Object", name := "toString", desc := "()Ljava/lang/String;" } : Jvm.MethodName)) ∈ lw_all := lw_g (lw_at lw_m7 201 rfl) rfl
theorem q2240 : (Jvm.Cond.castable "Appealrent$Form" "java/lang/Object") ∈ lw_tbl := lw_at lw_m10 9 rfl
theorem in_X5 : ∀ w ∈ wsX50, w ∈ lw_all := lw_in wsX50 [1025, 1027, 1029, 1031, 1033, 1035, 1037] (by decide +kernel) (by decide +kernel)
/-! Appealrent$Clauses -/
set_option maxRecDepth 100000
def RX6 : String := "Appealrent$Clauses"
abbrev cX6_place : ByteArray := prog_4_method_4_code
def yX6_place : MethodName := ⟨RX6, "place", "(LAppealrent$Clauses;[I)I"⟩
def dkwX6_place_2 : List UInt8 := [172]
abbrev dktX6_place_2 : List UInt8 := dkwX6_place_2 ++ []
def dkwX6_place_1 : List UInt8 := [182, 0, 45, 193, 0, 49, 154, 0, 10, 44, 182, 0, 45, 199, 0, 10, 44, 182, 0, 51, 167, 0, 4, 2]
abbrev dktX6_place_1 : List UInt8 := dkwX6_place_1 ++ dktX6_place_2
def dkwX6_place_0 : List UInt8 := [42, 187, 0, 4, 89, 43, 183, 0, 36, 185, 0, 39, 2, 0, 2, 172, 77, 43, 190, 172, 77, 44]
abbrev dktX6_place_0 : List UInt8 := dkwX6_place_0 ++ dktX6_place_1
theorem dksX6_place_0 : cX6_place.data.toList.drop 0 = dktX6_place_0 := by decide +kernel
theorem dksX6_place_1 : cX6_place.data.toList.drop 22 = dktX6_place_1 := dk_seg dksX6_place_0 22 rfl rfl
theorem dksX6_place_2 : cX6_place.data.toList.drop 46 = dktX6_place_2 := dk_seg dksX6_place_1 24 rfl rfl
theorem dX6_place_0 : decode cX6_place 0 = .ok (.aload_n 0, 1) := dk_42 (dk_at dksX6_place_0 0 rfl rfl)
theorem dX6_place_1 : decode cX6_place 1 = .ok (.new 4, 3) := dk_187 0 4 (dk_at dksX6_place_0 1 rfl rfl)
theorem dX6_place_4 : decode cX6_place 4 = .ok (.dup, 1) := dk_89 (dk_at dksX6_place_0 4 rfl rfl)
theorem dX6_place_5 : decode cX6_place 5 = .ok (.aload_n 1, 1) := dk_43 (dk_at dksX6_place_0 5 rfl rfl)
theorem dX6_place_6 : decode cX6_place 6 = .ok (.invokespecial 36, 3) := dk_183 0 36 (dk_at dksX6_place_0 6 rfl rfl)
theorem dX6_place_9 : decode cX6_place 9 = .ok (.invokeinterface 39 2, 5) := by decide +kernel
theorem dX6_place_14 : decode cX6_place 14 = .ok (.iconst (-1), 1) := dk_2 (dk_at dksX6_place_0 14 rfl rfl)
theorem dX6_place_15 : decode cX6_place 15 = .ok (.ireturn, 1) := dk_172 (dk_at dksX6_place_0 15 rfl rfl)
theorem dX6_place_16 : decode cX6_place 16 = .ok (.astore_n 2, 1) := dk_77 (dk_at dksX6_place_0 16 rfl rfl)
theorem dX6_place_17 : decode cX6_place 17 = .ok (.aload_n 1, 1) := dk_43 (dk_at dksX6_place_0 17 rfl rfl)
theorem dX6_place_18 : decode cX6_place 18 = .ok (.arraylength, 1) := dk_190 (dk_at dksX6_place_0 18 rfl rfl)
theorem dX6_place_19 : decode cX6_place 19 = .ok (.ireturn, 1) := dk_172 (dk_at dksX6_place_0 19 rfl rfl)
theorem dX6_place_20 : decode cX6_place 20 = .ok (.astore_n 2, 1) := dk_77 (dk_at dksX6_place_0 20 rfl rfl)
theorem dX6_place_21 : decode cX6_place 21 = .ok (.aload_n 2, 1) := dk_44 (dk_at dksX6_place_0 21 rfl rfl)
theorem dX6_place_22 : decode cX6_place 22 = .ok (.invokevirtual 45, 3) := dk_182 0 45 (dk_at dksX6_place_1 0 rfl rfl)
theorem dX6_place_25 : decode cX6_place 25 = .ok (.instanceof 49, 3) := dk_193 0 49 (dk_at dksX6_place_1 3 rfl rfl)
theorem dX6_place_28 : decode cX6_place 28 = .ok (.ifCond .ne 10, 3) := dk_154 0 10 (dk_at dksX6_place_1 6 rfl rfl)
theorem dX6_place_31 : decode cX6_place 31 = .ok (.aload_n 2, 1) := dk_44 (dk_at dksX6_place_1 9 rfl rfl)
theorem dX6_place_32 : decode cX6_place 32 = .ok (.invokevirtual 45, 3) := dk_182 0 45 (dk_at dksX6_place_1 10 rfl rfl)
theorem dX6_place_35 : decode cX6_place 35 = .ok (.ifnonnull 10, 3) := dk_199 0 10 (dk_at dksX6_place_1 13 rfl rfl)
theorem dX6_place_38 : decode cX6_place 38 = .ok (.aload_n 2, 1) := dk_44 (dk_at dksX6_place_1 16 rfl rfl)
theorem dX6_place_39 : decode cX6_place 39 = .ok (.invokevirtual 51, 3) := dk_182 0 51 (dk_at dksX6_place_1 17 rfl rfl)
theorem dX6_place_42 : decode cX6_place 42 = .ok (.goto 4, 3) := dk_167 0 4 (dk_at dksX6_place_1 20 rfl rfl)
theorem dX6_place_45 : decode cX6_place 45 = .ok (.iconst (-1), 1) := dk_2 (dk_at dksX6_place_1 23 rfl rfl)
theorem dX6_place_46 : decode cX6_place 46 = .ok (.ireturn, 1) := dk_172 (dk_at dksX6_place_2 0 rfl rfl)
abbrev cX6_reads : ByteArray := prog_4_method_3_code
def yX6_reads : MethodName := ⟨RX6, "reads", "(LAppealrent$Words;)V"⟩
def dkwX6_reads_2 : List UInt8 := [187, 0, 26, 89, 43, 180, 0, 28, 190, 183, 0, 32, 191, 177]
abbrev dktX6_reads_2 : List UInt8 := dkwX6_reads_2 ++ []
def dkwX6_reads_1 : List UInt8 := [185, 0, 17, 3, 0, 154, 0, 5, 45, 191, 167, 255, 226, 42, 185, 0, 23, 1, 0, 154, 0, 16]
abbrev dktX6_reads_1 : List UInt8 := dkwX6_reads_1 ++ dktX6_reads_2
def dkwX6_reads_0 : List UInt8 := [43, 182, 0, 3, 153, 0, 29, 43, 182, 0, 9, 77, 43, 182, 0, 13, 78, 42, 44, 43]
abbrev dktX6_reads_0 : List UInt8 := dkwX6_reads_0 ++ dktX6_reads_1
theorem dksX6_reads_0 : cX6_reads.data.toList.drop 0 = dktX6_reads_0 := by decide +kernel
theorem dksX6_reads_1 : cX6_reads.data.toList.drop 20 = dktX6_reads_1 := dk_seg dksX6_reads_0 20 rfl rfl
theorem dksX6_reads_2 : cX6_reads.data.toList.drop 42 = dktX6_reads_2 := dk_seg dksX6_reads_1 22 rfl rfl
theorem dX6_reads_0 : decode cX6_reads 0 = .ok (.aload_n 1, 1) := dk_43 (dk_at dksX6_reads_0 0 rfl rfl)
theorem dX6_reads_1 : decode cX6_reads 1 = .ok (.invokevirtual 3, 3) := dk_182 0 3 (dk_at dksX6_reads_0 1 rfl rfl)
theorem dX6_reads_4 : decode cX6_reads 4 = .ok (.ifCond .eq 29, 3) := dk_153 0 29 (dk_at dksX6_reads_0 4 rfl rfl)
theorem dX6_reads_7 : decode cX6_reads 7 = .ok (.aload_n 1, 1) := dk_43 (dk_at dksX6_reads_0 7 rfl rfl)
theorem dX6_reads_8 : decode cX6_reads 8 = .ok (.invokevirtual 9, 3) := dk_182 0 9 (dk_at dksX6_reads_0 8 rfl rfl)
theorem dX6_reads_11 : decode cX6_reads 11 = .ok (.astore_n 2, 1) := dk_77 (dk_at dksX6_reads_0 11 rfl rfl)
theorem dX6_reads_12 : decode cX6_reads 12 = .ok (.aload_n 1, 1) := dk_43 (dk_at dksX6_reads_0 12 rfl rfl)
theorem dX6_reads_13 : decode cX6_reads 13 = .ok (.invokevirtual 13, 3) := dk_182 0 13 (dk_at dksX6_reads_0 13 rfl rfl)
theorem dX6_reads_16 : decode cX6_reads 16 = .ok (.astore_n 3, 1) := dk_78 (dk_at dksX6_reads_0 16 rfl rfl)
theorem dX6_reads_17 : decode cX6_reads 17 = .ok (.aload_n 0, 1) := dk_42 (dk_at dksX6_reads_0 17 rfl rfl)
theorem dX6_reads_18 : decode cX6_reads 18 = .ok (.aload_n 2, 1) := dk_44 (dk_at dksX6_reads_0 18 rfl rfl)
theorem dX6_reads_19 : decode cX6_reads 19 = .ok (.aload_n 1, 1) := dk_43 (dk_at dksX6_reads_0 19 rfl rfl)
theorem dX6_reads_20 : decode cX6_reads 20 = .ok (.invokeinterface 17 3, 5) := by decide +kernel
theorem dX6_reads_25 : decode cX6_reads 25 = .ok (.ifCond .ne 5, 3) := dk_154 0 5 (dk_at dksX6_reads_1 5 rfl rfl)
theorem dX6_reads_28 : decode cX6_reads 28 = .ok (.aload_n 3, 1) := dk_45 (dk_at dksX6_reads_1 8 rfl rfl)
theorem dX6_reads_29 : decode cX6_reads 29 = .ok (.athrow, 1) := dk_191 (dk_at dksX6_reads_1 9 rfl rfl)
theorem dX6_reads_30 : decode cX6_reads 30 = .ok (.goto (-30), 3) := dk_167 255 226 (dk_at dksX6_reads_1 10 rfl rfl)
theorem dX6_reads_33 : decode cX6_reads 33 = .ok (.aload_n 0, 1) := dk_42 (dk_at dksX6_reads_1 13 rfl rfl)
theorem dX6_reads_34 : decode cX6_reads 34 = .ok (.invokeinterface 23 1, 5) := by decide +kernel
theorem dX6_reads_39 : decode cX6_reads 39 = .ok (.ifCond .ne 16, 3) := dk_154 0 16 (dk_at dksX6_reads_1 19 rfl rfl)
theorem dX6_reads_42 : decode cX6_reads 42 = .ok (.new 26, 3) := dk_187 0 26 (dk_at dksX6_reads_2 0 rfl rfl)
theorem dX6_reads_45 : decode cX6_reads 45 = .ok (.dup, 1) := dk_89 (dk_at dksX6_reads_2 3 rfl rfl)
theorem dX6_reads_46 : decode cX6_reads 46 = .ok (.aload_n 1, 1) := dk_43 (dk_at dksX6_reads_2 4 rfl rfl)
theorem dX6_reads_47 : decode cX6_reads 47 = .ok (.getfield 28, 3) := dk_180 0 28 (dk_at dksX6_reads_2 5 rfl rfl)
theorem dX6_reads_50 : decode cX6_reads 50 = .ok (.arraylength, 1) := dk_190 (dk_at dksX6_reads_2 8 rfl rfl)
theorem dX6_reads_51 : decode cX6_reads 51 = .ok (.invokespecial 32, 3) := dk_183 0 32 (dk_at dksX6_reads_2 9 rfl rfl)
theorem dX6_reads_54 : decode cX6_reads 54 = .ok (.athrow, 1) := dk_191 (dk_at dksX6_reads_2 12 rfl rfl)
theorem dX6_reads_55 : decode cX6_reads 55 = .ok (.return_, 1) := dk_177 (dk_at dksX6_reads_2 13 rfl rfl)
theorem q102 : (Jvm.Cond.initialized "Appealrent$Clauses") ∈ lw_all := lw_g (lw_at lw_m1 31 rfl) rfl
theorem q1067 : (Jvm.Cond.static ({ cls := "Appealrent$Clauses", name := "place", desc := "(LAppealrent$Clauses;[I)I" } : Jvm.MethodName)) ∈ lw_all := lw_g (lw_at lw_m5 36 rfl) rfl
theorem q1068 : (Jvm.Cond.codeWith ({ cls := "Appealrent$Clauses", name := "place", desc := "(LAppealrent$Clauses;[I)I" } : Jvm.MethodName) prog_4_method_4_code (3 : Nat) (Option.some Jvm.ClassFile.FieldType.int) [((0 : Nat), (15 : Nat), (16 : Nat), (26 : Nat)), ((0 : Nat), (15 : Nat), (20 : Nat), (43 : Nat))]) ∈ lw_all := lw_g (lw_at lw_m5 37 rfl) rfl
theorem q1069 : (Jvm.Cond.classLink "Appealrent$Clauses" (26 : Nat) "Appealrent$EndException") ∈ lw_all := lw_g (lw_at lw_m5 38 rfl) rfl
theorem q1070 : (Jvm.Cond.classLink "Appealrent$Clauses" (43 : Nat) "Appealrent$FaultException") ∈ lw_all := lw_g (lw_at lw_m5 39 rfl) rfl
theorem q1071 : (Jvm.Cond.classLink "Appealrent$Clauses" (4 : Nat) "Appealrent$Words") ∈ lw_all := lw_g (lw_at lw_m5 40 rfl) rfl
theorem q1073 : (Jvm.Cond.methodLink "Appealrent$Clauses" (36 : Nat) ({ cls := "Appealrent$Words", name := "<init>", desc := "([I)V" } : Jvm.MethodName)) ∈ lw_all := lw_g (lw_at lw_m5 42 rfl) rfl
theorem q1078 : (Jvm.Cond.fieldLinkNest "Appealrent$Clauses" (28 : Nat) "Appealrent$Words" "signs" "[I" "Appealrent") ∈ lw_tbl := lw_at lw_m5 47 rfl
theorem q1088 : (Jvm.Cond.interfaceEntry "Appealrent$Clauses" (39 : Nat)) ∈ lw_tbl := lw_at lw_m5 57 rfl
theorem q1089 : (Jvm.Cond.methodLink "Appealrent$Clauses" (39 : Nat) ({ cls := "Appealrent$Clauses", name := "reads", desc := "(LAppealrent$Words;)V" } : Jvm.MethodName)) ∈ lw_all := lw_g (lw_at lw_m5 58 rfl) rfl
theorem q1090 : (Jvm.Cond.interfaceMethod "Appealrent$Clauses" "Appealrent$Clauses" "reads" "(LAppealrent$Words;)V") ∈ lw_tbl := lw_at lw_m5 59 rfl
theorem q1091 : (Jvm.Cond.declares ({ cls := "Appealrent$Clauses", name := "reads", desc := "(LAppealrent$Words;)V" } : Jvm.MethodName)) ∈ lw_tbl := lw_at lw_m5 60 rfl
theorem q1094 : (Jvm.Cond.instanceMethod ({ cls := "Appealrent$Clauses", name := "reads", desc := "(LAppealrent$Words;)V" } : Jvm.MethodName)) ∈ lw_all := lw_g (lw_at lw_m5 63 rfl) rfl
theorem q1095 : (Jvm.Cond.publicMethod ({ cls := "Appealrent$Clauses", name := "reads", desc := "(LAppealrent$Words;)V" } : Jvm.MethodName)) ∈ lw_tbl := lw_at lw_m5 64 rfl
theorem q1096 : (Jvm.Cond.code ({ cls := "Appealrent$Clauses", name := "reads", desc := "(LAppealrent$Words;)V" } : Jvm.MethodName) prog_4_method_3_code (4 : Nat) (Option.none : Option Jvm.ClassFile.FieldType)) ∈ lw_all := lw_g (lw_at lw_m5 65 rfl) rfl
theorem q1097 : (Jvm.Cond.methodLink "Appealrent$Clauses" (3 : Nat) ({ cls := "Appealrent$Words", name := "hasNext", desc := "()Z" } : Jvm.MethodName)) ∈ lw_all := lw_g (lw_at lw_m5 66 rfl) rfl
theorem q1101 : (Jvm.Cond.methodLink "Appealrent$Clauses" (9 : Nat) ({ cls := "Appealrent$Words", name := "next", desc := "()Ljava/lang/String;" } : Jvm.MethodName)) ∈ lw_all := lw_g (lw_at lw_m5 70 rfl) rfl
theorem q1136 : (Jvm.Cond.methodLink "Appealrent$Clauses" (13 : Nat) ({ cls := "Appealrent$Words", name := "fault", desc := "()LAppealrent$FaultException;" } : Jvm.MethodName)) ∈ lw_all := lw_g (lw_at lw_m5 105 rfl) rfl
theorem q1153 : (Jvm.Cond.interfaceEntry "Appealrent$Clauses" (17 : Nat)) ∈ lw_tbl := lw_at lw_m5 122 rfl
theorem q1154 : (Jvm.Cond.methodLink "Appealrent$Clauses" (17 : Nat) ({ cls := "Appealrent$Clauses", name := "takes", desc := "(Ljava/lang/String;LAppealrent$Words;)Z" } : Jvm.MethodName)) ∈ lw_all := lw_g (lw_at lw_m5 123 rfl) rfl
theorem q1155 : (Jvm.Cond.interfaceMethod "Appealrent$Clauses" "Appealrent$Clauses" "takes" "(Ljava/lang/String;LAppealrent$Words;)Z") ∈ lw_tbl := lw_at lw_m5 124 rfl
theorem q1156 : (Jvm.Cond.declares ({ cls := "Appealrent$Clauses", name := "takes", desc := "(Ljava/lang/String;LAppealrent$Words;)Z" } : Jvm.MethodName)) ∈ lw_tbl := lw_at lw_m5 125 rfl
theorem q1303 : (Jvm.Cond.interfaceEntry "Appealrent$Clauses" (23 : Nat)) ∈ lw_tbl := lw_at lw_m6 32 rfl
theorem q1304 : (Jvm.Cond.methodLink "Appealrent$Clauses" (23 : Nat) ({ cls := "Appealrent$Clauses", name := "isEnough", desc := "()Z" } : Jvm.MethodName)) ∈ lw_all := lw_g (lw_at lw_m6 33 rfl) rfl
theorem q1305 : (Jvm.Cond.interfaceMethod "Appealrent$Clauses" "Appealrent$Clauses" "isEnough" "()Z") ∈ lw_tbl := lw_at lw_m6 34 rfl
theorem q1306 : (Jvm.Cond.declares ({ cls := "Appealrent$Clauses", name := "isEnough", desc := "()Z" } : Jvm.MethodName)) ∈ lw_tbl := lw_at lw_m6 35 rfl
theorem q1322 : (Jvm.Cond.methodLink "Appealrent$Clauses" (32 : Nat) ({ cls := "Appealrent$EndException", name := "<init>", desc := "(I)V" } : Jvm.MethodName)) ∈ lw_all := lw_g (lw_at lw_m6 51 rfl) rfl
theorem q1324 : (Jvm.Cond.methodLink "Appealrent$Clauses" (45 : Nat) ({ cls := "Appealrent$FaultException", name := "getCause", desc := "()Ljava/lang/Throwable;" } : Jvm.MethodName)) ∈ lw_all := lw_g (lw_at lw_m6 53 rfl) rfl
theorem q1331 : (Jvm.Cond.classLink "Appealrent$Clauses" (49 : Nat) "Appealrent$NumberException") ∈ lw_all := lw_g (lw_at lw_m6 60 rfl) rfl
theorem q1332 : (Jvm.Cond.methodLink "Appealrent$Clauses" (51 : Nat) ({ cls := "Appealrent$FaultException", name := "place", desc := "()I" } : Jvm.MethodName)) ∈ lw_all := lw_g (lw_at lw_m6 61 rfl) rfl
/-! Appealrent$Words -/
set_option maxRecDepth 100000
def RX7 : String := "Appealrent$Words"
def TX7 : u_T := fun k => match k with
  | 0 => ("Appealrent$Words", "signs", "[I", true)
  | 1 => ("Appealrent$Words", "at", "I", false)
  | _ => ("Appealrent$Words", "begin", "I", false)
def tyX7 : Nat → FieldType := fun k => match k with
  | 0 => .array .int
  | 1 => .int
  | _ => .int
abbrev wsX70 : List Cond := u_ws RX7 TX7 3
theorem nmX7 : ∀ a, a < 3 → ∀ b, b < 3 → a ≠ b → (TX7 a).2.1 ≠ (TX7 b).2.1 := by decide +kernel
theorem tyX7_ok : ∀ k, k < 3 → parseFieldDescriptor (TX7 k).2.2.1 = some (tyX7 k) := by decide +kernel
abbrev cX7_init : ByteArray := prog_11_method_1_code
def yX7_init : MethodName := ⟨RX7, "<init>", "([I)V"⟩
def dkwX7_init_0 : List UInt8 := [42, 183, 0, 1, 42, 43, 181, 0, 7, 177]
abbrev dktX7_init_0 : List UInt8 := dkwX7_init_0 ++ []
theorem dksX7_init_0 : cX7_init.data.toList.drop 0 = dktX7_init_0 := by decide +kernel
theorem dX7_init_0 : decode cX7_init 0 = .ok (.aload_n 0, 1) := dk_42 (dk_at dksX7_init_0 0 rfl rfl)
theorem dX7_init_1 : decode cX7_init 1 = .ok (.invokespecial 1, 3) := dk_183 0 1 (dk_at dksX7_init_0 1 rfl rfl)
theorem dX7_init_4 : decode cX7_init 4 = .ok (.aload_n 0, 1) := dk_42 (dk_at dksX7_init_0 4 rfl rfl)
theorem dX7_init_5 : decode cX7_init 5 = .ok (.aload_n 1, 1) := dk_43 (dk_at dksX7_init_0 5 rfl rfl)
theorem dX7_init_6 : decode cX7_init 6 = .ok (.putfield 7, 3) := dk_181 0 7 (dk_at dksX7_init_0 6 rfl rfl)
theorem dX7_init_9 : decode cX7_init 9 = .ok (.return_, 1) := dk_177 (dk_at dksX7_init_0 9 rfl rfl)
abbrev cX7_hasNext : ByteArray := prog_11_method_2_code
def yX7_hasNext : MethodName := ⟨RX7, "hasNext", "()Z"⟩
def dkwX7_hasNext_2 : List UInt8 := [190, 162, 0, 7, 4, 167, 0, 4, 3, 172]
abbrev dktX7_hasNext_2 : List UInt8 := dkwX7_hasNext_2 ++ []
def dkwX7_hasNext_1 : List UInt8 := [160, 0, 16, 42, 89, 180, 0, 13, 4, 96, 181, 0, 13, 167, 255, 220, 42, 180, 0, 13, 42, 180, 0, 7]
abbrev dktX7_hasNext_1 : List UInt8 := dkwX7_hasNext_1 ++ dktX7_hasNext_2
def dkwX7_hasNext_0 : List UInt8 := [42, 180, 0, 13, 42, 180, 0, 7, 190, 162, 0, 30, 42, 180, 0, 7, 42, 180, 0, 13, 46, 16, 32]
abbrev dktX7_hasNext_0 : List UInt8 := dkwX7_hasNext_0 ++ dktX7_hasNext_1
theorem dksX7_hasNext_0 : cX7_hasNext.data.toList.drop 0 = dktX7_hasNext_0 := by decide +kernel
theorem dksX7_hasNext_1 : cX7_hasNext.data.toList.drop 23 = dktX7_hasNext_1 := dk_seg dksX7_hasNext_0 23 rfl rfl
theorem dksX7_hasNext_2 : cX7_hasNext.data.toList.drop 47 = dktX7_hasNext_2 := dk_seg dksX7_hasNext_1 24 rfl rfl
theorem dX7_hasNext_0 : decode cX7_hasNext 0 = .ok (.aload_n 0, 1) := dk_42 (dk_at dksX7_hasNext_0 0 rfl rfl)
theorem dX7_hasNext_1 : decode cX7_hasNext 1 = .ok (.getfield 13, 3) := dk_180 0 13 (dk_at dksX7_hasNext_0 1 rfl rfl)
theorem dX7_hasNext_4 : decode cX7_hasNext 4 = .ok (.aload_n 0, 1) := dk_42 (dk_at dksX7_hasNext_0 4 rfl rfl)
theorem dX7_hasNext_5 : decode cX7_hasNext 5 = .ok (.getfield 7, 3) := dk_180 0 7 (dk_at dksX7_hasNext_0 5 rfl rfl)
theorem dX7_hasNext_8 : decode cX7_hasNext 8 = .ok (.arraylength, 1) := dk_190 (dk_at dksX7_hasNext_0 8 rfl rfl)
theorem dX7_hasNext_9 : decode cX7_hasNext 9 = .ok (.if_icmp .ge 30, 3) := dk_162 0 30 (dk_at dksX7_hasNext_0 9 rfl rfl)
theorem dX7_hasNext_12 : decode cX7_hasNext 12 = .ok (.aload_n 0, 1) := dk_42 (dk_at dksX7_hasNext_0 12 rfl rfl)
theorem dX7_hasNext_13 : decode cX7_hasNext 13 = .ok (.getfield 7, 3) := dk_180 0 7 (dk_at dksX7_hasNext_0 13 rfl rfl)
theorem dX7_hasNext_16 : decode cX7_hasNext 16 = .ok (.aload_n 0, 1) := dk_42 (dk_at dksX7_hasNext_0 16 rfl rfl)
theorem dX7_hasNext_17 : decode cX7_hasNext 17 = .ok (.getfield 13, 3) := dk_180 0 13 (dk_at dksX7_hasNext_0 17 rfl rfl)
theorem dX7_hasNext_20 : decode cX7_hasNext 20 = .ok (.iaload, 1) := dk_46 (dk_at dksX7_hasNext_0 20 rfl rfl)
theorem dX7_hasNext_21 : decode cX7_hasNext 21 = .ok (.bipush 32, 2) := dk_16 32 (dk_at dksX7_hasNext_0 21 rfl rfl)
theorem dX7_hasNext_23 : decode cX7_hasNext 23 = .ok (.if_icmp .ne 16, 3) := dk_160 0 16 (dk_at dksX7_hasNext_1 0 rfl rfl)
theorem dX7_hasNext_26 : decode cX7_hasNext 26 = .ok (.aload_n 0, 1) := dk_42 (dk_at dksX7_hasNext_1 3 rfl rfl)
theorem dX7_hasNext_27 : decode cX7_hasNext 27 = .ok (.dup, 1) := dk_89 (dk_at dksX7_hasNext_1 4 rfl rfl)
theorem dX7_hasNext_28 : decode cX7_hasNext 28 = .ok (.getfield 13, 3) := dk_180 0 13 (dk_at dksX7_hasNext_1 5 rfl rfl)
theorem dX7_hasNext_31 : decode cX7_hasNext 31 = .ok (.iconst 1, 1) := dk_4 (dk_at dksX7_hasNext_1 8 rfl rfl)
theorem dX7_hasNext_32 : decode cX7_hasNext 32 = .ok (.iadd, 1) := dk_96 (dk_at dksX7_hasNext_1 9 rfl rfl)
theorem dX7_hasNext_33 : decode cX7_hasNext 33 = .ok (.putfield 13, 3) := dk_181 0 13 (dk_at dksX7_hasNext_1 10 rfl rfl)
theorem dX7_hasNext_36 : decode cX7_hasNext 36 = .ok (.goto (-36), 3) := dk_167 255 220 (dk_at dksX7_hasNext_1 13 rfl rfl)
theorem dX7_hasNext_39 : decode cX7_hasNext 39 = .ok (.aload_n 0, 1) := dk_42 (dk_at dksX7_hasNext_1 16 rfl rfl)
theorem dX7_hasNext_40 : decode cX7_hasNext 40 = .ok (.getfield 13, 3) := dk_180 0 13 (dk_at dksX7_hasNext_1 17 rfl rfl)
theorem dX7_hasNext_43 : decode cX7_hasNext 43 = .ok (.aload_n 0, 1) := dk_42 (dk_at dksX7_hasNext_1 20 rfl rfl)
theorem dX7_hasNext_44 : decode cX7_hasNext 44 = .ok (.getfield 7, 3) := dk_180 0 7 (dk_at dksX7_hasNext_1 21 rfl rfl)
theorem dX7_hasNext_47 : decode cX7_hasNext 47 = .ok (.arraylength, 1) := dk_190 (dk_at dksX7_hasNext_2 0 rfl rfl)
theorem dX7_hasNext_48 : decode cX7_hasNext 48 = .ok (.if_icmp .ge 7, 3) := dk_162 0 7 (dk_at dksX7_hasNext_2 1 rfl rfl)
theorem dX7_hasNext_51 : decode cX7_hasNext 51 = .ok (.iconst 1, 1) := dk_4 (dk_at dksX7_hasNext_2 4 rfl rfl)
theorem dX7_hasNext_52 : decode cX7_hasNext 52 = .ok (.goto 4, 3) := dk_167 0 4 (dk_at dksX7_hasNext_2 5 rfl rfl)
theorem dX7_hasNext_55 : decode cX7_hasNext 55 = .ok (.iconst 0, 1) := dk_3 (dk_at dksX7_hasNext_2 8 rfl rfl)
theorem dX7_hasNext_56 : decode cX7_hasNext 56 = .ok (.ireturn, 1) := dk_172 (dk_at dksX7_hasNext_2 9 rfl rfl)
abbrev cX7_next : ByteArray := prog_11_method_3_code
def yX7_next : MethodName := ⟨RX7, "next", "()Ljava/lang/String;"⟩
def dkwX7_next_4 : List UInt8 := [182, 0, 36, 176]
abbrev dktX7_next_4 : List UInt8 := dkwX7_next_4 ++ []
def dkwX7_next_3 : List UInt8 := [180, 0, 13, 46, 182, 0, 32, 87, 42, 89, 180, 0, 13, 4, 96, 181, 0, 13, 167, 255, 206, 43]
abbrev dktX7_next_3 : List UInt8 := dkwX7_next_3 ++ dktX7_next_4
def dkwX7_next_2 : List UInt8 := [162, 0, 44, 42, 180, 0, 7, 42, 180, 0, 13, 46, 16, 32, 159, 0, 30, 43, 42, 180, 0, 7, 42]
abbrev dktX7_next_2 : List UInt8 := dkwX7_next_2 ++ dktX7_next_3
def dkwX7_next_1 : List UInt8 := [180, 0, 13, 181, 0, 26, 187, 0, 29, 89, 183, 0, 31, 76, 42, 180, 0, 13, 42, 180, 0, 7, 190]
abbrev dktX7_next_1 : List UInt8 := dkwX7_next_1 ++ dktX7_next_2
def dkwX7_next_0 : List UInt8 := [42, 182, 0, 17, 154, 0, 16, 187, 0, 21, 89, 42, 180, 0, 7, 190, 183, 0, 23, 191, 42, 42]
abbrev dktX7_next_0 : List UInt8 := dkwX7_next_0 ++ dktX7_next_1
theorem dksX7_next_0 : cX7_next.data.toList.drop 0 = dktX7_next_0 := by decide +kernel
theorem dksX7_next_1 : cX7_next.data.toList.drop 22 = dktX7_next_1 := dk_seg dksX7_next_0 22 rfl rfl
theorem dksX7_next_2 : cX7_next.data.toList.drop 45 = dktX7_next_2 := dk_seg dksX7_next_1 23 rfl rfl
theorem dksX7_next_3 : cX7_next.data.toList.drop 68 = dktX7_next_3 := dk_seg dksX7_next_2 23 rfl rfl
theorem dksX7_next_4 : cX7_next.data.toList.drop 90 = dktX7_next_4 := dk_seg dksX7_next_3 22 rfl rfl
theorem dX7_next_0 : decode cX7_next 0 = .ok (.aload_n 0, 1) := dk_42 (dk_at dksX7_next_0 0 rfl rfl)
theorem dX7_next_1 : decode cX7_next 1 = .ok (.invokevirtual 17, 3) := dk_182 0 17 (dk_at dksX7_next_0 1 rfl rfl)
theorem dX7_next_4 : decode cX7_next 4 = .ok (.ifCond .ne 16, 3) := dk_154 0 16 (dk_at dksX7_next_0 4 rfl rfl)
theorem dX7_next_7 : decode cX7_next 7 = .ok (.new 21, 3) := dk_187 0 21 (dk_at dksX7_next_0 7 rfl rfl)
theorem dX7_next_10 : decode cX7_next 10 = .ok (.dup, 1) := dk_89 (dk_at dksX7_next_0 10 rfl rfl)
theorem dX7_next_11 : decode cX7_next 11 = .ok (.aload_n 0, 1) := dk_42 (dk_at dksX7_next_0 11 rfl rfl)
theorem dX7_next_12 : decode cX7_next 12 = .ok (.getfield 7, 3) := dk_180 0 7 (dk_at dksX7_next_0 12 rfl rfl)
theorem dX7_next_15 : decode cX7_next 15 = .ok (.arraylength, 1) := dk_190 (dk_at dksX7_next_0 15 rfl rfl)
theorem dX7_next_16 : decode cX7_next 16 = .ok (.invokespecial 23, 3) := dk_183 0 23 (dk_at dksX7_next_0 16 rfl rfl)
theorem dX7_next_19 : decode cX7_next 19 = .ok (.athrow, 1) := dk_191 (dk_at dksX7_next_0 19 rfl rfl)
theorem dX7_next_20 : decode cX7_next 20 = .ok (.aload_n 0, 1) := dk_42 (dk_at dksX7_next_0 20 rfl rfl)
theorem dX7_next_21 : decode cX7_next 21 = .ok (.aload_n 0, 1) := dk_42 (dk_at dksX7_next_0 21 rfl rfl)
theorem dX7_next_22 : decode cX7_next 22 = .ok (.getfield 13, 3) := dk_180 0 13 (dk_at dksX7_next_1 0 rfl rfl)
theorem dX7_next_25 : decode cX7_next 25 = .ok (.putfield 26, 3) := dk_181 0 26 (dk_at dksX7_next_1 3 rfl rfl)
theorem dX7_next_28 : decode cX7_next 28 = .ok (.new 29, 3) := dk_187 0 29 (dk_at dksX7_next_1 6 rfl rfl)
theorem dX7_next_31 : decode cX7_next 31 = .ok (.dup, 1) := dk_89 (dk_at dksX7_next_1 9 rfl rfl)
theorem dX7_next_32 : decode cX7_next 32 = .ok (.invokespecial 31, 3) := dk_183 0 31 (dk_at dksX7_next_1 10 rfl rfl)
theorem dX7_next_35 : decode cX7_next 35 = .ok (.astore_n 1, 1) := dk_76 (dk_at dksX7_next_1 13 rfl rfl)
theorem dX7_next_36 : decode cX7_next 36 = .ok (.aload_n 0, 1) := dk_42 (dk_at dksX7_next_1 14 rfl rfl)
theorem dX7_next_37 : decode cX7_next 37 = .ok (.getfield 13, 3) := dk_180 0 13 (dk_at dksX7_next_1 15 rfl rfl)
theorem dX7_next_40 : decode cX7_next 40 = .ok (.aload_n 0, 1) := dk_42 (dk_at dksX7_next_1 18 rfl rfl)
theorem dX7_next_41 : decode cX7_next 41 = .ok (.getfield 7, 3) := dk_180 0 7 (dk_at dksX7_next_1 19 rfl rfl)
theorem dX7_next_44 : decode cX7_next 44 = .ok (.arraylength, 1) := dk_190 (dk_at dksX7_next_1 22 rfl rfl)
theorem dX7_next_45 : decode cX7_next 45 = .ok (.if_icmp .ge 44, 3) := dk_162 0 44 (dk_at dksX7_next_2 0 rfl rfl)
theorem dX7_next_48 : decode cX7_next 48 = .ok (.aload_n 0, 1) := dk_42 (dk_at dksX7_next_2 3 rfl rfl)
theorem dX7_next_49 : decode cX7_next 49 = .ok (.getfield 7, 3) := dk_180 0 7 (dk_at dksX7_next_2 4 rfl rfl)
theorem dX7_next_52 : decode cX7_next 52 = .ok (.aload_n 0, 1) := dk_42 (dk_at dksX7_next_2 7 rfl rfl)
theorem dX7_next_53 : decode cX7_next 53 = .ok (.getfield 13, 3) := dk_180 0 13 (dk_at dksX7_next_2 8 rfl rfl)
theorem dX7_next_56 : decode cX7_next 56 = .ok (.iaload, 1) := dk_46 (dk_at dksX7_next_2 11 rfl rfl)
theorem dX7_next_57 : decode cX7_next 57 = .ok (.bipush 32, 2) := dk_16 32 (dk_at dksX7_next_2 12 rfl rfl)
theorem dX7_next_59 : decode cX7_next 59 = .ok (.if_icmp .eq 30, 3) := dk_159 0 30 (dk_at dksX7_next_2 14 rfl rfl)
theorem dX7_next_62 : decode cX7_next 62 = .ok (.aload_n 1, 1) := dk_43 (dk_at dksX7_next_2 17 rfl rfl)
theorem dX7_next_63 : decode cX7_next 63 = .ok (.aload_n 0, 1) := dk_42 (dk_at dksX7_next_2 18 rfl rfl)
theorem dX7_next_64 : decode cX7_next 64 = .ok (.getfield 7, 3) := dk_180 0 7 (dk_at dksX7_next_2 19 rfl rfl)
theorem dX7_next_67 : decode cX7_next 67 = .ok (.aload_n 0, 1) := dk_42 (dk_at dksX7_next_2 22 rfl rfl)
theorem dX7_next_68 : decode cX7_next 68 = .ok (.getfield 13, 3) := dk_180 0 13 (dk_at dksX7_next_3 0 rfl rfl)
theorem dX7_next_71 : decode cX7_next 71 = .ok (.iaload, 1) := dk_46 (dk_at dksX7_next_3 3 rfl rfl)
theorem dX7_next_72 : decode cX7_next 72 = .ok (.invokevirtual 32, 3) := dk_182 0 32 (dk_at dksX7_next_3 4 rfl rfl)
theorem dX7_next_75 : decode cX7_next 75 = .ok (.pop, 1) := dk_87 (dk_at dksX7_next_3 7 rfl rfl)
theorem dX7_next_76 : decode cX7_next 76 = .ok (.aload_n 0, 1) := dk_42 (dk_at dksX7_next_3 8 rfl rfl)
theorem dX7_next_77 : decode cX7_next 77 = .ok (.dup, 1) := dk_89 (dk_at dksX7_next_3 9 rfl rfl)
theorem dX7_next_78 : decode cX7_next 78 = .ok (.getfield 13, 3) := dk_180 0 13 (dk_at dksX7_next_3 10 rfl rfl)
theorem dX7_next_81 : decode cX7_next 81 = .ok (.iconst 1, 1) := dk_4 (dk_at dksX7_next_3 13 rfl rfl)
theorem dX7_next_82 : decode cX7_next 82 = .ok (.iadd, 1) := dk_96 (dk_at dksX7_next_3 14 rfl rfl)
theorem dX7_next_83 : decode cX7_next 83 = .ok (.putfield 13, 3) := dk_181 0 13 (dk_at dksX7_next_3 15 rfl rfl)
theorem dX7_next_86 : decode cX7_next 86 = .ok (.goto (-50), 3) := dk_167 255 206 (dk_at dksX7_next_3 18 rfl rfl)
theorem dX7_next_89 : decode cX7_next 89 = .ok (.aload_n 1, 1) := dk_43 (dk_at dksX7_next_3 21 rfl rfl)
theorem dX7_next_90 : decode cX7_next 90 = .ok (.invokevirtual 36, 3) := dk_182 0 36 (dk_at dksX7_next_4 0 rfl rfl)
theorem dX7_next_93 : decode cX7_next 93 = .ok (.areturn, 1) := dk_176 (dk_at dksX7_next_4 3 rfl rfl)
abbrev cX7_fault : ByteArray := prog_11_method_6_code
def yX7_fault : MethodName := ⟨RX7, "fault", "()LAppealrent$FaultException;"⟩
def dkwX7_fault_0 : List UInt8 := [187, 0, 66, 89, 42, 180, 0, 26, 1, 183, 0, 68, 176]
abbrev dktX7_fault_0 : List UInt8 := dkwX7_fault_0 ++ []
theorem dksX7_fault_0 : cX7_fault.data.toList.drop 0 = dktX7_fault_0 := by decide +kernel
theorem dX7_fault_0 : decode cX7_fault 0 = .ok (.new 66, 3) := dk_187 0 66 (dk_at dksX7_fault_0 0 rfl rfl)
theorem dX7_fault_3 : decode cX7_fault 3 = .ok (.dup, 1) := dk_89 (dk_at dksX7_fault_0 3 rfl rfl)
theorem dX7_fault_4 : decode cX7_fault 4 = .ok (.aload_n 0, 1) := dk_42 (dk_at dksX7_fault_0 4 rfl rfl)
theorem dX7_fault_5 : decode cX7_fault 5 = .ok (.getfield 26, 3) := dk_180 0 26 (dk_at dksX7_fault_0 5 rfl rfl)
theorem dX7_fault_8 : decode cX7_fault 8 = .ok (.aconst_null, 1) := dk_1 (dk_at dksX7_fault_0 8 rfl rfl)
theorem dX7_fault_9 : decode cX7_fault 9 = .ok (.invokespecial 68, 3) := dk_183 0 68 (dk_at dksX7_fault_0 9 rfl rfl)
theorem dX7_fault_12 : decode cX7_fault 12 = .ok (.areturn, 1) := dk_176 (dk_at dksX7_fault_0 12 rfl rfl)
abbrev cX7_number : ByteArray := prog_11_method_5_code
def yX7_number : MethodName := ⟨RX7, "number", "(II)I"⟩
def dkwX7_number_1 : List UInt8 := [183, 0, 68, 191]
abbrev dktX7_number_1 : List UInt8 := dkwX7_number_1 ++ []
def dkwX7_number_0 : List UInt8 := [42, 182, 0, 59, 78, 45, 27, 28, 184, 0, 62, 172, 58, 4, 187, 0, 66, 89, 42, 180, 0, 26, 25, 4]
abbrev dktX7_number_0 : List UInt8 := dkwX7_number_0 ++ dktX7_number_1
theorem dksX7_number_0 : cX7_number.data.toList.drop 0 = dktX7_number_0 := by decide +kernel
theorem dksX7_number_1 : cX7_number.data.toList.drop 24 = dktX7_number_1 := dk_seg dksX7_number_0 24 rfl rfl
theorem dX7_number_0 : decode cX7_number 0 = .ok (.aload_n 0, 1) := dk_42 (dk_at dksX7_number_0 0 rfl rfl)
theorem dX7_number_1 : decode cX7_number 1 = .ok (.invokevirtual 59, 3) := dk_182 0 59 (dk_at dksX7_number_0 1 rfl rfl)
theorem dX7_number_4 : decode cX7_number 4 = .ok (.astore_n 3, 1) := dk_78 (dk_at dksX7_number_0 4 rfl rfl)
theorem dX7_number_5 : decode cX7_number 5 = .ok (.aload_n 3, 1) := dk_45 (dk_at dksX7_number_0 5 rfl rfl)
theorem dX7_number_6 : decode cX7_number 6 = .ok (.iload_n 1, 1) := dk_27 (dk_at dksX7_number_0 6 rfl rfl)
theorem dX7_number_7 : decode cX7_number 7 = .ok (.iload_n 2, 1) := dk_28 (dk_at dksX7_number_0 7 rfl rfl)
theorem dX7_number_8 : decode cX7_number 8 = .ok (.invokestatic 62, 3) := dk_184 0 62 (dk_at dksX7_number_0 8 rfl rfl)
theorem dX7_number_11 : decode cX7_number 11 = .ok (.ireturn, 1) := dk_172 (dk_at dksX7_number_0 11 rfl rfl)
theorem dX7_number_12 : decode cX7_number 12 = .ok (.astore 4, 2) := dk_58 4 (dk_at dksX7_number_0 12 rfl rfl)
theorem dX7_number_14 : decode cX7_number 14 = .ok (.new 66, 3) := dk_187 0 66 (dk_at dksX7_number_0 14 rfl rfl)
theorem dX7_number_17 : decode cX7_number 17 = .ok (.dup, 1) := dk_89 (dk_at dksX7_number_0 17 rfl rfl)
theorem dX7_number_18 : decode cX7_number 18 = .ok (.aload_n 0, 1) := dk_42 (dk_at dksX7_number_0 18 rfl rfl)
theorem dX7_number_19 : decode cX7_number 19 = .ok (.getfield 26, 3) := dk_180 0 26 (dk_at dksX7_number_0 19 rfl rfl)
theorem dX7_number_22 : decode cX7_number 22 = .ok (.aload 4, 2) := dk_25 4 (dk_at dksX7_number_0 22 rfl rfl)
theorem dX7_number_24 : decode cX7_number 24 = .ok (.invokespecial 68, 3) := dk_183 0 68 (dk_at dksX7_number_1 0 rfl rfl)
theorem dX7_number_27 : decode cX7_number 27 = .ok (.athrow, 1) := dk_191 (dk_at dksX7_number_1 3 rfl rfl)
abbrev cX7_number_2 : ByteArray := prog_11_method_4_code
def yX7_number_2 : MethodName := ⟨RX7, "number", "(Ljava/lang/String;II)I"⟩
def dkwX7_number_2_3 : List UInt8 := [154, 0, 11, 187, 0, 56, 89, 183, 0, 58, 191, 29, 172]
abbrev dktX7_number_2_3 : List UInt8 := dkwX7_number_2_3 ++ []
def dkwX7_number_2_2 : List UInt8 := [191, 16, 10, 29, 104, 21, 5, 96, 16, 48, 100, 62, 132, 4, 1, 167, 255, 198, 29, 27, 28, 184, 0, 50]
abbrev dktX7_number_2_2 : List UInt8 := dkwX7_number_2_2 ++ dktX7_number_2_3
def dkwX7_number_2_1 : List UInt8 := [16, 48, 16, 57, 184, 0, 50, 153, 0, 10, 21, 4, 16, 7, 160, 0, 11, 187, 0, 56, 89, 183, 0, 58]
abbrev dktX7_number_2_1 : List UInt8 := dkwX7_number_2_1 ++ dktX7_number_2_2
def dkwX7_number_2_0 : List UInt8 := [3, 62, 3, 54, 4, 21, 4, 42, 182, 0, 40, 162, 0, 55, 42, 21, 4, 182, 0, 46, 54, 5, 21, 5]
abbrev dktX7_number_2_0 : List UInt8 := dkwX7_number_2_0 ++ dktX7_number_2_1
theorem dksX7_number_2_0 : cX7_number_2.data.toList.drop 0 = dktX7_number_2_0 := by decide +kernel
theorem dksX7_number_2_1 : cX7_number_2.data.toList.drop 24 = dktX7_number_2_1 := dk_seg dksX7_number_2_0 24 rfl rfl
theorem dksX7_number_2_2 : cX7_number_2.data.toList.drop 48 = dktX7_number_2_2 := dk_seg dksX7_number_2_1 24 rfl rfl
theorem dksX7_number_2_3 : cX7_number_2.data.toList.drop 72 = dktX7_number_2_3 := dk_seg dksX7_number_2_2 24 rfl rfl
theorem dX7_number_2_0 : decode cX7_number_2 0 = .ok (.iconst 0, 1) := dk_3 (dk_at dksX7_number_2_0 0 rfl rfl)
theorem dX7_number_2_1 : decode cX7_number_2 1 = .ok (.istore_n 3, 1) := dk_62 (dk_at dksX7_number_2_0 1 rfl rfl)
theorem dX7_number_2_2 : decode cX7_number_2 2 = .ok (.iconst 0, 1) := dk_3 (dk_at dksX7_number_2_0 2 rfl rfl)
theorem dX7_number_2_3 : decode cX7_number_2 3 = .ok (.istore 4, 2) := dk_54 4 (dk_at dksX7_number_2_0 3 rfl rfl)
theorem dX7_number_2_5 : decode cX7_number_2 5 = .ok (.iload 4, 2) := dk_21 4 (dk_at dksX7_number_2_0 5 rfl rfl)
theorem dX7_number_2_7 : decode cX7_number_2 7 = .ok (.aload_n 0, 1) := dk_42 (dk_at dksX7_number_2_0 7 rfl rfl)
theorem dX7_number_2_8 : decode cX7_number_2 8 = .ok (.invokevirtual 40, 3) := dk_182 0 40 (dk_at dksX7_number_2_0 8 rfl rfl)
theorem dX7_number_2_11 : decode cX7_number_2 11 = .ok (.if_icmp .ge 55, 3) := dk_162 0 55 (dk_at dksX7_number_2_0 11 rfl rfl)
theorem dX7_number_2_14 : decode cX7_number_2 14 = .ok (.aload_n 0, 1) := dk_42 (dk_at dksX7_number_2_0 14 rfl rfl)
theorem dX7_number_2_15 : decode cX7_number_2 15 = .ok (.iload 4, 2) := dk_21 4 (dk_at dksX7_number_2_0 15 rfl rfl)
theorem dX7_number_2_17 : decode cX7_number_2 17 = .ok (.invokevirtual 46, 3) := dk_182 0 46 (dk_at dksX7_number_2_0 17 rfl rfl)
theorem dX7_number_2_20 : decode cX7_number_2 20 = .ok (.istore 5, 2) := dk_54 5 (dk_at dksX7_number_2_0 20 rfl rfl)
theorem dX7_number_2_22 : decode cX7_number_2 22 = .ok (.iload 5, 2) := dk_21 5 (dk_at dksX7_number_2_0 22 rfl rfl)
theorem dX7_number_2_24 : decode cX7_number_2 24 = .ok (.bipush 48, 2) := dk_16 48 (dk_at dksX7_number_2_1 0 rfl rfl)
theorem dX7_number_2_26 : decode cX7_number_2 26 = .ok (.bipush 57, 2) := dk_16 57 (dk_at dksX7_number_2_1 2 rfl rfl)
theorem dX7_number_2_28 : decode cX7_number_2 28 = .ok (.invokestatic 50, 3) := dk_184 0 50 (dk_at dksX7_number_2_1 4 rfl rfl)
theorem dX7_number_2_31 : decode cX7_number_2 31 = .ok (.ifCond .eq 10, 3) := dk_153 0 10 (dk_at dksX7_number_2_1 7 rfl rfl)
theorem dX7_number_2_34 : decode cX7_number_2 34 = .ok (.iload 4, 2) := dk_21 4 (dk_at dksX7_number_2_1 10 rfl rfl)
theorem dX7_number_2_36 : decode cX7_number_2 36 = .ok (.bipush 7, 2) := dk_16 7 (dk_at dksX7_number_2_1 12 rfl rfl)
theorem dX7_number_2_38 : decode cX7_number_2 38 = .ok (.if_icmp .ne 11, 3) := dk_160 0 11 (dk_at dksX7_number_2_1 14 rfl rfl)
theorem dX7_number_2_41 : decode cX7_number_2 41 = .ok (.new 56, 3) := dk_187 0 56 (dk_at dksX7_number_2_1 17 rfl rfl)
theorem dX7_number_2_44 : decode cX7_number_2 44 = .ok (.dup, 1) := dk_89 (dk_at dksX7_number_2_1 20 rfl rfl)
theorem dX7_number_2_45 : decode cX7_number_2 45 = .ok (.invokespecial 58, 3) := dk_183 0 58 (dk_at dksX7_number_2_1 21 rfl rfl)
theorem dX7_number_2_48 : decode cX7_number_2 48 = .ok (.athrow, 1) := dk_191 (dk_at dksX7_number_2_2 0 rfl rfl)
theorem dX7_number_2_49 : decode cX7_number_2 49 = .ok (.bipush 10, 2) := dk_16 10 (dk_at dksX7_number_2_2 1 rfl rfl)
theorem dX7_number_2_51 : decode cX7_number_2 51 = .ok (.iload_n 3, 1) := dk_29 (dk_at dksX7_number_2_2 3 rfl rfl)
theorem dX7_number_2_52 : decode cX7_number_2 52 = .ok (.imul, 1) := dk_104 (dk_at dksX7_number_2_2 4 rfl rfl)
theorem dX7_number_2_53 : decode cX7_number_2 53 = .ok (.iload 5, 2) := dk_21 5 (dk_at dksX7_number_2_2 5 rfl rfl)
theorem dX7_number_2_55 : decode cX7_number_2 55 = .ok (.iadd, 1) := dk_96 (dk_at dksX7_number_2_2 7 rfl rfl)
theorem dX7_number_2_56 : decode cX7_number_2 56 = .ok (.bipush 48, 2) := dk_16 48 (dk_at dksX7_number_2_2 8 rfl rfl)
theorem dX7_number_2_58 : decode cX7_number_2 58 = .ok (.isub, 1) := dk_100 (dk_at dksX7_number_2_2 10 rfl rfl)
theorem dX7_number_2_59 : decode cX7_number_2 59 = .ok (.istore_n 3, 1) := dk_62 (dk_at dksX7_number_2_2 11 rfl rfl)
theorem dX7_number_2_60 : decode cX7_number_2 60 = .ok (.iinc 4 1, 3) := dk_132 4 1 (dk_at dksX7_number_2_2 12 rfl rfl)
theorem dX7_number_2_63 : decode cX7_number_2 63 = .ok (.goto (-58), 3) := dk_167 255 198 (dk_at dksX7_number_2_2 15 rfl rfl)
theorem dX7_number_2_66 : decode cX7_number_2 66 = .ok (.iload_n 3, 1) := dk_29 (dk_at dksX7_number_2_2 18 rfl rfl)
theorem dX7_number_2_67 : decode cX7_number_2 67 = .ok (.iload_n 1, 1) := dk_27 (dk_at dksX7_number_2_2 19 rfl rfl)
theorem dX7_number_2_68 : decode cX7_number_2 68 = .ok (.iload_n 2, 1) := dk_28 (dk_at dksX7_number_2_2 20 rfl rfl)
theorem dX7_number_2_69 : decode cX7_number_2 69 = .ok (.invokestatic 50, 3) := dk_184 0 50 (dk_at dksX7_number_2_2 21 rfl rfl)
theorem dX7_number_2_72 : decode cX7_number_2 72 = .ok (.ifCond .ne 11, 3) := dk_154 0 11 (dk_at dksX7_number_2_3 0 rfl rfl)
theorem dX7_number_2_75 : decode cX7_number_2 75 = .ok (.new 56, 3) := dk_187 0 56 (dk_at dksX7_number_2_3 3 rfl rfl)
theorem dX7_number_2_78 : decode cX7_number_2 78 = .ok (.dup, 1) := dk_89 (dk_at dksX7_number_2_3 6 rfl rfl)
theorem dX7_number_2_79 : decode cX7_number_2 79 = .ok (.invokespecial 58, 3) := dk_183 0 58 (dk_at dksX7_number_2_3 7 rfl rfl)
theorem dX7_number_2_82 : decode cX7_number_2 82 = .ok (.athrow, 1) := dk_191 (dk_at dksX7_number_2_3 10 rfl rfl)
theorem dX7_number_2_83 : decode cX7_number_2 83 = .ok (.iload_n 3, 1) := dk_29 (dk_at dksX7_number_2_3 11 rfl rfl)
theorem dX7_number_2_84 : decode cX7_number_2 84 = .ok (.ireturn, 1) := dk_172 (dk_at dksX7_number_2_3 12 rfl rfl)
theorem q103 : (Jvm.Cond.initialized "Appealrent$Words") ∈ lw_all := lw_g (lw_at lw_m1 32 rfl) rfl
theorem q578 : (Jvm.Cond.selects "Appealrent$Words" ({ cls := "java/lang/Object", name := "getClass", desc := "()Ljava/lang/Class;" } : Jvm.MethodName) ({ cls := "java/lang/Object", name := "getClass", desc := "()Ljava/lang/Class;" } : Jvm.MethodName)) ∈ lw_all := lw_g (lw_at lw_m3 27 rfl) rfl
theorem q1072 : (Jvm.Cond.instantiable "Appealrent$Words" (3 : Nat)) ∈ lw_all := lw_g (lw_at lw_m5 41 rfl) rfl
theorem q1074 : (Jvm.Cond.instanceMethod ({ cls := "Appealrent$Words", name := "<init>", desc := "([I)V" } : Jvm.MethodName)) ∈ lw_all := lw_g (lw_at lw_m5 43 rfl) rfl
theorem q1075 : (Jvm.Cond.code ({ cls := "Appealrent$Words", name := "<init>", desc := "([I)V" } : Jvm.MethodName) prog_11_method_1_code (2 : Nat) (Option.none : Option Jvm.ClassFile.FieldType)) ∈ lw_all := lw_g (lw_at lw_m5 44 rfl) rfl
theorem q1076 : (Jvm.Cond.methodLink "Appealrent$Words" (1 : Nat) ({ cls := "java/lang/Object", name := "<init>", desc := "()V" } : Jvm.MethodName)) ∈ lw_all := lw_g (lw_at lw_m5 45 rfl) rfl
theorem q1077 : (Jvm.Cond.fieldLink "Appealrent$Words" (7 : Nat) "Appealrent$Words" "signs" "[I") ∈ lw_all := lw_g (lw_at lw_m5 46 rfl) rfl
theorem q1079 : (Jvm.Cond.fieldLink "Appealrent$Words" (13 : Nat) "Appealrent$Words" "at" "I") ∈ lw_all := lw_g (lw_at lw_m5 48 rfl) rfl
theorem q1080 : (Jvm.Cond.fieldLink "Appealrent$Words" (26 : Nat) "Appealrent$Words" "begin" "I") ∈ lw_all := lw_g (lw_at lw_m5 49 rfl) rfl
theorem q1081 : (Jvm.Cond.laysFinal "Appealrent$Words" "Appealrent$Words" "signs" "[I") ∈ lw_all := lw_g (lw_at lw_m5 50 rfl) rfl
theorem q1082 : (Jvm.Cond.soleField "Appealrent$Words" "signs") ∈ lw_all := lw_g (lw_at lw_m5 51 rfl) rfl
theorem q1083 : (Jvm.Cond.lays "Appealrent$Words" "Appealrent$Words" "at" "I") ∈ lw_all := lw_g (lw_at lw_m5 52 rfl) rfl
theorem q1084 : (Jvm.Cond.soleField "Appealrent$Words" "at") ∈ lw_all := lw_g (lw_at lw_m5 53 rfl) rfl
theorem q1085 : (Jvm.Cond.lays "Appealrent$Words" "Appealrent$Words" "begin" "I") ∈ lw_all := lw_g (lw_at lw_m5 54 rfl) rfl
theorem q1086 : (Jvm.Cond.soleField "Appealrent$Words" "begin") ∈ lw_all := lw_g (lw_at lw_m5 55 rfl) rfl
theorem q1087 : (Jvm.Cond.superclass "Appealrent$Words" "java/lang/Object") ∈ lw_all := lw_g (lw_at lw_m5 56 rfl) rfl
theorem q1098 : (Jvm.Cond.instanceMethod ({ cls := "Appealrent$Words", name := "hasNext", desc := "()Z" } : Jvm.MethodName)) ∈ lw_all := lw_g (lw_at lw_m5 67 rfl) rfl
theorem q1099 : (Jvm.Cond.selects "Appealrent$Words" ({ cls := "Appealrent$Words", name := "hasNext", desc := "()Z" } : Jvm.MethodName) ({ cls := "Appealrent$Words", name := "hasNext", desc := "()Z" } : Jvm.MethodName)) ∈ lw_all := lw_g (lw_at lw_m5 68 rfl) rfl
theorem q1100 : (Jvm.Cond.code ({ cls := "Appealrent$Words", name := "hasNext", desc := "()Z" } : Jvm.MethodName) prog_11_method_2_code (1 : Nat) (Option.some Jvm.ClassFile.FieldType.boolean)) ∈ lw_all := lw_g (lw_at lw_m5 69 rfl) rfl
theorem q1102 : (Jvm.Cond.instanceMethod ({ cls := "Appealrent$Words", name := "next", desc := "()Ljava/lang/String;" } : Jvm.MethodName)) ∈ lw_all := lw_g (lw_at lw_m5 71 rfl) rfl
theorem q1103 : (Jvm.Cond.selects "Appealrent$Words" ({ cls := "Appealrent$Words", name := "next", desc := "()Ljava/lang/String;" } : Jvm.MethodName) ({ cls := "Appealrent$Words", name := "next", desc := "()Ljava/lang/String;" } : Jvm.MethodName)) ∈ lw_all := lw_g (lw_at lw_m5 72 rfl) rfl
theorem q1104 : (Jvm.Cond.code ({ cls := "Appealrent$Words", name := "next", desc := "()Ljava/lang/String;" } : Jvm.MethodName) prog_11_method_3_code (2 : Nat) (Option.some (Jvm.ClassFile.FieldType.object "java/lang/String"))) ∈ lw_all := lw_g (lw_at lw_m5 73 rfl) rfl
theorem q1105 : (Jvm.Cond.methodLink "Appealrent$Words" (17 : Nat) ({ cls := "Appealrent$Words", name := "hasNext", desc := "()Z" } : Jvm.MethodName)) ∈ lw_all := lw_g (lw_at lw_m5 74 rfl) rfl
theorem q1106 : (Jvm.Cond.classLink "Appealrent$Words" (21 : Nat) "Appealrent$EndException") ∈ lw_all := lw_g (lw_at lw_m5 75 rfl) rfl
theorem q1115 : (Jvm.Cond.methodLink "Appealrent$Words" (23 : Nat) ({ cls := "Appealrent$EndException", name := "<init>", desc := "(I)V" } : Jvm.MethodName)) ∈ lw_all := lw_g (lw_at lw_m5 84 rfl) rfl
theorem q1132 : (Jvm.Cond.classLink "Appealrent$Words" (29 : Nat) "java/lang/StringBuilder") ∈ lw_all := lw_g (lw_at lw_m5 101 rfl) rfl
theorem q1133 : (Jvm.Cond.methodLink "Appealrent$Words" (31 : Nat) ({ cls := "java/lang/StringBuilder", name := "<init>", desc := "()V" } : Jvm.MethodName)) ∈ lw_all := lw_g (lw_at lw_m5 102 rfl) rfl
theorem q1134 : (Jvm.Cond.methodLink "Appealrent$Words" (32 : Nat) ({ cls := "java/lang/StringBuilder", name := "appendCodePoint", desc := "(I)Ljava/lang/StringBuilder;" } : Jvm.MethodName)) ∈ lw_all := lw_g (lw_at lw_m5 103 rfl) rfl
theorem q1135 : (Jvm.Cond.methodLink "Appealrent$Words" (36 : Nat) ({ cls := "java/lang/StringBuilder", name := "toString", desc := "()Ljava/lang/String;" } : Jvm.MethodName)) ∈ lw_all := lw_g (lw_at lw_m5 104 rfl) rfl
theorem q1137 : (Jvm.Cond.instanceMethod ({ cls := "Appealrent$Words", name := "fault", desc := "()LAppealrent$FaultException;" } : Jvm.MethodName)) ∈ lw_all := lw_g (lw_at lw_m5 106 rfl) rfl
theorem q1138 : (Jvm.Cond.selects "Appealrent$Words" ({ cls := "Appealrent$Words", name := "fault", desc := "()LAppealrent$FaultException;" } : Jvm.MethodName) ({ cls := "Appealrent$Words", name := "fault", desc := "()LAppealrent$FaultException;" } : Jvm.MethodName)) ∈ lw_all := lw_g (lw_at lw_m5 107 rfl) rfl
theorem q1139 : (Jvm.Cond.code ({ cls := "Appealrent$Words", name := "fault", desc := "()LAppealrent$FaultException;" } : Jvm.MethodName) prog_11_method_6_code (1 : Nat) (Option.some (Jvm.ClassFile.FieldType.object "Appealrent$FaultException"))) ∈ lw_all := lw_g (lw_at lw_m5 108 rfl) rfl
theorem q1140 : (Jvm.Cond.classLink "Appealrent$Words" (66 : Nat) "Appealrent$FaultException") ∈ lw_all := lw_g (lw_at lw_m5 109 rfl) rfl
theorem q1149 : (Jvm.Cond.methodLink "Appealrent$Words" (68 : Nat) ({ cls := "Appealrent$FaultException", name := "<init>", desc := "(ILjava/lang/Throwable;)V" } : Jvm.MethodName)) ∈ lw_all := lw_g (lw_at lw_m5 118 rfl) rfl
theorem q1242 : (Jvm.Cond.instanceMethod ({ cls := "Appealrent$Words", name := "number", desc := "(II)I" } : Jvm.MethodName)) ∈ lw_all := lw_g (lw_at lw_m5 211 rfl) rfl
theorem q1243 : (Jvm.Cond.selects "Appealrent$Words" ({ cls := "Appealrent$Words", name := "number", desc := "(II)I" } : Jvm.MethodName) ({ cls := "Appealrent$Words", name := "number", desc := "(II)I" } : Jvm.MethodName)) ∈ lw_all := lw_g (lw_at lw_m5 212 rfl) rfl
theorem q1244 : (Jvm.Cond.codeWith ({ cls := "Appealrent$Words", name := "number", desc := "(II)I" } : Jvm.MethodName) prog_11_method_5_code (5 : Nat) (Option.some Jvm.ClassFile.FieldType.int) [((5 : Nat), (11 : Nat), (12 : Nat), (56 : Nat))]) ∈ lw_all := lw_g (lw_at lw_m5 213 rfl) rfl
theorem q1245 : (Jvm.Cond.classLink "Appealrent$Words" (56 : Nat) "Appealrent$NumberException") ∈ lw_all := lw_g (lw_at lw_m5 214 rfl) rfl
theorem q1246 : (Jvm.Cond.methodLink "Appealrent$Words" (59 : Nat) ({ cls := "Appealrent$Words", name := "next", desc := "()Ljava/lang/String;" } : Jvm.MethodName)) ∈ lw_all := lw_g (lw_at lw_m5 215 rfl) rfl
theorem q1247 : (Jvm.Cond.methodLink "Appealrent$Words" (62 : Nat) ({ cls := "Appealrent$Words", name := "number", desc := "(Ljava/lang/String;II)I" } : Jvm.MethodName)) ∈ lw_all := lw_g (lw_at lw_m5 216 rfl) rfl
theorem q1248 : (Jvm.Cond.static ({ cls := "Appealrent$Words", name := "number", desc := "(Ljava/lang/String;II)I" } : Jvm.MethodName)) ∈ lw_all := lw_g (lw_at lw_m5 217 rfl) rfl
theorem q1249 : (Jvm.Cond.code ({ cls := "Appealrent$Words", name := "number", desc := "(Ljava/lang/String;II)I" } : Jvm.MethodName) prog_11_method_4_code (6 : Nat) (Option.some Jvm.ClassFile.FieldType.int)) ∈ lw_all := lw_g (lw_at lw_m5 218 rfl) rfl
theorem q1250 : (Jvm.Cond.methodLink "Appealrent$Words" (40 : Nat) ({ cls := "java/lang/String", name := "length", desc := "()I" } : Jvm.MethodName)) ∈ lw_all := lw_g (lw_at lw_m5 219 rfl) rfl
theorem q1251 : (Jvm.Cond.methodLink "Appealrent$Words" (46 : Nat) ({ cls := "java/lang/String", name := "charAt", desc := "(I)C" } : Jvm.MethodName)) ∈ lw_all := lw_g (lw_at lw_m5 220 rfl) rfl
theorem q1262 : (Jvm.Cond.methodLinkNest "Appealrent$Words" (50 : Nat) ({ cls := "Appealrent", name := "in", desc := "(III)Z" } : Jvm.MethodName) "Appealrent") ∈ lw_tbl := lw_at lw_m5 231 rfl
theorem q1271 : (Jvm.Cond.methodLink "Appealrent$Words" (58 : Nat) ({ cls := "Appealrent$NumberException", name := "<init>", desc := "()V" } : Jvm.MethodName)) ∈ lw_all := lw_g (lw_at lw_m6 0 rfl) rfl
theorem q1715 : (Jvm.Cond.selects "Appealrent$Words" ({ cls := "java/lang/Object", name := "toString", desc := "()Ljava/lang/String;" } : Jvm.MethodName) ({ cls := "java/lang/Object", name := "toString", desc := "()Ljava/lang/String;" } : Jvm.MethodName)) ∈ lw_all := lw_g (lw_at lw_m7 204 rfl) rfl
theorem q2241 : (Jvm.Cond.castable "Appealrent$Words" "java/lang/Object") ∈ lw_tbl := lw_at lw_m10 10 rfl
theorem in_X7 : ∀ w ∈ wsX70, w ∈ lw_all := lw_in wsX70 [1081, 1083, 1085] (by decide +kernel) (by decide +kernel)
/-! Appealrent$FaultException -/
set_option maxRecDepth 100000
def RX8 : String := "Appealrent$FaultException"
def TX8 : u_T := fun k => match k with
  | 0 => ("java/lang/Throwable", "cause", "Ljava/lang/Throwable;", false)
  | 1 => ("java/lang/Throwable", "stackTrace", "[Ljava/lang/StackTraceElement;", false)
  | 2 => ("java/lang/Throwable", "suppressedExceptions", "Ljava/util/List;", false)
  | 3 => ("java/lang/Throwable", "detailMessage", "Ljava/lang/String;", false)
  | 4 => ("java/lang/Throwable", "backtrace", "Ljava/lang/Object;", false)
  | 5 => ("java/lang/Throwable", "depth", "I", false)
  | _ => ("Appealrent$FaultException", "place", "I", true)
def tyX8 : Nat → FieldType := fun k => match k with
  | 0 => .object "java/lang/Throwable"
  | 1 => .array (.object "java/lang/StackTraceElement")
  | 2 => .object "java/util/List"
  | 3 => .object "java/lang/String"
  | 4 => .object "java/lang/Object"
  | 5 => .int
  | _ => .int
abbrev wsX80 : List Cond := u_ws RX8 TX8 7
theorem nmX8 : ∀ a, a < 7 → ∀ b, b < 7 → a ≠ b → (TX8 a).2.1 ≠ (TX8 b).2.1 := by decide +kernel
theorem tyX8_ok : ∀ k, k < 7 → parseFieldDescriptor (TX8 k).2.2.1 = some (tyX8 k) := by decide +kernel
abbrev cX8_init : ByteArray := prog_6_method_1_code
def yX8_init : MethodName := ⟨RX8, "<init>", "(ILjava/lang/Throwable;)V"⟩
def dkwX8_init_0 : List UInt8 := [42, 1, 44, 3, 3, 183, 0, 1, 42, 27, 181, 0, 7, 177]
abbrev dktX8_init_0 : List UInt8 := dkwX8_init_0 ++ []
theorem dksX8_init_0 : cX8_init.data.toList.drop 0 = dktX8_init_0 := by decide +kernel
theorem dX8_init_0 : decode cX8_init 0 = .ok (.aload_n 0, 1) := dk_42 (dk_at dksX8_init_0 0 rfl rfl)
theorem dX8_init_1 : decode cX8_init 1 = .ok (.aconst_null, 1) := dk_1 (dk_at dksX8_init_0 1 rfl rfl)
theorem dX8_init_2 : decode cX8_init 2 = .ok (.aload_n 2, 1) := dk_44 (dk_at dksX8_init_0 2 rfl rfl)
theorem dX8_init_3 : decode cX8_init 3 = .ok (.iconst 0, 1) := dk_3 (dk_at dksX8_init_0 3 rfl rfl)
theorem dX8_init_4 : decode cX8_init 4 = .ok (.iconst 0, 1) := dk_3 (dk_at dksX8_init_0 4 rfl rfl)
theorem dX8_init_5 : decode cX8_init 5 = .ok (.invokespecial 1, 3) := dk_183 0 1 (dk_at dksX8_init_0 5 rfl rfl)
theorem dX8_init_8 : decode cX8_init 8 = .ok (.aload_n 0, 1) := dk_42 (dk_at dksX8_init_0 8 rfl rfl)
theorem dX8_init_9 : decode cX8_init 9 = .ok (.iload_n 1, 1) := dk_27 (dk_at dksX8_init_0 9 rfl rfl)
theorem dX8_init_10 : decode cX8_init 10 = .ok (.putfield 7, 3) := dk_181 0 7 (dk_at dksX8_init_0 10 rfl rfl)
theorem dX8_init_13 : decode cX8_init 13 = .ok (.return_, 1) := dk_177 (dk_at dksX8_init_0 13 rfl rfl)
abbrev cX8_place : ByteArray := prog_6_method_2_code
def yX8_place : MethodName := ⟨RX8, "place", "()I"⟩
theorem dX8_place_0 : decode cX8_place 0 = .ok (.aload_n 0, 1) := by decide +kernel
theorem dX8_place_1 : decode cX8_place 1 = .ok (.getfield 7, 3) := by decide +kernel
theorem dX8_place_4 : decode cX8_place 4 = .ok (.ireturn, 1) := by decide +kernel
theorem q104 : (Jvm.Cond.initialized "Appealrent$FaultException") ∈ lw_all := lw_g (lw_at lw_m1 33 rfl) rfl
theorem q167 : (Jvm.Cond.selects "Appealrent$FaultException" ({ cls := "java/lang/Throwable", name := "fillInStackTrace", desc := "()Ljava/lang/Throwable;" } : Jvm.MethodName) ({ cls := "java/lang/Throwable", name := "fillInStackTrace", desc := "()Ljava/lang/Throwable;" } : Jvm.MethodName)) ∈ lw_all := lw_g (lw_at lw_m1 96 rfl) rfl
theorem q574 : (Jvm.Cond.selects "Appealrent$FaultException" ({ cls := "java/lang/Object", name := "getClass", desc := "()Ljava/lang/Class;" } : Jvm.MethodName) ({ cls := "java/lang/Object", name := "getClass", desc := "()Ljava/lang/Class;" } : Jvm.MethodName)) ∈ lw_all := lw_g (lw_at lw_m3 23 rfl) rfl
theorem q1119 : (Jvm.Cond.instanceMethod ({ cls := "Appealrent$FaultException", name := "<init>", desc := "(ILjava/lang/Throwable;)V" } : Jvm.MethodName)) ∈ lw_all := lw_g (lw_at lw_m5 88 rfl) rfl
theorem q1120 : (Jvm.Cond.code ({ cls := "Appealrent$FaultException", name := "<init>", desc := "(ILjava/lang/Throwable;)V" } : Jvm.MethodName) prog_6_method_1_code (3 : Nat) (Option.none : Option Jvm.ClassFile.FieldType)) ∈ lw_all := lw_g (lw_at lw_m5 89 rfl) rfl
theorem q1121 : (Jvm.Cond.methodLink "Appealrent$FaultException" (1 : Nat) ({ cls := "java/lang/Exception", name := "<init>", desc := "(Ljava/lang/String;Ljava/lang/Throwable;ZZ)V" } : Jvm.MethodName)) ∈ lw_all := lw_g (lw_at lw_m5 90 rfl) rfl
theorem q1127 : (Jvm.Cond.fieldLink "Appealrent$FaultException" (7 : Nat) "Appealrent$FaultException" "place" "I") ∈ lw_all := lw_g (lw_at lw_m5 96 rfl) rfl
theorem q1129 : (Jvm.Cond.soleField "Appealrent$FaultException" "place") ∈ lw_all := lw_g (lw_at lw_m5 98 rfl) rfl
theorem q1141 : (Jvm.Cond.instantiable "Appealrent$FaultException" (7 : Nat)) ∈ lw_all := lw_g (lw_at lw_m5 110 rfl) rfl
theorem q1142 : (Jvm.Cond.castable "Appealrent$FaultException" "Appealrent$FaultException") ∈ lw_tbl := lw_at lw_m5 111 rfl
theorem q1143 : (Jvm.Cond.selects "Appealrent$FaultException" ({ cls := "java/lang/Throwable", name := "fillInStackTrace", desc := "(I)Ljava/lang/Throwable;" } : Jvm.MethodName) ({ cls := "java/lang/Throwable", name := "fillInStackTrace", desc := "(I)Ljava/lang/Throwable;" } : Jvm.MethodName)) ∈ lw_all := lw_g (lw_at lw_m5 112 rfl) rfl
theorem q1144 : (Jvm.Cond.lays "Appealrent$FaultException" "java/lang/Throwable" "cause" "Ljava/lang/Throwable;") ∈ lw_all := lw_g (lw_at lw_m5 113 rfl) rfl
theorem q1145 : (Jvm.Cond.lays "Appealrent$FaultException" "java/lang/Throwable" "stackTrace" "[Ljava/lang/StackTraceElement;") ∈ lw_all := lw_g (lw_at lw_m5 114 rfl) rfl
theorem q1146 : (Jvm.Cond.lays "Appealrent$FaultException" "java/lang/Throwable" "suppressedExceptions" "Ljava/util/List;") ∈ lw_all := lw_g (lw_at lw_m5 115 rfl) rfl
theorem q1147 : (Jvm.Cond.lays "Appealrent$FaultException" "java/lang/Throwable" "detailMessage" "Ljava/lang/String;") ∈ lw_all := lw_g (lw_at lw_m5 116 rfl) rfl
theorem q1148 : (Jvm.Cond.lays "Appealrent$FaultException" "java/lang/Throwable" "backtrace" "Ljava/lang/Object;") ∈ lw_all := lw_g (lw_at lw_m5 117 rfl) rfl
theorem q1150 : (Jvm.Cond.laysFinal "Appealrent$FaultException" "Appealrent$FaultException" "place" "I") ∈ lw_all := lw_g (lw_at lw_m5 119 rfl) rfl
theorem q1151 : (Jvm.Cond.lays "Appealrent$FaultException" "java/lang/Throwable" "depth" "I") ∈ lw_all := lw_g (lw_at lw_m5 120 rfl) rfl
theorem q1152 : (Jvm.Cond.superclass "Appealrent$FaultException" "java/lang/Exception") ∈ lw_all := lw_g (lw_at lw_m5 121 rfl) rfl
theorem q1325 : (Jvm.Cond.sameMethod "Appealrent$FaultException" "java/lang/Throwable" "getCause" "()Ljava/lang/Throwable;") ∈ lw_all := lw_g (lw_at lw_m6 54 rfl) rfl
theorem q1328 : (Jvm.Cond.selects "Appealrent$FaultException" ({ cls := "Appealrent$FaultException", name := "getCause", desc := "()Ljava/lang/Throwable;" } : Jvm.MethodName) ({ cls := "java/lang/Throwable", name := "getCause", desc := "()Ljava/lang/Throwable;" } : Jvm.MethodName)) ∈ lw_all := lw_g (lw_at lw_m6 57 rfl) rfl
theorem q1333 : (Jvm.Cond.instanceMethod ({ cls := "Appealrent$FaultException", name := "place", desc := "()I" } : Jvm.MethodName)) ∈ lw_all := lw_g (lw_at lw_m6 62 rfl) rfl
theorem q1334 : (Jvm.Cond.selects "Appealrent$FaultException" ({ cls := "Appealrent$FaultException", name := "place", desc := "()I" } : Jvm.MethodName) ({ cls := "Appealrent$FaultException", name := "place", desc := "()I" } : Jvm.MethodName)) ∈ lw_all := lw_g (lw_at lw_m6 63 rfl) rfl
theorem q1335 : (Jvm.Cond.sameMethod "Appealrent$FaultException" "Appealrent$FaultException" "place" "()I") ∈ lw_all := lw_g (lw_at lw_m6 64 rfl) rfl
theorem q1337 : (Jvm.Cond.code ({ cls := "Appealrent$FaultException", name := "place", desc := "()I" } : Jvm.MethodName) prog_6_method_2_code (1 : Nat) (Option.some Jvm.ClassFile.FieldType.int)) ∈ lw_all := lw_g (lw_at lw_m6 66 rfl) rfl
theorem q1684 : (Jvm.Cond.selects "Appealrent$FaultException" ({ cls := "java/lang/Throwable", name := "getLocalizedMessage", desc := "()Ljava/lang/String;" } : Jvm.MethodName) ({ cls := "java/lang/Throwable", name := "getLocalizedMessage", desc := "()Ljava/lang/String;" } : Jvm.MethodName)) ∈ lw_all := lw_g (lw_at lw_m7 173 rfl) rfl
theorem q1697 : (Jvm.Cond.selects "Appealrent$FaultException" ({ cls := "java/lang/Throwable", name := "getMessage", desc := "()Ljava/lang/String;" } : Jvm.MethodName) ({ cls := "java/lang/Throwable", name := "getMessage", desc := "()Ljava/lang/String;" } : Jvm.MethodName)) ∈ lw_all := lw_g (lw_at lw_m7 186 rfl) rfl
theorem q1711 : (Jvm.Cond.selects "Appealrent$FaultException" ({ cls := "java/lang/Object", name := "toString", desc := "()Ljava/lang/String;" } : Jvm.MethodName) ({ cls := "java/lang/Throwable", name := "toString", desc := "()Ljava/lang/String;" } : Jvm.MethodName)) ∈ lw_all := lw_g (lw_at lw_m7 200 rfl) rfl
theorem q2243 : (Jvm.Cond.castable "Appealrent$FaultException" "java/lang/Object") ∈ lw_tbl := lw_at lw_m10 12 rfl
theorem in_X8 : ∀ w ∈ wsX80, w ∈ lw_all := lw_in wsX80 [1144, 1145, 1146, 1147, 1148, 1151, 1150] (by decide +kernel) (by decide +kernel)
/-! Appealrent$EndException -/
set_option maxRecDepth 100000
def RX9 : String := "Appealrent$EndException"
def TX9 : u_T := fun k => match k with
  | 0 => ("java/lang/Throwable", "cause", "Ljava/lang/Throwable;", false)
  | 1 => ("java/lang/Throwable", "stackTrace", "[Ljava/lang/StackTraceElement;", false)
  | 2 => ("java/lang/Throwable", "suppressedExceptions", "Ljava/util/List;", false)
  | 3 => ("java/lang/Throwable", "detailMessage", "Ljava/lang/String;", false)
  | 4 => ("java/lang/Throwable", "backtrace", "Ljava/lang/Object;", false)
  | 5 => ("Appealrent$FaultException", "place", "I", true)
  | _ => ("java/lang/Throwable", "depth", "I", false)
def tyX9 : Nat → FieldType := fun k => match k with
  | 0 => .object "java/lang/Throwable"
  | 1 => .array (.object "java/lang/StackTraceElement")
  | 2 => .object "java/util/List"
  | 3 => .object "java/lang/String"
  | 4 => .object "java/lang/Object"
  | 5 => .int
  | _ => .int
abbrev wsX90 : List Cond := u_ws RX9 TX9 7
theorem nmX9 : ∀ a, a < 7 → ∀ b, b < 7 → a ≠ b → (TX9 a).2.1 ≠ (TX9 b).2.1 := by decide +kernel
theorem tyX9_ok : ∀ k, k < 7 → parseFieldDescriptor (TX9 k).2.2.1 = some (tyX9 k) := by decide +kernel
abbrev cX9_init : ByteArray := prog_5_method_1_code
def yX9_init : MethodName := ⟨RX9, "<init>", "(I)V"⟩
def dkwX9_init_0 : List UInt8 := [42, 27, 1, 183, 0, 1, 177]
abbrev dktX9_init_0 : List UInt8 := dkwX9_init_0 ++ []
theorem dksX9_init_0 : cX9_init.data.toList.drop 0 = dktX9_init_0 := by decide +kernel
theorem dX9_init_0 : decode cX9_init 0 = .ok (.aload_n 0, 1) := dk_42 (dk_at dksX9_init_0 0 rfl rfl)
theorem dX9_init_1 : decode cX9_init 1 = .ok (.iload_n 1, 1) := dk_27 (dk_at dksX9_init_0 1 rfl rfl)
theorem dX9_init_2 : decode cX9_init 2 = .ok (.aconst_null, 1) := dk_1 (dk_at dksX9_init_0 2 rfl rfl)
theorem dX9_init_3 : decode cX9_init 3 = .ok (.invokespecial 1, 3) := dk_183 0 1 (dk_at dksX9_init_0 3 rfl rfl)
theorem dX9_init_6 : decode cX9_init 6 = .ok (.return_, 1) := dk_177 (dk_at dksX9_init_0 6 rfl rfl)
theorem q105 : (Jvm.Cond.initialized "Appealrent$EndException") ∈ lw_all := lw_g (lw_at lw_m1 34 rfl) rfl
theorem q166 : (Jvm.Cond.selects "Appealrent$EndException" ({ cls := "java/lang/Throwable", name := "fillInStackTrace", desc := "()Ljava/lang/Throwable;" } : Jvm.MethodName) ({ cls := "java/lang/Throwable", name := "fillInStackTrace", desc := "()Ljava/lang/Throwable;" } : Jvm.MethodName)) ∈ lw_all := lw_g (lw_at lw_m1 95 rfl) rfl
theorem q573 : (Jvm.Cond.selects "Appealrent$EndException" ({ cls := "java/lang/Object", name := "getClass", desc := "()Ljava/lang/Class;" } : Jvm.MethodName) ({ cls := "java/lang/Object", name := "getClass", desc := "()Ljava/lang/Class;" } : Jvm.MethodName)) ∈ lw_all := lw_g (lw_at lw_m3 22 rfl) rfl
theorem q1107 : (Jvm.Cond.instantiable "Appealrent$EndException" (7 : Nat)) ∈ lw_all := lw_g (lw_at lw_m5 76 rfl) rfl
theorem q1108 : (Jvm.Cond.castable "Appealrent$EndException" "Appealrent$EndException") ∈ lw_tbl := lw_at lw_m5 77 rfl
theorem q1109 : (Jvm.Cond.selects "Appealrent$EndException" ({ cls := "java/lang/Throwable", name := "fillInStackTrace", desc := "(I)Ljava/lang/Throwable;" } : Jvm.MethodName) ({ cls := "java/lang/Throwable", name := "fillInStackTrace", desc := "(I)Ljava/lang/Throwable;" } : Jvm.MethodName)) ∈ lw_all := lw_g (lw_at lw_m5 78 rfl) rfl
theorem q1110 : (Jvm.Cond.lays "Appealrent$EndException" "java/lang/Throwable" "cause" "Ljava/lang/Throwable;") ∈ lw_all := lw_g (lw_at lw_m5 79 rfl) rfl
theorem q1111 : (Jvm.Cond.lays "Appealrent$EndException" "java/lang/Throwable" "stackTrace" "[Ljava/lang/StackTraceElement;") ∈ lw_all := lw_g (lw_at lw_m5 80 rfl) rfl
theorem q1112 : (Jvm.Cond.lays "Appealrent$EndException" "java/lang/Throwable" "suppressedExceptions" "Ljava/util/List;") ∈ lw_all := lw_g (lw_at lw_m5 81 rfl) rfl
theorem q1113 : (Jvm.Cond.lays "Appealrent$EndException" "java/lang/Throwable" "detailMessage" "Ljava/lang/String;") ∈ lw_all := lw_g (lw_at lw_m5 82 rfl) rfl
theorem q1114 : (Jvm.Cond.lays "Appealrent$EndException" "java/lang/Throwable" "backtrace" "Ljava/lang/Object;") ∈ lw_all := lw_g (lw_at lw_m5 83 rfl) rfl
theorem q1116 : (Jvm.Cond.instanceMethod ({ cls := "Appealrent$EndException", name := "<init>", desc := "(I)V" } : Jvm.MethodName)) ∈ lw_all := lw_g (lw_at lw_m5 85 rfl) rfl
theorem q1117 : (Jvm.Cond.code ({ cls := "Appealrent$EndException", name := "<init>", desc := "(I)V" } : Jvm.MethodName) prog_5_method_1_code (2 : Nat) (Option.none : Option Jvm.ClassFile.FieldType)) ∈ lw_all := lw_g (lw_at lw_m5 86 rfl) rfl
theorem q1118 : (Jvm.Cond.methodLink "Appealrent$EndException" (1 : Nat) ({ cls := "Appealrent$FaultException", name := "<init>", desc := "(ILjava/lang/Throwable;)V" } : Jvm.MethodName)) ∈ lw_all := lw_g (lw_at lw_m5 87 rfl) rfl
theorem q1128 : (Jvm.Cond.laysFinal "Appealrent$EndException" "Appealrent$FaultException" "place" "I") ∈ lw_all := lw_g (lw_at lw_m5 97 rfl) rfl
theorem q1130 : (Jvm.Cond.lays "Appealrent$EndException" "java/lang/Throwable" "depth" "I") ∈ lw_all := lw_g (lw_at lw_m5 99 rfl) rfl
theorem q1131 : (Jvm.Cond.superclass "Appealrent$EndException" "Appealrent$FaultException") ∈ lw_all := lw_g (lw_at lw_m5 100 rfl) rfl
theorem q1327 : (Jvm.Cond.selects "Appealrent$EndException" ({ cls := "Appealrent$FaultException", name := "getCause", desc := "()Ljava/lang/Throwable;" } : Jvm.MethodName) ({ cls := "java/lang/Throwable", name := "getCause", desc := "()Ljava/lang/Throwable;" } : Jvm.MethodName)) ∈ lw_all := lw_g (lw_at lw_m6 56 rfl) rfl
theorem q1336 : (Jvm.Cond.selects "Appealrent$EndException" ({ cls := "Appealrent$FaultException", name := "place", desc := "()I" } : Jvm.MethodName) ({ cls := "Appealrent$FaultException", name := "place", desc := "()I" } : Jvm.MethodName)) ∈ lw_all := lw_g (lw_at lw_m6 65 rfl) rfl
theorem q1676 : (Jvm.Cond.selects "Appealrent$EndException" ({ cls := "java/lang/Object", name := "toString", desc := "()Ljava/lang/String;" } : Jvm.MethodName) ({ cls := "java/lang/Throwable", name := "toString", desc := "()Ljava/lang/String;" } : Jvm.MethodName)) ∈ lw_all := lw_g (lw_at lw_m7 165 rfl) rfl
theorem q1683 : (Jvm.Cond.selects "Appealrent$EndException" ({ cls := "java/lang/Throwable", name := "getLocalizedMessage", desc := "()Ljava/lang/String;" } : Jvm.MethodName) ({ cls := "java/lang/Throwable", name := "getLocalizedMessage", desc := "()Ljava/lang/String;" } : Jvm.MethodName)) ∈ lw_all := lw_g (lw_at lw_m7 172 rfl) rfl
theorem q1696 : (Jvm.Cond.selects "Appealrent$EndException" ({ cls := "java/lang/Throwable", name := "getMessage", desc := "()Ljava/lang/String;" } : Jvm.MethodName) ({ cls := "java/lang/Throwable", name := "getMessage", desc := "()Ljava/lang/String;" } : Jvm.MethodName)) ∈ lw_all := lw_g (lw_at lw_m7 185 rfl) rfl
theorem q2226 : (Jvm.Cond.castable "Appealrent$EndException" "Appealrent$FaultException") ∈ lw_tbl := lw_at lw_m9 235 rfl
theorem q2242 : (Jvm.Cond.castable "Appealrent$EndException" "java/lang/Object") ∈ lw_tbl := lw_at lw_m10 11 rfl
theorem in_X9 : ∀ w ∈ wsX90, w ∈ lw_all := lw_in wsX90 [1110, 1111, 1112, 1113, 1114, 1128, 1130] (by decide +kernel) (by decide +kernel)
/-! Appealrent$NumberException -/
set_option maxRecDepth 100000
def RX10 : String := "Appealrent$NumberException"
def TX10 : u_T := fun k => match k with
  | 0 => ("java/lang/Throwable", "cause", "Ljava/lang/Throwable;", false)
  | 1 => ("java/lang/Throwable", "stackTrace", "[Ljava/lang/StackTraceElement;", false)
  | 2 => ("java/lang/Throwable", "suppressedExceptions", "Ljava/util/List;", false)
  | 3 => ("java/lang/Throwable", "detailMessage", "Ljava/lang/String;", false)
  | 4 => ("java/lang/Throwable", "backtrace", "Ljava/lang/Object;", false)
  | _ => ("java/lang/Throwable", "depth", "I", false)
def tyX10 : Nat → FieldType := fun k => match k with
  | 0 => .object "java/lang/Throwable"
  | 1 => .array (.object "java/lang/StackTraceElement")
  | 2 => .object "java/util/List"
  | 3 => .object "java/lang/String"
  | 4 => .object "java/lang/Object"
  | _ => .int
abbrev wsX100 : List Cond := u_ws RX10 TX10 6
theorem nmX10 : ∀ a, a < 6 → ∀ b, b < 6 → a ≠ b → (TX10 a).2.1 ≠ (TX10 b).2.1 := by decide +kernel
theorem tyX10_ok : ∀ k, k < 6 → parseFieldDescriptor (TX10 k).2.2.1 = some (tyX10 k) := by decide +kernel
abbrev cX10_init : ByteArray := prog_9_method_1_code
def yX10_init : MethodName := ⟨RX10, "<init>", "()V"⟩
def dkwX10_init_0 : List UInt8 := [42, 1, 1, 3, 3, 183, 0, 1, 177]
abbrev dktX10_init_0 : List UInt8 := dkwX10_init_0 ++ []
theorem dksX10_init_0 : cX10_init.data.toList.drop 0 = dktX10_init_0 := by decide +kernel
theorem dX10_init_0 : decode cX10_init 0 = .ok (.aload_n 0, 1) := dk_42 (dk_at dksX10_init_0 0 rfl rfl)
theorem dX10_init_1 : decode cX10_init 1 = .ok (.aconst_null, 1) := dk_1 (dk_at dksX10_init_0 1 rfl rfl)
theorem dX10_init_2 : decode cX10_init 2 = .ok (.aconst_null, 1) := dk_1 (dk_at dksX10_init_0 2 rfl rfl)
theorem dX10_init_3 : decode cX10_init 3 = .ok (.iconst 0, 1) := dk_3 (dk_at dksX10_init_0 3 rfl rfl)
theorem dX10_init_4 : decode cX10_init 4 = .ok (.iconst 0, 1) := dk_3 (dk_at dksX10_init_0 4 rfl rfl)
theorem dX10_init_5 : decode cX10_init 5 = .ok (.invokespecial 1, 3) := dk_183 0 1 (dk_at dksX10_init_0 5 rfl rfl)
theorem dX10_init_8 : decode cX10_init 8 = .ok (.return_, 1) := dk_177 (dk_at dksX10_init_0 8 rfl rfl)
theorem q106 : (Jvm.Cond.initialized "Appealrent$NumberException") ∈ lw_all := lw_g (lw_at lw_m1 35 rfl) rfl
theorem q168 : (Jvm.Cond.selects "Appealrent$NumberException" ({ cls := "java/lang/Throwable", name := "fillInStackTrace", desc := "()Ljava/lang/Throwable;" } : Jvm.MethodName) ({ cls := "java/lang/Throwable", name := "fillInStackTrace", desc := "()Ljava/lang/Throwable;" } : Jvm.MethodName)) ∈ lw_all := lw_g (lw_at lw_m1 97 rfl) rfl
theorem q576 : (Jvm.Cond.selects "Appealrent$NumberException" ({ cls := "java/lang/Object", name := "getClass", desc := "()Ljava/lang/Class;" } : Jvm.MethodName) ({ cls := "java/lang/Object", name := "getClass", desc := "()Ljava/lang/Class;" } : Jvm.MethodName)) ∈ lw_all := lw_g (lw_at lw_m3 25 rfl) rfl
theorem q1263 : (Jvm.Cond.instantiable "Appealrent$NumberException" (6 : Nat)) ∈ lw_all := lw_g (lw_at lw_m5 232 rfl) rfl
theorem q1264 : (Jvm.Cond.castable "Appealrent$NumberException" "Appealrent$NumberException") ∈ lw_tbl := lw_at lw_m5 233 rfl
theorem q1265 : (Jvm.Cond.selects "Appealrent$NumberException" ({ cls := "java/lang/Throwable", name := "fillInStackTrace", desc := "(I)Ljava/lang/Throwable;" } : Jvm.MethodName) ({ cls := "java/lang/Throwable", name := "fillInStackTrace", desc := "(I)Ljava/lang/Throwable;" } : Jvm.MethodName)) ∈ lw_all := lw_g (lw_at lw_m5 234 rfl) rfl
theorem q1266 : (Jvm.Cond.lays "Appealrent$NumberException" "java/lang/Throwable" "cause" "Ljava/lang/Throwable;") ∈ lw_all := lw_g (lw_at lw_m5 235 rfl) rfl
theorem q1267 : (Jvm.Cond.lays "Appealrent$NumberException" "java/lang/Throwable" "stackTrace" "[Ljava/lang/StackTraceElement;") ∈ lw_all := lw_g (lw_at lw_m5 236 rfl) rfl
theorem q1268 : (Jvm.Cond.lays "Appealrent$NumberException" "java/lang/Throwable" "suppressedExceptions" "Ljava/util/List;") ∈ lw_all := lw_g (lw_at lw_m5 237 rfl) rfl
theorem q1269 : (Jvm.Cond.lays "Appealrent$NumberException" "java/lang/Throwable" "detailMessage" "Ljava/lang/String;") ∈ lw_all := lw_g (lw_at lw_m5 238 rfl) rfl
theorem q1270 : (Jvm.Cond.lays "Appealrent$NumberException" "java/lang/Throwable" "backtrace" "Ljava/lang/Object;") ∈ lw_all := lw_g (lw_at lw_m5 239 rfl) rfl
theorem q1272 : (Jvm.Cond.instanceMethod ({ cls := "Appealrent$NumberException", name := "<init>", desc := "()V" } : Jvm.MethodName)) ∈ lw_all := lw_g (lw_at lw_m6 1 rfl) rfl
theorem q1273 : (Jvm.Cond.code ({ cls := "Appealrent$NumberException", name := "<init>", desc := "()V" } : Jvm.MethodName) prog_9_method_1_code (1 : Nat) (Option.none : Option Jvm.ClassFile.FieldType)) ∈ lw_all := lw_g (lw_at lw_m6 2 rfl) rfl
theorem q1274 : (Jvm.Cond.methodLink "Appealrent$NumberException" (1 : Nat) ({ cls := "java/lang/Exception", name := "<init>", desc := "(Ljava/lang/String;Ljava/lang/Throwable;ZZ)V" } : Jvm.MethodName)) ∈ lw_all := lw_g (lw_at lw_m6 3 rfl) rfl
theorem q1275 : (Jvm.Cond.lays "Appealrent$NumberException" "java/lang/Throwable" "depth" "I") ∈ lw_all := lw_g (lw_at lw_m6 4 rfl) rfl
theorem q1276 : (Jvm.Cond.superclass "Appealrent$NumberException" "java/lang/Exception") ∈ lw_all := lw_g (lw_at lw_m6 5 rfl) rfl
theorem q1685 : (Jvm.Cond.selects "Appealrent$NumberException" ({ cls := "java/lang/Throwable", name := "getLocalizedMessage", desc := "()Ljava/lang/String;" } : Jvm.MethodName) ({ cls := "java/lang/Throwable", name := "getLocalizedMessage", desc := "()Ljava/lang/String;" } : Jvm.MethodName)) ∈ lw_all := lw_g (lw_at lw_m7 174 rfl) rfl
theorem q1698 : (Jvm.Cond.selects "Appealrent$NumberException" ({ cls := "java/lang/Throwable", name := "getMessage", desc := "()Ljava/lang/String;" } : Jvm.MethodName) ({ cls := "java/lang/Throwable", name := "getMessage", desc := "()Ljava/lang/String;" } : Jvm.MethodName)) ∈ lw_all := lw_g (lw_at lw_m7 187 rfl) rfl
theorem q1713 : (Jvm.Cond.selects "Appealrent$NumberException" ({ cls := "java/lang/Object", name := "toString", desc := "()Ljava/lang/String;" } : Jvm.MethodName) ({ cls := "java/lang/Throwable", name := "toString", desc := "()Ljava/lang/String;" } : Jvm.MethodName)) ∈ lw_all := lw_g (lw_at lw_m7 202 rfl) rfl
theorem q2245 : (Jvm.Cond.castable "Appealrent$NumberException" "java/lang/Object") ∈ lw_tbl := lw_at lw_m10 14 rfl
theorem in_X10 : ∀ w ∈ wsX100, w ∈ lw_all := lw_in wsX100 [1266, 1267, 1268, 1269, 1270, 1275] (by decide +kernel) (by decide +kernel)
/-! Appealrent$Claim -/
set_option maxRecDepth 100000
def RX11 : String := "Appealrent$Claim"
def TX11 : u_T := fun k => match k with
  | 0 => ("Appealrent$Claim", "number", "I", true)
  | 1 => ("Appealrent$Claim", "its", "LAppealrent$Case;", true)
  | 2 => ("Appealrent$Claim", "month", "I", true)
  | 3 => ("Appealrent$Claim", "came", "I", true)
  | 4 => ("Appealrent$Claim", "cents", "I", true)
  | 5 => ("Appealrent$Claim", "left", "I", false)
  | _ => ("Appealrent$Claim", "state", "I", false)
def tyX11 : Nat → FieldType := fun k => match k with
  | 0 => .int
  | 1 => .object "Appealrent$Case"
  | 2 => .int
  | 3 => .int
  | 4 => .int
  | 5 => .int
  | _ => .int
abbrev wsX110 : List Cond := u_ws RX11 TX11 7
theorem nmX11 : ∀ a, a < 7 → ∀ b, b < 7 → a ≠ b → (TX11 a).2.1 ≠ (TX11 b).2.1 := by decide +kernel
theorem tyX11_ok : ∀ k, k < 7 → parseFieldDescriptor (TX11 k).2.2.1 = some (tyX11 k) := by decide +kernel
abbrev cX11_takes : ByteArray := prog_3_method_2_code
def yX11_takes : MethodName := ⟨RX11, "takes", "(I)V"⟩
def dkwX11_takes_1 : List UInt8 := [181, 0, 9, 177]
abbrev dktX11_takes_1 : List UInt8 := dkwX11_takes_1 ++ []
def dkwX11_takes_0 : List UInt8 := [42, 89, 180, 0, 31, 27, 100, 181, 0, 31, 42, 42, 180, 0, 31, 154, 0, 7, 6, 167, 0, 4, 5]
abbrev dktX11_takes_0 : List UInt8 := dkwX11_takes_0 ++ dktX11_takes_1
theorem dksX11_takes_0 : cX11_takes.data.toList.drop 0 = dktX11_takes_0 := by decide +kernel
theorem dksX11_takes_1 : cX11_takes.data.toList.drop 23 = dktX11_takes_1 := dk_seg dksX11_takes_0 23 rfl rfl
theorem dX11_takes_0 : decode cX11_takes 0 = .ok (.aload_n 0, 1) := dk_42 (dk_at dksX11_takes_0 0 rfl rfl)
theorem dX11_takes_1 : decode cX11_takes 1 = .ok (.dup, 1) := dk_89 (dk_at dksX11_takes_0 1 rfl rfl)
theorem dX11_takes_2 : decode cX11_takes 2 = .ok (.getfield 31, 3) := dk_180 0 31 (dk_at dksX11_takes_0 2 rfl rfl)
theorem dX11_takes_5 : decode cX11_takes 5 = .ok (.iload_n 1, 1) := dk_27 (dk_at dksX11_takes_0 5 rfl rfl)
theorem dX11_takes_6 : decode cX11_takes 6 = .ok (.isub, 1) := dk_100 (dk_at dksX11_takes_0 6 rfl rfl)
theorem dX11_takes_7 : decode cX11_takes 7 = .ok (.putfield 31, 3) := dk_181 0 31 (dk_at dksX11_takes_0 7 rfl rfl)
theorem dX11_takes_10 : decode cX11_takes 10 = .ok (.aload_n 0, 1) := dk_42 (dk_at dksX11_takes_0 10 rfl rfl)
theorem dX11_takes_11 : decode cX11_takes 11 = .ok (.aload_n 0, 1) := dk_42 (dk_at dksX11_takes_0 11 rfl rfl)
theorem dX11_takes_12 : decode cX11_takes 12 = .ok (.getfield 31, 3) := dk_180 0 31 (dk_at dksX11_takes_0 12 rfl rfl)
theorem dX11_takes_15 : decode cX11_takes 15 = .ok (.ifCond .ne 7, 3) := dk_154 0 7 (dk_at dksX11_takes_0 15 rfl rfl)
theorem dX11_takes_18 : decode cX11_takes 18 = .ok (.iconst 3, 1) := dk_6 (dk_at dksX11_takes_0 18 rfl rfl)
theorem dX11_takes_19 : decode cX11_takes 19 = .ok (.goto 4, 3) := dk_167 0 4 (dk_at dksX11_takes_0 19 rfl rfl)
theorem dX11_takes_22 : decode cX11_takes 22 = .ok (.iconst 2, 1) := dk_5 (dk_at dksX11_takes_0 22 rfl rfl)
theorem dX11_takes_23 : decode cX11_takes 23 = .ok (.putfield 9, 3) := dk_181 0 9 (dk_at dksX11_takes_1 0 rfl rfl)
theorem dX11_takes_26 : decode cX11_takes 26 = .ok (.return_, 1) := dk_177 (dk_at dksX11_takes_1 3 rfl rfl)
abbrev cX11_init : ByteArray := prog_3_method_1_code
def yX11_init : MethodName := ⟨RX11, "<init>", "(ILAppealrent$Case;III)V"⟩
def dkwX11_init_1 : List UInt8 := [42, 21, 4, 181, 0, 25, 42, 21, 5, 181, 0, 28, 42, 21, 5, 181, 0, 31, 177]
abbrev dktX11_init_1 : List UInt8 := dkwX11_init_1 ++ []
def dkwX11_init_0 : List UInt8 := [42, 183, 0, 3, 42, 3, 181, 0, 9, 42, 27, 181, 0, 15, 42, 44, 181, 0, 18, 42, 29, 181, 0, 22]
abbrev dktX11_init_0 : List UInt8 := dkwX11_init_0 ++ dktX11_init_1
theorem dksX11_init_0 : cX11_init.data.toList.drop 0 = dktX11_init_0 := by decide +kernel
theorem dksX11_init_1 : cX11_init.data.toList.drop 24 = dktX11_init_1 := dk_seg dksX11_init_0 24 rfl rfl
theorem dX11_init_0 : decode cX11_init 0 = .ok (.aload_n 0, 1) := dk_42 (dk_at dksX11_init_0 0 rfl rfl)
theorem dX11_init_1 : decode cX11_init 1 = .ok (.invokespecial 3, 3) := dk_183 0 3 (dk_at dksX11_init_0 1 rfl rfl)
theorem dX11_init_4 : decode cX11_init 4 = .ok (.aload_n 0, 1) := dk_42 (dk_at dksX11_init_0 4 rfl rfl)
theorem dX11_init_5 : decode cX11_init 5 = .ok (.iconst 0, 1) := dk_3 (dk_at dksX11_init_0 5 rfl rfl)
theorem dX11_init_6 : decode cX11_init 6 = .ok (.putfield 9, 3) := dk_181 0 9 (dk_at dksX11_init_0 6 rfl rfl)
theorem dX11_init_9 : decode cX11_init 9 = .ok (.aload_n 0, 1) := dk_42 (dk_at dksX11_init_0 9 rfl rfl)
theorem dX11_init_10 : decode cX11_init 10 = .ok (.iload_n 1, 1) := dk_27 (dk_at dksX11_init_0 10 rfl rfl)
theorem dX11_init_11 : decode cX11_init 11 = .ok (.putfield 15, 3) := dk_181 0 15 (dk_at dksX11_init_0 11 rfl rfl)
theorem dX11_init_14 : decode cX11_init 14 = .ok (.aload_n 0, 1) := dk_42 (dk_at dksX11_init_0 14 rfl rfl)
theorem dX11_init_15 : decode cX11_init 15 = .ok (.aload_n 2, 1) := dk_44 (dk_at dksX11_init_0 15 rfl rfl)
theorem dX11_init_16 : decode cX11_init 16 = .ok (.putfield 18, 3) := dk_181 0 18 (dk_at dksX11_init_0 16 rfl rfl)
theorem dX11_init_19 : decode cX11_init 19 = .ok (.aload_n 0, 1) := dk_42 (dk_at dksX11_init_0 19 rfl rfl)
theorem dX11_init_20 : decode cX11_init 20 = .ok (.iload_n 3, 1) := dk_29 (dk_at dksX11_init_0 20 rfl rfl)
theorem dX11_init_21 : decode cX11_init 21 = .ok (.putfield 22, 3) := dk_181 0 22 (dk_at dksX11_init_0 21 rfl rfl)
theorem dX11_init_24 : decode cX11_init 24 = .ok (.aload_n 0, 1) := dk_42 (dk_at dksX11_init_1 0 rfl rfl)
theorem dX11_init_25 : decode cX11_init 25 = .ok (.iload 4, 2) := dk_21 4 (dk_at dksX11_init_1 1 rfl rfl)
theorem dX11_init_27 : decode cX11_init 27 = .ok (.putfield 25, 3) := dk_181 0 25 (dk_at dksX11_init_1 3 rfl rfl)
theorem dX11_init_30 : decode cX11_init 30 = .ok (.aload_n 0, 1) := dk_42 (dk_at dksX11_init_1 6 rfl rfl)
theorem dX11_init_31 : decode cX11_init 31 = .ok (.iload 5, 2) := dk_21 5 (dk_at dksX11_init_1 7 rfl rfl)
theorem dX11_init_33 : decode cX11_init 33 = .ok (.putfield 28, 3) := dk_181 0 28 (dk_at dksX11_init_1 9 rfl rfl)
theorem dX11_init_36 : decode cX11_init 36 = .ok (.aload_n 0, 1) := dk_42 (dk_at dksX11_init_1 12 rfl rfl)
theorem dX11_init_37 : decode cX11_init 37 = .ok (.iload 5, 2) := dk_21 5 (dk_at dksX11_init_1 13 rfl rfl)
theorem dX11_init_39 : decode cX11_init 39 = .ok (.putfield 31, 3) := dk_181 0 31 (dk_at dksX11_init_1 15 rfl rfl)
theorem dX11_init_42 : decode cX11_init 42 = .ok (.return_, 1) := dk_177 (dk_at dksX11_init_1 18 rfl rfl)
theorem q107 : (Jvm.Cond.initialized "Appealrent$Claim") ∈ lw_all := lw_g (lw_at lw_m1 36 rfl) rfl
theorem q572 : (Jvm.Cond.selects "Appealrent$Claim" ({ cls := "java/lang/Object", name := "getClass", desc := "()Ljava/lang/Class;" } : Jvm.MethodName) ({ cls := "java/lang/Object", name := "getClass", desc := "()Ljava/lang/Class;" } : Jvm.MethodName)) ∈ lw_all := lw_g (lw_at lw_m3 21 rfl) rfl
theorem q1380 : (Jvm.Cond.instanceMethod ({ cls := "Appealrent$Claim", name := "takes", desc := "(I)V" } : Jvm.MethodName)) ∈ lw_all := lw_g (lw_at lw_m6 109 rfl) rfl
theorem q1381 : (Jvm.Cond.selects "Appealrent$Claim" ({ cls := "Appealrent$Claim", name := "takes", desc := "(I)V" } : Jvm.MethodName) ({ cls := "Appealrent$Claim", name := "takes", desc := "(I)V" } : Jvm.MethodName)) ∈ lw_all := lw_g (lw_at lw_m6 110 rfl) rfl
theorem q1382 : (Jvm.Cond.code ({ cls := "Appealrent$Claim", name := "takes", desc := "(I)V" } : Jvm.MethodName) prog_3_method_2_code (2 : Nat) (Option.none : Option Jvm.ClassFile.FieldType)) ∈ lw_all := lw_g (lw_at lw_m6 111 rfl) rfl
theorem q1415 : (Jvm.Cond.instantiable "Appealrent$Claim" (7 : Nat)) ∈ lw_all := lw_g (lw_at lw_m6 144 rfl) rfl
theorem q1417 : (Jvm.Cond.instanceMethod ({ cls := "Appealrent$Claim", name := "<init>", desc := "(ILAppealrent$Case;III)V" } : Jvm.MethodName)) ∈ lw_all := lw_g (lw_at lw_m6 146 rfl) rfl
theorem q1418 : (Jvm.Cond.code ({ cls := "Appealrent$Claim", name := "<init>", desc := "(ILAppealrent$Case;III)V" } : Jvm.MethodName) prog_3_method_1_code (6 : Nat) (Option.none : Option Jvm.ClassFile.FieldType)) ∈ lw_all := lw_g (lw_at lw_m6 147 rfl) rfl
theorem q1419 : (Jvm.Cond.methodLink "Appealrent$Claim" (3 : Nat) ({ cls := "java/lang/Object", name := "<init>", desc := "()V" } : Jvm.MethodName)) ∈ lw_all := lw_g (lw_at lw_m6 148 rfl) rfl
theorem q1420 : (Jvm.Cond.fieldLink "Appealrent$Claim" (15 : Nat) "Appealrent$Claim" "number" "I") ∈ lw_all := lw_g (lw_at lw_m6 149 rfl) rfl
theorem q1421 : (Jvm.Cond.fieldLink "Appealrent$Claim" (18 : Nat) "Appealrent$Claim" "its" "LAppealrent$Case;") ∈ lw_all := lw_g (lw_at lw_m6 150 rfl) rfl
theorem q1423 : (Jvm.Cond.fieldLink "Appealrent$Claim" (22 : Nat) "Appealrent$Claim" "month" "I") ∈ lw_all := lw_g (lw_at lw_m6 152 rfl) rfl
theorem q1425 : (Jvm.Cond.fieldLink "Appealrent$Claim" (25 : Nat) "Appealrent$Claim" "came" "I") ∈ lw_all := lw_g (lw_at lw_m6 154 rfl) rfl
theorem q1427 : (Jvm.Cond.fieldLink "Appealrent$Claim" (28 : Nat) "Appealrent$Claim" "cents" "I") ∈ lw_all := lw_g (lw_at lw_m6 156 rfl) rfl
theorem q1429 : (Jvm.Cond.fieldLink "Appealrent$Claim" (31 : Nat) "Appealrent$Claim" "left" "I") ∈ lw_all := lw_g (lw_at lw_m6 158 rfl) rfl
theorem q1431 : (Jvm.Cond.fieldLink "Appealrent$Claim" (9 : Nat) "Appealrent$Claim" "state" "I") ∈ lw_all := lw_g (lw_at lw_m6 160 rfl) rfl
theorem q1433 : (Jvm.Cond.laysFinal "Appealrent$Claim" "Appealrent$Claim" "number" "I") ∈ lw_all := lw_g (lw_at lw_m6 162 rfl) rfl
theorem q1434 : (Jvm.Cond.soleField "Appealrent$Claim" "number") ∈ lw_all := lw_g (lw_at lw_m6 163 rfl) rfl
theorem q1435 : (Jvm.Cond.laysFinal "Appealrent$Claim" "Appealrent$Claim" "its" "LAppealrent$Case;") ∈ lw_all := lw_g (lw_at lw_m6 164 rfl) rfl
theorem q1436 : (Jvm.Cond.soleField "Appealrent$Claim" "its") ∈ lw_all := lw_g (lw_at lw_m6 165 rfl) rfl
theorem q1437 : (Jvm.Cond.laysFinal "Appealrent$Claim" "Appealrent$Claim" "month" "I") ∈ lw_all := lw_g (lw_at lw_m6 166 rfl) rfl
theorem q1438 : (Jvm.Cond.soleField "Appealrent$Claim" "month") ∈ lw_all := lw_g (lw_at lw_m6 167 rfl) rfl
theorem q1439 : (Jvm.Cond.laysFinal "Appealrent$Claim" "Appealrent$Claim" "came" "I") ∈ lw_all := lw_g (lw_at lw_m6 168 rfl) rfl
theorem q1440 : (Jvm.Cond.soleField "Appealrent$Claim" "came") ∈ lw_all := lw_g (lw_at lw_m6 169 rfl) rfl
theorem q1441 : (Jvm.Cond.laysFinal "Appealrent$Claim" "Appealrent$Claim" "cents" "I") ∈ lw_all := lw_g (lw_at lw_m6 170 rfl) rfl
theorem q1442 : (Jvm.Cond.soleField "Appealrent$Claim" "cents") ∈ lw_all := lw_g (lw_at lw_m6 171 rfl) rfl
theorem q1443 : (Jvm.Cond.lays "Appealrent$Claim" "Appealrent$Claim" "left" "I") ∈ lw_all := lw_g (lw_at lw_m6 172 rfl) rfl
theorem q1444 : (Jvm.Cond.soleField "Appealrent$Claim" "left") ∈ lw_all := lw_g (lw_at lw_m6 173 rfl) rfl
theorem q1445 : (Jvm.Cond.lays "Appealrent$Claim" "Appealrent$Claim" "state" "I") ∈ lw_all := lw_g (lw_at lw_m6 174 rfl) rfl
theorem q1446 : (Jvm.Cond.soleField "Appealrent$Claim" "state") ∈ lw_all := lw_g (lw_at lw_m6 175 rfl) rfl
theorem q1447 : (Jvm.Cond.superclass "Appealrent$Claim" "java/lang/Object") ∈ lw_all := lw_g (lw_at lw_m6 176 rfl) rfl
theorem q1675 : (Jvm.Cond.selects "Appealrent$Claim" ({ cls := "java/lang/Object", name := "toString", desc := "()Ljava/lang/String;" } : Jvm.MethodName) ({ cls := "java/lang/Object", name := "toString", desc := "()Ljava/lang/String;" } : Jvm.MethodName)) ∈ lw_all := lw_g (lw_at lw_m7 164 rfl) rfl
theorem q2246 : (Jvm.Cond.castable "Appealrent$Claim" "java/lang/Object") ∈ lw_tbl := lw_at lw_m10 15 rfl
theorem in_X11 : ∀ w ∈ wsX110, w ∈ lw_all := lw_in wsX110 [1433, 1435, 1437, 1439, 1441, 1443, 1445] (by decide +kernel) (by decide +kernel)
/-! java/util/NoSuchElementException -/
set_option maxRecDepth 100000
def RJ23 : String := "java/util/NoSuchElementException"
def TJ23 : u_T := fun k => match k with
  | 0 => ("java/lang/Throwable", "cause", "Ljava/lang/Throwable;", false)
  | 1 => ("java/lang/Throwable", "stackTrace", "[Ljava/lang/StackTraceElement;", false)
  | 2 => ("java/lang/Throwable", "suppressedExceptions", "Ljava/util/List;", false)
  | 3 => ("java/lang/Throwable", "detailMessage", "Ljava/lang/String;", false)
  | 4 => ("java/lang/Throwable", "backtrace", "Ljava/lang/Object;", false)
  | _ => ("java/lang/Throwable", "depth", "I", false)
def tyJ23 : Nat → FieldType := fun k => match k with
  | 0 => .object "java/lang/Throwable"
  | 1 => .array (.object "java/lang/StackTraceElement")
  | 2 => .object "java/util/List"
  | 3 => .object "java/lang/String"
  | 4 => .object "java/lang/Object"
  | _ => .int
abbrev wsJ230 : List Cond := u_ws RJ23 TJ23 6
theorem nmJ23 : ∀ a, a < 6 → ∀ b, b < 6 → a ≠ b → (TJ23 a).2.1 ≠ (TJ23 b).2.1 := by decide +kernel
theorem tyJ23_ok : ∀ k, k < 6 → parseFieldDescriptor (TJ23 k).2.2.1 = some (tyJ23 k) := by decide +kernel
abbrev cJ23_init : ByteArray := prog_47_method_1_code
def yJ23_init : MethodName := ⟨RJ23, "<init>", "()V"⟩
theorem dJ23_init_0 : decode cJ23_init 0 = .ok (.aload_n 0, 1) := by decide +kernel
theorem dJ23_init_1 : decode cJ23_init 1 = .ok (.invokespecial 1, 3) := by decide +kernel
theorem dJ23_init_4 : decode cJ23_init 4 = .ok (.return_, 1) := by decide +kernel
theorem q108 : (Jvm.Cond.initialized "java/util/NoSuchElementException") ∈ lw_all := lw_g (lw_at lw_m1 37 rfl) rfl
theorem q173 : (Jvm.Cond.selects "java/util/NoSuchElementException" ({ cls := "java/lang/Throwable", name := "fillInStackTrace", desc := "()Ljava/lang/Throwable;" } : Jvm.MethodName) ({ cls := "java/lang/Throwable", name := "fillInStackTrace", desc := "()Ljava/lang/Throwable;" } : Jvm.MethodName)) ∈ lw_all := lw_g (lw_at lw_m1 102 rfl) rfl
theorem q589 : (Jvm.Cond.selects "java/util/NoSuchElementException" ({ cls := "java/lang/Object", name := "getClass", desc := "()Ljava/lang/Class;" } : Jvm.MethodName) ({ cls := "java/lang/Object", name := "getClass", desc := "()Ljava/lang/Class;" } : Jvm.MethodName)) ∈ lw_all := lw_g (lw_at lw_m3 38 rfl) rfl
theorem q1691 : (Jvm.Cond.selects "java/util/NoSuchElementException" ({ cls := "java/lang/Throwable", name := "getLocalizedMessage", desc := "()Ljava/lang/String;" } : Jvm.MethodName) ({ cls := "java/lang/Throwable", name := "getLocalizedMessage", desc := "()Ljava/lang/String;" } : Jvm.MethodName)) ∈ lw_all := lw_g (lw_at lw_m7 180 rfl) rfl
theorem q1704 : (Jvm.Cond.selects "java/util/NoSuchElementException" ({ cls := "java/lang/Throwable", name := "getMessage", desc := "()Ljava/lang/String;" } : Jvm.MethodName) ({ cls := "java/lang/Throwable", name := "getMessage", desc := "()Ljava/lang/String;" } : Jvm.MethodName)) ∈ lw_all := lw_g (lw_at lw_m7 193 rfl) rfl
theorem q1740 : (Jvm.Cond.instantiable "java/util/NoSuchElementException" (6 : Nat)) ∈ lw_all := lw_g (lw_at lw_m7 229 rfl) rfl
theorem q1741 : (Jvm.Cond.castable "java/util/NoSuchElementException" "java/util/NoSuchElementException") ∈ lw_tbl := lw_at lw_m7 230 rfl
theorem q1742 : (Jvm.Cond.selects "java/util/NoSuchElementException" ({ cls := "java/lang/Throwable", name := "fillInStackTrace", desc := "(I)Ljava/lang/Throwable;" } : Jvm.MethodName) ({ cls := "java/lang/Throwable", name := "fillInStackTrace", desc := "(I)Ljava/lang/Throwable;" } : Jvm.MethodName)) ∈ lw_all := lw_g (lw_at lw_m7 231 rfl) rfl
theorem q1743 : (Jvm.Cond.lays "java/util/NoSuchElementException" "java/lang/Throwable" "cause" "Ljava/lang/Throwable;") ∈ lw_all := lw_g (lw_at lw_m7 232 rfl) rfl
theorem q1744 : (Jvm.Cond.lays "java/util/NoSuchElementException" "java/lang/Throwable" "stackTrace" "[Ljava/lang/StackTraceElement;") ∈ lw_all := lw_g (lw_at lw_m7 233 rfl) rfl
theorem q1745 : (Jvm.Cond.lays "java/util/NoSuchElementException" "java/lang/Throwable" "suppressedExceptions" "Ljava/util/List;") ∈ lw_all := lw_g (lw_at lw_m7 234 rfl) rfl
theorem q1746 : (Jvm.Cond.lays "java/util/NoSuchElementException" "java/lang/Throwable" "detailMessage" "Ljava/lang/String;") ∈ lw_all := lw_g (lw_at lw_m7 235 rfl) rfl
theorem q1747 : (Jvm.Cond.lays "java/util/NoSuchElementException" "java/lang/Throwable" "backtrace" "Ljava/lang/Object;") ∈ lw_all := lw_g (lw_at lw_m7 236 rfl) rfl
theorem q1749 : (Jvm.Cond.instanceMethod ({ cls := "java/util/NoSuchElementException", name := "<init>", desc := "()V" } : Jvm.MethodName)) ∈ lw_all := lw_g (lw_at lw_m7 238 rfl) rfl
theorem q1750 : (Jvm.Cond.code ({ cls := "java/util/NoSuchElementException", name := "<init>", desc := "()V" } : Jvm.MethodName) prog_47_method_1_code (1 : Nat) (Option.none : Option Jvm.ClassFile.FieldType)) ∈ lw_all := lw_g (lw_at lw_m7 239 rfl) rfl
theorem q1751 : (Jvm.Cond.methodLink "java/util/NoSuchElementException" (1 : Nat) ({ cls := "java/lang/RuntimeException", name := "<init>", desc := "()V" } : Jvm.MethodName)) ∈ lw_all := lw_g (lw_at lw_m8 0 rfl) rfl
theorem q1752 : (Jvm.Cond.lays "java/util/NoSuchElementException" "java/lang/Throwable" "depth" "I") ∈ lw_all := lw_g (lw_at lw_m8 1 rfl) rfl
theorem q1753 : (Jvm.Cond.superclass "java/util/NoSuchElementException" "java/lang/RuntimeException") ∈ lw_all := lw_g (lw_at lw_m8 2 rfl) rfl
theorem q2247 : (Jvm.Cond.castable "java/util/NoSuchElementException" "java/lang/Object") ∈ lw_tbl := lw_at lw_m10 16 rfl
theorem in_J23 : ∀ w ∈ wsJ230, w ∈ lw_all := lw_in wsJ230 [1743, 1744, 1745, 1746, 1747, 1752] (by decide +kernel) (by decide +kernel)
/-! java/lang/Object -/
set_option maxRecDepth 100000
def RJ24 : String := "java/lang/Object"
abbrev cJ24_init : ByteArray := object_method_1_code
def yJ24_init : MethodName := ⟨RJ24, "<init>", "()V"⟩
theorem dJ24_init_0 : decode cJ24_init 0 = .ok (.return_, 1) := by decide +kernel
theorem q115 : (Jvm.Cond.instanceMethod ({ cls := "java/lang/Object", name := "<init>", desc := "()V" } : Jvm.MethodName)) ∈ lw_all := lw_g (lw_at lw_m1 44 rfl) rfl
theorem q116 : (Jvm.Cond.code ({ cls := "java/lang/Object", name := "<init>", desc := "()V" } : Jvm.MethodName) object_method_1_code (1 : Nat) (Option.none : Option Jvm.ClassFile.FieldType)) ∈ lw_all := lw_g (lw_at lw_m1 45 rfl) rfl
theorem q249 : (Jvm.Cond.native ({ cls := "java/lang/Object", name := "clone", desc := "()Ljava/lang/Object;" } : Jvm.MethodName)) ∈ lw_all := lw_g (lw_at lw_m1 178 rfl) rfl
theorem q250 : (Jvm.Cond.instanceMethod ({ cls := "java/lang/Object", name := "clone", desc := "()Ljava/lang/Object;" } : Jvm.MethodName)) ∈ lw_all := lw_g (lw_at lw_m1 179 rfl) rfl
theorem q568 : (Jvm.Cond.instanceMethod ({ cls := "java/lang/Object", name := "getClass", desc := "()Ljava/lang/Class;" } : Jvm.MethodName)) ∈ lw_all := lw_g (lw_at lw_m3 17 rfl) rfl
theorem q569 : (Jvm.Cond.sameMethod "java/lang/Object" "java/lang/Object" "getClass" "()Ljava/lang/Class;") ∈ lw_all := lw_g (lw_at lw_m3 18 rfl) rfl
theorem q590 : (Jvm.Cond.native ({ cls := "java/lang/Object", name := "getClass", desc := "()Ljava/lang/Class;" } : Jvm.MethodName)) ∈ lw_all := lw_g (lw_at lw_m3 39 rfl) rfl
theorem q1669 : (Jvm.Cond.declares ({ cls := "java/lang/Object", name := "toString", desc := "()Ljava/lang/String;" } : Jvm.MethodName)) ∈ lw_tbl := lw_at lw_m7 158 rfl
theorem q1671 : (Jvm.Cond.instanceMethod ({ cls := "java/lang/Object", name := "toString", desc := "()Ljava/lang/String;" } : Jvm.MethodName)) ∈ lw_all := lw_g (lw_at lw_m7 160 rfl) rfl
theorem q1672 : (Jvm.Cond.sameMethod "java/lang/Object" "java/lang/Object" "toString" "()Ljava/lang/String;") ∈ lw_all := lw_g (lw_at lw_m7 161 rfl) rfl
theorem q2223 : (Jvm.Cond.initialized "java/lang/Object") ∈ lw_all := lw_g (lw_at lw_m9 232 rfl) rfl
theorem q2251 : (Jvm.Cond.declares ({ cls := "java/lang/Object", name := "getClass", desc := "()Ljava/lang/Class;" } : Jvm.MethodName)) ∈ lw_tbl := lw_at lw_m10 20 rfl
theorem q2262 : (Jvm.Cond.instantiable "java/lang/Object" (0 : Nat)) ∈ lw_all := lw_g (lw_at lw_m10 31 rfl) rfl
/-! java/lang/System$2 -/
set_option maxRecDepth 100000
def RJ25 : String := "java/lang/System$2"
abbrev cJ25_getUTF16Char : ByteArray := prog_37_method_45_code
def yJ25_getUTF16Char : MethodName := ⟨RJ25, "getUTF16Char", "([BI)C"⟩
def dkwJ25_getUTF16Char_0 : List UInt8 := [43, 28, 184, 0, 185, 172]
abbrev dktJ25_getUTF16Char_0 : List UInt8 := dkwJ25_getUTF16Char_0 ++ []
theorem dksJ25_getUTF16Char_0 : cJ25_getUTF16Char.data.toList.drop 0 = dktJ25_getUTF16Char_0 := by decide +kernel
theorem dJ25_getUTF16Char_0 : decode cJ25_getUTF16Char 0 = .ok (.aload_n 1, 1) := dk_43 (dk_at dksJ25_getUTF16Char_0 0 rfl rfl)
theorem dJ25_getUTF16Char_1 : decode cJ25_getUTF16Char 1 = .ok (.iload_n 2, 1) := dk_28 (dk_at dksJ25_getUTF16Char_0 1 rfl rfl)
theorem dJ25_getUTF16Char_2 : decode cJ25_getUTF16Char 2 = .ok (.invokestatic 185, 3) := dk_184 0 185 (dk_at dksJ25_getUTF16Char_0 2 rfl rfl)
theorem dJ25_getUTF16Char_5 : decode cJ25_getUTF16Char 5 = .ok (.ireturn, 1) := dk_172 (dk_at dksJ25_getUTF16Char_0 5 rfl rfl)
theorem q587 : (Jvm.Cond.selects "java/lang/System$2" ({ cls := "java/lang/Object", name := "getClass", desc := "()Ljava/lang/Class;" } : Jvm.MethodName) ({ cls := "java/lang/Object", name := "getClass", desc := "()Ljava/lang/Class;" } : Jvm.MethodName)) ∈ lw_all := lw_g (lw_at lw_m3 36 rfl) rfl
theorem q1189 : (Jvm.Cond.castable "java/lang/System$2" "jdk/internal/access/JavaLangAccess") ∈ lw_tbl := lw_at lw_m5 158 rfl
theorem q1190 : (Jvm.Cond.selects "java/lang/System$2" ({ cls := "jdk/internal/access/JavaLangAccess", name := "getUTF16Char", desc := "([BI)C" } : Jvm.MethodName) ({ cls := "java/lang/System$2", name := "getUTF16Char", desc := "([BI)C" } : Jvm.MethodName)) ∈ lw_all := lw_g (lw_at lw_m5 159 rfl) rfl
theorem q1191 : (Jvm.Cond.unhidden "java/lang/System$2" "getUTF16Char" "([BI)C") ∈ lw_tbl := lw_at lw_m5 160 rfl
theorem q1192 : (Jvm.Cond.instanceMethod ({ cls := "java/lang/System$2", name := "getUTF16Char", desc := "([BI)C" } : Jvm.MethodName)) ∈ lw_all := lw_g (lw_at lw_m5 161 rfl) rfl
theorem q1193 : (Jvm.Cond.publicMethod ({ cls := "java/lang/System$2", name := "getUTF16Char", desc := "([BI)C" } : Jvm.MethodName)) ∈ lw_tbl := lw_at lw_m5 162 rfl
theorem q1194 : (Jvm.Cond.code ({ cls := "java/lang/System$2", name := "getUTF16Char", desc := "([BI)C" } : Jvm.MethodName) prog_37_method_45_code (3 : Nat) (Option.some Jvm.ClassFile.FieldType.char)) ∈ lw_all := lw_g (lw_at lw_m5 163 rfl) rfl
theorem q1195 : (Jvm.Cond.methodLink "java/lang/System$2" (185 : Nat) ({ cls := "java/lang/StringUTF16", name := "getChar", desc := "([BI)C" } : Jvm.MethodName)) ∈ lw_all := lw_g (lw_at lw_m5 164 rfl) rfl
theorem q1726 : (Jvm.Cond.selects "java/lang/System$2" ({ cls := "java/lang/Object", name := "toString", desc := "()Ljava/lang/String;" } : Jvm.MethodName) ({ cls := "java/lang/Object", name := "toString", desc := "()Ljava/lang/String;" } : Jvm.MethodName)) ∈ lw_all := lw_g (lw_at lw_m7 215 rfl) rfl
theorem q2244 : (Jvm.Cond.castable "java/lang/System$2" "java/lang/Object") ∈ lw_tbl := lw_at lw_m10 13 rfl
