set_option maxRecDepth 100000
/-! StarConsoleLaw -/
def RX0 : String := "StarConsoleLaw"
abbrev cX0_dimmer : ByteArray := method_3_code
def yX0_dimmer : MethodName := ⟨RX0, "dimmer", "(LStarConsole;III[J)I"⟩
def dkwX0_dimmer_1 : List UInt8 := [172]
abbrev dktX0_dimmer_1 : List UInt8 := dkwX0_dimmer_1 ++ []
def dkwX0_dimmer_0 : List UInt8 := [25, 4, 3, 42, 27, 28, 29, 182, 0, 7, 133, 80, 167, 0, 11, 58, 5, 4, 172, 58, 5, 5, 172, 3]
abbrev dktX0_dimmer_0 : List UInt8 := dkwX0_dimmer_0 ++ dktX0_dimmer_1
theorem dksX0_dimmer_0 : cX0_dimmer.data.toList.drop 0 = dktX0_dimmer_0 := by decide +kernel
theorem dksX0_dimmer_1 : cX0_dimmer.data.toList.drop 24 = dktX0_dimmer_1 := dk_seg dksX0_dimmer_0 24 rfl rfl
theorem dX0_dimmer_0 : decode cX0_dimmer 0 = .ok (.aload 4, 2) := dk_25 4 (dk_at dksX0_dimmer_0 0 rfl rfl)
theorem dX0_dimmer_2 : decode cX0_dimmer 2 = .ok (.iconst 0, 1) := dk_3 (dk_at dksX0_dimmer_0 2 rfl rfl)
theorem dX0_dimmer_3 : decode cX0_dimmer 3 = .ok (.aload_n 0, 1) := dk_42 (dk_at dksX0_dimmer_0 3 rfl rfl)
theorem dX0_dimmer_4 : decode cX0_dimmer 4 = .ok (.iload_n 1, 1) := dk_27 (dk_at dksX0_dimmer_0 4 rfl rfl)
theorem dX0_dimmer_5 : decode cX0_dimmer 5 = .ok (.iload_n 2, 1) := dk_28 (dk_at dksX0_dimmer_0 5 rfl rfl)
theorem dX0_dimmer_6 : decode cX0_dimmer 6 = .ok (.iload_n 3, 1) := dk_29 (dk_at dksX0_dimmer_0 6 rfl rfl)
theorem dX0_dimmer_7 : decode cX0_dimmer 7 = .ok (.invokevirtual 7, 3) := dk_182 0 7 (dk_at dksX0_dimmer_0 7 rfl rfl)
theorem dX0_dimmer_10 : decode cX0_dimmer 10 = .ok (.i2l, 1) := dk_133 (dk_at dksX0_dimmer_0 10 rfl rfl)
theorem dX0_dimmer_11 : decode cX0_dimmer 11 = .ok (.lastore, 1) := dk_80 (dk_at dksX0_dimmer_0 11 rfl rfl)
theorem dX0_dimmer_12 : decode cX0_dimmer 12 = .ok (.goto 11, 3) := dk_167 0 11 (dk_at dksX0_dimmer_0 12 rfl rfl)
theorem dX0_dimmer_15 : decode cX0_dimmer 15 = .ok (.astore 5, 2) := dk_58 5 (dk_at dksX0_dimmer_0 15 rfl rfl)
theorem dX0_dimmer_17 : decode cX0_dimmer 17 = .ok (.iconst 1, 1) := dk_4 (dk_at dksX0_dimmer_0 17 rfl rfl)
theorem dX0_dimmer_18 : decode cX0_dimmer 18 = .ok (.ireturn, 1) := dk_172 (dk_at dksX0_dimmer_0 18 rfl rfl)
theorem dX0_dimmer_19 : decode cX0_dimmer 19 = .ok (.astore 5, 2) := dk_58 5 (dk_at dksX0_dimmer_0 19 rfl rfl)
theorem dX0_dimmer_21 : decode cX0_dimmer 21 = .ok (.iconst 2, 1) := dk_5 (dk_at dksX0_dimmer_0 21 rfl rfl)
theorem dX0_dimmer_22 : decode cX0_dimmer 22 = .ok (.ireturn, 1) := dk_172 (dk_at dksX0_dimmer_0 22 rfl rfl)
theorem dX0_dimmer_23 : decode cX0_dimmer 23 = .ok (.iconst 0, 1) := dk_3 (dk_at dksX0_dimmer_0 23 rfl rfl)
theorem dX0_dimmer_24 : decode cX0_dimmer 24 = .ok (.ireturn, 1) := dk_172 (dk_at dksX0_dimmer_1 0 rfl rfl)
abbrev cX0_lamp : ByteArray := method_4_code
def yX0_lamp : MethodName := ⟨RX0, "lamp", "(LStarConsole;II[J)I"⟩
def dkwX0_lamp_0 : List UInt8 := [45, 3, 42, 27, 28, 182, 0, 17, 133, 80, 167, 0, 11, 58, 4, 4, 172, 58, 4, 5, 172, 3, 172]
abbrev dktX0_lamp_0 : List UInt8 := dkwX0_lamp_0 ++ []
theorem dksX0_lamp_0 : cX0_lamp.data.toList.drop 0 = dktX0_lamp_0 := by decide +kernel
theorem dX0_lamp_0 : decode cX0_lamp 0 = .ok (.aload_n 3, 1) := dk_45 (dk_at dksX0_lamp_0 0 rfl rfl)
theorem dX0_lamp_1 : decode cX0_lamp 1 = .ok (.iconst 0, 1) := dk_3 (dk_at dksX0_lamp_0 1 rfl rfl)
theorem dX0_lamp_2 : decode cX0_lamp 2 = .ok (.aload_n 0, 1) := dk_42 (dk_at dksX0_lamp_0 2 rfl rfl)
theorem dX0_lamp_3 : decode cX0_lamp 3 = .ok (.iload_n 1, 1) := dk_27 (dk_at dksX0_lamp_0 3 rfl rfl)
theorem dX0_lamp_4 : decode cX0_lamp 4 = .ok (.iload_n 2, 1) := dk_28 (dk_at dksX0_lamp_0 4 rfl rfl)
theorem dX0_lamp_5 : decode cX0_lamp 5 = .ok (.invokevirtual 17, 3) := dk_182 0 17 (dk_at dksX0_lamp_0 5 rfl rfl)
theorem dX0_lamp_8 : decode cX0_lamp 8 = .ok (.i2l, 1) := dk_133 (dk_at dksX0_lamp_0 8 rfl rfl)
theorem dX0_lamp_9 : decode cX0_lamp 9 = .ok (.lastore, 1) := dk_80 (dk_at dksX0_lamp_0 9 rfl rfl)
theorem dX0_lamp_10 : decode cX0_lamp 10 = .ok (.goto 11, 3) := dk_167 0 11 (dk_at dksX0_lamp_0 10 rfl rfl)
theorem dX0_lamp_13 : decode cX0_lamp 13 = .ok (.astore 4, 2) := dk_58 4 (dk_at dksX0_lamp_0 13 rfl rfl)
theorem dX0_lamp_15 : decode cX0_lamp 15 = .ok (.iconst 1, 1) := dk_4 (dk_at dksX0_lamp_0 15 rfl rfl)
theorem dX0_lamp_16 : decode cX0_lamp 16 = .ok (.ireturn, 1) := dk_172 (dk_at dksX0_lamp_0 16 rfl rfl)
theorem dX0_lamp_17 : decode cX0_lamp 17 = .ok (.astore 4, 2) := dk_58 4 (dk_at dksX0_lamp_0 17 rfl rfl)
theorem dX0_lamp_19 : decode cX0_lamp 19 = .ok (.iconst 2, 1) := dk_5 (dk_at dksX0_lamp_0 19 rfl rfl)
theorem dX0_lamp_20 : decode cX0_lamp 20 = .ok (.ireturn, 1) := dk_172 (dk_at dksX0_lamp_0 20 rfl rfl)
theorem dX0_lamp_21 : decode cX0_lamp 21 = .ok (.iconst 0, 1) := dk_3 (dk_at dksX0_lamp_0 21 rfl rfl)
theorem dX0_lamp_22 : decode cX0_lamp 22 = .ok (.ireturn, 1) := dk_172 (dk_at dksX0_lamp_0 22 rfl rfl)
abbrev cX0_star : ByteArray := method_5_code
def yX0_star : MethodName := ⟨RX0, "star", "(LStarConsole;II[J)I"⟩
def dkwX0_star_0 : List UInt8 := [45, 3, 42, 27, 28, 182, 0, 23, 133, 80, 167, 0, 11, 58, 4, 4, 172, 58, 4, 5, 172, 3, 172]
abbrev dktX0_star_0 : List UInt8 := dkwX0_star_0 ++ []
theorem dksX0_star_0 : cX0_star.data.toList.drop 0 = dktX0_star_0 := by decide +kernel
theorem dX0_star_0 : decode cX0_star 0 = .ok (.aload_n 3, 1) := dk_45 (dk_at dksX0_star_0 0 rfl rfl)
theorem dX0_star_1 : decode cX0_star 1 = .ok (.iconst 0, 1) := dk_3 (dk_at dksX0_star_0 1 rfl rfl)
theorem dX0_star_2 : decode cX0_star 2 = .ok (.aload_n 0, 1) := dk_42 (dk_at dksX0_star_0 2 rfl rfl)
theorem dX0_star_3 : decode cX0_star 3 = .ok (.iload_n 1, 1) := dk_27 (dk_at dksX0_star_0 3 rfl rfl)
theorem dX0_star_4 : decode cX0_star 4 = .ok (.iload_n 2, 1) := dk_28 (dk_at dksX0_star_0 4 rfl rfl)
theorem dX0_star_5 : decode cX0_star 5 = .ok (.invokevirtual 23, 3) := dk_182 0 23 (dk_at dksX0_star_0 5 rfl rfl)
theorem dX0_star_8 : decode cX0_star 8 = .ok (.i2l, 1) := dk_133 (dk_at dksX0_star_0 8 rfl rfl)
theorem dX0_star_9 : decode cX0_star 9 = .ok (.lastore, 1) := dk_80 (dk_at dksX0_star_0 9 rfl rfl)
theorem dX0_star_10 : decode cX0_star 10 = .ok (.goto 11, 3) := dk_167 0 11 (dk_at dksX0_star_0 10 rfl rfl)
theorem dX0_star_13 : decode cX0_star 13 = .ok (.astore 4, 2) := dk_58 4 (dk_at dksX0_star_0 13 rfl rfl)
theorem dX0_star_15 : decode cX0_star 15 = .ok (.iconst 1, 1) := dk_4 (dk_at dksX0_star_0 15 rfl rfl)
theorem dX0_star_16 : decode cX0_star 16 = .ok (.ireturn, 1) := dk_172 (dk_at dksX0_star_0 16 rfl rfl)
theorem dX0_star_17 : decode cX0_star 17 = .ok (.astore 4, 2) := dk_58 4 (dk_at dksX0_star_0 17 rfl rfl)
theorem dX0_star_19 : decode cX0_star 19 = .ok (.iconst 2, 1) := dk_5 (dk_at dksX0_star_0 19 rfl rfl)
theorem dX0_star_20 : decode cX0_star 20 = .ok (.ireturn, 1) := dk_172 (dk_at dksX0_star_0 20 rfl rfl)
theorem dX0_star_21 : decode cX0_star 21 = .ok (.iconst 0, 1) := dk_3 (dk_at dksX0_star_0 21 rfl rfl)
theorem dX0_star_22 : decode cX0_star 22 = .ok (.ireturn, 1) := dk_172 (dk_at dksX0_star_0 22 rfl rfl)
abbrev cX0_cue : ByteArray := method_6_code
def yX0_cue : MethodName := ⟨RX0, "cue", "(LStarConsole;IIII[J)I"⟩
def dkwX0_cue_1 : List UInt8 := [172, 3, 172]
abbrev dktX0_cue_1 : List UInt8 := dkwX0_cue_1 ++ []
def dkwX0_cue_0 : List UInt8 := [25, 5, 3, 42, 27, 28, 29, 21, 4, 182, 0, 26, 133, 80, 167, 0, 11, 58, 6, 4, 172, 58, 6, 5]
abbrev dktX0_cue_0 : List UInt8 := dkwX0_cue_0 ++ dktX0_cue_1
theorem dksX0_cue_0 : cX0_cue.data.toList.drop 0 = dktX0_cue_0 := by decide +kernel
theorem dksX0_cue_1 : cX0_cue.data.toList.drop 24 = dktX0_cue_1 := dk_seg dksX0_cue_0 24 rfl rfl
theorem dX0_cue_0 : decode cX0_cue 0 = .ok (.aload 5, 2) := dk_25 5 (dk_at dksX0_cue_0 0 rfl rfl)
theorem dX0_cue_2 : decode cX0_cue 2 = .ok (.iconst 0, 1) := dk_3 (dk_at dksX0_cue_0 2 rfl rfl)
theorem dX0_cue_3 : decode cX0_cue 3 = .ok (.aload_n 0, 1) := dk_42 (dk_at dksX0_cue_0 3 rfl rfl)
theorem dX0_cue_4 : decode cX0_cue 4 = .ok (.iload_n 1, 1) := dk_27 (dk_at dksX0_cue_0 4 rfl rfl)
theorem dX0_cue_5 : decode cX0_cue 5 = .ok (.iload_n 2, 1) := dk_28 (dk_at dksX0_cue_0 5 rfl rfl)
theorem dX0_cue_6 : decode cX0_cue 6 = .ok (.iload_n 3, 1) := dk_29 (dk_at dksX0_cue_0 6 rfl rfl)
theorem dX0_cue_7 : decode cX0_cue 7 = .ok (.iload 4, 2) := dk_21 4 (dk_at dksX0_cue_0 7 rfl rfl)
theorem dX0_cue_9 : decode cX0_cue 9 = .ok (.invokevirtual 26, 3) := dk_182 0 26 (dk_at dksX0_cue_0 9 rfl rfl)
theorem dX0_cue_12 : decode cX0_cue 12 = .ok (.i2l, 1) := dk_133 (dk_at dksX0_cue_0 12 rfl rfl)
theorem dX0_cue_13 : decode cX0_cue 13 = .ok (.lastore, 1) := dk_80 (dk_at dksX0_cue_0 13 rfl rfl)
theorem dX0_cue_14 : decode cX0_cue 14 = .ok (.goto 11, 3) := dk_167 0 11 (dk_at dksX0_cue_0 14 rfl rfl)
theorem dX0_cue_17 : decode cX0_cue 17 = .ok (.astore 6, 2) := dk_58 6 (dk_at dksX0_cue_0 17 rfl rfl)
theorem dX0_cue_19 : decode cX0_cue 19 = .ok (.iconst 1, 1) := dk_4 (dk_at dksX0_cue_0 19 rfl rfl)
theorem dX0_cue_20 : decode cX0_cue 20 = .ok (.ireturn, 1) := dk_172 (dk_at dksX0_cue_0 20 rfl rfl)
theorem dX0_cue_21 : decode cX0_cue 21 = .ok (.astore 6, 2) := dk_58 6 (dk_at dksX0_cue_0 21 rfl rfl)
theorem dX0_cue_23 : decode cX0_cue 23 = .ok (.iconst 2, 1) := dk_5 (dk_at dksX0_cue_0 23 rfl rfl)
theorem dX0_cue_24 : decode cX0_cue 24 = .ok (.ireturn, 1) := dk_172 (dk_at dksX0_cue_1 0 rfl rfl)
theorem dX0_cue_25 : decode cX0_cue 25 = .ok (.iconst 0, 1) := dk_3 (dk_at dksX0_cue_1 1 rfl rfl)
theorem dX0_cue_26 : decode cX0_cue 26 = .ok (.ireturn, 1) := dk_172 (dk_at dksX0_cue_1 2 rfl rfl)
abbrev cX0_jump : ByteArray := method_7_code
def yX0_jump : MethodName := ⟨RX0, "jump", "(LStarConsole;I[J)I"⟩
def dkwX0_jump_0 : List UInt8 := [44, 3, 42, 27, 182, 0, 30, 133, 80, 167, 0, 6, 78, 4, 172, 3, 172]
abbrev dktX0_jump_0 : List UInt8 := dkwX0_jump_0 ++ []
theorem dksX0_jump_0 : cX0_jump.data.toList.drop 0 = dktX0_jump_0 := by decide +kernel
theorem dX0_jump_0 : decode cX0_jump 0 = .ok (.aload_n 2, 1) := dk_44 (dk_at dksX0_jump_0 0 rfl rfl)
theorem dX0_jump_1 : decode cX0_jump 1 = .ok (.iconst 0, 1) := dk_3 (dk_at dksX0_jump_0 1 rfl rfl)
theorem dX0_jump_2 : decode cX0_jump 2 = .ok (.aload_n 0, 1) := dk_42 (dk_at dksX0_jump_0 2 rfl rfl)
theorem dX0_jump_3 : decode cX0_jump 3 = .ok (.iload_n 1, 1) := dk_27 (dk_at dksX0_jump_0 3 rfl rfl)
theorem dX0_jump_4 : decode cX0_jump 4 = .ok (.invokevirtual 30, 3) := dk_182 0 30 (dk_at dksX0_jump_0 4 rfl rfl)
theorem dX0_jump_7 : decode cX0_jump 7 = .ok (.i2l, 1) := dk_133 (dk_at dksX0_jump_0 7 rfl rfl)
theorem dX0_jump_8 : decode cX0_jump 8 = .ok (.lastore, 1) := dk_80 (dk_at dksX0_jump_0 8 rfl rfl)
theorem dX0_jump_9 : decode cX0_jump 9 = .ok (.goto 6, 3) := dk_167 0 6 (dk_at dksX0_jump_0 9 rfl rfl)
theorem dX0_jump_12 : decode cX0_jump 12 = .ok (.astore_n 3, 1) := dk_78 (dk_at dksX0_jump_0 12 rfl rfl)
theorem dX0_jump_13 : decode cX0_jump 13 = .ok (.iconst 1, 1) := dk_4 (dk_at dksX0_jump_0 13 rfl rfl)
theorem dX0_jump_14 : decode cX0_jump 14 = .ok (.ireturn, 1) := dk_172 (dk_at dksX0_jump_0 14 rfl rfl)
theorem dX0_jump_15 : decode cX0_jump 15 = .ok (.iconst 0, 1) := dk_3 (dk_at dksX0_jump_0 15 rfl rfl)
theorem dX0_jump_16 : decode cX0_jump 16 = .ok (.ireturn, 1) := dk_172 (dk_at dksX0_jump_0 16 rfl rfl)
abbrev cX0_fade : ByteArray := method_8_code
def yX0_fade : MethodName := ⟨RX0, "fade", "(LStarConsole;II[J)I"⟩
def dkwX0_fade_0 : List UInt8 := [45, 3, 42, 27, 28, 182, 0, 34, 133, 80, 167, 0, 11, 58, 4, 4, 172, 58, 4, 5, 172, 3, 172]
abbrev dktX0_fade_0 : List UInt8 := dkwX0_fade_0 ++ []
theorem dksX0_fade_0 : cX0_fade.data.toList.drop 0 = dktX0_fade_0 := by decide +kernel
theorem dX0_fade_0 : decode cX0_fade 0 = .ok (.aload_n 3, 1) := dk_45 (dk_at dksX0_fade_0 0 rfl rfl)
theorem dX0_fade_1 : decode cX0_fade 1 = .ok (.iconst 0, 1) := dk_3 (dk_at dksX0_fade_0 1 rfl rfl)
theorem dX0_fade_2 : decode cX0_fade 2 = .ok (.aload_n 0, 1) := dk_42 (dk_at dksX0_fade_0 2 rfl rfl)
theorem dX0_fade_3 : decode cX0_fade 3 = .ok (.iload_n 1, 1) := dk_27 (dk_at dksX0_fade_0 3 rfl rfl)
theorem dX0_fade_4 : decode cX0_fade 4 = .ok (.iload_n 2, 1) := dk_28 (dk_at dksX0_fade_0 4 rfl rfl)
theorem dX0_fade_5 : decode cX0_fade 5 = .ok (.invokevirtual 34, 3) := dk_182 0 34 (dk_at dksX0_fade_0 5 rfl rfl)
theorem dX0_fade_8 : decode cX0_fade 8 = .ok (.i2l, 1) := dk_133 (dk_at dksX0_fade_0 8 rfl rfl)
theorem dX0_fade_9 : decode cX0_fade 9 = .ok (.lastore, 1) := dk_80 (dk_at dksX0_fade_0 9 rfl rfl)
theorem dX0_fade_10 : decode cX0_fade 10 = .ok (.goto 11, 3) := dk_167 0 11 (dk_at dksX0_fade_0 10 rfl rfl)
theorem dX0_fade_13 : decode cX0_fade 13 = .ok (.astore 4, 2) := dk_58 4 (dk_at dksX0_fade_0 13 rfl rfl)
theorem dX0_fade_15 : decode cX0_fade 15 = .ok (.iconst 1, 1) := dk_4 (dk_at dksX0_fade_0 15 rfl rfl)
theorem dX0_fade_16 : decode cX0_fade 16 = .ok (.ireturn, 1) := dk_172 (dk_at dksX0_fade_0 16 rfl rfl)
theorem dX0_fade_17 : decode cX0_fade 17 = .ok (.astore 4, 2) := dk_58 4 (dk_at dksX0_fade_0 17 rfl rfl)
theorem dX0_fade_19 : decode cX0_fade 19 = .ok (.iconst 2, 1) := dk_5 (dk_at dksX0_fade_0 19 rfl rfl)
theorem dX0_fade_20 : decode cX0_fade 20 = .ok (.ireturn, 1) := dk_172 (dk_at dksX0_fade_0 20 rfl rfl)
theorem dX0_fade_21 : decode cX0_fade 21 = .ok (.iconst 0, 1) := dk_3 (dk_at dksX0_fade_0 21 rfl rfl)
theorem dX0_fade_22 : decode cX0_fade 22 = .ok (.ireturn, 1) := dk_172 (dk_at dksX0_fade_0 22 rfl rfl)
abbrev cX0_pass : ByteArray := method_9_code
def yX0_pass : MethodName := ⟨RX0, "pass", "(LStarConsole;I[J)I"⟩
def dkwX0_pass_0 : List UInt8 := [44, 3, 42, 27, 182, 0, 37, 133, 80, 167, 0, 6, 78, 4, 172, 3, 172]
abbrev dktX0_pass_0 : List UInt8 := dkwX0_pass_0 ++ []
theorem dksX0_pass_0 : cX0_pass.data.toList.drop 0 = dktX0_pass_0 := by decide +kernel
theorem dX0_pass_0 : decode cX0_pass 0 = .ok (.aload_n 2, 1) := dk_44 (dk_at dksX0_pass_0 0 rfl rfl)
theorem dX0_pass_1 : decode cX0_pass 1 = .ok (.iconst 0, 1) := dk_3 (dk_at dksX0_pass_0 1 rfl rfl)
theorem dX0_pass_2 : decode cX0_pass 2 = .ok (.aload_n 0, 1) := dk_42 (dk_at dksX0_pass_0 2 rfl rfl)
theorem dX0_pass_3 : decode cX0_pass 3 = .ok (.iload_n 1, 1) := dk_27 (dk_at dksX0_pass_0 3 rfl rfl)
theorem dX0_pass_4 : decode cX0_pass 4 = .ok (.invokevirtual 37, 3) := dk_182 0 37 (dk_at dksX0_pass_0 4 rfl rfl)
theorem dX0_pass_7 : decode cX0_pass 7 = .ok (.i2l, 1) := dk_133 (dk_at dksX0_pass_0 7 rfl rfl)
theorem dX0_pass_8 : decode cX0_pass 8 = .ok (.lastore, 1) := dk_80 (dk_at dksX0_pass_0 8 rfl rfl)
theorem dX0_pass_9 : decode cX0_pass 9 = .ok (.goto 6, 3) := dk_167 0 6 (dk_at dksX0_pass_0 9 rfl rfl)
theorem dX0_pass_12 : decode cX0_pass 12 = .ok (.astore_n 3, 1) := dk_78 (dk_at dksX0_pass_0 12 rfl rfl)
theorem dX0_pass_13 : decode cX0_pass 13 = .ok (.iconst 1, 1) := dk_4 (dk_at dksX0_pass_0 13 rfl rfl)
theorem dX0_pass_14 : decode cX0_pass 14 = .ok (.ireturn, 1) := dk_172 (dk_at dksX0_pass_0 14 rfl rfl)
theorem dX0_pass_15 : decode cX0_pass 15 = .ok (.iconst 0, 1) := dk_3 (dk_at dksX0_pass_0 15 rfl rfl)
theorem dX0_pass_16 : decode cX0_pass 16 = .ok (.ireturn, 1) := dk_172 (dk_at dksX0_pass_0 16 rfl rfl)
abbrev cX0_told : ByteArray := method_10_code
def yX0_told : MethodName := ⟨RX0, "told", "(LStarConsole;II[J)I"⟩
def dkwX0_told_0 : List UInt8 := [45, 3, 42, 27, 28, 182, 0, 40, 133, 80, 167, 0, 7, 58, 4, 4, 172, 3, 172]
abbrev dktX0_told_0 : List UInt8 := dkwX0_told_0 ++ []
theorem dksX0_told_0 : cX0_told.data.toList.drop 0 = dktX0_told_0 := by decide +kernel
theorem dX0_told_0 : decode cX0_told 0 = .ok (.aload_n 3, 1) := dk_45 (dk_at dksX0_told_0 0 rfl rfl)
theorem dX0_told_1 : decode cX0_told 1 = .ok (.iconst 0, 1) := dk_3 (dk_at dksX0_told_0 1 rfl rfl)
theorem dX0_told_2 : decode cX0_told 2 = .ok (.aload_n 0, 1) := dk_42 (dk_at dksX0_told_0 2 rfl rfl)
theorem dX0_told_3 : decode cX0_told 3 = .ok (.iload_n 1, 1) := dk_27 (dk_at dksX0_told_0 3 rfl rfl)
theorem dX0_told_4 : decode cX0_told 4 = .ok (.iload_n 2, 1) := dk_28 (dk_at dksX0_told_0 4 rfl rfl)
theorem dX0_told_5 : decode cX0_told 5 = .ok (.invokevirtual 40, 3) := dk_182 0 40 (dk_at dksX0_told_0 5 rfl rfl)
theorem dX0_told_8 : decode cX0_told 8 = .ok (.i2l, 1) := dk_133 (dk_at dksX0_told_0 8 rfl rfl)
theorem dX0_told_9 : decode cX0_told 9 = .ok (.lastore, 1) := dk_80 (dk_at dksX0_told_0 9 rfl rfl)
theorem dX0_told_10 : decode cX0_told 10 = .ok (.goto 7, 3) := dk_167 0 7 (dk_at dksX0_told_0 10 rfl rfl)
theorem dX0_told_13 : decode cX0_told 13 = .ok (.astore 4, 2) := dk_58 4 (dk_at dksX0_told_0 13 rfl rfl)
theorem dX0_told_15 : decode cX0_told 15 = .ok (.iconst 1, 1) := dk_4 (dk_at dksX0_told_0 15 rfl rfl)
theorem dX0_told_16 : decode cX0_told 16 = .ok (.ireturn, 1) := dk_172 (dk_at dksX0_told_0 16 rfl rfl)
theorem dX0_told_17 : decode cX0_told 17 = .ok (.iconst 0, 1) := dk_3 (dk_at dksX0_told_0 17 rfl rfl)
theorem dX0_told_18 : decode cX0_told 18 = .ok (.ireturn, 1) := dk_172 (dk_at dksX0_told_0 18 rfl rfl)
abbrev cX0_glare : ByteArray := method_11_code
def yX0_glare : MethodName := ⟨RX0, "glare", "(LStarConsole;I[J)I"⟩
def dkwX0_glare_0 : List UInt8 := [44, 3, 42, 27, 182, 0, 43, 133, 80, 167, 0, 6, 78, 4, 172, 3, 172]
abbrev dktX0_glare_0 : List UInt8 := dkwX0_glare_0 ++ []
theorem dksX0_glare_0 : cX0_glare.data.toList.drop 0 = dktX0_glare_0 := by decide +kernel
theorem dX0_glare_0 : decode cX0_glare 0 = .ok (.aload_n 2, 1) := dk_44 (dk_at dksX0_glare_0 0 rfl rfl)
theorem dX0_glare_1 : decode cX0_glare 1 = .ok (.iconst 0, 1) := dk_3 (dk_at dksX0_glare_0 1 rfl rfl)
theorem dX0_glare_2 : decode cX0_glare 2 = .ok (.aload_n 0, 1) := dk_42 (dk_at dksX0_glare_0 2 rfl rfl)
theorem dX0_glare_3 : decode cX0_glare 3 = .ok (.iload_n 1, 1) := dk_27 (dk_at dksX0_glare_0 3 rfl rfl)
theorem dX0_glare_4 : decode cX0_glare 4 = .ok (.invokevirtual 43, 3) := dk_182 0 43 (dk_at dksX0_glare_0 4 rfl rfl)
theorem dX0_glare_7 : decode cX0_glare 7 = .ok (.i2l, 1) := dk_133 (dk_at dksX0_glare_0 7 rfl rfl)
theorem dX0_glare_8 : decode cX0_glare 8 = .ok (.lastore, 1) := dk_80 (dk_at dksX0_glare_0 8 rfl rfl)
theorem dX0_glare_9 : decode cX0_glare 9 = .ok (.goto 6, 3) := dk_167 0 6 (dk_at dksX0_glare_0 9 rfl rfl)
theorem dX0_glare_12 : decode cX0_glare 12 = .ok (.astore_n 3, 1) := dk_78 (dk_at dksX0_glare_0 12 rfl rfl)
theorem dX0_glare_13 : decode cX0_glare 13 = .ok (.iconst 1, 1) := dk_4 (dk_at dksX0_glare_0 13 rfl rfl)
theorem dX0_glare_14 : decode cX0_glare 14 = .ok (.ireturn, 1) := dk_172 (dk_at dksX0_glare_0 14 rfl rfl)
theorem dX0_glare_15 : decode cX0_glare 15 = .ok (.iconst 0, 1) := dk_3 (dk_at dksX0_glare_0 15 rfl rfl)
theorem dX0_glare_16 : decode cX0_glare 16 = .ok (.ireturn, 1) := dk_172 (dk_at dksX0_glare_0 16 rfl rfl)
abbrev cX0_about : ByteArray := method_12_code
def yX0_about : MethodName := ⟨RX0, "about", "(LStarConsole;II[J)I"⟩
def dkwX0_about_0 : List UInt8 := [45, 3, 42, 27, 28, 182, 0, 46, 133, 80, 167, 0, 7, 58, 4, 4, 172, 3, 172]
abbrev dktX0_about_0 : List UInt8 := dkwX0_about_0 ++ []
theorem dksX0_about_0 : cX0_about.data.toList.drop 0 = dktX0_about_0 := by decide +kernel
theorem dX0_about_0 : decode cX0_about 0 = .ok (.aload_n 3, 1) := dk_45 (dk_at dksX0_about_0 0 rfl rfl)
theorem dX0_about_1 : decode cX0_about 1 = .ok (.iconst 0, 1) := dk_3 (dk_at dksX0_about_0 1 rfl rfl)
theorem dX0_about_2 : decode cX0_about 2 = .ok (.aload_n 0, 1) := dk_42 (dk_at dksX0_about_0 2 rfl rfl)
theorem dX0_about_3 : decode cX0_about 3 = .ok (.iload_n 1, 1) := dk_27 (dk_at dksX0_about_0 3 rfl rfl)
theorem dX0_about_4 : decode cX0_about 4 = .ok (.iload_n 2, 1) := dk_28 (dk_at dksX0_about_0 4 rfl rfl)
theorem dX0_about_5 : decode cX0_about 5 = .ok (.invokevirtual 46, 3) := dk_182 0 46 (dk_at dksX0_about_0 5 rfl rfl)
theorem dX0_about_8 : decode cX0_about 8 = .ok (.i2l, 1) := dk_133 (dk_at dksX0_about_0 8 rfl rfl)
theorem dX0_about_9 : decode cX0_about 9 = .ok (.lastore, 1) := dk_80 (dk_at dksX0_about_0 9 rfl rfl)
theorem dX0_about_10 : decode cX0_about 10 = .ok (.goto 7, 3) := dk_167 0 7 (dk_at dksX0_about_0 10 rfl rfl)
theorem dX0_about_13 : decode cX0_about 13 = .ok (.astore 4, 2) := dk_58 4 (dk_at dksX0_about_0 13 rfl rfl)
theorem dX0_about_15 : decode cX0_about 15 = .ok (.iconst 1, 1) := dk_4 (dk_at dksX0_about_0 15 rfl rfl)
theorem dX0_about_16 : decode cX0_about 16 = .ok (.ireturn, 1) := dk_172 (dk_at dksX0_about_0 16 rfl rfl)
theorem dX0_about_17 : decode cX0_about 17 = .ok (.iconst 0, 1) := dk_3 (dk_at dksX0_about_0 17 rfl rfl)
theorem dX0_about_18 : decode cX0_about 18 = .ok (.ireturn, 1) := dk_172 (dk_at dksX0_about_0 18 rfl rfl)
abbrev cX0_comet : ByteArray := method_13_code
def yX0_comet : MethodName := ⟨RX0, "comet", "(LStarConsole;II[J)I"⟩
def dkwX0_comet_0 : List UInt8 := [45, 3, 42, 27, 28, 182, 0, 49, 133, 80, 167, 0, 7, 58, 4, 4, 172, 3, 172]
abbrev dktX0_comet_0 : List UInt8 := dkwX0_comet_0 ++ []
theorem dksX0_comet_0 : cX0_comet.data.toList.drop 0 = dktX0_comet_0 := by decide +kernel
theorem dX0_comet_0 : decode cX0_comet 0 = .ok (.aload_n 3, 1) := dk_45 (dk_at dksX0_comet_0 0 rfl rfl)
theorem dX0_comet_1 : decode cX0_comet 1 = .ok (.iconst 0, 1) := dk_3 (dk_at dksX0_comet_0 1 rfl rfl)
theorem dX0_comet_2 : decode cX0_comet 2 = .ok (.aload_n 0, 1) := dk_42 (dk_at dksX0_comet_0 2 rfl rfl)
theorem dX0_comet_3 : decode cX0_comet 3 = .ok (.iload_n 1, 1) := dk_27 (dk_at dksX0_comet_0 3 rfl rfl)
theorem dX0_comet_4 : decode cX0_comet 4 = .ok (.iload_n 2, 1) := dk_28 (dk_at dksX0_comet_0 4 rfl rfl)
theorem dX0_comet_5 : decode cX0_comet 5 = .ok (.invokevirtual 49, 3) := dk_182 0 49 (dk_at dksX0_comet_0 5 rfl rfl)
theorem dX0_comet_8 : decode cX0_comet 8 = .ok (.i2l, 1) := dk_133 (dk_at dksX0_comet_0 8 rfl rfl)
theorem dX0_comet_9 : decode cX0_comet 9 = .ok (.lastore, 1) := dk_80 (dk_at dksX0_comet_0 9 rfl rfl)
theorem dX0_comet_10 : decode cX0_comet 10 = .ok (.goto 7, 3) := dk_167 0 7 (dk_at dksX0_comet_0 10 rfl rfl)
theorem dX0_comet_13 : decode cX0_comet 13 = .ok (.astore 4, 2) := dk_58 4 (dk_at dksX0_comet_0 13 rfl rfl)
theorem dX0_comet_15 : decode cX0_comet 15 = .ok (.iconst 1, 1) := dk_4 (dk_at dksX0_comet_0 15 rfl rfl)
theorem dX0_comet_16 : decode cX0_comet 16 = .ok (.ireturn, 1) := dk_172 (dk_at dksX0_comet_0 16 rfl rfl)
theorem dX0_comet_17 : decode cX0_comet 17 = .ok (.iconst 0, 1) := dk_3 (dk_at dksX0_comet_0 17 rfl rfl)
theorem dX0_comet_18 : decode cX0_comet 18 = .ok (.ireturn, 1) := dk_172 (dk_at dksX0_comet_0 18 rfl rfl)
abbrev cX0_count : ByteArray := method_14_code
def yX0_count : MethodName := ⟨RX0, "count", "(LStarConsole;I[J)I"⟩
def dkwX0_count_0 : List UInt8 := [44, 3, 42, 27, 182, 0, 52, 133, 80, 167, 0, 6, 78, 4, 172, 3, 172]
abbrev dktX0_count_0 : List UInt8 := dkwX0_count_0 ++ []
theorem dksX0_count_0 : cX0_count.data.toList.drop 0 = dktX0_count_0 := by decide +kernel
theorem dX0_count_0 : decode cX0_count 0 = .ok (.aload_n 2, 1) := dk_44 (dk_at dksX0_count_0 0 rfl rfl)
theorem dX0_count_1 : decode cX0_count 1 = .ok (.iconst 0, 1) := dk_3 (dk_at dksX0_count_0 1 rfl rfl)
theorem dX0_count_2 : decode cX0_count 2 = .ok (.aload_n 0, 1) := dk_42 (dk_at dksX0_count_0 2 rfl rfl)
theorem dX0_count_3 : decode cX0_count 3 = .ok (.iload_n 1, 1) := dk_27 (dk_at dksX0_count_0 3 rfl rfl)
theorem dX0_count_4 : decode cX0_count 4 = .ok (.invokevirtual 52, 3) := dk_182 0 52 (dk_at dksX0_count_0 4 rfl rfl)
theorem dX0_count_7 : decode cX0_count 7 = .ok (.i2l, 1) := dk_133 (dk_at dksX0_count_0 7 rfl rfl)
theorem dX0_count_8 : decode cX0_count 8 = .ok (.lastore, 1) := dk_80 (dk_at dksX0_count_0 8 rfl rfl)
theorem dX0_count_9 : decode cX0_count 9 = .ok (.goto 6, 3) := dk_167 0 6 (dk_at dksX0_count_0 9 rfl rfl)
theorem dX0_count_12 : decode cX0_count 12 = .ok (.astore_n 3, 1) := dk_78 (dk_at dksX0_count_0 12 rfl rfl)
theorem dX0_count_13 : decode cX0_count 13 = .ok (.iconst 1, 1) := dk_4 (dk_at dksX0_count_0 13 rfl rfl)
theorem dX0_count_14 : decode cX0_count 14 = .ok (.ireturn, 1) := dk_172 (dk_at dksX0_count_0 14 rfl rfl)
theorem dX0_count_15 : decode cX0_count 15 = .ok (.iconst 0, 1) := dk_3 (dk_at dksX0_count_0 15 rfl rfl)
theorem dX0_count_16 : decode cX0_count 16 = .ok (.ireturn, 1) := dk_172 (dk_at dksX0_count_0 16 rfl rfl)
abbrev cX0_when : ByteArray := method_15_code
def yX0_when : MethodName := ⟨RX0, "when", "(LStarConsole;I[J)I"⟩
def dkwX0_when_0 : List UInt8 := [44, 3, 42, 27, 182, 0, 55, 133, 80, 167, 0, 6, 78, 4, 172, 3, 172]
abbrev dktX0_when_0 : List UInt8 := dkwX0_when_0 ++ []
theorem dksX0_when_0 : cX0_when.data.toList.drop 0 = dktX0_when_0 := by decide +kernel
theorem dX0_when_0 : decode cX0_when 0 = .ok (.aload_n 2, 1) := dk_44 (dk_at dksX0_when_0 0 rfl rfl)
theorem dX0_when_1 : decode cX0_when 1 = .ok (.iconst 0, 1) := dk_3 (dk_at dksX0_when_0 1 rfl rfl)
theorem dX0_when_2 : decode cX0_when 2 = .ok (.aload_n 0, 1) := dk_42 (dk_at dksX0_when_0 2 rfl rfl)
theorem dX0_when_3 : decode cX0_when 3 = .ok (.iload_n 1, 1) := dk_27 (dk_at dksX0_when_0 3 rfl rfl)
theorem dX0_when_4 : decode cX0_when 4 = .ok (.invokevirtual 55, 3) := dk_182 0 55 (dk_at dksX0_when_0 4 rfl rfl)
theorem dX0_when_7 : decode cX0_when 7 = .ok (.i2l, 1) := dk_133 (dk_at dksX0_when_0 7 rfl rfl)
theorem dX0_when_8 : decode cX0_when 8 = .ok (.lastore, 1) := dk_80 (dk_at dksX0_when_0 8 rfl rfl)
theorem dX0_when_9 : decode cX0_when 9 = .ok (.goto 6, 3) := dk_167 0 6 (dk_at dksX0_when_0 9 rfl rfl)
theorem dX0_when_12 : decode cX0_when 12 = .ok (.astore_n 3, 1) := dk_78 (dk_at dksX0_when_0 12 rfl rfl)
theorem dX0_when_13 : decode cX0_when 13 = .ok (.iconst 1, 1) := dk_4 (dk_at dksX0_when_0 13 rfl rfl)
theorem dX0_when_14 : decode cX0_when 14 = .ok (.ireturn, 1) := dk_172 (dk_at dksX0_when_0 14 rfl rfl)
theorem dX0_when_15 : decode cX0_when 15 = .ok (.iconst 0, 1) := dk_3 (dk_at dksX0_when_0 15 rfl rfl)
theorem dX0_when_16 : decode cX0_when 16 = .ok (.ireturn, 1) := dk_172 (dk_at dksX0_when_0 16 rfl rfl)
abbrev cX0_lasts : ByteArray := method_16_code
def yX0_lasts : MethodName := ⟨RX0, "lasts", "(LStarConsole;I[J)I"⟩
def dkwX0_lasts_0 : List UInt8 := [44, 3, 42, 27, 182, 0, 58, 133, 80, 167, 0, 6, 78, 4, 172, 3, 172]
abbrev dktX0_lasts_0 : List UInt8 := dkwX0_lasts_0 ++ []
theorem dksX0_lasts_0 : cX0_lasts.data.toList.drop 0 = dktX0_lasts_0 := by decide +kernel
theorem dX0_lasts_0 : decode cX0_lasts 0 = .ok (.aload_n 2, 1) := dk_44 (dk_at dksX0_lasts_0 0 rfl rfl)
theorem dX0_lasts_1 : decode cX0_lasts 1 = .ok (.iconst 0, 1) := dk_3 (dk_at dksX0_lasts_0 1 rfl rfl)
theorem dX0_lasts_2 : decode cX0_lasts 2 = .ok (.aload_n 0, 1) := dk_42 (dk_at dksX0_lasts_0 2 rfl rfl)
theorem dX0_lasts_3 : decode cX0_lasts 3 = .ok (.iload_n 1, 1) := dk_27 (dk_at dksX0_lasts_0 3 rfl rfl)
theorem dX0_lasts_4 : decode cX0_lasts 4 = .ok (.invokevirtual 58, 3) := dk_182 0 58 (dk_at dksX0_lasts_0 4 rfl rfl)
theorem dX0_lasts_7 : decode cX0_lasts 7 = .ok (.i2l, 1) := dk_133 (dk_at dksX0_lasts_0 7 rfl rfl)
theorem dX0_lasts_8 : decode cX0_lasts 8 = .ok (.lastore, 1) := dk_80 (dk_at dksX0_lasts_0 8 rfl rfl)
theorem dX0_lasts_9 : decode cX0_lasts 9 = .ok (.goto 6, 3) := dk_167 0 6 (dk_at dksX0_lasts_0 9 rfl rfl)
theorem dX0_lasts_12 : decode cX0_lasts 12 = .ok (.astore_n 3, 1) := dk_78 (dk_at dksX0_lasts_0 12 rfl rfl)
theorem dX0_lasts_13 : decode cX0_lasts 13 = .ok (.iconst 1, 1) := dk_4 (dk_at dksX0_lasts_0 13 rfl rfl)
theorem dX0_lasts_14 : decode cX0_lasts 14 = .ok (.ireturn, 1) := dk_172 (dk_at dksX0_lasts_0 14 rfl rfl)
theorem dX0_lasts_15 : decode cX0_lasts 15 = .ok (.iconst 0, 1) := dk_3 (dk_at dksX0_lasts_0 15 rfl rfl)
theorem dX0_lasts_16 : decode cX0_lasts 16 = .ok (.ireturn, 1) := dk_172 (dk_at dksX0_lasts_0 16 rfl rfl)
abbrev cX0_foresee : ByteArray := method_17_code
def yX0_foresee : MethodName := ⟨RX0, "foresee", "(LStarConsole;II[J)I"⟩
def dkwX0_foresee_0 : List UInt8 := [45, 3, 42, 27, 28, 182, 0, 61, 133, 80, 167, 0, 11, 58, 4, 4, 172, 58, 4, 5, 172, 3, 172]
abbrev dktX0_foresee_0 : List UInt8 := dkwX0_foresee_0 ++ []
theorem dksX0_foresee_0 : cX0_foresee.data.toList.drop 0 = dktX0_foresee_0 := by decide +kernel
theorem dX0_foresee_0 : decode cX0_foresee 0 = .ok (.aload_n 3, 1) := dk_45 (dk_at dksX0_foresee_0 0 rfl rfl)
theorem dX0_foresee_1 : decode cX0_foresee 1 = .ok (.iconst 0, 1) := dk_3 (dk_at dksX0_foresee_0 1 rfl rfl)
theorem dX0_foresee_2 : decode cX0_foresee 2 = .ok (.aload_n 0, 1) := dk_42 (dk_at dksX0_foresee_0 2 rfl rfl)
theorem dX0_foresee_3 : decode cX0_foresee 3 = .ok (.iload_n 1, 1) := dk_27 (dk_at dksX0_foresee_0 3 rfl rfl)
theorem dX0_foresee_4 : decode cX0_foresee 4 = .ok (.iload_n 2, 1) := dk_28 (dk_at dksX0_foresee_0 4 rfl rfl)
theorem dX0_foresee_5 : decode cX0_foresee 5 = .ok (.invokevirtual 61, 3) := dk_182 0 61 (dk_at dksX0_foresee_0 5 rfl rfl)
theorem dX0_foresee_8 : decode cX0_foresee 8 = .ok (.i2l, 1) := dk_133 (dk_at dksX0_foresee_0 8 rfl rfl)
theorem dX0_foresee_9 : decode cX0_foresee 9 = .ok (.lastore, 1) := dk_80 (dk_at dksX0_foresee_0 9 rfl rfl)
theorem dX0_foresee_10 : decode cX0_foresee 10 = .ok (.goto 11, 3) := dk_167 0 11 (dk_at dksX0_foresee_0 10 rfl rfl)
theorem dX0_foresee_13 : decode cX0_foresee 13 = .ok (.astore 4, 2) := dk_58 4 (dk_at dksX0_foresee_0 13 rfl rfl)
theorem dX0_foresee_15 : decode cX0_foresee 15 = .ok (.iconst 1, 1) := dk_4 (dk_at dksX0_foresee_0 15 rfl rfl)
theorem dX0_foresee_16 : decode cX0_foresee 16 = .ok (.ireturn, 1) := dk_172 (dk_at dksX0_foresee_0 16 rfl rfl)
theorem dX0_foresee_17 : decode cX0_foresee 17 = .ok (.astore 4, 2) := dk_58 4 (dk_at dksX0_foresee_0 17 rfl rfl)
theorem dX0_foresee_19 : decode cX0_foresee 19 = .ok (.iconst 2, 1) := dk_5 (dk_at dksX0_foresee_0 19 rfl rfl)
theorem dX0_foresee_20 : decode cX0_foresee 20 = .ok (.ireturn, 1) := dk_172 (dk_at dksX0_foresee_0 20 rfl rfl)
theorem dX0_foresee_21 : decode cX0_foresee 21 = .ok (.iconst 0, 1) := dk_3 (dk_at dksX0_foresee_0 21 rfl rfl)
theorem dX0_foresee_22 : decode cX0_foresee 22 = .ok (.ireturn, 1) := dk_172 (dk_at dksX0_foresee_0 22 rfl rfl)
theorem q30 : (Jvm.Cond.initialized "StarConsoleLaw") ∈ lw_all := lw_g (lw_at lw_m1 0 rfl) rfl
theorem q58 : (Jvm.Cond.classLink "StarConsoleLaw" (8 : Nat) "StarConsole") ∈ lw_all := lw_g (lw_at lw_m1 28 rfl) rfl
theorem q60 : (Jvm.Cond.methodLink "StarConsoleLaw" (64 : Nat) ({ cls := "StarConsole", name := "<init>", desc := "()V" } : Jvm.MethodName)) ∈ lw_all := lw_g (lw_at lw_m1 30 rfl) rfl
theorem q153 : (Jvm.Cond.methodLink "StarConsoleLaw" (89 : Nat) ({ cls := "StarConsole", name := "run", desc := "()Z" } : Jvm.MethodName)) ∈ lw_all := lw_g (lw_at lw_m1 123 rfl) rfl
theorem q157 : (Jvm.Cond.methodLink "StarConsoleLaw" (119 : Nat) ({ cls := "StarConsole", name := "next", desc := "()I" } : Jvm.MethodName)) ∈ lw_all := lw_g (lw_at lw_m1 127 rfl) rfl
theorem q184 : (Jvm.Cond.methodLink "StarConsoleLaw" (132 : Nat) ({ cls := "StarConsole", name := "darkest", desc := "()I" } : Jvm.MethodName)) ∈ lw_all := lw_g (lw_at lw_m1 154 rfl) rfl
theorem q199 : (Jvm.Cond.methodLink "StarConsoleLaw" (136 : Nat) ({ cls := "StarConsole", name := "mean", desc := "()D" } : Jvm.MethodName)) ∈ lw_all := lw_g (lw_at lw_m1 169 rfl) rfl
theorem q204 : (Jvm.Cond.methodLink "StarConsoleLaw" (141 : Nat) ({ cls := "StarConsole", name := "digest", desc := "()J" } : Jvm.MethodName)) ∈ lw_all := lw_g (lw_at lw_m1 174 rfl) rfl
theorem q292 : (Jvm.Cond.methodLink "StarConsoleLaw" (68 : Nat) ({ cls := "StarConsoleLaw", name := "dimmer", desc := "(LStarConsole;III[J)I" } : Jvm.MethodName)) ∈ lw_all := lw_g (lw_at lw_m2 22 rfl) rfl
theorem q293 : (Jvm.Cond.static ({ cls := "StarConsoleLaw", name := "dimmer", desc := "(LStarConsole;III[J)I" } : Jvm.MethodName)) ∈ lw_all := lw_g (lw_at lw_m2 23 rfl) rfl
theorem q294 : (Jvm.Cond.codeWith ({ cls := "StarConsoleLaw", name := "dimmer", desc := "(LStarConsole;III[J)I" } : Jvm.MethodName) method_3_code (6 : Nat) (Option.some Jvm.ClassFile.FieldType.int) [((0 : Nat), (12 : Nat), (15 : Nat), (13 : Nat)), ((0 : Nat), (12 : Nat), (19 : Nat), (15 : Nat))]) ∈ lw_all := lw_g (lw_at lw_m2 24 rfl) rfl
theorem q295 : (Jvm.Cond.classLink "StarConsoleLaw" (13 : Nat) "java/lang/IllegalArgumentException") ∈ lw_all := lw_g (lw_at lw_m2 25 rfl) rfl
theorem q296 : (Jvm.Cond.classLink "StarConsoleLaw" (15 : Nat) "java/lang/IllegalStateException") ∈ lw_all := lw_g (lw_at lw_m2 26 rfl) rfl
theorem q297 : (Jvm.Cond.methodLink "StarConsoleLaw" (7 : Nat) ({ cls := "StarConsole", name := "dimmer", desc := "(III)I" } : Jvm.MethodName)) ∈ lw_all := lw_g (lw_at lw_m2 27 rfl) rfl
theorem q484 : (Jvm.Cond.methodLink "StarConsoleLaw" (78 : Nat) ({ cls := "StarConsoleLaw", name := "lamp", desc := "(LStarConsole;II[J)I" } : Jvm.MethodName)) ∈ lw_all := lw_g (lw_at lw_m2 214 rfl) rfl
theorem q485 : (Jvm.Cond.static ({ cls := "StarConsoleLaw", name := "lamp", desc := "(LStarConsole;II[J)I" } : Jvm.MethodName)) ∈ lw_all := lw_g (lw_at lw_m2 215 rfl) rfl
theorem q486 : (Jvm.Cond.codeWith ({ cls := "StarConsoleLaw", name := "lamp", desc := "(LStarConsole;II[J)I" } : Jvm.MethodName) method_4_code (5 : Nat) (Option.some Jvm.ClassFile.FieldType.int) [((0 : Nat), (10 : Nat), (13 : Nat), (21 : Nat)), ((0 : Nat), (10 : Nat), (17 : Nat), (13 : Nat))]) ∈ lw_all := lw_g (lw_at lw_m2 216 rfl) rfl
theorem q487 : (Jvm.Cond.classLink "StarConsoleLaw" (21 : Nat) "java/lang/IndexOutOfBoundsException") ∈ lw_all := lw_g (lw_at lw_m2 217 rfl) rfl
theorem q520 : (Jvm.Cond.methodLink "StarConsoleLaw" (17 : Nat) ({ cls := "StarConsole", name := "lamp", desc := "(II)I" } : Jvm.MethodName)) ∈ lw_all := lw_g (lw_at lw_m3 10 rfl) rfl
theorem q568 : (Jvm.Cond.methodLink "StarConsoleLaw" (82 : Nat) ({ cls := "StarConsoleLaw", name := "star", desc := "(LStarConsole;II[J)I" } : Jvm.MethodName)) ∈ lw_all := lw_g (lw_at lw_m3 58 rfl) rfl
theorem q569 : (Jvm.Cond.static ({ cls := "StarConsoleLaw", name := "star", desc := "(LStarConsole;II[J)I" } : Jvm.MethodName)) ∈ lw_all := lw_g (lw_at lw_m3 59 rfl) rfl
theorem q570 : (Jvm.Cond.codeWith ({ cls := "StarConsoleLaw", name := "star", desc := "(LStarConsole;II[J)I" } : Jvm.MethodName) method_5_code (5 : Nat) (Option.some Jvm.ClassFile.FieldType.int) [((0 : Nat), (10 : Nat), (13 : Nat), (13 : Nat)), ((0 : Nat), (10 : Nat), (17 : Nat), (15 : Nat))]) ∈ lw_all := lw_g (lw_at lw_m3 60 rfl) rfl
theorem q571 : (Jvm.Cond.methodLink "StarConsoleLaw" (23 : Nat) ({ cls := "StarConsole", name := "star", desc := "(II)I" } : Jvm.MethodName)) ∈ lw_all := lw_g (lw_at lw_m3 61 rfl) rfl
theorem q590 : (Jvm.Cond.methodLink "StarConsoleLaw" (85 : Nat) ({ cls := "StarConsoleLaw", name := "cue", desc := "(LStarConsole;IIII[J)I" } : Jvm.MethodName)) ∈ lw_all := lw_g (lw_at lw_m3 80 rfl) rfl
theorem q591 : (Jvm.Cond.static ({ cls := "StarConsoleLaw", name := "cue", desc := "(LStarConsole;IIII[J)I" } : Jvm.MethodName)) ∈ lw_all := lw_g (lw_at lw_m3 81 rfl) rfl
theorem q592 : (Jvm.Cond.codeWith ({ cls := "StarConsoleLaw", name := "cue", desc := "(LStarConsole;IIII[J)I" } : Jvm.MethodName) method_6_code (7 : Nat) (Option.some Jvm.ClassFile.FieldType.int) [((0 : Nat), (14 : Nat), (17 : Nat), (13 : Nat)), ((0 : Nat), (14 : Nat), (21 : Nat), (15 : Nat))]) ∈ lw_all := lw_g (lw_at lw_m3 82 rfl) rfl
theorem q593 : (Jvm.Cond.methodLink "StarConsoleLaw" (26 : Nat) ({ cls := "StarConsole", name := "cue", desc := "(IIII)I" } : Jvm.MethodName)) ∈ lw_all := lw_g (lw_at lw_m3 83 rfl) rfl
theorem q651 : (Jvm.Cond.methodLink "StarConsoleLaw" (94 : Nat) ({ cls := "StarConsoleLaw", name := "jump", desc := "(LStarConsole;I[J)I" } : Jvm.MethodName)) ∈ lw_all := lw_g (lw_at lw_m3 141 rfl) rfl
theorem q652 : (Jvm.Cond.static ({ cls := "StarConsoleLaw", name := "jump", desc := "(LStarConsole;I[J)I" } : Jvm.MethodName)) ∈ lw_all := lw_g (lw_at lw_m3 142 rfl) rfl
theorem q653 : (Jvm.Cond.codeWith ({ cls := "StarConsoleLaw", name := "jump", desc := "(LStarConsole;I[J)I" } : Jvm.MethodName) method_7_code (4 : Nat) (Option.some Jvm.ClassFile.FieldType.int) [((0 : Nat), (9 : Nat), (12 : Nat), (13 : Nat))]) ∈ lw_all := lw_g (lw_at lw_m3 143 rfl) rfl
theorem q654 : (Jvm.Cond.methodLink "StarConsoleLaw" (30 : Nat) ({ cls := "StarConsole", name := "jump", desc := "(I)I" } : Jvm.MethodName)) ∈ lw_all := lw_g (lw_at lw_m3 144 rfl) rfl
theorem q658 : (Jvm.Cond.methodLink "StarConsoleLaw" (98 : Nat) ({ cls := "StarConsoleLaw", name := "fade", desc := "(LStarConsole;II[J)I" } : Jvm.MethodName)) ∈ lw_all := lw_g (lw_at lw_m3 148 rfl) rfl
theorem q659 : (Jvm.Cond.static ({ cls := "StarConsoleLaw", name := "fade", desc := "(LStarConsole;II[J)I" } : Jvm.MethodName)) ∈ lw_all := lw_g (lw_at lw_m3 149 rfl) rfl
theorem q660 : (Jvm.Cond.codeWith ({ cls := "StarConsoleLaw", name := "fade", desc := "(LStarConsole;II[J)I" } : Jvm.MethodName) method_8_code (5 : Nat) (Option.some Jvm.ClassFile.FieldType.int) [((0 : Nat), (10 : Nat), (13 : Nat), (21 : Nat)), ((0 : Nat), (10 : Nat), (17 : Nat), (13 : Nat))]) ∈ lw_all := lw_g (lw_at lw_m3 150 rfl) rfl
theorem q661 : (Jvm.Cond.methodLink "StarConsoleLaw" (34 : Nat) ({ cls := "StarConsole", name := "fade", desc := "(II)I" } : Jvm.MethodName)) ∈ lw_all := lw_g (lw_at lw_m3 151 rfl) rfl
theorem q665 : (Jvm.Cond.methodLink "StarConsoleLaw" (101 : Nat) ({ cls := "StarConsoleLaw", name := "pass", desc := "(LStarConsole;I[J)I" } : Jvm.MethodName)) ∈ lw_all := lw_g (lw_at lw_m3 155 rfl) rfl
theorem q666 : (Jvm.Cond.static ({ cls := "StarConsoleLaw", name := "pass", desc := "(LStarConsole;I[J)I" } : Jvm.MethodName)) ∈ lw_all := lw_g (lw_at lw_m3 156 rfl) rfl
theorem q667 : (Jvm.Cond.codeWith ({ cls := "StarConsoleLaw", name := "pass", desc := "(LStarConsole;I[J)I" } : Jvm.MethodName) method_9_code (4 : Nat) (Option.some Jvm.ClassFile.FieldType.int) [((0 : Nat), (9 : Nat), (12 : Nat), (13 : Nat))]) ∈ lw_all := lw_g (lw_at lw_m3 157 rfl) rfl
theorem q668 : (Jvm.Cond.methodLink "StarConsoleLaw" (37 : Nat) ({ cls := "StarConsole", name := "pass", desc := "(I)I" } : Jvm.MethodName)) ∈ lw_all := lw_g (lw_at lw_m3 158 rfl) rfl
theorem q753 : (Jvm.Cond.methodLink "StarConsoleLaw" (104 : Nat) ({ cls := "StarConsoleLaw", name := "told", desc := "(LStarConsole;II[J)I" } : Jvm.MethodName)) ∈ lw_all := lw_g (lw_at lw_m4 3 rfl) rfl
theorem q754 : (Jvm.Cond.static ({ cls := "StarConsoleLaw", name := "told", desc := "(LStarConsole;II[J)I" } : Jvm.MethodName)) ∈ lw_all := lw_g (lw_at lw_m4 4 rfl) rfl
theorem q755 : (Jvm.Cond.codeWith ({ cls := "StarConsoleLaw", name := "told", desc := "(LStarConsole;II[J)I" } : Jvm.MethodName) method_10_code (5 : Nat) (Option.some Jvm.ClassFile.FieldType.int) [((0 : Nat), (10 : Nat), (13 : Nat), (21 : Nat))]) ∈ lw_all := lw_g (lw_at lw_m4 5 rfl) rfl
theorem q756 : (Jvm.Cond.methodLink "StarConsoleLaw" (40 : Nat) ({ cls := "StarConsole", name := "told", desc := "(II)I" } : Jvm.MethodName)) ∈ lw_all := lw_g (lw_at lw_m4 6 rfl) rfl
theorem q760 : (Jvm.Cond.methodLink "StarConsoleLaw" (107 : Nat) ({ cls := "StarConsoleLaw", name := "glare", desc := "(LStarConsole;I[J)I" } : Jvm.MethodName)) ∈ lw_all := lw_g (lw_at lw_m4 10 rfl) rfl
theorem q761 : (Jvm.Cond.static ({ cls := "StarConsoleLaw", name := "glare", desc := "(LStarConsole;I[J)I" } : Jvm.MethodName)) ∈ lw_all := lw_g (lw_at lw_m4 11 rfl) rfl
theorem q762 : (Jvm.Cond.codeWith ({ cls := "StarConsoleLaw", name := "glare", desc := "(LStarConsole;I[J)I" } : Jvm.MethodName) method_11_code (4 : Nat) (Option.some Jvm.ClassFile.FieldType.int) [((0 : Nat), (9 : Nat), (12 : Nat), (21 : Nat))]) ∈ lw_all := lw_g (lw_at lw_m4 12 rfl) rfl
theorem q763 : (Jvm.Cond.methodLink "StarConsoleLaw" (43 : Nat) ({ cls := "StarConsole", name := "glare", desc := "(I)I" } : Jvm.MethodName)) ∈ lw_all := lw_g (lw_at lw_m4 13 rfl) rfl
theorem q767 : (Jvm.Cond.methodLink "StarConsoleLaw" (110 : Nat) ({ cls := "StarConsoleLaw", name := "about", desc := "(LStarConsole;II[J)I" } : Jvm.MethodName)) ∈ lw_all := lw_g (lw_at lw_m4 17 rfl) rfl
theorem q768 : (Jvm.Cond.static ({ cls := "StarConsoleLaw", name := "about", desc := "(LStarConsole;II[J)I" } : Jvm.MethodName)) ∈ lw_all := lw_g (lw_at lw_m4 18 rfl) rfl
theorem q769 : (Jvm.Cond.codeWith ({ cls := "StarConsoleLaw", name := "about", desc := "(LStarConsole;II[J)I" } : Jvm.MethodName) method_12_code (5 : Nat) (Option.some Jvm.ClassFile.FieldType.int) [((0 : Nat), (10 : Nat), (13 : Nat), (21 : Nat))]) ∈ lw_all := lw_g (lw_at lw_m4 19 rfl) rfl
theorem q770 : (Jvm.Cond.methodLink "StarConsoleLaw" (46 : Nat) ({ cls := "StarConsole", name := "about", desc := "(II)I" } : Jvm.MethodName)) ∈ lw_all := lw_g (lw_at lw_m4 20 rfl) rfl
theorem q774 : (Jvm.Cond.methodLink "StarConsoleLaw" (113 : Nat) ({ cls := "StarConsoleLaw", name := "comet", desc := "(LStarConsole;II[J)I" } : Jvm.MethodName)) ∈ lw_all := lw_g (lw_at lw_m4 24 rfl) rfl
theorem q775 : (Jvm.Cond.static ({ cls := "StarConsoleLaw", name := "comet", desc := "(LStarConsole;II[J)I" } : Jvm.MethodName)) ∈ lw_all := lw_g (lw_at lw_m4 25 rfl) rfl
theorem q776 : (Jvm.Cond.codeWith ({ cls := "StarConsoleLaw", name := "comet", desc := "(LStarConsole;II[J)I" } : Jvm.MethodName) method_13_code (5 : Nat) (Option.some Jvm.ClassFile.FieldType.int) [((0 : Nat), (10 : Nat), (13 : Nat), (21 : Nat))]) ∈ lw_all := lw_g (lw_at lw_m4 26 rfl) rfl
theorem q777 : (Jvm.Cond.methodLink "StarConsoleLaw" (49 : Nat) ({ cls := "StarConsole", name := "comet", desc := "(II)I" } : Jvm.MethodName)) ∈ lw_all := lw_g (lw_at lw_m4 27 rfl) rfl
theorem q781 : (Jvm.Cond.methodLink "StarConsoleLaw" (116 : Nat) ({ cls := "StarConsoleLaw", name := "count", desc := "(LStarConsole;I[J)I" } : Jvm.MethodName)) ∈ lw_all := lw_g (lw_at lw_m4 31 rfl) rfl
theorem q782 : (Jvm.Cond.static ({ cls := "StarConsoleLaw", name := "count", desc := "(LStarConsole;I[J)I" } : Jvm.MethodName)) ∈ lw_all := lw_g (lw_at lw_m4 32 rfl) rfl
theorem q783 : (Jvm.Cond.codeWith ({ cls := "StarConsoleLaw", name := "count", desc := "(LStarConsole;I[J)I" } : Jvm.MethodName) method_14_code (4 : Nat) (Option.some Jvm.ClassFile.FieldType.int) [((0 : Nat), (9 : Nat), (12 : Nat), (21 : Nat))]) ∈ lw_all := lw_g (lw_at lw_m4 33 rfl) rfl
theorem q784 : (Jvm.Cond.methodLink "StarConsoleLaw" (52 : Nat) ({ cls := "StarConsole", name := "count", desc := "(I)I" } : Jvm.MethodName)) ∈ lw_all := lw_g (lw_at lw_m4 34 rfl) rfl
theorem q788 : (Jvm.Cond.methodLink "StarConsoleLaw" (123 : Nat) ({ cls := "StarConsoleLaw", name := "when", desc := "(LStarConsole;I[J)I" } : Jvm.MethodName)) ∈ lw_all := lw_g (lw_at lw_m4 38 rfl) rfl
theorem q789 : (Jvm.Cond.static ({ cls := "StarConsoleLaw", name := "when", desc := "(LStarConsole;I[J)I" } : Jvm.MethodName)) ∈ lw_all := lw_g (lw_at lw_m4 39 rfl) rfl
theorem q790 : (Jvm.Cond.codeWith ({ cls := "StarConsoleLaw", name := "when", desc := "(LStarConsole;I[J)I" } : Jvm.MethodName) method_15_code (4 : Nat) (Option.some Jvm.ClassFile.FieldType.int) [((0 : Nat), (9 : Nat), (12 : Nat), (21 : Nat))]) ∈ lw_all := lw_g (lw_at lw_m4 40 rfl) rfl
theorem q791 : (Jvm.Cond.methodLink "StarConsoleLaw" (55 : Nat) ({ cls := "StarConsole", name := "when", desc := "(I)I" } : Jvm.MethodName)) ∈ lw_all := lw_g (lw_at lw_m4 41 rfl) rfl
theorem q801 : (Jvm.Cond.methodLink "StarConsoleLaw" (126 : Nat) ({ cls := "StarConsoleLaw", name := "lasts", desc := "(LStarConsole;I[J)I" } : Jvm.MethodName)) ∈ lw_all := lw_g (lw_at lw_m4 51 rfl) rfl
theorem q802 : (Jvm.Cond.static ({ cls := "StarConsoleLaw", name := "lasts", desc := "(LStarConsole;I[J)I" } : Jvm.MethodName)) ∈ lw_all := lw_g (lw_at lw_m4 52 rfl) rfl
theorem q803 : (Jvm.Cond.codeWith ({ cls := "StarConsoleLaw", name := "lasts", desc := "(LStarConsole;I[J)I" } : Jvm.MethodName) method_16_code (4 : Nat) (Option.some Jvm.ClassFile.FieldType.int) [((0 : Nat), (9 : Nat), (12 : Nat), (21 : Nat))]) ∈ lw_all := lw_g (lw_at lw_m4 53 rfl) rfl
theorem q804 : (Jvm.Cond.methodLink "StarConsoleLaw" (58 : Nat) ({ cls := "StarConsole", name := "lasts", desc := "(I)I" } : Jvm.MethodName)) ∈ lw_all := lw_g (lw_at lw_m4 54 rfl) rfl
theorem q827 : (Jvm.Cond.methodLink "StarConsoleLaw" (129 : Nat) ({ cls := "StarConsoleLaw", name := "foresee", desc := "(LStarConsole;II[J)I" } : Jvm.MethodName)) ∈ lw_all := lw_g (lw_at lw_m4 77 rfl) rfl
theorem q828 : (Jvm.Cond.static ({ cls := "StarConsoleLaw", name := "foresee", desc := "(LStarConsole;II[J)I" } : Jvm.MethodName)) ∈ lw_all := lw_g (lw_at lw_m4 78 rfl) rfl
theorem q829 : (Jvm.Cond.codeWith ({ cls := "StarConsoleLaw", name := "foresee", desc := "(LStarConsole;II[J)I" } : Jvm.MethodName) method_17_code (5 : Nat) (Option.some Jvm.ClassFile.FieldType.int) [((0 : Nat), (10 : Nat), (13 : Nat), (13 : Nat)), ((0 : Nat), (10 : Nat), (17 : Nat), (21 : Nat))]) ∈ lw_all := lw_g (lw_at lw_m4 79 rfl) rfl
theorem q830 : (Jvm.Cond.methodLink "StarConsoleLaw" (61 : Nat) ({ cls := "StarConsole", name := "foresee", desc := "(II)I" } : Jvm.MethodName)) ∈ lw_all := lw_g (lw_at lw_m4 80 rfl) rfl
theorem q837 : (Jvm.Cond.classLink "StarConsoleLaw" (65 : Nat) "StarConsoleModel") ∈ lw_all := lw_g (lw_at lw_m4 87 rfl) rfl
theorem q839 : (Jvm.Cond.methodLink "StarConsoleLaw" (67 : Nat) ({ cls := "StarConsoleModel", name := "<init>", desc := "()V" } : Jvm.MethodName)) ∈ lw_all := lw_g (lw_at lw_m4 89 rfl) rfl
theorem q872 : (Jvm.Cond.methodLink "StarConsoleLaw" (74 : Nat) ({ cls := "StarConsoleModel", name := "thrown", desc := "()I" } : Jvm.MethodName)) ∈ lw_all := lw_g (lw_at lw_m4 122 rfl) rfl
theorem q876 : (Jvm.Cond.methodLink "StarConsoleLaw" (73 : Nat) ({ cls := "StarConsoleModel", name := "dimmer", desc := "(III)I" } : Jvm.MethodName)) ∈ lw_all := lw_g (lw_at lw_m4 126 rfl) rfl
theorem q888 : (Jvm.Cond.methodLink "StarConsoleLaw" (81 : Nat) ({ cls := "StarConsoleModel", name := "lamp", desc := "(II)I" } : Jvm.MethodName)) ∈ lw_all := lw_g (lw_at lw_m4 138 rfl) rfl
theorem q904 : (Jvm.Cond.methodLink "StarConsoleLaw" (84 : Nat) ({ cls := "StarConsoleModel", name := "star", desc := "(II)I" } : Jvm.MethodName)) ∈ lw_all := lw_g (lw_at lw_m4 154 rfl) rfl
theorem q908 : (Jvm.Cond.methodLink "StarConsoleLaw" (88 : Nat) ({ cls := "StarConsoleModel", name := "cue", desc := "(IIII)I" } : Jvm.MethodName)) ∈ lw_all := lw_g (lw_at lw_m4 158 rfl) rfl
theorem q916 : (Jvm.Cond.methodLink "StarConsoleLaw" (93 : Nat) ({ cls := "StarConsoleModel", name := "run", desc := "()Z" } : Jvm.MethodName)) ∈ lw_all := lw_g (lw_at lw_m4 166 rfl) rfl
theorem q920 : (Jvm.Cond.methodLink "StarConsoleLaw" (97 : Nat) ({ cls := "StarConsoleModel", name := "jump", desc := "(I)I" } : Jvm.MethodName)) ∈ lw_all := lw_g (lw_at lw_m4 170 rfl) rfl
theorem q924 : (Jvm.Cond.methodLink "StarConsoleLaw" (100 : Nat) ({ cls := "StarConsoleModel", name := "fade", desc := "(II)I" } : Jvm.MethodName)) ∈ lw_all := lw_g (lw_at lw_m4 174 rfl) rfl
theorem q928 : (Jvm.Cond.methodLink "StarConsoleLaw" (103 : Nat) ({ cls := "StarConsoleModel", name := "pass", desc := "(I)I" } : Jvm.MethodName)) ∈ lw_all := lw_g (lw_at lw_m4 178 rfl) rfl
theorem q953 : (Jvm.Cond.methodLink "StarConsoleLaw" (106 : Nat) ({ cls := "StarConsoleModel", name := "told", desc := "(II)I" } : Jvm.MethodName)) ∈ lw_all := lw_g (lw_at lw_m4 203 rfl) rfl
theorem q957 : (Jvm.Cond.methodLink "StarConsoleLaw" (109 : Nat) ({ cls := "StarConsoleModel", name := "glare", desc := "(I)I" } : Jvm.MethodName)) ∈ lw_all := lw_g (lw_at lw_m4 207 rfl) rfl
theorem q965 : (Jvm.Cond.methodLink "StarConsoleLaw" (112 : Nat) ({ cls := "StarConsoleModel", name := "about", desc := "(II)I" } : Jvm.MethodName)) ∈ lw_all := lw_g (lw_at lw_m4 215 rfl) rfl
theorem q981 : (Jvm.Cond.methodLink "StarConsoleLaw" (115 : Nat) ({ cls := "StarConsoleModel", name := "comet", desc := "(II)I" } : Jvm.MethodName)) ∈ lw_all := lw_g (lw_at lw_m4 231 rfl) rfl
theorem q989 : (Jvm.Cond.methodLink "StarConsoleLaw" (118 : Nat) ({ cls := "StarConsoleModel", name := "count", desc := "(I)I" } : Jvm.MethodName)) ∈ lw_all := lw_g (lw_at lw_m4 239 rfl) rfl
theorem q997 : (Jvm.Cond.methodLink "StarConsoleLaw" (122 : Nat) ({ cls := "StarConsoleModel", name := "next", desc := "()I" } : Jvm.MethodName)) ∈ lw_all := lw_g (lw_at lw_m5 7 rfl) rfl
theorem q1001 : (Jvm.Cond.methodLink "StarConsoleLaw" (125 : Nat) ({ cls := "StarConsoleModel", name := "when", desc := "(I)I" } : Jvm.MethodName)) ∈ lw_all := lw_g (lw_at lw_m5 11 rfl) rfl
theorem q1005 : (Jvm.Cond.methodLink "StarConsoleLaw" (128 : Nat) ({ cls := "StarConsoleModel", name := "lasts", desc := "(I)I" } : Jvm.MethodName)) ∈ lw_all := lw_g (lw_at lw_m5 15 rfl) rfl
theorem q1023 : (Jvm.Cond.methodLink "StarConsoleLaw" (131 : Nat) ({ cls := "StarConsoleModel", name := "foresee", desc := "(II)I" } : Jvm.MethodName)) ∈ lw_all := lw_g (lw_at lw_m5 33 rfl) rfl
theorem q1027 : (Jvm.Cond.methodLink "StarConsoleLaw" (135 : Nat) ({ cls := "StarConsoleModel", name := "darkest", desc := "()I" } : Jvm.MethodName)) ∈ lw_all := lw_g (lw_at lw_m5 37 rfl) rfl
theorem q1031 : (Jvm.Cond.methodLink "StarConsoleLaw" (140 : Nat) ({ cls := "StarConsoleModel", name := "mean", desc := "()D" } : Jvm.MethodName)) ∈ lw_all := lw_g (lw_at lw_m5 41 rfl) rfl
theorem q1036 : (Jvm.Cond.methodLink "StarConsoleLaw" (145 : Nat) ({ cls := "StarConsoleModel", name := "digest", desc := "()J" } : Jvm.MethodName)) ∈ lw_all := lw_g (lw_at lw_m5 46 rfl) rfl

/-! the law's own entry -/
abbrev cL_law : ByteArray := code
def dkwL_law_49 : List UInt8 := [43, 182, 0, 141, 44, 182, 0, 145, 148, 153, 0, 5, 3, 172, 132, 4, 5, 167, 251, 90, 4, 172]
abbrev dktL_law_49 : List UInt8 := dkwL_law_49 ++ []
def dkwL_law_48 : List UInt8 := [153, 0, 21, 24, 5, 24, 5, 151, 153, 0, 11, 24, 7, 24, 7, 151, 154, 0, 5, 3, 172, 167, 0, 17]
abbrev dktL_law_48 : List UInt8 := dkwL_law_48 ++ dktL_law_49
def dkwL_law_47 : List UInt8 := [159, 0, 60, 3, 172, 43, 182, 0, 136, 57, 5, 44, 182, 0, 140, 57, 7, 24, 5, 24, 7, 151]
abbrev dktL_law_47 : List UInt8 := dkwL_law_47 ++ dktL_law_48
def dkwL_law_46 : List UInt8 := [3, 47, 21, 6, 133, 148, 153, 0, 5, 3, 172, 167, 0, 71, 43, 182, 0, 132, 44, 182, 0, 135]
abbrev dktL_law_46 : List UInt8 := dkwL_law_46 ++ dktL_law_47
def dkwL_law_45 : List UInt8 := [96, 46, 182, 0, 131, 54, 6, 44, 182, 0, 74, 21, 5, 159, 0, 5, 3, 172, 21, 5, 154, 0, 15, 45]
abbrev dktL_law_45 : List UInt8 := dkwL_law_45 ++ dktL_law_46
def dkwL_law_44 : List UInt8 := [46, 42, 21, 4, 5, 96, 46, 45, 184, 0, 129, 54, 5, 44, 42, 21, 4, 4, 96, 46, 42, 21, 4, 5]
abbrev dktL_law_44 : List UInt8 := dkwL_law_44 ++ dktL_law_45
def dkwL_law_43 : List UInt8 := [154, 0, 15, 45, 3, 47, 21, 6, 133, 148, 153, 0, 5, 3, 172, 167, 0, 139, 43, 42, 21, 4, 4, 96]
abbrev dktL_law_43 : List UInt8 := dkwL_law_43 ++ dktL_law_44
def dkwL_law_42 : List UInt8 := [21, 4, 4, 96, 46, 182, 0, 128, 54, 6, 44, 182, 0, 74, 21, 5, 159, 0, 5, 3, 172, 21, 5]
abbrev dktL_law_42 : List UInt8 := dkwL_law_42 ++ dktL_law_43
def dkwL_law_41 : List UInt8 := [148, 153, 0, 5, 3, 172, 167, 0, 195, 43, 42, 21, 4, 4, 96, 46, 45, 184, 0, 126, 54, 5, 44, 42]
abbrev dktL_law_41 : List UInt8 := dkwL_law_41 ++ dktL_law_42
def dkwL_law_40 : List UInt8 := [54, 6, 44, 182, 0, 74, 21, 5, 159, 0, 5, 3, 172, 21, 5, 154, 0, 15, 45, 3, 47, 21, 6, 133]
abbrev dktL_law_40 : List UInt8 := dkwL_law_40 ++ dktL_law_41
def dkwL_law_39 : List UInt8 := [172, 43, 42, 21, 4, 4, 96, 46, 45, 184, 0, 123, 54, 5, 44, 42, 21, 4, 4, 96, 46, 182, 0, 125]
abbrev dktL_law_39 : List UInt8 := dkwL_law_39 ++ dktL_law_40
def dkwL_law_38 : List UInt8 := [21, 6, 133, 148, 153, 0, 5, 3, 172, 167, 1, 8, 43, 182, 0, 119, 44, 182, 0, 122, 159, 0, 253, 3]
abbrev dktL_law_38 : List UInt8 := dkwL_law_38 ++ dktL_law_39
def dkwL_law_37 : List UInt8 := [182, 0, 118, 54, 6, 44, 182, 0, 74, 21, 5, 159, 0, 5, 3, 172, 21, 5, 154, 0, 15, 45, 3, 47]
abbrev dktL_law_37 : List UInt8 := dkwL_law_37 ++ dktL_law_38
def dkwL_law_36 : List UInt8 := [167, 1, 64, 43, 42, 21, 4, 4, 96, 46, 45, 184, 0, 116, 54, 5, 44, 42, 21, 4, 4, 96, 46]
abbrev dktL_law_36 : List UInt8 := dkwL_law_36 ++ dktL_law_37
def dkwL_law_35 : List UInt8 := [159, 0, 5, 3, 172, 21, 5, 154, 0, 15, 45, 3, 47, 21, 6, 133, 148, 153, 0, 5, 3, 172]
abbrev dktL_law_35 : List UInt8 := dkwL_law_35 ++ dktL_law_36
def dkwL_law_34 : List UInt8 := [21, 4, 4, 96, 46, 42, 21, 4, 5, 96, 46, 182, 0, 115, 54, 6, 44, 182, 0, 74, 21, 5]
abbrev dktL_law_34 : List UInt8 := dkwL_law_34 ++ dktL_law_35
def dkwL_law_33 : List UInt8 := [167, 1, 132, 43, 42, 21, 4, 4, 96, 46, 42, 21, 4, 5, 96, 46, 45, 184, 0, 113, 54, 5, 44, 42]
abbrev dktL_law_33 : List UInt8 := dkwL_law_33 ++ dktL_law_34
def dkwL_law_32 : List UInt8 := [159, 0, 5, 3, 172, 21, 5, 154, 0, 15, 45, 3, 47, 21, 6, 133, 148, 153, 0, 5, 3, 172]
abbrev dktL_law_32 : List UInt8 := dkwL_law_32 ++ dktL_law_33
def dkwL_law_31 : List UInt8 := [21, 4, 4, 96, 46, 42, 21, 4, 5, 96, 46, 182, 0, 112, 54, 6, 44, 182, 0, 74, 21, 5]
abbrev dktL_law_31 : List UInt8 := dkwL_law_31 ++ dktL_law_32
def dkwL_law_30 : List UInt8 := [167, 1, 200, 43, 42, 21, 4, 4, 96, 46, 42, 21, 4, 5, 96, 46, 45, 184, 0, 110, 54, 5, 44, 42]
abbrev dktL_law_30 : List UInt8 := dkwL_law_30 ++ dktL_law_31
def dkwL_law_29 : List UInt8 := [159, 0, 5, 3, 172, 21, 5, 154, 0, 15, 45, 3, 47, 21, 6, 133, 148, 153, 0, 5, 3, 172]
abbrev dktL_law_29 : List UInt8 := dkwL_law_29 ++ dktL_law_30
def dkwL_law_28 : List UInt8 := [184, 0, 107, 54, 5, 44, 42, 21, 4, 4, 96, 46, 182, 0, 109, 54, 6, 44, 182, 0, 74, 21, 5]
abbrev dktL_law_28 : List UInt8 := dkwL_law_28 ++ dktL_law_29
def dkwL_law_27 : List UInt8 := [3, 47, 21, 6, 133, 148, 153, 0, 5, 3, 172, 167, 2, 0, 43, 42, 21, 4, 4, 96, 46, 45]
abbrev dktL_law_27 : List UInt8 := dkwL_law_27 ++ dktL_law_28
def dkwL_law_26 : List UInt8 := [96, 46, 182, 0, 106, 54, 6, 44, 182, 0, 74, 21, 5, 159, 0, 5, 3, 172, 21, 5, 154, 0, 15, 45]
abbrev dktL_law_26 : List UInt8 := dkwL_law_26 ++ dktL_law_27
def dkwL_law_25 : List UInt8 := [46, 42, 21, 4, 5, 96, 46, 45, 184, 0, 104, 54, 5, 44, 42, 21, 4, 4, 96, 46, 42, 21, 4, 5]
abbrev dktL_law_25 : List UInt8 := dkwL_law_25 ++ dktL_law_26
def dkwL_law_24 : List UInt8 := [154, 0, 15, 45, 3, 47, 21, 6, 133, 148, 153, 0, 5, 3, 172, 167, 2, 68, 43, 42, 21, 4, 4, 96]
abbrev dktL_law_24 : List UInt8 := dkwL_law_24 ++ dktL_law_25
def dkwL_law_23 : List UInt8 := [21, 4, 4, 96, 46, 182, 0, 103, 54, 6, 44, 182, 0, 74, 21, 5, 159, 0, 5, 3, 172, 21, 5]
abbrev dktL_law_23 : List UInt8 := dkwL_law_23 ++ dktL_law_24
def dkwL_law_22 : List UInt8 := [153, 0, 5, 3, 172, 167, 2, 124, 43, 42, 21, 4, 4, 96, 46, 45, 184, 0, 101, 54, 5, 44, 42]
abbrev dktL_law_22 : List UInt8 := dkwL_law_22 ++ dktL_law_23
def dkwL_law_21 : List UInt8 := [182, 0, 74, 21, 5, 159, 0, 5, 3, 172, 21, 5, 154, 0, 15, 45, 3, 47, 21, 6, 133, 148]
abbrev dktL_law_21 : List UInt8 := dkwL_law_21 ++ dktL_law_22
def dkwL_law_20 : List UInt8 := [184, 0, 98, 54, 5, 44, 42, 21, 4, 4, 96, 46, 42, 21, 4, 5, 96, 46, 182, 0, 100, 54, 6, 44]
abbrev dktL_law_20 : List UInt8 := dkwL_law_20 ++ dktL_law_21
def dkwL_law_19 : List UInt8 := [153, 0, 5, 3, 172, 167, 2, 192, 43, 42, 21, 4, 4, 96, 46, 42, 21, 4, 5, 96, 46, 45]
abbrev dktL_law_19 : List UInt8 := dkwL_law_19 ++ dktL_law_20
def dkwL_law_18 : List UInt8 := [182, 0, 74, 21, 5, 159, 0, 5, 3, 172, 21, 5, 154, 0, 15, 45, 3, 47, 21, 6, 133, 148]
abbrev dktL_law_18 : List UInt8 := dkwL_law_18 ++ dktL_law_19
def dkwL_law_17 : List UInt8 := [21, 4, 4, 96, 46, 45, 184, 0, 94, 54, 5, 44, 42, 21, 4, 4, 96, 46, 182, 0, 97, 54, 6, 44]
abbrev dktL_law_17 : List UInt8 := dkwL_law_17 ++ dktL_law_18
def dkwL_law_16 : List UInt8 := [153, 0, 5, 3, 172, 167, 3, 5, 43, 182, 0, 89, 44, 182, 0, 93, 159, 2, 250, 3, 172, 43, 42]
abbrev dktL_law_16 : List UInt8 := dkwL_law_16 ++ dktL_law_17
def dkwL_law_15 : List UInt8 := [182, 0, 74, 21, 5, 159, 0, 5, 3, 172, 21, 5, 154, 0, 15, 45, 3, 47, 21, 6, 133, 148]
abbrev dktL_law_15 : List UInt8 := dkwL_law_15 ++ dktL_law_16
def dkwL_law_14 : List UInt8 := [21, 4, 5, 96, 46, 42, 21, 4, 6, 96, 46, 42, 21, 4, 7, 96, 46, 182, 0, 88, 54, 6, 44]
abbrev dktL_law_14 : List UInt8 := dkwL_law_14 ++ dktL_law_15
def dkwL_law_13 : List UInt8 := [6, 96, 46, 42, 21, 4, 7, 96, 46, 45, 184, 0, 85, 54, 5, 44, 42, 21, 4, 4, 96, 46, 42]
abbrev dktL_law_13 : List UInt8 := dkwL_law_13 ++ dktL_law_14
def dkwL_law_12 : List UInt8 := [153, 0, 5, 3, 172, 167, 3, 97, 43, 42, 21, 4, 4, 96, 46, 42, 21, 4, 5, 96, 46, 42, 21, 4]
abbrev dktL_law_12 : List UInt8 := dkwL_law_12 ++ dktL_law_13
def dkwL_law_11 : List UInt8 := [182, 0, 74, 21, 5, 159, 0, 5, 3, 172, 21, 5, 154, 0, 15, 45, 3, 47, 21, 6, 133, 148]
abbrev dktL_law_11 : List UInt8 := dkwL_law_11 ++ dktL_law_12
def dkwL_law_10 : List UInt8 := [184, 0, 82, 54, 5, 44, 42, 21, 4, 4, 96, 46, 42, 21, 4, 5, 96, 46, 182, 0, 84, 54, 6, 44]
abbrev dktL_law_10 : List UInt8 := dkwL_law_10 ++ dktL_law_11
def dkwL_law_9 : List UInt8 := [153, 0, 5, 3, 172, 167, 3, 165, 43, 42, 21, 4, 4, 96, 46, 42, 21, 4, 5, 96, 46, 45]
abbrev dktL_law_9 : List UInt8 := dkwL_law_9 ++ dktL_law_10
def dkwL_law_8 : List UInt8 := [182, 0, 74, 21, 5, 159, 0, 5, 3, 172, 21, 5, 154, 0, 15, 45, 3, 47, 21, 6, 133, 148]
abbrev dktL_law_8 : List UInt8 := dkwL_law_8 ++ dktL_law_9
def dkwL_law_7 : List UInt8 := [184, 0, 78, 54, 5, 44, 42, 21, 4, 4, 96, 46, 42, 21, 4, 5, 96, 46, 182, 0, 81, 54, 6, 44]
abbrev dktL_law_7 : List UInt8 := dkwL_law_7 ++ dktL_law_8
def dkwL_law_6 : List UInt8 := [148, 153, 0, 5, 3, 172, 167, 3, 233, 43, 42, 21, 4, 4, 96, 46, 42, 21, 4, 5, 96, 46, 45]
abbrev dktL_law_6 : List UInt8 := dkwL_law_6 ++ dktL_law_7
def dkwL_law_5 : List UInt8 := [54, 6, 44, 182, 0, 74, 21, 5, 159, 0, 5, 3, 172, 21, 5, 154, 0, 15, 45, 3, 47, 21, 6, 133]
abbrev dktL_law_5 : List UInt8 := dkwL_law_5 ++ dktL_law_6
def dkwL_law_4 : List UInt8 := [54, 5, 44, 42, 21, 4, 4, 96, 46, 42, 21, 4, 5, 96, 46, 42, 21, 4, 6, 96, 46, 182, 0, 73]
abbrev dktL_law_4 : List UInt8 := dkwL_law_4 ++ dktL_law_5
def dkwL_law_3 : List UInt8 := [43, 42, 21, 4, 4, 96, 46, 42, 21, 4, 5, 96, 46, 42, 21, 4, 6, 96, 46, 45, 184, 0, 68]
abbrev dktL_law_3 : List UInt8 := dkwL_law_3 ++ dktL_law_4
def dkwL_law_2 : List UInt8 := [170, 0, 0, 4, 147, 0, 0, 0, 0, 0, 0, 0, 19, 0, 0, 0, 93, 0, 0, 0, 173, 0, 0, 0, 241, 0, 0, 1, 53, 0, 0, 1, 145, 0, 0, 1, 158, 0, 0, 1, 214, 0, 0, 2, 26, 0, 0, 2, 82, 0, 0, 2, 150, 0, 0, 2, 206, 0, 0, 3, 18, 0, 0, 3, 86, 0, 0, 3, 142, 0, 0, 3, 155, 0, 0, 3, 211, 0, 0, 4, 11, 0, 0, 4, 79, 0, 0, 4, 92, 0, 0, 4, 133]
abbrev dktL_law_2 : List UInt8 := dkwL_law_2 ++ dktL_law_3
def dkwL_law_1 : List UInt8 := [21, 4, 42, 190, 8, 100, 163, 4, 163, 42, 21, 4, 46, 16, 31, 126]
abbrev dktL_law_1 : List UInt8 := dkwL_law_1 ++ dktL_law_2
def dkwL_law_0 : List UInt8 := [187, 0, 8, 89, 183, 0, 64, 76, 187, 0, 65, 89, 183, 0, 67, 77, 4, 188, 11, 78, 3, 54, 4]
abbrev dktL_law_0 : List UInt8 := dkwL_law_0 ++ dktL_law_1
theorem dksL_law_0 : cL_law.data.toList.drop 0 = dktL_law_0 := by decide +kernel
theorem dksL_law_1 : cL_law.data.toList.drop 23 = dktL_law_1 := dk_seg dksL_law_0 23 rfl rfl
theorem dksL_law_2 : cL_law.data.toList.drop 39 = dktL_law_2 := dk_seg dksL_law_1 16 rfl rfl
theorem dksL_law_3 : cL_law.data.toList.drop 132 = dktL_law_3 := dk_seg dksL_law_2 93 rfl rfl
theorem dksL_law_4 : cL_law.data.toList.drop 155 = dktL_law_4 := dk_seg dksL_law_3 23 rfl rfl
theorem dksL_law_5 : cL_law.data.toList.drop 179 = dktL_law_5 := dk_seg dksL_law_4 24 rfl rfl
theorem dksL_law_6 : cL_law.data.toList.drop 203 = dktL_law_6 := dk_seg dksL_law_5 24 rfl rfl
theorem dksL_law_7 : cL_law.data.toList.drop 226 = dktL_law_7 := dk_seg dksL_law_6 23 rfl rfl
theorem dksL_law_8 : cL_law.data.toList.drop 250 = dktL_law_8 := dk_seg dksL_law_7 24 rfl rfl
theorem dksL_law_9 : cL_law.data.toList.drop 272 = dktL_law_9 := dk_seg dksL_law_8 22 rfl rfl
theorem dksL_law_10 : cL_law.data.toList.drop 294 = dktL_law_10 := dk_seg dksL_law_9 22 rfl rfl
theorem dksL_law_11 : cL_law.data.toList.drop 318 = dktL_law_11 := dk_seg dksL_law_10 24 rfl rfl
theorem dksL_law_12 : cL_law.data.toList.drop 340 = dktL_law_12 := dk_seg dksL_law_11 22 rfl rfl
theorem dksL_law_13 : cL_law.data.toList.drop 364 = dktL_law_13 := dk_seg dksL_law_12 24 rfl rfl
theorem dksL_law_14 : cL_law.data.toList.drop 387 = dktL_law_14 := dk_seg dksL_law_13 23 rfl rfl
theorem dksL_law_15 : cL_law.data.toList.drop 410 = dktL_law_15 := dk_seg dksL_law_14 23 rfl rfl
theorem dksL_law_16 : cL_law.data.toList.drop 432 = dktL_law_16 := dk_seg dksL_law_15 22 rfl rfl
theorem dksL_law_17 : cL_law.data.toList.drop 455 = dktL_law_17 := dk_seg dksL_law_16 23 rfl rfl
theorem dksL_law_18 : cL_law.data.toList.drop 479 = dktL_law_18 := dk_seg dksL_law_17 24 rfl rfl
theorem dksL_law_19 : cL_law.data.toList.drop 501 = dktL_law_19 := dk_seg dksL_law_18 22 rfl rfl
theorem dksL_law_20 : cL_law.data.toList.drop 523 = dktL_law_20 := dk_seg dksL_law_19 22 rfl rfl
theorem dksL_law_21 : cL_law.data.toList.drop 547 = dktL_law_21 := dk_seg dksL_law_20 24 rfl rfl
theorem dksL_law_22 : cL_law.data.toList.drop 569 = dktL_law_22 := dk_seg dksL_law_21 22 rfl rfl
theorem dksL_law_23 : cL_law.data.toList.drop 592 = dktL_law_23 := dk_seg dksL_law_22 23 rfl rfl
theorem dksL_law_24 : cL_law.data.toList.drop 615 = dktL_law_24 := dk_seg dksL_law_23 23 rfl rfl
theorem dksL_law_25 : cL_law.data.toList.drop 639 = dktL_law_25 := dk_seg dksL_law_24 24 rfl rfl
theorem dksL_law_26 : cL_law.data.toList.drop 663 = dktL_law_26 := dk_seg dksL_law_25 24 rfl rfl
theorem dksL_law_27 : cL_law.data.toList.drop 687 = dktL_law_27 := dk_seg dksL_law_26 24 rfl rfl
theorem dksL_law_28 : cL_law.data.toList.drop 709 = dktL_law_28 := dk_seg dksL_law_27 22 rfl rfl
theorem dksL_law_29 : cL_law.data.toList.drop 732 = dktL_law_29 := dk_seg dksL_law_28 23 rfl rfl
theorem dksL_law_30 : cL_law.data.toList.drop 754 = dktL_law_30 := dk_seg dksL_law_29 22 rfl rfl
theorem dksL_law_31 : cL_law.data.toList.drop 778 = dktL_law_31 := dk_seg dksL_law_30 24 rfl rfl
theorem dksL_law_32 : cL_law.data.toList.drop 800 = dktL_law_32 := dk_seg dksL_law_31 22 rfl rfl
theorem dksL_law_33 : cL_law.data.toList.drop 822 = dktL_law_33 := dk_seg dksL_law_32 22 rfl rfl
theorem dksL_law_34 : cL_law.data.toList.drop 846 = dktL_law_34 := dk_seg dksL_law_33 24 rfl rfl
theorem dksL_law_35 : cL_law.data.toList.drop 868 = dktL_law_35 := dk_seg dksL_law_34 22 rfl rfl
theorem dksL_law_36 : cL_law.data.toList.drop 890 = dktL_law_36 := dk_seg dksL_law_35 22 rfl rfl
theorem dksL_law_37 : cL_law.data.toList.drop 913 = dktL_law_37 := dk_seg dksL_law_36 23 rfl rfl
theorem dksL_law_38 : cL_law.data.toList.drop 937 = dktL_law_38 := dk_seg dksL_law_37 24 rfl rfl
theorem dksL_law_39 : cL_law.data.toList.drop 961 = dktL_law_39 := dk_seg dksL_law_38 24 rfl rfl
theorem dksL_law_40 : cL_law.data.toList.drop 985 = dktL_law_40 := dk_seg dksL_law_39 24 rfl rfl
theorem dksL_law_41 : cL_law.data.toList.drop 1009 = dktL_law_41 := dk_seg dksL_law_40 24 rfl rfl
theorem dksL_law_42 : cL_law.data.toList.drop 1033 = dktL_law_42 := dk_seg dksL_law_41 24 rfl rfl
theorem dksL_law_43 : cL_law.data.toList.drop 1056 = dktL_law_43 := dk_seg dksL_law_42 23 rfl rfl
theorem dksL_law_44 : cL_law.data.toList.drop 1080 = dktL_law_44 := dk_seg dksL_law_43 24 rfl rfl
theorem dksL_law_45 : cL_law.data.toList.drop 1104 = dktL_law_45 := dk_seg dksL_law_44 24 rfl rfl
theorem dksL_law_46 : cL_law.data.toList.drop 1128 = dktL_law_46 := dk_seg dksL_law_45 24 rfl rfl
theorem dksL_law_47 : cL_law.data.toList.drop 1150 = dktL_law_47 := dk_seg dksL_law_46 22 rfl rfl
theorem dksL_law_48 : cL_law.data.toList.drop 1172 = dktL_law_48 := dk_seg dksL_law_47 22 rfl rfl
theorem dksL_law_49 : cL_law.data.toList.drop 1196 = dktL_law_49 := dk_seg dksL_law_48 24 rfl rfl
theorem dL_law_0 : decode cL_law 0 = .ok (.new 8, 3) := dk_187 0 8 (dk_at dksL_law_0 0 rfl rfl)
theorem dL_law_3 : decode cL_law 3 = .ok (.dup, 1) := dk_89 (dk_at dksL_law_0 3 rfl rfl)
theorem dL_law_4 : decode cL_law 4 = .ok (.invokespecial 64, 3) := dk_183 0 64 (dk_at dksL_law_0 4 rfl rfl)
theorem dL_law_7 : decode cL_law 7 = .ok (.astore_n 1, 1) := dk_76 (dk_at dksL_law_0 7 rfl rfl)
theorem dL_law_8 : decode cL_law 8 = .ok (.new 65, 3) := dk_187 0 65 (dk_at dksL_law_0 8 rfl rfl)
theorem dL_law_11 : decode cL_law 11 = .ok (.dup, 1) := dk_89 (dk_at dksL_law_0 11 rfl rfl)
theorem dL_law_12 : decode cL_law 12 = .ok (.invokespecial 67, 3) := dk_183 0 67 (dk_at dksL_law_0 12 rfl rfl)
theorem dL_law_15 : decode cL_law 15 = .ok (.astore_n 2, 1) := dk_77 (dk_at dksL_law_0 15 rfl rfl)
theorem dL_law_16 : decode cL_law 16 = .ok (.iconst 1, 1) := dk_4 (dk_at dksL_law_0 16 rfl rfl)
theorem dL_law_17 : decode cL_law 17 = .ok (.newarray .long, 2) := dk_188_11 (dk_at dksL_law_0 17 rfl rfl)
theorem dL_law_19 : decode cL_law 19 = .ok (.astore_n 3, 1) := dk_78 (dk_at dksL_law_0 19 rfl rfl)
theorem dL_law_20 : decode cL_law 20 = .ok (.iconst 0, 1) := dk_3 (dk_at dksL_law_0 20 rfl rfl)
theorem dL_law_21 : decode cL_law 21 = .ok (.istore 4, 2) := dk_54 4 (dk_at dksL_law_0 21 rfl rfl)
theorem dL_law_23 : decode cL_law 23 = .ok (.iload 4, 2) := dk_21 4 (dk_at dksL_law_1 0 rfl rfl)
theorem dL_law_25 : decode cL_law 25 = .ok (.aload_n 0, 1) := dk_42 (dk_at dksL_law_1 2 rfl rfl)
theorem dL_law_26 : decode cL_law 26 = .ok (.arraylength, 1) := dk_190 (dk_at dksL_law_1 3 rfl rfl)
theorem dL_law_27 : decode cL_law 27 = .ok (.iconst 5, 1) := dk_8 (dk_at dksL_law_1 4 rfl rfl)
theorem dL_law_28 : decode cL_law 28 = .ok (.isub, 1) := dk_100 (dk_at dksL_law_1 5 rfl rfl)
theorem dL_law_29 : decode cL_law 29 = .ok (.if_icmp .gt 1187, 3) := dk_163 4 163 (dk_at dksL_law_1 6 rfl rfl)
theorem dL_law_32 : decode cL_law 32 = .ok (.aload_n 0, 1) := dk_42 (dk_at dksL_law_1 9 rfl rfl)
theorem dL_law_33 : decode cL_law 33 = .ok (.iload 4, 2) := dk_21 4 (dk_at dksL_law_1 10 rfl rfl)
theorem dL_law_35 : decode cL_law 35 = .ok (.iaload, 1) := dk_46 (dk_at dksL_law_1 12 rfl rfl)
theorem dL_law_36 : decode cL_law 36 = .ok (.bipush 31, 2) := dk_16 31 (dk_at dksL_law_1 13 rfl rfl)
theorem dL_law_38 : decode cL_law 38 = .ok (.iand, 1) := dk_126 (dk_at dksL_law_1 15 rfl rfl)
theorem dL_law_39 : decode cL_law 39 = .ok (.tableswitch 1171 0 19 #[93, 173, 241, 309, 401, 414, 470, 538, 594, 662, 718, 786, 854, 910, 923, 979, 1035, 1103, 1116, 1157], 93) := by decide +kernel
theorem dL_law_132 : decode cL_law 132 = .ok (.aload_n 1, 1) := dk_43 (dk_at dksL_law_3 0 rfl rfl)
theorem dL_law_133 : decode cL_law 133 = .ok (.aload_n 0, 1) := dk_42 (dk_at dksL_law_3 1 rfl rfl)
theorem dL_law_134 : decode cL_law 134 = .ok (.iload 4, 2) := dk_21 4 (dk_at dksL_law_3 2 rfl rfl)
theorem dL_law_136 : decode cL_law 136 = .ok (.iconst 1, 1) := dk_4 (dk_at dksL_law_3 4 rfl rfl)
theorem dL_law_137 : decode cL_law 137 = .ok (.iadd, 1) := dk_96 (dk_at dksL_law_3 5 rfl rfl)
theorem dL_law_138 : decode cL_law 138 = .ok (.iaload, 1) := dk_46 (dk_at dksL_law_3 6 rfl rfl)
theorem dL_law_139 : decode cL_law 139 = .ok (.aload_n 0, 1) := dk_42 (dk_at dksL_law_3 7 rfl rfl)
theorem dL_law_140 : decode cL_law 140 = .ok (.iload 4, 2) := dk_21 4 (dk_at dksL_law_3 8 rfl rfl)
theorem dL_law_142 : decode cL_law 142 = .ok (.iconst 2, 1) := dk_5 (dk_at dksL_law_3 10 rfl rfl)
theorem dL_law_143 : decode cL_law 143 = .ok (.iadd, 1) := dk_96 (dk_at dksL_law_3 11 rfl rfl)
theorem dL_law_144 : decode cL_law 144 = .ok (.iaload, 1) := dk_46 (dk_at dksL_law_3 12 rfl rfl)
theorem dL_law_145 : decode cL_law 145 = .ok (.aload_n 0, 1) := dk_42 (dk_at dksL_law_3 13 rfl rfl)
theorem dL_law_146 : decode cL_law 146 = .ok (.iload 4, 2) := dk_21 4 (dk_at dksL_law_3 14 rfl rfl)
theorem dL_law_148 : decode cL_law 148 = .ok (.iconst 3, 1) := dk_6 (dk_at dksL_law_3 16 rfl rfl)
theorem dL_law_149 : decode cL_law 149 = .ok (.iadd, 1) := dk_96 (dk_at dksL_law_3 17 rfl rfl)
theorem dL_law_150 : decode cL_law 150 = .ok (.iaload, 1) := dk_46 (dk_at dksL_law_3 18 rfl rfl)
theorem dL_law_151 : decode cL_law 151 = .ok (.aload_n 3, 1) := dk_45 (dk_at dksL_law_3 19 rfl rfl)
theorem dL_law_152 : decode cL_law 152 = .ok (.invokestatic 68, 3) := dk_184 0 68 (dk_at dksL_law_3 20 rfl rfl)
theorem dL_law_155 : decode cL_law 155 = .ok (.istore 5, 2) := dk_54 5 (dk_at dksL_law_4 0 rfl rfl)
theorem dL_law_157 : decode cL_law 157 = .ok (.aload_n 2, 1) := dk_44 (dk_at dksL_law_4 2 rfl rfl)
theorem dL_law_158 : decode cL_law 158 = .ok (.aload_n 0, 1) := dk_42 (dk_at dksL_law_4 3 rfl rfl)
theorem dL_law_159 : decode cL_law 159 = .ok (.iload 4, 2) := dk_21 4 (dk_at dksL_law_4 4 rfl rfl)
theorem dL_law_161 : decode cL_law 161 = .ok (.iconst 1, 1) := dk_4 (dk_at dksL_law_4 6 rfl rfl)
theorem dL_law_162 : decode cL_law 162 = .ok (.iadd, 1) := dk_96 (dk_at dksL_law_4 7 rfl rfl)
theorem dL_law_163 : decode cL_law 163 = .ok (.iaload, 1) := dk_46 (dk_at dksL_law_4 8 rfl rfl)
theorem dL_law_164 : decode cL_law 164 = .ok (.aload_n 0, 1) := dk_42 (dk_at dksL_law_4 9 rfl rfl)
theorem dL_law_165 : decode cL_law 165 = .ok (.iload 4, 2) := dk_21 4 (dk_at dksL_law_4 10 rfl rfl)
theorem dL_law_167 : decode cL_law 167 = .ok (.iconst 2, 1) := dk_5 (dk_at dksL_law_4 12 rfl rfl)
theorem dL_law_168 : decode cL_law 168 = .ok (.iadd, 1) := dk_96 (dk_at dksL_law_4 13 rfl rfl)
theorem dL_law_169 : decode cL_law 169 = .ok (.iaload, 1) := dk_46 (dk_at dksL_law_4 14 rfl rfl)
theorem dL_law_170 : decode cL_law 170 = .ok (.aload_n 0, 1) := dk_42 (dk_at dksL_law_4 15 rfl rfl)
theorem dL_law_171 : decode cL_law 171 = .ok (.iload 4, 2) := dk_21 4 (dk_at dksL_law_4 16 rfl rfl)
theorem dL_law_173 : decode cL_law 173 = .ok (.iconst 3, 1) := dk_6 (dk_at dksL_law_4 18 rfl rfl)
theorem dL_law_174 : decode cL_law 174 = .ok (.iadd, 1) := dk_96 (dk_at dksL_law_4 19 rfl rfl)
theorem dL_law_175 : decode cL_law 175 = .ok (.iaload, 1) := dk_46 (dk_at dksL_law_4 20 rfl rfl)
theorem dL_law_176 : decode cL_law 176 = .ok (.invokevirtual 73, 3) := dk_182 0 73 (dk_at dksL_law_4 21 rfl rfl)
theorem dL_law_179 : decode cL_law 179 = .ok (.istore 6, 2) := dk_54 6 (dk_at dksL_law_5 0 rfl rfl)
theorem dL_law_181 : decode cL_law 181 = .ok (.aload_n 2, 1) := dk_44 (dk_at dksL_law_5 2 rfl rfl)
theorem dL_law_182 : decode cL_law 182 = .ok (.invokevirtual 74, 3) := dk_182 0 74 (dk_at dksL_law_5 3 rfl rfl)
theorem dL_law_185 : decode cL_law 185 = .ok (.iload 5, 2) := dk_21 5 (dk_at dksL_law_5 6 rfl rfl)
theorem dL_law_187 : decode cL_law 187 = .ok (.if_icmp .eq 5, 3) := dk_159 0 5 (dk_at dksL_law_5 8 rfl rfl)
theorem dL_law_190 : decode cL_law 190 = .ok (.iconst 0, 1) := dk_3 (dk_at dksL_law_5 11 rfl rfl)
theorem dL_law_191 : decode cL_law 191 = .ok (.ireturn, 1) := dk_172 (dk_at dksL_law_5 12 rfl rfl)
theorem dL_law_192 : decode cL_law 192 = .ok (.iload 5, 2) := dk_21 5 (dk_at dksL_law_5 13 rfl rfl)
theorem dL_law_194 : decode cL_law 194 = .ok (.ifCond .ne 15, 3) := dk_154 0 15 (dk_at dksL_law_5 15 rfl rfl)
theorem dL_law_197 : decode cL_law 197 = .ok (.aload_n 3, 1) := dk_45 (dk_at dksL_law_5 18 rfl rfl)
theorem dL_law_198 : decode cL_law 198 = .ok (.iconst 0, 1) := dk_3 (dk_at dksL_law_5 19 rfl rfl)
theorem dL_law_199 : decode cL_law 199 = .ok (.laload, 1) := dk_47 (dk_at dksL_law_5 20 rfl rfl)
theorem dL_law_200 : decode cL_law 200 = .ok (.iload 6, 2) := dk_21 6 (dk_at dksL_law_5 21 rfl rfl)
theorem dL_law_202 : decode cL_law 202 = .ok (.i2l, 1) := dk_133 (dk_at dksL_law_5 23 rfl rfl)
theorem dL_law_203 : decode cL_law 203 = .ok (.lcmp, 1) := dk_148 (dk_at dksL_law_6 0 rfl rfl)
theorem dL_law_204 : decode cL_law 204 = .ok (.ifCond .eq 5, 3) := dk_153 0 5 (dk_at dksL_law_6 1 rfl rfl)
theorem dL_law_207 : decode cL_law 207 = .ok (.iconst 0, 1) := dk_3 (dk_at dksL_law_6 4 rfl rfl)
theorem dL_law_208 : decode cL_law 208 = .ok (.ireturn, 1) := dk_172 (dk_at dksL_law_6 5 rfl rfl)
theorem dL_law_209 : decode cL_law 209 = .ok (.goto 1001, 3) := dk_167 3 233 (dk_at dksL_law_6 6 rfl rfl)
theorem dL_law_212 : decode cL_law 212 = .ok (.aload_n 1, 1) := dk_43 (dk_at dksL_law_6 9 rfl rfl)
theorem dL_law_213 : decode cL_law 213 = .ok (.aload_n 0, 1) := dk_42 (dk_at dksL_law_6 10 rfl rfl)
theorem dL_law_214 : decode cL_law 214 = .ok (.iload 4, 2) := dk_21 4 (dk_at dksL_law_6 11 rfl rfl)
theorem dL_law_216 : decode cL_law 216 = .ok (.iconst 1, 1) := dk_4 (dk_at dksL_law_6 13 rfl rfl)
theorem dL_law_217 : decode cL_law 217 = .ok (.iadd, 1) := dk_96 (dk_at dksL_law_6 14 rfl rfl)
theorem dL_law_218 : decode cL_law 218 = .ok (.iaload, 1) := dk_46 (dk_at dksL_law_6 15 rfl rfl)
theorem dL_law_219 : decode cL_law 219 = .ok (.aload_n 0, 1) := dk_42 (dk_at dksL_law_6 16 rfl rfl)
theorem dL_law_220 : decode cL_law 220 = .ok (.iload 4, 2) := dk_21 4 (dk_at dksL_law_6 17 rfl rfl)
theorem dL_law_222 : decode cL_law 222 = .ok (.iconst 2, 1) := dk_5 (dk_at dksL_law_6 19 rfl rfl)
theorem dL_law_223 : decode cL_law 223 = .ok (.iadd, 1) := dk_96 (dk_at dksL_law_6 20 rfl rfl)
theorem dL_law_224 : decode cL_law 224 = .ok (.iaload, 1) := dk_46 (dk_at dksL_law_6 21 rfl rfl)
theorem dL_law_225 : decode cL_law 225 = .ok (.aload_n 3, 1) := dk_45 (dk_at dksL_law_6 22 rfl rfl)
theorem dL_law_226 : decode cL_law 226 = .ok (.invokestatic 78, 3) := dk_184 0 78 (dk_at dksL_law_7 0 rfl rfl)
theorem dL_law_229 : decode cL_law 229 = .ok (.istore 5, 2) := dk_54 5 (dk_at dksL_law_7 3 rfl rfl)
theorem dL_law_231 : decode cL_law 231 = .ok (.aload_n 2, 1) := dk_44 (dk_at dksL_law_7 5 rfl rfl)
theorem dL_law_232 : decode cL_law 232 = .ok (.aload_n 0, 1) := dk_42 (dk_at dksL_law_7 6 rfl rfl)
theorem dL_law_233 : decode cL_law 233 = .ok (.iload 4, 2) := dk_21 4 (dk_at dksL_law_7 7 rfl rfl)
theorem dL_law_235 : decode cL_law 235 = .ok (.iconst 1, 1) := dk_4 (dk_at dksL_law_7 9 rfl rfl)
theorem dL_law_236 : decode cL_law 236 = .ok (.iadd, 1) := dk_96 (dk_at dksL_law_7 10 rfl rfl)
theorem dL_law_237 : decode cL_law 237 = .ok (.iaload, 1) := dk_46 (dk_at dksL_law_7 11 rfl rfl)
theorem dL_law_238 : decode cL_law 238 = .ok (.aload_n 0, 1) := dk_42 (dk_at dksL_law_7 12 rfl rfl)
theorem dL_law_239 : decode cL_law 239 = .ok (.iload 4, 2) := dk_21 4 (dk_at dksL_law_7 13 rfl rfl)
theorem dL_law_241 : decode cL_law 241 = .ok (.iconst 2, 1) := dk_5 (dk_at dksL_law_7 15 rfl rfl)
theorem dL_law_242 : decode cL_law 242 = .ok (.iadd, 1) := dk_96 (dk_at dksL_law_7 16 rfl rfl)
theorem dL_law_243 : decode cL_law 243 = .ok (.iaload, 1) := dk_46 (dk_at dksL_law_7 17 rfl rfl)
theorem dL_law_244 : decode cL_law 244 = .ok (.invokevirtual 81, 3) := dk_182 0 81 (dk_at dksL_law_7 18 rfl rfl)
theorem dL_law_247 : decode cL_law 247 = .ok (.istore 6, 2) := dk_54 6 (dk_at dksL_law_7 21 rfl rfl)
theorem dL_law_249 : decode cL_law 249 = .ok (.aload_n 2, 1) := dk_44 (dk_at dksL_law_7 23 rfl rfl)
theorem dL_law_250 : decode cL_law 250 = .ok (.invokevirtual 74, 3) := dk_182 0 74 (dk_at dksL_law_8 0 rfl rfl)
theorem dL_law_253 : decode cL_law 253 = .ok (.iload 5, 2) := dk_21 5 (dk_at dksL_law_8 3 rfl rfl)
theorem dL_law_255 : decode cL_law 255 = .ok (.if_icmp .eq 5, 3) := dk_159 0 5 (dk_at dksL_law_8 5 rfl rfl)
theorem dL_law_258 : decode cL_law 258 = .ok (.iconst 0, 1) := dk_3 (dk_at dksL_law_8 8 rfl rfl)
theorem dL_law_259 : decode cL_law 259 = .ok (.ireturn, 1) := dk_172 (dk_at dksL_law_8 9 rfl rfl)
theorem dL_law_260 : decode cL_law 260 = .ok (.iload 5, 2) := dk_21 5 (dk_at dksL_law_8 10 rfl rfl)
theorem dL_law_262 : decode cL_law 262 = .ok (.ifCond .ne 15, 3) := dk_154 0 15 (dk_at dksL_law_8 12 rfl rfl)
theorem dL_law_265 : decode cL_law 265 = .ok (.aload_n 3, 1) := dk_45 (dk_at dksL_law_8 15 rfl rfl)
theorem dL_law_266 : decode cL_law 266 = .ok (.iconst 0, 1) := dk_3 (dk_at dksL_law_8 16 rfl rfl)
theorem dL_law_267 : decode cL_law 267 = .ok (.laload, 1) := dk_47 (dk_at dksL_law_8 17 rfl rfl)
theorem dL_law_268 : decode cL_law 268 = .ok (.iload 6, 2) := dk_21 6 (dk_at dksL_law_8 18 rfl rfl)
theorem dL_law_270 : decode cL_law 270 = .ok (.i2l, 1) := dk_133 (dk_at dksL_law_8 20 rfl rfl)
theorem dL_law_271 : decode cL_law 271 = .ok (.lcmp, 1) := dk_148 (dk_at dksL_law_8 21 rfl rfl)
theorem dL_law_272 : decode cL_law 272 = .ok (.ifCond .eq 5, 3) := dk_153 0 5 (dk_at dksL_law_9 0 rfl rfl)
theorem dL_law_275 : decode cL_law 275 = .ok (.iconst 0, 1) := dk_3 (dk_at dksL_law_9 3 rfl rfl)
theorem dL_law_276 : decode cL_law 276 = .ok (.ireturn, 1) := dk_172 (dk_at dksL_law_9 4 rfl rfl)
theorem dL_law_277 : decode cL_law 277 = .ok (.goto 933, 3) := dk_167 3 165 (dk_at dksL_law_9 5 rfl rfl)
theorem dL_law_280 : decode cL_law 280 = .ok (.aload_n 1, 1) := dk_43 (dk_at dksL_law_9 8 rfl rfl)
theorem dL_law_281 : decode cL_law 281 = .ok (.aload_n 0, 1) := dk_42 (dk_at dksL_law_9 9 rfl rfl)
theorem dL_law_282 : decode cL_law 282 = .ok (.iload 4, 2) := dk_21 4 (dk_at dksL_law_9 10 rfl rfl)
theorem dL_law_284 : decode cL_law 284 = .ok (.iconst 1, 1) := dk_4 (dk_at dksL_law_9 12 rfl rfl)
theorem dL_law_285 : decode cL_law 285 = .ok (.iadd, 1) := dk_96 (dk_at dksL_law_9 13 rfl rfl)
theorem dL_law_286 : decode cL_law 286 = .ok (.iaload, 1) := dk_46 (dk_at dksL_law_9 14 rfl rfl)
theorem dL_law_287 : decode cL_law 287 = .ok (.aload_n 0, 1) := dk_42 (dk_at dksL_law_9 15 rfl rfl)
theorem dL_law_288 : decode cL_law 288 = .ok (.iload 4, 2) := dk_21 4 (dk_at dksL_law_9 16 rfl rfl)
theorem dL_law_290 : decode cL_law 290 = .ok (.iconst 2, 1) := dk_5 (dk_at dksL_law_9 18 rfl rfl)
theorem dL_law_291 : decode cL_law 291 = .ok (.iadd, 1) := dk_96 (dk_at dksL_law_9 19 rfl rfl)
theorem dL_law_292 : decode cL_law 292 = .ok (.iaload, 1) := dk_46 (dk_at dksL_law_9 20 rfl rfl)
theorem dL_law_293 : decode cL_law 293 = .ok (.aload_n 3, 1) := dk_45 (dk_at dksL_law_9 21 rfl rfl)
theorem dL_law_294 : decode cL_law 294 = .ok (.invokestatic 82, 3) := dk_184 0 82 (dk_at dksL_law_10 0 rfl rfl)
theorem dL_law_297 : decode cL_law 297 = .ok (.istore 5, 2) := dk_54 5 (dk_at dksL_law_10 3 rfl rfl)
theorem dL_law_299 : decode cL_law 299 = .ok (.aload_n 2, 1) := dk_44 (dk_at dksL_law_10 5 rfl rfl)
theorem dL_law_300 : decode cL_law 300 = .ok (.aload_n 0, 1) := dk_42 (dk_at dksL_law_10 6 rfl rfl)
theorem dL_law_301 : decode cL_law 301 = .ok (.iload 4, 2) := dk_21 4 (dk_at dksL_law_10 7 rfl rfl)
theorem dL_law_303 : decode cL_law 303 = .ok (.iconst 1, 1) := dk_4 (dk_at dksL_law_10 9 rfl rfl)
theorem dL_law_304 : decode cL_law 304 = .ok (.iadd, 1) := dk_96 (dk_at dksL_law_10 10 rfl rfl)
theorem dL_law_305 : decode cL_law 305 = .ok (.iaload, 1) := dk_46 (dk_at dksL_law_10 11 rfl rfl)
theorem dL_law_306 : decode cL_law 306 = .ok (.aload_n 0, 1) := dk_42 (dk_at dksL_law_10 12 rfl rfl)
theorem dL_law_307 : decode cL_law 307 = .ok (.iload 4, 2) := dk_21 4 (dk_at dksL_law_10 13 rfl rfl)
theorem dL_law_309 : decode cL_law 309 = .ok (.iconst 2, 1) := dk_5 (dk_at dksL_law_10 15 rfl rfl)
theorem dL_law_310 : decode cL_law 310 = .ok (.iadd, 1) := dk_96 (dk_at dksL_law_10 16 rfl rfl)
theorem dL_law_311 : decode cL_law 311 = .ok (.iaload, 1) := dk_46 (dk_at dksL_law_10 17 rfl rfl)
theorem dL_law_312 : decode cL_law 312 = .ok (.invokevirtual 84, 3) := dk_182 0 84 (dk_at dksL_law_10 18 rfl rfl)
theorem dL_law_315 : decode cL_law 315 = .ok (.istore 6, 2) := dk_54 6 (dk_at dksL_law_10 21 rfl rfl)
theorem dL_law_317 : decode cL_law 317 = .ok (.aload_n 2, 1) := dk_44 (dk_at dksL_law_10 23 rfl rfl)
theorem dL_law_318 : decode cL_law 318 = .ok (.invokevirtual 74, 3) := dk_182 0 74 (dk_at dksL_law_11 0 rfl rfl)
theorem dL_law_321 : decode cL_law 321 = .ok (.iload 5, 2) := dk_21 5 (dk_at dksL_law_11 3 rfl rfl)
theorem dL_law_323 : decode cL_law 323 = .ok (.if_icmp .eq 5, 3) := dk_159 0 5 (dk_at dksL_law_11 5 rfl rfl)
theorem dL_law_326 : decode cL_law 326 = .ok (.iconst 0, 1) := dk_3 (dk_at dksL_law_11 8 rfl rfl)
theorem dL_law_327 : decode cL_law 327 = .ok (.ireturn, 1) := dk_172 (dk_at dksL_law_11 9 rfl rfl)
theorem dL_law_328 : decode cL_law 328 = .ok (.iload 5, 2) := dk_21 5 (dk_at dksL_law_11 10 rfl rfl)
theorem dL_law_330 : decode cL_law 330 = .ok (.ifCond .ne 15, 3) := dk_154 0 15 (dk_at dksL_law_11 12 rfl rfl)
theorem dL_law_333 : decode cL_law 333 = .ok (.aload_n 3, 1) := dk_45 (dk_at dksL_law_11 15 rfl rfl)
theorem dL_law_334 : decode cL_law 334 = .ok (.iconst 0, 1) := dk_3 (dk_at dksL_law_11 16 rfl rfl)
theorem dL_law_335 : decode cL_law 335 = .ok (.laload, 1) := dk_47 (dk_at dksL_law_11 17 rfl rfl)
theorem dL_law_336 : decode cL_law 336 = .ok (.iload 6, 2) := dk_21 6 (dk_at dksL_law_11 18 rfl rfl)
theorem dL_law_338 : decode cL_law 338 = .ok (.i2l, 1) := dk_133 (dk_at dksL_law_11 20 rfl rfl)
theorem dL_law_339 : decode cL_law 339 = .ok (.lcmp, 1) := dk_148 (dk_at dksL_law_11 21 rfl rfl)
theorem dL_law_340 : decode cL_law 340 = .ok (.ifCond .eq 5, 3) := dk_153 0 5 (dk_at dksL_law_12 0 rfl rfl)
theorem dL_law_343 : decode cL_law 343 = .ok (.iconst 0, 1) := dk_3 (dk_at dksL_law_12 3 rfl rfl)
theorem dL_law_344 : decode cL_law 344 = .ok (.ireturn, 1) := dk_172 (dk_at dksL_law_12 4 rfl rfl)
theorem dL_law_345 : decode cL_law 345 = .ok (.goto 865, 3) := dk_167 3 97 (dk_at dksL_law_12 5 rfl rfl)
theorem dL_law_348 : decode cL_law 348 = .ok (.aload_n 1, 1) := dk_43 (dk_at dksL_law_12 8 rfl rfl)
theorem dL_law_349 : decode cL_law 349 = .ok (.aload_n 0, 1) := dk_42 (dk_at dksL_law_12 9 rfl rfl)
theorem dL_law_350 : decode cL_law 350 = .ok (.iload 4, 2) := dk_21 4 (dk_at dksL_law_12 10 rfl rfl)
theorem dL_law_352 : decode cL_law 352 = .ok (.iconst 1, 1) := dk_4 (dk_at dksL_law_12 12 rfl rfl)
theorem dL_law_353 : decode cL_law 353 = .ok (.iadd, 1) := dk_96 (dk_at dksL_law_12 13 rfl rfl)
theorem dL_law_354 : decode cL_law 354 = .ok (.iaload, 1) := dk_46 (dk_at dksL_law_12 14 rfl rfl)
theorem dL_law_355 : decode cL_law 355 = .ok (.aload_n 0, 1) := dk_42 (dk_at dksL_law_12 15 rfl rfl)
theorem dL_law_356 : decode cL_law 356 = .ok (.iload 4, 2) := dk_21 4 (dk_at dksL_law_12 16 rfl rfl)
theorem dL_law_358 : decode cL_law 358 = .ok (.iconst 2, 1) := dk_5 (dk_at dksL_law_12 18 rfl rfl)
theorem dL_law_359 : decode cL_law 359 = .ok (.iadd, 1) := dk_96 (dk_at dksL_law_12 19 rfl rfl)
theorem dL_law_360 : decode cL_law 360 = .ok (.iaload, 1) := dk_46 (dk_at dksL_law_12 20 rfl rfl)
theorem dL_law_361 : decode cL_law 361 = .ok (.aload_n 0, 1) := dk_42 (dk_at dksL_law_12 21 rfl rfl)
theorem dL_law_362 : decode cL_law 362 = .ok (.iload 4, 2) := dk_21 4 (dk_at dksL_law_12 22 rfl rfl)
theorem dL_law_364 : decode cL_law 364 = .ok (.iconst 3, 1) := dk_6 (dk_at dksL_law_13 0 rfl rfl)
theorem dL_law_365 : decode cL_law 365 = .ok (.iadd, 1) := dk_96 (dk_at dksL_law_13 1 rfl rfl)
theorem dL_law_366 : decode cL_law 366 = .ok (.iaload, 1) := dk_46 (dk_at dksL_law_13 2 rfl rfl)
theorem dL_law_367 : decode cL_law 367 = .ok (.aload_n 0, 1) := dk_42 (dk_at dksL_law_13 3 rfl rfl)
theorem dL_law_368 : decode cL_law 368 = .ok (.iload 4, 2) := dk_21 4 (dk_at dksL_law_13 4 rfl rfl)
theorem dL_law_370 : decode cL_law 370 = .ok (.iconst 4, 1) := dk_7 (dk_at dksL_law_13 6 rfl rfl)
theorem dL_law_371 : decode cL_law 371 = .ok (.iadd, 1) := dk_96 (dk_at dksL_law_13 7 rfl rfl)
theorem dL_law_372 : decode cL_law 372 = .ok (.iaload, 1) := dk_46 (dk_at dksL_law_13 8 rfl rfl)
theorem dL_law_373 : decode cL_law 373 = .ok (.aload_n 3, 1) := dk_45 (dk_at dksL_law_13 9 rfl rfl)
theorem dL_law_374 : decode cL_law 374 = .ok (.invokestatic 85, 3) := dk_184 0 85 (dk_at dksL_law_13 10 rfl rfl)
theorem dL_law_377 : decode cL_law 377 = .ok (.istore 5, 2) := dk_54 5 (dk_at dksL_law_13 13 rfl rfl)
theorem dL_law_379 : decode cL_law 379 = .ok (.aload_n 2, 1) := dk_44 (dk_at dksL_law_13 15 rfl rfl)
theorem dL_law_380 : decode cL_law 380 = .ok (.aload_n 0, 1) := dk_42 (dk_at dksL_law_13 16 rfl rfl)
theorem dL_law_381 : decode cL_law 381 = .ok (.iload 4, 2) := dk_21 4 (dk_at dksL_law_13 17 rfl rfl)
theorem dL_law_383 : decode cL_law 383 = .ok (.iconst 1, 1) := dk_4 (dk_at dksL_law_13 19 rfl rfl)
theorem dL_law_384 : decode cL_law 384 = .ok (.iadd, 1) := dk_96 (dk_at dksL_law_13 20 rfl rfl)
theorem dL_law_385 : decode cL_law 385 = .ok (.iaload, 1) := dk_46 (dk_at dksL_law_13 21 rfl rfl)
theorem dL_law_386 : decode cL_law 386 = .ok (.aload_n 0, 1) := dk_42 (dk_at dksL_law_13 22 rfl rfl)
theorem dL_law_387 : decode cL_law 387 = .ok (.iload 4, 2) := dk_21 4 (dk_at dksL_law_14 0 rfl rfl)
theorem dL_law_389 : decode cL_law 389 = .ok (.iconst 2, 1) := dk_5 (dk_at dksL_law_14 2 rfl rfl)
theorem dL_law_390 : decode cL_law 390 = .ok (.iadd, 1) := dk_96 (dk_at dksL_law_14 3 rfl rfl)
theorem dL_law_391 : decode cL_law 391 = .ok (.iaload, 1) := dk_46 (dk_at dksL_law_14 4 rfl rfl)
theorem dL_law_392 : decode cL_law 392 = .ok (.aload_n 0, 1) := dk_42 (dk_at dksL_law_14 5 rfl rfl)
theorem dL_law_393 : decode cL_law 393 = .ok (.iload 4, 2) := dk_21 4 (dk_at dksL_law_14 6 rfl rfl)
theorem dL_law_395 : decode cL_law 395 = .ok (.iconst 3, 1) := dk_6 (dk_at dksL_law_14 8 rfl rfl)
theorem dL_law_396 : decode cL_law 396 = .ok (.iadd, 1) := dk_96 (dk_at dksL_law_14 9 rfl rfl)
theorem dL_law_397 : decode cL_law 397 = .ok (.iaload, 1) := dk_46 (dk_at dksL_law_14 10 rfl rfl)
theorem dL_law_398 : decode cL_law 398 = .ok (.aload_n 0, 1) := dk_42 (dk_at dksL_law_14 11 rfl rfl)
theorem dL_law_399 : decode cL_law 399 = .ok (.iload 4, 2) := dk_21 4 (dk_at dksL_law_14 12 rfl rfl)
theorem dL_law_401 : decode cL_law 401 = .ok (.iconst 4, 1) := dk_7 (dk_at dksL_law_14 14 rfl rfl)
theorem dL_law_402 : decode cL_law 402 = .ok (.iadd, 1) := dk_96 (dk_at dksL_law_14 15 rfl rfl)
theorem dL_law_403 : decode cL_law 403 = .ok (.iaload, 1) := dk_46 (dk_at dksL_law_14 16 rfl rfl)
theorem dL_law_404 : decode cL_law 404 = .ok (.invokevirtual 88, 3) := dk_182 0 88 (dk_at dksL_law_14 17 rfl rfl)
theorem dL_law_407 : decode cL_law 407 = .ok (.istore 6, 2) := dk_54 6 (dk_at dksL_law_14 20 rfl rfl)
theorem dL_law_409 : decode cL_law 409 = .ok (.aload_n 2, 1) := dk_44 (dk_at dksL_law_14 22 rfl rfl)
theorem dL_law_410 : decode cL_law 410 = .ok (.invokevirtual 74, 3) := dk_182 0 74 (dk_at dksL_law_15 0 rfl rfl)
theorem dL_law_413 : decode cL_law 413 = .ok (.iload 5, 2) := dk_21 5 (dk_at dksL_law_15 3 rfl rfl)
theorem dL_law_415 : decode cL_law 415 = .ok (.if_icmp .eq 5, 3) := dk_159 0 5 (dk_at dksL_law_15 5 rfl rfl)
theorem dL_law_418 : decode cL_law 418 = .ok (.iconst 0, 1) := dk_3 (dk_at dksL_law_15 8 rfl rfl)
theorem dL_law_419 : decode cL_law 419 = .ok (.ireturn, 1) := dk_172 (dk_at dksL_law_15 9 rfl rfl)
theorem dL_law_420 : decode cL_law 420 = .ok (.iload 5, 2) := dk_21 5 (dk_at dksL_law_15 10 rfl rfl)
theorem dL_law_422 : decode cL_law 422 = .ok (.ifCond .ne 15, 3) := dk_154 0 15 (dk_at dksL_law_15 12 rfl rfl)
theorem dL_law_425 : decode cL_law 425 = .ok (.aload_n 3, 1) := dk_45 (dk_at dksL_law_15 15 rfl rfl)
theorem dL_law_426 : decode cL_law 426 = .ok (.iconst 0, 1) := dk_3 (dk_at dksL_law_15 16 rfl rfl)
theorem dL_law_427 : decode cL_law 427 = .ok (.laload, 1) := dk_47 (dk_at dksL_law_15 17 rfl rfl)
theorem dL_law_428 : decode cL_law 428 = .ok (.iload 6, 2) := dk_21 6 (dk_at dksL_law_15 18 rfl rfl)
theorem dL_law_430 : decode cL_law 430 = .ok (.i2l, 1) := dk_133 (dk_at dksL_law_15 20 rfl rfl)
theorem dL_law_431 : decode cL_law 431 = .ok (.lcmp, 1) := dk_148 (dk_at dksL_law_15 21 rfl rfl)
theorem dL_law_432 : decode cL_law 432 = .ok (.ifCond .eq 5, 3) := dk_153 0 5 (dk_at dksL_law_16 0 rfl rfl)
theorem dL_law_435 : decode cL_law 435 = .ok (.iconst 0, 1) := dk_3 (dk_at dksL_law_16 3 rfl rfl)
theorem dL_law_436 : decode cL_law 436 = .ok (.ireturn, 1) := dk_172 (dk_at dksL_law_16 4 rfl rfl)
theorem dL_law_437 : decode cL_law 437 = .ok (.goto 773, 3) := dk_167 3 5 (dk_at dksL_law_16 5 rfl rfl)
theorem dL_law_440 : decode cL_law 440 = .ok (.aload_n 1, 1) := dk_43 (dk_at dksL_law_16 8 rfl rfl)
theorem dL_law_441 : decode cL_law 441 = .ok (.invokevirtual 89, 3) := dk_182 0 89 (dk_at dksL_law_16 9 rfl rfl)
theorem dL_law_444 : decode cL_law 444 = .ok (.aload_n 2, 1) := dk_44 (dk_at dksL_law_16 12 rfl rfl)
theorem dL_law_445 : decode cL_law 445 = .ok (.invokevirtual 93, 3) := dk_182 0 93 (dk_at dksL_law_16 13 rfl rfl)
theorem dL_law_448 : decode cL_law 448 = .ok (.if_icmp .eq 762, 3) := dk_159 2 250 (dk_at dksL_law_16 16 rfl rfl)
theorem dL_law_451 : decode cL_law 451 = .ok (.iconst 0, 1) := dk_3 (dk_at dksL_law_16 19 rfl rfl)
theorem dL_law_452 : decode cL_law 452 = .ok (.ireturn, 1) := dk_172 (dk_at dksL_law_16 20 rfl rfl)
theorem dL_law_453 : decode cL_law 453 = .ok (.aload_n 1, 1) := dk_43 (dk_at dksL_law_16 21 rfl rfl)
theorem dL_law_454 : decode cL_law 454 = .ok (.aload_n 0, 1) := dk_42 (dk_at dksL_law_16 22 rfl rfl)
theorem dL_law_455 : decode cL_law 455 = .ok (.iload 4, 2) := dk_21 4 (dk_at dksL_law_17 0 rfl rfl)
theorem dL_law_457 : decode cL_law 457 = .ok (.iconst 1, 1) := dk_4 (dk_at dksL_law_17 2 rfl rfl)
theorem dL_law_458 : decode cL_law 458 = .ok (.iadd, 1) := dk_96 (dk_at dksL_law_17 3 rfl rfl)
theorem dL_law_459 : decode cL_law 459 = .ok (.iaload, 1) := dk_46 (dk_at dksL_law_17 4 rfl rfl)
theorem dL_law_460 : decode cL_law 460 = .ok (.aload_n 3, 1) := dk_45 (dk_at dksL_law_17 5 rfl rfl)
theorem dL_law_461 : decode cL_law 461 = .ok (.invokestatic 94, 3) := dk_184 0 94 (dk_at dksL_law_17 6 rfl rfl)
theorem dL_law_464 : decode cL_law 464 = .ok (.istore 5, 2) := dk_54 5 (dk_at dksL_law_17 9 rfl rfl)
theorem dL_law_466 : decode cL_law 466 = .ok (.aload_n 2, 1) := dk_44 (dk_at dksL_law_17 11 rfl rfl)
theorem dL_law_467 : decode cL_law 467 = .ok (.aload_n 0, 1) := dk_42 (dk_at dksL_law_17 12 rfl rfl)
theorem dL_law_468 : decode cL_law 468 = .ok (.iload 4, 2) := dk_21 4 (dk_at dksL_law_17 13 rfl rfl)
theorem dL_law_470 : decode cL_law 470 = .ok (.iconst 1, 1) := dk_4 (dk_at dksL_law_17 15 rfl rfl)
theorem dL_law_471 : decode cL_law 471 = .ok (.iadd, 1) := dk_96 (dk_at dksL_law_17 16 rfl rfl)
theorem dL_law_472 : decode cL_law 472 = .ok (.iaload, 1) := dk_46 (dk_at dksL_law_17 17 rfl rfl)
theorem dL_law_473 : decode cL_law 473 = .ok (.invokevirtual 97, 3) := dk_182 0 97 (dk_at dksL_law_17 18 rfl rfl)
theorem dL_law_476 : decode cL_law 476 = .ok (.istore 6, 2) := dk_54 6 (dk_at dksL_law_17 21 rfl rfl)
theorem dL_law_478 : decode cL_law 478 = .ok (.aload_n 2, 1) := dk_44 (dk_at dksL_law_17 23 rfl rfl)
theorem dL_law_479 : decode cL_law 479 = .ok (.invokevirtual 74, 3) := dk_182 0 74 (dk_at dksL_law_18 0 rfl rfl)
theorem dL_law_482 : decode cL_law 482 = .ok (.iload 5, 2) := dk_21 5 (dk_at dksL_law_18 3 rfl rfl)
theorem dL_law_484 : decode cL_law 484 = .ok (.if_icmp .eq 5, 3) := dk_159 0 5 (dk_at dksL_law_18 5 rfl rfl)
theorem dL_law_487 : decode cL_law 487 = .ok (.iconst 0, 1) := dk_3 (dk_at dksL_law_18 8 rfl rfl)
theorem dL_law_488 : decode cL_law 488 = .ok (.ireturn, 1) := dk_172 (dk_at dksL_law_18 9 rfl rfl)
theorem dL_law_489 : decode cL_law 489 = .ok (.iload 5, 2) := dk_21 5 (dk_at dksL_law_18 10 rfl rfl)
theorem dL_law_491 : decode cL_law 491 = .ok (.ifCond .ne 15, 3) := dk_154 0 15 (dk_at dksL_law_18 12 rfl rfl)
theorem dL_law_494 : decode cL_law 494 = .ok (.aload_n 3, 1) := dk_45 (dk_at dksL_law_18 15 rfl rfl)
theorem dL_law_495 : decode cL_law 495 = .ok (.iconst 0, 1) := dk_3 (dk_at dksL_law_18 16 rfl rfl)
theorem dL_law_496 : decode cL_law 496 = .ok (.laload, 1) := dk_47 (dk_at dksL_law_18 17 rfl rfl)
theorem dL_law_497 : decode cL_law 497 = .ok (.iload 6, 2) := dk_21 6 (dk_at dksL_law_18 18 rfl rfl)
theorem dL_law_499 : decode cL_law 499 = .ok (.i2l, 1) := dk_133 (dk_at dksL_law_18 20 rfl rfl)
theorem dL_law_500 : decode cL_law 500 = .ok (.lcmp, 1) := dk_148 (dk_at dksL_law_18 21 rfl rfl)
theorem dL_law_501 : decode cL_law 501 = .ok (.ifCond .eq 5, 3) := dk_153 0 5 (dk_at dksL_law_19 0 rfl rfl)
theorem dL_law_504 : decode cL_law 504 = .ok (.iconst 0, 1) := dk_3 (dk_at dksL_law_19 3 rfl rfl)
theorem dL_law_505 : decode cL_law 505 = .ok (.ireturn, 1) := dk_172 (dk_at dksL_law_19 4 rfl rfl)
theorem dL_law_506 : decode cL_law 506 = .ok (.goto 704, 3) := dk_167 2 192 (dk_at dksL_law_19 5 rfl rfl)
theorem dL_law_509 : decode cL_law 509 = .ok (.aload_n 1, 1) := dk_43 (dk_at dksL_law_19 8 rfl rfl)
theorem dL_law_510 : decode cL_law 510 = .ok (.aload_n 0, 1) := dk_42 (dk_at dksL_law_19 9 rfl rfl)
theorem dL_law_511 : decode cL_law 511 = .ok (.iload 4, 2) := dk_21 4 (dk_at dksL_law_19 10 rfl rfl)
theorem dL_law_513 : decode cL_law 513 = .ok (.iconst 1, 1) := dk_4 (dk_at dksL_law_19 12 rfl rfl)
theorem dL_law_514 : decode cL_law 514 = .ok (.iadd, 1) := dk_96 (dk_at dksL_law_19 13 rfl rfl)
theorem dL_law_515 : decode cL_law 515 = .ok (.iaload, 1) := dk_46 (dk_at dksL_law_19 14 rfl rfl)
theorem dL_law_516 : decode cL_law 516 = .ok (.aload_n 0, 1) := dk_42 (dk_at dksL_law_19 15 rfl rfl)
theorem dL_law_517 : decode cL_law 517 = .ok (.iload 4, 2) := dk_21 4 (dk_at dksL_law_19 16 rfl rfl)
theorem dL_law_519 : decode cL_law 519 = .ok (.iconst 2, 1) := dk_5 (dk_at dksL_law_19 18 rfl rfl)
theorem dL_law_520 : decode cL_law 520 = .ok (.iadd, 1) := dk_96 (dk_at dksL_law_19 19 rfl rfl)
theorem dL_law_521 : decode cL_law 521 = .ok (.iaload, 1) := dk_46 (dk_at dksL_law_19 20 rfl rfl)
theorem dL_law_522 : decode cL_law 522 = .ok (.aload_n 3, 1) := dk_45 (dk_at dksL_law_19 21 rfl rfl)
theorem dL_law_523 : decode cL_law 523 = .ok (.invokestatic 98, 3) := dk_184 0 98 (dk_at dksL_law_20 0 rfl rfl)
theorem dL_law_526 : decode cL_law 526 = .ok (.istore 5, 2) := dk_54 5 (dk_at dksL_law_20 3 rfl rfl)
theorem dL_law_528 : decode cL_law 528 = .ok (.aload_n 2, 1) := dk_44 (dk_at dksL_law_20 5 rfl rfl)
theorem dL_law_529 : decode cL_law 529 = .ok (.aload_n 0, 1) := dk_42 (dk_at dksL_law_20 6 rfl rfl)
theorem dL_law_530 : decode cL_law 530 = .ok (.iload 4, 2) := dk_21 4 (dk_at dksL_law_20 7 rfl rfl)
theorem dL_law_532 : decode cL_law 532 = .ok (.iconst 1, 1) := dk_4 (dk_at dksL_law_20 9 rfl rfl)
theorem dL_law_533 : decode cL_law 533 = .ok (.iadd, 1) := dk_96 (dk_at dksL_law_20 10 rfl rfl)
theorem dL_law_534 : decode cL_law 534 = .ok (.iaload, 1) := dk_46 (dk_at dksL_law_20 11 rfl rfl)
theorem dL_law_535 : decode cL_law 535 = .ok (.aload_n 0, 1) := dk_42 (dk_at dksL_law_20 12 rfl rfl)
theorem dL_law_536 : decode cL_law 536 = .ok (.iload 4, 2) := dk_21 4 (dk_at dksL_law_20 13 rfl rfl)
theorem dL_law_538 : decode cL_law 538 = .ok (.iconst 2, 1) := dk_5 (dk_at dksL_law_20 15 rfl rfl)
theorem dL_law_539 : decode cL_law 539 = .ok (.iadd, 1) := dk_96 (dk_at dksL_law_20 16 rfl rfl)
theorem dL_law_540 : decode cL_law 540 = .ok (.iaload, 1) := dk_46 (dk_at dksL_law_20 17 rfl rfl)
theorem dL_law_541 : decode cL_law 541 = .ok (.invokevirtual 100, 3) := dk_182 0 100 (dk_at dksL_law_20 18 rfl rfl)
theorem dL_law_544 : decode cL_law 544 = .ok (.istore 6, 2) := dk_54 6 (dk_at dksL_law_20 21 rfl rfl)
theorem dL_law_546 : decode cL_law 546 = .ok (.aload_n 2, 1) := dk_44 (dk_at dksL_law_20 23 rfl rfl)
theorem dL_law_547 : decode cL_law 547 = .ok (.invokevirtual 74, 3) := dk_182 0 74 (dk_at dksL_law_21 0 rfl rfl)
theorem dL_law_550 : decode cL_law 550 = .ok (.iload 5, 2) := dk_21 5 (dk_at dksL_law_21 3 rfl rfl)
theorem dL_law_552 : decode cL_law 552 = .ok (.if_icmp .eq 5, 3) := dk_159 0 5 (dk_at dksL_law_21 5 rfl rfl)
theorem dL_law_555 : decode cL_law 555 = .ok (.iconst 0, 1) := dk_3 (dk_at dksL_law_21 8 rfl rfl)
theorem dL_law_556 : decode cL_law 556 = .ok (.ireturn, 1) := dk_172 (dk_at dksL_law_21 9 rfl rfl)
theorem dL_law_557 : decode cL_law 557 = .ok (.iload 5, 2) := dk_21 5 (dk_at dksL_law_21 10 rfl rfl)
theorem dL_law_559 : decode cL_law 559 = .ok (.ifCond .ne 15, 3) := dk_154 0 15 (dk_at dksL_law_21 12 rfl rfl)
theorem dL_law_562 : decode cL_law 562 = .ok (.aload_n 3, 1) := dk_45 (dk_at dksL_law_21 15 rfl rfl)
theorem dL_law_563 : decode cL_law 563 = .ok (.iconst 0, 1) := dk_3 (dk_at dksL_law_21 16 rfl rfl)
theorem dL_law_564 : decode cL_law 564 = .ok (.laload, 1) := dk_47 (dk_at dksL_law_21 17 rfl rfl)
theorem dL_law_565 : decode cL_law 565 = .ok (.iload 6, 2) := dk_21 6 (dk_at dksL_law_21 18 rfl rfl)
theorem dL_law_567 : decode cL_law 567 = .ok (.i2l, 1) := dk_133 (dk_at dksL_law_21 20 rfl rfl)
theorem dL_law_568 : decode cL_law 568 = .ok (.lcmp, 1) := dk_148 (dk_at dksL_law_21 21 rfl rfl)
theorem dL_law_569 : decode cL_law 569 = .ok (.ifCond .eq 5, 3) := dk_153 0 5 (dk_at dksL_law_22 0 rfl rfl)
theorem dL_law_572 : decode cL_law 572 = .ok (.iconst 0, 1) := dk_3 (dk_at dksL_law_22 3 rfl rfl)
theorem dL_law_573 : decode cL_law 573 = .ok (.ireturn, 1) := dk_172 (dk_at dksL_law_22 4 rfl rfl)
theorem dL_law_574 : decode cL_law 574 = .ok (.goto 636, 3) := dk_167 2 124 (dk_at dksL_law_22 5 rfl rfl)
theorem dL_law_577 : decode cL_law 577 = .ok (.aload_n 1, 1) := dk_43 (dk_at dksL_law_22 8 rfl rfl)
theorem dL_law_578 : decode cL_law 578 = .ok (.aload_n 0, 1) := dk_42 (dk_at dksL_law_22 9 rfl rfl)
theorem dL_law_579 : decode cL_law 579 = .ok (.iload 4, 2) := dk_21 4 (dk_at dksL_law_22 10 rfl rfl)
theorem dL_law_581 : decode cL_law 581 = .ok (.iconst 1, 1) := dk_4 (dk_at dksL_law_22 12 rfl rfl)
theorem dL_law_582 : decode cL_law 582 = .ok (.iadd, 1) := dk_96 (dk_at dksL_law_22 13 rfl rfl)
theorem dL_law_583 : decode cL_law 583 = .ok (.iaload, 1) := dk_46 (dk_at dksL_law_22 14 rfl rfl)
theorem dL_law_584 : decode cL_law 584 = .ok (.aload_n 3, 1) := dk_45 (dk_at dksL_law_22 15 rfl rfl)
theorem dL_law_585 : decode cL_law 585 = .ok (.invokestatic 101, 3) := dk_184 0 101 (dk_at dksL_law_22 16 rfl rfl)
theorem dL_law_588 : decode cL_law 588 = .ok (.istore 5, 2) := dk_54 5 (dk_at dksL_law_22 19 rfl rfl)
theorem dL_law_590 : decode cL_law 590 = .ok (.aload_n 2, 1) := dk_44 (dk_at dksL_law_22 21 rfl rfl)
theorem dL_law_591 : decode cL_law 591 = .ok (.aload_n 0, 1) := dk_42 (dk_at dksL_law_22 22 rfl rfl)
theorem dL_law_592 : decode cL_law 592 = .ok (.iload 4, 2) := dk_21 4 (dk_at dksL_law_23 0 rfl rfl)
theorem dL_law_594 : decode cL_law 594 = .ok (.iconst 1, 1) := dk_4 (dk_at dksL_law_23 2 rfl rfl)
theorem dL_law_595 : decode cL_law 595 = .ok (.iadd, 1) := dk_96 (dk_at dksL_law_23 3 rfl rfl)
theorem dL_law_596 : decode cL_law 596 = .ok (.iaload, 1) := dk_46 (dk_at dksL_law_23 4 rfl rfl)
theorem dL_law_597 : decode cL_law 597 = .ok (.invokevirtual 103, 3) := dk_182 0 103 (dk_at dksL_law_23 5 rfl rfl)
theorem dL_law_600 : decode cL_law 600 = .ok (.istore 6, 2) := dk_54 6 (dk_at dksL_law_23 8 rfl rfl)
theorem dL_law_602 : decode cL_law 602 = .ok (.aload_n 2, 1) := dk_44 (dk_at dksL_law_23 10 rfl rfl)
theorem dL_law_603 : decode cL_law 603 = .ok (.invokevirtual 74, 3) := dk_182 0 74 (dk_at dksL_law_23 11 rfl rfl)
theorem dL_law_606 : decode cL_law 606 = .ok (.iload 5, 2) := dk_21 5 (dk_at dksL_law_23 14 rfl rfl)
theorem dL_law_608 : decode cL_law 608 = .ok (.if_icmp .eq 5, 3) := dk_159 0 5 (dk_at dksL_law_23 16 rfl rfl)
theorem dL_law_611 : decode cL_law 611 = .ok (.iconst 0, 1) := dk_3 (dk_at dksL_law_23 19 rfl rfl)
theorem dL_law_612 : decode cL_law 612 = .ok (.ireturn, 1) := dk_172 (dk_at dksL_law_23 20 rfl rfl)
theorem dL_law_613 : decode cL_law 613 = .ok (.iload 5, 2) := dk_21 5 (dk_at dksL_law_23 21 rfl rfl)
theorem dL_law_615 : decode cL_law 615 = .ok (.ifCond .ne 15, 3) := dk_154 0 15 (dk_at dksL_law_24 0 rfl rfl)
theorem dL_law_618 : decode cL_law 618 = .ok (.aload_n 3, 1) := dk_45 (dk_at dksL_law_24 3 rfl rfl)
theorem dL_law_619 : decode cL_law 619 = .ok (.iconst 0, 1) := dk_3 (dk_at dksL_law_24 4 rfl rfl)
theorem dL_law_620 : decode cL_law 620 = .ok (.laload, 1) := dk_47 (dk_at dksL_law_24 5 rfl rfl)
theorem dL_law_621 : decode cL_law 621 = .ok (.iload 6, 2) := dk_21 6 (dk_at dksL_law_24 6 rfl rfl)
theorem dL_law_623 : decode cL_law 623 = .ok (.i2l, 1) := dk_133 (dk_at dksL_law_24 8 rfl rfl)
theorem dL_law_624 : decode cL_law 624 = .ok (.lcmp, 1) := dk_148 (dk_at dksL_law_24 9 rfl rfl)
theorem dL_law_625 : decode cL_law 625 = .ok (.ifCond .eq 5, 3) := dk_153 0 5 (dk_at dksL_law_24 10 rfl rfl)
theorem dL_law_628 : decode cL_law 628 = .ok (.iconst 0, 1) := dk_3 (dk_at dksL_law_24 13 rfl rfl)
theorem dL_law_629 : decode cL_law 629 = .ok (.ireturn, 1) := dk_172 (dk_at dksL_law_24 14 rfl rfl)
theorem dL_law_630 : decode cL_law 630 = .ok (.goto 580, 3) := dk_167 2 68 (dk_at dksL_law_24 15 rfl rfl)
theorem dL_law_633 : decode cL_law 633 = .ok (.aload_n 1, 1) := dk_43 (dk_at dksL_law_24 18 rfl rfl)
theorem dL_law_634 : decode cL_law 634 = .ok (.aload_n 0, 1) := dk_42 (dk_at dksL_law_24 19 rfl rfl)
theorem dL_law_635 : decode cL_law 635 = .ok (.iload 4, 2) := dk_21 4 (dk_at dksL_law_24 20 rfl rfl)
theorem dL_law_637 : decode cL_law 637 = .ok (.iconst 1, 1) := dk_4 (dk_at dksL_law_24 22 rfl rfl)
theorem dL_law_638 : decode cL_law 638 = .ok (.iadd, 1) := dk_96 (dk_at dksL_law_24 23 rfl rfl)
theorem dL_law_639 : decode cL_law 639 = .ok (.iaload, 1) := dk_46 (dk_at dksL_law_25 0 rfl rfl)
theorem dL_law_640 : decode cL_law 640 = .ok (.aload_n 0, 1) := dk_42 (dk_at dksL_law_25 1 rfl rfl)
theorem dL_law_641 : decode cL_law 641 = .ok (.iload 4, 2) := dk_21 4 (dk_at dksL_law_25 2 rfl rfl)
theorem dL_law_643 : decode cL_law 643 = .ok (.iconst 2, 1) := dk_5 (dk_at dksL_law_25 4 rfl rfl)
theorem dL_law_644 : decode cL_law 644 = .ok (.iadd, 1) := dk_96 (dk_at dksL_law_25 5 rfl rfl)
theorem dL_law_645 : decode cL_law 645 = .ok (.iaload, 1) := dk_46 (dk_at dksL_law_25 6 rfl rfl)
theorem dL_law_646 : decode cL_law 646 = .ok (.aload_n 3, 1) := dk_45 (dk_at dksL_law_25 7 rfl rfl)
theorem dL_law_647 : decode cL_law 647 = .ok (.invokestatic 104, 3) := dk_184 0 104 (dk_at dksL_law_25 8 rfl rfl)
theorem dL_law_650 : decode cL_law 650 = .ok (.istore 5, 2) := dk_54 5 (dk_at dksL_law_25 11 rfl rfl)
theorem dL_law_652 : decode cL_law 652 = .ok (.aload_n 2, 1) := dk_44 (dk_at dksL_law_25 13 rfl rfl)
theorem dL_law_653 : decode cL_law 653 = .ok (.aload_n 0, 1) := dk_42 (dk_at dksL_law_25 14 rfl rfl)
theorem dL_law_654 : decode cL_law 654 = .ok (.iload 4, 2) := dk_21 4 (dk_at dksL_law_25 15 rfl rfl)
theorem dL_law_656 : decode cL_law 656 = .ok (.iconst 1, 1) := dk_4 (dk_at dksL_law_25 17 rfl rfl)
theorem dL_law_657 : decode cL_law 657 = .ok (.iadd, 1) := dk_96 (dk_at dksL_law_25 18 rfl rfl)
theorem dL_law_658 : decode cL_law 658 = .ok (.iaload, 1) := dk_46 (dk_at dksL_law_25 19 rfl rfl)
theorem dL_law_659 : decode cL_law 659 = .ok (.aload_n 0, 1) := dk_42 (dk_at dksL_law_25 20 rfl rfl)
theorem dL_law_660 : decode cL_law 660 = .ok (.iload 4, 2) := dk_21 4 (dk_at dksL_law_25 21 rfl rfl)
theorem dL_law_662 : decode cL_law 662 = .ok (.iconst 2, 1) := dk_5 (dk_at dksL_law_25 23 rfl rfl)
theorem dL_law_663 : decode cL_law 663 = .ok (.iadd, 1) := dk_96 (dk_at dksL_law_26 0 rfl rfl)
theorem dL_law_664 : decode cL_law 664 = .ok (.iaload, 1) := dk_46 (dk_at dksL_law_26 1 rfl rfl)
theorem dL_law_665 : decode cL_law 665 = .ok (.invokevirtual 106, 3) := dk_182 0 106 (dk_at dksL_law_26 2 rfl rfl)
theorem dL_law_668 : decode cL_law 668 = .ok (.istore 6, 2) := dk_54 6 (dk_at dksL_law_26 5 rfl rfl)
theorem dL_law_670 : decode cL_law 670 = .ok (.aload_n 2, 1) := dk_44 (dk_at dksL_law_26 7 rfl rfl)
theorem dL_law_671 : decode cL_law 671 = .ok (.invokevirtual 74, 3) := dk_182 0 74 (dk_at dksL_law_26 8 rfl rfl)
theorem dL_law_674 : decode cL_law 674 = .ok (.iload 5, 2) := dk_21 5 (dk_at dksL_law_26 11 rfl rfl)
theorem dL_law_676 : decode cL_law 676 = .ok (.if_icmp .eq 5, 3) := dk_159 0 5 (dk_at dksL_law_26 13 rfl rfl)
theorem dL_law_679 : decode cL_law 679 = .ok (.iconst 0, 1) := dk_3 (dk_at dksL_law_26 16 rfl rfl)
theorem dL_law_680 : decode cL_law 680 = .ok (.ireturn, 1) := dk_172 (dk_at dksL_law_26 17 rfl rfl)
theorem dL_law_681 : decode cL_law 681 = .ok (.iload 5, 2) := dk_21 5 (dk_at dksL_law_26 18 rfl rfl)
theorem dL_law_683 : decode cL_law 683 = .ok (.ifCond .ne 15, 3) := dk_154 0 15 (dk_at dksL_law_26 20 rfl rfl)
theorem dL_law_686 : decode cL_law 686 = .ok (.aload_n 3, 1) := dk_45 (dk_at dksL_law_26 23 rfl rfl)
theorem dL_law_687 : decode cL_law 687 = .ok (.iconst 0, 1) := dk_3 (dk_at dksL_law_27 0 rfl rfl)
theorem dL_law_688 : decode cL_law 688 = .ok (.laload, 1) := dk_47 (dk_at dksL_law_27 1 rfl rfl)
theorem dL_law_689 : decode cL_law 689 = .ok (.iload 6, 2) := dk_21 6 (dk_at dksL_law_27 2 rfl rfl)
theorem dL_law_691 : decode cL_law 691 = .ok (.i2l, 1) := dk_133 (dk_at dksL_law_27 4 rfl rfl)
theorem dL_law_692 : decode cL_law 692 = .ok (.lcmp, 1) := dk_148 (dk_at dksL_law_27 5 rfl rfl)
theorem dL_law_693 : decode cL_law 693 = .ok (.ifCond .eq 5, 3) := dk_153 0 5 (dk_at dksL_law_27 6 rfl rfl)
theorem dL_law_696 : decode cL_law 696 = .ok (.iconst 0, 1) := dk_3 (dk_at dksL_law_27 9 rfl rfl)
theorem dL_law_697 : decode cL_law 697 = .ok (.ireturn, 1) := dk_172 (dk_at dksL_law_27 10 rfl rfl)
theorem dL_law_698 : decode cL_law 698 = .ok (.goto 512, 3) := dk_167 2 0 (dk_at dksL_law_27 11 rfl rfl)
theorem dL_law_701 : decode cL_law 701 = .ok (.aload_n 1, 1) := dk_43 (dk_at dksL_law_27 14 rfl rfl)
theorem dL_law_702 : decode cL_law 702 = .ok (.aload_n 0, 1) := dk_42 (dk_at dksL_law_27 15 rfl rfl)
theorem dL_law_703 : decode cL_law 703 = .ok (.iload 4, 2) := dk_21 4 (dk_at dksL_law_27 16 rfl rfl)
theorem dL_law_705 : decode cL_law 705 = .ok (.iconst 1, 1) := dk_4 (dk_at dksL_law_27 18 rfl rfl)
theorem dL_law_706 : decode cL_law 706 = .ok (.iadd, 1) := dk_96 (dk_at dksL_law_27 19 rfl rfl)
theorem dL_law_707 : decode cL_law 707 = .ok (.iaload, 1) := dk_46 (dk_at dksL_law_27 20 rfl rfl)
theorem dL_law_708 : decode cL_law 708 = .ok (.aload_n 3, 1) := dk_45 (dk_at dksL_law_27 21 rfl rfl)
theorem dL_law_709 : decode cL_law 709 = .ok (.invokestatic 107, 3) := dk_184 0 107 (dk_at dksL_law_28 0 rfl rfl)
theorem dL_law_712 : decode cL_law 712 = .ok (.istore 5, 2) := dk_54 5 (dk_at dksL_law_28 3 rfl rfl)
theorem dL_law_714 : decode cL_law 714 = .ok (.aload_n 2, 1) := dk_44 (dk_at dksL_law_28 5 rfl rfl)
theorem dL_law_715 : decode cL_law 715 = .ok (.aload_n 0, 1) := dk_42 (dk_at dksL_law_28 6 rfl rfl)
theorem dL_law_716 : decode cL_law 716 = .ok (.iload 4, 2) := dk_21 4 (dk_at dksL_law_28 7 rfl rfl)
theorem dL_law_718 : decode cL_law 718 = .ok (.iconst 1, 1) := dk_4 (dk_at dksL_law_28 9 rfl rfl)
theorem dL_law_719 : decode cL_law 719 = .ok (.iadd, 1) := dk_96 (dk_at dksL_law_28 10 rfl rfl)
theorem dL_law_720 : decode cL_law 720 = .ok (.iaload, 1) := dk_46 (dk_at dksL_law_28 11 rfl rfl)
theorem dL_law_721 : decode cL_law 721 = .ok (.invokevirtual 109, 3) := dk_182 0 109 (dk_at dksL_law_28 12 rfl rfl)
theorem dL_law_724 : decode cL_law 724 = .ok (.istore 6, 2) := dk_54 6 (dk_at dksL_law_28 15 rfl rfl)
theorem dL_law_726 : decode cL_law 726 = .ok (.aload_n 2, 1) := dk_44 (dk_at dksL_law_28 17 rfl rfl)
theorem dL_law_727 : decode cL_law 727 = .ok (.invokevirtual 74, 3) := dk_182 0 74 (dk_at dksL_law_28 18 rfl rfl)
theorem dL_law_730 : decode cL_law 730 = .ok (.iload 5, 2) := dk_21 5 (dk_at dksL_law_28 21 rfl rfl)
theorem dL_law_732 : decode cL_law 732 = .ok (.if_icmp .eq 5, 3) := dk_159 0 5 (dk_at dksL_law_29 0 rfl rfl)
theorem dL_law_735 : decode cL_law 735 = .ok (.iconst 0, 1) := dk_3 (dk_at dksL_law_29 3 rfl rfl)
theorem dL_law_736 : decode cL_law 736 = .ok (.ireturn, 1) := dk_172 (dk_at dksL_law_29 4 rfl rfl)
theorem dL_law_737 : decode cL_law 737 = .ok (.iload 5, 2) := dk_21 5 (dk_at dksL_law_29 5 rfl rfl)
theorem dL_law_739 : decode cL_law 739 = .ok (.ifCond .ne 15, 3) := dk_154 0 15 (dk_at dksL_law_29 7 rfl rfl)
theorem dL_law_742 : decode cL_law 742 = .ok (.aload_n 3, 1) := dk_45 (dk_at dksL_law_29 10 rfl rfl)
theorem dL_law_743 : decode cL_law 743 = .ok (.iconst 0, 1) := dk_3 (dk_at dksL_law_29 11 rfl rfl)
theorem dL_law_744 : decode cL_law 744 = .ok (.laload, 1) := dk_47 (dk_at dksL_law_29 12 rfl rfl)
theorem dL_law_745 : decode cL_law 745 = .ok (.iload 6, 2) := dk_21 6 (dk_at dksL_law_29 13 rfl rfl)
theorem dL_law_747 : decode cL_law 747 = .ok (.i2l, 1) := dk_133 (dk_at dksL_law_29 15 rfl rfl)
theorem dL_law_748 : decode cL_law 748 = .ok (.lcmp, 1) := dk_148 (dk_at dksL_law_29 16 rfl rfl)
theorem dL_law_749 : decode cL_law 749 = .ok (.ifCond .eq 5, 3) := dk_153 0 5 (dk_at dksL_law_29 17 rfl rfl)
theorem dL_law_752 : decode cL_law 752 = .ok (.iconst 0, 1) := dk_3 (dk_at dksL_law_29 20 rfl rfl)
theorem dL_law_753 : decode cL_law 753 = .ok (.ireturn, 1) := dk_172 (dk_at dksL_law_29 21 rfl rfl)
theorem dL_law_754 : decode cL_law 754 = .ok (.goto 456, 3) := dk_167 1 200 (dk_at dksL_law_30 0 rfl rfl)
theorem dL_law_757 : decode cL_law 757 = .ok (.aload_n 1, 1) := dk_43 (dk_at dksL_law_30 3 rfl rfl)
theorem dL_law_758 : decode cL_law 758 = .ok (.aload_n 0, 1) := dk_42 (dk_at dksL_law_30 4 rfl rfl)
theorem dL_law_759 : decode cL_law 759 = .ok (.iload 4, 2) := dk_21 4 (dk_at dksL_law_30 5 rfl rfl)
theorem dL_law_761 : decode cL_law 761 = .ok (.iconst 1, 1) := dk_4 (dk_at dksL_law_30 7 rfl rfl)
theorem dL_law_762 : decode cL_law 762 = .ok (.iadd, 1) := dk_96 (dk_at dksL_law_30 8 rfl rfl)
theorem dL_law_763 : decode cL_law 763 = .ok (.iaload, 1) := dk_46 (dk_at dksL_law_30 9 rfl rfl)
theorem dL_law_764 : decode cL_law 764 = .ok (.aload_n 0, 1) := dk_42 (dk_at dksL_law_30 10 rfl rfl)
theorem dL_law_765 : decode cL_law 765 = .ok (.iload 4, 2) := dk_21 4 (dk_at dksL_law_30 11 rfl rfl)
theorem dL_law_767 : decode cL_law 767 = .ok (.iconst 2, 1) := dk_5 (dk_at dksL_law_30 13 rfl rfl)
theorem dL_law_768 : decode cL_law 768 = .ok (.iadd, 1) := dk_96 (dk_at dksL_law_30 14 rfl rfl)
theorem dL_law_769 : decode cL_law 769 = .ok (.iaload, 1) := dk_46 (dk_at dksL_law_30 15 rfl rfl)
theorem dL_law_770 : decode cL_law 770 = .ok (.aload_n 3, 1) := dk_45 (dk_at dksL_law_30 16 rfl rfl)
theorem dL_law_771 : decode cL_law 771 = .ok (.invokestatic 110, 3) := dk_184 0 110 (dk_at dksL_law_30 17 rfl rfl)
theorem dL_law_774 : decode cL_law 774 = .ok (.istore 5, 2) := dk_54 5 (dk_at dksL_law_30 20 rfl rfl)
theorem dL_law_776 : decode cL_law 776 = .ok (.aload_n 2, 1) := dk_44 (dk_at dksL_law_30 22 rfl rfl)
theorem dL_law_777 : decode cL_law 777 = .ok (.aload_n 0, 1) := dk_42 (dk_at dksL_law_30 23 rfl rfl)
theorem dL_law_778 : decode cL_law 778 = .ok (.iload 4, 2) := dk_21 4 (dk_at dksL_law_31 0 rfl rfl)
theorem dL_law_780 : decode cL_law 780 = .ok (.iconst 1, 1) := dk_4 (dk_at dksL_law_31 2 rfl rfl)
theorem dL_law_781 : decode cL_law 781 = .ok (.iadd, 1) := dk_96 (dk_at dksL_law_31 3 rfl rfl)
theorem dL_law_782 : decode cL_law 782 = .ok (.iaload, 1) := dk_46 (dk_at dksL_law_31 4 rfl rfl)
theorem dL_law_783 : decode cL_law 783 = .ok (.aload_n 0, 1) := dk_42 (dk_at dksL_law_31 5 rfl rfl)
theorem dL_law_784 : decode cL_law 784 = .ok (.iload 4, 2) := dk_21 4 (dk_at dksL_law_31 6 rfl rfl)
theorem dL_law_786 : decode cL_law 786 = .ok (.iconst 2, 1) := dk_5 (dk_at dksL_law_31 8 rfl rfl)
theorem dL_law_787 : decode cL_law 787 = .ok (.iadd, 1) := dk_96 (dk_at dksL_law_31 9 rfl rfl)
theorem dL_law_788 : decode cL_law 788 = .ok (.iaload, 1) := dk_46 (dk_at dksL_law_31 10 rfl rfl)
theorem dL_law_789 : decode cL_law 789 = .ok (.invokevirtual 112, 3) := dk_182 0 112 (dk_at dksL_law_31 11 rfl rfl)
theorem dL_law_792 : decode cL_law 792 = .ok (.istore 6, 2) := dk_54 6 (dk_at dksL_law_31 14 rfl rfl)
theorem dL_law_794 : decode cL_law 794 = .ok (.aload_n 2, 1) := dk_44 (dk_at dksL_law_31 16 rfl rfl)
theorem dL_law_795 : decode cL_law 795 = .ok (.invokevirtual 74, 3) := dk_182 0 74 (dk_at dksL_law_31 17 rfl rfl)
theorem dL_law_798 : decode cL_law 798 = .ok (.iload 5, 2) := dk_21 5 (dk_at dksL_law_31 20 rfl rfl)
theorem dL_law_800 : decode cL_law 800 = .ok (.if_icmp .eq 5, 3) := dk_159 0 5 (dk_at dksL_law_32 0 rfl rfl)
theorem dL_law_803 : decode cL_law 803 = .ok (.iconst 0, 1) := dk_3 (dk_at dksL_law_32 3 rfl rfl)
theorem dL_law_804 : decode cL_law 804 = .ok (.ireturn, 1) := dk_172 (dk_at dksL_law_32 4 rfl rfl)
theorem dL_law_805 : decode cL_law 805 = .ok (.iload 5, 2) := dk_21 5 (dk_at dksL_law_32 5 rfl rfl)
theorem dL_law_807 : decode cL_law 807 = .ok (.ifCond .ne 15, 3) := dk_154 0 15 (dk_at dksL_law_32 7 rfl rfl)
theorem dL_law_810 : decode cL_law 810 = .ok (.aload_n 3, 1) := dk_45 (dk_at dksL_law_32 10 rfl rfl)
theorem dL_law_811 : decode cL_law 811 = .ok (.iconst 0, 1) := dk_3 (dk_at dksL_law_32 11 rfl rfl)
theorem dL_law_812 : decode cL_law 812 = .ok (.laload, 1) := dk_47 (dk_at dksL_law_32 12 rfl rfl)
theorem dL_law_813 : decode cL_law 813 = .ok (.iload 6, 2) := dk_21 6 (dk_at dksL_law_32 13 rfl rfl)
theorem dL_law_815 : decode cL_law 815 = .ok (.i2l, 1) := dk_133 (dk_at dksL_law_32 15 rfl rfl)
theorem dL_law_816 : decode cL_law 816 = .ok (.lcmp, 1) := dk_148 (dk_at dksL_law_32 16 rfl rfl)
theorem dL_law_817 : decode cL_law 817 = .ok (.ifCond .eq 5, 3) := dk_153 0 5 (dk_at dksL_law_32 17 rfl rfl)
theorem dL_law_820 : decode cL_law 820 = .ok (.iconst 0, 1) := dk_3 (dk_at dksL_law_32 20 rfl rfl)
theorem dL_law_821 : decode cL_law 821 = .ok (.ireturn, 1) := dk_172 (dk_at dksL_law_32 21 rfl rfl)
theorem dL_law_822 : decode cL_law 822 = .ok (.goto 388, 3) := dk_167 1 132 (dk_at dksL_law_33 0 rfl rfl)
theorem dL_law_825 : decode cL_law 825 = .ok (.aload_n 1, 1) := dk_43 (dk_at dksL_law_33 3 rfl rfl)
theorem dL_law_826 : decode cL_law 826 = .ok (.aload_n 0, 1) := dk_42 (dk_at dksL_law_33 4 rfl rfl)
theorem dL_law_827 : decode cL_law 827 = .ok (.iload 4, 2) := dk_21 4 (dk_at dksL_law_33 5 rfl rfl)
theorem dL_law_829 : decode cL_law 829 = .ok (.iconst 1, 1) := dk_4 (dk_at dksL_law_33 7 rfl rfl)
theorem dL_law_830 : decode cL_law 830 = .ok (.iadd, 1) := dk_96 (dk_at dksL_law_33 8 rfl rfl)
theorem dL_law_831 : decode cL_law 831 = .ok (.iaload, 1) := dk_46 (dk_at dksL_law_33 9 rfl rfl)
theorem dL_law_832 : decode cL_law 832 = .ok (.aload_n 0, 1) := dk_42 (dk_at dksL_law_33 10 rfl rfl)
theorem dL_law_833 : decode cL_law 833 = .ok (.iload 4, 2) := dk_21 4 (dk_at dksL_law_33 11 rfl rfl)
theorem dL_law_835 : decode cL_law 835 = .ok (.iconst 2, 1) := dk_5 (dk_at dksL_law_33 13 rfl rfl)
theorem dL_law_836 : decode cL_law 836 = .ok (.iadd, 1) := dk_96 (dk_at dksL_law_33 14 rfl rfl)
theorem dL_law_837 : decode cL_law 837 = .ok (.iaload, 1) := dk_46 (dk_at dksL_law_33 15 rfl rfl)
theorem dL_law_838 : decode cL_law 838 = .ok (.aload_n 3, 1) := dk_45 (dk_at dksL_law_33 16 rfl rfl)
theorem dL_law_839 : decode cL_law 839 = .ok (.invokestatic 113, 3) := dk_184 0 113 (dk_at dksL_law_33 17 rfl rfl)
theorem dL_law_842 : decode cL_law 842 = .ok (.istore 5, 2) := dk_54 5 (dk_at dksL_law_33 20 rfl rfl)
theorem dL_law_844 : decode cL_law 844 = .ok (.aload_n 2, 1) := dk_44 (dk_at dksL_law_33 22 rfl rfl)
theorem dL_law_845 : decode cL_law 845 = .ok (.aload_n 0, 1) := dk_42 (dk_at dksL_law_33 23 rfl rfl)
theorem dL_law_846 : decode cL_law 846 = .ok (.iload 4, 2) := dk_21 4 (dk_at dksL_law_34 0 rfl rfl)
theorem dL_law_848 : decode cL_law 848 = .ok (.iconst 1, 1) := dk_4 (dk_at dksL_law_34 2 rfl rfl)
theorem dL_law_849 : decode cL_law 849 = .ok (.iadd, 1) := dk_96 (dk_at dksL_law_34 3 rfl rfl)
theorem dL_law_850 : decode cL_law 850 = .ok (.iaload, 1) := dk_46 (dk_at dksL_law_34 4 rfl rfl)
theorem dL_law_851 : decode cL_law 851 = .ok (.aload_n 0, 1) := dk_42 (dk_at dksL_law_34 5 rfl rfl)
theorem dL_law_852 : decode cL_law 852 = .ok (.iload 4, 2) := dk_21 4 (dk_at dksL_law_34 6 rfl rfl)
theorem dL_law_854 : decode cL_law 854 = .ok (.iconst 2, 1) := dk_5 (dk_at dksL_law_34 8 rfl rfl)
theorem dL_law_855 : decode cL_law 855 = .ok (.iadd, 1) := dk_96 (dk_at dksL_law_34 9 rfl rfl)
theorem dL_law_856 : decode cL_law 856 = .ok (.iaload, 1) := dk_46 (dk_at dksL_law_34 10 rfl rfl)
theorem dL_law_857 : decode cL_law 857 = .ok (.invokevirtual 115, 3) := dk_182 0 115 (dk_at dksL_law_34 11 rfl rfl)
theorem dL_law_860 : decode cL_law 860 = .ok (.istore 6, 2) := dk_54 6 (dk_at dksL_law_34 14 rfl rfl)
theorem dL_law_862 : decode cL_law 862 = .ok (.aload_n 2, 1) := dk_44 (dk_at dksL_law_34 16 rfl rfl)
theorem dL_law_863 : decode cL_law 863 = .ok (.invokevirtual 74, 3) := dk_182 0 74 (dk_at dksL_law_34 17 rfl rfl)
theorem dL_law_866 : decode cL_law 866 = .ok (.iload 5, 2) := dk_21 5 (dk_at dksL_law_34 20 rfl rfl)
theorem dL_law_868 : decode cL_law 868 = .ok (.if_icmp .eq 5, 3) := dk_159 0 5 (dk_at dksL_law_35 0 rfl rfl)
theorem dL_law_871 : decode cL_law 871 = .ok (.iconst 0, 1) := dk_3 (dk_at dksL_law_35 3 rfl rfl)
theorem dL_law_872 : decode cL_law 872 = .ok (.ireturn, 1) := dk_172 (dk_at dksL_law_35 4 rfl rfl)
theorem dL_law_873 : decode cL_law 873 = .ok (.iload 5, 2) := dk_21 5 (dk_at dksL_law_35 5 rfl rfl)
theorem dL_law_875 : decode cL_law 875 = .ok (.ifCond .ne 15, 3) := dk_154 0 15 (dk_at dksL_law_35 7 rfl rfl)
theorem dL_law_878 : decode cL_law 878 = .ok (.aload_n 3, 1) := dk_45 (dk_at dksL_law_35 10 rfl rfl)
theorem dL_law_879 : decode cL_law 879 = .ok (.iconst 0, 1) := dk_3 (dk_at dksL_law_35 11 rfl rfl)
theorem dL_law_880 : decode cL_law 880 = .ok (.laload, 1) := dk_47 (dk_at dksL_law_35 12 rfl rfl)
theorem dL_law_881 : decode cL_law 881 = .ok (.iload 6, 2) := dk_21 6 (dk_at dksL_law_35 13 rfl rfl)
theorem dL_law_883 : decode cL_law 883 = .ok (.i2l, 1) := dk_133 (dk_at dksL_law_35 15 rfl rfl)
theorem dL_law_884 : decode cL_law 884 = .ok (.lcmp, 1) := dk_148 (dk_at dksL_law_35 16 rfl rfl)
theorem dL_law_885 : decode cL_law 885 = .ok (.ifCond .eq 5, 3) := dk_153 0 5 (dk_at dksL_law_35 17 rfl rfl)
theorem dL_law_888 : decode cL_law 888 = .ok (.iconst 0, 1) := dk_3 (dk_at dksL_law_35 20 rfl rfl)
theorem dL_law_889 : decode cL_law 889 = .ok (.ireturn, 1) := dk_172 (dk_at dksL_law_35 21 rfl rfl)
theorem dL_law_890 : decode cL_law 890 = .ok (.goto 320, 3) := dk_167 1 64 (dk_at dksL_law_36 0 rfl rfl)
theorem dL_law_893 : decode cL_law 893 = .ok (.aload_n 1, 1) := dk_43 (dk_at dksL_law_36 3 rfl rfl)
theorem dL_law_894 : decode cL_law 894 = .ok (.aload_n 0, 1) := dk_42 (dk_at dksL_law_36 4 rfl rfl)
theorem dL_law_895 : decode cL_law 895 = .ok (.iload 4, 2) := dk_21 4 (dk_at dksL_law_36 5 rfl rfl)
theorem dL_law_897 : decode cL_law 897 = .ok (.iconst 1, 1) := dk_4 (dk_at dksL_law_36 7 rfl rfl)
theorem dL_law_898 : decode cL_law 898 = .ok (.iadd, 1) := dk_96 (dk_at dksL_law_36 8 rfl rfl)
theorem dL_law_899 : decode cL_law 899 = .ok (.iaload, 1) := dk_46 (dk_at dksL_law_36 9 rfl rfl)
theorem dL_law_900 : decode cL_law 900 = .ok (.aload_n 3, 1) := dk_45 (dk_at dksL_law_36 10 rfl rfl)
theorem dL_law_901 : decode cL_law 901 = .ok (.invokestatic 116, 3) := dk_184 0 116 (dk_at dksL_law_36 11 rfl rfl)
theorem dL_law_904 : decode cL_law 904 = .ok (.istore 5, 2) := dk_54 5 (dk_at dksL_law_36 14 rfl rfl)
theorem dL_law_906 : decode cL_law 906 = .ok (.aload_n 2, 1) := dk_44 (dk_at dksL_law_36 16 rfl rfl)
theorem dL_law_907 : decode cL_law 907 = .ok (.aload_n 0, 1) := dk_42 (dk_at dksL_law_36 17 rfl rfl)
theorem dL_law_908 : decode cL_law 908 = .ok (.iload 4, 2) := dk_21 4 (dk_at dksL_law_36 18 rfl rfl)
theorem dL_law_910 : decode cL_law 910 = .ok (.iconst 1, 1) := dk_4 (dk_at dksL_law_36 20 rfl rfl)
theorem dL_law_911 : decode cL_law 911 = .ok (.iadd, 1) := dk_96 (dk_at dksL_law_36 21 rfl rfl)
theorem dL_law_912 : decode cL_law 912 = .ok (.iaload, 1) := dk_46 (dk_at dksL_law_36 22 rfl rfl)
theorem dL_law_913 : decode cL_law 913 = .ok (.invokevirtual 118, 3) := dk_182 0 118 (dk_at dksL_law_37 0 rfl rfl)
theorem dL_law_916 : decode cL_law 916 = .ok (.istore 6, 2) := dk_54 6 (dk_at dksL_law_37 3 rfl rfl)
theorem dL_law_918 : decode cL_law 918 = .ok (.aload_n 2, 1) := dk_44 (dk_at dksL_law_37 5 rfl rfl)
theorem dL_law_919 : decode cL_law 919 = .ok (.invokevirtual 74, 3) := dk_182 0 74 (dk_at dksL_law_37 6 rfl rfl)
theorem dL_law_922 : decode cL_law 922 = .ok (.iload 5, 2) := dk_21 5 (dk_at dksL_law_37 9 rfl rfl)
theorem dL_law_924 : decode cL_law 924 = .ok (.if_icmp .eq 5, 3) := dk_159 0 5 (dk_at dksL_law_37 11 rfl rfl)
theorem dL_law_927 : decode cL_law 927 = .ok (.iconst 0, 1) := dk_3 (dk_at dksL_law_37 14 rfl rfl)
theorem dL_law_928 : decode cL_law 928 = .ok (.ireturn, 1) := dk_172 (dk_at dksL_law_37 15 rfl rfl)
theorem dL_law_929 : decode cL_law 929 = .ok (.iload 5, 2) := dk_21 5 (dk_at dksL_law_37 16 rfl rfl)
theorem dL_law_931 : decode cL_law 931 = .ok (.ifCond .ne 15, 3) := dk_154 0 15 (dk_at dksL_law_37 18 rfl rfl)
theorem dL_law_934 : decode cL_law 934 = .ok (.aload_n 3, 1) := dk_45 (dk_at dksL_law_37 21 rfl rfl)
theorem dL_law_935 : decode cL_law 935 = .ok (.iconst 0, 1) := dk_3 (dk_at dksL_law_37 22 rfl rfl)
theorem dL_law_936 : decode cL_law 936 = .ok (.laload, 1) := dk_47 (dk_at dksL_law_37 23 rfl rfl)
theorem dL_law_937 : decode cL_law 937 = .ok (.iload 6, 2) := dk_21 6 (dk_at dksL_law_38 0 rfl rfl)
theorem dL_law_939 : decode cL_law 939 = .ok (.i2l, 1) := dk_133 (dk_at dksL_law_38 2 rfl rfl)
theorem dL_law_940 : decode cL_law 940 = .ok (.lcmp, 1) := dk_148 (dk_at dksL_law_38 3 rfl rfl)
theorem dL_law_941 : decode cL_law 941 = .ok (.ifCond .eq 5, 3) := dk_153 0 5 (dk_at dksL_law_38 4 rfl rfl)
theorem dL_law_944 : decode cL_law 944 = .ok (.iconst 0, 1) := dk_3 (dk_at dksL_law_38 7 rfl rfl)
theorem dL_law_945 : decode cL_law 945 = .ok (.ireturn, 1) := dk_172 (dk_at dksL_law_38 8 rfl rfl)
theorem dL_law_946 : decode cL_law 946 = .ok (.goto 264, 3) := dk_167 1 8 (dk_at dksL_law_38 9 rfl rfl)
theorem dL_law_949 : decode cL_law 949 = .ok (.aload_n 1, 1) := dk_43 (dk_at dksL_law_38 12 rfl rfl)
theorem dL_law_950 : decode cL_law 950 = .ok (.invokevirtual 119, 3) := dk_182 0 119 (dk_at dksL_law_38 13 rfl rfl)
theorem dL_law_953 : decode cL_law 953 = .ok (.aload_n 2, 1) := dk_44 (dk_at dksL_law_38 16 rfl rfl)
theorem dL_law_954 : decode cL_law 954 = .ok (.invokevirtual 122, 3) := dk_182 0 122 (dk_at dksL_law_38 17 rfl rfl)
theorem dL_law_957 : decode cL_law 957 = .ok (.if_icmp .eq 253, 3) := dk_159 0 253 (dk_at dksL_law_38 20 rfl rfl)
theorem dL_law_960 : decode cL_law 960 = .ok (.iconst 0, 1) := dk_3 (dk_at dksL_law_38 23 rfl rfl)
theorem dL_law_961 : decode cL_law 961 = .ok (.ireturn, 1) := dk_172 (dk_at dksL_law_39 0 rfl rfl)
theorem dL_law_962 : decode cL_law 962 = .ok (.aload_n 1, 1) := dk_43 (dk_at dksL_law_39 1 rfl rfl)
theorem dL_law_963 : decode cL_law 963 = .ok (.aload_n 0, 1) := dk_42 (dk_at dksL_law_39 2 rfl rfl)
theorem dL_law_964 : decode cL_law 964 = .ok (.iload 4, 2) := dk_21 4 (dk_at dksL_law_39 3 rfl rfl)
theorem dL_law_966 : decode cL_law 966 = .ok (.iconst 1, 1) := dk_4 (dk_at dksL_law_39 5 rfl rfl)
theorem dL_law_967 : decode cL_law 967 = .ok (.iadd, 1) := dk_96 (dk_at dksL_law_39 6 rfl rfl)
theorem dL_law_968 : decode cL_law 968 = .ok (.iaload, 1) := dk_46 (dk_at dksL_law_39 7 rfl rfl)
theorem dL_law_969 : decode cL_law 969 = .ok (.aload_n 3, 1) := dk_45 (dk_at dksL_law_39 8 rfl rfl)
theorem dL_law_970 : decode cL_law 970 = .ok (.invokestatic 123, 3) := dk_184 0 123 (dk_at dksL_law_39 9 rfl rfl)
theorem dL_law_973 : decode cL_law 973 = .ok (.istore 5, 2) := dk_54 5 (dk_at dksL_law_39 12 rfl rfl)
theorem dL_law_975 : decode cL_law 975 = .ok (.aload_n 2, 1) := dk_44 (dk_at dksL_law_39 14 rfl rfl)
theorem dL_law_976 : decode cL_law 976 = .ok (.aload_n 0, 1) := dk_42 (dk_at dksL_law_39 15 rfl rfl)
theorem dL_law_977 : decode cL_law 977 = .ok (.iload 4, 2) := dk_21 4 (dk_at dksL_law_39 16 rfl rfl)
theorem dL_law_979 : decode cL_law 979 = .ok (.iconst 1, 1) := dk_4 (dk_at dksL_law_39 18 rfl rfl)
theorem dL_law_980 : decode cL_law 980 = .ok (.iadd, 1) := dk_96 (dk_at dksL_law_39 19 rfl rfl)
theorem dL_law_981 : decode cL_law 981 = .ok (.iaload, 1) := dk_46 (dk_at dksL_law_39 20 rfl rfl)
theorem dL_law_982 : decode cL_law 982 = .ok (.invokevirtual 125, 3) := dk_182 0 125 (dk_at dksL_law_39 21 rfl rfl)
theorem dL_law_985 : decode cL_law 985 = .ok (.istore 6, 2) := dk_54 6 (dk_at dksL_law_40 0 rfl rfl)
theorem dL_law_987 : decode cL_law 987 = .ok (.aload_n 2, 1) := dk_44 (dk_at dksL_law_40 2 rfl rfl)
theorem dL_law_988 : decode cL_law 988 = .ok (.invokevirtual 74, 3) := dk_182 0 74 (dk_at dksL_law_40 3 rfl rfl)
theorem dL_law_991 : decode cL_law 991 = .ok (.iload 5, 2) := dk_21 5 (dk_at dksL_law_40 6 rfl rfl)
theorem dL_law_993 : decode cL_law 993 = .ok (.if_icmp .eq 5, 3) := dk_159 0 5 (dk_at dksL_law_40 8 rfl rfl)
theorem dL_law_996 : decode cL_law 996 = .ok (.iconst 0, 1) := dk_3 (dk_at dksL_law_40 11 rfl rfl)
theorem dL_law_997 : decode cL_law 997 = .ok (.ireturn, 1) := dk_172 (dk_at dksL_law_40 12 rfl rfl)
theorem dL_law_998 : decode cL_law 998 = .ok (.iload 5, 2) := dk_21 5 (dk_at dksL_law_40 13 rfl rfl)
theorem dL_law_1000 : decode cL_law 1000 = .ok (.ifCond .ne 15, 3) := dk_154 0 15 (dk_at dksL_law_40 15 rfl rfl)
theorem dL_law_1003 : decode cL_law 1003 = .ok (.aload_n 3, 1) := dk_45 (dk_at dksL_law_40 18 rfl rfl)
theorem dL_law_1004 : decode cL_law 1004 = .ok (.iconst 0, 1) := dk_3 (dk_at dksL_law_40 19 rfl rfl)
theorem dL_law_1005 : decode cL_law 1005 = .ok (.laload, 1) := dk_47 (dk_at dksL_law_40 20 rfl rfl)
theorem dL_law_1006 : decode cL_law 1006 = .ok (.iload 6, 2) := dk_21 6 (dk_at dksL_law_40 21 rfl rfl)
theorem dL_law_1008 : decode cL_law 1008 = .ok (.i2l, 1) := dk_133 (dk_at dksL_law_40 23 rfl rfl)
theorem dL_law_1009 : decode cL_law 1009 = .ok (.lcmp, 1) := dk_148 (dk_at dksL_law_41 0 rfl rfl)
theorem dL_law_1010 : decode cL_law 1010 = .ok (.ifCond .eq 5, 3) := dk_153 0 5 (dk_at dksL_law_41 1 rfl rfl)
theorem dL_law_1013 : decode cL_law 1013 = .ok (.iconst 0, 1) := dk_3 (dk_at dksL_law_41 4 rfl rfl)
theorem dL_law_1014 : decode cL_law 1014 = .ok (.ireturn, 1) := dk_172 (dk_at dksL_law_41 5 rfl rfl)
theorem dL_law_1015 : decode cL_law 1015 = .ok (.goto 195, 3) := dk_167 0 195 (dk_at dksL_law_41 6 rfl rfl)
theorem dL_law_1018 : decode cL_law 1018 = .ok (.aload_n 1, 1) := dk_43 (dk_at dksL_law_41 9 rfl rfl)
theorem dL_law_1019 : decode cL_law 1019 = .ok (.aload_n 0, 1) := dk_42 (dk_at dksL_law_41 10 rfl rfl)
theorem dL_law_1020 : decode cL_law 1020 = .ok (.iload 4, 2) := dk_21 4 (dk_at dksL_law_41 11 rfl rfl)
theorem dL_law_1022 : decode cL_law 1022 = .ok (.iconst 1, 1) := dk_4 (dk_at dksL_law_41 13 rfl rfl)
theorem dL_law_1023 : decode cL_law 1023 = .ok (.iadd, 1) := dk_96 (dk_at dksL_law_41 14 rfl rfl)
theorem dL_law_1024 : decode cL_law 1024 = .ok (.iaload, 1) := dk_46 (dk_at dksL_law_41 15 rfl rfl)
theorem dL_law_1025 : decode cL_law 1025 = .ok (.aload_n 3, 1) := dk_45 (dk_at dksL_law_41 16 rfl rfl)
theorem dL_law_1026 : decode cL_law 1026 = .ok (.invokestatic 126, 3) := dk_184 0 126 (dk_at dksL_law_41 17 rfl rfl)
theorem dL_law_1029 : decode cL_law 1029 = .ok (.istore 5, 2) := dk_54 5 (dk_at dksL_law_41 20 rfl rfl)
theorem dL_law_1031 : decode cL_law 1031 = .ok (.aload_n 2, 1) := dk_44 (dk_at dksL_law_41 22 rfl rfl)
theorem dL_law_1032 : decode cL_law 1032 = .ok (.aload_n 0, 1) := dk_42 (dk_at dksL_law_41 23 rfl rfl)
theorem dL_law_1033 : decode cL_law 1033 = .ok (.iload 4, 2) := dk_21 4 (dk_at dksL_law_42 0 rfl rfl)
theorem dL_law_1035 : decode cL_law 1035 = .ok (.iconst 1, 1) := dk_4 (dk_at dksL_law_42 2 rfl rfl)
theorem dL_law_1036 : decode cL_law 1036 = .ok (.iadd, 1) := dk_96 (dk_at dksL_law_42 3 rfl rfl)
theorem dL_law_1037 : decode cL_law 1037 = .ok (.iaload, 1) := dk_46 (dk_at dksL_law_42 4 rfl rfl)
theorem dL_law_1038 : decode cL_law 1038 = .ok (.invokevirtual 128, 3) := dk_182 0 128 (dk_at dksL_law_42 5 rfl rfl)
theorem dL_law_1041 : decode cL_law 1041 = .ok (.istore 6, 2) := dk_54 6 (dk_at dksL_law_42 8 rfl rfl)
theorem dL_law_1043 : decode cL_law 1043 = .ok (.aload_n 2, 1) := dk_44 (dk_at dksL_law_42 10 rfl rfl)
theorem dL_law_1044 : decode cL_law 1044 = .ok (.invokevirtual 74, 3) := dk_182 0 74 (dk_at dksL_law_42 11 rfl rfl)
theorem dL_law_1047 : decode cL_law 1047 = .ok (.iload 5, 2) := dk_21 5 (dk_at dksL_law_42 14 rfl rfl)
theorem dL_law_1049 : decode cL_law 1049 = .ok (.if_icmp .eq 5, 3) := dk_159 0 5 (dk_at dksL_law_42 16 rfl rfl)
theorem dL_law_1052 : decode cL_law 1052 = .ok (.iconst 0, 1) := dk_3 (dk_at dksL_law_42 19 rfl rfl)
theorem dL_law_1053 : decode cL_law 1053 = .ok (.ireturn, 1) := dk_172 (dk_at dksL_law_42 20 rfl rfl)
theorem dL_law_1054 : decode cL_law 1054 = .ok (.iload 5, 2) := dk_21 5 (dk_at dksL_law_42 21 rfl rfl)
theorem dL_law_1056 : decode cL_law 1056 = .ok (.ifCond .ne 15, 3) := dk_154 0 15 (dk_at dksL_law_43 0 rfl rfl)
theorem dL_law_1059 : decode cL_law 1059 = .ok (.aload_n 3, 1) := dk_45 (dk_at dksL_law_43 3 rfl rfl)
theorem dL_law_1060 : decode cL_law 1060 = .ok (.iconst 0, 1) := dk_3 (dk_at dksL_law_43 4 rfl rfl)
theorem dL_law_1061 : decode cL_law 1061 = .ok (.laload, 1) := dk_47 (dk_at dksL_law_43 5 rfl rfl)
theorem dL_law_1062 : decode cL_law 1062 = .ok (.iload 6, 2) := dk_21 6 (dk_at dksL_law_43 6 rfl rfl)
theorem dL_law_1064 : decode cL_law 1064 = .ok (.i2l, 1) := dk_133 (dk_at dksL_law_43 8 rfl rfl)
theorem dL_law_1065 : decode cL_law 1065 = .ok (.lcmp, 1) := dk_148 (dk_at dksL_law_43 9 rfl rfl)
theorem dL_law_1066 : decode cL_law 1066 = .ok (.ifCond .eq 5, 3) := dk_153 0 5 (dk_at dksL_law_43 10 rfl rfl)
theorem dL_law_1069 : decode cL_law 1069 = .ok (.iconst 0, 1) := dk_3 (dk_at dksL_law_43 13 rfl rfl)
theorem dL_law_1070 : decode cL_law 1070 = .ok (.ireturn, 1) := dk_172 (dk_at dksL_law_43 14 rfl rfl)
theorem dL_law_1071 : decode cL_law 1071 = .ok (.goto 139, 3) := dk_167 0 139 (dk_at dksL_law_43 15 rfl rfl)
theorem dL_law_1074 : decode cL_law 1074 = .ok (.aload_n 1, 1) := dk_43 (dk_at dksL_law_43 18 rfl rfl)
theorem dL_law_1075 : decode cL_law 1075 = .ok (.aload_n 0, 1) := dk_42 (dk_at dksL_law_43 19 rfl rfl)
theorem dL_law_1076 : decode cL_law 1076 = .ok (.iload 4, 2) := dk_21 4 (dk_at dksL_law_43 20 rfl rfl)
theorem dL_law_1078 : decode cL_law 1078 = .ok (.iconst 1, 1) := dk_4 (dk_at dksL_law_43 22 rfl rfl)
theorem dL_law_1079 : decode cL_law 1079 = .ok (.iadd, 1) := dk_96 (dk_at dksL_law_43 23 rfl rfl)
theorem dL_law_1080 : decode cL_law 1080 = .ok (.iaload, 1) := dk_46 (dk_at dksL_law_44 0 rfl rfl)
theorem dL_law_1081 : decode cL_law 1081 = .ok (.aload_n 0, 1) := dk_42 (dk_at dksL_law_44 1 rfl rfl)
theorem dL_law_1082 : decode cL_law 1082 = .ok (.iload 4, 2) := dk_21 4 (dk_at dksL_law_44 2 rfl rfl)
theorem dL_law_1084 : decode cL_law 1084 = .ok (.iconst 2, 1) := dk_5 (dk_at dksL_law_44 4 rfl rfl)
theorem dL_law_1085 : decode cL_law 1085 = .ok (.iadd, 1) := dk_96 (dk_at dksL_law_44 5 rfl rfl)
theorem dL_law_1086 : decode cL_law 1086 = .ok (.iaload, 1) := dk_46 (dk_at dksL_law_44 6 rfl rfl)
theorem dL_law_1087 : decode cL_law 1087 = .ok (.aload_n 3, 1) := dk_45 (dk_at dksL_law_44 7 rfl rfl)
theorem dL_law_1088 : decode cL_law 1088 = .ok (.invokestatic 129, 3) := dk_184 0 129 (dk_at dksL_law_44 8 rfl rfl)
theorem dL_law_1091 : decode cL_law 1091 = .ok (.istore 5, 2) := dk_54 5 (dk_at dksL_law_44 11 rfl rfl)
theorem dL_law_1093 : decode cL_law 1093 = .ok (.aload_n 2, 1) := dk_44 (dk_at dksL_law_44 13 rfl rfl)
theorem dL_law_1094 : decode cL_law 1094 = .ok (.aload_n 0, 1) := dk_42 (dk_at dksL_law_44 14 rfl rfl)
theorem dL_law_1095 : decode cL_law 1095 = .ok (.iload 4, 2) := dk_21 4 (dk_at dksL_law_44 15 rfl rfl)
theorem dL_law_1097 : decode cL_law 1097 = .ok (.iconst 1, 1) := dk_4 (dk_at dksL_law_44 17 rfl rfl)
theorem dL_law_1098 : decode cL_law 1098 = .ok (.iadd, 1) := dk_96 (dk_at dksL_law_44 18 rfl rfl)
theorem dL_law_1099 : decode cL_law 1099 = .ok (.iaload, 1) := dk_46 (dk_at dksL_law_44 19 rfl rfl)
theorem dL_law_1100 : decode cL_law 1100 = .ok (.aload_n 0, 1) := dk_42 (dk_at dksL_law_44 20 rfl rfl)
theorem dL_law_1101 : decode cL_law 1101 = .ok (.iload 4, 2) := dk_21 4 (dk_at dksL_law_44 21 rfl rfl)
theorem dL_law_1103 : decode cL_law 1103 = .ok (.iconst 2, 1) := dk_5 (dk_at dksL_law_44 23 rfl rfl)
theorem dL_law_1104 : decode cL_law 1104 = .ok (.iadd, 1) := dk_96 (dk_at dksL_law_45 0 rfl rfl)
theorem dL_law_1105 : decode cL_law 1105 = .ok (.iaload, 1) := dk_46 (dk_at dksL_law_45 1 rfl rfl)
theorem dL_law_1106 : decode cL_law 1106 = .ok (.invokevirtual 131, 3) := dk_182 0 131 (dk_at dksL_law_45 2 rfl rfl)
theorem dL_law_1109 : decode cL_law 1109 = .ok (.istore 6, 2) := dk_54 6 (dk_at dksL_law_45 5 rfl rfl)
theorem dL_law_1111 : decode cL_law 1111 = .ok (.aload_n 2, 1) := dk_44 (dk_at dksL_law_45 7 rfl rfl)
theorem dL_law_1112 : decode cL_law 1112 = .ok (.invokevirtual 74, 3) := dk_182 0 74 (dk_at dksL_law_45 8 rfl rfl)
theorem dL_law_1115 : decode cL_law 1115 = .ok (.iload 5, 2) := dk_21 5 (dk_at dksL_law_45 11 rfl rfl)
theorem dL_law_1117 : decode cL_law 1117 = .ok (.if_icmp .eq 5, 3) := dk_159 0 5 (dk_at dksL_law_45 13 rfl rfl)
theorem dL_law_1120 : decode cL_law 1120 = .ok (.iconst 0, 1) := dk_3 (dk_at dksL_law_45 16 rfl rfl)
theorem dL_law_1121 : decode cL_law 1121 = .ok (.ireturn, 1) := dk_172 (dk_at dksL_law_45 17 rfl rfl)
theorem dL_law_1122 : decode cL_law 1122 = .ok (.iload 5, 2) := dk_21 5 (dk_at dksL_law_45 18 rfl rfl)
theorem dL_law_1124 : decode cL_law 1124 = .ok (.ifCond .ne 15, 3) := dk_154 0 15 (dk_at dksL_law_45 20 rfl rfl)
theorem dL_law_1127 : decode cL_law 1127 = .ok (.aload_n 3, 1) := dk_45 (dk_at dksL_law_45 23 rfl rfl)
theorem dL_law_1128 : decode cL_law 1128 = .ok (.iconst 0, 1) := dk_3 (dk_at dksL_law_46 0 rfl rfl)
theorem dL_law_1129 : decode cL_law 1129 = .ok (.laload, 1) := dk_47 (dk_at dksL_law_46 1 rfl rfl)
theorem dL_law_1130 : decode cL_law 1130 = .ok (.iload 6, 2) := dk_21 6 (dk_at dksL_law_46 2 rfl rfl)
theorem dL_law_1132 : decode cL_law 1132 = .ok (.i2l, 1) := dk_133 (dk_at dksL_law_46 4 rfl rfl)
theorem dL_law_1133 : decode cL_law 1133 = .ok (.lcmp, 1) := dk_148 (dk_at dksL_law_46 5 rfl rfl)
theorem dL_law_1134 : decode cL_law 1134 = .ok (.ifCond .eq 5, 3) := dk_153 0 5 (dk_at dksL_law_46 6 rfl rfl)
theorem dL_law_1137 : decode cL_law 1137 = .ok (.iconst 0, 1) := dk_3 (dk_at dksL_law_46 9 rfl rfl)
theorem dL_law_1138 : decode cL_law 1138 = .ok (.ireturn, 1) := dk_172 (dk_at dksL_law_46 10 rfl rfl)
theorem dL_law_1139 : decode cL_law 1139 = .ok (.goto 71, 3) := dk_167 0 71 (dk_at dksL_law_46 11 rfl rfl)
theorem dL_law_1142 : decode cL_law 1142 = .ok (.aload_n 1, 1) := dk_43 (dk_at dksL_law_46 14 rfl rfl)
theorem dL_law_1143 : decode cL_law 1143 = .ok (.invokevirtual 132, 3) := dk_182 0 132 (dk_at dksL_law_46 15 rfl rfl)
theorem dL_law_1146 : decode cL_law 1146 = .ok (.aload_n 2, 1) := dk_44 (dk_at dksL_law_46 18 rfl rfl)
theorem dL_law_1147 : decode cL_law 1147 = .ok (.invokevirtual 135, 3) := dk_182 0 135 (dk_at dksL_law_46 19 rfl rfl)
theorem dL_law_1150 : decode cL_law 1150 = .ok (.if_icmp .eq 60, 3) := dk_159 0 60 (dk_at dksL_law_47 0 rfl rfl)
theorem dL_law_1153 : decode cL_law 1153 = .ok (.iconst 0, 1) := dk_3 (dk_at dksL_law_47 3 rfl rfl)
theorem dL_law_1154 : decode cL_law 1154 = .ok (.ireturn, 1) := dk_172 (dk_at dksL_law_47 4 rfl rfl)
theorem dL_law_1155 : decode cL_law 1155 = .ok (.aload_n 1, 1) := dk_43 (dk_at dksL_law_47 5 rfl rfl)
theorem dL_law_1156 : decode cL_law 1156 = .ok (.invokevirtual 136, 3) := dk_182 0 136 (dk_at dksL_law_47 6 rfl rfl)
theorem dL_law_1159 : decode cL_law 1159 = .ok (.dstore 5, 2) := dk_57 5 (dk_at dksL_law_47 9 rfl rfl)
theorem dL_law_1161 : decode cL_law 1161 = .ok (.aload_n 2, 1) := dk_44 (dk_at dksL_law_47 11 rfl rfl)
theorem dL_law_1162 : decode cL_law 1162 = .ok (.invokevirtual 140, 3) := dk_182 0 140 (dk_at dksL_law_47 12 rfl rfl)
theorem dL_law_1165 : decode cL_law 1165 = .ok (.dstore 7, 2) := dk_57 7 (dk_at dksL_law_47 15 rfl rfl)
theorem dL_law_1167 : decode cL_law 1167 = .ok (.dload 5, 2) := dk_24 5 (dk_at dksL_law_47 17 rfl rfl)
theorem dL_law_1169 : decode cL_law 1169 = .ok (.dload 7, 2) := dk_24 7 (dk_at dksL_law_47 19 rfl rfl)
theorem dL_law_1171 : decode cL_law 1171 = .ok (.dcmp .l, 1) := dk_151 (dk_at dksL_law_47 21 rfl rfl)
theorem dL_law_1172 : decode cL_law 1172 = .ok (.ifCond .eq 21, 3) := dk_153 0 21 (dk_at dksL_law_48 0 rfl rfl)
theorem dL_law_1175 : decode cL_law 1175 = .ok (.dload 5, 2) := dk_24 5 (dk_at dksL_law_48 3 rfl rfl)
theorem dL_law_1177 : decode cL_law 1177 = .ok (.dload 5, 2) := dk_24 5 (dk_at dksL_law_48 5 rfl rfl)
theorem dL_law_1179 : decode cL_law 1179 = .ok (.dcmp .l, 1) := dk_151 (dk_at dksL_law_48 7 rfl rfl)
theorem dL_law_1180 : decode cL_law 1180 = .ok (.ifCond .eq 11, 3) := dk_153 0 11 (dk_at dksL_law_48 8 rfl rfl)
theorem dL_law_1183 : decode cL_law 1183 = .ok (.dload 7, 2) := dk_24 7 (dk_at dksL_law_48 11 rfl rfl)
theorem dL_law_1185 : decode cL_law 1185 = .ok (.dload 7, 2) := dk_24 7 (dk_at dksL_law_48 13 rfl rfl)
theorem dL_law_1187 : decode cL_law 1187 = .ok (.dcmp .l, 1) := dk_151 (dk_at dksL_law_48 15 rfl rfl)
theorem dL_law_1188 : decode cL_law 1188 = .ok (.ifCond .ne 5, 3) := dk_154 0 5 (dk_at dksL_law_48 16 rfl rfl)
theorem dL_law_1191 : decode cL_law 1191 = .ok (.iconst 0, 1) := dk_3 (dk_at dksL_law_48 19 rfl rfl)
theorem dL_law_1192 : decode cL_law 1192 = .ok (.ireturn, 1) := dk_172 (dk_at dksL_law_48 20 rfl rfl)
theorem dL_law_1193 : decode cL_law 1193 = .ok (.goto 17, 3) := dk_167 0 17 (dk_at dksL_law_48 21 rfl rfl)
theorem dL_law_1196 : decode cL_law 1196 = .ok (.aload_n 1, 1) := dk_43 (dk_at dksL_law_49 0 rfl rfl)
theorem dL_law_1197 : decode cL_law 1197 = .ok (.invokevirtual 141, 3) := dk_182 0 141 (dk_at dksL_law_49 1 rfl rfl)
theorem dL_law_1200 : decode cL_law 1200 = .ok (.aload_n 2, 1) := dk_44 (dk_at dksL_law_49 4 rfl rfl)
theorem dL_law_1201 : decode cL_law 1201 = .ok (.invokevirtual 145, 3) := dk_182 0 145 (dk_at dksL_law_49 5 rfl rfl)
theorem dL_law_1204 : decode cL_law 1204 = .ok (.lcmp, 1) := dk_148 (dk_at dksL_law_49 8 rfl rfl)
theorem dL_law_1205 : decode cL_law 1205 = .ok (.ifCond .eq 5, 3) := dk_153 0 5 (dk_at dksL_law_49 9 rfl rfl)
theorem dL_law_1208 : decode cL_law 1208 = .ok (.iconst 0, 1) := dk_3 (dk_at dksL_law_49 12 rfl rfl)
theorem dL_law_1209 : decode cL_law 1209 = .ok (.ireturn, 1) := dk_172 (dk_at dksL_law_49 13 rfl rfl)
theorem dL_law_1210 : decode cL_law 1210 = .ok (.iinc 4 5, 3) := dk_132 4 5 (dk_at dksL_law_49 14 rfl rfl)
theorem dL_law_1213 : decode cL_law 1213 = .ok (.goto (-1190), 3) := dk_167 251 90 (dk_at dksL_law_49 17 rfl rfl)
theorem dL_law_1216 : decode cL_law 1216 = .ok (.iconst 1, 1) := dk_4 (dk_at dksL_law_49 20 rfl rfl)
theorem dL_law_1217 : decode cL_law 1217 = .ok (.ireturn, 1) := dk_172 (dk_at dksL_law_49 21 rfl rfl)

