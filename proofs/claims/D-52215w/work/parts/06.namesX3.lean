set_option maxRecDepth 100000
/-! StarConsoleModel -/
def RX3 : String := "StarConsoleModel"
def TX3 : u_T := fun k => match k with
  | 0 => ("StarConsoleModel", "thrown", "I", false)
  | 1 => ("StarConsoleModel", "dimmers", "I", false)
  | 2 => ("StarConsoleModel", "stars", "I", false)
  | 3 => ("StarConsoleModel", "cues", "I", false)
  | 4 => ("StarConsoleModel", "lamps", "[I", true)
  | 5 => ("StarConsoleModel", "sky", "[I", true)
  | 6 => ("StarConsoleModel", "tails", "[I", true)
  | 7 => ("StarConsoleModel", "show", "[I", true)
  | _ => ("StarConsoleModel", "numbers", "[I", true)
def tyX3 : Nat → FieldType := fun k => match k with
  | 0 => .int
  | 1 => .int
  | 2 => .int
  | 3 => .int
  | 4 => .array .int
  | 5 => .array .int
  | 6 => .array .int
  | 7 => .array .int
  | _ => .array .int
abbrev wsX30 : List Cond := u_ws RX3 TX3 9
theorem nmX3 : ∀ a, a < 9 → ∀ b, b < 9 → a ≠ b → (TX3 a).2.1 ≠ (TX3 b).2.1 := by decide +kernel
theorem tyX3_ok : ∀ k, k < 9 → parseFieldDescriptor (TX3 k).2.2.1 = some (tyX3 k) := by decide +kernel
abbrev cX3_init : ByteArray := prog_14_method_1_code
def yX3_init : MethodName := ⟨RX3, "<init>", "()V"⟩
def dkwX3_init_3 : List UInt8 := [16, 7, 3, 79, 181, 0, 22, 177]
abbrev dktX3_init_3 : List UInt8 := dkwX3_init_3 ++ []
def dkwX3_init_2 : List UInt8 := [3, 79, 89, 5, 3, 79, 89, 6, 2, 79, 89, 7, 3, 79, 89, 8, 3, 79, 89, 16, 6, 3, 79, 89]
abbrev dktX3_init_2 : List UInt8 := dkwX3_init_2 ++ dktX3_init_3
def dkwX3_init_1 : List UInt8 := [188, 10, 181, 0, 16, 42, 16, 96, 188, 10, 181, 0, 19, 42, 16, 8, 188, 10, 89, 3, 3, 79, 89, 4]
abbrev dktX3_init_1 : List UInt8 := dkwX3_init_1 ++ dktX3_init_2
def dkwX3_init_0 : List UInt8 := [42, 183, 0, 1, 42, 16, 40, 188, 10, 181, 0, 9, 42, 16, 40, 188, 10, 181, 0, 13, 42, 16, 36]
abbrev dktX3_init_0 : List UInt8 := dkwX3_init_0 ++ dktX3_init_1
theorem dksX3_init_0 : cX3_init.data.toList.drop 0 = dktX3_init_0 := by decide +kernel
theorem dksX3_init_1 : cX3_init.data.toList.drop 23 = dktX3_init_1 := dk_seg dksX3_init_0 23 rfl rfl
theorem dksX3_init_2 : cX3_init.data.toList.drop 47 = dktX3_init_2 := dk_seg dksX3_init_1 24 rfl rfl
theorem dksX3_init_3 : cX3_init.data.toList.drop 71 = dktX3_init_3 := dk_seg dksX3_init_2 24 rfl rfl
theorem dX3_init_0 : decode cX3_init 0 = .ok (.aload_n 0, 1) := dk_42 (dk_at dksX3_init_0 0 rfl rfl)
theorem dX3_init_1 : decode cX3_init 1 = .ok (.invokespecial 1, 3) := dk_183 0 1 (dk_at dksX3_init_0 1 rfl rfl)
theorem dX3_init_4 : decode cX3_init 4 = .ok (.aload_n 0, 1) := dk_42 (dk_at dksX3_init_0 4 rfl rfl)
theorem dX3_init_5 : decode cX3_init 5 = .ok (.bipush 40, 2) := dk_16 40 (dk_at dksX3_init_0 5 rfl rfl)
theorem dX3_init_7 : decode cX3_init 7 = .ok (.newarray .int, 2) := dk_188_10 (dk_at dksX3_init_0 7 rfl rfl)
theorem dX3_init_9 : decode cX3_init 9 = .ok (.putfield 9, 3) := dk_181 0 9 (dk_at dksX3_init_0 9 rfl rfl)
theorem dX3_init_12 : decode cX3_init 12 = .ok (.aload_n 0, 1) := dk_42 (dk_at dksX3_init_0 12 rfl rfl)
theorem dX3_init_13 : decode cX3_init 13 = .ok (.bipush 40, 2) := dk_16 40 (dk_at dksX3_init_0 13 rfl rfl)
theorem dX3_init_15 : decode cX3_init 15 = .ok (.newarray .int, 2) := dk_188_10 (dk_at dksX3_init_0 15 rfl rfl)
theorem dX3_init_17 : decode cX3_init 17 = .ok (.putfield 13, 3) := dk_181 0 13 (dk_at dksX3_init_0 17 rfl rfl)
theorem dX3_init_20 : decode cX3_init 20 = .ok (.aload_n 0, 1) := dk_42 (dk_at dksX3_init_0 20 rfl rfl)
theorem dX3_init_21 : decode cX3_init 21 = .ok (.bipush 36, 2) := dk_16 36 (dk_at dksX3_init_0 21 rfl rfl)
theorem dX3_init_23 : decode cX3_init 23 = .ok (.newarray .int, 2) := dk_188_10 (dk_at dksX3_init_1 0 rfl rfl)
theorem dX3_init_25 : decode cX3_init 25 = .ok (.putfield 16, 3) := dk_181 0 16 (dk_at dksX3_init_1 2 rfl rfl)
theorem dX3_init_28 : decode cX3_init 28 = .ok (.aload_n 0, 1) := dk_42 (dk_at dksX3_init_1 5 rfl rfl)
theorem dX3_init_29 : decode cX3_init 29 = .ok (.bipush 96, 2) := dk_16 96 (dk_at dksX3_init_1 6 rfl rfl)
theorem dX3_init_31 : decode cX3_init 31 = .ok (.newarray .int, 2) := dk_188_10 (dk_at dksX3_init_1 8 rfl rfl)
theorem dX3_init_33 : decode cX3_init 33 = .ok (.putfield 19, 3) := dk_181 0 19 (dk_at dksX3_init_1 10 rfl rfl)
theorem dX3_init_36 : decode cX3_init 36 = .ok (.aload_n 0, 1) := dk_42 (dk_at dksX3_init_1 13 rfl rfl)
theorem dX3_init_37 : decode cX3_init 37 = .ok (.bipush 8, 2) := dk_16 8 (dk_at dksX3_init_1 14 rfl rfl)
theorem dX3_init_39 : decode cX3_init 39 = .ok (.newarray .int, 2) := dk_188_10 (dk_at dksX3_init_1 16 rfl rfl)
theorem dX3_init_41 : decode cX3_init 41 = .ok (.dup, 1) := dk_89 (dk_at dksX3_init_1 18 rfl rfl)
theorem dX3_init_42 : decode cX3_init 42 = .ok (.iconst 0, 1) := dk_3 (dk_at dksX3_init_1 19 rfl rfl)
theorem dX3_init_43 : decode cX3_init 43 = .ok (.iconst 0, 1) := dk_3 (dk_at dksX3_init_1 20 rfl rfl)
theorem dX3_init_44 : decode cX3_init 44 = .ok (.iastore, 1) := dk_79 (dk_at dksX3_init_1 21 rfl rfl)
theorem dX3_init_45 : decode cX3_init 45 = .ok (.dup, 1) := dk_89 (dk_at dksX3_init_1 22 rfl rfl)
theorem dX3_init_46 : decode cX3_init 46 = .ok (.iconst 1, 1) := dk_4 (dk_at dksX3_init_1 23 rfl rfl)
theorem dX3_init_47 : decode cX3_init 47 = .ok (.iconst 0, 1) := dk_3 (dk_at dksX3_init_2 0 rfl rfl)
theorem dX3_init_48 : decode cX3_init 48 = .ok (.iastore, 1) := dk_79 (dk_at dksX3_init_2 1 rfl rfl)
theorem dX3_init_49 : decode cX3_init 49 = .ok (.dup, 1) := dk_89 (dk_at dksX3_init_2 2 rfl rfl)
theorem dX3_init_50 : decode cX3_init 50 = .ok (.iconst 2, 1) := dk_5 (dk_at dksX3_init_2 3 rfl rfl)
theorem dX3_init_51 : decode cX3_init 51 = .ok (.iconst 0, 1) := dk_3 (dk_at dksX3_init_2 4 rfl rfl)
theorem dX3_init_52 : decode cX3_init 52 = .ok (.iastore, 1) := dk_79 (dk_at dksX3_init_2 5 rfl rfl)
theorem dX3_init_53 : decode cX3_init 53 = .ok (.dup, 1) := dk_89 (dk_at dksX3_init_2 6 rfl rfl)
theorem dX3_init_54 : decode cX3_init 54 = .ok (.iconst 3, 1) := dk_6 (dk_at dksX3_init_2 7 rfl rfl)
theorem dX3_init_55 : decode cX3_init 55 = .ok (.iconst (-1), 1) := dk_2 (dk_at dksX3_init_2 8 rfl rfl)
theorem dX3_init_56 : decode cX3_init 56 = .ok (.iastore, 1) := dk_79 (dk_at dksX3_init_2 9 rfl rfl)
theorem dX3_init_57 : decode cX3_init 57 = .ok (.dup, 1) := dk_89 (dk_at dksX3_init_2 10 rfl rfl)
theorem dX3_init_58 : decode cX3_init 58 = .ok (.iconst 4, 1) := dk_7 (dk_at dksX3_init_2 11 rfl rfl)
theorem dX3_init_59 : decode cX3_init 59 = .ok (.iconst 0, 1) := dk_3 (dk_at dksX3_init_2 12 rfl rfl)
theorem dX3_init_60 : decode cX3_init 60 = .ok (.iastore, 1) := dk_79 (dk_at dksX3_init_2 13 rfl rfl)
theorem dX3_init_61 : decode cX3_init 61 = .ok (.dup, 1) := dk_89 (dk_at dksX3_init_2 14 rfl rfl)
theorem dX3_init_62 : decode cX3_init 62 = .ok (.iconst 5, 1) := dk_8 (dk_at dksX3_init_2 15 rfl rfl)
theorem dX3_init_63 : decode cX3_init 63 = .ok (.iconst 0, 1) := dk_3 (dk_at dksX3_init_2 16 rfl rfl)
theorem dX3_init_64 : decode cX3_init 64 = .ok (.iastore, 1) := dk_79 (dk_at dksX3_init_2 17 rfl rfl)
theorem dX3_init_65 : decode cX3_init 65 = .ok (.dup, 1) := dk_89 (dk_at dksX3_init_2 18 rfl rfl)
theorem dX3_init_66 : decode cX3_init 66 = .ok (.bipush 6, 2) := dk_16 6 (dk_at dksX3_init_2 19 rfl rfl)
theorem dX3_init_68 : decode cX3_init 68 = .ok (.iconst 0, 1) := dk_3 (dk_at dksX3_init_2 21 rfl rfl)
theorem dX3_init_69 : decode cX3_init 69 = .ok (.iastore, 1) := dk_79 (dk_at dksX3_init_2 22 rfl rfl)
theorem dX3_init_70 : decode cX3_init 70 = .ok (.dup, 1) := dk_89 (dk_at dksX3_init_2 23 rfl rfl)
theorem dX3_init_71 : decode cX3_init 71 = .ok (.bipush 7, 2) := dk_16 7 (dk_at dksX3_init_3 0 rfl rfl)
theorem dX3_init_73 : decode cX3_init 73 = .ok (.iconst 0, 1) := dk_3 (dk_at dksX3_init_3 2 rfl rfl)
theorem dX3_init_74 : decode cX3_init 74 = .ok (.iastore, 1) := dk_79 (dk_at dksX3_init_3 3 rfl rfl)
theorem dX3_init_75 : decode cX3_init 75 = .ok (.putfield 22, 3) := dk_181 0 22 (dk_at dksX3_init_3 4 rfl rfl)
theorem dX3_init_78 : decode cX3_init 78 = .ok (.return_, 1) := dk_177 (dk_at dksX3_init_3 7 rfl rfl)
abbrev cX3_thrown : ByteArray := prog_14_method_2_code
def yX3_thrown : MethodName := ⟨RX3, "thrown", "()I"⟩
theorem dX3_thrown_0 : decode cX3_thrown 0 = .ok (.aload_n 0, 1) := by decide +kernel
theorem dX3_thrown_1 : decode cX3_thrown 1 = .ok (.getfield 25, 3) := by decide +kernel
theorem dX3_thrown_4 : decode cX3_thrown 4 = .ok (.ireturn, 1) := by decide +kernel
abbrev cX3_dimmer : ByteArray := prog_14_method_8_code
def yX3_dimmer : MethodName := ⟨RX3, "dimmer", "(III)I"⟩
def dkwX3_dimmer_4 : List UInt8 := [104, 8, 184, 0, 40, 42, 89, 180, 0, 29, 4, 96, 181, 0, 29, 42, 180, 0, 29, 4, 100, 172]
abbrev dktX3_dimmer_4 : List UInt8 := dkwX3_dimmer_4 ++ []
def dkwX3_dimmer_3 : List UInt8 := [3, 79, 89, 6, 28, 79, 89, 7, 29, 79, 58, 4, 25, 4, 3, 42, 180, 0, 9, 8, 42, 180, 0, 29]
abbrev dktX3_dimmer_3 : List UInt8 := dkwX3_dimmer_3 ++ dktX3_dimmer_4
def dkwX3_dimmer_2 : List UInt8 := [16, 8, 160, 0, 9, 42, 5, 182, 0, 36, 172, 8, 188, 10, 89, 3, 27, 79, 89, 4, 3, 79, 89, 5]
abbrev dktX3_dimmer_2 : List UInt8 := dkwX3_dimmer_2 ++ dktX3_dimmer_3
def dkwX3_dimmer_1 : List UInt8 := [153, 0, 14, 29, 3, 17, 39, 15, 184, 0, 32, 154, 0, 9, 42, 4, 182, 0, 36, 172, 42, 180, 0, 29]
abbrev dktX3_dimmer_1 : List UInt8 := dkwX3_dimmer_1 ++ dktX3_dimmer_2
def dkwX3_dimmer_0 : List UInt8 := [42, 3, 181, 0, 25, 27, 3, 16, 11, 184, 0, 32, 153, 0, 24, 28, 4, 16, 50, 184, 0, 32]
abbrev dktX3_dimmer_0 : List UInt8 := dkwX3_dimmer_0 ++ dktX3_dimmer_1
theorem dksX3_dimmer_0 : cX3_dimmer.data.toList.drop 0 = dktX3_dimmer_0 := by decide +kernel
theorem dksX3_dimmer_1 : cX3_dimmer.data.toList.drop 22 = dktX3_dimmer_1 := dk_seg dksX3_dimmer_0 22 rfl rfl
theorem dksX3_dimmer_2 : cX3_dimmer.data.toList.drop 46 = dktX3_dimmer_2 := dk_seg dksX3_dimmer_1 24 rfl rfl
theorem dksX3_dimmer_3 : cX3_dimmer.data.toList.drop 70 = dktX3_dimmer_3 := dk_seg dksX3_dimmer_2 24 rfl rfl
theorem dksX3_dimmer_4 : cX3_dimmer.data.toList.drop 94 = dktX3_dimmer_4 := dk_seg dksX3_dimmer_3 24 rfl rfl
theorem dX3_dimmer_0 : decode cX3_dimmer 0 = .ok (.aload_n 0, 1) := dk_42 (dk_at dksX3_dimmer_0 0 rfl rfl)
theorem dX3_dimmer_1 : decode cX3_dimmer 1 = .ok (.iconst 0, 1) := dk_3 (dk_at dksX3_dimmer_0 1 rfl rfl)
theorem dX3_dimmer_2 : decode cX3_dimmer 2 = .ok (.putfield 25, 3) := dk_181 0 25 (dk_at dksX3_dimmer_0 2 rfl rfl)
theorem dX3_dimmer_5 : decode cX3_dimmer 5 = .ok (.iload_n 1, 1) := dk_27 (dk_at dksX3_dimmer_0 5 rfl rfl)
theorem dX3_dimmer_6 : decode cX3_dimmer 6 = .ok (.iconst 0, 1) := dk_3 (dk_at dksX3_dimmer_0 6 rfl rfl)
theorem dX3_dimmer_7 : decode cX3_dimmer 7 = .ok (.bipush 11, 2) := dk_16 11 (dk_at dksX3_dimmer_0 7 rfl rfl)
theorem dX3_dimmer_9 : decode cX3_dimmer 9 = .ok (.invokestatic 32, 3) := dk_184 0 32 (dk_at dksX3_dimmer_0 9 rfl rfl)
theorem dX3_dimmer_12 : decode cX3_dimmer 12 = .ok (.ifCond .eq 24, 3) := dk_153 0 24 (dk_at dksX3_dimmer_0 12 rfl rfl)
theorem dX3_dimmer_15 : decode cX3_dimmer 15 = .ok (.iload_n 2, 1) := dk_28 (dk_at dksX3_dimmer_0 15 rfl rfl)
theorem dX3_dimmer_16 : decode cX3_dimmer 16 = .ok (.iconst 1, 1) := dk_4 (dk_at dksX3_dimmer_0 16 rfl rfl)
theorem dX3_dimmer_17 : decode cX3_dimmer 17 = .ok (.bipush 50, 2) := dk_16 50 (dk_at dksX3_dimmer_0 17 rfl rfl)
theorem dX3_dimmer_19 : decode cX3_dimmer 19 = .ok (.invokestatic 32, 3) := dk_184 0 32 (dk_at dksX3_dimmer_0 19 rfl rfl)
theorem dX3_dimmer_22 : decode cX3_dimmer 22 = .ok (.ifCond .eq 14, 3) := dk_153 0 14 (dk_at dksX3_dimmer_1 0 rfl rfl)
theorem dX3_dimmer_25 : decode cX3_dimmer 25 = .ok (.iload_n 3, 1) := dk_29 (dk_at dksX3_dimmer_1 3 rfl rfl)
theorem dX3_dimmer_26 : decode cX3_dimmer 26 = .ok (.iconst 0, 1) := dk_3 (dk_at dksX3_dimmer_1 4 rfl rfl)
theorem dX3_dimmer_27 : decode cX3_dimmer 27 = .ok (.sipush 9999, 3) := dk_17 39 15 (dk_at dksX3_dimmer_1 5 rfl rfl)
theorem dX3_dimmer_30 : decode cX3_dimmer 30 = .ok (.invokestatic 32, 3) := dk_184 0 32 (dk_at dksX3_dimmer_1 8 rfl rfl)
theorem dX3_dimmer_33 : decode cX3_dimmer 33 = .ok (.ifCond .ne 9, 3) := dk_154 0 9 (dk_at dksX3_dimmer_1 11 rfl rfl)
theorem dX3_dimmer_36 : decode cX3_dimmer 36 = .ok (.aload_n 0, 1) := dk_42 (dk_at dksX3_dimmer_1 14 rfl rfl)
theorem dX3_dimmer_37 : decode cX3_dimmer 37 = .ok (.iconst 1, 1) := dk_4 (dk_at dksX3_dimmer_1 15 rfl rfl)
theorem dX3_dimmer_38 : decode cX3_dimmer 38 = .ok (.invokevirtual 36, 3) := dk_182 0 36 (dk_at dksX3_dimmer_1 16 rfl rfl)
theorem dX3_dimmer_41 : decode cX3_dimmer 41 = .ok (.ireturn, 1) := dk_172 (dk_at dksX3_dimmer_1 19 rfl rfl)
theorem dX3_dimmer_42 : decode cX3_dimmer 42 = .ok (.aload_n 0, 1) := dk_42 (dk_at dksX3_dimmer_1 20 rfl rfl)
theorem dX3_dimmer_43 : decode cX3_dimmer 43 = .ok (.getfield 29, 3) := dk_180 0 29 (dk_at dksX3_dimmer_1 21 rfl rfl)
theorem dX3_dimmer_46 : decode cX3_dimmer 46 = .ok (.bipush 8, 2) := dk_16 8 (dk_at dksX3_dimmer_2 0 rfl rfl)
theorem dX3_dimmer_48 : decode cX3_dimmer 48 = .ok (.if_icmp .ne 9, 3) := dk_160 0 9 (dk_at dksX3_dimmer_2 2 rfl rfl)
theorem dX3_dimmer_51 : decode cX3_dimmer 51 = .ok (.aload_n 0, 1) := dk_42 (dk_at dksX3_dimmer_2 5 rfl rfl)
theorem dX3_dimmer_52 : decode cX3_dimmer 52 = .ok (.iconst 2, 1) := dk_5 (dk_at dksX3_dimmer_2 6 rfl rfl)
theorem dX3_dimmer_53 : decode cX3_dimmer 53 = .ok (.invokevirtual 36, 3) := dk_182 0 36 (dk_at dksX3_dimmer_2 7 rfl rfl)
theorem dX3_dimmer_56 : decode cX3_dimmer 56 = .ok (.ireturn, 1) := dk_172 (dk_at dksX3_dimmer_2 10 rfl rfl)
theorem dX3_dimmer_57 : decode cX3_dimmer 57 = .ok (.iconst 5, 1) := dk_8 (dk_at dksX3_dimmer_2 11 rfl rfl)
theorem dX3_dimmer_58 : decode cX3_dimmer 58 = .ok (.newarray .int, 2) := dk_188_10 (dk_at dksX3_dimmer_2 12 rfl rfl)
theorem dX3_dimmer_60 : decode cX3_dimmer 60 = .ok (.dup, 1) := dk_89 (dk_at dksX3_dimmer_2 14 rfl rfl)
theorem dX3_dimmer_61 : decode cX3_dimmer 61 = .ok (.iconst 0, 1) := dk_3 (dk_at dksX3_dimmer_2 15 rfl rfl)
theorem dX3_dimmer_62 : decode cX3_dimmer 62 = .ok (.iload_n 1, 1) := dk_27 (dk_at dksX3_dimmer_2 16 rfl rfl)
theorem dX3_dimmer_63 : decode cX3_dimmer 63 = .ok (.iastore, 1) := dk_79 (dk_at dksX3_dimmer_2 17 rfl rfl)
theorem dX3_dimmer_64 : decode cX3_dimmer 64 = .ok (.dup, 1) := dk_89 (dk_at dksX3_dimmer_2 18 rfl rfl)
theorem dX3_dimmer_65 : decode cX3_dimmer 65 = .ok (.iconst 1, 1) := dk_4 (dk_at dksX3_dimmer_2 19 rfl rfl)
theorem dX3_dimmer_66 : decode cX3_dimmer 66 = .ok (.iconst 0, 1) := dk_3 (dk_at dksX3_dimmer_2 20 rfl rfl)
theorem dX3_dimmer_67 : decode cX3_dimmer 67 = .ok (.iastore, 1) := dk_79 (dk_at dksX3_dimmer_2 21 rfl rfl)
theorem dX3_dimmer_68 : decode cX3_dimmer 68 = .ok (.dup, 1) := dk_89 (dk_at dksX3_dimmer_2 22 rfl rfl)
theorem dX3_dimmer_69 : decode cX3_dimmer 69 = .ok (.iconst 2, 1) := dk_5 (dk_at dksX3_dimmer_2 23 rfl rfl)
theorem dX3_dimmer_70 : decode cX3_dimmer 70 = .ok (.iconst 0, 1) := dk_3 (dk_at dksX3_dimmer_3 0 rfl rfl)
theorem dX3_dimmer_71 : decode cX3_dimmer 71 = .ok (.iastore, 1) := dk_79 (dk_at dksX3_dimmer_3 1 rfl rfl)
theorem dX3_dimmer_72 : decode cX3_dimmer 72 = .ok (.dup, 1) := dk_89 (dk_at dksX3_dimmer_3 2 rfl rfl)
theorem dX3_dimmer_73 : decode cX3_dimmer 73 = .ok (.iconst 3, 1) := dk_6 (dk_at dksX3_dimmer_3 3 rfl rfl)
theorem dX3_dimmer_74 : decode cX3_dimmer 74 = .ok (.iload_n 2, 1) := dk_28 (dk_at dksX3_dimmer_3 4 rfl rfl)
theorem dX3_dimmer_75 : decode cX3_dimmer 75 = .ok (.iastore, 1) := dk_79 (dk_at dksX3_dimmer_3 5 rfl rfl)
theorem dX3_dimmer_76 : decode cX3_dimmer 76 = .ok (.dup, 1) := dk_89 (dk_at dksX3_dimmer_3 6 rfl rfl)
theorem dX3_dimmer_77 : decode cX3_dimmer 77 = .ok (.iconst 4, 1) := dk_7 (dk_at dksX3_dimmer_3 7 rfl rfl)
theorem dX3_dimmer_78 : decode cX3_dimmer 78 = .ok (.iload_n 3, 1) := dk_29 (dk_at dksX3_dimmer_3 8 rfl rfl)
theorem dX3_dimmer_79 : decode cX3_dimmer 79 = .ok (.iastore, 1) := dk_79 (dk_at dksX3_dimmer_3 9 rfl rfl)
theorem dX3_dimmer_80 : decode cX3_dimmer 80 = .ok (.astore 4, 2) := dk_58 4 (dk_at dksX3_dimmer_3 10 rfl rfl)
theorem dX3_dimmer_82 : decode cX3_dimmer 82 = .ok (.aload 4, 2) := dk_25 4 (dk_at dksX3_dimmer_3 12 rfl rfl)
theorem dX3_dimmer_84 : decode cX3_dimmer 84 = .ok (.iconst 0, 1) := dk_3 (dk_at dksX3_dimmer_3 14 rfl rfl)
theorem dX3_dimmer_85 : decode cX3_dimmer 85 = .ok (.aload_n 0, 1) := dk_42 (dk_at dksX3_dimmer_3 15 rfl rfl)
theorem dX3_dimmer_86 : decode cX3_dimmer 86 = .ok (.getfield 9, 3) := dk_180 0 9 (dk_at dksX3_dimmer_3 16 rfl rfl)
theorem dX3_dimmer_89 : decode cX3_dimmer 89 = .ok (.iconst 5, 1) := dk_8 (dk_at dksX3_dimmer_3 19 rfl rfl)
theorem dX3_dimmer_90 : decode cX3_dimmer 90 = .ok (.aload_n 0, 1) := dk_42 (dk_at dksX3_dimmer_3 20 rfl rfl)
theorem dX3_dimmer_91 : decode cX3_dimmer 91 = .ok (.getfield 29, 3) := dk_180 0 29 (dk_at dksX3_dimmer_3 21 rfl rfl)
theorem dX3_dimmer_94 : decode cX3_dimmer 94 = .ok (.imul, 1) := dk_104 (dk_at dksX3_dimmer_4 0 rfl rfl)
theorem dX3_dimmer_95 : decode cX3_dimmer 95 = .ok (.iconst 5, 1) := dk_8 (dk_at dksX3_dimmer_4 1 rfl rfl)
theorem dX3_dimmer_96 : decode cX3_dimmer 96 = .ok (.invokestatic 40, 3) := dk_184 0 40 (dk_at dksX3_dimmer_4 2 rfl rfl)
theorem dX3_dimmer_99 : decode cX3_dimmer 99 = .ok (.aload_n 0, 1) := dk_42 (dk_at dksX3_dimmer_4 5 rfl rfl)
theorem dX3_dimmer_100 : decode cX3_dimmer 100 = .ok (.dup, 1) := dk_89 (dk_at dksX3_dimmer_4 6 rfl rfl)
theorem dX3_dimmer_101 : decode cX3_dimmer 101 = .ok (.getfield 29, 3) := dk_180 0 29 (dk_at dksX3_dimmer_4 7 rfl rfl)
theorem dX3_dimmer_104 : decode cX3_dimmer 104 = .ok (.iconst 1, 1) := dk_4 (dk_at dksX3_dimmer_4 10 rfl rfl)
theorem dX3_dimmer_105 : decode cX3_dimmer 105 = .ok (.iadd, 1) := dk_96 (dk_at dksX3_dimmer_4 11 rfl rfl)
theorem dX3_dimmer_106 : decode cX3_dimmer 106 = .ok (.putfield 29, 3) := dk_181 0 29 (dk_at dksX3_dimmer_4 12 rfl rfl)
theorem dX3_dimmer_109 : decode cX3_dimmer 109 = .ok (.aload_n 0, 1) := dk_42 (dk_at dksX3_dimmer_4 15 rfl rfl)
theorem dX3_dimmer_110 : decode cX3_dimmer 110 = .ok (.getfield 29, 3) := dk_180 0 29 (dk_at dksX3_dimmer_4 16 rfl rfl)
theorem dX3_dimmer_113 : decode cX3_dimmer 113 = .ok (.iconst 1, 1) := dk_4 (dk_at dksX3_dimmer_4 19 rfl rfl)
theorem dX3_dimmer_114 : decode cX3_dimmer 114 = .ok (.isub, 1) := dk_100 (dk_at dksX3_dimmer_4 20 rfl rfl)
theorem dX3_dimmer_115 : decode cX3_dimmer 115 = .ok (.ireturn, 1) := dk_172 (dk_at dksX3_dimmer_4 21 rfl rfl)
abbrev cX3_isIn : ByteArray := prog_14_method_4_code
def yX3_isIn : MethodName := ⟨RX3, "isIn", "(III)Z"⟩
def dkwX3_isIn_0 : List UInt8 := [26, 27, 161, 0, 12, 26, 28, 163, 0, 7, 4, 167, 0, 4, 3, 172]
abbrev dktX3_isIn_0 : List UInt8 := dkwX3_isIn_0 ++ []
theorem dksX3_isIn_0 : cX3_isIn.data.toList.drop 0 = dktX3_isIn_0 := by decide +kernel
theorem dX3_isIn_0 : decode cX3_isIn 0 = .ok (.iload_n 0, 1) := dk_26 (dk_at dksX3_isIn_0 0 rfl rfl)
theorem dX3_isIn_1 : decode cX3_isIn 1 = .ok (.iload_n 1, 1) := dk_27 (dk_at dksX3_isIn_0 1 rfl rfl)
theorem dX3_isIn_2 : decode cX3_isIn 2 = .ok (.if_icmp .lt 12, 3) := dk_161 0 12 (dk_at dksX3_isIn_0 2 rfl rfl)
theorem dX3_isIn_5 : decode cX3_isIn 5 = .ok (.iload_n 0, 1) := dk_26 (dk_at dksX3_isIn_0 5 rfl rfl)
theorem dX3_isIn_6 : decode cX3_isIn 6 = .ok (.iload_n 2, 1) := dk_28 (dk_at dksX3_isIn_0 6 rfl rfl)
theorem dX3_isIn_7 : decode cX3_isIn 7 = .ok (.if_icmp .gt 7, 3) := dk_163 0 7 (dk_at dksX3_isIn_0 7 rfl rfl)
theorem dX3_isIn_10 : decode cX3_isIn 10 = .ok (.iconst 1, 1) := dk_4 (dk_at dksX3_isIn_0 10 rfl rfl)
theorem dX3_isIn_11 : decode cX3_isIn 11 = .ok (.goto 4, 3) := dk_167 0 4 (dk_at dksX3_isIn_0 11 rfl rfl)
theorem dX3_isIn_14 : decode cX3_isIn 14 = .ok (.iconst 0, 1) := dk_3 (dk_at dksX3_isIn_0 14 rfl rfl)
theorem dX3_isIn_15 : decode cX3_isIn 15 = .ok (.ireturn, 1) := dk_172 (dk_at dksX3_isIn_0 15 rfl rfl)
abbrev cX3_fail : ByteArray := prog_14_method_3_code
def yX3_fail : MethodName := ⟨RX3, "fail", "(I)I"⟩
def dkwX3_fail_0 : List UInt8 := [42, 27, 181, 0, 25, 3, 172]
abbrev dktX3_fail_0 : List UInt8 := dkwX3_fail_0 ++ []
theorem dksX3_fail_0 : cX3_fail.data.toList.drop 0 = dktX3_fail_0 := by decide +kernel
theorem dX3_fail_0 : decode cX3_fail 0 = .ok (.aload_n 0, 1) := dk_42 (dk_at dksX3_fail_0 0 rfl rfl)
theorem dX3_fail_1 : decode cX3_fail 1 = .ok (.iload_n 1, 1) := dk_27 (dk_at dksX3_fail_0 1 rfl rfl)
theorem dX3_fail_2 : decode cX3_fail 2 = .ok (.putfield 25, 3) := dk_181 0 25 (dk_at dksX3_fail_0 2 rfl rfl)
theorem dX3_fail_5 : decode cX3_fail 5 = .ok (.iconst 0, 1) := dk_3 (dk_at dksX3_fail_0 5 rfl rfl)
theorem dX3_fail_6 : decode cX3_fail 6 = .ok (.ireturn, 1) := dk_172 (dk_at dksX3_fail_0 6 rfl rfl)
abbrev cX3_lamp : ByteArray := prog_14_method_9_code
def yX3_lamp : MethodName := ⟨RX3, "lamp", "(II)I"⟩
def dkwX3_lamp_2 : List UInt8 := [182, 0, 54, 28, 154, 0, 10, 42, 27, 4, 3, 182, 0, 54, 29, 172]
abbrev dktX3_lamp_2 : List UInt8 := dkwX3_lamp_2 ++ []
def dkwX3_lamp_1 : List UInt8 := [184, 0, 32, 154, 0, 9, 42, 5, 182, 0, 36, 172, 42, 27, 7, 182, 0, 50, 62, 42, 27, 7, 28]
abbrev dktX3_lamp_1 : List UInt8 := dkwX3_lamp_1 ++ dktX3_lamp_2
def dkwX3_lamp_0 : List UInt8 := [42, 3, 181, 0, 25, 42, 27, 182, 0, 46, 154, 0, 9, 42, 4, 182, 0, 36, 172, 28, 3, 17, 39, 15]
abbrev dktX3_lamp_0 : List UInt8 := dkwX3_lamp_0 ++ dktX3_lamp_1
theorem dksX3_lamp_0 : cX3_lamp.data.toList.drop 0 = dktX3_lamp_0 := by decide +kernel
theorem dksX3_lamp_1 : cX3_lamp.data.toList.drop 24 = dktX3_lamp_1 := dk_seg dksX3_lamp_0 24 rfl rfl
theorem dksX3_lamp_2 : cX3_lamp.data.toList.drop 47 = dktX3_lamp_2 := dk_seg dksX3_lamp_1 23 rfl rfl
theorem dX3_lamp_0 : decode cX3_lamp 0 = .ok (.aload_n 0, 1) := dk_42 (dk_at dksX3_lamp_0 0 rfl rfl)
theorem dX3_lamp_1 : decode cX3_lamp 1 = .ok (.iconst 0, 1) := dk_3 (dk_at dksX3_lamp_0 1 rfl rfl)
theorem dX3_lamp_2 : decode cX3_lamp 2 = .ok (.putfield 25, 3) := dk_181 0 25 (dk_at dksX3_lamp_0 2 rfl rfl)
theorem dX3_lamp_5 : decode cX3_lamp 5 = .ok (.aload_n 0, 1) := dk_42 (dk_at dksX3_lamp_0 5 rfl rfl)
theorem dX3_lamp_6 : decode cX3_lamp 6 = .ok (.iload_n 1, 1) := dk_27 (dk_at dksX3_lamp_0 6 rfl rfl)
theorem dX3_lamp_7 : decode cX3_lamp 7 = .ok (.invokevirtual 46, 3) := dk_182 0 46 (dk_at dksX3_lamp_0 7 rfl rfl)
theorem dX3_lamp_10 : decode cX3_lamp 10 = .ok (.ifCond .ne 9, 3) := dk_154 0 9 (dk_at dksX3_lamp_0 10 rfl rfl)
theorem dX3_lamp_13 : decode cX3_lamp 13 = .ok (.aload_n 0, 1) := dk_42 (dk_at dksX3_lamp_0 13 rfl rfl)
theorem dX3_lamp_14 : decode cX3_lamp 14 = .ok (.iconst 1, 1) := dk_4 (dk_at dksX3_lamp_0 14 rfl rfl)
theorem dX3_lamp_15 : decode cX3_lamp 15 = .ok (.invokevirtual 36, 3) := dk_182 0 36 (dk_at dksX3_lamp_0 15 rfl rfl)
theorem dX3_lamp_18 : decode cX3_lamp 18 = .ok (.ireturn, 1) := dk_172 (dk_at dksX3_lamp_0 18 rfl rfl)
theorem dX3_lamp_19 : decode cX3_lamp 19 = .ok (.iload_n 2, 1) := dk_28 (dk_at dksX3_lamp_0 19 rfl rfl)
theorem dX3_lamp_20 : decode cX3_lamp 20 = .ok (.iconst 0, 1) := dk_3 (dk_at dksX3_lamp_0 20 rfl rfl)
theorem dX3_lamp_21 : decode cX3_lamp 21 = .ok (.sipush 9999, 3) := dk_17 39 15 (dk_at dksX3_lamp_0 21 rfl rfl)
theorem dX3_lamp_24 : decode cX3_lamp 24 = .ok (.invokestatic 32, 3) := dk_184 0 32 (dk_at dksX3_lamp_1 0 rfl rfl)
theorem dX3_lamp_27 : decode cX3_lamp 27 = .ok (.ifCond .ne 9, 3) := dk_154 0 9 (dk_at dksX3_lamp_1 3 rfl rfl)
theorem dX3_lamp_30 : decode cX3_lamp 30 = .ok (.aload_n 0, 1) := dk_42 (dk_at dksX3_lamp_1 6 rfl rfl)
theorem dX3_lamp_31 : decode cX3_lamp 31 = .ok (.iconst 2, 1) := dk_5 (dk_at dksX3_lamp_1 7 rfl rfl)
theorem dX3_lamp_32 : decode cX3_lamp 32 = .ok (.invokevirtual 36, 3) := dk_182 0 36 (dk_at dksX3_lamp_1 8 rfl rfl)
theorem dX3_lamp_35 : decode cX3_lamp 35 = .ok (.ireturn, 1) := dk_172 (dk_at dksX3_lamp_1 11 rfl rfl)
theorem dX3_lamp_36 : decode cX3_lamp 36 = .ok (.aload_n 0, 1) := dk_42 (dk_at dksX3_lamp_1 12 rfl rfl)
theorem dX3_lamp_37 : decode cX3_lamp 37 = .ok (.iload_n 1, 1) := dk_27 (dk_at dksX3_lamp_1 13 rfl rfl)
theorem dX3_lamp_38 : decode cX3_lamp 38 = .ok (.iconst 4, 1) := dk_7 (dk_at dksX3_lamp_1 14 rfl rfl)
theorem dX3_lamp_39 : decode cX3_lamp 39 = .ok (.invokevirtual 50, 3) := dk_182 0 50 (dk_at dksX3_lamp_1 15 rfl rfl)
theorem dX3_lamp_42 : decode cX3_lamp 42 = .ok (.istore_n 3, 1) := dk_62 (dk_at dksX3_lamp_1 18 rfl rfl)
theorem dX3_lamp_43 : decode cX3_lamp 43 = .ok (.aload_n 0, 1) := dk_42 (dk_at dksX3_lamp_1 19 rfl rfl)
theorem dX3_lamp_44 : decode cX3_lamp 44 = .ok (.iload_n 1, 1) := dk_27 (dk_at dksX3_lamp_1 20 rfl rfl)
theorem dX3_lamp_45 : decode cX3_lamp 45 = .ok (.iconst 4, 1) := dk_7 (dk_at dksX3_lamp_1 21 rfl rfl)
theorem dX3_lamp_46 : decode cX3_lamp 46 = .ok (.iload_n 2, 1) := dk_28 (dk_at dksX3_lamp_1 22 rfl rfl)
theorem dX3_lamp_47 : decode cX3_lamp 47 = .ok (.invokevirtual 54, 3) := dk_182 0 54 (dk_at dksX3_lamp_2 0 rfl rfl)
theorem dX3_lamp_50 : decode cX3_lamp 50 = .ok (.iload_n 2, 1) := dk_28 (dk_at dksX3_lamp_2 3 rfl rfl)
theorem dX3_lamp_51 : decode cX3_lamp 51 = .ok (.ifCond .ne 10, 3) := dk_154 0 10 (dk_at dksX3_lamp_2 4 rfl rfl)
theorem dX3_lamp_54 : decode cX3_lamp 54 = .ok (.aload_n 0, 1) := dk_42 (dk_at dksX3_lamp_2 7 rfl rfl)
theorem dX3_lamp_55 : decode cX3_lamp 55 = .ok (.iload_n 1, 1) := dk_27 (dk_at dksX3_lamp_2 8 rfl rfl)
theorem dX3_lamp_56 : decode cX3_lamp 56 = .ok (.iconst 1, 1) := dk_4 (dk_at dksX3_lamp_2 9 rfl rfl)
theorem dX3_lamp_57 : decode cX3_lamp 57 = .ok (.iconst 0, 1) := dk_3 (dk_at dksX3_lamp_2 10 rfl rfl)
theorem dX3_lamp_58 : decode cX3_lamp 58 = .ok (.invokevirtual 54, 3) := dk_182 0 54 (dk_at dksX3_lamp_2 11 rfl rfl)
theorem dX3_lamp_61 : decode cX3_lamp 61 = .ok (.iload_n 3, 1) := dk_29 (dk_at dksX3_lamp_2 14 rfl rfl)
theorem dX3_lamp_62 : decode cX3_lamp 62 = .ok (.ireturn, 1) := dk_172 (dk_at dksX3_lamp_2 15 rfl rfl)
abbrev cX3_isDimmer : ByteArray := prog_14_method_5_code
def yX3_isDimmer : MethodName := ⟨RX3, "isDimmer", "(I)Z"⟩
def dkwX3_isDimmer_0 : List UInt8 := [27, 3, 42, 180, 0, 29, 4, 100, 184, 0, 32, 172]
abbrev dktX3_isDimmer_0 : List UInt8 := dkwX3_isDimmer_0 ++ []
theorem dksX3_isDimmer_0 : cX3_isDimmer.data.toList.drop 0 = dktX3_isDimmer_0 := by decide +kernel
theorem dX3_isDimmer_0 : decode cX3_isDimmer 0 = .ok (.iload_n 1, 1) := dk_27 (dk_at dksX3_isDimmer_0 0 rfl rfl)
theorem dX3_isDimmer_1 : decode cX3_isDimmer 1 = .ok (.iconst 0, 1) := dk_3 (dk_at dksX3_isDimmer_0 1 rfl rfl)
theorem dX3_isDimmer_2 : decode cX3_isDimmer 2 = .ok (.aload_n 0, 1) := dk_42 (dk_at dksX3_isDimmer_0 2 rfl rfl)
theorem dX3_isDimmer_3 : decode cX3_isDimmer 3 = .ok (.getfield 29, 3) := dk_180 0 29 (dk_at dksX3_isDimmer_0 3 rfl rfl)
theorem dX3_isDimmer_6 : decode cX3_isDimmer 6 = .ok (.iconst 1, 1) := dk_4 (dk_at dksX3_isDimmer_0 6 rfl rfl)
theorem dX3_isDimmer_7 : decode cX3_isDimmer 7 = .ok (.isub, 1) := dk_100 (dk_at dksX3_isDimmer_0 7 rfl rfl)
theorem dX3_isDimmer_8 : decode cX3_isDimmer 8 = .ok (.invokestatic 32, 3) := dk_184 0 32 (dk_at dksX3_isDimmer_0 8 rfl rfl)
theorem dX3_isDimmer_11 : decode cX3_isDimmer 11 = .ok (.ireturn, 1) := dk_172 (dk_at dksX3_isDimmer_0 11 rfl rfl)
abbrev cX3_la : ByteArray := prog_14_method_6_code
def yX3_la : MethodName := ⟨RX3, "la", "(II)I"⟩
def dkwX3_la_0 : List UInt8 := [42, 180, 0, 9, 8, 27, 104, 28, 96, 46, 172]
abbrev dktX3_la_0 : List UInt8 := dkwX3_la_0 ++ []
theorem dksX3_la_0 : cX3_la.data.toList.drop 0 = dktX3_la_0 := by decide +kernel
theorem dX3_la_0 : decode cX3_la 0 = .ok (.aload_n 0, 1) := dk_42 (dk_at dksX3_la_0 0 rfl rfl)
theorem dX3_la_1 : decode cX3_la 1 = .ok (.getfield 9, 3) := dk_180 0 9 (dk_at dksX3_la_0 1 rfl rfl)
theorem dX3_la_4 : decode cX3_la 4 = .ok (.iconst 5, 1) := dk_8 (dk_at dksX3_la_0 4 rfl rfl)
theorem dX3_la_5 : decode cX3_la 5 = .ok (.iload_n 1, 1) := dk_27 (dk_at dksX3_la_0 5 rfl rfl)
theorem dX3_la_6 : decode cX3_la 6 = .ok (.imul, 1) := dk_104 (dk_at dksX3_la_0 6 rfl rfl)
theorem dX3_la_7 : decode cX3_la 7 = .ok (.iload_n 2, 1) := dk_28 (dk_at dksX3_la_0 7 rfl rfl)
theorem dX3_la_8 : decode cX3_la 8 = .ok (.iadd, 1) := dk_96 (dk_at dksX3_la_0 8 rfl rfl)
theorem dX3_la_9 : decode cX3_la 9 = .ok (.iaload, 1) := dk_46 (dk_at dksX3_la_0 9 rfl rfl)
theorem dX3_la_10 : decode cX3_la 10 = .ok (.ireturn, 1) := dk_172 (dk_at dksX3_la_0 10 rfl rfl)
abbrev cX3_put : ByteArray := prog_14_method_7_code
def yX3_put : MethodName := ⟨RX3, "put", "(III)V"⟩
def dkwX3_put_0 : List UInt8 := [42, 180, 0, 9, 8, 27, 104, 28, 96, 29, 79, 177]
abbrev dktX3_put_0 : List UInt8 := dkwX3_put_0 ++ []
theorem dksX3_put_0 : cX3_put.data.toList.drop 0 = dktX3_put_0 := by decide +kernel
theorem dX3_put_0 : decode cX3_put 0 = .ok (.aload_n 0, 1) := dk_42 (dk_at dksX3_put_0 0 rfl rfl)
theorem dX3_put_1 : decode cX3_put 1 = .ok (.getfield 9, 3) := dk_180 0 9 (dk_at dksX3_put_0 1 rfl rfl)
theorem dX3_put_4 : decode cX3_put 4 = .ok (.iconst 5, 1) := dk_8 (dk_at dksX3_put_0 4 rfl rfl)
theorem dX3_put_5 : decode cX3_put 5 = .ok (.iload_n 1, 1) := dk_27 (dk_at dksX3_put_0 5 rfl rfl)
theorem dX3_put_6 : decode cX3_put 6 = .ok (.imul, 1) := dk_104 (dk_at dksX3_put_0 6 rfl rfl)
theorem dX3_put_7 : decode cX3_put 7 = .ok (.iload_n 2, 1) := dk_28 (dk_at dksX3_put_0 7 rfl rfl)
theorem dX3_put_8 : decode cX3_put 8 = .ok (.iadd, 1) := dk_96 (dk_at dksX3_put_0 8 rfl rfl)
theorem dX3_put_9 : decode cX3_put 9 = .ok (.iload_n 3, 1) := dk_29 (dk_at dksX3_put_0 9 rfl rfl)
theorem dX3_put_10 : decode cX3_put 10 = .ok (.iastore, 1) := dk_79 (dk_at dksX3_put_0 10 rfl rfl)
theorem dX3_put_11 : decode cX3_put 11 = .ok (.return_, 1) := dk_177 (dk_at dksX3_put_0 11 rfl rfl)
abbrev cX3_star : ByteArray := prog_14_method_10_code
def yX3_star : MethodName := ⟨RX3, "star", "(II)I"⟩
def dkwX3_star_3 : List UInt8 := [28, 79, 42, 89, 180, 0, 58, 4, 96, 181, 0, 58, 42, 180, 0, 58, 4, 100, 172]
abbrev dktX3_star_3 : List UInt8 := dkwX3_star_3 ++ []
def dkwX3_star_2 : List UInt8 := [42, 180, 0, 13, 5, 42, 180, 0, 58, 104, 27, 79, 42, 180, 0, 13, 5, 42, 180, 0, 58, 104, 4, 96]
abbrev dktX3_star_2 : List UInt8 := dkwX3_star_2 ++ dktX3_star_3
def dkwX3_star_1 : List UInt8 := [154, 0, 9, 42, 4, 182, 0, 36, 172, 42, 180, 0, 58, 16, 20, 160, 0, 9, 42, 5, 182, 0, 36, 172]
abbrev dktX3_star_1 : List UInt8 := dkwX3_star_1 ++ dktX3_star_2
def dkwX3_star_0 : List UInt8 := [42, 3, 181, 0, 25, 27, 3, 17, 1, 103, 184, 0, 32, 153, 0, 13, 28, 4, 16, 9, 184, 0, 32]
abbrev dktX3_star_0 : List UInt8 := dkwX3_star_0 ++ dktX3_star_1
theorem dksX3_star_0 : cX3_star.data.toList.drop 0 = dktX3_star_0 := by decide +kernel
theorem dksX3_star_1 : cX3_star.data.toList.drop 23 = dktX3_star_1 := dk_seg dksX3_star_0 23 rfl rfl
theorem dksX3_star_2 : cX3_star.data.toList.drop 47 = dktX3_star_2 := dk_seg dksX3_star_1 24 rfl rfl
theorem dksX3_star_3 : cX3_star.data.toList.drop 71 = dktX3_star_3 := dk_seg dksX3_star_2 24 rfl rfl
theorem dX3_star_0 : decode cX3_star 0 = .ok (.aload_n 0, 1) := dk_42 (dk_at dksX3_star_0 0 rfl rfl)
theorem dX3_star_1 : decode cX3_star 1 = .ok (.iconst 0, 1) := dk_3 (dk_at dksX3_star_0 1 rfl rfl)
theorem dX3_star_2 : decode cX3_star 2 = .ok (.putfield 25, 3) := dk_181 0 25 (dk_at dksX3_star_0 2 rfl rfl)
theorem dX3_star_5 : decode cX3_star 5 = .ok (.iload_n 1, 1) := dk_27 (dk_at dksX3_star_0 5 rfl rfl)
theorem dX3_star_6 : decode cX3_star 6 = .ok (.iconst 0, 1) := dk_3 (dk_at dksX3_star_0 6 rfl rfl)
theorem dX3_star_7 : decode cX3_star 7 = .ok (.sipush 359, 3) := dk_17 1 103 (dk_at dksX3_star_0 7 rfl rfl)
theorem dX3_star_10 : decode cX3_star 10 = .ok (.invokestatic 32, 3) := dk_184 0 32 (dk_at dksX3_star_0 10 rfl rfl)
theorem dX3_star_13 : decode cX3_star 13 = .ok (.ifCond .eq 13, 3) := dk_153 0 13 (dk_at dksX3_star_0 13 rfl rfl)
theorem dX3_star_16 : decode cX3_star 16 = .ok (.iload_n 2, 1) := dk_28 (dk_at dksX3_star_0 16 rfl rfl)
theorem dX3_star_17 : decode cX3_star 17 = .ok (.iconst 1, 1) := dk_4 (dk_at dksX3_star_0 17 rfl rfl)
theorem dX3_star_18 : decode cX3_star 18 = .ok (.bipush 9, 2) := dk_16 9 (dk_at dksX3_star_0 18 rfl rfl)
theorem dX3_star_20 : decode cX3_star 20 = .ok (.invokestatic 32, 3) := dk_184 0 32 (dk_at dksX3_star_0 20 rfl rfl)
theorem dX3_star_23 : decode cX3_star 23 = .ok (.ifCond .ne 9, 3) := dk_154 0 9 (dk_at dksX3_star_1 0 rfl rfl)
theorem dX3_star_26 : decode cX3_star 26 = .ok (.aload_n 0, 1) := dk_42 (dk_at dksX3_star_1 3 rfl rfl)
theorem dX3_star_27 : decode cX3_star 27 = .ok (.iconst 1, 1) := dk_4 (dk_at dksX3_star_1 4 rfl rfl)
theorem dX3_star_28 : decode cX3_star 28 = .ok (.invokevirtual 36, 3) := dk_182 0 36 (dk_at dksX3_star_1 5 rfl rfl)
theorem dX3_star_31 : decode cX3_star 31 = .ok (.ireturn, 1) := dk_172 (dk_at dksX3_star_1 8 rfl rfl)
theorem dX3_star_32 : decode cX3_star 32 = .ok (.aload_n 0, 1) := dk_42 (dk_at dksX3_star_1 9 rfl rfl)
theorem dX3_star_33 : decode cX3_star 33 = .ok (.getfield 58, 3) := dk_180 0 58 (dk_at dksX3_star_1 10 rfl rfl)
theorem dX3_star_36 : decode cX3_star 36 = .ok (.bipush 20, 2) := dk_16 20 (dk_at dksX3_star_1 13 rfl rfl)
theorem dX3_star_38 : decode cX3_star 38 = .ok (.if_icmp .ne 9, 3) := dk_160 0 9 (dk_at dksX3_star_1 15 rfl rfl)
theorem dX3_star_41 : decode cX3_star 41 = .ok (.aload_n 0, 1) := dk_42 (dk_at dksX3_star_1 18 rfl rfl)
theorem dX3_star_42 : decode cX3_star 42 = .ok (.iconst 2, 1) := dk_5 (dk_at dksX3_star_1 19 rfl rfl)
theorem dX3_star_43 : decode cX3_star 43 = .ok (.invokevirtual 36, 3) := dk_182 0 36 (dk_at dksX3_star_1 20 rfl rfl)
theorem dX3_star_46 : decode cX3_star 46 = .ok (.ireturn, 1) := dk_172 (dk_at dksX3_star_1 23 rfl rfl)
theorem dX3_star_47 : decode cX3_star 47 = .ok (.aload_n 0, 1) := dk_42 (dk_at dksX3_star_2 0 rfl rfl)
theorem dX3_star_48 : decode cX3_star 48 = .ok (.getfield 13, 3) := dk_180 0 13 (dk_at dksX3_star_2 1 rfl rfl)
theorem dX3_star_51 : decode cX3_star 51 = .ok (.iconst 2, 1) := dk_5 (dk_at dksX3_star_2 4 rfl rfl)
theorem dX3_star_52 : decode cX3_star 52 = .ok (.aload_n 0, 1) := dk_42 (dk_at dksX3_star_2 5 rfl rfl)
theorem dX3_star_53 : decode cX3_star 53 = .ok (.getfield 58, 3) := dk_180 0 58 (dk_at dksX3_star_2 6 rfl rfl)
theorem dX3_star_56 : decode cX3_star 56 = .ok (.imul, 1) := dk_104 (dk_at dksX3_star_2 9 rfl rfl)
theorem dX3_star_57 : decode cX3_star 57 = .ok (.iload_n 1, 1) := dk_27 (dk_at dksX3_star_2 10 rfl rfl)
theorem dX3_star_58 : decode cX3_star 58 = .ok (.iastore, 1) := dk_79 (dk_at dksX3_star_2 11 rfl rfl)
theorem dX3_star_59 : decode cX3_star 59 = .ok (.aload_n 0, 1) := dk_42 (dk_at dksX3_star_2 12 rfl rfl)
theorem dX3_star_60 : decode cX3_star 60 = .ok (.getfield 13, 3) := dk_180 0 13 (dk_at dksX3_star_2 13 rfl rfl)
theorem dX3_star_63 : decode cX3_star 63 = .ok (.iconst 2, 1) := dk_5 (dk_at dksX3_star_2 16 rfl rfl)
theorem dX3_star_64 : decode cX3_star 64 = .ok (.aload_n 0, 1) := dk_42 (dk_at dksX3_star_2 17 rfl rfl)
theorem dX3_star_65 : decode cX3_star 65 = .ok (.getfield 58, 3) := dk_180 0 58 (dk_at dksX3_star_2 18 rfl rfl)
theorem dX3_star_68 : decode cX3_star 68 = .ok (.imul, 1) := dk_104 (dk_at dksX3_star_2 21 rfl rfl)
theorem dX3_star_69 : decode cX3_star 69 = .ok (.iconst 1, 1) := dk_4 (dk_at dksX3_star_2 22 rfl rfl)
theorem dX3_star_70 : decode cX3_star 70 = .ok (.iadd, 1) := dk_96 (dk_at dksX3_star_2 23 rfl rfl)
theorem dX3_star_71 : decode cX3_star 71 = .ok (.iload_n 2, 1) := dk_28 (dk_at dksX3_star_3 0 rfl rfl)
theorem dX3_star_72 : decode cX3_star 72 = .ok (.iastore, 1) := dk_79 (dk_at dksX3_star_3 1 rfl rfl)
theorem dX3_star_73 : decode cX3_star 73 = .ok (.aload_n 0, 1) := dk_42 (dk_at dksX3_star_3 2 rfl rfl)
theorem dX3_star_74 : decode cX3_star 74 = .ok (.dup, 1) := dk_89 (dk_at dksX3_star_3 3 rfl rfl)
theorem dX3_star_75 : decode cX3_star 75 = .ok (.getfield 58, 3) := dk_180 0 58 (dk_at dksX3_star_3 4 rfl rfl)
theorem dX3_star_78 : decode cX3_star 78 = .ok (.iconst 1, 1) := dk_4 (dk_at dksX3_star_3 7 rfl rfl)
theorem dX3_star_79 : decode cX3_star 79 = .ok (.iadd, 1) := dk_96 (dk_at dksX3_star_3 8 rfl rfl)
theorem dX3_star_80 : decode cX3_star 80 = .ok (.putfield 58, 3) := dk_181 0 58 (dk_at dksX3_star_3 9 rfl rfl)
theorem dX3_star_83 : decode cX3_star 83 = .ok (.aload_n 0, 1) := dk_42 (dk_at dksX3_star_3 12 rfl rfl)
theorem dX3_star_84 : decode cX3_star 84 = .ok (.getfield 58, 3) := dk_180 0 58 (dk_at dksX3_star_3 13 rfl rfl)
theorem dX3_star_87 : decode cX3_star 87 = .ok (.iconst 1, 1) := dk_4 (dk_at dksX3_star_3 16 rfl rfl)
theorem dX3_star_88 : decode cX3_star 88 = .ok (.isub, 1) := dk_100 (dk_at dksX3_star_3 17 rfl rfl)
theorem dX3_star_89 : decode cX3_star 89 = .ok (.ireturn, 1) := dk_172 (dk_at dksX3_star_3 18 rfl rfl)
abbrev cX3_cue : ByteArray := prog_14_method_12_code
def yX3_cue : MethodName := ⟨RX3, "cue", "(IIII)I"⟩
def dkwX3_cue_4 : List UInt8 := [181, 0, 64, 42, 180, 0, 64, 4, 100, 172]
abbrev dktX3_cue_4 : List UInt8 := dkwX3_cue_4 ++ []
def dkwX3_cue_3 : List UInt8 := [3, 42, 180, 0, 19, 7, 42, 180, 0, 64, 104, 7, 184, 0, 40, 42, 89, 180, 0, 64, 4, 96]
abbrev dktX3_cue_3 : List UInt8 := dkwX3_cue_3 ++ dktX3_cue_4
def dkwX3_cue_2 : List UInt8 := [7, 188, 10, 89, 3, 27, 79, 89, 4, 28, 79, 89, 5, 29, 79, 89, 6, 21, 4, 79, 58, 5, 25, 5]
abbrev dktX3_cue_2 : List UInt8 := dkwX3_cue_2 ++ dktX3_cue_3
def dkwX3_cue_1 : List UInt8 := [154, 0, 9, 42, 4, 182, 0, 36, 172, 42, 180, 0, 64, 16, 24, 160, 0, 9, 42, 5, 182, 0, 36, 172]
abbrev dktX3_cue_1 : List UInt8 := dkwX3_cue_1 ++ dktX3_cue_2
def dkwX3_cue_0 : List UInt8 := [42, 3, 181, 0, 25, 27, 3, 17, 3, 231, 184, 0, 32, 153, 0, 14, 42, 28, 29, 21, 4, 182, 0, 61]
abbrev dktX3_cue_0 : List UInt8 := dkwX3_cue_0 ++ dktX3_cue_1
theorem dksX3_cue_0 : cX3_cue.data.toList.drop 0 = dktX3_cue_0 := by decide +kernel
theorem dksX3_cue_1 : cX3_cue.data.toList.drop 24 = dktX3_cue_1 := dk_seg dksX3_cue_0 24 rfl rfl
theorem dksX3_cue_2 : cX3_cue.data.toList.drop 48 = dktX3_cue_2 := dk_seg dksX3_cue_1 24 rfl rfl
theorem dksX3_cue_3 : cX3_cue.data.toList.drop 72 = dktX3_cue_3 := dk_seg dksX3_cue_2 24 rfl rfl
theorem dksX3_cue_4 : cX3_cue.data.toList.drop 94 = dktX3_cue_4 := dk_seg dksX3_cue_3 22 rfl rfl
theorem dX3_cue_0 : decode cX3_cue 0 = .ok (.aload_n 0, 1) := dk_42 (dk_at dksX3_cue_0 0 rfl rfl)
theorem dX3_cue_1 : decode cX3_cue 1 = .ok (.iconst 0, 1) := dk_3 (dk_at dksX3_cue_0 1 rfl rfl)
theorem dX3_cue_2 : decode cX3_cue 2 = .ok (.putfield 25, 3) := dk_181 0 25 (dk_at dksX3_cue_0 2 rfl rfl)
theorem dX3_cue_5 : decode cX3_cue 5 = .ok (.iload_n 1, 1) := dk_27 (dk_at dksX3_cue_0 5 rfl rfl)
theorem dX3_cue_6 : decode cX3_cue 6 = .ok (.iconst 0, 1) := dk_3 (dk_at dksX3_cue_0 6 rfl rfl)
theorem dX3_cue_7 : decode cX3_cue 7 = .ok (.sipush 999, 3) := dk_17 3 231 (dk_at dksX3_cue_0 7 rfl rfl)
theorem dX3_cue_10 : decode cX3_cue 10 = .ok (.invokestatic 32, 3) := dk_184 0 32 (dk_at dksX3_cue_0 10 rfl rfl)
theorem dX3_cue_13 : decode cX3_cue 13 = .ok (.ifCond .eq 14, 3) := dk_153 0 14 (dk_at dksX3_cue_0 13 rfl rfl)
theorem dX3_cue_16 : decode cX3_cue 16 = .ok (.aload_n 0, 1) := dk_42 (dk_at dksX3_cue_0 16 rfl rfl)
theorem dX3_cue_17 : decode cX3_cue 17 = .ok (.iload_n 2, 1) := dk_28 (dk_at dksX3_cue_0 17 rfl rfl)
theorem dX3_cue_18 : decode cX3_cue 18 = .ok (.iload_n 3, 1) := dk_29 (dk_at dksX3_cue_0 18 rfl rfl)
theorem dX3_cue_19 : decode cX3_cue 19 = .ok (.iload 4, 2) := dk_21 4 (dk_at dksX3_cue_0 19 rfl rfl)
theorem dX3_cue_21 : decode cX3_cue 21 = .ok (.invokevirtual 61, 3) := dk_182 0 61 (dk_at dksX3_cue_0 21 rfl rfl)
theorem dX3_cue_24 : decode cX3_cue 24 = .ok (.ifCond .ne 9, 3) := dk_154 0 9 (dk_at dksX3_cue_1 0 rfl rfl)
theorem dX3_cue_27 : decode cX3_cue 27 = .ok (.aload_n 0, 1) := dk_42 (dk_at dksX3_cue_1 3 rfl rfl)
theorem dX3_cue_28 : decode cX3_cue 28 = .ok (.iconst 1, 1) := dk_4 (dk_at dksX3_cue_1 4 rfl rfl)
theorem dX3_cue_29 : decode cX3_cue 29 = .ok (.invokevirtual 36, 3) := dk_182 0 36 (dk_at dksX3_cue_1 5 rfl rfl)
theorem dX3_cue_32 : decode cX3_cue 32 = .ok (.ireturn, 1) := dk_172 (dk_at dksX3_cue_1 8 rfl rfl)
theorem dX3_cue_33 : decode cX3_cue 33 = .ok (.aload_n 0, 1) := dk_42 (dk_at dksX3_cue_1 9 rfl rfl)
theorem dX3_cue_34 : decode cX3_cue 34 = .ok (.getfield 64, 3) := dk_180 0 64 (dk_at dksX3_cue_1 10 rfl rfl)
theorem dX3_cue_37 : decode cX3_cue 37 = .ok (.bipush 24, 2) := dk_16 24 (dk_at dksX3_cue_1 13 rfl rfl)
theorem dX3_cue_39 : decode cX3_cue 39 = .ok (.if_icmp .ne 9, 3) := dk_160 0 9 (dk_at dksX3_cue_1 15 rfl rfl)
theorem dX3_cue_42 : decode cX3_cue 42 = .ok (.aload_n 0, 1) := dk_42 (dk_at dksX3_cue_1 18 rfl rfl)
theorem dX3_cue_43 : decode cX3_cue 43 = .ok (.iconst 2, 1) := dk_5 (dk_at dksX3_cue_1 19 rfl rfl)
theorem dX3_cue_44 : decode cX3_cue 44 = .ok (.invokevirtual 36, 3) := dk_182 0 36 (dk_at dksX3_cue_1 20 rfl rfl)
theorem dX3_cue_47 : decode cX3_cue 47 = .ok (.ireturn, 1) := dk_172 (dk_at dksX3_cue_1 23 rfl rfl)
theorem dX3_cue_48 : decode cX3_cue 48 = .ok (.iconst 4, 1) := dk_7 (dk_at dksX3_cue_2 0 rfl rfl)
theorem dX3_cue_49 : decode cX3_cue 49 = .ok (.newarray .int, 2) := dk_188_10 (dk_at dksX3_cue_2 1 rfl rfl)
theorem dX3_cue_51 : decode cX3_cue 51 = .ok (.dup, 1) := dk_89 (dk_at dksX3_cue_2 3 rfl rfl)
theorem dX3_cue_52 : decode cX3_cue 52 = .ok (.iconst 0, 1) := dk_3 (dk_at dksX3_cue_2 4 rfl rfl)
theorem dX3_cue_53 : decode cX3_cue 53 = .ok (.iload_n 1, 1) := dk_27 (dk_at dksX3_cue_2 5 rfl rfl)
theorem dX3_cue_54 : decode cX3_cue 54 = .ok (.iastore, 1) := dk_79 (dk_at dksX3_cue_2 6 rfl rfl)
theorem dX3_cue_55 : decode cX3_cue 55 = .ok (.dup, 1) := dk_89 (dk_at dksX3_cue_2 7 rfl rfl)
theorem dX3_cue_56 : decode cX3_cue 56 = .ok (.iconst 1, 1) := dk_4 (dk_at dksX3_cue_2 8 rfl rfl)
theorem dX3_cue_57 : decode cX3_cue 57 = .ok (.iload_n 2, 1) := dk_28 (dk_at dksX3_cue_2 9 rfl rfl)
theorem dX3_cue_58 : decode cX3_cue 58 = .ok (.iastore, 1) := dk_79 (dk_at dksX3_cue_2 10 rfl rfl)
theorem dX3_cue_59 : decode cX3_cue 59 = .ok (.dup, 1) := dk_89 (dk_at dksX3_cue_2 11 rfl rfl)
theorem dX3_cue_60 : decode cX3_cue 60 = .ok (.iconst 2, 1) := dk_5 (dk_at dksX3_cue_2 12 rfl rfl)
theorem dX3_cue_61 : decode cX3_cue 61 = .ok (.iload_n 3, 1) := dk_29 (dk_at dksX3_cue_2 13 rfl rfl)
theorem dX3_cue_62 : decode cX3_cue 62 = .ok (.iastore, 1) := dk_79 (dk_at dksX3_cue_2 14 rfl rfl)
theorem dX3_cue_63 : decode cX3_cue 63 = .ok (.dup, 1) := dk_89 (dk_at dksX3_cue_2 15 rfl rfl)
theorem dX3_cue_64 : decode cX3_cue 64 = .ok (.iconst 3, 1) := dk_6 (dk_at dksX3_cue_2 16 rfl rfl)
theorem dX3_cue_65 : decode cX3_cue 65 = .ok (.iload 4, 2) := dk_21 4 (dk_at dksX3_cue_2 17 rfl rfl)
theorem dX3_cue_67 : decode cX3_cue 67 = .ok (.iastore, 1) := dk_79 (dk_at dksX3_cue_2 19 rfl rfl)
theorem dX3_cue_68 : decode cX3_cue 68 = .ok (.astore 5, 2) := dk_58 5 (dk_at dksX3_cue_2 20 rfl rfl)
theorem dX3_cue_70 : decode cX3_cue 70 = .ok (.aload 5, 2) := dk_25 5 (dk_at dksX3_cue_2 22 rfl rfl)
theorem dX3_cue_72 : decode cX3_cue 72 = .ok (.iconst 0, 1) := dk_3 (dk_at dksX3_cue_3 0 rfl rfl)
theorem dX3_cue_73 : decode cX3_cue 73 = .ok (.aload_n 0, 1) := dk_42 (dk_at dksX3_cue_3 1 rfl rfl)
theorem dX3_cue_74 : decode cX3_cue 74 = .ok (.getfield 19, 3) := dk_180 0 19 (dk_at dksX3_cue_3 2 rfl rfl)
theorem dX3_cue_77 : decode cX3_cue 77 = .ok (.iconst 4, 1) := dk_7 (dk_at dksX3_cue_3 5 rfl rfl)
theorem dX3_cue_78 : decode cX3_cue 78 = .ok (.aload_n 0, 1) := dk_42 (dk_at dksX3_cue_3 6 rfl rfl)
theorem dX3_cue_79 : decode cX3_cue 79 = .ok (.getfield 64, 3) := dk_180 0 64 (dk_at dksX3_cue_3 7 rfl rfl)
theorem dX3_cue_82 : decode cX3_cue 82 = .ok (.imul, 1) := dk_104 (dk_at dksX3_cue_3 10 rfl rfl)
theorem dX3_cue_83 : decode cX3_cue 83 = .ok (.iconst 4, 1) := dk_7 (dk_at dksX3_cue_3 11 rfl rfl)
theorem dX3_cue_84 : decode cX3_cue 84 = .ok (.invokestatic 40, 3) := dk_184 0 40 (dk_at dksX3_cue_3 12 rfl rfl)
theorem dX3_cue_87 : decode cX3_cue 87 = .ok (.aload_n 0, 1) := dk_42 (dk_at dksX3_cue_3 15 rfl rfl)
theorem dX3_cue_88 : decode cX3_cue 88 = .ok (.dup, 1) := dk_89 (dk_at dksX3_cue_3 16 rfl rfl)
theorem dX3_cue_89 : decode cX3_cue 89 = .ok (.getfield 64, 3) := dk_180 0 64 (dk_at dksX3_cue_3 17 rfl rfl)
theorem dX3_cue_92 : decode cX3_cue 92 = .ok (.iconst 1, 1) := dk_4 (dk_at dksX3_cue_3 20 rfl rfl)
theorem dX3_cue_93 : decode cX3_cue 93 = .ok (.iadd, 1) := dk_96 (dk_at dksX3_cue_3 21 rfl rfl)
theorem dX3_cue_94 : decode cX3_cue 94 = .ok (.putfield 64, 3) := dk_181 0 64 (dk_at dksX3_cue_4 0 rfl rfl)
theorem dX3_cue_97 : decode cX3_cue 97 = .ok (.aload_n 0, 1) := dk_42 (dk_at dksX3_cue_4 3 rfl rfl)
theorem dX3_cue_98 : decode cX3_cue 98 = .ok (.getfield 64, 3) := dk_180 0 64 (dk_at dksX3_cue_4 4 rfl rfl)
theorem dX3_cue_101 : decode cX3_cue 101 = .ok (.iconst 1, 1) := dk_4 (dk_at dksX3_cue_4 7 rfl rfl)
theorem dX3_cue_102 : decode cX3_cue 102 = .ok (.isub, 1) := dk_100 (dk_at dksX3_cue_4 8 rfl rfl)
theorem dX3_cue_103 : decode cX3_cue 103 = .ok (.ireturn, 1) := dk_172 (dk_at dksX3_cue_4 9 rfl rfl)
abbrev cX3_isCue : ByteArray := prog_14_method_11_code
def yX3_isCue : MethodName := ⟨RX3, "isCue", "(III)Z"⟩
def dkwX3_isCue_6 : List UInt8 := [167, 0, 4, 3, 172, 28, 154, 0, 11, 29, 154, 0, 7, 4, 167, 0, 4, 3, 172, 3, 172]
abbrev dktX3_isCue_6 : List UInt8 := dkwX3_isCue_6 ++ []
def dkwX3_isCue_5 : List UInt8 := [3, 172, 28, 3, 16, 99, 184, 0, 32, 153, 0, 17, 29, 4, 16, 60, 184, 0, 32, 153, 0, 7, 4]
abbrev dktX3_isCue_5 : List UInt8 := dkwX3_isCue_5 ++ dktX3_isCue_6
def dkwX3_isCue_4 : List UInt8 := [17, 1, 103, 184, 0, 32, 153, 0, 18, 29, 16, 236, 16, 20, 184, 0, 32, 153, 0, 7, 4, 167, 0, 4]
abbrev dktX3_isCue_4 : List UInt8 := dkwX3_isCue_4 ++ dktX3_isCue_5
def dkwX3_isCue_3 : List UInt8 := [28, 154, 0, 18, 29, 16, 226, 16, 30, 184, 0, 32, 153, 0, 7, 4, 167, 0, 4, 3, 172, 28, 3]
abbrev dktX3_isCue_3 : List UInt8 := dkwX3_isCue_3 ++ dktX3_isCue_4
def dkwX3_isCue_2 : List UInt8 := [42, 28, 182, 0, 46, 153, 0, 17, 29, 3, 16, 100, 184, 0, 32, 153, 0, 7, 4, 167, 0, 4, 3, 172]
abbrev dktX3_isCue_2 : List UInt8 := dkwX3_isCue_2 ++ dktX3_isCue_3
def dkwX3_isCue_1 : List UInt8 := [170, 0, 0, 0, 0, 0, 148, 0, 0, 0, 0, 0, 0, 0, 4, 0, 0, 0, 35, 0, 0, 0, 59, 0, 0, 0, 80, 0, 0, 0, 108, 0, 0, 0, 134]
abbrev dktX3_isCue_1 : List UInt8 := dkwX3_isCue_1 ++ dktX3_isCue_2
def dkwX3_isCue_0 : List UInt8 := [27]
abbrev dktX3_isCue_0 : List UInt8 := dkwX3_isCue_0 ++ dktX3_isCue_1
theorem dksX3_isCue_0 : cX3_isCue.data.toList.drop 0 = dktX3_isCue_0 := by decide +kernel
theorem dksX3_isCue_1 : cX3_isCue.data.toList.drop 1 = dktX3_isCue_1 := dk_seg dksX3_isCue_0 1 rfl rfl
theorem dksX3_isCue_2 : cX3_isCue.data.toList.drop 36 = dktX3_isCue_2 := dk_seg dksX3_isCue_1 35 rfl rfl
theorem dksX3_isCue_3 : cX3_isCue.data.toList.drop 60 = dktX3_isCue_3 := dk_seg dksX3_isCue_2 24 rfl rfl
theorem dksX3_isCue_4 : cX3_isCue.data.toList.drop 83 = dktX3_isCue_4 := dk_seg dksX3_isCue_3 23 rfl rfl
theorem dksX3_isCue_5 : cX3_isCue.data.toList.drop 107 = dktX3_isCue_5 := dk_seg dksX3_isCue_4 24 rfl rfl
theorem dksX3_isCue_6 : cX3_isCue.data.toList.drop 130 = dktX3_isCue_6 := dk_seg dksX3_isCue_5 23 rfl rfl
theorem dX3_isCue_0 : decode cX3_isCue 0 = .ok (.iload_n 1, 1) := dk_27 (dk_at dksX3_isCue_0 0 rfl rfl)
theorem dX3_isCue_1 : decode cX3_isCue 1 = .ok (.tableswitch 148 0 4 #[35, 59, 80, 108, 134], 35) := by decide +kernel
theorem dX3_isCue_36 : decode cX3_isCue 36 = .ok (.aload_n 0, 1) := dk_42 (dk_at dksX3_isCue_2 0 rfl rfl)
theorem dX3_isCue_37 : decode cX3_isCue 37 = .ok (.iload_n 2, 1) := dk_28 (dk_at dksX3_isCue_2 1 rfl rfl)
theorem dX3_isCue_38 : decode cX3_isCue 38 = .ok (.invokevirtual 46, 3) := dk_182 0 46 (dk_at dksX3_isCue_2 2 rfl rfl)
theorem dX3_isCue_41 : decode cX3_isCue 41 = .ok (.ifCond .eq 17, 3) := dk_153 0 17 (dk_at dksX3_isCue_2 5 rfl rfl)
theorem dX3_isCue_44 : decode cX3_isCue 44 = .ok (.iload_n 3, 1) := dk_29 (dk_at dksX3_isCue_2 8 rfl rfl)
theorem dX3_isCue_45 : decode cX3_isCue 45 = .ok (.iconst 0, 1) := dk_3 (dk_at dksX3_isCue_2 9 rfl rfl)
theorem dX3_isCue_46 : decode cX3_isCue 46 = .ok (.bipush 100, 2) := dk_16 100 (dk_at dksX3_isCue_2 10 rfl rfl)
theorem dX3_isCue_48 : decode cX3_isCue 48 = .ok (.invokestatic 32, 3) := dk_184 0 32 (dk_at dksX3_isCue_2 12 rfl rfl)
theorem dX3_isCue_51 : decode cX3_isCue 51 = .ok (.ifCond .eq 7, 3) := dk_153 0 7 (dk_at dksX3_isCue_2 15 rfl rfl)
theorem dX3_isCue_54 : decode cX3_isCue 54 = .ok (.iconst 1, 1) := dk_4 (dk_at dksX3_isCue_2 18 rfl rfl)
theorem dX3_isCue_55 : decode cX3_isCue 55 = .ok (.goto 4, 3) := dk_167 0 4 (dk_at dksX3_isCue_2 19 rfl rfl)
theorem dX3_isCue_58 : decode cX3_isCue 58 = .ok (.iconst 0, 1) := dk_3 (dk_at dksX3_isCue_2 22 rfl rfl)
theorem dX3_isCue_59 : decode cX3_isCue 59 = .ok (.ireturn, 1) := dk_172 (dk_at dksX3_isCue_2 23 rfl rfl)
theorem dX3_isCue_60 : decode cX3_isCue 60 = .ok (.iload_n 2, 1) := dk_28 (dk_at dksX3_isCue_3 0 rfl rfl)
theorem dX3_isCue_61 : decode cX3_isCue 61 = .ok (.ifCond .ne 18, 3) := dk_154 0 18 (dk_at dksX3_isCue_3 1 rfl rfl)
theorem dX3_isCue_64 : decode cX3_isCue 64 = .ok (.iload_n 3, 1) := dk_29 (dk_at dksX3_isCue_3 4 rfl rfl)
theorem dX3_isCue_65 : decode cX3_isCue 65 = .ok (.bipush (-30), 2) := dk_16 226 (dk_at dksX3_isCue_3 5 rfl rfl)
theorem dX3_isCue_67 : decode cX3_isCue 67 = .ok (.bipush 30, 2) := dk_16 30 (dk_at dksX3_isCue_3 7 rfl rfl)
theorem dX3_isCue_69 : decode cX3_isCue 69 = .ok (.invokestatic 32, 3) := dk_184 0 32 (dk_at dksX3_isCue_3 9 rfl rfl)
theorem dX3_isCue_72 : decode cX3_isCue 72 = .ok (.ifCond .eq 7, 3) := dk_153 0 7 (dk_at dksX3_isCue_3 12 rfl rfl)
theorem dX3_isCue_75 : decode cX3_isCue 75 = .ok (.iconst 1, 1) := dk_4 (dk_at dksX3_isCue_3 15 rfl rfl)
theorem dX3_isCue_76 : decode cX3_isCue 76 = .ok (.goto 4, 3) := dk_167 0 4 (dk_at dksX3_isCue_3 16 rfl rfl)
theorem dX3_isCue_79 : decode cX3_isCue 79 = .ok (.iconst 0, 1) := dk_3 (dk_at dksX3_isCue_3 19 rfl rfl)
theorem dX3_isCue_80 : decode cX3_isCue 80 = .ok (.ireturn, 1) := dk_172 (dk_at dksX3_isCue_3 20 rfl rfl)
theorem dX3_isCue_81 : decode cX3_isCue 81 = .ok (.iload_n 2, 1) := dk_28 (dk_at dksX3_isCue_3 21 rfl rfl)
theorem dX3_isCue_82 : decode cX3_isCue 82 = .ok (.iconst 0, 1) := dk_3 (dk_at dksX3_isCue_3 22 rfl rfl)
theorem dX3_isCue_83 : decode cX3_isCue 83 = .ok (.sipush 359, 3) := dk_17 1 103 (dk_at dksX3_isCue_4 0 rfl rfl)
theorem dX3_isCue_86 : decode cX3_isCue 86 = .ok (.invokestatic 32, 3) := dk_184 0 32 (dk_at dksX3_isCue_4 3 rfl rfl)
theorem dX3_isCue_89 : decode cX3_isCue 89 = .ok (.ifCond .eq 18, 3) := dk_153 0 18 (dk_at dksX3_isCue_4 6 rfl rfl)
theorem dX3_isCue_92 : decode cX3_isCue 92 = .ok (.iload_n 3, 1) := dk_29 (dk_at dksX3_isCue_4 9 rfl rfl)
theorem dX3_isCue_93 : decode cX3_isCue 93 = .ok (.bipush (-20), 2) := dk_16 236 (dk_at dksX3_isCue_4 10 rfl rfl)
theorem dX3_isCue_95 : decode cX3_isCue 95 = .ok (.bipush 20, 2) := dk_16 20 (dk_at dksX3_isCue_4 12 rfl rfl)
theorem dX3_isCue_97 : decode cX3_isCue 97 = .ok (.invokestatic 32, 3) := dk_184 0 32 (dk_at dksX3_isCue_4 14 rfl rfl)
theorem dX3_isCue_100 : decode cX3_isCue 100 = .ok (.ifCond .eq 7, 3) := dk_153 0 7 (dk_at dksX3_isCue_4 17 rfl rfl)
theorem dX3_isCue_103 : decode cX3_isCue 103 = .ok (.iconst 1, 1) := dk_4 (dk_at dksX3_isCue_4 20 rfl rfl)
theorem dX3_isCue_104 : decode cX3_isCue 104 = .ok (.goto 4, 3) := dk_167 0 4 (dk_at dksX3_isCue_4 21 rfl rfl)
theorem dX3_isCue_107 : decode cX3_isCue 107 = .ok (.iconst 0, 1) := dk_3 (dk_at dksX3_isCue_5 0 rfl rfl)
theorem dX3_isCue_108 : decode cX3_isCue 108 = .ok (.ireturn, 1) := dk_172 (dk_at dksX3_isCue_5 1 rfl rfl)
theorem dX3_isCue_109 : decode cX3_isCue 109 = .ok (.iload_n 2, 1) := dk_28 (dk_at dksX3_isCue_5 2 rfl rfl)
theorem dX3_isCue_110 : decode cX3_isCue 110 = .ok (.iconst 0, 1) := dk_3 (dk_at dksX3_isCue_5 3 rfl rfl)
theorem dX3_isCue_111 : decode cX3_isCue 111 = .ok (.bipush 99, 2) := dk_16 99 (dk_at dksX3_isCue_5 4 rfl rfl)
theorem dX3_isCue_113 : decode cX3_isCue 113 = .ok (.invokestatic 32, 3) := dk_184 0 32 (dk_at dksX3_isCue_5 6 rfl rfl)
theorem dX3_isCue_116 : decode cX3_isCue 116 = .ok (.ifCond .eq 17, 3) := dk_153 0 17 (dk_at dksX3_isCue_5 9 rfl rfl)
theorem dX3_isCue_119 : decode cX3_isCue 119 = .ok (.iload_n 3, 1) := dk_29 (dk_at dksX3_isCue_5 12 rfl rfl)
theorem dX3_isCue_120 : decode cX3_isCue 120 = .ok (.iconst 1, 1) := dk_4 (dk_at dksX3_isCue_5 13 rfl rfl)
theorem dX3_isCue_121 : decode cX3_isCue 121 = .ok (.bipush 60, 2) := dk_16 60 (dk_at dksX3_isCue_5 14 rfl rfl)
theorem dX3_isCue_123 : decode cX3_isCue 123 = .ok (.invokestatic 32, 3) := dk_184 0 32 (dk_at dksX3_isCue_5 16 rfl rfl)
theorem dX3_isCue_126 : decode cX3_isCue 126 = .ok (.ifCond .eq 7, 3) := dk_153 0 7 (dk_at dksX3_isCue_5 19 rfl rfl)
theorem dX3_isCue_129 : decode cX3_isCue 129 = .ok (.iconst 1, 1) := dk_4 (dk_at dksX3_isCue_5 22 rfl rfl)
theorem dX3_isCue_130 : decode cX3_isCue 130 = .ok (.goto 4, 3) := dk_167 0 4 (dk_at dksX3_isCue_6 0 rfl rfl)
theorem dX3_isCue_133 : decode cX3_isCue 133 = .ok (.iconst 0, 1) := dk_3 (dk_at dksX3_isCue_6 3 rfl rfl)
theorem dX3_isCue_134 : decode cX3_isCue 134 = .ok (.ireturn, 1) := dk_172 (dk_at dksX3_isCue_6 4 rfl rfl)
theorem dX3_isCue_135 : decode cX3_isCue 135 = .ok (.iload_n 2, 1) := dk_28 (dk_at dksX3_isCue_6 5 rfl rfl)
theorem dX3_isCue_136 : decode cX3_isCue 136 = .ok (.ifCond .ne 11, 3) := dk_154 0 11 (dk_at dksX3_isCue_6 6 rfl rfl)
theorem dX3_isCue_139 : decode cX3_isCue 139 = .ok (.iload_n 3, 1) := dk_29 (dk_at dksX3_isCue_6 9 rfl rfl)
theorem dX3_isCue_140 : decode cX3_isCue 140 = .ok (.ifCond .ne 7, 3) := dk_154 0 7 (dk_at dksX3_isCue_6 10 rfl rfl)
theorem dX3_isCue_143 : decode cX3_isCue 143 = .ok (.iconst 1, 1) := dk_4 (dk_at dksX3_isCue_6 13 rfl rfl)
theorem dX3_isCue_144 : decode cX3_isCue 144 = .ok (.goto 4, 3) := dk_167 0 4 (dk_at dksX3_isCue_6 14 rfl rfl)
theorem dX3_isCue_147 : decode cX3_isCue 147 = .ok (.iconst 0, 1) := dk_3 (dk_at dksX3_isCue_6 17 rfl rfl)
theorem dX3_isCue_148 : decode cX3_isCue 148 = .ok (.ireturn, 1) := dk_172 (dk_at dksX3_isCue_6 18 rfl rfl)
theorem dX3_isCue_149 : decode cX3_isCue 149 = .ok (.iconst 0, 1) := dk_3 (dk_at dksX3_isCue_6 19 rfl rfl)
theorem dX3_isCue_150 : decode cX3_isCue 150 = .ok (.ireturn, 1) := dk_172 (dk_at dksX3_isCue_6 20 rfl rfl)
abbrev cX3_run : ByteArray := prog_14_method_13_code
def yX3_run : MethodName := ⟨RX3, "run", "()Z"⟩
def dkwX3_run_1 : List UInt8 := [46, 4, 160, 0, 7, 4, 167, 0, 4, 3, 172]
abbrev dktX3_run_1 : List UInt8 := dkwX3_run_1 ++ []
def dkwX3_run_0 : List UInt8 := [42, 3, 181, 0, 25, 42, 180, 0, 22, 5, 4, 42, 180, 0, 22, 5, 46, 100, 79, 42, 180, 0, 22, 5]
abbrev dktX3_run_0 : List UInt8 := dkwX3_run_0 ++ dktX3_run_1
theorem dksX3_run_0 : cX3_run.data.toList.drop 0 = dktX3_run_0 := by decide +kernel
theorem dksX3_run_1 : cX3_run.data.toList.drop 24 = dktX3_run_1 := dk_seg dksX3_run_0 24 rfl rfl
theorem dX3_run_0 : decode cX3_run 0 = .ok (.aload_n 0, 1) := dk_42 (dk_at dksX3_run_0 0 rfl rfl)
theorem dX3_run_1 : decode cX3_run 1 = .ok (.iconst 0, 1) := dk_3 (dk_at dksX3_run_0 1 rfl rfl)
theorem dX3_run_2 : decode cX3_run 2 = .ok (.putfield 25, 3) := dk_181 0 25 (dk_at dksX3_run_0 2 rfl rfl)
theorem dX3_run_5 : decode cX3_run 5 = .ok (.aload_n 0, 1) := dk_42 (dk_at dksX3_run_0 5 rfl rfl)
theorem dX3_run_6 : decode cX3_run 6 = .ok (.getfield 22, 3) := dk_180 0 22 (dk_at dksX3_run_0 6 rfl rfl)
theorem dX3_run_9 : decode cX3_run 9 = .ok (.iconst 2, 1) := dk_5 (dk_at dksX3_run_0 9 rfl rfl)
theorem dX3_run_10 : decode cX3_run 10 = .ok (.iconst 1, 1) := dk_4 (dk_at dksX3_run_0 10 rfl rfl)
theorem dX3_run_11 : decode cX3_run 11 = .ok (.aload_n 0, 1) := dk_42 (dk_at dksX3_run_0 11 rfl rfl)
theorem dX3_run_12 : decode cX3_run 12 = .ok (.getfield 22, 3) := dk_180 0 22 (dk_at dksX3_run_0 12 rfl rfl)
theorem dX3_run_15 : decode cX3_run 15 = .ok (.iconst 2, 1) := dk_5 (dk_at dksX3_run_0 15 rfl rfl)
theorem dX3_run_16 : decode cX3_run 16 = .ok (.iaload, 1) := dk_46 (dk_at dksX3_run_0 16 rfl rfl)
theorem dX3_run_17 : decode cX3_run 17 = .ok (.isub, 1) := dk_100 (dk_at dksX3_run_0 17 rfl rfl)
theorem dX3_run_18 : decode cX3_run 18 = .ok (.iastore, 1) := dk_79 (dk_at dksX3_run_0 18 rfl rfl)
theorem dX3_run_19 : decode cX3_run 19 = .ok (.aload_n 0, 1) := dk_42 (dk_at dksX3_run_0 19 rfl rfl)
theorem dX3_run_20 : decode cX3_run 20 = .ok (.getfield 22, 3) := dk_180 0 22 (dk_at dksX3_run_0 20 rfl rfl)
theorem dX3_run_23 : decode cX3_run 23 = .ok (.iconst 2, 1) := dk_5 (dk_at dksX3_run_0 23 rfl rfl)
theorem dX3_run_24 : decode cX3_run 24 = .ok (.iaload, 1) := dk_46 (dk_at dksX3_run_1 0 rfl rfl)
theorem dX3_run_25 : decode cX3_run 25 = .ok (.iconst 1, 1) := dk_4 (dk_at dksX3_run_1 1 rfl rfl)
theorem dX3_run_26 : decode cX3_run 26 = .ok (.if_icmp .ne 7, 3) := dk_160 0 7 (dk_at dksX3_run_1 2 rfl rfl)
theorem dX3_run_29 : decode cX3_run 29 = .ok (.iconst 1, 1) := dk_4 (dk_at dksX3_run_1 5 rfl rfl)
theorem dX3_run_30 : decode cX3_run 30 = .ok (.goto 4, 3) := dk_167 0 4 (dk_at dksX3_run_1 6 rfl rfl)
theorem dX3_run_33 : decode cX3_run 33 = .ok (.iconst 0, 1) := dk_3 (dk_at dksX3_run_1 9 rfl rfl)
theorem dX3_run_34 : decode cX3_run 34 = .ok (.ireturn, 1) := dk_172 (dk_at dksX3_run_1 10 rfl rfl)
abbrev cX3_jump : ByteArray := prog_14_method_14_code
def yX3_jump : MethodName := ⟨RX3, "jump", "(I)I"⟩
def dkwX3_jump_1 : List UInt8 := [180, 0, 22, 4, 46, 61, 42, 180, 0, 22, 4, 27, 79, 28, 172]
abbrev dktX3_jump_1 : List UInt8 := dkwX3_jump_1 ++ []
def dkwX3_jump_0 : List UInt8 := [42, 3, 181, 0, 25, 27, 3, 17, 3, 232, 184, 0, 32, 154, 0, 9, 42, 4, 182, 0, 36, 172, 42]
abbrev dktX3_jump_0 : List UInt8 := dkwX3_jump_0 ++ dktX3_jump_1
theorem dksX3_jump_0 : cX3_jump.data.toList.drop 0 = dktX3_jump_0 := by decide +kernel
theorem dksX3_jump_1 : cX3_jump.data.toList.drop 23 = dktX3_jump_1 := dk_seg dksX3_jump_0 23 rfl rfl
theorem dX3_jump_0 : decode cX3_jump 0 = .ok (.aload_n 0, 1) := dk_42 (dk_at dksX3_jump_0 0 rfl rfl)
theorem dX3_jump_1 : decode cX3_jump 1 = .ok (.iconst 0, 1) := dk_3 (dk_at dksX3_jump_0 1 rfl rfl)
theorem dX3_jump_2 : decode cX3_jump 2 = .ok (.putfield 25, 3) := dk_181 0 25 (dk_at dksX3_jump_0 2 rfl rfl)
theorem dX3_jump_5 : decode cX3_jump 5 = .ok (.iload_n 1, 1) := dk_27 (dk_at dksX3_jump_0 5 rfl rfl)
theorem dX3_jump_6 : decode cX3_jump 6 = .ok (.iconst 0, 1) := dk_3 (dk_at dksX3_jump_0 6 rfl rfl)
theorem dX3_jump_7 : decode cX3_jump 7 = .ok (.sipush 1000, 3) := dk_17 3 232 (dk_at dksX3_jump_0 7 rfl rfl)
theorem dX3_jump_10 : decode cX3_jump 10 = .ok (.invokestatic 32, 3) := dk_184 0 32 (dk_at dksX3_jump_0 10 rfl rfl)
theorem dX3_jump_13 : decode cX3_jump 13 = .ok (.ifCond .ne 9, 3) := dk_154 0 9 (dk_at dksX3_jump_0 13 rfl rfl)
theorem dX3_jump_16 : decode cX3_jump 16 = .ok (.aload_n 0, 1) := dk_42 (dk_at dksX3_jump_0 16 rfl rfl)
theorem dX3_jump_17 : decode cX3_jump 17 = .ok (.iconst 1, 1) := dk_4 (dk_at dksX3_jump_0 17 rfl rfl)
theorem dX3_jump_18 : decode cX3_jump 18 = .ok (.invokevirtual 36, 3) := dk_182 0 36 (dk_at dksX3_jump_0 18 rfl rfl)
theorem dX3_jump_21 : decode cX3_jump 21 = .ok (.ireturn, 1) := dk_172 (dk_at dksX3_jump_0 21 rfl rfl)
theorem dX3_jump_22 : decode cX3_jump 22 = .ok (.aload_n 0, 1) := dk_42 (dk_at dksX3_jump_0 22 rfl rfl)
theorem dX3_jump_23 : decode cX3_jump 23 = .ok (.getfield 22, 3) := dk_180 0 22 (dk_at dksX3_jump_1 0 rfl rfl)
theorem dX3_jump_26 : decode cX3_jump 26 = .ok (.iconst 1, 1) := dk_4 (dk_at dksX3_jump_1 3 rfl rfl)
theorem dX3_jump_27 : decode cX3_jump 27 = .ok (.iaload, 1) := dk_46 (dk_at dksX3_jump_1 4 rfl rfl)
theorem dX3_jump_28 : decode cX3_jump 28 = .ok (.istore_n 2, 1) := dk_61 (dk_at dksX3_jump_1 5 rfl rfl)
theorem dX3_jump_29 : decode cX3_jump 29 = .ok (.aload_n 0, 1) := dk_42 (dk_at dksX3_jump_1 6 rfl rfl)
theorem dX3_jump_30 : decode cX3_jump 30 = .ok (.getfield 22, 3) := dk_180 0 22 (dk_at dksX3_jump_1 7 rfl rfl)
theorem dX3_jump_33 : decode cX3_jump 33 = .ok (.iconst 1, 1) := dk_4 (dk_at dksX3_jump_1 10 rfl rfl)
theorem dX3_jump_34 : decode cX3_jump 34 = .ok (.iload_n 1, 1) := dk_27 (dk_at dksX3_jump_1 11 rfl rfl)
theorem dX3_jump_35 : decode cX3_jump 35 = .ok (.iastore, 1) := dk_79 (dk_at dksX3_jump_1 12 rfl rfl)
theorem dX3_jump_36 : decode cX3_jump 36 = .ok (.iload_n 2, 1) := dk_28 (dk_at dksX3_jump_1 13 rfl rfl)
theorem dX3_jump_37 : decode cX3_jump 37 = .ok (.ireturn, 1) := dk_172 (dk_at dksX3_jump_1 14 rfl rfl)
abbrev cX3_fade : ByteArray := prog_14_method_15_code
def yX3_fade : MethodName := ⟨RX3, "fade", "(II)I"⟩
def dkwX3_fade_2 : List UInt8 := [182, 0, 54, 29, 172]
abbrev dktX3_fade_2 : List UInt8 := dkwX3_fade_2 ++ []
def dkwX3_fade_1 : List UInt8 := [184, 0, 32, 154, 0, 9, 42, 5, 182, 0, 36, 172, 42, 27, 5, 182, 0, 50, 62, 42, 27, 5, 28]
abbrev dktX3_fade_1 : List UInt8 := dkwX3_fade_1 ++ dktX3_fade_2
def dkwX3_fade_0 : List UInt8 := [42, 3, 181, 0, 25, 42, 27, 182, 0, 46, 154, 0, 9, 42, 4, 182, 0, 36, 172, 28, 3, 16, 100]
abbrev dktX3_fade_0 : List UInt8 := dkwX3_fade_0 ++ dktX3_fade_1
theorem dksX3_fade_0 : cX3_fade.data.toList.drop 0 = dktX3_fade_0 := by decide +kernel
theorem dksX3_fade_1 : cX3_fade.data.toList.drop 23 = dktX3_fade_1 := dk_seg dksX3_fade_0 23 rfl rfl
theorem dksX3_fade_2 : cX3_fade.data.toList.drop 46 = dktX3_fade_2 := dk_seg dksX3_fade_1 23 rfl rfl
theorem dX3_fade_0 : decode cX3_fade 0 = .ok (.aload_n 0, 1) := dk_42 (dk_at dksX3_fade_0 0 rfl rfl)
theorem dX3_fade_1 : decode cX3_fade 1 = .ok (.iconst 0, 1) := dk_3 (dk_at dksX3_fade_0 1 rfl rfl)
theorem dX3_fade_2 : decode cX3_fade 2 = .ok (.putfield 25, 3) := dk_181 0 25 (dk_at dksX3_fade_0 2 rfl rfl)
theorem dX3_fade_5 : decode cX3_fade 5 = .ok (.aload_n 0, 1) := dk_42 (dk_at dksX3_fade_0 5 rfl rfl)
theorem dX3_fade_6 : decode cX3_fade 6 = .ok (.iload_n 1, 1) := dk_27 (dk_at dksX3_fade_0 6 rfl rfl)
theorem dX3_fade_7 : decode cX3_fade 7 = .ok (.invokevirtual 46, 3) := dk_182 0 46 (dk_at dksX3_fade_0 7 rfl rfl)
theorem dX3_fade_10 : decode cX3_fade 10 = .ok (.ifCond .ne 9, 3) := dk_154 0 9 (dk_at dksX3_fade_0 10 rfl rfl)
theorem dX3_fade_13 : decode cX3_fade 13 = .ok (.aload_n 0, 1) := dk_42 (dk_at dksX3_fade_0 13 rfl rfl)
theorem dX3_fade_14 : decode cX3_fade 14 = .ok (.iconst 1, 1) := dk_4 (dk_at dksX3_fade_0 14 rfl rfl)
theorem dX3_fade_15 : decode cX3_fade 15 = .ok (.invokevirtual 36, 3) := dk_182 0 36 (dk_at dksX3_fade_0 15 rfl rfl)
theorem dX3_fade_18 : decode cX3_fade 18 = .ok (.ireturn, 1) := dk_172 (dk_at dksX3_fade_0 18 rfl rfl)
theorem dX3_fade_19 : decode cX3_fade 19 = .ok (.iload_n 2, 1) := dk_28 (dk_at dksX3_fade_0 19 rfl rfl)
theorem dX3_fade_20 : decode cX3_fade 20 = .ok (.iconst 0, 1) := dk_3 (dk_at dksX3_fade_0 20 rfl rfl)
theorem dX3_fade_21 : decode cX3_fade 21 = .ok (.bipush 100, 2) := dk_16 100 (dk_at dksX3_fade_0 21 rfl rfl)
theorem dX3_fade_23 : decode cX3_fade 23 = .ok (.invokestatic 32, 3) := dk_184 0 32 (dk_at dksX3_fade_1 0 rfl rfl)
theorem dX3_fade_26 : decode cX3_fade 26 = .ok (.ifCond .ne 9, 3) := dk_154 0 9 (dk_at dksX3_fade_1 3 rfl rfl)
theorem dX3_fade_29 : decode cX3_fade 29 = .ok (.aload_n 0, 1) := dk_42 (dk_at dksX3_fade_1 6 rfl rfl)
theorem dX3_fade_30 : decode cX3_fade 30 = .ok (.iconst 2, 1) := dk_5 (dk_at dksX3_fade_1 7 rfl rfl)
theorem dX3_fade_31 : decode cX3_fade 31 = .ok (.invokevirtual 36, 3) := dk_182 0 36 (dk_at dksX3_fade_1 8 rfl rfl)
theorem dX3_fade_34 : decode cX3_fade 34 = .ok (.ireturn, 1) := dk_172 (dk_at dksX3_fade_1 11 rfl rfl)
theorem dX3_fade_35 : decode cX3_fade 35 = .ok (.aload_n 0, 1) := dk_42 (dk_at dksX3_fade_1 12 rfl rfl)
theorem dX3_fade_36 : decode cX3_fade 36 = .ok (.iload_n 1, 1) := dk_27 (dk_at dksX3_fade_1 13 rfl rfl)
theorem dX3_fade_37 : decode cX3_fade 37 = .ok (.iconst 2, 1) := dk_5 (dk_at dksX3_fade_1 14 rfl rfl)
theorem dX3_fade_38 : decode cX3_fade 38 = .ok (.invokevirtual 50, 3) := dk_182 0 50 (dk_at dksX3_fade_1 15 rfl rfl)
theorem dX3_fade_41 : decode cX3_fade 41 = .ok (.istore_n 3, 1) := dk_62 (dk_at dksX3_fade_1 18 rfl rfl)
theorem dX3_fade_42 : decode cX3_fade 42 = .ok (.aload_n 0, 1) := dk_42 (dk_at dksX3_fade_1 19 rfl rfl)
theorem dX3_fade_43 : decode cX3_fade 43 = .ok (.iload_n 1, 1) := dk_27 (dk_at dksX3_fade_1 20 rfl rfl)
theorem dX3_fade_44 : decode cX3_fade 44 = .ok (.iconst 2, 1) := dk_5 (dk_at dksX3_fade_1 21 rfl rfl)
theorem dX3_fade_45 : decode cX3_fade 45 = .ok (.iload_n 2, 1) := dk_28 (dk_at dksX3_fade_1 22 rfl rfl)
theorem dX3_fade_46 : decode cX3_fade 46 = .ok (.invokevirtual 54, 3) := dk_182 0 54 (dk_at dksX3_fade_2 0 rfl rfl)
theorem dX3_fade_49 : decode cX3_fade 49 = .ok (.iload_n 3, 1) := dk_29 (dk_at dksX3_fade_2 3 rfl rfl)
theorem dX3_fade_50 : decode cX3_fade 50 = .ok (.ireturn, 1) := dk_172 (dk_at dksX3_fade_2 4 rfl rfl)
abbrev cX3_pass : ByteArray := prog_14_method_21_code
def yX3_pass : MethodName := ⟨RX3, "pass", "(I)I"⟩
def dkwX3_pass_1 : List UInt8 := [42, 4, 182, 0, 36, 172]
abbrev dktX3_pass_1 : List UInt8 := dkwX3_pass_1 ++ []
def dkwX3_pass_0 : List UInt8 := [42, 3, 181, 0, 25, 27, 4, 17, 1, 244, 184, 0, 32, 153, 0, 11, 42, 27, 182, 0, 89, 167, 0, 8]
abbrev dktX3_pass_0 : List UInt8 := dkwX3_pass_0 ++ dktX3_pass_1
theorem dksX3_pass_0 : cX3_pass.data.toList.drop 0 = dktX3_pass_0 := by decide +kernel
theorem dksX3_pass_1 : cX3_pass.data.toList.drop 24 = dktX3_pass_1 := dk_seg dksX3_pass_0 24 rfl rfl
theorem dX3_pass_0 : decode cX3_pass 0 = .ok (.aload_n 0, 1) := dk_42 (dk_at dksX3_pass_0 0 rfl rfl)
theorem dX3_pass_1 : decode cX3_pass 1 = .ok (.iconst 0, 1) := dk_3 (dk_at dksX3_pass_0 1 rfl rfl)
theorem dX3_pass_2 : decode cX3_pass 2 = .ok (.putfield 25, 3) := dk_181 0 25 (dk_at dksX3_pass_0 2 rfl rfl)
theorem dX3_pass_5 : decode cX3_pass 5 = .ok (.iload_n 1, 1) := dk_27 (dk_at dksX3_pass_0 5 rfl rfl)
theorem dX3_pass_6 : decode cX3_pass 6 = .ok (.iconst 1, 1) := dk_4 (dk_at dksX3_pass_0 6 rfl rfl)
theorem dX3_pass_7 : decode cX3_pass 7 = .ok (.sipush 500, 3) := dk_17 1 244 (dk_at dksX3_pass_0 7 rfl rfl)
theorem dX3_pass_10 : decode cX3_pass 10 = .ok (.invokestatic 32, 3) := dk_184 0 32 (dk_at dksX3_pass_0 10 rfl rfl)
theorem dX3_pass_13 : decode cX3_pass 13 = .ok (.ifCond .eq 11, 3) := dk_153 0 11 (dk_at dksX3_pass_0 13 rfl rfl)
theorem dX3_pass_16 : decode cX3_pass 16 = .ok (.aload_n 0, 1) := dk_42 (dk_at dksX3_pass_0 16 rfl rfl)
theorem dX3_pass_17 : decode cX3_pass 17 = .ok (.iload_n 1, 1) := dk_27 (dk_at dksX3_pass_0 17 rfl rfl)
theorem dX3_pass_18 : decode cX3_pass 18 = .ok (.invokevirtual 89, 3) := dk_182 0 89 (dk_at dksX3_pass_0 18 rfl rfl)
theorem dX3_pass_21 : decode cX3_pass 21 = .ok (.goto 8, 3) := dk_167 0 8 (dk_at dksX3_pass_0 21 rfl rfl)
theorem dX3_pass_24 : decode cX3_pass 24 = .ok (.aload_n 0, 1) := dk_42 (dk_at dksX3_pass_1 0 rfl rfl)
theorem dX3_pass_25 : decode cX3_pass 25 = .ok (.iconst 1, 1) := dk_4 (dk_at dksX3_pass_1 1 rfl rfl)
theorem dX3_pass_26 : decode cX3_pass 26 = .ok (.invokevirtual 36, 3) := dk_182 0 36 (dk_at dksX3_pass_1 2 rfl rfl)
theorem dX3_pass_29 : decode cX3_pass 29 = .ok (.ireturn, 1) := dk_172 (dk_at dksX3_pass_1 5 rfl rfl)
abbrev cX3_ticksOn : ByteArray := prog_14_method_20_code
def yX3_ticksOn : MethodName := ⟨RX3, "ticksOn", "(I)I"⟩
def dkwX3_ticksOn_0 : List UInt8 := [3, 61, 3, 62, 29, 27, 162, 0, 16, 28, 42, 182, 0, 85, 96, 61, 132, 3, 1, 167, 255, 241, 28, 172]
abbrev dktX3_ticksOn_0 : List UInt8 := dkwX3_ticksOn_0 ++ []
theorem dksX3_ticksOn_0 : cX3_ticksOn.data.toList.drop 0 = dktX3_ticksOn_0 := by decide +kernel
theorem dX3_ticksOn_0 : decode cX3_ticksOn 0 = .ok (.iconst 0, 1) := dk_3 (dk_at dksX3_ticksOn_0 0 rfl rfl)
theorem dX3_ticksOn_1 : decode cX3_ticksOn 1 = .ok (.istore_n 2, 1) := dk_61 (dk_at dksX3_ticksOn_0 1 rfl rfl)
theorem dX3_ticksOn_2 : decode cX3_ticksOn 2 = .ok (.iconst 0, 1) := dk_3 (dk_at dksX3_ticksOn_0 2 rfl rfl)
theorem dX3_ticksOn_3 : decode cX3_ticksOn 3 = .ok (.istore_n 3, 1) := dk_62 (dk_at dksX3_ticksOn_0 3 rfl rfl)
theorem dX3_ticksOn_4 : decode cX3_ticksOn 4 = .ok (.iload_n 3, 1) := dk_29 (dk_at dksX3_ticksOn_0 4 rfl rfl)
theorem dX3_ticksOn_5 : decode cX3_ticksOn 5 = .ok (.iload_n 1, 1) := dk_27 (dk_at dksX3_ticksOn_0 5 rfl rfl)
theorem dX3_ticksOn_6 : decode cX3_ticksOn 6 = .ok (.if_icmp .ge 16, 3) := dk_162 0 16 (dk_at dksX3_ticksOn_0 6 rfl rfl)
theorem dX3_ticksOn_9 : decode cX3_ticksOn 9 = .ok (.iload_n 2, 1) := dk_28 (dk_at dksX3_ticksOn_0 9 rfl rfl)
theorem dX3_ticksOn_10 : decode cX3_ticksOn 10 = .ok (.aload_n 0, 1) := dk_42 (dk_at dksX3_ticksOn_0 10 rfl rfl)
theorem dX3_ticksOn_11 : decode cX3_ticksOn 11 = .ok (.invokevirtual 85, 3) := dk_182 0 85 (dk_at dksX3_ticksOn_0 11 rfl rfl)
theorem dX3_ticksOn_14 : decode cX3_ticksOn 14 = .ok (.iadd, 1) := dk_96 (dk_at dksX3_ticksOn_0 14 rfl rfl)
theorem dX3_ticksOn_15 : decode cX3_ticksOn 15 = .ok (.istore_n 2, 1) := dk_61 (dk_at dksX3_ticksOn_0 15 rfl rfl)
theorem dX3_ticksOn_16 : decode cX3_ticksOn 16 = .ok (.iinc 3 1, 3) := dk_132 3 1 (dk_at dksX3_ticksOn_0 16 rfl rfl)
theorem dX3_ticksOn_19 : decode cX3_ticksOn 19 = .ok (.goto (-15), 3) := dk_167 255 241 (dk_at dksX3_ticksOn_0 19 rfl rfl)
theorem dX3_ticksOn_22 : decode cX3_ticksOn 22 = .ok (.iload_n 2, 1) := dk_28 (dk_at dksX3_ticksOn_0 22 rfl rfl)
theorem dX3_ticksOn_23 : decode cX3_ticksOn 23 = .ok (.ireturn, 1) := dk_172 (dk_at dksX3_ticksOn_0 23 rfl rfl)
abbrev cX3_tickOn : ByteArray := prog_14_method_19_code
def yX3_tickOn : MethodName := ⟨RX3, "tickOn", "()I"⟩
def dkwX3_tickOn_10 : List UInt8 := [180, 0, 22, 3, 92, 46, 4, 96, 79, 27, 172]
abbrev dktX3_tickOn_10 : List UInt8 := dkwX3_tickOn_10 ++ []
def dkwX3_tickOn_9 : List UInt8 := [92, 46, 4, 100, 79, 42, 180, 0, 22, 7, 46, 154, 0, 10, 42, 180, 0, 22, 6, 2, 79, 42]
abbrev dktX3_tickOn_9 : List UInt8 := dkwX3_tickOn_9 ++ dktX3_tickOn_10
def dkwX3_tickOn_8 : List UInt8 := [46, 4, 100, 79, 132, 2, 1, 167, 255, 178, 42, 180, 0, 22, 7, 46, 158, 0, 13, 42, 180, 0, 22, 7]
abbrev dktX3_tickOn_8 : List UInt8 := dkwX3_tickOn_8 ++ dktX3_tickOn_9
def dkwX3_tickOn_7 : List UInt8 := [180, 0, 16, 6, 28, 104, 4, 96, 46, 96, 184, 0, 82, 79, 42, 180, 0, 16, 6, 28, 104, 5, 96, 92]
abbrev dktX3_tickOn_7 : List UInt8 := dkwX3_tickOn_7 ++ dktX3_tickOn_8
def dkwX3_tickOn_6 : List UInt8 := [167, 0, 51, 42, 180, 0, 16, 6, 28, 104, 3, 96, 42, 180, 0, 16, 6, 28, 104, 3, 96, 46, 42]
abbrev dktX3_tickOn_6 : List UInt8 := dkwX3_tickOn_6 ++ dktX3_tickOn_7
def dkwX3_tickOn_5 : List UInt8 := [180, 0, 22, 16, 7, 46, 162, 0, 73, 42, 180, 0, 16, 6, 28, 104, 5, 96, 46, 154, 0, 6]
abbrev dktX3_tickOn_5 : List UInt8 := dkwX3_tickOn_5 ++ dktX3_tickOn_6
def dkwX3_tickOn_4 : List UInt8 := [8, 42, 180, 0, 22, 8, 46, 42, 180, 0, 22, 16, 6, 46, 96, 184, 0, 82, 79, 3, 61, 28, 42]
abbrev dktX3_tickOn_4 : List UInt8 := dkwX3_tickOn_4 ++ dktX3_tickOn_5
def dkwX3_tickOn_3 : List UInt8 := [61, 28, 42, 180, 0, 29, 162, 0, 14, 42, 28, 182, 0, 79, 132, 2, 1, 167, 255, 240, 42, 180, 0, 22]
abbrev dktX3_tickOn_3 : List UInt8 := dkwX3_tickOn_3 ++ dktX3_tickOn_4
def dkwX3_tickOn_2 : List UInt8 := [29, 182, 0, 75, 132, 1, 1, 132, 3, 1, 167, 255, 220, 42, 180, 0, 22, 4, 92, 46, 4, 96, 79, 3]
abbrev dktX3_tickOn_2 : List UInt8 := dkwX3_tickOn_2 ++ dktX3_tickOn_3
def dkwX3_tickOn_1 : List UInt8 := [180, 0, 64, 162, 0, 34, 42, 180, 0, 19, 7, 29, 104, 3, 96, 46, 28, 159, 0, 6, 167, 0, 11, 42]
abbrev dktX3_tickOn_1 : List UInt8 := dkwX3_tickOn_1 ++ dktX3_tickOn_2
def dkwX3_tickOn_0 : List UInt8 := [3, 60, 42, 180, 0, 22, 5, 46, 4, 160, 0, 61, 42, 180, 0, 22, 4, 46, 61, 3, 62, 29, 42]
abbrev dktX3_tickOn_0 : List UInt8 := dkwX3_tickOn_0 ++ dktX3_tickOn_1
theorem dksX3_tickOn_0 : cX3_tickOn.data.toList.drop 0 = dktX3_tickOn_0 := by decide +kernel
theorem dksX3_tickOn_1 : cX3_tickOn.data.toList.drop 23 = dktX3_tickOn_1 := dk_seg dksX3_tickOn_0 23 rfl rfl
theorem dksX3_tickOn_2 : cX3_tickOn.data.toList.drop 47 = dktX3_tickOn_2 := dk_seg dksX3_tickOn_1 24 rfl rfl
theorem dksX3_tickOn_3 : cX3_tickOn.data.toList.drop 71 = dktX3_tickOn_3 := dk_seg dksX3_tickOn_2 24 rfl rfl
theorem dksX3_tickOn_4 : cX3_tickOn.data.toList.drop 95 = dktX3_tickOn_4 := dk_seg dksX3_tickOn_3 24 rfl rfl
theorem dksX3_tickOn_5 : cX3_tickOn.data.toList.drop 118 = dktX3_tickOn_5 := dk_seg dksX3_tickOn_4 23 rfl rfl
theorem dksX3_tickOn_6 : cX3_tickOn.data.toList.drop 140 = dktX3_tickOn_6 := dk_seg dksX3_tickOn_5 22 rfl rfl
theorem dksX3_tickOn_7 : cX3_tickOn.data.toList.drop 163 = dktX3_tickOn_7 := dk_seg dksX3_tickOn_6 23 rfl rfl
theorem dksX3_tickOn_8 : cX3_tickOn.data.toList.drop 187 = dktX3_tickOn_8 := dk_seg dksX3_tickOn_7 24 rfl rfl
theorem dksX3_tickOn_9 : cX3_tickOn.data.toList.drop 211 = dktX3_tickOn_9 := dk_seg dksX3_tickOn_8 24 rfl rfl
theorem dksX3_tickOn_10 : cX3_tickOn.data.toList.drop 233 = dktX3_tickOn_10 := dk_seg dksX3_tickOn_9 22 rfl rfl
theorem dX3_tickOn_0 : decode cX3_tickOn 0 = .ok (.iconst 0, 1) := dk_3 (dk_at dksX3_tickOn_0 0 rfl rfl)
theorem dX3_tickOn_1 : decode cX3_tickOn 1 = .ok (.istore_n 1, 1) := dk_60 (dk_at dksX3_tickOn_0 1 rfl rfl)
theorem dX3_tickOn_2 : decode cX3_tickOn 2 = .ok (.aload_n 0, 1) := dk_42 (dk_at dksX3_tickOn_0 2 rfl rfl)
theorem dX3_tickOn_3 : decode cX3_tickOn 3 = .ok (.getfield 22, 3) := dk_180 0 22 (dk_at dksX3_tickOn_0 3 rfl rfl)
theorem dX3_tickOn_6 : decode cX3_tickOn 6 = .ok (.iconst 2, 1) := dk_5 (dk_at dksX3_tickOn_0 6 rfl rfl)
theorem dX3_tickOn_7 : decode cX3_tickOn 7 = .ok (.iaload, 1) := dk_46 (dk_at dksX3_tickOn_0 7 rfl rfl)
theorem dX3_tickOn_8 : decode cX3_tickOn 8 = .ok (.iconst 1, 1) := dk_4 (dk_at dksX3_tickOn_0 8 rfl rfl)
theorem dX3_tickOn_9 : decode cX3_tickOn 9 = .ok (.if_icmp .ne 61, 3) := dk_160 0 61 (dk_at dksX3_tickOn_0 9 rfl rfl)
theorem dX3_tickOn_12 : decode cX3_tickOn 12 = .ok (.aload_n 0, 1) := dk_42 (dk_at dksX3_tickOn_0 12 rfl rfl)
theorem dX3_tickOn_13 : decode cX3_tickOn 13 = .ok (.getfield 22, 3) := dk_180 0 22 (dk_at dksX3_tickOn_0 13 rfl rfl)
theorem dX3_tickOn_16 : decode cX3_tickOn 16 = .ok (.iconst 1, 1) := dk_4 (dk_at dksX3_tickOn_0 16 rfl rfl)
theorem dX3_tickOn_17 : decode cX3_tickOn 17 = .ok (.iaload, 1) := dk_46 (dk_at dksX3_tickOn_0 17 rfl rfl)
theorem dX3_tickOn_18 : decode cX3_tickOn 18 = .ok (.istore_n 2, 1) := dk_61 (dk_at dksX3_tickOn_0 18 rfl rfl)
theorem dX3_tickOn_19 : decode cX3_tickOn 19 = .ok (.iconst 0, 1) := dk_3 (dk_at dksX3_tickOn_0 19 rfl rfl)
theorem dX3_tickOn_20 : decode cX3_tickOn 20 = .ok (.istore_n 3, 1) := dk_62 (dk_at dksX3_tickOn_0 20 rfl rfl)
theorem dX3_tickOn_21 : decode cX3_tickOn 21 = .ok (.iload_n 3, 1) := dk_29 (dk_at dksX3_tickOn_0 21 rfl rfl)
theorem dX3_tickOn_22 : decode cX3_tickOn 22 = .ok (.aload_n 0, 1) := dk_42 (dk_at dksX3_tickOn_0 22 rfl rfl)
theorem dX3_tickOn_23 : decode cX3_tickOn 23 = .ok (.getfield 64, 3) := dk_180 0 64 (dk_at dksX3_tickOn_1 0 rfl rfl)
theorem dX3_tickOn_26 : decode cX3_tickOn 26 = .ok (.if_icmp .ge 34, 3) := dk_162 0 34 (dk_at dksX3_tickOn_1 3 rfl rfl)
theorem dX3_tickOn_29 : decode cX3_tickOn 29 = .ok (.aload_n 0, 1) := dk_42 (dk_at dksX3_tickOn_1 6 rfl rfl)
theorem dX3_tickOn_30 : decode cX3_tickOn 30 = .ok (.getfield 19, 3) := dk_180 0 19 (dk_at dksX3_tickOn_1 7 rfl rfl)
theorem dX3_tickOn_33 : decode cX3_tickOn 33 = .ok (.iconst 4, 1) := dk_7 (dk_at dksX3_tickOn_1 10 rfl rfl)
theorem dX3_tickOn_34 : decode cX3_tickOn 34 = .ok (.iload_n 3, 1) := dk_29 (dk_at dksX3_tickOn_1 11 rfl rfl)
theorem dX3_tickOn_35 : decode cX3_tickOn 35 = .ok (.imul, 1) := dk_104 (dk_at dksX3_tickOn_1 12 rfl rfl)
theorem dX3_tickOn_36 : decode cX3_tickOn 36 = .ok (.iconst 0, 1) := dk_3 (dk_at dksX3_tickOn_1 13 rfl rfl)
theorem dX3_tickOn_37 : decode cX3_tickOn 37 = .ok (.iadd, 1) := dk_96 (dk_at dksX3_tickOn_1 14 rfl rfl)
theorem dX3_tickOn_38 : decode cX3_tickOn 38 = .ok (.iaload, 1) := dk_46 (dk_at dksX3_tickOn_1 15 rfl rfl)
theorem dX3_tickOn_39 : decode cX3_tickOn 39 = .ok (.iload_n 2, 1) := dk_28 (dk_at dksX3_tickOn_1 16 rfl rfl)
theorem dX3_tickOn_40 : decode cX3_tickOn 40 = .ok (.if_icmp .eq 6, 3) := dk_159 0 6 (dk_at dksX3_tickOn_1 17 rfl rfl)
theorem dX3_tickOn_43 : decode cX3_tickOn 43 = .ok (.goto 11, 3) := dk_167 0 11 (dk_at dksX3_tickOn_1 20 rfl rfl)
theorem dX3_tickOn_46 : decode cX3_tickOn 46 = .ok (.aload_n 0, 1) := dk_42 (dk_at dksX3_tickOn_1 23 rfl rfl)
theorem dX3_tickOn_47 : decode cX3_tickOn 47 = .ok (.iload_n 3, 1) := dk_29 (dk_at dksX3_tickOn_2 0 rfl rfl)
theorem dX3_tickOn_48 : decode cX3_tickOn 48 = .ok (.invokevirtual 75, 3) := dk_182 0 75 (dk_at dksX3_tickOn_2 1 rfl rfl)
theorem dX3_tickOn_51 : decode cX3_tickOn 51 = .ok (.iinc 1 1, 3) := dk_132 1 1 (dk_at dksX3_tickOn_2 4 rfl rfl)
theorem dX3_tickOn_54 : decode cX3_tickOn 54 = .ok (.iinc 3 1, 3) := dk_132 3 1 (dk_at dksX3_tickOn_2 7 rfl rfl)
theorem dX3_tickOn_57 : decode cX3_tickOn 57 = .ok (.goto (-36), 3) := dk_167 255 220 (dk_at dksX3_tickOn_2 10 rfl rfl)
theorem dX3_tickOn_60 : decode cX3_tickOn 60 = .ok (.aload_n 0, 1) := dk_42 (dk_at dksX3_tickOn_2 13 rfl rfl)
theorem dX3_tickOn_61 : decode cX3_tickOn 61 = .ok (.getfield 22, 3) := dk_180 0 22 (dk_at dksX3_tickOn_2 14 rfl rfl)
theorem dX3_tickOn_64 : decode cX3_tickOn 64 = .ok (.iconst 1, 1) := dk_4 (dk_at dksX3_tickOn_2 17 rfl rfl)
theorem dX3_tickOn_65 : decode cX3_tickOn 65 = .ok (.dup2, 1) := dk_92 (dk_at dksX3_tickOn_2 18 rfl rfl)
theorem dX3_tickOn_66 : decode cX3_tickOn 66 = .ok (.iaload, 1) := dk_46 (dk_at dksX3_tickOn_2 19 rfl rfl)
theorem dX3_tickOn_67 : decode cX3_tickOn 67 = .ok (.iconst 1, 1) := dk_4 (dk_at dksX3_tickOn_2 20 rfl rfl)
theorem dX3_tickOn_68 : decode cX3_tickOn 68 = .ok (.iadd, 1) := dk_96 (dk_at dksX3_tickOn_2 21 rfl rfl)
theorem dX3_tickOn_69 : decode cX3_tickOn 69 = .ok (.iastore, 1) := dk_79 (dk_at dksX3_tickOn_2 22 rfl rfl)
theorem dX3_tickOn_70 : decode cX3_tickOn 70 = .ok (.iconst 0, 1) := dk_3 (dk_at dksX3_tickOn_2 23 rfl rfl)
theorem dX3_tickOn_71 : decode cX3_tickOn 71 = .ok (.istore_n 2, 1) := dk_61 (dk_at dksX3_tickOn_3 0 rfl rfl)
theorem dX3_tickOn_72 : decode cX3_tickOn 72 = .ok (.iload_n 2, 1) := dk_28 (dk_at dksX3_tickOn_3 1 rfl rfl)
theorem dX3_tickOn_73 : decode cX3_tickOn 73 = .ok (.aload_n 0, 1) := dk_42 (dk_at dksX3_tickOn_3 2 rfl rfl)
theorem dX3_tickOn_74 : decode cX3_tickOn 74 = .ok (.getfield 29, 3) := dk_180 0 29 (dk_at dksX3_tickOn_3 3 rfl rfl)
theorem dX3_tickOn_77 : decode cX3_tickOn 77 = .ok (.if_icmp .ge 14, 3) := dk_162 0 14 (dk_at dksX3_tickOn_3 6 rfl rfl)
theorem dX3_tickOn_80 : decode cX3_tickOn 80 = .ok (.aload_n 0, 1) := dk_42 (dk_at dksX3_tickOn_3 9 rfl rfl)
theorem dX3_tickOn_81 : decode cX3_tickOn 81 = .ok (.iload_n 2, 1) := dk_28 (dk_at dksX3_tickOn_3 10 rfl rfl)
theorem dX3_tickOn_82 : decode cX3_tickOn 82 = .ok (.invokevirtual 79, 3) := dk_182 0 79 (dk_at dksX3_tickOn_3 11 rfl rfl)
theorem dX3_tickOn_85 : decode cX3_tickOn 85 = .ok (.iinc 2 1, 3) := dk_132 2 1 (dk_at dksX3_tickOn_3 14 rfl rfl)
theorem dX3_tickOn_88 : decode cX3_tickOn 88 = .ok (.goto (-16), 3) := dk_167 255 240 (dk_at dksX3_tickOn_3 17 rfl rfl)
theorem dX3_tickOn_91 : decode cX3_tickOn 91 = .ok (.aload_n 0, 1) := dk_42 (dk_at dksX3_tickOn_3 20 rfl rfl)
theorem dX3_tickOn_92 : decode cX3_tickOn 92 = .ok (.getfield 22, 3) := dk_180 0 22 (dk_at dksX3_tickOn_3 21 rfl rfl)
theorem dX3_tickOn_95 : decode cX3_tickOn 95 = .ok (.iconst 5, 1) := dk_8 (dk_at dksX3_tickOn_4 0 rfl rfl)
theorem dX3_tickOn_96 : decode cX3_tickOn 96 = .ok (.aload_n 0, 1) := dk_42 (dk_at dksX3_tickOn_4 1 rfl rfl)
theorem dX3_tickOn_97 : decode cX3_tickOn 97 = .ok (.getfield 22, 3) := dk_180 0 22 (dk_at dksX3_tickOn_4 2 rfl rfl)
theorem dX3_tickOn_100 : decode cX3_tickOn 100 = .ok (.iconst 5, 1) := dk_8 (dk_at dksX3_tickOn_4 5 rfl rfl)
theorem dX3_tickOn_101 : decode cX3_tickOn 101 = .ok (.iaload, 1) := dk_46 (dk_at dksX3_tickOn_4 6 rfl rfl)
theorem dX3_tickOn_102 : decode cX3_tickOn 102 = .ok (.aload_n 0, 1) := dk_42 (dk_at dksX3_tickOn_4 7 rfl rfl)
theorem dX3_tickOn_103 : decode cX3_tickOn 103 = .ok (.getfield 22, 3) := dk_180 0 22 (dk_at dksX3_tickOn_4 8 rfl rfl)
theorem dX3_tickOn_106 : decode cX3_tickOn 106 = .ok (.bipush 6, 2) := dk_16 6 (dk_at dksX3_tickOn_4 11 rfl rfl)
theorem dX3_tickOn_108 : decode cX3_tickOn 108 = .ok (.iaload, 1) := dk_46 (dk_at dksX3_tickOn_4 13 rfl rfl)
theorem dX3_tickOn_109 : decode cX3_tickOn 109 = .ok (.iadd, 1) := dk_96 (dk_at dksX3_tickOn_4 14 rfl rfl)
theorem dX3_tickOn_110 : decode cX3_tickOn 110 = .ok (.invokestatic 82, 3) := dk_184 0 82 (dk_at dksX3_tickOn_4 15 rfl rfl)
theorem dX3_tickOn_113 : decode cX3_tickOn 113 = .ok (.iastore, 1) := dk_79 (dk_at dksX3_tickOn_4 18 rfl rfl)
theorem dX3_tickOn_114 : decode cX3_tickOn 114 = .ok (.iconst 0, 1) := dk_3 (dk_at dksX3_tickOn_4 19 rfl rfl)
theorem dX3_tickOn_115 : decode cX3_tickOn 115 = .ok (.istore_n 2, 1) := dk_61 (dk_at dksX3_tickOn_4 20 rfl rfl)
theorem dX3_tickOn_116 : decode cX3_tickOn 116 = .ok (.iload_n 2, 1) := dk_28 (dk_at dksX3_tickOn_4 21 rfl rfl)
theorem dX3_tickOn_117 : decode cX3_tickOn 117 = .ok (.aload_n 0, 1) := dk_42 (dk_at dksX3_tickOn_4 22 rfl rfl)
theorem dX3_tickOn_118 : decode cX3_tickOn 118 = .ok (.getfield 22, 3) := dk_180 0 22 (dk_at dksX3_tickOn_5 0 rfl rfl)
theorem dX3_tickOn_121 : decode cX3_tickOn 121 = .ok (.bipush 7, 2) := dk_16 7 (dk_at dksX3_tickOn_5 3 rfl rfl)
theorem dX3_tickOn_123 : decode cX3_tickOn 123 = .ok (.iaload, 1) := dk_46 (dk_at dksX3_tickOn_5 5 rfl rfl)
theorem dX3_tickOn_124 : decode cX3_tickOn 124 = .ok (.if_icmp .ge 73, 3) := dk_162 0 73 (dk_at dksX3_tickOn_5 6 rfl rfl)
theorem dX3_tickOn_127 : decode cX3_tickOn 127 = .ok (.aload_n 0, 1) := dk_42 (dk_at dksX3_tickOn_5 9 rfl rfl)
theorem dX3_tickOn_128 : decode cX3_tickOn 128 = .ok (.getfield 16, 3) := dk_180 0 16 (dk_at dksX3_tickOn_5 10 rfl rfl)
theorem dX3_tickOn_131 : decode cX3_tickOn 131 = .ok (.iconst 3, 1) := dk_6 (dk_at dksX3_tickOn_5 13 rfl rfl)
theorem dX3_tickOn_132 : decode cX3_tickOn 132 = .ok (.iload_n 2, 1) := dk_28 (dk_at dksX3_tickOn_5 14 rfl rfl)
theorem dX3_tickOn_133 : decode cX3_tickOn 133 = .ok (.imul, 1) := dk_104 (dk_at dksX3_tickOn_5 15 rfl rfl)
theorem dX3_tickOn_134 : decode cX3_tickOn 134 = .ok (.iconst 2, 1) := dk_5 (dk_at dksX3_tickOn_5 16 rfl rfl)
theorem dX3_tickOn_135 : decode cX3_tickOn 135 = .ok (.iadd, 1) := dk_96 (dk_at dksX3_tickOn_5 17 rfl rfl)
theorem dX3_tickOn_136 : decode cX3_tickOn 136 = .ok (.iaload, 1) := dk_46 (dk_at dksX3_tickOn_5 18 rfl rfl)
theorem dX3_tickOn_137 : decode cX3_tickOn 137 = .ok (.ifCond .ne 6, 3) := dk_154 0 6 (dk_at dksX3_tickOn_5 19 rfl rfl)
theorem dX3_tickOn_140 : decode cX3_tickOn 140 = .ok (.goto 51, 3) := dk_167 0 51 (dk_at dksX3_tickOn_6 0 rfl rfl)
theorem dX3_tickOn_143 : decode cX3_tickOn 143 = .ok (.aload_n 0, 1) := dk_42 (dk_at dksX3_tickOn_6 3 rfl rfl)
theorem dX3_tickOn_144 : decode cX3_tickOn 144 = .ok (.getfield 16, 3) := dk_180 0 16 (dk_at dksX3_tickOn_6 4 rfl rfl)
theorem dX3_tickOn_147 : decode cX3_tickOn 147 = .ok (.iconst 3, 1) := dk_6 (dk_at dksX3_tickOn_6 7 rfl rfl)
theorem dX3_tickOn_148 : decode cX3_tickOn 148 = .ok (.iload_n 2, 1) := dk_28 (dk_at dksX3_tickOn_6 8 rfl rfl)
theorem dX3_tickOn_149 : decode cX3_tickOn 149 = .ok (.imul, 1) := dk_104 (dk_at dksX3_tickOn_6 9 rfl rfl)
theorem dX3_tickOn_150 : decode cX3_tickOn 150 = .ok (.iconst 0, 1) := dk_3 (dk_at dksX3_tickOn_6 10 rfl rfl)
theorem dX3_tickOn_151 : decode cX3_tickOn 151 = .ok (.iadd, 1) := dk_96 (dk_at dksX3_tickOn_6 11 rfl rfl)
theorem dX3_tickOn_152 : decode cX3_tickOn 152 = .ok (.aload_n 0, 1) := dk_42 (dk_at dksX3_tickOn_6 12 rfl rfl)
theorem dX3_tickOn_153 : decode cX3_tickOn 153 = .ok (.getfield 16, 3) := dk_180 0 16 (dk_at dksX3_tickOn_6 13 rfl rfl)
theorem dX3_tickOn_156 : decode cX3_tickOn 156 = .ok (.iconst 3, 1) := dk_6 (dk_at dksX3_tickOn_6 16 rfl rfl)
theorem dX3_tickOn_157 : decode cX3_tickOn 157 = .ok (.iload_n 2, 1) := dk_28 (dk_at dksX3_tickOn_6 17 rfl rfl)
theorem dX3_tickOn_158 : decode cX3_tickOn 158 = .ok (.imul, 1) := dk_104 (dk_at dksX3_tickOn_6 18 rfl rfl)
theorem dX3_tickOn_159 : decode cX3_tickOn 159 = .ok (.iconst 0, 1) := dk_3 (dk_at dksX3_tickOn_6 19 rfl rfl)
theorem dX3_tickOn_160 : decode cX3_tickOn 160 = .ok (.iadd, 1) := dk_96 (dk_at dksX3_tickOn_6 20 rfl rfl)
theorem dX3_tickOn_161 : decode cX3_tickOn 161 = .ok (.iaload, 1) := dk_46 (dk_at dksX3_tickOn_6 21 rfl rfl)
theorem dX3_tickOn_162 : decode cX3_tickOn 162 = .ok (.aload_n 0, 1) := dk_42 (dk_at dksX3_tickOn_6 22 rfl rfl)
theorem dX3_tickOn_163 : decode cX3_tickOn 163 = .ok (.getfield 16, 3) := dk_180 0 16 (dk_at dksX3_tickOn_7 0 rfl rfl)
theorem dX3_tickOn_166 : decode cX3_tickOn 166 = .ok (.iconst 3, 1) := dk_6 (dk_at dksX3_tickOn_7 3 rfl rfl)
theorem dX3_tickOn_167 : decode cX3_tickOn 167 = .ok (.iload_n 2, 1) := dk_28 (dk_at dksX3_tickOn_7 4 rfl rfl)
theorem dX3_tickOn_168 : decode cX3_tickOn 168 = .ok (.imul, 1) := dk_104 (dk_at dksX3_tickOn_7 5 rfl rfl)
theorem dX3_tickOn_169 : decode cX3_tickOn 169 = .ok (.iconst 1, 1) := dk_4 (dk_at dksX3_tickOn_7 6 rfl rfl)
theorem dX3_tickOn_170 : decode cX3_tickOn 170 = .ok (.iadd, 1) := dk_96 (dk_at dksX3_tickOn_7 7 rfl rfl)
theorem dX3_tickOn_171 : decode cX3_tickOn 171 = .ok (.iaload, 1) := dk_46 (dk_at dksX3_tickOn_7 8 rfl rfl)
theorem dX3_tickOn_172 : decode cX3_tickOn 172 = .ok (.iadd, 1) := dk_96 (dk_at dksX3_tickOn_7 9 rfl rfl)
theorem dX3_tickOn_173 : decode cX3_tickOn 173 = .ok (.invokestatic 82, 3) := dk_184 0 82 (dk_at dksX3_tickOn_7 10 rfl rfl)
theorem dX3_tickOn_176 : decode cX3_tickOn 176 = .ok (.iastore, 1) := dk_79 (dk_at dksX3_tickOn_7 13 rfl rfl)
theorem dX3_tickOn_177 : decode cX3_tickOn 177 = .ok (.aload_n 0, 1) := dk_42 (dk_at dksX3_tickOn_7 14 rfl rfl)
theorem dX3_tickOn_178 : decode cX3_tickOn 178 = .ok (.getfield 16, 3) := dk_180 0 16 (dk_at dksX3_tickOn_7 15 rfl rfl)
theorem dX3_tickOn_181 : decode cX3_tickOn 181 = .ok (.iconst 3, 1) := dk_6 (dk_at dksX3_tickOn_7 18 rfl rfl)
theorem dX3_tickOn_182 : decode cX3_tickOn 182 = .ok (.iload_n 2, 1) := dk_28 (dk_at dksX3_tickOn_7 19 rfl rfl)
theorem dX3_tickOn_183 : decode cX3_tickOn 183 = .ok (.imul, 1) := dk_104 (dk_at dksX3_tickOn_7 20 rfl rfl)
theorem dX3_tickOn_184 : decode cX3_tickOn 184 = .ok (.iconst 2, 1) := dk_5 (dk_at dksX3_tickOn_7 21 rfl rfl)
theorem dX3_tickOn_185 : decode cX3_tickOn 185 = .ok (.iadd, 1) := dk_96 (dk_at dksX3_tickOn_7 22 rfl rfl)
theorem dX3_tickOn_186 : decode cX3_tickOn 186 = .ok (.dup2, 1) := dk_92 (dk_at dksX3_tickOn_7 23 rfl rfl)
theorem dX3_tickOn_187 : decode cX3_tickOn 187 = .ok (.iaload, 1) := dk_46 (dk_at dksX3_tickOn_8 0 rfl rfl)
theorem dX3_tickOn_188 : decode cX3_tickOn 188 = .ok (.iconst 1, 1) := dk_4 (dk_at dksX3_tickOn_8 1 rfl rfl)
theorem dX3_tickOn_189 : decode cX3_tickOn 189 = .ok (.isub, 1) := dk_100 (dk_at dksX3_tickOn_8 2 rfl rfl)
theorem dX3_tickOn_190 : decode cX3_tickOn 190 = .ok (.iastore, 1) := dk_79 (dk_at dksX3_tickOn_8 3 rfl rfl)
theorem dX3_tickOn_191 : decode cX3_tickOn 191 = .ok (.iinc 2 1, 3) := dk_132 2 1 (dk_at dksX3_tickOn_8 4 rfl rfl)
theorem dX3_tickOn_194 : decode cX3_tickOn 194 = .ok (.goto (-78), 3) := dk_167 255 178 (dk_at dksX3_tickOn_8 7 rfl rfl)
theorem dX3_tickOn_197 : decode cX3_tickOn 197 = .ok (.aload_n 0, 1) := dk_42 (dk_at dksX3_tickOn_8 10 rfl rfl)
theorem dX3_tickOn_198 : decode cX3_tickOn 198 = .ok (.getfield 22, 3) := dk_180 0 22 (dk_at dksX3_tickOn_8 11 rfl rfl)
theorem dX3_tickOn_201 : decode cX3_tickOn 201 = .ok (.iconst 4, 1) := dk_7 (dk_at dksX3_tickOn_8 14 rfl rfl)
theorem dX3_tickOn_202 : decode cX3_tickOn 202 = .ok (.iaload, 1) := dk_46 (dk_at dksX3_tickOn_8 15 rfl rfl)
theorem dX3_tickOn_203 : decode cX3_tickOn 203 = .ok (.ifCond .le 13, 3) := dk_158 0 13 (dk_at dksX3_tickOn_8 16 rfl rfl)
theorem dX3_tickOn_206 : decode cX3_tickOn 206 = .ok (.aload_n 0, 1) := dk_42 (dk_at dksX3_tickOn_8 19 rfl rfl)
theorem dX3_tickOn_207 : decode cX3_tickOn 207 = .ok (.getfield 22, 3) := dk_180 0 22 (dk_at dksX3_tickOn_8 20 rfl rfl)
theorem dX3_tickOn_210 : decode cX3_tickOn 210 = .ok (.iconst 4, 1) := dk_7 (dk_at dksX3_tickOn_8 23 rfl rfl)
theorem dX3_tickOn_211 : decode cX3_tickOn 211 = .ok (.dup2, 1) := dk_92 (dk_at dksX3_tickOn_9 0 rfl rfl)
theorem dX3_tickOn_212 : decode cX3_tickOn 212 = .ok (.iaload, 1) := dk_46 (dk_at dksX3_tickOn_9 1 rfl rfl)
theorem dX3_tickOn_213 : decode cX3_tickOn 213 = .ok (.iconst 1, 1) := dk_4 (dk_at dksX3_tickOn_9 2 rfl rfl)
theorem dX3_tickOn_214 : decode cX3_tickOn 214 = .ok (.isub, 1) := dk_100 (dk_at dksX3_tickOn_9 3 rfl rfl)
theorem dX3_tickOn_215 : decode cX3_tickOn 215 = .ok (.iastore, 1) := dk_79 (dk_at dksX3_tickOn_9 4 rfl rfl)
theorem dX3_tickOn_216 : decode cX3_tickOn 216 = .ok (.aload_n 0, 1) := dk_42 (dk_at dksX3_tickOn_9 5 rfl rfl)
theorem dX3_tickOn_217 : decode cX3_tickOn 217 = .ok (.getfield 22, 3) := dk_180 0 22 (dk_at dksX3_tickOn_9 6 rfl rfl)
theorem dX3_tickOn_220 : decode cX3_tickOn 220 = .ok (.iconst 4, 1) := dk_7 (dk_at dksX3_tickOn_9 9 rfl rfl)
theorem dX3_tickOn_221 : decode cX3_tickOn 221 = .ok (.iaload, 1) := dk_46 (dk_at dksX3_tickOn_9 10 rfl rfl)
theorem dX3_tickOn_222 : decode cX3_tickOn 222 = .ok (.ifCond .ne 10, 3) := dk_154 0 10 (dk_at dksX3_tickOn_9 11 rfl rfl)
theorem dX3_tickOn_225 : decode cX3_tickOn 225 = .ok (.aload_n 0, 1) := dk_42 (dk_at dksX3_tickOn_9 14 rfl rfl)
theorem dX3_tickOn_226 : decode cX3_tickOn 226 = .ok (.getfield 22, 3) := dk_180 0 22 (dk_at dksX3_tickOn_9 15 rfl rfl)
theorem dX3_tickOn_229 : decode cX3_tickOn 229 = .ok (.iconst 3, 1) := dk_6 (dk_at dksX3_tickOn_9 18 rfl rfl)
theorem dX3_tickOn_230 : decode cX3_tickOn 230 = .ok (.iconst (-1), 1) := dk_2 (dk_at dksX3_tickOn_9 19 rfl rfl)
theorem dX3_tickOn_231 : decode cX3_tickOn 231 = .ok (.iastore, 1) := dk_79 (dk_at dksX3_tickOn_9 20 rfl rfl)
theorem dX3_tickOn_232 : decode cX3_tickOn 232 = .ok (.aload_n 0, 1) := dk_42 (dk_at dksX3_tickOn_9 21 rfl rfl)
theorem dX3_tickOn_233 : decode cX3_tickOn 233 = .ok (.getfield 22, 3) := dk_180 0 22 (dk_at dksX3_tickOn_10 0 rfl rfl)
theorem dX3_tickOn_236 : decode cX3_tickOn 236 = .ok (.iconst 0, 1) := dk_3 (dk_at dksX3_tickOn_10 3 rfl rfl)
theorem dX3_tickOn_237 : decode cX3_tickOn 237 = .ok (.dup2, 1) := dk_92 (dk_at dksX3_tickOn_10 4 rfl rfl)
theorem dX3_tickOn_238 : decode cX3_tickOn 238 = .ok (.iaload, 1) := dk_46 (dk_at dksX3_tickOn_10 5 rfl rfl)
theorem dX3_tickOn_239 : decode cX3_tickOn 239 = .ok (.iconst 1, 1) := dk_4 (dk_at dksX3_tickOn_10 6 rfl rfl)
theorem dX3_tickOn_240 : decode cX3_tickOn 240 = .ok (.iadd, 1) := dk_96 (dk_at dksX3_tickOn_10 7 rfl rfl)
theorem dX3_tickOn_241 : decode cX3_tickOn 241 = .ok (.iastore, 1) := dk_79 (dk_at dksX3_tickOn_10 8 rfl rfl)
theorem dX3_tickOn_242 : decode cX3_tickOn 242 = .ok (.iload_n 1, 1) := dk_27 (dk_at dksX3_tickOn_10 9 rfl rfl)
theorem dX3_tickOn_243 : decode cX3_tickOn 243 = .ok (.ireturn, 1) := dk_172 (dk_at dksX3_tickOn_10 10 rfl rfl)
abbrev cX3_carryOut : ByteArray := prog_14_method_16_code
def yX3_carryOut : MethodName := ⟨RX3, "carryOut", "(I)V"⟩
def dkwX3_carryOut_7 : List UInt8 := [42, 180, 0, 22, 6, 28, 79, 42, 180, 0, 22, 7, 29, 79, 177, 42, 180, 0, 22, 5, 3, 79, 177]
abbrev dktX3_carryOut_7 : List UInt8 := dkwX3_carryOut_7 ++ []
def dkwX3_carryOut_6 : List UInt8 := [180, 0, 22, 16, 7, 46, 104, 5, 96, 16, 20, 79, 42, 180, 0, 22, 16, 7, 92, 46, 4, 96, 79, 177]
abbrev dktX3_carryOut_6 : List UInt8 := dkwX3_carryOut_6 ++ dktX3_carryOut_7
def dkwX3_carryOut_5 : List UInt8 := [180, 0, 16, 6, 42, 180, 0, 22, 16, 7, 46, 104, 4, 96, 29, 79, 42, 180, 0, 16, 6, 42]
abbrev dktX3_carryOut_5 : List UInt8 := dkwX3_carryOut_5 ++ dktX3_carryOut_6
def dkwX3_carryOut_4 : List UInt8 := [16, 12, 160, 0, 4, 177, 42, 180, 0, 16, 6, 42, 180, 0, 22, 16, 7, 46, 104, 3, 96, 28, 79, 42]
abbrev dktX3_carryOut_4 : List UInt8 := dkwX3_carryOut_4 ++ dktX3_carryOut_5
def dkwX3_carryOut_3 : List UInt8 := [42, 28, 5, 29, 182, 0, 54, 177, 42, 180, 0, 22, 16, 6, 29, 79, 177, 42, 180, 0, 22, 16, 7, 46]
abbrev dktX3_carryOut_3 : List UInt8 := dkwX3_carryOut_3 ++ dktX3_carryOut_4
def dkwX3_carryOut_2 : List UInt8 := [170, 0, 0, 0, 0, 0, 0, 141, 0, 0, 0, 0, 0, 0, 0, 3, 0, 0, 0, 32, 0, 0, 0, 40, 0, 0, 0, 49, 0, 0, 0, 126]
abbrev dktX3_carryOut_2 : List UInt8 := dkwX3_carryOut_2 ++ dktX3_carryOut_3
def dkwX3_carryOut_1 : List UInt8 := [180, 0, 19, 7, 27, 104, 4, 96, 46]
abbrev dktX3_carryOut_1 : List UInt8 := dkwX3_carryOut_1 ++ dktX3_carryOut_2
def dkwX3_carryOut_0 : List UInt8 := [42, 180, 0, 19, 7, 27, 104, 5, 96, 46, 61, 42, 180, 0, 19, 7, 27, 104, 6, 96, 46, 62, 42]
abbrev dktX3_carryOut_0 : List UInt8 := dkwX3_carryOut_0 ++ dktX3_carryOut_1
theorem dksX3_carryOut_0 : cX3_carryOut.data.toList.drop 0 = dktX3_carryOut_0 := by decide +kernel
theorem dksX3_carryOut_1 : cX3_carryOut.data.toList.drop 23 = dktX3_carryOut_1 := dk_seg dksX3_carryOut_0 23 rfl rfl
theorem dksX3_carryOut_2 : cX3_carryOut.data.toList.drop 32 = dktX3_carryOut_2 := dk_seg dksX3_carryOut_1 9 rfl rfl
theorem dksX3_carryOut_3 : cX3_carryOut.data.toList.drop 64 = dktX3_carryOut_3 := dk_seg dksX3_carryOut_2 32 rfl rfl
theorem dksX3_carryOut_4 : cX3_carryOut.data.toList.drop 88 = dktX3_carryOut_4 := dk_seg dksX3_carryOut_3 24 rfl rfl
theorem dksX3_carryOut_5 : cX3_carryOut.data.toList.drop 112 = dktX3_carryOut_5 := dk_seg dksX3_carryOut_4 24 rfl rfl
theorem dksX3_carryOut_6 : cX3_carryOut.data.toList.drop 134 = dktX3_carryOut_6 := dk_seg dksX3_carryOut_5 22 rfl rfl
theorem dksX3_carryOut_7 : cX3_carryOut.data.toList.drop 158 = dktX3_carryOut_7 := dk_seg dksX3_carryOut_6 24 rfl rfl
theorem dX3_carryOut_0 : decode cX3_carryOut 0 = .ok (.aload_n 0, 1) := dk_42 (dk_at dksX3_carryOut_0 0 rfl rfl)
theorem dX3_carryOut_1 : decode cX3_carryOut 1 = .ok (.getfield 19, 3) := dk_180 0 19 (dk_at dksX3_carryOut_0 1 rfl rfl)
theorem dX3_carryOut_4 : decode cX3_carryOut 4 = .ok (.iconst 4, 1) := dk_7 (dk_at dksX3_carryOut_0 4 rfl rfl)
theorem dX3_carryOut_5 : decode cX3_carryOut 5 = .ok (.iload_n 1, 1) := dk_27 (dk_at dksX3_carryOut_0 5 rfl rfl)
theorem dX3_carryOut_6 : decode cX3_carryOut 6 = .ok (.imul, 1) := dk_104 (dk_at dksX3_carryOut_0 6 rfl rfl)
theorem dX3_carryOut_7 : decode cX3_carryOut 7 = .ok (.iconst 2, 1) := dk_5 (dk_at dksX3_carryOut_0 7 rfl rfl)
theorem dX3_carryOut_8 : decode cX3_carryOut 8 = .ok (.iadd, 1) := dk_96 (dk_at dksX3_carryOut_0 8 rfl rfl)
theorem dX3_carryOut_9 : decode cX3_carryOut 9 = .ok (.iaload, 1) := dk_46 (dk_at dksX3_carryOut_0 9 rfl rfl)
theorem dX3_carryOut_10 : decode cX3_carryOut 10 = .ok (.istore_n 2, 1) := dk_61 (dk_at dksX3_carryOut_0 10 rfl rfl)
theorem dX3_carryOut_11 : decode cX3_carryOut 11 = .ok (.aload_n 0, 1) := dk_42 (dk_at dksX3_carryOut_0 11 rfl rfl)
theorem dX3_carryOut_12 : decode cX3_carryOut 12 = .ok (.getfield 19, 3) := dk_180 0 19 (dk_at dksX3_carryOut_0 12 rfl rfl)
theorem dX3_carryOut_15 : decode cX3_carryOut 15 = .ok (.iconst 4, 1) := dk_7 (dk_at dksX3_carryOut_0 15 rfl rfl)
theorem dX3_carryOut_16 : decode cX3_carryOut 16 = .ok (.iload_n 1, 1) := dk_27 (dk_at dksX3_carryOut_0 16 rfl rfl)
theorem dX3_carryOut_17 : decode cX3_carryOut 17 = .ok (.imul, 1) := dk_104 (dk_at dksX3_carryOut_0 17 rfl rfl)
theorem dX3_carryOut_18 : decode cX3_carryOut 18 = .ok (.iconst 3, 1) := dk_6 (dk_at dksX3_carryOut_0 18 rfl rfl)
theorem dX3_carryOut_19 : decode cX3_carryOut 19 = .ok (.iadd, 1) := dk_96 (dk_at dksX3_carryOut_0 19 rfl rfl)
theorem dX3_carryOut_20 : decode cX3_carryOut 20 = .ok (.iaload, 1) := dk_46 (dk_at dksX3_carryOut_0 20 rfl rfl)
theorem dX3_carryOut_21 : decode cX3_carryOut 21 = .ok (.istore_n 3, 1) := dk_62 (dk_at dksX3_carryOut_0 21 rfl rfl)
theorem dX3_carryOut_22 : decode cX3_carryOut 22 = .ok (.aload_n 0, 1) := dk_42 (dk_at dksX3_carryOut_0 22 rfl rfl)
theorem dX3_carryOut_23 : decode cX3_carryOut 23 = .ok (.getfield 19, 3) := dk_180 0 19 (dk_at dksX3_carryOut_1 0 rfl rfl)
theorem dX3_carryOut_26 : decode cX3_carryOut 26 = .ok (.iconst 4, 1) := dk_7 (dk_at dksX3_carryOut_1 3 rfl rfl)
theorem dX3_carryOut_27 : decode cX3_carryOut 27 = .ok (.iload_n 1, 1) := dk_27 (dk_at dksX3_carryOut_1 4 rfl rfl)
theorem dX3_carryOut_28 : decode cX3_carryOut 28 = .ok (.imul, 1) := dk_104 (dk_at dksX3_carryOut_1 5 rfl rfl)
theorem dX3_carryOut_29 : decode cX3_carryOut 29 = .ok (.iconst 1, 1) := dk_4 (dk_at dksX3_carryOut_1 6 rfl rfl)
theorem dX3_carryOut_30 : decode cX3_carryOut 30 = .ok (.iadd, 1) := dk_96 (dk_at dksX3_carryOut_1 7 rfl rfl)
theorem dX3_carryOut_31 : decode cX3_carryOut 31 = .ok (.iaload, 1) := dk_46 (dk_at dksX3_carryOut_1 8 rfl rfl)
theorem dX3_carryOut_32 : decode cX3_carryOut 32 = .ok (.tableswitch 141 0 3 #[32, 40, 49, 126], 32) := by decide +kernel
theorem dX3_carryOut_64 : decode cX3_carryOut 64 = .ok (.aload_n 0, 1) := dk_42 (dk_at dksX3_carryOut_3 0 rfl rfl)
theorem dX3_carryOut_65 : decode cX3_carryOut 65 = .ok (.iload_n 2, 1) := dk_28 (dk_at dksX3_carryOut_3 1 rfl rfl)
theorem dX3_carryOut_66 : decode cX3_carryOut 66 = .ok (.iconst 2, 1) := dk_5 (dk_at dksX3_carryOut_3 2 rfl rfl)
theorem dX3_carryOut_67 : decode cX3_carryOut 67 = .ok (.iload_n 3, 1) := dk_29 (dk_at dksX3_carryOut_3 3 rfl rfl)
theorem dX3_carryOut_68 : decode cX3_carryOut 68 = .ok (.invokevirtual 54, 3) := dk_182 0 54 (dk_at dksX3_carryOut_3 4 rfl rfl)
theorem dX3_carryOut_71 : decode cX3_carryOut 71 = .ok (.return_, 1) := dk_177 (dk_at dksX3_carryOut_3 7 rfl rfl)
theorem dX3_carryOut_72 : decode cX3_carryOut 72 = .ok (.aload_n 0, 1) := dk_42 (dk_at dksX3_carryOut_3 8 rfl rfl)
theorem dX3_carryOut_73 : decode cX3_carryOut 73 = .ok (.getfield 22, 3) := dk_180 0 22 (dk_at dksX3_carryOut_3 9 rfl rfl)
theorem dX3_carryOut_76 : decode cX3_carryOut 76 = .ok (.bipush 6, 2) := dk_16 6 (dk_at dksX3_carryOut_3 12 rfl rfl)
theorem dX3_carryOut_78 : decode cX3_carryOut 78 = .ok (.iload_n 3, 1) := dk_29 (dk_at dksX3_carryOut_3 14 rfl rfl)
theorem dX3_carryOut_79 : decode cX3_carryOut 79 = .ok (.iastore, 1) := dk_79 (dk_at dksX3_carryOut_3 15 rfl rfl)
theorem dX3_carryOut_80 : decode cX3_carryOut 80 = .ok (.return_, 1) := dk_177 (dk_at dksX3_carryOut_3 16 rfl rfl)
theorem dX3_carryOut_81 : decode cX3_carryOut 81 = .ok (.aload_n 0, 1) := dk_42 (dk_at dksX3_carryOut_3 17 rfl rfl)
theorem dX3_carryOut_82 : decode cX3_carryOut 82 = .ok (.getfield 22, 3) := dk_180 0 22 (dk_at dksX3_carryOut_3 18 rfl rfl)
theorem dX3_carryOut_85 : decode cX3_carryOut 85 = .ok (.bipush 7, 2) := dk_16 7 (dk_at dksX3_carryOut_3 21 rfl rfl)
theorem dX3_carryOut_87 : decode cX3_carryOut 87 = .ok (.iaload, 1) := dk_46 (dk_at dksX3_carryOut_3 23 rfl rfl)
theorem dX3_carryOut_88 : decode cX3_carryOut 88 = .ok (.bipush 12, 2) := dk_16 12 (dk_at dksX3_carryOut_4 0 rfl rfl)
theorem dX3_carryOut_90 : decode cX3_carryOut 90 = .ok (.if_icmp .ne 4, 3) := dk_160 0 4 (dk_at dksX3_carryOut_4 2 rfl rfl)
theorem dX3_carryOut_93 : decode cX3_carryOut 93 = .ok (.return_, 1) := dk_177 (dk_at dksX3_carryOut_4 5 rfl rfl)
theorem dX3_carryOut_94 : decode cX3_carryOut 94 = .ok (.aload_n 0, 1) := dk_42 (dk_at dksX3_carryOut_4 6 rfl rfl)
theorem dX3_carryOut_95 : decode cX3_carryOut 95 = .ok (.getfield 16, 3) := dk_180 0 16 (dk_at dksX3_carryOut_4 7 rfl rfl)
theorem dX3_carryOut_98 : decode cX3_carryOut 98 = .ok (.iconst 3, 1) := dk_6 (dk_at dksX3_carryOut_4 10 rfl rfl)
theorem dX3_carryOut_99 : decode cX3_carryOut 99 = .ok (.aload_n 0, 1) := dk_42 (dk_at dksX3_carryOut_4 11 rfl rfl)
theorem dX3_carryOut_100 : decode cX3_carryOut 100 = .ok (.getfield 22, 3) := dk_180 0 22 (dk_at dksX3_carryOut_4 12 rfl rfl)
theorem dX3_carryOut_103 : decode cX3_carryOut 103 = .ok (.bipush 7, 2) := dk_16 7 (dk_at dksX3_carryOut_4 15 rfl rfl)
theorem dX3_carryOut_105 : decode cX3_carryOut 105 = .ok (.iaload, 1) := dk_46 (dk_at dksX3_carryOut_4 17 rfl rfl)
theorem dX3_carryOut_106 : decode cX3_carryOut 106 = .ok (.imul, 1) := dk_104 (dk_at dksX3_carryOut_4 18 rfl rfl)
theorem dX3_carryOut_107 : decode cX3_carryOut 107 = .ok (.iconst 0, 1) := dk_3 (dk_at dksX3_carryOut_4 19 rfl rfl)
theorem dX3_carryOut_108 : decode cX3_carryOut 108 = .ok (.iadd, 1) := dk_96 (dk_at dksX3_carryOut_4 20 rfl rfl)
theorem dX3_carryOut_109 : decode cX3_carryOut 109 = .ok (.iload_n 2, 1) := dk_28 (dk_at dksX3_carryOut_4 21 rfl rfl)
theorem dX3_carryOut_110 : decode cX3_carryOut 110 = .ok (.iastore, 1) := dk_79 (dk_at dksX3_carryOut_4 22 rfl rfl)
theorem dX3_carryOut_111 : decode cX3_carryOut 111 = .ok (.aload_n 0, 1) := dk_42 (dk_at dksX3_carryOut_4 23 rfl rfl)
theorem dX3_carryOut_112 : decode cX3_carryOut 112 = .ok (.getfield 16, 3) := dk_180 0 16 (dk_at dksX3_carryOut_5 0 rfl rfl)
theorem dX3_carryOut_115 : decode cX3_carryOut 115 = .ok (.iconst 3, 1) := dk_6 (dk_at dksX3_carryOut_5 3 rfl rfl)
theorem dX3_carryOut_116 : decode cX3_carryOut 116 = .ok (.aload_n 0, 1) := dk_42 (dk_at dksX3_carryOut_5 4 rfl rfl)
theorem dX3_carryOut_117 : decode cX3_carryOut 117 = .ok (.getfield 22, 3) := dk_180 0 22 (dk_at dksX3_carryOut_5 5 rfl rfl)
theorem dX3_carryOut_120 : decode cX3_carryOut 120 = .ok (.bipush 7, 2) := dk_16 7 (dk_at dksX3_carryOut_5 8 rfl rfl)
theorem dX3_carryOut_122 : decode cX3_carryOut 122 = .ok (.iaload, 1) := dk_46 (dk_at dksX3_carryOut_5 10 rfl rfl)
theorem dX3_carryOut_123 : decode cX3_carryOut 123 = .ok (.imul, 1) := dk_104 (dk_at dksX3_carryOut_5 11 rfl rfl)
theorem dX3_carryOut_124 : decode cX3_carryOut 124 = .ok (.iconst 1, 1) := dk_4 (dk_at dksX3_carryOut_5 12 rfl rfl)
theorem dX3_carryOut_125 : decode cX3_carryOut 125 = .ok (.iadd, 1) := dk_96 (dk_at dksX3_carryOut_5 13 rfl rfl)
theorem dX3_carryOut_126 : decode cX3_carryOut 126 = .ok (.iload_n 3, 1) := dk_29 (dk_at dksX3_carryOut_5 14 rfl rfl)
theorem dX3_carryOut_127 : decode cX3_carryOut 127 = .ok (.iastore, 1) := dk_79 (dk_at dksX3_carryOut_5 15 rfl rfl)
theorem dX3_carryOut_128 : decode cX3_carryOut 128 = .ok (.aload_n 0, 1) := dk_42 (dk_at dksX3_carryOut_5 16 rfl rfl)
theorem dX3_carryOut_129 : decode cX3_carryOut 129 = .ok (.getfield 16, 3) := dk_180 0 16 (dk_at dksX3_carryOut_5 17 rfl rfl)
theorem dX3_carryOut_132 : decode cX3_carryOut 132 = .ok (.iconst 3, 1) := dk_6 (dk_at dksX3_carryOut_5 20 rfl rfl)
theorem dX3_carryOut_133 : decode cX3_carryOut 133 = .ok (.aload_n 0, 1) := dk_42 (dk_at dksX3_carryOut_5 21 rfl rfl)
theorem dX3_carryOut_134 : decode cX3_carryOut 134 = .ok (.getfield 22, 3) := dk_180 0 22 (dk_at dksX3_carryOut_6 0 rfl rfl)
theorem dX3_carryOut_137 : decode cX3_carryOut 137 = .ok (.bipush 7, 2) := dk_16 7 (dk_at dksX3_carryOut_6 3 rfl rfl)
theorem dX3_carryOut_139 : decode cX3_carryOut 139 = .ok (.iaload, 1) := dk_46 (dk_at dksX3_carryOut_6 5 rfl rfl)
theorem dX3_carryOut_140 : decode cX3_carryOut 140 = .ok (.imul, 1) := dk_104 (dk_at dksX3_carryOut_6 6 rfl rfl)
theorem dX3_carryOut_141 : decode cX3_carryOut 141 = .ok (.iconst 2, 1) := dk_5 (dk_at dksX3_carryOut_6 7 rfl rfl)
theorem dX3_carryOut_142 : decode cX3_carryOut 142 = .ok (.iadd, 1) := dk_96 (dk_at dksX3_carryOut_6 8 rfl rfl)
theorem dX3_carryOut_143 : decode cX3_carryOut 143 = .ok (.bipush 20, 2) := dk_16 20 (dk_at dksX3_carryOut_6 9 rfl rfl)
theorem dX3_carryOut_145 : decode cX3_carryOut 145 = .ok (.iastore, 1) := dk_79 (dk_at dksX3_carryOut_6 11 rfl rfl)
theorem dX3_carryOut_146 : decode cX3_carryOut 146 = .ok (.aload_n 0, 1) := dk_42 (dk_at dksX3_carryOut_6 12 rfl rfl)
theorem dX3_carryOut_147 : decode cX3_carryOut 147 = .ok (.getfield 22, 3) := dk_180 0 22 (dk_at dksX3_carryOut_6 13 rfl rfl)
theorem dX3_carryOut_150 : decode cX3_carryOut 150 = .ok (.bipush 7, 2) := dk_16 7 (dk_at dksX3_carryOut_6 16 rfl rfl)
theorem dX3_carryOut_152 : decode cX3_carryOut 152 = .ok (.dup2, 1) := dk_92 (dk_at dksX3_carryOut_6 18 rfl rfl)
theorem dX3_carryOut_153 : decode cX3_carryOut 153 = .ok (.iaload, 1) := dk_46 (dk_at dksX3_carryOut_6 19 rfl rfl)
theorem dX3_carryOut_154 : decode cX3_carryOut 154 = .ok (.iconst 1, 1) := dk_4 (dk_at dksX3_carryOut_6 20 rfl rfl)
theorem dX3_carryOut_155 : decode cX3_carryOut 155 = .ok (.iadd, 1) := dk_96 (dk_at dksX3_carryOut_6 21 rfl rfl)
theorem dX3_carryOut_156 : decode cX3_carryOut 156 = .ok (.iastore, 1) := dk_79 (dk_at dksX3_carryOut_6 22 rfl rfl)
theorem dX3_carryOut_157 : decode cX3_carryOut 157 = .ok (.return_, 1) := dk_177 (dk_at dksX3_carryOut_6 23 rfl rfl)
theorem dX3_carryOut_158 : decode cX3_carryOut 158 = .ok (.aload_n 0, 1) := dk_42 (dk_at dksX3_carryOut_7 0 rfl rfl)
theorem dX3_carryOut_159 : decode cX3_carryOut 159 = .ok (.getfield 22, 3) := dk_180 0 22 (dk_at dksX3_carryOut_7 1 rfl rfl)
theorem dX3_carryOut_162 : decode cX3_carryOut 162 = .ok (.iconst 3, 1) := dk_6 (dk_at dksX3_carryOut_7 4 rfl rfl)
theorem dX3_carryOut_163 : decode cX3_carryOut 163 = .ok (.iload_n 2, 1) := dk_28 (dk_at dksX3_carryOut_7 5 rfl rfl)
theorem dX3_carryOut_164 : decode cX3_carryOut 164 = .ok (.iastore, 1) := dk_79 (dk_at dksX3_carryOut_7 6 rfl rfl)
theorem dX3_carryOut_165 : decode cX3_carryOut 165 = .ok (.aload_n 0, 1) := dk_42 (dk_at dksX3_carryOut_7 7 rfl rfl)
theorem dX3_carryOut_166 : decode cX3_carryOut 166 = .ok (.getfield 22, 3) := dk_180 0 22 (dk_at dksX3_carryOut_7 8 rfl rfl)
theorem dX3_carryOut_169 : decode cX3_carryOut 169 = .ok (.iconst 4, 1) := dk_7 (dk_at dksX3_carryOut_7 11 rfl rfl)
theorem dX3_carryOut_170 : decode cX3_carryOut 170 = .ok (.iload_n 3, 1) := dk_29 (dk_at dksX3_carryOut_7 12 rfl rfl)
theorem dX3_carryOut_171 : decode cX3_carryOut 171 = .ok (.iastore, 1) := dk_79 (dk_at dksX3_carryOut_7 13 rfl rfl)
theorem dX3_carryOut_172 : decode cX3_carryOut 172 = .ok (.return_, 1) := dk_177 (dk_at dksX3_carryOut_7 14 rfl rfl)
theorem dX3_carryOut_173 : decode cX3_carryOut 173 = .ok (.aload_n 0, 1) := dk_42 (dk_at dksX3_carryOut_7 15 rfl rfl)
theorem dX3_carryOut_174 : decode cX3_carryOut 174 = .ok (.getfield 22, 3) := dk_180 0 22 (dk_at dksX3_carryOut_7 16 rfl rfl)
theorem dX3_carryOut_177 : decode cX3_carryOut 177 = .ok (.iconst 2, 1) := dk_5 (dk_at dksX3_carryOut_7 19 rfl rfl)
theorem dX3_carryOut_178 : decode cX3_carryOut 178 = .ok (.iconst 0, 1) := dk_3 (dk_at dksX3_carryOut_7 20 rfl rfl)
theorem dX3_carryOut_179 : decode cX3_carryOut 179 = .ok (.iastore, 1) := dk_79 (dk_at dksX3_carryOut_7 21 rfl rfl)
theorem dX3_carryOut_180 : decode cX3_carryOut 180 = .ok (.return_, 1) := dk_177 (dk_at dksX3_carryOut_7 22 rfl rfl)
abbrev cX3_glow : ByteArray := prog_14_method_18_code
def yX3_glow : MethodName := ⟨RX3, "glow", "(I)V"⟩
def dkwX3_glow_3 : List UInt8 := [21, 4, 154, 0, 7, 3, 167, 0, 4, 29, 182, 0, 54, 177]
abbrev dktX3_glow_3 : List UInt8 := dkwX3_glow_3 ++ []
def dkwX3_glow_2 : List UInt8 := [182, 0, 50, 29, 16, 10, 108, 100, 184, 0, 72, 54, 4, 42, 27, 7, 21, 4, 182, 0, 54, 42, 27, 4]
abbrev dktX3_glow_2 : List UInt8 := dkwX3_glow_2 ++ dktX3_glow_3
def dkwX3_glow_1 : List UInt8 := [182, 0, 50, 116, 42, 27, 6, 182, 0, 50, 28, 184, 0, 67, 184, 0, 72, 96, 62, 3, 42, 27, 7]
abbrev dktX3_glow_1 : List UInt8 := dkwX3_glow_1 ++ dktX3_glow_2
def dkwX3_glow_0 : List UInt8 := [42, 27, 5, 182, 0, 50, 42, 27, 4, 182, 0, 50, 100, 61, 42, 27, 4, 182, 0, 50, 42, 27, 6]
abbrev dktX3_glow_0 : List UInt8 := dkwX3_glow_0 ++ dktX3_glow_1
theorem dksX3_glow_0 : cX3_glow.data.toList.drop 0 = dktX3_glow_0 := by decide +kernel
theorem dksX3_glow_1 : cX3_glow.data.toList.drop 23 = dktX3_glow_1 := dk_seg dksX3_glow_0 23 rfl rfl
theorem dksX3_glow_2 : cX3_glow.data.toList.drop 46 = dktX3_glow_2 := dk_seg dksX3_glow_1 23 rfl rfl
theorem dksX3_glow_3 : cX3_glow.data.toList.drop 70 = dktX3_glow_3 := dk_seg dksX3_glow_2 24 rfl rfl
theorem dX3_glow_0 : decode cX3_glow 0 = .ok (.aload_n 0, 1) := dk_42 (dk_at dksX3_glow_0 0 rfl rfl)
theorem dX3_glow_1 : decode cX3_glow 1 = .ok (.iload_n 1, 1) := dk_27 (dk_at dksX3_glow_0 1 rfl rfl)
theorem dX3_glow_2 : decode cX3_glow 2 = .ok (.iconst 2, 1) := dk_5 (dk_at dksX3_glow_0 2 rfl rfl)
theorem dX3_glow_3 : decode cX3_glow 3 = .ok (.invokevirtual 50, 3) := dk_182 0 50 (dk_at dksX3_glow_0 3 rfl rfl)
theorem dX3_glow_6 : decode cX3_glow 6 = .ok (.aload_n 0, 1) := dk_42 (dk_at dksX3_glow_0 6 rfl rfl)
theorem dX3_glow_7 : decode cX3_glow 7 = .ok (.iload_n 1, 1) := dk_27 (dk_at dksX3_glow_0 7 rfl rfl)
theorem dX3_glow_8 : decode cX3_glow 8 = .ok (.iconst 1, 1) := dk_4 (dk_at dksX3_glow_0 8 rfl rfl)
theorem dX3_glow_9 : decode cX3_glow 9 = .ok (.invokevirtual 50, 3) := dk_182 0 50 (dk_at dksX3_glow_0 9 rfl rfl)
theorem dX3_glow_12 : decode cX3_glow 12 = .ok (.isub, 1) := dk_100 (dk_at dksX3_glow_0 12 rfl rfl)
theorem dX3_glow_13 : decode cX3_glow 13 = .ok (.istore_n 2, 1) := dk_61 (dk_at dksX3_glow_0 13 rfl rfl)
theorem dX3_glow_14 : decode cX3_glow 14 = .ok (.aload_n 0, 1) := dk_42 (dk_at dksX3_glow_0 14 rfl rfl)
theorem dX3_glow_15 : decode cX3_glow 15 = .ok (.iload_n 1, 1) := dk_27 (dk_at dksX3_glow_0 15 rfl rfl)
theorem dX3_glow_16 : decode cX3_glow 16 = .ok (.iconst 1, 1) := dk_4 (dk_at dksX3_glow_0 16 rfl rfl)
theorem dX3_glow_17 : decode cX3_glow 17 = .ok (.invokevirtual 50, 3) := dk_182 0 50 (dk_at dksX3_glow_0 17 rfl rfl)
theorem dX3_glow_20 : decode cX3_glow 20 = .ok (.aload_n 0, 1) := dk_42 (dk_at dksX3_glow_0 20 rfl rfl)
theorem dX3_glow_21 : decode cX3_glow 21 = .ok (.iload_n 1, 1) := dk_27 (dk_at dksX3_glow_0 21 rfl rfl)
theorem dX3_glow_22 : decode cX3_glow 22 = .ok (.iconst 3, 1) := dk_6 (dk_at dksX3_glow_0 22 rfl rfl)
theorem dX3_glow_23 : decode cX3_glow 23 = .ok (.invokevirtual 50, 3) := dk_182 0 50 (dk_at dksX3_glow_1 0 rfl rfl)
theorem dX3_glow_26 : decode cX3_glow 26 = .ok (.ineg, 1) := dk_116 (dk_at dksX3_glow_1 3 rfl rfl)
theorem dX3_glow_27 : decode cX3_glow 27 = .ok (.aload_n 0, 1) := dk_42 (dk_at dksX3_glow_1 4 rfl rfl)
theorem dX3_glow_28 : decode cX3_glow 28 = .ok (.iload_n 1, 1) := dk_27 (dk_at dksX3_glow_1 5 rfl rfl)
theorem dX3_glow_29 : decode cX3_glow 29 = .ok (.iconst 3, 1) := dk_6 (dk_at dksX3_glow_1 6 rfl rfl)
theorem dX3_glow_30 : decode cX3_glow 30 = .ok (.invokevirtual 50, 3) := dk_182 0 50 (dk_at dksX3_glow_1 7 rfl rfl)
theorem dX3_glow_33 : decode cX3_glow 33 = .ok (.iload_n 2, 1) := dk_28 (dk_at dksX3_glow_1 10 rfl rfl)
theorem dX3_glow_34 : decode cX3_glow 34 = .ok (.invokestatic 67, 3) := dk_184 0 67 (dk_at dksX3_glow_1 11 rfl rfl)
theorem dX3_glow_37 : decode cX3_glow 37 = .ok (.invokestatic 72, 3) := dk_184 0 72 (dk_at dksX3_glow_1 14 rfl rfl)
theorem dX3_glow_40 : decode cX3_glow 40 = .ok (.iadd, 1) := dk_96 (dk_at dksX3_glow_1 17 rfl rfl)
theorem dX3_glow_41 : decode cX3_glow 41 = .ok (.istore_n 3, 1) := dk_62 (dk_at dksX3_glow_1 18 rfl rfl)
theorem dX3_glow_42 : decode cX3_glow 42 = .ok (.iconst 0, 1) := dk_3 (dk_at dksX3_glow_1 19 rfl rfl)
theorem dX3_glow_43 : decode cX3_glow 43 = .ok (.aload_n 0, 1) := dk_42 (dk_at dksX3_glow_1 20 rfl rfl)
theorem dX3_glow_44 : decode cX3_glow 44 = .ok (.iload_n 1, 1) := dk_27 (dk_at dksX3_glow_1 21 rfl rfl)
theorem dX3_glow_45 : decode cX3_glow 45 = .ok (.iconst 4, 1) := dk_7 (dk_at dksX3_glow_1 22 rfl rfl)
theorem dX3_glow_46 : decode cX3_glow 46 = .ok (.invokevirtual 50, 3) := dk_182 0 50 (dk_at dksX3_glow_2 0 rfl rfl)
theorem dX3_glow_49 : decode cX3_glow 49 = .ok (.iload_n 3, 1) := dk_29 (dk_at dksX3_glow_2 3 rfl rfl)
theorem dX3_glow_50 : decode cX3_glow 50 = .ok (.bipush 10, 2) := dk_16 10 (dk_at dksX3_glow_2 4 rfl rfl)
theorem dX3_glow_52 : decode cX3_glow 52 = .ok (.idiv, 1) := dk_108 (dk_at dksX3_glow_2 6 rfl rfl)
theorem dX3_glow_53 : decode cX3_glow 53 = .ok (.isub, 1) := dk_100 (dk_at dksX3_glow_2 7 rfl rfl)
theorem dX3_glow_54 : decode cX3_glow 54 = .ok (.invokestatic 72, 3) := dk_184 0 72 (dk_at dksX3_glow_2 8 rfl rfl)
theorem dX3_glow_57 : decode cX3_glow 57 = .ok (.istore 4, 2) := dk_54 4 (dk_at dksX3_glow_2 11 rfl rfl)
theorem dX3_glow_59 : decode cX3_glow 59 = .ok (.aload_n 0, 1) := dk_42 (dk_at dksX3_glow_2 13 rfl rfl)
theorem dX3_glow_60 : decode cX3_glow 60 = .ok (.iload_n 1, 1) := dk_27 (dk_at dksX3_glow_2 14 rfl rfl)
theorem dX3_glow_61 : decode cX3_glow 61 = .ok (.iconst 4, 1) := dk_7 (dk_at dksX3_glow_2 15 rfl rfl)
theorem dX3_glow_62 : decode cX3_glow 62 = .ok (.iload 4, 2) := dk_21 4 (dk_at dksX3_glow_2 16 rfl rfl)
theorem dX3_glow_64 : decode cX3_glow 64 = .ok (.invokevirtual 54, 3) := dk_182 0 54 (dk_at dksX3_glow_2 18 rfl rfl)
theorem dX3_glow_67 : decode cX3_glow 67 = .ok (.aload_n 0, 1) := dk_42 (dk_at dksX3_glow_2 21 rfl rfl)
theorem dX3_glow_68 : decode cX3_glow 68 = .ok (.iload_n 1, 1) := dk_27 (dk_at dksX3_glow_2 22 rfl rfl)
theorem dX3_glow_69 : decode cX3_glow 69 = .ok (.iconst 1, 1) := dk_4 (dk_at dksX3_glow_2 23 rfl rfl)
theorem dX3_glow_70 : decode cX3_glow 70 = .ok (.iload 4, 2) := dk_21 4 (dk_at dksX3_glow_3 0 rfl rfl)
theorem dX3_glow_72 : decode cX3_glow 72 = .ok (.ifCond .ne 7, 3) := dk_154 0 7 (dk_at dksX3_glow_3 2 rfl rfl)
theorem dX3_glow_75 : decode cX3_glow 75 = .ok (.iconst 0, 1) := dk_3 (dk_at dksX3_glow_3 5 rfl rfl)
theorem dX3_glow_76 : decode cX3_glow 76 = .ok (.goto 4, 3) := dk_167 0 4 (dk_at dksX3_glow_3 6 rfl rfl)
theorem dX3_glow_79 : decode cX3_glow 79 = .ok (.iload_n 3, 1) := dk_29 (dk_at dksX3_glow_3 9 rfl rfl)
theorem dX3_glow_80 : decode cX3_glow 80 = .ok (.invokevirtual 54, 3) := dk_182 0 54 (dk_at dksX3_glow_3 10 rfl rfl)
theorem dX3_glow_83 : decode cX3_glow 83 = .ok (.return_, 1) := dk_177 (dk_at dksX3_glow_3 13 rfl rfl)
abbrev cX3_round : ByteArray := prog_14_method_17_code
def yX3_round : MethodName := ⟨RX3, "round", "(I)I"⟩
def dkwX3_round_0 : List UInt8 := [26, 17, 1, 104, 96, 17, 1, 104, 112, 172]
abbrev dktX3_round_0 : List UInt8 := dkwX3_round_0 ++ []
theorem dksX3_round_0 : cX3_round.data.toList.drop 0 = dktX3_round_0 := by decide +kernel
theorem dX3_round_0 : decode cX3_round 0 = .ok (.iload_n 0, 1) := dk_26 (dk_at dksX3_round_0 0 rfl rfl)
theorem dX3_round_1 : decode cX3_round 1 = .ok (.sipush 360, 3) := dk_17 1 104 (dk_at dksX3_round_0 1 rfl rfl)
theorem dX3_round_4 : decode cX3_round 4 = .ok (.iadd, 1) := dk_96 (dk_at dksX3_round_0 4 rfl rfl)
theorem dX3_round_5 : decode cX3_round 5 = .ok (.sipush 360, 3) := dk_17 1 104 (dk_at dksX3_round_0 5 rfl rfl)
theorem dX3_round_8 : decode cX3_round 8 = .ok (.irem, 1) := dk_112 (dk_at dksX3_round_0 8 rfl rfl)
theorem dX3_round_9 : decode cX3_round 9 = .ok (.ireturn, 1) := dk_172 (dk_at dksX3_round_0 9 rfl rfl)
abbrev cX3_told : ByteArray := prog_14_method_22_code
def yX3_told : MethodName := ⟨RX3, "told", "(II)I"⟩
def dkwX3_told_1 : List UInt8 := [28, 182, 0, 50, 167, 0, 8, 42, 4, 182, 0, 36, 172]
abbrev dktX3_told_1 : List UInt8 := dkwX3_told_1 ++ []
def dkwX3_told_0 : List UInt8 := [42, 3, 181, 0, 25, 42, 27, 182, 0, 46, 153, 0, 21, 28, 3, 7, 184, 0, 32, 153, 0, 12, 42, 27]
abbrev dktX3_told_0 : List UInt8 := dkwX3_told_0 ++ dktX3_told_1
theorem dksX3_told_0 : cX3_told.data.toList.drop 0 = dktX3_told_0 := by decide +kernel
theorem dksX3_told_1 : cX3_told.data.toList.drop 24 = dktX3_told_1 := dk_seg dksX3_told_0 24 rfl rfl
theorem dX3_told_0 : decode cX3_told 0 = .ok (.aload_n 0, 1) := dk_42 (dk_at dksX3_told_0 0 rfl rfl)
theorem dX3_told_1 : decode cX3_told 1 = .ok (.iconst 0, 1) := dk_3 (dk_at dksX3_told_0 1 rfl rfl)
theorem dX3_told_2 : decode cX3_told 2 = .ok (.putfield 25, 3) := dk_181 0 25 (dk_at dksX3_told_0 2 rfl rfl)
theorem dX3_told_5 : decode cX3_told 5 = .ok (.aload_n 0, 1) := dk_42 (dk_at dksX3_told_0 5 rfl rfl)
theorem dX3_told_6 : decode cX3_told 6 = .ok (.iload_n 1, 1) := dk_27 (dk_at dksX3_told_0 6 rfl rfl)
theorem dX3_told_7 : decode cX3_told 7 = .ok (.invokevirtual 46, 3) := dk_182 0 46 (dk_at dksX3_told_0 7 rfl rfl)
theorem dX3_told_10 : decode cX3_told 10 = .ok (.ifCond .eq 21, 3) := dk_153 0 21 (dk_at dksX3_told_0 10 rfl rfl)
theorem dX3_told_13 : decode cX3_told 13 = .ok (.iload_n 2, 1) := dk_28 (dk_at dksX3_told_0 13 rfl rfl)
theorem dX3_told_14 : decode cX3_told 14 = .ok (.iconst 0, 1) := dk_3 (dk_at dksX3_told_0 14 rfl rfl)
theorem dX3_told_15 : decode cX3_told 15 = .ok (.iconst 4, 1) := dk_7 (dk_at dksX3_told_0 15 rfl rfl)
theorem dX3_told_16 : decode cX3_told 16 = .ok (.invokestatic 32, 3) := dk_184 0 32 (dk_at dksX3_told_0 16 rfl rfl)
theorem dX3_told_19 : decode cX3_told 19 = .ok (.ifCond .eq 12, 3) := dk_153 0 12 (dk_at dksX3_told_0 19 rfl rfl)
theorem dX3_told_22 : decode cX3_told 22 = .ok (.aload_n 0, 1) := dk_42 (dk_at dksX3_told_0 22 rfl rfl)
theorem dX3_told_23 : decode cX3_told 23 = .ok (.iload_n 1, 1) := dk_27 (dk_at dksX3_told_0 23 rfl rfl)
theorem dX3_told_24 : decode cX3_told 24 = .ok (.iload_n 2, 1) := dk_28 (dk_at dksX3_told_1 0 rfl rfl)
theorem dX3_told_25 : decode cX3_told 25 = .ok (.invokevirtual 50, 3) := dk_182 0 50 (dk_at dksX3_told_1 1 rfl rfl)
theorem dX3_told_28 : decode cX3_told 28 = .ok (.goto 8, 3) := dk_167 0 8 (dk_at dksX3_told_1 4 rfl rfl)
theorem dX3_told_31 : decode cX3_told 31 = .ok (.aload_n 0, 1) := dk_42 (dk_at dksX3_told_1 7 rfl rfl)
theorem dX3_told_32 : decode cX3_told 32 = .ok (.iconst 1, 1) := dk_4 (dk_at dksX3_told_1 8 rfl rfl)
theorem dX3_told_33 : decode cX3_told 33 = .ok (.invokevirtual 36, 3) := dk_182 0 36 (dk_at dksX3_told_1 9 rfl rfl)
theorem dX3_told_36 : decode cX3_told 36 = .ok (.ireturn, 1) := dk_172 (dk_at dksX3_told_1 12 rfl rfl)
abbrev cX3_glare : ByteArray := prog_14_method_24_code
def yX3_glare : MethodName := ⟨RX3, "glare", "(I)I"⟩
def dkwX3_glare_1 : List UInt8 := [4, 182, 0, 36, 172]
abbrev dktX3_glare_1 : List UInt8 := dkwX3_glare_1 ++ []
def dkwX3_glare_0 : List UInt8 := [42, 3, 181, 0, 25, 27, 3, 16, 11, 184, 0, 32, 153, 0, 11, 42, 27, 182, 0, 92, 167, 0, 8, 42]
abbrev dktX3_glare_0 : List UInt8 := dkwX3_glare_0 ++ dktX3_glare_1
theorem dksX3_glare_0 : cX3_glare.data.toList.drop 0 = dktX3_glare_0 := by decide +kernel
theorem dksX3_glare_1 : cX3_glare.data.toList.drop 24 = dktX3_glare_1 := dk_seg dksX3_glare_0 24 rfl rfl
theorem dX3_glare_0 : decode cX3_glare 0 = .ok (.aload_n 0, 1) := dk_42 (dk_at dksX3_glare_0 0 rfl rfl)
theorem dX3_glare_1 : decode cX3_glare 1 = .ok (.iconst 0, 1) := dk_3 (dk_at dksX3_glare_0 1 rfl rfl)
theorem dX3_glare_2 : decode cX3_glare 2 = .ok (.putfield 25, 3) := dk_181 0 25 (dk_at dksX3_glare_0 2 rfl rfl)
theorem dX3_glare_5 : decode cX3_glare 5 = .ok (.iload_n 1, 1) := dk_27 (dk_at dksX3_glare_0 5 rfl rfl)
theorem dX3_glare_6 : decode cX3_glare 6 = .ok (.iconst 0, 1) := dk_3 (dk_at dksX3_glare_0 6 rfl rfl)
theorem dX3_glare_7 : decode cX3_glare 7 = .ok (.bipush 11, 2) := dk_16 11 (dk_at dksX3_glare_0 7 rfl rfl)
theorem dX3_glare_9 : decode cX3_glare 9 = .ok (.invokestatic 32, 3) := dk_184 0 32 (dk_at dksX3_glare_0 9 rfl rfl)
theorem dX3_glare_12 : decode cX3_glare 12 = .ok (.ifCond .eq 11, 3) := dk_153 0 11 (dk_at dksX3_glare_0 12 rfl rfl)
theorem dX3_glare_15 : decode cX3_glare 15 = .ok (.aload_n 0, 1) := dk_42 (dk_at dksX3_glare_0 15 rfl rfl)
theorem dX3_glare_16 : decode cX3_glare 16 = .ok (.iload_n 1, 1) := dk_27 (dk_at dksX3_glare_0 16 rfl rfl)
theorem dX3_glare_17 : decode cX3_glare 17 = .ok (.invokevirtual 92, 3) := dk_182 0 92 (dk_at dksX3_glare_0 17 rfl rfl)
theorem dX3_glare_20 : decode cX3_glare 20 = .ok (.goto 8, 3) := dk_167 0 8 (dk_at dksX3_glare_0 20 rfl rfl)
theorem dX3_glare_23 : decode cX3_glare 23 = .ok (.aload_n 0, 1) := dk_42 (dk_at dksX3_glare_0 23 rfl rfl)
theorem dX3_glare_24 : decode cX3_glare 24 = .ok (.iconst 1, 1) := dk_4 (dk_at dksX3_glare_1 0 rfl rfl)
theorem dX3_glare_25 : decode cX3_glare 25 = .ok (.invokevirtual 36, 3) := dk_182 0 36 (dk_at dksX3_glare_1 1 rfl rfl)
theorem dX3_glare_28 : decode cX3_glare 28 = .ok (.ireturn, 1) := dk_172 (dk_at dksX3_glare_1 4 rfl rfl)
abbrev cX3_glareOf : ByteArray := prog_14_method_23_code
def yX3_glareOf : MethodName := ⟨RX3, "glareOf", "(I)I"⟩
def dkwX3_glareOf_3 : List UInt8 := [132, 3, 1, 167, 255, 187, 28, 172]
abbrev dktX3_glareOf_3 : List UInt8 := dkwX3_glareOf_3 ++ []
def dkwX3_glareOf_2 : List UInt8 := [159, 0, 10, 21, 4, 16, 11, 160, 0, 14, 42, 29, 4, 182, 0, 50, 7, 108, 167, 0, 4, 3, 96, 61]
abbrev dktX3_glareOf_2 : List UInt8 := dkwX3_glareOf_2 ++ dktX3_glareOf_3
def dkwX3_glareOf_1 : List UInt8 := [16, 12, 112, 54, 4, 28, 21, 4, 154, 0, 12, 42, 29, 4, 182, 0, 50, 167, 0, 28, 21, 4, 4]
abbrev dktX3_glareOf_1 : List UInt8 := dkwX3_glareOf_1 ++ dktX3_glareOf_2
def dkwX3_glareOf_0 : List UInt8 := [3, 61, 3, 62, 29, 42, 180, 0, 29, 162, 0, 67, 42, 29, 3, 182, 0, 50, 27, 100, 16, 12, 96]
abbrev dktX3_glareOf_0 : List UInt8 := dkwX3_glareOf_0 ++ dktX3_glareOf_1
theorem dksX3_glareOf_0 : cX3_glareOf.data.toList.drop 0 = dktX3_glareOf_0 := by decide +kernel
theorem dksX3_glareOf_1 : cX3_glareOf.data.toList.drop 23 = dktX3_glareOf_1 := dk_seg dksX3_glareOf_0 23 rfl rfl
theorem dksX3_glareOf_2 : cX3_glareOf.data.toList.drop 46 = dktX3_glareOf_2 := dk_seg dksX3_glareOf_1 23 rfl rfl
theorem dksX3_glareOf_3 : cX3_glareOf.data.toList.drop 70 = dktX3_glareOf_3 := dk_seg dksX3_glareOf_2 24 rfl rfl
theorem dX3_glareOf_0 : decode cX3_glareOf 0 = .ok (.iconst 0, 1) := dk_3 (dk_at dksX3_glareOf_0 0 rfl rfl)
theorem dX3_glareOf_1 : decode cX3_glareOf 1 = .ok (.istore_n 2, 1) := dk_61 (dk_at dksX3_glareOf_0 1 rfl rfl)
theorem dX3_glareOf_2 : decode cX3_glareOf 2 = .ok (.iconst 0, 1) := dk_3 (dk_at dksX3_glareOf_0 2 rfl rfl)
theorem dX3_glareOf_3 : decode cX3_glareOf 3 = .ok (.istore_n 3, 1) := dk_62 (dk_at dksX3_glareOf_0 3 rfl rfl)
theorem dX3_glareOf_4 : decode cX3_glareOf 4 = .ok (.iload_n 3, 1) := dk_29 (dk_at dksX3_glareOf_0 4 rfl rfl)
theorem dX3_glareOf_5 : decode cX3_glareOf 5 = .ok (.aload_n 0, 1) := dk_42 (dk_at dksX3_glareOf_0 5 rfl rfl)
theorem dX3_glareOf_6 : decode cX3_glareOf 6 = .ok (.getfield 29, 3) := dk_180 0 29 (dk_at dksX3_glareOf_0 6 rfl rfl)
theorem dX3_glareOf_9 : decode cX3_glareOf 9 = .ok (.if_icmp .ge 67, 3) := dk_162 0 67 (dk_at dksX3_glareOf_0 9 rfl rfl)
theorem dX3_glareOf_12 : decode cX3_glareOf 12 = .ok (.aload_n 0, 1) := dk_42 (dk_at dksX3_glareOf_0 12 rfl rfl)
theorem dX3_glareOf_13 : decode cX3_glareOf 13 = .ok (.iload_n 3, 1) := dk_29 (dk_at dksX3_glareOf_0 13 rfl rfl)
theorem dX3_glareOf_14 : decode cX3_glareOf 14 = .ok (.iconst 0, 1) := dk_3 (dk_at dksX3_glareOf_0 14 rfl rfl)
theorem dX3_glareOf_15 : decode cX3_glareOf 15 = .ok (.invokevirtual 50, 3) := dk_182 0 50 (dk_at dksX3_glareOf_0 15 rfl rfl)
theorem dX3_glareOf_18 : decode cX3_glareOf 18 = .ok (.iload_n 1, 1) := dk_27 (dk_at dksX3_glareOf_0 18 rfl rfl)
theorem dX3_glareOf_19 : decode cX3_glareOf 19 = .ok (.isub, 1) := dk_100 (dk_at dksX3_glareOf_0 19 rfl rfl)
theorem dX3_glareOf_20 : decode cX3_glareOf 20 = .ok (.bipush 12, 2) := dk_16 12 (dk_at dksX3_glareOf_0 20 rfl rfl)
theorem dX3_glareOf_22 : decode cX3_glareOf 22 = .ok (.iadd, 1) := dk_96 (dk_at dksX3_glareOf_0 22 rfl rfl)
theorem dX3_glareOf_23 : decode cX3_glareOf 23 = .ok (.bipush 12, 2) := dk_16 12 (dk_at dksX3_glareOf_1 0 rfl rfl)
theorem dX3_glareOf_25 : decode cX3_glareOf 25 = .ok (.irem, 1) := dk_112 (dk_at dksX3_glareOf_1 2 rfl rfl)
theorem dX3_glareOf_26 : decode cX3_glareOf 26 = .ok (.istore 4, 2) := dk_54 4 (dk_at dksX3_glareOf_1 3 rfl rfl)
theorem dX3_glareOf_28 : decode cX3_glareOf 28 = .ok (.iload_n 2, 1) := dk_28 (dk_at dksX3_glareOf_1 5 rfl rfl)
theorem dX3_glareOf_29 : decode cX3_glareOf 29 = .ok (.iload 4, 2) := dk_21 4 (dk_at dksX3_glareOf_1 6 rfl rfl)
theorem dX3_glareOf_31 : decode cX3_glareOf 31 = .ok (.ifCond .ne 12, 3) := dk_154 0 12 (dk_at dksX3_glareOf_1 8 rfl rfl)
theorem dX3_glareOf_34 : decode cX3_glareOf 34 = .ok (.aload_n 0, 1) := dk_42 (dk_at dksX3_glareOf_1 11 rfl rfl)
theorem dX3_glareOf_35 : decode cX3_glareOf 35 = .ok (.iload_n 3, 1) := dk_29 (dk_at dksX3_glareOf_1 12 rfl rfl)
theorem dX3_glareOf_36 : decode cX3_glareOf 36 = .ok (.iconst 1, 1) := dk_4 (dk_at dksX3_glareOf_1 13 rfl rfl)
theorem dX3_glareOf_37 : decode cX3_glareOf 37 = .ok (.invokevirtual 50, 3) := dk_182 0 50 (dk_at dksX3_glareOf_1 14 rfl rfl)
theorem dX3_glareOf_40 : decode cX3_glareOf 40 = .ok (.goto 28, 3) := dk_167 0 28 (dk_at dksX3_glareOf_1 17 rfl rfl)
theorem dX3_glareOf_43 : decode cX3_glareOf 43 = .ok (.iload 4, 2) := dk_21 4 (dk_at dksX3_glareOf_1 20 rfl rfl)
theorem dX3_glareOf_45 : decode cX3_glareOf 45 = .ok (.iconst 1, 1) := dk_4 (dk_at dksX3_glareOf_1 22 rfl rfl)
theorem dX3_glareOf_46 : decode cX3_glareOf 46 = .ok (.if_icmp .eq 10, 3) := dk_159 0 10 (dk_at dksX3_glareOf_2 0 rfl rfl)
theorem dX3_glareOf_49 : decode cX3_glareOf 49 = .ok (.iload 4, 2) := dk_21 4 (dk_at dksX3_glareOf_2 3 rfl rfl)
theorem dX3_glareOf_51 : decode cX3_glareOf 51 = .ok (.bipush 11, 2) := dk_16 11 (dk_at dksX3_glareOf_2 5 rfl rfl)
theorem dX3_glareOf_53 : decode cX3_glareOf 53 = .ok (.if_icmp .ne 14, 3) := dk_160 0 14 (dk_at dksX3_glareOf_2 7 rfl rfl)
theorem dX3_glareOf_56 : decode cX3_glareOf 56 = .ok (.aload_n 0, 1) := dk_42 (dk_at dksX3_glareOf_2 10 rfl rfl)
theorem dX3_glareOf_57 : decode cX3_glareOf 57 = .ok (.iload_n 3, 1) := dk_29 (dk_at dksX3_glareOf_2 11 rfl rfl)
theorem dX3_glareOf_58 : decode cX3_glareOf 58 = .ok (.iconst 1, 1) := dk_4 (dk_at dksX3_glareOf_2 12 rfl rfl)
theorem dX3_glareOf_59 : decode cX3_glareOf 59 = .ok (.invokevirtual 50, 3) := dk_182 0 50 (dk_at dksX3_glareOf_2 13 rfl rfl)
theorem dX3_glareOf_62 : decode cX3_glareOf 62 = .ok (.iconst 4, 1) := dk_7 (dk_at dksX3_glareOf_2 16 rfl rfl)
theorem dX3_glareOf_63 : decode cX3_glareOf 63 = .ok (.idiv, 1) := dk_108 (dk_at dksX3_glareOf_2 17 rfl rfl)
theorem dX3_glareOf_64 : decode cX3_glareOf 64 = .ok (.goto 4, 3) := dk_167 0 4 (dk_at dksX3_glareOf_2 18 rfl rfl)
theorem dX3_glareOf_67 : decode cX3_glareOf 67 = .ok (.iconst 0, 1) := dk_3 (dk_at dksX3_glareOf_2 21 rfl rfl)
theorem dX3_glareOf_68 : decode cX3_glareOf 68 = .ok (.iadd, 1) := dk_96 (dk_at dksX3_glareOf_2 22 rfl rfl)
theorem dX3_glareOf_69 : decode cX3_glareOf 69 = .ok (.istore_n 2, 1) := dk_61 (dk_at dksX3_glareOf_2 23 rfl rfl)
theorem dX3_glareOf_70 : decode cX3_glareOf 70 = .ok (.iinc 3 1, 3) := dk_132 3 1 (dk_at dksX3_glareOf_3 0 rfl rfl)
theorem dX3_glareOf_73 : decode cX3_glareOf 73 = .ok (.goto (-69), 3) := dk_167 255 187 (dk_at dksX3_glareOf_3 3 rfl rfl)
theorem dX3_glareOf_76 : decode cX3_glareOf 76 = .ok (.iload_n 2, 1) := dk_28 (dk_at dksX3_glareOf_3 6 rfl rfl)
theorem dX3_glareOf_77 : decode cX3_glareOf 77 = .ok (.ireturn, 1) := dk_172 (dk_at dksX3_glareOf_3 7 rfl rfl)
abbrev cX3_about : ByteArray := prog_14_method_28_code
def yX3_about : MethodName := ⟨RX3, "about", "(II)I"⟩
def dkwX3_about_1 : List UInt8 := [184, 0, 32, 153, 0, 12, 42, 27, 28, 182, 0, 102, 167, 0, 8, 42, 4, 182, 0, 36, 172]
abbrev dktX3_about_1 : List UInt8 := dkwX3_about_1 ++ []
def dkwX3_about_0 : List UInt8 := [42, 3, 181, 0, 25, 27, 3, 42, 180, 0, 58, 4, 100, 184, 0, 32, 153, 0, 21, 28, 3, 6]
abbrev dktX3_about_0 : List UInt8 := dkwX3_about_0 ++ dktX3_about_1
theorem dksX3_about_0 : cX3_about.data.toList.drop 0 = dktX3_about_0 := by decide +kernel
theorem dksX3_about_1 : cX3_about.data.toList.drop 22 = dktX3_about_1 := dk_seg dksX3_about_0 22 rfl rfl
theorem dX3_about_0 : decode cX3_about 0 = .ok (.aload_n 0, 1) := dk_42 (dk_at dksX3_about_0 0 rfl rfl)
theorem dX3_about_1 : decode cX3_about 1 = .ok (.iconst 0, 1) := dk_3 (dk_at dksX3_about_0 1 rfl rfl)
theorem dX3_about_2 : decode cX3_about 2 = .ok (.putfield 25, 3) := dk_181 0 25 (dk_at dksX3_about_0 2 rfl rfl)
theorem dX3_about_5 : decode cX3_about 5 = .ok (.iload_n 1, 1) := dk_27 (dk_at dksX3_about_0 5 rfl rfl)
theorem dX3_about_6 : decode cX3_about 6 = .ok (.iconst 0, 1) := dk_3 (dk_at dksX3_about_0 6 rfl rfl)
theorem dX3_about_7 : decode cX3_about 7 = .ok (.aload_n 0, 1) := dk_42 (dk_at dksX3_about_0 7 rfl rfl)
theorem dX3_about_8 : decode cX3_about 8 = .ok (.getfield 58, 3) := dk_180 0 58 (dk_at dksX3_about_0 8 rfl rfl)
theorem dX3_about_11 : decode cX3_about 11 = .ok (.iconst 1, 1) := dk_4 (dk_at dksX3_about_0 11 rfl rfl)
theorem dX3_about_12 : decode cX3_about 12 = .ok (.isub, 1) := dk_100 (dk_at dksX3_about_0 12 rfl rfl)
theorem dX3_about_13 : decode cX3_about 13 = .ok (.invokestatic 32, 3) := dk_184 0 32 (dk_at dksX3_about_0 13 rfl rfl)
theorem dX3_about_16 : decode cX3_about 16 = .ok (.ifCond .eq 21, 3) := dk_153 0 21 (dk_at dksX3_about_0 16 rfl rfl)
theorem dX3_about_19 : decode cX3_about 19 = .ok (.iload_n 2, 1) := dk_28 (dk_at dksX3_about_0 19 rfl rfl)
theorem dX3_about_20 : decode cX3_about 20 = .ok (.iconst 0, 1) := dk_3 (dk_at dksX3_about_0 20 rfl rfl)
theorem dX3_about_21 : decode cX3_about 21 = .ok (.iconst 3, 1) := dk_6 (dk_at dksX3_about_0 21 rfl rfl)
theorem dX3_about_22 : decode cX3_about 22 = .ok (.invokestatic 32, 3) := dk_184 0 32 (dk_at dksX3_about_1 0 rfl rfl)
theorem dX3_about_25 : decode cX3_about 25 = .ok (.ifCond .eq 12, 3) := dk_153 0 12 (dk_at dksX3_about_1 3 rfl rfl)
theorem dX3_about_28 : decode cX3_about 28 = .ok (.aload_n 0, 1) := dk_42 (dk_at dksX3_about_1 6 rfl rfl)
theorem dX3_about_29 : decode cX3_about 29 = .ok (.iload_n 1, 1) := dk_27 (dk_at dksX3_about_1 7 rfl rfl)
theorem dX3_about_30 : decode cX3_about 30 = .ok (.iload_n 2, 1) := dk_28 (dk_at dksX3_about_1 8 rfl rfl)
theorem dX3_about_31 : decode cX3_about 31 = .ok (.invokevirtual 102, 3) := dk_182 0 102 (dk_at dksX3_about_1 9 rfl rfl)
theorem dX3_about_34 : decode cX3_about 34 = .ok (.goto 8, 3) := dk_167 0 8 (dk_at dksX3_about_1 12 rfl rfl)
theorem dX3_about_37 : decode cX3_about 37 = .ok (.aload_n 0, 1) := dk_42 (dk_at dksX3_about_1 15 rfl rfl)
theorem dX3_about_38 : decode cX3_about 38 = .ok (.iconst 1, 1) := dk_4 (dk_at dksX3_about_1 16 rfl rfl)
theorem dX3_about_39 : decode cX3_about 39 = .ok (.invokevirtual 36, 3) := dk_182 0 36 (dk_at dksX3_about_1 17 rfl rfl)
theorem dX3_about_42 : decode cX3_about 42 = .ok (.ireturn, 1) := dk_172 (dk_at dksX3_about_1 20 rfl rfl)
abbrev cX3_starTold : ByteArray := prog_14_method_27_code
def yX3_starTold : MethodName := ⟨RX3, "starTold", "(II)I"⟩
def dkwX3_starTold_2 : List UInt8 := [182, 0, 98, 153, 0, 7, 4, 167, 0, 4, 3, 172]
abbrev dktX3_starTold_2 : List UInt8 := dkwX3_starTold_2 ++ []
def dkwX3_starTold_1 : List UInt8 := [27, 182, 0, 95, 167, 0, 30, 42, 42, 27, 182, 0, 95, 42, 180, 0, 13, 5, 27, 104, 4, 96, 46]
abbrev dktX3_starTold_1 : List UInt8 := dkwX3_starTold_1 ++ dktX3_starTold_2
def dkwX3_starTold_0 : List UInt8 := [28, 5, 162, 0, 16, 42, 180, 0, 13, 5, 27, 104, 28, 96, 46, 167, 0, 43, 28, 5, 160, 0, 11, 42]
abbrev dktX3_starTold_0 : List UInt8 := dkwX3_starTold_0 ++ dktX3_starTold_1
theorem dksX3_starTold_0 : cX3_starTold.data.toList.drop 0 = dktX3_starTold_0 := by decide +kernel
theorem dksX3_starTold_1 : cX3_starTold.data.toList.drop 24 = dktX3_starTold_1 := dk_seg dksX3_starTold_0 24 rfl rfl
theorem dksX3_starTold_2 : cX3_starTold.data.toList.drop 47 = dktX3_starTold_2 := dk_seg dksX3_starTold_1 23 rfl rfl
theorem dX3_starTold_0 : decode cX3_starTold 0 = .ok (.iload_n 2, 1) := dk_28 (dk_at dksX3_starTold_0 0 rfl rfl)
theorem dX3_starTold_1 : decode cX3_starTold 1 = .ok (.iconst 2, 1) := dk_5 (dk_at dksX3_starTold_0 1 rfl rfl)
theorem dX3_starTold_2 : decode cX3_starTold 2 = .ok (.if_icmp .ge 16, 3) := dk_162 0 16 (dk_at dksX3_starTold_0 2 rfl rfl)
theorem dX3_starTold_5 : decode cX3_starTold 5 = .ok (.aload_n 0, 1) := dk_42 (dk_at dksX3_starTold_0 5 rfl rfl)
theorem dX3_starTold_6 : decode cX3_starTold 6 = .ok (.getfield 13, 3) := dk_180 0 13 (dk_at dksX3_starTold_0 6 rfl rfl)
theorem dX3_starTold_9 : decode cX3_starTold 9 = .ok (.iconst 2, 1) := dk_5 (dk_at dksX3_starTold_0 9 rfl rfl)
theorem dX3_starTold_10 : decode cX3_starTold 10 = .ok (.iload_n 1, 1) := dk_27 (dk_at dksX3_starTold_0 10 rfl rfl)
theorem dX3_starTold_11 : decode cX3_starTold 11 = .ok (.imul, 1) := dk_104 (dk_at dksX3_starTold_0 11 rfl rfl)
theorem dX3_starTold_12 : decode cX3_starTold 12 = .ok (.iload_n 2, 1) := dk_28 (dk_at dksX3_starTold_0 12 rfl rfl)
theorem dX3_starTold_13 : decode cX3_starTold 13 = .ok (.iadd, 1) := dk_96 (dk_at dksX3_starTold_0 13 rfl rfl)
theorem dX3_starTold_14 : decode cX3_starTold 14 = .ok (.iaload, 1) := dk_46 (dk_at dksX3_starTold_0 14 rfl rfl)
theorem dX3_starTold_15 : decode cX3_starTold 15 = .ok (.goto 43, 3) := dk_167 0 43 (dk_at dksX3_starTold_0 15 rfl rfl)
theorem dX3_starTold_18 : decode cX3_starTold 18 = .ok (.iload_n 2, 1) := dk_28 (dk_at dksX3_starTold_0 18 rfl rfl)
theorem dX3_starTold_19 : decode cX3_starTold 19 = .ok (.iconst 2, 1) := dk_5 (dk_at dksX3_starTold_0 19 rfl rfl)
theorem dX3_starTold_20 : decode cX3_starTold 20 = .ok (.if_icmp .ne 11, 3) := dk_160 0 11 (dk_at dksX3_starTold_0 20 rfl rfl)
theorem dX3_starTold_23 : decode cX3_starTold 23 = .ok (.aload_n 0, 1) := dk_42 (dk_at dksX3_starTold_0 23 rfl rfl)
theorem dX3_starTold_24 : decode cX3_starTold 24 = .ok (.iload_n 1, 1) := dk_27 (dk_at dksX3_starTold_1 0 rfl rfl)
theorem dX3_starTold_25 : decode cX3_starTold 25 = .ok (.invokevirtual 95, 3) := dk_182 0 95 (dk_at dksX3_starTold_1 1 rfl rfl)
theorem dX3_starTold_28 : decode cX3_starTold 28 = .ok (.goto 30, 3) := dk_167 0 30 (dk_at dksX3_starTold_1 4 rfl rfl)
theorem dX3_starTold_31 : decode cX3_starTold 31 = .ok (.aload_n 0, 1) := dk_42 (dk_at dksX3_starTold_1 7 rfl rfl)
theorem dX3_starTold_32 : decode cX3_starTold 32 = .ok (.aload_n 0, 1) := dk_42 (dk_at dksX3_starTold_1 8 rfl rfl)
theorem dX3_starTold_33 : decode cX3_starTold 33 = .ok (.iload_n 1, 1) := dk_27 (dk_at dksX3_starTold_1 9 rfl rfl)
theorem dX3_starTold_34 : decode cX3_starTold 34 = .ok (.invokevirtual 95, 3) := dk_182 0 95 (dk_at dksX3_starTold_1 10 rfl rfl)
theorem dX3_starTold_37 : decode cX3_starTold 37 = .ok (.aload_n 0, 1) := dk_42 (dk_at dksX3_starTold_1 13 rfl rfl)
theorem dX3_starTold_38 : decode cX3_starTold 38 = .ok (.getfield 13, 3) := dk_180 0 13 (dk_at dksX3_starTold_1 14 rfl rfl)
theorem dX3_starTold_41 : decode cX3_starTold 41 = .ok (.iconst 2, 1) := dk_5 (dk_at dksX3_starTold_1 17 rfl rfl)
theorem dX3_starTold_42 : decode cX3_starTold 42 = .ok (.iload_n 1, 1) := dk_27 (dk_at dksX3_starTold_1 18 rfl rfl)
theorem dX3_starTold_43 : decode cX3_starTold 43 = .ok (.imul, 1) := dk_104 (dk_at dksX3_starTold_1 19 rfl rfl)
theorem dX3_starTold_44 : decode cX3_starTold 44 = .ok (.iconst 1, 1) := dk_4 (dk_at dksX3_starTold_1 20 rfl rfl)
theorem dX3_starTold_45 : decode cX3_starTold 45 = .ok (.iadd, 1) := dk_96 (dk_at dksX3_starTold_1 21 rfl rfl)
theorem dX3_starTold_46 : decode cX3_starTold 46 = .ok (.iaload, 1) := dk_46 (dk_at dksX3_starTold_1 22 rfl rfl)
theorem dX3_starTold_47 : decode cX3_starTold 47 = .ok (.invokevirtual 98, 3) := dk_182 0 98 (dk_at dksX3_starTold_2 0 rfl rfl)
theorem dX3_starTold_50 : decode cX3_starTold 50 = .ok (.ifCond .eq 7, 3) := dk_153 0 7 (dk_at dksX3_starTold_2 3 rfl rfl)
theorem dX3_starTold_53 : decode cX3_starTold 53 = .ok (.iconst 1, 1) := dk_4 (dk_at dksX3_starTold_2 6 rfl rfl)
theorem dX3_starTold_54 : decode cX3_starTold 54 = .ok (.goto 4, 3) := dk_167 0 4 (dk_at dksX3_starTold_2 7 rfl rfl)
theorem dX3_starTold_57 : decode cX3_starTold 57 = .ok (.iconst 0, 1) := dk_3 (dk_at dksX3_starTold_2 10 rfl rfl)
theorem dX3_starTold_58 : decode cX3_starTold 58 = .ok (.ireturn, 1) := dk_172 (dk_at dksX3_starTold_2 11 rfl rfl)
abbrev cX3_stands : ByteArray := prog_14_method_25_code
def yX3_stands : MethodName := ⟨RX3, "stands", "(I)I"⟩
def dkwX3_stands_0 : List UInt8 := [42, 180, 0, 13, 5, 27, 104, 46, 42, 180, 0, 22, 8, 46, 96, 17, 1, 104, 112, 172]
abbrev dktX3_stands_0 : List UInt8 := dkwX3_stands_0 ++ []
theorem dksX3_stands_0 : cX3_stands.data.toList.drop 0 = dktX3_stands_0 := by decide +kernel
theorem dX3_stands_0 : decode cX3_stands 0 = .ok (.aload_n 0, 1) := dk_42 (dk_at dksX3_stands_0 0 rfl rfl)
theorem dX3_stands_1 : decode cX3_stands 1 = .ok (.getfield 13, 3) := dk_180 0 13 (dk_at dksX3_stands_0 1 rfl rfl)
theorem dX3_stands_4 : decode cX3_stands 4 = .ok (.iconst 2, 1) := dk_5 (dk_at dksX3_stands_0 4 rfl rfl)
theorem dX3_stands_5 : decode cX3_stands 5 = .ok (.iload_n 1, 1) := dk_27 (dk_at dksX3_stands_0 5 rfl rfl)
theorem dX3_stands_6 : decode cX3_stands 6 = .ok (.imul, 1) := dk_104 (dk_at dksX3_stands_0 6 rfl rfl)
theorem dX3_stands_7 : decode cX3_stands 7 = .ok (.iaload, 1) := dk_46 (dk_at dksX3_stands_0 7 rfl rfl)
theorem dX3_stands_8 : decode cX3_stands 8 = .ok (.aload_n 0, 1) := dk_42 (dk_at dksX3_stands_0 8 rfl rfl)
theorem dX3_stands_9 : decode cX3_stands 9 = .ok (.getfield 22, 3) := dk_180 0 22 (dk_at dksX3_stands_0 9 rfl rfl)
theorem dX3_stands_12 : decode cX3_stands 12 = .ok (.iconst 5, 1) := dk_8 (dk_at dksX3_stands_0 12 rfl rfl)
theorem dX3_stands_13 : decode cX3_stands 13 = .ok (.iaload, 1) := dk_46 (dk_at dksX3_stands_0 13 rfl rfl)
theorem dX3_stands_14 : decode cX3_stands 14 = .ok (.iadd, 1) := dk_96 (dk_at dksX3_stands_0 14 rfl rfl)
theorem dX3_stands_15 : decode cX3_stands 15 = .ok (.sipush 360, 3) := dk_17 1 104 (dk_at dksX3_stands_0 15 rfl rfl)
theorem dX3_stands_18 : decode cX3_stands 18 = .ok (.irem, 1) := dk_112 (dk_at dksX3_stands_0 18 rfl rfl)
theorem dX3_stands_19 : decode cX3_stands 19 = .ok (.ireturn, 1) := dk_172 (dk_at dksX3_stands_0 19 rfl rfl)
abbrev cX3_isSeen : ByteArray := prog_14_method_26_code
def yX3_isSeen : MethodName := ⟨RX3, "isSeen", "(II)Z"⟩
def dkwX3_isSeen_0 : List UInt8 := [16, 10, 28, 104, 42, 27, 16, 30, 108, 182, 0, 92, 164, 0, 7, 4, 167, 0, 4, 3, 172]
abbrev dktX3_isSeen_0 : List UInt8 := dkwX3_isSeen_0 ++ []
theorem dksX3_isSeen_0 : cX3_isSeen.data.toList.drop 0 = dktX3_isSeen_0 := by decide +kernel
theorem dX3_isSeen_0 : decode cX3_isSeen 0 = .ok (.bipush 10, 2) := dk_16 10 (dk_at dksX3_isSeen_0 0 rfl rfl)
theorem dX3_isSeen_2 : decode cX3_isSeen 2 = .ok (.iload_n 2, 1) := dk_28 (dk_at dksX3_isSeen_0 2 rfl rfl)
theorem dX3_isSeen_3 : decode cX3_isSeen 3 = .ok (.imul, 1) := dk_104 (dk_at dksX3_isSeen_0 3 rfl rfl)
theorem dX3_isSeen_4 : decode cX3_isSeen 4 = .ok (.aload_n 0, 1) := dk_42 (dk_at dksX3_isSeen_0 4 rfl rfl)
theorem dX3_isSeen_5 : decode cX3_isSeen 5 = .ok (.iload_n 1, 1) := dk_27 (dk_at dksX3_isSeen_0 5 rfl rfl)
theorem dX3_isSeen_6 : decode cX3_isSeen 6 = .ok (.bipush 30, 2) := dk_16 30 (dk_at dksX3_isSeen_0 6 rfl rfl)
theorem dX3_isSeen_8 : decode cX3_isSeen 8 = .ok (.idiv, 1) := dk_108 (dk_at dksX3_isSeen_0 8 rfl rfl)
theorem dX3_isSeen_9 : decode cX3_isSeen 9 = .ok (.invokevirtual 92, 3) := dk_182 0 92 (dk_at dksX3_isSeen_0 9 rfl rfl)
theorem dX3_isSeen_12 : decode cX3_isSeen 12 = .ok (.if_icmp .le 7, 3) := dk_164 0 7 (dk_at dksX3_isSeen_0 12 rfl rfl)
theorem dX3_isSeen_15 : decode cX3_isSeen 15 = .ok (.iconst 1, 1) := dk_4 (dk_at dksX3_isSeen_0 15 rfl rfl)
theorem dX3_isSeen_16 : decode cX3_isSeen 16 = .ok (.goto 4, 3) := dk_167 0 4 (dk_at dksX3_isSeen_0 16 rfl rfl)
theorem dX3_isSeen_19 : decode cX3_isSeen 19 = .ok (.iconst 0, 1) := dk_3 (dk_at dksX3_isSeen_0 19 rfl rfl)
theorem dX3_isSeen_20 : decode cX3_isSeen 20 = .ok (.ireturn, 1) := dk_172 (dk_at dksX3_isSeen_0 20 rfl rfl)
abbrev cX3_comet : ByteArray := prog_14_method_30_code
def yX3_comet : MethodName := ⟨RX3, "comet", "(II)I"⟩
def dkwX3_comet_1 : List UInt8 := [6, 184, 0, 32, 153, 0, 12, 42, 27, 28, 182, 0, 105, 167, 0, 8, 42, 4, 182, 0, 36, 172]
abbrev dktX3_comet_1 : List UInt8 := dkwX3_comet_1 ++ []
def dkwX3_comet_0 : List UInt8 := [42, 3, 181, 0, 25, 27, 3, 42, 180, 0, 22, 16, 7, 46, 4, 100, 184, 0, 32, 153, 0, 21, 28, 3]
abbrev dktX3_comet_0 : List UInt8 := dkwX3_comet_0 ++ dktX3_comet_1
theorem dksX3_comet_0 : cX3_comet.data.toList.drop 0 = dktX3_comet_0 := by decide +kernel
theorem dksX3_comet_1 : cX3_comet.data.toList.drop 24 = dktX3_comet_1 := dk_seg dksX3_comet_0 24 rfl rfl
theorem dX3_comet_0 : decode cX3_comet 0 = .ok (.aload_n 0, 1) := dk_42 (dk_at dksX3_comet_0 0 rfl rfl)
theorem dX3_comet_1 : decode cX3_comet 1 = .ok (.iconst 0, 1) := dk_3 (dk_at dksX3_comet_0 1 rfl rfl)
theorem dX3_comet_2 : decode cX3_comet 2 = .ok (.putfield 25, 3) := dk_181 0 25 (dk_at dksX3_comet_0 2 rfl rfl)
theorem dX3_comet_5 : decode cX3_comet 5 = .ok (.iload_n 1, 1) := dk_27 (dk_at dksX3_comet_0 5 rfl rfl)
theorem dX3_comet_6 : decode cX3_comet 6 = .ok (.iconst 0, 1) := dk_3 (dk_at dksX3_comet_0 6 rfl rfl)
theorem dX3_comet_7 : decode cX3_comet 7 = .ok (.aload_n 0, 1) := dk_42 (dk_at dksX3_comet_0 7 rfl rfl)
theorem dX3_comet_8 : decode cX3_comet 8 = .ok (.getfield 22, 3) := dk_180 0 22 (dk_at dksX3_comet_0 8 rfl rfl)
theorem dX3_comet_11 : decode cX3_comet 11 = .ok (.bipush 7, 2) := dk_16 7 (dk_at dksX3_comet_0 11 rfl rfl)
theorem dX3_comet_13 : decode cX3_comet 13 = .ok (.iaload, 1) := dk_46 (dk_at dksX3_comet_0 13 rfl rfl)
theorem dX3_comet_14 : decode cX3_comet 14 = .ok (.iconst 1, 1) := dk_4 (dk_at dksX3_comet_0 14 rfl rfl)
theorem dX3_comet_15 : decode cX3_comet 15 = .ok (.isub, 1) := dk_100 (dk_at dksX3_comet_0 15 rfl rfl)
theorem dX3_comet_16 : decode cX3_comet 16 = .ok (.invokestatic 32, 3) := dk_184 0 32 (dk_at dksX3_comet_0 16 rfl rfl)
theorem dX3_comet_19 : decode cX3_comet 19 = .ok (.ifCond .eq 21, 3) := dk_153 0 21 (dk_at dksX3_comet_0 19 rfl rfl)
theorem dX3_comet_22 : decode cX3_comet 22 = .ok (.iload_n 2, 1) := dk_28 (dk_at dksX3_comet_0 22 rfl rfl)
theorem dX3_comet_23 : decode cX3_comet 23 = .ok (.iconst 0, 1) := dk_3 (dk_at dksX3_comet_0 23 rfl rfl)
theorem dX3_comet_24 : decode cX3_comet 24 = .ok (.iconst 3, 1) := dk_6 (dk_at dksX3_comet_1 0 rfl rfl)
theorem dX3_comet_25 : decode cX3_comet 25 = .ok (.invokestatic 32, 3) := dk_184 0 32 (dk_at dksX3_comet_1 1 rfl rfl)
theorem dX3_comet_28 : decode cX3_comet 28 = .ok (.ifCond .eq 12, 3) := dk_153 0 12 (dk_at dksX3_comet_1 4 rfl rfl)
theorem dX3_comet_31 : decode cX3_comet 31 = .ok (.aload_n 0, 1) := dk_42 (dk_at dksX3_comet_1 7 rfl rfl)
theorem dX3_comet_32 : decode cX3_comet 32 = .ok (.iload_n 1, 1) := dk_27 (dk_at dksX3_comet_1 8 rfl rfl)
theorem dX3_comet_33 : decode cX3_comet 33 = .ok (.iload_n 2, 1) := dk_28 (dk_at dksX3_comet_1 9 rfl rfl)
theorem dX3_comet_34 : decode cX3_comet 34 = .ok (.invokevirtual 105, 3) := dk_182 0 105 (dk_at dksX3_comet_1 10 rfl rfl)
theorem dX3_comet_37 : decode cX3_comet 37 = .ok (.goto 8, 3) := dk_167 0 8 (dk_at dksX3_comet_1 13 rfl rfl)
theorem dX3_comet_40 : decode cX3_comet 40 = .ok (.aload_n 0, 1) := dk_42 (dk_at dksX3_comet_1 16 rfl rfl)
theorem dX3_comet_41 : decode cX3_comet 41 = .ok (.iconst 1, 1) := dk_4 (dk_at dksX3_comet_1 17 rfl rfl)
theorem dX3_comet_42 : decode cX3_comet 42 = .ok (.invokevirtual 36, 3) := dk_182 0 36 (dk_at dksX3_comet_1 18 rfl rfl)
theorem dX3_comet_45 : decode cX3_comet 45 = .ok (.ireturn, 1) := dk_172 (dk_at dksX3_comet_1 21 rfl rfl)
abbrev cX3_cometTold : ByteArray := prog_14_method_29_code
def yX3_cometTold : MethodName := ⟨RX3, "cometTold", "(II)I"⟩
def dkwX3_cometTold_2 : List UInt8 := [153, 0, 7, 4, 167, 0, 4, 3, 172]
abbrev dktX3_cometTold_2 : List UInt8 := dkwX3_cometTold_2 ++ []
def dkwX3_cometTold_1 : List UInt8 := [104, 5, 96, 46, 158, 0, 26, 42, 42, 180, 0, 16, 6, 27, 104, 3, 96, 46, 16, 6, 182, 0, 98]
abbrev dktX3_cometTold_1 : List UInt8 := dkwX3_cometTold_1 ++ dktX3_cometTold_2
def dkwX3_cometTold_0 : List UInt8 := [28, 6, 162, 0, 16, 42, 180, 0, 16, 6, 27, 104, 28, 96, 46, 167, 0, 40, 42, 180, 0, 16, 6, 27]
abbrev dktX3_cometTold_0 : List UInt8 := dkwX3_cometTold_0 ++ dktX3_cometTold_1
theorem dksX3_cometTold_0 : cX3_cometTold.data.toList.drop 0 = dktX3_cometTold_0 := by decide +kernel
theorem dksX3_cometTold_1 : cX3_cometTold.data.toList.drop 24 = dktX3_cometTold_1 := dk_seg dksX3_cometTold_0 24 rfl rfl
theorem dksX3_cometTold_2 : cX3_cometTold.data.toList.drop 47 = dktX3_cometTold_2 := dk_seg dksX3_cometTold_1 23 rfl rfl
theorem dX3_cometTold_0 : decode cX3_cometTold 0 = .ok (.iload_n 2, 1) := dk_28 (dk_at dksX3_cometTold_0 0 rfl rfl)
theorem dX3_cometTold_1 : decode cX3_cometTold 1 = .ok (.iconst 3, 1) := dk_6 (dk_at dksX3_cometTold_0 1 rfl rfl)
theorem dX3_cometTold_2 : decode cX3_cometTold 2 = .ok (.if_icmp .ge 16, 3) := dk_162 0 16 (dk_at dksX3_cometTold_0 2 rfl rfl)
theorem dX3_cometTold_5 : decode cX3_cometTold 5 = .ok (.aload_n 0, 1) := dk_42 (dk_at dksX3_cometTold_0 5 rfl rfl)
theorem dX3_cometTold_6 : decode cX3_cometTold 6 = .ok (.getfield 16, 3) := dk_180 0 16 (dk_at dksX3_cometTold_0 6 rfl rfl)
theorem dX3_cometTold_9 : decode cX3_cometTold 9 = .ok (.iconst 3, 1) := dk_6 (dk_at dksX3_cometTold_0 9 rfl rfl)
theorem dX3_cometTold_10 : decode cX3_cometTold 10 = .ok (.iload_n 1, 1) := dk_27 (dk_at dksX3_cometTold_0 10 rfl rfl)
theorem dX3_cometTold_11 : decode cX3_cometTold 11 = .ok (.imul, 1) := dk_104 (dk_at dksX3_cometTold_0 11 rfl rfl)
theorem dX3_cometTold_12 : decode cX3_cometTold 12 = .ok (.iload_n 2, 1) := dk_28 (dk_at dksX3_cometTold_0 12 rfl rfl)
theorem dX3_cometTold_13 : decode cX3_cometTold 13 = .ok (.iadd, 1) := dk_96 (dk_at dksX3_cometTold_0 13 rfl rfl)
theorem dX3_cometTold_14 : decode cX3_cometTold 14 = .ok (.iaload, 1) := dk_46 (dk_at dksX3_cometTold_0 14 rfl rfl)
theorem dX3_cometTold_15 : decode cX3_cometTold 15 = .ok (.goto 40, 3) := dk_167 0 40 (dk_at dksX3_cometTold_0 15 rfl rfl)
theorem dX3_cometTold_18 : decode cX3_cometTold 18 = .ok (.aload_n 0, 1) := dk_42 (dk_at dksX3_cometTold_0 18 rfl rfl)
theorem dX3_cometTold_19 : decode cX3_cometTold 19 = .ok (.getfield 16, 3) := dk_180 0 16 (dk_at dksX3_cometTold_0 19 rfl rfl)
theorem dX3_cometTold_22 : decode cX3_cometTold 22 = .ok (.iconst 3, 1) := dk_6 (dk_at dksX3_cometTold_0 22 rfl rfl)
theorem dX3_cometTold_23 : decode cX3_cometTold 23 = .ok (.iload_n 1, 1) := dk_27 (dk_at dksX3_cometTold_0 23 rfl rfl)
theorem dX3_cometTold_24 : decode cX3_cometTold 24 = .ok (.imul, 1) := dk_104 (dk_at dksX3_cometTold_1 0 rfl rfl)
theorem dX3_cometTold_25 : decode cX3_cometTold 25 = .ok (.iconst 2, 1) := dk_5 (dk_at dksX3_cometTold_1 1 rfl rfl)
theorem dX3_cometTold_26 : decode cX3_cometTold 26 = .ok (.iadd, 1) := dk_96 (dk_at dksX3_cometTold_1 2 rfl rfl)
theorem dX3_cometTold_27 : decode cX3_cometTold 27 = .ok (.iaload, 1) := dk_46 (dk_at dksX3_cometTold_1 3 rfl rfl)
theorem dX3_cometTold_28 : decode cX3_cometTold 28 = .ok (.ifCond .le 26, 3) := dk_158 0 26 (dk_at dksX3_cometTold_1 4 rfl rfl)
theorem dX3_cometTold_31 : decode cX3_cometTold 31 = .ok (.aload_n 0, 1) := dk_42 (dk_at dksX3_cometTold_1 7 rfl rfl)
theorem dX3_cometTold_32 : decode cX3_cometTold 32 = .ok (.aload_n 0, 1) := dk_42 (dk_at dksX3_cometTold_1 8 rfl rfl)
theorem dX3_cometTold_33 : decode cX3_cometTold 33 = .ok (.getfield 16, 3) := dk_180 0 16 (dk_at dksX3_cometTold_1 9 rfl rfl)
theorem dX3_cometTold_36 : decode cX3_cometTold 36 = .ok (.iconst 3, 1) := dk_6 (dk_at dksX3_cometTold_1 12 rfl rfl)
theorem dX3_cometTold_37 : decode cX3_cometTold 37 = .ok (.iload_n 1, 1) := dk_27 (dk_at dksX3_cometTold_1 13 rfl rfl)
theorem dX3_cometTold_38 : decode cX3_cometTold 38 = .ok (.imul, 1) := dk_104 (dk_at dksX3_cometTold_1 14 rfl rfl)
theorem dX3_cometTold_39 : decode cX3_cometTold 39 = .ok (.iconst 0, 1) := dk_3 (dk_at dksX3_cometTold_1 15 rfl rfl)
theorem dX3_cometTold_40 : decode cX3_cometTold 40 = .ok (.iadd, 1) := dk_96 (dk_at dksX3_cometTold_1 16 rfl rfl)
theorem dX3_cometTold_41 : decode cX3_cometTold 41 = .ok (.iaload, 1) := dk_46 (dk_at dksX3_cometTold_1 17 rfl rfl)
theorem dX3_cometTold_42 : decode cX3_cometTold 42 = .ok (.bipush 6, 2) := dk_16 6 (dk_at dksX3_cometTold_1 18 rfl rfl)
theorem dX3_cometTold_44 : decode cX3_cometTold 44 = .ok (.invokevirtual 98, 3) := dk_182 0 98 (dk_at dksX3_cometTold_1 20 rfl rfl)
theorem dX3_cometTold_47 : decode cX3_cometTold 47 = .ok (.ifCond .eq 7, 3) := dk_153 0 7 (dk_at dksX3_cometTold_2 0 rfl rfl)
theorem dX3_cometTold_50 : decode cX3_cometTold 50 = .ok (.iconst 1, 1) := dk_4 (dk_at dksX3_cometTold_2 3 rfl rfl)
theorem dX3_cometTold_51 : decode cX3_cometTold 51 = .ok (.goto 4, 3) := dk_167 0 4 (dk_at dksX3_cometTold_2 4 rfl rfl)
theorem dX3_cometTold_54 : decode cX3_cometTold 54 = .ok (.iconst 0, 1) := dk_3 (dk_at dksX3_cometTold_2 7 rfl rfl)
theorem dX3_cometTold_55 : decode cX3_cometTold 55 = .ok (.ireturn, 1) := dk_172 (dk_at dksX3_cometTold_2 8 rfl rfl)
abbrev cX3_count : ByteArray := prog_14_method_32_code
def yX3_count : MethodName := ⟨RX3, "count", "(I)I"⟩
def dkwX3_count_1 : List UInt8 := [4, 182, 0, 36, 172]
abbrev dktX3_count_1 : List UInt8 := dkwX3_count_1 ++ []
def dkwX3_count_0 : List UInt8 := [42, 3, 181, 0, 25, 27, 3, 16, 12, 184, 0, 32, 153, 0, 11, 42, 27, 182, 0, 108, 167, 0, 8, 42]
abbrev dktX3_count_0 : List UInt8 := dkwX3_count_0 ++ dktX3_count_1
theorem dksX3_count_0 : cX3_count.data.toList.drop 0 = dktX3_count_0 := by decide +kernel
theorem dksX3_count_1 : cX3_count.data.toList.drop 24 = dktX3_count_1 := dk_seg dksX3_count_0 24 rfl rfl
theorem dX3_count_0 : decode cX3_count 0 = .ok (.aload_n 0, 1) := dk_42 (dk_at dksX3_count_0 0 rfl rfl)
theorem dX3_count_1 : decode cX3_count 1 = .ok (.iconst 0, 1) := dk_3 (dk_at dksX3_count_0 1 rfl rfl)
theorem dX3_count_2 : decode cX3_count 2 = .ok (.putfield 25, 3) := dk_181 0 25 (dk_at dksX3_count_0 2 rfl rfl)
theorem dX3_count_5 : decode cX3_count 5 = .ok (.iload_n 1, 1) := dk_27 (dk_at dksX3_count_0 5 rfl rfl)
theorem dX3_count_6 : decode cX3_count 6 = .ok (.iconst 0, 1) := dk_3 (dk_at dksX3_count_0 6 rfl rfl)
theorem dX3_count_7 : decode cX3_count 7 = .ok (.bipush 12, 2) := dk_16 12 (dk_at dksX3_count_0 7 rfl rfl)
theorem dX3_count_9 : decode cX3_count 9 = .ok (.invokestatic 32, 3) := dk_184 0 32 (dk_at dksX3_count_0 9 rfl rfl)
theorem dX3_count_12 : decode cX3_count 12 = .ok (.ifCond .eq 11, 3) := dk_153 0 11 (dk_at dksX3_count_0 12 rfl rfl)
theorem dX3_count_15 : decode cX3_count 15 = .ok (.aload_n 0, 1) := dk_42 (dk_at dksX3_count_0 15 rfl rfl)
theorem dX3_count_16 : decode cX3_count 16 = .ok (.iload_n 1, 1) := dk_27 (dk_at dksX3_count_0 16 rfl rfl)
theorem dX3_count_17 : decode cX3_count 17 = .ok (.invokevirtual 108, 3) := dk_182 0 108 (dk_at dksX3_count_0 17 rfl rfl)
theorem dX3_count_20 : decode cX3_count 20 = .ok (.goto 8, 3) := dk_167 0 8 (dk_at dksX3_count_0 20 rfl rfl)
theorem dX3_count_23 : decode cX3_count 23 = .ok (.aload_n 0, 1) := dk_42 (dk_at dksX3_count_0 23 rfl rfl)
theorem dX3_count_24 : decode cX3_count 24 = .ok (.iconst 1, 1) := dk_4 (dk_at dksX3_count_1 0 rfl rfl)
theorem dX3_count_25 : decode cX3_count 25 = .ok (.invokevirtual 36, 3) := dk_182 0 36 (dk_at dksX3_count_1 1 rfl rfl)
theorem dX3_count_28 : decode cX3_count 28 = .ok (.ireturn, 1) := dk_172 (dk_at dksX3_count_1 4 rfl rfl)
abbrev cX3_counted : ByteArray := prog_14_method_31_code
def yX3_counted : MethodName := ⟨RX3, "counted", "(I)I"⟩
def dkwX3_counted_6 : List UInt8 := [132, 3, 1, 167, 255, 233, 28, 172, 42, 180, 0, 22, 27, 16, 6, 100, 46, 172]
abbrev dktX3_counted_6 : List UInt8 := dkwX3_counted_6 ++ []
def dkwX3_counted_5 : List UInt8 := [172, 3, 62, 29, 42, 180, 0, 22, 16, 7, 46, 162, 0, 18, 28, 42, 29, 6, 182, 0, 105, 96, 61]
abbrev dktX3_counted_5 : List UInt8 := dkwX3_counted_5 ++ dktX3_counted_6
def dkwX3_counted_4 : List UInt8 := [29, 42, 180, 0, 58, 162, 0, 18, 28, 42, 29, 6, 182, 0, 102, 96, 61, 132, 3, 1, 167, 255, 236, 28]
abbrev dktX3_counted_4 : List UInt8 := dkwX3_counted_4 ++ dktX3_counted_5
def dkwX3_counted_3 : List UInt8 := [180, 0, 29, 172, 42, 180, 0, 58, 172, 42, 180, 0, 22, 16, 7, 46, 172, 42, 180, 0, 64, 172, 3, 62]
abbrev dktX3_counted_3 : List UInt8 := dkwX3_counted_3 ++ dktX3_counted_4
def dkwX3_counted_2 : List UInt8 := [42, 180, 0, 22, 3, 46, 172, 42, 180, 0, 22, 4, 46, 172, 42, 180, 0, 22, 5, 46, 172, 42]
abbrev dktX3_counted_2 : List UInt8 := dkwX3_counted_2 ++ dktX3_counted_3
def dkwX3_counted_1 : List UInt8 := [170, 0, 0, 0, 150, 0, 0, 0, 0, 0, 0, 0, 8, 0, 0, 0, 49, 0, 0, 0, 56, 0, 0, 0, 63, 0, 0, 0, 70, 0, 0, 0, 75, 0, 0, 0, 80, 0, 0, 0, 88, 0, 0, 0, 93, 0, 0, 0, 120]
abbrev dktX3_counted_1 : List UInt8 := dkwX3_counted_1 ++ dktX3_counted_2
def dkwX3_counted_0 : List UInt8 := [3, 61, 27]
abbrev dktX3_counted_0 : List UInt8 := dkwX3_counted_0 ++ dktX3_counted_1
theorem dksX3_counted_0 : cX3_counted.data.toList.drop 0 = dktX3_counted_0 := by decide +kernel
theorem dksX3_counted_1 : cX3_counted.data.toList.drop 3 = dktX3_counted_1 := dk_seg dksX3_counted_0 3 rfl rfl
theorem dksX3_counted_2 : cX3_counted.data.toList.drop 52 = dktX3_counted_2 := dk_seg dksX3_counted_1 49 rfl rfl
theorem dksX3_counted_3 : cX3_counted.data.toList.drop 74 = dktX3_counted_3 := dk_seg dksX3_counted_2 22 rfl rfl
theorem dksX3_counted_4 : cX3_counted.data.toList.drop 98 = dktX3_counted_4 := dk_seg dksX3_counted_3 24 rfl rfl
theorem dksX3_counted_5 : cX3_counted.data.toList.drop 122 = dktX3_counted_5 := dk_seg dksX3_counted_4 24 rfl rfl
theorem dksX3_counted_6 : cX3_counted.data.toList.drop 145 = dktX3_counted_6 := dk_seg dksX3_counted_5 23 rfl rfl
theorem dX3_counted_0 : decode cX3_counted 0 = .ok (.iconst 0, 1) := dk_3 (dk_at dksX3_counted_0 0 rfl rfl)
theorem dX3_counted_1 : decode cX3_counted 1 = .ok (.istore_n 2, 1) := dk_61 (dk_at dksX3_counted_0 1 rfl rfl)
theorem dX3_counted_2 : decode cX3_counted 2 = .ok (.iload_n 1, 1) := dk_27 (dk_at dksX3_counted_0 2 rfl rfl)
theorem dX3_counted_3 : decode cX3_counted 3 = .ok (.tableswitch 150 0 8 #[49, 56, 63, 70, 75, 80, 88, 93, 120], 49) := by decide +kernel
theorem dX3_counted_52 : decode cX3_counted 52 = .ok (.aload_n 0, 1) := dk_42 (dk_at dksX3_counted_2 0 rfl rfl)
theorem dX3_counted_53 : decode cX3_counted 53 = .ok (.getfield 22, 3) := dk_180 0 22 (dk_at dksX3_counted_2 1 rfl rfl)
theorem dX3_counted_56 : decode cX3_counted 56 = .ok (.iconst 0, 1) := dk_3 (dk_at dksX3_counted_2 4 rfl rfl)
theorem dX3_counted_57 : decode cX3_counted 57 = .ok (.iaload, 1) := dk_46 (dk_at dksX3_counted_2 5 rfl rfl)
theorem dX3_counted_58 : decode cX3_counted 58 = .ok (.ireturn, 1) := dk_172 (dk_at dksX3_counted_2 6 rfl rfl)
theorem dX3_counted_59 : decode cX3_counted 59 = .ok (.aload_n 0, 1) := dk_42 (dk_at dksX3_counted_2 7 rfl rfl)
theorem dX3_counted_60 : decode cX3_counted 60 = .ok (.getfield 22, 3) := dk_180 0 22 (dk_at dksX3_counted_2 8 rfl rfl)
theorem dX3_counted_63 : decode cX3_counted 63 = .ok (.iconst 1, 1) := dk_4 (dk_at dksX3_counted_2 11 rfl rfl)
theorem dX3_counted_64 : decode cX3_counted 64 = .ok (.iaload, 1) := dk_46 (dk_at dksX3_counted_2 12 rfl rfl)
theorem dX3_counted_65 : decode cX3_counted 65 = .ok (.ireturn, 1) := dk_172 (dk_at dksX3_counted_2 13 rfl rfl)
theorem dX3_counted_66 : decode cX3_counted 66 = .ok (.aload_n 0, 1) := dk_42 (dk_at dksX3_counted_2 14 rfl rfl)
theorem dX3_counted_67 : decode cX3_counted 67 = .ok (.getfield 22, 3) := dk_180 0 22 (dk_at dksX3_counted_2 15 rfl rfl)
theorem dX3_counted_70 : decode cX3_counted 70 = .ok (.iconst 2, 1) := dk_5 (dk_at dksX3_counted_2 18 rfl rfl)
theorem dX3_counted_71 : decode cX3_counted 71 = .ok (.iaload, 1) := dk_46 (dk_at dksX3_counted_2 19 rfl rfl)
theorem dX3_counted_72 : decode cX3_counted 72 = .ok (.ireturn, 1) := dk_172 (dk_at dksX3_counted_2 20 rfl rfl)
theorem dX3_counted_73 : decode cX3_counted 73 = .ok (.aload_n 0, 1) := dk_42 (dk_at dksX3_counted_2 21 rfl rfl)
theorem dX3_counted_74 : decode cX3_counted 74 = .ok (.getfield 29, 3) := dk_180 0 29 (dk_at dksX3_counted_3 0 rfl rfl)
theorem dX3_counted_77 : decode cX3_counted 77 = .ok (.ireturn, 1) := dk_172 (dk_at dksX3_counted_3 3 rfl rfl)
theorem dX3_counted_78 : decode cX3_counted 78 = .ok (.aload_n 0, 1) := dk_42 (dk_at dksX3_counted_3 4 rfl rfl)
theorem dX3_counted_79 : decode cX3_counted 79 = .ok (.getfield 58, 3) := dk_180 0 58 (dk_at dksX3_counted_3 5 rfl rfl)
theorem dX3_counted_82 : decode cX3_counted 82 = .ok (.ireturn, 1) := dk_172 (dk_at dksX3_counted_3 8 rfl rfl)
theorem dX3_counted_83 : decode cX3_counted 83 = .ok (.aload_n 0, 1) := dk_42 (dk_at dksX3_counted_3 9 rfl rfl)
theorem dX3_counted_84 : decode cX3_counted 84 = .ok (.getfield 22, 3) := dk_180 0 22 (dk_at dksX3_counted_3 10 rfl rfl)
theorem dX3_counted_87 : decode cX3_counted 87 = .ok (.bipush 7, 2) := dk_16 7 (dk_at dksX3_counted_3 13 rfl rfl)
theorem dX3_counted_89 : decode cX3_counted 89 = .ok (.iaload, 1) := dk_46 (dk_at dksX3_counted_3 15 rfl rfl)
theorem dX3_counted_90 : decode cX3_counted 90 = .ok (.ireturn, 1) := dk_172 (dk_at dksX3_counted_3 16 rfl rfl)
theorem dX3_counted_91 : decode cX3_counted 91 = .ok (.aload_n 0, 1) := dk_42 (dk_at dksX3_counted_3 17 rfl rfl)
theorem dX3_counted_92 : decode cX3_counted 92 = .ok (.getfield 64, 3) := dk_180 0 64 (dk_at dksX3_counted_3 18 rfl rfl)
theorem dX3_counted_95 : decode cX3_counted 95 = .ok (.ireturn, 1) := dk_172 (dk_at dksX3_counted_3 21 rfl rfl)
theorem dX3_counted_96 : decode cX3_counted 96 = .ok (.iconst 0, 1) := dk_3 (dk_at dksX3_counted_3 22 rfl rfl)
theorem dX3_counted_97 : decode cX3_counted 97 = .ok (.istore_n 3, 1) := dk_62 (dk_at dksX3_counted_3 23 rfl rfl)
theorem dX3_counted_98 : decode cX3_counted 98 = .ok (.iload_n 3, 1) := dk_29 (dk_at dksX3_counted_4 0 rfl rfl)
theorem dX3_counted_99 : decode cX3_counted 99 = .ok (.aload_n 0, 1) := dk_42 (dk_at dksX3_counted_4 1 rfl rfl)
theorem dX3_counted_100 : decode cX3_counted 100 = .ok (.getfield 58, 3) := dk_180 0 58 (dk_at dksX3_counted_4 2 rfl rfl)
theorem dX3_counted_103 : decode cX3_counted 103 = .ok (.if_icmp .ge 18, 3) := dk_162 0 18 (dk_at dksX3_counted_4 5 rfl rfl)
theorem dX3_counted_106 : decode cX3_counted 106 = .ok (.iload_n 2, 1) := dk_28 (dk_at dksX3_counted_4 8 rfl rfl)
theorem dX3_counted_107 : decode cX3_counted 107 = .ok (.aload_n 0, 1) := dk_42 (dk_at dksX3_counted_4 9 rfl rfl)
theorem dX3_counted_108 : decode cX3_counted 108 = .ok (.iload_n 3, 1) := dk_29 (dk_at dksX3_counted_4 10 rfl rfl)
theorem dX3_counted_109 : decode cX3_counted 109 = .ok (.iconst 3, 1) := dk_6 (dk_at dksX3_counted_4 11 rfl rfl)
theorem dX3_counted_110 : decode cX3_counted 110 = .ok (.invokevirtual 102, 3) := dk_182 0 102 (dk_at dksX3_counted_4 12 rfl rfl)
theorem dX3_counted_113 : decode cX3_counted 113 = .ok (.iadd, 1) := dk_96 (dk_at dksX3_counted_4 15 rfl rfl)
theorem dX3_counted_114 : decode cX3_counted 114 = .ok (.istore_n 2, 1) := dk_61 (dk_at dksX3_counted_4 16 rfl rfl)
theorem dX3_counted_115 : decode cX3_counted 115 = .ok (.iinc 3 1, 3) := dk_132 3 1 (dk_at dksX3_counted_4 17 rfl rfl)
theorem dX3_counted_118 : decode cX3_counted 118 = .ok (.goto (-20), 3) := dk_167 255 236 (dk_at dksX3_counted_4 20 rfl rfl)
theorem dX3_counted_121 : decode cX3_counted 121 = .ok (.iload_n 2, 1) := dk_28 (dk_at dksX3_counted_4 23 rfl rfl)
theorem dX3_counted_122 : decode cX3_counted 122 = .ok (.ireturn, 1) := dk_172 (dk_at dksX3_counted_5 0 rfl rfl)
theorem dX3_counted_123 : decode cX3_counted 123 = .ok (.iconst 0, 1) := dk_3 (dk_at dksX3_counted_5 1 rfl rfl)
theorem dX3_counted_124 : decode cX3_counted 124 = .ok (.istore_n 3, 1) := dk_62 (dk_at dksX3_counted_5 2 rfl rfl)
theorem dX3_counted_125 : decode cX3_counted 125 = .ok (.iload_n 3, 1) := dk_29 (dk_at dksX3_counted_5 3 rfl rfl)
theorem dX3_counted_126 : decode cX3_counted 126 = .ok (.aload_n 0, 1) := dk_42 (dk_at dksX3_counted_5 4 rfl rfl)
theorem dX3_counted_127 : decode cX3_counted 127 = .ok (.getfield 22, 3) := dk_180 0 22 (dk_at dksX3_counted_5 5 rfl rfl)
theorem dX3_counted_130 : decode cX3_counted 130 = .ok (.bipush 7, 2) := dk_16 7 (dk_at dksX3_counted_5 8 rfl rfl)
theorem dX3_counted_132 : decode cX3_counted 132 = .ok (.iaload, 1) := dk_46 (dk_at dksX3_counted_5 10 rfl rfl)
theorem dX3_counted_133 : decode cX3_counted 133 = .ok (.if_icmp .ge 18, 3) := dk_162 0 18 (dk_at dksX3_counted_5 11 rfl rfl)
theorem dX3_counted_136 : decode cX3_counted 136 = .ok (.iload_n 2, 1) := dk_28 (dk_at dksX3_counted_5 14 rfl rfl)
theorem dX3_counted_137 : decode cX3_counted 137 = .ok (.aload_n 0, 1) := dk_42 (dk_at dksX3_counted_5 15 rfl rfl)
theorem dX3_counted_138 : decode cX3_counted 138 = .ok (.iload_n 3, 1) := dk_29 (dk_at dksX3_counted_5 16 rfl rfl)
theorem dX3_counted_139 : decode cX3_counted 139 = .ok (.iconst 3, 1) := dk_6 (dk_at dksX3_counted_5 17 rfl rfl)
theorem dX3_counted_140 : decode cX3_counted 140 = .ok (.invokevirtual 105, 3) := dk_182 0 105 (dk_at dksX3_counted_5 18 rfl rfl)
theorem dX3_counted_143 : decode cX3_counted 143 = .ok (.iadd, 1) := dk_96 (dk_at dksX3_counted_5 21 rfl rfl)
theorem dX3_counted_144 : decode cX3_counted 144 = .ok (.istore_n 2, 1) := dk_61 (dk_at dksX3_counted_5 22 rfl rfl)
theorem dX3_counted_145 : decode cX3_counted 145 = .ok (.iinc 3 1, 3) := dk_132 3 1 (dk_at dksX3_counted_6 0 rfl rfl)
theorem dX3_counted_148 : decode cX3_counted 148 = .ok (.goto (-23), 3) := dk_167 255 233 (dk_at dksX3_counted_6 3 rfl rfl)
theorem dX3_counted_151 : decode cX3_counted 151 = .ok (.iload_n 2, 1) := dk_28 (dk_at dksX3_counted_6 6 rfl rfl)
theorem dX3_counted_152 : decode cX3_counted 152 = .ok (.ireturn, 1) := dk_172 (dk_at dksX3_counted_6 7 rfl rfl)
theorem dX3_counted_153 : decode cX3_counted 153 = .ok (.aload_n 0, 1) := dk_42 (dk_at dksX3_counted_6 8 rfl rfl)
theorem dX3_counted_154 : decode cX3_counted 154 = .ok (.getfield 22, 3) := dk_180 0 22 (dk_at dksX3_counted_6 9 rfl rfl)
theorem dX3_counted_157 : decode cX3_counted 157 = .ok (.iload_n 1, 1) := dk_27 (dk_at dksX3_counted_6 12 rfl rfl)
theorem dX3_counted_158 : decode cX3_counted 158 = .ok (.bipush 6, 2) := dk_16 6 (dk_at dksX3_counted_6 13 rfl rfl)
theorem dX3_counted_160 : decode cX3_counted 160 = .ok (.isub, 1) := dk_100 (dk_at dksX3_counted_6 15 rfl rfl)
theorem dX3_counted_161 : decode cX3_counted 161 = .ok (.iaload, 1) := dk_46 (dk_at dksX3_counted_6 16 rfl rfl)
theorem dX3_counted_162 : decode cX3_counted 162 = .ok (.ireturn, 1) := dk_172 (dk_at dksX3_counted_6 17 rfl rfl)
abbrev cX3_next : ByteArray := prog_14_method_33_code
def yX3_next : MethodName := ⟨RX3, "next", "()I"⟩
def dkwX3_next_3 : List UInt8 := [27, 172]
abbrev dktX3_next_3 : List UInt8 := dkwX3_next_3 ++ []
def dkwX3_next_2 : List UInt8 := [3, 96, 46, 42, 180, 0, 19, 7, 27, 104, 3, 96, 46, 162, 0, 5, 28, 60, 132, 2, 1, 167, 255, 196]
abbrev dktX3_next_2 : List UInt8 := dkwX3_next_2 ++ dktX3_next_3
def dkwX3_next_1 : List UInt8 := [3, 96, 46, 42, 180, 0, 22, 4, 46, 161, 0, 33, 27, 2, 159, 0, 26, 42, 180, 0, 19, 7, 28, 104]
abbrev dktX3_next_1 : List UInt8 := dkwX3_next_1 ++ dktX3_next_2
def dkwX3_next_0 : List UInt8 := [42, 3, 181, 0, 25, 2, 60, 3, 61, 28, 42, 180, 0, 64, 162, 0, 58, 42, 180, 0, 19, 7, 28, 104]
abbrev dktX3_next_0 : List UInt8 := dkwX3_next_0 ++ dktX3_next_1
theorem dksX3_next_0 : cX3_next.data.toList.drop 0 = dktX3_next_0 := by decide +kernel
theorem dksX3_next_1 : cX3_next.data.toList.drop 24 = dktX3_next_1 := dk_seg dksX3_next_0 24 rfl rfl
theorem dksX3_next_2 : cX3_next.data.toList.drop 48 = dktX3_next_2 := dk_seg dksX3_next_1 24 rfl rfl
theorem dksX3_next_3 : cX3_next.data.toList.drop 72 = dktX3_next_3 := dk_seg dksX3_next_2 24 rfl rfl
theorem dX3_next_0 : decode cX3_next 0 = .ok (.aload_n 0, 1) := dk_42 (dk_at dksX3_next_0 0 rfl rfl)
theorem dX3_next_1 : decode cX3_next 1 = .ok (.iconst 0, 1) := dk_3 (dk_at dksX3_next_0 1 rfl rfl)
theorem dX3_next_2 : decode cX3_next 2 = .ok (.putfield 25, 3) := dk_181 0 25 (dk_at dksX3_next_0 2 rfl rfl)
theorem dX3_next_5 : decode cX3_next 5 = .ok (.iconst (-1), 1) := dk_2 (dk_at dksX3_next_0 5 rfl rfl)
theorem dX3_next_6 : decode cX3_next 6 = .ok (.istore_n 1, 1) := dk_60 (dk_at dksX3_next_0 6 rfl rfl)
theorem dX3_next_7 : decode cX3_next 7 = .ok (.iconst 0, 1) := dk_3 (dk_at dksX3_next_0 7 rfl rfl)
theorem dX3_next_8 : decode cX3_next 8 = .ok (.istore_n 2, 1) := dk_61 (dk_at dksX3_next_0 8 rfl rfl)
theorem dX3_next_9 : decode cX3_next 9 = .ok (.iload_n 2, 1) := dk_28 (dk_at dksX3_next_0 9 rfl rfl)
theorem dX3_next_10 : decode cX3_next 10 = .ok (.aload_n 0, 1) := dk_42 (dk_at dksX3_next_0 10 rfl rfl)
theorem dX3_next_11 : decode cX3_next 11 = .ok (.getfield 64, 3) := dk_180 0 64 (dk_at dksX3_next_0 11 rfl rfl)
theorem dX3_next_14 : decode cX3_next 14 = .ok (.if_icmp .ge 58, 3) := dk_162 0 58 (dk_at dksX3_next_0 14 rfl rfl)
theorem dX3_next_17 : decode cX3_next 17 = .ok (.aload_n 0, 1) := dk_42 (dk_at dksX3_next_0 17 rfl rfl)
theorem dX3_next_18 : decode cX3_next 18 = .ok (.getfield 19, 3) := dk_180 0 19 (dk_at dksX3_next_0 18 rfl rfl)
theorem dX3_next_21 : decode cX3_next 21 = .ok (.iconst 4, 1) := dk_7 (dk_at dksX3_next_0 21 rfl rfl)
theorem dX3_next_22 : decode cX3_next 22 = .ok (.iload_n 2, 1) := dk_28 (dk_at dksX3_next_0 22 rfl rfl)
theorem dX3_next_23 : decode cX3_next 23 = .ok (.imul, 1) := dk_104 (dk_at dksX3_next_0 23 rfl rfl)
theorem dX3_next_24 : decode cX3_next 24 = .ok (.iconst 0, 1) := dk_3 (dk_at dksX3_next_1 0 rfl rfl)
theorem dX3_next_25 : decode cX3_next 25 = .ok (.iadd, 1) := dk_96 (dk_at dksX3_next_1 1 rfl rfl)
theorem dX3_next_26 : decode cX3_next 26 = .ok (.iaload, 1) := dk_46 (dk_at dksX3_next_1 2 rfl rfl)
theorem dX3_next_27 : decode cX3_next 27 = .ok (.aload_n 0, 1) := dk_42 (dk_at dksX3_next_1 3 rfl rfl)
theorem dX3_next_28 : decode cX3_next 28 = .ok (.getfield 22, 3) := dk_180 0 22 (dk_at dksX3_next_1 4 rfl rfl)
theorem dX3_next_31 : decode cX3_next 31 = .ok (.iconst 1, 1) := dk_4 (dk_at dksX3_next_1 7 rfl rfl)
theorem dX3_next_32 : decode cX3_next 32 = .ok (.iaload, 1) := dk_46 (dk_at dksX3_next_1 8 rfl rfl)
theorem dX3_next_33 : decode cX3_next 33 = .ok (.if_icmp .lt 33, 3) := dk_161 0 33 (dk_at dksX3_next_1 9 rfl rfl)
theorem dX3_next_36 : decode cX3_next 36 = .ok (.iload_n 1, 1) := dk_27 (dk_at dksX3_next_1 12 rfl rfl)
theorem dX3_next_37 : decode cX3_next 37 = .ok (.iconst (-1), 1) := dk_2 (dk_at dksX3_next_1 13 rfl rfl)
theorem dX3_next_38 : decode cX3_next 38 = .ok (.if_icmp .eq 26, 3) := dk_159 0 26 (dk_at dksX3_next_1 14 rfl rfl)
theorem dX3_next_41 : decode cX3_next 41 = .ok (.aload_n 0, 1) := dk_42 (dk_at dksX3_next_1 17 rfl rfl)
theorem dX3_next_42 : decode cX3_next 42 = .ok (.getfield 19, 3) := dk_180 0 19 (dk_at dksX3_next_1 18 rfl rfl)
theorem dX3_next_45 : decode cX3_next 45 = .ok (.iconst 4, 1) := dk_7 (dk_at dksX3_next_1 21 rfl rfl)
theorem dX3_next_46 : decode cX3_next 46 = .ok (.iload_n 2, 1) := dk_28 (dk_at dksX3_next_1 22 rfl rfl)
theorem dX3_next_47 : decode cX3_next 47 = .ok (.imul, 1) := dk_104 (dk_at dksX3_next_1 23 rfl rfl)
theorem dX3_next_48 : decode cX3_next 48 = .ok (.iconst 0, 1) := dk_3 (dk_at dksX3_next_2 0 rfl rfl)
theorem dX3_next_49 : decode cX3_next 49 = .ok (.iadd, 1) := dk_96 (dk_at dksX3_next_2 1 rfl rfl)
theorem dX3_next_50 : decode cX3_next 50 = .ok (.iaload, 1) := dk_46 (dk_at dksX3_next_2 2 rfl rfl)
theorem dX3_next_51 : decode cX3_next 51 = .ok (.aload_n 0, 1) := dk_42 (dk_at dksX3_next_2 3 rfl rfl)
theorem dX3_next_52 : decode cX3_next 52 = .ok (.getfield 19, 3) := dk_180 0 19 (dk_at dksX3_next_2 4 rfl rfl)
theorem dX3_next_55 : decode cX3_next 55 = .ok (.iconst 4, 1) := dk_7 (dk_at dksX3_next_2 7 rfl rfl)
theorem dX3_next_56 : decode cX3_next 56 = .ok (.iload_n 1, 1) := dk_27 (dk_at dksX3_next_2 8 rfl rfl)
theorem dX3_next_57 : decode cX3_next 57 = .ok (.imul, 1) := dk_104 (dk_at dksX3_next_2 9 rfl rfl)
theorem dX3_next_58 : decode cX3_next 58 = .ok (.iconst 0, 1) := dk_3 (dk_at dksX3_next_2 10 rfl rfl)
theorem dX3_next_59 : decode cX3_next 59 = .ok (.iadd, 1) := dk_96 (dk_at dksX3_next_2 11 rfl rfl)
theorem dX3_next_60 : decode cX3_next 60 = .ok (.iaload, 1) := dk_46 (dk_at dksX3_next_2 12 rfl rfl)
theorem dX3_next_61 : decode cX3_next 61 = .ok (.if_icmp .ge 5, 3) := dk_162 0 5 (dk_at dksX3_next_2 13 rfl rfl)
theorem dX3_next_64 : decode cX3_next 64 = .ok (.iload_n 2, 1) := dk_28 (dk_at dksX3_next_2 16 rfl rfl)
theorem dX3_next_65 : decode cX3_next 65 = .ok (.istore_n 1, 1) := dk_60 (dk_at dksX3_next_2 17 rfl rfl)
theorem dX3_next_66 : decode cX3_next 66 = .ok (.iinc 2 1, 3) := dk_132 2 1 (dk_at dksX3_next_2 18 rfl rfl)
theorem dX3_next_69 : decode cX3_next 69 = .ok (.goto (-60), 3) := dk_167 255 196 (dk_at dksX3_next_2 21 rfl rfl)
theorem dX3_next_72 : decode cX3_next 72 = .ok (.iload_n 1, 1) := dk_27 (dk_at dksX3_next_3 0 rfl rfl)
theorem dX3_next_73 : decode cX3_next 73 = .ok (.ireturn, 1) := dk_172 (dk_at dksX3_next_3 1 rfl rfl)
abbrev cX3_when : ByteArray := prog_14_method_34_code
def yX3_when : MethodName := ⟨RX3, "when", "(I)I"⟩
def dkwX3_when_5 : List UInt8 := [4, 46, 100, 4, 96, 172]
abbrev dktX3_when_5 : List UInt8 := dkwX3_when_5 ++ []
def dkwX3_when_4 : List UInt8 := [4, 46, 28, 4, 100, 184, 0, 32, 153, 0, 5, 2, 172, 132, 3, 1, 167, 255, 204, 28, 42, 180, 0, 22]
abbrev dktX3_when_4 : List UInt8 := dkwX3_when_4 ++ dktX3_when_5
def dkwX3_when_3 : List UInt8 := [7, 29, 104, 4, 96, 46, 7, 160, 0, 30, 42, 180, 0, 19, 7, 29, 104, 3, 96, 46, 42, 180, 0, 22]
abbrev dktX3_when_3 : List UInt8 := dkwX3_when_3 ++ dktX3_when_4
def dkwX3_when_2 : List UInt8 := [180, 0, 22, 4, 46, 162, 0, 5, 2, 172, 3, 62, 29, 42, 180, 0, 64, 162, 0, 50, 42, 180, 0, 19]
abbrev dktX3_when_2 : List UInt8 := dkwX3_when_2 ++ dktX3_when_3
def dkwX3_when_1 : List UInt8 := [172, 42, 180, 0, 19, 7, 27, 104, 3, 96, 46, 61, 42, 180, 0, 22, 5, 46, 153, 0, 13, 28, 42]
abbrev dktX3_when_1 : List UInt8 := dkwX3_when_1 ++ dktX3_when_2
def dkwX3_when_0 : List UInt8 := [42, 3, 181, 0, 25, 27, 3, 42, 180, 0, 64, 4, 100, 184, 0, 32, 154, 0, 9, 42, 4, 182, 0, 36]
abbrev dktX3_when_0 : List UInt8 := dkwX3_when_0 ++ dktX3_when_1
theorem dksX3_when_0 : cX3_when.data.toList.drop 0 = dktX3_when_0 := by decide +kernel
theorem dksX3_when_1 : cX3_when.data.toList.drop 24 = dktX3_when_1 := dk_seg dksX3_when_0 24 rfl rfl
theorem dksX3_when_2 : cX3_when.data.toList.drop 47 = dktX3_when_2 := dk_seg dksX3_when_1 23 rfl rfl
theorem dksX3_when_3 : cX3_when.data.toList.drop 71 = dktX3_when_3 := dk_seg dksX3_when_2 24 rfl rfl
theorem dksX3_when_4 : cX3_when.data.toList.drop 95 = dktX3_when_4 := dk_seg dksX3_when_3 24 rfl rfl
theorem dksX3_when_5 : cX3_when.data.toList.drop 119 = dktX3_when_5 := dk_seg dksX3_when_4 24 rfl rfl
theorem dX3_when_0 : decode cX3_when 0 = .ok (.aload_n 0, 1) := dk_42 (dk_at dksX3_when_0 0 rfl rfl)
theorem dX3_when_1 : decode cX3_when 1 = .ok (.iconst 0, 1) := dk_3 (dk_at dksX3_when_0 1 rfl rfl)
theorem dX3_when_2 : decode cX3_when 2 = .ok (.putfield 25, 3) := dk_181 0 25 (dk_at dksX3_when_0 2 rfl rfl)
theorem dX3_when_5 : decode cX3_when 5 = .ok (.iload_n 1, 1) := dk_27 (dk_at dksX3_when_0 5 rfl rfl)
theorem dX3_when_6 : decode cX3_when 6 = .ok (.iconst 0, 1) := dk_3 (dk_at dksX3_when_0 6 rfl rfl)
theorem dX3_when_7 : decode cX3_when 7 = .ok (.aload_n 0, 1) := dk_42 (dk_at dksX3_when_0 7 rfl rfl)
theorem dX3_when_8 : decode cX3_when 8 = .ok (.getfield 64, 3) := dk_180 0 64 (dk_at dksX3_when_0 8 rfl rfl)
theorem dX3_when_11 : decode cX3_when 11 = .ok (.iconst 1, 1) := dk_4 (dk_at dksX3_when_0 11 rfl rfl)
theorem dX3_when_12 : decode cX3_when 12 = .ok (.isub, 1) := dk_100 (dk_at dksX3_when_0 12 rfl rfl)
theorem dX3_when_13 : decode cX3_when 13 = .ok (.invokestatic 32, 3) := dk_184 0 32 (dk_at dksX3_when_0 13 rfl rfl)
theorem dX3_when_16 : decode cX3_when 16 = .ok (.ifCond .ne 9, 3) := dk_154 0 9 (dk_at dksX3_when_0 16 rfl rfl)
theorem dX3_when_19 : decode cX3_when 19 = .ok (.aload_n 0, 1) := dk_42 (dk_at dksX3_when_0 19 rfl rfl)
theorem dX3_when_20 : decode cX3_when 20 = .ok (.iconst 1, 1) := dk_4 (dk_at dksX3_when_0 20 rfl rfl)
theorem dX3_when_21 : decode cX3_when 21 = .ok (.invokevirtual 36, 3) := dk_182 0 36 (dk_at dksX3_when_0 21 rfl rfl)
theorem dX3_when_24 : decode cX3_when 24 = .ok (.ireturn, 1) := dk_172 (dk_at dksX3_when_1 0 rfl rfl)
theorem dX3_when_25 : decode cX3_when 25 = .ok (.aload_n 0, 1) := dk_42 (dk_at dksX3_when_1 1 rfl rfl)
theorem dX3_when_26 : decode cX3_when 26 = .ok (.getfield 19, 3) := dk_180 0 19 (dk_at dksX3_when_1 2 rfl rfl)
theorem dX3_when_29 : decode cX3_when 29 = .ok (.iconst 4, 1) := dk_7 (dk_at dksX3_when_1 5 rfl rfl)
theorem dX3_when_30 : decode cX3_when 30 = .ok (.iload_n 1, 1) := dk_27 (dk_at dksX3_when_1 6 rfl rfl)
theorem dX3_when_31 : decode cX3_when 31 = .ok (.imul, 1) := dk_104 (dk_at dksX3_when_1 7 rfl rfl)
theorem dX3_when_32 : decode cX3_when 32 = .ok (.iconst 0, 1) := dk_3 (dk_at dksX3_when_1 8 rfl rfl)
theorem dX3_when_33 : decode cX3_when 33 = .ok (.iadd, 1) := dk_96 (dk_at dksX3_when_1 9 rfl rfl)
theorem dX3_when_34 : decode cX3_when 34 = .ok (.iaload, 1) := dk_46 (dk_at dksX3_when_1 10 rfl rfl)
theorem dX3_when_35 : decode cX3_when 35 = .ok (.istore_n 2, 1) := dk_61 (dk_at dksX3_when_1 11 rfl rfl)
theorem dX3_when_36 : decode cX3_when 36 = .ok (.aload_n 0, 1) := dk_42 (dk_at dksX3_when_1 12 rfl rfl)
theorem dX3_when_37 : decode cX3_when 37 = .ok (.getfield 22, 3) := dk_180 0 22 (dk_at dksX3_when_1 13 rfl rfl)
theorem dX3_when_40 : decode cX3_when 40 = .ok (.iconst 2, 1) := dk_5 (dk_at dksX3_when_1 16 rfl rfl)
theorem dX3_when_41 : decode cX3_when 41 = .ok (.iaload, 1) := dk_46 (dk_at dksX3_when_1 17 rfl rfl)
theorem dX3_when_42 : decode cX3_when 42 = .ok (.ifCond .eq 13, 3) := dk_153 0 13 (dk_at dksX3_when_1 18 rfl rfl)
theorem dX3_when_45 : decode cX3_when 45 = .ok (.iload_n 2, 1) := dk_28 (dk_at dksX3_when_1 21 rfl rfl)
theorem dX3_when_46 : decode cX3_when 46 = .ok (.aload_n 0, 1) := dk_42 (dk_at dksX3_when_1 22 rfl rfl)
theorem dX3_when_47 : decode cX3_when 47 = .ok (.getfield 22, 3) := dk_180 0 22 (dk_at dksX3_when_2 0 rfl rfl)
theorem dX3_when_50 : decode cX3_when 50 = .ok (.iconst 1, 1) := dk_4 (dk_at dksX3_when_2 3 rfl rfl)
theorem dX3_when_51 : decode cX3_when 51 = .ok (.iaload, 1) := dk_46 (dk_at dksX3_when_2 4 rfl rfl)
theorem dX3_when_52 : decode cX3_when 52 = .ok (.if_icmp .ge 5, 3) := dk_162 0 5 (dk_at dksX3_when_2 5 rfl rfl)
theorem dX3_when_55 : decode cX3_when 55 = .ok (.iconst (-1), 1) := dk_2 (dk_at dksX3_when_2 8 rfl rfl)
theorem dX3_when_56 : decode cX3_when 56 = .ok (.ireturn, 1) := dk_172 (dk_at dksX3_when_2 9 rfl rfl)
theorem dX3_when_57 : decode cX3_when 57 = .ok (.iconst 0, 1) := dk_3 (dk_at dksX3_when_2 10 rfl rfl)
theorem dX3_when_58 : decode cX3_when 58 = .ok (.istore_n 3, 1) := dk_62 (dk_at dksX3_when_2 11 rfl rfl)
theorem dX3_when_59 : decode cX3_when 59 = .ok (.iload_n 3, 1) := dk_29 (dk_at dksX3_when_2 12 rfl rfl)
theorem dX3_when_60 : decode cX3_when 60 = .ok (.aload_n 0, 1) := dk_42 (dk_at dksX3_when_2 13 rfl rfl)
theorem dX3_when_61 : decode cX3_when 61 = .ok (.getfield 64, 3) := dk_180 0 64 (dk_at dksX3_when_2 14 rfl rfl)
theorem dX3_when_64 : decode cX3_when 64 = .ok (.if_icmp .ge 50, 3) := dk_162 0 50 (dk_at dksX3_when_2 17 rfl rfl)
theorem dX3_when_67 : decode cX3_when 67 = .ok (.aload_n 0, 1) := dk_42 (dk_at dksX3_when_2 20 rfl rfl)
theorem dX3_when_68 : decode cX3_when 68 = .ok (.getfield 19, 3) := dk_180 0 19 (dk_at dksX3_when_2 21 rfl rfl)
theorem dX3_when_71 : decode cX3_when 71 = .ok (.iconst 4, 1) := dk_7 (dk_at dksX3_when_3 0 rfl rfl)
theorem dX3_when_72 : decode cX3_when 72 = .ok (.iload_n 3, 1) := dk_29 (dk_at dksX3_when_3 1 rfl rfl)
theorem dX3_when_73 : decode cX3_when 73 = .ok (.imul, 1) := dk_104 (dk_at dksX3_when_3 2 rfl rfl)
theorem dX3_when_74 : decode cX3_when 74 = .ok (.iconst 1, 1) := dk_4 (dk_at dksX3_when_3 3 rfl rfl)
theorem dX3_when_75 : decode cX3_when 75 = .ok (.iadd, 1) := dk_96 (dk_at dksX3_when_3 4 rfl rfl)
theorem dX3_when_76 : decode cX3_when 76 = .ok (.iaload, 1) := dk_46 (dk_at dksX3_when_3 5 rfl rfl)
theorem dX3_when_77 : decode cX3_when 77 = .ok (.iconst 4, 1) := dk_7 (dk_at dksX3_when_3 6 rfl rfl)
theorem dX3_when_78 : decode cX3_when 78 = .ok (.if_icmp .ne 30, 3) := dk_160 0 30 (dk_at dksX3_when_3 7 rfl rfl)
theorem dX3_when_81 : decode cX3_when 81 = .ok (.aload_n 0, 1) := dk_42 (dk_at dksX3_when_3 10 rfl rfl)
theorem dX3_when_82 : decode cX3_when 82 = .ok (.getfield 19, 3) := dk_180 0 19 (dk_at dksX3_when_3 11 rfl rfl)
theorem dX3_when_85 : decode cX3_when 85 = .ok (.iconst 4, 1) := dk_7 (dk_at dksX3_when_3 14 rfl rfl)
theorem dX3_when_86 : decode cX3_when 86 = .ok (.iload_n 3, 1) := dk_29 (dk_at dksX3_when_3 15 rfl rfl)
theorem dX3_when_87 : decode cX3_when 87 = .ok (.imul, 1) := dk_104 (dk_at dksX3_when_3 16 rfl rfl)
theorem dX3_when_88 : decode cX3_when 88 = .ok (.iconst 0, 1) := dk_3 (dk_at dksX3_when_3 17 rfl rfl)
theorem dX3_when_89 : decode cX3_when 89 = .ok (.iadd, 1) := dk_96 (dk_at dksX3_when_3 18 rfl rfl)
theorem dX3_when_90 : decode cX3_when 90 = .ok (.iaload, 1) := dk_46 (dk_at dksX3_when_3 19 rfl rfl)
theorem dX3_when_91 : decode cX3_when 91 = .ok (.aload_n 0, 1) := dk_42 (dk_at dksX3_when_3 20 rfl rfl)
theorem dX3_when_92 : decode cX3_when 92 = .ok (.getfield 22, 3) := dk_180 0 22 (dk_at dksX3_when_3 21 rfl rfl)
theorem dX3_when_95 : decode cX3_when 95 = .ok (.iconst 1, 1) := dk_4 (dk_at dksX3_when_4 0 rfl rfl)
theorem dX3_when_96 : decode cX3_when 96 = .ok (.iaload, 1) := dk_46 (dk_at dksX3_when_4 1 rfl rfl)
theorem dX3_when_97 : decode cX3_when 97 = .ok (.iload_n 2, 1) := dk_28 (dk_at dksX3_when_4 2 rfl rfl)
theorem dX3_when_98 : decode cX3_when 98 = .ok (.iconst 1, 1) := dk_4 (dk_at dksX3_when_4 3 rfl rfl)
theorem dX3_when_99 : decode cX3_when 99 = .ok (.isub, 1) := dk_100 (dk_at dksX3_when_4 4 rfl rfl)
theorem dX3_when_100 : decode cX3_when 100 = .ok (.invokestatic 32, 3) := dk_184 0 32 (dk_at dksX3_when_4 5 rfl rfl)
theorem dX3_when_103 : decode cX3_when 103 = .ok (.ifCond .eq 5, 3) := dk_153 0 5 (dk_at dksX3_when_4 8 rfl rfl)
theorem dX3_when_106 : decode cX3_when 106 = .ok (.iconst (-1), 1) := dk_2 (dk_at dksX3_when_4 11 rfl rfl)
theorem dX3_when_107 : decode cX3_when 107 = .ok (.ireturn, 1) := dk_172 (dk_at dksX3_when_4 12 rfl rfl)
theorem dX3_when_108 : decode cX3_when 108 = .ok (.iinc 3 1, 3) := dk_132 3 1 (dk_at dksX3_when_4 13 rfl rfl)
theorem dX3_when_111 : decode cX3_when 111 = .ok (.goto (-52), 3) := dk_167 255 204 (dk_at dksX3_when_4 16 rfl rfl)
theorem dX3_when_114 : decode cX3_when 114 = .ok (.iload_n 2, 1) := dk_28 (dk_at dksX3_when_4 19 rfl rfl)
theorem dX3_when_115 : decode cX3_when 115 = .ok (.aload_n 0, 1) := dk_42 (dk_at dksX3_when_4 20 rfl rfl)
theorem dX3_when_116 : decode cX3_when 116 = .ok (.getfield 22, 3) := dk_180 0 22 (dk_at dksX3_when_4 21 rfl rfl)
theorem dX3_when_119 : decode cX3_when 119 = .ok (.iconst 1, 1) := dk_4 (dk_at dksX3_when_5 0 rfl rfl)
theorem dX3_when_120 : decode cX3_when 120 = .ok (.iaload, 1) := dk_46 (dk_at dksX3_when_5 1 rfl rfl)
theorem dX3_when_121 : decode cX3_when 121 = .ok (.isub, 1) := dk_100 (dk_at dksX3_when_5 2 rfl rfl)
theorem dX3_when_122 : decode cX3_when 122 = .ok (.iconst 1, 1) := dk_4 (dk_at dksX3_when_5 3 rfl rfl)
theorem dX3_when_123 : decode cX3_when 123 = .ok (.iadd, 1) := dk_96 (dk_at dksX3_when_5 4 rfl rfl)
theorem dX3_when_124 : decode cX3_when 124 = .ok (.ireturn, 1) := dk_172 (dk_at dksX3_when_5 5 rfl rfl)
abbrev cX3_lasts : ByteArray := prog_14_method_37_code
def yX3_lasts : MethodName := ⟨RX3, "lasts", "(I)I"⟩
def dkwX3_lasts_2 : List UInt8 := [132, 3, 1, 167, 255, 232, 42, 27, 7, 182, 0, 50, 158, 0, 5, 2, 62, 42, 44, 182, 0, 120, 29, 172]
abbrev dktX3_lasts_2 : List UInt8 := dkwX3_lasts_2 ++ []
def dkwX3_lasts_1 : List UInt8 := [3, 62, 29, 17, 1, 244, 162, 0, 23, 42, 27, 7, 182, 0, 50, 158, 0, 14, 42, 182, 0, 85, 87]
abbrev dktX3_lasts_1 : List UInt8 := dkwX3_lasts_1 ++ dktX3_lasts_2
def dkwX3_lasts_0 : List UInt8 := [42, 3, 181, 0, 25, 42, 27, 182, 0, 46, 154, 0, 9, 42, 4, 182, 0, 36, 172, 42, 182, 0, 116, 77]
abbrev dktX3_lasts_0 : List UInt8 := dkwX3_lasts_0 ++ dktX3_lasts_1
theorem dksX3_lasts_0 : cX3_lasts.data.toList.drop 0 = dktX3_lasts_0 := by decide +kernel
theorem dksX3_lasts_1 : cX3_lasts.data.toList.drop 24 = dktX3_lasts_1 := dk_seg dksX3_lasts_0 24 rfl rfl
theorem dksX3_lasts_2 : cX3_lasts.data.toList.drop 47 = dktX3_lasts_2 := dk_seg dksX3_lasts_1 23 rfl rfl
theorem dX3_lasts_0 : decode cX3_lasts 0 = .ok (.aload_n 0, 1) := dk_42 (dk_at dksX3_lasts_0 0 rfl rfl)
theorem dX3_lasts_1 : decode cX3_lasts 1 = .ok (.iconst 0, 1) := dk_3 (dk_at dksX3_lasts_0 1 rfl rfl)
theorem dX3_lasts_2 : decode cX3_lasts 2 = .ok (.putfield 25, 3) := dk_181 0 25 (dk_at dksX3_lasts_0 2 rfl rfl)
theorem dX3_lasts_5 : decode cX3_lasts 5 = .ok (.aload_n 0, 1) := dk_42 (dk_at dksX3_lasts_0 5 rfl rfl)
theorem dX3_lasts_6 : decode cX3_lasts 6 = .ok (.iload_n 1, 1) := dk_27 (dk_at dksX3_lasts_0 6 rfl rfl)
theorem dX3_lasts_7 : decode cX3_lasts 7 = .ok (.invokevirtual 46, 3) := dk_182 0 46 (dk_at dksX3_lasts_0 7 rfl rfl)
theorem dX3_lasts_10 : decode cX3_lasts 10 = .ok (.ifCond .ne 9, 3) := dk_154 0 9 (dk_at dksX3_lasts_0 10 rfl rfl)
theorem dX3_lasts_13 : decode cX3_lasts 13 = .ok (.aload_n 0, 1) := dk_42 (dk_at dksX3_lasts_0 13 rfl rfl)
theorem dX3_lasts_14 : decode cX3_lasts 14 = .ok (.iconst 1, 1) := dk_4 (dk_at dksX3_lasts_0 14 rfl rfl)
theorem dX3_lasts_15 : decode cX3_lasts 15 = .ok (.invokevirtual 36, 3) := dk_182 0 36 (dk_at dksX3_lasts_0 15 rfl rfl)
theorem dX3_lasts_18 : decode cX3_lasts 18 = .ok (.ireturn, 1) := dk_172 (dk_at dksX3_lasts_0 18 rfl rfl)
theorem dX3_lasts_19 : decode cX3_lasts 19 = .ok (.aload_n 0, 1) := dk_42 (dk_at dksX3_lasts_0 19 rfl rfl)
theorem dX3_lasts_20 : decode cX3_lasts 20 = .ok (.invokevirtual 116, 3) := dk_182 0 116 (dk_at dksX3_lasts_0 20 rfl rfl)
theorem dX3_lasts_23 : decode cX3_lasts 23 = .ok (.astore_n 2, 1) := dk_77 (dk_at dksX3_lasts_0 23 rfl rfl)
theorem dX3_lasts_24 : decode cX3_lasts 24 = .ok (.iconst 0, 1) := dk_3 (dk_at dksX3_lasts_1 0 rfl rfl)
theorem dX3_lasts_25 : decode cX3_lasts 25 = .ok (.istore_n 3, 1) := dk_62 (dk_at dksX3_lasts_1 1 rfl rfl)
theorem dX3_lasts_26 : decode cX3_lasts 26 = .ok (.iload_n 3, 1) := dk_29 (dk_at dksX3_lasts_1 2 rfl rfl)
theorem dX3_lasts_27 : decode cX3_lasts 27 = .ok (.sipush 500, 3) := dk_17 1 244 (dk_at dksX3_lasts_1 3 rfl rfl)
theorem dX3_lasts_30 : decode cX3_lasts 30 = .ok (.if_icmp .ge 23, 3) := dk_162 0 23 (dk_at dksX3_lasts_1 6 rfl rfl)
theorem dX3_lasts_33 : decode cX3_lasts 33 = .ok (.aload_n 0, 1) := dk_42 (dk_at dksX3_lasts_1 9 rfl rfl)
theorem dX3_lasts_34 : decode cX3_lasts 34 = .ok (.iload_n 1, 1) := dk_27 (dk_at dksX3_lasts_1 10 rfl rfl)
theorem dX3_lasts_35 : decode cX3_lasts 35 = .ok (.iconst 4, 1) := dk_7 (dk_at dksX3_lasts_1 11 rfl rfl)
theorem dX3_lasts_36 : decode cX3_lasts 36 = .ok (.invokevirtual 50, 3) := dk_182 0 50 (dk_at dksX3_lasts_1 12 rfl rfl)
theorem dX3_lasts_39 : decode cX3_lasts 39 = .ok (.ifCond .le 14, 3) := dk_158 0 14 (dk_at dksX3_lasts_1 15 rfl rfl)
theorem dX3_lasts_42 : decode cX3_lasts 42 = .ok (.aload_n 0, 1) := dk_42 (dk_at dksX3_lasts_1 18 rfl rfl)
theorem dX3_lasts_43 : decode cX3_lasts 43 = .ok (.invokevirtual 85, 3) := dk_182 0 85 (dk_at dksX3_lasts_1 19 rfl rfl)
theorem dX3_lasts_46 : decode cX3_lasts 46 = .ok (.pop, 1) := dk_87 (dk_at dksX3_lasts_1 22 rfl rfl)
theorem dX3_lasts_47 : decode cX3_lasts 47 = .ok (.iinc 3 1, 3) := dk_132 3 1 (dk_at dksX3_lasts_2 0 rfl rfl)
theorem dX3_lasts_50 : decode cX3_lasts 50 = .ok (.goto (-24), 3) := dk_167 255 232 (dk_at dksX3_lasts_2 3 rfl rfl)
theorem dX3_lasts_53 : decode cX3_lasts 53 = .ok (.aload_n 0, 1) := dk_42 (dk_at dksX3_lasts_2 6 rfl rfl)
theorem dX3_lasts_54 : decode cX3_lasts 54 = .ok (.iload_n 1, 1) := dk_27 (dk_at dksX3_lasts_2 7 rfl rfl)
theorem dX3_lasts_55 : decode cX3_lasts 55 = .ok (.iconst 4, 1) := dk_7 (dk_at dksX3_lasts_2 8 rfl rfl)
theorem dX3_lasts_56 : decode cX3_lasts 56 = .ok (.invokevirtual 50, 3) := dk_182 0 50 (dk_at dksX3_lasts_2 9 rfl rfl)
theorem dX3_lasts_59 : decode cX3_lasts 59 = .ok (.ifCond .le 5, 3) := dk_158 0 5 (dk_at dksX3_lasts_2 12 rfl rfl)
theorem dX3_lasts_62 : decode cX3_lasts 62 = .ok (.iconst (-1), 1) := dk_2 (dk_at dksX3_lasts_2 15 rfl rfl)
theorem dX3_lasts_63 : decode cX3_lasts 63 = .ok (.istore_n 3, 1) := dk_62 (dk_at dksX3_lasts_2 16 rfl rfl)
theorem dX3_lasts_64 : decode cX3_lasts 64 = .ok (.aload_n 0, 1) := dk_42 (dk_at dksX3_lasts_2 17 rfl rfl)
theorem dX3_lasts_65 : decode cX3_lasts 65 = .ok (.aload_n 2, 1) := dk_44 (dk_at dksX3_lasts_2 18 rfl rfl)
theorem dX3_lasts_66 : decode cX3_lasts 66 = .ok (.invokevirtual 120, 3) := dk_182 0 120 (dk_at dksX3_lasts_2 19 rfl rfl)
theorem dX3_lasts_69 : decode cX3_lasts 69 = .ok (.iload_n 3, 1) := dk_29 (dk_at dksX3_lasts_2 22 rfl rfl)
theorem dX3_lasts_70 : decode cX3_lasts 70 = .ok (.ireturn, 1) := dk_172 (dk_at dksX3_lasts_2 23 rfl rfl)
abbrev cX3_kept : ByteArray := prog_14_method_35_code
def yX3_kept : MethodName := ⟨RX3, "kept", "()[[I"⟩
def dkwX3_kept_1 : List UInt8 := [182, 0, 112, 192, 0, 111, 83, 89, 5, 42, 180, 0, 22, 182, 0, 112, 192, 0, 111, 83, 176]
abbrev dktX3_kept_1 : List UInt8 := dkwX3_kept_1 ++ []
def dkwX3_kept_0 : List UInt8 := [6, 189, 0, 111, 89, 3, 42, 180, 0, 9, 182, 0, 112, 192, 0, 111, 83, 89, 4, 42, 180, 0, 16]
abbrev dktX3_kept_0 : List UInt8 := dkwX3_kept_0 ++ dktX3_kept_1
theorem dksX3_kept_0 : cX3_kept.data.toList.drop 0 = dktX3_kept_0 := by decide +kernel
theorem dksX3_kept_1 : cX3_kept.data.toList.drop 23 = dktX3_kept_1 := dk_seg dksX3_kept_0 23 rfl rfl
theorem dX3_kept_0 : decode cX3_kept 0 = .ok (.iconst 3, 1) := dk_6 (dk_at dksX3_kept_0 0 rfl rfl)
theorem dX3_kept_1 : decode cX3_kept 1 = .ok (.anewarray 111, 3) := dk_189 0 111 (dk_at dksX3_kept_0 1 rfl rfl)
theorem dX3_kept_4 : decode cX3_kept 4 = .ok (.dup, 1) := dk_89 (dk_at dksX3_kept_0 4 rfl rfl)
theorem dX3_kept_5 : decode cX3_kept 5 = .ok (.iconst 0, 1) := dk_3 (dk_at dksX3_kept_0 5 rfl rfl)
theorem dX3_kept_6 : decode cX3_kept 6 = .ok (.aload_n 0, 1) := dk_42 (dk_at dksX3_kept_0 6 rfl rfl)
theorem dX3_kept_7 : decode cX3_kept 7 = .ok (.getfield 9, 3) := dk_180 0 9 (dk_at dksX3_kept_0 7 rfl rfl)
theorem dX3_kept_10 : decode cX3_kept 10 = .ok (.invokevirtual 112, 3) := dk_182 0 112 (dk_at dksX3_kept_0 10 rfl rfl)
theorem dX3_kept_13 : decode cX3_kept 13 = .ok (.checkcast 111, 3) := dk_192 0 111 (dk_at dksX3_kept_0 13 rfl rfl)
theorem dX3_kept_16 : decode cX3_kept 16 = .ok (.aastore, 1) := dk_83 (dk_at dksX3_kept_0 16 rfl rfl)
theorem dX3_kept_17 : decode cX3_kept 17 = .ok (.dup, 1) := dk_89 (dk_at dksX3_kept_0 17 rfl rfl)
theorem dX3_kept_18 : decode cX3_kept 18 = .ok (.iconst 1, 1) := dk_4 (dk_at dksX3_kept_0 18 rfl rfl)
theorem dX3_kept_19 : decode cX3_kept 19 = .ok (.aload_n 0, 1) := dk_42 (dk_at dksX3_kept_0 19 rfl rfl)
theorem dX3_kept_20 : decode cX3_kept 20 = .ok (.getfield 16, 3) := dk_180 0 16 (dk_at dksX3_kept_0 20 rfl rfl)
theorem dX3_kept_23 : decode cX3_kept 23 = .ok (.invokevirtual 112, 3) := dk_182 0 112 (dk_at dksX3_kept_1 0 rfl rfl)
theorem dX3_kept_26 : decode cX3_kept 26 = .ok (.checkcast 111, 3) := dk_192 0 111 (dk_at dksX3_kept_1 3 rfl rfl)
theorem dX3_kept_29 : decode cX3_kept 29 = .ok (.aastore, 1) := dk_83 (dk_at dksX3_kept_1 6 rfl rfl)
theorem dX3_kept_30 : decode cX3_kept 30 = .ok (.dup, 1) := dk_89 (dk_at dksX3_kept_1 7 rfl rfl)
theorem dX3_kept_31 : decode cX3_kept 31 = .ok (.iconst 2, 1) := dk_5 (dk_at dksX3_kept_1 8 rfl rfl)
theorem dX3_kept_32 : decode cX3_kept 32 = .ok (.aload_n 0, 1) := dk_42 (dk_at dksX3_kept_1 9 rfl rfl)
theorem dX3_kept_33 : decode cX3_kept 33 = .ok (.getfield 22, 3) := dk_180 0 22 (dk_at dksX3_kept_1 10 rfl rfl)
theorem dX3_kept_36 : decode cX3_kept 36 = .ok (.invokevirtual 112, 3) := dk_182 0 112 (dk_at dksX3_kept_1 13 rfl rfl)
theorem dX3_kept_39 : decode cX3_kept 39 = .ok (.checkcast 111, 3) := dk_192 0 111 (dk_at dksX3_kept_1 16 rfl rfl)
theorem dX3_kept_42 : decode cX3_kept 42 = .ok (.aastore, 1) := dk_83 (dk_at dksX3_kept_1 19 rfl rfl)
theorem dX3_kept_43 : decode cX3_kept 43 = .ok (.areturn, 1) := dk_176 (dk_at dksX3_kept_1 20 rfl rfl)
abbrev cX3_bringBack : ByteArray := prog_14_method_36_code
def yX3_bringBack : MethodName := ⟨RX3, "bringBack", "([[I)V"⟩
def dkwX3_bringBack_2 : List UInt8 := [180, 0, 22, 190, 184, 0, 40, 177]
abbrev dktX3_bringBack_2 : List UInt8 := dkwX3_bringBack_2 ++ []
def dkwX3_bringBack_1 : List UInt8 := [180, 0, 16, 3, 42, 180, 0, 16, 190, 184, 0, 40, 43, 5, 50, 3, 42, 180, 0, 22, 3, 42]
abbrev dktX3_bringBack_1 : List UInt8 := dkwX3_bringBack_1 ++ dktX3_bringBack_2
def dkwX3_bringBack_0 : List UInt8 := [43, 3, 50, 3, 42, 180, 0, 9, 3, 42, 180, 0, 9, 190, 184, 0, 40, 43, 4, 50, 3, 42]
abbrev dktX3_bringBack_0 : List UInt8 := dkwX3_bringBack_0 ++ dktX3_bringBack_1
theorem dksX3_bringBack_0 : cX3_bringBack.data.toList.drop 0 = dktX3_bringBack_0 := by decide +kernel
theorem dksX3_bringBack_1 : cX3_bringBack.data.toList.drop 22 = dktX3_bringBack_1 := dk_seg dksX3_bringBack_0 22 rfl rfl
theorem dksX3_bringBack_2 : cX3_bringBack.data.toList.drop 44 = dktX3_bringBack_2 := dk_seg dksX3_bringBack_1 22 rfl rfl
theorem dX3_bringBack_0 : decode cX3_bringBack 0 = .ok (.aload_n 1, 1) := dk_43 (dk_at dksX3_bringBack_0 0 rfl rfl)
theorem dX3_bringBack_1 : decode cX3_bringBack 1 = .ok (.iconst 0, 1) := dk_3 (dk_at dksX3_bringBack_0 1 rfl rfl)
theorem dX3_bringBack_2 : decode cX3_bringBack 2 = .ok (.aaload, 1) := dk_50 (dk_at dksX3_bringBack_0 2 rfl rfl)
theorem dX3_bringBack_3 : decode cX3_bringBack 3 = .ok (.iconst 0, 1) := dk_3 (dk_at dksX3_bringBack_0 3 rfl rfl)
theorem dX3_bringBack_4 : decode cX3_bringBack 4 = .ok (.aload_n 0, 1) := dk_42 (dk_at dksX3_bringBack_0 4 rfl rfl)
theorem dX3_bringBack_5 : decode cX3_bringBack 5 = .ok (.getfield 9, 3) := dk_180 0 9 (dk_at dksX3_bringBack_0 5 rfl rfl)
theorem dX3_bringBack_8 : decode cX3_bringBack 8 = .ok (.iconst 0, 1) := dk_3 (dk_at dksX3_bringBack_0 8 rfl rfl)
theorem dX3_bringBack_9 : decode cX3_bringBack 9 = .ok (.aload_n 0, 1) := dk_42 (dk_at dksX3_bringBack_0 9 rfl rfl)
theorem dX3_bringBack_10 : decode cX3_bringBack 10 = .ok (.getfield 9, 3) := dk_180 0 9 (dk_at dksX3_bringBack_0 10 rfl rfl)
theorem dX3_bringBack_13 : decode cX3_bringBack 13 = .ok (.arraylength, 1) := dk_190 (dk_at dksX3_bringBack_0 13 rfl rfl)
theorem dX3_bringBack_14 : decode cX3_bringBack 14 = .ok (.invokestatic 40, 3) := dk_184 0 40 (dk_at dksX3_bringBack_0 14 rfl rfl)
theorem dX3_bringBack_17 : decode cX3_bringBack 17 = .ok (.aload_n 1, 1) := dk_43 (dk_at dksX3_bringBack_0 17 rfl rfl)
theorem dX3_bringBack_18 : decode cX3_bringBack 18 = .ok (.iconst 1, 1) := dk_4 (dk_at dksX3_bringBack_0 18 rfl rfl)
theorem dX3_bringBack_19 : decode cX3_bringBack 19 = .ok (.aaload, 1) := dk_50 (dk_at dksX3_bringBack_0 19 rfl rfl)
theorem dX3_bringBack_20 : decode cX3_bringBack 20 = .ok (.iconst 0, 1) := dk_3 (dk_at dksX3_bringBack_0 20 rfl rfl)
theorem dX3_bringBack_21 : decode cX3_bringBack 21 = .ok (.aload_n 0, 1) := dk_42 (dk_at dksX3_bringBack_0 21 rfl rfl)
theorem dX3_bringBack_22 : decode cX3_bringBack 22 = .ok (.getfield 16, 3) := dk_180 0 16 (dk_at dksX3_bringBack_1 0 rfl rfl)
theorem dX3_bringBack_25 : decode cX3_bringBack 25 = .ok (.iconst 0, 1) := dk_3 (dk_at dksX3_bringBack_1 3 rfl rfl)
theorem dX3_bringBack_26 : decode cX3_bringBack 26 = .ok (.aload_n 0, 1) := dk_42 (dk_at dksX3_bringBack_1 4 rfl rfl)
theorem dX3_bringBack_27 : decode cX3_bringBack 27 = .ok (.getfield 16, 3) := dk_180 0 16 (dk_at dksX3_bringBack_1 5 rfl rfl)
theorem dX3_bringBack_30 : decode cX3_bringBack 30 = .ok (.arraylength, 1) := dk_190 (dk_at dksX3_bringBack_1 8 rfl rfl)
theorem dX3_bringBack_31 : decode cX3_bringBack 31 = .ok (.invokestatic 40, 3) := dk_184 0 40 (dk_at dksX3_bringBack_1 9 rfl rfl)
theorem dX3_bringBack_34 : decode cX3_bringBack 34 = .ok (.aload_n 1, 1) := dk_43 (dk_at dksX3_bringBack_1 12 rfl rfl)
theorem dX3_bringBack_35 : decode cX3_bringBack 35 = .ok (.iconst 2, 1) := dk_5 (dk_at dksX3_bringBack_1 13 rfl rfl)
theorem dX3_bringBack_36 : decode cX3_bringBack 36 = .ok (.aaload, 1) := dk_50 (dk_at dksX3_bringBack_1 14 rfl rfl)
theorem dX3_bringBack_37 : decode cX3_bringBack 37 = .ok (.iconst 0, 1) := dk_3 (dk_at dksX3_bringBack_1 15 rfl rfl)
theorem dX3_bringBack_38 : decode cX3_bringBack 38 = .ok (.aload_n 0, 1) := dk_42 (dk_at dksX3_bringBack_1 16 rfl rfl)
theorem dX3_bringBack_39 : decode cX3_bringBack 39 = .ok (.getfield 22, 3) := dk_180 0 22 (dk_at dksX3_bringBack_1 17 rfl rfl)
theorem dX3_bringBack_42 : decode cX3_bringBack 42 = .ok (.iconst 0, 1) := dk_3 (dk_at dksX3_bringBack_1 20 rfl rfl)
theorem dX3_bringBack_43 : decode cX3_bringBack 43 = .ok (.aload_n 0, 1) := dk_42 (dk_at dksX3_bringBack_1 21 rfl rfl)
theorem dX3_bringBack_44 : decode cX3_bringBack 44 = .ok (.getfield 22, 3) := dk_180 0 22 (dk_at dksX3_bringBack_2 0 rfl rfl)
theorem dX3_bringBack_47 : decode cX3_bringBack 47 = .ok (.arraylength, 1) := dk_190 (dk_at dksX3_bringBack_2 3 rfl rfl)
theorem dX3_bringBack_48 : decode cX3_bringBack 48 = .ok (.invokestatic 40, 3) := dk_184 0 40 (dk_at dksX3_bringBack_2 4 rfl rfl)
theorem dX3_bringBack_51 : decode cX3_bringBack 51 = .ok (.return_, 1) := dk_177 (dk_at dksX3_bringBack_2 7 rfl rfl)
abbrev cX3_foresee : ByteArray := prog_14_method_38_code
def yX3_foresee : MethodName := ⟨RX3, "foresee", "(II)I"⟩
def dkwX3_foresee_3 : List UInt8 := [182, 0, 108, 54, 4, 42, 45, 182, 0, 120, 21, 4, 172]
abbrev dktX3_foresee_3 : List UInt8 := dkwX3_foresee_3 ++ []
def dkwX3_foresee_2 : List UInt8 := [159, 0, 9, 42, 5, 182, 0, 36, 172, 42, 182, 0, 116, 78, 42, 27, 182, 0, 89, 87, 42, 28]
abbrev dktX3_foresee_2 : List UInt8 := dkwX3_foresee_2 ++ dktX3_foresee_3
def dkwX3_foresee_1 : List UInt8 := [159, 0, 32, 28, 8, 159, 0, 27, 28, 16, 7, 159, 0, 21, 28, 16, 8, 159, 0, 15, 28, 16, 11]
abbrev dktX3_foresee_1 : List UInt8 := dkwX3_foresee_1 ++ dktX3_foresee_2
def dkwX3_foresee_0 : List UInt8 := [42, 3, 181, 0, 25, 27, 4, 17, 1, 244, 184, 0, 32, 154, 0, 9, 42, 4, 182, 0, 36, 172, 28, 4]
abbrev dktX3_foresee_0 : List UInt8 := dkwX3_foresee_0 ++ dktX3_foresee_1
theorem dksX3_foresee_0 : cX3_foresee.data.toList.drop 0 = dktX3_foresee_0 := by decide +kernel
theorem dksX3_foresee_1 : cX3_foresee.data.toList.drop 24 = dktX3_foresee_1 := dk_seg dksX3_foresee_0 24 rfl rfl
theorem dksX3_foresee_2 : cX3_foresee.data.toList.drop 47 = dktX3_foresee_2 := dk_seg dksX3_foresee_1 23 rfl rfl
theorem dksX3_foresee_3 : cX3_foresee.data.toList.drop 69 = dktX3_foresee_3 := dk_seg dksX3_foresee_2 22 rfl rfl
theorem dX3_foresee_0 : decode cX3_foresee 0 = .ok (.aload_n 0, 1) := dk_42 (dk_at dksX3_foresee_0 0 rfl rfl)
theorem dX3_foresee_1 : decode cX3_foresee 1 = .ok (.iconst 0, 1) := dk_3 (dk_at dksX3_foresee_0 1 rfl rfl)
theorem dX3_foresee_2 : decode cX3_foresee 2 = .ok (.putfield 25, 3) := dk_181 0 25 (dk_at dksX3_foresee_0 2 rfl rfl)
theorem dX3_foresee_5 : decode cX3_foresee 5 = .ok (.iload_n 1, 1) := dk_27 (dk_at dksX3_foresee_0 5 rfl rfl)
theorem dX3_foresee_6 : decode cX3_foresee 6 = .ok (.iconst 1, 1) := dk_4 (dk_at dksX3_foresee_0 6 rfl rfl)
theorem dX3_foresee_7 : decode cX3_foresee 7 = .ok (.sipush 500, 3) := dk_17 1 244 (dk_at dksX3_foresee_0 7 rfl rfl)
theorem dX3_foresee_10 : decode cX3_foresee 10 = .ok (.invokestatic 32, 3) := dk_184 0 32 (dk_at dksX3_foresee_0 10 rfl rfl)
theorem dX3_foresee_13 : decode cX3_foresee 13 = .ok (.ifCond .ne 9, 3) := dk_154 0 9 (dk_at dksX3_foresee_0 13 rfl rfl)
theorem dX3_foresee_16 : decode cX3_foresee 16 = .ok (.aload_n 0, 1) := dk_42 (dk_at dksX3_foresee_0 16 rfl rfl)
theorem dX3_foresee_17 : decode cX3_foresee 17 = .ok (.iconst 1, 1) := dk_4 (dk_at dksX3_foresee_0 17 rfl rfl)
theorem dX3_foresee_18 : decode cX3_foresee 18 = .ok (.invokevirtual 36, 3) := dk_182 0 36 (dk_at dksX3_foresee_0 18 rfl rfl)
theorem dX3_foresee_21 : decode cX3_foresee 21 = .ok (.ireturn, 1) := dk_172 (dk_at dksX3_foresee_0 21 rfl rfl)
theorem dX3_foresee_22 : decode cX3_foresee 22 = .ok (.iload_n 2, 1) := dk_28 (dk_at dksX3_foresee_0 22 rfl rfl)
theorem dX3_foresee_23 : decode cX3_foresee 23 = .ok (.iconst 1, 1) := dk_4 (dk_at dksX3_foresee_0 23 rfl rfl)
theorem dX3_foresee_24 : decode cX3_foresee 24 = .ok (.if_icmp .eq 32, 3) := dk_159 0 32 (dk_at dksX3_foresee_1 0 rfl rfl)
theorem dX3_foresee_27 : decode cX3_foresee 27 = .ok (.iload_n 2, 1) := dk_28 (dk_at dksX3_foresee_1 3 rfl rfl)
theorem dX3_foresee_28 : decode cX3_foresee 28 = .ok (.iconst 5, 1) := dk_8 (dk_at dksX3_foresee_1 4 rfl rfl)
theorem dX3_foresee_29 : decode cX3_foresee 29 = .ok (.if_icmp .eq 27, 3) := dk_159 0 27 (dk_at dksX3_foresee_1 5 rfl rfl)
theorem dX3_foresee_32 : decode cX3_foresee 32 = .ok (.iload_n 2, 1) := dk_28 (dk_at dksX3_foresee_1 8 rfl rfl)
theorem dX3_foresee_33 : decode cX3_foresee 33 = .ok (.bipush 7, 2) := dk_16 7 (dk_at dksX3_foresee_1 9 rfl rfl)
theorem dX3_foresee_35 : decode cX3_foresee 35 = .ok (.if_icmp .eq 21, 3) := dk_159 0 21 (dk_at dksX3_foresee_1 11 rfl rfl)
theorem dX3_foresee_38 : decode cX3_foresee 38 = .ok (.iload_n 2, 1) := dk_28 (dk_at dksX3_foresee_1 14 rfl rfl)
theorem dX3_foresee_39 : decode cX3_foresee 39 = .ok (.bipush 8, 2) := dk_16 8 (dk_at dksX3_foresee_1 15 rfl rfl)
theorem dX3_foresee_41 : decode cX3_foresee 41 = .ok (.if_icmp .eq 15, 3) := dk_159 0 15 (dk_at dksX3_foresee_1 17 rfl rfl)
theorem dX3_foresee_44 : decode cX3_foresee 44 = .ok (.iload_n 2, 1) := dk_28 (dk_at dksX3_foresee_1 20 rfl rfl)
theorem dX3_foresee_45 : decode cX3_foresee 45 = .ok (.bipush 11, 2) := dk_16 11 (dk_at dksX3_foresee_1 21 rfl rfl)
theorem dX3_foresee_47 : decode cX3_foresee 47 = .ok (.if_icmp .eq 9, 3) := dk_159 0 9 (dk_at dksX3_foresee_2 0 rfl rfl)
theorem dX3_foresee_50 : decode cX3_foresee 50 = .ok (.aload_n 0, 1) := dk_42 (dk_at dksX3_foresee_2 3 rfl rfl)
theorem dX3_foresee_51 : decode cX3_foresee 51 = .ok (.iconst 2, 1) := dk_5 (dk_at dksX3_foresee_2 4 rfl rfl)
theorem dX3_foresee_52 : decode cX3_foresee 52 = .ok (.invokevirtual 36, 3) := dk_182 0 36 (dk_at dksX3_foresee_2 5 rfl rfl)
theorem dX3_foresee_55 : decode cX3_foresee 55 = .ok (.ireturn, 1) := dk_172 (dk_at dksX3_foresee_2 8 rfl rfl)
theorem dX3_foresee_56 : decode cX3_foresee 56 = .ok (.aload_n 0, 1) := dk_42 (dk_at dksX3_foresee_2 9 rfl rfl)
theorem dX3_foresee_57 : decode cX3_foresee 57 = .ok (.invokevirtual 116, 3) := dk_182 0 116 (dk_at dksX3_foresee_2 10 rfl rfl)
theorem dX3_foresee_60 : decode cX3_foresee 60 = .ok (.astore_n 3, 1) := dk_78 (dk_at dksX3_foresee_2 13 rfl rfl)
theorem dX3_foresee_61 : decode cX3_foresee 61 = .ok (.aload_n 0, 1) := dk_42 (dk_at dksX3_foresee_2 14 rfl rfl)
theorem dX3_foresee_62 : decode cX3_foresee 62 = .ok (.iload_n 1, 1) := dk_27 (dk_at dksX3_foresee_2 15 rfl rfl)
theorem dX3_foresee_63 : decode cX3_foresee 63 = .ok (.invokevirtual 89, 3) := dk_182 0 89 (dk_at dksX3_foresee_2 16 rfl rfl)
theorem dX3_foresee_66 : decode cX3_foresee 66 = .ok (.pop, 1) := dk_87 (dk_at dksX3_foresee_2 19 rfl rfl)
theorem dX3_foresee_67 : decode cX3_foresee 67 = .ok (.aload_n 0, 1) := dk_42 (dk_at dksX3_foresee_2 20 rfl rfl)
theorem dX3_foresee_68 : decode cX3_foresee 68 = .ok (.iload_n 2, 1) := dk_28 (dk_at dksX3_foresee_2 21 rfl rfl)
theorem dX3_foresee_69 : decode cX3_foresee 69 = .ok (.invokevirtual 108, 3) := dk_182 0 108 (dk_at dksX3_foresee_3 0 rfl rfl)
theorem dX3_foresee_72 : decode cX3_foresee 72 = .ok (.istore 4, 2) := dk_54 4 (dk_at dksX3_foresee_3 3 rfl rfl)
theorem dX3_foresee_74 : decode cX3_foresee 74 = .ok (.aload_n 0, 1) := dk_42 (dk_at dksX3_foresee_3 5 rfl rfl)
theorem dX3_foresee_75 : decode cX3_foresee 75 = .ok (.aload_n 3, 1) := dk_45 (dk_at dksX3_foresee_3 6 rfl rfl)
theorem dX3_foresee_76 : decode cX3_foresee 76 = .ok (.invokevirtual 120, 3) := dk_182 0 120 (dk_at dksX3_foresee_3 7 rfl rfl)
theorem dX3_foresee_79 : decode cX3_foresee 79 = .ok (.iload 4, 2) := dk_21 4 (dk_at dksX3_foresee_3 10 rfl rfl)
theorem dX3_foresee_81 : decode cX3_foresee 81 = .ok (.ireturn, 1) := dk_172 (dk_at dksX3_foresee_3 12 rfl rfl)
abbrev cX3_darkest : ByteArray := prog_14_method_39_code
def yX3_darkest : MethodName := ⟨RX3, "darkest", "()I"⟩
def dkwX3_darkest_1 : List UInt8 := [182, 0, 92, 162, 0, 5, 28, 60, 132, 2, 1, 167, 255, 232, 27, 172]
abbrev dktX3_darkest_1 : List UInt8 := dkwX3_darkest_1 ++ []
def dkwX3_darkest_0 : List UInt8 := [42, 3, 181, 0, 25, 3, 60, 4, 61, 28, 16, 12, 162, 0, 24, 42, 28, 182, 0, 92, 42, 27]
abbrev dktX3_darkest_0 : List UInt8 := dkwX3_darkest_0 ++ dktX3_darkest_1
theorem dksX3_darkest_0 : cX3_darkest.data.toList.drop 0 = dktX3_darkest_0 := by decide +kernel
theorem dksX3_darkest_1 : cX3_darkest.data.toList.drop 22 = dktX3_darkest_1 := dk_seg dksX3_darkest_0 22 rfl rfl
theorem dX3_darkest_0 : decode cX3_darkest 0 = .ok (.aload_n 0, 1) := dk_42 (dk_at dksX3_darkest_0 0 rfl rfl)
theorem dX3_darkest_1 : decode cX3_darkest 1 = .ok (.iconst 0, 1) := dk_3 (dk_at dksX3_darkest_0 1 rfl rfl)
theorem dX3_darkest_2 : decode cX3_darkest 2 = .ok (.putfield 25, 3) := dk_181 0 25 (dk_at dksX3_darkest_0 2 rfl rfl)
theorem dX3_darkest_5 : decode cX3_darkest 5 = .ok (.iconst 0, 1) := dk_3 (dk_at dksX3_darkest_0 5 rfl rfl)
theorem dX3_darkest_6 : decode cX3_darkest 6 = .ok (.istore_n 1, 1) := dk_60 (dk_at dksX3_darkest_0 6 rfl rfl)
theorem dX3_darkest_7 : decode cX3_darkest 7 = .ok (.iconst 1, 1) := dk_4 (dk_at dksX3_darkest_0 7 rfl rfl)
theorem dX3_darkest_8 : decode cX3_darkest 8 = .ok (.istore_n 2, 1) := dk_61 (dk_at dksX3_darkest_0 8 rfl rfl)
theorem dX3_darkest_9 : decode cX3_darkest 9 = .ok (.iload_n 2, 1) := dk_28 (dk_at dksX3_darkest_0 9 rfl rfl)
theorem dX3_darkest_10 : decode cX3_darkest 10 = .ok (.bipush 12, 2) := dk_16 12 (dk_at dksX3_darkest_0 10 rfl rfl)
theorem dX3_darkest_12 : decode cX3_darkest 12 = .ok (.if_icmp .ge 24, 3) := dk_162 0 24 (dk_at dksX3_darkest_0 12 rfl rfl)
theorem dX3_darkest_15 : decode cX3_darkest 15 = .ok (.aload_n 0, 1) := dk_42 (dk_at dksX3_darkest_0 15 rfl rfl)
theorem dX3_darkest_16 : decode cX3_darkest 16 = .ok (.iload_n 2, 1) := dk_28 (dk_at dksX3_darkest_0 16 rfl rfl)
theorem dX3_darkest_17 : decode cX3_darkest 17 = .ok (.invokevirtual 92, 3) := dk_182 0 92 (dk_at dksX3_darkest_0 17 rfl rfl)
theorem dX3_darkest_20 : decode cX3_darkest 20 = .ok (.aload_n 0, 1) := dk_42 (dk_at dksX3_darkest_0 20 rfl rfl)
theorem dX3_darkest_21 : decode cX3_darkest 21 = .ok (.iload_n 1, 1) := dk_27 (dk_at dksX3_darkest_0 21 rfl rfl)
theorem dX3_darkest_22 : decode cX3_darkest 22 = .ok (.invokevirtual 92, 3) := dk_182 0 92 (dk_at dksX3_darkest_1 0 rfl rfl)
theorem dX3_darkest_25 : decode cX3_darkest 25 = .ok (.if_icmp .ge 5, 3) := dk_162 0 5 (dk_at dksX3_darkest_1 3 rfl rfl)
theorem dX3_darkest_28 : decode cX3_darkest 28 = .ok (.iload_n 2, 1) := dk_28 (dk_at dksX3_darkest_1 6 rfl rfl)
theorem dX3_darkest_29 : decode cX3_darkest 29 = .ok (.istore_n 1, 1) := dk_60 (dk_at dksX3_darkest_1 7 rfl rfl)
theorem dX3_darkest_30 : decode cX3_darkest 30 = .ok (.iinc 2 1, 3) := dk_132 2 1 (dk_at dksX3_darkest_1 8 rfl rfl)
theorem dX3_darkest_33 : decode cX3_darkest 33 = .ok (.goto (-24), 3) := dk_167 255 232 (dk_at dksX3_darkest_1 11 rfl rfl)
theorem dX3_darkest_36 : decode cX3_darkest 36 = .ok (.iload_n 1, 1) := dk_27 (dk_at dksX3_darkest_1 14 rfl rfl)
theorem dX3_darkest_37 : decode cX3_darkest 37 = .ok (.ireturn, 1) := dk_172 (dk_at dksX3_darkest_1 15 rfl rfl)
abbrev cX3_mean : ByteArray := prog_14_method_40_code
def yX3_mean : MethodName := ⟨RX3, "mean", "()D"⟩
def dkwX3_mean_1 : List UInt8 := [132, 2, 1, 167, 255, 239, 27, 135, 20, 0, 124, 111, 175]
abbrev dktX3_mean_1 : List UInt8 := dkwX3_mean_1 ++ []
def dkwX3_mean_0 : List UInt8 := [42, 3, 181, 0, 25, 3, 60, 3, 61, 28, 16, 12, 162, 0, 17, 27, 42, 28, 182, 0, 92, 96, 60]
abbrev dktX3_mean_0 : List UInt8 := dkwX3_mean_0 ++ dktX3_mean_1
theorem dksX3_mean_0 : cX3_mean.data.toList.drop 0 = dktX3_mean_0 := by decide +kernel
theorem dksX3_mean_1 : cX3_mean.data.toList.drop 23 = dktX3_mean_1 := dk_seg dksX3_mean_0 23 rfl rfl
theorem dX3_mean_0 : decode cX3_mean 0 = .ok (.aload_n 0, 1) := dk_42 (dk_at dksX3_mean_0 0 rfl rfl)
theorem dX3_mean_1 : decode cX3_mean 1 = .ok (.iconst 0, 1) := dk_3 (dk_at dksX3_mean_0 1 rfl rfl)
theorem dX3_mean_2 : decode cX3_mean 2 = .ok (.putfield 25, 3) := dk_181 0 25 (dk_at dksX3_mean_0 2 rfl rfl)
theorem dX3_mean_5 : decode cX3_mean 5 = .ok (.iconst 0, 1) := dk_3 (dk_at dksX3_mean_0 5 rfl rfl)
theorem dX3_mean_6 : decode cX3_mean 6 = .ok (.istore_n 1, 1) := dk_60 (dk_at dksX3_mean_0 6 rfl rfl)
theorem dX3_mean_7 : decode cX3_mean 7 = .ok (.iconst 0, 1) := dk_3 (dk_at dksX3_mean_0 7 rfl rfl)
theorem dX3_mean_8 : decode cX3_mean 8 = .ok (.istore_n 2, 1) := dk_61 (dk_at dksX3_mean_0 8 rfl rfl)
theorem dX3_mean_9 : decode cX3_mean 9 = .ok (.iload_n 2, 1) := dk_28 (dk_at dksX3_mean_0 9 rfl rfl)
theorem dX3_mean_10 : decode cX3_mean 10 = .ok (.bipush 12, 2) := dk_16 12 (dk_at dksX3_mean_0 10 rfl rfl)
theorem dX3_mean_12 : decode cX3_mean 12 = .ok (.if_icmp .ge 17, 3) := dk_162 0 17 (dk_at dksX3_mean_0 12 rfl rfl)
theorem dX3_mean_15 : decode cX3_mean 15 = .ok (.iload_n 1, 1) := dk_27 (dk_at dksX3_mean_0 15 rfl rfl)
theorem dX3_mean_16 : decode cX3_mean 16 = .ok (.aload_n 0, 1) := dk_42 (dk_at dksX3_mean_0 16 rfl rfl)
theorem dX3_mean_17 : decode cX3_mean 17 = .ok (.iload_n 2, 1) := dk_28 (dk_at dksX3_mean_0 17 rfl rfl)
theorem dX3_mean_18 : decode cX3_mean 18 = .ok (.invokevirtual 92, 3) := dk_182 0 92 (dk_at dksX3_mean_0 18 rfl rfl)
theorem dX3_mean_21 : decode cX3_mean 21 = .ok (.iadd, 1) := dk_96 (dk_at dksX3_mean_0 21 rfl rfl)
theorem dX3_mean_22 : decode cX3_mean 22 = .ok (.istore_n 1, 1) := dk_60 (dk_at dksX3_mean_0 22 rfl rfl)
theorem dX3_mean_23 : decode cX3_mean 23 = .ok (.iinc 2 1, 3) := dk_132 2 1 (dk_at dksX3_mean_1 0 rfl rfl)
theorem dX3_mean_26 : decode cX3_mean 26 = .ok (.goto (-17), 3) := dk_167 255 239 (dk_at dksX3_mean_1 3 rfl rfl)
theorem dX3_mean_29 : decode cX3_mean 29 = .ok (.iload_n 1, 1) := dk_27 (dk_at dksX3_mean_1 6 rfl rfl)
theorem dX3_mean_30 : decode cX3_mean 30 = .ok (.i2d, 1) := dk_135 (dk_at dksX3_mean_1 7 rfl rfl)
theorem dX3_mean_31 : decode cX3_mean 31 = .ok (.ldc2_w 124, 3) := dk_20 0 124 (dk_at dksX3_mean_1 8 rfl rfl)
theorem dX3_mean_34 : decode cX3_mean 34 = .ok (.ddiv, 1) := dk_111 (dk_at dksX3_mean_1 11 rfl rfl)
theorem dX3_mean_35 : decode cX3_mean 35 = .ok (.dreturn, 1) := dk_175 (dk_at dksX3_mean_1 12 rfl rfl)
abbrev cX3_digest : ByteArray := prog_14_method_41_code
def yX3_digest : MethodName := ⟨RX3, "digest", "()J"⟩
def dkwX3_digest_9 : List UInt8 := [132, 3, 1, 167, 255, 229, 31, 173]
abbrev dktX3_digest_9 : List UInt8 := dkwX3_digest_9 ++ []
def dkwX3_digest_8 : List UInt8 := [29, 7, 42, 180, 0, 64, 104, 162, 0, 23, 31, 20, 0, 128, 105, 42, 180, 0, 19, 29, 46, 133, 97, 64]
abbrev dktX3_digest_8 : List UInt8 := dkwX3_digest_8 ++ dktX3_digest_9
def dkwX3_digest_7 : List UInt8 := [42, 29, 21, 4, 182, 0, 105, 133, 97, 64, 132, 4, 1, 167, 255, 232, 132, 3, 1, 167, 255, 212, 3, 62]
abbrev dktX3_digest_7 : List UInt8 := dkwX3_digest_7 ++ dktX3_digest_8
def dkwX3_digest_6 : List UInt8 := [42, 180, 0, 22, 16, 7, 46, 162, 0, 39, 3, 54, 4, 21, 4, 7, 162, 0, 24, 31, 20, 0, 128, 105]
abbrev dktX3_digest_6 : List UInt8 := dkwX3_digest_6 ++ dktX3_digest_7
def dkwX3_digest_5 : List UInt8 := [29, 21, 4, 182, 0, 102, 133, 97, 64, 132, 4, 1, 167, 255, 232, 132, 3, 1, 167, 255, 215, 3, 62, 29]
abbrev dktX3_digest_5 : List UInt8 := dkwX3_digest_5 ++ dktX3_digest_6
def dkwX3_digest_4 : List UInt8 := [62, 29, 42, 180, 0, 58, 162, 0, 39, 3, 54, 4, 21, 4, 7, 162, 0, 24, 31, 20, 0, 128, 105, 42]
abbrev dktX3_digest_4 : List UInt8 := dkwX3_digest_4 ++ dktX3_digest_5
def dkwX3_digest_3 : List UInt8 := [162, 0, 23, 31, 20, 0, 128, 105, 42, 180, 0, 9, 29, 46, 133, 97, 64, 132, 3, 1, 167, 255, 229, 3]
abbrev dktX3_digest_3 : List UInt8 := dkwX3_digest_3 ++ dktX3_digest_4
def dkwX3_digest_2 : List UInt8 := [105, 42, 29, 182, 0, 92, 133, 97, 64, 132, 3, 1, 167, 255, 234, 3, 62, 29, 8, 42, 180, 0, 29, 104]
abbrev dktX3_digest_2 : List UInt8 := dkwX3_digest_2 ++ dktX3_digest_3
def dkwX3_digest_1 : List UInt8 := [182, 0, 108, 133, 97, 64, 132, 3, 1, 167, 255, 234, 3, 62, 29, 16, 12, 162, 0, 22, 31, 20, 0, 128]
abbrev dktX3_digest_1 : List UInt8 := dkwX3_digest_1 ++ dktX3_digest_2
def dkwX3_digest_0 : List UInt8 := [42, 3, 181, 0, 25, 20, 0, 126, 64, 3, 62, 29, 16, 13, 162, 0, 22, 31, 20, 0, 128, 105, 42, 29]
abbrev dktX3_digest_0 : List UInt8 := dkwX3_digest_0 ++ dktX3_digest_1
theorem dksX3_digest_0 : cX3_digest.data.toList.drop 0 = dktX3_digest_0 := by decide +kernel
theorem dksX3_digest_1 : cX3_digest.data.toList.drop 24 = dktX3_digest_1 := dk_seg dksX3_digest_0 24 rfl rfl
theorem dksX3_digest_2 : cX3_digest.data.toList.drop 48 = dktX3_digest_2 := dk_seg dksX3_digest_1 24 rfl rfl
theorem dksX3_digest_3 : cX3_digest.data.toList.drop 72 = dktX3_digest_3 := dk_seg dksX3_digest_2 24 rfl rfl
theorem dksX3_digest_4 : cX3_digest.data.toList.drop 96 = dktX3_digest_4 := dk_seg dksX3_digest_3 24 rfl rfl
theorem dksX3_digest_5 : cX3_digest.data.toList.drop 120 = dktX3_digest_5 := dk_seg dksX3_digest_4 24 rfl rfl
theorem dksX3_digest_6 : cX3_digest.data.toList.drop 144 = dktX3_digest_6 := dk_seg dksX3_digest_5 24 rfl rfl
theorem dksX3_digest_7 : cX3_digest.data.toList.drop 168 = dktX3_digest_7 := dk_seg dksX3_digest_6 24 rfl rfl
theorem dksX3_digest_8 : cX3_digest.data.toList.drop 192 = dktX3_digest_8 := dk_seg dksX3_digest_7 24 rfl rfl
theorem dksX3_digest_9 : cX3_digest.data.toList.drop 216 = dktX3_digest_9 := dk_seg dksX3_digest_8 24 rfl rfl
theorem dX3_digest_0 : decode cX3_digest 0 = .ok (.aload_n 0, 1) := dk_42 (dk_at dksX3_digest_0 0 rfl rfl)
theorem dX3_digest_1 : decode cX3_digest 1 = .ok (.iconst 0, 1) := dk_3 (dk_at dksX3_digest_0 1 rfl rfl)
theorem dX3_digest_2 : decode cX3_digest 2 = .ok (.putfield 25, 3) := dk_181 0 25 (dk_at dksX3_digest_0 2 rfl rfl)
theorem dX3_digest_5 : decode cX3_digest 5 = .ok (.ldc2_w 126, 3) := dk_20 0 126 (dk_at dksX3_digest_0 5 rfl rfl)
theorem dX3_digest_8 : decode cX3_digest 8 = .ok (.lstore_n 1, 1) := dk_64 (dk_at dksX3_digest_0 8 rfl rfl)
theorem dX3_digest_9 : decode cX3_digest 9 = .ok (.iconst 0, 1) := dk_3 (dk_at dksX3_digest_0 9 rfl rfl)
theorem dX3_digest_10 : decode cX3_digest 10 = .ok (.istore_n 3, 1) := dk_62 (dk_at dksX3_digest_0 10 rfl rfl)
theorem dX3_digest_11 : decode cX3_digest 11 = .ok (.iload_n 3, 1) := dk_29 (dk_at dksX3_digest_0 11 rfl rfl)
theorem dX3_digest_12 : decode cX3_digest 12 = .ok (.bipush 13, 2) := dk_16 13 (dk_at dksX3_digest_0 12 rfl rfl)
theorem dX3_digest_14 : decode cX3_digest 14 = .ok (.if_icmp .ge 22, 3) := dk_162 0 22 (dk_at dksX3_digest_0 14 rfl rfl)
theorem dX3_digest_17 : decode cX3_digest 17 = .ok (.lload_n 1, 1) := dk_31 (dk_at dksX3_digest_0 17 rfl rfl)
theorem dX3_digest_18 : decode cX3_digest 18 = .ok (.ldc2_w 128, 3) := dk_20 0 128 (dk_at dksX3_digest_0 18 rfl rfl)
theorem dX3_digest_21 : decode cX3_digest 21 = .ok (.lmul, 1) := dk_105 (dk_at dksX3_digest_0 21 rfl rfl)
theorem dX3_digest_22 : decode cX3_digest 22 = .ok (.aload_n 0, 1) := dk_42 (dk_at dksX3_digest_0 22 rfl rfl)
theorem dX3_digest_23 : decode cX3_digest 23 = .ok (.iload_n 3, 1) := dk_29 (dk_at dksX3_digest_0 23 rfl rfl)
theorem dX3_digest_24 : decode cX3_digest 24 = .ok (.invokevirtual 108, 3) := dk_182 0 108 (dk_at dksX3_digest_1 0 rfl rfl)
theorem dX3_digest_27 : decode cX3_digest 27 = .ok (.i2l, 1) := dk_133 (dk_at dksX3_digest_1 3 rfl rfl)
theorem dX3_digest_28 : decode cX3_digest 28 = .ok (.ladd, 1) := dk_97 (dk_at dksX3_digest_1 4 rfl rfl)
theorem dX3_digest_29 : decode cX3_digest 29 = .ok (.lstore_n 1, 1) := dk_64 (dk_at dksX3_digest_1 5 rfl rfl)
theorem dX3_digest_30 : decode cX3_digest 30 = .ok (.iinc 3 1, 3) := dk_132 3 1 (dk_at dksX3_digest_1 6 rfl rfl)
theorem dX3_digest_33 : decode cX3_digest 33 = .ok (.goto (-22), 3) := dk_167 255 234 (dk_at dksX3_digest_1 9 rfl rfl)
theorem dX3_digest_36 : decode cX3_digest 36 = .ok (.iconst 0, 1) := dk_3 (dk_at dksX3_digest_1 12 rfl rfl)
theorem dX3_digest_37 : decode cX3_digest 37 = .ok (.istore_n 3, 1) := dk_62 (dk_at dksX3_digest_1 13 rfl rfl)
theorem dX3_digest_38 : decode cX3_digest 38 = .ok (.iload_n 3, 1) := dk_29 (dk_at dksX3_digest_1 14 rfl rfl)
theorem dX3_digest_39 : decode cX3_digest 39 = .ok (.bipush 12, 2) := dk_16 12 (dk_at dksX3_digest_1 15 rfl rfl)
theorem dX3_digest_41 : decode cX3_digest 41 = .ok (.if_icmp .ge 22, 3) := dk_162 0 22 (dk_at dksX3_digest_1 17 rfl rfl)
theorem dX3_digest_44 : decode cX3_digest 44 = .ok (.lload_n 1, 1) := dk_31 (dk_at dksX3_digest_1 20 rfl rfl)
theorem dX3_digest_45 : decode cX3_digest 45 = .ok (.ldc2_w 128, 3) := dk_20 0 128 (dk_at dksX3_digest_1 21 rfl rfl)
theorem dX3_digest_48 : decode cX3_digest 48 = .ok (.lmul, 1) := dk_105 (dk_at dksX3_digest_2 0 rfl rfl)
theorem dX3_digest_49 : decode cX3_digest 49 = .ok (.aload_n 0, 1) := dk_42 (dk_at dksX3_digest_2 1 rfl rfl)
theorem dX3_digest_50 : decode cX3_digest 50 = .ok (.iload_n 3, 1) := dk_29 (dk_at dksX3_digest_2 2 rfl rfl)
theorem dX3_digest_51 : decode cX3_digest 51 = .ok (.invokevirtual 92, 3) := dk_182 0 92 (dk_at dksX3_digest_2 3 rfl rfl)
theorem dX3_digest_54 : decode cX3_digest 54 = .ok (.i2l, 1) := dk_133 (dk_at dksX3_digest_2 6 rfl rfl)
theorem dX3_digest_55 : decode cX3_digest 55 = .ok (.ladd, 1) := dk_97 (dk_at dksX3_digest_2 7 rfl rfl)
theorem dX3_digest_56 : decode cX3_digest 56 = .ok (.lstore_n 1, 1) := dk_64 (dk_at dksX3_digest_2 8 rfl rfl)
theorem dX3_digest_57 : decode cX3_digest 57 = .ok (.iinc 3 1, 3) := dk_132 3 1 (dk_at dksX3_digest_2 9 rfl rfl)
theorem dX3_digest_60 : decode cX3_digest 60 = .ok (.goto (-22), 3) := dk_167 255 234 (dk_at dksX3_digest_2 12 rfl rfl)
theorem dX3_digest_63 : decode cX3_digest 63 = .ok (.iconst 0, 1) := dk_3 (dk_at dksX3_digest_2 15 rfl rfl)
theorem dX3_digest_64 : decode cX3_digest 64 = .ok (.istore_n 3, 1) := dk_62 (dk_at dksX3_digest_2 16 rfl rfl)
theorem dX3_digest_65 : decode cX3_digest 65 = .ok (.iload_n 3, 1) := dk_29 (dk_at dksX3_digest_2 17 rfl rfl)
theorem dX3_digest_66 : decode cX3_digest 66 = .ok (.iconst 5, 1) := dk_8 (dk_at dksX3_digest_2 18 rfl rfl)
theorem dX3_digest_67 : decode cX3_digest 67 = .ok (.aload_n 0, 1) := dk_42 (dk_at dksX3_digest_2 19 rfl rfl)
theorem dX3_digest_68 : decode cX3_digest 68 = .ok (.getfield 29, 3) := dk_180 0 29 (dk_at dksX3_digest_2 20 rfl rfl)
theorem dX3_digest_71 : decode cX3_digest 71 = .ok (.imul, 1) := dk_104 (dk_at dksX3_digest_2 23 rfl rfl)
theorem dX3_digest_72 : decode cX3_digest 72 = .ok (.if_icmp .ge 23, 3) := dk_162 0 23 (dk_at dksX3_digest_3 0 rfl rfl)
theorem dX3_digest_75 : decode cX3_digest 75 = .ok (.lload_n 1, 1) := dk_31 (dk_at dksX3_digest_3 3 rfl rfl)
theorem dX3_digest_76 : decode cX3_digest 76 = .ok (.ldc2_w 128, 3) := dk_20 0 128 (dk_at dksX3_digest_3 4 rfl rfl)
theorem dX3_digest_79 : decode cX3_digest 79 = .ok (.lmul, 1) := dk_105 (dk_at dksX3_digest_3 7 rfl rfl)
theorem dX3_digest_80 : decode cX3_digest 80 = .ok (.aload_n 0, 1) := dk_42 (dk_at dksX3_digest_3 8 rfl rfl)
theorem dX3_digest_81 : decode cX3_digest 81 = .ok (.getfield 9, 3) := dk_180 0 9 (dk_at dksX3_digest_3 9 rfl rfl)
theorem dX3_digest_84 : decode cX3_digest 84 = .ok (.iload_n 3, 1) := dk_29 (dk_at dksX3_digest_3 12 rfl rfl)
theorem dX3_digest_85 : decode cX3_digest 85 = .ok (.iaload, 1) := dk_46 (dk_at dksX3_digest_3 13 rfl rfl)
theorem dX3_digest_86 : decode cX3_digest 86 = .ok (.i2l, 1) := dk_133 (dk_at dksX3_digest_3 14 rfl rfl)
theorem dX3_digest_87 : decode cX3_digest 87 = .ok (.ladd, 1) := dk_97 (dk_at dksX3_digest_3 15 rfl rfl)
theorem dX3_digest_88 : decode cX3_digest 88 = .ok (.lstore_n 1, 1) := dk_64 (dk_at dksX3_digest_3 16 rfl rfl)
theorem dX3_digest_89 : decode cX3_digest 89 = .ok (.iinc 3 1, 3) := dk_132 3 1 (dk_at dksX3_digest_3 17 rfl rfl)
theorem dX3_digest_92 : decode cX3_digest 92 = .ok (.goto (-27), 3) := dk_167 255 229 (dk_at dksX3_digest_3 20 rfl rfl)
theorem dX3_digest_95 : decode cX3_digest 95 = .ok (.iconst 0, 1) := dk_3 (dk_at dksX3_digest_3 23 rfl rfl)
theorem dX3_digest_96 : decode cX3_digest 96 = .ok (.istore_n 3, 1) := dk_62 (dk_at dksX3_digest_4 0 rfl rfl)
theorem dX3_digest_97 : decode cX3_digest 97 = .ok (.iload_n 3, 1) := dk_29 (dk_at dksX3_digest_4 1 rfl rfl)
theorem dX3_digest_98 : decode cX3_digest 98 = .ok (.aload_n 0, 1) := dk_42 (dk_at dksX3_digest_4 2 rfl rfl)
theorem dX3_digest_99 : decode cX3_digest 99 = .ok (.getfield 58, 3) := dk_180 0 58 (dk_at dksX3_digest_4 3 rfl rfl)
theorem dX3_digest_102 : decode cX3_digest 102 = .ok (.if_icmp .ge 39, 3) := dk_162 0 39 (dk_at dksX3_digest_4 6 rfl rfl)
theorem dX3_digest_105 : decode cX3_digest 105 = .ok (.iconst 0, 1) := dk_3 (dk_at dksX3_digest_4 9 rfl rfl)
theorem dX3_digest_106 : decode cX3_digest 106 = .ok (.istore 4, 2) := dk_54 4 (dk_at dksX3_digest_4 10 rfl rfl)
theorem dX3_digest_108 : decode cX3_digest 108 = .ok (.iload 4, 2) := dk_21 4 (dk_at dksX3_digest_4 12 rfl rfl)
theorem dX3_digest_110 : decode cX3_digest 110 = .ok (.iconst 4, 1) := dk_7 (dk_at dksX3_digest_4 14 rfl rfl)
theorem dX3_digest_111 : decode cX3_digest 111 = .ok (.if_icmp .ge 24, 3) := dk_162 0 24 (dk_at dksX3_digest_4 15 rfl rfl)
theorem dX3_digest_114 : decode cX3_digest 114 = .ok (.lload_n 1, 1) := dk_31 (dk_at dksX3_digest_4 18 rfl rfl)
theorem dX3_digest_115 : decode cX3_digest 115 = .ok (.ldc2_w 128, 3) := dk_20 0 128 (dk_at dksX3_digest_4 19 rfl rfl)
theorem dX3_digest_118 : decode cX3_digest 118 = .ok (.lmul, 1) := dk_105 (dk_at dksX3_digest_4 22 rfl rfl)
theorem dX3_digest_119 : decode cX3_digest 119 = .ok (.aload_n 0, 1) := dk_42 (dk_at dksX3_digest_4 23 rfl rfl)
theorem dX3_digest_120 : decode cX3_digest 120 = .ok (.iload_n 3, 1) := dk_29 (dk_at dksX3_digest_5 0 rfl rfl)
theorem dX3_digest_121 : decode cX3_digest 121 = .ok (.iload 4, 2) := dk_21 4 (dk_at dksX3_digest_5 1 rfl rfl)
theorem dX3_digest_123 : decode cX3_digest 123 = .ok (.invokevirtual 102, 3) := dk_182 0 102 (dk_at dksX3_digest_5 3 rfl rfl)
theorem dX3_digest_126 : decode cX3_digest 126 = .ok (.i2l, 1) := dk_133 (dk_at dksX3_digest_5 6 rfl rfl)
theorem dX3_digest_127 : decode cX3_digest 127 = .ok (.ladd, 1) := dk_97 (dk_at dksX3_digest_5 7 rfl rfl)
theorem dX3_digest_128 : decode cX3_digest 128 = .ok (.lstore_n 1, 1) := dk_64 (dk_at dksX3_digest_5 8 rfl rfl)
theorem dX3_digest_129 : decode cX3_digest 129 = .ok (.iinc 4 1, 3) := dk_132 4 1 (dk_at dksX3_digest_5 9 rfl rfl)
theorem dX3_digest_132 : decode cX3_digest 132 = .ok (.goto (-24), 3) := dk_167 255 232 (dk_at dksX3_digest_5 12 rfl rfl)
theorem dX3_digest_135 : decode cX3_digest 135 = .ok (.iinc 3 1, 3) := dk_132 3 1 (dk_at dksX3_digest_5 15 rfl rfl)
theorem dX3_digest_138 : decode cX3_digest 138 = .ok (.goto (-41), 3) := dk_167 255 215 (dk_at dksX3_digest_5 18 rfl rfl)
theorem dX3_digest_141 : decode cX3_digest 141 = .ok (.iconst 0, 1) := dk_3 (dk_at dksX3_digest_5 21 rfl rfl)
theorem dX3_digest_142 : decode cX3_digest 142 = .ok (.istore_n 3, 1) := dk_62 (dk_at dksX3_digest_5 22 rfl rfl)
theorem dX3_digest_143 : decode cX3_digest 143 = .ok (.iload_n 3, 1) := dk_29 (dk_at dksX3_digest_5 23 rfl rfl)
theorem dX3_digest_144 : decode cX3_digest 144 = .ok (.aload_n 0, 1) := dk_42 (dk_at dksX3_digest_6 0 rfl rfl)
theorem dX3_digest_145 : decode cX3_digest 145 = .ok (.getfield 22, 3) := dk_180 0 22 (dk_at dksX3_digest_6 1 rfl rfl)
theorem dX3_digest_148 : decode cX3_digest 148 = .ok (.bipush 7, 2) := dk_16 7 (dk_at dksX3_digest_6 4 rfl rfl)
theorem dX3_digest_150 : decode cX3_digest 150 = .ok (.iaload, 1) := dk_46 (dk_at dksX3_digest_6 6 rfl rfl)
theorem dX3_digest_151 : decode cX3_digest 151 = .ok (.if_icmp .ge 39, 3) := dk_162 0 39 (dk_at dksX3_digest_6 7 rfl rfl)
theorem dX3_digest_154 : decode cX3_digest 154 = .ok (.iconst 0, 1) := dk_3 (dk_at dksX3_digest_6 10 rfl rfl)
theorem dX3_digest_155 : decode cX3_digest 155 = .ok (.istore 4, 2) := dk_54 4 (dk_at dksX3_digest_6 11 rfl rfl)
theorem dX3_digest_157 : decode cX3_digest 157 = .ok (.iload 4, 2) := dk_21 4 (dk_at dksX3_digest_6 13 rfl rfl)
theorem dX3_digest_159 : decode cX3_digest 159 = .ok (.iconst 4, 1) := dk_7 (dk_at dksX3_digest_6 15 rfl rfl)
theorem dX3_digest_160 : decode cX3_digest 160 = .ok (.if_icmp .ge 24, 3) := dk_162 0 24 (dk_at dksX3_digest_6 16 rfl rfl)
theorem dX3_digest_163 : decode cX3_digest 163 = .ok (.lload_n 1, 1) := dk_31 (dk_at dksX3_digest_6 19 rfl rfl)
theorem dX3_digest_164 : decode cX3_digest 164 = .ok (.ldc2_w 128, 3) := dk_20 0 128 (dk_at dksX3_digest_6 20 rfl rfl)
theorem dX3_digest_167 : decode cX3_digest 167 = .ok (.lmul, 1) := dk_105 (dk_at dksX3_digest_6 23 rfl rfl)
theorem dX3_digest_168 : decode cX3_digest 168 = .ok (.aload_n 0, 1) := dk_42 (dk_at dksX3_digest_7 0 rfl rfl)
theorem dX3_digest_169 : decode cX3_digest 169 = .ok (.iload_n 3, 1) := dk_29 (dk_at dksX3_digest_7 1 rfl rfl)
theorem dX3_digest_170 : decode cX3_digest 170 = .ok (.iload 4, 2) := dk_21 4 (dk_at dksX3_digest_7 2 rfl rfl)
theorem dX3_digest_172 : decode cX3_digest 172 = .ok (.invokevirtual 105, 3) := dk_182 0 105 (dk_at dksX3_digest_7 4 rfl rfl)
theorem dX3_digest_175 : decode cX3_digest 175 = .ok (.i2l, 1) := dk_133 (dk_at dksX3_digest_7 7 rfl rfl)
theorem dX3_digest_176 : decode cX3_digest 176 = .ok (.ladd, 1) := dk_97 (dk_at dksX3_digest_7 8 rfl rfl)
theorem dX3_digest_177 : decode cX3_digest 177 = .ok (.lstore_n 1, 1) := dk_64 (dk_at dksX3_digest_7 9 rfl rfl)
theorem dX3_digest_178 : decode cX3_digest 178 = .ok (.iinc 4 1, 3) := dk_132 4 1 (dk_at dksX3_digest_7 10 rfl rfl)
theorem dX3_digest_181 : decode cX3_digest 181 = .ok (.goto (-24), 3) := dk_167 255 232 (dk_at dksX3_digest_7 13 rfl rfl)
theorem dX3_digest_184 : decode cX3_digest 184 = .ok (.iinc 3 1, 3) := dk_132 3 1 (dk_at dksX3_digest_7 16 rfl rfl)
theorem dX3_digest_187 : decode cX3_digest 187 = .ok (.goto (-44), 3) := dk_167 255 212 (dk_at dksX3_digest_7 19 rfl rfl)
theorem dX3_digest_190 : decode cX3_digest 190 = .ok (.iconst 0, 1) := dk_3 (dk_at dksX3_digest_7 22 rfl rfl)
theorem dX3_digest_191 : decode cX3_digest 191 = .ok (.istore_n 3, 1) := dk_62 (dk_at dksX3_digest_7 23 rfl rfl)
theorem dX3_digest_192 : decode cX3_digest 192 = .ok (.iload_n 3, 1) := dk_29 (dk_at dksX3_digest_8 0 rfl rfl)
theorem dX3_digest_193 : decode cX3_digest 193 = .ok (.iconst 4, 1) := dk_7 (dk_at dksX3_digest_8 1 rfl rfl)
theorem dX3_digest_194 : decode cX3_digest 194 = .ok (.aload_n 0, 1) := dk_42 (dk_at dksX3_digest_8 2 rfl rfl)
theorem dX3_digest_195 : decode cX3_digest 195 = .ok (.getfield 64, 3) := dk_180 0 64 (dk_at dksX3_digest_8 3 rfl rfl)
theorem dX3_digest_198 : decode cX3_digest 198 = .ok (.imul, 1) := dk_104 (dk_at dksX3_digest_8 6 rfl rfl)
theorem dX3_digest_199 : decode cX3_digest 199 = .ok (.if_icmp .ge 23, 3) := dk_162 0 23 (dk_at dksX3_digest_8 7 rfl rfl)
theorem dX3_digest_202 : decode cX3_digest 202 = .ok (.lload_n 1, 1) := dk_31 (dk_at dksX3_digest_8 10 rfl rfl)
theorem dX3_digest_203 : decode cX3_digest 203 = .ok (.ldc2_w 128, 3) := dk_20 0 128 (dk_at dksX3_digest_8 11 rfl rfl)
theorem dX3_digest_206 : decode cX3_digest 206 = .ok (.lmul, 1) := dk_105 (dk_at dksX3_digest_8 14 rfl rfl)
theorem dX3_digest_207 : decode cX3_digest 207 = .ok (.aload_n 0, 1) := dk_42 (dk_at dksX3_digest_8 15 rfl rfl)
theorem dX3_digest_208 : decode cX3_digest 208 = .ok (.getfield 19, 3) := dk_180 0 19 (dk_at dksX3_digest_8 16 rfl rfl)
theorem dX3_digest_211 : decode cX3_digest 211 = .ok (.iload_n 3, 1) := dk_29 (dk_at dksX3_digest_8 19 rfl rfl)
theorem dX3_digest_212 : decode cX3_digest 212 = .ok (.iaload, 1) := dk_46 (dk_at dksX3_digest_8 20 rfl rfl)
theorem dX3_digest_213 : decode cX3_digest 213 = .ok (.i2l, 1) := dk_133 (dk_at dksX3_digest_8 21 rfl rfl)
theorem dX3_digest_214 : decode cX3_digest 214 = .ok (.ladd, 1) := dk_97 (dk_at dksX3_digest_8 22 rfl rfl)
theorem dX3_digest_215 : decode cX3_digest 215 = .ok (.lstore_n 1, 1) := dk_64 (dk_at dksX3_digest_8 23 rfl rfl)
theorem dX3_digest_216 : decode cX3_digest 216 = .ok (.iinc 3 1, 3) := dk_132 3 1 (dk_at dksX3_digest_9 0 rfl rfl)
theorem dX3_digest_219 : decode cX3_digest 219 = .ok (.goto (-27), 3) := dk_167 255 229 (dk_at dksX3_digest_9 3 rfl rfl)
theorem dX3_digest_222 : decode cX3_digest 222 = .ok (.lload_n 1, 1) := dk_31 (dk_at dksX3_digest_9 6 rfl rfl)
theorem dX3_digest_223 : decode cX3_digest 223 = .ok (.lreturn, 1) := dk_173 (dk_at dksX3_digest_9 7 rfl rfl)
theorem q36 : (Jvm.Cond.initialized "StarConsoleModel") ∈ lw_all := lw_g (lw_at lw_m1 6 rfl) rfl
theorem q463 : (Jvm.Cond.selects "StarConsoleModel" ({ cls := "java/lang/Object", name := "getClass", desc := "()Ljava/lang/Class;" } : Jvm.MethodName) ({ cls := "java/lang/Object", name := "getClass", desc := "()Ljava/lang/Class;" } : Jvm.MethodName)) ∈ lw_all := lw_g (lw_at lw_m2 193 rfl) rfl
theorem q838 : (Jvm.Cond.instantiable "StarConsoleModel" (9 : Nat)) ∈ lw_all := lw_g (lw_at lw_m4 88 rfl) rfl
theorem q840 : (Jvm.Cond.instanceMethod ({ cls := "StarConsoleModel", name := "<init>", desc := "()V" } : Jvm.MethodName)) ∈ lw_all := lw_g (lw_at lw_m4 90 rfl) rfl
theorem q841 : (Jvm.Cond.code ({ cls := "StarConsoleModel", name := "<init>", desc := "()V" } : Jvm.MethodName) prog_14_method_1_code (1 : Nat) (Option.none : Option Jvm.ClassFile.FieldType)) ∈ lw_all := lw_g (lw_at lw_m4 91 rfl) rfl
theorem q842 : (Jvm.Cond.methodLink "StarConsoleModel" (1 : Nat) ({ cls := "java/lang/Object", name := "<init>", desc := "()V" } : Jvm.MethodName)) ∈ lw_all := lw_g (lw_at lw_m4 92 rfl) rfl
theorem q843 : (Jvm.Cond.fieldLink "StarConsoleModel" (25 : Nat) "StarConsoleModel" "thrown" "I") ∈ lw_all := lw_g (lw_at lw_m4 93 rfl) rfl
theorem q844 : (Jvm.Cond.fieldLink "StarConsoleModel" (29 : Nat) "StarConsoleModel" "dimmers" "I") ∈ lw_all := lw_g (lw_at lw_m4 94 rfl) rfl
theorem q845 : (Jvm.Cond.fieldLink "StarConsoleModel" (58 : Nat) "StarConsoleModel" "stars" "I") ∈ lw_all := lw_g (lw_at lw_m4 95 rfl) rfl
theorem q846 : (Jvm.Cond.fieldLink "StarConsoleModel" (64 : Nat) "StarConsoleModel" "cues" "I") ∈ lw_all := lw_g (lw_at lw_m4 96 rfl) rfl
theorem q847 : (Jvm.Cond.fieldLink "StarConsoleModel" (9 : Nat) "StarConsoleModel" "lamps" "[I") ∈ lw_all := lw_g (lw_at lw_m4 97 rfl) rfl
theorem q848 : (Jvm.Cond.fieldLink "StarConsoleModel" (13 : Nat) "StarConsoleModel" "sky" "[I") ∈ lw_all := lw_g (lw_at lw_m4 98 rfl) rfl
theorem q849 : (Jvm.Cond.fieldLink "StarConsoleModel" (16 : Nat) "StarConsoleModel" "tails" "[I") ∈ lw_all := lw_g (lw_at lw_m4 99 rfl) rfl
theorem q850 : (Jvm.Cond.fieldLink "StarConsoleModel" (19 : Nat) "StarConsoleModel" "show" "[I") ∈ lw_all := lw_g (lw_at lw_m4 100 rfl) rfl
theorem q851 : (Jvm.Cond.fieldLink "StarConsoleModel" (22 : Nat) "StarConsoleModel" "numbers" "[I") ∈ lw_all := lw_g (lw_at lw_m4 101 rfl) rfl
theorem q852 : (Jvm.Cond.lays "StarConsoleModel" "StarConsoleModel" "thrown" "I") ∈ lw_all := lw_g (lw_at lw_m4 102 rfl) rfl
theorem q853 : (Jvm.Cond.soleField "StarConsoleModel" "thrown") ∈ lw_all := lw_g (lw_at lw_m4 103 rfl) rfl
theorem q854 : (Jvm.Cond.lays "StarConsoleModel" "StarConsoleModel" "dimmers" "I") ∈ lw_all := lw_g (lw_at lw_m4 104 rfl) rfl
theorem q855 : (Jvm.Cond.soleField "StarConsoleModel" "dimmers") ∈ lw_all := lw_g (lw_at lw_m4 105 rfl) rfl
theorem q856 : (Jvm.Cond.lays "StarConsoleModel" "StarConsoleModel" "stars" "I") ∈ lw_all := lw_g (lw_at lw_m4 106 rfl) rfl
theorem q857 : (Jvm.Cond.soleField "StarConsoleModel" "stars") ∈ lw_all := lw_g (lw_at lw_m4 107 rfl) rfl
theorem q858 : (Jvm.Cond.lays "StarConsoleModel" "StarConsoleModel" "cues" "I") ∈ lw_all := lw_g (lw_at lw_m4 108 rfl) rfl
theorem q859 : (Jvm.Cond.soleField "StarConsoleModel" "cues") ∈ lw_all := lw_g (lw_at lw_m4 109 rfl) rfl
theorem q860 : (Jvm.Cond.laysFinal "StarConsoleModel" "StarConsoleModel" "lamps" "[I") ∈ lw_all := lw_g (lw_at lw_m4 110 rfl) rfl
theorem q861 : (Jvm.Cond.soleField "StarConsoleModel" "lamps") ∈ lw_all := lw_g (lw_at lw_m4 111 rfl) rfl
theorem q862 : (Jvm.Cond.laysFinal "StarConsoleModel" "StarConsoleModel" "sky" "[I") ∈ lw_all := lw_g (lw_at lw_m4 112 rfl) rfl
theorem q863 : (Jvm.Cond.soleField "StarConsoleModel" "sky") ∈ lw_all := lw_g (lw_at lw_m4 113 rfl) rfl
theorem q864 : (Jvm.Cond.laysFinal "StarConsoleModel" "StarConsoleModel" "tails" "[I") ∈ lw_all := lw_g (lw_at lw_m4 114 rfl) rfl
theorem q865 : (Jvm.Cond.soleField "StarConsoleModel" "tails") ∈ lw_all := lw_g (lw_at lw_m4 115 rfl) rfl
theorem q866 : (Jvm.Cond.laysFinal "StarConsoleModel" "StarConsoleModel" "show" "[I") ∈ lw_all := lw_g (lw_at lw_m4 116 rfl) rfl
theorem q867 : (Jvm.Cond.soleField "StarConsoleModel" "show") ∈ lw_all := lw_g (lw_at lw_m4 117 rfl) rfl
theorem q868 : (Jvm.Cond.laysFinal "StarConsoleModel" "StarConsoleModel" "numbers" "[I") ∈ lw_all := lw_g (lw_at lw_m4 118 rfl) rfl
theorem q869 : (Jvm.Cond.soleField "StarConsoleModel" "numbers") ∈ lw_all := lw_g (lw_at lw_m4 119 rfl) rfl
theorem q870 : (Jvm.Cond.superclass "StarConsoleModel" "java/lang/Object") ∈ lw_all := lw_g (lw_at lw_m4 120 rfl) rfl
theorem q873 : (Jvm.Cond.instanceMethod ({ cls := "StarConsoleModel", name := "thrown", desc := "()I" } : Jvm.MethodName)) ∈ lw_all := lw_g (lw_at lw_m4 123 rfl) rfl
theorem q874 : (Jvm.Cond.selects "StarConsoleModel" ({ cls := "StarConsoleModel", name := "thrown", desc := "()I" } : Jvm.MethodName) ({ cls := "StarConsoleModel", name := "thrown", desc := "()I" } : Jvm.MethodName)) ∈ lw_all := lw_g (lw_at lw_m4 124 rfl) rfl
theorem q875 : (Jvm.Cond.code ({ cls := "StarConsoleModel", name := "thrown", desc := "()I" } : Jvm.MethodName) prog_14_method_2_code (1 : Nat) (Option.some Jvm.ClassFile.FieldType.int)) ∈ lw_all := lw_g (lw_at lw_m4 125 rfl) rfl
theorem q877 : (Jvm.Cond.instanceMethod ({ cls := "StarConsoleModel", name := "dimmer", desc := "(III)I" } : Jvm.MethodName)) ∈ lw_all := lw_g (lw_at lw_m4 127 rfl) rfl
theorem q878 : (Jvm.Cond.selects "StarConsoleModel" ({ cls := "StarConsoleModel", name := "dimmer", desc := "(III)I" } : Jvm.MethodName) ({ cls := "StarConsoleModel", name := "dimmer", desc := "(III)I" } : Jvm.MethodName)) ∈ lw_all := lw_g (lw_at lw_m4 128 rfl) rfl
theorem q879 : (Jvm.Cond.code ({ cls := "StarConsoleModel", name := "dimmer", desc := "(III)I" } : Jvm.MethodName) prog_14_method_8_code (5 : Nat) (Option.some Jvm.ClassFile.FieldType.int)) ∈ lw_all := lw_g (lw_at lw_m4 129 rfl) rfl
theorem q880 : (Jvm.Cond.methodLink "StarConsoleModel" (32 : Nat) ({ cls := "StarConsoleModel", name := "isIn", desc := "(III)Z" } : Jvm.MethodName)) ∈ lw_all := lw_g (lw_at lw_m4 130 rfl) rfl
theorem q881 : (Jvm.Cond.static ({ cls := "StarConsoleModel", name := "isIn", desc := "(III)Z" } : Jvm.MethodName)) ∈ lw_all := lw_g (lw_at lw_m4 131 rfl) rfl
theorem q882 : (Jvm.Cond.code ({ cls := "StarConsoleModel", name := "isIn", desc := "(III)Z" } : Jvm.MethodName) prog_14_method_4_code (3 : Nat) (Option.some Jvm.ClassFile.FieldType.boolean)) ∈ lw_all := lw_g (lw_at lw_m4 132 rfl) rfl
theorem q883 : (Jvm.Cond.methodLink "StarConsoleModel" (36 : Nat) ({ cls := "StarConsoleModel", name := "fail", desc := "(I)I" } : Jvm.MethodName)) ∈ lw_all := lw_g (lw_at lw_m4 133 rfl) rfl
theorem q884 : (Jvm.Cond.privateMethod ({ cls := "StarConsoleModel", name := "fail", desc := "(I)I" } : Jvm.MethodName)) ∈ lw_tbl := lw_at lw_m4 134 rfl
theorem q885 : (Jvm.Cond.instanceMethod ({ cls := "StarConsoleModel", name := "fail", desc := "(I)I" } : Jvm.MethodName)) ∈ lw_all := lw_g (lw_at lw_m4 135 rfl) rfl
theorem q886 : (Jvm.Cond.code ({ cls := "StarConsoleModel", name := "fail", desc := "(I)I" } : Jvm.MethodName) prog_14_method_3_code (2 : Nat) (Option.some Jvm.ClassFile.FieldType.int)) ∈ lw_all := lw_g (lw_at lw_m4 136 rfl) rfl
theorem q887 : (Jvm.Cond.methodLink "StarConsoleModel" (40 : Nat) ({ cls := "java/lang/System", name := "arraycopy", desc := "(Ljava/lang/Object;ILjava/lang/Object;II)V" } : Jvm.MethodName)) ∈ lw_all := lw_g (lw_at lw_m4 137 rfl) rfl
theorem q889 : (Jvm.Cond.instanceMethod ({ cls := "StarConsoleModel", name := "lamp", desc := "(II)I" } : Jvm.MethodName)) ∈ lw_all := lw_g (lw_at lw_m4 139 rfl) rfl
theorem q890 : (Jvm.Cond.selects "StarConsoleModel" ({ cls := "StarConsoleModel", name := "lamp", desc := "(II)I" } : Jvm.MethodName) ({ cls := "StarConsoleModel", name := "lamp", desc := "(II)I" } : Jvm.MethodName)) ∈ lw_all := lw_g (lw_at lw_m4 140 rfl) rfl
theorem q891 : (Jvm.Cond.code ({ cls := "StarConsoleModel", name := "lamp", desc := "(II)I" } : Jvm.MethodName) prog_14_method_9_code (4 : Nat) (Option.some Jvm.ClassFile.FieldType.int)) ∈ lw_all := lw_g (lw_at lw_m4 141 rfl) rfl
theorem q892 : (Jvm.Cond.methodLink "StarConsoleModel" (46 : Nat) ({ cls := "StarConsoleModel", name := "isDimmer", desc := "(I)Z" } : Jvm.MethodName)) ∈ lw_all := lw_g (lw_at lw_m4 142 rfl) rfl
theorem q893 : (Jvm.Cond.privateMethod ({ cls := "StarConsoleModel", name := "isDimmer", desc := "(I)Z" } : Jvm.MethodName)) ∈ lw_tbl := lw_at lw_m4 143 rfl
theorem q894 : (Jvm.Cond.instanceMethod ({ cls := "StarConsoleModel", name := "isDimmer", desc := "(I)Z" } : Jvm.MethodName)) ∈ lw_all := lw_g (lw_at lw_m4 144 rfl) rfl
theorem q895 : (Jvm.Cond.code ({ cls := "StarConsoleModel", name := "isDimmer", desc := "(I)Z" } : Jvm.MethodName) prog_14_method_5_code (2 : Nat) (Option.some Jvm.ClassFile.FieldType.boolean)) ∈ lw_all := lw_g (lw_at lw_m4 145 rfl) rfl
theorem q896 : (Jvm.Cond.methodLink "StarConsoleModel" (50 : Nat) ({ cls := "StarConsoleModel", name := "la", desc := "(II)I" } : Jvm.MethodName)) ∈ lw_all := lw_g (lw_at lw_m4 146 rfl) rfl
theorem q897 : (Jvm.Cond.privateMethod ({ cls := "StarConsoleModel", name := "la", desc := "(II)I" } : Jvm.MethodName)) ∈ lw_tbl := lw_at lw_m4 147 rfl
theorem q898 : (Jvm.Cond.instanceMethod ({ cls := "StarConsoleModel", name := "la", desc := "(II)I" } : Jvm.MethodName)) ∈ lw_all := lw_g (lw_at lw_m4 148 rfl) rfl
theorem q899 : (Jvm.Cond.code ({ cls := "StarConsoleModel", name := "la", desc := "(II)I" } : Jvm.MethodName) prog_14_method_6_code (3 : Nat) (Option.some Jvm.ClassFile.FieldType.int)) ∈ lw_all := lw_g (lw_at lw_m4 149 rfl) rfl
theorem q900 : (Jvm.Cond.methodLink "StarConsoleModel" (54 : Nat) ({ cls := "StarConsoleModel", name := "put", desc := "(III)V" } : Jvm.MethodName)) ∈ lw_all := lw_g (lw_at lw_m4 150 rfl) rfl
theorem q901 : (Jvm.Cond.privateMethod ({ cls := "StarConsoleModel", name := "put", desc := "(III)V" } : Jvm.MethodName)) ∈ lw_tbl := lw_at lw_m4 151 rfl
theorem q902 : (Jvm.Cond.instanceMethod ({ cls := "StarConsoleModel", name := "put", desc := "(III)V" } : Jvm.MethodName)) ∈ lw_all := lw_g (lw_at lw_m4 152 rfl) rfl
theorem q903 : (Jvm.Cond.code ({ cls := "StarConsoleModel", name := "put", desc := "(III)V" } : Jvm.MethodName) prog_14_method_7_code (4 : Nat) (Option.none : Option Jvm.ClassFile.FieldType)) ∈ lw_all := lw_g (lw_at lw_m4 153 rfl) rfl
theorem q905 : (Jvm.Cond.instanceMethod ({ cls := "StarConsoleModel", name := "star", desc := "(II)I" } : Jvm.MethodName)) ∈ lw_all := lw_g (lw_at lw_m4 155 rfl) rfl
theorem q906 : (Jvm.Cond.selects "StarConsoleModel" ({ cls := "StarConsoleModel", name := "star", desc := "(II)I" } : Jvm.MethodName) ({ cls := "StarConsoleModel", name := "star", desc := "(II)I" } : Jvm.MethodName)) ∈ lw_all := lw_g (lw_at lw_m4 156 rfl) rfl
theorem q907 : (Jvm.Cond.code ({ cls := "StarConsoleModel", name := "star", desc := "(II)I" } : Jvm.MethodName) prog_14_method_10_code (3 : Nat) (Option.some Jvm.ClassFile.FieldType.int)) ∈ lw_all := lw_g (lw_at lw_m4 157 rfl) rfl
theorem q909 : (Jvm.Cond.instanceMethod ({ cls := "StarConsoleModel", name := "cue", desc := "(IIII)I" } : Jvm.MethodName)) ∈ lw_all := lw_g (lw_at lw_m4 159 rfl) rfl
theorem q910 : (Jvm.Cond.selects "StarConsoleModel" ({ cls := "StarConsoleModel", name := "cue", desc := "(IIII)I" } : Jvm.MethodName) ({ cls := "StarConsoleModel", name := "cue", desc := "(IIII)I" } : Jvm.MethodName)) ∈ lw_all := lw_g (lw_at lw_m4 160 rfl) rfl
theorem q911 : (Jvm.Cond.code ({ cls := "StarConsoleModel", name := "cue", desc := "(IIII)I" } : Jvm.MethodName) prog_14_method_12_code (6 : Nat) (Option.some Jvm.ClassFile.FieldType.int)) ∈ lw_all := lw_g (lw_at lw_m4 161 rfl) rfl
theorem q912 : (Jvm.Cond.methodLink "StarConsoleModel" (61 : Nat) ({ cls := "StarConsoleModel", name := "isCue", desc := "(III)Z" } : Jvm.MethodName)) ∈ lw_all := lw_g (lw_at lw_m4 162 rfl) rfl
theorem q913 : (Jvm.Cond.privateMethod ({ cls := "StarConsoleModel", name := "isCue", desc := "(III)Z" } : Jvm.MethodName)) ∈ lw_tbl := lw_at lw_m4 163 rfl
theorem q914 : (Jvm.Cond.instanceMethod ({ cls := "StarConsoleModel", name := "isCue", desc := "(III)Z" } : Jvm.MethodName)) ∈ lw_all := lw_g (lw_at lw_m4 164 rfl) rfl
theorem q915 : (Jvm.Cond.code ({ cls := "StarConsoleModel", name := "isCue", desc := "(III)Z" } : Jvm.MethodName) prog_14_method_11_code (4 : Nat) (Option.some Jvm.ClassFile.FieldType.boolean)) ∈ lw_all := lw_g (lw_at lw_m4 165 rfl) rfl
theorem q917 : (Jvm.Cond.instanceMethod ({ cls := "StarConsoleModel", name := "run", desc := "()Z" } : Jvm.MethodName)) ∈ lw_all := lw_g (lw_at lw_m4 167 rfl) rfl
theorem q918 : (Jvm.Cond.selects "StarConsoleModel" ({ cls := "StarConsoleModel", name := "run", desc := "()Z" } : Jvm.MethodName) ({ cls := "StarConsoleModel", name := "run", desc := "()Z" } : Jvm.MethodName)) ∈ lw_all := lw_g (lw_at lw_m4 168 rfl) rfl
theorem q919 : (Jvm.Cond.code ({ cls := "StarConsoleModel", name := "run", desc := "()Z" } : Jvm.MethodName) prog_14_method_13_code (1 : Nat) (Option.some Jvm.ClassFile.FieldType.boolean)) ∈ lw_all := lw_g (lw_at lw_m4 169 rfl) rfl
theorem q921 : (Jvm.Cond.instanceMethod ({ cls := "StarConsoleModel", name := "jump", desc := "(I)I" } : Jvm.MethodName)) ∈ lw_all := lw_g (lw_at lw_m4 171 rfl) rfl
theorem q922 : (Jvm.Cond.selects "StarConsoleModel" ({ cls := "StarConsoleModel", name := "jump", desc := "(I)I" } : Jvm.MethodName) ({ cls := "StarConsoleModel", name := "jump", desc := "(I)I" } : Jvm.MethodName)) ∈ lw_all := lw_g (lw_at lw_m4 172 rfl) rfl
theorem q923 : (Jvm.Cond.code ({ cls := "StarConsoleModel", name := "jump", desc := "(I)I" } : Jvm.MethodName) prog_14_method_14_code (3 : Nat) (Option.some Jvm.ClassFile.FieldType.int)) ∈ lw_all := lw_g (lw_at lw_m4 173 rfl) rfl
theorem q925 : (Jvm.Cond.instanceMethod ({ cls := "StarConsoleModel", name := "fade", desc := "(II)I" } : Jvm.MethodName)) ∈ lw_all := lw_g (lw_at lw_m4 175 rfl) rfl
theorem q926 : (Jvm.Cond.selects "StarConsoleModel" ({ cls := "StarConsoleModel", name := "fade", desc := "(II)I" } : Jvm.MethodName) ({ cls := "StarConsoleModel", name := "fade", desc := "(II)I" } : Jvm.MethodName)) ∈ lw_all := lw_g (lw_at lw_m4 176 rfl) rfl
theorem q927 : (Jvm.Cond.code ({ cls := "StarConsoleModel", name := "fade", desc := "(II)I" } : Jvm.MethodName) prog_14_method_15_code (4 : Nat) (Option.some Jvm.ClassFile.FieldType.int)) ∈ lw_all := lw_g (lw_at lw_m4 177 rfl) rfl
theorem q929 : (Jvm.Cond.instanceMethod ({ cls := "StarConsoleModel", name := "pass", desc := "(I)I" } : Jvm.MethodName)) ∈ lw_all := lw_g (lw_at lw_m4 179 rfl) rfl
theorem q930 : (Jvm.Cond.selects "StarConsoleModel" ({ cls := "StarConsoleModel", name := "pass", desc := "(I)I" } : Jvm.MethodName) ({ cls := "StarConsoleModel", name := "pass", desc := "(I)I" } : Jvm.MethodName)) ∈ lw_all := lw_g (lw_at lw_m4 180 rfl) rfl
theorem q931 : (Jvm.Cond.code ({ cls := "StarConsoleModel", name := "pass", desc := "(I)I" } : Jvm.MethodName) prog_14_method_21_code (2 : Nat) (Option.some Jvm.ClassFile.FieldType.int)) ∈ lw_all := lw_g (lw_at lw_m4 181 rfl) rfl
theorem q932 : (Jvm.Cond.methodLink "StarConsoleModel" (89 : Nat) ({ cls := "StarConsoleModel", name := "ticksOn", desc := "(I)I" } : Jvm.MethodName)) ∈ lw_all := lw_g (lw_at lw_m4 182 rfl) rfl
theorem q933 : (Jvm.Cond.privateMethod ({ cls := "StarConsoleModel", name := "ticksOn", desc := "(I)I" } : Jvm.MethodName)) ∈ lw_tbl := lw_at lw_m4 183 rfl
theorem q934 : (Jvm.Cond.instanceMethod ({ cls := "StarConsoleModel", name := "ticksOn", desc := "(I)I" } : Jvm.MethodName)) ∈ lw_all := lw_g (lw_at lw_m4 184 rfl) rfl
theorem q935 : (Jvm.Cond.code ({ cls := "StarConsoleModel", name := "ticksOn", desc := "(I)I" } : Jvm.MethodName) prog_14_method_20_code (4 : Nat) (Option.some Jvm.ClassFile.FieldType.int)) ∈ lw_all := lw_g (lw_at lw_m4 185 rfl) rfl
theorem q936 : (Jvm.Cond.methodLink "StarConsoleModel" (85 : Nat) ({ cls := "StarConsoleModel", name := "tickOn", desc := "()I" } : Jvm.MethodName)) ∈ lw_all := lw_g (lw_at lw_m4 186 rfl) rfl
theorem q937 : (Jvm.Cond.privateMethod ({ cls := "StarConsoleModel", name := "tickOn", desc := "()I" } : Jvm.MethodName)) ∈ lw_tbl := lw_at lw_m4 187 rfl
theorem q938 : (Jvm.Cond.instanceMethod ({ cls := "StarConsoleModel", name := "tickOn", desc := "()I" } : Jvm.MethodName)) ∈ lw_all := lw_g (lw_at lw_m4 188 rfl) rfl
theorem q939 : (Jvm.Cond.code ({ cls := "StarConsoleModel", name := "tickOn", desc := "()I" } : Jvm.MethodName) prog_14_method_19_code (4 : Nat) (Option.some Jvm.ClassFile.FieldType.int)) ∈ lw_all := lw_g (lw_at lw_m4 189 rfl) rfl
theorem q940 : (Jvm.Cond.methodLink "StarConsoleModel" (75 : Nat) ({ cls := "StarConsoleModel", name := "carryOut", desc := "(I)V" } : Jvm.MethodName)) ∈ lw_all := lw_g (lw_at lw_m4 190 rfl) rfl
theorem q941 : (Jvm.Cond.privateMethod ({ cls := "StarConsoleModel", name := "carryOut", desc := "(I)V" } : Jvm.MethodName)) ∈ lw_tbl := lw_at lw_m4 191 rfl
theorem q942 : (Jvm.Cond.instanceMethod ({ cls := "StarConsoleModel", name := "carryOut", desc := "(I)V" } : Jvm.MethodName)) ∈ lw_all := lw_g (lw_at lw_m4 192 rfl) rfl
theorem q943 : (Jvm.Cond.code ({ cls := "StarConsoleModel", name := "carryOut", desc := "(I)V" } : Jvm.MethodName) prog_14_method_16_code (4 : Nat) (Option.none : Option Jvm.ClassFile.FieldType)) ∈ lw_all := lw_g (lw_at lw_m4 193 rfl) rfl
theorem q944 : (Jvm.Cond.methodLink "StarConsoleModel" (79 : Nat) ({ cls := "StarConsoleModel", name := "glow", desc := "(I)V" } : Jvm.MethodName)) ∈ lw_all := lw_g (lw_at lw_m4 194 rfl) rfl
theorem q945 : (Jvm.Cond.privateMethod ({ cls := "StarConsoleModel", name := "glow", desc := "(I)V" } : Jvm.MethodName)) ∈ lw_tbl := lw_at lw_m4 195 rfl
theorem q946 : (Jvm.Cond.instanceMethod ({ cls := "StarConsoleModel", name := "glow", desc := "(I)V" } : Jvm.MethodName)) ∈ lw_all := lw_g (lw_at lw_m4 196 rfl) rfl
theorem q947 : (Jvm.Cond.code ({ cls := "StarConsoleModel", name := "glow", desc := "(I)V" } : Jvm.MethodName) prog_14_method_18_code (5 : Nat) (Option.none : Option Jvm.ClassFile.FieldType)) ∈ lw_all := lw_g (lw_at lw_m4 197 rfl) rfl
theorem q948 : (Jvm.Cond.methodLink "StarConsoleModel" (67 : Nat) ({ cls := "java/lang/Math", name := "min", desc := "(II)I" } : Jvm.MethodName)) ∈ lw_all := lw_g (lw_at lw_m4 198 rfl) rfl
theorem q949 : (Jvm.Cond.methodLink "StarConsoleModel" (72 : Nat) ({ cls := "java/lang/Math", name := "max", desc := "(II)I" } : Jvm.MethodName)) ∈ lw_all := lw_g (lw_at lw_m4 199 rfl) rfl
theorem q950 : (Jvm.Cond.methodLink "StarConsoleModel" (82 : Nat) ({ cls := "StarConsoleModel", name := "round", desc := "(I)I" } : Jvm.MethodName)) ∈ lw_all := lw_g (lw_at lw_m4 200 rfl) rfl
theorem q951 : (Jvm.Cond.static ({ cls := "StarConsoleModel", name := "round", desc := "(I)I" } : Jvm.MethodName)) ∈ lw_all := lw_g (lw_at lw_m4 201 rfl) rfl
theorem q952 : (Jvm.Cond.code ({ cls := "StarConsoleModel", name := "round", desc := "(I)I" } : Jvm.MethodName) prog_14_method_17_code (1 : Nat) (Option.some Jvm.ClassFile.FieldType.int)) ∈ lw_all := lw_g (lw_at lw_m4 202 rfl) rfl
theorem q954 : (Jvm.Cond.instanceMethod ({ cls := "StarConsoleModel", name := "told", desc := "(II)I" } : Jvm.MethodName)) ∈ lw_all := lw_g (lw_at lw_m4 204 rfl) rfl
theorem q955 : (Jvm.Cond.selects "StarConsoleModel" ({ cls := "StarConsoleModel", name := "told", desc := "(II)I" } : Jvm.MethodName) ({ cls := "StarConsoleModel", name := "told", desc := "(II)I" } : Jvm.MethodName)) ∈ lw_all := lw_g (lw_at lw_m4 205 rfl) rfl
theorem q956 : (Jvm.Cond.code ({ cls := "StarConsoleModel", name := "told", desc := "(II)I" } : Jvm.MethodName) prog_14_method_22_code (3 : Nat) (Option.some Jvm.ClassFile.FieldType.int)) ∈ lw_all := lw_g (lw_at lw_m4 206 rfl) rfl
theorem q958 : (Jvm.Cond.instanceMethod ({ cls := "StarConsoleModel", name := "glare", desc := "(I)I" } : Jvm.MethodName)) ∈ lw_all := lw_g (lw_at lw_m4 208 rfl) rfl
theorem q959 : (Jvm.Cond.selects "StarConsoleModel" ({ cls := "StarConsoleModel", name := "glare", desc := "(I)I" } : Jvm.MethodName) ({ cls := "StarConsoleModel", name := "glare", desc := "(I)I" } : Jvm.MethodName)) ∈ lw_all := lw_g (lw_at lw_m4 209 rfl) rfl
theorem q960 : (Jvm.Cond.code ({ cls := "StarConsoleModel", name := "glare", desc := "(I)I" } : Jvm.MethodName) prog_14_method_24_code (2 : Nat) (Option.some Jvm.ClassFile.FieldType.int)) ∈ lw_all := lw_g (lw_at lw_m4 210 rfl) rfl
theorem q961 : (Jvm.Cond.methodLink "StarConsoleModel" (92 : Nat) ({ cls := "StarConsoleModel", name := "glareOf", desc := "(I)I" } : Jvm.MethodName)) ∈ lw_all := lw_g (lw_at lw_m4 211 rfl) rfl
theorem q962 : (Jvm.Cond.privateMethod ({ cls := "StarConsoleModel", name := "glareOf", desc := "(I)I" } : Jvm.MethodName)) ∈ lw_tbl := lw_at lw_m4 212 rfl
theorem q963 : (Jvm.Cond.instanceMethod ({ cls := "StarConsoleModel", name := "glareOf", desc := "(I)I" } : Jvm.MethodName)) ∈ lw_all := lw_g (lw_at lw_m4 213 rfl) rfl
theorem q964 : (Jvm.Cond.code ({ cls := "StarConsoleModel", name := "glareOf", desc := "(I)I" } : Jvm.MethodName) prog_14_method_23_code (5 : Nat) (Option.some Jvm.ClassFile.FieldType.int)) ∈ lw_all := lw_g (lw_at lw_m4 214 rfl) rfl
theorem q966 : (Jvm.Cond.instanceMethod ({ cls := "StarConsoleModel", name := "about", desc := "(II)I" } : Jvm.MethodName)) ∈ lw_all := lw_g (lw_at lw_m4 216 rfl) rfl
theorem q967 : (Jvm.Cond.selects "StarConsoleModel" ({ cls := "StarConsoleModel", name := "about", desc := "(II)I" } : Jvm.MethodName) ({ cls := "StarConsoleModel", name := "about", desc := "(II)I" } : Jvm.MethodName)) ∈ lw_all := lw_g (lw_at lw_m4 217 rfl) rfl
theorem q968 : (Jvm.Cond.code ({ cls := "StarConsoleModel", name := "about", desc := "(II)I" } : Jvm.MethodName) prog_14_method_28_code (3 : Nat) (Option.some Jvm.ClassFile.FieldType.int)) ∈ lw_all := lw_g (lw_at lw_m4 218 rfl) rfl
theorem q969 : (Jvm.Cond.methodLink "StarConsoleModel" (102 : Nat) ({ cls := "StarConsoleModel", name := "starTold", desc := "(II)I" } : Jvm.MethodName)) ∈ lw_all := lw_g (lw_at lw_m4 219 rfl) rfl
theorem q970 : (Jvm.Cond.privateMethod ({ cls := "StarConsoleModel", name := "starTold", desc := "(II)I" } : Jvm.MethodName)) ∈ lw_tbl := lw_at lw_m4 220 rfl
theorem q971 : (Jvm.Cond.instanceMethod ({ cls := "StarConsoleModel", name := "starTold", desc := "(II)I" } : Jvm.MethodName)) ∈ lw_all := lw_g (lw_at lw_m4 221 rfl) rfl
theorem q972 : (Jvm.Cond.code ({ cls := "StarConsoleModel", name := "starTold", desc := "(II)I" } : Jvm.MethodName) prog_14_method_27_code (3 : Nat) (Option.some Jvm.ClassFile.FieldType.int)) ∈ lw_all := lw_g (lw_at lw_m4 222 rfl) rfl
theorem q973 : (Jvm.Cond.methodLink "StarConsoleModel" (95 : Nat) ({ cls := "StarConsoleModel", name := "stands", desc := "(I)I" } : Jvm.MethodName)) ∈ lw_all := lw_g (lw_at lw_m4 223 rfl) rfl
theorem q974 : (Jvm.Cond.privateMethod ({ cls := "StarConsoleModel", name := "stands", desc := "(I)I" } : Jvm.MethodName)) ∈ lw_tbl := lw_at lw_m4 224 rfl
theorem q975 : (Jvm.Cond.instanceMethod ({ cls := "StarConsoleModel", name := "stands", desc := "(I)I" } : Jvm.MethodName)) ∈ lw_all := lw_g (lw_at lw_m4 225 rfl) rfl
theorem q976 : (Jvm.Cond.code ({ cls := "StarConsoleModel", name := "stands", desc := "(I)I" } : Jvm.MethodName) prog_14_method_25_code (2 : Nat) (Option.some Jvm.ClassFile.FieldType.int)) ∈ lw_all := lw_g (lw_at lw_m4 226 rfl) rfl
theorem q977 : (Jvm.Cond.methodLink "StarConsoleModel" (98 : Nat) ({ cls := "StarConsoleModel", name := "isSeen", desc := "(II)Z" } : Jvm.MethodName)) ∈ lw_all := lw_g (lw_at lw_m4 227 rfl) rfl
theorem q978 : (Jvm.Cond.privateMethod ({ cls := "StarConsoleModel", name := "isSeen", desc := "(II)Z" } : Jvm.MethodName)) ∈ lw_tbl := lw_at lw_m4 228 rfl
theorem q979 : (Jvm.Cond.instanceMethod ({ cls := "StarConsoleModel", name := "isSeen", desc := "(II)Z" } : Jvm.MethodName)) ∈ lw_all := lw_g (lw_at lw_m4 229 rfl) rfl
theorem q980 : (Jvm.Cond.code ({ cls := "StarConsoleModel", name := "isSeen", desc := "(II)Z" } : Jvm.MethodName) prog_14_method_26_code (3 : Nat) (Option.some Jvm.ClassFile.FieldType.boolean)) ∈ lw_all := lw_g (lw_at lw_m4 230 rfl) rfl
theorem q982 : (Jvm.Cond.instanceMethod ({ cls := "StarConsoleModel", name := "comet", desc := "(II)I" } : Jvm.MethodName)) ∈ lw_all := lw_g (lw_at lw_m4 232 rfl) rfl
theorem q983 : (Jvm.Cond.selects "StarConsoleModel" ({ cls := "StarConsoleModel", name := "comet", desc := "(II)I" } : Jvm.MethodName) ({ cls := "StarConsoleModel", name := "comet", desc := "(II)I" } : Jvm.MethodName)) ∈ lw_all := lw_g (lw_at lw_m4 233 rfl) rfl
theorem q984 : (Jvm.Cond.code ({ cls := "StarConsoleModel", name := "comet", desc := "(II)I" } : Jvm.MethodName) prog_14_method_30_code (3 : Nat) (Option.some Jvm.ClassFile.FieldType.int)) ∈ lw_all := lw_g (lw_at lw_m4 234 rfl) rfl
theorem q985 : (Jvm.Cond.methodLink "StarConsoleModel" (105 : Nat) ({ cls := "StarConsoleModel", name := "cometTold", desc := "(II)I" } : Jvm.MethodName)) ∈ lw_all := lw_g (lw_at lw_m4 235 rfl) rfl
theorem q986 : (Jvm.Cond.privateMethod ({ cls := "StarConsoleModel", name := "cometTold", desc := "(II)I" } : Jvm.MethodName)) ∈ lw_tbl := lw_at lw_m4 236 rfl
theorem q987 : (Jvm.Cond.instanceMethod ({ cls := "StarConsoleModel", name := "cometTold", desc := "(II)I" } : Jvm.MethodName)) ∈ lw_all := lw_g (lw_at lw_m4 237 rfl) rfl
theorem q988 : (Jvm.Cond.code ({ cls := "StarConsoleModel", name := "cometTold", desc := "(II)I" } : Jvm.MethodName) prog_14_method_29_code (3 : Nat) (Option.some Jvm.ClassFile.FieldType.int)) ∈ lw_all := lw_g (lw_at lw_m4 238 rfl) rfl
theorem q990 : (Jvm.Cond.instanceMethod ({ cls := "StarConsoleModel", name := "count", desc := "(I)I" } : Jvm.MethodName)) ∈ lw_all := lw_g (lw_at lw_m5 0 rfl) rfl
theorem q991 : (Jvm.Cond.selects "StarConsoleModel" ({ cls := "StarConsoleModel", name := "count", desc := "(I)I" } : Jvm.MethodName) ({ cls := "StarConsoleModel", name := "count", desc := "(I)I" } : Jvm.MethodName)) ∈ lw_all := lw_g (lw_at lw_m5 1 rfl) rfl
theorem q992 : (Jvm.Cond.code ({ cls := "StarConsoleModel", name := "count", desc := "(I)I" } : Jvm.MethodName) prog_14_method_32_code (2 : Nat) (Option.some Jvm.ClassFile.FieldType.int)) ∈ lw_all := lw_g (lw_at lw_m5 2 rfl) rfl
theorem q993 : (Jvm.Cond.methodLink "StarConsoleModel" (108 : Nat) ({ cls := "StarConsoleModel", name := "counted", desc := "(I)I" } : Jvm.MethodName)) ∈ lw_all := lw_g (lw_at lw_m5 3 rfl) rfl
theorem q994 : (Jvm.Cond.privateMethod ({ cls := "StarConsoleModel", name := "counted", desc := "(I)I" } : Jvm.MethodName)) ∈ lw_tbl := lw_at lw_m5 4 rfl
theorem q995 : (Jvm.Cond.instanceMethod ({ cls := "StarConsoleModel", name := "counted", desc := "(I)I" } : Jvm.MethodName)) ∈ lw_all := lw_g (lw_at lw_m5 5 rfl) rfl
theorem q996 : (Jvm.Cond.code ({ cls := "StarConsoleModel", name := "counted", desc := "(I)I" } : Jvm.MethodName) prog_14_method_31_code (4 : Nat) (Option.some Jvm.ClassFile.FieldType.int)) ∈ lw_all := lw_g (lw_at lw_m5 6 rfl) rfl
theorem q998 : (Jvm.Cond.instanceMethod ({ cls := "StarConsoleModel", name := "next", desc := "()I" } : Jvm.MethodName)) ∈ lw_all := lw_g (lw_at lw_m5 8 rfl) rfl
theorem q999 : (Jvm.Cond.selects "StarConsoleModel" ({ cls := "StarConsoleModel", name := "next", desc := "()I" } : Jvm.MethodName) ({ cls := "StarConsoleModel", name := "next", desc := "()I" } : Jvm.MethodName)) ∈ lw_all := lw_g (lw_at lw_m5 9 rfl) rfl
theorem q1000 : (Jvm.Cond.code ({ cls := "StarConsoleModel", name := "next", desc := "()I" } : Jvm.MethodName) prog_14_method_33_code (3 : Nat) (Option.some Jvm.ClassFile.FieldType.int)) ∈ lw_all := lw_g (lw_at lw_m5 10 rfl) rfl
theorem q1002 : (Jvm.Cond.instanceMethod ({ cls := "StarConsoleModel", name := "when", desc := "(I)I" } : Jvm.MethodName)) ∈ lw_all := lw_g (lw_at lw_m5 12 rfl) rfl
theorem q1003 : (Jvm.Cond.selects "StarConsoleModel" ({ cls := "StarConsoleModel", name := "when", desc := "(I)I" } : Jvm.MethodName) ({ cls := "StarConsoleModel", name := "when", desc := "(I)I" } : Jvm.MethodName)) ∈ lw_all := lw_g (lw_at lw_m5 13 rfl) rfl
theorem q1004 : (Jvm.Cond.code ({ cls := "StarConsoleModel", name := "when", desc := "(I)I" } : Jvm.MethodName) prog_14_method_34_code (4 : Nat) (Option.some Jvm.ClassFile.FieldType.int)) ∈ lw_all := lw_g (lw_at lw_m5 14 rfl) rfl
theorem q1006 : (Jvm.Cond.instanceMethod ({ cls := "StarConsoleModel", name := "lasts", desc := "(I)I" } : Jvm.MethodName)) ∈ lw_all := lw_g (lw_at lw_m5 16 rfl) rfl
theorem q1007 : (Jvm.Cond.selects "StarConsoleModel" ({ cls := "StarConsoleModel", name := "lasts", desc := "(I)I" } : Jvm.MethodName) ({ cls := "StarConsoleModel", name := "lasts", desc := "(I)I" } : Jvm.MethodName)) ∈ lw_all := lw_g (lw_at lw_m5 17 rfl) rfl
theorem q1008 : (Jvm.Cond.code ({ cls := "StarConsoleModel", name := "lasts", desc := "(I)I" } : Jvm.MethodName) prog_14_method_37_code (4 : Nat) (Option.some Jvm.ClassFile.FieldType.int)) ∈ lw_all := lw_g (lw_at lw_m5 18 rfl) rfl
theorem q1009 : (Jvm.Cond.methodLink "StarConsoleModel" (116 : Nat) ({ cls := "StarConsoleModel", name := "kept", desc := "()[[I" } : Jvm.MethodName)) ∈ lw_all := lw_g (lw_at lw_m5 19 rfl) rfl
theorem q1010 : (Jvm.Cond.privateMethod ({ cls := "StarConsoleModel", name := "kept", desc := "()[[I" } : Jvm.MethodName)) ∈ lw_tbl := lw_at lw_m5 20 rfl
theorem q1011 : (Jvm.Cond.instanceMethod ({ cls := "StarConsoleModel", name := "kept", desc := "()[[I" } : Jvm.MethodName)) ∈ lw_all := lw_g (lw_at lw_m5 21 rfl) rfl
theorem q1012 : (Jvm.Cond.code ({ cls := "StarConsoleModel", name := "kept", desc := "()[[I" } : Jvm.MethodName) prog_14_method_35_code (1 : Nat) (Option.some (Jvm.ClassFile.FieldType.array (Jvm.ClassFile.FieldType.array Jvm.ClassFile.FieldType.int)))) ∈ lw_all := lw_g (lw_at lw_m5 22 rfl) rfl
theorem q1013 : (Jvm.Cond.classLink "StarConsoleModel" (111 : Nat) "[I") ∈ lw_all := lw_g (lw_at lw_m5 23 rfl) rfl
theorem q1015 : (Jvm.Cond.methodLink "StarConsoleModel" (112 : Nat) ({ cls := "[I", name := "clone", desc := "()Ljava/lang/Object;" } : Jvm.MethodName)) ∈ lw_all := lw_g (lw_at lw_m5 25 rfl) rfl
theorem q1019 : (Jvm.Cond.methodLink "StarConsoleModel" (120 : Nat) ({ cls := "StarConsoleModel", name := "bringBack", desc := "([[I)V" } : Jvm.MethodName)) ∈ lw_all := lw_g (lw_at lw_m5 29 rfl) rfl
theorem q1020 : (Jvm.Cond.privateMethod ({ cls := "StarConsoleModel", name := "bringBack", desc := "([[I)V" } : Jvm.MethodName)) ∈ lw_tbl := lw_at lw_m5 30 rfl
theorem q1021 : (Jvm.Cond.instanceMethod ({ cls := "StarConsoleModel", name := "bringBack", desc := "([[I)V" } : Jvm.MethodName)) ∈ lw_all := lw_g (lw_at lw_m5 31 rfl) rfl
theorem q1022 : (Jvm.Cond.code ({ cls := "StarConsoleModel", name := "bringBack", desc := "([[I)V" } : Jvm.MethodName) prog_14_method_36_code (2 : Nat) (Option.none : Option Jvm.ClassFile.FieldType)) ∈ lw_all := lw_g (lw_at lw_m5 32 rfl) rfl
theorem q1024 : (Jvm.Cond.instanceMethod ({ cls := "StarConsoleModel", name := "foresee", desc := "(II)I" } : Jvm.MethodName)) ∈ lw_all := lw_g (lw_at lw_m5 34 rfl) rfl
theorem q1025 : (Jvm.Cond.selects "StarConsoleModel" ({ cls := "StarConsoleModel", name := "foresee", desc := "(II)I" } : Jvm.MethodName) ({ cls := "StarConsoleModel", name := "foresee", desc := "(II)I" } : Jvm.MethodName)) ∈ lw_all := lw_g (lw_at lw_m5 35 rfl) rfl
theorem q1026 : (Jvm.Cond.code ({ cls := "StarConsoleModel", name := "foresee", desc := "(II)I" } : Jvm.MethodName) prog_14_method_38_code (5 : Nat) (Option.some Jvm.ClassFile.FieldType.int)) ∈ lw_all := lw_g (lw_at lw_m5 36 rfl) rfl
theorem q1028 : (Jvm.Cond.instanceMethod ({ cls := "StarConsoleModel", name := "darkest", desc := "()I" } : Jvm.MethodName)) ∈ lw_all := lw_g (lw_at lw_m5 38 rfl) rfl
theorem q1029 : (Jvm.Cond.selects "StarConsoleModel" ({ cls := "StarConsoleModel", name := "darkest", desc := "()I" } : Jvm.MethodName) ({ cls := "StarConsoleModel", name := "darkest", desc := "()I" } : Jvm.MethodName)) ∈ lw_all := lw_g (lw_at lw_m5 39 rfl) rfl
theorem q1030 : (Jvm.Cond.code ({ cls := "StarConsoleModel", name := "darkest", desc := "()I" } : Jvm.MethodName) prog_14_method_39_code (3 : Nat) (Option.some Jvm.ClassFile.FieldType.int)) ∈ lw_all := lw_g (lw_at lw_m5 40 rfl) rfl
theorem q1032 : (Jvm.Cond.instanceMethod ({ cls := "StarConsoleModel", name := "mean", desc := "()D" } : Jvm.MethodName)) ∈ lw_all := lw_g (lw_at lw_m5 42 rfl) rfl
theorem q1033 : (Jvm.Cond.selects "StarConsoleModel" ({ cls := "StarConsoleModel", name := "mean", desc := "()D" } : Jvm.MethodName) ({ cls := "StarConsoleModel", name := "mean", desc := "()D" } : Jvm.MethodName)) ∈ lw_all := lw_g (lw_at lw_m5 43 rfl) rfl
theorem q1034 : (Jvm.Cond.code ({ cls := "StarConsoleModel", name := "mean", desc := "()D" } : Jvm.MethodName) prog_14_method_40_code (3 : Nat) (Option.some Jvm.ClassFile.FieldType.double)) ∈ lw_all := lw_g (lw_at lw_m5 44 rfl) rfl
theorem q1035 : (Jvm.Cond.constantDouble "StarConsoleModel" (124 : Nat) (4622945017495814144 : UInt64)) ∈ lw_all := lw_g (lw_at lw_m5 45 rfl) rfl
theorem q1037 : (Jvm.Cond.instanceMethod ({ cls := "StarConsoleModel", name := "digest", desc := "()J" } : Jvm.MethodName)) ∈ lw_all := lw_g (lw_at lw_m5 47 rfl) rfl
theorem q1038 : (Jvm.Cond.selects "StarConsoleModel" ({ cls := "StarConsoleModel", name := "digest", desc := "()J" } : Jvm.MethodName) ({ cls := "StarConsoleModel", name := "digest", desc := "()J" } : Jvm.MethodName)) ∈ lw_all := lw_g (lw_at lw_m5 48 rfl) rfl
theorem q1039 : (Jvm.Cond.code ({ cls := "StarConsoleModel", name := "digest", desc := "()J" } : Jvm.MethodName) prog_14_method_41_code (5 : Nat) (Option.some Jvm.ClassFile.FieldType.long)) ∈ lw_all := lw_g (lw_at lw_m5 49 rfl) rfl
theorem q1040 : (Jvm.Cond.constantLong "StarConsoleModel" (126 : Nat) (1109 : Int64)) ∈ lw_all := lw_g (lw_at lw_m5 50 rfl) rfl
theorem q1041 : (Jvm.Cond.constantLong "StarConsoleModel" (128 : Nat) (31 : Int64)) ∈ lw_all := lw_g (lw_at lw_m5 51 rfl) rfl
theorem q1050 : (Jvm.Cond.castable "StarConsoleModel" "java/lang/Object") ∈ lw_tbl := lw_at lw_m5 60 rfl
theorem in_X3 : ∀ w ∈ wsX30, w ∈ lw_all := lw_in wsX30 [852, 854, 856, 858, 860, 862, 864, 866, 868] (by decide +kernel) (by decide +kernel)

