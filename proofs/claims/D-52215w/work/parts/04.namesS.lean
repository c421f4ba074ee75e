set_option maxRecDepth 100000
/-! StarConsole$Dimmer -/
def RX4 : String := "StarConsole$Dimmer"
def TX4 : u_T := fun k => match k with
  | 0 => ("StarConsole$Dimmer", "part", "I", true)
  | 1 => ("StarConsole$Dimmer", "pace", "I", true)
  | 2 => ("StarConsole$Dimmer", "level", "I", false)
  | 3 => ("StarConsole$Dimmer", "aim", "I", false)
  | _ => ("StarConsole$Dimmer", "life", "I", false)
def tyX4 : Nat → FieldType := fun k => match k with
  | 0 => .int
  | 1 => .int
  | 2 => .int
  | 3 => .int
  | _ => .int
abbrev wsX40 : List Cond := u_ws RX4 TX4 5
theorem nmX4 : ∀ a, a < 5 → ∀ b, b < 5 → a ≠ b → (TX4 a).2.1 ≠ (TX4 b).2.1 := by decide +kernel
theorem tyX4_ok : ∀ k, k < 5 → parseFieldDescriptor (TX4 k).2.2.1 = some (tyX4 k) := by decide +kernel
abbrev cX4_glare : ByteArray := prog_5_method_6_code
def yX4_glare : MethodName := ⟨RX4, "glare", "(I)I"⟩
def dkwX4_glare_1 : List UInt8 := [28, 4, 159, 0, 9, 28, 16, 11, 160, 0, 12, 42, 180, 0, 24, 7, 108, 167, 0, 4, 3, 172]
abbrev dktX4_glare_1 : List UInt8 := dkwX4_glare_1 ++ []
def dkwX4_glare_0 : List UInt8 := [27, 42, 180, 0, 9, 100, 16, 12, 96, 16, 12, 112, 61, 28, 154, 0, 10, 42, 180, 0, 24, 167, 0, 24]
abbrev dktX4_glare_0 : List UInt8 := dkwX4_glare_0 ++ dktX4_glare_1
theorem dksX4_glare_0 : cX4_glare.data.toList.drop 0 = dktX4_glare_0 := by decide +kernel
theorem dksX4_glare_1 : cX4_glare.data.toList.drop 24 = dktX4_glare_1 := dk_seg dksX4_glare_0 24 rfl rfl
theorem dX4_glare_0 : decode cX4_glare 0 = .ok (.iload_n 1, 1) := dk_27 (dk_at dksX4_glare_0 0 rfl rfl)
theorem dX4_glare_1 : decode cX4_glare 1 = .ok (.aload_n 0, 1) := dk_42 (dk_at dksX4_glare_0 1 rfl rfl)
theorem dX4_glare_2 : decode cX4_glare 2 = .ok (.getfield 9, 3) := dk_180 0 9 (dk_at dksX4_glare_0 2 rfl rfl)
theorem dX4_glare_5 : decode cX4_glare 5 = .ok (.isub, 1) := dk_100 (dk_at dksX4_glare_0 5 rfl rfl)
theorem dX4_glare_6 : decode cX4_glare 6 = .ok (.bipush 12, 2) := dk_16 12 (dk_at dksX4_glare_0 6 rfl rfl)
theorem dX4_glare_8 : decode cX4_glare 8 = .ok (.iadd, 1) := dk_96 (dk_at dksX4_glare_0 8 rfl rfl)
theorem dX4_glare_9 : decode cX4_glare 9 = .ok (.bipush 12, 2) := dk_16 12 (dk_at dksX4_glare_0 9 rfl rfl)
theorem dX4_glare_11 : decode cX4_glare 11 = .ok (.irem, 1) := dk_112 (dk_at dksX4_glare_0 11 rfl rfl)
theorem dX4_glare_12 : decode cX4_glare 12 = .ok (.istore_n 2, 1) := dk_61 (dk_at dksX4_glare_0 12 rfl rfl)
theorem dX4_glare_13 : decode cX4_glare 13 = .ok (.iload_n 2, 1) := dk_28 (dk_at dksX4_glare_0 13 rfl rfl)
theorem dX4_glare_14 : decode cX4_glare 14 = .ok (.ifCond .ne 10, 3) := dk_154 0 10 (dk_at dksX4_glare_0 14 rfl rfl)
theorem dX4_glare_17 : decode cX4_glare 17 = .ok (.aload_n 0, 1) := dk_42 (dk_at dksX4_glare_0 17 rfl rfl)
theorem dX4_glare_18 : decode cX4_glare 18 = .ok (.getfield 24, 3) := dk_180 0 24 (dk_at dksX4_glare_0 18 rfl rfl)
theorem dX4_glare_21 : decode cX4_glare 21 = .ok (.goto 24, 3) := dk_167 0 24 (dk_at dksX4_glare_0 21 rfl rfl)
theorem dX4_glare_24 : decode cX4_glare 24 = .ok (.iload_n 2, 1) := dk_28 (dk_at dksX4_glare_1 0 rfl rfl)
theorem dX4_glare_25 : decode cX4_glare 25 = .ok (.iconst 1, 1) := dk_4 (dk_at dksX4_glare_1 1 rfl rfl)
theorem dX4_glare_26 : decode cX4_glare 26 = .ok (.if_icmp .eq 9, 3) := dk_159 0 9 (dk_at dksX4_glare_1 2 rfl rfl)
theorem dX4_glare_29 : decode cX4_glare 29 = .ok (.iload_n 2, 1) := dk_28 (dk_at dksX4_glare_1 5 rfl rfl)
theorem dX4_glare_30 : decode cX4_glare 30 = .ok (.bipush 11, 2) := dk_16 11 (dk_at dksX4_glare_1 6 rfl rfl)
theorem dX4_glare_32 : decode cX4_glare 32 = .ok (.if_icmp .ne 12, 3) := dk_160 0 12 (dk_at dksX4_glare_1 8 rfl rfl)
theorem dX4_glare_35 : decode cX4_glare 35 = .ok (.aload_n 0, 1) := dk_42 (dk_at dksX4_glare_1 11 rfl rfl)
theorem dX4_glare_36 : decode cX4_glare 36 = .ok (.getfield 24, 3) := dk_180 0 24 (dk_at dksX4_glare_1 12 rfl rfl)
theorem dX4_glare_39 : decode cX4_glare 39 = .ok (.iconst 4, 1) := dk_7 (dk_at dksX4_glare_1 15 rfl rfl)
theorem dX4_glare_40 : decode cX4_glare 40 = .ok (.idiv, 1) := dk_108 (dk_at dksX4_glare_1 16 rfl rfl)
theorem dX4_glare_41 : decode cX4_glare 41 = .ok (.goto 4, 3) := dk_167 0 4 (dk_at dksX4_glare_1 17 rfl rfl)
theorem dX4_glare_44 : decode cX4_glare 44 = .ok (.iconst 0, 1) := dk_3 (dk_at dksX4_glare_1 20 rfl rfl)
theorem dX4_glare_45 : decode cX4_glare 45 = .ok (.ireturn, 1) := dk_172 (dk_at dksX4_glare_1 21 rfl rfl)
abbrev cX4_init : ByteArray := prog_5_method_1_code
def yX4_init : MethodName := ⟨RX4, "<init>", "(III)V"⟩
def dkwX4_init_0 : List UInt8 := [42, 183, 0, 3, 42, 27, 181, 0, 9, 42, 28, 181, 0, 15, 42, 29, 181, 0, 18, 177]
abbrev dktX4_init_0 : List UInt8 := dkwX4_init_0 ++ []
theorem dksX4_init_0 : cX4_init.data.toList.drop 0 = dktX4_init_0 := by decide +kernel
theorem dX4_init_0 : decode cX4_init 0 = .ok (.aload_n 0, 1) := dk_42 (dk_at dksX4_init_0 0 rfl rfl)
theorem dX4_init_1 : decode cX4_init 1 = .ok (.invokespecial 3, 3) := dk_183 0 3 (dk_at dksX4_init_0 1 rfl rfl)
theorem dX4_init_4 : decode cX4_init 4 = .ok (.aload_n 0, 1) := dk_42 (dk_at dksX4_init_0 4 rfl rfl)
theorem dX4_init_5 : decode cX4_init 5 = .ok (.iload_n 1, 1) := dk_27 (dk_at dksX4_init_0 5 rfl rfl)
theorem dX4_init_6 : decode cX4_init 6 = .ok (.putfield 9, 3) := dk_181 0 9 (dk_at dksX4_init_0 6 rfl rfl)
theorem dX4_init_9 : decode cX4_init 9 = .ok (.aload_n 0, 1) := dk_42 (dk_at dksX4_init_0 9 rfl rfl)
theorem dX4_init_10 : decode cX4_init 10 = .ok (.iload_n 2, 1) := dk_28 (dk_at dksX4_init_0 10 rfl rfl)
theorem dX4_init_11 : decode cX4_init 11 = .ok (.putfield 15, 3) := dk_181 0 15 (dk_at dksX4_init_0 11 rfl rfl)
theorem dX4_init_14 : decode cX4_init 14 = .ok (.aload_n 0, 1) := dk_42 (dk_at dksX4_init_0 14 rfl rfl)
theorem dX4_init_15 : decode cX4_init 15 = .ok (.iload_n 3, 1) := dk_29 (dk_at dksX4_init_0 15 rfl rfl)
theorem dX4_init_16 : decode cX4_init 16 = .ok (.putfield 18, 3) := dk_181 0 18 (dk_at dksX4_init_0 16 rfl rfl)
theorem dX4_init_19 : decode cX4_init 19 = .ok (.return_, 1) := dk_177 (dk_at dksX4_init_0 19 rfl rfl)
abbrev cX4_change : ByteArray := prog_5_method_4_code
def yX4_change : MethodName := ⟨RX4, "change", "(I)V"⟩
def dkwX4_change_0 : List UInt8 := [42, 27, 181, 0, 18, 42, 182, 0, 30, 177]
abbrev dktX4_change_0 : List UInt8 := dkwX4_change_0 ++ []
theorem dksX4_change_0 : cX4_change.data.toList.drop 0 = dktX4_change_0 := by decide +kernel
theorem dX4_change_0 : decode cX4_change 0 = .ok (.aload_n 0, 1) := dk_42 (dk_at dksX4_change_0 0 rfl rfl)
theorem dX4_change_1 : decode cX4_change 1 = .ok (.iload_n 1, 1) := dk_27 (dk_at dksX4_change_0 1 rfl rfl)
theorem dX4_change_2 : decode cX4_change 2 = .ok (.putfield 18, 3) := dk_181 0 18 (dk_at dksX4_change_0 2 rfl rfl)
theorem dX4_change_5 : decode cX4_change 5 = .ok (.aload_n 0, 1) := dk_42 (dk_at dksX4_change_0 5 rfl rfl)
theorem dX4_change_6 : decode cX4_change 6 = .ok (.invokevirtual 30, 3) := dk_182 0 30 (dk_at dksX4_change_0 6 rfl rfl)
theorem dX4_change_9 : decode cX4_change 9 = .ok (.return_, 1) := dk_177 (dk_at dksX4_change_0 9 rfl rfl)
abbrev cX4_darken : ByteArray := prog_5_method_3_code
def yX4_darken : MethodName := ⟨RX4, "darken", "()V"⟩
def dkwX4_darken_0 : List UInt8 := [42, 180, 0, 18, 154, 0, 8, 42, 3, 181, 0, 24, 177]
abbrev dktX4_darken_0 : List UInt8 := dkwX4_darken_0 ++ []
theorem dksX4_darken_0 : cX4_darken.data.toList.drop 0 = dktX4_darken_0 := by decide +kernel
theorem dX4_darken_0 : decode cX4_darken 0 = .ok (.aload_n 0, 1) := dk_42 (dk_at dksX4_darken_0 0 rfl rfl)
theorem dX4_darken_1 : decode cX4_darken 1 = .ok (.getfield 18, 3) := dk_180 0 18 (dk_at dksX4_darken_0 1 rfl rfl)
theorem dX4_darken_4 : decode cX4_darken 4 = .ok (.ifCond .ne 8, 3) := dk_154 0 8 (dk_at dksX4_darken_0 4 rfl rfl)
theorem dX4_darken_7 : decode cX4_darken 7 = .ok (.aload_n 0, 1) := dk_42 (dk_at dksX4_darken_0 7 rfl rfl)
theorem dX4_darken_8 : decode cX4_darken 8 = .ok (.iconst 0, 1) := dk_3 (dk_at dksX4_darken_0 8 rfl rfl)
theorem dX4_darken_9 : decode cX4_darken 9 = .ok (.putfield 24, 3) := dk_181 0 24 (dk_at dksX4_darken_0 9 rfl rfl)
theorem dX4_darken_12 : decode cX4_darken 12 = .ok (.return_, 1) := dk_177 (dk_at dksX4_darken_0 12 rfl rfl)
abbrev cX4_pass : ByteArray := prog_5_method_5_code
def yX4_pass : MethodName := ⟨RX4, "pass", "()V"⟩
def dkwX4_pass_3 : List UInt8 := [182, 0, 30, 177]
abbrev dktX4_pass_3 : List UInt8 := dkwX4_pass_3 ++ []
def dkwX4_pass_2 : List UInt8 := [181, 0, 24, 42, 3, 42, 180, 0, 18, 42, 180, 0, 24, 16, 10, 108, 100, 184, 0, 39, 181, 0, 18, 42]
abbrev dktX4_pass_2 : List UInt8 := dkwX4_pass_2 ++ dktX4_pass_3
def dkwX4_pass_1 : List UInt8 := [96, 184, 0, 33, 167, 0, 19, 42, 180, 0, 27, 42, 180, 0, 24, 42, 180, 0, 15, 100, 184, 0, 39]
abbrev dktX4_pass_1 : List UInt8 := dkwX4_pass_1 ++ dktX4_pass_2
def dkwX4_pass_0 : List UInt8 := [42, 42, 180, 0, 24, 42, 180, 0, 27, 162, 0, 22, 42, 180, 0, 27, 42, 180, 0, 24, 42, 180, 0, 15]
abbrev dktX4_pass_0 : List UInt8 := dkwX4_pass_0 ++ dktX4_pass_1
theorem dksX4_pass_0 : cX4_pass.data.toList.drop 0 = dktX4_pass_0 := by decide +kernel
theorem dksX4_pass_1 : cX4_pass.data.toList.drop 24 = dktX4_pass_1 := dk_seg dksX4_pass_0 24 rfl rfl
theorem dksX4_pass_2 : cX4_pass.data.toList.drop 47 = dktX4_pass_2 := dk_seg dksX4_pass_1 23 rfl rfl
theorem dksX4_pass_3 : cX4_pass.data.toList.drop 71 = dktX4_pass_3 := dk_seg dksX4_pass_2 24 rfl rfl
theorem dX4_pass_0 : decode cX4_pass 0 = .ok (.aload_n 0, 1) := dk_42 (dk_at dksX4_pass_0 0 rfl rfl)
theorem dX4_pass_1 : decode cX4_pass 1 = .ok (.aload_n 0, 1) := dk_42 (dk_at dksX4_pass_0 1 rfl rfl)
theorem dX4_pass_2 : decode cX4_pass 2 = .ok (.getfield 24, 3) := dk_180 0 24 (dk_at dksX4_pass_0 2 rfl rfl)
theorem dX4_pass_5 : decode cX4_pass 5 = .ok (.aload_n 0, 1) := dk_42 (dk_at dksX4_pass_0 5 rfl rfl)
theorem dX4_pass_6 : decode cX4_pass 6 = .ok (.getfield 27, 3) := dk_180 0 27 (dk_at dksX4_pass_0 6 rfl rfl)
theorem dX4_pass_9 : decode cX4_pass 9 = .ok (.if_icmp .ge 22, 3) := dk_162 0 22 (dk_at dksX4_pass_0 9 rfl rfl)
theorem dX4_pass_12 : decode cX4_pass 12 = .ok (.aload_n 0, 1) := dk_42 (dk_at dksX4_pass_0 12 rfl rfl)
theorem dX4_pass_13 : decode cX4_pass 13 = .ok (.getfield 27, 3) := dk_180 0 27 (dk_at dksX4_pass_0 13 rfl rfl)
theorem dX4_pass_16 : decode cX4_pass 16 = .ok (.aload_n 0, 1) := dk_42 (dk_at dksX4_pass_0 16 rfl rfl)
theorem dX4_pass_17 : decode cX4_pass 17 = .ok (.getfield 24, 3) := dk_180 0 24 (dk_at dksX4_pass_0 17 rfl rfl)
theorem dX4_pass_20 : decode cX4_pass 20 = .ok (.aload_n 0, 1) := dk_42 (dk_at dksX4_pass_0 20 rfl rfl)
theorem dX4_pass_21 : decode cX4_pass 21 = .ok (.getfield 15, 3) := dk_180 0 15 (dk_at dksX4_pass_0 21 rfl rfl)
theorem dX4_pass_24 : decode cX4_pass 24 = .ok (.iadd, 1) := dk_96 (dk_at dksX4_pass_1 0 rfl rfl)
theorem dX4_pass_25 : decode cX4_pass 25 = .ok (.invokestatic 33, 3) := dk_184 0 33 (dk_at dksX4_pass_1 1 rfl rfl)
theorem dX4_pass_28 : decode cX4_pass 28 = .ok (.goto 19, 3) := dk_167 0 19 (dk_at dksX4_pass_1 4 rfl rfl)
theorem dX4_pass_31 : decode cX4_pass 31 = .ok (.aload_n 0, 1) := dk_42 (dk_at dksX4_pass_1 7 rfl rfl)
theorem dX4_pass_32 : decode cX4_pass 32 = .ok (.getfield 27, 3) := dk_180 0 27 (dk_at dksX4_pass_1 8 rfl rfl)
theorem dX4_pass_35 : decode cX4_pass 35 = .ok (.aload_n 0, 1) := dk_42 (dk_at dksX4_pass_1 11 rfl rfl)
theorem dX4_pass_36 : decode cX4_pass 36 = .ok (.getfield 24, 3) := dk_180 0 24 (dk_at dksX4_pass_1 12 rfl rfl)
theorem dX4_pass_39 : decode cX4_pass 39 = .ok (.aload_n 0, 1) := dk_42 (dk_at dksX4_pass_1 15 rfl rfl)
theorem dX4_pass_40 : decode cX4_pass 40 = .ok (.getfield 15, 3) := dk_180 0 15 (dk_at dksX4_pass_1 16 rfl rfl)
theorem dX4_pass_43 : decode cX4_pass 43 = .ok (.isub, 1) := dk_100 (dk_at dksX4_pass_1 19 rfl rfl)
theorem dX4_pass_44 : decode cX4_pass 44 = .ok (.invokestatic 39, 3) := dk_184 0 39 (dk_at dksX4_pass_1 20 rfl rfl)
theorem dX4_pass_47 : decode cX4_pass 47 = .ok (.putfield 24, 3) := dk_181 0 24 (dk_at dksX4_pass_2 0 rfl rfl)
theorem dX4_pass_50 : decode cX4_pass 50 = .ok (.aload_n 0, 1) := dk_42 (dk_at dksX4_pass_2 3 rfl rfl)
theorem dX4_pass_51 : decode cX4_pass 51 = .ok (.iconst 0, 1) := dk_3 (dk_at dksX4_pass_2 4 rfl rfl)
theorem dX4_pass_52 : decode cX4_pass 52 = .ok (.aload_n 0, 1) := dk_42 (dk_at dksX4_pass_2 5 rfl rfl)
theorem dX4_pass_53 : decode cX4_pass 53 = .ok (.getfield 18, 3) := dk_180 0 18 (dk_at dksX4_pass_2 6 rfl rfl)
theorem dX4_pass_56 : decode cX4_pass 56 = .ok (.aload_n 0, 1) := dk_42 (dk_at dksX4_pass_2 9 rfl rfl)
theorem dX4_pass_57 : decode cX4_pass 57 = .ok (.getfield 24, 3) := dk_180 0 24 (dk_at dksX4_pass_2 10 rfl rfl)
theorem dX4_pass_60 : decode cX4_pass 60 = .ok (.bipush 10, 2) := dk_16 10 (dk_at dksX4_pass_2 13 rfl rfl)
theorem dX4_pass_62 : decode cX4_pass 62 = .ok (.idiv, 1) := dk_108 (dk_at dksX4_pass_2 15 rfl rfl)
theorem dX4_pass_63 : decode cX4_pass 63 = .ok (.isub, 1) := dk_100 (dk_at dksX4_pass_2 16 rfl rfl)
theorem dX4_pass_64 : decode cX4_pass 64 = .ok (.invokestatic 39, 3) := dk_184 0 39 (dk_at dksX4_pass_2 17 rfl rfl)
theorem dX4_pass_67 : decode cX4_pass 67 = .ok (.putfield 18, 3) := dk_181 0 18 (dk_at dksX4_pass_2 20 rfl rfl)
theorem dX4_pass_70 : decode cX4_pass 70 = .ok (.aload_n 0, 1) := dk_42 (dk_at dksX4_pass_2 23 rfl rfl)
theorem dX4_pass_71 : decode cX4_pass 71 = .ok (.invokevirtual 30, 3) := dk_182 0 30 (dk_at dksX4_pass_3 0 rfl rfl)
theorem dX4_pass_74 : decode cX4_pass 74 = .ok (.return_, 1) := dk_177 (dk_at dksX4_pass_3 3 rfl rfl)
abbrev cX4_copy : ByteArray := prog_5_method_2_code
def yX4_copy : MethodName := ⟨RX4, "copy", "()LStarConsole$Dimmer;"⟩
def dkwX4_copy_1 : List UInt8 := [180, 0, 24, 181, 0, 24, 43, 42, 180, 0, 27, 181, 0, 27, 43, 176]
abbrev dktX4_copy_1 : List UInt8 := dkwX4_copy_1 ++ []
def dkwX4_copy_0 : List UInt8 := [187, 0, 10, 89, 42, 180, 0, 9, 42, 180, 0, 15, 42, 180, 0, 18, 183, 0, 21, 76, 43, 42]
abbrev dktX4_copy_0 : List UInt8 := dkwX4_copy_0 ++ dktX4_copy_1
theorem dksX4_copy_0 : cX4_copy.data.toList.drop 0 = dktX4_copy_0 := by decide +kernel
theorem dksX4_copy_1 : cX4_copy.data.toList.drop 22 = dktX4_copy_1 := dk_seg dksX4_copy_0 22 rfl rfl
theorem dX4_copy_0 : decode cX4_copy 0 = .ok (.new 10, 3) := dk_187 0 10 (dk_at dksX4_copy_0 0 rfl rfl)
theorem dX4_copy_3 : decode cX4_copy 3 = .ok (.dup, 1) := dk_89 (dk_at dksX4_copy_0 3 rfl rfl)
theorem dX4_copy_4 : decode cX4_copy 4 = .ok (.aload_n 0, 1) := dk_42 (dk_at dksX4_copy_0 4 rfl rfl)
theorem dX4_copy_5 : decode cX4_copy 5 = .ok (.getfield 9, 3) := dk_180 0 9 (dk_at dksX4_copy_0 5 rfl rfl)
theorem dX4_copy_8 : decode cX4_copy 8 = .ok (.aload_n 0, 1) := dk_42 (dk_at dksX4_copy_0 8 rfl rfl)
theorem dX4_copy_9 : decode cX4_copy 9 = .ok (.getfield 15, 3) := dk_180 0 15 (dk_at dksX4_copy_0 9 rfl rfl)
theorem dX4_copy_12 : decode cX4_copy 12 = .ok (.aload_n 0, 1) := dk_42 (dk_at dksX4_copy_0 12 rfl rfl)
theorem dX4_copy_13 : decode cX4_copy 13 = .ok (.getfield 18, 3) := dk_180 0 18 (dk_at dksX4_copy_0 13 rfl rfl)
theorem dX4_copy_16 : decode cX4_copy 16 = .ok (.invokespecial 21, 3) := dk_183 0 21 (dk_at dksX4_copy_0 16 rfl rfl)
theorem dX4_copy_19 : decode cX4_copy 19 = .ok (.astore_n 1, 1) := dk_76 (dk_at dksX4_copy_0 19 rfl rfl)
theorem dX4_copy_20 : decode cX4_copy 20 = .ok (.aload_n 1, 1) := dk_43 (dk_at dksX4_copy_0 20 rfl rfl)
theorem dX4_copy_21 : decode cX4_copy 21 = .ok (.aload_n 0, 1) := dk_42 (dk_at dksX4_copy_0 21 rfl rfl)
theorem dX4_copy_22 : decode cX4_copy 22 = .ok (.getfield 24, 3) := dk_180 0 24 (dk_at dksX4_copy_1 0 rfl rfl)
theorem dX4_copy_25 : decode cX4_copy 25 = .ok (.putfield 24, 3) := dk_181 0 24 (dk_at dksX4_copy_1 3 rfl rfl)
theorem dX4_copy_28 : decode cX4_copy 28 = .ok (.aload_n 1, 1) := dk_43 (dk_at dksX4_copy_1 6 rfl rfl)
theorem dX4_copy_29 : decode cX4_copy 29 = .ok (.aload_n 0, 1) := dk_42 (dk_at dksX4_copy_1 7 rfl rfl)
theorem dX4_copy_30 : decode cX4_copy 30 = .ok (.getfield 27, 3) := dk_180 0 27 (dk_at dksX4_copy_1 8 rfl rfl)
theorem dX4_copy_33 : decode cX4_copy 33 = .ok (.putfield 27, 3) := dk_181 0 27 (dk_at dksX4_copy_1 11 rfl rfl)
theorem dX4_copy_36 : decode cX4_copy 36 = .ok (.aload_n 1, 1) := dk_43 (dk_at dksX4_copy_1 14 rfl rfl)
theorem dX4_copy_37 : decode cX4_copy 37 = .ok (.areturn, 1) := dk_176 (dk_at dksX4_copy_1 15 rfl rfl)
theorem q42 : (Jvm.Cond.initialized "StarConsole$Dimmer") ∈ lw_all := lw_g (lw_at lw_m1 12 rfl) rfl
theorem q196 : (Jvm.Cond.instanceMethod ({ cls := "StarConsole$Dimmer", name := "glare", desc := "(I)I" } : Jvm.MethodName)) ∈ lw_all := lw_g (lw_at lw_m1 166 rfl) rfl
theorem q197 : (Jvm.Cond.selects "StarConsole$Dimmer" ({ cls := "StarConsole$Dimmer", name := "glare", desc := "(I)I" } : Jvm.MethodName) ({ cls := "StarConsole$Dimmer", name := "glare", desc := "(I)I" } : Jvm.MethodName)) ∈ lw_all := lw_g (lw_at lw_m1 167 rfl) rfl
theorem q198 : (Jvm.Cond.code ({ cls := "StarConsole$Dimmer", name := "glare", desc := "(I)I" } : Jvm.MethodName) prog_5_method_6_code (3 : Nat) (Option.some Jvm.ClassFile.FieldType.int)) ∈ lw_all := lw_g (lw_at lw_m1 168 rfl) rfl
theorem q393 : (Jvm.Cond.instantiable "StarConsole$Dimmer" (5 : Nat)) ∈ lw_all := lw_g (lw_at lw_m2 123 rfl) rfl
theorem q395 : (Jvm.Cond.instanceMethod ({ cls := "StarConsole$Dimmer", name := "<init>", desc := "(III)V" } : Jvm.MethodName)) ∈ lw_all := lw_g (lw_at lw_m2 125 rfl) rfl
theorem q396 : (Jvm.Cond.code ({ cls := "StarConsole$Dimmer", name := "<init>", desc := "(III)V" } : Jvm.MethodName) prog_5_method_1_code (4 : Nat) (Option.none : Option Jvm.ClassFile.FieldType)) ∈ lw_all := lw_g (lw_at lw_m2 126 rfl) rfl
theorem q397 : (Jvm.Cond.methodLink "StarConsole$Dimmer" (3 : Nat) ({ cls := "java/lang/Object", name := "<init>", desc := "()V" } : Jvm.MethodName)) ∈ lw_all := lw_g (lw_at lw_m2 127 rfl) rfl
theorem q398 : (Jvm.Cond.fieldLink "StarConsole$Dimmer" (9 : Nat) "StarConsole$Dimmer" "part" "I") ∈ lw_all := lw_g (lw_at lw_m2 128 rfl) rfl
theorem q400 : (Jvm.Cond.fieldLink "StarConsole$Dimmer" (15 : Nat) "StarConsole$Dimmer" "pace" "I") ∈ lw_all := lw_g (lw_at lw_m2 130 rfl) rfl
theorem q402 : (Jvm.Cond.fieldLink "StarConsole$Dimmer" (24 : Nat) "StarConsole$Dimmer" "level" "I") ∈ lw_all := lw_g (lw_at lw_m2 132 rfl) rfl
theorem q404 : (Jvm.Cond.fieldLink "StarConsole$Dimmer" (27 : Nat) "StarConsole$Dimmer" "aim" "I") ∈ lw_all := lw_g (lw_at lw_m2 134 rfl) rfl
theorem q407 : (Jvm.Cond.fieldLink "StarConsole$Dimmer" (18 : Nat) "StarConsole$Dimmer" "life" "I") ∈ lw_all := lw_g (lw_at lw_m2 137 rfl) rfl
theorem q409 : (Jvm.Cond.laysFinal "StarConsole$Dimmer" "StarConsole$Dimmer" "part" "I") ∈ lw_all := lw_g (lw_at lw_m2 139 rfl) rfl
theorem q410 : (Jvm.Cond.soleField "StarConsole$Dimmer" "part") ∈ lw_all := lw_g (lw_at lw_m2 140 rfl) rfl
theorem q411 : (Jvm.Cond.laysFinal "StarConsole$Dimmer" "StarConsole$Dimmer" "pace" "I") ∈ lw_all := lw_g (lw_at lw_m2 141 rfl) rfl
theorem q412 : (Jvm.Cond.soleField "StarConsole$Dimmer" "pace") ∈ lw_all := lw_g (lw_at lw_m2 142 rfl) rfl
theorem q413 : (Jvm.Cond.lays "StarConsole$Dimmer" "StarConsole$Dimmer" "level" "I") ∈ lw_all := lw_g (lw_at lw_m2 143 rfl) rfl
theorem q414 : (Jvm.Cond.soleField "StarConsole$Dimmer" "level") ∈ lw_all := lw_g (lw_at lw_m2 144 rfl) rfl
theorem q415 : (Jvm.Cond.lays "StarConsole$Dimmer" "StarConsole$Dimmer" "aim" "I") ∈ lw_all := lw_g (lw_at lw_m2 145 rfl) rfl
theorem q416 : (Jvm.Cond.soleField "StarConsole$Dimmer" "aim") ∈ lw_all := lw_g (lw_at lw_m2 146 rfl) rfl
theorem q417 : (Jvm.Cond.lays "StarConsole$Dimmer" "StarConsole$Dimmer" "life" "I") ∈ lw_all := lw_g (lw_at lw_m2 147 rfl) rfl
theorem q418 : (Jvm.Cond.soleField "StarConsole$Dimmer" "life") ∈ lw_all := lw_g (lw_at lw_m2 148 rfl) rfl
theorem q419 : (Jvm.Cond.superclass "StarConsole$Dimmer" "java/lang/Object") ∈ lw_all := lw_g (lw_at lw_m2 149 rfl) rfl
theorem q456 : (Jvm.Cond.selects "StarConsole$Dimmer" ({ cls := "java/lang/Object", name := "getClass", desc := "()Ljava/lang/Class;" } : Jvm.MethodName) ({ cls := "java/lang/Object", name := "getClass", desc := "()Ljava/lang/Class;" } : Jvm.MethodName)) ∈ lw_all := lw_g (lw_at lw_m2 186 rfl) rfl
theorem q561 : (Jvm.Cond.instanceMethod ({ cls := "StarConsole$Dimmer", name := "change", desc := "(I)V" } : Jvm.MethodName)) ∈ lw_all := lw_g (lw_at lw_m3 51 rfl) rfl
theorem q562 : (Jvm.Cond.selects "StarConsole$Dimmer" ({ cls := "StarConsole$Dimmer", name := "change", desc := "(I)V" } : Jvm.MethodName) ({ cls := "StarConsole$Dimmer", name := "change", desc := "(I)V" } : Jvm.MethodName)) ∈ lw_all := lw_g (lw_at lw_m3 52 rfl) rfl
theorem q563 : (Jvm.Cond.code ({ cls := "StarConsole$Dimmer", name := "change", desc := "(I)V" } : Jvm.MethodName) prog_5_method_4_code (2 : Nat) (Option.none : Option Jvm.ClassFile.FieldType)) ∈ lw_all := lw_g (lw_at lw_m3 53 rfl) rfl
theorem q564 : (Jvm.Cond.methodLink "StarConsole$Dimmer" (30 : Nat) ({ cls := "StarConsole$Dimmer", name := "darken", desc := "()V" } : Jvm.MethodName)) ∈ lw_all := lw_g (lw_at lw_m3 54 rfl) rfl
theorem q565 : (Jvm.Cond.privateMethod ({ cls := "StarConsole$Dimmer", name := "darken", desc := "()V" } : Jvm.MethodName)) ∈ lw_tbl := lw_at lw_m3 55 rfl
theorem q566 : (Jvm.Cond.instanceMethod ({ cls := "StarConsole$Dimmer", name := "darken", desc := "()V" } : Jvm.MethodName)) ∈ lw_all := lw_g (lw_at lw_m3 56 rfl) rfl
theorem q567 : (Jvm.Cond.code ({ cls := "StarConsole$Dimmer", name := "darken", desc := "()V" } : Jvm.MethodName) prog_5_method_3_code (1 : Nat) (Option.none : Option Jvm.ClassFile.FieldType)) ∈ lw_all := lw_g (lw_at lw_m3 57 rfl) rfl
theorem q736 : (Jvm.Cond.instanceMethod ({ cls := "StarConsole$Dimmer", name := "pass", desc := "()V" } : Jvm.MethodName)) ∈ lw_all := lw_g (lw_at lw_m3 226 rfl) rfl
theorem q737 : (Jvm.Cond.selects "StarConsole$Dimmer" ({ cls := "StarConsole$Dimmer", name := "pass", desc := "()V" } : Jvm.MethodName) ({ cls := "StarConsole$Dimmer", name := "pass", desc := "()V" } : Jvm.MethodName)) ∈ lw_all := lw_g (lw_at lw_m3 227 rfl) rfl
theorem q738 : (Jvm.Cond.code ({ cls := "StarConsole$Dimmer", name := "pass", desc := "()V" } : Jvm.MethodName) prog_5_method_5_code (1 : Nat) (Option.none : Option Jvm.ClassFile.FieldType)) ∈ lw_all := lw_g (lw_at lw_m3 228 rfl) rfl
theorem q739 : (Jvm.Cond.methodLink "StarConsole$Dimmer" (33 : Nat) ({ cls := "java/lang/Math", name := "min", desc := "(II)I" } : Jvm.MethodName)) ∈ lw_all := lw_g (lw_at lw_m3 229 rfl) rfl
theorem q740 : (Jvm.Cond.methodLink "StarConsole$Dimmer" (39 : Nat) ({ cls := "java/lang/Math", name := "max", desc := "(II)I" } : Jvm.MethodName)) ∈ lw_all := lw_g (lw_at lw_m3 230 rfl) rfl
theorem q815 : (Jvm.Cond.instanceMethod ({ cls := "StarConsole$Dimmer", name := "copy", desc := "()LStarConsole$Dimmer;" } : Jvm.MethodName)) ∈ lw_all := lw_g (lw_at lw_m4 65 rfl) rfl
theorem q816 : (Jvm.Cond.selects "StarConsole$Dimmer" ({ cls := "StarConsole$Dimmer", name := "copy", desc := "()LStarConsole$Dimmer;" } : Jvm.MethodName) ({ cls := "StarConsole$Dimmer", name := "copy", desc := "()LStarConsole$Dimmer;" } : Jvm.MethodName)) ∈ lw_all := lw_g (lw_at lw_m4 66 rfl) rfl
theorem q817 : (Jvm.Cond.code ({ cls := "StarConsole$Dimmer", name := "copy", desc := "()LStarConsole$Dimmer;" } : Jvm.MethodName) prog_5_method_2_code (2 : Nat) (Option.some (Jvm.ClassFile.FieldType.object "StarConsole$Dimmer"))) ∈ lw_all := lw_g (lw_at lw_m4 67 rfl) rfl
theorem q818 : (Jvm.Cond.classLink "StarConsole$Dimmer" (10 : Nat) "StarConsole$Dimmer") ∈ lw_all := lw_g (lw_at lw_m4 68 rfl) rfl
theorem q819 : (Jvm.Cond.methodLink "StarConsole$Dimmer" (21 : Nat) ({ cls := "StarConsole$Dimmer", name := "<init>", desc := "(III)V" } : Jvm.MethodName)) ∈ lw_all := lw_g (lw_at lw_m4 69 rfl) rfl
theorem q1053 : (Jvm.Cond.castable "StarConsole$Dimmer" "java/lang/Object") ∈ lw_tbl := lw_at lw_m5 63 rfl
theorem in_X4 : ∀ w ∈ wsX40, w ∈ lw_all := lw_in wsX40 [409, 411, 413, 415, 417] (by decide +kernel) (by decide +kernel)

/-! StarConsole$Star -/
def RX5 : String := "StarConsole$Star"
def TX5 : u_T := fun k => match k with
  | 0 => ("StarConsole$Star", "degree", "I", true)
  | _ => ("StarConsole$Star", "light", "I", true)
def tyX5 : Nat → FieldType := fun k => match k with
  | 0 => .int
  | _ => .int
abbrev wsX50 : List Cond := u_ws RX5 TX5 2
theorem nmX5 : ∀ a, a < 2 → ∀ b, b < 2 → a ≠ b → (TX5 a).2.1 ≠ (TX5 b).2.1 := by decide +kernel
theorem tyX5_ok : ∀ k, k < 2 → parseFieldDescriptor (TX5 k).2.2.1 = some (tyX5 k) := by decide +kernel
abbrev cX5_degree : ByteArray := prog_12_method_5_code
def yX5_degree : MethodName := ⟨RX5, "degree", "()I"⟩
theorem dX5_degree_0 : decode cX5_degree 0 = .ok (.aload_n 0, 1) := by decide +kernel
theorem dX5_degree_1 : decode cX5_degree 1 = .ok (.getfield 7, 3) := by decide +kernel
theorem dX5_degree_4 : decode cX5_degree 4 = .ok (.ireturn, 1) := by decide +kernel
abbrev cX5_light : ByteArray := prog_12_method_6_code
def yX5_light : MethodName := ⟨RX5, "light", "()I"⟩
theorem dX5_light_0 : decode cX5_light 0 = .ok (.aload_n 0, 1) := by decide +kernel
theorem dX5_light_1 : decode cX5_light 1 = .ok (.getfield 13, 3) := by decide +kernel
theorem dX5_light_4 : decode cX5_light 4 = .ok (.ireturn, 1) := by decide +kernel
abbrev cX5_init : ByteArray := prog_12_method_1_code
def yX5_init : MethodName := ⟨RX5, "<init>", "(II)V"⟩
def dkwX5_init_0 : List UInt8 := [42, 183, 0, 1, 42, 27, 181, 0, 7, 42, 28, 181, 0, 13, 177]
abbrev dktX5_init_0 : List UInt8 := dkwX5_init_0 ++ []
theorem dksX5_init_0 : cX5_init.data.toList.drop 0 = dktX5_init_0 := by decide +kernel
theorem dX5_init_0 : decode cX5_init 0 = .ok (.aload_n 0, 1) := dk_42 (dk_at dksX5_init_0 0 rfl rfl)
theorem dX5_init_1 : decode cX5_init 1 = .ok (.invokespecial 1, 3) := dk_183 0 1 (dk_at dksX5_init_0 1 rfl rfl)
theorem dX5_init_4 : decode cX5_init 4 = .ok (.aload_n 0, 1) := dk_42 (dk_at dksX5_init_0 4 rfl rfl)
theorem dX5_init_5 : decode cX5_init 5 = .ok (.iload_n 1, 1) := dk_27 (dk_at dksX5_init_0 5 rfl rfl)
theorem dX5_init_6 : decode cX5_init 6 = .ok (.putfield 7, 3) := dk_181 0 7 (dk_at dksX5_init_0 6 rfl rfl)
theorem dX5_init_9 : decode cX5_init 9 = .ok (.aload_n 0, 1) := dk_42 (dk_at dksX5_init_0 9 rfl rfl)
theorem dX5_init_10 : decode cX5_init 10 = .ok (.iload_n 2, 1) := dk_28 (dk_at dksX5_init_0 10 rfl rfl)
theorem dX5_init_11 : decode cX5_init 11 = .ok (.putfield 13, 3) := dk_181 0 13 (dk_at dksX5_init_0 11 rfl rfl)
theorem dX5_init_14 : decode cX5_init 14 = .ok (.return_, 1) := dk_177 (dk_at dksX5_init_0 14 rfl rfl)
theorem q53 : (Jvm.Cond.initialized "StarConsole$Star") ∈ lw_all := lw_g (lw_at lw_m1 23 rfl) rfl
theorem q228 : (Jvm.Cond.instanceMethod ({ cls := "StarConsole$Star", name := "degree", desc := "()I" } : Jvm.MethodName)) ∈ lw_all := lw_g (lw_at lw_m1 198 rfl) rfl
theorem q229 : (Jvm.Cond.selects "StarConsole$Star" ({ cls := "StarConsole$Star", name := "degree", desc := "()I" } : Jvm.MethodName) ({ cls := "StarConsole$Star", name := "degree", desc := "()I" } : Jvm.MethodName)) ∈ lw_all := lw_g (lw_at lw_m1 199 rfl) rfl
theorem q230 : (Jvm.Cond.code ({ cls := "StarConsole$Star", name := "degree", desc := "()I" } : Jvm.MethodName) prog_12_method_5_code (1 : Nat) (Option.some Jvm.ClassFile.FieldType.int)) ∈ lw_all := lw_g (lw_at lw_m1 200 rfl) rfl
theorem q235 : (Jvm.Cond.instanceMethod ({ cls := "StarConsole$Star", name := "light", desc := "()I" } : Jvm.MethodName)) ∈ lw_all := lw_g (lw_at lw_m1 205 rfl) rfl
theorem q236 : (Jvm.Cond.selects "StarConsole$Star" ({ cls := "StarConsole$Star", name := "light", desc := "()I" } : Jvm.MethodName) ({ cls := "StarConsole$Star", name := "light", desc := "()I" } : Jvm.MethodName)) ∈ lw_all := lw_g (lw_at lw_m1 206 rfl) rfl
theorem q237 : (Jvm.Cond.code ({ cls := "StarConsole$Star", name := "light", desc := "()I" } : Jvm.MethodName) prog_12_method_6_code (1 : Nat) (Option.some Jvm.ClassFile.FieldType.int)) ∈ lw_all := lw_g (lw_at lw_m1 207 rfl) rfl
theorem q462 : (Jvm.Cond.selects "StarConsole$Star" ({ cls := "java/lang/Object", name := "getClass", desc := "()Ljava/lang/Class;" } : Jvm.MethodName) ({ cls := "java/lang/Object", name := "getClass", desc := "()Ljava/lang/Class;" } : Jvm.MethodName)) ∈ lw_all := lw_g (lw_at lw_m2 192 rfl) rfl
theorem q575 : (Jvm.Cond.instantiable "StarConsole$Star" (2 : Nat)) ∈ lw_all := lw_g (lw_at lw_m3 65 rfl) rfl
theorem q577 : (Jvm.Cond.instanceMethod ({ cls := "StarConsole$Star", name := "<init>", desc := "(II)V" } : Jvm.MethodName)) ∈ lw_all := lw_g (lw_at lw_m3 67 rfl) rfl
theorem q578 : (Jvm.Cond.code ({ cls := "StarConsole$Star", name := "<init>", desc := "(II)V" } : Jvm.MethodName) prog_12_method_1_code (3 : Nat) (Option.none : Option Jvm.ClassFile.FieldType)) ∈ lw_all := lw_g (lw_at lw_m3 68 rfl) rfl
theorem q579 : (Jvm.Cond.methodLink "StarConsole$Star" (1 : Nat) ({ cls := "java/lang/Record", name := "<init>", desc := "()V" } : Jvm.MethodName)) ∈ lw_all := lw_g (lw_at lw_m3 69 rfl) rfl
theorem q583 : (Jvm.Cond.fieldLink "StarConsole$Star" (7 : Nat) "StarConsole$Star" "degree" "I") ∈ lw_all := lw_g (lw_at lw_m3 73 rfl) rfl
theorem q584 : (Jvm.Cond.fieldLink "StarConsole$Star" (13 : Nat) "StarConsole$Star" "light" "I") ∈ lw_all := lw_g (lw_at lw_m3 74 rfl) rfl
theorem q585 : (Jvm.Cond.laysFinal "StarConsole$Star" "StarConsole$Star" "degree" "I") ∈ lw_all := lw_g (lw_at lw_m3 75 rfl) rfl
theorem q586 : (Jvm.Cond.soleField "StarConsole$Star" "degree") ∈ lw_all := lw_g (lw_at lw_m3 76 rfl) rfl
theorem q587 : (Jvm.Cond.laysFinal "StarConsole$Star" "StarConsole$Star" "light" "I") ∈ lw_all := lw_g (lw_at lw_m3 77 rfl) rfl
theorem q588 : (Jvm.Cond.soleField "StarConsole$Star" "light") ∈ lw_all := lw_g (lw_at lw_m3 78 rfl) rfl
theorem q589 : (Jvm.Cond.superclass "StarConsole$Star" "java/lang/Record") ∈ lw_all := lw_g (lw_at lw_m3 79 rfl) rfl
theorem q1056 : (Jvm.Cond.castable "StarConsole$Star" "java/lang/Object") ∈ lw_tbl := lw_at lw_m5 66 rfl
theorem in_X5 : ∀ w ∈ wsX50, w ∈ lw_all := lw_in wsX50 [585, 587] (by decide +kernel) (by decide +kernel)

/-! StarConsole$Kind -/
def RX6 : String := "StarConsole$Kind"
abbrev cX6_values : ByteArray := prog_6_method_1_code
def yX6_values : MethodName := ⟨RX6, "values", "()[LStarConsole$Kind;"⟩
def dkwX6_values_0 : List UInt8 := [178, 0, 19, 182, 0, 23, 192, 0, 24, 176]
abbrev dktX6_values_0 : List UInt8 := dkwX6_values_0 ++ []
theorem dksX6_values_0 : cX6_values.data.toList.drop 0 = dktX6_values_0 := by decide +kernel
theorem dX6_values_0 : decode cX6_values 0 = .ok (.getstatic 19, 3) := dk_178 0 19 (dk_at dksX6_values_0 0 rfl rfl)
theorem dX6_values_3 : decode cX6_values 3 = .ok (.invokevirtual 23, 3) := dk_182 0 23 (dk_at dksX6_values_0 3 rfl rfl)
theorem dX6_values_6 : decode cX6_values 6 = .ok (.checkcast 24, 3) := dk_192 0 24 (dk_at dksX6_values_0 6 rfl rfl)
theorem dX6_values_9 : decode cX6_values 9 = .ok (.areturn, 1) := dk_176 (dk_at dksX6_values_0 9 rfl rfl)
theorem q55 : (Jvm.Cond.initialized "StarConsole$Kind") ∈ lw_all := lw_g (lw_at lw_m1 25 rfl) rfl
theorem q275 : (Jvm.Cond.sameMethod "StarConsole$Kind" "java/lang/Enum" "ordinal" "()I") ∈ lw_all := lw_g (lw_at lw_m2 5 rfl) rfl
theorem q598 : (Jvm.Cond.static ({ cls := "StarConsole$Kind", name := "values", desc := "()[LStarConsole$Kind;" } : Jvm.MethodName)) ∈ lw_all := lw_g (lw_at lw_m3 88 rfl) rfl
theorem q599 : (Jvm.Cond.code ({ cls := "StarConsole$Kind", name := "values", desc := "()[LStarConsole$Kind;" } : Jvm.MethodName) prog_6_method_1_code (0 : Nat) (Option.some (Jvm.ClassFile.FieldType.array (Jvm.ClassFile.FieldType.object "StarConsole$Kind")))) ∈ lw_all := lw_g (lw_at lw_m3 89 rfl) rfl
theorem q600 : (Jvm.Cond.fieldLink "StarConsole$Kind" (19 : Nat) "StarConsole$Kind" "$VALUES" "[LStarConsole$Kind;") ∈ lw_all := lw_g (lw_at lw_m3 90 rfl) rfl
theorem q601 : (Jvm.Cond.laysStatic "StarConsole$Kind" "$VALUES" "[LStarConsole$Kind;") ∈ lw_tbl := lw_at lw_m3 91 rfl
theorem q602 : (Jvm.Cond.methodLink "StarConsole$Kind" (23 : Nat) ({ cls := "[LStarConsole$Kind;", name := "clone", desc := "()Ljava/lang/Object;" } : Jvm.MethodName)) ∈ lw_all := lw_g (lw_at lw_m3 92 rfl) rfl
theorem q609 : (Jvm.Cond.classLink "StarConsole$Kind" (24 : Nat) "[LStarConsole$Kind;") ∈ lw_all := lw_g (lw_at lw_m3 99 rfl) rfl
theorem q611 : (Jvm.Cond.declares ({ cls := "StarConsole$Kind", name := "takes", desc := "(LStarConsole$Console;II)Z" } : Jvm.MethodName)) ∈ lw_tbl := lw_at lw_m3 101 rfl
theorem q612 : (Jvm.Cond.sameMethod "StarConsole$Kind" "StarConsole$Kind" "takes" "(LStarConsole$Console;II)Z") ∈ lw_all := lw_g (lw_at lw_m3 102 rfl) rfl
theorem q694 : (Jvm.Cond.declares ({ cls := "StarConsole$Kind", name := "run", desc := "(LStarConsole$Console;II)V" } : Jvm.MethodName)) ∈ lw_tbl := lw_at lw_m3 184 rfl
theorem q695 : (Jvm.Cond.sameMethod "StarConsole$Kind" "StarConsole$Kind" "run" "(LStarConsole$Console;II)V") ∈ lw_all := lw_g (lw_at lw_m3 185 rfl) rfl
theorem q800 : (Jvm.Cond.laysStatic "StarConsole$Kind" "HOLD" "LStarConsole$Kind;") ∈ lw_tbl := lw_at lw_m4 50 rfl
theorem q1046 : (Jvm.Cond.castable "StarConsole$Kind" "java/lang/Object") ∈ lw_tbl := lw_at lw_m5 56 rfl
theorem q1081 : (Jvm.Cond.laysStatic "StarConsole$Kind" "AIM" "LStarConsole$Kind;") ∈ lw_tbl := lw_at lw_m5 91 rfl
theorem q1082 : (Jvm.Cond.laysStatic "StarConsole$Kind" "TURN" "LStarConsole$Kind;") ∈ lw_tbl := lw_at lw_m5 92 rfl
theorem q1083 : (Jvm.Cond.laysStatic "StarConsole$Kind" "COMET" "LStarConsole$Kind;") ∈ lw_tbl := lw_at lw_m5 93 rfl
theorem q1084 : (Jvm.Cond.laysStatic "StarConsole$Kind" "LINE" "LStarConsole$Kind;") ∈ lw_tbl := lw_at lw_m5 94 rfl

/-! StarConsole$Cue -/
def RX7 : String := "StarConsole$Cue"
def TX7 : u_T := fun k => match k with
  | 0 => ("StarConsole$Cue", "time", "I", true)
  | 1 => ("StarConsole$Cue", "kind", "LStarConsole$Kind;", true)
  | 2 => ("StarConsole$Cue", "a", "I", true)
  | _ => ("StarConsole$Cue", "b", "I", true)
def tyX7 : Nat → FieldType := fun k => match k with
  | 0 => .int
  | 1 => .object "StarConsole$Kind"
  | 2 => .int
  | _ => .int
abbrev wsX70 : List Cond := u_ws RX7 TX7 4
theorem nmX7 : ∀ a, a < 4 → ∀ b, b < 4 → a ≠ b → (TX7 a).2.1 ≠ (TX7 b).2.1 := by decide +kernel
theorem tyX7_ok : ∀ k, k < 4 → parseFieldDescriptor (TX7 k).2.2.1 = some (tyX7 k) := by decide +kernel
abbrev cX7_time : ByteArray := prog_4_method_5_code
def yX7_time : MethodName := ⟨RX7, "time", "()I"⟩
theorem dX7_time_0 : decode cX7_time 0 = .ok (.aload_n 0, 1) := by decide +kernel
theorem dX7_time_1 : decode cX7_time 1 = .ok (.getfield 7, 3) := by decide +kernel
theorem dX7_time_4 : decode cX7_time 4 = .ok (.ireturn, 1) := by decide +kernel
abbrev cX7_kind : ByteArray := prog_4_method_6_code
def yX7_kind : MethodName := ⟨RX7, "kind", "()LStarConsole$Kind;"⟩
theorem dX7_kind_0 : decode cX7_kind 0 = .ok (.aload_n 0, 1) := by decide +kernel
theorem dX7_kind_1 : decode cX7_kind 1 = .ok (.getfield 13, 3) := by decide +kernel
theorem dX7_kind_4 : decode cX7_kind 4 = .ok (.areturn, 1) := by decide +kernel
abbrev cX7_a : ByteArray := prog_4_method_7_code
def yX7_a : MethodName := ⟨RX7, "a", "()I"⟩
theorem dX7_a_0 : decode cX7_a 0 = .ok (.aload_n 0, 1) := by decide +kernel
theorem dX7_a_1 : decode cX7_a 1 = .ok (.getfield 17, 3) := by decide +kernel
theorem dX7_a_4 : decode cX7_a 4 = .ok (.ireturn, 1) := by decide +kernel
abbrev cX7_b : ByteArray := prog_4_method_8_code
def yX7_b : MethodName := ⟨RX7, "b", "()I"⟩
theorem dX7_b_0 : decode cX7_b 0 = .ok (.aload_n 0, 1) := by decide +kernel
theorem dX7_b_1 : decode cX7_b 1 = .ok (.getfield 20, 3) := by decide +kernel
theorem dX7_b_4 : decode cX7_b 4 = .ok (.ireturn, 1) := by decide +kernel
abbrev cX7_init : ByteArray := prog_4_method_1_code
def yX7_init : MethodName := ⟨RX7, "<init>", "(ILStarConsole$Kind;II)V"⟩
def dkwX7_init_1 : List UInt8 := [181, 0, 20, 177]
abbrev dktX7_init_1 : List UInt8 := dkwX7_init_1 ++ []
def dkwX7_init_0 : List UInt8 := [42, 183, 0, 1, 42, 27, 181, 0, 7, 42, 44, 181, 0, 13, 42, 29, 181, 0, 17, 42, 21, 4]
abbrev dktX7_init_0 : List UInt8 := dkwX7_init_0 ++ dktX7_init_1
theorem dksX7_init_0 : cX7_init.data.toList.drop 0 = dktX7_init_0 := by decide +kernel
theorem dksX7_init_1 : cX7_init.data.toList.drop 22 = dktX7_init_1 := dk_seg dksX7_init_0 22 rfl rfl
theorem dX7_init_0 : decode cX7_init 0 = .ok (.aload_n 0, 1) := dk_42 (dk_at dksX7_init_0 0 rfl rfl)
theorem dX7_init_1 : decode cX7_init 1 = .ok (.invokespecial 1, 3) := dk_183 0 1 (dk_at dksX7_init_0 1 rfl rfl)
theorem dX7_init_4 : decode cX7_init 4 = .ok (.aload_n 0, 1) := dk_42 (dk_at dksX7_init_0 4 rfl rfl)
theorem dX7_init_5 : decode cX7_init 5 = .ok (.iload_n 1, 1) := dk_27 (dk_at dksX7_init_0 5 rfl rfl)
theorem dX7_init_6 : decode cX7_init 6 = .ok (.putfield 7, 3) := dk_181 0 7 (dk_at dksX7_init_0 6 rfl rfl)
theorem dX7_init_9 : decode cX7_init 9 = .ok (.aload_n 0, 1) := dk_42 (dk_at dksX7_init_0 9 rfl rfl)
theorem dX7_init_10 : decode cX7_init 10 = .ok (.aload_n 2, 1) := dk_44 (dk_at dksX7_init_0 10 rfl rfl)
theorem dX7_init_11 : decode cX7_init 11 = .ok (.putfield 13, 3) := dk_181 0 13 (dk_at dksX7_init_0 11 rfl rfl)
theorem dX7_init_14 : decode cX7_init 14 = .ok (.aload_n 0, 1) := dk_42 (dk_at dksX7_init_0 14 rfl rfl)
theorem dX7_init_15 : decode cX7_init 15 = .ok (.iload_n 3, 1) := dk_29 (dk_at dksX7_init_0 15 rfl rfl)
theorem dX7_init_16 : decode cX7_init 16 = .ok (.putfield 17, 3) := dk_181 0 17 (dk_at dksX7_init_0 16 rfl rfl)
theorem dX7_init_19 : decode cX7_init 19 = .ok (.aload_n 0, 1) := dk_42 (dk_at dksX7_init_0 19 rfl rfl)
theorem dX7_init_20 : decode cX7_init 20 = .ok (.iload 4, 2) := dk_21 4 (dk_at dksX7_init_0 20 rfl rfl)
theorem dX7_init_22 : decode cX7_init 22 = .ok (.putfield 20, 3) := dk_181 0 20 (dk_at dksX7_init_1 0 rfl rfl)
theorem dX7_init_25 : decode cX7_init 25 = .ok (.return_, 1) := dk_177 (dk_at dksX7_init_1 3 rfl rfl)
theorem q56 : (Jvm.Cond.initialized "StarConsole$Cue") ∈ lw_all := lw_g (lw_at lw_m1 26 rfl) rfl
theorem q181 : (Jvm.Cond.instanceMethod ({ cls := "StarConsole$Cue", name := "time", desc := "()I" } : Jvm.MethodName)) ∈ lw_all := lw_g (lw_at lw_m1 151 rfl) rfl
theorem q182 : (Jvm.Cond.selects "StarConsole$Cue" ({ cls := "StarConsole$Cue", name := "time", desc := "()I" } : Jvm.MethodName) ({ cls := "StarConsole$Cue", name := "time", desc := "()I" } : Jvm.MethodName)) ∈ lw_all := lw_g (lw_at lw_m1 152 rfl) rfl
theorem q183 : (Jvm.Cond.code ({ cls := "StarConsole$Cue", name := "time", desc := "()I" } : Jvm.MethodName) prog_4_method_5_code (1 : Nat) (Option.some Jvm.ClassFile.FieldType.int)) ∈ lw_all := lw_g (lw_at lw_m1 153 rfl) rfl
theorem q271 : (Jvm.Cond.instanceMethod ({ cls := "StarConsole$Cue", name := "kind", desc := "()LStarConsole$Kind;" } : Jvm.MethodName)) ∈ lw_all := lw_g (lw_at lw_m2 1 rfl) rfl
theorem q272 : (Jvm.Cond.selects "StarConsole$Cue" ({ cls := "StarConsole$Cue", name := "kind", desc := "()LStarConsole$Kind;" } : Jvm.MethodName) ({ cls := "StarConsole$Cue", name := "kind", desc := "()LStarConsole$Kind;" } : Jvm.MethodName)) ∈ lw_all := lw_g (lw_at lw_m2 2 rfl) rfl
theorem q273 : (Jvm.Cond.code ({ cls := "StarConsole$Cue", name := "kind", desc := "()LStarConsole$Kind;" } : Jvm.MethodName) prog_4_method_6_code (1 : Nat) (Option.some (Jvm.ClassFile.FieldType.object "StarConsole$Kind"))) ∈ lw_all := lw_g (lw_at lw_m2 3 rfl) rfl
theorem q285 : (Jvm.Cond.instanceMethod ({ cls := "StarConsole$Cue", name := "a", desc := "()I" } : Jvm.MethodName)) ∈ lw_all := lw_g (lw_at lw_m2 15 rfl) rfl
theorem q286 : (Jvm.Cond.selects "StarConsole$Cue" ({ cls := "StarConsole$Cue", name := "a", desc := "()I" } : Jvm.MethodName) ({ cls := "StarConsole$Cue", name := "a", desc := "()I" } : Jvm.MethodName)) ∈ lw_all := lw_g (lw_at lw_m2 16 rfl) rfl
theorem q287 : (Jvm.Cond.code ({ cls := "StarConsole$Cue", name := "a", desc := "()I" } : Jvm.MethodName) prog_4_method_7_code (1 : Nat) (Option.some Jvm.ClassFile.FieldType.int)) ∈ lw_all := lw_g (lw_at lw_m2 17 rfl) rfl
theorem q289 : (Jvm.Cond.instanceMethod ({ cls := "StarConsole$Cue", name := "b", desc := "()I" } : Jvm.MethodName)) ∈ lw_all := lw_g (lw_at lw_m2 19 rfl) rfl
theorem q290 : (Jvm.Cond.selects "StarConsole$Cue" ({ cls := "StarConsole$Cue", name := "b", desc := "()I" } : Jvm.MethodName) ({ cls := "StarConsole$Cue", name := "b", desc := "()I" } : Jvm.MethodName)) ∈ lw_all := lw_g (lw_at lw_m2 20 rfl) rfl
theorem q291 : (Jvm.Cond.code ({ cls := "StarConsole$Cue", name := "b", desc := "()I" } : Jvm.MethodName) prog_4_method_8_code (1 : Nat) (Option.some Jvm.ClassFile.FieldType.int)) ∈ lw_all := lw_g (lw_at lw_m2 21 rfl) rfl
theorem q455 : (Jvm.Cond.selects "StarConsole$Cue" ({ cls := "java/lang/Object", name := "getClass", desc := "()Ljava/lang/Class;" } : Jvm.MethodName) ({ cls := "java/lang/Object", name := "getClass", desc := "()Ljava/lang/Class;" } : Jvm.MethodName)) ∈ lw_all := lw_g (lw_at lw_m2 185 rfl) rfl
theorem q633 : (Jvm.Cond.instantiable "StarConsole$Cue" (4 : Nat)) ∈ lw_all := lw_g (lw_at lw_m3 123 rfl) rfl
theorem q635 : (Jvm.Cond.instanceMethod ({ cls := "StarConsole$Cue", name := "<init>", desc := "(ILStarConsole$Kind;II)V" } : Jvm.MethodName)) ∈ lw_all := lw_g (lw_at lw_m3 125 rfl) rfl
theorem q636 : (Jvm.Cond.code ({ cls := "StarConsole$Cue", name := "<init>", desc := "(ILStarConsole$Kind;II)V" } : Jvm.MethodName) prog_4_method_1_code (5 : Nat) (Option.none : Option Jvm.ClassFile.FieldType)) ∈ lw_all := lw_g (lw_at lw_m3 126 rfl) rfl
theorem q637 : (Jvm.Cond.methodLink "StarConsole$Cue" (1 : Nat) ({ cls := "java/lang/Record", name := "<init>", desc := "()V" } : Jvm.MethodName)) ∈ lw_all := lw_g (lw_at lw_m3 127 rfl) rfl
theorem q638 : (Jvm.Cond.fieldLink "StarConsole$Cue" (7 : Nat) "StarConsole$Cue" "time" "I") ∈ lw_all := lw_g (lw_at lw_m3 128 rfl) rfl
theorem q639 : (Jvm.Cond.fieldLink "StarConsole$Cue" (13 : Nat) "StarConsole$Cue" "kind" "LStarConsole$Kind;") ∈ lw_all := lw_g (lw_at lw_m3 129 rfl) rfl
theorem q640 : (Jvm.Cond.fieldLink "StarConsole$Cue" (17 : Nat) "StarConsole$Cue" "a" "I") ∈ lw_all := lw_g (lw_at lw_m3 130 rfl) rfl
theorem q641 : (Jvm.Cond.fieldLink "StarConsole$Cue" (20 : Nat) "StarConsole$Cue" "b" "I") ∈ lw_all := lw_g (lw_at lw_m3 131 rfl) rfl
theorem q642 : (Jvm.Cond.laysFinal "StarConsole$Cue" "StarConsole$Cue" "time" "I") ∈ lw_all := lw_g (lw_at lw_m3 132 rfl) rfl
theorem q643 : (Jvm.Cond.soleField "StarConsole$Cue" "time") ∈ lw_all := lw_g (lw_at lw_m3 133 rfl) rfl
theorem q644 : (Jvm.Cond.laysFinal "StarConsole$Cue" "StarConsole$Cue" "kind" "LStarConsole$Kind;") ∈ lw_all := lw_g (lw_at lw_m3 134 rfl) rfl
theorem q645 : (Jvm.Cond.soleField "StarConsole$Cue" "kind") ∈ lw_all := lw_g (lw_at lw_m3 135 rfl) rfl
theorem q646 : (Jvm.Cond.laysFinal "StarConsole$Cue" "StarConsole$Cue" "a" "I") ∈ lw_all := lw_g (lw_at lw_m3 136 rfl) rfl
theorem q647 : (Jvm.Cond.soleField "StarConsole$Cue" "a") ∈ lw_all := lw_g (lw_at lw_m3 137 rfl) rfl
theorem q648 : (Jvm.Cond.laysFinal "StarConsole$Cue" "StarConsole$Cue" "b" "I") ∈ lw_all := lw_g (lw_at lw_m3 138 rfl) rfl
theorem q649 : (Jvm.Cond.soleField "StarConsole$Cue" "b") ∈ lw_all := lw_g (lw_at lw_m3 139 rfl) rfl
theorem q650 : (Jvm.Cond.superclass "StarConsole$Cue" "java/lang/Record") ∈ lw_all := lw_g (lw_at lw_m3 140 rfl) rfl
theorem q1062 : (Jvm.Cond.castable "StarConsole$Cue" "java/lang/Object") ∈ lw_tbl := lw_at lw_m5 72 rfl
theorem in_X7 : ∀ w ∈ wsX70, w ∈ lw_all := lw_in wsX70 [642, 644, 646, 648] (by decide +kernel) (by decide +kernel)

/-! StarConsole$Comet -/
def RX8 : String := "StarConsole$Comet"
def TX8 : u_T := fun k => match k with
  | 0 => ("StarConsole$Comet", "speed", "I", true)
  | 1 => ("StarConsole$Comet", "angle", "I", false)
  | _ => ("StarConsole$Comet", "left", "I", false)
def tyX8 : Nat → FieldType := fun k => match k with
  | 0 => .int
  | 1 => .int
  | _ => .int
abbrev wsX80 : List Cond := u_ws RX8 TX8 3
theorem nmX8 : ∀ a, a < 3 → ∀ b, b < 3 → a ≠ b → (TX8 a).2.1 ≠ (TX8 b).2.1 := by decide +kernel
theorem tyX8_ok : ∀ k, k < 3 → parseFieldDescriptor (TX8 k).2.2.1 = some (tyX8 k) := by decide +kernel
abbrev cX8_isGone : ByteArray := prog_2_method_3_code
def yX8_isGone : MethodName := ⟨RX8, "isGone", "()Z"⟩
def dkwX8_isGone_0 : List UInt8 := [42, 180, 0, 9, 154, 0, 7, 4, 167, 0, 4, 3, 172]
abbrev dktX8_isGone_0 : List UInt8 := dkwX8_isGone_0 ++ []
theorem dksX8_isGone_0 : cX8_isGone.data.toList.drop 0 = dktX8_isGone_0 := by decide +kernel
theorem dX8_isGone_0 : decode cX8_isGone 0 = .ok (.aload_n 0, 1) := dk_42 (dk_at dksX8_isGone_0 0 rfl rfl)
theorem dX8_isGone_1 : decode cX8_isGone 1 = .ok (.getfield 9, 3) := dk_180 0 9 (dk_at dksX8_isGone_0 1 rfl rfl)
theorem dX8_isGone_4 : decode cX8_isGone 4 = .ok (.ifCond .ne 7, 3) := dk_154 0 7 (dk_at dksX8_isGone_0 4 rfl rfl)
theorem dX8_isGone_7 : decode cX8_isGone 7 = .ok (.iconst 1, 1) := dk_4 (dk_at dksX8_isGone_0 7 rfl rfl)
theorem dX8_isGone_8 : decode cX8_isGone 8 = .ok (.goto 4, 3) := dk_167 0 4 (dk_at dksX8_isGone_0 8 rfl rfl)
theorem dX8_isGone_11 : decode cX8_isGone 11 = .ok (.iconst 0, 1) := dk_3 (dk_at dksX8_isGone_0 11 rfl rfl)
theorem dX8_isGone_12 : decode cX8_isGone 12 = .ok (.ireturn, 1) := dk_172 (dk_at dksX8_isGone_0 12 rfl rfl)
abbrev cX8_init : ByteArray := prog_2_method_1_code
def yX8_init : MethodName := ⟨RX8, "<init>", "(II)V"⟩
def dkwX8_init_0 : List UInt8 := [42, 183, 0, 3, 42, 16, 20, 181, 0, 9, 42, 27, 181, 0, 15, 42, 28, 181, 0, 18, 177]
abbrev dktX8_init_0 : List UInt8 := dkwX8_init_0 ++ []
theorem dksX8_init_0 : cX8_init.data.toList.drop 0 = dktX8_init_0 := by decide +kernel
theorem dX8_init_0 : decode cX8_init 0 = .ok (.aload_n 0, 1) := dk_42 (dk_at dksX8_init_0 0 rfl rfl)
theorem dX8_init_1 : decode cX8_init 1 = .ok (.invokespecial 3, 3) := dk_183 0 3 (dk_at dksX8_init_0 1 rfl rfl)
theorem dX8_init_4 : decode cX8_init 4 = .ok (.aload_n 0, 1) := dk_42 (dk_at dksX8_init_0 4 rfl rfl)
theorem dX8_init_5 : decode cX8_init 5 = .ok (.bipush 20, 2) := dk_16 20 (dk_at dksX8_init_0 5 rfl rfl)
theorem dX8_init_7 : decode cX8_init 7 = .ok (.putfield 9, 3) := dk_181 0 9 (dk_at dksX8_init_0 7 rfl rfl)
theorem dX8_init_10 : decode cX8_init 10 = .ok (.aload_n 0, 1) := dk_42 (dk_at dksX8_init_0 10 rfl rfl)
theorem dX8_init_11 : decode cX8_init 11 = .ok (.iload_n 1, 1) := dk_27 (dk_at dksX8_init_0 11 rfl rfl)
theorem dX8_init_12 : decode cX8_init 12 = .ok (.putfield 15, 3) := dk_181 0 15 (dk_at dksX8_init_0 12 rfl rfl)
theorem dX8_init_15 : decode cX8_init 15 = .ok (.aload_n 0, 1) := dk_42 (dk_at dksX8_init_0 15 rfl rfl)
theorem dX8_init_16 : decode cX8_init 16 = .ok (.iload_n 2, 1) := dk_28 (dk_at dksX8_init_0 16 rfl rfl)
theorem dX8_init_17 : decode cX8_init 17 = .ok (.putfield 18, 3) := dk_181 0 18 (dk_at dksX8_init_0 17 rfl rfl)
theorem dX8_init_20 : decode cX8_init 20 = .ok (.return_, 1) := dk_177 (dk_at dksX8_init_0 20 rfl rfl)
abbrev cX8_pass : ByteArray := prog_2_method_4_code
def yX8_pass : MethodName := ⟨RX8, "pass", "()V"⟩
def dkwX8_pass_1 : List UInt8 := [42, 89, 180, 0, 9, 4, 100, 181, 0, 9, 177]
abbrev dktX8_pass_1 : List UInt8 := dkwX8_pass_1 ++ []
def dkwX8_pass_0 : List UInt8 := [42, 182, 0, 24, 153, 0, 4, 177, 42, 42, 180, 0, 15, 42, 180, 0, 18, 96, 184, 0, 28, 181, 0, 15]
abbrev dktX8_pass_0 : List UInt8 := dkwX8_pass_0 ++ dktX8_pass_1
theorem dksX8_pass_0 : cX8_pass.data.toList.drop 0 = dktX8_pass_0 := by decide +kernel
theorem dksX8_pass_1 : cX8_pass.data.toList.drop 24 = dktX8_pass_1 := dk_seg dksX8_pass_0 24 rfl rfl
theorem dX8_pass_0 : decode cX8_pass 0 = .ok (.aload_n 0, 1) := dk_42 (dk_at dksX8_pass_0 0 rfl rfl)
theorem dX8_pass_1 : decode cX8_pass 1 = .ok (.invokevirtual 24, 3) := dk_182 0 24 (dk_at dksX8_pass_0 1 rfl rfl)
theorem dX8_pass_4 : decode cX8_pass 4 = .ok (.ifCond .eq 4, 3) := dk_153 0 4 (dk_at dksX8_pass_0 4 rfl rfl)
theorem dX8_pass_7 : decode cX8_pass 7 = .ok (.return_, 1) := dk_177 (dk_at dksX8_pass_0 7 rfl rfl)
theorem dX8_pass_8 : decode cX8_pass 8 = .ok (.aload_n 0, 1) := dk_42 (dk_at dksX8_pass_0 8 rfl rfl)
theorem dX8_pass_9 : decode cX8_pass 9 = .ok (.aload_n 0, 1) := dk_42 (dk_at dksX8_pass_0 9 rfl rfl)
theorem dX8_pass_10 : decode cX8_pass 10 = .ok (.getfield 15, 3) := dk_180 0 15 (dk_at dksX8_pass_0 10 rfl rfl)
theorem dX8_pass_13 : decode cX8_pass 13 = .ok (.aload_n 0, 1) := dk_42 (dk_at dksX8_pass_0 13 rfl rfl)
theorem dX8_pass_14 : decode cX8_pass 14 = .ok (.getfield 18, 3) := dk_180 0 18 (dk_at dksX8_pass_0 14 rfl rfl)
theorem dX8_pass_17 : decode cX8_pass 17 = .ok (.iadd, 1) := dk_96 (dk_at dksX8_pass_0 17 rfl rfl)
theorem dX8_pass_18 : decode cX8_pass 18 = .ok (.invokestatic 28, 3) := dk_184 0 28 (dk_at dksX8_pass_0 18 rfl rfl)
theorem dX8_pass_21 : decode cX8_pass 21 = .ok (.putfield 15, 3) := dk_181 0 15 (dk_at dksX8_pass_0 21 rfl rfl)
theorem dX8_pass_24 : decode cX8_pass 24 = .ok (.aload_n 0, 1) := dk_42 (dk_at dksX8_pass_1 0 rfl rfl)
theorem dX8_pass_25 : decode cX8_pass 25 = .ok (.dup, 1) := dk_89 (dk_at dksX8_pass_1 1 rfl rfl)
theorem dX8_pass_26 : decode cX8_pass 26 = .ok (.getfield 9, 3) := dk_180 0 9 (dk_at dksX8_pass_1 2 rfl rfl)
theorem dX8_pass_29 : decode cX8_pass 29 = .ok (.iconst 1, 1) := dk_4 (dk_at dksX8_pass_1 5 rfl rfl)
theorem dX8_pass_30 : decode cX8_pass 30 = .ok (.isub, 1) := dk_100 (dk_at dksX8_pass_1 6 rfl rfl)
theorem dX8_pass_31 : decode cX8_pass 31 = .ok (.putfield 9, 3) := dk_181 0 9 (dk_at dksX8_pass_1 7 rfl rfl)
theorem dX8_pass_34 : decode cX8_pass 34 = .ok (.return_, 1) := dk_177 (dk_at dksX8_pass_1 10 rfl rfl)
abbrev cX8_copy : ByteArray := prog_2_method_2_code
def yX8_copy : MethodName := ⟨RX8, "copy", "()LStarConsole$Comet;"⟩
def dkwX8_copy_1 : List UInt8 := [43, 176]
abbrev dktX8_copy_1 : List UInt8 := dkwX8_copy_1 ++ []
def dkwX8_copy_0 : List UInt8 := [187, 0, 10, 89, 42, 180, 0, 15, 42, 180, 0, 18, 183, 0, 21, 76, 43, 42, 180, 0, 9, 181, 0, 9]
abbrev dktX8_copy_0 : List UInt8 := dkwX8_copy_0 ++ dktX8_copy_1
theorem dksX8_copy_0 : cX8_copy.data.toList.drop 0 = dktX8_copy_0 := by decide +kernel
theorem dksX8_copy_1 : cX8_copy.data.toList.drop 24 = dktX8_copy_1 := dk_seg dksX8_copy_0 24 rfl rfl
theorem dX8_copy_0 : decode cX8_copy 0 = .ok (.new 10, 3) := dk_187 0 10 (dk_at dksX8_copy_0 0 rfl rfl)
theorem dX8_copy_3 : decode cX8_copy 3 = .ok (.dup, 1) := dk_89 (dk_at dksX8_copy_0 3 rfl rfl)
theorem dX8_copy_4 : decode cX8_copy 4 = .ok (.aload_n 0, 1) := dk_42 (dk_at dksX8_copy_0 4 rfl rfl)
theorem dX8_copy_5 : decode cX8_copy 5 = .ok (.getfield 15, 3) := dk_180 0 15 (dk_at dksX8_copy_0 5 rfl rfl)
theorem dX8_copy_8 : decode cX8_copy 8 = .ok (.aload_n 0, 1) := dk_42 (dk_at dksX8_copy_0 8 rfl rfl)
theorem dX8_copy_9 : decode cX8_copy 9 = .ok (.getfield 18, 3) := dk_180 0 18 (dk_at dksX8_copy_0 9 rfl rfl)
theorem dX8_copy_12 : decode cX8_copy 12 = .ok (.invokespecial 21, 3) := dk_183 0 21 (dk_at dksX8_copy_0 12 rfl rfl)
theorem dX8_copy_15 : decode cX8_copy 15 = .ok (.astore_n 1, 1) := dk_76 (dk_at dksX8_copy_0 15 rfl rfl)
theorem dX8_copy_16 : decode cX8_copy 16 = .ok (.aload_n 1, 1) := dk_43 (dk_at dksX8_copy_0 16 rfl rfl)
theorem dX8_copy_17 : decode cX8_copy 17 = .ok (.aload_n 0, 1) := dk_42 (dk_at dksX8_copy_0 17 rfl rfl)
theorem dX8_copy_18 : decode cX8_copy 18 = .ok (.getfield 9, 3) := dk_180 0 9 (dk_at dksX8_copy_0 18 rfl rfl)
theorem dX8_copy_21 : decode cX8_copy 21 = .ok (.putfield 9, 3) := dk_181 0 9 (dk_at dksX8_copy_0 21 rfl rfl)
theorem dX8_copy_24 : decode cX8_copy 24 = .ok (.aload_n 1, 1) := dk_43 (dk_at dksX8_copy_1 0 rfl rfl)
theorem dX8_copy_25 : decode cX8_copy 25 = .ok (.areturn, 1) := dk_176 (dk_at dksX8_copy_1 1 rfl rfl)
theorem q57 : (Jvm.Cond.initialized "StarConsole$Comet") ∈ lw_all := lw_g (lw_at lw_m1 27 rfl) rfl
theorem q252 : (Jvm.Cond.instanceMethod ({ cls := "StarConsole$Comet", name := "isGone", desc := "()Z" } : Jvm.MethodName)) ∈ lw_all := lw_g (lw_at lw_m1 222 rfl) rfl
theorem q253 : (Jvm.Cond.selects "StarConsole$Comet" ({ cls := "StarConsole$Comet", name := "isGone", desc := "()Z" } : Jvm.MethodName) ({ cls := "StarConsole$Comet", name := "isGone", desc := "()Z" } : Jvm.MethodName)) ∈ lw_all := lw_g (lw_at lw_m1 223 rfl) rfl
theorem q254 : (Jvm.Cond.code ({ cls := "StarConsole$Comet", name := "isGone", desc := "()Z" } : Jvm.MethodName) prog_2_method_3_code (1 : Nat) (Option.some Jvm.ClassFile.FieldType.boolean)) ∈ lw_all := lw_g (lw_at lw_m1 224 rfl) rfl
theorem q453 : (Jvm.Cond.selects "StarConsole$Comet" ({ cls := "java/lang/Object", name := "getClass", desc := "()Ljava/lang/Class;" } : Jvm.MethodName) ({ cls := "java/lang/Object", name := "getClass", desc := "()Ljava/lang/Class;" } : Jvm.MethodName)) ∈ lw_all := lw_g (lw_at lw_m2 183 rfl) rfl
theorem q709 : (Jvm.Cond.instantiable "StarConsole$Comet" (3 : Nat)) ∈ lw_all := lw_g (lw_at lw_m3 199 rfl) rfl
theorem q711 : (Jvm.Cond.instanceMethod ({ cls := "StarConsole$Comet", name := "<init>", desc := "(II)V" } : Jvm.MethodName)) ∈ lw_all := lw_g (lw_at lw_m3 201 rfl) rfl
theorem q712 : (Jvm.Cond.code ({ cls := "StarConsole$Comet", name := "<init>", desc := "(II)V" } : Jvm.MethodName) prog_2_method_1_code (3 : Nat) (Option.none : Option Jvm.ClassFile.FieldType)) ∈ lw_all := lw_g (lw_at lw_m3 202 rfl) rfl
theorem q713 : (Jvm.Cond.methodLink "StarConsole$Comet" (3 : Nat) ({ cls := "java/lang/Object", name := "<init>", desc := "()V" } : Jvm.MethodName)) ∈ lw_all := lw_g (lw_at lw_m3 203 rfl) rfl
theorem q714 : (Jvm.Cond.fieldLink "StarConsole$Comet" (18 : Nat) "StarConsole$Comet" "speed" "I") ∈ lw_all := lw_g (lw_at lw_m3 204 rfl) rfl
theorem q716 : (Jvm.Cond.fieldLink "StarConsole$Comet" (15 : Nat) "StarConsole$Comet" "angle" "I") ∈ lw_all := lw_g (lw_at lw_m3 206 rfl) rfl
theorem q719 : (Jvm.Cond.fieldLink "StarConsole$Comet" (9 : Nat) "StarConsole$Comet" "left" "I") ∈ lw_all := lw_g (lw_at lw_m3 209 rfl) rfl
theorem q721 : (Jvm.Cond.laysFinal "StarConsole$Comet" "StarConsole$Comet" "speed" "I") ∈ lw_all := lw_g (lw_at lw_m3 211 rfl) rfl
theorem q722 : (Jvm.Cond.soleField "StarConsole$Comet" "speed") ∈ lw_all := lw_g (lw_at lw_m3 212 rfl) rfl
theorem q723 : (Jvm.Cond.lays "StarConsole$Comet" "StarConsole$Comet" "angle" "I") ∈ lw_all := lw_g (lw_at lw_m3 213 rfl) rfl
theorem q724 : (Jvm.Cond.soleField "StarConsole$Comet" "angle") ∈ lw_all := lw_g (lw_at lw_m3 214 rfl) rfl
theorem q725 : (Jvm.Cond.lays "StarConsole$Comet" "StarConsole$Comet" "left" "I") ∈ lw_all := lw_g (lw_at lw_m3 215 rfl) rfl
theorem q726 : (Jvm.Cond.soleField "StarConsole$Comet" "left") ∈ lw_all := lw_g (lw_at lw_m3 216 rfl) rfl
theorem q727 : (Jvm.Cond.superclass "StarConsole$Comet" "java/lang/Object") ∈ lw_all := lw_g (lw_at lw_m3 217 rfl) rfl
theorem q743 : (Jvm.Cond.instanceMethod ({ cls := "StarConsole$Comet", name := "pass", desc := "()V" } : Jvm.MethodName)) ∈ lw_all := lw_g (lw_at lw_m3 233 rfl) rfl
theorem q744 : (Jvm.Cond.selects "StarConsole$Comet" ({ cls := "StarConsole$Comet", name := "pass", desc := "()V" } : Jvm.MethodName) ({ cls := "StarConsole$Comet", name := "pass", desc := "()V" } : Jvm.MethodName)) ∈ lw_all := lw_g (lw_at lw_m3 234 rfl) rfl
theorem q745 : (Jvm.Cond.code ({ cls := "StarConsole$Comet", name := "pass", desc := "()V" } : Jvm.MethodName) prog_2_method_4_code (1 : Nat) (Option.none : Option Jvm.ClassFile.FieldType)) ∈ lw_all := lw_g (lw_at lw_m3 235 rfl) rfl
theorem q746 : (Jvm.Cond.methodLink "StarConsole$Comet" (24 : Nat) ({ cls := "StarConsole$Comet", name := "isGone", desc := "()Z" } : Jvm.MethodName)) ∈ lw_all := lw_g (lw_at lw_m3 236 rfl) rfl
theorem q747 : (Jvm.Cond.methodLinkNest "StarConsole$Comet" (28 : Nat) ({ cls := "StarConsole", name := "round", desc := "(I)I" } : Jvm.MethodName) "StarConsole") ∈ lw_tbl := lw_at lw_m3 237 rfl
theorem q822 : (Jvm.Cond.instanceMethod ({ cls := "StarConsole$Comet", name := "copy", desc := "()LStarConsole$Comet;" } : Jvm.MethodName)) ∈ lw_all := lw_g (lw_at lw_m4 72 rfl) rfl
theorem q823 : (Jvm.Cond.selects "StarConsole$Comet" ({ cls := "StarConsole$Comet", name := "copy", desc := "()LStarConsole$Comet;" } : Jvm.MethodName) ({ cls := "StarConsole$Comet", name := "copy", desc := "()LStarConsole$Comet;" } : Jvm.MethodName)) ∈ lw_all := lw_g (lw_at lw_m4 73 rfl) rfl
theorem q824 : (Jvm.Cond.code ({ cls := "StarConsole$Comet", name := "copy", desc := "()LStarConsole$Comet;" } : Jvm.MethodName) prog_2_method_2_code (2 : Nat) (Option.some (Jvm.ClassFile.FieldType.object "StarConsole$Comet"))) ∈ lw_all := lw_g (lw_at lw_m4 74 rfl) rfl
theorem q825 : (Jvm.Cond.classLink "StarConsole$Comet" (10 : Nat) "StarConsole$Comet") ∈ lw_all := lw_g (lw_at lw_m4 75 rfl) rfl
theorem q826 : (Jvm.Cond.methodLink "StarConsole$Comet" (21 : Nat) ({ cls := "StarConsole$Comet", name := "<init>", desc := "(II)V" } : Jvm.MethodName)) ∈ lw_all := lw_g (lw_at lw_m4 76 rfl) rfl
theorem q1063 : (Jvm.Cond.castable "StarConsole$Comet" "java/lang/Object") ∈ lw_tbl := lw_at lw_m5 73 rfl
theorem in_X8 : ∀ w ∈ wsX80, w ∈ lw_all := lw_in wsX80 [721, 723, 725] (by decide +kernel) (by decide +kernel)

/-! StarConsole$Kind$5 -/
def RX9 : String := "StarConsole$Kind$5"
abbrev cX9_takes : ByteArray := prog_11_method_2_code
def yX9_takes : MethodName := ⟨RX9, "takes", "(LStarConsole$Console;II)Z"⟩
def dkwX9_takes_0 : List UInt8 := [28, 154, 0, 11, 29, 154, 0, 7, 4, 167, 0, 4, 3, 172]
abbrev dktX9_takes_0 : List UInt8 := dkwX9_takes_0 ++ []
theorem dksX9_takes_0 : cX9_takes.data.toList.drop 0 = dktX9_takes_0 := by decide +kernel
theorem dX9_takes_0 : decode cX9_takes 0 = .ok (.iload_n 2, 1) := dk_28 (dk_at dksX9_takes_0 0 rfl rfl)
theorem dX9_takes_1 : decode cX9_takes 1 = .ok (.ifCond .ne 11, 3) := dk_154 0 11 (dk_at dksX9_takes_0 1 rfl rfl)
theorem dX9_takes_4 : decode cX9_takes 4 = .ok (.iload_n 3, 1) := dk_29 (dk_at dksX9_takes_0 4 rfl rfl)
theorem dX9_takes_5 : decode cX9_takes 5 = .ok (.ifCond .ne 7, 3) := dk_154 0 7 (dk_at dksX9_takes_0 5 rfl rfl)
theorem dX9_takes_8 : decode cX9_takes 8 = .ok (.iconst 1, 1) := dk_4 (dk_at dksX9_takes_0 8 rfl rfl)
theorem dX9_takes_9 : decode cX9_takes 9 = .ok (.goto 4, 3) := dk_167 0 4 (dk_at dksX9_takes_0 9 rfl rfl)
theorem dX9_takes_12 : decode cX9_takes 12 = .ok (.iconst 0, 1) := dk_3 (dk_at dksX9_takes_0 12 rfl rfl)
theorem dX9_takes_13 : decode cX9_takes 13 = .ok (.ireturn, 1) := dk_172 (dk_at dksX9_takes_0 13 rfl rfl)
abbrev cX9_run : ByteArray := prog_11_method_3_code
def yX9_run : MethodName := ⟨RX9, "run", "(LStarConsole$Console;II)V"⟩
def dkwX9_run_0 : List UInt8 := [43, 3, 181, 0, 7, 177]
abbrev dktX9_run_0 : List UInt8 := dkwX9_run_0 ++ []
theorem dksX9_run_0 : cX9_run.data.toList.drop 0 = dktX9_run_0 := by decide +kernel
theorem dX9_run_0 : decode cX9_run 0 = .ok (.aload_n 1, 1) := dk_43 (dk_at dksX9_run_0 0 rfl rfl)
theorem dX9_run_1 : decode cX9_run 1 = .ok (.iconst 0, 1) := dk_3 (dk_at dksX9_run_0 1 rfl rfl)
theorem dX9_run_2 : decode cX9_run 2 = .ok (.putfield 7, 3) := dk_181 0 7 (dk_at dksX9_run_0 2 rfl rfl)
theorem dX9_run_5 : decode cX9_run 5 = .ok (.return_, 1) := dk_177 (dk_at dksX9_run_0 5 rfl rfl)
theorem q105 : (Jvm.Cond.fieldLinkNest "StarConsole$Kind$5" (7 : Nat) "StarConsole$Console" "runs" "Z" "StarConsole") ∈ lw_tbl := lw_at lw_m1 75 rfl
theorem q281 : (Jvm.Cond.selects "StarConsole$Kind$5" ({ cls := "StarConsole$Kind", name := "ordinal", desc := "()I" } : Jvm.MethodName) ({ cls := "java/lang/Enum", name := "ordinal", desc := "()I" } : Jvm.MethodName)) ∈ lw_all := lw_g (lw_at lw_m2 11 rfl) rfl
theorem q461 : (Jvm.Cond.selects "StarConsole$Kind$5" ({ cls := "java/lang/Object", name := "getClass", desc := "()Ljava/lang/Class;" } : Jvm.MethodName) ({ cls := "java/lang/Object", name := "getClass", desc := "()Ljava/lang/Class;" } : Jvm.MethodName)) ∈ lw_all := lw_g (lw_at lw_m2 191 rfl) rfl
theorem q630 : (Jvm.Cond.selects "StarConsole$Kind$5" ({ cls := "StarConsole$Kind", name := "takes", desc := "(LStarConsole$Console;II)Z" } : Jvm.MethodName) ({ cls := "StarConsole$Kind$5", name := "takes", desc := "(LStarConsole$Console;II)Z" } : Jvm.MethodName)) ∈ lw_all := lw_g (lw_at lw_m3 120 rfl) rfl
theorem q631 : (Jvm.Cond.instanceMethod ({ cls := "StarConsole$Kind$5", name := "takes", desc := "(LStarConsole$Console;II)Z" } : Jvm.MethodName)) ∈ lw_all := lw_g (lw_at lw_m3 121 rfl) rfl
theorem q632 : (Jvm.Cond.code ({ cls := "StarConsole$Kind$5", name := "takes", desc := "(LStarConsole$Console;II)Z" } : Jvm.MethodName) prog_11_method_2_code (4 : Nat) (Option.some Jvm.ClassFile.FieldType.boolean)) ∈ lw_all := lw_g (lw_at lw_m3 122 rfl) rfl
theorem q732 : (Jvm.Cond.selects "StarConsole$Kind$5" ({ cls := "StarConsole$Kind", name := "run", desc := "(LStarConsole$Console;II)V" } : Jvm.MethodName) ({ cls := "StarConsole$Kind$5", name := "run", desc := "(LStarConsole$Console;II)V" } : Jvm.MethodName)) ∈ lw_all := lw_g (lw_at lw_m3 222 rfl) rfl
theorem q733 : (Jvm.Cond.instanceMethod ({ cls := "StarConsole$Kind$5", name := "run", desc := "(LStarConsole$Console;II)V" } : Jvm.MethodName)) ∈ lw_all := lw_g (lw_at lw_m3 223 rfl) rfl
theorem q734 : (Jvm.Cond.code ({ cls := "StarConsole$Kind$5", name := "run", desc := "(LStarConsole$Console;II)V" } : Jvm.MethodName) prog_11_method_3_code (4 : Nat) (Option.none : Option Jvm.ClassFile.FieldType)) ∈ lw_all := lw_g (lw_at lw_m3 224 rfl) rfl
theorem q1061 : (Jvm.Cond.castable "StarConsole$Kind$5" "java/lang/Object") ∈ lw_tbl := lw_at lw_m5 71 rfl
theorem q1070 : (Jvm.Cond.castable "StarConsole$Kind$5" "StarConsole$Kind") ∈ lw_tbl := lw_at lw_m5 80 rfl

/-! StarConsole$Kind$2 -/
def RX10 : String := "StarConsole$Kind$2"
abbrev cX10_takes : ByteArray := prog_8_method_2_code
def yX10_takes : MethodName := ⟨RX10, "takes", "(LStarConsole$Console;II)Z"⟩
def dkwX10_takes_0 : List UInt8 := [28, 154, 0, 18, 29, 16, 226, 16, 30, 184, 0, 9, 153, 0, 7, 4, 167, 0, 4, 3, 172]
abbrev dktX10_takes_0 : List UInt8 := dkwX10_takes_0 ++ []
theorem dksX10_takes_0 : cX10_takes.data.toList.drop 0 = dktX10_takes_0 := by decide +kernel
theorem dX10_takes_0 : decode cX10_takes 0 = .ok (.iload_n 2, 1) := dk_28 (dk_at dksX10_takes_0 0 rfl rfl)
theorem dX10_takes_1 : decode cX10_takes 1 = .ok (.ifCond .ne 18, 3) := dk_154 0 18 (dk_at dksX10_takes_0 1 rfl rfl)
theorem dX10_takes_4 : decode cX10_takes 4 = .ok (.iload_n 3, 1) := dk_29 (dk_at dksX10_takes_0 4 rfl rfl)
theorem dX10_takes_5 : decode cX10_takes 5 = .ok (.bipush (-30), 2) := dk_16 226 (dk_at dksX10_takes_0 5 rfl rfl)
theorem dX10_takes_7 : decode cX10_takes 7 = .ok (.bipush 30, 2) := dk_16 30 (dk_at dksX10_takes_0 7 rfl rfl)
theorem dX10_takes_9 : decode cX10_takes 9 = .ok (.invokestatic 9, 3) := dk_184 0 9 (dk_at dksX10_takes_0 9 rfl rfl)
theorem dX10_takes_12 : decode cX10_takes 12 = .ok (.ifCond .eq 7, 3) := dk_153 0 7 (dk_at dksX10_takes_0 12 rfl rfl)
theorem dX10_takes_15 : decode cX10_takes 15 = .ok (.iconst 1, 1) := dk_4 (dk_at dksX10_takes_0 15 rfl rfl)
theorem dX10_takes_16 : decode cX10_takes 16 = .ok (.goto 4, 3) := dk_167 0 4 (dk_at dksX10_takes_0 16 rfl rfl)
theorem dX10_takes_19 : decode cX10_takes 19 = .ok (.iconst 0, 1) := dk_3 (dk_at dksX10_takes_0 19 rfl rfl)
theorem dX10_takes_20 : decode cX10_takes 20 = .ok (.ireturn, 1) := dk_172 (dk_at dksX10_takes_0 20 rfl rfl)
abbrev cX10_run : ByteArray := prog_8_method_3_code
def yX10_run : MethodName := ⟨RX10, "run", "(LStarConsole$Console;II)V"⟩
def dkwX10_run_0 : List UInt8 := [43, 29, 181, 0, 13, 177]
abbrev dktX10_run_0 : List UInt8 := dkwX10_run_0 ++ []
theorem dksX10_run_0 : cX10_run.data.toList.drop 0 = dktX10_run_0 := by decide +kernel
theorem dX10_run_0 : decode cX10_run 0 = .ok (.aload_n 1, 1) := dk_43 (dk_at dksX10_run_0 0 rfl rfl)
theorem dX10_run_1 : decode cX10_run 1 = .ok (.iload_n 3, 1) := dk_29 (dk_at dksX10_run_0 1 rfl rfl)
theorem dX10_run_2 : decode cX10_run 2 = .ok (.putfield 13, 3) := dk_181 0 13 (dk_at dksX10_run_0 2 rfl rfl)
theorem dX10_run_5 : decode cX10_run 5 = .ok (.return_, 1) := dk_177 (dk_at dksX10_run_0 5 rfl rfl)
theorem q110 : (Jvm.Cond.fieldLinkNest "StarConsole$Kind$2" (13 : Nat) "StarConsole$Console" "speed" "I" "StarConsole") ∈ lw_tbl := lw_at lw_m1 80 rfl
theorem q278 : (Jvm.Cond.selects "StarConsole$Kind$2" ({ cls := "StarConsole$Kind", name := "ordinal", desc := "()I" } : Jvm.MethodName) ({ cls := "java/lang/Enum", name := "ordinal", desc := "()I" } : Jvm.MethodName)) ∈ lw_all := lw_g (lw_at lw_m2 8 rfl) rfl
theorem q458 : (Jvm.Cond.selects "StarConsole$Kind$2" ({ cls := "java/lang/Object", name := "getClass", desc := "()Ljava/lang/Class;" } : Jvm.MethodName) ({ cls := "java/lang/Object", name := "getClass", desc := "()Ljava/lang/Class;" } : Jvm.MethodName)) ∈ lw_all := lw_g (lw_at lw_m2 188 rfl) rfl
theorem q618 : (Jvm.Cond.selects "StarConsole$Kind$2" ({ cls := "StarConsole$Kind", name := "takes", desc := "(LStarConsole$Console;II)Z" } : Jvm.MethodName) ({ cls := "StarConsole$Kind$2", name := "takes", desc := "(LStarConsole$Console;II)Z" } : Jvm.MethodName)) ∈ lw_all := lw_g (lw_at lw_m3 108 rfl) rfl
theorem q619 : (Jvm.Cond.instanceMethod ({ cls := "StarConsole$Kind$2", name := "takes", desc := "(LStarConsole$Console;II)Z" } : Jvm.MethodName)) ∈ lw_all := lw_g (lw_at lw_m3 109 rfl) rfl
theorem q620 : (Jvm.Cond.code ({ cls := "StarConsole$Kind$2", name := "takes", desc := "(LStarConsole$Console;II)Z" } : Jvm.MethodName) prog_8_method_2_code (4 : Nat) (Option.some Jvm.ClassFile.FieldType.boolean)) ∈ lw_all := lw_g (lw_at lw_m3 110 rfl) rfl
theorem q621 : (Jvm.Cond.methodLinkNest "StarConsole$Kind$2" (9 : Nat) ({ cls := "StarConsole", name := "isIn", desc := "(III)Z" } : Jvm.MethodName) "StarConsole") ∈ lw_tbl := lw_at lw_m3 111 rfl
theorem q701 : (Jvm.Cond.selects "StarConsole$Kind$2" ({ cls := "StarConsole$Kind", name := "run", desc := "(LStarConsole$Console;II)V" } : Jvm.MethodName) ({ cls := "StarConsole$Kind$2", name := "run", desc := "(LStarConsole$Console;II)V" } : Jvm.MethodName)) ∈ lw_all := lw_g (lw_at lw_m3 191 rfl) rfl
theorem q702 : (Jvm.Cond.instanceMethod ({ cls := "StarConsole$Kind$2", name := "run", desc := "(LStarConsole$Console;II)V" } : Jvm.MethodName)) ∈ lw_all := lw_g (lw_at lw_m3 192 rfl) rfl
theorem q703 : (Jvm.Cond.code ({ cls := "StarConsole$Kind$2", name := "run", desc := "(LStarConsole$Console;II)V" } : Jvm.MethodName) prog_8_method_3_code (4 : Nat) (Option.none : Option Jvm.ClassFile.FieldType)) ∈ lw_all := lw_g (lw_at lw_m3 193 rfl) rfl
theorem q1058 : (Jvm.Cond.castable "StarConsole$Kind$2" "java/lang/Object") ∈ lw_tbl := lw_at lw_m5 68 rfl
theorem q1067 : (Jvm.Cond.castable "StarConsole$Kind$2" "StarConsole$Kind") ∈ lw_tbl := lw_at lw_m5 77 rfl

/-! StarConsole$Kind$4 -/
def RX11 : String := "StarConsole$Kind$4"
abbrev cX11_takes : ByteArray := prog_10_method_2_code
def yX11_takes : MethodName := ⟨RX11, "takes", "(LStarConsole$Console;II)Z"⟩
def dkwX11_takes_1 : List UInt8 := [3, 172]
abbrev dktX11_takes_1 : List UInt8 := dkwX11_takes_1 ++ []
def dkwX11_takes_0 : List UInt8 := [28, 3, 16, 99, 184, 0, 9, 153, 0, 17, 29, 4, 16, 60, 184, 0, 9, 153, 0, 7, 4, 167, 0, 4]
abbrev dktX11_takes_0 : List UInt8 := dkwX11_takes_0 ++ dktX11_takes_1
theorem dksX11_takes_0 : cX11_takes.data.toList.drop 0 = dktX11_takes_0 := by decide +kernel
theorem dksX11_takes_1 : cX11_takes.data.toList.drop 24 = dktX11_takes_1 := dk_seg dksX11_takes_0 24 rfl rfl
theorem dX11_takes_0 : decode cX11_takes 0 = .ok (.iload_n 2, 1) := dk_28 (dk_at dksX11_takes_0 0 rfl rfl)
theorem dX11_takes_1 : decode cX11_takes 1 = .ok (.iconst 0, 1) := dk_3 (dk_at dksX11_takes_0 1 rfl rfl)
theorem dX11_takes_2 : decode cX11_takes 2 = .ok (.bipush 99, 2) := dk_16 99 (dk_at dksX11_takes_0 2 rfl rfl)
theorem dX11_takes_4 : decode cX11_takes 4 = .ok (.invokestatic 9, 3) := dk_184 0 9 (dk_at dksX11_takes_0 4 rfl rfl)
theorem dX11_takes_7 : decode cX11_takes 7 = .ok (.ifCond .eq 17, 3) := dk_153 0 17 (dk_at dksX11_takes_0 7 rfl rfl)
theorem dX11_takes_10 : decode cX11_takes 10 = .ok (.iload_n 3, 1) := dk_29 (dk_at dksX11_takes_0 10 rfl rfl)
theorem dX11_takes_11 : decode cX11_takes 11 = .ok (.iconst 1, 1) := dk_4 (dk_at dksX11_takes_0 11 rfl rfl)
theorem dX11_takes_12 : decode cX11_takes 12 = .ok (.bipush 60, 2) := dk_16 60 (dk_at dksX11_takes_0 12 rfl rfl)
theorem dX11_takes_14 : decode cX11_takes 14 = .ok (.invokestatic 9, 3) := dk_184 0 9 (dk_at dksX11_takes_0 14 rfl rfl)
theorem dX11_takes_17 : decode cX11_takes 17 = .ok (.ifCond .eq 7, 3) := dk_153 0 7 (dk_at dksX11_takes_0 17 rfl rfl)
theorem dX11_takes_20 : decode cX11_takes 20 = .ok (.iconst 1, 1) := dk_4 (dk_at dksX11_takes_0 20 rfl rfl)
theorem dX11_takes_21 : decode cX11_takes 21 = .ok (.goto 4, 3) := dk_167 0 4 (dk_at dksX11_takes_0 21 rfl rfl)
theorem dX11_takes_24 : decode cX11_takes 24 = .ok (.iconst 0, 1) := dk_3 (dk_at dksX11_takes_1 0 rfl rfl)
theorem dX11_takes_25 : decode cX11_takes 25 = .ok (.ireturn, 1) := dk_172 (dk_at dksX11_takes_1 1 rfl rfl)
abbrev cX11_run : ByteArray := prog_10_method_3_code
def yX11_run : MethodName := ⟨RX11, "run", "(LStarConsole$Console;II)V"⟩
def dkwX11_run_0 : List UInt8 := [43, 28, 181, 0, 13, 43, 29, 181, 0, 19, 177]
abbrev dktX11_run_0 : List UInt8 := dkwX11_run_0 ++ []
theorem dksX11_run_0 : cX11_run.data.toList.drop 0 = dktX11_run_0 := by decide +kernel
theorem dX11_run_0 : decode cX11_run 0 = .ok (.aload_n 1, 1) := dk_43 (dk_at dksX11_run_0 0 rfl rfl)
theorem dX11_run_1 : decode cX11_run 1 = .ok (.iload_n 2, 1) := dk_28 (dk_at dksX11_run_0 1 rfl rfl)
theorem dX11_run_2 : decode cX11_run 2 = .ok (.putfield 13, 3) := dk_181 0 13 (dk_at dksX11_run_0 2 rfl rfl)
theorem dX11_run_5 : decode cX11_run 5 = .ok (.aload_n 1, 1) := dk_43 (dk_at dksX11_run_0 5 rfl rfl)
theorem dX11_run_6 : decode cX11_run 6 = .ok (.iload_n 3, 1) := dk_29 (dk_at dksX11_run_0 6 rfl rfl)
theorem dX11_run_7 : decode cX11_run 7 = .ok (.putfield 19, 3) := dk_181 0 19 (dk_at dksX11_run_0 7 rfl rfl)
theorem dX11_run_10 : decode cX11_run 10 = .ok (.return_, 1) := dk_177 (dk_at dksX11_run_0 10 rfl rfl)
theorem q113 : (Jvm.Cond.fieldLinkNest "StarConsole$Kind$4" (13 : Nat) "StarConsole$Console" "line" "I" "StarConsole") ∈ lw_tbl := lw_at lw_m1 83 rfl
theorem q116 : (Jvm.Cond.fieldLinkNest "StarConsole$Kind$4" (19 : Nat) "StarConsole$Console" "left" "I" "StarConsole") ∈ lw_tbl := lw_at lw_m1 86 rfl
theorem q280 : (Jvm.Cond.selects "StarConsole$Kind$4" ({ cls := "StarConsole$Kind", name := "ordinal", desc := "()I" } : Jvm.MethodName) ({ cls := "java/lang/Enum", name := "ordinal", desc := "()I" } : Jvm.MethodName)) ∈ lw_all := lw_g (lw_at lw_m2 10 rfl) rfl
theorem q460 : (Jvm.Cond.selects "StarConsole$Kind$4" ({ cls := "java/lang/Object", name := "getClass", desc := "()Ljava/lang/Class;" } : Jvm.MethodName) ({ cls := "java/lang/Object", name := "getClass", desc := "()Ljava/lang/Class;" } : Jvm.MethodName)) ∈ lw_all := lw_g (lw_at lw_m2 190 rfl) rfl
theorem q626 : (Jvm.Cond.selects "StarConsole$Kind$4" ({ cls := "StarConsole$Kind", name := "takes", desc := "(LStarConsole$Console;II)Z" } : Jvm.MethodName) ({ cls := "StarConsole$Kind$4", name := "takes", desc := "(LStarConsole$Console;II)Z" } : Jvm.MethodName)) ∈ lw_all := lw_g (lw_at lw_m3 116 rfl) rfl
theorem q627 : (Jvm.Cond.instanceMethod ({ cls := "StarConsole$Kind$4", name := "takes", desc := "(LStarConsole$Console;II)Z" } : Jvm.MethodName)) ∈ lw_all := lw_g (lw_at lw_m3 117 rfl) rfl
theorem q628 : (Jvm.Cond.code ({ cls := "StarConsole$Kind$4", name := "takes", desc := "(LStarConsole$Console;II)Z" } : Jvm.MethodName) prog_10_method_2_code (4 : Nat) (Option.some Jvm.ClassFile.FieldType.boolean)) ∈ lw_all := lw_g (lw_at lw_m3 118 rfl) rfl
theorem q629 : (Jvm.Cond.methodLinkNest "StarConsole$Kind$4" (9 : Nat) ({ cls := "StarConsole", name := "isIn", desc := "(III)Z" } : Jvm.MethodName) "StarConsole") ∈ lw_tbl := lw_at lw_m3 119 rfl
theorem q729 : (Jvm.Cond.selects "StarConsole$Kind$4" ({ cls := "StarConsole$Kind", name := "run", desc := "(LStarConsole$Console;II)V" } : Jvm.MethodName) ({ cls := "StarConsole$Kind$4", name := "run", desc := "(LStarConsole$Console;II)V" } : Jvm.MethodName)) ∈ lw_all := lw_g (lw_at lw_m3 219 rfl) rfl
theorem q730 : (Jvm.Cond.instanceMethod ({ cls := "StarConsole$Kind$4", name := "run", desc := "(LStarConsole$Console;II)V" } : Jvm.MethodName)) ∈ lw_all := lw_g (lw_at lw_m3 220 rfl) rfl
theorem q731 : (Jvm.Cond.code ({ cls := "StarConsole$Kind$4", name := "run", desc := "(LStarConsole$Console;II)V" } : Jvm.MethodName) prog_10_method_3_code (4 : Nat) (Option.none : Option Jvm.ClassFile.FieldType)) ∈ lw_all := lw_g (lw_at lw_m3 221 rfl) rfl
theorem q1060 : (Jvm.Cond.castable "StarConsole$Kind$4" "java/lang/Object") ∈ lw_tbl := lw_at lw_m5 70 rfl
theorem q1069 : (Jvm.Cond.castable "StarConsole$Kind$4" "StarConsole$Kind") ∈ lw_tbl := lw_at lw_m5 79 rfl

/-! StarConsole$Kind$1 -/
def RX12 : String := "StarConsole$Kind$1"
abbrev cX12_takes : ByteArray := prog_7_method_2_code
def yX12_takes : MethodName := ⟨RX12, "takes", "(LStarConsole$Console;II)Z"⟩
def dkwX12_takes_1 : List UInt8 := [153, 0, 7, 4, 167, 0, 4, 3, 172]
abbrev dktX12_takes_1 : List UInt8 := dkwX12_takes_1 ++ []
def dkwX12_takes_0 : List UInt8 := [28, 3, 43, 180, 0, 9, 182, 0, 15, 4, 100, 184, 0, 21, 153, 0, 17, 29, 3, 16, 100, 184, 0, 21]
abbrev dktX12_takes_0 : List UInt8 := dkwX12_takes_0 ++ dktX12_takes_1
theorem dksX12_takes_0 : cX12_takes.data.toList.drop 0 = dktX12_takes_0 := by decide +kernel
theorem dksX12_takes_1 : cX12_takes.data.toList.drop 24 = dktX12_takes_1 := dk_seg dksX12_takes_0 24 rfl rfl
theorem dX12_takes_0 : decode cX12_takes 0 = .ok (.iload_n 2, 1) := dk_28 (dk_at dksX12_takes_0 0 rfl rfl)
theorem dX12_takes_1 : decode cX12_takes 1 = .ok (.iconst 0, 1) := dk_3 (dk_at dksX12_takes_0 1 rfl rfl)
theorem dX12_takes_2 : decode cX12_takes 2 = .ok (.aload_n 1, 1) := dk_43 (dk_at dksX12_takes_0 2 rfl rfl)
theorem dX12_takes_3 : decode cX12_takes 3 = .ok (.getfield 9, 3) := dk_180 0 9 (dk_at dksX12_takes_0 3 rfl rfl)
theorem dX12_takes_6 : decode cX12_takes 6 = .ok (.invokevirtual 15, 3) := dk_182 0 15 (dk_at dksX12_takes_0 6 rfl rfl)
theorem dX12_takes_9 : decode cX12_takes 9 = .ok (.iconst 1, 1) := dk_4 (dk_at dksX12_takes_0 9 rfl rfl)
theorem dX12_takes_10 : decode cX12_takes 10 = .ok (.isub, 1) := dk_100 (dk_at dksX12_takes_0 10 rfl rfl)
theorem dX12_takes_11 : decode cX12_takes 11 = .ok (.invokestatic 21, 3) := dk_184 0 21 (dk_at dksX12_takes_0 11 rfl rfl)
theorem dX12_takes_14 : decode cX12_takes 14 = .ok (.ifCond .eq 17, 3) := dk_153 0 17 (dk_at dksX12_takes_0 14 rfl rfl)
theorem dX12_takes_17 : decode cX12_takes 17 = .ok (.iload_n 3, 1) := dk_29 (dk_at dksX12_takes_0 17 rfl rfl)
theorem dX12_takes_18 : decode cX12_takes 18 = .ok (.iconst 0, 1) := dk_3 (dk_at dksX12_takes_0 18 rfl rfl)
theorem dX12_takes_19 : decode cX12_takes 19 = .ok (.bipush 100, 2) := dk_16 100 (dk_at dksX12_takes_0 19 rfl rfl)
theorem dX12_takes_21 : decode cX12_takes 21 = .ok (.invokestatic 21, 3) := dk_184 0 21 (dk_at dksX12_takes_0 21 rfl rfl)
theorem dX12_takes_24 : decode cX12_takes 24 = .ok (.ifCond .eq 7, 3) := dk_153 0 7 (dk_at dksX12_takes_1 0 rfl rfl)
theorem dX12_takes_27 : decode cX12_takes 27 = .ok (.iconst 1, 1) := dk_4 (dk_at dksX12_takes_1 3 rfl rfl)
theorem dX12_takes_28 : decode cX12_takes 28 = .ok (.goto 4, 3) := dk_167 0 4 (dk_at dksX12_takes_1 4 rfl rfl)
theorem dX12_takes_31 : decode cX12_takes 31 = .ok (.iconst 0, 1) := dk_3 (dk_at dksX12_takes_1 7 rfl rfl)
theorem dX12_takes_32 : decode cX12_takes 32 = .ok (.ireturn, 1) := dk_172 (dk_at dksX12_takes_1 8 rfl rfl)
abbrev cX12_run : ByteArray := prog_7_method_3_code
def yX12_run : MethodName := ⟨RX12, "run", "(LStarConsole$Console;II)V"⟩
def dkwX12_run_0 : List UInt8 := [43, 180, 0, 9, 28, 182, 0, 25, 192, 0, 29, 29, 181, 0, 31, 177]
abbrev dktX12_run_0 : List UInt8 := dkwX12_run_0 ++ []
theorem dksX12_run_0 : cX12_run.data.toList.drop 0 = dktX12_run_0 := by decide +kernel
theorem dX12_run_0 : decode cX12_run 0 = .ok (.aload_n 1, 1) := dk_43 (dk_at dksX12_run_0 0 rfl rfl)
theorem dX12_run_1 : decode cX12_run 1 = .ok (.getfield 9, 3) := dk_180 0 9 (dk_at dksX12_run_0 1 rfl rfl)
theorem dX12_run_4 : decode cX12_run 4 = .ok (.iload_n 2, 1) := dk_28 (dk_at dksX12_run_0 4 rfl rfl)
theorem dX12_run_5 : decode cX12_run 5 = .ok (.invokevirtual 25, 3) := dk_182 0 25 (dk_at dksX12_run_0 5 rfl rfl)
theorem dX12_run_8 : decode cX12_run 8 = .ok (.checkcast 29, 3) := dk_192 0 29 (dk_at dksX12_run_0 8 rfl rfl)
theorem dX12_run_11 : decode cX12_run 11 = .ok (.iload_n 3, 1) := dk_29 (dk_at dksX12_run_0 11 rfl rfl)
theorem dX12_run_12 : decode cX12_run 12 = .ok (.putfield 31, 3) := dk_181 0 31 (dk_at dksX12_run_0 12 rfl rfl)
theorem dX12_run_15 : decode cX12_run 15 = .ok (.return_, 1) := dk_177 (dk_at dksX12_run_0 15 rfl rfl)
theorem q119 : (Jvm.Cond.fieldLinkNest "StarConsole$Kind$1" (9 : Nat) "StarConsole$Console" "dimmers" "Ljava/util/ArrayList;" "StarConsole") ∈ lw_tbl := lw_at lw_m1 89 rfl
theorem q277 : (Jvm.Cond.selects "StarConsole$Kind$1" ({ cls := "StarConsole$Kind", name := "ordinal", desc := "()I" } : Jvm.MethodName) ({ cls := "java/lang/Enum", name := "ordinal", desc := "()I" } : Jvm.MethodName)) ∈ lw_all := lw_g (lw_at lw_m2 7 rfl) rfl
theorem q405 : (Jvm.Cond.fieldLinkNest "StarConsole$Kind$1" (31 : Nat) "StarConsole$Dimmer" "aim" "I" "StarConsole") ∈ lw_tbl := lw_at lw_m2 135 rfl
theorem q457 : (Jvm.Cond.selects "StarConsole$Kind$1" ({ cls := "java/lang/Object", name := "getClass", desc := "()Ljava/lang/Class;" } : Jvm.MethodName) ({ cls := "java/lang/Object", name := "getClass", desc := "()Ljava/lang/Class;" } : Jvm.MethodName)) ∈ lw_all := lw_g (lw_at lw_m2 187 rfl) rfl
theorem q613 : (Jvm.Cond.selects "StarConsole$Kind$1" ({ cls := "StarConsole$Kind", name := "takes", desc := "(LStarConsole$Console;II)Z" } : Jvm.MethodName) ({ cls := "StarConsole$Kind$1", name := "takes", desc := "(LStarConsole$Console;II)Z" } : Jvm.MethodName)) ∈ lw_all := lw_g (lw_at lw_m3 103 rfl) rfl
theorem q614 : (Jvm.Cond.instanceMethod ({ cls := "StarConsole$Kind$1", name := "takes", desc := "(LStarConsole$Console;II)Z" } : Jvm.MethodName)) ∈ lw_all := lw_g (lw_at lw_m3 104 rfl) rfl
theorem q615 : (Jvm.Cond.code ({ cls := "StarConsole$Kind$1", name := "takes", desc := "(LStarConsole$Console;II)Z" } : Jvm.MethodName) prog_7_method_2_code (4 : Nat) (Option.some Jvm.ClassFile.FieldType.boolean)) ∈ lw_all := lw_g (lw_at lw_m3 105 rfl) rfl
theorem q616 : (Jvm.Cond.methodLink "StarConsole$Kind$1" (15 : Nat) ({ cls := "java/util/ArrayList", name := "size", desc := "()I" } : Jvm.MethodName)) ∈ lw_all := lw_g (lw_at lw_m3 106 rfl) rfl
theorem q617 : (Jvm.Cond.methodLinkNest "StarConsole$Kind$1" (21 : Nat) ({ cls := "StarConsole", name := "isIn", desc := "(III)Z" } : Jvm.MethodName) "StarConsole") ∈ lw_tbl := lw_at lw_m3 107 rfl
theorem q696 : (Jvm.Cond.selects "StarConsole$Kind$1" ({ cls := "StarConsole$Kind", name := "run", desc := "(LStarConsole$Console;II)V" } : Jvm.MethodName) ({ cls := "StarConsole$Kind$1", name := "run", desc := "(LStarConsole$Console;II)V" } : Jvm.MethodName)) ∈ lw_all := lw_g (lw_at lw_m3 186 rfl) rfl
theorem q697 : (Jvm.Cond.instanceMethod ({ cls := "StarConsole$Kind$1", name := "run", desc := "(LStarConsole$Console;II)V" } : Jvm.MethodName)) ∈ lw_all := lw_g (lw_at lw_m3 187 rfl) rfl
theorem q698 : (Jvm.Cond.code ({ cls := "StarConsole$Kind$1", name := "run", desc := "(LStarConsole$Console;II)V" } : Jvm.MethodName) prog_7_method_3_code (4 : Nat) (Option.none : Option Jvm.ClassFile.FieldType)) ∈ lw_all := lw_g (lw_at lw_m3 188 rfl) rfl
theorem q699 : (Jvm.Cond.methodLink "StarConsole$Kind$1" (25 : Nat) ({ cls := "java/util/ArrayList", name := "get", desc := "(I)Ljava/lang/Object;" } : Jvm.MethodName)) ∈ lw_all := lw_g (lw_at lw_m3 189 rfl) rfl
theorem q700 : (Jvm.Cond.classLink "StarConsole$Kind$1" (29 : Nat) "StarConsole$Dimmer") ∈ lw_all := lw_g (lw_at lw_m3 190 rfl) rfl
theorem q1057 : (Jvm.Cond.castable "StarConsole$Kind$1" "java/lang/Object") ∈ lw_tbl := lw_at lw_m5 67 rfl
theorem q1066 : (Jvm.Cond.castable "StarConsole$Kind$1" "StarConsole$Kind") ∈ lw_tbl := lw_at lw_m5 76 rfl

/-! StarConsole$Kind$3 -/
def RX13 : String := "StarConsole$Kind$3"
abbrev cX13_takes : ByteArray := prog_9_method_2_code
def yX13_takes : MethodName := ⟨RX13, "takes", "(LStarConsole$Console;II)Z"⟩
def dkwX13_takes_1 : List UInt8 := [167, 0, 4, 3, 172]
abbrev dktX13_takes_1 : List UInt8 := dkwX13_takes_1 ++ []
def dkwX13_takes_0 : List UInt8 := [28, 3, 17, 1, 103, 184, 0, 9, 153, 0, 18, 29, 16, 236, 16, 20, 184, 0, 9, 153, 0, 7, 4]
abbrev dktX13_takes_0 : List UInt8 := dkwX13_takes_0 ++ dktX13_takes_1
theorem dksX13_takes_0 : cX13_takes.data.toList.drop 0 = dktX13_takes_0 := by decide +kernel
theorem dksX13_takes_1 : cX13_takes.data.toList.drop 23 = dktX13_takes_1 := dk_seg dksX13_takes_0 23 rfl rfl
theorem dX13_takes_0 : decode cX13_takes 0 = .ok (.iload_n 2, 1) := dk_28 (dk_at dksX13_takes_0 0 rfl rfl)
theorem dX13_takes_1 : decode cX13_takes 1 = .ok (.iconst 0, 1) := dk_3 (dk_at dksX13_takes_0 1 rfl rfl)
theorem dX13_takes_2 : decode cX13_takes 2 = .ok (.sipush 359, 3) := dk_17 1 103 (dk_at dksX13_takes_0 2 rfl rfl)
theorem dX13_takes_5 : decode cX13_takes 5 = .ok (.invokestatic 9, 3) := dk_184 0 9 (dk_at dksX13_takes_0 5 rfl rfl)
theorem dX13_takes_8 : decode cX13_takes 8 = .ok (.ifCond .eq 18, 3) := dk_153 0 18 (dk_at dksX13_takes_0 8 rfl rfl)
theorem dX13_takes_11 : decode cX13_takes 11 = .ok (.iload_n 3, 1) := dk_29 (dk_at dksX13_takes_0 11 rfl rfl)
theorem dX13_takes_12 : decode cX13_takes 12 = .ok (.bipush (-20), 2) := dk_16 236 (dk_at dksX13_takes_0 12 rfl rfl)
theorem dX13_takes_14 : decode cX13_takes 14 = .ok (.bipush 20, 2) := dk_16 20 (dk_at dksX13_takes_0 14 rfl rfl)
theorem dX13_takes_16 : decode cX13_takes 16 = .ok (.invokestatic 9, 3) := dk_184 0 9 (dk_at dksX13_takes_0 16 rfl rfl)
theorem dX13_takes_19 : decode cX13_takes 19 = .ok (.ifCond .eq 7, 3) := dk_153 0 7 (dk_at dksX13_takes_0 19 rfl rfl)
theorem dX13_takes_22 : decode cX13_takes 22 = .ok (.iconst 1, 1) := dk_4 (dk_at dksX13_takes_0 22 rfl rfl)
theorem dX13_takes_23 : decode cX13_takes 23 = .ok (.goto 4, 3) := dk_167 0 4 (dk_at dksX13_takes_1 0 rfl rfl)
theorem dX13_takes_26 : decode cX13_takes 26 = .ok (.iconst 0, 1) := dk_3 (dk_at dksX13_takes_1 3 rfl rfl)
theorem dX13_takes_27 : decode cX13_takes 27 = .ok (.ireturn, 1) := dk_172 (dk_at dksX13_takes_1 4 rfl rfl)
abbrev cX13_run : ByteArray := prog_9_method_3_code
def yX13_run : MethodName := ⟨RX13, "run", "(LStarConsole$Console;II)V"⟩
def dkwX13_run_1 : List UInt8 := [183, 0, 27, 182, 0, 30, 87, 177]
abbrev dktX13_run_1 : List UInt8 := dkwX13_run_1 ++ []
def dkwX13_run_0 : List UInt8 := [43, 180, 0, 13, 182, 0, 19, 16, 12, 162, 0, 20, 43, 180, 0, 13, 187, 0, 25, 89, 28, 29]
abbrev dktX13_run_0 : List UInt8 := dkwX13_run_0 ++ dktX13_run_1
theorem dksX13_run_0 : cX13_run.data.toList.drop 0 = dktX13_run_0 := by decide +kernel
theorem dksX13_run_1 : cX13_run.data.toList.drop 22 = dktX13_run_1 := dk_seg dksX13_run_0 22 rfl rfl
theorem dX13_run_0 : decode cX13_run 0 = .ok (.aload_n 1, 1) := dk_43 (dk_at dksX13_run_0 0 rfl rfl)
theorem dX13_run_1 : decode cX13_run 1 = .ok (.getfield 13, 3) := dk_180 0 13 (dk_at dksX13_run_0 1 rfl rfl)
theorem dX13_run_4 : decode cX13_run 4 = .ok (.invokevirtual 19, 3) := dk_182 0 19 (dk_at dksX13_run_0 4 rfl rfl)
theorem dX13_run_7 : decode cX13_run 7 = .ok (.bipush 12, 2) := dk_16 12 (dk_at dksX13_run_0 7 rfl rfl)
theorem dX13_run_9 : decode cX13_run 9 = .ok (.if_icmp .ge 20, 3) := dk_162 0 20 (dk_at dksX13_run_0 9 rfl rfl)
theorem dX13_run_12 : decode cX13_run 12 = .ok (.aload_n 1, 1) := dk_43 (dk_at dksX13_run_0 12 rfl rfl)
theorem dX13_run_13 : decode cX13_run 13 = .ok (.getfield 13, 3) := dk_180 0 13 (dk_at dksX13_run_0 13 rfl rfl)
theorem dX13_run_16 : decode cX13_run 16 = .ok (.new 25, 3) := dk_187 0 25 (dk_at dksX13_run_0 16 rfl rfl)
theorem dX13_run_19 : decode cX13_run 19 = .ok (.dup, 1) := dk_89 (dk_at dksX13_run_0 19 rfl rfl)
theorem dX13_run_20 : decode cX13_run 20 = .ok (.iload_n 2, 1) := dk_28 (dk_at dksX13_run_0 20 rfl rfl)
theorem dX13_run_21 : decode cX13_run 21 = .ok (.iload_n 3, 1) := dk_29 (dk_at dksX13_run_0 21 rfl rfl)
theorem dX13_run_22 : decode cX13_run 22 = .ok (.invokespecial 27, 3) := dk_183 0 27 (dk_at dksX13_run_1 0 rfl rfl)
theorem dX13_run_25 : decode cX13_run 25 = .ok (.invokevirtual 30, 3) := dk_182 0 30 (dk_at dksX13_run_1 3 rfl rfl)
theorem dX13_run_28 : decode cX13_run 28 = .ok (.pop, 1) := dk_87 (dk_at dksX13_run_1 6 rfl rfl)
theorem dX13_run_29 : decode cX13_run 29 = .ok (.return_, 1) := dk_177 (dk_at dksX13_run_1 7 rfl rfl)
theorem q122 : (Jvm.Cond.fieldLinkNest "StarConsole$Kind$3" (13 : Nat) "StarConsole$Console" "comets" "Ljava/util/ArrayList;" "StarConsole") ∈ lw_tbl := lw_at lw_m1 92 rfl
theorem q279 : (Jvm.Cond.selects "StarConsole$Kind$3" ({ cls := "StarConsole$Kind", name := "ordinal", desc := "()I" } : Jvm.MethodName) ({ cls := "java/lang/Enum", name := "ordinal", desc := "()I" } : Jvm.MethodName)) ∈ lw_all := lw_g (lw_at lw_m2 9 rfl) rfl
theorem q459 : (Jvm.Cond.selects "StarConsole$Kind$3" ({ cls := "java/lang/Object", name := "getClass", desc := "()Ljava/lang/Class;" } : Jvm.MethodName) ({ cls := "java/lang/Object", name := "getClass", desc := "()Ljava/lang/Class;" } : Jvm.MethodName)) ∈ lw_all := lw_g (lw_at lw_m2 189 rfl) rfl
theorem q622 : (Jvm.Cond.selects "StarConsole$Kind$3" ({ cls := "StarConsole$Kind", name := "takes", desc := "(LStarConsole$Console;II)Z" } : Jvm.MethodName) ({ cls := "StarConsole$Kind$3", name := "takes", desc := "(LStarConsole$Console;II)Z" } : Jvm.MethodName)) ∈ lw_all := lw_g (lw_at lw_m3 112 rfl) rfl
theorem q623 : (Jvm.Cond.instanceMethod ({ cls := "StarConsole$Kind$3", name := "takes", desc := "(LStarConsole$Console;II)Z" } : Jvm.MethodName)) ∈ lw_all := lw_g (lw_at lw_m3 113 rfl) rfl
theorem q624 : (Jvm.Cond.code ({ cls := "StarConsole$Kind$3", name := "takes", desc := "(LStarConsole$Console;II)Z" } : Jvm.MethodName) prog_9_method_2_code (4 : Nat) (Option.some Jvm.ClassFile.FieldType.boolean)) ∈ lw_all := lw_g (lw_at lw_m3 114 rfl) rfl
theorem q625 : (Jvm.Cond.methodLinkNest "StarConsole$Kind$3" (9 : Nat) ({ cls := "StarConsole", name := "isIn", desc := "(III)Z" } : Jvm.MethodName) "StarConsole") ∈ lw_tbl := lw_at lw_m3 115 rfl
theorem q704 : (Jvm.Cond.selects "StarConsole$Kind$3" ({ cls := "StarConsole$Kind", name := "run", desc := "(LStarConsole$Console;II)V" } : Jvm.MethodName) ({ cls := "StarConsole$Kind$3", name := "run", desc := "(LStarConsole$Console;II)V" } : Jvm.MethodName)) ∈ lw_all := lw_g (lw_at lw_m3 194 rfl) rfl
theorem q705 : (Jvm.Cond.instanceMethod ({ cls := "StarConsole$Kind$3", name := "run", desc := "(LStarConsole$Console;II)V" } : Jvm.MethodName)) ∈ lw_all := lw_g (lw_at lw_m3 195 rfl) rfl
theorem q706 : (Jvm.Cond.code ({ cls := "StarConsole$Kind$3", name := "run", desc := "(LStarConsole$Console;II)V" } : Jvm.MethodName) prog_9_method_3_code (4 : Nat) (Option.none : Option Jvm.ClassFile.FieldType)) ∈ lw_all := lw_g (lw_at lw_m3 196 rfl) rfl
theorem q707 : (Jvm.Cond.methodLink "StarConsole$Kind$3" (19 : Nat) ({ cls := "java/util/ArrayList", name := "size", desc := "()I" } : Jvm.MethodName)) ∈ lw_all := lw_g (lw_at lw_m3 197 rfl) rfl
theorem q708 : (Jvm.Cond.classLink "StarConsole$Kind$3" (25 : Nat) "StarConsole$Comet") ∈ lw_all := lw_g (lw_at lw_m3 198 rfl) rfl
theorem q710 : (Jvm.Cond.methodLink "StarConsole$Kind$3" (27 : Nat) ({ cls := "StarConsole$Comet", name := "<init>", desc := "(II)V" } : Jvm.MethodName)) ∈ lw_all := lw_g (lw_at lw_m3 200 rfl) rfl
theorem q728 : (Jvm.Cond.methodLink "StarConsole$Kind$3" (30 : Nat) ({ cls := "java/util/ArrayList", name := "add", desc := "(Ljava/lang/Object;)Z" } : Jvm.MethodName)) ∈ lw_all := lw_g (lw_at lw_m3 218 rfl) rfl
theorem q1059 : (Jvm.Cond.castable "StarConsole$Kind$3" "java/lang/Object") ∈ lw_tbl := lw_at lw_m5 69 rfl
theorem q1068 : (Jvm.Cond.castable "StarConsole$Kind$3" "StarConsole$Kind") ∈ lw_tbl := lw_at lw_m5 78 rfl

/-! StarConsole$Console -/
def RX2 : String := "StarConsole$Console"
def TX2 : u_T := fun k => match k with
  | 0 => ("StarConsole$Console", "tick", "I", false)
  | 1 => ("StarConsole$Console", "clock", "I", false)
  | 2 => ("StarConsole$Console", "runs", "Z", false)
  | 3 => ("StarConsole$Console", "angle", "I", false)
  | 4 => ("StarConsole$Console", "speed", "I", false)
  | 5 => ("StarConsole$Console", "line", "I", false)
  | 6 => ("StarConsole$Console", "left", "I", false)
  | 7 => ("StarConsole$Console", "dimmers", "Ljava/util/ArrayList;", true)
  | _ => ("StarConsole$Console", "comets", "Ljava/util/ArrayList;", true)
def tyX2 : Nat → FieldType := fun k => match k with
  | 0 => .int
  | 1 => .int
  | 2 => .boolean
  | 3 => .int
  | 4 => .int
  | 5 => .int
  | 6 => .int
  | 7 => .object "java/util/ArrayList"
  | _ => .object "java/util/ArrayList"
abbrev wsX20 : List Cond := u_ws RX2 TX2 9
theorem nmX2 : ∀ a, a < 9 → ∀ b, b < 9 → a ≠ b → (TX2 a).2.1 ≠ (TX2 b).2.1 := by decide +kernel
theorem tyX2_ok : ∀ k, k < 9 → parseFieldDescriptor (TX2 k).2.2.1 = some (tyX2 k) := by decide +kernel
abbrev cX2_init : ByteArray := prog_3_method_1_code
def yX2_init : MethodName := ⟨RX2, "<init>", "()V"⟩
def dkwX2_init_1 : List UInt8 := [89, 183, 0, 17, 181, 0, 22, 177]
abbrev dktX2_init_1 : List UInt8 := dkwX2_init_1 ++ []
def dkwX2_init_0 : List UInt8 := [42, 183, 0, 3, 42, 2, 181, 0, 9, 42, 187, 0, 15, 89, 183, 0, 17, 181, 0, 18, 42, 187, 0, 15]
abbrev dktX2_init_0 : List UInt8 := dkwX2_init_0 ++ dktX2_init_1
theorem dksX2_init_0 : cX2_init.data.toList.drop 0 = dktX2_init_0 := by decide +kernel
theorem dksX2_init_1 : cX2_init.data.toList.drop 24 = dktX2_init_1 := dk_seg dksX2_init_0 24 rfl rfl
theorem dX2_init_0 : decode cX2_init 0 = .ok (.aload_n 0, 1) := dk_42 (dk_at dksX2_init_0 0 rfl rfl)
theorem dX2_init_1 : decode cX2_init 1 = .ok (.invokespecial 3, 3) := dk_183 0 3 (dk_at dksX2_init_0 1 rfl rfl)
theorem dX2_init_4 : decode cX2_init 4 = .ok (.aload_n 0, 1) := dk_42 (dk_at dksX2_init_0 4 rfl rfl)
theorem dX2_init_5 : decode cX2_init 5 = .ok (.iconst (-1), 1) := dk_2 (dk_at dksX2_init_0 5 rfl rfl)
theorem dX2_init_6 : decode cX2_init 6 = .ok (.putfield 9, 3) := dk_181 0 9 (dk_at dksX2_init_0 6 rfl rfl)
theorem dX2_init_9 : decode cX2_init 9 = .ok (.aload_n 0, 1) := dk_42 (dk_at dksX2_init_0 9 rfl rfl)
theorem dX2_init_10 : decode cX2_init 10 = .ok (.new 15, 3) := dk_187 0 15 (dk_at dksX2_init_0 10 rfl rfl)
theorem dX2_init_13 : decode cX2_init 13 = .ok (.dup, 1) := dk_89 (dk_at dksX2_init_0 13 rfl rfl)
theorem dX2_init_14 : decode cX2_init 14 = .ok (.invokespecial 17, 3) := dk_183 0 17 (dk_at dksX2_init_0 14 rfl rfl)
theorem dX2_init_17 : decode cX2_init 17 = .ok (.putfield 18, 3) := dk_181 0 18 (dk_at dksX2_init_0 17 rfl rfl)
theorem dX2_init_20 : decode cX2_init 20 = .ok (.aload_n 0, 1) := dk_42 (dk_at dksX2_init_0 20 rfl rfl)
theorem dX2_init_21 : decode cX2_init 21 = .ok (.new 15, 3) := dk_187 0 15 (dk_at dksX2_init_0 21 rfl rfl)
theorem dX2_init_24 : decode cX2_init 24 = .ok (.dup, 1) := dk_89 (dk_at dksX2_init_1 0 rfl rfl)
theorem dX2_init_25 : decode cX2_init 25 = .ok (.invokespecial 17, 3) := dk_183 0 17 (dk_at dksX2_init_1 1 rfl rfl)
theorem dX2_init_28 : decode cX2_init 28 = .ok (.putfield 22, 3) := dk_181 0 22 (dk_at dksX2_init_1 4 rfl rfl)
theorem dX2_init_31 : decode cX2_init 31 = .ok (.return_, 1) := dk_177 (dk_at dksX2_init_1 7 rfl rfl)
abbrev cX2_glare : ByteArray := prog_3_method_3_code
def yX2_glare : MethodName := ⟨RX2, "glare", "(I)I"⟩
def dkwX2_glare_1 : List UInt8 := [192, 0, 53, 27, 182, 0, 68, 96, 61, 132, 3, 1, 167, 255, 224, 28, 172]
abbrev dktX2_glare_1 : List UInt8 := dkwX2_glare_1 ++ []
def dkwX2_glare_0 : List UInt8 := [3, 61, 3, 62, 29, 42, 180, 0, 18, 182, 0, 45, 162, 0, 27, 28, 42, 180, 0, 18, 29, 182, 0, 49]
abbrev dktX2_glare_0 : List UInt8 := dkwX2_glare_0 ++ dktX2_glare_1
theorem dksX2_glare_0 : cX2_glare.data.toList.drop 0 = dktX2_glare_0 := by decide +kernel
theorem dksX2_glare_1 : cX2_glare.data.toList.drop 24 = dktX2_glare_1 := dk_seg dksX2_glare_0 24 rfl rfl
theorem dX2_glare_0 : decode cX2_glare 0 = .ok (.iconst 0, 1) := dk_3 (dk_at dksX2_glare_0 0 rfl rfl)
theorem dX2_glare_1 : decode cX2_glare 1 = .ok (.istore_n 2, 1) := dk_61 (dk_at dksX2_glare_0 1 rfl rfl)
theorem dX2_glare_2 : decode cX2_glare 2 = .ok (.iconst 0, 1) := dk_3 (dk_at dksX2_glare_0 2 rfl rfl)
theorem dX2_glare_3 : decode cX2_glare 3 = .ok (.istore_n 3, 1) := dk_62 (dk_at dksX2_glare_0 3 rfl rfl)
theorem dX2_glare_4 : decode cX2_glare 4 = .ok (.iload_n 3, 1) := dk_29 (dk_at dksX2_glare_0 4 rfl rfl)
theorem dX2_glare_5 : decode cX2_glare 5 = .ok (.aload_n 0, 1) := dk_42 (dk_at dksX2_glare_0 5 rfl rfl)
theorem dX2_glare_6 : decode cX2_glare 6 = .ok (.getfield 18, 3) := dk_180 0 18 (dk_at dksX2_glare_0 6 rfl rfl)
theorem dX2_glare_9 : decode cX2_glare 9 = .ok (.invokevirtual 45, 3) := dk_182 0 45 (dk_at dksX2_glare_0 9 rfl rfl)
theorem dX2_glare_12 : decode cX2_glare 12 = .ok (.if_icmp .ge 27, 3) := dk_162 0 27 (dk_at dksX2_glare_0 12 rfl rfl)
theorem dX2_glare_15 : decode cX2_glare 15 = .ok (.iload_n 2, 1) := dk_28 (dk_at dksX2_glare_0 15 rfl rfl)
theorem dX2_glare_16 : decode cX2_glare 16 = .ok (.aload_n 0, 1) := dk_42 (dk_at dksX2_glare_0 16 rfl rfl)
theorem dX2_glare_17 : decode cX2_glare 17 = .ok (.getfield 18, 3) := dk_180 0 18 (dk_at dksX2_glare_0 17 rfl rfl)
theorem dX2_glare_20 : decode cX2_glare 20 = .ok (.iload_n 3, 1) := dk_29 (dk_at dksX2_glare_0 20 rfl rfl)
theorem dX2_glare_21 : decode cX2_glare 21 = .ok (.invokevirtual 49, 3) := dk_182 0 49 (dk_at dksX2_glare_0 21 rfl rfl)
theorem dX2_glare_24 : decode cX2_glare 24 = .ok (.checkcast 53, 3) := dk_192 0 53 (dk_at dksX2_glare_1 0 rfl rfl)
theorem dX2_glare_27 : decode cX2_glare 27 = .ok (.iload_n 1, 1) := dk_27 (dk_at dksX2_glare_1 3 rfl rfl)
theorem dX2_glare_28 : decode cX2_glare 28 = .ok (.invokevirtual 68, 3) := dk_182 0 68 (dk_at dksX2_glare_1 4 rfl rfl)
theorem dX2_glare_31 : decode cX2_glare 31 = .ok (.iadd, 1) := dk_96 (dk_at dksX2_glare_1 7 rfl rfl)
theorem dX2_glare_32 : decode cX2_glare 32 = .ok (.istore_n 2, 1) := dk_61 (dk_at dksX2_glare_1 8 rfl rfl)
theorem dX2_glare_33 : decode cX2_glare 33 = .ok (.iinc 3 1, 3) := dk_132 3 1 (dk_at dksX2_glare_1 9 rfl rfl)
theorem dX2_glare_36 : decode cX2_glare 36 = .ok (.goto (-32), 3) := dk_167 255 224 (dk_at dksX2_glare_1 12 rfl rfl)
theorem dX2_glare_39 : decode cX2_glare 39 = .ok (.iload_n 2, 1) := dk_28 (dk_at dksX2_glare_1 15 rfl rfl)
theorem dX2_glare_40 : decode cX2_glare 40 = .ok (.ireturn, 1) := dk_172 (dk_at dksX2_glare_1 16 rfl rfl)
abbrev cX2_isSeen : ByteArray := prog_3_method_6_code
def yX2_isSeen : MethodName := ⟨RX2, "isSeen", "(LStarConsole$Star;)Z"⟩
def dkwX2_isSeen_0 : List UInt8 := [42, 42, 43, 182, 0, 81, 43, 182, 0, 85, 182, 0, 88, 172]
abbrev dktX2_isSeen_0 : List UInt8 := dkwX2_isSeen_0 ++ []
theorem dksX2_isSeen_0 : cX2_isSeen.data.toList.drop 0 = dktX2_isSeen_0 := by decide +kernel
theorem dX2_isSeen_0 : decode cX2_isSeen 0 = .ok (.aload_n 0, 1) := dk_42 (dk_at dksX2_isSeen_0 0 rfl rfl)
theorem dX2_isSeen_1 : decode cX2_isSeen 1 = .ok (.aload_n 0, 1) := dk_42 (dk_at dksX2_isSeen_0 1 rfl rfl)
theorem dX2_isSeen_2 : decode cX2_isSeen 2 = .ok (.aload_n 1, 1) := dk_43 (dk_at dksX2_isSeen_0 2 rfl rfl)
theorem dX2_isSeen_3 : decode cX2_isSeen 3 = .ok (.invokevirtual 81, 3) := dk_182 0 81 (dk_at dksX2_isSeen_0 3 rfl rfl)
theorem dX2_isSeen_6 : decode cX2_isSeen 6 = .ok (.aload_n 1, 1) := dk_43 (dk_at dksX2_isSeen_0 6 rfl rfl)
theorem dX2_isSeen_7 : decode cX2_isSeen 7 = .ok (.invokevirtual 85, 3) := dk_182 0 85 (dk_at dksX2_isSeen_0 7 rfl rfl)
theorem dX2_isSeen_10 : decode cX2_isSeen 10 = .ok (.invokevirtual 88, 3) := dk_182 0 88 (dk_at dksX2_isSeen_0 10 rfl rfl)
theorem dX2_isSeen_13 : decode cX2_isSeen 13 = .ok (.ireturn, 1) := dk_172 (dk_at dksX2_isSeen_0 13 rfl rfl)
abbrev cX2_placeOf : ByteArray := prog_3_method_5_code
def yX2_placeOf : MethodName := ⟨RX2, "placeOf", "(LStarConsole$Star;)I"⟩
def dkwX2_placeOf_0 : List UInt8 := [43, 182, 0, 73, 42, 180, 0, 36, 96, 184, 0, 78, 172]
abbrev dktX2_placeOf_0 : List UInt8 := dkwX2_placeOf_0 ++ []
theorem dksX2_placeOf_0 : cX2_placeOf.data.toList.drop 0 = dktX2_placeOf_0 := by decide +kernel
theorem dX2_placeOf_0 : decode cX2_placeOf 0 = .ok (.aload_n 1, 1) := dk_43 (dk_at dksX2_placeOf_0 0 rfl rfl)
theorem dX2_placeOf_1 : decode cX2_placeOf 1 = .ok (.invokevirtual 73, 3) := dk_182 0 73 (dk_at dksX2_placeOf_0 1 rfl rfl)
theorem dX2_placeOf_4 : decode cX2_placeOf 4 = .ok (.aload_n 0, 1) := dk_42 (dk_at dksX2_placeOf_0 4 rfl rfl)
theorem dX2_placeOf_5 : decode cX2_placeOf 5 = .ok (.getfield 36, 3) := dk_180 0 36 (dk_at dksX2_placeOf_0 5 rfl rfl)
theorem dX2_placeOf_8 : decode cX2_placeOf 8 = .ok (.iadd, 1) := dk_96 (dk_at dksX2_placeOf_0 8 rfl rfl)
theorem dX2_placeOf_9 : decode cX2_placeOf 9 = .ok (.invokestatic 78, 3) := dk_184 0 78 (dk_at dksX2_placeOf_0 9 rfl rfl)
theorem dX2_placeOf_12 : decode cX2_placeOf 12 = .ok (.ireturn, 1) := dk_172 (dk_at dksX2_placeOf_0 12 rfl rfl)
abbrev cX2_isSeen_2 : ByteArray := prog_3_method_4_code
def yX2_isSeen_2 : MethodName := ⟨RX2, "isSeen", "(II)Z"⟩
def dkwX2_isSeen_2_0 : List UInt8 := [16, 10, 28, 104, 42, 27, 16, 30, 108, 182, 0, 72, 164, 0, 7, 4, 167, 0, 4, 3, 172]
abbrev dktX2_isSeen_2_0 : List UInt8 := dkwX2_isSeen_2_0 ++ []
theorem dksX2_isSeen_2_0 : cX2_isSeen_2.data.toList.drop 0 = dktX2_isSeen_2_0 := by decide +kernel
theorem dX2_isSeen_2_0 : decode cX2_isSeen_2 0 = .ok (.bipush 10, 2) := dk_16 10 (dk_at dksX2_isSeen_2_0 0 rfl rfl)
theorem dX2_isSeen_2_2 : decode cX2_isSeen_2 2 = .ok (.iload_n 2, 1) := dk_28 (dk_at dksX2_isSeen_2_0 2 rfl rfl)
theorem dX2_isSeen_2_3 : decode cX2_isSeen_2 3 = .ok (.imul, 1) := dk_104 (dk_at dksX2_isSeen_2_0 3 rfl rfl)
theorem dX2_isSeen_2_4 : decode cX2_isSeen_2 4 = .ok (.aload_n 0, 1) := dk_42 (dk_at dksX2_isSeen_2_0 4 rfl rfl)
theorem dX2_isSeen_2_5 : decode cX2_isSeen_2 5 = .ok (.iload_n 1, 1) := dk_27 (dk_at dksX2_isSeen_2_0 5 rfl rfl)
theorem dX2_isSeen_2_6 : decode cX2_isSeen_2 6 = .ok (.bipush 30, 2) := dk_16 30 (dk_at dksX2_isSeen_2_0 6 rfl rfl)
theorem dX2_isSeen_2_8 : decode cX2_isSeen_2 8 = .ok (.idiv, 1) := dk_108 (dk_at dksX2_isSeen_2_0 8 rfl rfl)
theorem dX2_isSeen_2_9 : decode cX2_isSeen_2 9 = .ok (.invokevirtual 72, 3) := dk_182 0 72 (dk_at dksX2_isSeen_2_0 9 rfl rfl)
theorem dX2_isSeen_2_12 : decode cX2_isSeen_2 12 = .ok (.if_icmp .le 7, 3) := dk_164 0 7 (dk_at dksX2_isSeen_2_0 12 rfl rfl)
theorem dX2_isSeen_2_15 : decode cX2_isSeen_2 15 = .ok (.iconst 1, 1) := dk_4 (dk_at dksX2_isSeen_2_0 15 rfl rfl)
theorem dX2_isSeen_2_16 : decode cX2_isSeen_2 16 = .ok (.goto 4, 3) := dk_167 0 4 (dk_at dksX2_isSeen_2_0 16 rfl rfl)
theorem dX2_isSeen_2_19 : decode cX2_isSeen_2 19 = .ok (.iconst 0, 1) := dk_3 (dk_at dksX2_isSeen_2_0 19 rfl rfl)
theorem dX2_isSeen_2_20 : decode cX2_isSeen_2 20 = .ok (.ireturn, 1) := dk_172 (dk_at dksX2_isSeen_2_0 20 rfl rfl)
abbrev cX2_isSeen_3 : ByteArray := prog_3_method_7_code
def yX2_isSeen_3 : MethodName := ⟨RX2, "isSeen", "(LStarConsole$Comet;)Z"⟩
def dkwX2_isSeen_3_1 : List UInt8 := [3, 172]
abbrev dktX2_isSeen_3_1 : List UInt8 := dkwX2_isSeen_3_1 ++ []
def dkwX2_isSeen_3_0 : List UInt8 := [43, 182, 0, 92, 154, 0, 20, 42, 43, 180, 0, 96, 16, 6, 182, 0, 88, 153, 0, 7, 4, 167, 0, 4]
abbrev dktX2_isSeen_3_0 : List UInt8 := dkwX2_isSeen_3_0 ++ dktX2_isSeen_3_1
theorem dksX2_isSeen_3_0 : cX2_isSeen_3.data.toList.drop 0 = dktX2_isSeen_3_0 := by decide +kernel
theorem dksX2_isSeen_3_1 : cX2_isSeen_3.data.toList.drop 24 = dktX2_isSeen_3_1 := dk_seg dksX2_isSeen_3_0 24 rfl rfl
theorem dX2_isSeen_3_0 : decode cX2_isSeen_3 0 = .ok (.aload_n 1, 1) := dk_43 (dk_at dksX2_isSeen_3_0 0 rfl rfl)
theorem dX2_isSeen_3_1 : decode cX2_isSeen_3 1 = .ok (.invokevirtual 92, 3) := dk_182 0 92 (dk_at dksX2_isSeen_3_0 1 rfl rfl)
theorem dX2_isSeen_3_4 : decode cX2_isSeen_3 4 = .ok (.ifCond .ne 20, 3) := dk_154 0 20 (dk_at dksX2_isSeen_3_0 4 rfl rfl)
theorem dX2_isSeen_3_7 : decode cX2_isSeen_3 7 = .ok (.aload_n 0, 1) := dk_42 (dk_at dksX2_isSeen_3_0 7 rfl rfl)
theorem dX2_isSeen_3_8 : decode cX2_isSeen_3 8 = .ok (.aload_n 1, 1) := dk_43 (dk_at dksX2_isSeen_3_0 8 rfl rfl)
theorem dX2_isSeen_3_9 : decode cX2_isSeen_3 9 = .ok (.getfield 96, 3) := dk_180 0 96 (dk_at dksX2_isSeen_3_0 9 rfl rfl)
theorem dX2_isSeen_3_12 : decode cX2_isSeen_3 12 = .ok (.bipush 6, 2) := dk_16 6 (dk_at dksX2_isSeen_3_0 12 rfl rfl)
theorem dX2_isSeen_3_14 : decode cX2_isSeen_3 14 = .ok (.invokevirtual 88, 3) := dk_182 0 88 (dk_at dksX2_isSeen_3_0 14 rfl rfl)
theorem dX2_isSeen_3_17 : decode cX2_isSeen_3 17 = .ok (.ifCond .eq 7, 3) := dk_153 0 7 (dk_at dksX2_isSeen_3_0 17 rfl rfl)
theorem dX2_isSeen_3_20 : decode cX2_isSeen_3 20 = .ok (.iconst 1, 1) := dk_4 (dk_at dksX2_isSeen_3_0 20 rfl rfl)
theorem dX2_isSeen_3_21 : decode cX2_isSeen_3 21 = .ok (.goto 4, 3) := dk_167 0 4 (dk_at dksX2_isSeen_3_0 21 rfl rfl)
theorem dX2_isSeen_3_24 : decode cX2_isSeen_3 24 = .ok (.iconst 0, 1) := dk_3 (dk_at dksX2_isSeen_3_1 0 rfl rfl)
theorem dX2_isSeen_3_25 : decode cX2_isSeen_3 25 = .ok (.ireturn, 1) := dk_172 (dk_at dksX2_isSeen_3_1 1 rfl rfl)
abbrev cX2_pass : ByteArray := prog_3_method_10_code
def yX2_pass : MethodName := ⟨RX2, "pass", "(Ljava/util/List;)I"⟩
def dkwX2_pass_4 : List UInt8 := [180, 0, 26, 4, 96, 181, 0, 26, 28, 172]
abbrev dktX2_pass_4 : List UInt8 := dkwX2_pass_4 ++ []
def dkwX2_pass_3 : List UInt8 := [29, 182, 0, 49, 192, 0, 63, 182, 0, 134, 132, 3, 1, 167, 255, 228, 42, 182, 0, 135, 42, 89]
abbrev dktX2_pass_3 : List UInt8 := dkwX2_pass_3 ++ dktX2_pass_4
def dkwX2_pass_2 : List UInt8 := [96, 184, 0, 78, 181, 0, 36, 3, 62, 29, 42, 180, 0, 22, 182, 0, 45, 162, 0, 23, 42, 180, 0, 22]
abbrev dktX2_pass_2 : List UInt8 := dkwX2_pass_2 ++ dktX2_pass_3
def dkwX2_pass_1 : List UInt8 := [182, 0, 49, 192, 0, 53, 182, 0, 131, 132, 3, 1, 167, 255, 228, 42, 42, 180, 0, 36, 42, 180, 0, 39]
abbrev dktX2_pass_1 : List UInt8 := dkwX2_pass_1 ++ dktX2_pass_2
def dkwX2_pass_0 : List UInt8 := [42, 43, 182, 0, 128, 61, 3, 62, 29, 42, 180, 0, 18, 182, 0, 45, 162, 0, 23, 42, 180, 0, 18, 29]
abbrev dktX2_pass_0 : List UInt8 := dkwX2_pass_0 ++ dktX2_pass_1
theorem dksX2_pass_0 : cX2_pass.data.toList.drop 0 = dktX2_pass_0 := by decide +kernel
theorem dksX2_pass_1 : cX2_pass.data.toList.drop 24 = dktX2_pass_1 := dk_seg dksX2_pass_0 24 rfl rfl
theorem dksX2_pass_2 : cX2_pass.data.toList.drop 48 = dktX2_pass_2 := dk_seg dksX2_pass_1 24 rfl rfl
theorem dksX2_pass_3 : cX2_pass.data.toList.drop 72 = dktX2_pass_3 := dk_seg dksX2_pass_2 24 rfl rfl
theorem dksX2_pass_4 : cX2_pass.data.toList.drop 94 = dktX2_pass_4 := dk_seg dksX2_pass_3 22 rfl rfl
theorem dX2_pass_0 : decode cX2_pass 0 = .ok (.aload_n 0, 1) := dk_42 (dk_at dksX2_pass_0 0 rfl rfl)
theorem dX2_pass_1 : decode cX2_pass 1 = .ok (.aload_n 1, 1) := dk_43 (dk_at dksX2_pass_0 1 rfl rfl)
theorem dX2_pass_2 : decode cX2_pass 2 = .ok (.invokevirtual 128, 3) := dk_182 0 128 (dk_at dksX2_pass_0 2 rfl rfl)
theorem dX2_pass_5 : decode cX2_pass 5 = .ok (.istore_n 2, 1) := dk_61 (dk_at dksX2_pass_0 5 rfl rfl)
theorem dX2_pass_6 : decode cX2_pass 6 = .ok (.iconst 0, 1) := dk_3 (dk_at dksX2_pass_0 6 rfl rfl)
theorem dX2_pass_7 : decode cX2_pass 7 = .ok (.istore_n 3, 1) := dk_62 (dk_at dksX2_pass_0 7 rfl rfl)
theorem dX2_pass_8 : decode cX2_pass 8 = .ok (.iload_n 3, 1) := dk_29 (dk_at dksX2_pass_0 8 rfl rfl)
theorem dX2_pass_9 : decode cX2_pass 9 = .ok (.aload_n 0, 1) := dk_42 (dk_at dksX2_pass_0 9 rfl rfl)
theorem dX2_pass_10 : decode cX2_pass 10 = .ok (.getfield 18, 3) := dk_180 0 18 (dk_at dksX2_pass_0 10 rfl rfl)
theorem dX2_pass_13 : decode cX2_pass 13 = .ok (.invokevirtual 45, 3) := dk_182 0 45 (dk_at dksX2_pass_0 13 rfl rfl)
theorem dX2_pass_16 : decode cX2_pass 16 = .ok (.if_icmp .ge 23, 3) := dk_162 0 23 (dk_at dksX2_pass_0 16 rfl rfl)
theorem dX2_pass_19 : decode cX2_pass 19 = .ok (.aload_n 0, 1) := dk_42 (dk_at dksX2_pass_0 19 rfl rfl)
theorem dX2_pass_20 : decode cX2_pass 20 = .ok (.getfield 18, 3) := dk_180 0 18 (dk_at dksX2_pass_0 20 rfl rfl)
theorem dX2_pass_23 : decode cX2_pass 23 = .ok (.iload_n 3, 1) := dk_29 (dk_at dksX2_pass_0 23 rfl rfl)
theorem dX2_pass_24 : decode cX2_pass 24 = .ok (.invokevirtual 49, 3) := dk_182 0 49 (dk_at dksX2_pass_1 0 rfl rfl)
theorem dX2_pass_27 : decode cX2_pass 27 = .ok (.checkcast 53, 3) := dk_192 0 53 (dk_at dksX2_pass_1 3 rfl rfl)
theorem dX2_pass_30 : decode cX2_pass 30 = .ok (.invokevirtual 131, 3) := dk_182 0 131 (dk_at dksX2_pass_1 6 rfl rfl)
theorem dX2_pass_33 : decode cX2_pass 33 = .ok (.iinc 3 1, 3) := dk_132 3 1 (dk_at dksX2_pass_1 9 rfl rfl)
theorem dX2_pass_36 : decode cX2_pass 36 = .ok (.goto (-28), 3) := dk_167 255 228 (dk_at dksX2_pass_1 12 rfl rfl)
theorem dX2_pass_39 : decode cX2_pass 39 = .ok (.aload_n 0, 1) := dk_42 (dk_at dksX2_pass_1 15 rfl rfl)
theorem dX2_pass_40 : decode cX2_pass 40 = .ok (.aload_n 0, 1) := dk_42 (dk_at dksX2_pass_1 16 rfl rfl)
theorem dX2_pass_41 : decode cX2_pass 41 = .ok (.getfield 36, 3) := dk_180 0 36 (dk_at dksX2_pass_1 17 rfl rfl)
theorem dX2_pass_44 : decode cX2_pass 44 = .ok (.aload_n 0, 1) := dk_42 (dk_at dksX2_pass_1 20 rfl rfl)
theorem dX2_pass_45 : decode cX2_pass 45 = .ok (.getfield 39, 3) := dk_180 0 39 (dk_at dksX2_pass_1 21 rfl rfl)
theorem dX2_pass_48 : decode cX2_pass 48 = .ok (.iadd, 1) := dk_96 (dk_at dksX2_pass_2 0 rfl rfl)
theorem dX2_pass_49 : decode cX2_pass 49 = .ok (.invokestatic 78, 3) := dk_184 0 78 (dk_at dksX2_pass_2 1 rfl rfl)
theorem dX2_pass_52 : decode cX2_pass 52 = .ok (.putfield 36, 3) := dk_181 0 36 (dk_at dksX2_pass_2 4 rfl rfl)
theorem dX2_pass_55 : decode cX2_pass 55 = .ok (.iconst 0, 1) := dk_3 (dk_at dksX2_pass_2 7 rfl rfl)
theorem dX2_pass_56 : decode cX2_pass 56 = .ok (.istore_n 3, 1) := dk_62 (dk_at dksX2_pass_2 8 rfl rfl)
theorem dX2_pass_57 : decode cX2_pass 57 = .ok (.iload_n 3, 1) := dk_29 (dk_at dksX2_pass_2 9 rfl rfl)
theorem dX2_pass_58 : decode cX2_pass 58 = .ok (.aload_n 0, 1) := dk_42 (dk_at dksX2_pass_2 10 rfl rfl)
theorem dX2_pass_59 : decode cX2_pass 59 = .ok (.getfield 22, 3) := dk_180 0 22 (dk_at dksX2_pass_2 11 rfl rfl)
theorem dX2_pass_62 : decode cX2_pass 62 = .ok (.invokevirtual 45, 3) := dk_182 0 45 (dk_at dksX2_pass_2 14 rfl rfl)
theorem dX2_pass_65 : decode cX2_pass 65 = .ok (.if_icmp .ge 23, 3) := dk_162 0 23 (dk_at dksX2_pass_2 17 rfl rfl)
theorem dX2_pass_68 : decode cX2_pass 68 = .ok (.aload_n 0, 1) := dk_42 (dk_at dksX2_pass_2 20 rfl rfl)
theorem dX2_pass_69 : decode cX2_pass 69 = .ok (.getfield 22, 3) := dk_180 0 22 (dk_at dksX2_pass_2 21 rfl rfl)
theorem dX2_pass_72 : decode cX2_pass 72 = .ok (.iload_n 3, 1) := dk_29 (dk_at dksX2_pass_3 0 rfl rfl)
theorem dX2_pass_73 : decode cX2_pass 73 = .ok (.invokevirtual 49, 3) := dk_182 0 49 (dk_at dksX2_pass_3 1 rfl rfl)
theorem dX2_pass_76 : decode cX2_pass 76 = .ok (.checkcast 63, 3) := dk_192 0 63 (dk_at dksX2_pass_3 4 rfl rfl)
theorem dX2_pass_79 : decode cX2_pass 79 = .ok (.invokevirtual 134, 3) := dk_182 0 134 (dk_at dksX2_pass_3 7 rfl rfl)
theorem dX2_pass_82 : decode cX2_pass 82 = .ok (.iinc 3 1, 3) := dk_132 3 1 (dk_at dksX2_pass_3 10 rfl rfl)
theorem dX2_pass_85 : decode cX2_pass 85 = .ok (.goto (-28), 3) := dk_167 255 228 (dk_at dksX2_pass_3 13 rfl rfl)
theorem dX2_pass_88 : decode cX2_pass 88 = .ok (.aload_n 0, 1) := dk_42 (dk_at dksX2_pass_3 16 rfl rfl)
theorem dX2_pass_89 : decode cX2_pass 89 = .ok (.invokevirtual 135, 3) := dk_182 0 135 (dk_at dksX2_pass_3 17 rfl rfl)
theorem dX2_pass_92 : decode cX2_pass 92 = .ok (.aload_n 0, 1) := dk_42 (dk_at dksX2_pass_3 20 rfl rfl)
theorem dX2_pass_93 : decode cX2_pass 93 = .ok (.dup, 1) := dk_89 (dk_at dksX2_pass_3 21 rfl rfl)
theorem dX2_pass_94 : decode cX2_pass 94 = .ok (.getfield 26, 3) := dk_180 0 26 (dk_at dksX2_pass_4 0 rfl rfl)
theorem dX2_pass_97 : decode cX2_pass 97 = .ok (.iconst 1, 1) := dk_4 (dk_at dksX2_pass_4 3 rfl rfl)
theorem dX2_pass_98 : decode cX2_pass 98 = .ok (.iadd, 1) := dk_96 (dk_at dksX2_pass_4 4 rfl rfl)
theorem dX2_pass_99 : decode cX2_pass 99 = .ok (.putfield 26, 3) := dk_181 0 26 (dk_at dksX2_pass_4 5 rfl rfl)
theorem dX2_pass_102 : decode cX2_pass 102 = .ok (.iload_n 2, 1) := dk_28 (dk_at dksX2_pass_4 8 rfl rfl)
theorem dX2_pass_103 : decode cX2_pass 103 = .ok (.ireturn, 1) := dk_172 (dk_at dksX2_pass_4 9 rfl rfl)
abbrev cX2_run : ByteArray := prog_3_method_8_code
def yX2_run : MethodName := ⟨RX2, "run", "(Ljava/util/List;)I"⟩
def dkwX2_run_3 : List UInt8 := [132, 2, 1, 132, 3, 1, 167, 255, 194, 42, 89, 180, 0, 29, 4, 96, 181, 0, 29, 28, 172]
abbrev dktX2_run_3 : List UInt8 := dkwX2_run_3 ++ []
def dkwX2_run_2 : List UInt8 := [167, 0, 25, 25, 4, 182, 0, 106, 42, 25, 4, 182, 0, 110, 25, 4, 182, 0, 113, 182, 0, 116]
abbrev dktX2_run_2 : List UInt8 := dkwX2_run_2 ++ dktX2_run_3
def dkwX2_run_1 : List UInt8 := [29, 185, 0, 100, 2, 0, 192, 0, 101, 58, 4, 25, 4, 182, 0, 103, 42, 180, 0, 29, 159, 0, 6]
abbrev dktX2_run_1 : List UInt8 := dkwX2_run_1 ++ dktX2_run_2
def dkwX2_run_0 : List UInt8 := [42, 180, 0, 32, 154, 0, 5, 3, 172, 3, 61, 3, 62, 29, 43, 185, 0, 97, 1, 0, 162, 0, 58, 43]
abbrev dktX2_run_0 : List UInt8 := dkwX2_run_0 ++ dktX2_run_1
theorem dksX2_run_0 : cX2_run.data.toList.drop 0 = dktX2_run_0 := by decide +kernel
theorem dksX2_run_1 : cX2_run.data.toList.drop 24 = dktX2_run_1 := dk_seg dksX2_run_0 24 rfl rfl
theorem dksX2_run_2 : cX2_run.data.toList.drop 47 = dktX2_run_2 := dk_seg dksX2_run_1 23 rfl rfl
theorem dksX2_run_3 : cX2_run.data.toList.drop 69 = dktX2_run_3 := dk_seg dksX2_run_2 22 rfl rfl
theorem dX2_run_0 : decode cX2_run 0 = .ok (.aload_n 0, 1) := dk_42 (dk_at dksX2_run_0 0 rfl rfl)
theorem dX2_run_1 : decode cX2_run 1 = .ok (.getfield 32, 3) := dk_180 0 32 (dk_at dksX2_run_0 1 rfl rfl)
theorem dX2_run_4 : decode cX2_run 4 = .ok (.ifCond .ne 5, 3) := dk_154 0 5 (dk_at dksX2_run_0 4 rfl rfl)
theorem dX2_run_7 : decode cX2_run 7 = .ok (.iconst 0, 1) := dk_3 (dk_at dksX2_run_0 7 rfl rfl)
theorem dX2_run_8 : decode cX2_run 8 = .ok (.ireturn, 1) := dk_172 (dk_at dksX2_run_0 8 rfl rfl)
theorem dX2_run_9 : decode cX2_run 9 = .ok (.iconst 0, 1) := dk_3 (dk_at dksX2_run_0 9 rfl rfl)
theorem dX2_run_10 : decode cX2_run 10 = .ok (.istore_n 2, 1) := dk_61 (dk_at dksX2_run_0 10 rfl rfl)
theorem dX2_run_11 : decode cX2_run 11 = .ok (.iconst 0, 1) := dk_3 (dk_at dksX2_run_0 11 rfl rfl)
theorem dX2_run_12 : decode cX2_run 12 = .ok (.istore_n 3, 1) := dk_62 (dk_at dksX2_run_0 12 rfl rfl)
theorem dX2_run_13 : decode cX2_run 13 = .ok (.iload_n 3, 1) := dk_29 (dk_at dksX2_run_0 13 rfl rfl)
theorem dX2_run_14 : decode cX2_run 14 = .ok (.aload_n 1, 1) := dk_43 (dk_at dksX2_run_0 14 rfl rfl)
theorem dX2_run_15 : decode cX2_run 15 = .ok (.invokeinterface 97 1, 5) := by decide +kernel
theorem dX2_run_20 : decode cX2_run 20 = .ok (.if_icmp .ge 58, 3) := dk_162 0 58 (dk_at dksX2_run_0 20 rfl rfl)
theorem dX2_run_23 : decode cX2_run 23 = .ok (.aload_n 1, 1) := dk_43 (dk_at dksX2_run_0 23 rfl rfl)
theorem dX2_run_24 : decode cX2_run 24 = .ok (.iload_n 3, 1) := dk_29 (dk_at dksX2_run_1 0 rfl rfl)
theorem dX2_run_25 : decode cX2_run 25 = .ok (.invokeinterface 100 2, 5) := by decide +kernel
theorem dX2_run_30 : decode cX2_run 30 = .ok (.checkcast 101, 3) := dk_192 0 101 (dk_at dksX2_run_1 6 rfl rfl)
theorem dX2_run_33 : decode cX2_run 33 = .ok (.astore 4, 2) := dk_58 4 (dk_at dksX2_run_1 9 rfl rfl)
theorem dX2_run_35 : decode cX2_run 35 = .ok (.aload 4, 2) := dk_25 4 (dk_at dksX2_run_1 11 rfl rfl)
theorem dX2_run_37 : decode cX2_run 37 = .ok (.invokevirtual 103, 3) := dk_182 0 103 (dk_at dksX2_run_1 13 rfl rfl)
theorem dX2_run_40 : decode cX2_run 40 = .ok (.aload_n 0, 1) := dk_42 (dk_at dksX2_run_1 16 rfl rfl)
theorem dX2_run_41 : decode cX2_run 41 = .ok (.getfield 29, 3) := dk_180 0 29 (dk_at dksX2_run_1 17 rfl rfl)
theorem dX2_run_44 : decode cX2_run 44 = .ok (.if_icmp .eq 6, 3) := dk_159 0 6 (dk_at dksX2_run_1 20 rfl rfl)
theorem dX2_run_47 : decode cX2_run 47 = .ok (.goto 25, 3) := dk_167 0 25 (dk_at dksX2_run_2 0 rfl rfl)
theorem dX2_run_50 : decode cX2_run 50 = .ok (.aload 4, 2) := dk_25 4 (dk_at dksX2_run_2 3 rfl rfl)
theorem dX2_run_52 : decode cX2_run 52 = .ok (.invokevirtual 106, 3) := dk_182 0 106 (dk_at dksX2_run_2 5 rfl rfl)
theorem dX2_run_55 : decode cX2_run 55 = .ok (.aload_n 0, 1) := dk_42 (dk_at dksX2_run_2 8 rfl rfl)
theorem dX2_run_56 : decode cX2_run 56 = .ok (.aload 4, 2) := dk_25 4 (dk_at dksX2_run_2 9 rfl rfl)
theorem dX2_run_58 : decode cX2_run 58 = .ok (.invokevirtual 110, 3) := dk_182 0 110 (dk_at dksX2_run_2 11 rfl rfl)
theorem dX2_run_61 : decode cX2_run 61 = .ok (.aload 4, 2) := dk_25 4 (dk_at dksX2_run_2 14 rfl rfl)
theorem dX2_run_63 : decode cX2_run 63 = .ok (.invokevirtual 113, 3) := dk_182 0 113 (dk_at dksX2_run_2 16 rfl rfl)
theorem dX2_run_66 : decode cX2_run 66 = .ok (.invokevirtual 116, 3) := dk_182 0 116 (dk_at dksX2_run_2 19 rfl rfl)
theorem dX2_run_69 : decode cX2_run 69 = .ok (.iinc 2 1, 3) := dk_132 2 1 (dk_at dksX2_run_3 0 rfl rfl)
theorem dX2_run_72 : decode cX2_run 72 = .ok (.iinc 3 1, 3) := dk_132 3 1 (dk_at dksX2_run_3 3 rfl rfl)
theorem dX2_run_75 : decode cX2_run 75 = .ok (.goto (-62), 3) := dk_167 255 194 (dk_at dksX2_run_3 6 rfl rfl)
theorem dX2_run_78 : decode cX2_run 78 = .ok (.aload_n 0, 1) := dk_42 (dk_at dksX2_run_3 9 rfl rfl)
theorem dX2_run_79 : decode cX2_run 79 = .ok (.dup, 1) := dk_89 (dk_at dksX2_run_3 10 rfl rfl)
theorem dX2_run_80 : decode cX2_run 80 = .ok (.getfield 29, 3) := dk_180 0 29 (dk_at dksX2_run_3 11 rfl rfl)
theorem dX2_run_83 : decode cX2_run 83 = .ok (.iconst 1, 1) := dk_4 (dk_at dksX2_run_3 14 rfl rfl)
theorem dX2_run_84 : decode cX2_run 84 = .ok (.iadd, 1) := dk_96 (dk_at dksX2_run_3 15 rfl rfl)
theorem dX2_run_85 : decode cX2_run 85 = .ok (.putfield 29, 3) := dk_181 0 29 (dk_at dksX2_run_3 16 rfl rfl)
theorem dX2_run_88 : decode cX2_run 88 = .ok (.iload_n 2, 1) := dk_28 (dk_at dksX2_run_3 19 rfl rfl)
theorem dX2_run_89 : decode cX2_run 89 = .ok (.ireturn, 1) := dk_172 (dk_at dksX2_run_3 20 rfl rfl)
abbrev cX2_speak : ByteArray := prog_3_method_9_code
def yX2_speak : MethodName := ⟨RX2, "speak", "()V"⟩
def dkwX2_speak_1 : List UInt8 := [181, 0, 9, 177]
abbrev dktX2_speak_1 : List UInt8 := dkwX2_speak_1 ++ []
def dkwX2_speak_0 : List UInt8 := [42, 3, 42, 180, 0, 42, 4, 100, 184, 0, 122, 181, 0, 42, 42, 180, 0, 42, 154, 0, 8, 42, 2]
abbrev dktX2_speak_0 : List UInt8 := dkwX2_speak_0 ++ dktX2_speak_1
theorem dksX2_speak_0 : cX2_speak.data.toList.drop 0 = dktX2_speak_0 := by decide +kernel
theorem dksX2_speak_1 : cX2_speak.data.toList.drop 23 = dktX2_speak_1 := dk_seg dksX2_speak_0 23 rfl rfl
theorem dX2_speak_0 : decode cX2_speak 0 = .ok (.aload_n 0, 1) := dk_42 (dk_at dksX2_speak_0 0 rfl rfl)
theorem dX2_speak_1 : decode cX2_speak 1 = .ok (.iconst 0, 1) := dk_3 (dk_at dksX2_speak_0 1 rfl rfl)
theorem dX2_speak_2 : decode cX2_speak 2 = .ok (.aload_n 0, 1) := dk_42 (dk_at dksX2_speak_0 2 rfl rfl)
theorem dX2_speak_3 : decode cX2_speak 3 = .ok (.getfield 42, 3) := dk_180 0 42 (dk_at dksX2_speak_0 3 rfl rfl)
theorem dX2_speak_6 : decode cX2_speak 6 = .ok (.iconst 1, 1) := dk_4 (dk_at dksX2_speak_0 6 rfl rfl)
theorem dX2_speak_7 : decode cX2_speak 7 = .ok (.isub, 1) := dk_100 (dk_at dksX2_speak_0 7 rfl rfl)
theorem dX2_speak_8 : decode cX2_speak 8 = .ok (.invokestatic 122, 3) := dk_184 0 122 (dk_at dksX2_speak_0 8 rfl rfl)
theorem dX2_speak_11 : decode cX2_speak 11 = .ok (.putfield 42, 3) := dk_181 0 42 (dk_at dksX2_speak_0 11 rfl rfl)
theorem dX2_speak_14 : decode cX2_speak 14 = .ok (.aload_n 0, 1) := dk_42 (dk_at dksX2_speak_0 14 rfl rfl)
theorem dX2_speak_15 : decode cX2_speak 15 = .ok (.getfield 42, 3) := dk_180 0 42 (dk_at dksX2_speak_0 15 rfl rfl)
theorem dX2_speak_18 : decode cX2_speak 18 = .ok (.ifCond .ne 8, 3) := dk_154 0 8 (dk_at dksX2_speak_0 18 rfl rfl)
theorem dX2_speak_21 : decode cX2_speak 21 = .ok (.aload_n 0, 1) := dk_42 (dk_at dksX2_speak_0 21 rfl rfl)
theorem dX2_speak_22 : decode cX2_speak 22 = .ok (.iconst (-1), 1) := dk_2 (dk_at dksX2_speak_0 22 rfl rfl)
theorem dX2_speak_23 : decode cX2_speak 23 = .ok (.putfield 9, 3) := dk_181 0 9 (dk_at dksX2_speak_1 0 rfl rfl)
theorem dX2_speak_26 : decode cX2_speak 26 = .ok (.return_, 1) := dk_177 (dk_at dksX2_speak_1 3 rfl rfl)
abbrev cX2_copy : ByteArray := prog_3_method_2_code
def yX2_copy : MethodName := ⟨RX2, "copy", "()LStarConsole$Console;"⟩
def dkwX2_copy_6 : List UInt8 := [167, 255, 220, 43, 176]
abbrev dktX2_copy_6 : List UInt8 := dkwX2_copy_6 ++ []
def dkwX2_copy_5 : List UInt8 := [180, 0, 22, 42, 180, 0, 22, 28, 182, 0, 49, 192, 0, 63, 182, 0, 65, 182, 0, 59, 87, 132, 2, 1]
abbrev dktX2_copy_5 : List UInt8 := dkwX2_copy_5 ++ dktX2_copy_6
def dkwX2_copy_4 : List UInt8 := [182, 0, 59, 87, 132, 2, 1, 167, 255, 220, 3, 61, 28, 42, 180, 0, 22, 182, 0, 45, 162, 0, 31, 43]
abbrev dktX2_copy_4 : List UInt8 := dkwX2_copy_4 ++ dktX2_copy_5
def dkwX2_copy_3 : List UInt8 := [182, 0, 45, 162, 0, 31, 43, 180, 0, 18, 42, 180, 0, 18, 28, 182, 0, 49, 192, 0, 53, 182, 0, 55]
abbrev dktX2_copy_3 : List UInt8 := dkwX2_copy_3 ++ dktX2_copy_4
def dkwX2_copy_2 : List UInt8 := [43, 42, 180, 0, 9, 181, 0, 9, 43, 42, 180, 0, 42, 181, 0, 42, 3, 61, 28, 42, 180, 0, 18]
abbrev dktX2_copy_2 : List UInt8 := dkwX2_copy_2 ++ dktX2_copy_3
def dkwX2_copy_1 : List UInt8 := [43, 42, 180, 0, 32, 181, 0, 32, 43, 42, 180, 0, 36, 181, 0, 36, 43, 42, 180, 0, 39, 181, 0, 39]
abbrev dktX2_copy_1 : List UInt8 := dkwX2_copy_1 ++ dktX2_copy_2
def dkwX2_copy_0 : List UInt8 := [187, 0, 10, 89, 183, 0, 25, 76, 43, 42, 180, 0, 26, 181, 0, 26, 43, 42, 180, 0, 29, 181, 0, 29]
abbrev dktX2_copy_0 : List UInt8 := dkwX2_copy_0 ++ dktX2_copy_1
theorem dksX2_copy_0 : cX2_copy.data.toList.drop 0 = dktX2_copy_0 := by decide +kernel
theorem dksX2_copy_1 : cX2_copy.data.toList.drop 24 = dktX2_copy_1 := dk_seg dksX2_copy_0 24 rfl rfl
theorem dksX2_copy_2 : cX2_copy.data.toList.drop 48 = dktX2_copy_2 := dk_seg dksX2_copy_1 24 rfl rfl
theorem dksX2_copy_3 : cX2_copy.data.toList.drop 71 = dktX2_copy_3 := dk_seg dksX2_copy_2 23 rfl rfl
theorem dksX2_copy_4 : cX2_copy.data.toList.drop 95 = dktX2_copy_4 := dk_seg dksX2_copy_3 24 rfl rfl
theorem dksX2_copy_5 : cX2_copy.data.toList.drop 119 = dktX2_copy_5 := dk_seg dksX2_copy_4 24 rfl rfl
theorem dksX2_copy_6 : cX2_copy.data.toList.drop 143 = dktX2_copy_6 := dk_seg dksX2_copy_5 24 rfl rfl
theorem dX2_copy_0 : decode cX2_copy 0 = .ok (.new 10, 3) := dk_187 0 10 (dk_at dksX2_copy_0 0 rfl rfl)
theorem dX2_copy_3 : decode cX2_copy 3 = .ok (.dup, 1) := dk_89 (dk_at dksX2_copy_0 3 rfl rfl)
theorem dX2_copy_4 : decode cX2_copy 4 = .ok (.invokespecial 25, 3) := dk_183 0 25 (dk_at dksX2_copy_0 4 rfl rfl)
theorem dX2_copy_7 : decode cX2_copy 7 = .ok (.astore_n 1, 1) := dk_76 (dk_at dksX2_copy_0 7 rfl rfl)
theorem dX2_copy_8 : decode cX2_copy 8 = .ok (.aload_n 1, 1) := dk_43 (dk_at dksX2_copy_0 8 rfl rfl)
theorem dX2_copy_9 : decode cX2_copy 9 = .ok (.aload_n 0, 1) := dk_42 (dk_at dksX2_copy_0 9 rfl rfl)
theorem dX2_copy_10 : decode cX2_copy 10 = .ok (.getfield 26, 3) := dk_180 0 26 (dk_at dksX2_copy_0 10 rfl rfl)
theorem dX2_copy_13 : decode cX2_copy 13 = .ok (.putfield 26, 3) := dk_181 0 26 (dk_at dksX2_copy_0 13 rfl rfl)
theorem dX2_copy_16 : decode cX2_copy 16 = .ok (.aload_n 1, 1) := dk_43 (dk_at dksX2_copy_0 16 rfl rfl)
theorem dX2_copy_17 : decode cX2_copy 17 = .ok (.aload_n 0, 1) := dk_42 (dk_at dksX2_copy_0 17 rfl rfl)
theorem dX2_copy_18 : decode cX2_copy 18 = .ok (.getfield 29, 3) := dk_180 0 29 (dk_at dksX2_copy_0 18 rfl rfl)
theorem dX2_copy_21 : decode cX2_copy 21 = .ok (.putfield 29, 3) := dk_181 0 29 (dk_at dksX2_copy_0 21 rfl rfl)
theorem dX2_copy_24 : decode cX2_copy 24 = .ok (.aload_n 1, 1) := dk_43 (dk_at dksX2_copy_1 0 rfl rfl)
theorem dX2_copy_25 : decode cX2_copy 25 = .ok (.aload_n 0, 1) := dk_42 (dk_at dksX2_copy_1 1 rfl rfl)
theorem dX2_copy_26 : decode cX2_copy 26 = .ok (.getfield 32, 3) := dk_180 0 32 (dk_at dksX2_copy_1 2 rfl rfl)
theorem dX2_copy_29 : decode cX2_copy 29 = .ok (.putfield 32, 3) := dk_181 0 32 (dk_at dksX2_copy_1 5 rfl rfl)
theorem dX2_copy_32 : decode cX2_copy 32 = .ok (.aload_n 1, 1) := dk_43 (dk_at dksX2_copy_1 8 rfl rfl)
theorem dX2_copy_33 : decode cX2_copy 33 = .ok (.aload_n 0, 1) := dk_42 (dk_at dksX2_copy_1 9 rfl rfl)
theorem dX2_copy_34 : decode cX2_copy 34 = .ok (.getfield 36, 3) := dk_180 0 36 (dk_at dksX2_copy_1 10 rfl rfl)
theorem dX2_copy_37 : decode cX2_copy 37 = .ok (.putfield 36, 3) := dk_181 0 36 (dk_at dksX2_copy_1 13 rfl rfl)
theorem dX2_copy_40 : decode cX2_copy 40 = .ok (.aload_n 1, 1) := dk_43 (dk_at dksX2_copy_1 16 rfl rfl)
theorem dX2_copy_41 : decode cX2_copy 41 = .ok (.aload_n 0, 1) := dk_42 (dk_at dksX2_copy_1 17 rfl rfl)
theorem dX2_copy_42 : decode cX2_copy 42 = .ok (.getfield 39, 3) := dk_180 0 39 (dk_at dksX2_copy_1 18 rfl rfl)
theorem dX2_copy_45 : decode cX2_copy 45 = .ok (.putfield 39, 3) := dk_181 0 39 (dk_at dksX2_copy_1 21 rfl rfl)
theorem dX2_copy_48 : decode cX2_copy 48 = .ok (.aload_n 1, 1) := dk_43 (dk_at dksX2_copy_2 0 rfl rfl)
theorem dX2_copy_49 : decode cX2_copy 49 = .ok (.aload_n 0, 1) := dk_42 (dk_at dksX2_copy_2 1 rfl rfl)
theorem dX2_copy_50 : decode cX2_copy 50 = .ok (.getfield 9, 3) := dk_180 0 9 (dk_at dksX2_copy_2 2 rfl rfl)
theorem dX2_copy_53 : decode cX2_copy 53 = .ok (.putfield 9, 3) := dk_181 0 9 (dk_at dksX2_copy_2 5 rfl rfl)
theorem dX2_copy_56 : decode cX2_copy 56 = .ok (.aload_n 1, 1) := dk_43 (dk_at dksX2_copy_2 8 rfl rfl)
theorem dX2_copy_57 : decode cX2_copy 57 = .ok (.aload_n 0, 1) := dk_42 (dk_at dksX2_copy_2 9 rfl rfl)
theorem dX2_copy_58 : decode cX2_copy 58 = .ok (.getfield 42, 3) := dk_180 0 42 (dk_at dksX2_copy_2 10 rfl rfl)
theorem dX2_copy_61 : decode cX2_copy 61 = .ok (.putfield 42, 3) := dk_181 0 42 (dk_at dksX2_copy_2 13 rfl rfl)
theorem dX2_copy_64 : decode cX2_copy 64 = .ok (.iconst 0, 1) := dk_3 (dk_at dksX2_copy_2 16 rfl rfl)
theorem dX2_copy_65 : decode cX2_copy 65 = .ok (.istore_n 2, 1) := dk_61 (dk_at dksX2_copy_2 17 rfl rfl)
theorem dX2_copy_66 : decode cX2_copy 66 = .ok (.iload_n 2, 1) := dk_28 (dk_at dksX2_copy_2 18 rfl rfl)
theorem dX2_copy_67 : decode cX2_copy 67 = .ok (.aload_n 0, 1) := dk_42 (dk_at dksX2_copy_2 19 rfl rfl)
theorem dX2_copy_68 : decode cX2_copy 68 = .ok (.getfield 18, 3) := dk_180 0 18 (dk_at dksX2_copy_2 20 rfl rfl)
theorem dX2_copy_71 : decode cX2_copy 71 = .ok (.invokevirtual 45, 3) := dk_182 0 45 (dk_at dksX2_copy_3 0 rfl rfl)
theorem dX2_copy_74 : decode cX2_copy 74 = .ok (.if_icmp .ge 31, 3) := dk_162 0 31 (dk_at dksX2_copy_3 3 rfl rfl)
theorem dX2_copy_77 : decode cX2_copy 77 = .ok (.aload_n 1, 1) := dk_43 (dk_at dksX2_copy_3 6 rfl rfl)
theorem dX2_copy_78 : decode cX2_copy 78 = .ok (.getfield 18, 3) := dk_180 0 18 (dk_at dksX2_copy_3 7 rfl rfl)
theorem dX2_copy_81 : decode cX2_copy 81 = .ok (.aload_n 0, 1) := dk_42 (dk_at dksX2_copy_3 10 rfl rfl)
theorem dX2_copy_82 : decode cX2_copy 82 = .ok (.getfield 18, 3) := dk_180 0 18 (dk_at dksX2_copy_3 11 rfl rfl)
theorem dX2_copy_85 : decode cX2_copy 85 = .ok (.iload_n 2, 1) := dk_28 (dk_at dksX2_copy_3 14 rfl rfl)
theorem dX2_copy_86 : decode cX2_copy 86 = .ok (.invokevirtual 49, 3) := dk_182 0 49 (dk_at dksX2_copy_3 15 rfl rfl)
theorem dX2_copy_89 : decode cX2_copy 89 = .ok (.checkcast 53, 3) := dk_192 0 53 (dk_at dksX2_copy_3 18 rfl rfl)
theorem dX2_copy_92 : decode cX2_copy 92 = .ok (.invokevirtual 55, 3) := dk_182 0 55 (dk_at dksX2_copy_3 21 rfl rfl)
theorem dX2_copy_95 : decode cX2_copy 95 = .ok (.invokevirtual 59, 3) := dk_182 0 59 (dk_at dksX2_copy_4 0 rfl rfl)
theorem dX2_copy_98 : decode cX2_copy 98 = .ok (.pop, 1) := dk_87 (dk_at dksX2_copy_4 3 rfl rfl)
theorem dX2_copy_99 : decode cX2_copy 99 = .ok (.iinc 2 1, 3) := dk_132 2 1 (dk_at dksX2_copy_4 4 rfl rfl)
theorem dX2_copy_102 : decode cX2_copy 102 = .ok (.goto (-36), 3) := dk_167 255 220 (dk_at dksX2_copy_4 7 rfl rfl)
theorem dX2_copy_105 : decode cX2_copy 105 = .ok (.iconst 0, 1) := dk_3 (dk_at dksX2_copy_4 10 rfl rfl)
theorem dX2_copy_106 : decode cX2_copy 106 = .ok (.istore_n 2, 1) := dk_61 (dk_at dksX2_copy_4 11 rfl rfl)
theorem dX2_copy_107 : decode cX2_copy 107 = .ok (.iload_n 2, 1) := dk_28 (dk_at dksX2_copy_4 12 rfl rfl)
theorem dX2_copy_108 : decode cX2_copy 108 = .ok (.aload_n 0, 1) := dk_42 (dk_at dksX2_copy_4 13 rfl rfl)
theorem dX2_copy_109 : decode cX2_copy 109 = .ok (.getfield 22, 3) := dk_180 0 22 (dk_at dksX2_copy_4 14 rfl rfl)
theorem dX2_copy_112 : decode cX2_copy 112 = .ok (.invokevirtual 45, 3) := dk_182 0 45 (dk_at dksX2_copy_4 17 rfl rfl)
theorem dX2_copy_115 : decode cX2_copy 115 = .ok (.if_icmp .ge 31, 3) := dk_162 0 31 (dk_at dksX2_copy_4 20 rfl rfl)
theorem dX2_copy_118 : decode cX2_copy 118 = .ok (.aload_n 1, 1) := dk_43 (dk_at dksX2_copy_4 23 rfl rfl)
theorem dX2_copy_119 : decode cX2_copy 119 = .ok (.getfield 22, 3) := dk_180 0 22 (dk_at dksX2_copy_5 0 rfl rfl)
theorem dX2_copy_122 : decode cX2_copy 122 = .ok (.aload_n 0, 1) := dk_42 (dk_at dksX2_copy_5 3 rfl rfl)
theorem dX2_copy_123 : decode cX2_copy 123 = .ok (.getfield 22, 3) := dk_180 0 22 (dk_at dksX2_copy_5 4 rfl rfl)
theorem dX2_copy_126 : decode cX2_copy 126 = .ok (.iload_n 2, 1) := dk_28 (dk_at dksX2_copy_5 7 rfl rfl)
theorem dX2_copy_127 : decode cX2_copy 127 = .ok (.invokevirtual 49, 3) := dk_182 0 49 (dk_at dksX2_copy_5 8 rfl rfl)
theorem dX2_copy_130 : decode cX2_copy 130 = .ok (.checkcast 63, 3) := dk_192 0 63 (dk_at dksX2_copy_5 11 rfl rfl)
theorem dX2_copy_133 : decode cX2_copy 133 = .ok (.invokevirtual 65, 3) := dk_182 0 65 (dk_at dksX2_copy_5 14 rfl rfl)
theorem dX2_copy_136 : decode cX2_copy 136 = .ok (.invokevirtual 59, 3) := dk_182 0 59 (dk_at dksX2_copy_5 17 rfl rfl)
theorem dX2_copy_139 : decode cX2_copy 139 = .ok (.pop, 1) := dk_87 (dk_at dksX2_copy_5 20 rfl rfl)
theorem dX2_copy_140 : decode cX2_copy 140 = .ok (.iinc 2 1, 3) := dk_132 2 1 (dk_at dksX2_copy_5 21 rfl rfl)
theorem dX2_copy_143 : decode cX2_copy 143 = .ok (.goto (-36), 3) := dk_167 255 220 (dk_at dksX2_copy_6 0 rfl rfl)
theorem dX2_copy_146 : decode cX2_copy 146 = .ok (.aload_n 1, 1) := dk_43 (dk_at dksX2_copy_6 3 rfl rfl)
theorem dX2_copy_147 : decode cX2_copy 147 = .ok (.areturn, 1) := dk_176 (dk_at dksX2_copy_6 4 rfl rfl)
theorem q35 : (Jvm.Cond.initialized "StarConsole$Console") ∈ lw_all := lw_g (lw_at lw_m1 5 rfl) rfl
theorem q93 : (Jvm.Cond.instantiable "StarConsole$Console" (9 : Nat)) ∈ lw_all := lw_g (lw_at lw_m1 63 rfl) rfl
theorem q95 : (Jvm.Cond.instanceMethod ({ cls := "StarConsole$Console", name := "<init>", desc := "()V" } : Jvm.MethodName)) ∈ lw_all := lw_g (lw_at lw_m1 65 rfl) rfl
theorem q96 : (Jvm.Cond.code ({ cls := "StarConsole$Console", name := "<init>", desc := "()V" } : Jvm.MethodName) prog_3_method_1_code (1 : Nat) (Option.none : Option Jvm.ClassFile.FieldType)) ∈ lw_all := lw_g (lw_at lw_m1 66 rfl) rfl
theorem q97 : (Jvm.Cond.methodLink "StarConsole$Console" (3 : Nat) ({ cls := "java/lang/Object", name := "<init>", desc := "()V" } : Jvm.MethodName)) ∈ lw_all := lw_g (lw_at lw_m1 67 rfl) rfl
theorem q98 : (Jvm.Cond.classLink "StarConsole$Console" (15 : Nat) "java/util/ArrayList") ∈ lw_all := lw_g (lw_at lw_m1 68 rfl) rfl
theorem q99 : (Jvm.Cond.methodLink "StarConsole$Console" (17 : Nat) ({ cls := "java/util/ArrayList", name := "<init>", desc := "()V" } : Jvm.MethodName)) ∈ lw_all := lw_g (lw_at lw_m1 69 rfl) rfl
theorem q100 : (Jvm.Cond.fieldLink "StarConsole$Console" (26 : Nat) "StarConsole$Console" "tick" "I") ∈ lw_all := lw_g (lw_at lw_m1 70 rfl) rfl
theorem q102 : (Jvm.Cond.fieldLink "StarConsole$Console" (29 : Nat) "StarConsole$Console" "clock" "I") ∈ lw_all := lw_g (lw_at lw_m1 72 rfl) rfl
theorem q104 : (Jvm.Cond.fieldLink "StarConsole$Console" (32 : Nat) "StarConsole$Console" "runs" "Z") ∈ lw_all := lw_g (lw_at lw_m1 74 rfl) rfl
theorem q107 : (Jvm.Cond.fieldLink "StarConsole$Console" (36 : Nat) "StarConsole$Console" "angle" "I") ∈ lw_all := lw_g (lw_at lw_m1 77 rfl) rfl
theorem q109 : (Jvm.Cond.fieldLink "StarConsole$Console" (39 : Nat) "StarConsole$Console" "speed" "I") ∈ lw_all := lw_g (lw_at lw_m1 79 rfl) rfl
theorem q112 : (Jvm.Cond.fieldLink "StarConsole$Console" (9 : Nat) "StarConsole$Console" "line" "I") ∈ lw_all := lw_g (lw_at lw_m1 82 rfl) rfl
theorem q115 : (Jvm.Cond.fieldLink "StarConsole$Console" (42 : Nat) "StarConsole$Console" "left" "I") ∈ lw_all := lw_g (lw_at lw_m1 85 rfl) rfl
theorem q118 : (Jvm.Cond.fieldLink "StarConsole$Console" (18 : Nat) "StarConsole$Console" "dimmers" "Ljava/util/ArrayList;") ∈ lw_all := lw_g (lw_at lw_m1 88 rfl) rfl
theorem q121 : (Jvm.Cond.fieldLink "StarConsole$Console" (22 : Nat) "StarConsole$Console" "comets" "Ljava/util/ArrayList;") ∈ lw_all := lw_g (lw_at lw_m1 91 rfl) rfl
theorem q124 : (Jvm.Cond.lays "StarConsole$Console" "StarConsole$Console" "tick" "I") ∈ lw_all := lw_g (lw_at lw_m1 94 rfl) rfl
theorem q125 : (Jvm.Cond.soleField "StarConsole$Console" "tick") ∈ lw_all := lw_g (lw_at lw_m1 95 rfl) rfl
theorem q126 : (Jvm.Cond.lays "StarConsole$Console" "StarConsole$Console" "clock" "I") ∈ lw_all := lw_g (lw_at lw_m1 96 rfl) rfl
theorem q127 : (Jvm.Cond.soleField "StarConsole$Console" "clock") ∈ lw_all := lw_g (lw_at lw_m1 97 rfl) rfl
theorem q128 : (Jvm.Cond.lays "StarConsole$Console" "StarConsole$Console" "runs" "Z") ∈ lw_all := lw_g (lw_at lw_m1 98 rfl) rfl
theorem q129 : (Jvm.Cond.soleField "StarConsole$Console" "runs") ∈ lw_all := lw_g (lw_at lw_m1 99 rfl) rfl
theorem q130 : (Jvm.Cond.lays "StarConsole$Console" "StarConsole$Console" "angle" "I") ∈ lw_all := lw_g (lw_at lw_m1 100 rfl) rfl
theorem q131 : (Jvm.Cond.soleField "StarConsole$Console" "angle") ∈ lw_all := lw_g (lw_at lw_m1 101 rfl) rfl
theorem q132 : (Jvm.Cond.lays "StarConsole$Console" "StarConsole$Console" "speed" "I") ∈ lw_all := lw_g (lw_at lw_m1 102 rfl) rfl
theorem q133 : (Jvm.Cond.soleField "StarConsole$Console" "speed") ∈ lw_all := lw_g (lw_at lw_m1 103 rfl) rfl
theorem q134 : (Jvm.Cond.lays "StarConsole$Console" "StarConsole$Console" "line" "I") ∈ lw_all := lw_g (lw_at lw_m1 104 rfl) rfl
theorem q135 : (Jvm.Cond.soleField "StarConsole$Console" "line") ∈ lw_all := lw_g (lw_at lw_m1 105 rfl) rfl
theorem q136 : (Jvm.Cond.lays "StarConsole$Console" "StarConsole$Console" "left" "I") ∈ lw_all := lw_g (lw_at lw_m1 106 rfl) rfl
theorem q137 : (Jvm.Cond.soleField "StarConsole$Console" "left") ∈ lw_all := lw_g (lw_at lw_m1 107 rfl) rfl
theorem q138 : (Jvm.Cond.laysFinal "StarConsole$Console" "StarConsole$Console" "dimmers" "Ljava/util/ArrayList;") ∈ lw_all := lw_g (lw_at lw_m1 108 rfl) rfl
theorem q139 : (Jvm.Cond.soleField "StarConsole$Console" "dimmers") ∈ lw_all := lw_g (lw_at lw_m1 109 rfl) rfl
theorem q140 : (Jvm.Cond.laysFinal "StarConsole$Console" "StarConsole$Console" "comets" "Ljava/util/ArrayList;") ∈ lw_all := lw_g (lw_at lw_m1 110 rfl) rfl
theorem q141 : (Jvm.Cond.soleField "StarConsole$Console" "comets") ∈ lw_all := lw_g (lw_at lw_m1 111 rfl) rfl
theorem q142 : (Jvm.Cond.superclass "StarConsole$Console" "java/lang/Object") ∈ lw_all := lw_g (lw_at lw_m1 112 rfl) rfl
theorem q189 : (Jvm.Cond.instanceMethod ({ cls := "StarConsole$Console", name := "glare", desc := "(I)I" } : Jvm.MethodName)) ∈ lw_all := lw_g (lw_at lw_m1 159 rfl) rfl
theorem q190 : (Jvm.Cond.selects "StarConsole$Console" ({ cls := "StarConsole$Console", name := "glare", desc := "(I)I" } : Jvm.MethodName) ({ cls := "StarConsole$Console", name := "glare", desc := "(I)I" } : Jvm.MethodName)) ∈ lw_all := lw_g (lw_at lw_m1 160 rfl) rfl
theorem q191 : (Jvm.Cond.code ({ cls := "StarConsole$Console", name := "glare", desc := "(I)I" } : Jvm.MethodName) prog_3_method_3_code (4 : Nat) (Option.some Jvm.ClassFile.FieldType.int)) ∈ lw_all := lw_g (lw_at lw_m1 161 rfl) rfl
theorem q192 : (Jvm.Cond.methodLink "StarConsole$Console" (45 : Nat) ({ cls := "java/util/ArrayList", name := "size", desc := "()I" } : Jvm.MethodName)) ∈ lw_all := lw_g (lw_at lw_m1 162 rfl) rfl
theorem q193 : (Jvm.Cond.methodLink "StarConsole$Console" (49 : Nat) ({ cls := "java/util/ArrayList", name := "get", desc := "(I)Ljava/lang/Object;" } : Jvm.MethodName)) ∈ lw_all := lw_g (lw_at lw_m1 163 rfl) rfl
theorem q194 : (Jvm.Cond.classLink "StarConsole$Console" (53 : Nat) "StarConsole$Dimmer") ∈ lw_all := lw_g (lw_at lw_m1 164 rfl) rfl
theorem q195 : (Jvm.Cond.methodLink "StarConsole$Console" (68 : Nat) ({ cls := "StarConsole$Dimmer", name := "glare", desc := "(I)I" } : Jvm.MethodName)) ∈ lw_all := lw_g (lw_at lw_m1 165 rfl) rfl
theorem q220 : (Jvm.Cond.instanceMethod ({ cls := "StarConsole$Console", name := "isSeen", desc := "(LStarConsole$Star;)Z" } : Jvm.MethodName)) ∈ lw_all := lw_g (lw_at lw_m1 190 rfl) rfl
theorem q221 : (Jvm.Cond.selects "StarConsole$Console" ({ cls := "StarConsole$Console", name := "isSeen", desc := "(LStarConsole$Star;)Z" } : Jvm.MethodName) ({ cls := "StarConsole$Console", name := "isSeen", desc := "(LStarConsole$Star;)Z" } : Jvm.MethodName)) ∈ lw_all := lw_g (lw_at lw_m1 191 rfl) rfl
theorem q222 : (Jvm.Cond.code ({ cls := "StarConsole$Console", name := "isSeen", desc := "(LStarConsole$Star;)Z" } : Jvm.MethodName) prog_3_method_6_code (2 : Nat) (Option.some Jvm.ClassFile.FieldType.boolean)) ∈ lw_all := lw_g (lw_at lw_m1 192 rfl) rfl
theorem q223 : (Jvm.Cond.methodLink "StarConsole$Console" (81 : Nat) ({ cls := "StarConsole$Console", name := "placeOf", desc := "(LStarConsole$Star;)I" } : Jvm.MethodName)) ∈ lw_all := lw_g (lw_at lw_m1 193 rfl) rfl
theorem q224 : (Jvm.Cond.instanceMethod ({ cls := "StarConsole$Console", name := "placeOf", desc := "(LStarConsole$Star;)I" } : Jvm.MethodName)) ∈ lw_all := lw_g (lw_at lw_m1 194 rfl) rfl
theorem q225 : (Jvm.Cond.selects "StarConsole$Console" ({ cls := "StarConsole$Console", name := "placeOf", desc := "(LStarConsole$Star;)I" } : Jvm.MethodName) ({ cls := "StarConsole$Console", name := "placeOf", desc := "(LStarConsole$Star;)I" } : Jvm.MethodName)) ∈ lw_all := lw_g (lw_at lw_m1 195 rfl) rfl
theorem q226 : (Jvm.Cond.code ({ cls := "StarConsole$Console", name := "placeOf", desc := "(LStarConsole$Star;)I" } : Jvm.MethodName) prog_3_method_5_code (2 : Nat) (Option.some Jvm.ClassFile.FieldType.int)) ∈ lw_all := lw_g (lw_at lw_m1 196 rfl) rfl
theorem q227 : (Jvm.Cond.methodLink "StarConsole$Console" (73 : Nat) ({ cls := "StarConsole$Star", name := "degree", desc := "()I" } : Jvm.MethodName)) ∈ lw_all := lw_g (lw_at lw_m1 197 rfl) rfl
theorem q231 : (Jvm.Cond.methodLinkNest "StarConsole$Console" (78 : Nat) ({ cls := "StarConsole", name := "round", desc := "(I)I" } : Jvm.MethodName) "StarConsole") ∈ lw_tbl := lw_at lw_m1 201 rfl
theorem q234 : (Jvm.Cond.methodLink "StarConsole$Console" (85 : Nat) ({ cls := "StarConsole$Star", name := "light", desc := "()I" } : Jvm.MethodName)) ∈ lw_all := lw_g (lw_at lw_m1 204 rfl) rfl
theorem q238 : (Jvm.Cond.methodLink "StarConsole$Console" (88 : Nat) ({ cls := "StarConsole$Console", name := "isSeen", desc := "(II)Z" } : Jvm.MethodName)) ∈ lw_all := lw_g (lw_at lw_m1 208 rfl) rfl
theorem q239 : (Jvm.Cond.instanceMethod ({ cls := "StarConsole$Console", name := "isSeen", desc := "(II)Z" } : Jvm.MethodName)) ∈ lw_all := lw_g (lw_at lw_m1 209 rfl) rfl
theorem q240 : (Jvm.Cond.selects "StarConsole$Console" ({ cls := "StarConsole$Console", name := "isSeen", desc := "(II)Z" } : Jvm.MethodName) ({ cls := "StarConsole$Console", name := "isSeen", desc := "(II)Z" } : Jvm.MethodName)) ∈ lw_all := lw_g (lw_at lw_m1 210 rfl) rfl
theorem q241 : (Jvm.Cond.code ({ cls := "StarConsole$Console", name := "isSeen", desc := "(II)Z" } : Jvm.MethodName) prog_3_method_4_code (3 : Nat) (Option.some Jvm.ClassFile.FieldType.boolean)) ∈ lw_all := lw_g (lw_at lw_m1 211 rfl) rfl
theorem q242 : (Jvm.Cond.methodLink "StarConsole$Console" (72 : Nat) ({ cls := "StarConsole$Console", name := "glare", desc := "(I)I" } : Jvm.MethodName)) ∈ lw_all := lw_g (lw_at lw_m1 212 rfl) rfl
theorem q248 : (Jvm.Cond.instanceMethod ({ cls := "StarConsole$Console", name := "isSeen", desc := "(LStarConsole$Comet;)Z" } : Jvm.MethodName)) ∈ lw_all := lw_g (lw_at lw_m1 218 rfl) rfl
theorem q249 : (Jvm.Cond.selects "StarConsole$Console" ({ cls := "StarConsole$Console", name := "isSeen", desc := "(LStarConsole$Comet;)Z" } : Jvm.MethodName) ({ cls := "StarConsole$Console", name := "isSeen", desc := "(LStarConsole$Comet;)Z" } : Jvm.MethodName)) ∈ lw_all := lw_g (lw_at lw_m1 219 rfl) rfl
theorem q250 : (Jvm.Cond.code ({ cls := "StarConsole$Console", name := "isSeen", desc := "(LStarConsole$Comet;)Z" } : Jvm.MethodName) prog_3_method_7_code (2 : Nat) (Option.some Jvm.ClassFile.FieldType.boolean)) ∈ lw_all := lw_g (lw_at lw_m1 220 rfl) rfl
theorem q251 : (Jvm.Cond.methodLink "StarConsole$Console" (92 : Nat) ({ cls := "StarConsole$Comet", name := "isGone", desc := "()Z" } : Jvm.MethodName)) ∈ lw_all := lw_g (lw_at lw_m1 221 rfl) rfl
theorem q454 : (Jvm.Cond.selects "StarConsole$Console" ({ cls := "java/lang/Object", name := "getClass", desc := "()Ljava/lang/Class;" } : Jvm.MethodName) ({ cls := "java/lang/Object", name := "getClass", desc := "()Ljava/lang/Class;" } : Jvm.MethodName)) ∈ lw_all := lw_g (lw_at lw_m2 184 rfl) rfl
theorem q677 : (Jvm.Cond.instanceMethod ({ cls := "StarConsole$Console", name := "pass", desc := "(Ljava/util/List;)I" } : Jvm.MethodName)) ∈ lw_all := lw_g (lw_at lw_m3 167 rfl) rfl
theorem q678 : (Jvm.Cond.selects "StarConsole$Console" ({ cls := "StarConsole$Console", name := "pass", desc := "(Ljava/util/List;)I" } : Jvm.MethodName) ({ cls := "StarConsole$Console", name := "pass", desc := "(Ljava/util/List;)I" } : Jvm.MethodName)) ∈ lw_all := lw_g (lw_at lw_m3 168 rfl) rfl
theorem q679 : (Jvm.Cond.code ({ cls := "StarConsole$Console", name := "pass", desc := "(Ljava/util/List;)I" } : Jvm.MethodName) prog_3_method_10_code (4 : Nat) (Option.some Jvm.ClassFile.FieldType.int)) ∈ lw_all := lw_g (lw_at lw_m3 169 rfl) rfl
theorem q680 : (Jvm.Cond.methodLink "StarConsole$Console" (128 : Nat) ({ cls := "StarConsole$Console", name := "run", desc := "(Ljava/util/List;)I" } : Jvm.MethodName)) ∈ lw_all := lw_g (lw_at lw_m3 170 rfl) rfl
theorem q681 : (Jvm.Cond.privateMethod ({ cls := "StarConsole$Console", name := "run", desc := "(Ljava/util/List;)I" } : Jvm.MethodName)) ∈ lw_tbl := lw_at lw_m3 171 rfl
theorem q682 : (Jvm.Cond.instanceMethod ({ cls := "StarConsole$Console", name := "run", desc := "(Ljava/util/List;)I" } : Jvm.MethodName)) ∈ lw_all := lw_g (lw_at lw_m3 172 rfl) rfl
theorem q683 : (Jvm.Cond.code ({ cls := "StarConsole$Console", name := "run", desc := "(Ljava/util/List;)I" } : Jvm.MethodName) prog_3_method_8_code (5 : Nat) (Option.some Jvm.ClassFile.FieldType.int)) ∈ lw_all := lw_g (lw_at lw_m3 173 rfl) rfl
theorem q684 : (Jvm.Cond.interfaceEntry "StarConsole$Console" (97 : Nat)) ∈ lw_tbl := lw_at lw_m3 174 rfl
theorem q685 : (Jvm.Cond.methodLink "StarConsole$Console" (97 : Nat) ({ cls := "java/util/List", name := "size", desc := "()I" } : Jvm.MethodName)) ∈ lw_all := lw_g (lw_at lw_m3 175 rfl) rfl
theorem q686 : (Jvm.Cond.interfaceEntry "StarConsole$Console" (100 : Nat)) ∈ lw_tbl := lw_at lw_m3 176 rfl
theorem q687 : (Jvm.Cond.methodLink "StarConsole$Console" (100 : Nat) ({ cls := "java/util/List", name := "get", desc := "(I)Ljava/lang/Object;" } : Jvm.MethodName)) ∈ lw_all := lw_g (lw_at lw_m3 177 rfl) rfl
theorem q688 : (Jvm.Cond.classLink "StarConsole$Console" (101 : Nat) "StarConsole$Cue") ∈ lw_all := lw_g (lw_at lw_m3 178 rfl) rfl
theorem q689 : (Jvm.Cond.methodLink "StarConsole$Console" (103 : Nat) ({ cls := "StarConsole$Cue", name := "time", desc := "()I" } : Jvm.MethodName)) ∈ lw_all := lw_g (lw_at lw_m3 179 rfl) rfl
theorem q690 : (Jvm.Cond.methodLink "StarConsole$Console" (106 : Nat) ({ cls := "StarConsole$Cue", name := "kind", desc := "()LStarConsole$Kind;" } : Jvm.MethodName)) ∈ lw_all := lw_g (lw_at lw_m3 180 rfl) rfl
theorem q691 : (Jvm.Cond.methodLink "StarConsole$Console" (110 : Nat) ({ cls := "StarConsole$Cue", name := "a", desc := "()I" } : Jvm.MethodName)) ∈ lw_all := lw_g (lw_at lw_m3 181 rfl) rfl
theorem q692 : (Jvm.Cond.methodLink "StarConsole$Console" (113 : Nat) ({ cls := "StarConsole$Cue", name := "b", desc := "()I" } : Jvm.MethodName)) ∈ lw_all := lw_g (lw_at lw_m3 182 rfl) rfl
theorem q693 : (Jvm.Cond.methodLink "StarConsole$Console" (116 : Nat) ({ cls := "StarConsole$Kind", name := "run", desc := "(LStarConsole$Console;II)V" } : Jvm.MethodName)) ∈ lw_all := lw_g (lw_at lw_m3 183 rfl) rfl
theorem q717 : (Jvm.Cond.fieldLinkNest "StarConsole$Console" (96 : Nat) "StarConsole$Comet" "angle" "I" "StarConsole") ∈ lw_tbl := lw_at lw_m3 207 rfl
theorem q735 : (Jvm.Cond.methodLink "StarConsole$Console" (131 : Nat) ({ cls := "StarConsole$Dimmer", name := "pass", desc := "()V" } : Jvm.MethodName)) ∈ lw_all := lw_g (lw_at lw_m3 225 rfl) rfl
theorem q741 : (Jvm.Cond.classLink "StarConsole$Console" (63 : Nat) "StarConsole$Comet") ∈ lw_all := lw_g (lw_at lw_m3 231 rfl) rfl
theorem q742 : (Jvm.Cond.methodLink "StarConsole$Console" (134 : Nat) ({ cls := "StarConsole$Comet", name := "pass", desc := "()V" } : Jvm.MethodName)) ∈ lw_all := lw_g (lw_at lw_m3 232 rfl) rfl
theorem q748 : (Jvm.Cond.methodLink "StarConsole$Console" (135 : Nat) ({ cls := "StarConsole$Console", name := "speak", desc := "()V" } : Jvm.MethodName)) ∈ lw_all := lw_g (lw_at lw_m3 238 rfl) rfl
theorem q749 : (Jvm.Cond.privateMethod ({ cls := "StarConsole$Console", name := "speak", desc := "()V" } : Jvm.MethodName)) ∈ lw_tbl := lw_at lw_m3 239 rfl
theorem q750 : (Jvm.Cond.instanceMethod ({ cls := "StarConsole$Console", name := "speak", desc := "()V" } : Jvm.MethodName)) ∈ lw_all := lw_g (lw_at lw_m4 0 rfl) rfl
theorem q751 : (Jvm.Cond.code ({ cls := "StarConsole$Console", name := "speak", desc := "()V" } : Jvm.MethodName) prog_3_method_9_code (1 : Nat) (Option.none : Option Jvm.ClassFile.FieldType)) ∈ lw_all := lw_g (lw_at lw_m4 1 rfl) rfl
theorem q752 : (Jvm.Cond.methodLink "StarConsole$Console" (122 : Nat) ({ cls := "java/lang/Math", name := "max", desc := "(II)I" } : Jvm.MethodName)) ∈ lw_all := lw_g (lw_at lw_m4 2 rfl) rfl
theorem q809 : (Jvm.Cond.instanceMethod ({ cls := "StarConsole$Console", name := "copy", desc := "()LStarConsole$Console;" } : Jvm.MethodName)) ∈ lw_all := lw_g (lw_at lw_m4 59 rfl) rfl
theorem q810 : (Jvm.Cond.selects "StarConsole$Console" ({ cls := "StarConsole$Console", name := "copy", desc := "()LStarConsole$Console;" } : Jvm.MethodName) ({ cls := "StarConsole$Console", name := "copy", desc := "()LStarConsole$Console;" } : Jvm.MethodName)) ∈ lw_all := lw_g (lw_at lw_m4 60 rfl) rfl
theorem q811 : (Jvm.Cond.code ({ cls := "StarConsole$Console", name := "copy", desc := "()LStarConsole$Console;" } : Jvm.MethodName) prog_3_method_2_code (3 : Nat) (Option.some (Jvm.ClassFile.FieldType.object "StarConsole$Console"))) ∈ lw_all := lw_g (lw_at lw_m4 61 rfl) rfl
theorem q812 : (Jvm.Cond.classLink "StarConsole$Console" (10 : Nat) "StarConsole$Console") ∈ lw_all := lw_g (lw_at lw_m4 62 rfl) rfl
theorem q813 : (Jvm.Cond.methodLink "StarConsole$Console" (25 : Nat) ({ cls := "StarConsole$Console", name := "<init>", desc := "()V" } : Jvm.MethodName)) ∈ lw_all := lw_g (lw_at lw_m4 63 rfl) rfl
theorem q814 : (Jvm.Cond.methodLink "StarConsole$Console" (55 : Nat) ({ cls := "StarConsole$Dimmer", name := "copy", desc := "()LStarConsole$Dimmer;" } : Jvm.MethodName)) ∈ lw_all := lw_g (lw_at lw_m4 64 rfl) rfl
theorem q820 : (Jvm.Cond.methodLink "StarConsole$Console" (59 : Nat) ({ cls := "java/util/ArrayList", name := "add", desc := "(Ljava/lang/Object;)Z" } : Jvm.MethodName)) ∈ lw_all := lw_g (lw_at lw_m4 70 rfl) rfl
theorem q821 : (Jvm.Cond.methodLink "StarConsole$Console" (65 : Nat) ({ cls := "StarConsole$Comet", name := "copy", desc := "()LStarConsole$Comet;" } : Jvm.MethodName)) ∈ lw_all := lw_g (lw_at lw_m4 71 rfl) rfl
theorem q1049 : (Jvm.Cond.castable "StarConsole$Console" "java/lang/Object") ∈ lw_tbl := lw_at lw_m5 59 rfl
theorem in_X2 : ∀ w ∈ wsX20, w ∈ lw_all := lw_in wsX20 [124, 126, 128, 130, 132, 134, 136, 138, 140] (by decide +kernel) (by decide +kernel)

