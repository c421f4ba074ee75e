set_option maxRecDepth 100000
/-! StarConsole -/
def RX1 : String := "StarConsole"
def TX1 : u_T := fun k => match k with
  | 0 => ("StarConsole", "cues", "Ljava/util/ArrayList;", true)
  | 1 => ("StarConsole", "stars", "Ljava/util/ArrayList;", true)
  | _ => ("StarConsole", "console", "LStarConsole$Console;", true)
def tyX1 : Nat → FieldType := fun k => match k with
  | 0 => .object "java/util/ArrayList"
  | 1 => .object "java/util/ArrayList"
  | _ => .object "StarConsole$Console"
abbrev wsX10 : List Cond := u_ws RX1 TX1 3
theorem nmX1 : ∀ a, a < 3 → ∀ b, b < 3 → a ≠ b → (TX1 a).2.1 ≠ (TX1 b).2.1 := by decide +kernel
theorem tyX1_ok : ∀ k, k < 3 → parseFieldDescriptor (TX1 k).2.2.1 = some (tyX1 k) := by decide +kernel
abbrev cX1_init : ByteArray := prog_1_method_8_code
def yX1_init : MethodName := ⟨RX1, "<init>", "()V"⟩
def dkwX1_init_1 : List UInt8 := [181, 0, 47, 42, 187, 0, 50, 89, 183, 0, 52, 181, 0, 53, 177]
abbrev dktX1_init_1 : List UInt8 := dkwX1_init_1 ++ []
def dkwX1_init_0 : List UInt8 := [42, 183, 0, 37, 42, 187, 0, 40, 89, 183, 0, 42, 181, 0, 43, 42, 187, 0, 40, 89, 183, 0, 42]
abbrev dktX1_init_0 : List UInt8 := dkwX1_init_0 ++ dktX1_init_1
theorem dksX1_init_0 : cX1_init.data.toList.drop 0 = dktX1_init_0 := by decide +kernel
theorem dksX1_init_1 : cX1_init.data.toList.drop 23 = dktX1_init_1 := dk_seg dksX1_init_0 23 rfl rfl
theorem dX1_init_0 : decode cX1_init 0 = .ok (.aload_n 0, 1) := dk_42 (dk_at dksX1_init_0 0 rfl rfl)
theorem dX1_init_1 : decode cX1_init 1 = .ok (.invokespecial 37, 3) := dk_183 0 37 (dk_at dksX1_init_0 1 rfl rfl)
theorem dX1_init_4 : decode cX1_init 4 = .ok (.aload_n 0, 1) := dk_42 (dk_at dksX1_init_0 4 rfl rfl)
theorem dX1_init_5 : decode cX1_init 5 = .ok (.new 40, 3) := dk_187 0 40 (dk_at dksX1_init_0 5 rfl rfl)
theorem dX1_init_8 : decode cX1_init 8 = .ok (.dup, 1) := dk_89 (dk_at dksX1_init_0 8 rfl rfl)
theorem dX1_init_9 : decode cX1_init 9 = .ok (.invokespecial 42, 3) := dk_183 0 42 (dk_at dksX1_init_0 9 rfl rfl)
theorem dX1_init_12 : decode cX1_init 12 = .ok (.putfield 43, 3) := dk_181 0 43 (dk_at dksX1_init_0 12 rfl rfl)
theorem dX1_init_15 : decode cX1_init 15 = .ok (.aload_n 0, 1) := dk_42 (dk_at dksX1_init_0 15 rfl rfl)
theorem dX1_init_16 : decode cX1_init 16 = .ok (.new 40, 3) := dk_187 0 40 (dk_at dksX1_init_0 16 rfl rfl)
theorem dX1_init_19 : decode cX1_init 19 = .ok (.dup, 1) := dk_89 (dk_at dksX1_init_0 19 rfl rfl)
theorem dX1_init_20 : decode cX1_init 20 = .ok (.invokespecial 42, 3) := dk_183 0 42 (dk_at dksX1_init_0 20 rfl rfl)
theorem dX1_init_23 : decode cX1_init 23 = .ok (.putfield 47, 3) := dk_181 0 47 (dk_at dksX1_init_1 0 rfl rfl)
theorem dX1_init_26 : decode cX1_init 26 = .ok (.aload_n 0, 1) := dk_42 (dk_at dksX1_init_1 3 rfl rfl)
theorem dX1_init_27 : decode cX1_init 27 = .ok (.new 50, 3) := dk_187 0 50 (dk_at dksX1_init_1 4 rfl rfl)
theorem dX1_init_30 : decode cX1_init 30 = .ok (.dup, 1) := dk_89 (dk_at dksX1_init_1 7 rfl rfl)
theorem dX1_init_31 : decode cX1_init 31 = .ok (.invokespecial 52, 3) := dk_183 0 52 (dk_at dksX1_init_1 8 rfl rfl)
theorem dX1_init_34 : decode cX1_init 34 = .ok (.putfield 53, 3) := dk_181 0 53 (dk_at dksX1_init_1 11 rfl rfl)
theorem dX1_init_37 : decode cX1_init 37 = .ok (.return_, 1) := dk_177 (dk_at dksX1_init_1 14 rfl rfl)
abbrev cX1_run : ByteArray := prog_1_method_13_code
def yX1_run : MethodName := ⟨RX1, "run", "()Z"⟩
def dkwX1_run_1 : List UInt8 := [180, 0, 53, 180, 0, 107, 172]
abbrev dktX1_run_1 : List UInt8 := dkwX1_run_1 ++ []
def dkwX1_run_0 : List UInt8 := [42, 180, 0, 53, 42, 180, 0, 53, 180, 0, 107, 154, 0, 7, 4, 167, 0, 4, 3, 181, 0, 107, 42]
abbrev dktX1_run_0 : List UInt8 := dkwX1_run_0 ++ dktX1_run_1
theorem dksX1_run_0 : cX1_run.data.toList.drop 0 = dktX1_run_0 := by decide +kernel
theorem dksX1_run_1 : cX1_run.data.toList.drop 23 = dktX1_run_1 := dk_seg dksX1_run_0 23 rfl rfl
theorem dX1_run_0 : decode cX1_run 0 = .ok (.aload_n 0, 1) := dk_42 (dk_at dksX1_run_0 0 rfl rfl)
theorem dX1_run_1 : decode cX1_run 1 = .ok (.getfield 53, 3) := dk_180 0 53 (dk_at dksX1_run_0 1 rfl rfl)
theorem dX1_run_4 : decode cX1_run 4 = .ok (.aload_n 0, 1) := dk_42 (dk_at dksX1_run_0 4 rfl rfl)
theorem dX1_run_5 : decode cX1_run 5 = .ok (.getfield 53, 3) := dk_180 0 53 (dk_at dksX1_run_0 5 rfl rfl)
theorem dX1_run_8 : decode cX1_run 8 = .ok (.getfield 107, 3) := dk_180 0 107 (dk_at dksX1_run_0 8 rfl rfl)
theorem dX1_run_11 : decode cX1_run 11 = .ok (.ifCond .ne 7, 3) := dk_154 0 7 (dk_at dksX1_run_0 11 rfl rfl)
theorem dX1_run_14 : decode cX1_run 14 = .ok (.iconst 1, 1) := dk_4 (dk_at dksX1_run_0 14 rfl rfl)
theorem dX1_run_15 : decode cX1_run 15 = .ok (.goto 4, 3) := dk_167 0 4 (dk_at dksX1_run_0 15 rfl rfl)
theorem dX1_run_18 : decode cX1_run 18 = .ok (.iconst 0, 1) := dk_3 (dk_at dksX1_run_0 18 rfl rfl)
theorem dX1_run_19 : decode cX1_run 19 = .ok (.putfield 107, 3) := dk_181 0 107 (dk_at dksX1_run_0 19 rfl rfl)
theorem dX1_run_22 : decode cX1_run 22 = .ok (.aload_n 0, 1) := dk_42 (dk_at dksX1_run_0 22 rfl rfl)
theorem dX1_run_23 : decode cX1_run 23 = .ok (.getfield 53, 3) := dk_180 0 53 (dk_at dksX1_run_1 0 rfl rfl)
theorem dX1_run_26 : decode cX1_run 26 = .ok (.getfield 107, 3) := dk_180 0 107 (dk_at dksX1_run_1 3 rfl rfl)
theorem dX1_run_29 : decode cX1_run 29 = .ok (.ireturn, 1) := dk_172 (dk_at dksX1_run_1 6 rfl rfl)
abbrev cX1_next : ByteArray := prog_1_method_29_code
def yX1_next : MethodName := ⟨RX1, "next", "()I"⟩
def dkwX1_next_3 : List UInt8 := [182, 0, 200, 162, 0, 5, 28, 60, 132, 2, 1, 167, 255, 180, 27, 172]
abbrev dktX1_next_3 : List UInt8 := dkwX1_next_3 ++ []
def dkwX1_next_2 : List UInt8 := [180, 0, 43, 28, 182, 0, 180, 192, 0, 102, 182, 0, 200, 42, 180, 0, 43, 27, 182, 0, 180, 192, 0, 102]
abbrev dktX1_next_2 : List UInt8 := dkwX1_next_2 ++ dktX1_next_3
def dkwX1_next_1 : List UInt8 := [192, 0, 102, 182, 0, 200, 42, 180, 0, 53, 180, 0, 111, 161, 0, 41, 27, 2, 159, 0, 34, 42]
abbrev dktX1_next_1 : List UInt8 := dkwX1_next_1 ++ dktX1_next_2
def dkwX1_next_0 : List UInt8 := [2, 60, 3, 61, 28, 42, 180, 0, 43, 182, 0, 64, 162, 0, 71, 42, 180, 0, 43, 28, 182, 0, 180]
abbrev dktX1_next_0 : List UInt8 := dkwX1_next_0 ++ dktX1_next_1
theorem dksX1_next_0 : cX1_next.data.toList.drop 0 = dktX1_next_0 := by decide +kernel
theorem dksX1_next_1 : cX1_next.data.toList.drop 23 = dktX1_next_1 := dk_seg dksX1_next_0 23 rfl rfl
theorem dksX1_next_2 : cX1_next.data.toList.drop 45 = dktX1_next_2 := dk_seg dksX1_next_1 22 rfl rfl
theorem dksX1_next_3 : cX1_next.data.toList.drop 69 = dktX1_next_3 := dk_seg dksX1_next_2 24 rfl rfl
theorem dX1_next_0 : decode cX1_next 0 = .ok (.iconst (-1), 1) := dk_2 (dk_at dksX1_next_0 0 rfl rfl)
theorem dX1_next_1 : decode cX1_next 1 = .ok (.istore_n 1, 1) := dk_60 (dk_at dksX1_next_0 1 rfl rfl)
theorem dX1_next_2 : decode cX1_next 2 = .ok (.iconst 0, 1) := dk_3 (dk_at dksX1_next_0 2 rfl rfl)
theorem dX1_next_3 : decode cX1_next 3 = .ok (.istore_n 2, 1) := dk_61 (dk_at dksX1_next_0 3 rfl rfl)
theorem dX1_next_4 : decode cX1_next 4 = .ok (.iload_n 2, 1) := dk_28 (dk_at dksX1_next_0 4 rfl rfl)
theorem dX1_next_5 : decode cX1_next 5 = .ok (.aload_n 0, 1) := dk_42 (dk_at dksX1_next_0 5 rfl rfl)
theorem dX1_next_6 : decode cX1_next 6 = .ok (.getfield 43, 3) := dk_180 0 43 (dk_at dksX1_next_0 6 rfl rfl)
theorem dX1_next_9 : decode cX1_next 9 = .ok (.invokevirtual 64, 3) := dk_182 0 64 (dk_at dksX1_next_0 9 rfl rfl)
theorem dX1_next_12 : decode cX1_next 12 = .ok (.if_icmp .ge 71, 3) := dk_162 0 71 (dk_at dksX1_next_0 12 rfl rfl)
theorem dX1_next_15 : decode cX1_next 15 = .ok (.aload_n 0, 1) := dk_42 (dk_at dksX1_next_0 15 rfl rfl)
theorem dX1_next_16 : decode cX1_next 16 = .ok (.getfield 43, 3) := dk_180 0 43 (dk_at dksX1_next_0 16 rfl rfl)
theorem dX1_next_19 : decode cX1_next 19 = .ok (.iload_n 2, 1) := dk_28 (dk_at dksX1_next_0 19 rfl rfl)
theorem dX1_next_20 : decode cX1_next 20 = .ok (.invokevirtual 180, 3) := dk_182 0 180 (dk_at dksX1_next_0 20 rfl rfl)
theorem dX1_next_23 : decode cX1_next 23 = .ok (.checkcast 102, 3) := dk_192 0 102 (dk_at dksX1_next_1 0 rfl rfl)
theorem dX1_next_26 : decode cX1_next 26 = .ok (.invokevirtual 200, 3) := dk_182 0 200 (dk_at dksX1_next_1 3 rfl rfl)
theorem dX1_next_29 : decode cX1_next 29 = .ok (.aload_n 0, 1) := dk_42 (dk_at dksX1_next_1 6 rfl rfl)
theorem dX1_next_30 : decode cX1_next 30 = .ok (.getfield 53, 3) := dk_180 0 53 (dk_at dksX1_next_1 7 rfl rfl)
theorem dX1_next_33 : decode cX1_next 33 = .ok (.getfield 111, 3) := dk_180 0 111 (dk_at dksX1_next_1 10 rfl rfl)
theorem dX1_next_36 : decode cX1_next 36 = .ok (.if_icmp .lt 41, 3) := dk_161 0 41 (dk_at dksX1_next_1 13 rfl rfl)
theorem dX1_next_39 : decode cX1_next 39 = .ok (.iload_n 1, 1) := dk_27 (dk_at dksX1_next_1 16 rfl rfl)
theorem dX1_next_40 : decode cX1_next 40 = .ok (.iconst (-1), 1) := dk_2 (dk_at dksX1_next_1 17 rfl rfl)
theorem dX1_next_41 : decode cX1_next 41 = .ok (.if_icmp .eq 34, 3) := dk_159 0 34 (dk_at dksX1_next_1 18 rfl rfl)
theorem dX1_next_44 : decode cX1_next 44 = .ok (.aload_n 0, 1) := dk_42 (dk_at dksX1_next_1 21 rfl rfl)
theorem dX1_next_45 : decode cX1_next 45 = .ok (.getfield 43, 3) := dk_180 0 43 (dk_at dksX1_next_2 0 rfl rfl)
theorem dX1_next_48 : decode cX1_next 48 = .ok (.iload_n 2, 1) := dk_28 (dk_at dksX1_next_2 3 rfl rfl)
theorem dX1_next_49 : decode cX1_next 49 = .ok (.invokevirtual 180, 3) := dk_182 0 180 (dk_at dksX1_next_2 4 rfl rfl)
theorem dX1_next_52 : decode cX1_next 52 = .ok (.checkcast 102, 3) := dk_192 0 102 (dk_at dksX1_next_2 7 rfl rfl)
theorem dX1_next_55 : decode cX1_next 55 = .ok (.invokevirtual 200, 3) := dk_182 0 200 (dk_at dksX1_next_2 10 rfl rfl)
theorem dX1_next_58 : decode cX1_next 58 = .ok (.aload_n 0, 1) := dk_42 (dk_at dksX1_next_2 13 rfl rfl)
theorem dX1_next_59 : decode cX1_next 59 = .ok (.getfield 43, 3) := dk_180 0 43 (dk_at dksX1_next_2 14 rfl rfl)
theorem dX1_next_62 : decode cX1_next 62 = .ok (.iload_n 1, 1) := dk_27 (dk_at dksX1_next_2 17 rfl rfl)
theorem dX1_next_63 : decode cX1_next 63 = .ok (.invokevirtual 180, 3) := dk_182 0 180 (dk_at dksX1_next_2 18 rfl rfl)
theorem dX1_next_66 : decode cX1_next 66 = .ok (.checkcast 102, 3) := dk_192 0 102 (dk_at dksX1_next_2 21 rfl rfl)
theorem dX1_next_69 : decode cX1_next 69 = .ok (.invokevirtual 200, 3) := dk_182 0 200 (dk_at dksX1_next_3 0 rfl rfl)
theorem dX1_next_72 : decode cX1_next 72 = .ok (.if_icmp .ge 5, 3) := dk_162 0 5 (dk_at dksX1_next_3 3 rfl rfl)
theorem dX1_next_75 : decode cX1_next 75 = .ok (.iload_n 2, 1) := dk_28 (dk_at dksX1_next_3 6 rfl rfl)
theorem dX1_next_76 : decode cX1_next 76 = .ok (.istore_n 1, 1) := dk_60 (dk_at dksX1_next_3 7 rfl rfl)
theorem dX1_next_77 : decode cX1_next 77 = .ok (.iinc 2 1, 3) := dk_132 2 1 (dk_at dksX1_next_3 8 rfl rfl)
theorem dX1_next_80 : decode cX1_next 80 = .ok (.goto (-76), 3) := dk_167 255 180 (dk_at dksX1_next_3 11 rfl rfl)
theorem dX1_next_83 : decode cX1_next 83 = .ok (.iload_n 1, 1) := dk_27 (dk_at dksX1_next_3 14 rfl rfl)
theorem dX1_next_84 : decode cX1_next 84 = .ok (.ireturn, 1) := dk_172 (dk_at dksX1_next_3 15 rfl rfl)
abbrev cX1_darkest : ByteArray := prog_1_method_35_code
def yX1_darkest : MethodName := ⟨RX1, "darkest", "()I"⟩
def dkwX1_darkest_1 : List UInt8 := [182, 0, 137, 162, 0, 5, 28, 60, 132, 2, 1, 167, 255, 226, 27, 172]
abbrev dktX1_darkest_1 : List UInt8 := dkwX1_darkest_1 ++ []
def dkwX1_darkest_0 : List UInt8 := [3, 60, 4, 61, 28, 16, 12, 162, 0, 30, 42, 180, 0, 53, 28, 182, 0, 137, 42, 180, 0, 53, 27]
abbrev dktX1_darkest_0 : List UInt8 := dkwX1_darkest_0 ++ dktX1_darkest_1
theorem dksX1_darkest_0 : cX1_darkest.data.toList.drop 0 = dktX1_darkest_0 := by decide +kernel
theorem dksX1_darkest_1 : cX1_darkest.data.toList.drop 23 = dktX1_darkest_1 := dk_seg dksX1_darkest_0 23 rfl rfl
theorem dX1_darkest_0 : decode cX1_darkest 0 = .ok (.iconst 0, 1) := dk_3 (dk_at dksX1_darkest_0 0 rfl rfl)
theorem dX1_darkest_1 : decode cX1_darkest 1 = .ok (.istore_n 1, 1) := dk_60 (dk_at dksX1_darkest_0 1 rfl rfl)
theorem dX1_darkest_2 : decode cX1_darkest 2 = .ok (.iconst 1, 1) := dk_4 (dk_at dksX1_darkest_0 2 rfl rfl)
theorem dX1_darkest_3 : decode cX1_darkest 3 = .ok (.istore_n 2, 1) := dk_61 (dk_at dksX1_darkest_0 3 rfl rfl)
theorem dX1_darkest_4 : decode cX1_darkest 4 = .ok (.iload_n 2, 1) := dk_28 (dk_at dksX1_darkest_0 4 rfl rfl)
theorem dX1_darkest_5 : decode cX1_darkest 5 = .ok (.bipush 12, 2) := dk_16 12 (dk_at dksX1_darkest_0 5 rfl rfl)
theorem dX1_darkest_7 : decode cX1_darkest 7 = .ok (.if_icmp .ge 30, 3) := dk_162 0 30 (dk_at dksX1_darkest_0 7 rfl rfl)
theorem dX1_darkest_10 : decode cX1_darkest 10 = .ok (.aload_n 0, 1) := dk_42 (dk_at dksX1_darkest_0 10 rfl rfl)
theorem dX1_darkest_11 : decode cX1_darkest 11 = .ok (.getfield 53, 3) := dk_180 0 53 (dk_at dksX1_darkest_0 11 rfl rfl)
theorem dX1_darkest_14 : decode cX1_darkest 14 = .ok (.iload_n 2, 1) := dk_28 (dk_at dksX1_darkest_0 14 rfl rfl)
theorem dX1_darkest_15 : decode cX1_darkest 15 = .ok (.invokevirtual 137, 3) := dk_182 0 137 (dk_at dksX1_darkest_0 15 rfl rfl)
theorem dX1_darkest_18 : decode cX1_darkest 18 = .ok (.aload_n 0, 1) := dk_42 (dk_at dksX1_darkest_0 18 rfl rfl)
theorem dX1_darkest_19 : decode cX1_darkest 19 = .ok (.getfield 53, 3) := dk_180 0 53 (dk_at dksX1_darkest_0 19 rfl rfl)
theorem dX1_darkest_22 : decode cX1_darkest 22 = .ok (.iload_n 1, 1) := dk_27 (dk_at dksX1_darkest_0 22 rfl rfl)
theorem dX1_darkest_23 : decode cX1_darkest 23 = .ok (.invokevirtual 137, 3) := dk_182 0 137 (dk_at dksX1_darkest_1 0 rfl rfl)
theorem dX1_darkest_26 : decode cX1_darkest 26 = .ok (.if_icmp .ge 5, 3) := dk_162 0 5 (dk_at dksX1_darkest_1 3 rfl rfl)
theorem dX1_darkest_29 : decode cX1_darkest 29 = .ok (.iload_n 2, 1) := dk_28 (dk_at dksX1_darkest_1 6 rfl rfl)
theorem dX1_darkest_30 : decode cX1_darkest 30 = .ok (.istore_n 1, 1) := dk_60 (dk_at dksX1_darkest_1 7 rfl rfl)
theorem dX1_darkest_31 : decode cX1_darkest 31 = .ok (.iinc 2 1, 3) := dk_132 2 1 (dk_at dksX1_darkest_1 8 rfl rfl)
theorem dX1_darkest_34 : decode cX1_darkest 34 = .ok (.goto (-30), 3) := dk_167 255 226 (dk_at dksX1_darkest_1 11 rfl rfl)
theorem dX1_darkest_37 : decode cX1_darkest 37 = .ok (.iload_n 1, 1) := dk_27 (dk_at dksX1_darkest_1 14 rfl rfl)
theorem dX1_darkest_38 : decode cX1_darkest 38 = .ok (.ireturn, 1) := dk_172 (dk_at dksX1_darkest_1 15 rfl rfl)
abbrev cX1_mean : ByteArray := prog_1_method_36_code
def yX1_mean : MethodName := ⟨RX1, "mean", "()D"⟩
def dkwX1_mean_1 : List UInt8 := [167, 255, 236, 27, 135, 20, 0, 222, 111, 175]
abbrev dktX1_mean_1 : List UInt8 := dkwX1_mean_1 ++ []
def dkwX1_mean_0 : List UInt8 := [3, 60, 3, 61, 28, 16, 12, 162, 0, 20, 27, 42, 180, 0, 53, 28, 182, 0, 137, 96, 60, 132, 2, 1]
abbrev dktX1_mean_0 : List UInt8 := dkwX1_mean_0 ++ dktX1_mean_1
theorem dksX1_mean_0 : cX1_mean.data.toList.drop 0 = dktX1_mean_0 := by decide +kernel
theorem dksX1_mean_1 : cX1_mean.data.toList.drop 24 = dktX1_mean_1 := dk_seg dksX1_mean_0 24 rfl rfl
theorem dX1_mean_0 : decode cX1_mean 0 = .ok (.iconst 0, 1) := dk_3 (dk_at dksX1_mean_0 0 rfl rfl)
theorem dX1_mean_1 : decode cX1_mean 1 = .ok (.istore_n 1, 1) := dk_60 (dk_at dksX1_mean_0 1 rfl rfl)
theorem dX1_mean_2 : decode cX1_mean 2 = .ok (.iconst 0, 1) := dk_3 (dk_at dksX1_mean_0 2 rfl rfl)
theorem dX1_mean_3 : decode cX1_mean 3 = .ok (.istore_n 2, 1) := dk_61 (dk_at dksX1_mean_0 3 rfl rfl)
theorem dX1_mean_4 : decode cX1_mean 4 = .ok (.iload_n 2, 1) := dk_28 (dk_at dksX1_mean_0 4 rfl rfl)
theorem dX1_mean_5 : decode cX1_mean 5 = .ok (.bipush 12, 2) := dk_16 12 (dk_at dksX1_mean_0 5 rfl rfl)
theorem dX1_mean_7 : decode cX1_mean 7 = .ok (.if_icmp .ge 20, 3) := dk_162 0 20 (dk_at dksX1_mean_0 7 rfl rfl)
theorem dX1_mean_10 : decode cX1_mean 10 = .ok (.iload_n 1, 1) := dk_27 (dk_at dksX1_mean_0 10 rfl rfl)
theorem dX1_mean_11 : decode cX1_mean 11 = .ok (.aload_n 0, 1) := dk_42 (dk_at dksX1_mean_0 11 rfl rfl)
theorem dX1_mean_12 : decode cX1_mean 12 = .ok (.getfield 53, 3) := dk_180 0 53 (dk_at dksX1_mean_0 12 rfl rfl)
theorem dX1_mean_15 : decode cX1_mean 15 = .ok (.iload_n 2, 1) := dk_28 (dk_at dksX1_mean_0 15 rfl rfl)
theorem dX1_mean_16 : decode cX1_mean 16 = .ok (.invokevirtual 137, 3) := dk_182 0 137 (dk_at dksX1_mean_0 16 rfl rfl)
theorem dX1_mean_19 : decode cX1_mean 19 = .ok (.iadd, 1) := dk_96 (dk_at dksX1_mean_0 19 rfl rfl)
theorem dX1_mean_20 : decode cX1_mean 20 = .ok (.istore_n 1, 1) := dk_60 (dk_at dksX1_mean_0 20 rfl rfl)
theorem dX1_mean_21 : decode cX1_mean 21 = .ok (.iinc 2 1, 3) := dk_132 2 1 (dk_at dksX1_mean_0 21 rfl rfl)
theorem dX1_mean_24 : decode cX1_mean 24 = .ok (.goto (-20), 3) := dk_167 255 236 (dk_at dksX1_mean_1 0 rfl rfl)
theorem dX1_mean_27 : decode cX1_mean 27 = .ok (.iload_n 1, 1) := dk_27 (dk_at dksX1_mean_1 3 rfl rfl)
theorem dX1_mean_28 : decode cX1_mean 28 = .ok (.i2d, 1) := dk_135 (dk_at dksX1_mean_1 4 rfl rfl)
theorem dX1_mean_29 : decode cX1_mean 29 = .ok (.ldc2_w 222, 3) := dk_20 0 222 (dk_at dksX1_mean_1 5 rfl rfl)
theorem dX1_mean_32 : decode cX1_mean 32 = .ok (.ddiv, 1) := dk_111 (dk_at dksX1_mean_1 8 rfl rfl)
theorem dX1_mean_33 : decode cX1_mean 33 = .ok (.dreturn, 1) := dk_175 (dk_at dksX1_mean_1 9 rfl rfl)
abbrev cX1_digest : ByteArray := prog_1_method_37_code
def yX1_digest : MethodName := ⟨RX1, "digest", "()J"⟩
def dkwX1_digest_14 : List UInt8 := [132, 3, 1, 167, 255, 180, 31, 173]
abbrev dktX1_digest_14 : List UInt8 := dkwX1_digest_14 ++ []
def dkwX1_digest_13 : List UInt8 := [97, 20, 0, 226, 105, 25, 4, 182, 0, 231, 133, 97, 20, 0, 226, 105, 25, 4, 182, 0, 234, 133, 97, 64]
abbrev dktX1_digest_13 : List UInt8 := dkwX1_digest_13 ++ dktX1_digest_14
def dkwX1_digest_12 : List UInt8 := [20, 0, 226, 105, 25, 4, 182, 0, 200, 133, 97, 20, 0, 226, 105, 25, 4, 182, 0, 203, 182, 0, 228, 133]
abbrev dktX1_digest_12 : List UInt8 := dkwX1_digest_12 ++ dktX1_digest_13
def dkwX1_digest_11 : List UInt8 := [180, 0, 43, 182, 0, 64, 162, 0, 71, 42, 180, 0, 43, 29, 182, 0, 180, 192, 0, 102, 58, 4, 31]
abbrev dktX1_digest_11 : List UInt8 := dkwX1_digest_11 ++ dktX1_digest_12
def dkwX1_digest_10 : List UInt8 := [21, 4, 182, 0, 176, 133, 97, 64, 132, 4, 1, 167, 255, 219, 132, 3, 1, 167, 255, 196, 3, 62, 29, 42]
abbrev dktX1_digest_10 : List UInt8 := dkwX1_digest_10 ++ dktX1_digest_11
def dkwX1_digest_9 : List UInt8 := [7, 162, 0, 37, 31, 20, 0, 226, 105, 42, 42, 180, 0, 53, 180, 0, 173, 29, 182, 0, 180, 192, 0, 160]
abbrev dktX1_digest_9 : List UInt8 := dkwX1_digest_9 ++ dktX1_digest_10
def dkwX1_digest_8 : List UInt8 := [167, 255, 202, 3, 62, 29, 42, 180, 0, 53, 180, 0, 173, 182, 0, 64, 162, 0, 52, 3, 54, 4, 21, 4]
abbrev dktX1_digest_8 : List UInt8 := dkwX1_digest_8 ++ dktX1_digest_9
def dkwX1_digest_7 : List UInt8 := [182, 0, 180, 192, 0, 88, 21, 4, 182, 0, 155, 133, 97, 64, 132, 4, 1, 167, 255, 222, 132, 3, 1]
abbrev dktX1_digest_7 : List UInt8 := dkwX1_digest_7 ++ dktX1_digest_8
def dkwX1_digest_6 : List UInt8 := [162, 0, 49, 3, 54, 4, 21, 4, 7, 162, 0, 34, 31, 20, 0, 226, 105, 42, 42, 180, 0, 47, 29]
abbrev dktX1_digest_6 : List UInt8 := dkwX1_digest_6 ++ dktX1_digest_7
def dkwX1_digest_5 : List UInt8 := [97, 64, 132, 4, 1, 167, 255, 220, 132, 3, 1, 167, 255, 197, 3, 62, 29, 42, 180, 0, 47, 182, 0, 64]
abbrev dktX1_digest_5 : List UInt8 := dkwX1_digest_5 ++ dktX1_digest_6
def dkwX1_digest_4 : List UInt8 := [20, 0, 226, 105, 42, 180, 0, 53, 180, 0, 61, 29, 182, 0, 180, 192, 0, 68, 21, 4, 184, 0, 133, 133]
abbrev dktX1_digest_4 : List UInt8 := dkwX1_digest_4 ++ dktX1_digest_5
def dkwX1_digest_3 : List UInt8 := [180, 0, 53, 180, 0, 61, 182, 0, 64, 162, 0, 51, 3, 54, 4, 21, 4, 8, 162, 0, 36, 31]
abbrev dktX1_digest_3 : List UInt8 := dkwX1_digest_3 ++ dktX1_digest_4
def dkwX1_digest_2 : List UInt8 := [105, 42, 180, 0, 53, 29, 182, 0, 137, 133, 97, 64, 132, 3, 1, 167, 255, 231, 3, 62, 29, 42]
abbrev dktX1_digest_2 : List UInt8 := dkwX1_digest_2 ++ dktX1_digest_3
def dkwX1_digest_1 : List UInt8 := [182, 0, 197, 133, 97, 64, 132, 3, 1, 167, 255, 230, 3, 62, 29, 16, 12, 162, 0, 25, 31, 20, 0, 226]
abbrev dktX1_digest_1 : List UInt8 := dkwX1_digest_1 ++ dktX1_digest_2
def dkwX1_digest_0 : List UInt8 := [20, 0, 224, 64, 3, 62, 29, 16, 13, 162, 0, 26, 31, 20, 0, 226, 105, 42, 42, 180, 0, 53, 29]
abbrev dktX1_digest_0 : List UInt8 := dkwX1_digest_0 ++ dktX1_digest_1
theorem dksX1_digest_0 : cX1_digest.data.toList.drop 0 = dktX1_digest_0 := by decide +kernel
theorem dksX1_digest_1 : cX1_digest.data.toList.drop 23 = dktX1_digest_1 := dk_seg dksX1_digest_0 23 rfl rfl
theorem dksX1_digest_2 : cX1_digest.data.toList.drop 47 = dktX1_digest_2 := dk_seg dksX1_digest_1 24 rfl rfl
theorem dksX1_digest_3 : cX1_digest.data.toList.drop 69 = dktX1_digest_3 := dk_seg dksX1_digest_2 22 rfl rfl
theorem dksX1_digest_4 : cX1_digest.data.toList.drop 91 = dktX1_digest_4 := dk_seg dksX1_digest_3 22 rfl rfl
theorem dksX1_digest_5 : cX1_digest.data.toList.drop 115 = dktX1_digest_5 := dk_seg dksX1_digest_4 24 rfl rfl
theorem dksX1_digest_6 : cX1_digest.data.toList.drop 139 = dktX1_digest_6 := dk_seg dksX1_digest_5 24 rfl rfl
theorem dksX1_digest_7 : cX1_digest.data.toList.drop 162 = dktX1_digest_7 := dk_seg dksX1_digest_6 23 rfl rfl
theorem dksX1_digest_8 : cX1_digest.data.toList.drop 185 = dktX1_digest_8 := dk_seg dksX1_digest_7 23 rfl rfl
theorem dksX1_digest_9 : cX1_digest.data.toList.drop 209 = dktX1_digest_9 := dk_seg dksX1_digest_8 24 rfl rfl
theorem dksX1_digest_10 : cX1_digest.data.toList.drop 233 = dktX1_digest_10 := dk_seg dksX1_digest_9 24 rfl rfl
theorem dksX1_digest_11 : cX1_digest.data.toList.drop 257 = dktX1_digest_11 := dk_seg dksX1_digest_10 24 rfl rfl
theorem dksX1_digest_12 : cX1_digest.data.toList.drop 280 = dktX1_digest_12 := dk_seg dksX1_digest_11 23 rfl rfl
theorem dksX1_digest_13 : cX1_digest.data.toList.drop 304 = dktX1_digest_13 := dk_seg dksX1_digest_12 24 rfl rfl
theorem dksX1_digest_14 : cX1_digest.data.toList.drop 328 = dktX1_digest_14 := dk_seg dksX1_digest_13 24 rfl rfl
theorem dX1_digest_0 : decode cX1_digest 0 = .ok (.ldc2_w 224, 3) := dk_20 0 224 (dk_at dksX1_digest_0 0 rfl rfl)
theorem dX1_digest_3 : decode cX1_digest 3 = .ok (.lstore_n 1, 1) := dk_64 (dk_at dksX1_digest_0 3 rfl rfl)
theorem dX1_digest_4 : decode cX1_digest 4 = .ok (.iconst 0, 1) := dk_3 (dk_at dksX1_digest_0 4 rfl rfl)
theorem dX1_digest_5 : decode cX1_digest 5 = .ok (.istore_n 3, 1) := dk_62 (dk_at dksX1_digest_0 5 rfl rfl)
theorem dX1_digest_6 : decode cX1_digest 6 = .ok (.iload_n 3, 1) := dk_29 (dk_at dksX1_digest_0 6 rfl rfl)
theorem dX1_digest_7 : decode cX1_digest 7 = .ok (.bipush 13, 2) := dk_16 13 (dk_at dksX1_digest_0 7 rfl rfl)
theorem dX1_digest_9 : decode cX1_digest 9 = .ok (.if_icmp .ge 26, 3) := dk_162 0 26 (dk_at dksX1_digest_0 9 rfl rfl)
theorem dX1_digest_12 : decode cX1_digest 12 = .ok (.lload_n 1, 1) := dk_31 (dk_at dksX1_digest_0 12 rfl rfl)
theorem dX1_digest_13 : decode cX1_digest 13 = .ok (.ldc2_w 226, 3) := dk_20 0 226 (dk_at dksX1_digest_0 13 rfl rfl)
theorem dX1_digest_16 : decode cX1_digest 16 = .ok (.lmul, 1) := dk_105 (dk_at dksX1_digest_0 16 rfl rfl)
theorem dX1_digest_17 : decode cX1_digest 17 = .ok (.aload_n 0, 1) := dk_42 (dk_at dksX1_digest_0 17 rfl rfl)
theorem dX1_digest_18 : decode cX1_digest 18 = .ok (.aload_n 0, 1) := dk_42 (dk_at dksX1_digest_0 18 rfl rfl)
theorem dX1_digest_19 : decode cX1_digest 19 = .ok (.getfield 53, 3) := dk_180 0 53 (dk_at dksX1_digest_0 19 rfl rfl)
theorem dX1_digest_22 : decode cX1_digest 22 = .ok (.iload_n 3, 1) := dk_29 (dk_at dksX1_digest_0 22 rfl rfl)
theorem dX1_digest_23 : decode cX1_digest 23 = .ok (.invokevirtual 197, 3) := dk_182 0 197 (dk_at dksX1_digest_1 0 rfl rfl)
theorem dX1_digest_26 : decode cX1_digest 26 = .ok (.i2l, 1) := dk_133 (dk_at dksX1_digest_1 3 rfl rfl)
theorem dX1_digest_27 : decode cX1_digest 27 = .ok (.ladd, 1) := dk_97 (dk_at dksX1_digest_1 4 rfl rfl)
theorem dX1_digest_28 : decode cX1_digest 28 = .ok (.lstore_n 1, 1) := dk_64 (dk_at dksX1_digest_1 5 rfl rfl)
theorem dX1_digest_29 : decode cX1_digest 29 = .ok (.iinc 3 1, 3) := dk_132 3 1 (dk_at dksX1_digest_1 6 rfl rfl)
theorem dX1_digest_32 : decode cX1_digest 32 = .ok (.goto (-26), 3) := dk_167 255 230 (dk_at dksX1_digest_1 9 rfl rfl)
theorem dX1_digest_35 : decode cX1_digest 35 = .ok (.iconst 0, 1) := dk_3 (dk_at dksX1_digest_1 12 rfl rfl)
theorem dX1_digest_36 : decode cX1_digest 36 = .ok (.istore_n 3, 1) := dk_62 (dk_at dksX1_digest_1 13 rfl rfl)
theorem dX1_digest_37 : decode cX1_digest 37 = .ok (.iload_n 3, 1) := dk_29 (dk_at dksX1_digest_1 14 rfl rfl)
theorem dX1_digest_38 : decode cX1_digest 38 = .ok (.bipush 12, 2) := dk_16 12 (dk_at dksX1_digest_1 15 rfl rfl)
theorem dX1_digest_40 : decode cX1_digest 40 = .ok (.if_icmp .ge 25, 3) := dk_162 0 25 (dk_at dksX1_digest_1 17 rfl rfl)
theorem dX1_digest_43 : decode cX1_digest 43 = .ok (.lload_n 1, 1) := dk_31 (dk_at dksX1_digest_1 20 rfl rfl)
theorem dX1_digest_44 : decode cX1_digest 44 = .ok (.ldc2_w 226, 3) := dk_20 0 226 (dk_at dksX1_digest_1 21 rfl rfl)
theorem dX1_digest_47 : decode cX1_digest 47 = .ok (.lmul, 1) := dk_105 (dk_at dksX1_digest_2 0 rfl rfl)
theorem dX1_digest_48 : decode cX1_digest 48 = .ok (.aload_n 0, 1) := dk_42 (dk_at dksX1_digest_2 1 rfl rfl)
theorem dX1_digest_49 : decode cX1_digest 49 = .ok (.getfield 53, 3) := dk_180 0 53 (dk_at dksX1_digest_2 2 rfl rfl)
theorem dX1_digest_52 : decode cX1_digest 52 = .ok (.iload_n 3, 1) := dk_29 (dk_at dksX1_digest_2 5 rfl rfl)
theorem dX1_digest_53 : decode cX1_digest 53 = .ok (.invokevirtual 137, 3) := dk_182 0 137 (dk_at dksX1_digest_2 6 rfl rfl)
theorem dX1_digest_56 : decode cX1_digest 56 = .ok (.i2l, 1) := dk_133 (dk_at dksX1_digest_2 9 rfl rfl)
theorem dX1_digest_57 : decode cX1_digest 57 = .ok (.ladd, 1) := dk_97 (dk_at dksX1_digest_2 10 rfl rfl)
theorem dX1_digest_58 : decode cX1_digest 58 = .ok (.lstore_n 1, 1) := dk_64 (dk_at dksX1_digest_2 11 rfl rfl)
theorem dX1_digest_59 : decode cX1_digest 59 = .ok (.iinc 3 1, 3) := dk_132 3 1 (dk_at dksX1_digest_2 12 rfl rfl)
theorem dX1_digest_62 : decode cX1_digest 62 = .ok (.goto (-25), 3) := dk_167 255 231 (dk_at dksX1_digest_2 15 rfl rfl)
theorem dX1_digest_65 : decode cX1_digest 65 = .ok (.iconst 0, 1) := dk_3 (dk_at dksX1_digest_2 18 rfl rfl)
theorem dX1_digest_66 : decode cX1_digest 66 = .ok (.istore_n 3, 1) := dk_62 (dk_at dksX1_digest_2 19 rfl rfl)
theorem dX1_digest_67 : decode cX1_digest 67 = .ok (.iload_n 3, 1) := dk_29 (dk_at dksX1_digest_2 20 rfl rfl)
theorem dX1_digest_68 : decode cX1_digest 68 = .ok (.aload_n 0, 1) := dk_42 (dk_at dksX1_digest_2 21 rfl rfl)
theorem dX1_digest_69 : decode cX1_digest 69 = .ok (.getfield 53, 3) := dk_180 0 53 (dk_at dksX1_digest_3 0 rfl rfl)
theorem dX1_digest_72 : decode cX1_digest 72 = .ok (.getfield 61, 3) := dk_180 0 61 (dk_at dksX1_digest_3 3 rfl rfl)
theorem dX1_digest_75 : decode cX1_digest 75 = .ok (.invokevirtual 64, 3) := dk_182 0 64 (dk_at dksX1_digest_3 6 rfl rfl)
theorem dX1_digest_78 : decode cX1_digest 78 = .ok (.if_icmp .ge 51, 3) := dk_162 0 51 (dk_at dksX1_digest_3 9 rfl rfl)
theorem dX1_digest_81 : decode cX1_digest 81 = .ok (.iconst 0, 1) := dk_3 (dk_at dksX1_digest_3 12 rfl rfl)
theorem dX1_digest_82 : decode cX1_digest 82 = .ok (.istore 4, 2) := dk_54 4 (dk_at dksX1_digest_3 13 rfl rfl)
theorem dX1_digest_84 : decode cX1_digest 84 = .ok (.iload 4, 2) := dk_21 4 (dk_at dksX1_digest_3 15 rfl rfl)
theorem dX1_digest_86 : decode cX1_digest 86 = .ok (.iconst 5, 1) := dk_8 (dk_at dksX1_digest_3 17 rfl rfl)
theorem dX1_digest_87 : decode cX1_digest 87 = .ok (.if_icmp .ge 36, 3) := dk_162 0 36 (dk_at dksX1_digest_3 18 rfl rfl)
theorem dX1_digest_90 : decode cX1_digest 90 = .ok (.lload_n 1, 1) := dk_31 (dk_at dksX1_digest_3 21 rfl rfl)
theorem dX1_digest_91 : decode cX1_digest 91 = .ok (.ldc2_w 226, 3) := dk_20 0 226 (dk_at dksX1_digest_4 0 rfl rfl)
theorem dX1_digest_94 : decode cX1_digest 94 = .ok (.lmul, 1) := dk_105 (dk_at dksX1_digest_4 3 rfl rfl)
theorem dX1_digest_95 : decode cX1_digest 95 = .ok (.aload_n 0, 1) := dk_42 (dk_at dksX1_digest_4 4 rfl rfl)
theorem dX1_digest_96 : decode cX1_digest 96 = .ok (.getfield 53, 3) := dk_180 0 53 (dk_at dksX1_digest_4 5 rfl rfl)
theorem dX1_digest_99 : decode cX1_digest 99 = .ok (.getfield 61, 3) := dk_180 0 61 (dk_at dksX1_digest_4 8 rfl rfl)
theorem dX1_digest_102 : decode cX1_digest 102 = .ok (.iload_n 3, 1) := dk_29 (dk_at dksX1_digest_4 11 rfl rfl)
theorem dX1_digest_103 : decode cX1_digest 103 = .ok (.invokevirtual 180, 3) := dk_182 0 180 (dk_at dksX1_digest_4 12 rfl rfl)
theorem dX1_digest_106 : decode cX1_digest 106 = .ok (.checkcast 68, 3) := dk_192 0 68 (dk_at dksX1_digest_4 15 rfl rfl)
theorem dX1_digest_109 : decode cX1_digest 109 = .ok (.iload 4, 2) := dk_21 4 (dk_at dksX1_digest_4 18 rfl rfl)
theorem dX1_digest_111 : decode cX1_digest 111 = .ok (.invokestatic 133, 3) := dk_184 0 133 (dk_at dksX1_digest_4 20 rfl rfl)
theorem dX1_digest_114 : decode cX1_digest 114 = .ok (.i2l, 1) := dk_133 (dk_at dksX1_digest_4 23 rfl rfl)
theorem dX1_digest_115 : decode cX1_digest 115 = .ok (.ladd, 1) := dk_97 (dk_at dksX1_digest_5 0 rfl rfl)
theorem dX1_digest_116 : decode cX1_digest 116 = .ok (.lstore_n 1, 1) := dk_64 (dk_at dksX1_digest_5 1 rfl rfl)
theorem dX1_digest_117 : decode cX1_digest 117 = .ok (.iinc 4 1, 3) := dk_132 4 1 (dk_at dksX1_digest_5 2 rfl rfl)
theorem dX1_digest_120 : decode cX1_digest 120 = .ok (.goto (-36), 3) := dk_167 255 220 (dk_at dksX1_digest_5 5 rfl rfl)
theorem dX1_digest_123 : decode cX1_digest 123 = .ok (.iinc 3 1, 3) := dk_132 3 1 (dk_at dksX1_digest_5 8 rfl rfl)
theorem dX1_digest_126 : decode cX1_digest 126 = .ok (.goto (-59), 3) := dk_167 255 197 (dk_at dksX1_digest_5 11 rfl rfl)
theorem dX1_digest_129 : decode cX1_digest 129 = .ok (.iconst 0, 1) := dk_3 (dk_at dksX1_digest_5 14 rfl rfl)
theorem dX1_digest_130 : decode cX1_digest 130 = .ok (.istore_n 3, 1) := dk_62 (dk_at dksX1_digest_5 15 rfl rfl)
theorem dX1_digest_131 : decode cX1_digest 131 = .ok (.iload_n 3, 1) := dk_29 (dk_at dksX1_digest_5 16 rfl rfl)
theorem dX1_digest_132 : decode cX1_digest 132 = .ok (.aload_n 0, 1) := dk_42 (dk_at dksX1_digest_5 17 rfl rfl)
theorem dX1_digest_133 : decode cX1_digest 133 = .ok (.getfield 47, 3) := dk_180 0 47 (dk_at dksX1_digest_5 18 rfl rfl)
theorem dX1_digest_136 : decode cX1_digest 136 = .ok (.invokevirtual 64, 3) := dk_182 0 64 (dk_at dksX1_digest_5 21 rfl rfl)
theorem dX1_digest_139 : decode cX1_digest 139 = .ok (.if_icmp .ge 49, 3) := dk_162 0 49 (dk_at dksX1_digest_6 0 rfl rfl)
theorem dX1_digest_142 : decode cX1_digest 142 = .ok (.iconst 0, 1) := dk_3 (dk_at dksX1_digest_6 3 rfl rfl)
theorem dX1_digest_143 : decode cX1_digest 143 = .ok (.istore 4, 2) := dk_54 4 (dk_at dksX1_digest_6 4 rfl rfl)
theorem dX1_digest_145 : decode cX1_digest 145 = .ok (.iload 4, 2) := dk_21 4 (dk_at dksX1_digest_6 6 rfl rfl)
theorem dX1_digest_147 : decode cX1_digest 147 = .ok (.iconst 4, 1) := dk_7 (dk_at dksX1_digest_6 8 rfl rfl)
theorem dX1_digest_148 : decode cX1_digest 148 = .ok (.if_icmp .ge 34, 3) := dk_162 0 34 (dk_at dksX1_digest_6 9 rfl rfl)
theorem dX1_digest_151 : decode cX1_digest 151 = .ok (.lload_n 1, 1) := dk_31 (dk_at dksX1_digest_6 12 rfl rfl)
theorem dX1_digest_152 : decode cX1_digest 152 = .ok (.ldc2_w 226, 3) := dk_20 0 226 (dk_at dksX1_digest_6 13 rfl rfl)
theorem dX1_digest_155 : decode cX1_digest 155 = .ok (.lmul, 1) := dk_105 (dk_at dksX1_digest_6 16 rfl rfl)
theorem dX1_digest_156 : decode cX1_digest 156 = .ok (.aload_n 0, 1) := dk_42 (dk_at dksX1_digest_6 17 rfl rfl)
theorem dX1_digest_157 : decode cX1_digest 157 = .ok (.aload_n 0, 1) := dk_42 (dk_at dksX1_digest_6 18 rfl rfl)
theorem dX1_digest_158 : decode cX1_digest 158 = .ok (.getfield 47, 3) := dk_180 0 47 (dk_at dksX1_digest_6 19 rfl rfl)
theorem dX1_digest_161 : decode cX1_digest 161 = .ok (.iload_n 3, 1) := dk_29 (dk_at dksX1_digest_6 22 rfl rfl)
theorem dX1_digest_162 : decode cX1_digest 162 = .ok (.invokevirtual 180, 3) := dk_182 0 180 (dk_at dksX1_digest_7 0 rfl rfl)
theorem dX1_digest_165 : decode cX1_digest 165 = .ok (.checkcast 88, 3) := dk_192 0 88 (dk_at dksX1_digest_7 3 rfl rfl)
theorem dX1_digest_168 : decode cX1_digest 168 = .ok (.iload 4, 2) := dk_21 4 (dk_at dksX1_digest_7 6 rfl rfl)
theorem dX1_digest_170 : decode cX1_digest 170 = .ok (.invokevirtual 155, 3) := dk_182 0 155 (dk_at dksX1_digest_7 8 rfl rfl)
theorem dX1_digest_173 : decode cX1_digest 173 = .ok (.i2l, 1) := dk_133 (dk_at dksX1_digest_7 11 rfl rfl)
theorem dX1_digest_174 : decode cX1_digest 174 = .ok (.ladd, 1) := dk_97 (dk_at dksX1_digest_7 12 rfl rfl)
theorem dX1_digest_175 : decode cX1_digest 175 = .ok (.lstore_n 1, 1) := dk_64 (dk_at dksX1_digest_7 13 rfl rfl)
theorem dX1_digest_176 : decode cX1_digest 176 = .ok (.iinc 4 1, 3) := dk_132 4 1 (dk_at dksX1_digest_7 14 rfl rfl)
theorem dX1_digest_179 : decode cX1_digest 179 = .ok (.goto (-34), 3) := dk_167 255 222 (dk_at dksX1_digest_7 17 rfl rfl)
theorem dX1_digest_182 : decode cX1_digest 182 = .ok (.iinc 3 1, 3) := dk_132 3 1 (dk_at dksX1_digest_7 20 rfl rfl)
theorem dX1_digest_185 : decode cX1_digest 185 = .ok (.goto (-54), 3) := dk_167 255 202 (dk_at dksX1_digest_8 0 rfl rfl)
theorem dX1_digest_188 : decode cX1_digest 188 = .ok (.iconst 0, 1) := dk_3 (dk_at dksX1_digest_8 3 rfl rfl)
theorem dX1_digest_189 : decode cX1_digest 189 = .ok (.istore_n 3, 1) := dk_62 (dk_at dksX1_digest_8 4 rfl rfl)
theorem dX1_digest_190 : decode cX1_digest 190 = .ok (.iload_n 3, 1) := dk_29 (dk_at dksX1_digest_8 5 rfl rfl)
theorem dX1_digest_191 : decode cX1_digest 191 = .ok (.aload_n 0, 1) := dk_42 (dk_at dksX1_digest_8 6 rfl rfl)
theorem dX1_digest_192 : decode cX1_digest 192 = .ok (.getfield 53, 3) := dk_180 0 53 (dk_at dksX1_digest_8 7 rfl rfl)
theorem dX1_digest_195 : decode cX1_digest 195 = .ok (.getfield 173, 3) := dk_180 0 173 (dk_at dksX1_digest_8 10 rfl rfl)
theorem dX1_digest_198 : decode cX1_digest 198 = .ok (.invokevirtual 64, 3) := dk_182 0 64 (dk_at dksX1_digest_8 13 rfl rfl)
theorem dX1_digest_201 : decode cX1_digest 201 = .ok (.if_icmp .ge 52, 3) := dk_162 0 52 (dk_at dksX1_digest_8 16 rfl rfl)
theorem dX1_digest_204 : decode cX1_digest 204 = .ok (.iconst 0, 1) := dk_3 (dk_at dksX1_digest_8 19 rfl rfl)
theorem dX1_digest_205 : decode cX1_digest 205 = .ok (.istore 4, 2) := dk_54 4 (dk_at dksX1_digest_8 20 rfl rfl)
theorem dX1_digest_207 : decode cX1_digest 207 = .ok (.iload 4, 2) := dk_21 4 (dk_at dksX1_digest_8 22 rfl rfl)
theorem dX1_digest_209 : decode cX1_digest 209 = .ok (.iconst 4, 1) := dk_7 (dk_at dksX1_digest_9 0 rfl rfl)
theorem dX1_digest_210 : decode cX1_digest 210 = .ok (.if_icmp .ge 37, 3) := dk_162 0 37 (dk_at dksX1_digest_9 1 rfl rfl)
theorem dX1_digest_213 : decode cX1_digest 213 = .ok (.lload_n 1, 1) := dk_31 (dk_at dksX1_digest_9 4 rfl rfl)
theorem dX1_digest_214 : decode cX1_digest 214 = .ok (.ldc2_w 226, 3) := dk_20 0 226 (dk_at dksX1_digest_9 5 rfl rfl)
theorem dX1_digest_217 : decode cX1_digest 217 = .ok (.lmul, 1) := dk_105 (dk_at dksX1_digest_9 8 rfl rfl)
theorem dX1_digest_218 : decode cX1_digest 218 = .ok (.aload_n 0, 1) := dk_42 (dk_at dksX1_digest_9 9 rfl rfl)
theorem dX1_digest_219 : decode cX1_digest 219 = .ok (.aload_n 0, 1) := dk_42 (dk_at dksX1_digest_9 10 rfl rfl)
theorem dX1_digest_220 : decode cX1_digest 220 = .ok (.getfield 53, 3) := dk_180 0 53 (dk_at dksX1_digest_9 11 rfl rfl)
theorem dX1_digest_223 : decode cX1_digest 223 = .ok (.getfield 173, 3) := dk_180 0 173 (dk_at dksX1_digest_9 14 rfl rfl)
theorem dX1_digest_226 : decode cX1_digest 226 = .ok (.iload_n 3, 1) := dk_29 (dk_at dksX1_digest_9 17 rfl rfl)
theorem dX1_digest_227 : decode cX1_digest 227 = .ok (.invokevirtual 180, 3) := dk_182 0 180 (dk_at dksX1_digest_9 18 rfl rfl)
theorem dX1_digest_230 : decode cX1_digest 230 = .ok (.checkcast 160, 3) := dk_192 0 160 (dk_at dksX1_digest_9 21 rfl rfl)
theorem dX1_digest_233 : decode cX1_digest 233 = .ok (.iload 4, 2) := dk_21 4 (dk_at dksX1_digest_10 0 rfl rfl)
theorem dX1_digest_235 : decode cX1_digest 235 = .ok (.invokevirtual 176, 3) := dk_182 0 176 (dk_at dksX1_digest_10 2 rfl rfl)
theorem dX1_digest_238 : decode cX1_digest 238 = .ok (.i2l, 1) := dk_133 (dk_at dksX1_digest_10 5 rfl rfl)
theorem dX1_digest_239 : decode cX1_digest 239 = .ok (.ladd, 1) := dk_97 (dk_at dksX1_digest_10 6 rfl rfl)
theorem dX1_digest_240 : decode cX1_digest 240 = .ok (.lstore_n 1, 1) := dk_64 (dk_at dksX1_digest_10 7 rfl rfl)
theorem dX1_digest_241 : decode cX1_digest 241 = .ok (.iinc 4 1, 3) := dk_132 4 1 (dk_at dksX1_digest_10 8 rfl rfl)
theorem dX1_digest_244 : decode cX1_digest 244 = .ok (.goto (-37), 3) := dk_167 255 219 (dk_at dksX1_digest_10 11 rfl rfl)
theorem dX1_digest_247 : decode cX1_digest 247 = .ok (.iinc 3 1, 3) := dk_132 3 1 (dk_at dksX1_digest_10 14 rfl rfl)
theorem dX1_digest_250 : decode cX1_digest 250 = .ok (.goto (-60), 3) := dk_167 255 196 (dk_at dksX1_digest_10 17 rfl rfl)
theorem dX1_digest_253 : decode cX1_digest 253 = .ok (.iconst 0, 1) := dk_3 (dk_at dksX1_digest_10 20 rfl rfl)
theorem dX1_digest_254 : decode cX1_digest 254 = .ok (.istore_n 3, 1) := dk_62 (dk_at dksX1_digest_10 21 rfl rfl)
theorem dX1_digest_255 : decode cX1_digest 255 = .ok (.iload_n 3, 1) := dk_29 (dk_at dksX1_digest_10 22 rfl rfl)
theorem dX1_digest_256 : decode cX1_digest 256 = .ok (.aload_n 0, 1) := dk_42 (dk_at dksX1_digest_10 23 rfl rfl)
theorem dX1_digest_257 : decode cX1_digest 257 = .ok (.getfield 43, 3) := dk_180 0 43 (dk_at dksX1_digest_11 0 rfl rfl)
theorem dX1_digest_260 : decode cX1_digest 260 = .ok (.invokevirtual 64, 3) := dk_182 0 64 (dk_at dksX1_digest_11 3 rfl rfl)
theorem dX1_digest_263 : decode cX1_digest 263 = .ok (.if_icmp .ge 71, 3) := dk_162 0 71 (dk_at dksX1_digest_11 6 rfl rfl)
theorem dX1_digest_266 : decode cX1_digest 266 = .ok (.aload_n 0, 1) := dk_42 (dk_at dksX1_digest_11 9 rfl rfl)
theorem dX1_digest_267 : decode cX1_digest 267 = .ok (.getfield 43, 3) := dk_180 0 43 (dk_at dksX1_digest_11 10 rfl rfl)
theorem dX1_digest_270 : decode cX1_digest 270 = .ok (.iload_n 3, 1) := dk_29 (dk_at dksX1_digest_11 13 rfl rfl)
theorem dX1_digest_271 : decode cX1_digest 271 = .ok (.invokevirtual 180, 3) := dk_182 0 180 (dk_at dksX1_digest_11 14 rfl rfl)
theorem dX1_digest_274 : decode cX1_digest 274 = .ok (.checkcast 102, 3) := dk_192 0 102 (dk_at dksX1_digest_11 17 rfl rfl)
theorem dX1_digest_277 : decode cX1_digest 277 = .ok (.astore 4, 2) := dk_58 4 (dk_at dksX1_digest_11 20 rfl rfl)
theorem dX1_digest_279 : decode cX1_digest 279 = .ok (.lload_n 1, 1) := dk_31 (dk_at dksX1_digest_11 22 rfl rfl)
theorem dX1_digest_280 : decode cX1_digest 280 = .ok (.ldc2_w 226, 3) := dk_20 0 226 (dk_at dksX1_digest_12 0 rfl rfl)
theorem dX1_digest_283 : decode cX1_digest 283 = .ok (.lmul, 1) := dk_105 (dk_at dksX1_digest_12 3 rfl rfl)
theorem dX1_digest_284 : decode cX1_digest 284 = .ok (.aload 4, 2) := dk_25 4 (dk_at dksX1_digest_12 4 rfl rfl)
theorem dX1_digest_286 : decode cX1_digest 286 = .ok (.invokevirtual 200, 3) := dk_182 0 200 (dk_at dksX1_digest_12 6 rfl rfl)
theorem dX1_digest_289 : decode cX1_digest 289 = .ok (.i2l, 1) := dk_133 (dk_at dksX1_digest_12 9 rfl rfl)
theorem dX1_digest_290 : decode cX1_digest 290 = .ok (.ladd, 1) := dk_97 (dk_at dksX1_digest_12 10 rfl rfl)
theorem dX1_digest_291 : decode cX1_digest 291 = .ok (.ldc2_w 226, 3) := dk_20 0 226 (dk_at dksX1_digest_12 11 rfl rfl)
theorem dX1_digest_294 : decode cX1_digest 294 = .ok (.lmul, 1) := dk_105 (dk_at dksX1_digest_12 14 rfl rfl)
theorem dX1_digest_295 : decode cX1_digest 295 = .ok (.aload 4, 2) := dk_25 4 (dk_at dksX1_digest_12 15 rfl rfl)
theorem dX1_digest_297 : decode cX1_digest 297 = .ok (.invokevirtual 203, 3) := dk_182 0 203 (dk_at dksX1_digest_12 17 rfl rfl)
theorem dX1_digest_300 : decode cX1_digest 300 = .ok (.invokevirtual 228, 3) := dk_182 0 228 (dk_at dksX1_digest_12 20 rfl rfl)
theorem dX1_digest_303 : decode cX1_digest 303 = .ok (.i2l, 1) := dk_133 (dk_at dksX1_digest_12 23 rfl rfl)
theorem dX1_digest_304 : decode cX1_digest 304 = .ok (.ladd, 1) := dk_97 (dk_at dksX1_digest_13 0 rfl rfl)
theorem dX1_digest_305 : decode cX1_digest 305 = .ok (.ldc2_w 226, 3) := dk_20 0 226 (dk_at dksX1_digest_13 1 rfl rfl)
theorem dX1_digest_308 : decode cX1_digest 308 = .ok (.lmul, 1) := dk_105 (dk_at dksX1_digest_13 4 rfl rfl)
theorem dX1_digest_309 : decode cX1_digest 309 = .ok (.aload 4, 2) := dk_25 4 (dk_at dksX1_digest_13 5 rfl rfl)
theorem dX1_digest_311 : decode cX1_digest 311 = .ok (.invokevirtual 231, 3) := dk_182 0 231 (dk_at dksX1_digest_13 7 rfl rfl)
theorem dX1_digest_314 : decode cX1_digest 314 = .ok (.i2l, 1) := dk_133 (dk_at dksX1_digest_13 10 rfl rfl)
theorem dX1_digest_315 : decode cX1_digest 315 = .ok (.ladd, 1) := dk_97 (dk_at dksX1_digest_13 11 rfl rfl)
theorem dX1_digest_316 : decode cX1_digest 316 = .ok (.ldc2_w 226, 3) := dk_20 0 226 (dk_at dksX1_digest_13 12 rfl rfl)
theorem dX1_digest_319 : decode cX1_digest 319 = .ok (.lmul, 1) := dk_105 (dk_at dksX1_digest_13 15 rfl rfl)
theorem dX1_digest_320 : decode cX1_digest 320 = .ok (.aload 4, 2) := dk_25 4 (dk_at dksX1_digest_13 16 rfl rfl)
theorem dX1_digest_322 : decode cX1_digest 322 = .ok (.invokevirtual 234, 3) := dk_182 0 234 (dk_at dksX1_digest_13 18 rfl rfl)
theorem dX1_digest_325 : decode cX1_digest 325 = .ok (.i2l, 1) := dk_133 (dk_at dksX1_digest_13 21 rfl rfl)
theorem dX1_digest_326 : decode cX1_digest 326 = .ok (.ladd, 1) := dk_97 (dk_at dksX1_digest_13 22 rfl rfl)
theorem dX1_digest_327 : decode cX1_digest 327 = .ok (.lstore_n 1, 1) := dk_64 (dk_at dksX1_digest_13 23 rfl rfl)
theorem dX1_digest_328 : decode cX1_digest 328 = .ok (.iinc 3 1, 3) := dk_132 3 1 (dk_at dksX1_digest_14 0 rfl rfl)
theorem dX1_digest_331 : decode cX1_digest 331 = .ok (.goto (-76), 3) := dk_167 255 180 (dk_at dksX1_digest_14 3 rfl rfl)
theorem dX1_digest_334 : decode cX1_digest 334 = .ok (.lload_n 1, 1) := dk_31 (dk_at dksX1_digest_14 6 rfl rfl)
theorem dX1_digest_335 : decode cX1_digest 335 = .ok (.lreturn, 1) := dk_173 (dk_at dksX1_digest_14 7 rfl rfl)
abbrev cX1_counted : ByteArray := prog_1_method_27_code
def yX1_counted : MethodName := ⟨RX1, "counted", "(LStarConsole$Console;I)I"⟩
def dkwX1_counted_5 : List UInt8 := [180, 0, 194, 172, 43, 180, 0, 195, 172, 43, 180, 0, 196, 172]
abbrev dktX1_counted_5 : List UInt8 := dkwX1_counted_5 ++ []
def dkwX1_counted_4 : List UInt8 := [180, 0, 43, 182, 0, 64, 172, 42, 43, 182, 0, 184, 172, 43, 184, 0, 188, 172, 43, 180, 0, 191, 172, 43]
abbrev dktX1_counted_4 : List UInt8 := dkwX1_counted_4 ++ dktX1_counted_5
def dkwX1_counted_3 : List UInt8 := [180, 0, 61, 182, 0, 64, 172, 42, 180, 0, 47, 182, 0, 64, 172, 43, 180, 0, 173, 182, 0, 64, 172, 42]
abbrev dktX1_counted_3 : List UInt8 := dkwX1_counted_3 ++ dktX1_counted_4
def dkwX1_counted_2 : List UInt8 := [43, 180, 0, 181, 172, 43, 180, 0, 111, 172, 43, 180, 0, 107, 153, 0, 7, 4, 167, 0, 4, 3, 172, 43]
abbrev dktX1_counted_2 : List UInt8 := dkwX1_counted_2 ++ dktX1_counted_3
def dkwX1_counted_1 : List UInt8 := [170, 0, 0, 0, 0, 0, 144, 0, 0, 0, 0, 0, 0, 0, 11, 0, 0, 0, 63, 0, 0, 0, 68, 0, 0, 0, 73, 0, 0, 0, 86, 0, 0, 0, 94, 0, 0, 0, 102, 0, 0, 0, 110, 0, 0, 0, 118, 0, 0, 0, 124, 0, 0, 0, 129, 0, 0, 0, 134, 0, 0, 0, 139]
abbrev dktX1_counted_1 : List UInt8 := dkwX1_counted_1 ++ dktX1_counted_2
def dkwX1_counted_0 : List UInt8 := [28]
abbrev dktX1_counted_0 : List UInt8 := dkwX1_counted_0 ++ dktX1_counted_1
theorem dksX1_counted_0 : cX1_counted.data.toList.drop 0 = dktX1_counted_0 := by decide +kernel
theorem dksX1_counted_1 : cX1_counted.data.toList.drop 1 = dktX1_counted_1 := dk_seg dksX1_counted_0 1 rfl rfl
theorem dksX1_counted_2 : cX1_counted.data.toList.drop 64 = dktX1_counted_2 := dk_seg dksX1_counted_1 63 rfl rfl
theorem dksX1_counted_3 : cX1_counted.data.toList.drop 88 = dktX1_counted_3 := dk_seg dksX1_counted_2 24 rfl rfl
theorem dksX1_counted_4 : cX1_counted.data.toList.drop 112 = dktX1_counted_4 := dk_seg dksX1_counted_3 24 rfl rfl
theorem dksX1_counted_5 : cX1_counted.data.toList.drop 136 = dktX1_counted_5 := dk_seg dksX1_counted_4 24 rfl rfl
theorem dX1_counted_0 : decode cX1_counted 0 = .ok (.iload_n 2, 1) := dk_28 (dk_at dksX1_counted_0 0 rfl rfl)
theorem dX1_counted_1 : decode cX1_counted 1 = .ok (.tableswitch 144 0 11 #[63, 68, 73, 86, 94, 102, 110, 118, 124, 129, 134, 139], 63) := by decide +kernel
theorem dX1_counted_64 : decode cX1_counted 64 = .ok (.aload_n 1, 1) := dk_43 (dk_at dksX1_counted_2 0 rfl rfl)
theorem dX1_counted_65 : decode cX1_counted 65 = .ok (.getfield 181, 3) := dk_180 0 181 (dk_at dksX1_counted_2 1 rfl rfl)
theorem dX1_counted_68 : decode cX1_counted 68 = .ok (.ireturn, 1) := dk_172 (dk_at dksX1_counted_2 4 rfl rfl)
theorem dX1_counted_69 : decode cX1_counted 69 = .ok (.aload_n 1, 1) := dk_43 (dk_at dksX1_counted_2 5 rfl rfl)
theorem dX1_counted_70 : decode cX1_counted 70 = .ok (.getfield 111, 3) := dk_180 0 111 (dk_at dksX1_counted_2 6 rfl rfl)
theorem dX1_counted_73 : decode cX1_counted 73 = .ok (.ireturn, 1) := dk_172 (dk_at dksX1_counted_2 9 rfl rfl)
theorem dX1_counted_74 : decode cX1_counted 74 = .ok (.aload_n 1, 1) := dk_43 (dk_at dksX1_counted_2 10 rfl rfl)
theorem dX1_counted_75 : decode cX1_counted 75 = .ok (.getfield 107, 3) := dk_180 0 107 (dk_at dksX1_counted_2 11 rfl rfl)
theorem dX1_counted_78 : decode cX1_counted 78 = .ok (.ifCond .eq 7, 3) := dk_153 0 7 (dk_at dksX1_counted_2 14 rfl rfl)
theorem dX1_counted_81 : decode cX1_counted 81 = .ok (.iconst 1, 1) := dk_4 (dk_at dksX1_counted_2 17 rfl rfl)
theorem dX1_counted_82 : decode cX1_counted 82 = .ok (.goto 4, 3) := dk_167 0 4 (dk_at dksX1_counted_2 18 rfl rfl)
theorem dX1_counted_85 : decode cX1_counted 85 = .ok (.iconst 0, 1) := dk_3 (dk_at dksX1_counted_2 21 rfl rfl)
theorem dX1_counted_86 : decode cX1_counted 86 = .ok (.ireturn, 1) := dk_172 (dk_at dksX1_counted_2 22 rfl rfl)
theorem dX1_counted_87 : decode cX1_counted 87 = .ok (.aload_n 1, 1) := dk_43 (dk_at dksX1_counted_2 23 rfl rfl)
theorem dX1_counted_88 : decode cX1_counted 88 = .ok (.getfield 61, 3) := dk_180 0 61 (dk_at dksX1_counted_3 0 rfl rfl)
theorem dX1_counted_91 : decode cX1_counted 91 = .ok (.invokevirtual 64, 3) := dk_182 0 64 (dk_at dksX1_counted_3 3 rfl rfl)
theorem dX1_counted_94 : decode cX1_counted 94 = .ok (.ireturn, 1) := dk_172 (dk_at dksX1_counted_3 6 rfl rfl)
theorem dX1_counted_95 : decode cX1_counted 95 = .ok (.aload_n 0, 1) := dk_42 (dk_at dksX1_counted_3 7 rfl rfl)
theorem dX1_counted_96 : decode cX1_counted 96 = .ok (.getfield 47, 3) := dk_180 0 47 (dk_at dksX1_counted_3 8 rfl rfl)
theorem dX1_counted_99 : decode cX1_counted 99 = .ok (.invokevirtual 64, 3) := dk_182 0 64 (dk_at dksX1_counted_3 11 rfl rfl)
theorem dX1_counted_102 : decode cX1_counted 102 = .ok (.ireturn, 1) := dk_172 (dk_at dksX1_counted_3 14 rfl rfl)
theorem dX1_counted_103 : decode cX1_counted 103 = .ok (.aload_n 1, 1) := dk_43 (dk_at dksX1_counted_3 15 rfl rfl)
theorem dX1_counted_104 : decode cX1_counted 104 = .ok (.getfield 173, 3) := dk_180 0 173 (dk_at dksX1_counted_3 16 rfl rfl)
theorem dX1_counted_107 : decode cX1_counted 107 = .ok (.invokevirtual 64, 3) := dk_182 0 64 (dk_at dksX1_counted_3 19 rfl rfl)
theorem dX1_counted_110 : decode cX1_counted 110 = .ok (.ireturn, 1) := dk_172 (dk_at dksX1_counted_3 22 rfl rfl)
theorem dX1_counted_111 : decode cX1_counted 111 = .ok (.aload_n 0, 1) := dk_42 (dk_at dksX1_counted_3 23 rfl rfl)
theorem dX1_counted_112 : decode cX1_counted 112 = .ok (.getfield 43, 3) := dk_180 0 43 (dk_at dksX1_counted_4 0 rfl rfl)
theorem dX1_counted_115 : decode cX1_counted 115 = .ok (.invokevirtual 64, 3) := dk_182 0 64 (dk_at dksX1_counted_4 3 rfl rfl)
theorem dX1_counted_118 : decode cX1_counted 118 = .ok (.ireturn, 1) := dk_172 (dk_at dksX1_counted_4 6 rfl rfl)
theorem dX1_counted_119 : decode cX1_counted 119 = .ok (.aload_n 0, 1) := dk_42 (dk_at dksX1_counted_4 7 rfl rfl)
theorem dX1_counted_120 : decode cX1_counted 120 = .ok (.aload_n 1, 1) := dk_43 (dk_at dksX1_counted_4 8 rfl rfl)
theorem dX1_counted_121 : decode cX1_counted 121 = .ok (.invokevirtual 184, 3) := dk_182 0 184 (dk_at dksX1_counted_4 9 rfl rfl)
theorem dX1_counted_124 : decode cX1_counted 124 = .ok (.ireturn, 1) := dk_172 (dk_at dksX1_counted_4 12 rfl rfl)
theorem dX1_counted_125 : decode cX1_counted 125 = .ok (.aload_n 1, 1) := dk_43 (dk_at dksX1_counted_4 13 rfl rfl)
theorem dX1_counted_126 : decode cX1_counted 126 = .ok (.invokestatic 188, 3) := dk_184 0 188 (dk_at dksX1_counted_4 14 rfl rfl)
theorem dX1_counted_129 : decode cX1_counted 129 = .ok (.ireturn, 1) := dk_172 (dk_at dksX1_counted_4 17 rfl rfl)
theorem dX1_counted_130 : decode cX1_counted 130 = .ok (.aload_n 1, 1) := dk_43 (dk_at dksX1_counted_4 18 rfl rfl)
theorem dX1_counted_131 : decode cX1_counted 131 = .ok (.getfield 191, 3) := dk_180 0 191 (dk_at dksX1_counted_4 19 rfl rfl)
theorem dX1_counted_134 : decode cX1_counted 134 = .ok (.ireturn, 1) := dk_172 (dk_at dksX1_counted_4 22 rfl rfl)
theorem dX1_counted_135 : decode cX1_counted 135 = .ok (.aload_n 1, 1) := dk_43 (dk_at dksX1_counted_4 23 rfl rfl)
theorem dX1_counted_136 : decode cX1_counted 136 = .ok (.getfield 194, 3) := dk_180 0 194 (dk_at dksX1_counted_5 0 rfl rfl)
theorem dX1_counted_139 : decode cX1_counted 139 = .ok (.ireturn, 1) := dk_172 (dk_at dksX1_counted_5 3 rfl rfl)
theorem dX1_counted_140 : decode cX1_counted 140 = .ok (.aload_n 1, 1) := dk_43 (dk_at dksX1_counted_5 4 rfl rfl)
theorem dX1_counted_141 : decode cX1_counted 141 = .ok (.getfield 195, 3) := dk_180 0 195 (dk_at dksX1_counted_5 5 rfl rfl)
theorem dX1_counted_144 : decode cX1_counted 144 = .ok (.ireturn, 1) := dk_172 (dk_at dksX1_counted_5 8 rfl rfl)
theorem dX1_counted_145 : decode cX1_counted 145 = .ok (.aload_n 1, 1) := dk_43 (dk_at dksX1_counted_5 9 rfl rfl)
theorem dX1_counted_146 : decode cX1_counted 146 = .ok (.getfield 196, 3) := dk_180 0 196 (dk_at dksX1_counted_5 10 rfl rfl)
theorem dX1_counted_149 : decode cX1_counted 149 = .ok (.ireturn, 1) := dk_172 (dk_at dksX1_counted_5 13 rfl rfl)
abbrev cX1_starsSeen : ByteArray := prog_1_method_25_code
def yX1_starsSeen : MethodName := ⟨RX1, "starsSeen", "(LStarConsole$Console;)I"⟩
def dkwX1_starsSeen_2 : List UInt8 := [167, 255, 216, 28, 172]
abbrev dktX1_starsSeen_2 : List UInt8 := dkwX1_starsSeen_2 ++ []
def dkwX1_starsSeen_1 : List UInt8 := [182, 0, 180, 192, 0, 88, 182, 0, 151, 153, 0, 7, 4, 167, 0, 4, 3, 96, 61, 132, 3, 1]
abbrev dktX1_starsSeen_1 : List UInt8 := dkwX1_starsSeen_1 ++ dktX1_starsSeen_2
def dkwX1_starsSeen_0 : List UInt8 := [3, 61, 3, 62, 29, 42, 180, 0, 47, 182, 0, 64, 162, 0, 35, 28, 43, 42, 180, 0, 47, 29]
abbrev dktX1_starsSeen_0 : List UInt8 := dkwX1_starsSeen_0 ++ dktX1_starsSeen_1
theorem dksX1_starsSeen_0 : cX1_starsSeen.data.toList.drop 0 = dktX1_starsSeen_0 := by decide +kernel
theorem dksX1_starsSeen_1 : cX1_starsSeen.data.toList.drop 22 = dktX1_starsSeen_1 := dk_seg dksX1_starsSeen_0 22 rfl rfl
theorem dksX1_starsSeen_2 : cX1_starsSeen.data.toList.drop 44 = dktX1_starsSeen_2 := dk_seg dksX1_starsSeen_1 22 rfl rfl
theorem dX1_starsSeen_0 : decode cX1_starsSeen 0 = .ok (.iconst 0, 1) := dk_3 (dk_at dksX1_starsSeen_0 0 rfl rfl)
theorem dX1_starsSeen_1 : decode cX1_starsSeen 1 = .ok (.istore_n 2, 1) := dk_61 (dk_at dksX1_starsSeen_0 1 rfl rfl)
theorem dX1_starsSeen_2 : decode cX1_starsSeen 2 = .ok (.iconst 0, 1) := dk_3 (dk_at dksX1_starsSeen_0 2 rfl rfl)
theorem dX1_starsSeen_3 : decode cX1_starsSeen 3 = .ok (.istore_n 3, 1) := dk_62 (dk_at dksX1_starsSeen_0 3 rfl rfl)
theorem dX1_starsSeen_4 : decode cX1_starsSeen 4 = .ok (.iload_n 3, 1) := dk_29 (dk_at dksX1_starsSeen_0 4 rfl rfl)
theorem dX1_starsSeen_5 : decode cX1_starsSeen 5 = .ok (.aload_n 0, 1) := dk_42 (dk_at dksX1_starsSeen_0 5 rfl rfl)
theorem dX1_starsSeen_6 : decode cX1_starsSeen 6 = .ok (.getfield 47, 3) := dk_180 0 47 (dk_at dksX1_starsSeen_0 6 rfl rfl)
theorem dX1_starsSeen_9 : decode cX1_starsSeen 9 = .ok (.invokevirtual 64, 3) := dk_182 0 64 (dk_at dksX1_starsSeen_0 9 rfl rfl)
theorem dX1_starsSeen_12 : decode cX1_starsSeen 12 = .ok (.if_icmp .ge 35, 3) := dk_162 0 35 (dk_at dksX1_starsSeen_0 12 rfl rfl)
theorem dX1_starsSeen_15 : decode cX1_starsSeen 15 = .ok (.iload_n 2, 1) := dk_28 (dk_at dksX1_starsSeen_0 15 rfl rfl)
theorem dX1_starsSeen_16 : decode cX1_starsSeen 16 = .ok (.aload_n 1, 1) := dk_43 (dk_at dksX1_starsSeen_0 16 rfl rfl)
theorem dX1_starsSeen_17 : decode cX1_starsSeen 17 = .ok (.aload_n 0, 1) := dk_42 (dk_at dksX1_starsSeen_0 17 rfl rfl)
theorem dX1_starsSeen_18 : decode cX1_starsSeen 18 = .ok (.getfield 47, 3) := dk_180 0 47 (dk_at dksX1_starsSeen_0 18 rfl rfl)
theorem dX1_starsSeen_21 : decode cX1_starsSeen 21 = .ok (.iload_n 3, 1) := dk_29 (dk_at dksX1_starsSeen_0 21 rfl rfl)
theorem dX1_starsSeen_22 : decode cX1_starsSeen 22 = .ok (.invokevirtual 180, 3) := dk_182 0 180 (dk_at dksX1_starsSeen_1 0 rfl rfl)
theorem dX1_starsSeen_25 : decode cX1_starsSeen 25 = .ok (.checkcast 88, 3) := dk_192 0 88 (dk_at dksX1_starsSeen_1 3 rfl rfl)
theorem dX1_starsSeen_28 : decode cX1_starsSeen 28 = .ok (.invokevirtual 151, 3) := dk_182 0 151 (dk_at dksX1_starsSeen_1 6 rfl rfl)
theorem dX1_starsSeen_31 : decode cX1_starsSeen 31 = .ok (.ifCond .eq 7, 3) := dk_153 0 7 (dk_at dksX1_starsSeen_1 9 rfl rfl)
theorem dX1_starsSeen_34 : decode cX1_starsSeen 34 = .ok (.iconst 1, 1) := dk_4 (dk_at dksX1_starsSeen_1 12 rfl rfl)
theorem dX1_starsSeen_35 : decode cX1_starsSeen 35 = .ok (.goto 4, 3) := dk_167 0 4 (dk_at dksX1_starsSeen_1 13 rfl rfl)
theorem dX1_starsSeen_38 : decode cX1_starsSeen 38 = .ok (.iconst 0, 1) := dk_3 (dk_at dksX1_starsSeen_1 16 rfl rfl)
theorem dX1_starsSeen_39 : decode cX1_starsSeen 39 = .ok (.iadd, 1) := dk_96 (dk_at dksX1_starsSeen_1 17 rfl rfl)
theorem dX1_starsSeen_40 : decode cX1_starsSeen 40 = .ok (.istore_n 2, 1) := dk_61 (dk_at dksX1_starsSeen_1 18 rfl rfl)
theorem dX1_starsSeen_41 : decode cX1_starsSeen 41 = .ok (.iinc 3 1, 3) := dk_132 3 1 (dk_at dksX1_starsSeen_1 19 rfl rfl)
theorem dX1_starsSeen_44 : decode cX1_starsSeen 44 = .ok (.goto (-40), 3) := dk_167 255 216 (dk_at dksX1_starsSeen_2 0 rfl rfl)
theorem dX1_starsSeen_47 : decode cX1_starsSeen 47 = .ok (.iload_n 2, 1) := dk_28 (dk_at dksX1_starsSeen_2 3 rfl rfl)
theorem dX1_starsSeen_48 : decode cX1_starsSeen 48 = .ok (.ireturn, 1) := dk_172 (dk_at dksX1_starsSeen_2 4 rfl rfl)
abbrev cX1_round : ByteArray := prog_1_method_7_code
def yX1_round : MethodName := ⟨RX1, "round", "(I)I"⟩
def dkwX1_round_0 : List UInt8 := [26, 17, 1, 104, 112, 17, 1, 104, 96, 17, 1, 104, 112, 172]
abbrev dktX1_round_0 : List UInt8 := dkwX1_round_0 ++ []
theorem dksX1_round_0 : cX1_round.data.toList.drop 0 = dktX1_round_0 := by decide +kernel
theorem dX1_round_0 : decode cX1_round 0 = .ok (.iload_n 0, 1) := dk_26 (dk_at dksX1_round_0 0 rfl rfl)
theorem dX1_round_1 : decode cX1_round 1 = .ok (.sipush 360, 3) := dk_17 1 104 (dk_at dksX1_round_0 1 rfl rfl)
theorem dX1_round_4 : decode cX1_round 4 = .ok (.irem, 1) := dk_112 (dk_at dksX1_round_0 4 rfl rfl)
theorem dX1_round_5 : decode cX1_round 5 = .ok (.sipush 360, 3) := dk_17 1 104 (dk_at dksX1_round_0 5 rfl rfl)
theorem dX1_round_8 : decode cX1_round 8 = .ok (.iadd, 1) := dk_96 (dk_at dksX1_round_0 8 rfl rfl)
theorem dX1_round_9 : decode cX1_round 9 = .ok (.sipush 360, 3) := dk_17 1 104 (dk_at dksX1_round_0 9 rfl rfl)
theorem dX1_round_12 : decode cX1_round 12 = .ok (.irem, 1) := dk_112 (dk_at dksX1_round_0 12 rfl rfl)
theorem dX1_round_13 : decode cX1_round 13 = .ok (.ireturn, 1) := dk_172 (dk_at dksX1_round_0 13 rfl rfl)
abbrev cX1_cometsSeen : ByteArray := prog_1_method_26_code
def yX1_cometsSeen : MethodName := ⟨RX1, "cometsSeen", "(LStarConsole$Console;)I"⟩
def dkwX1_cometsSeen_2 : List UInt8 := [167, 255, 216, 27, 172]
abbrev dktX1_cometsSeen_2 : List UInt8 := dkwX1_cometsSeen_2 ++ []
def dkwX1_cometsSeen_1 : List UInt8 := [182, 0, 180, 192, 0, 160, 182, 0, 170, 153, 0, 7, 4, 167, 0, 4, 3, 96, 60, 132, 2, 1]
abbrev dktX1_cometsSeen_1 : List UInt8 := dkwX1_cometsSeen_1 ++ dktX1_cometsSeen_2
def dkwX1_cometsSeen_0 : List UInt8 := [3, 60, 3, 61, 28, 42, 180, 0, 173, 182, 0, 64, 162, 0, 35, 27, 42, 42, 180, 0, 173, 28]
abbrev dktX1_cometsSeen_0 : List UInt8 := dkwX1_cometsSeen_0 ++ dktX1_cometsSeen_1
theorem dksX1_cometsSeen_0 : cX1_cometsSeen.data.toList.drop 0 = dktX1_cometsSeen_0 := by decide +kernel
theorem dksX1_cometsSeen_1 : cX1_cometsSeen.data.toList.drop 22 = dktX1_cometsSeen_1 := dk_seg dksX1_cometsSeen_0 22 rfl rfl
theorem dksX1_cometsSeen_2 : cX1_cometsSeen.data.toList.drop 44 = dktX1_cometsSeen_2 := dk_seg dksX1_cometsSeen_1 22 rfl rfl
theorem dX1_cometsSeen_0 : decode cX1_cometsSeen 0 = .ok (.iconst 0, 1) := dk_3 (dk_at dksX1_cometsSeen_0 0 rfl rfl)
theorem dX1_cometsSeen_1 : decode cX1_cometsSeen 1 = .ok (.istore_n 1, 1) := dk_60 (dk_at dksX1_cometsSeen_0 1 rfl rfl)
theorem dX1_cometsSeen_2 : decode cX1_cometsSeen 2 = .ok (.iconst 0, 1) := dk_3 (dk_at dksX1_cometsSeen_0 2 rfl rfl)
theorem dX1_cometsSeen_3 : decode cX1_cometsSeen 3 = .ok (.istore_n 2, 1) := dk_61 (dk_at dksX1_cometsSeen_0 3 rfl rfl)
theorem dX1_cometsSeen_4 : decode cX1_cometsSeen 4 = .ok (.iload_n 2, 1) := dk_28 (dk_at dksX1_cometsSeen_0 4 rfl rfl)
theorem dX1_cometsSeen_5 : decode cX1_cometsSeen 5 = .ok (.aload_n 0, 1) := dk_42 (dk_at dksX1_cometsSeen_0 5 rfl rfl)
theorem dX1_cometsSeen_6 : decode cX1_cometsSeen 6 = .ok (.getfield 173, 3) := dk_180 0 173 (dk_at dksX1_cometsSeen_0 6 rfl rfl)
theorem dX1_cometsSeen_9 : decode cX1_cometsSeen 9 = .ok (.invokevirtual 64, 3) := dk_182 0 64 (dk_at dksX1_cometsSeen_0 9 rfl rfl)
theorem dX1_cometsSeen_12 : decode cX1_cometsSeen 12 = .ok (.if_icmp .ge 35, 3) := dk_162 0 35 (dk_at dksX1_cometsSeen_0 12 rfl rfl)
theorem dX1_cometsSeen_15 : decode cX1_cometsSeen 15 = .ok (.iload_n 1, 1) := dk_27 (dk_at dksX1_cometsSeen_0 15 rfl rfl)
theorem dX1_cometsSeen_16 : decode cX1_cometsSeen 16 = .ok (.aload_n 0, 1) := dk_42 (dk_at dksX1_cometsSeen_0 16 rfl rfl)
theorem dX1_cometsSeen_17 : decode cX1_cometsSeen 17 = .ok (.aload_n 0, 1) := dk_42 (dk_at dksX1_cometsSeen_0 17 rfl rfl)
theorem dX1_cometsSeen_18 : decode cX1_cometsSeen 18 = .ok (.getfield 173, 3) := dk_180 0 173 (dk_at dksX1_cometsSeen_0 18 rfl rfl)
theorem dX1_cometsSeen_21 : decode cX1_cometsSeen 21 = .ok (.iload_n 2, 1) := dk_28 (dk_at dksX1_cometsSeen_0 21 rfl rfl)
theorem dX1_cometsSeen_22 : decode cX1_cometsSeen 22 = .ok (.invokevirtual 180, 3) := dk_182 0 180 (dk_at dksX1_cometsSeen_1 0 rfl rfl)
theorem dX1_cometsSeen_25 : decode cX1_cometsSeen 25 = .ok (.checkcast 160, 3) := dk_192 0 160 (dk_at dksX1_cometsSeen_1 3 rfl rfl)
theorem dX1_cometsSeen_28 : decode cX1_cometsSeen 28 = .ok (.invokevirtual 170, 3) := dk_182 0 170 (dk_at dksX1_cometsSeen_1 6 rfl rfl)
theorem dX1_cometsSeen_31 : decode cX1_cometsSeen 31 = .ok (.ifCond .eq 7, 3) := dk_153 0 7 (dk_at dksX1_cometsSeen_1 9 rfl rfl)
theorem dX1_cometsSeen_34 : decode cX1_cometsSeen 34 = .ok (.iconst 1, 1) := dk_4 (dk_at dksX1_cometsSeen_1 12 rfl rfl)
theorem dX1_cometsSeen_35 : decode cX1_cometsSeen 35 = .ok (.goto 4, 3) := dk_167 0 4 (dk_at dksX1_cometsSeen_1 13 rfl rfl)
theorem dX1_cometsSeen_38 : decode cX1_cometsSeen 38 = .ok (.iconst 0, 1) := dk_3 (dk_at dksX1_cometsSeen_1 16 rfl rfl)
theorem dX1_cometsSeen_39 : decode cX1_cometsSeen 39 = .ok (.iadd, 1) := dk_96 (dk_at dksX1_cometsSeen_1 17 rfl rfl)
theorem dX1_cometsSeen_40 : decode cX1_cometsSeen 40 = .ok (.istore_n 1, 1) := dk_60 (dk_at dksX1_cometsSeen_1 18 rfl rfl)
theorem dX1_cometsSeen_41 : decode cX1_cometsSeen 41 = .ok (.iinc 2 1, 3) := dk_132 2 1 (dk_at dksX1_cometsSeen_1 19 rfl rfl)
theorem dX1_cometsSeen_44 : decode cX1_cometsSeen 44 = .ok (.goto (-40), 3) := dk_167 255 216 (dk_at dksX1_cometsSeen_2 0 rfl rfl)
theorem dX1_cometsSeen_47 : decode cX1_cometsSeen 47 = .ok (.iload_n 1, 1) := dk_27 (dk_at dksX1_cometsSeen_2 3 rfl rfl)
theorem dX1_cometsSeen_48 : decode cX1_cometsSeen 48 = .ok (.ireturn, 1) := dk_172 (dk_at dksX1_cometsSeen_2 4 rfl rfl)
abbrev cX1_dimmerTold : ByteArray := prog_1_method_18_code
def yX1_dimmerTold : MethodName := ⟨RX1, "dimmerTold", "(LStarConsole$Dimmer;I)I"⟩
def dkwX1_dimmerTold_3 : List UInt8 := [172]
abbrev dktX1_dimmerTold_3 : List UInt8 := dkwX1_dimmerTold_3 ++ []
def dkwX1_dimmerTold_2 : List UInt8 := [42, 180, 0, 124, 172, 42, 180, 0, 127, 172, 42, 180, 0, 114, 172, 42, 180, 0, 130, 172, 42, 180, 0, 80]
abbrev dktX1_dimmerTold_2 : List UInt8 := dkwX1_dimmerTold_2 ++ dktX1_dimmerTold_3
def dkwX1_dimmerTold_1 : List UInt8 := [170, 0, 0, 0, 0, 0, 51, 0, 0, 0, 0, 0, 0, 0, 3, 0, 0, 0, 31, 0, 0, 0, 36, 0, 0, 0, 41, 0, 0, 0, 46]
abbrev dktX1_dimmerTold_1 : List UInt8 := dkwX1_dimmerTold_1 ++ dktX1_dimmerTold_2
def dkwX1_dimmerTold_0 : List UInt8 := [27]
abbrev dktX1_dimmerTold_0 : List UInt8 := dkwX1_dimmerTold_0 ++ dktX1_dimmerTold_1
theorem dksX1_dimmerTold_0 : cX1_dimmerTold.data.toList.drop 0 = dktX1_dimmerTold_0 := by decide +kernel
theorem dksX1_dimmerTold_1 : cX1_dimmerTold.data.toList.drop 1 = dktX1_dimmerTold_1 := dk_seg dksX1_dimmerTold_0 1 rfl rfl
theorem dksX1_dimmerTold_2 : cX1_dimmerTold.data.toList.drop 32 = dktX1_dimmerTold_2 := dk_seg dksX1_dimmerTold_1 31 rfl rfl
theorem dksX1_dimmerTold_3 : cX1_dimmerTold.data.toList.drop 56 = dktX1_dimmerTold_3 := dk_seg dksX1_dimmerTold_2 24 rfl rfl
theorem dX1_dimmerTold_0 : decode cX1_dimmerTold 0 = .ok (.iload_n 1, 1) := dk_27 (dk_at dksX1_dimmerTold_0 0 rfl rfl)
theorem dX1_dimmerTold_1 : decode cX1_dimmerTold 1 = .ok (.tableswitch 51 0 3 #[31, 36, 41, 46], 31) := by decide +kernel
theorem dX1_dimmerTold_32 : decode cX1_dimmerTold 32 = .ok (.aload_n 0, 1) := dk_42 (dk_at dksX1_dimmerTold_2 0 rfl rfl)
theorem dX1_dimmerTold_33 : decode cX1_dimmerTold 33 = .ok (.getfield 124, 3) := dk_180 0 124 (dk_at dksX1_dimmerTold_2 1 rfl rfl)
theorem dX1_dimmerTold_36 : decode cX1_dimmerTold 36 = .ok (.ireturn, 1) := dk_172 (dk_at dksX1_dimmerTold_2 4 rfl rfl)
theorem dX1_dimmerTold_37 : decode cX1_dimmerTold 37 = .ok (.aload_n 0, 1) := dk_42 (dk_at dksX1_dimmerTold_2 5 rfl rfl)
theorem dX1_dimmerTold_38 : decode cX1_dimmerTold 38 = .ok (.getfield 127, 3) := dk_180 0 127 (dk_at dksX1_dimmerTold_2 6 rfl rfl)
theorem dX1_dimmerTold_41 : decode cX1_dimmerTold 41 = .ok (.ireturn, 1) := dk_172 (dk_at dksX1_dimmerTold_2 9 rfl rfl)
theorem dX1_dimmerTold_42 : decode cX1_dimmerTold 42 = .ok (.aload_n 0, 1) := dk_42 (dk_at dksX1_dimmerTold_2 10 rfl rfl)
theorem dX1_dimmerTold_43 : decode cX1_dimmerTold 43 = .ok (.getfield 114, 3) := dk_180 0 114 (dk_at dksX1_dimmerTold_2 11 rfl rfl)
theorem dX1_dimmerTold_46 : decode cX1_dimmerTold 46 = .ok (.ireturn, 1) := dk_172 (dk_at dksX1_dimmerTold_2 14 rfl rfl)
theorem dX1_dimmerTold_47 : decode cX1_dimmerTold 47 = .ok (.aload_n 0, 1) := dk_42 (dk_at dksX1_dimmerTold_2 15 rfl rfl)
theorem dX1_dimmerTold_48 : decode cX1_dimmerTold 48 = .ok (.getfield 130, 3) := dk_180 0 130 (dk_at dksX1_dimmerTold_2 16 rfl rfl)
theorem dX1_dimmerTold_51 : decode cX1_dimmerTold 51 = .ok (.ireturn, 1) := dk_172 (dk_at dksX1_dimmerTold_2 19 rfl rfl)
theorem dX1_dimmerTold_52 : decode cX1_dimmerTold 52 = .ok (.aload_n 0, 1) := dk_42 (dk_at dksX1_dimmerTold_2 20 rfl rfl)
theorem dX1_dimmerTold_53 : decode cX1_dimmerTold 53 = .ok (.getfield 80, 3) := dk_180 0 80 (dk_at dksX1_dimmerTold_2 21 rfl rfl)
theorem dX1_dimmerTold_56 : decode cX1_dimmerTold 56 = .ok (.ireturn, 1) := dk_172 (dk_at dksX1_dimmerTold_3 0 rfl rfl)
abbrev cX1_starTold : ByteArray := prog_1_method_21_code
def yX1_starTold : MethodName := ⟨RX1, "starTold", "(LStarConsole$Star;I)I"⟩
def dkwX1_starTold_2 : List UInt8 := [153, 0, 7, 4, 167, 0, 4, 3, 172]
abbrev dktX1_starTold_2 : List UInt8 := dkwX1_starTold_2 ++ []
def dkwX1_starTold_1 : List UInt8 := [5, 160, 0, 14, 42, 180, 0, 53, 43, 182, 0, 147, 167, 0, 19, 42, 180, 0, 53, 43, 182, 0, 151]
abbrev dktX1_starTold_1 : List UInt8 := dkwX1_starTold_1 ++ dktX1_starTold_2
def dkwX1_starTold_0 : List UInt8 := [28, 154, 0, 10, 43, 182, 0, 141, 167, 0, 47, 28, 4, 160, 0, 10, 43, 182, 0, 144, 167, 0, 35, 28]
abbrev dktX1_starTold_0 : List UInt8 := dkwX1_starTold_0 ++ dktX1_starTold_1
theorem dksX1_starTold_0 : cX1_starTold.data.toList.drop 0 = dktX1_starTold_0 := by decide +kernel
theorem dksX1_starTold_1 : cX1_starTold.data.toList.drop 24 = dktX1_starTold_1 := dk_seg dksX1_starTold_0 24 rfl rfl
theorem dksX1_starTold_2 : cX1_starTold.data.toList.drop 47 = dktX1_starTold_2 := dk_seg dksX1_starTold_1 23 rfl rfl
theorem dX1_starTold_0 : decode cX1_starTold 0 = .ok (.iload_n 2, 1) := dk_28 (dk_at dksX1_starTold_0 0 rfl rfl)
theorem dX1_starTold_1 : decode cX1_starTold 1 = .ok (.ifCond .ne 10, 3) := dk_154 0 10 (dk_at dksX1_starTold_0 1 rfl rfl)
theorem dX1_starTold_4 : decode cX1_starTold 4 = .ok (.aload_n 1, 1) := dk_43 (dk_at dksX1_starTold_0 4 rfl rfl)
theorem dX1_starTold_5 : decode cX1_starTold 5 = .ok (.invokevirtual 141, 3) := dk_182 0 141 (dk_at dksX1_starTold_0 5 rfl rfl)
theorem dX1_starTold_8 : decode cX1_starTold 8 = .ok (.goto 47, 3) := dk_167 0 47 (dk_at dksX1_starTold_0 8 rfl rfl)
theorem dX1_starTold_11 : decode cX1_starTold 11 = .ok (.iload_n 2, 1) := dk_28 (dk_at dksX1_starTold_0 11 rfl rfl)
theorem dX1_starTold_12 : decode cX1_starTold 12 = .ok (.iconst 1, 1) := dk_4 (dk_at dksX1_starTold_0 12 rfl rfl)
theorem dX1_starTold_13 : decode cX1_starTold 13 = .ok (.if_icmp .ne 10, 3) := dk_160 0 10 (dk_at dksX1_starTold_0 13 rfl rfl)
theorem dX1_starTold_16 : decode cX1_starTold 16 = .ok (.aload_n 1, 1) := dk_43 (dk_at dksX1_starTold_0 16 rfl rfl)
theorem dX1_starTold_17 : decode cX1_starTold 17 = .ok (.invokevirtual 144, 3) := dk_182 0 144 (dk_at dksX1_starTold_0 17 rfl rfl)
theorem dX1_starTold_20 : decode cX1_starTold 20 = .ok (.goto 35, 3) := dk_167 0 35 (dk_at dksX1_starTold_0 20 rfl rfl)
theorem dX1_starTold_23 : decode cX1_starTold 23 = .ok (.iload_n 2, 1) := dk_28 (dk_at dksX1_starTold_0 23 rfl rfl)
theorem dX1_starTold_24 : decode cX1_starTold 24 = .ok (.iconst 2, 1) := dk_5 (dk_at dksX1_starTold_1 0 rfl rfl)
theorem dX1_starTold_25 : decode cX1_starTold 25 = .ok (.if_icmp .ne 14, 3) := dk_160 0 14 (dk_at dksX1_starTold_1 1 rfl rfl)
theorem dX1_starTold_28 : decode cX1_starTold 28 = .ok (.aload_n 0, 1) := dk_42 (dk_at dksX1_starTold_1 4 rfl rfl)
theorem dX1_starTold_29 : decode cX1_starTold 29 = .ok (.getfield 53, 3) := dk_180 0 53 (dk_at dksX1_starTold_1 5 rfl rfl)
theorem dX1_starTold_32 : decode cX1_starTold 32 = .ok (.aload_n 1, 1) := dk_43 (dk_at dksX1_starTold_1 8 rfl rfl)
theorem dX1_starTold_33 : decode cX1_starTold 33 = .ok (.invokevirtual 147, 3) := dk_182 0 147 (dk_at dksX1_starTold_1 9 rfl rfl)
theorem dX1_starTold_36 : decode cX1_starTold 36 = .ok (.goto 19, 3) := dk_167 0 19 (dk_at dksX1_starTold_1 12 rfl rfl)
theorem dX1_starTold_39 : decode cX1_starTold 39 = .ok (.aload_n 0, 1) := dk_42 (dk_at dksX1_starTold_1 15 rfl rfl)
theorem dX1_starTold_40 : decode cX1_starTold 40 = .ok (.getfield 53, 3) := dk_180 0 53 (dk_at dksX1_starTold_1 16 rfl rfl)
theorem dX1_starTold_43 : decode cX1_starTold 43 = .ok (.aload_n 1, 1) := dk_43 (dk_at dksX1_starTold_1 19 rfl rfl)
theorem dX1_starTold_44 : decode cX1_starTold 44 = .ok (.invokevirtual 151, 3) := dk_182 0 151 (dk_at dksX1_starTold_1 20 rfl rfl)
theorem dX1_starTold_47 : decode cX1_starTold 47 = .ok (.ifCond .eq 7, 3) := dk_153 0 7 (dk_at dksX1_starTold_2 0 rfl rfl)
theorem dX1_starTold_50 : decode cX1_starTold 50 = .ok (.iconst 1, 1) := dk_4 (dk_at dksX1_starTold_2 3 rfl rfl)
theorem dX1_starTold_51 : decode cX1_starTold 51 = .ok (.goto 4, 3) := dk_167 0 4 (dk_at dksX1_starTold_2 4 rfl rfl)
theorem dX1_starTold_54 : decode cX1_starTold 54 = .ok (.iconst 0, 1) := dk_3 (dk_at dksX1_starTold_2 7 rfl rfl)
theorem dX1_starTold_55 : decode cX1_starTold 55 = .ok (.ireturn, 1) := dk_172 (dk_at dksX1_starTold_2 8 rfl rfl)
abbrev cX1_cometTold : ByteArray := prog_1_method_23_code
def yX1_cometTold : MethodName := ⟨RX1, "cometTold", "(LStarConsole$Comet;I)I"⟩
def dkwX1_cometTold_2 : List UInt8 := [167, 0, 4, 3, 172]
abbrev dktX1_cometTold_2 : List UInt8 := dkwX1_cometTold_2 ++ []
def dkwX1_cometTold_1 : List UInt8 := [5, 160, 0, 10, 43, 180, 0, 167, 167, 0, 19, 42, 180, 0, 53, 43, 182, 0, 170, 153, 0, 7, 4]
abbrev dktX1_cometTold_1 : List UInt8 := dkwX1_cometTold_1 ++ dktX1_cometTold_2
def dkwX1_cometTold_0 : List UInt8 := [28, 154, 0, 10, 43, 180, 0, 159, 167, 0, 43, 28, 4, 160, 0, 10, 43, 180, 0, 164, 167, 0, 31, 28]
abbrev dktX1_cometTold_0 : List UInt8 := dkwX1_cometTold_0 ++ dktX1_cometTold_1
theorem dksX1_cometTold_0 : cX1_cometTold.data.toList.drop 0 = dktX1_cometTold_0 := by decide +kernel
theorem dksX1_cometTold_1 : cX1_cometTold.data.toList.drop 24 = dktX1_cometTold_1 := dk_seg dksX1_cometTold_0 24 rfl rfl
theorem dksX1_cometTold_2 : cX1_cometTold.data.toList.drop 47 = dktX1_cometTold_2 := dk_seg dksX1_cometTold_1 23 rfl rfl
theorem dX1_cometTold_0 : decode cX1_cometTold 0 = .ok (.iload_n 2, 1) := dk_28 (dk_at dksX1_cometTold_0 0 rfl rfl)
theorem dX1_cometTold_1 : decode cX1_cometTold 1 = .ok (.ifCond .ne 10, 3) := dk_154 0 10 (dk_at dksX1_cometTold_0 1 rfl rfl)
theorem dX1_cometTold_4 : decode cX1_cometTold 4 = .ok (.aload_n 1, 1) := dk_43 (dk_at dksX1_cometTold_0 4 rfl rfl)
theorem dX1_cometTold_5 : decode cX1_cometTold 5 = .ok (.getfield 159, 3) := dk_180 0 159 (dk_at dksX1_cometTold_0 5 rfl rfl)
theorem dX1_cometTold_8 : decode cX1_cometTold 8 = .ok (.goto 43, 3) := dk_167 0 43 (dk_at dksX1_cometTold_0 8 rfl rfl)
theorem dX1_cometTold_11 : decode cX1_cometTold 11 = .ok (.iload_n 2, 1) := dk_28 (dk_at dksX1_cometTold_0 11 rfl rfl)
theorem dX1_cometTold_12 : decode cX1_cometTold 12 = .ok (.iconst 1, 1) := dk_4 (dk_at dksX1_cometTold_0 12 rfl rfl)
theorem dX1_cometTold_13 : decode cX1_cometTold 13 = .ok (.if_icmp .ne 10, 3) := dk_160 0 10 (dk_at dksX1_cometTold_0 13 rfl rfl)
theorem dX1_cometTold_16 : decode cX1_cometTold 16 = .ok (.aload_n 1, 1) := dk_43 (dk_at dksX1_cometTold_0 16 rfl rfl)
theorem dX1_cometTold_17 : decode cX1_cometTold 17 = .ok (.getfield 164, 3) := dk_180 0 164 (dk_at dksX1_cometTold_0 17 rfl rfl)
theorem dX1_cometTold_20 : decode cX1_cometTold 20 = .ok (.goto 31, 3) := dk_167 0 31 (dk_at dksX1_cometTold_0 20 rfl rfl)
theorem dX1_cometTold_23 : decode cX1_cometTold 23 = .ok (.iload_n 2, 1) := dk_28 (dk_at dksX1_cometTold_0 23 rfl rfl)
theorem dX1_cometTold_24 : decode cX1_cometTold 24 = .ok (.iconst 2, 1) := dk_5 (dk_at dksX1_cometTold_1 0 rfl rfl)
theorem dX1_cometTold_25 : decode cX1_cometTold 25 = .ok (.if_icmp .ne 10, 3) := dk_160 0 10 (dk_at dksX1_cometTold_1 1 rfl rfl)
theorem dX1_cometTold_28 : decode cX1_cometTold 28 = .ok (.aload_n 1, 1) := dk_43 (dk_at dksX1_cometTold_1 4 rfl rfl)
theorem dX1_cometTold_29 : decode cX1_cometTold 29 = .ok (.getfield 167, 3) := dk_180 0 167 (dk_at dksX1_cometTold_1 5 rfl rfl)
theorem dX1_cometTold_32 : decode cX1_cometTold 32 = .ok (.goto 19, 3) := dk_167 0 19 (dk_at dksX1_cometTold_1 8 rfl rfl)
theorem dX1_cometTold_35 : decode cX1_cometTold 35 = .ok (.aload_n 0, 1) := dk_42 (dk_at dksX1_cometTold_1 11 rfl rfl)
theorem dX1_cometTold_36 : decode cX1_cometTold 36 = .ok (.getfield 53, 3) := dk_180 0 53 (dk_at dksX1_cometTold_1 12 rfl rfl)
theorem dX1_cometTold_39 : decode cX1_cometTold 39 = .ok (.aload_n 1, 1) := dk_43 (dk_at dksX1_cometTold_1 15 rfl rfl)
theorem dX1_cometTold_40 : decode cX1_cometTold 40 = .ok (.invokevirtual 170, 3) := dk_182 0 170 (dk_at dksX1_cometTold_1 16 rfl rfl)
theorem dX1_cometTold_43 : decode cX1_cometTold 43 = .ok (.ifCond .eq 7, 3) := dk_153 0 7 (dk_at dksX1_cometTold_1 19 rfl rfl)
theorem dX1_cometTold_46 : decode cX1_cometTold 46 = .ok (.iconst 1, 1) := dk_4 (dk_at dksX1_cometTold_1 22 rfl rfl)
theorem dX1_cometTold_47 : decode cX1_cometTold 47 = .ok (.goto 4, 3) := dk_167 0 4 (dk_at dksX1_cometTold_2 0 rfl rfl)
theorem dX1_cometTold_50 : decode cX1_cometTold 50 = .ok (.iconst 0, 1) := dk_3 (dk_at dksX1_cometTold_2 3 rfl rfl)
theorem dX1_cometTold_51 : decode cX1_cometTold 51 = .ok (.ireturn, 1) := dk_172 (dk_at dksX1_cometTold_2 4 rfl rfl)
abbrev cX1_dimmer : ByteArray := prog_1_method_9_code
def yX1_dimmer : MethodName := ⟨RX1, "dimmer", "(III)I"⟩
def dkwX1_dimmer_3 : List UInt8 := [180, 0, 61, 182, 0, 64, 4, 100, 172]
abbrev dktX1_dimmer_3 : List UInt8 := dkwX1_dimmer_3 ++ []
def dkwX1_dimmer_2 : List UInt8 := [180, 0, 53, 180, 0, 61, 187, 0, 68, 89, 27, 28, 29, 183, 0, 70, 182, 0, 72, 87, 42, 180, 0, 53]
abbrev dktX1_dimmer_2 : List UInt8 := dkwX1_dimmer_2 ++ dktX1_dimmer_3
def dkwX1_dimmer_1 : List UInt8 := [180, 0, 53, 180, 0, 61, 182, 0, 64, 16, 8, 162, 0, 7, 4, 167, 0, 4, 3, 184, 0, 65, 42]
abbrev dktX1_dimmer_1 : List UInt8 := dkwX1_dimmer_1 ++ dktX1_dimmer_2
def dkwX1_dimmer_0 : List UInt8 := [3, 16, 11, 27, 184, 0, 57, 4, 16, 50, 28, 184, 0, 57, 3, 17, 39, 15, 29, 184, 0, 57, 42]
abbrev dktX1_dimmer_0 : List UInt8 := dkwX1_dimmer_0 ++ dktX1_dimmer_1
theorem dksX1_dimmer_0 : cX1_dimmer.data.toList.drop 0 = dktX1_dimmer_0 := by decide +kernel
theorem dksX1_dimmer_1 : cX1_dimmer.data.toList.drop 23 = dktX1_dimmer_1 := dk_seg dksX1_dimmer_0 23 rfl rfl
theorem dksX1_dimmer_2 : cX1_dimmer.data.toList.drop 46 = dktX1_dimmer_2 := dk_seg dksX1_dimmer_1 23 rfl rfl
theorem dksX1_dimmer_3 : cX1_dimmer.data.toList.drop 70 = dktX1_dimmer_3 := dk_seg dksX1_dimmer_2 24 rfl rfl
theorem dX1_dimmer_0 : decode cX1_dimmer 0 = .ok (.iconst 0, 1) := dk_3 (dk_at dksX1_dimmer_0 0 rfl rfl)
theorem dX1_dimmer_1 : decode cX1_dimmer 1 = .ok (.bipush 11, 2) := dk_16 11 (dk_at dksX1_dimmer_0 1 rfl rfl)
theorem dX1_dimmer_3 : decode cX1_dimmer 3 = .ok (.iload_n 1, 1) := dk_27 (dk_at dksX1_dimmer_0 3 rfl rfl)
theorem dX1_dimmer_4 : decode cX1_dimmer 4 = .ok (.invokestatic 57, 3) := dk_184 0 57 (dk_at dksX1_dimmer_0 4 rfl rfl)
theorem dX1_dimmer_7 : decode cX1_dimmer 7 = .ok (.iconst 1, 1) := dk_4 (dk_at dksX1_dimmer_0 7 rfl rfl)
theorem dX1_dimmer_8 : decode cX1_dimmer 8 = .ok (.bipush 50, 2) := dk_16 50 (dk_at dksX1_dimmer_0 8 rfl rfl)
theorem dX1_dimmer_10 : decode cX1_dimmer 10 = .ok (.iload_n 2, 1) := dk_28 (dk_at dksX1_dimmer_0 10 rfl rfl)
theorem dX1_dimmer_11 : decode cX1_dimmer 11 = .ok (.invokestatic 57, 3) := dk_184 0 57 (dk_at dksX1_dimmer_0 11 rfl rfl)
theorem dX1_dimmer_14 : decode cX1_dimmer 14 = .ok (.iconst 0, 1) := dk_3 (dk_at dksX1_dimmer_0 14 rfl rfl)
theorem dX1_dimmer_15 : decode cX1_dimmer 15 = .ok (.sipush 9999, 3) := dk_17 39 15 (dk_at dksX1_dimmer_0 15 rfl rfl)
theorem dX1_dimmer_18 : decode cX1_dimmer 18 = .ok (.iload_n 3, 1) := dk_29 (dk_at dksX1_dimmer_0 18 rfl rfl)
theorem dX1_dimmer_19 : decode cX1_dimmer 19 = .ok (.invokestatic 57, 3) := dk_184 0 57 (dk_at dksX1_dimmer_0 19 rfl rfl)
theorem dX1_dimmer_22 : decode cX1_dimmer 22 = .ok (.aload_n 0, 1) := dk_42 (dk_at dksX1_dimmer_0 22 rfl rfl)
theorem dX1_dimmer_23 : decode cX1_dimmer 23 = .ok (.getfield 53, 3) := dk_180 0 53 (dk_at dksX1_dimmer_1 0 rfl rfl)
theorem dX1_dimmer_26 : decode cX1_dimmer 26 = .ok (.getfield 61, 3) := dk_180 0 61 (dk_at dksX1_dimmer_1 3 rfl rfl)
theorem dX1_dimmer_29 : decode cX1_dimmer 29 = .ok (.invokevirtual 64, 3) := dk_182 0 64 (dk_at dksX1_dimmer_1 6 rfl rfl)
theorem dX1_dimmer_32 : decode cX1_dimmer 32 = .ok (.bipush 8, 2) := dk_16 8 (dk_at dksX1_dimmer_1 9 rfl rfl)
theorem dX1_dimmer_34 : decode cX1_dimmer 34 = .ok (.if_icmp .ge 7, 3) := dk_162 0 7 (dk_at dksX1_dimmer_1 11 rfl rfl)
theorem dX1_dimmer_37 : decode cX1_dimmer 37 = .ok (.iconst 1, 1) := dk_4 (dk_at dksX1_dimmer_1 14 rfl rfl)
theorem dX1_dimmer_38 : decode cX1_dimmer 38 = .ok (.goto 4, 3) := dk_167 0 4 (dk_at dksX1_dimmer_1 15 rfl rfl)
theorem dX1_dimmer_41 : decode cX1_dimmer 41 = .ok (.iconst 0, 1) := dk_3 (dk_at dksX1_dimmer_1 18 rfl rfl)
theorem dX1_dimmer_42 : decode cX1_dimmer 42 = .ok (.invokestatic 65, 3) := dk_184 0 65 (dk_at dksX1_dimmer_1 19 rfl rfl)
theorem dX1_dimmer_45 : decode cX1_dimmer 45 = .ok (.aload_n 0, 1) := dk_42 (dk_at dksX1_dimmer_1 22 rfl rfl)
theorem dX1_dimmer_46 : decode cX1_dimmer 46 = .ok (.getfield 53, 3) := dk_180 0 53 (dk_at dksX1_dimmer_2 0 rfl rfl)
theorem dX1_dimmer_49 : decode cX1_dimmer 49 = .ok (.getfield 61, 3) := dk_180 0 61 (dk_at dksX1_dimmer_2 3 rfl rfl)
theorem dX1_dimmer_52 : decode cX1_dimmer 52 = .ok (.new 68, 3) := dk_187 0 68 (dk_at dksX1_dimmer_2 6 rfl rfl)
theorem dX1_dimmer_55 : decode cX1_dimmer 55 = .ok (.dup, 1) := dk_89 (dk_at dksX1_dimmer_2 9 rfl rfl)
theorem dX1_dimmer_56 : decode cX1_dimmer 56 = .ok (.iload_n 1, 1) := dk_27 (dk_at dksX1_dimmer_2 10 rfl rfl)
theorem dX1_dimmer_57 : decode cX1_dimmer 57 = .ok (.iload_n 2, 1) := dk_28 (dk_at dksX1_dimmer_2 11 rfl rfl)
theorem dX1_dimmer_58 : decode cX1_dimmer 58 = .ok (.iload_n 3, 1) := dk_29 (dk_at dksX1_dimmer_2 12 rfl rfl)
theorem dX1_dimmer_59 : decode cX1_dimmer 59 = .ok (.invokespecial 70, 3) := dk_183 0 70 (dk_at dksX1_dimmer_2 13 rfl rfl)
theorem dX1_dimmer_62 : decode cX1_dimmer 62 = .ok (.invokevirtual 72, 3) := dk_182 0 72 (dk_at dksX1_dimmer_2 16 rfl rfl)
theorem dX1_dimmer_65 : decode cX1_dimmer 65 = .ok (.pop, 1) := dk_87 (dk_at dksX1_dimmer_2 19 rfl rfl)
theorem dX1_dimmer_66 : decode cX1_dimmer 66 = .ok (.aload_n 0, 1) := dk_42 (dk_at dksX1_dimmer_2 20 rfl rfl)
theorem dX1_dimmer_67 : decode cX1_dimmer 67 = .ok (.getfield 53, 3) := dk_180 0 53 (dk_at dksX1_dimmer_2 21 rfl rfl)
theorem dX1_dimmer_70 : decode cX1_dimmer 70 = .ok (.getfield 61, 3) := dk_180 0 61 (dk_at dksX1_dimmer_3 0 rfl rfl)
theorem dX1_dimmer_73 : decode cX1_dimmer 73 = .ok (.invokevirtual 64, 3) := dk_182 0 64 (dk_at dksX1_dimmer_3 3 rfl rfl)
theorem dX1_dimmer_76 : decode cX1_dimmer 76 = .ok (.iconst 1, 1) := dk_4 (dk_at dksX1_dimmer_3 6 rfl rfl)
theorem dX1_dimmer_77 : decode cX1_dimmer 77 = .ok (.isub, 1) := dk_100 (dk_at dksX1_dimmer_3 7 rfl rfl)
theorem dX1_dimmer_78 : decode cX1_dimmer 78 = .ok (.ireturn, 1) := dk_172 (dk_at dksX1_dimmer_3 8 rfl rfl)
abbrev cX1_requireFrom : ByteArray := prog_1_method_5_code
def yX1_requireFrom : MethodName := ⟨RX1, "requireFrom", "(III)V"⟩
def dkwX1_requireFrom_0 : List UInt8 := [28, 26, 27, 184, 0, 13, 184, 0, 19, 177]
abbrev dktX1_requireFrom_0 : List UInt8 := dkwX1_requireFrom_0 ++ []
theorem dksX1_requireFrom_0 : cX1_requireFrom.data.toList.drop 0 = dktX1_requireFrom_0 := by decide +kernel
theorem dX1_requireFrom_0 : decode cX1_requireFrom 0 = .ok (.iload_n 2, 1) := dk_28 (dk_at dksX1_requireFrom_0 0 rfl rfl)
theorem dX1_requireFrom_1 : decode cX1_requireFrom 1 = .ok (.iload_n 0, 1) := dk_26 (dk_at dksX1_requireFrom_0 1 rfl rfl)
theorem dX1_requireFrom_2 : decode cX1_requireFrom 2 = .ok (.iload_n 1, 1) := dk_27 (dk_at dksX1_requireFrom_0 2 rfl rfl)
theorem dX1_requireFrom_3 : decode cX1_requireFrom 3 = .ok (.invokestatic 13, 3) := dk_184 0 13 (dk_at dksX1_requireFrom_0 3 rfl rfl)
theorem dX1_requireFrom_6 : decode cX1_requireFrom 6 = .ok (.invokestatic 19, 3) := dk_184 0 19 (dk_at dksX1_requireFrom_0 6 rfl rfl)
theorem dX1_requireFrom_9 : decode cX1_requireFrom 9 = .ok (.return_, 1) := dk_177 (dk_at dksX1_requireFrom_0 9 rfl rfl)
abbrev cX1_isIn : ByteArray := prog_1_method_4_code
def yX1_isIn : MethodName := ⟨RX1, "isIn", "(III)Z"⟩
def dkwX1_isIn_0 : List UInt8 := [26, 27, 161, 0, 12, 26, 28, 163, 0, 7, 4, 167, 0, 4, 3, 172]
abbrev dktX1_isIn_0 : List UInt8 := dkwX1_isIn_0 ++ []
theorem dksX1_isIn_0 : cX1_isIn.data.toList.drop 0 = dktX1_isIn_0 := by decide +kernel
theorem dX1_isIn_0 : decode cX1_isIn 0 = .ok (.iload_n 0, 1) := dk_26 (dk_at dksX1_isIn_0 0 rfl rfl)
theorem dX1_isIn_1 : decode cX1_isIn 1 = .ok (.iload_n 1, 1) := dk_27 (dk_at dksX1_isIn_0 1 rfl rfl)
theorem dX1_isIn_2 : decode cX1_isIn 2 = .ok (.if_icmp .lt 12, 3) := dk_161 0 12 (dk_at dksX1_isIn_0 2 rfl rfl)
theorem dX1_isIn_5 : decode cX1_isIn 5 = .ok (.iload_n 0, 1) := dk_26 (dk_at dksX1_isIn_0 5 rfl rfl)
theorem dX1_isIn_6 : decode cX1_isIn 6 = .ok (.iload_n 2, 1) := dk_28 (dk_at dksX1_isIn_0 6 rfl rfl)
theorem dX1_isIn_7 : decode cX1_isIn 7 = .ok (.if_icmp .gt 7, 3) := dk_163 0 7 (dk_at dksX1_isIn_0 7 rfl rfl)
theorem dX1_isIn_10 : decode cX1_isIn 10 = .ok (.iconst 1, 1) := dk_4 (dk_at dksX1_isIn_0 10 rfl rfl)
theorem dX1_isIn_11 : decode cX1_isIn 11 = .ok (.goto 4, 3) := dk_167 0 4 (dk_at dksX1_isIn_0 11 rfl rfl)
theorem dX1_isIn_14 : decode cX1_isIn 14 = .ok (.iconst 0, 1) := dk_3 (dk_at dksX1_isIn_0 14 rfl rfl)
theorem dX1_isIn_15 : decode cX1_isIn 15 = .ok (.ireturn, 1) := dk_172 (dk_at dksX1_isIn_0 15 rfl rfl)
abbrev cX1_require : ByteArray := prog_1_method_1_code
def yX1_require : MethodName := ⟨RX1, "require", "(Z)V"⟩
def dkwX1_require_0 : List UInt8 := [26, 154, 0, 11, 187, 0, 1, 89, 183, 0, 3, 191, 177]
abbrev dktX1_require_0 : List UInt8 := dkwX1_require_0 ++ []
theorem dksX1_require_0 : cX1_require.data.toList.drop 0 = dktX1_require_0 := by decide +kernel
theorem dX1_require_0 : decode cX1_require 0 = .ok (.iload_n 0, 1) := dk_26 (dk_at dksX1_require_0 0 rfl rfl)
theorem dX1_require_1 : decode cX1_require 1 = .ok (.ifCond .ne 11, 3) := dk_154 0 11 (dk_at dksX1_require_0 1 rfl rfl)
theorem dX1_require_4 : decode cX1_require 4 = .ok (.new 1, 3) := dk_187 0 1 (dk_at dksX1_require_0 4 rfl rfl)
theorem dX1_require_7 : decode cX1_require 7 = .ok (.dup, 1) := dk_89 (dk_at dksX1_require_0 7 rfl rfl)
theorem dX1_require_8 : decode cX1_require 8 = .ok (.invokespecial 3, 3) := dk_183 0 3 (dk_at dksX1_require_0 8 rfl rfl)
theorem dX1_require_11 : decode cX1_require 11 = .ok (.athrow, 1) := dk_191 (dk_at dksX1_require_0 11 rfl rfl)
theorem dX1_require_12 : decode cX1_require 12 = .ok (.return_, 1) := dk_177 (dk_at dksX1_require_0 12 rfl rfl)
abbrev cX1_requireState : ByteArray := prog_1_method_2_code
def yX1_requireState : MethodName := ⟨RX1, "requireState", "(Z)V"⟩
def dkwX1_requireState_0 : List UInt8 := [26, 154, 0, 11, 187, 0, 7, 89, 183, 0, 9, 191, 177]
abbrev dktX1_requireState_0 : List UInt8 := dkwX1_requireState_0 ++ []
theorem dksX1_requireState_0 : cX1_requireState.data.toList.drop 0 = dktX1_requireState_0 := by decide +kernel
theorem dX1_requireState_0 : decode cX1_requireState 0 = .ok (.iload_n 0, 1) := dk_26 (dk_at dksX1_requireState_0 0 rfl rfl)
theorem dX1_requireState_1 : decode cX1_requireState 1 = .ok (.ifCond .ne 11, 3) := dk_154 0 11 (dk_at dksX1_requireState_0 1 rfl rfl)
theorem dX1_requireState_4 : decode cX1_requireState 4 = .ok (.new 7, 3) := dk_187 0 7 (dk_at dksX1_requireState_0 4 rfl rfl)
theorem dX1_requireState_7 : decode cX1_requireState 7 = .ok (.dup, 1) := dk_89 (dk_at dksX1_requireState_0 7 rfl rfl)
theorem dX1_requireState_8 : decode cX1_requireState 8 = .ok (.invokespecial 9, 3) := dk_183 0 9 (dk_at dksX1_requireState_0 8 rfl rfl)
theorem dX1_requireState_11 : decode cX1_requireState 11 = .ok (.athrow, 1) := dk_191 (dk_at dksX1_requireState_0 11 rfl rfl)
theorem dX1_requireState_12 : decode cX1_requireState 12 = .ok (.return_, 1) := dk_177 (dk_at dksX1_requireState_0 12 rfl rfl)
abbrev cX1_lamp : ByteArray := prog_1_method_10_code
def yX1_lamp : MethodName := ⟨RX1, "lamp", "(II)I"⟩
def dkwX1_lamp_1 : List UInt8 := [180, 0, 80, 54, 4, 45, 28, 182, 0, 84, 21, 4, 172]
abbrev dktX1_lamp_1 : List UInt8 := dkwX1_lamp_1 ++ []
def dkwX1_lamp_0 : List UInt8 := [42, 180, 0, 53, 180, 0, 61, 27, 184, 0, 76, 192, 0, 68, 78, 3, 17, 39, 15, 28, 184, 0, 57, 45]
abbrev dktX1_lamp_0 : List UInt8 := dkwX1_lamp_0 ++ dktX1_lamp_1
theorem dksX1_lamp_0 : cX1_lamp.data.toList.drop 0 = dktX1_lamp_0 := by decide +kernel
theorem dksX1_lamp_1 : cX1_lamp.data.toList.drop 24 = dktX1_lamp_1 := dk_seg dksX1_lamp_0 24 rfl rfl
theorem dX1_lamp_0 : decode cX1_lamp 0 = .ok (.aload_n 0, 1) := dk_42 (dk_at dksX1_lamp_0 0 rfl rfl)
theorem dX1_lamp_1 : decode cX1_lamp 1 = .ok (.getfield 53, 3) := dk_180 0 53 (dk_at dksX1_lamp_0 1 rfl rfl)
theorem dX1_lamp_4 : decode cX1_lamp 4 = .ok (.getfield 61, 3) := dk_180 0 61 (dk_at dksX1_lamp_0 4 rfl rfl)
theorem dX1_lamp_7 : decode cX1_lamp 7 = .ok (.iload_n 1, 1) := dk_27 (dk_at dksX1_lamp_0 7 rfl rfl)
theorem dX1_lamp_8 : decode cX1_lamp 8 = .ok (.invokestatic 76, 3) := dk_184 0 76 (dk_at dksX1_lamp_0 8 rfl rfl)
theorem dX1_lamp_11 : decode cX1_lamp 11 = .ok (.checkcast 68, 3) := dk_192 0 68 (dk_at dksX1_lamp_0 11 rfl rfl)
theorem dX1_lamp_14 : decode cX1_lamp 14 = .ok (.astore_n 3, 1) := dk_78 (dk_at dksX1_lamp_0 14 rfl rfl)
theorem dX1_lamp_15 : decode cX1_lamp 15 = .ok (.iconst 0, 1) := dk_3 (dk_at dksX1_lamp_0 15 rfl rfl)
theorem dX1_lamp_16 : decode cX1_lamp 16 = .ok (.sipush 9999, 3) := dk_17 39 15 (dk_at dksX1_lamp_0 16 rfl rfl)
theorem dX1_lamp_19 : decode cX1_lamp 19 = .ok (.iload_n 2, 1) := dk_28 (dk_at dksX1_lamp_0 19 rfl rfl)
theorem dX1_lamp_20 : decode cX1_lamp 20 = .ok (.invokestatic 57, 3) := dk_184 0 57 (dk_at dksX1_lamp_0 20 rfl rfl)
theorem dX1_lamp_23 : decode cX1_lamp 23 = .ok (.aload_n 3, 1) := dk_45 (dk_at dksX1_lamp_0 23 rfl rfl)
theorem dX1_lamp_24 : decode cX1_lamp 24 = .ok (.getfield 80, 3) := dk_180 0 80 (dk_at dksX1_lamp_1 0 rfl rfl)
theorem dX1_lamp_27 : decode cX1_lamp 27 = .ok (.istore 4, 2) := dk_54 4 (dk_at dksX1_lamp_1 3 rfl rfl)
theorem dX1_lamp_29 : decode cX1_lamp 29 = .ok (.aload_n 3, 1) := dk_45 (dk_at dksX1_lamp_1 5 rfl rfl)
theorem dX1_lamp_30 : decode cX1_lamp 30 = .ok (.iload_n 2, 1) := dk_28 (dk_at dksX1_lamp_1 6 rfl rfl)
theorem dX1_lamp_31 : decode cX1_lamp 31 = .ok (.invokevirtual 84, 3) := dk_182 0 84 (dk_at dksX1_lamp_1 7 rfl rfl)
theorem dX1_lamp_34 : decode cX1_lamp 34 = .ok (.iload 4, 2) := dk_21 4 (dk_at dksX1_lamp_1 10 rfl rfl)
theorem dX1_lamp_36 : decode cX1_lamp 36 = .ok (.ireturn, 1) := dk_172 (dk_at dksX1_lamp_1 12 rfl rfl)
abbrev cX1_known : ByteArray := prog_1_method_6_code
def yX1_known : MethodName := ⟨RX1, "known", "(Ljava/util/List;I)Ljava/lang/Object;"⟩
def dkwX1_known_0 : List UInt8 := [27, 42, 185, 0, 23, 1, 0, 184, 0, 29, 42, 27, 185, 0, 33, 2, 0, 176]
abbrev dktX1_known_0 : List UInt8 := dkwX1_known_0 ++ []
theorem dksX1_known_0 : cX1_known.data.toList.drop 0 = dktX1_known_0 := by decide +kernel
theorem dX1_known_0 : decode cX1_known 0 = .ok (.iload_n 1, 1) := dk_27 (dk_at dksX1_known_0 0 rfl rfl)
theorem dX1_known_1 : decode cX1_known 1 = .ok (.aload_n 0, 1) := dk_42 (dk_at dksX1_known_0 1 rfl rfl)
theorem dX1_known_2 : decode cX1_known 2 = .ok (.invokeinterface 23 1, 5) := by decide +kernel
theorem dX1_known_7 : decode cX1_known 7 = .ok (.invokestatic 29, 3) := dk_184 0 29 (dk_at dksX1_known_0 7 rfl rfl)
theorem dX1_known_10 : decode cX1_known 10 = .ok (.aload_n 0, 1) := dk_42 (dk_at dksX1_known_0 10 rfl rfl)
theorem dX1_known_11 : decode cX1_known 11 = .ok (.iload_n 1, 1) := dk_27 (dk_at dksX1_known_0 11 rfl rfl)
theorem dX1_known_12 : decode cX1_known 12 = .ok (.invokeinterface 33 2, 5) := by decide +kernel
theorem dX1_known_17 : decode cX1_known 17 = .ok (.areturn, 1) := dk_176 (dk_at dksX1_known_0 17 rfl rfl)
abbrev cX1_requireIndex : ByteArray := prog_1_method_3_code
def yX1_requireIndex : MethodName := ⟨RX1, "requireIndex", "(II)V"⟩
def dkwX1_requireIndex_0 : List UInt8 := [26, 155, 0, 8, 26, 27, 161, 0, 11, 187, 0, 10, 89, 183, 0, 12, 191, 177]
abbrev dktX1_requireIndex_0 : List UInt8 := dkwX1_requireIndex_0 ++ []
theorem dksX1_requireIndex_0 : cX1_requireIndex.data.toList.drop 0 = dktX1_requireIndex_0 := by decide +kernel
theorem dX1_requireIndex_0 : decode cX1_requireIndex 0 = .ok (.iload_n 0, 1) := dk_26 (dk_at dksX1_requireIndex_0 0 rfl rfl)
theorem dX1_requireIndex_1 : decode cX1_requireIndex 1 = .ok (.ifCond .lt 8, 3) := dk_155 0 8 (dk_at dksX1_requireIndex_0 1 rfl rfl)
theorem dX1_requireIndex_4 : decode cX1_requireIndex 4 = .ok (.iload_n 0, 1) := dk_26 (dk_at dksX1_requireIndex_0 4 rfl rfl)
theorem dX1_requireIndex_5 : decode cX1_requireIndex 5 = .ok (.iload_n 1, 1) := dk_27 (dk_at dksX1_requireIndex_0 5 rfl rfl)
theorem dX1_requireIndex_6 : decode cX1_requireIndex 6 = .ok (.if_icmp .lt 11, 3) := dk_161 0 11 (dk_at dksX1_requireIndex_0 6 rfl rfl)
theorem dX1_requireIndex_9 : decode cX1_requireIndex 9 = .ok (.new 10, 3) := dk_187 0 10 (dk_at dksX1_requireIndex_0 9 rfl rfl)
theorem dX1_requireIndex_12 : decode cX1_requireIndex 12 = .ok (.dup, 1) := dk_89 (dk_at dksX1_requireIndex_0 12 rfl rfl)
theorem dX1_requireIndex_13 : decode cX1_requireIndex 13 = .ok (.invokespecial 12, 3) := dk_183 0 12 (dk_at dksX1_requireIndex_0 13 rfl rfl)
theorem dX1_requireIndex_16 : decode cX1_requireIndex 16 = .ok (.athrow, 1) := dk_191 (dk_at dksX1_requireIndex_0 16 rfl rfl)
theorem dX1_requireIndex_17 : decode cX1_requireIndex 17 = .ok (.return_, 1) := dk_177 (dk_at dksX1_requireIndex_0 17 rfl rfl)
abbrev cX1_star : ByteArray := prog_1_method_11_code
def yX1_star : MethodName := ⟨RX1, "star", "(II)I"⟩
def dkwX1_star_2 : List UInt8 := [182, 0, 72, 87, 42, 180, 0, 47, 182, 0, 64, 4, 100, 172]
abbrev dktX1_star_2 : List UInt8 := dkwX1_star_2 ++ []
def dkwX1_star_1 : List UInt8 := [162, 0, 7, 4, 167, 0, 4, 3, 184, 0, 65, 42, 180, 0, 47, 187, 0, 88, 89, 27, 28, 183, 0, 90]
abbrev dktX1_star_1 : List UInt8 := dkwX1_star_1 ++ dktX1_star_2
def dkwX1_star_0 : List UInt8 := [3, 17, 1, 103, 27, 184, 0, 57, 4, 16, 9, 28, 184, 0, 57, 42, 180, 0, 47, 182, 0, 64, 16, 20]
abbrev dktX1_star_0 : List UInt8 := dkwX1_star_0 ++ dktX1_star_1
theorem dksX1_star_0 : cX1_star.data.toList.drop 0 = dktX1_star_0 := by decide +kernel
theorem dksX1_star_1 : cX1_star.data.toList.drop 24 = dktX1_star_1 := dk_seg dksX1_star_0 24 rfl rfl
theorem dksX1_star_2 : cX1_star.data.toList.drop 48 = dktX1_star_2 := dk_seg dksX1_star_1 24 rfl rfl
theorem dX1_star_0 : decode cX1_star 0 = .ok (.iconst 0, 1) := dk_3 (dk_at dksX1_star_0 0 rfl rfl)
theorem dX1_star_1 : decode cX1_star 1 = .ok (.sipush 359, 3) := dk_17 1 103 (dk_at dksX1_star_0 1 rfl rfl)
theorem dX1_star_4 : decode cX1_star 4 = .ok (.iload_n 1, 1) := dk_27 (dk_at dksX1_star_0 4 rfl rfl)
theorem dX1_star_5 : decode cX1_star 5 = .ok (.invokestatic 57, 3) := dk_184 0 57 (dk_at dksX1_star_0 5 rfl rfl)
theorem dX1_star_8 : decode cX1_star 8 = .ok (.iconst 1, 1) := dk_4 (dk_at dksX1_star_0 8 rfl rfl)
theorem dX1_star_9 : decode cX1_star 9 = .ok (.bipush 9, 2) := dk_16 9 (dk_at dksX1_star_0 9 rfl rfl)
theorem dX1_star_11 : decode cX1_star 11 = .ok (.iload_n 2, 1) := dk_28 (dk_at dksX1_star_0 11 rfl rfl)
theorem dX1_star_12 : decode cX1_star 12 = .ok (.invokestatic 57, 3) := dk_184 0 57 (dk_at dksX1_star_0 12 rfl rfl)
theorem dX1_star_15 : decode cX1_star 15 = .ok (.aload_n 0, 1) := dk_42 (dk_at dksX1_star_0 15 rfl rfl)
theorem dX1_star_16 : decode cX1_star 16 = .ok (.getfield 47, 3) := dk_180 0 47 (dk_at dksX1_star_0 16 rfl rfl)
theorem dX1_star_19 : decode cX1_star 19 = .ok (.invokevirtual 64, 3) := dk_182 0 64 (dk_at dksX1_star_0 19 rfl rfl)
theorem dX1_star_22 : decode cX1_star 22 = .ok (.bipush 20, 2) := dk_16 20 (dk_at dksX1_star_0 22 rfl rfl)
theorem dX1_star_24 : decode cX1_star 24 = .ok (.if_icmp .ge 7, 3) := dk_162 0 7 (dk_at dksX1_star_1 0 rfl rfl)
theorem dX1_star_27 : decode cX1_star 27 = .ok (.iconst 1, 1) := dk_4 (dk_at dksX1_star_1 3 rfl rfl)
theorem dX1_star_28 : decode cX1_star 28 = .ok (.goto 4, 3) := dk_167 0 4 (dk_at dksX1_star_1 4 rfl rfl)
theorem dX1_star_31 : decode cX1_star 31 = .ok (.iconst 0, 1) := dk_3 (dk_at dksX1_star_1 7 rfl rfl)
theorem dX1_star_32 : decode cX1_star 32 = .ok (.invokestatic 65, 3) := dk_184 0 65 (dk_at dksX1_star_1 8 rfl rfl)
theorem dX1_star_35 : decode cX1_star 35 = .ok (.aload_n 0, 1) := dk_42 (dk_at dksX1_star_1 11 rfl rfl)
theorem dX1_star_36 : decode cX1_star 36 = .ok (.getfield 47, 3) := dk_180 0 47 (dk_at dksX1_star_1 12 rfl rfl)
theorem dX1_star_39 : decode cX1_star 39 = .ok (.new 88, 3) := dk_187 0 88 (dk_at dksX1_star_1 15 rfl rfl)
theorem dX1_star_42 : decode cX1_star 42 = .ok (.dup, 1) := dk_89 (dk_at dksX1_star_1 18 rfl rfl)
theorem dX1_star_43 : decode cX1_star 43 = .ok (.iload_n 1, 1) := dk_27 (dk_at dksX1_star_1 19 rfl rfl)
theorem dX1_star_44 : decode cX1_star 44 = .ok (.iload_n 2, 1) := dk_28 (dk_at dksX1_star_1 20 rfl rfl)
theorem dX1_star_45 : decode cX1_star 45 = .ok (.invokespecial 90, 3) := dk_183 0 90 (dk_at dksX1_star_1 21 rfl rfl)
theorem dX1_star_48 : decode cX1_star 48 = .ok (.invokevirtual 72, 3) := dk_182 0 72 (dk_at dksX1_star_2 0 rfl rfl)
theorem dX1_star_51 : decode cX1_star 51 = .ok (.pop, 1) := dk_87 (dk_at dksX1_star_2 3 rfl rfl)
theorem dX1_star_52 : decode cX1_star 52 = .ok (.aload_n 0, 1) := dk_42 (dk_at dksX1_star_2 4 rfl rfl)
theorem dX1_star_53 : decode cX1_star 53 = .ok (.getfield 47, 3) := dk_180 0 47 (dk_at dksX1_star_2 5 rfl rfl)
theorem dX1_star_56 : decode cX1_star 56 = .ok (.invokevirtual 64, 3) := dk_182 0 64 (dk_at dksX1_star_2 8 rfl rfl)
theorem dX1_star_59 : decode cX1_star 59 = .ok (.iconst 1, 1) := dk_4 (dk_at dksX1_star_2 11 rfl rfl)
theorem dX1_star_60 : decode cX1_star 60 = .ok (.isub, 1) := dk_100 (dk_at dksX1_star_2 12 rfl rfl)
theorem dX1_star_61 : decode cX1_star 61 = .ok (.ireturn, 1) := dk_172 (dk_at dksX1_star_2 13 rfl rfl)
abbrev cX1_cue : ByteArray := prog_1_method_12_code
def yX1_cue : MethodName := ⟨RX1, "cue", "(IIII)I"⟩
def dkwX1_cue_3 : List UInt8 := [29, 21, 4, 183, 0, 104, 182, 0, 72, 87, 42, 180, 0, 43, 182, 0, 64, 4, 100, 172]
abbrev dktX1_cue_3 : List UInt8 := dkwX1_cue_3 ++ []
def dkwX1_cue_2 : List UInt8 := [16, 24, 162, 0, 7, 4, 167, 0, 4, 3, 184, 0, 65, 42, 180, 0, 43, 187, 0, 102, 89, 27, 25, 5]
abbrev dktX1_cue_2 : List UInt8 := dkwX1_cue_2 ++ dktX1_cue_3
def dkwX1_cue_1 : List UInt8 := [58, 5, 25, 5, 42, 180, 0, 53, 29, 21, 4, 182, 0, 98, 184, 0, 19, 42, 180, 0, 43, 182, 0, 64]
abbrev dktX1_cue_1 : List UInt8 := dkwX1_cue_1 ++ dktX1_cue_2
def dkwX1_cue_0 : List UInt8 := [3, 17, 3, 231, 27, 184, 0, 57, 3, 184, 0, 92, 190, 4, 100, 28, 184, 0, 57, 184, 0, 92, 28, 50]
abbrev dktX1_cue_0 : List UInt8 := dkwX1_cue_0 ++ dktX1_cue_1
theorem dksX1_cue_0 : cX1_cue.data.toList.drop 0 = dktX1_cue_0 := by decide +kernel
theorem dksX1_cue_1 : cX1_cue.data.toList.drop 24 = dktX1_cue_1 := dk_seg dksX1_cue_0 24 rfl rfl
theorem dksX1_cue_2 : cX1_cue.data.toList.drop 48 = dktX1_cue_2 := dk_seg dksX1_cue_1 24 rfl rfl
theorem dksX1_cue_3 : cX1_cue.data.toList.drop 72 = dktX1_cue_3 := dk_seg dksX1_cue_2 24 rfl rfl
theorem dX1_cue_0 : decode cX1_cue 0 = .ok (.iconst 0, 1) := dk_3 (dk_at dksX1_cue_0 0 rfl rfl)
theorem dX1_cue_1 : decode cX1_cue 1 = .ok (.sipush 999, 3) := dk_17 3 231 (dk_at dksX1_cue_0 1 rfl rfl)
theorem dX1_cue_4 : decode cX1_cue 4 = .ok (.iload_n 1, 1) := dk_27 (dk_at dksX1_cue_0 4 rfl rfl)
theorem dX1_cue_5 : decode cX1_cue 5 = .ok (.invokestatic 57, 3) := dk_184 0 57 (dk_at dksX1_cue_0 5 rfl rfl)
theorem dX1_cue_8 : decode cX1_cue 8 = .ok (.iconst 0, 1) := dk_3 (dk_at dksX1_cue_0 8 rfl rfl)
theorem dX1_cue_9 : decode cX1_cue 9 = .ok (.invokestatic 92, 3) := dk_184 0 92 (dk_at dksX1_cue_0 9 rfl rfl)
theorem dX1_cue_12 : decode cX1_cue 12 = .ok (.arraylength, 1) := dk_190 (dk_at dksX1_cue_0 12 rfl rfl)
theorem dX1_cue_13 : decode cX1_cue 13 = .ok (.iconst 1, 1) := dk_4 (dk_at dksX1_cue_0 13 rfl rfl)
theorem dX1_cue_14 : decode cX1_cue 14 = .ok (.isub, 1) := dk_100 (dk_at dksX1_cue_0 14 rfl rfl)
theorem dX1_cue_15 : decode cX1_cue 15 = .ok (.iload_n 2, 1) := dk_28 (dk_at dksX1_cue_0 15 rfl rfl)
theorem dX1_cue_16 : decode cX1_cue 16 = .ok (.invokestatic 57, 3) := dk_184 0 57 (dk_at dksX1_cue_0 16 rfl rfl)
theorem dX1_cue_19 : decode cX1_cue 19 = .ok (.invokestatic 92, 3) := dk_184 0 92 (dk_at dksX1_cue_0 19 rfl rfl)
theorem dX1_cue_22 : decode cX1_cue 22 = .ok (.iload_n 2, 1) := dk_28 (dk_at dksX1_cue_0 22 rfl rfl)
theorem dX1_cue_23 : decode cX1_cue 23 = .ok (.aaload, 1) := dk_50 (dk_at dksX1_cue_0 23 rfl rfl)
theorem dX1_cue_24 : decode cX1_cue 24 = .ok (.astore 5, 2) := dk_58 5 (dk_at dksX1_cue_1 0 rfl rfl)
theorem dX1_cue_26 : decode cX1_cue 26 = .ok (.aload 5, 2) := dk_25 5 (dk_at dksX1_cue_1 2 rfl rfl)
theorem dX1_cue_28 : decode cX1_cue 28 = .ok (.aload_n 0, 1) := dk_42 (dk_at dksX1_cue_1 4 rfl rfl)
theorem dX1_cue_29 : decode cX1_cue 29 = .ok (.getfield 53, 3) := dk_180 0 53 (dk_at dksX1_cue_1 5 rfl rfl)
theorem dX1_cue_32 : decode cX1_cue 32 = .ok (.iload_n 3, 1) := dk_29 (dk_at dksX1_cue_1 8 rfl rfl)
theorem dX1_cue_33 : decode cX1_cue 33 = .ok (.iload 4, 2) := dk_21 4 (dk_at dksX1_cue_1 9 rfl rfl)
theorem dX1_cue_35 : decode cX1_cue 35 = .ok (.invokevirtual 98, 3) := dk_182 0 98 (dk_at dksX1_cue_1 11 rfl rfl)
theorem dX1_cue_38 : decode cX1_cue 38 = .ok (.invokestatic 19, 3) := dk_184 0 19 (dk_at dksX1_cue_1 14 rfl rfl)
theorem dX1_cue_41 : decode cX1_cue 41 = .ok (.aload_n 0, 1) := dk_42 (dk_at dksX1_cue_1 17 rfl rfl)
theorem dX1_cue_42 : decode cX1_cue 42 = .ok (.getfield 43, 3) := dk_180 0 43 (dk_at dksX1_cue_1 18 rfl rfl)
theorem dX1_cue_45 : decode cX1_cue 45 = .ok (.invokevirtual 64, 3) := dk_182 0 64 (dk_at dksX1_cue_1 21 rfl rfl)
theorem dX1_cue_48 : decode cX1_cue 48 = .ok (.bipush 24, 2) := dk_16 24 (dk_at dksX1_cue_2 0 rfl rfl)
theorem dX1_cue_50 : decode cX1_cue 50 = .ok (.if_icmp .ge 7, 3) := dk_162 0 7 (dk_at dksX1_cue_2 2 rfl rfl)
theorem dX1_cue_53 : decode cX1_cue 53 = .ok (.iconst 1, 1) := dk_4 (dk_at dksX1_cue_2 5 rfl rfl)
theorem dX1_cue_54 : decode cX1_cue 54 = .ok (.goto 4, 3) := dk_167 0 4 (dk_at dksX1_cue_2 6 rfl rfl)
theorem dX1_cue_57 : decode cX1_cue 57 = .ok (.iconst 0, 1) := dk_3 (dk_at dksX1_cue_2 9 rfl rfl)
theorem dX1_cue_58 : decode cX1_cue 58 = .ok (.invokestatic 65, 3) := dk_184 0 65 (dk_at dksX1_cue_2 10 rfl rfl)
theorem dX1_cue_61 : decode cX1_cue 61 = .ok (.aload_n 0, 1) := dk_42 (dk_at dksX1_cue_2 13 rfl rfl)
theorem dX1_cue_62 : decode cX1_cue 62 = .ok (.getfield 43, 3) := dk_180 0 43 (dk_at dksX1_cue_2 14 rfl rfl)
theorem dX1_cue_65 : decode cX1_cue 65 = .ok (.new 102, 3) := dk_187 0 102 (dk_at dksX1_cue_2 17 rfl rfl)
theorem dX1_cue_68 : decode cX1_cue 68 = .ok (.dup, 1) := dk_89 (dk_at dksX1_cue_2 20 rfl rfl)
theorem dX1_cue_69 : decode cX1_cue 69 = .ok (.iload_n 1, 1) := dk_27 (dk_at dksX1_cue_2 21 rfl rfl)
theorem dX1_cue_70 : decode cX1_cue 70 = .ok (.aload 5, 2) := dk_25 5 (dk_at dksX1_cue_2 22 rfl rfl)
theorem dX1_cue_72 : decode cX1_cue 72 = .ok (.iload_n 3, 1) := dk_29 (dk_at dksX1_cue_3 0 rfl rfl)
theorem dX1_cue_73 : decode cX1_cue 73 = .ok (.iload 4, 2) := dk_21 4 (dk_at dksX1_cue_3 1 rfl rfl)
theorem dX1_cue_75 : decode cX1_cue 75 = .ok (.invokespecial 104, 3) := dk_183 0 104 (dk_at dksX1_cue_3 3 rfl rfl)
theorem dX1_cue_78 : decode cX1_cue 78 = .ok (.invokevirtual 72, 3) := dk_182 0 72 (dk_at dksX1_cue_3 6 rfl rfl)
theorem dX1_cue_81 : decode cX1_cue 81 = .ok (.pop, 1) := dk_87 (dk_at dksX1_cue_3 9 rfl rfl)
theorem dX1_cue_82 : decode cX1_cue 82 = .ok (.aload_n 0, 1) := dk_42 (dk_at dksX1_cue_3 10 rfl rfl)
theorem dX1_cue_83 : decode cX1_cue 83 = .ok (.getfield 43, 3) := dk_180 0 43 (dk_at dksX1_cue_3 11 rfl rfl)
theorem dX1_cue_86 : decode cX1_cue 86 = .ok (.invokevirtual 64, 3) := dk_182 0 64 (dk_at dksX1_cue_3 14 rfl rfl)
theorem dX1_cue_89 : decode cX1_cue 89 = .ok (.iconst 1, 1) := dk_4 (dk_at dksX1_cue_3 17 rfl rfl)
theorem dX1_cue_90 : decode cX1_cue 90 = .ok (.isub, 1) := dk_100 (dk_at dksX1_cue_3 18 rfl rfl)
theorem dX1_cue_91 : decode cX1_cue 91 = .ok (.ireturn, 1) := dk_172 (dk_at dksX1_cue_3 19 rfl rfl)
abbrev cX1_jump : ByteArray := prog_1_method_14_code
def yX1_jump : MethodName := ⟨RX1, "jump", "(I)I"⟩
def dkwX1_jump_1 : List UInt8 := [28, 172]
abbrev dktX1_jump_1 : List UInt8 := dkwX1_jump_1 ++ []
def dkwX1_jump_0 : List UInt8 := [3, 17, 3, 232, 27, 184, 0, 57, 42, 180, 0, 53, 180, 0, 111, 61, 42, 180, 0, 53, 27, 181, 0, 111]
abbrev dktX1_jump_0 : List UInt8 := dkwX1_jump_0 ++ dktX1_jump_1
theorem dksX1_jump_0 : cX1_jump.data.toList.drop 0 = dktX1_jump_0 := by decide +kernel
theorem dksX1_jump_1 : cX1_jump.data.toList.drop 24 = dktX1_jump_1 := dk_seg dksX1_jump_0 24 rfl rfl
theorem dX1_jump_0 : decode cX1_jump 0 = .ok (.iconst 0, 1) := dk_3 (dk_at dksX1_jump_0 0 rfl rfl)
theorem dX1_jump_1 : decode cX1_jump 1 = .ok (.sipush 1000, 3) := dk_17 3 232 (dk_at dksX1_jump_0 1 rfl rfl)
theorem dX1_jump_4 : decode cX1_jump 4 = .ok (.iload_n 1, 1) := dk_27 (dk_at dksX1_jump_0 4 rfl rfl)
theorem dX1_jump_5 : decode cX1_jump 5 = .ok (.invokestatic 57, 3) := dk_184 0 57 (dk_at dksX1_jump_0 5 rfl rfl)
theorem dX1_jump_8 : decode cX1_jump 8 = .ok (.aload_n 0, 1) := dk_42 (dk_at dksX1_jump_0 8 rfl rfl)
theorem dX1_jump_9 : decode cX1_jump 9 = .ok (.getfield 53, 3) := dk_180 0 53 (dk_at dksX1_jump_0 9 rfl rfl)
theorem dX1_jump_12 : decode cX1_jump 12 = .ok (.getfield 111, 3) := dk_180 0 111 (dk_at dksX1_jump_0 12 rfl rfl)
theorem dX1_jump_15 : decode cX1_jump 15 = .ok (.istore_n 2, 1) := dk_61 (dk_at dksX1_jump_0 15 rfl rfl)
theorem dX1_jump_16 : decode cX1_jump 16 = .ok (.aload_n 0, 1) := dk_42 (dk_at dksX1_jump_0 16 rfl rfl)
theorem dX1_jump_17 : decode cX1_jump 17 = .ok (.getfield 53, 3) := dk_180 0 53 (dk_at dksX1_jump_0 17 rfl rfl)
theorem dX1_jump_20 : decode cX1_jump 20 = .ok (.iload_n 1, 1) := dk_27 (dk_at dksX1_jump_0 20 rfl rfl)
theorem dX1_jump_21 : decode cX1_jump 21 = .ok (.putfield 111, 3) := dk_181 0 111 (dk_at dksX1_jump_0 21 rfl rfl)
theorem dX1_jump_24 : decode cX1_jump 24 = .ok (.iload_n 2, 1) := dk_28 (dk_at dksX1_jump_1 0 rfl rfl)
theorem dX1_jump_25 : decode cX1_jump 25 = .ok (.ireturn, 1) := dk_172 (dk_at dksX1_jump_1 1 rfl rfl)
abbrev cX1_fade : ByteArray := prog_1_method_15_code
def yX1_fade : MethodName := ⟨RX1, "fade", "(II)I"⟩
def dkwX1_fade_1 : List UInt8 := [180, 0, 114, 54, 4, 45, 28, 181, 0, 114, 21, 4, 172]
abbrev dktX1_fade_1 : List UInt8 := dkwX1_fade_1 ++ []
def dkwX1_fade_0 : List UInt8 := [42, 180, 0, 53, 180, 0, 61, 27, 184, 0, 76, 192, 0, 68, 78, 3, 16, 100, 28, 184, 0, 57, 45]
abbrev dktX1_fade_0 : List UInt8 := dkwX1_fade_0 ++ dktX1_fade_1
theorem dksX1_fade_0 : cX1_fade.data.toList.drop 0 = dktX1_fade_0 := by decide +kernel
theorem dksX1_fade_1 : cX1_fade.data.toList.drop 23 = dktX1_fade_1 := dk_seg dksX1_fade_0 23 rfl rfl
theorem dX1_fade_0 : decode cX1_fade 0 = .ok (.aload_n 0, 1) := dk_42 (dk_at dksX1_fade_0 0 rfl rfl)
theorem dX1_fade_1 : decode cX1_fade 1 = .ok (.getfield 53, 3) := dk_180 0 53 (dk_at dksX1_fade_0 1 rfl rfl)
theorem dX1_fade_4 : decode cX1_fade 4 = .ok (.getfield 61, 3) := dk_180 0 61 (dk_at dksX1_fade_0 4 rfl rfl)
theorem dX1_fade_7 : decode cX1_fade 7 = .ok (.iload_n 1, 1) := dk_27 (dk_at dksX1_fade_0 7 rfl rfl)
theorem dX1_fade_8 : decode cX1_fade 8 = .ok (.invokestatic 76, 3) := dk_184 0 76 (dk_at dksX1_fade_0 8 rfl rfl)
theorem dX1_fade_11 : decode cX1_fade 11 = .ok (.checkcast 68, 3) := dk_192 0 68 (dk_at dksX1_fade_0 11 rfl rfl)
theorem dX1_fade_14 : decode cX1_fade 14 = .ok (.astore_n 3, 1) := dk_78 (dk_at dksX1_fade_0 14 rfl rfl)
theorem dX1_fade_15 : decode cX1_fade 15 = .ok (.iconst 0, 1) := dk_3 (dk_at dksX1_fade_0 15 rfl rfl)
theorem dX1_fade_16 : decode cX1_fade 16 = .ok (.bipush 100, 2) := dk_16 100 (dk_at dksX1_fade_0 16 rfl rfl)
theorem dX1_fade_18 : decode cX1_fade 18 = .ok (.iload_n 2, 1) := dk_28 (dk_at dksX1_fade_0 18 rfl rfl)
theorem dX1_fade_19 : decode cX1_fade 19 = .ok (.invokestatic 57, 3) := dk_184 0 57 (dk_at dksX1_fade_0 19 rfl rfl)
theorem dX1_fade_22 : decode cX1_fade 22 = .ok (.aload_n 3, 1) := dk_45 (dk_at dksX1_fade_0 22 rfl rfl)
theorem dX1_fade_23 : decode cX1_fade 23 = .ok (.getfield 114, 3) := dk_180 0 114 (dk_at dksX1_fade_1 0 rfl rfl)
theorem dX1_fade_26 : decode cX1_fade 26 = .ok (.istore 4, 2) := dk_54 4 (dk_at dksX1_fade_1 3 rfl rfl)
theorem dX1_fade_28 : decode cX1_fade 28 = .ok (.aload_n 3, 1) := dk_45 (dk_at dksX1_fade_1 5 rfl rfl)
theorem dX1_fade_29 : decode cX1_fade 29 = .ok (.iload_n 2, 1) := dk_28 (dk_at dksX1_fade_1 6 rfl rfl)
theorem dX1_fade_30 : decode cX1_fade 30 = .ok (.putfield 114, 3) := dk_181 0 114 (dk_at dksX1_fade_1 7 rfl rfl)
theorem dX1_fade_33 : decode cX1_fade 33 = .ok (.iload 4, 2) := dk_21 4 (dk_at dksX1_fade_1 10 rfl rfl)
theorem dX1_fade_35 : decode cX1_fade 35 = .ok (.ireturn, 1) := dk_172 (dk_at dksX1_fade_1 12 rfl rfl)
abbrev cX1_pass : ByteArray := prog_1_method_17_code
def yX1_pass : MethodName := ⟨RX1, "pass", "(I)I"⟩
def dkwX1_pass_0 : List UInt8 := [4, 17, 1, 244, 27, 184, 0, 57, 42, 42, 180, 0, 53, 27, 182, 0, 121, 172]
abbrev dktX1_pass_0 : List UInt8 := dkwX1_pass_0 ++ []
theorem dksX1_pass_0 : cX1_pass.data.toList.drop 0 = dktX1_pass_0 := by decide +kernel
theorem dX1_pass_0 : decode cX1_pass 0 = .ok (.iconst 1, 1) := dk_4 (dk_at dksX1_pass_0 0 rfl rfl)
theorem dX1_pass_1 : decode cX1_pass 1 = .ok (.sipush 500, 3) := dk_17 1 244 (dk_at dksX1_pass_0 1 rfl rfl)
theorem dX1_pass_4 : decode cX1_pass 4 = .ok (.iload_n 1, 1) := dk_27 (dk_at dksX1_pass_0 4 rfl rfl)
theorem dX1_pass_5 : decode cX1_pass 5 = .ok (.invokestatic 57, 3) := dk_184 0 57 (dk_at dksX1_pass_0 5 rfl rfl)
theorem dX1_pass_8 : decode cX1_pass 8 = .ok (.aload_n 0, 1) := dk_42 (dk_at dksX1_pass_0 8 rfl rfl)
theorem dX1_pass_9 : decode cX1_pass 9 = .ok (.aload_n 0, 1) := dk_42 (dk_at dksX1_pass_0 9 rfl rfl)
theorem dX1_pass_10 : decode cX1_pass 10 = .ok (.getfield 53, 3) := dk_180 0 53 (dk_at dksX1_pass_0 10 rfl rfl)
theorem dX1_pass_13 : decode cX1_pass 13 = .ok (.iload_n 1, 1) := dk_27 (dk_at dksX1_pass_0 13 rfl rfl)
theorem dX1_pass_14 : decode cX1_pass 14 = .ok (.invokevirtual 121, 3) := dk_182 0 121 (dk_at dksX1_pass_0 14 rfl rfl)
theorem dX1_pass_17 : decode cX1_pass 17 = .ok (.ireturn, 1) := dk_172 (dk_at dksX1_pass_0 17 rfl rfl)
abbrev cX1_pass_2 : ByteArray := prog_1_method_16_code
def yX1_pass_2 : MethodName := ⟨RX1, "pass", "(LStarConsole$Console;I)I"⟩
def dkwX1_pass_2_1 : List UInt8 := [132, 4, 1, 167, 255, 236, 29, 172]
abbrev dktX1_pass_2_1 : List UInt8 := dkwX1_pass_2_1 ++ []
def dkwX1_pass_2_0 : List UInt8 := [3, 62, 3, 54, 4, 21, 4, 28, 162, 0, 20, 29, 43, 42, 180, 0, 43, 182, 0, 117, 96, 62]
abbrev dktX1_pass_2_0 : List UInt8 := dkwX1_pass_2_0 ++ dktX1_pass_2_1
theorem dksX1_pass_2_0 : cX1_pass_2.data.toList.drop 0 = dktX1_pass_2_0 := by decide +kernel
theorem dksX1_pass_2_1 : cX1_pass_2.data.toList.drop 22 = dktX1_pass_2_1 := dk_seg dksX1_pass_2_0 22 rfl rfl
theorem dX1_pass_2_0 : decode cX1_pass_2 0 = .ok (.iconst 0, 1) := dk_3 (dk_at dksX1_pass_2_0 0 rfl rfl)
theorem dX1_pass_2_1 : decode cX1_pass_2 1 = .ok (.istore_n 3, 1) := dk_62 (dk_at dksX1_pass_2_0 1 rfl rfl)
theorem dX1_pass_2_2 : decode cX1_pass_2 2 = .ok (.iconst 0, 1) := dk_3 (dk_at dksX1_pass_2_0 2 rfl rfl)
theorem dX1_pass_2_3 : decode cX1_pass_2 3 = .ok (.istore 4, 2) := dk_54 4 (dk_at dksX1_pass_2_0 3 rfl rfl)
theorem dX1_pass_2_5 : decode cX1_pass_2 5 = .ok (.iload 4, 2) := dk_21 4 (dk_at dksX1_pass_2_0 5 rfl rfl)
theorem dX1_pass_2_7 : decode cX1_pass_2 7 = .ok (.iload_n 2, 1) := dk_28 (dk_at dksX1_pass_2_0 7 rfl rfl)
theorem dX1_pass_2_8 : decode cX1_pass_2 8 = .ok (.if_icmp .ge 20, 3) := dk_162 0 20 (dk_at dksX1_pass_2_0 8 rfl rfl)
theorem dX1_pass_2_11 : decode cX1_pass_2 11 = .ok (.iload_n 3, 1) := dk_29 (dk_at dksX1_pass_2_0 11 rfl rfl)
theorem dX1_pass_2_12 : decode cX1_pass_2 12 = .ok (.aload_n 1, 1) := dk_43 (dk_at dksX1_pass_2_0 12 rfl rfl)
theorem dX1_pass_2_13 : decode cX1_pass_2 13 = .ok (.aload_n 0, 1) := dk_42 (dk_at dksX1_pass_2_0 13 rfl rfl)
theorem dX1_pass_2_14 : decode cX1_pass_2 14 = .ok (.getfield 43, 3) := dk_180 0 43 (dk_at dksX1_pass_2_0 14 rfl rfl)
theorem dX1_pass_2_17 : decode cX1_pass_2 17 = .ok (.invokevirtual 117, 3) := dk_182 0 117 (dk_at dksX1_pass_2_0 17 rfl rfl)
theorem dX1_pass_2_20 : decode cX1_pass_2 20 = .ok (.iadd, 1) := dk_96 (dk_at dksX1_pass_2_0 20 rfl rfl)
theorem dX1_pass_2_21 : decode cX1_pass_2 21 = .ok (.istore_n 3, 1) := dk_62 (dk_at dksX1_pass_2_0 21 rfl rfl)
theorem dX1_pass_2_22 : decode cX1_pass_2 22 = .ok (.iinc 4 1, 3) := dk_132 4 1 (dk_at dksX1_pass_2_1 0 rfl rfl)
theorem dX1_pass_2_25 : decode cX1_pass_2 25 = .ok (.goto (-20), 3) := dk_167 255 236 (dk_at dksX1_pass_2_1 3 rfl rfl)
theorem dX1_pass_2_28 : decode cX1_pass_2 28 = .ok (.iload_n 3, 1) := dk_29 (dk_at dksX1_pass_2_1 6 rfl rfl)
theorem dX1_pass_2_29 : decode cX1_pass_2 29 = .ok (.ireturn, 1) := dk_172 (dk_at dksX1_pass_2_1 7 rfl rfl)
abbrev cX1_told : ByteArray := prog_1_method_19_code
def yX1_told : MethodName := ⟨RX1, "told", "(II)I"⟩
def dkwX1_told_1 : List UInt8 := [184, 0, 133, 172]
abbrev dktX1_told_1 : List UInt8 := dkwX1_told_1 ++ []
def dkwX1_told_0 : List UInt8 := [42, 180, 0, 53, 180, 0, 61, 27, 184, 0, 76, 192, 0, 68, 78, 28, 8, 184, 0, 29, 45, 28]
abbrev dktX1_told_0 : List UInt8 := dkwX1_told_0 ++ dktX1_told_1
theorem dksX1_told_0 : cX1_told.data.toList.drop 0 = dktX1_told_0 := by decide +kernel
theorem dksX1_told_1 : cX1_told.data.toList.drop 22 = dktX1_told_1 := dk_seg dksX1_told_0 22 rfl rfl
theorem dX1_told_0 : decode cX1_told 0 = .ok (.aload_n 0, 1) := dk_42 (dk_at dksX1_told_0 0 rfl rfl)
theorem dX1_told_1 : decode cX1_told 1 = .ok (.getfield 53, 3) := dk_180 0 53 (dk_at dksX1_told_0 1 rfl rfl)
theorem dX1_told_4 : decode cX1_told 4 = .ok (.getfield 61, 3) := dk_180 0 61 (dk_at dksX1_told_0 4 rfl rfl)
theorem dX1_told_7 : decode cX1_told 7 = .ok (.iload_n 1, 1) := dk_27 (dk_at dksX1_told_0 7 rfl rfl)
theorem dX1_told_8 : decode cX1_told 8 = .ok (.invokestatic 76, 3) := dk_184 0 76 (dk_at dksX1_told_0 8 rfl rfl)
theorem dX1_told_11 : decode cX1_told 11 = .ok (.checkcast 68, 3) := dk_192 0 68 (dk_at dksX1_told_0 11 rfl rfl)
theorem dX1_told_14 : decode cX1_told 14 = .ok (.astore_n 3, 1) := dk_78 (dk_at dksX1_told_0 14 rfl rfl)
theorem dX1_told_15 : decode cX1_told 15 = .ok (.iload_n 2, 1) := dk_28 (dk_at dksX1_told_0 15 rfl rfl)
theorem dX1_told_16 : decode cX1_told 16 = .ok (.iconst 5, 1) := dk_8 (dk_at dksX1_told_0 16 rfl rfl)
theorem dX1_told_17 : decode cX1_told 17 = .ok (.invokestatic 29, 3) := dk_184 0 29 (dk_at dksX1_told_0 17 rfl rfl)
theorem dX1_told_20 : decode cX1_told 20 = .ok (.aload_n 3, 1) := dk_45 (dk_at dksX1_told_0 20 rfl rfl)
theorem dX1_told_21 : decode cX1_told 21 = .ok (.iload_n 2, 1) := dk_28 (dk_at dksX1_told_0 21 rfl rfl)
theorem dX1_told_22 : decode cX1_told 22 = .ok (.invokestatic 133, 3) := dk_184 0 133 (dk_at dksX1_told_1 0 rfl rfl)
theorem dX1_told_25 : decode cX1_told 25 = .ok (.ireturn, 1) := dk_172 (dk_at dksX1_told_1 3 rfl rfl)
abbrev cX1_glare : ByteArray := prog_1_method_20_code
def yX1_glare : MethodName := ⟨RX1, "glare", "(I)I"⟩
def dkwX1_glare_0 : List UInt8 := [27, 16, 12, 184, 0, 29, 42, 180, 0, 53, 27, 182, 0, 137, 172]
abbrev dktX1_glare_0 : List UInt8 := dkwX1_glare_0 ++ []
theorem dksX1_glare_0 : cX1_glare.data.toList.drop 0 = dktX1_glare_0 := by decide +kernel
theorem dX1_glare_0 : decode cX1_glare 0 = .ok (.iload_n 1, 1) := dk_27 (dk_at dksX1_glare_0 0 rfl rfl)
theorem dX1_glare_1 : decode cX1_glare 1 = .ok (.bipush 12, 2) := dk_16 12 (dk_at dksX1_glare_0 1 rfl rfl)
theorem dX1_glare_3 : decode cX1_glare 3 = .ok (.invokestatic 29, 3) := dk_184 0 29 (dk_at dksX1_glare_0 3 rfl rfl)
theorem dX1_glare_6 : decode cX1_glare 6 = .ok (.aload_n 0, 1) := dk_42 (dk_at dksX1_glare_0 6 rfl rfl)
theorem dX1_glare_7 : decode cX1_glare 7 = .ok (.getfield 53, 3) := dk_180 0 53 (dk_at dksX1_glare_0 7 rfl rfl)
theorem dX1_glare_10 : decode cX1_glare 10 = .ok (.iload_n 1, 1) := dk_27 (dk_at dksX1_glare_0 10 rfl rfl)
theorem dX1_glare_11 : decode cX1_glare 11 = .ok (.invokevirtual 137, 3) := dk_182 0 137 (dk_at dksX1_glare_0 11 rfl rfl)
theorem dX1_glare_14 : decode cX1_glare 14 = .ok (.ireturn, 1) := dk_172 (dk_at dksX1_glare_0 14 rfl rfl)
abbrev cX1_about : ByteArray := prog_1_method_22_code
def yX1_about : MethodName := ⟨RX1, "about", "(II)I"⟩
def dkwX1_about_0 : List UInt8 := [42, 180, 0, 47, 27, 184, 0, 76, 192, 0, 88, 78, 28, 7, 184, 0, 29, 42, 45, 28, 182, 0, 155, 172]
abbrev dktX1_about_0 : List UInt8 := dkwX1_about_0 ++ []
theorem dksX1_about_0 : cX1_about.data.toList.drop 0 = dktX1_about_0 := by decide +kernel
theorem dX1_about_0 : decode cX1_about 0 = .ok (.aload_n 0, 1) := dk_42 (dk_at dksX1_about_0 0 rfl rfl)
theorem dX1_about_1 : decode cX1_about 1 = .ok (.getfield 47, 3) := dk_180 0 47 (dk_at dksX1_about_0 1 rfl rfl)
theorem dX1_about_4 : decode cX1_about 4 = .ok (.iload_n 1, 1) := dk_27 (dk_at dksX1_about_0 4 rfl rfl)
theorem dX1_about_5 : decode cX1_about 5 = .ok (.invokestatic 76, 3) := dk_184 0 76 (dk_at dksX1_about_0 5 rfl rfl)
theorem dX1_about_8 : decode cX1_about 8 = .ok (.checkcast 88, 3) := dk_192 0 88 (dk_at dksX1_about_0 8 rfl rfl)
theorem dX1_about_11 : decode cX1_about 11 = .ok (.astore_n 3, 1) := dk_78 (dk_at dksX1_about_0 11 rfl rfl)
theorem dX1_about_12 : decode cX1_about 12 = .ok (.iload_n 2, 1) := dk_28 (dk_at dksX1_about_0 12 rfl rfl)
theorem dX1_about_13 : decode cX1_about 13 = .ok (.iconst 4, 1) := dk_7 (dk_at dksX1_about_0 13 rfl rfl)
theorem dX1_about_14 : decode cX1_about 14 = .ok (.invokestatic 29, 3) := dk_184 0 29 (dk_at dksX1_about_0 14 rfl rfl)
theorem dX1_about_17 : decode cX1_about 17 = .ok (.aload_n 0, 1) := dk_42 (dk_at dksX1_about_0 17 rfl rfl)
theorem dX1_about_18 : decode cX1_about 18 = .ok (.aload_n 3, 1) := dk_45 (dk_at dksX1_about_0 18 rfl rfl)
theorem dX1_about_19 : decode cX1_about 19 = .ok (.iload_n 2, 1) := dk_28 (dk_at dksX1_about_0 19 rfl rfl)
theorem dX1_about_20 : decode cX1_about 20 = .ok (.invokevirtual 155, 3) := dk_182 0 155 (dk_at dksX1_about_0 20 rfl rfl)
theorem dX1_about_23 : decode cX1_about 23 = .ok (.ireturn, 1) := dk_172 (dk_at dksX1_about_0 23 rfl rfl)
abbrev cX1_comet : ByteArray := prog_1_method_24_code
def yX1_comet : MethodName := ⟨RX1, "comet", "(II)I"⟩
def dkwX1_comet_1 : List UInt8 := [182, 0, 176, 172]
abbrev dktX1_comet_1 : List UInt8 := dkwX1_comet_1 ++ []
def dkwX1_comet_0 : List UInt8 := [42, 180, 0, 53, 180, 0, 173, 27, 184, 0, 76, 192, 0, 160, 78, 28, 7, 184, 0, 29, 42, 45, 28]
abbrev dktX1_comet_0 : List UInt8 := dkwX1_comet_0 ++ dktX1_comet_1
theorem dksX1_comet_0 : cX1_comet.data.toList.drop 0 = dktX1_comet_0 := by decide +kernel
theorem dksX1_comet_1 : cX1_comet.data.toList.drop 23 = dktX1_comet_1 := dk_seg dksX1_comet_0 23 rfl rfl
theorem dX1_comet_0 : decode cX1_comet 0 = .ok (.aload_n 0, 1) := dk_42 (dk_at dksX1_comet_0 0 rfl rfl)
theorem dX1_comet_1 : decode cX1_comet 1 = .ok (.getfield 53, 3) := dk_180 0 53 (dk_at dksX1_comet_0 1 rfl rfl)
theorem dX1_comet_4 : decode cX1_comet 4 = .ok (.getfield 173, 3) := dk_180 0 173 (dk_at dksX1_comet_0 4 rfl rfl)
theorem dX1_comet_7 : decode cX1_comet 7 = .ok (.iload_n 1, 1) := dk_27 (dk_at dksX1_comet_0 7 rfl rfl)
theorem dX1_comet_8 : decode cX1_comet 8 = .ok (.invokestatic 76, 3) := dk_184 0 76 (dk_at dksX1_comet_0 8 rfl rfl)
theorem dX1_comet_11 : decode cX1_comet 11 = .ok (.checkcast 160, 3) := dk_192 0 160 (dk_at dksX1_comet_0 11 rfl rfl)
theorem dX1_comet_14 : decode cX1_comet 14 = .ok (.astore_n 3, 1) := dk_78 (dk_at dksX1_comet_0 14 rfl rfl)
theorem dX1_comet_15 : decode cX1_comet 15 = .ok (.iload_n 2, 1) := dk_28 (dk_at dksX1_comet_0 15 rfl rfl)
theorem dX1_comet_16 : decode cX1_comet 16 = .ok (.iconst 4, 1) := dk_7 (dk_at dksX1_comet_0 16 rfl rfl)
theorem dX1_comet_17 : decode cX1_comet 17 = .ok (.invokestatic 29, 3) := dk_184 0 29 (dk_at dksX1_comet_0 17 rfl rfl)
theorem dX1_comet_20 : decode cX1_comet 20 = .ok (.aload_n 0, 1) := dk_42 (dk_at dksX1_comet_0 20 rfl rfl)
theorem dX1_comet_21 : decode cX1_comet 21 = .ok (.aload_n 3, 1) := dk_45 (dk_at dksX1_comet_0 21 rfl rfl)
theorem dX1_comet_22 : decode cX1_comet 22 = .ok (.iload_n 2, 1) := dk_28 (dk_at dksX1_comet_0 22 rfl rfl)
theorem dX1_comet_23 : decode cX1_comet 23 = .ok (.invokevirtual 176, 3) := dk_182 0 176 (dk_at dksX1_comet_1 0 rfl rfl)
theorem dX1_comet_26 : decode cX1_comet 26 = .ok (.ireturn, 1) := dk_172 (dk_at dksX1_comet_1 3 rfl rfl)
abbrev cX1_count : ByteArray := prog_1_method_28_code
def yX1_count : MethodName := ⟨RX1, "count", "(I)I"⟩
def dkwX1_count_0 : List UInt8 := [27, 16, 13, 184, 0, 29, 42, 42, 180, 0, 53, 27, 182, 0, 197, 172]
abbrev dktX1_count_0 : List UInt8 := dkwX1_count_0 ++ []
theorem dksX1_count_0 : cX1_count.data.toList.drop 0 = dktX1_count_0 := by decide +kernel
theorem dX1_count_0 : decode cX1_count 0 = .ok (.iload_n 1, 1) := dk_27 (dk_at dksX1_count_0 0 rfl rfl)
theorem dX1_count_1 : decode cX1_count 1 = .ok (.bipush 13, 2) := dk_16 13 (dk_at dksX1_count_0 1 rfl rfl)
theorem dX1_count_3 : decode cX1_count 3 = .ok (.invokestatic 29, 3) := dk_184 0 29 (dk_at dksX1_count_0 3 rfl rfl)
theorem dX1_count_6 : decode cX1_count 6 = .ok (.aload_n 0, 1) := dk_42 (dk_at dksX1_count_0 6 rfl rfl)
theorem dX1_count_7 : decode cX1_count 7 = .ok (.aload_n 0, 1) := dk_42 (dk_at dksX1_count_0 7 rfl rfl)
theorem dX1_count_8 : decode cX1_count 8 = .ok (.getfield 53, 3) := dk_180 0 53 (dk_at dksX1_count_0 8 rfl rfl)
theorem dX1_count_11 : decode cX1_count 11 = .ok (.iload_n 1, 1) := dk_27 (dk_at dksX1_count_0 11 rfl rfl)
theorem dX1_count_12 : decode cX1_count 12 = .ok (.invokevirtual 197, 3) := dk_182 0 197 (dk_at dksX1_count_0 12 rfl rfl)
theorem dX1_count_15 : decode cX1_count 15 = .ok (.ireturn, 1) := dk_172 (dk_at dksX1_count_0 15 rfl rfl)
abbrev cX1_when : ByteArray := prog_1_method_31_code
def yX1_when : MethodName := ⟨RX1, "when", "(I)I"⟩
def dkwX1_when_2 : List UInt8 := [180, 0, 111, 100, 4, 96, 172]
abbrev dktX1_when_2 : List UInt8 := dkwX1_when_2 ++ []
def dkwX1_when_1 : List UInt8 := [161, 0, 14, 42, 44, 182, 0, 200, 182, 0, 211, 153, 0, 5, 2, 172, 44, 182, 0, 200, 42, 180, 0, 53]
abbrev dktX1_when_1 : List UInt8 := dkwX1_when_1 ++ dktX1_when_2
def dkwX1_when_0 : List UInt8 := [42, 180, 0, 43, 27, 184, 0, 76, 192, 0, 102, 77, 44, 182, 0, 200, 42, 180, 0, 53, 180, 0, 111]
abbrev dktX1_when_0 : List UInt8 := dkwX1_when_0 ++ dktX1_when_1
theorem dksX1_when_0 : cX1_when.data.toList.drop 0 = dktX1_when_0 := by decide +kernel
theorem dksX1_when_1 : cX1_when.data.toList.drop 23 = dktX1_when_1 := dk_seg dksX1_when_0 23 rfl rfl
theorem dksX1_when_2 : cX1_when.data.toList.drop 47 = dktX1_when_2 := dk_seg dksX1_when_1 24 rfl rfl
theorem dX1_when_0 : decode cX1_when 0 = .ok (.aload_n 0, 1) := dk_42 (dk_at dksX1_when_0 0 rfl rfl)
theorem dX1_when_1 : decode cX1_when 1 = .ok (.getfield 43, 3) := dk_180 0 43 (dk_at dksX1_when_0 1 rfl rfl)
theorem dX1_when_4 : decode cX1_when 4 = .ok (.iload_n 1, 1) := dk_27 (dk_at dksX1_when_0 4 rfl rfl)
theorem dX1_when_5 : decode cX1_when 5 = .ok (.invokestatic 76, 3) := dk_184 0 76 (dk_at dksX1_when_0 5 rfl rfl)
theorem dX1_when_8 : decode cX1_when 8 = .ok (.checkcast 102, 3) := dk_192 0 102 (dk_at dksX1_when_0 8 rfl rfl)
theorem dX1_when_11 : decode cX1_when 11 = .ok (.astore_n 2, 1) := dk_77 (dk_at dksX1_when_0 11 rfl rfl)
theorem dX1_when_12 : decode cX1_when 12 = .ok (.aload_n 2, 1) := dk_44 (dk_at dksX1_when_0 12 rfl rfl)
theorem dX1_when_13 : decode cX1_when 13 = .ok (.invokevirtual 200, 3) := dk_182 0 200 (dk_at dksX1_when_0 13 rfl rfl)
theorem dX1_when_16 : decode cX1_when 16 = .ok (.aload_n 0, 1) := dk_42 (dk_at dksX1_when_0 16 rfl rfl)
theorem dX1_when_17 : decode cX1_when 17 = .ok (.getfield 53, 3) := dk_180 0 53 (dk_at dksX1_when_0 17 rfl rfl)
theorem dX1_when_20 : decode cX1_when 20 = .ok (.getfield 111, 3) := dk_180 0 111 (dk_at dksX1_when_0 20 rfl rfl)
theorem dX1_when_23 : decode cX1_when 23 = .ok (.if_icmp .lt 14, 3) := dk_161 0 14 (dk_at dksX1_when_1 0 rfl rfl)
theorem dX1_when_26 : decode cX1_when 26 = .ok (.aload_n 0, 1) := dk_42 (dk_at dksX1_when_1 3 rfl rfl)
theorem dX1_when_27 : decode cX1_when 27 = .ok (.aload_n 2, 1) := dk_44 (dk_at dksX1_when_1 4 rfl rfl)
theorem dX1_when_28 : decode cX1_when 28 = .ok (.invokevirtual 200, 3) := dk_182 0 200 (dk_at dksX1_when_1 5 rfl rfl)
theorem dX1_when_31 : decode cX1_when 31 = .ok (.invokevirtual 211, 3) := dk_182 0 211 (dk_at dksX1_when_1 8 rfl rfl)
theorem dX1_when_34 : decode cX1_when 34 = .ok (.ifCond .eq 5, 3) := dk_153 0 5 (dk_at dksX1_when_1 11 rfl rfl)
theorem dX1_when_37 : decode cX1_when 37 = .ok (.iconst (-1), 1) := dk_2 (dk_at dksX1_when_1 14 rfl rfl)
theorem dX1_when_38 : decode cX1_when 38 = .ok (.ireturn, 1) := dk_172 (dk_at dksX1_when_1 15 rfl rfl)
theorem dX1_when_39 : decode cX1_when 39 = .ok (.aload_n 2, 1) := dk_44 (dk_at dksX1_when_1 16 rfl rfl)
theorem dX1_when_40 : decode cX1_when 40 = .ok (.invokevirtual 200, 3) := dk_182 0 200 (dk_at dksX1_when_1 17 rfl rfl)
theorem dX1_when_43 : decode cX1_when 43 = .ok (.aload_n 0, 1) := dk_42 (dk_at dksX1_when_1 20 rfl rfl)
theorem dX1_when_44 : decode cX1_when 44 = .ok (.getfield 53, 3) := dk_180 0 53 (dk_at dksX1_when_1 21 rfl rfl)
theorem dX1_when_47 : decode cX1_when 47 = .ok (.getfield 111, 3) := dk_180 0 111 (dk_at dksX1_when_2 0 rfl rfl)
theorem dX1_when_50 : decode cX1_when 50 = .ok (.isub, 1) := dk_100 (dk_at dksX1_when_2 3 rfl rfl)
theorem dX1_when_51 : decode cX1_when 51 = .ok (.iconst 1, 1) := dk_4 (dk_at dksX1_when_2 4 rfl rfl)
theorem dX1_when_52 : decode cX1_when 52 = .ok (.iadd, 1) := dk_96 (dk_at dksX1_when_2 5 rfl rfl)
theorem dX1_when_53 : decode cX1_when 53 = .ok (.ireturn, 1) := dk_172 (dk_at dksX1_when_2 6 rfl rfl)
abbrev cX1_isHeldBefore : ByteArray := prog_1_method_30_code
def yX1_isHeldBefore : MethodName := ⟨RX1, "isHeldBefore", "(I)Z"⟩
def dkwX1_isHeldBefore_3 : List UInt8 := [27, 4, 100, 184, 0, 13, 153, 0, 7, 4, 167, 0, 4, 3, 128, 61, 132, 3, 1, 167, 255, 184, 28, 172]
abbrev dktX1_isHeldBefore_3 : List UInt8 := dkwX1_isHeldBefore_3 ++ []
def dkwX1_isHeldBefore_2 : List UInt8 := [166, 0, 37, 42, 180, 0, 43, 29, 182, 0, 180, 192, 0, 102, 182, 0, 200, 42, 180, 0, 53, 180, 0, 111]
abbrev dktX1_isHeldBefore_2 : List UInt8 := dkwX1_isHeldBefore_2 ++ dktX1_isHeldBefore_3
def dkwX1_isHeldBefore_1 : List UInt8 := [182, 0, 64, 162, 0, 67, 28, 42, 180, 0, 43, 29, 182, 0, 180, 192, 0, 102, 182, 0, 203, 178, 0, 207]
abbrev dktX1_isHeldBefore_1 : List UInt8 := dkwX1_isHeldBefore_1 ++ dktX1_isHeldBefore_2
def dkwX1_isHeldBefore_0 : List UInt8 := [42, 180, 0, 53, 180, 0, 107, 154, 0, 7, 4, 167, 0, 4, 3, 61, 3, 62, 29, 42, 180, 0, 43]
abbrev dktX1_isHeldBefore_0 : List UInt8 := dkwX1_isHeldBefore_0 ++ dktX1_isHeldBefore_1
theorem dksX1_isHeldBefore_0 : cX1_isHeldBefore.data.toList.drop 0 = dktX1_isHeldBefore_0 := by decide +kernel
theorem dksX1_isHeldBefore_1 : cX1_isHeldBefore.data.toList.drop 23 = dktX1_isHeldBefore_1 := dk_seg dksX1_isHeldBefore_0 23 rfl rfl
theorem dksX1_isHeldBefore_2 : cX1_isHeldBefore.data.toList.drop 47 = dktX1_isHeldBefore_2 := dk_seg dksX1_isHeldBefore_1 24 rfl rfl
theorem dksX1_isHeldBefore_3 : cX1_isHeldBefore.data.toList.drop 71 = dktX1_isHeldBefore_3 := dk_seg dksX1_isHeldBefore_2 24 rfl rfl
theorem dX1_isHeldBefore_0 : decode cX1_isHeldBefore 0 = .ok (.aload_n 0, 1) := dk_42 (dk_at dksX1_isHeldBefore_0 0 rfl rfl)
theorem dX1_isHeldBefore_1 : decode cX1_isHeldBefore 1 = .ok (.getfield 53, 3) := dk_180 0 53 (dk_at dksX1_isHeldBefore_0 1 rfl rfl)
theorem dX1_isHeldBefore_4 : decode cX1_isHeldBefore 4 = .ok (.getfield 107, 3) := dk_180 0 107 (dk_at dksX1_isHeldBefore_0 4 rfl rfl)
theorem dX1_isHeldBefore_7 : decode cX1_isHeldBefore 7 = .ok (.ifCond .ne 7, 3) := dk_154 0 7 (dk_at dksX1_isHeldBefore_0 7 rfl rfl)
theorem dX1_isHeldBefore_10 : decode cX1_isHeldBefore 10 = .ok (.iconst 1, 1) := dk_4 (dk_at dksX1_isHeldBefore_0 10 rfl rfl)
theorem dX1_isHeldBefore_11 : decode cX1_isHeldBefore 11 = .ok (.goto 4, 3) := dk_167 0 4 (dk_at dksX1_isHeldBefore_0 11 rfl rfl)
theorem dX1_isHeldBefore_14 : decode cX1_isHeldBefore 14 = .ok (.iconst 0, 1) := dk_3 (dk_at dksX1_isHeldBefore_0 14 rfl rfl)
theorem dX1_isHeldBefore_15 : decode cX1_isHeldBefore 15 = .ok (.istore_n 2, 1) := dk_61 (dk_at dksX1_isHeldBefore_0 15 rfl rfl)
theorem dX1_isHeldBefore_16 : decode cX1_isHeldBefore 16 = .ok (.iconst 0, 1) := dk_3 (dk_at dksX1_isHeldBefore_0 16 rfl rfl)
theorem dX1_isHeldBefore_17 : decode cX1_isHeldBefore 17 = .ok (.istore_n 3, 1) := dk_62 (dk_at dksX1_isHeldBefore_0 17 rfl rfl)
theorem dX1_isHeldBefore_18 : decode cX1_isHeldBefore 18 = .ok (.iload_n 3, 1) := dk_29 (dk_at dksX1_isHeldBefore_0 18 rfl rfl)
theorem dX1_isHeldBefore_19 : decode cX1_isHeldBefore 19 = .ok (.aload_n 0, 1) := dk_42 (dk_at dksX1_isHeldBefore_0 19 rfl rfl)
theorem dX1_isHeldBefore_20 : decode cX1_isHeldBefore 20 = .ok (.getfield 43, 3) := dk_180 0 43 (dk_at dksX1_isHeldBefore_0 20 rfl rfl)
theorem dX1_isHeldBefore_23 : decode cX1_isHeldBefore 23 = .ok (.invokevirtual 64, 3) := dk_182 0 64 (dk_at dksX1_isHeldBefore_1 0 rfl rfl)
theorem dX1_isHeldBefore_26 : decode cX1_isHeldBefore 26 = .ok (.if_icmp .ge 67, 3) := dk_162 0 67 (dk_at dksX1_isHeldBefore_1 3 rfl rfl)
theorem dX1_isHeldBefore_29 : decode cX1_isHeldBefore 29 = .ok (.iload_n 2, 1) := dk_28 (dk_at dksX1_isHeldBefore_1 6 rfl rfl)
theorem dX1_isHeldBefore_30 : decode cX1_isHeldBefore 30 = .ok (.aload_n 0, 1) := dk_42 (dk_at dksX1_isHeldBefore_1 7 rfl rfl)
theorem dX1_isHeldBefore_31 : decode cX1_isHeldBefore 31 = .ok (.getfield 43, 3) := dk_180 0 43 (dk_at dksX1_isHeldBefore_1 8 rfl rfl)
theorem dX1_isHeldBefore_34 : decode cX1_isHeldBefore 34 = .ok (.iload_n 3, 1) := dk_29 (dk_at dksX1_isHeldBefore_1 11 rfl rfl)
theorem dX1_isHeldBefore_35 : decode cX1_isHeldBefore 35 = .ok (.invokevirtual 180, 3) := dk_182 0 180 (dk_at dksX1_isHeldBefore_1 12 rfl rfl)
theorem dX1_isHeldBefore_38 : decode cX1_isHeldBefore 38 = .ok (.checkcast 102, 3) := dk_192 0 102 (dk_at dksX1_isHeldBefore_1 15 rfl rfl)
theorem dX1_isHeldBefore_41 : decode cX1_isHeldBefore 41 = .ok (.invokevirtual 203, 3) := dk_182 0 203 (dk_at dksX1_isHeldBefore_1 18 rfl rfl)
theorem dX1_isHeldBefore_44 : decode cX1_isHeldBefore 44 = .ok (.getstatic 207, 3) := dk_178 0 207 (dk_at dksX1_isHeldBefore_1 21 rfl rfl)
theorem dX1_isHeldBefore_47 : decode cX1_isHeldBefore 47 = .ok (.if_acmp .ne 37, 3) := dk_166 0 37 (dk_at dksX1_isHeldBefore_2 0 rfl rfl)
theorem dX1_isHeldBefore_50 : decode cX1_isHeldBefore 50 = .ok (.aload_n 0, 1) := dk_42 (dk_at dksX1_isHeldBefore_2 3 rfl rfl)
theorem dX1_isHeldBefore_51 : decode cX1_isHeldBefore 51 = .ok (.getfield 43, 3) := dk_180 0 43 (dk_at dksX1_isHeldBefore_2 4 rfl rfl)
theorem dX1_isHeldBefore_54 : decode cX1_isHeldBefore 54 = .ok (.iload_n 3, 1) := dk_29 (dk_at dksX1_isHeldBefore_2 7 rfl rfl)
theorem dX1_isHeldBefore_55 : decode cX1_isHeldBefore 55 = .ok (.invokevirtual 180, 3) := dk_182 0 180 (dk_at dksX1_isHeldBefore_2 8 rfl rfl)
theorem dX1_isHeldBefore_58 : decode cX1_isHeldBefore 58 = .ok (.checkcast 102, 3) := dk_192 0 102 (dk_at dksX1_isHeldBefore_2 11 rfl rfl)
theorem dX1_isHeldBefore_61 : decode cX1_isHeldBefore 61 = .ok (.invokevirtual 200, 3) := dk_182 0 200 (dk_at dksX1_isHeldBefore_2 14 rfl rfl)
theorem dX1_isHeldBefore_64 : decode cX1_isHeldBefore 64 = .ok (.aload_n 0, 1) := dk_42 (dk_at dksX1_isHeldBefore_2 17 rfl rfl)
theorem dX1_isHeldBefore_65 : decode cX1_isHeldBefore 65 = .ok (.getfield 53, 3) := dk_180 0 53 (dk_at dksX1_isHeldBefore_2 18 rfl rfl)
theorem dX1_isHeldBefore_68 : decode cX1_isHeldBefore 68 = .ok (.getfield 111, 3) := dk_180 0 111 (dk_at dksX1_isHeldBefore_2 21 rfl rfl)
theorem dX1_isHeldBefore_71 : decode cX1_isHeldBefore 71 = .ok (.iload_n 1, 1) := dk_27 (dk_at dksX1_isHeldBefore_3 0 rfl rfl)
theorem dX1_isHeldBefore_72 : decode cX1_isHeldBefore 72 = .ok (.iconst 1, 1) := dk_4 (dk_at dksX1_isHeldBefore_3 1 rfl rfl)
theorem dX1_isHeldBefore_73 : decode cX1_isHeldBefore 73 = .ok (.isub, 1) := dk_100 (dk_at dksX1_isHeldBefore_3 2 rfl rfl)
theorem dX1_isHeldBefore_74 : decode cX1_isHeldBefore 74 = .ok (.invokestatic 13, 3) := dk_184 0 13 (dk_at dksX1_isHeldBefore_3 3 rfl rfl)
theorem dX1_isHeldBefore_77 : decode cX1_isHeldBefore 77 = .ok (.ifCond .eq 7, 3) := dk_153 0 7 (dk_at dksX1_isHeldBefore_3 6 rfl rfl)
theorem dX1_isHeldBefore_80 : decode cX1_isHeldBefore 80 = .ok (.iconst 1, 1) := dk_4 (dk_at dksX1_isHeldBefore_3 9 rfl rfl)
theorem dX1_isHeldBefore_81 : decode cX1_isHeldBefore 81 = .ok (.goto 4, 3) := dk_167 0 4 (dk_at dksX1_isHeldBefore_3 10 rfl rfl)
theorem dX1_isHeldBefore_84 : decode cX1_isHeldBefore 84 = .ok (.iconst 0, 1) := dk_3 (dk_at dksX1_isHeldBefore_3 13 rfl rfl)
theorem dX1_isHeldBefore_85 : decode cX1_isHeldBefore 85 = .ok (.ior, 1) := dk_128 (dk_at dksX1_isHeldBefore_3 14 rfl rfl)
theorem dX1_isHeldBefore_86 : decode cX1_isHeldBefore 86 = .ok (.istore_n 2, 1) := dk_61 (dk_at dksX1_isHeldBefore_3 15 rfl rfl)
theorem dX1_isHeldBefore_87 : decode cX1_isHeldBefore 87 = .ok (.iinc 3 1, 3) := dk_132 3 1 (dk_at dksX1_isHeldBefore_3 16 rfl rfl)
theorem dX1_isHeldBefore_90 : decode cX1_isHeldBefore 90 = .ok (.goto (-72), 3) := dk_167 255 184 (dk_at dksX1_isHeldBefore_3 19 rfl rfl)
theorem dX1_isHeldBefore_93 : decode cX1_isHeldBefore 93 = .ok (.iload_n 2, 1) := dk_28 (dk_at dksX1_isHeldBefore_3 22 rfl rfl)
theorem dX1_isHeldBefore_94 : decode cX1_isHeldBefore 94 = .ok (.ireturn, 1) := dk_172 (dk_at dksX1_isHeldBefore_3 23 rfl rfl)
abbrev cX1_lasts : ByteArray := prog_1_method_32_code
def yX1_lasts : MethodName := ⟨RX1, "lasts", "(I)I"⟩
def dkwX1_lasts_2 : List UInt8 := [172, 44, 42, 180, 0, 43, 182, 0, 117, 87, 132, 3, 1, 167, 255, 218, 2, 172]
abbrev dktX1_lasts_2 : List UInt8 := dkwX1_lasts_2 ++ []
def dkwX1_lasts_1 : List UInt8 := [17, 1, 244, 163, 0, 37, 44, 180, 0, 61, 27, 182, 0, 180, 192, 0, 68, 180, 0, 80, 154, 0, 5, 29]
abbrev dktX1_lasts_1 : List UInt8 := dkwX1_lasts_1 ++ dktX1_lasts_2
def dkwX1_lasts_0 : List UInt8 := [42, 180, 0, 53, 180, 0, 61, 27, 184, 0, 76, 87, 42, 180, 0, 53, 182, 0, 215, 77, 3, 62, 29]
abbrev dktX1_lasts_0 : List UInt8 := dkwX1_lasts_0 ++ dktX1_lasts_1
theorem dksX1_lasts_0 : cX1_lasts.data.toList.drop 0 = dktX1_lasts_0 := by decide +kernel
theorem dksX1_lasts_1 : cX1_lasts.data.toList.drop 23 = dktX1_lasts_1 := dk_seg dksX1_lasts_0 23 rfl rfl
theorem dksX1_lasts_2 : cX1_lasts.data.toList.drop 47 = dktX1_lasts_2 := dk_seg dksX1_lasts_1 24 rfl rfl
theorem dX1_lasts_0 : decode cX1_lasts 0 = .ok (.aload_n 0, 1) := dk_42 (dk_at dksX1_lasts_0 0 rfl rfl)
theorem dX1_lasts_1 : decode cX1_lasts 1 = .ok (.getfield 53, 3) := dk_180 0 53 (dk_at dksX1_lasts_0 1 rfl rfl)
theorem dX1_lasts_4 : decode cX1_lasts 4 = .ok (.getfield 61, 3) := dk_180 0 61 (dk_at dksX1_lasts_0 4 rfl rfl)
theorem dX1_lasts_7 : decode cX1_lasts 7 = .ok (.iload_n 1, 1) := dk_27 (dk_at dksX1_lasts_0 7 rfl rfl)
theorem dX1_lasts_8 : decode cX1_lasts 8 = .ok (.invokestatic 76, 3) := dk_184 0 76 (dk_at dksX1_lasts_0 8 rfl rfl)
theorem dX1_lasts_11 : decode cX1_lasts 11 = .ok (.pop, 1) := dk_87 (dk_at dksX1_lasts_0 11 rfl rfl)
theorem dX1_lasts_12 : decode cX1_lasts 12 = .ok (.aload_n 0, 1) := dk_42 (dk_at dksX1_lasts_0 12 rfl rfl)
theorem dX1_lasts_13 : decode cX1_lasts 13 = .ok (.getfield 53, 3) := dk_180 0 53 (dk_at dksX1_lasts_0 13 rfl rfl)
theorem dX1_lasts_16 : decode cX1_lasts 16 = .ok (.invokevirtual 215, 3) := dk_182 0 215 (dk_at dksX1_lasts_0 16 rfl rfl)
theorem dX1_lasts_19 : decode cX1_lasts 19 = .ok (.astore_n 2, 1) := dk_77 (dk_at dksX1_lasts_0 19 rfl rfl)
theorem dX1_lasts_20 : decode cX1_lasts 20 = .ok (.iconst 0, 1) := dk_3 (dk_at dksX1_lasts_0 20 rfl rfl)
theorem dX1_lasts_21 : decode cX1_lasts 21 = .ok (.istore_n 3, 1) := dk_62 (dk_at dksX1_lasts_0 21 rfl rfl)
theorem dX1_lasts_22 : decode cX1_lasts 22 = .ok (.iload_n 3, 1) := dk_29 (dk_at dksX1_lasts_0 22 rfl rfl)
theorem dX1_lasts_23 : decode cX1_lasts 23 = .ok (.sipush 500, 3) := dk_17 1 244 (dk_at dksX1_lasts_1 0 rfl rfl)
theorem dX1_lasts_26 : decode cX1_lasts 26 = .ok (.if_icmp .gt 37, 3) := dk_163 0 37 (dk_at dksX1_lasts_1 3 rfl rfl)
theorem dX1_lasts_29 : decode cX1_lasts 29 = .ok (.aload_n 2, 1) := dk_44 (dk_at dksX1_lasts_1 6 rfl rfl)
theorem dX1_lasts_30 : decode cX1_lasts 30 = .ok (.getfield 61, 3) := dk_180 0 61 (dk_at dksX1_lasts_1 7 rfl rfl)
theorem dX1_lasts_33 : decode cX1_lasts 33 = .ok (.iload_n 1, 1) := dk_27 (dk_at dksX1_lasts_1 10 rfl rfl)
theorem dX1_lasts_34 : decode cX1_lasts 34 = .ok (.invokevirtual 180, 3) := dk_182 0 180 (dk_at dksX1_lasts_1 11 rfl rfl)
theorem dX1_lasts_37 : decode cX1_lasts 37 = .ok (.checkcast 68, 3) := dk_192 0 68 (dk_at dksX1_lasts_1 14 rfl rfl)
theorem dX1_lasts_40 : decode cX1_lasts 40 = .ok (.getfield 80, 3) := dk_180 0 80 (dk_at dksX1_lasts_1 17 rfl rfl)
theorem dX1_lasts_43 : decode cX1_lasts 43 = .ok (.ifCond .ne 5, 3) := dk_154 0 5 (dk_at dksX1_lasts_1 20 rfl rfl)
theorem dX1_lasts_46 : decode cX1_lasts 46 = .ok (.iload_n 3, 1) := dk_29 (dk_at dksX1_lasts_1 23 rfl rfl)
theorem dX1_lasts_47 : decode cX1_lasts 47 = .ok (.ireturn, 1) := dk_172 (dk_at dksX1_lasts_2 0 rfl rfl)
theorem dX1_lasts_48 : decode cX1_lasts 48 = .ok (.aload_n 2, 1) := dk_44 (dk_at dksX1_lasts_2 1 rfl rfl)
theorem dX1_lasts_49 : decode cX1_lasts 49 = .ok (.aload_n 0, 1) := dk_42 (dk_at dksX1_lasts_2 2 rfl rfl)
theorem dX1_lasts_50 : decode cX1_lasts 50 = .ok (.getfield 43, 3) := dk_180 0 43 (dk_at dksX1_lasts_2 3 rfl rfl)
theorem dX1_lasts_53 : decode cX1_lasts 53 = .ok (.invokevirtual 117, 3) := dk_182 0 117 (dk_at dksX1_lasts_2 6 rfl rfl)
theorem dX1_lasts_56 : decode cX1_lasts 56 = .ok (.pop, 1) := dk_87 (dk_at dksX1_lasts_2 9 rfl rfl)
theorem dX1_lasts_57 : decode cX1_lasts 57 = .ok (.iinc 3 1, 3) := dk_132 3 1 (dk_at dksX1_lasts_2 10 rfl rfl)
theorem dX1_lasts_60 : decode cX1_lasts 60 = .ok (.goto (-38), 3) := dk_167 255 218 (dk_at dksX1_lasts_2 13 rfl rfl)
theorem dX1_lasts_63 : decode cX1_lasts 63 = .ok (.iconst (-1), 1) := dk_2 (dk_at dksX1_lasts_2 16 rfl rfl)
theorem dX1_lasts_64 : decode cX1_lasts 64 = .ok (.ireturn, 1) := dk_172 (dk_at dksX1_lasts_2 17 rfl rfl)
abbrev cX1_foresee : ByteArray := prog_1_method_34_code
def yX1_foresee : MethodName := ⟨RX1, "foresee", "(II)I"⟩
def dkwX1_foresee_1 : List UInt8 := [180, 0, 53, 182, 0, 215, 78, 42, 45, 27, 182, 0, 121, 87, 42, 45, 28, 182, 0, 197, 172]
abbrev dktX1_foresee_1 : List UInt8 := dkwX1_foresee_1 ++ []
def dkwX1_foresee_0 : List UInt8 := [4, 17, 1, 244, 27, 184, 0, 57, 28, 184, 0, 219, 154, 0, 11, 187, 0, 10, 89, 183, 0, 12, 191, 42]
abbrev dktX1_foresee_0 : List UInt8 := dkwX1_foresee_0 ++ dktX1_foresee_1
theorem dksX1_foresee_0 : cX1_foresee.data.toList.drop 0 = dktX1_foresee_0 := by decide +kernel
theorem dksX1_foresee_1 : cX1_foresee.data.toList.drop 24 = dktX1_foresee_1 := dk_seg dksX1_foresee_0 24 rfl rfl
theorem dX1_foresee_0 : decode cX1_foresee 0 = .ok (.iconst 1, 1) := dk_4 (dk_at dksX1_foresee_0 0 rfl rfl)
theorem dX1_foresee_1 : decode cX1_foresee 1 = .ok (.sipush 500, 3) := dk_17 1 244 (dk_at dksX1_foresee_0 1 rfl rfl)
theorem dX1_foresee_4 : decode cX1_foresee 4 = .ok (.iload_n 1, 1) := dk_27 (dk_at dksX1_foresee_0 4 rfl rfl)
theorem dX1_foresee_5 : decode cX1_foresee 5 = .ok (.invokestatic 57, 3) := dk_184 0 57 (dk_at dksX1_foresee_0 5 rfl rfl)
theorem dX1_foresee_8 : decode cX1_foresee 8 = .ok (.iload_n 2, 1) := dk_28 (dk_at dksX1_foresee_0 8 rfl rfl)
theorem dX1_foresee_9 : decode cX1_foresee 9 = .ok (.invokestatic 219, 3) := dk_184 0 219 (dk_at dksX1_foresee_0 9 rfl rfl)
theorem dX1_foresee_12 : decode cX1_foresee 12 = .ok (.ifCond .ne 11, 3) := dk_154 0 11 (dk_at dksX1_foresee_0 12 rfl rfl)
theorem dX1_foresee_15 : decode cX1_foresee 15 = .ok (.new 10, 3) := dk_187 0 10 (dk_at dksX1_foresee_0 15 rfl rfl)
theorem dX1_foresee_18 : decode cX1_foresee 18 = .ok (.dup, 1) := dk_89 (dk_at dksX1_foresee_0 18 rfl rfl)
theorem dX1_foresee_19 : decode cX1_foresee 19 = .ok (.invokespecial 12, 3) := dk_183 0 12 (dk_at dksX1_foresee_0 19 rfl rfl)
theorem dX1_foresee_22 : decode cX1_foresee 22 = .ok (.athrow, 1) := dk_191 (dk_at dksX1_foresee_0 22 rfl rfl)
theorem dX1_foresee_23 : decode cX1_foresee 23 = .ok (.aload_n 0, 1) := dk_42 (dk_at dksX1_foresee_0 23 rfl rfl)
theorem dX1_foresee_24 : decode cX1_foresee 24 = .ok (.getfield 53, 3) := dk_180 0 53 (dk_at dksX1_foresee_1 0 rfl rfl)
theorem dX1_foresee_27 : decode cX1_foresee 27 = .ok (.invokevirtual 215, 3) := dk_182 0 215 (dk_at dksX1_foresee_1 3 rfl rfl)
theorem dX1_foresee_30 : decode cX1_foresee 30 = .ok (.astore_n 3, 1) := dk_78 (dk_at dksX1_foresee_1 6 rfl rfl)
theorem dX1_foresee_31 : decode cX1_foresee 31 = .ok (.aload_n 0, 1) := dk_42 (dk_at dksX1_foresee_1 7 rfl rfl)
theorem dX1_foresee_32 : decode cX1_foresee 32 = .ok (.aload_n 3, 1) := dk_45 (dk_at dksX1_foresee_1 8 rfl rfl)
theorem dX1_foresee_33 : decode cX1_foresee 33 = .ok (.iload_n 1, 1) := dk_27 (dk_at dksX1_foresee_1 9 rfl rfl)
theorem dX1_foresee_34 : decode cX1_foresee 34 = .ok (.invokevirtual 121, 3) := dk_182 0 121 (dk_at dksX1_foresee_1 10 rfl rfl)
theorem dX1_foresee_37 : decode cX1_foresee 37 = .ok (.pop, 1) := dk_87 (dk_at dksX1_foresee_1 13 rfl rfl)
theorem dX1_foresee_38 : decode cX1_foresee 38 = .ok (.aload_n 0, 1) := dk_42 (dk_at dksX1_foresee_1 14 rfl rfl)
theorem dX1_foresee_39 : decode cX1_foresee 39 = .ok (.aload_n 3, 1) := dk_45 (dk_at dksX1_foresee_1 15 rfl rfl)
theorem dX1_foresee_40 : decode cX1_foresee 40 = .ok (.iload_n 2, 1) := dk_28 (dk_at dksX1_foresee_1 16 rfl rfl)
theorem dX1_foresee_41 : decode cX1_foresee 41 = .ok (.invokevirtual 197, 3) := dk_182 0 197 (dk_at dksX1_foresee_1 17 rfl rfl)
theorem dX1_foresee_44 : decode cX1_foresee 44 = .ok (.ireturn, 1) := dk_172 (dk_at dksX1_foresee_1 20 rfl rfl)
abbrev cX1_isForeseen : ByteArray := prog_1_method_33_code
def yX1_isForeseen : MethodName := ⟨RX1, "isForeseen", "(I)Z"⟩
def dkwX1_isForeseen_1 : List UInt8 := [16, 11, 160, 0, 7, 4, 167, 0, 4, 3, 172]
abbrev dktX1_isForeseen_1 : List UInt8 := dkwX1_isForeseen_1 ++ []
def dkwX1_isForeseen_0 : List UInt8 := [26, 4, 159, 0, 26, 26, 8, 159, 0, 21, 26, 16, 7, 159, 0, 15, 26, 16, 8, 159, 0, 9, 26]
abbrev dktX1_isForeseen_0 : List UInt8 := dkwX1_isForeseen_0 ++ dktX1_isForeseen_1
theorem dksX1_isForeseen_0 : cX1_isForeseen.data.toList.drop 0 = dktX1_isForeseen_0 := by decide +kernel
theorem dksX1_isForeseen_1 : cX1_isForeseen.data.toList.drop 23 = dktX1_isForeseen_1 := dk_seg dksX1_isForeseen_0 23 rfl rfl
theorem dX1_isForeseen_0 : decode cX1_isForeseen 0 = .ok (.iload_n 0, 1) := dk_26 (dk_at dksX1_isForeseen_0 0 rfl rfl)
theorem dX1_isForeseen_1 : decode cX1_isForeseen 1 = .ok (.iconst 1, 1) := dk_4 (dk_at dksX1_isForeseen_0 1 rfl rfl)
theorem dX1_isForeseen_2 : decode cX1_isForeseen 2 = .ok (.if_icmp .eq 26, 3) := dk_159 0 26 (dk_at dksX1_isForeseen_0 2 rfl rfl)
theorem dX1_isForeseen_5 : decode cX1_isForeseen 5 = .ok (.iload_n 0, 1) := dk_26 (dk_at dksX1_isForeseen_0 5 rfl rfl)
theorem dX1_isForeseen_6 : decode cX1_isForeseen 6 = .ok (.iconst 5, 1) := dk_8 (dk_at dksX1_isForeseen_0 6 rfl rfl)
theorem dX1_isForeseen_7 : decode cX1_isForeseen 7 = .ok (.if_icmp .eq 21, 3) := dk_159 0 21 (dk_at dksX1_isForeseen_0 7 rfl rfl)
theorem dX1_isForeseen_10 : decode cX1_isForeseen 10 = .ok (.iload_n 0, 1) := dk_26 (dk_at dksX1_isForeseen_0 10 rfl rfl)
theorem dX1_isForeseen_11 : decode cX1_isForeseen 11 = .ok (.bipush 7, 2) := dk_16 7 (dk_at dksX1_isForeseen_0 11 rfl rfl)
theorem dX1_isForeseen_13 : decode cX1_isForeseen 13 = .ok (.if_icmp .eq 15, 3) := dk_159 0 15 (dk_at dksX1_isForeseen_0 13 rfl rfl)
theorem dX1_isForeseen_16 : decode cX1_isForeseen 16 = .ok (.iload_n 0, 1) := dk_26 (dk_at dksX1_isForeseen_0 16 rfl rfl)
theorem dX1_isForeseen_17 : decode cX1_isForeseen 17 = .ok (.bipush 8, 2) := dk_16 8 (dk_at dksX1_isForeseen_0 17 rfl rfl)
theorem dX1_isForeseen_19 : decode cX1_isForeseen 19 = .ok (.if_icmp .eq 9, 3) := dk_159 0 9 (dk_at dksX1_isForeseen_0 19 rfl rfl)
theorem dX1_isForeseen_22 : decode cX1_isForeseen 22 = .ok (.iload_n 0, 1) := dk_26 (dk_at dksX1_isForeseen_0 22 rfl rfl)
theorem dX1_isForeseen_23 : decode cX1_isForeseen 23 = .ok (.bipush 11, 2) := dk_16 11 (dk_at dksX1_isForeseen_1 0 rfl rfl)
theorem dX1_isForeseen_25 : decode cX1_isForeseen 25 = .ok (.if_icmp .ne 7, 3) := dk_160 0 7 (dk_at dksX1_isForeseen_1 2 rfl rfl)
theorem dX1_isForeseen_28 : decode cX1_isForeseen 28 = .ok (.iconst 1, 1) := dk_4 (dk_at dksX1_isForeseen_1 5 rfl rfl)
theorem dX1_isForeseen_29 : decode cX1_isForeseen 29 = .ok (.goto 4, 3) := dk_167 0 4 (dk_at dksX1_isForeseen_1 6 rfl rfl)
theorem dX1_isForeseen_32 : decode cX1_isForeseen 32 = .ok (.iconst 0, 1) := dk_3 (dk_at dksX1_isForeseen_1 9 rfl rfl)
theorem dX1_isForeseen_33 : decode cX1_isForeseen 33 = .ok (.ireturn, 1) := dk_172 (dk_at dksX1_isForeseen_1 10 rfl rfl)
theorem q31 : (Jvm.Cond.initialized "StarConsole") ∈ lw_all := lw_g (lw_at lw_m1 1 rfl) rfl
theorem q59 : (Jvm.Cond.instantiable "StarConsole" (3 : Nat)) ∈ lw_all := lw_g (lw_at lw_m1 29 rfl) rfl
theorem q61 : (Jvm.Cond.instanceMethod ({ cls := "StarConsole", name := "<init>", desc := "()V" } : Jvm.MethodName)) ∈ lw_all := lw_g (lw_at lw_m1 31 rfl) rfl
theorem q62 : (Jvm.Cond.code ({ cls := "StarConsole", name := "<init>", desc := "()V" } : Jvm.MethodName) prog_1_method_8_code (1 : Nat) (Option.none : Option Jvm.ClassFile.FieldType)) ∈ lw_all := lw_g (lw_at lw_m1 32 rfl) rfl
theorem q63 : (Jvm.Cond.methodLink "StarConsole" (37 : Nat) ({ cls := "java/lang/Object", name := "<init>", desc := "()V" } : Jvm.MethodName)) ∈ lw_all := lw_g (lw_at lw_m1 33 rfl) rfl
theorem q66 : (Jvm.Cond.classLink "StarConsole" (40 : Nat) "java/util/ArrayList") ∈ lw_all := lw_g (lw_at lw_m1 36 rfl) rfl
theorem q68 : (Jvm.Cond.methodLink "StarConsole" (42 : Nat) ({ cls := "java/util/ArrayList", name := "<init>", desc := "()V" } : Jvm.MethodName)) ∈ lw_all := lw_g (lw_at lw_m1 38 rfl) rfl
theorem q92 : (Jvm.Cond.classLink "StarConsole" (50 : Nat) "StarConsole$Console") ∈ lw_all := lw_g (lw_at lw_m1 62 rfl) rfl
theorem q94 : (Jvm.Cond.methodLinkNest "StarConsole" (52 : Nat) ({ cls := "StarConsole$Console", name := "<init>", desc := "()V" } : Jvm.MethodName) "StarConsole") ∈ lw_tbl := lw_at lw_m1 64 rfl
theorem q101 : (Jvm.Cond.fieldLinkNest "StarConsole" (181 : Nat) "StarConsole$Console" "tick" "I" "StarConsole") ∈ lw_tbl := lw_at lw_m1 71 rfl
theorem q103 : (Jvm.Cond.fieldLinkNest "StarConsole" (111 : Nat) "StarConsole$Console" "clock" "I" "StarConsole") ∈ lw_tbl := lw_at lw_m1 73 rfl
theorem q106 : (Jvm.Cond.fieldLinkNest "StarConsole" (107 : Nat) "StarConsole$Console" "runs" "Z" "StarConsole") ∈ lw_tbl := lw_at lw_m1 76 rfl
theorem q108 : (Jvm.Cond.fieldLinkNest "StarConsole" (195 : Nat) "StarConsole$Console" "angle" "I" "StarConsole") ∈ lw_tbl := lw_at lw_m1 78 rfl
theorem q111 : (Jvm.Cond.fieldLinkNest "StarConsole" (196 : Nat) "StarConsole$Console" "speed" "I" "StarConsole") ∈ lw_tbl := lw_at lw_m1 81 rfl
theorem q114 : (Jvm.Cond.fieldLinkNest "StarConsole" (191 : Nat) "StarConsole$Console" "line" "I" "StarConsole") ∈ lw_tbl := lw_at lw_m1 84 rfl
theorem q117 : (Jvm.Cond.fieldLinkNest "StarConsole" (194 : Nat) "StarConsole$Console" "left" "I" "StarConsole") ∈ lw_tbl := lw_at lw_m1 87 rfl
theorem q120 : (Jvm.Cond.fieldLinkNest "StarConsole" (61 : Nat) "StarConsole$Console" "dimmers" "Ljava/util/ArrayList;" "StarConsole") ∈ lw_tbl := lw_at lw_m1 90 rfl
theorem q123 : (Jvm.Cond.fieldLinkNest "StarConsole" (173 : Nat) "StarConsole$Console" "comets" "Ljava/util/ArrayList;" "StarConsole") ∈ lw_tbl := lw_at lw_m1 93 rfl
theorem q143 : (Jvm.Cond.fieldLink "StarConsole" (43 : Nat) "StarConsole" "cues" "Ljava/util/ArrayList;") ∈ lw_all := lw_g (lw_at lw_m1 113 rfl) rfl
theorem q144 : (Jvm.Cond.fieldLink "StarConsole" (47 : Nat) "StarConsole" "stars" "Ljava/util/ArrayList;") ∈ lw_all := lw_g (lw_at lw_m1 114 rfl) rfl
theorem q145 : (Jvm.Cond.fieldLink "StarConsole" (53 : Nat) "StarConsole" "console" "LStarConsole$Console;") ∈ lw_all := lw_g (lw_at lw_m1 115 rfl) rfl
theorem q146 : (Jvm.Cond.laysFinal "StarConsole" "StarConsole" "cues" "Ljava/util/ArrayList;") ∈ lw_all := lw_g (lw_at lw_m1 116 rfl) rfl
theorem q147 : (Jvm.Cond.soleField "StarConsole" "cues") ∈ lw_all := lw_g (lw_at lw_m1 117 rfl) rfl
theorem q148 : (Jvm.Cond.laysFinal "StarConsole" "StarConsole" "stars" "Ljava/util/ArrayList;") ∈ lw_all := lw_g (lw_at lw_m1 118 rfl) rfl
theorem q149 : (Jvm.Cond.soleField "StarConsole" "stars") ∈ lw_all := lw_g (lw_at lw_m1 119 rfl) rfl
theorem q150 : (Jvm.Cond.laysFinal "StarConsole" "StarConsole" "console" "LStarConsole$Console;") ∈ lw_all := lw_g (lw_at lw_m1 120 rfl) rfl
theorem q151 : (Jvm.Cond.soleField "StarConsole" "console") ∈ lw_all := lw_g (lw_at lw_m1 121 rfl) rfl
theorem q152 : (Jvm.Cond.superclass "StarConsole" "java/lang/Object") ∈ lw_all := lw_g (lw_at lw_m1 122 rfl) rfl
theorem q154 : (Jvm.Cond.instanceMethod ({ cls := "StarConsole", name := "run", desc := "()Z" } : Jvm.MethodName)) ∈ lw_all := lw_g (lw_at lw_m1 124 rfl) rfl
theorem q155 : (Jvm.Cond.selects "StarConsole" ({ cls := "StarConsole", name := "run", desc := "()Z" } : Jvm.MethodName) ({ cls := "StarConsole", name := "run", desc := "()Z" } : Jvm.MethodName)) ∈ lw_all := lw_g (lw_at lw_m1 125 rfl) rfl
theorem q156 : (Jvm.Cond.code ({ cls := "StarConsole", name := "run", desc := "()Z" } : Jvm.MethodName) prog_1_method_13_code (1 : Nat) (Option.some Jvm.ClassFile.FieldType.boolean)) ∈ lw_all := lw_g (lw_at lw_m1 126 rfl) rfl
theorem q158 : (Jvm.Cond.instanceMethod ({ cls := "StarConsole", name := "next", desc := "()I" } : Jvm.MethodName)) ∈ lw_all := lw_g (lw_at lw_m1 128 rfl) rfl
theorem q159 : (Jvm.Cond.selects "StarConsole" ({ cls := "StarConsole", name := "next", desc := "()I" } : Jvm.MethodName) ({ cls := "StarConsole", name := "next", desc := "()I" } : Jvm.MethodName)) ∈ lw_all := lw_g (lw_at lw_m1 129 rfl) rfl
theorem q160 : (Jvm.Cond.code ({ cls := "StarConsole", name := "next", desc := "()I" } : Jvm.MethodName) prog_1_method_29_code (3 : Nat) (Option.some Jvm.ClassFile.FieldType.int)) ∈ lw_all := lw_g (lw_at lw_m1 130 rfl) rfl
theorem q161 : (Jvm.Cond.methodLink "StarConsole" (64 : Nat) ({ cls := "java/util/ArrayList", name := "size", desc := "()I" } : Jvm.MethodName)) ∈ lw_all := lw_g (lw_at lw_m1 131 rfl) rfl
theorem q165 : (Jvm.Cond.methodLink "StarConsole" (180 : Nat) ({ cls := "java/util/ArrayList", name := "get", desc := "(I)Ljava/lang/Object;" } : Jvm.MethodName)) ∈ lw_all := lw_g (lw_at lw_m1 135 rfl) rfl
theorem q179 : (Jvm.Cond.classLink "StarConsole" (102 : Nat) "StarConsole$Cue") ∈ lw_all := lw_g (lw_at lw_m1 149 rfl) rfl
theorem q180 : (Jvm.Cond.methodLink "StarConsole" (200 : Nat) ({ cls := "StarConsole$Cue", name := "time", desc := "()I" } : Jvm.MethodName)) ∈ lw_all := lw_g (lw_at lw_m1 150 rfl) rfl
theorem q185 : (Jvm.Cond.instanceMethod ({ cls := "StarConsole", name := "darkest", desc := "()I" } : Jvm.MethodName)) ∈ lw_all := lw_g (lw_at lw_m1 155 rfl) rfl
theorem q186 : (Jvm.Cond.selects "StarConsole" ({ cls := "StarConsole", name := "darkest", desc := "()I" } : Jvm.MethodName) ({ cls := "StarConsole", name := "darkest", desc := "()I" } : Jvm.MethodName)) ∈ lw_all := lw_g (lw_at lw_m1 156 rfl) rfl
theorem q187 : (Jvm.Cond.code ({ cls := "StarConsole", name := "darkest", desc := "()I" } : Jvm.MethodName) prog_1_method_35_code (3 : Nat) (Option.some Jvm.ClassFile.FieldType.int)) ∈ lw_all := lw_g (lw_at lw_m1 157 rfl) rfl
theorem q188 : (Jvm.Cond.methodLink "StarConsole" (137 : Nat) ({ cls := "StarConsole$Console", name := "glare", desc := "(I)I" } : Jvm.MethodName)) ∈ lw_all := lw_g (lw_at lw_m1 158 rfl) rfl
theorem q200 : (Jvm.Cond.instanceMethod ({ cls := "StarConsole", name := "mean", desc := "()D" } : Jvm.MethodName)) ∈ lw_all := lw_g (lw_at lw_m1 170 rfl) rfl
theorem q201 : (Jvm.Cond.selects "StarConsole" ({ cls := "StarConsole", name := "mean", desc := "()D" } : Jvm.MethodName) ({ cls := "StarConsole", name := "mean", desc := "()D" } : Jvm.MethodName)) ∈ lw_all := lw_g (lw_at lw_m1 171 rfl) rfl
theorem q202 : (Jvm.Cond.code ({ cls := "StarConsole", name := "mean", desc := "()D" } : Jvm.MethodName) prog_1_method_36_code (3 : Nat) (Option.some Jvm.ClassFile.FieldType.double)) ∈ lw_all := lw_g (lw_at lw_m1 172 rfl) rfl
theorem q203 : (Jvm.Cond.constantDouble "StarConsole" (222 : Nat) (4622945017495814144 : UInt64)) ∈ lw_all := lw_g (lw_at lw_m1 173 rfl) rfl
theorem q205 : (Jvm.Cond.instanceMethod ({ cls := "StarConsole", name := "digest", desc := "()J" } : Jvm.MethodName)) ∈ lw_all := lw_g (lw_at lw_m1 175 rfl) rfl
theorem q206 : (Jvm.Cond.selects "StarConsole" ({ cls := "StarConsole", name := "digest", desc := "()J" } : Jvm.MethodName) ({ cls := "StarConsole", name := "digest", desc := "()J" } : Jvm.MethodName)) ∈ lw_all := lw_g (lw_at lw_m1 176 rfl) rfl
theorem q207 : (Jvm.Cond.code ({ cls := "StarConsole", name := "digest", desc := "()J" } : Jvm.MethodName) prog_1_method_37_code (5 : Nat) (Option.some Jvm.ClassFile.FieldType.long)) ∈ lw_all := lw_g (lw_at lw_m1 177 rfl) rfl
theorem q208 : (Jvm.Cond.constantLong "StarConsole" (224 : Nat) (1109 : Int64)) ∈ lw_all := lw_g (lw_at lw_m1 178 rfl) rfl
theorem q209 : (Jvm.Cond.constantLong "StarConsole" (226 : Nat) (31 : Int64)) ∈ lw_all := lw_g (lw_at lw_m1 179 rfl) rfl
theorem q210 : (Jvm.Cond.methodLink "StarConsole" (197 : Nat) ({ cls := "StarConsole", name := "counted", desc := "(LStarConsole$Console;I)I" } : Jvm.MethodName)) ∈ lw_all := lw_g (lw_at lw_m1 180 rfl) rfl
theorem q211 : (Jvm.Cond.privateMethod ({ cls := "StarConsole", name := "counted", desc := "(LStarConsole$Console;I)I" } : Jvm.MethodName)) ∈ lw_tbl := lw_at lw_m1 181 rfl
theorem q212 : (Jvm.Cond.instanceMethod ({ cls := "StarConsole", name := "counted", desc := "(LStarConsole$Console;I)I" } : Jvm.MethodName)) ∈ lw_all := lw_g (lw_at lw_m1 182 rfl) rfl
theorem q213 : (Jvm.Cond.code ({ cls := "StarConsole", name := "counted", desc := "(LStarConsole$Console;I)I" } : Jvm.MethodName) prog_1_method_27_code (3 : Nat) (Option.some Jvm.ClassFile.FieldType.int)) ∈ lw_all := lw_g (lw_at lw_m1 183 rfl) rfl
theorem q214 : (Jvm.Cond.methodLink "StarConsole" (184 : Nat) ({ cls := "StarConsole", name := "starsSeen", desc := "(LStarConsole$Console;)I" } : Jvm.MethodName)) ∈ lw_all := lw_g (lw_at lw_m1 184 rfl) rfl
theorem q215 : (Jvm.Cond.privateMethod ({ cls := "StarConsole", name := "starsSeen", desc := "(LStarConsole$Console;)I" } : Jvm.MethodName)) ∈ lw_tbl := lw_at lw_m1 185 rfl
theorem q216 : (Jvm.Cond.instanceMethod ({ cls := "StarConsole", name := "starsSeen", desc := "(LStarConsole$Console;)I" } : Jvm.MethodName)) ∈ lw_all := lw_g (lw_at lw_m1 186 rfl) rfl
theorem q217 : (Jvm.Cond.code ({ cls := "StarConsole", name := "starsSeen", desc := "(LStarConsole$Console;)I" } : Jvm.MethodName) prog_1_method_25_code (4 : Nat) (Option.some Jvm.ClassFile.FieldType.int)) ∈ lw_all := lw_g (lw_at lw_m1 187 rfl) rfl
theorem q218 : (Jvm.Cond.classLink "StarConsole" (88 : Nat) "StarConsole$Star") ∈ lw_all := lw_g (lw_at lw_m1 188 rfl) rfl
theorem q219 : (Jvm.Cond.methodLink "StarConsole" (151 : Nat) ({ cls := "StarConsole$Console", name := "isSeen", desc := "(LStarConsole$Star;)Z" } : Jvm.MethodName)) ∈ lw_all := lw_g (lw_at lw_m1 189 rfl) rfl
theorem q232 : (Jvm.Cond.static ({ cls := "StarConsole", name := "round", desc := "(I)I" } : Jvm.MethodName)) ∈ lw_all := lw_g (lw_at lw_m1 202 rfl) rfl
theorem q233 : (Jvm.Cond.code ({ cls := "StarConsole", name := "round", desc := "(I)I" } : Jvm.MethodName) prog_1_method_7_code (1 : Nat) (Option.some Jvm.ClassFile.FieldType.int)) ∈ lw_all := lw_g (lw_at lw_m1 203 rfl) rfl
theorem q243 : (Jvm.Cond.methodLink "StarConsole" (188 : Nat) ({ cls := "StarConsole", name := "cometsSeen", desc := "(LStarConsole$Console;)I" } : Jvm.MethodName)) ∈ lw_all := lw_g (lw_at lw_m1 213 rfl) rfl
theorem q244 : (Jvm.Cond.static ({ cls := "StarConsole", name := "cometsSeen", desc := "(LStarConsole$Console;)I" } : Jvm.MethodName)) ∈ lw_all := lw_g (lw_at lw_m1 214 rfl) rfl
theorem q245 : (Jvm.Cond.code ({ cls := "StarConsole", name := "cometsSeen", desc := "(LStarConsole$Console;)I" } : Jvm.MethodName) prog_1_method_26_code (3 : Nat) (Option.some Jvm.ClassFile.FieldType.int)) ∈ lw_all := lw_g (lw_at lw_m1 215 rfl) rfl
theorem q246 : (Jvm.Cond.classLink "StarConsole" (160 : Nat) "StarConsole$Comet") ∈ lw_all := lw_g (lw_at lw_m1 216 rfl) rfl
theorem q247 : (Jvm.Cond.methodLink "StarConsole" (170 : Nat) ({ cls := "StarConsole$Console", name := "isSeen", desc := "(LStarConsole$Comet;)Z" } : Jvm.MethodName)) ∈ lw_all := lw_g (lw_at lw_m1 217 rfl) rfl
theorem q255 : (Jvm.Cond.classLink "StarConsole" (68 : Nat) "StarConsole$Dimmer") ∈ lw_all := lw_g (lw_at lw_m1 225 rfl) rfl
theorem q256 : (Jvm.Cond.methodLink "StarConsole" (133 : Nat) ({ cls := "StarConsole", name := "dimmerTold", desc := "(LStarConsole$Dimmer;I)I" } : Jvm.MethodName)) ∈ lw_all := lw_g (lw_at lw_m1 226 rfl) rfl
theorem q257 : (Jvm.Cond.static ({ cls := "StarConsole", name := "dimmerTold", desc := "(LStarConsole$Dimmer;I)I" } : Jvm.MethodName)) ∈ lw_all := lw_g (lw_at lw_m1 227 rfl) rfl
theorem q258 : (Jvm.Cond.code ({ cls := "StarConsole", name := "dimmerTold", desc := "(LStarConsole$Dimmer;I)I" } : Jvm.MethodName) prog_1_method_18_code (2 : Nat) (Option.some Jvm.ClassFile.FieldType.int)) ∈ lw_all := lw_g (lw_at lw_m1 228 rfl) rfl
theorem q259 : (Jvm.Cond.methodLink "StarConsole" (155 : Nat) ({ cls := "StarConsole", name := "starTold", desc := "(LStarConsole$Star;I)I" } : Jvm.MethodName)) ∈ lw_all := lw_g (lw_at lw_m1 229 rfl) rfl
theorem q260 : (Jvm.Cond.privateMethod ({ cls := "StarConsole", name := "starTold", desc := "(LStarConsole$Star;I)I" } : Jvm.MethodName)) ∈ lw_tbl := lw_at lw_m1 230 rfl
theorem q261 : (Jvm.Cond.instanceMethod ({ cls := "StarConsole", name := "starTold", desc := "(LStarConsole$Star;I)I" } : Jvm.MethodName)) ∈ lw_all := lw_g (lw_at lw_m1 231 rfl) rfl
theorem q262 : (Jvm.Cond.code ({ cls := "StarConsole", name := "starTold", desc := "(LStarConsole$Star;I)I" } : Jvm.MethodName) prog_1_method_21_code (3 : Nat) (Option.some Jvm.ClassFile.FieldType.int)) ∈ lw_all := lw_g (lw_at lw_m1 232 rfl) rfl
theorem q263 : (Jvm.Cond.methodLink "StarConsole" (141 : Nat) ({ cls := "StarConsole$Star", name := "degree", desc := "()I" } : Jvm.MethodName)) ∈ lw_all := lw_g (lw_at lw_m1 233 rfl) rfl
theorem q264 : (Jvm.Cond.methodLink "StarConsole" (144 : Nat) ({ cls := "StarConsole$Star", name := "light", desc := "()I" } : Jvm.MethodName)) ∈ lw_all := lw_g (lw_at lw_m1 234 rfl) rfl
theorem q265 : (Jvm.Cond.methodLink "StarConsole" (147 : Nat) ({ cls := "StarConsole$Console", name := "placeOf", desc := "(LStarConsole$Star;)I" } : Jvm.MethodName)) ∈ lw_all := lw_g (lw_at lw_m1 235 rfl) rfl
theorem q266 : (Jvm.Cond.methodLink "StarConsole" (176 : Nat) ({ cls := "StarConsole", name := "cometTold", desc := "(LStarConsole$Comet;I)I" } : Jvm.MethodName)) ∈ lw_all := lw_g (lw_at lw_m1 236 rfl) rfl
theorem q267 : (Jvm.Cond.privateMethod ({ cls := "StarConsole", name := "cometTold", desc := "(LStarConsole$Comet;I)I" } : Jvm.MethodName)) ∈ lw_tbl := lw_at lw_m1 237 rfl
theorem q268 : (Jvm.Cond.instanceMethod ({ cls := "StarConsole", name := "cometTold", desc := "(LStarConsole$Comet;I)I" } : Jvm.MethodName)) ∈ lw_all := lw_g (lw_at lw_m1 238 rfl) rfl
theorem q269 : (Jvm.Cond.code ({ cls := "StarConsole", name := "cometTold", desc := "(LStarConsole$Comet;I)I" } : Jvm.MethodName) prog_1_method_23_code (3 : Nat) (Option.some Jvm.ClassFile.FieldType.int)) ∈ lw_all := lw_g (lw_at lw_m1 239 rfl) rfl
theorem q270 : (Jvm.Cond.methodLink "StarConsole" (203 : Nat) ({ cls := "StarConsole$Cue", name := "kind", desc := "()LStarConsole$Kind;" } : Jvm.MethodName)) ∈ lw_all := lw_g (lw_at lw_m2 0 rfl) rfl
theorem q274 : (Jvm.Cond.methodLink "StarConsole" (228 : Nat) ({ cls := "StarConsole$Kind", name := "ordinal", desc := "()I" } : Jvm.MethodName)) ∈ lw_all := lw_g (lw_at lw_m2 4 rfl) rfl
theorem q284 : (Jvm.Cond.methodLink "StarConsole" (231 : Nat) ({ cls := "StarConsole$Cue", name := "a", desc := "()I" } : Jvm.MethodName)) ∈ lw_all := lw_g (lw_at lw_m2 14 rfl) rfl
theorem q288 : (Jvm.Cond.methodLink "StarConsole" (234 : Nat) ({ cls := "StarConsole$Cue", name := "b", desc := "()I" } : Jvm.MethodName)) ∈ lw_all := lw_g (lw_at lw_m2 18 rfl) rfl
theorem q298 : (Jvm.Cond.instanceMethod ({ cls := "StarConsole", name := "dimmer", desc := "(III)I" } : Jvm.MethodName)) ∈ lw_all := lw_g (lw_at lw_m2 28 rfl) rfl
theorem q299 : (Jvm.Cond.selects "StarConsole" ({ cls := "StarConsole", name := "dimmer", desc := "(III)I" } : Jvm.MethodName) ({ cls := "StarConsole", name := "dimmer", desc := "(III)I" } : Jvm.MethodName)) ∈ lw_all := lw_g (lw_at lw_m2 29 rfl) rfl
theorem q300 : (Jvm.Cond.code ({ cls := "StarConsole", name := "dimmer", desc := "(III)I" } : Jvm.MethodName) prog_1_method_9_code (4 : Nat) (Option.some Jvm.ClassFile.FieldType.int)) ∈ lw_all := lw_g (lw_at lw_m2 30 rfl) rfl
theorem q301 : (Jvm.Cond.methodLink "StarConsole" (57 : Nat) ({ cls := "StarConsole", name := "requireFrom", desc := "(III)V" } : Jvm.MethodName)) ∈ lw_all := lw_g (lw_at lw_m2 31 rfl) rfl
theorem q302 : (Jvm.Cond.static ({ cls := "StarConsole", name := "requireFrom", desc := "(III)V" } : Jvm.MethodName)) ∈ lw_all := lw_g (lw_at lw_m2 32 rfl) rfl
theorem q303 : (Jvm.Cond.code ({ cls := "StarConsole", name := "requireFrom", desc := "(III)V" } : Jvm.MethodName) prog_1_method_5_code (3 : Nat) (Option.none : Option Jvm.ClassFile.FieldType)) ∈ lw_all := lw_g (lw_at lw_m2 33 rfl) rfl
theorem q304 : (Jvm.Cond.methodLink "StarConsole" (13 : Nat) ({ cls := "StarConsole", name := "isIn", desc := "(III)Z" } : Jvm.MethodName)) ∈ lw_all := lw_g (lw_at lw_m2 34 rfl) rfl
theorem q305 : (Jvm.Cond.static ({ cls := "StarConsole", name := "isIn", desc := "(III)Z" } : Jvm.MethodName)) ∈ lw_all := lw_g (lw_at lw_m2 35 rfl) rfl
theorem q306 : (Jvm.Cond.code ({ cls := "StarConsole", name := "isIn", desc := "(III)Z" } : Jvm.MethodName) prog_1_method_4_code (3 : Nat) (Option.some Jvm.ClassFile.FieldType.boolean)) ∈ lw_all := lw_g (lw_at lw_m2 36 rfl) rfl
theorem q307 : (Jvm.Cond.methodLink "StarConsole" (19 : Nat) ({ cls := "StarConsole", name := "require", desc := "(Z)V" } : Jvm.MethodName)) ∈ lw_all := lw_g (lw_at lw_m2 37 rfl) rfl
theorem q308 : (Jvm.Cond.static ({ cls := "StarConsole", name := "require", desc := "(Z)V" } : Jvm.MethodName)) ∈ lw_all := lw_g (lw_at lw_m2 38 rfl) rfl
theorem q309 : (Jvm.Cond.code ({ cls := "StarConsole", name := "require", desc := "(Z)V" } : Jvm.MethodName) prog_1_method_1_code (1 : Nat) (Option.none : Option Jvm.ClassFile.FieldType)) ∈ lw_all := lw_g (lw_at lw_m2 39 rfl) rfl
theorem q310 : (Jvm.Cond.classLink "StarConsole" (1 : Nat) "java/lang/IllegalArgumentException") ∈ lw_all := lw_g (lw_at lw_m2 40 rfl) rfl
theorem q352 : (Jvm.Cond.methodLink "StarConsole" (3 : Nat) ({ cls := "java/lang/IllegalArgumentException", name := "<init>", desc := "()V" } : Jvm.MethodName)) ∈ lw_all := lw_g (lw_at lw_m2 82 rfl) rfl
theorem q375 : (Jvm.Cond.methodLink "StarConsole" (65 : Nat) ({ cls := "StarConsole", name := "requireState", desc := "(Z)V" } : Jvm.MethodName)) ∈ lw_all := lw_g (lw_at lw_m2 105 rfl) rfl
theorem q376 : (Jvm.Cond.static ({ cls := "StarConsole", name := "requireState", desc := "(Z)V" } : Jvm.MethodName)) ∈ lw_all := lw_g (lw_at lw_m2 106 rfl) rfl
theorem q377 : (Jvm.Cond.code ({ cls := "StarConsole", name := "requireState", desc := "(Z)V" } : Jvm.MethodName) prog_1_method_2_code (1 : Nat) (Option.none : Option Jvm.ClassFile.FieldType)) ∈ lw_all := lw_g (lw_at lw_m2 107 rfl) rfl
theorem q378 : (Jvm.Cond.classLink "StarConsole" (7 : Nat) "java/lang/IllegalStateException") ∈ lw_all := lw_g (lw_at lw_m2 108 rfl) rfl
theorem q387 : (Jvm.Cond.methodLink "StarConsole" (9 : Nat) ({ cls := "java/lang/IllegalStateException", name := "<init>", desc := "()V" } : Jvm.MethodName)) ∈ lw_all := lw_g (lw_at lw_m2 117 rfl) rfl
theorem q394 : (Jvm.Cond.methodLink "StarConsole" (70 : Nat) ({ cls := "StarConsole$Dimmer", name := "<init>", desc := "(III)V" } : Jvm.MethodName)) ∈ lw_all := lw_g (lw_at lw_m2 124 rfl) rfl
theorem q399 : (Jvm.Cond.fieldLink "StarConsole" (124 : Nat) "StarConsole$Dimmer" "part" "I") ∈ lw_all := lw_g (lw_at lw_m2 129 rfl) rfl
theorem q401 : (Jvm.Cond.fieldLink "StarConsole" (130 : Nat) "StarConsole$Dimmer" "pace" "I") ∈ lw_all := lw_g (lw_at lw_m2 131 rfl) rfl
theorem q403 : (Jvm.Cond.fieldLinkNest "StarConsole" (127 : Nat) "StarConsole$Dimmer" "level" "I" "StarConsole") ∈ lw_tbl := lw_at lw_m2 133 rfl
theorem q406 : (Jvm.Cond.fieldLinkNest "StarConsole" (114 : Nat) "StarConsole$Dimmer" "aim" "I" "StarConsole") ∈ lw_tbl := lw_at lw_m2 136 rfl
theorem q408 : (Jvm.Cond.fieldLinkNest "StarConsole" (80 : Nat) "StarConsole$Dimmer" "life" "I" "StarConsole") ∈ lw_tbl := lw_at lw_m2 138 rfl
theorem q420 : (Jvm.Cond.methodLink "StarConsole" (72 : Nat) ({ cls := "java/util/ArrayList", name := "add", desc := "(Ljava/lang/Object;)Z" } : Jvm.MethodName)) ∈ lw_all := lw_g (lw_at lw_m2 150 rfl) rfl
theorem q452 : (Jvm.Cond.selects "StarConsole" ({ cls := "java/lang/Object", name := "getClass", desc := "()Ljava/lang/Class;" } : Jvm.MethodName) ({ cls := "java/lang/Object", name := "getClass", desc := "()Ljava/lang/Class;" } : Jvm.MethodName)) ∈ lw_all := lw_g (lw_at lw_m2 182 rfl) rfl
theorem q521 : (Jvm.Cond.instanceMethod ({ cls := "StarConsole", name := "lamp", desc := "(II)I" } : Jvm.MethodName)) ∈ lw_all := lw_g (lw_at lw_m3 11 rfl) rfl
theorem q522 : (Jvm.Cond.selects "StarConsole" ({ cls := "StarConsole", name := "lamp", desc := "(II)I" } : Jvm.MethodName) ({ cls := "StarConsole", name := "lamp", desc := "(II)I" } : Jvm.MethodName)) ∈ lw_all := lw_g (lw_at lw_m3 12 rfl) rfl
theorem q523 : (Jvm.Cond.code ({ cls := "StarConsole", name := "lamp", desc := "(II)I" } : Jvm.MethodName) prog_1_method_10_code (5 : Nat) (Option.some Jvm.ClassFile.FieldType.int)) ∈ lw_all := lw_g (lw_at lw_m3 13 rfl) rfl
theorem q524 : (Jvm.Cond.methodLink "StarConsole" (76 : Nat) ({ cls := "StarConsole", name := "known", desc := "(Ljava/util/List;I)Ljava/lang/Object;" } : Jvm.MethodName)) ∈ lw_all := lw_g (lw_at lw_m3 14 rfl) rfl
theorem q525 : (Jvm.Cond.static ({ cls := "StarConsole", name := "known", desc := "(Ljava/util/List;I)Ljava/lang/Object;" } : Jvm.MethodName)) ∈ lw_all := lw_g (lw_at lw_m3 15 rfl) rfl
theorem q526 : (Jvm.Cond.code ({ cls := "StarConsole", name := "known", desc := "(Ljava/util/List;I)Ljava/lang/Object;" } : Jvm.MethodName) prog_1_method_6_code (2 : Nat) (Option.some (Jvm.ClassFile.FieldType.object "java/lang/Object"))) ∈ lw_all := lw_g (lw_at lw_m3 16 rfl) rfl
theorem q527 : (Jvm.Cond.interfaceEntry "StarConsole" (23 : Nat)) ∈ lw_tbl := lw_at lw_m3 17 rfl
theorem q528 : (Jvm.Cond.methodLink "StarConsole" (23 : Nat) ({ cls := "java/util/List", name := "size", desc := "()I" } : Jvm.MethodName)) ∈ lw_all := lw_g (lw_at lw_m3 18 rfl) rfl
theorem q535 : (Jvm.Cond.methodLink "StarConsole" (29 : Nat) ({ cls := "StarConsole", name := "requireIndex", desc := "(II)V" } : Jvm.MethodName)) ∈ lw_all := lw_g (lw_at lw_m3 25 rfl) rfl
theorem q536 : (Jvm.Cond.static ({ cls := "StarConsole", name := "requireIndex", desc := "(II)V" } : Jvm.MethodName)) ∈ lw_all := lw_g (lw_at lw_m3 26 rfl) rfl
theorem q537 : (Jvm.Cond.code ({ cls := "StarConsole", name := "requireIndex", desc := "(II)V" } : Jvm.MethodName) prog_1_method_3_code (2 : Nat) (Option.none : Option Jvm.ClassFile.FieldType)) ∈ lw_all := lw_g (lw_at lw_m3 27 rfl) rfl
theorem q538 : (Jvm.Cond.classLink "StarConsole" (10 : Nat) "java/lang/IndexOutOfBoundsException") ∈ lw_all := lw_g (lw_at lw_m3 28 rfl) rfl
theorem q547 : (Jvm.Cond.methodLink "StarConsole" (12 : Nat) ({ cls := "java/lang/IndexOutOfBoundsException", name := "<init>", desc := "()V" } : Jvm.MethodName)) ∈ lw_all := lw_g (lw_at lw_m3 37 rfl) rfl
theorem q553 : (Jvm.Cond.interfaceEntry "StarConsole" (33 : Nat)) ∈ lw_tbl := lw_at lw_m3 43 rfl
theorem q554 : (Jvm.Cond.methodLink "StarConsole" (33 : Nat) ({ cls := "java/util/List", name := "get", desc := "(I)Ljava/lang/Object;" } : Jvm.MethodName)) ∈ lw_all := lw_g (lw_at lw_m3 44 rfl) rfl
theorem q560 : (Jvm.Cond.methodLink "StarConsole" (84 : Nat) ({ cls := "StarConsole$Dimmer", name := "change", desc := "(I)V" } : Jvm.MethodName)) ∈ lw_all := lw_g (lw_at lw_m3 50 rfl) rfl
theorem q572 : (Jvm.Cond.instanceMethod ({ cls := "StarConsole", name := "star", desc := "(II)I" } : Jvm.MethodName)) ∈ lw_all := lw_g (lw_at lw_m3 62 rfl) rfl
theorem q573 : (Jvm.Cond.selects "StarConsole" ({ cls := "StarConsole", name := "star", desc := "(II)I" } : Jvm.MethodName) ({ cls := "StarConsole", name := "star", desc := "(II)I" } : Jvm.MethodName)) ∈ lw_all := lw_g (lw_at lw_m3 63 rfl) rfl
theorem q574 : (Jvm.Cond.code ({ cls := "StarConsole", name := "star", desc := "(II)I" } : Jvm.MethodName) prog_1_method_11_code (3 : Nat) (Option.some Jvm.ClassFile.FieldType.int)) ∈ lw_all := lw_g (lw_at lw_m3 64 rfl) rfl
theorem q576 : (Jvm.Cond.methodLinkNest "StarConsole" (90 : Nat) ({ cls := "StarConsole$Star", name := "<init>", desc := "(II)V" } : Jvm.MethodName) "StarConsole") ∈ lw_tbl := lw_at lw_m3 66 rfl
theorem q594 : (Jvm.Cond.instanceMethod ({ cls := "StarConsole", name := "cue", desc := "(IIII)I" } : Jvm.MethodName)) ∈ lw_all := lw_g (lw_at lw_m3 84 rfl) rfl
theorem q595 : (Jvm.Cond.selects "StarConsole" ({ cls := "StarConsole", name := "cue", desc := "(IIII)I" } : Jvm.MethodName) ({ cls := "StarConsole", name := "cue", desc := "(IIII)I" } : Jvm.MethodName)) ∈ lw_all := lw_g (lw_at lw_m3 85 rfl) rfl
theorem q596 : (Jvm.Cond.code ({ cls := "StarConsole", name := "cue", desc := "(IIII)I" } : Jvm.MethodName) prog_1_method_12_code (6 : Nat) (Option.some Jvm.ClassFile.FieldType.int)) ∈ lw_all := lw_g (lw_at lw_m3 86 rfl) rfl
theorem q597 : (Jvm.Cond.methodLink "StarConsole" (92 : Nat) ({ cls := "StarConsole$Kind", name := "values", desc := "()[LStarConsole$Kind;" } : Jvm.MethodName)) ∈ lw_all := lw_g (lw_at lw_m3 87 rfl) rfl
theorem q610 : (Jvm.Cond.methodLink "StarConsole" (98 : Nat) ({ cls := "StarConsole$Kind", name := "takes", desc := "(LStarConsole$Console;II)Z" } : Jvm.MethodName)) ∈ lw_all := lw_g (lw_at lw_m3 100 rfl) rfl
theorem q634 : (Jvm.Cond.methodLinkNest "StarConsole" (104 : Nat) ({ cls := "StarConsole$Cue", name := "<init>", desc := "(ILStarConsole$Kind;II)V" } : Jvm.MethodName) "StarConsole") ∈ lw_tbl := lw_at lw_m3 124 rfl
theorem q655 : (Jvm.Cond.instanceMethod ({ cls := "StarConsole", name := "jump", desc := "(I)I" } : Jvm.MethodName)) ∈ lw_all := lw_g (lw_at lw_m3 145 rfl) rfl
theorem q656 : (Jvm.Cond.selects "StarConsole" ({ cls := "StarConsole", name := "jump", desc := "(I)I" } : Jvm.MethodName) ({ cls := "StarConsole", name := "jump", desc := "(I)I" } : Jvm.MethodName)) ∈ lw_all := lw_g (lw_at lw_m3 146 rfl) rfl
theorem q657 : (Jvm.Cond.code ({ cls := "StarConsole", name := "jump", desc := "(I)I" } : Jvm.MethodName) prog_1_method_14_code (3 : Nat) (Option.some Jvm.ClassFile.FieldType.int)) ∈ lw_all := lw_g (lw_at lw_m3 147 rfl) rfl
theorem q662 : (Jvm.Cond.instanceMethod ({ cls := "StarConsole", name := "fade", desc := "(II)I" } : Jvm.MethodName)) ∈ lw_all := lw_g (lw_at lw_m3 152 rfl) rfl
theorem q663 : (Jvm.Cond.selects "StarConsole" ({ cls := "StarConsole", name := "fade", desc := "(II)I" } : Jvm.MethodName) ({ cls := "StarConsole", name := "fade", desc := "(II)I" } : Jvm.MethodName)) ∈ lw_all := lw_g (lw_at lw_m3 153 rfl) rfl
theorem q664 : (Jvm.Cond.code ({ cls := "StarConsole", name := "fade", desc := "(II)I" } : Jvm.MethodName) prog_1_method_15_code (5 : Nat) (Option.some Jvm.ClassFile.FieldType.int)) ∈ lw_all := lw_g (lw_at lw_m3 154 rfl) rfl
theorem q669 : (Jvm.Cond.instanceMethod ({ cls := "StarConsole", name := "pass", desc := "(I)I" } : Jvm.MethodName)) ∈ lw_all := lw_g (lw_at lw_m3 159 rfl) rfl
theorem q670 : (Jvm.Cond.selects "StarConsole" ({ cls := "StarConsole", name := "pass", desc := "(I)I" } : Jvm.MethodName) ({ cls := "StarConsole", name := "pass", desc := "(I)I" } : Jvm.MethodName)) ∈ lw_all := lw_g (lw_at lw_m3 160 rfl) rfl
theorem q671 : (Jvm.Cond.code ({ cls := "StarConsole", name := "pass", desc := "(I)I" } : Jvm.MethodName) prog_1_method_17_code (2 : Nat) (Option.some Jvm.ClassFile.FieldType.int)) ∈ lw_all := lw_g (lw_at lw_m3 161 rfl) rfl
theorem q672 : (Jvm.Cond.methodLink "StarConsole" (121 : Nat) ({ cls := "StarConsole", name := "pass", desc := "(LStarConsole$Console;I)I" } : Jvm.MethodName)) ∈ lw_all := lw_g (lw_at lw_m3 162 rfl) rfl
theorem q673 : (Jvm.Cond.privateMethod ({ cls := "StarConsole", name := "pass", desc := "(LStarConsole$Console;I)I" } : Jvm.MethodName)) ∈ lw_tbl := lw_at lw_m3 163 rfl
theorem q674 : (Jvm.Cond.instanceMethod ({ cls := "StarConsole", name := "pass", desc := "(LStarConsole$Console;I)I" } : Jvm.MethodName)) ∈ lw_all := lw_g (lw_at lw_m3 164 rfl) rfl
theorem q675 : (Jvm.Cond.code ({ cls := "StarConsole", name := "pass", desc := "(LStarConsole$Console;I)I" } : Jvm.MethodName) prog_1_method_16_code (5 : Nat) (Option.some Jvm.ClassFile.FieldType.int)) ∈ lw_all := lw_g (lw_at lw_m3 165 rfl) rfl
theorem q676 : (Jvm.Cond.methodLink "StarConsole" (117 : Nat) ({ cls := "StarConsole$Console", name := "pass", desc := "(Ljava/util/List;)I" } : Jvm.MethodName)) ∈ lw_all := lw_g (lw_at lw_m3 166 rfl) rfl
theorem q715 : (Jvm.Cond.fieldLink "StarConsole" (164 : Nat) "StarConsole$Comet" "speed" "I") ∈ lw_all := lw_g (lw_at lw_m3 205 rfl) rfl
theorem q718 : (Jvm.Cond.fieldLinkNest "StarConsole" (159 : Nat) "StarConsole$Comet" "angle" "I" "StarConsole") ∈ lw_tbl := lw_at lw_m3 208 rfl
theorem q720 : (Jvm.Cond.fieldLinkNest "StarConsole" (167 : Nat) "StarConsole$Comet" "left" "I" "StarConsole") ∈ lw_tbl := lw_at lw_m3 210 rfl
theorem q757 : (Jvm.Cond.instanceMethod ({ cls := "StarConsole", name := "told", desc := "(II)I" } : Jvm.MethodName)) ∈ lw_all := lw_g (lw_at lw_m4 7 rfl) rfl
theorem q758 : (Jvm.Cond.selects "StarConsole" ({ cls := "StarConsole", name := "told", desc := "(II)I" } : Jvm.MethodName) ({ cls := "StarConsole", name := "told", desc := "(II)I" } : Jvm.MethodName)) ∈ lw_all := lw_g (lw_at lw_m4 8 rfl) rfl
theorem q759 : (Jvm.Cond.code ({ cls := "StarConsole", name := "told", desc := "(II)I" } : Jvm.MethodName) prog_1_method_19_code (4 : Nat) (Option.some Jvm.ClassFile.FieldType.int)) ∈ lw_all := lw_g (lw_at lw_m4 9 rfl) rfl
theorem q764 : (Jvm.Cond.instanceMethod ({ cls := "StarConsole", name := "glare", desc := "(I)I" } : Jvm.MethodName)) ∈ lw_all := lw_g (lw_at lw_m4 14 rfl) rfl
theorem q765 : (Jvm.Cond.selects "StarConsole" ({ cls := "StarConsole", name := "glare", desc := "(I)I" } : Jvm.MethodName) ({ cls := "StarConsole", name := "glare", desc := "(I)I" } : Jvm.MethodName)) ∈ lw_all := lw_g (lw_at lw_m4 15 rfl) rfl
theorem q766 : (Jvm.Cond.code ({ cls := "StarConsole", name := "glare", desc := "(I)I" } : Jvm.MethodName) prog_1_method_20_code (2 : Nat) (Option.some Jvm.ClassFile.FieldType.int)) ∈ lw_all := lw_g (lw_at lw_m4 16 rfl) rfl
theorem q771 : (Jvm.Cond.instanceMethod ({ cls := "StarConsole", name := "about", desc := "(II)I" } : Jvm.MethodName)) ∈ lw_all := lw_g (lw_at lw_m4 21 rfl) rfl
theorem q772 : (Jvm.Cond.selects "StarConsole" ({ cls := "StarConsole", name := "about", desc := "(II)I" } : Jvm.MethodName) ({ cls := "StarConsole", name := "about", desc := "(II)I" } : Jvm.MethodName)) ∈ lw_all := lw_g (lw_at lw_m4 22 rfl) rfl
theorem q773 : (Jvm.Cond.code ({ cls := "StarConsole", name := "about", desc := "(II)I" } : Jvm.MethodName) prog_1_method_22_code (4 : Nat) (Option.some Jvm.ClassFile.FieldType.int)) ∈ lw_all := lw_g (lw_at lw_m4 23 rfl) rfl
theorem q778 : (Jvm.Cond.instanceMethod ({ cls := "StarConsole", name := "comet", desc := "(II)I" } : Jvm.MethodName)) ∈ lw_all := lw_g (lw_at lw_m4 28 rfl) rfl
theorem q779 : (Jvm.Cond.selects "StarConsole" ({ cls := "StarConsole", name := "comet", desc := "(II)I" } : Jvm.MethodName) ({ cls := "StarConsole", name := "comet", desc := "(II)I" } : Jvm.MethodName)) ∈ lw_all := lw_g (lw_at lw_m4 29 rfl) rfl
theorem q780 : (Jvm.Cond.code ({ cls := "StarConsole", name := "comet", desc := "(II)I" } : Jvm.MethodName) prog_1_method_24_code (4 : Nat) (Option.some Jvm.ClassFile.FieldType.int)) ∈ lw_all := lw_g (lw_at lw_m4 30 rfl) rfl
theorem q785 : (Jvm.Cond.instanceMethod ({ cls := "StarConsole", name := "count", desc := "(I)I" } : Jvm.MethodName)) ∈ lw_all := lw_g (lw_at lw_m4 35 rfl) rfl
theorem q786 : (Jvm.Cond.selects "StarConsole" ({ cls := "StarConsole", name := "count", desc := "(I)I" } : Jvm.MethodName) ({ cls := "StarConsole", name := "count", desc := "(I)I" } : Jvm.MethodName)) ∈ lw_all := lw_g (lw_at lw_m4 36 rfl) rfl
theorem q787 : (Jvm.Cond.code ({ cls := "StarConsole", name := "count", desc := "(I)I" } : Jvm.MethodName) prog_1_method_28_code (2 : Nat) (Option.some Jvm.ClassFile.FieldType.int)) ∈ lw_all := lw_g (lw_at lw_m4 37 rfl) rfl
theorem q792 : (Jvm.Cond.instanceMethod ({ cls := "StarConsole", name := "when", desc := "(I)I" } : Jvm.MethodName)) ∈ lw_all := lw_g (lw_at lw_m4 42 rfl) rfl
theorem q793 : (Jvm.Cond.selects "StarConsole" ({ cls := "StarConsole", name := "when", desc := "(I)I" } : Jvm.MethodName) ({ cls := "StarConsole", name := "when", desc := "(I)I" } : Jvm.MethodName)) ∈ lw_all := lw_g (lw_at lw_m4 43 rfl) rfl
theorem q794 : (Jvm.Cond.code ({ cls := "StarConsole", name := "when", desc := "(I)I" } : Jvm.MethodName) prog_1_method_31_code (3 : Nat) (Option.some Jvm.ClassFile.FieldType.int)) ∈ lw_all := lw_g (lw_at lw_m4 44 rfl) rfl
theorem q795 : (Jvm.Cond.methodLink "StarConsole" (211 : Nat) ({ cls := "StarConsole", name := "isHeldBefore", desc := "(I)Z" } : Jvm.MethodName)) ∈ lw_all := lw_g (lw_at lw_m4 45 rfl) rfl
theorem q796 : (Jvm.Cond.privateMethod ({ cls := "StarConsole", name := "isHeldBefore", desc := "(I)Z" } : Jvm.MethodName)) ∈ lw_tbl := lw_at lw_m4 46 rfl
theorem q797 : (Jvm.Cond.instanceMethod ({ cls := "StarConsole", name := "isHeldBefore", desc := "(I)Z" } : Jvm.MethodName)) ∈ lw_all := lw_g (lw_at lw_m4 47 rfl) rfl
theorem q798 : (Jvm.Cond.code ({ cls := "StarConsole", name := "isHeldBefore", desc := "(I)Z" } : Jvm.MethodName) prog_1_method_30_code (4 : Nat) (Option.some Jvm.ClassFile.FieldType.boolean)) ∈ lw_all := lw_g (lw_at lw_m4 48 rfl) rfl
theorem q799 : (Jvm.Cond.fieldLink "StarConsole" (207 : Nat) "StarConsole$Kind" "HOLD" "LStarConsole$Kind;") ∈ lw_all := lw_g (lw_at lw_m4 49 rfl) rfl
theorem q805 : (Jvm.Cond.instanceMethod ({ cls := "StarConsole", name := "lasts", desc := "(I)I" } : Jvm.MethodName)) ∈ lw_all := lw_g (lw_at lw_m4 55 rfl) rfl
theorem q806 : (Jvm.Cond.selects "StarConsole" ({ cls := "StarConsole", name := "lasts", desc := "(I)I" } : Jvm.MethodName) ({ cls := "StarConsole", name := "lasts", desc := "(I)I" } : Jvm.MethodName)) ∈ lw_all := lw_g (lw_at lw_m4 56 rfl) rfl
theorem q807 : (Jvm.Cond.code ({ cls := "StarConsole", name := "lasts", desc := "(I)I" } : Jvm.MethodName) prog_1_method_32_code (4 : Nat) (Option.some Jvm.ClassFile.FieldType.int)) ∈ lw_all := lw_g (lw_at lw_m4 57 rfl) rfl
theorem q808 : (Jvm.Cond.methodLink "StarConsole" (215 : Nat) ({ cls := "StarConsole$Console", name := "copy", desc := "()LStarConsole$Console;" } : Jvm.MethodName)) ∈ lw_all := lw_g (lw_at lw_m4 58 rfl) rfl
theorem q831 : (Jvm.Cond.instanceMethod ({ cls := "StarConsole", name := "foresee", desc := "(II)I" } : Jvm.MethodName)) ∈ lw_all := lw_g (lw_at lw_m4 81 rfl) rfl
theorem q832 : (Jvm.Cond.selects "StarConsole" ({ cls := "StarConsole", name := "foresee", desc := "(II)I" } : Jvm.MethodName) ({ cls := "StarConsole", name := "foresee", desc := "(II)I" } : Jvm.MethodName)) ∈ lw_all := lw_g (lw_at lw_m4 82 rfl) rfl
theorem q833 : (Jvm.Cond.code ({ cls := "StarConsole", name := "foresee", desc := "(II)I" } : Jvm.MethodName) prog_1_method_34_code (4 : Nat) (Option.some Jvm.ClassFile.FieldType.int)) ∈ lw_all := lw_g (lw_at lw_m4 83 rfl) rfl
theorem q834 : (Jvm.Cond.methodLink "StarConsole" (219 : Nat) ({ cls := "StarConsole", name := "isForeseen", desc := "(I)Z" } : Jvm.MethodName)) ∈ lw_all := lw_g (lw_at lw_m4 84 rfl) rfl
theorem q835 : (Jvm.Cond.static ({ cls := "StarConsole", name := "isForeseen", desc := "(I)Z" } : Jvm.MethodName)) ∈ lw_all := lw_g (lw_at lw_m4 85 rfl) rfl
theorem q836 : (Jvm.Cond.code ({ cls := "StarConsole", name := "isForeseen", desc := "(I)Z" } : Jvm.MethodName) prog_1_method_33_code (1 : Nat) (Option.some Jvm.ClassFile.FieldType.boolean)) ∈ lw_all := lw_g (lw_at lw_m4 86 rfl) rfl
theorem q1047 : (Jvm.Cond.castable "StarConsole" "java/lang/Object") ∈ lw_tbl := lw_at lw_m5 57 rfl
theorem in_X1 : ∀ w ∈ wsX10, w ∈ lw_all := lw_in wsX10 [146, 148, 150] (by decide +kernel) (by decide +kernel)

