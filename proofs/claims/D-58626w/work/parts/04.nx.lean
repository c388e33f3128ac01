/-! EggLights -/
set_option maxRecDepth 100000
def RX0 : String := "EggLights"
def TX0 : u_T := fun k => match k with
  | 0 => ("EggLights", "machine", "LEggLights$Machine;", false)
  | 1 => ("EggLights", "history", "Ljava/util/ArrayDeque;", true)
  | _ => ("EggLights", "text", "Ljava/lang/StringBuilder;", true)
def tyX0 : Nat → FieldType := fun k => match k with
  | 0 => .object "EggLights$Machine"
  | 1 => .object "java/util/ArrayDeque"
  | _ => .object "java/lang/StringBuilder"
abbrev wsX00 : List Cond := u_ws RX0 TX0 3
theorem nmX0 : ∀ a, a < 3 → ∀ b, b < 3 → a ≠ b → (TX0 a).2.1 ≠ (TX0 b).2.1 := by decide +kernel
theorem tyX0_ok : ∀ k, k < 3 → parseFieldDescriptor (TX0 k).2.2.1 = some (tyX0 k) := by decide +kernel
abbrev cX0_init : ByteArray := prog_1_method_7_code
def yX0_init : MethodName := ⟨RX0, "<init>", "()V"⟩
def dkwX0_init_2 : List UInt8 := [187, 0, 40, 89, 183, 0, 42, 181, 0, 43, 177]
abbrev dktX0_init_2 : List UInt8 := dkwX0_init_2 ++ []
def dkwX0_init_1 : List UInt8 := [89, 6, 4, 79, 183, 0, 26, 181, 0, 29, 42, 187, 0, 33, 89, 183, 0, 35, 181, 0, 36, 42]
abbrev dktX0_init_1 : List UInt8 := dkwX0_init_1 ++ dktX0_init_2
def dkwX0_init_0 : List UInt8 := [42, 183, 0, 19, 42, 187, 0, 24, 89, 7, 188, 10, 89, 3, 7, 79, 89, 4, 5, 79, 89, 5, 6, 79]
abbrev dktX0_init_0 : List UInt8 := dkwX0_init_0 ++ dktX0_init_1
theorem dksX0_init_0 : cX0_init.data.toList.drop 0 = dktX0_init_0 := by decide +kernel
theorem dksX0_init_1 : cX0_init.data.toList.drop 24 = dktX0_init_1 := dk_seg dksX0_init_0 24 rfl rfl
theorem dksX0_init_2 : cX0_init.data.toList.drop 46 = dktX0_init_2 := dk_seg dksX0_init_1 22 rfl rfl
theorem dX0_init_0 : decode cX0_init 0 = .ok (.aload_n 0, 1) := dk_42 (dk_at dksX0_init_0 0 rfl rfl)
theorem dX0_init_1 : decode cX0_init 1 = .ok (.invokespecial 19, 3) := dk_183 0 19 (dk_at dksX0_init_0 1 rfl rfl)
theorem dX0_init_4 : decode cX0_init 4 = .ok (.aload_n 0, 1) := dk_42 (dk_at dksX0_init_0 4 rfl rfl)
theorem dX0_init_5 : decode cX0_init 5 = .ok (.new 24, 3) := dk_187 0 24 (dk_at dksX0_init_0 5 rfl rfl)
theorem dX0_init_8 : decode cX0_init 8 = .ok (.dup, 1) := dk_89 (dk_at dksX0_init_0 8 rfl rfl)
theorem dX0_init_9 : decode cX0_init 9 = .ok (.iconst 4, 1) := dk_7 (dk_at dksX0_init_0 9 rfl rfl)
theorem dX0_init_10 : decode cX0_init 10 = .ok (.newarray .int, 2) := dk_188_10 (dk_at dksX0_init_0 10 rfl rfl)
theorem dX0_init_12 : decode cX0_init 12 = .ok (.dup, 1) := dk_89 (dk_at dksX0_init_0 12 rfl rfl)
theorem dX0_init_13 : decode cX0_init 13 = .ok (.iconst 0, 1) := dk_3 (dk_at dksX0_init_0 13 rfl rfl)
theorem dX0_init_14 : decode cX0_init 14 = .ok (.iconst 4, 1) := dk_7 (dk_at dksX0_init_0 14 rfl rfl)
theorem dX0_init_15 : decode cX0_init 15 = .ok (.iastore, 1) := dk_79 (dk_at dksX0_init_0 15 rfl rfl)
theorem dX0_init_16 : decode cX0_init 16 = .ok (.dup, 1) := dk_89 (dk_at dksX0_init_0 16 rfl rfl)
theorem dX0_init_17 : decode cX0_init 17 = .ok (.iconst 1, 1) := dk_4 (dk_at dksX0_init_0 17 rfl rfl)
theorem dX0_init_18 : decode cX0_init 18 = .ok (.iconst 2, 1) := dk_5 (dk_at dksX0_init_0 18 rfl rfl)
theorem dX0_init_19 : decode cX0_init 19 = .ok (.iastore, 1) := dk_79 (dk_at dksX0_init_0 19 rfl rfl)
theorem dX0_init_20 : decode cX0_init 20 = .ok (.dup, 1) := dk_89 (dk_at dksX0_init_0 20 rfl rfl)
theorem dX0_init_21 : decode cX0_init 21 = .ok (.iconst 2, 1) := dk_5 (dk_at dksX0_init_0 21 rfl rfl)
theorem dX0_init_22 : decode cX0_init 22 = .ok (.iconst 3, 1) := dk_6 (dk_at dksX0_init_0 22 rfl rfl)
theorem dX0_init_23 : decode cX0_init 23 = .ok (.iastore, 1) := dk_79 (dk_at dksX0_init_0 23 rfl rfl)
theorem dX0_init_24 : decode cX0_init 24 = .ok (.dup, 1) := dk_89 (dk_at dksX0_init_1 0 rfl rfl)
theorem dX0_init_25 : decode cX0_init 25 = .ok (.iconst 3, 1) := dk_6 (dk_at dksX0_init_1 1 rfl rfl)
theorem dX0_init_26 : decode cX0_init 26 = .ok (.iconst 1, 1) := dk_4 (dk_at dksX0_init_1 2 rfl rfl)
theorem dX0_init_27 : decode cX0_init 27 = .ok (.iastore, 1) := dk_79 (dk_at dksX0_init_1 3 rfl rfl)
theorem dX0_init_28 : decode cX0_init 28 = .ok (.invokespecial 26, 3) := dk_183 0 26 (dk_at dksX0_init_1 4 rfl rfl)
theorem dX0_init_31 : decode cX0_init 31 = .ok (.putfield 29, 3) := dk_181 0 29 (dk_at dksX0_init_1 7 rfl rfl)
theorem dX0_init_34 : decode cX0_init 34 = .ok (.aload_n 0, 1) := dk_42 (dk_at dksX0_init_1 10 rfl rfl)
theorem dX0_init_35 : decode cX0_init 35 = .ok (.new 33, 3) := dk_187 0 33 (dk_at dksX0_init_1 11 rfl rfl)
theorem dX0_init_38 : decode cX0_init 38 = .ok (.dup, 1) := dk_89 (dk_at dksX0_init_1 14 rfl rfl)
theorem dX0_init_39 : decode cX0_init 39 = .ok (.invokespecial 35, 3) := dk_183 0 35 (dk_at dksX0_init_1 15 rfl rfl)
theorem dX0_init_42 : decode cX0_init 42 = .ok (.putfield 36, 3) := dk_181 0 36 (dk_at dksX0_init_1 18 rfl rfl)
theorem dX0_init_45 : decode cX0_init 45 = .ok (.aload_n 0, 1) := dk_42 (dk_at dksX0_init_1 21 rfl rfl)
theorem dX0_init_46 : decode cX0_init 46 = .ok (.new 40, 3) := dk_187 0 40 (dk_at dksX0_init_2 0 rfl rfl)
theorem dX0_init_49 : decode cX0_init 49 = .ok (.dup, 1) := dk_89 (dk_at dksX0_init_2 3 rfl rfl)
theorem dX0_init_50 : decode cX0_init 50 = .ok (.invokespecial 42, 3) := dk_183 0 42 (dk_at dksX0_init_2 4 rfl rfl)
theorem dX0_init_53 : decode cX0_init 53 = .ok (.putfield 43, 3) := dk_181 0 43 (dk_at dksX0_init_2 7 rfl rfl)
theorem dX0_init_56 : decode cX0_init 56 = .ok (.return_, 1) := dk_177 (dk_at dksX0_init_2 10 rfl rfl)
abbrev cX0_egg : ByteArray := prog_1_method_11_code
def yX0_egg : MethodName := ⟨RX0, "egg", "(IIIIII)I"⟩
def dkwX0_egg_1 : List UInt8 := [89, 7, 21, 5, 79, 89, 8, 21, 6, 79, 182, 0, 103, 172]
abbrev dktX0_egg_1 : List UInt8 := dkwX0_egg_1 ++ []
def dkwX0_egg_0 : List UInt8 := [42, 16, 120, 16, 6, 188, 10, 89, 3, 27, 79, 89, 4, 28, 79, 89, 5, 29, 79, 89, 6, 21, 4, 79]
abbrev dktX0_egg_0 : List UInt8 := dkwX0_egg_0 ++ dktX0_egg_1
theorem dksX0_egg_0 : cX0_egg.data.toList.drop 0 = dktX0_egg_0 := by decide +kernel
theorem dksX0_egg_1 : cX0_egg.data.toList.drop 24 = dktX0_egg_1 := dk_seg dksX0_egg_0 24 rfl rfl
theorem dX0_egg_0 : decode cX0_egg 0 = .ok (.aload_n 0, 1) := dk_42 (dk_at dksX0_egg_0 0 rfl rfl)
theorem dX0_egg_1 : decode cX0_egg 1 = .ok (.bipush 120, 2) := dk_16 120 (dk_at dksX0_egg_0 1 rfl rfl)
theorem dX0_egg_3 : decode cX0_egg 3 = .ok (.bipush 6, 2) := dk_16 6 (dk_at dksX0_egg_0 3 rfl rfl)
theorem dX0_egg_5 : decode cX0_egg 5 = .ok (.newarray .int, 2) := dk_188_10 (dk_at dksX0_egg_0 5 rfl rfl)
theorem dX0_egg_7 : decode cX0_egg 7 = .ok (.dup, 1) := dk_89 (dk_at dksX0_egg_0 7 rfl rfl)
theorem dX0_egg_8 : decode cX0_egg 8 = .ok (.iconst 0, 1) := dk_3 (dk_at dksX0_egg_0 8 rfl rfl)
theorem dX0_egg_9 : decode cX0_egg 9 = .ok (.iload_n 1, 1) := dk_27 (dk_at dksX0_egg_0 9 rfl rfl)
theorem dX0_egg_10 : decode cX0_egg 10 = .ok (.iastore, 1) := dk_79 (dk_at dksX0_egg_0 10 rfl rfl)
theorem dX0_egg_11 : decode cX0_egg 11 = .ok (.dup, 1) := dk_89 (dk_at dksX0_egg_0 11 rfl rfl)
theorem dX0_egg_12 : decode cX0_egg 12 = .ok (.iconst 1, 1) := dk_4 (dk_at dksX0_egg_0 12 rfl rfl)
theorem dX0_egg_13 : decode cX0_egg 13 = .ok (.iload_n 2, 1) := dk_28 (dk_at dksX0_egg_0 13 rfl rfl)
theorem dX0_egg_14 : decode cX0_egg 14 = .ok (.iastore, 1) := dk_79 (dk_at dksX0_egg_0 14 rfl rfl)
theorem dX0_egg_15 : decode cX0_egg 15 = .ok (.dup, 1) := dk_89 (dk_at dksX0_egg_0 15 rfl rfl)
theorem dX0_egg_16 : decode cX0_egg 16 = .ok (.iconst 2, 1) := dk_5 (dk_at dksX0_egg_0 16 rfl rfl)
theorem dX0_egg_17 : decode cX0_egg 17 = .ok (.iload_n 3, 1) := dk_29 (dk_at dksX0_egg_0 17 rfl rfl)
theorem dX0_egg_18 : decode cX0_egg 18 = .ok (.iastore, 1) := dk_79 (dk_at dksX0_egg_0 18 rfl rfl)
theorem dX0_egg_19 : decode cX0_egg 19 = .ok (.dup, 1) := dk_89 (dk_at dksX0_egg_0 19 rfl rfl)
theorem dX0_egg_20 : decode cX0_egg 20 = .ok (.iconst 3, 1) := dk_6 (dk_at dksX0_egg_0 20 rfl rfl)
theorem dX0_egg_21 : decode cX0_egg 21 = .ok (.iload 4, 2) := dk_21 4 (dk_at dksX0_egg_0 21 rfl rfl)
theorem dX0_egg_23 : decode cX0_egg 23 = .ok (.iastore, 1) := dk_79 (dk_at dksX0_egg_0 23 rfl rfl)
theorem dX0_egg_24 : decode cX0_egg 24 = .ok (.dup, 1) := dk_89 (dk_at dksX0_egg_1 0 rfl rfl)
theorem dX0_egg_25 : decode cX0_egg 25 = .ok (.iconst 4, 1) := dk_7 (dk_at dksX0_egg_1 1 rfl rfl)
theorem dX0_egg_26 : decode cX0_egg 26 = .ok (.iload 5, 2) := dk_21 5 (dk_at dksX0_egg_1 2 rfl rfl)
theorem dX0_egg_28 : decode cX0_egg 28 = .ok (.iastore, 1) := dk_79 (dk_at dksX0_egg_1 4 rfl rfl)
theorem dX0_egg_29 : decode cX0_egg 29 = .ok (.dup, 1) := dk_89 (dk_at dksX0_egg_1 5 rfl rfl)
theorem dX0_egg_30 : decode cX0_egg 30 = .ok (.iconst 5, 1) := dk_8 (dk_at dksX0_egg_1 6 rfl rfl)
theorem dX0_egg_31 : decode cX0_egg 31 = .ok (.iload 6, 2) := dk_21 6 (dk_at dksX0_egg_1 7 rfl rfl)
theorem dX0_egg_33 : decode cX0_egg 33 = .ok (.iastore, 1) := dk_79 (dk_at dksX0_egg_1 9 rfl rfl)
theorem dX0_egg_34 : decode cX0_egg 34 = .ok (.invokevirtual 103, 3) := dk_182 0 103 (dk_at dksX0_egg_1 10 rfl rfl)
theorem dX0_egg_37 : decode cX0_egg 37 = .ok (.ireturn, 1) := dk_172 (dk_at dksX0_egg_1 13 rfl rfl)
abbrev cX0_act : ByteArray := prog_1_method_10_code
def yX0_act : MethodName := ⟨RX0, "act", "(C[I)I"⟩
def dkwX0_act_1 : List UInt8 := [58, 4, 25, 4, 180, 0, 99, 172]
abbrev dktX0_act_1 : List UInt8 := dkwX0_act_1 ++ []
def dkwX0_act_0 : List UInt8 := [187, 0, 24, 89, 42, 180, 0, 29, 183, 0, 88, 78, 42, 45, 45, 27, 44, 184, 0, 91, 182, 0, 95, 172]
abbrev dktX0_act_0 : List UInt8 := dkwX0_act_0 ++ dktX0_act_1
theorem dksX0_act_0 : cX0_act.data.toList.drop 0 = dktX0_act_0 := by decide +kernel
theorem dksX0_act_1 : cX0_act.data.toList.drop 24 = dktX0_act_1 := dk_seg dksX0_act_0 24 rfl rfl
theorem dX0_act_0 : decode cX0_act 0 = .ok (.new 24, 3) := dk_187 0 24 (dk_at dksX0_act_0 0 rfl rfl)
theorem dX0_act_3 : decode cX0_act 3 = .ok (.dup, 1) := dk_89 (dk_at dksX0_act_0 3 rfl rfl)
theorem dX0_act_4 : decode cX0_act 4 = .ok (.aload_n 0, 1) := dk_42 (dk_at dksX0_act_0 4 rfl rfl)
theorem dX0_act_5 : decode cX0_act 5 = .ok (.getfield 29, 3) := dk_180 0 29 (dk_at dksX0_act_0 5 rfl rfl)
theorem dX0_act_8 : decode cX0_act 8 = .ok (.invokespecial 88, 3) := dk_183 0 88 (dk_at dksX0_act_0 8 rfl rfl)
theorem dX0_act_11 : decode cX0_act 11 = .ok (.astore_n 3, 1) := dk_78 (dk_at dksX0_act_0 11 rfl rfl)
theorem dX0_act_12 : decode cX0_act 12 = .ok (.aload_n 0, 1) := dk_42 (dk_at dksX0_act_0 12 rfl rfl)
theorem dX0_act_13 : decode cX0_act 13 = .ok (.aload_n 3, 1) := dk_45 (dk_at dksX0_act_0 13 rfl rfl)
theorem dX0_act_14 : decode cX0_act 14 = .ok (.aload_n 3, 1) := dk_45 (dk_at dksX0_act_0 14 rfl rfl)
theorem dX0_act_15 : decode cX0_act 15 = .ok (.iload_n 1, 1) := dk_27 (dk_at dksX0_act_0 15 rfl rfl)
theorem dX0_act_16 : decode cX0_act 16 = .ok (.aload_n 2, 1) := dk_44 (dk_at dksX0_act_0 16 rfl rfl)
theorem dX0_act_17 : decode cX0_act 17 = .ok (.invokestatic 91, 3) := dk_184 0 91 (dk_at dksX0_act_0 17 rfl rfl)
theorem dX0_act_20 : decode cX0_act 20 = .ok (.invokevirtual 95, 3) := dk_182 0 95 (dk_at dksX0_act_0 20 rfl rfl)
theorem dX0_act_23 : decode cX0_act 23 = .ok (.ireturn, 1) := dk_172 (dk_at dksX0_act_0 23 rfl rfl)
theorem dX0_act_24 : decode cX0_act 24 = .ok (.astore 4, 2) := dk_58 4 (dk_at dksX0_act_1 0 rfl rfl)
theorem dX0_act_26 : decode cX0_act 26 = .ok (.aload 4, 2) := dk_25 4 (dk_at dksX0_act_1 2 rfl rfl)
theorem dX0_act_28 : decode cX0_act 28 = .ok (.getfield 99, 3) := dk_180 0 99 (dk_at dksX0_act_1 4 rfl rfl)
theorem dX0_act_31 : decode cX0_act 31 = .ok (.ireturn, 1) := dk_172 (dk_at dksX0_act_1 7 rfl rfl)
abbrev cX0_done : ByteArray := prog_1_method_9_code
def yX0_done : MethodName := ⟨RX0, "done", "(LEggLights$Machine;C[I)I"⟩
def dkwX0_done_6 : List UInt8 := [42, 44, 3, 46, 182, 0, 82, 172, 42, 44, 3, 46, 44, 4, 46, 182, 0, 85, 172]
abbrev dktX0_done_6 : List UInt8 := dkwX0_done_6 ++ []
def dkwX0_done_5 : List UInt8 := [46, 182, 0, 72, 172, 42, 44, 3, 46, 44, 4, 46, 182, 0, 75, 172, 42, 44, 3, 46, 182, 0, 78, 172]
abbrev dktX0_done_5 : List UInt8 := dkwX0_done_5 ++ dktX0_done_6
def dkwX0_done_4 : List UInt8 := [183, 0, 61, 182, 0, 64, 172, 42, 44, 3, 46, 44, 4, 46, 182, 0, 68, 172, 42, 44, 3, 46, 44, 4]
abbrev dktX0_done_4 : List UInt8 := dkwX0_done_4 ++ dktX0_done_5
def dkwX0_done_3 : List UInt8 := [42, 44, 3, 46, 187, 0, 59, 89, 44, 4, 46, 44, 5, 46, 44, 6, 46, 44, 7, 46, 44, 8, 46]
abbrev dktX0_done_3 : List UInt8 := dkwX0_done_3 ++ dktX0_done_4
def dkwX0_done_2 : List UInt8 := [42, 44, 3, 46, 187, 0, 59, 89, 44, 4, 46, 44, 5, 46, 3, 4, 2, 183, 0, 61, 182, 0, 64, 172]
abbrev dktX0_done_2 : List UInt8 := dkwX0_done_2 ++ dktX0_done_3
def dkwX0_done_1 : List UInt8 := [170, 0, 0, 0, 0, 0, 206, 0, 0, 0, 99, 0, 0, 0, 120, 0, 0, 0, 190, 0, 0, 0, 206, 0, 0, 0, 103, 0, 0, 0, 206, 0, 0, 0, 206, 0, 0, 0, 206, 0, 0, 0, 206, 0, 0, 0, 206, 0, 0, 0, 206, 0, 0, 0, 168, 0, 0, 0, 206, 0, 0, 0, 206, 0, 0, 0, 206, 0, 0, 0, 206, 0, 0, 0, 206, 0, 0, 0, 198, 0, 0, 0, 157, 0, 0, 0, 179, 0, 0, 0, 206, 0, 0, 0, 206, 0, 0, 0, 206, 0, 0, 0, 127]
abbrev dktX0_done_1 : List UInt8 := dkwX0_done_1 ++ dktX0_done_2
def dkwX0_done_0 : List UInt8 := [27]
abbrev dktX0_done_0 : List UInt8 := dkwX0_done_0 ++ dktX0_done_1
theorem dksX0_done_0 : cX0_done.data.toList.drop 0 = dktX0_done_0 := by decide +kernel
theorem dksX0_done_1 : cX0_done.data.toList.drop 1 = dktX0_done_1 := dk_seg dksX0_done_0 1 rfl rfl
theorem dksX0_done_2 : cX0_done.data.toList.drop 104 = dktX0_done_2 := dk_seg dksX0_done_1 103 rfl rfl
theorem dksX0_done_3 : cX0_done.data.toList.drop 128 = dktX0_done_3 := dk_seg dksX0_done_2 24 rfl rfl
theorem dksX0_done_4 : cX0_done.data.toList.drop 151 = dktX0_done_4 := dk_seg dksX0_done_3 23 rfl rfl
theorem dksX0_done_5 : cX0_done.data.toList.drop 175 = dktX0_done_5 := dk_seg dksX0_done_4 24 rfl rfl
theorem dksX0_done_6 : cX0_done.data.toList.drop 199 = dktX0_done_6 := dk_seg dksX0_done_5 24 rfl rfl
theorem dX0_done_0 : decode cX0_done 0 = .ok (.iload_n 1, 1) := dk_27 (dk_at dksX0_done_0 0 rfl rfl)
theorem dX0_done_1 : decode cX0_done 1 = .ok (.tableswitch 206 99 120 #[190, 206, 103, 206, 206, 206, 206, 206, 206, 168, 206, 206, 206, 206, 206, 198, 157, 179, 206, 206, 206, 127], 103) := by decide +kernel
theorem dX0_done_104 : decode cX0_done 104 = .ok (.aload_n 0, 1) := dk_42 (dk_at dksX0_done_2 0 rfl rfl)
theorem dX0_done_105 : decode cX0_done 105 = .ok (.aload_n 2, 1) := dk_44 (dk_at dksX0_done_2 1 rfl rfl)
theorem dX0_done_106 : decode cX0_done 106 = .ok (.iconst 0, 1) := dk_3 (dk_at dksX0_done_2 2 rfl rfl)
theorem dX0_done_107 : decode cX0_done 107 = .ok (.iaload, 1) := dk_46 (dk_at dksX0_done_2 3 rfl rfl)
theorem dX0_done_108 : decode cX0_done 108 = .ok (.new 59, 3) := dk_187 0 59 (dk_at dksX0_done_2 4 rfl rfl)
theorem dX0_done_111 : decode cX0_done 111 = .ok (.dup, 1) := dk_89 (dk_at dksX0_done_2 7 rfl rfl)
theorem dX0_done_112 : decode cX0_done 112 = .ok (.aload_n 2, 1) := dk_44 (dk_at dksX0_done_2 8 rfl rfl)
theorem dX0_done_113 : decode cX0_done 113 = .ok (.iconst 1, 1) := dk_4 (dk_at dksX0_done_2 9 rfl rfl)
theorem dX0_done_114 : decode cX0_done 114 = .ok (.iaload, 1) := dk_46 (dk_at dksX0_done_2 10 rfl rfl)
theorem dX0_done_115 : decode cX0_done 115 = .ok (.aload_n 2, 1) := dk_44 (dk_at dksX0_done_2 11 rfl rfl)
theorem dX0_done_116 : decode cX0_done 116 = .ok (.iconst 2, 1) := dk_5 (dk_at dksX0_done_2 12 rfl rfl)
theorem dX0_done_117 : decode cX0_done 117 = .ok (.iaload, 1) := dk_46 (dk_at dksX0_done_2 13 rfl rfl)
theorem dX0_done_118 : decode cX0_done 118 = .ok (.iconst 0, 1) := dk_3 (dk_at dksX0_done_2 14 rfl rfl)
theorem dX0_done_119 : decode cX0_done 119 = .ok (.iconst 1, 1) := dk_4 (dk_at dksX0_done_2 15 rfl rfl)
theorem dX0_done_120 : decode cX0_done 120 = .ok (.iconst (-1), 1) := dk_2 (dk_at dksX0_done_2 16 rfl rfl)
theorem dX0_done_121 : decode cX0_done 121 = .ok (.invokespecial 61, 3) := dk_183 0 61 (dk_at dksX0_done_2 17 rfl rfl)
theorem dX0_done_124 : decode cX0_done 124 = .ok (.invokevirtual 64, 3) := dk_182 0 64 (dk_at dksX0_done_2 20 rfl rfl)
theorem dX0_done_127 : decode cX0_done 127 = .ok (.ireturn, 1) := dk_172 (dk_at dksX0_done_2 23 rfl rfl)
theorem dX0_done_128 : decode cX0_done 128 = .ok (.aload_n 0, 1) := dk_42 (dk_at dksX0_done_3 0 rfl rfl)
theorem dX0_done_129 : decode cX0_done 129 = .ok (.aload_n 2, 1) := dk_44 (dk_at dksX0_done_3 1 rfl rfl)
theorem dX0_done_130 : decode cX0_done 130 = .ok (.iconst 0, 1) := dk_3 (dk_at dksX0_done_3 2 rfl rfl)
theorem dX0_done_131 : decode cX0_done 131 = .ok (.iaload, 1) := dk_46 (dk_at dksX0_done_3 3 rfl rfl)
theorem dX0_done_132 : decode cX0_done 132 = .ok (.new 59, 3) := dk_187 0 59 (dk_at dksX0_done_3 4 rfl rfl)
theorem dX0_done_135 : decode cX0_done 135 = .ok (.dup, 1) := dk_89 (dk_at dksX0_done_3 7 rfl rfl)
theorem dX0_done_136 : decode cX0_done 136 = .ok (.aload_n 2, 1) := dk_44 (dk_at dksX0_done_3 8 rfl rfl)
theorem dX0_done_137 : decode cX0_done 137 = .ok (.iconst 1, 1) := dk_4 (dk_at dksX0_done_3 9 rfl rfl)
theorem dX0_done_138 : decode cX0_done 138 = .ok (.iaload, 1) := dk_46 (dk_at dksX0_done_3 10 rfl rfl)
theorem dX0_done_139 : decode cX0_done 139 = .ok (.aload_n 2, 1) := dk_44 (dk_at dksX0_done_3 11 rfl rfl)
theorem dX0_done_140 : decode cX0_done 140 = .ok (.iconst 2, 1) := dk_5 (dk_at dksX0_done_3 12 rfl rfl)
theorem dX0_done_141 : decode cX0_done 141 = .ok (.iaload, 1) := dk_46 (dk_at dksX0_done_3 13 rfl rfl)
theorem dX0_done_142 : decode cX0_done 142 = .ok (.aload_n 2, 1) := dk_44 (dk_at dksX0_done_3 14 rfl rfl)
theorem dX0_done_143 : decode cX0_done 143 = .ok (.iconst 3, 1) := dk_6 (dk_at dksX0_done_3 15 rfl rfl)
theorem dX0_done_144 : decode cX0_done 144 = .ok (.iaload, 1) := dk_46 (dk_at dksX0_done_3 16 rfl rfl)
theorem dX0_done_145 : decode cX0_done 145 = .ok (.aload_n 2, 1) := dk_44 (dk_at dksX0_done_3 17 rfl rfl)
theorem dX0_done_146 : decode cX0_done 146 = .ok (.iconst 4, 1) := dk_7 (dk_at dksX0_done_3 18 rfl rfl)
theorem dX0_done_147 : decode cX0_done 147 = .ok (.iaload, 1) := dk_46 (dk_at dksX0_done_3 19 rfl rfl)
theorem dX0_done_148 : decode cX0_done 148 = .ok (.aload_n 2, 1) := dk_44 (dk_at dksX0_done_3 20 rfl rfl)
theorem dX0_done_149 : decode cX0_done 149 = .ok (.iconst 5, 1) := dk_8 (dk_at dksX0_done_3 21 rfl rfl)
theorem dX0_done_150 : decode cX0_done 150 = .ok (.iaload, 1) := dk_46 (dk_at dksX0_done_3 22 rfl rfl)
theorem dX0_done_151 : decode cX0_done 151 = .ok (.invokespecial 61, 3) := dk_183 0 61 (dk_at dksX0_done_4 0 rfl rfl)
theorem dX0_done_154 : decode cX0_done 154 = .ok (.invokevirtual 64, 3) := dk_182 0 64 (dk_at dksX0_done_4 3 rfl rfl)
theorem dX0_done_157 : decode cX0_done 157 = .ok (.ireturn, 1) := dk_172 (dk_at dksX0_done_4 6 rfl rfl)
theorem dX0_done_158 : decode cX0_done 158 = .ok (.aload_n 0, 1) := dk_42 (dk_at dksX0_done_4 7 rfl rfl)
theorem dX0_done_159 : decode cX0_done 159 = .ok (.aload_n 2, 1) := dk_44 (dk_at dksX0_done_4 8 rfl rfl)
theorem dX0_done_160 : decode cX0_done 160 = .ok (.iconst 0, 1) := dk_3 (dk_at dksX0_done_4 9 rfl rfl)
theorem dX0_done_161 : decode cX0_done 161 = .ok (.iaload, 1) := dk_46 (dk_at dksX0_done_4 10 rfl rfl)
theorem dX0_done_162 : decode cX0_done 162 = .ok (.aload_n 2, 1) := dk_44 (dk_at dksX0_done_4 11 rfl rfl)
theorem dX0_done_163 : decode cX0_done 163 = .ok (.iconst 1, 1) := dk_4 (dk_at dksX0_done_4 12 rfl rfl)
theorem dX0_done_164 : decode cX0_done 164 = .ok (.iaload, 1) := dk_46 (dk_at dksX0_done_4 13 rfl rfl)
theorem dX0_done_165 : decode cX0_done 165 = .ok (.invokevirtual 68, 3) := dk_182 0 68 (dk_at dksX0_done_4 14 rfl rfl)
theorem dX0_done_168 : decode cX0_done 168 = .ok (.ireturn, 1) := dk_172 (dk_at dksX0_done_4 17 rfl rfl)
theorem dX0_done_169 : decode cX0_done 169 = .ok (.aload_n 0, 1) := dk_42 (dk_at dksX0_done_4 18 rfl rfl)
theorem dX0_done_170 : decode cX0_done 170 = .ok (.aload_n 2, 1) := dk_44 (dk_at dksX0_done_4 19 rfl rfl)
theorem dX0_done_171 : decode cX0_done 171 = .ok (.iconst 0, 1) := dk_3 (dk_at dksX0_done_4 20 rfl rfl)
theorem dX0_done_172 : decode cX0_done 172 = .ok (.iaload, 1) := dk_46 (dk_at dksX0_done_4 21 rfl rfl)
theorem dX0_done_173 : decode cX0_done 173 = .ok (.aload_n 2, 1) := dk_44 (dk_at dksX0_done_4 22 rfl rfl)
theorem dX0_done_174 : decode cX0_done 174 = .ok (.iconst 1, 1) := dk_4 (dk_at dksX0_done_4 23 rfl rfl)
theorem dX0_done_175 : decode cX0_done 175 = .ok (.iaload, 1) := dk_46 (dk_at dksX0_done_5 0 rfl rfl)
theorem dX0_done_176 : decode cX0_done 176 = .ok (.invokevirtual 72, 3) := dk_182 0 72 (dk_at dksX0_done_5 1 rfl rfl)
theorem dX0_done_179 : decode cX0_done 179 = .ok (.ireturn, 1) := dk_172 (dk_at dksX0_done_5 4 rfl rfl)
theorem dX0_done_180 : decode cX0_done 180 = .ok (.aload_n 0, 1) := dk_42 (dk_at dksX0_done_5 5 rfl rfl)
theorem dX0_done_181 : decode cX0_done 181 = .ok (.aload_n 2, 1) := dk_44 (dk_at dksX0_done_5 6 rfl rfl)
theorem dX0_done_182 : decode cX0_done 182 = .ok (.iconst 0, 1) := dk_3 (dk_at dksX0_done_5 7 rfl rfl)
theorem dX0_done_183 : decode cX0_done 183 = .ok (.iaload, 1) := dk_46 (dk_at dksX0_done_5 8 rfl rfl)
theorem dX0_done_184 : decode cX0_done 184 = .ok (.aload_n 2, 1) := dk_44 (dk_at dksX0_done_5 9 rfl rfl)
theorem dX0_done_185 : decode cX0_done 185 = .ok (.iconst 1, 1) := dk_4 (dk_at dksX0_done_5 10 rfl rfl)
theorem dX0_done_186 : decode cX0_done 186 = .ok (.iaload, 1) := dk_46 (dk_at dksX0_done_5 11 rfl rfl)
theorem dX0_done_187 : decode cX0_done 187 = .ok (.invokevirtual 75, 3) := dk_182 0 75 (dk_at dksX0_done_5 12 rfl rfl)
theorem dX0_done_190 : decode cX0_done 190 = .ok (.ireturn, 1) := dk_172 (dk_at dksX0_done_5 15 rfl rfl)
theorem dX0_done_191 : decode cX0_done 191 = .ok (.aload_n 0, 1) := dk_42 (dk_at dksX0_done_5 16 rfl rfl)
theorem dX0_done_192 : decode cX0_done 192 = .ok (.aload_n 2, 1) := dk_44 (dk_at dksX0_done_5 17 rfl rfl)
theorem dX0_done_193 : decode cX0_done 193 = .ok (.iconst 0, 1) := dk_3 (dk_at dksX0_done_5 18 rfl rfl)
theorem dX0_done_194 : decode cX0_done 194 = .ok (.iaload, 1) := dk_46 (dk_at dksX0_done_5 19 rfl rfl)
theorem dX0_done_195 : decode cX0_done 195 = .ok (.invokevirtual 78, 3) := dk_182 0 78 (dk_at dksX0_done_5 20 rfl rfl)
theorem dX0_done_198 : decode cX0_done 198 = .ok (.ireturn, 1) := dk_172 (dk_at dksX0_done_5 23 rfl rfl)
theorem dX0_done_199 : decode cX0_done 199 = .ok (.aload_n 0, 1) := dk_42 (dk_at dksX0_done_6 0 rfl rfl)
theorem dX0_done_200 : decode cX0_done 200 = .ok (.aload_n 2, 1) := dk_44 (dk_at dksX0_done_6 1 rfl rfl)
theorem dX0_done_201 : decode cX0_done 201 = .ok (.iconst 0, 1) := dk_3 (dk_at dksX0_done_6 2 rfl rfl)
theorem dX0_done_202 : decode cX0_done 202 = .ok (.iaload, 1) := dk_46 (dk_at dksX0_done_6 3 rfl rfl)
theorem dX0_done_203 : decode cX0_done 203 = .ok (.invokevirtual 82, 3) := dk_182 0 82 (dk_at dksX0_done_6 4 rfl rfl)
theorem dX0_done_206 : decode cX0_done 206 = .ok (.ireturn, 1) := dk_172 (dk_at dksX0_done_6 7 rfl rfl)
theorem dX0_done_207 : decode cX0_done 207 = .ok (.aload_n 0, 1) := dk_42 (dk_at dksX0_done_6 8 rfl rfl)
theorem dX0_done_208 : decode cX0_done 208 = .ok (.aload_n 2, 1) := dk_44 (dk_at dksX0_done_6 9 rfl rfl)
theorem dX0_done_209 : decode cX0_done 209 = .ok (.iconst 0, 1) := dk_3 (dk_at dksX0_done_6 10 rfl rfl)
theorem dX0_done_210 : decode cX0_done 210 = .ok (.iaload, 1) := dk_46 (dk_at dksX0_done_6 11 rfl rfl)
theorem dX0_done_211 : decode cX0_done 211 = .ok (.aload_n 2, 1) := dk_44 (dk_at dksX0_done_6 12 rfl rfl)
theorem dX0_done_212 : decode cX0_done 212 = .ok (.iconst 1, 1) := dk_4 (dk_at dksX0_done_6 13 rfl rfl)
theorem dX0_done_213 : decode cX0_done 213 = .ok (.iaload, 1) := dk_46 (dk_at dksX0_done_6 14 rfl rfl)
theorem dX0_done_214 : decode cX0_done 214 = .ok (.invokevirtual 85, 3) := dk_182 0 85 (dk_at dksX0_done_6 15 rfl rfl)
theorem dX0_done_217 : decode cX0_done 217 = .ok (.ireturn, 1) := dk_172 (dk_at dksX0_done_6 18 rfl rfl)
abbrev cX0_isLane : ByteArray := prog_1_method_2_code
def yX0_isLane : MethodName := ⟨RX0, "isLane", "(I)Z"⟩
def dkwX0_isLane_0 : List UInt8 := [26, 133, 9, 20, 0, 3, 184, 0, 5, 172]
abbrev dktX0_isLane_0 : List UInt8 := dkwX0_isLane_0 ++ []
theorem dksX0_isLane_0 : cX0_isLane.data.toList.drop 0 = dktX0_isLane_0 := by decide +kernel
theorem dX0_isLane_0 : decode cX0_isLane 0 = .ok (.iload_n 0, 1) := dk_26 (dk_at dksX0_isLane_0 0 rfl rfl)
theorem dX0_isLane_1 : decode cX0_isLane 1 = .ok (.i2l, 1) := dk_133 (dk_at dksX0_isLane_0 1 rfl rfl)
theorem dX0_isLane_2 : decode cX0_isLane 2 = .ok (.lconst 0, 1) := dk_9 (dk_at dksX0_isLane_0 2 rfl rfl)
theorem dX0_isLane_3 : decode cX0_isLane 3 = .ok (.ldc2_w 3, 3) := dk_20 0 3 (dk_at dksX0_isLane_0 3 rfl rfl)
theorem dX0_isLane_6 : decode cX0_isLane 6 = .ok (.invokestatic 5, 3) := dk_184 0 5 (dk_at dksX0_isLane_0 6 rfl rfl)
theorem dX0_isLane_9 : decode cX0_isLane 9 = .ok (.ireturn, 1) := dk_172 (dk_at dksX0_isLane_0 9 rfl rfl)
abbrev cX0_isBetween : ByteArray := prog_1_method_1_code
def yX0_isBetween : MethodName := ⟨RX0, "isBetween", "(JJJ)Z"⟩
def dkwX0_isBetween_0 : List UInt8 := [30, 32, 148, 155, 0, 14, 30, 22, 4, 148, 157, 0, 7, 4, 167, 0, 4, 3, 172]
abbrev dktX0_isBetween_0 : List UInt8 := dkwX0_isBetween_0 ++ []
theorem dksX0_isBetween_0 : cX0_isBetween.data.toList.drop 0 = dktX0_isBetween_0 := by decide +kernel
theorem dX0_isBetween_0 : decode cX0_isBetween 0 = .ok (.lload_n 0, 1) := dk_30 (dk_at dksX0_isBetween_0 0 rfl rfl)
theorem dX0_isBetween_1 : decode cX0_isBetween 1 = .ok (.lload_n 2, 1) := dk_32 (dk_at dksX0_isBetween_0 1 rfl rfl)
theorem dX0_isBetween_2 : decode cX0_isBetween 2 = .ok (.lcmp, 1) := dk_148 (dk_at dksX0_isBetween_0 2 rfl rfl)
theorem dX0_isBetween_3 : decode cX0_isBetween 3 = .ok (.ifCond .lt 14, 3) := dk_155 0 14 (dk_at dksX0_isBetween_0 3 rfl rfl)
theorem dX0_isBetween_6 : decode cX0_isBetween 6 = .ok (.lload_n 0, 1) := dk_30 (dk_at dksX0_isBetween_0 6 rfl rfl)
theorem dX0_isBetween_7 : decode cX0_isBetween 7 = .ok (.lload 4, 2) := dk_22 4 (dk_at dksX0_isBetween_0 7 rfl rfl)
theorem dX0_isBetween_9 : decode cX0_isBetween 9 = .ok (.lcmp, 1) := dk_148 (dk_at dksX0_isBetween_0 9 rfl rfl)
theorem dX0_isBetween_10 : decode cX0_isBetween 10 = .ok (.ifCond .gt 7, 3) := dk_157 0 7 (dk_at dksX0_isBetween_0 10 rfl rfl)
theorem dX0_isBetween_13 : decode cX0_isBetween 13 = .ok (.iconst 1, 1) := dk_4 (dk_at dksX0_isBetween_0 13 rfl rfl)
theorem dX0_isBetween_14 : decode cX0_isBetween 14 = .ok (.goto 4, 3) := dk_167 0 4 (dk_at dksX0_isBetween_0 14 rfl rfl)
theorem dX0_isBetween_17 : decode cX0_isBetween 17 = .ok (.iconst 0, 1) := dk_3 (dk_at dksX0_isBetween_0 17 rfl rfl)
theorem dX0_isBetween_18 : decode cX0_isBetween 18 = .ok (.ireturn, 1) := dk_172 (dk_at dksX0_isBetween_0 18 rfl rfl)
abbrev cX0_isSpots : ByteArray := prog_1_method_4_code
def yX0_isSpots : MethodName := ⟨RX0, "isSpots", "(I)Z"⟩
def dkwX0_isSpots_0 : List UInt8 := [26, 133, 9, 20, 0, 11, 184, 0, 5, 172]
abbrev dktX0_isSpots_0 : List UInt8 := dkwX0_isSpots_0 ++ []
theorem dksX0_isSpots_0 : cX0_isSpots.data.toList.drop 0 = dktX0_isSpots_0 := by decide +kernel
theorem dX0_isSpots_0 : decode cX0_isSpots 0 = .ok (.iload_n 0, 1) := dk_26 (dk_at dksX0_isSpots_0 0 rfl rfl)
theorem dX0_isSpots_1 : decode cX0_isSpots 1 = .ok (.i2l, 1) := dk_133 (dk_at dksX0_isSpots_0 1 rfl rfl)
theorem dX0_isSpots_2 : decode cX0_isSpots 2 = .ok (.lconst 0, 1) := dk_9 (dk_at dksX0_isSpots_0 2 rfl rfl)
theorem dX0_isSpots_3 : decode cX0_isSpots 3 = .ok (.ldc2_w 11, 3) := dk_20 0 11 (dk_at dksX0_isSpots_0 3 rfl rfl)
theorem dX0_isSpots_6 : decode cX0_isSpots 6 = .ok (.invokestatic 5, 3) := dk_184 0 5 (dk_at dksX0_isSpots_0 6 rfl rfl)
theorem dX0_isSpots_9 : decode cX0_isSpots 9 = .ok (.ireturn, 1) := dk_172 (dk_at dksX0_isSpots_0 9 rfl rfl)
abbrev cX0_need : ByteArray := prog_1_method_5_code
def yX0_need : MethodName := ⟨RX0, "need", "(ZI)V"⟩
def dkwX0_need_0 : List UInt8 := [26, 154, 0, 12, 187, 0, 13, 89, 27, 183, 0, 15, 191, 177]
abbrev dktX0_need_0 : List UInt8 := dkwX0_need_0 ++ []
theorem dksX0_need_0 : cX0_need.data.toList.drop 0 = dktX0_need_0 := by decide +kernel
theorem dX0_need_0 : decode cX0_need 0 = .ok (.iload_n 0, 1) := dk_26 (dk_at dksX0_need_0 0 rfl rfl)
theorem dX0_need_1 : decode cX0_need 1 = .ok (.ifCond .ne 12, 3) := dk_154 0 12 (dk_at dksX0_need_0 1 rfl rfl)
theorem dX0_need_4 : decode cX0_need 4 = .ok (.new 13, 3) := dk_187 0 13 (dk_at dksX0_need_0 4 rfl rfl)
theorem dX0_need_7 : decode cX0_need 7 = .ok (.dup, 1) := dk_89 (dk_at dksX0_need_0 7 rfl rfl)
theorem dX0_need_8 : decode cX0_need 8 = .ok (.iload_n 1, 1) := dk_27 (dk_at dksX0_need_0 8 rfl rfl)
theorem dX0_need_9 : decode cX0_need 9 = .ok (.invokespecial 15, 3) := dk_183 0 15 (dk_at dksX0_need_0 9 rfl rfl)
theorem dX0_need_12 : decode cX0_need 12 = .ok (.athrow, 1) := dk_191 (dk_at dksX0_need_0 12 rfl rfl)
theorem dX0_need_13 : decode cX0_need 13 = .ok (.return_, 1) := dk_177 (dk_at dksX0_need_0 13 rfl rfl)
abbrev cX0_price : ByteArray := prog_1_method_6_code
def yX0_price : MethodName := ⟨RX0, "price", "(I)I"⟩
def dkwX0_price_0 : List UInt8 := [26, 7, 162, 0, 9, 26, 4, 96, 167, 0, 13, 26, 7, 160, 0, 7, 4, 167, 0, 4, 8, 172]
abbrev dktX0_price_0 : List UInt8 := dkwX0_price_0 ++ []
theorem dksX0_price_0 : cX0_price.data.toList.drop 0 = dktX0_price_0 := by decide +kernel
theorem dX0_price_0 : decode cX0_price 0 = .ok (.iload_n 0, 1) := dk_26 (dk_at dksX0_price_0 0 rfl rfl)
theorem dX0_price_1 : decode cX0_price 1 = .ok (.iconst 4, 1) := dk_7 (dk_at dksX0_price_0 1 rfl rfl)
theorem dX0_price_2 : decode cX0_price 2 = .ok (.if_icmp .ge 9, 3) := dk_162 0 9 (dk_at dksX0_price_0 2 rfl rfl)
theorem dX0_price_5 : decode cX0_price 5 = .ok (.iload_n 0, 1) := dk_26 (dk_at dksX0_price_0 5 rfl rfl)
theorem dX0_price_6 : decode cX0_price 6 = .ok (.iconst 1, 1) := dk_4 (dk_at dksX0_price_0 6 rfl rfl)
theorem dX0_price_7 : decode cX0_price 7 = .ok (.iadd, 1) := dk_96 (dk_at dksX0_price_0 7 rfl rfl)
theorem dX0_price_8 : decode cX0_price 8 = .ok (.goto 13, 3) := dk_167 0 13 (dk_at dksX0_price_0 8 rfl rfl)
theorem dX0_price_11 : decode cX0_price 11 = .ok (.iload_n 0, 1) := dk_26 (dk_at dksX0_price_0 11 rfl rfl)
theorem dX0_price_12 : decode cX0_price 12 = .ok (.iconst 4, 1) := dk_7 (dk_at dksX0_price_0 12 rfl rfl)
theorem dX0_price_13 : decode cX0_price 13 = .ok (.if_icmp .ne 7, 3) := dk_160 0 7 (dk_at dksX0_price_0 13 rfl rfl)
theorem dX0_price_16 : decode cX0_price 16 = .ok (.iconst 1, 1) := dk_4 (dk_at dksX0_price_0 16 rfl rfl)
theorem dX0_price_17 : decode cX0_price 17 = .ok (.goto 4, 3) := dk_167 0 4 (dk_at dksX0_price_0 17 rfl rfl)
theorem dX0_price_20 : decode cX0_price 20 = .ok (.iconst 5, 1) := dk_8 (dk_at dksX0_price_0 20 rfl rfl)
theorem dX0_price_21 : decode cX0_price 21 = .ok (.ireturn, 1) := dk_172 (dk_at dksX0_price_0 21 rfl rfl)
abbrev cX0_changed : ByteArray := prog_1_method_8_code
def yX0_changed : MethodName := ⟨RX0, "changed", "(LEggLights$Machine;I)I"⟩
def dkwX0_changed_1 : List UInt8 := [180, 0, 36, 182, 0, 55, 87, 42, 43, 181, 0, 29, 28, 172]
abbrev dktX0_changed_1 : List UInt8 := dkwX0_changed_1 ++ []
def dkwX0_changed_0 : List UInt8 := [42, 180, 0, 36, 42, 180, 0, 29, 182, 0, 47, 42, 180, 0, 36, 182, 0, 51, 7, 164, 0, 11, 42]
abbrev dktX0_changed_0 : List UInt8 := dkwX0_changed_0 ++ dktX0_changed_1
theorem dksX0_changed_0 : cX0_changed.data.toList.drop 0 = dktX0_changed_0 := by decide +kernel
theorem dksX0_changed_1 : cX0_changed.data.toList.drop 23 = dktX0_changed_1 := dk_seg dksX0_changed_0 23 rfl rfl
theorem dX0_changed_0 : decode cX0_changed 0 = .ok (.aload_n 0, 1) := dk_42 (dk_at dksX0_changed_0 0 rfl rfl)
theorem dX0_changed_1 : decode cX0_changed 1 = .ok (.getfield 36, 3) := dk_180 0 36 (dk_at dksX0_changed_0 1 rfl rfl)
theorem dX0_changed_4 : decode cX0_changed 4 = .ok (.aload_n 0, 1) := dk_42 (dk_at dksX0_changed_0 4 rfl rfl)
theorem dX0_changed_5 : decode cX0_changed 5 = .ok (.getfield 29, 3) := dk_180 0 29 (dk_at dksX0_changed_0 5 rfl rfl)
theorem dX0_changed_8 : decode cX0_changed 8 = .ok (.invokevirtual 47, 3) := dk_182 0 47 (dk_at dksX0_changed_0 8 rfl rfl)
theorem dX0_changed_11 : decode cX0_changed 11 = .ok (.aload_n 0, 1) := dk_42 (dk_at dksX0_changed_0 11 rfl rfl)
theorem dX0_changed_12 : decode cX0_changed 12 = .ok (.getfield 36, 3) := dk_180 0 36 (dk_at dksX0_changed_0 12 rfl rfl)
theorem dX0_changed_15 : decode cX0_changed 15 = .ok (.invokevirtual 51, 3) := dk_182 0 51 (dk_at dksX0_changed_0 15 rfl rfl)
theorem dX0_changed_18 : decode cX0_changed 18 = .ok (.iconst 4, 1) := dk_7 (dk_at dksX0_changed_0 18 rfl rfl)
theorem dX0_changed_19 : decode cX0_changed 19 = .ok (.if_icmp .le 11, 3) := dk_164 0 11 (dk_at dksX0_changed_0 19 rfl rfl)
theorem dX0_changed_22 : decode cX0_changed 22 = .ok (.aload_n 0, 1) := dk_42 (dk_at dksX0_changed_0 22 rfl rfl)
theorem dX0_changed_23 : decode cX0_changed 23 = .ok (.getfield 36, 3) := dk_180 0 36 (dk_at dksX0_changed_1 0 rfl rfl)
theorem dX0_changed_26 : decode cX0_changed 26 = .ok (.invokevirtual 55, 3) := dk_182 0 55 (dk_at dksX0_changed_1 3 rfl rfl)
theorem dX0_changed_29 : decode cX0_changed 29 = .ok (.pop, 1) := dk_87 (dk_at dksX0_changed_1 6 rfl rfl)
theorem dX0_changed_30 : decode cX0_changed 30 = .ok (.aload_n 0, 1) := dk_42 (dk_at dksX0_changed_1 7 rfl rfl)
theorem dX0_changed_31 : decode cX0_changed 31 = .ok (.aload_n 1, 1) := dk_43 (dk_at dksX0_changed_1 8 rfl rfl)
theorem dX0_changed_32 : decode cX0_changed 32 = .ok (.putfield 29, 3) := dk_181 0 29 (dk_at dksX0_changed_1 9 rfl rfl)
theorem dX0_changed_35 : decode cX0_changed 35 = .ok (.iload_n 2, 1) := dk_28 (dk_at dksX0_changed_1 12 rfl rfl)
theorem dX0_changed_36 : decode cX0_changed 36 = .ok (.ireturn, 1) := dk_172 (dk_at dksX0_changed_1 13 rfl rfl)
abbrev cX0_stain : ByteArray := prog_1_method_12_code
def yX0_stain : MethodName := ⟨RX0, "stain", "(II)I"⟩
def dkwX0_stain_0 : List UInt8 := [42, 16, 115, 5, 188, 10, 89, 3, 27, 79, 89, 4, 28, 79, 182, 0, 103, 172]
abbrev dktX0_stain_0 : List UInt8 := dkwX0_stain_0 ++ []
theorem dksX0_stain_0 : cX0_stain.data.toList.drop 0 = dktX0_stain_0 := by decide +kernel
theorem dX0_stain_0 : decode cX0_stain 0 = .ok (.aload_n 0, 1) := dk_42 (dk_at dksX0_stain_0 0 rfl rfl)
theorem dX0_stain_1 : decode cX0_stain 1 = .ok (.bipush 115, 2) := dk_16 115 (dk_at dksX0_stain_0 1 rfl rfl)
theorem dX0_stain_3 : decode cX0_stain 3 = .ok (.iconst 2, 1) := dk_5 (dk_at dksX0_stain_0 3 rfl rfl)
theorem dX0_stain_4 : decode cX0_stain 4 = .ok (.newarray .int, 2) := dk_188_10 (dk_at dksX0_stain_0 4 rfl rfl)
theorem dX0_stain_6 : decode cX0_stain 6 = .ok (.dup, 1) := dk_89 (dk_at dksX0_stain_0 6 rfl rfl)
theorem dX0_stain_7 : decode cX0_stain 7 = .ok (.iconst 0, 1) := dk_3 (dk_at dksX0_stain_0 7 rfl rfl)
theorem dX0_stain_8 : decode cX0_stain 8 = .ok (.iload_n 1, 1) := dk_27 (dk_at dksX0_stain_0 8 rfl rfl)
theorem dX0_stain_9 : decode cX0_stain 9 = .ok (.iastore, 1) := dk_79 (dk_at dksX0_stain_0 9 rfl rfl)
theorem dX0_stain_10 : decode cX0_stain 10 = .ok (.dup, 1) := dk_89 (dk_at dksX0_stain_0 10 rfl rfl)
theorem dX0_stain_11 : decode cX0_stain 11 = .ok (.iconst 1, 1) := dk_4 (dk_at dksX0_stain_0 11 rfl rfl)
theorem dX0_stain_12 : decode cX0_stain 12 = .ok (.iload_n 2, 1) := dk_28 (dk_at dksX0_stain_0 12 rfl rfl)
theorem dX0_stain_13 : decode cX0_stain 13 = .ok (.iastore, 1) := dk_79 (dk_at dksX0_stain_0 13 rfl rfl)
theorem dX0_stain_14 : decode cX0_stain 14 = .ok (.invokevirtual 103, 3) := dk_182 0 103 (dk_at dksX0_stain_0 14 rfl rfl)
theorem dX0_stain_17 : decode cX0_stain 17 = .ok (.ireturn, 1) := dk_172 (dk_at dksX0_stain_0 17 rfl rfl)
abbrev cX0_light : ByteArray := prog_1_method_13_code
def yX0_light : MethodName := ⟨RX0, "light", "(II)I"⟩
def dkwX0_light_0 : List UInt8 := [42, 16, 108, 5, 188, 10, 89, 3, 27, 79, 89, 4, 28, 79, 182, 0, 103, 172]
abbrev dktX0_light_0 : List UInt8 := dkwX0_light_0 ++ []
theorem dksX0_light_0 : cX0_light.data.toList.drop 0 = dktX0_light_0 := by decide +kernel
theorem dX0_light_0 : decode cX0_light 0 = .ok (.aload_n 0, 1) := dk_42 (dk_at dksX0_light_0 0 rfl rfl)
theorem dX0_light_1 : decode cX0_light 1 = .ok (.bipush 108, 2) := dk_16 108 (dk_at dksX0_light_0 1 rfl rfl)
theorem dX0_light_3 : decode cX0_light 3 = .ok (.iconst 2, 1) := dk_5 (dk_at dksX0_light_0 3 rfl rfl)
theorem dX0_light_4 : decode cX0_light 4 = .ok (.newarray .int, 2) := dk_188_10 (dk_at dksX0_light_0 4 rfl rfl)
theorem dX0_light_6 : decode cX0_light 6 = .ok (.dup, 1) := dk_89 (dk_at dksX0_light_0 6 rfl rfl)
theorem dX0_light_7 : decode cX0_light 7 = .ok (.iconst 0, 1) := dk_3 (dk_at dksX0_light_0 7 rfl rfl)
theorem dX0_light_8 : decode cX0_light 8 = .ok (.iload_n 1, 1) := dk_27 (dk_at dksX0_light_0 8 rfl rfl)
theorem dX0_light_9 : decode cX0_light 9 = .ok (.iastore, 1) := dk_79 (dk_at dksX0_light_0 9 rfl rfl)
theorem dX0_light_10 : decode cX0_light 10 = .ok (.dup, 1) := dk_89 (dk_at dksX0_light_0 10 rfl rfl)
theorem dX0_light_11 : decode cX0_light 11 = .ok (.iconst 1, 1) := dk_4 (dk_at dksX0_light_0 11 rfl rfl)
theorem dX0_light_12 : decode cX0_light 12 = .ok (.iload_n 2, 1) := dk_28 (dk_at dksX0_light_0 12 rfl rfl)
theorem dX0_light_13 : decode cX0_light 13 = .ok (.iastore, 1) := dk_79 (dk_at dksX0_light_0 13 rfl rfl)
theorem dX0_light_14 : decode cX0_light 14 = .ok (.invokevirtual 103, 3) := dk_182 0 103 (dk_at dksX0_light_0 14 rfl rfl)
theorem dX0_light_17 : decode cX0_light 17 = .ok (.ireturn, 1) := dk_172 (dk_at dksX0_light_0 17 rfl rfl)
abbrev cX0_turn : ByteArray := prog_1_method_14_code
def yX0_turn : MethodName := ⟨RX0, "turn", "(II)I"⟩
def dkwX0_turn_0 : List UInt8 := [42, 16, 116, 5, 188, 10, 89, 3, 27, 79, 89, 4, 28, 79, 182, 0, 103, 172]
abbrev dktX0_turn_0 : List UInt8 := dkwX0_turn_0 ++ []
theorem dksX0_turn_0 : cX0_turn.data.toList.drop 0 = dktX0_turn_0 := by decide +kernel
theorem dX0_turn_0 : decode cX0_turn 0 = .ok (.aload_n 0, 1) := dk_42 (dk_at dksX0_turn_0 0 rfl rfl)
theorem dX0_turn_1 : decode cX0_turn 1 = .ok (.bipush 116, 2) := dk_16 116 (dk_at dksX0_turn_0 1 rfl rfl)
theorem dX0_turn_3 : decode cX0_turn 3 = .ok (.iconst 2, 1) := dk_5 (dk_at dksX0_turn_0 3 rfl rfl)
theorem dX0_turn_4 : decode cX0_turn 4 = .ok (.newarray .int, 2) := dk_188_10 (dk_at dksX0_turn_0 4 rfl rfl)
theorem dX0_turn_6 : decode cX0_turn 6 = .ok (.dup, 1) := dk_89 (dk_at dksX0_turn_0 6 rfl rfl)
theorem dX0_turn_7 : decode cX0_turn 7 = .ok (.iconst 0, 1) := dk_3 (dk_at dksX0_turn_0 7 rfl rfl)
theorem dX0_turn_8 : decode cX0_turn 8 = .ok (.iload_n 1, 1) := dk_27 (dk_at dksX0_turn_0 8 rfl rfl)
theorem dX0_turn_9 : decode cX0_turn 9 = .ok (.iastore, 1) := dk_79 (dk_at dksX0_turn_0 9 rfl rfl)
theorem dX0_turn_10 : decode cX0_turn 10 = .ok (.dup, 1) := dk_89 (dk_at dksX0_turn_0 10 rfl rfl)
theorem dX0_turn_11 : decode cX0_turn 11 = .ok (.iconst 1, 1) := dk_4 (dk_at dksX0_turn_0 11 rfl rfl)
theorem dX0_turn_12 : decode cX0_turn 12 = .ok (.iload_n 2, 1) := dk_28 (dk_at dksX0_turn_0 12 rfl rfl)
theorem dX0_turn_13 : decode cX0_turn 13 = .ok (.iastore, 1) := dk_79 (dk_at dksX0_turn_0 13 rfl rfl)
theorem dX0_turn_14 : decode cX0_turn 14 = .ok (.invokevirtual 103, 3) := dk_182 0 103 (dk_at dksX0_turn_0 14 rfl rfl)
theorem dX0_turn_17 : decode cX0_turn 17 = .ok (.ireturn, 1) := dk_172 (dk_at dksX0_turn_0 17 rfl rfl)
abbrev cX0_clean : ByteArray := prog_1_method_15_code
def yX0_clean : MethodName := ⟨RX0, "clean", "(I)I"⟩
def dkwX0_clean_0 : List UInt8 := [42, 16, 99, 4, 188, 10, 89, 3, 27, 79, 182, 0, 103, 172]
abbrev dktX0_clean_0 : List UInt8 := dkwX0_clean_0 ++ []
theorem dksX0_clean_0 : cX0_clean.data.toList.drop 0 = dktX0_clean_0 := by decide +kernel
theorem dX0_clean_0 : decode cX0_clean 0 = .ok (.aload_n 0, 1) := dk_42 (dk_at dksX0_clean_0 0 rfl rfl)
theorem dX0_clean_1 : decode cX0_clean 1 = .ok (.bipush 99, 2) := dk_16 99 (dk_at dksX0_clean_0 1 rfl rfl)
theorem dX0_clean_3 : decode cX0_clean 3 = .ok (.iconst 1, 1) := dk_4 (dk_at dksX0_clean_0 3 rfl rfl)
theorem dX0_clean_4 : decode cX0_clean 4 = .ok (.newarray .int, 2) := dk_188_10 (dk_at dksX0_clean_0 4 rfl rfl)
theorem dX0_clean_6 : decode cX0_clean 6 = .ok (.dup, 1) := dk_89 (dk_at dksX0_clean_0 6 rfl rfl)
theorem dX0_clean_7 : decode cX0_clean 7 = .ok (.iconst 0, 1) := dk_3 (dk_at dksX0_clean_0 7 rfl rfl)
theorem dX0_clean_8 : decode cX0_clean 8 = .ok (.iload_n 1, 1) := dk_27 (dk_at dksX0_clean_0 8 rfl rfl)
theorem dX0_clean_9 : decode cX0_clean 9 = .ok (.iastore, 1) := dk_79 (dk_at dksX0_clean_0 9 rfl rfl)
theorem dX0_clean_10 : decode cX0_clean 10 = .ok (.invokevirtual 103, 3) := dk_182 0 103 (dk_at dksX0_clean_0 10 rfl rfl)
theorem dX0_clean_13 : decode cX0_clean 13 = .ok (.ireturn, 1) := dk_172 (dk_at dksX0_clean_0 13 rfl rfl)
abbrev cX0_run : ByteArray := prog_1_method_16_code
def yX0_run : MethodName := ⟨RX0, "run", "(I)I"⟩
def dkwX0_run_0 : List UInt8 := [42, 16, 114, 4, 188, 10, 89, 3, 27, 79, 182, 0, 103, 172]
abbrev dktX0_run_0 : List UInt8 := dkwX0_run_0 ++ []
theorem dksX0_run_0 : cX0_run.data.toList.drop 0 = dktX0_run_0 := by decide +kernel
theorem dX0_run_0 : decode cX0_run 0 = .ok (.aload_n 0, 1) := dk_42 (dk_at dksX0_run_0 0 rfl rfl)
theorem dX0_run_1 : decode cX0_run 1 = .ok (.bipush 114, 2) := dk_16 114 (dk_at dksX0_run_0 1 rfl rfl)
theorem dX0_run_3 : decode cX0_run 3 = .ok (.iconst 1, 1) := dk_4 (dk_at dksX0_run_0 3 rfl rfl)
theorem dX0_run_4 : decode cX0_run 4 = .ok (.newarray .int, 2) := dk_188_10 (dk_at dksX0_run_0 4 rfl rfl)
theorem dX0_run_6 : decode cX0_run 6 = .ok (.dup, 1) := dk_89 (dk_at dksX0_run_0 6 rfl rfl)
theorem dX0_run_7 : decode cX0_run 7 = .ok (.iconst 0, 1) := dk_3 (dk_at dksX0_run_0 7 rfl rfl)
theorem dX0_run_8 : decode cX0_run 8 = .ok (.iload_n 1, 1) := dk_27 (dk_at dksX0_run_0 8 rfl rfl)
theorem dX0_run_9 : decode cX0_run 9 = .ok (.iastore, 1) := dk_79 (dk_at dksX0_run_0 9 rfl rfl)
theorem dX0_run_10 : decode cX0_run 10 = .ok (.invokevirtual 103, 3) := dk_182 0 103 (dk_at dksX0_run_0 10 rfl rfl)
theorem dX0_run_13 : decode cX0_run 13 = .ok (.ireturn, 1) := dk_172 (dk_at dksX0_run_0 13 rfl rfl)
abbrev cX0_set : ByteArray := prog_1_method_17_code
def yX0_set : MethodName := ⟨RX0, "set", "(II)I"⟩
def dkwX0_set_0 : List UInt8 := [42, 16, 122, 5, 188, 10, 89, 3, 27, 79, 89, 4, 28, 79, 182, 0, 103, 172]
abbrev dktX0_set_0 : List UInt8 := dkwX0_set_0 ++ []
theorem dksX0_set_0 : cX0_set.data.toList.drop 0 = dktX0_set_0 := by decide +kernel
theorem dX0_set_0 : decode cX0_set 0 = .ok (.aload_n 0, 1) := dk_42 (dk_at dksX0_set_0 0 rfl rfl)
theorem dX0_set_1 : decode cX0_set 1 = .ok (.bipush 122, 2) := dk_16 122 (dk_at dksX0_set_0 1 rfl rfl)
theorem dX0_set_3 : decode cX0_set 3 = .ok (.iconst 2, 1) := dk_5 (dk_at dksX0_set_0 3 rfl rfl)
theorem dX0_set_4 : decode cX0_set 4 = .ok (.newarray .int, 2) := dk_188_10 (dk_at dksX0_set_0 4 rfl rfl)
theorem dX0_set_6 : decode cX0_set 6 = .ok (.dup, 1) := dk_89 (dk_at dksX0_set_0 6 rfl rfl)
theorem dX0_set_7 : decode cX0_set 7 = .ok (.iconst 0, 1) := dk_3 (dk_at dksX0_set_0 7 rfl rfl)
theorem dX0_set_8 : decode cX0_set 8 = .ok (.iload_n 1, 1) := dk_27 (dk_at dksX0_set_0 8 rfl rfl)
theorem dX0_set_9 : decode cX0_set 9 = .ok (.iastore, 1) := dk_79 (dk_at dksX0_set_0 9 rfl rfl)
theorem dX0_set_10 : decode cX0_set 10 = .ok (.dup, 1) := dk_89 (dk_at dksX0_set_0 10 rfl rfl)
theorem dX0_set_11 : decode cX0_set 11 = .ok (.iconst 1, 1) := dk_4 (dk_at dksX0_set_0 11 rfl rfl)
theorem dX0_set_12 : decode cX0_set 12 = .ok (.iload_n 2, 1) := dk_28 (dk_at dksX0_set_0 12 rfl rfl)
theorem dX0_set_13 : decode cX0_set 13 = .ok (.iastore, 1) := dk_79 (dk_at dksX0_set_0 13 rfl rfl)
theorem dX0_set_14 : decode cX0_set 14 = .ok (.invokevirtual 103, 3) := dk_182 0 103 (dk_at dksX0_set_0 14 rfl rfl)
theorem dX0_set_17 : decode cX0_set 17 = .ok (.ireturn, 1) := dk_172 (dk_at dksX0_set_0 17 rfl rfl)
abbrev cX0_lane : ByteArray := prog_1_method_20_code
def yX0_lane : MethodName := ⟨RX0, "lane", "(II)I"⟩
def dkwX0_lane_6 : List UInt8 := [180, 0, 166, 172]
abbrev dktX0_lane_6 : List UInt8 := dkwX0_lane_6 ++ []
def dkwX0_lane_5 : List UInt8 := [182, 0, 152, 184, 0, 155, 172, 42, 45, 180, 0, 146, 182, 0, 160, 172, 45, 180, 0, 163, 172, 45]
abbrev dktX0_lane_5 : List UInt8 := dkwX0_lane_5 ++ dktX0_lane_6
def dkwX0_lane_4 : List UInt8 := [42, 180, 0, 29, 180, 0, 108, 3, 46, 182, 0, 152, 172, 45, 42, 180, 0, 29, 180, 0, 108, 3, 46]
abbrev dktX0_lane_4 : List UInt8 := dkwX0_lane_4 ++ dktX0_lane_5
def dkwX0_lane_3 : List UInt8 := [45, 180, 0, 136, 182, 0, 140, 172, 45, 180, 0, 143, 172, 45, 180, 0, 146, 172, 45, 180, 0, 149, 172, 45]
abbrev dktX0_lane_3 : List UInt8 := dkwX0_lane_3 ++ dktX0_lane_4
def dkwX0_lane_2 : List UInt8 := [170, 0, 0, 0, 0, 114, 0, 0, 0, 0, 0, 0, 0, 7, 0, 0, 0, 46, 0, 0, 0, 54, 0, 0, 0, 59, 0, 0, 0, 64, 0, 0, 0, 69, 0, 0, 0, 83, 0, 0, 0, 100, 0, 0, 0, 109]
abbrev dktX0_lane_2 : List UInt8 := dkwX0_lane_2 ++ dktX0_lane_3
def dkwX0_lane_1 : List UInt8 := [180, 0, 29, 180, 0, 124, 27, 182, 0, 128, 192, 0, 134, 78, 28]
abbrev dktX0_lane_1 : List UInt8 := dkwX0_lane_1 ++ dktX0_lane_2
def dkwX0_lane_0 : List UInt8 := [27, 184, 0, 117, 153, 0, 15, 28, 133, 9, 20, 0, 121, 184, 0, 5, 154, 0, 6, 18, 123, 172, 42]
abbrev dktX0_lane_0 : List UInt8 := dkwX0_lane_0 ++ dktX0_lane_1
theorem dksX0_lane_0 : cX0_lane.data.toList.drop 0 = dktX0_lane_0 := by decide +kernel
theorem dksX0_lane_1 : cX0_lane.data.toList.drop 23 = dktX0_lane_1 := dk_seg dksX0_lane_0 23 rfl rfl
theorem dksX0_lane_2 : cX0_lane.data.toList.drop 38 = dktX0_lane_2 := dk_seg dksX0_lane_1 15 rfl rfl
theorem dksX0_lane_3 : cX0_lane.data.toList.drop 84 = dktX0_lane_3 := dk_seg dksX0_lane_2 46 rfl rfl
theorem dksX0_lane_4 : cX0_lane.data.toList.drop 108 = dktX0_lane_4 := dk_seg dksX0_lane_3 24 rfl rfl
theorem dksX0_lane_5 : cX0_lane.data.toList.drop 131 = dktX0_lane_5 := dk_seg dksX0_lane_4 23 rfl rfl
theorem dksX0_lane_6 : cX0_lane.data.toList.drop 153 = dktX0_lane_6 := dk_seg dksX0_lane_5 22 rfl rfl
theorem dX0_lane_0 : decode cX0_lane 0 = .ok (.iload_n 1, 1) := dk_27 (dk_at dksX0_lane_0 0 rfl rfl)
theorem dX0_lane_1 : decode cX0_lane 1 = .ok (.invokestatic 117, 3) := dk_184 0 117 (dk_at dksX0_lane_0 1 rfl rfl)
theorem dX0_lane_4 : decode cX0_lane 4 = .ok (.ifCond .eq 15, 3) := dk_153 0 15 (dk_at dksX0_lane_0 4 rfl rfl)
theorem dX0_lane_7 : decode cX0_lane 7 = .ok (.iload_n 2, 1) := dk_28 (dk_at dksX0_lane_0 7 rfl rfl)
theorem dX0_lane_8 : decode cX0_lane 8 = .ok (.i2l, 1) := dk_133 (dk_at dksX0_lane_0 8 rfl rfl)
theorem dX0_lane_9 : decode cX0_lane 9 = .ok (.lconst 0, 1) := dk_9 (dk_at dksX0_lane_0 9 rfl rfl)
theorem dX0_lane_10 : decode cX0_lane 10 = .ok (.ldc2_w 121, 3) := dk_20 0 121 (dk_at dksX0_lane_0 10 rfl rfl)
theorem dX0_lane_13 : decode cX0_lane 13 = .ok (.invokestatic 5, 3) := dk_184 0 5 (dk_at dksX0_lane_0 13 rfl rfl)
theorem dX0_lane_16 : decode cX0_lane 16 = .ok (.ifCond .ne 6, 3) := dk_154 0 6 (dk_at dksX0_lane_0 16 rfl rfl)
theorem dX0_lane_19 : decode cX0_lane 19 = .ok (.ldc 123, 2) := dk_18 123 (dk_at dksX0_lane_0 19 rfl rfl)
theorem dX0_lane_21 : decode cX0_lane 21 = .ok (.ireturn, 1) := dk_172 (dk_at dksX0_lane_0 21 rfl rfl)
theorem dX0_lane_22 : decode cX0_lane 22 = .ok (.aload_n 0, 1) := dk_42 (dk_at dksX0_lane_0 22 rfl rfl)
theorem dX0_lane_23 : decode cX0_lane 23 = .ok (.getfield 29, 3) := dk_180 0 29 (dk_at dksX0_lane_1 0 rfl rfl)
theorem dX0_lane_26 : decode cX0_lane 26 = .ok (.getfield 124, 3) := dk_180 0 124 (dk_at dksX0_lane_1 3 rfl rfl)
theorem dX0_lane_29 : decode cX0_lane 29 = .ok (.iload_n 1, 1) := dk_27 (dk_at dksX0_lane_1 6 rfl rfl)
theorem dX0_lane_30 : decode cX0_lane 30 = .ok (.invokevirtual 128, 3) := dk_182 0 128 (dk_at dksX0_lane_1 7 rfl rfl)
theorem dX0_lane_33 : decode cX0_lane 33 = .ok (.checkcast 134, 3) := dk_192 0 134 (dk_at dksX0_lane_1 10 rfl rfl)
theorem dX0_lane_36 : decode cX0_lane 36 = .ok (.astore_n 3, 1) := dk_78 (dk_at dksX0_lane_1 13 rfl rfl)
theorem dX0_lane_37 : decode cX0_lane 37 = .ok (.iload_n 2, 1) := dk_28 (dk_at dksX0_lane_1 14 rfl rfl)
theorem dX0_lane_38 : decode cX0_lane 38 = .ok (.tableswitch 114 0 7 #[46, 54, 59, 64, 69, 83, 100, 109], 46) := by decide +kernel
theorem dX0_lane_84 : decode cX0_lane 84 = .ok (.aload_n 3, 1) := dk_45 (dk_at dksX0_lane_3 0 rfl rfl)
theorem dX0_lane_85 : decode cX0_lane 85 = .ok (.getfield 136, 3) := dk_180 0 136 (dk_at dksX0_lane_3 1 rfl rfl)
theorem dX0_lane_88 : decode cX0_lane 88 = .ok (.invokevirtual 140, 3) := dk_182 0 140 (dk_at dksX0_lane_3 4 rfl rfl)
theorem dX0_lane_91 : decode cX0_lane 91 = .ok (.ireturn, 1) := dk_172 (dk_at dksX0_lane_3 7 rfl rfl)
theorem dX0_lane_92 : decode cX0_lane 92 = .ok (.aload_n 3, 1) := dk_45 (dk_at dksX0_lane_3 8 rfl rfl)
theorem dX0_lane_93 : decode cX0_lane 93 = .ok (.getfield 143, 3) := dk_180 0 143 (dk_at dksX0_lane_3 9 rfl rfl)
theorem dX0_lane_96 : decode cX0_lane 96 = .ok (.ireturn, 1) := dk_172 (dk_at dksX0_lane_3 12 rfl rfl)
theorem dX0_lane_97 : decode cX0_lane 97 = .ok (.aload_n 3, 1) := dk_45 (dk_at dksX0_lane_3 13 rfl rfl)
theorem dX0_lane_98 : decode cX0_lane 98 = .ok (.getfield 146, 3) := dk_180 0 146 (dk_at dksX0_lane_3 14 rfl rfl)
theorem dX0_lane_101 : decode cX0_lane 101 = .ok (.ireturn, 1) := dk_172 (dk_at dksX0_lane_3 17 rfl rfl)
theorem dX0_lane_102 : decode cX0_lane 102 = .ok (.aload_n 3, 1) := dk_45 (dk_at dksX0_lane_3 18 rfl rfl)
theorem dX0_lane_103 : decode cX0_lane 103 = .ok (.getfield 149, 3) := dk_180 0 149 (dk_at dksX0_lane_3 19 rfl rfl)
theorem dX0_lane_106 : decode cX0_lane 106 = .ok (.ireturn, 1) := dk_172 (dk_at dksX0_lane_3 22 rfl rfl)
theorem dX0_lane_107 : decode cX0_lane 107 = .ok (.aload_n 3, 1) := dk_45 (dk_at dksX0_lane_3 23 rfl rfl)
theorem dX0_lane_108 : decode cX0_lane 108 = .ok (.aload_n 0, 1) := dk_42 (dk_at dksX0_lane_4 0 rfl rfl)
theorem dX0_lane_109 : decode cX0_lane 109 = .ok (.getfield 29, 3) := dk_180 0 29 (dk_at dksX0_lane_4 1 rfl rfl)
theorem dX0_lane_112 : decode cX0_lane 112 = .ok (.getfield 108, 3) := dk_180 0 108 (dk_at dksX0_lane_4 4 rfl rfl)
theorem dX0_lane_115 : decode cX0_lane 115 = .ok (.iconst 0, 1) := dk_3 (dk_at dksX0_lane_4 7 rfl rfl)
theorem dX0_lane_116 : decode cX0_lane 116 = .ok (.iaload, 1) := dk_46 (dk_at dksX0_lane_4 8 rfl rfl)
theorem dX0_lane_117 : decode cX0_lane 117 = .ok (.invokevirtual 152, 3) := dk_182 0 152 (dk_at dksX0_lane_4 9 rfl rfl)
theorem dX0_lane_120 : decode cX0_lane 120 = .ok (.ireturn, 1) := dk_172 (dk_at dksX0_lane_4 12 rfl rfl)
theorem dX0_lane_121 : decode cX0_lane 121 = .ok (.aload_n 3, 1) := dk_45 (dk_at dksX0_lane_4 13 rfl rfl)
theorem dX0_lane_122 : decode cX0_lane 122 = .ok (.aload_n 0, 1) := dk_42 (dk_at dksX0_lane_4 14 rfl rfl)
theorem dX0_lane_123 : decode cX0_lane 123 = .ok (.getfield 29, 3) := dk_180 0 29 (dk_at dksX0_lane_4 15 rfl rfl)
theorem dX0_lane_126 : decode cX0_lane 126 = .ok (.getfield 108, 3) := dk_180 0 108 (dk_at dksX0_lane_4 18 rfl rfl)
theorem dX0_lane_129 : decode cX0_lane 129 = .ok (.iconst 0, 1) := dk_3 (dk_at dksX0_lane_4 21 rfl rfl)
theorem dX0_lane_130 : decode cX0_lane 130 = .ok (.iaload, 1) := dk_46 (dk_at dksX0_lane_4 22 rfl rfl)
theorem dX0_lane_131 : decode cX0_lane 131 = .ok (.invokevirtual 152, 3) := dk_182 0 152 (dk_at dksX0_lane_5 0 rfl rfl)
theorem dX0_lane_134 : decode cX0_lane 134 = .ok (.invokestatic 155, 3) := dk_184 0 155 (dk_at dksX0_lane_5 3 rfl rfl)
theorem dX0_lane_137 : decode cX0_lane 137 = .ok (.ireturn, 1) := dk_172 (dk_at dksX0_lane_5 6 rfl rfl)
theorem dX0_lane_138 : decode cX0_lane 138 = .ok (.aload_n 0, 1) := dk_42 (dk_at dksX0_lane_5 7 rfl rfl)
theorem dX0_lane_139 : decode cX0_lane 139 = .ok (.aload_n 3, 1) := dk_45 (dk_at dksX0_lane_5 8 rfl rfl)
theorem dX0_lane_140 : decode cX0_lane 140 = .ok (.getfield 146, 3) := dk_180 0 146 (dk_at dksX0_lane_5 9 rfl rfl)
theorem dX0_lane_143 : decode cX0_lane 143 = .ok (.invokevirtual 160, 3) := dk_182 0 160 (dk_at dksX0_lane_5 12 rfl rfl)
theorem dX0_lane_146 : decode cX0_lane 146 = .ok (.ireturn, 1) := dk_172 (dk_at dksX0_lane_5 15 rfl rfl)
theorem dX0_lane_147 : decode cX0_lane 147 = .ok (.aload_n 3, 1) := dk_45 (dk_at dksX0_lane_5 16 rfl rfl)
theorem dX0_lane_148 : decode cX0_lane 148 = .ok (.getfield 163, 3) := dk_180 0 163 (dk_at dksX0_lane_5 17 rfl rfl)
theorem dX0_lane_151 : decode cX0_lane 151 = .ok (.ireturn, 1) := dk_172 (dk_at dksX0_lane_5 20 rfl rfl)
theorem dX0_lane_152 : decode cX0_lane 152 = .ok (.aload_n 3, 1) := dk_45 (dk_at dksX0_lane_5 21 rfl rfl)
theorem dX0_lane_153 : decode cX0_lane 153 = .ok (.getfield 166, 3) := dk_180 0 166 (dk_at dksX0_lane_6 0 rfl rfl)
theorem dX0_lane_156 : decode cX0_lane 156 = .ok (.ireturn, 1) := dk_172 (dk_at dksX0_lane_6 3 rfl rfl)
abbrev cX0_byDividing : ByteArray := prog_1_method_19_code
def yX0_byDividing : MethodName := ⟨RX0, "byDividing", "(I)I"⟩
def dkwX0_byDividing_1 : List UInt8 := [180, 0, 29, 180, 0, 108, 3, 46, 16, 8, 28, 108, 184, 0, 112, 172]
abbrev dktX0_byDividing_1 : List UInt8 := dkwX0_byDividing_1 ++ []
def dkwX0_byDividing_0 : List UInt8 := [27, 7, 112, 154, 0, 7, 7, 167, 0, 14, 27, 5, 112, 154, 0, 7, 5, 167, 0, 4, 4, 61, 42]
abbrev dktX0_byDividing_0 : List UInt8 := dkwX0_byDividing_0 ++ dktX0_byDividing_1
theorem dksX0_byDividing_0 : cX0_byDividing.data.toList.drop 0 = dktX0_byDividing_0 := by decide +kernel
theorem dksX0_byDividing_1 : cX0_byDividing.data.toList.drop 23 = dktX0_byDividing_1 := dk_seg dksX0_byDividing_0 23 rfl rfl
theorem dX0_byDividing_0 : decode cX0_byDividing 0 = .ok (.iload_n 1, 1) := dk_27 (dk_at dksX0_byDividing_0 0 rfl rfl)
theorem dX0_byDividing_1 : decode cX0_byDividing 1 = .ok (.iconst 4, 1) := dk_7 (dk_at dksX0_byDividing_0 1 rfl rfl)
theorem dX0_byDividing_2 : decode cX0_byDividing 2 = .ok (.irem, 1) := dk_112 (dk_at dksX0_byDividing_0 2 rfl rfl)
theorem dX0_byDividing_3 : decode cX0_byDividing 3 = .ok (.ifCond .ne 7, 3) := dk_154 0 7 (dk_at dksX0_byDividing_0 3 rfl rfl)
theorem dX0_byDividing_6 : decode cX0_byDividing 6 = .ok (.iconst 4, 1) := dk_7 (dk_at dksX0_byDividing_0 6 rfl rfl)
theorem dX0_byDividing_7 : decode cX0_byDividing 7 = .ok (.goto 14, 3) := dk_167 0 14 (dk_at dksX0_byDividing_0 7 rfl rfl)
theorem dX0_byDividing_10 : decode cX0_byDividing 10 = .ok (.iload_n 1, 1) := dk_27 (dk_at dksX0_byDividing_0 10 rfl rfl)
theorem dX0_byDividing_11 : decode cX0_byDividing 11 = .ok (.iconst 2, 1) := dk_5 (dk_at dksX0_byDividing_0 11 rfl rfl)
theorem dX0_byDividing_12 : decode cX0_byDividing 12 = .ok (.irem, 1) := dk_112 (dk_at dksX0_byDividing_0 12 rfl rfl)
theorem dX0_byDividing_13 : decode cX0_byDividing 13 = .ok (.ifCond .ne 7, 3) := dk_154 0 7 (dk_at dksX0_byDividing_0 13 rfl rfl)
theorem dX0_byDividing_16 : decode cX0_byDividing 16 = .ok (.iconst 2, 1) := dk_5 (dk_at dksX0_byDividing_0 16 rfl rfl)
theorem dX0_byDividing_17 : decode cX0_byDividing 17 = .ok (.goto 4, 3) := dk_167 0 4 (dk_at dksX0_byDividing_0 17 rfl rfl)
theorem dX0_byDividing_20 : decode cX0_byDividing 20 = .ok (.iconst 1, 1) := dk_4 (dk_at dksX0_byDividing_0 20 rfl rfl)
theorem dX0_byDividing_21 : decode cX0_byDividing 21 = .ok (.istore_n 2, 1) := dk_61 (dk_at dksX0_byDividing_0 21 rfl rfl)
theorem dX0_byDividing_22 : decode cX0_byDividing 22 = .ok (.aload_n 0, 1) := dk_42 (dk_at dksX0_byDividing_0 22 rfl rfl)
theorem dX0_byDividing_23 : decode cX0_byDividing 23 = .ok (.getfield 29, 3) := dk_180 0 29 (dk_at dksX0_byDividing_1 0 rfl rfl)
theorem dX0_byDividing_26 : decode cX0_byDividing 26 = .ok (.getfield 108, 3) := dk_180 0 108 (dk_at dksX0_byDividing_1 3 rfl rfl)
theorem dX0_byDividing_29 : decode cX0_byDividing 29 = .ok (.iconst 0, 1) := dk_3 (dk_at dksX0_byDividing_1 6 rfl rfl)
theorem dX0_byDividing_30 : decode cX0_byDividing 30 = .ok (.iaload, 1) := dk_46 (dk_at dksX0_byDividing_1 7 rfl rfl)
theorem dX0_byDividing_31 : decode cX0_byDividing 31 = .ok (.bipush 8, 2) := dk_16 8 (dk_at dksX0_byDividing_1 8 rfl rfl)
theorem dX0_byDividing_33 : decode cX0_byDividing 33 = .ok (.iload_n 2, 1) := dk_28 (dk_at dksX0_byDividing_1 10 rfl rfl)
theorem dX0_byDividing_34 : decode cX0_byDividing 34 = .ok (.idiv, 1) := dk_108 (dk_at dksX0_byDividing_1 11 rfl rfl)
theorem dX0_byDividing_35 : decode cX0_byDividing 35 = .ok (.invokestatic 112, 3) := dk_184 0 112 (dk_at dksX0_byDividing_1 12 rfl rfl)
theorem dX0_byDividing_38 : decode cX0_byDividing 38 = .ok (.ireturn, 1) := dk_172 (dk_at dksX0_byDividing_1 15 rfl rfl)
abbrev cX0_eggOf : ByteArray := prog_1_method_21_code
def yX0_eggOf : MethodName := ⟨RX0, "eggOf", "(III)I"⟩
def dkwX0_eggOf_5 : List UInt8 := [25, 5, 182, 0, 181, 25, 5, 180, 0, 185, 184, 0, 188, 172, 25, 5, 180, 0, 192, 172]
abbrev dktX0_eggOf_5 : List UInt8 := dkwX0_eggOf_5 ++ []
def dkwX0_eggOf_4 : List UInt8 := [25, 5, 180, 0, 170, 172, 25, 5, 180, 0, 173, 172, 25, 5, 180, 0, 176, 172, 25, 5, 180, 0, 178, 172]
abbrev dktX0_eggOf_4 : List UInt8 := dkwX0_eggOf_4 ++ dktX0_eggOf_5
def dkwX0_eggOf_3 : List UInt8 := [170, 0, 0, 0, 0, 0, 73, 0, 0, 0, 0, 0, 0, 0, 4, 0, 0, 0, 35, 0, 0, 0, 41, 0, 0, 0, 47, 0, 0, 0, 53, 0, 0, 0, 59]
abbrev dktX0_eggOf_3 : List UInt8 := dkwX0_eggOf_3 ++ dktX0_eggOf_4
def dkwX0_eggOf_2 : List UInt8 := [25, 4, 182, 0, 140, 161, 0, 6, 18, 107, 172, 25, 4, 28, 182, 0, 169, 192, 0, 59, 58, 5, 29]
abbrev dktX0_eggOf_2 : List UInt8 := dkwX0_eggOf_2 ++ dktX0_eggOf_3
def dkwX0_eggOf_1 : List UInt8 := [18, 123, 172, 42, 180, 0, 29, 180, 0, 124, 27, 182, 0, 128, 192, 0, 134, 180, 0, 136, 58, 4, 28]
abbrev dktX0_eggOf_1 : List UInt8 := dkwX0_eggOf_1 ++ dktX0_eggOf_2
def dkwX0_eggOf_0 : List UInt8 := [27, 184, 0, 117, 153, 0, 19, 28, 155, 0, 15, 29, 133, 9, 20, 0, 9, 184, 0, 5, 154, 0, 6]
abbrev dktX0_eggOf_0 : List UInt8 := dkwX0_eggOf_0 ++ dktX0_eggOf_1
theorem dksX0_eggOf_0 : cX0_eggOf.data.toList.drop 0 = dktX0_eggOf_0 := by decide +kernel
theorem dksX0_eggOf_1 : cX0_eggOf.data.toList.drop 23 = dktX0_eggOf_1 := dk_seg dksX0_eggOf_0 23 rfl rfl
theorem dksX0_eggOf_2 : cX0_eggOf.data.toList.drop 46 = dktX0_eggOf_2 := dk_seg dksX0_eggOf_1 23 rfl rfl
theorem dksX0_eggOf_3 : cX0_eggOf.data.toList.drop 69 = dktX0_eggOf_3 := dk_seg dksX0_eggOf_2 23 rfl rfl
theorem dksX0_eggOf_4 : cX0_eggOf.data.toList.drop 104 = dktX0_eggOf_4 := dk_seg dksX0_eggOf_3 35 rfl rfl
theorem dksX0_eggOf_5 : cX0_eggOf.data.toList.drop 128 = dktX0_eggOf_5 := dk_seg dksX0_eggOf_4 24 rfl rfl
theorem dX0_eggOf_0 : decode cX0_eggOf 0 = .ok (.iload_n 1, 1) := dk_27 (dk_at dksX0_eggOf_0 0 rfl rfl)
theorem dX0_eggOf_1 : decode cX0_eggOf 1 = .ok (.invokestatic 117, 3) := dk_184 0 117 (dk_at dksX0_eggOf_0 1 rfl rfl)
theorem dX0_eggOf_4 : decode cX0_eggOf 4 = .ok (.ifCond .eq 19, 3) := dk_153 0 19 (dk_at dksX0_eggOf_0 4 rfl rfl)
theorem dX0_eggOf_7 : decode cX0_eggOf 7 = .ok (.iload_n 2, 1) := dk_28 (dk_at dksX0_eggOf_0 7 rfl rfl)
theorem dX0_eggOf_8 : decode cX0_eggOf 8 = .ok (.ifCond .lt 15, 3) := dk_155 0 15 (dk_at dksX0_eggOf_0 8 rfl rfl)
theorem dX0_eggOf_11 : decode cX0_eggOf 11 = .ok (.iload_n 3, 1) := dk_29 (dk_at dksX0_eggOf_0 11 rfl rfl)
theorem dX0_eggOf_12 : decode cX0_eggOf 12 = .ok (.i2l, 1) := dk_133 (dk_at dksX0_eggOf_0 12 rfl rfl)
theorem dX0_eggOf_13 : decode cX0_eggOf 13 = .ok (.lconst 0, 1) := dk_9 (dk_at dksX0_eggOf_0 13 rfl rfl)
theorem dX0_eggOf_14 : decode cX0_eggOf 14 = .ok (.ldc2_w 9, 3) := dk_20 0 9 (dk_at dksX0_eggOf_0 14 rfl rfl)
theorem dX0_eggOf_17 : decode cX0_eggOf 17 = .ok (.invokestatic 5, 3) := dk_184 0 5 (dk_at dksX0_eggOf_0 17 rfl rfl)
theorem dX0_eggOf_20 : decode cX0_eggOf 20 = .ok (.ifCond .ne 6, 3) := dk_154 0 6 (dk_at dksX0_eggOf_0 20 rfl rfl)
theorem dX0_eggOf_23 : decode cX0_eggOf 23 = .ok (.ldc 123, 2) := dk_18 123 (dk_at dksX0_eggOf_1 0 rfl rfl)
theorem dX0_eggOf_25 : decode cX0_eggOf 25 = .ok (.ireturn, 1) := dk_172 (dk_at dksX0_eggOf_1 2 rfl rfl)
theorem dX0_eggOf_26 : decode cX0_eggOf 26 = .ok (.aload_n 0, 1) := dk_42 (dk_at dksX0_eggOf_1 3 rfl rfl)
theorem dX0_eggOf_27 : decode cX0_eggOf 27 = .ok (.getfield 29, 3) := dk_180 0 29 (dk_at dksX0_eggOf_1 4 rfl rfl)
theorem dX0_eggOf_30 : decode cX0_eggOf 30 = .ok (.getfield 124, 3) := dk_180 0 124 (dk_at dksX0_eggOf_1 7 rfl rfl)
theorem dX0_eggOf_33 : decode cX0_eggOf 33 = .ok (.iload_n 1, 1) := dk_27 (dk_at dksX0_eggOf_1 10 rfl rfl)
theorem dX0_eggOf_34 : decode cX0_eggOf 34 = .ok (.invokevirtual 128, 3) := dk_182 0 128 (dk_at dksX0_eggOf_1 11 rfl rfl)
theorem dX0_eggOf_37 : decode cX0_eggOf 37 = .ok (.checkcast 134, 3) := dk_192 0 134 (dk_at dksX0_eggOf_1 14 rfl rfl)
theorem dX0_eggOf_40 : decode cX0_eggOf 40 = .ok (.getfield 136, 3) := dk_180 0 136 (dk_at dksX0_eggOf_1 17 rfl rfl)
theorem dX0_eggOf_43 : decode cX0_eggOf 43 = .ok (.astore 4, 2) := dk_58 4 (dk_at dksX0_eggOf_1 20 rfl rfl)
theorem dX0_eggOf_45 : decode cX0_eggOf 45 = .ok (.iload_n 2, 1) := dk_28 (dk_at dksX0_eggOf_1 22 rfl rfl)
theorem dX0_eggOf_46 : decode cX0_eggOf 46 = .ok (.aload 4, 2) := dk_25 4 (dk_at dksX0_eggOf_2 0 rfl rfl)
theorem dX0_eggOf_48 : decode cX0_eggOf 48 = .ok (.invokevirtual 140, 3) := dk_182 0 140 (dk_at dksX0_eggOf_2 2 rfl rfl)
theorem dX0_eggOf_51 : decode cX0_eggOf 51 = .ok (.if_icmp .lt 6, 3) := dk_161 0 6 (dk_at dksX0_eggOf_2 5 rfl rfl)
theorem dX0_eggOf_54 : decode cX0_eggOf 54 = .ok (.ldc 107, 2) := dk_18 107 (dk_at dksX0_eggOf_2 8 rfl rfl)
theorem dX0_eggOf_56 : decode cX0_eggOf 56 = .ok (.ireturn, 1) := dk_172 (dk_at dksX0_eggOf_2 10 rfl rfl)
theorem dX0_eggOf_57 : decode cX0_eggOf 57 = .ok (.aload 4, 2) := dk_25 4 (dk_at dksX0_eggOf_2 11 rfl rfl)
theorem dX0_eggOf_59 : decode cX0_eggOf 59 = .ok (.iload_n 2, 1) := dk_28 (dk_at dksX0_eggOf_2 13 rfl rfl)
theorem dX0_eggOf_60 : decode cX0_eggOf 60 = .ok (.invokevirtual 169, 3) := dk_182 0 169 (dk_at dksX0_eggOf_2 14 rfl rfl)
theorem dX0_eggOf_63 : decode cX0_eggOf 63 = .ok (.checkcast 59, 3) := dk_192 0 59 (dk_at dksX0_eggOf_2 17 rfl rfl)
theorem dX0_eggOf_66 : decode cX0_eggOf 66 = .ok (.astore 5, 2) := dk_58 5 (dk_at dksX0_eggOf_2 20 rfl rfl)
theorem dX0_eggOf_68 : decode cX0_eggOf 68 = .ok (.iload_n 3, 1) := dk_29 (dk_at dksX0_eggOf_2 22 rfl rfl)
theorem dX0_eggOf_69 : decode cX0_eggOf 69 = .ok (.tableswitch 73 0 4 #[35, 41, 47, 53, 59], 35) := by decide +kernel
theorem dX0_eggOf_104 : decode cX0_eggOf 104 = .ok (.aload 5, 2) := dk_25 5 (dk_at dksX0_eggOf_4 0 rfl rfl)
theorem dX0_eggOf_106 : decode cX0_eggOf 106 = .ok (.getfield 170, 3) := dk_180 0 170 (dk_at dksX0_eggOf_4 2 rfl rfl)
theorem dX0_eggOf_109 : decode cX0_eggOf 109 = .ok (.ireturn, 1) := dk_172 (dk_at dksX0_eggOf_4 5 rfl rfl)
theorem dX0_eggOf_110 : decode cX0_eggOf 110 = .ok (.aload 5, 2) := dk_25 5 (dk_at dksX0_eggOf_4 6 rfl rfl)
theorem dX0_eggOf_112 : decode cX0_eggOf 112 = .ok (.getfield 173, 3) := dk_180 0 173 (dk_at dksX0_eggOf_4 8 rfl rfl)
theorem dX0_eggOf_115 : decode cX0_eggOf 115 = .ok (.ireturn, 1) := dk_172 (dk_at dksX0_eggOf_4 11 rfl rfl)
theorem dX0_eggOf_116 : decode cX0_eggOf 116 = .ok (.aload 5, 2) := dk_25 5 (dk_at dksX0_eggOf_4 12 rfl rfl)
theorem dX0_eggOf_118 : decode cX0_eggOf 118 = .ok (.getfield 176, 3) := dk_180 0 176 (dk_at dksX0_eggOf_4 14 rfl rfl)
theorem dX0_eggOf_121 : decode cX0_eggOf 121 = .ok (.ireturn, 1) := dk_172 (dk_at dksX0_eggOf_4 17 rfl rfl)
theorem dX0_eggOf_122 : decode cX0_eggOf 122 = .ok (.aload 5, 2) := dk_25 5 (dk_at dksX0_eggOf_4 18 rfl rfl)
theorem dX0_eggOf_124 : decode cX0_eggOf 124 = .ok (.getfield 178, 3) := dk_180 0 178 (dk_at dksX0_eggOf_4 20 rfl rfl)
theorem dX0_eggOf_127 : decode cX0_eggOf 127 = .ok (.ireturn, 1) := dk_172 (dk_at dksX0_eggOf_4 23 rfl rfl)
theorem dX0_eggOf_128 : decode cX0_eggOf 128 = .ok (.aload 5, 2) := dk_25 5 (dk_at dksX0_eggOf_5 0 rfl rfl)
theorem dX0_eggOf_130 : decode cX0_eggOf 130 = .ok (.invokevirtual 181, 3) := dk_182 0 181 (dk_at dksX0_eggOf_5 2 rfl rfl)
theorem dX0_eggOf_133 : decode cX0_eggOf 133 = .ok (.aload 5, 2) := dk_25 5 (dk_at dksX0_eggOf_5 5 rfl rfl)
theorem dX0_eggOf_135 : decode cX0_eggOf 135 = .ok (.getfield 185, 3) := dk_180 0 185 (dk_at dksX0_eggOf_5 7 rfl rfl)
theorem dX0_eggOf_138 : decode cX0_eggOf 138 = .ok (.invokestatic 188, 3) := dk_184 0 188 (dk_at dksX0_eggOf_5 10 rfl rfl)
theorem dX0_eggOf_141 : decode cX0_eggOf 141 = .ok (.ireturn, 1) := dk_172 (dk_at dksX0_eggOf_5 13 rfl rfl)
theorem dX0_eggOf_142 : decode cX0_eggOf 142 = .ok (.aload 5, 2) := dk_25 5 (dk_at dksX0_eggOf_5 14 rfl rfl)
theorem dX0_eggOf_144 : decode cX0_eggOf 144 = .ok (.getfield 192, 3) := dk_180 0 192 (dk_at dksX0_eggOf_5 16 rfl rfl)
theorem dX0_eggOf_147 : decode cX0_eggOf 147 = .ok (.ireturn, 1) := dk_172 (dk_at dksX0_eggOf_5 19 rfl rfl)
abbrev cX0_orNotFound : ByteArray := prog_1_method_18_code
def yX0_orNotFound : MethodName := ⟨RX0, "orNotFound", "(ZI)I"⟩
def dkwX0_orNotFound_0 : List UInt8 := [26, 153, 0, 7, 27, 167, 0, 5, 18, 107, 172]
abbrev dktX0_orNotFound_0 : List UInt8 := dkwX0_orNotFound_0 ++ []
theorem dksX0_orNotFound_0 : cX0_orNotFound.data.toList.drop 0 = dktX0_orNotFound_0 := by decide +kernel
theorem dX0_orNotFound_0 : decode cX0_orNotFound 0 = .ok (.iload_n 0, 1) := dk_26 (dk_at dksX0_orNotFound_0 0 rfl rfl)
theorem dX0_orNotFound_1 : decode cX0_orNotFound 1 = .ok (.ifCond .eq 7, 3) := dk_153 0 7 (dk_at dksX0_orNotFound_0 1 rfl rfl)
theorem dX0_orNotFound_4 : decode cX0_orNotFound 4 = .ok (.iload_n 1, 1) := dk_27 (dk_at dksX0_orNotFound_0 4 rfl rfl)
theorem dX0_orNotFound_5 : decode cX0_orNotFound 5 = .ok (.goto 5, 3) := dk_167 0 5 (dk_at dksX0_orNotFound_0 5 rfl rfl)
theorem dX0_orNotFound_8 : decode cX0_orNotFound 8 = .ok (.ldc 107, 2) := dk_18 107 (dk_at dksX0_orNotFound_0 8 rfl rfl)
theorem dX0_orNotFound_10 : decode cX0_orNotFound 10 = .ok (.ireturn, 1) := dk_172 (dk_at dksX0_orNotFound_0 10 rfl rfl)
abbrev cX0_crate : ByteArray := prog_1_method_22_code
def yX0_crate : MethodName := ⟨RX0, "crate", "(II)I"⟩
def dkwX0_crate_4 : List UInt8 := [172, 45, 180, 0, 216, 172]
abbrev dktX0_crate_4 : List UInt8 := dkwX0_crate_4 ++ []
def dkwX0_crate_3 : List UInt8 := [45, 180, 0, 203, 172, 45, 180, 0, 206, 172, 45, 180, 0, 209, 172, 45, 180, 0, 212, 172, 27, 184, 0, 213]
abbrev dktX0_crate_3 : List UInt8 := dkwX0_crate_3 ++ dktX0_crate_4
def dkwX0_crate_2 : List UInt8 := [170, 0, 0, 0, 0, 59, 0, 0, 0, 0, 0, 0, 0, 4, 0, 0, 0, 34, 0, 0, 0, 39, 0, 0, 0, 44, 0, 0, 0, 49, 0, 0, 0, 54]
abbrev dktX0_crate_2 : List UInt8 := dkwX0_crate_2 ++ dktX0_crate_3
def dkwX0_crate_1 : List UInt8 := [180, 0, 29, 180, 0, 198, 27, 182, 0, 128, 192, 0, 201, 78, 28]
abbrev dktX0_crate_1 : List UInt8 := dkwX0_crate_1 ++ dktX0_crate_2
def dkwX0_crate_0 : List UInt8 := [27, 184, 0, 195, 153, 0, 15, 28, 133, 9, 20, 0, 9, 184, 0, 5, 154, 0, 6, 18, 123, 172, 42]
abbrev dktX0_crate_0 : List UInt8 := dkwX0_crate_0 ++ dktX0_crate_1
theorem dksX0_crate_0 : cX0_crate.data.toList.drop 0 = dktX0_crate_0 := by decide +kernel
theorem dksX0_crate_1 : cX0_crate.data.toList.drop 23 = dktX0_crate_1 := dk_seg dksX0_crate_0 23 rfl rfl
theorem dksX0_crate_2 : cX0_crate.data.toList.drop 38 = dktX0_crate_2 := dk_seg dksX0_crate_1 15 rfl rfl
theorem dksX0_crate_3 : cX0_crate.data.toList.drop 72 = dktX0_crate_3 := dk_seg dksX0_crate_2 34 rfl rfl
theorem dksX0_crate_4 : cX0_crate.data.toList.drop 96 = dktX0_crate_4 := dk_seg dksX0_crate_3 24 rfl rfl
theorem dX0_crate_0 : decode cX0_crate 0 = .ok (.iload_n 1, 1) := dk_27 (dk_at dksX0_crate_0 0 rfl rfl)
theorem dX0_crate_1 : decode cX0_crate 1 = .ok (.invokestatic 195, 3) := dk_184 0 195 (dk_at dksX0_crate_0 1 rfl rfl)
theorem dX0_crate_4 : decode cX0_crate 4 = .ok (.ifCond .eq 15, 3) := dk_153 0 15 (dk_at dksX0_crate_0 4 rfl rfl)
theorem dX0_crate_7 : decode cX0_crate 7 = .ok (.iload_n 2, 1) := dk_28 (dk_at dksX0_crate_0 7 rfl rfl)
theorem dX0_crate_8 : decode cX0_crate 8 = .ok (.i2l, 1) := dk_133 (dk_at dksX0_crate_0 8 rfl rfl)
theorem dX0_crate_9 : decode cX0_crate 9 = .ok (.lconst 0, 1) := dk_9 (dk_at dksX0_crate_0 9 rfl rfl)
theorem dX0_crate_10 : decode cX0_crate 10 = .ok (.ldc2_w 9, 3) := dk_20 0 9 (dk_at dksX0_crate_0 10 rfl rfl)
theorem dX0_crate_13 : decode cX0_crate 13 = .ok (.invokestatic 5, 3) := dk_184 0 5 (dk_at dksX0_crate_0 13 rfl rfl)
theorem dX0_crate_16 : decode cX0_crate 16 = .ok (.ifCond .ne 6, 3) := dk_154 0 6 (dk_at dksX0_crate_0 16 rfl rfl)
theorem dX0_crate_19 : decode cX0_crate 19 = .ok (.ldc 123, 2) := dk_18 123 (dk_at dksX0_crate_0 19 rfl rfl)
theorem dX0_crate_21 : decode cX0_crate 21 = .ok (.ireturn, 1) := dk_172 (dk_at dksX0_crate_0 21 rfl rfl)
theorem dX0_crate_22 : decode cX0_crate 22 = .ok (.aload_n 0, 1) := dk_42 (dk_at dksX0_crate_0 22 rfl rfl)
theorem dX0_crate_23 : decode cX0_crate 23 = .ok (.getfield 29, 3) := dk_180 0 29 (dk_at dksX0_crate_1 0 rfl rfl)
theorem dX0_crate_26 : decode cX0_crate 26 = .ok (.getfield 198, 3) := dk_180 0 198 (dk_at dksX0_crate_1 3 rfl rfl)
theorem dX0_crate_29 : decode cX0_crate 29 = .ok (.iload_n 1, 1) := dk_27 (dk_at dksX0_crate_1 6 rfl rfl)
theorem dX0_crate_30 : decode cX0_crate 30 = .ok (.invokevirtual 128, 3) := dk_182 0 128 (dk_at dksX0_crate_1 7 rfl rfl)
theorem dX0_crate_33 : decode cX0_crate 33 = .ok (.checkcast 201, 3) := dk_192 0 201 (dk_at dksX0_crate_1 10 rfl rfl)
theorem dX0_crate_36 : decode cX0_crate 36 = .ok (.astore_n 3, 1) := dk_78 (dk_at dksX0_crate_1 13 rfl rfl)
theorem dX0_crate_37 : decode cX0_crate 37 = .ok (.iload_n 2, 1) := dk_28 (dk_at dksX0_crate_1 14 rfl rfl)
theorem dX0_crate_38 : decode cX0_crate 38 = .ok (.tableswitch 59 0 4 #[34, 39, 44, 49, 54], 34) := by decide +kernel
theorem dX0_crate_72 : decode cX0_crate 72 = .ok (.aload_n 3, 1) := dk_45 (dk_at dksX0_crate_3 0 rfl rfl)
theorem dX0_crate_73 : decode cX0_crate 73 = .ok (.getfield 203, 3) := dk_180 0 203 (dk_at dksX0_crate_3 1 rfl rfl)
theorem dX0_crate_76 : decode cX0_crate 76 = .ok (.ireturn, 1) := dk_172 (dk_at dksX0_crate_3 4 rfl rfl)
theorem dX0_crate_77 : decode cX0_crate 77 = .ok (.aload_n 3, 1) := dk_45 (dk_at dksX0_crate_3 5 rfl rfl)
theorem dX0_crate_78 : decode cX0_crate 78 = .ok (.getfield 206, 3) := dk_180 0 206 (dk_at dksX0_crate_3 6 rfl rfl)
theorem dX0_crate_81 : decode cX0_crate 81 = .ok (.ireturn, 1) := dk_172 (dk_at dksX0_crate_3 9 rfl rfl)
theorem dX0_crate_82 : decode cX0_crate 82 = .ok (.aload_n 3, 1) := dk_45 (dk_at dksX0_crate_3 10 rfl rfl)
theorem dX0_crate_83 : decode cX0_crate 83 = .ok (.getfield 209, 3) := dk_180 0 209 (dk_at dksX0_crate_3 11 rfl rfl)
theorem dX0_crate_86 : decode cX0_crate 86 = .ok (.ireturn, 1) := dk_172 (dk_at dksX0_crate_3 14 rfl rfl)
theorem dX0_crate_87 : decode cX0_crate 87 = .ok (.aload_n 3, 1) := dk_45 (dk_at dksX0_crate_3 15 rfl rfl)
theorem dX0_crate_88 : decode cX0_crate 88 = .ok (.getfield 212, 3) := dk_180 0 212 (dk_at dksX0_crate_3 16 rfl rfl)
theorem dX0_crate_91 : decode cX0_crate 91 = .ok (.ireturn, 1) := dk_172 (dk_at dksX0_crate_3 19 rfl rfl)
theorem dX0_crate_92 : decode cX0_crate 92 = .ok (.iload_n 1, 1) := dk_27 (dk_at dksX0_crate_3 20 rfl rfl)
theorem dX0_crate_93 : decode cX0_crate 93 = .ok (.invokestatic 213, 3) := dk_184 0 213 (dk_at dksX0_crate_3 21 rfl rfl)
theorem dX0_crate_96 : decode cX0_crate 96 = .ok (.ireturn, 1) := dk_172 (dk_at dksX0_crate_4 0 rfl rfl)
theorem dX0_crate_97 : decode cX0_crate 97 = .ok (.aload_n 3, 1) := dk_45 (dk_at dksX0_crate_4 1 rfl rfl)
theorem dX0_crate_98 : decode cX0_crate 98 = .ok (.getfield 216, 3) := dk_180 0 216 (dk_at dksX0_crate_4 2 rfl rfl)
theorem dX0_crate_101 : decode cX0_crate 101 = .ok (.ireturn, 1) := dk_172 (dk_at dksX0_crate_4 5 rfl rfl)
abbrev cX0_isGrade : ByteArray := prog_1_method_3_code
def yX0_isGrade : MethodName := ⟨RX0, "isGrade", "(I)Z"⟩
def dkwX0_isGrade_0 : List UInt8 := [26, 133, 9, 20, 0, 9, 184, 0, 5, 172]
abbrev dktX0_isGrade_0 : List UInt8 := dkwX0_isGrade_0 ++ []
theorem dksX0_isGrade_0 : cX0_isGrade.data.toList.drop 0 = dktX0_isGrade_0 := by decide +kernel
theorem dX0_isGrade_0 : decode cX0_isGrade 0 = .ok (.iload_n 0, 1) := dk_26 (dk_at dksX0_isGrade_0 0 rfl rfl)
theorem dX0_isGrade_1 : decode cX0_isGrade 1 = .ok (.i2l, 1) := dk_133 (dk_at dksX0_isGrade_0 1 rfl rfl)
theorem dX0_isGrade_2 : decode cX0_isGrade 2 = .ok (.lconst 0, 1) := dk_9 (dk_at dksX0_isGrade_0 2 rfl rfl)
theorem dX0_isGrade_3 : decode cX0_isGrade 3 = .ok (.ldc2_w 9, 3) := dk_20 0 9 (dk_at dksX0_isGrade_0 3 rfl rfl)
theorem dX0_isGrade_6 : decode cX0_isGrade 6 = .ok (.invokestatic 5, 3) := dk_184 0 5 (dk_at dksX0_isGrade_0 6 rfl rfl)
theorem dX0_isGrade_9 : decode cX0_isGrade 9 = .ok (.ireturn, 1) := dk_172 (dk_at dksX0_isGrade_0 9 rfl rfl)
abbrev cX0_book : ByteArray := prog_1_method_23_code
def yX0_book : MethodName := ⟨RX0, "book", "(II)I"⟩
def dkwX0_book_4 : List UInt8 := [167, 0, 15, 45, 180, 0, 236, 153, 0, 7, 4, 167, 0, 4, 3, 172]
abbrev dktX0_book_4 : List UInt8 := dkwX0_book_4 ++ []
def dkwX0_book_3 : List UInt8 := [167, 0, 39, 28, 5, 160, 0, 10, 45, 180, 0, 232, 167, 0, 27, 28, 6, 160, 0, 10, 45, 180, 0, 233]
abbrev dktX0_book_3 : List UInt8 := dkwX0_book_3 ++ dktX0_book_4
def dkwX0_book_2 : List UInt8 := [192, 0, 224, 78, 28, 154, 0, 10, 45, 180, 0, 226, 167, 0, 51, 28, 4, 160, 0, 10, 45, 180, 0, 229]
abbrev dktX0_book_2 : List UInt8 := dkwX0_book_2 ++ dktX0_book_3
def dkwX0_book_1 : List UInt8 := [180, 0, 221, 182, 0, 140, 161, 0, 6, 18, 107, 172, 42, 180, 0, 29, 180, 0, 221, 27, 182, 0, 169]
abbrev dktX0_book_1 : List UInt8 := dkwX0_book_1 ++ dktX0_book_2
def dkwX0_book_0 : List UInt8 := [27, 155, 0, 15, 28, 133, 9, 20, 0, 219, 184, 0, 5, 154, 0, 6, 18, 123, 172, 27, 42, 180, 0, 29]
abbrev dktX0_book_0 : List UInt8 := dkwX0_book_0 ++ dktX0_book_1
theorem dksX0_book_0 : cX0_book.data.toList.drop 0 = dktX0_book_0 := by decide +kernel
theorem dksX0_book_1 : cX0_book.data.toList.drop 24 = dktX0_book_1 := dk_seg dksX0_book_0 24 rfl rfl
theorem dksX0_book_2 : cX0_book.data.toList.drop 47 = dktX0_book_2 := dk_seg dksX0_book_1 23 rfl rfl
theorem dksX0_book_3 : cX0_book.data.toList.drop 71 = dktX0_book_3 := dk_seg dksX0_book_2 24 rfl rfl
theorem dksX0_book_4 : cX0_book.data.toList.drop 95 = dktX0_book_4 := dk_seg dksX0_book_3 24 rfl rfl
theorem dX0_book_0 : decode cX0_book 0 = .ok (.iload_n 1, 1) := dk_27 (dk_at dksX0_book_0 0 rfl rfl)
theorem dX0_book_1 : decode cX0_book 1 = .ok (.ifCond .lt 15, 3) := dk_155 0 15 (dk_at dksX0_book_0 1 rfl rfl)
theorem dX0_book_4 : decode cX0_book 4 = .ok (.iload_n 2, 1) := dk_28 (dk_at dksX0_book_0 4 rfl rfl)
theorem dX0_book_5 : decode cX0_book 5 = .ok (.i2l, 1) := dk_133 (dk_at dksX0_book_0 5 rfl rfl)
theorem dX0_book_6 : decode cX0_book 6 = .ok (.lconst 0, 1) := dk_9 (dk_at dksX0_book_0 6 rfl rfl)
theorem dX0_book_7 : decode cX0_book 7 = .ok (.ldc2_w 219, 3) := dk_20 0 219 (dk_at dksX0_book_0 7 rfl rfl)
theorem dX0_book_10 : decode cX0_book 10 = .ok (.invokestatic 5, 3) := dk_184 0 5 (dk_at dksX0_book_0 10 rfl rfl)
theorem dX0_book_13 : decode cX0_book 13 = .ok (.ifCond .ne 6, 3) := dk_154 0 6 (dk_at dksX0_book_0 13 rfl rfl)
theorem dX0_book_16 : decode cX0_book 16 = .ok (.ldc 123, 2) := dk_18 123 (dk_at dksX0_book_0 16 rfl rfl)
theorem dX0_book_18 : decode cX0_book 18 = .ok (.ireturn, 1) := dk_172 (dk_at dksX0_book_0 18 rfl rfl)
theorem dX0_book_19 : decode cX0_book 19 = .ok (.iload_n 1, 1) := dk_27 (dk_at dksX0_book_0 19 rfl rfl)
theorem dX0_book_20 : decode cX0_book 20 = .ok (.aload_n 0, 1) := dk_42 (dk_at dksX0_book_0 20 rfl rfl)
theorem dX0_book_21 : decode cX0_book 21 = .ok (.getfield 29, 3) := dk_180 0 29 (dk_at dksX0_book_0 21 rfl rfl)
theorem dX0_book_24 : decode cX0_book 24 = .ok (.getfield 221, 3) := dk_180 0 221 (dk_at dksX0_book_1 0 rfl rfl)
theorem dX0_book_27 : decode cX0_book 27 = .ok (.invokevirtual 140, 3) := dk_182 0 140 (dk_at dksX0_book_1 3 rfl rfl)
theorem dX0_book_30 : decode cX0_book 30 = .ok (.if_icmp .lt 6, 3) := dk_161 0 6 (dk_at dksX0_book_1 6 rfl rfl)
theorem dX0_book_33 : decode cX0_book 33 = .ok (.ldc 107, 2) := dk_18 107 (dk_at dksX0_book_1 9 rfl rfl)
theorem dX0_book_35 : decode cX0_book 35 = .ok (.ireturn, 1) := dk_172 (dk_at dksX0_book_1 11 rfl rfl)
theorem dX0_book_36 : decode cX0_book 36 = .ok (.aload_n 0, 1) := dk_42 (dk_at dksX0_book_1 12 rfl rfl)
theorem dX0_book_37 : decode cX0_book 37 = .ok (.getfield 29, 3) := dk_180 0 29 (dk_at dksX0_book_1 13 rfl rfl)
theorem dX0_book_40 : decode cX0_book 40 = .ok (.getfield 221, 3) := dk_180 0 221 (dk_at dksX0_book_1 16 rfl rfl)
theorem dX0_book_43 : decode cX0_book 43 = .ok (.iload_n 1, 1) := dk_27 (dk_at dksX0_book_1 19 rfl rfl)
theorem dX0_book_44 : decode cX0_book 44 = .ok (.invokevirtual 169, 3) := dk_182 0 169 (dk_at dksX0_book_1 20 rfl rfl)
theorem dX0_book_47 : decode cX0_book 47 = .ok (.checkcast 224, 3) := dk_192 0 224 (dk_at dksX0_book_2 0 rfl rfl)
theorem dX0_book_50 : decode cX0_book 50 = .ok (.astore_n 3, 1) := dk_78 (dk_at dksX0_book_2 3 rfl rfl)
theorem dX0_book_51 : decode cX0_book 51 = .ok (.iload_n 2, 1) := dk_28 (dk_at dksX0_book_2 4 rfl rfl)
theorem dX0_book_52 : decode cX0_book 52 = .ok (.ifCond .ne 10, 3) := dk_154 0 10 (dk_at dksX0_book_2 5 rfl rfl)
theorem dX0_book_55 : decode cX0_book 55 = .ok (.aload_n 3, 1) := dk_45 (dk_at dksX0_book_2 8 rfl rfl)
theorem dX0_book_56 : decode cX0_book 56 = .ok (.getfield 226, 3) := dk_180 0 226 (dk_at dksX0_book_2 9 rfl rfl)
theorem dX0_book_59 : decode cX0_book 59 = .ok (.goto 51, 3) := dk_167 0 51 (dk_at dksX0_book_2 12 rfl rfl)
theorem dX0_book_62 : decode cX0_book 62 = .ok (.iload_n 2, 1) := dk_28 (dk_at dksX0_book_2 15 rfl rfl)
theorem dX0_book_63 : decode cX0_book 63 = .ok (.iconst 1, 1) := dk_4 (dk_at dksX0_book_2 16 rfl rfl)
theorem dX0_book_64 : decode cX0_book 64 = .ok (.if_icmp .ne 10, 3) := dk_160 0 10 (dk_at dksX0_book_2 17 rfl rfl)
theorem dX0_book_67 : decode cX0_book 67 = .ok (.aload_n 3, 1) := dk_45 (dk_at dksX0_book_2 20 rfl rfl)
theorem dX0_book_68 : decode cX0_book 68 = .ok (.getfield 229, 3) := dk_180 0 229 (dk_at dksX0_book_2 21 rfl rfl)
theorem dX0_book_71 : decode cX0_book 71 = .ok (.goto 39, 3) := dk_167 0 39 (dk_at dksX0_book_3 0 rfl rfl)
theorem dX0_book_74 : decode cX0_book 74 = .ok (.iload_n 2, 1) := dk_28 (dk_at dksX0_book_3 3 rfl rfl)
theorem dX0_book_75 : decode cX0_book 75 = .ok (.iconst 2, 1) := dk_5 (dk_at dksX0_book_3 4 rfl rfl)
theorem dX0_book_76 : decode cX0_book 76 = .ok (.if_icmp .ne 10, 3) := dk_160 0 10 (dk_at dksX0_book_3 5 rfl rfl)
theorem dX0_book_79 : decode cX0_book 79 = .ok (.aload_n 3, 1) := dk_45 (dk_at dksX0_book_3 8 rfl rfl)
theorem dX0_book_80 : decode cX0_book 80 = .ok (.getfield 232, 3) := dk_180 0 232 (dk_at dksX0_book_3 9 rfl rfl)
theorem dX0_book_83 : decode cX0_book 83 = .ok (.goto 27, 3) := dk_167 0 27 (dk_at dksX0_book_3 12 rfl rfl)
theorem dX0_book_86 : decode cX0_book 86 = .ok (.iload_n 2, 1) := dk_28 (dk_at dksX0_book_3 15 rfl rfl)
theorem dX0_book_87 : decode cX0_book 87 = .ok (.iconst 3, 1) := dk_6 (dk_at dksX0_book_3 16 rfl rfl)
theorem dX0_book_88 : decode cX0_book 88 = .ok (.if_icmp .ne 10, 3) := dk_160 0 10 (dk_at dksX0_book_3 17 rfl rfl)
theorem dX0_book_91 : decode cX0_book 91 = .ok (.aload_n 3, 1) := dk_45 (dk_at dksX0_book_3 20 rfl rfl)
theorem dX0_book_92 : decode cX0_book 92 = .ok (.getfield 233, 3) := dk_180 0 233 (dk_at dksX0_book_3 21 rfl rfl)
theorem dX0_book_95 : decode cX0_book 95 = .ok (.goto 15, 3) := dk_167 0 15 (dk_at dksX0_book_4 0 rfl rfl)
theorem dX0_book_98 : decode cX0_book 98 = .ok (.aload_n 3, 1) := dk_45 (dk_at dksX0_book_4 3 rfl rfl)
theorem dX0_book_99 : decode cX0_book 99 = .ok (.getfield 236, 3) := dk_180 0 236 (dk_at dksX0_book_4 4 rfl rfl)
theorem dX0_book_102 : decode cX0_book 102 = .ok (.ifCond .eq 7, 3) := dk_153 0 7 (dk_at dksX0_book_4 7 rfl rfl)
theorem dX0_book_105 : decode cX0_book 105 = .ok (.iconst 1, 1) := dk_4 (dk_at dksX0_book_4 10 rfl rfl)
theorem dX0_book_106 : decode cX0_book 106 = .ok (.goto 4, 3) := dk_167 0 4 (dk_at dksX0_book_4 11 rfl rfl)
theorem dX0_book_109 : decode cX0_book 109 = .ok (.iconst 0, 1) := dk_3 (dk_at dksX0_book_4 14 rfl rfl)
theorem dX0_book_110 : decode cX0_book 110 = .ok (.ireturn, 1) := dk_172 (dk_at dksX0_book_4 15 rfl rfl)
abbrev cX0_why : ByteArray := prog_1_method_24_code
def yX0_why : MethodName := ⟨RX0, "why", "(I)I"⟩
def dkwX0_why_1 : List UInt8 := [182, 0, 128, 192, 0, 134, 182, 0, 239, 182, 0, 243, 61, 3, 172, 77, 44, 182, 0, 249, 172]
abbrev dktX0_why_1 : List UInt8 := dkwX0_why_1 ++ []
def dkwX0_why_0 : List UInt8 := [27, 184, 0, 117, 154, 0, 6, 18, 123, 172, 42, 180, 0, 29, 42, 180, 0, 29, 180, 0, 124, 27]
abbrev dktX0_why_0 : List UInt8 := dkwX0_why_0 ++ dktX0_why_1
theorem dksX0_why_0 : cX0_why.data.toList.drop 0 = dktX0_why_0 := by decide +kernel
theorem dksX0_why_1 : cX0_why.data.toList.drop 22 = dktX0_why_1 := dk_seg dksX0_why_0 22 rfl rfl
theorem dX0_why_0 : decode cX0_why 0 = .ok (.iload_n 1, 1) := dk_27 (dk_at dksX0_why_0 0 rfl rfl)
theorem dX0_why_1 : decode cX0_why 1 = .ok (.invokestatic 117, 3) := dk_184 0 117 (dk_at dksX0_why_0 1 rfl rfl)
theorem dX0_why_4 : decode cX0_why 4 = .ok (.ifCond .ne 6, 3) := dk_154 0 6 (dk_at dksX0_why_0 4 rfl rfl)
theorem dX0_why_7 : decode cX0_why 7 = .ok (.ldc 123, 2) := dk_18 123 (dk_at dksX0_why_0 7 rfl rfl)
theorem dX0_why_9 : decode cX0_why 9 = .ok (.ireturn, 1) := dk_172 (dk_at dksX0_why_0 9 rfl rfl)
theorem dX0_why_10 : decode cX0_why 10 = .ok (.aload_n 0, 1) := dk_42 (dk_at dksX0_why_0 10 rfl rfl)
theorem dX0_why_11 : decode cX0_why 11 = .ok (.getfield 29, 3) := dk_180 0 29 (dk_at dksX0_why_0 11 rfl rfl)
theorem dX0_why_14 : decode cX0_why 14 = .ok (.aload_n 0, 1) := dk_42 (dk_at dksX0_why_0 14 rfl rfl)
theorem dX0_why_15 : decode cX0_why 15 = .ok (.getfield 29, 3) := dk_180 0 29 (dk_at dksX0_why_0 15 rfl rfl)
theorem dX0_why_18 : decode cX0_why 18 = .ok (.getfield 124, 3) := dk_180 0 124 (dk_at dksX0_why_0 18 rfl rfl)
theorem dX0_why_21 : decode cX0_why 21 = .ok (.iload_n 1, 1) := dk_27 (dk_at dksX0_why_0 21 rfl rfl)
theorem dX0_why_22 : decode cX0_why 22 = .ok (.invokevirtual 128, 3) := dk_182 0 128 (dk_at dksX0_why_1 0 rfl rfl)
theorem dX0_why_25 : decode cX0_why 25 = .ok (.checkcast 134, 3) := dk_192 0 134 (dk_at dksX0_why_1 3 rfl rfl)
theorem dX0_why_28 : decode cX0_why 28 = .ok (.invokevirtual 239, 3) := dk_182 0 239 (dk_at dksX0_why_1 6 rfl rfl)
theorem dX0_why_31 : decode cX0_why 31 = .ok (.invokevirtual 243, 3) := dk_182 0 243 (dk_at dksX0_why_1 9 rfl rfl)
theorem dX0_why_34 : decode cX0_why 34 = .ok (.istore_n 2, 1) := dk_61 (dk_at dksX0_why_1 12 rfl rfl)
theorem dX0_why_35 : decode cX0_why 35 = .ok (.iconst 0, 1) := dk_3 (dk_at dksX0_why_1 13 rfl rfl)
theorem dX0_why_36 : decode cX0_why 36 = .ok (.ireturn, 1) := dk_172 (dk_at dksX0_why_1 14 rfl rfl)
theorem dX0_why_37 : decode cX0_why 37 = .ok (.astore_n 2, 1) := dk_77 (dk_at dksX0_why_1 15 rfl rfl)
theorem dX0_why_38 : decode cX0_why 38 = .ok (.aload_n 2, 1) := dk_44 (dk_at dksX0_why_1 16 rfl rfl)
theorem dX0_why_39 : decode cX0_why 39 = .ok (.invokevirtual 249, 3) := dk_182 0 249 (dk_at dksX0_why_1 17 rfl rfl)
theorem dX0_why_42 : decode cX0_why 42 = .ok (.ireturn, 1) := dk_172 (dk_at dksX0_why_1 20 rfl rfl)
abbrev cX0_grade : ByteArray := prog_1_method_25_code
def yX0_grade : MethodName := ⟨RX0, "grade", "(I)I"⟩
def dkwX0_grade_1 : List UInt8 := [182, 0, 128, 192, 0, 134, 182, 0, 239, 182, 0, 243, 172, 77, 18, 252, 172]
abbrev dktX0_grade_1 : List UInt8 := dkwX0_grade_1 ++ []
def dkwX0_grade_0 : List UInt8 := [27, 184, 0, 117, 154, 0, 6, 18, 123, 172, 42, 180, 0, 29, 42, 180, 0, 29, 180, 0, 124, 27]
abbrev dktX0_grade_0 : List UInt8 := dkwX0_grade_0 ++ dktX0_grade_1
theorem dksX0_grade_0 : cX0_grade.data.toList.drop 0 = dktX0_grade_0 := by decide +kernel
theorem dksX0_grade_1 : cX0_grade.data.toList.drop 22 = dktX0_grade_1 := dk_seg dksX0_grade_0 22 rfl rfl
theorem dX0_grade_0 : decode cX0_grade 0 = .ok (.iload_n 1, 1) := dk_27 (dk_at dksX0_grade_0 0 rfl rfl)
theorem dX0_grade_1 : decode cX0_grade 1 = .ok (.invokestatic 117, 3) := dk_184 0 117 (dk_at dksX0_grade_0 1 rfl rfl)
theorem dX0_grade_4 : decode cX0_grade 4 = .ok (.ifCond .ne 6, 3) := dk_154 0 6 (dk_at dksX0_grade_0 4 rfl rfl)
theorem dX0_grade_7 : decode cX0_grade 7 = .ok (.ldc 123, 2) := dk_18 123 (dk_at dksX0_grade_0 7 rfl rfl)
theorem dX0_grade_9 : decode cX0_grade 9 = .ok (.ireturn, 1) := dk_172 (dk_at dksX0_grade_0 9 rfl rfl)
theorem dX0_grade_10 : decode cX0_grade 10 = .ok (.aload_n 0, 1) := dk_42 (dk_at dksX0_grade_0 10 rfl rfl)
theorem dX0_grade_11 : decode cX0_grade 11 = .ok (.getfield 29, 3) := dk_180 0 29 (dk_at dksX0_grade_0 11 rfl rfl)
theorem dX0_grade_14 : decode cX0_grade 14 = .ok (.aload_n 0, 1) := dk_42 (dk_at dksX0_grade_0 14 rfl rfl)
theorem dX0_grade_15 : decode cX0_grade 15 = .ok (.getfield 29, 3) := dk_180 0 29 (dk_at dksX0_grade_0 15 rfl rfl)
theorem dX0_grade_18 : decode cX0_grade 18 = .ok (.getfield 124, 3) := dk_180 0 124 (dk_at dksX0_grade_0 18 rfl rfl)
theorem dX0_grade_21 : decode cX0_grade 21 = .ok (.iload_n 1, 1) := dk_27 (dk_at dksX0_grade_0 21 rfl rfl)
theorem dX0_grade_22 : decode cX0_grade 22 = .ok (.invokevirtual 128, 3) := dk_182 0 128 (dk_at dksX0_grade_1 0 rfl rfl)
theorem dX0_grade_25 : decode cX0_grade 25 = .ok (.checkcast 134, 3) := dk_192 0 134 (dk_at dksX0_grade_1 3 rfl rfl)
theorem dX0_grade_28 : decode cX0_grade 28 = .ok (.invokevirtual 239, 3) := dk_182 0 239 (dk_at dksX0_grade_1 6 rfl rfl)
theorem dX0_grade_31 : decode cX0_grade 31 = .ok (.invokevirtual 243, 3) := dk_182 0 243 (dk_at dksX0_grade_1 9 rfl rfl)
theorem dX0_grade_34 : decode cX0_grade 34 = .ok (.ireturn, 1) := dk_172 (dk_at dksX0_grade_1 12 rfl rfl)
theorem dX0_grade_35 : decode cX0_grade 35 = .ok (.astore_n 2, 1) := dk_77 (dk_at dksX0_grade_1 13 rfl rfl)
theorem dX0_grade_36 : decode cX0_grade 36 = .ok (.ldc 252, 2) := dk_18 252 (dk_at dksX0_grade_1 14 rfl rfl)
theorem dX0_grade_38 : decode cX0_grade 38 = .ok (.ireturn, 1) := dk_172 (dk_at dksX0_grade_1 16 rfl rfl)
abbrev cX0_bestTurn : ByteArray := prog_1_method_27_code
def yX0_bestTurn : MethodName := ⟨RX0, "bestTurn", "(I)I"⟩
def dkwX0_bestTurn_5 : List UInt8 := [132, 5, 1, 167, 255, 185, 29, 172]
abbrev dktX0_bestTurn_5 : List UInt8 := dkwX0_bestTurn_5 ++ []
def dkwX0_bestTurn_4 : List UInt8 := [21, 6, 21, 4, 164, 0, 8, 21, 5, 167, 0, 4, 29, 62, 21, 4, 21, 6, 184, 1, 1, 54, 4]
abbrev dktX0_bestTurn_4 : List UInt8 := dkwX0_bestTurn_4 ++ dktX0_bestTurn_5
def dkwX0_bestTurn_3 : List UInt8 := [46, 182, 0, 152, 44, 180, 0, 136, 182, 1, 9, 192, 0, 59, 180, 0, 176, 126, 184, 0, 155, 54, 6]
abbrev dktX0_bestTurn_3 : List UInt8 := dkwX0_bestTurn_3 ++ dktX0_bestTurn_4
def dkwX0_bestTurn_2 : List UInt8 := [54, 5, 21, 5, 16, 8, 162, 0, 70, 44, 21, 5, 181, 0, 146, 44, 42, 180, 0, 29, 180, 0, 108, 3]
abbrev dktX0_bestTurn_2 : List UInt8 := dkwX0_bestTurn_2 ++ dktX0_bestTurn_3
def dkwX0_bestTurn_1 : List UInt8 := [182, 0, 239, 77, 44, 180, 0, 136, 182, 1, 6, 153, 0, 6, 18, 107, 172, 3, 62, 2, 54, 4, 4]
abbrev dktX0_bestTurn_1 : List UInt8 := dkwX0_bestTurn_1 ++ dktX0_bestTurn_2
def dkwX0_bestTurn_0 : List UInt8 := [27, 184, 0, 117, 154, 0, 6, 18, 123, 172, 42, 180, 0, 29, 180, 0, 124, 27, 182, 0, 128, 192, 0, 134]
abbrev dktX0_bestTurn_0 : List UInt8 := dkwX0_bestTurn_0 ++ dktX0_bestTurn_1
theorem dksX0_bestTurn_0 : cX0_bestTurn.data.toList.drop 0 = dktX0_bestTurn_0 := by decide +kernel
theorem dksX0_bestTurn_1 : cX0_bestTurn.data.toList.drop 24 = dktX0_bestTurn_1 := dk_seg dksX0_bestTurn_0 24 rfl rfl
theorem dksX0_bestTurn_2 : cX0_bestTurn.data.toList.drop 47 = dktX0_bestTurn_2 := dk_seg dksX0_bestTurn_1 23 rfl rfl
theorem dksX0_bestTurn_3 : cX0_bestTurn.data.toList.drop 71 = dktX0_bestTurn_3 := dk_seg dksX0_bestTurn_2 24 rfl rfl
theorem dksX0_bestTurn_4 : cX0_bestTurn.data.toList.drop 94 = dktX0_bestTurn_4 := dk_seg dksX0_bestTurn_3 23 rfl rfl
theorem dksX0_bestTurn_5 : cX0_bestTurn.data.toList.drop 117 = dktX0_bestTurn_5 := dk_seg dksX0_bestTurn_4 23 rfl rfl
theorem dX0_bestTurn_0 : decode cX0_bestTurn 0 = .ok (.iload_n 1, 1) := dk_27 (dk_at dksX0_bestTurn_0 0 rfl rfl)
theorem dX0_bestTurn_1 : decode cX0_bestTurn 1 = .ok (.invokestatic 117, 3) := dk_184 0 117 (dk_at dksX0_bestTurn_0 1 rfl rfl)
theorem dX0_bestTurn_4 : decode cX0_bestTurn 4 = .ok (.ifCond .ne 6, 3) := dk_154 0 6 (dk_at dksX0_bestTurn_0 4 rfl rfl)
theorem dX0_bestTurn_7 : decode cX0_bestTurn 7 = .ok (.ldc 123, 2) := dk_18 123 (dk_at dksX0_bestTurn_0 7 rfl rfl)
theorem dX0_bestTurn_9 : decode cX0_bestTurn 9 = .ok (.ireturn, 1) := dk_172 (dk_at dksX0_bestTurn_0 9 rfl rfl)
theorem dX0_bestTurn_10 : decode cX0_bestTurn 10 = .ok (.aload_n 0, 1) := dk_42 (dk_at dksX0_bestTurn_0 10 rfl rfl)
theorem dX0_bestTurn_11 : decode cX0_bestTurn 11 = .ok (.getfield 29, 3) := dk_180 0 29 (dk_at dksX0_bestTurn_0 11 rfl rfl)
theorem dX0_bestTurn_14 : decode cX0_bestTurn 14 = .ok (.getfield 124, 3) := dk_180 0 124 (dk_at dksX0_bestTurn_0 14 rfl rfl)
theorem dX0_bestTurn_17 : decode cX0_bestTurn 17 = .ok (.iload_n 1, 1) := dk_27 (dk_at dksX0_bestTurn_0 17 rfl rfl)
theorem dX0_bestTurn_18 : decode cX0_bestTurn 18 = .ok (.invokevirtual 128, 3) := dk_182 0 128 (dk_at dksX0_bestTurn_0 18 rfl rfl)
theorem dX0_bestTurn_21 : decode cX0_bestTurn 21 = .ok (.checkcast 134, 3) := dk_192 0 134 (dk_at dksX0_bestTurn_0 21 rfl rfl)
theorem dX0_bestTurn_24 : decode cX0_bestTurn 24 = .ok (.invokevirtual 239, 3) := dk_182 0 239 (dk_at dksX0_bestTurn_1 0 rfl rfl)
theorem dX0_bestTurn_27 : decode cX0_bestTurn 27 = .ok (.astore_n 2, 1) := dk_77 (dk_at dksX0_bestTurn_1 3 rfl rfl)
theorem dX0_bestTurn_28 : decode cX0_bestTurn 28 = .ok (.aload_n 2, 1) := dk_44 (dk_at dksX0_bestTurn_1 4 rfl rfl)
theorem dX0_bestTurn_29 : decode cX0_bestTurn 29 = .ok (.getfield 136, 3) := dk_180 0 136 (dk_at dksX0_bestTurn_1 5 rfl rfl)
theorem dX0_bestTurn_32 : decode cX0_bestTurn 32 = .ok (.invokevirtual 262, 3) := dk_182 1 6 (dk_at dksX0_bestTurn_1 8 rfl rfl)
theorem dX0_bestTurn_35 : decode cX0_bestTurn 35 = .ok (.ifCond .eq 6, 3) := dk_153 0 6 (dk_at dksX0_bestTurn_1 11 rfl rfl)
theorem dX0_bestTurn_38 : decode cX0_bestTurn 38 = .ok (.ldc 107, 2) := dk_18 107 (dk_at dksX0_bestTurn_1 14 rfl rfl)
theorem dX0_bestTurn_40 : decode cX0_bestTurn 40 = .ok (.ireturn, 1) := dk_172 (dk_at dksX0_bestTurn_1 16 rfl rfl)
theorem dX0_bestTurn_41 : decode cX0_bestTurn 41 = .ok (.iconst 0, 1) := dk_3 (dk_at dksX0_bestTurn_1 17 rfl rfl)
theorem dX0_bestTurn_42 : decode cX0_bestTurn 42 = .ok (.istore_n 3, 1) := dk_62 (dk_at dksX0_bestTurn_1 18 rfl rfl)
theorem dX0_bestTurn_43 : decode cX0_bestTurn 43 = .ok (.iconst (-1), 1) := dk_2 (dk_at dksX0_bestTurn_1 19 rfl rfl)
theorem dX0_bestTurn_44 : decode cX0_bestTurn 44 = .ok (.istore 4, 2) := dk_54 4 (dk_at dksX0_bestTurn_1 20 rfl rfl)
theorem dX0_bestTurn_46 : decode cX0_bestTurn 46 = .ok (.iconst 1, 1) := dk_4 (dk_at dksX0_bestTurn_1 22 rfl rfl)
theorem dX0_bestTurn_47 : decode cX0_bestTurn 47 = .ok (.istore 5, 2) := dk_54 5 (dk_at dksX0_bestTurn_2 0 rfl rfl)
theorem dX0_bestTurn_49 : decode cX0_bestTurn 49 = .ok (.iload 5, 2) := dk_21 5 (dk_at dksX0_bestTurn_2 2 rfl rfl)
theorem dX0_bestTurn_51 : decode cX0_bestTurn 51 = .ok (.bipush 8, 2) := dk_16 8 (dk_at dksX0_bestTurn_2 4 rfl rfl)
theorem dX0_bestTurn_53 : decode cX0_bestTurn 53 = .ok (.if_icmp .ge 70, 3) := dk_162 0 70 (dk_at dksX0_bestTurn_2 6 rfl rfl)
theorem dX0_bestTurn_56 : decode cX0_bestTurn 56 = .ok (.aload_n 2, 1) := dk_44 (dk_at dksX0_bestTurn_2 9 rfl rfl)
theorem dX0_bestTurn_57 : decode cX0_bestTurn 57 = .ok (.iload 5, 2) := dk_21 5 (dk_at dksX0_bestTurn_2 10 rfl rfl)
theorem dX0_bestTurn_59 : decode cX0_bestTurn 59 = .ok (.putfield 146, 3) := dk_181 0 146 (dk_at dksX0_bestTurn_2 12 rfl rfl)
theorem dX0_bestTurn_62 : decode cX0_bestTurn 62 = .ok (.aload_n 2, 1) := dk_44 (dk_at dksX0_bestTurn_2 15 rfl rfl)
theorem dX0_bestTurn_63 : decode cX0_bestTurn 63 = .ok (.aload_n 0, 1) := dk_42 (dk_at dksX0_bestTurn_2 16 rfl rfl)
theorem dX0_bestTurn_64 : decode cX0_bestTurn 64 = .ok (.getfield 29, 3) := dk_180 0 29 (dk_at dksX0_bestTurn_2 17 rfl rfl)
theorem dX0_bestTurn_67 : decode cX0_bestTurn 67 = .ok (.getfield 108, 3) := dk_180 0 108 (dk_at dksX0_bestTurn_2 20 rfl rfl)
theorem dX0_bestTurn_70 : decode cX0_bestTurn 70 = .ok (.iconst 0, 1) := dk_3 (dk_at dksX0_bestTurn_2 23 rfl rfl)
theorem dX0_bestTurn_71 : decode cX0_bestTurn 71 = .ok (.iaload, 1) := dk_46 (dk_at dksX0_bestTurn_3 0 rfl rfl)
theorem dX0_bestTurn_72 : decode cX0_bestTurn 72 = .ok (.invokevirtual 152, 3) := dk_182 0 152 (dk_at dksX0_bestTurn_3 1 rfl rfl)
theorem dX0_bestTurn_75 : decode cX0_bestTurn 75 = .ok (.aload_n 2, 1) := dk_44 (dk_at dksX0_bestTurn_3 4 rfl rfl)
theorem dX0_bestTurn_76 : decode cX0_bestTurn 76 = .ok (.getfield 136, 3) := dk_180 0 136 (dk_at dksX0_bestTurn_3 5 rfl rfl)
theorem dX0_bestTurn_79 : decode cX0_bestTurn 79 = .ok (.invokevirtual 265, 3) := dk_182 1 9 (dk_at dksX0_bestTurn_3 8 rfl rfl)
theorem dX0_bestTurn_82 : decode cX0_bestTurn 82 = .ok (.checkcast 59, 3) := dk_192 0 59 (dk_at dksX0_bestTurn_3 11 rfl rfl)
theorem dX0_bestTurn_85 : decode cX0_bestTurn 85 = .ok (.getfield 176, 3) := dk_180 0 176 (dk_at dksX0_bestTurn_3 14 rfl rfl)
theorem dX0_bestTurn_88 : decode cX0_bestTurn 88 = .ok (.iand, 1) := dk_126 (dk_at dksX0_bestTurn_3 17 rfl rfl)
theorem dX0_bestTurn_89 : decode cX0_bestTurn 89 = .ok (.invokestatic 155, 3) := dk_184 0 155 (dk_at dksX0_bestTurn_3 18 rfl rfl)
theorem dX0_bestTurn_92 : decode cX0_bestTurn 92 = .ok (.istore 6, 2) := dk_54 6 (dk_at dksX0_bestTurn_3 21 rfl rfl)
theorem dX0_bestTurn_94 : decode cX0_bestTurn 94 = .ok (.iload 6, 2) := dk_21 6 (dk_at dksX0_bestTurn_4 0 rfl rfl)
theorem dX0_bestTurn_96 : decode cX0_bestTurn 96 = .ok (.iload 4, 2) := dk_21 4 (dk_at dksX0_bestTurn_4 2 rfl rfl)
theorem dX0_bestTurn_98 : decode cX0_bestTurn 98 = .ok (.if_icmp .le 8, 3) := dk_164 0 8 (dk_at dksX0_bestTurn_4 4 rfl rfl)
theorem dX0_bestTurn_101 : decode cX0_bestTurn 101 = .ok (.iload 5, 2) := dk_21 5 (dk_at dksX0_bestTurn_4 7 rfl rfl)
theorem dX0_bestTurn_103 : decode cX0_bestTurn 103 = .ok (.goto 4, 3) := dk_167 0 4 (dk_at dksX0_bestTurn_4 9 rfl rfl)
theorem dX0_bestTurn_106 : decode cX0_bestTurn 106 = .ok (.iload_n 3, 1) := dk_29 (dk_at dksX0_bestTurn_4 12 rfl rfl)
theorem dX0_bestTurn_107 : decode cX0_bestTurn 107 = .ok (.istore_n 3, 1) := dk_62 (dk_at dksX0_bestTurn_4 13 rfl rfl)
theorem dX0_bestTurn_108 : decode cX0_bestTurn 108 = .ok (.iload 4, 2) := dk_21 4 (dk_at dksX0_bestTurn_4 14 rfl rfl)
theorem dX0_bestTurn_110 : decode cX0_bestTurn 110 = .ok (.iload 6, 2) := dk_21 6 (dk_at dksX0_bestTurn_4 16 rfl rfl)
theorem dX0_bestTurn_112 : decode cX0_bestTurn 112 = .ok (.invokestatic 257, 3) := dk_184 1 1 (dk_at dksX0_bestTurn_4 18 rfl rfl)
theorem dX0_bestTurn_115 : decode cX0_bestTurn 115 = .ok (.istore 4, 2) := dk_54 4 (dk_at dksX0_bestTurn_4 21 rfl rfl)
theorem dX0_bestTurn_117 : decode cX0_bestTurn 117 = .ok (.iinc 5 1, 3) := dk_132 5 1 (dk_at dksX0_bestTurn_5 0 rfl rfl)
theorem dX0_bestTurn_120 : decode cX0_bestTurn 120 = .ok (.goto (-71), 3) := dk_167 255 185 (dk_at dksX0_bestTurn_5 3 rfl rfl)
theorem dX0_bestTurn_123 : decode cX0_bestTurn 123 = .ok (.iload_n 3, 1) := dk_29 (dk_at dksX0_bestTurn_5 6 rfl rfl)
theorem dX0_bestTurn_124 : decode cX0_bestTurn 124 = .ok (.ireturn, 1) := dk_172 (dk_at dksX0_bestTurn_5 7 rfl rfl)
abbrev cX0_leastLight : ByteArray := prog_1_method_28_code
def yX0_leastLight : MethodName := ⟨RX0, "leastLight", "(I)I"⟩
def dkwX0_leastLight_3 : List UInt8 := [2, 159, 0, 7, 4, 167, 0, 4, 3, 28, 184, 0, 188, 172]
abbrev dktX0_leastLight_3 : List UInt8 := dkwX0_leastLight_3 ++ []
def dkwX0_leastLight_2 : List UInt8 := [185, 1, 21, 1, 0, 192, 0, 59, 58, 4, 28, 25, 4, 180, 0, 173, 184, 1, 1, 61, 167, 255, 226, 28]
abbrev dktX0_leastLight_2 : List UInt8 := dkwX0_leastLight_2 ++ dktX0_leastLight_3
def dkwX0_leastLight_1 : List UInt8 := [192, 0, 134, 180, 0, 136, 182, 1, 12, 78, 45, 185, 1, 16, 1, 0, 153, 0, 27, 45]
abbrev dktX0_leastLight_1 : List UInt8 := dkwX0_leastLight_1 ++ dktX0_leastLight_2
def dkwX0_leastLight_0 : List UInt8 := [27, 184, 0, 117, 154, 0, 6, 18, 123, 172, 2, 61, 42, 180, 0, 29, 180, 0, 124, 27, 182, 0, 128]
abbrev dktX0_leastLight_0 : List UInt8 := dkwX0_leastLight_0 ++ dktX0_leastLight_1
theorem dksX0_leastLight_0 : cX0_leastLight.data.toList.drop 0 = dktX0_leastLight_0 := by decide +kernel
theorem dksX0_leastLight_1 : cX0_leastLight.data.toList.drop 23 = dktX0_leastLight_1 := dk_seg dksX0_leastLight_0 23 rfl rfl
theorem dksX0_leastLight_2 : cX0_leastLight.data.toList.drop 43 = dktX0_leastLight_2 := dk_seg dksX0_leastLight_1 20 rfl rfl
theorem dksX0_leastLight_3 : cX0_leastLight.data.toList.drop 67 = dktX0_leastLight_3 := dk_seg dksX0_leastLight_2 24 rfl rfl
theorem dX0_leastLight_0 : decode cX0_leastLight 0 = .ok (.iload_n 1, 1) := dk_27 (dk_at dksX0_leastLight_0 0 rfl rfl)
theorem dX0_leastLight_1 : decode cX0_leastLight 1 = .ok (.invokestatic 117, 3) := dk_184 0 117 (dk_at dksX0_leastLight_0 1 rfl rfl)
theorem dX0_leastLight_4 : decode cX0_leastLight 4 = .ok (.ifCond .ne 6, 3) := dk_154 0 6 (dk_at dksX0_leastLight_0 4 rfl rfl)
theorem dX0_leastLight_7 : decode cX0_leastLight 7 = .ok (.ldc 123, 2) := dk_18 123 (dk_at dksX0_leastLight_0 7 rfl rfl)
theorem dX0_leastLight_9 : decode cX0_leastLight 9 = .ok (.ireturn, 1) := dk_172 (dk_at dksX0_leastLight_0 9 rfl rfl)
theorem dX0_leastLight_10 : decode cX0_leastLight 10 = .ok (.iconst (-1), 1) := dk_2 (dk_at dksX0_leastLight_0 10 rfl rfl)
theorem dX0_leastLight_11 : decode cX0_leastLight 11 = .ok (.istore_n 2, 1) := dk_61 (dk_at dksX0_leastLight_0 11 rfl rfl)
theorem dX0_leastLight_12 : decode cX0_leastLight 12 = .ok (.aload_n 0, 1) := dk_42 (dk_at dksX0_leastLight_0 12 rfl rfl)
theorem dX0_leastLight_13 : decode cX0_leastLight 13 = .ok (.getfield 29, 3) := dk_180 0 29 (dk_at dksX0_leastLight_0 13 rfl rfl)
theorem dX0_leastLight_16 : decode cX0_leastLight 16 = .ok (.getfield 124, 3) := dk_180 0 124 (dk_at dksX0_leastLight_0 16 rfl rfl)
theorem dX0_leastLight_19 : decode cX0_leastLight 19 = .ok (.iload_n 1, 1) := dk_27 (dk_at dksX0_leastLight_0 19 rfl rfl)
theorem dX0_leastLight_20 : decode cX0_leastLight 20 = .ok (.invokevirtual 128, 3) := dk_182 0 128 (dk_at dksX0_leastLight_0 20 rfl rfl)
theorem dX0_leastLight_23 : decode cX0_leastLight 23 = .ok (.checkcast 134, 3) := dk_192 0 134 (dk_at dksX0_leastLight_1 0 rfl rfl)
theorem dX0_leastLight_26 : decode cX0_leastLight 26 = .ok (.getfield 136, 3) := dk_180 0 136 (dk_at dksX0_leastLight_1 3 rfl rfl)
theorem dX0_leastLight_29 : decode cX0_leastLight 29 = .ok (.invokevirtual 268, 3) := dk_182 1 12 (dk_at dksX0_leastLight_1 6 rfl rfl)
theorem dX0_leastLight_32 : decode cX0_leastLight 32 = .ok (.astore_n 3, 1) := dk_78 (dk_at dksX0_leastLight_1 9 rfl rfl)
theorem dX0_leastLight_33 : decode cX0_leastLight 33 = .ok (.aload_n 3, 1) := dk_45 (dk_at dksX0_leastLight_1 10 rfl rfl)
theorem dX0_leastLight_34 : decode cX0_leastLight 34 = .ok (.invokeinterface 272 1, 5) := by decide +kernel
theorem dX0_leastLight_39 : decode cX0_leastLight 39 = .ok (.ifCond .eq 27, 3) := dk_153 0 27 (dk_at dksX0_leastLight_1 16 rfl rfl)
theorem dX0_leastLight_42 : decode cX0_leastLight 42 = .ok (.aload_n 3, 1) := dk_45 (dk_at dksX0_leastLight_1 19 rfl rfl)
theorem dX0_leastLight_43 : decode cX0_leastLight 43 = .ok (.invokeinterface 277 1, 5) := by decide +kernel
theorem dX0_leastLight_48 : decode cX0_leastLight 48 = .ok (.checkcast 59, 3) := dk_192 0 59 (dk_at dksX0_leastLight_2 5 rfl rfl)
theorem dX0_leastLight_51 : decode cX0_leastLight 51 = .ok (.astore 4, 2) := dk_58 4 (dk_at dksX0_leastLight_2 8 rfl rfl)
theorem dX0_leastLight_53 : decode cX0_leastLight 53 = .ok (.iload_n 2, 1) := dk_28 (dk_at dksX0_leastLight_2 10 rfl rfl)
theorem dX0_leastLight_54 : decode cX0_leastLight 54 = .ok (.aload 4, 2) := dk_25 4 (dk_at dksX0_leastLight_2 11 rfl rfl)
theorem dX0_leastLight_56 : decode cX0_leastLight 56 = .ok (.getfield 173, 3) := dk_180 0 173 (dk_at dksX0_leastLight_2 13 rfl rfl)
theorem dX0_leastLight_59 : decode cX0_leastLight 59 = .ok (.invokestatic 257, 3) := dk_184 1 1 (dk_at dksX0_leastLight_2 16 rfl rfl)
theorem dX0_leastLight_62 : decode cX0_leastLight 62 = .ok (.istore_n 2, 1) := dk_61 (dk_at dksX0_leastLight_2 19 rfl rfl)
theorem dX0_leastLight_63 : decode cX0_leastLight 63 = .ok (.goto (-30), 3) := dk_167 255 226 (dk_at dksX0_leastLight_2 20 rfl rfl)
theorem dX0_leastLight_66 : decode cX0_leastLight 66 = .ok (.iload_n 2, 1) := dk_28 (dk_at dksX0_leastLight_2 23 rfl rfl)
theorem dX0_leastLight_67 : decode cX0_leastLight 67 = .ok (.iconst (-1), 1) := dk_2 (dk_at dksX0_leastLight_3 0 rfl rfl)
theorem dX0_leastLight_68 : decode cX0_leastLight 68 = .ok (.if_icmp .eq 7, 3) := dk_159 0 7 (dk_at dksX0_leastLight_3 1 rfl rfl)
theorem dX0_leastLight_71 : decode cX0_leastLight 71 = .ok (.iconst 1, 1) := dk_4 (dk_at dksX0_leastLight_3 4 rfl rfl)
theorem dX0_leastLight_72 : decode cX0_leastLight 72 = .ok (.goto 4, 3) := dk_167 0 4 (dk_at dksX0_leastLight_3 5 rfl rfl)
theorem dX0_leastLight_75 : decode cX0_leastLight 75 = .ok (.iconst 0, 1) := dk_3 (dk_at dksX0_leastLight_3 8 rfl rfl)
theorem dX0_leastLight_76 : decode cX0_leastLight 76 = .ok (.iload_n 2, 1) := dk_28 (dk_at dksX0_leastLight_3 9 rfl rfl)
theorem dX0_leastLight_77 : decode cX0_leastLight 77 = .ok (.invokestatic 188, 3) := dk_184 0 188 (dk_at dksX0_leastLight_3 10 rfl rfl)
theorem dX0_leastLight_80 : decode cX0_leastLight 80 = .ok (.ireturn, 1) := dk_172 (dk_at dksX0_leastLight_3 13 rfl rfl)
abbrev cX0_bestLight : ByteArray := prog_1_method_29_code
def yX0_bestLight : MethodName := ⟨RX0, "bestLight", "(I)I"⟩
def dkwX0_bestLight_2 : List UInt8 := [180, 0, 29, 44, 182, 1, 24, 182, 1, 28, 172]
abbrev dktX0_bestLight_2 : List UInt8 := dkwX0_bestLight_2 ++ []
def dkwX0_bestLight_1 : List UInt8 := [182, 0, 239, 77, 44, 180, 0, 136, 182, 1, 6, 153, 0, 8, 18, 107, 167, 0, 16, 42, 44, 42]
abbrev dktX0_bestLight_1 : List UInt8 := dkwX0_bestLight_1 ++ dktX0_bestLight_2
def dkwX0_bestLight_0 : List UInt8 := [27, 184, 0, 117, 154, 0, 6, 18, 123, 172, 42, 180, 0, 29, 180, 0, 124, 27, 182, 0, 128, 192, 0, 134]
abbrev dktX0_bestLight_0 : List UInt8 := dkwX0_bestLight_0 ++ dktX0_bestLight_1
theorem dksX0_bestLight_0 : cX0_bestLight.data.toList.drop 0 = dktX0_bestLight_0 := by decide +kernel
theorem dksX0_bestLight_1 : cX0_bestLight.data.toList.drop 24 = dktX0_bestLight_1 := dk_seg dksX0_bestLight_0 24 rfl rfl
theorem dksX0_bestLight_2 : cX0_bestLight.data.toList.drop 46 = dktX0_bestLight_2 := dk_seg dksX0_bestLight_1 22 rfl rfl
theorem dX0_bestLight_0 : decode cX0_bestLight 0 = .ok (.iload_n 1, 1) := dk_27 (dk_at dksX0_bestLight_0 0 rfl rfl)
theorem dX0_bestLight_1 : decode cX0_bestLight 1 = .ok (.invokestatic 117, 3) := dk_184 0 117 (dk_at dksX0_bestLight_0 1 rfl rfl)
theorem dX0_bestLight_4 : decode cX0_bestLight 4 = .ok (.ifCond .ne 6, 3) := dk_154 0 6 (dk_at dksX0_bestLight_0 4 rfl rfl)
theorem dX0_bestLight_7 : decode cX0_bestLight 7 = .ok (.ldc 123, 2) := dk_18 123 (dk_at dksX0_bestLight_0 7 rfl rfl)
theorem dX0_bestLight_9 : decode cX0_bestLight 9 = .ok (.ireturn, 1) := dk_172 (dk_at dksX0_bestLight_0 9 rfl rfl)
theorem dX0_bestLight_10 : decode cX0_bestLight 10 = .ok (.aload_n 0, 1) := dk_42 (dk_at dksX0_bestLight_0 10 rfl rfl)
theorem dX0_bestLight_11 : decode cX0_bestLight 11 = .ok (.getfield 29, 3) := dk_180 0 29 (dk_at dksX0_bestLight_0 11 rfl rfl)
theorem dX0_bestLight_14 : decode cX0_bestLight 14 = .ok (.getfield 124, 3) := dk_180 0 124 (dk_at dksX0_bestLight_0 14 rfl rfl)
theorem dX0_bestLight_17 : decode cX0_bestLight 17 = .ok (.iload_n 1, 1) := dk_27 (dk_at dksX0_bestLight_0 17 rfl rfl)
theorem dX0_bestLight_18 : decode cX0_bestLight 18 = .ok (.invokevirtual 128, 3) := dk_182 0 128 (dk_at dksX0_bestLight_0 18 rfl rfl)
theorem dX0_bestLight_21 : decode cX0_bestLight 21 = .ok (.checkcast 134, 3) := dk_192 0 134 (dk_at dksX0_bestLight_0 21 rfl rfl)
theorem dX0_bestLight_24 : decode cX0_bestLight 24 = .ok (.invokevirtual 239, 3) := dk_182 0 239 (dk_at dksX0_bestLight_1 0 rfl rfl)
theorem dX0_bestLight_27 : decode cX0_bestLight 27 = .ok (.astore_n 2, 1) := dk_77 (dk_at dksX0_bestLight_1 3 rfl rfl)
theorem dX0_bestLight_28 : decode cX0_bestLight 28 = .ok (.aload_n 2, 1) := dk_44 (dk_at dksX0_bestLight_1 4 rfl rfl)
theorem dX0_bestLight_29 : decode cX0_bestLight 29 = .ok (.getfield 136, 3) := dk_180 0 136 (dk_at dksX0_bestLight_1 5 rfl rfl)
theorem dX0_bestLight_32 : decode cX0_bestLight 32 = .ok (.invokevirtual 262, 3) := dk_182 1 6 (dk_at dksX0_bestLight_1 8 rfl rfl)
theorem dX0_bestLight_35 : decode cX0_bestLight 35 = .ok (.ifCond .eq 8, 3) := dk_153 0 8 (dk_at dksX0_bestLight_1 11 rfl rfl)
theorem dX0_bestLight_38 : decode cX0_bestLight 38 = .ok (.ldc 107, 2) := dk_18 107 (dk_at dksX0_bestLight_1 14 rfl rfl)
theorem dX0_bestLight_40 : decode cX0_bestLight 40 = .ok (.goto 16, 3) := dk_167 0 16 (dk_at dksX0_bestLight_1 16 rfl rfl)
theorem dX0_bestLight_43 : decode cX0_bestLight 43 = .ok (.aload_n 0, 1) := dk_42 (dk_at dksX0_bestLight_1 19 rfl rfl)
theorem dX0_bestLight_44 : decode cX0_bestLight 44 = .ok (.aload_n 2, 1) := dk_44 (dk_at dksX0_bestLight_1 20 rfl rfl)
theorem dX0_bestLight_45 : decode cX0_bestLight 45 = .ok (.aload_n 0, 1) := dk_42 (dk_at dksX0_bestLight_1 21 rfl rfl)
theorem dX0_bestLight_46 : decode cX0_bestLight 46 = .ok (.getfield 29, 3) := dk_180 0 29 (dk_at dksX0_bestLight_2 0 rfl rfl)
theorem dX0_bestLight_49 : decode cX0_bestLight 49 = .ok (.aload_n 2, 1) := dk_44 (dk_at dksX0_bestLight_2 3 rfl rfl)
theorem dX0_bestLight_50 : decode cX0_bestLight 50 = .ok (.invokevirtual 280, 3) := dk_182 1 24 (dk_at dksX0_bestLight_2 4 rfl rfl)
theorem dX0_bestLight_53 : decode cX0_bestLight 53 = .ok (.invokevirtual 284, 3) := dk_182 1 28 (dk_at dksX0_bestLight_2 7 rfl rfl)
theorem dX0_bestLight_56 : decode cX0_bestLight 56 = .ok (.ireturn, 1) := dk_172 (dk_at dksX0_bestLight_2 10 rfl rfl)
abbrev cX0_bestOf : ByteArray := prog_1_method_26_code
def yX0_bestOf : MethodName := ⟨RX0, "bestOf", "(LEggLights$Lane;LEggLights$Egg;)I"⟩
def dkwX0_bestOf_3 : List UInt8 := [167, 0, 8, 58, 5, 18, 107, 172, 29, 172]
abbrev dktX0_bestOf_3 : List UInt8 := dkwX0_bestOf_3 ++ []
def dkwX0_bestOf_2 : List UInt8 := [21, 5, 167, 0, 4, 29, 62, 21, 4, 21, 6, 184, 1, 1, 54, 4, 132, 5, 1, 167, 255, 203]
abbrev dktX0_bestOf_2 : List UInt8 := dkwX0_bestOf_2 ++ dktX0_bestOf_3
def dkwX0_bestOf_1 : List UInt8 := [181, 0, 143, 42, 180, 0, 29, 43, 44, 182, 0, 253, 184, 0, 213, 54, 6, 21, 6, 21, 4, 164, 0, 8]
abbrev dktX0_bestOf_1 : List UInt8 := dkwX0_bestOf_1 ++ dktX0_bestOf_2
def dkwX0_bestOf_0 : List UInt8 := [18, 107, 62, 3, 54, 4, 44, 180, 0, 173, 54, 5, 21, 5, 16, 99, 163, 0, 52, 43, 21, 5]
abbrev dktX0_bestOf_0 : List UInt8 := dkwX0_bestOf_0 ++ dktX0_bestOf_1
theorem dksX0_bestOf_0 : cX0_bestOf.data.toList.drop 0 = dktX0_bestOf_0 := by decide +kernel
theorem dksX0_bestOf_1 : cX0_bestOf.data.toList.drop 22 = dktX0_bestOf_1 := dk_seg dksX0_bestOf_0 22 rfl rfl
theorem dksX0_bestOf_2 : cX0_bestOf.data.toList.drop 46 = dktX0_bestOf_2 := dk_seg dksX0_bestOf_1 24 rfl rfl
theorem dksX0_bestOf_3 : cX0_bestOf.data.toList.drop 68 = dktX0_bestOf_3 := dk_seg dksX0_bestOf_2 22 rfl rfl
theorem dX0_bestOf_0 : decode cX0_bestOf 0 = .ok (.ldc 107, 2) := dk_18 107 (dk_at dksX0_bestOf_0 0 rfl rfl)
theorem dX0_bestOf_2 : decode cX0_bestOf 2 = .ok (.istore_n 3, 1) := dk_62 (dk_at dksX0_bestOf_0 2 rfl rfl)
theorem dX0_bestOf_3 : decode cX0_bestOf 3 = .ok (.iconst 0, 1) := dk_3 (dk_at dksX0_bestOf_0 3 rfl rfl)
theorem dX0_bestOf_4 : decode cX0_bestOf 4 = .ok (.istore 4, 2) := dk_54 4 (dk_at dksX0_bestOf_0 4 rfl rfl)
theorem dX0_bestOf_6 : decode cX0_bestOf 6 = .ok (.aload_n 2, 1) := dk_44 (dk_at dksX0_bestOf_0 6 rfl rfl)
theorem dX0_bestOf_7 : decode cX0_bestOf 7 = .ok (.getfield 173, 3) := dk_180 0 173 (dk_at dksX0_bestOf_0 7 rfl rfl)
theorem dX0_bestOf_10 : decode cX0_bestOf 10 = .ok (.istore 5, 2) := dk_54 5 (dk_at dksX0_bestOf_0 10 rfl rfl)
theorem dX0_bestOf_12 : decode cX0_bestOf 12 = .ok (.iload 5, 2) := dk_21 5 (dk_at dksX0_bestOf_0 12 rfl rfl)
theorem dX0_bestOf_14 : decode cX0_bestOf 14 = .ok (.bipush 99, 2) := dk_16 99 (dk_at dksX0_bestOf_0 14 rfl rfl)
theorem dX0_bestOf_16 : decode cX0_bestOf 16 = .ok (.if_icmp .gt 52, 3) := dk_163 0 52 (dk_at dksX0_bestOf_0 16 rfl rfl)
theorem dX0_bestOf_19 : decode cX0_bestOf 19 = .ok (.aload_n 1, 1) := dk_43 (dk_at dksX0_bestOf_0 19 rfl rfl)
theorem dX0_bestOf_20 : decode cX0_bestOf 20 = .ok (.iload 5, 2) := dk_21 5 (dk_at dksX0_bestOf_0 20 rfl rfl)
theorem dX0_bestOf_22 : decode cX0_bestOf 22 = .ok (.putfield 143, 3) := dk_181 0 143 (dk_at dksX0_bestOf_1 0 rfl rfl)
theorem dX0_bestOf_25 : decode cX0_bestOf 25 = .ok (.aload_n 0, 1) := dk_42 (dk_at dksX0_bestOf_1 3 rfl rfl)
theorem dX0_bestOf_26 : decode cX0_bestOf 26 = .ok (.getfield 29, 3) := dk_180 0 29 (dk_at dksX0_bestOf_1 4 rfl rfl)
theorem dX0_bestOf_29 : decode cX0_bestOf 29 = .ok (.aload_n 1, 1) := dk_43 (dk_at dksX0_bestOf_1 7 rfl rfl)
theorem dX0_bestOf_30 : decode cX0_bestOf 30 = .ok (.aload_n 2, 1) := dk_44 (dk_at dksX0_bestOf_1 8 rfl rfl)
theorem dX0_bestOf_31 : decode cX0_bestOf 31 = .ok (.invokevirtual 253, 3) := dk_182 0 253 (dk_at dksX0_bestOf_1 9 rfl rfl)
theorem dX0_bestOf_34 : decode cX0_bestOf 34 = .ok (.invokestatic 213, 3) := dk_184 0 213 (dk_at dksX0_bestOf_1 12 rfl rfl)
theorem dX0_bestOf_37 : decode cX0_bestOf 37 = .ok (.istore 6, 2) := dk_54 6 (dk_at dksX0_bestOf_1 15 rfl rfl)
theorem dX0_bestOf_39 : decode cX0_bestOf 39 = .ok (.iload 6, 2) := dk_21 6 (dk_at dksX0_bestOf_1 17 rfl rfl)
theorem dX0_bestOf_41 : decode cX0_bestOf 41 = .ok (.iload 4, 2) := dk_21 4 (dk_at dksX0_bestOf_1 19 rfl rfl)
theorem dX0_bestOf_43 : decode cX0_bestOf 43 = .ok (.if_icmp .le 8, 3) := dk_164 0 8 (dk_at dksX0_bestOf_1 21 rfl rfl)
theorem dX0_bestOf_46 : decode cX0_bestOf 46 = .ok (.iload 5, 2) := dk_21 5 (dk_at dksX0_bestOf_2 0 rfl rfl)
theorem dX0_bestOf_48 : decode cX0_bestOf 48 = .ok (.goto 4, 3) := dk_167 0 4 (dk_at dksX0_bestOf_2 2 rfl rfl)
theorem dX0_bestOf_51 : decode cX0_bestOf 51 = .ok (.iload_n 3, 1) := dk_29 (dk_at dksX0_bestOf_2 5 rfl rfl)
theorem dX0_bestOf_52 : decode cX0_bestOf 52 = .ok (.istore_n 3, 1) := dk_62 (dk_at dksX0_bestOf_2 6 rfl rfl)
theorem dX0_bestOf_53 : decode cX0_bestOf 53 = .ok (.iload 4, 2) := dk_21 4 (dk_at dksX0_bestOf_2 7 rfl rfl)
theorem dX0_bestOf_55 : decode cX0_bestOf 55 = .ok (.iload 6, 2) := dk_21 6 (dk_at dksX0_bestOf_2 9 rfl rfl)
theorem dX0_bestOf_57 : decode cX0_bestOf 57 = .ok (.invokestatic 257, 3) := dk_184 1 1 (dk_at dksX0_bestOf_2 11 rfl rfl)
theorem dX0_bestOf_60 : decode cX0_bestOf 60 = .ok (.istore 4, 2) := dk_54 4 (dk_at dksX0_bestOf_2 14 rfl rfl)
theorem dX0_bestOf_62 : decode cX0_bestOf 62 = .ok (.iinc 5 1, 3) := dk_132 5 1 (dk_at dksX0_bestOf_2 16 rfl rfl)
theorem dX0_bestOf_65 : decode cX0_bestOf 65 = .ok (.goto (-53), 3) := dk_167 255 203 (dk_at dksX0_bestOf_2 19 rfl rfl)
theorem dX0_bestOf_68 : decode cX0_bestOf 68 = .ok (.goto 8, 3) := dk_167 0 8 (dk_at dksX0_bestOf_3 0 rfl rfl)
theorem dX0_bestOf_71 : decode cX0_bestOf 71 = .ok (.astore 5, 2) := dk_58 5 (dk_at dksX0_bestOf_3 3 rfl rfl)
theorem dX0_bestOf_73 : decode cX0_bestOf 73 = .ok (.ldc 107, 2) := dk_18 107 (dk_at dksX0_bestOf_3 5 rfl rfl)
theorem dX0_bestOf_75 : decode cX0_bestOf 75 = .ok (.ireturn, 1) := dk_172 (dk_at dksX0_bestOf_3 7 rfl rfl)
theorem dX0_bestOf_76 : decode cX0_bestOf 76 = .ok (.iload_n 3, 1) := dk_29 (dk_at dksX0_bestOf_3 8 rfl rfl)
theorem dX0_bestOf_77 : decode cX0_bestOf 77 = .ok (.ireturn, 1) := dk_172 (dk_at dksX0_bestOf_3 9 rfl rfl)
abbrev cX0_ifRun : ByteArray := prog_1_method_30_code
def yX0_ifRun : MethodName := ⟨RX0, "ifRun", "(II)I"⟩
def dkwX0_ifRun_6 : List UInt8 := [16, 8, 184, 1, 43, 100, 172]
abbrev dktX0_ifRun_6 : List UInt8 := dkwX0_ifRun_6 ++ []
def dkwX0_ifRun_5 : List UInt8 := [100, 167, 0, 29, 28, 5, 160, 0, 8, 21, 5, 167, 0, 19, 45, 16, 8, 184, 1, 43, 42, 180, 0, 29]
abbrev dktX0_ifRun_5 : List UInt8 := dkwX0_ifRun_5 ++ dktX0_ifRun_6
def dkwX0_ifRun_4 : List UInt8 := [154, 0, 8, 21, 4, 167, 0, 49, 28, 4, 160, 0, 18, 45, 180, 1, 40, 42, 180, 0, 29, 180, 1, 40]
abbrev dktX0_ifRun_4 : List UInt8 := dkwX0_ifRun_4 ++ dktX0_ifRun_5
def dkwX0_ifRun_3 : List UInt8 := [182, 1, 38, 96, 42, 180, 0, 29, 180, 1, 35, 100, 42, 180, 0, 29, 182, 1, 38, 100, 54, 5, 28]
abbrev dktX0_ifRun_3 : List UInt8 := dkwX0_ifRun_3 ++ dktX0_ifRun_4
def dkwX0_ifRun_2 : List UInt8 := [162, 0, 18, 21, 4, 45, 182, 1, 33, 96, 54, 4, 132, 5, 1, 167, 255, 238, 45, 180, 1, 35, 45]
abbrev dktX0_ifRun_2 : List UInt8 := dkwX0_ifRun_2 ++ dktX0_ifRun_3
def dkwX0_ifRun_1 : List UInt8 := [18, 123, 172, 187, 0, 24, 89, 42, 180, 0, 29, 183, 0, 88, 78, 3, 54, 4, 3, 54, 5, 21, 5, 27]
abbrev dktX0_ifRun_1 : List UInt8 := dkwX0_ifRun_1 ++ dktX0_ifRun_2
def dkwX0_ifRun_0 : List UInt8 := [27, 133, 10, 20, 1, 31, 184, 0, 5, 153, 0, 15, 28, 133, 9, 20, 0, 3, 184, 0, 5, 154, 0, 6]
abbrev dktX0_ifRun_0 : List UInt8 := dkwX0_ifRun_0 ++ dktX0_ifRun_1
theorem dksX0_ifRun_0 : cX0_ifRun.data.toList.drop 0 = dktX0_ifRun_0 := by decide +kernel
theorem dksX0_ifRun_1 : cX0_ifRun.data.toList.drop 24 = dktX0_ifRun_1 := dk_seg dksX0_ifRun_0 24 rfl rfl
theorem dksX0_ifRun_2 : cX0_ifRun.data.toList.drop 48 = dktX0_ifRun_2 := dk_seg dksX0_ifRun_1 24 rfl rfl
theorem dksX0_ifRun_3 : cX0_ifRun.data.toList.drop 71 = dktX0_ifRun_3 := dk_seg dksX0_ifRun_2 23 rfl rfl
theorem dksX0_ifRun_4 : cX0_ifRun.data.toList.drop 94 = dktX0_ifRun_4 := dk_seg dksX0_ifRun_3 23 rfl rfl
theorem dksX0_ifRun_5 : cX0_ifRun.data.toList.drop 118 = dktX0_ifRun_5 := dk_seg dksX0_ifRun_4 24 rfl rfl
theorem dksX0_ifRun_6 : cX0_ifRun.data.toList.drop 142 = dktX0_ifRun_6 := dk_seg dksX0_ifRun_5 24 rfl rfl
theorem dX0_ifRun_0 : decode cX0_ifRun 0 = .ok (.iload_n 1, 1) := dk_27 (dk_at dksX0_ifRun_0 0 rfl rfl)
theorem dX0_ifRun_1 : decode cX0_ifRun 1 = .ok (.i2l, 1) := dk_133 (dk_at dksX0_ifRun_0 1 rfl rfl)
theorem dX0_ifRun_2 : decode cX0_ifRun 2 = .ok (.lconst 1, 1) := dk_10 (dk_at dksX0_ifRun_0 2 rfl rfl)
theorem dX0_ifRun_3 : decode cX0_ifRun 3 = .ok (.ldc2_w 287, 3) := dk_20 1 31 (dk_at dksX0_ifRun_0 3 rfl rfl)
theorem dX0_ifRun_6 : decode cX0_ifRun 6 = .ok (.invokestatic 5, 3) := dk_184 0 5 (dk_at dksX0_ifRun_0 6 rfl rfl)
theorem dX0_ifRun_9 : decode cX0_ifRun 9 = .ok (.ifCond .eq 15, 3) := dk_153 0 15 (dk_at dksX0_ifRun_0 9 rfl rfl)
theorem dX0_ifRun_12 : decode cX0_ifRun 12 = .ok (.iload_n 2, 1) := dk_28 (dk_at dksX0_ifRun_0 12 rfl rfl)
theorem dX0_ifRun_13 : decode cX0_ifRun 13 = .ok (.i2l, 1) := dk_133 (dk_at dksX0_ifRun_0 13 rfl rfl)
theorem dX0_ifRun_14 : decode cX0_ifRun 14 = .ok (.lconst 0, 1) := dk_9 (dk_at dksX0_ifRun_0 14 rfl rfl)
theorem dX0_ifRun_15 : decode cX0_ifRun 15 = .ok (.ldc2_w 3, 3) := dk_20 0 3 (dk_at dksX0_ifRun_0 15 rfl rfl)
theorem dX0_ifRun_18 : decode cX0_ifRun 18 = .ok (.invokestatic 5, 3) := dk_184 0 5 (dk_at dksX0_ifRun_0 18 rfl rfl)
theorem dX0_ifRun_21 : decode cX0_ifRun 21 = .ok (.ifCond .ne 6, 3) := dk_154 0 6 (dk_at dksX0_ifRun_0 21 rfl rfl)
theorem dX0_ifRun_24 : decode cX0_ifRun 24 = .ok (.ldc 123, 2) := dk_18 123 (dk_at dksX0_ifRun_1 0 rfl rfl)
theorem dX0_ifRun_26 : decode cX0_ifRun 26 = .ok (.ireturn, 1) := dk_172 (dk_at dksX0_ifRun_1 2 rfl rfl)
theorem dX0_ifRun_27 : decode cX0_ifRun 27 = .ok (.new 24, 3) := dk_187 0 24 (dk_at dksX0_ifRun_1 3 rfl rfl)
theorem dX0_ifRun_30 : decode cX0_ifRun 30 = .ok (.dup, 1) := dk_89 (dk_at dksX0_ifRun_1 6 rfl rfl)
theorem dX0_ifRun_31 : decode cX0_ifRun 31 = .ok (.aload_n 0, 1) := dk_42 (dk_at dksX0_ifRun_1 7 rfl rfl)
theorem dX0_ifRun_32 : decode cX0_ifRun 32 = .ok (.getfield 29, 3) := dk_180 0 29 (dk_at dksX0_ifRun_1 8 rfl rfl)
theorem dX0_ifRun_35 : decode cX0_ifRun 35 = .ok (.invokespecial 88, 3) := dk_183 0 88 (dk_at dksX0_ifRun_1 11 rfl rfl)
theorem dX0_ifRun_38 : decode cX0_ifRun 38 = .ok (.astore_n 3, 1) := dk_78 (dk_at dksX0_ifRun_1 14 rfl rfl)
theorem dX0_ifRun_39 : decode cX0_ifRun 39 = .ok (.iconst 0, 1) := dk_3 (dk_at dksX0_ifRun_1 15 rfl rfl)
theorem dX0_ifRun_40 : decode cX0_ifRun 40 = .ok (.istore 4, 2) := dk_54 4 (dk_at dksX0_ifRun_1 16 rfl rfl)
theorem dX0_ifRun_42 : decode cX0_ifRun 42 = .ok (.iconst 0, 1) := dk_3 (dk_at dksX0_ifRun_1 18 rfl rfl)
theorem dX0_ifRun_43 : decode cX0_ifRun 43 = .ok (.istore 5, 2) := dk_54 5 (dk_at dksX0_ifRun_1 19 rfl rfl)
theorem dX0_ifRun_45 : decode cX0_ifRun 45 = .ok (.iload 5, 2) := dk_21 5 (dk_at dksX0_ifRun_1 21 rfl rfl)
theorem dX0_ifRun_47 : decode cX0_ifRun 47 = .ok (.iload_n 1, 1) := dk_27 (dk_at dksX0_ifRun_1 23 rfl rfl)
theorem dX0_ifRun_48 : decode cX0_ifRun 48 = .ok (.if_icmp .ge 18, 3) := dk_162 0 18 (dk_at dksX0_ifRun_2 0 rfl rfl)
theorem dX0_ifRun_51 : decode cX0_ifRun 51 = .ok (.iload 4, 2) := dk_21 4 (dk_at dksX0_ifRun_2 3 rfl rfl)
theorem dX0_ifRun_53 : decode cX0_ifRun 53 = .ok (.aload_n 3, 1) := dk_45 (dk_at dksX0_ifRun_2 5 rfl rfl)
theorem dX0_ifRun_54 : decode cX0_ifRun 54 = .ok (.invokevirtual 289, 3) := dk_182 1 33 (dk_at dksX0_ifRun_2 6 rfl rfl)
theorem dX0_ifRun_57 : decode cX0_ifRun 57 = .ok (.iadd, 1) := dk_96 (dk_at dksX0_ifRun_2 9 rfl rfl)
theorem dX0_ifRun_58 : decode cX0_ifRun 58 = .ok (.istore 4, 2) := dk_54 4 (dk_at dksX0_ifRun_2 10 rfl rfl)
theorem dX0_ifRun_60 : decode cX0_ifRun 60 = .ok (.iinc 5 1, 3) := dk_132 5 1 (dk_at dksX0_ifRun_2 12 rfl rfl)
theorem dX0_ifRun_63 : decode cX0_ifRun 63 = .ok (.goto (-18), 3) := dk_167 255 238 (dk_at dksX0_ifRun_2 15 rfl rfl)
theorem dX0_ifRun_66 : decode cX0_ifRun 66 = .ok (.aload_n 3, 1) := dk_45 (dk_at dksX0_ifRun_2 18 rfl rfl)
theorem dX0_ifRun_67 : decode cX0_ifRun 67 = .ok (.getfield 291, 3) := dk_180 1 35 (dk_at dksX0_ifRun_2 19 rfl rfl)
theorem dX0_ifRun_70 : decode cX0_ifRun 70 = .ok (.aload_n 3, 1) := dk_45 (dk_at dksX0_ifRun_2 22 rfl rfl)
theorem dX0_ifRun_71 : decode cX0_ifRun 71 = .ok (.invokevirtual 294, 3) := dk_182 1 38 (dk_at dksX0_ifRun_3 0 rfl rfl)
theorem dX0_ifRun_74 : decode cX0_ifRun 74 = .ok (.iadd, 1) := dk_96 (dk_at dksX0_ifRun_3 3 rfl rfl)
theorem dX0_ifRun_75 : decode cX0_ifRun 75 = .ok (.aload_n 0, 1) := dk_42 (dk_at dksX0_ifRun_3 4 rfl rfl)
theorem dX0_ifRun_76 : decode cX0_ifRun 76 = .ok (.getfield 29, 3) := dk_180 0 29 (dk_at dksX0_ifRun_3 5 rfl rfl)
theorem dX0_ifRun_79 : decode cX0_ifRun 79 = .ok (.getfield 291, 3) := dk_180 1 35 (dk_at dksX0_ifRun_3 8 rfl rfl)
theorem dX0_ifRun_82 : decode cX0_ifRun 82 = .ok (.isub, 1) := dk_100 (dk_at dksX0_ifRun_3 11 rfl rfl)
theorem dX0_ifRun_83 : decode cX0_ifRun 83 = .ok (.aload_n 0, 1) := dk_42 (dk_at dksX0_ifRun_3 12 rfl rfl)
theorem dX0_ifRun_84 : decode cX0_ifRun 84 = .ok (.getfield 29, 3) := dk_180 0 29 (dk_at dksX0_ifRun_3 13 rfl rfl)
theorem dX0_ifRun_87 : decode cX0_ifRun 87 = .ok (.invokevirtual 294, 3) := dk_182 1 38 (dk_at dksX0_ifRun_3 16 rfl rfl)
theorem dX0_ifRun_90 : decode cX0_ifRun 90 = .ok (.isub, 1) := dk_100 (dk_at dksX0_ifRun_3 19 rfl rfl)
theorem dX0_ifRun_91 : decode cX0_ifRun 91 = .ok (.istore 5, 2) := dk_54 5 (dk_at dksX0_ifRun_3 20 rfl rfl)
theorem dX0_ifRun_93 : decode cX0_ifRun 93 = .ok (.iload_n 2, 1) := dk_28 (dk_at dksX0_ifRun_3 22 rfl rfl)
theorem dX0_ifRun_94 : decode cX0_ifRun 94 = .ok (.ifCond .ne 8, 3) := dk_154 0 8 (dk_at dksX0_ifRun_4 0 rfl rfl)
theorem dX0_ifRun_97 : decode cX0_ifRun 97 = .ok (.iload 4, 2) := dk_21 4 (dk_at dksX0_ifRun_4 3 rfl rfl)
theorem dX0_ifRun_99 : decode cX0_ifRun 99 = .ok (.goto 49, 3) := dk_167 0 49 (dk_at dksX0_ifRun_4 5 rfl rfl)
theorem dX0_ifRun_102 : decode cX0_ifRun 102 = .ok (.iload_n 2, 1) := dk_28 (dk_at dksX0_ifRun_4 8 rfl rfl)
theorem dX0_ifRun_103 : decode cX0_ifRun 103 = .ok (.iconst 1, 1) := dk_4 (dk_at dksX0_ifRun_4 9 rfl rfl)
theorem dX0_ifRun_104 : decode cX0_ifRun 104 = .ok (.if_icmp .ne 18, 3) := dk_160 0 18 (dk_at dksX0_ifRun_4 10 rfl rfl)
theorem dX0_ifRun_107 : decode cX0_ifRun 107 = .ok (.aload_n 3, 1) := dk_45 (dk_at dksX0_ifRun_4 13 rfl rfl)
theorem dX0_ifRun_108 : decode cX0_ifRun 108 = .ok (.getfield 296, 3) := dk_180 1 40 (dk_at dksX0_ifRun_4 14 rfl rfl)
theorem dX0_ifRun_111 : decode cX0_ifRun 111 = .ok (.aload_n 0, 1) := dk_42 (dk_at dksX0_ifRun_4 17 rfl rfl)
theorem dX0_ifRun_112 : decode cX0_ifRun 112 = .ok (.getfield 29, 3) := dk_180 0 29 (dk_at dksX0_ifRun_4 18 rfl rfl)
theorem dX0_ifRun_115 : decode cX0_ifRun 115 = .ok (.getfield 296, 3) := dk_180 1 40 (dk_at dksX0_ifRun_4 21 rfl rfl)
theorem dX0_ifRun_118 : decode cX0_ifRun 118 = .ok (.isub, 1) := dk_100 (dk_at dksX0_ifRun_5 0 rfl rfl)
theorem dX0_ifRun_119 : decode cX0_ifRun 119 = .ok (.goto 29, 3) := dk_167 0 29 (dk_at dksX0_ifRun_5 1 rfl rfl)
theorem dX0_ifRun_122 : decode cX0_ifRun 122 = .ok (.iload_n 2, 1) := dk_28 (dk_at dksX0_ifRun_5 4 rfl rfl)
theorem dX0_ifRun_123 : decode cX0_ifRun 123 = .ok (.iconst 2, 1) := dk_5 (dk_at dksX0_ifRun_5 5 rfl rfl)
theorem dX0_ifRun_124 : decode cX0_ifRun 124 = .ok (.if_icmp .ne 8, 3) := dk_160 0 8 (dk_at dksX0_ifRun_5 6 rfl rfl)
theorem dX0_ifRun_127 : decode cX0_ifRun 127 = .ok (.iload 5, 2) := dk_21 5 (dk_at dksX0_ifRun_5 9 rfl rfl)
theorem dX0_ifRun_129 : decode cX0_ifRun 129 = .ok (.goto 19, 3) := dk_167 0 19 (dk_at dksX0_ifRun_5 11 rfl rfl)
theorem dX0_ifRun_132 : decode cX0_ifRun 132 = .ok (.aload_n 3, 1) := dk_45 (dk_at dksX0_ifRun_5 14 rfl rfl)
theorem dX0_ifRun_133 : decode cX0_ifRun 133 = .ok (.bipush 8, 2) := dk_16 8 (dk_at dksX0_ifRun_5 15 rfl rfl)
theorem dX0_ifRun_135 : decode cX0_ifRun 135 = .ok (.invokestatic 299, 3) := dk_184 1 43 (dk_at dksX0_ifRun_5 17 rfl rfl)
theorem dX0_ifRun_138 : decode cX0_ifRun 138 = .ok (.aload_n 0, 1) := dk_42 (dk_at dksX0_ifRun_5 20 rfl rfl)
theorem dX0_ifRun_139 : decode cX0_ifRun 139 = .ok (.getfield 29, 3) := dk_180 0 29 (dk_at dksX0_ifRun_5 21 rfl rfl)
theorem dX0_ifRun_142 : decode cX0_ifRun 142 = .ok (.bipush 8, 2) := dk_16 8 (dk_at dksX0_ifRun_6 0 rfl rfl)
theorem dX0_ifRun_144 : decode cX0_ifRun 144 = .ok (.invokestatic 299, 3) := dk_184 1 43 (dk_at dksX0_ifRun_6 2 rfl rfl)
theorem dX0_ifRun_147 : decode cX0_ifRun 147 = .ok (.isub, 1) := dk_100 (dk_at dksX0_ifRun_6 5 rfl rfl)
theorem dX0_ifRun_148 : decode cX0_ifRun 148 = .ok (.ireturn, 1) := dk_172 (dk_at dksX0_ifRun_6 6 rfl rfl)
abbrev cX0_ofCrates : ByteArray := prog_1_method_32_code
def yX0_ofCrates : MethodName := ⟨RX0, "ofCrates", "(LEggLights$Machine;I)I"⟩
def dkwX0_ofCrates_3 : List UInt8 := [28, 172]
abbrev dktX0_ofCrates_3 : List UInt8 := dkwX0_ofCrates_3 ++ []
def dkwX0_ofCrates_2 : List UInt8 := [27, 16, 7, 160, 0, 11, 25, 4, 180, 0, 206, 167, 0, 8, 25, 4, 180, 0, 209, 96, 61, 167, 255, 201]
abbrev dktX0_ofCrates_2 : List UInt8 := dkwX0_ofCrates_2 ++ dktX0_ofCrates_3
def dkwX0_ofCrates_1 : List UInt8 := [185, 1, 21, 1, 0, 192, 0, 201, 58, 4, 28, 27, 6, 160, 0, 11, 25, 4, 180, 0, 216, 167, 0, 22]
abbrev dktX0_ofCrates_1 : List UInt8 := dkwX0_ofCrates_1 ++ dktX0_ofCrates_2
def dkwX0_ofCrates_0 : List UInt8 := [3, 61, 42, 180, 0, 198, 182, 1, 55, 78, 45, 185, 1, 16, 1, 0, 153, 0, 52, 45]
abbrev dktX0_ofCrates_0 : List UInt8 := dkwX0_ofCrates_0 ++ dktX0_ofCrates_1
theorem dksX0_ofCrates_0 : cX0_ofCrates.data.toList.drop 0 = dktX0_ofCrates_0 := by decide +kernel
theorem dksX0_ofCrates_1 : cX0_ofCrates.data.toList.drop 20 = dktX0_ofCrates_1 := dk_seg dksX0_ofCrates_0 20 rfl rfl
theorem dksX0_ofCrates_2 : cX0_ofCrates.data.toList.drop 44 = dktX0_ofCrates_2 := dk_seg dksX0_ofCrates_1 24 rfl rfl
theorem dksX0_ofCrates_3 : cX0_ofCrates.data.toList.drop 68 = dktX0_ofCrates_3 := dk_seg dksX0_ofCrates_2 24 rfl rfl
theorem dX0_ofCrates_0 : decode cX0_ofCrates 0 = .ok (.iconst 0, 1) := dk_3 (dk_at dksX0_ofCrates_0 0 rfl rfl)
theorem dX0_ofCrates_1 : decode cX0_ofCrates 1 = .ok (.istore_n 2, 1) := dk_61 (dk_at dksX0_ofCrates_0 1 rfl rfl)
theorem dX0_ofCrates_2 : decode cX0_ofCrates 2 = .ok (.aload_n 0, 1) := dk_42 (dk_at dksX0_ofCrates_0 2 rfl rfl)
theorem dX0_ofCrates_3 : decode cX0_ofCrates 3 = .ok (.getfield 198, 3) := dk_180 0 198 (dk_at dksX0_ofCrates_0 3 rfl rfl)
theorem dX0_ofCrates_6 : decode cX0_ofCrates 6 = .ok (.invokevirtual 311, 3) := dk_182 1 55 (dk_at dksX0_ofCrates_0 6 rfl rfl)
theorem dX0_ofCrates_9 : decode cX0_ofCrates 9 = .ok (.astore_n 3, 1) := dk_78 (dk_at dksX0_ofCrates_0 9 rfl rfl)
theorem dX0_ofCrates_10 : decode cX0_ofCrates 10 = .ok (.aload_n 3, 1) := dk_45 (dk_at dksX0_ofCrates_0 10 rfl rfl)
theorem dX0_ofCrates_11 : decode cX0_ofCrates 11 = .ok (.invokeinterface 272 1, 5) := by decide +kernel
theorem dX0_ofCrates_16 : decode cX0_ofCrates 16 = .ok (.ifCond .eq 52, 3) := dk_153 0 52 (dk_at dksX0_ofCrates_0 16 rfl rfl)
theorem dX0_ofCrates_19 : decode cX0_ofCrates 19 = .ok (.aload_n 3, 1) := dk_45 (dk_at dksX0_ofCrates_0 19 rfl rfl)
theorem dX0_ofCrates_20 : decode cX0_ofCrates 20 = .ok (.invokeinterface 277 1, 5) := by decide +kernel
theorem dX0_ofCrates_25 : decode cX0_ofCrates 25 = .ok (.checkcast 201, 3) := dk_192 0 201 (dk_at dksX0_ofCrates_1 5 rfl rfl)
theorem dX0_ofCrates_28 : decode cX0_ofCrates 28 = .ok (.astore 4, 2) := dk_58 4 (dk_at dksX0_ofCrates_1 8 rfl rfl)
theorem dX0_ofCrates_30 : decode cX0_ofCrates 30 = .ok (.iload_n 2, 1) := dk_28 (dk_at dksX0_ofCrates_1 10 rfl rfl)
theorem dX0_ofCrates_31 : decode cX0_ofCrates 31 = .ok (.iload_n 1, 1) := dk_27 (dk_at dksX0_ofCrates_1 11 rfl rfl)
theorem dX0_ofCrates_32 : decode cX0_ofCrates 32 = .ok (.iconst 3, 1) := dk_6 (dk_at dksX0_ofCrates_1 12 rfl rfl)
theorem dX0_ofCrates_33 : decode cX0_ofCrates 33 = .ok (.if_icmp .ne 11, 3) := dk_160 0 11 (dk_at dksX0_ofCrates_1 13 rfl rfl)
theorem dX0_ofCrates_36 : decode cX0_ofCrates 36 = .ok (.aload 4, 2) := dk_25 4 (dk_at dksX0_ofCrates_1 16 rfl rfl)
theorem dX0_ofCrates_38 : decode cX0_ofCrates 38 = .ok (.getfield 216, 3) := dk_180 0 216 (dk_at dksX0_ofCrates_1 18 rfl rfl)
theorem dX0_ofCrates_41 : decode cX0_ofCrates 41 = .ok (.goto 22, 3) := dk_167 0 22 (dk_at dksX0_ofCrates_1 21 rfl rfl)
theorem dX0_ofCrates_44 : decode cX0_ofCrates 44 = .ok (.iload_n 1, 1) := dk_27 (dk_at dksX0_ofCrates_2 0 rfl rfl)
theorem dX0_ofCrates_45 : decode cX0_ofCrates 45 = .ok (.bipush 7, 2) := dk_16 7 (dk_at dksX0_ofCrates_2 1 rfl rfl)
theorem dX0_ofCrates_47 : decode cX0_ofCrates 47 = .ok (.if_icmp .ne 11, 3) := dk_160 0 11 (dk_at dksX0_ofCrates_2 3 rfl rfl)
theorem dX0_ofCrates_50 : decode cX0_ofCrates 50 = .ok (.aload 4, 2) := dk_25 4 (dk_at dksX0_ofCrates_2 6 rfl rfl)
theorem dX0_ofCrates_52 : decode cX0_ofCrates 52 = .ok (.getfield 206, 3) := dk_180 0 206 (dk_at dksX0_ofCrates_2 8 rfl rfl)
theorem dX0_ofCrates_55 : decode cX0_ofCrates 55 = .ok (.goto 8, 3) := dk_167 0 8 (dk_at dksX0_ofCrates_2 11 rfl rfl)
theorem dX0_ofCrates_58 : decode cX0_ofCrates 58 = .ok (.aload 4, 2) := dk_25 4 (dk_at dksX0_ofCrates_2 14 rfl rfl)
theorem dX0_ofCrates_60 : decode cX0_ofCrates 60 = .ok (.getfield 209, 3) := dk_180 0 209 (dk_at dksX0_ofCrates_2 16 rfl rfl)
theorem dX0_ofCrates_63 : decode cX0_ofCrates 63 = .ok (.iadd, 1) := dk_96 (dk_at dksX0_ofCrates_2 19 rfl rfl)
theorem dX0_ofCrates_64 : decode cX0_ofCrates 64 = .ok (.istore_n 2, 1) := dk_61 (dk_at dksX0_ofCrates_2 20 rfl rfl)
theorem dX0_ofCrates_65 : decode cX0_ofCrates 65 = .ok (.goto (-55), 3) := dk_167 255 201 (dk_at dksX0_ofCrates_2 21 rfl rfl)
theorem dX0_ofCrates_68 : decode cX0_ofCrates 68 = .ok (.iload_n 2, 1) := dk_28 (dk_at dksX0_ofCrates_3 0 rfl rfl)
theorem dX0_ofCrates_69 : decode cX0_ofCrates 69 = .ok (.ireturn, 1) := dk_172 (dk_at dksX0_ofCrates_3 1 rfl rfl)
abbrev cX0_mean : ByteArray := prog_1_method_31_code
def yX0_mean : MethodName := ⟨RX0, "mean", "()I"⟩
def dkwX0_mean_1 : List UInt8 := [180, 1, 46, 134, 27, 134, 110, 184, 1, 49, 172]
abbrev dktX0_mean_1 : List UInt8 := dkwX0_mean_1 ++ []
def dkwX0_mean_0 : List UInt8 := [42, 180, 0, 29, 6, 184, 1, 43, 60, 27, 154, 0, 8, 18, 107, 167, 0, 17, 42, 180, 0, 29]
abbrev dktX0_mean_0 : List UInt8 := dkwX0_mean_0 ++ dktX0_mean_1
theorem dksX0_mean_0 : cX0_mean.data.toList.drop 0 = dktX0_mean_0 := by decide +kernel
theorem dksX0_mean_1 : cX0_mean.data.toList.drop 22 = dktX0_mean_1 := dk_seg dksX0_mean_0 22 rfl rfl
theorem dX0_mean_0 : decode cX0_mean 0 = .ok (.aload_n 0, 1) := dk_42 (dk_at dksX0_mean_0 0 rfl rfl)
theorem dX0_mean_1 : decode cX0_mean 1 = .ok (.getfield 29, 3) := dk_180 0 29 (dk_at dksX0_mean_0 1 rfl rfl)
theorem dX0_mean_4 : decode cX0_mean 4 = .ok (.iconst 3, 1) := dk_6 (dk_at dksX0_mean_0 4 rfl rfl)
theorem dX0_mean_5 : decode cX0_mean 5 = .ok (.invokestatic 299, 3) := dk_184 1 43 (dk_at dksX0_mean_0 5 rfl rfl)
theorem dX0_mean_8 : decode cX0_mean 8 = .ok (.istore_n 1, 1) := dk_60 (dk_at dksX0_mean_0 8 rfl rfl)
theorem dX0_mean_9 : decode cX0_mean 9 = .ok (.iload_n 1, 1) := dk_27 (dk_at dksX0_mean_0 9 rfl rfl)
theorem dX0_mean_10 : decode cX0_mean 10 = .ok (.ifCond .ne 8, 3) := dk_154 0 8 (dk_at dksX0_mean_0 10 rfl rfl)
theorem dX0_mean_13 : decode cX0_mean 13 = .ok (.ldc 107, 2) := dk_18 107 (dk_at dksX0_mean_0 13 rfl rfl)
theorem dX0_mean_15 : decode cX0_mean 15 = .ok (.goto 17, 3) := dk_167 0 17 (dk_at dksX0_mean_0 15 rfl rfl)
theorem dX0_mean_18 : decode cX0_mean 18 = .ok (.aload_n 0, 1) := dk_42 (dk_at dksX0_mean_0 18 rfl rfl)
theorem dX0_mean_19 : decode cX0_mean 19 = .ok (.getfield 29, 3) := dk_180 0 29 (dk_at dksX0_mean_0 19 rfl rfl)
theorem dX0_mean_22 : decode cX0_mean 22 = .ok (.getfield 302, 3) := dk_180 1 46 (dk_at dksX0_mean_1 0 rfl rfl)
theorem dX0_mean_25 : decode cX0_mean 25 = .ok (.i2f, 1) := dk_134 (dk_at dksX0_mean_1 3 rfl rfl)
theorem dX0_mean_26 : decode cX0_mean 26 = .ok (.iload_n 1, 1) := dk_27 (dk_at dksX0_mean_1 4 rfl rfl)
theorem dX0_mean_27 : decode cX0_mean 27 = .ok (.i2f, 1) := dk_134 (dk_at dksX0_mean_1 5 rfl rfl)
theorem dX0_mean_28 : decode cX0_mean 28 = .ok (.fdiv, 1) := dk_110 (dk_at dksX0_mean_1 6 rfl rfl)
theorem dX0_mean_29 : decode cX0_mean 29 = .ok (.invokestatic 305, 3) := dk_184 1 49 (dk_at dksX0_mean_1 7 rfl rfl)
theorem dX0_mean_32 : decode cX0_mean 32 = .ok (.ireturn, 1) := dk_172 (dk_at dksX0_mean_1 10 rfl rfl)
abbrev cX0_count : ByteArray := prog_1_method_33_code
def yX0_count : MethodName := ⟨RX0, "count", "(I)I"⟩
def dkwX0_count_7 : List UInt8 := [167, 0, 5, 18, 123, 172]
abbrev dktX0_count_7 : List UInt8 := dkwX0_count_7 ++ []
def dkwX0_count_6 : List UInt8 := [20, 1, 71, 20, 1, 73, 184, 0, 5, 153, 0, 18, 42, 180, 0, 29, 180, 0, 108, 27, 16, 20, 100, 46]
abbrev dktX0_count_6 : List UInt8 := dkwX0_count_6 ++ dktX0_count_7
def dkwX0_count_5 : List UInt8 := [182, 0, 140, 172, 42, 180, 0, 36, 182, 0, 51, 172, 42, 180, 0, 43, 182, 1, 68, 172, 27, 133]
abbrev dktX0_count_5 : List UInt8 := dkwX0_count_5 ++ dktX0_count_6
def dkwX0_count_4 : List UInt8 := [172, 42, 180, 0, 29, 180, 1, 40, 172, 42, 180, 0, 29, 180, 1, 65, 172, 42, 180, 0, 29, 180, 0, 221]
abbrev dktX0_count_4 : List UInt8 := dkwX0_count_4 ++ dktX0_count_5
def dkwX0_count_3 : List UInt8 := [42, 180, 0, 29, 27, 184, 1, 43, 172, 42, 180, 0, 29, 180, 1, 35, 172, 42, 180, 0, 29, 182, 1, 38]
abbrev dktX0_count_3 : List UInt8 := dkwX0_count_3 ++ dktX0_count_4
def dkwX0_count_2 : List UInt8 := [42, 180, 0, 29, 180, 1, 56, 172, 42, 180, 0, 29, 180, 1, 59, 172, 42, 180, 0, 29, 182, 1, 62, 172]
abbrev dktX0_count_2 : List UInt8 := dkwX0_count_2 ++ dktX0_count_3
def dkwX0_count_1 : List UInt8 := [170, 0, 0, 0, 0, 0, 159, 0, 0, 0, 0, 0, 0, 0, 12, 0, 0, 0, 67, 0, 0, 0, 75, 0, 0, 0, 83, 0, 0, 0, 91, 0, 0, 0, 100, 0, 0, 0, 108, 0, 0, 0, 116, 0, 0, 0, 91, 0, 0, 0, 91, 0, 0, 0, 124, 0, 0, 0, 132, 0, 0, 0, 143, 0, 0, 0, 151]
abbrev dktX0_count_1 : List UInt8 := dkwX0_count_1 ++ dktX0_count_2
def dkwX0_count_0 : List UInt8 := [27]
abbrev dktX0_count_0 : List UInt8 := dkwX0_count_0 ++ dktX0_count_1
theorem dksX0_count_0 : cX0_count.data.toList.drop 0 = dktX0_count_0 := by decide +kernel
theorem dksX0_count_1 : cX0_count.data.toList.drop 1 = dktX0_count_1 := dk_seg dksX0_count_0 1 rfl rfl
theorem dksX0_count_2 : cX0_count.data.toList.drop 68 = dktX0_count_2 := dk_seg dksX0_count_1 67 rfl rfl
theorem dksX0_count_3 : cX0_count.data.toList.drop 92 = dktX0_count_3 := dk_seg dksX0_count_2 24 rfl rfl
theorem dksX0_count_4 : cX0_count.data.toList.drop 116 = dktX0_count_4 := dk_seg dksX0_count_3 24 rfl rfl
theorem dksX0_count_5 : cX0_count.data.toList.drop 140 = dktX0_count_5 := dk_seg dksX0_count_4 24 rfl rfl
theorem dksX0_count_6 : cX0_count.data.toList.drop 162 = dktX0_count_6 := dk_seg dksX0_count_5 22 rfl rfl
theorem dksX0_count_7 : cX0_count.data.toList.drop 186 = dktX0_count_7 := dk_seg dksX0_count_6 24 rfl rfl
theorem dX0_count_0 : decode cX0_count 0 = .ok (.iload_n 1, 1) := dk_27 (dk_at dksX0_count_0 0 rfl rfl)
theorem dX0_count_1 : decode cX0_count 1 = .ok (.tableswitch 159 0 12 #[67, 75, 83, 91, 100, 108, 116, 91, 91, 124, 132, 143, 151], 67) := by decide +kernel
theorem dX0_count_68 : decode cX0_count 68 = .ok (.aload_n 0, 1) := dk_42 (dk_at dksX0_count_2 0 rfl rfl)
theorem dX0_count_69 : decode cX0_count 69 = .ok (.getfield 29, 3) := dk_180 0 29 (dk_at dksX0_count_2 1 rfl rfl)
theorem dX0_count_72 : decode cX0_count 72 = .ok (.getfield 312, 3) := dk_180 1 56 (dk_at dksX0_count_2 4 rfl rfl)
theorem dX0_count_75 : decode cX0_count 75 = .ok (.ireturn, 1) := dk_172 (dk_at dksX0_count_2 7 rfl rfl)
theorem dX0_count_76 : decode cX0_count 76 = .ok (.aload_n 0, 1) := dk_42 (dk_at dksX0_count_2 8 rfl rfl)
theorem dX0_count_77 : decode cX0_count 77 = .ok (.getfield 29, 3) := dk_180 0 29 (dk_at dksX0_count_2 9 rfl rfl)
theorem dX0_count_80 : decode cX0_count 80 = .ok (.getfield 315, 3) := dk_180 1 59 (dk_at dksX0_count_2 12 rfl rfl)
theorem dX0_count_83 : decode cX0_count 83 = .ok (.ireturn, 1) := dk_172 (dk_at dksX0_count_2 15 rfl rfl)
theorem dX0_count_84 : decode cX0_count 84 = .ok (.aload_n 0, 1) := dk_42 (dk_at dksX0_count_2 16 rfl rfl)
theorem dX0_count_85 : decode cX0_count 85 = .ok (.getfield 29, 3) := dk_180 0 29 (dk_at dksX0_count_2 17 rfl rfl)
theorem dX0_count_88 : decode cX0_count 88 = .ok (.invokevirtual 318, 3) := dk_182 1 62 (dk_at dksX0_count_2 20 rfl rfl)
theorem dX0_count_91 : decode cX0_count 91 = .ok (.ireturn, 1) := dk_172 (dk_at dksX0_count_2 23 rfl rfl)
theorem dX0_count_92 : decode cX0_count 92 = .ok (.aload_n 0, 1) := dk_42 (dk_at dksX0_count_3 0 rfl rfl)
theorem dX0_count_93 : decode cX0_count 93 = .ok (.getfield 29, 3) := dk_180 0 29 (dk_at dksX0_count_3 1 rfl rfl)
theorem dX0_count_96 : decode cX0_count 96 = .ok (.iload_n 1, 1) := dk_27 (dk_at dksX0_count_3 4 rfl rfl)
theorem dX0_count_97 : decode cX0_count 97 = .ok (.invokestatic 299, 3) := dk_184 1 43 (dk_at dksX0_count_3 5 rfl rfl)
theorem dX0_count_100 : decode cX0_count 100 = .ok (.ireturn, 1) := dk_172 (dk_at dksX0_count_3 8 rfl rfl)
theorem dX0_count_101 : decode cX0_count 101 = .ok (.aload_n 0, 1) := dk_42 (dk_at dksX0_count_3 9 rfl rfl)
theorem dX0_count_102 : decode cX0_count 102 = .ok (.getfield 29, 3) := dk_180 0 29 (dk_at dksX0_count_3 10 rfl rfl)
theorem dX0_count_105 : decode cX0_count 105 = .ok (.getfield 291, 3) := dk_180 1 35 (dk_at dksX0_count_3 13 rfl rfl)
theorem dX0_count_108 : decode cX0_count 108 = .ok (.ireturn, 1) := dk_172 (dk_at dksX0_count_3 16 rfl rfl)
theorem dX0_count_109 : decode cX0_count 109 = .ok (.aload_n 0, 1) := dk_42 (dk_at dksX0_count_3 17 rfl rfl)
theorem dX0_count_110 : decode cX0_count 110 = .ok (.getfield 29, 3) := dk_180 0 29 (dk_at dksX0_count_3 18 rfl rfl)
theorem dX0_count_113 : decode cX0_count 113 = .ok (.invokevirtual 294, 3) := dk_182 1 38 (dk_at dksX0_count_3 21 rfl rfl)
theorem dX0_count_116 : decode cX0_count 116 = .ok (.ireturn, 1) := dk_172 (dk_at dksX0_count_4 0 rfl rfl)
theorem dX0_count_117 : decode cX0_count 117 = .ok (.aload_n 0, 1) := dk_42 (dk_at dksX0_count_4 1 rfl rfl)
theorem dX0_count_118 : decode cX0_count 118 = .ok (.getfield 29, 3) := dk_180 0 29 (dk_at dksX0_count_4 2 rfl rfl)
theorem dX0_count_121 : decode cX0_count 121 = .ok (.getfield 296, 3) := dk_180 1 40 (dk_at dksX0_count_4 5 rfl rfl)
theorem dX0_count_124 : decode cX0_count 124 = .ok (.ireturn, 1) := dk_172 (dk_at dksX0_count_4 8 rfl rfl)
theorem dX0_count_125 : decode cX0_count 125 = .ok (.aload_n 0, 1) := dk_42 (dk_at dksX0_count_4 9 rfl rfl)
theorem dX0_count_126 : decode cX0_count 126 = .ok (.getfield 29, 3) := dk_180 0 29 (dk_at dksX0_count_4 10 rfl rfl)
theorem dX0_count_129 : decode cX0_count 129 = .ok (.getfield 321, 3) := dk_180 1 65 (dk_at dksX0_count_4 13 rfl rfl)
theorem dX0_count_132 : decode cX0_count 132 = .ok (.ireturn, 1) := dk_172 (dk_at dksX0_count_4 16 rfl rfl)
theorem dX0_count_133 : decode cX0_count 133 = .ok (.aload_n 0, 1) := dk_42 (dk_at dksX0_count_4 17 rfl rfl)
theorem dX0_count_134 : decode cX0_count 134 = .ok (.getfield 29, 3) := dk_180 0 29 (dk_at dksX0_count_4 18 rfl rfl)
theorem dX0_count_137 : decode cX0_count 137 = .ok (.getfield 221, 3) := dk_180 0 221 (dk_at dksX0_count_4 21 rfl rfl)
theorem dX0_count_140 : decode cX0_count 140 = .ok (.invokevirtual 140, 3) := dk_182 0 140 (dk_at dksX0_count_5 0 rfl rfl)
theorem dX0_count_143 : decode cX0_count 143 = .ok (.ireturn, 1) := dk_172 (dk_at dksX0_count_5 3 rfl rfl)
theorem dX0_count_144 : decode cX0_count 144 = .ok (.aload_n 0, 1) := dk_42 (dk_at dksX0_count_5 4 rfl rfl)
theorem dX0_count_145 : decode cX0_count 145 = .ok (.getfield 36, 3) := dk_180 0 36 (dk_at dksX0_count_5 5 rfl rfl)
theorem dX0_count_148 : decode cX0_count 148 = .ok (.invokevirtual 51, 3) := dk_182 0 51 (dk_at dksX0_count_5 8 rfl rfl)
theorem dX0_count_151 : decode cX0_count 151 = .ok (.ireturn, 1) := dk_172 (dk_at dksX0_count_5 11 rfl rfl)
theorem dX0_count_152 : decode cX0_count 152 = .ok (.aload_n 0, 1) := dk_42 (dk_at dksX0_count_5 12 rfl rfl)
theorem dX0_count_153 : decode cX0_count 153 = .ok (.getfield 43, 3) := dk_180 0 43 (dk_at dksX0_count_5 13 rfl rfl)
theorem dX0_count_156 : decode cX0_count 156 = .ok (.invokevirtual 324, 3) := dk_182 1 68 (dk_at dksX0_count_5 16 rfl rfl)
theorem dX0_count_159 : decode cX0_count 159 = .ok (.ireturn, 1) := dk_172 (dk_at dksX0_count_5 19 rfl rfl)
theorem dX0_count_160 : decode cX0_count 160 = .ok (.iload_n 1, 1) := dk_27 (dk_at dksX0_count_5 20 rfl rfl)
theorem dX0_count_161 : decode cX0_count 161 = .ok (.i2l, 1) := dk_133 (dk_at dksX0_count_5 21 rfl rfl)
theorem dX0_count_162 : decode cX0_count 162 = .ok (.ldc2_w 327, 3) := dk_20 1 71 (dk_at dksX0_count_6 0 rfl rfl)
theorem dX0_count_165 : decode cX0_count 165 = .ok (.ldc2_w 329, 3) := dk_20 1 73 (dk_at dksX0_count_6 3 rfl rfl)
theorem dX0_count_168 : decode cX0_count 168 = .ok (.invokestatic 5, 3) := dk_184 0 5 (dk_at dksX0_count_6 6 rfl rfl)
theorem dX0_count_171 : decode cX0_count 171 = .ok (.ifCond .eq 18, 3) := dk_153 0 18 (dk_at dksX0_count_6 9 rfl rfl)
theorem dX0_count_174 : decode cX0_count 174 = .ok (.aload_n 0, 1) := dk_42 (dk_at dksX0_count_6 12 rfl rfl)
theorem dX0_count_175 : decode cX0_count 175 = .ok (.getfield 29, 3) := dk_180 0 29 (dk_at dksX0_count_6 13 rfl rfl)
theorem dX0_count_178 : decode cX0_count 178 = .ok (.getfield 108, 3) := dk_180 0 108 (dk_at dksX0_count_6 16 rfl rfl)
theorem dX0_count_181 : decode cX0_count 181 = .ok (.iload_n 1, 1) := dk_27 (dk_at dksX0_count_6 19 rfl rfl)
theorem dX0_count_182 : decode cX0_count 182 = .ok (.bipush 20, 2) := dk_16 20 (dk_at dksX0_count_6 20 rfl rfl)
theorem dX0_count_184 : decode cX0_count 184 = .ok (.isub, 1) := dk_100 (dk_at dksX0_count_6 22 rfl rfl)
theorem dX0_count_185 : decode cX0_count 185 = .ok (.iaload, 1) := dk_46 (dk_at dksX0_count_6 23 rfl rfl)
theorem dX0_count_186 : decode cX0_count 186 = .ok (.goto 5, 3) := dk_167 0 5 (dk_at dksX0_count_7 0 rfl rfl)
theorem dX0_count_189 : decode cX0_count 189 = .ok (.ldc 123, 2) := dk_18 123 (dk_at dksX0_count_7 3 rfl rfl)
theorem dX0_count_191 : decode cX0_count 191 = .ok (.ireturn, 1) := dk_172 (dk_at dksX0_count_7 5 rfl rfl)
abbrev cX0_undo : ByteArray := prog_1_method_34_code
def yX0_undo : MethodName := ⟨RX0, "undo", "()I"⟩
def dkwX0_undo_1 : List UInt8 := [181, 0, 29, 42, 180, 0, 36, 182, 0, 51, 172]
abbrev dktX0_undo_1 : List UInt8 := dkwX0_undo_1 ++ []
def dkwX0_undo_0 : List UInt8 := [42, 180, 0, 36, 182, 1, 75, 153, 0, 6, 18, 252, 172, 42, 42, 180, 0, 36, 182, 1, 76, 192, 0, 24]
abbrev dktX0_undo_0 : List UInt8 := dkwX0_undo_0 ++ dktX0_undo_1
theorem dksX0_undo_0 : cX0_undo.data.toList.drop 0 = dktX0_undo_0 := by decide +kernel
theorem dksX0_undo_1 : cX0_undo.data.toList.drop 24 = dktX0_undo_1 := dk_seg dksX0_undo_0 24 rfl rfl
theorem dX0_undo_0 : decode cX0_undo 0 = .ok (.aload_n 0, 1) := dk_42 (dk_at dksX0_undo_0 0 rfl rfl)
theorem dX0_undo_1 : decode cX0_undo 1 = .ok (.getfield 36, 3) := dk_180 0 36 (dk_at dksX0_undo_0 1 rfl rfl)
theorem dX0_undo_4 : decode cX0_undo 4 = .ok (.invokevirtual 331, 3) := dk_182 1 75 (dk_at dksX0_undo_0 4 rfl rfl)
theorem dX0_undo_7 : decode cX0_undo 7 = .ok (.ifCond .eq 6, 3) := dk_153 0 6 (dk_at dksX0_undo_0 7 rfl rfl)
theorem dX0_undo_10 : decode cX0_undo 10 = .ok (.ldc 252, 2) := dk_18 252 (dk_at dksX0_undo_0 10 rfl rfl)
theorem dX0_undo_12 : decode cX0_undo 12 = .ok (.ireturn, 1) := dk_172 (dk_at dksX0_undo_0 12 rfl rfl)
theorem dX0_undo_13 : decode cX0_undo 13 = .ok (.aload_n 0, 1) := dk_42 (dk_at dksX0_undo_0 13 rfl rfl)
theorem dX0_undo_14 : decode cX0_undo 14 = .ok (.aload_n 0, 1) := dk_42 (dk_at dksX0_undo_0 14 rfl rfl)
theorem dX0_undo_15 : decode cX0_undo 15 = .ok (.getfield 36, 3) := dk_180 0 36 (dk_at dksX0_undo_0 15 rfl rfl)
theorem dX0_undo_18 : decode cX0_undo 18 = .ok (.invokevirtual 332, 3) := dk_182 1 76 (dk_at dksX0_undo_0 18 rfl rfl)
theorem dX0_undo_21 : decode cX0_undo 21 = .ok (.checkcast 24, 3) := dk_192 0 24 (dk_at dksX0_undo_0 21 rfl rfl)
theorem dX0_undo_24 : decode cX0_undo 24 = .ok (.putfield 29, 3) := dk_181 0 29 (dk_at dksX0_undo_1 0 rfl rfl)
theorem dX0_undo_27 : decode cX0_undo 27 = .ok (.aload_n 0, 1) := dk_42 (dk_at dksX0_undo_1 3 rfl rfl)
theorem dX0_undo_28 : decode cX0_undo 28 = .ok (.getfield 36, 3) := dk_180 0 36 (dk_at dksX0_undo_1 4 rfl rfl)
theorem dX0_undo_31 : decode cX0_undo 31 = .ok (.invokevirtual 51, 3) := dk_182 0 51 (dk_at dksX0_undo_1 7 rfl rfl)
theorem dX0_undo_34 : decode cX0_undo 34 = .ok (.ireturn, 1) := dk_172 (dk_at dksX0_undo_1 10 rfl rfl)
abbrev cX0_type : ByteArray := prog_1_method_35_code
def yX0_type : MethodName := ⟨RX0, "type", "(I)I"⟩
def dkwX0_type_2 : List UInt8 := [182, 1, 68, 172]
abbrev dktX0_type_2 : List UInt8 := dkwX0_type_2 ++ []
def dkwX0_type_1 : List UInt8 := [16, 60, 160, 0, 7, 19, 1, 83, 172, 42, 180, 0, 43, 27, 146, 182, 1, 84, 87, 42, 180, 0, 43]
abbrev dktX0_type_1 : List UInt8 := dkwX0_type_1 ++ dktX0_type_2
def dkwX0_type_0 : List UInt8 := [27, 133, 20, 1, 79, 20, 1, 81, 184, 0, 5, 154, 0, 6, 18, 123, 172, 42, 180, 0, 43, 182, 1, 68]
abbrev dktX0_type_0 : List UInt8 := dkwX0_type_0 ++ dktX0_type_1
theorem dksX0_type_0 : cX0_type.data.toList.drop 0 = dktX0_type_0 := by decide +kernel
theorem dksX0_type_1 : cX0_type.data.toList.drop 24 = dktX0_type_1 := dk_seg dksX0_type_0 24 rfl rfl
theorem dksX0_type_2 : cX0_type.data.toList.drop 47 = dktX0_type_2 := dk_seg dksX0_type_1 23 rfl rfl
theorem dX0_type_0 : decode cX0_type 0 = .ok (.iload_n 1, 1) := dk_27 (dk_at dksX0_type_0 0 rfl rfl)
theorem dX0_type_1 : decode cX0_type 1 = .ok (.i2l, 1) := dk_133 (dk_at dksX0_type_0 1 rfl rfl)
theorem dX0_type_2 : decode cX0_type 2 = .ok (.ldc2_w 335, 3) := dk_20 1 79 (dk_at dksX0_type_0 2 rfl rfl)
theorem dX0_type_5 : decode cX0_type 5 = .ok (.ldc2_w 337, 3) := dk_20 1 81 (dk_at dksX0_type_0 5 rfl rfl)
theorem dX0_type_8 : decode cX0_type 8 = .ok (.invokestatic 5, 3) := dk_184 0 5 (dk_at dksX0_type_0 8 rfl rfl)
theorem dX0_type_11 : decode cX0_type 11 = .ok (.ifCond .ne 6, 3) := dk_154 0 6 (dk_at dksX0_type_0 11 rfl rfl)
theorem dX0_type_14 : decode cX0_type 14 = .ok (.ldc 123, 2) := dk_18 123 (dk_at dksX0_type_0 14 rfl rfl)
theorem dX0_type_16 : decode cX0_type 16 = .ok (.ireturn, 1) := dk_172 (dk_at dksX0_type_0 16 rfl rfl)
theorem dX0_type_17 : decode cX0_type 17 = .ok (.aload_n 0, 1) := dk_42 (dk_at dksX0_type_0 17 rfl rfl)
theorem dX0_type_18 : decode cX0_type 18 = .ok (.getfield 43, 3) := dk_180 0 43 (dk_at dksX0_type_0 18 rfl rfl)
theorem dX0_type_21 : decode cX0_type 21 = .ok (.invokevirtual 324, 3) := dk_182 1 68 (dk_at dksX0_type_0 21 rfl rfl)
theorem dX0_type_24 : decode cX0_type 24 = .ok (.bipush 60, 2) := dk_16 60 (dk_at dksX0_type_1 0 rfl rfl)
theorem dX0_type_26 : decode cX0_type 26 = .ok (.if_icmp .ne 7, 3) := dk_160 0 7 (dk_at dksX0_type_1 2 rfl rfl)
theorem dX0_type_29 : decode cX0_type 29 = .ok (.ldc_w 339, 3) := dk_19 1 83 (dk_at dksX0_type_1 5 rfl rfl)
theorem dX0_type_32 : decode cX0_type 32 = .ok (.ireturn, 1) := dk_172 (dk_at dksX0_type_1 8 rfl rfl)
theorem dX0_type_33 : decode cX0_type 33 = .ok (.aload_n 0, 1) := dk_42 (dk_at dksX0_type_1 9 rfl rfl)
theorem dX0_type_34 : decode cX0_type 34 = .ok (.getfield 43, 3) := dk_180 0 43 (dk_at dksX0_type_1 10 rfl rfl)
theorem dX0_type_37 : decode cX0_type 37 = .ok (.iload_n 1, 1) := dk_27 (dk_at dksX0_type_1 13 rfl rfl)
theorem dX0_type_38 : decode cX0_type 38 = .ok (.i2c, 1) := dk_146 (dk_at dksX0_type_1 14 rfl rfl)
theorem dX0_type_39 : decode cX0_type 39 = .ok (.invokevirtual 340, 3) := dk_182 1 84 (dk_at dksX0_type_1 15 rfl rfl)
theorem dX0_type_42 : decode cX0_type 42 = .ok (.pop, 1) := dk_87 (dk_at dksX0_type_1 18 rfl rfl)
theorem dX0_type_43 : decode cX0_type 43 = .ok (.aload_n 0, 1) := dk_42 (dk_at dksX0_type_1 19 rfl rfl)
theorem dX0_type_44 : decode cX0_type 44 = .ok (.getfield 43, 3) := dk_180 0 43 (dk_at dksX0_type_1 20 rfl rfl)
theorem dX0_type_47 : decode cX0_type 47 = .ok (.invokevirtual 324, 3) := dk_182 1 68 (dk_at dksX0_type_2 0 rfl rfl)
theorem dX0_type_50 : decode cX0_type 50 = .ok (.ireturn, 1) := dk_172 (dk_at dksX0_type_2 3 rfl rfl)
abbrev cX0_clearText : ByteArray := prog_1_method_36_code
def yX0_clearText : MethodName := ⟨RX0, "clearText", "()I"⟩
def dkwX0_clearText_0 : List UInt8 := [42, 180, 0, 43, 182, 1, 68, 60, 42, 180, 0, 43, 3, 182, 1, 88, 27, 172]
abbrev dktX0_clearText_0 : List UInt8 := dkwX0_clearText_0 ++ []
theorem dksX0_clearText_0 : cX0_clearText.data.toList.drop 0 = dktX0_clearText_0 := by decide +kernel
theorem dX0_clearText_0 : decode cX0_clearText 0 = .ok (.aload_n 0, 1) := dk_42 (dk_at dksX0_clearText_0 0 rfl rfl)
theorem dX0_clearText_1 : decode cX0_clearText 1 = .ok (.getfield 43, 3) := dk_180 0 43 (dk_at dksX0_clearText_0 1 rfl rfl)
theorem dX0_clearText_4 : decode cX0_clearText 4 = .ok (.invokevirtual 324, 3) := dk_182 1 68 (dk_at dksX0_clearText_0 4 rfl rfl)
theorem dX0_clearText_7 : decode cX0_clearText 7 = .ok (.istore_n 1, 1) := dk_60 (dk_at dksX0_clearText_0 7 rfl rfl)
theorem dX0_clearText_8 : decode cX0_clearText 8 = .ok (.aload_n 0, 1) := dk_42 (dk_at dksX0_clearText_0 8 rfl rfl)
theorem dX0_clearText_9 : decode cX0_clearText 9 = .ok (.getfield 43, 3) := dk_180 0 43 (dk_at dksX0_clearText_0 9 rfl rfl)
theorem dX0_clearText_12 : decode cX0_clearText 12 = .ok (.iconst 0, 1) := dk_3 (dk_at dksX0_clearText_0 12 rfl rfl)
theorem dX0_clearText_13 : decode cX0_clearText 13 = .ok (.invokevirtual 344, 3) := dk_182 1 88 (dk_at dksX0_clearText_0 13 rfl rfl)
theorem dX0_clearText_16 : decode cX0_clearText 16 = .ok (.iload_n 1, 1) := dk_27 (dk_at dksX0_clearText_0 16 rfl rfl)
theorem dX0_clearText_17 : decode cX0_clearText 17 = .ok (.ireturn, 1) := dk_172 (dk_at dksX0_clearText_0 17 rfl rfl)
abbrev cX0_fault : ByteArray := prog_1_method_37_code
def yX0_fault : MethodName := ⟨RX0, "fault", "(I)I"⟩
def dkwX0_fault_2 : List UInt8 := [160, 0, 10, 44, 180, 1, 104, 167, 0, 7, 44, 180, 1, 106, 172]
abbrev dktX0_fault_2 : List UInt8 := dkwX0_fault_2 ++ []
def dkwX0_fault_1 : List UInt8 := [44, 182, 1, 98, 153, 0, 6, 18, 107, 172, 27, 154, 0, 10, 44, 180, 1, 101, 167, 0, 19, 27, 4]
abbrev dktX0_fault_1 : List UInt8 := dkwX0_fault_1 ++ dktX0_fault_2
def dkwX0_fault_0 : List UInt8 := [27, 133, 9, 20, 1, 91, 184, 0, 5, 154, 0, 6, 18, 123, 172, 187, 1, 93, 89, 42, 183, 1, 95, 77]
abbrev dktX0_fault_0 : List UInt8 := dkwX0_fault_0 ++ dktX0_fault_1
theorem dksX0_fault_0 : cX0_fault.data.toList.drop 0 = dktX0_fault_0 := by decide +kernel
theorem dksX0_fault_1 : cX0_fault.data.toList.drop 24 = dktX0_fault_1 := dk_seg dksX0_fault_0 24 rfl rfl
theorem dksX0_fault_2 : cX0_fault.data.toList.drop 47 = dktX0_fault_2 := dk_seg dksX0_fault_1 23 rfl rfl
theorem dX0_fault_0 : decode cX0_fault 0 = .ok (.iload_n 1, 1) := dk_27 (dk_at dksX0_fault_0 0 rfl rfl)
theorem dX0_fault_1 : decode cX0_fault 1 = .ok (.i2l, 1) := dk_133 (dk_at dksX0_fault_0 1 rfl rfl)
theorem dX0_fault_2 : decode cX0_fault 2 = .ok (.lconst 0, 1) := dk_9 (dk_at dksX0_fault_0 2 rfl rfl)
theorem dX0_fault_3 : decode cX0_fault 3 = .ok (.ldc2_w 347, 3) := dk_20 1 91 (dk_at dksX0_fault_0 3 rfl rfl)
theorem dX0_fault_6 : decode cX0_fault 6 = .ok (.invokestatic 5, 3) := dk_184 0 5 (dk_at dksX0_fault_0 6 rfl rfl)
theorem dX0_fault_9 : decode cX0_fault 9 = .ok (.ifCond .ne 6, 3) := dk_154 0 6 (dk_at dksX0_fault_0 9 rfl rfl)
theorem dX0_fault_12 : decode cX0_fault 12 = .ok (.ldc 123, 2) := dk_18 123 (dk_at dksX0_fault_0 12 rfl rfl)
theorem dX0_fault_14 : decode cX0_fault 14 = .ok (.ireturn, 1) := dk_172 (dk_at dksX0_fault_0 14 rfl rfl)
theorem dX0_fault_15 : decode cX0_fault 15 = .ok (.new 349, 3) := dk_187 1 93 (dk_at dksX0_fault_0 15 rfl rfl)
theorem dX0_fault_18 : decode cX0_fault 18 = .ok (.dup, 1) := dk_89 (dk_at dksX0_fault_0 18 rfl rfl)
theorem dX0_fault_19 : decode cX0_fault 19 = .ok (.aload_n 0, 1) := dk_42 (dk_at dksX0_fault_0 19 rfl rfl)
theorem dX0_fault_20 : decode cX0_fault 20 = .ok (.invokespecial 351, 3) := dk_183 1 95 (dk_at dksX0_fault_0 20 rfl rfl)
theorem dX0_fault_23 : decode cX0_fault 23 = .ok (.astore_n 2, 1) := dk_77 (dk_at dksX0_fault_0 23 rfl rfl)
theorem dX0_fault_24 : decode cX0_fault 24 = .ok (.aload_n 2, 1) := dk_44 (dk_at dksX0_fault_1 0 rfl rfl)
theorem dX0_fault_25 : decode cX0_fault 25 = .ok (.invokevirtual 354, 3) := dk_182 1 98 (dk_at dksX0_fault_1 1 rfl rfl)
theorem dX0_fault_28 : decode cX0_fault 28 = .ok (.ifCond .eq 6, 3) := dk_153 0 6 (dk_at dksX0_fault_1 4 rfl rfl)
theorem dX0_fault_31 : decode cX0_fault 31 = .ok (.ldc 107, 2) := dk_18 107 (dk_at dksX0_fault_1 7 rfl rfl)
theorem dX0_fault_33 : decode cX0_fault 33 = .ok (.ireturn, 1) := dk_172 (dk_at dksX0_fault_1 9 rfl rfl)
theorem dX0_fault_34 : decode cX0_fault 34 = .ok (.iload_n 1, 1) := dk_27 (dk_at dksX0_fault_1 10 rfl rfl)
theorem dX0_fault_35 : decode cX0_fault 35 = .ok (.ifCond .ne 10, 3) := dk_154 0 10 (dk_at dksX0_fault_1 11 rfl rfl)
theorem dX0_fault_38 : decode cX0_fault 38 = .ok (.aload_n 2, 1) := dk_44 (dk_at dksX0_fault_1 14 rfl rfl)
theorem dX0_fault_39 : decode cX0_fault 39 = .ok (.getfield 357, 3) := dk_180 1 101 (dk_at dksX0_fault_1 15 rfl rfl)
theorem dX0_fault_42 : decode cX0_fault 42 = .ok (.goto 19, 3) := dk_167 0 19 (dk_at dksX0_fault_1 18 rfl rfl)
theorem dX0_fault_45 : decode cX0_fault 45 = .ok (.iload_n 1, 1) := dk_27 (dk_at dksX0_fault_1 21 rfl rfl)
theorem dX0_fault_46 : decode cX0_fault 46 = .ok (.iconst 1, 1) := dk_4 (dk_at dksX0_fault_1 22 rfl rfl)
theorem dX0_fault_47 : decode cX0_fault 47 = .ok (.if_icmp .ne 10, 3) := dk_160 0 10 (dk_at dksX0_fault_2 0 rfl rfl)
theorem dX0_fault_50 : decode cX0_fault 50 = .ok (.aload_n 2, 1) := dk_44 (dk_at dksX0_fault_2 3 rfl rfl)
theorem dX0_fault_51 : decode cX0_fault 51 = .ok (.getfield 360, 3) := dk_180 1 104 (dk_at dksX0_fault_2 4 rfl rfl)
theorem dX0_fault_54 : decode cX0_fault 54 = .ok (.goto 7, 3) := dk_167 0 7 (dk_at dksX0_fault_2 7 rfl rfl)
theorem dX0_fault_57 : decode cX0_fault 57 = .ok (.aload_n 2, 1) := dk_44 (dk_at dksX0_fault_2 10 rfl rfl)
theorem dX0_fault_58 : decode cX0_fault 58 = .ok (.getfield 362, 3) := dk_180 1 106 (dk_at dksX0_fault_2 11 rfl rfl)
theorem dX0_fault_61 : decode cX0_fault 61 = .ok (.ireturn, 1) := dk_172 (dk_at dksX0_fault_2 14 rfl rfl)
abbrev cX0_play : ByteArray := prog_1_method_38_code
def yX0_play : MethodName := ⟨RX0, "play", "()I"⟩
def dkwX0_play_1 : List UInt8 := [180, 1, 112, 182, 0, 95, 167, 0, 5, 18, 252, 172]
abbrev dktX0_play_1 : List UInt8 := dkwX0_play_1 ++ []
def dkwX0_play_0 : List UInt8 := [187, 1, 93, 89, 42, 183, 1, 95, 76, 43, 182, 1, 98, 153, 0, 18, 42, 43, 180, 1, 109, 43]
abbrev dktX0_play_0 : List UInt8 := dkwX0_play_0 ++ dktX0_play_1
theorem dksX0_play_0 : cX0_play.data.toList.drop 0 = dktX0_play_0 := by decide +kernel
theorem dksX0_play_1 : cX0_play.data.toList.drop 22 = dktX0_play_1 := dk_seg dksX0_play_0 22 rfl rfl
theorem dX0_play_0 : decode cX0_play 0 = .ok (.new 349, 3) := dk_187 1 93 (dk_at dksX0_play_0 0 rfl rfl)
theorem dX0_play_3 : decode cX0_play 3 = .ok (.dup, 1) := dk_89 (dk_at dksX0_play_0 3 rfl rfl)
theorem dX0_play_4 : decode cX0_play 4 = .ok (.aload_n 0, 1) := dk_42 (dk_at dksX0_play_0 4 rfl rfl)
theorem dX0_play_5 : decode cX0_play 5 = .ok (.invokespecial 351, 3) := dk_183 1 95 (dk_at dksX0_play_0 5 rfl rfl)
theorem dX0_play_8 : decode cX0_play 8 = .ok (.astore_n 1, 1) := dk_76 (dk_at dksX0_play_0 8 rfl rfl)
theorem dX0_play_9 : decode cX0_play 9 = .ok (.aload_n 1, 1) := dk_43 (dk_at dksX0_play_0 9 rfl rfl)
theorem dX0_play_10 : decode cX0_play 10 = .ok (.invokevirtual 354, 3) := dk_182 1 98 (dk_at dksX0_play_0 10 rfl rfl)
theorem dX0_play_13 : decode cX0_play 13 = .ok (.ifCond .eq 18, 3) := dk_153 0 18 (dk_at dksX0_play_0 13 rfl rfl)
theorem dX0_play_16 : decode cX0_play 16 = .ok (.aload_n 0, 1) := dk_42 (dk_at dksX0_play_0 16 rfl rfl)
theorem dX0_play_17 : decode cX0_play 17 = .ok (.aload_n 1, 1) := dk_43 (dk_at dksX0_play_0 17 rfl rfl)
theorem dX0_play_18 : decode cX0_play 18 = .ok (.getfield 365, 3) := dk_180 1 109 (dk_at dksX0_play_0 18 rfl rfl)
theorem dX0_play_21 : decode cX0_play 21 = .ok (.aload_n 1, 1) := dk_43 (dk_at dksX0_play_0 21 rfl rfl)
theorem dX0_play_22 : decode cX0_play 22 = .ok (.getfield 368, 3) := dk_180 1 112 (dk_at dksX0_play_1 0 rfl rfl)
theorem dX0_play_25 : decode cX0_play 25 = .ok (.invokevirtual 95, 3) := dk_182 0 95 (dk_at dksX0_play_1 3 rfl rfl)
theorem dX0_play_28 : decode cX0_play 28 = .ok (.goto 5, 3) := dk_167 0 5 (dk_at dksX0_play_1 6 rfl rfl)
theorem dX0_play_31 : decode cX0_play 31 = .ok (.ldc 252, 2) := dk_18 252 (dk_at dksX0_play_1 9 rfl rfl)
theorem dX0_play_33 : decode cX0_play 33 = .ok (.ireturn, 1) := dk_172 (dk_at dksX0_play_1 11 rfl rfl)
theorem q49 : (Jvm.Cond.initialized "EggLights") ∈ lw_all := lw_g (lw_at lw_m1 1 rfl) rfl
theorem q94 : (Jvm.Cond.instantiable "EggLights" (3 : Nat)) ∈ lw_all := lw_g (lw_at lw_m1 46 rfl) rfl
theorem q96 : (Jvm.Cond.instanceMethod ({ cls := "EggLights", name := "<init>", desc := "()V" } : Jvm.MethodName)) ∈ lw_all := lw_g (lw_at lw_m1 48 rfl) rfl
theorem q97 : (Jvm.Cond.code ({ cls := "EggLights", name := "<init>", desc := "()V" } : Jvm.MethodName) prog_1_method_7_code (1 : Nat) (Option.none : Option Jvm.ClassFile.FieldType)) ∈ lw_all := lw_g (lw_at lw_m1 49 rfl) rfl
theorem q98 : (Jvm.Cond.methodLink "EggLights" (19 : Nat) ({ cls := "java/lang/Object", name := "<init>", desc := "()V" } : Jvm.MethodName)) ∈ lw_all := lw_g (lw_at lw_m1 50 rfl) rfl
theorem q101 : (Jvm.Cond.classLink "EggLights" (24 : Nat) "EggLights$Machine") ∈ lw_all := lw_g (lw_at lw_m1 53 rfl) rfl
theorem q103 : (Jvm.Cond.methodLink "EggLights" (26 : Nat) ({ cls := "EggLights$Machine", name := "<init>", desc := "([I)V" } : Jvm.MethodName)) ∈ lw_all := lw_g (lw_at lw_m1 55 rfl) rfl
theorem q174 : (Jvm.Cond.fieldLinkNest "EggLights" (136 : Nat) "EggLights$Lane" "queue" "Ljava/util/LinkedList;" "EggLights") ∈ lw_tbl := lw_at lw_m1 126 rfl
theorem q177 : (Jvm.Cond.fieldLinkNest "EggLights" (143 : Nat) "EggLights$Lane" "light" "I" "EggLights") ∈ lw_tbl := lw_at lw_m1 129 rfl
theorem q180 : (Jvm.Cond.fieldLinkNest "EggLights" (146 : Nat) "EggLights$Lane" "turn" "I" "EggLights") ∈ lw_tbl := lw_at lw_m1 132 rfl
theorem q183 : (Jvm.Cond.fieldLinkNest "EggLights" (149 : Nat) "EggLights$Lane" "stains" "I" "EggLights") ∈ lw_tbl := lw_at lw_m1 135 rfl
theorem q186 : (Jvm.Cond.fieldLinkNest "EggLights" (163 : Nat) "EggLights$Lane" "graded" "I" "EggLights") ∈ lw_tbl := lw_at lw_m1 138 rfl
theorem q189 : (Jvm.Cond.fieldLinkNest "EggLights" (166 : Nat) "EggLights$Lane" "cracked" "I" "EggLights") ∈ lw_tbl := lw_at lw_m1 141 rfl
theorem q237 : (Jvm.Cond.selects "EggLights" ({ cls := "java/lang/Object", name := "getClass", desc := "()Ljava/lang/Class;" } : Jvm.MethodName) ({ cls := "java/lang/Object", name := "getClass", desc := "()Ljava/lang/Class;" } : Jvm.MethodName)) ∈ lw_all := lw_g (lw_at lw_m1 189 rfl) rfl
theorem q283 : (Jvm.Cond.fieldLinkNest "EggLights" (203 : Nat) "EggLights$Crate" "eggs" "I" "EggLights") ∈ lw_tbl := lw_at lw_m1 235 rfl
theorem q286 : (Jvm.Cond.fieldLinkNest "EggLights" (212 : Nat) "EggLights$Crate" "cracked" "I" "EggLights") ∈ lw_tbl := lw_at lw_m1 238 rfl
theorem q289 : (Jvm.Cond.fieldLinkNest "EggLights" (206 : Nat) "EggLights$Crate" "sold" "I" "EggLights") ∈ lw_tbl := lw_at lw_m2 1 rfl
theorem q292 : (Jvm.Cond.fieldLinkNest "EggLights" (209 : Nat) "EggLights$Crate" "returned" "I" "EggLights") ∈ lw_tbl := lw_at lw_m2 4 rfl
theorem q295 : (Jvm.Cond.fieldLinkNest "EggLights" (216 : Nat) "EggLights$Crate" "all" "I" "EggLights") ∈ lw_tbl := lw_at lw_m2 7 rfl
theorem q308 : (Jvm.Cond.fieldLinkNest "EggLights" (124 : Nat) "EggLights$Machine" "lanes" "Ljava/util/ArrayList;" "EggLights") ∈ lw_tbl := lw_at lw_m2 20 rfl
theorem q310 : (Jvm.Cond.fieldLinkNest "EggLights" (198 : Nat) "EggLights$Machine" "crates" "Ljava/util/ArrayList;" "EggLights") ∈ lw_tbl := lw_at lw_m2 22 rfl
theorem q312 : (Jvm.Cond.fieldLinkNest "EggLights" (221 : Nat) "EggLights$Machine" "book" "Ljava/util/LinkedList;" "EggLights") ∈ lw_tbl := lw_at lw_m2 24 rfl
theorem q314 : (Jvm.Cond.fieldLinkNest "EggLights" (108 : Nat) "EggLights$Machine" "settings" "[I" "EggLights") ∈ lw_tbl := lw_at lw_m2 26 rfl
theorem q316 : (Jvm.Cond.fieldLinkNest "EggLights" (312 : Nat) "EggLights$Machine" "ticks" "I" "EggLights") ∈ lw_tbl := lw_at lw_m2 28 rfl
theorem q318 : (Jvm.Cond.fieldLinkNest "EggLights" (315 : Nat) "EggLights$Machine" "came" "I" "EggLights") ∈ lw_tbl := lw_at lw_m2 30 rfl
theorem q320 : (Jvm.Cond.fieldLinkNest "EggLights" (291 : Nat) "EggLights$Machine" "dark" "I" "EggLights") ∈ lw_tbl := lw_at lw_m2 32 rfl
theorem q322 : (Jvm.Cond.fieldLinkNest "EggLights" (296 : Nat) "EggLights$Machine" "coins" "I" "EggLights") ∈ lw_tbl := lw_at lw_m2 34 rfl
theorem q324 : (Jvm.Cond.fieldLinkNest "EggLights" (302 : Nat) "EggLights$Machine" "weights" "I" "EggLights") ∈ lw_tbl := lw_at lw_m2 36 rfl
theorem q326 : (Jvm.Cond.fieldLinkNest "EggLights" (321 : Nat) "EggLights$Machine" "leaking" "I" "EggLights") ∈ lw_tbl := lw_at lw_m2 38 rfl
theorem q348 : (Jvm.Cond.classLink "EggLights" (33 : Nat) "java/util/ArrayDeque") ∈ lw_all := lw_g (lw_at lw_m2 60 rfl) rfl
theorem q350 : (Jvm.Cond.methodLink "EggLights" (35 : Nat) ({ cls := "java/util/ArrayDeque", name := "<init>", desc := "()V" } : Jvm.MethodName)) ∈ lw_all := lw_g (lw_at lw_m2 62 rfl) rfl
theorem q365 : (Jvm.Cond.classLink "EggLights" (40 : Nat) "java/lang/StringBuilder") ∈ lw_all := lw_g (lw_at lw_m2 77 rfl) rfl
theorem q367 : (Jvm.Cond.methodLink "EggLights" (42 : Nat) ({ cls := "java/lang/StringBuilder", name := "<init>", desc := "()V" } : Jvm.MethodName)) ∈ lw_all := lw_g (lw_at lw_m2 79 rfl) rfl
theorem q399 : (Jvm.Cond.fieldLink "EggLights" (29 : Nat) "EggLights" "machine" "LEggLights$Machine;") ∈ lw_all := lw_g (lw_at lw_m2 111 rfl) rfl
theorem q400 : (Jvm.Cond.fieldLink "EggLights" (36 : Nat) "EggLights" "history" "Ljava/util/ArrayDeque;") ∈ lw_all := lw_g (lw_at lw_m2 112 rfl) rfl
theorem q402 : (Jvm.Cond.fieldLink "EggLights" (43 : Nat) "EggLights" "text" "Ljava/lang/StringBuilder;") ∈ lw_all := lw_g (lw_at lw_m2 114 rfl) rfl
theorem q403 : (Jvm.Cond.lays "EggLights" "EggLights" "machine" "LEggLights$Machine;") ∈ lw_all := lw_g (lw_at lw_m2 115 rfl) rfl
theorem q404 : (Jvm.Cond.soleField "EggLights" "machine") ∈ lw_all := lw_g (lw_at lw_m2 116 rfl) rfl
theorem q405 : (Jvm.Cond.laysFinal "EggLights" "EggLights" "history" "Ljava/util/ArrayDeque;") ∈ lw_all := lw_g (lw_at lw_m2 117 rfl) rfl
theorem q406 : (Jvm.Cond.soleField "EggLights" "history") ∈ lw_all := lw_g (lw_at lw_m2 118 rfl) rfl
theorem q407 : (Jvm.Cond.laysFinal "EggLights" "EggLights" "text" "Ljava/lang/StringBuilder;") ∈ lw_all := lw_g (lw_at lw_m2 119 rfl) rfl
theorem q408 : (Jvm.Cond.soleField "EggLights" "text") ∈ lw_all := lw_g (lw_at lw_m2 120 rfl) rfl
theorem q409 : (Jvm.Cond.superclass "EggLights" "java/lang/Object") ∈ lw_all := lw_g (lw_at lw_m2 121 rfl) rfl
theorem q411 : (Jvm.Cond.instanceMethod ({ cls := "EggLights", name := "egg", desc := "(IIIIII)I" } : Jvm.MethodName)) ∈ lw_all := lw_g (lw_at lw_m2 123 rfl) rfl
theorem q412 : (Jvm.Cond.selects "EggLights" ({ cls := "EggLights", name := "egg", desc := "(IIIIII)I" } : Jvm.MethodName) ({ cls := "EggLights", name := "egg", desc := "(IIIIII)I" } : Jvm.MethodName)) ∈ lw_all := lw_g (lw_at lw_m2 124 rfl) rfl
theorem q413 : (Jvm.Cond.code ({ cls := "EggLights", name := "egg", desc := "(IIIIII)I" } : Jvm.MethodName) prog_1_method_11_code (7 : Nat) (Option.some Jvm.ClassFile.FieldType.int)) ∈ lw_all := lw_g (lw_at lw_m2 125 rfl) rfl
theorem q414 : (Jvm.Cond.methodLink "EggLights" (103 : Nat) ({ cls := "EggLights", name := "act", desc := "(C[I)I" } : Jvm.MethodName)) ∈ lw_all := lw_g (lw_at lw_m2 126 rfl) rfl
theorem q415 : (Jvm.Cond.privateMethod ({ cls := "EggLights", name := "act", desc := "(C[I)I" } : Jvm.MethodName)) ∈ lw_tbl := lw_at lw_m2 127 rfl
theorem q416 : (Jvm.Cond.instanceMethod ({ cls := "EggLights", name := "act", desc := "(C[I)I" } : Jvm.MethodName)) ∈ lw_all := lw_g (lw_at lw_m2 128 rfl) rfl
theorem q417 : (Jvm.Cond.codeWith ({ cls := "EggLights", name := "act", desc := "(C[I)I" } : Jvm.MethodName) prog_1_method_10_code (5 : Nat) (Option.some Jvm.ClassFile.FieldType.int) [((12 : Nat), (23 : Nat), (24 : Nat), (13 : Nat))]) ∈ lw_all := lw_g (lw_at lw_m2 129 rfl) rfl
theorem q418 : (Jvm.Cond.classLink "EggLights" (13 : Nat) "EggLights$Refused") ∈ lw_all := lw_g (lw_at lw_m2 130 rfl) rfl
theorem q419 : (Jvm.Cond.methodLink "EggLights" (88 : Nat) ({ cls := "EggLights$Machine", name := "<init>", desc := "(LEggLights$Machine;)V" } : Jvm.MethodName)) ∈ lw_all := lw_g (lw_at lw_m2 131 rfl) rfl
theorem q909 : (Jvm.Cond.fieldLinkNest "EggLights" (170 : Nat) "EggLights$Egg" "weight" "I" "EggLights") ∈ lw_tbl := lw_at lw_m4 141 rfl
theorem q912 : (Jvm.Cond.fieldLinkNest "EggLights" (173 : Nat) "EggLights$Egg" "shell" "I" "EggLights") ∈ lw_tbl := lw_at lw_m4 144 rfl
theorem q915 : (Jvm.Cond.fieldLinkNest "EggLights" (178 : Nat) "EggLights$Egg" "yolks" "I" "EggLights") ∈ lw_tbl := lw_at lw_m4 147 rfl
theorem q918 : (Jvm.Cond.fieldLinkNest "EggLights" (185 : Nat) "EggLights$Egg" "crack" "I" "EggLights") ∈ lw_tbl := lw_at lw_m4 150 rfl
theorem q921 : (Jvm.Cond.fieldLinkNest "EggLights" (176 : Nat) "EggLights$Egg" "spots" "I" "EggLights") ∈ lw_tbl := lw_at lw_m4 153 rfl
theorem q924 : (Jvm.Cond.fieldLinkNest "EggLights" (192 : Nat) "EggLights$Egg" "tries" "I" "EggLights") ∈ lw_tbl := lw_at lw_m4 156 rfl
theorem q973 : (Jvm.Cond.methodLink "EggLights" (91 : Nat) ({ cls := "EggLights", name := "done", desc := "(LEggLights$Machine;C[I)I" } : Jvm.MethodName)) ∈ lw_all := lw_g (lw_at lw_m4 205 rfl) rfl
theorem q974 : (Jvm.Cond.static ({ cls := "EggLights", name := "done", desc := "(LEggLights$Machine;C[I)I" } : Jvm.MethodName)) ∈ lw_all := lw_g (lw_at lw_m4 206 rfl) rfl
theorem q975 : (Jvm.Cond.code ({ cls := "EggLights", name := "done", desc := "(LEggLights$Machine;C[I)I" } : Jvm.MethodName) prog_1_method_9_code (3 : Nat) (Option.some Jvm.ClassFile.FieldType.int)) ∈ lw_all := lw_g (lw_at lw_m4 207 rfl) rfl
theorem q976 : (Jvm.Cond.classLink "EggLights" (59 : Nat) "EggLights$Egg") ∈ lw_all := lw_g (lw_at lw_m4 208 rfl) rfl
theorem q977 : (Jvm.Cond.methodLink "EggLights" (61 : Nat) ({ cls := "EggLights$Egg", name := "<init>", desc := "(IIIII)V" } : Jvm.MethodName)) ∈ lw_all := lw_g (lw_at lw_m4 209 rfl) rfl
theorem q978 : (Jvm.Cond.methodLink "EggLights" (64 : Nat) ({ cls := "EggLights$Machine", name := "puts", desc := "(ILEggLights$Egg;)I" } : Jvm.MethodName)) ∈ lw_all := lw_g (lw_at lw_m4 210 rfl) rfl
theorem q983 : (Jvm.Cond.static ({ cls := "EggLights", name := "isLane", desc := "(I)Z" } : Jvm.MethodName)) ∈ lw_all := lw_g (lw_at lw_m4 215 rfl) rfl
theorem q984 : (Jvm.Cond.code ({ cls := "EggLights", name := "isLane", desc := "(I)Z" } : Jvm.MethodName) prog_1_method_2_code (1 : Nat) (Option.some Jvm.ClassFile.FieldType.boolean)) ∈ lw_all := lw_g (lw_at lw_m4 216 rfl) rfl
theorem q985 : (Jvm.Cond.constantLong "EggLights" (3 : Nat) (3 : Int64)) ∈ lw_all := lw_g (lw_at lw_m4 217 rfl) rfl
theorem q986 : (Jvm.Cond.methodLink "EggLights" (5 : Nat) ({ cls := "EggLights", name := "isBetween", desc := "(JJJ)Z" } : Jvm.MethodName)) ∈ lw_all := lw_g (lw_at lw_m4 218 rfl) rfl
theorem q987 : (Jvm.Cond.static ({ cls := "EggLights", name := "isBetween", desc := "(JJJ)Z" } : Jvm.MethodName)) ∈ lw_all := lw_g (lw_at lw_m4 219 rfl) rfl
theorem q988 : (Jvm.Cond.code ({ cls := "EggLights", name := "isBetween", desc := "(JJJ)Z" } : Jvm.MethodName) prog_1_method_1_code (6 : Nat) (Option.some Jvm.ClassFile.FieldType.boolean)) ∈ lw_all := lw_g (lw_at lw_m4 220 rfl) rfl
theorem q994 : (Jvm.Cond.static ({ cls := "EggLights", name := "isSpots", desc := "(I)Z" } : Jvm.MethodName)) ∈ lw_all := lw_g (lw_at lw_m4 226 rfl) rfl
theorem q995 : (Jvm.Cond.code ({ cls := "EggLights", name := "isSpots", desc := "(I)Z" } : Jvm.MethodName) prog_1_method_4_code (1 : Nat) (Option.some Jvm.ClassFile.FieldType.boolean)) ∈ lw_all := lw_g (lw_at lw_m4 227 rfl) rfl
theorem q996 : (Jvm.Cond.constantLong "EggLights" (11 : Nat) (255 : Int64)) ∈ lw_all := lw_g (lw_at lw_m4 228 rfl) rfl
theorem q1002 : (Jvm.Cond.static ({ cls := "EggLights", name := "need", desc := "(ZI)V" } : Jvm.MethodName)) ∈ lw_all := lw_g (lw_at lw_m4 234 rfl) rfl
theorem q1003 : (Jvm.Cond.code ({ cls := "EggLights", name := "need", desc := "(ZI)V" } : Jvm.MethodName) prog_1_method_5_code (2 : Nat) (Option.none : Option Jvm.ClassFile.FieldType)) ∈ lw_all := lw_g (lw_at lw_m4 235 rfl) rfl
theorem q1012 : (Jvm.Cond.methodLink "EggLights" (15 : Nat) ({ cls := "EggLights$Refused", name := "<init>", desc := "(I)V" } : Jvm.MethodName)) ∈ lw_all := lw_g (lw_at lw_m5 4 rfl) rfl
theorem q1024 : (Jvm.Cond.fieldLinkNest "EggLights" (99 : Nat) "EggLights$Refused" "code" "I" "EggLights") ∈ lw_tbl := lw_at lw_m5 16 rfl
theorem q1032 : (Jvm.Cond.methodLink "EggLights" (68 : Nat) ({ cls := "EggLights$Machine", name := "spots", desc := "(II)I" } : Jvm.MethodName)) ∈ lw_all := lw_g (lw_at lw_m5 24 rfl) rfl
theorem q1054 : (Jvm.Cond.methodLink "EggLights" (72 : Nat) ({ cls := "EggLights$Machine", name := "lights", desc := "(II)I" } : Jvm.MethodName)) ∈ lw_all := lw_g (lw_at lw_m5 46 rfl) rfl
theorem q1058 : (Jvm.Cond.methodLink "EggLights" (75 : Nat) ({ cls := "EggLights$Machine", name := "turns", desc := "(II)I" } : Jvm.MethodName)) ∈ lw_all := lw_g (lw_at lw_m5 50 rfl) rfl
theorem q1062 : (Jvm.Cond.methodLink "EggLights" (78 : Nat) ({ cls := "EggLights$Machine", name := "cleans", desc := "(I)I" } : Jvm.MethodName)) ∈ lw_all := lw_g (lw_at lw_m5 54 rfl) rfl
theorem q1066 : (Jvm.Cond.methodLink "EggLights" (82 : Nat) ({ cls := "EggLights$Machine", name := "runs", desc := "(I)I" } : Jvm.MethodName)) ∈ lw_all := lw_g (lw_at lw_m5 58 rfl) rfl
theorem q1205 : (Jvm.Cond.fieldLinkNest "EggLights" (226 : Nat) "EggLights$Entry" "tick" "I" "EggLights") ∈ lw_tbl := lw_at lw_m5 197 rfl
theorem q1207 : (Jvm.Cond.fieldLinkNest "EggLights" (229 : Nat) "EggLights$Entry" "lane" "I" "EggLights") ∈ lw_tbl := lw_at lw_m5 199 rfl
theorem q1209 : (Jvm.Cond.fieldLinkNest "EggLights" (232 : Nat) "EggLights$Entry" "weight" "I" "EggLights") ∈ lw_tbl := lw_at lw_m5 201 rfl
theorem q1211 : (Jvm.Cond.fieldLinkNest "EggLights" (233 : Nat) "EggLights$Entry" "grade" "I" "EggLights") ∈ lw_tbl := lw_at lw_m5 203 rfl
theorem q1213 : (Jvm.Cond.fieldLinkNest "EggLights" (236 : Nat) "EggLights$Entry" "isCracked" "Z" "EggLights") ∈ lw_tbl := lw_at lw_m5 205 rfl
theorem q1242 : (Jvm.Cond.static ({ cls := "EggLights", name := "price", desc := "(I)I" } : Jvm.MethodName)) ∈ lw_all := lw_g (lw_at lw_m5 234 rfl) rfl
theorem q1243 : (Jvm.Cond.code ({ cls := "EggLights", name := "price", desc := "(I)I" } : Jvm.MethodName) prog_1_method_6_code (1 : Nat) (Option.some Jvm.ClassFile.FieldType.int)) ∈ lw_all := lw_g (lw_at lw_m5 235 rfl) rfl
theorem q1263 : (Jvm.Cond.methodLink "EggLights" (85 : Nat) ({ cls := "EggLights$Machine", name := "setsTo", desc := "(II)I" } : Jvm.MethodName)) ∈ lw_all := lw_g (lw_at lw_m6 15 rfl) rfl
theorem q1270 : (Jvm.Cond.methodLink "EggLights" (95 : Nat) ({ cls := "EggLights", name := "changed", desc := "(LEggLights$Machine;I)I" } : Jvm.MethodName)) ∈ lw_all := lw_g (lw_at lw_m6 22 rfl) rfl
theorem q1271 : (Jvm.Cond.privateMethod ({ cls := "EggLights", name := "changed", desc := "(LEggLights$Machine;I)I" } : Jvm.MethodName)) ∈ lw_tbl := lw_at lw_m6 23 rfl
theorem q1272 : (Jvm.Cond.instanceMethod ({ cls := "EggLights", name := "changed", desc := "(LEggLights$Machine;I)I" } : Jvm.MethodName)) ∈ lw_all := lw_g (lw_at lw_m6 24 rfl) rfl
theorem q1273 : (Jvm.Cond.code ({ cls := "EggLights", name := "changed", desc := "(LEggLights$Machine;I)I" } : Jvm.MethodName) prog_1_method_8_code (3 : Nat) (Option.some Jvm.ClassFile.FieldType.int)) ∈ lw_all := lw_g (lw_at lw_m6 25 rfl) rfl
theorem q1274 : (Jvm.Cond.methodLink "EggLights" (47 : Nat) ({ cls := "java/util/ArrayDeque", name := "addLast", desc := "(Ljava/lang/Object;)V" } : Jvm.MethodName)) ∈ lw_all := lw_g (lw_at lw_m6 26 rfl) rfl
theorem q1293 : (Jvm.Cond.methodLink "EggLights" (51 : Nat) ({ cls := "java/util/ArrayDeque", name := "size", desc := "()I" } : Jvm.MethodName)) ∈ lw_all := lw_g (lw_at lw_m6 45 rfl) rfl
theorem q1294 : (Jvm.Cond.methodLink "EggLights" (55 : Nat) ({ cls := "java/util/ArrayDeque", name := "removeFirst", desc := "()Ljava/lang/Object;" } : Jvm.MethodName)) ∈ lw_all := lw_g (lw_at lw_m6 46 rfl) rfl
theorem q1306 : (Jvm.Cond.instanceMethod ({ cls := "EggLights", name := "stain", desc := "(II)I" } : Jvm.MethodName)) ∈ lw_all := lw_g (lw_at lw_m6 58 rfl) rfl
theorem q1307 : (Jvm.Cond.selects "EggLights" ({ cls := "EggLights", name := "stain", desc := "(II)I" } : Jvm.MethodName) ({ cls := "EggLights", name := "stain", desc := "(II)I" } : Jvm.MethodName)) ∈ lw_all := lw_g (lw_at lw_m6 59 rfl) rfl
theorem q1308 : (Jvm.Cond.code ({ cls := "EggLights", name := "stain", desc := "(II)I" } : Jvm.MethodName) prog_1_method_12_code (3 : Nat) (Option.some Jvm.ClassFile.FieldType.int)) ∈ lw_all := lw_g (lw_at lw_m6 60 rfl) rfl
theorem q1310 : (Jvm.Cond.instanceMethod ({ cls := "EggLights", name := "light", desc := "(II)I" } : Jvm.MethodName)) ∈ lw_all := lw_g (lw_at lw_m6 62 rfl) rfl
theorem q1311 : (Jvm.Cond.selects "EggLights" ({ cls := "EggLights", name := "light", desc := "(II)I" } : Jvm.MethodName) ({ cls := "EggLights", name := "light", desc := "(II)I" } : Jvm.MethodName)) ∈ lw_all := lw_g (lw_at lw_m6 63 rfl) rfl
theorem q1312 : (Jvm.Cond.code ({ cls := "EggLights", name := "light", desc := "(II)I" } : Jvm.MethodName) prog_1_method_13_code (3 : Nat) (Option.some Jvm.ClassFile.FieldType.int)) ∈ lw_all := lw_g (lw_at lw_m6 64 rfl) rfl
theorem q1314 : (Jvm.Cond.instanceMethod ({ cls := "EggLights", name := "turn", desc := "(II)I" } : Jvm.MethodName)) ∈ lw_all := lw_g (lw_at lw_m6 66 rfl) rfl
theorem q1315 : (Jvm.Cond.selects "EggLights" ({ cls := "EggLights", name := "turn", desc := "(II)I" } : Jvm.MethodName) ({ cls := "EggLights", name := "turn", desc := "(II)I" } : Jvm.MethodName)) ∈ lw_all := lw_g (lw_at lw_m6 67 rfl) rfl
theorem q1316 : (Jvm.Cond.code ({ cls := "EggLights", name := "turn", desc := "(II)I" } : Jvm.MethodName) prog_1_method_14_code (3 : Nat) (Option.some Jvm.ClassFile.FieldType.int)) ∈ lw_all := lw_g (lw_at lw_m6 68 rfl) rfl
theorem q1318 : (Jvm.Cond.instanceMethod ({ cls := "EggLights", name := "clean", desc := "(I)I" } : Jvm.MethodName)) ∈ lw_all := lw_g (lw_at lw_m6 70 rfl) rfl
theorem q1319 : (Jvm.Cond.selects "EggLights" ({ cls := "EggLights", name := "clean", desc := "(I)I" } : Jvm.MethodName) ({ cls := "EggLights", name := "clean", desc := "(I)I" } : Jvm.MethodName)) ∈ lw_all := lw_g (lw_at lw_m6 71 rfl) rfl
theorem q1320 : (Jvm.Cond.code ({ cls := "EggLights", name := "clean", desc := "(I)I" } : Jvm.MethodName) prog_1_method_15_code (2 : Nat) (Option.some Jvm.ClassFile.FieldType.int)) ∈ lw_all := lw_g (lw_at lw_m6 72 rfl) rfl
theorem q1322 : (Jvm.Cond.instanceMethod ({ cls := "EggLights", name := "run", desc := "(I)I" } : Jvm.MethodName)) ∈ lw_all := lw_g (lw_at lw_m6 74 rfl) rfl
theorem q1323 : (Jvm.Cond.selects "EggLights" ({ cls := "EggLights", name := "run", desc := "(I)I" } : Jvm.MethodName) ({ cls := "EggLights", name := "run", desc := "(I)I" } : Jvm.MethodName)) ∈ lw_all := lw_g (lw_at lw_m6 75 rfl) rfl
theorem q1324 : (Jvm.Cond.code ({ cls := "EggLights", name := "run", desc := "(I)I" } : Jvm.MethodName) prog_1_method_16_code (2 : Nat) (Option.some Jvm.ClassFile.FieldType.int)) ∈ lw_all := lw_g (lw_at lw_m6 76 rfl) rfl
theorem q1326 : (Jvm.Cond.instanceMethod ({ cls := "EggLights", name := "set", desc := "(II)I" } : Jvm.MethodName)) ∈ lw_all := lw_g (lw_at lw_m6 78 rfl) rfl
theorem q1327 : (Jvm.Cond.selects "EggLights" ({ cls := "EggLights", name := "set", desc := "(II)I" } : Jvm.MethodName) ({ cls := "EggLights", name := "set", desc := "(II)I" } : Jvm.MethodName)) ∈ lw_all := lw_g (lw_at lw_m6 79 rfl) rfl
theorem q1328 : (Jvm.Cond.code ({ cls := "EggLights", name := "set", desc := "(II)I" } : Jvm.MethodName) prog_1_method_17_code (3 : Nat) (Option.some Jvm.ClassFile.FieldType.int)) ∈ lw_all := lw_g (lw_at lw_m6 80 rfl) rfl
theorem q1330 : (Jvm.Cond.instanceMethod ({ cls := "EggLights", name := "lane", desc := "(II)I" } : Jvm.MethodName)) ∈ lw_all := lw_g (lw_at lw_m6 82 rfl) rfl
theorem q1331 : (Jvm.Cond.selects "EggLights" ({ cls := "EggLights", name := "lane", desc := "(II)I" } : Jvm.MethodName) ({ cls := "EggLights", name := "lane", desc := "(II)I" } : Jvm.MethodName)) ∈ lw_all := lw_g (lw_at lw_m6 83 rfl) rfl
theorem q1332 : (Jvm.Cond.code ({ cls := "EggLights", name := "lane", desc := "(II)I" } : Jvm.MethodName) prog_1_method_20_code (4 : Nat) (Option.some Jvm.ClassFile.FieldType.int)) ∈ lw_all := lw_g (lw_at lw_m6 84 rfl) rfl
theorem q1333 : (Jvm.Cond.methodLink "EggLights" (117 : Nat) ({ cls := "EggLights", name := "isLane", desc := "(I)Z" } : Jvm.MethodName)) ∈ lw_all := lw_g (lw_at lw_m6 85 rfl) rfl
theorem q1334 : (Jvm.Cond.constantLong "EggLights" (121 : Nat) (8 : Int64)) ∈ lw_all := lw_g (lw_at lw_m6 86 rfl) rfl
theorem q1335 : (Jvm.Cond.constant "EggLights" (123 : Nat) (-1000001 : Int32)) ∈ lw_all := lw_g (lw_at lw_m6 87 rfl) rfl
theorem q1336 : (Jvm.Cond.methodLink "EggLights" (128 : Nat) ({ cls := "java/util/ArrayList", name := "get", desc := "(I)Ljava/lang/Object;" } : Jvm.MethodName)) ∈ lw_all := lw_g (lw_at lw_m6 88 rfl) rfl
theorem q1337 : (Jvm.Cond.classLink "EggLights" (134 : Nat) "EggLights$Lane") ∈ lw_all := lw_g (lw_at lw_m6 89 rfl) rfl
theorem q1338 : (Jvm.Cond.methodLink "EggLights" (140 : Nat) ({ cls := "java/util/LinkedList", name := "size", desc := "()I" } : Jvm.MethodName)) ∈ lw_all := lw_g (lw_at lw_m6 90 rfl) rfl
theorem q1339 : (Jvm.Cond.methodLink "EggLights" (152 : Nat) ({ cls := "EggLights$Lane", name := "seen", desc := "(I)I" } : Jvm.MethodName)) ∈ lw_all := lw_g (lw_at lw_m6 91 rfl) rfl
theorem q1340 : (Jvm.Cond.methodLink "EggLights" (155 : Nat) ({ cls := "java/lang/Integer", name := "bitCount", desc := "(I)I" } : Jvm.MethodName)) ∈ lw_all := lw_g (lw_at lw_m6 92 rfl) rfl
theorem q1341 : (Jvm.Cond.methodLink "EggLights" (160 : Nat) ({ cls := "EggLights", name := "byDividing", desc := "(I)I" } : Jvm.MethodName)) ∈ lw_all := lw_g (lw_at lw_m6 93 rfl) rfl
theorem q1342 : (Jvm.Cond.privateMethod ({ cls := "EggLights", name := "byDividing", desc := "(I)I" } : Jvm.MethodName)) ∈ lw_tbl := lw_at lw_m6 94 rfl
theorem q1343 : (Jvm.Cond.instanceMethod ({ cls := "EggLights", name := "byDividing", desc := "(I)I" } : Jvm.MethodName)) ∈ lw_all := lw_g (lw_at lw_m6 95 rfl) rfl
theorem q1344 : (Jvm.Cond.code ({ cls := "EggLights", name := "byDividing", desc := "(I)I" } : Jvm.MethodName) prog_1_method_19_code (3 : Nat) (Option.some Jvm.ClassFile.FieldType.int)) ∈ lw_all := lw_g (lw_at lw_m6 96 rfl) rfl
theorem q1345 : (Jvm.Cond.methodLink "EggLights" (112 : Nat) ({ cls := "java/lang/Math", name := "min", desc := "(II)I" } : Jvm.MethodName)) ∈ lw_all := lw_g (lw_at lw_m6 97 rfl) rfl
theorem q1347 : (Jvm.Cond.instanceMethod ({ cls := "EggLights", name := "eggOf", desc := "(III)I" } : Jvm.MethodName)) ∈ lw_all := lw_g (lw_at lw_m6 99 rfl) rfl
theorem q1348 : (Jvm.Cond.selects "EggLights" ({ cls := "EggLights", name := "eggOf", desc := "(III)I" } : Jvm.MethodName) ({ cls := "EggLights", name := "eggOf", desc := "(III)I" } : Jvm.MethodName)) ∈ lw_all := lw_g (lw_at lw_m6 100 rfl) rfl
theorem q1349 : (Jvm.Cond.code ({ cls := "EggLights", name := "eggOf", desc := "(III)I" } : Jvm.MethodName) prog_1_method_21_code (6 : Nat) (Option.some Jvm.ClassFile.FieldType.int)) ∈ lw_all := lw_g (lw_at lw_m6 101 rfl) rfl
theorem q1350 : (Jvm.Cond.constantLong "EggLights" (9 : Nat) (5 : Int64)) ∈ lw_all := lw_g (lw_at lw_m6 102 rfl) rfl
theorem q1351 : (Jvm.Cond.constant "EggLights" (107 : Nat) (-1000004 : Int32)) ∈ lw_all := lw_g (lw_at lw_m6 103 rfl) rfl
theorem q1352 : (Jvm.Cond.methodLink "EggLights" (169 : Nat) ({ cls := "java/util/LinkedList", name := "get", desc := "(I)Ljava/lang/Object;" } : Jvm.MethodName)) ∈ lw_all := lw_g (lw_at lw_m6 104 rfl) rfl
theorem q1353 : (Jvm.Cond.methodLink "EggLights" (181 : Nat) ({ cls := "EggLights$Egg", name := "isCracked", desc := "()Z" } : Jvm.MethodName)) ∈ lw_all := lw_g (lw_at lw_m6 105 rfl) rfl
theorem q1354 : (Jvm.Cond.methodLink "EggLights" (188 : Nat) ({ cls := "EggLights", name := "orNotFound", desc := "(ZI)I" } : Jvm.MethodName)) ∈ lw_all := lw_g (lw_at lw_m6 106 rfl) rfl
theorem q1355 : (Jvm.Cond.static ({ cls := "EggLights", name := "orNotFound", desc := "(ZI)I" } : Jvm.MethodName)) ∈ lw_all := lw_g (lw_at lw_m6 107 rfl) rfl
theorem q1356 : (Jvm.Cond.code ({ cls := "EggLights", name := "orNotFound", desc := "(ZI)I" } : Jvm.MethodName) prog_1_method_18_code (2 : Nat) (Option.some Jvm.ClassFile.FieldType.int)) ∈ lw_all := lw_g (lw_at lw_m6 108 rfl) rfl
theorem q1358 : (Jvm.Cond.instanceMethod ({ cls := "EggLights", name := "crate", desc := "(II)I" } : Jvm.MethodName)) ∈ lw_all := lw_g (lw_at lw_m6 110 rfl) rfl
theorem q1359 : (Jvm.Cond.selects "EggLights" ({ cls := "EggLights", name := "crate", desc := "(II)I" } : Jvm.MethodName) ({ cls := "EggLights", name := "crate", desc := "(II)I" } : Jvm.MethodName)) ∈ lw_all := lw_g (lw_at lw_m6 111 rfl) rfl
theorem q1360 : (Jvm.Cond.code ({ cls := "EggLights", name := "crate", desc := "(II)I" } : Jvm.MethodName) prog_1_method_22_code (4 : Nat) (Option.some Jvm.ClassFile.FieldType.int)) ∈ lw_all := lw_g (lw_at lw_m6 112 rfl) rfl
theorem q1361 : (Jvm.Cond.methodLink "EggLights" (195 : Nat) ({ cls := "EggLights", name := "isGrade", desc := "(I)Z" } : Jvm.MethodName)) ∈ lw_all := lw_g (lw_at lw_m6 113 rfl) rfl
theorem q1362 : (Jvm.Cond.static ({ cls := "EggLights", name := "isGrade", desc := "(I)Z" } : Jvm.MethodName)) ∈ lw_all := lw_g (lw_at lw_m6 114 rfl) rfl
theorem q1363 : (Jvm.Cond.code ({ cls := "EggLights", name := "isGrade", desc := "(I)Z" } : Jvm.MethodName) prog_1_method_3_code (1 : Nat) (Option.some Jvm.ClassFile.FieldType.boolean)) ∈ lw_all := lw_g (lw_at lw_m6 115 rfl) rfl
theorem q1364 : (Jvm.Cond.classLink "EggLights" (201 : Nat) "EggLights$Crate") ∈ lw_all := lw_g (lw_at lw_m6 116 rfl) rfl
theorem q1365 : (Jvm.Cond.methodLink "EggLights" (213 : Nat) ({ cls := "EggLights", name := "price", desc := "(I)I" } : Jvm.MethodName)) ∈ lw_all := lw_g (lw_at lw_m6 117 rfl) rfl
theorem q1367 : (Jvm.Cond.instanceMethod ({ cls := "EggLights", name := "book", desc := "(II)I" } : Jvm.MethodName)) ∈ lw_all := lw_g (lw_at lw_m6 119 rfl) rfl
theorem q1368 : (Jvm.Cond.selects "EggLights" ({ cls := "EggLights", name := "book", desc := "(II)I" } : Jvm.MethodName) ({ cls := "EggLights", name := "book", desc := "(II)I" } : Jvm.MethodName)) ∈ lw_all := lw_g (lw_at lw_m6 120 rfl) rfl
theorem q1369 : (Jvm.Cond.code ({ cls := "EggLights", name := "book", desc := "(II)I" } : Jvm.MethodName) prog_1_method_23_code (4 : Nat) (Option.some Jvm.ClassFile.FieldType.int)) ∈ lw_all := lw_g (lw_at lw_m6 121 rfl) rfl
theorem q1370 : (Jvm.Cond.constantLong "EggLights" (219 : Nat) (4 : Int64)) ∈ lw_all := lw_g (lw_at lw_m6 122 rfl) rfl
theorem q1371 : (Jvm.Cond.classLink "EggLights" (224 : Nat) "EggLights$Entry") ∈ lw_all := lw_g (lw_at lw_m6 123 rfl) rfl
theorem q1373 : (Jvm.Cond.instanceMethod ({ cls := "EggLights", name := "why", desc := "(I)I" } : Jvm.MethodName)) ∈ lw_all := lw_g (lw_at lw_m6 125 rfl) rfl
theorem q1374 : (Jvm.Cond.selects "EggLights" ({ cls := "EggLights", name := "why", desc := "(I)I" } : Jvm.MethodName) ({ cls := "EggLights", name := "why", desc := "(I)I" } : Jvm.MethodName)) ∈ lw_all := lw_g (lw_at lw_m6 126 rfl) rfl
theorem q1375 : (Jvm.Cond.codeWith ({ cls := "EggLights", name := "why", desc := "(I)I" } : Jvm.MethodName) prog_1_method_24_code (3 : Nat) (Option.some Jvm.ClassFile.FieldType.int) [((10 : Nat), (36 : Nat), (37 : Nat), (247 : Nat))]) ∈ lw_all := lw_g (lw_at lw_m6 127 rfl) rfl
theorem q1376 : (Jvm.Cond.classLink "EggLights" (247 : Nat) "EggLights$Ungraded") ∈ lw_all := lw_g (lw_at lw_m6 128 rfl) rfl
theorem q1377 : (Jvm.Cond.methodLink "EggLights" (239 : Nat) ({ cls := "EggLights$Lane", name := "alone", desc := "()LEggLights$Lane;" } : Jvm.MethodName)) ∈ lw_all := lw_g (lw_at lw_m6 129 rfl) rfl
theorem q1384 : (Jvm.Cond.methodLink "EggLights" (243 : Nat) ({ cls := "EggLights$Machine", name := "gradeOf", desc := "(LEggLights$Lane;)I" } : Jvm.MethodName)) ∈ lw_all := lw_g (lw_at lw_m6 136 rfl) rfl
theorem q1385 : (Jvm.Cond.methodLink "EggLights" (249 : Nat) ({ cls := "EggLights$Ungraded", name := "reason", desc := "()I" } : Jvm.MethodName)) ∈ lw_all := lw_g (lw_at lw_m6 137 rfl) rfl
theorem q1387 : (Jvm.Cond.instanceMethod ({ cls := "EggLights", name := "grade", desc := "(I)I" } : Jvm.MethodName)) ∈ lw_all := lw_g (lw_at lw_m6 139 rfl) rfl
theorem q1388 : (Jvm.Cond.selects "EggLights" ({ cls := "EggLights", name := "grade", desc := "(I)I" } : Jvm.MethodName) ({ cls := "EggLights", name := "grade", desc := "(I)I" } : Jvm.MethodName)) ∈ lw_all := lw_g (lw_at lw_m6 140 rfl) rfl
theorem q1389 : (Jvm.Cond.codeWith ({ cls := "EggLights", name := "grade", desc := "(I)I" } : Jvm.MethodName) prog_1_method_25_code (3 : Nat) (Option.some Jvm.ClassFile.FieldType.int) [((10 : Nat), (34 : Nat), (35 : Nat), (247 : Nat))]) ∈ lw_all := lw_g (lw_at lw_m6 141 rfl) rfl
theorem q1390 : (Jvm.Cond.constant "EggLights" (252 : Nat) (-1000002 : Int32)) ∈ lw_all := lw_g (lw_at lw_m6 142 rfl) rfl
theorem q1392 : (Jvm.Cond.instanceMethod ({ cls := "EggLights", name := "bestTurn", desc := "(I)I" } : Jvm.MethodName)) ∈ lw_all := lw_g (lw_at lw_m6 144 rfl) rfl
theorem q1393 : (Jvm.Cond.selects "EggLights" ({ cls := "EggLights", name := "bestTurn", desc := "(I)I" } : Jvm.MethodName) ({ cls := "EggLights", name := "bestTurn", desc := "(I)I" } : Jvm.MethodName)) ∈ lw_all := lw_g (lw_at lw_m6 145 rfl) rfl
theorem q1394 : (Jvm.Cond.code ({ cls := "EggLights", name := "bestTurn", desc := "(I)I" } : Jvm.MethodName) prog_1_method_27_code (7 : Nat) (Option.some Jvm.ClassFile.FieldType.int)) ∈ lw_all := lw_g (lw_at lw_m6 146 rfl) rfl
theorem q1395 : (Jvm.Cond.methodLink "EggLights" (262 : Nat) ({ cls := "java/util/LinkedList", name := "isEmpty", desc := "()Z" } : Jvm.MethodName)) ∈ lw_all := lw_g (lw_at lw_m6 147 rfl) rfl
theorem q1396 : (Jvm.Cond.methodLink "EggLights" (265 : Nat) ({ cls := "java/util/LinkedList", name := "getFirst", desc := "()Ljava/lang/Object;" } : Jvm.MethodName)) ∈ lw_all := lw_g (lw_at lw_m6 148 rfl) rfl
theorem q1397 : (Jvm.Cond.methodLink "EggLights" (257 : Nat) ({ cls := "java/lang/Math", name := "max", desc := "(II)I" } : Jvm.MethodName)) ∈ lw_all := lw_g (lw_at lw_m6 149 rfl) rfl
theorem q1399 : (Jvm.Cond.instanceMethod ({ cls := "EggLights", name := "leastLight", desc := "(I)I" } : Jvm.MethodName)) ∈ lw_all := lw_g (lw_at lw_m6 151 rfl) rfl
theorem q1400 : (Jvm.Cond.selects "EggLights" ({ cls := "EggLights", name := "leastLight", desc := "(I)I" } : Jvm.MethodName) ({ cls := "EggLights", name := "leastLight", desc := "(I)I" } : Jvm.MethodName)) ∈ lw_all := lw_g (lw_at lw_m6 152 rfl) rfl
theorem q1401 : (Jvm.Cond.code ({ cls := "EggLights", name := "leastLight", desc := "(I)I" } : Jvm.MethodName) prog_1_method_28_code (5 : Nat) (Option.some Jvm.ClassFile.FieldType.int)) ∈ lw_all := lw_g (lw_at lw_m6 153 rfl) rfl
theorem q1402 : (Jvm.Cond.methodLink "EggLights" (268 : Nat) ({ cls := "java/util/LinkedList", name := "iterator", desc := "()Ljava/util/Iterator;" } : Jvm.MethodName)) ∈ lw_all := lw_g (lw_at lw_m6 154 rfl) rfl
theorem q1403 : (Jvm.Cond.interfaceEntry "EggLights" (272 : Nat)) ∈ lw_tbl := lw_at lw_m6 155 rfl
theorem q1404 : (Jvm.Cond.methodLink "EggLights" (272 : Nat) ({ cls := "java/util/Iterator", name := "hasNext", desc := "()Z" } : Jvm.MethodName)) ∈ lw_all := lw_g (lw_at lw_m6 156 rfl) rfl
theorem q1405 : (Jvm.Cond.interfaceEntry "EggLights" (277 : Nat)) ∈ lw_tbl := lw_at lw_m6 157 rfl
theorem q1406 : (Jvm.Cond.methodLink "EggLights" (277 : Nat) ({ cls := "java/util/Iterator", name := "next", desc := "()Ljava/lang/Object;" } : Jvm.MethodName)) ∈ lw_all := lw_g (lw_at lw_m6 158 rfl) rfl
theorem q1408 : (Jvm.Cond.instanceMethod ({ cls := "EggLights", name := "bestLight", desc := "(I)I" } : Jvm.MethodName)) ∈ lw_all := lw_g (lw_at lw_m6 160 rfl) rfl
theorem q1409 : (Jvm.Cond.selects "EggLights" ({ cls := "EggLights", name := "bestLight", desc := "(I)I" } : Jvm.MethodName) ({ cls := "EggLights", name := "bestLight", desc := "(I)I" } : Jvm.MethodName)) ∈ lw_all := lw_g (lw_at lw_m6 161 rfl) rfl
theorem q1410 : (Jvm.Cond.code ({ cls := "EggLights", name := "bestLight", desc := "(I)I" } : Jvm.MethodName) prog_1_method_29_code (3 : Nat) (Option.some Jvm.ClassFile.FieldType.int)) ∈ lw_all := lw_g (lw_at lw_m6 162 rfl) rfl
theorem q1411 : (Jvm.Cond.methodLink "EggLights" (280 : Nat) ({ cls := "EggLights$Machine", name := "stained", desc := "(LEggLights$Lane;)LEggLights$Egg;" } : Jvm.MethodName)) ∈ lw_all := lw_g (lw_at lw_m6 163 rfl) rfl
theorem q1412 : (Jvm.Cond.methodLink "EggLights" (284 : Nat) ({ cls := "EggLights", name := "bestOf", desc := "(LEggLights$Lane;LEggLights$Egg;)I" } : Jvm.MethodName)) ∈ lw_all := lw_g (lw_at lw_m6 164 rfl) rfl
theorem q1413 : (Jvm.Cond.privateMethod ({ cls := "EggLights", name := "bestOf", desc := "(LEggLights$Lane;LEggLights$Egg;)I" } : Jvm.MethodName)) ∈ lw_tbl := lw_at lw_m6 165 rfl
theorem q1414 : (Jvm.Cond.instanceMethod ({ cls := "EggLights", name := "bestOf", desc := "(LEggLights$Lane;LEggLights$Egg;)I" } : Jvm.MethodName)) ∈ lw_all := lw_g (lw_at lw_m6 166 rfl) rfl
theorem q1415 : (Jvm.Cond.codeWith ({ cls := "EggLights", name := "bestOf", desc := "(LEggLights$Lane;LEggLights$Egg;)I" } : Jvm.MethodName) prog_1_method_26_code (7 : Nat) (Option.some Jvm.ClassFile.FieldType.int) [((6 : Nat), (68 : Nat), (71 : Nat), (260 : Nat))]) ∈ lw_all := lw_g (lw_at lw_m6 167 rfl) rfl
theorem q1416 : (Jvm.Cond.classLink "EggLights" (260 : Nat) "EggLights$Wrong") ∈ lw_all := lw_g (lw_at lw_m6 168 rfl) rfl
theorem q1417 : (Jvm.Cond.methodLink "EggLights" (253 : Nat) ({ cls := "EggLights$Machine", name := "lit", desc := "(LEggLights$Lane;LEggLights$Egg;)I" } : Jvm.MethodName)) ∈ lw_all := lw_g (lw_at lw_m6 169 rfl) rfl
theorem q1419 : (Jvm.Cond.instanceMethod ({ cls := "EggLights", name := "ifRun", desc := "(II)I" } : Jvm.MethodName)) ∈ lw_all := lw_g (lw_at lw_m6 171 rfl) rfl
theorem q1420 : (Jvm.Cond.selects "EggLights" ({ cls := "EggLights", name := "ifRun", desc := "(II)I" } : Jvm.MethodName) ({ cls := "EggLights", name := "ifRun", desc := "(II)I" } : Jvm.MethodName)) ∈ lw_all := lw_g (lw_at lw_m6 172 rfl) rfl
theorem q1421 : (Jvm.Cond.code ({ cls := "EggLights", name := "ifRun", desc := "(II)I" } : Jvm.MethodName) prog_1_method_30_code (6 : Nat) (Option.some Jvm.ClassFile.FieldType.int)) ∈ lw_all := lw_g (lw_at lw_m6 173 rfl) rfl
theorem q1422 : (Jvm.Cond.constantLong "EggLights" (287 : Nat) (50 : Int64)) ∈ lw_all := lw_g (lw_at lw_m6 174 rfl) rfl
theorem q1423 : (Jvm.Cond.methodLink "EggLights" (289 : Nat) ({ cls := "EggLights$Machine", name := "tick", desc := "()I" } : Jvm.MethodName)) ∈ lw_all := lw_g (lw_at lw_m6 175 rfl) rfl
theorem q1424 : (Jvm.Cond.methodLink "EggLights" (294 : Nat) ({ cls := "EggLights$Machine", name := "cracked", desc := "()I" } : Jvm.MethodName)) ∈ lw_all := lw_g (lw_at lw_m6 176 rfl) rfl
theorem q1428 : (Jvm.Cond.methodLink "EggLights" (299 : Nat) ({ cls := "EggLights", name := "ofCrates", desc := "(LEggLights$Machine;I)I" } : Jvm.MethodName)) ∈ lw_all := lw_g (lw_at lw_m6 180 rfl) rfl
theorem q1429 : (Jvm.Cond.static ({ cls := "EggLights", name := "ofCrates", desc := "(LEggLights$Machine;I)I" } : Jvm.MethodName)) ∈ lw_all := lw_g (lw_at lw_m6 181 rfl) rfl
theorem q1430 : (Jvm.Cond.code ({ cls := "EggLights", name := "ofCrates", desc := "(LEggLights$Machine;I)I" } : Jvm.MethodName) prog_1_method_32_code (5 : Nat) (Option.some Jvm.ClassFile.FieldType.int)) ∈ lw_all := lw_g (lw_at lw_m6 182 rfl) rfl
theorem q1431 : (Jvm.Cond.methodLink "EggLights" (311 : Nat) ({ cls := "java/util/ArrayList", name := "iterator", desc := "()Ljava/util/Iterator;" } : Jvm.MethodName)) ∈ lw_all := lw_g (lw_at lw_m6 183 rfl) rfl
theorem q1433 : (Jvm.Cond.instanceMethod ({ cls := "EggLights", name := "mean", desc := "()I" } : Jvm.MethodName)) ∈ lw_all := lw_g (lw_at lw_m6 185 rfl) rfl
theorem q1434 : (Jvm.Cond.selects "EggLights" ({ cls := "EggLights", name := "mean", desc := "()I" } : Jvm.MethodName) ({ cls := "EggLights", name := "mean", desc := "()I" } : Jvm.MethodName)) ∈ lw_all := lw_g (lw_at lw_m6 186 rfl) rfl
theorem q1435 : (Jvm.Cond.code ({ cls := "EggLights", name := "mean", desc := "()I" } : Jvm.MethodName) prog_1_method_31_code (2 : Nat) (Option.some Jvm.ClassFile.FieldType.int)) ∈ lw_all := lw_g (lw_at lw_m6 187 rfl) rfl
theorem q1436 : (Jvm.Cond.methodLink "EggLights" (305 : Nat) ({ cls := "java/lang/Float", name := "floatToIntBits", desc := "(F)I" } : Jvm.MethodName)) ∈ lw_all := lw_g (lw_at lw_m6 188 rfl) rfl
theorem q1447 : (Jvm.Cond.instanceMethod ({ cls := "EggLights", name := "count", desc := "(I)I" } : Jvm.MethodName)) ∈ lw_all := lw_g (lw_at lw_m6 199 rfl) rfl
theorem q1448 : (Jvm.Cond.selects "EggLights" ({ cls := "EggLights", name := "count", desc := "(I)I" } : Jvm.MethodName) ({ cls := "EggLights", name := "count", desc := "(I)I" } : Jvm.MethodName)) ∈ lw_all := lw_g (lw_at lw_m6 200 rfl) rfl
theorem q1449 : (Jvm.Cond.code ({ cls := "EggLights", name := "count", desc := "(I)I" } : Jvm.MethodName) prog_1_method_33_code (2 : Nat) (Option.some Jvm.ClassFile.FieldType.int)) ∈ lw_all := lw_g (lw_at lw_m6 201 rfl) rfl
theorem q1450 : (Jvm.Cond.methodLink "EggLights" (318 : Nat) ({ cls := "EggLights$Machine", name := "inQueues", desc := "()I" } : Jvm.MethodName)) ∈ lw_all := lw_g (lw_at lw_m6 202 rfl) rfl
theorem q1454 : (Jvm.Cond.methodLink "EggLights" (324 : Nat) ({ cls := "java/lang/StringBuilder", name := "length", desc := "()I" } : Jvm.MethodName)) ∈ lw_all := lw_g (lw_at lw_m6 206 rfl) rfl
theorem q1455 : (Jvm.Cond.constantLong "EggLights" (327 : Nat) (20 : Int64)) ∈ lw_all := lw_g (lw_at lw_m6 207 rfl) rfl
theorem q1456 : (Jvm.Cond.constantLong "EggLights" (329 : Nat) (23 : Int64)) ∈ lw_all := lw_g (lw_at lw_m6 208 rfl) rfl
theorem q1458 : (Jvm.Cond.instanceMethod ({ cls := "EggLights", name := "undo", desc := "()I" } : Jvm.MethodName)) ∈ lw_all := lw_g (lw_at lw_m6 210 rfl) rfl
theorem q1459 : (Jvm.Cond.selects "EggLights" ({ cls := "EggLights", name := "undo", desc := "()I" } : Jvm.MethodName) ({ cls := "EggLights", name := "undo", desc := "()I" } : Jvm.MethodName)) ∈ lw_all := lw_g (lw_at lw_m6 211 rfl) rfl
theorem q1460 : (Jvm.Cond.code ({ cls := "EggLights", name := "undo", desc := "()I" } : Jvm.MethodName) prog_1_method_34_code (1 : Nat) (Option.some Jvm.ClassFile.FieldType.int)) ∈ lw_all := lw_g (lw_at lw_m6 212 rfl) rfl
theorem q1461 : (Jvm.Cond.methodLink "EggLights" (331 : Nat) ({ cls := "java/util/ArrayDeque", name := "isEmpty", desc := "()Z" } : Jvm.MethodName)) ∈ lw_all := lw_g (lw_at lw_m6 213 rfl) rfl
theorem q1465 : (Jvm.Cond.methodLink "EggLights" (332 : Nat) ({ cls := "java/util/ArrayDeque", name := "removeLast", desc := "()Ljava/lang/Object;" } : Jvm.MethodName)) ∈ lw_all := lw_g (lw_at lw_m6 217 rfl) rfl
theorem q1477 : (Jvm.Cond.instanceMethod ({ cls := "EggLights", name := "type", desc := "(I)I" } : Jvm.MethodName)) ∈ lw_all := lw_g (lw_at lw_m6 229 rfl) rfl
theorem q1478 : (Jvm.Cond.selects "EggLights" ({ cls := "EggLights", name := "type", desc := "(I)I" } : Jvm.MethodName) ({ cls := "EggLights", name := "type", desc := "(I)I" } : Jvm.MethodName)) ∈ lw_all := lw_g (lw_at lw_m6 230 rfl) rfl
theorem q1479 : (Jvm.Cond.code ({ cls := "EggLights", name := "type", desc := "(I)I" } : Jvm.MethodName) prog_1_method_35_code (2 : Nat) (Option.some Jvm.ClassFile.FieldType.int)) ∈ lw_all := lw_g (lw_at lw_m6 231 rfl) rfl
theorem q1480 : (Jvm.Cond.constantLong "EggLights" (335 : Nat) (32 : Int64)) ∈ lw_all := lw_g (lw_at lw_m6 232 rfl) rfl
theorem q1481 : (Jvm.Cond.constantLong "EggLights" (337 : Nat) (126 : Int64)) ∈ lw_all := lw_g (lw_at lw_m6 233 rfl) rfl
theorem q1482 : (Jvm.Cond.constant "EggLights" (339 : Nat) (-1000003 : Int32)) ∈ lw_all := lw_g (lw_at lw_m6 234 rfl) rfl
theorem q1483 : (Jvm.Cond.methodLink "EggLights" (340 : Nat) ({ cls := "java/lang/StringBuilder", name := "append", desc := "(C)Ljava/lang/StringBuilder;" } : Jvm.MethodName)) ∈ lw_all := lw_g (lw_at lw_m6 235 rfl) rfl
theorem q1504 : (Jvm.Cond.instanceMethod ({ cls := "EggLights", name := "clearText", desc := "()I" } : Jvm.MethodName)) ∈ lw_all := lw_g (lw_at lw_m7 16 rfl) rfl
theorem q1505 : (Jvm.Cond.selects "EggLights" ({ cls := "EggLights", name := "clearText", desc := "()I" } : Jvm.MethodName) ({ cls := "EggLights", name := "clearText", desc := "()I" } : Jvm.MethodName)) ∈ lw_all := lw_g (lw_at lw_m7 17 rfl) rfl
theorem q1506 : (Jvm.Cond.code ({ cls := "EggLights", name := "clearText", desc := "()I" } : Jvm.MethodName) prog_1_method_36_code (2 : Nat) (Option.some Jvm.ClassFile.FieldType.int)) ∈ lw_all := lw_g (lw_at lw_m7 18 rfl) rfl
theorem q1507 : (Jvm.Cond.methodLink "EggLights" (344 : Nat) ({ cls := "java/lang/StringBuilder", name := "setLength", desc := "(I)V" } : Jvm.MethodName)) ∈ lw_all := lw_g (lw_at lw_m7 19 rfl) rfl
theorem q1528 : (Jvm.Cond.instanceMethod ({ cls := "EggLights", name := "fault", desc := "(I)I" } : Jvm.MethodName)) ∈ lw_all := lw_g (lw_at lw_m7 40 rfl) rfl
theorem q1529 : (Jvm.Cond.selects "EggLights" ({ cls := "EggLights", name := "fault", desc := "(I)I" } : Jvm.MethodName) ({ cls := "EggLights", name := "fault", desc := "(I)I" } : Jvm.MethodName)) ∈ lw_all := lw_g (lw_at lw_m7 41 rfl) rfl
theorem q1530 : (Jvm.Cond.code ({ cls := "EggLights", name := "fault", desc := "(I)I" } : Jvm.MethodName) prog_1_method_37_code (3 : Nat) (Option.some Jvm.ClassFile.FieldType.int)) ∈ lw_all := lw_g (lw_at lw_m7 42 rfl) rfl
theorem q1531 : (Jvm.Cond.constantLong "EggLights" (347 : Nat) (2 : Int64)) ∈ lw_all := lw_g (lw_at lw_m7 43 rfl) rfl
theorem q1532 : (Jvm.Cond.classLink "EggLights" (349 : Nat) "EggLights$Reader") ∈ lw_all := lw_g (lw_at lw_m7 44 rfl) rfl
theorem q1534 : (Jvm.Cond.methodLinkNest "EggLights" (351 : Nat) ({ cls := "EggLights$Reader", name := "<init>", desc := "(LEggLights;)V" } : Jvm.MethodName) "EggLights") ∈ lw_tbl := lw_at lw_m7 46 rfl
theorem q1541 : (Jvm.Cond.fieldLinkNest "EggLights" (365 : Nat) "EggLights$Reader" "trial" "LEggLights$Machine;" "EggLights") ∈ lw_tbl := lw_at lw_m7 53 rfl
theorem q1545 : (Jvm.Cond.fieldLinkNest "EggLights" (357 : Nat) "EggLights$Reader" "begins" "I" "EggLights") ∈ lw_tbl := lw_at lw_m7 57 rfl
theorem q1547 : (Jvm.Cond.fieldLinkNest "EggLights" (360 : Nat) "EggLights$Reader" "reason" "I" "EggLights") ∈ lw_tbl := lw_at lw_m7 59 rfl
theorem q1549 : (Jvm.Cond.fieldLinkNest "EggLights" (362 : Nat) "EggLights$Reader" "cause" "I" "EggLights") ∈ lw_tbl := lw_at lw_m7 61 rfl
theorem q1551 : (Jvm.Cond.fieldLinkNest "EggLights" (368 : Nat) "EggLights$Reader" "many" "I" "EggLights") ∈ lw_tbl := lw_at lw_m7 63 rfl
theorem q1570 : (Jvm.Cond.methodLink "EggLights" (354 : Nat) ({ cls := "EggLights$Reader", name := "isWell", desc := "()Z" } : Jvm.MethodName)) ∈ lw_all := lw_g (lw_at lw_m7 82 rfl) rfl
theorem q1659 : (Jvm.Cond.instanceMethod ({ cls := "EggLights", name := "play", desc := "()I" } : Jvm.MethodName)) ∈ lw_all := lw_g (lw_at lw_m7 171 rfl) rfl
theorem q1660 : (Jvm.Cond.selects "EggLights" ({ cls := "EggLights", name := "play", desc := "()I" } : Jvm.MethodName) ({ cls := "EggLights", name := "play", desc := "()I" } : Jvm.MethodName)) ∈ lw_all := lw_g (lw_at lw_m7 172 rfl) rfl
theorem q1661 : (Jvm.Cond.code ({ cls := "EggLights", name := "play", desc := "()I" } : Jvm.MethodName) prog_1_method_38_code (2 : Nat) (Option.some Jvm.ClassFile.FieldType.int)) ∈ lw_all := lw_g (lw_at lw_m7 173 rfl) rfl
theorem q1959 : (Jvm.Cond.castable "EggLights" "java/lang/Object") ∈ lw_tbl := lw_at lw_m8 231 rfl
theorem in_X0 : ∀ w ∈ wsX00, w ∈ lw_all := lw_in wsX00 [403, 405, 407] (by decide +kernel) (by decide +kernel)

/-! EggLights$Machine -/
set_option maxRecDepth 100000
def RX1 : String := "EggLights$Machine"
def TX1 : u_T := fun k => match k with
  | 0 => ("EggLights$Machine", "lanes", "Ljava/util/ArrayList;", true)
  | 1 => ("EggLights$Machine", "crates", "Ljava/util/ArrayList;", true)
  | 2 => ("EggLights$Machine", "book", "Ljava/util/LinkedList;", true)
  | 3 => ("EggLights$Machine", "settings", "[I", true)
  | 4 => ("EggLights$Machine", "ticks", "I", false)
  | 5 => ("EggLights$Machine", "came", "I", false)
  | 6 => ("EggLights$Machine", "dark", "I", false)
  | 7 => ("EggLights$Machine", "coins", "I", false)
  | 8 => ("EggLights$Machine", "weights", "I", false)
  | _ => ("EggLights$Machine", "leaking", "I", false)
def tyX1 : Nat → FieldType := fun k => match k with
  | 0 => .object "java/util/ArrayList"
  | 1 => .object "java/util/ArrayList"
  | 2 => .object "java/util/LinkedList"
  | 3 => .array .int
  | 4 => .int
  | 5 => .int
  | 6 => .int
  | 7 => .int
  | 8 => .int
  | _ => .int
abbrev wsX10 : List Cond := u_ws RX1 TX1 10
theorem nmX1 : ∀ a, a < 10 → ∀ b, b < 10 → a ≠ b → (TX1 a).2.1 ≠ (TX1 b).2.1 := by decide +kernel
theorem tyX1_ok : ∀ k, k < 10 → parseFieldDescriptor (TX1 k).2.2.1 = some (tyX1 k) := by decide +kernel
abbrev cX1_init : ByteArray := prog_8_method_1_code
def yX1_init : MethodName := ⟨RX1, "<init>", "([I)V"⟩
def dkwX1_init_4 : List UInt8 := [182, 0, 37, 87, 132, 2, 1, 167, 255, 232, 177]
abbrev dktX1_init_4 : List UInt8 := dkwX1_init_4 ++ []
def dkwX1_init_3 : List UInt8 := [167, 255, 232, 3, 61, 28, 16, 6, 162, 0, 24, 42, 180, 0, 18, 187, 0, 41, 89, 183, 0, 43]
abbrev dktX1_init_3 : List UInt8 := dkwX1_init_3 ++ dktX1_init_4
def dkwX1_init_2 : List UInt8 := [162, 0, 25, 42, 180, 0, 12, 187, 0, 32, 89, 28, 183, 0, 34, 182, 0, 37, 87, 132, 2, 1]
abbrev dktX1_init_2 : List UInt8 := dkwX1_init_2 ++ dktX1_init_3
def dkwX1_init_1 : List UInt8 := [181, 0, 18, 42, 187, 0, 21, 89, 183, 0, 23, 181, 0, 24, 42, 43, 181, 0, 28, 3, 61, 28, 7]
abbrev dktX1_init_1 : List UInt8 := dkwX1_init_1 ++ dktX1_init_2
def dkwX1_init_0 : List UInt8 := [42, 183, 0, 3, 42, 187, 0, 9, 89, 183, 0, 11, 181, 0, 12, 42, 187, 0, 9, 89, 183, 0, 11]
abbrev dktX1_init_0 : List UInt8 := dkwX1_init_0 ++ dktX1_init_1
theorem dksX1_init_0 : cX1_init.data.toList.drop 0 = dktX1_init_0 := by decide +kernel
theorem dksX1_init_1 : cX1_init.data.toList.drop 23 = dktX1_init_1 := dk_seg dksX1_init_0 23 rfl rfl
theorem dksX1_init_2 : cX1_init.data.toList.drop 46 = dktX1_init_2 := dk_seg dksX1_init_1 23 rfl rfl
theorem dksX1_init_3 : cX1_init.data.toList.drop 68 = dktX1_init_3 := dk_seg dksX1_init_2 22 rfl rfl
theorem dksX1_init_4 : cX1_init.data.toList.drop 90 = dktX1_init_4 := dk_seg dksX1_init_3 22 rfl rfl
theorem dX1_init_0 : decode cX1_init 0 = .ok (.aload_n 0, 1) := dk_42 (dk_at dksX1_init_0 0 rfl rfl)
theorem dX1_init_1 : decode cX1_init 1 = .ok (.invokespecial 3, 3) := dk_183 0 3 (dk_at dksX1_init_0 1 rfl rfl)
theorem dX1_init_4 : decode cX1_init 4 = .ok (.aload_n 0, 1) := dk_42 (dk_at dksX1_init_0 4 rfl rfl)
theorem dX1_init_5 : decode cX1_init 5 = .ok (.new 9, 3) := dk_187 0 9 (dk_at dksX1_init_0 5 rfl rfl)
theorem dX1_init_8 : decode cX1_init 8 = .ok (.dup, 1) := dk_89 (dk_at dksX1_init_0 8 rfl rfl)
theorem dX1_init_9 : decode cX1_init 9 = .ok (.invokespecial 11, 3) := dk_183 0 11 (dk_at dksX1_init_0 9 rfl rfl)
theorem dX1_init_12 : decode cX1_init 12 = .ok (.putfield 12, 3) := dk_181 0 12 (dk_at dksX1_init_0 12 rfl rfl)
theorem dX1_init_15 : decode cX1_init 15 = .ok (.aload_n 0, 1) := dk_42 (dk_at dksX1_init_0 15 rfl rfl)
theorem dX1_init_16 : decode cX1_init 16 = .ok (.new 9, 3) := dk_187 0 9 (dk_at dksX1_init_0 16 rfl rfl)
theorem dX1_init_19 : decode cX1_init 19 = .ok (.dup, 1) := dk_89 (dk_at dksX1_init_0 19 rfl rfl)
theorem dX1_init_20 : decode cX1_init 20 = .ok (.invokespecial 11, 3) := dk_183 0 11 (dk_at dksX1_init_0 20 rfl rfl)
theorem dX1_init_23 : decode cX1_init 23 = .ok (.putfield 18, 3) := dk_181 0 18 (dk_at dksX1_init_1 0 rfl rfl)
theorem dX1_init_26 : decode cX1_init 26 = .ok (.aload_n 0, 1) := dk_42 (dk_at dksX1_init_1 3 rfl rfl)
theorem dX1_init_27 : decode cX1_init 27 = .ok (.new 21, 3) := dk_187 0 21 (dk_at dksX1_init_1 4 rfl rfl)
theorem dX1_init_30 : decode cX1_init 30 = .ok (.dup, 1) := dk_89 (dk_at dksX1_init_1 7 rfl rfl)
theorem dX1_init_31 : decode cX1_init 31 = .ok (.invokespecial 23, 3) := dk_183 0 23 (dk_at dksX1_init_1 8 rfl rfl)
theorem dX1_init_34 : decode cX1_init 34 = .ok (.putfield 24, 3) := dk_181 0 24 (dk_at dksX1_init_1 11 rfl rfl)
theorem dX1_init_37 : decode cX1_init 37 = .ok (.aload_n 0, 1) := dk_42 (dk_at dksX1_init_1 14 rfl rfl)
theorem dX1_init_38 : decode cX1_init 38 = .ok (.aload_n 1, 1) := dk_43 (dk_at dksX1_init_1 15 rfl rfl)
theorem dX1_init_39 : decode cX1_init 39 = .ok (.putfield 28, 3) := dk_181 0 28 (dk_at dksX1_init_1 16 rfl rfl)
theorem dX1_init_42 : decode cX1_init 42 = .ok (.iconst 0, 1) := dk_3 (dk_at dksX1_init_1 19 rfl rfl)
theorem dX1_init_43 : decode cX1_init 43 = .ok (.istore_n 2, 1) := dk_61 (dk_at dksX1_init_1 20 rfl rfl)
theorem dX1_init_44 : decode cX1_init 44 = .ok (.iload_n 2, 1) := dk_28 (dk_at dksX1_init_1 21 rfl rfl)
theorem dX1_init_45 : decode cX1_init 45 = .ok (.iconst 4, 1) := dk_7 (dk_at dksX1_init_1 22 rfl rfl)
theorem dX1_init_46 : decode cX1_init 46 = .ok (.if_icmp .ge 25, 3) := dk_162 0 25 (dk_at dksX1_init_2 0 rfl rfl)
theorem dX1_init_49 : decode cX1_init 49 = .ok (.aload_n 0, 1) := dk_42 (dk_at dksX1_init_2 3 rfl rfl)
theorem dX1_init_50 : decode cX1_init 50 = .ok (.getfield 12, 3) := dk_180 0 12 (dk_at dksX1_init_2 4 rfl rfl)
theorem dX1_init_53 : decode cX1_init 53 = .ok (.new 32, 3) := dk_187 0 32 (dk_at dksX1_init_2 7 rfl rfl)
theorem dX1_init_56 : decode cX1_init 56 = .ok (.dup, 1) := dk_89 (dk_at dksX1_init_2 10 rfl rfl)
theorem dX1_init_57 : decode cX1_init 57 = .ok (.iload_n 2, 1) := dk_28 (dk_at dksX1_init_2 11 rfl rfl)
theorem dX1_init_58 : decode cX1_init 58 = .ok (.invokespecial 34, 3) := dk_183 0 34 (dk_at dksX1_init_2 12 rfl rfl)
theorem dX1_init_61 : decode cX1_init 61 = .ok (.invokevirtual 37, 3) := dk_182 0 37 (dk_at dksX1_init_2 15 rfl rfl)
theorem dX1_init_64 : decode cX1_init 64 = .ok (.pop, 1) := dk_87 (dk_at dksX1_init_2 18 rfl rfl)
theorem dX1_init_65 : decode cX1_init 65 = .ok (.iinc 2 1, 3) := dk_132 2 1 (dk_at dksX1_init_2 19 rfl rfl)
theorem dX1_init_68 : decode cX1_init 68 = .ok (.goto (-24), 3) := dk_167 255 232 (dk_at dksX1_init_3 0 rfl rfl)
theorem dX1_init_71 : decode cX1_init 71 = .ok (.iconst 0, 1) := dk_3 (dk_at dksX1_init_3 3 rfl rfl)
theorem dX1_init_72 : decode cX1_init 72 = .ok (.istore_n 2, 1) := dk_61 (dk_at dksX1_init_3 4 rfl rfl)
theorem dX1_init_73 : decode cX1_init 73 = .ok (.iload_n 2, 1) := dk_28 (dk_at dksX1_init_3 5 rfl rfl)
theorem dX1_init_74 : decode cX1_init 74 = .ok (.bipush 6, 2) := dk_16 6 (dk_at dksX1_init_3 6 rfl rfl)
theorem dX1_init_76 : decode cX1_init 76 = .ok (.if_icmp .ge 24, 3) := dk_162 0 24 (dk_at dksX1_init_3 8 rfl rfl)
theorem dX1_init_79 : decode cX1_init 79 = .ok (.aload_n 0, 1) := dk_42 (dk_at dksX1_init_3 11 rfl rfl)
theorem dX1_init_80 : decode cX1_init 80 = .ok (.getfield 18, 3) := dk_180 0 18 (dk_at dksX1_init_3 12 rfl rfl)
theorem dX1_init_83 : decode cX1_init 83 = .ok (.new 41, 3) := dk_187 0 41 (dk_at dksX1_init_3 15 rfl rfl)
theorem dX1_init_86 : decode cX1_init 86 = .ok (.dup, 1) := dk_89 (dk_at dksX1_init_3 18 rfl rfl)
theorem dX1_init_87 : decode cX1_init 87 = .ok (.invokespecial 43, 3) := dk_183 0 43 (dk_at dksX1_init_3 19 rfl rfl)
theorem dX1_init_90 : decode cX1_init 90 = .ok (.invokevirtual 37, 3) := dk_182 0 37 (dk_at dksX1_init_4 0 rfl rfl)
theorem dX1_init_93 : decode cX1_init 93 = .ok (.pop, 1) := dk_87 (dk_at dksX1_init_4 3 rfl rfl)
theorem dX1_init_94 : decode cX1_init 94 = .ok (.iinc 2 1, 3) := dk_132 2 1 (dk_at dksX1_init_4 4 rfl rfl)
theorem dX1_init_97 : decode cX1_init 97 = .ok (.goto (-24), 3) := dk_167 255 232 (dk_at dksX1_init_4 7 rfl rfl)
theorem dX1_init_100 : decode cX1_init 100 = .ok (.return_, 1) := dk_177 (dk_at dksX1_init_4 10 rfl rfl)
abbrev cX1_init_2 : ByteArray := prog_8_method_2_code
def yX1_init_2 : MethodName := ⟨RX1, "<init>", "(LEggLights$Machine;)V"⟩
def dkwX1_init_2_9 : List UInt8 := [180, 0, 85, 181, 0, 85, 42, 43, 180, 0, 88, 181, 0, 88, 42, 43, 180, 0, 91, 181, 0, 91, 177]
abbrev dktX1_init_2_9 : List UInt8 := dkwX1_init_2_9 ++ []
def dkwX1_init_2_8 : List UInt8 := [180, 0, 75, 181, 0, 75, 42, 43, 180, 0, 79, 181, 0, 79, 42, 43, 180, 0, 82, 181, 0, 82, 42, 43]
abbrev dktX1_init_2_8 : List UInt8 := dkwX1_init_2_8 ++ dktX1_init_2_9
def dkwX1_init_2_7 : List UInt8 := [185, 0, 59, 1, 0, 192, 0, 69, 78, 42, 180, 0, 24, 45, 182, 0, 71, 167, 255, 229, 42, 43]
abbrev dktX1_init_2_7 : List UInt8 := dkwX1_init_2_7 ++ dktX1_init_2_8
def dkwX1_init_2_6 : List UInt8 := [87, 167, 255, 221, 43, 180, 0, 24, 182, 0, 68, 77, 44, 185, 0, 53, 1, 0, 153, 0, 24, 44]
abbrev dktX1_init_2_6 : List UInt8 := dkwX1_init_2_6 ++ dktX1_init_2_7
def dkwX1_init_2_5 : List UInt8 := [185, 0, 59, 1, 0, 192, 0, 41, 78, 42, 180, 0, 18, 187, 0, 41, 89, 45, 183, 0, 65, 182, 0, 37]
abbrev dktX1_init_2_5 : List UInt8 := dkwX1_init_2_5 ++ dktX1_init_2_6
def dkwX1_init_2_4 : List UInt8 := [87, 167, 255, 221, 43, 180, 0, 18, 182, 0, 49, 77, 44, 185, 0, 53, 1, 0, 153, 0, 32, 44]
abbrev dktX1_init_2_4 : List UInt8 := dkwX1_init_2_4 ++ dktX1_init_2_5
def dkwX1_init_2_3 : List UInt8 := [185, 0, 59, 1, 0, 192, 0, 32, 78, 42, 180, 0, 12, 187, 0, 32, 89, 45, 183, 0, 62, 182, 0, 37]
abbrev dktX1_init_2_3 : List UInt8 := dkwX1_init_2_3 ++ dktX1_init_2_4
def dkwX1_init_2_2 : List UInt8 := [192, 0, 45, 181, 0, 28, 43, 180, 0, 12, 182, 0, 49, 77, 44, 185, 0, 53, 1, 0, 153, 0, 32, 44]
abbrev dktX1_init_2_2 : List UInt8 := dkwX1_init_2_2 ++ dktX1_init_2_3
def dkwX1_init_2_1 : List UInt8 := [181, 0, 18, 42, 187, 0, 21, 89, 183, 0, 23, 181, 0, 24, 42, 43, 180, 0, 28, 182, 0, 44]
abbrev dktX1_init_2_1 : List UInt8 := dkwX1_init_2_1 ++ dktX1_init_2_2
def dkwX1_init_2_0 : List UInt8 := [42, 183, 0, 3, 42, 187, 0, 9, 89, 183, 0, 11, 181, 0, 12, 42, 187, 0, 9, 89, 183, 0, 11]
abbrev dktX1_init_2_0 : List UInt8 := dkwX1_init_2_0 ++ dktX1_init_2_1
theorem dksX1_init_2_0 : cX1_init_2.data.toList.drop 0 = dktX1_init_2_0 := by decide +kernel
theorem dksX1_init_2_1 : cX1_init_2.data.toList.drop 23 = dktX1_init_2_1 := dk_seg dksX1_init_2_0 23 rfl rfl
theorem dksX1_init_2_2 : cX1_init_2.data.toList.drop 45 = dktX1_init_2_2 := dk_seg dksX1_init_2_1 22 rfl rfl
theorem dksX1_init_2_3 : cX1_init_2.data.toList.drop 69 = dktX1_init_2_3 := dk_seg dksX1_init_2_2 24 rfl rfl
theorem dksX1_init_2_4 : cX1_init_2.data.toList.drop 93 = dktX1_init_2_4 := dk_seg dksX1_init_2_3 24 rfl rfl
theorem dksX1_init_2_5 : cX1_init_2.data.toList.drop 115 = dktX1_init_2_5 := dk_seg dksX1_init_2_4 22 rfl rfl
theorem dksX1_init_2_6 : cX1_init_2.data.toList.drop 139 = dktX1_init_2_6 := dk_seg dksX1_init_2_5 24 rfl rfl
theorem dksX1_init_2_7 : cX1_init_2.data.toList.drop 161 = dktX1_init_2_7 := dk_seg dksX1_init_2_6 22 rfl rfl
theorem dksX1_init_2_8 : cX1_init_2.data.toList.drop 183 = dktX1_init_2_8 := dk_seg dksX1_init_2_7 22 rfl rfl
theorem dksX1_init_2_9 : cX1_init_2.data.toList.drop 207 = dktX1_init_2_9 := dk_seg dksX1_init_2_8 24 rfl rfl
theorem dX1_init_2_0 : decode cX1_init_2 0 = .ok (.aload_n 0, 1) := dk_42 (dk_at dksX1_init_2_0 0 rfl rfl)
theorem dX1_init_2_1 : decode cX1_init_2 1 = .ok (.invokespecial 3, 3) := dk_183 0 3 (dk_at dksX1_init_2_0 1 rfl rfl)
theorem dX1_init_2_4 : decode cX1_init_2 4 = .ok (.aload_n 0, 1) := dk_42 (dk_at dksX1_init_2_0 4 rfl rfl)
theorem dX1_init_2_5 : decode cX1_init_2 5 = .ok (.new 9, 3) := dk_187 0 9 (dk_at dksX1_init_2_0 5 rfl rfl)
theorem dX1_init_2_8 : decode cX1_init_2 8 = .ok (.dup, 1) := dk_89 (dk_at dksX1_init_2_0 8 rfl rfl)
theorem dX1_init_2_9 : decode cX1_init_2 9 = .ok (.invokespecial 11, 3) := dk_183 0 11 (dk_at dksX1_init_2_0 9 rfl rfl)
theorem dX1_init_2_12 : decode cX1_init_2 12 = .ok (.putfield 12, 3) := dk_181 0 12 (dk_at dksX1_init_2_0 12 rfl rfl)
theorem dX1_init_2_15 : decode cX1_init_2 15 = .ok (.aload_n 0, 1) := dk_42 (dk_at dksX1_init_2_0 15 rfl rfl)
theorem dX1_init_2_16 : decode cX1_init_2 16 = .ok (.new 9, 3) := dk_187 0 9 (dk_at dksX1_init_2_0 16 rfl rfl)
theorem dX1_init_2_19 : decode cX1_init_2 19 = .ok (.dup, 1) := dk_89 (dk_at dksX1_init_2_0 19 rfl rfl)
theorem dX1_init_2_20 : decode cX1_init_2 20 = .ok (.invokespecial 11, 3) := dk_183 0 11 (dk_at dksX1_init_2_0 20 rfl rfl)
theorem dX1_init_2_23 : decode cX1_init_2 23 = .ok (.putfield 18, 3) := dk_181 0 18 (dk_at dksX1_init_2_1 0 rfl rfl)
theorem dX1_init_2_26 : decode cX1_init_2 26 = .ok (.aload_n 0, 1) := dk_42 (dk_at dksX1_init_2_1 3 rfl rfl)
theorem dX1_init_2_27 : decode cX1_init_2 27 = .ok (.new 21, 3) := dk_187 0 21 (dk_at dksX1_init_2_1 4 rfl rfl)
theorem dX1_init_2_30 : decode cX1_init_2 30 = .ok (.dup, 1) := dk_89 (dk_at dksX1_init_2_1 7 rfl rfl)
theorem dX1_init_2_31 : decode cX1_init_2 31 = .ok (.invokespecial 23, 3) := dk_183 0 23 (dk_at dksX1_init_2_1 8 rfl rfl)
theorem dX1_init_2_34 : decode cX1_init_2 34 = .ok (.putfield 24, 3) := dk_181 0 24 (dk_at dksX1_init_2_1 11 rfl rfl)
theorem dX1_init_2_37 : decode cX1_init_2 37 = .ok (.aload_n 0, 1) := dk_42 (dk_at dksX1_init_2_1 14 rfl rfl)
theorem dX1_init_2_38 : decode cX1_init_2 38 = .ok (.aload_n 1, 1) := dk_43 (dk_at dksX1_init_2_1 15 rfl rfl)
theorem dX1_init_2_39 : decode cX1_init_2 39 = .ok (.getfield 28, 3) := dk_180 0 28 (dk_at dksX1_init_2_1 16 rfl rfl)
theorem dX1_init_2_42 : decode cX1_init_2 42 = .ok (.invokevirtual 44, 3) := dk_182 0 44 (dk_at dksX1_init_2_1 19 rfl rfl)
theorem dX1_init_2_45 : decode cX1_init_2 45 = .ok (.checkcast 45, 3) := dk_192 0 45 (dk_at dksX1_init_2_2 0 rfl rfl)
theorem dX1_init_2_48 : decode cX1_init_2 48 = .ok (.putfield 28, 3) := dk_181 0 28 (dk_at dksX1_init_2_2 3 rfl rfl)
theorem dX1_init_2_51 : decode cX1_init_2 51 = .ok (.aload_n 1, 1) := dk_43 (dk_at dksX1_init_2_2 6 rfl rfl)
theorem dX1_init_2_52 : decode cX1_init_2 52 = .ok (.getfield 12, 3) := dk_180 0 12 (dk_at dksX1_init_2_2 7 rfl rfl)
theorem dX1_init_2_55 : decode cX1_init_2 55 = .ok (.invokevirtual 49, 3) := dk_182 0 49 (dk_at dksX1_init_2_2 10 rfl rfl)
theorem dX1_init_2_58 : decode cX1_init_2 58 = .ok (.astore_n 2, 1) := dk_77 (dk_at dksX1_init_2_2 13 rfl rfl)
theorem dX1_init_2_59 : decode cX1_init_2 59 = .ok (.aload_n 2, 1) := dk_44 (dk_at dksX1_init_2_2 14 rfl rfl)
theorem dX1_init_2_60 : decode cX1_init_2 60 = .ok (.invokeinterface 53 1, 5) := by decide +kernel
theorem dX1_init_2_65 : decode cX1_init_2 65 = .ok (.ifCond .eq 32, 3) := dk_153 0 32 (dk_at dksX1_init_2_2 20 rfl rfl)
theorem dX1_init_2_68 : decode cX1_init_2 68 = .ok (.aload_n 2, 1) := dk_44 (dk_at dksX1_init_2_2 23 rfl rfl)
theorem dX1_init_2_69 : decode cX1_init_2 69 = .ok (.invokeinterface 59 1, 5) := by decide +kernel
theorem dX1_init_2_74 : decode cX1_init_2 74 = .ok (.checkcast 32, 3) := dk_192 0 32 (dk_at dksX1_init_2_3 5 rfl rfl)
theorem dX1_init_2_77 : decode cX1_init_2 77 = .ok (.astore_n 3, 1) := dk_78 (dk_at dksX1_init_2_3 8 rfl rfl)
theorem dX1_init_2_78 : decode cX1_init_2 78 = .ok (.aload_n 0, 1) := dk_42 (dk_at dksX1_init_2_3 9 rfl rfl)
theorem dX1_init_2_79 : decode cX1_init_2 79 = .ok (.getfield 12, 3) := dk_180 0 12 (dk_at dksX1_init_2_3 10 rfl rfl)
theorem dX1_init_2_82 : decode cX1_init_2 82 = .ok (.new 32, 3) := dk_187 0 32 (dk_at dksX1_init_2_3 13 rfl rfl)
theorem dX1_init_2_85 : decode cX1_init_2 85 = .ok (.dup, 1) := dk_89 (dk_at dksX1_init_2_3 16 rfl rfl)
theorem dX1_init_2_86 : decode cX1_init_2 86 = .ok (.aload_n 3, 1) := dk_45 (dk_at dksX1_init_2_3 17 rfl rfl)
theorem dX1_init_2_87 : decode cX1_init_2 87 = .ok (.invokespecial 62, 3) := dk_183 0 62 (dk_at dksX1_init_2_3 18 rfl rfl)
theorem dX1_init_2_90 : decode cX1_init_2 90 = .ok (.invokevirtual 37, 3) := dk_182 0 37 (dk_at dksX1_init_2_3 21 rfl rfl)
theorem dX1_init_2_93 : decode cX1_init_2 93 = .ok (.pop, 1) := dk_87 (dk_at dksX1_init_2_4 0 rfl rfl)
theorem dX1_init_2_94 : decode cX1_init_2 94 = .ok (.goto (-35), 3) := dk_167 255 221 (dk_at dksX1_init_2_4 1 rfl rfl)
theorem dX1_init_2_97 : decode cX1_init_2 97 = .ok (.aload_n 1, 1) := dk_43 (dk_at dksX1_init_2_4 4 rfl rfl)
theorem dX1_init_2_98 : decode cX1_init_2 98 = .ok (.getfield 18, 3) := dk_180 0 18 (dk_at dksX1_init_2_4 5 rfl rfl)
theorem dX1_init_2_101 : decode cX1_init_2 101 = .ok (.invokevirtual 49, 3) := dk_182 0 49 (dk_at dksX1_init_2_4 8 rfl rfl)
theorem dX1_init_2_104 : decode cX1_init_2 104 = .ok (.astore_n 2, 1) := dk_77 (dk_at dksX1_init_2_4 11 rfl rfl)
theorem dX1_init_2_105 : decode cX1_init_2 105 = .ok (.aload_n 2, 1) := dk_44 (dk_at dksX1_init_2_4 12 rfl rfl)
theorem dX1_init_2_106 : decode cX1_init_2 106 = .ok (.invokeinterface 53 1, 5) := by decide +kernel
theorem dX1_init_2_111 : decode cX1_init_2 111 = .ok (.ifCond .eq 32, 3) := dk_153 0 32 (dk_at dksX1_init_2_4 18 rfl rfl)
theorem dX1_init_2_114 : decode cX1_init_2 114 = .ok (.aload_n 2, 1) := dk_44 (dk_at dksX1_init_2_4 21 rfl rfl)
theorem dX1_init_2_115 : decode cX1_init_2 115 = .ok (.invokeinterface 59 1, 5) := by decide +kernel
theorem dX1_init_2_120 : decode cX1_init_2 120 = .ok (.checkcast 41, 3) := dk_192 0 41 (dk_at dksX1_init_2_5 5 rfl rfl)
theorem dX1_init_2_123 : decode cX1_init_2 123 = .ok (.astore_n 3, 1) := dk_78 (dk_at dksX1_init_2_5 8 rfl rfl)
theorem dX1_init_2_124 : decode cX1_init_2 124 = .ok (.aload_n 0, 1) := dk_42 (dk_at dksX1_init_2_5 9 rfl rfl)
theorem dX1_init_2_125 : decode cX1_init_2 125 = .ok (.getfield 18, 3) := dk_180 0 18 (dk_at dksX1_init_2_5 10 rfl rfl)
theorem dX1_init_2_128 : decode cX1_init_2 128 = .ok (.new 41, 3) := dk_187 0 41 (dk_at dksX1_init_2_5 13 rfl rfl)
theorem dX1_init_2_131 : decode cX1_init_2 131 = .ok (.dup, 1) := dk_89 (dk_at dksX1_init_2_5 16 rfl rfl)
theorem dX1_init_2_132 : decode cX1_init_2 132 = .ok (.aload_n 3, 1) := dk_45 (dk_at dksX1_init_2_5 17 rfl rfl)
theorem dX1_init_2_133 : decode cX1_init_2 133 = .ok (.invokespecial 65, 3) := dk_183 0 65 (dk_at dksX1_init_2_5 18 rfl rfl)
theorem dX1_init_2_136 : decode cX1_init_2 136 = .ok (.invokevirtual 37, 3) := dk_182 0 37 (dk_at dksX1_init_2_5 21 rfl rfl)
theorem dX1_init_2_139 : decode cX1_init_2 139 = .ok (.pop, 1) := dk_87 (dk_at dksX1_init_2_6 0 rfl rfl)
theorem dX1_init_2_140 : decode cX1_init_2 140 = .ok (.goto (-35), 3) := dk_167 255 221 (dk_at dksX1_init_2_6 1 rfl rfl)
theorem dX1_init_2_143 : decode cX1_init_2 143 = .ok (.aload_n 1, 1) := dk_43 (dk_at dksX1_init_2_6 4 rfl rfl)
theorem dX1_init_2_144 : decode cX1_init_2 144 = .ok (.getfield 24, 3) := dk_180 0 24 (dk_at dksX1_init_2_6 5 rfl rfl)
theorem dX1_init_2_147 : decode cX1_init_2 147 = .ok (.invokevirtual 68, 3) := dk_182 0 68 (dk_at dksX1_init_2_6 8 rfl rfl)
theorem dX1_init_2_150 : decode cX1_init_2 150 = .ok (.astore_n 2, 1) := dk_77 (dk_at dksX1_init_2_6 11 rfl rfl)
theorem dX1_init_2_151 : decode cX1_init_2 151 = .ok (.aload_n 2, 1) := dk_44 (dk_at dksX1_init_2_6 12 rfl rfl)
theorem dX1_init_2_152 : decode cX1_init_2 152 = .ok (.invokeinterface 53 1, 5) := by decide +kernel
theorem dX1_init_2_157 : decode cX1_init_2 157 = .ok (.ifCond .eq 24, 3) := dk_153 0 24 (dk_at dksX1_init_2_6 18 rfl rfl)
theorem dX1_init_2_160 : decode cX1_init_2 160 = .ok (.aload_n 2, 1) := dk_44 (dk_at dksX1_init_2_6 21 rfl rfl)
theorem dX1_init_2_161 : decode cX1_init_2 161 = .ok (.invokeinterface 59 1, 5) := by decide +kernel
theorem dX1_init_2_166 : decode cX1_init_2 166 = .ok (.checkcast 69, 3) := dk_192 0 69 (dk_at dksX1_init_2_7 5 rfl rfl)
theorem dX1_init_2_169 : decode cX1_init_2 169 = .ok (.astore_n 3, 1) := dk_78 (dk_at dksX1_init_2_7 8 rfl rfl)
theorem dX1_init_2_170 : decode cX1_init_2 170 = .ok (.aload_n 0, 1) := dk_42 (dk_at dksX1_init_2_7 9 rfl rfl)
theorem dX1_init_2_171 : decode cX1_init_2 171 = .ok (.getfield 24, 3) := dk_180 0 24 (dk_at dksX1_init_2_7 10 rfl rfl)
theorem dX1_init_2_174 : decode cX1_init_2 174 = .ok (.aload_n 3, 1) := dk_45 (dk_at dksX1_init_2_7 13 rfl rfl)
theorem dX1_init_2_175 : decode cX1_init_2 175 = .ok (.invokevirtual 71, 3) := dk_182 0 71 (dk_at dksX1_init_2_7 14 rfl rfl)
theorem dX1_init_2_178 : decode cX1_init_2 178 = .ok (.goto (-27), 3) := dk_167 255 229 (dk_at dksX1_init_2_7 17 rfl rfl)
theorem dX1_init_2_181 : decode cX1_init_2 181 = .ok (.aload_n 0, 1) := dk_42 (dk_at dksX1_init_2_7 20 rfl rfl)
theorem dX1_init_2_182 : decode cX1_init_2 182 = .ok (.aload_n 1, 1) := dk_43 (dk_at dksX1_init_2_7 21 rfl rfl)
theorem dX1_init_2_183 : decode cX1_init_2 183 = .ok (.getfield 75, 3) := dk_180 0 75 (dk_at dksX1_init_2_8 0 rfl rfl)
theorem dX1_init_2_186 : decode cX1_init_2 186 = .ok (.putfield 75, 3) := dk_181 0 75 (dk_at dksX1_init_2_8 3 rfl rfl)
theorem dX1_init_2_189 : decode cX1_init_2 189 = .ok (.aload_n 0, 1) := dk_42 (dk_at dksX1_init_2_8 6 rfl rfl)
theorem dX1_init_2_190 : decode cX1_init_2 190 = .ok (.aload_n 1, 1) := dk_43 (dk_at dksX1_init_2_8 7 rfl rfl)
theorem dX1_init_2_191 : decode cX1_init_2 191 = .ok (.getfield 79, 3) := dk_180 0 79 (dk_at dksX1_init_2_8 8 rfl rfl)
theorem dX1_init_2_194 : decode cX1_init_2 194 = .ok (.putfield 79, 3) := dk_181 0 79 (dk_at dksX1_init_2_8 11 rfl rfl)
theorem dX1_init_2_197 : decode cX1_init_2 197 = .ok (.aload_n 0, 1) := dk_42 (dk_at dksX1_init_2_8 14 rfl rfl)
theorem dX1_init_2_198 : decode cX1_init_2 198 = .ok (.aload_n 1, 1) := dk_43 (dk_at dksX1_init_2_8 15 rfl rfl)
theorem dX1_init_2_199 : decode cX1_init_2 199 = .ok (.getfield 82, 3) := dk_180 0 82 (dk_at dksX1_init_2_8 16 rfl rfl)
theorem dX1_init_2_202 : decode cX1_init_2 202 = .ok (.putfield 82, 3) := dk_181 0 82 (dk_at dksX1_init_2_8 19 rfl rfl)
theorem dX1_init_2_205 : decode cX1_init_2 205 = .ok (.aload_n 0, 1) := dk_42 (dk_at dksX1_init_2_8 22 rfl rfl)
theorem dX1_init_2_206 : decode cX1_init_2 206 = .ok (.aload_n 1, 1) := dk_43 (dk_at dksX1_init_2_8 23 rfl rfl)
theorem dX1_init_2_207 : decode cX1_init_2 207 = .ok (.getfield 85, 3) := dk_180 0 85 (dk_at dksX1_init_2_9 0 rfl rfl)
theorem dX1_init_2_210 : decode cX1_init_2 210 = .ok (.putfield 85, 3) := dk_181 0 85 (dk_at dksX1_init_2_9 3 rfl rfl)
theorem dX1_init_2_213 : decode cX1_init_2 213 = .ok (.aload_n 0, 1) := dk_42 (dk_at dksX1_init_2_9 6 rfl rfl)
theorem dX1_init_2_214 : decode cX1_init_2 214 = .ok (.aload_n 1, 1) := dk_43 (dk_at dksX1_init_2_9 7 rfl rfl)
theorem dX1_init_2_215 : decode cX1_init_2 215 = .ok (.getfield 88, 3) := dk_180 0 88 (dk_at dksX1_init_2_9 8 rfl rfl)
theorem dX1_init_2_218 : decode cX1_init_2 218 = .ok (.putfield 88, 3) := dk_181 0 88 (dk_at dksX1_init_2_9 11 rfl rfl)
theorem dX1_init_2_221 : decode cX1_init_2 221 = .ok (.aload_n 0, 1) := dk_42 (dk_at dksX1_init_2_9 14 rfl rfl)
theorem dX1_init_2_222 : decode cX1_init_2 222 = .ok (.aload_n 1, 1) := dk_43 (dk_at dksX1_init_2_9 15 rfl rfl)
theorem dX1_init_2_223 : decode cX1_init_2 223 = .ok (.getfield 91, 3) := dk_180 0 91 (dk_at dksX1_init_2_9 16 rfl rfl)
theorem dX1_init_2_226 : decode cX1_init_2 226 = .ok (.putfield 91, 3) := dk_181 0 91 (dk_at dksX1_init_2_9 19 rfl rfl)
theorem dX1_init_2_229 : decode cX1_init_2 229 = .ok (.return_, 1) := dk_177 (dk_at dksX1_init_2_9 22 rfl rfl)
abbrev cX1_puts : ByteArray := prog_8_method_12_code
def yX1_puts : MethodName := ⟨RX1, "puts", "(ILEggLights$Egg;)I"⟩
def dkwX1_puts_6 : List UInt8 := [181, 0, 79, 45, 182, 0, 176, 172]
abbrev dktX1_puts_6 : List UInt8 := dkwX1_puts_6 ++ []
def dkwX1_puts_5 : List UInt8 := [167, 0, 4, 3, 19, 1, 13, 184, 1, 9, 45, 44, 182, 0, 71, 42, 89, 180, 0, 79, 4, 96]
abbrev dktX1_puts_5 : List UInt8 := dkwX1_puts_5 ++ dktX1_puts_6
def dkwX1_puts_4 : List UInt8 := [180, 0, 12, 27, 182, 0, 182, 192, 0, 32, 180, 0, 133, 78, 45, 182, 0, 176, 16, 8, 162, 0, 7, 4]
abbrev dktX1_puts_4 : List UInt8 := dkwX1_puts_4 ++ dktX1_puts_5
def dkwX1_puts_3 : List UInt8 := [20, 1, 4, 20, 1, 6, 184, 0, 249, 153, 0, 7, 4, 167, 0, 4, 3, 19, 1, 8, 184, 1, 9, 42]
abbrev dktX1_puts_3 : List UInt8 := dkwX1_puts_3 ++ dktX1_puts_4
def dkwX1_puts_2 : List UInt8 := [153, 0, 39, 44, 180, 0, 126, 133, 10, 20, 1, 2, 184, 0, 249, 153, 0, 24, 44, 180, 0, 112, 133]
abbrev dktX1_puts_2 : List UInt8 := dkwX1_puts_2 ++ dktX1_puts_3
def dkwX1_puts_1 : List UInt8 := [44, 180, 0, 101, 133, 9, 20, 0, 253, 184, 0, 249, 153, 0, 49, 44, 180, 0, 118, 184, 0, 255]
abbrev dktX1_puts_1 : List UInt8 := dkwX1_puts_1 ++ dktX1_puts_2
def dkwX1_puts_0 : List UInt8 := [27, 184, 0, 241, 153, 0, 81, 44, 180, 0, 198, 133, 20, 0, 245, 20, 0, 247, 184, 0, 249, 153, 0, 64]
abbrev dktX1_puts_0 : List UInt8 := dkwX1_puts_0 ++ dktX1_puts_1
theorem dksX1_puts_0 : cX1_puts.data.toList.drop 0 = dktX1_puts_0 := by decide +kernel
theorem dksX1_puts_1 : cX1_puts.data.toList.drop 24 = dktX1_puts_1 := dk_seg dksX1_puts_0 24 rfl rfl
theorem dksX1_puts_2 : cX1_puts.data.toList.drop 46 = dktX1_puts_2 := dk_seg dksX1_puts_1 22 rfl rfl
theorem dksX1_puts_3 : cX1_puts.data.toList.drop 69 = dktX1_puts_3 := dk_seg dksX1_puts_2 23 rfl rfl
theorem dksX1_puts_4 : cX1_puts.data.toList.drop 93 = dktX1_puts_4 := dk_seg dksX1_puts_3 24 rfl rfl
theorem dksX1_puts_5 : cX1_puts.data.toList.drop 117 = dktX1_puts_5 := dk_seg dksX1_puts_4 24 rfl rfl
theorem dksX1_puts_6 : cX1_puts.data.toList.drop 139 = dktX1_puts_6 := dk_seg dksX1_puts_5 22 rfl rfl
theorem dX1_puts_0 : decode cX1_puts 0 = .ok (.iload_n 1, 1) := dk_27 (dk_at dksX1_puts_0 0 rfl rfl)
theorem dX1_puts_1 : decode cX1_puts 1 = .ok (.invokestatic 241, 3) := dk_184 0 241 (dk_at dksX1_puts_0 1 rfl rfl)
theorem dX1_puts_4 : decode cX1_puts 4 = .ok (.ifCond .eq 81, 3) := dk_153 0 81 (dk_at dksX1_puts_0 4 rfl rfl)
theorem dX1_puts_7 : decode cX1_puts 7 = .ok (.aload_n 2, 1) := dk_44 (dk_at dksX1_puts_0 7 rfl rfl)
theorem dX1_puts_8 : decode cX1_puts 8 = .ok (.getfield 198, 3) := dk_180 0 198 (dk_at dksX1_puts_0 8 rfl rfl)
theorem dX1_puts_11 : decode cX1_puts 11 = .ok (.i2l, 1) := dk_133 (dk_at dksX1_puts_0 11 rfl rfl)
theorem dX1_puts_12 : decode cX1_puts 12 = .ok (.ldc2_w 245, 3) := dk_20 0 245 (dk_at dksX1_puts_0 12 rfl rfl)
theorem dX1_puts_15 : decode cX1_puts 15 = .ok (.ldc2_w 247, 3) := dk_20 0 247 (dk_at dksX1_puts_0 15 rfl rfl)
theorem dX1_puts_18 : decode cX1_puts 18 = .ok (.invokestatic 249, 3) := dk_184 0 249 (dk_at dksX1_puts_0 18 rfl rfl)
theorem dX1_puts_21 : decode cX1_puts 21 = .ok (.ifCond .eq 64, 3) := dk_153 0 64 (dk_at dksX1_puts_0 21 rfl rfl)
theorem dX1_puts_24 : decode cX1_puts 24 = .ok (.aload_n 2, 1) := dk_44 (dk_at dksX1_puts_1 0 rfl rfl)
theorem dX1_puts_25 : decode cX1_puts 25 = .ok (.getfield 101, 3) := dk_180 0 101 (dk_at dksX1_puts_1 1 rfl rfl)
theorem dX1_puts_28 : decode cX1_puts 28 = .ok (.i2l, 1) := dk_133 (dk_at dksX1_puts_1 4 rfl rfl)
theorem dX1_puts_29 : decode cX1_puts 29 = .ok (.lconst 0, 1) := dk_9 (dk_at dksX1_puts_1 5 rfl rfl)
theorem dX1_puts_30 : decode cX1_puts 30 = .ok (.ldc2_w 253, 3) := dk_20 0 253 (dk_at dksX1_puts_1 6 rfl rfl)
theorem dX1_puts_33 : decode cX1_puts 33 = .ok (.invokestatic 249, 3) := dk_184 0 249 (dk_at dksX1_puts_1 9 rfl rfl)
theorem dX1_puts_36 : decode cX1_puts 36 = .ok (.ifCond .eq 49, 3) := dk_153 0 49 (dk_at dksX1_puts_1 12 rfl rfl)
theorem dX1_puts_39 : decode cX1_puts 39 = .ok (.aload_n 2, 1) := dk_44 (dk_at dksX1_puts_1 15 rfl rfl)
theorem dX1_puts_40 : decode cX1_puts 40 = .ok (.getfield 118, 3) := dk_180 0 118 (dk_at dksX1_puts_1 16 rfl rfl)
theorem dX1_puts_43 : decode cX1_puts 43 = .ok (.invokestatic 255, 3) := dk_184 0 255 (dk_at dksX1_puts_1 19 rfl rfl)
theorem dX1_puts_46 : decode cX1_puts 46 = .ok (.ifCond .eq 39, 3) := dk_153 0 39 (dk_at dksX1_puts_2 0 rfl rfl)
theorem dX1_puts_49 : decode cX1_puts 49 = .ok (.aload_n 2, 1) := dk_44 (dk_at dksX1_puts_2 3 rfl rfl)
theorem dX1_puts_50 : decode cX1_puts 50 = .ok (.getfield 126, 3) := dk_180 0 126 (dk_at dksX1_puts_2 4 rfl rfl)
theorem dX1_puts_53 : decode cX1_puts 53 = .ok (.i2l, 1) := dk_133 (dk_at dksX1_puts_2 7 rfl rfl)
theorem dX1_puts_54 : decode cX1_puts 54 = .ok (.lconst 1, 1) := dk_10 (dk_at dksX1_puts_2 8 rfl rfl)
theorem dX1_puts_55 : decode cX1_puts 55 = .ok (.ldc2_w 258, 3) := dk_20 1 2 (dk_at dksX1_puts_2 9 rfl rfl)
theorem dX1_puts_58 : decode cX1_puts 58 = .ok (.invokestatic 249, 3) := dk_184 0 249 (dk_at dksX1_puts_2 12 rfl rfl)
theorem dX1_puts_61 : decode cX1_puts 61 = .ok (.ifCond .eq 24, 3) := dk_153 0 24 (dk_at dksX1_puts_2 15 rfl rfl)
theorem dX1_puts_64 : decode cX1_puts 64 = .ok (.aload_n 2, 1) := dk_44 (dk_at dksX1_puts_2 18 rfl rfl)
theorem dX1_puts_65 : decode cX1_puts 65 = .ok (.getfield 112, 3) := dk_180 0 112 (dk_at dksX1_puts_2 19 rfl rfl)
theorem dX1_puts_68 : decode cX1_puts 68 = .ok (.i2l, 1) := dk_133 (dk_at dksX1_puts_2 22 rfl rfl)
theorem dX1_puts_69 : decode cX1_puts 69 = .ok (.ldc2_w 260, 3) := dk_20 1 4 (dk_at dksX1_puts_3 0 rfl rfl)
theorem dX1_puts_72 : decode cX1_puts 72 = .ok (.ldc2_w 262, 3) := dk_20 1 6 (dk_at dksX1_puts_3 3 rfl rfl)
theorem dX1_puts_75 : decode cX1_puts 75 = .ok (.invokestatic 249, 3) := dk_184 0 249 (dk_at dksX1_puts_3 6 rfl rfl)
theorem dX1_puts_78 : decode cX1_puts 78 = .ok (.ifCond .eq 7, 3) := dk_153 0 7 (dk_at dksX1_puts_3 9 rfl rfl)
theorem dX1_puts_81 : decode cX1_puts 81 = .ok (.iconst 1, 1) := dk_4 (dk_at dksX1_puts_3 12 rfl rfl)
theorem dX1_puts_82 : decode cX1_puts 82 = .ok (.goto 4, 3) := dk_167 0 4 (dk_at dksX1_puts_3 13 rfl rfl)
theorem dX1_puts_85 : decode cX1_puts 85 = .ok (.iconst 0, 1) := dk_3 (dk_at dksX1_puts_3 16 rfl rfl)
theorem dX1_puts_86 : decode cX1_puts 86 = .ok (.ldc_w 264, 3) := dk_19 1 8 (dk_at dksX1_puts_3 17 rfl rfl)
theorem dX1_puts_89 : decode cX1_puts 89 = .ok (.invokestatic 265, 3) := dk_184 1 9 (dk_at dksX1_puts_3 20 rfl rfl)
theorem dX1_puts_92 : decode cX1_puts 92 = .ok (.aload_n 0, 1) := dk_42 (dk_at dksX1_puts_3 23 rfl rfl)
theorem dX1_puts_93 : decode cX1_puts 93 = .ok (.getfield 12, 3) := dk_180 0 12 (dk_at dksX1_puts_4 0 rfl rfl)
theorem dX1_puts_96 : decode cX1_puts 96 = .ok (.iload_n 1, 1) := dk_27 (dk_at dksX1_puts_4 3 rfl rfl)
theorem dX1_puts_97 : decode cX1_puts 97 = .ok (.invokevirtual 182, 3) := dk_182 0 182 (dk_at dksX1_puts_4 4 rfl rfl)
theorem dX1_puts_100 : decode cX1_puts 100 = .ok (.checkcast 32, 3) := dk_192 0 32 (dk_at dksX1_puts_4 7 rfl rfl)
theorem dX1_puts_103 : decode cX1_puts 103 = .ok (.getfield 133, 3) := dk_180 0 133 (dk_at dksX1_puts_4 10 rfl rfl)
theorem dX1_puts_106 : decode cX1_puts 106 = .ok (.astore_n 3, 1) := dk_78 (dk_at dksX1_puts_4 13 rfl rfl)
theorem dX1_puts_107 : decode cX1_puts 107 = .ok (.aload_n 3, 1) := dk_45 (dk_at dksX1_puts_4 14 rfl rfl)
theorem dX1_puts_108 : decode cX1_puts 108 = .ok (.invokevirtual 176, 3) := dk_182 0 176 (dk_at dksX1_puts_4 15 rfl rfl)
theorem dX1_puts_111 : decode cX1_puts 111 = .ok (.bipush 8, 2) := dk_16 8 (dk_at dksX1_puts_4 18 rfl rfl)
theorem dX1_puts_113 : decode cX1_puts 113 = .ok (.if_icmp .ge 7, 3) := dk_162 0 7 (dk_at dksX1_puts_4 20 rfl rfl)
theorem dX1_puts_116 : decode cX1_puts 116 = .ok (.iconst 1, 1) := dk_4 (dk_at dksX1_puts_4 23 rfl rfl)
theorem dX1_puts_117 : decode cX1_puts 117 = .ok (.goto 4, 3) := dk_167 0 4 (dk_at dksX1_puts_5 0 rfl rfl)
theorem dX1_puts_120 : decode cX1_puts 120 = .ok (.iconst 0, 1) := dk_3 (dk_at dksX1_puts_5 3 rfl rfl)
theorem dX1_puts_121 : decode cX1_puts 121 = .ok (.ldc_w 269, 3) := dk_19 1 13 (dk_at dksX1_puts_5 4 rfl rfl)
theorem dX1_puts_124 : decode cX1_puts 124 = .ok (.invokestatic 265, 3) := dk_184 1 9 (dk_at dksX1_puts_5 7 rfl rfl)
theorem dX1_puts_127 : decode cX1_puts 127 = .ok (.aload_n 3, 1) := dk_45 (dk_at dksX1_puts_5 10 rfl rfl)
theorem dX1_puts_128 : decode cX1_puts 128 = .ok (.aload_n 2, 1) := dk_44 (dk_at dksX1_puts_5 11 rfl rfl)
theorem dX1_puts_129 : decode cX1_puts 129 = .ok (.invokevirtual 71, 3) := dk_182 0 71 (dk_at dksX1_puts_5 12 rfl rfl)
theorem dX1_puts_132 : decode cX1_puts 132 = .ok (.aload_n 0, 1) := dk_42 (dk_at dksX1_puts_5 15 rfl rfl)
theorem dX1_puts_133 : decode cX1_puts 133 = .ok (.dup, 1) := dk_89 (dk_at dksX1_puts_5 16 rfl rfl)
theorem dX1_puts_134 : decode cX1_puts 134 = .ok (.getfield 79, 3) := dk_180 0 79 (dk_at dksX1_puts_5 17 rfl rfl)
theorem dX1_puts_137 : decode cX1_puts 137 = .ok (.iconst 1, 1) := dk_4 (dk_at dksX1_puts_5 20 rfl rfl)
theorem dX1_puts_138 : decode cX1_puts 138 = .ok (.iadd, 1) := dk_96 (dk_at dksX1_puts_5 21 rfl rfl)
theorem dX1_puts_139 : decode cX1_puts 139 = .ok (.putfield 79, 3) := dk_181 0 79 (dk_at dksX1_puts_6 0 rfl rfl)
theorem dX1_puts_142 : decode cX1_puts 142 = .ok (.aload_n 3, 1) := dk_45 (dk_at dksX1_puts_6 3 rfl rfl)
theorem dX1_puts_143 : decode cX1_puts 143 = .ok (.invokevirtual 176, 3) := dk_182 0 176 (dk_at dksX1_puts_6 4 rfl rfl)
theorem dX1_puts_146 : decode cX1_puts 146 = .ok (.ireturn, 1) := dk_172 (dk_at dksX1_puts_6 7 rfl rfl)
abbrev cX1_spots : ByteArray := prog_8_method_13_code
def yX1_spots : MethodName := ⟨RX1, "spots", "(II)I"⟩
def dkwX1_spots_3 : List UInt8 := [180, 0, 118, 28, 128, 181, 0, 118, 45, 182, 1, 15, 192, 0, 102, 180, 0, 118, 172]
abbrev dktX1_spots_3 : List UInt8 := dkwX1_spots_3 ++ []
def dkwX1_spots_2 : List UInt8 := [154, 0, 7, 4, 167, 0, 4, 3, 19, 1, 14, 184, 1, 9, 45, 182, 1, 15, 192, 0, 102, 89]
abbrev dktX1_spots_2 : List UInt8 := dkwX1_spots_2 ++ dktX1_spots_3
def dkwX1_spots_1 : List UInt8 := [184, 1, 9, 42, 180, 0, 12, 27, 182, 0, 182, 192, 0, 32, 180, 0, 133, 78, 45, 182, 0, 148]
abbrev dktX1_spots_1 : List UInt8 := dkwX1_spots_1 ++ dktX1_spots_2
def dkwX1_spots_0 : List UInt8 := [27, 184, 0, 241, 153, 0, 14, 28, 184, 0, 255, 153, 0, 7, 4, 167, 0, 4, 3, 19, 1, 8]
abbrev dktX1_spots_0 : List UInt8 := dkwX1_spots_0 ++ dktX1_spots_1
theorem dksX1_spots_0 : cX1_spots.data.toList.drop 0 = dktX1_spots_0 := by decide +kernel
theorem dksX1_spots_1 : cX1_spots.data.toList.drop 22 = dktX1_spots_1 := dk_seg dksX1_spots_0 22 rfl rfl
theorem dksX1_spots_2 : cX1_spots.data.toList.drop 44 = dktX1_spots_2 := dk_seg dksX1_spots_1 22 rfl rfl
theorem dksX1_spots_3 : cX1_spots.data.toList.drop 66 = dktX1_spots_3 := dk_seg dksX1_spots_2 22 rfl rfl
theorem dX1_spots_0 : decode cX1_spots 0 = .ok (.iload_n 1, 1) := dk_27 (dk_at dksX1_spots_0 0 rfl rfl)
theorem dX1_spots_1 : decode cX1_spots 1 = .ok (.invokestatic 241, 3) := dk_184 0 241 (dk_at dksX1_spots_0 1 rfl rfl)
theorem dX1_spots_4 : decode cX1_spots 4 = .ok (.ifCond .eq 14, 3) := dk_153 0 14 (dk_at dksX1_spots_0 4 rfl rfl)
theorem dX1_spots_7 : decode cX1_spots 7 = .ok (.iload_n 2, 1) := dk_28 (dk_at dksX1_spots_0 7 rfl rfl)
theorem dX1_spots_8 : decode cX1_spots 8 = .ok (.invokestatic 255, 3) := dk_184 0 255 (dk_at dksX1_spots_0 8 rfl rfl)
theorem dX1_spots_11 : decode cX1_spots 11 = .ok (.ifCond .eq 7, 3) := dk_153 0 7 (dk_at dksX1_spots_0 11 rfl rfl)
theorem dX1_spots_14 : decode cX1_spots 14 = .ok (.iconst 1, 1) := dk_4 (dk_at dksX1_spots_0 14 rfl rfl)
theorem dX1_spots_15 : decode cX1_spots 15 = .ok (.goto 4, 3) := dk_167 0 4 (dk_at dksX1_spots_0 15 rfl rfl)
theorem dX1_spots_18 : decode cX1_spots 18 = .ok (.iconst 0, 1) := dk_3 (dk_at dksX1_spots_0 18 rfl rfl)
theorem dX1_spots_19 : decode cX1_spots 19 = .ok (.ldc_w 264, 3) := dk_19 1 8 (dk_at dksX1_spots_0 19 rfl rfl)
theorem dX1_spots_22 : decode cX1_spots 22 = .ok (.invokestatic 265, 3) := dk_184 1 9 (dk_at dksX1_spots_1 0 rfl rfl)
theorem dX1_spots_25 : decode cX1_spots 25 = .ok (.aload_n 0, 1) := dk_42 (dk_at dksX1_spots_1 3 rfl rfl)
theorem dX1_spots_26 : decode cX1_spots 26 = .ok (.getfield 12, 3) := dk_180 0 12 (dk_at dksX1_spots_1 4 rfl rfl)
theorem dX1_spots_29 : decode cX1_spots 29 = .ok (.iload_n 1, 1) := dk_27 (dk_at dksX1_spots_1 7 rfl rfl)
theorem dX1_spots_30 : decode cX1_spots 30 = .ok (.invokevirtual 182, 3) := dk_182 0 182 (dk_at dksX1_spots_1 8 rfl rfl)
theorem dX1_spots_33 : decode cX1_spots 33 = .ok (.checkcast 32, 3) := dk_192 0 32 (dk_at dksX1_spots_1 11 rfl rfl)
theorem dX1_spots_36 : decode cX1_spots 36 = .ok (.getfield 133, 3) := dk_180 0 133 (dk_at dksX1_spots_1 14 rfl rfl)
theorem dX1_spots_39 : decode cX1_spots 39 = .ok (.astore_n 3, 1) := dk_78 (dk_at dksX1_spots_1 17 rfl rfl)
theorem dX1_spots_40 : decode cX1_spots 40 = .ok (.aload_n 3, 1) := dk_45 (dk_at dksX1_spots_1 18 rfl rfl)
theorem dX1_spots_41 : decode cX1_spots 41 = .ok (.invokevirtual 148, 3) := dk_182 0 148 (dk_at dksX1_spots_1 19 rfl rfl)
theorem dX1_spots_44 : decode cX1_spots 44 = .ok (.ifCond .ne 7, 3) := dk_154 0 7 (dk_at dksX1_spots_2 0 rfl rfl)
theorem dX1_spots_47 : decode cX1_spots 47 = .ok (.iconst 1, 1) := dk_4 (dk_at dksX1_spots_2 3 rfl rfl)
theorem dX1_spots_48 : decode cX1_spots 48 = .ok (.goto 4, 3) := dk_167 0 4 (dk_at dksX1_spots_2 4 rfl rfl)
theorem dX1_spots_51 : decode cX1_spots 51 = .ok (.iconst 0, 1) := dk_3 (dk_at dksX1_spots_2 7 rfl rfl)
theorem dX1_spots_52 : decode cX1_spots 52 = .ok (.ldc_w 270, 3) := dk_19 1 14 (dk_at dksX1_spots_2 8 rfl rfl)
theorem dX1_spots_55 : decode cX1_spots 55 = .ok (.invokestatic 265, 3) := dk_184 1 9 (dk_at dksX1_spots_2 11 rfl rfl)
theorem dX1_spots_58 : decode cX1_spots 58 = .ok (.aload_n 3, 1) := dk_45 (dk_at dksX1_spots_2 14 rfl rfl)
theorem dX1_spots_59 : decode cX1_spots 59 = .ok (.invokevirtual 271, 3) := dk_182 1 15 (dk_at dksX1_spots_2 15 rfl rfl)
theorem dX1_spots_62 : decode cX1_spots 62 = .ok (.checkcast 102, 3) := dk_192 0 102 (dk_at dksX1_spots_2 18 rfl rfl)
theorem dX1_spots_65 : decode cX1_spots 65 = .ok (.dup, 1) := dk_89 (dk_at dksX1_spots_2 21 rfl rfl)
theorem dX1_spots_66 : decode cX1_spots 66 = .ok (.getfield 118, 3) := dk_180 0 118 (dk_at dksX1_spots_3 0 rfl rfl)
theorem dX1_spots_69 : decode cX1_spots 69 = .ok (.iload_n 2, 1) := dk_28 (dk_at dksX1_spots_3 3 rfl rfl)
theorem dX1_spots_70 : decode cX1_spots 70 = .ok (.ior, 1) := dk_128 (dk_at dksX1_spots_3 4 rfl rfl)
theorem dX1_spots_71 : decode cX1_spots 71 = .ok (.putfield 118, 3) := dk_181 0 118 (dk_at dksX1_spots_3 5 rfl rfl)
theorem dX1_spots_74 : decode cX1_spots 74 = .ok (.aload_n 3, 1) := dk_45 (dk_at dksX1_spots_3 8 rfl rfl)
theorem dX1_spots_75 : decode cX1_spots 75 = .ok (.invokevirtual 271, 3) := dk_182 1 15 (dk_at dksX1_spots_3 9 rfl rfl)
theorem dX1_spots_78 : decode cX1_spots 78 = .ok (.checkcast 102, 3) := dk_192 0 102 (dk_at dksX1_spots_3 12 rfl rfl)
theorem dX1_spots_81 : decode cX1_spots 81 = .ok (.getfield 118, 3) := dk_180 0 118 (dk_at dksX1_spots_3 15 rfl rfl)
theorem dX1_spots_84 : decode cX1_spots 84 = .ok (.ireturn, 1) := dk_172 (dk_at dksX1_spots_3 18 rfl rfl)
abbrev cX1_lights : ByteArray := prog_8_method_14_code
def yX1_lights : MethodName := ⟨RX1, "lights", "(II)I"⟩
def dkwX1_lights_2 : List UInt8 := [180, 0, 12, 27, 182, 0, 182, 192, 0, 32, 28, 181, 0, 98, 29, 172]
abbrev dktX1_lights_2 : List UInt8 := dkwX1_lights_2 ++ []
def dkwX1_lights_1 : List UInt8 := [19, 1, 8, 184, 1, 9, 42, 180, 0, 12, 27, 182, 0, 182, 192, 0, 32, 180, 0, 98, 62, 42]
abbrev dktX1_lights_1 : List UInt8 := dkwX1_lights_1 ++ dktX1_lights_2
def dkwX1_lights_0 : List UInt8 := [27, 184, 0, 241, 153, 0, 19, 28, 133, 9, 20, 0, 253, 184, 0, 249, 153, 0, 7, 4, 167, 0, 4, 3]
abbrev dktX1_lights_0 : List UInt8 := dkwX1_lights_0 ++ dktX1_lights_1
theorem dksX1_lights_0 : cX1_lights.data.toList.drop 0 = dktX1_lights_0 := by decide +kernel
theorem dksX1_lights_1 : cX1_lights.data.toList.drop 24 = dktX1_lights_1 := dk_seg dksX1_lights_0 24 rfl rfl
theorem dksX1_lights_2 : cX1_lights.data.toList.drop 46 = dktX1_lights_2 := dk_seg dksX1_lights_1 22 rfl rfl
theorem dX1_lights_0 : decode cX1_lights 0 = .ok (.iload_n 1, 1) := dk_27 (dk_at dksX1_lights_0 0 rfl rfl)
theorem dX1_lights_1 : decode cX1_lights 1 = .ok (.invokestatic 241, 3) := dk_184 0 241 (dk_at dksX1_lights_0 1 rfl rfl)
theorem dX1_lights_4 : decode cX1_lights 4 = .ok (.ifCond .eq 19, 3) := dk_153 0 19 (dk_at dksX1_lights_0 4 rfl rfl)
theorem dX1_lights_7 : decode cX1_lights 7 = .ok (.iload_n 2, 1) := dk_28 (dk_at dksX1_lights_0 7 rfl rfl)
theorem dX1_lights_8 : decode cX1_lights 8 = .ok (.i2l, 1) := dk_133 (dk_at dksX1_lights_0 8 rfl rfl)
theorem dX1_lights_9 : decode cX1_lights 9 = .ok (.lconst 0, 1) := dk_9 (dk_at dksX1_lights_0 9 rfl rfl)
theorem dX1_lights_10 : decode cX1_lights 10 = .ok (.ldc2_w 253, 3) := dk_20 0 253 (dk_at dksX1_lights_0 10 rfl rfl)
theorem dX1_lights_13 : decode cX1_lights 13 = .ok (.invokestatic 249, 3) := dk_184 0 249 (dk_at dksX1_lights_0 13 rfl rfl)
theorem dX1_lights_16 : decode cX1_lights 16 = .ok (.ifCond .eq 7, 3) := dk_153 0 7 (dk_at dksX1_lights_0 16 rfl rfl)
theorem dX1_lights_19 : decode cX1_lights 19 = .ok (.iconst 1, 1) := dk_4 (dk_at dksX1_lights_0 19 rfl rfl)
theorem dX1_lights_20 : decode cX1_lights 20 = .ok (.goto 4, 3) := dk_167 0 4 (dk_at dksX1_lights_0 20 rfl rfl)
theorem dX1_lights_23 : decode cX1_lights 23 = .ok (.iconst 0, 1) := dk_3 (dk_at dksX1_lights_0 23 rfl rfl)
theorem dX1_lights_24 : decode cX1_lights 24 = .ok (.ldc_w 264, 3) := dk_19 1 8 (dk_at dksX1_lights_1 0 rfl rfl)
theorem dX1_lights_27 : decode cX1_lights 27 = .ok (.invokestatic 265, 3) := dk_184 1 9 (dk_at dksX1_lights_1 3 rfl rfl)
theorem dX1_lights_30 : decode cX1_lights 30 = .ok (.aload_n 0, 1) := dk_42 (dk_at dksX1_lights_1 6 rfl rfl)
theorem dX1_lights_31 : decode cX1_lights 31 = .ok (.getfield 12, 3) := dk_180 0 12 (dk_at dksX1_lights_1 7 rfl rfl)
theorem dX1_lights_34 : decode cX1_lights 34 = .ok (.iload_n 1, 1) := dk_27 (dk_at dksX1_lights_1 10 rfl rfl)
theorem dX1_lights_35 : decode cX1_lights 35 = .ok (.invokevirtual 182, 3) := dk_182 0 182 (dk_at dksX1_lights_1 11 rfl rfl)
theorem dX1_lights_38 : decode cX1_lights 38 = .ok (.checkcast 32, 3) := dk_192 0 32 (dk_at dksX1_lights_1 14 rfl rfl)
theorem dX1_lights_41 : decode cX1_lights 41 = .ok (.getfield 98, 3) := dk_180 0 98 (dk_at dksX1_lights_1 17 rfl rfl)
theorem dX1_lights_44 : decode cX1_lights 44 = .ok (.istore_n 3, 1) := dk_62 (dk_at dksX1_lights_1 20 rfl rfl)
theorem dX1_lights_45 : decode cX1_lights 45 = .ok (.aload_n 0, 1) := dk_42 (dk_at dksX1_lights_1 21 rfl rfl)
theorem dX1_lights_46 : decode cX1_lights 46 = .ok (.getfield 12, 3) := dk_180 0 12 (dk_at dksX1_lights_2 0 rfl rfl)
theorem dX1_lights_49 : decode cX1_lights 49 = .ok (.iload_n 1, 1) := dk_27 (dk_at dksX1_lights_2 3 rfl rfl)
theorem dX1_lights_50 : decode cX1_lights 50 = .ok (.invokevirtual 182, 3) := dk_182 0 182 (dk_at dksX1_lights_2 4 rfl rfl)
theorem dX1_lights_53 : decode cX1_lights 53 = .ok (.checkcast 32, 3) := dk_192 0 32 (dk_at dksX1_lights_2 7 rfl rfl)
theorem dX1_lights_56 : decode cX1_lights 56 = .ok (.iload_n 2, 1) := dk_28 (dk_at dksX1_lights_2 10 rfl rfl)
theorem dX1_lights_57 : decode cX1_lights 57 = .ok (.putfield 98, 3) := dk_181 0 98 (dk_at dksX1_lights_2 11 rfl rfl)
theorem dX1_lights_60 : decode cX1_lights 60 = .ok (.iload_n 3, 1) := dk_29 (dk_at dksX1_lights_2 14 rfl rfl)
theorem dX1_lights_61 : decode cX1_lights 61 = .ok (.ireturn, 1) := dk_172 (dk_at dksX1_lights_2 15 rfl rfl)
abbrev cX1_turns : ByteArray := prog_8_method_15_code
def yX1_turns : MethodName := ⟨RX1, "turns", "(II)I"⟩
def dkwX1_turns_2 : List UInt8 := [180, 0, 12, 27, 182, 0, 182, 192, 0, 32, 28, 181, 1, 18, 29, 172]
abbrev dktX1_turns_2 : List UInt8 := dkwX1_turns_2 ++ []
def dkwX1_turns_1 : List UInt8 := [19, 1, 8, 184, 1, 9, 42, 180, 0, 12, 27, 182, 0, 182, 192, 0, 32, 180, 1, 18, 62, 42]
abbrev dktX1_turns_1 : List UInt8 := dkwX1_turns_1 ++ dktX1_turns_2
def dkwX1_turns_0 : List UInt8 := [27, 184, 0, 241, 153, 0, 19, 28, 133, 10, 20, 1, 6, 184, 0, 249, 153, 0, 7, 4, 167, 0, 4, 3]
abbrev dktX1_turns_0 : List UInt8 := dkwX1_turns_0 ++ dktX1_turns_1
theorem dksX1_turns_0 : cX1_turns.data.toList.drop 0 = dktX1_turns_0 := by decide +kernel
theorem dksX1_turns_1 : cX1_turns.data.toList.drop 24 = dktX1_turns_1 := dk_seg dksX1_turns_0 24 rfl rfl
theorem dksX1_turns_2 : cX1_turns.data.toList.drop 46 = dktX1_turns_2 := dk_seg dksX1_turns_1 22 rfl rfl
theorem dX1_turns_0 : decode cX1_turns 0 = .ok (.iload_n 1, 1) := dk_27 (dk_at dksX1_turns_0 0 rfl rfl)
theorem dX1_turns_1 : decode cX1_turns 1 = .ok (.invokestatic 241, 3) := dk_184 0 241 (dk_at dksX1_turns_0 1 rfl rfl)
theorem dX1_turns_4 : decode cX1_turns 4 = .ok (.ifCond .eq 19, 3) := dk_153 0 19 (dk_at dksX1_turns_0 4 rfl rfl)
theorem dX1_turns_7 : decode cX1_turns 7 = .ok (.iload_n 2, 1) := dk_28 (dk_at dksX1_turns_0 7 rfl rfl)
theorem dX1_turns_8 : decode cX1_turns 8 = .ok (.i2l, 1) := dk_133 (dk_at dksX1_turns_0 8 rfl rfl)
theorem dX1_turns_9 : decode cX1_turns 9 = .ok (.lconst 1, 1) := dk_10 (dk_at dksX1_turns_0 9 rfl rfl)
theorem dX1_turns_10 : decode cX1_turns 10 = .ok (.ldc2_w 262, 3) := dk_20 1 6 (dk_at dksX1_turns_0 10 rfl rfl)
theorem dX1_turns_13 : decode cX1_turns 13 = .ok (.invokestatic 249, 3) := dk_184 0 249 (dk_at dksX1_turns_0 13 rfl rfl)
theorem dX1_turns_16 : decode cX1_turns 16 = .ok (.ifCond .eq 7, 3) := dk_153 0 7 (dk_at dksX1_turns_0 16 rfl rfl)
theorem dX1_turns_19 : decode cX1_turns 19 = .ok (.iconst 1, 1) := dk_4 (dk_at dksX1_turns_0 19 rfl rfl)
theorem dX1_turns_20 : decode cX1_turns 20 = .ok (.goto 4, 3) := dk_167 0 4 (dk_at dksX1_turns_0 20 rfl rfl)
theorem dX1_turns_23 : decode cX1_turns 23 = .ok (.iconst 0, 1) := dk_3 (dk_at dksX1_turns_0 23 rfl rfl)
theorem dX1_turns_24 : decode cX1_turns 24 = .ok (.ldc_w 264, 3) := dk_19 1 8 (dk_at dksX1_turns_1 0 rfl rfl)
theorem dX1_turns_27 : decode cX1_turns 27 = .ok (.invokestatic 265, 3) := dk_184 1 9 (dk_at dksX1_turns_1 3 rfl rfl)
theorem dX1_turns_30 : decode cX1_turns 30 = .ok (.aload_n 0, 1) := dk_42 (dk_at dksX1_turns_1 6 rfl rfl)
theorem dX1_turns_31 : decode cX1_turns 31 = .ok (.getfield 12, 3) := dk_180 0 12 (dk_at dksX1_turns_1 7 rfl rfl)
theorem dX1_turns_34 : decode cX1_turns 34 = .ok (.iload_n 1, 1) := dk_27 (dk_at dksX1_turns_1 10 rfl rfl)
theorem dX1_turns_35 : decode cX1_turns 35 = .ok (.invokevirtual 182, 3) := dk_182 0 182 (dk_at dksX1_turns_1 11 rfl rfl)
theorem dX1_turns_38 : decode cX1_turns 38 = .ok (.checkcast 32, 3) := dk_192 0 32 (dk_at dksX1_turns_1 14 rfl rfl)
theorem dX1_turns_41 : decode cX1_turns 41 = .ok (.getfield 274, 3) := dk_180 1 18 (dk_at dksX1_turns_1 17 rfl rfl)
theorem dX1_turns_44 : decode cX1_turns 44 = .ok (.istore_n 3, 1) := dk_62 (dk_at dksX1_turns_1 20 rfl rfl)
theorem dX1_turns_45 : decode cX1_turns 45 = .ok (.aload_n 0, 1) := dk_42 (dk_at dksX1_turns_1 21 rfl rfl)
theorem dX1_turns_46 : decode cX1_turns 46 = .ok (.getfield 12, 3) := dk_180 0 12 (dk_at dksX1_turns_2 0 rfl rfl)
theorem dX1_turns_49 : decode cX1_turns 49 = .ok (.iload_n 1, 1) := dk_27 (dk_at dksX1_turns_2 3 rfl rfl)
theorem dX1_turns_50 : decode cX1_turns 50 = .ok (.invokevirtual 182, 3) := dk_182 0 182 (dk_at dksX1_turns_2 4 rfl rfl)
theorem dX1_turns_53 : decode cX1_turns 53 = .ok (.checkcast 32, 3) := dk_192 0 32 (dk_at dksX1_turns_2 7 rfl rfl)
theorem dX1_turns_56 : decode cX1_turns 56 = .ok (.iload_n 2, 1) := dk_28 (dk_at dksX1_turns_2 10 rfl rfl)
theorem dX1_turns_57 : decode cX1_turns 57 = .ok (.putfield 274, 3) := dk_181 1 18 (dk_at dksX1_turns_2 11 rfl rfl)
theorem dX1_turns_60 : decode cX1_turns 60 = .ok (.iload_n 3, 1) := dk_29 (dk_at dksX1_turns_2 14 rfl rfl)
theorem dX1_turns_61 : decode cX1_turns 61 = .ok (.ireturn, 1) := dk_172 (dk_at dksX1_turns_2 15 rfl rfl)
abbrev cX1_cleans : ByteArray := prog_8_method_16_code
def yX1_cleans : MethodName := ⟨RX1, "cleans", "(I)I"⟩
def dkwX1_cleans_1 : List UInt8 := [61, 42, 180, 0, 12, 27, 182, 0, 182, 192, 0, 32, 3, 181, 0, 139, 28, 172]
abbrev dktX1_cleans_1 : List UInt8 := dkwX1_cleans_1 ++ []
def dkwX1_cleans_0 : List UInt8 := [27, 184, 0, 241, 19, 1, 8, 184, 1, 9, 42, 180, 0, 12, 27, 182, 0, 182, 192, 0, 32, 180, 0, 139]
abbrev dktX1_cleans_0 : List UInt8 := dkwX1_cleans_0 ++ dktX1_cleans_1
theorem dksX1_cleans_0 : cX1_cleans.data.toList.drop 0 = dktX1_cleans_0 := by decide +kernel
theorem dksX1_cleans_1 : cX1_cleans.data.toList.drop 24 = dktX1_cleans_1 := dk_seg dksX1_cleans_0 24 rfl rfl
theorem dX1_cleans_0 : decode cX1_cleans 0 = .ok (.iload_n 1, 1) := dk_27 (dk_at dksX1_cleans_0 0 rfl rfl)
theorem dX1_cleans_1 : decode cX1_cleans 1 = .ok (.invokestatic 241, 3) := dk_184 0 241 (dk_at dksX1_cleans_0 1 rfl rfl)
theorem dX1_cleans_4 : decode cX1_cleans 4 = .ok (.ldc_w 264, 3) := dk_19 1 8 (dk_at dksX1_cleans_0 4 rfl rfl)
theorem dX1_cleans_7 : decode cX1_cleans 7 = .ok (.invokestatic 265, 3) := dk_184 1 9 (dk_at dksX1_cleans_0 7 rfl rfl)
theorem dX1_cleans_10 : decode cX1_cleans 10 = .ok (.aload_n 0, 1) := dk_42 (dk_at dksX1_cleans_0 10 rfl rfl)
theorem dX1_cleans_11 : decode cX1_cleans 11 = .ok (.getfield 12, 3) := dk_180 0 12 (dk_at dksX1_cleans_0 11 rfl rfl)
theorem dX1_cleans_14 : decode cX1_cleans 14 = .ok (.iload_n 1, 1) := dk_27 (dk_at dksX1_cleans_0 14 rfl rfl)
theorem dX1_cleans_15 : decode cX1_cleans 15 = .ok (.invokevirtual 182, 3) := dk_182 0 182 (dk_at dksX1_cleans_0 15 rfl rfl)
theorem dX1_cleans_18 : decode cX1_cleans 18 = .ok (.checkcast 32, 3) := dk_192 0 32 (dk_at dksX1_cleans_0 18 rfl rfl)
theorem dX1_cleans_21 : decode cX1_cleans 21 = .ok (.getfield 139, 3) := dk_180 0 139 (dk_at dksX1_cleans_0 21 rfl rfl)
theorem dX1_cleans_24 : decode cX1_cleans 24 = .ok (.istore_n 2, 1) := dk_61 (dk_at dksX1_cleans_1 0 rfl rfl)
theorem dX1_cleans_25 : decode cX1_cleans 25 = .ok (.aload_n 0, 1) := dk_42 (dk_at dksX1_cleans_1 1 rfl rfl)
theorem dX1_cleans_26 : decode cX1_cleans 26 = .ok (.getfield 12, 3) := dk_180 0 12 (dk_at dksX1_cleans_1 2 rfl rfl)
theorem dX1_cleans_29 : decode cX1_cleans 29 = .ok (.iload_n 1, 1) := dk_27 (dk_at dksX1_cleans_1 5 rfl rfl)
theorem dX1_cleans_30 : decode cX1_cleans 30 = .ok (.invokevirtual 182, 3) := dk_182 0 182 (dk_at dksX1_cleans_1 6 rfl rfl)
theorem dX1_cleans_33 : decode cX1_cleans 33 = .ok (.checkcast 32, 3) := dk_192 0 32 (dk_at dksX1_cleans_1 9 rfl rfl)
theorem dX1_cleans_36 : decode cX1_cleans 36 = .ok (.iconst 0, 1) := dk_3 (dk_at dksX1_cleans_1 12 rfl rfl)
theorem dX1_cleans_37 : decode cX1_cleans 37 = .ok (.putfield 139, 3) := dk_181 0 139 (dk_at dksX1_cleans_1 13 rfl rfl)
theorem dX1_cleans_40 : decode cX1_cleans 40 = .ok (.iload_n 2, 1) := dk_28 (dk_at dksX1_cleans_1 16 rfl rfl)
theorem dX1_cleans_41 : decode cX1_cleans 41 = .ok (.ireturn, 1) := dk_172 (dk_at dksX1_cleans_1 17 rfl rfl)
abbrev cX1_runs : ByteArray := prog_8_method_17_code
def yX1_runs : MethodName := ⟨RX1, "runs", "(I)I"⟩
def dkwX1_runs_2 : List UInt8 := [42, 182, 1, 23, 96, 61, 132, 3, 1, 167, 255, 241, 28, 172]
abbrev dktX1_runs_2 : List UInt8 := dkwX1_runs_2 ++ []
def dkwX1_runs_1 : List UInt8 := [163, 0, 7, 4, 167, 0, 4, 3, 19, 1, 13, 184, 1, 9, 3, 61, 3, 62, 29, 27, 162, 0, 16, 28]
abbrev dktX1_runs_1 : List UInt8 := dkwX1_runs_1 ++ dktX1_runs_2
def dkwX1_runs_0 : List UInt8 := [27, 133, 10, 20, 1, 21, 184, 0, 249, 19, 1, 8, 184, 1, 9, 42, 180, 0, 75, 27, 96, 17, 39, 15]
abbrev dktX1_runs_0 : List UInt8 := dkwX1_runs_0 ++ dktX1_runs_1
theorem dksX1_runs_0 : cX1_runs.data.toList.drop 0 = dktX1_runs_0 := by decide +kernel
theorem dksX1_runs_1 : cX1_runs.data.toList.drop 24 = dktX1_runs_1 := dk_seg dksX1_runs_0 24 rfl rfl
theorem dksX1_runs_2 : cX1_runs.data.toList.drop 48 = dktX1_runs_2 := dk_seg dksX1_runs_1 24 rfl rfl
theorem dX1_runs_0 : decode cX1_runs 0 = .ok (.iload_n 1, 1) := dk_27 (dk_at dksX1_runs_0 0 rfl rfl)
theorem dX1_runs_1 : decode cX1_runs 1 = .ok (.i2l, 1) := dk_133 (dk_at dksX1_runs_0 1 rfl rfl)
theorem dX1_runs_2 : decode cX1_runs 2 = .ok (.lconst 1, 1) := dk_10 (dk_at dksX1_runs_0 2 rfl rfl)
theorem dX1_runs_3 : decode cX1_runs 3 = .ok (.ldc2_w 277, 3) := dk_20 1 21 (dk_at dksX1_runs_0 3 rfl rfl)
theorem dX1_runs_6 : decode cX1_runs 6 = .ok (.invokestatic 249, 3) := dk_184 0 249 (dk_at dksX1_runs_0 6 rfl rfl)
theorem dX1_runs_9 : decode cX1_runs 9 = .ok (.ldc_w 264, 3) := dk_19 1 8 (dk_at dksX1_runs_0 9 rfl rfl)
theorem dX1_runs_12 : decode cX1_runs 12 = .ok (.invokestatic 265, 3) := dk_184 1 9 (dk_at dksX1_runs_0 12 rfl rfl)
theorem dX1_runs_15 : decode cX1_runs 15 = .ok (.aload_n 0, 1) := dk_42 (dk_at dksX1_runs_0 15 rfl rfl)
theorem dX1_runs_16 : decode cX1_runs 16 = .ok (.getfield 75, 3) := dk_180 0 75 (dk_at dksX1_runs_0 16 rfl rfl)
theorem dX1_runs_19 : decode cX1_runs 19 = .ok (.iload_n 1, 1) := dk_27 (dk_at dksX1_runs_0 19 rfl rfl)
theorem dX1_runs_20 : decode cX1_runs 20 = .ok (.iadd, 1) := dk_96 (dk_at dksX1_runs_0 20 rfl rfl)
theorem dX1_runs_21 : decode cX1_runs 21 = .ok (.sipush 9999, 3) := dk_17 39 15 (dk_at dksX1_runs_0 21 rfl rfl)
theorem dX1_runs_24 : decode cX1_runs 24 = .ok (.if_icmp .gt 7, 3) := dk_163 0 7 (dk_at dksX1_runs_1 0 rfl rfl)
theorem dX1_runs_27 : decode cX1_runs 27 = .ok (.iconst 1, 1) := dk_4 (dk_at dksX1_runs_1 3 rfl rfl)
theorem dX1_runs_28 : decode cX1_runs 28 = .ok (.goto 4, 3) := dk_167 0 4 (dk_at dksX1_runs_1 4 rfl rfl)
theorem dX1_runs_31 : decode cX1_runs 31 = .ok (.iconst 0, 1) := dk_3 (dk_at dksX1_runs_1 7 rfl rfl)
theorem dX1_runs_32 : decode cX1_runs 32 = .ok (.ldc_w 269, 3) := dk_19 1 13 (dk_at dksX1_runs_1 8 rfl rfl)
theorem dX1_runs_35 : decode cX1_runs 35 = .ok (.invokestatic 265, 3) := dk_184 1 9 (dk_at dksX1_runs_1 11 rfl rfl)
theorem dX1_runs_38 : decode cX1_runs 38 = .ok (.iconst 0, 1) := dk_3 (dk_at dksX1_runs_1 14 rfl rfl)
theorem dX1_runs_39 : decode cX1_runs 39 = .ok (.istore_n 2, 1) := dk_61 (dk_at dksX1_runs_1 15 rfl rfl)
theorem dX1_runs_40 : decode cX1_runs 40 = .ok (.iconst 0, 1) := dk_3 (dk_at dksX1_runs_1 16 rfl rfl)
theorem dX1_runs_41 : decode cX1_runs 41 = .ok (.istore_n 3, 1) := dk_62 (dk_at dksX1_runs_1 17 rfl rfl)
theorem dX1_runs_42 : decode cX1_runs 42 = .ok (.iload_n 3, 1) := dk_29 (dk_at dksX1_runs_1 18 rfl rfl)
theorem dX1_runs_43 : decode cX1_runs 43 = .ok (.iload_n 1, 1) := dk_27 (dk_at dksX1_runs_1 19 rfl rfl)
theorem dX1_runs_44 : decode cX1_runs 44 = .ok (.if_icmp .ge 16, 3) := dk_162 0 16 (dk_at dksX1_runs_1 20 rfl rfl)
theorem dX1_runs_47 : decode cX1_runs 47 = .ok (.iload_n 2, 1) := dk_28 (dk_at dksX1_runs_1 23 rfl rfl)
theorem dX1_runs_48 : decode cX1_runs 48 = .ok (.aload_n 0, 1) := dk_42 (dk_at dksX1_runs_2 0 rfl rfl)
theorem dX1_runs_49 : decode cX1_runs 49 = .ok (.invokevirtual 279, 3) := dk_182 1 23 (dk_at dksX1_runs_2 1 rfl rfl)
theorem dX1_runs_52 : decode cX1_runs 52 = .ok (.iadd, 1) := dk_96 (dk_at dksX1_runs_2 4 rfl rfl)
theorem dX1_runs_53 : decode cX1_runs 53 = .ok (.istore_n 2, 1) := dk_61 (dk_at dksX1_runs_2 5 rfl rfl)
theorem dX1_runs_54 : decode cX1_runs 54 = .ok (.iinc 3 1, 3) := dk_132 3 1 (dk_at dksX1_runs_2 6 rfl rfl)
theorem dX1_runs_57 : decode cX1_runs 57 = .ok (.goto (-15), 3) := dk_167 255 241 (dk_at dksX1_runs_2 9 rfl rfl)
theorem dX1_runs_60 : decode cX1_runs 60 = .ok (.iload_n 2, 1) := dk_28 (dk_at dksX1_runs_2 12 rfl rfl)
theorem dX1_runs_61 : decode cX1_runs 61 = .ok (.ireturn, 1) := dk_172 (dk_at dksX1_runs_2 13 rfl rfl)
abbrev cX1_tick : ByteArray := prog_8_method_11_code
def yX1_tick : MethodName := ⟨RX1, "tick", "()I"⟩
def dkwX1_tick_2 : List UInt8 := [180, 0, 75, 4, 96, 181, 0, 75, 27, 172]
abbrev dktX1_tick_2 : List UInt8 := dkwX1_tick_2 ++ []
def dkwX1_tick_1 : List UInt8 := [185, 0, 59, 1, 0, 192, 0, 32, 78, 27, 42, 45, 182, 0, 238, 96, 60, 167, 255, 229, 42, 89]
abbrev dktX1_tick_1 : List UInt8 := dkwX1_tick_1 ++ dktX1_tick_2
def dkwX1_tick_0 : List UInt8 := [3, 60, 42, 180, 0, 12, 182, 0, 49, 77, 44, 185, 0, 53, 1, 0, 153, 0, 24, 44]
abbrev dktX1_tick_0 : List UInt8 := dkwX1_tick_0 ++ dktX1_tick_1
theorem dksX1_tick_0 : cX1_tick.data.toList.drop 0 = dktX1_tick_0 := by decide +kernel
theorem dksX1_tick_1 : cX1_tick.data.toList.drop 20 = dktX1_tick_1 := dk_seg dksX1_tick_0 20 rfl rfl
theorem dksX1_tick_2 : cX1_tick.data.toList.drop 42 = dktX1_tick_2 := dk_seg dksX1_tick_1 22 rfl rfl
theorem dX1_tick_0 : decode cX1_tick 0 = .ok (.iconst 0, 1) := dk_3 (dk_at dksX1_tick_0 0 rfl rfl)
theorem dX1_tick_1 : decode cX1_tick 1 = .ok (.istore_n 1, 1) := dk_60 (dk_at dksX1_tick_0 1 rfl rfl)
theorem dX1_tick_2 : decode cX1_tick 2 = .ok (.aload_n 0, 1) := dk_42 (dk_at dksX1_tick_0 2 rfl rfl)
theorem dX1_tick_3 : decode cX1_tick 3 = .ok (.getfield 12, 3) := dk_180 0 12 (dk_at dksX1_tick_0 3 rfl rfl)
theorem dX1_tick_6 : decode cX1_tick 6 = .ok (.invokevirtual 49, 3) := dk_182 0 49 (dk_at dksX1_tick_0 6 rfl rfl)
theorem dX1_tick_9 : decode cX1_tick 9 = .ok (.astore_n 2, 1) := dk_77 (dk_at dksX1_tick_0 9 rfl rfl)
theorem dX1_tick_10 : decode cX1_tick 10 = .ok (.aload_n 2, 1) := dk_44 (dk_at dksX1_tick_0 10 rfl rfl)
theorem dX1_tick_11 : decode cX1_tick 11 = .ok (.invokeinterface 53 1, 5) := by decide +kernel
theorem dX1_tick_16 : decode cX1_tick 16 = .ok (.ifCond .eq 24, 3) := dk_153 0 24 (dk_at dksX1_tick_0 16 rfl rfl)
theorem dX1_tick_19 : decode cX1_tick 19 = .ok (.aload_n 2, 1) := dk_44 (dk_at dksX1_tick_0 19 rfl rfl)
theorem dX1_tick_20 : decode cX1_tick 20 = .ok (.invokeinterface 59 1, 5) := by decide +kernel
theorem dX1_tick_25 : decode cX1_tick 25 = .ok (.checkcast 32, 3) := dk_192 0 32 (dk_at dksX1_tick_1 5 rfl rfl)
theorem dX1_tick_28 : decode cX1_tick 28 = .ok (.astore_n 3, 1) := dk_78 (dk_at dksX1_tick_1 8 rfl rfl)
theorem dX1_tick_29 : decode cX1_tick 29 = .ok (.iload_n 1, 1) := dk_27 (dk_at dksX1_tick_1 9 rfl rfl)
theorem dX1_tick_30 : decode cX1_tick 30 = .ok (.aload_n 0, 1) := dk_42 (dk_at dksX1_tick_1 10 rfl rfl)
theorem dX1_tick_31 : decode cX1_tick 31 = .ok (.aload_n 3, 1) := dk_45 (dk_at dksX1_tick_1 11 rfl rfl)
theorem dX1_tick_32 : decode cX1_tick 32 = .ok (.invokevirtual 238, 3) := dk_182 0 238 (dk_at dksX1_tick_1 12 rfl rfl)
theorem dX1_tick_35 : decode cX1_tick 35 = .ok (.iadd, 1) := dk_96 (dk_at dksX1_tick_1 15 rfl rfl)
theorem dX1_tick_36 : decode cX1_tick 36 = .ok (.istore_n 1, 1) := dk_60 (dk_at dksX1_tick_1 16 rfl rfl)
theorem dX1_tick_37 : decode cX1_tick 37 = .ok (.goto (-27), 3) := dk_167 255 229 (dk_at dksX1_tick_1 17 rfl rfl)
theorem dX1_tick_40 : decode cX1_tick 40 = .ok (.aload_n 0, 1) := dk_42 (dk_at dksX1_tick_1 20 rfl rfl)
theorem dX1_tick_41 : decode cX1_tick 41 = .ok (.dup, 1) := dk_89 (dk_at dksX1_tick_1 21 rfl rfl)
theorem dX1_tick_42 : decode cX1_tick 42 = .ok (.getfield 75, 3) := dk_180 0 75 (dk_at dksX1_tick_2 0 rfl rfl)
theorem dX1_tick_45 : decode cX1_tick 45 = .ok (.iconst 1, 1) := dk_4 (dk_at dksX1_tick_2 3 rfl rfl)
theorem dX1_tick_46 : decode cX1_tick 46 = .ok (.iadd, 1) := dk_96 (dk_at dksX1_tick_2 4 rfl rfl)
theorem dX1_tick_47 : decode cX1_tick 47 = .ok (.putfield 75, 3) := dk_181 0 75 (dk_at dksX1_tick_2 5 rfl rfl)
theorem dX1_tick_50 : decode cX1_tick 50 = .ok (.iload_n 1, 1) := dk_27 (dk_at dksX1_tick_2 8 rfl rfl)
theorem dX1_tick_51 : decode cX1_tick 51 = .ok (.ireturn, 1) := dk_172 (dk_at dksX1_tick_2 9 rfl rfl)
abbrev cX1_grades : ByteArray := prog_8_method_10_code
def yX1_grades : MethodName := ⟨RX1, "grades", "(LEggLights$Lane;)I"⟩
def dkwX1_grades_3 : List UInt8 := [43, 180, 0, 133, 182, 0, 222, 192, 0, 102, 182, 0, 235, 3, 172]
abbrev dktX1_grades_3 : List UInt8 := dkwX1_grades_3 ++ []
def dkwX1_grades_2 : List UInt8 := [43, 43, 180, 0, 133, 182, 0, 222, 192, 0, 102, 182, 0, 231, 167, 0, 23, 29, 6, 160, 0, 18, 42, 43]
abbrev dktX1_grades_2 : List UInt8 := dkwX1_grades_2 ++ dktX1_grades_3
def dkwX1_grades_1 : List UInt8 := [182, 0, 222, 192, 0, 102, 28, 182, 0, 225, 4, 172, 77, 44, 182, 0, 228, 62, 29, 5, 160, 0, 21, 42]
abbrev dktX1_grades_1 : List UInt8 := dkwX1_grades_1 ++ dktX1_grades_2
def dkwX1_grades_0 : List UInt8 := [43, 180, 0, 133, 182, 0, 148, 153, 0, 5, 3, 172, 42, 43, 182, 0, 218, 61, 42, 43, 43, 180, 0, 133]
abbrev dktX1_grades_0 : List UInt8 := dkwX1_grades_0 ++ dktX1_grades_1
theorem dksX1_grades_0 : cX1_grades.data.toList.drop 0 = dktX1_grades_0 := by decide +kernel
theorem dksX1_grades_1 : cX1_grades.data.toList.drop 24 = dktX1_grades_1 := dk_seg dksX1_grades_0 24 rfl rfl
theorem dksX1_grades_2 : cX1_grades.data.toList.drop 48 = dktX1_grades_2 := dk_seg dksX1_grades_1 24 rfl rfl
theorem dksX1_grades_3 : cX1_grades.data.toList.drop 72 = dktX1_grades_3 := dk_seg dksX1_grades_2 24 rfl rfl
theorem dX1_grades_0 : decode cX1_grades 0 = .ok (.aload_n 1, 1) := dk_43 (dk_at dksX1_grades_0 0 rfl rfl)
theorem dX1_grades_1 : decode cX1_grades 1 = .ok (.getfield 133, 3) := dk_180 0 133 (dk_at dksX1_grades_0 1 rfl rfl)
theorem dX1_grades_4 : decode cX1_grades 4 = .ok (.invokevirtual 148, 3) := dk_182 0 148 (dk_at dksX1_grades_0 4 rfl rfl)
theorem dX1_grades_7 : decode cX1_grades 7 = .ok (.ifCond .eq 5, 3) := dk_153 0 5 (dk_at dksX1_grades_0 7 rfl rfl)
theorem dX1_grades_10 : decode cX1_grades 10 = .ok (.iconst 0, 1) := dk_3 (dk_at dksX1_grades_0 10 rfl rfl)
theorem dX1_grades_11 : decode cX1_grades 11 = .ok (.ireturn, 1) := dk_172 (dk_at dksX1_grades_0 11 rfl rfl)
theorem dX1_grades_12 : decode cX1_grades 12 = .ok (.aload_n 0, 1) := dk_42 (dk_at dksX1_grades_0 12 rfl rfl)
theorem dX1_grades_13 : decode cX1_grades 13 = .ok (.aload_n 1, 1) := dk_43 (dk_at dksX1_grades_0 13 rfl rfl)
theorem dX1_grades_14 : decode cX1_grades 14 = .ok (.invokevirtual 218, 3) := dk_182 0 218 (dk_at dksX1_grades_0 14 rfl rfl)
theorem dX1_grades_17 : decode cX1_grades 17 = .ok (.istore_n 2, 1) := dk_61 (dk_at dksX1_grades_0 17 rfl rfl)
theorem dX1_grades_18 : decode cX1_grades 18 = .ok (.aload_n 0, 1) := dk_42 (dk_at dksX1_grades_0 18 rfl rfl)
theorem dX1_grades_19 : decode cX1_grades 19 = .ok (.aload_n 1, 1) := dk_43 (dk_at dksX1_grades_0 19 rfl rfl)
theorem dX1_grades_20 : decode cX1_grades 20 = .ok (.aload_n 1, 1) := dk_43 (dk_at dksX1_grades_0 20 rfl rfl)
theorem dX1_grades_21 : decode cX1_grades 21 = .ok (.getfield 133, 3) := dk_180 0 133 (dk_at dksX1_grades_0 21 rfl rfl)
theorem dX1_grades_24 : decode cX1_grades 24 = .ok (.invokevirtual 222, 3) := dk_182 0 222 (dk_at dksX1_grades_1 0 rfl rfl)
theorem dX1_grades_27 : decode cX1_grades 27 = .ok (.checkcast 102, 3) := dk_192 0 102 (dk_at dksX1_grades_1 3 rfl rfl)
theorem dX1_grades_30 : decode cX1_grades 30 = .ok (.iload_n 2, 1) := dk_28 (dk_at dksX1_grades_1 6 rfl rfl)
theorem dX1_grades_31 : decode cX1_grades 31 = .ok (.invokevirtual 225, 3) := dk_182 0 225 (dk_at dksX1_grades_1 7 rfl rfl)
theorem dX1_grades_34 : decode cX1_grades 34 = .ok (.iconst 1, 1) := dk_4 (dk_at dksX1_grades_1 10 rfl rfl)
theorem dX1_grades_35 : decode cX1_grades 35 = .ok (.ireturn, 1) := dk_172 (dk_at dksX1_grades_1 11 rfl rfl)
theorem dX1_grades_36 : decode cX1_grades 36 = .ok (.astore_n 2, 1) := dk_77 (dk_at dksX1_grades_1 12 rfl rfl)
theorem dX1_grades_37 : decode cX1_grades 37 = .ok (.aload_n 2, 1) := dk_44 (dk_at dksX1_grades_1 13 rfl rfl)
theorem dX1_grades_38 : decode cX1_grades 38 = .ok (.invokevirtual 228, 3) := dk_182 0 228 (dk_at dksX1_grades_1 14 rfl rfl)
theorem dX1_grades_41 : decode cX1_grades 41 = .ok (.istore_n 3, 1) := dk_62 (dk_at dksX1_grades_1 17 rfl rfl)
theorem dX1_grades_42 : decode cX1_grades 42 = .ok (.iload_n 3, 1) := dk_29 (dk_at dksX1_grades_1 18 rfl rfl)
theorem dX1_grades_43 : decode cX1_grades 43 = .ok (.iconst 2, 1) := dk_5 (dk_at dksX1_grades_1 19 rfl rfl)
theorem dX1_grades_44 : decode cX1_grades 44 = .ok (.if_icmp .ne 21, 3) := dk_160 0 21 (dk_at dksX1_grades_1 20 rfl rfl)
theorem dX1_grades_47 : decode cX1_grades 47 = .ok (.aload_n 0, 1) := dk_42 (dk_at dksX1_grades_1 23 rfl rfl)
theorem dX1_grades_48 : decode cX1_grades 48 = .ok (.aload_n 1, 1) := dk_43 (dk_at dksX1_grades_2 0 rfl rfl)
theorem dX1_grades_49 : decode cX1_grades 49 = .ok (.aload_n 1, 1) := dk_43 (dk_at dksX1_grades_2 1 rfl rfl)
theorem dX1_grades_50 : decode cX1_grades 50 = .ok (.getfield 133, 3) := dk_180 0 133 (dk_at dksX1_grades_2 2 rfl rfl)
theorem dX1_grades_53 : decode cX1_grades 53 = .ok (.invokevirtual 222, 3) := dk_182 0 222 (dk_at dksX1_grades_2 5 rfl rfl)
theorem dX1_grades_56 : decode cX1_grades 56 = .ok (.checkcast 102, 3) := dk_192 0 102 (dk_at dksX1_grades_2 8 rfl rfl)
theorem dX1_grades_59 : decode cX1_grades 59 = .ok (.invokevirtual 231, 3) := dk_182 0 231 (dk_at dksX1_grades_2 11 rfl rfl)
theorem dX1_grades_62 : decode cX1_grades 62 = .ok (.goto 23, 3) := dk_167 0 23 (dk_at dksX1_grades_2 14 rfl rfl)
theorem dX1_grades_65 : decode cX1_grades 65 = .ok (.iload_n 3, 1) := dk_29 (dk_at dksX1_grades_2 17 rfl rfl)
theorem dX1_grades_66 : decode cX1_grades 66 = .ok (.iconst 3, 1) := dk_6 (dk_at dksX1_grades_2 18 rfl rfl)
theorem dX1_grades_67 : decode cX1_grades 67 = .ok (.if_icmp .ne 18, 3) := dk_160 0 18 (dk_at dksX1_grades_2 19 rfl rfl)
theorem dX1_grades_70 : decode cX1_grades 70 = .ok (.aload_n 0, 1) := dk_42 (dk_at dksX1_grades_2 22 rfl rfl)
theorem dX1_grades_71 : decode cX1_grades 71 = .ok (.aload_n 1, 1) := dk_43 (dk_at dksX1_grades_2 23 rfl rfl)
theorem dX1_grades_72 : decode cX1_grades 72 = .ok (.aload_n 1, 1) := dk_43 (dk_at dksX1_grades_3 0 rfl rfl)
theorem dX1_grades_73 : decode cX1_grades 73 = .ok (.getfield 133, 3) := dk_180 0 133 (dk_at dksX1_grades_3 1 rfl rfl)
theorem dX1_grades_76 : decode cX1_grades 76 = .ok (.invokevirtual 222, 3) := dk_182 0 222 (dk_at dksX1_grades_3 4 rfl rfl)
theorem dX1_grades_79 : decode cX1_grades 79 = .ok (.checkcast 102, 3) := dk_192 0 102 (dk_at dksX1_grades_3 7 rfl rfl)
theorem dX1_grades_82 : decode cX1_grades 82 = .ok (.invokevirtual 235, 3) := dk_182 0 235 (dk_at dksX1_grades_3 10 rfl rfl)
theorem dX1_grades_85 : decode cX1_grades 85 = .ok (.iconst 0, 1) := dk_3 (dk_at dksX1_grades_3 13 rfl rfl)
theorem dX1_grades_86 : decode cX1_grades 86 = .ok (.ireturn, 1) := dk_172 (dk_at dksX1_grades_3 14 rfl rfl)
abbrev cX1_gradeOf : ByteArray := prog_8_method_5_code
def yX1_gradeOf : MethodName := ⟨RX1, "gradeOf", "(LEggLights$Lane;)I"⟩
def dkwX1_gradeOf_1 : List UInt8 := [42, 43, 44, 182, 0, 158, 172, 78, 187, 0, 151, 89, 45, 183, 0, 164, 191]
abbrev dktX1_gradeOf_1 : List UInt8 := dkwX1_gradeOf_1 ++ []
def dkwX1_gradeOf_0 : List UInt8 := [43, 180, 0, 133, 182, 0, 148, 153, 0, 11, 187, 0, 151, 89, 183, 0, 153, 191, 42, 43, 182, 0, 154, 77]
abbrev dktX1_gradeOf_0 : List UInt8 := dkwX1_gradeOf_0 ++ dktX1_gradeOf_1
theorem dksX1_gradeOf_0 : cX1_gradeOf.data.toList.drop 0 = dktX1_gradeOf_0 := by decide +kernel
theorem dksX1_gradeOf_1 : cX1_gradeOf.data.toList.drop 24 = dktX1_gradeOf_1 := dk_seg dksX1_gradeOf_0 24 rfl rfl
theorem dX1_gradeOf_0 : decode cX1_gradeOf 0 = .ok (.aload_n 1, 1) := dk_43 (dk_at dksX1_gradeOf_0 0 rfl rfl)
theorem dX1_gradeOf_1 : decode cX1_gradeOf 1 = .ok (.getfield 133, 3) := dk_180 0 133 (dk_at dksX1_gradeOf_0 1 rfl rfl)
theorem dX1_gradeOf_4 : decode cX1_gradeOf 4 = .ok (.invokevirtual 148, 3) := dk_182 0 148 (dk_at dksX1_gradeOf_0 4 rfl rfl)
theorem dX1_gradeOf_7 : decode cX1_gradeOf 7 = .ok (.ifCond .eq 11, 3) := dk_153 0 11 (dk_at dksX1_gradeOf_0 7 rfl rfl)
theorem dX1_gradeOf_10 : decode cX1_gradeOf 10 = .ok (.new 151, 3) := dk_187 0 151 (dk_at dksX1_gradeOf_0 10 rfl rfl)
theorem dX1_gradeOf_13 : decode cX1_gradeOf 13 = .ok (.dup, 1) := dk_89 (dk_at dksX1_gradeOf_0 13 rfl rfl)
theorem dX1_gradeOf_14 : decode cX1_gradeOf 14 = .ok (.invokespecial 153, 3) := dk_183 0 153 (dk_at dksX1_gradeOf_0 14 rfl rfl)
theorem dX1_gradeOf_17 : decode cX1_gradeOf 17 = .ok (.athrow, 1) := dk_191 (dk_at dksX1_gradeOf_0 17 rfl rfl)
theorem dX1_gradeOf_18 : decode cX1_gradeOf 18 = .ok (.aload_n 0, 1) := dk_42 (dk_at dksX1_gradeOf_0 18 rfl rfl)
theorem dX1_gradeOf_19 : decode cX1_gradeOf 19 = .ok (.aload_n 1, 1) := dk_43 (dk_at dksX1_gradeOf_0 19 rfl rfl)
theorem dX1_gradeOf_20 : decode cX1_gradeOf 20 = .ok (.invokevirtual 154, 3) := dk_182 0 154 (dk_at dksX1_gradeOf_0 20 rfl rfl)
theorem dX1_gradeOf_23 : decode cX1_gradeOf 23 = .ok (.astore_n 2, 1) := dk_77 (dk_at dksX1_gradeOf_0 23 rfl rfl)
theorem dX1_gradeOf_24 : decode cX1_gradeOf 24 = .ok (.aload_n 0, 1) := dk_42 (dk_at dksX1_gradeOf_1 0 rfl rfl)
theorem dX1_gradeOf_25 : decode cX1_gradeOf 25 = .ok (.aload_n 1, 1) := dk_43 (dk_at dksX1_gradeOf_1 1 rfl rfl)
theorem dX1_gradeOf_26 : decode cX1_gradeOf 26 = .ok (.aload_n 2, 1) := dk_44 (dk_at dksX1_gradeOf_1 2 rfl rfl)
theorem dX1_gradeOf_27 : decode cX1_gradeOf 27 = .ok (.invokevirtual 158, 3) := dk_182 0 158 (dk_at dksX1_gradeOf_1 3 rfl rfl)
theorem dX1_gradeOf_30 : decode cX1_gradeOf 30 = .ok (.ireturn, 1) := dk_172 (dk_at dksX1_gradeOf_1 6 rfl rfl)
theorem dX1_gradeOf_31 : decode cX1_gradeOf 31 = .ok (.astore_n 3, 1) := dk_78 (dk_at dksX1_gradeOf_1 7 rfl rfl)
theorem dX1_gradeOf_32 : decode cX1_gradeOf 32 = .ok (.new 151, 3) := dk_187 0 151 (dk_at dksX1_gradeOf_1 8 rfl rfl)
theorem dX1_gradeOf_35 : decode cX1_gradeOf 35 = .ok (.dup, 1) := dk_89 (dk_at dksX1_gradeOf_1 11 rfl rfl)
theorem dX1_gradeOf_36 : decode cX1_gradeOf 36 = .ok (.aload_n 3, 1) := dk_45 (dk_at dksX1_gradeOf_1 12 rfl rfl)
theorem dX1_gradeOf_37 : decode cX1_gradeOf 37 = .ok (.invokespecial 164, 3) := dk_183 0 164 (dk_at dksX1_gradeOf_1 13 rfl rfl)
theorem dX1_gradeOf_40 : decode cX1_gradeOf 40 = .ok (.athrow, 1) := dk_191 (dk_at dksX1_gradeOf_1 16 rfl rfl)
abbrev cX1_stained : ByteArray := prog_8_method_4_code
def yX1_stained : MethodName := ⟨RX1, "stained", "(LEggLights$Lane;)LEggLights$Egg;"⟩
def dkwX1_stained_1 : List UInt8 := [167, 0, 4, 3, 128, 181, 0, 118, 43, 3, 43, 180, 0, 139, 4, 100, 184, 0, 142, 181, 0, 139, 44, 176]
abbrev dktX1_stained_1 : List UInt8 := dkwX1_stained_1 ++ []
def dkwX1_stained_0 : List UInt8 := [43, 180, 0, 133, 182, 0, 136, 192, 0, 102, 77, 44, 89, 180, 0, 118, 43, 180, 0, 139, 158, 0, 7, 4]
abbrev dktX1_stained_0 : List UInt8 := dkwX1_stained_0 ++ dktX1_stained_1
theorem dksX1_stained_0 : cX1_stained.data.toList.drop 0 = dktX1_stained_0 := by decide +kernel
theorem dksX1_stained_1 : cX1_stained.data.toList.drop 24 = dktX1_stained_1 := dk_seg dksX1_stained_0 24 rfl rfl
theorem dX1_stained_0 : decode cX1_stained 0 = .ok (.aload_n 1, 1) := dk_43 (dk_at dksX1_stained_0 0 rfl rfl)
theorem dX1_stained_1 : decode cX1_stained 1 = .ok (.getfield 133, 3) := dk_180 0 133 (dk_at dksX1_stained_0 1 rfl rfl)
theorem dX1_stained_4 : decode cX1_stained 4 = .ok (.invokevirtual 136, 3) := dk_182 0 136 (dk_at dksX1_stained_0 4 rfl rfl)
theorem dX1_stained_7 : decode cX1_stained 7 = .ok (.checkcast 102, 3) := dk_192 0 102 (dk_at dksX1_stained_0 7 rfl rfl)
theorem dX1_stained_10 : decode cX1_stained 10 = .ok (.astore_n 2, 1) := dk_77 (dk_at dksX1_stained_0 10 rfl rfl)
theorem dX1_stained_11 : decode cX1_stained 11 = .ok (.aload_n 2, 1) := dk_44 (dk_at dksX1_stained_0 11 rfl rfl)
theorem dX1_stained_12 : decode cX1_stained 12 = .ok (.dup, 1) := dk_89 (dk_at dksX1_stained_0 12 rfl rfl)
theorem dX1_stained_13 : decode cX1_stained 13 = .ok (.getfield 118, 3) := dk_180 0 118 (dk_at dksX1_stained_0 13 rfl rfl)
theorem dX1_stained_16 : decode cX1_stained 16 = .ok (.aload_n 1, 1) := dk_43 (dk_at dksX1_stained_0 16 rfl rfl)
theorem dX1_stained_17 : decode cX1_stained 17 = .ok (.getfield 139, 3) := dk_180 0 139 (dk_at dksX1_stained_0 17 rfl rfl)
theorem dX1_stained_20 : decode cX1_stained 20 = .ok (.ifCond .le 7, 3) := dk_158 0 7 (dk_at dksX1_stained_0 20 rfl rfl)
theorem dX1_stained_23 : decode cX1_stained 23 = .ok (.iconst 1, 1) := dk_4 (dk_at dksX1_stained_0 23 rfl rfl)
theorem dX1_stained_24 : decode cX1_stained 24 = .ok (.goto 4, 3) := dk_167 0 4 (dk_at dksX1_stained_1 0 rfl rfl)
theorem dX1_stained_27 : decode cX1_stained 27 = .ok (.iconst 0, 1) := dk_3 (dk_at dksX1_stained_1 3 rfl rfl)
theorem dX1_stained_28 : decode cX1_stained 28 = .ok (.ior, 1) := dk_128 (dk_at dksX1_stained_1 4 rfl rfl)
theorem dX1_stained_29 : decode cX1_stained 29 = .ok (.putfield 118, 3) := dk_181 0 118 (dk_at dksX1_stained_1 5 rfl rfl)
theorem dX1_stained_32 : decode cX1_stained 32 = .ok (.aload_n 1, 1) := dk_43 (dk_at dksX1_stained_1 8 rfl rfl)
theorem dX1_stained_33 : decode cX1_stained 33 = .ok (.iconst 0, 1) := dk_3 (dk_at dksX1_stained_1 9 rfl rfl)
theorem dX1_stained_34 : decode cX1_stained 34 = .ok (.aload_n 1, 1) := dk_43 (dk_at dksX1_stained_1 10 rfl rfl)
theorem dX1_stained_35 : decode cX1_stained 35 = .ok (.getfield 139, 3) := dk_180 0 139 (dk_at dksX1_stained_1 11 rfl rfl)
theorem dX1_stained_38 : decode cX1_stained 38 = .ok (.iconst 1, 1) := dk_4 (dk_at dksX1_stained_1 14 rfl rfl)
theorem dX1_stained_39 : decode cX1_stained 39 = .ok (.isub, 1) := dk_100 (dk_at dksX1_stained_1 15 rfl rfl)
theorem dX1_stained_40 : decode cX1_stained 40 = .ok (.invokestatic 142, 3) := dk_184 0 142 (dk_at dksX1_stained_1 16 rfl rfl)
theorem dX1_stained_43 : decode cX1_stained 43 = .ok (.putfield 139, 3) := dk_181 0 139 (dk_at dksX1_stained_1 19 rfl rfl)
theorem dX1_stained_46 : decode cX1_stained 46 = .ok (.aload_n 2, 1) := dk_44 (dk_at dksX1_stained_1 22 rfl rfl)
theorem dX1_stained_47 : decode cX1_stained 47 = .ok (.areturn, 1) := dk_176 (dk_at dksX1_stained_1 23 rfl rfl)
abbrev cX1_lit : ByteArray := prog_8_method_3_code
def yX1_lit : MethodName := ⟨RX1, "lit", "(LEggLights$Lane;LEggLights$Egg;)I"⟩
def dkwX1_lit_5 : List UInt8 := [6, 46, 164, 0, 7, 7, 167, 0, 7, 44, 182, 0, 129, 172]
abbrev dktX1_lit_5 : List UInt8 := dkwX1_lit_5 ++ []
def dkwX1_lit_4 : List UInt8 := [126, 184, 0, 121, 54, 5, 44, 180, 0, 126, 5, 160, 0, 7, 8, 167, 0, 22, 21, 5, 42, 180, 0, 28]
abbrev dktX1_lit_4 : List UInt8 := dkwX1_lit_4 ++ dktX1_lit_5
def dkwX1_lit_3 : List UInt8 := [164, 0, 7, 4, 167, 0, 4, 3, 54, 4, 21, 4, 153, 0, 7, 3, 167, 0, 12, 29, 44, 180, 0, 118]
abbrev dktX1_lit_3 : List UInt8 := dkwX1_lit_3 ++ dktX1_lit_4
def dkwX1_lit_2 : List UInt8 := [160, 0, 11, 187, 0, 115, 89, 183, 0, 117, 191, 43, 180, 0, 98, 44, 180, 0, 101, 16, 40, 96]
abbrev dktX1_lit_2 : List UInt8 := dkwX1_lit_2 ++ dktX1_lit_3
def dkwX1_lit_1 : List UInt8 := [187, 0, 106, 89, 183, 0, 108, 191, 44, 182, 0, 109, 153, 0, 23, 29, 44, 180, 0, 112, 122, 4, 126, 4]
abbrev dktX1_lit_1 : List UInt8 := dkwX1_lit_1 ++ dktX1_lit_2
def dkwX1_lit_0 : List UInt8 := [43, 42, 180, 0, 28, 3, 46, 182, 0, 94, 62, 43, 180, 0, 98, 44, 180, 0, 101, 162, 0, 11]
abbrev dktX1_lit_0 : List UInt8 := dkwX1_lit_0 ++ dktX1_lit_1
theorem dksX1_lit_0 : cX1_lit.data.toList.drop 0 = dktX1_lit_0 := by decide +kernel
theorem dksX1_lit_1 : cX1_lit.data.toList.drop 22 = dktX1_lit_1 := dk_seg dksX1_lit_0 22 rfl rfl
theorem dksX1_lit_2 : cX1_lit.data.toList.drop 46 = dktX1_lit_2 := dk_seg dksX1_lit_1 24 rfl rfl
theorem dksX1_lit_3 : cX1_lit.data.toList.drop 68 = dktX1_lit_3 := dk_seg dksX1_lit_2 22 rfl rfl
theorem dksX1_lit_4 : cX1_lit.data.toList.drop 92 = dktX1_lit_4 := dk_seg dksX1_lit_3 24 rfl rfl
theorem dksX1_lit_5 : cX1_lit.data.toList.drop 116 = dktX1_lit_5 := dk_seg dksX1_lit_4 24 rfl rfl
theorem dX1_lit_0 : decode cX1_lit 0 = .ok (.aload_n 1, 1) := dk_43 (dk_at dksX1_lit_0 0 rfl rfl)
theorem dX1_lit_1 : decode cX1_lit 1 = .ok (.aload_n 0, 1) := dk_42 (dk_at dksX1_lit_0 1 rfl rfl)
theorem dX1_lit_2 : decode cX1_lit 2 = .ok (.getfield 28, 3) := dk_180 0 28 (dk_at dksX1_lit_0 2 rfl rfl)
theorem dX1_lit_5 : decode cX1_lit 5 = .ok (.iconst 0, 1) := dk_3 (dk_at dksX1_lit_0 5 rfl rfl)
theorem dX1_lit_6 : decode cX1_lit 6 = .ok (.iaload, 1) := dk_46 (dk_at dksX1_lit_0 6 rfl rfl)
theorem dX1_lit_7 : decode cX1_lit 7 = .ok (.invokevirtual 94, 3) := dk_182 0 94 (dk_at dksX1_lit_0 7 rfl rfl)
theorem dX1_lit_10 : decode cX1_lit 10 = .ok (.istore_n 3, 1) := dk_62 (dk_at dksX1_lit_0 10 rfl rfl)
theorem dX1_lit_11 : decode cX1_lit 11 = .ok (.aload_n 1, 1) := dk_43 (dk_at dksX1_lit_0 11 rfl rfl)
theorem dX1_lit_12 : decode cX1_lit 12 = .ok (.getfield 98, 3) := dk_180 0 98 (dk_at dksX1_lit_0 12 rfl rfl)
theorem dX1_lit_15 : decode cX1_lit 15 = .ok (.aload_n 2, 1) := dk_44 (dk_at dksX1_lit_0 15 rfl rfl)
theorem dX1_lit_16 : decode cX1_lit 16 = .ok (.getfield 101, 3) := dk_180 0 101 (dk_at dksX1_lit_0 16 rfl rfl)
theorem dX1_lit_19 : decode cX1_lit 19 = .ok (.if_icmp .ge 11, 3) := dk_162 0 11 (dk_at dksX1_lit_0 19 rfl rfl)
theorem dX1_lit_22 : decode cX1_lit 22 = .ok (.new 106, 3) := dk_187 0 106 (dk_at dksX1_lit_1 0 rfl rfl)
theorem dX1_lit_25 : decode cX1_lit 25 = .ok (.dup, 1) := dk_89 (dk_at dksX1_lit_1 3 rfl rfl)
theorem dX1_lit_26 : decode cX1_lit 26 = .ok (.invokespecial 108, 3) := dk_183 0 108 (dk_at dksX1_lit_1 4 rfl rfl)
theorem dX1_lit_29 : decode cX1_lit 29 = .ok (.athrow, 1) := dk_191 (dk_at dksX1_lit_1 7 rfl rfl)
theorem dX1_lit_30 : decode cX1_lit 30 = .ok (.aload_n 2, 1) := dk_44 (dk_at dksX1_lit_1 8 rfl rfl)
theorem dX1_lit_31 : decode cX1_lit 31 = .ok (.invokevirtual 109, 3) := dk_182 0 109 (dk_at dksX1_lit_1 9 rfl rfl)
theorem dX1_lit_34 : decode cX1_lit 34 = .ok (.ifCond .eq 23, 3) := dk_153 0 23 (dk_at dksX1_lit_1 12 rfl rfl)
theorem dX1_lit_37 : decode cX1_lit 37 = .ok (.iload_n 3, 1) := dk_29 (dk_at dksX1_lit_1 15 rfl rfl)
theorem dX1_lit_38 : decode cX1_lit 38 = .ok (.aload_n 2, 1) := dk_44 (dk_at dksX1_lit_1 16 rfl rfl)
theorem dX1_lit_39 : decode cX1_lit 39 = .ok (.getfield 112, 3) := dk_180 0 112 (dk_at dksX1_lit_1 17 rfl rfl)
theorem dX1_lit_42 : decode cX1_lit 42 = .ok (.ishr, 1) := dk_122 (dk_at dksX1_lit_1 20 rfl rfl)
theorem dX1_lit_43 : decode cX1_lit 43 = .ok (.iconst 1, 1) := dk_4 (dk_at dksX1_lit_1 21 rfl rfl)
theorem dX1_lit_44 : decode cX1_lit 44 = .ok (.iand, 1) := dk_126 (dk_at dksX1_lit_1 22 rfl rfl)
theorem dX1_lit_45 : decode cX1_lit 45 = .ok (.iconst 1, 1) := dk_4 (dk_at dksX1_lit_1 23 rfl rfl)
theorem dX1_lit_46 : decode cX1_lit 46 = .ok (.if_icmp .ne 11, 3) := dk_160 0 11 (dk_at dksX1_lit_2 0 rfl rfl)
theorem dX1_lit_49 : decode cX1_lit 49 = .ok (.new 115, 3) := dk_187 0 115 (dk_at dksX1_lit_2 3 rfl rfl)
theorem dX1_lit_52 : decode cX1_lit 52 = .ok (.dup, 1) := dk_89 (dk_at dksX1_lit_2 6 rfl rfl)
theorem dX1_lit_53 : decode cX1_lit 53 = .ok (.invokespecial 117, 3) := dk_183 0 117 (dk_at dksX1_lit_2 7 rfl rfl)
theorem dX1_lit_56 : decode cX1_lit 56 = .ok (.athrow, 1) := dk_191 (dk_at dksX1_lit_2 10 rfl rfl)
theorem dX1_lit_57 : decode cX1_lit 57 = .ok (.aload_n 1, 1) := dk_43 (dk_at dksX1_lit_2 11 rfl rfl)
theorem dX1_lit_58 : decode cX1_lit 58 = .ok (.getfield 98, 3) := dk_180 0 98 (dk_at dksX1_lit_2 12 rfl rfl)
theorem dX1_lit_61 : decode cX1_lit 61 = .ok (.aload_n 2, 1) := dk_44 (dk_at dksX1_lit_2 15 rfl rfl)
theorem dX1_lit_62 : decode cX1_lit 62 = .ok (.getfield 101, 3) := dk_180 0 101 (dk_at dksX1_lit_2 16 rfl rfl)
theorem dX1_lit_65 : decode cX1_lit 65 = .ok (.bipush 40, 2) := dk_16 40 (dk_at dksX1_lit_2 19 rfl rfl)
theorem dX1_lit_67 : decode cX1_lit 67 = .ok (.iadd, 1) := dk_96 (dk_at dksX1_lit_2 21 rfl rfl)
theorem dX1_lit_68 : decode cX1_lit 68 = .ok (.if_icmp .le 7, 3) := dk_164 0 7 (dk_at dksX1_lit_3 0 rfl rfl)
theorem dX1_lit_71 : decode cX1_lit 71 = .ok (.iconst 1, 1) := dk_4 (dk_at dksX1_lit_3 3 rfl rfl)
theorem dX1_lit_72 : decode cX1_lit 72 = .ok (.goto 4, 3) := dk_167 0 4 (dk_at dksX1_lit_3 4 rfl rfl)
theorem dX1_lit_75 : decode cX1_lit 75 = .ok (.iconst 0, 1) := dk_3 (dk_at dksX1_lit_3 7 rfl rfl)
theorem dX1_lit_76 : decode cX1_lit 76 = .ok (.istore 4, 2) := dk_54 4 (dk_at dksX1_lit_3 8 rfl rfl)
theorem dX1_lit_78 : decode cX1_lit 78 = .ok (.iload 4, 2) := dk_21 4 (dk_at dksX1_lit_3 10 rfl rfl)
theorem dX1_lit_80 : decode cX1_lit 80 = .ok (.ifCond .eq 7, 3) := dk_153 0 7 (dk_at dksX1_lit_3 12 rfl rfl)
theorem dX1_lit_83 : decode cX1_lit 83 = .ok (.iconst 0, 1) := dk_3 (dk_at dksX1_lit_3 15 rfl rfl)
theorem dX1_lit_84 : decode cX1_lit 84 = .ok (.goto 12, 3) := dk_167 0 12 (dk_at dksX1_lit_3 16 rfl rfl)
theorem dX1_lit_87 : decode cX1_lit 87 = .ok (.iload_n 3, 1) := dk_29 (dk_at dksX1_lit_3 19 rfl rfl)
theorem dX1_lit_88 : decode cX1_lit 88 = .ok (.aload_n 2, 1) := dk_44 (dk_at dksX1_lit_3 20 rfl rfl)
theorem dX1_lit_89 : decode cX1_lit 89 = .ok (.getfield 118, 3) := dk_180 0 118 (dk_at dksX1_lit_3 21 rfl rfl)
theorem dX1_lit_92 : decode cX1_lit 92 = .ok (.iand, 1) := dk_126 (dk_at dksX1_lit_4 0 rfl rfl)
theorem dX1_lit_93 : decode cX1_lit 93 = .ok (.invokestatic 121, 3) := dk_184 0 121 (dk_at dksX1_lit_4 1 rfl rfl)
theorem dX1_lit_96 : decode cX1_lit 96 = .ok (.istore 5, 2) := dk_54 5 (dk_at dksX1_lit_4 4 rfl rfl)
theorem dX1_lit_98 : decode cX1_lit 98 = .ok (.aload_n 2, 1) := dk_44 (dk_at dksX1_lit_4 6 rfl rfl)
theorem dX1_lit_99 : decode cX1_lit 99 = .ok (.getfield 126, 3) := dk_180 0 126 (dk_at dksX1_lit_4 7 rfl rfl)
theorem dX1_lit_102 : decode cX1_lit 102 = .ok (.iconst 2, 1) := dk_5 (dk_at dksX1_lit_4 10 rfl rfl)
theorem dX1_lit_103 : decode cX1_lit 103 = .ok (.if_icmp .ne 7, 3) := dk_160 0 7 (dk_at dksX1_lit_4 11 rfl rfl)
theorem dX1_lit_106 : decode cX1_lit 106 = .ok (.iconst 5, 1) := dk_8 (dk_at dksX1_lit_4 14 rfl rfl)
theorem dX1_lit_107 : decode cX1_lit 107 = .ok (.goto 22, 3) := dk_167 0 22 (dk_at dksX1_lit_4 15 rfl rfl)
theorem dX1_lit_110 : decode cX1_lit 110 = .ok (.iload 5, 2) := dk_21 5 (dk_at dksX1_lit_4 18 rfl rfl)
theorem dX1_lit_112 : decode cX1_lit 112 = .ok (.aload_n 0, 1) := dk_42 (dk_at dksX1_lit_4 20 rfl rfl)
theorem dX1_lit_113 : decode cX1_lit 113 = .ok (.getfield 28, 3) := dk_180 0 28 (dk_at dksX1_lit_4 21 rfl rfl)
theorem dX1_lit_116 : decode cX1_lit 116 = .ok (.iconst 3, 1) := dk_6 (dk_at dksX1_lit_5 0 rfl rfl)
theorem dX1_lit_117 : decode cX1_lit 117 = .ok (.iaload, 1) := dk_46 (dk_at dksX1_lit_5 1 rfl rfl)
theorem dX1_lit_118 : decode cX1_lit 118 = .ok (.if_icmp .le 7, 3) := dk_164 0 7 (dk_at dksX1_lit_5 2 rfl rfl)
theorem dX1_lit_121 : decode cX1_lit 121 = .ok (.iconst 4, 1) := dk_7 (dk_at dksX1_lit_5 5 rfl rfl)
theorem dX1_lit_122 : decode cX1_lit 122 = .ok (.goto 7, 3) := dk_167 0 7 (dk_at dksX1_lit_5 6 rfl rfl)
theorem dX1_lit_125 : decode cX1_lit 125 = .ok (.aload_n 2, 1) := dk_44 (dk_at dksX1_lit_5 9 rfl rfl)
theorem dX1_lit_126 : decode cX1_lit 126 = .ok (.invokevirtual 129, 3) := dk_182 0 129 (dk_at dksX1_lit_5 10 rfl rfl)
theorem dX1_lit_129 : decode cX1_lit 129 = .ok (.ireturn, 1) := dk_172 (dk_at dksX1_lit_5 13 rfl rfl)
abbrev cX1_packs : ByteArray := prog_8_method_7_code
def yX1_packs : MethodName := ⟨RX1, "packs", "(LEggLights$Lane;LEggLights$Egg;I)V"⟩
def dkwX1_packs_8 : List UInt8 := [184, 0, 211, 104, 96, 181, 0, 85, 25, 4, 3, 181, 0, 186, 25, 4, 3, 181, 0, 192, 177]
abbrev dktX1_packs_8 : List UInt8 := dkwX1_packs_8 ++ []
def dkwX1_packs_7 : List UInt8 := [3, 96, 181, 0, 208, 42, 89, 180, 0, 85, 21, 5, 153, 0, 7, 3, 167, 0, 10, 16, 6, 29]
abbrev dktX1_packs_7 : List UInt8 := dkwX1_packs_7 ++ dktX1_packs_8
def dkwX1_packs_6 : List UInt8 := [3, 167, 0, 4, 4, 96, 181, 0, 205, 25, 4, 89, 180, 0, 208, 21, 5, 153, 0, 7, 4, 167, 0, 4]
abbrev dktX1_packs_6 : List UInt8 := dkwX1_packs_6 ++ dktX1_packs_7
def dkwX1_packs_5 : List UInt8 := [180, 0, 192, 158, 0, 7, 4, 167, 0, 4, 3, 54, 5, 25, 4, 89, 180, 0, 205, 21, 5, 153, 0, 7]
abbrev dktX1_packs_5 : List UInt8 := dkwX1_packs_5 ++ dktX1_packs_6
def dkwX1_packs_4 : List UInt8 := [3, 96, 181, 0, 91, 42, 43, 44, 29, 182, 0, 201, 25, 4, 180, 0, 186, 16, 6, 160, 0, 95, 25, 4]
abbrev dktX1_packs_4 : List UInt8 := dkwX1_packs_4 ++ dktX1_packs_5
def dkwX1_packs_3 : List UInt8 := [44, 180, 0, 198, 96, 181, 0, 88, 42, 89, 180, 0, 91, 44, 182, 0, 109, 153, 0, 7, 4, 167, 0, 4]
abbrev dktX1_packs_3 : List UInt8 := dkwX1_packs_3 ++ dktX1_packs_4
def dkwX1_packs_2 : List UInt8 := [4, 167, 0, 4, 3, 96, 181, 0, 192, 43, 89, 180, 0, 195, 4, 96, 181, 0, 195, 42, 89, 180, 0, 88]
abbrev dktX1_packs_2 : List UInt8 := dkwX1_packs_2 ++ dktX1_packs_3
def dkwX1_packs_1 : List UInt8 := [25, 4, 89, 180, 0, 189, 4, 96, 181, 0, 189, 25, 4, 89, 180, 0, 192, 44, 182, 0, 109, 153, 0, 7]
abbrev dktX1_packs_1 : List UInt8 := dkwX1_packs_1 ++ dktX1_packs_2
def dkwX1_packs_0 : List UInt8 := [42, 180, 0, 18, 29, 182, 0, 182, 192, 0, 41, 58, 4, 25, 4, 89, 180, 0, 186, 4, 96, 181, 0, 186]
abbrev dktX1_packs_0 : List UInt8 := dkwX1_packs_0 ++ dktX1_packs_1
theorem dksX1_packs_0 : cX1_packs.data.toList.drop 0 = dktX1_packs_0 := by decide +kernel
theorem dksX1_packs_1 : cX1_packs.data.toList.drop 24 = dktX1_packs_1 := dk_seg dksX1_packs_0 24 rfl rfl
theorem dksX1_packs_2 : cX1_packs.data.toList.drop 48 = dktX1_packs_2 := dk_seg dksX1_packs_1 24 rfl rfl
theorem dksX1_packs_3 : cX1_packs.data.toList.drop 72 = dktX1_packs_3 := dk_seg dksX1_packs_2 24 rfl rfl
theorem dksX1_packs_4 : cX1_packs.data.toList.drop 96 = dktX1_packs_4 := dk_seg dksX1_packs_3 24 rfl rfl
theorem dksX1_packs_5 : cX1_packs.data.toList.drop 120 = dktX1_packs_5 := dk_seg dksX1_packs_4 24 rfl rfl
theorem dksX1_packs_6 : cX1_packs.data.toList.drop 144 = dktX1_packs_6 := dk_seg dksX1_packs_5 24 rfl rfl
theorem dksX1_packs_7 : cX1_packs.data.toList.drop 168 = dktX1_packs_7 := dk_seg dksX1_packs_6 24 rfl rfl
theorem dksX1_packs_8 : cX1_packs.data.toList.drop 190 = dktX1_packs_8 := dk_seg dksX1_packs_7 22 rfl rfl
theorem dX1_packs_0 : decode cX1_packs 0 = .ok (.aload_n 0, 1) := dk_42 (dk_at dksX1_packs_0 0 rfl rfl)
theorem dX1_packs_1 : decode cX1_packs 1 = .ok (.getfield 18, 3) := dk_180 0 18 (dk_at dksX1_packs_0 1 rfl rfl)
theorem dX1_packs_4 : decode cX1_packs 4 = .ok (.iload_n 3, 1) := dk_29 (dk_at dksX1_packs_0 4 rfl rfl)
theorem dX1_packs_5 : decode cX1_packs 5 = .ok (.invokevirtual 182, 3) := dk_182 0 182 (dk_at dksX1_packs_0 5 rfl rfl)
theorem dX1_packs_8 : decode cX1_packs 8 = .ok (.checkcast 41, 3) := dk_192 0 41 (dk_at dksX1_packs_0 8 rfl rfl)
theorem dX1_packs_11 : decode cX1_packs 11 = .ok (.astore 4, 2) := dk_58 4 (dk_at dksX1_packs_0 11 rfl rfl)
theorem dX1_packs_13 : decode cX1_packs 13 = .ok (.aload 4, 2) := dk_25 4 (dk_at dksX1_packs_0 13 rfl rfl)
theorem dX1_packs_15 : decode cX1_packs 15 = .ok (.dup, 1) := dk_89 (dk_at dksX1_packs_0 15 rfl rfl)
theorem dX1_packs_16 : decode cX1_packs 16 = .ok (.getfield 186, 3) := dk_180 0 186 (dk_at dksX1_packs_0 16 rfl rfl)
theorem dX1_packs_19 : decode cX1_packs 19 = .ok (.iconst 1, 1) := dk_4 (dk_at dksX1_packs_0 19 rfl rfl)
theorem dX1_packs_20 : decode cX1_packs 20 = .ok (.iadd, 1) := dk_96 (dk_at dksX1_packs_0 20 rfl rfl)
theorem dX1_packs_21 : decode cX1_packs 21 = .ok (.putfield 186, 3) := dk_181 0 186 (dk_at dksX1_packs_0 21 rfl rfl)
theorem dX1_packs_24 : decode cX1_packs 24 = .ok (.aload 4, 2) := dk_25 4 (dk_at dksX1_packs_1 0 rfl rfl)
theorem dX1_packs_26 : decode cX1_packs 26 = .ok (.dup, 1) := dk_89 (dk_at dksX1_packs_1 2 rfl rfl)
theorem dX1_packs_27 : decode cX1_packs 27 = .ok (.getfield 189, 3) := dk_180 0 189 (dk_at dksX1_packs_1 3 rfl rfl)
theorem dX1_packs_30 : decode cX1_packs 30 = .ok (.iconst 1, 1) := dk_4 (dk_at dksX1_packs_1 6 rfl rfl)
theorem dX1_packs_31 : decode cX1_packs 31 = .ok (.iadd, 1) := dk_96 (dk_at dksX1_packs_1 7 rfl rfl)
theorem dX1_packs_32 : decode cX1_packs 32 = .ok (.putfield 189, 3) := dk_181 0 189 (dk_at dksX1_packs_1 8 rfl rfl)
theorem dX1_packs_35 : decode cX1_packs 35 = .ok (.aload 4, 2) := dk_25 4 (dk_at dksX1_packs_1 11 rfl rfl)
theorem dX1_packs_37 : decode cX1_packs 37 = .ok (.dup, 1) := dk_89 (dk_at dksX1_packs_1 13 rfl rfl)
theorem dX1_packs_38 : decode cX1_packs 38 = .ok (.getfield 192, 3) := dk_180 0 192 (dk_at dksX1_packs_1 14 rfl rfl)
theorem dX1_packs_41 : decode cX1_packs 41 = .ok (.aload_n 2, 1) := dk_44 (dk_at dksX1_packs_1 17 rfl rfl)
theorem dX1_packs_42 : decode cX1_packs 42 = .ok (.invokevirtual 109, 3) := dk_182 0 109 (dk_at dksX1_packs_1 18 rfl rfl)
theorem dX1_packs_45 : decode cX1_packs 45 = .ok (.ifCond .eq 7, 3) := dk_153 0 7 (dk_at dksX1_packs_1 21 rfl rfl)
theorem dX1_packs_48 : decode cX1_packs 48 = .ok (.iconst 1, 1) := dk_4 (dk_at dksX1_packs_2 0 rfl rfl)
theorem dX1_packs_49 : decode cX1_packs 49 = .ok (.goto 4, 3) := dk_167 0 4 (dk_at dksX1_packs_2 1 rfl rfl)
theorem dX1_packs_52 : decode cX1_packs 52 = .ok (.iconst 0, 1) := dk_3 (dk_at dksX1_packs_2 4 rfl rfl)
theorem dX1_packs_53 : decode cX1_packs 53 = .ok (.iadd, 1) := dk_96 (dk_at dksX1_packs_2 5 rfl rfl)
theorem dX1_packs_54 : decode cX1_packs 54 = .ok (.putfield 192, 3) := dk_181 0 192 (dk_at dksX1_packs_2 6 rfl rfl)
theorem dX1_packs_57 : decode cX1_packs 57 = .ok (.aload_n 1, 1) := dk_43 (dk_at dksX1_packs_2 9 rfl rfl)
theorem dX1_packs_58 : decode cX1_packs 58 = .ok (.dup, 1) := dk_89 (dk_at dksX1_packs_2 10 rfl rfl)
theorem dX1_packs_59 : decode cX1_packs 59 = .ok (.getfield 195, 3) := dk_180 0 195 (dk_at dksX1_packs_2 11 rfl rfl)
theorem dX1_packs_62 : decode cX1_packs 62 = .ok (.iconst 1, 1) := dk_4 (dk_at dksX1_packs_2 14 rfl rfl)
theorem dX1_packs_63 : decode cX1_packs 63 = .ok (.iadd, 1) := dk_96 (dk_at dksX1_packs_2 15 rfl rfl)
theorem dX1_packs_64 : decode cX1_packs 64 = .ok (.putfield 195, 3) := dk_181 0 195 (dk_at dksX1_packs_2 16 rfl rfl)
theorem dX1_packs_67 : decode cX1_packs 67 = .ok (.aload_n 0, 1) := dk_42 (dk_at dksX1_packs_2 19 rfl rfl)
theorem dX1_packs_68 : decode cX1_packs 68 = .ok (.dup, 1) := dk_89 (dk_at dksX1_packs_2 20 rfl rfl)
theorem dX1_packs_69 : decode cX1_packs 69 = .ok (.getfield 88, 3) := dk_180 0 88 (dk_at dksX1_packs_2 21 rfl rfl)
theorem dX1_packs_72 : decode cX1_packs 72 = .ok (.aload_n 2, 1) := dk_44 (dk_at dksX1_packs_3 0 rfl rfl)
theorem dX1_packs_73 : decode cX1_packs 73 = .ok (.getfield 198, 3) := dk_180 0 198 (dk_at dksX1_packs_3 1 rfl rfl)
theorem dX1_packs_76 : decode cX1_packs 76 = .ok (.iadd, 1) := dk_96 (dk_at dksX1_packs_3 4 rfl rfl)
theorem dX1_packs_77 : decode cX1_packs 77 = .ok (.putfield 88, 3) := dk_181 0 88 (dk_at dksX1_packs_3 5 rfl rfl)
theorem dX1_packs_80 : decode cX1_packs 80 = .ok (.aload_n 0, 1) := dk_42 (dk_at dksX1_packs_3 8 rfl rfl)
theorem dX1_packs_81 : decode cX1_packs 81 = .ok (.dup, 1) := dk_89 (dk_at dksX1_packs_3 9 rfl rfl)
theorem dX1_packs_82 : decode cX1_packs 82 = .ok (.getfield 91, 3) := dk_180 0 91 (dk_at dksX1_packs_3 10 rfl rfl)
theorem dX1_packs_85 : decode cX1_packs 85 = .ok (.aload_n 2, 1) := dk_44 (dk_at dksX1_packs_3 13 rfl rfl)
theorem dX1_packs_86 : decode cX1_packs 86 = .ok (.invokevirtual 109, 3) := dk_182 0 109 (dk_at dksX1_packs_3 14 rfl rfl)
theorem dX1_packs_89 : decode cX1_packs 89 = .ok (.ifCond .eq 7, 3) := dk_153 0 7 (dk_at dksX1_packs_3 17 rfl rfl)
theorem dX1_packs_92 : decode cX1_packs 92 = .ok (.iconst 1, 1) := dk_4 (dk_at dksX1_packs_3 20 rfl rfl)
theorem dX1_packs_93 : decode cX1_packs 93 = .ok (.goto 4, 3) := dk_167 0 4 (dk_at dksX1_packs_3 21 rfl rfl)
theorem dX1_packs_96 : decode cX1_packs 96 = .ok (.iconst 0, 1) := dk_3 (dk_at dksX1_packs_4 0 rfl rfl)
theorem dX1_packs_97 : decode cX1_packs 97 = .ok (.iadd, 1) := dk_96 (dk_at dksX1_packs_4 1 rfl rfl)
theorem dX1_packs_98 : decode cX1_packs 98 = .ok (.putfield 91, 3) := dk_181 0 91 (dk_at dksX1_packs_4 2 rfl rfl)
theorem dX1_packs_101 : decode cX1_packs 101 = .ok (.aload_n 0, 1) := dk_42 (dk_at dksX1_packs_4 5 rfl rfl)
theorem dX1_packs_102 : decode cX1_packs 102 = .ok (.aload_n 1, 1) := dk_43 (dk_at dksX1_packs_4 6 rfl rfl)
theorem dX1_packs_103 : decode cX1_packs 103 = .ok (.aload_n 2, 1) := dk_44 (dk_at dksX1_packs_4 7 rfl rfl)
theorem dX1_packs_104 : decode cX1_packs 104 = .ok (.iload_n 3, 1) := dk_29 (dk_at dksX1_packs_4 8 rfl rfl)
theorem dX1_packs_105 : decode cX1_packs 105 = .ok (.invokevirtual 201, 3) := dk_182 0 201 (dk_at dksX1_packs_4 9 rfl rfl)
theorem dX1_packs_108 : decode cX1_packs 108 = .ok (.aload 4, 2) := dk_25 4 (dk_at dksX1_packs_4 12 rfl rfl)
theorem dX1_packs_110 : decode cX1_packs 110 = .ok (.getfield 186, 3) := dk_180 0 186 (dk_at dksX1_packs_4 14 rfl rfl)
theorem dX1_packs_113 : decode cX1_packs 113 = .ok (.bipush 6, 2) := dk_16 6 (dk_at dksX1_packs_4 17 rfl rfl)
theorem dX1_packs_115 : decode cX1_packs 115 = .ok (.if_icmp .ne 95, 3) := dk_160 0 95 (dk_at dksX1_packs_4 19 rfl rfl)
theorem dX1_packs_118 : decode cX1_packs 118 = .ok (.aload 4, 2) := dk_25 4 (dk_at dksX1_packs_4 22 rfl rfl)
theorem dX1_packs_120 : decode cX1_packs 120 = .ok (.getfield 192, 3) := dk_180 0 192 (dk_at dksX1_packs_5 0 rfl rfl)
theorem dX1_packs_123 : decode cX1_packs 123 = .ok (.ifCond .le 7, 3) := dk_158 0 7 (dk_at dksX1_packs_5 3 rfl rfl)
theorem dX1_packs_126 : decode cX1_packs 126 = .ok (.iconst 1, 1) := dk_4 (dk_at dksX1_packs_5 6 rfl rfl)
theorem dX1_packs_127 : decode cX1_packs 127 = .ok (.goto 4, 3) := dk_167 0 4 (dk_at dksX1_packs_5 7 rfl rfl)
theorem dX1_packs_130 : decode cX1_packs 130 = .ok (.iconst 0, 1) := dk_3 (dk_at dksX1_packs_5 10 rfl rfl)
theorem dX1_packs_131 : decode cX1_packs 131 = .ok (.istore 5, 2) := dk_54 5 (dk_at dksX1_packs_5 11 rfl rfl)
theorem dX1_packs_133 : decode cX1_packs 133 = .ok (.aload 4, 2) := dk_25 4 (dk_at dksX1_packs_5 13 rfl rfl)
theorem dX1_packs_135 : decode cX1_packs 135 = .ok (.dup, 1) := dk_89 (dk_at dksX1_packs_5 15 rfl rfl)
theorem dX1_packs_136 : decode cX1_packs 136 = .ok (.getfield 205, 3) := dk_180 0 205 (dk_at dksX1_packs_5 16 rfl rfl)
theorem dX1_packs_139 : decode cX1_packs 139 = .ok (.iload 5, 2) := dk_21 5 (dk_at dksX1_packs_5 19 rfl rfl)
theorem dX1_packs_141 : decode cX1_packs 141 = .ok (.ifCond .eq 7, 3) := dk_153 0 7 (dk_at dksX1_packs_5 21 rfl rfl)
theorem dX1_packs_144 : decode cX1_packs 144 = .ok (.iconst 0, 1) := dk_3 (dk_at dksX1_packs_6 0 rfl rfl)
theorem dX1_packs_145 : decode cX1_packs 145 = .ok (.goto 4, 3) := dk_167 0 4 (dk_at dksX1_packs_6 1 rfl rfl)
theorem dX1_packs_148 : decode cX1_packs 148 = .ok (.iconst 1, 1) := dk_4 (dk_at dksX1_packs_6 4 rfl rfl)
theorem dX1_packs_149 : decode cX1_packs 149 = .ok (.iadd, 1) := dk_96 (dk_at dksX1_packs_6 5 rfl rfl)
theorem dX1_packs_150 : decode cX1_packs 150 = .ok (.putfield 205, 3) := dk_181 0 205 (dk_at dksX1_packs_6 6 rfl rfl)
theorem dX1_packs_153 : decode cX1_packs 153 = .ok (.aload 4, 2) := dk_25 4 (dk_at dksX1_packs_6 9 rfl rfl)
theorem dX1_packs_155 : decode cX1_packs 155 = .ok (.dup, 1) := dk_89 (dk_at dksX1_packs_6 11 rfl rfl)
theorem dX1_packs_156 : decode cX1_packs 156 = .ok (.getfield 208, 3) := dk_180 0 208 (dk_at dksX1_packs_6 12 rfl rfl)
theorem dX1_packs_159 : decode cX1_packs 159 = .ok (.iload 5, 2) := dk_21 5 (dk_at dksX1_packs_6 15 rfl rfl)
theorem dX1_packs_161 : decode cX1_packs 161 = .ok (.ifCond .eq 7, 3) := dk_153 0 7 (dk_at dksX1_packs_6 17 rfl rfl)
theorem dX1_packs_164 : decode cX1_packs 164 = .ok (.iconst 1, 1) := dk_4 (dk_at dksX1_packs_6 20 rfl rfl)
theorem dX1_packs_165 : decode cX1_packs 165 = .ok (.goto 4, 3) := dk_167 0 4 (dk_at dksX1_packs_6 21 rfl rfl)
theorem dX1_packs_168 : decode cX1_packs 168 = .ok (.iconst 0, 1) := dk_3 (dk_at dksX1_packs_7 0 rfl rfl)
theorem dX1_packs_169 : decode cX1_packs 169 = .ok (.iadd, 1) := dk_96 (dk_at dksX1_packs_7 1 rfl rfl)
theorem dX1_packs_170 : decode cX1_packs 170 = .ok (.putfield 208, 3) := dk_181 0 208 (dk_at dksX1_packs_7 2 rfl rfl)
theorem dX1_packs_173 : decode cX1_packs 173 = .ok (.aload_n 0, 1) := dk_42 (dk_at dksX1_packs_7 5 rfl rfl)
theorem dX1_packs_174 : decode cX1_packs 174 = .ok (.dup, 1) := dk_89 (dk_at dksX1_packs_7 6 rfl rfl)
theorem dX1_packs_175 : decode cX1_packs 175 = .ok (.getfield 85, 3) := dk_180 0 85 (dk_at dksX1_packs_7 7 rfl rfl)
theorem dX1_packs_178 : decode cX1_packs 178 = .ok (.iload 5, 2) := dk_21 5 (dk_at dksX1_packs_7 10 rfl rfl)
theorem dX1_packs_180 : decode cX1_packs 180 = .ok (.ifCond .eq 7, 3) := dk_153 0 7 (dk_at dksX1_packs_7 12 rfl rfl)
theorem dX1_packs_183 : decode cX1_packs 183 = .ok (.iconst 0, 1) := dk_3 (dk_at dksX1_packs_7 15 rfl rfl)
theorem dX1_packs_184 : decode cX1_packs 184 = .ok (.goto 10, 3) := dk_167 0 10 (dk_at dksX1_packs_7 16 rfl rfl)
theorem dX1_packs_187 : decode cX1_packs 187 = .ok (.bipush 6, 2) := dk_16 6 (dk_at dksX1_packs_7 19 rfl rfl)
theorem dX1_packs_189 : decode cX1_packs 189 = .ok (.iload_n 3, 1) := dk_29 (dk_at dksX1_packs_7 21 rfl rfl)
theorem dX1_packs_190 : decode cX1_packs 190 = .ok (.invokestatic 211, 3) := dk_184 0 211 (dk_at dksX1_packs_8 0 rfl rfl)
theorem dX1_packs_193 : decode cX1_packs 193 = .ok (.imul, 1) := dk_104 (dk_at dksX1_packs_8 3 rfl rfl)
theorem dX1_packs_194 : decode cX1_packs 194 = .ok (.iadd, 1) := dk_96 (dk_at dksX1_packs_8 4 rfl rfl)
theorem dX1_packs_195 : decode cX1_packs 195 = .ok (.putfield 85, 3) := dk_181 0 85 (dk_at dksX1_packs_8 5 rfl rfl)
theorem dX1_packs_198 : decode cX1_packs 198 = .ok (.aload 4, 2) := dk_25 4 (dk_at dksX1_packs_8 8 rfl rfl)
theorem dX1_packs_200 : decode cX1_packs 200 = .ok (.iconst 0, 1) := dk_3 (dk_at dksX1_packs_8 10 rfl rfl)
theorem dX1_packs_201 : decode cX1_packs 201 = .ok (.putfield 186, 3) := dk_181 0 186 (dk_at dksX1_packs_8 11 rfl rfl)
theorem dX1_packs_204 : decode cX1_packs 204 = .ok (.aload 4, 2) := dk_25 4 (dk_at dksX1_packs_8 14 rfl rfl)
theorem dX1_packs_206 : decode cX1_packs 206 = .ok (.iconst 0, 1) := dk_3 (dk_at dksX1_packs_8 16 rfl rfl)
theorem dX1_packs_207 : decode cX1_packs 207 = .ok (.putfield 192, 3) := dk_181 0 192 (dk_at dksX1_packs_8 17 rfl rfl)
theorem dX1_packs_210 : decode cX1_packs 210 = .ok (.return_, 1) := dk_177 (dk_at dksX1_packs_8 20 rfl rfl)
abbrev cX1_enters : ByteArray := prog_8_method_6_code
def yX1_enters : MethodName := ⟨RX1, "enters", "(LEggLights$Lane;LEggLights$Egg;I)V"⟩
def dkwX1_enters_2 : List UInt8 := [192, 0, 69, 58, 4, 177]
abbrev dktX1_enters_2 : List UInt8 := dkwX1_enters_2 ++ []
def dkwX1_enters_1 : List UInt8 := [182, 0, 173, 42, 180, 0, 24, 182, 0, 176, 16, 10, 164, 0, 15, 42, 180, 0, 24, 182, 0, 179]
abbrev dktX1_enters_1 : List UInt8 := dkwX1_enters_1 ++ dktX1_enters_2
def dkwX1_enters_0 : List UInt8 := [42, 180, 0, 24, 187, 0, 69, 89, 42, 180, 0, 75, 4, 96, 43, 180, 0, 167, 29, 44, 183, 0, 170]
abbrev dktX1_enters_0 : List UInt8 := dkwX1_enters_0 ++ dktX1_enters_1
theorem dksX1_enters_0 : cX1_enters.data.toList.drop 0 = dktX1_enters_0 := by decide +kernel
theorem dksX1_enters_1 : cX1_enters.data.toList.drop 23 = dktX1_enters_1 := dk_seg dksX1_enters_0 23 rfl rfl
theorem dksX1_enters_2 : cX1_enters.data.toList.drop 45 = dktX1_enters_2 := dk_seg dksX1_enters_1 22 rfl rfl
theorem dX1_enters_0 : decode cX1_enters 0 = .ok (.aload_n 0, 1) := dk_42 (dk_at dksX1_enters_0 0 rfl rfl)
theorem dX1_enters_1 : decode cX1_enters 1 = .ok (.getfield 24, 3) := dk_180 0 24 (dk_at dksX1_enters_0 1 rfl rfl)
theorem dX1_enters_4 : decode cX1_enters 4 = .ok (.new 69, 3) := dk_187 0 69 (dk_at dksX1_enters_0 4 rfl rfl)
theorem dX1_enters_7 : decode cX1_enters 7 = .ok (.dup, 1) := dk_89 (dk_at dksX1_enters_0 7 rfl rfl)
theorem dX1_enters_8 : decode cX1_enters 8 = .ok (.aload_n 0, 1) := dk_42 (dk_at dksX1_enters_0 8 rfl rfl)
theorem dX1_enters_9 : decode cX1_enters 9 = .ok (.getfield 75, 3) := dk_180 0 75 (dk_at dksX1_enters_0 9 rfl rfl)
theorem dX1_enters_12 : decode cX1_enters 12 = .ok (.iconst 1, 1) := dk_4 (dk_at dksX1_enters_0 12 rfl rfl)
theorem dX1_enters_13 : decode cX1_enters 13 = .ok (.iadd, 1) := dk_96 (dk_at dksX1_enters_0 13 rfl rfl)
theorem dX1_enters_14 : decode cX1_enters 14 = .ok (.aload_n 1, 1) := dk_43 (dk_at dksX1_enters_0 14 rfl rfl)
theorem dX1_enters_15 : decode cX1_enters 15 = .ok (.getfield 167, 3) := dk_180 0 167 (dk_at dksX1_enters_0 15 rfl rfl)
theorem dX1_enters_18 : decode cX1_enters 18 = .ok (.iload_n 3, 1) := dk_29 (dk_at dksX1_enters_0 18 rfl rfl)
theorem dX1_enters_19 : decode cX1_enters 19 = .ok (.aload_n 2, 1) := dk_44 (dk_at dksX1_enters_0 19 rfl rfl)
theorem dX1_enters_20 : decode cX1_enters 20 = .ok (.invokespecial 170, 3) := dk_183 0 170 (dk_at dksX1_enters_0 20 rfl rfl)
theorem dX1_enters_23 : decode cX1_enters 23 = .ok (.invokevirtual 173, 3) := dk_182 0 173 (dk_at dksX1_enters_1 0 rfl rfl)
theorem dX1_enters_26 : decode cX1_enters 26 = .ok (.aload_n 0, 1) := dk_42 (dk_at dksX1_enters_1 3 rfl rfl)
theorem dX1_enters_27 : decode cX1_enters 27 = .ok (.getfield 24, 3) := dk_180 0 24 (dk_at dksX1_enters_1 4 rfl rfl)
theorem dX1_enters_30 : decode cX1_enters 30 = .ok (.invokevirtual 176, 3) := dk_182 0 176 (dk_at dksX1_enters_1 7 rfl rfl)
theorem dX1_enters_33 : decode cX1_enters 33 = .ok (.bipush 10, 2) := dk_16 10 (dk_at dksX1_enters_1 10 rfl rfl)
theorem dX1_enters_35 : decode cX1_enters 35 = .ok (.if_icmp .le 15, 3) := dk_164 0 15 (dk_at dksX1_enters_1 12 rfl rfl)
theorem dX1_enters_38 : decode cX1_enters 38 = .ok (.aload_n 0, 1) := dk_42 (dk_at dksX1_enters_1 15 rfl rfl)
theorem dX1_enters_39 : decode cX1_enters 39 = .ok (.getfield 24, 3) := dk_180 0 24 (dk_at dksX1_enters_1 16 rfl rfl)
theorem dX1_enters_42 : decode cX1_enters 42 = .ok (.invokevirtual 179, 3) := dk_182 0 179 (dk_at dksX1_enters_1 19 rfl rfl)
theorem dX1_enters_45 : decode cX1_enters 45 = .ok (.checkcast 69, 3) := dk_192 0 69 (dk_at dksX1_enters_2 0 rfl rfl)
theorem dX1_enters_48 : decode cX1_enters 48 = .ok (.astore 4, 2) := dk_58 4 (dk_at dksX1_enters_2 3 rfl rfl)
theorem dX1_enters_50 : decode cX1_enters 50 = .ok (.return_, 1) := dk_177 (dk_at dksX1_enters_2 5 rfl rfl)
abbrev cX1_isDark : ByteArray := prog_8_method_8_code
def yX1_isDark : MethodName := ⟨RX1, "isDark", "(LEggLights$Lane;LEggLights$Egg;)V"⟩
def dkwX1_isDark_2 : List UInt8 := [44, 182, 0, 71, 177]
abbrev dktX1_isDark_2 : List UInt8 := dkwX1_isDark_2 ++ []
def dkwX1_isDark_1 : List UInt8 := [89, 180, 0, 82, 4, 96, 181, 0, 82, 42, 43, 44, 16, 6, 182, 0, 201, 167, 0, 11, 43, 180, 0, 133]
abbrev dktX1_isDark_1 : List UInt8 := dkwX1_isDark_1 ++ dktX1_isDark_2
def dkwX1_isDark_0 : List UInt8 := [44, 89, 180, 0, 214, 4, 96, 181, 0, 214, 44, 180, 0, 214, 42, 180, 0, 28, 4, 46, 161, 0, 24, 42]
abbrev dktX1_isDark_0 : List UInt8 := dkwX1_isDark_0 ++ dktX1_isDark_1
theorem dksX1_isDark_0 : cX1_isDark.data.toList.drop 0 = dktX1_isDark_0 := by decide +kernel
theorem dksX1_isDark_1 : cX1_isDark.data.toList.drop 24 = dktX1_isDark_1 := dk_seg dksX1_isDark_0 24 rfl rfl
theorem dksX1_isDark_2 : cX1_isDark.data.toList.drop 48 = dktX1_isDark_2 := dk_seg dksX1_isDark_1 24 rfl rfl
theorem dX1_isDark_0 : decode cX1_isDark 0 = .ok (.aload_n 2, 1) := dk_44 (dk_at dksX1_isDark_0 0 rfl rfl)
theorem dX1_isDark_1 : decode cX1_isDark 1 = .ok (.dup, 1) := dk_89 (dk_at dksX1_isDark_0 1 rfl rfl)
theorem dX1_isDark_2 : decode cX1_isDark 2 = .ok (.getfield 214, 3) := dk_180 0 214 (dk_at dksX1_isDark_0 2 rfl rfl)
theorem dX1_isDark_5 : decode cX1_isDark 5 = .ok (.iconst 1, 1) := dk_4 (dk_at dksX1_isDark_0 5 rfl rfl)
theorem dX1_isDark_6 : decode cX1_isDark 6 = .ok (.iadd, 1) := dk_96 (dk_at dksX1_isDark_0 6 rfl rfl)
theorem dX1_isDark_7 : decode cX1_isDark 7 = .ok (.putfield 214, 3) := dk_181 0 214 (dk_at dksX1_isDark_0 7 rfl rfl)
theorem dX1_isDark_10 : decode cX1_isDark 10 = .ok (.aload_n 2, 1) := dk_44 (dk_at dksX1_isDark_0 10 rfl rfl)
theorem dX1_isDark_11 : decode cX1_isDark 11 = .ok (.getfield 214, 3) := dk_180 0 214 (dk_at dksX1_isDark_0 11 rfl rfl)
theorem dX1_isDark_14 : decode cX1_isDark 14 = .ok (.aload_n 0, 1) := dk_42 (dk_at dksX1_isDark_0 14 rfl rfl)
theorem dX1_isDark_15 : decode cX1_isDark 15 = .ok (.getfield 28, 3) := dk_180 0 28 (dk_at dksX1_isDark_0 15 rfl rfl)
theorem dX1_isDark_18 : decode cX1_isDark 18 = .ok (.iconst 1, 1) := dk_4 (dk_at dksX1_isDark_0 18 rfl rfl)
theorem dX1_isDark_19 : decode cX1_isDark 19 = .ok (.iaload, 1) := dk_46 (dk_at dksX1_isDark_0 19 rfl rfl)
theorem dX1_isDark_20 : decode cX1_isDark 20 = .ok (.if_icmp .lt 24, 3) := dk_161 0 24 (dk_at dksX1_isDark_0 20 rfl rfl)
theorem dX1_isDark_23 : decode cX1_isDark 23 = .ok (.aload_n 0, 1) := dk_42 (dk_at dksX1_isDark_0 23 rfl rfl)
theorem dX1_isDark_24 : decode cX1_isDark 24 = .ok (.dup, 1) := dk_89 (dk_at dksX1_isDark_1 0 rfl rfl)
theorem dX1_isDark_25 : decode cX1_isDark 25 = .ok (.getfield 82, 3) := dk_180 0 82 (dk_at dksX1_isDark_1 1 rfl rfl)
theorem dX1_isDark_28 : decode cX1_isDark 28 = .ok (.iconst 1, 1) := dk_4 (dk_at dksX1_isDark_1 4 rfl rfl)
theorem dX1_isDark_29 : decode cX1_isDark 29 = .ok (.iadd, 1) := dk_96 (dk_at dksX1_isDark_1 5 rfl rfl)
theorem dX1_isDark_30 : decode cX1_isDark 30 = .ok (.putfield 82, 3) := dk_181 0 82 (dk_at dksX1_isDark_1 6 rfl rfl)
theorem dX1_isDark_33 : decode cX1_isDark 33 = .ok (.aload_n 0, 1) := dk_42 (dk_at dksX1_isDark_1 9 rfl rfl)
theorem dX1_isDark_34 : decode cX1_isDark 34 = .ok (.aload_n 1, 1) := dk_43 (dk_at dksX1_isDark_1 10 rfl rfl)
theorem dX1_isDark_35 : decode cX1_isDark 35 = .ok (.aload_n 2, 1) := dk_44 (dk_at dksX1_isDark_1 11 rfl rfl)
theorem dX1_isDark_36 : decode cX1_isDark 36 = .ok (.bipush 6, 2) := dk_16 6 (dk_at dksX1_isDark_1 12 rfl rfl)
theorem dX1_isDark_38 : decode cX1_isDark 38 = .ok (.invokevirtual 201, 3) := dk_182 0 201 (dk_at dksX1_isDark_1 14 rfl rfl)
theorem dX1_isDark_41 : decode cX1_isDark 41 = .ok (.goto 11, 3) := dk_167 0 11 (dk_at dksX1_isDark_1 17 rfl rfl)
theorem dX1_isDark_44 : decode cX1_isDark 44 = .ok (.aload_n 1, 1) := dk_43 (dk_at dksX1_isDark_1 20 rfl rfl)
theorem dX1_isDark_45 : decode cX1_isDark 45 = .ok (.getfield 133, 3) := dk_180 0 133 (dk_at dksX1_isDark_1 21 rfl rfl)
theorem dX1_isDark_48 : decode cX1_isDark 48 = .ok (.aload_n 2, 1) := dk_44 (dk_at dksX1_isDark_2 0 rfl rfl)
theorem dX1_isDark_49 : decode cX1_isDark 49 = .ok (.invokevirtual 71, 3) := dk_182 0 71 (dk_at dksX1_isDark_2 1 rfl rfl)
theorem dX1_isDark_52 : decode cX1_isDark 52 = .ok (.return_, 1) := dk_177 (dk_at dksX1_isDark_2 4 rfl rfl)
abbrev cX1_isBroken : ByteArray := prog_8_method_9_code
def yX1_isBroken : MethodName := ⟨RX1, "isBroken", "(LEggLights$Lane;LEggLights$Egg;)V"⟩
def dkwX1_isBroken_1 : List UInt8 := [16, 7, 182, 0, 201, 177]
abbrev dktX1_isBroken_1 : List UInt8 := dkwX1_isBroken_1 ++ []
def dkwX1_isBroken_0 : List UInt8 := [43, 89, 180, 0, 217, 4, 96, 181, 0, 217, 43, 42, 180, 0, 28, 5, 46, 181, 0, 139, 42, 43, 44]
abbrev dktX1_isBroken_0 : List UInt8 := dkwX1_isBroken_0 ++ dktX1_isBroken_1
theorem dksX1_isBroken_0 : cX1_isBroken.data.toList.drop 0 = dktX1_isBroken_0 := by decide +kernel
theorem dksX1_isBroken_1 : cX1_isBroken.data.toList.drop 23 = dktX1_isBroken_1 := dk_seg dksX1_isBroken_0 23 rfl rfl
theorem dX1_isBroken_0 : decode cX1_isBroken 0 = .ok (.aload_n 1, 1) := dk_43 (dk_at dksX1_isBroken_0 0 rfl rfl)
theorem dX1_isBroken_1 : decode cX1_isBroken 1 = .ok (.dup, 1) := dk_89 (dk_at dksX1_isBroken_0 1 rfl rfl)
theorem dX1_isBroken_2 : decode cX1_isBroken 2 = .ok (.getfield 217, 3) := dk_180 0 217 (dk_at dksX1_isBroken_0 2 rfl rfl)
theorem dX1_isBroken_5 : decode cX1_isBroken 5 = .ok (.iconst 1, 1) := dk_4 (dk_at dksX1_isBroken_0 5 rfl rfl)
theorem dX1_isBroken_6 : decode cX1_isBroken 6 = .ok (.iadd, 1) := dk_96 (dk_at dksX1_isBroken_0 6 rfl rfl)
theorem dX1_isBroken_7 : decode cX1_isBroken 7 = .ok (.putfield 217, 3) := dk_181 0 217 (dk_at dksX1_isBroken_0 7 rfl rfl)
theorem dX1_isBroken_10 : decode cX1_isBroken 10 = .ok (.aload_n 1, 1) := dk_43 (dk_at dksX1_isBroken_0 10 rfl rfl)
theorem dX1_isBroken_11 : decode cX1_isBroken 11 = .ok (.aload_n 0, 1) := dk_42 (dk_at dksX1_isBroken_0 11 rfl rfl)
theorem dX1_isBroken_12 : decode cX1_isBroken 12 = .ok (.getfield 28, 3) := dk_180 0 28 (dk_at dksX1_isBroken_0 12 rfl rfl)
theorem dX1_isBroken_15 : decode cX1_isBroken 15 = .ok (.iconst 2, 1) := dk_5 (dk_at dksX1_isBroken_0 15 rfl rfl)
theorem dX1_isBroken_16 : decode cX1_isBroken 16 = .ok (.iaload, 1) := dk_46 (dk_at dksX1_isBroken_0 16 rfl rfl)
theorem dX1_isBroken_17 : decode cX1_isBroken 17 = .ok (.putfield 139, 3) := dk_181 0 139 (dk_at dksX1_isBroken_0 17 rfl rfl)
theorem dX1_isBroken_20 : decode cX1_isBroken 20 = .ok (.aload_n 0, 1) := dk_42 (dk_at dksX1_isBroken_0 20 rfl rfl)
theorem dX1_isBroken_21 : decode cX1_isBroken 21 = .ok (.aload_n 1, 1) := dk_43 (dk_at dksX1_isBroken_0 21 rfl rfl)
theorem dX1_isBroken_22 : decode cX1_isBroken 22 = .ok (.aload_n 2, 1) := dk_44 (dk_at dksX1_isBroken_0 22 rfl rfl)
theorem dX1_isBroken_23 : decode cX1_isBroken 23 = .ok (.bipush 7, 2) := dk_16 7 (dk_at dksX1_isBroken_1 0 rfl rfl)
theorem dX1_isBroken_25 : decode cX1_isBroken 25 = .ok (.invokevirtual 201, 3) := dk_182 0 201 (dk_at dksX1_isBroken_1 2 rfl rfl)
theorem dX1_isBroken_28 : decode cX1_isBroken 28 = .ok (.return_, 1) := dk_177 (dk_at dksX1_isBroken_1 5 rfl rfl)
abbrev cX1_setsTo : ByteArray := prog_8_method_18_code
def yX1_setsTo : MethodName := ⟨RX1, "setsTo", "(II)I"⟩
def dkwX1_setsTo_3 : List UInt8 := [28, 79, 29, 172]
abbrev dktX1_setsTo_3 : List UInt8 := dkwX1_setsTo_3 ++ []
def dkwX1_setsTo_2 : List UInt8 := [20, 1, 30, 184, 0, 249, 19, 1, 8, 184, 1, 9, 42, 180, 0, 28, 27, 46, 62, 42, 180, 0, 28, 27]
abbrev dktX1_setsTo_2 : List UInt8 := dkwX1_setsTo_2 ++ dktX1_setsTo_3
def dkwX1_setsTo_1 : List UInt8 := [160, 0, 7, 10, 167, 0, 4, 9, 27, 153, 0, 8, 27, 6, 160, 0, 9, 20, 1, 28, 167, 0, 6]
abbrev dktX1_setsTo_1 : List UInt8 := dkwX1_setsTo_1 ++ dktX1_setsTo_2
def dkwX1_setsTo_0 : List UInt8 := [27, 133, 9, 20, 1, 26, 184, 0, 249, 19, 1, 8, 184, 1, 9, 28, 133, 27, 153, 0, 8, 27, 4]
abbrev dktX1_setsTo_0 : List UInt8 := dkwX1_setsTo_0 ++ dktX1_setsTo_1
theorem dksX1_setsTo_0 : cX1_setsTo.data.toList.drop 0 = dktX1_setsTo_0 := by decide +kernel
theorem dksX1_setsTo_1 : cX1_setsTo.data.toList.drop 23 = dktX1_setsTo_1 := dk_seg dksX1_setsTo_0 23 rfl rfl
theorem dksX1_setsTo_2 : cX1_setsTo.data.toList.drop 46 = dktX1_setsTo_2 := dk_seg dksX1_setsTo_1 23 rfl rfl
theorem dksX1_setsTo_3 : cX1_setsTo.data.toList.drop 70 = dktX1_setsTo_3 := dk_seg dksX1_setsTo_2 24 rfl rfl
theorem dX1_setsTo_0 : decode cX1_setsTo 0 = .ok (.iload_n 1, 1) := dk_27 (dk_at dksX1_setsTo_0 0 rfl rfl)
theorem dX1_setsTo_1 : decode cX1_setsTo 1 = .ok (.i2l, 1) := dk_133 (dk_at dksX1_setsTo_0 1 rfl rfl)
theorem dX1_setsTo_2 : decode cX1_setsTo 2 = .ok (.lconst 0, 1) := dk_9 (dk_at dksX1_setsTo_0 2 rfl rfl)
theorem dX1_setsTo_3 : decode cX1_setsTo 3 = .ok (.ldc2_w 282, 3) := dk_20 1 26 (dk_at dksX1_setsTo_0 3 rfl rfl)
theorem dX1_setsTo_6 : decode cX1_setsTo 6 = .ok (.invokestatic 249, 3) := dk_184 0 249 (dk_at dksX1_setsTo_0 6 rfl rfl)
theorem dX1_setsTo_9 : decode cX1_setsTo 9 = .ok (.ldc_w 264, 3) := dk_19 1 8 (dk_at dksX1_setsTo_0 9 rfl rfl)
theorem dX1_setsTo_12 : decode cX1_setsTo 12 = .ok (.invokestatic 265, 3) := dk_184 1 9 (dk_at dksX1_setsTo_0 12 rfl rfl)
theorem dX1_setsTo_15 : decode cX1_setsTo 15 = .ok (.iload_n 2, 1) := dk_28 (dk_at dksX1_setsTo_0 15 rfl rfl)
theorem dX1_setsTo_16 : decode cX1_setsTo 16 = .ok (.i2l, 1) := dk_133 (dk_at dksX1_setsTo_0 16 rfl rfl)
theorem dX1_setsTo_17 : decode cX1_setsTo 17 = .ok (.iload_n 1, 1) := dk_27 (dk_at dksX1_setsTo_0 17 rfl rfl)
theorem dX1_setsTo_18 : decode cX1_setsTo 18 = .ok (.ifCond .eq 8, 3) := dk_153 0 8 (dk_at dksX1_setsTo_0 18 rfl rfl)
theorem dX1_setsTo_21 : decode cX1_setsTo 21 = .ok (.iload_n 1, 1) := dk_27 (dk_at dksX1_setsTo_0 21 rfl rfl)
theorem dX1_setsTo_22 : decode cX1_setsTo 22 = .ok (.iconst 1, 1) := dk_4 (dk_at dksX1_setsTo_0 22 rfl rfl)
theorem dX1_setsTo_23 : decode cX1_setsTo 23 = .ok (.if_icmp .ne 7, 3) := dk_160 0 7 (dk_at dksX1_setsTo_1 0 rfl rfl)
theorem dX1_setsTo_26 : decode cX1_setsTo 26 = .ok (.lconst 1, 1) := dk_10 (dk_at dksX1_setsTo_1 3 rfl rfl)
theorem dX1_setsTo_27 : decode cX1_setsTo 27 = .ok (.goto 4, 3) := dk_167 0 4 (dk_at dksX1_setsTo_1 4 rfl rfl)
theorem dX1_setsTo_30 : decode cX1_setsTo 30 = .ok (.lconst 0, 1) := dk_9 (dk_at dksX1_setsTo_1 7 rfl rfl)
theorem dX1_setsTo_31 : decode cX1_setsTo 31 = .ok (.iload_n 1, 1) := dk_27 (dk_at dksX1_setsTo_1 8 rfl rfl)
theorem dX1_setsTo_32 : decode cX1_setsTo 32 = .ok (.ifCond .eq 8, 3) := dk_153 0 8 (dk_at dksX1_setsTo_1 9 rfl rfl)
theorem dX1_setsTo_35 : decode cX1_setsTo 35 = .ok (.iload_n 1, 1) := dk_27 (dk_at dksX1_setsTo_1 12 rfl rfl)
theorem dX1_setsTo_36 : decode cX1_setsTo 36 = .ok (.iconst 3, 1) := dk_6 (dk_at dksX1_setsTo_1 13 rfl rfl)
theorem dX1_setsTo_37 : decode cX1_setsTo 37 = .ok (.if_icmp .ne 9, 3) := dk_160 0 9 (dk_at dksX1_setsTo_1 14 rfl rfl)
theorem dX1_setsTo_40 : decode cX1_setsTo 40 = .ok (.ldc2_w 284, 3) := dk_20 1 28 (dk_at dksX1_setsTo_1 17 rfl rfl)
theorem dX1_setsTo_43 : decode cX1_setsTo 43 = .ok (.goto 6, 3) := dk_167 0 6 (dk_at dksX1_setsTo_1 20 rfl rfl)
theorem dX1_setsTo_46 : decode cX1_setsTo 46 = .ok (.ldc2_w 286, 3) := dk_20 1 30 (dk_at dksX1_setsTo_2 0 rfl rfl)
theorem dX1_setsTo_49 : decode cX1_setsTo 49 = .ok (.invokestatic 249, 3) := dk_184 0 249 (dk_at dksX1_setsTo_2 3 rfl rfl)
theorem dX1_setsTo_52 : decode cX1_setsTo 52 = .ok (.ldc_w 264, 3) := dk_19 1 8 (dk_at dksX1_setsTo_2 6 rfl rfl)
theorem dX1_setsTo_55 : decode cX1_setsTo 55 = .ok (.invokestatic 265, 3) := dk_184 1 9 (dk_at dksX1_setsTo_2 9 rfl rfl)
theorem dX1_setsTo_58 : decode cX1_setsTo 58 = .ok (.aload_n 0, 1) := dk_42 (dk_at dksX1_setsTo_2 12 rfl rfl)
theorem dX1_setsTo_59 : decode cX1_setsTo 59 = .ok (.getfield 28, 3) := dk_180 0 28 (dk_at dksX1_setsTo_2 13 rfl rfl)
theorem dX1_setsTo_62 : decode cX1_setsTo 62 = .ok (.iload_n 1, 1) := dk_27 (dk_at dksX1_setsTo_2 16 rfl rfl)
theorem dX1_setsTo_63 : decode cX1_setsTo 63 = .ok (.iaload, 1) := dk_46 (dk_at dksX1_setsTo_2 17 rfl rfl)
theorem dX1_setsTo_64 : decode cX1_setsTo 64 = .ok (.istore_n 3, 1) := dk_62 (dk_at dksX1_setsTo_2 18 rfl rfl)
theorem dX1_setsTo_65 : decode cX1_setsTo 65 = .ok (.aload_n 0, 1) := dk_42 (dk_at dksX1_setsTo_2 19 rfl rfl)
theorem dX1_setsTo_66 : decode cX1_setsTo 66 = .ok (.getfield 28, 3) := dk_180 0 28 (dk_at dksX1_setsTo_2 20 rfl rfl)
theorem dX1_setsTo_69 : decode cX1_setsTo 69 = .ok (.iload_n 1, 1) := dk_27 (dk_at dksX1_setsTo_2 23 rfl rfl)
theorem dX1_setsTo_70 : decode cX1_setsTo 70 = .ok (.iload_n 2, 1) := dk_28 (dk_at dksX1_setsTo_3 0 rfl rfl)
theorem dX1_setsTo_71 : decode cX1_setsTo 71 = .ok (.iastore, 1) := dk_79 (dk_at dksX1_setsTo_3 1 rfl rfl)
theorem dX1_setsTo_72 : decode cX1_setsTo 72 = .ok (.iload_n 3, 1) := dk_29 (dk_at dksX1_setsTo_3 2 rfl rfl)
theorem dX1_setsTo_73 : decode cX1_setsTo 73 = .ok (.ireturn, 1) := dk_172 (dk_at dksX1_setsTo_3 3 rfl rfl)
abbrev cX1_cracked : ByteArray := prog_8_method_20_code
def yX1_cracked : MethodName := ⟨RX1, "cracked", "()I"⟩
def dkwX1_cracked_1 : List UInt8 := [185, 0, 59, 1, 0, 192, 0, 32, 78, 27, 45, 180, 0, 217, 96, 60, 167, 255, 230, 27, 172]
abbrev dktX1_cracked_1 : List UInt8 := dkwX1_cracked_1 ++ []
def dkwX1_cracked_0 : List UInt8 := [3, 60, 42, 180, 0, 12, 182, 0, 49, 77, 44, 185, 0, 53, 1, 0, 153, 0, 23, 44]
abbrev dktX1_cracked_0 : List UInt8 := dkwX1_cracked_0 ++ dktX1_cracked_1
theorem dksX1_cracked_0 : cX1_cracked.data.toList.drop 0 = dktX1_cracked_0 := by decide +kernel
theorem dksX1_cracked_1 : cX1_cracked.data.toList.drop 20 = dktX1_cracked_1 := dk_seg dksX1_cracked_0 20 rfl rfl
theorem dX1_cracked_0 : decode cX1_cracked 0 = .ok (.iconst 0, 1) := dk_3 (dk_at dksX1_cracked_0 0 rfl rfl)
theorem dX1_cracked_1 : decode cX1_cracked 1 = .ok (.istore_n 1, 1) := dk_60 (dk_at dksX1_cracked_0 1 rfl rfl)
theorem dX1_cracked_2 : decode cX1_cracked 2 = .ok (.aload_n 0, 1) := dk_42 (dk_at dksX1_cracked_0 2 rfl rfl)
theorem dX1_cracked_3 : decode cX1_cracked 3 = .ok (.getfield 12, 3) := dk_180 0 12 (dk_at dksX1_cracked_0 3 rfl rfl)
theorem dX1_cracked_6 : decode cX1_cracked 6 = .ok (.invokevirtual 49, 3) := dk_182 0 49 (dk_at dksX1_cracked_0 6 rfl rfl)
theorem dX1_cracked_9 : decode cX1_cracked 9 = .ok (.astore_n 2, 1) := dk_77 (dk_at dksX1_cracked_0 9 rfl rfl)
theorem dX1_cracked_10 : decode cX1_cracked 10 = .ok (.aload_n 2, 1) := dk_44 (dk_at dksX1_cracked_0 10 rfl rfl)
theorem dX1_cracked_11 : decode cX1_cracked 11 = .ok (.invokeinterface 53 1, 5) := by decide +kernel
theorem dX1_cracked_16 : decode cX1_cracked 16 = .ok (.ifCond .eq 23, 3) := dk_153 0 23 (dk_at dksX1_cracked_0 16 rfl rfl)
theorem dX1_cracked_19 : decode cX1_cracked 19 = .ok (.aload_n 2, 1) := dk_44 (dk_at dksX1_cracked_0 19 rfl rfl)
theorem dX1_cracked_20 : decode cX1_cracked 20 = .ok (.invokeinterface 59 1, 5) := by decide +kernel
theorem dX1_cracked_25 : decode cX1_cracked 25 = .ok (.checkcast 32, 3) := dk_192 0 32 (dk_at dksX1_cracked_1 5 rfl rfl)
theorem dX1_cracked_28 : decode cX1_cracked 28 = .ok (.astore_n 3, 1) := dk_78 (dk_at dksX1_cracked_1 8 rfl rfl)
theorem dX1_cracked_29 : decode cX1_cracked 29 = .ok (.iload_n 1, 1) := dk_27 (dk_at dksX1_cracked_1 9 rfl rfl)
theorem dX1_cracked_30 : decode cX1_cracked 30 = .ok (.aload_n 3, 1) := dk_45 (dk_at dksX1_cracked_1 10 rfl rfl)
theorem dX1_cracked_31 : decode cX1_cracked 31 = .ok (.getfield 217, 3) := dk_180 0 217 (dk_at dksX1_cracked_1 11 rfl rfl)
theorem dX1_cracked_34 : decode cX1_cracked 34 = .ok (.iadd, 1) := dk_96 (dk_at dksX1_cracked_1 14 rfl rfl)
theorem dX1_cracked_35 : decode cX1_cracked 35 = .ok (.istore_n 1, 1) := dk_60 (dk_at dksX1_cracked_1 15 rfl rfl)
theorem dX1_cracked_36 : decode cX1_cracked 36 = .ok (.goto (-26), 3) := dk_167 255 230 (dk_at dksX1_cracked_1 16 rfl rfl)
theorem dX1_cracked_39 : decode cX1_cracked 39 = .ok (.iload_n 1, 1) := dk_27 (dk_at dksX1_cracked_1 19 rfl rfl)
theorem dX1_cracked_40 : decode cX1_cracked 40 = .ok (.ireturn, 1) := dk_172 (dk_at dksX1_cracked_1 20 rfl rfl)
abbrev cX1_inQueues : ByteArray := prog_8_method_19_code
def yX1_inQueues : MethodName := ⟨RX1, "inQueues", "()I"⟩
def dkwX1_inQueues_1 : List UInt8 := [185, 0, 59, 1, 0, 192, 0, 32, 78, 27, 45, 180, 0, 133, 182, 0, 176, 96, 60, 167, 255, 227, 27, 172]
abbrev dktX1_inQueues_1 : List UInt8 := dkwX1_inQueues_1 ++ []
def dkwX1_inQueues_0 : List UInt8 := [3, 60, 42, 180, 0, 12, 182, 0, 49, 77, 44, 185, 0, 53, 1, 0, 153, 0, 26, 44]
abbrev dktX1_inQueues_0 : List UInt8 := dkwX1_inQueues_0 ++ dktX1_inQueues_1
theorem dksX1_inQueues_0 : cX1_inQueues.data.toList.drop 0 = dktX1_inQueues_0 := by decide +kernel
theorem dksX1_inQueues_1 : cX1_inQueues.data.toList.drop 20 = dktX1_inQueues_1 := dk_seg dksX1_inQueues_0 20 rfl rfl
theorem dX1_inQueues_0 : decode cX1_inQueues 0 = .ok (.iconst 0, 1) := dk_3 (dk_at dksX1_inQueues_0 0 rfl rfl)
theorem dX1_inQueues_1 : decode cX1_inQueues 1 = .ok (.istore_n 1, 1) := dk_60 (dk_at dksX1_inQueues_0 1 rfl rfl)
theorem dX1_inQueues_2 : decode cX1_inQueues 2 = .ok (.aload_n 0, 1) := dk_42 (dk_at dksX1_inQueues_0 2 rfl rfl)
theorem dX1_inQueues_3 : decode cX1_inQueues 3 = .ok (.getfield 12, 3) := dk_180 0 12 (dk_at dksX1_inQueues_0 3 rfl rfl)
theorem dX1_inQueues_6 : decode cX1_inQueues 6 = .ok (.invokevirtual 49, 3) := dk_182 0 49 (dk_at dksX1_inQueues_0 6 rfl rfl)
theorem dX1_inQueues_9 : decode cX1_inQueues 9 = .ok (.astore_n 2, 1) := dk_77 (dk_at dksX1_inQueues_0 9 rfl rfl)
theorem dX1_inQueues_10 : decode cX1_inQueues 10 = .ok (.aload_n 2, 1) := dk_44 (dk_at dksX1_inQueues_0 10 rfl rfl)
theorem dX1_inQueues_11 : decode cX1_inQueues 11 = .ok (.invokeinterface 53 1, 5) := by decide +kernel
theorem dX1_inQueues_16 : decode cX1_inQueues 16 = .ok (.ifCond .eq 26, 3) := dk_153 0 26 (dk_at dksX1_inQueues_0 16 rfl rfl)
theorem dX1_inQueues_19 : decode cX1_inQueues 19 = .ok (.aload_n 2, 1) := dk_44 (dk_at dksX1_inQueues_0 19 rfl rfl)
theorem dX1_inQueues_20 : decode cX1_inQueues 20 = .ok (.invokeinterface 59 1, 5) := by decide +kernel
theorem dX1_inQueues_25 : decode cX1_inQueues 25 = .ok (.checkcast 32, 3) := dk_192 0 32 (dk_at dksX1_inQueues_1 5 rfl rfl)
theorem dX1_inQueues_28 : decode cX1_inQueues 28 = .ok (.astore_n 3, 1) := dk_78 (dk_at dksX1_inQueues_1 8 rfl rfl)
theorem dX1_inQueues_29 : decode cX1_inQueues 29 = .ok (.iload_n 1, 1) := dk_27 (dk_at dksX1_inQueues_1 9 rfl rfl)
theorem dX1_inQueues_30 : decode cX1_inQueues 30 = .ok (.aload_n 3, 1) := dk_45 (dk_at dksX1_inQueues_1 10 rfl rfl)
theorem dX1_inQueues_31 : decode cX1_inQueues 31 = .ok (.getfield 133, 3) := dk_180 0 133 (dk_at dksX1_inQueues_1 11 rfl rfl)
theorem dX1_inQueues_34 : decode cX1_inQueues 34 = .ok (.invokevirtual 176, 3) := dk_182 0 176 (dk_at dksX1_inQueues_1 14 rfl rfl)
theorem dX1_inQueues_37 : decode cX1_inQueues 37 = .ok (.iadd, 1) := dk_96 (dk_at dksX1_inQueues_1 17 rfl rfl)
theorem dX1_inQueues_38 : decode cX1_inQueues 38 = .ok (.istore_n 1, 1) := dk_60 (dk_at dksX1_inQueues_1 18 rfl rfl)
theorem dX1_inQueues_39 : decode cX1_inQueues 39 = .ok (.goto (-29), 3) := dk_167 255 227 (dk_at dksX1_inQueues_1 19 rfl rfl)
theorem dX1_inQueues_42 : decode cX1_inQueues 42 = .ok (.iload_n 1, 1) := dk_27 (dk_at dksX1_inQueues_1 22 rfl rfl)
theorem dX1_inQueues_43 : decode cX1_inQueues 43 = .ok (.ireturn, 1) := dk_172 (dk_at dksX1_inQueues_1 23 rfl rfl)
theorem q50 : (Jvm.Cond.initialized "EggLights$Machine") ∈ lw_all := lw_g (lw_at lw_m1 2 rfl) rfl
theorem q102 : (Jvm.Cond.instantiable "EggLights$Machine" (10 : Nat)) ∈ lw_all := lw_g (lw_at lw_m1 54 rfl) rfl
theorem q104 : (Jvm.Cond.instanceMethod ({ cls := "EggLights$Machine", name := "<init>", desc := "([I)V" } : Jvm.MethodName)) ∈ lw_all := lw_g (lw_at lw_m1 56 rfl) rfl
theorem q105 : (Jvm.Cond.code ({ cls := "EggLights$Machine", name := "<init>", desc := "([I)V" } : Jvm.MethodName) prog_8_method_1_code (3 : Nat) (Option.none : Option Jvm.ClassFile.FieldType)) ∈ lw_all := lw_g (lw_at lw_m1 57 rfl) rfl
theorem q106 : (Jvm.Cond.methodLink "EggLights$Machine" (3 : Nat) ({ cls := "java/lang/Object", name := "<init>", desc := "()V" } : Jvm.MethodName)) ∈ lw_all := lw_g (lw_at lw_m1 58 rfl) rfl
theorem q107 : (Jvm.Cond.classLink "EggLights$Machine" (9 : Nat) "java/util/ArrayList") ∈ lw_all := lw_g (lw_at lw_m1 59 rfl) rfl
theorem q109 : (Jvm.Cond.methodLink "EggLights$Machine" (11 : Nat) ({ cls := "java/util/ArrayList", name := "<init>", desc := "()V" } : Jvm.MethodName)) ∈ lw_all := lw_g (lw_at lw_m1 61 rfl) rfl
theorem q141 : (Jvm.Cond.classLink "EggLights$Machine" (21 : Nat) "java/util/LinkedList") ∈ lw_all := lw_g (lw_at lw_m1 93 rfl) rfl
theorem q143 : (Jvm.Cond.methodLink "EggLights$Machine" (23 : Nat) ({ cls := "java/util/LinkedList", name := "<init>", desc := "()V" } : Jvm.MethodName)) ∈ lw_all := lw_g (lw_at lw_m1 95 rfl) rfl
theorem q162 : (Jvm.Cond.classLink "EggLights$Machine" (32 : Nat) "EggLights$Lane") ∈ lw_all := lw_g (lw_at lw_m1 114 rfl) rfl
theorem q164 : (Jvm.Cond.methodLink "EggLights$Machine" (34 : Nat) ({ cls := "EggLights$Lane", name := "<init>", desc := "(I)V" } : Jvm.MethodName)) ∈ lw_all := lw_g (lw_at lw_m1 116 rfl) rfl
theorem q171 : (Jvm.Cond.fieldLinkNest "EggLights$Machine" (167 : Nat) "EggLights$Lane" "number" "I" "EggLights") ∈ lw_tbl := lw_at lw_m1 123 rfl
theorem q173 : (Jvm.Cond.fieldLinkNest "EggLights$Machine" (133 : Nat) "EggLights$Lane" "queue" "Ljava/util/LinkedList;" "EggLights") ∈ lw_tbl := lw_at lw_m1 125 rfl
theorem q176 : (Jvm.Cond.fieldLinkNest "EggLights$Machine" (98 : Nat) "EggLights$Lane" "light" "I" "EggLights") ∈ lw_tbl := lw_at lw_m1 128 rfl
theorem q179 : (Jvm.Cond.fieldLinkNest "EggLights$Machine" (274 : Nat) "EggLights$Lane" "turn" "I" "EggLights") ∈ lw_tbl := lw_at lw_m1 131 rfl
theorem q182 : (Jvm.Cond.fieldLinkNest "EggLights$Machine" (139 : Nat) "EggLights$Lane" "stains" "I" "EggLights") ∈ lw_tbl := lw_at lw_m1 134 rfl
theorem q185 : (Jvm.Cond.fieldLinkNest "EggLights$Machine" (195 : Nat) "EggLights$Lane" "graded" "I" "EggLights") ∈ lw_tbl := lw_at lw_m1 137 rfl
theorem q188 : (Jvm.Cond.fieldLinkNest "EggLights$Machine" (217 : Nat) "EggLights$Lane" "cracked" "I" "EggLights") ∈ lw_tbl := lw_at lw_m1 140 rfl
theorem q205 : (Jvm.Cond.methodLink "EggLights$Machine" (37 : Nat) ({ cls := "java/util/ArrayList", name := "add", desc := "(Ljava/lang/Object;)Z" } : Jvm.MethodName)) ∈ lw_all := lw_g (lw_at lw_m1 157 rfl) rfl
theorem q244 : (Jvm.Cond.selects "EggLights$Machine" ({ cls := "java/lang/Object", name := "getClass", desc := "()Ljava/lang/Class;" } : Jvm.MethodName) ({ cls := "java/lang/Object", name := "getClass", desc := "()Ljava/lang/Class;" } : Jvm.MethodName)) ∈ lw_all := lw_g (lw_at lw_m1 196 rfl) rfl
theorem q275 : (Jvm.Cond.classLink "EggLights$Machine" (41 : Nat) "EggLights$Crate") ∈ lw_all := lw_g (lw_at lw_m1 227 rfl) rfl
theorem q277 : (Jvm.Cond.methodLink "EggLights$Machine" (43 : Nat) ({ cls := "EggLights$Crate", name := "<init>", desc := "()V" } : Jvm.MethodName)) ∈ lw_all := lw_g (lw_at lw_m1 229 rfl) rfl
theorem q282 : (Jvm.Cond.fieldLinkNest "EggLights$Machine" (186 : Nat) "EggLights$Crate" "eggs" "I" "EggLights") ∈ lw_tbl := lw_at lw_m1 234 rfl
theorem q285 : (Jvm.Cond.fieldLinkNest "EggLights$Machine" (192 : Nat) "EggLights$Crate" "cracked" "I" "EggLights") ∈ lw_tbl := lw_at lw_m1 237 rfl
theorem q288 : (Jvm.Cond.fieldLinkNest "EggLights$Machine" (205 : Nat) "EggLights$Crate" "sold" "I" "EggLights") ∈ lw_tbl := lw_at lw_m2 0 rfl
theorem q291 : (Jvm.Cond.fieldLinkNest "EggLights$Machine" (208 : Nat) "EggLights$Crate" "returned" "I" "EggLights") ∈ lw_tbl := lw_at lw_m2 3 rfl
theorem q294 : (Jvm.Cond.fieldLinkNest "EggLights$Machine" (189 : Nat) "EggLights$Crate" "all" "I" "EggLights") ∈ lw_tbl := lw_at lw_m2 6 rfl
theorem q307 : (Jvm.Cond.fieldLink "EggLights$Machine" (12 : Nat) "EggLights$Machine" "lanes" "Ljava/util/ArrayList;") ∈ lw_all := lw_g (lw_at lw_m2 19 rfl) rfl
theorem q309 : (Jvm.Cond.fieldLink "EggLights$Machine" (18 : Nat) "EggLights$Machine" "crates" "Ljava/util/ArrayList;") ∈ lw_all := lw_g (lw_at lw_m2 21 rfl) rfl
theorem q311 : (Jvm.Cond.fieldLink "EggLights$Machine" (24 : Nat) "EggLights$Machine" "book" "Ljava/util/LinkedList;") ∈ lw_all := lw_g (lw_at lw_m2 23 rfl) rfl
theorem q313 : (Jvm.Cond.fieldLink "EggLights$Machine" (28 : Nat) "EggLights$Machine" "settings" "[I") ∈ lw_all := lw_g (lw_at lw_m2 25 rfl) rfl
theorem q315 : (Jvm.Cond.fieldLink "EggLights$Machine" (75 : Nat) "EggLights$Machine" "ticks" "I") ∈ lw_all := lw_g (lw_at lw_m2 27 rfl) rfl
theorem q317 : (Jvm.Cond.fieldLink "EggLights$Machine" (79 : Nat) "EggLights$Machine" "came" "I") ∈ lw_all := lw_g (lw_at lw_m2 29 rfl) rfl
theorem q319 : (Jvm.Cond.fieldLink "EggLights$Machine" (82 : Nat) "EggLights$Machine" "dark" "I") ∈ lw_all := lw_g (lw_at lw_m2 31 rfl) rfl
theorem q321 : (Jvm.Cond.fieldLink "EggLights$Machine" (85 : Nat) "EggLights$Machine" "coins" "I") ∈ lw_all := lw_g (lw_at lw_m2 33 rfl) rfl
theorem q323 : (Jvm.Cond.fieldLink "EggLights$Machine" (88 : Nat) "EggLights$Machine" "weights" "I") ∈ lw_all := lw_g (lw_at lw_m2 35 rfl) rfl
theorem q325 : (Jvm.Cond.fieldLink "EggLights$Machine" (91 : Nat) "EggLights$Machine" "leaking" "I") ∈ lw_all := lw_g (lw_at lw_m2 37 rfl) rfl
theorem q327 : (Jvm.Cond.laysFinal "EggLights$Machine" "EggLights$Machine" "lanes" "Ljava/util/ArrayList;") ∈ lw_all := lw_g (lw_at lw_m2 39 rfl) rfl
theorem q328 : (Jvm.Cond.soleField "EggLights$Machine" "lanes") ∈ lw_all := lw_g (lw_at lw_m2 40 rfl) rfl
theorem q329 : (Jvm.Cond.laysFinal "EggLights$Machine" "EggLights$Machine" "crates" "Ljava/util/ArrayList;") ∈ lw_all := lw_g (lw_at lw_m2 41 rfl) rfl
theorem q330 : (Jvm.Cond.soleField "EggLights$Machine" "crates") ∈ lw_all := lw_g (lw_at lw_m2 42 rfl) rfl
theorem q331 : (Jvm.Cond.laysFinal "EggLights$Machine" "EggLights$Machine" "book" "Ljava/util/LinkedList;") ∈ lw_all := lw_g (lw_at lw_m2 43 rfl) rfl
theorem q332 : (Jvm.Cond.soleField "EggLights$Machine" "book") ∈ lw_all := lw_g (lw_at lw_m2 44 rfl) rfl
theorem q333 : (Jvm.Cond.laysFinal "EggLights$Machine" "EggLights$Machine" "settings" "[I") ∈ lw_all := lw_g (lw_at lw_m2 45 rfl) rfl
theorem q334 : (Jvm.Cond.soleField "EggLights$Machine" "settings") ∈ lw_all := lw_g (lw_at lw_m2 46 rfl) rfl
theorem q335 : (Jvm.Cond.lays "EggLights$Machine" "EggLights$Machine" "ticks" "I") ∈ lw_all := lw_g (lw_at lw_m2 47 rfl) rfl
theorem q336 : (Jvm.Cond.soleField "EggLights$Machine" "ticks") ∈ lw_all := lw_g (lw_at lw_m2 48 rfl) rfl
theorem q337 : (Jvm.Cond.lays "EggLights$Machine" "EggLights$Machine" "came" "I") ∈ lw_all := lw_g (lw_at lw_m2 49 rfl) rfl
theorem q338 : (Jvm.Cond.soleField "EggLights$Machine" "came") ∈ lw_all := lw_g (lw_at lw_m2 50 rfl) rfl
theorem q339 : (Jvm.Cond.lays "EggLights$Machine" "EggLights$Machine" "dark" "I") ∈ lw_all := lw_g (lw_at lw_m2 51 rfl) rfl
theorem q340 : (Jvm.Cond.soleField "EggLights$Machine" "dark") ∈ lw_all := lw_g (lw_at lw_m2 52 rfl) rfl
theorem q341 : (Jvm.Cond.lays "EggLights$Machine" "EggLights$Machine" "coins" "I") ∈ lw_all := lw_g (lw_at lw_m2 53 rfl) rfl
theorem q342 : (Jvm.Cond.soleField "EggLights$Machine" "coins") ∈ lw_all := lw_g (lw_at lw_m2 54 rfl) rfl
theorem q343 : (Jvm.Cond.lays "EggLights$Machine" "EggLights$Machine" "weights" "I") ∈ lw_all := lw_g (lw_at lw_m2 55 rfl) rfl
theorem q344 : (Jvm.Cond.soleField "EggLights$Machine" "weights") ∈ lw_all := lw_g (lw_at lw_m2 56 rfl) rfl
theorem q345 : (Jvm.Cond.lays "EggLights$Machine" "EggLights$Machine" "leaking" "I") ∈ lw_all := lw_g (lw_at lw_m2 57 rfl) rfl
theorem q346 : (Jvm.Cond.soleField "EggLights$Machine" "leaking") ∈ lw_all := lw_g (lw_at lw_m2 58 rfl) rfl
theorem q347 : (Jvm.Cond.superclass "EggLights$Machine" "java/lang/Object") ∈ lw_all := lw_g (lw_at lw_m2 59 rfl) rfl
theorem q420 : (Jvm.Cond.instanceMethod ({ cls := "EggLights$Machine", name := "<init>", desc := "(LEggLights$Machine;)V" } : Jvm.MethodName)) ∈ lw_all := lw_g (lw_at lw_m2 132 rfl) rfl
theorem q421 : (Jvm.Cond.code ({ cls := "EggLights$Machine", name := "<init>", desc := "(LEggLights$Machine;)V" } : Jvm.MethodName) prog_8_method_2_code (4 : Nat) (Option.none : Option Jvm.ClassFile.FieldType)) ∈ lw_all := lw_g (lw_at lw_m2 133 rfl) rfl
theorem q422 : (Jvm.Cond.methodLink "EggLights$Machine" (44 : Nat) ({ cls := "[I", name := "clone", desc := "()Ljava/lang/Object;" } : Jvm.MethodName)) ∈ lw_all := lw_g (lw_at lw_m2 134 rfl) rfl
theorem q428 : (Jvm.Cond.classLink "EggLights$Machine" (45 : Nat) "[I") ∈ lw_all := lw_g (lw_at lw_m2 140 rfl) rfl
theorem q429 : (Jvm.Cond.methodLink "EggLights$Machine" (49 : Nat) ({ cls := "java/util/ArrayList", name := "iterator", desc := "()Ljava/util/Iterator;" } : Jvm.MethodName)) ∈ lw_all := lw_g (lw_at lw_m2 141 rfl) rfl
theorem q454 : (Jvm.Cond.interfaceEntry "EggLights$Machine" (53 : Nat)) ∈ lw_tbl := lw_at lw_m2 166 rfl
theorem q455 : (Jvm.Cond.methodLink "EggLights$Machine" (53 : Nat) ({ cls := "java/util/Iterator", name := "hasNext", desc := "()Z" } : Jvm.MethodName)) ∈ lw_all := lw_g (lw_at lw_m2 167 rfl) rfl
theorem q488 : (Jvm.Cond.interfaceEntry "EggLights$Machine" (59 : Nat)) ∈ lw_tbl := lw_at lw_m2 200 rfl
theorem q489 : (Jvm.Cond.methodLink "EggLights$Machine" (59 : Nat) ({ cls := "java/util/Iterator", name := "next", desc := "()Ljava/lang/Object;" } : Jvm.MethodName)) ∈ lw_all := lw_g (lw_at lw_m2 201 rfl) rfl
theorem q818 : (Jvm.Cond.methodLink "EggLights$Machine" (62 : Nat) ({ cls := "EggLights$Lane", name := "<init>", desc := "(LEggLights$Lane;)V" } : Jvm.MethodName)) ∈ lw_all := lw_g (lw_at lw_m4 50 rfl) rfl
theorem q908 : (Jvm.Cond.fieldLinkNest "EggLights$Machine" (198 : Nat) "EggLights$Egg" "weight" "I" "EggLights") ∈ lw_tbl := lw_at lw_m4 140 rfl
theorem q911 : (Jvm.Cond.fieldLinkNest "EggLights$Machine" (101 : Nat) "EggLights$Egg" "shell" "I" "EggLights") ∈ lw_tbl := lw_at lw_m4 143 rfl
theorem q914 : (Jvm.Cond.fieldLinkNest "EggLights$Machine" (126 : Nat) "EggLights$Egg" "yolks" "I" "EggLights") ∈ lw_tbl := lw_at lw_m4 146 rfl
theorem q917 : (Jvm.Cond.fieldLinkNest "EggLights$Machine" (112 : Nat) "EggLights$Egg" "crack" "I" "EggLights") ∈ lw_tbl := lw_at lw_m4 149 rfl
theorem q920 : (Jvm.Cond.fieldLinkNest "EggLights$Machine" (118 : Nat) "EggLights$Egg" "spots" "I" "EggLights") ∈ lw_tbl := lw_at lw_m4 152 rfl
theorem q923 : (Jvm.Cond.fieldLinkNest "EggLights$Machine" (214 : Nat) "EggLights$Egg" "tries" "I" "EggLights") ∈ lw_tbl := lw_at lw_m4 155 rfl
theorem q967 : (Jvm.Cond.methodLink "EggLights$Machine" (65 : Nat) ({ cls := "EggLights$Crate", name := "<init>", desc := "(LEggLights$Crate;)V" } : Jvm.MethodName)) ∈ lw_all := lw_g (lw_at lw_m4 199 rfl) rfl
theorem q970 : (Jvm.Cond.methodLink "EggLights$Machine" (68 : Nat) ({ cls := "java/util/LinkedList", name := "iterator", desc := "()Ljava/util/Iterator;" } : Jvm.MethodName)) ∈ lw_all := lw_g (lw_at lw_m4 202 rfl) rfl
theorem q971 : (Jvm.Cond.classLink "EggLights$Machine" (69 : Nat) "EggLights$Entry") ∈ lw_all := lw_g (lw_at lw_m4 203 rfl) rfl
theorem q972 : (Jvm.Cond.methodLink "EggLights$Machine" (71 : Nat) ({ cls := "java/util/LinkedList", name := "addLast", desc := "(Ljava/lang/Object;)V" } : Jvm.MethodName)) ∈ lw_all := lw_g (lw_at lw_m4 204 rfl) rfl
theorem q979 : (Jvm.Cond.instanceMethod ({ cls := "EggLights$Machine", name := "puts", desc := "(ILEggLights$Egg;)I" } : Jvm.MethodName)) ∈ lw_all := lw_g (lw_at lw_m4 211 rfl) rfl
theorem q980 : (Jvm.Cond.selects "EggLights$Machine" ({ cls := "EggLights$Machine", name := "puts", desc := "(ILEggLights$Egg;)I" } : Jvm.MethodName) ({ cls := "EggLights$Machine", name := "puts", desc := "(ILEggLights$Egg;)I" } : Jvm.MethodName)) ∈ lw_all := lw_g (lw_at lw_m4 212 rfl) rfl
theorem q981 : (Jvm.Cond.code ({ cls := "EggLights$Machine", name := "puts", desc := "(ILEggLights$Egg;)I" } : Jvm.MethodName) prog_8_method_12_code (4 : Nat) (Option.some Jvm.ClassFile.FieldType.int)) ∈ lw_all := lw_g (lw_at lw_m4 213 rfl) rfl
theorem q982 : (Jvm.Cond.methodLinkNest "EggLights$Machine" (241 : Nat) ({ cls := "EggLights", name := "isLane", desc := "(I)Z" } : Jvm.MethodName) "EggLights") ∈ lw_tbl := lw_at lw_m4 214 rfl
theorem q989 : (Jvm.Cond.constantLong "EggLights$Machine" (245 : Nat) (30 : Int64)) ∈ lw_all := lw_g (lw_at lw_m4 221 rfl) rfl
theorem q990 : (Jvm.Cond.constantLong "EggLights$Machine" (247 : Nat) (90 : Int64)) ∈ lw_all := lw_g (lw_at lw_m4 222 rfl) rfl
theorem q991 : (Jvm.Cond.methodLinkNest "EggLights$Machine" (249 : Nat) ({ cls := "EggLights", name := "isBetween", desc := "(JJJ)Z" } : Jvm.MethodName) "EggLights") ∈ lw_tbl := lw_at lw_m4 223 rfl
theorem q992 : (Jvm.Cond.constantLong "EggLights$Machine" (253 : Nat) (99 : Int64)) ∈ lw_all := lw_g (lw_at lw_m4 224 rfl) rfl
theorem q993 : (Jvm.Cond.methodLinkNest "EggLights$Machine" (255 : Nat) ({ cls := "EggLights", name := "isSpots", desc := "(I)Z" } : Jvm.MethodName) "EggLights") ∈ lw_tbl := lw_at lw_m4 225 rfl
theorem q997 : (Jvm.Cond.constantLong "EggLights$Machine" (258 : Nat) (2 : Int64)) ∈ lw_all := lw_g (lw_at lw_m4 229 rfl) rfl
theorem q998 : (Jvm.Cond.constantLong "EggLights$Machine" (260 : Nat) (-1 : Int64)) ∈ lw_all := lw_g (lw_at lw_m4 230 rfl) rfl
theorem q999 : (Jvm.Cond.constantLong "EggLights$Machine" (262 : Nat) (7 : Int64)) ∈ lw_all := lw_g (lw_at lw_m4 231 rfl) rfl
theorem q1000 : (Jvm.Cond.constant "EggLights$Machine" (264 : Nat) (-1000001 : Int32)) ∈ lw_all := lw_g (lw_at lw_m4 232 rfl) rfl
theorem q1001 : (Jvm.Cond.methodLinkNest "EggLights$Machine" (265 : Nat) ({ cls := "EggLights", name := "need", desc := "(ZI)V" } : Jvm.MethodName) "EggLights") ∈ lw_tbl := lw_at lw_m4 233 rfl
theorem q1029 : (Jvm.Cond.methodLink "EggLights$Machine" (182 : Nat) ({ cls := "java/util/ArrayList", name := "get", desc := "(I)Ljava/lang/Object;" } : Jvm.MethodName)) ∈ lw_all := lw_g (lw_at lw_m5 21 rfl) rfl
theorem q1030 : (Jvm.Cond.methodLink "EggLights$Machine" (176 : Nat) ({ cls := "java/util/LinkedList", name := "size", desc := "()I" } : Jvm.MethodName)) ∈ lw_all := lw_g (lw_at lw_m5 22 rfl) rfl
theorem q1031 : (Jvm.Cond.constant "EggLights$Machine" (269 : Nat) (-1000003 : Int32)) ∈ lw_all := lw_g (lw_at lw_m5 23 rfl) rfl
theorem q1033 : (Jvm.Cond.instanceMethod ({ cls := "EggLights$Machine", name := "spots", desc := "(II)I" } : Jvm.MethodName)) ∈ lw_all := lw_g (lw_at lw_m5 25 rfl) rfl
theorem q1034 : (Jvm.Cond.selects "EggLights$Machine" ({ cls := "EggLights$Machine", name := "spots", desc := "(II)I" } : Jvm.MethodName) ({ cls := "EggLights$Machine", name := "spots", desc := "(II)I" } : Jvm.MethodName)) ∈ lw_all := lw_g (lw_at lw_m5 26 rfl) rfl
theorem q1035 : (Jvm.Cond.code ({ cls := "EggLights$Machine", name := "spots", desc := "(II)I" } : Jvm.MethodName) prog_8_method_13_code (4 : Nat) (Option.some Jvm.ClassFile.FieldType.int)) ∈ lw_all := lw_g (lw_at lw_m5 27 rfl) rfl
theorem q1036 : (Jvm.Cond.methodLink "EggLights$Machine" (148 : Nat) ({ cls := "java/util/LinkedList", name := "isEmpty", desc := "()Z" } : Jvm.MethodName)) ∈ lw_all := lw_g (lw_at lw_m5 28 rfl) rfl
theorem q1048 : (Jvm.Cond.constant "EggLights$Machine" (270 : Nat) (-1000002 : Int32)) ∈ lw_all := lw_g (lw_at lw_m5 40 rfl) rfl
theorem q1049 : (Jvm.Cond.methodLink "EggLights$Machine" (271 : Nat) ({ cls := "java/util/LinkedList", name := "getLast", desc := "()Ljava/lang/Object;" } : Jvm.MethodName)) ∈ lw_all := lw_g (lw_at lw_m5 41 rfl) rfl
theorem q1053 : (Jvm.Cond.classLink "EggLights$Machine" (102 : Nat) "EggLights$Egg") ∈ lw_all := lw_g (lw_at lw_m5 45 rfl) rfl
theorem q1055 : (Jvm.Cond.instanceMethod ({ cls := "EggLights$Machine", name := "lights", desc := "(II)I" } : Jvm.MethodName)) ∈ lw_all := lw_g (lw_at lw_m5 47 rfl) rfl
theorem q1056 : (Jvm.Cond.selects "EggLights$Machine" ({ cls := "EggLights$Machine", name := "lights", desc := "(II)I" } : Jvm.MethodName) ({ cls := "EggLights$Machine", name := "lights", desc := "(II)I" } : Jvm.MethodName)) ∈ lw_all := lw_g (lw_at lw_m5 48 rfl) rfl
theorem q1057 : (Jvm.Cond.code ({ cls := "EggLights$Machine", name := "lights", desc := "(II)I" } : Jvm.MethodName) prog_8_method_14_code (4 : Nat) (Option.some Jvm.ClassFile.FieldType.int)) ∈ lw_all := lw_g (lw_at lw_m5 49 rfl) rfl
theorem q1059 : (Jvm.Cond.instanceMethod ({ cls := "EggLights$Machine", name := "turns", desc := "(II)I" } : Jvm.MethodName)) ∈ lw_all := lw_g (lw_at lw_m5 51 rfl) rfl
theorem q1060 : (Jvm.Cond.selects "EggLights$Machine" ({ cls := "EggLights$Machine", name := "turns", desc := "(II)I" } : Jvm.MethodName) ({ cls := "EggLights$Machine", name := "turns", desc := "(II)I" } : Jvm.MethodName)) ∈ lw_all := lw_g (lw_at lw_m5 52 rfl) rfl
theorem q1061 : (Jvm.Cond.code ({ cls := "EggLights$Machine", name := "turns", desc := "(II)I" } : Jvm.MethodName) prog_8_method_15_code (4 : Nat) (Option.some Jvm.ClassFile.FieldType.int)) ∈ lw_all := lw_g (lw_at lw_m5 53 rfl) rfl
theorem q1063 : (Jvm.Cond.instanceMethod ({ cls := "EggLights$Machine", name := "cleans", desc := "(I)I" } : Jvm.MethodName)) ∈ lw_all := lw_g (lw_at lw_m5 55 rfl) rfl
theorem q1064 : (Jvm.Cond.selects "EggLights$Machine" ({ cls := "EggLights$Machine", name := "cleans", desc := "(I)I" } : Jvm.MethodName) ({ cls := "EggLights$Machine", name := "cleans", desc := "(I)I" } : Jvm.MethodName)) ∈ lw_all := lw_g (lw_at lw_m5 56 rfl) rfl
theorem q1065 : (Jvm.Cond.code ({ cls := "EggLights$Machine", name := "cleans", desc := "(I)I" } : Jvm.MethodName) prog_8_method_16_code (3 : Nat) (Option.some Jvm.ClassFile.FieldType.int)) ∈ lw_all := lw_g (lw_at lw_m5 57 rfl) rfl
theorem q1067 : (Jvm.Cond.instanceMethod ({ cls := "EggLights$Machine", name := "runs", desc := "(I)I" } : Jvm.MethodName)) ∈ lw_all := lw_g (lw_at lw_m5 59 rfl) rfl
theorem q1068 : (Jvm.Cond.selects "EggLights$Machine" ({ cls := "EggLights$Machine", name := "runs", desc := "(I)I" } : Jvm.MethodName) ({ cls := "EggLights$Machine", name := "runs", desc := "(I)I" } : Jvm.MethodName)) ∈ lw_all := lw_g (lw_at lw_m5 60 rfl) rfl
theorem q1069 : (Jvm.Cond.code ({ cls := "EggLights$Machine", name := "runs", desc := "(I)I" } : Jvm.MethodName) prog_8_method_17_code (4 : Nat) (Option.some Jvm.ClassFile.FieldType.int)) ∈ lw_all := lw_g (lw_at lw_m5 61 rfl) rfl
theorem q1070 : (Jvm.Cond.constantLong "EggLights$Machine" (277 : Nat) (50 : Int64)) ∈ lw_all := lw_g (lw_at lw_m5 62 rfl) rfl
theorem q1071 : (Jvm.Cond.methodLink "EggLights$Machine" (279 : Nat) ({ cls := "EggLights$Machine", name := "tick", desc := "()I" } : Jvm.MethodName)) ∈ lw_all := lw_g (lw_at lw_m5 63 rfl) rfl
theorem q1072 : (Jvm.Cond.instanceMethod ({ cls := "EggLights$Machine", name := "tick", desc := "()I" } : Jvm.MethodName)) ∈ lw_all := lw_g (lw_at lw_m5 64 rfl) rfl
theorem q1073 : (Jvm.Cond.selects "EggLights$Machine" ({ cls := "EggLights$Machine", name := "tick", desc := "()I" } : Jvm.MethodName) ({ cls := "EggLights$Machine", name := "tick", desc := "()I" } : Jvm.MethodName)) ∈ lw_all := lw_g (lw_at lw_m5 65 rfl) rfl
theorem q1074 : (Jvm.Cond.code ({ cls := "EggLights$Machine", name := "tick", desc := "()I" } : Jvm.MethodName) prog_8_method_11_code (4 : Nat) (Option.some Jvm.ClassFile.FieldType.int)) ∈ lw_all := lw_g (lw_at lw_m5 66 rfl) rfl
theorem q1075 : (Jvm.Cond.methodLink "EggLights$Machine" (238 : Nat) ({ cls := "EggLights$Machine", name := "grades", desc := "(LEggLights$Lane;)I" } : Jvm.MethodName)) ∈ lw_all := lw_g (lw_at lw_m5 67 rfl) rfl
theorem q1076 : (Jvm.Cond.privateMethod ({ cls := "EggLights$Machine", name := "grades", desc := "(LEggLights$Lane;)I" } : Jvm.MethodName)) ∈ lw_tbl := lw_at lw_m5 68 rfl
theorem q1077 : (Jvm.Cond.instanceMethod ({ cls := "EggLights$Machine", name := "grades", desc := "(LEggLights$Lane;)I" } : Jvm.MethodName)) ∈ lw_all := lw_g (lw_at lw_m5 69 rfl) rfl
theorem q1078 : (Jvm.Cond.codeWith ({ cls := "EggLights$Machine", name := "grades", desc := "(LEggLights$Lane;)I" } : Jvm.MethodName) prog_8_method_10_code (4 : Nat) (Option.some Jvm.ClassFile.FieldType.int) [((12 : Nat), (35 : Nat), (36 : Nat), (151 : Nat))]) ∈ lw_all := lw_g (lw_at lw_m5 70 rfl) rfl
theorem q1079 : (Jvm.Cond.classLink "EggLights$Machine" (151 : Nat) "EggLights$Ungraded") ∈ lw_all := lw_g (lw_at lw_m5 71 rfl) rfl
theorem q1080 : (Jvm.Cond.methodLink "EggLights$Machine" (218 : Nat) ({ cls := "EggLights$Machine", name := "gradeOf", desc := "(LEggLights$Lane;)I" } : Jvm.MethodName)) ∈ lw_all := lw_g (lw_at lw_m5 72 rfl) rfl
theorem q1081 : (Jvm.Cond.instanceMethod ({ cls := "EggLights$Machine", name := "gradeOf", desc := "(LEggLights$Lane;)I" } : Jvm.MethodName)) ∈ lw_all := lw_g (lw_at lw_m5 73 rfl) rfl
theorem q1082 : (Jvm.Cond.selects "EggLights$Machine" ({ cls := "EggLights$Machine", name := "gradeOf", desc := "(LEggLights$Lane;)I" } : Jvm.MethodName) ({ cls := "EggLights$Machine", name := "gradeOf", desc := "(LEggLights$Lane;)I" } : Jvm.MethodName)) ∈ lw_all := lw_g (lw_at lw_m5 74 rfl) rfl
theorem q1083 : (Jvm.Cond.codeWith ({ cls := "EggLights$Machine", name := "gradeOf", desc := "(LEggLights$Lane;)I" } : Jvm.MethodName) prog_8_method_5_code (4 : Nat) (Option.some Jvm.ClassFile.FieldType.int) [((24 : Nat), (30 : Nat), (31 : Nat), (162 : Nat))]) ∈ lw_all := lw_g (lw_at lw_m5 75 rfl) rfl
theorem q1084 : (Jvm.Cond.classLink "EggLights$Machine" (162 : Nat) "EggLights$Wrong") ∈ lw_all := lw_g (lw_at lw_m5 76 rfl) rfl
theorem q1093 : (Jvm.Cond.methodLink "EggLights$Machine" (153 : Nat) ({ cls := "EggLights$Ungraded", name := "<init>", desc := "()V" } : Jvm.MethodName)) ∈ lw_all := lw_g (lw_at lw_m5 85 rfl) rfl
theorem q1100 : (Jvm.Cond.methodLink "EggLights$Machine" (154 : Nat) ({ cls := "EggLights$Machine", name := "stained", desc := "(LEggLights$Lane;)LEggLights$Egg;" } : Jvm.MethodName)) ∈ lw_all := lw_g (lw_at lw_m5 92 rfl) rfl
theorem q1101 : (Jvm.Cond.instanceMethod ({ cls := "EggLights$Machine", name := "stained", desc := "(LEggLights$Lane;)LEggLights$Egg;" } : Jvm.MethodName)) ∈ lw_all := lw_g (lw_at lw_m5 93 rfl) rfl
theorem q1102 : (Jvm.Cond.selects "EggLights$Machine" ({ cls := "EggLights$Machine", name := "stained", desc := "(LEggLights$Lane;)LEggLights$Egg;" } : Jvm.MethodName) ({ cls := "EggLights$Machine", name := "stained", desc := "(LEggLights$Lane;)LEggLights$Egg;" } : Jvm.MethodName)) ∈ lw_all := lw_g (lw_at lw_m5 94 rfl) rfl
theorem q1103 : (Jvm.Cond.code ({ cls := "EggLights$Machine", name := "stained", desc := "(LEggLights$Lane;)LEggLights$Egg;" } : Jvm.MethodName) prog_8_method_4_code (3 : Nat) (Option.some (Jvm.ClassFile.FieldType.object "EggLights$Egg"))) ∈ lw_all := lw_g (lw_at lw_m5 95 rfl) rfl
theorem q1104 : (Jvm.Cond.methodLink "EggLights$Machine" (136 : Nat) ({ cls := "java/util/LinkedList", name := "getFirst", desc := "()Ljava/lang/Object;" } : Jvm.MethodName)) ∈ lw_all := lw_g (lw_at lw_m5 96 rfl) rfl
theorem q1108 : (Jvm.Cond.methodLink "EggLights$Machine" (142 : Nat) ({ cls := "java/lang/Math", name := "max", desc := "(II)I" } : Jvm.MethodName)) ∈ lw_all := lw_g (lw_at lw_m5 100 rfl) rfl
theorem q1109 : (Jvm.Cond.methodLink "EggLights$Machine" (158 : Nat) ({ cls := "EggLights$Machine", name := "lit", desc := "(LEggLights$Lane;LEggLights$Egg;)I" } : Jvm.MethodName)) ∈ lw_all := lw_g (lw_at lw_m5 101 rfl) rfl
theorem q1110 : (Jvm.Cond.instanceMethod ({ cls := "EggLights$Machine", name := "lit", desc := "(LEggLights$Lane;LEggLights$Egg;)I" } : Jvm.MethodName)) ∈ lw_all := lw_g (lw_at lw_m5 102 rfl) rfl
theorem q1111 : (Jvm.Cond.selects "EggLights$Machine" ({ cls := "EggLights$Machine", name := "lit", desc := "(LEggLights$Lane;LEggLights$Egg;)I" } : Jvm.MethodName) ({ cls := "EggLights$Machine", name := "lit", desc := "(LEggLights$Lane;LEggLights$Egg;)I" } : Jvm.MethodName)) ∈ lw_all := lw_g (lw_at lw_m5 103 rfl) rfl
theorem q1112 : (Jvm.Cond.code ({ cls := "EggLights$Machine", name := "lit", desc := "(LEggLights$Lane;LEggLights$Egg;)I" } : Jvm.MethodName) prog_8_method_3_code (6 : Nat) (Option.some Jvm.ClassFile.FieldType.int)) ∈ lw_all := lw_g (lw_at lw_m5 104 rfl) rfl
theorem q1113 : (Jvm.Cond.methodLink "EggLights$Machine" (94 : Nat) ({ cls := "EggLights$Lane", name := "seen", desc := "(I)I" } : Jvm.MethodName)) ∈ lw_all := lw_g (lw_at lw_m5 105 rfl) rfl
theorem q1117 : (Jvm.Cond.classLink "EggLights$Machine" (106 : Nat) "EggLights$Dark") ∈ lw_all := lw_g (lw_at lw_m5 109 rfl) rfl
theorem q1126 : (Jvm.Cond.methodLink "EggLights$Machine" (108 : Nat) ({ cls := "EggLights$Dark", name := "<init>", desc := "()V" } : Jvm.MethodName)) ∈ lw_all := lw_g (lw_at lw_m5 118 rfl) rfl
theorem q1140 : (Jvm.Cond.methodLink "EggLights$Machine" (109 : Nat) ({ cls := "EggLights$Egg", name := "isCracked", desc := "()Z" } : Jvm.MethodName)) ∈ lw_all := lw_g (lw_at lw_m5 132 rfl) rfl
theorem q1144 : (Jvm.Cond.classLink "EggLights$Machine" (115 : Nat) "EggLights$Broken") ∈ lw_all := lw_g (lw_at lw_m5 136 rfl) rfl
theorem q1153 : (Jvm.Cond.methodLink "EggLights$Machine" (117 : Nat) ({ cls := "EggLights$Broken", name := "<init>", desc := "()V" } : Jvm.MethodName)) ∈ lw_all := lw_g (lw_at lw_m5 145 rfl) rfl
theorem q1160 : (Jvm.Cond.methodLink "EggLights$Machine" (121 : Nat) ({ cls := "java/lang/Integer", name := "bitCount", desc := "(I)I" } : Jvm.MethodName)) ∈ lw_all := lw_g (lw_at lw_m5 152 rfl) rfl
theorem q1166 : (Jvm.Cond.methodLink "EggLights$Machine" (129 : Nat) ({ cls := "EggLights$Egg", name := "byWeight", desc := "()I" } : Jvm.MethodName)) ∈ lw_all := lw_g (lw_at lw_m5 158 rfl) rfl
theorem q1172 : (Jvm.Cond.methodLink "EggLights$Machine" (164 : Nat) ({ cls := "EggLights$Ungraded", name := "<init>", desc := "(LEggLights$Wrong;)V" } : Jvm.MethodName)) ∈ lw_all := lw_g (lw_at lw_m5 164 rfl) rfl
theorem q1182 : (Jvm.Cond.methodLink "EggLights$Machine" (222 : Nat) ({ cls := "java/util/LinkedList", name := "removeFirst", desc := "()Ljava/lang/Object;" } : Jvm.MethodName)) ∈ lw_all := lw_g (lw_at lw_m5 174 rfl) rfl
theorem q1190 : (Jvm.Cond.methodLink "EggLights$Machine" (225 : Nat) ({ cls := "EggLights$Machine", name := "packs", desc := "(LEggLights$Lane;LEggLights$Egg;I)V" } : Jvm.MethodName)) ∈ lw_all := lw_g (lw_at lw_m5 182 rfl) rfl
theorem q1191 : (Jvm.Cond.privateMethod ({ cls := "EggLights$Machine", name := "packs", desc := "(LEggLights$Lane;LEggLights$Egg;I)V" } : Jvm.MethodName)) ∈ lw_tbl := lw_at lw_m5 183 rfl
theorem q1192 : (Jvm.Cond.instanceMethod ({ cls := "EggLights$Machine", name := "packs", desc := "(LEggLights$Lane;LEggLights$Egg;I)V" } : Jvm.MethodName)) ∈ lw_all := lw_g (lw_at lw_m5 184 rfl) rfl
theorem q1193 : (Jvm.Cond.code ({ cls := "EggLights$Machine", name := "packs", desc := "(LEggLights$Lane;LEggLights$Egg;I)V" } : Jvm.MethodName) prog_8_method_7_code (6 : Nat) (Option.none : Option Jvm.ClassFile.FieldType)) ∈ lw_all := lw_g (lw_at lw_m5 185 rfl) rfl
theorem q1194 : (Jvm.Cond.methodLink "EggLights$Machine" (201 : Nat) ({ cls := "EggLights$Machine", name := "enters", desc := "(LEggLights$Lane;LEggLights$Egg;I)V" } : Jvm.MethodName)) ∈ lw_all := lw_g (lw_at lw_m5 186 rfl) rfl
theorem q1195 : (Jvm.Cond.privateMethod ({ cls := "EggLights$Machine", name := "enters", desc := "(LEggLights$Lane;LEggLights$Egg;I)V" } : Jvm.MethodName)) ∈ lw_tbl := lw_at lw_m5 187 rfl
theorem q1196 : (Jvm.Cond.instanceMethod ({ cls := "EggLights$Machine", name := "enters", desc := "(LEggLights$Lane;LEggLights$Egg;I)V" } : Jvm.MethodName)) ∈ lw_all := lw_g (lw_at lw_m5 188 rfl) rfl
theorem q1197 : (Jvm.Cond.code ({ cls := "EggLights$Machine", name := "enters", desc := "(LEggLights$Lane;LEggLights$Egg;I)V" } : Jvm.MethodName) prog_8_method_6_code (5 : Nat) (Option.none : Option Jvm.ClassFile.FieldType)) ∈ lw_all := lw_g (lw_at lw_m5 189 rfl) rfl
theorem q1199 : (Jvm.Cond.methodLink "EggLights$Machine" (170 : Nat) ({ cls := "EggLights$Entry", name := "<init>", desc := "(IIILEggLights$Egg;)V" } : Jvm.MethodName)) ∈ lw_all := lw_g (lw_at lw_m5 191 rfl) rfl
theorem q1225 : (Jvm.Cond.methodLink "EggLights$Machine" (173 : Nat) ({ cls := "java/util/LinkedList", name := "addFirst", desc := "(Ljava/lang/Object;)V" } : Jvm.MethodName)) ∈ lw_all := lw_g (lw_at lw_m5 217 rfl) rfl
theorem q1233 : (Jvm.Cond.methodLink "EggLights$Machine" (179 : Nat) ({ cls := "java/util/LinkedList", name := "removeLast", desc := "()Ljava/lang/Object;" } : Jvm.MethodName)) ∈ lw_all := lw_g (lw_at lw_m5 225 rfl) rfl
theorem q1241 : (Jvm.Cond.methodLinkNest "EggLights$Machine" (211 : Nat) ({ cls := "EggLights", name := "price", desc := "(I)I" } : Jvm.MethodName) "EggLights") ∈ lw_tbl := lw_at lw_m5 233 rfl
theorem q1244 : (Jvm.Cond.methodLink "EggLights$Machine" (228 : Nat) ({ cls := "EggLights$Ungraded", name := "reason", desc := "()I" } : Jvm.MethodName)) ∈ lw_all := lw_g (lw_at lw_m5 236 rfl) rfl
theorem q1255 : (Jvm.Cond.methodLink "EggLights$Machine" (231 : Nat) ({ cls := "EggLights$Machine", name := "isDark", desc := "(LEggLights$Lane;LEggLights$Egg;)V" } : Jvm.MethodName)) ∈ lw_all := lw_g (lw_at lw_m6 7 rfl) rfl
theorem q1256 : (Jvm.Cond.privateMethod ({ cls := "EggLights$Machine", name := "isDark", desc := "(LEggLights$Lane;LEggLights$Egg;)V" } : Jvm.MethodName)) ∈ lw_tbl := lw_at lw_m6 8 rfl
theorem q1257 : (Jvm.Cond.instanceMethod ({ cls := "EggLights$Machine", name := "isDark", desc := "(LEggLights$Lane;LEggLights$Egg;)V" } : Jvm.MethodName)) ∈ lw_all := lw_g (lw_at lw_m6 9 rfl) rfl
theorem q1258 : (Jvm.Cond.code ({ cls := "EggLights$Machine", name := "isDark", desc := "(LEggLights$Lane;LEggLights$Egg;)V" } : Jvm.MethodName) prog_8_method_8_code (3 : Nat) (Option.none : Option Jvm.ClassFile.FieldType)) ∈ lw_all := lw_g (lw_at lw_m6 10 rfl) rfl
theorem q1259 : (Jvm.Cond.methodLink "EggLights$Machine" (235 : Nat) ({ cls := "EggLights$Machine", name := "isBroken", desc := "(LEggLights$Lane;LEggLights$Egg;)V" } : Jvm.MethodName)) ∈ lw_all := lw_g (lw_at lw_m6 11 rfl) rfl
theorem q1260 : (Jvm.Cond.privateMethod ({ cls := "EggLights$Machine", name := "isBroken", desc := "(LEggLights$Lane;LEggLights$Egg;)V" } : Jvm.MethodName)) ∈ lw_tbl := lw_at lw_m6 12 rfl
theorem q1261 : (Jvm.Cond.instanceMethod ({ cls := "EggLights$Machine", name := "isBroken", desc := "(LEggLights$Lane;LEggLights$Egg;)V" } : Jvm.MethodName)) ∈ lw_all := lw_g (lw_at lw_m6 13 rfl) rfl
theorem q1262 : (Jvm.Cond.code ({ cls := "EggLights$Machine", name := "isBroken", desc := "(LEggLights$Lane;LEggLights$Egg;)V" } : Jvm.MethodName) prog_8_method_9_code (3 : Nat) (Option.none : Option Jvm.ClassFile.FieldType)) ∈ lw_all := lw_g (lw_at lw_m6 14 rfl) rfl
theorem q1264 : (Jvm.Cond.instanceMethod ({ cls := "EggLights$Machine", name := "setsTo", desc := "(II)I" } : Jvm.MethodName)) ∈ lw_all := lw_g (lw_at lw_m6 16 rfl) rfl
theorem q1265 : (Jvm.Cond.selects "EggLights$Machine" ({ cls := "EggLights$Machine", name := "setsTo", desc := "(II)I" } : Jvm.MethodName) ({ cls := "EggLights$Machine", name := "setsTo", desc := "(II)I" } : Jvm.MethodName)) ∈ lw_all := lw_g (lw_at lw_m6 17 rfl) rfl
theorem q1266 : (Jvm.Cond.code ({ cls := "EggLights$Machine", name := "setsTo", desc := "(II)I" } : Jvm.MethodName) prog_8_method_18_code (4 : Nat) (Option.some Jvm.ClassFile.FieldType.int)) ∈ lw_all := lw_g (lw_at lw_m6 18 rfl) rfl
theorem q1267 : (Jvm.Cond.constantLong "EggLights$Machine" (282 : Nat) (3 : Int64)) ∈ lw_all := lw_g (lw_at lw_m6 19 rfl) rfl
theorem q1268 : (Jvm.Cond.constantLong "EggLights$Machine" (284 : Nat) (8 : Int64)) ∈ lw_all := lw_g (lw_at lw_m6 20 rfl) rfl
theorem q1269 : (Jvm.Cond.constantLong "EggLights$Machine" (286 : Nat) (9 : Int64)) ∈ lw_all := lw_g (lw_at lw_m6 21 rfl) rfl
theorem q1425 : (Jvm.Cond.instanceMethod ({ cls := "EggLights$Machine", name := "cracked", desc := "()I" } : Jvm.MethodName)) ∈ lw_all := lw_g (lw_at lw_m6 177 rfl) rfl
theorem q1426 : (Jvm.Cond.selects "EggLights$Machine" ({ cls := "EggLights$Machine", name := "cracked", desc := "()I" } : Jvm.MethodName) ({ cls := "EggLights$Machine", name := "cracked", desc := "()I" } : Jvm.MethodName)) ∈ lw_all := lw_g (lw_at lw_m6 178 rfl) rfl
theorem q1427 : (Jvm.Cond.code ({ cls := "EggLights$Machine", name := "cracked", desc := "()I" } : Jvm.MethodName) prog_8_method_20_code (4 : Nat) (Option.some Jvm.ClassFile.FieldType.int)) ∈ lw_all := lw_g (lw_at lw_m6 179 rfl) rfl
theorem q1451 : (Jvm.Cond.instanceMethod ({ cls := "EggLights$Machine", name := "inQueues", desc := "()I" } : Jvm.MethodName)) ∈ lw_all := lw_g (lw_at lw_m6 203 rfl) rfl
theorem q1452 : (Jvm.Cond.selects "EggLights$Machine" ({ cls := "EggLights$Machine", name := "inQueues", desc := "()I" } : Jvm.MethodName) ({ cls := "EggLights$Machine", name := "inQueues", desc := "()I" } : Jvm.MethodName)) ∈ lw_all := lw_g (lw_at lw_m6 204 rfl) rfl
theorem q1453 : (Jvm.Cond.code ({ cls := "EggLights$Machine", name := "inQueues", desc := "()I" } : Jvm.MethodName) prog_8_method_19_code (4 : Nat) (Option.some Jvm.ClassFile.FieldType.int)) ∈ lw_all := lw_g (lw_at lw_m6 205 rfl) rfl
theorem q1960 : (Jvm.Cond.castable "EggLights$Machine" "java/lang/Object") ∈ lw_tbl := lw_at lw_m8 232 rfl
theorem in_X1 : ∀ w ∈ wsX10, w ∈ lw_all := lw_in wsX10 [327, 329, 331, 333, 335, 337, 339, 341, 343, 345] (by decide +kernel) (by decide +kernel)

/-! EggLights$Lane -/
set_option maxRecDepth 100000
def RX2 : String := "EggLights$Lane"
def TX2 : u_T := fun k => match k with
  | 0 => ("EggLights$Lane", "number", "I", true)
  | 1 => ("EggLights$Lane", "queue", "Ljava/util/LinkedList;", true)
  | 2 => ("EggLights$Lane", "light", "I", false)
  | 3 => ("EggLights$Lane", "turn", "I", false)
  | 4 => ("EggLights$Lane", "stains", "I", false)
  | 5 => ("EggLights$Lane", "graded", "I", false)
  | _ => ("EggLights$Lane", "cracked", "I", false)
def tyX2 : Nat → FieldType := fun k => match k with
  | 0 => .int
  | 1 => .object "java/util/LinkedList"
  | 2 => .int
  | 3 => .int
  | 4 => .int
  | 5 => .int
  | _ => .int
abbrev wsX20 : List Cond := u_ws RX2 TX2 7
theorem nmX2 : ∀ a, a < 7 → ∀ b, b < 7 → a ≠ b → (TX2 a).2.1 ≠ (TX2 b).2.1 := by decide +kernel
theorem tyX2_ok : ∀ k, k < 7 → parseFieldDescriptor (TX2 k).2.2.1 = some (tyX2 k) := by decide +kernel
abbrev cX2_init : ByteArray := prog_7_method_1_code
def yX2_init : MethodName := ⟨RX2, "<init>", "(I)V"⟩
def dkwX2_init_1 : List UInt8 := [181, 0, 22, 42, 27, 181, 0, 25, 177]
abbrev dktX2_init_1 : List UInt8 := dkwX2_init_1 ++ []
def dkwX2_init_0 : List UInt8 := [42, 183, 0, 3, 42, 187, 0, 9, 89, 183, 0, 11, 181, 0, 12, 42, 16, 50, 181, 0, 18, 42, 4]
abbrev dktX2_init_0 : List UInt8 := dkwX2_init_0 ++ dktX2_init_1
theorem dksX2_init_0 : cX2_init.data.toList.drop 0 = dktX2_init_0 := by decide +kernel
theorem dksX2_init_1 : cX2_init.data.toList.drop 23 = dktX2_init_1 := dk_seg dksX2_init_0 23 rfl rfl
theorem dX2_init_0 : decode cX2_init 0 = .ok (.aload_n 0, 1) := dk_42 (dk_at dksX2_init_0 0 rfl rfl)
theorem dX2_init_1 : decode cX2_init 1 = .ok (.invokespecial 3, 3) := dk_183 0 3 (dk_at dksX2_init_0 1 rfl rfl)
theorem dX2_init_4 : decode cX2_init 4 = .ok (.aload_n 0, 1) := dk_42 (dk_at dksX2_init_0 4 rfl rfl)
theorem dX2_init_5 : decode cX2_init 5 = .ok (.new 9, 3) := dk_187 0 9 (dk_at dksX2_init_0 5 rfl rfl)
theorem dX2_init_8 : decode cX2_init 8 = .ok (.dup, 1) := dk_89 (dk_at dksX2_init_0 8 rfl rfl)
theorem dX2_init_9 : decode cX2_init 9 = .ok (.invokespecial 11, 3) := dk_183 0 11 (dk_at dksX2_init_0 9 rfl rfl)
theorem dX2_init_12 : decode cX2_init 12 = .ok (.putfield 12, 3) := dk_181 0 12 (dk_at dksX2_init_0 12 rfl rfl)
theorem dX2_init_15 : decode cX2_init 15 = .ok (.aload_n 0, 1) := dk_42 (dk_at dksX2_init_0 15 rfl rfl)
theorem dX2_init_16 : decode cX2_init 16 = .ok (.bipush 50, 2) := dk_16 50 (dk_at dksX2_init_0 16 rfl rfl)
theorem dX2_init_18 : decode cX2_init 18 = .ok (.putfield 18, 3) := dk_181 0 18 (dk_at dksX2_init_0 18 rfl rfl)
theorem dX2_init_21 : decode cX2_init 21 = .ok (.aload_n 0, 1) := dk_42 (dk_at dksX2_init_0 21 rfl rfl)
theorem dX2_init_22 : decode cX2_init 22 = .ok (.iconst 1, 1) := dk_4 (dk_at dksX2_init_0 22 rfl rfl)
theorem dX2_init_23 : decode cX2_init 23 = .ok (.putfield 22, 3) := dk_181 0 22 (dk_at dksX2_init_1 0 rfl rfl)
theorem dX2_init_26 : decode cX2_init 26 = .ok (.aload_n 0, 1) := dk_42 (dk_at dksX2_init_1 3 rfl rfl)
theorem dX2_init_27 : decode cX2_init 27 = .ok (.iload_n 1, 1) := dk_27 (dk_at dksX2_init_1 4 rfl rfl)
theorem dX2_init_28 : decode cX2_init 28 = .ok (.putfield 25, 3) := dk_181 0 25 (dk_at dksX2_init_1 5 rfl rfl)
theorem dX2_init_31 : decode cX2_init 31 = .ok (.return_, 1) := dk_177 (dk_at dksX2_init_1 8 rfl rfl)
abbrev cX2_init_2 : ByteArray := prog_7_method_2_code
def yX2_init_2 : MethodName := ⟨RX2, "<init>", "(LEggLights$Lane;)V"⟩
def dkwX2_init_2_4 : List UInt8 := [181, 0, 60, 177]
abbrev dktX2_init_2_4 : List UInt8 := dkwX2_init_2_4 ++ []
def dkwX2_init_2_3 : List UInt8 := [181, 0, 22, 42, 43, 180, 0, 54, 181, 0, 54, 42, 43, 180, 0, 57, 181, 0, 57, 42, 43, 180, 0, 60]
abbrev dktX2_init_2_3 : List UInt8 := dkwX2_init_2_3 ++ dktX2_init_2_4
def dkwX2_init_2_2 : List UInt8 := [183, 0, 47, 182, 0, 50, 167, 255, 222, 42, 43, 180, 0, 18, 181, 0, 18, 42, 43, 180, 0, 22]
abbrev dktX2_init_2_2 : List UInt8 := dkwX2_init_2_2 ++ dktX2_init_2_3
def dkwX2_init_2_1 : List UInt8 := [153, 0, 31, 44, 185, 0, 41, 1, 0, 192, 0, 45, 78, 42, 180, 0, 12, 187, 0, 45, 89, 45]
abbrev dktX2_init_2_1 : List UInt8 := dkwX2_init_2_1 ++ dktX2_init_2_2
def dkwX2_init_2_0 : List UInt8 := [42, 43, 180, 0, 25, 183, 0, 28, 43, 180, 0, 12, 182, 0, 31, 77, 44, 185, 0, 35, 1, 0]
abbrev dktX2_init_2_0 : List UInt8 := dkwX2_init_2_0 ++ dktX2_init_2_1
theorem dksX2_init_2_0 : cX2_init_2.data.toList.drop 0 = dktX2_init_2_0 := by decide +kernel
theorem dksX2_init_2_1 : cX2_init_2.data.toList.drop 22 = dktX2_init_2_1 := dk_seg dksX2_init_2_0 22 rfl rfl
theorem dksX2_init_2_2 : cX2_init_2.data.toList.drop 44 = dktX2_init_2_2 := dk_seg dksX2_init_2_1 22 rfl rfl
theorem dksX2_init_2_3 : cX2_init_2.data.toList.drop 66 = dktX2_init_2_3 := dk_seg dksX2_init_2_2 22 rfl rfl
theorem dksX2_init_2_4 : cX2_init_2.data.toList.drop 90 = dktX2_init_2_4 := dk_seg dksX2_init_2_3 24 rfl rfl
theorem dX2_init_2_0 : decode cX2_init_2 0 = .ok (.aload_n 0, 1) := dk_42 (dk_at dksX2_init_2_0 0 rfl rfl)
theorem dX2_init_2_1 : decode cX2_init_2 1 = .ok (.aload_n 1, 1) := dk_43 (dk_at dksX2_init_2_0 1 rfl rfl)
theorem dX2_init_2_2 : decode cX2_init_2 2 = .ok (.getfield 25, 3) := dk_180 0 25 (dk_at dksX2_init_2_0 2 rfl rfl)
theorem dX2_init_2_5 : decode cX2_init_2 5 = .ok (.invokespecial 28, 3) := dk_183 0 28 (dk_at dksX2_init_2_0 5 rfl rfl)
theorem dX2_init_2_8 : decode cX2_init_2 8 = .ok (.aload_n 1, 1) := dk_43 (dk_at dksX2_init_2_0 8 rfl rfl)
theorem dX2_init_2_9 : decode cX2_init_2 9 = .ok (.getfield 12, 3) := dk_180 0 12 (dk_at dksX2_init_2_0 9 rfl rfl)
theorem dX2_init_2_12 : decode cX2_init_2 12 = .ok (.invokevirtual 31, 3) := dk_182 0 31 (dk_at dksX2_init_2_0 12 rfl rfl)
theorem dX2_init_2_15 : decode cX2_init_2 15 = .ok (.astore_n 2, 1) := dk_77 (dk_at dksX2_init_2_0 15 rfl rfl)
theorem dX2_init_2_16 : decode cX2_init_2 16 = .ok (.aload_n 2, 1) := dk_44 (dk_at dksX2_init_2_0 16 rfl rfl)
theorem dX2_init_2_17 : decode cX2_init_2 17 = .ok (.invokeinterface 35 1, 5) := by decide +kernel
theorem dX2_init_2_22 : decode cX2_init_2 22 = .ok (.ifCond .eq 31, 3) := dk_153 0 31 (dk_at dksX2_init_2_1 0 rfl rfl)
theorem dX2_init_2_25 : decode cX2_init_2 25 = .ok (.aload_n 2, 1) := dk_44 (dk_at dksX2_init_2_1 3 rfl rfl)
theorem dX2_init_2_26 : decode cX2_init_2 26 = .ok (.invokeinterface 41 1, 5) := by decide +kernel
theorem dX2_init_2_31 : decode cX2_init_2 31 = .ok (.checkcast 45, 3) := dk_192 0 45 (dk_at dksX2_init_2_1 9 rfl rfl)
theorem dX2_init_2_34 : decode cX2_init_2 34 = .ok (.astore_n 3, 1) := dk_78 (dk_at dksX2_init_2_1 12 rfl rfl)
theorem dX2_init_2_35 : decode cX2_init_2 35 = .ok (.aload_n 0, 1) := dk_42 (dk_at dksX2_init_2_1 13 rfl rfl)
theorem dX2_init_2_36 : decode cX2_init_2 36 = .ok (.getfield 12, 3) := dk_180 0 12 (dk_at dksX2_init_2_1 14 rfl rfl)
theorem dX2_init_2_39 : decode cX2_init_2 39 = .ok (.new 45, 3) := dk_187 0 45 (dk_at dksX2_init_2_1 17 rfl rfl)
theorem dX2_init_2_42 : decode cX2_init_2 42 = .ok (.dup, 1) := dk_89 (dk_at dksX2_init_2_1 20 rfl rfl)
theorem dX2_init_2_43 : decode cX2_init_2 43 = .ok (.aload_n 3, 1) := dk_45 (dk_at dksX2_init_2_1 21 rfl rfl)
theorem dX2_init_2_44 : decode cX2_init_2 44 = .ok (.invokespecial 47, 3) := dk_183 0 47 (dk_at dksX2_init_2_2 0 rfl rfl)
theorem dX2_init_2_47 : decode cX2_init_2 47 = .ok (.invokevirtual 50, 3) := dk_182 0 50 (dk_at dksX2_init_2_2 3 rfl rfl)
theorem dX2_init_2_50 : decode cX2_init_2 50 = .ok (.goto (-34), 3) := dk_167 255 222 (dk_at dksX2_init_2_2 6 rfl rfl)
theorem dX2_init_2_53 : decode cX2_init_2 53 = .ok (.aload_n 0, 1) := dk_42 (dk_at dksX2_init_2_2 9 rfl rfl)
theorem dX2_init_2_54 : decode cX2_init_2 54 = .ok (.aload_n 1, 1) := dk_43 (dk_at dksX2_init_2_2 10 rfl rfl)
theorem dX2_init_2_55 : decode cX2_init_2 55 = .ok (.getfield 18, 3) := dk_180 0 18 (dk_at dksX2_init_2_2 11 rfl rfl)
theorem dX2_init_2_58 : decode cX2_init_2 58 = .ok (.putfield 18, 3) := dk_181 0 18 (dk_at dksX2_init_2_2 14 rfl rfl)
theorem dX2_init_2_61 : decode cX2_init_2 61 = .ok (.aload_n 0, 1) := dk_42 (dk_at dksX2_init_2_2 17 rfl rfl)
theorem dX2_init_2_62 : decode cX2_init_2 62 = .ok (.aload_n 1, 1) := dk_43 (dk_at dksX2_init_2_2 18 rfl rfl)
theorem dX2_init_2_63 : decode cX2_init_2 63 = .ok (.getfield 22, 3) := dk_180 0 22 (dk_at dksX2_init_2_2 19 rfl rfl)
theorem dX2_init_2_66 : decode cX2_init_2 66 = .ok (.putfield 22, 3) := dk_181 0 22 (dk_at dksX2_init_2_3 0 rfl rfl)
theorem dX2_init_2_69 : decode cX2_init_2 69 = .ok (.aload_n 0, 1) := dk_42 (dk_at dksX2_init_2_3 3 rfl rfl)
theorem dX2_init_2_70 : decode cX2_init_2 70 = .ok (.aload_n 1, 1) := dk_43 (dk_at dksX2_init_2_3 4 rfl rfl)
theorem dX2_init_2_71 : decode cX2_init_2 71 = .ok (.getfield 54, 3) := dk_180 0 54 (dk_at dksX2_init_2_3 5 rfl rfl)
theorem dX2_init_2_74 : decode cX2_init_2 74 = .ok (.putfield 54, 3) := dk_181 0 54 (dk_at dksX2_init_2_3 8 rfl rfl)
theorem dX2_init_2_77 : decode cX2_init_2 77 = .ok (.aload_n 0, 1) := dk_42 (dk_at dksX2_init_2_3 11 rfl rfl)
theorem dX2_init_2_78 : decode cX2_init_2 78 = .ok (.aload_n 1, 1) := dk_43 (dk_at dksX2_init_2_3 12 rfl rfl)
theorem dX2_init_2_79 : decode cX2_init_2 79 = .ok (.getfield 57, 3) := dk_180 0 57 (dk_at dksX2_init_2_3 13 rfl rfl)
theorem dX2_init_2_82 : decode cX2_init_2 82 = .ok (.putfield 57, 3) := dk_181 0 57 (dk_at dksX2_init_2_3 16 rfl rfl)
theorem dX2_init_2_85 : decode cX2_init_2 85 = .ok (.aload_n 0, 1) := dk_42 (dk_at dksX2_init_2_3 19 rfl rfl)
theorem dX2_init_2_86 : decode cX2_init_2 86 = .ok (.aload_n 1, 1) := dk_43 (dk_at dksX2_init_2_3 20 rfl rfl)
theorem dX2_init_2_87 : decode cX2_init_2 87 = .ok (.getfield 60, 3) := dk_180 0 60 (dk_at dksX2_init_2_3 21 rfl rfl)
theorem dX2_init_2_90 : decode cX2_init_2 90 = .ok (.putfield 60, 3) := dk_181 0 60 (dk_at dksX2_init_2_4 0 rfl rfl)
theorem dX2_init_2_93 : decode cX2_init_2 93 = .ok (.return_, 1) := dk_177 (dk_at dksX2_init_2_4 3 rfl rfl)
abbrev cX2_seen : ByteArray := prog_7_method_4_code
def yX2_seen : MethodName := ⟨RX2, "seen", "(I)I"⟩
def dkwX2_seen_1 : List UInt8 := [132, 3, 1, 167, 255, 234, 28, 172]
abbrev dktX2_seen_1 : List UInt8 := dkwX2_seen_1 ++ []
def dkwX2_seen_0 : List UInt8 := [3, 61, 3, 62, 29, 27, 162, 0, 23, 28, 4, 29, 42, 180, 0, 22, 104, 16, 8, 112, 120, 128, 61]
abbrev dktX2_seen_0 : List UInt8 := dkwX2_seen_0 ++ dktX2_seen_1
theorem dksX2_seen_0 : cX2_seen.data.toList.drop 0 = dktX2_seen_0 := by decide +kernel
theorem dksX2_seen_1 : cX2_seen.data.toList.drop 23 = dktX2_seen_1 := dk_seg dksX2_seen_0 23 rfl rfl
theorem dX2_seen_0 : decode cX2_seen 0 = .ok (.iconst 0, 1) := dk_3 (dk_at dksX2_seen_0 0 rfl rfl)
theorem dX2_seen_1 : decode cX2_seen 1 = .ok (.istore_n 2, 1) := dk_61 (dk_at dksX2_seen_0 1 rfl rfl)
theorem dX2_seen_2 : decode cX2_seen 2 = .ok (.iconst 0, 1) := dk_3 (dk_at dksX2_seen_0 2 rfl rfl)
theorem dX2_seen_3 : decode cX2_seen 3 = .ok (.istore_n 3, 1) := dk_62 (dk_at dksX2_seen_0 3 rfl rfl)
theorem dX2_seen_4 : decode cX2_seen 4 = .ok (.iload_n 3, 1) := dk_29 (dk_at dksX2_seen_0 4 rfl rfl)
theorem dX2_seen_5 : decode cX2_seen 5 = .ok (.iload_n 1, 1) := dk_27 (dk_at dksX2_seen_0 5 rfl rfl)
theorem dX2_seen_6 : decode cX2_seen 6 = .ok (.if_icmp .ge 23, 3) := dk_162 0 23 (dk_at dksX2_seen_0 6 rfl rfl)
theorem dX2_seen_9 : decode cX2_seen 9 = .ok (.iload_n 2, 1) := dk_28 (dk_at dksX2_seen_0 9 rfl rfl)
theorem dX2_seen_10 : decode cX2_seen 10 = .ok (.iconst 1, 1) := dk_4 (dk_at dksX2_seen_0 10 rfl rfl)
theorem dX2_seen_11 : decode cX2_seen 11 = .ok (.iload_n 3, 1) := dk_29 (dk_at dksX2_seen_0 11 rfl rfl)
theorem dX2_seen_12 : decode cX2_seen 12 = .ok (.aload_n 0, 1) := dk_42 (dk_at dksX2_seen_0 12 rfl rfl)
theorem dX2_seen_13 : decode cX2_seen 13 = .ok (.getfield 22, 3) := dk_180 0 22 (dk_at dksX2_seen_0 13 rfl rfl)
theorem dX2_seen_16 : decode cX2_seen 16 = .ok (.imul, 1) := dk_104 (dk_at dksX2_seen_0 16 rfl rfl)
theorem dX2_seen_17 : decode cX2_seen 17 = .ok (.bipush 8, 2) := dk_16 8 (dk_at dksX2_seen_0 17 rfl rfl)
theorem dX2_seen_19 : decode cX2_seen 19 = .ok (.irem, 1) := dk_112 (dk_at dksX2_seen_0 19 rfl rfl)
theorem dX2_seen_20 : decode cX2_seen 20 = .ok (.ishl, 1) := dk_120 (dk_at dksX2_seen_0 20 rfl rfl)
theorem dX2_seen_21 : decode cX2_seen 21 = .ok (.ior, 1) := dk_128 (dk_at dksX2_seen_0 21 rfl rfl)
theorem dX2_seen_22 : decode cX2_seen 22 = .ok (.istore_n 2, 1) := dk_61 (dk_at dksX2_seen_0 22 rfl rfl)
theorem dX2_seen_23 : decode cX2_seen 23 = .ok (.iinc 3 1, 3) := dk_132 3 1 (dk_at dksX2_seen_1 0 rfl rfl)
theorem dX2_seen_26 : decode cX2_seen 26 = .ok (.goto (-22), 3) := dk_167 255 234 (dk_at dksX2_seen_1 3 rfl rfl)
theorem dX2_seen_29 : decode cX2_seen 29 = .ok (.iload_n 2, 1) := dk_28 (dk_at dksX2_seen_1 6 rfl rfl)
theorem dX2_seen_30 : decode cX2_seen 30 = .ok (.ireturn, 1) := dk_172 (dk_at dksX2_seen_1 7 rfl rfl)
abbrev cX2_alone : ByteArray := prog_7_method_3_code
def yX2_alone : MethodName := ⟨RX2, "alone", "()LEggLights$Lane;"⟩
def dkwX2_alone_3 : List UInt8 := [176]
abbrev dktX2_alone_3 : List UInt8 := dkwX2_alone_3 ++ []
def dkwX2_alone_2 : List UInt8 := [42, 180, 0, 18, 181, 0, 18, 43, 42, 180, 0, 22, 181, 0, 22, 43, 42, 180, 0, 54, 181, 0, 54, 43]
abbrev dktX2_alone_2 : List UInt8 := dkwX2_alone_2 ++ dktX2_alone_3
def dkwX2_alone_1 : List UInt8 := [180, 0, 12, 187, 0, 45, 89, 42, 180, 0, 12, 182, 0, 66, 192, 0, 45, 183, 0, 47, 182, 0, 50, 43]
abbrev dktX2_alone_1 : List UInt8 := dkwX2_alone_1 ++ dktX2_alone_2
def dkwX2_alone_0 : List UInt8 := [187, 0, 13, 89, 42, 180, 0, 25, 183, 0, 28, 76, 42, 180, 0, 12, 182, 0, 63, 154, 0, 27, 43]
abbrev dktX2_alone_0 : List UInt8 := dkwX2_alone_0 ++ dktX2_alone_1
theorem dksX2_alone_0 : cX2_alone.data.toList.drop 0 = dktX2_alone_0 := by decide +kernel
theorem dksX2_alone_1 : cX2_alone.data.toList.drop 23 = dktX2_alone_1 := dk_seg dksX2_alone_0 23 rfl rfl
theorem dksX2_alone_2 : cX2_alone.data.toList.drop 47 = dktX2_alone_2 := dk_seg dksX2_alone_1 24 rfl rfl
theorem dksX2_alone_3 : cX2_alone.data.toList.drop 71 = dktX2_alone_3 := dk_seg dksX2_alone_2 24 rfl rfl
theorem dX2_alone_0 : decode cX2_alone 0 = .ok (.new 13, 3) := dk_187 0 13 (dk_at dksX2_alone_0 0 rfl rfl)
theorem dX2_alone_3 : decode cX2_alone 3 = .ok (.dup, 1) := dk_89 (dk_at dksX2_alone_0 3 rfl rfl)
theorem dX2_alone_4 : decode cX2_alone 4 = .ok (.aload_n 0, 1) := dk_42 (dk_at dksX2_alone_0 4 rfl rfl)
theorem dX2_alone_5 : decode cX2_alone 5 = .ok (.getfield 25, 3) := dk_180 0 25 (dk_at dksX2_alone_0 5 rfl rfl)
theorem dX2_alone_8 : decode cX2_alone 8 = .ok (.invokespecial 28, 3) := dk_183 0 28 (dk_at dksX2_alone_0 8 rfl rfl)
theorem dX2_alone_11 : decode cX2_alone 11 = .ok (.astore_n 1, 1) := dk_76 (dk_at dksX2_alone_0 11 rfl rfl)
theorem dX2_alone_12 : decode cX2_alone 12 = .ok (.aload_n 0, 1) := dk_42 (dk_at dksX2_alone_0 12 rfl rfl)
theorem dX2_alone_13 : decode cX2_alone 13 = .ok (.getfield 12, 3) := dk_180 0 12 (dk_at dksX2_alone_0 13 rfl rfl)
theorem dX2_alone_16 : decode cX2_alone 16 = .ok (.invokevirtual 63, 3) := dk_182 0 63 (dk_at dksX2_alone_0 16 rfl rfl)
theorem dX2_alone_19 : decode cX2_alone 19 = .ok (.ifCond .ne 27, 3) := dk_154 0 27 (dk_at dksX2_alone_0 19 rfl rfl)
theorem dX2_alone_22 : decode cX2_alone 22 = .ok (.aload_n 1, 1) := dk_43 (dk_at dksX2_alone_0 22 rfl rfl)
theorem dX2_alone_23 : decode cX2_alone 23 = .ok (.getfield 12, 3) := dk_180 0 12 (dk_at dksX2_alone_1 0 rfl rfl)
theorem dX2_alone_26 : decode cX2_alone 26 = .ok (.new 45, 3) := dk_187 0 45 (dk_at dksX2_alone_1 3 rfl rfl)
theorem dX2_alone_29 : decode cX2_alone 29 = .ok (.dup, 1) := dk_89 (dk_at dksX2_alone_1 6 rfl rfl)
theorem dX2_alone_30 : decode cX2_alone 30 = .ok (.aload_n 0, 1) := dk_42 (dk_at dksX2_alone_1 7 rfl rfl)
theorem dX2_alone_31 : decode cX2_alone 31 = .ok (.getfield 12, 3) := dk_180 0 12 (dk_at dksX2_alone_1 8 rfl rfl)
theorem dX2_alone_34 : decode cX2_alone 34 = .ok (.invokevirtual 66, 3) := dk_182 0 66 (dk_at dksX2_alone_1 11 rfl rfl)
theorem dX2_alone_37 : decode cX2_alone 37 = .ok (.checkcast 45, 3) := dk_192 0 45 (dk_at dksX2_alone_1 14 rfl rfl)
theorem dX2_alone_40 : decode cX2_alone 40 = .ok (.invokespecial 47, 3) := dk_183 0 47 (dk_at dksX2_alone_1 17 rfl rfl)
theorem dX2_alone_43 : decode cX2_alone 43 = .ok (.invokevirtual 50, 3) := dk_182 0 50 (dk_at dksX2_alone_1 20 rfl rfl)
theorem dX2_alone_46 : decode cX2_alone 46 = .ok (.aload_n 1, 1) := dk_43 (dk_at dksX2_alone_1 23 rfl rfl)
theorem dX2_alone_47 : decode cX2_alone 47 = .ok (.aload_n 0, 1) := dk_42 (dk_at dksX2_alone_2 0 rfl rfl)
theorem dX2_alone_48 : decode cX2_alone 48 = .ok (.getfield 18, 3) := dk_180 0 18 (dk_at dksX2_alone_2 1 rfl rfl)
theorem dX2_alone_51 : decode cX2_alone 51 = .ok (.putfield 18, 3) := dk_181 0 18 (dk_at dksX2_alone_2 4 rfl rfl)
theorem dX2_alone_54 : decode cX2_alone 54 = .ok (.aload_n 1, 1) := dk_43 (dk_at dksX2_alone_2 7 rfl rfl)
theorem dX2_alone_55 : decode cX2_alone 55 = .ok (.aload_n 0, 1) := dk_42 (dk_at dksX2_alone_2 8 rfl rfl)
theorem dX2_alone_56 : decode cX2_alone 56 = .ok (.getfield 22, 3) := dk_180 0 22 (dk_at dksX2_alone_2 9 rfl rfl)
theorem dX2_alone_59 : decode cX2_alone 59 = .ok (.putfield 22, 3) := dk_181 0 22 (dk_at dksX2_alone_2 12 rfl rfl)
theorem dX2_alone_62 : decode cX2_alone 62 = .ok (.aload_n 1, 1) := dk_43 (dk_at dksX2_alone_2 15 rfl rfl)
theorem dX2_alone_63 : decode cX2_alone 63 = .ok (.aload_n 0, 1) := dk_42 (dk_at dksX2_alone_2 16 rfl rfl)
theorem dX2_alone_64 : decode cX2_alone 64 = .ok (.getfield 54, 3) := dk_180 0 54 (dk_at dksX2_alone_2 17 rfl rfl)
theorem dX2_alone_67 : decode cX2_alone 67 = .ok (.putfield 54, 3) := dk_181 0 54 (dk_at dksX2_alone_2 20 rfl rfl)
theorem dX2_alone_70 : decode cX2_alone 70 = .ok (.aload_n 1, 1) := dk_43 (dk_at dksX2_alone_2 23 rfl rfl)
theorem dX2_alone_71 : decode cX2_alone 71 = .ok (.areturn, 1) := dk_176 (dk_at dksX2_alone_3 0 rfl rfl)
theorem q56 : (Jvm.Cond.initialized "EggLights$Lane") ∈ lw_all := lw_g (lw_at lw_m1 8 rfl) rfl
theorem q163 : (Jvm.Cond.instantiable "EggLights$Lane" (7 : Nat)) ∈ lw_all := lw_g (lw_at lw_m1 115 rfl) rfl
theorem q165 : (Jvm.Cond.instanceMethod ({ cls := "EggLights$Lane", name := "<init>", desc := "(I)V" } : Jvm.MethodName)) ∈ lw_all := lw_g (lw_at lw_m1 117 rfl) rfl
theorem q166 : (Jvm.Cond.code ({ cls := "EggLights$Lane", name := "<init>", desc := "(I)V" } : Jvm.MethodName) prog_7_method_1_code (2 : Nat) (Option.none : Option Jvm.ClassFile.FieldType)) ∈ lw_all := lw_g (lw_at lw_m1 118 rfl) rfl
theorem q167 : (Jvm.Cond.methodLink "EggLights$Lane" (3 : Nat) ({ cls := "java/lang/Object", name := "<init>", desc := "()V" } : Jvm.MethodName)) ∈ lw_all := lw_g (lw_at lw_m1 119 rfl) rfl
theorem q168 : (Jvm.Cond.classLink "EggLights$Lane" (9 : Nat) "java/util/LinkedList") ∈ lw_all := lw_g (lw_at lw_m1 120 rfl) rfl
theorem q169 : (Jvm.Cond.methodLink "EggLights$Lane" (11 : Nat) ({ cls := "java/util/LinkedList", name := "<init>", desc := "()V" } : Jvm.MethodName)) ∈ lw_all := lw_g (lw_at lw_m1 121 rfl) rfl
theorem q170 : (Jvm.Cond.fieldLink "EggLights$Lane" (25 : Nat) "EggLights$Lane" "number" "I") ∈ lw_all := lw_g (lw_at lw_m1 122 rfl) rfl
theorem q172 : (Jvm.Cond.fieldLink "EggLights$Lane" (12 : Nat) "EggLights$Lane" "queue" "Ljava/util/LinkedList;") ∈ lw_all := lw_g (lw_at lw_m1 124 rfl) rfl
theorem q175 : (Jvm.Cond.fieldLink "EggLights$Lane" (18 : Nat) "EggLights$Lane" "light" "I") ∈ lw_all := lw_g (lw_at lw_m1 127 rfl) rfl
theorem q178 : (Jvm.Cond.fieldLink "EggLights$Lane" (22 : Nat) "EggLights$Lane" "turn" "I") ∈ lw_all := lw_g (lw_at lw_m1 130 rfl) rfl
theorem q181 : (Jvm.Cond.fieldLink "EggLights$Lane" (54 : Nat) "EggLights$Lane" "stains" "I") ∈ lw_all := lw_g (lw_at lw_m1 133 rfl) rfl
theorem q184 : (Jvm.Cond.fieldLink "EggLights$Lane" (57 : Nat) "EggLights$Lane" "graded" "I") ∈ lw_all := lw_g (lw_at lw_m1 136 rfl) rfl
theorem q187 : (Jvm.Cond.fieldLink "EggLights$Lane" (60 : Nat) "EggLights$Lane" "cracked" "I") ∈ lw_all := lw_g (lw_at lw_m1 139 rfl) rfl
theorem q190 : (Jvm.Cond.laysFinal "EggLights$Lane" "EggLights$Lane" "number" "I") ∈ lw_all := lw_g (lw_at lw_m1 142 rfl) rfl
theorem q191 : (Jvm.Cond.soleField "EggLights$Lane" "number") ∈ lw_all := lw_g (lw_at lw_m1 143 rfl) rfl
theorem q192 : (Jvm.Cond.laysFinal "EggLights$Lane" "EggLights$Lane" "queue" "Ljava/util/LinkedList;") ∈ lw_all := lw_g (lw_at lw_m1 144 rfl) rfl
theorem q193 : (Jvm.Cond.soleField "EggLights$Lane" "queue") ∈ lw_all := lw_g (lw_at lw_m1 145 rfl) rfl
theorem q194 : (Jvm.Cond.lays "EggLights$Lane" "EggLights$Lane" "light" "I") ∈ lw_all := lw_g (lw_at lw_m1 146 rfl) rfl
theorem q195 : (Jvm.Cond.soleField "EggLights$Lane" "light") ∈ lw_all := lw_g (lw_at lw_m1 147 rfl) rfl
theorem q196 : (Jvm.Cond.lays "EggLights$Lane" "EggLights$Lane" "turn" "I") ∈ lw_all := lw_g (lw_at lw_m1 148 rfl) rfl
theorem q197 : (Jvm.Cond.soleField "EggLights$Lane" "turn") ∈ lw_all := lw_g (lw_at lw_m1 149 rfl) rfl
theorem q198 : (Jvm.Cond.lays "EggLights$Lane" "EggLights$Lane" "stains" "I") ∈ lw_all := lw_g (lw_at lw_m1 150 rfl) rfl
theorem q199 : (Jvm.Cond.soleField "EggLights$Lane" "stains") ∈ lw_all := lw_g (lw_at lw_m1 151 rfl) rfl
theorem q200 : (Jvm.Cond.lays "EggLights$Lane" "EggLights$Lane" "graded" "I") ∈ lw_all := lw_g (lw_at lw_m1 152 rfl) rfl
theorem q201 : (Jvm.Cond.soleField "EggLights$Lane" "graded") ∈ lw_all := lw_g (lw_at lw_m1 153 rfl) rfl
theorem q202 : (Jvm.Cond.lays "EggLights$Lane" "EggLights$Lane" "cracked" "I") ∈ lw_all := lw_g (lw_at lw_m1 154 rfl) rfl
theorem q203 : (Jvm.Cond.soleField "EggLights$Lane" "cracked") ∈ lw_all := lw_g (lw_at lw_m1 155 rfl) rfl
theorem q204 : (Jvm.Cond.superclass "EggLights$Lane" "java/lang/Object") ∈ lw_all := lw_g (lw_at lw_m1 156 rfl) rfl
theorem q243 : (Jvm.Cond.selects "EggLights$Lane" ({ cls := "java/lang/Object", name := "getClass", desc := "()Ljava/lang/Class;" } : Jvm.MethodName) ({ cls := "java/lang/Object", name := "getClass", desc := "()Ljava/lang/Class;" } : Jvm.MethodName)) ∈ lw_all := lw_g (lw_at lw_m1 195 rfl) rfl
theorem q819 : (Jvm.Cond.instanceMethod ({ cls := "EggLights$Lane", name := "<init>", desc := "(LEggLights$Lane;)V" } : Jvm.MethodName)) ∈ lw_all := lw_g (lw_at lw_m4 51 rfl) rfl
theorem q820 : (Jvm.Cond.code ({ cls := "EggLights$Lane", name := "<init>", desc := "(LEggLights$Lane;)V" } : Jvm.MethodName) prog_7_method_2_code (4 : Nat) (Option.none : Option Jvm.ClassFile.FieldType)) ∈ lw_all := lw_g (lw_at lw_m4 52 rfl) rfl
theorem q821 : (Jvm.Cond.methodLink "EggLights$Lane" (28 : Nat) ({ cls := "EggLights$Lane", name := "<init>", desc := "(I)V" } : Jvm.MethodName)) ∈ lw_all := lw_g (lw_at lw_m4 53 rfl) rfl
theorem q822 : (Jvm.Cond.methodLink "EggLights$Lane" (31 : Nat) ({ cls := "java/util/LinkedList", name := "iterator", desc := "()Ljava/util/Iterator;" } : Jvm.MethodName)) ∈ lw_all := lw_g (lw_at lw_m4 54 rfl) rfl
theorem q893 : (Jvm.Cond.interfaceEntry "EggLights$Lane" (35 : Nat)) ∈ lw_tbl := lw_at lw_m4 125 rfl
theorem q894 : (Jvm.Cond.methodLink "EggLights$Lane" (35 : Nat) ({ cls := "java/util/Iterator", name := "hasNext", desc := "()Z" } : Jvm.MethodName)) ∈ lw_all := lw_g (lw_at lw_m4 126 rfl) rfl
theorem q895 : (Jvm.Cond.interfaceEntry "EggLights$Lane" (41 : Nat)) ∈ lw_tbl := lw_at lw_m4 127 rfl
theorem q896 : (Jvm.Cond.methodLink "EggLights$Lane" (41 : Nat) ({ cls := "java/util/Iterator", name := "next", desc := "()Ljava/lang/Object;" } : Jvm.MethodName)) ∈ lw_all := lw_g (lw_at lw_m4 128 rfl) rfl
theorem q897 : (Jvm.Cond.classLink "EggLights$Lane" (45 : Nat) "EggLights$Egg") ∈ lw_all := lw_g (lw_at lw_m4 129 rfl) rfl
theorem q899 : (Jvm.Cond.methodLink "EggLights$Lane" (47 : Nat) ({ cls := "EggLights$Egg", name := "<init>", desc := "(LEggLights$Egg;)V" } : Jvm.MethodName)) ∈ lw_all := lw_g (lw_at lw_m4 131 rfl) rfl
theorem q938 : (Jvm.Cond.methodLink "EggLights$Lane" (50 : Nat) ({ cls := "java/util/LinkedList", name := "addLast", desc := "(Ljava/lang/Object;)V" } : Jvm.MethodName)) ∈ lw_all := lw_g (lw_at lw_m4 170 rfl) rfl
theorem q1114 : (Jvm.Cond.instanceMethod ({ cls := "EggLights$Lane", name := "seen", desc := "(I)I" } : Jvm.MethodName)) ∈ lw_all := lw_g (lw_at lw_m5 106 rfl) rfl
theorem q1115 : (Jvm.Cond.selects "EggLights$Lane" ({ cls := "EggLights$Lane", name := "seen", desc := "(I)I" } : Jvm.MethodName) ({ cls := "EggLights$Lane", name := "seen", desc := "(I)I" } : Jvm.MethodName)) ∈ lw_all := lw_g (lw_at lw_m5 107 rfl) rfl
theorem q1116 : (Jvm.Cond.code ({ cls := "EggLights$Lane", name := "seen", desc := "(I)I" } : Jvm.MethodName) prog_7_method_4_code (4 : Nat) (Option.some Jvm.ClassFile.FieldType.int)) ∈ lw_all := lw_g (lw_at lw_m5 108 rfl) rfl
theorem q1378 : (Jvm.Cond.instanceMethod ({ cls := "EggLights$Lane", name := "alone", desc := "()LEggLights$Lane;" } : Jvm.MethodName)) ∈ lw_all := lw_g (lw_at lw_m6 130 rfl) rfl
theorem q1379 : (Jvm.Cond.selects "EggLights$Lane" ({ cls := "EggLights$Lane", name := "alone", desc := "()LEggLights$Lane;" } : Jvm.MethodName) ({ cls := "EggLights$Lane", name := "alone", desc := "()LEggLights$Lane;" } : Jvm.MethodName)) ∈ lw_all := lw_g (lw_at lw_m6 131 rfl) rfl
theorem q1380 : (Jvm.Cond.code ({ cls := "EggLights$Lane", name := "alone", desc := "()LEggLights$Lane;" } : Jvm.MethodName) prog_7_method_3_code (2 : Nat) (Option.some (Jvm.ClassFile.FieldType.object "EggLights$Lane"))) ∈ lw_all := lw_g (lw_at lw_m6 132 rfl) rfl
theorem q1381 : (Jvm.Cond.classLink "EggLights$Lane" (13 : Nat) "EggLights$Lane") ∈ lw_all := lw_g (lw_at lw_m6 133 rfl) rfl
theorem q1382 : (Jvm.Cond.methodLink "EggLights$Lane" (63 : Nat) ({ cls := "java/util/LinkedList", name := "isEmpty", desc := "()Z" } : Jvm.MethodName)) ∈ lw_all := lw_g (lw_at lw_m6 134 rfl) rfl
theorem q1383 : (Jvm.Cond.methodLink "EggLights$Lane" (66 : Nat) ({ cls := "java/util/LinkedList", name := "getFirst", desc := "()Ljava/lang/Object;" } : Jvm.MethodName)) ∈ lw_all := lw_g (lw_at lw_m6 135 rfl) rfl
theorem q1963 : (Jvm.Cond.castable "EggLights$Lane" "java/lang/Object") ∈ lw_tbl := lw_at lw_m8 235 rfl
theorem in_X2 : ∀ w ∈ wsX20, w ∈ lw_all := lw_in wsX20 [190, 192, 194, 196, 198, 200, 202] (by decide +kernel) (by decide +kernel)

/-! EggLights$Crate -/
set_option maxRecDepth 100000
def RX3 : String := "EggLights$Crate"
def TX3 : u_T := fun k => match k with
  | 0 => ("EggLights$Crate", "eggs", "I", false)
  | 1 => ("EggLights$Crate", "cracked", "I", false)
  | 2 => ("EggLights$Crate", "sold", "I", false)
  | 3 => ("EggLights$Crate", "returned", "I", false)
  | _ => ("EggLights$Crate", "all", "I", false)
def tyX3 : Nat → FieldType := fun k => match k with
  | 0 => .int
  | 1 => .int
  | 2 => .int
  | 3 => .int
  | _ => .int
abbrev wsX30 : List Cond := u_ws RX3 TX3 5
theorem nmX3 : ∀ a, a < 5 → ∀ b, b < 5 → a ≠ b → (TX3 a).2.1 ≠ (TX3 b).2.1 := by decide +kernel
theorem tyX3_ok : ∀ k, k < 5 → parseFieldDescriptor (TX3 k).2.2.1 = some (tyX3 k) := by decide +kernel
abbrev cX3_init : ByteArray := prog_3_method_1_code
def yX3_init : MethodName := ⟨RX3, "<init>", "()V"⟩
theorem dX3_init_0 : decode cX3_init 0 = .ok (.aload_n 0, 1) := by decide +kernel
theorem dX3_init_1 : decode cX3_init 1 = .ok (.invokespecial 1, 3) := by decide +kernel
theorem dX3_init_4 : decode cX3_init 4 = .ok (.return_, 1) := by decide +kernel
abbrev cX3_init_2 : ByteArray := prog_3_method_2_code
def yX3_init_2 : MethodName := ⟨RX3, "<init>", "(LEggLights$Crate;)V"⟩
def dkwX3_init_2_1 : List UInt8 := [180, 0, 16, 181, 0, 16, 42, 43, 180, 0, 19, 181, 0, 19, 42, 43, 180, 0, 22, 181, 0, 22, 177]
abbrev dktX3_init_2_1 : List UInt8 := dkwX3_init_2_1 ++ []
def dkwX3_init_2_0 : List UInt8 := [42, 183, 0, 1, 42, 43, 180, 0, 7, 181, 0, 7, 42, 43, 180, 0, 13, 181, 0, 13, 42, 43]
abbrev dktX3_init_2_0 : List UInt8 := dkwX3_init_2_0 ++ dktX3_init_2_1
theorem dksX3_init_2_0 : cX3_init_2.data.toList.drop 0 = dktX3_init_2_0 := by decide +kernel
theorem dksX3_init_2_1 : cX3_init_2.data.toList.drop 22 = dktX3_init_2_1 := dk_seg dksX3_init_2_0 22 rfl rfl
theorem dX3_init_2_0 : decode cX3_init_2 0 = .ok (.aload_n 0, 1) := dk_42 (dk_at dksX3_init_2_0 0 rfl rfl)
theorem dX3_init_2_1 : decode cX3_init_2 1 = .ok (.invokespecial 1, 3) := dk_183 0 1 (dk_at dksX3_init_2_0 1 rfl rfl)
theorem dX3_init_2_4 : decode cX3_init_2 4 = .ok (.aload_n 0, 1) := dk_42 (dk_at dksX3_init_2_0 4 rfl rfl)
theorem dX3_init_2_5 : decode cX3_init_2 5 = .ok (.aload_n 1, 1) := dk_43 (dk_at dksX3_init_2_0 5 rfl rfl)
theorem dX3_init_2_6 : decode cX3_init_2 6 = .ok (.getfield 7, 3) := dk_180 0 7 (dk_at dksX3_init_2_0 6 rfl rfl)
theorem dX3_init_2_9 : decode cX3_init_2 9 = .ok (.putfield 7, 3) := dk_181 0 7 (dk_at dksX3_init_2_0 9 rfl rfl)
theorem dX3_init_2_12 : decode cX3_init_2 12 = .ok (.aload_n 0, 1) := dk_42 (dk_at dksX3_init_2_0 12 rfl rfl)
theorem dX3_init_2_13 : decode cX3_init_2 13 = .ok (.aload_n 1, 1) := dk_43 (dk_at dksX3_init_2_0 13 rfl rfl)
theorem dX3_init_2_14 : decode cX3_init_2 14 = .ok (.getfield 13, 3) := dk_180 0 13 (dk_at dksX3_init_2_0 14 rfl rfl)
theorem dX3_init_2_17 : decode cX3_init_2 17 = .ok (.putfield 13, 3) := dk_181 0 13 (dk_at dksX3_init_2_0 17 rfl rfl)
theorem dX3_init_2_20 : decode cX3_init_2 20 = .ok (.aload_n 0, 1) := dk_42 (dk_at dksX3_init_2_0 20 rfl rfl)
theorem dX3_init_2_21 : decode cX3_init_2 21 = .ok (.aload_n 1, 1) := dk_43 (dk_at dksX3_init_2_0 21 rfl rfl)
theorem dX3_init_2_22 : decode cX3_init_2 22 = .ok (.getfield 16, 3) := dk_180 0 16 (dk_at dksX3_init_2_1 0 rfl rfl)
theorem dX3_init_2_25 : decode cX3_init_2 25 = .ok (.putfield 16, 3) := dk_181 0 16 (dk_at dksX3_init_2_1 3 rfl rfl)
theorem dX3_init_2_28 : decode cX3_init_2 28 = .ok (.aload_n 0, 1) := dk_42 (dk_at dksX3_init_2_1 6 rfl rfl)
theorem dX3_init_2_29 : decode cX3_init_2 29 = .ok (.aload_n 1, 1) := dk_43 (dk_at dksX3_init_2_1 7 rfl rfl)
theorem dX3_init_2_30 : decode cX3_init_2 30 = .ok (.getfield 19, 3) := dk_180 0 19 (dk_at dksX3_init_2_1 8 rfl rfl)
theorem dX3_init_2_33 : decode cX3_init_2 33 = .ok (.putfield 19, 3) := dk_181 0 19 (dk_at dksX3_init_2_1 11 rfl rfl)
theorem dX3_init_2_36 : decode cX3_init_2 36 = .ok (.aload_n 0, 1) := dk_42 (dk_at dksX3_init_2_1 14 rfl rfl)
theorem dX3_init_2_37 : decode cX3_init_2 37 = .ok (.aload_n 1, 1) := dk_43 (dk_at dksX3_init_2_1 15 rfl rfl)
theorem dX3_init_2_38 : decode cX3_init_2 38 = .ok (.getfield 22, 3) := dk_180 0 22 (dk_at dksX3_init_2_1 16 rfl rfl)
theorem dX3_init_2_41 : decode cX3_init_2 41 = .ok (.putfield 22, 3) := dk_181 0 22 (dk_at dksX3_init_2_1 19 rfl rfl)
theorem dX3_init_2_44 : decode cX3_init_2 44 = .ok (.return_, 1) := dk_177 (dk_at dksX3_init_2_1 22 rfl rfl)
theorem q61 : (Jvm.Cond.initialized "EggLights$Crate") ∈ lw_all := lw_g (lw_at lw_m1 13 rfl) rfl
theorem q239 : (Jvm.Cond.selects "EggLights$Crate" ({ cls := "java/lang/Object", name := "getClass", desc := "()Ljava/lang/Class;" } : Jvm.MethodName) ({ cls := "java/lang/Object", name := "getClass", desc := "()Ljava/lang/Class;" } : Jvm.MethodName)) ∈ lw_all := lw_g (lw_at lw_m1 191 rfl) rfl
theorem q276 : (Jvm.Cond.instantiable "EggLights$Crate" (5 : Nat)) ∈ lw_all := lw_g (lw_at lw_m1 228 rfl) rfl
theorem q278 : (Jvm.Cond.instanceMethod ({ cls := "EggLights$Crate", name := "<init>", desc := "()V" } : Jvm.MethodName)) ∈ lw_all := lw_g (lw_at lw_m1 230 rfl) rfl
theorem q279 : (Jvm.Cond.code ({ cls := "EggLights$Crate", name := "<init>", desc := "()V" } : Jvm.MethodName) prog_3_method_1_code (1 : Nat) (Option.none : Option Jvm.ClassFile.FieldType)) ∈ lw_all := lw_g (lw_at lw_m1 231 rfl) rfl
theorem q280 : (Jvm.Cond.methodLink "EggLights$Crate" (1 : Nat) ({ cls := "java/lang/Object", name := "<init>", desc := "()V" } : Jvm.MethodName)) ∈ lw_all := lw_g (lw_at lw_m1 232 rfl) rfl
theorem q281 : (Jvm.Cond.fieldLink "EggLights$Crate" (7 : Nat) "EggLights$Crate" "eggs" "I") ∈ lw_all := lw_g (lw_at lw_m1 233 rfl) rfl
theorem q284 : (Jvm.Cond.fieldLink "EggLights$Crate" (13 : Nat) "EggLights$Crate" "cracked" "I") ∈ lw_all := lw_g (lw_at lw_m1 236 rfl) rfl
theorem q287 : (Jvm.Cond.fieldLink "EggLights$Crate" (16 : Nat) "EggLights$Crate" "sold" "I") ∈ lw_all := lw_g (lw_at lw_m1 239 rfl) rfl
theorem q290 : (Jvm.Cond.fieldLink "EggLights$Crate" (19 : Nat) "EggLights$Crate" "returned" "I") ∈ lw_all := lw_g (lw_at lw_m2 2 rfl) rfl
theorem q293 : (Jvm.Cond.fieldLink "EggLights$Crate" (22 : Nat) "EggLights$Crate" "all" "I") ∈ lw_all := lw_g (lw_at lw_m2 5 rfl) rfl
theorem q296 : (Jvm.Cond.lays "EggLights$Crate" "EggLights$Crate" "eggs" "I") ∈ lw_all := lw_g (lw_at lw_m2 8 rfl) rfl
theorem q297 : (Jvm.Cond.soleField "EggLights$Crate" "eggs") ∈ lw_all := lw_g (lw_at lw_m2 9 rfl) rfl
theorem q298 : (Jvm.Cond.lays "EggLights$Crate" "EggLights$Crate" "cracked" "I") ∈ lw_all := lw_g (lw_at lw_m2 10 rfl) rfl
theorem q299 : (Jvm.Cond.soleField "EggLights$Crate" "cracked") ∈ lw_all := lw_g (lw_at lw_m2 11 rfl) rfl
theorem q300 : (Jvm.Cond.lays "EggLights$Crate" "EggLights$Crate" "sold" "I") ∈ lw_all := lw_g (lw_at lw_m2 12 rfl) rfl
theorem q301 : (Jvm.Cond.soleField "EggLights$Crate" "sold") ∈ lw_all := lw_g (lw_at lw_m2 13 rfl) rfl
theorem q302 : (Jvm.Cond.lays "EggLights$Crate" "EggLights$Crate" "returned" "I") ∈ lw_all := lw_g (lw_at lw_m2 14 rfl) rfl
theorem q303 : (Jvm.Cond.soleField "EggLights$Crate" "returned") ∈ lw_all := lw_g (lw_at lw_m2 15 rfl) rfl
theorem q304 : (Jvm.Cond.lays "EggLights$Crate" "EggLights$Crate" "all" "I") ∈ lw_all := lw_g (lw_at lw_m2 16 rfl) rfl
theorem q305 : (Jvm.Cond.soleField "EggLights$Crate" "all") ∈ lw_all := lw_g (lw_at lw_m2 17 rfl) rfl
theorem q306 : (Jvm.Cond.superclass "EggLights$Crate" "java/lang/Object") ∈ lw_all := lw_g (lw_at lw_m2 18 rfl) rfl
theorem q968 : (Jvm.Cond.instanceMethod ({ cls := "EggLights$Crate", name := "<init>", desc := "(LEggLights$Crate;)V" } : Jvm.MethodName)) ∈ lw_all := lw_g (lw_at lw_m4 200 rfl) rfl
theorem q969 : (Jvm.Cond.code ({ cls := "EggLights$Crate", name := "<init>", desc := "(LEggLights$Crate;)V" } : Jvm.MethodName) prog_3_method_2_code (2 : Nat) (Option.none : Option Jvm.ClassFile.FieldType)) ∈ lw_all := lw_g (lw_at lw_m4 201 rfl) rfl
theorem q1964 : (Jvm.Cond.castable "EggLights$Crate" "java/lang/Object") ∈ lw_tbl := lw_at lw_m8 236 rfl
theorem in_X3 : ∀ w ∈ wsX30, w ∈ lw_all := lw_in wsX30 [296, 298, 300, 302, 304] (by decide +kernel) (by decide +kernel)

/-! EggLights$Egg -/
set_option maxRecDepth 100000
def RX5 : String := "EggLights$Egg"
def TX5 : u_T := fun k => match k with
  | 0 => ("EggLights$Egg", "weight", "I", true)
  | 1 => ("EggLights$Egg", "shell", "I", true)
  | 2 => ("EggLights$Egg", "yolks", "I", true)
  | 3 => ("EggLights$Egg", "crack", "I", true)
  | 4 => ("EggLights$Egg", "spots", "I", false)
  | _ => ("EggLights$Egg", "tries", "I", false)
def tyX5 : Nat → FieldType := fun k => match k with
  | 0 => .int
  | 1 => .int
  | 2 => .int
  | 3 => .int
  | 4 => .int
  | _ => .int
abbrev wsX50 : List Cond := u_ws RX5 TX5 6
theorem nmX5 : ∀ a, a < 6 → ∀ b, b < 6 → a ≠ b → (TX5 a).2.1 ≠ (TX5 b).2.1 := by decide +kernel
theorem tyX5_ok : ∀ k, k < 6 → parseFieldDescriptor (TX5 k).2.2.1 = some (tyX5 k) := by decide +kernel
abbrev cX5_init : ByteArray := prog_5_method_2_code
def yX5_init : MethodName := ⟨RX5, "<init>", "(LEggLights$Egg;)V"⟩
def dkwX5_init_1 : List UInt8 := [42, 43, 180, 0, 30, 181, 0, 30, 177]
abbrev dktX5_init_1 : List UInt8 := dkwX5_init_1 ++ []
def dkwX5_init_0 : List UInt8 := [42, 43, 180, 0, 9, 43, 180, 0, 15, 43, 180, 0, 18, 43, 180, 0, 21, 43, 180, 0, 24, 183, 0, 27]
abbrev dktX5_init_0 : List UInt8 := dkwX5_init_0 ++ dktX5_init_1
theorem dksX5_init_0 : cX5_init.data.toList.drop 0 = dktX5_init_0 := by decide +kernel
theorem dksX5_init_1 : cX5_init.data.toList.drop 24 = dktX5_init_1 := dk_seg dksX5_init_0 24 rfl rfl
theorem dX5_init_0 : decode cX5_init 0 = .ok (.aload_n 0, 1) := dk_42 (dk_at dksX5_init_0 0 rfl rfl)
theorem dX5_init_1 : decode cX5_init 1 = .ok (.aload_n 1, 1) := dk_43 (dk_at dksX5_init_0 1 rfl rfl)
theorem dX5_init_2 : decode cX5_init 2 = .ok (.getfield 9, 3) := dk_180 0 9 (dk_at dksX5_init_0 2 rfl rfl)
theorem dX5_init_5 : decode cX5_init 5 = .ok (.aload_n 1, 1) := dk_43 (dk_at dksX5_init_0 5 rfl rfl)
theorem dX5_init_6 : decode cX5_init 6 = .ok (.getfield 15, 3) := dk_180 0 15 (dk_at dksX5_init_0 6 rfl rfl)
theorem dX5_init_9 : decode cX5_init 9 = .ok (.aload_n 1, 1) := dk_43 (dk_at dksX5_init_0 9 rfl rfl)
theorem dX5_init_10 : decode cX5_init 10 = .ok (.getfield 18, 3) := dk_180 0 18 (dk_at dksX5_init_0 10 rfl rfl)
theorem dX5_init_13 : decode cX5_init 13 = .ok (.aload_n 1, 1) := dk_43 (dk_at dksX5_init_0 13 rfl rfl)
theorem dX5_init_14 : decode cX5_init 14 = .ok (.getfield 21, 3) := dk_180 0 21 (dk_at dksX5_init_0 14 rfl rfl)
theorem dX5_init_17 : decode cX5_init 17 = .ok (.aload_n 1, 1) := dk_43 (dk_at dksX5_init_0 17 rfl rfl)
theorem dX5_init_18 : decode cX5_init 18 = .ok (.getfield 24, 3) := dk_180 0 24 (dk_at dksX5_init_0 18 rfl rfl)
theorem dX5_init_21 : decode cX5_init 21 = .ok (.invokespecial 27, 3) := dk_183 0 27 (dk_at dksX5_init_0 21 rfl rfl)
theorem dX5_init_24 : decode cX5_init 24 = .ok (.aload_n 0, 1) := dk_42 (dk_at dksX5_init_1 0 rfl rfl)
theorem dX5_init_25 : decode cX5_init 25 = .ok (.aload_n 1, 1) := dk_43 (dk_at dksX5_init_1 1 rfl rfl)
theorem dX5_init_26 : decode cX5_init 26 = .ok (.getfield 30, 3) := dk_180 0 30 (dk_at dksX5_init_1 2 rfl rfl)
theorem dX5_init_29 : decode cX5_init 29 = .ok (.putfield 30, 3) := dk_181 0 30 (dk_at dksX5_init_1 5 rfl rfl)
theorem dX5_init_32 : decode cX5_init 32 = .ok (.return_, 1) := dk_177 (dk_at dksX5_init_1 8 rfl rfl)
abbrev cX5_init_2 : ByteArray := prog_5_method_1_code
def yX5_init_2 : MethodName := ⟨RX5, "<init>", "(IIIII)V"⟩
def dkwX5_init_2_1 : List UInt8 := [181, 0, 21, 42, 21, 5, 181, 0, 24, 177]
abbrev dktX5_init_2_1 : List UInt8 := dkwX5_init_2_1 ++ []
def dkwX5_init_2_0 : List UInt8 := [42, 183, 0, 3, 42, 27, 181, 0, 9, 42, 28, 181, 0, 15, 42, 29, 181, 0, 18, 42, 21, 4]
abbrev dktX5_init_2_0 : List UInt8 := dkwX5_init_2_0 ++ dktX5_init_2_1
theorem dksX5_init_2_0 : cX5_init_2.data.toList.drop 0 = dktX5_init_2_0 := by decide +kernel
theorem dksX5_init_2_1 : cX5_init_2.data.toList.drop 22 = dktX5_init_2_1 := dk_seg dksX5_init_2_0 22 rfl rfl
theorem dX5_init_2_0 : decode cX5_init_2 0 = .ok (.aload_n 0, 1) := dk_42 (dk_at dksX5_init_2_0 0 rfl rfl)
theorem dX5_init_2_1 : decode cX5_init_2 1 = .ok (.invokespecial 3, 3) := dk_183 0 3 (dk_at dksX5_init_2_0 1 rfl rfl)
theorem dX5_init_2_4 : decode cX5_init_2 4 = .ok (.aload_n 0, 1) := dk_42 (dk_at dksX5_init_2_0 4 rfl rfl)
theorem dX5_init_2_5 : decode cX5_init_2 5 = .ok (.iload_n 1, 1) := dk_27 (dk_at dksX5_init_2_0 5 rfl rfl)
theorem dX5_init_2_6 : decode cX5_init_2 6 = .ok (.putfield 9, 3) := dk_181 0 9 (dk_at dksX5_init_2_0 6 rfl rfl)
theorem dX5_init_2_9 : decode cX5_init_2 9 = .ok (.aload_n 0, 1) := dk_42 (dk_at dksX5_init_2_0 9 rfl rfl)
theorem dX5_init_2_10 : decode cX5_init_2 10 = .ok (.iload_n 2, 1) := dk_28 (dk_at dksX5_init_2_0 10 rfl rfl)
theorem dX5_init_2_11 : decode cX5_init_2 11 = .ok (.putfield 15, 3) := dk_181 0 15 (dk_at dksX5_init_2_0 11 rfl rfl)
theorem dX5_init_2_14 : decode cX5_init_2 14 = .ok (.aload_n 0, 1) := dk_42 (dk_at dksX5_init_2_0 14 rfl rfl)
theorem dX5_init_2_15 : decode cX5_init_2 15 = .ok (.iload_n 3, 1) := dk_29 (dk_at dksX5_init_2_0 15 rfl rfl)
theorem dX5_init_2_16 : decode cX5_init_2 16 = .ok (.putfield 18, 3) := dk_181 0 18 (dk_at dksX5_init_2_0 16 rfl rfl)
theorem dX5_init_2_19 : decode cX5_init_2 19 = .ok (.aload_n 0, 1) := dk_42 (dk_at dksX5_init_2_0 19 rfl rfl)
theorem dX5_init_2_20 : decode cX5_init_2 20 = .ok (.iload 4, 2) := dk_21 4 (dk_at dksX5_init_2_0 20 rfl rfl)
theorem dX5_init_2_22 : decode cX5_init_2 22 = .ok (.putfield 21, 3) := dk_181 0 21 (dk_at dksX5_init_2_1 0 rfl rfl)
theorem dX5_init_2_25 : decode cX5_init_2 25 = .ok (.aload_n 0, 1) := dk_42 (dk_at dksX5_init_2_1 3 rfl rfl)
theorem dX5_init_2_26 : decode cX5_init_2 26 = .ok (.iload 5, 2) := dk_21 5 (dk_at dksX5_init_2_1 4 rfl rfl)
theorem dX5_init_2_28 : decode cX5_init_2 28 = .ok (.putfield 24, 3) := dk_181 0 24 (dk_at dksX5_init_2_1 6 rfl rfl)
theorem dX5_init_2_31 : decode cX5_init_2 31 = .ok (.return_, 1) := dk_177 (dk_at dksX5_init_2_1 9 rfl rfl)
abbrev cX5_isCracked : ByteArray := prog_5_method_3_code
def yX5_isCracked : MethodName := ⟨RX5, "isCracked", "()Z"⟩
def dkwX5_isCracked_0 : List UInt8 := [42, 180, 0, 24, 2, 159, 0, 7, 4, 167, 0, 4, 3, 172]
abbrev dktX5_isCracked_0 : List UInt8 := dkwX5_isCracked_0 ++ []
theorem dksX5_isCracked_0 : cX5_isCracked.data.toList.drop 0 = dktX5_isCracked_0 := by decide +kernel
theorem dX5_isCracked_0 : decode cX5_isCracked 0 = .ok (.aload_n 0, 1) := dk_42 (dk_at dksX5_isCracked_0 0 rfl rfl)
theorem dX5_isCracked_1 : decode cX5_isCracked 1 = .ok (.getfield 24, 3) := dk_180 0 24 (dk_at dksX5_isCracked_0 1 rfl rfl)
theorem dX5_isCracked_4 : decode cX5_isCracked 4 = .ok (.iconst (-1), 1) := dk_2 (dk_at dksX5_isCracked_0 4 rfl rfl)
theorem dX5_isCracked_5 : decode cX5_isCracked 5 = .ok (.if_icmp .eq 7, 3) := dk_159 0 7 (dk_at dksX5_isCracked_0 5 rfl rfl)
theorem dX5_isCracked_8 : decode cX5_isCracked 8 = .ok (.iconst 1, 1) := dk_4 (dk_at dksX5_isCracked_0 8 rfl rfl)
theorem dX5_isCracked_9 : decode cX5_isCracked 9 = .ok (.goto 4, 3) := dk_167 0 4 (dk_at dksX5_isCracked_0 9 rfl rfl)
theorem dX5_isCracked_12 : decode cX5_isCracked 12 = .ok (.iconst 0, 1) := dk_3 (dk_at dksX5_isCracked_0 12 rfl rfl)
theorem dX5_isCracked_13 : decode cX5_isCracked 13 = .ok (.ireturn, 1) := dk_172 (dk_at dksX5_isCracked_0 13 rfl rfl)
abbrev cX5_byWeight : ByteArray := prog_5_method_4_code
def yX5_byWeight : MethodName := ⟨RX5, "byWeight", "()I"⟩
def dkwX5_byWeight_0 : List UInt8 := [3, 6, 42, 180, 0, 9, 16, 10, 108, 7, 100, 184, 0, 33, 184, 0, 39, 172]
abbrev dktX5_byWeight_0 : List UInt8 := dkwX5_byWeight_0 ++ []
theorem dksX5_byWeight_0 : cX5_byWeight.data.toList.drop 0 = dktX5_byWeight_0 := by decide +kernel
theorem dX5_byWeight_0 : decode cX5_byWeight 0 = .ok (.iconst 0, 1) := dk_3 (dk_at dksX5_byWeight_0 0 rfl rfl)
theorem dX5_byWeight_1 : decode cX5_byWeight 1 = .ok (.iconst 3, 1) := dk_6 (dk_at dksX5_byWeight_0 1 rfl rfl)
theorem dX5_byWeight_2 : decode cX5_byWeight 2 = .ok (.aload_n 0, 1) := dk_42 (dk_at dksX5_byWeight_0 2 rfl rfl)
theorem dX5_byWeight_3 : decode cX5_byWeight 3 = .ok (.getfield 9, 3) := dk_180 0 9 (dk_at dksX5_byWeight_0 3 rfl rfl)
theorem dX5_byWeight_6 : decode cX5_byWeight 6 = .ok (.bipush 10, 2) := dk_16 10 (dk_at dksX5_byWeight_0 6 rfl rfl)
theorem dX5_byWeight_8 : decode cX5_byWeight 8 = .ok (.idiv, 1) := dk_108 (dk_at dksX5_byWeight_0 8 rfl rfl)
theorem dX5_byWeight_9 : decode cX5_byWeight 9 = .ok (.iconst 4, 1) := dk_7 (dk_at dksX5_byWeight_0 9 rfl rfl)
theorem dX5_byWeight_10 : decode cX5_byWeight 10 = .ok (.isub, 1) := dk_100 (dk_at dksX5_byWeight_0 10 rfl rfl)
theorem dX5_byWeight_11 : decode cX5_byWeight 11 = .ok (.invokestatic 33, 3) := dk_184 0 33 (dk_at dksX5_byWeight_0 11 rfl rfl)
theorem dX5_byWeight_14 : decode cX5_byWeight 14 = .ok (.invokestatic 39, 3) := dk_184 0 39 (dk_at dksX5_byWeight_0 14 rfl rfl)
theorem dX5_byWeight_17 : decode cX5_byWeight 17 = .ok (.ireturn, 1) := dk_172 (dk_at dksX5_byWeight_0 17 rfl rfl)
theorem q80 : (Jvm.Cond.initialized "EggLights$Egg") ∈ lw_all := lw_g (lw_at lw_m1 32 rfl) rfl
theorem q241 : (Jvm.Cond.selects "EggLights$Egg" ({ cls := "java/lang/Object", name := "getClass", desc := "()Ljava/lang/Class;" } : Jvm.MethodName) ({ cls := "java/lang/Object", name := "getClass", desc := "()Ljava/lang/Class;" } : Jvm.MethodName)) ∈ lw_all := lw_g (lw_at lw_m1 193 rfl) rfl
theorem q898 : (Jvm.Cond.instantiable "EggLights$Egg" (6 : Nat)) ∈ lw_all := lw_g (lw_at lw_m4 130 rfl) rfl
theorem q900 : (Jvm.Cond.instanceMethod ({ cls := "EggLights$Egg", name := "<init>", desc := "(LEggLights$Egg;)V" } : Jvm.MethodName)) ∈ lw_all := lw_g (lw_at lw_m4 132 rfl) rfl
theorem q901 : (Jvm.Cond.code ({ cls := "EggLights$Egg", name := "<init>", desc := "(LEggLights$Egg;)V" } : Jvm.MethodName) prog_5_method_2_code (2 : Nat) (Option.none : Option Jvm.ClassFile.FieldType)) ∈ lw_all := lw_g (lw_at lw_m4 133 rfl) rfl
theorem q902 : (Jvm.Cond.methodLink "EggLights$Egg" (27 : Nat) ({ cls := "EggLights$Egg", name := "<init>", desc := "(IIIII)V" } : Jvm.MethodName)) ∈ lw_all := lw_g (lw_at lw_m4 134 rfl) rfl
theorem q903 : (Jvm.Cond.instanceMethod ({ cls := "EggLights$Egg", name := "<init>", desc := "(IIIII)V" } : Jvm.MethodName)) ∈ lw_all := lw_g (lw_at lw_m4 135 rfl) rfl
theorem q904 : (Jvm.Cond.code ({ cls := "EggLights$Egg", name := "<init>", desc := "(IIIII)V" } : Jvm.MethodName) prog_5_method_1_code (6 : Nat) (Option.none : Option Jvm.ClassFile.FieldType)) ∈ lw_all := lw_g (lw_at lw_m4 136 rfl) rfl
theorem q905 : (Jvm.Cond.methodLink "EggLights$Egg" (3 : Nat) ({ cls := "java/lang/Object", name := "<init>", desc := "()V" } : Jvm.MethodName)) ∈ lw_all := lw_g (lw_at lw_m4 137 rfl) rfl
theorem q906 : (Jvm.Cond.fieldLink "EggLights$Egg" (9 : Nat) "EggLights$Egg" "weight" "I") ∈ lw_all := lw_g (lw_at lw_m4 138 rfl) rfl
theorem q910 : (Jvm.Cond.fieldLink "EggLights$Egg" (15 : Nat) "EggLights$Egg" "shell" "I") ∈ lw_all := lw_g (lw_at lw_m4 142 rfl) rfl
theorem q913 : (Jvm.Cond.fieldLink "EggLights$Egg" (21 : Nat) "EggLights$Egg" "yolks" "I") ∈ lw_all := lw_g (lw_at lw_m4 145 rfl) rfl
theorem q916 : (Jvm.Cond.fieldLink "EggLights$Egg" (24 : Nat) "EggLights$Egg" "crack" "I") ∈ lw_all := lw_g (lw_at lw_m4 148 rfl) rfl
theorem q919 : (Jvm.Cond.fieldLink "EggLights$Egg" (18 : Nat) "EggLights$Egg" "spots" "I") ∈ lw_all := lw_g (lw_at lw_m4 151 rfl) rfl
theorem q922 : (Jvm.Cond.fieldLink "EggLights$Egg" (30 : Nat) "EggLights$Egg" "tries" "I") ∈ lw_all := lw_g (lw_at lw_m4 154 rfl) rfl
theorem q925 : (Jvm.Cond.laysFinal "EggLights$Egg" "EggLights$Egg" "weight" "I") ∈ lw_all := lw_g (lw_at lw_m4 157 rfl) rfl
theorem q926 : (Jvm.Cond.soleField "EggLights$Egg" "weight") ∈ lw_all := lw_g (lw_at lw_m4 158 rfl) rfl
theorem q927 : (Jvm.Cond.laysFinal "EggLights$Egg" "EggLights$Egg" "shell" "I") ∈ lw_all := lw_g (lw_at lw_m4 159 rfl) rfl
theorem q928 : (Jvm.Cond.soleField "EggLights$Egg" "shell") ∈ lw_all := lw_g (lw_at lw_m4 160 rfl) rfl
theorem q929 : (Jvm.Cond.laysFinal "EggLights$Egg" "EggLights$Egg" "yolks" "I") ∈ lw_all := lw_g (lw_at lw_m4 161 rfl) rfl
theorem q930 : (Jvm.Cond.soleField "EggLights$Egg" "yolks") ∈ lw_all := lw_g (lw_at lw_m4 162 rfl) rfl
theorem q931 : (Jvm.Cond.laysFinal "EggLights$Egg" "EggLights$Egg" "crack" "I") ∈ lw_all := lw_g (lw_at lw_m4 163 rfl) rfl
theorem q932 : (Jvm.Cond.soleField "EggLights$Egg" "crack") ∈ lw_all := lw_g (lw_at lw_m4 164 rfl) rfl
theorem q933 : (Jvm.Cond.lays "EggLights$Egg" "EggLights$Egg" "spots" "I") ∈ lw_all := lw_g (lw_at lw_m4 165 rfl) rfl
theorem q934 : (Jvm.Cond.soleField "EggLights$Egg" "spots") ∈ lw_all := lw_g (lw_at lw_m4 166 rfl) rfl
theorem q935 : (Jvm.Cond.lays "EggLights$Egg" "EggLights$Egg" "tries" "I") ∈ lw_all := lw_g (lw_at lw_m4 167 rfl) rfl
theorem q936 : (Jvm.Cond.soleField "EggLights$Egg" "tries") ∈ lw_all := lw_g (lw_at lw_m4 168 rfl) rfl
theorem q937 : (Jvm.Cond.superclass "EggLights$Egg" "java/lang/Object") ∈ lw_all := lw_g (lw_at lw_m4 169 rfl) rfl
theorem q1141 : (Jvm.Cond.instanceMethod ({ cls := "EggLights$Egg", name := "isCracked", desc := "()Z" } : Jvm.MethodName)) ∈ lw_all := lw_g (lw_at lw_m5 133 rfl) rfl
theorem q1142 : (Jvm.Cond.selects "EggLights$Egg" ({ cls := "EggLights$Egg", name := "isCracked", desc := "()Z" } : Jvm.MethodName) ({ cls := "EggLights$Egg", name := "isCracked", desc := "()Z" } : Jvm.MethodName)) ∈ lw_all := lw_g (lw_at lw_m5 134 rfl) rfl
theorem q1143 : (Jvm.Cond.code ({ cls := "EggLights$Egg", name := "isCracked", desc := "()Z" } : Jvm.MethodName) prog_5_method_3_code (1 : Nat) (Option.some Jvm.ClassFile.FieldType.boolean)) ∈ lw_all := lw_g (lw_at lw_m5 135 rfl) rfl
theorem q1167 : (Jvm.Cond.instanceMethod ({ cls := "EggLights$Egg", name := "byWeight", desc := "()I" } : Jvm.MethodName)) ∈ lw_all := lw_g (lw_at lw_m5 159 rfl) rfl
theorem q1168 : (Jvm.Cond.selects "EggLights$Egg" ({ cls := "EggLights$Egg", name := "byWeight", desc := "()I" } : Jvm.MethodName) ({ cls := "EggLights$Egg", name := "byWeight", desc := "()I" } : Jvm.MethodName)) ∈ lw_all := lw_g (lw_at lw_m5 160 rfl) rfl
theorem q1169 : (Jvm.Cond.code ({ cls := "EggLights$Egg", name := "byWeight", desc := "()I" } : Jvm.MethodName) prog_5_method_4_code (1 : Nat) (Option.some Jvm.ClassFile.FieldType.int)) ∈ lw_all := lw_g (lw_at lw_m5 161 rfl) rfl
theorem q1170 : (Jvm.Cond.methodLink "EggLights$Egg" (33 : Nat) ({ cls := "java/lang/Math", name := "min", desc := "(II)I" } : Jvm.MethodName)) ∈ lw_all := lw_g (lw_at lw_m5 162 rfl) rfl
theorem q1171 : (Jvm.Cond.methodLink "EggLights$Egg" (39 : Nat) ({ cls := "java/lang/Math", name := "max", desc := "(II)I" } : Jvm.MethodName)) ∈ lw_all := lw_g (lw_at lw_m5 163 rfl) rfl
theorem q1974 : (Jvm.Cond.castable "EggLights$Egg" "java/lang/Object") ∈ lw_tbl := lw_at lw_m9 6 rfl
theorem in_X5 : ∀ w ∈ wsX50, w ∈ lw_all := lw_in wsX50 [925, 927, 929, 931, 933, 935] (by decide +kernel) (by decide +kernel)

/-! EggLights$Refused -/
set_option maxRecDepth 100000
def RX6 : String := "EggLights$Refused"
def TX6 : u_T := fun k => match k with
  | 0 => ("java/lang/Throwable", "cause", "Ljava/lang/Throwable;", false)
  | 1 => ("java/lang/Throwable", "stackTrace", "[Ljava/lang/StackTraceElement;", false)
  | 2 => ("java/lang/Throwable", "suppressedExceptions", "Ljava/util/List;", false)
  | 3 => ("java/lang/Throwable", "detailMessage", "Ljava/lang/String;", false)
  | 4 => ("java/lang/Throwable", "backtrace", "Ljava/lang/Object;", false)
  | 5 => ("java/lang/Throwable", "depth", "I", false)
  | _ => ("EggLights$Refused", "code", "I", true)
def tyX6 : Nat → FieldType := fun k => match k with
  | 0 => .object "java/lang/Throwable"
  | 1 => .array (.object "java/lang/StackTraceElement")
  | 2 => .object "java/util/List"
  | 3 => .object "java/lang/String"
  | 4 => .object "java/lang/Object"
  | 5 => .int
  | _ => .int
abbrev wsX60 : List Cond := u_ws RX6 TX6 7
theorem nmX6 : ∀ a, a < 7 → ∀ b, b < 7 → a ≠ b → (TX6 a).2.1 ≠ (TX6 b).2.1 := by decide +kernel
theorem tyX6_ok : ∀ k, k < 7 → parseFieldDescriptor (TX6 k).2.2.1 = some (tyX6 k) := by decide +kernel
abbrev cX6_init : ByteArray := prog_10_method_1_code
def yX6_init : MethodName := ⟨RX6, "<init>", "(I)V"⟩
def dkwX6_init_0 : List UInt8 := [42, 18, 1, 183, 0, 3, 42, 27, 181, 0, 9, 177]
abbrev dktX6_init_0 : List UInt8 := dkwX6_init_0 ++ []
theorem dksX6_init_0 : cX6_init.data.toList.drop 0 = dktX6_init_0 := by decide +kernel
theorem dX6_init_0 : decode cX6_init 0 = .ok (.aload_n 0, 1) := dk_42 (dk_at dksX6_init_0 0 rfl rfl)
theorem dX6_init_1 : decode cX6_init 1 = .ok (.ldc 1, 2) := dk_18 1 (dk_at dksX6_init_0 1 rfl rfl)
theorem dX6_init_3 : decode cX6_init 3 = .ok (.invokespecial 3, 3) := dk_183 0 3 (dk_at dksX6_init_0 3 rfl rfl)
theorem dX6_init_6 : decode cX6_init 6 = .ok (.aload_n 0, 1) := dk_42 (dk_at dksX6_init_0 6 rfl rfl)
theorem dX6_init_7 : decode cX6_init 7 = .ok (.iload_n 1, 1) := dk_27 (dk_at dksX6_init_0 7 rfl rfl)
theorem dX6_init_8 : decode cX6_init 8 = .ok (.putfield 9, 3) := dk_181 0 9 (dk_at dksX6_init_0 8 rfl rfl)
theorem dX6_init_11 : decode cX6_init 11 = .ok (.return_, 1) := dk_177 (dk_at dksX6_init_0 11 rfl rfl)
theorem q82 : (Jvm.Cond.initialized "EggLights$Refused") ∈ lw_all := lw_g (lw_at lw_m1 34 rfl) rfl
theorem q246 : (Jvm.Cond.selects "EggLights$Refused" ({ cls := "java/lang/Object", name := "getClass", desc := "()Ljava/lang/Class;" } : Jvm.MethodName) ({ cls := "java/lang/Object", name := "getClass", desc := "()Ljava/lang/Class;" } : Jvm.MethodName)) ∈ lw_all := lw_g (lw_at lw_m1 198 rfl) rfl
theorem q568 : (Jvm.Cond.selects "EggLights$Refused" ({ cls := "java/lang/Throwable", name := "fillInStackTrace", desc := "()Ljava/lang/Throwable;" } : Jvm.MethodName) ({ cls := "java/lang/Throwable", name := "fillInStackTrace", desc := "()Ljava/lang/Throwable;" } : Jvm.MethodName)) ∈ lw_all := lw_g (lw_at lw_m3 40 rfl) rfl
theorem q593 : (Jvm.Cond.selects "EggLights$Refused" ({ cls := "java/lang/Throwable", name := "toString", desc := "()Ljava/lang/String;" } : Jvm.MethodName) ({ cls := "java/lang/Throwable", name := "toString", desc := "()Ljava/lang/String;" } : Jvm.MethodName)) ∈ lw_all := lw_g (lw_at lw_m3 65 rfl) rfl
theorem q603 : (Jvm.Cond.selects "EggLights$Refused" ({ cls := "java/lang/Throwable", name := "getLocalizedMessage", desc := "()Ljava/lang/String;" } : Jvm.MethodName) ({ cls := "java/lang/Throwable", name := "getLocalizedMessage", desc := "()Ljava/lang/String;" } : Jvm.MethodName)) ∈ lw_all := lw_g (lw_at lw_m3 75 rfl) rfl
theorem q612 : (Jvm.Cond.selects "EggLights$Refused" ({ cls := "java/lang/Throwable", name := "getMessage", desc := "()Ljava/lang/String;" } : Jvm.MethodName) ({ cls := "java/lang/Throwable", name := "getMessage", desc := "()Ljava/lang/String;" } : Jvm.MethodName)) ∈ lw_all := lw_g (lw_at lw_m3 84 rfl) rfl
theorem q1004 : (Jvm.Cond.instantiable "EggLights$Refused" (7 : Nat)) ∈ lw_all := lw_g (lw_at lw_m4 236 rfl) rfl
theorem q1005 : (Jvm.Cond.castable "EggLights$Refused" "EggLights$Refused") ∈ lw_tbl := lw_at lw_m4 237 rfl
theorem q1006 : (Jvm.Cond.selects "EggLights$Refused" ({ cls := "java/lang/Throwable", name := "fillInStackTrace", desc := "(I)Ljava/lang/Throwable;" } : Jvm.MethodName) ({ cls := "java/lang/Throwable", name := "fillInStackTrace", desc := "(I)Ljava/lang/Throwable;" } : Jvm.MethodName)) ∈ lw_all := lw_g (lw_at lw_m4 238 rfl) rfl
theorem q1007 : (Jvm.Cond.lays "EggLights$Refused" "java/lang/Throwable" "cause" "Ljava/lang/Throwable;") ∈ lw_all := lw_g (lw_at lw_m4 239 rfl) rfl
theorem q1008 : (Jvm.Cond.lays "EggLights$Refused" "java/lang/Throwable" "stackTrace" "[Ljava/lang/StackTraceElement;") ∈ lw_all := lw_g (lw_at lw_m5 0 rfl) rfl
theorem q1009 : (Jvm.Cond.lays "EggLights$Refused" "java/lang/Throwable" "suppressedExceptions" "Ljava/util/List;") ∈ lw_all := lw_g (lw_at lw_m5 1 rfl) rfl
theorem q1010 : (Jvm.Cond.lays "EggLights$Refused" "java/lang/Throwable" "detailMessage" "Ljava/lang/String;") ∈ lw_all := lw_g (lw_at lw_m5 2 rfl) rfl
theorem q1011 : (Jvm.Cond.lays "EggLights$Refused" "java/lang/Throwable" "backtrace" "Ljava/lang/Object;") ∈ lw_all := lw_g (lw_at lw_m5 3 rfl) rfl
theorem q1013 : (Jvm.Cond.instanceMethod ({ cls := "EggLights$Refused", name := "<init>", desc := "(I)V" } : Jvm.MethodName)) ∈ lw_all := lw_g (lw_at lw_m5 5 rfl) rfl
theorem q1014 : (Jvm.Cond.code ({ cls := "EggLights$Refused", name := "<init>", desc := "(I)V" } : Jvm.MethodName) prog_10_method_1_code (2 : Nat) (Option.none : Option Jvm.ClassFile.FieldType)) ∈ lw_all := lw_g (lw_at lw_m5 6 rfl) rfl
theorem q1015 : (Jvm.Cond.stringRef "EggLights$Refused" (1 : Nat) "refused") ∈ lw_tbl := lw_at lw_m5 7 rfl
theorem q1016 : (Jvm.Cond.methodLink "EggLights$Refused" (3 : Nat) ({ cls := "java/lang/Exception", name := "<init>", desc := "(Ljava/lang/String;)V" } : Jvm.MethodName)) ∈ lw_all := lw_g (lw_at lw_m5 8 rfl) rfl
theorem q1022 : (Jvm.Cond.fieldLink "EggLights$Refused" (9 : Nat) "EggLights$Refused" "code" "I") ∈ lw_all := lw_g (lw_at lw_m5 14 rfl) rfl
theorem q1025 : (Jvm.Cond.laysFinal "EggLights$Refused" "EggLights$Refused" "code" "I") ∈ lw_all := lw_g (lw_at lw_m5 17 rfl) rfl
theorem q1026 : (Jvm.Cond.soleField "EggLights$Refused" "code") ∈ lw_all := lw_g (lw_at lw_m5 18 rfl) rfl
theorem q1027 : (Jvm.Cond.lays "EggLights$Refused" "java/lang/Throwable" "depth" "I") ∈ lw_all := lw_g (lw_at lw_m5 19 rfl) rfl
theorem q1028 : (Jvm.Cond.superclass "EggLights$Refused" "java/lang/Exception") ∈ lw_all := lw_g (lw_at lw_m5 20 rfl) rfl
theorem q1976 : (Jvm.Cond.castable "EggLights$Refused" "java/lang/Object") ∈ lw_tbl := lw_at lw_m9 8 rfl
theorem in_X6 : ∀ w ∈ wsX60, w ∈ lw_all := lw_in wsX60 [1007, 1008, 1009, 1010, 1011, 1027, 1025] (by decide +kernel) (by decide +kernel)

/-! EggLights$Ungraded -/
set_option maxRecDepth 100000
def RX7 : String := "EggLights$Ungraded"
def TX7 : u_T := fun k => match k with
  | 0 => ("java/lang/Throwable", "cause", "Ljava/lang/Throwable;", false)
  | 1 => ("java/lang/Throwable", "stackTrace", "[Ljava/lang/StackTraceElement;", false)
  | 2 => ("java/lang/Throwable", "suppressedExceptions", "Ljava/util/List;", false)
  | 3 => ("java/lang/Throwable", "detailMessage", "Ljava/lang/String;", false)
  | 4 => ("java/lang/Throwable", "backtrace", "Ljava/lang/Object;", false)
  | _ => ("java/lang/Throwable", "depth", "I", false)
def tyX7 : Nat → FieldType := fun k => match k with
  | 0 => .object "java/lang/Throwable"
  | 1 => .array (.object "java/lang/StackTraceElement")
  | 2 => .object "java/util/List"
  | 3 => .object "java/lang/String"
  | 4 => .object "java/lang/Object"
  | _ => .int
abbrev wsX70 : List Cond := u_ws RX7 TX7 6
theorem nmX7 : ∀ a, a < 6 → ∀ b, b < 6 → a ≠ b → (TX7 a).2.1 ≠ (TX7 b).2.1 := by decide +kernel
theorem tyX7_ok : ∀ k, k < 6 → parseFieldDescriptor (TX7 k).2.2.1 = some (tyX7 k) := by decide +kernel
abbrev cX7_init : ByteArray := prog_11_method_2_code
def yX7_init : MethodName := ⟨RX7, "<init>", "()V"⟩
def dkwX7_init_0 : List UInt8 := [42, 18, 11, 183, 0, 13, 177]
abbrev dktX7_init_0 : List UInt8 := dkwX7_init_0 ++ []
theorem dksX7_init_0 : cX7_init.data.toList.drop 0 = dktX7_init_0 := by decide +kernel
theorem dX7_init_0 : decode cX7_init 0 = .ok (.aload_n 0, 1) := dk_42 (dk_at dksX7_init_0 0 rfl rfl)
theorem dX7_init_1 : decode cX7_init 1 = .ok (.ldc 11, 2) := dk_18 11 (dk_at dksX7_init_0 1 rfl rfl)
theorem dX7_init_3 : decode cX7_init 3 = .ok (.invokespecial 13, 3) := dk_183 0 13 (dk_at dksX7_init_0 3 rfl rfl)
theorem dX7_init_6 : decode cX7_init 6 = .ok (.return_, 1) := dk_177 (dk_at dksX7_init_0 6 rfl rfl)
abbrev cX7_init_2 : ByteArray := prog_11_method_1_code
def yX7_init_2 : MethodName := ⟨RX7, "<init>", "(LEggLights$Wrong;)V"⟩
def dkwX7_init_2_0 : List UInt8 := [42, 18, 3, 43, 183, 0, 5, 177]
abbrev dktX7_init_2_0 : List UInt8 := dkwX7_init_2_0 ++ []
theorem dksX7_init_2_0 : cX7_init_2.data.toList.drop 0 = dktX7_init_2_0 := by decide +kernel
theorem dX7_init_2_0 : decode cX7_init_2 0 = .ok (.aload_n 0, 1) := dk_42 (dk_at dksX7_init_2_0 0 rfl rfl)
theorem dX7_init_2_1 : decode cX7_init_2 1 = .ok (.ldc 3, 2) := dk_18 3 (dk_at dksX7_init_2_0 1 rfl rfl)
theorem dX7_init_2_3 : decode cX7_init_2 3 = .ok (.aload_n 1, 1) := dk_43 (dk_at dksX7_init_2_0 3 rfl rfl)
theorem dX7_init_2_4 : decode cX7_init_2 4 = .ok (.invokespecial 5, 3) := dk_183 0 5 (dk_at dksX7_init_2_0 4 rfl rfl)
theorem dX7_init_2_7 : decode cX7_init_2 7 = .ok (.return_, 1) := dk_177 (dk_at dksX7_init_2_0 7 rfl rfl)
abbrev cX7_reason : ByteArray := prog_11_method_3_code
def yX7_reason : MethodName := ⟨RX7, "reason", "()I"⟩
def dkwX7_reason_0 : List UInt8 := [42, 182, 0, 16, 76, 43, 193, 0, 22, 153, 0, 13, 43, 192, 0, 22, 180, 0, 24, 167, 0, 4, 4, 172]
abbrev dktX7_reason_0 : List UInt8 := dkwX7_reason_0 ++ []
theorem dksX7_reason_0 : cX7_reason.data.toList.drop 0 = dktX7_reason_0 := by decide +kernel
theorem dX7_reason_0 : decode cX7_reason 0 = .ok (.aload_n 0, 1) := dk_42 (dk_at dksX7_reason_0 0 rfl rfl)
theorem dX7_reason_1 : decode cX7_reason 1 = .ok (.invokevirtual 16, 3) := dk_182 0 16 (dk_at dksX7_reason_0 1 rfl rfl)
theorem dX7_reason_4 : decode cX7_reason 4 = .ok (.astore_n 1, 1) := dk_76 (dk_at dksX7_reason_0 4 rfl rfl)
theorem dX7_reason_5 : decode cX7_reason 5 = .ok (.aload_n 1, 1) := dk_43 (dk_at dksX7_reason_0 5 rfl rfl)
theorem dX7_reason_6 : decode cX7_reason 6 = .ok (.instanceof 22, 3) := dk_193 0 22 (dk_at dksX7_reason_0 6 rfl rfl)
theorem dX7_reason_9 : decode cX7_reason 9 = .ok (.ifCond .eq 13, 3) := dk_153 0 13 (dk_at dksX7_reason_0 9 rfl rfl)
theorem dX7_reason_12 : decode cX7_reason 12 = .ok (.aload_n 1, 1) := dk_43 (dk_at dksX7_reason_0 12 rfl rfl)
theorem dX7_reason_13 : decode cX7_reason 13 = .ok (.checkcast 22, 3) := dk_192 0 22 (dk_at dksX7_reason_0 13 rfl rfl)
theorem dX7_reason_16 : decode cX7_reason 16 = .ok (.getfield 24, 3) := dk_180 0 24 (dk_at dksX7_reason_0 16 rfl rfl)
theorem dX7_reason_19 : decode cX7_reason 19 = .ok (.goto 4, 3) := dk_167 0 4 (dk_at dksX7_reason_0 19 rfl rfl)
theorem dX7_reason_22 : decode cX7_reason 22 = .ok (.iconst 1, 1) := dk_4 (dk_at dksX7_reason_0 22 rfl rfl)
theorem dX7_reason_23 : decode cX7_reason 23 = .ok (.ireturn, 1) := dk_172 (dk_at dksX7_reason_0 23 rfl rfl)
theorem q83 : (Jvm.Cond.initialized "EggLights$Ungraded") ∈ lw_all := lw_g (lw_at lw_m1 35 rfl) rfl
theorem q247 : (Jvm.Cond.selects "EggLights$Ungraded" ({ cls := "java/lang/Object", name := "getClass", desc := "()Ljava/lang/Class;" } : Jvm.MethodName) ({ cls := "java/lang/Object", name := "getClass", desc := "()Ljava/lang/Class;" } : Jvm.MethodName)) ∈ lw_all := lw_g (lw_at lw_m1 199 rfl) rfl
theorem q569 : (Jvm.Cond.selects "EggLights$Ungraded" ({ cls := "java/lang/Throwable", name := "fillInStackTrace", desc := "()Ljava/lang/Throwable;" } : Jvm.MethodName) ({ cls := "java/lang/Throwable", name := "fillInStackTrace", desc := "()Ljava/lang/Throwable;" } : Jvm.MethodName)) ∈ lw_all := lw_g (lw_at lw_m3 41 rfl) rfl
theorem q594 : (Jvm.Cond.selects "EggLights$Ungraded" ({ cls := "java/lang/Throwable", name := "toString", desc := "()Ljava/lang/String;" } : Jvm.MethodName) ({ cls := "java/lang/Throwable", name := "toString", desc := "()Ljava/lang/String;" } : Jvm.MethodName)) ∈ lw_all := lw_g (lw_at lw_m3 66 rfl) rfl
theorem q604 : (Jvm.Cond.selects "EggLights$Ungraded" ({ cls := "java/lang/Throwable", name := "getLocalizedMessage", desc := "()Ljava/lang/String;" } : Jvm.MethodName) ({ cls := "java/lang/Throwable", name := "getLocalizedMessage", desc := "()Ljava/lang/String;" } : Jvm.MethodName)) ∈ lw_all := lw_g (lw_at lw_m3 76 rfl) rfl
theorem q613 : (Jvm.Cond.selects "EggLights$Ungraded" ({ cls := "java/lang/Throwable", name := "getMessage", desc := "()Ljava/lang/String;" } : Jvm.MethodName) ({ cls := "java/lang/Throwable", name := "getMessage", desc := "()Ljava/lang/String;" } : Jvm.MethodName)) ∈ lw_all := lw_g (lw_at lw_m3 85 rfl) rfl
theorem q1085 : (Jvm.Cond.instantiable "EggLights$Ungraded" (6 : Nat)) ∈ lw_all := lw_g (lw_at lw_m5 77 rfl) rfl
theorem q1086 : (Jvm.Cond.castable "EggLights$Ungraded" "EggLights$Ungraded") ∈ lw_tbl := lw_at lw_m5 78 rfl
theorem q1087 : (Jvm.Cond.selects "EggLights$Ungraded" ({ cls := "java/lang/Throwable", name := "fillInStackTrace", desc := "(I)Ljava/lang/Throwable;" } : Jvm.MethodName) ({ cls := "java/lang/Throwable", name := "fillInStackTrace", desc := "(I)Ljava/lang/Throwable;" } : Jvm.MethodName)) ∈ lw_all := lw_g (lw_at lw_m5 79 rfl) rfl
theorem q1088 : (Jvm.Cond.lays "EggLights$Ungraded" "java/lang/Throwable" "cause" "Ljava/lang/Throwable;") ∈ lw_all := lw_g (lw_at lw_m5 80 rfl) rfl
theorem q1089 : (Jvm.Cond.lays "EggLights$Ungraded" "java/lang/Throwable" "stackTrace" "[Ljava/lang/StackTraceElement;") ∈ lw_all := lw_g (lw_at lw_m5 81 rfl) rfl
theorem q1090 : (Jvm.Cond.lays "EggLights$Ungraded" "java/lang/Throwable" "suppressedExceptions" "Ljava/util/List;") ∈ lw_all := lw_g (lw_at lw_m5 82 rfl) rfl
theorem q1091 : (Jvm.Cond.lays "EggLights$Ungraded" "java/lang/Throwable" "detailMessage" "Ljava/lang/String;") ∈ lw_all := lw_g (lw_at lw_m5 83 rfl) rfl
theorem q1092 : (Jvm.Cond.lays "EggLights$Ungraded" "java/lang/Throwable" "backtrace" "Ljava/lang/Object;") ∈ lw_all := lw_g (lw_at lw_m5 84 rfl) rfl
theorem q1094 : (Jvm.Cond.instanceMethod ({ cls := "EggLights$Ungraded", name := "<init>", desc := "()V" } : Jvm.MethodName)) ∈ lw_all := lw_g (lw_at lw_m5 86 rfl) rfl
theorem q1095 : (Jvm.Cond.code ({ cls := "EggLights$Ungraded", name := "<init>", desc := "()V" } : Jvm.MethodName) prog_11_method_2_code (1 : Nat) (Option.none : Option Jvm.ClassFile.FieldType)) ∈ lw_all := lw_g (lw_at lw_m5 87 rfl) rfl
theorem q1096 : (Jvm.Cond.stringRef "EggLights$Ungraded" (11 : Nat) "no egg") ∈ lw_tbl := lw_at lw_m5 88 rfl
theorem q1097 : (Jvm.Cond.methodLink "EggLights$Ungraded" (13 : Nat) ({ cls := "java/lang/Exception", name := "<init>", desc := "(Ljava/lang/String;)V" } : Jvm.MethodName)) ∈ lw_all := lw_g (lw_at lw_m5 89 rfl) rfl
theorem q1098 : (Jvm.Cond.lays "EggLights$Ungraded" "java/lang/Throwable" "depth" "I") ∈ lw_all := lw_g (lw_at lw_m5 90 rfl) rfl
theorem q1099 : (Jvm.Cond.superclass "EggLights$Ungraded" "java/lang/Exception") ∈ lw_all := lw_g (lw_at lw_m5 91 rfl) rfl
theorem q1135 : (Jvm.Cond.fieldLinkNest "EggLights$Ungraded" (24 : Nat) "EggLights$Wrong" "reason" "I" "EggLights") ∈ lw_tbl := lw_at lw_m5 127 rfl
theorem q1173 : (Jvm.Cond.instanceMethod ({ cls := "EggLights$Ungraded", name := "<init>", desc := "(LEggLights$Wrong;)V" } : Jvm.MethodName)) ∈ lw_all := lw_g (lw_at lw_m5 165 rfl) rfl
theorem q1174 : (Jvm.Cond.code ({ cls := "EggLights$Ungraded", name := "<init>", desc := "(LEggLights$Wrong;)V" } : Jvm.MethodName) prog_11_method_1_code (2 : Nat) (Option.none : Option Jvm.ClassFile.FieldType)) ∈ lw_all := lw_g (lw_at lw_m5 166 rfl) rfl
theorem q1175 : (Jvm.Cond.stringRef "EggLights$Ungraded" (3 : Nat) "ungraded") ∈ lw_tbl := lw_at lw_m5 167 rfl
theorem q1176 : (Jvm.Cond.methodLink "EggLights$Ungraded" (5 : Nat) ({ cls := "java/lang/Exception", name := "<init>", desc := "(Ljava/lang/String;Ljava/lang/Throwable;)V" } : Jvm.MethodName)) ∈ lw_all := lw_g (lw_at lw_m5 168 rfl) rfl
theorem q1245 : (Jvm.Cond.instanceMethod ({ cls := "EggLights$Ungraded", name := "reason", desc := "()I" } : Jvm.MethodName)) ∈ lw_all := lw_g (lw_at lw_m5 237 rfl) rfl
theorem q1246 : (Jvm.Cond.selects "EggLights$Ungraded" ({ cls := "EggLights$Ungraded", name := "reason", desc := "()I" } : Jvm.MethodName) ({ cls := "EggLights$Ungraded", name := "reason", desc := "()I" } : Jvm.MethodName)) ∈ lw_all := lw_g (lw_at lw_m5 238 rfl) rfl
theorem q1247 : (Jvm.Cond.code ({ cls := "EggLights$Ungraded", name := "reason", desc := "()I" } : Jvm.MethodName) prog_11_method_3_code (2 : Nat) (Option.some Jvm.ClassFile.FieldType.int)) ∈ lw_all := lw_g (lw_at lw_m5 239 rfl) rfl
theorem q1248 : (Jvm.Cond.methodLink "EggLights$Ungraded" (16 : Nat) ({ cls := "EggLights$Ungraded", name := "getCause", desc := "()Ljava/lang/Throwable;" } : Jvm.MethodName)) ∈ lw_all := lw_g (lw_at lw_m6 0 rfl) rfl
theorem q1249 : (Jvm.Cond.sameMethod "EggLights$Ungraded" "java/lang/Throwable" "getCause" "()Ljava/lang/Throwable;") ∈ lw_all := lw_g (lw_at lw_m6 1 rfl) rfl
theorem q1251 : (Jvm.Cond.selects "EggLights$Ungraded" ({ cls := "EggLights$Ungraded", name := "getCause", desc := "()Ljava/lang/Throwable;" } : Jvm.MethodName) ({ cls := "java/lang/Throwable", name := "getCause", desc := "()Ljava/lang/Throwable;" } : Jvm.MethodName)) ∈ lw_all := lw_g (lw_at lw_m6 3 rfl) rfl
theorem q1254 : (Jvm.Cond.classLink "EggLights$Ungraded" (22 : Nat) "EggLights$Wrong") ∈ lw_all := lw_g (lw_at lw_m6 6 rfl) rfl
theorem q1977 : (Jvm.Cond.castable "EggLights$Ungraded" "java/lang/Object") ∈ lw_tbl := lw_at lw_m9 9 rfl
theorem in_X7 : ∀ w ∈ wsX70, w ∈ lw_all := lw_in wsX70 [1088, 1089, 1090, 1091, 1092, 1098] (by decide +kernel) (by decide +kernel)

/-! EggLights$Wrong -/
set_option maxRecDepth 100000
def RX8 : String := "EggLights$Wrong"
abbrev cX8_init : ByteArray := prog_12_method_1_code
def yX8_init : MethodName := ⟨RX8, "<init>", "(I)V"⟩
def dkwX8_init_0 : List UInt8 := [42, 18, 1, 183, 0, 3, 42, 27, 181, 0, 9, 177]
abbrev dktX8_init_0 : List UInt8 := dkwX8_init_0 ++ []
theorem dksX8_init_0 : cX8_init.data.toList.drop 0 = dktX8_init_0 := by decide +kernel
theorem dX8_init_0 : decode cX8_init 0 = .ok (.aload_n 0, 1) := dk_42 (dk_at dksX8_init_0 0 rfl rfl)
theorem dX8_init_1 : decode cX8_init 1 = .ok (.ldc 1, 2) := dk_18 1 (dk_at dksX8_init_0 1 rfl rfl)
theorem dX8_init_3 : decode cX8_init 3 = .ok (.invokespecial 3, 3) := dk_183 0 3 (dk_at dksX8_init_0 3 rfl rfl)
theorem dX8_init_6 : decode cX8_init 6 = .ok (.aload_n 0, 1) := dk_42 (dk_at dksX8_init_0 6 rfl rfl)
theorem dX8_init_7 : decode cX8_init 7 = .ok (.iload_n 1, 1) := dk_27 (dk_at dksX8_init_0 7 rfl rfl)
theorem dX8_init_8 : decode cX8_init 8 = .ok (.putfield 9, 3) := dk_181 0 9 (dk_at dksX8_init_0 8 rfl rfl)
theorem dX8_init_11 : decode cX8_init 11 = .ok (.return_, 1) := dk_177 (dk_at dksX8_init_0 11 rfl rfl)
theorem q84 : (Jvm.Cond.initialized "EggLights$Wrong") ∈ lw_all := lw_g (lw_at lw_m1 36 rfl) rfl
theorem q1130 : (Jvm.Cond.instanceMethod ({ cls := "EggLights$Wrong", name := "<init>", desc := "(I)V" } : Jvm.MethodName)) ∈ lw_all := lw_g (lw_at lw_m5 122 rfl) rfl
theorem q1131 : (Jvm.Cond.code ({ cls := "EggLights$Wrong", name := "<init>", desc := "(I)V" } : Jvm.MethodName) prog_12_method_1_code (2 : Nat) (Option.none : Option Jvm.ClassFile.FieldType)) ∈ lw_all := lw_g (lw_at lw_m5 123 rfl) rfl
theorem q1132 : (Jvm.Cond.stringRef "EggLights$Wrong" (1 : Nat) "wrong") ∈ lw_tbl := lw_at lw_m5 124 rfl
theorem q1133 : (Jvm.Cond.methodLink "EggLights$Wrong" (3 : Nat) ({ cls := "java/lang/Exception", name := "<init>", desc := "(Ljava/lang/String;)V" } : Jvm.MethodName)) ∈ lw_all := lw_g (lw_at lw_m5 125 rfl) rfl
theorem q1134 : (Jvm.Cond.fieldLink "EggLights$Wrong" (9 : Nat) "EggLights$Wrong" "reason" "I") ∈ lw_all := lw_g (lw_at lw_m5 126 rfl) rfl
theorem q1137 : (Jvm.Cond.soleField "EggLights$Wrong" "reason") ∈ lw_all := lw_g (lw_at lw_m5 129 rfl) rfl

/-! EggLights$Dark -/
set_option maxRecDepth 100000
def RX9 : String := "EggLights$Dark"
def TX9 : u_T := fun k => match k with
  | 0 => ("EggLights$Wrong", "reason", "I", true)
  | 1 => ("java/lang/Throwable", "cause", "Ljava/lang/Throwable;", false)
  | 2 => ("java/lang/Throwable", "stackTrace", "[Ljava/lang/StackTraceElement;", false)
  | 3 => ("java/lang/Throwable", "suppressedExceptions", "Ljava/util/List;", false)
  | 4 => ("java/lang/Throwable", "detailMessage", "Ljava/lang/String;", false)
  | 5 => ("java/lang/Throwable", "backtrace", "Ljava/lang/Object;", false)
  | _ => ("java/lang/Throwable", "depth", "I", false)
def tyX9 : Nat → FieldType := fun k => match k with
  | 0 => .int
  | 1 => .object "java/lang/Throwable"
  | 2 => .array (.object "java/lang/StackTraceElement")
  | 3 => .object "java/util/List"
  | 4 => .object "java/lang/String"
  | 5 => .object "java/lang/Object"
  | _ => .int
abbrev wsX90 : List Cond := u_ws RX9 TX9 7
theorem nmX9 : ∀ a, a < 7 → ∀ b, b < 7 → a ≠ b → (TX9 a).2.1 ≠ (TX9 b).2.1 := by decide +kernel
theorem tyX9_ok : ∀ k, k < 7 → parseFieldDescriptor (TX9 k).2.2.1 = some (tyX9 k) := by decide +kernel
abbrev cX9_init : ByteArray := prog_4_method_1_code
def yX9_init : MethodName := ⟨RX9, "<init>", "()V"⟩
def dkwX9_init_0 : List UInt8 := [42, 5, 183, 0, 3, 177]
abbrev dktX9_init_0 : List UInt8 := dkwX9_init_0 ++ []
theorem dksX9_init_0 : cX9_init.data.toList.drop 0 = dktX9_init_0 := by decide +kernel
theorem dX9_init_0 : decode cX9_init 0 = .ok (.aload_n 0, 1) := dk_42 (dk_at dksX9_init_0 0 rfl rfl)
theorem dX9_init_1 : decode cX9_init 1 = .ok (.iconst 2, 1) := dk_5 (dk_at dksX9_init_0 1 rfl rfl)
theorem dX9_init_2 : decode cX9_init 2 = .ok (.invokespecial 3, 3) := dk_183 0 3 (dk_at dksX9_init_0 2 rfl rfl)
theorem dX9_init_5 : decode cX9_init 5 = .ok (.return_, 1) := dk_177 (dk_at dksX9_init_0 5 rfl rfl)
theorem q85 : (Jvm.Cond.initialized "EggLights$Dark") ∈ lw_all := lw_g (lw_at lw_m1 37 rfl) rfl
theorem q240 : (Jvm.Cond.selects "EggLights$Dark" ({ cls := "java/lang/Object", name := "getClass", desc := "()Ljava/lang/Class;" } : Jvm.MethodName) ({ cls := "java/lang/Object", name := "getClass", desc := "()Ljava/lang/Class;" } : Jvm.MethodName)) ∈ lw_all := lw_g (lw_at lw_m1 192 rfl) rfl
theorem q567 : (Jvm.Cond.selects "EggLights$Dark" ({ cls := "java/lang/Throwable", name := "fillInStackTrace", desc := "()Ljava/lang/Throwable;" } : Jvm.MethodName) ({ cls := "java/lang/Throwable", name := "fillInStackTrace", desc := "()Ljava/lang/Throwable;" } : Jvm.MethodName)) ∈ lw_all := lw_g (lw_at lw_m3 39 rfl) rfl
theorem q592 : (Jvm.Cond.selects "EggLights$Dark" ({ cls := "java/lang/Throwable", name := "toString", desc := "()Ljava/lang/String;" } : Jvm.MethodName) ({ cls := "java/lang/Throwable", name := "toString", desc := "()Ljava/lang/String;" } : Jvm.MethodName)) ∈ lw_all := lw_g (lw_at lw_m3 64 rfl) rfl
theorem q602 : (Jvm.Cond.selects "EggLights$Dark" ({ cls := "java/lang/Throwable", name := "getLocalizedMessage", desc := "()Ljava/lang/String;" } : Jvm.MethodName) ({ cls := "java/lang/Throwable", name := "getLocalizedMessage", desc := "()Ljava/lang/String;" } : Jvm.MethodName)) ∈ lw_all := lw_g (lw_at lw_m3 74 rfl) rfl
theorem q611 : (Jvm.Cond.selects "EggLights$Dark" ({ cls := "java/lang/Throwable", name := "getMessage", desc := "()Ljava/lang/String;" } : Jvm.MethodName) ({ cls := "java/lang/Throwable", name := "getMessage", desc := "()Ljava/lang/String;" } : Jvm.MethodName)) ∈ lw_all := lw_g (lw_at lw_m3 83 rfl) rfl
theorem q1118 : (Jvm.Cond.instantiable "EggLights$Dark" (7 : Nat)) ∈ lw_all := lw_g (lw_at lw_m5 110 rfl) rfl
theorem q1119 : (Jvm.Cond.castable "EggLights$Dark" "EggLights$Dark") ∈ lw_tbl := lw_at lw_m5 111 rfl
theorem q1120 : (Jvm.Cond.selects "EggLights$Dark" ({ cls := "java/lang/Throwable", name := "fillInStackTrace", desc := "(I)Ljava/lang/Throwable;" } : Jvm.MethodName) ({ cls := "java/lang/Throwable", name := "fillInStackTrace", desc := "(I)Ljava/lang/Throwable;" } : Jvm.MethodName)) ∈ lw_all := lw_g (lw_at lw_m5 112 rfl) rfl
theorem q1121 : (Jvm.Cond.lays "EggLights$Dark" "java/lang/Throwable" "cause" "Ljava/lang/Throwable;") ∈ lw_all := lw_g (lw_at lw_m5 113 rfl) rfl
theorem q1122 : (Jvm.Cond.lays "EggLights$Dark" "java/lang/Throwable" "stackTrace" "[Ljava/lang/StackTraceElement;") ∈ lw_all := lw_g (lw_at lw_m5 114 rfl) rfl
theorem q1123 : (Jvm.Cond.lays "EggLights$Dark" "java/lang/Throwable" "suppressedExceptions" "Ljava/util/List;") ∈ lw_all := lw_g (lw_at lw_m5 115 rfl) rfl
theorem q1124 : (Jvm.Cond.lays "EggLights$Dark" "java/lang/Throwable" "detailMessage" "Ljava/lang/String;") ∈ lw_all := lw_g (lw_at lw_m5 116 rfl) rfl
theorem q1125 : (Jvm.Cond.lays "EggLights$Dark" "java/lang/Throwable" "backtrace" "Ljava/lang/Object;") ∈ lw_all := lw_g (lw_at lw_m5 117 rfl) rfl
theorem q1127 : (Jvm.Cond.instanceMethod ({ cls := "EggLights$Dark", name := "<init>", desc := "()V" } : Jvm.MethodName)) ∈ lw_all := lw_g (lw_at lw_m5 119 rfl) rfl
theorem q1128 : (Jvm.Cond.code ({ cls := "EggLights$Dark", name := "<init>", desc := "()V" } : Jvm.MethodName) prog_4_method_1_code (1 : Nat) (Option.none : Option Jvm.ClassFile.FieldType)) ∈ lw_all := lw_g (lw_at lw_m5 120 rfl) rfl
theorem q1129 : (Jvm.Cond.methodLink "EggLights$Dark" (3 : Nat) ({ cls := "EggLights$Wrong", name := "<init>", desc := "(I)V" } : Jvm.MethodName)) ∈ lw_all := lw_g (lw_at lw_m5 121 rfl) rfl
theorem q1136 : (Jvm.Cond.laysFinal "EggLights$Dark" "EggLights$Wrong" "reason" "I") ∈ lw_all := lw_g (lw_at lw_m5 128 rfl) rfl
theorem q1138 : (Jvm.Cond.lays "EggLights$Dark" "java/lang/Throwable" "depth" "I") ∈ lw_all := lw_g (lw_at lw_m5 130 rfl) rfl
theorem q1139 : (Jvm.Cond.superclass "EggLights$Dark" "EggLights$Wrong") ∈ lw_all := lw_g (lw_at lw_m5 131 rfl) rfl
theorem q1958 : (Jvm.Cond.castable "EggLights$Dark" "EggLights$Wrong") ∈ lw_tbl := lw_at lw_m8 230 rfl
theorem q1978 : (Jvm.Cond.castable "EggLights$Dark" "java/lang/Object") ∈ lw_tbl := lw_at lw_m9 10 rfl
theorem in_X9 : ∀ w ∈ wsX90, w ∈ lw_all := lw_in wsX90 [1136, 1121, 1122, 1123, 1124, 1125, 1138] (by decide +kernel) (by decide +kernel)

/-! EggLights$Broken -/
set_option maxRecDepth 100000
def RX10 : String := "EggLights$Broken"
def TX10 : u_T := fun k => match k with
  | 0 => ("EggLights$Wrong", "reason", "I", true)
  | 1 => ("java/lang/Throwable", "cause", "Ljava/lang/Throwable;", false)
  | 2 => ("java/lang/Throwable", "stackTrace", "[Ljava/lang/StackTraceElement;", false)
  | 3 => ("java/lang/Throwable", "suppressedExceptions", "Ljava/util/List;", false)
  | 4 => ("java/lang/Throwable", "detailMessage", "Ljava/lang/String;", false)
  | 5 => ("java/lang/Throwable", "backtrace", "Ljava/lang/Object;", false)
  | _ => ("java/lang/Throwable", "depth", "I", false)
def tyX10 : Nat → FieldType := fun k => match k with
  | 0 => .int
  | 1 => .object "java/lang/Throwable"
  | 2 => .array (.object "java/lang/StackTraceElement")
  | 3 => .object "java/util/List"
  | 4 => .object "java/lang/String"
  | 5 => .object "java/lang/Object"
  | _ => .int
abbrev wsX100 : List Cond := u_ws RX10 TX10 7
theorem nmX10 : ∀ a, a < 7 → ∀ b, b < 7 → a ≠ b → (TX10 a).2.1 ≠ (TX10 b).2.1 := by decide +kernel
theorem tyX10_ok : ∀ k, k < 7 → parseFieldDescriptor (TX10 k).2.2.1 = some (tyX10 k) := by decide +kernel
abbrev cX10_init : ByteArray := prog_2_method_1_code
def yX10_init : MethodName := ⟨RX10, "<init>", "()V"⟩
def dkwX10_init_0 : List UInt8 := [42, 6, 183, 0, 3, 177]
abbrev dktX10_init_0 : List UInt8 := dkwX10_init_0 ++ []
theorem dksX10_init_0 : cX10_init.data.toList.drop 0 = dktX10_init_0 := by decide +kernel
theorem dX10_init_0 : decode cX10_init 0 = .ok (.aload_n 0, 1) := dk_42 (dk_at dksX10_init_0 0 rfl rfl)
theorem dX10_init_1 : decode cX10_init 1 = .ok (.iconst 3, 1) := dk_6 (dk_at dksX10_init_0 1 rfl rfl)
theorem dX10_init_2 : decode cX10_init 2 = .ok (.invokespecial 3, 3) := dk_183 0 3 (dk_at dksX10_init_0 2 rfl rfl)
theorem dX10_init_5 : decode cX10_init 5 = .ok (.return_, 1) := dk_177 (dk_at dksX10_init_0 5 rfl rfl)
theorem q86 : (Jvm.Cond.initialized "EggLights$Broken") ∈ lw_all := lw_g (lw_at lw_m1 38 rfl) rfl
theorem q238 : (Jvm.Cond.selects "EggLights$Broken" ({ cls := "java/lang/Object", name := "getClass", desc := "()Ljava/lang/Class;" } : Jvm.MethodName) ({ cls := "java/lang/Object", name := "getClass", desc := "()Ljava/lang/Class;" } : Jvm.MethodName)) ∈ lw_all := lw_g (lw_at lw_m1 190 rfl) rfl
theorem q566 : (Jvm.Cond.selects "EggLights$Broken" ({ cls := "java/lang/Throwable", name := "fillInStackTrace", desc := "()Ljava/lang/Throwable;" } : Jvm.MethodName) ({ cls := "java/lang/Throwable", name := "fillInStackTrace", desc := "()Ljava/lang/Throwable;" } : Jvm.MethodName)) ∈ lw_all := lw_g (lw_at lw_m3 38 rfl) rfl
theorem q591 : (Jvm.Cond.selects "EggLights$Broken" ({ cls := "java/lang/Throwable", name := "toString", desc := "()Ljava/lang/String;" } : Jvm.MethodName) ({ cls := "java/lang/Throwable", name := "toString", desc := "()Ljava/lang/String;" } : Jvm.MethodName)) ∈ lw_all := lw_g (lw_at lw_m3 63 rfl) rfl
theorem q601 : (Jvm.Cond.selects "EggLights$Broken" ({ cls := "java/lang/Throwable", name := "getLocalizedMessage", desc := "()Ljava/lang/String;" } : Jvm.MethodName) ({ cls := "java/lang/Throwable", name := "getLocalizedMessage", desc := "()Ljava/lang/String;" } : Jvm.MethodName)) ∈ lw_all := lw_g (lw_at lw_m3 73 rfl) rfl
theorem q610 : (Jvm.Cond.selects "EggLights$Broken" ({ cls := "java/lang/Throwable", name := "getMessage", desc := "()Ljava/lang/String;" } : Jvm.MethodName) ({ cls := "java/lang/Throwable", name := "getMessage", desc := "()Ljava/lang/String;" } : Jvm.MethodName)) ∈ lw_all := lw_g (lw_at lw_m3 82 rfl) rfl
theorem q1145 : (Jvm.Cond.instantiable "EggLights$Broken" (7 : Nat)) ∈ lw_all := lw_g (lw_at lw_m5 137 rfl) rfl
theorem q1146 : (Jvm.Cond.castable "EggLights$Broken" "EggLights$Broken") ∈ lw_tbl := lw_at lw_m5 138 rfl
theorem q1147 : (Jvm.Cond.selects "EggLights$Broken" ({ cls := "java/lang/Throwable", name := "fillInStackTrace", desc := "(I)Ljava/lang/Throwable;" } : Jvm.MethodName) ({ cls := "java/lang/Throwable", name := "fillInStackTrace", desc := "(I)Ljava/lang/Throwable;" } : Jvm.MethodName)) ∈ lw_all := lw_g (lw_at lw_m5 139 rfl) rfl
theorem q1148 : (Jvm.Cond.lays "EggLights$Broken" "java/lang/Throwable" "cause" "Ljava/lang/Throwable;") ∈ lw_all := lw_g (lw_at lw_m5 140 rfl) rfl
theorem q1149 : (Jvm.Cond.lays "EggLights$Broken" "java/lang/Throwable" "stackTrace" "[Ljava/lang/StackTraceElement;") ∈ lw_all := lw_g (lw_at lw_m5 141 rfl) rfl
theorem q1150 : (Jvm.Cond.lays "EggLights$Broken" "java/lang/Throwable" "suppressedExceptions" "Ljava/util/List;") ∈ lw_all := lw_g (lw_at lw_m5 142 rfl) rfl
theorem q1151 : (Jvm.Cond.lays "EggLights$Broken" "java/lang/Throwable" "detailMessage" "Ljava/lang/String;") ∈ lw_all := lw_g (lw_at lw_m5 143 rfl) rfl
theorem q1152 : (Jvm.Cond.lays "EggLights$Broken" "java/lang/Throwable" "backtrace" "Ljava/lang/Object;") ∈ lw_all := lw_g (lw_at lw_m5 144 rfl) rfl
theorem q1154 : (Jvm.Cond.instanceMethod ({ cls := "EggLights$Broken", name := "<init>", desc := "()V" } : Jvm.MethodName)) ∈ lw_all := lw_g (lw_at lw_m5 146 rfl) rfl
theorem q1155 : (Jvm.Cond.code ({ cls := "EggLights$Broken", name := "<init>", desc := "()V" } : Jvm.MethodName) prog_2_method_1_code (1 : Nat) (Option.none : Option Jvm.ClassFile.FieldType)) ∈ lw_all := lw_g (lw_at lw_m5 147 rfl) rfl
theorem q1156 : (Jvm.Cond.methodLink "EggLights$Broken" (3 : Nat) ({ cls := "EggLights$Wrong", name := "<init>", desc := "(I)V" } : Jvm.MethodName)) ∈ lw_all := lw_g (lw_at lw_m5 148 rfl) rfl
theorem q1157 : (Jvm.Cond.laysFinal "EggLights$Broken" "EggLights$Wrong" "reason" "I") ∈ lw_all := lw_g (lw_at lw_m5 149 rfl) rfl
theorem q1158 : (Jvm.Cond.lays "EggLights$Broken" "java/lang/Throwable" "depth" "I") ∈ lw_all := lw_g (lw_at lw_m5 150 rfl) rfl
theorem q1159 : (Jvm.Cond.superclass "EggLights$Broken" "EggLights$Wrong") ∈ lw_all := lw_g (lw_at lw_m5 151 rfl) rfl
theorem q1957 : (Jvm.Cond.castable "EggLights$Broken" "EggLights$Wrong") ∈ lw_tbl := lw_at lw_m8 229 rfl
theorem q1979 : (Jvm.Cond.castable "EggLights$Broken" "java/lang/Object") ∈ lw_tbl := lw_at lw_m9 11 rfl
theorem in_X10 : ∀ w ∈ wsX100, w ∈ lw_all := lw_in wsX100 [1157, 1148, 1149, 1150, 1151, 1152, 1158] (by decide +kernel) (by decide +kernel)

/-! EggLights$Entry -/
set_option maxRecDepth 100000
def RX11 : String := "EggLights$Entry"
def TX11 : u_T := fun k => match k with
  | 0 => ("EggLights$Entry", "tick", "I", true)
  | 1 => ("EggLights$Entry", "lane", "I", true)
  | 2 => ("EggLights$Entry", "weight", "I", true)
  | 3 => ("EggLights$Entry", "grade", "I", true)
  | _ => ("EggLights$Entry", "isCracked", "Z", true)
def tyX11 : Nat → FieldType := fun k => match k with
  | 0 => .int
  | 1 => .int
  | 2 => .int
  | 3 => .int
  | _ => .boolean
abbrev wsX110 : List Cond := u_ws RX11 TX11 5
theorem nmX11 : ∀ a, a < 5 → ∀ b, b < 5 → a ≠ b → (TX11 a).2.1 ≠ (TX11 b).2.1 := by decide +kernel
theorem tyX11_ok : ∀ k, k < 5 → parseFieldDescriptor (TX11 k).2.2.1 = some (tyX11 k) := by decide +kernel
abbrev cX11_init : ByteArray := prog_6_method_1_code
def yX11_init : MethodName := ⟨RX11, "<init>", "(IIILEggLights$Egg;)V"⟩
def dkwX11_init_1 : List UInt8 := [180, 0, 19, 181, 0, 24, 42, 25, 4, 182, 0, 25, 181, 0, 29, 177]
abbrev dktX11_init_1 : List UInt8 := dkwX11_init_1 ++ []
def dkwX11_init_0 : List UInt8 := [42, 183, 0, 1, 42, 27, 181, 0, 7, 42, 28, 181, 0, 13, 42, 29, 181, 0, 16, 42, 25, 4]
abbrev dktX11_init_0 : List UInt8 := dkwX11_init_0 ++ dktX11_init_1
theorem dksX11_init_0 : cX11_init.data.toList.drop 0 = dktX11_init_0 := by decide +kernel
theorem dksX11_init_1 : cX11_init.data.toList.drop 22 = dktX11_init_1 := dk_seg dksX11_init_0 22 rfl rfl
theorem dX11_init_0 : decode cX11_init 0 = .ok (.aload_n 0, 1) := dk_42 (dk_at dksX11_init_0 0 rfl rfl)
theorem dX11_init_1 : decode cX11_init 1 = .ok (.invokespecial 1, 3) := dk_183 0 1 (dk_at dksX11_init_0 1 rfl rfl)
theorem dX11_init_4 : decode cX11_init 4 = .ok (.aload_n 0, 1) := dk_42 (dk_at dksX11_init_0 4 rfl rfl)
theorem dX11_init_5 : decode cX11_init 5 = .ok (.iload_n 1, 1) := dk_27 (dk_at dksX11_init_0 5 rfl rfl)
theorem dX11_init_6 : decode cX11_init 6 = .ok (.putfield 7, 3) := dk_181 0 7 (dk_at dksX11_init_0 6 rfl rfl)
theorem dX11_init_9 : decode cX11_init 9 = .ok (.aload_n 0, 1) := dk_42 (dk_at dksX11_init_0 9 rfl rfl)
theorem dX11_init_10 : decode cX11_init 10 = .ok (.iload_n 2, 1) := dk_28 (dk_at dksX11_init_0 10 rfl rfl)
theorem dX11_init_11 : decode cX11_init 11 = .ok (.putfield 13, 3) := dk_181 0 13 (dk_at dksX11_init_0 11 rfl rfl)
theorem dX11_init_14 : decode cX11_init 14 = .ok (.aload_n 0, 1) := dk_42 (dk_at dksX11_init_0 14 rfl rfl)
theorem dX11_init_15 : decode cX11_init 15 = .ok (.iload_n 3, 1) := dk_29 (dk_at dksX11_init_0 15 rfl rfl)
theorem dX11_init_16 : decode cX11_init 16 = .ok (.putfield 16, 3) := dk_181 0 16 (dk_at dksX11_init_0 16 rfl rfl)
theorem dX11_init_19 : decode cX11_init 19 = .ok (.aload_n 0, 1) := dk_42 (dk_at dksX11_init_0 19 rfl rfl)
theorem dX11_init_20 : decode cX11_init 20 = .ok (.aload 4, 2) := dk_25 4 (dk_at dksX11_init_0 20 rfl rfl)
theorem dX11_init_22 : decode cX11_init 22 = .ok (.getfield 19, 3) := dk_180 0 19 (dk_at dksX11_init_1 0 rfl rfl)
theorem dX11_init_25 : decode cX11_init 25 = .ok (.putfield 24, 3) := dk_181 0 24 (dk_at dksX11_init_1 3 rfl rfl)
theorem dX11_init_28 : decode cX11_init 28 = .ok (.aload_n 0, 1) := dk_42 (dk_at dksX11_init_1 6 rfl rfl)
theorem dX11_init_29 : decode cX11_init 29 = .ok (.aload 4, 2) := dk_25 4 (dk_at dksX11_init_1 7 rfl rfl)
theorem dX11_init_31 : decode cX11_init 31 = .ok (.invokevirtual 25, 3) := dk_182 0 25 (dk_at dksX11_init_1 9 rfl rfl)
theorem dX11_init_34 : decode cX11_init 34 = .ok (.putfield 29, 3) := dk_181 0 29 (dk_at dksX11_init_1 12 rfl rfl)
theorem dX11_init_37 : decode cX11_init 37 = .ok (.return_, 1) := dk_177 (dk_at dksX11_init_1 15 rfl rfl)
theorem q89 : (Jvm.Cond.initialized "EggLights$Entry") ∈ lw_all := lw_g (lw_at lw_m1 41 rfl) rfl
theorem q242 : (Jvm.Cond.selects "EggLights$Entry" ({ cls := "java/lang/Object", name := "getClass", desc := "()Ljava/lang/Class;" } : Jvm.MethodName) ({ cls := "java/lang/Object", name := "getClass", desc := "()Ljava/lang/Class;" } : Jvm.MethodName)) ∈ lw_all := lw_g (lw_at lw_m1 194 rfl) rfl
theorem q907 : (Jvm.Cond.fieldLinkNest "EggLights$Entry" (19 : Nat) "EggLights$Egg" "weight" "I" "EggLights") ∈ lw_tbl := lw_at lw_m4 139 rfl
theorem q1198 : (Jvm.Cond.instantiable "EggLights$Entry" (5 : Nat)) ∈ lw_all := lw_g (lw_at lw_m5 190 rfl) rfl
theorem q1200 : (Jvm.Cond.instanceMethod ({ cls := "EggLights$Entry", name := "<init>", desc := "(IIILEggLights$Egg;)V" } : Jvm.MethodName)) ∈ lw_all := lw_g (lw_at lw_m5 192 rfl) rfl
theorem q1201 : (Jvm.Cond.code ({ cls := "EggLights$Entry", name := "<init>", desc := "(IIILEggLights$Egg;)V" } : Jvm.MethodName) prog_6_method_1_code (5 : Nat) (Option.none : Option Jvm.ClassFile.FieldType)) ∈ lw_all := lw_g (lw_at lw_m5 193 rfl) rfl
theorem q1202 : (Jvm.Cond.methodLink "EggLights$Entry" (1 : Nat) ({ cls := "java/lang/Object", name := "<init>", desc := "()V" } : Jvm.MethodName)) ∈ lw_all := lw_g (lw_at lw_m5 194 rfl) rfl
theorem q1203 : (Jvm.Cond.methodLink "EggLights$Entry" (25 : Nat) ({ cls := "EggLights$Egg", name := "isCracked", desc := "()Z" } : Jvm.MethodName)) ∈ lw_all := lw_g (lw_at lw_m5 195 rfl) rfl
theorem q1204 : (Jvm.Cond.fieldLink "EggLights$Entry" (7 : Nat) "EggLights$Entry" "tick" "I") ∈ lw_all := lw_g (lw_at lw_m5 196 rfl) rfl
theorem q1206 : (Jvm.Cond.fieldLink "EggLights$Entry" (13 : Nat) "EggLights$Entry" "lane" "I") ∈ lw_all := lw_g (lw_at lw_m5 198 rfl) rfl
theorem q1208 : (Jvm.Cond.fieldLink "EggLights$Entry" (24 : Nat) "EggLights$Entry" "weight" "I") ∈ lw_all := lw_g (lw_at lw_m5 200 rfl) rfl
theorem q1210 : (Jvm.Cond.fieldLink "EggLights$Entry" (16 : Nat) "EggLights$Entry" "grade" "I") ∈ lw_all := lw_g (lw_at lw_m5 202 rfl) rfl
theorem q1212 : (Jvm.Cond.fieldLink "EggLights$Entry" (29 : Nat) "EggLights$Entry" "isCracked" "Z") ∈ lw_all := lw_g (lw_at lw_m5 204 rfl) rfl
theorem q1214 : (Jvm.Cond.laysFinal "EggLights$Entry" "EggLights$Entry" "tick" "I") ∈ lw_all := lw_g (lw_at lw_m5 206 rfl) rfl
theorem q1215 : (Jvm.Cond.soleField "EggLights$Entry" "tick") ∈ lw_all := lw_g (lw_at lw_m5 207 rfl) rfl
theorem q1216 : (Jvm.Cond.laysFinal "EggLights$Entry" "EggLights$Entry" "lane" "I") ∈ lw_all := lw_g (lw_at lw_m5 208 rfl) rfl
theorem q1217 : (Jvm.Cond.soleField "EggLights$Entry" "lane") ∈ lw_all := lw_g (lw_at lw_m5 209 rfl) rfl
theorem q1218 : (Jvm.Cond.laysFinal "EggLights$Entry" "EggLights$Entry" "weight" "I") ∈ lw_all := lw_g (lw_at lw_m5 210 rfl) rfl
theorem q1219 : (Jvm.Cond.soleField "EggLights$Entry" "weight") ∈ lw_all := lw_g (lw_at lw_m5 211 rfl) rfl
theorem q1220 : (Jvm.Cond.laysFinal "EggLights$Entry" "EggLights$Entry" "grade" "I") ∈ lw_all := lw_g (lw_at lw_m5 212 rfl) rfl
theorem q1221 : (Jvm.Cond.soleField "EggLights$Entry" "grade") ∈ lw_all := lw_g (lw_at lw_m5 213 rfl) rfl
theorem q1222 : (Jvm.Cond.laysFinal "EggLights$Entry" "EggLights$Entry" "isCracked" "Z") ∈ lw_all := lw_g (lw_at lw_m5 214 rfl) rfl
theorem q1223 : (Jvm.Cond.soleField "EggLights$Entry" "isCracked") ∈ lw_all := lw_g (lw_at lw_m5 215 rfl) rfl
theorem q1224 : (Jvm.Cond.superclass "EggLights$Entry" "java/lang/Object") ∈ lw_all := lw_g (lw_at lw_m5 216 rfl) rfl
theorem q1980 : (Jvm.Cond.castable "EggLights$Entry" "java/lang/Object") ∈ lw_tbl := lw_at lw_m9 12 rfl
theorem in_X11 : ∀ w ∈ wsX110, w ∈ lw_all := lw_in wsX110 [1214, 1216, 1218, 1220, 1222] (by decide +kernel) (by decide +kernel)

/-! EggLights$Reader -/
set_option maxRecDepth 100000
def RX12 : String := "EggLights$Reader"
def TX12 : u_T := fun k => match k with
  | 0 => ("EggLights$Reader", "trial", "LEggLights$Machine;", true)
  | 1 => ("EggLights$Reader", "numbers", "[I", true)
  | 2 => ("EggLights$Reader", "at", "I", false)
  | 3 => ("EggLights$Reader", "begins", "I", false)
  | 4 => ("EggLights$Reader", "reason", "I", false)
  | 5 => ("EggLights$Reader", "cause", "I", false)
  | 6 => ("EggLights$Reader", "many", "I", false)
  | _ => ("EggLights$Reader", "this$0", "LEggLights;", true)
def tyX12 : Nat → FieldType := fun k => match k with
  | 0 => .object "EggLights$Machine"
  | 1 => .array .int
  | 2 => .int
  | 3 => .int
  | 4 => .int
  | 5 => .int
  | 6 => .int
  | _ => .object "EggLights"
abbrev wsX120 : List Cond := u_ws RX12 TX12 8
theorem nmX12 : ∀ a, a < 8 → ∀ b, b < 8 → a ≠ b → (TX12 a).2.1 ≠ (TX12 b).2.1 := by decide +kernel
theorem tyX12_ok : ∀ k, k < 8 → parseFieldDescriptor (TX12 k).2.2.1 = some (tyX12 k) := by decide +kernel
abbrev cX12_init : ByteArray := prog_9_method_1_code
def yX12_init : MethodName := ⟨RX12, "<init>", "(LEggLights;)V"⟩
def dkwX12_init_1 : List UInt8 := [181, 0, 24, 42, 6, 188, 10, 181, 0, 27, 177]
abbrev dktX12_init_1 : List UInt8 := dkwX12_init_1 ++ []
def dkwX12_init_0 : List UInt8 := [42, 43, 181, 0, 3, 42, 183, 0, 9, 42, 187, 0, 15, 89, 42, 180, 0, 3, 180, 0, 17, 183, 0, 21]
abbrev dktX12_init_0 : List UInt8 := dkwX12_init_0 ++ dktX12_init_1
theorem dksX12_init_0 : cX12_init.data.toList.drop 0 = dktX12_init_0 := by decide +kernel
theorem dksX12_init_1 : cX12_init.data.toList.drop 24 = dktX12_init_1 := dk_seg dksX12_init_0 24 rfl rfl
theorem dX12_init_0 : decode cX12_init 0 = .ok (.aload_n 0, 1) := dk_42 (dk_at dksX12_init_0 0 rfl rfl)
theorem dX12_init_1 : decode cX12_init 1 = .ok (.aload_n 1, 1) := dk_43 (dk_at dksX12_init_0 1 rfl rfl)
theorem dX12_init_2 : decode cX12_init 2 = .ok (.putfield 3, 3) := dk_181 0 3 (dk_at dksX12_init_0 2 rfl rfl)
theorem dX12_init_5 : decode cX12_init 5 = .ok (.aload_n 0, 1) := dk_42 (dk_at dksX12_init_0 5 rfl rfl)
theorem dX12_init_6 : decode cX12_init 6 = .ok (.invokespecial 9, 3) := dk_183 0 9 (dk_at dksX12_init_0 6 rfl rfl)
theorem dX12_init_9 : decode cX12_init 9 = .ok (.aload_n 0, 1) := dk_42 (dk_at dksX12_init_0 9 rfl rfl)
theorem dX12_init_10 : decode cX12_init 10 = .ok (.new 15, 3) := dk_187 0 15 (dk_at dksX12_init_0 10 rfl rfl)
theorem dX12_init_13 : decode cX12_init 13 = .ok (.dup, 1) := dk_89 (dk_at dksX12_init_0 13 rfl rfl)
theorem dX12_init_14 : decode cX12_init 14 = .ok (.aload_n 0, 1) := dk_42 (dk_at dksX12_init_0 14 rfl rfl)
theorem dX12_init_15 : decode cX12_init 15 = .ok (.getfield 3, 3) := dk_180 0 3 (dk_at dksX12_init_0 15 rfl rfl)
theorem dX12_init_18 : decode cX12_init 18 = .ok (.getfield 17, 3) := dk_180 0 17 (dk_at dksX12_init_0 18 rfl rfl)
theorem dX12_init_21 : decode cX12_init 21 = .ok (.invokespecial 21, 3) := dk_183 0 21 (dk_at dksX12_init_0 21 rfl rfl)
theorem dX12_init_24 : decode cX12_init 24 = .ok (.putfield 24, 3) := dk_181 0 24 (dk_at dksX12_init_1 0 rfl rfl)
theorem dX12_init_27 : decode cX12_init 27 = .ok (.aload_n 0, 1) := dk_42 (dk_at dksX12_init_1 3 rfl rfl)
theorem dX12_init_28 : decode cX12_init 28 = .ok (.iconst 3, 1) := dk_6 (dk_at dksX12_init_1 4 rfl rfl)
theorem dX12_init_29 : decode cX12_init 29 = .ok (.newarray .int, 2) := dk_188_10 (dk_at dksX12_init_1 5 rfl rfl)
theorem dX12_init_31 : decode cX12_init 31 = .ok (.putfield 27, 3) := dk_181 0 27 (dk_at dksX12_init_1 7 rfl rfl)
theorem dX12_init_34 : decode cX12_init 34 = .ok (.return_, 1) := dk_177 (dk_at dksX12_init_1 10 rfl rfl)
abbrev cX12_isWell : ByteArray := prog_9_method_6_code
def yX12_isWell : MethodName := ⟨RX12, "isWell", "()Z"⟩
def dkwX12_isWell_2 : List UInt8 := [167, 0, 4, 3, 172]
abbrev dktX12_isWell_2 : List UInt8 := dkwX12_isWell_2 ++ []
def dkwX12_isWell_1 : List UInt8 := [42, 42, 180, 0, 31, 181, 0, 81, 42, 182, 0, 99, 167, 255, 220, 42, 180, 0, 78, 154, 0, 7, 4]
abbrev dktX12_isWell_1 : List UInt8 := dkwX12_isWell_1 ++ dktX12_isWell_2
def dkwX12_isWell_0 : List UInt8 := [42, 180, 0, 78, 154, 0, 35, 42, 180, 0, 31, 42, 180, 0, 3, 180, 0, 35, 182, 0, 39, 162, 0, 18]
abbrev dktX12_isWell_0 : List UInt8 := dkwX12_isWell_0 ++ dktX12_isWell_1
theorem dksX12_isWell_0 : cX12_isWell.data.toList.drop 0 = dktX12_isWell_0 := by decide +kernel
theorem dksX12_isWell_1 : cX12_isWell.data.toList.drop 24 = dktX12_isWell_1 := dk_seg dksX12_isWell_0 24 rfl rfl
theorem dksX12_isWell_2 : cX12_isWell.data.toList.drop 47 = dktX12_isWell_2 := dk_seg dksX12_isWell_1 23 rfl rfl
theorem dX12_isWell_0 : decode cX12_isWell 0 = .ok (.aload_n 0, 1) := dk_42 (dk_at dksX12_isWell_0 0 rfl rfl)
theorem dX12_isWell_1 : decode cX12_isWell 1 = .ok (.getfield 78, 3) := dk_180 0 78 (dk_at dksX12_isWell_0 1 rfl rfl)
theorem dX12_isWell_4 : decode cX12_isWell 4 = .ok (.ifCond .ne 35, 3) := dk_154 0 35 (dk_at dksX12_isWell_0 4 rfl rfl)
theorem dX12_isWell_7 : decode cX12_isWell 7 = .ok (.aload_n 0, 1) := dk_42 (dk_at dksX12_isWell_0 7 rfl rfl)
theorem dX12_isWell_8 : decode cX12_isWell 8 = .ok (.getfield 31, 3) := dk_180 0 31 (dk_at dksX12_isWell_0 8 rfl rfl)
theorem dX12_isWell_11 : decode cX12_isWell 11 = .ok (.aload_n 0, 1) := dk_42 (dk_at dksX12_isWell_0 11 rfl rfl)
theorem dX12_isWell_12 : decode cX12_isWell 12 = .ok (.getfield 3, 3) := dk_180 0 3 (dk_at dksX12_isWell_0 12 rfl rfl)
theorem dX12_isWell_15 : decode cX12_isWell 15 = .ok (.getfield 35, 3) := dk_180 0 35 (dk_at dksX12_isWell_0 15 rfl rfl)
theorem dX12_isWell_18 : decode cX12_isWell 18 = .ok (.invokevirtual 39, 3) := dk_182 0 39 (dk_at dksX12_isWell_0 18 rfl rfl)
theorem dX12_isWell_21 : decode cX12_isWell 21 = .ok (.if_icmp .ge 18, 3) := dk_162 0 18 (dk_at dksX12_isWell_0 21 rfl rfl)
theorem dX12_isWell_24 : decode cX12_isWell 24 = .ok (.aload_n 0, 1) := dk_42 (dk_at dksX12_isWell_1 0 rfl rfl)
theorem dX12_isWell_25 : decode cX12_isWell 25 = .ok (.aload_n 0, 1) := dk_42 (dk_at dksX12_isWell_1 1 rfl rfl)
theorem dX12_isWell_26 : decode cX12_isWell 26 = .ok (.getfield 31, 3) := dk_180 0 31 (dk_at dksX12_isWell_1 2 rfl rfl)
theorem dX12_isWell_29 : decode cX12_isWell 29 = .ok (.putfield 81, 3) := dk_181 0 81 (dk_at dksX12_isWell_1 5 rfl rfl)
theorem dX12_isWell_32 : decode cX12_isWell 32 = .ok (.aload_n 0, 1) := dk_42 (dk_at dksX12_isWell_1 8 rfl rfl)
theorem dX12_isWell_33 : decode cX12_isWell 33 = .ok (.invokevirtual 99, 3) := dk_182 0 99 (dk_at dksX12_isWell_1 9 rfl rfl)
theorem dX12_isWell_36 : decode cX12_isWell 36 = .ok (.goto (-36), 3) := dk_167 255 220 (dk_at dksX12_isWell_1 12 rfl rfl)
theorem dX12_isWell_39 : decode cX12_isWell 39 = .ok (.aload_n 0, 1) := dk_42 (dk_at dksX12_isWell_1 15 rfl rfl)
theorem dX12_isWell_40 : decode cX12_isWell 40 = .ok (.getfield 78, 3) := dk_180 0 78 (dk_at dksX12_isWell_1 16 rfl rfl)
theorem dX12_isWell_43 : decode cX12_isWell 43 = .ok (.ifCond .ne 7, 3) := dk_154 0 7 (dk_at dksX12_isWell_1 19 rfl rfl)
theorem dX12_isWell_46 : decode cX12_isWell 46 = .ok (.iconst 1, 1) := dk_4 (dk_at dksX12_isWell_1 22 rfl rfl)
theorem dX12_isWell_47 : decode cX12_isWell 47 = .ok (.goto 4, 3) := dk_167 0 4 (dk_at dksX12_isWell_2 0 rfl rfl)
theorem dX12_isWell_50 : decode cX12_isWell 50 = .ok (.iconst 0, 1) := dk_3 (dk_at dksX12_isWell_2 3 rfl rfl)
theorem dX12_isWell_51 : decode cX12_isWell 51 = .ok (.ireturn, 1) := dk_172 (dk_at dksX12_isWell_2 4 rfl rfl)
abbrev cX12_one : ByteArray := prog_9_method_5_code
def yX12_one : MethodName := ⟨RX12, "one", "()V"⟩
def dkwX12_one_6 : List UInt8 := [181, 0, 84, 177]
abbrev dktX12_one_6 : List UInt8 := dkwX12_one_6 ++ []
def dkwX12_one_5 : List UInt8 := [180, 0, 91, 4, 96, 181, 0, 91, 167, 0, 17, 78, 42, 5, 181, 0, 78, 42, 45, 180, 0, 96]
abbrev dktX12_one_5 : List UInt8 := dkwX12_one_5 ++ dktX12_one_6
def dkwX12_one_4 : List UInt8 := [180, 0, 81, 100, 181, 0, 84, 177, 42, 180, 0, 24, 27, 42, 180, 0, 27, 184, 0, 87, 62, 42, 89]
abbrev dktX12_one_4 : List UInt8 := dkwX12_one_4 ++ dktX12_one_5
def dkwX12_one_3 : List UInt8 := [181, 0, 31, 42, 28, 182, 0, 75, 154, 0, 22, 42, 4, 181, 0, 78, 42, 42, 180, 0, 31, 42]
abbrev dktX12_one_3 : List UInt8 := dkwX12_one_3 ++ dktX12_one_4
def dkwX12_one_2 : List UInt8 := [155, 0, 7, 4, 167, 0, 4, 3, 61, 42, 89, 180, 0, 31, 28, 154, 0, 7, 3, 167, 0, 4, 4, 96]
abbrev dktX12_one_2 : List UInt8 := dkwX12_one_2 ++ dktX12_one_3
def dkwX12_one_1 : List UInt8 := [167, 0, 30, 18, 65, 27, 182, 0, 67, 155, 0, 7, 5, 167, 0, 17, 18, 73, 27, 182, 0, 67]
abbrev dktX12_one_1 : List UInt8 := dkwX12_one_1 ++ dktX12_one_2
def dkwX12_one_0 : List UInt8 := [42, 180, 0, 3, 180, 0, 35, 42, 180, 0, 31, 182, 0, 45, 60, 27, 16, 101, 160, 0, 7, 6]
abbrev dktX12_one_0 : List UInt8 := dkwX12_one_0 ++ dktX12_one_1
theorem dksX12_one_0 : cX12_one.data.toList.drop 0 = dktX12_one_0 := by decide +kernel
theorem dksX12_one_1 : cX12_one.data.toList.drop 22 = dktX12_one_1 := dk_seg dksX12_one_0 22 rfl rfl
theorem dksX12_one_2 : cX12_one.data.toList.drop 44 = dktX12_one_2 := dk_seg dksX12_one_1 22 rfl rfl
theorem dksX12_one_3 : cX12_one.data.toList.drop 68 = dktX12_one_3 := dk_seg dksX12_one_2 24 rfl rfl
theorem dksX12_one_4 : cX12_one.data.toList.drop 90 = dktX12_one_4 := dk_seg dksX12_one_3 22 rfl rfl
theorem dksX12_one_5 : cX12_one.data.toList.drop 113 = dktX12_one_5 := dk_seg dksX12_one_4 23 rfl rfl
theorem dksX12_one_6 : cX12_one.data.toList.drop 135 = dktX12_one_6 := dk_seg dksX12_one_5 22 rfl rfl
theorem dX12_one_0 : decode cX12_one 0 = .ok (.aload_n 0, 1) := dk_42 (dk_at dksX12_one_0 0 rfl rfl)
theorem dX12_one_1 : decode cX12_one 1 = .ok (.getfield 3, 3) := dk_180 0 3 (dk_at dksX12_one_0 1 rfl rfl)
theorem dX12_one_4 : decode cX12_one 4 = .ok (.getfield 35, 3) := dk_180 0 35 (dk_at dksX12_one_0 4 rfl rfl)
theorem dX12_one_7 : decode cX12_one 7 = .ok (.aload_n 0, 1) := dk_42 (dk_at dksX12_one_0 7 rfl rfl)
theorem dX12_one_8 : decode cX12_one 8 = .ok (.getfield 31, 3) := dk_180 0 31 (dk_at dksX12_one_0 8 rfl rfl)
theorem dX12_one_11 : decode cX12_one 11 = .ok (.invokevirtual 45, 3) := dk_182 0 45 (dk_at dksX12_one_0 11 rfl rfl)
theorem dX12_one_14 : decode cX12_one 14 = .ok (.istore_n 1, 1) := dk_60 (dk_at dksX12_one_0 14 rfl rfl)
theorem dX12_one_15 : decode cX12_one 15 = .ok (.iload_n 1, 1) := dk_27 (dk_at dksX12_one_0 15 rfl rfl)
theorem dX12_one_16 : decode cX12_one 16 = .ok (.bipush 101, 2) := dk_16 101 (dk_at dksX12_one_0 16 rfl rfl)
theorem dX12_one_18 : decode cX12_one 18 = .ok (.if_icmp .ne 7, 3) := dk_160 0 7 (dk_at dksX12_one_0 18 rfl rfl)
theorem dX12_one_21 : decode cX12_one 21 = .ok (.iconst 3, 1) := dk_6 (dk_at dksX12_one_0 21 rfl rfl)
theorem dX12_one_22 : decode cX12_one 22 = .ok (.goto 30, 3) := dk_167 0 30 (dk_at dksX12_one_1 0 rfl rfl)
theorem dX12_one_25 : decode cX12_one 25 = .ok (.ldc 65, 2) := dk_18 65 (dk_at dksX12_one_1 3 rfl rfl)
theorem dX12_one_27 : decode cX12_one 27 = .ok (.iload_n 1, 1) := dk_27 (dk_at dksX12_one_1 5 rfl rfl)
theorem dX12_one_28 : decode cX12_one 28 = .ok (.invokevirtual 67, 3) := dk_182 0 67 (dk_at dksX12_one_1 6 rfl rfl)
theorem dX12_one_31 : decode cX12_one 31 = .ok (.ifCond .lt 7, 3) := dk_155 0 7 (dk_at dksX12_one_1 9 rfl rfl)
theorem dX12_one_34 : decode cX12_one 34 = .ok (.iconst 2, 1) := dk_5 (dk_at dksX12_one_1 12 rfl rfl)
theorem dX12_one_35 : decode cX12_one 35 = .ok (.goto 17, 3) := dk_167 0 17 (dk_at dksX12_one_1 13 rfl rfl)
theorem dX12_one_38 : decode cX12_one 38 = .ok (.ldc 73, 2) := dk_18 73 (dk_at dksX12_one_1 16 rfl rfl)
theorem dX12_one_40 : decode cX12_one 40 = .ok (.iload_n 1, 1) := dk_27 (dk_at dksX12_one_1 18 rfl rfl)
theorem dX12_one_41 : decode cX12_one 41 = .ok (.invokevirtual 67, 3) := dk_182 0 67 (dk_at dksX12_one_1 19 rfl rfl)
theorem dX12_one_44 : decode cX12_one 44 = .ok (.ifCond .lt 7, 3) := dk_155 0 7 (dk_at dksX12_one_2 0 rfl rfl)
theorem dX12_one_47 : decode cX12_one 47 = .ok (.iconst 1, 1) := dk_4 (dk_at dksX12_one_2 3 rfl rfl)
theorem dX12_one_48 : decode cX12_one 48 = .ok (.goto 4, 3) := dk_167 0 4 (dk_at dksX12_one_2 4 rfl rfl)
theorem dX12_one_51 : decode cX12_one 51 = .ok (.iconst 0, 1) := dk_3 (dk_at dksX12_one_2 7 rfl rfl)
theorem dX12_one_52 : decode cX12_one 52 = .ok (.istore_n 2, 1) := dk_61 (dk_at dksX12_one_2 8 rfl rfl)
theorem dX12_one_53 : decode cX12_one 53 = .ok (.aload_n 0, 1) := dk_42 (dk_at dksX12_one_2 9 rfl rfl)
theorem dX12_one_54 : decode cX12_one 54 = .ok (.dup, 1) := dk_89 (dk_at dksX12_one_2 10 rfl rfl)
theorem dX12_one_55 : decode cX12_one 55 = .ok (.getfield 31, 3) := dk_180 0 31 (dk_at dksX12_one_2 11 rfl rfl)
theorem dX12_one_58 : decode cX12_one 58 = .ok (.iload_n 2, 1) := dk_28 (dk_at dksX12_one_2 14 rfl rfl)
theorem dX12_one_59 : decode cX12_one 59 = .ok (.ifCond .ne 7, 3) := dk_154 0 7 (dk_at dksX12_one_2 15 rfl rfl)
theorem dX12_one_62 : decode cX12_one 62 = .ok (.iconst 0, 1) := dk_3 (dk_at dksX12_one_2 18 rfl rfl)
theorem dX12_one_63 : decode cX12_one 63 = .ok (.goto 4, 3) := dk_167 0 4 (dk_at dksX12_one_2 19 rfl rfl)
theorem dX12_one_66 : decode cX12_one 66 = .ok (.iconst 1, 1) := dk_4 (dk_at dksX12_one_2 22 rfl rfl)
theorem dX12_one_67 : decode cX12_one 67 = .ok (.iadd, 1) := dk_96 (dk_at dksX12_one_2 23 rfl rfl)
theorem dX12_one_68 : decode cX12_one 68 = .ok (.putfield 31, 3) := dk_181 0 31 (dk_at dksX12_one_3 0 rfl rfl)
theorem dX12_one_71 : decode cX12_one 71 = .ok (.aload_n 0, 1) := dk_42 (dk_at dksX12_one_3 3 rfl rfl)
theorem dX12_one_72 : decode cX12_one 72 = .ok (.iload_n 2, 1) := dk_28 (dk_at dksX12_one_3 4 rfl rfl)
theorem dX12_one_73 : decode cX12_one 73 = .ok (.invokevirtual 75, 3) := dk_182 0 75 (dk_at dksX12_one_3 5 rfl rfl)
theorem dX12_one_76 : decode cX12_one 76 = .ok (.ifCond .ne 22, 3) := dk_154 0 22 (dk_at dksX12_one_3 8 rfl rfl)
theorem dX12_one_79 : decode cX12_one 79 = .ok (.aload_n 0, 1) := dk_42 (dk_at dksX12_one_3 11 rfl rfl)
theorem dX12_one_80 : decode cX12_one 80 = .ok (.iconst 1, 1) := dk_4 (dk_at dksX12_one_3 12 rfl rfl)
theorem dX12_one_81 : decode cX12_one 81 = .ok (.putfield 78, 3) := dk_181 0 78 (dk_at dksX12_one_3 13 rfl rfl)
theorem dX12_one_84 : decode cX12_one 84 = .ok (.aload_n 0, 1) := dk_42 (dk_at dksX12_one_3 16 rfl rfl)
theorem dX12_one_85 : decode cX12_one 85 = .ok (.aload_n 0, 1) := dk_42 (dk_at dksX12_one_3 17 rfl rfl)
theorem dX12_one_86 : decode cX12_one 86 = .ok (.getfield 31, 3) := dk_180 0 31 (dk_at dksX12_one_3 18 rfl rfl)
theorem dX12_one_89 : decode cX12_one 89 = .ok (.aload_n 0, 1) := dk_42 (dk_at dksX12_one_3 21 rfl rfl)
theorem dX12_one_90 : decode cX12_one 90 = .ok (.getfield 81, 3) := dk_180 0 81 (dk_at dksX12_one_4 0 rfl rfl)
theorem dX12_one_93 : decode cX12_one 93 = .ok (.isub, 1) := dk_100 (dk_at dksX12_one_4 3 rfl rfl)
theorem dX12_one_94 : decode cX12_one 94 = .ok (.putfield 84, 3) := dk_181 0 84 (dk_at dksX12_one_4 4 rfl rfl)
theorem dX12_one_97 : decode cX12_one 97 = .ok (.return_, 1) := dk_177 (dk_at dksX12_one_4 7 rfl rfl)
theorem dX12_one_98 : decode cX12_one 98 = .ok (.aload_n 0, 1) := dk_42 (dk_at dksX12_one_4 8 rfl rfl)
theorem dX12_one_99 : decode cX12_one 99 = .ok (.getfield 24, 3) := dk_180 0 24 (dk_at dksX12_one_4 9 rfl rfl)
theorem dX12_one_102 : decode cX12_one 102 = .ok (.iload_n 1, 1) := dk_27 (dk_at dksX12_one_4 12 rfl rfl)
theorem dX12_one_103 : decode cX12_one 103 = .ok (.aload_n 0, 1) := dk_42 (dk_at dksX12_one_4 13 rfl rfl)
theorem dX12_one_104 : decode cX12_one 104 = .ok (.getfield 27, 3) := dk_180 0 27 (dk_at dksX12_one_4 14 rfl rfl)
theorem dX12_one_107 : decode cX12_one 107 = .ok (.invokestatic 87, 3) := dk_184 0 87 (dk_at dksX12_one_4 17 rfl rfl)
theorem dX12_one_110 : decode cX12_one 110 = .ok (.istore_n 3, 1) := dk_62 (dk_at dksX12_one_4 20 rfl rfl)
theorem dX12_one_111 : decode cX12_one 111 = .ok (.aload_n 0, 1) := dk_42 (dk_at dksX12_one_4 21 rfl rfl)
theorem dX12_one_112 : decode cX12_one 112 = .ok (.dup, 1) := dk_89 (dk_at dksX12_one_4 22 rfl rfl)
theorem dX12_one_113 : decode cX12_one 113 = .ok (.getfield 91, 3) := dk_180 0 91 (dk_at dksX12_one_5 0 rfl rfl)
theorem dX12_one_116 : decode cX12_one 116 = .ok (.iconst 1, 1) := dk_4 (dk_at dksX12_one_5 3 rfl rfl)
theorem dX12_one_117 : decode cX12_one 117 = .ok (.iadd, 1) := dk_96 (dk_at dksX12_one_5 4 rfl rfl)
theorem dX12_one_118 : decode cX12_one 118 = .ok (.putfield 91, 3) := dk_181 0 91 (dk_at dksX12_one_5 5 rfl rfl)
theorem dX12_one_121 : decode cX12_one 121 = .ok (.goto 17, 3) := dk_167 0 17 (dk_at dksX12_one_5 8 rfl rfl)
theorem dX12_one_124 : decode cX12_one 124 = .ok (.astore_n 3, 1) := dk_78 (dk_at dksX12_one_5 11 rfl rfl)
theorem dX12_one_125 : decode cX12_one 125 = .ok (.aload_n 0, 1) := dk_42 (dk_at dksX12_one_5 12 rfl rfl)
theorem dX12_one_126 : decode cX12_one 126 = .ok (.iconst 2, 1) := dk_5 (dk_at dksX12_one_5 13 rfl rfl)
theorem dX12_one_127 : decode cX12_one 127 = .ok (.putfield 78, 3) := dk_181 0 78 (dk_at dksX12_one_5 14 rfl rfl)
theorem dX12_one_130 : decode cX12_one 130 = .ok (.aload_n 0, 1) := dk_42 (dk_at dksX12_one_5 17 rfl rfl)
theorem dX12_one_131 : decode cX12_one 131 = .ok (.aload_n 3, 1) := dk_45 (dk_at dksX12_one_5 18 rfl rfl)
theorem dX12_one_132 : decode cX12_one 132 = .ok (.getfield 96, 3) := dk_180 0 96 (dk_at dksX12_one_5 19 rfl rfl)
theorem dX12_one_135 : decode cX12_one 135 = .ok (.putfield 84, 3) := dk_181 0 84 (dk_at dksX12_one_6 0 rfl rfl)
theorem dX12_one_138 : decode cX12_one 138 = .ok (.return_, 1) := dk_177 (dk_at dksX12_one_6 3 rfl rfl)
abbrev cX12_isOfForm : ByteArray := prog_9_method_4_code
def yX12_isOfForm : MethodName := ⟨RX12, "isOfForm", "(I)Z"⟩
def dkwX12_isOfForm_3 : List UInt8 := [167, 0, 4, 3, 172]
abbrev dktX12_isOfForm_3 : List UInt8 := dkwX12_isOfForm_3 ++ []
def dkwX12_isOfForm_2 : List UInt8 := [3, 61, 132, 3, 1, 167, 255, 217, 28, 153, 0, 16, 42, 16, 59, 182, 0, 57, 153, 0, 7, 4]
abbrev dktX12_isOfForm_2 : List UInt8 := dkwX12_isOfForm_2 ++ dktX12_isOfForm_3
def dkwX12_isOfForm_1 : List UInt8 := [153, 0, 12, 42, 16, 44, 182, 0, 57, 153, 0, 15, 42, 29, 182, 0, 61, 153, 0, 7, 4, 167, 0, 4]
abbrev dktX12_isOfForm_1 : List UInt8 := dkwX12_isOfForm_1 ++ dktX12_isOfForm_2
def dkwX12_isOfForm_0 : List UInt8 := [27, 158, 0, 7, 4, 167, 0, 4, 3, 61, 3, 62, 29, 27, 162, 0, 40, 28, 153, 0, 36, 29]
abbrev dktX12_isOfForm_0 : List UInt8 := dkwX12_isOfForm_0 ++ dktX12_isOfForm_1
theorem dksX12_isOfForm_0 : cX12_isOfForm.data.toList.drop 0 = dktX12_isOfForm_0 := by decide +kernel
theorem dksX12_isOfForm_1 : cX12_isOfForm.data.toList.drop 22 = dktX12_isOfForm_1 := dk_seg dksX12_isOfForm_0 22 rfl rfl
theorem dksX12_isOfForm_2 : cX12_isOfForm.data.toList.drop 46 = dktX12_isOfForm_2 := dk_seg dksX12_isOfForm_1 24 rfl rfl
theorem dksX12_isOfForm_3 : cX12_isOfForm.data.toList.drop 68 = dktX12_isOfForm_3 := dk_seg dksX12_isOfForm_2 22 rfl rfl
theorem dX12_isOfForm_0 : decode cX12_isOfForm 0 = .ok (.iload_n 1, 1) := dk_27 (dk_at dksX12_isOfForm_0 0 rfl rfl)
theorem dX12_isOfForm_1 : decode cX12_isOfForm 1 = .ok (.ifCond .le 7, 3) := dk_158 0 7 (dk_at dksX12_isOfForm_0 1 rfl rfl)
theorem dX12_isOfForm_4 : decode cX12_isOfForm 4 = .ok (.iconst 1, 1) := dk_4 (dk_at dksX12_isOfForm_0 4 rfl rfl)
theorem dX12_isOfForm_5 : decode cX12_isOfForm 5 = .ok (.goto 4, 3) := dk_167 0 4 (dk_at dksX12_isOfForm_0 5 rfl rfl)
theorem dX12_isOfForm_8 : decode cX12_isOfForm 8 = .ok (.iconst 0, 1) := dk_3 (dk_at dksX12_isOfForm_0 8 rfl rfl)
theorem dX12_isOfForm_9 : decode cX12_isOfForm 9 = .ok (.istore_n 2, 1) := dk_61 (dk_at dksX12_isOfForm_0 9 rfl rfl)
theorem dX12_isOfForm_10 : decode cX12_isOfForm 10 = .ok (.iconst 0, 1) := dk_3 (dk_at dksX12_isOfForm_0 10 rfl rfl)
theorem dX12_isOfForm_11 : decode cX12_isOfForm 11 = .ok (.istore_n 3, 1) := dk_62 (dk_at dksX12_isOfForm_0 11 rfl rfl)
theorem dX12_isOfForm_12 : decode cX12_isOfForm 12 = .ok (.iload_n 3, 1) := dk_29 (dk_at dksX12_isOfForm_0 12 rfl rfl)
theorem dX12_isOfForm_13 : decode cX12_isOfForm 13 = .ok (.iload_n 1, 1) := dk_27 (dk_at dksX12_isOfForm_0 13 rfl rfl)
theorem dX12_isOfForm_14 : decode cX12_isOfForm 14 = .ok (.if_icmp .ge 40, 3) := dk_162 0 40 (dk_at dksX12_isOfForm_0 14 rfl rfl)
theorem dX12_isOfForm_17 : decode cX12_isOfForm 17 = .ok (.iload_n 2, 1) := dk_28 (dk_at dksX12_isOfForm_0 17 rfl rfl)
theorem dX12_isOfForm_18 : decode cX12_isOfForm 18 = .ok (.ifCond .eq 36, 3) := dk_153 0 36 (dk_at dksX12_isOfForm_0 18 rfl rfl)
theorem dX12_isOfForm_21 : decode cX12_isOfForm 21 = .ok (.iload_n 3, 1) := dk_29 (dk_at dksX12_isOfForm_0 21 rfl rfl)
theorem dX12_isOfForm_22 : decode cX12_isOfForm 22 = .ok (.ifCond .eq 12, 3) := dk_153 0 12 (dk_at dksX12_isOfForm_1 0 rfl rfl)
theorem dX12_isOfForm_25 : decode cX12_isOfForm 25 = .ok (.aload_n 0, 1) := dk_42 (dk_at dksX12_isOfForm_1 3 rfl rfl)
theorem dX12_isOfForm_26 : decode cX12_isOfForm 26 = .ok (.bipush 44, 2) := dk_16 44 (dk_at dksX12_isOfForm_1 4 rfl rfl)
theorem dX12_isOfForm_28 : decode cX12_isOfForm 28 = .ok (.invokevirtual 57, 3) := dk_182 0 57 (dk_at dksX12_isOfForm_1 6 rfl rfl)
theorem dX12_isOfForm_31 : decode cX12_isOfForm 31 = .ok (.ifCond .eq 15, 3) := dk_153 0 15 (dk_at dksX12_isOfForm_1 9 rfl rfl)
theorem dX12_isOfForm_34 : decode cX12_isOfForm 34 = .ok (.aload_n 0, 1) := dk_42 (dk_at dksX12_isOfForm_1 12 rfl rfl)
theorem dX12_isOfForm_35 : decode cX12_isOfForm 35 = .ok (.iload_n 3, 1) := dk_29 (dk_at dksX12_isOfForm_1 13 rfl rfl)
theorem dX12_isOfForm_36 : decode cX12_isOfForm 36 = .ok (.invokevirtual 61, 3) := dk_182 0 61 (dk_at dksX12_isOfForm_1 14 rfl rfl)
theorem dX12_isOfForm_39 : decode cX12_isOfForm 39 = .ok (.ifCond .eq 7, 3) := dk_153 0 7 (dk_at dksX12_isOfForm_1 17 rfl rfl)
theorem dX12_isOfForm_42 : decode cX12_isOfForm 42 = .ok (.iconst 1, 1) := dk_4 (dk_at dksX12_isOfForm_1 20 rfl rfl)
theorem dX12_isOfForm_43 : decode cX12_isOfForm 43 = .ok (.goto 4, 3) := dk_167 0 4 (dk_at dksX12_isOfForm_1 21 rfl rfl)
theorem dX12_isOfForm_46 : decode cX12_isOfForm 46 = .ok (.iconst 0, 1) := dk_3 (dk_at dksX12_isOfForm_2 0 rfl rfl)
theorem dX12_isOfForm_47 : decode cX12_isOfForm 47 = .ok (.istore_n 2, 1) := dk_61 (dk_at dksX12_isOfForm_2 1 rfl rfl)
theorem dX12_isOfForm_48 : decode cX12_isOfForm 48 = .ok (.iinc 3 1, 3) := dk_132 3 1 (dk_at dksX12_isOfForm_2 2 rfl rfl)
theorem dX12_isOfForm_51 : decode cX12_isOfForm 51 = .ok (.goto (-39), 3) := dk_167 255 217 (dk_at dksX12_isOfForm_2 5 rfl rfl)
theorem dX12_isOfForm_54 : decode cX12_isOfForm 54 = .ok (.iload_n 2, 1) := dk_28 (dk_at dksX12_isOfForm_2 8 rfl rfl)
theorem dX12_isOfForm_55 : decode cX12_isOfForm 55 = .ok (.ifCond .eq 16, 3) := dk_153 0 16 (dk_at dksX12_isOfForm_2 9 rfl rfl)
theorem dX12_isOfForm_58 : decode cX12_isOfForm 58 = .ok (.aload_n 0, 1) := dk_42 (dk_at dksX12_isOfForm_2 12 rfl rfl)
theorem dX12_isOfForm_59 : decode cX12_isOfForm 59 = .ok (.bipush 59, 2) := dk_16 59 (dk_at dksX12_isOfForm_2 13 rfl rfl)
theorem dX12_isOfForm_61 : decode cX12_isOfForm 61 = .ok (.invokevirtual 57, 3) := dk_182 0 57 (dk_at dksX12_isOfForm_2 15 rfl rfl)
theorem dX12_isOfForm_64 : decode cX12_isOfForm 64 = .ok (.ifCond .eq 7, 3) := dk_153 0 7 (dk_at dksX12_isOfForm_2 18 rfl rfl)
theorem dX12_isOfForm_67 : decode cX12_isOfForm 67 = .ok (.iconst 1, 1) := dk_4 (dk_at dksX12_isOfForm_2 21 rfl rfl)
theorem dX12_isOfForm_68 : decode cX12_isOfForm 68 = .ok (.goto 4, 3) := dk_167 0 4 (dk_at dksX12_isOfForm_3 0 rfl rfl)
theorem dX12_isOfForm_71 : decode cX12_isOfForm 71 = .ok (.iconst 0, 1) := dk_3 (dk_at dksX12_isOfForm_3 3 rfl rfl)
theorem dX12_isOfForm_72 : decode cX12_isOfForm 72 = .ok (.ireturn, 1) := dk_172 (dk_at dksX12_isOfForm_3 4 rfl rfl)
abbrev cX12_accepts : ByteArray := prog_9_method_2_code
def yX12_accepts : MethodName := ⟨RX12, "accepts", "(C)Z"⟩
def dkwX12_accepts_2 : List UInt8 := [153, 0, 7, 4, 167, 0, 4, 3, 96, 181, 0, 31, 28, 172]
abbrev dktX12_accepts_2 : List UInt8 := dkwX12_accepts_2 ++ []
def dkwX12_accepts_1 : List UInt8 := [42, 180, 0, 31, 182, 0, 45, 27, 160, 0, 7, 4, 167, 0, 4, 3, 61, 42, 89, 180, 0, 31, 28]
abbrev dktX12_accepts_1 : List UInt8 := dkwX12_accepts_1 ++ dktX12_accepts_2
def dkwX12_accepts_0 : List UInt8 := [42, 180, 0, 31, 42, 180, 0, 3, 180, 0, 35, 182, 0, 39, 162, 0, 25, 42, 180, 0, 3, 180, 0, 35]
abbrev dktX12_accepts_0 : List UInt8 := dkwX12_accepts_0 ++ dktX12_accepts_1
theorem dksX12_accepts_0 : cX12_accepts.data.toList.drop 0 = dktX12_accepts_0 := by decide +kernel
theorem dksX12_accepts_1 : cX12_accepts.data.toList.drop 24 = dktX12_accepts_1 := dk_seg dksX12_accepts_0 24 rfl rfl
theorem dksX12_accepts_2 : cX12_accepts.data.toList.drop 47 = dktX12_accepts_2 := dk_seg dksX12_accepts_1 23 rfl rfl
theorem dX12_accepts_0 : decode cX12_accepts 0 = .ok (.aload_n 0, 1) := dk_42 (dk_at dksX12_accepts_0 0 rfl rfl)
theorem dX12_accepts_1 : decode cX12_accepts 1 = .ok (.getfield 31, 3) := dk_180 0 31 (dk_at dksX12_accepts_0 1 rfl rfl)
theorem dX12_accepts_4 : decode cX12_accepts 4 = .ok (.aload_n 0, 1) := dk_42 (dk_at dksX12_accepts_0 4 rfl rfl)
theorem dX12_accepts_5 : decode cX12_accepts 5 = .ok (.getfield 3, 3) := dk_180 0 3 (dk_at dksX12_accepts_0 5 rfl rfl)
theorem dX12_accepts_8 : decode cX12_accepts 8 = .ok (.getfield 35, 3) := dk_180 0 35 (dk_at dksX12_accepts_0 8 rfl rfl)
theorem dX12_accepts_11 : decode cX12_accepts 11 = .ok (.invokevirtual 39, 3) := dk_182 0 39 (dk_at dksX12_accepts_0 11 rfl rfl)
theorem dX12_accepts_14 : decode cX12_accepts 14 = .ok (.if_icmp .ge 25, 3) := dk_162 0 25 (dk_at dksX12_accepts_0 14 rfl rfl)
theorem dX12_accepts_17 : decode cX12_accepts 17 = .ok (.aload_n 0, 1) := dk_42 (dk_at dksX12_accepts_0 17 rfl rfl)
theorem dX12_accepts_18 : decode cX12_accepts 18 = .ok (.getfield 3, 3) := dk_180 0 3 (dk_at dksX12_accepts_0 18 rfl rfl)
theorem dX12_accepts_21 : decode cX12_accepts 21 = .ok (.getfield 35, 3) := dk_180 0 35 (dk_at dksX12_accepts_0 21 rfl rfl)
theorem dX12_accepts_24 : decode cX12_accepts 24 = .ok (.aload_n 0, 1) := dk_42 (dk_at dksX12_accepts_1 0 rfl rfl)
theorem dX12_accepts_25 : decode cX12_accepts 25 = .ok (.getfield 31, 3) := dk_180 0 31 (dk_at dksX12_accepts_1 1 rfl rfl)
theorem dX12_accepts_28 : decode cX12_accepts 28 = .ok (.invokevirtual 45, 3) := dk_182 0 45 (dk_at dksX12_accepts_1 4 rfl rfl)
theorem dX12_accepts_31 : decode cX12_accepts 31 = .ok (.iload_n 1, 1) := dk_27 (dk_at dksX12_accepts_1 7 rfl rfl)
theorem dX12_accepts_32 : decode cX12_accepts 32 = .ok (.if_icmp .ne 7, 3) := dk_160 0 7 (dk_at dksX12_accepts_1 8 rfl rfl)
theorem dX12_accepts_35 : decode cX12_accepts 35 = .ok (.iconst 1, 1) := dk_4 (dk_at dksX12_accepts_1 11 rfl rfl)
theorem dX12_accepts_36 : decode cX12_accepts 36 = .ok (.goto 4, 3) := dk_167 0 4 (dk_at dksX12_accepts_1 12 rfl rfl)
theorem dX12_accepts_39 : decode cX12_accepts 39 = .ok (.iconst 0, 1) := dk_3 (dk_at dksX12_accepts_1 15 rfl rfl)
theorem dX12_accepts_40 : decode cX12_accepts 40 = .ok (.istore_n 2, 1) := dk_61 (dk_at dksX12_accepts_1 16 rfl rfl)
theorem dX12_accepts_41 : decode cX12_accepts 41 = .ok (.aload_n 0, 1) := dk_42 (dk_at dksX12_accepts_1 17 rfl rfl)
theorem dX12_accepts_42 : decode cX12_accepts 42 = .ok (.dup, 1) := dk_89 (dk_at dksX12_accepts_1 18 rfl rfl)
theorem dX12_accepts_43 : decode cX12_accepts 43 = .ok (.getfield 31, 3) := dk_180 0 31 (dk_at dksX12_accepts_1 19 rfl rfl)
theorem dX12_accepts_46 : decode cX12_accepts 46 = .ok (.iload_n 2, 1) := dk_28 (dk_at dksX12_accepts_1 22 rfl rfl)
theorem dX12_accepts_47 : decode cX12_accepts 47 = .ok (.ifCond .eq 7, 3) := dk_153 0 7 (dk_at dksX12_accepts_2 0 rfl rfl)
theorem dX12_accepts_50 : decode cX12_accepts 50 = .ok (.iconst 1, 1) := dk_4 (dk_at dksX12_accepts_2 3 rfl rfl)
theorem dX12_accepts_51 : decode cX12_accepts 51 = .ok (.goto 4, 3) := dk_167 0 4 (dk_at dksX12_accepts_2 4 rfl rfl)
theorem dX12_accepts_54 : decode cX12_accepts 54 = .ok (.iconst 0, 1) := dk_3 (dk_at dksX12_accepts_2 7 rfl rfl)
theorem dX12_accepts_55 : decode cX12_accepts 55 = .ok (.iadd, 1) := dk_96 (dk_at dksX12_accepts_2 8 rfl rfl)
theorem dX12_accepts_56 : decode cX12_accepts 56 = .ok (.putfield 31, 3) := dk_181 0 31 (dk_at dksX12_accepts_2 9 rfl rfl)
theorem dX12_accepts_59 : decode cX12_accepts 59 = .ok (.iload_n 2, 1) := dk_28 (dk_at dksX12_accepts_2 12 rfl rfl)
theorem dX12_accepts_60 : decode cX12_accepts 60 = .ok (.ireturn, 1) := dk_172 (dk_at dksX12_accepts_2 13 rfl rfl)
abbrev cX12_reads : ByteArray := prog_9_method_3_code
def yX12_reads : MethodName := ⟨RX12, "reads", "(I)Z"⟩
def dkwX12_reads_4 : List UInt8 := [42, 89, 180, 0, 31, 4, 96, 181, 0, 31, 167, 255, 161, 28, 158, 0, 7, 4, 167, 0, 4, 3, 172]
abbrev dktX12_reads_4 : List UInt8 := dkwX12_reads_4 ++ []
def dkwX12_reads_3 : List UInt8 := [46, 104, 42, 180, 0, 3, 180, 0, 35, 42, 180, 0, 31, 182, 0, 45, 96, 16, 48, 100, 79, 132, 2, 1]
abbrev dktX12_reads_3 : List UInt8 := dkwX12_reads_3 ++ dktX12_reads_4
def dkwX12_reads_2 : List UInt8 := [20, 0, 49, 20, 0, 51, 184, 0, 53, 153, 0, 52, 42, 180, 0, 27, 27, 16, 10, 42, 180, 0, 27, 27]
abbrev dktX12_reads_2 : List UInt8 := dkwX12_reads_2 ++ dktX12_reads_3
def dkwX12_reads_1 : List UInt8 := [180, 0, 35, 182, 0, 39, 162, 0, 79, 42, 180, 0, 3, 180, 0, 35, 42, 180, 0, 31, 182, 0, 45, 133]
abbrev dktX12_reads_1 : List UInt8 := dkwX12_reads_1 ++ dktX12_reads_2
def dkwX12_reads_0 : List UInt8 := [3, 61, 42, 180, 0, 27, 27, 3, 79, 28, 6, 162, 0, 96, 42, 180, 0, 31, 42, 180, 0, 3]
abbrev dktX12_reads_0 : List UInt8 := dkwX12_reads_0 ++ dktX12_reads_1
theorem dksX12_reads_0 : cX12_reads.data.toList.drop 0 = dktX12_reads_0 := by decide +kernel
theorem dksX12_reads_1 : cX12_reads.data.toList.drop 22 = dktX12_reads_1 := dk_seg dksX12_reads_0 22 rfl rfl
theorem dksX12_reads_2 : cX12_reads.data.toList.drop 46 = dktX12_reads_2 := dk_seg dksX12_reads_1 24 rfl rfl
theorem dksX12_reads_3 : cX12_reads.data.toList.drop 70 = dktX12_reads_3 := dk_seg dksX12_reads_2 24 rfl rfl
theorem dksX12_reads_4 : cX12_reads.data.toList.drop 94 = dktX12_reads_4 := dk_seg dksX12_reads_3 24 rfl rfl
theorem dX12_reads_0 : decode cX12_reads 0 = .ok (.iconst 0, 1) := dk_3 (dk_at dksX12_reads_0 0 rfl rfl)
theorem dX12_reads_1 : decode cX12_reads 1 = .ok (.istore_n 2, 1) := dk_61 (dk_at dksX12_reads_0 1 rfl rfl)
theorem dX12_reads_2 : decode cX12_reads 2 = .ok (.aload_n 0, 1) := dk_42 (dk_at dksX12_reads_0 2 rfl rfl)
theorem dX12_reads_3 : decode cX12_reads 3 = .ok (.getfield 27, 3) := dk_180 0 27 (dk_at dksX12_reads_0 3 rfl rfl)
theorem dX12_reads_6 : decode cX12_reads 6 = .ok (.iload_n 1, 1) := dk_27 (dk_at dksX12_reads_0 6 rfl rfl)
theorem dX12_reads_7 : decode cX12_reads 7 = .ok (.iconst 0, 1) := dk_3 (dk_at dksX12_reads_0 7 rfl rfl)
theorem dX12_reads_8 : decode cX12_reads 8 = .ok (.iastore, 1) := dk_79 (dk_at dksX12_reads_0 8 rfl rfl)
theorem dX12_reads_9 : decode cX12_reads 9 = .ok (.iload_n 2, 1) := dk_28 (dk_at dksX12_reads_0 9 rfl rfl)
theorem dX12_reads_10 : decode cX12_reads 10 = .ok (.iconst 3, 1) := dk_6 (dk_at dksX12_reads_0 10 rfl rfl)
theorem dX12_reads_11 : decode cX12_reads 11 = .ok (.if_icmp .ge 96, 3) := dk_162 0 96 (dk_at dksX12_reads_0 11 rfl rfl)
theorem dX12_reads_14 : decode cX12_reads 14 = .ok (.aload_n 0, 1) := dk_42 (dk_at dksX12_reads_0 14 rfl rfl)
theorem dX12_reads_15 : decode cX12_reads 15 = .ok (.getfield 31, 3) := dk_180 0 31 (dk_at dksX12_reads_0 15 rfl rfl)
theorem dX12_reads_18 : decode cX12_reads 18 = .ok (.aload_n 0, 1) := dk_42 (dk_at dksX12_reads_0 18 rfl rfl)
theorem dX12_reads_19 : decode cX12_reads 19 = .ok (.getfield 3, 3) := dk_180 0 3 (dk_at dksX12_reads_0 19 rfl rfl)
theorem dX12_reads_22 : decode cX12_reads 22 = .ok (.getfield 35, 3) := dk_180 0 35 (dk_at dksX12_reads_1 0 rfl rfl)
theorem dX12_reads_25 : decode cX12_reads 25 = .ok (.invokevirtual 39, 3) := dk_182 0 39 (dk_at dksX12_reads_1 3 rfl rfl)
theorem dX12_reads_28 : decode cX12_reads 28 = .ok (.if_icmp .ge 79, 3) := dk_162 0 79 (dk_at dksX12_reads_1 6 rfl rfl)
theorem dX12_reads_31 : decode cX12_reads 31 = .ok (.aload_n 0, 1) := dk_42 (dk_at dksX12_reads_1 9 rfl rfl)
theorem dX12_reads_32 : decode cX12_reads 32 = .ok (.getfield 3, 3) := dk_180 0 3 (dk_at dksX12_reads_1 10 rfl rfl)
theorem dX12_reads_35 : decode cX12_reads 35 = .ok (.getfield 35, 3) := dk_180 0 35 (dk_at dksX12_reads_1 13 rfl rfl)
theorem dX12_reads_38 : decode cX12_reads 38 = .ok (.aload_n 0, 1) := dk_42 (dk_at dksX12_reads_1 16 rfl rfl)
theorem dX12_reads_39 : decode cX12_reads 39 = .ok (.getfield 31, 3) := dk_180 0 31 (dk_at dksX12_reads_1 17 rfl rfl)
theorem dX12_reads_42 : decode cX12_reads 42 = .ok (.invokevirtual 45, 3) := dk_182 0 45 (dk_at dksX12_reads_1 20 rfl rfl)
theorem dX12_reads_45 : decode cX12_reads 45 = .ok (.i2l, 1) := dk_133 (dk_at dksX12_reads_1 23 rfl rfl)
theorem dX12_reads_46 : decode cX12_reads 46 = .ok (.ldc2_w 49, 3) := dk_20 0 49 (dk_at dksX12_reads_2 0 rfl rfl)
theorem dX12_reads_49 : decode cX12_reads 49 = .ok (.ldc2_w 51, 3) := dk_20 0 51 (dk_at dksX12_reads_2 3 rfl rfl)
theorem dX12_reads_52 : decode cX12_reads 52 = .ok (.invokestatic 53, 3) := dk_184 0 53 (dk_at dksX12_reads_2 6 rfl rfl)
theorem dX12_reads_55 : decode cX12_reads 55 = .ok (.ifCond .eq 52, 3) := dk_153 0 52 (dk_at dksX12_reads_2 9 rfl rfl)
theorem dX12_reads_58 : decode cX12_reads 58 = .ok (.aload_n 0, 1) := dk_42 (dk_at dksX12_reads_2 12 rfl rfl)
theorem dX12_reads_59 : decode cX12_reads 59 = .ok (.getfield 27, 3) := dk_180 0 27 (dk_at dksX12_reads_2 13 rfl rfl)
theorem dX12_reads_62 : decode cX12_reads 62 = .ok (.iload_n 1, 1) := dk_27 (dk_at dksX12_reads_2 16 rfl rfl)
theorem dX12_reads_63 : decode cX12_reads 63 = .ok (.bipush 10, 2) := dk_16 10 (dk_at dksX12_reads_2 17 rfl rfl)
theorem dX12_reads_65 : decode cX12_reads 65 = .ok (.aload_n 0, 1) := dk_42 (dk_at dksX12_reads_2 19 rfl rfl)
theorem dX12_reads_66 : decode cX12_reads 66 = .ok (.getfield 27, 3) := dk_180 0 27 (dk_at dksX12_reads_2 20 rfl rfl)
theorem dX12_reads_69 : decode cX12_reads 69 = .ok (.iload_n 1, 1) := dk_27 (dk_at dksX12_reads_2 23 rfl rfl)
theorem dX12_reads_70 : decode cX12_reads 70 = .ok (.iaload, 1) := dk_46 (dk_at dksX12_reads_3 0 rfl rfl)
theorem dX12_reads_71 : decode cX12_reads 71 = .ok (.imul, 1) := dk_104 (dk_at dksX12_reads_3 1 rfl rfl)
theorem dX12_reads_72 : decode cX12_reads 72 = .ok (.aload_n 0, 1) := dk_42 (dk_at dksX12_reads_3 2 rfl rfl)
theorem dX12_reads_73 : decode cX12_reads 73 = .ok (.getfield 3, 3) := dk_180 0 3 (dk_at dksX12_reads_3 3 rfl rfl)
theorem dX12_reads_76 : decode cX12_reads 76 = .ok (.getfield 35, 3) := dk_180 0 35 (dk_at dksX12_reads_3 6 rfl rfl)
theorem dX12_reads_79 : decode cX12_reads 79 = .ok (.aload_n 0, 1) := dk_42 (dk_at dksX12_reads_3 9 rfl rfl)
theorem dX12_reads_80 : decode cX12_reads 80 = .ok (.getfield 31, 3) := dk_180 0 31 (dk_at dksX12_reads_3 10 rfl rfl)
theorem dX12_reads_83 : decode cX12_reads 83 = .ok (.invokevirtual 45, 3) := dk_182 0 45 (dk_at dksX12_reads_3 13 rfl rfl)
theorem dX12_reads_86 : decode cX12_reads 86 = .ok (.iadd, 1) := dk_96 (dk_at dksX12_reads_3 16 rfl rfl)
theorem dX12_reads_87 : decode cX12_reads 87 = .ok (.bipush 48, 2) := dk_16 48 (dk_at dksX12_reads_3 17 rfl rfl)
theorem dX12_reads_89 : decode cX12_reads 89 = .ok (.isub, 1) := dk_100 (dk_at dksX12_reads_3 19 rfl rfl)
theorem dX12_reads_90 : decode cX12_reads 90 = .ok (.iastore, 1) := dk_79 (dk_at dksX12_reads_3 20 rfl rfl)
theorem dX12_reads_91 : decode cX12_reads 91 = .ok (.iinc 2 1, 3) := dk_132 2 1 (dk_at dksX12_reads_3 21 rfl rfl)
theorem dX12_reads_94 : decode cX12_reads 94 = .ok (.aload_n 0, 1) := dk_42 (dk_at dksX12_reads_4 0 rfl rfl)
theorem dX12_reads_95 : decode cX12_reads 95 = .ok (.dup, 1) := dk_89 (dk_at dksX12_reads_4 1 rfl rfl)
theorem dX12_reads_96 : decode cX12_reads 96 = .ok (.getfield 31, 3) := dk_180 0 31 (dk_at dksX12_reads_4 2 rfl rfl)
theorem dX12_reads_99 : decode cX12_reads 99 = .ok (.iconst 1, 1) := dk_4 (dk_at dksX12_reads_4 5 rfl rfl)
theorem dX12_reads_100 : decode cX12_reads 100 = .ok (.iadd, 1) := dk_96 (dk_at dksX12_reads_4 6 rfl rfl)
theorem dX12_reads_101 : decode cX12_reads 101 = .ok (.putfield 31, 3) := dk_181 0 31 (dk_at dksX12_reads_4 7 rfl rfl)
theorem dX12_reads_104 : decode cX12_reads 104 = .ok (.goto (-95), 3) := dk_167 255 161 (dk_at dksX12_reads_4 10 rfl rfl)
theorem dX12_reads_107 : decode cX12_reads 107 = .ok (.iload_n 2, 1) := dk_28 (dk_at dksX12_reads_4 13 rfl rfl)
theorem dX12_reads_108 : decode cX12_reads 108 = .ok (.ifCond .le 7, 3) := dk_158 0 7 (dk_at dksX12_reads_4 14 rfl rfl)
theorem dX12_reads_111 : decode cX12_reads 111 = .ok (.iconst 1, 1) := dk_4 (dk_at dksX12_reads_4 17 rfl rfl)
theorem dX12_reads_112 : decode cX12_reads 112 = .ok (.goto 4, 3) := dk_167 0 4 (dk_at dksX12_reads_4 18 rfl rfl)
theorem dX12_reads_115 : decode cX12_reads 115 = .ok (.iconst 0, 1) := dk_3 (dk_at dksX12_reads_4 21 rfl rfl)
theorem dX12_reads_116 : decode cX12_reads 116 = .ok (.ireturn, 1) := dk_172 (dk_at dksX12_reads_4 22 rfl rfl)
theorem q91 : (Jvm.Cond.initialized "EggLights$Reader") ∈ lw_all := lw_g (lw_at lw_m1 43 rfl) rfl
theorem q245 : (Jvm.Cond.selects "EggLights$Reader" ({ cls := "java/lang/Object", name := "getClass", desc := "()Ljava/lang/Class;" } : Jvm.MethodName) ({ cls := "java/lang/Object", name := "getClass", desc := "()Ljava/lang/Class;" } : Jvm.MethodName)) ∈ lw_all := lw_g (lw_at lw_m1 197 rfl) rfl
theorem q398 : (Jvm.Cond.fieldLinkNest "EggLights$Reader" (17 : Nat) "EggLights" "machine" "LEggLights$Machine;" "EggLights") ∈ lw_tbl := lw_at lw_m2 110 rfl
theorem q401 : (Jvm.Cond.fieldLinkNest "EggLights$Reader" (35 : Nat) "EggLights" "text" "Ljava/lang/StringBuilder;" "EggLights") ∈ lw_tbl := lw_at lw_m2 113 rfl
theorem q1023 : (Jvm.Cond.fieldLinkNest "EggLights$Reader" (96 : Nat) "EggLights$Refused" "code" "I" "EggLights") ∈ lw_tbl := lw_at lw_m5 15 rfl
theorem q1533 : (Jvm.Cond.instantiable "EggLights$Reader" (8 : Nat)) ∈ lw_all := lw_g (lw_at lw_m7 45 rfl) rfl
theorem q1535 : (Jvm.Cond.instanceMethod ({ cls := "EggLights$Reader", name := "<init>", desc := "(LEggLights;)V" } : Jvm.MethodName)) ∈ lw_all := lw_g (lw_at lw_m7 47 rfl) rfl
theorem q1536 : (Jvm.Cond.code ({ cls := "EggLights$Reader", name := "<init>", desc := "(LEggLights;)V" } : Jvm.MethodName) prog_9_method_1_code (2 : Nat) (Option.none : Option Jvm.ClassFile.FieldType)) ∈ lw_all := lw_g (lw_at lw_m7 48 rfl) rfl
theorem q1537 : (Jvm.Cond.methodLink "EggLights$Reader" (9 : Nat) ({ cls := "java/lang/Object", name := "<init>", desc := "()V" } : Jvm.MethodName)) ∈ lw_all := lw_g (lw_at lw_m7 49 rfl) rfl
theorem q1538 : (Jvm.Cond.classLink "EggLights$Reader" (15 : Nat) "EggLights$Machine") ∈ lw_all := lw_g (lw_at lw_m7 50 rfl) rfl
theorem q1539 : (Jvm.Cond.methodLink "EggLights$Reader" (21 : Nat) ({ cls := "EggLights$Machine", name := "<init>", desc := "(LEggLights$Machine;)V" } : Jvm.MethodName)) ∈ lw_all := lw_g (lw_at lw_m7 51 rfl) rfl
theorem q1540 : (Jvm.Cond.fieldLink "EggLights$Reader" (24 : Nat) "EggLights$Reader" "trial" "LEggLights$Machine;") ∈ lw_all := lw_g (lw_at lw_m7 52 rfl) rfl
theorem q1542 : (Jvm.Cond.fieldLink "EggLights$Reader" (27 : Nat) "EggLights$Reader" "numbers" "[I") ∈ lw_all := lw_g (lw_at lw_m7 54 rfl) rfl
theorem q1543 : (Jvm.Cond.fieldLink "EggLights$Reader" (31 : Nat) "EggLights$Reader" "at" "I") ∈ lw_all := lw_g (lw_at lw_m7 55 rfl) rfl
theorem q1544 : (Jvm.Cond.fieldLink "EggLights$Reader" (81 : Nat) "EggLights$Reader" "begins" "I") ∈ lw_all := lw_g (lw_at lw_m7 56 rfl) rfl
theorem q1546 : (Jvm.Cond.fieldLink "EggLights$Reader" (78 : Nat) "EggLights$Reader" "reason" "I") ∈ lw_all := lw_g (lw_at lw_m7 58 rfl) rfl
theorem q1548 : (Jvm.Cond.fieldLink "EggLights$Reader" (84 : Nat) "EggLights$Reader" "cause" "I") ∈ lw_all := lw_g (lw_at lw_m7 60 rfl) rfl
theorem q1550 : (Jvm.Cond.fieldLink "EggLights$Reader" (91 : Nat) "EggLights$Reader" "many" "I") ∈ lw_all := lw_g (lw_at lw_m7 62 rfl) rfl
theorem q1552 : (Jvm.Cond.fieldLink "EggLights$Reader" (3 : Nat) "EggLights$Reader" "this$0" "LEggLights;") ∈ lw_all := lw_g (lw_at lw_m7 64 rfl) rfl
theorem q1553 : (Jvm.Cond.laysFinal "EggLights$Reader" "EggLights$Reader" "trial" "LEggLights$Machine;") ∈ lw_all := lw_g (lw_at lw_m7 65 rfl) rfl
theorem q1554 : (Jvm.Cond.soleField "EggLights$Reader" "trial") ∈ lw_all := lw_g (lw_at lw_m7 66 rfl) rfl
theorem q1555 : (Jvm.Cond.laysFinal "EggLights$Reader" "EggLights$Reader" "numbers" "[I") ∈ lw_all := lw_g (lw_at lw_m7 67 rfl) rfl
theorem q1556 : (Jvm.Cond.soleField "EggLights$Reader" "numbers") ∈ lw_all := lw_g (lw_at lw_m7 68 rfl) rfl
theorem q1557 : (Jvm.Cond.lays "EggLights$Reader" "EggLights$Reader" "at" "I") ∈ lw_all := lw_g (lw_at lw_m7 69 rfl) rfl
theorem q1558 : (Jvm.Cond.soleField "EggLights$Reader" "at") ∈ lw_all := lw_g (lw_at lw_m7 70 rfl) rfl
theorem q1559 : (Jvm.Cond.lays "EggLights$Reader" "EggLights$Reader" "begins" "I") ∈ lw_all := lw_g (lw_at lw_m7 71 rfl) rfl
theorem q1560 : (Jvm.Cond.soleField "EggLights$Reader" "begins") ∈ lw_all := lw_g (lw_at lw_m7 72 rfl) rfl
theorem q1561 : (Jvm.Cond.lays "EggLights$Reader" "EggLights$Reader" "reason" "I") ∈ lw_all := lw_g (lw_at lw_m7 73 rfl) rfl
theorem q1562 : (Jvm.Cond.soleField "EggLights$Reader" "reason") ∈ lw_all := lw_g (lw_at lw_m7 74 rfl) rfl
theorem q1563 : (Jvm.Cond.lays "EggLights$Reader" "EggLights$Reader" "cause" "I") ∈ lw_all := lw_g (lw_at lw_m7 75 rfl) rfl
theorem q1564 : (Jvm.Cond.soleField "EggLights$Reader" "cause") ∈ lw_all := lw_g (lw_at lw_m7 76 rfl) rfl
theorem q1565 : (Jvm.Cond.lays "EggLights$Reader" "EggLights$Reader" "many" "I") ∈ lw_all := lw_g (lw_at lw_m7 77 rfl) rfl
theorem q1566 : (Jvm.Cond.soleField "EggLights$Reader" "many") ∈ lw_all := lw_g (lw_at lw_m7 78 rfl) rfl
theorem q1567 : (Jvm.Cond.laysFinal "EggLights$Reader" "EggLights$Reader" "this$0" "LEggLights;") ∈ lw_all := lw_g (lw_at lw_m7 79 rfl) rfl
theorem q1568 : (Jvm.Cond.soleField "EggLights$Reader" "this$0") ∈ lw_all := lw_g (lw_at lw_m7 80 rfl) rfl
theorem q1569 : (Jvm.Cond.superclass "EggLights$Reader" "java/lang/Object") ∈ lw_all := lw_g (lw_at lw_m7 81 rfl) rfl
theorem q1571 : (Jvm.Cond.instanceMethod ({ cls := "EggLights$Reader", name := "isWell", desc := "()Z" } : Jvm.MethodName)) ∈ lw_all := lw_g (lw_at lw_m7 83 rfl) rfl
theorem q1572 : (Jvm.Cond.selects "EggLights$Reader" ({ cls := "EggLights$Reader", name := "isWell", desc := "()Z" } : Jvm.MethodName) ({ cls := "EggLights$Reader", name := "isWell", desc := "()Z" } : Jvm.MethodName)) ∈ lw_all := lw_g (lw_at lw_m7 84 rfl) rfl
theorem q1573 : (Jvm.Cond.code ({ cls := "EggLights$Reader", name := "isWell", desc := "()Z" } : Jvm.MethodName) prog_9_method_6_code (1 : Nat) (Option.some Jvm.ClassFile.FieldType.boolean)) ∈ lw_all := lw_g (lw_at lw_m7 85 rfl) rfl
theorem q1574 : (Jvm.Cond.methodLink "EggLights$Reader" (39 : Nat) ({ cls := "java/lang/StringBuilder", name := "length", desc := "()I" } : Jvm.MethodName)) ∈ lw_all := lw_g (lw_at lw_m7 86 rfl) rfl
theorem q1575 : (Jvm.Cond.methodLink "EggLights$Reader" (99 : Nat) ({ cls := "EggLights$Reader", name := "one", desc := "()V" } : Jvm.MethodName)) ∈ lw_all := lw_g (lw_at lw_m7 87 rfl) rfl
theorem q1576 : (Jvm.Cond.privateMethod ({ cls := "EggLights$Reader", name := "one", desc := "()V" } : Jvm.MethodName)) ∈ lw_tbl := lw_at lw_m7 88 rfl
theorem q1577 : (Jvm.Cond.instanceMethod ({ cls := "EggLights$Reader", name := "one", desc := "()V" } : Jvm.MethodName)) ∈ lw_all := lw_g (lw_at lw_m7 89 rfl) rfl
theorem q1578 : (Jvm.Cond.codeWith ({ cls := "EggLights$Reader", name := "one", desc := "()V" } : Jvm.MethodName) prog_9_method_5_code (4 : Nat) (Option.none : Option Jvm.ClassFile.FieldType) [((98 : Nat), (121 : Nat), (124 : Nat), (94 : Nat))]) ∈ lw_all := lw_g (lw_at lw_m7 90 rfl) rfl
theorem q1579 : (Jvm.Cond.classLink "EggLights$Reader" (94 : Nat) "EggLights$Refused") ∈ lw_all := lw_g (lw_at lw_m7 91 rfl) rfl
theorem q1580 : (Jvm.Cond.methodLink "EggLights$Reader" (45 : Nat) ({ cls := "java/lang/StringBuilder", name := "charAt", desc := "(I)C" } : Jvm.MethodName)) ∈ lw_all := lw_g (lw_at lw_m7 92 rfl) rfl
theorem q1590 : (Jvm.Cond.stringRef "EggLights$Reader" (65 : Nat) "slt") ∈ lw_tbl := lw_at lw_m7 102 rfl
theorem q1591 : (Jvm.Cond.methodLink "EggLights$Reader" (67 : Nat) ({ cls := "java/lang/String", name := "indexOf", desc := "(I)I" } : Jvm.MethodName)) ∈ lw_all := lw_g (lw_at lw_m7 103 rfl) rfl
theorem q1641 : (Jvm.Cond.stringRef "EggLights$Reader" (73 : Nat) "cr") ∈ lw_tbl := lw_at lw_m7 153 rfl
theorem q1642 : (Jvm.Cond.methodLink "EggLights$Reader" (75 : Nat) ({ cls := "EggLights$Reader", name := "isOfForm", desc := "(I)Z" } : Jvm.MethodName)) ∈ lw_all := lw_g (lw_at lw_m7 154 rfl) rfl
theorem q1643 : (Jvm.Cond.privateMethod ({ cls := "EggLights$Reader", name := "isOfForm", desc := "(I)Z" } : Jvm.MethodName)) ∈ lw_tbl := lw_at lw_m7 155 rfl
theorem q1644 : (Jvm.Cond.instanceMethod ({ cls := "EggLights$Reader", name := "isOfForm", desc := "(I)Z" } : Jvm.MethodName)) ∈ lw_all := lw_g (lw_at lw_m7 156 rfl) rfl
theorem q1645 : (Jvm.Cond.code ({ cls := "EggLights$Reader", name := "isOfForm", desc := "(I)Z" } : Jvm.MethodName) prog_9_method_4_code (4 : Nat) (Option.some Jvm.ClassFile.FieldType.boolean)) ∈ lw_all := lw_g (lw_at lw_m7 157 rfl) rfl
theorem q1646 : (Jvm.Cond.methodLink "EggLights$Reader" (57 : Nat) ({ cls := "EggLights$Reader", name := "accepts", desc := "(C)Z" } : Jvm.MethodName)) ∈ lw_all := lw_g (lw_at lw_m7 158 rfl) rfl
theorem q1647 : (Jvm.Cond.privateMethod ({ cls := "EggLights$Reader", name := "accepts", desc := "(C)Z" } : Jvm.MethodName)) ∈ lw_tbl := lw_at lw_m7 159 rfl
theorem q1648 : (Jvm.Cond.instanceMethod ({ cls := "EggLights$Reader", name := "accepts", desc := "(C)Z" } : Jvm.MethodName)) ∈ lw_all := lw_g (lw_at lw_m7 160 rfl) rfl
theorem q1649 : (Jvm.Cond.code ({ cls := "EggLights$Reader", name := "accepts", desc := "(C)Z" } : Jvm.MethodName) prog_9_method_2_code (3 : Nat) (Option.some Jvm.ClassFile.FieldType.boolean)) ∈ lw_all := lw_g (lw_at lw_m7 161 rfl) rfl
theorem q1650 : (Jvm.Cond.methodLink "EggLights$Reader" (61 : Nat) ({ cls := "EggLights$Reader", name := "reads", desc := "(I)Z" } : Jvm.MethodName)) ∈ lw_all := lw_g (lw_at lw_m7 162 rfl) rfl
theorem q1651 : (Jvm.Cond.privateMethod ({ cls := "EggLights$Reader", name := "reads", desc := "(I)Z" } : Jvm.MethodName)) ∈ lw_tbl := lw_at lw_m7 163 rfl
theorem q1652 : (Jvm.Cond.instanceMethod ({ cls := "EggLights$Reader", name := "reads", desc := "(I)Z" } : Jvm.MethodName)) ∈ lw_all := lw_g (lw_at lw_m7 164 rfl) rfl
theorem q1653 : (Jvm.Cond.code ({ cls := "EggLights$Reader", name := "reads", desc := "(I)Z" } : Jvm.MethodName) prog_9_method_3_code (3 : Nat) (Option.some Jvm.ClassFile.FieldType.boolean)) ∈ lw_all := lw_g (lw_at lw_m7 165 rfl) rfl
theorem q1654 : (Jvm.Cond.constantLong "EggLights$Reader" (49 : Nat) (48 : Int64)) ∈ lw_all := lw_g (lw_at lw_m7 166 rfl) rfl
theorem q1655 : (Jvm.Cond.constantLong "EggLights$Reader" (51 : Nat) (57 : Int64)) ∈ lw_all := lw_g (lw_at lw_m7 167 rfl) rfl
theorem q1656 : (Jvm.Cond.methodLinkNest "EggLights$Reader" (53 : Nat) ({ cls := "EggLights", name := "isBetween", desc := "(JJJ)Z" } : Jvm.MethodName) "EggLights") ∈ lw_tbl := lw_at lw_m7 168 rfl
theorem q1657 : (Jvm.Cond.methodLinkNest "EggLights$Reader" (87 : Nat) ({ cls := "EggLights", name := "done", desc := "(LEggLights$Machine;C[I)I" } : Jvm.MethodName) "EggLights") ∈ lw_tbl := lw_at lw_m7 169 rfl
theorem q1981 : (Jvm.Cond.castable "EggLights$Reader" "java/lang/Object") ∈ lw_tbl := lw_at lw_m9 13 rfl
theorem in_X12 : ∀ w ∈ wsX120, w ∈ lw_all := lw_in wsX120 [1553, 1555, 1557, 1559, 1561, 1563, 1565, 1567] (by decide +kernel) (by decide +kernel)
