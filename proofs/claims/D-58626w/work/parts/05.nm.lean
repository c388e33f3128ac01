/-! EggLightsModel -/
set_option maxRecDepth 100000
def RX4 : String := "EggLightsModel"
def TX4 : u_T := fun k => match k with
  | 0 => ("EggLightsModel", "s", "[I", true)
  | 1 => ("EggLightsModel", "past", "[I", true)
  | 2 => ("EggLightsModel", "held", "[I", true)
  | 3 => ("EggLightsModel", "spare", "[I", true)
  | 4 => ("EggLightsModel", "pasts", "I", false)
  | 5 => ("EggLightsModel", "runs", "Z", false)
  | 6 => ("EggLightsModel", "text", "[I", true)
  | 7 => ("EggLightsModel", "typed", "I", false)
  | 8 => ("EggLightsModel", "spot", "I", false)
  | 9 => ("EggLightsModel", "from", "I", false)
  | 10 => ("EggLightsModel", "reason", "I", false)
  | 11 => ("EggLightsModel", "cause", "I", false)
  | 12 => ("EggLightsModel", "orders", "I", false)
  | 13 => ("EggLightsModel", "order", "I", false)
  | _ => ("EggLightsModel", "numbers", "[I", true)
def tyX4 : Nat → FieldType := fun k => match k with
  | 0 => .array .int
  | 1 => .array .int
  | 2 => .array .int
  | 3 => .array .int
  | 4 => .int
  | 5 => .boolean
  | 6 => .array .int
  | 7 => .int
  | 8 => .int
  | 9 => .int
  | 10 => .int
  | 11 => .int
  | 12 => .int
  | 13 => .int
  | _ => .array .int
abbrev wsX40 : List Cond := u_ws RX4 TX4 15
set_option maxRecDepth 100000 in
theorem nmX4 : ∀ a, a < 15 → ∀ b, b < 15 → a ≠ b → (TX4 a).2.1 ≠ (TX4 b).2.1 := by decide +kernel
set_option maxRecDepth 100000 in
theorem tyX4_ok : ∀ k, k < 15 → parseFieldDescriptor (TX4 k).2.2.1 = some (tyX4 k) := by decide +kernel
abbrev cX4_init : ByteArray := prog_14_method_1_code
def yX4_init : MethodName := ⟨RX4, "<init>", "()V"⟩
def dkwX4_init_5 : List UInt8 := [180, 0, 7, 17, 1, 53, 6, 79, 42, 180, 0, 7, 17, 1, 54, 4, 79, 177]
abbrev dktX4_init_5 : List UInt8 := dkwX4_init_5 ++ []
def dkwX4_init_4 : List UInt8 := [167, 255, 223, 42, 180, 0, 7, 17, 1, 51, 7, 79, 42, 180, 0, 7, 17, 1, 52, 5, 79, 42]
abbrev dktX4_init_4 : List UInt8 := dkwX4_init_4 ++ dktX4_init_5
def dkwX4_init_3 : List UInt8 := [184, 0, 28, 4, 96, 16, 50, 79, 42, 180, 0, 7, 27, 184, 0, 28, 5, 96, 4, 79, 132, 1, 1]
abbrev dktX4_init_3 : List UInt8 := dkwX4_init_3 ++ dktX4_init_4
def dkwX4_init_2 : List UInt8 := [181, 0, 22, 42, 6, 188, 10, 181, 0, 25, 3, 60, 27, 7, 162, 0, 34, 42, 180, 0, 7, 27]
abbrev dktX4_init_2 : List UInt8 := dkwX4_init_2 ++ dktX4_init_3
def dkwX4_init_1 : List UInt8 := [17, 1, 55, 188, 10, 181, 0, 16, 42, 17, 1, 55, 188, 10, 181, 0, 19, 42, 16, 60, 188, 10]
abbrev dktX4_init_1 : List UInt8 := dkwX4_init_1 ++ dktX4_init_2
def dkwX4_init_0 : List UInt8 := [42, 183, 0, 1, 42, 17, 1, 55, 188, 10, 181, 0, 7, 42, 17, 4, 220, 188, 10, 181, 0, 13, 42]
abbrev dktX4_init_0 : List UInt8 := dkwX4_init_0 ++ dktX4_init_1
theorem dksX4_init_0 : cX4_init.data.toList.drop 0 = dktX4_init_0 := by decide +kernel
theorem dksX4_init_1 : cX4_init.data.toList.drop 23 = dktX4_init_1 := dk_seg dksX4_init_0 23 rfl rfl
theorem dksX4_init_2 : cX4_init.data.toList.drop 45 = dktX4_init_2 := dk_seg dksX4_init_1 22 rfl rfl
theorem dksX4_init_3 : cX4_init.data.toList.drop 67 = dktX4_init_3 := dk_seg dksX4_init_2 22 rfl rfl
theorem dksX4_init_4 : cX4_init.data.toList.drop 90 = dktX4_init_4 := dk_seg dksX4_init_3 23 rfl rfl
theorem dksX4_init_5 : cX4_init.data.toList.drop 112 = dktX4_init_5 := dk_seg dksX4_init_4 22 rfl rfl
theorem dX4_init_0 : decode cX4_init 0 = .ok (.aload_n 0, 1) := dk_42 (dk_at dksX4_init_0 0 rfl rfl)
theorem dX4_init_1 : decode cX4_init 1 = .ok (.invokespecial 1, 3) := dk_183 0 1 (dk_at dksX4_init_0 1 rfl rfl)
theorem dX4_init_4 : decode cX4_init 4 = .ok (.aload_n 0, 1) := dk_42 (dk_at dksX4_init_0 4 rfl rfl)
theorem dX4_init_5 : decode cX4_init 5 = .ok (.sipush 311, 3) := dk_17 1 55 (dk_at dksX4_init_0 5 rfl rfl)
theorem dX4_init_8 : decode cX4_init 8 = .ok (.newarray .int, 2) := dk_188_10 (dk_at dksX4_init_0 8 rfl rfl)
theorem dX4_init_10 : decode cX4_init 10 = .ok (.putfield 7, 3) := dk_181 0 7 (dk_at dksX4_init_0 10 rfl rfl)
theorem dX4_init_13 : decode cX4_init 13 = .ok (.aload_n 0, 1) := dk_42 (dk_at dksX4_init_0 13 rfl rfl)
theorem dX4_init_14 : decode cX4_init 14 = .ok (.sipush 1244, 3) := dk_17 4 220 (dk_at dksX4_init_0 14 rfl rfl)
theorem dX4_init_17 : decode cX4_init 17 = .ok (.newarray .int, 2) := dk_188_10 (dk_at dksX4_init_0 17 rfl rfl)
theorem dX4_init_19 : decode cX4_init 19 = .ok (.putfield 13, 3) := dk_181 0 13 (dk_at dksX4_init_0 19 rfl rfl)
theorem dX4_init_22 : decode cX4_init 22 = .ok (.aload_n 0, 1) := dk_42 (dk_at dksX4_init_0 22 rfl rfl)
theorem dX4_init_23 : decode cX4_init 23 = .ok (.sipush 311, 3) := dk_17 1 55 (dk_at dksX4_init_1 0 rfl rfl)
theorem dX4_init_26 : decode cX4_init 26 = .ok (.newarray .int, 2) := dk_188_10 (dk_at dksX4_init_1 3 rfl rfl)
theorem dX4_init_28 : decode cX4_init 28 = .ok (.putfield 16, 3) := dk_181 0 16 (dk_at dksX4_init_1 5 rfl rfl)
theorem dX4_init_31 : decode cX4_init 31 = .ok (.aload_n 0, 1) := dk_42 (dk_at dksX4_init_1 8 rfl rfl)
theorem dX4_init_32 : decode cX4_init 32 = .ok (.sipush 311, 3) := dk_17 1 55 (dk_at dksX4_init_1 9 rfl rfl)
theorem dX4_init_35 : decode cX4_init 35 = .ok (.newarray .int, 2) := dk_188_10 (dk_at dksX4_init_1 12 rfl rfl)
theorem dX4_init_37 : decode cX4_init 37 = .ok (.putfield 19, 3) := dk_181 0 19 (dk_at dksX4_init_1 14 rfl rfl)
theorem dX4_init_40 : decode cX4_init 40 = .ok (.aload_n 0, 1) := dk_42 (dk_at dksX4_init_1 17 rfl rfl)
theorem dX4_init_41 : decode cX4_init 41 = .ok (.bipush 60, 2) := dk_16 60 (dk_at dksX4_init_1 18 rfl rfl)
theorem dX4_init_43 : decode cX4_init 43 = .ok (.newarray .int, 2) := dk_188_10 (dk_at dksX4_init_1 20 rfl rfl)
theorem dX4_init_45 : decode cX4_init 45 = .ok (.putfield 22, 3) := dk_181 0 22 (dk_at dksX4_init_2 0 rfl rfl)
theorem dX4_init_48 : decode cX4_init 48 = .ok (.aload_n 0, 1) := dk_42 (dk_at dksX4_init_2 3 rfl rfl)
theorem dX4_init_49 : decode cX4_init 49 = .ok (.iconst 3, 1) := dk_6 (dk_at dksX4_init_2 4 rfl rfl)
theorem dX4_init_50 : decode cX4_init 50 = .ok (.newarray .int, 2) := dk_188_10 (dk_at dksX4_init_2 5 rfl rfl)
theorem dX4_init_52 : decode cX4_init 52 = .ok (.putfield 25, 3) := dk_181 0 25 (dk_at dksX4_init_2 7 rfl rfl)
theorem dX4_init_55 : decode cX4_init 55 = .ok (.iconst 0, 1) := dk_3 (dk_at dksX4_init_2 10 rfl rfl)
theorem dX4_init_56 : decode cX4_init 56 = .ok (.istore_n 1, 1) := dk_60 (dk_at dksX4_init_2 11 rfl rfl)
theorem dX4_init_57 : decode cX4_init 57 = .ok (.iload_n 1, 1) := dk_27 (dk_at dksX4_init_2 12 rfl rfl)
theorem dX4_init_58 : decode cX4_init 58 = .ok (.iconst 4, 1) := dk_7 (dk_at dksX4_init_2 13 rfl rfl)
theorem dX4_init_59 : decode cX4_init 59 = .ok (.if_icmp .ge 34, 3) := dk_162 0 34 (dk_at dksX4_init_2 14 rfl rfl)
theorem dX4_init_62 : decode cX4_init 62 = .ok (.aload_n 0, 1) := dk_42 (dk_at dksX4_init_2 17 rfl rfl)
theorem dX4_init_63 : decode cX4_init 63 = .ok (.getfield 7, 3) := dk_180 0 7 (dk_at dksX4_init_2 18 rfl rfl)
theorem dX4_init_66 : decode cX4_init 66 = .ok (.iload_n 1, 1) := dk_27 (dk_at dksX4_init_2 21 rfl rfl)
theorem dX4_init_67 : decode cX4_init 67 = .ok (.invokestatic 28, 3) := dk_184 0 28 (dk_at dksX4_init_3 0 rfl rfl)
theorem dX4_init_70 : decode cX4_init 70 = .ok (.iconst 1, 1) := dk_4 (dk_at dksX4_init_3 3 rfl rfl)
theorem dX4_init_71 : decode cX4_init 71 = .ok (.iadd, 1) := dk_96 (dk_at dksX4_init_3 4 rfl rfl)
theorem dX4_init_72 : decode cX4_init 72 = .ok (.bipush 50, 2) := dk_16 50 (dk_at dksX4_init_3 5 rfl rfl)
theorem dX4_init_74 : decode cX4_init 74 = .ok (.iastore, 1) := dk_79 (dk_at dksX4_init_3 7 rfl rfl)
theorem dX4_init_75 : decode cX4_init 75 = .ok (.aload_n 0, 1) := dk_42 (dk_at dksX4_init_3 8 rfl rfl)
theorem dX4_init_76 : decode cX4_init 76 = .ok (.getfield 7, 3) := dk_180 0 7 (dk_at dksX4_init_3 9 rfl rfl)
theorem dX4_init_79 : decode cX4_init 79 = .ok (.iload_n 1, 1) := dk_27 (dk_at dksX4_init_3 12 rfl rfl)
theorem dX4_init_80 : decode cX4_init 80 = .ok (.invokestatic 28, 3) := dk_184 0 28 (dk_at dksX4_init_3 13 rfl rfl)
theorem dX4_init_83 : decode cX4_init 83 = .ok (.iconst 2, 1) := dk_5 (dk_at dksX4_init_3 16 rfl rfl)
theorem dX4_init_84 : decode cX4_init 84 = .ok (.iadd, 1) := dk_96 (dk_at dksX4_init_3 17 rfl rfl)
theorem dX4_init_85 : decode cX4_init 85 = .ok (.iconst 1, 1) := dk_4 (dk_at dksX4_init_3 18 rfl rfl)
theorem dX4_init_86 : decode cX4_init 86 = .ok (.iastore, 1) := dk_79 (dk_at dksX4_init_3 19 rfl rfl)
theorem dX4_init_87 : decode cX4_init 87 = .ok (.iinc 1 1, 3) := dk_132 1 1 (dk_at dksX4_init_3 20 rfl rfl)
theorem dX4_init_90 : decode cX4_init 90 = .ok (.goto (-33), 3) := dk_167 255 223 (dk_at dksX4_init_4 0 rfl rfl)
theorem dX4_init_93 : decode cX4_init 93 = .ok (.aload_n 0, 1) := dk_42 (dk_at dksX4_init_4 3 rfl rfl)
theorem dX4_init_94 : decode cX4_init 94 = .ok (.getfield 7, 3) := dk_180 0 7 (dk_at dksX4_init_4 4 rfl rfl)
theorem dX4_init_97 : decode cX4_init 97 = .ok (.sipush 307, 3) := dk_17 1 51 (dk_at dksX4_init_4 7 rfl rfl)
theorem dX4_init_100 : decode cX4_init 100 = .ok (.iconst 4, 1) := dk_7 (dk_at dksX4_init_4 10 rfl rfl)
theorem dX4_init_101 : decode cX4_init 101 = .ok (.iastore, 1) := dk_79 (dk_at dksX4_init_4 11 rfl rfl)
theorem dX4_init_102 : decode cX4_init 102 = .ok (.aload_n 0, 1) := dk_42 (dk_at dksX4_init_4 12 rfl rfl)
theorem dX4_init_103 : decode cX4_init 103 = .ok (.getfield 7, 3) := dk_180 0 7 (dk_at dksX4_init_4 13 rfl rfl)
theorem dX4_init_106 : decode cX4_init 106 = .ok (.sipush 308, 3) := dk_17 1 52 (dk_at dksX4_init_4 16 rfl rfl)
theorem dX4_init_109 : decode cX4_init 109 = .ok (.iconst 2, 1) := dk_5 (dk_at dksX4_init_4 19 rfl rfl)
theorem dX4_init_110 : decode cX4_init 110 = .ok (.iastore, 1) := dk_79 (dk_at dksX4_init_4 20 rfl rfl)
theorem dX4_init_111 : decode cX4_init 111 = .ok (.aload_n 0, 1) := dk_42 (dk_at dksX4_init_4 21 rfl rfl)
theorem dX4_init_112 : decode cX4_init 112 = .ok (.getfield 7, 3) := dk_180 0 7 (dk_at dksX4_init_5 0 rfl rfl)
theorem dX4_init_115 : decode cX4_init 115 = .ok (.sipush 309, 3) := dk_17 1 53 (dk_at dksX4_init_5 3 rfl rfl)
theorem dX4_init_118 : decode cX4_init 118 = .ok (.iconst 3, 1) := dk_6 (dk_at dksX4_init_5 6 rfl rfl)
theorem dX4_init_119 : decode cX4_init 119 = .ok (.iastore, 1) := dk_79 (dk_at dksX4_init_5 7 rfl rfl)
theorem dX4_init_120 : decode cX4_init 120 = .ok (.aload_n 0, 1) := dk_42 (dk_at dksX4_init_5 8 rfl rfl)
theorem dX4_init_121 : decode cX4_init 121 = .ok (.getfield 7, 3) := dk_180 0 7 (dk_at dksX4_init_5 9 rfl rfl)
theorem dX4_init_124 : decode cX4_init 124 = .ok (.sipush 310, 3) := dk_17 1 54 (dk_at dksX4_init_5 12 rfl rfl)
theorem dX4_init_127 : decode cX4_init 127 = .ok (.iconst 1, 1) := dk_4 (dk_at dksX4_init_5 15 rfl rfl)
theorem dX4_init_128 : decode cX4_init 128 = .ok (.iastore, 1) := dk_79 (dk_at dksX4_init_5 16 rfl rfl)
theorem dX4_init_129 : decode cX4_init 129 = .ok (.return_, 1) := dk_177 (dk_at dksX4_init_5 17 rfl rfl)
abbrev cX4_laneAt : ByteArray := prog_14_method_7_code
def yX4_laneAt : MethodName := ⟨RX4, "laneAt", "(I)I"⟩
def dkwX4_laneAt_0 : List UInt8 := [17, 0, 192, 16, 6, 26, 104, 96, 172]
abbrev dktX4_laneAt_0 : List UInt8 := dkwX4_laneAt_0 ++ []
theorem dksX4_laneAt_0 : cX4_laneAt.data.toList.drop 0 = dktX4_laneAt_0 := by decide +kernel
theorem dX4_laneAt_0 : decode cX4_laneAt 0 = .ok (.sipush 192, 3) := dk_17 0 192 (dk_at dksX4_laneAt_0 0 rfl rfl)
theorem dX4_laneAt_3 : decode cX4_laneAt 3 = .ok (.bipush 6, 2) := dk_16 6 (dk_at dksX4_laneAt_0 3 rfl rfl)
theorem dX4_laneAt_5 : decode cX4_laneAt 5 = .ok (.iload_n 0, 1) := dk_26 (dk_at dksX4_laneAt_0 5 rfl rfl)
theorem dX4_laneAt_6 : decode cX4_laneAt 6 = .ok (.imul, 1) := dk_104 (dk_at dksX4_laneAt_0 6 rfl rfl)
theorem dX4_laneAt_7 : decode cX4_laneAt 7 = .ok (.iadd, 1) := dk_96 (dk_at dksX4_laneAt_0 7 rfl rfl)
theorem dX4_laneAt_8 : decode cX4_laneAt 8 = .ok (.ireturn, 1) := dk_172 (dk_at dksX4_laneAt_0 8 rfl rfl)
abbrev cX4_egg : ByteArray := prog_14_method_25_code
def yX4_egg : MethodName := ⟨RX4, "egg", "(IIIIII)I"⟩
def dkwX4_egg_8 : List UInt8 := [96, 79, 42, 27, 182, 0, 54, 172]
abbrev dktX4_egg_8 : List UInt8 := dkwX4_egg_8 ++ []
def dkwX4_egg_7 : List UInt8 := [180, 0, 7, 27, 184, 0, 28, 3, 96, 92, 46, 4, 96, 79, 42, 180, 0, 7, 17, 1, 41, 92, 46, 4]
abbrev dktX4_egg_7 : List UInt8 := dkwX4_egg_7 ++ dktX4_egg_8
def dkwX4_egg_6 : List UInt8 := [180, 0, 7, 21, 7, 7, 96, 21, 6, 4, 96, 79, 42, 180, 0, 7, 21, 7, 8, 96, 3, 79, 42]
abbrev dktX4_egg_6 : List UInt8 := dkwX4_egg_6 ++ dktX4_egg_7
def dkwX4_egg_5 : List UInt8 := [180, 0, 7, 21, 7, 5, 96, 21, 4, 79, 42, 180, 0, 7, 21, 7, 6, 96, 21, 5, 79, 42]
abbrev dktX4_egg_5 : List UInt8 := dkwX4_egg_5 ++ dktX4_egg_6
def dkwX4_egg_4 : List UInt8 := [54, 7, 42, 180, 0, 7, 21, 7, 3, 96, 28, 79, 42, 180, 0, 7, 21, 7, 4, 96, 29, 79, 42]
abbrev dktX4_egg_4 : List UInt8 := dkwX4_egg_4 ++ dktX4_egg_5
def dkwX4_egg_3 : List UInt8 := [182, 0, 54, 16, 8, 160, 0, 6, 18, 101, 172, 42, 182, 0, 102, 27, 42, 27, 182, 0, 54, 184, 0, 47]
abbrev dktX4_egg_3 : List UInt8 := dkwX4_egg_3 ++ dktX4_egg_4
def dkwX4_egg_2 : List UInt8 := [184, 0, 40, 153, 0, 14, 21, 6, 2, 16, 7, 184, 0, 40, 154, 0, 6, 18, 100, 172, 42, 27]
abbrev dktX4_egg_2 : List UInt8 := dkwX4_egg_2 ++ dktX4_egg_3
def dkwX4_egg_1 : List UInt8 := [184, 0, 40, 153, 0, 36, 21, 4, 3, 17, 0, 255, 184, 0, 40, 153, 0, 24, 21, 5, 4, 5]
abbrev dktX4_egg_1 : List UInt8 := dkwX4_egg_1 ++ dktX4_egg_2
def dkwX4_egg_0 : List UInt8 := [27, 184, 0, 97, 153, 0, 57, 28, 16, 30, 16, 90, 184, 0, 40, 153, 0, 46, 29, 3, 16, 99]
abbrev dktX4_egg_0 : List UInt8 := dkwX4_egg_0 ++ dktX4_egg_1
theorem dksX4_egg_0 : cX4_egg.data.toList.drop 0 = dktX4_egg_0 := by decide +kernel
theorem dksX4_egg_1 : cX4_egg.data.toList.drop 22 = dktX4_egg_1 := dk_seg dksX4_egg_0 22 rfl rfl
theorem dksX4_egg_2 : cX4_egg.data.toList.drop 44 = dktX4_egg_2 := dk_seg dksX4_egg_1 22 rfl rfl
theorem dksX4_egg_3 : cX4_egg.data.toList.drop 66 = dktX4_egg_3 := dk_seg dksX4_egg_2 22 rfl rfl
theorem dksX4_egg_4 : cX4_egg.data.toList.drop 90 = dktX4_egg_4 := dk_seg dksX4_egg_3 24 rfl rfl
theorem dksX4_egg_5 : cX4_egg.data.toList.drop 113 = dktX4_egg_5 := dk_seg dksX4_egg_4 23 rfl rfl
theorem dksX4_egg_6 : cX4_egg.data.toList.drop 135 = dktX4_egg_6 := dk_seg dksX4_egg_5 22 rfl rfl
theorem dksX4_egg_7 : cX4_egg.data.toList.drop 158 = dktX4_egg_7 := dk_seg dksX4_egg_6 23 rfl rfl
theorem dksX4_egg_8 : cX4_egg.data.toList.drop 182 = dktX4_egg_8 := dk_seg dksX4_egg_7 24 rfl rfl
theorem dX4_egg_0 : decode cX4_egg 0 = .ok (.iload_n 1, 1) := dk_27 (dk_at dksX4_egg_0 0 rfl rfl)
theorem dX4_egg_1 : decode cX4_egg 1 = .ok (.invokestatic 97, 3) := dk_184 0 97 (dk_at dksX4_egg_0 1 rfl rfl)
theorem dX4_egg_4 : decode cX4_egg 4 = .ok (.ifCond .eq 57, 3) := dk_153 0 57 (dk_at dksX4_egg_0 4 rfl rfl)
theorem dX4_egg_7 : decode cX4_egg 7 = .ok (.iload_n 2, 1) := dk_28 (dk_at dksX4_egg_0 7 rfl rfl)
theorem dX4_egg_8 : decode cX4_egg 8 = .ok (.bipush 30, 2) := dk_16 30 (dk_at dksX4_egg_0 8 rfl rfl)
theorem dX4_egg_10 : decode cX4_egg 10 = .ok (.bipush 90, 2) := dk_16 90 (dk_at dksX4_egg_0 10 rfl rfl)
theorem dX4_egg_12 : decode cX4_egg 12 = .ok (.invokestatic 40, 3) := dk_184 0 40 (dk_at dksX4_egg_0 12 rfl rfl)
theorem dX4_egg_15 : decode cX4_egg 15 = .ok (.ifCond .eq 46, 3) := dk_153 0 46 (dk_at dksX4_egg_0 15 rfl rfl)
theorem dX4_egg_18 : decode cX4_egg 18 = .ok (.iload_n 3, 1) := dk_29 (dk_at dksX4_egg_0 18 rfl rfl)
theorem dX4_egg_19 : decode cX4_egg 19 = .ok (.iconst 0, 1) := dk_3 (dk_at dksX4_egg_0 19 rfl rfl)
theorem dX4_egg_20 : decode cX4_egg 20 = .ok (.bipush 99, 2) := dk_16 99 (dk_at dksX4_egg_0 20 rfl rfl)
theorem dX4_egg_22 : decode cX4_egg 22 = .ok (.invokestatic 40, 3) := dk_184 0 40 (dk_at dksX4_egg_1 0 rfl rfl)
theorem dX4_egg_25 : decode cX4_egg 25 = .ok (.ifCond .eq 36, 3) := dk_153 0 36 (dk_at dksX4_egg_1 3 rfl rfl)
theorem dX4_egg_28 : decode cX4_egg 28 = .ok (.iload 4, 2) := dk_21 4 (dk_at dksX4_egg_1 6 rfl rfl)
theorem dX4_egg_30 : decode cX4_egg 30 = .ok (.iconst 0, 1) := dk_3 (dk_at dksX4_egg_1 8 rfl rfl)
theorem dX4_egg_31 : decode cX4_egg 31 = .ok (.sipush 255, 3) := dk_17 0 255 (dk_at dksX4_egg_1 9 rfl rfl)
theorem dX4_egg_34 : decode cX4_egg 34 = .ok (.invokestatic 40, 3) := dk_184 0 40 (dk_at dksX4_egg_1 12 rfl rfl)
theorem dX4_egg_37 : decode cX4_egg 37 = .ok (.ifCond .eq 24, 3) := dk_153 0 24 (dk_at dksX4_egg_1 15 rfl rfl)
theorem dX4_egg_40 : decode cX4_egg 40 = .ok (.iload 5, 2) := dk_21 5 (dk_at dksX4_egg_1 18 rfl rfl)
theorem dX4_egg_42 : decode cX4_egg 42 = .ok (.iconst 1, 1) := dk_4 (dk_at dksX4_egg_1 20 rfl rfl)
theorem dX4_egg_43 : decode cX4_egg 43 = .ok (.iconst 2, 1) := dk_5 (dk_at dksX4_egg_1 21 rfl rfl)
theorem dX4_egg_44 : decode cX4_egg 44 = .ok (.invokestatic 40, 3) := dk_184 0 40 (dk_at dksX4_egg_2 0 rfl rfl)
theorem dX4_egg_47 : decode cX4_egg 47 = .ok (.ifCond .eq 14, 3) := dk_153 0 14 (dk_at dksX4_egg_2 3 rfl rfl)
theorem dX4_egg_50 : decode cX4_egg 50 = .ok (.iload 6, 2) := dk_21 6 (dk_at dksX4_egg_2 6 rfl rfl)
theorem dX4_egg_52 : decode cX4_egg 52 = .ok (.iconst (-1), 1) := dk_2 (dk_at dksX4_egg_2 8 rfl rfl)
theorem dX4_egg_53 : decode cX4_egg 53 = .ok (.bipush 7, 2) := dk_16 7 (dk_at dksX4_egg_2 9 rfl rfl)
theorem dX4_egg_55 : decode cX4_egg 55 = .ok (.invokestatic 40, 3) := dk_184 0 40 (dk_at dksX4_egg_2 11 rfl rfl)
theorem dX4_egg_58 : decode cX4_egg 58 = .ok (.ifCond .ne 6, 3) := dk_154 0 6 (dk_at dksX4_egg_2 14 rfl rfl)
theorem dX4_egg_61 : decode cX4_egg 61 = .ok (.ldc 100, 2) := dk_18 100 (dk_at dksX4_egg_2 17 rfl rfl)
theorem dX4_egg_63 : decode cX4_egg 63 = .ok (.ireturn, 1) := dk_172 (dk_at dksX4_egg_2 19 rfl rfl)
theorem dX4_egg_64 : decode cX4_egg 64 = .ok (.aload_n 0, 1) := dk_42 (dk_at dksX4_egg_2 20 rfl rfl)
theorem dX4_egg_65 : decode cX4_egg 65 = .ok (.iload_n 1, 1) := dk_27 (dk_at dksX4_egg_2 21 rfl rfl)
theorem dX4_egg_66 : decode cX4_egg 66 = .ok (.invokevirtual 54, 3) := dk_182 0 54 (dk_at dksX4_egg_3 0 rfl rfl)
theorem dX4_egg_69 : decode cX4_egg 69 = .ok (.bipush 8, 2) := dk_16 8 (dk_at dksX4_egg_3 3 rfl rfl)
theorem dX4_egg_71 : decode cX4_egg 71 = .ok (.if_icmp .ne 6, 3) := dk_160 0 6 (dk_at dksX4_egg_3 5 rfl rfl)
theorem dX4_egg_74 : decode cX4_egg 74 = .ok (.ldc 101, 2) := dk_18 101 (dk_at dksX4_egg_3 8 rfl rfl)
theorem dX4_egg_76 : decode cX4_egg 76 = .ok (.ireturn, 1) := dk_172 (dk_at dksX4_egg_3 10 rfl rfl)
theorem dX4_egg_77 : decode cX4_egg 77 = .ok (.aload_n 0, 1) := dk_42 (dk_at dksX4_egg_3 11 rfl rfl)
theorem dX4_egg_78 : decode cX4_egg 78 = .ok (.invokevirtual 102, 3) := dk_182 0 102 (dk_at dksX4_egg_3 12 rfl rfl)
theorem dX4_egg_81 : decode cX4_egg 81 = .ok (.iload_n 1, 1) := dk_27 (dk_at dksX4_egg_3 15 rfl rfl)
theorem dX4_egg_82 : decode cX4_egg 82 = .ok (.aload_n 0, 1) := dk_42 (dk_at dksX4_egg_3 16 rfl rfl)
theorem dX4_egg_83 : decode cX4_egg 83 = .ok (.iload_n 1, 1) := dk_27 (dk_at dksX4_egg_3 17 rfl rfl)
theorem dX4_egg_84 : decode cX4_egg 84 = .ok (.invokevirtual 54, 3) := dk_182 0 54 (dk_at dksX4_egg_3 18 rfl rfl)
theorem dX4_egg_87 : decode cX4_egg 87 = .ok (.invokestatic 47, 3) := dk_184 0 47 (dk_at dksX4_egg_3 21 rfl rfl)
theorem dX4_egg_90 : decode cX4_egg 90 = .ok (.istore 7, 2) := dk_54 7 (dk_at dksX4_egg_4 0 rfl rfl)
theorem dX4_egg_92 : decode cX4_egg 92 = .ok (.aload_n 0, 1) := dk_42 (dk_at dksX4_egg_4 2 rfl rfl)
theorem dX4_egg_93 : decode cX4_egg 93 = .ok (.getfield 7, 3) := dk_180 0 7 (dk_at dksX4_egg_4 3 rfl rfl)
theorem dX4_egg_96 : decode cX4_egg 96 = .ok (.iload 7, 2) := dk_21 7 (dk_at dksX4_egg_4 6 rfl rfl)
theorem dX4_egg_98 : decode cX4_egg 98 = .ok (.iconst 0, 1) := dk_3 (dk_at dksX4_egg_4 8 rfl rfl)
theorem dX4_egg_99 : decode cX4_egg 99 = .ok (.iadd, 1) := dk_96 (dk_at dksX4_egg_4 9 rfl rfl)
theorem dX4_egg_100 : decode cX4_egg 100 = .ok (.iload_n 2, 1) := dk_28 (dk_at dksX4_egg_4 10 rfl rfl)
theorem dX4_egg_101 : decode cX4_egg 101 = .ok (.iastore, 1) := dk_79 (dk_at dksX4_egg_4 11 rfl rfl)
theorem dX4_egg_102 : decode cX4_egg 102 = .ok (.aload_n 0, 1) := dk_42 (dk_at dksX4_egg_4 12 rfl rfl)
theorem dX4_egg_103 : decode cX4_egg 103 = .ok (.getfield 7, 3) := dk_180 0 7 (dk_at dksX4_egg_4 13 rfl rfl)
theorem dX4_egg_106 : decode cX4_egg 106 = .ok (.iload 7, 2) := dk_21 7 (dk_at dksX4_egg_4 16 rfl rfl)
theorem dX4_egg_108 : decode cX4_egg 108 = .ok (.iconst 1, 1) := dk_4 (dk_at dksX4_egg_4 18 rfl rfl)
theorem dX4_egg_109 : decode cX4_egg 109 = .ok (.iadd, 1) := dk_96 (dk_at dksX4_egg_4 19 rfl rfl)
theorem dX4_egg_110 : decode cX4_egg 110 = .ok (.iload_n 3, 1) := dk_29 (dk_at dksX4_egg_4 20 rfl rfl)
theorem dX4_egg_111 : decode cX4_egg 111 = .ok (.iastore, 1) := dk_79 (dk_at dksX4_egg_4 21 rfl rfl)
theorem dX4_egg_112 : decode cX4_egg 112 = .ok (.aload_n 0, 1) := dk_42 (dk_at dksX4_egg_4 22 rfl rfl)
theorem dX4_egg_113 : decode cX4_egg 113 = .ok (.getfield 7, 3) := dk_180 0 7 (dk_at dksX4_egg_5 0 rfl rfl)
theorem dX4_egg_116 : decode cX4_egg 116 = .ok (.iload 7, 2) := dk_21 7 (dk_at dksX4_egg_5 3 rfl rfl)
theorem dX4_egg_118 : decode cX4_egg 118 = .ok (.iconst 2, 1) := dk_5 (dk_at dksX4_egg_5 5 rfl rfl)
theorem dX4_egg_119 : decode cX4_egg 119 = .ok (.iadd, 1) := dk_96 (dk_at dksX4_egg_5 6 rfl rfl)
theorem dX4_egg_120 : decode cX4_egg 120 = .ok (.iload 4, 2) := dk_21 4 (dk_at dksX4_egg_5 7 rfl rfl)
theorem dX4_egg_122 : decode cX4_egg 122 = .ok (.iastore, 1) := dk_79 (dk_at dksX4_egg_5 9 rfl rfl)
theorem dX4_egg_123 : decode cX4_egg 123 = .ok (.aload_n 0, 1) := dk_42 (dk_at dksX4_egg_5 10 rfl rfl)
theorem dX4_egg_124 : decode cX4_egg 124 = .ok (.getfield 7, 3) := dk_180 0 7 (dk_at dksX4_egg_5 11 rfl rfl)
theorem dX4_egg_127 : decode cX4_egg 127 = .ok (.iload 7, 2) := dk_21 7 (dk_at dksX4_egg_5 14 rfl rfl)
theorem dX4_egg_129 : decode cX4_egg 129 = .ok (.iconst 3, 1) := dk_6 (dk_at dksX4_egg_5 16 rfl rfl)
theorem dX4_egg_130 : decode cX4_egg 130 = .ok (.iadd, 1) := dk_96 (dk_at dksX4_egg_5 17 rfl rfl)
theorem dX4_egg_131 : decode cX4_egg 131 = .ok (.iload 5, 2) := dk_21 5 (dk_at dksX4_egg_5 18 rfl rfl)
theorem dX4_egg_133 : decode cX4_egg 133 = .ok (.iastore, 1) := dk_79 (dk_at dksX4_egg_5 20 rfl rfl)
theorem dX4_egg_134 : decode cX4_egg 134 = .ok (.aload_n 0, 1) := dk_42 (dk_at dksX4_egg_5 21 rfl rfl)
theorem dX4_egg_135 : decode cX4_egg 135 = .ok (.getfield 7, 3) := dk_180 0 7 (dk_at dksX4_egg_6 0 rfl rfl)
theorem dX4_egg_138 : decode cX4_egg 138 = .ok (.iload 7, 2) := dk_21 7 (dk_at dksX4_egg_6 3 rfl rfl)
theorem dX4_egg_140 : decode cX4_egg 140 = .ok (.iconst 4, 1) := dk_7 (dk_at dksX4_egg_6 5 rfl rfl)
theorem dX4_egg_141 : decode cX4_egg 141 = .ok (.iadd, 1) := dk_96 (dk_at dksX4_egg_6 6 rfl rfl)
theorem dX4_egg_142 : decode cX4_egg 142 = .ok (.iload 6, 2) := dk_21 6 (dk_at dksX4_egg_6 7 rfl rfl)
theorem dX4_egg_144 : decode cX4_egg 144 = .ok (.iconst 1, 1) := dk_4 (dk_at dksX4_egg_6 9 rfl rfl)
theorem dX4_egg_145 : decode cX4_egg 145 = .ok (.iadd, 1) := dk_96 (dk_at dksX4_egg_6 10 rfl rfl)
theorem dX4_egg_146 : decode cX4_egg 146 = .ok (.iastore, 1) := dk_79 (dk_at dksX4_egg_6 11 rfl rfl)
theorem dX4_egg_147 : decode cX4_egg 147 = .ok (.aload_n 0, 1) := dk_42 (dk_at dksX4_egg_6 12 rfl rfl)
theorem dX4_egg_148 : decode cX4_egg 148 = .ok (.getfield 7, 3) := dk_180 0 7 (dk_at dksX4_egg_6 13 rfl rfl)
theorem dX4_egg_151 : decode cX4_egg 151 = .ok (.iload 7, 2) := dk_21 7 (dk_at dksX4_egg_6 16 rfl rfl)
theorem dX4_egg_153 : decode cX4_egg 153 = .ok (.iconst 5, 1) := dk_8 (dk_at dksX4_egg_6 18 rfl rfl)
theorem dX4_egg_154 : decode cX4_egg 154 = .ok (.iadd, 1) := dk_96 (dk_at dksX4_egg_6 19 rfl rfl)
theorem dX4_egg_155 : decode cX4_egg 155 = .ok (.iconst 0, 1) := dk_3 (dk_at dksX4_egg_6 20 rfl rfl)
theorem dX4_egg_156 : decode cX4_egg 156 = .ok (.iastore, 1) := dk_79 (dk_at dksX4_egg_6 21 rfl rfl)
theorem dX4_egg_157 : decode cX4_egg 157 = .ok (.aload_n 0, 1) := dk_42 (dk_at dksX4_egg_6 22 rfl rfl)
theorem dX4_egg_158 : decode cX4_egg 158 = .ok (.getfield 7, 3) := dk_180 0 7 (dk_at dksX4_egg_7 0 rfl rfl)
theorem dX4_egg_161 : decode cX4_egg 161 = .ok (.iload_n 1, 1) := dk_27 (dk_at dksX4_egg_7 3 rfl rfl)
theorem dX4_egg_162 : decode cX4_egg 162 = .ok (.invokestatic 28, 3) := dk_184 0 28 (dk_at dksX4_egg_7 4 rfl rfl)
theorem dX4_egg_165 : decode cX4_egg 165 = .ok (.iconst 0, 1) := dk_3 (dk_at dksX4_egg_7 7 rfl rfl)
theorem dX4_egg_166 : decode cX4_egg 166 = .ok (.iadd, 1) := dk_96 (dk_at dksX4_egg_7 8 rfl rfl)
theorem dX4_egg_167 : decode cX4_egg 167 = .ok (.dup2, 1) := dk_92 (dk_at dksX4_egg_7 9 rfl rfl)
theorem dX4_egg_168 : decode cX4_egg 168 = .ok (.iaload, 1) := dk_46 (dk_at dksX4_egg_7 10 rfl rfl)
theorem dX4_egg_169 : decode cX4_egg 169 = .ok (.iconst 1, 1) := dk_4 (dk_at dksX4_egg_7 11 rfl rfl)
theorem dX4_egg_170 : decode cX4_egg 170 = .ok (.iadd, 1) := dk_96 (dk_at dksX4_egg_7 12 rfl rfl)
theorem dX4_egg_171 : decode cX4_egg 171 = .ok (.iastore, 1) := dk_79 (dk_at dksX4_egg_7 13 rfl rfl)
theorem dX4_egg_172 : decode cX4_egg 172 = .ok (.aload_n 0, 1) := dk_42 (dk_at dksX4_egg_7 14 rfl rfl)
theorem dX4_egg_173 : decode cX4_egg 173 = .ok (.getfield 7, 3) := dk_180 0 7 (dk_at dksX4_egg_7 15 rfl rfl)
theorem dX4_egg_176 : decode cX4_egg 176 = .ok (.sipush 297, 3) := dk_17 1 41 (dk_at dksX4_egg_7 18 rfl rfl)
theorem dX4_egg_179 : decode cX4_egg 179 = .ok (.dup2, 1) := dk_92 (dk_at dksX4_egg_7 21 rfl rfl)
theorem dX4_egg_180 : decode cX4_egg 180 = .ok (.iaload, 1) := dk_46 (dk_at dksX4_egg_7 22 rfl rfl)
theorem dX4_egg_181 : decode cX4_egg 181 = .ok (.iconst 1, 1) := dk_4 (dk_at dksX4_egg_7 23 rfl rfl)
theorem dX4_egg_182 : decode cX4_egg 182 = .ok (.iadd, 1) := dk_96 (dk_at dksX4_egg_8 0 rfl rfl)
theorem dX4_egg_183 : decode cX4_egg 183 = .ok (.iastore, 1) := dk_79 (dk_at dksX4_egg_8 1 rfl rfl)
theorem dX4_egg_184 : decode cX4_egg 184 = .ok (.aload_n 0, 1) := dk_42 (dk_at dksX4_egg_8 2 rfl rfl)
theorem dX4_egg_185 : decode cX4_egg 185 = .ok (.iload_n 1, 1) := dk_27 (dk_at dksX4_egg_8 3 rfl rfl)
theorem dX4_egg_186 : decode cX4_egg 186 = .ok (.invokevirtual 54, 3) := dk_182 0 54 (dk_at dksX4_egg_8 4 rfl rfl)
theorem dX4_egg_189 : decode cX4_egg 189 = .ok (.ireturn, 1) := dk_172 (dk_at dksX4_egg_8 7 rfl rfl)
abbrev cX4_isLane : ByteArray := prog_14_method_9_code
def yX4_isLane : MethodName := ⟨RX4, "isLane", "(I)Z"⟩
def dkwX4_isLane_0 : List UInt8 := [26, 3, 6, 184, 0, 40, 172]
abbrev dktX4_isLane_0 : List UInt8 := dkwX4_isLane_0 ++ []
theorem dksX4_isLane_0 : cX4_isLane.data.toList.drop 0 = dktX4_isLane_0 := by decide +kernel
theorem dX4_isLane_0 : decode cX4_isLane 0 = .ok (.iload_n 0, 1) := dk_26 (dk_at dksX4_isLane_0 0 rfl rfl)
theorem dX4_isLane_1 : decode cX4_isLane 1 = .ok (.iconst 0, 1) := dk_3 (dk_at dksX4_isLane_0 1 rfl rfl)
theorem dX4_isLane_2 : decode cX4_isLane 2 = .ok (.iconst 3, 1) := dk_6 (dk_at dksX4_isLane_0 2 rfl rfl)
theorem dX4_isLane_3 : decode cX4_isLane 3 = .ok (.invokestatic 40, 3) := dk_184 0 40 (dk_at dksX4_isLane_0 3 rfl rfl)
theorem dX4_isLane_6 : decode cX4_isLane 6 = .ok (.ireturn, 1) := dk_172 (dk_at dksX4_isLane_0 6 rfl rfl)
abbrev cX4_in : ByteArray := prog_14_method_3_code
def yX4_in : MethodName := ⟨RX4, "in", "(III)Z"⟩
def dkwX4_in_0 : List UInt8 := [26, 27, 161, 0, 12, 26, 28, 163, 0, 7, 4, 167, 0, 4, 3, 172]
abbrev dktX4_in_0 : List UInt8 := dkwX4_in_0 ++ []
theorem dksX4_in_0 : cX4_in.data.toList.drop 0 = dktX4_in_0 := by decide +kernel
theorem dX4_in_0 : decode cX4_in 0 = .ok (.iload_n 0, 1) := dk_26 (dk_at dksX4_in_0 0 rfl rfl)
theorem dX4_in_1 : decode cX4_in 1 = .ok (.iload_n 1, 1) := dk_27 (dk_at dksX4_in_0 1 rfl rfl)
theorem dX4_in_2 : decode cX4_in 2 = .ok (.if_icmp .lt 12, 3) := dk_161 0 12 (dk_at dksX4_in_0 2 rfl rfl)
theorem dX4_in_5 : decode cX4_in 5 = .ok (.iload_n 0, 1) := dk_26 (dk_at dksX4_in_0 5 rfl rfl)
theorem dX4_in_6 : decode cX4_in 6 = .ok (.iload_n 2, 1) := dk_28 (dk_at dksX4_in_0 6 rfl rfl)
theorem dX4_in_7 : decode cX4_in 7 = .ok (.if_icmp .gt 7, 3) := dk_163 0 7 (dk_at dksX4_in_0 7 rfl rfl)
theorem dX4_in_10 : decode cX4_in 10 = .ok (.iconst 1, 1) := dk_4 (dk_at dksX4_in_0 10 rfl rfl)
theorem dX4_in_11 : decode cX4_in 11 = .ok (.goto 4, 3) := dk_167 0 4 (dk_at dksX4_in_0 11 rfl rfl)
theorem dX4_in_14 : decode cX4_in 14 = .ok (.iconst 0, 1) := dk_3 (dk_at dksX4_in_0 14 rfl rfl)
theorem dX4_in_15 : decode cX4_in 15 = .ok (.ireturn, 1) := dk_172 (dk_at dksX4_in_0 15 rfl rfl)
abbrev cX4_many : ByteArray := prog_14_method_10_code
def yX4_many : MethodName := ⟨RX4, "many", "(I)I"⟩
def dkwX4_many_0 : List UInt8 := [42, 180, 0, 7, 27, 184, 0, 28, 3, 96, 46, 172]
abbrev dktX4_many_0 : List UInt8 := dkwX4_many_0 ++ []
theorem dksX4_many_0 : cX4_many.data.toList.drop 0 = dktX4_many_0 := by decide +kernel
theorem dX4_many_0 : decode cX4_many 0 = .ok (.aload_n 0, 1) := dk_42 (dk_at dksX4_many_0 0 rfl rfl)
theorem dX4_many_1 : decode cX4_many 1 = .ok (.getfield 7, 3) := dk_180 0 7 (dk_at dksX4_many_0 1 rfl rfl)
theorem dX4_many_4 : decode cX4_many 4 = .ok (.iload_n 1, 1) := dk_27 (dk_at dksX4_many_0 4 rfl rfl)
theorem dX4_many_5 : decode cX4_many 5 = .ok (.invokestatic 28, 3) := dk_184 0 28 (dk_at dksX4_many_0 5 rfl rfl)
theorem dX4_many_8 : decode cX4_many 8 = .ok (.iconst 0, 1) := dk_3 (dk_at dksX4_many_0 8 rfl rfl)
theorem dX4_many_9 : decode cX4_many 9 = .ok (.iadd, 1) := dk_96 (dk_at dksX4_many_0 9 rfl rfl)
theorem dX4_many_10 : decode cX4_many 10 = .ok (.iaload, 1) := dk_46 (dk_at dksX4_many_0 10 rfl rfl)
theorem dX4_many_11 : decode cX4_many 11 = .ok (.ireturn, 1) := dk_172 (dk_at dksX4_many_0 11 rfl rfl)
abbrev cX4_changes : ByteArray := prog_14_method_5_code
def yX4_changes : MethodName := ⟨RX4, "changes", "()V"⟩
def dkwX4_changes_4 : List UInt8 := [167, 255, 225, 42, 89, 180, 0, 36, 4, 96, 181, 0, 36, 177]
abbrev dktX4_changes_4 : List UInt8 := dkwX4_changes_4 ++ []
def dkwX4_changes_3 : List UInt8 := [180, 0, 13, 17, 1, 55, 42, 180, 0, 36, 104, 27, 96, 42, 180, 0, 7, 27, 46, 79, 132, 1, 1]
abbrev dktX4_changes_3 : List UInt8 := dkwX4_changes_3 ++ dktX4_changes_4
def dkwX4_changes_2 : List UInt8 := [167, 255, 230, 42, 89, 180, 0, 36, 4, 100, 181, 0, 36, 3, 60, 27, 17, 1, 55, 162, 0, 30, 42]
abbrev dktX4_changes_2 : List UInt8 := dkwX4_changes_2 ++ dktX4_changes_3
def dkwX4_changes_1 : List UInt8 := [162, 0, 25, 42, 180, 0, 13, 27, 42, 180, 0, 13, 27, 17, 1, 55, 96, 46, 79, 132, 1, 1]
abbrev dktX4_changes_1 : List UInt8 := dkwX4_changes_1 ++ dktX4_changes_2
def dkwX4_changes_0 : List UInt8 := [42, 180, 0, 32, 153, 0, 4, 177, 42, 180, 0, 36, 7, 160, 0, 44, 3, 60, 27, 17, 3, 165]
abbrev dktX4_changes_0 : List UInt8 := dkwX4_changes_0 ++ dktX4_changes_1
theorem dksX4_changes_0 : cX4_changes.data.toList.drop 0 = dktX4_changes_0 := by decide +kernel
theorem dksX4_changes_1 : cX4_changes.data.toList.drop 22 = dktX4_changes_1 := dk_seg dksX4_changes_0 22 rfl rfl
theorem dksX4_changes_2 : cX4_changes.data.toList.drop 44 = dktX4_changes_2 := dk_seg dksX4_changes_1 22 rfl rfl
theorem dksX4_changes_3 : cX4_changes.data.toList.drop 67 = dktX4_changes_3 := dk_seg dksX4_changes_2 23 rfl rfl
theorem dksX4_changes_4 : cX4_changes.data.toList.drop 90 = dktX4_changes_4 := dk_seg dksX4_changes_3 23 rfl rfl
theorem dX4_changes_0 : decode cX4_changes 0 = .ok (.aload_n 0, 1) := dk_42 (dk_at dksX4_changes_0 0 rfl rfl)
theorem dX4_changes_1 : decode cX4_changes 1 = .ok (.getfield 32, 3) := dk_180 0 32 (dk_at dksX4_changes_0 1 rfl rfl)
theorem dX4_changes_4 : decode cX4_changes 4 = .ok (.ifCond .eq 4, 3) := dk_153 0 4 (dk_at dksX4_changes_0 4 rfl rfl)
theorem dX4_changes_7 : decode cX4_changes 7 = .ok (.return_, 1) := dk_177 (dk_at dksX4_changes_0 7 rfl rfl)
theorem dX4_changes_8 : decode cX4_changes 8 = .ok (.aload_n 0, 1) := dk_42 (dk_at dksX4_changes_0 8 rfl rfl)
theorem dX4_changes_9 : decode cX4_changes 9 = .ok (.getfield 36, 3) := dk_180 0 36 (dk_at dksX4_changes_0 9 rfl rfl)
theorem dX4_changes_12 : decode cX4_changes 12 = .ok (.iconst 4, 1) := dk_7 (dk_at dksX4_changes_0 12 rfl rfl)
theorem dX4_changes_13 : decode cX4_changes 13 = .ok (.if_icmp .ne 44, 3) := dk_160 0 44 (dk_at dksX4_changes_0 13 rfl rfl)
theorem dX4_changes_16 : decode cX4_changes 16 = .ok (.iconst 0, 1) := dk_3 (dk_at dksX4_changes_0 16 rfl rfl)
theorem dX4_changes_17 : decode cX4_changes 17 = .ok (.istore_n 1, 1) := dk_60 (dk_at dksX4_changes_0 17 rfl rfl)
theorem dX4_changes_18 : decode cX4_changes 18 = .ok (.iload_n 1, 1) := dk_27 (dk_at dksX4_changes_0 18 rfl rfl)
theorem dX4_changes_19 : decode cX4_changes 19 = .ok (.sipush 933, 3) := dk_17 3 165 (dk_at dksX4_changes_0 19 rfl rfl)
theorem dX4_changes_22 : decode cX4_changes 22 = .ok (.if_icmp .ge 25, 3) := dk_162 0 25 (dk_at dksX4_changes_1 0 rfl rfl)
theorem dX4_changes_25 : decode cX4_changes 25 = .ok (.aload_n 0, 1) := dk_42 (dk_at dksX4_changes_1 3 rfl rfl)
theorem dX4_changes_26 : decode cX4_changes 26 = .ok (.getfield 13, 3) := dk_180 0 13 (dk_at dksX4_changes_1 4 rfl rfl)
theorem dX4_changes_29 : decode cX4_changes 29 = .ok (.iload_n 1, 1) := dk_27 (dk_at dksX4_changes_1 7 rfl rfl)
theorem dX4_changes_30 : decode cX4_changes 30 = .ok (.aload_n 0, 1) := dk_42 (dk_at dksX4_changes_1 8 rfl rfl)
theorem dX4_changes_31 : decode cX4_changes 31 = .ok (.getfield 13, 3) := dk_180 0 13 (dk_at dksX4_changes_1 9 rfl rfl)
theorem dX4_changes_34 : decode cX4_changes 34 = .ok (.iload_n 1, 1) := dk_27 (dk_at dksX4_changes_1 12 rfl rfl)
theorem dX4_changes_35 : decode cX4_changes 35 = .ok (.sipush 311, 3) := dk_17 1 55 (dk_at dksX4_changes_1 13 rfl rfl)
theorem dX4_changes_38 : decode cX4_changes 38 = .ok (.iadd, 1) := dk_96 (dk_at dksX4_changes_1 16 rfl rfl)
theorem dX4_changes_39 : decode cX4_changes 39 = .ok (.iaload, 1) := dk_46 (dk_at dksX4_changes_1 17 rfl rfl)
theorem dX4_changes_40 : decode cX4_changes 40 = .ok (.iastore, 1) := dk_79 (dk_at dksX4_changes_1 18 rfl rfl)
theorem dX4_changes_41 : decode cX4_changes 41 = .ok (.iinc 1 1, 3) := dk_132 1 1 (dk_at dksX4_changes_1 19 rfl rfl)
theorem dX4_changes_44 : decode cX4_changes 44 = .ok (.goto (-26), 3) := dk_167 255 230 (dk_at dksX4_changes_2 0 rfl rfl)
theorem dX4_changes_47 : decode cX4_changes 47 = .ok (.aload_n 0, 1) := dk_42 (dk_at dksX4_changes_2 3 rfl rfl)
theorem dX4_changes_48 : decode cX4_changes 48 = .ok (.dup, 1) := dk_89 (dk_at dksX4_changes_2 4 rfl rfl)
theorem dX4_changes_49 : decode cX4_changes 49 = .ok (.getfield 36, 3) := dk_180 0 36 (dk_at dksX4_changes_2 5 rfl rfl)
theorem dX4_changes_52 : decode cX4_changes 52 = .ok (.iconst 1, 1) := dk_4 (dk_at dksX4_changes_2 8 rfl rfl)
theorem dX4_changes_53 : decode cX4_changes 53 = .ok (.isub, 1) := dk_100 (dk_at dksX4_changes_2 9 rfl rfl)
theorem dX4_changes_54 : decode cX4_changes 54 = .ok (.putfield 36, 3) := dk_181 0 36 (dk_at dksX4_changes_2 10 rfl rfl)
theorem dX4_changes_57 : decode cX4_changes 57 = .ok (.iconst 0, 1) := dk_3 (dk_at dksX4_changes_2 13 rfl rfl)
theorem dX4_changes_58 : decode cX4_changes 58 = .ok (.istore_n 1, 1) := dk_60 (dk_at dksX4_changes_2 14 rfl rfl)
theorem dX4_changes_59 : decode cX4_changes 59 = .ok (.iload_n 1, 1) := dk_27 (dk_at dksX4_changes_2 15 rfl rfl)
theorem dX4_changes_60 : decode cX4_changes 60 = .ok (.sipush 311, 3) := dk_17 1 55 (dk_at dksX4_changes_2 16 rfl rfl)
theorem dX4_changes_63 : decode cX4_changes 63 = .ok (.if_icmp .ge 30, 3) := dk_162 0 30 (dk_at dksX4_changes_2 19 rfl rfl)
theorem dX4_changes_66 : decode cX4_changes 66 = .ok (.aload_n 0, 1) := dk_42 (dk_at dksX4_changes_2 22 rfl rfl)
theorem dX4_changes_67 : decode cX4_changes 67 = .ok (.getfield 13, 3) := dk_180 0 13 (dk_at dksX4_changes_3 0 rfl rfl)
theorem dX4_changes_70 : decode cX4_changes 70 = .ok (.sipush 311, 3) := dk_17 1 55 (dk_at dksX4_changes_3 3 rfl rfl)
theorem dX4_changes_73 : decode cX4_changes 73 = .ok (.aload_n 0, 1) := dk_42 (dk_at dksX4_changes_3 6 rfl rfl)
theorem dX4_changes_74 : decode cX4_changes 74 = .ok (.getfield 36, 3) := dk_180 0 36 (dk_at dksX4_changes_3 7 rfl rfl)
theorem dX4_changes_77 : decode cX4_changes 77 = .ok (.imul, 1) := dk_104 (dk_at dksX4_changes_3 10 rfl rfl)
theorem dX4_changes_78 : decode cX4_changes 78 = .ok (.iload_n 1, 1) := dk_27 (dk_at dksX4_changes_3 11 rfl rfl)
theorem dX4_changes_79 : decode cX4_changes 79 = .ok (.iadd, 1) := dk_96 (dk_at dksX4_changes_3 12 rfl rfl)
theorem dX4_changes_80 : decode cX4_changes 80 = .ok (.aload_n 0, 1) := dk_42 (dk_at dksX4_changes_3 13 rfl rfl)
theorem dX4_changes_81 : decode cX4_changes 81 = .ok (.getfield 7, 3) := dk_180 0 7 (dk_at dksX4_changes_3 14 rfl rfl)
theorem dX4_changes_84 : decode cX4_changes 84 = .ok (.iload_n 1, 1) := dk_27 (dk_at dksX4_changes_3 17 rfl rfl)
theorem dX4_changes_85 : decode cX4_changes 85 = .ok (.iaload, 1) := dk_46 (dk_at dksX4_changes_3 18 rfl rfl)
theorem dX4_changes_86 : decode cX4_changes 86 = .ok (.iastore, 1) := dk_79 (dk_at dksX4_changes_3 19 rfl rfl)
theorem dX4_changes_87 : decode cX4_changes 87 = .ok (.iinc 1 1, 3) := dk_132 1 1 (dk_at dksX4_changes_3 20 rfl rfl)
theorem dX4_changes_90 : decode cX4_changes 90 = .ok (.goto (-31), 3) := dk_167 255 225 (dk_at dksX4_changes_4 0 rfl rfl)
theorem dX4_changes_93 : decode cX4_changes 93 = .ok (.aload_n 0, 1) := dk_42 (dk_at dksX4_changes_4 3 rfl rfl)
theorem dX4_changes_94 : decode cX4_changes 94 = .ok (.dup, 1) := dk_89 (dk_at dksX4_changes_4 4 rfl rfl)
theorem dX4_changes_95 : decode cX4_changes 95 = .ok (.getfield 36, 3) := dk_180 0 36 (dk_at dksX4_changes_4 5 rfl rfl)
theorem dX4_changes_98 : decode cX4_changes 98 = .ok (.iconst 1, 1) := dk_4 (dk_at dksX4_changes_4 8 rfl rfl)
theorem dX4_changes_99 : decode cX4_changes 99 = .ok (.iadd, 1) := dk_96 (dk_at dksX4_changes_4 9 rfl rfl)
theorem dX4_changes_100 : decode cX4_changes 100 = .ok (.putfield 36, 3) := dk_181 0 36 (dk_at dksX4_changes_4 10 rfl rfl)
theorem dX4_changes_103 : decode cX4_changes 103 = .ok (.return_, 1) := dk_177 (dk_at dksX4_changes_4 13 rfl rfl)
abbrev cX4_eggAt : ByteArray := prog_14_method_6_code
def yX4_eggAt : MethodName := ⟨RX4, "eggAt", "(II)I"⟩
def dkwX4_eggAt_0 : List UInt8 := [16, 48, 26, 104, 16, 6, 27, 104, 96, 172]
abbrev dktX4_eggAt_0 : List UInt8 := dkwX4_eggAt_0 ++ []
theorem dksX4_eggAt_0 : cX4_eggAt.data.toList.drop 0 = dktX4_eggAt_0 := by decide +kernel
theorem dX4_eggAt_0 : decode cX4_eggAt 0 = .ok (.bipush 48, 2) := dk_16 48 (dk_at dksX4_eggAt_0 0 rfl rfl)
theorem dX4_eggAt_2 : decode cX4_eggAt 2 = .ok (.iload_n 0, 1) := dk_26 (dk_at dksX4_eggAt_0 2 rfl rfl)
theorem dX4_eggAt_3 : decode cX4_eggAt 3 = .ok (.imul, 1) := dk_104 (dk_at dksX4_eggAt_0 3 rfl rfl)
theorem dX4_eggAt_4 : decode cX4_eggAt 4 = .ok (.bipush 6, 2) := dk_16 6 (dk_at dksX4_eggAt_0 4 rfl rfl)
theorem dX4_eggAt_6 : decode cX4_eggAt 6 = .ok (.iload_n 1, 1) := dk_27 (dk_at dksX4_eggAt_0 6 rfl rfl)
theorem dX4_eggAt_7 : decode cX4_eggAt 7 = .ok (.imul, 1) := dk_104 (dk_at dksX4_eggAt_0 7 rfl rfl)
theorem dX4_eggAt_8 : decode cX4_eggAt 8 = .ok (.iadd, 1) := dk_96 (dk_at dksX4_eggAt_0 8 rfl rfl)
theorem dX4_eggAt_9 : decode cX4_eggAt 9 = .ok (.ireturn, 1) := dk_172 (dk_at dksX4_eggAt_0 9 rfl rfl)
abbrev cX4_stain : ByteArray := prog_14_method_26_code
def yX4_stain : MethodName := ⟨RX4, "stain", "(II)I"⟩
def dkwX4_stain_2 : List UInt8 := [62, 42, 180, 0, 7, 29, 5, 96, 92, 46, 28, 128, 79, 42, 180, 0, 7, 29, 5, 96, 46, 172]
abbrev dktX4_stain_2 : List UInt8 := dkwX4_stain_2 ++ []
def dkwX4_stain_1 : List UInt8 := [182, 0, 54, 154, 0, 6, 18, 105, 172, 42, 182, 0, 102, 27, 42, 27, 182, 0, 54, 4, 100, 184, 0, 47]
abbrev dktX4_stain_1 : List UInt8 := dkwX4_stain_1 ++ dktX4_stain_2
def dkwX4_stain_0 : List UInt8 := [27, 184, 0, 97, 153, 0, 14, 28, 3, 17, 0, 255, 184, 0, 40, 154, 0, 6, 18, 100, 172, 42, 27]
abbrev dktX4_stain_0 : List UInt8 := dkwX4_stain_0 ++ dktX4_stain_1
theorem dksX4_stain_0 : cX4_stain.data.toList.drop 0 = dktX4_stain_0 := by decide +kernel
theorem dksX4_stain_1 : cX4_stain.data.toList.drop 23 = dktX4_stain_1 := dk_seg dksX4_stain_0 23 rfl rfl
theorem dksX4_stain_2 : cX4_stain.data.toList.drop 47 = dktX4_stain_2 := dk_seg dksX4_stain_1 24 rfl rfl
theorem dX4_stain_0 : decode cX4_stain 0 = .ok (.iload_n 1, 1) := dk_27 (dk_at dksX4_stain_0 0 rfl rfl)
theorem dX4_stain_1 : decode cX4_stain 1 = .ok (.invokestatic 97, 3) := dk_184 0 97 (dk_at dksX4_stain_0 1 rfl rfl)
theorem dX4_stain_4 : decode cX4_stain 4 = .ok (.ifCond .eq 14, 3) := dk_153 0 14 (dk_at dksX4_stain_0 4 rfl rfl)
theorem dX4_stain_7 : decode cX4_stain 7 = .ok (.iload_n 2, 1) := dk_28 (dk_at dksX4_stain_0 7 rfl rfl)
theorem dX4_stain_8 : decode cX4_stain 8 = .ok (.iconst 0, 1) := dk_3 (dk_at dksX4_stain_0 8 rfl rfl)
theorem dX4_stain_9 : decode cX4_stain 9 = .ok (.sipush 255, 3) := dk_17 0 255 (dk_at dksX4_stain_0 9 rfl rfl)
theorem dX4_stain_12 : decode cX4_stain 12 = .ok (.invokestatic 40, 3) := dk_184 0 40 (dk_at dksX4_stain_0 12 rfl rfl)
theorem dX4_stain_15 : decode cX4_stain 15 = .ok (.ifCond .ne 6, 3) := dk_154 0 6 (dk_at dksX4_stain_0 15 rfl rfl)
theorem dX4_stain_18 : decode cX4_stain 18 = .ok (.ldc 100, 2) := dk_18 100 (dk_at dksX4_stain_0 18 rfl rfl)
theorem dX4_stain_20 : decode cX4_stain 20 = .ok (.ireturn, 1) := dk_172 (dk_at dksX4_stain_0 20 rfl rfl)
theorem dX4_stain_21 : decode cX4_stain 21 = .ok (.aload_n 0, 1) := dk_42 (dk_at dksX4_stain_0 21 rfl rfl)
theorem dX4_stain_22 : decode cX4_stain 22 = .ok (.iload_n 1, 1) := dk_27 (dk_at dksX4_stain_0 22 rfl rfl)
theorem dX4_stain_23 : decode cX4_stain 23 = .ok (.invokevirtual 54, 3) := dk_182 0 54 (dk_at dksX4_stain_1 0 rfl rfl)
theorem dX4_stain_26 : decode cX4_stain 26 = .ok (.ifCond .ne 6, 3) := dk_154 0 6 (dk_at dksX4_stain_1 3 rfl rfl)
theorem dX4_stain_29 : decode cX4_stain 29 = .ok (.ldc 105, 2) := dk_18 105 (dk_at dksX4_stain_1 6 rfl rfl)
theorem dX4_stain_31 : decode cX4_stain 31 = .ok (.ireturn, 1) := dk_172 (dk_at dksX4_stain_1 8 rfl rfl)
theorem dX4_stain_32 : decode cX4_stain 32 = .ok (.aload_n 0, 1) := dk_42 (dk_at dksX4_stain_1 9 rfl rfl)
theorem dX4_stain_33 : decode cX4_stain 33 = .ok (.invokevirtual 102, 3) := dk_182 0 102 (dk_at dksX4_stain_1 10 rfl rfl)
theorem dX4_stain_36 : decode cX4_stain 36 = .ok (.iload_n 1, 1) := dk_27 (dk_at dksX4_stain_1 13 rfl rfl)
theorem dX4_stain_37 : decode cX4_stain 37 = .ok (.aload_n 0, 1) := dk_42 (dk_at dksX4_stain_1 14 rfl rfl)
theorem dX4_stain_38 : decode cX4_stain 38 = .ok (.iload_n 1, 1) := dk_27 (dk_at dksX4_stain_1 15 rfl rfl)
theorem dX4_stain_39 : decode cX4_stain 39 = .ok (.invokevirtual 54, 3) := dk_182 0 54 (dk_at dksX4_stain_1 16 rfl rfl)
theorem dX4_stain_42 : decode cX4_stain 42 = .ok (.iconst 1, 1) := dk_4 (dk_at dksX4_stain_1 19 rfl rfl)
theorem dX4_stain_43 : decode cX4_stain 43 = .ok (.isub, 1) := dk_100 (dk_at dksX4_stain_1 20 rfl rfl)
theorem dX4_stain_44 : decode cX4_stain 44 = .ok (.invokestatic 47, 3) := dk_184 0 47 (dk_at dksX4_stain_1 21 rfl rfl)
theorem dX4_stain_47 : decode cX4_stain 47 = .ok (.istore_n 3, 1) := dk_62 (dk_at dksX4_stain_2 0 rfl rfl)
theorem dX4_stain_48 : decode cX4_stain 48 = .ok (.aload_n 0, 1) := dk_42 (dk_at dksX4_stain_2 1 rfl rfl)
theorem dX4_stain_49 : decode cX4_stain 49 = .ok (.getfield 7, 3) := dk_180 0 7 (dk_at dksX4_stain_2 2 rfl rfl)
theorem dX4_stain_52 : decode cX4_stain 52 = .ok (.iload_n 3, 1) := dk_29 (dk_at dksX4_stain_2 5 rfl rfl)
theorem dX4_stain_53 : decode cX4_stain 53 = .ok (.iconst 2, 1) := dk_5 (dk_at dksX4_stain_2 6 rfl rfl)
theorem dX4_stain_54 : decode cX4_stain 54 = .ok (.iadd, 1) := dk_96 (dk_at dksX4_stain_2 7 rfl rfl)
theorem dX4_stain_55 : decode cX4_stain 55 = .ok (.dup2, 1) := dk_92 (dk_at dksX4_stain_2 8 rfl rfl)
theorem dX4_stain_56 : decode cX4_stain 56 = .ok (.iaload, 1) := dk_46 (dk_at dksX4_stain_2 9 rfl rfl)
theorem dX4_stain_57 : decode cX4_stain 57 = .ok (.iload_n 2, 1) := dk_28 (dk_at dksX4_stain_2 10 rfl rfl)
theorem dX4_stain_58 : decode cX4_stain 58 = .ok (.ior, 1) := dk_128 (dk_at dksX4_stain_2 11 rfl rfl)
theorem dX4_stain_59 : decode cX4_stain 59 = .ok (.iastore, 1) := dk_79 (dk_at dksX4_stain_2 12 rfl rfl)
theorem dX4_stain_60 : decode cX4_stain 60 = .ok (.aload_n 0, 1) := dk_42 (dk_at dksX4_stain_2 13 rfl rfl)
theorem dX4_stain_61 : decode cX4_stain 61 = .ok (.getfield 7, 3) := dk_180 0 7 (dk_at dksX4_stain_2 14 rfl rfl)
theorem dX4_stain_64 : decode cX4_stain 64 = .ok (.iload_n 3, 1) := dk_29 (dk_at dksX4_stain_2 17 rfl rfl)
theorem dX4_stain_65 : decode cX4_stain 65 = .ok (.iconst 2, 1) := dk_5 (dk_at dksX4_stain_2 18 rfl rfl)
theorem dX4_stain_66 : decode cX4_stain 66 = .ok (.iadd, 1) := dk_96 (dk_at dksX4_stain_2 19 rfl rfl)
theorem dX4_stain_67 : decode cX4_stain 67 = .ok (.iaload, 1) := dk_46 (dk_at dksX4_stain_2 20 rfl rfl)
theorem dX4_stain_68 : decode cX4_stain 68 = .ok (.ireturn, 1) := dk_172 (dk_at dksX4_stain_2 21 rfl rfl)
abbrev cX4_light : ByteArray := prog_14_method_27_code
def yX4_light : MethodName := ⟨RX4, "light", "(II)I"⟩
def dkwX4_light_2 : List UInt8 := [29, 172]
abbrev dktX4_light_2 : List UInt8 := dkwX4_light_2 ++ []
def dkwX4_light_1 : List UInt8 := [42, 180, 0, 7, 27, 184, 0, 28, 4, 96, 46, 62, 42, 180, 0, 7, 27, 184, 0, 28, 4, 96, 28, 79]
abbrev dktX4_light_1 : List UInt8 := dkwX4_light_1 ++ dktX4_light_2
def dkwX4_light_0 : List UInt8 := [27, 184, 0, 97, 153, 0, 13, 28, 3, 16, 99, 184, 0, 40, 154, 0, 6, 18, 100, 172, 42, 182, 0, 102]
abbrev dktX4_light_0 : List UInt8 := dkwX4_light_0 ++ dktX4_light_1
theorem dksX4_light_0 : cX4_light.data.toList.drop 0 = dktX4_light_0 := by decide +kernel
theorem dksX4_light_1 : cX4_light.data.toList.drop 24 = dktX4_light_1 := dk_seg dksX4_light_0 24 rfl rfl
theorem dksX4_light_2 : cX4_light.data.toList.drop 48 = dktX4_light_2 := dk_seg dksX4_light_1 24 rfl rfl
theorem dX4_light_0 : decode cX4_light 0 = .ok (.iload_n 1, 1) := dk_27 (dk_at dksX4_light_0 0 rfl rfl)
theorem dX4_light_1 : decode cX4_light 1 = .ok (.invokestatic 97, 3) := dk_184 0 97 (dk_at dksX4_light_0 1 rfl rfl)
theorem dX4_light_4 : decode cX4_light 4 = .ok (.ifCond .eq 13, 3) := dk_153 0 13 (dk_at dksX4_light_0 4 rfl rfl)
theorem dX4_light_7 : decode cX4_light 7 = .ok (.iload_n 2, 1) := dk_28 (dk_at dksX4_light_0 7 rfl rfl)
theorem dX4_light_8 : decode cX4_light 8 = .ok (.iconst 0, 1) := dk_3 (dk_at dksX4_light_0 8 rfl rfl)
theorem dX4_light_9 : decode cX4_light 9 = .ok (.bipush 99, 2) := dk_16 99 (dk_at dksX4_light_0 9 rfl rfl)
theorem dX4_light_11 : decode cX4_light 11 = .ok (.invokestatic 40, 3) := dk_184 0 40 (dk_at dksX4_light_0 11 rfl rfl)
theorem dX4_light_14 : decode cX4_light 14 = .ok (.ifCond .ne 6, 3) := dk_154 0 6 (dk_at dksX4_light_0 14 rfl rfl)
theorem dX4_light_17 : decode cX4_light 17 = .ok (.ldc 100, 2) := dk_18 100 (dk_at dksX4_light_0 17 rfl rfl)
theorem dX4_light_19 : decode cX4_light 19 = .ok (.ireturn, 1) := dk_172 (dk_at dksX4_light_0 19 rfl rfl)
theorem dX4_light_20 : decode cX4_light 20 = .ok (.aload_n 0, 1) := dk_42 (dk_at dksX4_light_0 20 rfl rfl)
theorem dX4_light_21 : decode cX4_light 21 = .ok (.invokevirtual 102, 3) := dk_182 0 102 (dk_at dksX4_light_0 21 rfl rfl)
theorem dX4_light_24 : decode cX4_light 24 = .ok (.aload_n 0, 1) := dk_42 (dk_at dksX4_light_1 0 rfl rfl)
theorem dX4_light_25 : decode cX4_light 25 = .ok (.getfield 7, 3) := dk_180 0 7 (dk_at dksX4_light_1 1 rfl rfl)
theorem dX4_light_28 : decode cX4_light 28 = .ok (.iload_n 1, 1) := dk_27 (dk_at dksX4_light_1 4 rfl rfl)
theorem dX4_light_29 : decode cX4_light 29 = .ok (.invokestatic 28, 3) := dk_184 0 28 (dk_at dksX4_light_1 5 rfl rfl)
theorem dX4_light_32 : decode cX4_light 32 = .ok (.iconst 1, 1) := dk_4 (dk_at dksX4_light_1 8 rfl rfl)
theorem dX4_light_33 : decode cX4_light 33 = .ok (.iadd, 1) := dk_96 (dk_at dksX4_light_1 9 rfl rfl)
theorem dX4_light_34 : decode cX4_light 34 = .ok (.iaload, 1) := dk_46 (dk_at dksX4_light_1 10 rfl rfl)
theorem dX4_light_35 : decode cX4_light 35 = .ok (.istore_n 3, 1) := dk_62 (dk_at dksX4_light_1 11 rfl rfl)
theorem dX4_light_36 : decode cX4_light 36 = .ok (.aload_n 0, 1) := dk_42 (dk_at dksX4_light_1 12 rfl rfl)
theorem dX4_light_37 : decode cX4_light 37 = .ok (.getfield 7, 3) := dk_180 0 7 (dk_at dksX4_light_1 13 rfl rfl)
theorem dX4_light_40 : decode cX4_light 40 = .ok (.iload_n 1, 1) := dk_27 (dk_at dksX4_light_1 16 rfl rfl)
theorem dX4_light_41 : decode cX4_light 41 = .ok (.invokestatic 28, 3) := dk_184 0 28 (dk_at dksX4_light_1 17 rfl rfl)
theorem dX4_light_44 : decode cX4_light 44 = .ok (.iconst 1, 1) := dk_4 (dk_at dksX4_light_1 20 rfl rfl)
theorem dX4_light_45 : decode cX4_light 45 = .ok (.iadd, 1) := dk_96 (dk_at dksX4_light_1 21 rfl rfl)
theorem dX4_light_46 : decode cX4_light 46 = .ok (.iload_n 2, 1) := dk_28 (dk_at dksX4_light_1 22 rfl rfl)
theorem dX4_light_47 : decode cX4_light 47 = .ok (.iastore, 1) := dk_79 (dk_at dksX4_light_1 23 rfl rfl)
theorem dX4_light_48 : decode cX4_light 48 = .ok (.iload_n 3, 1) := dk_29 (dk_at dksX4_light_2 0 rfl rfl)
theorem dX4_light_49 : decode cX4_light 49 = .ok (.ireturn, 1) := dk_172 (dk_at dksX4_light_2 1 rfl rfl)
abbrev cX4_turn : ByteArray := prog_14_method_28_code
def yX4_turn : MethodName := ⟨RX4, "turn", "(II)I"⟩
def dkwX4_turn_2 : List UInt8 := [29, 172]
abbrev dktX4_turn_2 : List UInt8 := dkwX4_turn_2 ++ []
def dkwX4_turn_1 : List UInt8 := [42, 180, 0, 7, 27, 184, 0, 28, 5, 96, 46, 62, 42, 180, 0, 7, 27, 184, 0, 28, 5, 96, 28, 79]
abbrev dktX4_turn_1 : List UInt8 := dkwX4_turn_1 ++ dktX4_turn_2
def dkwX4_turn_0 : List UInt8 := [27, 184, 0, 97, 153, 0, 13, 28, 4, 16, 7, 184, 0, 40, 154, 0, 6, 18, 100, 172, 42, 182, 0, 102]
abbrev dktX4_turn_0 : List UInt8 := dkwX4_turn_0 ++ dktX4_turn_1
theorem dksX4_turn_0 : cX4_turn.data.toList.drop 0 = dktX4_turn_0 := by decide +kernel
theorem dksX4_turn_1 : cX4_turn.data.toList.drop 24 = dktX4_turn_1 := dk_seg dksX4_turn_0 24 rfl rfl
theorem dksX4_turn_2 : cX4_turn.data.toList.drop 48 = dktX4_turn_2 := dk_seg dksX4_turn_1 24 rfl rfl
theorem dX4_turn_0 : decode cX4_turn 0 = .ok (.iload_n 1, 1) := dk_27 (dk_at dksX4_turn_0 0 rfl rfl)
theorem dX4_turn_1 : decode cX4_turn 1 = .ok (.invokestatic 97, 3) := dk_184 0 97 (dk_at dksX4_turn_0 1 rfl rfl)
theorem dX4_turn_4 : decode cX4_turn 4 = .ok (.ifCond .eq 13, 3) := dk_153 0 13 (dk_at dksX4_turn_0 4 rfl rfl)
theorem dX4_turn_7 : decode cX4_turn 7 = .ok (.iload_n 2, 1) := dk_28 (dk_at dksX4_turn_0 7 rfl rfl)
theorem dX4_turn_8 : decode cX4_turn 8 = .ok (.iconst 1, 1) := dk_4 (dk_at dksX4_turn_0 8 rfl rfl)
theorem dX4_turn_9 : decode cX4_turn 9 = .ok (.bipush 7, 2) := dk_16 7 (dk_at dksX4_turn_0 9 rfl rfl)
theorem dX4_turn_11 : decode cX4_turn 11 = .ok (.invokestatic 40, 3) := dk_184 0 40 (dk_at dksX4_turn_0 11 rfl rfl)
theorem dX4_turn_14 : decode cX4_turn 14 = .ok (.ifCond .ne 6, 3) := dk_154 0 6 (dk_at dksX4_turn_0 14 rfl rfl)
theorem dX4_turn_17 : decode cX4_turn 17 = .ok (.ldc 100, 2) := dk_18 100 (dk_at dksX4_turn_0 17 rfl rfl)
theorem dX4_turn_19 : decode cX4_turn 19 = .ok (.ireturn, 1) := dk_172 (dk_at dksX4_turn_0 19 rfl rfl)
theorem dX4_turn_20 : decode cX4_turn 20 = .ok (.aload_n 0, 1) := dk_42 (dk_at dksX4_turn_0 20 rfl rfl)
theorem dX4_turn_21 : decode cX4_turn 21 = .ok (.invokevirtual 102, 3) := dk_182 0 102 (dk_at dksX4_turn_0 21 rfl rfl)
theorem dX4_turn_24 : decode cX4_turn 24 = .ok (.aload_n 0, 1) := dk_42 (dk_at dksX4_turn_1 0 rfl rfl)
theorem dX4_turn_25 : decode cX4_turn 25 = .ok (.getfield 7, 3) := dk_180 0 7 (dk_at dksX4_turn_1 1 rfl rfl)
theorem dX4_turn_28 : decode cX4_turn 28 = .ok (.iload_n 1, 1) := dk_27 (dk_at dksX4_turn_1 4 rfl rfl)
theorem dX4_turn_29 : decode cX4_turn 29 = .ok (.invokestatic 28, 3) := dk_184 0 28 (dk_at dksX4_turn_1 5 rfl rfl)
theorem dX4_turn_32 : decode cX4_turn 32 = .ok (.iconst 2, 1) := dk_5 (dk_at dksX4_turn_1 8 rfl rfl)
theorem dX4_turn_33 : decode cX4_turn 33 = .ok (.iadd, 1) := dk_96 (dk_at dksX4_turn_1 9 rfl rfl)
theorem dX4_turn_34 : decode cX4_turn 34 = .ok (.iaload, 1) := dk_46 (dk_at dksX4_turn_1 10 rfl rfl)
theorem dX4_turn_35 : decode cX4_turn 35 = .ok (.istore_n 3, 1) := dk_62 (dk_at dksX4_turn_1 11 rfl rfl)
theorem dX4_turn_36 : decode cX4_turn 36 = .ok (.aload_n 0, 1) := dk_42 (dk_at dksX4_turn_1 12 rfl rfl)
theorem dX4_turn_37 : decode cX4_turn 37 = .ok (.getfield 7, 3) := dk_180 0 7 (dk_at dksX4_turn_1 13 rfl rfl)
theorem dX4_turn_40 : decode cX4_turn 40 = .ok (.iload_n 1, 1) := dk_27 (dk_at dksX4_turn_1 16 rfl rfl)
theorem dX4_turn_41 : decode cX4_turn 41 = .ok (.invokestatic 28, 3) := dk_184 0 28 (dk_at dksX4_turn_1 17 rfl rfl)
theorem dX4_turn_44 : decode cX4_turn 44 = .ok (.iconst 2, 1) := dk_5 (dk_at dksX4_turn_1 20 rfl rfl)
theorem dX4_turn_45 : decode cX4_turn 45 = .ok (.iadd, 1) := dk_96 (dk_at dksX4_turn_1 21 rfl rfl)
theorem dX4_turn_46 : decode cX4_turn 46 = .ok (.iload_n 2, 1) := dk_28 (dk_at dksX4_turn_1 22 rfl rfl)
theorem dX4_turn_47 : decode cX4_turn 47 = .ok (.iastore, 1) := dk_79 (dk_at dksX4_turn_1 23 rfl rfl)
theorem dX4_turn_48 : decode cX4_turn 48 = .ok (.iload_n 3, 1) := dk_29 (dk_at dksX4_turn_2 0 rfl rfl)
theorem dX4_turn_49 : decode cX4_turn 49 = .ok (.ireturn, 1) := dk_172 (dk_at dksX4_turn_2 1 rfl rfl)
abbrev cX4_clean : ByteArray := prog_14_method_29_code
def yX4_clean : MethodName := ⟨RX4, "clean", "(I)I"⟩
def dkwX4_clean_1 : List UInt8 := [46, 61, 42, 180, 0, 7, 27, 184, 0, 28, 6, 96, 3, 79, 28, 172]
abbrev dktX4_clean_1 : List UInt8 := dkwX4_clean_1 ++ []
def dkwX4_clean_0 : List UInt8 := [27, 184, 0, 97, 154, 0, 6, 18, 100, 172, 42, 182, 0, 102, 42, 180, 0, 7, 27, 184, 0, 28, 6, 96]
abbrev dktX4_clean_0 : List UInt8 := dkwX4_clean_0 ++ dktX4_clean_1
theorem dksX4_clean_0 : cX4_clean.data.toList.drop 0 = dktX4_clean_0 := by decide +kernel
theorem dksX4_clean_1 : cX4_clean.data.toList.drop 24 = dktX4_clean_1 := dk_seg dksX4_clean_0 24 rfl rfl
theorem dX4_clean_0 : decode cX4_clean 0 = .ok (.iload_n 1, 1) := dk_27 (dk_at dksX4_clean_0 0 rfl rfl)
theorem dX4_clean_1 : decode cX4_clean 1 = .ok (.invokestatic 97, 3) := dk_184 0 97 (dk_at dksX4_clean_0 1 rfl rfl)
theorem dX4_clean_4 : decode cX4_clean 4 = .ok (.ifCond .ne 6, 3) := dk_154 0 6 (dk_at dksX4_clean_0 4 rfl rfl)
theorem dX4_clean_7 : decode cX4_clean 7 = .ok (.ldc 100, 2) := dk_18 100 (dk_at dksX4_clean_0 7 rfl rfl)
theorem dX4_clean_9 : decode cX4_clean 9 = .ok (.ireturn, 1) := dk_172 (dk_at dksX4_clean_0 9 rfl rfl)
theorem dX4_clean_10 : decode cX4_clean 10 = .ok (.aload_n 0, 1) := dk_42 (dk_at dksX4_clean_0 10 rfl rfl)
theorem dX4_clean_11 : decode cX4_clean 11 = .ok (.invokevirtual 102, 3) := dk_182 0 102 (dk_at dksX4_clean_0 11 rfl rfl)
theorem dX4_clean_14 : decode cX4_clean 14 = .ok (.aload_n 0, 1) := dk_42 (dk_at dksX4_clean_0 14 rfl rfl)
theorem dX4_clean_15 : decode cX4_clean 15 = .ok (.getfield 7, 3) := dk_180 0 7 (dk_at dksX4_clean_0 15 rfl rfl)
theorem dX4_clean_18 : decode cX4_clean 18 = .ok (.iload_n 1, 1) := dk_27 (dk_at dksX4_clean_0 18 rfl rfl)
theorem dX4_clean_19 : decode cX4_clean 19 = .ok (.invokestatic 28, 3) := dk_184 0 28 (dk_at dksX4_clean_0 19 rfl rfl)
theorem dX4_clean_22 : decode cX4_clean 22 = .ok (.iconst 3, 1) := dk_6 (dk_at dksX4_clean_0 22 rfl rfl)
theorem dX4_clean_23 : decode cX4_clean 23 = .ok (.iadd, 1) := dk_96 (dk_at dksX4_clean_0 23 rfl rfl)
theorem dX4_clean_24 : decode cX4_clean 24 = .ok (.iaload, 1) := dk_46 (dk_at dksX4_clean_1 0 rfl rfl)
theorem dX4_clean_25 : decode cX4_clean 25 = .ok (.istore_n 2, 1) := dk_61 (dk_at dksX4_clean_1 1 rfl rfl)
theorem dX4_clean_26 : decode cX4_clean 26 = .ok (.aload_n 0, 1) := dk_42 (dk_at dksX4_clean_1 2 rfl rfl)
theorem dX4_clean_27 : decode cX4_clean 27 = .ok (.getfield 7, 3) := dk_180 0 7 (dk_at dksX4_clean_1 3 rfl rfl)
theorem dX4_clean_30 : decode cX4_clean 30 = .ok (.iload_n 1, 1) := dk_27 (dk_at dksX4_clean_1 6 rfl rfl)
theorem dX4_clean_31 : decode cX4_clean 31 = .ok (.invokestatic 28, 3) := dk_184 0 28 (dk_at dksX4_clean_1 7 rfl rfl)
theorem dX4_clean_34 : decode cX4_clean 34 = .ok (.iconst 3, 1) := dk_6 (dk_at dksX4_clean_1 10 rfl rfl)
theorem dX4_clean_35 : decode cX4_clean 35 = .ok (.iadd, 1) := dk_96 (dk_at dksX4_clean_1 11 rfl rfl)
theorem dX4_clean_36 : decode cX4_clean 36 = .ok (.iconst 0, 1) := dk_3 (dk_at dksX4_clean_1 12 rfl rfl)
theorem dX4_clean_37 : decode cX4_clean 37 = .ok (.iastore, 1) := dk_79 (dk_at dksX4_clean_1 13 rfl rfl)
theorem dX4_clean_38 : decode cX4_clean 38 = .ok (.iload_n 2, 1) := dk_28 (dk_at dksX4_clean_1 14 rfl rfl)
theorem dX4_clean_39 : decode cX4_clean 39 = .ok (.ireturn, 1) := dk_172 (dk_at dksX4_clean_1 15 rfl rfl)
abbrev cX4_run : ByteArray := prog_14_method_30_code
def yX4_run : MethodName := ⟨RX4, "run", "(I)I"⟩
def dkwX4_run_1 : List UInt8 := [17, 39, 15, 164, 0, 6, 18, 101, 172, 42, 182, 0, 102, 42, 27, 182, 0, 106, 172]
abbrev dktX4_run_1 : List UInt8 := dkwX4_run_1 ++ []
def dkwX4_run_0 : List UInt8 := [27, 4, 16, 50, 184, 0, 40, 154, 0, 6, 18, 100, 172, 42, 180, 0, 7, 17, 1, 40, 46, 27, 96]
abbrev dktX4_run_0 : List UInt8 := dkwX4_run_0 ++ dktX4_run_1
theorem dksX4_run_0 : cX4_run.data.toList.drop 0 = dktX4_run_0 := by decide +kernel
theorem dksX4_run_1 : cX4_run.data.toList.drop 23 = dktX4_run_1 := dk_seg dksX4_run_0 23 rfl rfl
theorem dX4_run_0 : decode cX4_run 0 = .ok (.iload_n 1, 1) := dk_27 (dk_at dksX4_run_0 0 rfl rfl)
theorem dX4_run_1 : decode cX4_run 1 = .ok (.iconst 1, 1) := dk_4 (dk_at dksX4_run_0 1 rfl rfl)
theorem dX4_run_2 : decode cX4_run 2 = .ok (.bipush 50, 2) := dk_16 50 (dk_at dksX4_run_0 2 rfl rfl)
theorem dX4_run_4 : decode cX4_run 4 = .ok (.invokestatic 40, 3) := dk_184 0 40 (dk_at dksX4_run_0 4 rfl rfl)
theorem dX4_run_7 : decode cX4_run 7 = .ok (.ifCond .ne 6, 3) := dk_154 0 6 (dk_at dksX4_run_0 7 rfl rfl)
theorem dX4_run_10 : decode cX4_run 10 = .ok (.ldc 100, 2) := dk_18 100 (dk_at dksX4_run_0 10 rfl rfl)
theorem dX4_run_12 : decode cX4_run 12 = .ok (.ireturn, 1) := dk_172 (dk_at dksX4_run_0 12 rfl rfl)
theorem dX4_run_13 : decode cX4_run 13 = .ok (.aload_n 0, 1) := dk_42 (dk_at dksX4_run_0 13 rfl rfl)
theorem dX4_run_14 : decode cX4_run 14 = .ok (.getfield 7, 3) := dk_180 0 7 (dk_at dksX4_run_0 14 rfl rfl)
theorem dX4_run_17 : decode cX4_run 17 = .ok (.sipush 296, 3) := dk_17 1 40 (dk_at dksX4_run_0 17 rfl rfl)
theorem dX4_run_20 : decode cX4_run 20 = .ok (.iaload, 1) := dk_46 (dk_at dksX4_run_0 20 rfl rfl)
theorem dX4_run_21 : decode cX4_run 21 = .ok (.iload_n 1, 1) := dk_27 (dk_at dksX4_run_0 21 rfl rfl)
theorem dX4_run_22 : decode cX4_run 22 = .ok (.iadd, 1) := dk_96 (dk_at dksX4_run_0 22 rfl rfl)
theorem dX4_run_23 : decode cX4_run 23 = .ok (.sipush 9999, 3) := dk_17 39 15 (dk_at dksX4_run_1 0 rfl rfl)
theorem dX4_run_26 : decode cX4_run 26 = .ok (.if_icmp .le 6, 3) := dk_164 0 6 (dk_at dksX4_run_1 3 rfl rfl)
theorem dX4_run_29 : decode cX4_run 29 = .ok (.ldc 101, 2) := dk_18 101 (dk_at dksX4_run_1 6 rfl rfl)
theorem dX4_run_31 : decode cX4_run 31 = .ok (.ireturn, 1) := dk_172 (dk_at dksX4_run_1 8 rfl rfl)
theorem dX4_run_32 : decode cX4_run 32 = .ok (.aload_n 0, 1) := dk_42 (dk_at dksX4_run_1 9 rfl rfl)
theorem dX4_run_33 : decode cX4_run 33 = .ok (.invokevirtual 102, 3) := dk_182 0 102 (dk_at dksX4_run_1 10 rfl rfl)
theorem dX4_run_36 : decode cX4_run 36 = .ok (.aload_n 0, 1) := dk_42 (dk_at dksX4_run_1 13 rfl rfl)
theorem dX4_run_37 : decode cX4_run 37 = .ok (.iload_n 1, 1) := dk_27 (dk_at dksX4_run_1 14 rfl rfl)
theorem dX4_run_38 : decode cX4_run 38 = .ok (.invokevirtual 106, 3) := dk_182 0 106 (dk_at dksX4_run_1 15 rfl rfl)
theorem dX4_run_41 : decode cX4_run 41 = .ok (.ireturn, 1) := dk_172 (dk_at dksX4_run_1 18 rfl rfl)
abbrev cX4_pass : ByteArray := prog_14_method_24_code
def yX4_pass : MethodName := ⟨RX4, "pass", "(I)I"⟩
def dkwX4_pass_0 : List UInt8 := [3, 61, 3, 62, 29, 27, 162, 0, 16, 28, 42, 182, 0, 93, 96, 61, 132, 3, 1, 167, 255, 241, 28, 172]
abbrev dktX4_pass_0 : List UInt8 := dkwX4_pass_0 ++ []
theorem dksX4_pass_0 : cX4_pass.data.toList.drop 0 = dktX4_pass_0 := by decide +kernel
theorem dX4_pass_0 : decode cX4_pass 0 = .ok (.iconst 0, 1) := dk_3 (dk_at dksX4_pass_0 0 rfl rfl)
theorem dX4_pass_1 : decode cX4_pass 1 = .ok (.istore_n 2, 1) := dk_61 (dk_at dksX4_pass_0 1 rfl rfl)
theorem dX4_pass_2 : decode cX4_pass 2 = .ok (.iconst 0, 1) := dk_3 (dk_at dksX4_pass_0 2 rfl rfl)
theorem dX4_pass_3 : decode cX4_pass 3 = .ok (.istore_n 3, 1) := dk_62 (dk_at dksX4_pass_0 3 rfl rfl)
theorem dX4_pass_4 : decode cX4_pass 4 = .ok (.iload_n 3, 1) := dk_29 (dk_at dksX4_pass_0 4 rfl rfl)
theorem dX4_pass_5 : decode cX4_pass 5 = .ok (.iload_n 1, 1) := dk_27 (dk_at dksX4_pass_0 5 rfl rfl)
theorem dX4_pass_6 : decode cX4_pass 6 = .ok (.if_icmp .ge 16, 3) := dk_162 0 16 (dk_at dksX4_pass_0 6 rfl rfl)
theorem dX4_pass_9 : decode cX4_pass 9 = .ok (.iload_n 2, 1) := dk_28 (dk_at dksX4_pass_0 9 rfl rfl)
theorem dX4_pass_10 : decode cX4_pass 10 = .ok (.aload_n 0, 1) := dk_42 (dk_at dksX4_pass_0 10 rfl rfl)
theorem dX4_pass_11 : decode cX4_pass 11 = .ok (.invokevirtual 93, 3) := dk_182 0 93 (dk_at dksX4_pass_0 11 rfl rfl)
theorem dX4_pass_14 : decode cX4_pass 14 = .ok (.iadd, 1) := dk_96 (dk_at dksX4_pass_0 14 rfl rfl)
theorem dX4_pass_15 : decode cX4_pass 15 = .ok (.istore_n 2, 1) := dk_61 (dk_at dksX4_pass_0 15 rfl rfl)
theorem dX4_pass_16 : decode cX4_pass 16 = .ok (.iinc 3 1, 3) := dk_132 3 1 (dk_at dksX4_pass_0 16 rfl rfl)
theorem dX4_pass_19 : decode cX4_pass 19 = .ok (.goto (-15), 3) := dk_167 255 241 (dk_at dksX4_pass_0 19 rfl rfl)
theorem dX4_pass_22 : decode cX4_pass 22 = .ok (.iload_n 2, 1) := dk_28 (dk_at dksX4_pass_0 22 rfl rfl)
theorem dX4_pass_23 : decode cX4_pass 23 = .ok (.ireturn, 1) := dk_172 (dk_at dksX4_pass_0 23 rfl rfl)
abbrev cX4_tick : ByteArray := prog_14_method_23_code
def yX4_tick : MethodName := ⟨RX4, "tick", "()I"⟩
def dkwX4_tick_1 : List UInt8 := [180, 0, 7, 17, 1, 40, 92, 46, 4, 96, 79, 27, 172]
abbrev dktX4_tick_1 : List UInt8 := dkwX4_tick_1 ++ []
def dkwX4_tick_0 : List UInt8 := [3, 60, 3, 61, 28, 7, 162, 0, 17, 27, 42, 28, 182, 0, 90, 96, 60, 132, 2, 1, 167, 255, 240, 42]
abbrev dktX4_tick_0 : List UInt8 := dkwX4_tick_0 ++ dktX4_tick_1
theorem dksX4_tick_0 : cX4_tick.data.toList.drop 0 = dktX4_tick_0 := by decide +kernel
theorem dksX4_tick_1 : cX4_tick.data.toList.drop 24 = dktX4_tick_1 := dk_seg dksX4_tick_0 24 rfl rfl
theorem dX4_tick_0 : decode cX4_tick 0 = .ok (.iconst 0, 1) := dk_3 (dk_at dksX4_tick_0 0 rfl rfl)
theorem dX4_tick_1 : decode cX4_tick 1 = .ok (.istore_n 1, 1) := dk_60 (dk_at dksX4_tick_0 1 rfl rfl)
theorem dX4_tick_2 : decode cX4_tick 2 = .ok (.iconst 0, 1) := dk_3 (dk_at dksX4_tick_0 2 rfl rfl)
theorem dX4_tick_3 : decode cX4_tick 3 = .ok (.istore_n 2, 1) := dk_61 (dk_at dksX4_tick_0 3 rfl rfl)
theorem dX4_tick_4 : decode cX4_tick 4 = .ok (.iload_n 2, 1) := dk_28 (dk_at dksX4_tick_0 4 rfl rfl)
theorem dX4_tick_5 : decode cX4_tick 5 = .ok (.iconst 4, 1) := dk_7 (dk_at dksX4_tick_0 5 rfl rfl)
theorem dX4_tick_6 : decode cX4_tick 6 = .ok (.if_icmp .ge 17, 3) := dk_162 0 17 (dk_at dksX4_tick_0 6 rfl rfl)
theorem dX4_tick_9 : decode cX4_tick 9 = .ok (.iload_n 1, 1) := dk_27 (dk_at dksX4_tick_0 9 rfl rfl)
theorem dX4_tick_10 : decode cX4_tick 10 = .ok (.aload_n 0, 1) := dk_42 (dk_at dksX4_tick_0 10 rfl rfl)
theorem dX4_tick_11 : decode cX4_tick 11 = .ok (.iload_n 2, 1) := dk_28 (dk_at dksX4_tick_0 11 rfl rfl)
theorem dX4_tick_12 : decode cX4_tick 12 = .ok (.invokevirtual 90, 3) := dk_182 0 90 (dk_at dksX4_tick_0 12 rfl rfl)
theorem dX4_tick_15 : decode cX4_tick 15 = .ok (.iadd, 1) := dk_96 (dk_at dksX4_tick_0 15 rfl rfl)
theorem dX4_tick_16 : decode cX4_tick 16 = .ok (.istore_n 1, 1) := dk_60 (dk_at dksX4_tick_0 16 rfl rfl)
theorem dX4_tick_17 : decode cX4_tick 17 = .ok (.iinc 2 1, 3) := dk_132 2 1 (dk_at dksX4_tick_0 17 rfl rfl)
theorem dX4_tick_20 : decode cX4_tick 20 = .ok (.goto (-16), 3) := dk_167 255 240 (dk_at dksX4_tick_0 20 rfl rfl)
theorem dX4_tick_23 : decode cX4_tick 23 = .ok (.aload_n 0, 1) := dk_42 (dk_at dksX4_tick_0 23 rfl rfl)
theorem dX4_tick_24 : decode cX4_tick 24 = .ok (.getfield 7, 3) := dk_180 0 7 (dk_at dksX4_tick_1 0 rfl rfl)
theorem dX4_tick_27 : decode cX4_tick 27 = .ok (.sipush 296, 3) := dk_17 1 40 (dk_at dksX4_tick_1 3 rfl rfl)
theorem dX4_tick_30 : decode cX4_tick 30 = .ok (.dup2, 1) := dk_92 (dk_at dksX4_tick_1 6 rfl rfl)
theorem dX4_tick_31 : decode cX4_tick 31 = .ok (.iaload, 1) := dk_46 (dk_at dksX4_tick_1 7 rfl rfl)
theorem dX4_tick_32 : decode cX4_tick 32 = .ok (.iconst 1, 1) := dk_4 (dk_at dksX4_tick_1 8 rfl rfl)
theorem dX4_tick_33 : decode cX4_tick 33 = .ok (.iadd, 1) := dk_96 (dk_at dksX4_tick_1 9 rfl rfl)
theorem dX4_tick_34 : decode cX4_tick 34 = .ok (.iastore, 1) := dk_79 (dk_at dksX4_tick_1 10 rfl rfl)
theorem dX4_tick_35 : decode cX4_tick 35 = .ok (.iload_n 1, 1) := dk_27 (dk_at dksX4_tick_1 11 rfl rfl)
theorem dX4_tick_36 : decode cX4_tick 36 = .ok (.ireturn, 1) := dk_172 (dk_at dksX4_tick_1 12 rfl rfl)
abbrev cX4_grades : ByteArray := prog_14_method_22_code
def yX4_grades : MethodName := ⟨RX4, "grades", "(I)I"⟩
def dkwX4_grades_15 : List UInt8 := [182, 0, 83, 42, 21, 4, 21, 5, 182, 0, 87, 4, 172]
abbrev dktX4_grades_15 : List UInt8 := dkwX4_grades_15 ++ []
def dkwX4_grades_14 : List UInt8 := [28, 3, 96, 46, 96, 79, 42, 180, 0, 7, 27, 184, 0, 28, 7, 96, 92, 46, 4, 96, 79, 42, 27]
abbrev dktX4_grades_14 : List UInt8 := dkwX4_grades_14 ++ dktX4_grades_15
def dkwX4_grades_13 : List UInt8 := [180, 0, 7, 17, 1, 42, 92, 46, 4, 96, 79, 42, 180, 0, 7, 17, 1, 50, 92, 46, 42, 180, 0, 7]
abbrev dktX4_grades_13 : List UInt8 := dkwX4_grades_13 ++ dktX4_grades_14
def dkwX4_grades_12 : List UInt8 := [158, 0, 7, 4, 167, 0, 4, 3, 54, 5, 42, 180, 0, 7, 17, 1, 48, 92, 46, 21, 5, 96, 79, 42]
abbrev dktX4_grades_12 : List UInt8 := dkwX4_grades_12 ++ dktX4_grades_13
def dkwX4_grades_11 : List UInt8 := [17, 1, 44, 92, 46, 4, 96, 79, 42, 27, 182, 0, 83, 3, 172, 42, 180, 0, 7, 28, 7, 96, 46]
abbrev dktX4_grades_11 : List UInt8 := dkwX4_grades_11 ++ dktX4_grades_12
def dkwX4_grades_10 : List UInt8 := [17, 1, 53, 46, 79, 42, 180, 0, 7, 27, 184, 0, 28, 8, 96, 92, 46, 4, 96, 79, 42, 180, 0, 7]
abbrev dktX4_grades_10 : List UInt8 := dkwX4_grades_10 ++ dktX4_grades_11
def dkwX4_grades_9 : List UInt8 := [182, 0, 79, 29, 6, 160, 0, 56, 42, 180, 0, 7, 27, 184, 0, 28, 6, 96, 42, 180, 0, 7]
abbrev dktX4_grades_9 : List UInt8 := dkwX4_grades_9 ++ dktX4_grades_10
def dkwX4_grades_8 : List UInt8 := [3, 167, 0, 4, 4, 96, 79, 3, 172, 42, 27, 29, 6, 160, 0, 8, 16, 7, 167, 0, 5, 21, 4]
abbrev dktX4_grades_8 : List UInt8 := dkwX4_grades_8 ++ dktX4_grades_9
def dkwX4_grades_7 : List UInt8 := [96, 79, 42, 27, 182, 0, 83, 42, 180, 0, 7, 27, 184, 0, 28, 3, 96, 92, 46, 21, 5, 153, 0, 7]
abbrev dktX4_grades_7 : List UInt8 := dkwX4_grades_7 ++ dktX4_grades_8
def dkwX4_grades_6 : List UInt8 := [54, 5, 21, 5, 153, 0, 22, 42, 27, 16, 6, 182, 0, 79, 42, 180, 0, 7, 17, 1, 43, 92, 46, 4]
abbrev dktX4_grades_6 : List UInt8 := dkwX4_grades_6 ++ dktX4_grades_7
def dkwX4_grades_5 : List UInt8 := [180, 0, 7, 28, 8, 96, 46, 42, 180, 0, 7, 17, 1, 52, 46, 161, 0, 7, 4, 167, 0, 4, 3]
abbrev dktX4_grades_5 : List UInt8 := dkwX4_grades_5 ++ dktX4_grades_6
def dkwX4_grades_4 : List UInt8 := [167, 0, 4, 3, 100, 79, 29, 5, 160, 0, 96, 42, 180, 0, 7, 28, 8, 96, 92, 46, 4, 96, 79, 42]
abbrev dktX4_grades_4 : List UInt8 := dkwX4_grades_4 ++ dktX4_grades_5
def dkwX4_grades_3 : List UInt8 := [184, 0, 28, 6, 96, 92, 46, 42, 180, 0, 7, 27, 184, 0, 28, 6, 96, 46, 158, 0, 7, 4]
abbrev dktX4_grades_3 : List UInt8 := dkwX4_grades_3 ++ dktX4_grades_4
def dkwX4_grades_2 : List UInt8 := [182, 0, 76, 54, 4, 42, 180, 0, 7, 28, 5, 96, 42, 27, 182, 0, 61, 79, 42, 180, 0, 7, 27]
abbrev dktX4_grades_2 : List UInt8 := dkwX4_grades_2 ++ dktX4_grades_3
def dkwX4_grades_1 : List UInt8 := [184, 0, 28, 4, 96, 46, 182, 0, 73, 62, 42, 27, 42, 180, 0, 7, 27, 184, 0, 28, 4, 96, 46]
abbrev dktX4_grades_1 : List UInt8 := dkwX4_grades_1 ++ dktX4_grades_2
def dkwX4_grades_0 : List UInt8 := [42, 27, 182, 0, 54, 154, 0, 5, 3, 172, 27, 3, 184, 0, 47, 61, 42, 27, 42, 180, 0, 7, 27]
abbrev dktX4_grades_0 : List UInt8 := dkwX4_grades_0 ++ dktX4_grades_1
theorem dksX4_grades_0 : cX4_grades.data.toList.drop 0 = dktX4_grades_0 := by decide +kernel
theorem dksX4_grades_1 : cX4_grades.data.toList.drop 23 = dktX4_grades_1 := dk_seg dksX4_grades_0 23 rfl rfl
theorem dksX4_grades_2 : cX4_grades.data.toList.drop 46 = dktX4_grades_2 := dk_seg dksX4_grades_1 23 rfl rfl
theorem dksX4_grades_3 : cX4_grades.data.toList.drop 69 = dktX4_grades_3 := dk_seg dksX4_grades_2 23 rfl rfl
theorem dksX4_grades_4 : cX4_grades.data.toList.drop 91 = dktX4_grades_4 := dk_seg dksX4_grades_3 22 rfl rfl
theorem dksX4_grades_5 : cX4_grades.data.toList.drop 115 = dktX4_grades_5 := dk_seg dksX4_grades_4 24 rfl rfl
theorem dksX4_grades_6 : cX4_grades.data.toList.drop 138 = dktX4_grades_6 := dk_seg dksX4_grades_5 23 rfl rfl
theorem dksX4_grades_7 : cX4_grades.data.toList.drop 162 = dktX4_grades_7 := dk_seg dksX4_grades_6 24 rfl rfl
theorem dksX4_grades_8 : cX4_grades.data.toList.drop 186 = dktX4_grades_8 := dk_seg dksX4_grades_7 24 rfl rfl
theorem dksX4_grades_9 : cX4_grades.data.toList.drop 209 = dktX4_grades_9 := dk_seg dksX4_grades_8 23 rfl rfl
theorem dksX4_grades_10 : cX4_grades.data.toList.drop 231 = dktX4_grades_10 := dk_seg dksX4_grades_9 22 rfl rfl
theorem dksX4_grades_11 : cX4_grades.data.toList.drop 255 = dktX4_grades_11 := dk_seg dksX4_grades_10 24 rfl rfl
theorem dksX4_grades_12 : cX4_grades.data.toList.drop 278 = dktX4_grades_12 := dk_seg dksX4_grades_11 23 rfl rfl
theorem dksX4_grades_13 : cX4_grades.data.toList.drop 302 = dktX4_grades_13 := dk_seg dksX4_grades_12 24 rfl rfl
theorem dksX4_grades_14 : cX4_grades.data.toList.drop 326 = dktX4_grades_14 := dk_seg dksX4_grades_13 24 rfl rfl
theorem dksX4_grades_15 : cX4_grades.data.toList.drop 349 = dktX4_grades_15 := dk_seg dksX4_grades_14 23 rfl rfl
theorem dX4_grades_0 : decode cX4_grades 0 = .ok (.aload_n 0, 1) := dk_42 (dk_at dksX4_grades_0 0 rfl rfl)
theorem dX4_grades_1 : decode cX4_grades 1 = .ok (.iload_n 1, 1) := dk_27 (dk_at dksX4_grades_0 1 rfl rfl)
theorem dX4_grades_2 : decode cX4_grades 2 = .ok (.invokevirtual 54, 3) := dk_182 0 54 (dk_at dksX4_grades_0 2 rfl rfl)
theorem dX4_grades_5 : decode cX4_grades 5 = .ok (.ifCond .ne 5, 3) := dk_154 0 5 (dk_at dksX4_grades_0 5 rfl rfl)
theorem dX4_grades_8 : decode cX4_grades 8 = .ok (.iconst 0, 1) := dk_3 (dk_at dksX4_grades_0 8 rfl rfl)
theorem dX4_grades_9 : decode cX4_grades 9 = .ok (.ireturn, 1) := dk_172 (dk_at dksX4_grades_0 9 rfl rfl)
theorem dX4_grades_10 : decode cX4_grades 10 = .ok (.iload_n 1, 1) := dk_27 (dk_at dksX4_grades_0 10 rfl rfl)
theorem dX4_grades_11 : decode cX4_grades 11 = .ok (.iconst 0, 1) := dk_3 (dk_at dksX4_grades_0 11 rfl rfl)
theorem dX4_grades_12 : decode cX4_grades 12 = .ok (.invokestatic 47, 3) := dk_184 0 47 (dk_at dksX4_grades_0 12 rfl rfl)
theorem dX4_grades_15 : decode cX4_grades 15 = .ok (.istore_n 2, 1) := dk_61 (dk_at dksX4_grades_0 15 rfl rfl)
theorem dX4_grades_16 : decode cX4_grades 16 = .ok (.aload_n 0, 1) := dk_42 (dk_at dksX4_grades_0 16 rfl rfl)
theorem dX4_grades_17 : decode cX4_grades 17 = .ok (.iload_n 1, 1) := dk_27 (dk_at dksX4_grades_0 17 rfl rfl)
theorem dX4_grades_18 : decode cX4_grades 18 = .ok (.aload_n 0, 1) := dk_42 (dk_at dksX4_grades_0 18 rfl rfl)
theorem dX4_grades_19 : decode cX4_grades 19 = .ok (.getfield 7, 3) := dk_180 0 7 (dk_at dksX4_grades_0 19 rfl rfl)
theorem dX4_grades_22 : decode cX4_grades 22 = .ok (.iload_n 1, 1) := dk_27 (dk_at dksX4_grades_0 22 rfl rfl)
theorem dX4_grades_23 : decode cX4_grades 23 = .ok (.invokestatic 28, 3) := dk_184 0 28 (dk_at dksX4_grades_1 0 rfl rfl)
theorem dX4_grades_26 : decode cX4_grades 26 = .ok (.iconst 1, 1) := dk_4 (dk_at dksX4_grades_1 3 rfl rfl)
theorem dX4_grades_27 : decode cX4_grades 27 = .ok (.iadd, 1) := dk_96 (dk_at dksX4_grades_1 4 rfl rfl)
theorem dX4_grades_28 : decode cX4_grades 28 = .ok (.iaload, 1) := dk_46 (dk_at dksX4_grades_1 5 rfl rfl)
theorem dX4_grades_29 : decode cX4_grades 29 = .ok (.invokevirtual 73, 3) := dk_182 0 73 (dk_at dksX4_grades_1 6 rfl rfl)
theorem dX4_grades_32 : decode cX4_grades 32 = .ok (.istore_n 3, 1) := dk_62 (dk_at dksX4_grades_1 9 rfl rfl)
theorem dX4_grades_33 : decode cX4_grades 33 = .ok (.aload_n 0, 1) := dk_42 (dk_at dksX4_grades_1 10 rfl rfl)
theorem dX4_grades_34 : decode cX4_grades 34 = .ok (.iload_n 1, 1) := dk_27 (dk_at dksX4_grades_1 11 rfl rfl)
theorem dX4_grades_35 : decode cX4_grades 35 = .ok (.aload_n 0, 1) := dk_42 (dk_at dksX4_grades_1 12 rfl rfl)
theorem dX4_grades_36 : decode cX4_grades 36 = .ok (.getfield 7, 3) := dk_180 0 7 (dk_at dksX4_grades_1 13 rfl rfl)
theorem dX4_grades_39 : decode cX4_grades 39 = .ok (.iload_n 1, 1) := dk_27 (dk_at dksX4_grades_1 16 rfl rfl)
theorem dX4_grades_40 : decode cX4_grades 40 = .ok (.invokestatic 28, 3) := dk_184 0 28 (dk_at dksX4_grades_1 17 rfl rfl)
theorem dX4_grades_43 : decode cX4_grades 43 = .ok (.iconst 1, 1) := dk_4 (dk_at dksX4_grades_1 20 rfl rfl)
theorem dX4_grades_44 : decode cX4_grades 44 = .ok (.iadd, 1) := dk_96 (dk_at dksX4_grades_1 21 rfl rfl)
theorem dX4_grades_45 : decode cX4_grades 45 = .ok (.iaload, 1) := dk_46 (dk_at dksX4_grades_1 22 rfl rfl)
theorem dX4_grades_46 : decode cX4_grades 46 = .ok (.invokevirtual 76, 3) := dk_182 0 76 (dk_at dksX4_grades_2 0 rfl rfl)
theorem dX4_grades_49 : decode cX4_grades 49 = .ok (.istore 4, 2) := dk_54 4 (dk_at dksX4_grades_2 3 rfl rfl)
theorem dX4_grades_51 : decode cX4_grades 51 = .ok (.aload_n 0, 1) := dk_42 (dk_at dksX4_grades_2 5 rfl rfl)
theorem dX4_grades_52 : decode cX4_grades 52 = .ok (.getfield 7, 3) := dk_180 0 7 (dk_at dksX4_grades_2 6 rfl rfl)
theorem dX4_grades_55 : decode cX4_grades 55 = .ok (.iload_n 2, 1) := dk_28 (dk_at dksX4_grades_2 9 rfl rfl)
theorem dX4_grades_56 : decode cX4_grades 56 = .ok (.iconst 2, 1) := dk_5 (dk_at dksX4_grades_2 10 rfl rfl)
theorem dX4_grades_57 : decode cX4_grades 57 = .ok (.iadd, 1) := dk_96 (dk_at dksX4_grades_2 11 rfl rfl)
theorem dX4_grades_58 : decode cX4_grades 58 = .ok (.aload_n 0, 1) := dk_42 (dk_at dksX4_grades_2 12 rfl rfl)
theorem dX4_grades_59 : decode cX4_grades 59 = .ok (.iload_n 1, 1) := dk_27 (dk_at dksX4_grades_2 13 rfl rfl)
theorem dX4_grades_60 : decode cX4_grades 60 = .ok (.invokevirtual 61, 3) := dk_182 0 61 (dk_at dksX4_grades_2 14 rfl rfl)
theorem dX4_grades_63 : decode cX4_grades 63 = .ok (.iastore, 1) := dk_79 (dk_at dksX4_grades_2 17 rfl rfl)
theorem dX4_grades_64 : decode cX4_grades 64 = .ok (.aload_n 0, 1) := dk_42 (dk_at dksX4_grades_2 18 rfl rfl)
theorem dX4_grades_65 : decode cX4_grades 65 = .ok (.getfield 7, 3) := dk_180 0 7 (dk_at dksX4_grades_2 19 rfl rfl)
theorem dX4_grades_68 : decode cX4_grades 68 = .ok (.iload_n 1, 1) := dk_27 (dk_at dksX4_grades_2 22 rfl rfl)
theorem dX4_grades_69 : decode cX4_grades 69 = .ok (.invokestatic 28, 3) := dk_184 0 28 (dk_at dksX4_grades_3 0 rfl rfl)
theorem dX4_grades_72 : decode cX4_grades 72 = .ok (.iconst 3, 1) := dk_6 (dk_at dksX4_grades_3 3 rfl rfl)
theorem dX4_grades_73 : decode cX4_grades 73 = .ok (.iadd, 1) := dk_96 (dk_at dksX4_grades_3 4 rfl rfl)
theorem dX4_grades_74 : decode cX4_grades 74 = .ok (.dup2, 1) := dk_92 (dk_at dksX4_grades_3 5 rfl rfl)
theorem dX4_grades_75 : decode cX4_grades 75 = .ok (.iaload, 1) := dk_46 (dk_at dksX4_grades_3 6 rfl rfl)
theorem dX4_grades_76 : decode cX4_grades 76 = .ok (.aload_n 0, 1) := dk_42 (dk_at dksX4_grades_3 7 rfl rfl)
theorem dX4_grades_77 : decode cX4_grades 77 = .ok (.getfield 7, 3) := dk_180 0 7 (dk_at dksX4_grades_3 8 rfl rfl)
theorem dX4_grades_80 : decode cX4_grades 80 = .ok (.iload_n 1, 1) := dk_27 (dk_at dksX4_grades_3 11 rfl rfl)
theorem dX4_grades_81 : decode cX4_grades 81 = .ok (.invokestatic 28, 3) := dk_184 0 28 (dk_at dksX4_grades_3 12 rfl rfl)
theorem dX4_grades_84 : decode cX4_grades 84 = .ok (.iconst 3, 1) := dk_6 (dk_at dksX4_grades_3 15 rfl rfl)
theorem dX4_grades_85 : decode cX4_grades 85 = .ok (.iadd, 1) := dk_96 (dk_at dksX4_grades_3 16 rfl rfl)
theorem dX4_grades_86 : decode cX4_grades 86 = .ok (.iaload, 1) := dk_46 (dk_at dksX4_grades_3 17 rfl rfl)
theorem dX4_grades_87 : decode cX4_grades 87 = .ok (.ifCond .le 7, 3) := dk_158 0 7 (dk_at dksX4_grades_3 18 rfl rfl)
theorem dX4_grades_90 : decode cX4_grades 90 = .ok (.iconst 1, 1) := dk_4 (dk_at dksX4_grades_3 21 rfl rfl)
theorem dX4_grades_91 : decode cX4_grades 91 = .ok (.goto 4, 3) := dk_167 0 4 (dk_at dksX4_grades_4 0 rfl rfl)
theorem dX4_grades_94 : decode cX4_grades 94 = .ok (.iconst 0, 1) := dk_3 (dk_at dksX4_grades_4 3 rfl rfl)
theorem dX4_grades_95 : decode cX4_grades 95 = .ok (.isub, 1) := dk_100 (dk_at dksX4_grades_4 4 rfl rfl)
theorem dX4_grades_96 : decode cX4_grades 96 = .ok (.iastore, 1) := dk_79 (dk_at dksX4_grades_4 5 rfl rfl)
theorem dX4_grades_97 : decode cX4_grades 97 = .ok (.iload_n 3, 1) := dk_29 (dk_at dksX4_grades_4 6 rfl rfl)
theorem dX4_grades_98 : decode cX4_grades 98 = .ok (.iconst 2, 1) := dk_5 (dk_at dksX4_grades_4 7 rfl rfl)
theorem dX4_grades_99 : decode cX4_grades 99 = .ok (.if_icmp .ne 96, 3) := dk_160 0 96 (dk_at dksX4_grades_4 8 rfl rfl)
theorem dX4_grades_102 : decode cX4_grades 102 = .ok (.aload_n 0, 1) := dk_42 (dk_at dksX4_grades_4 11 rfl rfl)
theorem dX4_grades_103 : decode cX4_grades 103 = .ok (.getfield 7, 3) := dk_180 0 7 (dk_at dksX4_grades_4 12 rfl rfl)
theorem dX4_grades_106 : decode cX4_grades 106 = .ok (.iload_n 2, 1) := dk_28 (dk_at dksX4_grades_4 15 rfl rfl)
theorem dX4_grades_107 : decode cX4_grades 107 = .ok (.iconst 5, 1) := dk_8 (dk_at dksX4_grades_4 16 rfl rfl)
theorem dX4_grades_108 : decode cX4_grades 108 = .ok (.iadd, 1) := dk_96 (dk_at dksX4_grades_4 17 rfl rfl)
theorem dX4_grades_109 : decode cX4_grades 109 = .ok (.dup2, 1) := dk_92 (dk_at dksX4_grades_4 18 rfl rfl)
theorem dX4_grades_110 : decode cX4_grades 110 = .ok (.iaload, 1) := dk_46 (dk_at dksX4_grades_4 19 rfl rfl)
theorem dX4_grades_111 : decode cX4_grades 111 = .ok (.iconst 1, 1) := dk_4 (dk_at dksX4_grades_4 20 rfl rfl)
theorem dX4_grades_112 : decode cX4_grades 112 = .ok (.iadd, 1) := dk_96 (dk_at dksX4_grades_4 21 rfl rfl)
theorem dX4_grades_113 : decode cX4_grades 113 = .ok (.iastore, 1) := dk_79 (dk_at dksX4_grades_4 22 rfl rfl)
theorem dX4_grades_114 : decode cX4_grades 114 = .ok (.aload_n 0, 1) := dk_42 (dk_at dksX4_grades_4 23 rfl rfl)
theorem dX4_grades_115 : decode cX4_grades 115 = .ok (.getfield 7, 3) := dk_180 0 7 (dk_at dksX4_grades_5 0 rfl rfl)
theorem dX4_grades_118 : decode cX4_grades 118 = .ok (.iload_n 2, 1) := dk_28 (dk_at dksX4_grades_5 3 rfl rfl)
theorem dX4_grades_119 : decode cX4_grades 119 = .ok (.iconst 5, 1) := dk_8 (dk_at dksX4_grades_5 4 rfl rfl)
theorem dX4_grades_120 : decode cX4_grades 120 = .ok (.iadd, 1) := dk_96 (dk_at dksX4_grades_5 5 rfl rfl)
theorem dX4_grades_121 : decode cX4_grades 121 = .ok (.iaload, 1) := dk_46 (dk_at dksX4_grades_5 6 rfl rfl)
theorem dX4_grades_122 : decode cX4_grades 122 = .ok (.aload_n 0, 1) := dk_42 (dk_at dksX4_grades_5 7 rfl rfl)
theorem dX4_grades_123 : decode cX4_grades 123 = .ok (.getfield 7, 3) := dk_180 0 7 (dk_at dksX4_grades_5 8 rfl rfl)
theorem dX4_grades_126 : decode cX4_grades 126 = .ok (.sipush 308, 3) := dk_17 1 52 (dk_at dksX4_grades_5 11 rfl rfl)
theorem dX4_grades_129 : decode cX4_grades 129 = .ok (.iaload, 1) := dk_46 (dk_at dksX4_grades_5 14 rfl rfl)
theorem dX4_grades_130 : decode cX4_grades 130 = .ok (.if_icmp .lt 7, 3) := dk_161 0 7 (dk_at dksX4_grades_5 15 rfl rfl)
theorem dX4_grades_133 : decode cX4_grades 133 = .ok (.iconst 1, 1) := dk_4 (dk_at dksX4_grades_5 18 rfl rfl)
theorem dX4_grades_134 : decode cX4_grades 134 = .ok (.goto 4, 3) := dk_167 0 4 (dk_at dksX4_grades_5 19 rfl rfl)
theorem dX4_grades_137 : decode cX4_grades 137 = .ok (.iconst 0, 1) := dk_3 (dk_at dksX4_grades_5 22 rfl rfl)
theorem dX4_grades_138 : decode cX4_grades 138 = .ok (.istore 5, 2) := dk_54 5 (dk_at dksX4_grades_6 0 rfl rfl)
theorem dX4_grades_140 : decode cX4_grades 140 = .ok (.iload 5, 2) := dk_21 5 (dk_at dksX4_grades_6 2 rfl rfl)
theorem dX4_grades_142 : decode cX4_grades 142 = .ok (.ifCond .eq 22, 3) := dk_153 0 22 (dk_at dksX4_grades_6 4 rfl rfl)
theorem dX4_grades_145 : decode cX4_grades 145 = .ok (.aload_n 0, 1) := dk_42 (dk_at dksX4_grades_6 7 rfl rfl)
theorem dX4_grades_146 : decode cX4_grades 146 = .ok (.iload_n 1, 1) := dk_27 (dk_at dksX4_grades_6 8 rfl rfl)
theorem dX4_grades_147 : decode cX4_grades 147 = .ok (.bipush 6, 2) := dk_16 6 (dk_at dksX4_grades_6 9 rfl rfl)
theorem dX4_grades_149 : decode cX4_grades 149 = .ok (.invokevirtual 79, 3) := dk_182 0 79 (dk_at dksX4_grades_6 11 rfl rfl)
theorem dX4_grades_152 : decode cX4_grades 152 = .ok (.aload_n 0, 1) := dk_42 (dk_at dksX4_grades_6 14 rfl rfl)
theorem dX4_grades_153 : decode cX4_grades 153 = .ok (.getfield 7, 3) := dk_180 0 7 (dk_at dksX4_grades_6 15 rfl rfl)
theorem dX4_grades_156 : decode cX4_grades 156 = .ok (.sipush 299, 3) := dk_17 1 43 (dk_at dksX4_grades_6 18 rfl rfl)
theorem dX4_grades_159 : decode cX4_grades 159 = .ok (.dup2, 1) := dk_92 (dk_at dksX4_grades_6 21 rfl rfl)
theorem dX4_grades_160 : decode cX4_grades 160 = .ok (.iaload, 1) := dk_46 (dk_at dksX4_grades_6 22 rfl rfl)
theorem dX4_grades_161 : decode cX4_grades 161 = .ok (.iconst 1, 1) := dk_4 (dk_at dksX4_grades_6 23 rfl rfl)
theorem dX4_grades_162 : decode cX4_grades 162 = .ok (.iadd, 1) := dk_96 (dk_at dksX4_grades_7 0 rfl rfl)
theorem dX4_grades_163 : decode cX4_grades 163 = .ok (.iastore, 1) := dk_79 (dk_at dksX4_grades_7 1 rfl rfl)
theorem dX4_grades_164 : decode cX4_grades 164 = .ok (.aload_n 0, 1) := dk_42 (dk_at dksX4_grades_7 2 rfl rfl)
theorem dX4_grades_165 : decode cX4_grades 165 = .ok (.iload_n 1, 1) := dk_27 (dk_at dksX4_grades_7 3 rfl rfl)
theorem dX4_grades_166 : decode cX4_grades 166 = .ok (.invokevirtual 83, 3) := dk_182 0 83 (dk_at dksX4_grades_7 4 rfl rfl)
theorem dX4_grades_169 : decode cX4_grades 169 = .ok (.aload_n 0, 1) := dk_42 (dk_at dksX4_grades_7 7 rfl rfl)
theorem dX4_grades_170 : decode cX4_grades 170 = .ok (.getfield 7, 3) := dk_180 0 7 (dk_at dksX4_grades_7 8 rfl rfl)
theorem dX4_grades_173 : decode cX4_grades 173 = .ok (.iload_n 1, 1) := dk_27 (dk_at dksX4_grades_7 11 rfl rfl)
theorem dX4_grades_174 : decode cX4_grades 174 = .ok (.invokestatic 28, 3) := dk_184 0 28 (dk_at dksX4_grades_7 12 rfl rfl)
theorem dX4_grades_177 : decode cX4_grades 177 = .ok (.iconst 0, 1) := dk_3 (dk_at dksX4_grades_7 15 rfl rfl)
theorem dX4_grades_178 : decode cX4_grades 178 = .ok (.iadd, 1) := dk_96 (dk_at dksX4_grades_7 16 rfl rfl)
theorem dX4_grades_179 : decode cX4_grades 179 = .ok (.dup2, 1) := dk_92 (dk_at dksX4_grades_7 17 rfl rfl)
theorem dX4_grades_180 : decode cX4_grades 180 = .ok (.iaload, 1) := dk_46 (dk_at dksX4_grades_7 18 rfl rfl)
theorem dX4_grades_181 : decode cX4_grades 181 = .ok (.iload 5, 2) := dk_21 5 (dk_at dksX4_grades_7 19 rfl rfl)
theorem dX4_grades_183 : decode cX4_grades 183 = .ok (.ifCond .eq 7, 3) := dk_153 0 7 (dk_at dksX4_grades_7 21 rfl rfl)
theorem dX4_grades_186 : decode cX4_grades 186 = .ok (.iconst 0, 1) := dk_3 (dk_at dksX4_grades_8 0 rfl rfl)
theorem dX4_grades_187 : decode cX4_grades 187 = .ok (.goto 4, 3) := dk_167 0 4 (dk_at dksX4_grades_8 1 rfl rfl)
theorem dX4_grades_190 : decode cX4_grades 190 = .ok (.iconst 1, 1) := dk_4 (dk_at dksX4_grades_8 4 rfl rfl)
theorem dX4_grades_191 : decode cX4_grades 191 = .ok (.iadd, 1) := dk_96 (dk_at dksX4_grades_8 5 rfl rfl)
theorem dX4_grades_192 : decode cX4_grades 192 = .ok (.iastore, 1) := dk_79 (dk_at dksX4_grades_8 6 rfl rfl)
theorem dX4_grades_193 : decode cX4_grades 193 = .ok (.iconst 0, 1) := dk_3 (dk_at dksX4_grades_8 7 rfl rfl)
theorem dX4_grades_194 : decode cX4_grades 194 = .ok (.ireturn, 1) := dk_172 (dk_at dksX4_grades_8 8 rfl rfl)
theorem dX4_grades_195 : decode cX4_grades 195 = .ok (.aload_n 0, 1) := dk_42 (dk_at dksX4_grades_8 9 rfl rfl)
theorem dX4_grades_196 : decode cX4_grades 196 = .ok (.iload_n 1, 1) := dk_27 (dk_at dksX4_grades_8 10 rfl rfl)
theorem dX4_grades_197 : decode cX4_grades 197 = .ok (.iload_n 3, 1) := dk_29 (dk_at dksX4_grades_8 11 rfl rfl)
theorem dX4_grades_198 : decode cX4_grades 198 = .ok (.iconst 3, 1) := dk_6 (dk_at dksX4_grades_8 12 rfl rfl)
theorem dX4_grades_199 : decode cX4_grades 199 = .ok (.if_icmp .ne 8, 3) := dk_160 0 8 (dk_at dksX4_grades_8 13 rfl rfl)
theorem dX4_grades_202 : decode cX4_grades 202 = .ok (.bipush 7, 2) := dk_16 7 (dk_at dksX4_grades_8 16 rfl rfl)
theorem dX4_grades_204 : decode cX4_grades 204 = .ok (.goto 5, 3) := dk_167 0 5 (dk_at dksX4_grades_8 18 rfl rfl)
theorem dX4_grades_207 : decode cX4_grades 207 = .ok (.iload 4, 2) := dk_21 4 (dk_at dksX4_grades_8 21 rfl rfl)
theorem dX4_grades_209 : decode cX4_grades 209 = .ok (.invokevirtual 79, 3) := dk_182 0 79 (dk_at dksX4_grades_9 0 rfl rfl)
theorem dX4_grades_212 : decode cX4_grades 212 = .ok (.iload_n 3, 1) := dk_29 (dk_at dksX4_grades_9 3 rfl rfl)
theorem dX4_grades_213 : decode cX4_grades 213 = .ok (.iconst 3, 1) := dk_6 (dk_at dksX4_grades_9 4 rfl rfl)
theorem dX4_grades_214 : decode cX4_grades 214 = .ok (.if_icmp .ne 56, 3) := dk_160 0 56 (dk_at dksX4_grades_9 5 rfl rfl)
theorem dX4_grades_217 : decode cX4_grades 217 = .ok (.aload_n 0, 1) := dk_42 (dk_at dksX4_grades_9 8 rfl rfl)
theorem dX4_grades_218 : decode cX4_grades 218 = .ok (.getfield 7, 3) := dk_180 0 7 (dk_at dksX4_grades_9 9 rfl rfl)
theorem dX4_grades_221 : decode cX4_grades 221 = .ok (.iload_n 1, 1) := dk_27 (dk_at dksX4_grades_9 12 rfl rfl)
theorem dX4_grades_222 : decode cX4_grades 222 = .ok (.invokestatic 28, 3) := dk_184 0 28 (dk_at dksX4_grades_9 13 rfl rfl)
theorem dX4_grades_225 : decode cX4_grades 225 = .ok (.iconst 3, 1) := dk_6 (dk_at dksX4_grades_9 16 rfl rfl)
theorem dX4_grades_226 : decode cX4_grades 226 = .ok (.iadd, 1) := dk_96 (dk_at dksX4_grades_9 17 rfl rfl)
theorem dX4_grades_227 : decode cX4_grades 227 = .ok (.aload_n 0, 1) := dk_42 (dk_at dksX4_grades_9 18 rfl rfl)
theorem dX4_grades_228 : decode cX4_grades 228 = .ok (.getfield 7, 3) := dk_180 0 7 (dk_at dksX4_grades_9 19 rfl rfl)
theorem dX4_grades_231 : decode cX4_grades 231 = .ok (.sipush 309, 3) := dk_17 1 53 (dk_at dksX4_grades_10 0 rfl rfl)
theorem dX4_grades_234 : decode cX4_grades 234 = .ok (.iaload, 1) := dk_46 (dk_at dksX4_grades_10 3 rfl rfl)
theorem dX4_grades_235 : decode cX4_grades 235 = .ok (.iastore, 1) := dk_79 (dk_at dksX4_grades_10 4 rfl rfl)
theorem dX4_grades_236 : decode cX4_grades 236 = .ok (.aload_n 0, 1) := dk_42 (dk_at dksX4_grades_10 5 rfl rfl)
theorem dX4_grades_237 : decode cX4_grades 237 = .ok (.getfield 7, 3) := dk_180 0 7 (dk_at dksX4_grades_10 6 rfl rfl)
theorem dX4_grades_240 : decode cX4_grades 240 = .ok (.iload_n 1, 1) := dk_27 (dk_at dksX4_grades_10 9 rfl rfl)
theorem dX4_grades_241 : decode cX4_grades 241 = .ok (.invokestatic 28, 3) := dk_184 0 28 (dk_at dksX4_grades_10 10 rfl rfl)
theorem dX4_grades_244 : decode cX4_grades 244 = .ok (.iconst 5, 1) := dk_8 (dk_at dksX4_grades_10 13 rfl rfl)
theorem dX4_grades_245 : decode cX4_grades 245 = .ok (.iadd, 1) := dk_96 (dk_at dksX4_grades_10 14 rfl rfl)
theorem dX4_grades_246 : decode cX4_grades 246 = .ok (.dup2, 1) := dk_92 (dk_at dksX4_grades_10 15 rfl rfl)
theorem dX4_grades_247 : decode cX4_grades 247 = .ok (.iaload, 1) := dk_46 (dk_at dksX4_grades_10 16 rfl rfl)
theorem dX4_grades_248 : decode cX4_grades 248 = .ok (.iconst 1, 1) := dk_4 (dk_at dksX4_grades_10 17 rfl rfl)
theorem dX4_grades_249 : decode cX4_grades 249 = .ok (.iadd, 1) := dk_96 (dk_at dksX4_grades_10 18 rfl rfl)
theorem dX4_grades_250 : decode cX4_grades 250 = .ok (.iastore, 1) := dk_79 (dk_at dksX4_grades_10 19 rfl rfl)
theorem dX4_grades_251 : decode cX4_grades 251 = .ok (.aload_n 0, 1) := dk_42 (dk_at dksX4_grades_10 20 rfl rfl)
theorem dX4_grades_252 : decode cX4_grades 252 = .ok (.getfield 7, 3) := dk_180 0 7 (dk_at dksX4_grades_10 21 rfl rfl)
theorem dX4_grades_255 : decode cX4_grades 255 = .ok (.sipush 300, 3) := dk_17 1 44 (dk_at dksX4_grades_11 0 rfl rfl)
theorem dX4_grades_258 : decode cX4_grades 258 = .ok (.dup2, 1) := dk_92 (dk_at dksX4_grades_11 3 rfl rfl)
theorem dX4_grades_259 : decode cX4_grades 259 = .ok (.iaload, 1) := dk_46 (dk_at dksX4_grades_11 4 rfl rfl)
theorem dX4_grades_260 : decode cX4_grades 260 = .ok (.iconst 1, 1) := dk_4 (dk_at dksX4_grades_11 5 rfl rfl)
theorem dX4_grades_261 : decode cX4_grades 261 = .ok (.iadd, 1) := dk_96 (dk_at dksX4_grades_11 6 rfl rfl)
theorem dX4_grades_262 : decode cX4_grades 262 = .ok (.iastore, 1) := dk_79 (dk_at dksX4_grades_11 7 rfl rfl)
theorem dX4_grades_263 : decode cX4_grades 263 = .ok (.aload_n 0, 1) := dk_42 (dk_at dksX4_grades_11 8 rfl rfl)
theorem dX4_grades_264 : decode cX4_grades 264 = .ok (.iload_n 1, 1) := dk_27 (dk_at dksX4_grades_11 9 rfl rfl)
theorem dX4_grades_265 : decode cX4_grades 265 = .ok (.invokevirtual 83, 3) := dk_182 0 83 (dk_at dksX4_grades_11 10 rfl rfl)
theorem dX4_grades_268 : decode cX4_grades 268 = .ok (.iconst 0, 1) := dk_3 (dk_at dksX4_grades_11 13 rfl rfl)
theorem dX4_grades_269 : decode cX4_grades 269 = .ok (.ireturn, 1) := dk_172 (dk_at dksX4_grades_11 14 rfl rfl)
theorem dX4_grades_270 : decode cX4_grades 270 = .ok (.aload_n 0, 1) := dk_42 (dk_at dksX4_grades_11 15 rfl rfl)
theorem dX4_grades_271 : decode cX4_grades 271 = .ok (.getfield 7, 3) := dk_180 0 7 (dk_at dksX4_grades_11 16 rfl rfl)
theorem dX4_grades_274 : decode cX4_grades 274 = .ok (.iload_n 2, 1) := dk_28 (dk_at dksX4_grades_11 19 rfl rfl)
theorem dX4_grades_275 : decode cX4_grades 275 = .ok (.iconst 4, 1) := dk_7 (dk_at dksX4_grades_11 20 rfl rfl)
theorem dX4_grades_276 : decode cX4_grades 276 = .ok (.iadd, 1) := dk_96 (dk_at dksX4_grades_11 21 rfl rfl)
theorem dX4_grades_277 : decode cX4_grades 277 = .ok (.iaload, 1) := dk_46 (dk_at dksX4_grades_11 22 rfl rfl)
theorem dX4_grades_278 : decode cX4_grades 278 = .ok (.ifCond .le 7, 3) := dk_158 0 7 (dk_at dksX4_grades_12 0 rfl rfl)
theorem dX4_grades_281 : decode cX4_grades 281 = .ok (.iconst 1, 1) := dk_4 (dk_at dksX4_grades_12 3 rfl rfl)
theorem dX4_grades_282 : decode cX4_grades 282 = .ok (.goto 4, 3) := dk_167 0 4 (dk_at dksX4_grades_12 4 rfl rfl)
theorem dX4_grades_285 : decode cX4_grades 285 = .ok (.iconst 0, 1) := dk_3 (dk_at dksX4_grades_12 7 rfl rfl)
theorem dX4_grades_286 : decode cX4_grades 286 = .ok (.istore 5, 2) := dk_54 5 (dk_at dksX4_grades_12 8 rfl rfl)
theorem dX4_grades_288 : decode cX4_grades 288 = .ok (.aload_n 0, 1) := dk_42 (dk_at dksX4_grades_12 10 rfl rfl)
theorem dX4_grades_289 : decode cX4_grades 289 = .ok (.getfield 7, 3) := dk_180 0 7 (dk_at dksX4_grades_12 11 rfl rfl)
theorem dX4_grades_292 : decode cX4_grades 292 = .ok (.sipush 304, 3) := dk_17 1 48 (dk_at dksX4_grades_12 14 rfl rfl)
theorem dX4_grades_295 : decode cX4_grades 295 = .ok (.dup2, 1) := dk_92 (dk_at dksX4_grades_12 17 rfl rfl)
theorem dX4_grades_296 : decode cX4_grades 296 = .ok (.iaload, 1) := dk_46 (dk_at dksX4_grades_12 18 rfl rfl)
theorem dX4_grades_297 : decode cX4_grades 297 = .ok (.iload 5, 2) := dk_21 5 (dk_at dksX4_grades_12 19 rfl rfl)
theorem dX4_grades_299 : decode cX4_grades 299 = .ok (.iadd, 1) := dk_96 (dk_at dksX4_grades_12 21 rfl rfl)
theorem dX4_grades_300 : decode cX4_grades 300 = .ok (.iastore, 1) := dk_79 (dk_at dksX4_grades_12 22 rfl rfl)
theorem dX4_grades_301 : decode cX4_grades 301 = .ok (.aload_n 0, 1) := dk_42 (dk_at dksX4_grades_12 23 rfl rfl)
theorem dX4_grades_302 : decode cX4_grades 302 = .ok (.getfield 7, 3) := dk_180 0 7 (dk_at dksX4_grades_13 0 rfl rfl)
theorem dX4_grades_305 : decode cX4_grades 305 = .ok (.sipush 298, 3) := dk_17 1 42 (dk_at dksX4_grades_13 3 rfl rfl)
theorem dX4_grades_308 : decode cX4_grades 308 = .ok (.dup2, 1) := dk_92 (dk_at dksX4_grades_13 6 rfl rfl)
theorem dX4_grades_309 : decode cX4_grades 309 = .ok (.iaload, 1) := dk_46 (dk_at dksX4_grades_13 7 rfl rfl)
theorem dX4_grades_310 : decode cX4_grades 310 = .ok (.iconst 1, 1) := dk_4 (dk_at dksX4_grades_13 8 rfl rfl)
theorem dX4_grades_311 : decode cX4_grades 311 = .ok (.iadd, 1) := dk_96 (dk_at dksX4_grades_13 9 rfl rfl)
theorem dX4_grades_312 : decode cX4_grades 312 = .ok (.iastore, 1) := dk_79 (dk_at dksX4_grades_13 10 rfl rfl)
theorem dX4_grades_313 : decode cX4_grades 313 = .ok (.aload_n 0, 1) := dk_42 (dk_at dksX4_grades_13 11 rfl rfl)
theorem dX4_grades_314 : decode cX4_grades 314 = .ok (.getfield 7, 3) := dk_180 0 7 (dk_at dksX4_grades_13 12 rfl rfl)
theorem dX4_grades_317 : decode cX4_grades 317 = .ok (.sipush 306, 3) := dk_17 1 50 (dk_at dksX4_grades_13 15 rfl rfl)
theorem dX4_grades_320 : decode cX4_grades 320 = .ok (.dup2, 1) := dk_92 (dk_at dksX4_grades_13 18 rfl rfl)
theorem dX4_grades_321 : decode cX4_grades 321 = .ok (.iaload, 1) := dk_46 (dk_at dksX4_grades_13 19 rfl rfl)
theorem dX4_grades_322 : decode cX4_grades 322 = .ok (.aload_n 0, 1) := dk_42 (dk_at dksX4_grades_13 20 rfl rfl)
theorem dX4_grades_323 : decode cX4_grades 323 = .ok (.getfield 7, 3) := dk_180 0 7 (dk_at dksX4_grades_13 21 rfl rfl)
theorem dX4_grades_326 : decode cX4_grades 326 = .ok (.iload_n 2, 1) := dk_28 (dk_at dksX4_grades_14 0 rfl rfl)
theorem dX4_grades_327 : decode cX4_grades 327 = .ok (.iconst 0, 1) := dk_3 (dk_at dksX4_grades_14 1 rfl rfl)
theorem dX4_grades_328 : decode cX4_grades 328 = .ok (.iadd, 1) := dk_96 (dk_at dksX4_grades_14 2 rfl rfl)
theorem dX4_grades_329 : decode cX4_grades 329 = .ok (.iaload, 1) := dk_46 (dk_at dksX4_grades_14 3 rfl rfl)
theorem dX4_grades_330 : decode cX4_grades 330 = .ok (.iadd, 1) := dk_96 (dk_at dksX4_grades_14 4 rfl rfl)
theorem dX4_grades_331 : decode cX4_grades 331 = .ok (.iastore, 1) := dk_79 (dk_at dksX4_grades_14 5 rfl rfl)
theorem dX4_grades_332 : decode cX4_grades 332 = .ok (.aload_n 0, 1) := dk_42 (dk_at dksX4_grades_14 6 rfl rfl)
theorem dX4_grades_333 : decode cX4_grades 333 = .ok (.getfield 7, 3) := dk_180 0 7 (dk_at dksX4_grades_14 7 rfl rfl)
theorem dX4_grades_336 : decode cX4_grades 336 = .ok (.iload_n 1, 1) := dk_27 (dk_at dksX4_grades_14 10 rfl rfl)
theorem dX4_grades_337 : decode cX4_grades 337 = .ok (.invokestatic 28, 3) := dk_184 0 28 (dk_at dksX4_grades_14 11 rfl rfl)
theorem dX4_grades_340 : decode cX4_grades 340 = .ok (.iconst 4, 1) := dk_7 (dk_at dksX4_grades_14 14 rfl rfl)
theorem dX4_grades_341 : decode cX4_grades 341 = .ok (.iadd, 1) := dk_96 (dk_at dksX4_grades_14 15 rfl rfl)
theorem dX4_grades_342 : decode cX4_grades 342 = .ok (.dup2, 1) := dk_92 (dk_at dksX4_grades_14 16 rfl rfl)
theorem dX4_grades_343 : decode cX4_grades 343 = .ok (.iaload, 1) := dk_46 (dk_at dksX4_grades_14 17 rfl rfl)
theorem dX4_grades_344 : decode cX4_grades 344 = .ok (.iconst 1, 1) := dk_4 (dk_at dksX4_grades_14 18 rfl rfl)
theorem dX4_grades_345 : decode cX4_grades 345 = .ok (.iadd, 1) := dk_96 (dk_at dksX4_grades_14 19 rfl rfl)
theorem dX4_grades_346 : decode cX4_grades 346 = .ok (.iastore, 1) := dk_79 (dk_at dksX4_grades_14 20 rfl rfl)
theorem dX4_grades_347 : decode cX4_grades 347 = .ok (.aload_n 0, 1) := dk_42 (dk_at dksX4_grades_14 21 rfl rfl)
theorem dX4_grades_348 : decode cX4_grades 348 = .ok (.iload_n 1, 1) := dk_27 (dk_at dksX4_grades_14 22 rfl rfl)
theorem dX4_grades_349 : decode cX4_grades 349 = .ok (.invokevirtual 83, 3) := dk_182 0 83 (dk_at dksX4_grades_15 0 rfl rfl)
theorem dX4_grades_352 : decode cX4_grades 352 = .ok (.aload_n 0, 1) := dk_42 (dk_at dksX4_grades_15 3 rfl rfl)
theorem dX4_grades_353 : decode cX4_grades 353 = .ok (.iload 4, 2) := dk_21 4 (dk_at dksX4_grades_15 4 rfl rfl)
theorem dX4_grades_355 : decode cX4_grades 355 = .ok (.iload 5, 2) := dk_21 5 (dk_at dksX4_grades_15 6 rfl rfl)
theorem dX4_grades_357 : decode cX4_grades 357 = .ok (.invokevirtual 87, 3) := dk_182 0 87 (dk_at dksX4_grades_15 8 rfl rfl)
theorem dX4_grades_360 : decode cX4_grades 360 = .ok (.iconst 1, 1) := dk_4 (dk_at dksX4_grades_15 11 rfl rfl)
theorem dX4_grades_361 : decode cX4_grades 361 = .ok (.ireturn, 1) := dk_172 (dk_at dksX4_grades_15 12 rfl rfl)
abbrev cX4_barred : ByteArray := prog_14_method_17_code
def yX4_barred : MethodName := ⟨RX4, "barred", "(II)I"⟩
def dkwX4_barred_1 : List UInt8 := [162, 0, 7, 5, 167, 0, 16, 42, 27, 182, 0, 57, 153, 0, 7, 6, 167, 0, 4, 3, 172]
abbrev dktX4_barred_1 : List UInt8 := dkwX4_barred_1 ++ []
def dkwX4_barred_0 : List UInt8 := [42, 27, 182, 0, 54, 154, 0, 5, 4, 172, 28, 42, 180, 0, 7, 27, 3, 184, 0, 47, 4, 96, 46]
abbrev dktX4_barred_0 : List UInt8 := dkwX4_barred_0 ++ dktX4_barred_1
theorem dksX4_barred_0 : cX4_barred.data.toList.drop 0 = dktX4_barred_0 := by decide +kernel
theorem dksX4_barred_1 : cX4_barred.data.toList.drop 23 = dktX4_barred_1 := dk_seg dksX4_barred_0 23 rfl rfl
theorem dX4_barred_0 : decode cX4_barred 0 = .ok (.aload_n 0, 1) := dk_42 (dk_at dksX4_barred_0 0 rfl rfl)
theorem dX4_barred_1 : decode cX4_barred 1 = .ok (.iload_n 1, 1) := dk_27 (dk_at dksX4_barred_0 1 rfl rfl)
theorem dX4_barred_2 : decode cX4_barred 2 = .ok (.invokevirtual 54, 3) := dk_182 0 54 (dk_at dksX4_barred_0 2 rfl rfl)
theorem dX4_barred_5 : decode cX4_barred 5 = .ok (.ifCond .ne 5, 3) := dk_154 0 5 (dk_at dksX4_barred_0 5 rfl rfl)
theorem dX4_barred_8 : decode cX4_barred 8 = .ok (.iconst 1, 1) := dk_4 (dk_at dksX4_barred_0 8 rfl rfl)
theorem dX4_barred_9 : decode cX4_barred 9 = .ok (.ireturn, 1) := dk_172 (dk_at dksX4_barred_0 9 rfl rfl)
theorem dX4_barred_10 : decode cX4_barred 10 = .ok (.iload_n 2, 1) := dk_28 (dk_at dksX4_barred_0 10 rfl rfl)
theorem dX4_barred_11 : decode cX4_barred 11 = .ok (.aload_n 0, 1) := dk_42 (dk_at dksX4_barred_0 11 rfl rfl)
theorem dX4_barred_12 : decode cX4_barred 12 = .ok (.getfield 7, 3) := dk_180 0 7 (dk_at dksX4_barred_0 12 rfl rfl)
theorem dX4_barred_15 : decode cX4_barred 15 = .ok (.iload_n 1, 1) := dk_27 (dk_at dksX4_barred_0 15 rfl rfl)
theorem dX4_barred_16 : decode cX4_barred 16 = .ok (.iconst 0, 1) := dk_3 (dk_at dksX4_barred_0 16 rfl rfl)
theorem dX4_barred_17 : decode cX4_barred 17 = .ok (.invokestatic 47, 3) := dk_184 0 47 (dk_at dksX4_barred_0 17 rfl rfl)
theorem dX4_barred_20 : decode cX4_barred 20 = .ok (.iconst 1, 1) := dk_4 (dk_at dksX4_barred_0 20 rfl rfl)
theorem dX4_barred_21 : decode cX4_barred 21 = .ok (.iadd, 1) := dk_96 (dk_at dksX4_barred_0 21 rfl rfl)
theorem dX4_barred_22 : decode cX4_barred 22 = .ok (.iaload, 1) := dk_46 (dk_at dksX4_barred_0 22 rfl rfl)
theorem dX4_barred_23 : decode cX4_barred 23 = .ok (.if_icmp .ge 7, 3) := dk_162 0 7 (dk_at dksX4_barred_1 0 rfl rfl)
theorem dX4_barred_26 : decode cX4_barred 26 = .ok (.iconst 2, 1) := dk_5 (dk_at dksX4_barred_1 3 rfl rfl)
theorem dX4_barred_27 : decode cX4_barred 27 = .ok (.goto 16, 3) := dk_167 0 16 (dk_at dksX4_barred_1 4 rfl rfl)
theorem dX4_barred_30 : decode cX4_barred 30 = .ok (.aload_n 0, 1) := dk_42 (dk_at dksX4_barred_1 7 rfl rfl)
theorem dX4_barred_31 : decode cX4_barred 31 = .ok (.iload_n 1, 1) := dk_27 (dk_at dksX4_barred_1 8 rfl rfl)
theorem dX4_barred_32 : decode cX4_barred 32 = .ok (.invokevirtual 57, 3) := dk_182 0 57 (dk_at dksX4_barred_1 9 rfl rfl)
theorem dX4_barred_35 : decode cX4_barred 35 = .ok (.ifCond .eq 7, 3) := dk_153 0 7 (dk_at dksX4_barred_1 12 rfl rfl)
theorem dX4_barred_38 : decode cX4_barred 38 = .ok (.iconst 3, 1) := dk_6 (dk_at dksX4_barred_1 15 rfl rfl)
theorem dX4_barred_39 : decode cX4_barred 39 = .ok (.goto 4, 3) := dk_167 0 4 (dk_at dksX4_barred_1 16 rfl rfl)
theorem dX4_barred_42 : decode cX4_barred 42 = .ok (.iconst 0, 1) := dk_3 (dk_at dksX4_barred_1 19 rfl rfl)
theorem dX4_barred_43 : decode cX4_barred 43 = .ok (.ireturn, 1) := dk_172 (dk_at dksX4_barred_1 20 rfl rfl)
abbrev cX4_isSeenBroken : ByteArray := prog_14_method_16_code
def yX4_isSeenBroken : MethodName := ⟨RX4, "isSeenBroken", "(I)Z"⟩
def dkwX4_isSeenBroken_1 : List UInt8 := [100, 122, 4, 126, 4, 160, 0, 7, 4, 167, 0, 4, 3, 172]
abbrev dktX4_isSeenBroken_1 : List UInt8 := dkwX4_isSeenBroken_1 ++ []
def dkwX4_isSeenBroken_0 : List UInt8 := [42, 180, 0, 7, 27, 3, 184, 0, 47, 7, 96, 46, 61, 28, 158, 0, 22, 42, 27, 182, 0, 51, 28, 4]
abbrev dktX4_isSeenBroken_0 : List UInt8 := dkwX4_isSeenBroken_0 ++ dktX4_isSeenBroken_1
theorem dksX4_isSeenBroken_0 : cX4_isSeenBroken.data.toList.drop 0 = dktX4_isSeenBroken_0 := by decide +kernel
theorem dksX4_isSeenBroken_1 : cX4_isSeenBroken.data.toList.drop 24 = dktX4_isSeenBroken_1 := dk_seg dksX4_isSeenBroken_0 24 rfl rfl
theorem dX4_isSeenBroken_0 : decode cX4_isSeenBroken 0 = .ok (.aload_n 0, 1) := dk_42 (dk_at dksX4_isSeenBroken_0 0 rfl rfl)
theorem dX4_isSeenBroken_1 : decode cX4_isSeenBroken 1 = .ok (.getfield 7, 3) := dk_180 0 7 (dk_at dksX4_isSeenBroken_0 1 rfl rfl)
theorem dX4_isSeenBroken_4 : decode cX4_isSeenBroken 4 = .ok (.iload_n 1, 1) := dk_27 (dk_at dksX4_isSeenBroken_0 4 rfl rfl)
theorem dX4_isSeenBroken_5 : decode cX4_isSeenBroken 5 = .ok (.iconst 0, 1) := dk_3 (dk_at dksX4_isSeenBroken_0 5 rfl rfl)
theorem dX4_isSeenBroken_6 : decode cX4_isSeenBroken 6 = .ok (.invokestatic 47, 3) := dk_184 0 47 (dk_at dksX4_isSeenBroken_0 6 rfl rfl)
theorem dX4_isSeenBroken_9 : decode cX4_isSeenBroken 9 = .ok (.iconst 4, 1) := dk_7 (dk_at dksX4_isSeenBroken_0 9 rfl rfl)
theorem dX4_isSeenBroken_10 : decode cX4_isSeenBroken 10 = .ok (.iadd, 1) := dk_96 (dk_at dksX4_isSeenBroken_0 10 rfl rfl)
theorem dX4_isSeenBroken_11 : decode cX4_isSeenBroken 11 = .ok (.iaload, 1) := dk_46 (dk_at dksX4_isSeenBroken_0 11 rfl rfl)
theorem dX4_isSeenBroken_12 : decode cX4_isSeenBroken 12 = .ok (.istore_n 2, 1) := dk_61 (dk_at dksX4_isSeenBroken_0 12 rfl rfl)
theorem dX4_isSeenBroken_13 : decode cX4_isSeenBroken 13 = .ok (.iload_n 2, 1) := dk_28 (dk_at dksX4_isSeenBroken_0 13 rfl rfl)
theorem dX4_isSeenBroken_14 : decode cX4_isSeenBroken 14 = .ok (.ifCond .le 22, 3) := dk_158 0 22 (dk_at dksX4_isSeenBroken_0 14 rfl rfl)
theorem dX4_isSeenBroken_17 : decode cX4_isSeenBroken 17 = .ok (.aload_n 0, 1) := dk_42 (dk_at dksX4_isSeenBroken_0 17 rfl rfl)
theorem dX4_isSeenBroken_18 : decode cX4_isSeenBroken 18 = .ok (.iload_n 1, 1) := dk_27 (dk_at dksX4_isSeenBroken_0 18 rfl rfl)
theorem dX4_isSeenBroken_19 : decode cX4_isSeenBroken 19 = .ok (.invokevirtual 51, 3) := dk_182 0 51 (dk_at dksX4_isSeenBroken_0 19 rfl rfl)
theorem dX4_isSeenBroken_22 : decode cX4_isSeenBroken 22 = .ok (.iload_n 2, 1) := dk_28 (dk_at dksX4_isSeenBroken_0 22 rfl rfl)
theorem dX4_isSeenBroken_23 : decode cX4_isSeenBroken 23 = .ok (.iconst 1, 1) := dk_4 (dk_at dksX4_isSeenBroken_0 23 rfl rfl)
theorem dX4_isSeenBroken_24 : decode cX4_isSeenBroken 24 = .ok (.isub, 1) := dk_100 (dk_at dksX4_isSeenBroken_1 0 rfl rfl)
theorem dX4_isSeenBroken_25 : decode cX4_isSeenBroken 25 = .ok (.ishr, 1) := dk_122 (dk_at dksX4_isSeenBroken_1 1 rfl rfl)
theorem dX4_isSeenBroken_26 : decode cX4_isSeenBroken 26 = .ok (.iconst 1, 1) := dk_4 (dk_at dksX4_isSeenBroken_1 2 rfl rfl)
theorem dX4_isSeenBroken_27 : decode cX4_isSeenBroken 27 = .ok (.iand, 1) := dk_126 (dk_at dksX4_isSeenBroken_1 3 rfl rfl)
theorem dX4_isSeenBroken_28 : decode cX4_isSeenBroken 28 = .ok (.iconst 1, 1) := dk_4 (dk_at dksX4_isSeenBroken_1 4 rfl rfl)
theorem dX4_isSeenBroken_29 : decode cX4_isSeenBroken 29 = .ok (.if_icmp .ne 7, 3) := dk_160 0 7 (dk_at dksX4_isSeenBroken_1 5 rfl rfl)
theorem dX4_isSeenBroken_32 : decode cX4_isSeenBroken 32 = .ok (.iconst 1, 1) := dk_4 (dk_at dksX4_isSeenBroken_1 8 rfl rfl)
theorem dX4_isSeenBroken_33 : decode cX4_isSeenBroken 33 = .ok (.goto 4, 3) := dk_167 0 4 (dk_at dksX4_isSeenBroken_1 9 rfl rfl)
theorem dX4_isSeenBroken_36 : decode cX4_isSeenBroken 36 = .ok (.iconst 0, 1) := dk_3 (dk_at dksX4_isSeenBroken_1 12 rfl rfl)
theorem dX4_isSeenBroken_37 : decode cX4_isSeenBroken 37 = .ok (.ireturn, 1) := dk_172 (dk_at dksX4_isSeenBroken_1 13 rfl rfl)
abbrev cX4_seen : ByteArray := prog_14_method_12_code
def yX4_seen : MethodName := ⟨RX4, "seen", "(I)I"⟩
def dkwX4_seen_0 : List UInt8 := [42, 42, 180, 0, 7, 27, 184, 0, 28, 5, 96, 46, 182, 0, 44, 172]
abbrev dktX4_seen_0 : List UInt8 := dkwX4_seen_0 ++ []
theorem dksX4_seen_0 : cX4_seen.data.toList.drop 0 = dktX4_seen_0 := by decide +kernel
theorem dX4_seen_0 : decode cX4_seen 0 = .ok (.aload_n 0, 1) := dk_42 (dk_at dksX4_seen_0 0 rfl rfl)
theorem dX4_seen_1 : decode cX4_seen 1 = .ok (.aload_n 0, 1) := dk_42 (dk_at dksX4_seen_0 1 rfl rfl)
theorem dX4_seen_2 : decode cX4_seen 2 = .ok (.getfield 7, 3) := dk_180 0 7 (dk_at dksX4_seen_0 2 rfl rfl)
theorem dX4_seen_5 : decode cX4_seen 5 = .ok (.iload_n 1, 1) := dk_27 (dk_at dksX4_seen_0 5 rfl rfl)
theorem dX4_seen_6 : decode cX4_seen 6 = .ok (.invokestatic 28, 3) := dk_184 0 28 (dk_at dksX4_seen_0 6 rfl rfl)
theorem dX4_seen_9 : decode cX4_seen 9 = .ok (.iconst 2, 1) := dk_5 (dk_at dksX4_seen_0 9 rfl rfl)
theorem dX4_seen_10 : decode cX4_seen 10 = .ok (.iadd, 1) := dk_96 (dk_at dksX4_seen_0 10 rfl rfl)
theorem dX4_seen_11 : decode cX4_seen 11 = .ok (.iaload, 1) := dk_46 (dk_at dksX4_seen_0 11 rfl rfl)
theorem dX4_seen_12 : decode cX4_seen 12 = .ok (.invokevirtual 44, 3) := dk_182 0 44 (dk_at dksX4_seen_0 12 rfl rfl)
theorem dX4_seen_15 : decode cX4_seen 15 = .ok (.ireturn, 1) := dk_172 (dk_at dksX4_seen_0 15 rfl rfl)
abbrev cX4_seenBy : ByteArray := prog_14_method_11_code
def yX4_seenBy : MethodName := ⟨RX4, "seenBy", "(I)I"⟩
def dkwX4_seenBy_1 : List UInt8 := [120, 128, 61, 132, 3, 1, 167, 255, 230, 28, 172]
abbrev dktX4_seenBy_1 : List UInt8 := dkwX4_seenBy_1 ++ []
def dkwX4_seenBy_0 : List UInt8 := [3, 61, 3, 62, 29, 42, 180, 0, 7, 17, 1, 51, 46, 162, 0, 20, 28, 4, 29, 27, 104, 16, 8, 112]
abbrev dktX4_seenBy_0 : List UInt8 := dkwX4_seenBy_0 ++ dktX4_seenBy_1
theorem dksX4_seenBy_0 : cX4_seenBy.data.toList.drop 0 = dktX4_seenBy_0 := by decide +kernel
theorem dksX4_seenBy_1 : cX4_seenBy.data.toList.drop 24 = dktX4_seenBy_1 := dk_seg dksX4_seenBy_0 24 rfl rfl
theorem dX4_seenBy_0 : decode cX4_seenBy 0 = .ok (.iconst 0, 1) := dk_3 (dk_at dksX4_seenBy_0 0 rfl rfl)
theorem dX4_seenBy_1 : decode cX4_seenBy 1 = .ok (.istore_n 2, 1) := dk_61 (dk_at dksX4_seenBy_0 1 rfl rfl)
theorem dX4_seenBy_2 : decode cX4_seenBy 2 = .ok (.iconst 0, 1) := dk_3 (dk_at dksX4_seenBy_0 2 rfl rfl)
theorem dX4_seenBy_3 : decode cX4_seenBy 3 = .ok (.istore_n 3, 1) := dk_62 (dk_at dksX4_seenBy_0 3 rfl rfl)
theorem dX4_seenBy_4 : decode cX4_seenBy 4 = .ok (.iload_n 3, 1) := dk_29 (dk_at dksX4_seenBy_0 4 rfl rfl)
theorem dX4_seenBy_5 : decode cX4_seenBy 5 = .ok (.aload_n 0, 1) := dk_42 (dk_at dksX4_seenBy_0 5 rfl rfl)
theorem dX4_seenBy_6 : decode cX4_seenBy 6 = .ok (.getfield 7, 3) := dk_180 0 7 (dk_at dksX4_seenBy_0 6 rfl rfl)
theorem dX4_seenBy_9 : decode cX4_seenBy 9 = .ok (.sipush 307, 3) := dk_17 1 51 (dk_at dksX4_seenBy_0 9 rfl rfl)
theorem dX4_seenBy_12 : decode cX4_seenBy 12 = .ok (.iaload, 1) := dk_46 (dk_at dksX4_seenBy_0 12 rfl rfl)
theorem dX4_seenBy_13 : decode cX4_seenBy 13 = .ok (.if_icmp .ge 20, 3) := dk_162 0 20 (dk_at dksX4_seenBy_0 13 rfl rfl)
theorem dX4_seenBy_16 : decode cX4_seenBy 16 = .ok (.iload_n 2, 1) := dk_28 (dk_at dksX4_seenBy_0 16 rfl rfl)
theorem dX4_seenBy_17 : decode cX4_seenBy 17 = .ok (.iconst 1, 1) := dk_4 (dk_at dksX4_seenBy_0 17 rfl rfl)
theorem dX4_seenBy_18 : decode cX4_seenBy 18 = .ok (.iload_n 3, 1) := dk_29 (dk_at dksX4_seenBy_0 18 rfl rfl)
theorem dX4_seenBy_19 : decode cX4_seenBy 19 = .ok (.iload_n 1, 1) := dk_27 (dk_at dksX4_seenBy_0 19 rfl rfl)
theorem dX4_seenBy_20 : decode cX4_seenBy 20 = .ok (.imul, 1) := dk_104 (dk_at dksX4_seenBy_0 20 rfl rfl)
theorem dX4_seenBy_21 : decode cX4_seenBy 21 = .ok (.bipush 8, 2) := dk_16 8 (dk_at dksX4_seenBy_0 21 rfl rfl)
theorem dX4_seenBy_23 : decode cX4_seenBy 23 = .ok (.irem, 1) := dk_112 (dk_at dksX4_seenBy_0 23 rfl rfl)
theorem dX4_seenBy_24 : decode cX4_seenBy 24 = .ok (.ishl, 1) := dk_120 (dk_at dksX4_seenBy_1 0 rfl rfl)
theorem dX4_seenBy_25 : decode cX4_seenBy 25 = .ok (.ior, 1) := dk_128 (dk_at dksX4_seenBy_1 1 rfl rfl)
theorem dX4_seenBy_26 : decode cX4_seenBy 26 = .ok (.istore_n 2, 1) := dk_61 (dk_at dksX4_seenBy_1 2 rfl rfl)
theorem dX4_seenBy_27 : decode cX4_seenBy 27 = .ok (.iinc 3 1, 3) := dk_132 3 1 (dk_at dksX4_seenBy_1 3 rfl rfl)
theorem dX4_seenBy_30 : decode cX4_seenBy 30 = .ok (.goto (-26), 3) := dk_167 255 230 (dk_at dksX4_seenBy_1 6 rfl rfl)
theorem dX4_seenBy_33 : decode cX4_seenBy 33 = .ok (.iload_n 2, 1) := dk_28 (dk_at dksX4_seenBy_1 9 rfl rfl)
theorem dX4_seenBy_34 : decode cX4_seenBy 34 = .ok (.ireturn, 1) := dk_172 (dk_at dksX4_seenBy_1 10 rfl rfl)
abbrev cX4_gradeOf : ByteArray := prog_14_method_18_code
def yX4_gradeOf : MethodName := ⟨RX4, "gradeOf", "(II)I"⟩
def dkwX4_gradeOf_5 : List UInt8 := [167, 0, 4, 6, 172]
abbrev dktX4_gradeOf_5 : List UInt8 := dkwX4_gradeOf_5 ++ []
def dkwX4_gradeOf_4 : List UInt8 := [167, 0, 26, 21, 5, 16, 60, 162, 0, 7, 4, 167, 0, 15, 21, 5, 16, 70, 162, 0, 7, 5]
abbrev dktX4_gradeOf_4 : List UInt8 := dkwX4_gradeOf_4 ++ dktX4_gradeOf_5
def dkwX4_gradeOf_3 : List UInt8 := [46, 164, 0, 5, 7, 172, 42, 180, 0, 7, 29, 3, 96, 46, 54, 5, 21, 5, 16, 50, 162, 0, 7, 3]
abbrev dktX4_gradeOf_3 : List UInt8 := dkwX4_gradeOf_3 ++ dktX4_gradeOf_4
def dkwX4_gradeOf_2 : List UInt8 := [154, 0, 30, 42, 27, 182, 0, 61, 42, 27, 182, 0, 51, 126, 184, 0, 64, 42, 180, 0, 7, 17, 1, 54]
abbrev dktX4_gradeOf_2 : List UInt8 := dkwX4_gradeOf_2 ++ dktX4_gradeOf_3
def dkwX4_gradeOf_1 : List UInt8 := [180, 0, 7, 29, 4, 96, 46, 16, 40, 96, 164, 0, 7, 4, 167, 0, 4, 3, 54, 4, 21, 4]
abbrev dktX4_gradeOf_1 : List UInt8 := dkwX4_gradeOf_1 ++ dktX4_gradeOf_2
def dkwX4_gradeOf_0 : List UInt8 := [27, 3, 184, 0, 47, 62, 42, 180, 0, 7, 29, 6, 96, 46, 5, 160, 0, 5, 8, 172, 28, 42]
abbrev dktX4_gradeOf_0 : List UInt8 := dkwX4_gradeOf_0 ++ dktX4_gradeOf_1
theorem dksX4_gradeOf_0 : cX4_gradeOf.data.toList.drop 0 = dktX4_gradeOf_0 := by decide +kernel
theorem dksX4_gradeOf_1 : cX4_gradeOf.data.toList.drop 22 = dktX4_gradeOf_1 := dk_seg dksX4_gradeOf_0 22 rfl rfl
theorem dksX4_gradeOf_2 : cX4_gradeOf.data.toList.drop 44 = dktX4_gradeOf_2 := dk_seg dksX4_gradeOf_1 22 rfl rfl
theorem dksX4_gradeOf_3 : cX4_gradeOf.data.toList.drop 68 = dktX4_gradeOf_3 := dk_seg dksX4_gradeOf_2 24 rfl rfl
theorem dksX4_gradeOf_4 : cX4_gradeOf.data.toList.drop 92 = dktX4_gradeOf_4 := dk_seg dksX4_gradeOf_3 24 rfl rfl
theorem dksX4_gradeOf_5 : cX4_gradeOf.data.toList.drop 114 = dktX4_gradeOf_5 := dk_seg dksX4_gradeOf_4 22 rfl rfl
theorem dX4_gradeOf_0 : decode cX4_gradeOf 0 = .ok (.iload_n 1, 1) := dk_27 (dk_at dksX4_gradeOf_0 0 rfl rfl)
theorem dX4_gradeOf_1 : decode cX4_gradeOf 1 = .ok (.iconst 0, 1) := dk_3 (dk_at dksX4_gradeOf_0 1 rfl rfl)
theorem dX4_gradeOf_2 : decode cX4_gradeOf 2 = .ok (.invokestatic 47, 3) := dk_184 0 47 (dk_at dksX4_gradeOf_0 2 rfl rfl)
theorem dX4_gradeOf_5 : decode cX4_gradeOf 5 = .ok (.istore_n 3, 1) := dk_62 (dk_at dksX4_gradeOf_0 5 rfl rfl)
theorem dX4_gradeOf_6 : decode cX4_gradeOf 6 = .ok (.aload_n 0, 1) := dk_42 (dk_at dksX4_gradeOf_0 6 rfl rfl)
theorem dX4_gradeOf_7 : decode cX4_gradeOf 7 = .ok (.getfield 7, 3) := dk_180 0 7 (dk_at dksX4_gradeOf_0 7 rfl rfl)
theorem dX4_gradeOf_10 : decode cX4_gradeOf 10 = .ok (.iload_n 3, 1) := dk_29 (dk_at dksX4_gradeOf_0 10 rfl rfl)
theorem dX4_gradeOf_11 : decode cX4_gradeOf 11 = .ok (.iconst 3, 1) := dk_6 (dk_at dksX4_gradeOf_0 11 rfl rfl)
theorem dX4_gradeOf_12 : decode cX4_gradeOf 12 = .ok (.iadd, 1) := dk_96 (dk_at dksX4_gradeOf_0 12 rfl rfl)
theorem dX4_gradeOf_13 : decode cX4_gradeOf 13 = .ok (.iaload, 1) := dk_46 (dk_at dksX4_gradeOf_0 13 rfl rfl)
theorem dX4_gradeOf_14 : decode cX4_gradeOf 14 = .ok (.iconst 2, 1) := dk_5 (dk_at dksX4_gradeOf_0 14 rfl rfl)
theorem dX4_gradeOf_15 : decode cX4_gradeOf 15 = .ok (.if_icmp .ne 5, 3) := dk_160 0 5 (dk_at dksX4_gradeOf_0 15 rfl rfl)
theorem dX4_gradeOf_18 : decode cX4_gradeOf 18 = .ok (.iconst 5, 1) := dk_8 (dk_at dksX4_gradeOf_0 18 rfl rfl)
theorem dX4_gradeOf_19 : decode cX4_gradeOf 19 = .ok (.ireturn, 1) := dk_172 (dk_at dksX4_gradeOf_0 19 rfl rfl)
theorem dX4_gradeOf_20 : decode cX4_gradeOf 20 = .ok (.iload_n 2, 1) := dk_28 (dk_at dksX4_gradeOf_0 20 rfl rfl)
theorem dX4_gradeOf_21 : decode cX4_gradeOf 21 = .ok (.aload_n 0, 1) := dk_42 (dk_at dksX4_gradeOf_0 21 rfl rfl)
theorem dX4_gradeOf_22 : decode cX4_gradeOf 22 = .ok (.getfield 7, 3) := dk_180 0 7 (dk_at dksX4_gradeOf_1 0 rfl rfl)
theorem dX4_gradeOf_25 : decode cX4_gradeOf 25 = .ok (.iload_n 3, 1) := dk_29 (dk_at dksX4_gradeOf_1 3 rfl rfl)
theorem dX4_gradeOf_26 : decode cX4_gradeOf 26 = .ok (.iconst 1, 1) := dk_4 (dk_at dksX4_gradeOf_1 4 rfl rfl)
theorem dX4_gradeOf_27 : decode cX4_gradeOf 27 = .ok (.iadd, 1) := dk_96 (dk_at dksX4_gradeOf_1 5 rfl rfl)
theorem dX4_gradeOf_28 : decode cX4_gradeOf 28 = .ok (.iaload, 1) := dk_46 (dk_at dksX4_gradeOf_1 6 rfl rfl)
theorem dX4_gradeOf_29 : decode cX4_gradeOf 29 = .ok (.bipush 40, 2) := dk_16 40 (dk_at dksX4_gradeOf_1 7 rfl rfl)
theorem dX4_gradeOf_31 : decode cX4_gradeOf 31 = .ok (.iadd, 1) := dk_96 (dk_at dksX4_gradeOf_1 9 rfl rfl)
theorem dX4_gradeOf_32 : decode cX4_gradeOf 32 = .ok (.if_icmp .le 7, 3) := dk_164 0 7 (dk_at dksX4_gradeOf_1 10 rfl rfl)
theorem dX4_gradeOf_35 : decode cX4_gradeOf 35 = .ok (.iconst 1, 1) := dk_4 (dk_at dksX4_gradeOf_1 13 rfl rfl)
theorem dX4_gradeOf_36 : decode cX4_gradeOf 36 = .ok (.goto 4, 3) := dk_167 0 4 (dk_at dksX4_gradeOf_1 14 rfl rfl)
theorem dX4_gradeOf_39 : decode cX4_gradeOf 39 = .ok (.iconst 0, 1) := dk_3 (dk_at dksX4_gradeOf_1 17 rfl rfl)
theorem dX4_gradeOf_40 : decode cX4_gradeOf 40 = .ok (.istore 4, 2) := dk_54 4 (dk_at dksX4_gradeOf_1 18 rfl rfl)
theorem dX4_gradeOf_42 : decode cX4_gradeOf 42 = .ok (.iload 4, 2) := dk_21 4 (dk_at dksX4_gradeOf_1 20 rfl rfl)
theorem dX4_gradeOf_44 : decode cX4_gradeOf 44 = .ok (.ifCond .ne 30, 3) := dk_154 0 30 (dk_at dksX4_gradeOf_2 0 rfl rfl)
theorem dX4_gradeOf_47 : decode cX4_gradeOf 47 = .ok (.aload_n 0, 1) := dk_42 (dk_at dksX4_gradeOf_2 3 rfl rfl)
theorem dX4_gradeOf_48 : decode cX4_gradeOf 48 = .ok (.iload_n 1, 1) := dk_27 (dk_at dksX4_gradeOf_2 4 rfl rfl)
theorem dX4_gradeOf_49 : decode cX4_gradeOf 49 = .ok (.invokevirtual 61, 3) := dk_182 0 61 (dk_at dksX4_gradeOf_2 5 rfl rfl)
theorem dX4_gradeOf_52 : decode cX4_gradeOf 52 = .ok (.aload_n 0, 1) := dk_42 (dk_at dksX4_gradeOf_2 8 rfl rfl)
theorem dX4_gradeOf_53 : decode cX4_gradeOf 53 = .ok (.iload_n 1, 1) := dk_27 (dk_at dksX4_gradeOf_2 9 rfl rfl)
theorem dX4_gradeOf_54 : decode cX4_gradeOf 54 = .ok (.invokevirtual 51, 3) := dk_182 0 51 (dk_at dksX4_gradeOf_2 10 rfl rfl)
theorem dX4_gradeOf_57 : decode cX4_gradeOf 57 = .ok (.iand, 1) := dk_126 (dk_at dksX4_gradeOf_2 13 rfl rfl)
theorem dX4_gradeOf_58 : decode cX4_gradeOf 58 = .ok (.invokestatic 64, 3) := dk_184 0 64 (dk_at dksX4_gradeOf_2 14 rfl rfl)
theorem dX4_gradeOf_61 : decode cX4_gradeOf 61 = .ok (.aload_n 0, 1) := dk_42 (dk_at dksX4_gradeOf_2 17 rfl rfl)
theorem dX4_gradeOf_62 : decode cX4_gradeOf 62 = .ok (.getfield 7, 3) := dk_180 0 7 (dk_at dksX4_gradeOf_2 18 rfl rfl)
theorem dX4_gradeOf_65 : decode cX4_gradeOf 65 = .ok (.sipush 310, 3) := dk_17 1 54 (dk_at dksX4_gradeOf_2 21 rfl rfl)
theorem dX4_gradeOf_68 : decode cX4_gradeOf 68 = .ok (.iaload, 1) := dk_46 (dk_at dksX4_gradeOf_3 0 rfl rfl)
theorem dX4_gradeOf_69 : decode cX4_gradeOf 69 = .ok (.if_icmp .le 5, 3) := dk_164 0 5 (dk_at dksX4_gradeOf_3 1 rfl rfl)
theorem dX4_gradeOf_72 : decode cX4_gradeOf 72 = .ok (.iconst 4, 1) := dk_7 (dk_at dksX4_gradeOf_3 4 rfl rfl)
theorem dX4_gradeOf_73 : decode cX4_gradeOf 73 = .ok (.ireturn, 1) := dk_172 (dk_at dksX4_gradeOf_3 5 rfl rfl)
theorem dX4_gradeOf_74 : decode cX4_gradeOf 74 = .ok (.aload_n 0, 1) := dk_42 (dk_at dksX4_gradeOf_3 6 rfl rfl)
theorem dX4_gradeOf_75 : decode cX4_gradeOf 75 = .ok (.getfield 7, 3) := dk_180 0 7 (dk_at dksX4_gradeOf_3 7 rfl rfl)
theorem dX4_gradeOf_78 : decode cX4_gradeOf 78 = .ok (.iload_n 3, 1) := dk_29 (dk_at dksX4_gradeOf_3 10 rfl rfl)
theorem dX4_gradeOf_79 : decode cX4_gradeOf 79 = .ok (.iconst 0, 1) := dk_3 (dk_at dksX4_gradeOf_3 11 rfl rfl)
theorem dX4_gradeOf_80 : decode cX4_gradeOf 80 = .ok (.iadd, 1) := dk_96 (dk_at dksX4_gradeOf_3 12 rfl rfl)
theorem dX4_gradeOf_81 : decode cX4_gradeOf 81 = .ok (.iaload, 1) := dk_46 (dk_at dksX4_gradeOf_3 13 rfl rfl)
theorem dX4_gradeOf_82 : decode cX4_gradeOf 82 = .ok (.istore 5, 2) := dk_54 5 (dk_at dksX4_gradeOf_3 14 rfl rfl)
theorem dX4_gradeOf_84 : decode cX4_gradeOf 84 = .ok (.iload 5, 2) := dk_21 5 (dk_at dksX4_gradeOf_3 16 rfl rfl)
theorem dX4_gradeOf_86 : decode cX4_gradeOf 86 = .ok (.bipush 50, 2) := dk_16 50 (dk_at dksX4_gradeOf_3 18 rfl rfl)
theorem dX4_gradeOf_88 : decode cX4_gradeOf 88 = .ok (.if_icmp .ge 7, 3) := dk_162 0 7 (dk_at dksX4_gradeOf_3 20 rfl rfl)
theorem dX4_gradeOf_91 : decode cX4_gradeOf 91 = .ok (.iconst 0, 1) := dk_3 (dk_at dksX4_gradeOf_3 23 rfl rfl)
theorem dX4_gradeOf_92 : decode cX4_gradeOf 92 = .ok (.goto 26, 3) := dk_167 0 26 (dk_at dksX4_gradeOf_4 0 rfl rfl)
theorem dX4_gradeOf_95 : decode cX4_gradeOf 95 = .ok (.iload 5, 2) := dk_21 5 (dk_at dksX4_gradeOf_4 3 rfl rfl)
theorem dX4_gradeOf_97 : decode cX4_gradeOf 97 = .ok (.bipush 60, 2) := dk_16 60 (dk_at dksX4_gradeOf_4 5 rfl rfl)
theorem dX4_gradeOf_99 : decode cX4_gradeOf 99 = .ok (.if_icmp .ge 7, 3) := dk_162 0 7 (dk_at dksX4_gradeOf_4 7 rfl rfl)
theorem dX4_gradeOf_102 : decode cX4_gradeOf 102 = .ok (.iconst 1, 1) := dk_4 (dk_at dksX4_gradeOf_4 10 rfl rfl)
theorem dX4_gradeOf_103 : decode cX4_gradeOf 103 = .ok (.goto 15, 3) := dk_167 0 15 (dk_at dksX4_gradeOf_4 11 rfl rfl)
theorem dX4_gradeOf_106 : decode cX4_gradeOf 106 = .ok (.iload 5, 2) := dk_21 5 (dk_at dksX4_gradeOf_4 14 rfl rfl)
theorem dX4_gradeOf_108 : decode cX4_gradeOf 108 = .ok (.bipush 70, 2) := dk_16 70 (dk_at dksX4_gradeOf_4 16 rfl rfl)
theorem dX4_gradeOf_110 : decode cX4_gradeOf 110 = .ok (.if_icmp .ge 7, 3) := dk_162 0 7 (dk_at dksX4_gradeOf_4 18 rfl rfl)
theorem dX4_gradeOf_113 : decode cX4_gradeOf 113 = .ok (.iconst 2, 1) := dk_5 (dk_at dksX4_gradeOf_4 21 rfl rfl)
theorem dX4_gradeOf_114 : decode cX4_gradeOf 114 = .ok (.goto 4, 3) := dk_167 0 4 (dk_at dksX4_gradeOf_5 0 rfl rfl)
theorem dX4_gradeOf_117 : decode cX4_gradeOf 117 = .ok (.iconst 3, 1) := dk_6 (dk_at dksX4_gradeOf_5 3 rfl rfl)
theorem dX4_gradeOf_118 : decode cX4_gradeOf 118 = .ok (.ireturn, 1) := dk_172 (dk_at dksX4_gradeOf_5 4 rfl rfl)
abbrev cX4_spotsOf : ByteArray := prog_14_method_15_code
def yX4_spotsOf : MethodName := ⟨RX4, "spotsOf", "(I)I"⟩
def dkwX4_spotsOf_1 : List UInt8 := [158, 0, 7, 4, 167, 0, 4, 3, 128, 172]
abbrev dktX4_spotsOf_1 : List UInt8 := dkwX4_spotsOf_1 ++ []
def dkwX4_spotsOf_0 : List UInt8 := [42, 180, 0, 7, 27, 3, 184, 0, 47, 5, 96, 46, 42, 180, 0, 7, 27, 184, 0, 28, 6, 96, 46]
abbrev dktX4_spotsOf_0 : List UInt8 := dkwX4_spotsOf_0 ++ dktX4_spotsOf_1
theorem dksX4_spotsOf_0 : cX4_spotsOf.data.toList.drop 0 = dktX4_spotsOf_0 := by decide +kernel
theorem dksX4_spotsOf_1 : cX4_spotsOf.data.toList.drop 23 = dktX4_spotsOf_1 := dk_seg dksX4_spotsOf_0 23 rfl rfl
theorem dX4_spotsOf_0 : decode cX4_spotsOf 0 = .ok (.aload_n 0, 1) := dk_42 (dk_at dksX4_spotsOf_0 0 rfl rfl)
theorem dX4_spotsOf_1 : decode cX4_spotsOf 1 = .ok (.getfield 7, 3) := dk_180 0 7 (dk_at dksX4_spotsOf_0 1 rfl rfl)
theorem dX4_spotsOf_4 : decode cX4_spotsOf 4 = .ok (.iload_n 1, 1) := dk_27 (dk_at dksX4_spotsOf_0 4 rfl rfl)
theorem dX4_spotsOf_5 : decode cX4_spotsOf 5 = .ok (.iconst 0, 1) := dk_3 (dk_at dksX4_spotsOf_0 5 rfl rfl)
theorem dX4_spotsOf_6 : decode cX4_spotsOf 6 = .ok (.invokestatic 47, 3) := dk_184 0 47 (dk_at dksX4_spotsOf_0 6 rfl rfl)
theorem dX4_spotsOf_9 : decode cX4_spotsOf 9 = .ok (.iconst 2, 1) := dk_5 (dk_at dksX4_spotsOf_0 9 rfl rfl)
theorem dX4_spotsOf_10 : decode cX4_spotsOf 10 = .ok (.iadd, 1) := dk_96 (dk_at dksX4_spotsOf_0 10 rfl rfl)
theorem dX4_spotsOf_11 : decode cX4_spotsOf 11 = .ok (.iaload, 1) := dk_46 (dk_at dksX4_spotsOf_0 11 rfl rfl)
theorem dX4_spotsOf_12 : decode cX4_spotsOf 12 = .ok (.aload_n 0, 1) := dk_42 (dk_at dksX4_spotsOf_0 12 rfl rfl)
theorem dX4_spotsOf_13 : decode cX4_spotsOf 13 = .ok (.getfield 7, 3) := dk_180 0 7 (dk_at dksX4_spotsOf_0 13 rfl rfl)
theorem dX4_spotsOf_16 : decode cX4_spotsOf 16 = .ok (.iload_n 1, 1) := dk_27 (dk_at dksX4_spotsOf_0 16 rfl rfl)
theorem dX4_spotsOf_17 : decode cX4_spotsOf 17 = .ok (.invokestatic 28, 3) := dk_184 0 28 (dk_at dksX4_spotsOf_0 17 rfl rfl)
theorem dX4_spotsOf_20 : decode cX4_spotsOf 20 = .ok (.iconst 3, 1) := dk_6 (dk_at dksX4_spotsOf_0 20 rfl rfl)
theorem dX4_spotsOf_21 : decode cX4_spotsOf 21 = .ok (.iadd, 1) := dk_96 (dk_at dksX4_spotsOf_0 21 rfl rfl)
theorem dX4_spotsOf_22 : decode cX4_spotsOf 22 = .ok (.iaload, 1) := dk_46 (dk_at dksX4_spotsOf_0 22 rfl rfl)
theorem dX4_spotsOf_23 : decode cX4_spotsOf 23 = .ok (.ifCond .le 7, 3) := dk_158 0 7 (dk_at dksX4_spotsOf_1 0 rfl rfl)
theorem dX4_spotsOf_26 : decode cX4_spotsOf 26 = .ok (.iconst 1, 1) := dk_4 (dk_at dksX4_spotsOf_1 3 rfl rfl)
theorem dX4_spotsOf_27 : decode cX4_spotsOf 27 = .ok (.goto 4, 3) := dk_167 0 4 (dk_at dksX4_spotsOf_1 4 rfl rfl)
theorem dX4_spotsOf_30 : decode cX4_spotsOf 30 = .ok (.iconst 0, 1) := dk_3 (dk_at dksX4_spotsOf_1 7 rfl rfl)
theorem dX4_spotsOf_31 : decode cX4_spotsOf 31 = .ok (.ior, 1) := dk_128 (dk_at dksX4_spotsOf_1 8 rfl rfl)
theorem dX4_spotsOf_32 : decode cX4_spotsOf 32 = .ok (.ireturn, 1) := dk_172 (dk_at dksX4_spotsOf_1 9 rfl rfl)
abbrev cX4_bits : ByteArray := prog_14_method_13_code
def yX4_bits : MethodName := ⟨RX4, "bits", "(I)I"⟩
def dkwX4_bits_0 : List UInt8 := [3, 60, 26, 61, 28, 158, 0, 16, 27, 28, 5, 112, 96, 60, 28, 5, 108, 61, 167, 255, 242, 27, 172]
abbrev dktX4_bits_0 : List UInt8 := dkwX4_bits_0 ++ []
theorem dksX4_bits_0 : cX4_bits.data.toList.drop 0 = dktX4_bits_0 := by decide +kernel
theorem dX4_bits_0 : decode cX4_bits 0 = .ok (.iconst 0, 1) := dk_3 (dk_at dksX4_bits_0 0 rfl rfl)
theorem dX4_bits_1 : decode cX4_bits 1 = .ok (.istore_n 1, 1) := dk_60 (dk_at dksX4_bits_0 1 rfl rfl)
theorem dX4_bits_2 : decode cX4_bits 2 = .ok (.iload_n 0, 1) := dk_26 (dk_at dksX4_bits_0 2 rfl rfl)
theorem dX4_bits_3 : decode cX4_bits 3 = .ok (.istore_n 2, 1) := dk_61 (dk_at dksX4_bits_0 3 rfl rfl)
theorem dX4_bits_4 : decode cX4_bits 4 = .ok (.iload_n 2, 1) := dk_28 (dk_at dksX4_bits_0 4 rfl rfl)
theorem dX4_bits_5 : decode cX4_bits 5 = .ok (.ifCond .le 16, 3) := dk_158 0 16 (dk_at dksX4_bits_0 5 rfl rfl)
theorem dX4_bits_8 : decode cX4_bits 8 = .ok (.iload_n 1, 1) := dk_27 (dk_at dksX4_bits_0 8 rfl rfl)
theorem dX4_bits_9 : decode cX4_bits 9 = .ok (.iload_n 2, 1) := dk_28 (dk_at dksX4_bits_0 9 rfl rfl)
theorem dX4_bits_10 : decode cX4_bits 10 = .ok (.iconst 2, 1) := dk_5 (dk_at dksX4_bits_0 10 rfl rfl)
theorem dX4_bits_11 : decode cX4_bits 11 = .ok (.irem, 1) := dk_112 (dk_at dksX4_bits_0 11 rfl rfl)
theorem dX4_bits_12 : decode cX4_bits 12 = .ok (.iadd, 1) := dk_96 (dk_at dksX4_bits_0 12 rfl rfl)
theorem dX4_bits_13 : decode cX4_bits 13 = .ok (.istore_n 1, 1) := dk_60 (dk_at dksX4_bits_0 13 rfl rfl)
theorem dX4_bits_14 : decode cX4_bits 14 = .ok (.iload_n 2, 1) := dk_28 (dk_at dksX4_bits_0 14 rfl rfl)
theorem dX4_bits_15 : decode cX4_bits 15 = .ok (.iconst 2, 1) := dk_5 (dk_at dksX4_bits_0 15 rfl rfl)
theorem dX4_bits_16 : decode cX4_bits 16 = .ok (.idiv, 1) := dk_108 (dk_at dksX4_bits_0 16 rfl rfl)
theorem dX4_bits_17 : decode cX4_bits 17 = .ok (.istore_n 2, 1) := dk_61 (dk_at dksX4_bits_0 17 rfl rfl)
theorem dX4_bits_18 : decode cX4_bits 18 = .ok (.goto (-14), 3) := dk_167 255 242 (dk_at dksX4_bits_0 18 rfl rfl)
theorem dX4_bits_21 : decode cX4_bits 21 = .ok (.iload_n 1, 1) := dk_27 (dk_at dksX4_bits_0 21 rfl rfl)
theorem dX4_bits_22 : decode cX4_bits 22 = .ok (.ireturn, 1) := dk_172 (dk_at dksX4_bits_0 22 rfl rfl)
abbrev cX4_enters : ByteArray := prog_14_method_19_code
def yX4_enters : MethodName := ⟨RX4, "enters", "(II)V"⟩
def dkwX4_enters_6 : List UInt8 := [162, 0, 7, 4, 167, 0, 4, 3, 96, 79, 177]
abbrev dktX4_enters_6 : List UInt8 := dkwX4_enters_6 ++ []
def dkwX4_enters_5 : List UInt8 := [167, 0, 4, 3, 79, 42, 180, 0, 7, 17, 1, 49, 92, 46, 42, 180, 0, 7, 17, 1, 49, 46, 16, 10]
abbrev dktX4_enters_5 : List UInt8 := dkwX4_enters_5 ++ dktX4_enters_6
def dkwX4_enters_4 : List UInt8 := [180, 0, 7, 17, 0, 250, 42, 180, 0, 7, 27, 3, 184, 0, 47, 7, 96, 46, 158, 0, 7, 4]
abbrev dktX4_enters_4 : List UInt8 := dkwX4_enters_4 ++ dktX4_enters_5
def dkwX4_enters_3 : List UInt8 := [180, 0, 7, 27, 3, 184, 0, 47, 3, 96, 46, 79, 42, 180, 0, 7, 17, 0, 249, 28, 79, 42]
abbrev dktX4_enters_3 : List UInt8 := dkwX4_enters_3 ++ dktX4_enters_4
def dkwX4_enters_2 : List UInt8 := [17, 1, 40, 46, 4, 96, 79, 42, 180, 0, 7, 17, 0, 247, 27, 79, 42, 180, 0, 7, 17, 0, 248, 42]
abbrev dktX4_enters_2 : List UInt8 := dkwX4_enters_2 ++ dktX4_enters_3
def dkwX4_enters_1 : List UInt8 := [29, 96, 8, 100, 46, 79, 132, 3, 255, 167, 255, 226, 42, 180, 0, 7, 17, 0, 246, 42, 180, 0, 7]
abbrev dktX4_enters_1 : List UInt8 := dkwX4_enters_1 ++ dktX4_enters_2
def dkwX4_enters_0 : List UInt8 := [16, 49, 62, 29, 8, 161, 0, 31, 42, 180, 0, 7, 17, 0, 246, 29, 96, 42, 180, 0, 7, 17, 0, 246]
abbrev dktX4_enters_0 : List UInt8 := dkwX4_enters_0 ++ dktX4_enters_1
theorem dksX4_enters_0 : cX4_enters.data.toList.drop 0 = dktX4_enters_0 := by decide +kernel
theorem dksX4_enters_1 : cX4_enters.data.toList.drop 24 = dktX4_enters_1 := dk_seg dksX4_enters_0 24 rfl rfl
theorem dksX4_enters_2 : cX4_enters.data.toList.drop 47 = dktX4_enters_2 := dk_seg dksX4_enters_1 23 rfl rfl
theorem dksX4_enters_3 : cX4_enters.data.toList.drop 71 = dktX4_enters_3 := dk_seg dksX4_enters_2 24 rfl rfl
theorem dksX4_enters_4 : cX4_enters.data.toList.drop 93 = dktX4_enters_4 := dk_seg dksX4_enters_3 22 rfl rfl
theorem dksX4_enters_5 : cX4_enters.data.toList.drop 115 = dktX4_enters_5 := dk_seg dksX4_enters_4 22 rfl rfl
theorem dksX4_enters_6 : cX4_enters.data.toList.drop 139 = dktX4_enters_6 := dk_seg dksX4_enters_5 24 rfl rfl
theorem dX4_enters_0 : decode cX4_enters 0 = .ok (.bipush 49, 2) := dk_16 49 (dk_at dksX4_enters_0 0 rfl rfl)
theorem dX4_enters_2 : decode cX4_enters 2 = .ok (.istore_n 3, 1) := dk_62 (dk_at dksX4_enters_0 2 rfl rfl)
theorem dX4_enters_3 : decode cX4_enters 3 = .ok (.iload_n 3, 1) := dk_29 (dk_at dksX4_enters_0 3 rfl rfl)
theorem dX4_enters_4 : decode cX4_enters 4 = .ok (.iconst 5, 1) := dk_8 (dk_at dksX4_enters_0 4 rfl rfl)
theorem dX4_enters_5 : decode cX4_enters 5 = .ok (.if_icmp .lt 31, 3) := dk_161 0 31 (dk_at dksX4_enters_0 5 rfl rfl)
theorem dX4_enters_8 : decode cX4_enters 8 = .ok (.aload_n 0, 1) := dk_42 (dk_at dksX4_enters_0 8 rfl rfl)
theorem dX4_enters_9 : decode cX4_enters 9 = .ok (.getfield 7, 3) := dk_180 0 7 (dk_at dksX4_enters_0 9 rfl rfl)
theorem dX4_enters_12 : decode cX4_enters 12 = .ok (.sipush 246, 3) := dk_17 0 246 (dk_at dksX4_enters_0 12 rfl rfl)
theorem dX4_enters_15 : decode cX4_enters 15 = .ok (.iload_n 3, 1) := dk_29 (dk_at dksX4_enters_0 15 rfl rfl)
theorem dX4_enters_16 : decode cX4_enters 16 = .ok (.iadd, 1) := dk_96 (dk_at dksX4_enters_0 16 rfl rfl)
theorem dX4_enters_17 : decode cX4_enters 17 = .ok (.aload_n 0, 1) := dk_42 (dk_at dksX4_enters_0 17 rfl rfl)
theorem dX4_enters_18 : decode cX4_enters 18 = .ok (.getfield 7, 3) := dk_180 0 7 (dk_at dksX4_enters_0 18 rfl rfl)
theorem dX4_enters_21 : decode cX4_enters 21 = .ok (.sipush 246, 3) := dk_17 0 246 (dk_at dksX4_enters_0 21 rfl rfl)
theorem dX4_enters_24 : decode cX4_enters 24 = .ok (.iload_n 3, 1) := dk_29 (dk_at dksX4_enters_1 0 rfl rfl)
theorem dX4_enters_25 : decode cX4_enters 25 = .ok (.iadd, 1) := dk_96 (dk_at dksX4_enters_1 1 rfl rfl)
theorem dX4_enters_26 : decode cX4_enters 26 = .ok (.iconst 5, 1) := dk_8 (dk_at dksX4_enters_1 2 rfl rfl)
theorem dX4_enters_27 : decode cX4_enters 27 = .ok (.isub, 1) := dk_100 (dk_at dksX4_enters_1 3 rfl rfl)
theorem dX4_enters_28 : decode cX4_enters 28 = .ok (.iaload, 1) := dk_46 (dk_at dksX4_enters_1 4 rfl rfl)
theorem dX4_enters_29 : decode cX4_enters 29 = .ok (.iastore, 1) := dk_79 (dk_at dksX4_enters_1 5 rfl rfl)
theorem dX4_enters_30 : decode cX4_enters 30 = .ok (.iinc 3 (-1), 3) := dk_132 3 255 (dk_at dksX4_enters_1 6 rfl rfl)
theorem dX4_enters_33 : decode cX4_enters 33 = .ok (.goto (-30), 3) := dk_167 255 226 (dk_at dksX4_enters_1 9 rfl rfl)
theorem dX4_enters_36 : decode cX4_enters 36 = .ok (.aload_n 0, 1) := dk_42 (dk_at dksX4_enters_1 12 rfl rfl)
theorem dX4_enters_37 : decode cX4_enters 37 = .ok (.getfield 7, 3) := dk_180 0 7 (dk_at dksX4_enters_1 13 rfl rfl)
theorem dX4_enters_40 : decode cX4_enters 40 = .ok (.sipush 246, 3) := dk_17 0 246 (dk_at dksX4_enters_1 16 rfl rfl)
theorem dX4_enters_43 : decode cX4_enters 43 = .ok (.aload_n 0, 1) := dk_42 (dk_at dksX4_enters_1 19 rfl rfl)
theorem dX4_enters_44 : decode cX4_enters 44 = .ok (.getfield 7, 3) := dk_180 0 7 (dk_at dksX4_enters_1 20 rfl rfl)
theorem dX4_enters_47 : decode cX4_enters 47 = .ok (.sipush 296, 3) := dk_17 1 40 (dk_at dksX4_enters_2 0 rfl rfl)
theorem dX4_enters_50 : decode cX4_enters 50 = .ok (.iaload, 1) := dk_46 (dk_at dksX4_enters_2 3 rfl rfl)
theorem dX4_enters_51 : decode cX4_enters 51 = .ok (.iconst 1, 1) := dk_4 (dk_at dksX4_enters_2 4 rfl rfl)
theorem dX4_enters_52 : decode cX4_enters 52 = .ok (.iadd, 1) := dk_96 (dk_at dksX4_enters_2 5 rfl rfl)
theorem dX4_enters_53 : decode cX4_enters 53 = .ok (.iastore, 1) := dk_79 (dk_at dksX4_enters_2 6 rfl rfl)
theorem dX4_enters_54 : decode cX4_enters 54 = .ok (.aload_n 0, 1) := dk_42 (dk_at dksX4_enters_2 7 rfl rfl)
theorem dX4_enters_55 : decode cX4_enters 55 = .ok (.getfield 7, 3) := dk_180 0 7 (dk_at dksX4_enters_2 8 rfl rfl)
theorem dX4_enters_58 : decode cX4_enters 58 = .ok (.sipush 247, 3) := dk_17 0 247 (dk_at dksX4_enters_2 11 rfl rfl)
theorem dX4_enters_61 : decode cX4_enters 61 = .ok (.iload_n 1, 1) := dk_27 (dk_at dksX4_enters_2 14 rfl rfl)
theorem dX4_enters_62 : decode cX4_enters 62 = .ok (.iastore, 1) := dk_79 (dk_at dksX4_enters_2 15 rfl rfl)
theorem dX4_enters_63 : decode cX4_enters 63 = .ok (.aload_n 0, 1) := dk_42 (dk_at dksX4_enters_2 16 rfl rfl)
theorem dX4_enters_64 : decode cX4_enters 64 = .ok (.getfield 7, 3) := dk_180 0 7 (dk_at dksX4_enters_2 17 rfl rfl)
theorem dX4_enters_67 : decode cX4_enters 67 = .ok (.sipush 248, 3) := dk_17 0 248 (dk_at dksX4_enters_2 20 rfl rfl)
theorem dX4_enters_70 : decode cX4_enters 70 = .ok (.aload_n 0, 1) := dk_42 (dk_at dksX4_enters_2 23 rfl rfl)
theorem dX4_enters_71 : decode cX4_enters 71 = .ok (.getfield 7, 3) := dk_180 0 7 (dk_at dksX4_enters_3 0 rfl rfl)
theorem dX4_enters_74 : decode cX4_enters 74 = .ok (.iload_n 1, 1) := dk_27 (dk_at dksX4_enters_3 3 rfl rfl)
theorem dX4_enters_75 : decode cX4_enters 75 = .ok (.iconst 0, 1) := dk_3 (dk_at dksX4_enters_3 4 rfl rfl)
theorem dX4_enters_76 : decode cX4_enters 76 = .ok (.invokestatic 47, 3) := dk_184 0 47 (dk_at dksX4_enters_3 5 rfl rfl)
theorem dX4_enters_79 : decode cX4_enters 79 = .ok (.iconst 0, 1) := dk_3 (dk_at dksX4_enters_3 8 rfl rfl)
theorem dX4_enters_80 : decode cX4_enters 80 = .ok (.iadd, 1) := dk_96 (dk_at dksX4_enters_3 9 rfl rfl)
theorem dX4_enters_81 : decode cX4_enters 81 = .ok (.iaload, 1) := dk_46 (dk_at dksX4_enters_3 10 rfl rfl)
theorem dX4_enters_82 : decode cX4_enters 82 = .ok (.iastore, 1) := dk_79 (dk_at dksX4_enters_3 11 rfl rfl)
theorem dX4_enters_83 : decode cX4_enters 83 = .ok (.aload_n 0, 1) := dk_42 (dk_at dksX4_enters_3 12 rfl rfl)
theorem dX4_enters_84 : decode cX4_enters 84 = .ok (.getfield 7, 3) := dk_180 0 7 (dk_at dksX4_enters_3 13 rfl rfl)
theorem dX4_enters_87 : decode cX4_enters 87 = .ok (.sipush 249, 3) := dk_17 0 249 (dk_at dksX4_enters_3 16 rfl rfl)
theorem dX4_enters_90 : decode cX4_enters 90 = .ok (.iload_n 2, 1) := dk_28 (dk_at dksX4_enters_3 19 rfl rfl)
theorem dX4_enters_91 : decode cX4_enters 91 = .ok (.iastore, 1) := dk_79 (dk_at dksX4_enters_3 20 rfl rfl)
theorem dX4_enters_92 : decode cX4_enters 92 = .ok (.aload_n 0, 1) := dk_42 (dk_at dksX4_enters_3 21 rfl rfl)
theorem dX4_enters_93 : decode cX4_enters 93 = .ok (.getfield 7, 3) := dk_180 0 7 (dk_at dksX4_enters_4 0 rfl rfl)
theorem dX4_enters_96 : decode cX4_enters 96 = .ok (.sipush 250, 3) := dk_17 0 250 (dk_at dksX4_enters_4 3 rfl rfl)
theorem dX4_enters_99 : decode cX4_enters 99 = .ok (.aload_n 0, 1) := dk_42 (dk_at dksX4_enters_4 6 rfl rfl)
theorem dX4_enters_100 : decode cX4_enters 100 = .ok (.getfield 7, 3) := dk_180 0 7 (dk_at dksX4_enters_4 7 rfl rfl)
theorem dX4_enters_103 : decode cX4_enters 103 = .ok (.iload_n 1, 1) := dk_27 (dk_at dksX4_enters_4 10 rfl rfl)
theorem dX4_enters_104 : decode cX4_enters 104 = .ok (.iconst 0, 1) := dk_3 (dk_at dksX4_enters_4 11 rfl rfl)
theorem dX4_enters_105 : decode cX4_enters 105 = .ok (.invokestatic 47, 3) := dk_184 0 47 (dk_at dksX4_enters_4 12 rfl rfl)
theorem dX4_enters_108 : decode cX4_enters 108 = .ok (.iconst 4, 1) := dk_7 (dk_at dksX4_enters_4 15 rfl rfl)
theorem dX4_enters_109 : decode cX4_enters 109 = .ok (.iadd, 1) := dk_96 (dk_at dksX4_enters_4 16 rfl rfl)
theorem dX4_enters_110 : decode cX4_enters 110 = .ok (.iaload, 1) := dk_46 (dk_at dksX4_enters_4 17 rfl rfl)
theorem dX4_enters_111 : decode cX4_enters 111 = .ok (.ifCond .le 7, 3) := dk_158 0 7 (dk_at dksX4_enters_4 18 rfl rfl)
theorem dX4_enters_114 : decode cX4_enters 114 = .ok (.iconst 1, 1) := dk_4 (dk_at dksX4_enters_4 21 rfl rfl)
theorem dX4_enters_115 : decode cX4_enters 115 = .ok (.goto 4, 3) := dk_167 0 4 (dk_at dksX4_enters_5 0 rfl rfl)
theorem dX4_enters_118 : decode cX4_enters 118 = .ok (.iconst 0, 1) := dk_3 (dk_at dksX4_enters_5 3 rfl rfl)
theorem dX4_enters_119 : decode cX4_enters 119 = .ok (.iastore, 1) := dk_79 (dk_at dksX4_enters_5 4 rfl rfl)
theorem dX4_enters_120 : decode cX4_enters 120 = .ok (.aload_n 0, 1) := dk_42 (dk_at dksX4_enters_5 5 rfl rfl)
theorem dX4_enters_121 : decode cX4_enters 121 = .ok (.getfield 7, 3) := dk_180 0 7 (dk_at dksX4_enters_5 6 rfl rfl)
theorem dX4_enters_124 : decode cX4_enters 124 = .ok (.sipush 305, 3) := dk_17 1 49 (dk_at dksX4_enters_5 9 rfl rfl)
theorem dX4_enters_127 : decode cX4_enters 127 = .ok (.dup2, 1) := dk_92 (dk_at dksX4_enters_5 12 rfl rfl)
theorem dX4_enters_128 : decode cX4_enters 128 = .ok (.iaload, 1) := dk_46 (dk_at dksX4_enters_5 13 rfl rfl)
theorem dX4_enters_129 : decode cX4_enters 129 = .ok (.aload_n 0, 1) := dk_42 (dk_at dksX4_enters_5 14 rfl rfl)
theorem dX4_enters_130 : decode cX4_enters 130 = .ok (.getfield 7, 3) := dk_180 0 7 (dk_at dksX4_enters_5 15 rfl rfl)
theorem dX4_enters_133 : decode cX4_enters 133 = .ok (.sipush 305, 3) := dk_17 1 49 (dk_at dksX4_enters_5 18 rfl rfl)
theorem dX4_enters_136 : decode cX4_enters 136 = .ok (.iaload, 1) := dk_46 (dk_at dksX4_enters_5 21 rfl rfl)
theorem dX4_enters_137 : decode cX4_enters 137 = .ok (.bipush 10, 2) := dk_16 10 (dk_at dksX4_enters_5 22 rfl rfl)
theorem dX4_enters_139 : decode cX4_enters 139 = .ok (.if_icmp .ge 7, 3) := dk_162 0 7 (dk_at dksX4_enters_6 0 rfl rfl)
theorem dX4_enters_142 : decode cX4_enters 142 = .ok (.iconst 1, 1) := dk_4 (dk_at dksX4_enters_6 3 rfl rfl)
theorem dX4_enters_143 : decode cX4_enters 143 = .ok (.goto 4, 3) := dk_167 0 4 (dk_at dksX4_enters_6 4 rfl rfl)
theorem dX4_enters_146 : decode cX4_enters 146 = .ok (.iconst 0, 1) := dk_3 (dk_at dksX4_enters_6 7 rfl rfl)
theorem dX4_enters_147 : decode cX4_enters 147 = .ok (.iadd, 1) := dk_96 (dk_at dksX4_enters_6 8 rfl rfl)
theorem dX4_enters_148 : decode cX4_enters 148 = .ok (.iastore, 1) := dk_79 (dk_at dksX4_enters_6 9 rfl rfl)
theorem dX4_enters_149 : decode cX4_enters 149 = .ok (.return_, 1) := dk_177 (dk_at dksX4_enters_6 10 rfl rfl)
abbrev cX4_leaves : ByteArray := prog_14_method_20_code
def yX4_leaves : MethodName := ⟨RX4, "leaves", "(I)V"⟩
def dkwX4_leaves_4 : List UInt8 := [180, 0, 7, 27, 184, 0, 28, 3, 96, 92, 46, 4, 100, 79, 177]
abbrev dktX4_leaves_4 : List UInt8 := dkwX4_leaves_4 ++ []
def dkwX4_leaves_3 : List UInt8 := [167, 255, 219, 42, 180, 0, 7, 27, 28, 184, 0, 47, 29, 96, 21, 4, 79, 132, 3, 1, 167, 255, 176, 42]
abbrev dktX4_leaves_3 : List UInt8 := dkwX4_leaves_3 ++ dktX4_leaves_4
def dkwX4_leaves_2 : List UInt8 := [184, 0, 47, 29, 96, 42, 180, 0, 7, 27, 21, 5, 4, 96, 184, 0, 47, 29, 96, 46, 79, 132, 5, 1]
abbrev dktX4_leaves_2 : List UInt8 := dkwX4_leaves_2 ++ dktX4_leaves_3
def dkwX4_leaves_1 : List UInt8 := [184, 0, 47, 29, 96, 46, 54, 4, 3, 54, 5, 21, 5, 28, 162, 0, 37, 42, 180, 0, 7, 27, 21, 5]
abbrev dktX4_leaves_1 : List UInt8 := dkwX4_leaves_1 ++ dktX4_leaves_2
def dkwX4_leaves_0 : List UInt8 := [42, 27, 182, 0, 54, 4, 100, 61, 3, 62, 29, 16, 6, 162, 0, 80, 42, 180, 0, 7, 27, 3]
abbrev dktX4_leaves_0 : List UInt8 := dkwX4_leaves_0 ++ dktX4_leaves_1
theorem dksX4_leaves_0 : cX4_leaves.data.toList.drop 0 = dktX4_leaves_0 := by decide +kernel
theorem dksX4_leaves_1 : cX4_leaves.data.toList.drop 22 = dktX4_leaves_1 := dk_seg dksX4_leaves_0 22 rfl rfl
theorem dksX4_leaves_2 : cX4_leaves.data.toList.drop 46 = dktX4_leaves_2 := dk_seg dksX4_leaves_1 24 rfl rfl
theorem dksX4_leaves_3 : cX4_leaves.data.toList.drop 70 = dktX4_leaves_3 := dk_seg dksX4_leaves_2 24 rfl rfl
theorem dksX4_leaves_4 : cX4_leaves.data.toList.drop 94 = dktX4_leaves_4 := dk_seg dksX4_leaves_3 24 rfl rfl
theorem dX4_leaves_0 : decode cX4_leaves 0 = .ok (.aload_n 0, 1) := dk_42 (dk_at dksX4_leaves_0 0 rfl rfl)
theorem dX4_leaves_1 : decode cX4_leaves 1 = .ok (.iload_n 1, 1) := dk_27 (dk_at dksX4_leaves_0 1 rfl rfl)
theorem dX4_leaves_2 : decode cX4_leaves 2 = .ok (.invokevirtual 54, 3) := dk_182 0 54 (dk_at dksX4_leaves_0 2 rfl rfl)
theorem dX4_leaves_5 : decode cX4_leaves 5 = .ok (.iconst 1, 1) := dk_4 (dk_at dksX4_leaves_0 5 rfl rfl)
theorem dX4_leaves_6 : decode cX4_leaves 6 = .ok (.isub, 1) := dk_100 (dk_at dksX4_leaves_0 6 rfl rfl)
theorem dX4_leaves_7 : decode cX4_leaves 7 = .ok (.istore_n 2, 1) := dk_61 (dk_at dksX4_leaves_0 7 rfl rfl)
theorem dX4_leaves_8 : decode cX4_leaves 8 = .ok (.iconst 0, 1) := dk_3 (dk_at dksX4_leaves_0 8 rfl rfl)
theorem dX4_leaves_9 : decode cX4_leaves 9 = .ok (.istore_n 3, 1) := dk_62 (dk_at dksX4_leaves_0 9 rfl rfl)
theorem dX4_leaves_10 : decode cX4_leaves 10 = .ok (.iload_n 3, 1) := dk_29 (dk_at dksX4_leaves_0 10 rfl rfl)
theorem dX4_leaves_11 : decode cX4_leaves 11 = .ok (.bipush 6, 2) := dk_16 6 (dk_at dksX4_leaves_0 11 rfl rfl)
theorem dX4_leaves_13 : decode cX4_leaves 13 = .ok (.if_icmp .ge 80, 3) := dk_162 0 80 (dk_at dksX4_leaves_0 13 rfl rfl)
theorem dX4_leaves_16 : decode cX4_leaves 16 = .ok (.aload_n 0, 1) := dk_42 (dk_at dksX4_leaves_0 16 rfl rfl)
theorem dX4_leaves_17 : decode cX4_leaves 17 = .ok (.getfield 7, 3) := dk_180 0 7 (dk_at dksX4_leaves_0 17 rfl rfl)
theorem dX4_leaves_20 : decode cX4_leaves 20 = .ok (.iload_n 1, 1) := dk_27 (dk_at dksX4_leaves_0 20 rfl rfl)
theorem dX4_leaves_21 : decode cX4_leaves 21 = .ok (.iconst 0, 1) := dk_3 (dk_at dksX4_leaves_0 21 rfl rfl)
theorem dX4_leaves_22 : decode cX4_leaves 22 = .ok (.invokestatic 47, 3) := dk_184 0 47 (dk_at dksX4_leaves_1 0 rfl rfl)
theorem dX4_leaves_25 : decode cX4_leaves 25 = .ok (.iload_n 3, 1) := dk_29 (dk_at dksX4_leaves_1 3 rfl rfl)
theorem dX4_leaves_26 : decode cX4_leaves 26 = .ok (.iadd, 1) := dk_96 (dk_at dksX4_leaves_1 4 rfl rfl)
theorem dX4_leaves_27 : decode cX4_leaves 27 = .ok (.iaload, 1) := dk_46 (dk_at dksX4_leaves_1 5 rfl rfl)
theorem dX4_leaves_28 : decode cX4_leaves 28 = .ok (.istore 4, 2) := dk_54 4 (dk_at dksX4_leaves_1 6 rfl rfl)
theorem dX4_leaves_30 : decode cX4_leaves 30 = .ok (.iconst 0, 1) := dk_3 (dk_at dksX4_leaves_1 8 rfl rfl)
theorem dX4_leaves_31 : decode cX4_leaves 31 = .ok (.istore 5, 2) := dk_54 5 (dk_at dksX4_leaves_1 9 rfl rfl)
theorem dX4_leaves_33 : decode cX4_leaves 33 = .ok (.iload 5, 2) := dk_21 5 (dk_at dksX4_leaves_1 11 rfl rfl)
theorem dX4_leaves_35 : decode cX4_leaves 35 = .ok (.iload_n 2, 1) := dk_28 (dk_at dksX4_leaves_1 13 rfl rfl)
theorem dX4_leaves_36 : decode cX4_leaves 36 = .ok (.if_icmp .ge 37, 3) := dk_162 0 37 (dk_at dksX4_leaves_1 14 rfl rfl)
theorem dX4_leaves_39 : decode cX4_leaves 39 = .ok (.aload_n 0, 1) := dk_42 (dk_at dksX4_leaves_1 17 rfl rfl)
theorem dX4_leaves_40 : decode cX4_leaves 40 = .ok (.getfield 7, 3) := dk_180 0 7 (dk_at dksX4_leaves_1 18 rfl rfl)
theorem dX4_leaves_43 : decode cX4_leaves 43 = .ok (.iload_n 1, 1) := dk_27 (dk_at dksX4_leaves_1 21 rfl rfl)
theorem dX4_leaves_44 : decode cX4_leaves 44 = .ok (.iload 5, 2) := dk_21 5 (dk_at dksX4_leaves_1 22 rfl rfl)
theorem dX4_leaves_46 : decode cX4_leaves 46 = .ok (.invokestatic 47, 3) := dk_184 0 47 (dk_at dksX4_leaves_2 0 rfl rfl)
theorem dX4_leaves_49 : decode cX4_leaves 49 = .ok (.iload_n 3, 1) := dk_29 (dk_at dksX4_leaves_2 3 rfl rfl)
theorem dX4_leaves_50 : decode cX4_leaves 50 = .ok (.iadd, 1) := dk_96 (dk_at dksX4_leaves_2 4 rfl rfl)
theorem dX4_leaves_51 : decode cX4_leaves 51 = .ok (.aload_n 0, 1) := dk_42 (dk_at dksX4_leaves_2 5 rfl rfl)
theorem dX4_leaves_52 : decode cX4_leaves 52 = .ok (.getfield 7, 3) := dk_180 0 7 (dk_at dksX4_leaves_2 6 rfl rfl)
theorem dX4_leaves_55 : decode cX4_leaves 55 = .ok (.iload_n 1, 1) := dk_27 (dk_at dksX4_leaves_2 9 rfl rfl)
theorem dX4_leaves_56 : decode cX4_leaves 56 = .ok (.iload 5, 2) := dk_21 5 (dk_at dksX4_leaves_2 10 rfl rfl)
theorem dX4_leaves_58 : decode cX4_leaves 58 = .ok (.iconst 1, 1) := dk_4 (dk_at dksX4_leaves_2 12 rfl rfl)
theorem dX4_leaves_59 : decode cX4_leaves 59 = .ok (.iadd, 1) := dk_96 (dk_at dksX4_leaves_2 13 rfl rfl)
theorem dX4_leaves_60 : decode cX4_leaves 60 = .ok (.invokestatic 47, 3) := dk_184 0 47 (dk_at dksX4_leaves_2 14 rfl rfl)
theorem dX4_leaves_63 : decode cX4_leaves 63 = .ok (.iload_n 3, 1) := dk_29 (dk_at dksX4_leaves_2 17 rfl rfl)
theorem dX4_leaves_64 : decode cX4_leaves 64 = .ok (.iadd, 1) := dk_96 (dk_at dksX4_leaves_2 18 rfl rfl)
theorem dX4_leaves_65 : decode cX4_leaves 65 = .ok (.iaload, 1) := dk_46 (dk_at dksX4_leaves_2 19 rfl rfl)
theorem dX4_leaves_66 : decode cX4_leaves 66 = .ok (.iastore, 1) := dk_79 (dk_at dksX4_leaves_2 20 rfl rfl)
theorem dX4_leaves_67 : decode cX4_leaves 67 = .ok (.iinc 5 1, 3) := dk_132 5 1 (dk_at dksX4_leaves_2 21 rfl rfl)
theorem dX4_leaves_70 : decode cX4_leaves 70 = .ok (.goto (-37), 3) := dk_167 255 219 (dk_at dksX4_leaves_3 0 rfl rfl)
theorem dX4_leaves_73 : decode cX4_leaves 73 = .ok (.aload_n 0, 1) := dk_42 (dk_at dksX4_leaves_3 3 rfl rfl)
theorem dX4_leaves_74 : decode cX4_leaves 74 = .ok (.getfield 7, 3) := dk_180 0 7 (dk_at dksX4_leaves_3 4 rfl rfl)
theorem dX4_leaves_77 : decode cX4_leaves 77 = .ok (.iload_n 1, 1) := dk_27 (dk_at dksX4_leaves_3 7 rfl rfl)
theorem dX4_leaves_78 : decode cX4_leaves 78 = .ok (.iload_n 2, 1) := dk_28 (dk_at dksX4_leaves_3 8 rfl rfl)
theorem dX4_leaves_79 : decode cX4_leaves 79 = .ok (.invokestatic 47, 3) := dk_184 0 47 (dk_at dksX4_leaves_3 9 rfl rfl)
theorem dX4_leaves_82 : decode cX4_leaves 82 = .ok (.iload_n 3, 1) := dk_29 (dk_at dksX4_leaves_3 12 rfl rfl)
theorem dX4_leaves_83 : decode cX4_leaves 83 = .ok (.iadd, 1) := dk_96 (dk_at dksX4_leaves_3 13 rfl rfl)
theorem dX4_leaves_84 : decode cX4_leaves 84 = .ok (.iload 4, 2) := dk_21 4 (dk_at dksX4_leaves_3 14 rfl rfl)
theorem dX4_leaves_86 : decode cX4_leaves 86 = .ok (.iastore, 1) := dk_79 (dk_at dksX4_leaves_3 16 rfl rfl)
theorem dX4_leaves_87 : decode cX4_leaves 87 = .ok (.iinc 3 1, 3) := dk_132 3 1 (dk_at dksX4_leaves_3 17 rfl rfl)
theorem dX4_leaves_90 : decode cX4_leaves 90 = .ok (.goto (-80), 3) := dk_167 255 176 (dk_at dksX4_leaves_3 20 rfl rfl)
theorem dX4_leaves_93 : decode cX4_leaves 93 = .ok (.aload_n 0, 1) := dk_42 (dk_at dksX4_leaves_3 23 rfl rfl)
theorem dX4_leaves_94 : decode cX4_leaves 94 = .ok (.getfield 7, 3) := dk_180 0 7 (dk_at dksX4_leaves_4 0 rfl rfl)
theorem dX4_leaves_97 : decode cX4_leaves 97 = .ok (.iload_n 1, 1) := dk_27 (dk_at dksX4_leaves_4 3 rfl rfl)
theorem dX4_leaves_98 : decode cX4_leaves 98 = .ok (.invokestatic 28, 3) := dk_184 0 28 (dk_at dksX4_leaves_4 4 rfl rfl)
theorem dX4_leaves_101 : decode cX4_leaves 101 = .ok (.iconst 0, 1) := dk_3 (dk_at dksX4_leaves_4 7 rfl rfl)
theorem dX4_leaves_102 : decode cX4_leaves 102 = .ok (.iadd, 1) := dk_96 (dk_at dksX4_leaves_4 8 rfl rfl)
theorem dX4_leaves_103 : decode cX4_leaves 103 = .ok (.dup2, 1) := dk_92 (dk_at dksX4_leaves_4 9 rfl rfl)
theorem dX4_leaves_104 : decode cX4_leaves 104 = .ok (.iaload, 1) := dk_46 (dk_at dksX4_leaves_4 10 rfl rfl)
theorem dX4_leaves_105 : decode cX4_leaves 105 = .ok (.iconst 1, 1) := dk_4 (dk_at dksX4_leaves_4 11 rfl rfl)
theorem dX4_leaves_106 : decode cX4_leaves 106 = .ok (.isub, 1) := dk_100 (dk_at dksX4_leaves_4 12 rfl rfl)
theorem dX4_leaves_107 : decode cX4_leaves 107 = .ok (.iastore, 1) := dk_79 (dk_at dksX4_leaves_4 13 rfl rfl)
theorem dX4_leaves_108 : decode cX4_leaves 108 = .ok (.return_, 1) := dk_177 (dk_at dksX4_leaves_4 14 rfl rfl)
abbrev cX4_fills : ByteArray := prog_14_method_21_code
def yX4_fills : MethodName := ⟨RX4, "fills", "(II)V"⟩
def dkwX4_fills_8 : List UInt8 := [96, 3, 79, 42, 180, 0, 7, 29, 6, 96, 3, 79, 177]
abbrev dktX4_fills_8 : List UInt8 := dkwX4_fills_8 ++ []
def dkwX4_fills_7 : List UInt8 := [21, 4, 153, 0, 13, 16, 6, 27, 184, 0, 70, 104, 167, 0, 4, 3, 96, 79, 42, 180, 0, 7, 29, 3]
abbrev dktX4_fills_7 : List UInt8 := dkwX4_fills_7 ++ dktX4_fills_8
def dkwX4_fills_6 : List UInt8 := [92, 46, 21, 4, 153, 0, 7, 3, 167, 0, 4, 4, 96, 79, 42, 180, 0, 7, 17, 1, 45, 92, 46]
abbrev dktX4_fills_6 : List UInt8 := dkwX4_fills_6 ++ dktX4_fills_7
def dkwX4_fills_5 : List UInt8 := [17, 1, 46, 92, 46, 21, 4, 153, 0, 7, 4, 167, 0, 4, 3, 96, 79, 42, 180, 0, 7, 17, 1, 47]
abbrev dktX4_fills_5 : List UInt8 := dkwX4_fills_5 ++ dktX4_fills_6
def dkwX4_fills_4 : List UInt8 := [180, 0, 7, 29, 5, 96, 92, 46, 21, 4, 153, 0, 7, 3, 167, 0, 4, 4, 96, 79, 42, 180, 0, 7]
abbrev dktX4_fills_4 : List UInt8 := dkwX4_fills_4 ++ dktX4_fills_5
def dkwX4_fills_3 : List UInt8 := [54, 4, 42, 180, 0, 7, 29, 4, 96, 92, 46, 21, 4, 153, 0, 7, 4, 167, 0, 4, 3, 96, 79, 42]
abbrev dktX4_fills_3 : List UInt8 := dkwX4_fills_3 ++ dktX4_fills_4
def dkwX4_fills_2 : List UInt8 := [46, 16, 6, 162, 0, 4, 177, 42, 180, 0, 7, 29, 6, 96, 46, 154, 0, 7, 4, 167, 0, 4, 3]
abbrev dktX4_fills_2 : List UInt8 := dkwX4_fills_2 ++ dktX4_fills_3
def dkwX4_fills_1 : List UInt8 := [92, 46, 28, 96, 79, 42, 180, 0, 7, 29, 7, 96, 92, 46, 4, 96, 79, 42, 180, 0, 7, 29, 3, 96]
abbrev dktX4_fills_1 : List UInt8 := dkwX4_fills_1 ++ dktX4_fills_2
def dkwX4_fills_0 : List UInt8 := [27, 184, 0, 67, 62, 42, 180, 0, 7, 29, 3, 96, 92, 46, 4, 96, 79, 42, 180, 0, 7, 29, 6, 96]
abbrev dktX4_fills_0 : List UInt8 := dkwX4_fills_0 ++ dktX4_fills_1
theorem dksX4_fills_0 : cX4_fills.data.toList.drop 0 = dktX4_fills_0 := by decide +kernel
theorem dksX4_fills_1 : cX4_fills.data.toList.drop 24 = dktX4_fills_1 := dk_seg dksX4_fills_0 24 rfl rfl
theorem dksX4_fills_2 : cX4_fills.data.toList.drop 48 = dktX4_fills_2 := dk_seg dksX4_fills_1 24 rfl rfl
theorem dksX4_fills_3 : cX4_fills.data.toList.drop 71 = dktX4_fills_3 := dk_seg dksX4_fills_2 23 rfl rfl
theorem dksX4_fills_4 : cX4_fills.data.toList.drop 95 = dktX4_fills_4 := dk_seg dksX4_fills_3 24 rfl rfl
theorem dksX4_fills_5 : cX4_fills.data.toList.drop 119 = dktX4_fills_5 := dk_seg dksX4_fills_4 24 rfl rfl
theorem dksX4_fills_6 : cX4_fills.data.toList.drop 143 = dktX4_fills_6 := dk_seg dksX4_fills_5 24 rfl rfl
theorem dksX4_fills_7 : cX4_fills.data.toList.drop 166 = dktX4_fills_7 := dk_seg dksX4_fills_6 23 rfl rfl
theorem dksX4_fills_8 : cX4_fills.data.toList.drop 190 = dktX4_fills_8 := dk_seg dksX4_fills_7 24 rfl rfl
theorem dX4_fills_0 : decode cX4_fills 0 = .ok (.iload_n 1, 1) := dk_27 (dk_at dksX4_fills_0 0 rfl rfl)
theorem dX4_fills_1 : decode cX4_fills 1 = .ok (.invokestatic 67, 3) := dk_184 0 67 (dk_at dksX4_fills_0 1 rfl rfl)
theorem dX4_fills_4 : decode cX4_fills 4 = .ok (.istore_n 3, 1) := dk_62 (dk_at dksX4_fills_0 4 rfl rfl)
theorem dX4_fills_5 : decode cX4_fills 5 = .ok (.aload_n 0, 1) := dk_42 (dk_at dksX4_fills_0 5 rfl rfl)
theorem dX4_fills_6 : decode cX4_fills 6 = .ok (.getfield 7, 3) := dk_180 0 7 (dk_at dksX4_fills_0 6 rfl rfl)
theorem dX4_fills_9 : decode cX4_fills 9 = .ok (.iload_n 3, 1) := dk_29 (dk_at dksX4_fills_0 9 rfl rfl)
theorem dX4_fills_10 : decode cX4_fills 10 = .ok (.iconst 0, 1) := dk_3 (dk_at dksX4_fills_0 10 rfl rfl)
theorem dX4_fills_11 : decode cX4_fills 11 = .ok (.iadd, 1) := dk_96 (dk_at dksX4_fills_0 11 rfl rfl)
theorem dX4_fills_12 : decode cX4_fills 12 = .ok (.dup2, 1) := dk_92 (dk_at dksX4_fills_0 12 rfl rfl)
theorem dX4_fills_13 : decode cX4_fills 13 = .ok (.iaload, 1) := dk_46 (dk_at dksX4_fills_0 13 rfl rfl)
theorem dX4_fills_14 : decode cX4_fills 14 = .ok (.iconst 1, 1) := dk_4 (dk_at dksX4_fills_0 14 rfl rfl)
theorem dX4_fills_15 : decode cX4_fills 15 = .ok (.iadd, 1) := dk_96 (dk_at dksX4_fills_0 15 rfl rfl)
theorem dX4_fills_16 : decode cX4_fills 16 = .ok (.iastore, 1) := dk_79 (dk_at dksX4_fills_0 16 rfl rfl)
theorem dX4_fills_17 : decode cX4_fills 17 = .ok (.aload_n 0, 1) := dk_42 (dk_at dksX4_fills_0 17 rfl rfl)
theorem dX4_fills_18 : decode cX4_fills 18 = .ok (.getfield 7, 3) := dk_180 0 7 (dk_at dksX4_fills_0 18 rfl rfl)
theorem dX4_fills_21 : decode cX4_fills 21 = .ok (.iload_n 3, 1) := dk_29 (dk_at dksX4_fills_0 21 rfl rfl)
theorem dX4_fills_22 : decode cX4_fills 22 = .ok (.iconst 3, 1) := dk_6 (dk_at dksX4_fills_0 22 rfl rfl)
theorem dX4_fills_23 : decode cX4_fills 23 = .ok (.iadd, 1) := dk_96 (dk_at dksX4_fills_0 23 rfl rfl)
theorem dX4_fills_24 : decode cX4_fills 24 = .ok (.dup2, 1) := dk_92 (dk_at dksX4_fills_1 0 rfl rfl)
theorem dX4_fills_25 : decode cX4_fills 25 = .ok (.iaload, 1) := dk_46 (dk_at dksX4_fills_1 1 rfl rfl)
theorem dX4_fills_26 : decode cX4_fills 26 = .ok (.iload_n 2, 1) := dk_28 (dk_at dksX4_fills_1 2 rfl rfl)
theorem dX4_fills_27 : decode cX4_fills 27 = .ok (.iadd, 1) := dk_96 (dk_at dksX4_fills_1 3 rfl rfl)
theorem dX4_fills_28 : decode cX4_fills 28 = .ok (.iastore, 1) := dk_79 (dk_at dksX4_fills_1 4 rfl rfl)
theorem dX4_fills_29 : decode cX4_fills 29 = .ok (.aload_n 0, 1) := dk_42 (dk_at dksX4_fills_1 5 rfl rfl)
theorem dX4_fills_30 : decode cX4_fills 30 = .ok (.getfield 7, 3) := dk_180 0 7 (dk_at dksX4_fills_1 6 rfl rfl)
theorem dX4_fills_33 : decode cX4_fills 33 = .ok (.iload_n 3, 1) := dk_29 (dk_at dksX4_fills_1 9 rfl rfl)
theorem dX4_fills_34 : decode cX4_fills 34 = .ok (.iconst 4, 1) := dk_7 (dk_at dksX4_fills_1 10 rfl rfl)
theorem dX4_fills_35 : decode cX4_fills 35 = .ok (.iadd, 1) := dk_96 (dk_at dksX4_fills_1 11 rfl rfl)
theorem dX4_fills_36 : decode cX4_fills 36 = .ok (.dup2, 1) := dk_92 (dk_at dksX4_fills_1 12 rfl rfl)
theorem dX4_fills_37 : decode cX4_fills 37 = .ok (.iaload, 1) := dk_46 (dk_at dksX4_fills_1 13 rfl rfl)
theorem dX4_fills_38 : decode cX4_fills 38 = .ok (.iconst 1, 1) := dk_4 (dk_at dksX4_fills_1 14 rfl rfl)
theorem dX4_fills_39 : decode cX4_fills 39 = .ok (.iadd, 1) := dk_96 (dk_at dksX4_fills_1 15 rfl rfl)
theorem dX4_fills_40 : decode cX4_fills 40 = .ok (.iastore, 1) := dk_79 (dk_at dksX4_fills_1 16 rfl rfl)
theorem dX4_fills_41 : decode cX4_fills 41 = .ok (.aload_n 0, 1) := dk_42 (dk_at dksX4_fills_1 17 rfl rfl)
theorem dX4_fills_42 : decode cX4_fills 42 = .ok (.getfield 7, 3) := dk_180 0 7 (dk_at dksX4_fills_1 18 rfl rfl)
theorem dX4_fills_45 : decode cX4_fills 45 = .ok (.iload_n 3, 1) := dk_29 (dk_at dksX4_fills_1 21 rfl rfl)
theorem dX4_fills_46 : decode cX4_fills 46 = .ok (.iconst 0, 1) := dk_3 (dk_at dksX4_fills_1 22 rfl rfl)
theorem dX4_fills_47 : decode cX4_fills 47 = .ok (.iadd, 1) := dk_96 (dk_at dksX4_fills_1 23 rfl rfl)
theorem dX4_fills_48 : decode cX4_fills 48 = .ok (.iaload, 1) := dk_46 (dk_at dksX4_fills_2 0 rfl rfl)
theorem dX4_fills_49 : decode cX4_fills 49 = .ok (.bipush 6, 2) := dk_16 6 (dk_at dksX4_fills_2 1 rfl rfl)
theorem dX4_fills_51 : decode cX4_fills 51 = .ok (.if_icmp .ge 4, 3) := dk_162 0 4 (dk_at dksX4_fills_2 3 rfl rfl)
theorem dX4_fills_54 : decode cX4_fills 54 = .ok (.return_, 1) := dk_177 (dk_at dksX4_fills_2 6 rfl rfl)
theorem dX4_fills_55 : decode cX4_fills 55 = .ok (.aload_n 0, 1) := dk_42 (dk_at dksX4_fills_2 7 rfl rfl)
theorem dX4_fills_56 : decode cX4_fills 56 = .ok (.getfield 7, 3) := dk_180 0 7 (dk_at dksX4_fills_2 8 rfl rfl)
theorem dX4_fills_59 : decode cX4_fills 59 = .ok (.iload_n 3, 1) := dk_29 (dk_at dksX4_fills_2 11 rfl rfl)
theorem dX4_fills_60 : decode cX4_fills 60 = .ok (.iconst 3, 1) := dk_6 (dk_at dksX4_fills_2 12 rfl rfl)
theorem dX4_fills_61 : decode cX4_fills 61 = .ok (.iadd, 1) := dk_96 (dk_at dksX4_fills_2 13 rfl rfl)
theorem dX4_fills_62 : decode cX4_fills 62 = .ok (.iaload, 1) := dk_46 (dk_at dksX4_fills_2 14 rfl rfl)
theorem dX4_fills_63 : decode cX4_fills 63 = .ok (.ifCond .ne 7, 3) := dk_154 0 7 (dk_at dksX4_fills_2 15 rfl rfl)
theorem dX4_fills_66 : decode cX4_fills 66 = .ok (.iconst 1, 1) := dk_4 (dk_at dksX4_fills_2 18 rfl rfl)
theorem dX4_fills_67 : decode cX4_fills 67 = .ok (.goto 4, 3) := dk_167 0 4 (dk_at dksX4_fills_2 19 rfl rfl)
theorem dX4_fills_70 : decode cX4_fills 70 = .ok (.iconst 0, 1) := dk_3 (dk_at dksX4_fills_2 22 rfl rfl)
theorem dX4_fills_71 : decode cX4_fills 71 = .ok (.istore 4, 2) := dk_54 4 (dk_at dksX4_fills_3 0 rfl rfl)
theorem dX4_fills_73 : decode cX4_fills 73 = .ok (.aload_n 0, 1) := dk_42 (dk_at dksX4_fills_3 2 rfl rfl)
theorem dX4_fills_74 : decode cX4_fills 74 = .ok (.getfield 7, 3) := dk_180 0 7 (dk_at dksX4_fills_3 3 rfl rfl)
theorem dX4_fills_77 : decode cX4_fills 77 = .ok (.iload_n 3, 1) := dk_29 (dk_at dksX4_fills_3 6 rfl rfl)
theorem dX4_fills_78 : decode cX4_fills 78 = .ok (.iconst 1, 1) := dk_4 (dk_at dksX4_fills_3 7 rfl rfl)
theorem dX4_fills_79 : decode cX4_fills 79 = .ok (.iadd, 1) := dk_96 (dk_at dksX4_fills_3 8 rfl rfl)
theorem dX4_fills_80 : decode cX4_fills 80 = .ok (.dup2, 1) := dk_92 (dk_at dksX4_fills_3 9 rfl rfl)
theorem dX4_fills_81 : decode cX4_fills 81 = .ok (.iaload, 1) := dk_46 (dk_at dksX4_fills_3 10 rfl rfl)
theorem dX4_fills_82 : decode cX4_fills 82 = .ok (.iload 4, 2) := dk_21 4 (dk_at dksX4_fills_3 11 rfl rfl)
theorem dX4_fills_84 : decode cX4_fills 84 = .ok (.ifCond .eq 7, 3) := dk_153 0 7 (dk_at dksX4_fills_3 13 rfl rfl)
theorem dX4_fills_87 : decode cX4_fills 87 = .ok (.iconst 1, 1) := dk_4 (dk_at dksX4_fills_3 16 rfl rfl)
theorem dX4_fills_88 : decode cX4_fills 88 = .ok (.goto 4, 3) := dk_167 0 4 (dk_at dksX4_fills_3 17 rfl rfl)
theorem dX4_fills_91 : decode cX4_fills 91 = .ok (.iconst 0, 1) := dk_3 (dk_at dksX4_fills_3 20 rfl rfl)
theorem dX4_fills_92 : decode cX4_fills 92 = .ok (.iadd, 1) := dk_96 (dk_at dksX4_fills_3 21 rfl rfl)
theorem dX4_fills_93 : decode cX4_fills 93 = .ok (.iastore, 1) := dk_79 (dk_at dksX4_fills_3 22 rfl rfl)
theorem dX4_fills_94 : decode cX4_fills 94 = .ok (.aload_n 0, 1) := dk_42 (dk_at dksX4_fills_3 23 rfl rfl)
theorem dX4_fills_95 : decode cX4_fills 95 = .ok (.getfield 7, 3) := dk_180 0 7 (dk_at dksX4_fills_4 0 rfl rfl)
theorem dX4_fills_98 : decode cX4_fills 98 = .ok (.iload_n 3, 1) := dk_29 (dk_at dksX4_fills_4 3 rfl rfl)
theorem dX4_fills_99 : decode cX4_fills 99 = .ok (.iconst 2, 1) := dk_5 (dk_at dksX4_fills_4 4 rfl rfl)
theorem dX4_fills_100 : decode cX4_fills 100 = .ok (.iadd, 1) := dk_96 (dk_at dksX4_fills_4 5 rfl rfl)
theorem dX4_fills_101 : decode cX4_fills 101 = .ok (.dup2, 1) := dk_92 (dk_at dksX4_fills_4 6 rfl rfl)
theorem dX4_fills_102 : decode cX4_fills 102 = .ok (.iaload, 1) := dk_46 (dk_at dksX4_fills_4 7 rfl rfl)
theorem dX4_fills_103 : decode cX4_fills 103 = .ok (.iload 4, 2) := dk_21 4 (dk_at dksX4_fills_4 8 rfl rfl)
theorem dX4_fills_105 : decode cX4_fills 105 = .ok (.ifCond .eq 7, 3) := dk_153 0 7 (dk_at dksX4_fills_4 10 rfl rfl)
theorem dX4_fills_108 : decode cX4_fills 108 = .ok (.iconst 0, 1) := dk_3 (dk_at dksX4_fills_4 13 rfl rfl)
theorem dX4_fills_109 : decode cX4_fills 109 = .ok (.goto 4, 3) := dk_167 0 4 (dk_at dksX4_fills_4 14 rfl rfl)
theorem dX4_fills_112 : decode cX4_fills 112 = .ok (.iconst 1, 1) := dk_4 (dk_at dksX4_fills_4 17 rfl rfl)
theorem dX4_fills_113 : decode cX4_fills 113 = .ok (.iadd, 1) := dk_96 (dk_at dksX4_fills_4 18 rfl rfl)
theorem dX4_fills_114 : decode cX4_fills 114 = .ok (.iastore, 1) := dk_79 (dk_at dksX4_fills_4 19 rfl rfl)
theorem dX4_fills_115 : decode cX4_fills 115 = .ok (.aload_n 0, 1) := dk_42 (dk_at dksX4_fills_4 20 rfl rfl)
theorem dX4_fills_116 : decode cX4_fills 116 = .ok (.getfield 7, 3) := dk_180 0 7 (dk_at dksX4_fills_4 21 rfl rfl)
theorem dX4_fills_119 : decode cX4_fills 119 = .ok (.sipush 302, 3) := dk_17 1 46 (dk_at dksX4_fills_5 0 rfl rfl)
theorem dX4_fills_122 : decode cX4_fills 122 = .ok (.dup2, 1) := dk_92 (dk_at dksX4_fills_5 3 rfl rfl)
theorem dX4_fills_123 : decode cX4_fills 123 = .ok (.iaload, 1) := dk_46 (dk_at dksX4_fills_5 4 rfl rfl)
theorem dX4_fills_124 : decode cX4_fills 124 = .ok (.iload 4, 2) := dk_21 4 (dk_at dksX4_fills_5 5 rfl rfl)
theorem dX4_fills_126 : decode cX4_fills 126 = .ok (.ifCond .eq 7, 3) := dk_153 0 7 (dk_at dksX4_fills_5 7 rfl rfl)
theorem dX4_fills_129 : decode cX4_fills 129 = .ok (.iconst 1, 1) := dk_4 (dk_at dksX4_fills_5 10 rfl rfl)
theorem dX4_fills_130 : decode cX4_fills 130 = .ok (.goto 4, 3) := dk_167 0 4 (dk_at dksX4_fills_5 11 rfl rfl)
theorem dX4_fills_133 : decode cX4_fills 133 = .ok (.iconst 0, 1) := dk_3 (dk_at dksX4_fills_5 14 rfl rfl)
theorem dX4_fills_134 : decode cX4_fills 134 = .ok (.iadd, 1) := dk_96 (dk_at dksX4_fills_5 15 rfl rfl)
theorem dX4_fills_135 : decode cX4_fills 135 = .ok (.iastore, 1) := dk_79 (dk_at dksX4_fills_5 16 rfl rfl)
theorem dX4_fills_136 : decode cX4_fills 136 = .ok (.aload_n 0, 1) := dk_42 (dk_at dksX4_fills_5 17 rfl rfl)
theorem dX4_fills_137 : decode cX4_fills 137 = .ok (.getfield 7, 3) := dk_180 0 7 (dk_at dksX4_fills_5 18 rfl rfl)
theorem dX4_fills_140 : decode cX4_fills 140 = .ok (.sipush 303, 3) := dk_17 1 47 (dk_at dksX4_fills_5 21 rfl rfl)
theorem dX4_fills_143 : decode cX4_fills 143 = .ok (.dup2, 1) := dk_92 (dk_at dksX4_fills_6 0 rfl rfl)
theorem dX4_fills_144 : decode cX4_fills 144 = .ok (.iaload, 1) := dk_46 (dk_at dksX4_fills_6 1 rfl rfl)
theorem dX4_fills_145 : decode cX4_fills 145 = .ok (.iload 4, 2) := dk_21 4 (dk_at dksX4_fills_6 2 rfl rfl)
theorem dX4_fills_147 : decode cX4_fills 147 = .ok (.ifCond .eq 7, 3) := dk_153 0 7 (dk_at dksX4_fills_6 4 rfl rfl)
theorem dX4_fills_150 : decode cX4_fills 150 = .ok (.iconst 0, 1) := dk_3 (dk_at dksX4_fills_6 7 rfl rfl)
theorem dX4_fills_151 : decode cX4_fills 151 = .ok (.goto 4, 3) := dk_167 0 4 (dk_at dksX4_fills_6 8 rfl rfl)
theorem dX4_fills_154 : decode cX4_fills 154 = .ok (.iconst 1, 1) := dk_4 (dk_at dksX4_fills_6 11 rfl rfl)
theorem dX4_fills_155 : decode cX4_fills 155 = .ok (.iadd, 1) := dk_96 (dk_at dksX4_fills_6 12 rfl rfl)
theorem dX4_fills_156 : decode cX4_fills 156 = .ok (.iastore, 1) := dk_79 (dk_at dksX4_fills_6 13 rfl rfl)
theorem dX4_fills_157 : decode cX4_fills 157 = .ok (.aload_n 0, 1) := dk_42 (dk_at dksX4_fills_6 14 rfl rfl)
theorem dX4_fills_158 : decode cX4_fills 158 = .ok (.getfield 7, 3) := dk_180 0 7 (dk_at dksX4_fills_6 15 rfl rfl)
theorem dX4_fills_161 : decode cX4_fills 161 = .ok (.sipush 301, 3) := dk_17 1 45 (dk_at dksX4_fills_6 18 rfl rfl)
theorem dX4_fills_164 : decode cX4_fills 164 = .ok (.dup2, 1) := dk_92 (dk_at dksX4_fills_6 21 rfl rfl)
theorem dX4_fills_165 : decode cX4_fills 165 = .ok (.iaload, 1) := dk_46 (dk_at dksX4_fills_6 22 rfl rfl)
theorem dX4_fills_166 : decode cX4_fills 166 = .ok (.iload 4, 2) := dk_21 4 (dk_at dksX4_fills_7 0 rfl rfl)
theorem dX4_fills_168 : decode cX4_fills 168 = .ok (.ifCond .eq 13, 3) := dk_153 0 13 (dk_at dksX4_fills_7 2 rfl rfl)
theorem dX4_fills_171 : decode cX4_fills 171 = .ok (.bipush 6, 2) := dk_16 6 (dk_at dksX4_fills_7 5 rfl rfl)
theorem dX4_fills_173 : decode cX4_fills 173 = .ok (.iload_n 1, 1) := dk_27 (dk_at dksX4_fills_7 7 rfl rfl)
theorem dX4_fills_174 : decode cX4_fills 174 = .ok (.invokestatic 70, 3) := dk_184 0 70 (dk_at dksX4_fills_7 8 rfl rfl)
theorem dX4_fills_177 : decode cX4_fills 177 = .ok (.imul, 1) := dk_104 (dk_at dksX4_fills_7 11 rfl rfl)
theorem dX4_fills_178 : decode cX4_fills 178 = .ok (.goto 4, 3) := dk_167 0 4 (dk_at dksX4_fills_7 12 rfl rfl)
theorem dX4_fills_181 : decode cX4_fills 181 = .ok (.iconst 0, 1) := dk_3 (dk_at dksX4_fills_7 15 rfl rfl)
theorem dX4_fills_182 : decode cX4_fills 182 = .ok (.iadd, 1) := dk_96 (dk_at dksX4_fills_7 16 rfl rfl)
theorem dX4_fills_183 : decode cX4_fills 183 = .ok (.iastore, 1) := dk_79 (dk_at dksX4_fills_7 17 rfl rfl)
theorem dX4_fills_184 : decode cX4_fills 184 = .ok (.aload_n 0, 1) := dk_42 (dk_at dksX4_fills_7 18 rfl rfl)
theorem dX4_fills_185 : decode cX4_fills 185 = .ok (.getfield 7, 3) := dk_180 0 7 (dk_at dksX4_fills_7 19 rfl rfl)
theorem dX4_fills_188 : decode cX4_fills 188 = .ok (.iload_n 3, 1) := dk_29 (dk_at dksX4_fills_7 22 rfl rfl)
theorem dX4_fills_189 : decode cX4_fills 189 = .ok (.iconst 0, 1) := dk_3 (dk_at dksX4_fills_7 23 rfl rfl)
theorem dX4_fills_190 : decode cX4_fills 190 = .ok (.iadd, 1) := dk_96 (dk_at dksX4_fills_8 0 rfl rfl)
theorem dX4_fills_191 : decode cX4_fills 191 = .ok (.iconst 0, 1) := dk_3 (dk_at dksX4_fills_8 1 rfl rfl)
theorem dX4_fills_192 : decode cX4_fills 192 = .ok (.iastore, 1) := dk_79 (dk_at dksX4_fills_8 2 rfl rfl)
theorem dX4_fills_193 : decode cX4_fills 193 = .ok (.aload_n 0, 1) := dk_42 (dk_at dksX4_fills_8 3 rfl rfl)
theorem dX4_fills_194 : decode cX4_fills 194 = .ok (.getfield 7, 3) := dk_180 0 7 (dk_at dksX4_fills_8 4 rfl rfl)
theorem dX4_fills_197 : decode cX4_fills 197 = .ok (.iload_n 3, 1) := dk_29 (dk_at dksX4_fills_8 7 rfl rfl)
theorem dX4_fills_198 : decode cX4_fills 198 = .ok (.iconst 3, 1) := dk_6 (dk_at dksX4_fills_8 8 rfl rfl)
theorem dX4_fills_199 : decode cX4_fills 199 = .ok (.iadd, 1) := dk_96 (dk_at dksX4_fills_8 9 rfl rfl)
theorem dX4_fills_200 : decode cX4_fills 200 = .ok (.iconst 0, 1) := dk_3 (dk_at dksX4_fills_8 10 rfl rfl)
theorem dX4_fills_201 : decode cX4_fills 201 = .ok (.iastore, 1) := dk_79 (dk_at dksX4_fills_8 11 rfl rfl)
theorem dX4_fills_202 : decode cX4_fills 202 = .ok (.return_, 1) := dk_177 (dk_at dksX4_fills_8 12 rfl rfl)
abbrev cX4_crateAt : ByteArray := prog_14_method_8_code
def yX4_crateAt : MethodName := ⟨RX4, "crateAt", "(I)I"⟩
def dkwX4_crateAt_0 : List UInt8 := [17, 0, 216, 8, 26, 104, 96, 172]
abbrev dktX4_crateAt_0 : List UInt8 := dkwX4_crateAt_0 ++ []
theorem dksX4_crateAt_0 : cX4_crateAt.data.toList.drop 0 = dktX4_crateAt_0 := by decide +kernel
theorem dX4_crateAt_0 : decode cX4_crateAt 0 = .ok (.sipush 216, 3) := dk_17 0 216 (dk_at dksX4_crateAt_0 0 rfl rfl)
theorem dX4_crateAt_3 : decode cX4_crateAt 3 = .ok (.iconst 5, 1) := dk_8 (dk_at dksX4_crateAt_0 3 rfl rfl)
theorem dX4_crateAt_4 : decode cX4_crateAt 4 = .ok (.iload_n 0, 1) := dk_26 (dk_at dksX4_crateAt_0 4 rfl rfl)
theorem dX4_crateAt_5 : decode cX4_crateAt 5 = .ok (.imul, 1) := dk_104 (dk_at dksX4_crateAt_0 5 rfl rfl)
theorem dX4_crateAt_6 : decode cX4_crateAt 6 = .ok (.iadd, 1) := dk_96 (dk_at dksX4_crateAt_0 6 rfl rfl)
theorem dX4_crateAt_7 : decode cX4_crateAt 7 = .ok (.ireturn, 1) := dk_172 (dk_at dksX4_crateAt_0 7 rfl rfl)
abbrev cX4_priceOf : ByteArray := prog_14_method_14_code
def yX4_priceOf : MethodName := ⟨RX4, "priceOf", "(I)I"⟩
def dkwX4_priceOf_0 : List UInt8 := [26, 8, 160, 0, 7, 8, 167, 0, 15, 26, 7, 160, 0, 7, 4, 167, 0, 6, 26, 4, 96, 172]
abbrev dktX4_priceOf_0 : List UInt8 := dkwX4_priceOf_0 ++ []
theorem dksX4_priceOf_0 : cX4_priceOf.data.toList.drop 0 = dktX4_priceOf_0 := by decide +kernel
theorem dX4_priceOf_0 : decode cX4_priceOf 0 = .ok (.iload_n 0, 1) := dk_26 (dk_at dksX4_priceOf_0 0 rfl rfl)
theorem dX4_priceOf_1 : decode cX4_priceOf 1 = .ok (.iconst 5, 1) := dk_8 (dk_at dksX4_priceOf_0 1 rfl rfl)
theorem dX4_priceOf_2 : decode cX4_priceOf 2 = .ok (.if_icmp .ne 7, 3) := dk_160 0 7 (dk_at dksX4_priceOf_0 2 rfl rfl)
theorem dX4_priceOf_5 : decode cX4_priceOf 5 = .ok (.iconst 5, 1) := dk_8 (dk_at dksX4_priceOf_0 5 rfl rfl)
theorem dX4_priceOf_6 : decode cX4_priceOf 6 = .ok (.goto 15, 3) := dk_167 0 15 (dk_at dksX4_priceOf_0 6 rfl rfl)
theorem dX4_priceOf_9 : decode cX4_priceOf 9 = .ok (.iload_n 0, 1) := dk_26 (dk_at dksX4_priceOf_0 9 rfl rfl)
theorem dX4_priceOf_10 : decode cX4_priceOf 10 = .ok (.iconst 4, 1) := dk_7 (dk_at dksX4_priceOf_0 10 rfl rfl)
theorem dX4_priceOf_11 : decode cX4_priceOf 11 = .ok (.if_icmp .ne 7, 3) := dk_160 0 7 (dk_at dksX4_priceOf_0 11 rfl rfl)
theorem dX4_priceOf_14 : decode cX4_priceOf 14 = .ok (.iconst 1, 1) := dk_4 (dk_at dksX4_priceOf_0 14 rfl rfl)
theorem dX4_priceOf_15 : decode cX4_priceOf 15 = .ok (.goto 6, 3) := dk_167 0 6 (dk_at dksX4_priceOf_0 15 rfl rfl)
theorem dX4_priceOf_18 : decode cX4_priceOf 18 = .ok (.iload_n 0, 1) := dk_26 (dk_at dksX4_priceOf_0 18 rfl rfl)
theorem dX4_priceOf_19 : decode cX4_priceOf 19 = .ok (.iconst 1, 1) := dk_4 (dk_at dksX4_priceOf_0 19 rfl rfl)
theorem dX4_priceOf_20 : decode cX4_priceOf 20 = .ok (.iadd, 1) := dk_96 (dk_at dksX4_priceOf_0 20 rfl rfl)
theorem dX4_priceOf_21 : decode cX4_priceOf 21 = .ok (.ireturn, 1) := dk_172 (dk_at dksX4_priceOf_0 21 rfl rfl)
abbrev cX4_set : ByteArray := prog_14_method_31_code
def yX4_set : MethodName := ⟨RX4, "set", "(II)I"⟩
def dkwX4_set_2 : List UInt8 := [180, 0, 7, 17, 1, 51, 27, 96, 46, 62, 42, 180, 0, 7, 17, 1, 51, 27, 96, 28, 79, 29, 172]
abbrev dktX4_set_2 : List UInt8 := dkwX4_set_2 ++ []
def dkwX4_set_1 : List UInt8 := [154, 0, 8, 16, 8, 167, 0, 5, 16, 9, 184, 0, 40, 154, 0, 6, 18, 100, 172, 42, 182, 0, 102, 42]
abbrev dktX4_set_1 : List UInt8 := dkwX4_set_1 ++ dktX4_set_2
def dkwX4_set_0 : List UInt8 := [27, 3, 6, 184, 0, 40, 153, 0, 33, 28, 27, 5, 162, 0, 7, 4, 167, 0, 4, 3, 27, 6, 112]
abbrev dktX4_set_0 : List UInt8 := dkwX4_set_0 ++ dktX4_set_1
theorem dksX4_set_0 : cX4_set.data.toList.drop 0 = dktX4_set_0 := by decide +kernel
theorem dksX4_set_1 : cX4_set.data.toList.drop 23 = dktX4_set_1 := dk_seg dksX4_set_0 23 rfl rfl
theorem dksX4_set_2 : cX4_set.data.toList.drop 47 = dktX4_set_2 := dk_seg dksX4_set_1 24 rfl rfl
theorem dX4_set_0 : decode cX4_set 0 = .ok (.iload_n 1, 1) := dk_27 (dk_at dksX4_set_0 0 rfl rfl)
theorem dX4_set_1 : decode cX4_set 1 = .ok (.iconst 0, 1) := dk_3 (dk_at dksX4_set_0 1 rfl rfl)
theorem dX4_set_2 : decode cX4_set 2 = .ok (.iconst 3, 1) := dk_6 (dk_at dksX4_set_0 2 rfl rfl)
theorem dX4_set_3 : decode cX4_set 3 = .ok (.invokestatic 40, 3) := dk_184 0 40 (dk_at dksX4_set_0 3 rfl rfl)
theorem dX4_set_6 : decode cX4_set 6 = .ok (.ifCond .eq 33, 3) := dk_153 0 33 (dk_at dksX4_set_0 6 rfl rfl)
theorem dX4_set_9 : decode cX4_set 9 = .ok (.iload_n 2, 1) := dk_28 (dk_at dksX4_set_0 9 rfl rfl)
theorem dX4_set_10 : decode cX4_set 10 = .ok (.iload_n 1, 1) := dk_27 (dk_at dksX4_set_0 10 rfl rfl)
theorem dX4_set_11 : decode cX4_set 11 = .ok (.iconst 2, 1) := dk_5 (dk_at dksX4_set_0 11 rfl rfl)
theorem dX4_set_12 : decode cX4_set 12 = .ok (.if_icmp .ge 7, 3) := dk_162 0 7 (dk_at dksX4_set_0 12 rfl rfl)
theorem dX4_set_15 : decode cX4_set 15 = .ok (.iconst 1, 1) := dk_4 (dk_at dksX4_set_0 15 rfl rfl)
theorem dX4_set_16 : decode cX4_set 16 = .ok (.goto 4, 3) := dk_167 0 4 (dk_at dksX4_set_0 16 rfl rfl)
theorem dX4_set_19 : decode cX4_set 19 = .ok (.iconst 0, 1) := dk_3 (dk_at dksX4_set_0 19 rfl rfl)
theorem dX4_set_20 : decode cX4_set 20 = .ok (.iload_n 1, 1) := dk_27 (dk_at dksX4_set_0 20 rfl rfl)
theorem dX4_set_21 : decode cX4_set 21 = .ok (.iconst 3, 1) := dk_6 (dk_at dksX4_set_0 21 rfl rfl)
theorem dX4_set_22 : decode cX4_set 22 = .ok (.irem, 1) := dk_112 (dk_at dksX4_set_0 22 rfl rfl)
theorem dX4_set_23 : decode cX4_set 23 = .ok (.ifCond .ne 8, 3) := dk_154 0 8 (dk_at dksX4_set_1 0 rfl rfl)
theorem dX4_set_26 : decode cX4_set 26 = .ok (.bipush 8, 2) := dk_16 8 (dk_at dksX4_set_1 3 rfl rfl)
theorem dX4_set_28 : decode cX4_set 28 = .ok (.goto 5, 3) := dk_167 0 5 (dk_at dksX4_set_1 5 rfl rfl)
theorem dX4_set_31 : decode cX4_set 31 = .ok (.bipush 9, 2) := dk_16 9 (dk_at dksX4_set_1 8 rfl rfl)
theorem dX4_set_33 : decode cX4_set 33 = .ok (.invokestatic 40, 3) := dk_184 0 40 (dk_at dksX4_set_1 10 rfl rfl)
theorem dX4_set_36 : decode cX4_set 36 = .ok (.ifCond .ne 6, 3) := dk_154 0 6 (dk_at dksX4_set_1 13 rfl rfl)
theorem dX4_set_39 : decode cX4_set 39 = .ok (.ldc 100, 2) := dk_18 100 (dk_at dksX4_set_1 16 rfl rfl)
theorem dX4_set_41 : decode cX4_set 41 = .ok (.ireturn, 1) := dk_172 (dk_at dksX4_set_1 18 rfl rfl)
theorem dX4_set_42 : decode cX4_set 42 = .ok (.aload_n 0, 1) := dk_42 (dk_at dksX4_set_1 19 rfl rfl)
theorem dX4_set_43 : decode cX4_set 43 = .ok (.invokevirtual 102, 3) := dk_182 0 102 (dk_at dksX4_set_1 20 rfl rfl)
theorem dX4_set_46 : decode cX4_set 46 = .ok (.aload_n 0, 1) := dk_42 (dk_at dksX4_set_1 23 rfl rfl)
theorem dX4_set_47 : decode cX4_set 47 = .ok (.getfield 7, 3) := dk_180 0 7 (dk_at dksX4_set_2 0 rfl rfl)
theorem dX4_set_50 : decode cX4_set 50 = .ok (.sipush 307, 3) := dk_17 1 51 (dk_at dksX4_set_2 3 rfl rfl)
theorem dX4_set_53 : decode cX4_set 53 = .ok (.iload_n 1, 1) := dk_27 (dk_at dksX4_set_2 6 rfl rfl)
theorem dX4_set_54 : decode cX4_set 54 = .ok (.iadd, 1) := dk_96 (dk_at dksX4_set_2 7 rfl rfl)
theorem dX4_set_55 : decode cX4_set 55 = .ok (.iaload, 1) := dk_46 (dk_at dksX4_set_2 8 rfl rfl)
theorem dX4_set_56 : decode cX4_set 56 = .ok (.istore_n 3, 1) := dk_62 (dk_at dksX4_set_2 9 rfl rfl)
theorem dX4_set_57 : decode cX4_set 57 = .ok (.aload_n 0, 1) := dk_42 (dk_at dksX4_set_2 10 rfl rfl)
theorem dX4_set_58 : decode cX4_set 58 = .ok (.getfield 7, 3) := dk_180 0 7 (dk_at dksX4_set_2 11 rfl rfl)
theorem dX4_set_61 : decode cX4_set 61 = .ok (.sipush 307, 3) := dk_17 1 51 (dk_at dksX4_set_2 14 rfl rfl)
theorem dX4_set_64 : decode cX4_set 64 = .ok (.iload_n 1, 1) := dk_27 (dk_at dksX4_set_2 17 rfl rfl)
theorem dX4_set_65 : decode cX4_set 65 = .ok (.iadd, 1) := dk_96 (dk_at dksX4_set_2 18 rfl rfl)
theorem dX4_set_66 : decode cX4_set 66 = .ok (.iload_n 2, 1) := dk_28 (dk_at dksX4_set_2 19 rfl rfl)
theorem dX4_set_67 : decode cX4_set 67 = .ok (.iastore, 1) := dk_79 (dk_at dksX4_set_2 20 rfl rfl)
theorem dX4_set_68 : decode cX4_set 68 = .ok (.iload_n 3, 1) := dk_29 (dk_at dksX4_set_2 21 rfl rfl)
theorem dX4_set_69 : decode cX4_set 69 = .ok (.ireturn, 1) := dk_172 (dk_at dksX4_set_2 22 rfl rfl)
abbrev cX4_lane : ByteArray := prog_14_method_33_code
def yX4_lane : MethodName := ⟨RX4, "lane", "(II)I"⟩
def dkwX4_lane_5 : List UInt8 := [28, 96, 6, 100, 46, 172, 42, 180, 0, 7, 27, 184, 0, 28, 28, 96, 46, 172]
abbrev dktX4_lane_5 : List UInt8 := dkwX4_lane_5 ++ []
def dkwX4_lane_4 : List UInt8 := [162, 0, 7, 29, 167, 0, 11, 42, 180, 0, 7, 17, 1, 51, 46, 172, 42, 180, 0, 7, 27, 184, 0, 28]
abbrev dktX4_lane_4 : List UInt8 := dkwX4_lane_4 ++ dktX4_lane_5
def dkwX4_lane_3 : List UInt8 := [42, 27, 182, 0, 51, 172, 42, 27, 182, 0, 51, 184, 0, 64, 172, 29, 42, 180, 0, 7, 17, 1, 51, 46]
abbrev dktX4_lane_3 : List UInt8 := dkwX4_lane_3 ++ dktX4_lane_4
def dkwX4_lane_2 : List UInt8 := [170, 0, 0, 0, 87, 0, 0, 0, 4, 0, 0, 0, 8, 0, 0, 0, 33, 0, 0, 0, 39, 0, 0, 0, 48, 0, 0, 0, 73, 0, 0, 0, 73]
abbrev dktX4_lane_2 : List UInt8 := dkwX4_lane_2 ++ dktX4_lane_3
def dkwX4_lane_1 : List UInt8 := [180, 0, 7, 27, 184, 0, 28, 5, 96, 46, 184, 0, 109, 108, 62, 28]
abbrev dktX4_lane_1 : List UInt8 := dkwX4_lane_1 ++ dktX4_lane_2
def dkwX4_lane_0 : List UInt8 := [27, 184, 0, 97, 153, 0, 13, 28, 3, 16, 8, 184, 0, 40, 154, 0, 6, 18, 100, 172, 16, 8, 42]
abbrev dktX4_lane_0 : List UInt8 := dkwX4_lane_0 ++ dktX4_lane_1
theorem dksX4_lane_0 : cX4_lane.data.toList.drop 0 = dktX4_lane_0 := by decide +kernel
theorem dksX4_lane_1 : cX4_lane.data.toList.drop 23 = dktX4_lane_1 := dk_seg dksX4_lane_0 23 rfl rfl
theorem dksX4_lane_2 : cX4_lane.data.toList.drop 39 = dktX4_lane_2 := dk_seg dksX4_lane_1 16 rfl rfl
theorem dksX4_lane_3 : cX4_lane.data.toList.drop 72 = dktX4_lane_3 := dk_seg dksX4_lane_2 33 rfl rfl
theorem dksX4_lane_4 : cX4_lane.data.toList.drop 96 = dktX4_lane_4 := dk_seg dksX4_lane_3 24 rfl rfl
theorem dksX4_lane_5 : cX4_lane.data.toList.drop 120 = dktX4_lane_5 := dk_seg dksX4_lane_4 24 rfl rfl
theorem dX4_lane_0 : decode cX4_lane 0 = .ok (.iload_n 1, 1) := dk_27 (dk_at dksX4_lane_0 0 rfl rfl)
theorem dX4_lane_1 : decode cX4_lane 1 = .ok (.invokestatic 97, 3) := dk_184 0 97 (dk_at dksX4_lane_0 1 rfl rfl)
theorem dX4_lane_4 : decode cX4_lane 4 = .ok (.ifCond .eq 13, 3) := dk_153 0 13 (dk_at dksX4_lane_0 4 rfl rfl)
theorem dX4_lane_7 : decode cX4_lane 7 = .ok (.iload_n 2, 1) := dk_28 (dk_at dksX4_lane_0 7 rfl rfl)
theorem dX4_lane_8 : decode cX4_lane 8 = .ok (.iconst 0, 1) := dk_3 (dk_at dksX4_lane_0 8 rfl rfl)
theorem dX4_lane_9 : decode cX4_lane 9 = .ok (.bipush 8, 2) := dk_16 8 (dk_at dksX4_lane_0 9 rfl rfl)
theorem dX4_lane_11 : decode cX4_lane 11 = .ok (.invokestatic 40, 3) := dk_184 0 40 (dk_at dksX4_lane_0 11 rfl rfl)
theorem dX4_lane_14 : decode cX4_lane 14 = .ok (.ifCond .ne 6, 3) := dk_154 0 6 (dk_at dksX4_lane_0 14 rfl rfl)
theorem dX4_lane_17 : decode cX4_lane 17 = .ok (.ldc 100, 2) := dk_18 100 (dk_at dksX4_lane_0 17 rfl rfl)
theorem dX4_lane_19 : decode cX4_lane 19 = .ok (.ireturn, 1) := dk_172 (dk_at dksX4_lane_0 19 rfl rfl)
theorem dX4_lane_20 : decode cX4_lane 20 = .ok (.bipush 8, 2) := dk_16 8 (dk_at dksX4_lane_0 20 rfl rfl)
theorem dX4_lane_22 : decode cX4_lane 22 = .ok (.aload_n 0, 1) := dk_42 (dk_at dksX4_lane_0 22 rfl rfl)
theorem dX4_lane_23 : decode cX4_lane 23 = .ok (.getfield 7, 3) := dk_180 0 7 (dk_at dksX4_lane_1 0 rfl rfl)
theorem dX4_lane_26 : decode cX4_lane 26 = .ok (.iload_n 1, 1) := dk_27 (dk_at dksX4_lane_1 3 rfl rfl)
theorem dX4_lane_27 : decode cX4_lane 27 = .ok (.invokestatic 28, 3) := dk_184 0 28 (dk_at dksX4_lane_1 4 rfl rfl)
theorem dX4_lane_30 : decode cX4_lane 30 = .ok (.iconst 2, 1) := dk_5 (dk_at dksX4_lane_1 7 rfl rfl)
theorem dX4_lane_31 : decode cX4_lane 31 = .ok (.iadd, 1) := dk_96 (dk_at dksX4_lane_1 8 rfl rfl)
theorem dX4_lane_32 : decode cX4_lane 32 = .ok (.iaload, 1) := dk_46 (dk_at dksX4_lane_1 9 rfl rfl)
theorem dX4_lane_33 : decode cX4_lane 33 = .ok (.invokestatic 109, 3) := dk_184 0 109 (dk_at dksX4_lane_1 10 rfl rfl)
theorem dX4_lane_36 : decode cX4_lane 36 = .ok (.idiv, 1) := dk_108 (dk_at dksX4_lane_1 13 rfl rfl)
theorem dX4_lane_37 : decode cX4_lane 37 = .ok (.istore_n 3, 1) := dk_62 (dk_at dksX4_lane_1 14 rfl rfl)
theorem dX4_lane_38 : decode cX4_lane 38 = .ok (.iload_n 2, 1) := dk_28 (dk_at dksX4_lane_1 15 rfl rfl)
theorem dX4_lane_39 : decode cX4_lane 39 = .ok (.tableswitch 87 4 8 #[33, 39, 48, 73, 73], 33) := by decide +kernel
theorem dX4_lane_72 : decode cX4_lane 72 = .ok (.aload_n 0, 1) := dk_42 (dk_at dksX4_lane_3 0 rfl rfl)
theorem dX4_lane_73 : decode cX4_lane 73 = .ok (.iload_n 1, 1) := dk_27 (dk_at dksX4_lane_3 1 rfl rfl)
theorem dX4_lane_74 : decode cX4_lane 74 = .ok (.invokevirtual 51, 3) := dk_182 0 51 (dk_at dksX4_lane_3 2 rfl rfl)
theorem dX4_lane_77 : decode cX4_lane 77 = .ok (.ireturn, 1) := dk_172 (dk_at dksX4_lane_3 5 rfl rfl)
theorem dX4_lane_78 : decode cX4_lane 78 = .ok (.aload_n 0, 1) := dk_42 (dk_at dksX4_lane_3 6 rfl rfl)
theorem dX4_lane_79 : decode cX4_lane 79 = .ok (.iload_n 1, 1) := dk_27 (dk_at dksX4_lane_3 7 rfl rfl)
theorem dX4_lane_80 : decode cX4_lane 80 = .ok (.invokevirtual 51, 3) := dk_182 0 51 (dk_at dksX4_lane_3 8 rfl rfl)
theorem dX4_lane_83 : decode cX4_lane 83 = .ok (.invokestatic 64, 3) := dk_184 0 64 (dk_at dksX4_lane_3 11 rfl rfl)
theorem dX4_lane_86 : decode cX4_lane 86 = .ok (.ireturn, 1) := dk_172 (dk_at dksX4_lane_3 14 rfl rfl)
theorem dX4_lane_87 : decode cX4_lane 87 = .ok (.iload_n 3, 1) := dk_29 (dk_at dksX4_lane_3 15 rfl rfl)
theorem dX4_lane_88 : decode cX4_lane 88 = .ok (.aload_n 0, 1) := dk_42 (dk_at dksX4_lane_3 16 rfl rfl)
theorem dX4_lane_89 : decode cX4_lane 89 = .ok (.getfield 7, 3) := dk_180 0 7 (dk_at dksX4_lane_3 17 rfl rfl)
theorem dX4_lane_92 : decode cX4_lane 92 = .ok (.sipush 307, 3) := dk_17 1 51 (dk_at dksX4_lane_3 20 rfl rfl)
theorem dX4_lane_95 : decode cX4_lane 95 = .ok (.iaload, 1) := dk_46 (dk_at dksX4_lane_3 23 rfl rfl)
theorem dX4_lane_96 : decode cX4_lane 96 = .ok (.if_icmp .ge 7, 3) := dk_162 0 7 (dk_at dksX4_lane_4 0 rfl rfl)
theorem dX4_lane_99 : decode cX4_lane 99 = .ok (.iload_n 3, 1) := dk_29 (dk_at dksX4_lane_4 3 rfl rfl)
theorem dX4_lane_100 : decode cX4_lane 100 = .ok (.goto 11, 3) := dk_167 0 11 (dk_at dksX4_lane_4 4 rfl rfl)
theorem dX4_lane_103 : decode cX4_lane 103 = .ok (.aload_n 0, 1) := dk_42 (dk_at dksX4_lane_4 7 rfl rfl)
theorem dX4_lane_104 : decode cX4_lane 104 = .ok (.getfield 7, 3) := dk_180 0 7 (dk_at dksX4_lane_4 8 rfl rfl)
theorem dX4_lane_107 : decode cX4_lane 107 = .ok (.sipush 307, 3) := dk_17 1 51 (dk_at dksX4_lane_4 11 rfl rfl)
theorem dX4_lane_110 : decode cX4_lane 110 = .ok (.iaload, 1) := dk_46 (dk_at dksX4_lane_4 14 rfl rfl)
theorem dX4_lane_111 : decode cX4_lane 111 = .ok (.ireturn, 1) := dk_172 (dk_at dksX4_lane_4 15 rfl rfl)
theorem dX4_lane_112 : decode cX4_lane 112 = .ok (.aload_n 0, 1) := dk_42 (dk_at dksX4_lane_4 16 rfl rfl)
theorem dX4_lane_113 : decode cX4_lane 113 = .ok (.getfield 7, 3) := dk_180 0 7 (dk_at dksX4_lane_4 17 rfl rfl)
theorem dX4_lane_116 : decode cX4_lane 116 = .ok (.iload_n 1, 1) := dk_27 (dk_at dksX4_lane_4 20 rfl rfl)
theorem dX4_lane_117 : decode cX4_lane 117 = .ok (.invokestatic 28, 3) := dk_184 0 28 (dk_at dksX4_lane_4 21 rfl rfl)
theorem dX4_lane_120 : decode cX4_lane 120 = .ok (.iload_n 2, 1) := dk_28 (dk_at dksX4_lane_5 0 rfl rfl)
theorem dX4_lane_121 : decode cX4_lane 121 = .ok (.iadd, 1) := dk_96 (dk_at dksX4_lane_5 1 rfl rfl)
theorem dX4_lane_122 : decode cX4_lane 122 = .ok (.iconst 3, 1) := dk_6 (dk_at dksX4_lane_5 2 rfl rfl)
theorem dX4_lane_123 : decode cX4_lane 123 = .ok (.isub, 1) := dk_100 (dk_at dksX4_lane_5 3 rfl rfl)
theorem dX4_lane_124 : decode cX4_lane 124 = .ok (.iaload, 1) := dk_46 (dk_at dksX4_lane_5 4 rfl rfl)
theorem dX4_lane_125 : decode cX4_lane 125 = .ok (.ireturn, 1) := dk_172 (dk_at dksX4_lane_5 5 rfl rfl)
theorem dX4_lane_126 : decode cX4_lane 126 = .ok (.aload_n 0, 1) := dk_42 (dk_at dksX4_lane_5 6 rfl rfl)
theorem dX4_lane_127 : decode cX4_lane 127 = .ok (.getfield 7, 3) := dk_180 0 7 (dk_at dksX4_lane_5 7 rfl rfl)
theorem dX4_lane_130 : decode cX4_lane 130 = .ok (.iload_n 1, 1) := dk_27 (dk_at dksX4_lane_5 10 rfl rfl)
theorem dX4_lane_131 : decode cX4_lane 131 = .ok (.invokestatic 28, 3) := dk_184 0 28 (dk_at dksX4_lane_5 11 rfl rfl)
theorem dX4_lane_134 : decode cX4_lane 134 = .ok (.iload_n 2, 1) := dk_28 (dk_at dksX4_lane_5 14 rfl rfl)
theorem dX4_lane_135 : decode cX4_lane 135 = .ok (.iadd, 1) := dk_96 (dk_at dksX4_lane_5 15 rfl rfl)
theorem dX4_lane_136 : decode cX4_lane 136 = .ok (.iaload, 1) := dk_46 (dk_at dksX4_lane_5 16 rfl rfl)
theorem dX4_lane_137 : decode cX4_lane 137 = .ok (.ireturn, 1) := dk_172 (dk_at dksX4_lane_5 17 rfl rfl)
abbrev cX4_shared : ByteArray := prog_14_method_32_code
def yX4_shared : MethodName := ⟨RX4, "shared", "(I)I"⟩
def dkwX4_shared_0 : List UInt8 := [26, 7, 112, 154, 0, 7, 7, 167, 0, 14, 26, 5, 112, 154, 0, 7, 5, 167, 0, 4, 4, 172]
abbrev dktX4_shared_0 : List UInt8 := dkwX4_shared_0 ++ []
theorem dksX4_shared_0 : cX4_shared.data.toList.drop 0 = dktX4_shared_0 := by decide +kernel
theorem dX4_shared_0 : decode cX4_shared 0 = .ok (.iload_n 0, 1) := dk_26 (dk_at dksX4_shared_0 0 rfl rfl)
theorem dX4_shared_1 : decode cX4_shared 1 = .ok (.iconst 4, 1) := dk_7 (dk_at dksX4_shared_0 1 rfl rfl)
theorem dX4_shared_2 : decode cX4_shared 2 = .ok (.irem, 1) := dk_112 (dk_at dksX4_shared_0 2 rfl rfl)
theorem dX4_shared_3 : decode cX4_shared 3 = .ok (.ifCond .ne 7, 3) := dk_154 0 7 (dk_at dksX4_shared_0 3 rfl rfl)
theorem dX4_shared_6 : decode cX4_shared 6 = .ok (.iconst 4, 1) := dk_7 (dk_at dksX4_shared_0 6 rfl rfl)
theorem dX4_shared_7 : decode cX4_shared 7 = .ok (.goto 14, 3) := dk_167 0 14 (dk_at dksX4_shared_0 7 rfl rfl)
theorem dX4_shared_10 : decode cX4_shared 10 = .ok (.iload_n 0, 1) := dk_26 (dk_at dksX4_shared_0 10 rfl rfl)
theorem dX4_shared_11 : decode cX4_shared 11 = .ok (.iconst 2, 1) := dk_5 (dk_at dksX4_shared_0 11 rfl rfl)
theorem dX4_shared_12 : decode cX4_shared 12 = .ok (.irem, 1) := dk_112 (dk_at dksX4_shared_0 12 rfl rfl)
theorem dX4_shared_13 : decode cX4_shared 13 = .ok (.ifCond .ne 7, 3) := dk_154 0 7 (dk_at dksX4_shared_0 13 rfl rfl)
theorem dX4_shared_16 : decode cX4_shared 16 = .ok (.iconst 2, 1) := dk_5 (dk_at dksX4_shared_0 16 rfl rfl)
theorem dX4_shared_17 : decode cX4_shared 17 = .ok (.goto 4, 3) := dk_167 0 4 (dk_at dksX4_shared_0 17 rfl rfl)
theorem dX4_shared_20 : decode cX4_shared 20 = .ok (.iconst 1, 1) := dk_4 (dk_at dksX4_shared_0 20 rfl rfl)
theorem dX4_shared_21 : decode cX4_shared 21 = .ok (.ireturn, 1) := dk_172 (dk_at dksX4_shared_0 21 rfl rfl)
abbrev cX4_eggOf : ByteArray := prog_14_method_34_code
def yX4_eggOf : MethodName := ⟨RX4, "eggOf", "(III)I"⟩
def dkwX4_eggOf_3 : List UInt8 := [18, 112, 172]
abbrev dktX4_eggOf_3 : List UInt8 := dkwX4_eggOf_3 ++ []
def dkwX4_eggOf_2 : List UInt8 := [54, 4, 29, 7, 159, 0, 8, 21, 4, 167, 0, 17, 21, 4, 158, 0, 10, 21, 4, 4, 100, 167, 0, 5]
abbrev dktX4_eggOf_2 : List UInt8 := dkwX4_eggOf_2 ++ dktX4_eggOf_3
def dkwX4_eggOf_1 : List UInt8 := [42, 27, 182, 0, 54, 161, 0, 6, 18, 112, 172, 42, 180, 0, 7, 27, 28, 184, 0, 47, 29, 96, 46]
abbrev dktX4_eggOf_1 : List UInt8 := dkwX4_eggOf_1 ++ dktX4_eggOf_2
def dkwX4_eggOf_0 : List UInt8 := [27, 184, 0, 97, 153, 0, 16, 28, 155, 0, 12, 29, 3, 8, 184, 0, 40, 154, 0, 6, 18, 100, 172, 28]
abbrev dktX4_eggOf_0 : List UInt8 := dkwX4_eggOf_0 ++ dktX4_eggOf_1
theorem dksX4_eggOf_0 : cX4_eggOf.data.toList.drop 0 = dktX4_eggOf_0 := by decide +kernel
theorem dksX4_eggOf_1 : cX4_eggOf.data.toList.drop 24 = dktX4_eggOf_1 := dk_seg dksX4_eggOf_0 24 rfl rfl
theorem dksX4_eggOf_2 : cX4_eggOf.data.toList.drop 47 = dktX4_eggOf_2 := dk_seg dksX4_eggOf_1 23 rfl rfl
theorem dksX4_eggOf_3 : cX4_eggOf.data.toList.drop 71 = dktX4_eggOf_3 := dk_seg dksX4_eggOf_2 24 rfl rfl
theorem dX4_eggOf_0 : decode cX4_eggOf 0 = .ok (.iload_n 1, 1) := dk_27 (dk_at dksX4_eggOf_0 0 rfl rfl)
theorem dX4_eggOf_1 : decode cX4_eggOf 1 = .ok (.invokestatic 97, 3) := dk_184 0 97 (dk_at dksX4_eggOf_0 1 rfl rfl)
theorem dX4_eggOf_4 : decode cX4_eggOf 4 = .ok (.ifCond .eq 16, 3) := dk_153 0 16 (dk_at dksX4_eggOf_0 4 rfl rfl)
theorem dX4_eggOf_7 : decode cX4_eggOf 7 = .ok (.iload_n 2, 1) := dk_28 (dk_at dksX4_eggOf_0 7 rfl rfl)
theorem dX4_eggOf_8 : decode cX4_eggOf 8 = .ok (.ifCond .lt 12, 3) := dk_155 0 12 (dk_at dksX4_eggOf_0 8 rfl rfl)
theorem dX4_eggOf_11 : decode cX4_eggOf 11 = .ok (.iload_n 3, 1) := dk_29 (dk_at dksX4_eggOf_0 11 rfl rfl)
theorem dX4_eggOf_12 : decode cX4_eggOf 12 = .ok (.iconst 0, 1) := dk_3 (dk_at dksX4_eggOf_0 12 rfl rfl)
theorem dX4_eggOf_13 : decode cX4_eggOf 13 = .ok (.iconst 5, 1) := dk_8 (dk_at dksX4_eggOf_0 13 rfl rfl)
theorem dX4_eggOf_14 : decode cX4_eggOf 14 = .ok (.invokestatic 40, 3) := dk_184 0 40 (dk_at dksX4_eggOf_0 14 rfl rfl)
theorem dX4_eggOf_17 : decode cX4_eggOf 17 = .ok (.ifCond .ne 6, 3) := dk_154 0 6 (dk_at dksX4_eggOf_0 17 rfl rfl)
theorem dX4_eggOf_20 : decode cX4_eggOf 20 = .ok (.ldc 100, 2) := dk_18 100 (dk_at dksX4_eggOf_0 20 rfl rfl)
theorem dX4_eggOf_22 : decode cX4_eggOf 22 = .ok (.ireturn, 1) := dk_172 (dk_at dksX4_eggOf_0 22 rfl rfl)
theorem dX4_eggOf_23 : decode cX4_eggOf 23 = .ok (.iload_n 2, 1) := dk_28 (dk_at dksX4_eggOf_0 23 rfl rfl)
theorem dX4_eggOf_24 : decode cX4_eggOf 24 = .ok (.aload_n 0, 1) := dk_42 (dk_at dksX4_eggOf_1 0 rfl rfl)
theorem dX4_eggOf_25 : decode cX4_eggOf 25 = .ok (.iload_n 1, 1) := dk_27 (dk_at dksX4_eggOf_1 1 rfl rfl)
theorem dX4_eggOf_26 : decode cX4_eggOf 26 = .ok (.invokevirtual 54, 3) := dk_182 0 54 (dk_at dksX4_eggOf_1 2 rfl rfl)
theorem dX4_eggOf_29 : decode cX4_eggOf 29 = .ok (.if_icmp .lt 6, 3) := dk_161 0 6 (dk_at dksX4_eggOf_1 5 rfl rfl)
theorem dX4_eggOf_32 : decode cX4_eggOf 32 = .ok (.ldc 112, 2) := dk_18 112 (dk_at dksX4_eggOf_1 8 rfl rfl)
theorem dX4_eggOf_34 : decode cX4_eggOf 34 = .ok (.ireturn, 1) := dk_172 (dk_at dksX4_eggOf_1 10 rfl rfl)
theorem dX4_eggOf_35 : decode cX4_eggOf 35 = .ok (.aload_n 0, 1) := dk_42 (dk_at dksX4_eggOf_1 11 rfl rfl)
theorem dX4_eggOf_36 : decode cX4_eggOf 36 = .ok (.getfield 7, 3) := dk_180 0 7 (dk_at dksX4_eggOf_1 12 rfl rfl)
theorem dX4_eggOf_39 : decode cX4_eggOf 39 = .ok (.iload_n 1, 1) := dk_27 (dk_at dksX4_eggOf_1 15 rfl rfl)
theorem dX4_eggOf_40 : decode cX4_eggOf 40 = .ok (.iload_n 2, 1) := dk_28 (dk_at dksX4_eggOf_1 16 rfl rfl)
theorem dX4_eggOf_41 : decode cX4_eggOf 41 = .ok (.invokestatic 47, 3) := dk_184 0 47 (dk_at dksX4_eggOf_1 17 rfl rfl)
theorem dX4_eggOf_44 : decode cX4_eggOf 44 = .ok (.iload_n 3, 1) := dk_29 (dk_at dksX4_eggOf_1 20 rfl rfl)
theorem dX4_eggOf_45 : decode cX4_eggOf 45 = .ok (.iadd, 1) := dk_96 (dk_at dksX4_eggOf_1 21 rfl rfl)
theorem dX4_eggOf_46 : decode cX4_eggOf 46 = .ok (.iaload, 1) := dk_46 (dk_at dksX4_eggOf_1 22 rfl rfl)
theorem dX4_eggOf_47 : decode cX4_eggOf 47 = .ok (.istore 4, 2) := dk_54 4 (dk_at dksX4_eggOf_2 0 rfl rfl)
theorem dX4_eggOf_49 : decode cX4_eggOf 49 = .ok (.iload_n 3, 1) := dk_29 (dk_at dksX4_eggOf_2 2 rfl rfl)
theorem dX4_eggOf_50 : decode cX4_eggOf 50 = .ok (.iconst 4, 1) := dk_7 (dk_at dksX4_eggOf_2 3 rfl rfl)
theorem dX4_eggOf_51 : decode cX4_eggOf 51 = .ok (.if_icmp .eq 8, 3) := dk_159 0 8 (dk_at dksX4_eggOf_2 4 rfl rfl)
theorem dX4_eggOf_54 : decode cX4_eggOf 54 = .ok (.iload 4, 2) := dk_21 4 (dk_at dksX4_eggOf_2 7 rfl rfl)
theorem dX4_eggOf_56 : decode cX4_eggOf 56 = .ok (.goto 17, 3) := dk_167 0 17 (dk_at dksX4_eggOf_2 9 rfl rfl)
theorem dX4_eggOf_59 : decode cX4_eggOf 59 = .ok (.iload 4, 2) := dk_21 4 (dk_at dksX4_eggOf_2 12 rfl rfl)
theorem dX4_eggOf_61 : decode cX4_eggOf 61 = .ok (.ifCond .le 10, 3) := dk_158 0 10 (dk_at dksX4_eggOf_2 14 rfl rfl)
theorem dX4_eggOf_64 : decode cX4_eggOf 64 = .ok (.iload 4, 2) := dk_21 4 (dk_at dksX4_eggOf_2 17 rfl rfl)
theorem dX4_eggOf_66 : decode cX4_eggOf 66 = .ok (.iconst 1, 1) := dk_4 (dk_at dksX4_eggOf_2 19 rfl rfl)
theorem dX4_eggOf_67 : decode cX4_eggOf 67 = .ok (.isub, 1) := dk_100 (dk_at dksX4_eggOf_2 20 rfl rfl)
theorem dX4_eggOf_68 : decode cX4_eggOf 68 = .ok (.goto 5, 3) := dk_167 0 5 (dk_at dksX4_eggOf_2 21 rfl rfl)
theorem dX4_eggOf_71 : decode cX4_eggOf 71 = .ok (.ldc 112, 2) := dk_18 112 (dk_at dksX4_eggOf_3 0 rfl rfl)
theorem dX4_eggOf_73 : decode cX4_eggOf 73 = .ok (.ireturn, 1) := dk_172 (dk_at dksX4_eggOf_3 2 rfl rfl)
abbrev cX4_crate : ByteArray := prog_14_method_35_code
def yX4_crate : MethodName := ⟨RX4, "crate", "(II)I"⟩
def dkwX4_crate_2 : List UInt8 := [167, 0, 4, 28, 96, 46, 172]
abbrev dktX4_crate_2 : List UInt8 := dkwX4_crate_2 ++ []
def dkwX4_crate_1 : List UInt8 := [160, 0, 10, 27, 184, 0, 70, 167, 0, 23, 42, 180, 0, 7, 27, 184, 0, 67, 28, 8, 160, 0, 7, 7]
abbrev dktX4_crate_1 : List UInt8 := dkwX4_crate_1 ++ dktX4_crate_2
def dkwX4_crate_0 : List UInt8 := [27, 3, 8, 184, 0, 40, 153, 0, 12, 28, 3, 8, 184, 0, 40, 154, 0, 6, 18, 100, 172, 28, 7]
abbrev dktX4_crate_0 : List UInt8 := dkwX4_crate_0 ++ dktX4_crate_1
theorem dksX4_crate_0 : cX4_crate.data.toList.drop 0 = dktX4_crate_0 := by decide +kernel
theorem dksX4_crate_1 : cX4_crate.data.toList.drop 23 = dktX4_crate_1 := dk_seg dksX4_crate_0 23 rfl rfl
theorem dksX4_crate_2 : cX4_crate.data.toList.drop 47 = dktX4_crate_2 := dk_seg dksX4_crate_1 24 rfl rfl
theorem dX4_crate_0 : decode cX4_crate 0 = .ok (.iload_n 1, 1) := dk_27 (dk_at dksX4_crate_0 0 rfl rfl)
theorem dX4_crate_1 : decode cX4_crate 1 = .ok (.iconst 0, 1) := dk_3 (dk_at dksX4_crate_0 1 rfl rfl)
theorem dX4_crate_2 : decode cX4_crate 2 = .ok (.iconst 5, 1) := dk_8 (dk_at dksX4_crate_0 2 rfl rfl)
theorem dX4_crate_3 : decode cX4_crate 3 = .ok (.invokestatic 40, 3) := dk_184 0 40 (dk_at dksX4_crate_0 3 rfl rfl)
theorem dX4_crate_6 : decode cX4_crate 6 = .ok (.ifCond .eq 12, 3) := dk_153 0 12 (dk_at dksX4_crate_0 6 rfl rfl)
theorem dX4_crate_9 : decode cX4_crate 9 = .ok (.iload_n 2, 1) := dk_28 (dk_at dksX4_crate_0 9 rfl rfl)
theorem dX4_crate_10 : decode cX4_crate 10 = .ok (.iconst 0, 1) := dk_3 (dk_at dksX4_crate_0 10 rfl rfl)
theorem dX4_crate_11 : decode cX4_crate 11 = .ok (.iconst 5, 1) := dk_8 (dk_at dksX4_crate_0 11 rfl rfl)
theorem dX4_crate_12 : decode cX4_crate 12 = .ok (.invokestatic 40, 3) := dk_184 0 40 (dk_at dksX4_crate_0 12 rfl rfl)
theorem dX4_crate_15 : decode cX4_crate 15 = .ok (.ifCond .ne 6, 3) := dk_154 0 6 (dk_at dksX4_crate_0 15 rfl rfl)
theorem dX4_crate_18 : decode cX4_crate 18 = .ok (.ldc 100, 2) := dk_18 100 (dk_at dksX4_crate_0 18 rfl rfl)
theorem dX4_crate_20 : decode cX4_crate 20 = .ok (.ireturn, 1) := dk_172 (dk_at dksX4_crate_0 20 rfl rfl)
theorem dX4_crate_21 : decode cX4_crate 21 = .ok (.iload_n 2, 1) := dk_28 (dk_at dksX4_crate_0 21 rfl rfl)
theorem dX4_crate_22 : decode cX4_crate 22 = .ok (.iconst 4, 1) := dk_7 (dk_at dksX4_crate_0 22 rfl rfl)
theorem dX4_crate_23 : decode cX4_crate 23 = .ok (.if_icmp .ne 10, 3) := dk_160 0 10 (dk_at dksX4_crate_1 0 rfl rfl)
theorem dX4_crate_26 : decode cX4_crate 26 = .ok (.iload_n 1, 1) := dk_27 (dk_at dksX4_crate_1 3 rfl rfl)
theorem dX4_crate_27 : decode cX4_crate 27 = .ok (.invokestatic 70, 3) := dk_184 0 70 (dk_at dksX4_crate_1 4 rfl rfl)
theorem dX4_crate_30 : decode cX4_crate 30 = .ok (.goto 23, 3) := dk_167 0 23 (dk_at dksX4_crate_1 7 rfl rfl)
theorem dX4_crate_33 : decode cX4_crate 33 = .ok (.aload_n 0, 1) := dk_42 (dk_at dksX4_crate_1 10 rfl rfl)
theorem dX4_crate_34 : decode cX4_crate 34 = .ok (.getfield 7, 3) := dk_180 0 7 (dk_at dksX4_crate_1 11 rfl rfl)
theorem dX4_crate_37 : decode cX4_crate 37 = .ok (.iload_n 1, 1) := dk_27 (dk_at dksX4_crate_1 14 rfl rfl)
theorem dX4_crate_38 : decode cX4_crate 38 = .ok (.invokestatic 67, 3) := dk_184 0 67 (dk_at dksX4_crate_1 15 rfl rfl)
theorem dX4_crate_41 : decode cX4_crate 41 = .ok (.iload_n 2, 1) := dk_28 (dk_at dksX4_crate_1 18 rfl rfl)
theorem dX4_crate_42 : decode cX4_crate 42 = .ok (.iconst 5, 1) := dk_8 (dk_at dksX4_crate_1 19 rfl rfl)
theorem dX4_crate_43 : decode cX4_crate 43 = .ok (.if_icmp .ne 7, 3) := dk_160 0 7 (dk_at dksX4_crate_1 20 rfl rfl)
theorem dX4_crate_46 : decode cX4_crate 46 = .ok (.iconst 4, 1) := dk_7 (dk_at dksX4_crate_1 23 rfl rfl)
theorem dX4_crate_47 : decode cX4_crate 47 = .ok (.goto 4, 3) := dk_167 0 4 (dk_at dksX4_crate_2 0 rfl rfl)
theorem dX4_crate_50 : decode cX4_crate 50 = .ok (.iload_n 2, 1) := dk_28 (dk_at dksX4_crate_2 3 rfl rfl)
theorem dX4_crate_51 : decode cX4_crate 51 = .ok (.iadd, 1) := dk_96 (dk_at dksX4_crate_2 4 rfl rfl)
theorem dX4_crate_52 : decode cX4_crate 52 = .ok (.iaload, 1) := dk_46 (dk_at dksX4_crate_2 5 rfl rfl)
theorem dX4_crate_53 : decode cX4_crate 53 = .ok (.ireturn, 1) := dk_172 (dk_at dksX4_crate_2 6 rfl rfl)
abbrev cX4_book : ByteArray := prog_14_method_36_code
def yX4_book : MethodName := ⟨RX4, "book", "(II)I"⟩
def dkwX4_book_1 : List UInt8 := [46, 162, 0, 20, 42, 180, 0, 7, 17, 0, 246, 8, 27, 104, 96, 28, 96, 46, 167, 0, 5, 18, 112, 172]
abbrev dktX4_book_1 : List UInt8 := dkwX4_book_1 ++ []
def dkwX4_book_0 : List UInt8 := [27, 155, 0, 12, 28, 3, 7, 184, 0, 40, 154, 0, 6, 18, 100, 172, 27, 42, 180, 0, 7, 17, 1, 49]
abbrev dktX4_book_0 : List UInt8 := dkwX4_book_0 ++ dktX4_book_1
theorem dksX4_book_0 : cX4_book.data.toList.drop 0 = dktX4_book_0 := by decide +kernel
theorem dksX4_book_1 : cX4_book.data.toList.drop 24 = dktX4_book_1 := dk_seg dksX4_book_0 24 rfl rfl
theorem dX4_book_0 : decode cX4_book 0 = .ok (.iload_n 1, 1) := dk_27 (dk_at dksX4_book_0 0 rfl rfl)
theorem dX4_book_1 : decode cX4_book 1 = .ok (.ifCond .lt 12, 3) := dk_155 0 12 (dk_at dksX4_book_0 1 rfl rfl)
theorem dX4_book_4 : decode cX4_book 4 = .ok (.iload_n 2, 1) := dk_28 (dk_at dksX4_book_0 4 rfl rfl)
theorem dX4_book_5 : decode cX4_book 5 = .ok (.iconst 0, 1) := dk_3 (dk_at dksX4_book_0 5 rfl rfl)
theorem dX4_book_6 : decode cX4_book 6 = .ok (.iconst 4, 1) := dk_7 (dk_at dksX4_book_0 6 rfl rfl)
theorem dX4_book_7 : decode cX4_book 7 = .ok (.invokestatic 40, 3) := dk_184 0 40 (dk_at dksX4_book_0 7 rfl rfl)
theorem dX4_book_10 : decode cX4_book 10 = .ok (.ifCond .ne 6, 3) := dk_154 0 6 (dk_at dksX4_book_0 10 rfl rfl)
theorem dX4_book_13 : decode cX4_book 13 = .ok (.ldc 100, 2) := dk_18 100 (dk_at dksX4_book_0 13 rfl rfl)
theorem dX4_book_15 : decode cX4_book 15 = .ok (.ireturn, 1) := dk_172 (dk_at dksX4_book_0 15 rfl rfl)
theorem dX4_book_16 : decode cX4_book 16 = .ok (.iload_n 1, 1) := dk_27 (dk_at dksX4_book_0 16 rfl rfl)
theorem dX4_book_17 : decode cX4_book 17 = .ok (.aload_n 0, 1) := dk_42 (dk_at dksX4_book_0 17 rfl rfl)
theorem dX4_book_18 : decode cX4_book 18 = .ok (.getfield 7, 3) := dk_180 0 7 (dk_at dksX4_book_0 18 rfl rfl)
theorem dX4_book_21 : decode cX4_book 21 = .ok (.sipush 305, 3) := dk_17 1 49 (dk_at dksX4_book_0 21 rfl rfl)
theorem dX4_book_24 : decode cX4_book 24 = .ok (.iaload, 1) := dk_46 (dk_at dksX4_book_1 0 rfl rfl)
theorem dX4_book_25 : decode cX4_book 25 = .ok (.if_icmp .ge 20, 3) := dk_162 0 20 (dk_at dksX4_book_1 1 rfl rfl)
theorem dX4_book_28 : decode cX4_book 28 = .ok (.aload_n 0, 1) := dk_42 (dk_at dksX4_book_1 4 rfl rfl)
theorem dX4_book_29 : decode cX4_book 29 = .ok (.getfield 7, 3) := dk_180 0 7 (dk_at dksX4_book_1 5 rfl rfl)
theorem dX4_book_32 : decode cX4_book 32 = .ok (.sipush 246, 3) := dk_17 0 246 (dk_at dksX4_book_1 8 rfl rfl)
theorem dX4_book_35 : decode cX4_book 35 = .ok (.iconst 5, 1) := dk_8 (dk_at dksX4_book_1 11 rfl rfl)
theorem dX4_book_36 : decode cX4_book 36 = .ok (.iload_n 1, 1) := dk_27 (dk_at dksX4_book_1 12 rfl rfl)
theorem dX4_book_37 : decode cX4_book 37 = .ok (.imul, 1) := dk_104 (dk_at dksX4_book_1 13 rfl rfl)
theorem dX4_book_38 : decode cX4_book 38 = .ok (.iadd, 1) := dk_96 (dk_at dksX4_book_1 14 rfl rfl)
theorem dX4_book_39 : decode cX4_book 39 = .ok (.iload_n 2, 1) := dk_28 (dk_at dksX4_book_1 15 rfl rfl)
theorem dX4_book_40 : decode cX4_book 40 = .ok (.iadd, 1) := dk_96 (dk_at dksX4_book_1 16 rfl rfl)
theorem dX4_book_41 : decode cX4_book 41 = .ok (.iaload, 1) := dk_46 (dk_at dksX4_book_1 17 rfl rfl)
theorem dX4_book_42 : decode cX4_book 42 = .ok (.goto 5, 3) := dk_167 0 5 (dk_at dksX4_book_1 18 rfl rfl)
theorem dX4_book_45 : decode cX4_book 45 = .ok (.ldc 112, 2) := dk_18 112 (dk_at dksX4_book_1 21 rfl rfl)
theorem dX4_book_47 : decode cX4_book 47 = .ok (.ireturn, 1) := dk_172 (dk_at dksX4_book_1 23 rfl rfl)
abbrev cX4_why : ByteArray := prog_14_method_37_code
def yX4_why : MethodName := ⟨RX4, "why", "(I)I"⟩
def dkwX4_why_1 : List UInt8 := [167, 0, 5, 18, 100, 172]
abbrev dktX4_why_1 : List UInt8 := dkwX4_why_1 ++ []
def dkwX4_why_0 : List UInt8 := [27, 184, 0, 97, 153, 0, 22, 42, 27, 42, 180, 0, 7, 27, 184, 0, 28, 4, 96, 46, 182, 0, 73]
abbrev dktX4_why_0 : List UInt8 := dkwX4_why_0 ++ dktX4_why_1
theorem dksX4_why_0 : cX4_why.data.toList.drop 0 = dktX4_why_0 := by decide +kernel
theorem dksX4_why_1 : cX4_why.data.toList.drop 23 = dktX4_why_1 := dk_seg dksX4_why_0 23 rfl rfl
theorem dX4_why_0 : decode cX4_why 0 = .ok (.iload_n 1, 1) := dk_27 (dk_at dksX4_why_0 0 rfl rfl)
theorem dX4_why_1 : decode cX4_why 1 = .ok (.invokestatic 97, 3) := dk_184 0 97 (dk_at dksX4_why_0 1 rfl rfl)
theorem dX4_why_4 : decode cX4_why 4 = .ok (.ifCond .eq 22, 3) := dk_153 0 22 (dk_at dksX4_why_0 4 rfl rfl)
theorem dX4_why_7 : decode cX4_why 7 = .ok (.aload_n 0, 1) := dk_42 (dk_at dksX4_why_0 7 rfl rfl)
theorem dX4_why_8 : decode cX4_why 8 = .ok (.iload_n 1, 1) := dk_27 (dk_at dksX4_why_0 8 rfl rfl)
theorem dX4_why_9 : decode cX4_why 9 = .ok (.aload_n 0, 1) := dk_42 (dk_at dksX4_why_0 9 rfl rfl)
theorem dX4_why_10 : decode cX4_why 10 = .ok (.getfield 7, 3) := dk_180 0 7 (dk_at dksX4_why_0 10 rfl rfl)
theorem dX4_why_13 : decode cX4_why 13 = .ok (.iload_n 1, 1) := dk_27 (dk_at dksX4_why_0 13 rfl rfl)
theorem dX4_why_14 : decode cX4_why 14 = .ok (.invokestatic 28, 3) := dk_184 0 28 (dk_at dksX4_why_0 14 rfl rfl)
theorem dX4_why_17 : decode cX4_why 17 = .ok (.iconst 1, 1) := dk_4 (dk_at dksX4_why_0 17 rfl rfl)
theorem dX4_why_18 : decode cX4_why 18 = .ok (.iadd, 1) := dk_96 (dk_at dksX4_why_0 18 rfl rfl)
theorem dX4_why_19 : decode cX4_why 19 = .ok (.iaload, 1) := dk_46 (dk_at dksX4_why_0 19 rfl rfl)
theorem dX4_why_20 : decode cX4_why 20 = .ok (.invokevirtual 73, 3) := dk_182 0 73 (dk_at dksX4_why_0 20 rfl rfl)
theorem dX4_why_23 : decode cX4_why 23 = .ok (.goto 5, 3) := dk_167 0 5 (dk_at dksX4_why_1 0 rfl rfl)
theorem dX4_why_26 : decode cX4_why 26 = .ok (.ldc 100, 2) := dk_18 100 (dk_at dksX4_why_1 3 rfl rfl)
theorem dX4_why_28 : decode cX4_why 28 = .ok (.ireturn, 1) := dk_172 (dk_at dksX4_why_1 5 rfl rfl)
abbrev cX4_grade : ByteArray := prog_14_method_38_code
def yX4_grade : MethodName := ⟨RX4, "grade", "(I)I"⟩
def dkwX4_grade_1 : List UInt8 := [28, 182, 0, 73, 158, 0, 8, 18, 105, 167, 0, 9, 42, 27, 28, 182, 0, 76, 172]
abbrev dktX4_grade_1 : List UInt8 := dkwX4_grade_1 ++ []
def dkwX4_grade_0 : List UInt8 := [27, 184, 0, 97, 154, 0, 6, 18, 100, 172, 42, 180, 0, 7, 27, 184, 0, 28, 4, 96, 46, 61, 42, 27]
abbrev dktX4_grade_0 : List UInt8 := dkwX4_grade_0 ++ dktX4_grade_1
theorem dksX4_grade_0 : cX4_grade.data.toList.drop 0 = dktX4_grade_0 := by decide +kernel
theorem dksX4_grade_1 : cX4_grade.data.toList.drop 24 = dktX4_grade_1 := dk_seg dksX4_grade_0 24 rfl rfl
theorem dX4_grade_0 : decode cX4_grade 0 = .ok (.iload_n 1, 1) := dk_27 (dk_at dksX4_grade_0 0 rfl rfl)
theorem dX4_grade_1 : decode cX4_grade 1 = .ok (.invokestatic 97, 3) := dk_184 0 97 (dk_at dksX4_grade_0 1 rfl rfl)
theorem dX4_grade_4 : decode cX4_grade 4 = .ok (.ifCond .ne 6, 3) := dk_154 0 6 (dk_at dksX4_grade_0 4 rfl rfl)
theorem dX4_grade_7 : decode cX4_grade 7 = .ok (.ldc 100, 2) := dk_18 100 (dk_at dksX4_grade_0 7 rfl rfl)
theorem dX4_grade_9 : decode cX4_grade 9 = .ok (.ireturn, 1) := dk_172 (dk_at dksX4_grade_0 9 rfl rfl)
theorem dX4_grade_10 : decode cX4_grade 10 = .ok (.aload_n 0, 1) := dk_42 (dk_at dksX4_grade_0 10 rfl rfl)
theorem dX4_grade_11 : decode cX4_grade 11 = .ok (.getfield 7, 3) := dk_180 0 7 (dk_at dksX4_grade_0 11 rfl rfl)
theorem dX4_grade_14 : decode cX4_grade 14 = .ok (.iload_n 1, 1) := dk_27 (dk_at dksX4_grade_0 14 rfl rfl)
theorem dX4_grade_15 : decode cX4_grade 15 = .ok (.invokestatic 28, 3) := dk_184 0 28 (dk_at dksX4_grade_0 15 rfl rfl)
theorem dX4_grade_18 : decode cX4_grade 18 = .ok (.iconst 1, 1) := dk_4 (dk_at dksX4_grade_0 18 rfl rfl)
theorem dX4_grade_19 : decode cX4_grade 19 = .ok (.iadd, 1) := dk_96 (dk_at dksX4_grade_0 19 rfl rfl)
theorem dX4_grade_20 : decode cX4_grade 20 = .ok (.iaload, 1) := dk_46 (dk_at dksX4_grade_0 20 rfl rfl)
theorem dX4_grade_21 : decode cX4_grade 21 = .ok (.istore_n 2, 1) := dk_61 (dk_at dksX4_grade_0 21 rfl rfl)
theorem dX4_grade_22 : decode cX4_grade 22 = .ok (.aload_n 0, 1) := dk_42 (dk_at dksX4_grade_0 22 rfl rfl)
theorem dX4_grade_23 : decode cX4_grade 23 = .ok (.iload_n 1, 1) := dk_27 (dk_at dksX4_grade_0 23 rfl rfl)
theorem dX4_grade_24 : decode cX4_grade 24 = .ok (.iload_n 2, 1) := dk_28 (dk_at dksX4_grade_1 0 rfl rfl)
theorem dX4_grade_25 : decode cX4_grade 25 = .ok (.invokevirtual 73, 3) := dk_182 0 73 (dk_at dksX4_grade_1 1 rfl rfl)
theorem dX4_grade_28 : decode cX4_grade 28 = .ok (.ifCond .le 8, 3) := dk_158 0 8 (dk_at dksX4_grade_1 4 rfl rfl)
theorem dX4_grade_31 : decode cX4_grade 31 = .ok (.ldc 105, 2) := dk_18 105 (dk_at dksX4_grade_1 7 rfl rfl)
theorem dX4_grade_33 : decode cX4_grade 33 = .ok (.goto 9, 3) := dk_167 0 9 (dk_at dksX4_grade_1 9 rfl rfl)
theorem dX4_grade_36 : decode cX4_grade 36 = .ok (.aload_n 0, 1) := dk_42 (dk_at dksX4_grade_1 12 rfl rfl)
theorem dX4_grade_37 : decode cX4_grade 37 = .ok (.iload_n 1, 1) := dk_27 (dk_at dksX4_grade_1 13 rfl rfl)
theorem dX4_grade_38 : decode cX4_grade 38 = .ok (.iload_n 2, 1) := dk_28 (dk_at dksX4_grade_1 14 rfl rfl)
theorem dX4_grade_39 : decode cX4_grade 39 = .ok (.invokevirtual 76, 3) := dk_182 0 76 (dk_at dksX4_grade_1 15 rfl rfl)
theorem dX4_grade_42 : decode cX4_grade 42 = .ok (.ireturn, 1) := dk_172 (dk_at dksX4_grade_1 18 rfl rfl)
abbrev cX4_bestTurn : ByteArray := prog_14_method_39_code
def yX4_bestTurn : MethodName := ⟨RX4, "bestTurn", "(I)I"⟩
def dkwX4_bestTurn_3 : List UInt8 := [21, 5, 29, 164, 0, 8, 21, 5, 167, 0, 4, 29, 62, 132, 4, 1, 167, 255, 196, 28, 172]
abbrev dktX4_bestTurn_3 : List UInt8 := dkwX4_bestTurn_3 ++ []
def dkwX4_bestTurn_2 : List UInt8 := [21, 4, 182, 0, 44, 126, 184, 0, 64, 54, 5, 21, 5, 29, 164, 0, 8, 21, 4, 167, 0, 4, 28, 61]
abbrev dktX4_bestTurn_2 : List UInt8 := dkwX4_bestTurn_2 ++ dktX4_bestTurn_3
def dkwX4_bestTurn_1 : List UInt8 := [62, 4, 54, 4, 21, 4, 16, 8, 162, 0, 59, 42, 180, 0, 7, 27, 3, 184, 0, 47, 5, 96, 46, 42]
abbrev dktX4_bestTurn_1 : List UInt8 := dkwX4_bestTurn_1 ++ dktX4_bestTurn_2
def dkwX4_bestTurn_0 : List UInt8 := [27, 184, 0, 97, 154, 0, 6, 18, 100, 172, 42, 27, 182, 0, 54, 154, 0, 6, 18, 112, 172, 4, 61, 2]
abbrev dktX4_bestTurn_0 : List UInt8 := dkwX4_bestTurn_0 ++ dktX4_bestTurn_1
theorem dksX4_bestTurn_0 : cX4_bestTurn.data.toList.drop 0 = dktX4_bestTurn_0 := by decide +kernel
theorem dksX4_bestTurn_1 : cX4_bestTurn.data.toList.drop 24 = dktX4_bestTurn_1 := dk_seg dksX4_bestTurn_0 24 rfl rfl
theorem dksX4_bestTurn_2 : cX4_bestTurn.data.toList.drop 48 = dktX4_bestTurn_2 := dk_seg dksX4_bestTurn_1 24 rfl rfl
theorem dksX4_bestTurn_3 : cX4_bestTurn.data.toList.drop 72 = dktX4_bestTurn_3 := dk_seg dksX4_bestTurn_2 24 rfl rfl
theorem dX4_bestTurn_0 : decode cX4_bestTurn 0 = .ok (.iload_n 1, 1) := dk_27 (dk_at dksX4_bestTurn_0 0 rfl rfl)
theorem dX4_bestTurn_1 : decode cX4_bestTurn 1 = .ok (.invokestatic 97, 3) := dk_184 0 97 (dk_at dksX4_bestTurn_0 1 rfl rfl)
theorem dX4_bestTurn_4 : decode cX4_bestTurn 4 = .ok (.ifCond .ne 6, 3) := dk_154 0 6 (dk_at dksX4_bestTurn_0 4 rfl rfl)
theorem dX4_bestTurn_7 : decode cX4_bestTurn 7 = .ok (.ldc 100, 2) := dk_18 100 (dk_at dksX4_bestTurn_0 7 rfl rfl)
theorem dX4_bestTurn_9 : decode cX4_bestTurn 9 = .ok (.ireturn, 1) := dk_172 (dk_at dksX4_bestTurn_0 9 rfl rfl)
theorem dX4_bestTurn_10 : decode cX4_bestTurn 10 = .ok (.aload_n 0, 1) := dk_42 (dk_at dksX4_bestTurn_0 10 rfl rfl)
theorem dX4_bestTurn_11 : decode cX4_bestTurn 11 = .ok (.iload_n 1, 1) := dk_27 (dk_at dksX4_bestTurn_0 11 rfl rfl)
theorem dX4_bestTurn_12 : decode cX4_bestTurn 12 = .ok (.invokevirtual 54, 3) := dk_182 0 54 (dk_at dksX4_bestTurn_0 12 rfl rfl)
theorem dX4_bestTurn_15 : decode cX4_bestTurn 15 = .ok (.ifCond .ne 6, 3) := dk_154 0 6 (dk_at dksX4_bestTurn_0 15 rfl rfl)
theorem dX4_bestTurn_18 : decode cX4_bestTurn 18 = .ok (.ldc 112, 2) := dk_18 112 (dk_at dksX4_bestTurn_0 18 rfl rfl)
theorem dX4_bestTurn_20 : decode cX4_bestTurn 20 = .ok (.ireturn, 1) := dk_172 (dk_at dksX4_bestTurn_0 20 rfl rfl)
theorem dX4_bestTurn_21 : decode cX4_bestTurn 21 = .ok (.iconst 1, 1) := dk_4 (dk_at dksX4_bestTurn_0 21 rfl rfl)
theorem dX4_bestTurn_22 : decode cX4_bestTurn 22 = .ok (.istore_n 2, 1) := dk_61 (dk_at dksX4_bestTurn_0 22 rfl rfl)
theorem dX4_bestTurn_23 : decode cX4_bestTurn 23 = .ok (.iconst (-1), 1) := dk_2 (dk_at dksX4_bestTurn_0 23 rfl rfl)
theorem dX4_bestTurn_24 : decode cX4_bestTurn 24 = .ok (.istore_n 3, 1) := dk_62 (dk_at dksX4_bestTurn_1 0 rfl rfl)
theorem dX4_bestTurn_25 : decode cX4_bestTurn 25 = .ok (.iconst 1, 1) := dk_4 (dk_at dksX4_bestTurn_1 1 rfl rfl)
theorem dX4_bestTurn_26 : decode cX4_bestTurn 26 = .ok (.istore 4, 2) := dk_54 4 (dk_at dksX4_bestTurn_1 2 rfl rfl)
theorem dX4_bestTurn_28 : decode cX4_bestTurn 28 = .ok (.iload 4, 2) := dk_21 4 (dk_at dksX4_bestTurn_1 4 rfl rfl)
theorem dX4_bestTurn_30 : decode cX4_bestTurn 30 = .ok (.bipush 8, 2) := dk_16 8 (dk_at dksX4_bestTurn_1 6 rfl rfl)
theorem dX4_bestTurn_32 : decode cX4_bestTurn 32 = .ok (.if_icmp .ge 59, 3) := dk_162 0 59 (dk_at dksX4_bestTurn_1 8 rfl rfl)
theorem dX4_bestTurn_35 : decode cX4_bestTurn 35 = .ok (.aload_n 0, 1) := dk_42 (dk_at dksX4_bestTurn_1 11 rfl rfl)
theorem dX4_bestTurn_36 : decode cX4_bestTurn 36 = .ok (.getfield 7, 3) := dk_180 0 7 (dk_at dksX4_bestTurn_1 12 rfl rfl)
theorem dX4_bestTurn_39 : decode cX4_bestTurn 39 = .ok (.iload_n 1, 1) := dk_27 (dk_at dksX4_bestTurn_1 15 rfl rfl)
theorem dX4_bestTurn_40 : decode cX4_bestTurn 40 = .ok (.iconst 0, 1) := dk_3 (dk_at dksX4_bestTurn_1 16 rfl rfl)
theorem dX4_bestTurn_41 : decode cX4_bestTurn 41 = .ok (.invokestatic 47, 3) := dk_184 0 47 (dk_at dksX4_bestTurn_1 17 rfl rfl)
theorem dX4_bestTurn_44 : decode cX4_bestTurn 44 = .ok (.iconst 2, 1) := dk_5 (dk_at dksX4_bestTurn_1 20 rfl rfl)
theorem dX4_bestTurn_45 : decode cX4_bestTurn 45 = .ok (.iadd, 1) := dk_96 (dk_at dksX4_bestTurn_1 21 rfl rfl)
theorem dX4_bestTurn_46 : decode cX4_bestTurn 46 = .ok (.iaload, 1) := dk_46 (dk_at dksX4_bestTurn_1 22 rfl rfl)
theorem dX4_bestTurn_47 : decode cX4_bestTurn 47 = .ok (.aload_n 0, 1) := dk_42 (dk_at dksX4_bestTurn_1 23 rfl rfl)
theorem dX4_bestTurn_48 : decode cX4_bestTurn 48 = .ok (.iload 4, 2) := dk_21 4 (dk_at dksX4_bestTurn_2 0 rfl rfl)
theorem dX4_bestTurn_50 : decode cX4_bestTurn 50 = .ok (.invokevirtual 44, 3) := dk_182 0 44 (dk_at dksX4_bestTurn_2 2 rfl rfl)
theorem dX4_bestTurn_53 : decode cX4_bestTurn 53 = .ok (.iand, 1) := dk_126 (dk_at dksX4_bestTurn_2 5 rfl rfl)
theorem dX4_bestTurn_54 : decode cX4_bestTurn 54 = .ok (.invokestatic 64, 3) := dk_184 0 64 (dk_at dksX4_bestTurn_2 6 rfl rfl)
theorem dX4_bestTurn_57 : decode cX4_bestTurn 57 = .ok (.istore 5, 2) := dk_54 5 (dk_at dksX4_bestTurn_2 9 rfl rfl)
theorem dX4_bestTurn_59 : decode cX4_bestTurn 59 = .ok (.iload 5, 2) := dk_21 5 (dk_at dksX4_bestTurn_2 11 rfl rfl)
theorem dX4_bestTurn_61 : decode cX4_bestTurn 61 = .ok (.iload_n 3, 1) := dk_29 (dk_at dksX4_bestTurn_2 13 rfl rfl)
theorem dX4_bestTurn_62 : decode cX4_bestTurn 62 = .ok (.if_icmp .le 8, 3) := dk_164 0 8 (dk_at dksX4_bestTurn_2 14 rfl rfl)
theorem dX4_bestTurn_65 : decode cX4_bestTurn 65 = .ok (.iload 4, 2) := dk_21 4 (dk_at dksX4_bestTurn_2 17 rfl rfl)
theorem dX4_bestTurn_67 : decode cX4_bestTurn 67 = .ok (.goto 4, 3) := dk_167 0 4 (dk_at dksX4_bestTurn_2 19 rfl rfl)
theorem dX4_bestTurn_70 : decode cX4_bestTurn 70 = .ok (.iload_n 2, 1) := dk_28 (dk_at dksX4_bestTurn_2 22 rfl rfl)
theorem dX4_bestTurn_71 : decode cX4_bestTurn 71 = .ok (.istore_n 2, 1) := dk_61 (dk_at dksX4_bestTurn_2 23 rfl rfl)
theorem dX4_bestTurn_72 : decode cX4_bestTurn 72 = .ok (.iload 5, 2) := dk_21 5 (dk_at dksX4_bestTurn_3 0 rfl rfl)
theorem dX4_bestTurn_74 : decode cX4_bestTurn 74 = .ok (.iload_n 3, 1) := dk_29 (dk_at dksX4_bestTurn_3 2 rfl rfl)
theorem dX4_bestTurn_75 : decode cX4_bestTurn 75 = .ok (.if_icmp .le 8, 3) := dk_164 0 8 (dk_at dksX4_bestTurn_3 3 rfl rfl)
theorem dX4_bestTurn_78 : decode cX4_bestTurn 78 = .ok (.iload 5, 2) := dk_21 5 (dk_at dksX4_bestTurn_3 6 rfl rfl)
theorem dX4_bestTurn_80 : decode cX4_bestTurn 80 = .ok (.goto 4, 3) := dk_167 0 4 (dk_at dksX4_bestTurn_3 8 rfl rfl)
theorem dX4_bestTurn_83 : decode cX4_bestTurn 83 = .ok (.iload_n 3, 1) := dk_29 (dk_at dksX4_bestTurn_3 11 rfl rfl)
theorem dX4_bestTurn_84 : decode cX4_bestTurn 84 = .ok (.istore_n 3, 1) := dk_62 (dk_at dksX4_bestTurn_3 12 rfl rfl)
theorem dX4_bestTurn_85 : decode cX4_bestTurn 85 = .ok (.iinc 4 1, 3) := dk_132 4 1 (dk_at dksX4_bestTurn_3 13 rfl rfl)
theorem dX4_bestTurn_88 : decode cX4_bestTurn 88 = .ok (.goto (-60), 3) := dk_167 255 196 (dk_at dksX4_bestTurn_3 16 rfl rfl)
theorem dX4_bestTurn_91 : decode cX4_bestTurn 91 = .ok (.iload_n 2, 1) := dk_28 (dk_at dksX4_bestTurn_3 19 rfl rfl)
theorem dX4_bestTurn_92 : decode cX4_bestTurn 92 = .ok (.ireturn, 1) := dk_172 (dk_at dksX4_bestTurn_3 20 rfl rfl)
abbrev cX4_leastLight : ByteArray := prog_14_method_40_code
def yX4_leastLight : MethodName := ⟨RX4, "leastLight", "(I)I"⟩
def dkwX4_leastLight_2 : List UInt8 := [167, 0, 4, 28, 61, 132, 3, 1, 167, 255, 217, 28, 172]
abbrev dktX4_leastLight_2 : List UInt8 := dkwX4_leastLight_2 ++ []
def dkwX4_leastLight_1 : List UInt8 := [42, 180, 0, 7, 27, 29, 184, 0, 47, 4, 96, 46, 54, 4, 21, 4, 28, 164, 0, 8, 21, 4]
abbrev dktX4_leastLight_1 : List UInt8 := dkwX4_leastLight_1 ++ dktX4_leastLight_2
def dkwX4_leastLight_0 : List UInt8 := [27, 184, 0, 97, 154, 0, 6, 18, 100, 172, 18, 112, 61, 3, 62, 29, 42, 27, 182, 0, 54, 162, 0, 36]
abbrev dktX4_leastLight_0 : List UInt8 := dkwX4_leastLight_0 ++ dktX4_leastLight_1
theorem dksX4_leastLight_0 : cX4_leastLight.data.toList.drop 0 = dktX4_leastLight_0 := by decide +kernel
theorem dksX4_leastLight_1 : cX4_leastLight.data.toList.drop 24 = dktX4_leastLight_1 := dk_seg dksX4_leastLight_0 24 rfl rfl
theorem dksX4_leastLight_2 : cX4_leastLight.data.toList.drop 46 = dktX4_leastLight_2 := dk_seg dksX4_leastLight_1 22 rfl rfl
theorem dX4_leastLight_0 : decode cX4_leastLight 0 = .ok (.iload_n 1, 1) := dk_27 (dk_at dksX4_leastLight_0 0 rfl rfl)
theorem dX4_leastLight_1 : decode cX4_leastLight 1 = .ok (.invokestatic 97, 3) := dk_184 0 97 (dk_at dksX4_leastLight_0 1 rfl rfl)
theorem dX4_leastLight_4 : decode cX4_leastLight 4 = .ok (.ifCond .ne 6, 3) := dk_154 0 6 (dk_at dksX4_leastLight_0 4 rfl rfl)
theorem dX4_leastLight_7 : decode cX4_leastLight 7 = .ok (.ldc 100, 2) := dk_18 100 (dk_at dksX4_leastLight_0 7 rfl rfl)
theorem dX4_leastLight_9 : decode cX4_leastLight 9 = .ok (.ireturn, 1) := dk_172 (dk_at dksX4_leastLight_0 9 rfl rfl)
theorem dX4_leastLight_10 : decode cX4_leastLight 10 = .ok (.ldc 112, 2) := dk_18 112 (dk_at dksX4_leastLight_0 10 rfl rfl)
theorem dX4_leastLight_12 : decode cX4_leastLight 12 = .ok (.istore_n 2, 1) := dk_61 (dk_at dksX4_leastLight_0 12 rfl rfl)
theorem dX4_leastLight_13 : decode cX4_leastLight 13 = .ok (.iconst 0, 1) := dk_3 (dk_at dksX4_leastLight_0 13 rfl rfl)
theorem dX4_leastLight_14 : decode cX4_leastLight 14 = .ok (.istore_n 3, 1) := dk_62 (dk_at dksX4_leastLight_0 14 rfl rfl)
theorem dX4_leastLight_15 : decode cX4_leastLight 15 = .ok (.iload_n 3, 1) := dk_29 (dk_at dksX4_leastLight_0 15 rfl rfl)
theorem dX4_leastLight_16 : decode cX4_leastLight 16 = .ok (.aload_n 0, 1) := dk_42 (dk_at dksX4_leastLight_0 16 rfl rfl)
theorem dX4_leastLight_17 : decode cX4_leastLight 17 = .ok (.iload_n 1, 1) := dk_27 (dk_at dksX4_leastLight_0 17 rfl rfl)
theorem dX4_leastLight_18 : decode cX4_leastLight 18 = .ok (.invokevirtual 54, 3) := dk_182 0 54 (dk_at dksX4_leastLight_0 18 rfl rfl)
theorem dX4_leastLight_21 : decode cX4_leastLight 21 = .ok (.if_icmp .ge 36, 3) := dk_162 0 36 (dk_at dksX4_leastLight_0 21 rfl rfl)
theorem dX4_leastLight_24 : decode cX4_leastLight 24 = .ok (.aload_n 0, 1) := dk_42 (dk_at dksX4_leastLight_1 0 rfl rfl)
theorem dX4_leastLight_25 : decode cX4_leastLight 25 = .ok (.getfield 7, 3) := dk_180 0 7 (dk_at dksX4_leastLight_1 1 rfl rfl)
theorem dX4_leastLight_28 : decode cX4_leastLight 28 = .ok (.iload_n 1, 1) := dk_27 (dk_at dksX4_leastLight_1 4 rfl rfl)
theorem dX4_leastLight_29 : decode cX4_leastLight 29 = .ok (.iload_n 3, 1) := dk_29 (dk_at dksX4_leastLight_1 5 rfl rfl)
theorem dX4_leastLight_30 : decode cX4_leastLight 30 = .ok (.invokestatic 47, 3) := dk_184 0 47 (dk_at dksX4_leastLight_1 6 rfl rfl)
theorem dX4_leastLight_33 : decode cX4_leastLight 33 = .ok (.iconst 1, 1) := dk_4 (dk_at dksX4_leastLight_1 9 rfl rfl)
theorem dX4_leastLight_34 : decode cX4_leastLight 34 = .ok (.iadd, 1) := dk_96 (dk_at dksX4_leastLight_1 10 rfl rfl)
theorem dX4_leastLight_35 : decode cX4_leastLight 35 = .ok (.iaload, 1) := dk_46 (dk_at dksX4_leastLight_1 11 rfl rfl)
theorem dX4_leastLight_36 : decode cX4_leastLight 36 = .ok (.istore 4, 2) := dk_54 4 (dk_at dksX4_leastLight_1 12 rfl rfl)
theorem dX4_leastLight_38 : decode cX4_leastLight 38 = .ok (.iload 4, 2) := dk_21 4 (dk_at dksX4_leastLight_1 14 rfl rfl)
theorem dX4_leastLight_40 : decode cX4_leastLight 40 = .ok (.iload_n 2, 1) := dk_28 (dk_at dksX4_leastLight_1 16 rfl rfl)
theorem dX4_leastLight_41 : decode cX4_leastLight 41 = .ok (.if_icmp .le 8, 3) := dk_164 0 8 (dk_at dksX4_leastLight_1 17 rfl rfl)
theorem dX4_leastLight_44 : decode cX4_leastLight 44 = .ok (.iload 4, 2) := dk_21 4 (dk_at dksX4_leastLight_1 20 rfl rfl)
theorem dX4_leastLight_46 : decode cX4_leastLight 46 = .ok (.goto 4, 3) := dk_167 0 4 (dk_at dksX4_leastLight_2 0 rfl rfl)
theorem dX4_leastLight_49 : decode cX4_leastLight 49 = .ok (.iload_n 2, 1) := dk_28 (dk_at dksX4_leastLight_2 3 rfl rfl)
theorem dX4_leastLight_50 : decode cX4_leastLight 50 = .ok (.istore_n 2, 1) := dk_61 (dk_at dksX4_leastLight_2 4 rfl rfl)
theorem dX4_leastLight_51 : decode cX4_leastLight 51 = .ok (.iinc 3 1, 3) := dk_132 3 1 (dk_at dksX4_leastLight_2 5 rfl rfl)
theorem dX4_leastLight_54 : decode cX4_leastLight 54 = .ok (.goto (-39), 3) := dk_167 255 217 (dk_at dksX4_leastLight_2 8 rfl rfl)
theorem dX4_leastLight_57 : decode cX4_leastLight 57 = .ok (.iload_n 2, 1) := dk_28 (dk_at dksX4_leastLight_2 11 rfl rfl)
theorem dX4_leastLight_58 : decode cX4_leastLight 58 = .ok (.ireturn, 1) := dk_172 (dk_at dksX4_leastLight_2 12 rfl rfl)
abbrev cX4_bestLight : ByteArray := prog_14_method_41_code
def yX4_bestLight : MethodName := ⟨RX4, "bestLight", "(I)I"⟩
def dkwX4_bestLight_3 : List UInt8 := [21, 5, 167, 0, 4, 29, 62, 132, 4, 1, 167, 255, 194, 28, 172]
abbrev dktX4_bestLight_3 : List UInt8 := dkwX4_bestLight_3 ++ []
def dkwX4_bestLight_2 : List UInt8 := [184, 0, 70, 54, 5, 21, 5, 29, 164, 0, 8, 21, 4, 167, 0, 4, 28, 61, 21, 5, 29, 164, 0, 8]
abbrev dktX4_bestLight_2 : List UInt8 := dkwX4_bestLight_2 ++ dktX4_bestLight_3
def dkwX4_bestLight_1 : List UInt8 := [162, 0, 61, 42, 27, 21, 4, 182, 0, 73, 158, 0, 7, 3, 167, 0, 13, 42, 27, 21, 4, 182, 0, 76]
abbrev dktX4_bestLight_1 : List UInt8 := dkwX4_bestLight_1 ++ dktX4_bestLight_2
def dkwX4_bestLight_0 : List UInt8 := [27, 184, 0, 97, 154, 0, 6, 18, 100, 172, 18, 112, 61, 3, 62, 3, 54, 4, 21, 4, 16, 100]
abbrev dktX4_bestLight_0 : List UInt8 := dkwX4_bestLight_0 ++ dktX4_bestLight_1
theorem dksX4_bestLight_0 : cX4_bestLight.data.toList.drop 0 = dktX4_bestLight_0 := by decide +kernel
theorem dksX4_bestLight_1 : cX4_bestLight.data.toList.drop 22 = dktX4_bestLight_1 := dk_seg dksX4_bestLight_0 22 rfl rfl
theorem dksX4_bestLight_2 : cX4_bestLight.data.toList.drop 46 = dktX4_bestLight_2 := dk_seg dksX4_bestLight_1 24 rfl rfl
theorem dksX4_bestLight_3 : cX4_bestLight.data.toList.drop 70 = dktX4_bestLight_3 := dk_seg dksX4_bestLight_2 24 rfl rfl
theorem dX4_bestLight_0 : decode cX4_bestLight 0 = .ok (.iload_n 1, 1) := dk_27 (dk_at dksX4_bestLight_0 0 rfl rfl)
theorem dX4_bestLight_1 : decode cX4_bestLight 1 = .ok (.invokestatic 97, 3) := dk_184 0 97 (dk_at dksX4_bestLight_0 1 rfl rfl)
theorem dX4_bestLight_4 : decode cX4_bestLight 4 = .ok (.ifCond .ne 6, 3) := dk_154 0 6 (dk_at dksX4_bestLight_0 4 rfl rfl)
theorem dX4_bestLight_7 : decode cX4_bestLight 7 = .ok (.ldc 100, 2) := dk_18 100 (dk_at dksX4_bestLight_0 7 rfl rfl)
theorem dX4_bestLight_9 : decode cX4_bestLight 9 = .ok (.ireturn, 1) := dk_172 (dk_at dksX4_bestLight_0 9 rfl rfl)
theorem dX4_bestLight_10 : decode cX4_bestLight 10 = .ok (.ldc 112, 2) := dk_18 112 (dk_at dksX4_bestLight_0 10 rfl rfl)
theorem dX4_bestLight_12 : decode cX4_bestLight 12 = .ok (.istore_n 2, 1) := dk_61 (dk_at dksX4_bestLight_0 12 rfl rfl)
theorem dX4_bestLight_13 : decode cX4_bestLight 13 = .ok (.iconst 0, 1) := dk_3 (dk_at dksX4_bestLight_0 13 rfl rfl)
theorem dX4_bestLight_14 : decode cX4_bestLight 14 = .ok (.istore_n 3, 1) := dk_62 (dk_at dksX4_bestLight_0 14 rfl rfl)
theorem dX4_bestLight_15 : decode cX4_bestLight 15 = .ok (.iconst 0, 1) := dk_3 (dk_at dksX4_bestLight_0 15 rfl rfl)
theorem dX4_bestLight_16 : decode cX4_bestLight 16 = .ok (.istore 4, 2) := dk_54 4 (dk_at dksX4_bestLight_0 16 rfl rfl)
theorem dX4_bestLight_18 : decode cX4_bestLight 18 = .ok (.iload 4, 2) := dk_21 4 (dk_at dksX4_bestLight_0 18 rfl rfl)
theorem dX4_bestLight_20 : decode cX4_bestLight 20 = .ok (.bipush 100, 2) := dk_16 100 (dk_at dksX4_bestLight_0 20 rfl rfl)
theorem dX4_bestLight_22 : decode cX4_bestLight 22 = .ok (.if_icmp .ge 61, 3) := dk_162 0 61 (dk_at dksX4_bestLight_1 0 rfl rfl)
theorem dX4_bestLight_25 : decode cX4_bestLight 25 = .ok (.aload_n 0, 1) := dk_42 (dk_at dksX4_bestLight_1 3 rfl rfl)
theorem dX4_bestLight_26 : decode cX4_bestLight 26 = .ok (.iload_n 1, 1) := dk_27 (dk_at dksX4_bestLight_1 4 rfl rfl)
theorem dX4_bestLight_27 : decode cX4_bestLight 27 = .ok (.iload 4, 2) := dk_21 4 (dk_at dksX4_bestLight_1 5 rfl rfl)
theorem dX4_bestLight_29 : decode cX4_bestLight 29 = .ok (.invokevirtual 73, 3) := dk_182 0 73 (dk_at dksX4_bestLight_1 7 rfl rfl)
theorem dX4_bestLight_32 : decode cX4_bestLight 32 = .ok (.ifCond .le 7, 3) := dk_158 0 7 (dk_at dksX4_bestLight_1 10 rfl rfl)
theorem dX4_bestLight_35 : decode cX4_bestLight 35 = .ok (.iconst 0, 1) := dk_3 (dk_at dksX4_bestLight_1 13 rfl rfl)
theorem dX4_bestLight_36 : decode cX4_bestLight 36 = .ok (.goto 13, 3) := dk_167 0 13 (dk_at dksX4_bestLight_1 14 rfl rfl)
theorem dX4_bestLight_39 : decode cX4_bestLight 39 = .ok (.aload_n 0, 1) := dk_42 (dk_at dksX4_bestLight_1 17 rfl rfl)
theorem dX4_bestLight_40 : decode cX4_bestLight 40 = .ok (.iload_n 1, 1) := dk_27 (dk_at dksX4_bestLight_1 18 rfl rfl)
theorem dX4_bestLight_41 : decode cX4_bestLight 41 = .ok (.iload 4, 2) := dk_21 4 (dk_at dksX4_bestLight_1 19 rfl rfl)
theorem dX4_bestLight_43 : decode cX4_bestLight 43 = .ok (.invokevirtual 76, 3) := dk_182 0 76 (dk_at dksX4_bestLight_1 21 rfl rfl)
theorem dX4_bestLight_46 : decode cX4_bestLight 46 = .ok (.invokestatic 70, 3) := dk_184 0 70 (dk_at dksX4_bestLight_2 0 rfl rfl)
theorem dX4_bestLight_49 : decode cX4_bestLight 49 = .ok (.istore 5, 2) := dk_54 5 (dk_at dksX4_bestLight_2 3 rfl rfl)
theorem dX4_bestLight_51 : decode cX4_bestLight 51 = .ok (.iload 5, 2) := dk_21 5 (dk_at dksX4_bestLight_2 5 rfl rfl)
theorem dX4_bestLight_53 : decode cX4_bestLight 53 = .ok (.iload_n 3, 1) := dk_29 (dk_at dksX4_bestLight_2 7 rfl rfl)
theorem dX4_bestLight_54 : decode cX4_bestLight 54 = .ok (.if_icmp .le 8, 3) := dk_164 0 8 (dk_at dksX4_bestLight_2 8 rfl rfl)
theorem dX4_bestLight_57 : decode cX4_bestLight 57 = .ok (.iload 4, 2) := dk_21 4 (dk_at dksX4_bestLight_2 11 rfl rfl)
theorem dX4_bestLight_59 : decode cX4_bestLight 59 = .ok (.goto 4, 3) := dk_167 0 4 (dk_at dksX4_bestLight_2 13 rfl rfl)
theorem dX4_bestLight_62 : decode cX4_bestLight 62 = .ok (.iload_n 2, 1) := dk_28 (dk_at dksX4_bestLight_2 16 rfl rfl)
theorem dX4_bestLight_63 : decode cX4_bestLight 63 = .ok (.istore_n 2, 1) := dk_61 (dk_at dksX4_bestLight_2 17 rfl rfl)
theorem dX4_bestLight_64 : decode cX4_bestLight 64 = .ok (.iload 5, 2) := dk_21 5 (dk_at dksX4_bestLight_2 18 rfl rfl)
theorem dX4_bestLight_66 : decode cX4_bestLight 66 = .ok (.iload_n 3, 1) := dk_29 (dk_at dksX4_bestLight_2 20 rfl rfl)
theorem dX4_bestLight_67 : decode cX4_bestLight 67 = .ok (.if_icmp .le 8, 3) := dk_164 0 8 (dk_at dksX4_bestLight_2 21 rfl rfl)
theorem dX4_bestLight_70 : decode cX4_bestLight 70 = .ok (.iload 5, 2) := dk_21 5 (dk_at dksX4_bestLight_3 0 rfl rfl)
theorem dX4_bestLight_72 : decode cX4_bestLight 72 = .ok (.goto 4, 3) := dk_167 0 4 (dk_at dksX4_bestLight_3 2 rfl rfl)
theorem dX4_bestLight_75 : decode cX4_bestLight 75 = .ok (.iload_n 3, 1) := dk_29 (dk_at dksX4_bestLight_3 5 rfl rfl)
theorem dX4_bestLight_76 : decode cX4_bestLight 76 = .ok (.istore_n 3, 1) := dk_62 (dk_at dksX4_bestLight_3 6 rfl rfl)
theorem dX4_bestLight_77 : decode cX4_bestLight 77 = .ok (.iinc 4 1, 3) := dk_132 4 1 (dk_at dksX4_bestLight_3 7 rfl rfl)
theorem dX4_bestLight_80 : decode cX4_bestLight 80 = .ok (.goto (-62), 3) := dk_167 255 194 (dk_at dksX4_bestLight_3 10 rfl rfl)
theorem dX4_bestLight_83 : decode cX4_bestLight 83 = .ok (.iload_n 2, 1) := dk_28 (dk_at dksX4_bestLight_3 13 rfl rfl)
theorem dX4_bestLight_84 : decode cX4_bestLight 84 = .ok (.ireturn, 1) := dk_172 (dk_at dksX4_bestLight_3 14 rfl rfl)
abbrev cX4_ifRun : ByteArray := prog_14_method_42_code
def yX4_ifRun : MethodName := ⟨RX4, "ifRun", "(II)I"⟩
def dkwX4_ifRun_6 : List UInt8 := [180, 0, 19, 42, 180, 0, 7, 184, 0, 113, 21, 5, 172]
abbrev dktX4_ifRun_6 : List UInt8 := dkwX4_ifRun_6 ++ []
def dkwX4_ifRun_5 : List UInt8 := [167, 0, 20, 42, 180, 0, 7, 17, 1, 47, 46, 42, 180, 0, 19, 17, 1, 47, 46, 100, 54, 5, 42]
abbrev dktX4_ifRun_5 : List UInt8 := dkwX4_ifRun_5 ++ dktX4_ifRun_6
def dkwX4_ifRun_4 : List UInt8 := [17, 1, 45, 46, 42, 180, 0, 19, 17, 1, 45, 46, 100, 167, 0, 30, 28, 5, 160, 0, 8, 21, 4]
abbrev dktX4_ifRun_4 : List UInt8 := dkwX4_ifRun_4 ++ dktX4_ifRun_5
def dkwX4_ifRun_3 : List UInt8 := [17, 1, 44, 46, 100, 54, 4, 28, 154, 0, 7, 29, 167, 0, 55, 28, 4, 160, 0, 23, 42, 180, 0, 7]
abbrev dktX4_ifRun_3 : List UInt8 := dkwX4_ifRun_3 ++ dktX4_ifRun_4
def dkwX4_ifRun_2 : List UInt8 := [42, 180, 0, 19, 17, 1, 43, 46, 100, 42, 180, 0, 7, 17, 1, 44, 46, 96, 42, 180, 0, 19]
abbrev dktX4_ifRun_2 : List UInt8 := dkwX4_ifRun_2 ++ dktX4_ifRun_3
def dkwX4_ifRun_1 : List UInt8 := [180, 0, 7, 42, 180, 0, 19, 184, 0, 113, 42, 27, 182, 0, 106, 62, 42, 180, 0, 7, 17, 1, 43, 46]
abbrev dktX4_ifRun_1 : List UInt8 := dkwX4_ifRun_1 ++ dktX4_ifRun_2
def dkwX4_ifRun_0 : List UInt8 := [27, 4, 16, 50, 184, 0, 40, 153, 0, 12, 28, 3, 6, 184, 0, 40, 154, 0, 6, 18, 100, 172, 42]
abbrev dktX4_ifRun_0 : List UInt8 := dkwX4_ifRun_0 ++ dktX4_ifRun_1
theorem dksX4_ifRun_0 : cX4_ifRun.data.toList.drop 0 = dktX4_ifRun_0 := by decide +kernel
theorem dksX4_ifRun_1 : cX4_ifRun.data.toList.drop 23 = dktX4_ifRun_1 := dk_seg dksX4_ifRun_0 23 rfl rfl
theorem dksX4_ifRun_2 : cX4_ifRun.data.toList.drop 47 = dktX4_ifRun_2 := dk_seg dksX4_ifRun_1 24 rfl rfl
theorem dksX4_ifRun_3 : cX4_ifRun.data.toList.drop 69 = dktX4_ifRun_3 := dk_seg dksX4_ifRun_2 22 rfl rfl
theorem dksX4_ifRun_4 : cX4_ifRun.data.toList.drop 93 = dktX4_ifRun_4 := dk_seg dksX4_ifRun_3 24 rfl rfl
theorem dksX4_ifRun_5 : cX4_ifRun.data.toList.drop 116 = dktX4_ifRun_5 := dk_seg dksX4_ifRun_4 23 rfl rfl
theorem dksX4_ifRun_6 : cX4_ifRun.data.toList.drop 139 = dktX4_ifRun_6 := dk_seg dksX4_ifRun_5 23 rfl rfl
theorem dX4_ifRun_0 : decode cX4_ifRun 0 = .ok (.iload_n 1, 1) := dk_27 (dk_at dksX4_ifRun_0 0 rfl rfl)
theorem dX4_ifRun_1 : decode cX4_ifRun 1 = .ok (.iconst 1, 1) := dk_4 (dk_at dksX4_ifRun_0 1 rfl rfl)
theorem dX4_ifRun_2 : decode cX4_ifRun 2 = .ok (.bipush 50, 2) := dk_16 50 (dk_at dksX4_ifRun_0 2 rfl rfl)
theorem dX4_ifRun_4 : decode cX4_ifRun 4 = .ok (.invokestatic 40, 3) := dk_184 0 40 (dk_at dksX4_ifRun_0 4 rfl rfl)
theorem dX4_ifRun_7 : decode cX4_ifRun 7 = .ok (.ifCond .eq 12, 3) := dk_153 0 12 (dk_at dksX4_ifRun_0 7 rfl rfl)
theorem dX4_ifRun_10 : decode cX4_ifRun 10 = .ok (.iload_n 2, 1) := dk_28 (dk_at dksX4_ifRun_0 10 rfl rfl)
theorem dX4_ifRun_11 : decode cX4_ifRun 11 = .ok (.iconst 0, 1) := dk_3 (dk_at dksX4_ifRun_0 11 rfl rfl)
theorem dX4_ifRun_12 : decode cX4_ifRun 12 = .ok (.iconst 3, 1) := dk_6 (dk_at dksX4_ifRun_0 12 rfl rfl)
theorem dX4_ifRun_13 : decode cX4_ifRun 13 = .ok (.invokestatic 40, 3) := dk_184 0 40 (dk_at dksX4_ifRun_0 13 rfl rfl)
theorem dX4_ifRun_16 : decode cX4_ifRun 16 = .ok (.ifCond .ne 6, 3) := dk_154 0 6 (dk_at dksX4_ifRun_0 16 rfl rfl)
theorem dX4_ifRun_19 : decode cX4_ifRun 19 = .ok (.ldc 100, 2) := dk_18 100 (dk_at dksX4_ifRun_0 19 rfl rfl)
theorem dX4_ifRun_21 : decode cX4_ifRun 21 = .ok (.ireturn, 1) := dk_172 (dk_at dksX4_ifRun_0 21 rfl rfl)
theorem dX4_ifRun_22 : decode cX4_ifRun 22 = .ok (.aload_n 0, 1) := dk_42 (dk_at dksX4_ifRun_0 22 rfl rfl)
theorem dX4_ifRun_23 : decode cX4_ifRun 23 = .ok (.getfield 7, 3) := dk_180 0 7 (dk_at dksX4_ifRun_1 0 rfl rfl)
theorem dX4_ifRun_26 : decode cX4_ifRun 26 = .ok (.aload_n 0, 1) := dk_42 (dk_at dksX4_ifRun_1 3 rfl rfl)
theorem dX4_ifRun_27 : decode cX4_ifRun 27 = .ok (.getfield 19, 3) := dk_180 0 19 (dk_at dksX4_ifRun_1 4 rfl rfl)
theorem dX4_ifRun_30 : decode cX4_ifRun 30 = .ok (.invokestatic 113, 3) := dk_184 0 113 (dk_at dksX4_ifRun_1 7 rfl rfl)
theorem dX4_ifRun_33 : decode cX4_ifRun 33 = .ok (.aload_n 0, 1) := dk_42 (dk_at dksX4_ifRun_1 10 rfl rfl)
theorem dX4_ifRun_34 : decode cX4_ifRun 34 = .ok (.iload_n 1, 1) := dk_27 (dk_at dksX4_ifRun_1 11 rfl rfl)
theorem dX4_ifRun_35 : decode cX4_ifRun 35 = .ok (.invokevirtual 106, 3) := dk_182 0 106 (dk_at dksX4_ifRun_1 12 rfl rfl)
theorem dX4_ifRun_38 : decode cX4_ifRun 38 = .ok (.istore_n 3, 1) := dk_62 (dk_at dksX4_ifRun_1 15 rfl rfl)
theorem dX4_ifRun_39 : decode cX4_ifRun 39 = .ok (.aload_n 0, 1) := dk_42 (dk_at dksX4_ifRun_1 16 rfl rfl)
theorem dX4_ifRun_40 : decode cX4_ifRun 40 = .ok (.getfield 7, 3) := dk_180 0 7 (dk_at dksX4_ifRun_1 17 rfl rfl)
theorem dX4_ifRun_43 : decode cX4_ifRun 43 = .ok (.sipush 299, 3) := dk_17 1 43 (dk_at dksX4_ifRun_1 20 rfl rfl)
theorem dX4_ifRun_46 : decode cX4_ifRun 46 = .ok (.iaload, 1) := dk_46 (dk_at dksX4_ifRun_1 23 rfl rfl)
theorem dX4_ifRun_47 : decode cX4_ifRun 47 = .ok (.aload_n 0, 1) := dk_42 (dk_at dksX4_ifRun_2 0 rfl rfl)
theorem dX4_ifRun_48 : decode cX4_ifRun 48 = .ok (.getfield 19, 3) := dk_180 0 19 (dk_at dksX4_ifRun_2 1 rfl rfl)
theorem dX4_ifRun_51 : decode cX4_ifRun 51 = .ok (.sipush 299, 3) := dk_17 1 43 (dk_at dksX4_ifRun_2 4 rfl rfl)
theorem dX4_ifRun_54 : decode cX4_ifRun 54 = .ok (.iaload, 1) := dk_46 (dk_at dksX4_ifRun_2 7 rfl rfl)
theorem dX4_ifRun_55 : decode cX4_ifRun 55 = .ok (.isub, 1) := dk_100 (dk_at dksX4_ifRun_2 8 rfl rfl)
theorem dX4_ifRun_56 : decode cX4_ifRun 56 = .ok (.aload_n 0, 1) := dk_42 (dk_at dksX4_ifRun_2 9 rfl rfl)
theorem dX4_ifRun_57 : decode cX4_ifRun 57 = .ok (.getfield 7, 3) := dk_180 0 7 (dk_at dksX4_ifRun_2 10 rfl rfl)
theorem dX4_ifRun_60 : decode cX4_ifRun 60 = .ok (.sipush 300, 3) := dk_17 1 44 (dk_at dksX4_ifRun_2 13 rfl rfl)
theorem dX4_ifRun_63 : decode cX4_ifRun 63 = .ok (.iaload, 1) := dk_46 (dk_at dksX4_ifRun_2 16 rfl rfl)
theorem dX4_ifRun_64 : decode cX4_ifRun 64 = .ok (.iadd, 1) := dk_96 (dk_at dksX4_ifRun_2 17 rfl rfl)
theorem dX4_ifRun_65 : decode cX4_ifRun 65 = .ok (.aload_n 0, 1) := dk_42 (dk_at dksX4_ifRun_2 18 rfl rfl)
theorem dX4_ifRun_66 : decode cX4_ifRun 66 = .ok (.getfield 19, 3) := dk_180 0 19 (dk_at dksX4_ifRun_2 19 rfl rfl)
theorem dX4_ifRun_69 : decode cX4_ifRun 69 = .ok (.sipush 300, 3) := dk_17 1 44 (dk_at dksX4_ifRun_3 0 rfl rfl)
theorem dX4_ifRun_72 : decode cX4_ifRun 72 = .ok (.iaload, 1) := dk_46 (dk_at dksX4_ifRun_3 3 rfl rfl)
theorem dX4_ifRun_73 : decode cX4_ifRun 73 = .ok (.isub, 1) := dk_100 (dk_at dksX4_ifRun_3 4 rfl rfl)
theorem dX4_ifRun_74 : decode cX4_ifRun 74 = .ok (.istore 4, 2) := dk_54 4 (dk_at dksX4_ifRun_3 5 rfl rfl)
theorem dX4_ifRun_76 : decode cX4_ifRun 76 = .ok (.iload_n 2, 1) := dk_28 (dk_at dksX4_ifRun_3 7 rfl rfl)
theorem dX4_ifRun_77 : decode cX4_ifRun 77 = .ok (.ifCond .ne 7, 3) := dk_154 0 7 (dk_at dksX4_ifRun_3 8 rfl rfl)
theorem dX4_ifRun_80 : decode cX4_ifRun 80 = .ok (.iload_n 3, 1) := dk_29 (dk_at dksX4_ifRun_3 11 rfl rfl)
theorem dX4_ifRun_81 : decode cX4_ifRun 81 = .ok (.goto 55, 3) := dk_167 0 55 (dk_at dksX4_ifRun_3 12 rfl rfl)
theorem dX4_ifRun_84 : decode cX4_ifRun 84 = .ok (.iload_n 2, 1) := dk_28 (dk_at dksX4_ifRun_3 15 rfl rfl)
theorem dX4_ifRun_85 : decode cX4_ifRun 85 = .ok (.iconst 1, 1) := dk_4 (dk_at dksX4_ifRun_3 16 rfl rfl)
theorem dX4_ifRun_86 : decode cX4_ifRun 86 = .ok (.if_icmp .ne 23, 3) := dk_160 0 23 (dk_at dksX4_ifRun_3 17 rfl rfl)
theorem dX4_ifRun_89 : decode cX4_ifRun 89 = .ok (.aload_n 0, 1) := dk_42 (dk_at dksX4_ifRun_3 20 rfl rfl)
theorem dX4_ifRun_90 : decode cX4_ifRun 90 = .ok (.getfield 7, 3) := dk_180 0 7 (dk_at dksX4_ifRun_3 21 rfl rfl)
theorem dX4_ifRun_93 : decode cX4_ifRun 93 = .ok (.sipush 301, 3) := dk_17 1 45 (dk_at dksX4_ifRun_4 0 rfl rfl)
theorem dX4_ifRun_96 : decode cX4_ifRun 96 = .ok (.iaload, 1) := dk_46 (dk_at dksX4_ifRun_4 3 rfl rfl)
theorem dX4_ifRun_97 : decode cX4_ifRun 97 = .ok (.aload_n 0, 1) := dk_42 (dk_at dksX4_ifRun_4 4 rfl rfl)
theorem dX4_ifRun_98 : decode cX4_ifRun 98 = .ok (.getfield 19, 3) := dk_180 0 19 (dk_at dksX4_ifRun_4 5 rfl rfl)
theorem dX4_ifRun_101 : decode cX4_ifRun 101 = .ok (.sipush 301, 3) := dk_17 1 45 (dk_at dksX4_ifRun_4 8 rfl rfl)
theorem dX4_ifRun_104 : decode cX4_ifRun 104 = .ok (.iaload, 1) := dk_46 (dk_at dksX4_ifRun_4 11 rfl rfl)
theorem dX4_ifRun_105 : decode cX4_ifRun 105 = .ok (.isub, 1) := dk_100 (dk_at dksX4_ifRun_4 12 rfl rfl)
theorem dX4_ifRun_106 : decode cX4_ifRun 106 = .ok (.goto 30, 3) := dk_167 0 30 (dk_at dksX4_ifRun_4 13 rfl rfl)
theorem dX4_ifRun_109 : decode cX4_ifRun 109 = .ok (.iload_n 2, 1) := dk_28 (dk_at dksX4_ifRun_4 16 rfl rfl)
theorem dX4_ifRun_110 : decode cX4_ifRun 110 = .ok (.iconst 2, 1) := dk_5 (dk_at dksX4_ifRun_4 17 rfl rfl)
theorem dX4_ifRun_111 : decode cX4_ifRun 111 = .ok (.if_icmp .ne 8, 3) := dk_160 0 8 (dk_at dksX4_ifRun_4 18 rfl rfl)
theorem dX4_ifRun_114 : decode cX4_ifRun 114 = .ok (.iload 4, 2) := dk_21 4 (dk_at dksX4_ifRun_4 21 rfl rfl)
theorem dX4_ifRun_116 : decode cX4_ifRun 116 = .ok (.goto 20, 3) := dk_167 0 20 (dk_at dksX4_ifRun_5 0 rfl rfl)
theorem dX4_ifRun_119 : decode cX4_ifRun 119 = .ok (.aload_n 0, 1) := dk_42 (dk_at dksX4_ifRun_5 3 rfl rfl)
theorem dX4_ifRun_120 : decode cX4_ifRun 120 = .ok (.getfield 7, 3) := dk_180 0 7 (dk_at dksX4_ifRun_5 4 rfl rfl)
theorem dX4_ifRun_123 : decode cX4_ifRun 123 = .ok (.sipush 303, 3) := dk_17 1 47 (dk_at dksX4_ifRun_5 7 rfl rfl)
theorem dX4_ifRun_126 : decode cX4_ifRun 126 = .ok (.iaload, 1) := dk_46 (dk_at dksX4_ifRun_5 10 rfl rfl)
theorem dX4_ifRun_127 : decode cX4_ifRun 127 = .ok (.aload_n 0, 1) := dk_42 (dk_at dksX4_ifRun_5 11 rfl rfl)
theorem dX4_ifRun_128 : decode cX4_ifRun 128 = .ok (.getfield 19, 3) := dk_180 0 19 (dk_at dksX4_ifRun_5 12 rfl rfl)
theorem dX4_ifRun_131 : decode cX4_ifRun 131 = .ok (.sipush 303, 3) := dk_17 1 47 (dk_at dksX4_ifRun_5 15 rfl rfl)
theorem dX4_ifRun_134 : decode cX4_ifRun 134 = .ok (.iaload, 1) := dk_46 (dk_at dksX4_ifRun_5 18 rfl rfl)
theorem dX4_ifRun_135 : decode cX4_ifRun 135 = .ok (.isub, 1) := dk_100 (dk_at dksX4_ifRun_5 19 rfl rfl)
theorem dX4_ifRun_136 : decode cX4_ifRun 136 = .ok (.istore 5, 2) := dk_54 5 (dk_at dksX4_ifRun_5 20 rfl rfl)
theorem dX4_ifRun_138 : decode cX4_ifRun 138 = .ok (.aload_n 0, 1) := dk_42 (dk_at dksX4_ifRun_5 22 rfl rfl)
theorem dX4_ifRun_139 : decode cX4_ifRun 139 = .ok (.getfield 19, 3) := dk_180 0 19 (dk_at dksX4_ifRun_6 0 rfl rfl)
theorem dX4_ifRun_142 : decode cX4_ifRun 142 = .ok (.aload_n 0, 1) := dk_42 (dk_at dksX4_ifRun_6 3 rfl rfl)
theorem dX4_ifRun_143 : decode cX4_ifRun 143 = .ok (.getfield 7, 3) := dk_180 0 7 (dk_at dksX4_ifRun_6 4 rfl rfl)
theorem dX4_ifRun_146 : decode cX4_ifRun 146 = .ok (.invokestatic 113, 3) := dk_184 0 113 (dk_at dksX4_ifRun_6 7 rfl rfl)
theorem dX4_ifRun_149 : decode cX4_ifRun 149 = .ok (.iload 5, 2) := dk_21 5 (dk_at dksX4_ifRun_6 10 rfl rfl)
theorem dX4_ifRun_151 : decode cX4_ifRun 151 = .ok (.ireturn, 1) := dk_172 (dk_at dksX4_ifRun_6 12 rfl rfl)
abbrev cX4_copies : ByteArray := prog_14_method_4_code
def yX4_copies : MethodName := ⟨RX4, "copies", "([I[I)V"⟩
def dkwX4_copies_0 : List UInt8 := [3, 61, 28, 17, 1, 55, 162, 0, 15, 43, 28, 42, 28, 46, 79, 132, 2, 1, 167, 255, 240, 177]
abbrev dktX4_copies_0 : List UInt8 := dkwX4_copies_0 ++ []
theorem dksX4_copies_0 : cX4_copies.data.toList.drop 0 = dktX4_copies_0 := by decide +kernel
theorem dX4_copies_0 : decode cX4_copies 0 = .ok (.iconst 0, 1) := dk_3 (dk_at dksX4_copies_0 0 rfl rfl)
theorem dX4_copies_1 : decode cX4_copies 1 = .ok (.istore_n 2, 1) := dk_61 (dk_at dksX4_copies_0 1 rfl rfl)
theorem dX4_copies_2 : decode cX4_copies 2 = .ok (.iload_n 2, 1) := dk_28 (dk_at dksX4_copies_0 2 rfl rfl)
theorem dX4_copies_3 : decode cX4_copies 3 = .ok (.sipush 311, 3) := dk_17 1 55 (dk_at dksX4_copies_0 3 rfl rfl)
theorem dX4_copies_6 : decode cX4_copies 6 = .ok (.if_icmp .ge 15, 3) := dk_162 0 15 (dk_at dksX4_copies_0 6 rfl rfl)
theorem dX4_copies_9 : decode cX4_copies 9 = .ok (.aload_n 1, 1) := dk_43 (dk_at dksX4_copies_0 9 rfl rfl)
theorem dX4_copies_10 : decode cX4_copies 10 = .ok (.iload_n 2, 1) := dk_28 (dk_at dksX4_copies_0 10 rfl rfl)
theorem dX4_copies_11 : decode cX4_copies 11 = .ok (.aload_n 0, 1) := dk_42 (dk_at dksX4_copies_0 11 rfl rfl)
theorem dX4_copies_12 : decode cX4_copies 12 = .ok (.iload_n 2, 1) := dk_28 (dk_at dksX4_copies_0 12 rfl rfl)
theorem dX4_copies_13 : decode cX4_copies 13 = .ok (.iaload, 1) := dk_46 (dk_at dksX4_copies_0 13 rfl rfl)
theorem dX4_copies_14 : decode cX4_copies 14 = .ok (.iastore, 1) := dk_79 (dk_at dksX4_copies_0 14 rfl rfl)
theorem dX4_copies_15 : decode cX4_copies 15 = .ok (.iinc 2 1, 3) := dk_132 2 1 (dk_at dksX4_copies_0 15 rfl rfl)
theorem dX4_copies_18 : decode cX4_copies 18 = .ok (.goto (-16), 3) := dk_167 255 240 (dk_at dksX4_copies_0 18 rfl rfl)
theorem dX4_copies_21 : decode cX4_copies 21 = .ok (.return_, 1) := dk_177 (dk_at dksX4_copies_0 21 rfl rfl)
abbrev cX4_mean : ByteArray := prog_14_method_43_code
def yX4_mean : MethodName := ⟨RX4, "mean", "()I"⟩
def dkwX4_mean_1 : List UInt8 := [17, 1, 42, 46, 154, 0, 8, 18, 112, 167, 0, 9, 35, 36, 110, 184, 0, 117, 172]
abbrev dktX4_mean_1 : List UInt8 := dkwX4_mean_1 ++ []
def dkwX4_mean_0 : List UInt8 := [42, 180, 0, 7, 17, 1, 50, 46, 134, 68, 42, 180, 0, 7, 17, 1, 42, 46, 134, 69, 42, 180, 0, 7]
abbrev dktX4_mean_0 : List UInt8 := dkwX4_mean_0 ++ dktX4_mean_1
theorem dksX4_mean_0 : cX4_mean.data.toList.drop 0 = dktX4_mean_0 := by decide +kernel
theorem dksX4_mean_1 : cX4_mean.data.toList.drop 24 = dktX4_mean_1 := dk_seg dksX4_mean_0 24 rfl rfl
theorem dX4_mean_0 : decode cX4_mean 0 = .ok (.aload_n 0, 1) := dk_42 (dk_at dksX4_mean_0 0 rfl rfl)
theorem dX4_mean_1 : decode cX4_mean 1 = .ok (.getfield 7, 3) := dk_180 0 7 (dk_at dksX4_mean_0 1 rfl rfl)
theorem dX4_mean_4 : decode cX4_mean 4 = .ok (.sipush 306, 3) := dk_17 1 50 (dk_at dksX4_mean_0 4 rfl rfl)
theorem dX4_mean_7 : decode cX4_mean 7 = .ok (.iaload, 1) := dk_46 (dk_at dksX4_mean_0 7 rfl rfl)
theorem dX4_mean_8 : decode cX4_mean 8 = .ok (.i2f, 1) := dk_134 (dk_at dksX4_mean_0 8 rfl rfl)
theorem dX4_mean_9 : decode cX4_mean 9 = .ok (.fstore_n 1, 1) := dk_68 (dk_at dksX4_mean_0 9 rfl rfl)
theorem dX4_mean_10 : decode cX4_mean 10 = .ok (.aload_n 0, 1) := dk_42 (dk_at dksX4_mean_0 10 rfl rfl)
theorem dX4_mean_11 : decode cX4_mean 11 = .ok (.getfield 7, 3) := dk_180 0 7 (dk_at dksX4_mean_0 11 rfl rfl)
theorem dX4_mean_14 : decode cX4_mean 14 = .ok (.sipush 298, 3) := dk_17 1 42 (dk_at dksX4_mean_0 14 rfl rfl)
theorem dX4_mean_17 : decode cX4_mean 17 = .ok (.iaload, 1) := dk_46 (dk_at dksX4_mean_0 17 rfl rfl)
theorem dX4_mean_18 : decode cX4_mean 18 = .ok (.i2f, 1) := dk_134 (dk_at dksX4_mean_0 18 rfl rfl)
theorem dX4_mean_19 : decode cX4_mean 19 = .ok (.fstore_n 2, 1) := dk_69 (dk_at dksX4_mean_0 19 rfl rfl)
theorem dX4_mean_20 : decode cX4_mean 20 = .ok (.aload_n 0, 1) := dk_42 (dk_at dksX4_mean_0 20 rfl rfl)
theorem dX4_mean_21 : decode cX4_mean 21 = .ok (.getfield 7, 3) := dk_180 0 7 (dk_at dksX4_mean_0 21 rfl rfl)
theorem dX4_mean_24 : decode cX4_mean 24 = .ok (.sipush 298, 3) := dk_17 1 42 (dk_at dksX4_mean_1 0 rfl rfl)
theorem dX4_mean_27 : decode cX4_mean 27 = .ok (.iaload, 1) := dk_46 (dk_at dksX4_mean_1 3 rfl rfl)
theorem dX4_mean_28 : decode cX4_mean 28 = .ok (.ifCond .ne 8, 3) := dk_154 0 8 (dk_at dksX4_mean_1 4 rfl rfl)
theorem dX4_mean_31 : decode cX4_mean 31 = .ok (.ldc 112, 2) := dk_18 112 (dk_at dksX4_mean_1 7 rfl rfl)
theorem dX4_mean_33 : decode cX4_mean 33 = .ok (.goto 9, 3) := dk_167 0 9 (dk_at dksX4_mean_1 9 rfl rfl)
theorem dX4_mean_36 : decode cX4_mean 36 = .ok (.fload_n 1, 1) := dk_35 (dk_at dksX4_mean_1 12 rfl rfl)
theorem dX4_mean_37 : decode cX4_mean 37 = .ok (.fload_n 2, 1) := dk_36 (dk_at dksX4_mean_1 13 rfl rfl)
theorem dX4_mean_38 : decode cX4_mean 38 = .ok (.fdiv, 1) := dk_110 (dk_at dksX4_mean_1 14 rfl rfl)
theorem dX4_mean_39 : decode cX4_mean 39 = .ok (.invokestatic 117, 3) := dk_184 0 117 (dk_at dksX4_mean_1 15 rfl rfl)
theorem dX4_mean_42 : decode cX4_mean 42 = .ok (.ireturn, 1) := dk_172 (dk_at dksX4_mean_1 18 rfl rfl)
abbrev cX4_count : ByteArray := prog_14_method_45_code
def yX4_count : MethodName := ⟨RX4, "count", "(I)I"⟩
def dkwX4_count_4 : List UInt8 := [16, 20, 100, 46, 172, 18, 100, 172]
abbrev dktX4_count_4 : List UInt8 := dkwX4_count_4 ++ []
def dkwX4_count_3 : List UInt8 := [96, 6, 100, 46, 172, 42, 180, 0, 36, 172, 42, 180, 0, 126, 172, 42, 180, 0, 7, 17, 1, 51, 27, 96]
abbrev dktX4_count_3 : List UInt8 := dkwX4_count_3 ++ dktX4_count_4
def dkwX4_count_2 : List UInt8 := [42, 180, 0, 7, 17, 1, 40, 27, 96, 46, 172, 42, 182, 0, 123, 172, 42, 180, 0, 7, 17, 1, 42, 27]
abbrev dktX4_count_2 : List UInt8 := dkwX4_count_2 ++ dktX4_count_3
def dkwX4_count_1 : List UInt8 := [170, 0, 0, 0, 0, 0, 164, 0, 0, 0, 0, 0, 0, 0, 23, 0, 0, 0, 111, 0, 0, 0, 111, 0, 0, 0, 122, 0, 0, 0, 127, 0, 0, 0, 127, 0, 0, 0, 127, 0, 0, 0, 127, 0, 0, 0, 127, 0, 0, 0, 127, 0, 0, 0, 127, 0, 0, 0, 127, 0, 0, 0, 140, 0, 0, 0, 145, 0, 0, 0, 164, 0, 0, 0, 164, 0, 0, 0, 164, 0, 0, 0, 164, 0, 0, 0, 164, 0, 0, 0, 164, 0, 0, 0, 164, 0, 0, 0, 150, 0, 0, 0, 150, 0, 0, 0, 150, 0, 0, 0, 150]
abbrev dktX4_count_1 : List UInt8 := dkwX4_count_1 ++ dktX4_count_2
def dkwX4_count_0 : List UInt8 := [27]
abbrev dktX4_count_0 : List UInt8 := dkwX4_count_0 ++ dktX4_count_1
theorem dksX4_count_0 : cX4_count.data.toList.drop 0 = dktX4_count_0 := by decide +kernel
theorem dksX4_count_1 : cX4_count.data.toList.drop 1 = dktX4_count_1 := dk_seg dksX4_count_0 1 rfl rfl
theorem dksX4_count_2 : cX4_count.data.toList.drop 112 = dktX4_count_2 := dk_seg dksX4_count_1 111 rfl rfl
theorem dksX4_count_3 : cX4_count.data.toList.drop 136 = dktX4_count_3 := dk_seg dksX4_count_2 24 rfl rfl
theorem dksX4_count_4 : cX4_count.data.toList.drop 160 = dktX4_count_4 := dk_seg dksX4_count_3 24 rfl rfl
theorem dX4_count_0 : decode cX4_count 0 = .ok (.iload_n 1, 1) := dk_27 (dk_at dksX4_count_0 0 rfl rfl)
theorem dX4_count_1 : decode cX4_count 1 = .ok (.tableswitch 164 0 23 #[111, 111, 122, 127, 127, 127, 127, 127, 127, 127, 127, 140, 145, 164, 164, 164, 164, 164, 164, 164, 150, 150, 150, 150], 111) := by decide +kernel
theorem dX4_count_112 : decode cX4_count 112 = .ok (.aload_n 0, 1) := dk_42 (dk_at dksX4_count_2 0 rfl rfl)
theorem dX4_count_113 : decode cX4_count 113 = .ok (.getfield 7, 3) := dk_180 0 7 (dk_at dksX4_count_2 1 rfl rfl)
theorem dX4_count_116 : decode cX4_count 116 = .ok (.sipush 296, 3) := dk_17 1 40 (dk_at dksX4_count_2 4 rfl rfl)
theorem dX4_count_119 : decode cX4_count 119 = .ok (.iload_n 1, 1) := dk_27 (dk_at dksX4_count_2 7 rfl rfl)
theorem dX4_count_120 : decode cX4_count 120 = .ok (.iadd, 1) := dk_96 (dk_at dksX4_count_2 8 rfl rfl)
theorem dX4_count_121 : decode cX4_count 121 = .ok (.iaload, 1) := dk_46 (dk_at dksX4_count_2 9 rfl rfl)
theorem dX4_count_122 : decode cX4_count 122 = .ok (.ireturn, 1) := dk_172 (dk_at dksX4_count_2 10 rfl rfl)
theorem dX4_count_123 : decode cX4_count 123 = .ok (.aload_n 0, 1) := dk_42 (dk_at dksX4_count_2 11 rfl rfl)
theorem dX4_count_124 : decode cX4_count 124 = .ok (.invokevirtual 123, 3) := dk_182 0 123 (dk_at dksX4_count_2 12 rfl rfl)
theorem dX4_count_127 : decode cX4_count 127 = .ok (.ireturn, 1) := dk_172 (dk_at dksX4_count_2 15 rfl rfl)
theorem dX4_count_128 : decode cX4_count 128 = .ok (.aload_n 0, 1) := dk_42 (dk_at dksX4_count_2 16 rfl rfl)
theorem dX4_count_129 : decode cX4_count 129 = .ok (.getfield 7, 3) := dk_180 0 7 (dk_at dksX4_count_2 17 rfl rfl)
theorem dX4_count_132 : decode cX4_count 132 = .ok (.sipush 298, 3) := dk_17 1 42 (dk_at dksX4_count_2 20 rfl rfl)
theorem dX4_count_135 : decode cX4_count 135 = .ok (.iload_n 1, 1) := dk_27 (dk_at dksX4_count_2 23 rfl rfl)
theorem dX4_count_136 : decode cX4_count 136 = .ok (.iadd, 1) := dk_96 (dk_at dksX4_count_3 0 rfl rfl)
theorem dX4_count_137 : decode cX4_count 137 = .ok (.iconst 3, 1) := dk_6 (dk_at dksX4_count_3 1 rfl rfl)
theorem dX4_count_138 : decode cX4_count 138 = .ok (.isub, 1) := dk_100 (dk_at dksX4_count_3 2 rfl rfl)
theorem dX4_count_139 : decode cX4_count 139 = .ok (.iaload, 1) := dk_46 (dk_at dksX4_count_3 3 rfl rfl)
theorem dX4_count_140 : decode cX4_count 140 = .ok (.ireturn, 1) := dk_172 (dk_at dksX4_count_3 4 rfl rfl)
theorem dX4_count_141 : decode cX4_count 141 = .ok (.aload_n 0, 1) := dk_42 (dk_at dksX4_count_3 5 rfl rfl)
theorem dX4_count_142 : decode cX4_count 142 = .ok (.getfield 36, 3) := dk_180 0 36 (dk_at dksX4_count_3 6 rfl rfl)
theorem dX4_count_145 : decode cX4_count 145 = .ok (.ireturn, 1) := dk_172 (dk_at dksX4_count_3 9 rfl rfl)
theorem dX4_count_146 : decode cX4_count 146 = .ok (.aload_n 0, 1) := dk_42 (dk_at dksX4_count_3 10 rfl rfl)
theorem dX4_count_147 : decode cX4_count 147 = .ok (.getfield 126, 3) := dk_180 0 126 (dk_at dksX4_count_3 11 rfl rfl)
theorem dX4_count_150 : decode cX4_count 150 = .ok (.ireturn, 1) := dk_172 (dk_at dksX4_count_3 14 rfl rfl)
theorem dX4_count_151 : decode cX4_count 151 = .ok (.aload_n 0, 1) := dk_42 (dk_at dksX4_count_3 15 rfl rfl)
theorem dX4_count_152 : decode cX4_count 152 = .ok (.getfield 7, 3) := dk_180 0 7 (dk_at dksX4_count_3 16 rfl rfl)
theorem dX4_count_155 : decode cX4_count 155 = .ok (.sipush 307, 3) := dk_17 1 51 (dk_at dksX4_count_3 19 rfl rfl)
theorem dX4_count_158 : decode cX4_count 158 = .ok (.iload_n 1, 1) := dk_27 (dk_at dksX4_count_3 22 rfl rfl)
theorem dX4_count_159 : decode cX4_count 159 = .ok (.iadd, 1) := dk_96 (dk_at dksX4_count_3 23 rfl rfl)
theorem dX4_count_160 : decode cX4_count 160 = .ok (.bipush 20, 2) := dk_16 20 (dk_at dksX4_count_4 0 rfl rfl)
theorem dX4_count_162 : decode cX4_count 162 = .ok (.isub, 1) := dk_100 (dk_at dksX4_count_4 2 rfl rfl)
theorem dX4_count_163 : decode cX4_count 163 = .ok (.iaload, 1) := dk_46 (dk_at dksX4_count_4 3 rfl rfl)
theorem dX4_count_164 : decode cX4_count 164 = .ok (.ireturn, 1) := dk_172 (dk_at dksX4_count_4 4 rfl rfl)
theorem dX4_count_165 : decode cX4_count 165 = .ok (.ldc 100, 2) := dk_18 100 (dk_at dksX4_count_4 5 rfl rfl)
theorem dX4_count_167 : decode cX4_count 167 = .ok (.ireturn, 1) := dk_172 (dk_at dksX4_count_4 7 rfl rfl)
abbrev cX4_inQueues : ByteArray := prog_14_method_44_code
def yX4_inQueues : MethodName := ⟨RX4, "inQueues", "()I"⟩
def dkwX4_inQueues_1 : List UInt8 := [172]
abbrev dktX4_inQueues_1 : List UInt8 := dkwX4_inQueues_1 ++ []
def dkwX4_inQueues_0 : List UInt8 := [3, 60, 3, 61, 28, 7, 162, 0, 17, 27, 42, 28, 182, 0, 54, 96, 60, 132, 2, 1, 167, 255, 240, 27]
abbrev dktX4_inQueues_0 : List UInt8 := dkwX4_inQueues_0 ++ dktX4_inQueues_1
theorem dksX4_inQueues_0 : cX4_inQueues.data.toList.drop 0 = dktX4_inQueues_0 := by decide +kernel
theorem dksX4_inQueues_1 : cX4_inQueues.data.toList.drop 24 = dktX4_inQueues_1 := dk_seg dksX4_inQueues_0 24 rfl rfl
theorem dX4_inQueues_0 : decode cX4_inQueues 0 = .ok (.iconst 0, 1) := dk_3 (dk_at dksX4_inQueues_0 0 rfl rfl)
theorem dX4_inQueues_1 : decode cX4_inQueues 1 = .ok (.istore_n 1, 1) := dk_60 (dk_at dksX4_inQueues_0 1 rfl rfl)
theorem dX4_inQueues_2 : decode cX4_inQueues 2 = .ok (.iconst 0, 1) := dk_3 (dk_at dksX4_inQueues_0 2 rfl rfl)
theorem dX4_inQueues_3 : decode cX4_inQueues 3 = .ok (.istore_n 2, 1) := dk_61 (dk_at dksX4_inQueues_0 3 rfl rfl)
theorem dX4_inQueues_4 : decode cX4_inQueues 4 = .ok (.iload_n 2, 1) := dk_28 (dk_at dksX4_inQueues_0 4 rfl rfl)
theorem dX4_inQueues_5 : decode cX4_inQueues 5 = .ok (.iconst 4, 1) := dk_7 (dk_at dksX4_inQueues_0 5 rfl rfl)
theorem dX4_inQueues_6 : decode cX4_inQueues 6 = .ok (.if_icmp .ge 17, 3) := dk_162 0 17 (dk_at dksX4_inQueues_0 6 rfl rfl)
theorem dX4_inQueues_9 : decode cX4_inQueues 9 = .ok (.iload_n 1, 1) := dk_27 (dk_at dksX4_inQueues_0 9 rfl rfl)
theorem dX4_inQueues_10 : decode cX4_inQueues 10 = .ok (.aload_n 0, 1) := dk_42 (dk_at dksX4_inQueues_0 10 rfl rfl)
theorem dX4_inQueues_11 : decode cX4_inQueues 11 = .ok (.iload_n 2, 1) := dk_28 (dk_at dksX4_inQueues_0 11 rfl rfl)
theorem dX4_inQueues_12 : decode cX4_inQueues 12 = .ok (.invokevirtual 54, 3) := dk_182 0 54 (dk_at dksX4_inQueues_0 12 rfl rfl)
theorem dX4_inQueues_15 : decode cX4_inQueues 15 = .ok (.iadd, 1) := dk_96 (dk_at dksX4_inQueues_0 15 rfl rfl)
theorem dX4_inQueues_16 : decode cX4_inQueues 16 = .ok (.istore_n 1, 1) := dk_60 (dk_at dksX4_inQueues_0 16 rfl rfl)
theorem dX4_inQueues_17 : decode cX4_inQueues 17 = .ok (.iinc 2 1, 3) := dk_132 2 1 (dk_at dksX4_inQueues_0 17 rfl rfl)
theorem dX4_inQueues_20 : decode cX4_inQueues 20 = .ok (.goto (-16), 3) := dk_167 255 240 (dk_at dksX4_inQueues_0 20 rfl rfl)
theorem dX4_inQueues_23 : decode cX4_inQueues 23 = .ok (.iload_n 1, 1) := dk_27 (dk_at dksX4_inQueues_0 23 rfl rfl)
theorem dX4_inQueues_24 : decode cX4_inQueues 24 = .ok (.ireturn, 1) := dk_172 (dk_at dksX4_inQueues_1 0 rfl rfl)
abbrev cX4_undo : ByteArray := prog_14_method_46_code
def yX4_undo : MethodName := ⟨RX4, "undo", "()I"⟩
def dkwX4_undo_2 : List UInt8 := [96, 46, 79, 132, 1, 1, 167, 255, 225, 42, 180, 0, 36, 172]
abbrev dktX4_undo_2 : List UInt8 := dkwX4_undo_2 ++ []
def dkwX4_undo_1 : List UInt8 := [17, 1, 55, 162, 0, 30, 42, 180, 0, 7, 27, 42, 180, 0, 13, 17, 1, 55, 42, 180, 0, 36, 104, 27]
abbrev dktX4_undo_1 : List UInt8 := dkwX4_undo_1 ++ dktX4_undo_2
def dkwX4_undo_0 : List UInt8 := [42, 180, 0, 36, 154, 0, 6, 18, 105, 172, 42, 89, 180, 0, 36, 4, 100, 181, 0, 36, 3, 60, 27]
abbrev dktX4_undo_0 : List UInt8 := dkwX4_undo_0 ++ dktX4_undo_1
theorem dksX4_undo_0 : cX4_undo.data.toList.drop 0 = dktX4_undo_0 := by decide +kernel
theorem dksX4_undo_1 : cX4_undo.data.toList.drop 23 = dktX4_undo_1 := dk_seg dksX4_undo_0 23 rfl rfl
theorem dksX4_undo_2 : cX4_undo.data.toList.drop 47 = dktX4_undo_2 := dk_seg dksX4_undo_1 24 rfl rfl
theorem dX4_undo_0 : decode cX4_undo 0 = .ok (.aload_n 0, 1) := dk_42 (dk_at dksX4_undo_0 0 rfl rfl)
theorem dX4_undo_1 : decode cX4_undo 1 = .ok (.getfield 36, 3) := dk_180 0 36 (dk_at dksX4_undo_0 1 rfl rfl)
theorem dX4_undo_4 : decode cX4_undo 4 = .ok (.ifCond .ne 6, 3) := dk_154 0 6 (dk_at dksX4_undo_0 4 rfl rfl)
theorem dX4_undo_7 : decode cX4_undo 7 = .ok (.ldc 105, 2) := dk_18 105 (dk_at dksX4_undo_0 7 rfl rfl)
theorem dX4_undo_9 : decode cX4_undo 9 = .ok (.ireturn, 1) := dk_172 (dk_at dksX4_undo_0 9 rfl rfl)
theorem dX4_undo_10 : decode cX4_undo 10 = .ok (.aload_n 0, 1) := dk_42 (dk_at dksX4_undo_0 10 rfl rfl)
theorem dX4_undo_11 : decode cX4_undo 11 = .ok (.dup, 1) := dk_89 (dk_at dksX4_undo_0 11 rfl rfl)
theorem dX4_undo_12 : decode cX4_undo 12 = .ok (.getfield 36, 3) := dk_180 0 36 (dk_at dksX4_undo_0 12 rfl rfl)
theorem dX4_undo_15 : decode cX4_undo 15 = .ok (.iconst 1, 1) := dk_4 (dk_at dksX4_undo_0 15 rfl rfl)
theorem dX4_undo_16 : decode cX4_undo 16 = .ok (.isub, 1) := dk_100 (dk_at dksX4_undo_0 16 rfl rfl)
theorem dX4_undo_17 : decode cX4_undo 17 = .ok (.putfield 36, 3) := dk_181 0 36 (dk_at dksX4_undo_0 17 rfl rfl)
theorem dX4_undo_20 : decode cX4_undo 20 = .ok (.iconst 0, 1) := dk_3 (dk_at dksX4_undo_0 20 rfl rfl)
theorem dX4_undo_21 : decode cX4_undo 21 = .ok (.istore_n 1, 1) := dk_60 (dk_at dksX4_undo_0 21 rfl rfl)
theorem dX4_undo_22 : decode cX4_undo 22 = .ok (.iload_n 1, 1) := dk_27 (dk_at dksX4_undo_0 22 rfl rfl)
theorem dX4_undo_23 : decode cX4_undo 23 = .ok (.sipush 311, 3) := dk_17 1 55 (dk_at dksX4_undo_1 0 rfl rfl)
theorem dX4_undo_26 : decode cX4_undo 26 = .ok (.if_icmp .ge 30, 3) := dk_162 0 30 (dk_at dksX4_undo_1 3 rfl rfl)
theorem dX4_undo_29 : decode cX4_undo 29 = .ok (.aload_n 0, 1) := dk_42 (dk_at dksX4_undo_1 6 rfl rfl)
theorem dX4_undo_30 : decode cX4_undo 30 = .ok (.getfield 7, 3) := dk_180 0 7 (dk_at dksX4_undo_1 7 rfl rfl)
theorem dX4_undo_33 : decode cX4_undo 33 = .ok (.iload_n 1, 1) := dk_27 (dk_at dksX4_undo_1 10 rfl rfl)
theorem dX4_undo_34 : decode cX4_undo 34 = .ok (.aload_n 0, 1) := dk_42 (dk_at dksX4_undo_1 11 rfl rfl)
theorem dX4_undo_35 : decode cX4_undo 35 = .ok (.getfield 13, 3) := dk_180 0 13 (dk_at dksX4_undo_1 12 rfl rfl)
theorem dX4_undo_38 : decode cX4_undo 38 = .ok (.sipush 311, 3) := dk_17 1 55 (dk_at dksX4_undo_1 15 rfl rfl)
theorem dX4_undo_41 : decode cX4_undo 41 = .ok (.aload_n 0, 1) := dk_42 (dk_at dksX4_undo_1 18 rfl rfl)
theorem dX4_undo_42 : decode cX4_undo 42 = .ok (.getfield 36, 3) := dk_180 0 36 (dk_at dksX4_undo_1 19 rfl rfl)
theorem dX4_undo_45 : decode cX4_undo 45 = .ok (.imul, 1) := dk_104 (dk_at dksX4_undo_1 22 rfl rfl)
theorem dX4_undo_46 : decode cX4_undo 46 = .ok (.iload_n 1, 1) := dk_27 (dk_at dksX4_undo_1 23 rfl rfl)
theorem dX4_undo_47 : decode cX4_undo 47 = .ok (.iadd, 1) := dk_96 (dk_at dksX4_undo_2 0 rfl rfl)
theorem dX4_undo_48 : decode cX4_undo 48 = .ok (.iaload, 1) := dk_46 (dk_at dksX4_undo_2 1 rfl rfl)
theorem dX4_undo_49 : decode cX4_undo 49 = .ok (.iastore, 1) := dk_79 (dk_at dksX4_undo_2 2 rfl rfl)
theorem dX4_undo_50 : decode cX4_undo 50 = .ok (.iinc 1 1, 3) := dk_132 1 1 (dk_at dksX4_undo_2 3 rfl rfl)
theorem dX4_undo_53 : decode cX4_undo 53 = .ok (.goto (-31), 3) := dk_167 255 225 (dk_at dksX4_undo_2 6 rfl rfl)
theorem dX4_undo_56 : decode cX4_undo 56 = .ok (.aload_n 0, 1) := dk_42 (dk_at dksX4_undo_2 9 rfl rfl)
theorem dX4_undo_57 : decode cX4_undo 57 = .ok (.getfield 36, 3) := dk_180 0 36 (dk_at dksX4_undo_2 10 rfl rfl)
theorem dX4_undo_60 : decode cX4_undo 60 = .ok (.ireturn, 1) := dk_172 (dk_at dksX4_undo_2 13 rfl rfl)
abbrev cX4_type : ByteArray := prog_14_method_47_code
def yX4_type : MethodName := ⟨RX4, "type", "(I)I"⟩
def dkwX4_type_2 : List UInt8 := [180, 0, 126, 172]
abbrev dktX4_type_2 : List UInt8 := dkwX4_type_2 ++ []
def dkwX4_type_1 : List UInt8 := [18, 101, 172, 42, 180, 0, 22, 42, 180, 0, 126, 27, 79, 42, 89, 180, 0, 126, 4, 96, 181, 0, 126, 42]
abbrev dktX4_type_1 : List UInt8 := dkwX4_type_1 ++ dktX4_type_2
def dkwX4_type_0 : List UInt8 := [27, 16, 32, 16, 126, 184, 0, 40, 154, 0, 6, 18, 100, 172, 42, 180, 0, 126, 16, 60, 160, 0, 6]
abbrev dktX4_type_0 : List UInt8 := dkwX4_type_0 ++ dktX4_type_1
theorem dksX4_type_0 : cX4_type.data.toList.drop 0 = dktX4_type_0 := by decide +kernel
theorem dksX4_type_1 : cX4_type.data.toList.drop 23 = dktX4_type_1 := dk_seg dksX4_type_0 23 rfl rfl
theorem dksX4_type_2 : cX4_type.data.toList.drop 47 = dktX4_type_2 := dk_seg dksX4_type_1 24 rfl rfl
theorem dX4_type_0 : decode cX4_type 0 = .ok (.iload_n 1, 1) := dk_27 (dk_at dksX4_type_0 0 rfl rfl)
theorem dX4_type_1 : decode cX4_type 1 = .ok (.bipush 32, 2) := dk_16 32 (dk_at dksX4_type_0 1 rfl rfl)
theorem dX4_type_3 : decode cX4_type 3 = .ok (.bipush 126, 2) := dk_16 126 (dk_at dksX4_type_0 3 rfl rfl)
theorem dX4_type_5 : decode cX4_type 5 = .ok (.invokestatic 40, 3) := dk_184 0 40 (dk_at dksX4_type_0 5 rfl rfl)
theorem dX4_type_8 : decode cX4_type 8 = .ok (.ifCond .ne 6, 3) := dk_154 0 6 (dk_at dksX4_type_0 8 rfl rfl)
theorem dX4_type_11 : decode cX4_type 11 = .ok (.ldc 100, 2) := dk_18 100 (dk_at dksX4_type_0 11 rfl rfl)
theorem dX4_type_13 : decode cX4_type 13 = .ok (.ireturn, 1) := dk_172 (dk_at dksX4_type_0 13 rfl rfl)
theorem dX4_type_14 : decode cX4_type 14 = .ok (.aload_n 0, 1) := dk_42 (dk_at dksX4_type_0 14 rfl rfl)
theorem dX4_type_15 : decode cX4_type 15 = .ok (.getfield 126, 3) := dk_180 0 126 (dk_at dksX4_type_0 15 rfl rfl)
theorem dX4_type_18 : decode cX4_type 18 = .ok (.bipush 60, 2) := dk_16 60 (dk_at dksX4_type_0 18 rfl rfl)
theorem dX4_type_20 : decode cX4_type 20 = .ok (.if_icmp .ne 6, 3) := dk_160 0 6 (dk_at dksX4_type_0 20 rfl rfl)
theorem dX4_type_23 : decode cX4_type 23 = .ok (.ldc 101, 2) := dk_18 101 (dk_at dksX4_type_1 0 rfl rfl)
theorem dX4_type_25 : decode cX4_type 25 = .ok (.ireturn, 1) := dk_172 (dk_at dksX4_type_1 2 rfl rfl)
theorem dX4_type_26 : decode cX4_type 26 = .ok (.aload_n 0, 1) := dk_42 (dk_at dksX4_type_1 3 rfl rfl)
theorem dX4_type_27 : decode cX4_type 27 = .ok (.getfield 22, 3) := dk_180 0 22 (dk_at dksX4_type_1 4 rfl rfl)
theorem dX4_type_30 : decode cX4_type 30 = .ok (.aload_n 0, 1) := dk_42 (dk_at dksX4_type_1 7 rfl rfl)
theorem dX4_type_31 : decode cX4_type 31 = .ok (.getfield 126, 3) := dk_180 0 126 (dk_at dksX4_type_1 8 rfl rfl)
theorem dX4_type_34 : decode cX4_type 34 = .ok (.iload_n 1, 1) := dk_27 (dk_at dksX4_type_1 11 rfl rfl)
theorem dX4_type_35 : decode cX4_type 35 = .ok (.iastore, 1) := dk_79 (dk_at dksX4_type_1 12 rfl rfl)
theorem dX4_type_36 : decode cX4_type 36 = .ok (.aload_n 0, 1) := dk_42 (dk_at dksX4_type_1 13 rfl rfl)
theorem dX4_type_37 : decode cX4_type 37 = .ok (.dup, 1) := dk_89 (dk_at dksX4_type_1 14 rfl rfl)
theorem dX4_type_38 : decode cX4_type 38 = .ok (.getfield 126, 3) := dk_180 0 126 (dk_at dksX4_type_1 15 rfl rfl)
theorem dX4_type_41 : decode cX4_type 41 = .ok (.iconst 1, 1) := dk_4 (dk_at dksX4_type_1 18 rfl rfl)
theorem dX4_type_42 : decode cX4_type 42 = .ok (.iadd, 1) := dk_96 (dk_at dksX4_type_1 19 rfl rfl)
theorem dX4_type_43 : decode cX4_type 43 = .ok (.putfield 126, 3) := dk_181 0 126 (dk_at dksX4_type_1 20 rfl rfl)
theorem dX4_type_46 : decode cX4_type 46 = .ok (.aload_n 0, 1) := dk_42 (dk_at dksX4_type_1 23 rfl rfl)
theorem dX4_type_47 : decode cX4_type 47 = .ok (.getfield 126, 3) := dk_180 0 126 (dk_at dksX4_type_2 0 rfl rfl)
theorem dX4_type_50 : decode cX4_type 50 = .ok (.ireturn, 1) := dk_172 (dk_at dksX4_type_2 3 rfl rfl)
abbrev cX4_clearText : ByteArray := prog_14_method_48_code
def yX4_clearText : MethodName := ⟨RX4, "clearText", "()I"⟩
def dkwX4_clearText_0 : List UInt8 := [42, 180, 0, 126, 60, 42, 3, 181, 0, 126, 27, 172]
abbrev dktX4_clearText_0 : List UInt8 := dkwX4_clearText_0 ++ []
theorem dksX4_clearText_0 : cX4_clearText.data.toList.drop 0 = dktX4_clearText_0 := by decide +kernel
theorem dX4_clearText_0 : decode cX4_clearText 0 = .ok (.aload_n 0, 1) := dk_42 (dk_at dksX4_clearText_0 0 rfl rfl)
theorem dX4_clearText_1 : decode cX4_clearText 1 = .ok (.getfield 126, 3) := dk_180 0 126 (dk_at dksX4_clearText_0 1 rfl rfl)
theorem dX4_clearText_4 : decode cX4_clearText 4 = .ok (.istore_n 1, 1) := dk_60 (dk_at dksX4_clearText_0 4 rfl rfl)
theorem dX4_clearText_5 : decode cX4_clearText 5 = .ok (.aload_n 0, 1) := dk_42 (dk_at dksX4_clearText_0 5 rfl rfl)
theorem dX4_clearText_6 : decode cX4_clearText 6 = .ok (.iconst 0, 1) := dk_3 (dk_at dksX4_clearText_0 6 rfl rfl)
theorem dX4_clearText_7 : decode cX4_clearText 7 = .ok (.putfield 126, 3) := dk_181 0 126 (dk_at dksX4_clearText_0 7 rfl rfl)
theorem dX4_clearText_10 : decode cX4_clearText 10 = .ok (.iload_n 1, 1) := dk_27 (dk_at dksX4_clearText_0 10 rfl rfl)
theorem dX4_clearText_11 : decode cX4_clearText 11 = .ok (.ireturn, 1) := dk_172 (dk_at dksX4_clearText_0 11 rfl rfl)
abbrev cX4_fault : ByteArray := prog_14_method_56_code
def yX4_fault : MethodName := ⟨RX4, "fault", "(I)I"⟩
def dkwX4_fault_3 : List UInt8 := [180, 0, 183, 172]
abbrev dktX4_fault_3 : List UInt8 := dkwX4_fault_3 ++ []
def dkwX4_fault_2 : List UInt8 := [27, 154, 0, 10, 42, 180, 0, 167, 167, 0, 19, 27, 4, 160, 0, 10, 42, 180, 0, 180, 167, 0, 7, 42]
abbrev dktX4_fault_2 : List UInt8 := dkwX4_fault_2 ++ dktX4_fault_3
def dkwX4_fault_1 : List UInt8 := [182, 0, 186, 61, 42, 180, 0, 16, 42, 180, 0, 7, 184, 0, 113, 28, 153, 0, 8, 18, 112, 167, 0, 30]
abbrev dktX4_fault_1 : List UInt8 := dkwX4_fault_1 ++ dktX4_fault_2
def dkwX4_fault_0 : List UInt8 := [27, 3, 5, 184, 0, 40, 154, 0, 6, 18, 100, 172, 42, 180, 0, 7, 42, 180, 0, 16, 184, 0, 113, 42]
abbrev dktX4_fault_0 : List UInt8 := dkwX4_fault_0 ++ dktX4_fault_1
theorem dksX4_fault_0 : cX4_fault.data.toList.drop 0 = dktX4_fault_0 := by decide +kernel
theorem dksX4_fault_1 : cX4_fault.data.toList.drop 24 = dktX4_fault_1 := dk_seg dksX4_fault_0 24 rfl rfl
theorem dksX4_fault_2 : cX4_fault.data.toList.drop 48 = dktX4_fault_2 := dk_seg dksX4_fault_1 24 rfl rfl
theorem dksX4_fault_3 : cX4_fault.data.toList.drop 72 = dktX4_fault_3 := dk_seg dksX4_fault_2 24 rfl rfl
theorem dX4_fault_0 : decode cX4_fault 0 = .ok (.iload_n 1, 1) := dk_27 (dk_at dksX4_fault_0 0 rfl rfl)
theorem dX4_fault_1 : decode cX4_fault 1 = .ok (.iconst 0, 1) := dk_3 (dk_at dksX4_fault_0 1 rfl rfl)
theorem dX4_fault_2 : decode cX4_fault 2 = .ok (.iconst 2, 1) := dk_5 (dk_at dksX4_fault_0 2 rfl rfl)
theorem dX4_fault_3 : decode cX4_fault 3 = .ok (.invokestatic 40, 3) := dk_184 0 40 (dk_at dksX4_fault_0 3 rfl rfl)
theorem dX4_fault_6 : decode cX4_fault 6 = .ok (.ifCond .ne 6, 3) := dk_154 0 6 (dk_at dksX4_fault_0 6 rfl rfl)
theorem dX4_fault_9 : decode cX4_fault 9 = .ok (.ldc 100, 2) := dk_18 100 (dk_at dksX4_fault_0 9 rfl rfl)
theorem dX4_fault_11 : decode cX4_fault 11 = .ok (.ireturn, 1) := dk_172 (dk_at dksX4_fault_0 11 rfl rfl)
theorem dX4_fault_12 : decode cX4_fault 12 = .ok (.aload_n 0, 1) := dk_42 (dk_at dksX4_fault_0 12 rfl rfl)
theorem dX4_fault_13 : decode cX4_fault 13 = .ok (.getfield 7, 3) := dk_180 0 7 (dk_at dksX4_fault_0 13 rfl rfl)
theorem dX4_fault_16 : decode cX4_fault 16 = .ok (.aload_n 0, 1) := dk_42 (dk_at dksX4_fault_0 16 rfl rfl)
theorem dX4_fault_17 : decode cX4_fault 17 = .ok (.getfield 16, 3) := dk_180 0 16 (dk_at dksX4_fault_0 17 rfl rfl)
theorem dX4_fault_20 : decode cX4_fault 20 = .ok (.invokestatic 113, 3) := dk_184 0 113 (dk_at dksX4_fault_0 20 rfl rfl)
theorem dX4_fault_23 : decode cX4_fault 23 = .ok (.aload_n 0, 1) := dk_42 (dk_at dksX4_fault_0 23 rfl rfl)
theorem dX4_fault_24 : decode cX4_fault 24 = .ok (.invokevirtual 186, 3) := dk_182 0 186 (dk_at dksX4_fault_1 0 rfl rfl)
theorem dX4_fault_27 : decode cX4_fault 27 = .ok (.istore_n 2, 1) := dk_61 (dk_at dksX4_fault_1 3 rfl rfl)
theorem dX4_fault_28 : decode cX4_fault 28 = .ok (.aload_n 0, 1) := dk_42 (dk_at dksX4_fault_1 4 rfl rfl)
theorem dX4_fault_29 : decode cX4_fault 29 = .ok (.getfield 16, 3) := dk_180 0 16 (dk_at dksX4_fault_1 5 rfl rfl)
theorem dX4_fault_32 : decode cX4_fault 32 = .ok (.aload_n 0, 1) := dk_42 (dk_at dksX4_fault_1 8 rfl rfl)
theorem dX4_fault_33 : decode cX4_fault 33 = .ok (.getfield 7, 3) := dk_180 0 7 (dk_at dksX4_fault_1 9 rfl rfl)
theorem dX4_fault_36 : decode cX4_fault 36 = .ok (.invokestatic 113, 3) := dk_184 0 113 (dk_at dksX4_fault_1 12 rfl rfl)
theorem dX4_fault_39 : decode cX4_fault 39 = .ok (.iload_n 2, 1) := dk_28 (dk_at dksX4_fault_1 15 rfl rfl)
theorem dX4_fault_40 : decode cX4_fault 40 = .ok (.ifCond .eq 8, 3) := dk_153 0 8 (dk_at dksX4_fault_1 16 rfl rfl)
theorem dX4_fault_43 : decode cX4_fault 43 = .ok (.ldc 112, 2) := dk_18 112 (dk_at dksX4_fault_1 19 rfl rfl)
theorem dX4_fault_45 : decode cX4_fault 45 = .ok (.goto 30, 3) := dk_167 0 30 (dk_at dksX4_fault_1 21 rfl rfl)
theorem dX4_fault_48 : decode cX4_fault 48 = .ok (.iload_n 1, 1) := dk_27 (dk_at dksX4_fault_2 0 rfl rfl)
theorem dX4_fault_49 : decode cX4_fault 49 = .ok (.ifCond .ne 10, 3) := dk_154 0 10 (dk_at dksX4_fault_2 1 rfl rfl)
theorem dX4_fault_52 : decode cX4_fault 52 = .ok (.aload_n 0, 1) := dk_42 (dk_at dksX4_fault_2 4 rfl rfl)
theorem dX4_fault_53 : decode cX4_fault 53 = .ok (.getfield 167, 3) := dk_180 0 167 (dk_at dksX4_fault_2 5 rfl rfl)
theorem dX4_fault_56 : decode cX4_fault 56 = .ok (.goto 19, 3) := dk_167 0 19 (dk_at dksX4_fault_2 8 rfl rfl)
theorem dX4_fault_59 : decode cX4_fault 59 = .ok (.iload_n 1, 1) := dk_27 (dk_at dksX4_fault_2 11 rfl rfl)
theorem dX4_fault_60 : decode cX4_fault 60 = .ok (.iconst 1, 1) := dk_4 (dk_at dksX4_fault_2 12 rfl rfl)
theorem dX4_fault_61 : decode cX4_fault 61 = .ok (.if_icmp .ne 10, 3) := dk_160 0 10 (dk_at dksX4_fault_2 13 rfl rfl)
theorem dX4_fault_64 : decode cX4_fault 64 = .ok (.aload_n 0, 1) := dk_42 (dk_at dksX4_fault_2 16 rfl rfl)
theorem dX4_fault_65 : decode cX4_fault 65 = .ok (.getfield 180, 3) := dk_180 0 180 (dk_at dksX4_fault_2 17 rfl rfl)
theorem dX4_fault_68 : decode cX4_fault 68 = .ok (.goto 7, 3) := dk_167 0 7 (dk_at dksX4_fault_2 20 rfl rfl)
theorem dX4_fault_71 : decode cX4_fault 71 = .ok (.aload_n 0, 1) := dk_42 (dk_at dksX4_fault_2 23 rfl rfl)
theorem dX4_fault_72 : decode cX4_fault 72 = .ok (.getfield 183, 3) := dk_180 0 183 (dk_at dksX4_fault_3 0 rfl rfl)
theorem dX4_fault_75 : decode cX4_fault 75 = .ok (.ireturn, 1) := dk_172 (dk_at dksX4_fault_3 3 rfl rfl)
abbrev cX4_plays : ByteArray := prog_14_method_55_code
def yX4_plays : MethodName := ⟨RX4, "plays", "()Z"⟩
def dkwX4_plays_5 : List UInt8 := [4, 96, 181, 0, 170, 167, 255, 157, 42, 3, 181, 0, 32, 27, 172]
abbrev dktX4_plays_5 : List UInt8 := dkwX4_plays_5 ++ []
def dkwX4_plays_4 : List UInt8 := [153, 0, 7, 29, 167, 0, 12, 42, 180, 0, 129, 42, 180, 0, 167, 100, 181, 0, 183, 42, 89, 180, 0, 170]
abbrev dktX4_plays_4 : List UInt8 := dkwX4_plays_4 ++ dktX4_plays_5
def dkwX4_plays_3 : List UInt8 := [155, 0, 7, 4, 167, 0, 4, 3, 60, 42, 28, 153, 0, 7, 5, 167, 0, 4, 4, 181, 0, 180, 42, 28]
abbrev dktX4_plays_3 : List UInt8 := dkwX4_plays_3 ++ dktX4_plays_4
def dkwX4_plays_2 : List UInt8 := [182, 0, 173, 61, 28, 153, 0, 10, 42, 182, 0, 177, 167, 0, 4, 3, 62, 28, 153, 0, 11, 29]
abbrev dktX4_plays_2 : List UInt8 := dkwX4_plays_2 ++ dktX4_plays_3
def dkwX4_plays_1 : List UInt8 := [180, 0, 129, 42, 180, 0, 126, 162, 0, 94, 27, 153, 0, 90, 42, 42, 180, 0, 129, 181, 0, 167, 42]
abbrev dktX4_plays_1 : List UInt8 := dkwX4_plays_1 ++ dktX4_plays_2
def dkwX4_plays_0 : List UInt8 := [42, 4, 181, 0, 32, 42, 3, 181, 0, 129, 42, 3, 181, 0, 167, 42, 3, 181, 0, 170, 4, 60, 42]
abbrev dktX4_plays_0 : List UInt8 := dkwX4_plays_0 ++ dktX4_plays_1
theorem dksX4_plays_0 : cX4_plays.data.toList.drop 0 = dktX4_plays_0 := by decide +kernel
theorem dksX4_plays_1 : cX4_plays.data.toList.drop 23 = dktX4_plays_1 := dk_seg dksX4_plays_0 23 rfl rfl
theorem dksX4_plays_2 : cX4_plays.data.toList.drop 46 = dktX4_plays_2 := dk_seg dksX4_plays_1 23 rfl rfl
theorem dksX4_plays_3 : cX4_plays.data.toList.drop 68 = dktX4_plays_3 := dk_seg dksX4_plays_2 22 rfl rfl
theorem dksX4_plays_4 : cX4_plays.data.toList.drop 92 = dktX4_plays_4 := dk_seg dksX4_plays_3 24 rfl rfl
theorem dksX4_plays_5 : cX4_plays.data.toList.drop 116 = dktX4_plays_5 := dk_seg dksX4_plays_4 24 rfl rfl
theorem dX4_plays_0 : decode cX4_plays 0 = .ok (.aload_n 0, 1) := dk_42 (dk_at dksX4_plays_0 0 rfl rfl)
theorem dX4_plays_1 : decode cX4_plays 1 = .ok (.iconst 1, 1) := dk_4 (dk_at dksX4_plays_0 1 rfl rfl)
theorem dX4_plays_2 : decode cX4_plays 2 = .ok (.putfield 32, 3) := dk_181 0 32 (dk_at dksX4_plays_0 2 rfl rfl)
theorem dX4_plays_5 : decode cX4_plays 5 = .ok (.aload_n 0, 1) := dk_42 (dk_at dksX4_plays_0 5 rfl rfl)
theorem dX4_plays_6 : decode cX4_plays 6 = .ok (.iconst 0, 1) := dk_3 (dk_at dksX4_plays_0 6 rfl rfl)
theorem dX4_plays_7 : decode cX4_plays 7 = .ok (.putfield 129, 3) := dk_181 0 129 (dk_at dksX4_plays_0 7 rfl rfl)
theorem dX4_plays_10 : decode cX4_plays 10 = .ok (.aload_n 0, 1) := dk_42 (dk_at dksX4_plays_0 10 rfl rfl)
theorem dX4_plays_11 : decode cX4_plays 11 = .ok (.iconst 0, 1) := dk_3 (dk_at dksX4_plays_0 11 rfl rfl)
theorem dX4_plays_12 : decode cX4_plays 12 = .ok (.putfield 167, 3) := dk_181 0 167 (dk_at dksX4_plays_0 12 rfl rfl)
theorem dX4_plays_15 : decode cX4_plays 15 = .ok (.aload_n 0, 1) := dk_42 (dk_at dksX4_plays_0 15 rfl rfl)
theorem dX4_plays_16 : decode cX4_plays 16 = .ok (.iconst 0, 1) := dk_3 (dk_at dksX4_plays_0 16 rfl rfl)
theorem dX4_plays_17 : decode cX4_plays 17 = .ok (.putfield 170, 3) := dk_181 0 170 (dk_at dksX4_plays_0 17 rfl rfl)
theorem dX4_plays_20 : decode cX4_plays 20 = .ok (.iconst 1, 1) := dk_4 (dk_at dksX4_plays_0 20 rfl rfl)
theorem dX4_plays_21 : decode cX4_plays 21 = .ok (.istore_n 1, 1) := dk_60 (dk_at dksX4_plays_0 21 rfl rfl)
theorem dX4_plays_22 : decode cX4_plays 22 = .ok (.aload_n 0, 1) := dk_42 (dk_at dksX4_plays_0 22 rfl rfl)
theorem dX4_plays_23 : decode cX4_plays 23 = .ok (.getfield 129, 3) := dk_180 0 129 (dk_at dksX4_plays_1 0 rfl rfl)
theorem dX4_plays_26 : decode cX4_plays 26 = .ok (.aload_n 0, 1) := dk_42 (dk_at dksX4_plays_1 3 rfl rfl)
theorem dX4_plays_27 : decode cX4_plays 27 = .ok (.getfield 126, 3) := dk_180 0 126 (dk_at dksX4_plays_1 4 rfl rfl)
theorem dX4_plays_30 : decode cX4_plays 30 = .ok (.if_icmp .ge 94, 3) := dk_162 0 94 (dk_at dksX4_plays_1 7 rfl rfl)
theorem dX4_plays_33 : decode cX4_plays 33 = .ok (.iload_n 1, 1) := dk_27 (dk_at dksX4_plays_1 10 rfl rfl)
theorem dX4_plays_34 : decode cX4_plays 34 = .ok (.ifCond .eq 90, 3) := dk_153 0 90 (dk_at dksX4_plays_1 11 rfl rfl)
theorem dX4_plays_37 : decode cX4_plays 37 = .ok (.aload_n 0, 1) := dk_42 (dk_at dksX4_plays_1 14 rfl rfl)
theorem dX4_plays_38 : decode cX4_plays 38 = .ok (.aload_n 0, 1) := dk_42 (dk_at dksX4_plays_1 15 rfl rfl)
theorem dX4_plays_39 : decode cX4_plays 39 = .ok (.getfield 129, 3) := dk_180 0 129 (dk_at dksX4_plays_1 16 rfl rfl)
theorem dX4_plays_42 : decode cX4_plays 42 = .ok (.putfield 167, 3) := dk_181 0 167 (dk_at dksX4_plays_1 19 rfl rfl)
theorem dX4_plays_45 : decode cX4_plays 45 = .ok (.aload_n 0, 1) := dk_42 (dk_at dksX4_plays_1 22 rfl rfl)
theorem dX4_plays_46 : decode cX4_plays 46 = .ok (.invokevirtual 173, 3) := dk_182 0 173 (dk_at dksX4_plays_2 0 rfl rfl)
theorem dX4_plays_49 : decode cX4_plays 49 = .ok (.istore_n 2, 1) := dk_61 (dk_at dksX4_plays_2 3 rfl rfl)
theorem dX4_plays_50 : decode cX4_plays 50 = .ok (.iload_n 2, 1) := dk_28 (dk_at dksX4_plays_2 4 rfl rfl)
theorem dX4_plays_51 : decode cX4_plays 51 = .ok (.ifCond .eq 10, 3) := dk_153 0 10 (dk_at dksX4_plays_2 5 rfl rfl)
theorem dX4_plays_54 : decode cX4_plays 54 = .ok (.aload_n 0, 1) := dk_42 (dk_at dksX4_plays_2 8 rfl rfl)
theorem dX4_plays_55 : decode cX4_plays 55 = .ok (.invokevirtual 177, 3) := dk_182 0 177 (dk_at dksX4_plays_2 9 rfl rfl)
theorem dX4_plays_58 : decode cX4_plays 58 = .ok (.goto 4, 3) := dk_167 0 4 (dk_at dksX4_plays_2 12 rfl rfl)
theorem dX4_plays_61 : decode cX4_plays 61 = .ok (.iconst 0, 1) := dk_3 (dk_at dksX4_plays_2 15 rfl rfl)
theorem dX4_plays_62 : decode cX4_plays 62 = .ok (.istore_n 3, 1) := dk_62 (dk_at dksX4_plays_2 16 rfl rfl)
theorem dX4_plays_63 : decode cX4_plays 63 = .ok (.iload_n 2, 1) := dk_28 (dk_at dksX4_plays_2 17 rfl rfl)
theorem dX4_plays_64 : decode cX4_plays 64 = .ok (.ifCond .eq 11, 3) := dk_153 0 11 (dk_at dksX4_plays_2 18 rfl rfl)
theorem dX4_plays_67 : decode cX4_plays 67 = .ok (.iload_n 3, 1) := dk_29 (dk_at dksX4_plays_2 21 rfl rfl)
theorem dX4_plays_68 : decode cX4_plays 68 = .ok (.ifCond .lt 7, 3) := dk_155 0 7 (dk_at dksX4_plays_3 0 rfl rfl)
theorem dX4_plays_71 : decode cX4_plays 71 = .ok (.iconst 1, 1) := dk_4 (dk_at dksX4_plays_3 3 rfl rfl)
theorem dX4_plays_72 : decode cX4_plays 72 = .ok (.goto 4, 3) := dk_167 0 4 (dk_at dksX4_plays_3 4 rfl rfl)
theorem dX4_plays_75 : decode cX4_plays 75 = .ok (.iconst 0, 1) := dk_3 (dk_at dksX4_plays_3 7 rfl rfl)
theorem dX4_plays_76 : decode cX4_plays 76 = .ok (.istore_n 1, 1) := dk_60 (dk_at dksX4_plays_3 8 rfl rfl)
theorem dX4_plays_77 : decode cX4_plays 77 = .ok (.aload_n 0, 1) := dk_42 (dk_at dksX4_plays_3 9 rfl rfl)
theorem dX4_plays_78 : decode cX4_plays 78 = .ok (.iload_n 2, 1) := dk_28 (dk_at dksX4_plays_3 10 rfl rfl)
theorem dX4_plays_79 : decode cX4_plays 79 = .ok (.ifCond .eq 7, 3) := dk_153 0 7 (dk_at dksX4_plays_3 11 rfl rfl)
theorem dX4_plays_82 : decode cX4_plays 82 = .ok (.iconst 2, 1) := dk_5 (dk_at dksX4_plays_3 14 rfl rfl)
theorem dX4_plays_83 : decode cX4_plays 83 = .ok (.goto 4, 3) := dk_167 0 4 (dk_at dksX4_plays_3 15 rfl rfl)
theorem dX4_plays_86 : decode cX4_plays 86 = .ok (.iconst 1, 1) := dk_4 (dk_at dksX4_plays_3 18 rfl rfl)
theorem dX4_plays_87 : decode cX4_plays 87 = .ok (.putfield 180, 3) := dk_181 0 180 (dk_at dksX4_plays_3 19 rfl rfl)
theorem dX4_plays_90 : decode cX4_plays 90 = .ok (.aload_n 0, 1) := dk_42 (dk_at dksX4_plays_3 22 rfl rfl)
theorem dX4_plays_91 : decode cX4_plays 91 = .ok (.iload_n 2, 1) := dk_28 (dk_at dksX4_plays_3 23 rfl rfl)
theorem dX4_plays_92 : decode cX4_plays 92 = .ok (.ifCond .eq 7, 3) := dk_153 0 7 (dk_at dksX4_plays_4 0 rfl rfl)
theorem dX4_plays_95 : decode cX4_plays 95 = .ok (.iload_n 3, 1) := dk_29 (dk_at dksX4_plays_4 3 rfl rfl)
theorem dX4_plays_96 : decode cX4_plays 96 = .ok (.goto 12, 3) := dk_167 0 12 (dk_at dksX4_plays_4 4 rfl rfl)
theorem dX4_plays_99 : decode cX4_plays 99 = .ok (.aload_n 0, 1) := dk_42 (dk_at dksX4_plays_4 7 rfl rfl)
theorem dX4_plays_100 : decode cX4_plays 100 = .ok (.getfield 129, 3) := dk_180 0 129 (dk_at dksX4_plays_4 8 rfl rfl)
theorem dX4_plays_103 : decode cX4_plays 103 = .ok (.aload_n 0, 1) := dk_42 (dk_at dksX4_plays_4 11 rfl rfl)
theorem dX4_plays_104 : decode cX4_plays 104 = .ok (.getfield 167, 3) := dk_180 0 167 (dk_at dksX4_plays_4 12 rfl rfl)
theorem dX4_plays_107 : decode cX4_plays 107 = .ok (.isub, 1) := dk_100 (dk_at dksX4_plays_4 15 rfl rfl)
theorem dX4_plays_108 : decode cX4_plays 108 = .ok (.putfield 183, 3) := dk_181 0 183 (dk_at dksX4_plays_4 16 rfl rfl)
theorem dX4_plays_111 : decode cX4_plays 111 = .ok (.aload_n 0, 1) := dk_42 (dk_at dksX4_plays_4 19 rfl rfl)
theorem dX4_plays_112 : decode cX4_plays 112 = .ok (.dup, 1) := dk_89 (dk_at dksX4_plays_4 20 rfl rfl)
theorem dX4_plays_113 : decode cX4_plays 113 = .ok (.getfield 170, 3) := dk_180 0 170 (dk_at dksX4_plays_4 21 rfl rfl)
theorem dX4_plays_116 : decode cX4_plays 116 = .ok (.iconst 1, 1) := dk_4 (dk_at dksX4_plays_5 0 rfl rfl)
theorem dX4_plays_117 : decode cX4_plays 117 = .ok (.iadd, 1) := dk_96 (dk_at dksX4_plays_5 1 rfl rfl)
theorem dX4_plays_118 : decode cX4_plays 118 = .ok (.putfield 170, 3) := dk_181 0 170 (dk_at dksX4_plays_5 2 rfl rfl)
theorem dX4_plays_121 : decode cX4_plays 121 = .ok (.goto (-99), 3) := dk_167 255 157 (dk_at dksX4_plays_5 5 rfl rfl)
theorem dX4_plays_124 : decode cX4_plays 124 = .ok (.aload_n 0, 1) := dk_42 (dk_at dksX4_plays_5 8 rfl rfl)
theorem dX4_plays_125 : decode cX4_plays 125 = .ok (.iconst 0, 1) := dk_3 (dk_at dksX4_plays_5 9 rfl rfl)
theorem dX4_plays_126 : decode cX4_plays 126 = .ok (.putfield 32, 3) := dk_181 0 32 (dk_at dksX4_plays_5 10 rfl rfl)
theorem dX4_plays_129 : decode cX4_plays 129 = .ok (.iload_n 1, 1) := dk_27 (dk_at dksX4_plays_5 13 rfl rfl)
theorem dX4_plays_130 : decode cX4_plays 130 = .ok (.ireturn, 1) := dk_172 (dk_at dksX4_plays_5 14 rfl rfl)
abbrev cX4_parses : ByteArray := prog_14_method_53_code
def yX4_parses : MethodName := ⟨RX4, "parses", "()Z"⟩
def dkwX4_parses_4 : List UInt8 := [167, 255, 221, 28, 153, 0, 16, 42, 16, 59, 182, 0, 145, 153, 0, 7, 4, 167, 0, 4, 3, 172]
abbrev dktX4_parses_4 : List UInt8 := dkwX4_parses_4 ++ []
def dkwX4_parses_3 : List UInt8 := [182, 0, 145, 153, 0, 15, 42, 29, 182, 0, 142, 153, 0, 7, 4, 167, 0, 4, 3, 61, 132, 3, 1]
abbrev dktX4_parses_3 : List UInt8 := dkwX4_parses_3 ++ dktX4_parses_4
def dkwX4_parses_2 : List UInt8 := [96, 181, 0, 129, 42, 3, 182, 0, 142, 61, 4, 62, 29, 27, 162, 0, 36, 28, 153, 0, 32, 42, 16, 44]
abbrev dktX4_parses_2 : List UInt8 := dkwX4_parses_2 ++ dktX4_parses_3
def dkwX4_parses_1 : List UInt8 := [3, 181, 0, 136, 42, 180, 0, 136, 184, 0, 139, 60, 27, 154, 0, 5, 3, 172, 42, 89, 180, 0, 129, 4]
abbrev dktX4_parses_1 : List UInt8 := dkwX4_parses_1 ++ dktX4_parses_2
def dkwX4_parses_0 : List UInt8 := [42, 42, 16, 33, 16, 126, 182, 0, 132, 153, 0, 15, 42, 180, 0, 22, 42, 180, 0, 129, 46, 167, 0, 4]
abbrev dktX4_parses_0 : List UInt8 := dkwX4_parses_0 ++ dktX4_parses_1
theorem dksX4_parses_0 : cX4_parses.data.toList.drop 0 = dktX4_parses_0 := by decide +kernel
theorem dksX4_parses_1 : cX4_parses.data.toList.drop 24 = dktX4_parses_1 := dk_seg dksX4_parses_0 24 rfl rfl
theorem dksX4_parses_2 : cX4_parses.data.toList.drop 48 = dktX4_parses_2 := dk_seg dksX4_parses_1 24 rfl rfl
theorem dksX4_parses_3 : cX4_parses.data.toList.drop 72 = dktX4_parses_3 := dk_seg dksX4_parses_2 24 rfl rfl
theorem dksX4_parses_4 : cX4_parses.data.toList.drop 95 = dktX4_parses_4 := dk_seg dksX4_parses_3 23 rfl rfl
theorem dX4_parses_0 : decode cX4_parses 0 = .ok (.aload_n 0, 1) := dk_42 (dk_at dksX4_parses_0 0 rfl rfl)
theorem dX4_parses_1 : decode cX4_parses 1 = .ok (.aload_n 0, 1) := dk_42 (dk_at dksX4_parses_0 1 rfl rfl)
theorem dX4_parses_2 : decode cX4_parses 2 = .ok (.bipush 33, 2) := dk_16 33 (dk_at dksX4_parses_0 2 rfl rfl)
theorem dX4_parses_4 : decode cX4_parses 4 = .ok (.bipush 126, 2) := dk_16 126 (dk_at dksX4_parses_0 4 rfl rfl)
theorem dX4_parses_6 : decode cX4_parses 6 = .ok (.invokevirtual 132, 3) := dk_182 0 132 (dk_at dksX4_parses_0 6 rfl rfl)
theorem dX4_parses_9 : decode cX4_parses 9 = .ok (.ifCond .eq 15, 3) := dk_153 0 15 (dk_at dksX4_parses_0 9 rfl rfl)
theorem dX4_parses_12 : decode cX4_parses 12 = .ok (.aload_n 0, 1) := dk_42 (dk_at dksX4_parses_0 12 rfl rfl)
theorem dX4_parses_13 : decode cX4_parses 13 = .ok (.getfield 22, 3) := dk_180 0 22 (dk_at dksX4_parses_0 13 rfl rfl)
theorem dX4_parses_16 : decode cX4_parses 16 = .ok (.aload_n 0, 1) := dk_42 (dk_at dksX4_parses_0 16 rfl rfl)
theorem dX4_parses_17 : decode cX4_parses 17 = .ok (.getfield 129, 3) := dk_180 0 129 (dk_at dksX4_parses_0 17 rfl rfl)
theorem dX4_parses_20 : decode cX4_parses 20 = .ok (.iaload, 1) := dk_46 (dk_at dksX4_parses_0 20 rfl rfl)
theorem dX4_parses_21 : decode cX4_parses 21 = .ok (.goto 4, 3) := dk_167 0 4 (dk_at dksX4_parses_0 21 rfl rfl)
theorem dX4_parses_24 : decode cX4_parses 24 = .ok (.iconst 0, 1) := dk_3 (dk_at dksX4_parses_1 0 rfl rfl)
theorem dX4_parses_25 : decode cX4_parses 25 = .ok (.putfield 136, 3) := dk_181 0 136 (dk_at dksX4_parses_1 1 rfl rfl)
theorem dX4_parses_28 : decode cX4_parses 28 = .ok (.aload_n 0, 1) := dk_42 (dk_at dksX4_parses_1 4 rfl rfl)
theorem dX4_parses_29 : decode cX4_parses 29 = .ok (.getfield 136, 3) := dk_180 0 136 (dk_at dksX4_parses_1 5 rfl rfl)
theorem dX4_parses_32 : decode cX4_parses 32 = .ok (.invokestatic 139, 3) := dk_184 0 139 (dk_at dksX4_parses_1 8 rfl rfl)
theorem dX4_parses_35 : decode cX4_parses 35 = .ok (.istore_n 1, 1) := dk_60 (dk_at dksX4_parses_1 11 rfl rfl)
theorem dX4_parses_36 : decode cX4_parses 36 = .ok (.iload_n 1, 1) := dk_27 (dk_at dksX4_parses_1 12 rfl rfl)
theorem dX4_parses_37 : decode cX4_parses 37 = .ok (.ifCond .ne 5, 3) := dk_154 0 5 (dk_at dksX4_parses_1 13 rfl rfl)
theorem dX4_parses_40 : decode cX4_parses 40 = .ok (.iconst 0, 1) := dk_3 (dk_at dksX4_parses_1 16 rfl rfl)
theorem dX4_parses_41 : decode cX4_parses 41 = .ok (.ireturn, 1) := dk_172 (dk_at dksX4_parses_1 17 rfl rfl)
theorem dX4_parses_42 : decode cX4_parses 42 = .ok (.aload_n 0, 1) := dk_42 (dk_at dksX4_parses_1 18 rfl rfl)
theorem dX4_parses_43 : decode cX4_parses 43 = .ok (.dup, 1) := dk_89 (dk_at dksX4_parses_1 19 rfl rfl)
theorem dX4_parses_44 : decode cX4_parses 44 = .ok (.getfield 129, 3) := dk_180 0 129 (dk_at dksX4_parses_1 20 rfl rfl)
theorem dX4_parses_47 : decode cX4_parses 47 = .ok (.iconst 1, 1) := dk_4 (dk_at dksX4_parses_1 23 rfl rfl)
theorem dX4_parses_48 : decode cX4_parses 48 = .ok (.iadd, 1) := dk_96 (dk_at dksX4_parses_2 0 rfl rfl)
theorem dX4_parses_49 : decode cX4_parses 49 = .ok (.putfield 129, 3) := dk_181 0 129 (dk_at dksX4_parses_2 1 rfl rfl)
theorem dX4_parses_52 : decode cX4_parses 52 = .ok (.aload_n 0, 1) := dk_42 (dk_at dksX4_parses_2 4 rfl rfl)
theorem dX4_parses_53 : decode cX4_parses 53 = .ok (.iconst 0, 1) := dk_3 (dk_at dksX4_parses_2 5 rfl rfl)
theorem dX4_parses_54 : decode cX4_parses 54 = .ok (.invokevirtual 142, 3) := dk_182 0 142 (dk_at dksX4_parses_2 6 rfl rfl)
theorem dX4_parses_57 : decode cX4_parses 57 = .ok (.istore_n 2, 1) := dk_61 (dk_at dksX4_parses_2 9 rfl rfl)
theorem dX4_parses_58 : decode cX4_parses 58 = .ok (.iconst 1, 1) := dk_4 (dk_at dksX4_parses_2 10 rfl rfl)
theorem dX4_parses_59 : decode cX4_parses 59 = .ok (.istore_n 3, 1) := dk_62 (dk_at dksX4_parses_2 11 rfl rfl)
theorem dX4_parses_60 : decode cX4_parses 60 = .ok (.iload_n 3, 1) := dk_29 (dk_at dksX4_parses_2 12 rfl rfl)
theorem dX4_parses_61 : decode cX4_parses 61 = .ok (.iload_n 1, 1) := dk_27 (dk_at dksX4_parses_2 13 rfl rfl)
theorem dX4_parses_62 : decode cX4_parses 62 = .ok (.if_icmp .ge 36, 3) := dk_162 0 36 (dk_at dksX4_parses_2 14 rfl rfl)
theorem dX4_parses_65 : decode cX4_parses 65 = .ok (.iload_n 2, 1) := dk_28 (dk_at dksX4_parses_2 17 rfl rfl)
theorem dX4_parses_66 : decode cX4_parses 66 = .ok (.ifCond .eq 32, 3) := dk_153 0 32 (dk_at dksX4_parses_2 18 rfl rfl)
theorem dX4_parses_69 : decode cX4_parses 69 = .ok (.aload_n 0, 1) := dk_42 (dk_at dksX4_parses_2 21 rfl rfl)
theorem dX4_parses_70 : decode cX4_parses 70 = .ok (.bipush 44, 2) := dk_16 44 (dk_at dksX4_parses_2 22 rfl rfl)
theorem dX4_parses_72 : decode cX4_parses 72 = .ok (.invokevirtual 145, 3) := dk_182 0 145 (dk_at dksX4_parses_3 0 rfl rfl)
theorem dX4_parses_75 : decode cX4_parses 75 = .ok (.ifCond .eq 15, 3) := dk_153 0 15 (dk_at dksX4_parses_3 3 rfl rfl)
theorem dX4_parses_78 : decode cX4_parses 78 = .ok (.aload_n 0, 1) := dk_42 (dk_at dksX4_parses_3 6 rfl rfl)
theorem dX4_parses_79 : decode cX4_parses 79 = .ok (.iload_n 3, 1) := dk_29 (dk_at dksX4_parses_3 7 rfl rfl)
theorem dX4_parses_80 : decode cX4_parses 80 = .ok (.invokevirtual 142, 3) := dk_182 0 142 (dk_at dksX4_parses_3 8 rfl rfl)
theorem dX4_parses_83 : decode cX4_parses 83 = .ok (.ifCond .eq 7, 3) := dk_153 0 7 (dk_at dksX4_parses_3 11 rfl rfl)
theorem dX4_parses_86 : decode cX4_parses 86 = .ok (.iconst 1, 1) := dk_4 (dk_at dksX4_parses_3 14 rfl rfl)
theorem dX4_parses_87 : decode cX4_parses 87 = .ok (.goto 4, 3) := dk_167 0 4 (dk_at dksX4_parses_3 15 rfl rfl)
theorem dX4_parses_90 : decode cX4_parses 90 = .ok (.iconst 0, 1) := dk_3 (dk_at dksX4_parses_3 18 rfl rfl)
theorem dX4_parses_91 : decode cX4_parses 91 = .ok (.istore_n 2, 1) := dk_61 (dk_at dksX4_parses_3 19 rfl rfl)
theorem dX4_parses_92 : decode cX4_parses 92 = .ok (.iinc 3 1, 3) := dk_132 3 1 (dk_at dksX4_parses_3 20 rfl rfl)
theorem dX4_parses_95 : decode cX4_parses 95 = .ok (.goto (-35), 3) := dk_167 255 221 (dk_at dksX4_parses_4 0 rfl rfl)
theorem dX4_parses_98 : decode cX4_parses 98 = .ok (.iload_n 2, 1) := dk_28 (dk_at dksX4_parses_4 3 rfl rfl)
theorem dX4_parses_99 : decode cX4_parses 99 = .ok (.ifCond .eq 16, 3) := dk_153 0 16 (dk_at dksX4_parses_4 4 rfl rfl)
theorem dX4_parses_102 : decode cX4_parses 102 = .ok (.aload_n 0, 1) := dk_42 (dk_at dksX4_parses_4 7 rfl rfl)
theorem dX4_parses_103 : decode cX4_parses 103 = .ok (.bipush 59, 2) := dk_16 59 (dk_at dksX4_parses_4 8 rfl rfl)
theorem dX4_parses_105 : decode cX4_parses 105 = .ok (.invokevirtual 145, 3) := dk_182 0 145 (dk_at dksX4_parses_4 10 rfl rfl)
theorem dX4_parses_108 : decode cX4_parses 108 = .ok (.ifCond .eq 7, 3) := dk_153 0 7 (dk_at dksX4_parses_4 13 rfl rfl)
theorem dX4_parses_111 : decode cX4_parses 111 = .ok (.iconst 1, 1) := dk_4 (dk_at dksX4_parses_4 16 rfl rfl)
theorem dX4_parses_112 : decode cX4_parses 112 = .ok (.goto 4, 3) := dk_167 0 4 (dk_at dksX4_parses_4 17 rfl rfl)
theorem dX4_parses_115 : decode cX4_parses 115 = .ok (.iconst 0, 1) := dk_3 (dk_at dksX4_parses_4 20 rfl rfl)
theorem dX4_parses_116 : decode cX4_parses 116 = .ok (.ireturn, 1) := dk_172 (dk_at dksX4_parses_4 21 rfl rfl)
abbrev cX4_isAt : ByteArray := prog_14_method_49_code
def yX4_isAt : MethodName := ⟨RX4, "isAt", "(II)Z"⟩
def dkwX4_isAt_1 : List UInt8 := [184, 0, 40, 153, 0, 7, 4, 167, 0, 4, 3, 172]
abbrev dktX4_isAt_1 : List UInt8 := dkwX4_isAt_1 ++ []
def dkwX4_isAt_0 : List UInt8 := [42, 180, 0, 129, 42, 180, 0, 126, 162, 0, 24, 42, 180, 0, 22, 42, 180, 0, 129, 46, 27, 28]
abbrev dktX4_isAt_0 : List UInt8 := dkwX4_isAt_0 ++ dktX4_isAt_1
theorem dksX4_isAt_0 : cX4_isAt.data.toList.drop 0 = dktX4_isAt_0 := by decide +kernel
theorem dksX4_isAt_1 : cX4_isAt.data.toList.drop 22 = dktX4_isAt_1 := dk_seg dksX4_isAt_0 22 rfl rfl
theorem dX4_isAt_0 : decode cX4_isAt 0 = .ok (.aload_n 0, 1) := dk_42 (dk_at dksX4_isAt_0 0 rfl rfl)
theorem dX4_isAt_1 : decode cX4_isAt 1 = .ok (.getfield 129, 3) := dk_180 0 129 (dk_at dksX4_isAt_0 1 rfl rfl)
theorem dX4_isAt_4 : decode cX4_isAt 4 = .ok (.aload_n 0, 1) := dk_42 (dk_at dksX4_isAt_0 4 rfl rfl)
theorem dX4_isAt_5 : decode cX4_isAt 5 = .ok (.getfield 126, 3) := dk_180 0 126 (dk_at dksX4_isAt_0 5 rfl rfl)
theorem dX4_isAt_8 : decode cX4_isAt 8 = .ok (.if_icmp .ge 24, 3) := dk_162 0 24 (dk_at dksX4_isAt_0 8 rfl rfl)
theorem dX4_isAt_11 : decode cX4_isAt 11 = .ok (.aload_n 0, 1) := dk_42 (dk_at dksX4_isAt_0 11 rfl rfl)
theorem dX4_isAt_12 : decode cX4_isAt 12 = .ok (.getfield 22, 3) := dk_180 0 22 (dk_at dksX4_isAt_0 12 rfl rfl)
theorem dX4_isAt_15 : decode cX4_isAt 15 = .ok (.aload_n 0, 1) := dk_42 (dk_at dksX4_isAt_0 15 rfl rfl)
theorem dX4_isAt_16 : decode cX4_isAt 16 = .ok (.getfield 129, 3) := dk_180 0 129 (dk_at dksX4_isAt_0 16 rfl rfl)
theorem dX4_isAt_19 : decode cX4_isAt 19 = .ok (.iaload, 1) := dk_46 (dk_at dksX4_isAt_0 19 rfl rfl)
theorem dX4_isAt_20 : decode cX4_isAt 20 = .ok (.iload_n 1, 1) := dk_27 (dk_at dksX4_isAt_0 20 rfl rfl)
theorem dX4_isAt_21 : decode cX4_isAt 21 = .ok (.iload_n 2, 1) := dk_28 (dk_at dksX4_isAt_0 21 rfl rfl)
theorem dX4_isAt_22 : decode cX4_isAt 22 = .ok (.invokestatic 40, 3) := dk_184 0 40 (dk_at dksX4_isAt_1 0 rfl rfl)
theorem dX4_isAt_25 : decode cX4_isAt 25 = .ok (.ifCond .eq 7, 3) := dk_153 0 7 (dk_at dksX4_isAt_1 3 rfl rfl)
theorem dX4_isAt_28 : decode cX4_isAt 28 = .ok (.iconst 1, 1) := dk_4 (dk_at dksX4_isAt_1 6 rfl rfl)
theorem dX4_isAt_29 : decode cX4_isAt 29 = .ok (.goto 4, 3) := dk_167 0 4 (dk_at dksX4_isAt_1 7 rfl rfl)
theorem dX4_isAt_32 : decode cX4_isAt 32 = .ok (.iconst 0, 1) := dk_3 (dk_at dksX4_isAt_1 10 rfl rfl)
theorem dX4_isAt_33 : decode cX4_isAt 33 = .ok (.ireturn, 1) := dk_172 (dk_at dksX4_isAt_1 11 rfl rfl)
abbrev cX4_numbersOf : ByteArray := prog_14_method_52_code
def yX4_numbersOf : MethodName := ⟨RX4, "numbersOf", "(I)I"⟩
def dkwX4_numbersOf_2 : List UInt8 := [6, 172, 5, 172, 4, 172, 3, 172]
abbrev dktX4_numbersOf_2 : List UInt8 := dkwX4_numbersOf_2 ++ []
def dkwX4_numbersOf_1 : List UInt8 := [170, 0, 0, 0, 0, 0, 93, 0, 0, 0, 99, 0, 0, 0, 116, 0, 0, 0, 91, 0, 0, 0, 93, 0, 0, 0, 87, 0, 0, 0, 93, 0, 0, 0, 93, 0, 0, 0, 93, 0, 0, 0, 93, 0, 0, 0, 93, 0, 0, 0, 93, 0, 0, 0, 89, 0, 0, 0, 93, 0, 0, 0, 93, 0, 0, 0, 93, 0, 0, 0, 93, 0, 0, 0, 93, 0, 0, 0, 91, 0, 0, 0, 89, 0, 0, 0, 89]
abbrev dktX4_numbersOf_1 : List UInt8 := dkwX4_numbersOf_1 ++ dktX4_numbersOf_2
def dkwX4_numbersOf_0 : List UInt8 := [26]
abbrev dktX4_numbersOf_0 : List UInt8 := dkwX4_numbersOf_0 ++ dktX4_numbersOf_1
theorem dksX4_numbersOf_0 : cX4_numbersOf.data.toList.drop 0 = dktX4_numbersOf_0 := by decide +kernel
theorem dksX4_numbersOf_1 : cX4_numbersOf.data.toList.drop 1 = dktX4_numbersOf_1 := dk_seg dksX4_numbersOf_0 1 rfl rfl
theorem dksX4_numbersOf_2 : cX4_numbersOf.data.toList.drop 88 = dktX4_numbersOf_2 := dk_seg dksX4_numbersOf_1 87 rfl rfl
theorem dX4_numbersOf_0 : decode cX4_numbersOf 0 = .ok (.iload_n 0, 1) := dk_26 (dk_at dksX4_numbersOf_0 0 rfl rfl)
theorem dX4_numbersOf_1 : decode cX4_numbersOf 1 = .ok (.tableswitch 93 99 116 #[91, 93, 87, 93, 93, 93, 93, 93, 93, 89, 93, 93, 93, 93, 93, 91, 89, 89], 87) := by decide +kernel
theorem dX4_numbersOf_88 : decode cX4_numbersOf 88 = .ok (.iconst 3, 1) := dk_6 (dk_at dksX4_numbersOf_2 0 rfl rfl)
theorem dX4_numbersOf_89 : decode cX4_numbersOf 89 = .ok (.ireturn, 1) := dk_172 (dk_at dksX4_numbersOf_2 1 rfl rfl)
theorem dX4_numbersOf_90 : decode cX4_numbersOf 90 = .ok (.iconst 2, 1) := dk_5 (dk_at dksX4_numbersOf_2 2 rfl rfl)
theorem dX4_numbersOf_91 : decode cX4_numbersOf 91 = .ok (.ireturn, 1) := dk_172 (dk_at dksX4_numbersOf_2 3 rfl rfl)
theorem dX4_numbersOf_92 : decode cX4_numbersOf 92 = .ok (.iconst 1, 1) := dk_4 (dk_at dksX4_numbersOf_2 4 rfl rfl)
theorem dX4_numbersOf_93 : decode cX4_numbersOf 93 = .ok (.ireturn, 1) := dk_172 (dk_at dksX4_numbersOf_2 5 rfl rfl)
theorem dX4_numbersOf_94 : decode cX4_numbersOf 94 = .ok (.iconst 0, 1) := dk_3 (dk_at dksX4_numbersOf_2 6 rfl rfl)
theorem dX4_numbersOf_95 : decode cX4_numbersOf 95 = .ok (.ireturn, 1) := dk_172 (dk_at dksX4_numbersOf_2 7 rfl rfl)
abbrev cX4_numbered : ByteArray := prog_14_method_51_code
def yX4_numbered : MethodName := ⟨RX4, "numbered", "(I)Z"⟩
def dkwX4_numbered_3 : List UInt8 := [167, 255, 197, 42, 180, 0, 129, 28, 164, 0, 7, 4, 167, 0, 4, 3, 172]
abbrev dktX4_numbered_3 : List UInt8 := dkwX4_numbered_3 ++ []
def dkwX4_numbered_2 : List UInt8 := [180, 0, 22, 42, 180, 0, 129, 46, 96, 16, 48, 100, 79, 42, 89, 180, 0, 129, 4, 96, 181, 0, 129]
abbrev dktX4_numbered_2 : List UInt8 := dkwX4_numbered_2 ++ dktX4_numbered_3
def dkwX4_numbered_1 : List UInt8 := [180, 0, 129, 28, 100, 6, 162, 0, 44, 42, 180, 0, 25, 27, 16, 10, 42, 180, 0, 25, 27, 46, 104, 42]
abbrev dktX4_numbered_1 : List UInt8 := dkwX4_numbered_1 ++ dktX4_numbered_2
def dkwX4_numbered_0 : List UInt8 := [42, 180, 0, 129, 61, 42, 180, 0, 25, 27, 3, 79, 42, 16, 48, 16, 57, 182, 0, 132, 153, 0, 54, 42]
abbrev dktX4_numbered_0 : List UInt8 := dkwX4_numbered_0 ++ dktX4_numbered_1
theorem dksX4_numbered_0 : cX4_numbered.data.toList.drop 0 = dktX4_numbered_0 := by decide +kernel
theorem dksX4_numbered_1 : cX4_numbered.data.toList.drop 24 = dktX4_numbered_1 := dk_seg dksX4_numbered_0 24 rfl rfl
theorem dksX4_numbered_2 : cX4_numbered.data.toList.drop 48 = dktX4_numbered_2 := dk_seg dksX4_numbered_1 24 rfl rfl
theorem dksX4_numbered_3 : cX4_numbered.data.toList.drop 71 = dktX4_numbered_3 := dk_seg dksX4_numbered_2 23 rfl rfl
theorem dX4_numbered_0 : decode cX4_numbered 0 = .ok (.aload_n 0, 1) := dk_42 (dk_at dksX4_numbered_0 0 rfl rfl)
theorem dX4_numbered_1 : decode cX4_numbered 1 = .ok (.getfield 129, 3) := dk_180 0 129 (dk_at dksX4_numbered_0 1 rfl rfl)
theorem dX4_numbered_4 : decode cX4_numbered 4 = .ok (.istore_n 2, 1) := dk_61 (dk_at dksX4_numbered_0 4 rfl rfl)
theorem dX4_numbered_5 : decode cX4_numbered 5 = .ok (.aload_n 0, 1) := dk_42 (dk_at dksX4_numbered_0 5 rfl rfl)
theorem dX4_numbered_6 : decode cX4_numbered 6 = .ok (.getfield 25, 3) := dk_180 0 25 (dk_at dksX4_numbered_0 6 rfl rfl)
theorem dX4_numbered_9 : decode cX4_numbered 9 = .ok (.iload_n 1, 1) := dk_27 (dk_at dksX4_numbered_0 9 rfl rfl)
theorem dX4_numbered_10 : decode cX4_numbered 10 = .ok (.iconst 0, 1) := dk_3 (dk_at dksX4_numbered_0 10 rfl rfl)
theorem dX4_numbered_11 : decode cX4_numbered 11 = .ok (.iastore, 1) := dk_79 (dk_at dksX4_numbered_0 11 rfl rfl)
theorem dX4_numbered_12 : decode cX4_numbered 12 = .ok (.aload_n 0, 1) := dk_42 (dk_at dksX4_numbered_0 12 rfl rfl)
theorem dX4_numbered_13 : decode cX4_numbered 13 = .ok (.bipush 48, 2) := dk_16 48 (dk_at dksX4_numbered_0 13 rfl rfl)
theorem dX4_numbered_15 : decode cX4_numbered 15 = .ok (.bipush 57, 2) := dk_16 57 (dk_at dksX4_numbered_0 15 rfl rfl)
theorem dX4_numbered_17 : decode cX4_numbered 17 = .ok (.invokevirtual 132, 3) := dk_182 0 132 (dk_at dksX4_numbered_0 17 rfl rfl)
theorem dX4_numbered_20 : decode cX4_numbered 20 = .ok (.ifCond .eq 54, 3) := dk_153 0 54 (dk_at dksX4_numbered_0 20 rfl rfl)
theorem dX4_numbered_23 : decode cX4_numbered 23 = .ok (.aload_n 0, 1) := dk_42 (dk_at dksX4_numbered_0 23 rfl rfl)
theorem dX4_numbered_24 : decode cX4_numbered 24 = .ok (.getfield 129, 3) := dk_180 0 129 (dk_at dksX4_numbered_1 0 rfl rfl)
theorem dX4_numbered_27 : decode cX4_numbered 27 = .ok (.iload_n 2, 1) := dk_28 (dk_at dksX4_numbered_1 3 rfl rfl)
theorem dX4_numbered_28 : decode cX4_numbered 28 = .ok (.isub, 1) := dk_100 (dk_at dksX4_numbered_1 4 rfl rfl)
theorem dX4_numbered_29 : decode cX4_numbered 29 = .ok (.iconst 3, 1) := dk_6 (dk_at dksX4_numbered_1 5 rfl rfl)
theorem dX4_numbered_30 : decode cX4_numbered 30 = .ok (.if_icmp .ge 44, 3) := dk_162 0 44 (dk_at dksX4_numbered_1 6 rfl rfl)
theorem dX4_numbered_33 : decode cX4_numbered 33 = .ok (.aload_n 0, 1) := dk_42 (dk_at dksX4_numbered_1 9 rfl rfl)
theorem dX4_numbered_34 : decode cX4_numbered 34 = .ok (.getfield 25, 3) := dk_180 0 25 (dk_at dksX4_numbered_1 10 rfl rfl)
theorem dX4_numbered_37 : decode cX4_numbered 37 = .ok (.iload_n 1, 1) := dk_27 (dk_at dksX4_numbered_1 13 rfl rfl)
theorem dX4_numbered_38 : decode cX4_numbered 38 = .ok (.bipush 10, 2) := dk_16 10 (dk_at dksX4_numbered_1 14 rfl rfl)
theorem dX4_numbered_40 : decode cX4_numbered 40 = .ok (.aload_n 0, 1) := dk_42 (dk_at dksX4_numbered_1 16 rfl rfl)
theorem dX4_numbered_41 : decode cX4_numbered 41 = .ok (.getfield 25, 3) := dk_180 0 25 (dk_at dksX4_numbered_1 17 rfl rfl)
theorem dX4_numbered_44 : decode cX4_numbered 44 = .ok (.iload_n 1, 1) := dk_27 (dk_at dksX4_numbered_1 20 rfl rfl)
theorem dX4_numbered_45 : decode cX4_numbered 45 = .ok (.iaload, 1) := dk_46 (dk_at dksX4_numbered_1 21 rfl rfl)
theorem dX4_numbered_46 : decode cX4_numbered 46 = .ok (.imul, 1) := dk_104 (dk_at dksX4_numbered_1 22 rfl rfl)
theorem dX4_numbered_47 : decode cX4_numbered 47 = .ok (.aload_n 0, 1) := dk_42 (dk_at dksX4_numbered_1 23 rfl rfl)
theorem dX4_numbered_48 : decode cX4_numbered 48 = .ok (.getfield 22, 3) := dk_180 0 22 (dk_at dksX4_numbered_2 0 rfl rfl)
theorem dX4_numbered_51 : decode cX4_numbered 51 = .ok (.aload_n 0, 1) := dk_42 (dk_at dksX4_numbered_2 3 rfl rfl)
theorem dX4_numbered_52 : decode cX4_numbered 52 = .ok (.getfield 129, 3) := dk_180 0 129 (dk_at dksX4_numbered_2 4 rfl rfl)
theorem dX4_numbered_55 : decode cX4_numbered 55 = .ok (.iaload, 1) := dk_46 (dk_at dksX4_numbered_2 7 rfl rfl)
theorem dX4_numbered_56 : decode cX4_numbered 56 = .ok (.iadd, 1) := dk_96 (dk_at dksX4_numbered_2 8 rfl rfl)
theorem dX4_numbered_57 : decode cX4_numbered 57 = .ok (.bipush 48, 2) := dk_16 48 (dk_at dksX4_numbered_2 9 rfl rfl)
theorem dX4_numbered_59 : decode cX4_numbered 59 = .ok (.isub, 1) := dk_100 (dk_at dksX4_numbered_2 11 rfl rfl)
theorem dX4_numbered_60 : decode cX4_numbered 60 = .ok (.iastore, 1) := dk_79 (dk_at dksX4_numbered_2 12 rfl rfl)
theorem dX4_numbered_61 : decode cX4_numbered 61 = .ok (.aload_n 0, 1) := dk_42 (dk_at dksX4_numbered_2 13 rfl rfl)
theorem dX4_numbered_62 : decode cX4_numbered 62 = .ok (.dup, 1) := dk_89 (dk_at dksX4_numbered_2 14 rfl rfl)
theorem dX4_numbered_63 : decode cX4_numbered 63 = .ok (.getfield 129, 3) := dk_180 0 129 (dk_at dksX4_numbered_2 15 rfl rfl)
theorem dX4_numbered_66 : decode cX4_numbered 66 = .ok (.iconst 1, 1) := dk_4 (dk_at dksX4_numbered_2 18 rfl rfl)
theorem dX4_numbered_67 : decode cX4_numbered 67 = .ok (.iadd, 1) := dk_96 (dk_at dksX4_numbered_2 19 rfl rfl)
theorem dX4_numbered_68 : decode cX4_numbered 68 = .ok (.putfield 129, 3) := dk_181 0 129 (dk_at dksX4_numbered_2 20 rfl rfl)
theorem dX4_numbered_71 : decode cX4_numbered 71 = .ok (.goto (-59), 3) := dk_167 255 197 (dk_at dksX4_numbered_3 0 rfl rfl)
theorem dX4_numbered_74 : decode cX4_numbered 74 = .ok (.aload_n 0, 1) := dk_42 (dk_at dksX4_numbered_3 3 rfl rfl)
theorem dX4_numbered_75 : decode cX4_numbered 75 = .ok (.getfield 129, 3) := dk_180 0 129 (dk_at dksX4_numbered_3 4 rfl rfl)
theorem dX4_numbered_78 : decode cX4_numbered 78 = .ok (.iload_n 2, 1) := dk_28 (dk_at dksX4_numbered_3 7 rfl rfl)
theorem dX4_numbered_79 : decode cX4_numbered 79 = .ok (.if_icmp .le 7, 3) := dk_164 0 7 (dk_at dksX4_numbered_3 8 rfl rfl)
theorem dX4_numbered_82 : decode cX4_numbered 82 = .ok (.iconst 1, 1) := dk_4 (dk_at dksX4_numbered_3 11 rfl rfl)
theorem dX4_numbered_83 : decode cX4_numbered 83 = .ok (.goto 4, 3) := dk_167 0 4 (dk_at dksX4_numbered_3 12 rfl rfl)
theorem dX4_numbered_86 : decode cX4_numbered 86 = .ok (.iconst 0, 1) := dk_3 (dk_at dksX4_numbered_3 15 rfl rfl)
theorem dX4_numbered_87 : decode cX4_numbered 87 = .ok (.ireturn, 1) := dk_172 (dk_at dksX4_numbered_3 16 rfl rfl)
abbrev cX4_sign : ByteArray := prog_14_method_50_code
def yX4_sign : MethodName := ⟨RX4, "sign", "(I)Z"⟩
def dkwX4_sign_1 : List UInt8 := [181, 0, 129, 28, 172]
abbrev dktX4_sign_1 : List UInt8 := dkwX4_sign_1 ++ []
def dkwX4_sign_0 : List UInt8 := [42, 27, 27, 182, 0, 132, 61, 42, 89, 180, 0, 129, 28, 153, 0, 7, 4, 167, 0, 4, 3, 96]
abbrev dktX4_sign_0 : List UInt8 := dkwX4_sign_0 ++ dktX4_sign_1
theorem dksX4_sign_0 : cX4_sign.data.toList.drop 0 = dktX4_sign_0 := by decide +kernel
theorem dksX4_sign_1 : cX4_sign.data.toList.drop 22 = dktX4_sign_1 := dk_seg dksX4_sign_0 22 rfl rfl
theorem dX4_sign_0 : decode cX4_sign 0 = .ok (.aload_n 0, 1) := dk_42 (dk_at dksX4_sign_0 0 rfl rfl)
theorem dX4_sign_1 : decode cX4_sign 1 = .ok (.iload_n 1, 1) := dk_27 (dk_at dksX4_sign_0 1 rfl rfl)
theorem dX4_sign_2 : decode cX4_sign 2 = .ok (.iload_n 1, 1) := dk_27 (dk_at dksX4_sign_0 2 rfl rfl)
theorem dX4_sign_3 : decode cX4_sign 3 = .ok (.invokevirtual 132, 3) := dk_182 0 132 (dk_at dksX4_sign_0 3 rfl rfl)
theorem dX4_sign_6 : decode cX4_sign 6 = .ok (.istore_n 2, 1) := dk_61 (dk_at dksX4_sign_0 6 rfl rfl)
theorem dX4_sign_7 : decode cX4_sign 7 = .ok (.aload_n 0, 1) := dk_42 (dk_at dksX4_sign_0 7 rfl rfl)
theorem dX4_sign_8 : decode cX4_sign 8 = .ok (.dup, 1) := dk_89 (dk_at dksX4_sign_0 8 rfl rfl)
theorem dX4_sign_9 : decode cX4_sign 9 = .ok (.getfield 129, 3) := dk_180 0 129 (dk_at dksX4_sign_0 9 rfl rfl)
theorem dX4_sign_12 : decode cX4_sign 12 = .ok (.iload_n 2, 1) := dk_28 (dk_at dksX4_sign_0 12 rfl rfl)
theorem dX4_sign_13 : decode cX4_sign 13 = .ok (.ifCond .eq 7, 3) := dk_153 0 7 (dk_at dksX4_sign_0 13 rfl rfl)
theorem dX4_sign_16 : decode cX4_sign 16 = .ok (.iconst 1, 1) := dk_4 (dk_at dksX4_sign_0 16 rfl rfl)
theorem dX4_sign_17 : decode cX4_sign 17 = .ok (.goto 4, 3) := dk_167 0 4 (dk_at dksX4_sign_0 17 rfl rfl)
theorem dX4_sign_20 : decode cX4_sign 20 = .ok (.iconst 0, 1) := dk_3 (dk_at dksX4_sign_0 20 rfl rfl)
theorem dX4_sign_21 : decode cX4_sign 21 = .ok (.iadd, 1) := dk_96 (dk_at dksX4_sign_0 21 rfl rfl)
theorem dX4_sign_22 : decode cX4_sign 22 = .ok (.putfield 129, 3) := dk_181 0 129 (dk_at dksX4_sign_1 0 rfl rfl)
theorem dX4_sign_25 : decode cX4_sign 25 = .ok (.iload_n 2, 1) := dk_28 (dk_at dksX4_sign_1 3 rfl rfl)
theorem dX4_sign_26 : decode cX4_sign 26 = .ok (.ireturn, 1) := dk_172 (dk_at dksX4_sign_1 4 rfl rfl)
abbrev cX4_does : ByteArray := prog_14_method_54_code
def yX4_does : MethodName := ⟨RX4, "does", "()I"⟩
def dkwX4_does_6 : List UInt8 := [180, 0, 25, 3, 46, 182, 0, 164, 172]
abbrev dktX4_does_6 : List UInt8 := dkwX4_does_6 ++ []
def dkwX4_does_5 : List UInt8 := [180, 0, 25, 4, 46, 182, 0, 158, 172, 42, 42, 180, 0, 25, 3, 46, 182, 0, 161, 172, 42, 42]
abbrev dktX4_does_5 : List UInt8 := dkwX4_does_5 ++ dktX4_does_6
def dkwX4_does_4 : List UInt8 := [180, 0, 25, 3, 46, 42, 180, 0, 25, 4, 46, 182, 0, 155, 172, 42, 42, 180, 0, 25, 3, 46, 42]
abbrev dktX4_does_4 : List UInt8 := dkwX4_does_4 ++ dktX4_does_5
def dkwX4_does_3 : List UInt8 := [182, 0, 148, 172, 42, 42, 180, 0, 25, 3, 46, 42, 180, 0, 25, 4, 46, 182, 0, 152, 172, 42, 42]
abbrev dktX4_does_3 : List UInt8 := dkwX4_does_3 ++ dktX4_does_4
def dkwX4_does_2 : List UInt8 := [42, 42, 180, 0, 25, 3, 46, 42, 180, 0, 25, 4, 46, 42, 180, 0, 25, 5, 46, 3, 4, 2]
abbrev dktX4_does_2 : List UInt8 := dkwX4_does_2 ++ dktX4_does_3
def dkwX4_does_1 : List UInt8 := [171, 0, 0, 0, 0, 0, 0, 140, 0, 0, 0, 5, 0, 0, 0, 99, 0, 0, 0, 129, 0, 0, 0, 101, 0, 0, 0, 52, 0, 0, 0, 108, 0, 0, 0, 95, 0, 0, 0, 115, 0, 0, 0, 78, 0, 0, 0, 116, 0, 0, 0, 112]
abbrev dktX4_does_1 : List UInt8 := dkwX4_does_1 ++ dktX4_does_2
def dkwX4_does_0 : List UInt8 := [42, 180, 0, 136]
abbrev dktX4_does_0 : List UInt8 := dkwX4_does_0 ++ dktX4_does_1
theorem dksX4_does_0 : cX4_does.data.toList.drop 0 = dktX4_does_0 := by decide +kernel
theorem dksX4_does_1 : cX4_does.data.toList.drop 4 = dktX4_does_1 := dk_seg dksX4_does_0 4 rfl rfl
theorem dksX4_does_2 : cX4_does.data.toList.drop 56 = dktX4_does_2 := dk_seg dksX4_does_1 52 rfl rfl
theorem dksX4_does_3 : cX4_does.data.toList.drop 78 = dktX4_does_3 := dk_seg dksX4_does_2 22 rfl rfl
theorem dksX4_does_4 : cX4_does.data.toList.drop 101 = dktX4_does_4 := dk_seg dksX4_does_3 23 rfl rfl
theorem dksX4_does_5 : cX4_does.data.toList.drop 124 = dktX4_does_5 := dk_seg dksX4_does_4 23 rfl rfl
theorem dksX4_does_6 : cX4_does.data.toList.drop 146 = dktX4_does_6 := dk_seg dksX4_does_5 22 rfl rfl
theorem dX4_does_0 : decode cX4_does 0 = .ok (.aload_n 0, 1) := dk_42 (dk_at dksX4_does_0 0 rfl rfl)
theorem dX4_does_1 : decode cX4_does 1 = .ok (.getfield 136, 3) := dk_180 0 136 (dk_at dksX4_does_0 1 rfl rfl)
theorem dX4_does_4 : decode cX4_does 4 = .ok (.lookupswitch 140 #[(99, 129), (101, 52), (108, 95), (115, 78), (116, 112)], 52) := by decide +kernel
theorem dX4_does_56 : decode cX4_does 56 = .ok (.aload_n 0, 1) := dk_42 (dk_at dksX4_does_2 0 rfl rfl)
theorem dX4_does_57 : decode cX4_does 57 = .ok (.aload_n 0, 1) := dk_42 (dk_at dksX4_does_2 1 rfl rfl)
theorem dX4_does_58 : decode cX4_does 58 = .ok (.getfield 25, 3) := dk_180 0 25 (dk_at dksX4_does_2 2 rfl rfl)
theorem dX4_does_61 : decode cX4_does 61 = .ok (.iconst 0, 1) := dk_3 (dk_at dksX4_does_2 5 rfl rfl)
theorem dX4_does_62 : decode cX4_does 62 = .ok (.iaload, 1) := dk_46 (dk_at dksX4_does_2 6 rfl rfl)
theorem dX4_does_63 : decode cX4_does 63 = .ok (.aload_n 0, 1) := dk_42 (dk_at dksX4_does_2 7 rfl rfl)
theorem dX4_does_64 : decode cX4_does 64 = .ok (.getfield 25, 3) := dk_180 0 25 (dk_at dksX4_does_2 8 rfl rfl)
theorem dX4_does_67 : decode cX4_does 67 = .ok (.iconst 1, 1) := dk_4 (dk_at dksX4_does_2 11 rfl rfl)
theorem dX4_does_68 : decode cX4_does 68 = .ok (.iaload, 1) := dk_46 (dk_at dksX4_does_2 12 rfl rfl)
theorem dX4_does_69 : decode cX4_does 69 = .ok (.aload_n 0, 1) := dk_42 (dk_at dksX4_does_2 13 rfl rfl)
theorem dX4_does_70 : decode cX4_does 70 = .ok (.getfield 25, 3) := dk_180 0 25 (dk_at dksX4_does_2 14 rfl rfl)
theorem dX4_does_73 : decode cX4_does 73 = .ok (.iconst 2, 1) := dk_5 (dk_at dksX4_does_2 17 rfl rfl)
theorem dX4_does_74 : decode cX4_does 74 = .ok (.iaload, 1) := dk_46 (dk_at dksX4_does_2 18 rfl rfl)
theorem dX4_does_75 : decode cX4_does 75 = .ok (.iconst 0, 1) := dk_3 (dk_at dksX4_does_2 19 rfl rfl)
theorem dX4_does_76 : decode cX4_does 76 = .ok (.iconst 1, 1) := dk_4 (dk_at dksX4_does_2 20 rfl rfl)
theorem dX4_does_77 : decode cX4_does 77 = .ok (.iconst (-1), 1) := dk_2 (dk_at dksX4_does_2 21 rfl rfl)
theorem dX4_does_78 : decode cX4_does 78 = .ok (.invokevirtual 148, 3) := dk_182 0 148 (dk_at dksX4_does_3 0 rfl rfl)
theorem dX4_does_81 : decode cX4_does 81 = .ok (.ireturn, 1) := dk_172 (dk_at dksX4_does_3 3 rfl rfl)
theorem dX4_does_82 : decode cX4_does 82 = .ok (.aload_n 0, 1) := dk_42 (dk_at dksX4_does_3 4 rfl rfl)
theorem dX4_does_83 : decode cX4_does 83 = .ok (.aload_n 0, 1) := dk_42 (dk_at dksX4_does_3 5 rfl rfl)
theorem dX4_does_84 : decode cX4_does 84 = .ok (.getfield 25, 3) := dk_180 0 25 (dk_at dksX4_does_3 6 rfl rfl)
theorem dX4_does_87 : decode cX4_does 87 = .ok (.iconst 0, 1) := dk_3 (dk_at dksX4_does_3 9 rfl rfl)
theorem dX4_does_88 : decode cX4_does 88 = .ok (.iaload, 1) := dk_46 (dk_at dksX4_does_3 10 rfl rfl)
theorem dX4_does_89 : decode cX4_does 89 = .ok (.aload_n 0, 1) := dk_42 (dk_at dksX4_does_3 11 rfl rfl)
theorem dX4_does_90 : decode cX4_does 90 = .ok (.getfield 25, 3) := dk_180 0 25 (dk_at dksX4_does_3 12 rfl rfl)
theorem dX4_does_93 : decode cX4_does 93 = .ok (.iconst 1, 1) := dk_4 (dk_at dksX4_does_3 15 rfl rfl)
theorem dX4_does_94 : decode cX4_does 94 = .ok (.iaload, 1) := dk_46 (dk_at dksX4_does_3 16 rfl rfl)
theorem dX4_does_95 : decode cX4_does 95 = .ok (.invokevirtual 152, 3) := dk_182 0 152 (dk_at dksX4_does_3 17 rfl rfl)
theorem dX4_does_98 : decode cX4_does 98 = .ok (.ireturn, 1) := dk_172 (dk_at dksX4_does_3 20 rfl rfl)
theorem dX4_does_99 : decode cX4_does 99 = .ok (.aload_n 0, 1) := dk_42 (dk_at dksX4_does_3 21 rfl rfl)
theorem dX4_does_100 : decode cX4_does 100 = .ok (.aload_n 0, 1) := dk_42 (dk_at dksX4_does_3 22 rfl rfl)
theorem dX4_does_101 : decode cX4_does 101 = .ok (.getfield 25, 3) := dk_180 0 25 (dk_at dksX4_does_4 0 rfl rfl)
theorem dX4_does_104 : decode cX4_does 104 = .ok (.iconst 0, 1) := dk_3 (dk_at dksX4_does_4 3 rfl rfl)
theorem dX4_does_105 : decode cX4_does 105 = .ok (.iaload, 1) := dk_46 (dk_at dksX4_does_4 4 rfl rfl)
theorem dX4_does_106 : decode cX4_does 106 = .ok (.aload_n 0, 1) := dk_42 (dk_at dksX4_does_4 5 rfl rfl)
theorem dX4_does_107 : decode cX4_does 107 = .ok (.getfield 25, 3) := dk_180 0 25 (dk_at dksX4_does_4 6 rfl rfl)
theorem dX4_does_110 : decode cX4_does 110 = .ok (.iconst 1, 1) := dk_4 (dk_at dksX4_does_4 9 rfl rfl)
theorem dX4_does_111 : decode cX4_does 111 = .ok (.iaload, 1) := dk_46 (dk_at dksX4_does_4 10 rfl rfl)
theorem dX4_does_112 : decode cX4_does 112 = .ok (.invokevirtual 155, 3) := dk_182 0 155 (dk_at dksX4_does_4 11 rfl rfl)
theorem dX4_does_115 : decode cX4_does 115 = .ok (.ireturn, 1) := dk_172 (dk_at dksX4_does_4 14 rfl rfl)
theorem dX4_does_116 : decode cX4_does 116 = .ok (.aload_n 0, 1) := dk_42 (dk_at dksX4_does_4 15 rfl rfl)
theorem dX4_does_117 : decode cX4_does 117 = .ok (.aload_n 0, 1) := dk_42 (dk_at dksX4_does_4 16 rfl rfl)
theorem dX4_does_118 : decode cX4_does 118 = .ok (.getfield 25, 3) := dk_180 0 25 (dk_at dksX4_does_4 17 rfl rfl)
theorem dX4_does_121 : decode cX4_does 121 = .ok (.iconst 0, 1) := dk_3 (dk_at dksX4_does_4 20 rfl rfl)
theorem dX4_does_122 : decode cX4_does 122 = .ok (.iaload, 1) := dk_46 (dk_at dksX4_does_4 21 rfl rfl)
theorem dX4_does_123 : decode cX4_does 123 = .ok (.aload_n 0, 1) := dk_42 (dk_at dksX4_does_4 22 rfl rfl)
theorem dX4_does_124 : decode cX4_does 124 = .ok (.getfield 25, 3) := dk_180 0 25 (dk_at dksX4_does_5 0 rfl rfl)
theorem dX4_does_127 : decode cX4_does 127 = .ok (.iconst 1, 1) := dk_4 (dk_at dksX4_does_5 3 rfl rfl)
theorem dX4_does_128 : decode cX4_does 128 = .ok (.iaload, 1) := dk_46 (dk_at dksX4_does_5 4 rfl rfl)
theorem dX4_does_129 : decode cX4_does 129 = .ok (.invokevirtual 158, 3) := dk_182 0 158 (dk_at dksX4_does_5 5 rfl rfl)
theorem dX4_does_132 : decode cX4_does 132 = .ok (.ireturn, 1) := dk_172 (dk_at dksX4_does_5 8 rfl rfl)
theorem dX4_does_133 : decode cX4_does 133 = .ok (.aload_n 0, 1) := dk_42 (dk_at dksX4_does_5 9 rfl rfl)
theorem dX4_does_134 : decode cX4_does 134 = .ok (.aload_n 0, 1) := dk_42 (dk_at dksX4_does_5 10 rfl rfl)
theorem dX4_does_135 : decode cX4_does 135 = .ok (.getfield 25, 3) := dk_180 0 25 (dk_at dksX4_does_5 11 rfl rfl)
theorem dX4_does_138 : decode cX4_does 138 = .ok (.iconst 0, 1) := dk_3 (dk_at dksX4_does_5 14 rfl rfl)
theorem dX4_does_139 : decode cX4_does 139 = .ok (.iaload, 1) := dk_46 (dk_at dksX4_does_5 15 rfl rfl)
theorem dX4_does_140 : decode cX4_does 140 = .ok (.invokevirtual 161, 3) := dk_182 0 161 (dk_at dksX4_does_5 16 rfl rfl)
theorem dX4_does_143 : decode cX4_does 143 = .ok (.ireturn, 1) := dk_172 (dk_at dksX4_does_5 19 rfl rfl)
theorem dX4_does_144 : decode cX4_does 144 = .ok (.aload_n 0, 1) := dk_42 (dk_at dksX4_does_5 20 rfl rfl)
theorem dX4_does_145 : decode cX4_does 145 = .ok (.aload_n 0, 1) := dk_42 (dk_at dksX4_does_5 21 rfl rfl)
theorem dX4_does_146 : decode cX4_does 146 = .ok (.getfield 25, 3) := dk_180 0 25 (dk_at dksX4_does_6 0 rfl rfl)
theorem dX4_does_149 : decode cX4_does 149 = .ok (.iconst 0, 1) := dk_3 (dk_at dksX4_does_6 3 rfl rfl)
theorem dX4_does_150 : decode cX4_does 150 = .ok (.iaload, 1) := dk_46 (dk_at dksX4_does_6 4 rfl rfl)
theorem dX4_does_151 : decode cX4_does 151 = .ok (.invokevirtual 164, 3) := dk_182 0 164 (dk_at dksX4_does_6 5 rfl rfl)
theorem dX4_does_154 : decode cX4_does 154 = .ok (.ireturn, 1) := dk_172 (dk_at dksX4_does_6 8 rfl rfl)
abbrev cX4_play : ByteArray := prog_14_method_57_code
def yX4_play : MethodName := ⟨RX4, "play", "()I"⟩
def dkwX4_play_2 : List UInt8 := [180, 0, 170, 167, 0, 5, 18, 112, 172]
abbrev dktX4_play_2 : List UInt8 := dkwX4_play_2 ++ []
def dkwX4_play_1 : List UInt8 := [184, 0, 113, 27, 154, 0, 6, 18, 105, 172, 42, 182, 0, 102, 42, 182, 0, 186, 153, 0, 10, 42]
abbrev dktX4_play_1 : List UInt8 := dkwX4_play_1 ++ dktX4_play_2
def dkwX4_play_0 : List UInt8 := [42, 180, 0, 7, 42, 180, 0, 16, 184, 0, 113, 42, 182, 0, 186, 60, 42, 180, 0, 16, 42, 180, 0, 7]
abbrev dktX4_play_0 : List UInt8 := dkwX4_play_0 ++ dktX4_play_1
theorem dksX4_play_0 : cX4_play.data.toList.drop 0 = dktX4_play_0 := by decide +kernel
theorem dksX4_play_1 : cX4_play.data.toList.drop 24 = dktX4_play_1 := dk_seg dksX4_play_0 24 rfl rfl
theorem dksX4_play_2 : cX4_play.data.toList.drop 46 = dktX4_play_2 := dk_seg dksX4_play_1 22 rfl rfl
theorem dX4_play_0 : decode cX4_play 0 = .ok (.aload_n 0, 1) := dk_42 (dk_at dksX4_play_0 0 rfl rfl)
theorem dX4_play_1 : decode cX4_play 1 = .ok (.getfield 7, 3) := dk_180 0 7 (dk_at dksX4_play_0 1 rfl rfl)
theorem dX4_play_4 : decode cX4_play 4 = .ok (.aload_n 0, 1) := dk_42 (dk_at dksX4_play_0 4 rfl rfl)
theorem dX4_play_5 : decode cX4_play 5 = .ok (.getfield 16, 3) := dk_180 0 16 (dk_at dksX4_play_0 5 rfl rfl)
theorem dX4_play_8 : decode cX4_play 8 = .ok (.invokestatic 113, 3) := dk_184 0 113 (dk_at dksX4_play_0 8 rfl rfl)
theorem dX4_play_11 : decode cX4_play 11 = .ok (.aload_n 0, 1) := dk_42 (dk_at dksX4_play_0 11 rfl rfl)
theorem dX4_play_12 : decode cX4_play 12 = .ok (.invokevirtual 186, 3) := dk_182 0 186 (dk_at dksX4_play_0 12 rfl rfl)
theorem dX4_play_15 : decode cX4_play 15 = .ok (.istore_n 1, 1) := dk_60 (dk_at dksX4_play_0 15 rfl rfl)
theorem dX4_play_16 : decode cX4_play 16 = .ok (.aload_n 0, 1) := dk_42 (dk_at dksX4_play_0 16 rfl rfl)
theorem dX4_play_17 : decode cX4_play 17 = .ok (.getfield 16, 3) := dk_180 0 16 (dk_at dksX4_play_0 17 rfl rfl)
theorem dX4_play_20 : decode cX4_play 20 = .ok (.aload_n 0, 1) := dk_42 (dk_at dksX4_play_0 20 rfl rfl)
theorem dX4_play_21 : decode cX4_play 21 = .ok (.getfield 7, 3) := dk_180 0 7 (dk_at dksX4_play_0 21 rfl rfl)
theorem dX4_play_24 : decode cX4_play 24 = .ok (.invokestatic 113, 3) := dk_184 0 113 (dk_at dksX4_play_1 0 rfl rfl)
theorem dX4_play_27 : decode cX4_play 27 = .ok (.iload_n 1, 1) := dk_27 (dk_at dksX4_play_1 3 rfl rfl)
theorem dX4_play_28 : decode cX4_play 28 = .ok (.ifCond .ne 6, 3) := dk_154 0 6 (dk_at dksX4_play_1 4 rfl rfl)
theorem dX4_play_31 : decode cX4_play 31 = .ok (.ldc 105, 2) := dk_18 105 (dk_at dksX4_play_1 7 rfl rfl)
theorem dX4_play_33 : decode cX4_play 33 = .ok (.ireturn, 1) := dk_172 (dk_at dksX4_play_1 9 rfl rfl)
theorem dX4_play_34 : decode cX4_play 34 = .ok (.aload_n 0, 1) := dk_42 (dk_at dksX4_play_1 10 rfl rfl)
theorem dX4_play_35 : decode cX4_play 35 = .ok (.invokevirtual 102, 3) := dk_182 0 102 (dk_at dksX4_play_1 11 rfl rfl)
theorem dX4_play_38 : decode cX4_play 38 = .ok (.aload_n 0, 1) := dk_42 (dk_at dksX4_play_1 14 rfl rfl)
theorem dX4_play_39 : decode cX4_play 39 = .ok (.invokevirtual 186, 3) := dk_182 0 186 (dk_at dksX4_play_1 15 rfl rfl)
theorem dX4_play_42 : decode cX4_play 42 = .ok (.ifCond .eq 10, 3) := dk_153 0 10 (dk_at dksX4_play_1 18 rfl rfl)
theorem dX4_play_45 : decode cX4_play 45 = .ok (.aload_n 0, 1) := dk_42 (dk_at dksX4_play_1 21 rfl rfl)
theorem dX4_play_46 : decode cX4_play 46 = .ok (.getfield 170, 3) := dk_180 0 170 (dk_at dksX4_play_2 0 rfl rfl)
theorem dX4_play_49 : decode cX4_play 49 = .ok (.goto 5, 3) := dk_167 0 5 (dk_at dksX4_play_2 3 rfl rfl)
theorem dX4_play_52 : decode cX4_play 52 = .ok (.ldc 112, 2) := dk_18 112 (dk_at dksX4_play_2 6 rfl rfl)
theorem dX4_play_54 : decode cX4_play 54 = .ok (.ireturn, 1) := dk_172 (dk_at dksX4_play_2 8 rfl rfl)
theorem q67 : (Jvm.Cond.initialized "EggLightsModel") ∈ lw_all := lw_g (lw_at lw_m1 19 rfl) rfl
theorem q248 : (Jvm.Cond.selects "EggLightsModel" ({ cls := "java/lang/Object", name := "getClass", desc := "()Ljava/lang/Class;" } : Jvm.MethodName) ({ cls := "java/lang/Object", name := "getClass", desc := "()Ljava/lang/Class;" } : Jvm.MethodName)) ∈ lw_all := lw_g (lw_at lw_m1 200 rfl) rfl
theorem q1663 : (Jvm.Cond.instantiable "EggLightsModel" (15 : Nat)) ∈ lw_all := lw_g (lw_at lw_m7 175 rfl) rfl
theorem q1665 : (Jvm.Cond.instanceMethod ({ cls := "EggLightsModel", name := "<init>", desc := "()V" } : Jvm.MethodName)) ∈ lw_all := lw_g (lw_at lw_m7 177 rfl) rfl
theorem q1666 : (Jvm.Cond.code ({ cls := "EggLightsModel", name := "<init>", desc := "()V" } : Jvm.MethodName) prog_14_method_1_code (2 : Nat) (Option.none : Option Jvm.ClassFile.FieldType)) ∈ lw_all := lw_g (lw_at lw_m7 178 rfl) rfl
theorem q1667 : (Jvm.Cond.methodLink "EggLightsModel" (1 : Nat) ({ cls := "java/lang/Object", name := "<init>", desc := "()V" } : Jvm.MethodName)) ∈ lw_all := lw_g (lw_at lw_m7 179 rfl) rfl
theorem q1668 : (Jvm.Cond.methodLink "EggLightsModel" (28 : Nat) ({ cls := "EggLightsModel", name := "laneAt", desc := "(I)I" } : Jvm.MethodName)) ∈ lw_all := lw_g (lw_at lw_m7 180 rfl) rfl
theorem q1669 : (Jvm.Cond.static ({ cls := "EggLightsModel", name := "laneAt", desc := "(I)I" } : Jvm.MethodName)) ∈ lw_all := lw_g (lw_at lw_m7 181 rfl) rfl
theorem q1670 : (Jvm.Cond.code ({ cls := "EggLightsModel", name := "laneAt", desc := "(I)I" } : Jvm.MethodName) prog_14_method_7_code (1 : Nat) (Option.some Jvm.ClassFile.FieldType.int)) ∈ lw_all := lw_g (lw_at lw_m7 182 rfl) rfl
theorem q1671 : (Jvm.Cond.fieldLink "EggLightsModel" (7 : Nat) "EggLightsModel" "s" "[I") ∈ lw_all := lw_g (lw_at lw_m7 183 rfl) rfl
theorem q1672 : (Jvm.Cond.fieldLink "EggLightsModel" (13 : Nat) "EggLightsModel" "past" "[I") ∈ lw_all := lw_g (lw_at lw_m7 184 rfl) rfl
theorem q1673 : (Jvm.Cond.fieldLink "EggLightsModel" (16 : Nat) "EggLightsModel" "held" "[I") ∈ lw_all := lw_g (lw_at lw_m7 185 rfl) rfl
theorem q1674 : (Jvm.Cond.fieldLink "EggLightsModel" (19 : Nat) "EggLightsModel" "spare" "[I") ∈ lw_all := lw_g (lw_at lw_m7 186 rfl) rfl
theorem q1675 : (Jvm.Cond.fieldLink "EggLightsModel" (36 : Nat) "EggLightsModel" "pasts" "I") ∈ lw_all := lw_g (lw_at lw_m7 187 rfl) rfl
theorem q1676 : (Jvm.Cond.fieldLink "EggLightsModel" (32 : Nat) "EggLightsModel" "runs" "Z") ∈ lw_all := lw_g (lw_at lw_m7 188 rfl) rfl
theorem q1677 : (Jvm.Cond.fieldLink "EggLightsModel" (22 : Nat) "EggLightsModel" "text" "[I") ∈ lw_all := lw_g (lw_at lw_m7 189 rfl) rfl
theorem q1678 : (Jvm.Cond.fieldLink "EggLightsModel" (126 : Nat) "EggLightsModel" "typed" "I") ∈ lw_all := lw_g (lw_at lw_m7 190 rfl) rfl
theorem q1679 : (Jvm.Cond.fieldLink "EggLightsModel" (129 : Nat) "EggLightsModel" "spot" "I") ∈ lw_all := lw_g (lw_at lw_m7 191 rfl) rfl
theorem q1680 : (Jvm.Cond.fieldLink "EggLightsModel" (167 : Nat) "EggLightsModel" "from" "I") ∈ lw_all := lw_g (lw_at lw_m7 192 rfl) rfl
theorem q1681 : (Jvm.Cond.fieldLink "EggLightsModel" (180 : Nat) "EggLightsModel" "reason" "I") ∈ lw_all := lw_g (lw_at lw_m7 193 rfl) rfl
theorem q1682 : (Jvm.Cond.fieldLink "EggLightsModel" (183 : Nat) "EggLightsModel" "cause" "I") ∈ lw_all := lw_g (lw_at lw_m7 194 rfl) rfl
theorem q1683 : (Jvm.Cond.fieldLink "EggLightsModel" (170 : Nat) "EggLightsModel" "orders" "I") ∈ lw_all := lw_g (lw_at lw_m7 195 rfl) rfl
theorem q1684 : (Jvm.Cond.fieldLink "EggLightsModel" (136 : Nat) "EggLightsModel" "order" "I") ∈ lw_all := lw_g (lw_at lw_m7 196 rfl) rfl
theorem q1685 : (Jvm.Cond.fieldLink "EggLightsModel" (25 : Nat) "EggLightsModel" "numbers" "[I") ∈ lw_all := lw_g (lw_at lw_m7 197 rfl) rfl
theorem q1686 : (Jvm.Cond.laysFinal "EggLightsModel" "EggLightsModel" "s" "[I") ∈ lw_all := lw_g (lw_at lw_m7 198 rfl) rfl
theorem q1687 : (Jvm.Cond.soleField "EggLightsModel" "s") ∈ lw_all := lw_g (lw_at lw_m7 199 rfl) rfl
theorem q1688 : (Jvm.Cond.laysFinal "EggLightsModel" "EggLightsModel" "past" "[I") ∈ lw_all := lw_g (lw_at lw_m7 200 rfl) rfl
theorem q1689 : (Jvm.Cond.soleField "EggLightsModel" "past") ∈ lw_all := lw_g (lw_at lw_m7 201 rfl) rfl
theorem q1690 : (Jvm.Cond.laysFinal "EggLightsModel" "EggLightsModel" "held" "[I") ∈ lw_all := lw_g (lw_at lw_m7 202 rfl) rfl
theorem q1691 : (Jvm.Cond.soleField "EggLightsModel" "held") ∈ lw_all := lw_g (lw_at lw_m7 203 rfl) rfl
theorem q1692 : (Jvm.Cond.laysFinal "EggLightsModel" "EggLightsModel" "spare" "[I") ∈ lw_all := lw_g (lw_at lw_m7 204 rfl) rfl
theorem q1693 : (Jvm.Cond.soleField "EggLightsModel" "spare") ∈ lw_all := lw_g (lw_at lw_m7 205 rfl) rfl
theorem q1694 : (Jvm.Cond.lays "EggLightsModel" "EggLightsModel" "pasts" "I") ∈ lw_all := lw_g (lw_at lw_m7 206 rfl) rfl
theorem q1695 : (Jvm.Cond.soleField "EggLightsModel" "pasts") ∈ lw_all := lw_g (lw_at lw_m7 207 rfl) rfl
theorem q1696 : (Jvm.Cond.lays "EggLightsModel" "EggLightsModel" "runs" "Z") ∈ lw_all := lw_g (lw_at lw_m7 208 rfl) rfl
theorem q1697 : (Jvm.Cond.soleField "EggLightsModel" "runs") ∈ lw_all := lw_g (lw_at lw_m7 209 rfl) rfl
theorem q1698 : (Jvm.Cond.laysFinal "EggLightsModel" "EggLightsModel" "text" "[I") ∈ lw_all := lw_g (lw_at lw_m7 210 rfl) rfl
theorem q1699 : (Jvm.Cond.soleField "EggLightsModel" "text") ∈ lw_all := lw_g (lw_at lw_m7 211 rfl) rfl
theorem q1700 : (Jvm.Cond.lays "EggLightsModel" "EggLightsModel" "typed" "I") ∈ lw_all := lw_g (lw_at lw_m7 212 rfl) rfl
theorem q1701 : (Jvm.Cond.soleField "EggLightsModel" "typed") ∈ lw_all := lw_g (lw_at lw_m7 213 rfl) rfl
theorem q1702 : (Jvm.Cond.lays "EggLightsModel" "EggLightsModel" "spot" "I") ∈ lw_all := lw_g (lw_at lw_m7 214 rfl) rfl
theorem q1703 : (Jvm.Cond.soleField "EggLightsModel" "spot") ∈ lw_all := lw_g (lw_at lw_m7 215 rfl) rfl
theorem q1704 : (Jvm.Cond.lays "EggLightsModel" "EggLightsModel" "from" "I") ∈ lw_all := lw_g (lw_at lw_m7 216 rfl) rfl
theorem q1705 : (Jvm.Cond.soleField "EggLightsModel" "from") ∈ lw_all := lw_g (lw_at lw_m7 217 rfl) rfl
theorem q1706 : (Jvm.Cond.lays "EggLightsModel" "EggLightsModel" "reason" "I") ∈ lw_all := lw_g (lw_at lw_m7 218 rfl) rfl
theorem q1707 : (Jvm.Cond.soleField "EggLightsModel" "reason") ∈ lw_all := lw_g (lw_at lw_m7 219 rfl) rfl
theorem q1708 : (Jvm.Cond.lays "EggLightsModel" "EggLightsModel" "cause" "I") ∈ lw_all := lw_g (lw_at lw_m7 220 rfl) rfl
theorem q1709 : (Jvm.Cond.soleField "EggLightsModel" "cause") ∈ lw_all := lw_g (lw_at lw_m7 221 rfl) rfl
theorem q1710 : (Jvm.Cond.lays "EggLightsModel" "EggLightsModel" "orders" "I") ∈ lw_all := lw_g (lw_at lw_m7 222 rfl) rfl
theorem q1711 : (Jvm.Cond.soleField "EggLightsModel" "orders") ∈ lw_all := lw_g (lw_at lw_m7 223 rfl) rfl
theorem q1712 : (Jvm.Cond.lays "EggLightsModel" "EggLightsModel" "order" "I") ∈ lw_all := lw_g (lw_at lw_m7 224 rfl) rfl
theorem q1713 : (Jvm.Cond.soleField "EggLightsModel" "order") ∈ lw_all := lw_g (lw_at lw_m7 225 rfl) rfl
theorem q1714 : (Jvm.Cond.laysFinal "EggLightsModel" "EggLightsModel" "numbers" "[I") ∈ lw_all := lw_g (lw_at lw_m7 226 rfl) rfl
theorem q1715 : (Jvm.Cond.soleField "EggLightsModel" "numbers") ∈ lw_all := lw_g (lw_at lw_m7 227 rfl) rfl
theorem q1716 : (Jvm.Cond.superclass "EggLightsModel" "java/lang/Object") ∈ lw_all := lw_g (lw_at lw_m7 228 rfl) rfl
theorem q1718 : (Jvm.Cond.instanceMethod ({ cls := "EggLightsModel", name := "egg", desc := "(IIIIII)I" } : Jvm.MethodName)) ∈ lw_all := lw_g (lw_at lw_m7 230 rfl) rfl
theorem q1719 : (Jvm.Cond.selects "EggLightsModel" ({ cls := "EggLightsModel", name := "egg", desc := "(IIIIII)I" } : Jvm.MethodName) ({ cls := "EggLightsModel", name := "egg", desc := "(IIIIII)I" } : Jvm.MethodName)) ∈ lw_all := lw_g (lw_at lw_m7 231 rfl) rfl
theorem q1720 : (Jvm.Cond.code ({ cls := "EggLightsModel", name := "egg", desc := "(IIIIII)I" } : Jvm.MethodName) prog_14_method_25_code (8 : Nat) (Option.some Jvm.ClassFile.FieldType.int)) ∈ lw_all := lw_g (lw_at lw_m7 232 rfl) rfl
theorem q1721 : (Jvm.Cond.methodLink "EggLightsModel" (97 : Nat) ({ cls := "EggLightsModel", name := "isLane", desc := "(I)Z" } : Jvm.MethodName)) ∈ lw_all := lw_g (lw_at lw_m7 233 rfl) rfl
theorem q1722 : (Jvm.Cond.static ({ cls := "EggLightsModel", name := "isLane", desc := "(I)Z" } : Jvm.MethodName)) ∈ lw_all := lw_g (lw_at lw_m7 234 rfl) rfl
theorem q1723 : (Jvm.Cond.code ({ cls := "EggLightsModel", name := "isLane", desc := "(I)Z" } : Jvm.MethodName) prog_14_method_9_code (1 : Nat) (Option.some Jvm.ClassFile.FieldType.boolean)) ∈ lw_all := lw_g (lw_at lw_m7 235 rfl) rfl
theorem q1724 : (Jvm.Cond.methodLink "EggLightsModel" (40 : Nat) ({ cls := "EggLightsModel", name := "in", desc := "(III)Z" } : Jvm.MethodName)) ∈ lw_all := lw_g (lw_at lw_m7 236 rfl) rfl
theorem q1725 : (Jvm.Cond.static ({ cls := "EggLightsModel", name := "in", desc := "(III)Z" } : Jvm.MethodName)) ∈ lw_all := lw_g (lw_at lw_m7 237 rfl) rfl
theorem q1726 : (Jvm.Cond.code ({ cls := "EggLightsModel", name := "in", desc := "(III)Z" } : Jvm.MethodName) prog_14_method_3_code (3 : Nat) (Option.some Jvm.ClassFile.FieldType.boolean)) ∈ lw_all := lw_g (lw_at lw_m7 238 rfl) rfl
theorem q1727 : (Jvm.Cond.constant "EggLightsModel" (100 : Nat) (-1000001 : Int32)) ∈ lw_all := lw_g (lw_at lw_m7 239 rfl) rfl
theorem q1728 : (Jvm.Cond.methodLink "EggLightsModel" (54 : Nat) ({ cls := "EggLightsModel", name := "many", desc := "(I)I" } : Jvm.MethodName)) ∈ lw_all := lw_g (lw_at lw_m8 0 rfl) rfl
theorem q1729 : (Jvm.Cond.privateMethod ({ cls := "EggLightsModel", name := "many", desc := "(I)I" } : Jvm.MethodName)) ∈ lw_tbl := lw_at lw_m8 1 rfl
theorem q1730 : (Jvm.Cond.instanceMethod ({ cls := "EggLightsModel", name := "many", desc := "(I)I" } : Jvm.MethodName)) ∈ lw_all := lw_g (lw_at lw_m8 2 rfl) rfl
theorem q1731 : (Jvm.Cond.code ({ cls := "EggLightsModel", name := "many", desc := "(I)I" } : Jvm.MethodName) prog_14_method_10_code (2 : Nat) (Option.some Jvm.ClassFile.FieldType.int)) ∈ lw_all := lw_g (lw_at lw_m8 3 rfl) rfl
theorem q1732 : (Jvm.Cond.constant "EggLightsModel" (101 : Nat) (-1000003 : Int32)) ∈ lw_all := lw_g (lw_at lw_m8 4 rfl) rfl
theorem q1733 : (Jvm.Cond.methodLink "EggLightsModel" (102 : Nat) ({ cls := "EggLightsModel", name := "changes", desc := "()V" } : Jvm.MethodName)) ∈ lw_all := lw_g (lw_at lw_m8 5 rfl) rfl
theorem q1734 : (Jvm.Cond.privateMethod ({ cls := "EggLightsModel", name := "changes", desc := "()V" } : Jvm.MethodName)) ∈ lw_tbl := lw_at lw_m8 6 rfl
theorem q1735 : (Jvm.Cond.instanceMethod ({ cls := "EggLightsModel", name := "changes", desc := "()V" } : Jvm.MethodName)) ∈ lw_all := lw_g (lw_at lw_m8 7 rfl) rfl
theorem q1736 : (Jvm.Cond.code ({ cls := "EggLightsModel", name := "changes", desc := "()V" } : Jvm.MethodName) prog_14_method_5_code (2 : Nat) (Option.none : Option Jvm.ClassFile.FieldType)) ∈ lw_all := lw_g (lw_at lw_m8 8 rfl) rfl
theorem q1737 : (Jvm.Cond.methodLink "EggLightsModel" (47 : Nat) ({ cls := "EggLightsModel", name := "eggAt", desc := "(II)I" } : Jvm.MethodName)) ∈ lw_all := lw_g (lw_at lw_m8 9 rfl) rfl
theorem q1738 : (Jvm.Cond.static ({ cls := "EggLightsModel", name := "eggAt", desc := "(II)I" } : Jvm.MethodName)) ∈ lw_all := lw_g (lw_at lw_m8 10 rfl) rfl
theorem q1739 : (Jvm.Cond.code ({ cls := "EggLightsModel", name := "eggAt", desc := "(II)I" } : Jvm.MethodName) prog_14_method_6_code (2 : Nat) (Option.some Jvm.ClassFile.FieldType.int)) ∈ lw_all := lw_g (lw_at lw_m8 11 rfl) rfl
theorem q1741 : (Jvm.Cond.instanceMethod ({ cls := "EggLightsModel", name := "stain", desc := "(II)I" } : Jvm.MethodName)) ∈ lw_all := lw_g (lw_at lw_m8 13 rfl) rfl
theorem q1742 : (Jvm.Cond.selects "EggLightsModel" ({ cls := "EggLightsModel", name := "stain", desc := "(II)I" } : Jvm.MethodName) ({ cls := "EggLightsModel", name := "stain", desc := "(II)I" } : Jvm.MethodName)) ∈ lw_all := lw_g (lw_at lw_m8 14 rfl) rfl
theorem q1743 : (Jvm.Cond.code ({ cls := "EggLightsModel", name := "stain", desc := "(II)I" } : Jvm.MethodName) prog_14_method_26_code (4 : Nat) (Option.some Jvm.ClassFile.FieldType.int)) ∈ lw_all := lw_g (lw_at lw_m8 15 rfl) rfl
theorem q1744 : (Jvm.Cond.constant "EggLightsModel" (105 : Nat) (-1000002 : Int32)) ∈ lw_all := lw_g (lw_at lw_m8 16 rfl) rfl
theorem q1746 : (Jvm.Cond.instanceMethod ({ cls := "EggLightsModel", name := "light", desc := "(II)I" } : Jvm.MethodName)) ∈ lw_all := lw_g (lw_at lw_m8 18 rfl) rfl
theorem q1747 : (Jvm.Cond.selects "EggLightsModel" ({ cls := "EggLightsModel", name := "light", desc := "(II)I" } : Jvm.MethodName) ({ cls := "EggLightsModel", name := "light", desc := "(II)I" } : Jvm.MethodName)) ∈ lw_all := lw_g (lw_at lw_m8 19 rfl) rfl
theorem q1748 : (Jvm.Cond.code ({ cls := "EggLightsModel", name := "light", desc := "(II)I" } : Jvm.MethodName) prog_14_method_27_code (4 : Nat) (Option.some Jvm.ClassFile.FieldType.int)) ∈ lw_all := lw_g (lw_at lw_m8 20 rfl) rfl
theorem q1750 : (Jvm.Cond.instanceMethod ({ cls := "EggLightsModel", name := "turn", desc := "(II)I" } : Jvm.MethodName)) ∈ lw_all := lw_g (lw_at lw_m8 22 rfl) rfl
theorem q1751 : (Jvm.Cond.selects "EggLightsModel" ({ cls := "EggLightsModel", name := "turn", desc := "(II)I" } : Jvm.MethodName) ({ cls := "EggLightsModel", name := "turn", desc := "(II)I" } : Jvm.MethodName)) ∈ lw_all := lw_g (lw_at lw_m8 23 rfl) rfl
theorem q1752 : (Jvm.Cond.code ({ cls := "EggLightsModel", name := "turn", desc := "(II)I" } : Jvm.MethodName) prog_14_method_28_code (4 : Nat) (Option.some Jvm.ClassFile.FieldType.int)) ∈ lw_all := lw_g (lw_at lw_m8 24 rfl) rfl
theorem q1754 : (Jvm.Cond.instanceMethod ({ cls := "EggLightsModel", name := "clean", desc := "(I)I" } : Jvm.MethodName)) ∈ lw_all := lw_g (lw_at lw_m8 26 rfl) rfl
theorem q1755 : (Jvm.Cond.selects "EggLightsModel" ({ cls := "EggLightsModel", name := "clean", desc := "(I)I" } : Jvm.MethodName) ({ cls := "EggLightsModel", name := "clean", desc := "(I)I" } : Jvm.MethodName)) ∈ lw_all := lw_g (lw_at lw_m8 27 rfl) rfl
theorem q1756 : (Jvm.Cond.code ({ cls := "EggLightsModel", name := "clean", desc := "(I)I" } : Jvm.MethodName) prog_14_method_29_code (3 : Nat) (Option.some Jvm.ClassFile.FieldType.int)) ∈ lw_all := lw_g (lw_at lw_m8 28 rfl) rfl
theorem q1758 : (Jvm.Cond.instanceMethod ({ cls := "EggLightsModel", name := "run", desc := "(I)I" } : Jvm.MethodName)) ∈ lw_all := lw_g (lw_at lw_m8 30 rfl) rfl
theorem q1759 : (Jvm.Cond.selects "EggLightsModel" ({ cls := "EggLightsModel", name := "run", desc := "(I)I" } : Jvm.MethodName) ({ cls := "EggLightsModel", name := "run", desc := "(I)I" } : Jvm.MethodName)) ∈ lw_all := lw_g (lw_at lw_m8 31 rfl) rfl
theorem q1760 : (Jvm.Cond.code ({ cls := "EggLightsModel", name := "run", desc := "(I)I" } : Jvm.MethodName) prog_14_method_30_code (2 : Nat) (Option.some Jvm.ClassFile.FieldType.int)) ∈ lw_all := lw_g (lw_at lw_m8 32 rfl) rfl
theorem q1761 : (Jvm.Cond.methodLink "EggLightsModel" (106 : Nat) ({ cls := "EggLightsModel", name := "pass", desc := "(I)I" } : Jvm.MethodName)) ∈ lw_all := lw_g (lw_at lw_m8 33 rfl) rfl
theorem q1762 : (Jvm.Cond.privateMethod ({ cls := "EggLightsModel", name := "pass", desc := "(I)I" } : Jvm.MethodName)) ∈ lw_tbl := lw_at lw_m8 34 rfl
theorem q1763 : (Jvm.Cond.instanceMethod ({ cls := "EggLightsModel", name := "pass", desc := "(I)I" } : Jvm.MethodName)) ∈ lw_all := lw_g (lw_at lw_m8 35 rfl) rfl
theorem q1764 : (Jvm.Cond.code ({ cls := "EggLightsModel", name := "pass", desc := "(I)I" } : Jvm.MethodName) prog_14_method_24_code (4 : Nat) (Option.some Jvm.ClassFile.FieldType.int)) ∈ lw_all := lw_g (lw_at lw_m8 36 rfl) rfl
theorem q1765 : (Jvm.Cond.methodLink "EggLightsModel" (93 : Nat) ({ cls := "EggLightsModel", name := "tick", desc := "()I" } : Jvm.MethodName)) ∈ lw_all := lw_g (lw_at lw_m8 37 rfl) rfl
theorem q1766 : (Jvm.Cond.privateMethod ({ cls := "EggLightsModel", name := "tick", desc := "()I" } : Jvm.MethodName)) ∈ lw_tbl := lw_at lw_m8 38 rfl
theorem q1767 : (Jvm.Cond.instanceMethod ({ cls := "EggLightsModel", name := "tick", desc := "()I" } : Jvm.MethodName)) ∈ lw_all := lw_g (lw_at lw_m8 39 rfl) rfl
theorem q1768 : (Jvm.Cond.code ({ cls := "EggLightsModel", name := "tick", desc := "()I" } : Jvm.MethodName) prog_14_method_23_code (3 : Nat) (Option.some Jvm.ClassFile.FieldType.int)) ∈ lw_all := lw_g (lw_at lw_m8 40 rfl) rfl
theorem q1769 : (Jvm.Cond.methodLink "EggLightsModel" (90 : Nat) ({ cls := "EggLightsModel", name := "grades", desc := "(I)I" } : Jvm.MethodName)) ∈ lw_all := lw_g (lw_at lw_m8 41 rfl) rfl
theorem q1770 : (Jvm.Cond.privateMethod ({ cls := "EggLightsModel", name := "grades", desc := "(I)I" } : Jvm.MethodName)) ∈ lw_tbl := lw_at lw_m8 42 rfl
theorem q1771 : (Jvm.Cond.instanceMethod ({ cls := "EggLightsModel", name := "grades", desc := "(I)I" } : Jvm.MethodName)) ∈ lw_all := lw_g (lw_at lw_m8 43 rfl) rfl
theorem q1772 : (Jvm.Cond.code ({ cls := "EggLightsModel", name := "grades", desc := "(I)I" } : Jvm.MethodName) prog_14_method_22_code (6 : Nat) (Option.some Jvm.ClassFile.FieldType.int)) ∈ lw_all := lw_g (lw_at lw_m8 44 rfl) rfl
theorem q1773 : (Jvm.Cond.methodLink "EggLightsModel" (73 : Nat) ({ cls := "EggLightsModel", name := "barred", desc := "(II)I" } : Jvm.MethodName)) ∈ lw_all := lw_g (lw_at lw_m8 45 rfl) rfl
theorem q1774 : (Jvm.Cond.privateMethod ({ cls := "EggLightsModel", name := "barred", desc := "(II)I" } : Jvm.MethodName)) ∈ lw_tbl := lw_at lw_m8 46 rfl
theorem q1775 : (Jvm.Cond.instanceMethod ({ cls := "EggLightsModel", name := "barred", desc := "(II)I" } : Jvm.MethodName)) ∈ lw_all := lw_g (lw_at lw_m8 47 rfl) rfl
theorem q1776 : (Jvm.Cond.code ({ cls := "EggLightsModel", name := "barred", desc := "(II)I" } : Jvm.MethodName) prog_14_method_17_code (3 : Nat) (Option.some Jvm.ClassFile.FieldType.int)) ∈ lw_all := lw_g (lw_at lw_m8 48 rfl) rfl
theorem q1777 : (Jvm.Cond.methodLink "EggLightsModel" (57 : Nat) ({ cls := "EggLightsModel", name := "isSeenBroken", desc := "(I)Z" } : Jvm.MethodName)) ∈ lw_all := lw_g (lw_at lw_m8 49 rfl) rfl
theorem q1778 : (Jvm.Cond.privateMethod ({ cls := "EggLightsModel", name := "isSeenBroken", desc := "(I)Z" } : Jvm.MethodName)) ∈ lw_tbl := lw_at lw_m8 50 rfl
theorem q1779 : (Jvm.Cond.instanceMethod ({ cls := "EggLightsModel", name := "isSeenBroken", desc := "(I)Z" } : Jvm.MethodName)) ∈ lw_all := lw_g (lw_at lw_m8 51 rfl) rfl
theorem q1780 : (Jvm.Cond.code ({ cls := "EggLightsModel", name := "isSeenBroken", desc := "(I)Z" } : Jvm.MethodName) prog_14_method_16_code (3 : Nat) (Option.some Jvm.ClassFile.FieldType.boolean)) ∈ lw_all := lw_g (lw_at lw_m8 52 rfl) rfl
theorem q1781 : (Jvm.Cond.methodLink "EggLightsModel" (51 : Nat) ({ cls := "EggLightsModel", name := "seen", desc := "(I)I" } : Jvm.MethodName)) ∈ lw_all := lw_g (lw_at lw_m8 53 rfl) rfl
theorem q1782 : (Jvm.Cond.privateMethod ({ cls := "EggLightsModel", name := "seen", desc := "(I)I" } : Jvm.MethodName)) ∈ lw_tbl := lw_at lw_m8 54 rfl
theorem q1783 : (Jvm.Cond.instanceMethod ({ cls := "EggLightsModel", name := "seen", desc := "(I)I" } : Jvm.MethodName)) ∈ lw_all := lw_g (lw_at lw_m8 55 rfl) rfl
theorem q1784 : (Jvm.Cond.code ({ cls := "EggLightsModel", name := "seen", desc := "(I)I" } : Jvm.MethodName) prog_14_method_12_code (2 : Nat) (Option.some Jvm.ClassFile.FieldType.int)) ∈ lw_all := lw_g (lw_at lw_m8 56 rfl) rfl
theorem q1785 : (Jvm.Cond.methodLink "EggLightsModel" (44 : Nat) ({ cls := "EggLightsModel", name := "seenBy", desc := "(I)I" } : Jvm.MethodName)) ∈ lw_all := lw_g (lw_at lw_m8 57 rfl) rfl
theorem q1786 : (Jvm.Cond.privateMethod ({ cls := "EggLightsModel", name := "seenBy", desc := "(I)I" } : Jvm.MethodName)) ∈ lw_tbl := lw_at lw_m8 58 rfl
theorem q1787 : (Jvm.Cond.instanceMethod ({ cls := "EggLightsModel", name := "seenBy", desc := "(I)I" } : Jvm.MethodName)) ∈ lw_all := lw_g (lw_at lw_m8 59 rfl) rfl
theorem q1788 : (Jvm.Cond.code ({ cls := "EggLightsModel", name := "seenBy", desc := "(I)I" } : Jvm.MethodName) prog_14_method_11_code (4 : Nat) (Option.some Jvm.ClassFile.FieldType.int)) ∈ lw_all := lw_g (lw_at lw_m8 60 rfl) rfl
theorem q1789 : (Jvm.Cond.methodLink "EggLightsModel" (76 : Nat) ({ cls := "EggLightsModel", name := "gradeOf", desc := "(II)I" } : Jvm.MethodName)) ∈ lw_all := lw_g (lw_at lw_m8 61 rfl) rfl
theorem q1790 : (Jvm.Cond.privateMethod ({ cls := "EggLightsModel", name := "gradeOf", desc := "(II)I" } : Jvm.MethodName)) ∈ lw_tbl := lw_at lw_m8 62 rfl
theorem q1791 : (Jvm.Cond.instanceMethod ({ cls := "EggLightsModel", name := "gradeOf", desc := "(II)I" } : Jvm.MethodName)) ∈ lw_all := lw_g (lw_at lw_m8 63 rfl) rfl
theorem q1792 : (Jvm.Cond.code ({ cls := "EggLightsModel", name := "gradeOf", desc := "(II)I" } : Jvm.MethodName) prog_14_method_18_code (6 : Nat) (Option.some Jvm.ClassFile.FieldType.int)) ∈ lw_all := lw_g (lw_at lw_m8 64 rfl) rfl
theorem q1793 : (Jvm.Cond.methodLink "EggLightsModel" (61 : Nat) ({ cls := "EggLightsModel", name := "spotsOf", desc := "(I)I" } : Jvm.MethodName)) ∈ lw_all := lw_g (lw_at lw_m8 65 rfl) rfl
theorem q1794 : (Jvm.Cond.privateMethod ({ cls := "EggLightsModel", name := "spotsOf", desc := "(I)I" } : Jvm.MethodName)) ∈ lw_tbl := lw_at lw_m8 66 rfl
theorem q1795 : (Jvm.Cond.instanceMethod ({ cls := "EggLightsModel", name := "spotsOf", desc := "(I)I" } : Jvm.MethodName)) ∈ lw_all := lw_g (lw_at lw_m8 67 rfl) rfl
theorem q1796 : (Jvm.Cond.code ({ cls := "EggLightsModel", name := "spotsOf", desc := "(I)I" } : Jvm.MethodName) prog_14_method_15_code (2 : Nat) (Option.some Jvm.ClassFile.FieldType.int)) ∈ lw_all := lw_g (lw_at lw_m8 68 rfl) rfl
theorem q1797 : (Jvm.Cond.methodLink "EggLightsModel" (64 : Nat) ({ cls := "EggLightsModel", name := "bits", desc := "(I)I" } : Jvm.MethodName)) ∈ lw_all := lw_g (lw_at lw_m8 69 rfl) rfl
theorem q1798 : (Jvm.Cond.static ({ cls := "EggLightsModel", name := "bits", desc := "(I)I" } : Jvm.MethodName)) ∈ lw_all := lw_g (lw_at lw_m8 70 rfl) rfl
theorem q1799 : (Jvm.Cond.code ({ cls := "EggLightsModel", name := "bits", desc := "(I)I" } : Jvm.MethodName) prog_14_method_13_code (3 : Nat) (Option.some Jvm.ClassFile.FieldType.int)) ∈ lw_all := lw_g (lw_at lw_m8 71 rfl) rfl
theorem q1800 : (Jvm.Cond.methodLink "EggLightsModel" (79 : Nat) ({ cls := "EggLightsModel", name := "enters", desc := "(II)V" } : Jvm.MethodName)) ∈ lw_all := lw_g (lw_at lw_m8 72 rfl) rfl
theorem q1801 : (Jvm.Cond.privateMethod ({ cls := "EggLightsModel", name := "enters", desc := "(II)V" } : Jvm.MethodName)) ∈ lw_tbl := lw_at lw_m8 73 rfl
theorem q1802 : (Jvm.Cond.instanceMethod ({ cls := "EggLightsModel", name := "enters", desc := "(II)V" } : Jvm.MethodName)) ∈ lw_all := lw_g (lw_at lw_m8 74 rfl) rfl
theorem q1803 : (Jvm.Cond.code ({ cls := "EggLightsModel", name := "enters", desc := "(II)V" } : Jvm.MethodName) prog_14_method_19_code (4 : Nat) (Option.none : Option Jvm.ClassFile.FieldType)) ∈ lw_all := lw_g (lw_at lw_m8 75 rfl) rfl
theorem q1804 : (Jvm.Cond.methodLink "EggLightsModel" (83 : Nat) ({ cls := "EggLightsModel", name := "leaves", desc := "(I)V" } : Jvm.MethodName)) ∈ lw_all := lw_g (lw_at lw_m8 76 rfl) rfl
theorem q1805 : (Jvm.Cond.privateMethod ({ cls := "EggLightsModel", name := "leaves", desc := "(I)V" } : Jvm.MethodName)) ∈ lw_tbl := lw_at lw_m8 77 rfl
theorem q1806 : (Jvm.Cond.instanceMethod ({ cls := "EggLightsModel", name := "leaves", desc := "(I)V" } : Jvm.MethodName)) ∈ lw_all := lw_g (lw_at lw_m8 78 rfl) rfl
theorem q1807 : (Jvm.Cond.code ({ cls := "EggLightsModel", name := "leaves", desc := "(I)V" } : Jvm.MethodName) prog_14_method_20_code (6 : Nat) (Option.none : Option Jvm.ClassFile.FieldType)) ∈ lw_all := lw_g (lw_at lw_m8 79 rfl) rfl
theorem q1808 : (Jvm.Cond.methodLink "EggLightsModel" (87 : Nat) ({ cls := "EggLightsModel", name := "fills", desc := "(II)V" } : Jvm.MethodName)) ∈ lw_all := lw_g (lw_at lw_m8 80 rfl) rfl
theorem q1809 : (Jvm.Cond.privateMethod ({ cls := "EggLightsModel", name := "fills", desc := "(II)V" } : Jvm.MethodName)) ∈ lw_tbl := lw_at lw_m8 81 rfl
theorem q1810 : (Jvm.Cond.instanceMethod ({ cls := "EggLightsModel", name := "fills", desc := "(II)V" } : Jvm.MethodName)) ∈ lw_all := lw_g (lw_at lw_m8 82 rfl) rfl
theorem q1811 : (Jvm.Cond.code ({ cls := "EggLightsModel", name := "fills", desc := "(II)V" } : Jvm.MethodName) prog_14_method_21_code (5 : Nat) (Option.none : Option Jvm.ClassFile.FieldType)) ∈ lw_all := lw_g (lw_at lw_m8 83 rfl) rfl
theorem q1812 : (Jvm.Cond.methodLink "EggLightsModel" (67 : Nat) ({ cls := "EggLightsModel", name := "crateAt", desc := "(I)I" } : Jvm.MethodName)) ∈ lw_all := lw_g (lw_at lw_m8 84 rfl) rfl
theorem q1813 : (Jvm.Cond.static ({ cls := "EggLightsModel", name := "crateAt", desc := "(I)I" } : Jvm.MethodName)) ∈ lw_all := lw_g (lw_at lw_m8 85 rfl) rfl
theorem q1814 : (Jvm.Cond.code ({ cls := "EggLightsModel", name := "crateAt", desc := "(I)I" } : Jvm.MethodName) prog_14_method_8_code (1 : Nat) (Option.some Jvm.ClassFile.FieldType.int)) ∈ lw_all := lw_g (lw_at lw_m8 86 rfl) rfl
theorem q1815 : (Jvm.Cond.methodLink "EggLightsModel" (70 : Nat) ({ cls := "EggLightsModel", name := "priceOf", desc := "(I)I" } : Jvm.MethodName)) ∈ lw_all := lw_g (lw_at lw_m8 87 rfl) rfl
theorem q1816 : (Jvm.Cond.static ({ cls := "EggLightsModel", name := "priceOf", desc := "(I)I" } : Jvm.MethodName)) ∈ lw_all := lw_g (lw_at lw_m8 88 rfl) rfl
theorem q1817 : (Jvm.Cond.code ({ cls := "EggLightsModel", name := "priceOf", desc := "(I)I" } : Jvm.MethodName) prog_14_method_14_code (1 : Nat) (Option.some Jvm.ClassFile.FieldType.int)) ∈ lw_all := lw_g (lw_at lw_m8 89 rfl) rfl
theorem q1819 : (Jvm.Cond.instanceMethod ({ cls := "EggLightsModel", name := "set", desc := "(II)I" } : Jvm.MethodName)) ∈ lw_all := lw_g (lw_at lw_m8 91 rfl) rfl
theorem q1820 : (Jvm.Cond.selects "EggLightsModel" ({ cls := "EggLightsModel", name := "set", desc := "(II)I" } : Jvm.MethodName) ({ cls := "EggLightsModel", name := "set", desc := "(II)I" } : Jvm.MethodName)) ∈ lw_all := lw_g (lw_at lw_m8 92 rfl) rfl
theorem q1821 : (Jvm.Cond.code ({ cls := "EggLightsModel", name := "set", desc := "(II)I" } : Jvm.MethodName) prog_14_method_31_code (4 : Nat) (Option.some Jvm.ClassFile.FieldType.int)) ∈ lw_all := lw_g (lw_at lw_m8 93 rfl) rfl
theorem q1823 : (Jvm.Cond.instanceMethod ({ cls := "EggLightsModel", name := "lane", desc := "(II)I" } : Jvm.MethodName)) ∈ lw_all := lw_g (lw_at lw_m8 95 rfl) rfl
theorem q1824 : (Jvm.Cond.selects "EggLightsModel" ({ cls := "EggLightsModel", name := "lane", desc := "(II)I" } : Jvm.MethodName) ({ cls := "EggLightsModel", name := "lane", desc := "(II)I" } : Jvm.MethodName)) ∈ lw_all := lw_g (lw_at lw_m8 96 rfl) rfl
theorem q1825 : (Jvm.Cond.code ({ cls := "EggLightsModel", name := "lane", desc := "(II)I" } : Jvm.MethodName) prog_14_method_33_code (4 : Nat) (Option.some Jvm.ClassFile.FieldType.int)) ∈ lw_all := lw_g (lw_at lw_m8 97 rfl) rfl
theorem q1826 : (Jvm.Cond.methodLink "EggLightsModel" (109 : Nat) ({ cls := "EggLightsModel", name := "shared", desc := "(I)I" } : Jvm.MethodName)) ∈ lw_all := lw_g (lw_at lw_m8 98 rfl) rfl
theorem q1827 : (Jvm.Cond.static ({ cls := "EggLightsModel", name := "shared", desc := "(I)I" } : Jvm.MethodName)) ∈ lw_all := lw_g (lw_at lw_m8 99 rfl) rfl
theorem q1828 : (Jvm.Cond.code ({ cls := "EggLightsModel", name := "shared", desc := "(I)I" } : Jvm.MethodName) prog_14_method_32_code (1 : Nat) (Option.some Jvm.ClassFile.FieldType.int)) ∈ lw_all := lw_g (lw_at lw_m8 100 rfl) rfl
theorem q1830 : (Jvm.Cond.instanceMethod ({ cls := "EggLightsModel", name := "eggOf", desc := "(III)I" } : Jvm.MethodName)) ∈ lw_all := lw_g (lw_at lw_m8 102 rfl) rfl
theorem q1831 : (Jvm.Cond.selects "EggLightsModel" ({ cls := "EggLightsModel", name := "eggOf", desc := "(III)I" } : Jvm.MethodName) ({ cls := "EggLightsModel", name := "eggOf", desc := "(III)I" } : Jvm.MethodName)) ∈ lw_all := lw_g (lw_at lw_m8 103 rfl) rfl
theorem q1832 : (Jvm.Cond.code ({ cls := "EggLightsModel", name := "eggOf", desc := "(III)I" } : Jvm.MethodName) prog_14_method_34_code (5 : Nat) (Option.some Jvm.ClassFile.FieldType.int)) ∈ lw_all := lw_g (lw_at lw_m8 104 rfl) rfl
theorem q1833 : (Jvm.Cond.constant "EggLightsModel" (112 : Nat) (-1000004 : Int32)) ∈ lw_all := lw_g (lw_at lw_m8 105 rfl) rfl
theorem q1835 : (Jvm.Cond.instanceMethod ({ cls := "EggLightsModel", name := "crate", desc := "(II)I" } : Jvm.MethodName)) ∈ lw_all := lw_g (lw_at lw_m8 107 rfl) rfl
theorem q1836 : (Jvm.Cond.selects "EggLightsModel" ({ cls := "EggLightsModel", name := "crate", desc := "(II)I" } : Jvm.MethodName) ({ cls := "EggLightsModel", name := "crate", desc := "(II)I" } : Jvm.MethodName)) ∈ lw_all := lw_g (lw_at lw_m8 108 rfl) rfl
theorem q1837 : (Jvm.Cond.code ({ cls := "EggLightsModel", name := "crate", desc := "(II)I" } : Jvm.MethodName) prog_14_method_35_code (3 : Nat) (Option.some Jvm.ClassFile.FieldType.int)) ∈ lw_all := lw_g (lw_at lw_m8 109 rfl) rfl
theorem q1839 : (Jvm.Cond.instanceMethod ({ cls := "EggLightsModel", name := "book", desc := "(II)I" } : Jvm.MethodName)) ∈ lw_all := lw_g (lw_at lw_m8 111 rfl) rfl
theorem q1840 : (Jvm.Cond.selects "EggLightsModel" ({ cls := "EggLightsModel", name := "book", desc := "(II)I" } : Jvm.MethodName) ({ cls := "EggLightsModel", name := "book", desc := "(II)I" } : Jvm.MethodName)) ∈ lw_all := lw_g (lw_at lw_m8 112 rfl) rfl
theorem q1841 : (Jvm.Cond.code ({ cls := "EggLightsModel", name := "book", desc := "(II)I" } : Jvm.MethodName) prog_14_method_36_code (3 : Nat) (Option.some Jvm.ClassFile.FieldType.int)) ∈ lw_all := lw_g (lw_at lw_m8 113 rfl) rfl
theorem q1843 : (Jvm.Cond.instanceMethod ({ cls := "EggLightsModel", name := "why", desc := "(I)I" } : Jvm.MethodName)) ∈ lw_all := lw_g (lw_at lw_m8 115 rfl) rfl
theorem q1844 : (Jvm.Cond.selects "EggLightsModel" ({ cls := "EggLightsModel", name := "why", desc := "(I)I" } : Jvm.MethodName) ({ cls := "EggLightsModel", name := "why", desc := "(I)I" } : Jvm.MethodName)) ∈ lw_all := lw_g (lw_at lw_m8 116 rfl) rfl
theorem q1845 : (Jvm.Cond.code ({ cls := "EggLightsModel", name := "why", desc := "(I)I" } : Jvm.MethodName) prog_14_method_37_code (2 : Nat) (Option.some Jvm.ClassFile.FieldType.int)) ∈ lw_all := lw_g (lw_at lw_m8 117 rfl) rfl
theorem q1847 : (Jvm.Cond.instanceMethod ({ cls := "EggLightsModel", name := "grade", desc := "(I)I" } : Jvm.MethodName)) ∈ lw_all := lw_g (lw_at lw_m8 119 rfl) rfl
theorem q1848 : (Jvm.Cond.selects "EggLightsModel" ({ cls := "EggLightsModel", name := "grade", desc := "(I)I" } : Jvm.MethodName) ({ cls := "EggLightsModel", name := "grade", desc := "(I)I" } : Jvm.MethodName)) ∈ lw_all := lw_g (lw_at lw_m8 120 rfl) rfl
theorem q1849 : (Jvm.Cond.code ({ cls := "EggLightsModel", name := "grade", desc := "(I)I" } : Jvm.MethodName) prog_14_method_38_code (3 : Nat) (Option.some Jvm.ClassFile.FieldType.int)) ∈ lw_all := lw_g (lw_at lw_m8 121 rfl) rfl
theorem q1851 : (Jvm.Cond.instanceMethod ({ cls := "EggLightsModel", name := "bestTurn", desc := "(I)I" } : Jvm.MethodName)) ∈ lw_all := lw_g (lw_at lw_m8 123 rfl) rfl
theorem q1852 : (Jvm.Cond.selects "EggLightsModel" ({ cls := "EggLightsModel", name := "bestTurn", desc := "(I)I" } : Jvm.MethodName) ({ cls := "EggLightsModel", name := "bestTurn", desc := "(I)I" } : Jvm.MethodName)) ∈ lw_all := lw_g (lw_at lw_m8 124 rfl) rfl
theorem q1853 : (Jvm.Cond.code ({ cls := "EggLightsModel", name := "bestTurn", desc := "(I)I" } : Jvm.MethodName) prog_14_method_39_code (6 : Nat) (Option.some Jvm.ClassFile.FieldType.int)) ∈ lw_all := lw_g (lw_at lw_m8 125 rfl) rfl
theorem q1855 : (Jvm.Cond.instanceMethod ({ cls := "EggLightsModel", name := "leastLight", desc := "(I)I" } : Jvm.MethodName)) ∈ lw_all := lw_g (lw_at lw_m8 127 rfl) rfl
theorem q1856 : (Jvm.Cond.selects "EggLightsModel" ({ cls := "EggLightsModel", name := "leastLight", desc := "(I)I" } : Jvm.MethodName) ({ cls := "EggLightsModel", name := "leastLight", desc := "(I)I" } : Jvm.MethodName)) ∈ lw_all := lw_g (lw_at lw_m8 128 rfl) rfl
theorem q1857 : (Jvm.Cond.code ({ cls := "EggLightsModel", name := "leastLight", desc := "(I)I" } : Jvm.MethodName) prog_14_method_40_code (5 : Nat) (Option.some Jvm.ClassFile.FieldType.int)) ∈ lw_all := lw_g (lw_at lw_m8 129 rfl) rfl
theorem q1859 : (Jvm.Cond.instanceMethod ({ cls := "EggLightsModel", name := "bestLight", desc := "(I)I" } : Jvm.MethodName)) ∈ lw_all := lw_g (lw_at lw_m8 131 rfl) rfl
theorem q1860 : (Jvm.Cond.selects "EggLightsModel" ({ cls := "EggLightsModel", name := "bestLight", desc := "(I)I" } : Jvm.MethodName) ({ cls := "EggLightsModel", name := "bestLight", desc := "(I)I" } : Jvm.MethodName)) ∈ lw_all := lw_g (lw_at lw_m8 132 rfl) rfl
theorem q1861 : (Jvm.Cond.code ({ cls := "EggLightsModel", name := "bestLight", desc := "(I)I" } : Jvm.MethodName) prog_14_method_41_code (6 : Nat) (Option.some Jvm.ClassFile.FieldType.int)) ∈ lw_all := lw_g (lw_at lw_m8 133 rfl) rfl
theorem q1863 : (Jvm.Cond.instanceMethod ({ cls := "EggLightsModel", name := "ifRun", desc := "(II)I" } : Jvm.MethodName)) ∈ lw_all := lw_g (lw_at lw_m8 135 rfl) rfl
theorem q1864 : (Jvm.Cond.selects "EggLightsModel" ({ cls := "EggLightsModel", name := "ifRun", desc := "(II)I" } : Jvm.MethodName) ({ cls := "EggLightsModel", name := "ifRun", desc := "(II)I" } : Jvm.MethodName)) ∈ lw_all := lw_g (lw_at lw_m8 136 rfl) rfl
theorem q1865 : (Jvm.Cond.code ({ cls := "EggLightsModel", name := "ifRun", desc := "(II)I" } : Jvm.MethodName) prog_14_method_42_code (6 : Nat) (Option.some Jvm.ClassFile.FieldType.int)) ∈ lw_all := lw_g (lw_at lw_m8 137 rfl) rfl
theorem q1866 : (Jvm.Cond.methodLink "EggLightsModel" (113 : Nat) ({ cls := "EggLightsModel", name := "copies", desc := "([I[I)V" } : Jvm.MethodName)) ∈ lw_all := lw_g (lw_at lw_m8 138 rfl) rfl
theorem q1867 : (Jvm.Cond.static ({ cls := "EggLightsModel", name := "copies", desc := "([I[I)V" } : Jvm.MethodName)) ∈ lw_all := lw_g (lw_at lw_m8 139 rfl) rfl
theorem q1868 : (Jvm.Cond.code ({ cls := "EggLightsModel", name := "copies", desc := "([I[I)V" } : Jvm.MethodName) prog_14_method_4_code (3 : Nat) (Option.none : Option Jvm.ClassFile.FieldType)) ∈ lw_all := lw_g (lw_at lw_m8 140 rfl) rfl
theorem q1870 : (Jvm.Cond.instanceMethod ({ cls := "EggLightsModel", name := "mean", desc := "()I" } : Jvm.MethodName)) ∈ lw_all := lw_g (lw_at lw_m8 142 rfl) rfl
theorem q1871 : (Jvm.Cond.selects "EggLightsModel" ({ cls := "EggLightsModel", name := "mean", desc := "()I" } : Jvm.MethodName) ({ cls := "EggLightsModel", name := "mean", desc := "()I" } : Jvm.MethodName)) ∈ lw_all := lw_g (lw_at lw_m8 143 rfl) rfl
theorem q1872 : (Jvm.Cond.code ({ cls := "EggLightsModel", name := "mean", desc := "()I" } : Jvm.MethodName) prog_14_method_43_code (3 : Nat) (Option.some Jvm.ClassFile.FieldType.int)) ∈ lw_all := lw_g (lw_at lw_m8 144 rfl) rfl
theorem q1873 : (Jvm.Cond.methodLink "EggLightsModel" (117 : Nat) ({ cls := "java/lang/Float", name := "floatToIntBits", desc := "(F)I" } : Jvm.MethodName)) ∈ lw_all := lw_g (lw_at lw_m8 145 rfl) rfl
theorem q1875 : (Jvm.Cond.instanceMethod ({ cls := "EggLightsModel", name := "count", desc := "(I)I" } : Jvm.MethodName)) ∈ lw_all := lw_g (lw_at lw_m8 147 rfl) rfl
theorem q1876 : (Jvm.Cond.selects "EggLightsModel" ({ cls := "EggLightsModel", name := "count", desc := "(I)I" } : Jvm.MethodName) ({ cls := "EggLightsModel", name := "count", desc := "(I)I" } : Jvm.MethodName)) ∈ lw_all := lw_g (lw_at lw_m8 148 rfl) rfl
theorem q1877 : (Jvm.Cond.code ({ cls := "EggLightsModel", name := "count", desc := "(I)I" } : Jvm.MethodName) prog_14_method_45_code (2 : Nat) (Option.some Jvm.ClassFile.FieldType.int)) ∈ lw_all := lw_g (lw_at lw_m8 149 rfl) rfl
theorem q1878 : (Jvm.Cond.methodLink "EggLightsModel" (123 : Nat) ({ cls := "EggLightsModel", name := "inQueues", desc := "()I" } : Jvm.MethodName)) ∈ lw_all := lw_g (lw_at lw_m8 150 rfl) rfl
theorem q1879 : (Jvm.Cond.privateMethod ({ cls := "EggLightsModel", name := "inQueues", desc := "()I" } : Jvm.MethodName)) ∈ lw_tbl := lw_at lw_m8 151 rfl
theorem q1880 : (Jvm.Cond.instanceMethod ({ cls := "EggLightsModel", name := "inQueues", desc := "()I" } : Jvm.MethodName)) ∈ lw_all := lw_g (lw_at lw_m8 152 rfl) rfl
theorem q1881 : (Jvm.Cond.code ({ cls := "EggLightsModel", name := "inQueues", desc := "()I" } : Jvm.MethodName) prog_14_method_44_code (3 : Nat) (Option.some Jvm.ClassFile.FieldType.int)) ∈ lw_all := lw_g (lw_at lw_m8 153 rfl) rfl
theorem q1883 : (Jvm.Cond.instanceMethod ({ cls := "EggLightsModel", name := "undo", desc := "()I" } : Jvm.MethodName)) ∈ lw_all := lw_g (lw_at lw_m8 155 rfl) rfl
theorem q1884 : (Jvm.Cond.selects "EggLightsModel" ({ cls := "EggLightsModel", name := "undo", desc := "()I" } : Jvm.MethodName) ({ cls := "EggLightsModel", name := "undo", desc := "()I" } : Jvm.MethodName)) ∈ lw_all := lw_g (lw_at lw_m8 156 rfl) rfl
theorem q1885 : (Jvm.Cond.code ({ cls := "EggLightsModel", name := "undo", desc := "()I" } : Jvm.MethodName) prog_14_method_46_code (2 : Nat) (Option.some Jvm.ClassFile.FieldType.int)) ∈ lw_all := lw_g (lw_at lw_m8 157 rfl) rfl
theorem q1887 : (Jvm.Cond.instanceMethod ({ cls := "EggLightsModel", name := "type", desc := "(I)I" } : Jvm.MethodName)) ∈ lw_all := lw_g (lw_at lw_m8 159 rfl) rfl
theorem q1888 : (Jvm.Cond.selects "EggLightsModel" ({ cls := "EggLightsModel", name := "type", desc := "(I)I" } : Jvm.MethodName) ({ cls := "EggLightsModel", name := "type", desc := "(I)I" } : Jvm.MethodName)) ∈ lw_all := lw_g (lw_at lw_m8 160 rfl) rfl
theorem q1889 : (Jvm.Cond.code ({ cls := "EggLightsModel", name := "type", desc := "(I)I" } : Jvm.MethodName) prog_14_method_47_code (2 : Nat) (Option.some Jvm.ClassFile.FieldType.int)) ∈ lw_all := lw_g (lw_at lw_m8 161 rfl) rfl
theorem q1891 : (Jvm.Cond.instanceMethod ({ cls := "EggLightsModel", name := "clearText", desc := "()I" } : Jvm.MethodName)) ∈ lw_all := lw_g (lw_at lw_m8 163 rfl) rfl
theorem q1892 : (Jvm.Cond.selects "EggLightsModel" ({ cls := "EggLightsModel", name := "clearText", desc := "()I" } : Jvm.MethodName) ({ cls := "EggLightsModel", name := "clearText", desc := "()I" } : Jvm.MethodName)) ∈ lw_all := lw_g (lw_at lw_m8 164 rfl) rfl
theorem q1893 : (Jvm.Cond.code ({ cls := "EggLightsModel", name := "clearText", desc := "()I" } : Jvm.MethodName) prog_14_method_48_code (2 : Nat) (Option.some Jvm.ClassFile.FieldType.int)) ∈ lw_all := lw_g (lw_at lw_m8 165 rfl) rfl
theorem q1895 : (Jvm.Cond.instanceMethod ({ cls := "EggLightsModel", name := "fault", desc := "(I)I" } : Jvm.MethodName)) ∈ lw_all := lw_g (lw_at lw_m8 167 rfl) rfl
theorem q1896 : (Jvm.Cond.selects "EggLightsModel" ({ cls := "EggLightsModel", name := "fault", desc := "(I)I" } : Jvm.MethodName) ({ cls := "EggLightsModel", name := "fault", desc := "(I)I" } : Jvm.MethodName)) ∈ lw_all := lw_g (lw_at lw_m8 168 rfl) rfl
theorem q1897 : (Jvm.Cond.code ({ cls := "EggLightsModel", name := "fault", desc := "(I)I" } : Jvm.MethodName) prog_14_method_56_code (3 : Nat) (Option.some Jvm.ClassFile.FieldType.int)) ∈ lw_all := lw_g (lw_at lw_m8 169 rfl) rfl
theorem q1898 : (Jvm.Cond.methodLink "EggLightsModel" (186 : Nat) ({ cls := "EggLightsModel", name := "plays", desc := "()Z" } : Jvm.MethodName)) ∈ lw_all := lw_g (lw_at lw_m8 170 rfl) rfl
theorem q1899 : (Jvm.Cond.privateMethod ({ cls := "EggLightsModel", name := "plays", desc := "()Z" } : Jvm.MethodName)) ∈ lw_tbl := lw_at lw_m8 171 rfl
theorem q1900 : (Jvm.Cond.instanceMethod ({ cls := "EggLightsModel", name := "plays", desc := "()Z" } : Jvm.MethodName)) ∈ lw_all := lw_g (lw_at lw_m8 172 rfl) rfl
theorem q1901 : (Jvm.Cond.code ({ cls := "EggLightsModel", name := "plays", desc := "()Z" } : Jvm.MethodName) prog_14_method_55_code (4 : Nat) (Option.some Jvm.ClassFile.FieldType.boolean)) ∈ lw_all := lw_g (lw_at lw_m8 173 rfl) rfl
theorem q1902 : (Jvm.Cond.methodLink "EggLightsModel" (173 : Nat) ({ cls := "EggLightsModel", name := "parses", desc := "()Z" } : Jvm.MethodName)) ∈ lw_all := lw_g (lw_at lw_m8 174 rfl) rfl
theorem q1903 : (Jvm.Cond.privateMethod ({ cls := "EggLightsModel", name := "parses", desc := "()Z" } : Jvm.MethodName)) ∈ lw_tbl := lw_at lw_m8 175 rfl
theorem q1904 : (Jvm.Cond.instanceMethod ({ cls := "EggLightsModel", name := "parses", desc := "()Z" } : Jvm.MethodName)) ∈ lw_all := lw_g (lw_at lw_m8 176 rfl) rfl
theorem q1905 : (Jvm.Cond.code ({ cls := "EggLightsModel", name := "parses", desc := "()Z" } : Jvm.MethodName) prog_14_method_53_code (4 : Nat) (Option.some Jvm.ClassFile.FieldType.boolean)) ∈ lw_all := lw_g (lw_at lw_m8 177 rfl) rfl
theorem q1906 : (Jvm.Cond.methodLink "EggLightsModel" (132 : Nat) ({ cls := "EggLightsModel", name := "isAt", desc := "(II)Z" } : Jvm.MethodName)) ∈ lw_all := lw_g (lw_at lw_m8 178 rfl) rfl
theorem q1907 : (Jvm.Cond.privateMethod ({ cls := "EggLightsModel", name := "isAt", desc := "(II)Z" } : Jvm.MethodName)) ∈ lw_tbl := lw_at lw_m8 179 rfl
theorem q1908 : (Jvm.Cond.instanceMethod ({ cls := "EggLightsModel", name := "isAt", desc := "(II)Z" } : Jvm.MethodName)) ∈ lw_all := lw_g (lw_at lw_m8 180 rfl) rfl
theorem q1909 : (Jvm.Cond.code ({ cls := "EggLightsModel", name := "isAt", desc := "(II)Z" } : Jvm.MethodName) prog_14_method_49_code (3 : Nat) (Option.some Jvm.ClassFile.FieldType.boolean)) ∈ lw_all := lw_g (lw_at lw_m8 181 rfl) rfl
theorem q1910 : (Jvm.Cond.methodLink "EggLightsModel" (139 : Nat) ({ cls := "EggLightsModel", name := "numbersOf", desc := "(I)I" } : Jvm.MethodName)) ∈ lw_all := lw_g (lw_at lw_m8 182 rfl) rfl
theorem q1911 : (Jvm.Cond.static ({ cls := "EggLightsModel", name := "numbersOf", desc := "(I)I" } : Jvm.MethodName)) ∈ lw_all := lw_g (lw_at lw_m8 183 rfl) rfl
theorem q1912 : (Jvm.Cond.code ({ cls := "EggLightsModel", name := "numbersOf", desc := "(I)I" } : Jvm.MethodName) prog_14_method_52_code (1 : Nat) (Option.some Jvm.ClassFile.FieldType.int)) ∈ lw_all := lw_g (lw_at lw_m8 184 rfl) rfl
theorem q1913 : (Jvm.Cond.methodLink "EggLightsModel" (142 : Nat) ({ cls := "EggLightsModel", name := "numbered", desc := "(I)Z" } : Jvm.MethodName)) ∈ lw_all := lw_g (lw_at lw_m8 185 rfl) rfl
theorem q1914 : (Jvm.Cond.privateMethod ({ cls := "EggLightsModel", name := "numbered", desc := "(I)Z" } : Jvm.MethodName)) ∈ lw_tbl := lw_at lw_m8 186 rfl
theorem q1915 : (Jvm.Cond.instanceMethod ({ cls := "EggLightsModel", name := "numbered", desc := "(I)Z" } : Jvm.MethodName)) ∈ lw_all := lw_g (lw_at lw_m8 187 rfl) rfl
theorem q1916 : (Jvm.Cond.code ({ cls := "EggLightsModel", name := "numbered", desc := "(I)Z" } : Jvm.MethodName) prog_14_method_51_code (3 : Nat) (Option.some Jvm.ClassFile.FieldType.boolean)) ∈ lw_all := lw_g (lw_at lw_m8 188 rfl) rfl
theorem q1917 : (Jvm.Cond.methodLink "EggLightsModel" (145 : Nat) ({ cls := "EggLightsModel", name := "sign", desc := "(I)Z" } : Jvm.MethodName)) ∈ lw_all := lw_g (lw_at lw_m8 189 rfl) rfl
theorem q1918 : (Jvm.Cond.privateMethod ({ cls := "EggLightsModel", name := "sign", desc := "(I)Z" } : Jvm.MethodName)) ∈ lw_tbl := lw_at lw_m8 190 rfl
theorem q1919 : (Jvm.Cond.instanceMethod ({ cls := "EggLightsModel", name := "sign", desc := "(I)Z" } : Jvm.MethodName)) ∈ lw_all := lw_g (lw_at lw_m8 191 rfl) rfl
theorem q1920 : (Jvm.Cond.code ({ cls := "EggLightsModel", name := "sign", desc := "(I)Z" } : Jvm.MethodName) prog_14_method_50_code (3 : Nat) (Option.some Jvm.ClassFile.FieldType.boolean)) ∈ lw_all := lw_g (lw_at lw_m8 192 rfl) rfl
theorem q1921 : (Jvm.Cond.methodLink "EggLightsModel" (177 : Nat) ({ cls := "EggLightsModel", name := "does", desc := "()I" } : Jvm.MethodName)) ∈ lw_all := lw_g (lw_at lw_m8 193 rfl) rfl
theorem q1922 : (Jvm.Cond.privateMethod ({ cls := "EggLightsModel", name := "does", desc := "()I" } : Jvm.MethodName)) ∈ lw_tbl := lw_at lw_m8 194 rfl
theorem q1923 : (Jvm.Cond.instanceMethod ({ cls := "EggLightsModel", name := "does", desc := "()I" } : Jvm.MethodName)) ∈ lw_all := lw_g (lw_at lw_m8 195 rfl) rfl
theorem q1924 : (Jvm.Cond.code ({ cls := "EggLightsModel", name := "does", desc := "()I" } : Jvm.MethodName) prog_14_method_54_code (1 : Nat) (Option.some Jvm.ClassFile.FieldType.int)) ∈ lw_all := lw_g (lw_at lw_m8 196 rfl) rfl
theorem q1925 : (Jvm.Cond.methodLink "EggLightsModel" (148 : Nat) ({ cls := "EggLightsModel", name := "egg", desc := "(IIIIII)I" } : Jvm.MethodName)) ∈ lw_all := lw_g (lw_at lw_m8 197 rfl) rfl
theorem q1926 : (Jvm.Cond.methodLink "EggLightsModel" (152 : Nat) ({ cls := "EggLightsModel", name := "stain", desc := "(II)I" } : Jvm.MethodName)) ∈ lw_all := lw_g (lw_at lw_m8 198 rfl) rfl
theorem q1927 : (Jvm.Cond.methodLink "EggLightsModel" (155 : Nat) ({ cls := "EggLightsModel", name := "light", desc := "(II)I" } : Jvm.MethodName)) ∈ lw_all := lw_g (lw_at lw_m8 199 rfl) rfl
theorem q1928 : (Jvm.Cond.methodLink "EggLightsModel" (158 : Nat) ({ cls := "EggLightsModel", name := "turn", desc := "(II)I" } : Jvm.MethodName)) ∈ lw_all := lw_g (lw_at lw_m8 200 rfl) rfl
theorem q1929 : (Jvm.Cond.methodLink "EggLightsModel" (161 : Nat) ({ cls := "EggLightsModel", name := "clean", desc := "(I)I" } : Jvm.MethodName)) ∈ lw_all := lw_g (lw_at lw_m8 201 rfl) rfl
theorem q1930 : (Jvm.Cond.methodLink "EggLightsModel" (164 : Nat) ({ cls := "EggLightsModel", name := "run", desc := "(I)I" } : Jvm.MethodName)) ∈ lw_all := lw_g (lw_at lw_m8 202 rfl) rfl
theorem q1932 : (Jvm.Cond.instanceMethod ({ cls := "EggLightsModel", name := "play", desc := "()I" } : Jvm.MethodName)) ∈ lw_all := lw_g (lw_at lw_m8 204 rfl) rfl
theorem q1933 : (Jvm.Cond.selects "EggLightsModel" ({ cls := "EggLightsModel", name := "play", desc := "()I" } : Jvm.MethodName) ({ cls := "EggLightsModel", name := "play", desc := "()I" } : Jvm.MethodName)) ∈ lw_all := lw_g (lw_at lw_m8 205 rfl) rfl
theorem q1934 : (Jvm.Cond.code ({ cls := "EggLightsModel", name := "play", desc := "()I" } : Jvm.MethodName) prog_14_method_57_code (2 : Nat) (Option.some Jvm.ClassFile.FieldType.int)) ∈ lw_all := lw_g (lw_at lw_m8 206 rfl) rfl
theorem q1967 : (Jvm.Cond.castable "EggLightsModel" "java/lang/Object") ∈ lw_tbl := lw_at lw_m8 239 rfl
theorem in_X4 : ∀ w ∈ wsX40, w ∈ lw_all := lw_in wsX40 [1686, 1688, 1690, 1692, 1694, 1696, 1698, 1700, 1702, 1704, 1706, 1708, 1710, 1712, 1714] (by decide +kernel) (by decide +kernel)

/-! the law's own entry -/
set_option maxRecDepth 100000
abbrev cL_law : ByteArray := code
def dkwL_law_31 : List UInt8 := [182, 0, 113, 159, 0, 5, 3, 172, 132, 3, 7, 167, 252, 231, 4, 172]
abbrev dktL_law_31 : List UInt8 := dkwL_law_31 ++ []
def dkwL_law_30 : List UInt8 := [182, 0, 106, 44, 42, 29, 4, 96, 46, 182, 0, 109, 159, 0, 18, 3, 172, 43, 182, 0, 110, 44]
abbrev dktL_law_30 : List UInt8 := dkwL_law_30 ++ dktL_law_31
def dkwL_law_29 : List UInt8 := [159, 0, 54, 3, 172, 43, 182, 0, 102, 44, 182, 0, 105, 159, 0, 41, 3, 172, 43, 42, 29, 4, 96, 46]
abbrev dktL_law_29 : List UInt8 := dkwL_law_29 ++ dktL_law_30
def dkwL_law_28 : List UInt8 := [159, 0, 77, 3, 172, 43, 42, 29, 4, 96, 46, 182, 0, 98, 44, 42, 29, 4, 96, 46, 182, 0, 101]
abbrev dktL_law_28 : List UInt8 := dkwL_law_28 ++ dktL_law_29
def dkwL_law_27 : List UInt8 := [44, 42, 29, 4, 96, 46, 182, 0, 93, 159, 0, 90, 3, 172, 43, 182, 0, 94, 44, 182, 0, 97]
abbrev dktL_law_27 : List UInt8 := dkwL_law_27 ++ dktL_law_28
def dkwL_law_26 : List UInt8 := [3, 172, 43, 182, 0, 85, 44, 182, 0, 89, 159, 0, 113, 3, 172, 43, 42, 29, 4, 96, 46, 182, 0, 90]
abbrev dktL_law_26 : List UInt8 := dkwL_law_26 ++ dktL_law_27
def dkwL_law_25 : List UInt8 := [29, 5, 96, 46, 182, 0, 81, 44, 42, 29, 4, 96, 46, 42, 29, 5, 96, 46, 182, 0, 84, 159, 0, 126]
abbrev dktL_law_25 : List UInt8 := dkwL_law_25 ++ dktL_law_26
def dkwL_law_24 : List UInt8 := [182, 0, 77, 44, 42, 29, 4, 96, 46, 182, 0, 80, 159, 0, 159, 3, 172, 43, 42, 29, 4, 96, 46, 42]
abbrev dktL_law_24 : List UInt8 := dkwL_law_24 ++ dktL_law_25
def dkwL_law_23 : List UInt8 := [182, 0, 73, 44, 42, 29, 4, 96, 46, 182, 0, 76, 159, 0, 182, 3, 172, 43, 42, 29, 4, 96, 46]
abbrev dktL_law_23 : List UInt8 := dkwL_law_23 ++ dktL_law_24
def dkwL_law_22 : List UInt8 := [182, 0, 69, 44, 42, 29, 4, 96, 46, 182, 0, 72, 159, 0, 205, 3, 172, 43, 42, 29, 4, 96, 46]
abbrev dktL_law_22 : List UInt8 := dkwL_law_22 ++ dktL_law_23
def dkwL_law_21 : List UInt8 := [182, 0, 65, 44, 42, 29, 4, 96, 46, 182, 0, 68, 159, 0, 228, 3, 172, 43, 42, 29, 4, 96, 46]
abbrev dktL_law_21 : List UInt8 := dkwL_law_21 ++ dktL_law_22
def dkwL_law_20 : List UInt8 := [182, 0, 61, 44, 42, 29, 4, 96, 46, 182, 0, 64, 159, 0, 251, 3, 172, 43, 42, 29, 4, 96, 46]
abbrev dktL_law_20 : List UInt8 := dkwL_law_20 ++ dktL_law_21
def dkwL_law_19 : List UInt8 := [29, 4, 96, 46, 42, 29, 5, 96, 46, 182, 0, 60, 159, 1, 18, 3, 172, 43, 42, 29, 4, 96, 46]
abbrev dktL_law_19 : List UInt8 := dkwL_law_19 ++ dktL_law_20
def dkwL_law_18 : List UInt8 := [182, 0, 56, 159, 1, 51, 3, 172, 43, 42, 29, 4, 96, 46, 42, 29, 5, 96, 46, 182, 0, 57, 44, 42]
abbrev dktL_law_18 : List UInt8 := dkwL_law_18 ++ dktL_law_19
def dkwL_law_17 : List UInt8 := [4, 96, 46, 42, 29, 5, 96, 46, 182, 0, 53, 44, 42, 29, 4, 96, 46, 42, 29, 5, 96, 46]
abbrev dktL_law_17 : List UInt8 := dkwL_law_17 ++ dktL_law_18
def dkwL_law_16 : List UInt8 := [4, 96, 46, 42, 29, 5, 96, 46, 42, 29, 6, 96, 46, 182, 0, 52, 159, 1, 84, 3, 172, 43, 42, 29]
abbrev dktL_law_16 : List UInt8 := dkwL_law_16 ++ dktL_law_17
def dkwL_law_15 : List UInt8 := [3, 172, 43, 42, 29, 4, 96, 46, 42, 29, 5, 96, 46, 42, 29, 6, 96, 46, 182, 0, 48, 44, 42, 29]
abbrev dktL_law_15 : List UInt8 := dkwL_law_15 ++ dktL_law_16
def dkwL_law_14 : List UInt8 := [29, 5, 96, 46, 182, 0, 44, 44, 42, 29, 4, 96, 46, 42, 29, 5, 96, 46, 182, 0, 47, 159, 1, 127]
abbrev dktL_law_14 : List UInt8 := dkwL_law_14 ++ dktL_law_15
def dkwL_law_13 : List UInt8 := [29, 4, 96, 46, 42, 29, 5, 96, 46, 182, 0, 43, 159, 1, 160, 3, 172, 43, 42, 29, 4, 96, 46, 42]
abbrev dktL_law_13 : List UInt8 := dkwL_law_13 ++ dktL_law_14
def dkwL_law_12 : List UInt8 := [182, 0, 39, 159, 1, 193, 3, 172, 43, 42, 29, 4, 96, 46, 42, 29, 5, 96, 46, 182, 0, 40, 44, 42]
abbrev dktL_law_12 : List UInt8 := dkwL_law_12 ++ dktL_law_13
def dkwL_law_11 : List UInt8 := [182, 0, 35, 159, 1, 216, 3, 172, 43, 42, 29, 4, 96, 46, 182, 0, 36, 44, 42, 29, 4, 96, 46]
abbrev dktL_law_11 : List UInt8 := dkwL_law_11 ++ dktL_law_12
def dkwL_law_10 : List UInt8 := [182, 0, 30, 159, 1, 239, 3, 172, 43, 42, 29, 4, 96, 46, 182, 0, 31, 44, 42, 29, 4, 96, 46]
abbrev dktL_law_10 : List UInt8 := dkwL_law_10 ++ dktL_law_11
def dkwL_law_9 : List UInt8 := [42, 29, 4, 96, 46, 42, 29, 5, 96, 46, 182, 0, 27, 44, 42, 29, 4, 96, 46, 42, 29, 5, 96, 46]
abbrev dktL_law_9 : List UInt8 := dkwL_law_9 ++ dktL_law_10
def dkwL_law_8 : List UInt8 := [46, 182, 0, 23, 44, 42, 29, 4, 96, 46, 42, 29, 5, 96, 46, 182, 0, 26, 159, 2, 16, 3, 172, 43]
abbrev dktL_law_8 : List UInt8 := dkwL_law_8 ++ dktL_law_9
def dkwL_law_7 : List UInt8 := [46, 42, 29, 5, 96, 46, 182, 0, 22, 159, 2, 49, 3, 172, 43, 42, 29, 4, 96, 46, 42, 29, 5, 96]
abbrev dktL_law_7 : List UInt8 := dkwL_law_7 ++ dktL_law_8
def dkwL_law_6 : List UInt8 := [159, 2, 82, 3, 172, 43, 42, 29, 4, 96, 46, 42, 29, 5, 96, 46, 182, 0, 18, 44, 42, 29, 4, 96]
abbrev dktL_law_6 : List UInt8 := dkwL_law_6 ++ dktL_law_7
def dkwL_law_5 : List UInt8 := [6, 96, 46, 42, 29, 7, 96, 46, 42, 29, 8, 96, 46, 42, 29, 16, 6, 96, 46, 182, 0, 17]
abbrev dktL_law_5 : List UInt8 := dkwL_law_5 ++ dktL_law_6
def dkwL_law_4 : List UInt8 := [96, 46, 42, 29, 16, 6, 96, 46, 182, 0, 13, 44, 42, 29, 4, 96, 46, 42, 29, 5, 96, 46, 42, 29]
abbrev dktL_law_4 : List UInt8 := dkwL_law_4 ++ dktL_law_5
def dkwL_law_3 : List UInt8 := [43, 42, 29, 4, 96, 46, 42, 29, 5, 96, 46, 42, 29, 6, 96, 46, 42, 29, 7, 96, 46, 42, 29, 8]
abbrev dktL_law_3 : List UInt8 := dkwL_law_3 ++ dktL_law_4
def dkwL_law_2 : List UInt8 := [170, 0, 0, 0, 0, 3, 7, 0, 0, 0, 0, 0, 0, 0, 23, 0, 0, 0, 111, 0, 0, 0, 186, 0, 0, 0, 219, 0, 0, 0, 252, 0, 0, 1, 29, 0, 0, 1, 52, 0, 0, 1, 75, 0, 0, 1, 108, 0, 0, 1, 141, 0, 0, 1, 184, 0, 0, 1, 217, 0, 0, 1, 250, 0, 0, 2, 17, 0, 0, 2, 40, 0, 0, 2, 63, 0, 0, 2, 86, 0, 0, 2, 109, 0, 0, 2, 142, 0, 0, 2, 155, 0, 0, 2, 178, 0, 0, 2, 191, 0, 0, 2, 214, 0, 0, 2, 227, 0, 0, 2, 250]
abbrev dktL_law_2 : List UInt8 := dkwL_law_2 ++ dktL_law_3
def dkwL_law_1 : List UInt8 := [163, 3, 22, 42, 29, 46, 16, 31, 126]
abbrev dktL_law_1 : List UInt8 := dkwL_law_1 ++ dktL_law_2
def dkwL_law_0 : List UInt8 := [187, 0, 7, 89, 183, 0, 9, 76, 187, 0, 10, 89, 183, 0, 12, 77, 3, 62, 29, 42, 190, 16, 7, 100]
abbrev dktL_law_0 : List UInt8 := dkwL_law_0 ++ dktL_law_1
theorem dksL_law_0 : cL_law.data.toList.drop 0 = dktL_law_0 := by decide +kernel
theorem dksL_law_1 : cL_law.data.toList.drop 24 = dktL_law_1 := dk_seg dksL_law_0 24 rfl rfl
theorem dksL_law_2 : cL_law.data.toList.drop 33 = dktL_law_2 := dk_seg dksL_law_1 9 rfl rfl
theorem dksL_law_3 : cL_law.data.toList.drop 144 = dktL_law_3 := dk_seg dksL_law_2 111 rfl rfl
theorem dksL_law_4 : cL_law.data.toList.drop 168 = dktL_law_4 := dk_seg dksL_law_3 24 rfl rfl
theorem dksL_law_5 : cL_law.data.toList.drop 192 = dktL_law_5 := dk_seg dksL_law_4 24 rfl rfl
theorem dksL_law_6 : cL_law.data.toList.drop 214 = dktL_law_6 := dk_seg dksL_law_5 22 rfl rfl
theorem dksL_law_7 : cL_law.data.toList.drop 238 = dktL_law_7 := dk_seg dksL_law_6 24 rfl rfl
theorem dksL_law_8 : cL_law.data.toList.drop 262 = dktL_law_8 := dk_seg dksL_law_7 24 rfl rfl
theorem dksL_law_9 : cL_law.data.toList.drop 286 = dktL_law_9 := dk_seg dksL_law_8 24 rfl rfl
theorem dksL_law_10 : cL_law.data.toList.drop 310 = dktL_law_10 := dk_seg dksL_law_9 24 rfl rfl
theorem dksL_law_11 : cL_law.data.toList.drop 333 = dktL_law_11 := dk_seg dksL_law_10 23 rfl rfl
theorem dksL_law_12 : cL_law.data.toList.drop 356 = dktL_law_12 := dk_seg dksL_law_11 23 rfl rfl
theorem dksL_law_13 : cL_law.data.toList.drop 380 = dktL_law_13 := dk_seg dksL_law_12 24 rfl rfl
theorem dksL_law_14 : cL_law.data.toList.drop 404 = dktL_law_14 := dk_seg dksL_law_13 24 rfl rfl
theorem dksL_law_15 : cL_law.data.toList.drop 428 = dktL_law_15 := dk_seg dksL_law_14 24 rfl rfl
theorem dksL_law_16 : cL_law.data.toList.drop 452 = dktL_law_16 := dk_seg dksL_law_15 24 rfl rfl
theorem dksL_law_17 : cL_law.data.toList.drop 476 = dktL_law_17 := dk_seg dksL_law_16 24 rfl rfl
theorem dksL_law_18 : cL_law.data.toList.drop 498 = dktL_law_18 := dk_seg dksL_law_17 22 rfl rfl
theorem dksL_law_19 : cL_law.data.toList.drop 522 = dktL_law_19 := dk_seg dksL_law_18 24 rfl rfl
theorem dksL_law_20 : cL_law.data.toList.drop 545 = dktL_law_20 := dk_seg dksL_law_19 23 rfl rfl
theorem dksL_law_21 : cL_law.data.toList.drop 568 = dktL_law_21 := dk_seg dksL_law_20 23 rfl rfl
theorem dksL_law_22 : cL_law.data.toList.drop 591 = dktL_law_22 := dk_seg dksL_law_21 23 rfl rfl
theorem dksL_law_23 : cL_law.data.toList.drop 614 = dktL_law_23 := dk_seg dksL_law_22 23 rfl rfl
theorem dksL_law_24 : cL_law.data.toList.drop 637 = dktL_law_24 := dk_seg dksL_law_23 23 rfl rfl
theorem dksL_law_25 : cL_law.data.toList.drop 661 = dktL_law_25 := dk_seg dksL_law_24 24 rfl rfl
theorem dksL_law_26 : cL_law.data.toList.drop 685 = dktL_law_26 := dk_seg dksL_law_25 24 rfl rfl
theorem dksL_law_27 : cL_law.data.toList.drop 709 = dktL_law_27 := dk_seg dksL_law_26 24 rfl rfl
theorem dksL_law_28 : cL_law.data.toList.drop 731 = dktL_law_28 := dk_seg dksL_law_27 22 rfl rfl
theorem dksL_law_29 : cL_law.data.toList.drop 754 = dktL_law_29 := dk_seg dksL_law_28 23 rfl rfl
theorem dksL_law_30 : cL_law.data.toList.drop 778 = dktL_law_30 := dk_seg dksL_law_29 24 rfl rfl
theorem dksL_law_31 : cL_law.data.toList.drop 800 = dktL_law_31 := dk_seg dksL_law_30 22 rfl rfl
theorem dL_law_0 : decode cL_law 0 = .ok (.new 7, 3) := dk_187 0 7 (dk_at dksL_law_0 0 rfl rfl)
theorem dL_law_3 : decode cL_law 3 = .ok (.dup, 1) := dk_89 (dk_at dksL_law_0 3 rfl rfl)
theorem dL_law_4 : decode cL_law 4 = .ok (.invokespecial 9, 3) := dk_183 0 9 (dk_at dksL_law_0 4 rfl rfl)
theorem dL_law_7 : decode cL_law 7 = .ok (.astore_n 1, 1) := dk_76 (dk_at dksL_law_0 7 rfl rfl)
theorem dL_law_8 : decode cL_law 8 = .ok (.new 10, 3) := dk_187 0 10 (dk_at dksL_law_0 8 rfl rfl)
theorem dL_law_11 : decode cL_law 11 = .ok (.dup, 1) := dk_89 (dk_at dksL_law_0 11 rfl rfl)
theorem dL_law_12 : decode cL_law 12 = .ok (.invokespecial 12, 3) := dk_183 0 12 (dk_at dksL_law_0 12 rfl rfl)
theorem dL_law_15 : decode cL_law 15 = .ok (.astore_n 2, 1) := dk_77 (dk_at dksL_law_0 15 rfl rfl)
theorem dL_law_16 : decode cL_law 16 = .ok (.iconst 0, 1) := dk_3 (dk_at dksL_law_0 16 rfl rfl)
theorem dL_law_17 : decode cL_law 17 = .ok (.istore_n 3, 1) := dk_62 (dk_at dksL_law_0 17 rfl rfl)
theorem dL_law_18 : decode cL_law 18 = .ok (.iload_n 3, 1) := dk_29 (dk_at dksL_law_0 18 rfl rfl)
theorem dL_law_19 : decode cL_law 19 = .ok (.aload_n 0, 1) := dk_42 (dk_at dksL_law_0 19 rfl rfl)
theorem dL_law_20 : decode cL_law 20 = .ok (.arraylength, 1) := dk_190 (dk_at dksL_law_0 20 rfl rfl)
theorem dL_law_21 : decode cL_law 21 = .ok (.bipush 7, 2) := dk_16 7 (dk_at dksL_law_0 21 rfl rfl)
theorem dL_law_23 : decode cL_law 23 = .ok (.isub, 1) := dk_100 (dk_at dksL_law_0 23 rfl rfl)
theorem dL_law_24 : decode cL_law 24 = .ok (.if_icmp .gt 790, 3) := dk_163 3 22 (dk_at dksL_law_1 0 rfl rfl)
theorem dL_law_27 : decode cL_law 27 = .ok (.aload_n 0, 1) := dk_42 (dk_at dksL_law_1 3 rfl rfl)
theorem dL_law_28 : decode cL_law 28 = .ok (.iload_n 3, 1) := dk_29 (dk_at dksL_law_1 4 rfl rfl)
theorem dL_law_29 : decode cL_law 29 = .ok (.iaload, 1) := dk_46 (dk_at dksL_law_1 5 rfl rfl)
theorem dL_law_30 : decode cL_law 30 = .ok (.bipush 31, 2) := dk_16 31 (dk_at dksL_law_1 6 rfl rfl)
theorem dL_law_32 : decode cL_law 32 = .ok (.iand, 1) := dk_126 (dk_at dksL_law_1 8 rfl rfl)
theorem dL_law_33 : decode cL_law 33 = .ok (.tableswitch 775 0 23 #[111, 186, 219, 252, 285, 308, 331, 364, 397, 440, 473, 506, 529, 552, 575, 598, 621, 654, 667, 690, 703, 726, 739, 762], 111) := by decide +kernel
theorem dL_law_144 : decode cL_law 144 = .ok (.aload_n 1, 1) := dk_43 (dk_at dksL_law_3 0 rfl rfl)
theorem dL_law_145 : decode cL_law 145 = .ok (.aload_n 0, 1) := dk_42 (dk_at dksL_law_3 1 rfl rfl)
theorem dL_law_146 : decode cL_law 146 = .ok (.iload_n 3, 1) := dk_29 (dk_at dksL_law_3 2 rfl rfl)
theorem dL_law_147 : decode cL_law 147 = .ok (.iconst 1, 1) := dk_4 (dk_at dksL_law_3 3 rfl rfl)
theorem dL_law_148 : decode cL_law 148 = .ok (.iadd, 1) := dk_96 (dk_at dksL_law_3 4 rfl rfl)
theorem dL_law_149 : decode cL_law 149 = .ok (.iaload, 1) := dk_46 (dk_at dksL_law_3 5 rfl rfl)
theorem dL_law_150 : decode cL_law 150 = .ok (.aload_n 0, 1) := dk_42 (dk_at dksL_law_3 6 rfl rfl)
theorem dL_law_151 : decode cL_law 151 = .ok (.iload_n 3, 1) := dk_29 (dk_at dksL_law_3 7 rfl rfl)
theorem dL_law_152 : decode cL_law 152 = .ok (.iconst 2, 1) := dk_5 (dk_at dksL_law_3 8 rfl rfl)
theorem dL_law_153 : decode cL_law 153 = .ok (.iadd, 1) := dk_96 (dk_at dksL_law_3 9 rfl rfl)
theorem dL_law_154 : decode cL_law 154 = .ok (.iaload, 1) := dk_46 (dk_at dksL_law_3 10 rfl rfl)
theorem dL_law_155 : decode cL_law 155 = .ok (.aload_n 0, 1) := dk_42 (dk_at dksL_law_3 11 rfl rfl)
theorem dL_law_156 : decode cL_law 156 = .ok (.iload_n 3, 1) := dk_29 (dk_at dksL_law_3 12 rfl rfl)
theorem dL_law_157 : decode cL_law 157 = .ok (.iconst 3, 1) := dk_6 (dk_at dksL_law_3 13 rfl rfl)
theorem dL_law_158 : decode cL_law 158 = .ok (.iadd, 1) := dk_96 (dk_at dksL_law_3 14 rfl rfl)
theorem dL_law_159 : decode cL_law 159 = .ok (.iaload, 1) := dk_46 (dk_at dksL_law_3 15 rfl rfl)
theorem dL_law_160 : decode cL_law 160 = .ok (.aload_n 0, 1) := dk_42 (dk_at dksL_law_3 16 rfl rfl)
theorem dL_law_161 : decode cL_law 161 = .ok (.iload_n 3, 1) := dk_29 (dk_at dksL_law_3 17 rfl rfl)
theorem dL_law_162 : decode cL_law 162 = .ok (.iconst 4, 1) := dk_7 (dk_at dksL_law_3 18 rfl rfl)
theorem dL_law_163 : decode cL_law 163 = .ok (.iadd, 1) := dk_96 (dk_at dksL_law_3 19 rfl rfl)
theorem dL_law_164 : decode cL_law 164 = .ok (.iaload, 1) := dk_46 (dk_at dksL_law_3 20 rfl rfl)
theorem dL_law_165 : decode cL_law 165 = .ok (.aload_n 0, 1) := dk_42 (dk_at dksL_law_3 21 rfl rfl)
theorem dL_law_166 : decode cL_law 166 = .ok (.iload_n 3, 1) := dk_29 (dk_at dksL_law_3 22 rfl rfl)
theorem dL_law_167 : decode cL_law 167 = .ok (.iconst 5, 1) := dk_8 (dk_at dksL_law_3 23 rfl rfl)
theorem dL_law_168 : decode cL_law 168 = .ok (.iadd, 1) := dk_96 (dk_at dksL_law_4 0 rfl rfl)
theorem dL_law_169 : decode cL_law 169 = .ok (.iaload, 1) := dk_46 (dk_at dksL_law_4 1 rfl rfl)
theorem dL_law_170 : decode cL_law 170 = .ok (.aload_n 0, 1) := dk_42 (dk_at dksL_law_4 2 rfl rfl)
theorem dL_law_171 : decode cL_law 171 = .ok (.iload_n 3, 1) := dk_29 (dk_at dksL_law_4 3 rfl rfl)
theorem dL_law_172 : decode cL_law 172 = .ok (.bipush 6, 2) := dk_16 6 (dk_at dksL_law_4 4 rfl rfl)
theorem dL_law_174 : decode cL_law 174 = .ok (.iadd, 1) := dk_96 (dk_at dksL_law_4 6 rfl rfl)
theorem dL_law_175 : decode cL_law 175 = .ok (.iaload, 1) := dk_46 (dk_at dksL_law_4 7 rfl rfl)
theorem dL_law_176 : decode cL_law 176 = .ok (.invokevirtual 13, 3) := dk_182 0 13 (dk_at dksL_law_4 8 rfl rfl)
theorem dL_law_179 : decode cL_law 179 = .ok (.aload_n 2, 1) := dk_44 (dk_at dksL_law_4 11 rfl rfl)
theorem dL_law_180 : decode cL_law 180 = .ok (.aload_n 0, 1) := dk_42 (dk_at dksL_law_4 12 rfl rfl)
theorem dL_law_181 : decode cL_law 181 = .ok (.iload_n 3, 1) := dk_29 (dk_at dksL_law_4 13 rfl rfl)
theorem dL_law_182 : decode cL_law 182 = .ok (.iconst 1, 1) := dk_4 (dk_at dksL_law_4 14 rfl rfl)
theorem dL_law_183 : decode cL_law 183 = .ok (.iadd, 1) := dk_96 (dk_at dksL_law_4 15 rfl rfl)
theorem dL_law_184 : decode cL_law 184 = .ok (.iaload, 1) := dk_46 (dk_at dksL_law_4 16 rfl rfl)
theorem dL_law_185 : decode cL_law 185 = .ok (.aload_n 0, 1) := dk_42 (dk_at dksL_law_4 17 rfl rfl)
theorem dL_law_186 : decode cL_law 186 = .ok (.iload_n 3, 1) := dk_29 (dk_at dksL_law_4 18 rfl rfl)
theorem dL_law_187 : decode cL_law 187 = .ok (.iconst 2, 1) := dk_5 (dk_at dksL_law_4 19 rfl rfl)
theorem dL_law_188 : decode cL_law 188 = .ok (.iadd, 1) := dk_96 (dk_at dksL_law_4 20 rfl rfl)
theorem dL_law_189 : decode cL_law 189 = .ok (.iaload, 1) := dk_46 (dk_at dksL_law_4 21 rfl rfl)
theorem dL_law_190 : decode cL_law 190 = .ok (.aload_n 0, 1) := dk_42 (dk_at dksL_law_4 22 rfl rfl)
theorem dL_law_191 : decode cL_law 191 = .ok (.iload_n 3, 1) := dk_29 (dk_at dksL_law_4 23 rfl rfl)
theorem dL_law_192 : decode cL_law 192 = .ok (.iconst 3, 1) := dk_6 (dk_at dksL_law_5 0 rfl rfl)
theorem dL_law_193 : decode cL_law 193 = .ok (.iadd, 1) := dk_96 (dk_at dksL_law_5 1 rfl rfl)
theorem dL_law_194 : decode cL_law 194 = .ok (.iaload, 1) := dk_46 (dk_at dksL_law_5 2 rfl rfl)
theorem dL_law_195 : decode cL_law 195 = .ok (.aload_n 0, 1) := dk_42 (dk_at dksL_law_5 3 rfl rfl)
theorem dL_law_196 : decode cL_law 196 = .ok (.iload_n 3, 1) := dk_29 (dk_at dksL_law_5 4 rfl rfl)
theorem dL_law_197 : decode cL_law 197 = .ok (.iconst 4, 1) := dk_7 (dk_at dksL_law_5 5 rfl rfl)
theorem dL_law_198 : decode cL_law 198 = .ok (.iadd, 1) := dk_96 (dk_at dksL_law_5 6 rfl rfl)
theorem dL_law_199 : decode cL_law 199 = .ok (.iaload, 1) := dk_46 (dk_at dksL_law_5 7 rfl rfl)
theorem dL_law_200 : decode cL_law 200 = .ok (.aload_n 0, 1) := dk_42 (dk_at dksL_law_5 8 rfl rfl)
theorem dL_law_201 : decode cL_law 201 = .ok (.iload_n 3, 1) := dk_29 (dk_at dksL_law_5 9 rfl rfl)
theorem dL_law_202 : decode cL_law 202 = .ok (.iconst 5, 1) := dk_8 (dk_at dksL_law_5 10 rfl rfl)
theorem dL_law_203 : decode cL_law 203 = .ok (.iadd, 1) := dk_96 (dk_at dksL_law_5 11 rfl rfl)
theorem dL_law_204 : decode cL_law 204 = .ok (.iaload, 1) := dk_46 (dk_at dksL_law_5 12 rfl rfl)
theorem dL_law_205 : decode cL_law 205 = .ok (.aload_n 0, 1) := dk_42 (dk_at dksL_law_5 13 rfl rfl)
theorem dL_law_206 : decode cL_law 206 = .ok (.iload_n 3, 1) := dk_29 (dk_at dksL_law_5 14 rfl rfl)
theorem dL_law_207 : decode cL_law 207 = .ok (.bipush 6, 2) := dk_16 6 (dk_at dksL_law_5 15 rfl rfl)
theorem dL_law_209 : decode cL_law 209 = .ok (.iadd, 1) := dk_96 (dk_at dksL_law_5 17 rfl rfl)
theorem dL_law_210 : decode cL_law 210 = .ok (.iaload, 1) := dk_46 (dk_at dksL_law_5 18 rfl rfl)
theorem dL_law_211 : decode cL_law 211 = .ok (.invokevirtual 17, 3) := dk_182 0 17 (dk_at dksL_law_5 19 rfl rfl)
theorem dL_law_214 : decode cL_law 214 = .ok (.if_icmp .eq 594, 3) := dk_159 2 82 (dk_at dksL_law_6 0 rfl rfl)
theorem dL_law_217 : decode cL_law 217 = .ok (.iconst 0, 1) := dk_3 (dk_at dksL_law_6 3 rfl rfl)
theorem dL_law_218 : decode cL_law 218 = .ok (.ireturn, 1) := dk_172 (dk_at dksL_law_6 4 rfl rfl)
theorem dL_law_219 : decode cL_law 219 = .ok (.aload_n 1, 1) := dk_43 (dk_at dksL_law_6 5 rfl rfl)
theorem dL_law_220 : decode cL_law 220 = .ok (.aload_n 0, 1) := dk_42 (dk_at dksL_law_6 6 rfl rfl)
theorem dL_law_221 : decode cL_law 221 = .ok (.iload_n 3, 1) := dk_29 (dk_at dksL_law_6 7 rfl rfl)
theorem dL_law_222 : decode cL_law 222 = .ok (.iconst 1, 1) := dk_4 (dk_at dksL_law_6 8 rfl rfl)
theorem dL_law_223 : decode cL_law 223 = .ok (.iadd, 1) := dk_96 (dk_at dksL_law_6 9 rfl rfl)
theorem dL_law_224 : decode cL_law 224 = .ok (.iaload, 1) := dk_46 (dk_at dksL_law_6 10 rfl rfl)
theorem dL_law_225 : decode cL_law 225 = .ok (.aload_n 0, 1) := dk_42 (dk_at dksL_law_6 11 rfl rfl)
theorem dL_law_226 : decode cL_law 226 = .ok (.iload_n 3, 1) := dk_29 (dk_at dksL_law_6 12 rfl rfl)
theorem dL_law_227 : decode cL_law 227 = .ok (.iconst 2, 1) := dk_5 (dk_at dksL_law_6 13 rfl rfl)
theorem dL_law_228 : decode cL_law 228 = .ok (.iadd, 1) := dk_96 (dk_at dksL_law_6 14 rfl rfl)
theorem dL_law_229 : decode cL_law 229 = .ok (.iaload, 1) := dk_46 (dk_at dksL_law_6 15 rfl rfl)
theorem dL_law_230 : decode cL_law 230 = .ok (.invokevirtual 18, 3) := dk_182 0 18 (dk_at dksL_law_6 16 rfl rfl)
theorem dL_law_233 : decode cL_law 233 = .ok (.aload_n 2, 1) := dk_44 (dk_at dksL_law_6 19 rfl rfl)
theorem dL_law_234 : decode cL_law 234 = .ok (.aload_n 0, 1) := dk_42 (dk_at dksL_law_6 20 rfl rfl)
theorem dL_law_235 : decode cL_law 235 = .ok (.iload_n 3, 1) := dk_29 (dk_at dksL_law_6 21 rfl rfl)
theorem dL_law_236 : decode cL_law 236 = .ok (.iconst 1, 1) := dk_4 (dk_at dksL_law_6 22 rfl rfl)
theorem dL_law_237 : decode cL_law 237 = .ok (.iadd, 1) := dk_96 (dk_at dksL_law_6 23 rfl rfl)
theorem dL_law_238 : decode cL_law 238 = .ok (.iaload, 1) := dk_46 (dk_at dksL_law_7 0 rfl rfl)
theorem dL_law_239 : decode cL_law 239 = .ok (.aload_n 0, 1) := dk_42 (dk_at dksL_law_7 1 rfl rfl)
theorem dL_law_240 : decode cL_law 240 = .ok (.iload_n 3, 1) := dk_29 (dk_at dksL_law_7 2 rfl rfl)
theorem dL_law_241 : decode cL_law 241 = .ok (.iconst 2, 1) := dk_5 (dk_at dksL_law_7 3 rfl rfl)
theorem dL_law_242 : decode cL_law 242 = .ok (.iadd, 1) := dk_96 (dk_at dksL_law_7 4 rfl rfl)
theorem dL_law_243 : decode cL_law 243 = .ok (.iaload, 1) := dk_46 (dk_at dksL_law_7 5 rfl rfl)
theorem dL_law_244 : decode cL_law 244 = .ok (.invokevirtual 22, 3) := dk_182 0 22 (dk_at dksL_law_7 6 rfl rfl)
theorem dL_law_247 : decode cL_law 247 = .ok (.if_icmp .eq 561, 3) := dk_159 2 49 (dk_at dksL_law_7 9 rfl rfl)
theorem dL_law_250 : decode cL_law 250 = .ok (.iconst 0, 1) := dk_3 (dk_at dksL_law_7 12 rfl rfl)
theorem dL_law_251 : decode cL_law 251 = .ok (.ireturn, 1) := dk_172 (dk_at dksL_law_7 13 rfl rfl)
theorem dL_law_252 : decode cL_law 252 = .ok (.aload_n 1, 1) := dk_43 (dk_at dksL_law_7 14 rfl rfl)
theorem dL_law_253 : decode cL_law 253 = .ok (.aload_n 0, 1) := dk_42 (dk_at dksL_law_7 15 rfl rfl)
theorem dL_law_254 : decode cL_law 254 = .ok (.iload_n 3, 1) := dk_29 (dk_at dksL_law_7 16 rfl rfl)
theorem dL_law_255 : decode cL_law 255 = .ok (.iconst 1, 1) := dk_4 (dk_at dksL_law_7 17 rfl rfl)
theorem dL_law_256 : decode cL_law 256 = .ok (.iadd, 1) := dk_96 (dk_at dksL_law_7 18 rfl rfl)
theorem dL_law_257 : decode cL_law 257 = .ok (.iaload, 1) := dk_46 (dk_at dksL_law_7 19 rfl rfl)
theorem dL_law_258 : decode cL_law 258 = .ok (.aload_n 0, 1) := dk_42 (dk_at dksL_law_7 20 rfl rfl)
theorem dL_law_259 : decode cL_law 259 = .ok (.iload_n 3, 1) := dk_29 (dk_at dksL_law_7 21 rfl rfl)
theorem dL_law_260 : decode cL_law 260 = .ok (.iconst 2, 1) := dk_5 (dk_at dksL_law_7 22 rfl rfl)
theorem dL_law_261 : decode cL_law 261 = .ok (.iadd, 1) := dk_96 (dk_at dksL_law_7 23 rfl rfl)
theorem dL_law_262 : decode cL_law 262 = .ok (.iaload, 1) := dk_46 (dk_at dksL_law_8 0 rfl rfl)
theorem dL_law_263 : decode cL_law 263 = .ok (.invokevirtual 23, 3) := dk_182 0 23 (dk_at dksL_law_8 1 rfl rfl)
theorem dL_law_266 : decode cL_law 266 = .ok (.aload_n 2, 1) := dk_44 (dk_at dksL_law_8 4 rfl rfl)
theorem dL_law_267 : decode cL_law 267 = .ok (.aload_n 0, 1) := dk_42 (dk_at dksL_law_8 5 rfl rfl)
theorem dL_law_268 : decode cL_law 268 = .ok (.iload_n 3, 1) := dk_29 (dk_at dksL_law_8 6 rfl rfl)
theorem dL_law_269 : decode cL_law 269 = .ok (.iconst 1, 1) := dk_4 (dk_at dksL_law_8 7 rfl rfl)
theorem dL_law_270 : decode cL_law 270 = .ok (.iadd, 1) := dk_96 (dk_at dksL_law_8 8 rfl rfl)
theorem dL_law_271 : decode cL_law 271 = .ok (.iaload, 1) := dk_46 (dk_at dksL_law_8 9 rfl rfl)
theorem dL_law_272 : decode cL_law 272 = .ok (.aload_n 0, 1) := dk_42 (dk_at dksL_law_8 10 rfl rfl)
theorem dL_law_273 : decode cL_law 273 = .ok (.iload_n 3, 1) := dk_29 (dk_at dksL_law_8 11 rfl rfl)
theorem dL_law_274 : decode cL_law 274 = .ok (.iconst 2, 1) := dk_5 (dk_at dksL_law_8 12 rfl rfl)
theorem dL_law_275 : decode cL_law 275 = .ok (.iadd, 1) := dk_96 (dk_at dksL_law_8 13 rfl rfl)
theorem dL_law_276 : decode cL_law 276 = .ok (.iaload, 1) := dk_46 (dk_at dksL_law_8 14 rfl rfl)
theorem dL_law_277 : decode cL_law 277 = .ok (.invokevirtual 26, 3) := dk_182 0 26 (dk_at dksL_law_8 15 rfl rfl)
theorem dL_law_280 : decode cL_law 280 = .ok (.if_icmp .eq 528, 3) := dk_159 2 16 (dk_at dksL_law_8 18 rfl rfl)
theorem dL_law_283 : decode cL_law 283 = .ok (.iconst 0, 1) := dk_3 (dk_at dksL_law_8 21 rfl rfl)
theorem dL_law_284 : decode cL_law 284 = .ok (.ireturn, 1) := dk_172 (dk_at dksL_law_8 22 rfl rfl)
theorem dL_law_285 : decode cL_law 285 = .ok (.aload_n 1, 1) := dk_43 (dk_at dksL_law_8 23 rfl rfl)
theorem dL_law_286 : decode cL_law 286 = .ok (.aload_n 0, 1) := dk_42 (dk_at dksL_law_9 0 rfl rfl)
theorem dL_law_287 : decode cL_law 287 = .ok (.iload_n 3, 1) := dk_29 (dk_at dksL_law_9 1 rfl rfl)
theorem dL_law_288 : decode cL_law 288 = .ok (.iconst 1, 1) := dk_4 (dk_at dksL_law_9 2 rfl rfl)
theorem dL_law_289 : decode cL_law 289 = .ok (.iadd, 1) := dk_96 (dk_at dksL_law_9 3 rfl rfl)
theorem dL_law_290 : decode cL_law 290 = .ok (.iaload, 1) := dk_46 (dk_at dksL_law_9 4 rfl rfl)
theorem dL_law_291 : decode cL_law 291 = .ok (.aload_n 0, 1) := dk_42 (dk_at dksL_law_9 5 rfl rfl)
theorem dL_law_292 : decode cL_law 292 = .ok (.iload_n 3, 1) := dk_29 (dk_at dksL_law_9 6 rfl rfl)
theorem dL_law_293 : decode cL_law 293 = .ok (.iconst 2, 1) := dk_5 (dk_at dksL_law_9 7 rfl rfl)
theorem dL_law_294 : decode cL_law 294 = .ok (.iadd, 1) := dk_96 (dk_at dksL_law_9 8 rfl rfl)
theorem dL_law_295 : decode cL_law 295 = .ok (.iaload, 1) := dk_46 (dk_at dksL_law_9 9 rfl rfl)
theorem dL_law_296 : decode cL_law 296 = .ok (.invokevirtual 27, 3) := dk_182 0 27 (dk_at dksL_law_9 10 rfl rfl)
theorem dL_law_299 : decode cL_law 299 = .ok (.aload_n 2, 1) := dk_44 (dk_at dksL_law_9 13 rfl rfl)
theorem dL_law_300 : decode cL_law 300 = .ok (.aload_n 0, 1) := dk_42 (dk_at dksL_law_9 14 rfl rfl)
theorem dL_law_301 : decode cL_law 301 = .ok (.iload_n 3, 1) := dk_29 (dk_at dksL_law_9 15 rfl rfl)
theorem dL_law_302 : decode cL_law 302 = .ok (.iconst 1, 1) := dk_4 (dk_at dksL_law_9 16 rfl rfl)
theorem dL_law_303 : decode cL_law 303 = .ok (.iadd, 1) := dk_96 (dk_at dksL_law_9 17 rfl rfl)
theorem dL_law_304 : decode cL_law 304 = .ok (.iaload, 1) := dk_46 (dk_at dksL_law_9 18 rfl rfl)
theorem dL_law_305 : decode cL_law 305 = .ok (.aload_n 0, 1) := dk_42 (dk_at dksL_law_9 19 rfl rfl)
theorem dL_law_306 : decode cL_law 306 = .ok (.iload_n 3, 1) := dk_29 (dk_at dksL_law_9 20 rfl rfl)
theorem dL_law_307 : decode cL_law 307 = .ok (.iconst 2, 1) := dk_5 (dk_at dksL_law_9 21 rfl rfl)
theorem dL_law_308 : decode cL_law 308 = .ok (.iadd, 1) := dk_96 (dk_at dksL_law_9 22 rfl rfl)
theorem dL_law_309 : decode cL_law 309 = .ok (.iaload, 1) := dk_46 (dk_at dksL_law_9 23 rfl rfl)
theorem dL_law_310 : decode cL_law 310 = .ok (.invokevirtual 30, 3) := dk_182 0 30 (dk_at dksL_law_10 0 rfl rfl)
theorem dL_law_313 : decode cL_law 313 = .ok (.if_icmp .eq 495, 3) := dk_159 1 239 (dk_at dksL_law_10 3 rfl rfl)
theorem dL_law_316 : decode cL_law 316 = .ok (.iconst 0, 1) := dk_3 (dk_at dksL_law_10 6 rfl rfl)
theorem dL_law_317 : decode cL_law 317 = .ok (.ireturn, 1) := dk_172 (dk_at dksL_law_10 7 rfl rfl)
theorem dL_law_318 : decode cL_law 318 = .ok (.aload_n 1, 1) := dk_43 (dk_at dksL_law_10 8 rfl rfl)
theorem dL_law_319 : decode cL_law 319 = .ok (.aload_n 0, 1) := dk_42 (dk_at dksL_law_10 9 rfl rfl)
theorem dL_law_320 : decode cL_law 320 = .ok (.iload_n 3, 1) := dk_29 (dk_at dksL_law_10 10 rfl rfl)
theorem dL_law_321 : decode cL_law 321 = .ok (.iconst 1, 1) := dk_4 (dk_at dksL_law_10 11 rfl rfl)
theorem dL_law_322 : decode cL_law 322 = .ok (.iadd, 1) := dk_96 (dk_at dksL_law_10 12 rfl rfl)
theorem dL_law_323 : decode cL_law 323 = .ok (.iaload, 1) := dk_46 (dk_at dksL_law_10 13 rfl rfl)
theorem dL_law_324 : decode cL_law 324 = .ok (.invokevirtual 31, 3) := dk_182 0 31 (dk_at dksL_law_10 14 rfl rfl)
theorem dL_law_327 : decode cL_law 327 = .ok (.aload_n 2, 1) := dk_44 (dk_at dksL_law_10 17 rfl rfl)
theorem dL_law_328 : decode cL_law 328 = .ok (.aload_n 0, 1) := dk_42 (dk_at dksL_law_10 18 rfl rfl)
theorem dL_law_329 : decode cL_law 329 = .ok (.iload_n 3, 1) := dk_29 (dk_at dksL_law_10 19 rfl rfl)
theorem dL_law_330 : decode cL_law 330 = .ok (.iconst 1, 1) := dk_4 (dk_at dksL_law_10 20 rfl rfl)
theorem dL_law_331 : decode cL_law 331 = .ok (.iadd, 1) := dk_96 (dk_at dksL_law_10 21 rfl rfl)
theorem dL_law_332 : decode cL_law 332 = .ok (.iaload, 1) := dk_46 (dk_at dksL_law_10 22 rfl rfl)
theorem dL_law_333 : decode cL_law 333 = .ok (.invokevirtual 35, 3) := dk_182 0 35 (dk_at dksL_law_11 0 rfl rfl)
theorem dL_law_336 : decode cL_law 336 = .ok (.if_icmp .eq 472, 3) := dk_159 1 216 (dk_at dksL_law_11 3 rfl rfl)
theorem dL_law_339 : decode cL_law 339 = .ok (.iconst 0, 1) := dk_3 (dk_at dksL_law_11 6 rfl rfl)
theorem dL_law_340 : decode cL_law 340 = .ok (.ireturn, 1) := dk_172 (dk_at dksL_law_11 7 rfl rfl)
theorem dL_law_341 : decode cL_law 341 = .ok (.aload_n 1, 1) := dk_43 (dk_at dksL_law_11 8 rfl rfl)
theorem dL_law_342 : decode cL_law 342 = .ok (.aload_n 0, 1) := dk_42 (dk_at dksL_law_11 9 rfl rfl)
theorem dL_law_343 : decode cL_law 343 = .ok (.iload_n 3, 1) := dk_29 (dk_at dksL_law_11 10 rfl rfl)
theorem dL_law_344 : decode cL_law 344 = .ok (.iconst 1, 1) := dk_4 (dk_at dksL_law_11 11 rfl rfl)
theorem dL_law_345 : decode cL_law 345 = .ok (.iadd, 1) := dk_96 (dk_at dksL_law_11 12 rfl rfl)
theorem dL_law_346 : decode cL_law 346 = .ok (.iaload, 1) := dk_46 (dk_at dksL_law_11 13 rfl rfl)
theorem dL_law_347 : decode cL_law 347 = .ok (.invokevirtual 36, 3) := dk_182 0 36 (dk_at dksL_law_11 14 rfl rfl)
theorem dL_law_350 : decode cL_law 350 = .ok (.aload_n 2, 1) := dk_44 (dk_at dksL_law_11 17 rfl rfl)
theorem dL_law_351 : decode cL_law 351 = .ok (.aload_n 0, 1) := dk_42 (dk_at dksL_law_11 18 rfl rfl)
theorem dL_law_352 : decode cL_law 352 = .ok (.iload_n 3, 1) := dk_29 (dk_at dksL_law_11 19 rfl rfl)
theorem dL_law_353 : decode cL_law 353 = .ok (.iconst 1, 1) := dk_4 (dk_at dksL_law_11 20 rfl rfl)
theorem dL_law_354 : decode cL_law 354 = .ok (.iadd, 1) := dk_96 (dk_at dksL_law_11 21 rfl rfl)
theorem dL_law_355 : decode cL_law 355 = .ok (.iaload, 1) := dk_46 (dk_at dksL_law_11 22 rfl rfl)
theorem dL_law_356 : decode cL_law 356 = .ok (.invokevirtual 39, 3) := dk_182 0 39 (dk_at dksL_law_12 0 rfl rfl)
theorem dL_law_359 : decode cL_law 359 = .ok (.if_icmp .eq 449, 3) := dk_159 1 193 (dk_at dksL_law_12 3 rfl rfl)
theorem dL_law_362 : decode cL_law 362 = .ok (.iconst 0, 1) := dk_3 (dk_at dksL_law_12 6 rfl rfl)
theorem dL_law_363 : decode cL_law 363 = .ok (.ireturn, 1) := dk_172 (dk_at dksL_law_12 7 rfl rfl)
theorem dL_law_364 : decode cL_law 364 = .ok (.aload_n 1, 1) := dk_43 (dk_at dksL_law_12 8 rfl rfl)
theorem dL_law_365 : decode cL_law 365 = .ok (.aload_n 0, 1) := dk_42 (dk_at dksL_law_12 9 rfl rfl)
theorem dL_law_366 : decode cL_law 366 = .ok (.iload_n 3, 1) := dk_29 (dk_at dksL_law_12 10 rfl rfl)
theorem dL_law_367 : decode cL_law 367 = .ok (.iconst 1, 1) := dk_4 (dk_at dksL_law_12 11 rfl rfl)
theorem dL_law_368 : decode cL_law 368 = .ok (.iadd, 1) := dk_96 (dk_at dksL_law_12 12 rfl rfl)
theorem dL_law_369 : decode cL_law 369 = .ok (.iaload, 1) := dk_46 (dk_at dksL_law_12 13 rfl rfl)
theorem dL_law_370 : decode cL_law 370 = .ok (.aload_n 0, 1) := dk_42 (dk_at dksL_law_12 14 rfl rfl)
theorem dL_law_371 : decode cL_law 371 = .ok (.iload_n 3, 1) := dk_29 (dk_at dksL_law_12 15 rfl rfl)
theorem dL_law_372 : decode cL_law 372 = .ok (.iconst 2, 1) := dk_5 (dk_at dksL_law_12 16 rfl rfl)
theorem dL_law_373 : decode cL_law 373 = .ok (.iadd, 1) := dk_96 (dk_at dksL_law_12 17 rfl rfl)
theorem dL_law_374 : decode cL_law 374 = .ok (.iaload, 1) := dk_46 (dk_at dksL_law_12 18 rfl rfl)
theorem dL_law_375 : decode cL_law 375 = .ok (.invokevirtual 40, 3) := dk_182 0 40 (dk_at dksL_law_12 19 rfl rfl)
theorem dL_law_378 : decode cL_law 378 = .ok (.aload_n 2, 1) := dk_44 (dk_at dksL_law_12 22 rfl rfl)
theorem dL_law_379 : decode cL_law 379 = .ok (.aload_n 0, 1) := dk_42 (dk_at dksL_law_12 23 rfl rfl)
theorem dL_law_380 : decode cL_law 380 = .ok (.iload_n 3, 1) := dk_29 (dk_at dksL_law_13 0 rfl rfl)
theorem dL_law_381 : decode cL_law 381 = .ok (.iconst 1, 1) := dk_4 (dk_at dksL_law_13 1 rfl rfl)
theorem dL_law_382 : decode cL_law 382 = .ok (.iadd, 1) := dk_96 (dk_at dksL_law_13 2 rfl rfl)
theorem dL_law_383 : decode cL_law 383 = .ok (.iaload, 1) := dk_46 (dk_at dksL_law_13 3 rfl rfl)
theorem dL_law_384 : decode cL_law 384 = .ok (.aload_n 0, 1) := dk_42 (dk_at dksL_law_13 4 rfl rfl)
theorem dL_law_385 : decode cL_law 385 = .ok (.iload_n 3, 1) := dk_29 (dk_at dksL_law_13 5 rfl rfl)
theorem dL_law_386 : decode cL_law 386 = .ok (.iconst 2, 1) := dk_5 (dk_at dksL_law_13 6 rfl rfl)
theorem dL_law_387 : decode cL_law 387 = .ok (.iadd, 1) := dk_96 (dk_at dksL_law_13 7 rfl rfl)
theorem dL_law_388 : decode cL_law 388 = .ok (.iaload, 1) := dk_46 (dk_at dksL_law_13 8 rfl rfl)
theorem dL_law_389 : decode cL_law 389 = .ok (.invokevirtual 43, 3) := dk_182 0 43 (dk_at dksL_law_13 9 rfl rfl)
theorem dL_law_392 : decode cL_law 392 = .ok (.if_icmp .eq 416, 3) := dk_159 1 160 (dk_at dksL_law_13 12 rfl rfl)
theorem dL_law_395 : decode cL_law 395 = .ok (.iconst 0, 1) := dk_3 (dk_at dksL_law_13 15 rfl rfl)
theorem dL_law_396 : decode cL_law 396 = .ok (.ireturn, 1) := dk_172 (dk_at dksL_law_13 16 rfl rfl)
theorem dL_law_397 : decode cL_law 397 = .ok (.aload_n 1, 1) := dk_43 (dk_at dksL_law_13 17 rfl rfl)
theorem dL_law_398 : decode cL_law 398 = .ok (.aload_n 0, 1) := dk_42 (dk_at dksL_law_13 18 rfl rfl)
theorem dL_law_399 : decode cL_law 399 = .ok (.iload_n 3, 1) := dk_29 (dk_at dksL_law_13 19 rfl rfl)
theorem dL_law_400 : decode cL_law 400 = .ok (.iconst 1, 1) := dk_4 (dk_at dksL_law_13 20 rfl rfl)
theorem dL_law_401 : decode cL_law 401 = .ok (.iadd, 1) := dk_96 (dk_at dksL_law_13 21 rfl rfl)
theorem dL_law_402 : decode cL_law 402 = .ok (.iaload, 1) := dk_46 (dk_at dksL_law_13 22 rfl rfl)
theorem dL_law_403 : decode cL_law 403 = .ok (.aload_n 0, 1) := dk_42 (dk_at dksL_law_13 23 rfl rfl)
theorem dL_law_404 : decode cL_law 404 = .ok (.iload_n 3, 1) := dk_29 (dk_at dksL_law_14 0 rfl rfl)
theorem dL_law_405 : decode cL_law 405 = .ok (.iconst 2, 1) := dk_5 (dk_at dksL_law_14 1 rfl rfl)
theorem dL_law_406 : decode cL_law 406 = .ok (.iadd, 1) := dk_96 (dk_at dksL_law_14 2 rfl rfl)
theorem dL_law_407 : decode cL_law 407 = .ok (.iaload, 1) := dk_46 (dk_at dksL_law_14 3 rfl rfl)
theorem dL_law_408 : decode cL_law 408 = .ok (.invokevirtual 44, 3) := dk_182 0 44 (dk_at dksL_law_14 4 rfl rfl)
theorem dL_law_411 : decode cL_law 411 = .ok (.aload_n 2, 1) := dk_44 (dk_at dksL_law_14 7 rfl rfl)
theorem dL_law_412 : decode cL_law 412 = .ok (.aload_n 0, 1) := dk_42 (dk_at dksL_law_14 8 rfl rfl)
theorem dL_law_413 : decode cL_law 413 = .ok (.iload_n 3, 1) := dk_29 (dk_at dksL_law_14 9 rfl rfl)
theorem dL_law_414 : decode cL_law 414 = .ok (.iconst 1, 1) := dk_4 (dk_at dksL_law_14 10 rfl rfl)
theorem dL_law_415 : decode cL_law 415 = .ok (.iadd, 1) := dk_96 (dk_at dksL_law_14 11 rfl rfl)
theorem dL_law_416 : decode cL_law 416 = .ok (.iaload, 1) := dk_46 (dk_at dksL_law_14 12 rfl rfl)
theorem dL_law_417 : decode cL_law 417 = .ok (.aload_n 0, 1) := dk_42 (dk_at dksL_law_14 13 rfl rfl)
theorem dL_law_418 : decode cL_law 418 = .ok (.iload_n 3, 1) := dk_29 (dk_at dksL_law_14 14 rfl rfl)
theorem dL_law_419 : decode cL_law 419 = .ok (.iconst 2, 1) := dk_5 (dk_at dksL_law_14 15 rfl rfl)
theorem dL_law_420 : decode cL_law 420 = .ok (.iadd, 1) := dk_96 (dk_at dksL_law_14 16 rfl rfl)
theorem dL_law_421 : decode cL_law 421 = .ok (.iaload, 1) := dk_46 (dk_at dksL_law_14 17 rfl rfl)
theorem dL_law_422 : decode cL_law 422 = .ok (.invokevirtual 47, 3) := dk_182 0 47 (dk_at dksL_law_14 18 rfl rfl)
theorem dL_law_425 : decode cL_law 425 = .ok (.if_icmp .eq 383, 3) := dk_159 1 127 (dk_at dksL_law_14 21 rfl rfl)
theorem dL_law_428 : decode cL_law 428 = .ok (.iconst 0, 1) := dk_3 (dk_at dksL_law_15 0 rfl rfl)
theorem dL_law_429 : decode cL_law 429 = .ok (.ireturn, 1) := dk_172 (dk_at dksL_law_15 1 rfl rfl)
theorem dL_law_430 : decode cL_law 430 = .ok (.aload_n 1, 1) := dk_43 (dk_at dksL_law_15 2 rfl rfl)
theorem dL_law_431 : decode cL_law 431 = .ok (.aload_n 0, 1) := dk_42 (dk_at dksL_law_15 3 rfl rfl)
theorem dL_law_432 : decode cL_law 432 = .ok (.iload_n 3, 1) := dk_29 (dk_at dksL_law_15 4 rfl rfl)
theorem dL_law_433 : decode cL_law 433 = .ok (.iconst 1, 1) := dk_4 (dk_at dksL_law_15 5 rfl rfl)
theorem dL_law_434 : decode cL_law 434 = .ok (.iadd, 1) := dk_96 (dk_at dksL_law_15 6 rfl rfl)
theorem dL_law_435 : decode cL_law 435 = .ok (.iaload, 1) := dk_46 (dk_at dksL_law_15 7 rfl rfl)
theorem dL_law_436 : decode cL_law 436 = .ok (.aload_n 0, 1) := dk_42 (dk_at dksL_law_15 8 rfl rfl)
theorem dL_law_437 : decode cL_law 437 = .ok (.iload_n 3, 1) := dk_29 (dk_at dksL_law_15 9 rfl rfl)
theorem dL_law_438 : decode cL_law 438 = .ok (.iconst 2, 1) := dk_5 (dk_at dksL_law_15 10 rfl rfl)
theorem dL_law_439 : decode cL_law 439 = .ok (.iadd, 1) := dk_96 (dk_at dksL_law_15 11 rfl rfl)
theorem dL_law_440 : decode cL_law 440 = .ok (.iaload, 1) := dk_46 (dk_at dksL_law_15 12 rfl rfl)
theorem dL_law_441 : decode cL_law 441 = .ok (.aload_n 0, 1) := dk_42 (dk_at dksL_law_15 13 rfl rfl)
theorem dL_law_442 : decode cL_law 442 = .ok (.iload_n 3, 1) := dk_29 (dk_at dksL_law_15 14 rfl rfl)
theorem dL_law_443 : decode cL_law 443 = .ok (.iconst 3, 1) := dk_6 (dk_at dksL_law_15 15 rfl rfl)
theorem dL_law_444 : decode cL_law 444 = .ok (.iadd, 1) := dk_96 (dk_at dksL_law_15 16 rfl rfl)
theorem dL_law_445 : decode cL_law 445 = .ok (.iaload, 1) := dk_46 (dk_at dksL_law_15 17 rfl rfl)
theorem dL_law_446 : decode cL_law 446 = .ok (.invokevirtual 48, 3) := dk_182 0 48 (dk_at dksL_law_15 18 rfl rfl)
theorem dL_law_449 : decode cL_law 449 = .ok (.aload_n 2, 1) := dk_44 (dk_at dksL_law_15 21 rfl rfl)
theorem dL_law_450 : decode cL_law 450 = .ok (.aload_n 0, 1) := dk_42 (dk_at dksL_law_15 22 rfl rfl)
theorem dL_law_451 : decode cL_law 451 = .ok (.iload_n 3, 1) := dk_29 (dk_at dksL_law_15 23 rfl rfl)
theorem dL_law_452 : decode cL_law 452 = .ok (.iconst 1, 1) := dk_4 (dk_at dksL_law_16 0 rfl rfl)
theorem dL_law_453 : decode cL_law 453 = .ok (.iadd, 1) := dk_96 (dk_at dksL_law_16 1 rfl rfl)
theorem dL_law_454 : decode cL_law 454 = .ok (.iaload, 1) := dk_46 (dk_at dksL_law_16 2 rfl rfl)
theorem dL_law_455 : decode cL_law 455 = .ok (.aload_n 0, 1) := dk_42 (dk_at dksL_law_16 3 rfl rfl)
theorem dL_law_456 : decode cL_law 456 = .ok (.iload_n 3, 1) := dk_29 (dk_at dksL_law_16 4 rfl rfl)
theorem dL_law_457 : decode cL_law 457 = .ok (.iconst 2, 1) := dk_5 (dk_at dksL_law_16 5 rfl rfl)
theorem dL_law_458 : decode cL_law 458 = .ok (.iadd, 1) := dk_96 (dk_at dksL_law_16 6 rfl rfl)
theorem dL_law_459 : decode cL_law 459 = .ok (.iaload, 1) := dk_46 (dk_at dksL_law_16 7 rfl rfl)
theorem dL_law_460 : decode cL_law 460 = .ok (.aload_n 0, 1) := dk_42 (dk_at dksL_law_16 8 rfl rfl)
theorem dL_law_461 : decode cL_law 461 = .ok (.iload_n 3, 1) := dk_29 (dk_at dksL_law_16 9 rfl rfl)
theorem dL_law_462 : decode cL_law 462 = .ok (.iconst 3, 1) := dk_6 (dk_at dksL_law_16 10 rfl rfl)
theorem dL_law_463 : decode cL_law 463 = .ok (.iadd, 1) := dk_96 (dk_at dksL_law_16 11 rfl rfl)
theorem dL_law_464 : decode cL_law 464 = .ok (.iaload, 1) := dk_46 (dk_at dksL_law_16 12 rfl rfl)
theorem dL_law_465 : decode cL_law 465 = .ok (.invokevirtual 52, 3) := dk_182 0 52 (dk_at dksL_law_16 13 rfl rfl)
theorem dL_law_468 : decode cL_law 468 = .ok (.if_icmp .eq 340, 3) := dk_159 1 84 (dk_at dksL_law_16 16 rfl rfl)
theorem dL_law_471 : decode cL_law 471 = .ok (.iconst 0, 1) := dk_3 (dk_at dksL_law_16 19 rfl rfl)
theorem dL_law_472 : decode cL_law 472 = .ok (.ireturn, 1) := dk_172 (dk_at dksL_law_16 20 rfl rfl)
theorem dL_law_473 : decode cL_law 473 = .ok (.aload_n 1, 1) := dk_43 (dk_at dksL_law_16 21 rfl rfl)
theorem dL_law_474 : decode cL_law 474 = .ok (.aload_n 0, 1) := dk_42 (dk_at dksL_law_16 22 rfl rfl)
theorem dL_law_475 : decode cL_law 475 = .ok (.iload_n 3, 1) := dk_29 (dk_at dksL_law_16 23 rfl rfl)
theorem dL_law_476 : decode cL_law 476 = .ok (.iconst 1, 1) := dk_4 (dk_at dksL_law_17 0 rfl rfl)
theorem dL_law_477 : decode cL_law 477 = .ok (.iadd, 1) := dk_96 (dk_at dksL_law_17 1 rfl rfl)
theorem dL_law_478 : decode cL_law 478 = .ok (.iaload, 1) := dk_46 (dk_at dksL_law_17 2 rfl rfl)
theorem dL_law_479 : decode cL_law 479 = .ok (.aload_n 0, 1) := dk_42 (dk_at dksL_law_17 3 rfl rfl)
theorem dL_law_480 : decode cL_law 480 = .ok (.iload_n 3, 1) := dk_29 (dk_at dksL_law_17 4 rfl rfl)
theorem dL_law_481 : decode cL_law 481 = .ok (.iconst 2, 1) := dk_5 (dk_at dksL_law_17 5 rfl rfl)
theorem dL_law_482 : decode cL_law 482 = .ok (.iadd, 1) := dk_96 (dk_at dksL_law_17 6 rfl rfl)
theorem dL_law_483 : decode cL_law 483 = .ok (.iaload, 1) := dk_46 (dk_at dksL_law_17 7 rfl rfl)
theorem dL_law_484 : decode cL_law 484 = .ok (.invokevirtual 53, 3) := dk_182 0 53 (dk_at dksL_law_17 8 rfl rfl)
theorem dL_law_487 : decode cL_law 487 = .ok (.aload_n 2, 1) := dk_44 (dk_at dksL_law_17 11 rfl rfl)
theorem dL_law_488 : decode cL_law 488 = .ok (.aload_n 0, 1) := dk_42 (dk_at dksL_law_17 12 rfl rfl)
theorem dL_law_489 : decode cL_law 489 = .ok (.iload_n 3, 1) := dk_29 (dk_at dksL_law_17 13 rfl rfl)
theorem dL_law_490 : decode cL_law 490 = .ok (.iconst 1, 1) := dk_4 (dk_at dksL_law_17 14 rfl rfl)
theorem dL_law_491 : decode cL_law 491 = .ok (.iadd, 1) := dk_96 (dk_at dksL_law_17 15 rfl rfl)
theorem dL_law_492 : decode cL_law 492 = .ok (.iaload, 1) := dk_46 (dk_at dksL_law_17 16 rfl rfl)
theorem dL_law_493 : decode cL_law 493 = .ok (.aload_n 0, 1) := dk_42 (dk_at dksL_law_17 17 rfl rfl)
theorem dL_law_494 : decode cL_law 494 = .ok (.iload_n 3, 1) := dk_29 (dk_at dksL_law_17 18 rfl rfl)
theorem dL_law_495 : decode cL_law 495 = .ok (.iconst 2, 1) := dk_5 (dk_at dksL_law_17 19 rfl rfl)
theorem dL_law_496 : decode cL_law 496 = .ok (.iadd, 1) := dk_96 (dk_at dksL_law_17 20 rfl rfl)
theorem dL_law_497 : decode cL_law 497 = .ok (.iaload, 1) := dk_46 (dk_at dksL_law_17 21 rfl rfl)
theorem dL_law_498 : decode cL_law 498 = .ok (.invokevirtual 56, 3) := dk_182 0 56 (dk_at dksL_law_18 0 rfl rfl)
theorem dL_law_501 : decode cL_law 501 = .ok (.if_icmp .eq 307, 3) := dk_159 1 51 (dk_at dksL_law_18 3 rfl rfl)
theorem dL_law_504 : decode cL_law 504 = .ok (.iconst 0, 1) := dk_3 (dk_at dksL_law_18 6 rfl rfl)
theorem dL_law_505 : decode cL_law 505 = .ok (.ireturn, 1) := dk_172 (dk_at dksL_law_18 7 rfl rfl)
theorem dL_law_506 : decode cL_law 506 = .ok (.aload_n 1, 1) := dk_43 (dk_at dksL_law_18 8 rfl rfl)
theorem dL_law_507 : decode cL_law 507 = .ok (.aload_n 0, 1) := dk_42 (dk_at dksL_law_18 9 rfl rfl)
theorem dL_law_508 : decode cL_law 508 = .ok (.iload_n 3, 1) := dk_29 (dk_at dksL_law_18 10 rfl rfl)
theorem dL_law_509 : decode cL_law 509 = .ok (.iconst 1, 1) := dk_4 (dk_at dksL_law_18 11 rfl rfl)
theorem dL_law_510 : decode cL_law 510 = .ok (.iadd, 1) := dk_96 (dk_at dksL_law_18 12 rfl rfl)
theorem dL_law_511 : decode cL_law 511 = .ok (.iaload, 1) := dk_46 (dk_at dksL_law_18 13 rfl rfl)
theorem dL_law_512 : decode cL_law 512 = .ok (.aload_n 0, 1) := dk_42 (dk_at dksL_law_18 14 rfl rfl)
theorem dL_law_513 : decode cL_law 513 = .ok (.iload_n 3, 1) := dk_29 (dk_at dksL_law_18 15 rfl rfl)
theorem dL_law_514 : decode cL_law 514 = .ok (.iconst 2, 1) := dk_5 (dk_at dksL_law_18 16 rfl rfl)
theorem dL_law_515 : decode cL_law 515 = .ok (.iadd, 1) := dk_96 (dk_at dksL_law_18 17 rfl rfl)
theorem dL_law_516 : decode cL_law 516 = .ok (.iaload, 1) := dk_46 (dk_at dksL_law_18 18 rfl rfl)
theorem dL_law_517 : decode cL_law 517 = .ok (.invokevirtual 57, 3) := dk_182 0 57 (dk_at dksL_law_18 19 rfl rfl)
theorem dL_law_520 : decode cL_law 520 = .ok (.aload_n 2, 1) := dk_44 (dk_at dksL_law_18 22 rfl rfl)
theorem dL_law_521 : decode cL_law 521 = .ok (.aload_n 0, 1) := dk_42 (dk_at dksL_law_18 23 rfl rfl)
theorem dL_law_522 : decode cL_law 522 = .ok (.iload_n 3, 1) := dk_29 (dk_at dksL_law_19 0 rfl rfl)
theorem dL_law_523 : decode cL_law 523 = .ok (.iconst 1, 1) := dk_4 (dk_at dksL_law_19 1 rfl rfl)
theorem dL_law_524 : decode cL_law 524 = .ok (.iadd, 1) := dk_96 (dk_at dksL_law_19 2 rfl rfl)
theorem dL_law_525 : decode cL_law 525 = .ok (.iaload, 1) := dk_46 (dk_at dksL_law_19 3 rfl rfl)
theorem dL_law_526 : decode cL_law 526 = .ok (.aload_n 0, 1) := dk_42 (dk_at dksL_law_19 4 rfl rfl)
theorem dL_law_527 : decode cL_law 527 = .ok (.iload_n 3, 1) := dk_29 (dk_at dksL_law_19 5 rfl rfl)
theorem dL_law_528 : decode cL_law 528 = .ok (.iconst 2, 1) := dk_5 (dk_at dksL_law_19 6 rfl rfl)
theorem dL_law_529 : decode cL_law 529 = .ok (.iadd, 1) := dk_96 (dk_at dksL_law_19 7 rfl rfl)
theorem dL_law_530 : decode cL_law 530 = .ok (.iaload, 1) := dk_46 (dk_at dksL_law_19 8 rfl rfl)
theorem dL_law_531 : decode cL_law 531 = .ok (.invokevirtual 60, 3) := dk_182 0 60 (dk_at dksL_law_19 9 rfl rfl)
theorem dL_law_534 : decode cL_law 534 = .ok (.if_icmp .eq 274, 3) := dk_159 1 18 (dk_at dksL_law_19 12 rfl rfl)
theorem dL_law_537 : decode cL_law 537 = .ok (.iconst 0, 1) := dk_3 (dk_at dksL_law_19 15 rfl rfl)
theorem dL_law_538 : decode cL_law 538 = .ok (.ireturn, 1) := dk_172 (dk_at dksL_law_19 16 rfl rfl)
theorem dL_law_539 : decode cL_law 539 = .ok (.aload_n 1, 1) := dk_43 (dk_at dksL_law_19 17 rfl rfl)
theorem dL_law_540 : decode cL_law 540 = .ok (.aload_n 0, 1) := dk_42 (dk_at dksL_law_19 18 rfl rfl)
theorem dL_law_541 : decode cL_law 541 = .ok (.iload_n 3, 1) := dk_29 (dk_at dksL_law_19 19 rfl rfl)
theorem dL_law_542 : decode cL_law 542 = .ok (.iconst 1, 1) := dk_4 (dk_at dksL_law_19 20 rfl rfl)
theorem dL_law_543 : decode cL_law 543 = .ok (.iadd, 1) := dk_96 (dk_at dksL_law_19 21 rfl rfl)
theorem dL_law_544 : decode cL_law 544 = .ok (.iaload, 1) := dk_46 (dk_at dksL_law_19 22 rfl rfl)
theorem dL_law_545 : decode cL_law 545 = .ok (.invokevirtual 61, 3) := dk_182 0 61 (dk_at dksL_law_20 0 rfl rfl)
theorem dL_law_548 : decode cL_law 548 = .ok (.aload_n 2, 1) := dk_44 (dk_at dksL_law_20 3 rfl rfl)
theorem dL_law_549 : decode cL_law 549 = .ok (.aload_n 0, 1) := dk_42 (dk_at dksL_law_20 4 rfl rfl)
theorem dL_law_550 : decode cL_law 550 = .ok (.iload_n 3, 1) := dk_29 (dk_at dksL_law_20 5 rfl rfl)
theorem dL_law_551 : decode cL_law 551 = .ok (.iconst 1, 1) := dk_4 (dk_at dksL_law_20 6 rfl rfl)
theorem dL_law_552 : decode cL_law 552 = .ok (.iadd, 1) := dk_96 (dk_at dksL_law_20 7 rfl rfl)
theorem dL_law_553 : decode cL_law 553 = .ok (.iaload, 1) := dk_46 (dk_at dksL_law_20 8 rfl rfl)
theorem dL_law_554 : decode cL_law 554 = .ok (.invokevirtual 64, 3) := dk_182 0 64 (dk_at dksL_law_20 9 rfl rfl)
theorem dL_law_557 : decode cL_law 557 = .ok (.if_icmp .eq 251, 3) := dk_159 0 251 (dk_at dksL_law_20 12 rfl rfl)
theorem dL_law_560 : decode cL_law 560 = .ok (.iconst 0, 1) := dk_3 (dk_at dksL_law_20 15 rfl rfl)
theorem dL_law_561 : decode cL_law 561 = .ok (.ireturn, 1) := dk_172 (dk_at dksL_law_20 16 rfl rfl)
theorem dL_law_562 : decode cL_law 562 = .ok (.aload_n 1, 1) := dk_43 (dk_at dksL_law_20 17 rfl rfl)
theorem dL_law_563 : decode cL_law 563 = .ok (.aload_n 0, 1) := dk_42 (dk_at dksL_law_20 18 rfl rfl)
theorem dL_law_564 : decode cL_law 564 = .ok (.iload_n 3, 1) := dk_29 (dk_at dksL_law_20 19 rfl rfl)
theorem dL_law_565 : decode cL_law 565 = .ok (.iconst 1, 1) := dk_4 (dk_at dksL_law_20 20 rfl rfl)
theorem dL_law_566 : decode cL_law 566 = .ok (.iadd, 1) := dk_96 (dk_at dksL_law_20 21 rfl rfl)
theorem dL_law_567 : decode cL_law 567 = .ok (.iaload, 1) := dk_46 (dk_at dksL_law_20 22 rfl rfl)
theorem dL_law_568 : decode cL_law 568 = .ok (.invokevirtual 65, 3) := dk_182 0 65 (dk_at dksL_law_21 0 rfl rfl)
theorem dL_law_571 : decode cL_law 571 = .ok (.aload_n 2, 1) := dk_44 (dk_at dksL_law_21 3 rfl rfl)
theorem dL_law_572 : decode cL_law 572 = .ok (.aload_n 0, 1) := dk_42 (dk_at dksL_law_21 4 rfl rfl)
theorem dL_law_573 : decode cL_law 573 = .ok (.iload_n 3, 1) := dk_29 (dk_at dksL_law_21 5 rfl rfl)
theorem dL_law_574 : decode cL_law 574 = .ok (.iconst 1, 1) := dk_4 (dk_at dksL_law_21 6 rfl rfl)
theorem dL_law_575 : decode cL_law 575 = .ok (.iadd, 1) := dk_96 (dk_at dksL_law_21 7 rfl rfl)
theorem dL_law_576 : decode cL_law 576 = .ok (.iaload, 1) := dk_46 (dk_at dksL_law_21 8 rfl rfl)
theorem dL_law_577 : decode cL_law 577 = .ok (.invokevirtual 68, 3) := dk_182 0 68 (dk_at dksL_law_21 9 rfl rfl)
theorem dL_law_580 : decode cL_law 580 = .ok (.if_icmp .eq 228, 3) := dk_159 0 228 (dk_at dksL_law_21 12 rfl rfl)
theorem dL_law_583 : decode cL_law 583 = .ok (.iconst 0, 1) := dk_3 (dk_at dksL_law_21 15 rfl rfl)
theorem dL_law_584 : decode cL_law 584 = .ok (.ireturn, 1) := dk_172 (dk_at dksL_law_21 16 rfl rfl)
theorem dL_law_585 : decode cL_law 585 = .ok (.aload_n 1, 1) := dk_43 (dk_at dksL_law_21 17 rfl rfl)
theorem dL_law_586 : decode cL_law 586 = .ok (.aload_n 0, 1) := dk_42 (dk_at dksL_law_21 18 rfl rfl)
theorem dL_law_587 : decode cL_law 587 = .ok (.iload_n 3, 1) := dk_29 (dk_at dksL_law_21 19 rfl rfl)
theorem dL_law_588 : decode cL_law 588 = .ok (.iconst 1, 1) := dk_4 (dk_at dksL_law_21 20 rfl rfl)
theorem dL_law_589 : decode cL_law 589 = .ok (.iadd, 1) := dk_96 (dk_at dksL_law_21 21 rfl rfl)
theorem dL_law_590 : decode cL_law 590 = .ok (.iaload, 1) := dk_46 (dk_at dksL_law_21 22 rfl rfl)
theorem dL_law_591 : decode cL_law 591 = .ok (.invokevirtual 69, 3) := dk_182 0 69 (dk_at dksL_law_22 0 rfl rfl)
theorem dL_law_594 : decode cL_law 594 = .ok (.aload_n 2, 1) := dk_44 (dk_at dksL_law_22 3 rfl rfl)
theorem dL_law_595 : decode cL_law 595 = .ok (.aload_n 0, 1) := dk_42 (dk_at dksL_law_22 4 rfl rfl)
theorem dL_law_596 : decode cL_law 596 = .ok (.iload_n 3, 1) := dk_29 (dk_at dksL_law_22 5 rfl rfl)
theorem dL_law_597 : decode cL_law 597 = .ok (.iconst 1, 1) := dk_4 (dk_at dksL_law_22 6 rfl rfl)
theorem dL_law_598 : decode cL_law 598 = .ok (.iadd, 1) := dk_96 (dk_at dksL_law_22 7 rfl rfl)
theorem dL_law_599 : decode cL_law 599 = .ok (.iaload, 1) := dk_46 (dk_at dksL_law_22 8 rfl rfl)
theorem dL_law_600 : decode cL_law 600 = .ok (.invokevirtual 72, 3) := dk_182 0 72 (dk_at dksL_law_22 9 rfl rfl)
theorem dL_law_603 : decode cL_law 603 = .ok (.if_icmp .eq 205, 3) := dk_159 0 205 (dk_at dksL_law_22 12 rfl rfl)
theorem dL_law_606 : decode cL_law 606 = .ok (.iconst 0, 1) := dk_3 (dk_at dksL_law_22 15 rfl rfl)
theorem dL_law_607 : decode cL_law 607 = .ok (.ireturn, 1) := dk_172 (dk_at dksL_law_22 16 rfl rfl)
theorem dL_law_608 : decode cL_law 608 = .ok (.aload_n 1, 1) := dk_43 (dk_at dksL_law_22 17 rfl rfl)
theorem dL_law_609 : decode cL_law 609 = .ok (.aload_n 0, 1) := dk_42 (dk_at dksL_law_22 18 rfl rfl)
theorem dL_law_610 : decode cL_law 610 = .ok (.iload_n 3, 1) := dk_29 (dk_at dksL_law_22 19 rfl rfl)
theorem dL_law_611 : decode cL_law 611 = .ok (.iconst 1, 1) := dk_4 (dk_at dksL_law_22 20 rfl rfl)
theorem dL_law_612 : decode cL_law 612 = .ok (.iadd, 1) := dk_96 (dk_at dksL_law_22 21 rfl rfl)
theorem dL_law_613 : decode cL_law 613 = .ok (.iaload, 1) := dk_46 (dk_at dksL_law_22 22 rfl rfl)
theorem dL_law_614 : decode cL_law 614 = .ok (.invokevirtual 73, 3) := dk_182 0 73 (dk_at dksL_law_23 0 rfl rfl)
theorem dL_law_617 : decode cL_law 617 = .ok (.aload_n 2, 1) := dk_44 (dk_at dksL_law_23 3 rfl rfl)
theorem dL_law_618 : decode cL_law 618 = .ok (.aload_n 0, 1) := dk_42 (dk_at dksL_law_23 4 rfl rfl)
theorem dL_law_619 : decode cL_law 619 = .ok (.iload_n 3, 1) := dk_29 (dk_at dksL_law_23 5 rfl rfl)
theorem dL_law_620 : decode cL_law 620 = .ok (.iconst 1, 1) := dk_4 (dk_at dksL_law_23 6 rfl rfl)
theorem dL_law_621 : decode cL_law 621 = .ok (.iadd, 1) := dk_96 (dk_at dksL_law_23 7 rfl rfl)
theorem dL_law_622 : decode cL_law 622 = .ok (.iaload, 1) := dk_46 (dk_at dksL_law_23 8 rfl rfl)
theorem dL_law_623 : decode cL_law 623 = .ok (.invokevirtual 76, 3) := dk_182 0 76 (dk_at dksL_law_23 9 rfl rfl)
theorem dL_law_626 : decode cL_law 626 = .ok (.if_icmp .eq 182, 3) := dk_159 0 182 (dk_at dksL_law_23 12 rfl rfl)
theorem dL_law_629 : decode cL_law 629 = .ok (.iconst 0, 1) := dk_3 (dk_at dksL_law_23 15 rfl rfl)
theorem dL_law_630 : decode cL_law 630 = .ok (.ireturn, 1) := dk_172 (dk_at dksL_law_23 16 rfl rfl)
theorem dL_law_631 : decode cL_law 631 = .ok (.aload_n 1, 1) := dk_43 (dk_at dksL_law_23 17 rfl rfl)
theorem dL_law_632 : decode cL_law 632 = .ok (.aload_n 0, 1) := dk_42 (dk_at dksL_law_23 18 rfl rfl)
theorem dL_law_633 : decode cL_law 633 = .ok (.iload_n 3, 1) := dk_29 (dk_at dksL_law_23 19 rfl rfl)
theorem dL_law_634 : decode cL_law 634 = .ok (.iconst 1, 1) := dk_4 (dk_at dksL_law_23 20 rfl rfl)
theorem dL_law_635 : decode cL_law 635 = .ok (.iadd, 1) := dk_96 (dk_at dksL_law_23 21 rfl rfl)
theorem dL_law_636 : decode cL_law 636 = .ok (.iaload, 1) := dk_46 (dk_at dksL_law_23 22 rfl rfl)
theorem dL_law_637 : decode cL_law 637 = .ok (.invokevirtual 77, 3) := dk_182 0 77 (dk_at dksL_law_24 0 rfl rfl)
theorem dL_law_640 : decode cL_law 640 = .ok (.aload_n 2, 1) := dk_44 (dk_at dksL_law_24 3 rfl rfl)
theorem dL_law_641 : decode cL_law 641 = .ok (.aload_n 0, 1) := dk_42 (dk_at dksL_law_24 4 rfl rfl)
theorem dL_law_642 : decode cL_law 642 = .ok (.iload_n 3, 1) := dk_29 (dk_at dksL_law_24 5 rfl rfl)
theorem dL_law_643 : decode cL_law 643 = .ok (.iconst 1, 1) := dk_4 (dk_at dksL_law_24 6 rfl rfl)
theorem dL_law_644 : decode cL_law 644 = .ok (.iadd, 1) := dk_96 (dk_at dksL_law_24 7 rfl rfl)
theorem dL_law_645 : decode cL_law 645 = .ok (.iaload, 1) := dk_46 (dk_at dksL_law_24 8 rfl rfl)
theorem dL_law_646 : decode cL_law 646 = .ok (.invokevirtual 80, 3) := dk_182 0 80 (dk_at dksL_law_24 9 rfl rfl)
theorem dL_law_649 : decode cL_law 649 = .ok (.if_icmp .eq 159, 3) := dk_159 0 159 (dk_at dksL_law_24 12 rfl rfl)
theorem dL_law_652 : decode cL_law 652 = .ok (.iconst 0, 1) := dk_3 (dk_at dksL_law_24 15 rfl rfl)
theorem dL_law_653 : decode cL_law 653 = .ok (.ireturn, 1) := dk_172 (dk_at dksL_law_24 16 rfl rfl)
theorem dL_law_654 : decode cL_law 654 = .ok (.aload_n 1, 1) := dk_43 (dk_at dksL_law_24 17 rfl rfl)
theorem dL_law_655 : decode cL_law 655 = .ok (.aload_n 0, 1) := dk_42 (dk_at dksL_law_24 18 rfl rfl)
theorem dL_law_656 : decode cL_law 656 = .ok (.iload_n 3, 1) := dk_29 (dk_at dksL_law_24 19 rfl rfl)
theorem dL_law_657 : decode cL_law 657 = .ok (.iconst 1, 1) := dk_4 (dk_at dksL_law_24 20 rfl rfl)
theorem dL_law_658 : decode cL_law 658 = .ok (.iadd, 1) := dk_96 (dk_at dksL_law_24 21 rfl rfl)
theorem dL_law_659 : decode cL_law 659 = .ok (.iaload, 1) := dk_46 (dk_at dksL_law_24 22 rfl rfl)
theorem dL_law_660 : decode cL_law 660 = .ok (.aload_n 0, 1) := dk_42 (dk_at dksL_law_24 23 rfl rfl)
theorem dL_law_661 : decode cL_law 661 = .ok (.iload_n 3, 1) := dk_29 (dk_at dksL_law_25 0 rfl rfl)
theorem dL_law_662 : decode cL_law 662 = .ok (.iconst 2, 1) := dk_5 (dk_at dksL_law_25 1 rfl rfl)
theorem dL_law_663 : decode cL_law 663 = .ok (.iadd, 1) := dk_96 (dk_at dksL_law_25 2 rfl rfl)
theorem dL_law_664 : decode cL_law 664 = .ok (.iaload, 1) := dk_46 (dk_at dksL_law_25 3 rfl rfl)
theorem dL_law_665 : decode cL_law 665 = .ok (.invokevirtual 81, 3) := dk_182 0 81 (dk_at dksL_law_25 4 rfl rfl)
theorem dL_law_668 : decode cL_law 668 = .ok (.aload_n 2, 1) := dk_44 (dk_at dksL_law_25 7 rfl rfl)
theorem dL_law_669 : decode cL_law 669 = .ok (.aload_n 0, 1) := dk_42 (dk_at dksL_law_25 8 rfl rfl)
theorem dL_law_670 : decode cL_law 670 = .ok (.iload_n 3, 1) := dk_29 (dk_at dksL_law_25 9 rfl rfl)
theorem dL_law_671 : decode cL_law 671 = .ok (.iconst 1, 1) := dk_4 (dk_at dksL_law_25 10 rfl rfl)
theorem dL_law_672 : decode cL_law 672 = .ok (.iadd, 1) := dk_96 (dk_at dksL_law_25 11 rfl rfl)
theorem dL_law_673 : decode cL_law 673 = .ok (.iaload, 1) := dk_46 (dk_at dksL_law_25 12 rfl rfl)
theorem dL_law_674 : decode cL_law 674 = .ok (.aload_n 0, 1) := dk_42 (dk_at dksL_law_25 13 rfl rfl)
theorem dL_law_675 : decode cL_law 675 = .ok (.iload_n 3, 1) := dk_29 (dk_at dksL_law_25 14 rfl rfl)
theorem dL_law_676 : decode cL_law 676 = .ok (.iconst 2, 1) := dk_5 (dk_at dksL_law_25 15 rfl rfl)
theorem dL_law_677 : decode cL_law 677 = .ok (.iadd, 1) := dk_96 (dk_at dksL_law_25 16 rfl rfl)
theorem dL_law_678 : decode cL_law 678 = .ok (.iaload, 1) := dk_46 (dk_at dksL_law_25 17 rfl rfl)
theorem dL_law_679 : decode cL_law 679 = .ok (.invokevirtual 84, 3) := dk_182 0 84 (dk_at dksL_law_25 18 rfl rfl)
theorem dL_law_682 : decode cL_law 682 = .ok (.if_icmp .eq 126, 3) := dk_159 0 126 (dk_at dksL_law_25 21 rfl rfl)
theorem dL_law_685 : decode cL_law 685 = .ok (.iconst 0, 1) := dk_3 (dk_at dksL_law_26 0 rfl rfl)
theorem dL_law_686 : decode cL_law 686 = .ok (.ireturn, 1) := dk_172 (dk_at dksL_law_26 1 rfl rfl)
theorem dL_law_687 : decode cL_law 687 = .ok (.aload_n 1, 1) := dk_43 (dk_at dksL_law_26 2 rfl rfl)
theorem dL_law_688 : decode cL_law 688 = .ok (.invokevirtual 85, 3) := dk_182 0 85 (dk_at dksL_law_26 3 rfl rfl)
theorem dL_law_691 : decode cL_law 691 = .ok (.aload_n 2, 1) := dk_44 (dk_at dksL_law_26 6 rfl rfl)
theorem dL_law_692 : decode cL_law 692 = .ok (.invokevirtual 89, 3) := dk_182 0 89 (dk_at dksL_law_26 7 rfl rfl)
theorem dL_law_695 : decode cL_law 695 = .ok (.if_icmp .eq 113, 3) := dk_159 0 113 (dk_at dksL_law_26 10 rfl rfl)
theorem dL_law_698 : decode cL_law 698 = .ok (.iconst 0, 1) := dk_3 (dk_at dksL_law_26 13 rfl rfl)
theorem dL_law_699 : decode cL_law 699 = .ok (.ireturn, 1) := dk_172 (dk_at dksL_law_26 14 rfl rfl)
theorem dL_law_700 : decode cL_law 700 = .ok (.aload_n 1, 1) := dk_43 (dk_at dksL_law_26 15 rfl rfl)
theorem dL_law_701 : decode cL_law 701 = .ok (.aload_n 0, 1) := dk_42 (dk_at dksL_law_26 16 rfl rfl)
theorem dL_law_702 : decode cL_law 702 = .ok (.iload_n 3, 1) := dk_29 (dk_at dksL_law_26 17 rfl rfl)
theorem dL_law_703 : decode cL_law 703 = .ok (.iconst 1, 1) := dk_4 (dk_at dksL_law_26 18 rfl rfl)
theorem dL_law_704 : decode cL_law 704 = .ok (.iadd, 1) := dk_96 (dk_at dksL_law_26 19 rfl rfl)
theorem dL_law_705 : decode cL_law 705 = .ok (.iaload, 1) := dk_46 (dk_at dksL_law_26 20 rfl rfl)
theorem dL_law_706 : decode cL_law 706 = .ok (.invokevirtual 90, 3) := dk_182 0 90 (dk_at dksL_law_26 21 rfl rfl)
theorem dL_law_709 : decode cL_law 709 = .ok (.aload_n 2, 1) := dk_44 (dk_at dksL_law_27 0 rfl rfl)
theorem dL_law_710 : decode cL_law 710 = .ok (.aload_n 0, 1) := dk_42 (dk_at dksL_law_27 1 rfl rfl)
theorem dL_law_711 : decode cL_law 711 = .ok (.iload_n 3, 1) := dk_29 (dk_at dksL_law_27 2 rfl rfl)
theorem dL_law_712 : decode cL_law 712 = .ok (.iconst 1, 1) := dk_4 (dk_at dksL_law_27 3 rfl rfl)
theorem dL_law_713 : decode cL_law 713 = .ok (.iadd, 1) := dk_96 (dk_at dksL_law_27 4 rfl rfl)
theorem dL_law_714 : decode cL_law 714 = .ok (.iaload, 1) := dk_46 (dk_at dksL_law_27 5 rfl rfl)
theorem dL_law_715 : decode cL_law 715 = .ok (.invokevirtual 93, 3) := dk_182 0 93 (dk_at dksL_law_27 6 rfl rfl)
theorem dL_law_718 : decode cL_law 718 = .ok (.if_icmp .eq 90, 3) := dk_159 0 90 (dk_at dksL_law_27 9 rfl rfl)
theorem dL_law_721 : decode cL_law 721 = .ok (.iconst 0, 1) := dk_3 (dk_at dksL_law_27 12 rfl rfl)
theorem dL_law_722 : decode cL_law 722 = .ok (.ireturn, 1) := dk_172 (dk_at dksL_law_27 13 rfl rfl)
theorem dL_law_723 : decode cL_law 723 = .ok (.aload_n 1, 1) := dk_43 (dk_at dksL_law_27 14 rfl rfl)
theorem dL_law_724 : decode cL_law 724 = .ok (.invokevirtual 94, 3) := dk_182 0 94 (dk_at dksL_law_27 15 rfl rfl)
theorem dL_law_727 : decode cL_law 727 = .ok (.aload_n 2, 1) := dk_44 (dk_at dksL_law_27 18 rfl rfl)
theorem dL_law_728 : decode cL_law 728 = .ok (.invokevirtual 97, 3) := dk_182 0 97 (dk_at dksL_law_27 19 rfl rfl)
theorem dL_law_731 : decode cL_law 731 = .ok (.if_icmp .eq 77, 3) := dk_159 0 77 (dk_at dksL_law_28 0 rfl rfl)
theorem dL_law_734 : decode cL_law 734 = .ok (.iconst 0, 1) := dk_3 (dk_at dksL_law_28 3 rfl rfl)
theorem dL_law_735 : decode cL_law 735 = .ok (.ireturn, 1) := dk_172 (dk_at dksL_law_28 4 rfl rfl)
theorem dL_law_736 : decode cL_law 736 = .ok (.aload_n 1, 1) := dk_43 (dk_at dksL_law_28 5 rfl rfl)
theorem dL_law_737 : decode cL_law 737 = .ok (.aload_n 0, 1) := dk_42 (dk_at dksL_law_28 6 rfl rfl)
theorem dL_law_738 : decode cL_law 738 = .ok (.iload_n 3, 1) := dk_29 (dk_at dksL_law_28 7 rfl rfl)
theorem dL_law_739 : decode cL_law 739 = .ok (.iconst 1, 1) := dk_4 (dk_at dksL_law_28 8 rfl rfl)
theorem dL_law_740 : decode cL_law 740 = .ok (.iadd, 1) := dk_96 (dk_at dksL_law_28 9 rfl rfl)
theorem dL_law_741 : decode cL_law 741 = .ok (.iaload, 1) := dk_46 (dk_at dksL_law_28 10 rfl rfl)
theorem dL_law_742 : decode cL_law 742 = .ok (.invokevirtual 98, 3) := dk_182 0 98 (dk_at dksL_law_28 11 rfl rfl)
theorem dL_law_745 : decode cL_law 745 = .ok (.aload_n 2, 1) := dk_44 (dk_at dksL_law_28 14 rfl rfl)
theorem dL_law_746 : decode cL_law 746 = .ok (.aload_n 0, 1) := dk_42 (dk_at dksL_law_28 15 rfl rfl)
theorem dL_law_747 : decode cL_law 747 = .ok (.iload_n 3, 1) := dk_29 (dk_at dksL_law_28 16 rfl rfl)
theorem dL_law_748 : decode cL_law 748 = .ok (.iconst 1, 1) := dk_4 (dk_at dksL_law_28 17 rfl rfl)
theorem dL_law_749 : decode cL_law 749 = .ok (.iadd, 1) := dk_96 (dk_at dksL_law_28 18 rfl rfl)
theorem dL_law_750 : decode cL_law 750 = .ok (.iaload, 1) := dk_46 (dk_at dksL_law_28 19 rfl rfl)
theorem dL_law_751 : decode cL_law 751 = .ok (.invokevirtual 101, 3) := dk_182 0 101 (dk_at dksL_law_28 20 rfl rfl)
theorem dL_law_754 : decode cL_law 754 = .ok (.if_icmp .eq 54, 3) := dk_159 0 54 (dk_at dksL_law_29 0 rfl rfl)
theorem dL_law_757 : decode cL_law 757 = .ok (.iconst 0, 1) := dk_3 (dk_at dksL_law_29 3 rfl rfl)
theorem dL_law_758 : decode cL_law 758 = .ok (.ireturn, 1) := dk_172 (dk_at dksL_law_29 4 rfl rfl)
theorem dL_law_759 : decode cL_law 759 = .ok (.aload_n 1, 1) := dk_43 (dk_at dksL_law_29 5 rfl rfl)
theorem dL_law_760 : decode cL_law 760 = .ok (.invokevirtual 102, 3) := dk_182 0 102 (dk_at dksL_law_29 6 rfl rfl)
theorem dL_law_763 : decode cL_law 763 = .ok (.aload_n 2, 1) := dk_44 (dk_at dksL_law_29 9 rfl rfl)
theorem dL_law_764 : decode cL_law 764 = .ok (.invokevirtual 105, 3) := dk_182 0 105 (dk_at dksL_law_29 10 rfl rfl)
theorem dL_law_767 : decode cL_law 767 = .ok (.if_icmp .eq 41, 3) := dk_159 0 41 (dk_at dksL_law_29 13 rfl rfl)
theorem dL_law_770 : decode cL_law 770 = .ok (.iconst 0, 1) := dk_3 (dk_at dksL_law_29 16 rfl rfl)
theorem dL_law_771 : decode cL_law 771 = .ok (.ireturn, 1) := dk_172 (dk_at dksL_law_29 17 rfl rfl)
theorem dL_law_772 : decode cL_law 772 = .ok (.aload_n 1, 1) := dk_43 (dk_at dksL_law_29 18 rfl rfl)
theorem dL_law_773 : decode cL_law 773 = .ok (.aload_n 0, 1) := dk_42 (dk_at dksL_law_29 19 rfl rfl)
theorem dL_law_774 : decode cL_law 774 = .ok (.iload_n 3, 1) := dk_29 (dk_at dksL_law_29 20 rfl rfl)
theorem dL_law_775 : decode cL_law 775 = .ok (.iconst 1, 1) := dk_4 (dk_at dksL_law_29 21 rfl rfl)
theorem dL_law_776 : decode cL_law 776 = .ok (.iadd, 1) := dk_96 (dk_at dksL_law_29 22 rfl rfl)
theorem dL_law_777 : decode cL_law 777 = .ok (.iaload, 1) := dk_46 (dk_at dksL_law_29 23 rfl rfl)
theorem dL_law_778 : decode cL_law 778 = .ok (.invokevirtual 106, 3) := dk_182 0 106 (dk_at dksL_law_30 0 rfl rfl)
theorem dL_law_781 : decode cL_law 781 = .ok (.aload_n 2, 1) := dk_44 (dk_at dksL_law_30 3 rfl rfl)
theorem dL_law_782 : decode cL_law 782 = .ok (.aload_n 0, 1) := dk_42 (dk_at dksL_law_30 4 rfl rfl)
theorem dL_law_783 : decode cL_law 783 = .ok (.iload_n 3, 1) := dk_29 (dk_at dksL_law_30 5 rfl rfl)
theorem dL_law_784 : decode cL_law 784 = .ok (.iconst 1, 1) := dk_4 (dk_at dksL_law_30 6 rfl rfl)
theorem dL_law_785 : decode cL_law 785 = .ok (.iadd, 1) := dk_96 (dk_at dksL_law_30 7 rfl rfl)
theorem dL_law_786 : decode cL_law 786 = .ok (.iaload, 1) := dk_46 (dk_at dksL_law_30 8 rfl rfl)
theorem dL_law_787 : decode cL_law 787 = .ok (.invokevirtual 109, 3) := dk_182 0 109 (dk_at dksL_law_30 9 rfl rfl)
theorem dL_law_790 : decode cL_law 790 = .ok (.if_icmp .eq 18, 3) := dk_159 0 18 (dk_at dksL_law_30 12 rfl rfl)
theorem dL_law_793 : decode cL_law 793 = .ok (.iconst 0, 1) := dk_3 (dk_at dksL_law_30 15 rfl rfl)
theorem dL_law_794 : decode cL_law 794 = .ok (.ireturn, 1) := dk_172 (dk_at dksL_law_30 16 rfl rfl)
theorem dL_law_795 : decode cL_law 795 = .ok (.aload_n 1, 1) := dk_43 (dk_at dksL_law_30 17 rfl rfl)
theorem dL_law_796 : decode cL_law 796 = .ok (.invokevirtual 110, 3) := dk_182 0 110 (dk_at dksL_law_30 18 rfl rfl)
theorem dL_law_799 : decode cL_law 799 = .ok (.aload_n 2, 1) := dk_44 (dk_at dksL_law_30 21 rfl rfl)
theorem dL_law_800 : decode cL_law 800 = .ok (.invokevirtual 113, 3) := dk_182 0 113 (dk_at dksL_law_31 0 rfl rfl)
theorem dL_law_803 : decode cL_law 803 = .ok (.if_icmp .eq 5, 3) := dk_159 0 5 (dk_at dksL_law_31 3 rfl rfl)
theorem dL_law_806 : decode cL_law 806 = .ok (.iconst 0, 1) := dk_3 (dk_at dksL_law_31 6 rfl rfl)
theorem dL_law_807 : decode cL_law 807 = .ok (.ireturn, 1) := dk_172 (dk_at dksL_law_31 7 rfl rfl)
theorem dL_law_808 : decode cL_law 808 = .ok (.iinc 3 7, 3) := dk_132 3 7 (dk_at dksL_law_31 8 rfl rfl)
theorem dL_law_811 : decode cL_law 811 = .ok (.goto (-793), 3) := dk_167 252 231 (dk_at dksL_law_31 11 rfl rfl)
theorem dL_law_814 : decode cL_law 814 = .ok (.iconst 1, 1) := dk_4 (dk_at dksL_law_31 14 rfl rfl)
theorem dL_law_815 : decode cL_law 815 = .ok (.ireturn, 1) := dk_172 (dk_at dksL_law_31 15 rfl rfl)

theorem q48 : (Jvm.Cond.initialized "EggLightsLaw") ∈ lw_all := lw_g (lw_at lw_m1 0 rfl) rfl
set_option maxRecDepth 100000
theorem q93 : (Jvm.Cond.classLink "EggLightsLaw" (7 : Nat) "EggLights") ∈ lw_all := lw_g (lw_at lw_m1 45 rfl) rfl
theorem q95 : (Jvm.Cond.methodLink "EggLightsLaw" (9 : Nat) ({ cls := "EggLights", name := "<init>", desc := "()V" } : Jvm.MethodName)) ∈ lw_all := lw_g (lw_at lw_m1 47 rfl) rfl
theorem q410 : (Jvm.Cond.methodLink "EggLightsLaw" (13 : Nat) ({ cls := "EggLights", name := "egg", desc := "(IIIIII)I" } : Jvm.MethodName)) ∈ lw_all := lw_g (lw_at lw_m2 122 rfl) rfl
theorem q1305 : (Jvm.Cond.methodLink "EggLightsLaw" (18 : Nat) ({ cls := "EggLights", name := "stain", desc := "(II)I" } : Jvm.MethodName)) ∈ lw_all := lw_g (lw_at lw_m6 57 rfl) rfl
theorem q1309 : (Jvm.Cond.methodLink "EggLightsLaw" (23 : Nat) ({ cls := "EggLights", name := "light", desc := "(II)I" } : Jvm.MethodName)) ∈ lw_all := lw_g (lw_at lw_m6 61 rfl) rfl
theorem q1313 : (Jvm.Cond.methodLink "EggLightsLaw" (27 : Nat) ({ cls := "EggLights", name := "turn", desc := "(II)I" } : Jvm.MethodName)) ∈ lw_all := lw_g (lw_at lw_m6 65 rfl) rfl
theorem q1317 : (Jvm.Cond.methodLink "EggLightsLaw" (31 : Nat) ({ cls := "EggLights", name := "clean", desc := "(I)I" } : Jvm.MethodName)) ∈ lw_all := lw_g (lw_at lw_m6 69 rfl) rfl
theorem q1321 : (Jvm.Cond.methodLink "EggLightsLaw" (36 : Nat) ({ cls := "EggLights", name := "run", desc := "(I)I" } : Jvm.MethodName)) ∈ lw_all := lw_g (lw_at lw_m6 73 rfl) rfl
theorem q1325 : (Jvm.Cond.methodLink "EggLightsLaw" (40 : Nat) ({ cls := "EggLights", name := "set", desc := "(II)I" } : Jvm.MethodName)) ∈ lw_all := lw_g (lw_at lw_m6 77 rfl) rfl
theorem q1329 : (Jvm.Cond.methodLink "EggLightsLaw" (44 : Nat) ({ cls := "EggLights", name := "lane", desc := "(II)I" } : Jvm.MethodName)) ∈ lw_all := lw_g (lw_at lw_m6 81 rfl) rfl
theorem q1346 : (Jvm.Cond.methodLink "EggLightsLaw" (48 : Nat) ({ cls := "EggLights", name := "eggOf", desc := "(III)I" } : Jvm.MethodName)) ∈ lw_all := lw_g (lw_at lw_m6 98 rfl) rfl
theorem q1357 : (Jvm.Cond.methodLink "EggLightsLaw" (53 : Nat) ({ cls := "EggLights", name := "crate", desc := "(II)I" } : Jvm.MethodName)) ∈ lw_all := lw_g (lw_at lw_m6 109 rfl) rfl
theorem q1366 : (Jvm.Cond.methodLink "EggLightsLaw" (57 : Nat) ({ cls := "EggLights", name := "book", desc := "(II)I" } : Jvm.MethodName)) ∈ lw_all := lw_g (lw_at lw_m6 118 rfl) rfl
theorem q1372 : (Jvm.Cond.methodLink "EggLightsLaw" (61 : Nat) ({ cls := "EggLights", name := "why", desc := "(I)I" } : Jvm.MethodName)) ∈ lw_all := lw_g (lw_at lw_m6 124 rfl) rfl
theorem q1386 : (Jvm.Cond.methodLink "EggLightsLaw" (65 : Nat) ({ cls := "EggLights", name := "grade", desc := "(I)I" } : Jvm.MethodName)) ∈ lw_all := lw_g (lw_at lw_m6 138 rfl) rfl
theorem q1391 : (Jvm.Cond.methodLink "EggLightsLaw" (69 : Nat) ({ cls := "EggLights", name := "bestTurn", desc := "(I)I" } : Jvm.MethodName)) ∈ lw_all := lw_g (lw_at lw_m6 143 rfl) rfl
theorem q1398 : (Jvm.Cond.methodLink "EggLightsLaw" (73 : Nat) ({ cls := "EggLights", name := "leastLight", desc := "(I)I" } : Jvm.MethodName)) ∈ lw_all := lw_g (lw_at lw_m6 150 rfl) rfl
theorem q1407 : (Jvm.Cond.methodLink "EggLightsLaw" (77 : Nat) ({ cls := "EggLights", name := "bestLight", desc := "(I)I" } : Jvm.MethodName)) ∈ lw_all := lw_g (lw_at lw_m6 159 rfl) rfl
theorem q1418 : (Jvm.Cond.methodLink "EggLightsLaw" (81 : Nat) ({ cls := "EggLights", name := "ifRun", desc := "(II)I" } : Jvm.MethodName)) ∈ lw_all := lw_g (lw_at lw_m6 170 rfl) rfl
theorem q1432 : (Jvm.Cond.methodLink "EggLightsLaw" (85 : Nat) ({ cls := "EggLights", name := "mean", desc := "()I" } : Jvm.MethodName)) ∈ lw_all := lw_g (lw_at lw_m6 184 rfl) rfl
theorem q1446 : (Jvm.Cond.methodLink "EggLightsLaw" (90 : Nat) ({ cls := "EggLights", name := "count", desc := "(I)I" } : Jvm.MethodName)) ∈ lw_all := lw_g (lw_at lw_m6 198 rfl) rfl
theorem q1457 : (Jvm.Cond.methodLink "EggLightsLaw" (94 : Nat) ({ cls := "EggLights", name := "undo", desc := "()I" } : Jvm.MethodName)) ∈ lw_all := lw_g (lw_at lw_m6 209 rfl) rfl
theorem q1476 : (Jvm.Cond.methodLink "EggLightsLaw" (98 : Nat) ({ cls := "EggLights", name := "type", desc := "(I)I" } : Jvm.MethodName)) ∈ lw_all := lw_g (lw_at lw_m6 228 rfl) rfl
theorem q1503 : (Jvm.Cond.methodLink "EggLightsLaw" (102 : Nat) ({ cls := "EggLights", name := "clearText", desc := "()I" } : Jvm.MethodName)) ∈ lw_all := lw_g (lw_at lw_m7 15 rfl) rfl
theorem q1527 : (Jvm.Cond.methodLink "EggLightsLaw" (106 : Nat) ({ cls := "EggLights", name := "fault", desc := "(I)I" } : Jvm.MethodName)) ∈ lw_all := lw_g (lw_at lw_m7 39 rfl) rfl
theorem q1658 : (Jvm.Cond.methodLink "EggLightsLaw" (110 : Nat) ({ cls := "EggLights", name := "play", desc := "()I" } : Jvm.MethodName)) ∈ lw_all := lw_g (lw_at lw_m7 170 rfl) rfl
theorem q1662 : (Jvm.Cond.classLink "EggLightsLaw" (10 : Nat) "EggLightsModel") ∈ lw_all := lw_g (lw_at lw_m7 174 rfl) rfl
theorem q1664 : (Jvm.Cond.methodLink "EggLightsLaw" (12 : Nat) ({ cls := "EggLightsModel", name := "<init>", desc := "()V" } : Jvm.MethodName)) ∈ lw_all := lw_g (lw_at lw_m7 176 rfl) rfl
theorem q1717 : (Jvm.Cond.methodLink "EggLightsLaw" (17 : Nat) ({ cls := "EggLightsModel", name := "egg", desc := "(IIIIII)I" } : Jvm.MethodName)) ∈ lw_all := lw_g (lw_at lw_m7 229 rfl) rfl
theorem q1740 : (Jvm.Cond.methodLink "EggLightsLaw" (22 : Nat) ({ cls := "EggLightsModel", name := "stain", desc := "(II)I" } : Jvm.MethodName)) ∈ lw_all := lw_g (lw_at lw_m8 12 rfl) rfl
theorem q1745 : (Jvm.Cond.methodLink "EggLightsLaw" (26 : Nat) ({ cls := "EggLightsModel", name := "light", desc := "(II)I" } : Jvm.MethodName)) ∈ lw_all := lw_g (lw_at lw_m8 17 rfl) rfl
theorem q1749 : (Jvm.Cond.methodLink "EggLightsLaw" (30 : Nat) ({ cls := "EggLightsModel", name := "turn", desc := "(II)I" } : Jvm.MethodName)) ∈ lw_all := lw_g (lw_at lw_m8 21 rfl) rfl
theorem q1753 : (Jvm.Cond.methodLink "EggLightsLaw" (35 : Nat) ({ cls := "EggLightsModel", name := "clean", desc := "(I)I" } : Jvm.MethodName)) ∈ lw_all := lw_g (lw_at lw_m8 25 rfl) rfl
theorem q1757 : (Jvm.Cond.methodLink "EggLightsLaw" (39 : Nat) ({ cls := "EggLightsModel", name := "run", desc := "(I)I" } : Jvm.MethodName)) ∈ lw_all := lw_g (lw_at lw_m8 29 rfl) rfl
theorem q1818 : (Jvm.Cond.methodLink "EggLightsLaw" (43 : Nat) ({ cls := "EggLightsModel", name := "set", desc := "(II)I" } : Jvm.MethodName)) ∈ lw_all := lw_g (lw_at lw_m8 90 rfl) rfl
theorem q1822 : (Jvm.Cond.methodLink "EggLightsLaw" (47 : Nat) ({ cls := "EggLightsModel", name := "lane", desc := "(II)I" } : Jvm.MethodName)) ∈ lw_all := lw_g (lw_at lw_m8 94 rfl) rfl
theorem q1829 : (Jvm.Cond.methodLink "EggLightsLaw" (52 : Nat) ({ cls := "EggLightsModel", name := "eggOf", desc := "(III)I" } : Jvm.MethodName)) ∈ lw_all := lw_g (lw_at lw_m8 101 rfl) rfl
theorem q1834 : (Jvm.Cond.methodLink "EggLightsLaw" (56 : Nat) ({ cls := "EggLightsModel", name := "crate", desc := "(II)I" } : Jvm.MethodName)) ∈ lw_all := lw_g (lw_at lw_m8 106 rfl) rfl
theorem q1838 : (Jvm.Cond.methodLink "EggLightsLaw" (60 : Nat) ({ cls := "EggLightsModel", name := "book", desc := "(II)I" } : Jvm.MethodName)) ∈ lw_all := lw_g (lw_at lw_m8 110 rfl) rfl
theorem q1842 : (Jvm.Cond.methodLink "EggLightsLaw" (64 : Nat) ({ cls := "EggLightsModel", name := "why", desc := "(I)I" } : Jvm.MethodName)) ∈ lw_all := lw_g (lw_at lw_m8 114 rfl) rfl
theorem q1846 : (Jvm.Cond.methodLink "EggLightsLaw" (68 : Nat) ({ cls := "EggLightsModel", name := "grade", desc := "(I)I" } : Jvm.MethodName)) ∈ lw_all := lw_g (lw_at lw_m8 118 rfl) rfl
theorem q1850 : (Jvm.Cond.methodLink "EggLightsLaw" (72 : Nat) ({ cls := "EggLightsModel", name := "bestTurn", desc := "(I)I" } : Jvm.MethodName)) ∈ lw_all := lw_g (lw_at lw_m8 122 rfl) rfl
theorem q1854 : (Jvm.Cond.methodLink "EggLightsLaw" (76 : Nat) ({ cls := "EggLightsModel", name := "leastLight", desc := "(I)I" } : Jvm.MethodName)) ∈ lw_all := lw_g (lw_at lw_m8 126 rfl) rfl
theorem q1858 : (Jvm.Cond.methodLink "EggLightsLaw" (80 : Nat) ({ cls := "EggLightsModel", name := "bestLight", desc := "(I)I" } : Jvm.MethodName)) ∈ lw_all := lw_g (lw_at lw_m8 130 rfl) rfl
theorem q1862 : (Jvm.Cond.methodLink "EggLightsLaw" (84 : Nat) ({ cls := "EggLightsModel", name := "ifRun", desc := "(II)I" } : Jvm.MethodName)) ∈ lw_all := lw_g (lw_at lw_m8 134 rfl) rfl
theorem q1869 : (Jvm.Cond.methodLink "EggLightsLaw" (89 : Nat) ({ cls := "EggLightsModel", name := "mean", desc := "()I" } : Jvm.MethodName)) ∈ lw_all := lw_g (lw_at lw_m8 141 rfl) rfl
theorem q1874 : (Jvm.Cond.methodLink "EggLightsLaw" (93 : Nat) ({ cls := "EggLightsModel", name := "count", desc := "(I)I" } : Jvm.MethodName)) ∈ lw_all := lw_g (lw_at lw_m8 146 rfl) rfl
theorem q1882 : (Jvm.Cond.methodLink "EggLightsLaw" (97 : Nat) ({ cls := "EggLightsModel", name := "undo", desc := "()I" } : Jvm.MethodName)) ∈ lw_all := lw_g (lw_at lw_m8 154 rfl) rfl
theorem q1886 : (Jvm.Cond.methodLink "EggLightsLaw" (101 : Nat) ({ cls := "EggLightsModel", name := "type", desc := "(I)I" } : Jvm.MethodName)) ∈ lw_all := lw_g (lw_at lw_m8 158 rfl) rfl
theorem q1890 : (Jvm.Cond.methodLink "EggLightsLaw" (105 : Nat) ({ cls := "EggLightsModel", name := "clearText", desc := "()I" } : Jvm.MethodName)) ∈ lw_all := lw_g (lw_at lw_m8 162 rfl) rfl
theorem q1894 : (Jvm.Cond.methodLink "EggLightsLaw" (109 : Nat) ({ cls := "EggLightsModel", name := "fault", desc := "(I)I" } : Jvm.MethodName)) ∈ lw_all := lw_g (lw_at lw_m8 166 rfl) rfl
theorem q1931 : (Jvm.Cond.methodLink "EggLightsLaw" (113 : Nat) ({ cls := "EggLightsModel", name := "play", desc := "()I" } : Jvm.MethodName)) ∈ lw_all := lw_g (lw_at lw_m8 203 rfl) rfl

theorem q643 : (Jvm.Cond.sameMethod "[B" "java/lang/Object" "clone" "()Ljava/lang/Object;") ∈ lw_all := lw_g (lw_at lw_m3 115 rfl) rfl
set_option maxRecDepth 100000
theorem q644 : (Jvm.Cond.selects "[B" ({ cls := "[B", name := "clone", desc := "()Ljava/lang/Object;" } : Jvm.MethodName) ({ cls := "java/lang/Object", name := "clone", desc := "()Ljava/lang/Object;" } : Jvm.MethodName)) ∈ lw_all := lw_g (lw_at lw_m3 116 rfl) rfl
theorem q645 : (Jvm.Cond.castable "[B" "java/lang/Cloneable") ∈ lw_tbl := lw_at lw_m3 117 rfl
theorem q1988 : (Jvm.Cond.castable "[B" "java/lang/Object") ∈ lw_tbl := lw_at lw_m9 20 rfl

theorem q423 : (Jvm.Cond.sameMethod "[I" "java/lang/Object" "clone" "()Ljava/lang/Object;") ∈ lw_all := lw_g (lw_at lw_m2 135 rfl) rfl
set_option maxRecDepth 100000
theorem q426 : (Jvm.Cond.selects "[I" ({ cls := "[I", name := "clone", desc := "()Ljava/lang/Object;" } : Jvm.MethodName) ({ cls := "java/lang/Object", name := "clone", desc := "()Ljava/lang/Object;" } : Jvm.MethodName)) ∈ lw_all := lw_g (lw_at lw_m2 138 rfl) rfl
theorem q427 : (Jvm.Cond.castable "[I" "java/lang/Cloneable") ∈ lw_tbl := lw_at lw_m2 139 rfl
theorem q1986 : (Jvm.Cond.castable "[I" "java/lang/Object") ∈ lw_tbl := lw_at lw_m9 18 rfl

theorem q1983 : (Jvm.Cond.sameMethod "[Ljava/lang/Object;" "java/lang/Object" "getClass" "()Ljava/lang/Class;") ∈ lw_all := lw_g (lw_at lw_m9 15 rfl) rfl
set_option maxRecDepth 100000
theorem q1984 : (Jvm.Cond.selects "[Ljava/lang/Object;" ({ cls := "java/lang/Object", name := "getClass", desc := "()Ljava/lang/Class;" } : Jvm.MethodName) ({ cls := "java/lang/Object", name := "getClass", desc := "()Ljava/lang/Class;" } : Jvm.MethodName)) ∈ lw_all := lw_g (lw_at lw_m9 16 rfl) rfl
theorem q1987 : (Jvm.Cond.castable "[Ljava/lang/Object;" "java/lang/Object") ∈ lw_tbl := lw_at lw_m9 19 rfl

theorem q87 : (Jvm.Cond.initialized "java/lang/Number") ∈ lw_all := lw_g (lw_at lw_m1 39 rfl) rfl
set_option maxRecDepth 100000

theorem q60 : (Jvm.Cond.initialized "java/lang/System") ∈ lw_all := lw_g (lw_at lw_m1 12 rfl) rfl
set_option maxRecDepth 100000
theorem q271 : (Jvm.Cond.static ({ cls := "java/lang/System", name := "arraycopy", desc := "(Ljava/lang/Object;ILjava/lang/Object;II)V" } : Jvm.MethodName)) ∈ lw_all := lw_g (lw_at lw_m1 223 rfl) rfl
theorem q272 : (Jvm.Cond.native ({ cls := "java/lang/System", name := "arraycopy", desc := "(Ljava/lang/Object;ILjava/lang/Object;II)V" } : Jvm.MethodName)) ∈ lw_all := lw_g (lw_at lw_m1 224 rfl) rfl

theorem q77 : (Jvm.Cond.initialized "java/util/AbstractList$ListItr") ∈ lw_all := lw_g (lw_at lw_m1 29 rfl) rfl
set_option maxRecDepth 100000
theorem q251 : (Jvm.Cond.selects "java/util/AbstractList$ListItr" ({ cls := "java/lang/Object", name := "getClass", desc := "()Ljava/lang/Class;" } : Jvm.MethodName) ({ cls := "java/lang/Object", name := "getClass", desc := "()Ljava/lang/Class;" } : Jvm.MethodName)) ∈ lw_all := lw_g (lw_at lw_m1 203 rfl) rfl
theorem q458 : (Jvm.Cond.castable "java/util/AbstractList$ListItr" "java/util/Iterator") ∈ lw_tbl := lw_at lw_m2 170 rfl
theorem q459 : (Jvm.Cond.selects "java/util/AbstractList$ListItr" ({ cls := "java/util/Iterator", name := "hasNext", desc := "()Z" } : Jvm.MethodName) ({ cls := "java/util/AbstractList$Itr", name := "hasNext", desc := "()Z" } : Jvm.MethodName)) ∈ lw_all := lw_g (lw_at lw_m2 171 rfl) rfl
theorem q460 : (Jvm.Cond.unhidden "java/util/AbstractList$ListItr" "hasNext" "()Z") ∈ lw_tbl := lw_at lw_m2 172 rfl
theorem q492 : (Jvm.Cond.selects "java/util/AbstractList$ListItr" ({ cls := "java/util/Iterator", name := "next", desc := "()Ljava/lang/Object;" } : Jvm.MethodName) ({ cls := "java/util/AbstractList$Itr", name := "next", desc := "()Ljava/lang/Object;" } : Jvm.MethodName)) ∈ lw_all := lw_g (lw_at lw_m2 204 rfl) rfl
theorem q493 : (Jvm.Cond.unhidden "java/util/AbstractList$ListItr" "next" "()Ljava/lang/Object;") ∈ lw_tbl := lw_at lw_m2 205 rfl
theorem q500 : (Jvm.Cond.selects "java/util/AbstractList$ListItr" ({ cls := "java/util/AbstractList$Itr", name := "checkForComodification", desc := "()V" } : Jvm.MethodName) ({ cls := "java/util/AbstractList$Itr", name := "checkForComodification", desc := "()V" } : Jvm.MethodName)) ∈ lw_all := lw_g (lw_at lw_m2 212 rfl) rfl
theorem q1969 : (Jvm.Cond.castable "java/util/AbstractList$ListItr" "java/lang/Object") ∈ lw_tbl := lw_at lw_m9 1 rfl
theorem q1993 : (Jvm.Cond.fieldLink "java/util/AbstractList$ListItr" (1 : Nat) "java/util/AbstractList$ListItr" "this$0" "Ljava/util/AbstractList;") ∈ lw_all := lw_g (lw_at lw_m9 25 rfl) rfl
theorem q1994 : (Jvm.Cond.fieldLink "java/util/AbstractList$ListItr" (13 : Nat) "java/util/AbstractList$ListItr" "cursor" "I") ∈ lw_all := lw_g (lw_at lw_m9 26 rfl) rfl
theorem q1995 : (Jvm.Cond.sameField "java/util/AbstractList$ListItr" "java/util/AbstractList$Itr" "cursor" "I") ∈ lw_all := lw_g (lw_at lw_m9 27 rfl) rfl

theorem q456 : (Jvm.Cond.interfaceMethod "java/util/Iterator" "java/util/Iterator" "hasNext" "()Z") ∈ lw_tbl := lw_at lw_m2 168 rfl
set_option maxRecDepth 100000
theorem q457 : (Jvm.Cond.declares ({ cls := "java/util/Iterator", name := "hasNext", desc := "()Z" } : Jvm.MethodName)) ∈ lw_tbl := lw_at lw_m2 169 rfl
theorem q490 : (Jvm.Cond.interfaceMethod "java/util/Iterator" "java/util/Iterator" "next" "()Ljava/lang/Object;") ∈ lw_tbl := lw_at lw_m2 202 rfl
theorem q491 : (Jvm.Cond.declares ({ cls := "java/util/Iterator", name := "next", desc := "()Ljava/lang/Object;" } : Jvm.MethodName)) ∈ lw_tbl := lw_at lw_m2 203 rfl

theorem q140 : (Jvm.Cond.arrayClass Jvm.ClassFile.FieldType.int) ∈ lw_all := lw_g (lw_at lw_m1 92 rfl) rfl
set_option maxRecDepth 100000
theorem q265 : (Jvm.Cond.arrayOver (Jvm.ClassFile.FieldType.object "java/lang/Object")) ∈ lw_tbl := lw_at lw_m1 217 rfl
theorem q397 : (Jvm.Cond.arrayClass Jvm.ClassFile.FieldType.byte) ∈ lw_all := lw_g (lw_at lw_m2 109 rfl) rfl
