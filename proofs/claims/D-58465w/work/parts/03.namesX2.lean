/-! CanalStepsModel -/
set_option maxRecDepth 100000
def RX2 : String := "CanalStepsModel"
def TX2 : u_T := fun k => match k with
  | 0 => ("CanalStepsModel", "s", "[I", true)
  | 1 => ("CanalStepsModel", "aside", "[I", true)
  | 2 => ("CanalStepsModel", "history", "[I", true)
  | 3 => ("CanalStepsModel", "known", "I", false)
  | 4 => ("CanalStepsModel", "snapshot", "[I", true)
  | 5 => ("CanalStepsModel", "isKept", "Z", false)
  | 6 => ("CanalStepsModel", "text", "[I", true)
  | 7 => ("CanalStepsModel", "length", "I", false)
  | 8 => ("CanalStepsModel", "stop", "I", false)
  | 9 => ("CanalStepsModel", "stopError", "I", false)
  | 10 => ("CanalStepsModel", "asked", "I", false)
  | 11 => ("CanalStepsModel", "told", "I", false)
  | 12 => ("CanalStepsModel", "spot", "I", false)
  | 13 => ("CanalStepsModel", "isWrong", "Z", false)
  | 14 => ("CanalStepsModel", "letter", "I", false)
  | 15 => ("CanalStepsModel", "first", "I", false)
  | 16 => ("CanalStepsModel", "second", "I", false)
  | 17 => ("CanalStepsModel", "third", "I", false)
  | 18 => ("CanalStepsModel", "fourth", "I", false)
  | _ => ("CanalStepsModel", "stoppedBy", "I", false)
def tyX2 : Nat → FieldType := fun k => match k with
  | 0 => .array .int
  | 1 => .array .int
  | 2 => .array .int
  | 3 => .int
  | 4 => .array .int
  | 5 => .boolean
  | 6 => .array .int
  | 7 => .int
  | 8 => .int
  | 9 => .int
  | 10 => .int
  | 11 => .int
  | 12 => .int
  | 13 => .boolean
  | 14 => .int
  | 15 => .int
  | 16 => .int
  | 17 => .int
  | 18 => .int
  | _ => .int
abbrev wsX20 : List Cond := u_ws RX2 TX2 20
set_option maxRecDepth 100000 in
theorem nmX2 : ∀ a, a < 20 → ∀ b, b < 20 → a ≠ b → (TX2 a).2.1 ≠ (TX2 b).2.1 := by decide +kernel
set_option maxRecDepth 100000 in
theorem tyX2_ok : ∀ k, k < 20 → parseFieldDescriptor (TX2 k).2.2.1 = some (tyX2 k) := by decide +kernel
abbrev cX2_init : ByteArray := prog_7_method_1_code
def yX2_init : MethodName := ⟨RX2, "<init>", "()V"⟩
def dkwX2_init_5 : List UInt8 := [17, 0, 156, 7, 79, 177]
abbrev dktX2_init_5 : List UInt8 := dkwX2_init_5 ++ []
def dkwX2_init_4 : List UInt8 := [180, 0, 7, 17, 0, 154, 16, 6, 79, 42, 180, 0, 7, 17, 0, 155, 5, 79, 42, 180, 0, 7]
abbrev dktX2_init_4 : List UInt8 := dkwX2_init_4 ++ dktX2_init_5
def dkwX2_init_3 : List UInt8 := [16, 6, 162, 0, 19, 42, 180, 0, 7, 3, 27, 96, 16, 40, 79, 132, 1, 1, 167, 255, 237, 42]
abbrev dktX2_init_3 : List UInt8 := dkwX2_init_3 ++ dktX2_init_4
def dkwX2_init_2 : List UInt8 := [181, 0, 22, 42, 16, 251, 181, 0, 25, 42, 16, 251, 181, 0, 29, 42, 16, 251, 181, 0, 32, 3, 60, 27]
abbrev dktX2_init_2 : List UInt8 := dkwX2_init_2 ++ dktX2_init_3
def dkwX2_init_1 : List UInt8 := [17, 2, 116, 188, 10, 181, 0, 16, 42, 17, 0, 157, 188, 10, 181, 0, 19, 42, 16, 60, 188, 10]
abbrev dktX2_init_1 : List UInt8 := dkwX2_init_1 ++ dktX2_init_2
def dkwX2_init_0 : List UInt8 := [42, 183, 0, 1, 42, 17, 0, 157, 188, 10, 181, 0, 7, 42, 17, 0, 157, 188, 10, 181, 0, 13, 42]
abbrev dktX2_init_0 : List UInt8 := dkwX2_init_0 ++ dktX2_init_1
theorem dksX2_init_0 : cX2_init.data.toList.drop 0 = dktX2_init_0 := by decide +kernel
theorem dksX2_init_1 : cX2_init.data.toList.drop 23 = dktX2_init_1 := dk_seg dksX2_init_0 23 rfl rfl
theorem dksX2_init_2 : cX2_init.data.toList.drop 45 = dktX2_init_2 := dk_seg dksX2_init_1 22 rfl rfl
theorem dksX2_init_3 : cX2_init.data.toList.drop 69 = dktX2_init_3 := dk_seg dksX2_init_2 24 rfl rfl
theorem dksX2_init_4 : cX2_init.data.toList.drop 91 = dktX2_init_4 := dk_seg dksX2_init_3 22 rfl rfl
theorem dksX2_init_5 : cX2_init.data.toList.drop 113 = dktX2_init_5 := dk_seg dksX2_init_4 22 rfl rfl
theorem dX2_init_0 : decode cX2_init 0 = .ok (.aload_n 0, 1) := dk_42 (dk_at dksX2_init_0 0 rfl rfl)
theorem dX2_init_1 : decode cX2_init 1 = .ok (.invokespecial 1, 3) := dk_183 0 1 (dk_at dksX2_init_0 1 rfl rfl)
theorem dX2_init_4 : decode cX2_init 4 = .ok (.aload_n 0, 1) := dk_42 (dk_at dksX2_init_0 4 rfl rfl)
theorem dX2_init_5 : decode cX2_init 5 = .ok (.sipush 157, 3) := dk_17 0 157 (dk_at dksX2_init_0 5 rfl rfl)
theorem dX2_init_8 : decode cX2_init 8 = .ok (.newarray .int, 2) := dk_188_10 (dk_at dksX2_init_0 8 rfl rfl)
theorem dX2_init_10 : decode cX2_init 10 = .ok (.putfield 7, 3) := dk_181 0 7 (dk_at dksX2_init_0 10 rfl rfl)
theorem dX2_init_13 : decode cX2_init 13 = .ok (.aload_n 0, 1) := dk_42 (dk_at dksX2_init_0 13 rfl rfl)
theorem dX2_init_14 : decode cX2_init 14 = .ok (.sipush 157, 3) := dk_17 0 157 (dk_at dksX2_init_0 14 rfl rfl)
theorem dX2_init_17 : decode cX2_init 17 = .ok (.newarray .int, 2) := dk_188_10 (dk_at dksX2_init_0 17 rfl rfl)
theorem dX2_init_19 : decode cX2_init 19 = .ok (.putfield 13, 3) := dk_181 0 13 (dk_at dksX2_init_0 19 rfl rfl)
theorem dX2_init_22 : decode cX2_init 22 = .ok (.aload_n 0, 1) := dk_42 (dk_at dksX2_init_0 22 rfl rfl)
theorem dX2_init_23 : decode cX2_init 23 = .ok (.sipush 628, 3) := dk_17 2 116 (dk_at dksX2_init_1 0 rfl rfl)
theorem dX2_init_26 : decode cX2_init 26 = .ok (.newarray .int, 2) := dk_188_10 (dk_at dksX2_init_1 3 rfl rfl)
theorem dX2_init_28 : decode cX2_init 28 = .ok (.putfield 16, 3) := dk_181 0 16 (dk_at dksX2_init_1 5 rfl rfl)
theorem dX2_init_31 : decode cX2_init 31 = .ok (.aload_n 0, 1) := dk_42 (dk_at dksX2_init_1 8 rfl rfl)
theorem dX2_init_32 : decode cX2_init 32 = .ok (.sipush 157, 3) := dk_17 0 157 (dk_at dksX2_init_1 9 rfl rfl)
theorem dX2_init_35 : decode cX2_init 35 = .ok (.newarray .int, 2) := dk_188_10 (dk_at dksX2_init_1 12 rfl rfl)
theorem dX2_init_37 : decode cX2_init 37 = .ok (.putfield 19, 3) := dk_181 0 19 (dk_at dksX2_init_1 14 rfl rfl)
theorem dX2_init_40 : decode cX2_init 40 = .ok (.aload_n 0, 1) := dk_42 (dk_at dksX2_init_1 17 rfl rfl)
theorem dX2_init_41 : decode cX2_init 41 = .ok (.bipush 60, 2) := dk_16 60 (dk_at dksX2_init_1 18 rfl rfl)
theorem dX2_init_43 : decode cX2_init 43 = .ok (.newarray .int, 2) := dk_188_10 (dk_at dksX2_init_1 20 rfl rfl)
theorem dX2_init_45 : decode cX2_init 45 = .ok (.putfield 22, 3) := dk_181 0 22 (dk_at dksX2_init_2 0 rfl rfl)
theorem dX2_init_48 : decode cX2_init 48 = .ok (.aload_n 0, 1) := dk_42 (dk_at dksX2_init_2 3 rfl rfl)
theorem dX2_init_49 : decode cX2_init 49 = .ok (.bipush (-5), 2) := dk_16 251 (dk_at dksX2_init_2 4 rfl rfl)
theorem dX2_init_51 : decode cX2_init 51 = .ok (.putfield 25, 3) := dk_181 0 25 (dk_at dksX2_init_2 6 rfl rfl)
theorem dX2_init_54 : decode cX2_init 54 = .ok (.aload_n 0, 1) := dk_42 (dk_at dksX2_init_2 9 rfl rfl)
theorem dX2_init_55 : decode cX2_init 55 = .ok (.bipush (-5), 2) := dk_16 251 (dk_at dksX2_init_2 10 rfl rfl)
theorem dX2_init_57 : decode cX2_init 57 = .ok (.putfield 29, 3) := dk_181 0 29 (dk_at dksX2_init_2 12 rfl rfl)
theorem dX2_init_60 : decode cX2_init 60 = .ok (.aload_n 0, 1) := dk_42 (dk_at dksX2_init_2 15 rfl rfl)
theorem dX2_init_61 : decode cX2_init 61 = .ok (.bipush (-5), 2) := dk_16 251 (dk_at dksX2_init_2 16 rfl rfl)
theorem dX2_init_63 : decode cX2_init 63 = .ok (.putfield 32, 3) := dk_181 0 32 (dk_at dksX2_init_2 18 rfl rfl)
theorem dX2_init_66 : decode cX2_init 66 = .ok (.iconst 0, 1) := dk_3 (dk_at dksX2_init_2 21 rfl rfl)
theorem dX2_init_67 : decode cX2_init 67 = .ok (.istore_n 1, 1) := dk_60 (dk_at dksX2_init_2 22 rfl rfl)
theorem dX2_init_68 : decode cX2_init 68 = .ok (.iload_n 1, 1) := dk_27 (dk_at dksX2_init_2 23 rfl rfl)
theorem dX2_init_69 : decode cX2_init 69 = .ok (.bipush 6, 2) := dk_16 6 (dk_at dksX2_init_3 0 rfl rfl)
theorem dX2_init_71 : decode cX2_init 71 = .ok (.if_icmp .ge 19, 3) := dk_162 0 19 (dk_at dksX2_init_3 2 rfl rfl)
theorem dX2_init_74 : decode cX2_init 74 = .ok (.aload_n 0, 1) := dk_42 (dk_at dksX2_init_3 5 rfl rfl)
theorem dX2_init_75 : decode cX2_init 75 = .ok (.getfield 7, 3) := dk_180 0 7 (dk_at dksX2_init_3 6 rfl rfl)
theorem dX2_init_78 : decode cX2_init 78 = .ok (.iconst 0, 1) := dk_3 (dk_at dksX2_init_3 9 rfl rfl)
theorem dX2_init_79 : decode cX2_init 79 = .ok (.iload_n 1, 1) := dk_27 (dk_at dksX2_init_3 10 rfl rfl)
theorem dX2_init_80 : decode cX2_init 80 = .ok (.iadd, 1) := dk_96 (dk_at dksX2_init_3 11 rfl rfl)
theorem dX2_init_81 : decode cX2_init 81 = .ok (.bipush 40, 2) := dk_16 40 (dk_at dksX2_init_3 12 rfl rfl)
theorem dX2_init_83 : decode cX2_init 83 = .ok (.iastore, 1) := dk_79 (dk_at dksX2_init_3 14 rfl rfl)
theorem dX2_init_84 : decode cX2_init 84 = .ok (.iinc 1 1, 3) := dk_132 1 1 (dk_at dksX2_init_3 15 rfl rfl)
theorem dX2_init_87 : decode cX2_init 87 = .ok (.goto (-19), 3) := dk_167 255 237 (dk_at dksX2_init_3 18 rfl rfl)
theorem dX2_init_90 : decode cX2_init 90 = .ok (.aload_n 0, 1) := dk_42 (dk_at dksX2_init_3 21 rfl rfl)
theorem dX2_init_91 : decode cX2_init 91 = .ok (.getfield 7, 3) := dk_180 0 7 (dk_at dksX2_init_4 0 rfl rfl)
theorem dX2_init_94 : decode cX2_init 94 = .ok (.sipush 154, 3) := dk_17 0 154 (dk_at dksX2_init_4 3 rfl rfl)
theorem dX2_init_97 : decode cX2_init 97 = .ok (.bipush 6, 2) := dk_16 6 (dk_at dksX2_init_4 6 rfl rfl)
theorem dX2_init_99 : decode cX2_init 99 = .ok (.iastore, 1) := dk_79 (dk_at dksX2_init_4 8 rfl rfl)
theorem dX2_init_100 : decode cX2_init 100 = .ok (.aload_n 0, 1) := dk_42 (dk_at dksX2_init_4 9 rfl rfl)
theorem dX2_init_101 : decode cX2_init 101 = .ok (.getfield 7, 3) := dk_180 0 7 (dk_at dksX2_init_4 10 rfl rfl)
theorem dX2_init_104 : decode cX2_init 104 = .ok (.sipush 155, 3) := dk_17 0 155 (dk_at dksX2_init_4 13 rfl rfl)
theorem dX2_init_107 : decode cX2_init 107 = .ok (.iconst 2, 1) := dk_5 (dk_at dksX2_init_4 16 rfl rfl)
theorem dX2_init_108 : decode cX2_init 108 = .ok (.iastore, 1) := dk_79 (dk_at dksX2_init_4 17 rfl rfl)
theorem dX2_init_109 : decode cX2_init 109 = .ok (.aload_n 0, 1) := dk_42 (dk_at dksX2_init_4 18 rfl rfl)
theorem dX2_init_110 : decode cX2_init 110 = .ok (.getfield 7, 3) := dk_180 0 7 (dk_at dksX2_init_4 19 rfl rfl)
theorem dX2_init_113 : decode cX2_init 113 = .ok (.sipush 156, 3) := dk_17 0 156 (dk_at dksX2_init_5 0 rfl rfl)
theorem dX2_init_116 : decode cX2_init 116 = .ok (.iconst 4, 1) := dk_7 (dk_at dksX2_init_5 3 rfl rfl)
theorem dX2_init_117 : decode cX2_init 117 = .ok (.iastore, 1) := dk_79 (dk_at dksX2_init_5 4 rfl rfl)
theorem dX2_init_118 : decode cX2_init 118 = .ok (.return_, 1) := dk_177 (dk_at dksX2_init_5 5 rfl rfl)
abbrev cX2_boat : ByteArray := prog_7_method_33_code
def yX2_boat : MethodName := ⟨RX2, "boat", "(IIII)I"⟩
def dkwX2_boat_1 : List UInt8 := [27, 28, 29, 21, 4, 182, 0, 125, 172]
abbrev dktX2_boat_1 : List UInt8 := dkwX2_boat_1 ++ []
def dkwX2_boat_0 : List UInt8 := [42, 27, 28, 29, 21, 4, 182, 0, 118, 54, 5, 21, 5, 153, 0, 6, 21, 5, 172, 42, 182, 0, 122, 42]
abbrev dktX2_boat_0 : List UInt8 := dkwX2_boat_0 ++ dktX2_boat_1
theorem dksX2_boat_0 : cX2_boat.data.toList.drop 0 = dktX2_boat_0 := by decide +kernel
theorem dksX2_boat_1 : cX2_boat.data.toList.drop 24 = dktX2_boat_1 := dk_seg dksX2_boat_0 24 rfl rfl
theorem dX2_boat_0 : decode cX2_boat 0 = .ok (.aload_n 0, 1) := dk_42 (dk_at dksX2_boat_0 0 rfl rfl)
theorem dX2_boat_1 : decode cX2_boat 1 = .ok (.iload_n 1, 1) := dk_27 (dk_at dksX2_boat_0 1 rfl rfl)
theorem dX2_boat_2 : decode cX2_boat 2 = .ok (.iload_n 2, 1) := dk_28 (dk_at dksX2_boat_0 2 rfl rfl)
theorem dX2_boat_3 : decode cX2_boat 3 = .ok (.iload_n 3, 1) := dk_29 (dk_at dksX2_boat_0 3 rfl rfl)
theorem dX2_boat_4 : decode cX2_boat 4 = .ok (.iload 4, 2) := dk_21 4 (dk_at dksX2_boat_0 4 rfl rfl)
theorem dX2_boat_6 : decode cX2_boat 6 = .ok (.invokevirtual 118, 3) := dk_182 0 118 (dk_at dksX2_boat_0 6 rfl rfl)
theorem dX2_boat_9 : decode cX2_boat 9 = .ok (.istore 5, 2) := dk_54 5 (dk_at dksX2_boat_0 9 rfl rfl)
theorem dX2_boat_11 : decode cX2_boat 11 = .ok (.iload 5, 2) := dk_21 5 (dk_at dksX2_boat_0 11 rfl rfl)
theorem dX2_boat_13 : decode cX2_boat 13 = .ok (.ifCond .eq 6, 3) := dk_153 0 6 (dk_at dksX2_boat_0 13 rfl rfl)
theorem dX2_boat_16 : decode cX2_boat 16 = .ok (.iload 5, 2) := dk_21 5 (dk_at dksX2_boat_0 16 rfl rfl)
theorem dX2_boat_18 : decode cX2_boat 18 = .ok (.ireturn, 1) := dk_172 (dk_at dksX2_boat_0 18 rfl rfl)
theorem dX2_boat_19 : decode cX2_boat 19 = .ok (.aload_n 0, 1) := dk_42 (dk_at dksX2_boat_0 19 rfl rfl)
theorem dX2_boat_20 : decode cX2_boat 20 = .ok (.invokevirtual 122, 3) := dk_182 0 122 (dk_at dksX2_boat_0 20 rfl rfl)
theorem dX2_boat_23 : decode cX2_boat 23 = .ok (.aload_n 0, 1) := dk_42 (dk_at dksX2_boat_0 23 rfl rfl)
theorem dX2_boat_24 : decode cX2_boat 24 = .ok (.iload_n 1, 1) := dk_27 (dk_at dksX2_boat_1 0 rfl rfl)
theorem dX2_boat_25 : decode cX2_boat 25 = .ok (.iload_n 2, 1) := dk_28 (dk_at dksX2_boat_1 1 rfl rfl)
theorem dX2_boat_26 : decode cX2_boat 26 = .ok (.iload_n 3, 1) := dk_29 (dk_at dksX2_boat_1 2 rfl rfl)
theorem dX2_boat_27 : decode cX2_boat 27 = .ok (.iload 4, 2) := dk_21 4 (dk_at dksX2_boat_1 3 rfl rfl)
theorem dX2_boat_29 : decode cX2_boat 29 = .ok (.invokevirtual 125, 3) := dk_182 0 125 (dk_at dksX2_boat_1 5 rfl rfl)
theorem dX2_boat_32 : decode cX2_boat 32 = .ok (.ireturn, 1) := dk_172 (dk_at dksX2_boat_1 8 rfl rfl)
abbrev cX2_errorOfBoat : ByteArray := prog_7_method_31_code
def yX2_errorOfBoat : MethodName := ⟨RX2, "errorOfBoat", "(IIII)I"⟩
def dkwX2_errorOfBoat_2 : List UInt8 := [180, 0, 7, 17, 0, 150, 46, 16, 16, 160, 0, 8, 16, 253, 167, 0, 4, 3, 172]
abbrev dktX2_errorOfBoat_2 : List UInt8 := dkwX2_errorOfBoat_2 ++ []
def dkwX2_errorOfBoat_1 : List UInt8 := [153, 0, 19, 21, 4, 4, 16, 60, 184, 0, 35, 153, 0, 8, 28, 29, 160, 0, 6, 16, 254, 172, 42]
abbrev dktX2_errorOfBoat_1 : List UInt8 := dkwX2_errorOfBoat_1 ++ dktX2_errorOfBoat_2
def dkwX2_errorOfBoat_0 : List UInt8 := [28, 184, 0, 115, 153, 0, 10, 29, 184, 0, 115, 154, 0, 5, 2, 172, 27, 4, 16, 6, 184, 0, 35]
abbrev dktX2_errorOfBoat_0 : List UInt8 := dkwX2_errorOfBoat_0 ++ dktX2_errorOfBoat_1
theorem dksX2_errorOfBoat_0 : cX2_errorOfBoat.data.toList.drop 0 = dktX2_errorOfBoat_0 := by decide +kernel
theorem dksX2_errorOfBoat_1 : cX2_errorOfBoat.data.toList.drop 23 = dktX2_errorOfBoat_1 := dk_seg dksX2_errorOfBoat_0 23 rfl rfl
theorem dksX2_errorOfBoat_2 : cX2_errorOfBoat.data.toList.drop 46 = dktX2_errorOfBoat_2 := dk_seg dksX2_errorOfBoat_1 23 rfl rfl
theorem dX2_errorOfBoat_0 : decode cX2_errorOfBoat 0 = .ok (.iload_n 2, 1) := dk_28 (dk_at dksX2_errorOfBoat_0 0 rfl rfl)
theorem dX2_errorOfBoat_1 : decode cX2_errorOfBoat 1 = .ok (.invokestatic 115, 3) := dk_184 0 115 (dk_at dksX2_errorOfBoat_0 1 rfl rfl)
theorem dX2_errorOfBoat_4 : decode cX2_errorOfBoat 4 = .ok (.ifCond .eq 10, 3) := dk_153 0 10 (dk_at dksX2_errorOfBoat_0 4 rfl rfl)
theorem dX2_errorOfBoat_7 : decode cX2_errorOfBoat 7 = .ok (.iload_n 3, 1) := dk_29 (dk_at dksX2_errorOfBoat_0 7 rfl rfl)
theorem dX2_errorOfBoat_8 : decode cX2_errorOfBoat 8 = .ok (.invokestatic 115, 3) := dk_184 0 115 (dk_at dksX2_errorOfBoat_0 8 rfl rfl)
theorem dX2_errorOfBoat_11 : decode cX2_errorOfBoat 11 = .ok (.ifCond .ne 5, 3) := dk_154 0 5 (dk_at dksX2_errorOfBoat_0 11 rfl rfl)
theorem dX2_errorOfBoat_14 : decode cX2_errorOfBoat 14 = .ok (.iconst (-1), 1) := dk_2 (dk_at dksX2_errorOfBoat_0 14 rfl rfl)
theorem dX2_errorOfBoat_15 : decode cX2_errorOfBoat 15 = .ok (.ireturn, 1) := dk_172 (dk_at dksX2_errorOfBoat_0 15 rfl rfl)
theorem dX2_errorOfBoat_16 : decode cX2_errorOfBoat 16 = .ok (.iload_n 1, 1) := dk_27 (dk_at dksX2_errorOfBoat_0 16 rfl rfl)
theorem dX2_errorOfBoat_17 : decode cX2_errorOfBoat 17 = .ok (.iconst 1, 1) := dk_4 (dk_at dksX2_errorOfBoat_0 17 rfl rfl)
theorem dX2_errorOfBoat_18 : decode cX2_errorOfBoat 18 = .ok (.bipush 6, 2) := dk_16 6 (dk_at dksX2_errorOfBoat_0 18 rfl rfl)
theorem dX2_errorOfBoat_20 : decode cX2_errorOfBoat 20 = .ok (.invokestatic 35, 3) := dk_184 0 35 (dk_at dksX2_errorOfBoat_0 20 rfl rfl)
theorem dX2_errorOfBoat_23 : decode cX2_errorOfBoat 23 = .ok (.ifCond .eq 19, 3) := dk_153 0 19 (dk_at dksX2_errorOfBoat_1 0 rfl rfl)
theorem dX2_errorOfBoat_26 : decode cX2_errorOfBoat 26 = .ok (.iload 4, 2) := dk_21 4 (dk_at dksX2_errorOfBoat_1 3 rfl rfl)
theorem dX2_errorOfBoat_28 : decode cX2_errorOfBoat 28 = .ok (.iconst 1, 1) := dk_4 (dk_at dksX2_errorOfBoat_1 5 rfl rfl)
theorem dX2_errorOfBoat_29 : decode cX2_errorOfBoat 29 = .ok (.bipush 60, 2) := dk_16 60 (dk_at dksX2_errorOfBoat_1 6 rfl rfl)
theorem dX2_errorOfBoat_31 : decode cX2_errorOfBoat 31 = .ok (.invokestatic 35, 3) := dk_184 0 35 (dk_at dksX2_errorOfBoat_1 8 rfl rfl)
theorem dX2_errorOfBoat_34 : decode cX2_errorOfBoat 34 = .ok (.ifCond .eq 8, 3) := dk_153 0 8 (dk_at dksX2_errorOfBoat_1 11 rfl rfl)
theorem dX2_errorOfBoat_37 : decode cX2_errorOfBoat 37 = .ok (.iload_n 2, 1) := dk_28 (dk_at dksX2_errorOfBoat_1 14 rfl rfl)
theorem dX2_errorOfBoat_38 : decode cX2_errorOfBoat 38 = .ok (.iload_n 3, 1) := dk_29 (dk_at dksX2_errorOfBoat_1 15 rfl rfl)
theorem dX2_errorOfBoat_39 : decode cX2_errorOfBoat 39 = .ok (.if_icmp .ne 6, 3) := dk_160 0 6 (dk_at dksX2_errorOfBoat_1 16 rfl rfl)
theorem dX2_errorOfBoat_42 : decode cX2_errorOfBoat 42 = .ok (.bipush (-2), 2) := dk_16 254 (dk_at dksX2_errorOfBoat_1 19 rfl rfl)
theorem dX2_errorOfBoat_44 : decode cX2_errorOfBoat 44 = .ok (.ireturn, 1) := dk_172 (dk_at dksX2_errorOfBoat_1 21 rfl rfl)
theorem dX2_errorOfBoat_45 : decode cX2_errorOfBoat 45 = .ok (.aload_n 0, 1) := dk_42 (dk_at dksX2_errorOfBoat_1 22 rfl rfl)
theorem dX2_errorOfBoat_46 : decode cX2_errorOfBoat 46 = .ok (.getfield 7, 3) := dk_180 0 7 (dk_at dksX2_errorOfBoat_2 0 rfl rfl)
theorem dX2_errorOfBoat_49 : decode cX2_errorOfBoat 49 = .ok (.sipush 150, 3) := dk_17 0 150 (dk_at dksX2_errorOfBoat_2 3 rfl rfl)
theorem dX2_errorOfBoat_52 : decode cX2_errorOfBoat 52 = .ok (.iaload, 1) := dk_46 (dk_at dksX2_errorOfBoat_2 6 rfl rfl)
theorem dX2_errorOfBoat_53 : decode cX2_errorOfBoat 53 = .ok (.bipush 16, 2) := dk_16 16 (dk_at dksX2_errorOfBoat_2 7 rfl rfl)
theorem dX2_errorOfBoat_55 : decode cX2_errorOfBoat 55 = .ok (.if_icmp .ne 8, 3) := dk_160 0 8 (dk_at dksX2_errorOfBoat_2 9 rfl rfl)
theorem dX2_errorOfBoat_58 : decode cX2_errorOfBoat 58 = .ok (.bipush (-3), 2) := dk_16 253 (dk_at dksX2_errorOfBoat_2 12 rfl rfl)
theorem dX2_errorOfBoat_60 : decode cX2_errorOfBoat 60 = .ok (.goto 4, 3) := dk_167 0 4 (dk_at dksX2_errorOfBoat_2 14 rfl rfl)
theorem dX2_errorOfBoat_63 : decode cX2_errorOfBoat 63 = .ok (.iconst 0, 1) := dk_3 (dk_at dksX2_errorOfBoat_2 17 rfl rfl)
theorem dX2_errorOfBoat_64 : decode cX2_errorOfBoat 64 = .ok (.ireturn, 1) := dk_172 (dk_at dksX2_errorOfBoat_2 18 rfl rfl)
abbrev cX2_isPound : ByteArray := prog_7_method_3_code
def yX2_isPound : MethodName := ⟨RX2, "isPound", "(I)Z"⟩
def dkwX2_isPound_0 : List UInt8 := [26, 3, 8, 184, 0, 35, 172]
abbrev dktX2_isPound_0 : List UInt8 := dkwX2_isPound_0 ++ []
theorem dksX2_isPound_0 : cX2_isPound.data.toList.drop 0 = dktX2_isPound_0 := by decide +kernel
theorem dX2_isPound_0 : decode cX2_isPound 0 = .ok (.iload_n 0, 1) := dk_26 (dk_at dksX2_isPound_0 0 rfl rfl)
theorem dX2_isPound_1 : decode cX2_isPound 1 = .ok (.iconst 0, 1) := dk_3 (dk_at dksX2_isPound_0 1 rfl rfl)
theorem dX2_isPound_2 : decode cX2_isPound 2 = .ok (.iconst 5, 1) := dk_8 (dk_at dksX2_isPound_0 2 rfl rfl)
theorem dX2_isPound_3 : decode cX2_isPound 3 = .ok (.invokestatic 35, 3) := dk_184 0 35 (dk_at dksX2_isPound_0 3 rfl rfl)
theorem dX2_isPound_6 : decode cX2_isPound 6 = .ok (.ireturn, 1) := dk_172 (dk_at dksX2_isPound_0 6 rfl rfl)
abbrev cX2_in : ByteArray := prog_7_method_2_code
def yX2_in : MethodName := ⟨RX2, "in", "(III)Z"⟩
def dkwX2_in_0 : List UInt8 := [26, 27, 161, 0, 12, 26, 28, 163, 0, 7, 4, 167, 0, 4, 3, 172]
abbrev dktX2_in_0 : List UInt8 := dkwX2_in_0 ++ []
theorem dksX2_in_0 : cX2_in.data.toList.drop 0 = dktX2_in_0 := by decide +kernel
theorem dX2_in_0 : decode cX2_in 0 = .ok (.iload_n 0, 1) := dk_26 (dk_at dksX2_in_0 0 rfl rfl)
theorem dX2_in_1 : decode cX2_in 1 = .ok (.iload_n 1, 1) := dk_27 (dk_at dksX2_in_0 1 rfl rfl)
theorem dX2_in_2 : decode cX2_in 2 = .ok (.if_icmp .lt 12, 3) := dk_161 0 12 (dk_at dksX2_in_0 2 rfl rfl)
theorem dX2_in_5 : decode cX2_in 5 = .ok (.iload_n 0, 1) := dk_26 (dk_at dksX2_in_0 5 rfl rfl)
theorem dX2_in_6 : decode cX2_in 6 = .ok (.iload_n 2, 1) := dk_28 (dk_at dksX2_in_0 6 rfl rfl)
theorem dX2_in_7 : decode cX2_in 7 = .ok (.if_icmp .gt 7, 3) := dk_163 0 7 (dk_at dksX2_in_0 7 rfl rfl)
theorem dX2_in_10 : decode cX2_in 10 = .ok (.iconst 1, 1) := dk_4 (dk_at dksX2_in_0 10 rfl rfl)
theorem dX2_in_11 : decode cX2_in 11 = .ok (.goto 4, 3) := dk_167 0 4 (dk_at dksX2_in_0 11 rfl rfl)
theorem dX2_in_14 : decode cX2_in 14 = .ok (.iconst 0, 1) := dk_3 (dk_at dksX2_in_0 14 rfl rfl)
theorem dX2_in_15 : decode cX2_in 15 = .ok (.ireturn, 1) := dk_172 (dk_at dksX2_in_0 15 rfl rfl)
abbrev cX2_record : ByteArray := prog_7_method_8_code
def yX2_record : MethodName := ⟨RX2, "record", "()V"⟩
def dkwX2_record_4 : List UInt8 := [181, 0, 43, 177]
abbrev dktX2_record_4 : List UInt8 := dkwX2_record_4 ++ []
def dkwX2_record_3 : List UInt8 := [27, 96, 42, 180, 0, 7, 27, 46, 79, 132, 1, 1, 167, 255, 225, 42, 89, 180, 0, 43, 4, 96]
abbrev dktX2_record_3 : List UInt8 := dkwX2_record_3 ++ dktX2_record_4
def dkwX2_record_2 : List UInt8 := [181, 0, 43, 3, 60, 27, 17, 0, 157, 162, 0, 30, 42, 180, 0, 16, 17, 0, 157, 42, 180, 0, 43, 104]
abbrev dktX2_record_2 : List UInt8 := dkwX2_record_2 ++ dktX2_record_3
def dkwX2_record_1 : List UInt8 := [180, 0, 16, 27, 17, 0, 157, 96, 46, 79, 132, 1, 1, 167, 255, 230, 42, 89, 180, 0, 43, 4, 100]
abbrev dktX2_record_1 : List UInt8 := dkwX2_record_1 ++ dktX2_record_2
def dkwX2_record_0 : List UInt8 := [42, 180, 0, 43, 7, 160, 0, 44, 3, 60, 27, 17, 1, 215, 162, 0, 25, 42, 180, 0, 16, 27, 42]
abbrev dktX2_record_0 : List UInt8 := dkwX2_record_0 ++ dktX2_record_1
theorem dksX2_record_0 : cX2_record.data.toList.drop 0 = dktX2_record_0 := by decide +kernel
theorem dksX2_record_1 : cX2_record.data.toList.drop 23 = dktX2_record_1 := dk_seg dksX2_record_0 23 rfl rfl
theorem dksX2_record_2 : cX2_record.data.toList.drop 46 = dktX2_record_2 := dk_seg dksX2_record_1 23 rfl rfl
theorem dksX2_record_3 : cX2_record.data.toList.drop 70 = dktX2_record_3 := dk_seg dksX2_record_2 24 rfl rfl
theorem dksX2_record_4 : cX2_record.data.toList.drop 92 = dktX2_record_4 := dk_seg dksX2_record_3 22 rfl rfl
theorem dX2_record_0 : decode cX2_record 0 = .ok (.aload_n 0, 1) := dk_42 (dk_at dksX2_record_0 0 rfl rfl)
theorem dX2_record_1 : decode cX2_record 1 = .ok (.getfield 43, 3) := dk_180 0 43 (dk_at dksX2_record_0 1 rfl rfl)
theorem dX2_record_4 : decode cX2_record 4 = .ok (.iconst 4, 1) := dk_7 (dk_at dksX2_record_0 4 rfl rfl)
theorem dX2_record_5 : decode cX2_record 5 = .ok (.if_icmp .ne 44, 3) := dk_160 0 44 (dk_at dksX2_record_0 5 rfl rfl)
theorem dX2_record_8 : decode cX2_record 8 = .ok (.iconst 0, 1) := dk_3 (dk_at dksX2_record_0 8 rfl rfl)
theorem dX2_record_9 : decode cX2_record 9 = .ok (.istore_n 1, 1) := dk_60 (dk_at dksX2_record_0 9 rfl rfl)
theorem dX2_record_10 : decode cX2_record 10 = .ok (.iload_n 1, 1) := dk_27 (dk_at dksX2_record_0 10 rfl rfl)
theorem dX2_record_11 : decode cX2_record 11 = .ok (.sipush 471, 3) := dk_17 1 215 (dk_at dksX2_record_0 11 rfl rfl)
theorem dX2_record_14 : decode cX2_record 14 = .ok (.if_icmp .ge 25, 3) := dk_162 0 25 (dk_at dksX2_record_0 14 rfl rfl)
theorem dX2_record_17 : decode cX2_record 17 = .ok (.aload_n 0, 1) := dk_42 (dk_at dksX2_record_0 17 rfl rfl)
theorem dX2_record_18 : decode cX2_record 18 = .ok (.getfield 16, 3) := dk_180 0 16 (dk_at dksX2_record_0 18 rfl rfl)
theorem dX2_record_21 : decode cX2_record 21 = .ok (.iload_n 1, 1) := dk_27 (dk_at dksX2_record_0 21 rfl rfl)
theorem dX2_record_22 : decode cX2_record 22 = .ok (.aload_n 0, 1) := dk_42 (dk_at dksX2_record_0 22 rfl rfl)
theorem dX2_record_23 : decode cX2_record 23 = .ok (.getfield 16, 3) := dk_180 0 16 (dk_at dksX2_record_1 0 rfl rfl)
theorem dX2_record_26 : decode cX2_record 26 = .ok (.iload_n 1, 1) := dk_27 (dk_at dksX2_record_1 3 rfl rfl)
theorem dX2_record_27 : decode cX2_record 27 = .ok (.sipush 157, 3) := dk_17 0 157 (dk_at dksX2_record_1 4 rfl rfl)
theorem dX2_record_30 : decode cX2_record 30 = .ok (.iadd, 1) := dk_96 (dk_at dksX2_record_1 7 rfl rfl)
theorem dX2_record_31 : decode cX2_record 31 = .ok (.iaload, 1) := dk_46 (dk_at dksX2_record_1 8 rfl rfl)
theorem dX2_record_32 : decode cX2_record 32 = .ok (.iastore, 1) := dk_79 (dk_at dksX2_record_1 9 rfl rfl)
theorem dX2_record_33 : decode cX2_record 33 = .ok (.iinc 1 1, 3) := dk_132 1 1 (dk_at dksX2_record_1 10 rfl rfl)
theorem dX2_record_36 : decode cX2_record 36 = .ok (.goto (-26), 3) := dk_167 255 230 (dk_at dksX2_record_1 13 rfl rfl)
theorem dX2_record_39 : decode cX2_record 39 = .ok (.aload_n 0, 1) := dk_42 (dk_at dksX2_record_1 16 rfl rfl)
theorem dX2_record_40 : decode cX2_record 40 = .ok (.dup, 1) := dk_89 (dk_at dksX2_record_1 17 rfl rfl)
theorem dX2_record_41 : decode cX2_record 41 = .ok (.getfield 43, 3) := dk_180 0 43 (dk_at dksX2_record_1 18 rfl rfl)
theorem dX2_record_44 : decode cX2_record 44 = .ok (.iconst 1, 1) := dk_4 (dk_at dksX2_record_1 21 rfl rfl)
theorem dX2_record_45 : decode cX2_record 45 = .ok (.isub, 1) := dk_100 (dk_at dksX2_record_1 22 rfl rfl)
theorem dX2_record_46 : decode cX2_record 46 = .ok (.putfield 43, 3) := dk_181 0 43 (dk_at dksX2_record_2 0 rfl rfl)
theorem dX2_record_49 : decode cX2_record 49 = .ok (.iconst 0, 1) := dk_3 (dk_at dksX2_record_2 3 rfl rfl)
theorem dX2_record_50 : decode cX2_record 50 = .ok (.istore_n 1, 1) := dk_60 (dk_at dksX2_record_2 4 rfl rfl)
theorem dX2_record_51 : decode cX2_record 51 = .ok (.iload_n 1, 1) := dk_27 (dk_at dksX2_record_2 5 rfl rfl)
theorem dX2_record_52 : decode cX2_record 52 = .ok (.sipush 157, 3) := dk_17 0 157 (dk_at dksX2_record_2 6 rfl rfl)
theorem dX2_record_55 : decode cX2_record 55 = .ok (.if_icmp .ge 30, 3) := dk_162 0 30 (dk_at dksX2_record_2 9 rfl rfl)
theorem dX2_record_58 : decode cX2_record 58 = .ok (.aload_n 0, 1) := dk_42 (dk_at dksX2_record_2 12 rfl rfl)
theorem dX2_record_59 : decode cX2_record 59 = .ok (.getfield 16, 3) := dk_180 0 16 (dk_at dksX2_record_2 13 rfl rfl)
theorem dX2_record_62 : decode cX2_record 62 = .ok (.sipush 157, 3) := dk_17 0 157 (dk_at dksX2_record_2 16 rfl rfl)
theorem dX2_record_65 : decode cX2_record 65 = .ok (.aload_n 0, 1) := dk_42 (dk_at dksX2_record_2 19 rfl rfl)
theorem dX2_record_66 : decode cX2_record 66 = .ok (.getfield 43, 3) := dk_180 0 43 (dk_at dksX2_record_2 20 rfl rfl)
theorem dX2_record_69 : decode cX2_record 69 = .ok (.imul, 1) := dk_104 (dk_at dksX2_record_2 23 rfl rfl)
theorem dX2_record_70 : decode cX2_record 70 = .ok (.iload_n 1, 1) := dk_27 (dk_at dksX2_record_3 0 rfl rfl)
theorem dX2_record_71 : decode cX2_record 71 = .ok (.iadd, 1) := dk_96 (dk_at dksX2_record_3 1 rfl rfl)
theorem dX2_record_72 : decode cX2_record 72 = .ok (.aload_n 0, 1) := dk_42 (dk_at dksX2_record_3 2 rfl rfl)
theorem dX2_record_73 : decode cX2_record 73 = .ok (.getfield 7, 3) := dk_180 0 7 (dk_at dksX2_record_3 3 rfl rfl)
theorem dX2_record_76 : decode cX2_record 76 = .ok (.iload_n 1, 1) := dk_27 (dk_at dksX2_record_3 6 rfl rfl)
theorem dX2_record_77 : decode cX2_record 77 = .ok (.iaload, 1) := dk_46 (dk_at dksX2_record_3 7 rfl rfl)
theorem dX2_record_78 : decode cX2_record 78 = .ok (.iastore, 1) := dk_79 (dk_at dksX2_record_3 8 rfl rfl)
theorem dX2_record_79 : decode cX2_record 79 = .ok (.iinc 1 1, 3) := dk_132 1 1 (dk_at dksX2_record_3 9 rfl rfl)
theorem dX2_record_82 : decode cX2_record 82 = .ok (.goto (-31), 3) := dk_167 255 225 (dk_at dksX2_record_3 12 rfl rfl)
theorem dX2_record_85 : decode cX2_record 85 = .ok (.aload_n 0, 1) := dk_42 (dk_at dksX2_record_3 15 rfl rfl)
theorem dX2_record_86 : decode cX2_record 86 = .ok (.dup, 1) := dk_89 (dk_at dksX2_record_3 16 rfl rfl)
theorem dX2_record_87 : decode cX2_record 87 = .ok (.getfield 43, 3) := dk_180 0 43 (dk_at dksX2_record_3 17 rfl rfl)
theorem dX2_record_90 : decode cX2_record 90 = .ok (.iconst 1, 1) := dk_4 (dk_at dksX2_record_3 20 rfl rfl)
theorem dX2_record_91 : decode cX2_record 91 = .ok (.iadd, 1) := dk_96 (dk_at dksX2_record_3 21 rfl rfl)
theorem dX2_record_92 : decode cX2_record 92 = .ok (.putfield 43, 3) := dk_181 0 43 (dk_at dksX2_record_4 0 rfl rfl)
theorem dX2_record_95 : decode cX2_record 95 = .ok (.return_, 1) := dk_177 (dk_at dksX2_record_4 3 rfl rfl)
abbrev cX2_comes : ByteArray := prog_7_method_32_code
def yX2_comes : MethodName := ⟨RX2, "comes", "(IIII)I"⟩
def dkwX2_comes_4 : List UInt8 := [79, 42, 180, 0, 7, 21, 5, 16, 6, 184, 0, 39, 3, 79, 42, 21, 5, 182, 0, 70, 21, 5, 172]
abbrev dktX2_comes_4 : List UInt8 := dkwX2_comes_4 ++ []
def dkwX2_comes_3 : List UInt8 := [42, 180, 0, 7, 21, 5, 7, 184, 0, 39, 3, 79, 42, 180, 0, 7, 21, 5, 8, 184, 0, 39, 16, 251]
abbrev dktX2_comes_3 : List UInt8 := dkwX2_comes_3 ++ dktX2_comes_4
def dkwX2_comes_2 : List UInt8 := [42, 180, 0, 7, 21, 5, 5, 184, 0, 39, 28, 79, 42, 180, 0, 7, 21, 5, 6, 184, 0, 39, 29, 79]
abbrev dktX2_comes_2 : List UInt8 := dkwX2_comes_2 ++ dktX2_comes_3
def dkwX2_comes_1 : List UInt8 := [180, 0, 7, 21, 5, 3, 184, 0, 39, 27, 79, 42, 180, 0, 7, 21, 5, 4, 184, 0, 39, 21, 4, 79]
abbrev dktX2_comes_1 : List UInt8 := dkwX2_comes_1 ++ dktX2_comes_2
def dkwX2_comes_0 : List UInt8 := [42, 180, 0, 7, 17, 0, 150, 46, 54, 5, 42, 180, 0, 7, 17, 0, 150, 92, 46, 4, 96, 79, 42]
abbrev dktX2_comes_0 : List UInt8 := dkwX2_comes_0 ++ dktX2_comes_1
theorem dksX2_comes_0 : cX2_comes.data.toList.drop 0 = dktX2_comes_0 := by decide +kernel
theorem dksX2_comes_1 : cX2_comes.data.toList.drop 23 = dktX2_comes_1 := dk_seg dksX2_comes_0 23 rfl rfl
theorem dksX2_comes_2 : cX2_comes.data.toList.drop 47 = dktX2_comes_2 := dk_seg dksX2_comes_1 24 rfl rfl
theorem dksX2_comes_3 : cX2_comes.data.toList.drop 71 = dktX2_comes_3 := dk_seg dksX2_comes_2 24 rfl rfl
theorem dksX2_comes_4 : cX2_comes.data.toList.drop 95 = dktX2_comes_4 := dk_seg dksX2_comes_3 24 rfl rfl
theorem dX2_comes_0 : decode cX2_comes 0 = .ok (.aload_n 0, 1) := dk_42 (dk_at dksX2_comes_0 0 rfl rfl)
theorem dX2_comes_1 : decode cX2_comes 1 = .ok (.getfield 7, 3) := dk_180 0 7 (dk_at dksX2_comes_0 1 rfl rfl)
theorem dX2_comes_4 : decode cX2_comes 4 = .ok (.sipush 150, 3) := dk_17 0 150 (dk_at dksX2_comes_0 4 rfl rfl)
theorem dX2_comes_7 : decode cX2_comes 7 = .ok (.iaload, 1) := dk_46 (dk_at dksX2_comes_0 7 rfl rfl)
theorem dX2_comes_8 : decode cX2_comes 8 = .ok (.istore 5, 2) := dk_54 5 (dk_at dksX2_comes_0 8 rfl rfl)
theorem dX2_comes_10 : decode cX2_comes 10 = .ok (.aload_n 0, 1) := dk_42 (dk_at dksX2_comes_0 10 rfl rfl)
theorem dX2_comes_11 : decode cX2_comes 11 = .ok (.getfield 7, 3) := dk_180 0 7 (dk_at dksX2_comes_0 11 rfl rfl)
theorem dX2_comes_14 : decode cX2_comes 14 = .ok (.sipush 150, 3) := dk_17 0 150 (dk_at dksX2_comes_0 14 rfl rfl)
theorem dX2_comes_17 : decode cX2_comes 17 = .ok (.dup2, 1) := dk_92 (dk_at dksX2_comes_0 17 rfl rfl)
theorem dX2_comes_18 : decode cX2_comes 18 = .ok (.iaload, 1) := dk_46 (dk_at dksX2_comes_0 18 rfl rfl)
theorem dX2_comes_19 : decode cX2_comes 19 = .ok (.iconst 1, 1) := dk_4 (dk_at dksX2_comes_0 19 rfl rfl)
theorem dX2_comes_20 : decode cX2_comes 20 = .ok (.iadd, 1) := dk_96 (dk_at dksX2_comes_0 20 rfl rfl)
theorem dX2_comes_21 : decode cX2_comes 21 = .ok (.iastore, 1) := dk_79 (dk_at dksX2_comes_0 21 rfl rfl)
theorem dX2_comes_22 : decode cX2_comes 22 = .ok (.aload_n 0, 1) := dk_42 (dk_at dksX2_comes_0 22 rfl rfl)
theorem dX2_comes_23 : decode cX2_comes 23 = .ok (.getfield 7, 3) := dk_180 0 7 (dk_at dksX2_comes_1 0 rfl rfl)
theorem dX2_comes_26 : decode cX2_comes 26 = .ok (.iload 5, 2) := dk_21 5 (dk_at dksX2_comes_1 3 rfl rfl)
theorem dX2_comes_28 : decode cX2_comes 28 = .ok (.iconst 0, 1) := dk_3 (dk_at dksX2_comes_1 5 rfl rfl)
theorem dX2_comes_29 : decode cX2_comes 29 = .ok (.invokestatic 39, 3) := dk_184 0 39 (dk_at dksX2_comes_1 6 rfl rfl)
theorem dX2_comes_32 : decode cX2_comes 32 = .ok (.iload_n 1, 1) := dk_27 (dk_at dksX2_comes_1 9 rfl rfl)
theorem dX2_comes_33 : decode cX2_comes 33 = .ok (.iastore, 1) := dk_79 (dk_at dksX2_comes_1 10 rfl rfl)
theorem dX2_comes_34 : decode cX2_comes 34 = .ok (.aload_n 0, 1) := dk_42 (dk_at dksX2_comes_1 11 rfl rfl)
theorem dX2_comes_35 : decode cX2_comes 35 = .ok (.getfield 7, 3) := dk_180 0 7 (dk_at dksX2_comes_1 12 rfl rfl)
theorem dX2_comes_38 : decode cX2_comes 38 = .ok (.iload 5, 2) := dk_21 5 (dk_at dksX2_comes_1 15 rfl rfl)
theorem dX2_comes_40 : decode cX2_comes 40 = .ok (.iconst 1, 1) := dk_4 (dk_at dksX2_comes_1 17 rfl rfl)
theorem dX2_comes_41 : decode cX2_comes 41 = .ok (.invokestatic 39, 3) := dk_184 0 39 (dk_at dksX2_comes_1 18 rfl rfl)
theorem dX2_comes_44 : decode cX2_comes 44 = .ok (.iload 4, 2) := dk_21 4 (dk_at dksX2_comes_1 21 rfl rfl)
theorem dX2_comes_46 : decode cX2_comes 46 = .ok (.iastore, 1) := dk_79 (dk_at dksX2_comes_1 23 rfl rfl)
theorem dX2_comes_47 : decode cX2_comes 47 = .ok (.aload_n 0, 1) := dk_42 (dk_at dksX2_comes_2 0 rfl rfl)
theorem dX2_comes_48 : decode cX2_comes 48 = .ok (.getfield 7, 3) := dk_180 0 7 (dk_at dksX2_comes_2 1 rfl rfl)
theorem dX2_comes_51 : decode cX2_comes 51 = .ok (.iload 5, 2) := dk_21 5 (dk_at dksX2_comes_2 4 rfl rfl)
theorem dX2_comes_53 : decode cX2_comes 53 = .ok (.iconst 2, 1) := dk_5 (dk_at dksX2_comes_2 6 rfl rfl)
theorem dX2_comes_54 : decode cX2_comes 54 = .ok (.invokestatic 39, 3) := dk_184 0 39 (dk_at dksX2_comes_2 7 rfl rfl)
theorem dX2_comes_57 : decode cX2_comes 57 = .ok (.iload_n 2, 1) := dk_28 (dk_at dksX2_comes_2 10 rfl rfl)
theorem dX2_comes_58 : decode cX2_comes 58 = .ok (.iastore, 1) := dk_79 (dk_at dksX2_comes_2 11 rfl rfl)
theorem dX2_comes_59 : decode cX2_comes 59 = .ok (.aload_n 0, 1) := dk_42 (dk_at dksX2_comes_2 12 rfl rfl)
theorem dX2_comes_60 : decode cX2_comes 60 = .ok (.getfield 7, 3) := dk_180 0 7 (dk_at dksX2_comes_2 13 rfl rfl)
theorem dX2_comes_63 : decode cX2_comes 63 = .ok (.iload 5, 2) := dk_21 5 (dk_at dksX2_comes_2 16 rfl rfl)
theorem dX2_comes_65 : decode cX2_comes 65 = .ok (.iconst 3, 1) := dk_6 (dk_at dksX2_comes_2 18 rfl rfl)
theorem dX2_comes_66 : decode cX2_comes 66 = .ok (.invokestatic 39, 3) := dk_184 0 39 (dk_at dksX2_comes_2 19 rfl rfl)
theorem dX2_comes_69 : decode cX2_comes 69 = .ok (.iload_n 3, 1) := dk_29 (dk_at dksX2_comes_2 22 rfl rfl)
theorem dX2_comes_70 : decode cX2_comes 70 = .ok (.iastore, 1) := dk_79 (dk_at dksX2_comes_2 23 rfl rfl)
theorem dX2_comes_71 : decode cX2_comes 71 = .ok (.aload_n 0, 1) := dk_42 (dk_at dksX2_comes_3 0 rfl rfl)
theorem dX2_comes_72 : decode cX2_comes 72 = .ok (.getfield 7, 3) := dk_180 0 7 (dk_at dksX2_comes_3 1 rfl rfl)
theorem dX2_comes_75 : decode cX2_comes 75 = .ok (.iload 5, 2) := dk_21 5 (dk_at dksX2_comes_3 4 rfl rfl)
theorem dX2_comes_77 : decode cX2_comes 77 = .ok (.iconst 4, 1) := dk_7 (dk_at dksX2_comes_3 6 rfl rfl)
theorem dX2_comes_78 : decode cX2_comes 78 = .ok (.invokestatic 39, 3) := dk_184 0 39 (dk_at dksX2_comes_3 7 rfl rfl)
theorem dX2_comes_81 : decode cX2_comes 81 = .ok (.iconst 0, 1) := dk_3 (dk_at dksX2_comes_3 10 rfl rfl)
theorem dX2_comes_82 : decode cX2_comes 82 = .ok (.iastore, 1) := dk_79 (dk_at dksX2_comes_3 11 rfl rfl)
theorem dX2_comes_83 : decode cX2_comes 83 = .ok (.aload_n 0, 1) := dk_42 (dk_at dksX2_comes_3 12 rfl rfl)
theorem dX2_comes_84 : decode cX2_comes 84 = .ok (.getfield 7, 3) := dk_180 0 7 (dk_at dksX2_comes_3 13 rfl rfl)
theorem dX2_comes_87 : decode cX2_comes 87 = .ok (.iload 5, 2) := dk_21 5 (dk_at dksX2_comes_3 16 rfl rfl)
theorem dX2_comes_89 : decode cX2_comes 89 = .ok (.iconst 5, 1) := dk_8 (dk_at dksX2_comes_3 18 rfl rfl)
theorem dX2_comes_90 : decode cX2_comes 90 = .ok (.invokestatic 39, 3) := dk_184 0 39 (dk_at dksX2_comes_3 19 rfl rfl)
theorem dX2_comes_93 : decode cX2_comes 93 = .ok (.bipush (-5), 2) := dk_16 251 (dk_at dksX2_comes_3 22 rfl rfl)
theorem dX2_comes_95 : decode cX2_comes 95 = .ok (.iastore, 1) := dk_79 (dk_at dksX2_comes_4 0 rfl rfl)
theorem dX2_comes_96 : decode cX2_comes 96 = .ok (.aload_n 0, 1) := dk_42 (dk_at dksX2_comes_4 1 rfl rfl)
theorem dX2_comes_97 : decode cX2_comes 97 = .ok (.getfield 7, 3) := dk_180 0 7 (dk_at dksX2_comes_4 2 rfl rfl)
theorem dX2_comes_100 : decode cX2_comes 100 = .ok (.iload 5, 2) := dk_21 5 (dk_at dksX2_comes_4 5 rfl rfl)
theorem dX2_comes_102 : decode cX2_comes 102 = .ok (.bipush 6, 2) := dk_16 6 (dk_at dksX2_comes_4 7 rfl rfl)
theorem dX2_comes_104 : decode cX2_comes 104 = .ok (.invokestatic 39, 3) := dk_184 0 39 (dk_at dksX2_comes_4 9 rfl rfl)
theorem dX2_comes_107 : decode cX2_comes 107 = .ok (.iconst 0, 1) := dk_3 (dk_at dksX2_comes_4 12 rfl rfl)
theorem dX2_comes_108 : decode cX2_comes 108 = .ok (.iastore, 1) := dk_79 (dk_at dksX2_comes_4 13 rfl rfl)
theorem dX2_comes_109 : decode cX2_comes 109 = .ok (.aload_n 0, 1) := dk_42 (dk_at dksX2_comes_4 14 rfl rfl)
theorem dX2_comes_110 : decode cX2_comes 110 = .ok (.iload 5, 2) := dk_21 5 (dk_at dksX2_comes_4 15 rfl rfl)
theorem dX2_comes_112 : decode cX2_comes 112 = .ok (.invokevirtual 70, 3) := dk_182 0 70 (dk_at dksX2_comes_4 17 rfl rfl)
theorem dX2_comes_115 : decode cX2_comes 115 = .ok (.iload 5, 2) := dk_21 5 (dk_at dksX2_comes_4 20 rfl rfl)
theorem dX2_comes_117 : decode cX2_comes 117 = .ok (.ireturn, 1) := dk_172 (dk_at dksX2_comes_4 22 rfl rfl)
abbrev cX2_of : ByteArray := prog_7_method_6_code
def yX2_of : MethodName := ⟨RX2, "of", "(II)I"⟩
def dkwX2_of_0 : List UInt8 := [16, 21, 16, 8, 26, 104, 96, 27, 96, 172]
abbrev dktX2_of_0 : List UInt8 := dkwX2_of_0 ++ []
theorem dksX2_of_0 : cX2_of.data.toList.drop 0 = dktX2_of_0 := by decide +kernel
theorem dX2_of_0 : decode cX2_of 0 = .ok (.bipush 21, 2) := dk_16 21 (dk_at dksX2_of_0 0 rfl rfl)
theorem dX2_of_2 : decode cX2_of 2 = .ok (.bipush 8, 2) := dk_16 8 (dk_at dksX2_of_0 2 rfl rfl)
theorem dX2_of_4 : decode cX2_of 4 = .ok (.iload_n 0, 1) := dk_26 (dk_at dksX2_of_0 4 rfl rfl)
theorem dX2_of_5 : decode cX2_of 5 = .ok (.imul, 1) := dk_104 (dk_at dksX2_of_0 5 rfl rfl)
theorem dX2_of_6 : decode cX2_of 6 = .ok (.iadd, 1) := dk_96 (dk_at dksX2_of_0 6 rfl rfl)
theorem dX2_of_7 : decode cX2_of 7 = .ok (.iload_n 1, 1) := dk_27 (dk_at dksX2_of_0 7 rfl rfl)
theorem dX2_of_8 : decode cX2_of 8 = .ok (.iadd, 1) := dk_96 (dk_at dksX2_of_0 8 rfl rfl)
theorem dX2_of_9 : decode cX2_of 9 = .ok (.ireturn, 1) := dk_172 (dk_at dksX2_of_0 9 rfl rfl)
abbrev cX2_joins : ByteArray := prog_7_method_20_code
def yX2_joins : MethodName := ⟨RX2, "joins", "(I)V"⟩
def dkwX2_joins_1 : List UInt8 := [17, 0, 151, 92, 46, 4, 96, 79, 177]
abbrev dktX2_joins_1 : List UInt8 := dkwX2_joins_1 ++ []
def dkwX2_joins_0 : List UInt8 := [42, 180, 0, 7, 27, 16, 7, 184, 0, 39, 42, 180, 0, 7, 17, 0, 151, 46, 79, 42, 180, 0, 7]
abbrev dktX2_joins_0 : List UInt8 := dkwX2_joins_0 ++ dktX2_joins_1
theorem dksX2_joins_0 : cX2_joins.data.toList.drop 0 = dktX2_joins_0 := by decide +kernel
theorem dksX2_joins_1 : cX2_joins.data.toList.drop 23 = dktX2_joins_1 := dk_seg dksX2_joins_0 23 rfl rfl
theorem dX2_joins_0 : decode cX2_joins 0 = .ok (.aload_n 0, 1) := dk_42 (dk_at dksX2_joins_0 0 rfl rfl)
theorem dX2_joins_1 : decode cX2_joins 1 = .ok (.getfield 7, 3) := dk_180 0 7 (dk_at dksX2_joins_0 1 rfl rfl)
theorem dX2_joins_4 : decode cX2_joins 4 = .ok (.iload_n 1, 1) := dk_27 (dk_at dksX2_joins_0 4 rfl rfl)
theorem dX2_joins_5 : decode cX2_joins 5 = .ok (.bipush 7, 2) := dk_16 7 (dk_at dksX2_joins_0 5 rfl rfl)
theorem dX2_joins_7 : decode cX2_joins 7 = .ok (.invokestatic 39, 3) := dk_184 0 39 (dk_at dksX2_joins_0 7 rfl rfl)
theorem dX2_joins_10 : decode cX2_joins 10 = .ok (.aload_n 0, 1) := dk_42 (dk_at dksX2_joins_0 10 rfl rfl)
theorem dX2_joins_11 : decode cX2_joins 11 = .ok (.getfield 7, 3) := dk_180 0 7 (dk_at dksX2_joins_0 11 rfl rfl)
theorem dX2_joins_14 : decode cX2_joins 14 = .ok (.sipush 151, 3) := dk_17 0 151 (dk_at dksX2_joins_0 14 rfl rfl)
theorem dX2_joins_17 : decode cX2_joins 17 = .ok (.iaload, 1) := dk_46 (dk_at dksX2_joins_0 17 rfl rfl)
theorem dX2_joins_18 : decode cX2_joins 18 = .ok (.iastore, 1) := dk_79 (dk_at dksX2_joins_0 18 rfl rfl)
theorem dX2_joins_19 : decode cX2_joins 19 = .ok (.aload_n 0, 1) := dk_42 (dk_at dksX2_joins_0 19 rfl rfl)
theorem dX2_joins_20 : decode cX2_joins 20 = .ok (.getfield 7, 3) := dk_180 0 7 (dk_at dksX2_joins_0 20 rfl rfl)
theorem dX2_joins_23 : decode cX2_joins 23 = .ok (.sipush 151, 3) := dk_17 0 151 (dk_at dksX2_joins_1 0 rfl rfl)
theorem dX2_joins_26 : decode cX2_joins 26 = .ok (.dup2, 1) := dk_92 (dk_at dksX2_joins_1 3 rfl rfl)
theorem dX2_joins_27 : decode cX2_joins 27 = .ok (.iaload, 1) := dk_46 (dk_at dksX2_joins_1 4 rfl rfl)
theorem dX2_joins_28 : decode cX2_joins 28 = .ok (.iconst 1, 1) := dk_4 (dk_at dksX2_joins_1 5 rfl rfl)
theorem dX2_joins_29 : decode cX2_joins 29 = .ok (.iadd, 1) := dk_96 (dk_at dksX2_joins_1 6 rfl rfl)
theorem dX2_joins_30 : decode cX2_joins 30 = .ok (.iastore, 1) := dk_79 (dk_at dksX2_joins_1 7 rfl rfl)
theorem dX2_joins_31 : decode cX2_joins 31 = .ok (.return_, 1) := dk_177 (dk_at dksX2_joins_1 8 rfl rfl)
abbrev cX2_load : ByteArray := prog_7_method_34_code
def yX2_load : MethodName := ⟨RX2, "load", "(II)I"⟩
def dkwX2_load_2 : List UInt8 := [172, 42, 182, 0, 122, 42, 180, 0, 7, 27, 4, 184, 0, 39, 28, 79, 29, 172]
abbrev dktX2_load_2 : List UInt8 := dkwX2_load_2 ++ []
def dkwX2_load_1 : List UInt8 := [27, 182, 0, 57, 153, 0, 6, 16, 252, 172, 42, 27, 4, 182, 0, 46, 62, 29, 28, 160, 0, 6, 16, 251]
abbrev dktX2_load_1 : List UInt8 := dkwX2_load_1 ++ dktX2_load_2
def dkwX2_load_0 : List UInt8 := [42, 27, 182, 0, 128, 154, 0, 5, 2, 172, 28, 4, 16, 60, 184, 0, 35, 154, 0, 6, 16, 254, 172, 42]
abbrev dktX2_load_0 : List UInt8 := dkwX2_load_0 ++ dktX2_load_1
theorem dksX2_load_0 : cX2_load.data.toList.drop 0 = dktX2_load_0 := by decide +kernel
theorem dksX2_load_1 : cX2_load.data.toList.drop 24 = dktX2_load_1 := dk_seg dksX2_load_0 24 rfl rfl
theorem dksX2_load_2 : cX2_load.data.toList.drop 48 = dktX2_load_2 := dk_seg dksX2_load_1 24 rfl rfl
theorem dX2_load_0 : decode cX2_load 0 = .ok (.aload_n 0, 1) := dk_42 (dk_at dksX2_load_0 0 rfl rfl)
theorem dX2_load_1 : decode cX2_load 1 = .ok (.iload_n 1, 1) := dk_27 (dk_at dksX2_load_0 1 rfl rfl)
theorem dX2_load_2 : decode cX2_load 2 = .ok (.invokevirtual 128, 3) := dk_182 0 128 (dk_at dksX2_load_0 2 rfl rfl)
theorem dX2_load_5 : decode cX2_load 5 = .ok (.ifCond .ne 5, 3) := dk_154 0 5 (dk_at dksX2_load_0 5 rfl rfl)
theorem dX2_load_8 : decode cX2_load 8 = .ok (.iconst (-1), 1) := dk_2 (dk_at dksX2_load_0 8 rfl rfl)
theorem dX2_load_9 : decode cX2_load 9 = .ok (.ireturn, 1) := dk_172 (dk_at dksX2_load_0 9 rfl rfl)
theorem dX2_load_10 : decode cX2_load 10 = .ok (.iload_n 2, 1) := dk_28 (dk_at dksX2_load_0 10 rfl rfl)
theorem dX2_load_11 : decode cX2_load 11 = .ok (.iconst 1, 1) := dk_4 (dk_at dksX2_load_0 11 rfl rfl)
theorem dX2_load_12 : decode cX2_load 12 = .ok (.bipush 60, 2) := dk_16 60 (dk_at dksX2_load_0 12 rfl rfl)
theorem dX2_load_14 : decode cX2_load 14 = .ok (.invokestatic 35, 3) := dk_184 0 35 (dk_at dksX2_load_0 14 rfl rfl)
theorem dX2_load_17 : decode cX2_load 17 = .ok (.ifCond .ne 6, 3) := dk_154 0 6 (dk_at dksX2_load_0 17 rfl rfl)
theorem dX2_load_20 : decode cX2_load 20 = .ok (.bipush (-2), 2) := dk_16 254 (dk_at dksX2_load_0 20 rfl rfl)
theorem dX2_load_22 : decode cX2_load 22 = .ok (.ireturn, 1) := dk_172 (dk_at dksX2_load_0 22 rfl rfl)
theorem dX2_load_23 : decode cX2_load 23 = .ok (.aload_n 0, 1) := dk_42 (dk_at dksX2_load_0 23 rfl rfl)
theorem dX2_load_24 : decode cX2_load 24 = .ok (.iload_n 1, 1) := dk_27 (dk_at dksX2_load_1 0 rfl rfl)
theorem dX2_load_25 : decode cX2_load 25 = .ok (.invokevirtual 57, 3) := dk_182 0 57 (dk_at dksX2_load_1 1 rfl rfl)
theorem dX2_load_28 : decode cX2_load 28 = .ok (.ifCond .eq 6, 3) := dk_153 0 6 (dk_at dksX2_load_1 4 rfl rfl)
theorem dX2_load_31 : decode cX2_load 31 = .ok (.bipush (-4), 2) := dk_16 252 (dk_at dksX2_load_1 7 rfl rfl)
theorem dX2_load_33 : decode cX2_load 33 = .ok (.ireturn, 1) := dk_172 (dk_at dksX2_load_1 9 rfl rfl)
theorem dX2_load_34 : decode cX2_load 34 = .ok (.aload_n 0, 1) := dk_42 (dk_at dksX2_load_1 10 rfl rfl)
theorem dX2_load_35 : decode cX2_load 35 = .ok (.iload_n 1, 1) := dk_27 (dk_at dksX2_load_1 11 rfl rfl)
theorem dX2_load_36 : decode cX2_load 36 = .ok (.iconst 1, 1) := dk_4 (dk_at dksX2_load_1 12 rfl rfl)
theorem dX2_load_37 : decode cX2_load 37 = .ok (.invokevirtual 46, 3) := dk_182 0 46 (dk_at dksX2_load_1 13 rfl rfl)
theorem dX2_load_40 : decode cX2_load 40 = .ok (.istore_n 3, 1) := dk_62 (dk_at dksX2_load_1 16 rfl rfl)
theorem dX2_load_41 : decode cX2_load 41 = .ok (.iload_n 3, 1) := dk_29 (dk_at dksX2_load_1 17 rfl rfl)
theorem dX2_load_42 : decode cX2_load 42 = .ok (.iload_n 2, 1) := dk_28 (dk_at dksX2_load_1 18 rfl rfl)
theorem dX2_load_43 : decode cX2_load 43 = .ok (.if_icmp .ne 6, 3) := dk_160 0 6 (dk_at dksX2_load_1 19 rfl rfl)
theorem dX2_load_46 : decode cX2_load 46 = .ok (.bipush (-5), 2) := dk_16 251 (dk_at dksX2_load_1 22 rfl rfl)
theorem dX2_load_48 : decode cX2_load 48 = .ok (.ireturn, 1) := dk_172 (dk_at dksX2_load_2 0 rfl rfl)
theorem dX2_load_49 : decode cX2_load 49 = .ok (.aload_n 0, 1) := dk_42 (dk_at dksX2_load_2 1 rfl rfl)
theorem dX2_load_50 : decode cX2_load 50 = .ok (.invokevirtual 122, 3) := dk_182 0 122 (dk_at dksX2_load_2 2 rfl rfl)
theorem dX2_load_53 : decode cX2_load 53 = .ok (.aload_n 0, 1) := dk_42 (dk_at dksX2_load_2 5 rfl rfl)
theorem dX2_load_54 : decode cX2_load 54 = .ok (.getfield 7, 3) := dk_180 0 7 (dk_at dksX2_load_2 6 rfl rfl)
theorem dX2_load_57 : decode cX2_load 57 = .ok (.iload_n 1, 1) := dk_27 (dk_at dksX2_load_2 9 rfl rfl)
theorem dX2_load_58 : decode cX2_load 58 = .ok (.iconst 1, 1) := dk_4 (dk_at dksX2_load_2 10 rfl rfl)
theorem dX2_load_59 : decode cX2_load 59 = .ok (.invokestatic 39, 3) := dk_184 0 39 (dk_at dksX2_load_2 11 rfl rfl)
theorem dX2_load_62 : decode cX2_load 62 = .ok (.iload_n 2, 1) := dk_28 (dk_at dksX2_load_2 14 rfl rfl)
theorem dX2_load_63 : decode cX2_load 63 = .ok (.iastore, 1) := dk_79 (dk_at dksX2_load_2 15 rfl rfl)
theorem dX2_load_64 : decode cX2_load 64 = .ok (.iload_n 3, 1) := dk_29 (dk_at dksX2_load_2 16 rfl rfl)
theorem dX2_load_65 : decode cX2_load 65 = .ok (.ireturn, 1) := dk_172 (dk_at dksX2_load_2 17 rfl rfl)
abbrev cX2_isBoat : ByteArray := prog_7_method_5_code
def yX2_isBoat : MethodName := ⟨RX2, "isBoat", "(I)Z"⟩
def dkwX2_isBoat_0 : List UInt8 := [27, 3, 42, 180, 0, 7, 17, 0, 150, 46, 4, 100, 184, 0, 35, 172]
abbrev dktX2_isBoat_0 : List UInt8 := dkwX2_isBoat_0 ++ []
theorem dksX2_isBoat_0 : cX2_isBoat.data.toList.drop 0 = dktX2_isBoat_0 := by decide +kernel
theorem dX2_isBoat_0 : decode cX2_isBoat 0 = .ok (.iload_n 1, 1) := dk_27 (dk_at dksX2_isBoat_0 0 rfl rfl)
theorem dX2_isBoat_1 : decode cX2_isBoat 1 = .ok (.iconst 0, 1) := dk_3 (dk_at dksX2_isBoat_0 1 rfl rfl)
theorem dX2_isBoat_2 : decode cX2_isBoat 2 = .ok (.aload_n 0, 1) := dk_42 (dk_at dksX2_isBoat_0 2 rfl rfl)
theorem dX2_isBoat_3 : decode cX2_isBoat 3 = .ok (.getfield 7, 3) := dk_180 0 7 (dk_at dksX2_isBoat_0 3 rfl rfl)
theorem dX2_isBoat_6 : decode cX2_isBoat 6 = .ok (.sipush 150, 3) := dk_17 0 150 (dk_at dksX2_isBoat_0 6 rfl rfl)
theorem dX2_isBoat_9 : decode cX2_isBoat 9 = .ok (.iaload, 1) := dk_46 (dk_at dksX2_isBoat_0 9 rfl rfl)
theorem dX2_isBoat_10 : decode cX2_isBoat 10 = .ok (.iconst 1, 1) := dk_4 (dk_at dksX2_isBoat_0 10 rfl rfl)
theorem dX2_isBoat_11 : decode cX2_isBoat 11 = .ok (.isub, 1) := dk_100 (dk_at dksX2_isBoat_0 11 rfl rfl)
theorem dX2_isBoat_12 : decode cX2_isBoat 12 = .ok (.invokestatic 35, 3) := dk_184 0 35 (dk_at dksX2_isBoat_0 12 rfl rfl)
theorem dX2_isBoat_15 : decode cX2_isBoat 15 = .ok (.ireturn, 1) := dk_172 (dk_at dksX2_isBoat_0 15 rfl rfl)
abbrev cX2_hasArrived : ByteArray := prog_7_method_11_code
def yX2_hasArrived : MethodName := ⟨RX2, "hasArrived", "(I)Z"⟩
def dkwX2_hasArrived_0 : List UInt8 := [42, 27, 8, 182, 0, 46, 16, 251, 159, 0, 7, 4, 167, 0, 4, 3, 172]
abbrev dktX2_hasArrived_0 : List UInt8 := dkwX2_hasArrived_0 ++ []
theorem dksX2_hasArrived_0 : cX2_hasArrived.data.toList.drop 0 = dktX2_hasArrived_0 := by decide +kernel
theorem dX2_hasArrived_0 : decode cX2_hasArrived 0 = .ok (.aload_n 0, 1) := dk_42 (dk_at dksX2_hasArrived_0 0 rfl rfl)
theorem dX2_hasArrived_1 : decode cX2_hasArrived 1 = .ok (.iload_n 1, 1) := dk_27 (dk_at dksX2_hasArrived_0 1 rfl rfl)
theorem dX2_hasArrived_2 : decode cX2_hasArrived 2 = .ok (.iconst 5, 1) := dk_8 (dk_at dksX2_hasArrived_0 2 rfl rfl)
theorem dX2_hasArrived_3 : decode cX2_hasArrived 3 = .ok (.invokevirtual 46, 3) := dk_182 0 46 (dk_at dksX2_hasArrived_0 3 rfl rfl)
theorem dX2_hasArrived_6 : decode cX2_hasArrived 6 = .ok (.bipush (-5), 2) := dk_16 251 (dk_at dksX2_hasArrived_0 6 rfl rfl)
theorem dX2_hasArrived_8 : decode cX2_hasArrived 8 = .ok (.if_icmp .eq 7, 3) := dk_159 0 7 (dk_at dksX2_hasArrived_0 8 rfl rfl)
theorem dX2_hasArrived_11 : decode cX2_hasArrived 11 = .ok (.iconst 1, 1) := dk_4 (dk_at dksX2_hasArrived_0 11 rfl rfl)
theorem dX2_hasArrived_12 : decode cX2_hasArrived 12 = .ok (.goto 4, 3) := dk_167 0 4 (dk_at dksX2_hasArrived_0 12 rfl rfl)
theorem dX2_hasArrived_15 : decode cX2_hasArrived 15 = .ok (.iconst 0, 1) := dk_3 (dk_at dksX2_hasArrived_0 15 rfl rfl)
theorem dX2_hasArrived_16 : decode cX2_hasArrived 16 = .ok (.ireturn, 1) := dk_172 (dk_at dksX2_hasArrived_0 16 rfl rfl)
abbrev cX2_get : ByteArray := prog_7_method_7_code
def yX2_get : MethodName := ⟨RX2, "get", "(II)I"⟩
def dkwX2_get_0 : List UInt8 := [42, 180, 0, 7, 27, 28, 184, 0, 39, 46, 172]
abbrev dktX2_get_0 : List UInt8 := dkwX2_get_0 ++ []
theorem dksX2_get_0 : cX2_get.data.toList.drop 0 = dktX2_get_0 := by decide +kernel
theorem dX2_get_0 : decode cX2_get 0 = .ok (.aload_n 0, 1) := dk_42 (dk_at dksX2_get_0 0 rfl rfl)
theorem dX2_get_1 : decode cX2_get 1 = .ok (.getfield 7, 3) := dk_180 0 7 (dk_at dksX2_get_0 1 rfl rfl)
theorem dX2_get_4 : decode cX2_get 4 = .ok (.iload_n 1, 1) := dk_27 (dk_at dksX2_get_0 4 rfl rfl)
theorem dX2_get_5 : decode cX2_get 5 = .ok (.iload_n 2, 1) := dk_28 (dk_at dksX2_get_0 5 rfl rfl)
theorem dX2_get_6 : decode cX2_get 6 = .ok (.invokestatic 39, 3) := dk_184 0 39 (dk_at dksX2_get_0 6 rfl rfl)
theorem dX2_get_9 : decode cX2_get 9 = .ok (.iaload, 1) := dk_46 (dk_at dksX2_get_0 9 rfl rfl)
theorem dX2_get_10 : decode cX2_get 10 = .ok (.ireturn, 1) := dk_172 (dk_at dksX2_get_0 10 rfl rfl)
abbrev cX2_turnLock : ByteArray := prog_7_method_37_code
def yX2_turnLock : MethodName := ⟨RX2, "turnLock", "(I)I"⟩
def dkwX2_turnLock_0 : List UInt8 := [42, 27, 182, 0, 134, 61, 28, 153, 0, 5, 28, 172, 42, 182, 0, 122, 42, 27, 182, 0, 137, 172]
abbrev dktX2_turnLock_0 : List UInt8 := dkwX2_turnLock_0 ++ []
theorem dksX2_turnLock_0 : cX2_turnLock.data.toList.drop 0 = dktX2_turnLock_0 := by decide +kernel
theorem dX2_turnLock_0 : decode cX2_turnLock 0 = .ok (.aload_n 0, 1) := dk_42 (dk_at dksX2_turnLock_0 0 rfl rfl)
theorem dX2_turnLock_1 : decode cX2_turnLock 1 = .ok (.iload_n 1, 1) := dk_27 (dk_at dksX2_turnLock_0 1 rfl rfl)
theorem dX2_turnLock_2 : decode cX2_turnLock 2 = .ok (.invokevirtual 134, 3) := dk_182 0 134 (dk_at dksX2_turnLock_0 2 rfl rfl)
theorem dX2_turnLock_5 : decode cX2_turnLock 5 = .ok (.istore_n 2, 1) := dk_61 (dk_at dksX2_turnLock_0 5 rfl rfl)
theorem dX2_turnLock_6 : decode cX2_turnLock 6 = .ok (.iload_n 2, 1) := dk_28 (dk_at dksX2_turnLock_0 6 rfl rfl)
theorem dX2_turnLock_7 : decode cX2_turnLock 7 = .ok (.ifCond .eq 5, 3) := dk_153 0 5 (dk_at dksX2_turnLock_0 7 rfl rfl)
theorem dX2_turnLock_10 : decode cX2_turnLock 10 = .ok (.iload_n 2, 1) := dk_28 (dk_at dksX2_turnLock_0 10 rfl rfl)
theorem dX2_turnLock_11 : decode cX2_turnLock 11 = .ok (.ireturn, 1) := dk_172 (dk_at dksX2_turnLock_0 11 rfl rfl)
theorem dX2_turnLock_12 : decode cX2_turnLock 12 = .ok (.aload_n 0, 1) := dk_42 (dk_at dksX2_turnLock_0 12 rfl rfl)
theorem dX2_turnLock_13 : decode cX2_turnLock 13 = .ok (.invokevirtual 122, 3) := dk_182 0 122 (dk_at dksX2_turnLock_0 13 rfl rfl)
theorem dX2_turnLock_16 : decode cX2_turnLock 16 = .ok (.aload_n 0, 1) := dk_42 (dk_at dksX2_turnLock_0 16 rfl rfl)
theorem dX2_turnLock_17 : decode cX2_turnLock 17 = .ok (.iload_n 1, 1) := dk_27 (dk_at dksX2_turnLock_0 17 rfl rfl)
theorem dX2_turnLock_18 : decode cX2_turnLock 18 = .ok (.invokevirtual 137, 3) := dk_182 0 137 (dk_at dksX2_turnLock_0 18 rfl rfl)
theorem dX2_turnLock_21 : decode cX2_turnLock 21 = .ok (.ireturn, 1) := dk_172 (dk_at dksX2_turnLock_0 21 rfl rfl)
abbrev cX2_errorOfTurn : ByteArray := prog_7_method_35_code
def yX2_errorOfTurn : MethodName := ⟨RX2, "errorOfTurn", "(I)I"⟩
def dkwX2_errorOfTurn_1 : List UInt8 := [16, 252, 172]
abbrev dktX2_errorOfTurn_1 : List UInt8 := dkwX2_errorOfTurn_1 ++ []
def dkwX2_errorOfTurn_0 : List UInt8 := [27, 184, 0, 131, 154, 0, 7, 2, 167, 0, 17, 42, 27, 182, 0, 80, 153, 0, 7, 3, 167, 0, 5]
abbrev dktX2_errorOfTurn_0 : List UInt8 := dkwX2_errorOfTurn_0 ++ dktX2_errorOfTurn_1
theorem dksX2_errorOfTurn_0 : cX2_errorOfTurn.data.toList.drop 0 = dktX2_errorOfTurn_0 := by decide +kernel
theorem dksX2_errorOfTurn_1 : cX2_errorOfTurn.data.toList.drop 23 = dktX2_errorOfTurn_1 := dk_seg dksX2_errorOfTurn_0 23 rfl rfl
theorem dX2_errorOfTurn_0 : decode cX2_errorOfTurn 0 = .ok (.iload_n 1, 1) := dk_27 (dk_at dksX2_errorOfTurn_0 0 rfl rfl)
theorem dX2_errorOfTurn_1 : decode cX2_errorOfTurn 1 = .ok (.invokestatic 131, 3) := dk_184 0 131 (dk_at dksX2_errorOfTurn_0 1 rfl rfl)
theorem dX2_errorOfTurn_4 : decode cX2_errorOfTurn 4 = .ok (.ifCond .ne 7, 3) := dk_154 0 7 (dk_at dksX2_errorOfTurn_0 4 rfl rfl)
theorem dX2_errorOfTurn_7 : decode cX2_errorOfTurn 7 = .ok (.iconst (-1), 1) := dk_2 (dk_at dksX2_errorOfTurn_0 7 rfl rfl)
theorem dX2_errorOfTurn_8 : decode cX2_errorOfTurn 8 = .ok (.goto 17, 3) := dk_167 0 17 (dk_at dksX2_errorOfTurn_0 8 rfl rfl)
theorem dX2_errorOfTurn_11 : decode cX2_errorOfTurn 11 = .ok (.aload_n 0, 1) := dk_42 (dk_at dksX2_errorOfTurn_0 11 rfl rfl)
theorem dX2_errorOfTurn_12 : decode cX2_errorOfTurn 12 = .ok (.iload_n 1, 1) := dk_27 (dk_at dksX2_errorOfTurn_0 12 rfl rfl)
theorem dX2_errorOfTurn_13 : decode cX2_errorOfTurn 13 = .ok (.invokevirtual 80, 3) := dk_182 0 80 (dk_at dksX2_errorOfTurn_0 13 rfl rfl)
theorem dX2_errorOfTurn_16 : decode cX2_errorOfTurn 16 = .ok (.ifCond .eq 7, 3) := dk_153 0 7 (dk_at dksX2_errorOfTurn_0 16 rfl rfl)
theorem dX2_errorOfTurn_19 : decode cX2_errorOfTurn 19 = .ok (.iconst 0, 1) := dk_3 (dk_at dksX2_errorOfTurn_0 19 rfl rfl)
theorem dX2_errorOfTurn_20 : decode cX2_errorOfTurn 20 = .ok (.goto 5, 3) := dk_167 0 5 (dk_at dksX2_errorOfTurn_0 20 rfl rfl)
theorem dX2_errorOfTurn_23 : decode cX2_errorOfTurn 23 = .ok (.bipush (-4), 2) := dk_16 252 (dk_at dksX2_errorOfTurn_1 0 rfl rfl)
theorem dX2_errorOfTurn_25 : decode cX2_errorOfTurn 25 = .ok (.ireturn, 1) := dk_172 (dk_at dksX2_errorOfTurn_1 2 rfl rfl)
abbrev cX2_isLock : ByteArray := prog_7_method_4_code
def yX2_isLock : MethodName := ⟨RX2, "isLock", "(I)Z"⟩
def dkwX2_isLock_0 : List UInt8 := [26, 3, 7, 184, 0, 35, 172]
abbrev dktX2_isLock_0 : List UInt8 := dkwX2_isLock_0 ++ []
theorem dksX2_isLock_0 : cX2_isLock.data.toList.drop 0 = dktX2_isLock_0 := by decide +kernel
theorem dX2_isLock_0 : decode cX2_isLock 0 = .ok (.iload_n 0, 1) := dk_26 (dk_at dksX2_isLock_0 0 rfl rfl)
theorem dX2_isLock_1 : decode cX2_isLock 1 = .ok (.iconst 0, 1) := dk_3 (dk_at dksX2_isLock_0 1 rfl rfl)
theorem dX2_isLock_2 : decode cX2_isLock 2 = .ok (.iconst 4, 1) := dk_7 (dk_at dksX2_isLock_0 2 rfl rfl)
theorem dX2_isLock_3 : decode cX2_isLock 3 = .ok (.invokestatic 35, 3) := dk_184 0 35 (dk_at dksX2_isLock_0 3 rfl rfl)
theorem dX2_isLock_6 : decode cX2_isLock 6 = .ok (.ireturn, 1) := dk_172 (dk_at dksX2_isLock_0 6 rfl rfl)
abbrev cX2_canTurn : ByteArray := prog_7_method_22_code
def yX2_canTurn : MethodName := ⟨RX2, "canTurn", "(I)Z"⟩
def dkwX2_canTurn_1 : List UInt8 := [17, 0, 154, 46, 161, 0, 7, 4, 167, 0, 4, 3, 172]
abbrev dktX2_canTurn_1 : List UInt8 := dkwX2_canTurn_1 ++ []
def dkwX2_canTurn_0 : List UInt8 := [42, 27, 182, 0, 67, 154, 0, 24, 42, 180, 0, 7, 3, 27, 96, 4, 96, 46, 42, 180, 0, 7]
abbrev dktX2_canTurn_0 : List UInt8 := dkwX2_canTurn_0 ++ dktX2_canTurn_1
theorem dksX2_canTurn_0 : cX2_canTurn.data.toList.drop 0 = dktX2_canTurn_0 := by decide +kernel
theorem dksX2_canTurn_1 : cX2_canTurn.data.toList.drop 22 = dktX2_canTurn_1 := dk_seg dksX2_canTurn_0 22 rfl rfl
theorem dX2_canTurn_0 : decode cX2_canTurn 0 = .ok (.aload_n 0, 1) := dk_42 (dk_at dksX2_canTurn_0 0 rfl rfl)
theorem dX2_canTurn_1 : decode cX2_canTurn 1 = .ok (.iload_n 1, 1) := dk_27 (dk_at dksX2_canTurn_0 1 rfl rfl)
theorem dX2_canTurn_2 : decode cX2_canTurn 2 = .ok (.invokevirtual 67, 3) := dk_182 0 67 (dk_at dksX2_canTurn_0 2 rfl rfl)
theorem dX2_canTurn_5 : decode cX2_canTurn 5 = .ok (.ifCond .ne 24, 3) := dk_154 0 24 (dk_at dksX2_canTurn_0 5 rfl rfl)
theorem dX2_canTurn_8 : decode cX2_canTurn 8 = .ok (.aload_n 0, 1) := dk_42 (dk_at dksX2_canTurn_0 8 rfl rfl)
theorem dX2_canTurn_9 : decode cX2_canTurn 9 = .ok (.getfield 7, 3) := dk_180 0 7 (dk_at dksX2_canTurn_0 9 rfl rfl)
theorem dX2_canTurn_12 : decode cX2_canTurn 12 = .ok (.iconst 0, 1) := dk_3 (dk_at dksX2_canTurn_0 12 rfl rfl)
theorem dX2_canTurn_13 : decode cX2_canTurn 13 = .ok (.iload_n 1, 1) := dk_27 (dk_at dksX2_canTurn_0 13 rfl rfl)
theorem dX2_canTurn_14 : decode cX2_canTurn 14 = .ok (.iadd, 1) := dk_96 (dk_at dksX2_canTurn_0 14 rfl rfl)
theorem dX2_canTurn_15 : decode cX2_canTurn 15 = .ok (.iconst 1, 1) := dk_4 (dk_at dksX2_canTurn_0 15 rfl rfl)
theorem dX2_canTurn_16 : decode cX2_canTurn 16 = .ok (.iadd, 1) := dk_96 (dk_at dksX2_canTurn_0 16 rfl rfl)
theorem dX2_canTurn_17 : decode cX2_canTurn 17 = .ok (.iaload, 1) := dk_46 (dk_at dksX2_canTurn_0 17 rfl rfl)
theorem dX2_canTurn_18 : decode cX2_canTurn 18 = .ok (.aload_n 0, 1) := dk_42 (dk_at dksX2_canTurn_0 18 rfl rfl)
theorem dX2_canTurn_19 : decode cX2_canTurn 19 = .ok (.getfield 7, 3) := dk_180 0 7 (dk_at dksX2_canTurn_0 19 rfl rfl)
theorem dX2_canTurn_22 : decode cX2_canTurn 22 = .ok (.sipush 154, 3) := dk_17 0 154 (dk_at dksX2_canTurn_1 0 rfl rfl)
theorem dX2_canTurn_25 : decode cX2_canTurn 25 = .ok (.iaload, 1) := dk_46 (dk_at dksX2_canTurn_1 3 rfl rfl)
theorem dX2_canTurn_26 : decode cX2_canTurn 26 = .ok (.if_icmp .lt 7, 3) := dk_161 0 7 (dk_at dksX2_canTurn_1 4 rfl rfl)
theorem dX2_canTurn_29 : decode cX2_canTurn 29 = .ok (.iconst 1, 1) := dk_4 (dk_at dksX2_canTurn_1 7 rfl rfl)
theorem dX2_canTurn_30 : decode cX2_canTurn 30 = .ok (.goto 4, 3) := dk_167 0 4 (dk_at dksX2_canTurn_1 8 rfl rfl)
theorem dX2_canTurn_33 : decode cX2_canTurn 33 = .ok (.iconst 0, 1) := dk_3 (dk_at dksX2_canTurn_1 11 rfl rfl)
theorem dX2_canTurn_34 : decode cX2_canTurn 34 = .ok (.ireturn, 1) := dk_172 (dk_at dksX2_canTurn_1 12 rfl rfl)
abbrev cX2_isHigh : ByteArray := prog_7_method_21_code
def yX2_isHigh : MethodName := ⟨RX2, "isHigh", "(I)Z"⟩
def dkwX2_isHigh_0 : List UInt8 := [42, 180, 0, 7, 16, 6, 27, 96, 46, 158, 0, 7, 4, 167, 0, 4, 3, 172]
abbrev dktX2_isHigh_0 : List UInt8 := dkwX2_isHigh_0 ++ []
theorem dksX2_isHigh_0 : cX2_isHigh.data.toList.drop 0 = dktX2_isHigh_0 := by decide +kernel
theorem dX2_isHigh_0 : decode cX2_isHigh 0 = .ok (.aload_n 0, 1) := dk_42 (dk_at dksX2_isHigh_0 0 rfl rfl)
theorem dX2_isHigh_1 : decode cX2_isHigh 1 = .ok (.getfield 7, 3) := dk_180 0 7 (dk_at dksX2_isHigh_0 1 rfl rfl)
theorem dX2_isHigh_4 : decode cX2_isHigh 4 = .ok (.bipush 6, 2) := dk_16 6 (dk_at dksX2_isHigh_0 4 rfl rfl)
theorem dX2_isHigh_6 : decode cX2_isHigh 6 = .ok (.iload_n 1, 1) := dk_27 (dk_at dksX2_isHigh_0 6 rfl rfl)
theorem dX2_isHigh_7 : decode cX2_isHigh 7 = .ok (.iadd, 1) := dk_96 (dk_at dksX2_isHigh_0 7 rfl rfl)
theorem dX2_isHigh_8 : decode cX2_isHigh 8 = .ok (.iaload, 1) := dk_46 (dk_at dksX2_isHigh_0 8 rfl rfl)
theorem dX2_isHigh_9 : decode cX2_isHigh 9 = .ok (.ifCond .le 7, 3) := dk_158 0 7 (dk_at dksX2_isHigh_0 9 rfl rfl)
theorem dX2_isHigh_12 : decode cX2_isHigh 12 = .ok (.iconst 1, 1) := dk_4 (dk_at dksX2_isHigh_0 12 rfl rfl)
theorem dX2_isHigh_13 : decode cX2_isHigh 13 = .ok (.goto 4, 3) := dk_167 0 4 (dk_at dksX2_isHigh_0 13 rfl rfl)
theorem dX2_isHigh_16 : decode cX2_isHigh 16 = .ok (.iconst 0, 1) := dk_3 (dk_at dksX2_isHigh_0 16 rfl rfl)
theorem dX2_isHigh_17 : decode cX2_isHigh 17 = .ok (.ireturn, 1) := dk_172 (dk_at dksX2_isHigh_0 17 rfl rfl)
abbrev cX2_turnsByHand : ByteArray := prog_7_method_36_code
def yX2_turnsByHand : MethodName := ⟨RX2, "turnsByHand", "(I)I"⟩
def dkwX2_turnsByHand_0 : List UInt8 := [42, 27, 182, 0, 93, 42, 27, 182, 0, 67, 153, 0, 7, 4, 167, 0, 4, 3, 172]
abbrev dktX2_turnsByHand_0 : List UInt8 := dkwX2_turnsByHand_0 ++ []
theorem dksX2_turnsByHand_0 : cX2_turnsByHand.data.toList.drop 0 = dktX2_turnsByHand_0 := by decide +kernel
theorem dX2_turnsByHand_0 : decode cX2_turnsByHand 0 = .ok (.aload_n 0, 1) := dk_42 (dk_at dksX2_turnsByHand_0 0 rfl rfl)
theorem dX2_turnsByHand_1 : decode cX2_turnsByHand 1 = .ok (.iload_n 1, 1) := dk_27 (dk_at dksX2_turnsByHand_0 1 rfl rfl)
theorem dX2_turnsByHand_2 : decode cX2_turnsByHand 2 = .ok (.invokevirtual 93, 3) := dk_182 0 93 (dk_at dksX2_turnsByHand_0 2 rfl rfl)
theorem dX2_turnsByHand_5 : decode cX2_turnsByHand 5 = .ok (.aload_n 0, 1) := dk_42 (dk_at dksX2_turnsByHand_0 5 rfl rfl)
theorem dX2_turnsByHand_6 : decode cX2_turnsByHand 6 = .ok (.iload_n 1, 1) := dk_27 (dk_at dksX2_turnsByHand_0 6 rfl rfl)
theorem dX2_turnsByHand_7 : decode cX2_turnsByHand 7 = .ok (.invokevirtual 67, 3) := dk_182 0 67 (dk_at dksX2_turnsByHand_0 7 rfl rfl)
theorem dX2_turnsByHand_10 : decode cX2_turnsByHand 10 = .ok (.ifCond .eq 7, 3) := dk_153 0 7 (dk_at dksX2_turnsByHand_0 10 rfl rfl)
theorem dX2_turnsByHand_13 : decode cX2_turnsByHand 13 = .ok (.iconst 1, 1) := dk_4 (dk_at dksX2_turnsByHand_0 13 rfl rfl)
theorem dX2_turnsByHand_14 : decode cX2_turnsByHand 14 = .ok (.goto 4, 3) := dk_167 0 4 (dk_at dksX2_turnsByHand_0 14 rfl rfl)
theorem dX2_turnsByHand_17 : decode cX2_turnsByHand 17 = .ok (.iconst 0, 1) := dk_3 (dk_at dksX2_turnsByHand_0 17 rfl rfl)
theorem dX2_turnsByHand_18 : decode cX2_turnsByHand 18 = .ok (.ireturn, 1) := dk_172 (dk_at dksX2_turnsByHand_0 18 rfl rfl)
abbrev cX2_turns : ByteArray := prog_7_method_23_code
def yX2_turns : MethodName := ⟨RX2, "turns", "(I)V"⟩
def dkwX2_turns_5 : List UInt8 := [46, 28, 16, 90, 164, 0, 10, 28, 16, 90, 100, 167, 0, 4, 3, 96, 79, 177]
abbrev dktX2_turns_5 : List UInt8 := dkwX2_turns_5 ++ []
def dkwX2_turns_4 : List UInt8 := [3, 27, 96, 28, 16, 90, 164, 0, 8, 16, 90, 167, 0, 4, 28, 79, 42, 180, 0, 7, 17, 0, 152, 92]
abbrev dktX2_turns_4 : List UInt8 := dkwX2_turns_4 ++ dktX2_turns_5
def dkwX2_turns_3 : List UInt8 := [180, 0, 7, 16, 6, 27, 96, 46, 96, 61, 42, 180, 0, 7, 16, 6, 27, 96, 3, 79, 42, 180, 0, 7]
abbrev dktX2_turns_3 : List UInt8 := dkwX2_turns_3 ++ dktX2_turns_4
def dkwX2_turns_2 : List UInt8 := [180, 0, 7, 16, 16, 27, 96, 92, 46, 4, 96, 79, 177, 42, 180, 0, 7, 3, 27, 96, 46, 42]
abbrev dktX2_turns_2 : List UInt8 := dkwX2_turns_2 ++ dktX2_turns_3
def dkwX2_turns_1 : List UInt8 := [17, 0, 154, 46, 100, 79, 42, 180, 0, 7, 16, 6, 27, 96, 42, 180, 0, 7, 17, 0, 154, 46, 79, 42]
abbrev dktX2_turns_1 : List UInt8 := dkwX2_turns_1 ++ dktX2_turns_2
def dkwX2_turns_0 : List UInt8 := [42, 27, 182, 0, 67, 154, 0, 55, 42, 180, 0, 7, 3, 27, 96, 4, 96, 92, 46, 42, 180, 0, 7]
abbrev dktX2_turns_0 : List UInt8 := dkwX2_turns_0 ++ dktX2_turns_1
theorem dksX2_turns_0 : cX2_turns.data.toList.drop 0 = dktX2_turns_0 := by decide +kernel
theorem dksX2_turns_1 : cX2_turns.data.toList.drop 23 = dktX2_turns_1 := dk_seg dksX2_turns_0 23 rfl rfl
theorem dksX2_turns_2 : cX2_turns.data.toList.drop 47 = dktX2_turns_2 := dk_seg dksX2_turns_1 24 rfl rfl
theorem dksX2_turns_3 : cX2_turns.data.toList.drop 69 = dktX2_turns_3 := dk_seg dksX2_turns_2 22 rfl rfl
theorem dksX2_turns_4 : cX2_turns.data.toList.drop 93 = dktX2_turns_4 := dk_seg dksX2_turns_3 24 rfl rfl
theorem dksX2_turns_5 : cX2_turns.data.toList.drop 117 = dktX2_turns_5 := dk_seg dksX2_turns_4 24 rfl rfl
theorem dX2_turns_0 : decode cX2_turns 0 = .ok (.aload_n 0, 1) := dk_42 (dk_at dksX2_turns_0 0 rfl rfl)
theorem dX2_turns_1 : decode cX2_turns 1 = .ok (.iload_n 1, 1) := dk_27 (dk_at dksX2_turns_0 1 rfl rfl)
theorem dX2_turns_2 : decode cX2_turns 2 = .ok (.invokevirtual 67, 3) := dk_182 0 67 (dk_at dksX2_turns_0 2 rfl rfl)
theorem dX2_turns_5 : decode cX2_turns 5 = .ok (.ifCond .ne 55, 3) := dk_154 0 55 (dk_at dksX2_turns_0 5 rfl rfl)
theorem dX2_turns_8 : decode cX2_turns 8 = .ok (.aload_n 0, 1) := dk_42 (dk_at dksX2_turns_0 8 rfl rfl)
theorem dX2_turns_9 : decode cX2_turns 9 = .ok (.getfield 7, 3) := dk_180 0 7 (dk_at dksX2_turns_0 9 rfl rfl)
theorem dX2_turns_12 : decode cX2_turns 12 = .ok (.iconst 0, 1) := dk_3 (dk_at dksX2_turns_0 12 rfl rfl)
theorem dX2_turns_13 : decode cX2_turns 13 = .ok (.iload_n 1, 1) := dk_27 (dk_at dksX2_turns_0 13 rfl rfl)
theorem dX2_turns_14 : decode cX2_turns 14 = .ok (.iadd, 1) := dk_96 (dk_at dksX2_turns_0 14 rfl rfl)
theorem dX2_turns_15 : decode cX2_turns 15 = .ok (.iconst 1, 1) := dk_4 (dk_at dksX2_turns_0 15 rfl rfl)
theorem dX2_turns_16 : decode cX2_turns 16 = .ok (.iadd, 1) := dk_96 (dk_at dksX2_turns_0 16 rfl rfl)
theorem dX2_turns_17 : decode cX2_turns 17 = .ok (.dup2, 1) := dk_92 (dk_at dksX2_turns_0 17 rfl rfl)
theorem dX2_turns_18 : decode cX2_turns 18 = .ok (.iaload, 1) := dk_46 (dk_at dksX2_turns_0 18 rfl rfl)
theorem dX2_turns_19 : decode cX2_turns 19 = .ok (.aload_n 0, 1) := dk_42 (dk_at dksX2_turns_0 19 rfl rfl)
theorem dX2_turns_20 : decode cX2_turns 20 = .ok (.getfield 7, 3) := dk_180 0 7 (dk_at dksX2_turns_0 20 rfl rfl)
theorem dX2_turns_23 : decode cX2_turns 23 = .ok (.sipush 154, 3) := dk_17 0 154 (dk_at dksX2_turns_1 0 rfl rfl)
theorem dX2_turns_26 : decode cX2_turns 26 = .ok (.iaload, 1) := dk_46 (dk_at dksX2_turns_1 3 rfl rfl)
theorem dX2_turns_27 : decode cX2_turns 27 = .ok (.isub, 1) := dk_100 (dk_at dksX2_turns_1 4 rfl rfl)
theorem dX2_turns_28 : decode cX2_turns 28 = .ok (.iastore, 1) := dk_79 (dk_at dksX2_turns_1 5 rfl rfl)
theorem dX2_turns_29 : decode cX2_turns 29 = .ok (.aload_n 0, 1) := dk_42 (dk_at dksX2_turns_1 6 rfl rfl)
theorem dX2_turns_30 : decode cX2_turns 30 = .ok (.getfield 7, 3) := dk_180 0 7 (dk_at dksX2_turns_1 7 rfl rfl)
theorem dX2_turns_33 : decode cX2_turns 33 = .ok (.bipush 6, 2) := dk_16 6 (dk_at dksX2_turns_1 10 rfl rfl)
theorem dX2_turns_35 : decode cX2_turns 35 = .ok (.iload_n 1, 1) := dk_27 (dk_at dksX2_turns_1 12 rfl rfl)
theorem dX2_turns_36 : decode cX2_turns 36 = .ok (.iadd, 1) := dk_96 (dk_at dksX2_turns_1 13 rfl rfl)
theorem dX2_turns_37 : decode cX2_turns 37 = .ok (.aload_n 0, 1) := dk_42 (dk_at dksX2_turns_1 14 rfl rfl)
theorem dX2_turns_38 : decode cX2_turns 38 = .ok (.getfield 7, 3) := dk_180 0 7 (dk_at dksX2_turns_1 15 rfl rfl)
theorem dX2_turns_41 : decode cX2_turns 41 = .ok (.sipush 154, 3) := dk_17 0 154 (dk_at dksX2_turns_1 18 rfl rfl)
theorem dX2_turns_44 : decode cX2_turns 44 = .ok (.iaload, 1) := dk_46 (dk_at dksX2_turns_1 21 rfl rfl)
theorem dX2_turns_45 : decode cX2_turns 45 = .ok (.iastore, 1) := dk_79 (dk_at dksX2_turns_1 22 rfl rfl)
theorem dX2_turns_46 : decode cX2_turns 46 = .ok (.aload_n 0, 1) := dk_42 (dk_at dksX2_turns_1 23 rfl rfl)
theorem dX2_turns_47 : decode cX2_turns 47 = .ok (.getfield 7, 3) := dk_180 0 7 (dk_at dksX2_turns_2 0 rfl rfl)
theorem dX2_turns_50 : decode cX2_turns 50 = .ok (.bipush 16, 2) := dk_16 16 (dk_at dksX2_turns_2 3 rfl rfl)
theorem dX2_turns_52 : decode cX2_turns 52 = .ok (.iload_n 1, 1) := dk_27 (dk_at dksX2_turns_2 5 rfl rfl)
theorem dX2_turns_53 : decode cX2_turns 53 = .ok (.iadd, 1) := dk_96 (dk_at dksX2_turns_2 6 rfl rfl)
theorem dX2_turns_54 : decode cX2_turns 54 = .ok (.dup2, 1) := dk_92 (dk_at dksX2_turns_2 7 rfl rfl)
theorem dX2_turns_55 : decode cX2_turns 55 = .ok (.iaload, 1) := dk_46 (dk_at dksX2_turns_2 8 rfl rfl)
theorem dX2_turns_56 : decode cX2_turns 56 = .ok (.iconst 1, 1) := dk_4 (dk_at dksX2_turns_2 9 rfl rfl)
theorem dX2_turns_57 : decode cX2_turns 57 = .ok (.iadd, 1) := dk_96 (dk_at dksX2_turns_2 10 rfl rfl)
theorem dX2_turns_58 : decode cX2_turns 58 = .ok (.iastore, 1) := dk_79 (dk_at dksX2_turns_2 11 rfl rfl)
theorem dX2_turns_59 : decode cX2_turns 59 = .ok (.return_, 1) := dk_177 (dk_at dksX2_turns_2 12 rfl rfl)
theorem dX2_turns_60 : decode cX2_turns 60 = .ok (.aload_n 0, 1) := dk_42 (dk_at dksX2_turns_2 13 rfl rfl)
theorem dX2_turns_61 : decode cX2_turns 61 = .ok (.getfield 7, 3) := dk_180 0 7 (dk_at dksX2_turns_2 14 rfl rfl)
theorem dX2_turns_64 : decode cX2_turns 64 = .ok (.iconst 0, 1) := dk_3 (dk_at dksX2_turns_2 17 rfl rfl)
theorem dX2_turns_65 : decode cX2_turns 65 = .ok (.iload_n 1, 1) := dk_27 (dk_at dksX2_turns_2 18 rfl rfl)
theorem dX2_turns_66 : decode cX2_turns 66 = .ok (.iadd, 1) := dk_96 (dk_at dksX2_turns_2 19 rfl rfl)
theorem dX2_turns_67 : decode cX2_turns 67 = .ok (.iaload, 1) := dk_46 (dk_at dksX2_turns_2 20 rfl rfl)
theorem dX2_turns_68 : decode cX2_turns 68 = .ok (.aload_n 0, 1) := dk_42 (dk_at dksX2_turns_2 21 rfl rfl)
theorem dX2_turns_69 : decode cX2_turns 69 = .ok (.getfield 7, 3) := dk_180 0 7 (dk_at dksX2_turns_3 0 rfl rfl)
theorem dX2_turns_72 : decode cX2_turns 72 = .ok (.bipush 6, 2) := dk_16 6 (dk_at dksX2_turns_3 3 rfl rfl)
theorem dX2_turns_74 : decode cX2_turns 74 = .ok (.iload_n 1, 1) := dk_27 (dk_at dksX2_turns_3 5 rfl rfl)
theorem dX2_turns_75 : decode cX2_turns 75 = .ok (.iadd, 1) := dk_96 (dk_at dksX2_turns_3 6 rfl rfl)
theorem dX2_turns_76 : decode cX2_turns 76 = .ok (.iaload, 1) := dk_46 (dk_at dksX2_turns_3 7 rfl rfl)
theorem dX2_turns_77 : decode cX2_turns 77 = .ok (.iadd, 1) := dk_96 (dk_at dksX2_turns_3 8 rfl rfl)
theorem dX2_turns_78 : decode cX2_turns 78 = .ok (.istore_n 2, 1) := dk_61 (dk_at dksX2_turns_3 9 rfl rfl)
theorem dX2_turns_79 : decode cX2_turns 79 = .ok (.aload_n 0, 1) := dk_42 (dk_at dksX2_turns_3 10 rfl rfl)
theorem dX2_turns_80 : decode cX2_turns 80 = .ok (.getfield 7, 3) := dk_180 0 7 (dk_at dksX2_turns_3 11 rfl rfl)
theorem dX2_turns_83 : decode cX2_turns 83 = .ok (.bipush 6, 2) := dk_16 6 (dk_at dksX2_turns_3 14 rfl rfl)
theorem dX2_turns_85 : decode cX2_turns 85 = .ok (.iload_n 1, 1) := dk_27 (dk_at dksX2_turns_3 16 rfl rfl)
theorem dX2_turns_86 : decode cX2_turns 86 = .ok (.iadd, 1) := dk_96 (dk_at dksX2_turns_3 17 rfl rfl)
theorem dX2_turns_87 : decode cX2_turns 87 = .ok (.iconst 0, 1) := dk_3 (dk_at dksX2_turns_3 18 rfl rfl)
theorem dX2_turns_88 : decode cX2_turns 88 = .ok (.iastore, 1) := dk_79 (dk_at dksX2_turns_3 19 rfl rfl)
theorem dX2_turns_89 : decode cX2_turns 89 = .ok (.aload_n 0, 1) := dk_42 (dk_at dksX2_turns_3 20 rfl rfl)
theorem dX2_turns_90 : decode cX2_turns 90 = .ok (.getfield 7, 3) := dk_180 0 7 (dk_at dksX2_turns_3 21 rfl rfl)
theorem dX2_turns_93 : decode cX2_turns 93 = .ok (.iconst 0, 1) := dk_3 (dk_at dksX2_turns_4 0 rfl rfl)
theorem dX2_turns_94 : decode cX2_turns 94 = .ok (.iload_n 1, 1) := dk_27 (dk_at dksX2_turns_4 1 rfl rfl)
theorem dX2_turns_95 : decode cX2_turns 95 = .ok (.iadd, 1) := dk_96 (dk_at dksX2_turns_4 2 rfl rfl)
theorem dX2_turns_96 : decode cX2_turns 96 = .ok (.iload_n 2, 1) := dk_28 (dk_at dksX2_turns_4 3 rfl rfl)
theorem dX2_turns_97 : decode cX2_turns 97 = .ok (.bipush 90, 2) := dk_16 90 (dk_at dksX2_turns_4 4 rfl rfl)
theorem dX2_turns_99 : decode cX2_turns 99 = .ok (.if_icmp .le 8, 3) := dk_164 0 8 (dk_at dksX2_turns_4 6 rfl rfl)
theorem dX2_turns_102 : decode cX2_turns 102 = .ok (.bipush 90, 2) := dk_16 90 (dk_at dksX2_turns_4 9 rfl rfl)
theorem dX2_turns_104 : decode cX2_turns 104 = .ok (.goto 4, 3) := dk_167 0 4 (dk_at dksX2_turns_4 11 rfl rfl)
theorem dX2_turns_107 : decode cX2_turns 107 = .ok (.iload_n 2, 1) := dk_28 (dk_at dksX2_turns_4 14 rfl rfl)
theorem dX2_turns_108 : decode cX2_turns 108 = .ok (.iastore, 1) := dk_79 (dk_at dksX2_turns_4 15 rfl rfl)
theorem dX2_turns_109 : decode cX2_turns 109 = .ok (.aload_n 0, 1) := dk_42 (dk_at dksX2_turns_4 16 rfl rfl)
theorem dX2_turns_110 : decode cX2_turns 110 = .ok (.getfield 7, 3) := dk_180 0 7 (dk_at dksX2_turns_4 17 rfl rfl)
theorem dX2_turns_113 : decode cX2_turns 113 = .ok (.sipush 152, 3) := dk_17 0 152 (dk_at dksX2_turns_4 20 rfl rfl)
theorem dX2_turns_116 : decode cX2_turns 116 = .ok (.dup2, 1) := dk_92 (dk_at dksX2_turns_4 23 rfl rfl)
theorem dX2_turns_117 : decode cX2_turns 117 = .ok (.iaload, 1) := dk_46 (dk_at dksX2_turns_5 0 rfl rfl)
theorem dX2_turns_118 : decode cX2_turns 118 = .ok (.iload_n 2, 1) := dk_28 (dk_at dksX2_turns_5 1 rfl rfl)
theorem dX2_turns_119 : decode cX2_turns 119 = .ok (.bipush 90, 2) := dk_16 90 (dk_at dksX2_turns_5 2 rfl rfl)
theorem dX2_turns_121 : decode cX2_turns 121 = .ok (.if_icmp .le 10, 3) := dk_164 0 10 (dk_at dksX2_turns_5 4 rfl rfl)
theorem dX2_turns_124 : decode cX2_turns 124 = .ok (.iload_n 2, 1) := dk_28 (dk_at dksX2_turns_5 7 rfl rfl)
theorem dX2_turns_125 : decode cX2_turns 125 = .ok (.bipush 90, 2) := dk_16 90 (dk_at dksX2_turns_5 8 rfl rfl)
theorem dX2_turns_127 : decode cX2_turns 127 = .ok (.isub, 1) := dk_100 (dk_at dksX2_turns_5 10 rfl rfl)
theorem dX2_turns_128 : decode cX2_turns 128 = .ok (.goto 4, 3) := dk_167 0 4 (dk_at dksX2_turns_5 11 rfl rfl)
theorem dX2_turns_131 : decode cX2_turns 131 = .ok (.iconst 0, 1) := dk_3 (dk_at dksX2_turns_5 14 rfl rfl)
theorem dX2_turns_132 : decode cX2_turns 132 = .ok (.iadd, 1) := dk_96 (dk_at dksX2_turns_5 15 rfl rfl)
theorem dX2_turns_133 : decode cX2_turns 133 = .ok (.iastore, 1) := dk_79 (dk_at dksX2_turns_5 16 rfl rfl)
theorem dX2_turns_134 : decode cX2_turns 134 = .ok (.return_, 1) := dk_177 (dk_at dksX2_turns_5 17 rfl rfl)
abbrev cX2_setDepth : ByteArray := prog_7_method_39_code
def yX2_setDepth : MethodName := ⟨RX2, "setDepth", "(II)I"⟩
def dkwX2_setDepth_1 : List UInt8 := [182, 0, 140, 167, 0, 5, 16, 254, 172]
abbrev dktX2_setDepth_1 : List UInt8 := dkwX2_setDepth_1 ++ []
def dkwX2_setDepth_0 : List UInt8 := [27, 184, 0, 115, 154, 0, 5, 2, 172, 28, 3, 16, 90, 184, 0, 35, 153, 0, 14, 42, 3, 27, 96, 28]
abbrev dktX2_setDepth_0 : List UInt8 := dkwX2_setDepth_0 ++ dktX2_setDepth_1
theorem dksX2_setDepth_0 : cX2_setDepth.data.toList.drop 0 = dktX2_setDepth_0 := by decide +kernel
theorem dksX2_setDepth_1 : cX2_setDepth.data.toList.drop 24 = dktX2_setDepth_1 := dk_seg dksX2_setDepth_0 24 rfl rfl
theorem dX2_setDepth_0 : decode cX2_setDepth 0 = .ok (.iload_n 1, 1) := dk_27 (dk_at dksX2_setDepth_0 0 rfl rfl)
theorem dX2_setDepth_1 : decode cX2_setDepth 1 = .ok (.invokestatic 115, 3) := dk_184 0 115 (dk_at dksX2_setDepth_0 1 rfl rfl)
theorem dX2_setDepth_4 : decode cX2_setDepth 4 = .ok (.ifCond .ne 5, 3) := dk_154 0 5 (dk_at dksX2_setDepth_0 4 rfl rfl)
theorem dX2_setDepth_7 : decode cX2_setDepth 7 = .ok (.iconst (-1), 1) := dk_2 (dk_at dksX2_setDepth_0 7 rfl rfl)
theorem dX2_setDepth_8 : decode cX2_setDepth 8 = .ok (.ireturn, 1) := dk_172 (dk_at dksX2_setDepth_0 8 rfl rfl)
theorem dX2_setDepth_9 : decode cX2_setDepth 9 = .ok (.iload_n 2, 1) := dk_28 (dk_at dksX2_setDepth_0 9 rfl rfl)
theorem dX2_setDepth_10 : decode cX2_setDepth 10 = .ok (.iconst 0, 1) := dk_3 (dk_at dksX2_setDepth_0 10 rfl rfl)
theorem dX2_setDepth_11 : decode cX2_setDepth 11 = .ok (.bipush 90, 2) := dk_16 90 (dk_at dksX2_setDepth_0 11 rfl rfl)
theorem dX2_setDepth_13 : decode cX2_setDepth 13 = .ok (.invokestatic 35, 3) := dk_184 0 35 (dk_at dksX2_setDepth_0 13 rfl rfl)
theorem dX2_setDepth_16 : decode cX2_setDepth 16 = .ok (.ifCond .eq 14, 3) := dk_153 0 14 (dk_at dksX2_setDepth_0 16 rfl rfl)
theorem dX2_setDepth_19 : decode cX2_setDepth 19 = .ok (.aload_n 0, 1) := dk_42 (dk_at dksX2_setDepth_0 19 rfl rfl)
theorem dX2_setDepth_20 : decode cX2_setDepth 20 = .ok (.iconst 0, 1) := dk_3 (dk_at dksX2_setDepth_0 20 rfl rfl)
theorem dX2_setDepth_21 : decode cX2_setDepth 21 = .ok (.iload_n 1, 1) := dk_27 (dk_at dksX2_setDepth_0 21 rfl rfl)
theorem dX2_setDepth_22 : decode cX2_setDepth 22 = .ok (.iadd, 1) := dk_96 (dk_at dksX2_setDepth_0 22 rfl rfl)
theorem dX2_setDepth_23 : decode cX2_setDepth 23 = .ok (.iload_n 2, 1) := dk_28 (dk_at dksX2_setDepth_0 23 rfl rfl)
theorem dX2_setDepth_24 : decode cX2_setDepth 24 = .ok (.invokevirtual 140, 3) := dk_182 0 140 (dk_at dksX2_setDepth_1 0 rfl rfl)
theorem dX2_setDepth_27 : decode cX2_setDepth 27 = .ok (.goto 5, 3) := dk_167 0 5 (dk_at dksX2_setDepth_1 3 rfl rfl)
theorem dX2_setDepth_30 : decode cX2_setDepth 30 = .ok (.bipush (-2), 2) := dk_16 254 (dk_at dksX2_setDepth_1 6 rfl rfl)
theorem dX2_setDepth_32 : decode cX2_setDepth 32 = .ok (.ireturn, 1) := dk_172 (dk_at dksX2_setDepth_1 8 rfl rfl)
abbrev cX2_becomes : ByteArray := prog_7_method_38_code
def yX2_becomes : MethodName := ⟨RX2, "becomes", "(II)I"⟩
def dkwX2_becomes_1 : List UInt8 := [28, 79, 29, 172]
abbrev dktX2_becomes_1 : List UInt8 := dkwX2_becomes_1 ++ []
def dkwX2_becomes_0 : List UInt8 := [42, 180, 0, 7, 27, 46, 62, 29, 28, 160, 0, 6, 16, 251, 172, 42, 182, 0, 122, 42, 180, 0, 7, 27]
abbrev dktX2_becomes_0 : List UInt8 := dkwX2_becomes_0 ++ dktX2_becomes_1
theorem dksX2_becomes_0 : cX2_becomes.data.toList.drop 0 = dktX2_becomes_0 := by decide +kernel
theorem dksX2_becomes_1 : cX2_becomes.data.toList.drop 24 = dktX2_becomes_1 := dk_seg dksX2_becomes_0 24 rfl rfl
theorem dX2_becomes_0 : decode cX2_becomes 0 = .ok (.aload_n 0, 1) := dk_42 (dk_at dksX2_becomes_0 0 rfl rfl)
theorem dX2_becomes_1 : decode cX2_becomes 1 = .ok (.getfield 7, 3) := dk_180 0 7 (dk_at dksX2_becomes_0 1 rfl rfl)
theorem dX2_becomes_4 : decode cX2_becomes 4 = .ok (.iload_n 1, 1) := dk_27 (dk_at dksX2_becomes_0 4 rfl rfl)
theorem dX2_becomes_5 : decode cX2_becomes 5 = .ok (.iaload, 1) := dk_46 (dk_at dksX2_becomes_0 5 rfl rfl)
theorem dX2_becomes_6 : decode cX2_becomes 6 = .ok (.istore_n 3, 1) := dk_62 (dk_at dksX2_becomes_0 6 rfl rfl)
theorem dX2_becomes_7 : decode cX2_becomes 7 = .ok (.iload_n 3, 1) := dk_29 (dk_at dksX2_becomes_0 7 rfl rfl)
theorem dX2_becomes_8 : decode cX2_becomes 8 = .ok (.iload_n 2, 1) := dk_28 (dk_at dksX2_becomes_0 8 rfl rfl)
theorem dX2_becomes_9 : decode cX2_becomes 9 = .ok (.if_icmp .ne 6, 3) := dk_160 0 6 (dk_at dksX2_becomes_0 9 rfl rfl)
theorem dX2_becomes_12 : decode cX2_becomes 12 = .ok (.bipush (-5), 2) := dk_16 251 (dk_at dksX2_becomes_0 12 rfl rfl)
theorem dX2_becomes_14 : decode cX2_becomes 14 = .ok (.ireturn, 1) := dk_172 (dk_at dksX2_becomes_0 14 rfl rfl)
theorem dX2_becomes_15 : decode cX2_becomes 15 = .ok (.aload_n 0, 1) := dk_42 (dk_at dksX2_becomes_0 15 rfl rfl)
theorem dX2_becomes_16 : decode cX2_becomes 16 = .ok (.invokevirtual 122, 3) := dk_182 0 122 (dk_at dksX2_becomes_0 16 rfl rfl)
theorem dX2_becomes_19 : decode cX2_becomes 19 = .ok (.aload_n 0, 1) := dk_42 (dk_at dksX2_becomes_0 19 rfl rfl)
theorem dX2_becomes_20 : decode cX2_becomes 20 = .ok (.getfield 7, 3) := dk_180 0 7 (dk_at dksX2_becomes_0 20 rfl rfl)
theorem dX2_becomes_23 : decode cX2_becomes 23 = .ok (.iload_n 1, 1) := dk_27 (dk_at dksX2_becomes_0 23 rfl rfl)
theorem dX2_becomes_24 : decode cX2_becomes 24 = .ok (.iload_n 2, 1) := dk_28 (dk_at dksX2_becomes_1 0 rfl rfl)
theorem dX2_becomes_25 : decode cX2_becomes 25 = .ok (.iastore, 1) := dk_79 (dk_at dksX2_becomes_1 1 rfl rfl)
theorem dX2_becomes_26 : decode cX2_becomes 26 = .ok (.iload_n 3, 1) := dk_29 (dk_at dksX2_becomes_1 2 rfl rfl)
theorem dX2_becomes_27 : decode cX2_becomes 27 = .ok (.ireturn, 1) := dk_172 (dk_at dksX2_becomes_1 3 rfl rfl)
abbrev cX2_set : ByteArray := prog_7_method_40_code
def yX2_set : MethodName := ⟨RX2, "set", "(II)I"⟩
def dkwX2_set_2 : List UInt8 := [17, 0, 154, 27, 96, 28, 182, 0, 140, 167, 0, 5, 16, 254, 172]
abbrev dktX2_set_2 : List UInt8 := dkwX2_set_2 ++ []
def dkwX2_set_1 : List UInt8 := [167, 0, 18, 28, 27, 154, 0, 7, 4, 167, 0, 4, 3, 16, 20, 184, 0, 35, 62, 29, 153, 0, 16, 42]
abbrev dktX2_set_1 : List UInt8 := dkwX2_set_1 ++ dktX2_set_2
def dkwX2_set_0 : List UInt8 := [27, 3, 5, 184, 0, 35, 154, 0, 5, 2, 172, 27, 4, 160, 0, 13, 28, 4, 16, 6, 184, 0, 35]
abbrev dktX2_set_0 : List UInt8 := dkwX2_set_0 ++ dktX2_set_1
theorem dksX2_set_0 : cX2_set.data.toList.drop 0 = dktX2_set_0 := by decide +kernel
theorem dksX2_set_1 : cX2_set.data.toList.drop 23 = dktX2_set_1 := dk_seg dksX2_set_0 23 rfl rfl
theorem dksX2_set_2 : cX2_set.data.toList.drop 47 = dktX2_set_2 := dk_seg dksX2_set_1 24 rfl rfl
theorem dX2_set_0 : decode cX2_set 0 = .ok (.iload_n 1, 1) := dk_27 (dk_at dksX2_set_0 0 rfl rfl)
theorem dX2_set_1 : decode cX2_set 1 = .ok (.iconst 0, 1) := dk_3 (dk_at dksX2_set_0 1 rfl rfl)
theorem dX2_set_2 : decode cX2_set 2 = .ok (.iconst 2, 1) := dk_5 (dk_at dksX2_set_0 2 rfl rfl)
theorem dX2_set_3 : decode cX2_set 3 = .ok (.invokestatic 35, 3) := dk_184 0 35 (dk_at dksX2_set_0 3 rfl rfl)
theorem dX2_set_6 : decode cX2_set 6 = .ok (.ifCond .ne 5, 3) := dk_154 0 5 (dk_at dksX2_set_0 6 rfl rfl)
theorem dX2_set_9 : decode cX2_set 9 = .ok (.iconst (-1), 1) := dk_2 (dk_at dksX2_set_0 9 rfl rfl)
theorem dX2_set_10 : decode cX2_set 10 = .ok (.ireturn, 1) := dk_172 (dk_at dksX2_set_0 10 rfl rfl)
theorem dX2_set_11 : decode cX2_set 11 = .ok (.iload_n 1, 1) := dk_27 (dk_at dksX2_set_0 11 rfl rfl)
theorem dX2_set_12 : decode cX2_set 12 = .ok (.iconst 1, 1) := dk_4 (dk_at dksX2_set_0 12 rfl rfl)
theorem dX2_set_13 : decode cX2_set 13 = .ok (.if_icmp .ne 13, 3) := dk_160 0 13 (dk_at dksX2_set_0 13 rfl rfl)
theorem dX2_set_16 : decode cX2_set 16 = .ok (.iload_n 2, 1) := dk_28 (dk_at dksX2_set_0 16 rfl rfl)
theorem dX2_set_17 : decode cX2_set 17 = .ok (.iconst 1, 1) := dk_4 (dk_at dksX2_set_0 17 rfl rfl)
theorem dX2_set_18 : decode cX2_set 18 = .ok (.bipush 6, 2) := dk_16 6 (dk_at dksX2_set_0 18 rfl rfl)
theorem dX2_set_20 : decode cX2_set 20 = .ok (.invokestatic 35, 3) := dk_184 0 35 (dk_at dksX2_set_0 20 rfl rfl)
theorem dX2_set_23 : decode cX2_set 23 = .ok (.goto 18, 3) := dk_167 0 18 (dk_at dksX2_set_1 0 rfl rfl)
theorem dX2_set_26 : decode cX2_set 26 = .ok (.iload_n 2, 1) := dk_28 (dk_at dksX2_set_1 3 rfl rfl)
theorem dX2_set_27 : decode cX2_set 27 = .ok (.iload_n 1, 1) := dk_27 (dk_at dksX2_set_1 4 rfl rfl)
theorem dX2_set_28 : decode cX2_set 28 = .ok (.ifCond .ne 7, 3) := dk_154 0 7 (dk_at dksX2_set_1 5 rfl rfl)
theorem dX2_set_31 : decode cX2_set 31 = .ok (.iconst 1, 1) := dk_4 (dk_at dksX2_set_1 8 rfl rfl)
theorem dX2_set_32 : decode cX2_set 32 = .ok (.goto 4, 3) := dk_167 0 4 (dk_at dksX2_set_1 9 rfl rfl)
theorem dX2_set_35 : decode cX2_set 35 = .ok (.iconst 0, 1) := dk_3 (dk_at dksX2_set_1 12 rfl rfl)
theorem dX2_set_36 : decode cX2_set 36 = .ok (.bipush 20, 2) := dk_16 20 (dk_at dksX2_set_1 13 rfl rfl)
theorem dX2_set_38 : decode cX2_set 38 = .ok (.invokestatic 35, 3) := dk_184 0 35 (dk_at dksX2_set_1 15 rfl rfl)
theorem dX2_set_41 : decode cX2_set 41 = .ok (.istore_n 3, 1) := dk_62 (dk_at dksX2_set_1 18 rfl rfl)
theorem dX2_set_42 : decode cX2_set 42 = .ok (.iload_n 3, 1) := dk_29 (dk_at dksX2_set_1 19 rfl rfl)
theorem dX2_set_43 : decode cX2_set 43 = .ok (.ifCond .eq 16, 3) := dk_153 0 16 (dk_at dksX2_set_1 20 rfl rfl)
theorem dX2_set_46 : decode cX2_set 46 = .ok (.aload_n 0, 1) := dk_42 (dk_at dksX2_set_1 23 rfl rfl)
theorem dX2_set_47 : decode cX2_set 47 = .ok (.sipush 154, 3) := dk_17 0 154 (dk_at dksX2_set_2 0 rfl rfl)
theorem dX2_set_50 : decode cX2_set 50 = .ok (.iload_n 1, 1) := dk_27 (dk_at dksX2_set_2 3 rfl rfl)
theorem dX2_set_51 : decode cX2_set 51 = .ok (.iadd, 1) := dk_96 (dk_at dksX2_set_2 4 rfl rfl)
theorem dX2_set_52 : decode cX2_set 52 = .ok (.iload_n 2, 1) := dk_28 (dk_at dksX2_set_2 5 rfl rfl)
theorem dX2_set_53 : decode cX2_set 53 = .ok (.invokevirtual 140, 3) := dk_182 0 140 (dk_at dksX2_set_2 6 rfl rfl)
theorem dX2_set_56 : decode cX2_set 56 = .ok (.goto 5, 3) := dk_167 0 5 (dk_at dksX2_set_2 9 rfl rfl)
theorem dX2_set_59 : decode cX2_set 59 = .ok (.bipush (-2), 2) := dk_16 254 (dk_at dksX2_set_2 12 rfl rfl)
theorem dX2_set_61 : decode cX2_set 61 = .ok (.ireturn, 1) := dk_172 (dk_at dksX2_set_2 14 rfl rfl)
abbrev cX2_pass : ByteArray := prog_7_method_42_code
def yX2_pass : MethodName := ⟨RX2, "pass", "(I)I"⟩
def dkwX2_pass_0 : List UInt8 := [42, 27, 182, 0, 144, 61, 28, 153, 0, 5, 28, 172, 42, 182, 0, 122, 42, 27, 182, 0, 147, 172]
abbrev dktX2_pass_0 : List UInt8 := dkwX2_pass_0 ++ []
theorem dksX2_pass_0 : cX2_pass.data.toList.drop 0 = dktX2_pass_0 := by decide +kernel
theorem dX2_pass_0 : decode cX2_pass 0 = .ok (.aload_n 0, 1) := dk_42 (dk_at dksX2_pass_0 0 rfl rfl)
theorem dX2_pass_1 : decode cX2_pass 1 = .ok (.iload_n 1, 1) := dk_27 (dk_at dksX2_pass_0 1 rfl rfl)
theorem dX2_pass_2 : decode cX2_pass 2 = .ok (.invokevirtual 144, 3) := dk_182 0 144 (dk_at dksX2_pass_0 2 rfl rfl)
theorem dX2_pass_5 : decode cX2_pass 5 = .ok (.istore_n 2, 1) := dk_61 (dk_at dksX2_pass_0 5 rfl rfl)
theorem dX2_pass_6 : decode cX2_pass 6 = .ok (.iload_n 2, 1) := dk_28 (dk_at dksX2_pass_0 6 rfl rfl)
theorem dX2_pass_7 : decode cX2_pass 7 = .ok (.ifCond .eq 5, 3) := dk_153 0 5 (dk_at dksX2_pass_0 7 rfl rfl)
theorem dX2_pass_10 : decode cX2_pass 10 = .ok (.iload_n 2, 1) := dk_28 (dk_at dksX2_pass_0 10 rfl rfl)
theorem dX2_pass_11 : decode cX2_pass 11 = .ok (.ireturn, 1) := dk_172 (dk_at dksX2_pass_0 11 rfl rfl)
theorem dX2_pass_12 : decode cX2_pass 12 = .ok (.aload_n 0, 1) := dk_42 (dk_at dksX2_pass_0 12 rfl rfl)
theorem dX2_pass_13 : decode cX2_pass 13 = .ok (.invokevirtual 122, 3) := dk_182 0 122 (dk_at dksX2_pass_0 13 rfl rfl)
theorem dX2_pass_16 : decode cX2_pass 16 = .ok (.aload_n 0, 1) := dk_42 (dk_at dksX2_pass_0 16 rfl rfl)
theorem dX2_pass_17 : decode cX2_pass 17 = .ok (.iload_n 1, 1) := dk_27 (dk_at dksX2_pass_0 17 rfl rfl)
theorem dX2_pass_18 : decode cX2_pass 18 = .ok (.invokevirtual 147, 3) := dk_182 0 147 (dk_at dksX2_pass_0 18 rfl rfl)
theorem dX2_pass_21 : decode cX2_pass 21 = .ok (.ireturn, 1) := dk_172 (dk_at dksX2_pass_0 21 rfl rfl)
abbrev cX2_errorOfPass : ByteArray := prog_7_method_41_code
def yX2_errorOfPass : MethodName := ⟨RX2, "errorOfPass", "(I)I"⟩
def dkwX2_errorOfPass_1 : List UInt8 := [96, 18, 143, 164, 0, 8, 16, 253, 167, 0, 4, 3, 172]
abbrev dktX2_errorOfPass_1 : List UInt8 := dkwX2_errorOfPass_1 ++ []
def dkwX2_errorOfPass_0 : List UInt8 := [27, 4, 16, 99, 184, 0, 35, 154, 0, 8, 16, 254, 167, 0, 24, 42, 180, 0, 7, 17, 0, 149, 46, 27]
abbrev dktX2_errorOfPass_0 : List UInt8 := dkwX2_errorOfPass_0 ++ dktX2_errorOfPass_1
theorem dksX2_errorOfPass_0 : cX2_errorOfPass.data.toList.drop 0 = dktX2_errorOfPass_0 := by decide +kernel
theorem dksX2_errorOfPass_1 : cX2_errorOfPass.data.toList.drop 24 = dktX2_errorOfPass_1 := dk_seg dksX2_errorOfPass_0 24 rfl rfl
theorem dX2_errorOfPass_0 : decode cX2_errorOfPass 0 = .ok (.iload_n 1, 1) := dk_27 (dk_at dksX2_errorOfPass_0 0 rfl rfl)
theorem dX2_errorOfPass_1 : decode cX2_errorOfPass 1 = .ok (.iconst 1, 1) := dk_4 (dk_at dksX2_errorOfPass_0 1 rfl rfl)
theorem dX2_errorOfPass_2 : decode cX2_errorOfPass 2 = .ok (.bipush 99, 2) := dk_16 99 (dk_at dksX2_errorOfPass_0 2 rfl rfl)
theorem dX2_errorOfPass_4 : decode cX2_errorOfPass 4 = .ok (.invokestatic 35, 3) := dk_184 0 35 (dk_at dksX2_errorOfPass_0 4 rfl rfl)
theorem dX2_errorOfPass_7 : decode cX2_errorOfPass 7 = .ok (.ifCond .ne 8, 3) := dk_154 0 8 (dk_at dksX2_errorOfPass_0 7 rfl rfl)
theorem dX2_errorOfPass_10 : decode cX2_errorOfPass 10 = .ok (.bipush (-2), 2) := dk_16 254 (dk_at dksX2_errorOfPass_0 10 rfl rfl)
theorem dX2_errorOfPass_12 : decode cX2_errorOfPass 12 = .ok (.goto 24, 3) := dk_167 0 24 (dk_at dksX2_errorOfPass_0 12 rfl rfl)
theorem dX2_errorOfPass_15 : decode cX2_errorOfPass 15 = .ok (.aload_n 0, 1) := dk_42 (dk_at dksX2_errorOfPass_0 15 rfl rfl)
theorem dX2_errorOfPass_16 : decode cX2_errorOfPass 16 = .ok (.getfield 7, 3) := dk_180 0 7 (dk_at dksX2_errorOfPass_0 16 rfl rfl)
theorem dX2_errorOfPass_19 : decode cX2_errorOfPass 19 = .ok (.sipush 149, 3) := dk_17 0 149 (dk_at dksX2_errorOfPass_0 19 rfl rfl)
theorem dX2_errorOfPass_22 : decode cX2_errorOfPass 22 = .ok (.iaload, 1) := dk_46 (dk_at dksX2_errorOfPass_0 22 rfl rfl)
theorem dX2_errorOfPass_23 : decode cX2_errorOfPass 23 = .ok (.iload_n 1, 1) := dk_27 (dk_at dksX2_errorOfPass_0 23 rfl rfl)
theorem dX2_errorOfPass_24 : decode cX2_errorOfPass 24 = .ok (.iadd, 1) := dk_96 (dk_at dksX2_errorOfPass_1 0 rfl rfl)
theorem dX2_errorOfPass_25 : decode cX2_errorOfPass 25 = .ok (.ldc 143, 2) := dk_18 143 (dk_at dksX2_errorOfPass_1 1 rfl rfl)
theorem dX2_errorOfPass_27 : decode cX2_errorOfPass 27 = .ok (.if_icmp .le 8, 3) := dk_164 0 8 (dk_at dksX2_errorOfPass_1 3 rfl rfl)
theorem dX2_errorOfPass_30 : decode cX2_errorOfPass 30 = .ok (.bipush (-3), 2) := dk_16 253 (dk_at dksX2_errorOfPass_1 6 rfl rfl)
theorem dX2_errorOfPass_32 : decode cX2_errorOfPass 32 = .ok (.goto 4, 3) := dk_167 0 4 (dk_at dksX2_errorOfPass_1 8 rfl rfl)
theorem dX2_errorOfPass_35 : decode cX2_errorOfPass 35 = .ok (.iconst 0, 1) := dk_3 (dk_at dksX2_errorOfPass_1 11 rfl rfl)
theorem dX2_errorOfPass_36 : decode cX2_errorOfPass 36 = .ok (.ireturn, 1) := dk_172 (dk_at dksX2_errorOfPass_1 12 rfl rfl)
abbrev cX2_passes : ByteArray := prog_7_method_30_code
def yX2_passes : MethodName := ⟨RX2, "passes", "(I)I"⟩
def dkwX2_passes_1 : List UInt8 := [182, 0, 108, 28, 100, 172]
abbrev dktX2_passes_1 : List UInt8 := dkwX2_passes_1 ++ []
def dkwX2_passes_0 : List UInt8 := [42, 182, 0, 108, 61, 3, 62, 29, 27, 162, 0, 13, 42, 182, 0, 112, 132, 3, 1, 167, 255, 244, 42]
abbrev dktX2_passes_0 : List UInt8 := dkwX2_passes_0 ++ dktX2_passes_1
theorem dksX2_passes_0 : cX2_passes.data.toList.drop 0 = dktX2_passes_0 := by decide +kernel
theorem dksX2_passes_1 : cX2_passes.data.toList.drop 23 = dktX2_passes_1 := dk_seg dksX2_passes_0 23 rfl rfl
theorem dX2_passes_0 : decode cX2_passes 0 = .ok (.aload_n 0, 1) := dk_42 (dk_at dksX2_passes_0 0 rfl rfl)
theorem dX2_passes_1 : decode cX2_passes 1 = .ok (.invokevirtual 108, 3) := dk_182 0 108 (dk_at dksX2_passes_0 1 rfl rfl)
theorem dX2_passes_4 : decode cX2_passes 4 = .ok (.istore_n 2, 1) := dk_61 (dk_at dksX2_passes_0 4 rfl rfl)
theorem dX2_passes_5 : decode cX2_passes 5 = .ok (.iconst 0, 1) := dk_3 (dk_at dksX2_passes_0 5 rfl rfl)
theorem dX2_passes_6 : decode cX2_passes 6 = .ok (.istore_n 3, 1) := dk_62 (dk_at dksX2_passes_0 6 rfl rfl)
theorem dX2_passes_7 : decode cX2_passes 7 = .ok (.iload_n 3, 1) := dk_29 (dk_at dksX2_passes_0 7 rfl rfl)
theorem dX2_passes_8 : decode cX2_passes 8 = .ok (.iload_n 1, 1) := dk_27 (dk_at dksX2_passes_0 8 rfl rfl)
theorem dX2_passes_9 : decode cX2_passes 9 = .ok (.if_icmp .ge 13, 3) := dk_162 0 13 (dk_at dksX2_passes_0 9 rfl rfl)
theorem dX2_passes_12 : decode cX2_passes 12 = .ok (.aload_n 0, 1) := dk_42 (dk_at dksX2_passes_0 12 rfl rfl)
theorem dX2_passes_13 : decode cX2_passes 13 = .ok (.invokevirtual 112, 3) := dk_182 0 112 (dk_at dksX2_passes_0 13 rfl rfl)
theorem dX2_passes_16 : decode cX2_passes 16 = .ok (.iinc 3 1, 3) := dk_132 3 1 (dk_at dksX2_passes_0 16 rfl rfl)
theorem dX2_passes_19 : decode cX2_passes 19 = .ok (.goto (-12), 3) := dk_167 255 244 (dk_at dksX2_passes_0 19 rfl rfl)
theorem dX2_passes_22 : decode cX2_passes 22 = .ok (.aload_n 0, 1) := dk_42 (dk_at dksX2_passes_0 22 rfl rfl)
theorem dX2_passes_23 : decode cX2_passes 23 = .ok (.invokevirtual 108, 3) := dk_182 0 108 (dk_at dksX2_passes_1 0 rfl rfl)
theorem dX2_passes_26 : decode cX2_passes 26 = .ok (.iload_n 2, 1) := dk_28 (dk_at dksX2_passes_1 3 rfl rfl)
theorem dX2_passes_27 : decode cX2_passes 27 = .ok (.isub, 1) := dk_100 (dk_at dksX2_passes_1 4 rfl rfl)
theorem dX2_passes_28 : decode cX2_passes 28 = .ok (.ireturn, 1) := dk_172 (dk_at dksX2_passes_1 5 rfl rfl)
abbrev cX2_arrived : ByteArray := prog_7_method_29_code
def yX2_arrived : MethodName := ⟨RX2, "arrived", "()I"⟩
def dkwX2_arrived_1 : List UInt8 := [153, 0, 7, 4, 167, 0, 4, 3, 96, 60, 132, 2, 1, 167, 255, 225, 27, 172]
abbrev dktX2_arrived_1 : List UInt8 := dkwX2_arrived_1 ++ []
def dkwX2_arrived_0 : List UInt8 := [3, 60, 3, 61, 28, 42, 180, 0, 7, 17, 0, 150, 46, 162, 0, 25, 27, 42, 28, 182, 0, 57]
abbrev dktX2_arrived_0 : List UInt8 := dkwX2_arrived_0 ++ dktX2_arrived_1
theorem dksX2_arrived_0 : cX2_arrived.data.toList.drop 0 = dktX2_arrived_0 := by decide +kernel
theorem dksX2_arrived_1 : cX2_arrived.data.toList.drop 22 = dktX2_arrived_1 := dk_seg dksX2_arrived_0 22 rfl rfl
theorem dX2_arrived_0 : decode cX2_arrived 0 = .ok (.iconst 0, 1) := dk_3 (dk_at dksX2_arrived_0 0 rfl rfl)
theorem dX2_arrived_1 : decode cX2_arrived 1 = .ok (.istore_n 1, 1) := dk_60 (dk_at dksX2_arrived_0 1 rfl rfl)
theorem dX2_arrived_2 : decode cX2_arrived 2 = .ok (.iconst 0, 1) := dk_3 (dk_at dksX2_arrived_0 2 rfl rfl)
theorem dX2_arrived_3 : decode cX2_arrived 3 = .ok (.istore_n 2, 1) := dk_61 (dk_at dksX2_arrived_0 3 rfl rfl)
theorem dX2_arrived_4 : decode cX2_arrived 4 = .ok (.iload_n 2, 1) := dk_28 (dk_at dksX2_arrived_0 4 rfl rfl)
theorem dX2_arrived_5 : decode cX2_arrived 5 = .ok (.aload_n 0, 1) := dk_42 (dk_at dksX2_arrived_0 5 rfl rfl)
theorem dX2_arrived_6 : decode cX2_arrived 6 = .ok (.getfield 7, 3) := dk_180 0 7 (dk_at dksX2_arrived_0 6 rfl rfl)
theorem dX2_arrived_9 : decode cX2_arrived 9 = .ok (.sipush 150, 3) := dk_17 0 150 (dk_at dksX2_arrived_0 9 rfl rfl)
theorem dX2_arrived_12 : decode cX2_arrived 12 = .ok (.iaload, 1) := dk_46 (dk_at dksX2_arrived_0 12 rfl rfl)
theorem dX2_arrived_13 : decode cX2_arrived 13 = .ok (.if_icmp .ge 25, 3) := dk_162 0 25 (dk_at dksX2_arrived_0 13 rfl rfl)
theorem dX2_arrived_16 : decode cX2_arrived 16 = .ok (.iload_n 1, 1) := dk_27 (dk_at dksX2_arrived_0 16 rfl rfl)
theorem dX2_arrived_17 : decode cX2_arrived 17 = .ok (.aload_n 0, 1) := dk_42 (dk_at dksX2_arrived_0 17 rfl rfl)
theorem dX2_arrived_18 : decode cX2_arrived 18 = .ok (.iload_n 2, 1) := dk_28 (dk_at dksX2_arrived_0 18 rfl rfl)
theorem dX2_arrived_19 : decode cX2_arrived 19 = .ok (.invokevirtual 57, 3) := dk_182 0 57 (dk_at dksX2_arrived_0 19 rfl rfl)
theorem dX2_arrived_22 : decode cX2_arrived 22 = .ok (.ifCond .eq 7, 3) := dk_153 0 7 (dk_at dksX2_arrived_1 0 rfl rfl)
theorem dX2_arrived_25 : decode cX2_arrived 25 = .ok (.iconst 1, 1) := dk_4 (dk_at dksX2_arrived_1 3 rfl rfl)
theorem dX2_arrived_26 : decode cX2_arrived 26 = .ok (.goto 4, 3) := dk_167 0 4 (dk_at dksX2_arrived_1 4 rfl rfl)
theorem dX2_arrived_29 : decode cX2_arrived 29 = .ok (.iconst 0, 1) := dk_3 (dk_at dksX2_arrived_1 7 rfl rfl)
theorem dX2_arrived_30 : decode cX2_arrived 30 = .ok (.iadd, 1) := dk_96 (dk_at dksX2_arrived_1 8 rfl rfl)
theorem dX2_arrived_31 : decode cX2_arrived 31 = .ok (.istore_n 1, 1) := dk_60 (dk_at dksX2_arrived_1 9 rfl rfl)
theorem dX2_arrived_32 : decode cX2_arrived 32 = .ok (.iinc 2 1, 3) := dk_132 2 1 (dk_at dksX2_arrived_1 10 rfl rfl)
theorem dX2_arrived_35 : decode cX2_arrived 35 = .ok (.goto (-31), 3) := dk_167 255 225 (dk_at dksX2_arrived_1 13 rfl rfl)
theorem dX2_arrived_38 : decode cX2_arrived 38 = .ok (.iload_n 1, 1) := dk_27 (dk_at dksX2_arrived_1 16 rfl rfl)
theorem dX2_arrived_39 : decode cX2_arrived 39 = .ok (.ireturn, 1) := dk_172 (dk_at dksX2_arrived_1 17 rfl rfl)
abbrev cX2_ticks : ByteArray := prog_7_method_28_code
def yX2_ticks : MethodName := ⟨RX2, "ticks", "()V"⟩
def dkwX2_ticks_1 : List UInt8 := [180, 0, 7, 17, 0, 149, 92, 46, 4, 96, 79, 177]
abbrev dktX2_ticks_1 : List UInt8 := dkwX2_ticks_1 ++ []
def dkwX2_ticks_0 : List UInt8 := [3, 60, 27, 8, 162, 0, 14, 42, 27, 182, 0, 102, 132, 1, 1, 167, 255, 243, 42, 182, 0, 105, 42]
abbrev dktX2_ticks_0 : List UInt8 := dkwX2_ticks_0 ++ dktX2_ticks_1
theorem dksX2_ticks_0 : cX2_ticks.data.toList.drop 0 = dktX2_ticks_0 := by decide +kernel
theorem dksX2_ticks_1 : cX2_ticks.data.toList.drop 23 = dktX2_ticks_1 := dk_seg dksX2_ticks_0 23 rfl rfl
theorem dX2_ticks_0 : decode cX2_ticks 0 = .ok (.iconst 0, 1) := dk_3 (dk_at dksX2_ticks_0 0 rfl rfl)
theorem dX2_ticks_1 : decode cX2_ticks 1 = .ok (.istore_n 1, 1) := dk_60 (dk_at dksX2_ticks_0 1 rfl rfl)
theorem dX2_ticks_2 : decode cX2_ticks 2 = .ok (.iload_n 1, 1) := dk_27 (dk_at dksX2_ticks_0 2 rfl rfl)
theorem dX2_ticks_3 : decode cX2_ticks 3 = .ok (.iconst 5, 1) := dk_8 (dk_at dksX2_ticks_0 3 rfl rfl)
theorem dX2_ticks_4 : decode cX2_ticks 4 = .ok (.if_icmp .ge 14, 3) := dk_162 0 14 (dk_at dksX2_ticks_0 4 rfl rfl)
theorem dX2_ticks_7 : decode cX2_ticks 7 = .ok (.aload_n 0, 1) := dk_42 (dk_at dksX2_ticks_0 7 rfl rfl)
theorem dX2_ticks_8 : decode cX2_ticks 8 = .ok (.iload_n 1, 1) := dk_27 (dk_at dksX2_ticks_0 8 rfl rfl)
theorem dX2_ticks_9 : decode cX2_ticks 9 = .ok (.invokevirtual 102, 3) := dk_182 0 102 (dk_at dksX2_ticks_0 9 rfl rfl)
theorem dX2_ticks_12 : decode cX2_ticks 12 = .ok (.iinc 1 1, 3) := dk_132 1 1 (dk_at dksX2_ticks_0 12 rfl rfl)
theorem dX2_ticks_15 : decode cX2_ticks 15 = .ok (.goto (-13), 3) := dk_167 255 243 (dk_at dksX2_ticks_0 15 rfl rfl)
theorem dX2_ticks_18 : decode cX2_ticks 18 = .ok (.aload_n 0, 1) := dk_42 (dk_at dksX2_ticks_0 18 rfl rfl)
theorem dX2_ticks_19 : decode cX2_ticks 19 = .ok (.invokevirtual 105, 3) := dk_182 0 105 (dk_at dksX2_ticks_0 19 rfl rfl)
theorem dX2_ticks_22 : decode cX2_ticks 22 = .ok (.aload_n 0, 1) := dk_42 (dk_at dksX2_ticks_0 22 rfl rfl)
theorem dX2_ticks_23 : decode cX2_ticks 23 = .ok (.getfield 7, 3) := dk_180 0 7 (dk_at dksX2_ticks_1 0 rfl rfl)
theorem dX2_ticks_26 : decode cX2_ticks 26 = .ok (.sipush 149, 3) := dk_17 0 149 (dk_at dksX2_ticks_1 3 rfl rfl)
theorem dX2_ticks_29 : decode cX2_ticks 29 = .ok (.dup2, 1) := dk_92 (dk_at dksX2_ticks_1 6 rfl rfl)
theorem dX2_ticks_30 : decode cX2_ticks 30 = .ok (.iaload, 1) := dk_46 (dk_at dksX2_ticks_1 7 rfl rfl)
theorem dX2_ticks_31 : decode cX2_ticks 31 = .ok (.iconst 1, 1) := dk_4 (dk_at dksX2_ticks_1 8 rfl rfl)
theorem dX2_ticks_32 : decode cX2_ticks 32 = .ok (.iadd, 1) := dk_96 (dk_at dksX2_ticks_1 9 rfl rfl)
theorem dX2_ticks_33 : decode cX2_ticks 33 = .ok (.iastore, 1) := dk_79 (dk_at dksX2_ticks_1 10 rfl rfl)
theorem dX2_ticks_34 : decode cX2_ticks 34 = .ok (.return_, 1) := dk_177 (dk_at dksX2_ticks_1 11 rfl rfl)
abbrev cX2_acts : ByteArray := prog_7_method_26_code
def yX2_acts : MethodName := ⟨RX2, "acts", "(I)V"⟩
def dkwX2_acts_6 : List UInt8 := [182, 0, 93, 177]
abbrev dktX2_acts_6 : List UInt8 := dkwX2_acts_6 ++ []
def dkwX2_acts_5 : List UInt8 := [154, 0, 7, 4, 167, 0, 4, 3, 182, 0, 99, 158, 0, 16, 42, 27, 182, 0, 80, 153, 0, 8, 42, 27]
abbrev dktX2_acts_5 : List UInt8 := dkwX2_acts_5 ++ dktX2_acts_6
def dkwX2_acts_4 : List UInt8 := [182, 0, 80, 153, 0, 46, 42, 27, 182, 0, 93, 42, 29, 182, 0, 96, 167, 0, 33, 42, 27, 28]
abbrev dktX2_acts_4 : List UInt8 := dkwX2_acts_4 ++ dktX2_acts_5
def dkwX2_acts_3 : List UInt8 := [27, 28, 182, 0, 89, 62, 29, 16, 251, 159, 0, 32, 42, 29, 182, 0, 74, 154, 0, 54, 42, 27]
abbrev dktX2_acts_3 : List UInt8 := dkwX2_acts_3 ++ dktX2_acts_4
def dkwX2_acts_2 : List UInt8 := [180, 0, 32, 182, 0, 86, 181, 0, 83, 42, 27, 182, 0, 67, 154, 0, 7, 4, 167, 0, 4, 3, 61, 42]
abbrev dktX2_acts_2 : List UInt8 := dkwX2_acts_2 ++ dktX2_acts_3
def dkwX2_acts_1 : List UInt8 := [180, 0, 32, 182, 0, 60, 27, 160, 0, 24, 42, 180, 0, 83, 16, 251, 160, 0, 15, 42, 42, 42]
abbrev dktX2_acts_1 : List UInt8 := dkwX2_acts_1 ++ dktX2_acts_2
def dkwX2_acts_0 : List UInt8 := [42, 180, 0, 32, 16, 251, 159, 0, 47, 42, 42, 180, 0, 32, 182, 0, 57, 154, 0, 36, 42, 42]
abbrev dktX2_acts_0 : List UInt8 := dkwX2_acts_0 ++ dktX2_acts_1
theorem dksX2_acts_0 : cX2_acts.data.toList.drop 0 = dktX2_acts_0 := by decide +kernel
theorem dksX2_acts_1 : cX2_acts.data.toList.drop 22 = dktX2_acts_1 := dk_seg dksX2_acts_0 22 rfl rfl
theorem dksX2_acts_2 : cX2_acts.data.toList.drop 44 = dktX2_acts_2 := dk_seg dksX2_acts_1 22 rfl rfl
theorem dksX2_acts_3 : cX2_acts.data.toList.drop 68 = dktX2_acts_3 := dk_seg dksX2_acts_2 24 rfl rfl
theorem dksX2_acts_4 : cX2_acts.data.toList.drop 90 = dktX2_acts_4 := dk_seg dksX2_acts_3 22 rfl rfl
theorem dksX2_acts_5 : cX2_acts.data.toList.drop 112 = dktX2_acts_5 := dk_seg dksX2_acts_4 22 rfl rfl
theorem dksX2_acts_6 : cX2_acts.data.toList.drop 136 = dktX2_acts_6 := dk_seg dksX2_acts_5 24 rfl rfl
theorem dX2_acts_0 : decode cX2_acts 0 = .ok (.aload_n 0, 1) := dk_42 (dk_at dksX2_acts_0 0 rfl rfl)
theorem dX2_acts_1 : decode cX2_acts 1 = .ok (.getfield 32, 3) := dk_180 0 32 (dk_at dksX2_acts_0 1 rfl rfl)
theorem dX2_acts_4 : decode cX2_acts 4 = .ok (.bipush (-5), 2) := dk_16 251 (dk_at dksX2_acts_0 4 rfl rfl)
theorem dX2_acts_6 : decode cX2_acts 6 = .ok (.if_icmp .eq 47, 3) := dk_159 0 47 (dk_at dksX2_acts_0 6 rfl rfl)
theorem dX2_acts_9 : decode cX2_acts 9 = .ok (.aload_n 0, 1) := dk_42 (dk_at dksX2_acts_0 9 rfl rfl)
theorem dX2_acts_10 : decode cX2_acts 10 = .ok (.aload_n 0, 1) := dk_42 (dk_at dksX2_acts_0 10 rfl rfl)
theorem dX2_acts_11 : decode cX2_acts 11 = .ok (.getfield 32, 3) := dk_180 0 32 (dk_at dksX2_acts_0 11 rfl rfl)
theorem dX2_acts_14 : decode cX2_acts 14 = .ok (.invokevirtual 57, 3) := dk_182 0 57 (dk_at dksX2_acts_0 14 rfl rfl)
theorem dX2_acts_17 : decode cX2_acts 17 = .ok (.ifCond .ne 36, 3) := dk_154 0 36 (dk_at dksX2_acts_0 17 rfl rfl)
theorem dX2_acts_20 : decode cX2_acts 20 = .ok (.aload_n 0, 1) := dk_42 (dk_at dksX2_acts_0 20 rfl rfl)
theorem dX2_acts_21 : decode cX2_acts 21 = .ok (.aload_n 0, 1) := dk_42 (dk_at dksX2_acts_0 21 rfl rfl)
theorem dX2_acts_22 : decode cX2_acts 22 = .ok (.getfield 32, 3) := dk_180 0 32 (dk_at dksX2_acts_1 0 rfl rfl)
theorem dX2_acts_25 : decode cX2_acts 25 = .ok (.invokevirtual 60, 3) := dk_182 0 60 (dk_at dksX2_acts_1 3 rfl rfl)
theorem dX2_acts_28 : decode cX2_acts 28 = .ok (.iload_n 1, 1) := dk_27 (dk_at dksX2_acts_1 6 rfl rfl)
theorem dX2_acts_29 : decode cX2_acts 29 = .ok (.if_icmp .ne 24, 3) := dk_160 0 24 (dk_at dksX2_acts_1 7 rfl rfl)
theorem dX2_acts_32 : decode cX2_acts 32 = .ok (.aload_n 0, 1) := dk_42 (dk_at dksX2_acts_1 10 rfl rfl)
theorem dX2_acts_33 : decode cX2_acts 33 = .ok (.getfield 83, 3) := dk_180 0 83 (dk_at dksX2_acts_1 11 rfl rfl)
theorem dX2_acts_36 : decode cX2_acts 36 = .ok (.bipush (-5), 2) := dk_16 251 (dk_at dksX2_acts_1 14 rfl rfl)
theorem dX2_acts_38 : decode cX2_acts 38 = .ok (.if_icmp .ne 15, 3) := dk_160 0 15 (dk_at dksX2_acts_1 16 rfl rfl)
theorem dX2_acts_41 : decode cX2_acts 41 = .ok (.aload_n 0, 1) := dk_42 (dk_at dksX2_acts_1 19 rfl rfl)
theorem dX2_acts_42 : decode cX2_acts 42 = .ok (.aload_n 0, 1) := dk_42 (dk_at dksX2_acts_1 20 rfl rfl)
theorem dX2_acts_43 : decode cX2_acts 43 = .ok (.aload_n 0, 1) := dk_42 (dk_at dksX2_acts_1 21 rfl rfl)
theorem dX2_acts_44 : decode cX2_acts 44 = .ok (.getfield 32, 3) := dk_180 0 32 (dk_at dksX2_acts_2 0 rfl rfl)
theorem dX2_acts_47 : decode cX2_acts 47 = .ok (.invokevirtual 86, 3) := dk_182 0 86 (dk_at dksX2_acts_2 3 rfl rfl)
theorem dX2_acts_50 : decode cX2_acts 50 = .ok (.putfield 83, 3) := dk_181 0 83 (dk_at dksX2_acts_2 6 rfl rfl)
theorem dX2_acts_53 : decode cX2_acts 53 = .ok (.aload_n 0, 1) := dk_42 (dk_at dksX2_acts_2 9 rfl rfl)
theorem dX2_acts_54 : decode cX2_acts 54 = .ok (.iload_n 1, 1) := dk_27 (dk_at dksX2_acts_2 10 rfl rfl)
theorem dX2_acts_55 : decode cX2_acts 55 = .ok (.invokevirtual 67, 3) := dk_182 0 67 (dk_at dksX2_acts_2 11 rfl rfl)
theorem dX2_acts_58 : decode cX2_acts 58 = .ok (.ifCond .ne 7, 3) := dk_154 0 7 (dk_at dksX2_acts_2 14 rfl rfl)
theorem dX2_acts_61 : decode cX2_acts 61 = .ok (.iconst 1, 1) := dk_4 (dk_at dksX2_acts_2 17 rfl rfl)
theorem dX2_acts_62 : decode cX2_acts 62 = .ok (.goto 4, 3) := dk_167 0 4 (dk_at dksX2_acts_2 18 rfl rfl)
theorem dX2_acts_65 : decode cX2_acts 65 = .ok (.iconst 0, 1) := dk_3 (dk_at dksX2_acts_2 21 rfl rfl)
theorem dX2_acts_66 : decode cX2_acts 66 = .ok (.istore_n 2, 1) := dk_61 (dk_at dksX2_acts_2 22 rfl rfl)
theorem dX2_acts_67 : decode cX2_acts 67 = .ok (.aload_n 0, 1) := dk_42 (dk_at dksX2_acts_2 23 rfl rfl)
theorem dX2_acts_68 : decode cX2_acts 68 = .ok (.iload_n 1, 1) := dk_27 (dk_at dksX2_acts_3 0 rfl rfl)
theorem dX2_acts_69 : decode cX2_acts 69 = .ok (.iload_n 2, 1) := dk_28 (dk_at dksX2_acts_3 1 rfl rfl)
theorem dX2_acts_70 : decode cX2_acts 70 = .ok (.invokevirtual 89, 3) := dk_182 0 89 (dk_at dksX2_acts_3 2 rfl rfl)
theorem dX2_acts_73 : decode cX2_acts 73 = .ok (.istore_n 3, 1) := dk_62 (dk_at dksX2_acts_3 5 rfl rfl)
theorem dX2_acts_74 : decode cX2_acts 74 = .ok (.iload_n 3, 1) := dk_29 (dk_at dksX2_acts_3 6 rfl rfl)
theorem dX2_acts_75 : decode cX2_acts 75 = .ok (.bipush (-5), 2) := dk_16 251 (dk_at dksX2_acts_3 7 rfl rfl)
theorem dX2_acts_77 : decode cX2_acts 77 = .ok (.if_icmp .eq 32, 3) := dk_159 0 32 (dk_at dksX2_acts_3 9 rfl rfl)
theorem dX2_acts_80 : decode cX2_acts 80 = .ok (.aload_n 0, 1) := dk_42 (dk_at dksX2_acts_3 12 rfl rfl)
theorem dX2_acts_81 : decode cX2_acts 81 = .ok (.iload_n 3, 1) := dk_29 (dk_at dksX2_acts_3 13 rfl rfl)
theorem dX2_acts_82 : decode cX2_acts 82 = .ok (.invokevirtual 74, 3) := dk_182 0 74 (dk_at dksX2_acts_3 14 rfl rfl)
theorem dX2_acts_85 : decode cX2_acts 85 = .ok (.ifCond .ne 54, 3) := dk_154 0 54 (dk_at dksX2_acts_3 17 rfl rfl)
theorem dX2_acts_88 : decode cX2_acts 88 = .ok (.aload_n 0, 1) := dk_42 (dk_at dksX2_acts_3 20 rfl rfl)
theorem dX2_acts_89 : decode cX2_acts 89 = .ok (.iload_n 1, 1) := dk_27 (dk_at dksX2_acts_3 21 rfl rfl)
theorem dX2_acts_90 : decode cX2_acts 90 = .ok (.invokevirtual 80, 3) := dk_182 0 80 (dk_at dksX2_acts_4 0 rfl rfl)
theorem dX2_acts_93 : decode cX2_acts 93 = .ok (.ifCond .eq 46, 3) := dk_153 0 46 (dk_at dksX2_acts_4 3 rfl rfl)
theorem dX2_acts_96 : decode cX2_acts 96 = .ok (.aload_n 0, 1) := dk_42 (dk_at dksX2_acts_4 6 rfl rfl)
theorem dX2_acts_97 : decode cX2_acts 97 = .ok (.iload_n 1, 1) := dk_27 (dk_at dksX2_acts_4 7 rfl rfl)
theorem dX2_acts_98 : decode cX2_acts 98 = .ok (.invokevirtual 93, 3) := dk_182 0 93 (dk_at dksX2_acts_4 8 rfl rfl)
theorem dX2_acts_101 : decode cX2_acts 101 = .ok (.aload_n 0, 1) := dk_42 (dk_at dksX2_acts_4 11 rfl rfl)
theorem dX2_acts_102 : decode cX2_acts 102 = .ok (.iload_n 3, 1) := dk_29 (dk_at dksX2_acts_4 12 rfl rfl)
theorem dX2_acts_103 : decode cX2_acts 103 = .ok (.invokevirtual 96, 3) := dk_182 0 96 (dk_at dksX2_acts_4 13 rfl rfl)
theorem dX2_acts_106 : decode cX2_acts 106 = .ok (.goto 33, 3) := dk_167 0 33 (dk_at dksX2_acts_4 16 rfl rfl)
theorem dX2_acts_109 : decode cX2_acts 109 = .ok (.aload_n 0, 1) := dk_42 (dk_at dksX2_acts_4 19 rfl rfl)
theorem dX2_acts_110 : decode cX2_acts 110 = .ok (.iload_n 1, 1) := dk_27 (dk_at dksX2_acts_4 20 rfl rfl)
theorem dX2_acts_111 : decode cX2_acts 111 = .ok (.iload_n 2, 1) := dk_28 (dk_at dksX2_acts_4 21 rfl rfl)
theorem dX2_acts_112 : decode cX2_acts 112 = .ok (.ifCond .ne 7, 3) := dk_154 0 7 (dk_at dksX2_acts_5 0 rfl rfl)
theorem dX2_acts_115 : decode cX2_acts 115 = .ok (.iconst 1, 1) := dk_4 (dk_at dksX2_acts_5 3 rfl rfl)
theorem dX2_acts_116 : decode cX2_acts 116 = .ok (.goto 4, 3) := dk_167 0 4 (dk_at dksX2_acts_5 4 rfl rfl)
theorem dX2_acts_119 : decode cX2_acts 119 = .ok (.iconst 0, 1) := dk_3 (dk_at dksX2_acts_5 7 rfl rfl)
theorem dX2_acts_120 : decode cX2_acts 120 = .ok (.invokevirtual 99, 3) := dk_182 0 99 (dk_at dksX2_acts_5 8 rfl rfl)
theorem dX2_acts_123 : decode cX2_acts 123 = .ok (.ifCond .le 16, 3) := dk_158 0 16 (dk_at dksX2_acts_5 11 rfl rfl)
theorem dX2_acts_126 : decode cX2_acts 126 = .ok (.aload_n 0, 1) := dk_42 (dk_at dksX2_acts_5 14 rfl rfl)
theorem dX2_acts_127 : decode cX2_acts 127 = .ok (.iload_n 1, 1) := dk_27 (dk_at dksX2_acts_5 15 rfl rfl)
theorem dX2_acts_128 : decode cX2_acts 128 = .ok (.invokevirtual 80, 3) := dk_182 0 80 (dk_at dksX2_acts_5 16 rfl rfl)
theorem dX2_acts_131 : decode cX2_acts 131 = .ok (.ifCond .eq 8, 3) := dk_153 0 8 (dk_at dksX2_acts_5 19 rfl rfl)
theorem dX2_acts_134 : decode cX2_acts 134 = .ok (.aload_n 0, 1) := dk_42 (dk_at dksX2_acts_5 22 rfl rfl)
theorem dX2_acts_135 : decode cX2_acts 135 = .ok (.iload_n 1, 1) := dk_27 (dk_at dksX2_acts_5 23 rfl rfl)
theorem dX2_acts_136 : decode cX2_acts 136 = .ok (.invokevirtual 93, 3) := dk_182 0 93 (dk_at dksX2_acts_6 0 rfl rfl)
theorem dX2_acts_139 : decode cX2_acts 139 = .ok (.return_, 1) := dk_177 (dk_at dksX2_acts_6 3 rfl rfl)
abbrev cX2_lockOf : ByteArray := prog_7_method_14_code
def yX2_lockOf : MethodName := ⟨RX2, "lockOf", "(I)I"⟩
def dkwX2_lockOf_1 : List UInt8 := [100, 172]
abbrev dktX2_lockOf_1 : List UInt8 := dkwX2_lockOf_1 ++ []
def dkwX2_lockOf_0 : List UInt8 := [42, 27, 182, 0, 49, 153, 0, 12, 42, 27, 5, 182, 0, 46, 167, 0, 11, 42, 27, 5, 182, 0, 46, 4]
abbrev dktX2_lockOf_0 : List UInt8 := dkwX2_lockOf_0 ++ dktX2_lockOf_1
theorem dksX2_lockOf_0 : cX2_lockOf.data.toList.drop 0 = dktX2_lockOf_0 := by decide +kernel
theorem dksX2_lockOf_1 : cX2_lockOf.data.toList.drop 24 = dktX2_lockOf_1 := dk_seg dksX2_lockOf_0 24 rfl rfl
theorem dX2_lockOf_0 : decode cX2_lockOf 0 = .ok (.aload_n 0, 1) := dk_42 (dk_at dksX2_lockOf_0 0 rfl rfl)
theorem dX2_lockOf_1 : decode cX2_lockOf 1 = .ok (.iload_n 1, 1) := dk_27 (dk_at dksX2_lockOf_0 1 rfl rfl)
theorem dX2_lockOf_2 : decode cX2_lockOf 2 = .ok (.invokevirtual 49, 3) := dk_182 0 49 (dk_at dksX2_lockOf_0 2 rfl rfl)
theorem dX2_lockOf_5 : decode cX2_lockOf 5 = .ok (.ifCond .eq 12, 3) := dk_153 0 12 (dk_at dksX2_lockOf_0 5 rfl rfl)
theorem dX2_lockOf_8 : decode cX2_lockOf 8 = .ok (.aload_n 0, 1) := dk_42 (dk_at dksX2_lockOf_0 8 rfl rfl)
theorem dX2_lockOf_9 : decode cX2_lockOf 9 = .ok (.iload_n 1, 1) := dk_27 (dk_at dksX2_lockOf_0 9 rfl rfl)
theorem dX2_lockOf_10 : decode cX2_lockOf 10 = .ok (.iconst 2, 1) := dk_5 (dk_at dksX2_lockOf_0 10 rfl rfl)
theorem dX2_lockOf_11 : decode cX2_lockOf 11 = .ok (.invokevirtual 46, 3) := dk_182 0 46 (dk_at dksX2_lockOf_0 11 rfl rfl)
theorem dX2_lockOf_14 : decode cX2_lockOf 14 = .ok (.goto 11, 3) := dk_167 0 11 (dk_at dksX2_lockOf_0 14 rfl rfl)
theorem dX2_lockOf_17 : decode cX2_lockOf 17 = .ok (.aload_n 0, 1) := dk_42 (dk_at dksX2_lockOf_0 17 rfl rfl)
theorem dX2_lockOf_18 : decode cX2_lockOf 18 = .ok (.iload_n 1, 1) := dk_27 (dk_at dksX2_lockOf_0 18 rfl rfl)
theorem dX2_lockOf_19 : decode cX2_lockOf 19 = .ok (.iconst 2, 1) := dk_5 (dk_at dksX2_lockOf_0 19 rfl rfl)
theorem dX2_lockOf_20 : decode cX2_lockOf 20 = .ok (.invokevirtual 46, 3) := dk_182 0 46 (dk_at dksX2_lockOf_0 20 rfl rfl)
theorem dX2_lockOf_23 : decode cX2_lockOf 23 = .ok (.iconst 1, 1) := dk_4 (dk_at dksX2_lockOf_0 23 rfl rfl)
theorem dX2_lockOf_24 : decode cX2_lockOf 24 = .ok (.isub, 1) := dk_100 (dk_at dksX2_lockOf_1 0 rfl rfl)
theorem dX2_lockOf_25 : decode cX2_lockOf 25 = .ok (.ireturn, 1) := dk_172 (dk_at dksX2_lockOf_1 1 rfl rfl)
abbrev cX2_goesUp : ByteArray := prog_7_method_12_code
def yX2_goesUp : MethodName := ⟨RX2, "goesUp", "(I)Z"⟩
def dkwX2_goesUp_0 : List UInt8 := [42, 27, 6, 182, 0, 46, 42, 27, 5, 182, 0, 46, 164, 0, 7, 4, 167, 0, 4, 3, 172]
abbrev dktX2_goesUp_0 : List UInt8 := dkwX2_goesUp_0 ++ []
theorem dksX2_goesUp_0 : cX2_goesUp.data.toList.drop 0 = dktX2_goesUp_0 := by decide +kernel
theorem dX2_goesUp_0 : decode cX2_goesUp 0 = .ok (.aload_n 0, 1) := dk_42 (dk_at dksX2_goesUp_0 0 rfl rfl)
theorem dX2_goesUp_1 : decode cX2_goesUp 1 = .ok (.iload_n 1, 1) := dk_27 (dk_at dksX2_goesUp_0 1 rfl rfl)
theorem dX2_goesUp_2 : decode cX2_goesUp 2 = .ok (.iconst 3, 1) := dk_6 (dk_at dksX2_goesUp_0 2 rfl rfl)
theorem dX2_goesUp_3 : decode cX2_goesUp 3 = .ok (.invokevirtual 46, 3) := dk_182 0 46 (dk_at dksX2_goesUp_0 3 rfl rfl)
theorem dX2_goesUp_6 : decode cX2_goesUp 6 = .ok (.aload_n 0, 1) := dk_42 (dk_at dksX2_goesUp_0 6 rfl rfl)
theorem dX2_goesUp_7 : decode cX2_goesUp 7 = .ok (.iload_n 1, 1) := dk_27 (dk_at dksX2_goesUp_0 7 rfl rfl)
theorem dX2_goesUp_8 : decode cX2_goesUp 8 = .ok (.iconst 2, 1) := dk_5 (dk_at dksX2_goesUp_0 8 rfl rfl)
theorem dX2_goesUp_9 : decode cX2_goesUp 9 = .ok (.invokevirtual 46, 3) := dk_182 0 46 (dk_at dksX2_goesUp_0 9 rfl rfl)
theorem dX2_goesUp_12 : decode cX2_goesUp 12 = .ok (.if_icmp .le 7, 3) := dk_164 0 7 (dk_at dksX2_goesUp_0 12 rfl rfl)
theorem dX2_goesUp_15 : decode cX2_goesUp 15 = .ok (.iconst 1, 1) := dk_4 (dk_at dksX2_goesUp_0 15 rfl rfl)
theorem dX2_goesUp_16 : decode cX2_goesUp 16 = .ok (.goto 4, 3) := dk_167 0 4 (dk_at dksX2_goesUp_0 16 rfl rfl)
theorem dX2_goesUp_19 : decode cX2_goesUp 19 = .ok (.iconst 0, 1) := dk_3 (dk_at dksX2_goesUp_0 19 rfl rfl)
theorem dX2_goesUp_20 : decode cX2_goesUp 20 = .ok (.ireturn, 1) := dk_172 (dk_at dksX2_goesUp_0 20 rfl rfl)
abbrev cX2_hindrance : ByteArray := prog_7_method_25_code
def yX2_hindrance : MethodName := ⟨RX2, "hindrance", "(I)I"⟩
def dkwX2_hindrance_2 : List UInt8 := [153, 0, 7, 3, 167, 0, 4, 8, 172]
abbrev dktX2_hindrance_2 : List UInt8 := dkwX2_hindrance_2 ++ []
def dkwX2_hindrance_1 : List UInt8 := [6, 172, 42, 28, 182, 0, 67, 42, 27, 182, 0, 49, 160, 0, 7, 7, 167, 0, 16, 42, 28, 182, 0, 80]
abbrev dktX2_hindrance_1 : List UInt8 := dkwX2_hindrance_1 ++ dktX2_hindrance_2
def dkwX2_hindrance_0 : List UInt8 := [42, 27, 182, 0, 60, 61, 42, 27, 182, 0, 74, 153, 0, 5, 5, 172, 42, 27, 182, 0, 77, 158, 0, 5]
abbrev dktX2_hindrance_0 : List UInt8 := dkwX2_hindrance_0 ++ dktX2_hindrance_1
theorem dksX2_hindrance_0 : cX2_hindrance.data.toList.drop 0 = dktX2_hindrance_0 := by decide +kernel
theorem dksX2_hindrance_1 : cX2_hindrance.data.toList.drop 24 = dktX2_hindrance_1 := dk_seg dksX2_hindrance_0 24 rfl rfl
theorem dksX2_hindrance_2 : cX2_hindrance.data.toList.drop 48 = dktX2_hindrance_2 := dk_seg dksX2_hindrance_1 24 rfl rfl
theorem dX2_hindrance_0 : decode cX2_hindrance 0 = .ok (.aload_n 0, 1) := dk_42 (dk_at dksX2_hindrance_0 0 rfl rfl)
theorem dX2_hindrance_1 : decode cX2_hindrance 1 = .ok (.iload_n 1, 1) := dk_27 (dk_at dksX2_hindrance_0 1 rfl rfl)
theorem dX2_hindrance_2 : decode cX2_hindrance 2 = .ok (.invokevirtual 60, 3) := dk_182 0 60 (dk_at dksX2_hindrance_0 2 rfl rfl)
theorem dX2_hindrance_5 : decode cX2_hindrance 5 = .ok (.istore_n 2, 1) := dk_61 (dk_at dksX2_hindrance_0 5 rfl rfl)
theorem dX2_hindrance_6 : decode cX2_hindrance 6 = .ok (.aload_n 0, 1) := dk_42 (dk_at dksX2_hindrance_0 6 rfl rfl)
theorem dX2_hindrance_7 : decode cX2_hindrance 7 = .ok (.iload_n 1, 1) := dk_27 (dk_at dksX2_hindrance_0 7 rfl rfl)
theorem dX2_hindrance_8 : decode cX2_hindrance 8 = .ok (.invokevirtual 74, 3) := dk_182 0 74 (dk_at dksX2_hindrance_0 8 rfl rfl)
theorem dX2_hindrance_11 : decode cX2_hindrance 11 = .ok (.ifCond .eq 5, 3) := dk_153 0 5 (dk_at dksX2_hindrance_0 11 rfl rfl)
theorem dX2_hindrance_14 : decode cX2_hindrance 14 = .ok (.iconst 2, 1) := dk_5 (dk_at dksX2_hindrance_0 14 rfl rfl)
theorem dX2_hindrance_15 : decode cX2_hindrance 15 = .ok (.ireturn, 1) := dk_172 (dk_at dksX2_hindrance_0 15 rfl rfl)
theorem dX2_hindrance_16 : decode cX2_hindrance 16 = .ok (.aload_n 0, 1) := dk_42 (dk_at dksX2_hindrance_0 16 rfl rfl)
theorem dX2_hindrance_17 : decode cX2_hindrance 17 = .ok (.iload_n 1, 1) := dk_27 (dk_at dksX2_hindrance_0 17 rfl rfl)
theorem dX2_hindrance_18 : decode cX2_hindrance 18 = .ok (.invokevirtual 77, 3) := dk_182 0 77 (dk_at dksX2_hindrance_0 18 rfl rfl)
theorem dX2_hindrance_21 : decode cX2_hindrance 21 = .ok (.ifCond .le 5, 3) := dk_158 0 5 (dk_at dksX2_hindrance_0 21 rfl rfl)
theorem dX2_hindrance_24 : decode cX2_hindrance 24 = .ok (.iconst 3, 1) := dk_6 (dk_at dksX2_hindrance_1 0 rfl rfl)
theorem dX2_hindrance_25 : decode cX2_hindrance 25 = .ok (.ireturn, 1) := dk_172 (dk_at dksX2_hindrance_1 1 rfl rfl)
theorem dX2_hindrance_26 : decode cX2_hindrance 26 = .ok (.aload_n 0, 1) := dk_42 (dk_at dksX2_hindrance_1 2 rfl rfl)
theorem dX2_hindrance_27 : decode cX2_hindrance 27 = .ok (.iload_n 2, 1) := dk_28 (dk_at dksX2_hindrance_1 3 rfl rfl)
theorem dX2_hindrance_28 : decode cX2_hindrance 28 = .ok (.invokevirtual 67, 3) := dk_182 0 67 (dk_at dksX2_hindrance_1 4 rfl rfl)
theorem dX2_hindrance_31 : decode cX2_hindrance 31 = .ok (.aload_n 0, 1) := dk_42 (dk_at dksX2_hindrance_1 7 rfl rfl)
theorem dX2_hindrance_32 : decode cX2_hindrance 32 = .ok (.iload_n 1, 1) := dk_27 (dk_at dksX2_hindrance_1 8 rfl rfl)
theorem dX2_hindrance_33 : decode cX2_hindrance 33 = .ok (.invokevirtual 49, 3) := dk_182 0 49 (dk_at dksX2_hindrance_1 9 rfl rfl)
theorem dX2_hindrance_36 : decode cX2_hindrance 36 = .ok (.if_icmp .ne 7, 3) := dk_160 0 7 (dk_at dksX2_hindrance_1 12 rfl rfl)
theorem dX2_hindrance_39 : decode cX2_hindrance 39 = .ok (.iconst 4, 1) := dk_7 (dk_at dksX2_hindrance_1 15 rfl rfl)
theorem dX2_hindrance_40 : decode cX2_hindrance 40 = .ok (.goto 16, 3) := dk_167 0 16 (dk_at dksX2_hindrance_1 16 rfl rfl)
theorem dX2_hindrance_43 : decode cX2_hindrance 43 = .ok (.aload_n 0, 1) := dk_42 (dk_at dksX2_hindrance_1 19 rfl rfl)
theorem dX2_hindrance_44 : decode cX2_hindrance 44 = .ok (.iload_n 2, 1) := dk_28 (dk_at dksX2_hindrance_1 20 rfl rfl)
theorem dX2_hindrance_45 : decode cX2_hindrance 45 = .ok (.invokevirtual 80, 3) := dk_182 0 80 (dk_at dksX2_hindrance_1 21 rfl rfl)
theorem dX2_hindrance_48 : decode cX2_hindrance 48 = .ok (.ifCond .eq 7, 3) := dk_153 0 7 (dk_at dksX2_hindrance_2 0 rfl rfl)
theorem dX2_hindrance_51 : decode cX2_hindrance 51 = .ok (.iconst 0, 1) := dk_3 (dk_at dksX2_hindrance_2 3 rfl rfl)
theorem dX2_hindrance_52 : decode cX2_hindrance 52 = .ok (.goto 4, 3) := dk_167 0 4 (dk_at dksX2_hindrance_2 4 rfl rfl)
theorem dX2_hindrance_55 : decode cX2_hindrance 55 = .ok (.iconst 5, 1) := dk_8 (dk_at dksX2_hindrance_2 7 rfl rfl)
theorem dX2_hindrance_56 : decode cX2_hindrance 56 = .ok (.ireturn, 1) := dk_172 (dk_at dksX2_hindrance_2 8 rfl rfl)
abbrev cX2_isAground : ByteArray := prog_7_method_15_code
def yX2_isAground : MethodName := ⟨RX2, "isAground", "(I)Z"⟩
def dkwX2_isAground_1 : List UInt8 := [42, 180, 0, 7, 3, 42, 27, 182, 0, 53, 96, 46, 28, 162, 0, 7, 4, 167, 0, 4, 3, 172]
abbrev dktX2_isAground_1 : List UInt8 := dkwX2_isAground_1 ++ []
def dkwX2_isAground_0 : List UInt8 := [42, 27, 4, 182, 0, 46, 61, 42, 180, 0, 7, 3, 42, 27, 5, 182, 0, 46, 96, 46, 28, 161, 0, 19]
abbrev dktX2_isAground_0 : List UInt8 := dkwX2_isAground_0 ++ dktX2_isAground_1
theorem dksX2_isAground_0 : cX2_isAground.data.toList.drop 0 = dktX2_isAground_0 := by decide +kernel
theorem dksX2_isAground_1 : cX2_isAground.data.toList.drop 24 = dktX2_isAground_1 := dk_seg dksX2_isAground_0 24 rfl rfl
theorem dX2_isAground_0 : decode cX2_isAground 0 = .ok (.aload_n 0, 1) := dk_42 (dk_at dksX2_isAground_0 0 rfl rfl)
theorem dX2_isAground_1 : decode cX2_isAground 1 = .ok (.iload_n 1, 1) := dk_27 (dk_at dksX2_isAground_0 1 rfl rfl)
theorem dX2_isAground_2 : decode cX2_isAground 2 = .ok (.iconst 1, 1) := dk_4 (dk_at dksX2_isAground_0 2 rfl rfl)
theorem dX2_isAground_3 : decode cX2_isAground 3 = .ok (.invokevirtual 46, 3) := dk_182 0 46 (dk_at dksX2_isAground_0 3 rfl rfl)
theorem dX2_isAground_6 : decode cX2_isAground 6 = .ok (.istore_n 2, 1) := dk_61 (dk_at dksX2_isAground_0 6 rfl rfl)
theorem dX2_isAground_7 : decode cX2_isAground 7 = .ok (.aload_n 0, 1) := dk_42 (dk_at dksX2_isAground_0 7 rfl rfl)
theorem dX2_isAground_8 : decode cX2_isAground 8 = .ok (.getfield 7, 3) := dk_180 0 7 (dk_at dksX2_isAground_0 8 rfl rfl)
theorem dX2_isAground_11 : decode cX2_isAground 11 = .ok (.iconst 0, 1) := dk_3 (dk_at dksX2_isAground_0 11 rfl rfl)
theorem dX2_isAground_12 : decode cX2_isAground 12 = .ok (.aload_n 0, 1) := dk_42 (dk_at dksX2_isAground_0 12 rfl rfl)
theorem dX2_isAground_13 : decode cX2_isAground 13 = .ok (.iload_n 1, 1) := dk_27 (dk_at dksX2_isAground_0 13 rfl rfl)
theorem dX2_isAground_14 : decode cX2_isAground 14 = .ok (.iconst 2, 1) := dk_5 (dk_at dksX2_isAground_0 14 rfl rfl)
theorem dX2_isAground_15 : decode cX2_isAground 15 = .ok (.invokevirtual 46, 3) := dk_182 0 46 (dk_at dksX2_isAground_0 15 rfl rfl)
theorem dX2_isAground_18 : decode cX2_isAground 18 = .ok (.iadd, 1) := dk_96 (dk_at dksX2_isAground_0 18 rfl rfl)
theorem dX2_isAground_19 : decode cX2_isAground 19 = .ok (.iaload, 1) := dk_46 (dk_at dksX2_isAground_0 19 rfl rfl)
theorem dX2_isAground_20 : decode cX2_isAground 20 = .ok (.iload_n 2, 1) := dk_28 (dk_at dksX2_isAground_0 20 rfl rfl)
theorem dX2_isAground_21 : decode cX2_isAground 21 = .ok (.if_icmp .lt 19, 3) := dk_161 0 19 (dk_at dksX2_isAground_0 21 rfl rfl)
theorem dX2_isAground_24 : decode cX2_isAground 24 = .ok (.aload_n 0, 1) := dk_42 (dk_at dksX2_isAground_1 0 rfl rfl)
theorem dX2_isAground_25 : decode cX2_isAground 25 = .ok (.getfield 7, 3) := dk_180 0 7 (dk_at dksX2_isAground_1 1 rfl rfl)
theorem dX2_isAground_28 : decode cX2_isAground 28 = .ok (.iconst 0, 1) := dk_3 (dk_at dksX2_isAground_1 4 rfl rfl)
theorem dX2_isAground_29 : decode cX2_isAground 29 = .ok (.aload_n 0, 1) := dk_42 (dk_at dksX2_isAground_1 5 rfl rfl)
theorem dX2_isAground_30 : decode cX2_isAground 30 = .ok (.iload_n 1, 1) := dk_27 (dk_at dksX2_isAground_1 6 rfl rfl)
theorem dX2_isAground_31 : decode cX2_isAground 31 = .ok (.invokevirtual 53, 3) := dk_182 0 53 (dk_at dksX2_isAground_1 7 rfl rfl)
theorem dX2_isAground_34 : decode cX2_isAground 34 = .ok (.iadd, 1) := dk_96 (dk_at dksX2_isAground_1 10 rfl rfl)
theorem dX2_isAground_35 : decode cX2_isAground 35 = .ok (.iaload, 1) := dk_46 (dk_at dksX2_isAground_1 11 rfl rfl)
theorem dX2_isAground_36 : decode cX2_isAground 36 = .ok (.iload_n 2, 1) := dk_28 (dk_at dksX2_isAground_1 12 rfl rfl)
theorem dX2_isAground_37 : decode cX2_isAground 37 = .ok (.if_icmp .ge 7, 3) := dk_162 0 7 (dk_at dksX2_isAground_1 13 rfl rfl)
theorem dX2_isAground_40 : decode cX2_isAground 40 = .ok (.iconst 1, 1) := dk_4 (dk_at dksX2_isAground_1 16 rfl rfl)
theorem dX2_isAground_41 : decode cX2_isAground 41 = .ok (.goto 4, 3) := dk_167 0 4 (dk_at dksX2_isAground_1 17 rfl rfl)
theorem dX2_isAground_44 : decode cX2_isAground 44 = .ok (.iconst 0, 1) := dk_3 (dk_at dksX2_isAground_1 20 rfl rfl)
theorem dX2_isAground_45 : decode cX2_isAground 45 = .ok (.ireturn, 1) := dk_172 (dk_at dksX2_isAground_1 21 rfl rfl)
abbrev cX2_nextOf : ByteArray := prog_7_method_13_code
def yX2_nextOf : MethodName := ⟨RX2, "nextOf", "(I)I"⟩
def dkwX2_nextOf_0 : List UInt8 := [42, 27, 5, 182, 0, 46, 42, 27, 182, 0, 49, 153, 0, 7, 4, 167, 0, 4, 2, 96, 172]
abbrev dktX2_nextOf_0 : List UInt8 := dkwX2_nextOf_0 ++ []
theorem dksX2_nextOf_0 : cX2_nextOf.data.toList.drop 0 = dktX2_nextOf_0 := by decide +kernel
theorem dX2_nextOf_0 : decode cX2_nextOf 0 = .ok (.aload_n 0, 1) := dk_42 (dk_at dksX2_nextOf_0 0 rfl rfl)
theorem dX2_nextOf_1 : decode cX2_nextOf 1 = .ok (.iload_n 1, 1) := dk_27 (dk_at dksX2_nextOf_0 1 rfl rfl)
theorem dX2_nextOf_2 : decode cX2_nextOf 2 = .ok (.iconst 2, 1) := dk_5 (dk_at dksX2_nextOf_0 2 rfl rfl)
theorem dX2_nextOf_3 : decode cX2_nextOf 3 = .ok (.invokevirtual 46, 3) := dk_182 0 46 (dk_at dksX2_nextOf_0 3 rfl rfl)
theorem dX2_nextOf_6 : decode cX2_nextOf 6 = .ok (.aload_n 0, 1) := dk_42 (dk_at dksX2_nextOf_0 6 rfl rfl)
theorem dX2_nextOf_7 : decode cX2_nextOf 7 = .ok (.iload_n 1, 1) := dk_27 (dk_at dksX2_nextOf_0 7 rfl rfl)
theorem dX2_nextOf_8 : decode cX2_nextOf 8 = .ok (.invokevirtual 49, 3) := dk_182 0 49 (dk_at dksX2_nextOf_0 8 rfl rfl)
theorem dX2_nextOf_11 : decode cX2_nextOf 11 = .ok (.ifCond .eq 7, 3) := dk_153 0 7 (dk_at dksX2_nextOf_0 11 rfl rfl)
theorem dX2_nextOf_14 : decode cX2_nextOf 14 = .ok (.iconst 1, 1) := dk_4 (dk_at dksX2_nextOf_0 14 rfl rfl)
theorem dX2_nextOf_15 : decode cX2_nextOf 15 = .ok (.goto 4, 3) := dk_167 0 4 (dk_at dksX2_nextOf_0 15 rfl rfl)
theorem dX2_nextOf_18 : decode cX2_nextOf 18 = .ok (.iconst (-1), 1) := dk_2 (dk_at dksX2_nextOf_0 18 rfl rfl)
theorem dX2_nextOf_19 : decode cX2_nextOf 19 = .ok (.iadd, 1) := dk_96 (dk_at dksX2_nextOf_0 19 rfl rfl)
theorem dX2_nextOf_20 : decode cX2_nextOf 20 = .ok (.ireturn, 1) := dk_172 (dk_at dksX2_nextOf_0 20 rfl rfl)
abbrev cX2_placeOf : ByteArray := prog_7_method_19_code
def yX2_placeOf : MethodName := ⟨RX2, "placeOf", "(I)I"⟩
def dkwX2_placeOf_2 : List UInt8 := [182, 0, 46, 162, 0, 7, 4, 167, 0, 4, 3, 96, 61, 132, 3, 1, 167, 255, 198, 28, 172]
abbrev dktX2_placeOf_2 : List UInt8 := dkwX2_placeOf_2 ++ []
def dkwX2_placeOf_1 : List UInt8 := [42, 27, 182, 0, 49, 182, 0, 63, 153, 0, 24, 42, 29, 16, 7, 182, 0, 46, 42, 27, 16, 7]
abbrev dktX2_placeOf_1 : List UInt8 := dkwX2_placeOf_1 ++ dktX2_placeOf_2
def dkwX2_placeOf_0 : List UInt8 := [3, 61, 3, 62, 29, 42, 180, 0, 7, 17, 0, 150, 46, 162, 0, 52, 28, 42, 29, 42, 27, 182, 0, 60]
abbrev dktX2_placeOf_0 : List UInt8 := dkwX2_placeOf_0 ++ dktX2_placeOf_1
theorem dksX2_placeOf_0 : cX2_placeOf.data.toList.drop 0 = dktX2_placeOf_0 := by decide +kernel
theorem dksX2_placeOf_1 : cX2_placeOf.data.toList.drop 24 = dktX2_placeOf_1 := dk_seg dksX2_placeOf_0 24 rfl rfl
theorem dksX2_placeOf_2 : cX2_placeOf.data.toList.drop 46 = dktX2_placeOf_2 := dk_seg dksX2_placeOf_1 22 rfl rfl
theorem dX2_placeOf_0 : decode cX2_placeOf 0 = .ok (.iconst 0, 1) := dk_3 (dk_at dksX2_placeOf_0 0 rfl rfl)
theorem dX2_placeOf_1 : decode cX2_placeOf 1 = .ok (.istore_n 2, 1) := dk_61 (dk_at dksX2_placeOf_0 1 rfl rfl)
theorem dX2_placeOf_2 : decode cX2_placeOf 2 = .ok (.iconst 0, 1) := dk_3 (dk_at dksX2_placeOf_0 2 rfl rfl)
theorem dX2_placeOf_3 : decode cX2_placeOf 3 = .ok (.istore_n 3, 1) := dk_62 (dk_at dksX2_placeOf_0 3 rfl rfl)
theorem dX2_placeOf_4 : decode cX2_placeOf 4 = .ok (.iload_n 3, 1) := dk_29 (dk_at dksX2_placeOf_0 4 rfl rfl)
theorem dX2_placeOf_5 : decode cX2_placeOf 5 = .ok (.aload_n 0, 1) := dk_42 (dk_at dksX2_placeOf_0 5 rfl rfl)
theorem dX2_placeOf_6 : decode cX2_placeOf 6 = .ok (.getfield 7, 3) := dk_180 0 7 (dk_at dksX2_placeOf_0 6 rfl rfl)
theorem dX2_placeOf_9 : decode cX2_placeOf 9 = .ok (.sipush 150, 3) := dk_17 0 150 (dk_at dksX2_placeOf_0 9 rfl rfl)
theorem dX2_placeOf_12 : decode cX2_placeOf 12 = .ok (.iaload, 1) := dk_46 (dk_at dksX2_placeOf_0 12 rfl rfl)
theorem dX2_placeOf_13 : decode cX2_placeOf 13 = .ok (.if_icmp .ge 52, 3) := dk_162 0 52 (dk_at dksX2_placeOf_0 13 rfl rfl)
theorem dX2_placeOf_16 : decode cX2_placeOf 16 = .ok (.iload_n 2, 1) := dk_28 (dk_at dksX2_placeOf_0 16 rfl rfl)
theorem dX2_placeOf_17 : decode cX2_placeOf 17 = .ok (.aload_n 0, 1) := dk_42 (dk_at dksX2_placeOf_0 17 rfl rfl)
theorem dX2_placeOf_18 : decode cX2_placeOf 18 = .ok (.iload_n 3, 1) := dk_29 (dk_at dksX2_placeOf_0 18 rfl rfl)
theorem dX2_placeOf_19 : decode cX2_placeOf 19 = .ok (.aload_n 0, 1) := dk_42 (dk_at dksX2_placeOf_0 19 rfl rfl)
theorem dX2_placeOf_20 : decode cX2_placeOf 20 = .ok (.iload_n 1, 1) := dk_27 (dk_at dksX2_placeOf_0 20 rfl rfl)
theorem dX2_placeOf_21 : decode cX2_placeOf 21 = .ok (.invokevirtual 60, 3) := dk_182 0 60 (dk_at dksX2_placeOf_0 21 rfl rfl)
theorem dX2_placeOf_24 : decode cX2_placeOf 24 = .ok (.aload_n 0, 1) := dk_42 (dk_at dksX2_placeOf_1 0 rfl rfl)
theorem dX2_placeOf_25 : decode cX2_placeOf 25 = .ok (.iload_n 1, 1) := dk_27 (dk_at dksX2_placeOf_1 1 rfl rfl)
theorem dX2_placeOf_26 : decode cX2_placeOf 26 = .ok (.invokevirtual 49, 3) := dk_182 0 49 (dk_at dksX2_placeOf_1 2 rfl rfl)
theorem dX2_placeOf_29 : decode cX2_placeOf 29 = .ok (.invokevirtual 63, 3) := dk_182 0 63 (dk_at dksX2_placeOf_1 5 rfl rfl)
theorem dX2_placeOf_32 : decode cX2_placeOf 32 = .ok (.ifCond .eq 24, 3) := dk_153 0 24 (dk_at dksX2_placeOf_1 8 rfl rfl)
theorem dX2_placeOf_35 : decode cX2_placeOf 35 = .ok (.aload_n 0, 1) := dk_42 (dk_at dksX2_placeOf_1 11 rfl rfl)
theorem dX2_placeOf_36 : decode cX2_placeOf 36 = .ok (.iload_n 3, 1) := dk_29 (dk_at dksX2_placeOf_1 12 rfl rfl)
theorem dX2_placeOf_37 : decode cX2_placeOf 37 = .ok (.bipush 7, 2) := dk_16 7 (dk_at dksX2_placeOf_1 13 rfl rfl)
theorem dX2_placeOf_39 : decode cX2_placeOf 39 = .ok (.invokevirtual 46, 3) := dk_182 0 46 (dk_at dksX2_placeOf_1 15 rfl rfl)
theorem dX2_placeOf_42 : decode cX2_placeOf 42 = .ok (.aload_n 0, 1) := dk_42 (dk_at dksX2_placeOf_1 18 rfl rfl)
theorem dX2_placeOf_43 : decode cX2_placeOf 43 = .ok (.iload_n 1, 1) := dk_27 (dk_at dksX2_placeOf_1 19 rfl rfl)
theorem dX2_placeOf_44 : decode cX2_placeOf 44 = .ok (.bipush 7, 2) := dk_16 7 (dk_at dksX2_placeOf_1 20 rfl rfl)
theorem dX2_placeOf_46 : decode cX2_placeOf 46 = .ok (.invokevirtual 46, 3) := dk_182 0 46 (dk_at dksX2_placeOf_2 0 rfl rfl)
theorem dX2_placeOf_49 : decode cX2_placeOf 49 = .ok (.if_icmp .ge 7, 3) := dk_162 0 7 (dk_at dksX2_placeOf_2 3 rfl rfl)
theorem dX2_placeOf_52 : decode cX2_placeOf 52 = .ok (.iconst 1, 1) := dk_4 (dk_at dksX2_placeOf_2 6 rfl rfl)
theorem dX2_placeOf_53 : decode cX2_placeOf 53 = .ok (.goto 4, 3) := dk_167 0 4 (dk_at dksX2_placeOf_2 7 rfl rfl)
theorem dX2_placeOf_56 : decode cX2_placeOf 56 = .ok (.iconst 0, 1) := dk_3 (dk_at dksX2_placeOf_2 10 rfl rfl)
theorem dX2_placeOf_57 : decode cX2_placeOf 57 = .ok (.iadd, 1) := dk_96 (dk_at dksX2_placeOf_2 11 rfl rfl)
theorem dX2_placeOf_58 : decode cX2_placeOf 58 = .ok (.istore_n 2, 1) := dk_61 (dk_at dksX2_placeOf_2 12 rfl rfl)
theorem dX2_placeOf_59 : decode cX2_placeOf 59 = .ok (.iinc 3 1, 3) := dk_132 3 1 (dk_at dksX2_placeOf_2 13 rfl rfl)
theorem dX2_placeOf_62 : decode cX2_placeOf 62 = .ok (.goto (-58), 3) := dk_167 255 198 (dk_at dksX2_placeOf_2 16 rfl rfl)
theorem dX2_placeOf_65 : decode cX2_placeOf 65 = .ok (.iload_n 2, 1) := dk_28 (dk_at dksX2_placeOf_2 19 rfl rfl)
theorem dX2_placeOf_66 : decode cX2_placeOf 66 = .ok (.ireturn, 1) := dk_172 (dk_at dksX2_placeOf_2 20 rfl rfl)
abbrev cX2_waitsAt : ByteArray := prog_7_method_16_code
def yX2_waitsAt : MethodName := ⟨RX2, "waitsAt", "(IIZ)Z"⟩
def dkwX2_waitsAt_1 : List UInt8 := [160, 0, 7, 4, 167, 0, 4, 3, 172]
abbrev dktX2_waitsAt_1 : List UInt8 := dkwX2_waitsAt_1 ++ []
def dkwX2_waitsAt_0 : List UInt8 := [42, 27, 182, 0, 57, 154, 0, 25, 42, 27, 182, 0, 60, 28, 160, 0, 16, 42, 27, 182, 0, 49, 29]
abbrev dktX2_waitsAt_0 : List UInt8 := dkwX2_waitsAt_0 ++ dktX2_waitsAt_1
theorem dksX2_waitsAt_0 : cX2_waitsAt.data.toList.drop 0 = dktX2_waitsAt_0 := by decide +kernel
theorem dksX2_waitsAt_1 : cX2_waitsAt.data.toList.drop 23 = dktX2_waitsAt_1 := dk_seg dksX2_waitsAt_0 23 rfl rfl
theorem dX2_waitsAt_0 : decode cX2_waitsAt 0 = .ok (.aload_n 0, 1) := dk_42 (dk_at dksX2_waitsAt_0 0 rfl rfl)
theorem dX2_waitsAt_1 : decode cX2_waitsAt 1 = .ok (.iload_n 1, 1) := dk_27 (dk_at dksX2_waitsAt_0 1 rfl rfl)
theorem dX2_waitsAt_2 : decode cX2_waitsAt 2 = .ok (.invokevirtual 57, 3) := dk_182 0 57 (dk_at dksX2_waitsAt_0 2 rfl rfl)
theorem dX2_waitsAt_5 : decode cX2_waitsAt 5 = .ok (.ifCond .ne 25, 3) := dk_154 0 25 (dk_at dksX2_waitsAt_0 5 rfl rfl)
theorem dX2_waitsAt_8 : decode cX2_waitsAt 8 = .ok (.aload_n 0, 1) := dk_42 (dk_at dksX2_waitsAt_0 8 rfl rfl)
theorem dX2_waitsAt_9 : decode cX2_waitsAt 9 = .ok (.iload_n 1, 1) := dk_27 (dk_at dksX2_waitsAt_0 9 rfl rfl)
theorem dX2_waitsAt_10 : decode cX2_waitsAt 10 = .ok (.invokevirtual 60, 3) := dk_182 0 60 (dk_at dksX2_waitsAt_0 10 rfl rfl)
theorem dX2_waitsAt_13 : decode cX2_waitsAt 13 = .ok (.iload_n 2, 1) := dk_28 (dk_at dksX2_waitsAt_0 13 rfl rfl)
theorem dX2_waitsAt_14 : decode cX2_waitsAt 14 = .ok (.if_icmp .ne 16, 3) := dk_160 0 16 (dk_at dksX2_waitsAt_0 14 rfl rfl)
theorem dX2_waitsAt_17 : decode cX2_waitsAt 17 = .ok (.aload_n 0, 1) := dk_42 (dk_at dksX2_waitsAt_0 17 rfl rfl)
theorem dX2_waitsAt_18 : decode cX2_waitsAt 18 = .ok (.iload_n 1, 1) := dk_27 (dk_at dksX2_waitsAt_0 18 rfl rfl)
theorem dX2_waitsAt_19 : decode cX2_waitsAt 19 = .ok (.invokevirtual 49, 3) := dk_182 0 49 (dk_at dksX2_waitsAt_0 19 rfl rfl)
theorem dX2_waitsAt_22 : decode cX2_waitsAt 22 = .ok (.iload_n 3, 1) := dk_29 (dk_at dksX2_waitsAt_0 22 rfl rfl)
theorem dX2_waitsAt_23 : decode cX2_waitsAt 23 = .ok (.if_icmp .ne 7, 3) := dk_160 0 7 (dk_at dksX2_waitsAt_1 0 rfl rfl)
theorem dX2_waitsAt_26 : decode cX2_waitsAt 26 = .ok (.iconst 1, 1) := dk_4 (dk_at dksX2_waitsAt_1 3 rfl rfl)
theorem dX2_waitsAt_27 : decode cX2_waitsAt 27 = .ok (.goto 4, 3) := dk_167 0 4 (dk_at dksX2_waitsAt_1 4 rfl rfl)
theorem dX2_waitsAt_30 : decode cX2_waitsAt 30 = .ok (.iconst 0, 1) := dk_3 (dk_at dksX2_waitsAt_1 7 rfl rfl)
theorem dX2_waitsAt_31 : decode cX2_waitsAt 31 = .ok (.ireturn, 1) := dk_172 (dk_at dksX2_waitsAt_1 8 rfl rfl)
abbrev cX2_firstOf : ByteArray := prog_7_method_18_code
def yX2_firstOf : MethodName := ⟨RX2, "firstOf", "(IZ)I"⟩
def dkwX2_firstOf_3 : List UInt8 := [62, 132, 4, 1, 167, 255, 186, 29, 172]
abbrev dktX2_firstOf_3 : List UInt8 := dkwX2_firstOf_3 ++ []
def dkwX2_firstOf_2 : List UInt8 := [182, 0, 46, 162, 0, 7, 4, 167, 0, 4, 3, 54, 5, 21, 5, 153, 0, 8, 21, 4, 167, 0, 4, 29]
abbrev dktX2_firstOf_2 : List UInt8 := dkwX2_firstOf_2 ++ dktX2_firstOf_3
def dkwX2_firstOf_1 : List UInt8 := [182, 0, 63, 153, 0, 31, 29, 16, 251, 159, 0, 21, 42, 21, 4, 16, 7, 182, 0, 46, 42, 29, 16, 7]
abbrev dktX2_firstOf_1 : List UInt8 := dkwX2_firstOf_1 ++ dktX2_firstOf_2
def dkwX2_firstOf_0 : List UInt8 := [16, 251, 62, 3, 54, 4, 21, 4, 42, 180, 0, 7, 17, 0, 150, 46, 162, 0, 63, 42, 21, 4, 27, 28]
abbrev dktX2_firstOf_0 : List UInt8 := dkwX2_firstOf_0 ++ dktX2_firstOf_1
theorem dksX2_firstOf_0 : cX2_firstOf.data.toList.drop 0 = dktX2_firstOf_0 := by decide +kernel
theorem dksX2_firstOf_1 : cX2_firstOf.data.toList.drop 24 = dktX2_firstOf_1 := dk_seg dksX2_firstOf_0 24 rfl rfl
theorem dksX2_firstOf_2 : cX2_firstOf.data.toList.drop 48 = dktX2_firstOf_2 := dk_seg dksX2_firstOf_1 24 rfl rfl
theorem dksX2_firstOf_3 : cX2_firstOf.data.toList.drop 72 = dktX2_firstOf_3 := dk_seg dksX2_firstOf_2 24 rfl rfl
theorem dX2_firstOf_0 : decode cX2_firstOf 0 = .ok (.bipush (-5), 2) := dk_16 251 (dk_at dksX2_firstOf_0 0 rfl rfl)
theorem dX2_firstOf_2 : decode cX2_firstOf 2 = .ok (.istore_n 3, 1) := dk_62 (dk_at dksX2_firstOf_0 2 rfl rfl)
theorem dX2_firstOf_3 : decode cX2_firstOf 3 = .ok (.iconst 0, 1) := dk_3 (dk_at dksX2_firstOf_0 3 rfl rfl)
theorem dX2_firstOf_4 : decode cX2_firstOf 4 = .ok (.istore 4, 2) := dk_54 4 (dk_at dksX2_firstOf_0 4 rfl rfl)
theorem dX2_firstOf_6 : decode cX2_firstOf 6 = .ok (.iload 4, 2) := dk_21 4 (dk_at dksX2_firstOf_0 6 rfl rfl)
theorem dX2_firstOf_8 : decode cX2_firstOf 8 = .ok (.aload_n 0, 1) := dk_42 (dk_at dksX2_firstOf_0 8 rfl rfl)
theorem dX2_firstOf_9 : decode cX2_firstOf 9 = .ok (.getfield 7, 3) := dk_180 0 7 (dk_at dksX2_firstOf_0 9 rfl rfl)
theorem dX2_firstOf_12 : decode cX2_firstOf 12 = .ok (.sipush 150, 3) := dk_17 0 150 (dk_at dksX2_firstOf_0 12 rfl rfl)
theorem dX2_firstOf_15 : decode cX2_firstOf 15 = .ok (.iaload, 1) := dk_46 (dk_at dksX2_firstOf_0 15 rfl rfl)
theorem dX2_firstOf_16 : decode cX2_firstOf 16 = .ok (.if_icmp .ge 63, 3) := dk_162 0 63 (dk_at dksX2_firstOf_0 16 rfl rfl)
theorem dX2_firstOf_19 : decode cX2_firstOf 19 = .ok (.aload_n 0, 1) := dk_42 (dk_at dksX2_firstOf_0 19 rfl rfl)
theorem dX2_firstOf_20 : decode cX2_firstOf 20 = .ok (.iload 4, 2) := dk_21 4 (dk_at dksX2_firstOf_0 20 rfl rfl)
theorem dX2_firstOf_22 : decode cX2_firstOf 22 = .ok (.iload_n 1, 1) := dk_27 (dk_at dksX2_firstOf_0 22 rfl rfl)
theorem dX2_firstOf_23 : decode cX2_firstOf 23 = .ok (.iload_n 2, 1) := dk_28 (dk_at dksX2_firstOf_0 23 rfl rfl)
theorem dX2_firstOf_24 : decode cX2_firstOf 24 = .ok (.invokevirtual 63, 3) := dk_182 0 63 (dk_at dksX2_firstOf_1 0 rfl rfl)
theorem dX2_firstOf_27 : decode cX2_firstOf 27 = .ok (.ifCond .eq 31, 3) := dk_153 0 31 (dk_at dksX2_firstOf_1 3 rfl rfl)
theorem dX2_firstOf_30 : decode cX2_firstOf 30 = .ok (.iload_n 3, 1) := dk_29 (dk_at dksX2_firstOf_1 6 rfl rfl)
theorem dX2_firstOf_31 : decode cX2_firstOf 31 = .ok (.bipush (-5), 2) := dk_16 251 (dk_at dksX2_firstOf_1 7 rfl rfl)
theorem dX2_firstOf_33 : decode cX2_firstOf 33 = .ok (.if_icmp .eq 21, 3) := dk_159 0 21 (dk_at dksX2_firstOf_1 9 rfl rfl)
theorem dX2_firstOf_36 : decode cX2_firstOf 36 = .ok (.aload_n 0, 1) := dk_42 (dk_at dksX2_firstOf_1 12 rfl rfl)
theorem dX2_firstOf_37 : decode cX2_firstOf 37 = .ok (.iload 4, 2) := dk_21 4 (dk_at dksX2_firstOf_1 13 rfl rfl)
theorem dX2_firstOf_39 : decode cX2_firstOf 39 = .ok (.bipush 7, 2) := dk_16 7 (dk_at dksX2_firstOf_1 15 rfl rfl)
theorem dX2_firstOf_41 : decode cX2_firstOf 41 = .ok (.invokevirtual 46, 3) := dk_182 0 46 (dk_at dksX2_firstOf_1 17 rfl rfl)
theorem dX2_firstOf_44 : decode cX2_firstOf 44 = .ok (.aload_n 0, 1) := dk_42 (dk_at dksX2_firstOf_1 20 rfl rfl)
theorem dX2_firstOf_45 : decode cX2_firstOf 45 = .ok (.iload_n 3, 1) := dk_29 (dk_at dksX2_firstOf_1 21 rfl rfl)
theorem dX2_firstOf_46 : decode cX2_firstOf 46 = .ok (.bipush 7, 2) := dk_16 7 (dk_at dksX2_firstOf_1 22 rfl rfl)
theorem dX2_firstOf_48 : decode cX2_firstOf 48 = .ok (.invokevirtual 46, 3) := dk_182 0 46 (dk_at dksX2_firstOf_2 0 rfl rfl)
theorem dX2_firstOf_51 : decode cX2_firstOf 51 = .ok (.if_icmp .ge 7, 3) := dk_162 0 7 (dk_at dksX2_firstOf_2 3 rfl rfl)
theorem dX2_firstOf_54 : decode cX2_firstOf 54 = .ok (.iconst 1, 1) := dk_4 (dk_at dksX2_firstOf_2 6 rfl rfl)
theorem dX2_firstOf_55 : decode cX2_firstOf 55 = .ok (.goto 4, 3) := dk_167 0 4 (dk_at dksX2_firstOf_2 7 rfl rfl)
theorem dX2_firstOf_58 : decode cX2_firstOf 58 = .ok (.iconst 0, 1) := dk_3 (dk_at dksX2_firstOf_2 10 rfl rfl)
theorem dX2_firstOf_59 : decode cX2_firstOf 59 = .ok (.istore 5, 2) := dk_54 5 (dk_at dksX2_firstOf_2 11 rfl rfl)
theorem dX2_firstOf_61 : decode cX2_firstOf 61 = .ok (.iload 5, 2) := dk_21 5 (dk_at dksX2_firstOf_2 13 rfl rfl)
theorem dX2_firstOf_63 : decode cX2_firstOf 63 = .ok (.ifCond .eq 8, 3) := dk_153 0 8 (dk_at dksX2_firstOf_2 15 rfl rfl)
theorem dX2_firstOf_66 : decode cX2_firstOf 66 = .ok (.iload 4, 2) := dk_21 4 (dk_at dksX2_firstOf_2 18 rfl rfl)
theorem dX2_firstOf_68 : decode cX2_firstOf 68 = .ok (.goto 4, 3) := dk_167 0 4 (dk_at dksX2_firstOf_2 20 rfl rfl)
theorem dX2_firstOf_71 : decode cX2_firstOf 71 = .ok (.iload_n 3, 1) := dk_29 (dk_at dksX2_firstOf_2 23 rfl rfl)
theorem dX2_firstOf_72 : decode cX2_firstOf 72 = .ok (.istore_n 3, 1) := dk_62 (dk_at dksX2_firstOf_3 0 rfl rfl)
theorem dX2_firstOf_73 : decode cX2_firstOf 73 = .ok (.iinc 4 1, 3) := dk_132 4 1 (dk_at dksX2_firstOf_3 1 rfl rfl)
theorem dX2_firstOf_76 : decode cX2_firstOf 76 = .ok (.goto (-70), 3) := dk_167 255 186 (dk_at dksX2_firstOf_3 4 rfl rfl)
theorem dX2_firstOf_79 : decode cX2_firstOf 79 = .ok (.iload_n 3, 1) := dk_29 (dk_at dksX2_firstOf_3 7 rfl rfl)
theorem dX2_firstOf_80 : decode cX2_firstOf 80 = .ok (.ireturn, 1) := dk_172 (dk_at dksX2_firstOf_3 8 rfl rfl)
abbrev cX2_goes : ByteArray := prog_7_method_24_code
def yX2_goes : MethodName := ⟨RX2, "goes", "(I)V"⟩
def dkwX2_goes_6 : List UInt8 := [42, 27, 182, 0, 70, 177]
abbrev dktX2_goes_6 : List UInt8 := dkwX2_goes_6 ++ []
def dkwX2_goes_5 : List UInt8 := [160, 0, 24, 42, 180, 0, 7, 27, 8, 184, 0, 39, 42, 180, 0, 7, 17, 0, 149, 46, 79, 167, 0, 8]
abbrev dktX2_goes_5 : List UInt8 := dkwX2_goes_5 ++ dktX2_goes_6
def dkwX2_goes_4 : List UInt8 := [184, 0, 39, 3, 79, 42, 180, 0, 7, 27, 5, 184, 0, 39, 29, 79, 29, 42, 27, 6, 182, 0, 46]
abbrev dktX2_goes_4 : List UInt8 := dkwX2_goes_4 ++ dktX2_goes_5
def dkwX2_goes_3 : List UInt8 := [184, 0, 39, 92, 46, 42, 180, 0, 7, 17, 0, 155, 46, 96, 79, 177, 42, 180, 0, 7, 27, 7]
abbrev dktX2_goes_3 : List UInt8 := dkwX2_goes_3 ++ dktX2_goes_4
def dkwX2_goes_2 : List UInt8 := [46, 4, 96, 79, 28, 42, 180, 0, 7, 17, 0, 155, 46, 164, 0, 25, 42, 180, 0, 7, 27, 7]
abbrev dktX2_goes_2 : List UInt8 := dkwX2_goes_2 ++ dktX2_goes_3
def dkwX2_goes_1 : List UInt8 := [16, 11, 42, 27, 182, 0, 60, 96, 92, 46, 4, 96, 79, 42, 180, 0, 7, 27, 16, 6, 184, 0, 39, 92]
abbrev dktX2_goes_1 : List UInt8 := dkwX2_goes_1 ++ dktX2_goes_2
def dkwX2_goes_0 : List UInt8 := [42, 27, 3, 182, 0, 46, 42, 27, 7, 182, 0, 46, 100, 61, 42, 27, 182, 0, 53, 62, 42, 180, 0, 7]
abbrev dktX2_goes_0 : List UInt8 := dkwX2_goes_0 ++ dktX2_goes_1
theorem dksX2_goes_0 : cX2_goes.data.toList.drop 0 = dktX2_goes_0 := by decide +kernel
theorem dksX2_goes_1 : cX2_goes.data.toList.drop 24 = dktX2_goes_1 := dk_seg dksX2_goes_0 24 rfl rfl
theorem dksX2_goes_2 : cX2_goes.data.toList.drop 48 = dktX2_goes_2 := dk_seg dksX2_goes_1 24 rfl rfl
theorem dksX2_goes_3 : cX2_goes.data.toList.drop 70 = dktX2_goes_3 := dk_seg dksX2_goes_2 22 rfl rfl
theorem dksX2_goes_4 : cX2_goes.data.toList.drop 92 = dktX2_goes_4 := dk_seg dksX2_goes_3 22 rfl rfl
theorem dksX2_goes_5 : cX2_goes.data.toList.drop 115 = dktX2_goes_5 := dk_seg dksX2_goes_4 23 rfl rfl
theorem dksX2_goes_6 : cX2_goes.data.toList.drop 139 = dktX2_goes_6 := dk_seg dksX2_goes_5 24 rfl rfl
theorem dX2_goes_0 : decode cX2_goes 0 = .ok (.aload_n 0, 1) := dk_42 (dk_at dksX2_goes_0 0 rfl rfl)
theorem dX2_goes_1 : decode cX2_goes 1 = .ok (.iload_n 1, 1) := dk_27 (dk_at dksX2_goes_0 1 rfl rfl)
theorem dX2_goes_2 : decode cX2_goes 2 = .ok (.iconst 0, 1) := dk_3 (dk_at dksX2_goes_0 2 rfl rfl)
theorem dX2_goes_3 : decode cX2_goes 3 = .ok (.invokevirtual 46, 3) := dk_182 0 46 (dk_at dksX2_goes_0 3 rfl rfl)
theorem dX2_goes_6 : decode cX2_goes 6 = .ok (.aload_n 0, 1) := dk_42 (dk_at dksX2_goes_0 6 rfl rfl)
theorem dX2_goes_7 : decode cX2_goes 7 = .ok (.iload_n 1, 1) := dk_27 (dk_at dksX2_goes_0 7 rfl rfl)
theorem dX2_goes_8 : decode cX2_goes 8 = .ok (.iconst 4, 1) := dk_7 (dk_at dksX2_goes_0 8 rfl rfl)
theorem dX2_goes_9 : decode cX2_goes 9 = .ok (.invokevirtual 46, 3) := dk_182 0 46 (dk_at dksX2_goes_0 9 rfl rfl)
theorem dX2_goes_12 : decode cX2_goes 12 = .ok (.isub, 1) := dk_100 (dk_at dksX2_goes_0 12 rfl rfl)
theorem dX2_goes_13 : decode cX2_goes 13 = .ok (.istore_n 2, 1) := dk_61 (dk_at dksX2_goes_0 13 rfl rfl)
theorem dX2_goes_14 : decode cX2_goes 14 = .ok (.aload_n 0, 1) := dk_42 (dk_at dksX2_goes_0 14 rfl rfl)
theorem dX2_goes_15 : decode cX2_goes 15 = .ok (.iload_n 1, 1) := dk_27 (dk_at dksX2_goes_0 15 rfl rfl)
theorem dX2_goes_16 : decode cX2_goes 16 = .ok (.invokevirtual 53, 3) := dk_182 0 53 (dk_at dksX2_goes_0 16 rfl rfl)
theorem dX2_goes_19 : decode cX2_goes 19 = .ok (.istore_n 3, 1) := dk_62 (dk_at dksX2_goes_0 19 rfl rfl)
theorem dX2_goes_20 : decode cX2_goes 20 = .ok (.aload_n 0, 1) := dk_42 (dk_at dksX2_goes_0 20 rfl rfl)
theorem dX2_goes_21 : decode cX2_goes 21 = .ok (.getfield 7, 3) := dk_180 0 7 (dk_at dksX2_goes_0 21 rfl rfl)
theorem dX2_goes_24 : decode cX2_goes 24 = .ok (.bipush 11, 2) := dk_16 11 (dk_at dksX2_goes_1 0 rfl rfl)
theorem dX2_goes_26 : decode cX2_goes 26 = .ok (.aload_n 0, 1) := dk_42 (dk_at dksX2_goes_1 2 rfl rfl)
theorem dX2_goes_27 : decode cX2_goes 27 = .ok (.iload_n 1, 1) := dk_27 (dk_at dksX2_goes_1 3 rfl rfl)
theorem dX2_goes_28 : decode cX2_goes 28 = .ok (.invokevirtual 60, 3) := dk_182 0 60 (dk_at dksX2_goes_1 4 rfl rfl)
theorem dX2_goes_31 : decode cX2_goes 31 = .ok (.iadd, 1) := dk_96 (dk_at dksX2_goes_1 7 rfl rfl)
theorem dX2_goes_32 : decode cX2_goes 32 = .ok (.dup2, 1) := dk_92 (dk_at dksX2_goes_1 8 rfl rfl)
theorem dX2_goes_33 : decode cX2_goes 33 = .ok (.iaload, 1) := dk_46 (dk_at dksX2_goes_1 9 rfl rfl)
theorem dX2_goes_34 : decode cX2_goes 34 = .ok (.iconst 1, 1) := dk_4 (dk_at dksX2_goes_1 10 rfl rfl)
theorem dX2_goes_35 : decode cX2_goes 35 = .ok (.iadd, 1) := dk_96 (dk_at dksX2_goes_1 11 rfl rfl)
theorem dX2_goes_36 : decode cX2_goes 36 = .ok (.iastore, 1) := dk_79 (dk_at dksX2_goes_1 12 rfl rfl)
theorem dX2_goes_37 : decode cX2_goes 37 = .ok (.aload_n 0, 1) := dk_42 (dk_at dksX2_goes_1 13 rfl rfl)
theorem dX2_goes_38 : decode cX2_goes 38 = .ok (.getfield 7, 3) := dk_180 0 7 (dk_at dksX2_goes_1 14 rfl rfl)
theorem dX2_goes_41 : decode cX2_goes 41 = .ok (.iload_n 1, 1) := dk_27 (dk_at dksX2_goes_1 17 rfl rfl)
theorem dX2_goes_42 : decode cX2_goes 42 = .ok (.bipush 6, 2) := dk_16 6 (dk_at dksX2_goes_1 18 rfl rfl)
theorem dX2_goes_44 : decode cX2_goes 44 = .ok (.invokestatic 39, 3) := dk_184 0 39 (dk_at dksX2_goes_1 20 rfl rfl)
theorem dX2_goes_47 : decode cX2_goes 47 = .ok (.dup2, 1) := dk_92 (dk_at dksX2_goes_1 23 rfl rfl)
theorem dX2_goes_48 : decode cX2_goes 48 = .ok (.iaload, 1) := dk_46 (dk_at dksX2_goes_2 0 rfl rfl)
theorem dX2_goes_49 : decode cX2_goes 49 = .ok (.iconst 1, 1) := dk_4 (dk_at dksX2_goes_2 1 rfl rfl)
theorem dX2_goes_50 : decode cX2_goes 50 = .ok (.iadd, 1) := dk_96 (dk_at dksX2_goes_2 2 rfl rfl)
theorem dX2_goes_51 : decode cX2_goes 51 = .ok (.iastore, 1) := dk_79 (dk_at dksX2_goes_2 3 rfl rfl)
theorem dX2_goes_52 : decode cX2_goes 52 = .ok (.iload_n 2, 1) := dk_28 (dk_at dksX2_goes_2 4 rfl rfl)
theorem dX2_goes_53 : decode cX2_goes 53 = .ok (.aload_n 0, 1) := dk_42 (dk_at dksX2_goes_2 5 rfl rfl)
theorem dX2_goes_54 : decode cX2_goes 54 = .ok (.getfield 7, 3) := dk_180 0 7 (dk_at dksX2_goes_2 6 rfl rfl)
theorem dX2_goes_57 : decode cX2_goes 57 = .ok (.sipush 155, 3) := dk_17 0 155 (dk_at dksX2_goes_2 9 rfl rfl)
theorem dX2_goes_60 : decode cX2_goes 60 = .ok (.iaload, 1) := dk_46 (dk_at dksX2_goes_2 12 rfl rfl)
theorem dX2_goes_61 : decode cX2_goes 61 = .ok (.if_icmp .le 25, 3) := dk_164 0 25 (dk_at dksX2_goes_2 13 rfl rfl)
theorem dX2_goes_64 : decode cX2_goes 64 = .ok (.aload_n 0, 1) := dk_42 (dk_at dksX2_goes_2 16 rfl rfl)
theorem dX2_goes_65 : decode cX2_goes 65 = .ok (.getfield 7, 3) := dk_180 0 7 (dk_at dksX2_goes_2 17 rfl rfl)
theorem dX2_goes_68 : decode cX2_goes 68 = .ok (.iload_n 1, 1) := dk_27 (dk_at dksX2_goes_2 20 rfl rfl)
theorem dX2_goes_69 : decode cX2_goes 69 = .ok (.iconst 4, 1) := dk_7 (dk_at dksX2_goes_2 21 rfl rfl)
theorem dX2_goes_70 : decode cX2_goes 70 = .ok (.invokestatic 39, 3) := dk_184 0 39 (dk_at dksX2_goes_3 0 rfl rfl)
theorem dX2_goes_73 : decode cX2_goes 73 = .ok (.dup2, 1) := dk_92 (dk_at dksX2_goes_3 3 rfl rfl)
theorem dX2_goes_74 : decode cX2_goes 74 = .ok (.iaload, 1) := dk_46 (dk_at dksX2_goes_3 4 rfl rfl)
theorem dX2_goes_75 : decode cX2_goes 75 = .ok (.aload_n 0, 1) := dk_42 (dk_at dksX2_goes_3 5 rfl rfl)
theorem dX2_goes_76 : decode cX2_goes 76 = .ok (.getfield 7, 3) := dk_180 0 7 (dk_at dksX2_goes_3 6 rfl rfl)
theorem dX2_goes_79 : decode cX2_goes 79 = .ok (.sipush 155, 3) := dk_17 0 155 (dk_at dksX2_goes_3 9 rfl rfl)
theorem dX2_goes_82 : decode cX2_goes 82 = .ok (.iaload, 1) := dk_46 (dk_at dksX2_goes_3 12 rfl rfl)
theorem dX2_goes_83 : decode cX2_goes 83 = .ok (.iadd, 1) := dk_96 (dk_at dksX2_goes_3 13 rfl rfl)
theorem dX2_goes_84 : decode cX2_goes 84 = .ok (.iastore, 1) := dk_79 (dk_at dksX2_goes_3 14 rfl rfl)
theorem dX2_goes_85 : decode cX2_goes 85 = .ok (.return_, 1) := dk_177 (dk_at dksX2_goes_3 15 rfl rfl)
theorem dX2_goes_86 : decode cX2_goes 86 = .ok (.aload_n 0, 1) := dk_42 (dk_at dksX2_goes_3 16 rfl rfl)
theorem dX2_goes_87 : decode cX2_goes 87 = .ok (.getfield 7, 3) := dk_180 0 7 (dk_at dksX2_goes_3 17 rfl rfl)
theorem dX2_goes_90 : decode cX2_goes 90 = .ok (.iload_n 1, 1) := dk_27 (dk_at dksX2_goes_3 20 rfl rfl)
theorem dX2_goes_91 : decode cX2_goes 91 = .ok (.iconst 4, 1) := dk_7 (dk_at dksX2_goes_3 21 rfl rfl)
theorem dX2_goes_92 : decode cX2_goes 92 = .ok (.invokestatic 39, 3) := dk_184 0 39 (dk_at dksX2_goes_4 0 rfl rfl)
theorem dX2_goes_95 : decode cX2_goes 95 = .ok (.iconst 0, 1) := dk_3 (dk_at dksX2_goes_4 3 rfl rfl)
theorem dX2_goes_96 : decode cX2_goes 96 = .ok (.iastore, 1) := dk_79 (dk_at dksX2_goes_4 4 rfl rfl)
theorem dX2_goes_97 : decode cX2_goes 97 = .ok (.aload_n 0, 1) := dk_42 (dk_at dksX2_goes_4 5 rfl rfl)
theorem dX2_goes_98 : decode cX2_goes 98 = .ok (.getfield 7, 3) := dk_180 0 7 (dk_at dksX2_goes_4 6 rfl rfl)
theorem dX2_goes_101 : decode cX2_goes 101 = .ok (.iload_n 1, 1) := dk_27 (dk_at dksX2_goes_4 9 rfl rfl)
theorem dX2_goes_102 : decode cX2_goes 102 = .ok (.iconst 2, 1) := dk_5 (dk_at dksX2_goes_4 10 rfl rfl)
theorem dX2_goes_103 : decode cX2_goes 103 = .ok (.invokestatic 39, 3) := dk_184 0 39 (dk_at dksX2_goes_4 11 rfl rfl)
theorem dX2_goes_106 : decode cX2_goes 106 = .ok (.iload_n 3, 1) := dk_29 (dk_at dksX2_goes_4 14 rfl rfl)
theorem dX2_goes_107 : decode cX2_goes 107 = .ok (.iastore, 1) := dk_79 (dk_at dksX2_goes_4 15 rfl rfl)
theorem dX2_goes_108 : decode cX2_goes 108 = .ok (.iload_n 3, 1) := dk_29 (dk_at dksX2_goes_4 16 rfl rfl)
theorem dX2_goes_109 : decode cX2_goes 109 = .ok (.aload_n 0, 1) := dk_42 (dk_at dksX2_goes_4 17 rfl rfl)
theorem dX2_goes_110 : decode cX2_goes 110 = .ok (.iload_n 1, 1) := dk_27 (dk_at dksX2_goes_4 18 rfl rfl)
theorem dX2_goes_111 : decode cX2_goes 111 = .ok (.iconst 3, 1) := dk_6 (dk_at dksX2_goes_4 19 rfl rfl)
theorem dX2_goes_112 : decode cX2_goes 112 = .ok (.invokevirtual 46, 3) := dk_182 0 46 (dk_at dksX2_goes_4 20 rfl rfl)
theorem dX2_goes_115 : decode cX2_goes 115 = .ok (.if_icmp .ne 24, 3) := dk_160 0 24 (dk_at dksX2_goes_5 0 rfl rfl)
theorem dX2_goes_118 : decode cX2_goes 118 = .ok (.aload_n 0, 1) := dk_42 (dk_at dksX2_goes_5 3 rfl rfl)
theorem dX2_goes_119 : decode cX2_goes 119 = .ok (.getfield 7, 3) := dk_180 0 7 (dk_at dksX2_goes_5 4 rfl rfl)
theorem dX2_goes_122 : decode cX2_goes 122 = .ok (.iload_n 1, 1) := dk_27 (dk_at dksX2_goes_5 7 rfl rfl)
theorem dX2_goes_123 : decode cX2_goes 123 = .ok (.iconst 5, 1) := dk_8 (dk_at dksX2_goes_5 8 rfl rfl)
theorem dX2_goes_124 : decode cX2_goes 124 = .ok (.invokestatic 39, 3) := dk_184 0 39 (dk_at dksX2_goes_5 9 rfl rfl)
theorem dX2_goes_127 : decode cX2_goes 127 = .ok (.aload_n 0, 1) := dk_42 (dk_at dksX2_goes_5 12 rfl rfl)
theorem dX2_goes_128 : decode cX2_goes 128 = .ok (.getfield 7, 3) := dk_180 0 7 (dk_at dksX2_goes_5 13 rfl rfl)
theorem dX2_goes_131 : decode cX2_goes 131 = .ok (.sipush 149, 3) := dk_17 0 149 (dk_at dksX2_goes_5 16 rfl rfl)
theorem dX2_goes_134 : decode cX2_goes 134 = .ok (.iaload, 1) := dk_46 (dk_at dksX2_goes_5 19 rfl rfl)
theorem dX2_goes_135 : decode cX2_goes 135 = .ok (.iastore, 1) := dk_79 (dk_at dksX2_goes_5 20 rfl rfl)
theorem dX2_goes_136 : decode cX2_goes 136 = .ok (.goto 8, 3) := dk_167 0 8 (dk_at dksX2_goes_5 21 rfl rfl)
theorem dX2_goes_139 : decode cX2_goes 139 = .ok (.aload_n 0, 1) := dk_42 (dk_at dksX2_goes_6 0 rfl rfl)
theorem dX2_goes_140 : decode cX2_goes 140 = .ok (.iload_n 1, 1) := dk_27 (dk_at dksX2_goes_6 1 rfl rfl)
theorem dX2_goes_141 : decode cX2_goes 141 = .ok (.invokevirtual 70, 3) := dk_182 0 70 (dk_at dksX2_goes_6 2 rfl rfl)
theorem dX2_goes_144 : decode cX2_goes 144 = .ok (.return_, 1) := dk_177 (dk_at dksX2_goes_6 5 rfl rfl)
abbrev cX2_queue : ByteArray := prog_7_method_17_code
def yX2_queue : MethodName := ⟨RX2, "queue", "(IZ)I"⟩
def dkwX2_queue_1 : List UInt8 := [182, 0, 63, 153, 0, 7, 4, 167, 0, 4, 3, 96, 62, 132, 4, 1, 167, 255, 221, 29, 172]
abbrev dktX2_queue_1 : List UInt8 := dkwX2_queue_1 ++ []
def dkwX2_queue_0 : List UInt8 := [3, 62, 3, 54, 4, 21, 4, 42, 180, 0, 7, 17, 0, 150, 46, 162, 0, 28, 29, 42, 21, 4, 27, 28]
abbrev dktX2_queue_0 : List UInt8 := dkwX2_queue_0 ++ dktX2_queue_1
theorem dksX2_queue_0 : cX2_queue.data.toList.drop 0 = dktX2_queue_0 := by decide +kernel
theorem dksX2_queue_1 : cX2_queue.data.toList.drop 24 = dktX2_queue_1 := dk_seg dksX2_queue_0 24 rfl rfl
theorem dX2_queue_0 : decode cX2_queue 0 = .ok (.iconst 0, 1) := dk_3 (dk_at dksX2_queue_0 0 rfl rfl)
theorem dX2_queue_1 : decode cX2_queue 1 = .ok (.istore_n 3, 1) := dk_62 (dk_at dksX2_queue_0 1 rfl rfl)
theorem dX2_queue_2 : decode cX2_queue 2 = .ok (.iconst 0, 1) := dk_3 (dk_at dksX2_queue_0 2 rfl rfl)
theorem dX2_queue_3 : decode cX2_queue 3 = .ok (.istore 4, 2) := dk_54 4 (dk_at dksX2_queue_0 3 rfl rfl)
theorem dX2_queue_5 : decode cX2_queue 5 = .ok (.iload 4, 2) := dk_21 4 (dk_at dksX2_queue_0 5 rfl rfl)
theorem dX2_queue_7 : decode cX2_queue 7 = .ok (.aload_n 0, 1) := dk_42 (dk_at dksX2_queue_0 7 rfl rfl)
theorem dX2_queue_8 : decode cX2_queue 8 = .ok (.getfield 7, 3) := dk_180 0 7 (dk_at dksX2_queue_0 8 rfl rfl)
theorem dX2_queue_11 : decode cX2_queue 11 = .ok (.sipush 150, 3) := dk_17 0 150 (dk_at dksX2_queue_0 11 rfl rfl)
theorem dX2_queue_14 : decode cX2_queue 14 = .ok (.iaload, 1) := dk_46 (dk_at dksX2_queue_0 14 rfl rfl)
theorem dX2_queue_15 : decode cX2_queue 15 = .ok (.if_icmp .ge 28, 3) := dk_162 0 28 (dk_at dksX2_queue_0 15 rfl rfl)
theorem dX2_queue_18 : decode cX2_queue 18 = .ok (.iload_n 3, 1) := dk_29 (dk_at dksX2_queue_0 18 rfl rfl)
theorem dX2_queue_19 : decode cX2_queue 19 = .ok (.aload_n 0, 1) := dk_42 (dk_at dksX2_queue_0 19 rfl rfl)
theorem dX2_queue_20 : decode cX2_queue 20 = .ok (.iload 4, 2) := dk_21 4 (dk_at dksX2_queue_0 20 rfl rfl)
theorem dX2_queue_22 : decode cX2_queue 22 = .ok (.iload_n 1, 1) := dk_27 (dk_at dksX2_queue_0 22 rfl rfl)
theorem dX2_queue_23 : decode cX2_queue 23 = .ok (.iload_n 2, 1) := dk_28 (dk_at dksX2_queue_0 23 rfl rfl)
theorem dX2_queue_24 : decode cX2_queue 24 = .ok (.invokevirtual 63, 3) := dk_182 0 63 (dk_at dksX2_queue_1 0 rfl rfl)
theorem dX2_queue_27 : decode cX2_queue 27 = .ok (.ifCond .eq 7, 3) := dk_153 0 7 (dk_at dksX2_queue_1 3 rfl rfl)
theorem dX2_queue_30 : decode cX2_queue 30 = .ok (.iconst 1, 1) := dk_4 (dk_at dksX2_queue_1 6 rfl rfl)
theorem dX2_queue_31 : decode cX2_queue 31 = .ok (.goto 4, 3) := dk_167 0 4 (dk_at dksX2_queue_1 7 rfl rfl)
theorem dX2_queue_34 : decode cX2_queue 34 = .ok (.iconst 0, 1) := dk_3 (dk_at dksX2_queue_1 10 rfl rfl)
theorem dX2_queue_35 : decode cX2_queue 35 = .ok (.iadd, 1) := dk_96 (dk_at dksX2_queue_1 11 rfl rfl)
theorem dX2_queue_36 : decode cX2_queue 36 = .ok (.istore_n 3, 1) := dk_62 (dk_at dksX2_queue_1 12 rfl rfl)
theorem dX2_queue_37 : decode cX2_queue 37 = .ok (.iinc 4 1, 3) := dk_132 4 1 (dk_at dksX2_queue_1 13 rfl rfl)
theorem dX2_queue_40 : decode cX2_queue 40 = .ok (.goto (-35), 3) := dk_167 255 221 (dk_at dksX2_queue_1 16 rfl rfl)
theorem dX2_queue_43 : decode cX2_queue 43 = .ok (.iload_n 3, 1) := dk_29 (dk_at dksX2_queue_1 19 rfl rfl)
theorem dX2_queue_44 : decode cX2_queue 44 = .ok (.ireturn, 1) := dk_172 (dk_at dksX2_queue_1 20 rfl rfl)
abbrev cX2_flows : ByteArray := prog_7_method_27_code
def yX2_flows : MethodName := ⟨RX2, "flows", "()V"⟩
def dkwX2_flows_4 : List UInt8 := [17, 0, 152, 62, 42, 180, 0, 7, 29, 92, 46, 28, 96, 79, 132, 1, 255, 167, 255, 182, 177]
abbrev dktX2_flows_4 : List UInt8 := dkwX2_flows_4 ++ []
def dkwX2_flows_3 : List UInt8 := [180, 0, 7, 3, 27, 96, 92, 46, 28, 100, 79, 27, 158, 0, 11, 3, 27, 96, 4, 100, 167, 0, 6]
abbrev dktX2_flows_3 : List UInt8 := dkwX2_flows_3 ++ dktX2_flows_4
def dkwX2_flows_2 : List UInt8 := [96, 46, 16, 90, 164, 0, 17, 42, 180, 0, 7, 3, 27, 96, 46, 16, 90, 100, 167, 0, 4, 3, 61, 42]
abbrev dktX2_flows_2 : List UInt8 := dkwX2_flows_2 ++ dktX2_flows_3
def dkwX2_flows_1 : List UInt8 := [92, 46, 42, 180, 0, 7, 17, 0, 156, 46, 96, 79, 8, 60, 27, 155, 0, 76, 42, 180, 0, 7, 3, 27]
abbrev dktX2_flows_1 : List UInt8 := dkwX2_flows_1 ++ dktX2_flows_2
def dkwX2_flows_0 : List UInt8 := [42, 180, 0, 7, 8, 92, 46, 42, 180, 0, 7, 17, 0, 156, 46, 96, 79, 42, 180, 0, 7, 17, 0, 153]
abbrev dktX2_flows_0 : List UInt8 := dkwX2_flows_0 ++ dktX2_flows_1
theorem dksX2_flows_0 : cX2_flows.data.toList.drop 0 = dktX2_flows_0 := by decide +kernel
theorem dksX2_flows_1 : cX2_flows.data.toList.drop 24 = dktX2_flows_1 := dk_seg dksX2_flows_0 24 rfl rfl
theorem dksX2_flows_2 : cX2_flows.data.toList.drop 48 = dktX2_flows_2 := dk_seg dksX2_flows_1 24 rfl rfl
theorem dksX2_flows_3 : cX2_flows.data.toList.drop 72 = dktX2_flows_3 := dk_seg dksX2_flows_2 24 rfl rfl
theorem dksX2_flows_4 : cX2_flows.data.toList.drop 95 = dktX2_flows_4 := dk_seg dksX2_flows_3 23 rfl rfl
theorem dX2_flows_0 : decode cX2_flows 0 = .ok (.aload_n 0, 1) := dk_42 (dk_at dksX2_flows_0 0 rfl rfl)
theorem dX2_flows_1 : decode cX2_flows 1 = .ok (.getfield 7, 3) := dk_180 0 7 (dk_at dksX2_flows_0 1 rfl rfl)
theorem dX2_flows_4 : decode cX2_flows 4 = .ok (.iconst 5, 1) := dk_8 (dk_at dksX2_flows_0 4 rfl rfl)
theorem dX2_flows_5 : decode cX2_flows 5 = .ok (.dup2, 1) := dk_92 (dk_at dksX2_flows_0 5 rfl rfl)
theorem dX2_flows_6 : decode cX2_flows 6 = .ok (.iaload, 1) := dk_46 (dk_at dksX2_flows_0 6 rfl rfl)
theorem dX2_flows_7 : decode cX2_flows 7 = .ok (.aload_n 0, 1) := dk_42 (dk_at dksX2_flows_0 7 rfl rfl)
theorem dX2_flows_8 : decode cX2_flows 8 = .ok (.getfield 7, 3) := dk_180 0 7 (dk_at dksX2_flows_0 8 rfl rfl)
theorem dX2_flows_11 : decode cX2_flows 11 = .ok (.sipush 156, 3) := dk_17 0 156 (dk_at dksX2_flows_0 11 rfl rfl)
theorem dX2_flows_14 : decode cX2_flows 14 = .ok (.iaload, 1) := dk_46 (dk_at dksX2_flows_0 14 rfl rfl)
theorem dX2_flows_15 : decode cX2_flows 15 = .ok (.iadd, 1) := dk_96 (dk_at dksX2_flows_0 15 rfl rfl)
theorem dX2_flows_16 : decode cX2_flows 16 = .ok (.iastore, 1) := dk_79 (dk_at dksX2_flows_0 16 rfl rfl)
theorem dX2_flows_17 : decode cX2_flows 17 = .ok (.aload_n 0, 1) := dk_42 (dk_at dksX2_flows_0 17 rfl rfl)
theorem dX2_flows_18 : decode cX2_flows 18 = .ok (.getfield 7, 3) := dk_180 0 7 (dk_at dksX2_flows_0 18 rfl rfl)
theorem dX2_flows_21 : decode cX2_flows 21 = .ok (.sipush 153, 3) := dk_17 0 153 (dk_at dksX2_flows_0 21 rfl rfl)
theorem dX2_flows_24 : decode cX2_flows 24 = .ok (.dup2, 1) := dk_92 (dk_at dksX2_flows_1 0 rfl rfl)
theorem dX2_flows_25 : decode cX2_flows 25 = .ok (.iaload, 1) := dk_46 (dk_at dksX2_flows_1 1 rfl rfl)
theorem dX2_flows_26 : decode cX2_flows 26 = .ok (.aload_n 0, 1) := dk_42 (dk_at dksX2_flows_1 2 rfl rfl)
theorem dX2_flows_27 : decode cX2_flows 27 = .ok (.getfield 7, 3) := dk_180 0 7 (dk_at dksX2_flows_1 3 rfl rfl)
theorem dX2_flows_30 : decode cX2_flows 30 = .ok (.sipush 156, 3) := dk_17 0 156 (dk_at dksX2_flows_1 6 rfl rfl)
theorem dX2_flows_33 : decode cX2_flows 33 = .ok (.iaload, 1) := dk_46 (dk_at dksX2_flows_1 9 rfl rfl)
theorem dX2_flows_34 : decode cX2_flows 34 = .ok (.iadd, 1) := dk_96 (dk_at dksX2_flows_1 10 rfl rfl)
theorem dX2_flows_35 : decode cX2_flows 35 = .ok (.iastore, 1) := dk_79 (dk_at dksX2_flows_1 11 rfl rfl)
theorem dX2_flows_36 : decode cX2_flows 36 = .ok (.iconst 5, 1) := dk_8 (dk_at dksX2_flows_1 12 rfl rfl)
theorem dX2_flows_37 : decode cX2_flows 37 = .ok (.istore_n 1, 1) := dk_60 (dk_at dksX2_flows_1 13 rfl rfl)
theorem dX2_flows_38 : decode cX2_flows 38 = .ok (.iload_n 1, 1) := dk_27 (dk_at dksX2_flows_1 14 rfl rfl)
theorem dX2_flows_39 : decode cX2_flows 39 = .ok (.ifCond .lt 76, 3) := dk_155 0 76 (dk_at dksX2_flows_1 15 rfl rfl)
theorem dX2_flows_42 : decode cX2_flows 42 = .ok (.aload_n 0, 1) := dk_42 (dk_at dksX2_flows_1 18 rfl rfl)
theorem dX2_flows_43 : decode cX2_flows 43 = .ok (.getfield 7, 3) := dk_180 0 7 (dk_at dksX2_flows_1 19 rfl rfl)
theorem dX2_flows_46 : decode cX2_flows 46 = .ok (.iconst 0, 1) := dk_3 (dk_at dksX2_flows_1 22 rfl rfl)
theorem dX2_flows_47 : decode cX2_flows 47 = .ok (.iload_n 1, 1) := dk_27 (dk_at dksX2_flows_1 23 rfl rfl)
theorem dX2_flows_48 : decode cX2_flows 48 = .ok (.iadd, 1) := dk_96 (dk_at dksX2_flows_2 0 rfl rfl)
theorem dX2_flows_49 : decode cX2_flows 49 = .ok (.iaload, 1) := dk_46 (dk_at dksX2_flows_2 1 rfl rfl)
theorem dX2_flows_50 : decode cX2_flows 50 = .ok (.bipush 90, 2) := dk_16 90 (dk_at dksX2_flows_2 2 rfl rfl)
theorem dX2_flows_52 : decode cX2_flows 52 = .ok (.if_icmp .le 17, 3) := dk_164 0 17 (dk_at dksX2_flows_2 4 rfl rfl)
theorem dX2_flows_55 : decode cX2_flows 55 = .ok (.aload_n 0, 1) := dk_42 (dk_at dksX2_flows_2 7 rfl rfl)
theorem dX2_flows_56 : decode cX2_flows 56 = .ok (.getfield 7, 3) := dk_180 0 7 (dk_at dksX2_flows_2 8 rfl rfl)
theorem dX2_flows_59 : decode cX2_flows 59 = .ok (.iconst 0, 1) := dk_3 (dk_at dksX2_flows_2 11 rfl rfl)
theorem dX2_flows_60 : decode cX2_flows 60 = .ok (.iload_n 1, 1) := dk_27 (dk_at dksX2_flows_2 12 rfl rfl)
theorem dX2_flows_61 : decode cX2_flows 61 = .ok (.iadd, 1) := dk_96 (dk_at dksX2_flows_2 13 rfl rfl)
theorem dX2_flows_62 : decode cX2_flows 62 = .ok (.iaload, 1) := dk_46 (dk_at dksX2_flows_2 14 rfl rfl)
theorem dX2_flows_63 : decode cX2_flows 63 = .ok (.bipush 90, 2) := dk_16 90 (dk_at dksX2_flows_2 15 rfl rfl)
theorem dX2_flows_65 : decode cX2_flows 65 = .ok (.isub, 1) := dk_100 (dk_at dksX2_flows_2 17 rfl rfl)
theorem dX2_flows_66 : decode cX2_flows 66 = .ok (.goto 4, 3) := dk_167 0 4 (dk_at dksX2_flows_2 18 rfl rfl)
theorem dX2_flows_69 : decode cX2_flows 69 = .ok (.iconst 0, 1) := dk_3 (dk_at dksX2_flows_2 21 rfl rfl)
theorem dX2_flows_70 : decode cX2_flows 70 = .ok (.istore_n 2, 1) := dk_61 (dk_at dksX2_flows_2 22 rfl rfl)
theorem dX2_flows_71 : decode cX2_flows 71 = .ok (.aload_n 0, 1) := dk_42 (dk_at dksX2_flows_2 23 rfl rfl)
theorem dX2_flows_72 : decode cX2_flows 72 = .ok (.getfield 7, 3) := dk_180 0 7 (dk_at dksX2_flows_3 0 rfl rfl)
theorem dX2_flows_75 : decode cX2_flows 75 = .ok (.iconst 0, 1) := dk_3 (dk_at dksX2_flows_3 3 rfl rfl)
theorem dX2_flows_76 : decode cX2_flows 76 = .ok (.iload_n 1, 1) := dk_27 (dk_at dksX2_flows_3 4 rfl rfl)
theorem dX2_flows_77 : decode cX2_flows 77 = .ok (.iadd, 1) := dk_96 (dk_at dksX2_flows_3 5 rfl rfl)
theorem dX2_flows_78 : decode cX2_flows 78 = .ok (.dup2, 1) := dk_92 (dk_at dksX2_flows_3 6 rfl rfl)
theorem dX2_flows_79 : decode cX2_flows 79 = .ok (.iaload, 1) := dk_46 (dk_at dksX2_flows_3 7 rfl rfl)
theorem dX2_flows_80 : decode cX2_flows 80 = .ok (.iload_n 2, 1) := dk_28 (dk_at dksX2_flows_3 8 rfl rfl)
theorem dX2_flows_81 : decode cX2_flows 81 = .ok (.isub, 1) := dk_100 (dk_at dksX2_flows_3 9 rfl rfl)
theorem dX2_flows_82 : decode cX2_flows 82 = .ok (.iastore, 1) := dk_79 (dk_at dksX2_flows_3 10 rfl rfl)
theorem dX2_flows_83 : decode cX2_flows 83 = .ok (.iload_n 1, 1) := dk_27 (dk_at dksX2_flows_3 11 rfl rfl)
theorem dX2_flows_84 : decode cX2_flows 84 = .ok (.ifCond .le 11, 3) := dk_158 0 11 (dk_at dksX2_flows_3 12 rfl rfl)
theorem dX2_flows_87 : decode cX2_flows 87 = .ok (.iconst 0, 1) := dk_3 (dk_at dksX2_flows_3 15 rfl rfl)
theorem dX2_flows_88 : decode cX2_flows 88 = .ok (.iload_n 1, 1) := dk_27 (dk_at dksX2_flows_3 16 rfl rfl)
theorem dX2_flows_89 : decode cX2_flows 89 = .ok (.iadd, 1) := dk_96 (dk_at dksX2_flows_3 17 rfl rfl)
theorem dX2_flows_90 : decode cX2_flows 90 = .ok (.iconst 1, 1) := dk_4 (dk_at dksX2_flows_3 18 rfl rfl)
theorem dX2_flows_91 : decode cX2_flows 91 = .ok (.isub, 1) := dk_100 (dk_at dksX2_flows_3 19 rfl rfl)
theorem dX2_flows_92 : decode cX2_flows 92 = .ok (.goto 6, 3) := dk_167 0 6 (dk_at dksX2_flows_3 20 rfl rfl)
theorem dX2_flows_95 : decode cX2_flows 95 = .ok (.sipush 152, 3) := dk_17 0 152 (dk_at dksX2_flows_4 0 rfl rfl)
theorem dX2_flows_98 : decode cX2_flows 98 = .ok (.istore_n 3, 1) := dk_62 (dk_at dksX2_flows_4 3 rfl rfl)
theorem dX2_flows_99 : decode cX2_flows 99 = .ok (.aload_n 0, 1) := dk_42 (dk_at dksX2_flows_4 4 rfl rfl)
theorem dX2_flows_100 : decode cX2_flows 100 = .ok (.getfield 7, 3) := dk_180 0 7 (dk_at dksX2_flows_4 5 rfl rfl)
theorem dX2_flows_103 : decode cX2_flows 103 = .ok (.iload_n 3, 1) := dk_29 (dk_at dksX2_flows_4 8 rfl rfl)
theorem dX2_flows_104 : decode cX2_flows 104 = .ok (.dup2, 1) := dk_92 (dk_at dksX2_flows_4 9 rfl rfl)
theorem dX2_flows_105 : decode cX2_flows 105 = .ok (.iaload, 1) := dk_46 (dk_at dksX2_flows_4 10 rfl rfl)
theorem dX2_flows_106 : decode cX2_flows 106 = .ok (.iload_n 2, 1) := dk_28 (dk_at dksX2_flows_4 11 rfl rfl)
theorem dX2_flows_107 : decode cX2_flows 107 = .ok (.iadd, 1) := dk_96 (dk_at dksX2_flows_4 12 rfl rfl)
theorem dX2_flows_108 : decode cX2_flows 108 = .ok (.iastore, 1) := dk_79 (dk_at dksX2_flows_4 13 rfl rfl)
theorem dX2_flows_109 : decode cX2_flows 109 = .ok (.iinc 1 (-1), 3) := dk_132 1 255 (dk_at dksX2_flows_4 14 rfl rfl)
theorem dX2_flows_112 : decode cX2_flows 112 = .ok (.goto (-74), 3) := dk_167 255 182 (dk_at dksX2_flows_4 17 rfl rfl)
theorem dX2_flows_115 : decode cX2_flows 115 = .ok (.return_, 1) := dk_177 (dk_at dksX2_flows_4 20 rfl rfl)
abbrev cX2_type : ByteArray := prog_7_method_43_code
def yX2_type : MethodName := ⟨RX2, "type", "(C)I"⟩
def dkwX2_type_1 : List UInt8 := [180, 0, 150, 4, 96, 181, 0, 150, 42, 180, 0, 150, 172]
abbrev dktX2_type_1 : List UInt8 := dkwX2_type_1 ++ []
def dkwX2_type_0 : List UInt8 := [42, 180, 0, 150, 16, 60, 160, 0, 6, 16, 253, 172, 42, 180, 0, 22, 42, 180, 0, 150, 27, 79, 42, 89]
abbrev dktX2_type_0 : List UInt8 := dkwX2_type_0 ++ dktX2_type_1
theorem dksX2_type_0 : cX2_type.data.toList.drop 0 = dktX2_type_0 := by decide +kernel
theorem dksX2_type_1 : cX2_type.data.toList.drop 24 = dktX2_type_1 := dk_seg dksX2_type_0 24 rfl rfl
theorem dX2_type_0 : decode cX2_type 0 = .ok (.aload_n 0, 1) := dk_42 (dk_at dksX2_type_0 0 rfl rfl)
theorem dX2_type_1 : decode cX2_type 1 = .ok (.getfield 150, 3) := dk_180 0 150 (dk_at dksX2_type_0 1 rfl rfl)
theorem dX2_type_4 : decode cX2_type 4 = .ok (.bipush 60, 2) := dk_16 60 (dk_at dksX2_type_0 4 rfl rfl)
theorem dX2_type_6 : decode cX2_type 6 = .ok (.if_icmp .ne 6, 3) := dk_160 0 6 (dk_at dksX2_type_0 6 rfl rfl)
theorem dX2_type_9 : decode cX2_type 9 = .ok (.bipush (-3), 2) := dk_16 253 (dk_at dksX2_type_0 9 rfl rfl)
theorem dX2_type_11 : decode cX2_type 11 = .ok (.ireturn, 1) := dk_172 (dk_at dksX2_type_0 11 rfl rfl)
theorem dX2_type_12 : decode cX2_type 12 = .ok (.aload_n 0, 1) := dk_42 (dk_at dksX2_type_0 12 rfl rfl)
theorem dX2_type_13 : decode cX2_type 13 = .ok (.getfield 22, 3) := dk_180 0 22 (dk_at dksX2_type_0 13 rfl rfl)
theorem dX2_type_16 : decode cX2_type 16 = .ok (.aload_n 0, 1) := dk_42 (dk_at dksX2_type_0 16 rfl rfl)
theorem dX2_type_17 : decode cX2_type 17 = .ok (.getfield 150, 3) := dk_180 0 150 (dk_at dksX2_type_0 17 rfl rfl)
theorem dX2_type_20 : decode cX2_type 20 = .ok (.iload_n 1, 1) := dk_27 (dk_at dksX2_type_0 20 rfl rfl)
theorem dX2_type_21 : decode cX2_type 21 = .ok (.iastore, 1) := dk_79 (dk_at dksX2_type_0 21 rfl rfl)
theorem dX2_type_22 : decode cX2_type 22 = .ok (.aload_n 0, 1) := dk_42 (dk_at dksX2_type_0 22 rfl rfl)
theorem dX2_type_23 : decode cX2_type 23 = .ok (.dup, 1) := dk_89 (dk_at dksX2_type_0 23 rfl rfl)
theorem dX2_type_24 : decode cX2_type 24 = .ok (.getfield 150, 3) := dk_180 0 150 (dk_at dksX2_type_1 0 rfl rfl)
theorem dX2_type_27 : decode cX2_type 27 = .ok (.iconst 1, 1) := dk_4 (dk_at dksX2_type_1 3 rfl rfl)
theorem dX2_type_28 : decode cX2_type 28 = .ok (.iadd, 1) := dk_96 (dk_at dksX2_type_1 4 rfl rfl)
theorem dX2_type_29 : decode cX2_type 29 = .ok (.putfield 150, 3) := dk_181 0 150 (dk_at dksX2_type_1 5 rfl rfl)
theorem dX2_type_32 : decode cX2_type 32 = .ok (.aload_n 0, 1) := dk_42 (dk_at dksX2_type_1 8 rfl rfl)
theorem dX2_type_33 : decode cX2_type 33 = .ok (.getfield 150, 3) := dk_180 0 150 (dk_at dksX2_type_1 9 rfl rfl)
theorem dX2_type_36 : decode cX2_type 36 = .ok (.ireturn, 1) := dk_172 (dk_at dksX2_type_1 12 rfl rfl)
abbrev cX2_clearText : ByteArray := prog_7_method_44_code
def yX2_clearText : MethodName := ⟨RX2, "clearText", "()I"⟩
def dkwX2_clearText_0 : List UInt8 := [42, 180, 0, 150, 60, 42, 3, 181, 0, 150, 27, 172]
abbrev dktX2_clearText_0 : List UInt8 := dkwX2_clearText_0 ++ []
theorem dksX2_clearText_0 : cX2_clearText.data.toList.drop 0 = dktX2_clearText_0 := by decide +kernel
theorem dX2_clearText_0 : decode cX2_clearText 0 = .ok (.aload_n 0, 1) := dk_42 (dk_at dksX2_clearText_0 0 rfl rfl)
theorem dX2_clearText_1 : decode cX2_clearText 1 = .ok (.getfield 150, 3) := dk_180 0 150 (dk_at dksX2_clearText_0 1 rfl rfl)
theorem dX2_clearText_4 : decode cX2_clearText 4 = .ok (.istore_n 1, 1) := dk_60 (dk_at dksX2_clearText_0 4 rfl rfl)
theorem dX2_clearText_5 : decode cX2_clearText 5 = .ok (.aload_n 0, 1) := dk_42 (dk_at dksX2_clearText_0 5 rfl rfl)
theorem dX2_clearText_6 : decode cX2_clearText 6 = .ok (.iconst 0, 1) := dk_3 (dk_at dksX2_clearText_0 6 rfl rfl)
theorem dX2_clearText_7 : decode cX2_clearText 7 = .ok (.putfield 150, 3) := dk_181 0 150 (dk_at dksX2_clearText_0 7 rfl rfl)
theorem dX2_clearText_10 : decode cX2_clearText 10 = .ok (.iload_n 1, 1) := dk_27 (dk_at dksX2_clearText_0 10 rfl rfl)
theorem dX2_clearText_11 : decode cX2_clearText 11 = .ok (.ireturn, 1) := dk_172 (dk_at dksX2_clearText_0 11 rfl rfl)
abbrev cX2_perform : ByteArray := prog_7_method_53_code
def yX2_perform : MethodName := ⟨RX2, "perform", "()I"⟩
def dkwX2_perform_2 : List UInt8 := [181, 0, 25, 42, 42, 180, 0, 188, 181, 0, 29, 16, 252, 172, 42, 182, 0, 122, 42, 182, 0, 207, 27, 172]
abbrev dktX2_perform_2 : List UInt8 := dkwX2_perform_2 ++ []
def dkwX2_perform_1 : List UInt8 := [182, 0, 204, 42, 4, 182, 0, 200, 60, 42, 182, 0, 207, 42, 180, 0, 188, 153, 0, 19, 42, 27]
abbrev dktX2_perform_1 : List UInt8 := dkwX2_perform_1 ++ dktX2_perform_2
def dkwX2_perform_0 : List UInt8 := [42, 3, 182, 0, 200, 60, 42, 180, 0, 153, 153, 0, 11, 16, 156, 42, 180, 0, 157, 100, 172, 42]
abbrev dktX2_perform_0 : List UInt8 := dkwX2_perform_0 ++ dktX2_perform_1
theorem dksX2_perform_0 : cX2_perform.data.toList.drop 0 = dktX2_perform_0 := by decide +kernel
theorem dksX2_perform_1 : cX2_perform.data.toList.drop 22 = dktX2_perform_1 := dk_seg dksX2_perform_0 22 rfl rfl
theorem dksX2_perform_2 : cX2_perform.data.toList.drop 44 = dktX2_perform_2 := dk_seg dksX2_perform_1 22 rfl rfl
theorem dX2_perform_0 : decode cX2_perform 0 = .ok (.aload_n 0, 1) := dk_42 (dk_at dksX2_perform_0 0 rfl rfl)
theorem dX2_perform_1 : decode cX2_perform 1 = .ok (.iconst 0, 1) := dk_3 (dk_at dksX2_perform_0 1 rfl rfl)
theorem dX2_perform_2 : decode cX2_perform 2 = .ok (.invokevirtual 200, 3) := dk_182 0 200 (dk_at dksX2_perform_0 2 rfl rfl)
theorem dX2_perform_5 : decode cX2_perform 5 = .ok (.istore_n 1, 1) := dk_60 (dk_at dksX2_perform_0 5 rfl rfl)
theorem dX2_perform_6 : decode cX2_perform 6 = .ok (.aload_n 0, 1) := dk_42 (dk_at dksX2_perform_0 6 rfl rfl)
theorem dX2_perform_7 : decode cX2_perform 7 = .ok (.getfield 153, 3) := dk_180 0 153 (dk_at dksX2_perform_0 7 rfl rfl)
theorem dX2_perform_10 : decode cX2_perform 10 = .ok (.ifCond .eq 11, 3) := dk_153 0 11 (dk_at dksX2_perform_0 10 rfl rfl)
theorem dX2_perform_13 : decode cX2_perform 13 = .ok (.bipush (-100), 2) := dk_16 156 (dk_at dksX2_perform_0 13 rfl rfl)
theorem dX2_perform_15 : decode cX2_perform 15 = .ok (.aload_n 0, 1) := dk_42 (dk_at dksX2_perform_0 15 rfl rfl)
theorem dX2_perform_16 : decode cX2_perform 16 = .ok (.getfield 157, 3) := dk_180 0 157 (dk_at dksX2_perform_0 16 rfl rfl)
theorem dX2_perform_19 : decode cX2_perform 19 = .ok (.isub, 1) := dk_100 (dk_at dksX2_perform_0 19 rfl rfl)
theorem dX2_perform_20 : decode cX2_perform 20 = .ok (.ireturn, 1) := dk_172 (dk_at dksX2_perform_0 20 rfl rfl)
theorem dX2_perform_21 : decode cX2_perform 21 = .ok (.aload_n 0, 1) := dk_42 (dk_at dksX2_perform_0 21 rfl rfl)
theorem dX2_perform_22 : decode cX2_perform 22 = .ok (.invokevirtual 204, 3) := dk_182 0 204 (dk_at dksX2_perform_1 0 rfl rfl)
theorem dX2_perform_25 : decode cX2_perform 25 = .ok (.aload_n 0, 1) := dk_42 (dk_at dksX2_perform_1 3 rfl rfl)
theorem dX2_perform_26 : decode cX2_perform 26 = .ok (.iconst 1, 1) := dk_4 (dk_at dksX2_perform_1 4 rfl rfl)
theorem dX2_perform_27 : decode cX2_perform 27 = .ok (.invokevirtual 200, 3) := dk_182 0 200 (dk_at dksX2_perform_1 5 rfl rfl)
theorem dX2_perform_30 : decode cX2_perform 30 = .ok (.istore_n 1, 1) := dk_60 (dk_at dksX2_perform_1 8 rfl rfl)
theorem dX2_perform_31 : decode cX2_perform 31 = .ok (.aload_n 0, 1) := dk_42 (dk_at dksX2_perform_1 9 rfl rfl)
theorem dX2_perform_32 : decode cX2_perform 32 = .ok (.invokevirtual 207, 3) := dk_182 0 207 (dk_at dksX2_perform_1 10 rfl rfl)
theorem dX2_perform_35 : decode cX2_perform 35 = .ok (.aload_n 0, 1) := dk_42 (dk_at dksX2_perform_1 13 rfl rfl)
theorem dX2_perform_36 : decode cX2_perform 36 = .ok (.getfield 188, 3) := dk_180 0 188 (dk_at dksX2_perform_1 14 rfl rfl)
theorem dX2_perform_39 : decode cX2_perform 39 = .ok (.ifCond .eq 19, 3) := dk_153 0 19 (dk_at dksX2_perform_1 17 rfl rfl)
theorem dX2_perform_42 : decode cX2_perform 42 = .ok (.aload_n 0, 1) := dk_42 (dk_at dksX2_perform_1 20 rfl rfl)
theorem dX2_perform_43 : decode cX2_perform 43 = .ok (.iload_n 1, 1) := dk_27 (dk_at dksX2_perform_1 21 rfl rfl)
theorem dX2_perform_44 : decode cX2_perform 44 = .ok (.putfield 25, 3) := dk_181 0 25 (dk_at dksX2_perform_2 0 rfl rfl)
theorem dX2_perform_47 : decode cX2_perform 47 = .ok (.aload_n 0, 1) := dk_42 (dk_at dksX2_perform_2 3 rfl rfl)
theorem dX2_perform_48 : decode cX2_perform 48 = .ok (.aload_n 0, 1) := dk_42 (dk_at dksX2_perform_2 4 rfl rfl)
theorem dX2_perform_49 : decode cX2_perform 49 = .ok (.getfield 188, 3) := dk_180 0 188 (dk_at dksX2_perform_2 5 rfl rfl)
theorem dX2_perform_52 : decode cX2_perform 52 = .ok (.putfield 29, 3) := dk_181 0 29 (dk_at dksX2_perform_2 8 rfl rfl)
theorem dX2_perform_55 : decode cX2_perform 55 = .ok (.bipush (-4), 2) := dk_16 252 (dk_at dksX2_perform_2 11 rfl rfl)
theorem dX2_perform_57 : decode cX2_perform 57 = .ok (.ireturn, 1) := dk_172 (dk_at dksX2_perform_2 13 rfl rfl)
theorem dX2_perform_58 : decode cX2_perform 58 = .ok (.aload_n 0, 1) := dk_42 (dk_at dksX2_perform_2 14 rfl rfl)
theorem dX2_perform_59 : decode cX2_perform 59 = .ok (.invokevirtual 122, 3) := dk_182 0 122 (dk_at dksX2_perform_2 15 rfl rfl)
theorem dX2_perform_62 : decode cX2_perform 62 = .ok (.aload_n 0, 1) := dk_42 (dk_at dksX2_perform_2 18 rfl rfl)
theorem dX2_perform_63 : decode cX2_perform 63 = .ok (.invokevirtual 207, 3) := dk_182 0 207 (dk_at dksX2_perform_2 19 rfl rfl)
theorem dX2_perform_66 : decode cX2_perform 66 = .ok (.iload_n 1, 1) := dk_27 (dk_at dksX2_perform_2 22 rfl rfl)
theorem dX2_perform_67 : decode cX2_perform 67 = .ok (.ireturn, 1) := dk_172 (dk_at dksX2_perform_2 23 rfl rfl)
abbrev cX2_reads : ByteArray := prog_7_method_52_code
def yX2_reads : MethodName := ⟨RX2, "reads", "(Z)I"⟩
def dkwX2_reads_6 : List UInt8 := [167, 255, 134, 28, 172]
abbrev dktX2_reads_6 : List UInt8 := dkwX2_reads_6 ++ []
def dkwX2_reads_5 : List UInt8 := [42, 16, 59, 16, 59, 182, 0, 164, 54, 5, 42, 180, 0, 153, 154, 0, 7, 4, 167, 0, 4, 3, 62]
abbrev dktX2_reads_5 : List UInt8 := dkwX2_reads_5 ++ dktX2_reads_6
def dkwX2_reads_4 : List UInt8 := [153, 0, 18, 42, 180, 0, 157, 42, 180, 0, 150, 162, 0, 7, 4, 167, 0, 4, 3, 62, 29, 153, 0, 26]
abbrev dktX2_reads_4 : List UInt8 := dkwX2_reads_4 ++ dktX2_reads_5
def dkwX2_reads_3 : List UInt8 := [42, 182, 0, 197, 167, 0, 4, 3, 54, 4, 28, 29, 153, 0, 7, 4, 167, 0, 4, 3, 96, 61, 29]
abbrev dktX2_reads_3 : List UInt8 := dkwX2_reads_3 ++ dktX2_reads_4
def dkwX2_reads_2 : List UInt8 := [154, 0, 14, 42, 180, 0, 188, 154, 0, 7, 4, 167, 0, 4, 3, 62, 29, 153, 0, 14, 27, 153, 0, 10]
abbrev dktX2_reads_2 : List UInt8 := dkwX2_reads_2 ++ dktX2_reads_3
def dkwX2_reads_1 : List UInt8 := [182, 0, 191, 42, 27, 153, 0, 10, 42, 182, 0, 194, 167, 0, 4, 3, 181, 0, 188, 42, 180, 0, 153]
abbrev dktX2_reads_1 : List UInt8 := dkwX2_reads_1 ++ dktX2_reads_2
def dkwX2_reads_0 : List UInt8 := [42, 3, 181, 0, 157, 42, 3, 181, 0, 153, 42, 3, 181, 0, 188, 3, 61, 4, 62, 29, 153, 0, 124, 42]
abbrev dktX2_reads_0 : List UInt8 := dkwX2_reads_0 ++ dktX2_reads_1
theorem dksX2_reads_0 : cX2_reads.data.toList.drop 0 = dktX2_reads_0 := by decide +kernel
theorem dksX2_reads_1 : cX2_reads.data.toList.drop 24 = dktX2_reads_1 := dk_seg dksX2_reads_0 24 rfl rfl
theorem dksX2_reads_2 : cX2_reads.data.toList.drop 47 = dktX2_reads_2 := dk_seg dksX2_reads_1 23 rfl rfl
theorem dksX2_reads_3 : cX2_reads.data.toList.drop 71 = dktX2_reads_3 := dk_seg dksX2_reads_2 24 rfl rfl
theorem dksX2_reads_4 : cX2_reads.data.toList.drop 94 = dktX2_reads_4 := dk_seg dksX2_reads_3 23 rfl rfl
theorem dksX2_reads_5 : cX2_reads.data.toList.drop 118 = dktX2_reads_5 := dk_seg dksX2_reads_4 24 rfl rfl
theorem dksX2_reads_6 : cX2_reads.data.toList.drop 141 = dktX2_reads_6 := dk_seg dksX2_reads_5 23 rfl rfl
theorem dX2_reads_0 : decode cX2_reads 0 = .ok (.aload_n 0, 1) := dk_42 (dk_at dksX2_reads_0 0 rfl rfl)
theorem dX2_reads_1 : decode cX2_reads 1 = .ok (.iconst 0, 1) := dk_3 (dk_at dksX2_reads_0 1 rfl rfl)
theorem dX2_reads_2 : decode cX2_reads 2 = .ok (.putfield 157, 3) := dk_181 0 157 (dk_at dksX2_reads_0 2 rfl rfl)
theorem dX2_reads_5 : decode cX2_reads 5 = .ok (.aload_n 0, 1) := dk_42 (dk_at dksX2_reads_0 5 rfl rfl)
theorem dX2_reads_6 : decode cX2_reads 6 = .ok (.iconst 0, 1) := dk_3 (dk_at dksX2_reads_0 6 rfl rfl)
theorem dX2_reads_7 : decode cX2_reads 7 = .ok (.putfield 153, 3) := dk_181 0 153 (dk_at dksX2_reads_0 7 rfl rfl)
theorem dX2_reads_10 : decode cX2_reads 10 = .ok (.aload_n 0, 1) := dk_42 (dk_at dksX2_reads_0 10 rfl rfl)
theorem dX2_reads_11 : decode cX2_reads 11 = .ok (.iconst 0, 1) := dk_3 (dk_at dksX2_reads_0 11 rfl rfl)
theorem dX2_reads_12 : decode cX2_reads 12 = .ok (.putfield 188, 3) := dk_181 0 188 (dk_at dksX2_reads_0 12 rfl rfl)
theorem dX2_reads_15 : decode cX2_reads 15 = .ok (.iconst 0, 1) := dk_3 (dk_at dksX2_reads_0 15 rfl rfl)
theorem dX2_reads_16 : decode cX2_reads 16 = .ok (.istore_n 2, 1) := dk_61 (dk_at dksX2_reads_0 16 rfl rfl)
theorem dX2_reads_17 : decode cX2_reads 17 = .ok (.iconst 1, 1) := dk_4 (dk_at dksX2_reads_0 17 rfl rfl)
theorem dX2_reads_18 : decode cX2_reads 18 = .ok (.istore_n 3, 1) := dk_62 (dk_at dksX2_reads_0 18 rfl rfl)
theorem dX2_reads_19 : decode cX2_reads 19 = .ok (.iload_n 3, 1) := dk_29 (dk_at dksX2_reads_0 19 rfl rfl)
theorem dX2_reads_20 : decode cX2_reads 20 = .ok (.ifCond .eq 124, 3) := dk_153 0 124 (dk_at dksX2_reads_0 20 rfl rfl)
theorem dX2_reads_23 : decode cX2_reads 23 = .ok (.aload_n 0, 1) := dk_42 (dk_at dksX2_reads_0 23 rfl rfl)
theorem dX2_reads_24 : decode cX2_reads 24 = .ok (.invokevirtual 191, 3) := dk_182 0 191 (dk_at dksX2_reads_1 0 rfl rfl)
theorem dX2_reads_27 : decode cX2_reads 27 = .ok (.aload_n 0, 1) := dk_42 (dk_at dksX2_reads_1 3 rfl rfl)
theorem dX2_reads_28 : decode cX2_reads 28 = .ok (.iload_n 1, 1) := dk_27 (dk_at dksX2_reads_1 4 rfl rfl)
theorem dX2_reads_29 : decode cX2_reads 29 = .ok (.ifCond .eq 10, 3) := dk_153 0 10 (dk_at dksX2_reads_1 5 rfl rfl)
theorem dX2_reads_32 : decode cX2_reads 32 = .ok (.aload_n 0, 1) := dk_42 (dk_at dksX2_reads_1 8 rfl rfl)
theorem dX2_reads_33 : decode cX2_reads 33 = .ok (.invokevirtual 194, 3) := dk_182 0 194 (dk_at dksX2_reads_1 9 rfl rfl)
theorem dX2_reads_36 : decode cX2_reads 36 = .ok (.goto 4, 3) := dk_167 0 4 (dk_at dksX2_reads_1 12 rfl rfl)
theorem dX2_reads_39 : decode cX2_reads 39 = .ok (.iconst 0, 1) := dk_3 (dk_at dksX2_reads_1 15 rfl rfl)
theorem dX2_reads_40 : decode cX2_reads 40 = .ok (.putfield 188, 3) := dk_181 0 188 (dk_at dksX2_reads_1 16 rfl rfl)
theorem dX2_reads_43 : decode cX2_reads 43 = .ok (.aload_n 0, 1) := dk_42 (dk_at dksX2_reads_1 19 rfl rfl)
theorem dX2_reads_44 : decode cX2_reads 44 = .ok (.getfield 153, 3) := dk_180 0 153 (dk_at dksX2_reads_1 20 rfl rfl)
theorem dX2_reads_47 : decode cX2_reads 47 = .ok (.ifCond .ne 14, 3) := dk_154 0 14 (dk_at dksX2_reads_2 0 rfl rfl)
theorem dX2_reads_50 : decode cX2_reads 50 = .ok (.aload_n 0, 1) := dk_42 (dk_at dksX2_reads_2 3 rfl rfl)
theorem dX2_reads_51 : decode cX2_reads 51 = .ok (.getfield 188, 3) := dk_180 0 188 (dk_at dksX2_reads_2 4 rfl rfl)
theorem dX2_reads_54 : decode cX2_reads 54 = .ok (.ifCond .ne 7, 3) := dk_154 0 7 (dk_at dksX2_reads_2 7 rfl rfl)
theorem dX2_reads_57 : decode cX2_reads 57 = .ok (.iconst 1, 1) := dk_4 (dk_at dksX2_reads_2 10 rfl rfl)
theorem dX2_reads_58 : decode cX2_reads 58 = .ok (.goto 4, 3) := dk_167 0 4 (dk_at dksX2_reads_2 11 rfl rfl)
theorem dX2_reads_61 : decode cX2_reads 61 = .ok (.iconst 0, 1) := dk_3 (dk_at dksX2_reads_2 14 rfl rfl)
theorem dX2_reads_62 : decode cX2_reads 62 = .ok (.istore_n 3, 1) := dk_62 (dk_at dksX2_reads_2 15 rfl rfl)
theorem dX2_reads_63 : decode cX2_reads 63 = .ok (.iload_n 3, 1) := dk_29 (dk_at dksX2_reads_2 16 rfl rfl)
theorem dX2_reads_64 : decode cX2_reads 64 = .ok (.ifCond .eq 14, 3) := dk_153 0 14 (dk_at dksX2_reads_2 17 rfl rfl)
theorem dX2_reads_67 : decode cX2_reads 67 = .ok (.iload_n 1, 1) := dk_27 (dk_at dksX2_reads_2 20 rfl rfl)
theorem dX2_reads_68 : decode cX2_reads 68 = .ok (.ifCond .eq 10, 3) := dk_153 0 10 (dk_at dksX2_reads_2 21 rfl rfl)
theorem dX2_reads_71 : decode cX2_reads 71 = .ok (.aload_n 0, 1) := dk_42 (dk_at dksX2_reads_3 0 rfl rfl)
theorem dX2_reads_72 : decode cX2_reads 72 = .ok (.invokevirtual 197, 3) := dk_182 0 197 (dk_at dksX2_reads_3 1 rfl rfl)
theorem dX2_reads_75 : decode cX2_reads 75 = .ok (.goto 4, 3) := dk_167 0 4 (dk_at dksX2_reads_3 4 rfl rfl)
theorem dX2_reads_78 : decode cX2_reads 78 = .ok (.iconst 0, 1) := dk_3 (dk_at dksX2_reads_3 7 rfl rfl)
theorem dX2_reads_79 : decode cX2_reads 79 = .ok (.istore 4, 2) := dk_54 4 (dk_at dksX2_reads_3 8 rfl rfl)
theorem dX2_reads_81 : decode cX2_reads 81 = .ok (.iload_n 2, 1) := dk_28 (dk_at dksX2_reads_3 10 rfl rfl)
theorem dX2_reads_82 : decode cX2_reads 82 = .ok (.iload_n 3, 1) := dk_29 (dk_at dksX2_reads_3 11 rfl rfl)
theorem dX2_reads_83 : decode cX2_reads 83 = .ok (.ifCond .eq 7, 3) := dk_153 0 7 (dk_at dksX2_reads_3 12 rfl rfl)
theorem dX2_reads_86 : decode cX2_reads 86 = .ok (.iconst 1, 1) := dk_4 (dk_at dksX2_reads_3 15 rfl rfl)
theorem dX2_reads_87 : decode cX2_reads 87 = .ok (.goto 4, 3) := dk_167 0 4 (dk_at dksX2_reads_3 16 rfl rfl)
theorem dX2_reads_90 : decode cX2_reads 90 = .ok (.iconst 0, 1) := dk_3 (dk_at dksX2_reads_3 19 rfl rfl)
theorem dX2_reads_91 : decode cX2_reads 91 = .ok (.iadd, 1) := dk_96 (dk_at dksX2_reads_3 20 rfl rfl)
theorem dX2_reads_92 : decode cX2_reads 92 = .ok (.istore_n 2, 1) := dk_61 (dk_at dksX2_reads_3 21 rfl rfl)
theorem dX2_reads_93 : decode cX2_reads 93 = .ok (.iload_n 3, 1) := dk_29 (dk_at dksX2_reads_3 22 rfl rfl)
theorem dX2_reads_94 : decode cX2_reads 94 = .ok (.ifCond .eq 18, 3) := dk_153 0 18 (dk_at dksX2_reads_4 0 rfl rfl)
theorem dX2_reads_97 : decode cX2_reads 97 = .ok (.aload_n 0, 1) := dk_42 (dk_at dksX2_reads_4 3 rfl rfl)
theorem dX2_reads_98 : decode cX2_reads 98 = .ok (.getfield 157, 3) := dk_180 0 157 (dk_at dksX2_reads_4 4 rfl rfl)
theorem dX2_reads_101 : decode cX2_reads 101 = .ok (.aload_n 0, 1) := dk_42 (dk_at dksX2_reads_4 7 rfl rfl)
theorem dX2_reads_102 : decode cX2_reads 102 = .ok (.getfield 150, 3) := dk_180 0 150 (dk_at dksX2_reads_4 8 rfl rfl)
theorem dX2_reads_105 : decode cX2_reads 105 = .ok (.if_icmp .ge 7, 3) := dk_162 0 7 (dk_at dksX2_reads_4 11 rfl rfl)
theorem dX2_reads_108 : decode cX2_reads 108 = .ok (.iconst 1, 1) := dk_4 (dk_at dksX2_reads_4 14 rfl rfl)
theorem dX2_reads_109 : decode cX2_reads 109 = .ok (.goto 4, 3) := dk_167 0 4 (dk_at dksX2_reads_4 15 rfl rfl)
theorem dX2_reads_112 : decode cX2_reads 112 = .ok (.iconst 0, 1) := dk_3 (dk_at dksX2_reads_4 18 rfl rfl)
theorem dX2_reads_113 : decode cX2_reads 113 = .ok (.istore_n 3, 1) := dk_62 (dk_at dksX2_reads_4 19 rfl rfl)
theorem dX2_reads_114 : decode cX2_reads 114 = .ok (.iload_n 3, 1) := dk_29 (dk_at dksX2_reads_4 20 rfl rfl)
theorem dX2_reads_115 : decode cX2_reads 115 = .ok (.ifCond .eq 26, 3) := dk_153 0 26 (dk_at dksX2_reads_4 21 rfl rfl)
theorem dX2_reads_118 : decode cX2_reads 118 = .ok (.aload_n 0, 1) := dk_42 (dk_at dksX2_reads_5 0 rfl rfl)
theorem dX2_reads_119 : decode cX2_reads 119 = .ok (.bipush 59, 2) := dk_16 59 (dk_at dksX2_reads_5 1 rfl rfl)
theorem dX2_reads_121 : decode cX2_reads 121 = .ok (.bipush 59, 2) := dk_16 59 (dk_at dksX2_reads_5 3 rfl rfl)
theorem dX2_reads_123 : decode cX2_reads 123 = .ok (.invokevirtual 164, 3) := dk_182 0 164 (dk_at dksX2_reads_5 5 rfl rfl)
theorem dX2_reads_126 : decode cX2_reads 126 = .ok (.istore 5, 2) := dk_54 5 (dk_at dksX2_reads_5 8 rfl rfl)
theorem dX2_reads_128 : decode cX2_reads 128 = .ok (.aload_n 0, 1) := dk_42 (dk_at dksX2_reads_5 10 rfl rfl)
theorem dX2_reads_129 : decode cX2_reads 129 = .ok (.getfield 153, 3) := dk_180 0 153 (dk_at dksX2_reads_5 11 rfl rfl)
theorem dX2_reads_132 : decode cX2_reads 132 = .ok (.ifCond .ne 7, 3) := dk_154 0 7 (dk_at dksX2_reads_5 14 rfl rfl)
theorem dX2_reads_135 : decode cX2_reads 135 = .ok (.iconst 1, 1) := dk_4 (dk_at dksX2_reads_5 17 rfl rfl)
theorem dX2_reads_136 : decode cX2_reads 136 = .ok (.goto 4, 3) := dk_167 0 4 (dk_at dksX2_reads_5 18 rfl rfl)
theorem dX2_reads_139 : decode cX2_reads 139 = .ok (.iconst 0, 1) := dk_3 (dk_at dksX2_reads_5 21 rfl rfl)
theorem dX2_reads_140 : decode cX2_reads 140 = .ok (.istore_n 3, 1) := dk_62 (dk_at dksX2_reads_5 22 rfl rfl)
theorem dX2_reads_141 : decode cX2_reads 141 = .ok (.goto (-122), 3) := dk_167 255 134 (dk_at dksX2_reads_6 0 rfl rfl)
theorem dX2_reads_144 : decode cX2_reads 144 = .ok (.iload_n 2, 1) := dk_28 (dk_at dksX2_reads_6 3 rfl rfl)
theorem dX2_reads_145 : decode cX2_reads 145 = .ok (.ireturn, 1) := dk_172 (dk_at dksX2_reads_6 4 rfl rfl)
abbrev cX2_readOne : ByteArray := prog_7_method_49_code
def yX2_readOne : MethodName := ⟨RX2, "readOne", "()V"⟩
def dkwX2_readOne_9 : List UInt8 := [42, 3, 181, 0, 182, 177]
abbrev dktX2_readOne_9 : List UInt8 := dkwX2_readOne_9 ++ []
def dkwX2_readOne_8 : List UInt8 := [16, 52, 182, 0, 164, 181, 0, 182, 167, 0, 21, 42, 42, 16, 99, 182, 0, 173, 181, 0, 182, 167, 0, 8]
abbrev dktX2_readOne_8 : List UInt8 := dkwX2_readOne_8 ++ dktX2_readOne_9
def dkwX2_readOne_7 : List UInt8 := [181, 0, 182, 42, 16, 58, 16, 58, 182, 0, 164, 60, 42, 182, 0, 185, 167, 0, 36, 42, 42, 16, 48]
abbrev dktX2_readOne_7 : List UInt8 := dkwX2_readOne_7 ++ dktX2_readOne_8
def dkwX2_readOne_6 : List UInt8 := [42, 4, 181, 0, 182, 42, 182, 0, 185, 167, 0, 66, 42, 5, 42, 16, 50, 16, 54, 182, 0, 164, 96]
abbrev dktX2_readOne_6 : List UInt8 := dkwX2_readOne_6 ++ dktX2_readOne_7
def dkwX2_readOne_5 : List UInt8 := [171, 0, 0, 0, 111, 0, 0, 0, 4, 0, 0, 0, 46, 0, 0, 0, 98, 0, 0, 0, 98, 0, 0, 0, 41, 0, 0, 0, 114, 0, 0, 0, 53, 0, 0, 0, 120, 0, 0, 0, 83]
abbrev dktX2_readOne_5 : List UInt8 := dkwX2_readOne_5 ++ dktX2_readOne_6
def dkwX2_readOne_4 : List UInt8 := [167, 0, 4, 4, 96, 181, 0, 157, 3, 60, 42, 180, 0, 179]
abbrev dktX2_readOne_4 : List UInt8 := dkwX2_readOne_4 ++ dktX2_readOne_5
def dkwX2_readOne_3 : List UInt8 := [159, 0, 7, 4, 167, 0, 4, 3, 181, 0, 153, 42, 89, 180, 0, 157, 42, 180, 0, 153, 153, 0, 7, 3]
abbrev dktX2_readOne_3 : List UInt8 := dkwX2_readOne_3 ++ dktX2_readOne_4
def dkwX2_readOne_2 : List UInt8 := [180, 0, 179, 16, 114, 159, 0, 25, 42, 180, 0, 179, 16, 120, 159, 0, 16, 42, 180, 0, 179, 16, 46]
abbrev dktX2_readOne_2 : List UInt8 := dkwX2_readOne_2 ++ dktX2_readOne_3
def dkwX2_readOne_1 : List UInt8 := [3, 181, 0, 179, 42, 42, 180, 0, 153, 154, 0, 39, 42, 180, 0, 179, 16, 98, 159, 0, 34, 42]
abbrev dktX2_readOne_1 : List UInt8 := dkwX2_readOne_1 ++ dktX2_readOne_2
def dkwX2_readOne_0 : List UInt8 := [42, 42, 180, 0, 157, 42, 180, 0, 150, 162, 0, 15, 42, 180, 0, 22, 42, 180, 0, 157, 46, 167, 0, 4]
abbrev dktX2_readOne_0 : List UInt8 := dkwX2_readOne_0 ++ dktX2_readOne_1
theorem dksX2_readOne_0 : cX2_readOne.data.toList.drop 0 = dktX2_readOne_0 := by decide +kernel
theorem dksX2_readOne_1 : cX2_readOne.data.toList.drop 24 = dktX2_readOne_1 := dk_seg dksX2_readOne_0 24 rfl rfl
theorem dksX2_readOne_2 : cX2_readOne.data.toList.drop 46 = dktX2_readOne_2 := dk_seg dksX2_readOne_1 22 rfl rfl
theorem dksX2_readOne_3 : cX2_readOne.data.toList.drop 69 = dktX2_readOne_3 := dk_seg dksX2_readOne_2 23 rfl rfl
theorem dksX2_readOne_4 : cX2_readOne.data.toList.drop 93 = dktX2_readOne_4 := dk_seg dksX2_readOne_3 24 rfl rfl
theorem dksX2_readOne_5 : cX2_readOne.data.toList.drop 107 = dktX2_readOne_5 := dk_seg dksX2_readOne_4 14 rfl rfl
theorem dksX2_readOne_6 : cX2_readOne.data.toList.drop 148 = dktX2_readOne_6 := dk_seg dksX2_readOne_5 41 rfl rfl
theorem dksX2_readOne_7 : cX2_readOne.data.toList.drop 171 = dktX2_readOne_7 := dk_seg dksX2_readOne_6 23 rfl rfl
theorem dksX2_readOne_8 : cX2_readOne.data.toList.drop 194 = dktX2_readOne_8 := dk_seg dksX2_readOne_7 23 rfl rfl
theorem dksX2_readOne_9 : cX2_readOne.data.toList.drop 218 = dktX2_readOne_9 := dk_seg dksX2_readOne_8 24 rfl rfl
theorem dX2_readOne_0 : decode cX2_readOne 0 = .ok (.aload_n 0, 1) := dk_42 (dk_at dksX2_readOne_0 0 rfl rfl)
theorem dX2_readOne_1 : decode cX2_readOne 1 = .ok (.aload_n 0, 1) := dk_42 (dk_at dksX2_readOne_0 1 rfl rfl)
theorem dX2_readOne_2 : decode cX2_readOne 2 = .ok (.getfield 157, 3) := dk_180 0 157 (dk_at dksX2_readOne_0 2 rfl rfl)
theorem dX2_readOne_5 : decode cX2_readOne 5 = .ok (.aload_n 0, 1) := dk_42 (dk_at dksX2_readOne_0 5 rfl rfl)
theorem dX2_readOne_6 : decode cX2_readOne 6 = .ok (.getfield 150, 3) := dk_180 0 150 (dk_at dksX2_readOne_0 6 rfl rfl)
theorem dX2_readOne_9 : decode cX2_readOne 9 = .ok (.if_icmp .ge 15, 3) := dk_162 0 15 (dk_at dksX2_readOne_0 9 rfl rfl)
theorem dX2_readOne_12 : decode cX2_readOne 12 = .ok (.aload_n 0, 1) := dk_42 (dk_at dksX2_readOne_0 12 rfl rfl)
theorem dX2_readOne_13 : decode cX2_readOne 13 = .ok (.getfield 22, 3) := dk_180 0 22 (dk_at dksX2_readOne_0 13 rfl rfl)
theorem dX2_readOne_16 : decode cX2_readOne 16 = .ok (.aload_n 0, 1) := dk_42 (dk_at dksX2_readOne_0 16 rfl rfl)
theorem dX2_readOne_17 : decode cX2_readOne 17 = .ok (.getfield 157, 3) := dk_180 0 157 (dk_at dksX2_readOne_0 17 rfl rfl)
theorem dX2_readOne_20 : decode cX2_readOne 20 = .ok (.iaload, 1) := dk_46 (dk_at dksX2_readOne_0 20 rfl rfl)
theorem dX2_readOne_21 : decode cX2_readOne 21 = .ok (.goto 4, 3) := dk_167 0 4 (dk_at dksX2_readOne_0 21 rfl rfl)
theorem dX2_readOne_24 : decode cX2_readOne 24 = .ok (.iconst 0, 1) := dk_3 (dk_at dksX2_readOne_1 0 rfl rfl)
theorem dX2_readOne_25 : decode cX2_readOne 25 = .ok (.putfield 179, 3) := dk_181 0 179 (dk_at dksX2_readOne_1 1 rfl rfl)
theorem dX2_readOne_28 : decode cX2_readOne 28 = .ok (.aload_n 0, 1) := dk_42 (dk_at dksX2_readOne_1 4 rfl rfl)
theorem dX2_readOne_29 : decode cX2_readOne 29 = .ok (.aload_n 0, 1) := dk_42 (dk_at dksX2_readOne_1 5 rfl rfl)
theorem dX2_readOne_30 : decode cX2_readOne 30 = .ok (.getfield 153, 3) := dk_180 0 153 (dk_at dksX2_readOne_1 6 rfl rfl)
theorem dX2_readOne_33 : decode cX2_readOne 33 = .ok (.ifCond .ne 39, 3) := dk_154 0 39 (dk_at dksX2_readOne_1 9 rfl rfl)
theorem dX2_readOne_36 : decode cX2_readOne 36 = .ok (.aload_n 0, 1) := dk_42 (dk_at dksX2_readOne_1 12 rfl rfl)
theorem dX2_readOne_37 : decode cX2_readOne 37 = .ok (.getfield 179, 3) := dk_180 0 179 (dk_at dksX2_readOne_1 13 rfl rfl)
theorem dX2_readOne_40 : decode cX2_readOne 40 = .ok (.bipush 98, 2) := dk_16 98 (dk_at dksX2_readOne_1 16 rfl rfl)
theorem dX2_readOne_42 : decode cX2_readOne 42 = .ok (.if_icmp .eq 34, 3) := dk_159 0 34 (dk_at dksX2_readOne_1 18 rfl rfl)
theorem dX2_readOne_45 : decode cX2_readOne 45 = .ok (.aload_n 0, 1) := dk_42 (dk_at dksX2_readOne_1 21 rfl rfl)
theorem dX2_readOne_46 : decode cX2_readOne 46 = .ok (.getfield 179, 3) := dk_180 0 179 (dk_at dksX2_readOne_2 0 rfl rfl)
theorem dX2_readOne_49 : decode cX2_readOne 49 = .ok (.bipush 114, 2) := dk_16 114 (dk_at dksX2_readOne_2 3 rfl rfl)
theorem dX2_readOne_51 : decode cX2_readOne 51 = .ok (.if_icmp .eq 25, 3) := dk_159 0 25 (dk_at dksX2_readOne_2 5 rfl rfl)
theorem dX2_readOne_54 : decode cX2_readOne 54 = .ok (.aload_n 0, 1) := dk_42 (dk_at dksX2_readOne_2 8 rfl rfl)
theorem dX2_readOne_55 : decode cX2_readOne 55 = .ok (.getfield 179, 3) := dk_180 0 179 (dk_at dksX2_readOne_2 9 rfl rfl)
theorem dX2_readOne_58 : decode cX2_readOne 58 = .ok (.bipush 120, 2) := dk_16 120 (dk_at dksX2_readOne_2 12 rfl rfl)
theorem dX2_readOne_60 : decode cX2_readOne 60 = .ok (.if_icmp .eq 16, 3) := dk_159 0 16 (dk_at dksX2_readOne_2 14 rfl rfl)
theorem dX2_readOne_63 : decode cX2_readOne 63 = .ok (.aload_n 0, 1) := dk_42 (dk_at dksX2_readOne_2 17 rfl rfl)
theorem dX2_readOne_64 : decode cX2_readOne 64 = .ok (.getfield 179, 3) := dk_180 0 179 (dk_at dksX2_readOne_2 18 rfl rfl)
theorem dX2_readOne_67 : decode cX2_readOne 67 = .ok (.bipush 46, 2) := dk_16 46 (dk_at dksX2_readOne_2 21 rfl rfl)
theorem dX2_readOne_69 : decode cX2_readOne 69 = .ok (.if_icmp .eq 7, 3) := dk_159 0 7 (dk_at dksX2_readOne_3 0 rfl rfl)
theorem dX2_readOne_72 : decode cX2_readOne 72 = .ok (.iconst 1, 1) := dk_4 (dk_at dksX2_readOne_3 3 rfl rfl)
theorem dX2_readOne_73 : decode cX2_readOne 73 = .ok (.goto 4, 3) := dk_167 0 4 (dk_at dksX2_readOne_3 4 rfl rfl)
theorem dX2_readOne_76 : decode cX2_readOne 76 = .ok (.iconst 0, 1) := dk_3 (dk_at dksX2_readOne_3 7 rfl rfl)
theorem dX2_readOne_77 : decode cX2_readOne 77 = .ok (.putfield 153, 3) := dk_181 0 153 (dk_at dksX2_readOne_3 8 rfl rfl)
theorem dX2_readOne_80 : decode cX2_readOne 80 = .ok (.aload_n 0, 1) := dk_42 (dk_at dksX2_readOne_3 11 rfl rfl)
theorem dX2_readOne_81 : decode cX2_readOne 81 = .ok (.dup, 1) := dk_89 (dk_at dksX2_readOne_3 12 rfl rfl)
theorem dX2_readOne_82 : decode cX2_readOne 82 = .ok (.getfield 157, 3) := dk_180 0 157 (dk_at dksX2_readOne_3 13 rfl rfl)
theorem dX2_readOne_85 : decode cX2_readOne 85 = .ok (.aload_n 0, 1) := dk_42 (dk_at dksX2_readOne_3 16 rfl rfl)
theorem dX2_readOne_86 : decode cX2_readOne 86 = .ok (.getfield 153, 3) := dk_180 0 153 (dk_at dksX2_readOne_3 17 rfl rfl)
theorem dX2_readOne_89 : decode cX2_readOne 89 = .ok (.ifCond .eq 7, 3) := dk_153 0 7 (dk_at dksX2_readOne_3 20 rfl rfl)
theorem dX2_readOne_92 : decode cX2_readOne 92 = .ok (.iconst 0, 1) := dk_3 (dk_at dksX2_readOne_3 23 rfl rfl)
theorem dX2_readOne_93 : decode cX2_readOne 93 = .ok (.goto 4, 3) := dk_167 0 4 (dk_at dksX2_readOne_4 0 rfl rfl)
theorem dX2_readOne_96 : decode cX2_readOne 96 = .ok (.iconst 1, 1) := dk_4 (dk_at dksX2_readOne_4 3 rfl rfl)
theorem dX2_readOne_97 : decode cX2_readOne 97 = .ok (.iadd, 1) := dk_96 (dk_at dksX2_readOne_4 4 rfl rfl)
theorem dX2_readOne_98 : decode cX2_readOne 98 = .ok (.putfield 157, 3) := dk_181 0 157 (dk_at dksX2_readOne_4 5 rfl rfl)
theorem dX2_readOne_101 : decode cX2_readOne 101 = .ok (.iconst 0, 1) := dk_3 (dk_at dksX2_readOne_4 8 rfl rfl)
theorem dX2_readOne_102 : decode cX2_readOne 102 = .ok (.istore_n 1, 1) := dk_60 (dk_at dksX2_readOne_4 9 rfl rfl)
theorem dX2_readOne_103 : decode cX2_readOne 103 = .ok (.aload_n 0, 1) := dk_42 (dk_at dksX2_readOne_4 10 rfl rfl)
theorem dX2_readOne_104 : decode cX2_readOne 104 = .ok (.getfield 179, 3) := dk_180 0 179 (dk_at dksX2_readOne_4 11 rfl rfl)
theorem dX2_readOne_107 : decode cX2_readOne 107 = .ok (.lookupswitch 111 #[(46, 98), (98, 41), (114, 53), (120, 83)], 41) := by decide +kernel
theorem dX2_readOne_148 : decode cX2_readOne 148 = .ok (.aload_n 0, 1) := dk_42 (dk_at dksX2_readOne_6 0 rfl rfl)
theorem dX2_readOne_149 : decode cX2_readOne 149 = .ok (.iconst 1, 1) := dk_4 (dk_at dksX2_readOne_6 1 rfl rfl)
theorem dX2_readOne_150 : decode cX2_readOne 150 = .ok (.putfield 182, 3) := dk_181 0 182 (dk_at dksX2_readOne_6 2 rfl rfl)
theorem dX2_readOne_153 : decode cX2_readOne 153 = .ok (.aload_n 0, 1) := dk_42 (dk_at dksX2_readOne_6 5 rfl rfl)
theorem dX2_readOne_154 : decode cX2_readOne 154 = .ok (.invokevirtual 185, 3) := dk_182 0 185 (dk_at dksX2_readOne_6 6 rfl rfl)
theorem dX2_readOne_157 : decode cX2_readOne 157 = .ok (.goto 66, 3) := dk_167 0 66 (dk_at dksX2_readOne_6 9 rfl rfl)
theorem dX2_readOne_160 : decode cX2_readOne 160 = .ok (.aload_n 0, 1) := dk_42 (dk_at dksX2_readOne_6 12 rfl rfl)
theorem dX2_readOne_161 : decode cX2_readOne 161 = .ok (.iconst 2, 1) := dk_5 (dk_at dksX2_readOne_6 13 rfl rfl)
theorem dX2_readOne_162 : decode cX2_readOne 162 = .ok (.aload_n 0, 1) := dk_42 (dk_at dksX2_readOne_6 14 rfl rfl)
theorem dX2_readOne_163 : decode cX2_readOne 163 = .ok (.bipush 50, 2) := dk_16 50 (dk_at dksX2_readOne_6 15 rfl rfl)
theorem dX2_readOne_165 : decode cX2_readOne 165 = .ok (.bipush 54, 2) := dk_16 54 (dk_at dksX2_readOne_6 17 rfl rfl)
theorem dX2_readOne_167 : decode cX2_readOne 167 = .ok (.invokevirtual 164, 3) := dk_182 0 164 (dk_at dksX2_readOne_6 19 rfl rfl)
theorem dX2_readOne_170 : decode cX2_readOne 170 = .ok (.iadd, 1) := dk_96 (dk_at dksX2_readOne_6 22 rfl rfl)
theorem dX2_readOne_171 : decode cX2_readOne 171 = .ok (.putfield 182, 3) := dk_181 0 182 (dk_at dksX2_readOne_7 0 rfl rfl)
theorem dX2_readOne_174 : decode cX2_readOne 174 = .ok (.aload_n 0, 1) := dk_42 (dk_at dksX2_readOne_7 3 rfl rfl)
theorem dX2_readOne_175 : decode cX2_readOne 175 = .ok (.bipush 58, 2) := dk_16 58 (dk_at dksX2_readOne_7 4 rfl rfl)
theorem dX2_readOne_177 : decode cX2_readOne 177 = .ok (.bipush 58, 2) := dk_16 58 (dk_at dksX2_readOne_7 6 rfl rfl)
theorem dX2_readOne_179 : decode cX2_readOne 179 = .ok (.invokevirtual 164, 3) := dk_182 0 164 (dk_at dksX2_readOne_7 8 rfl rfl)
theorem dX2_readOne_182 : decode cX2_readOne 182 = .ok (.istore_n 1, 1) := dk_60 (dk_at dksX2_readOne_7 11 rfl rfl)
theorem dX2_readOne_183 : decode cX2_readOne 183 = .ok (.aload_n 0, 1) := dk_42 (dk_at dksX2_readOne_7 12 rfl rfl)
theorem dX2_readOne_184 : decode cX2_readOne 184 = .ok (.invokevirtual 185, 3) := dk_182 0 185 (dk_at dksX2_readOne_7 13 rfl rfl)
theorem dX2_readOne_187 : decode cX2_readOne 187 = .ok (.goto 36, 3) := dk_167 0 36 (dk_at dksX2_readOne_7 16 rfl rfl)
theorem dX2_readOne_190 : decode cX2_readOne 190 = .ok (.aload_n 0, 1) := dk_42 (dk_at dksX2_readOne_7 19 rfl rfl)
theorem dX2_readOne_191 : decode cX2_readOne 191 = .ok (.aload_n 0, 1) := dk_42 (dk_at dksX2_readOne_7 20 rfl rfl)
theorem dX2_readOne_192 : decode cX2_readOne 192 = .ok (.bipush 48, 2) := dk_16 48 (dk_at dksX2_readOne_7 21 rfl rfl)
theorem dX2_readOne_194 : decode cX2_readOne 194 = .ok (.bipush 52, 2) := dk_16 52 (dk_at dksX2_readOne_8 0 rfl rfl)
theorem dX2_readOne_196 : decode cX2_readOne 196 = .ok (.invokevirtual 164, 3) := dk_182 0 164 (dk_at dksX2_readOne_8 2 rfl rfl)
theorem dX2_readOne_199 : decode cX2_readOne 199 = .ok (.putfield 182, 3) := dk_181 0 182 (dk_at dksX2_readOne_8 5 rfl rfl)
theorem dX2_readOne_202 : decode cX2_readOne 202 = .ok (.goto 21, 3) := dk_167 0 21 (dk_at dksX2_readOne_8 8 rfl rfl)
theorem dX2_readOne_205 : decode cX2_readOne 205 = .ok (.aload_n 0, 1) := dk_42 (dk_at dksX2_readOne_8 11 rfl rfl)
theorem dX2_readOne_206 : decode cX2_readOne 206 = .ok (.aload_n 0, 1) := dk_42 (dk_at dksX2_readOne_8 12 rfl rfl)
theorem dX2_readOne_207 : decode cX2_readOne 207 = .ok (.bipush 99, 2) := dk_16 99 (dk_at dksX2_readOne_8 13 rfl rfl)
theorem dX2_readOne_209 : decode cX2_readOne 209 = .ok (.invokevirtual 173, 3) := dk_182 0 173 (dk_at dksX2_readOne_8 15 rfl rfl)
theorem dX2_readOne_212 : decode cX2_readOne 212 = .ok (.putfield 182, 3) := dk_181 0 182 (dk_at dksX2_readOne_8 18 rfl rfl)
theorem dX2_readOne_215 : decode cX2_readOne 215 = .ok (.goto 8, 3) := dk_167 0 8 (dk_at dksX2_readOne_8 21 rfl rfl)
theorem dX2_readOne_218 : decode cX2_readOne 218 = .ok (.aload_n 0, 1) := dk_42 (dk_at dksX2_readOne_9 0 rfl rfl)
theorem dX2_readOne_219 : decode cX2_readOne 219 = .ok (.iconst 0, 1) := dk_3 (dk_at dksX2_readOne_9 1 rfl rfl)
theorem dX2_readOne_220 : decode cX2_readOne 220 = .ok (.putfield 182, 3) := dk_181 0 182 (dk_at dksX2_readOne_9 2 rfl rfl)
theorem dX2_readOne_223 : decode cX2_readOne 223 = .ok (.return_, 1) := dk_177 (dk_at dksX2_readOne_9 5 rfl rfl)
abbrev cX2_readWay : ByteArray := prog_7_method_48_code
def yX2_readWay : MethodName := ⟨RX2, "readWay", "()V"⟩
def dkwX2_readWay_2 : List UInt8 := [182, 0, 173, 181, 0, 176, 177]
abbrev dktX2_readWay_2 : List UInt8 := dkwX2_readWay_2 ++ []
def dkwX2_readWay_1 : List UInt8 := [42, 16, 48, 16, 53, 182, 0, 164, 181, 0, 170, 42, 16, 64, 16, 64, 182, 0, 164, 60, 42, 42, 16, 60]
abbrev dktX2_readWay_1 : List UInt8 := dkwX2_readWay_1 ++ dktX2_readWay_2
def dkwX2_readWay_0 : List UInt8 := [3, 60, 42, 42, 16, 48, 16, 53, 182, 0, 164, 181, 0, 167, 42, 16, 62, 16, 62, 182, 0, 164, 60, 42]
abbrev dktX2_readWay_0 : List UInt8 := dkwX2_readWay_0 ++ dktX2_readWay_1
theorem dksX2_readWay_0 : cX2_readWay.data.toList.drop 0 = dktX2_readWay_0 := by decide +kernel
theorem dksX2_readWay_1 : cX2_readWay.data.toList.drop 24 = dktX2_readWay_1 := dk_seg dksX2_readWay_0 24 rfl rfl
theorem dksX2_readWay_2 : cX2_readWay.data.toList.drop 48 = dktX2_readWay_2 := dk_seg dksX2_readWay_1 24 rfl rfl
theorem dX2_readWay_0 : decode cX2_readWay 0 = .ok (.iconst 0, 1) := dk_3 (dk_at dksX2_readWay_0 0 rfl rfl)
theorem dX2_readWay_1 : decode cX2_readWay 1 = .ok (.istore_n 1, 1) := dk_60 (dk_at dksX2_readWay_0 1 rfl rfl)
theorem dX2_readWay_2 : decode cX2_readWay 2 = .ok (.aload_n 0, 1) := dk_42 (dk_at dksX2_readWay_0 2 rfl rfl)
theorem dX2_readWay_3 : decode cX2_readWay 3 = .ok (.aload_n 0, 1) := dk_42 (dk_at dksX2_readWay_0 3 rfl rfl)
theorem dX2_readWay_4 : decode cX2_readWay 4 = .ok (.bipush 48, 2) := dk_16 48 (dk_at dksX2_readWay_0 4 rfl rfl)
theorem dX2_readWay_6 : decode cX2_readWay 6 = .ok (.bipush 53, 2) := dk_16 53 (dk_at dksX2_readWay_0 6 rfl rfl)
theorem dX2_readWay_8 : decode cX2_readWay 8 = .ok (.invokevirtual 164, 3) := dk_182 0 164 (dk_at dksX2_readWay_0 8 rfl rfl)
theorem dX2_readWay_11 : decode cX2_readWay 11 = .ok (.putfield 167, 3) := dk_181 0 167 (dk_at dksX2_readWay_0 11 rfl rfl)
theorem dX2_readWay_14 : decode cX2_readWay 14 = .ok (.aload_n 0, 1) := dk_42 (dk_at dksX2_readWay_0 14 rfl rfl)
theorem dX2_readWay_15 : decode cX2_readWay 15 = .ok (.bipush 62, 2) := dk_16 62 (dk_at dksX2_readWay_0 15 rfl rfl)
theorem dX2_readWay_17 : decode cX2_readWay 17 = .ok (.bipush 62, 2) := dk_16 62 (dk_at dksX2_readWay_0 17 rfl rfl)
theorem dX2_readWay_19 : decode cX2_readWay 19 = .ok (.invokevirtual 164, 3) := dk_182 0 164 (dk_at dksX2_readWay_0 19 rfl rfl)
theorem dX2_readWay_22 : decode cX2_readWay 22 = .ok (.istore_n 1, 1) := dk_60 (dk_at dksX2_readWay_0 22 rfl rfl)
theorem dX2_readWay_23 : decode cX2_readWay 23 = .ok (.aload_n 0, 1) := dk_42 (dk_at dksX2_readWay_0 23 rfl rfl)
theorem dX2_readWay_24 : decode cX2_readWay 24 = .ok (.aload_n 0, 1) := dk_42 (dk_at dksX2_readWay_1 0 rfl rfl)
theorem dX2_readWay_25 : decode cX2_readWay 25 = .ok (.bipush 48, 2) := dk_16 48 (dk_at dksX2_readWay_1 1 rfl rfl)
theorem dX2_readWay_27 : decode cX2_readWay 27 = .ok (.bipush 53, 2) := dk_16 53 (dk_at dksX2_readWay_1 3 rfl rfl)
theorem dX2_readWay_29 : decode cX2_readWay 29 = .ok (.invokevirtual 164, 3) := dk_182 0 164 (dk_at dksX2_readWay_1 5 rfl rfl)
theorem dX2_readWay_32 : decode cX2_readWay 32 = .ok (.putfield 170, 3) := dk_181 0 170 (dk_at dksX2_readWay_1 8 rfl rfl)
theorem dX2_readWay_35 : decode cX2_readWay 35 = .ok (.aload_n 0, 1) := dk_42 (dk_at dksX2_readWay_1 11 rfl rfl)
theorem dX2_readWay_36 : decode cX2_readWay 36 = .ok (.bipush 64, 2) := dk_16 64 (dk_at dksX2_readWay_1 12 rfl rfl)
theorem dX2_readWay_38 : decode cX2_readWay 38 = .ok (.bipush 64, 2) := dk_16 64 (dk_at dksX2_readWay_1 14 rfl rfl)
theorem dX2_readWay_40 : decode cX2_readWay 40 = .ok (.invokevirtual 164, 3) := dk_182 0 164 (dk_at dksX2_readWay_1 16 rfl rfl)
theorem dX2_readWay_43 : decode cX2_readWay 43 = .ok (.istore_n 1, 1) := dk_60 (dk_at dksX2_readWay_1 19 rfl rfl)
theorem dX2_readWay_44 : decode cX2_readWay 44 = .ok (.aload_n 0, 1) := dk_42 (dk_at dksX2_readWay_1 20 rfl rfl)
theorem dX2_readWay_45 : decode cX2_readWay 45 = .ok (.aload_n 0, 1) := dk_42 (dk_at dksX2_readWay_1 21 rfl rfl)
theorem dX2_readWay_46 : decode cX2_readWay 46 = .ok (.bipush 60, 2) := dk_16 60 (dk_at dksX2_readWay_1 22 rfl rfl)
theorem dX2_readWay_48 : decode cX2_readWay 48 = .ok (.invokevirtual 173, 3) := dk_182 0 173 (dk_at dksX2_readWay_2 0 rfl rfl)
theorem dX2_readWay_51 : decode cX2_readWay 51 = .ok (.putfield 176, 3) := dk_181 0 176 (dk_at dksX2_readWay_2 3 rfl rfl)
theorem dX2_readWay_54 : decode cX2_readWay 54 = .ok (.return_, 1) := dk_177 (dk_at dksX2_readWay_2 6 rfl rfl)
abbrev cX2_takes : ByteArray := prog_7_method_46_code
def yX2_takes : MethodName := ⟨RX2, "takes", "(II)I"⟩
def dkwX2_takes_2 : List UInt8 := [42, 42, 180, 0, 153, 154, 0, 7, 29, 154, 0, 7, 4, 167, 0, 4, 3, 181, 0, 153, 21, 4, 172]
abbrev dktX2_takes_2 : List UInt8 := dkwX2_takes_2 ++ []
def dkwX2_takes_1 : List UInt8 := [167, 0, 4, 3, 54, 4, 42, 89, 180, 0, 157, 29, 153, 0, 7, 4, 167, 0, 4, 3, 96, 181, 0, 157]
abbrev dktX2_takes_1 : List UInt8 := dkwX2_takes_1 ++ dktX2_takes_2
def dkwX2_takes_0 : List UInt8 := [42, 27, 28, 182, 0, 160, 62, 29, 153, 0, 17, 42, 180, 0, 22, 42, 180, 0, 157, 46, 27, 100]
abbrev dktX2_takes_0 : List UInt8 := dkwX2_takes_0 ++ dktX2_takes_1
theorem dksX2_takes_0 : cX2_takes.data.toList.drop 0 = dktX2_takes_0 := by decide +kernel
theorem dksX2_takes_1 : cX2_takes.data.toList.drop 22 = dktX2_takes_1 := dk_seg dksX2_takes_0 22 rfl rfl
theorem dksX2_takes_2 : cX2_takes.data.toList.drop 46 = dktX2_takes_2 := dk_seg dksX2_takes_1 24 rfl rfl
theorem dX2_takes_0 : decode cX2_takes 0 = .ok (.aload_n 0, 1) := dk_42 (dk_at dksX2_takes_0 0 rfl rfl)
theorem dX2_takes_1 : decode cX2_takes 1 = .ok (.iload_n 1, 1) := dk_27 (dk_at dksX2_takes_0 1 rfl rfl)
theorem dX2_takes_2 : decode cX2_takes 2 = .ok (.iload_n 2, 1) := dk_28 (dk_at dksX2_takes_0 2 rfl rfl)
theorem dX2_takes_3 : decode cX2_takes 3 = .ok (.invokevirtual 160, 3) := dk_182 0 160 (dk_at dksX2_takes_0 3 rfl rfl)
theorem dX2_takes_6 : decode cX2_takes 6 = .ok (.istore_n 3, 1) := dk_62 (dk_at dksX2_takes_0 6 rfl rfl)
theorem dX2_takes_7 : decode cX2_takes 7 = .ok (.iload_n 3, 1) := dk_29 (dk_at dksX2_takes_0 7 rfl rfl)
theorem dX2_takes_8 : decode cX2_takes 8 = .ok (.ifCond .eq 17, 3) := dk_153 0 17 (dk_at dksX2_takes_0 8 rfl rfl)
theorem dX2_takes_11 : decode cX2_takes 11 = .ok (.aload_n 0, 1) := dk_42 (dk_at dksX2_takes_0 11 rfl rfl)
theorem dX2_takes_12 : decode cX2_takes 12 = .ok (.getfield 22, 3) := dk_180 0 22 (dk_at dksX2_takes_0 12 rfl rfl)
theorem dX2_takes_15 : decode cX2_takes 15 = .ok (.aload_n 0, 1) := dk_42 (dk_at dksX2_takes_0 15 rfl rfl)
theorem dX2_takes_16 : decode cX2_takes 16 = .ok (.getfield 157, 3) := dk_180 0 157 (dk_at dksX2_takes_0 16 rfl rfl)
theorem dX2_takes_19 : decode cX2_takes 19 = .ok (.iaload, 1) := dk_46 (dk_at dksX2_takes_0 19 rfl rfl)
theorem dX2_takes_20 : decode cX2_takes 20 = .ok (.iload_n 1, 1) := dk_27 (dk_at dksX2_takes_0 20 rfl rfl)
theorem dX2_takes_21 : decode cX2_takes 21 = .ok (.isub, 1) := dk_100 (dk_at dksX2_takes_0 21 rfl rfl)
theorem dX2_takes_22 : decode cX2_takes 22 = .ok (.goto 4, 3) := dk_167 0 4 (dk_at dksX2_takes_1 0 rfl rfl)
theorem dX2_takes_25 : decode cX2_takes 25 = .ok (.iconst 0, 1) := dk_3 (dk_at dksX2_takes_1 3 rfl rfl)
theorem dX2_takes_26 : decode cX2_takes 26 = .ok (.istore 4, 2) := dk_54 4 (dk_at dksX2_takes_1 4 rfl rfl)
theorem dX2_takes_28 : decode cX2_takes 28 = .ok (.aload_n 0, 1) := dk_42 (dk_at dksX2_takes_1 6 rfl rfl)
theorem dX2_takes_29 : decode cX2_takes 29 = .ok (.dup, 1) := dk_89 (dk_at dksX2_takes_1 7 rfl rfl)
theorem dX2_takes_30 : decode cX2_takes 30 = .ok (.getfield 157, 3) := dk_180 0 157 (dk_at dksX2_takes_1 8 rfl rfl)
theorem dX2_takes_33 : decode cX2_takes 33 = .ok (.iload_n 3, 1) := dk_29 (dk_at dksX2_takes_1 11 rfl rfl)
theorem dX2_takes_34 : decode cX2_takes 34 = .ok (.ifCond .eq 7, 3) := dk_153 0 7 (dk_at dksX2_takes_1 12 rfl rfl)
theorem dX2_takes_37 : decode cX2_takes 37 = .ok (.iconst 1, 1) := dk_4 (dk_at dksX2_takes_1 15 rfl rfl)
theorem dX2_takes_38 : decode cX2_takes 38 = .ok (.goto 4, 3) := dk_167 0 4 (dk_at dksX2_takes_1 16 rfl rfl)
theorem dX2_takes_41 : decode cX2_takes 41 = .ok (.iconst 0, 1) := dk_3 (dk_at dksX2_takes_1 19 rfl rfl)
theorem dX2_takes_42 : decode cX2_takes 42 = .ok (.iadd, 1) := dk_96 (dk_at dksX2_takes_1 20 rfl rfl)
theorem dX2_takes_43 : decode cX2_takes 43 = .ok (.putfield 157, 3) := dk_181 0 157 (dk_at dksX2_takes_1 21 rfl rfl)
theorem dX2_takes_46 : decode cX2_takes 46 = .ok (.aload_n 0, 1) := dk_42 (dk_at dksX2_takes_2 0 rfl rfl)
theorem dX2_takes_47 : decode cX2_takes 47 = .ok (.aload_n 0, 1) := dk_42 (dk_at dksX2_takes_2 1 rfl rfl)
theorem dX2_takes_48 : decode cX2_takes 48 = .ok (.getfield 153, 3) := dk_180 0 153 (dk_at dksX2_takes_2 2 rfl rfl)
theorem dX2_takes_51 : decode cX2_takes 51 = .ok (.ifCond .ne 7, 3) := dk_154 0 7 (dk_at dksX2_takes_2 5 rfl rfl)
theorem dX2_takes_54 : decode cX2_takes 54 = .ok (.iload_n 3, 1) := dk_29 (dk_at dksX2_takes_2 8 rfl rfl)
theorem dX2_takes_55 : decode cX2_takes 55 = .ok (.ifCond .ne 7, 3) := dk_154 0 7 (dk_at dksX2_takes_2 9 rfl rfl)
theorem dX2_takes_58 : decode cX2_takes 58 = .ok (.iconst 1, 1) := dk_4 (dk_at dksX2_takes_2 12 rfl rfl)
theorem dX2_takes_59 : decode cX2_takes 59 = .ok (.goto 4, 3) := dk_167 0 4 (dk_at dksX2_takes_2 13 rfl rfl)
theorem dX2_takes_62 : decode cX2_takes 62 = .ok (.iconst 0, 1) := dk_3 (dk_at dksX2_takes_2 16 rfl rfl)
theorem dX2_takes_63 : decode cX2_takes 63 = .ok (.putfield 153, 3) := dk_181 0 153 (dk_at dksX2_takes_2 17 rfl rfl)
theorem dX2_takes_66 : decode cX2_takes 66 = .ok (.iload 4, 2) := dk_21 4 (dk_at dksX2_takes_2 20 rfl rfl)
theorem dX2_takes_68 : decode cX2_takes 68 = .ok (.ireturn, 1) := dk_172 (dk_at dksX2_takes_2 22 rfl rfl)
abbrev cX2_isNext : ByteArray := prog_7_method_45_code
def yX2_isNext : MethodName := ⟨RX2, "isNext", "(II)Z"⟩
def dkwX2_isNext_1 : List UInt8 := [180, 0, 157, 46, 27, 28, 184, 0, 35, 153, 0, 7, 4, 167, 0, 4, 3, 172]
abbrev dktX2_isNext_1 : List UInt8 := dkwX2_isNext_1 ++ []
def dkwX2_isNext_0 : List UInt8 := [42, 180, 0, 153, 154, 0, 35, 42, 180, 0, 157, 42, 180, 0, 150, 162, 0, 24, 42, 180, 0, 22, 42]
abbrev dktX2_isNext_0 : List UInt8 := dkwX2_isNext_0 ++ dktX2_isNext_1
theorem dksX2_isNext_0 : cX2_isNext.data.toList.drop 0 = dktX2_isNext_0 := by decide +kernel
theorem dksX2_isNext_1 : cX2_isNext.data.toList.drop 23 = dktX2_isNext_1 := dk_seg dksX2_isNext_0 23 rfl rfl
theorem dX2_isNext_0 : decode cX2_isNext 0 = .ok (.aload_n 0, 1) := dk_42 (dk_at dksX2_isNext_0 0 rfl rfl)
theorem dX2_isNext_1 : decode cX2_isNext 1 = .ok (.getfield 153, 3) := dk_180 0 153 (dk_at dksX2_isNext_0 1 rfl rfl)
theorem dX2_isNext_4 : decode cX2_isNext 4 = .ok (.ifCond .ne 35, 3) := dk_154 0 35 (dk_at dksX2_isNext_0 4 rfl rfl)
theorem dX2_isNext_7 : decode cX2_isNext 7 = .ok (.aload_n 0, 1) := dk_42 (dk_at dksX2_isNext_0 7 rfl rfl)
theorem dX2_isNext_8 : decode cX2_isNext 8 = .ok (.getfield 157, 3) := dk_180 0 157 (dk_at dksX2_isNext_0 8 rfl rfl)
theorem dX2_isNext_11 : decode cX2_isNext 11 = .ok (.aload_n 0, 1) := dk_42 (dk_at dksX2_isNext_0 11 rfl rfl)
theorem dX2_isNext_12 : decode cX2_isNext 12 = .ok (.getfield 150, 3) := dk_180 0 150 (dk_at dksX2_isNext_0 12 rfl rfl)
theorem dX2_isNext_15 : decode cX2_isNext 15 = .ok (.if_icmp .ge 24, 3) := dk_162 0 24 (dk_at dksX2_isNext_0 15 rfl rfl)
theorem dX2_isNext_18 : decode cX2_isNext 18 = .ok (.aload_n 0, 1) := dk_42 (dk_at dksX2_isNext_0 18 rfl rfl)
theorem dX2_isNext_19 : decode cX2_isNext 19 = .ok (.getfield 22, 3) := dk_180 0 22 (dk_at dksX2_isNext_0 19 rfl rfl)
theorem dX2_isNext_22 : decode cX2_isNext 22 = .ok (.aload_n 0, 1) := dk_42 (dk_at dksX2_isNext_0 22 rfl rfl)
theorem dX2_isNext_23 : decode cX2_isNext 23 = .ok (.getfield 157, 3) := dk_180 0 157 (dk_at dksX2_isNext_1 0 rfl rfl)
theorem dX2_isNext_26 : decode cX2_isNext 26 = .ok (.iaload, 1) := dk_46 (dk_at dksX2_isNext_1 3 rfl rfl)
theorem dX2_isNext_27 : decode cX2_isNext 27 = .ok (.iload_n 1, 1) := dk_27 (dk_at dksX2_isNext_1 4 rfl rfl)
theorem dX2_isNext_28 : decode cX2_isNext 28 = .ok (.iload_n 2, 1) := dk_28 (dk_at dksX2_isNext_1 5 rfl rfl)
theorem dX2_isNext_29 : decode cX2_isNext 29 = .ok (.invokestatic 35, 3) := dk_184 0 35 (dk_at dksX2_isNext_1 6 rfl rfl)
theorem dX2_isNext_32 : decode cX2_isNext 32 = .ok (.ifCond .eq 7, 3) := dk_153 0 7 (dk_at dksX2_isNext_1 9 rfl rfl)
theorem dX2_isNext_35 : decode cX2_isNext 35 = .ok (.iconst 1, 1) := dk_4 (dk_at dksX2_isNext_1 12 rfl rfl)
theorem dX2_isNext_36 : decode cX2_isNext 36 = .ok (.goto 4, 3) := dk_167 0 4 (dk_at dksX2_isNext_1 13 rfl rfl)
theorem dX2_isNext_39 : decode cX2_isNext 39 = .ok (.iconst 0, 1) := dk_3 (dk_at dksX2_isNext_1 16 rfl rfl)
theorem dX2_isNext_40 : decode cX2_isNext 40 = .ok (.ireturn, 1) := dk_172 (dk_at dksX2_isNext_1 17 rfl rfl)
abbrev cX2_number : ByteArray := prog_7_method_47_code
def yX2_number : MethodName := ⟨RX2, "number", "(I)I"⟩
def dkwX2_number_3 : List UInt8 := [167, 255, 196, 28, 172]
abbrev dktX2_number_3 : List UInt8 := dkwX2_number_3 ++ []
def dkwX2_number_2 : List UInt8 := [180, 0, 22, 42, 180, 0, 157, 46, 96, 16, 48, 100, 61, 42, 89, 180, 0, 157, 4, 96, 181, 0, 157]
abbrev dktX2_number_2 : List UInt8 := dkwX2_number_2 ++ dktX2_number_3
def dkwX2_number_1 : List UInt8 := [28, 104, 42, 180, 0, 22, 42, 180, 0, 157, 46, 96, 16, 48, 100, 27, 163, 0, 34, 16, 10, 28, 104, 42]
abbrev dktX2_number_1 : List UInt8 := dkwX2_number_1 ++ dktX2_number_2
def dkwX2_number_0 : List UInt8 := [4, 42, 16, 49, 16, 57, 182, 0, 164, 96, 61, 42, 16, 48, 16, 57, 182, 0, 160, 153, 0, 55, 16, 10]
abbrev dktX2_number_0 : List UInt8 := dkwX2_number_0 ++ dktX2_number_1
theorem dksX2_number_0 : cX2_number.data.toList.drop 0 = dktX2_number_0 := by decide +kernel
theorem dksX2_number_1 : cX2_number.data.toList.drop 24 = dktX2_number_1 := dk_seg dksX2_number_0 24 rfl rfl
theorem dksX2_number_2 : cX2_number.data.toList.drop 48 = dktX2_number_2 := dk_seg dksX2_number_1 24 rfl rfl
theorem dksX2_number_3 : cX2_number.data.toList.drop 71 = dktX2_number_3 := dk_seg dksX2_number_2 23 rfl rfl
theorem dX2_number_0 : decode cX2_number 0 = .ok (.iconst 1, 1) := dk_4 (dk_at dksX2_number_0 0 rfl rfl)
theorem dX2_number_1 : decode cX2_number 1 = .ok (.aload_n 0, 1) := dk_42 (dk_at dksX2_number_0 1 rfl rfl)
theorem dX2_number_2 : decode cX2_number 2 = .ok (.bipush 49, 2) := dk_16 49 (dk_at dksX2_number_0 2 rfl rfl)
theorem dX2_number_4 : decode cX2_number 4 = .ok (.bipush 57, 2) := dk_16 57 (dk_at dksX2_number_0 4 rfl rfl)
theorem dX2_number_6 : decode cX2_number 6 = .ok (.invokevirtual 164, 3) := dk_182 0 164 (dk_at dksX2_number_0 6 rfl rfl)
theorem dX2_number_9 : decode cX2_number 9 = .ok (.iadd, 1) := dk_96 (dk_at dksX2_number_0 9 rfl rfl)
theorem dX2_number_10 : decode cX2_number 10 = .ok (.istore_n 2, 1) := dk_61 (dk_at dksX2_number_0 10 rfl rfl)
theorem dX2_number_11 : decode cX2_number 11 = .ok (.aload_n 0, 1) := dk_42 (dk_at dksX2_number_0 11 rfl rfl)
theorem dX2_number_12 : decode cX2_number 12 = .ok (.bipush 48, 2) := dk_16 48 (dk_at dksX2_number_0 12 rfl rfl)
theorem dX2_number_14 : decode cX2_number 14 = .ok (.bipush 57, 2) := dk_16 57 (dk_at dksX2_number_0 14 rfl rfl)
theorem dX2_number_16 : decode cX2_number 16 = .ok (.invokevirtual 160, 3) := dk_182 0 160 (dk_at dksX2_number_0 16 rfl rfl)
theorem dX2_number_19 : decode cX2_number 19 = .ok (.ifCond .eq 55, 3) := dk_153 0 55 (dk_at dksX2_number_0 19 rfl rfl)
theorem dX2_number_22 : decode cX2_number 22 = .ok (.bipush 10, 2) := dk_16 10 (dk_at dksX2_number_0 22 rfl rfl)
theorem dX2_number_24 : decode cX2_number 24 = .ok (.iload_n 2, 1) := dk_28 (dk_at dksX2_number_1 0 rfl rfl)
theorem dX2_number_25 : decode cX2_number 25 = .ok (.imul, 1) := dk_104 (dk_at dksX2_number_1 1 rfl rfl)
theorem dX2_number_26 : decode cX2_number 26 = .ok (.aload_n 0, 1) := dk_42 (dk_at dksX2_number_1 2 rfl rfl)
theorem dX2_number_27 : decode cX2_number 27 = .ok (.getfield 22, 3) := dk_180 0 22 (dk_at dksX2_number_1 3 rfl rfl)
theorem dX2_number_30 : decode cX2_number 30 = .ok (.aload_n 0, 1) := dk_42 (dk_at dksX2_number_1 6 rfl rfl)
theorem dX2_number_31 : decode cX2_number 31 = .ok (.getfield 157, 3) := dk_180 0 157 (dk_at dksX2_number_1 7 rfl rfl)
theorem dX2_number_34 : decode cX2_number 34 = .ok (.iaload, 1) := dk_46 (dk_at dksX2_number_1 10 rfl rfl)
theorem dX2_number_35 : decode cX2_number 35 = .ok (.iadd, 1) := dk_96 (dk_at dksX2_number_1 11 rfl rfl)
theorem dX2_number_36 : decode cX2_number 36 = .ok (.bipush 48, 2) := dk_16 48 (dk_at dksX2_number_1 12 rfl rfl)
theorem dX2_number_38 : decode cX2_number 38 = .ok (.isub, 1) := dk_100 (dk_at dksX2_number_1 14 rfl rfl)
theorem dX2_number_39 : decode cX2_number 39 = .ok (.iload_n 1, 1) := dk_27 (dk_at dksX2_number_1 15 rfl rfl)
theorem dX2_number_40 : decode cX2_number 40 = .ok (.if_icmp .gt 34, 3) := dk_163 0 34 (dk_at dksX2_number_1 16 rfl rfl)
theorem dX2_number_43 : decode cX2_number 43 = .ok (.bipush 10, 2) := dk_16 10 (dk_at dksX2_number_1 19 rfl rfl)
theorem dX2_number_45 : decode cX2_number 45 = .ok (.iload_n 2, 1) := dk_28 (dk_at dksX2_number_1 21 rfl rfl)
theorem dX2_number_46 : decode cX2_number 46 = .ok (.imul, 1) := dk_104 (dk_at dksX2_number_1 22 rfl rfl)
theorem dX2_number_47 : decode cX2_number 47 = .ok (.aload_n 0, 1) := dk_42 (dk_at dksX2_number_1 23 rfl rfl)
theorem dX2_number_48 : decode cX2_number 48 = .ok (.getfield 22, 3) := dk_180 0 22 (dk_at dksX2_number_2 0 rfl rfl)
theorem dX2_number_51 : decode cX2_number 51 = .ok (.aload_n 0, 1) := dk_42 (dk_at dksX2_number_2 3 rfl rfl)
theorem dX2_number_52 : decode cX2_number 52 = .ok (.getfield 157, 3) := dk_180 0 157 (dk_at dksX2_number_2 4 rfl rfl)
theorem dX2_number_55 : decode cX2_number 55 = .ok (.iaload, 1) := dk_46 (dk_at dksX2_number_2 7 rfl rfl)
theorem dX2_number_56 : decode cX2_number 56 = .ok (.iadd, 1) := dk_96 (dk_at dksX2_number_2 8 rfl rfl)
theorem dX2_number_57 : decode cX2_number 57 = .ok (.bipush 48, 2) := dk_16 48 (dk_at dksX2_number_2 9 rfl rfl)
theorem dX2_number_59 : decode cX2_number 59 = .ok (.isub, 1) := dk_100 (dk_at dksX2_number_2 11 rfl rfl)
theorem dX2_number_60 : decode cX2_number 60 = .ok (.istore_n 2, 1) := dk_61 (dk_at dksX2_number_2 12 rfl rfl)
theorem dX2_number_61 : decode cX2_number 61 = .ok (.aload_n 0, 1) := dk_42 (dk_at dksX2_number_2 13 rfl rfl)
theorem dX2_number_62 : decode cX2_number 62 = .ok (.dup, 1) := dk_89 (dk_at dksX2_number_2 14 rfl rfl)
theorem dX2_number_63 : decode cX2_number 63 = .ok (.getfield 157, 3) := dk_180 0 157 (dk_at dksX2_number_2 15 rfl rfl)
theorem dX2_number_66 : decode cX2_number 66 = .ok (.iconst 1, 1) := dk_4 (dk_at dksX2_number_2 18 rfl rfl)
theorem dX2_number_67 : decode cX2_number 67 = .ok (.iadd, 1) := dk_96 (dk_at dksX2_number_2 19 rfl rfl)
theorem dX2_number_68 : decode cX2_number 68 = .ok (.putfield 157, 3) := dk_181 0 157 (dk_at dksX2_number_2 20 rfl rfl)
theorem dX2_number_71 : decode cX2_number 71 = .ok (.goto (-60), 3) := dk_167 255 196 (dk_at dksX2_number_3 0 rfl rfl)
theorem dX2_number_74 : decode cX2_number 74 = .ok (.iload_n 2, 1) := dk_28 (dk_at dksX2_number_3 3 rfl rfl)
theorem dX2_number_75 : decode cX2_number 75 = .ok (.ireturn, 1) := dk_172 (dk_at dksX2_number_3 4 rfl rfl)
abbrev cX2_errorOfOne : ByteArray := prog_7_method_50_code
def yX2_errorOfOne : MethodName := ⟨RX2, "errorOfOne", "()I"⟩
def dkwX2_errorOfOne_2 : List UInt8 := [180, 0, 167, 42, 180, 0, 170, 42, 180, 0, 176, 182, 0, 118, 172]
abbrev dktX2_errorOfOne_2 : List UInt8 := dkwX2_errorOfOne_2 ++ []
def dkwX2_errorOfOne_1 : List UInt8 := [16, 120, 160, 0, 14, 42, 42, 180, 0, 182, 182, 0, 134, 167, 0, 23, 42, 42, 180, 0, 182, 42]
abbrev dktX2_errorOfOne_1 : List UInt8 := dkwX2_errorOfOne_1 ++ dktX2_errorOfOne_2
def dkwX2_errorOfOne_0 : List UInt8 := [42, 180, 0, 179, 16, 46, 160, 0, 14, 42, 42, 180, 0, 182, 182, 0, 144, 167, 0, 43, 42, 180, 0, 179]
abbrev dktX2_errorOfOne_0 : List UInt8 := dkwX2_errorOfOne_0 ++ dktX2_errorOfOne_1
theorem dksX2_errorOfOne_0 : cX2_errorOfOne.data.toList.drop 0 = dktX2_errorOfOne_0 := by decide +kernel
theorem dksX2_errorOfOne_1 : cX2_errorOfOne.data.toList.drop 24 = dktX2_errorOfOne_1 := dk_seg dksX2_errorOfOne_0 24 rfl rfl
theorem dksX2_errorOfOne_2 : cX2_errorOfOne.data.toList.drop 46 = dktX2_errorOfOne_2 := dk_seg dksX2_errorOfOne_1 22 rfl rfl
theorem dX2_errorOfOne_0 : decode cX2_errorOfOne 0 = .ok (.aload_n 0, 1) := dk_42 (dk_at dksX2_errorOfOne_0 0 rfl rfl)
theorem dX2_errorOfOne_1 : decode cX2_errorOfOne 1 = .ok (.getfield 179, 3) := dk_180 0 179 (dk_at dksX2_errorOfOne_0 1 rfl rfl)
theorem dX2_errorOfOne_4 : decode cX2_errorOfOne 4 = .ok (.bipush 46, 2) := dk_16 46 (dk_at dksX2_errorOfOne_0 4 rfl rfl)
theorem dX2_errorOfOne_6 : decode cX2_errorOfOne 6 = .ok (.if_icmp .ne 14, 3) := dk_160 0 14 (dk_at dksX2_errorOfOne_0 6 rfl rfl)
theorem dX2_errorOfOne_9 : decode cX2_errorOfOne 9 = .ok (.aload_n 0, 1) := dk_42 (dk_at dksX2_errorOfOne_0 9 rfl rfl)
theorem dX2_errorOfOne_10 : decode cX2_errorOfOne 10 = .ok (.aload_n 0, 1) := dk_42 (dk_at dksX2_errorOfOne_0 10 rfl rfl)
theorem dX2_errorOfOne_11 : decode cX2_errorOfOne 11 = .ok (.getfield 182, 3) := dk_180 0 182 (dk_at dksX2_errorOfOne_0 11 rfl rfl)
theorem dX2_errorOfOne_14 : decode cX2_errorOfOne 14 = .ok (.invokevirtual 144, 3) := dk_182 0 144 (dk_at dksX2_errorOfOne_0 14 rfl rfl)
theorem dX2_errorOfOne_17 : decode cX2_errorOfOne 17 = .ok (.goto 43, 3) := dk_167 0 43 (dk_at dksX2_errorOfOne_0 17 rfl rfl)
theorem dX2_errorOfOne_20 : decode cX2_errorOfOne 20 = .ok (.aload_n 0, 1) := dk_42 (dk_at dksX2_errorOfOne_0 20 rfl rfl)
theorem dX2_errorOfOne_21 : decode cX2_errorOfOne 21 = .ok (.getfield 179, 3) := dk_180 0 179 (dk_at dksX2_errorOfOne_0 21 rfl rfl)
theorem dX2_errorOfOne_24 : decode cX2_errorOfOne 24 = .ok (.bipush 120, 2) := dk_16 120 (dk_at dksX2_errorOfOne_1 0 rfl rfl)
theorem dX2_errorOfOne_26 : decode cX2_errorOfOne 26 = .ok (.if_icmp .ne 14, 3) := dk_160 0 14 (dk_at dksX2_errorOfOne_1 2 rfl rfl)
theorem dX2_errorOfOne_29 : decode cX2_errorOfOne 29 = .ok (.aload_n 0, 1) := dk_42 (dk_at dksX2_errorOfOne_1 5 rfl rfl)
theorem dX2_errorOfOne_30 : decode cX2_errorOfOne 30 = .ok (.aload_n 0, 1) := dk_42 (dk_at dksX2_errorOfOne_1 6 rfl rfl)
theorem dX2_errorOfOne_31 : decode cX2_errorOfOne 31 = .ok (.getfield 182, 3) := dk_180 0 182 (dk_at dksX2_errorOfOne_1 7 rfl rfl)
theorem dX2_errorOfOne_34 : decode cX2_errorOfOne 34 = .ok (.invokevirtual 134, 3) := dk_182 0 134 (dk_at dksX2_errorOfOne_1 10 rfl rfl)
theorem dX2_errorOfOne_37 : decode cX2_errorOfOne 37 = .ok (.goto 23, 3) := dk_167 0 23 (dk_at dksX2_errorOfOne_1 13 rfl rfl)
theorem dX2_errorOfOne_40 : decode cX2_errorOfOne 40 = .ok (.aload_n 0, 1) := dk_42 (dk_at dksX2_errorOfOne_1 16 rfl rfl)
theorem dX2_errorOfOne_41 : decode cX2_errorOfOne 41 = .ok (.aload_n 0, 1) := dk_42 (dk_at dksX2_errorOfOne_1 17 rfl rfl)
theorem dX2_errorOfOne_42 : decode cX2_errorOfOne 42 = .ok (.getfield 182, 3) := dk_180 0 182 (dk_at dksX2_errorOfOne_1 18 rfl rfl)
theorem dX2_errorOfOne_45 : decode cX2_errorOfOne 45 = .ok (.aload_n 0, 1) := dk_42 (dk_at dksX2_errorOfOne_1 21 rfl rfl)
theorem dX2_errorOfOne_46 : decode cX2_errorOfOne 46 = .ok (.getfield 167, 3) := dk_180 0 167 (dk_at dksX2_errorOfOne_2 0 rfl rfl)
theorem dX2_errorOfOne_49 : decode cX2_errorOfOne 49 = .ok (.aload_n 0, 1) := dk_42 (dk_at dksX2_errorOfOne_2 3 rfl rfl)
theorem dX2_errorOfOne_50 : decode cX2_errorOfOne 50 = .ok (.getfield 170, 3) := dk_180 0 170 (dk_at dksX2_errorOfOne_2 4 rfl rfl)
theorem dX2_errorOfOne_53 : decode cX2_errorOfOne 53 = .ok (.aload_n 0, 1) := dk_42 (dk_at dksX2_errorOfOne_2 7 rfl rfl)
theorem dX2_errorOfOne_54 : decode cX2_errorOfOne 54 = .ok (.getfield 176, 3) := dk_180 0 176 (dk_at dksX2_errorOfOne_2 8 rfl rfl)
theorem dX2_errorOfOne_57 : decode cX2_errorOfOne 57 = .ok (.invokevirtual 118, 3) := dk_182 0 118 (dk_at dksX2_errorOfOne_2 11 rfl rfl)
theorem dX2_errorOfOne_60 : decode cX2_errorOfOne 60 = .ok (.ireturn, 1) := dk_172 (dk_at dksX2_errorOfOne_2 14 rfl rfl)
abbrev cX2_doesOne : ByteArray := prog_7_method_51_code
def yX2_doesOne : MethodName := ⟨RX2, "doesOne", "()I"⟩
def dkwX2_doesOne_2 : List UInt8 := [180, 0, 167, 42, 180, 0, 170, 42, 180, 0, 176, 182, 0, 125, 172]
abbrev dktX2_doesOne_2 : List UInt8 := dkwX2_doesOne_2 ++ []
def dkwX2_doesOne_1 : List UInt8 := [16, 120, 160, 0, 14, 42, 42, 180, 0, 182, 182, 0, 137, 167, 0, 23, 42, 42, 180, 0, 182, 42]
abbrev dktX2_doesOne_1 : List UInt8 := dkwX2_doesOne_1 ++ dktX2_doesOne_2
def dkwX2_doesOne_0 : List UInt8 := [42, 180, 0, 179, 16, 46, 160, 0, 14, 42, 42, 180, 0, 182, 182, 0, 147, 167, 0, 43, 42, 180, 0, 179]
abbrev dktX2_doesOne_0 : List UInt8 := dkwX2_doesOne_0 ++ dktX2_doesOne_1
theorem dksX2_doesOne_0 : cX2_doesOne.data.toList.drop 0 = dktX2_doesOne_0 := by decide +kernel
theorem dksX2_doesOne_1 : cX2_doesOne.data.toList.drop 24 = dktX2_doesOne_1 := dk_seg dksX2_doesOne_0 24 rfl rfl
theorem dksX2_doesOne_2 : cX2_doesOne.data.toList.drop 46 = dktX2_doesOne_2 := dk_seg dksX2_doesOne_1 22 rfl rfl
theorem dX2_doesOne_0 : decode cX2_doesOne 0 = .ok (.aload_n 0, 1) := dk_42 (dk_at dksX2_doesOne_0 0 rfl rfl)
theorem dX2_doesOne_1 : decode cX2_doesOne 1 = .ok (.getfield 179, 3) := dk_180 0 179 (dk_at dksX2_doesOne_0 1 rfl rfl)
theorem dX2_doesOne_4 : decode cX2_doesOne 4 = .ok (.bipush 46, 2) := dk_16 46 (dk_at dksX2_doesOne_0 4 rfl rfl)
theorem dX2_doesOne_6 : decode cX2_doesOne 6 = .ok (.if_icmp .ne 14, 3) := dk_160 0 14 (dk_at dksX2_doesOne_0 6 rfl rfl)
theorem dX2_doesOne_9 : decode cX2_doesOne 9 = .ok (.aload_n 0, 1) := dk_42 (dk_at dksX2_doesOne_0 9 rfl rfl)
theorem dX2_doesOne_10 : decode cX2_doesOne 10 = .ok (.aload_n 0, 1) := dk_42 (dk_at dksX2_doesOne_0 10 rfl rfl)
theorem dX2_doesOne_11 : decode cX2_doesOne 11 = .ok (.getfield 182, 3) := dk_180 0 182 (dk_at dksX2_doesOne_0 11 rfl rfl)
theorem dX2_doesOne_14 : decode cX2_doesOne 14 = .ok (.invokevirtual 147, 3) := dk_182 0 147 (dk_at dksX2_doesOne_0 14 rfl rfl)
theorem dX2_doesOne_17 : decode cX2_doesOne 17 = .ok (.goto 43, 3) := dk_167 0 43 (dk_at dksX2_doesOne_0 17 rfl rfl)
theorem dX2_doesOne_20 : decode cX2_doesOne 20 = .ok (.aload_n 0, 1) := dk_42 (dk_at dksX2_doesOne_0 20 rfl rfl)
theorem dX2_doesOne_21 : decode cX2_doesOne 21 = .ok (.getfield 179, 3) := dk_180 0 179 (dk_at dksX2_doesOne_0 21 rfl rfl)
theorem dX2_doesOne_24 : decode cX2_doesOne 24 = .ok (.bipush 120, 2) := dk_16 120 (dk_at dksX2_doesOne_1 0 rfl rfl)
theorem dX2_doesOne_26 : decode cX2_doesOne 26 = .ok (.if_icmp .ne 14, 3) := dk_160 0 14 (dk_at dksX2_doesOne_1 2 rfl rfl)
theorem dX2_doesOne_29 : decode cX2_doesOne 29 = .ok (.aload_n 0, 1) := dk_42 (dk_at dksX2_doesOne_1 5 rfl rfl)
theorem dX2_doesOne_30 : decode cX2_doesOne 30 = .ok (.aload_n 0, 1) := dk_42 (dk_at dksX2_doesOne_1 6 rfl rfl)
theorem dX2_doesOne_31 : decode cX2_doesOne 31 = .ok (.getfield 182, 3) := dk_180 0 182 (dk_at dksX2_doesOne_1 7 rfl rfl)
theorem dX2_doesOne_34 : decode cX2_doesOne 34 = .ok (.invokevirtual 137, 3) := dk_182 0 137 (dk_at dksX2_doesOne_1 10 rfl rfl)
theorem dX2_doesOne_37 : decode cX2_doesOne 37 = .ok (.goto 23, 3) := dk_167 0 23 (dk_at dksX2_doesOne_1 13 rfl rfl)
theorem dX2_doesOne_40 : decode cX2_doesOne 40 = .ok (.aload_n 0, 1) := dk_42 (dk_at dksX2_doesOne_1 16 rfl rfl)
theorem dX2_doesOne_41 : decode cX2_doesOne 41 = .ok (.aload_n 0, 1) := dk_42 (dk_at dksX2_doesOne_1 17 rfl rfl)
theorem dX2_doesOne_42 : decode cX2_doesOne 42 = .ok (.getfield 182, 3) := dk_180 0 182 (dk_at dksX2_doesOne_1 18 rfl rfl)
theorem dX2_doesOne_45 : decode cX2_doesOne 45 = .ok (.aload_n 0, 1) := dk_42 (dk_at dksX2_doesOne_1 21 rfl rfl)
theorem dX2_doesOne_46 : decode cX2_doesOne 46 = .ok (.getfield 167, 3) := dk_180 0 167 (dk_at dksX2_doesOne_2 0 rfl rfl)
theorem dX2_doesOne_49 : decode cX2_doesOne 49 = .ok (.aload_n 0, 1) := dk_42 (dk_at dksX2_doesOne_2 3 rfl rfl)
theorem dX2_doesOne_50 : decode cX2_doesOne 50 = .ok (.getfield 170, 3) := dk_180 0 170 (dk_at dksX2_doesOne_2 4 rfl rfl)
theorem dX2_doesOne_53 : decode cX2_doesOne 53 = .ok (.aload_n 0, 1) := dk_42 (dk_at dksX2_doesOne_2 7 rfl rfl)
theorem dX2_doesOne_54 : decode cX2_doesOne 54 = .ok (.getfield 176, 3) := dk_180 0 176 (dk_at dksX2_doesOne_2 8 rfl rfl)
theorem dX2_doesOne_57 : decode cX2_doesOne 57 = .ok (.invokevirtual 125, 3) := dk_182 0 125 (dk_at dksX2_doesOne_2 11 rfl rfl)
theorem dX2_doesOne_60 : decode cX2_doesOne 60 = .ok (.ireturn, 1) := dk_172 (dk_at dksX2_doesOne_2 14 rfl rfl)
abbrev cX2_putAside : ByteArray := prog_7_method_9_code
def yX2_putAside : MethodName := ⟨RX2, "putAside", "()V"⟩
def dkwX2_putAside_1 : List UInt8 := [167, 255, 234, 177]
abbrev dktX2_putAside_1 : List UInt8 := dkwX2_putAside_1 ++ []
def dkwX2_putAside_0 : List UInt8 := [3, 60, 27, 17, 0, 157, 162, 0, 21, 42, 180, 0, 13, 27, 42, 180, 0, 7, 27, 46, 79, 132, 1, 1]
abbrev dktX2_putAside_0 : List UInt8 := dkwX2_putAside_0 ++ dktX2_putAside_1
theorem dksX2_putAside_0 : cX2_putAside.data.toList.drop 0 = dktX2_putAside_0 := by decide +kernel
theorem dksX2_putAside_1 : cX2_putAside.data.toList.drop 24 = dktX2_putAside_1 := dk_seg dksX2_putAside_0 24 rfl rfl
theorem dX2_putAside_0 : decode cX2_putAside 0 = .ok (.iconst 0, 1) := dk_3 (dk_at dksX2_putAside_0 0 rfl rfl)
theorem dX2_putAside_1 : decode cX2_putAside 1 = .ok (.istore_n 1, 1) := dk_60 (dk_at dksX2_putAside_0 1 rfl rfl)
theorem dX2_putAside_2 : decode cX2_putAside 2 = .ok (.iload_n 1, 1) := dk_27 (dk_at dksX2_putAside_0 2 rfl rfl)
theorem dX2_putAside_3 : decode cX2_putAside 3 = .ok (.sipush 157, 3) := dk_17 0 157 (dk_at dksX2_putAside_0 3 rfl rfl)
theorem dX2_putAside_6 : decode cX2_putAside 6 = .ok (.if_icmp .ge 21, 3) := dk_162 0 21 (dk_at dksX2_putAside_0 6 rfl rfl)
theorem dX2_putAside_9 : decode cX2_putAside 9 = .ok (.aload_n 0, 1) := dk_42 (dk_at dksX2_putAside_0 9 rfl rfl)
theorem dX2_putAside_10 : decode cX2_putAside 10 = .ok (.getfield 13, 3) := dk_180 0 13 (dk_at dksX2_putAside_0 10 rfl rfl)
theorem dX2_putAside_13 : decode cX2_putAside 13 = .ok (.iload_n 1, 1) := dk_27 (dk_at dksX2_putAside_0 13 rfl rfl)
theorem dX2_putAside_14 : decode cX2_putAside 14 = .ok (.aload_n 0, 1) := dk_42 (dk_at dksX2_putAside_0 14 rfl rfl)
theorem dX2_putAside_15 : decode cX2_putAside 15 = .ok (.getfield 7, 3) := dk_180 0 7 (dk_at dksX2_putAside_0 15 rfl rfl)
theorem dX2_putAside_18 : decode cX2_putAside 18 = .ok (.iload_n 1, 1) := dk_27 (dk_at dksX2_putAside_0 18 rfl rfl)
theorem dX2_putAside_19 : decode cX2_putAside 19 = .ok (.iaload, 1) := dk_46 (dk_at dksX2_putAside_0 19 rfl rfl)
theorem dX2_putAside_20 : decode cX2_putAside 20 = .ok (.iastore, 1) := dk_79 (dk_at dksX2_putAside_0 20 rfl rfl)
theorem dX2_putAside_21 : decode cX2_putAside 21 = .ok (.iinc 1 1, 3) := dk_132 1 1 (dk_at dksX2_putAside_0 21 rfl rfl)
theorem dX2_putAside_24 : decode cX2_putAside 24 = .ok (.goto (-22), 3) := dk_167 255 234 (dk_at dksX2_putAside_1 0 rfl rfl)
theorem dX2_putAside_27 : decode cX2_putAside 27 = .ok (.return_, 1) := dk_177 (dk_at dksX2_putAside_1 3 rfl rfl)
abbrev cX2_exchanges : ByteArray := prog_7_method_10_code
def yX2_exchanges : MethodName := ⟨RX2, "exchanges", "()V"⟩
def dkwX2_exchanges_1 : List UInt8 := [180, 0, 13, 27, 46, 79, 42, 180, 0, 13, 27, 28, 79, 132, 1, 1, 167, 255, 220, 177]
abbrev dktX2_exchanges_1 : List UInt8 := dkwX2_exchanges_1 ++ []
def dkwX2_exchanges_0 : List UInt8 := [3, 60, 27, 17, 0, 157, 162, 0, 35, 42, 180, 0, 7, 27, 46, 61, 42, 180, 0, 7, 27, 42]
abbrev dktX2_exchanges_0 : List UInt8 := dkwX2_exchanges_0 ++ dktX2_exchanges_1
theorem dksX2_exchanges_0 : cX2_exchanges.data.toList.drop 0 = dktX2_exchanges_0 := by decide +kernel
theorem dksX2_exchanges_1 : cX2_exchanges.data.toList.drop 22 = dktX2_exchanges_1 := dk_seg dksX2_exchanges_0 22 rfl rfl
theorem dX2_exchanges_0 : decode cX2_exchanges 0 = .ok (.iconst 0, 1) := dk_3 (dk_at dksX2_exchanges_0 0 rfl rfl)
theorem dX2_exchanges_1 : decode cX2_exchanges 1 = .ok (.istore_n 1, 1) := dk_60 (dk_at dksX2_exchanges_0 1 rfl rfl)
theorem dX2_exchanges_2 : decode cX2_exchanges 2 = .ok (.iload_n 1, 1) := dk_27 (dk_at dksX2_exchanges_0 2 rfl rfl)
theorem dX2_exchanges_3 : decode cX2_exchanges 3 = .ok (.sipush 157, 3) := dk_17 0 157 (dk_at dksX2_exchanges_0 3 rfl rfl)
theorem dX2_exchanges_6 : decode cX2_exchanges 6 = .ok (.if_icmp .ge 35, 3) := dk_162 0 35 (dk_at dksX2_exchanges_0 6 rfl rfl)
theorem dX2_exchanges_9 : decode cX2_exchanges 9 = .ok (.aload_n 0, 1) := dk_42 (dk_at dksX2_exchanges_0 9 rfl rfl)
theorem dX2_exchanges_10 : decode cX2_exchanges 10 = .ok (.getfield 7, 3) := dk_180 0 7 (dk_at dksX2_exchanges_0 10 rfl rfl)
theorem dX2_exchanges_13 : decode cX2_exchanges 13 = .ok (.iload_n 1, 1) := dk_27 (dk_at dksX2_exchanges_0 13 rfl rfl)
theorem dX2_exchanges_14 : decode cX2_exchanges 14 = .ok (.iaload, 1) := dk_46 (dk_at dksX2_exchanges_0 14 rfl rfl)
theorem dX2_exchanges_15 : decode cX2_exchanges 15 = .ok (.istore_n 2, 1) := dk_61 (dk_at dksX2_exchanges_0 15 rfl rfl)
theorem dX2_exchanges_16 : decode cX2_exchanges 16 = .ok (.aload_n 0, 1) := dk_42 (dk_at dksX2_exchanges_0 16 rfl rfl)
theorem dX2_exchanges_17 : decode cX2_exchanges 17 = .ok (.getfield 7, 3) := dk_180 0 7 (dk_at dksX2_exchanges_0 17 rfl rfl)
theorem dX2_exchanges_20 : decode cX2_exchanges 20 = .ok (.iload_n 1, 1) := dk_27 (dk_at dksX2_exchanges_0 20 rfl rfl)
theorem dX2_exchanges_21 : decode cX2_exchanges 21 = .ok (.aload_n 0, 1) := dk_42 (dk_at dksX2_exchanges_0 21 rfl rfl)
theorem dX2_exchanges_22 : decode cX2_exchanges 22 = .ok (.getfield 13, 3) := dk_180 0 13 (dk_at dksX2_exchanges_1 0 rfl rfl)
theorem dX2_exchanges_25 : decode cX2_exchanges 25 = .ok (.iload_n 1, 1) := dk_27 (dk_at dksX2_exchanges_1 3 rfl rfl)
theorem dX2_exchanges_26 : decode cX2_exchanges 26 = .ok (.iaload, 1) := dk_46 (dk_at dksX2_exchanges_1 4 rfl rfl)
theorem dX2_exchanges_27 : decode cX2_exchanges 27 = .ok (.iastore, 1) := dk_79 (dk_at dksX2_exchanges_1 5 rfl rfl)
theorem dX2_exchanges_28 : decode cX2_exchanges 28 = .ok (.aload_n 0, 1) := dk_42 (dk_at dksX2_exchanges_1 6 rfl rfl)
theorem dX2_exchanges_29 : decode cX2_exchanges 29 = .ok (.getfield 13, 3) := dk_180 0 13 (dk_at dksX2_exchanges_1 7 rfl rfl)
theorem dX2_exchanges_32 : decode cX2_exchanges 32 = .ok (.iload_n 1, 1) := dk_27 (dk_at dksX2_exchanges_1 10 rfl rfl)
theorem dX2_exchanges_33 : decode cX2_exchanges 33 = .ok (.iload_n 2, 1) := dk_28 (dk_at dksX2_exchanges_1 11 rfl rfl)
theorem dX2_exchanges_34 : decode cX2_exchanges 34 = .ok (.iastore, 1) := dk_79 (dk_at dksX2_exchanges_1 12 rfl rfl)
theorem dX2_exchanges_35 : decode cX2_exchanges 35 = .ok (.iinc 1 1, 3) := dk_132 1 1 (dk_at dksX2_exchanges_1 13 rfl rfl)
theorem dX2_exchanges_38 : decode cX2_exchanges 38 = .ok (.goto (-36), 3) := dk_167 255 220 (dk_at dksX2_exchanges_1 16 rfl rfl)
theorem dX2_exchanges_41 : decode cX2_exchanges 41 = .ok (.return_, 1) := dk_177 (dk_at dksX2_exchanges_1 19 rfl rfl)
abbrev cX2_stopped : ByteArray := prog_7_method_54_code
def yX2_stopped : MethodName := ⟨RX2, "stopped", "(I)I"⟩
def dkwX2_stopped_1 : List UInt8 := [16, 254, 172]
abbrev dktX2_stopped_1 : List UInt8 := dkwX2_stopped_1 ++ []
def dkwX2_stopped_0 : List UInt8 := [27, 154, 0, 10, 42, 180, 0, 25, 167, 0, 17, 27, 4, 160, 0, 10, 42, 180, 0, 29, 167, 0, 5]
abbrev dktX2_stopped_0 : List UInt8 := dkwX2_stopped_0 ++ dktX2_stopped_1
theorem dksX2_stopped_0 : cX2_stopped.data.toList.drop 0 = dktX2_stopped_0 := by decide +kernel
theorem dksX2_stopped_1 : cX2_stopped.data.toList.drop 23 = dktX2_stopped_1 := dk_seg dksX2_stopped_0 23 rfl rfl
theorem dX2_stopped_0 : decode cX2_stopped 0 = .ok (.iload_n 1, 1) := dk_27 (dk_at dksX2_stopped_0 0 rfl rfl)
theorem dX2_stopped_1 : decode cX2_stopped 1 = .ok (.ifCond .ne 10, 3) := dk_154 0 10 (dk_at dksX2_stopped_0 1 rfl rfl)
theorem dX2_stopped_4 : decode cX2_stopped 4 = .ok (.aload_n 0, 1) := dk_42 (dk_at dksX2_stopped_0 4 rfl rfl)
theorem dX2_stopped_5 : decode cX2_stopped 5 = .ok (.getfield 25, 3) := dk_180 0 25 (dk_at dksX2_stopped_0 5 rfl rfl)
theorem dX2_stopped_8 : decode cX2_stopped 8 = .ok (.goto 17, 3) := dk_167 0 17 (dk_at dksX2_stopped_0 8 rfl rfl)
theorem dX2_stopped_11 : decode cX2_stopped 11 = .ok (.iload_n 1, 1) := dk_27 (dk_at dksX2_stopped_0 11 rfl rfl)
theorem dX2_stopped_12 : decode cX2_stopped 12 = .ok (.iconst 1, 1) := dk_4 (dk_at dksX2_stopped_0 12 rfl rfl)
theorem dX2_stopped_13 : decode cX2_stopped 13 = .ok (.if_icmp .ne 10, 3) := dk_160 0 10 (dk_at dksX2_stopped_0 13 rfl rfl)
theorem dX2_stopped_16 : decode cX2_stopped 16 = .ok (.aload_n 0, 1) := dk_42 (dk_at dksX2_stopped_0 16 rfl rfl)
theorem dX2_stopped_17 : decode cX2_stopped 17 = .ok (.getfield 29, 3) := dk_180 0 29 (dk_at dksX2_stopped_0 17 rfl rfl)
theorem dX2_stopped_20 : decode cX2_stopped 20 = .ok (.goto 5, 3) := dk_167 0 5 (dk_at dksX2_stopped_0 20 rfl rfl)
theorem dX2_stopped_23 : decode cX2_stopped 23 = .ok (.bipush (-2), 2) := dk_16 254 (dk_at dksX2_stopped_1 0 rfl rfl)
theorem dX2_stopped_25 : decode cX2_stopped 25 = .ok (.ireturn, 1) := dk_172 (dk_at dksX2_stopped_1 2 rfl rfl)
abbrev cX2_undo : ByteArray := prog_7_method_55_code
def yX2_undo : MethodName := ⟨RX2, "undo", "()I"⟩
def dkwX2_undo_2 : List UInt8 := [96, 46, 79, 132, 1, 1, 167, 255, 225, 42, 180, 0, 43, 172]
abbrev dktX2_undo_2 : List UInt8 := dkwX2_undo_2 ++ []
def dkwX2_undo_1 : List UInt8 := [17, 0, 157, 162, 0, 30, 42, 180, 0, 7, 27, 42, 180, 0, 16, 17, 0, 157, 42, 180, 0, 43, 104, 27]
abbrev dktX2_undo_1 : List UInt8 := dkwX2_undo_1 ++ dktX2_undo_2
def dkwX2_undo_0 : List UInt8 := [42, 180, 0, 43, 154, 0, 6, 16, 251, 172, 42, 89, 180, 0, 43, 4, 100, 181, 0, 43, 3, 60, 27]
abbrev dktX2_undo_0 : List UInt8 := dkwX2_undo_0 ++ dktX2_undo_1
theorem dksX2_undo_0 : cX2_undo.data.toList.drop 0 = dktX2_undo_0 := by decide +kernel
theorem dksX2_undo_1 : cX2_undo.data.toList.drop 23 = dktX2_undo_1 := dk_seg dksX2_undo_0 23 rfl rfl
theorem dksX2_undo_2 : cX2_undo.data.toList.drop 47 = dktX2_undo_2 := dk_seg dksX2_undo_1 24 rfl rfl
theorem dX2_undo_0 : decode cX2_undo 0 = .ok (.aload_n 0, 1) := dk_42 (dk_at dksX2_undo_0 0 rfl rfl)
theorem dX2_undo_1 : decode cX2_undo 1 = .ok (.getfield 43, 3) := dk_180 0 43 (dk_at dksX2_undo_0 1 rfl rfl)
theorem dX2_undo_4 : decode cX2_undo 4 = .ok (.ifCond .ne 6, 3) := dk_154 0 6 (dk_at dksX2_undo_0 4 rfl rfl)
theorem dX2_undo_7 : decode cX2_undo 7 = .ok (.bipush (-5), 2) := dk_16 251 (dk_at dksX2_undo_0 7 rfl rfl)
theorem dX2_undo_9 : decode cX2_undo 9 = .ok (.ireturn, 1) := dk_172 (dk_at dksX2_undo_0 9 rfl rfl)
theorem dX2_undo_10 : decode cX2_undo 10 = .ok (.aload_n 0, 1) := dk_42 (dk_at dksX2_undo_0 10 rfl rfl)
theorem dX2_undo_11 : decode cX2_undo 11 = .ok (.dup, 1) := dk_89 (dk_at dksX2_undo_0 11 rfl rfl)
theorem dX2_undo_12 : decode cX2_undo 12 = .ok (.getfield 43, 3) := dk_180 0 43 (dk_at dksX2_undo_0 12 rfl rfl)
theorem dX2_undo_15 : decode cX2_undo 15 = .ok (.iconst 1, 1) := dk_4 (dk_at dksX2_undo_0 15 rfl rfl)
theorem dX2_undo_16 : decode cX2_undo 16 = .ok (.isub, 1) := dk_100 (dk_at dksX2_undo_0 16 rfl rfl)
theorem dX2_undo_17 : decode cX2_undo 17 = .ok (.putfield 43, 3) := dk_181 0 43 (dk_at dksX2_undo_0 17 rfl rfl)
theorem dX2_undo_20 : decode cX2_undo 20 = .ok (.iconst 0, 1) := dk_3 (dk_at dksX2_undo_0 20 rfl rfl)
theorem dX2_undo_21 : decode cX2_undo 21 = .ok (.istore_n 1, 1) := dk_60 (dk_at dksX2_undo_0 21 rfl rfl)
theorem dX2_undo_22 : decode cX2_undo 22 = .ok (.iload_n 1, 1) := dk_27 (dk_at dksX2_undo_0 22 rfl rfl)
theorem dX2_undo_23 : decode cX2_undo 23 = .ok (.sipush 157, 3) := dk_17 0 157 (dk_at dksX2_undo_1 0 rfl rfl)
theorem dX2_undo_26 : decode cX2_undo 26 = .ok (.if_icmp .ge 30, 3) := dk_162 0 30 (dk_at dksX2_undo_1 3 rfl rfl)
theorem dX2_undo_29 : decode cX2_undo 29 = .ok (.aload_n 0, 1) := dk_42 (dk_at dksX2_undo_1 6 rfl rfl)
theorem dX2_undo_30 : decode cX2_undo 30 = .ok (.getfield 7, 3) := dk_180 0 7 (dk_at dksX2_undo_1 7 rfl rfl)
theorem dX2_undo_33 : decode cX2_undo 33 = .ok (.iload_n 1, 1) := dk_27 (dk_at dksX2_undo_1 10 rfl rfl)
theorem dX2_undo_34 : decode cX2_undo 34 = .ok (.aload_n 0, 1) := dk_42 (dk_at dksX2_undo_1 11 rfl rfl)
theorem dX2_undo_35 : decode cX2_undo 35 = .ok (.getfield 16, 3) := dk_180 0 16 (dk_at dksX2_undo_1 12 rfl rfl)
theorem dX2_undo_38 : decode cX2_undo 38 = .ok (.sipush 157, 3) := dk_17 0 157 (dk_at dksX2_undo_1 15 rfl rfl)
theorem dX2_undo_41 : decode cX2_undo 41 = .ok (.aload_n 0, 1) := dk_42 (dk_at dksX2_undo_1 18 rfl rfl)
theorem dX2_undo_42 : decode cX2_undo 42 = .ok (.getfield 43, 3) := dk_180 0 43 (dk_at dksX2_undo_1 19 rfl rfl)
theorem dX2_undo_45 : decode cX2_undo 45 = .ok (.imul, 1) := dk_104 (dk_at dksX2_undo_1 22 rfl rfl)
theorem dX2_undo_46 : decode cX2_undo 46 = .ok (.iload_n 1, 1) := dk_27 (dk_at dksX2_undo_1 23 rfl rfl)
theorem dX2_undo_47 : decode cX2_undo 47 = .ok (.iadd, 1) := dk_96 (dk_at dksX2_undo_2 0 rfl rfl)
theorem dX2_undo_48 : decode cX2_undo 48 = .ok (.iaload, 1) := dk_46 (dk_at dksX2_undo_2 1 rfl rfl)
theorem dX2_undo_49 : decode cX2_undo 49 = .ok (.iastore, 1) := dk_79 (dk_at dksX2_undo_2 2 rfl rfl)
theorem dX2_undo_50 : decode cX2_undo 50 = .ok (.iinc 1 1, 3) := dk_132 1 1 (dk_at dksX2_undo_2 3 rfl rfl)
theorem dX2_undo_53 : decode cX2_undo 53 = .ok (.goto (-31), 3) := dk_167 255 225 (dk_at dksX2_undo_2 6 rfl rfl)
theorem dX2_undo_56 : decode cX2_undo 56 = .ok (.aload_n 0, 1) := dk_42 (dk_at dksX2_undo_2 9 rfl rfl)
theorem dX2_undo_57 : decode cX2_undo 57 = .ok (.getfield 43, 3) := dk_180 0 43 (dk_at dksX2_undo_2 10 rfl rfl)
theorem dX2_undo_60 : decode cX2_undo 60 = .ok (.ireturn, 1) := dk_172 (dk_at dksX2_undo_2 13 rfl rfl)
abbrev cX2_keep : ByteArray := prog_7_method_56_code
def yX2_keep : MethodName := ⟨RX2, "keep", "()I"⟩
def dkwX2_keep_1 : List UInt8 := [167, 255, 234, 42, 4, 181, 0, 210, 42, 180, 0, 7, 17, 0, 149, 46, 172]
abbrev dktX2_keep_1 : List UInt8 := dkwX2_keep_1 ++ []
def dkwX2_keep_0 : List UInt8 := [3, 60, 27, 17, 0, 157, 162, 0, 21, 42, 180, 0, 19, 27, 42, 180, 0, 7, 27, 46, 79, 132, 1, 1]
abbrev dktX2_keep_0 : List UInt8 := dkwX2_keep_0 ++ dktX2_keep_1
theorem dksX2_keep_0 : cX2_keep.data.toList.drop 0 = dktX2_keep_0 := by decide +kernel
theorem dksX2_keep_1 : cX2_keep.data.toList.drop 24 = dktX2_keep_1 := dk_seg dksX2_keep_0 24 rfl rfl
theorem dX2_keep_0 : decode cX2_keep 0 = .ok (.iconst 0, 1) := dk_3 (dk_at dksX2_keep_0 0 rfl rfl)
theorem dX2_keep_1 : decode cX2_keep 1 = .ok (.istore_n 1, 1) := dk_60 (dk_at dksX2_keep_0 1 rfl rfl)
theorem dX2_keep_2 : decode cX2_keep 2 = .ok (.iload_n 1, 1) := dk_27 (dk_at dksX2_keep_0 2 rfl rfl)
theorem dX2_keep_3 : decode cX2_keep 3 = .ok (.sipush 157, 3) := dk_17 0 157 (dk_at dksX2_keep_0 3 rfl rfl)
theorem dX2_keep_6 : decode cX2_keep 6 = .ok (.if_icmp .ge 21, 3) := dk_162 0 21 (dk_at dksX2_keep_0 6 rfl rfl)
theorem dX2_keep_9 : decode cX2_keep 9 = .ok (.aload_n 0, 1) := dk_42 (dk_at dksX2_keep_0 9 rfl rfl)
theorem dX2_keep_10 : decode cX2_keep 10 = .ok (.getfield 19, 3) := dk_180 0 19 (dk_at dksX2_keep_0 10 rfl rfl)
theorem dX2_keep_13 : decode cX2_keep 13 = .ok (.iload_n 1, 1) := dk_27 (dk_at dksX2_keep_0 13 rfl rfl)
theorem dX2_keep_14 : decode cX2_keep 14 = .ok (.aload_n 0, 1) := dk_42 (dk_at dksX2_keep_0 14 rfl rfl)
theorem dX2_keep_15 : decode cX2_keep 15 = .ok (.getfield 7, 3) := dk_180 0 7 (dk_at dksX2_keep_0 15 rfl rfl)
theorem dX2_keep_18 : decode cX2_keep 18 = .ok (.iload_n 1, 1) := dk_27 (dk_at dksX2_keep_0 18 rfl rfl)
theorem dX2_keep_19 : decode cX2_keep 19 = .ok (.iaload, 1) := dk_46 (dk_at dksX2_keep_0 19 rfl rfl)
theorem dX2_keep_20 : decode cX2_keep 20 = .ok (.iastore, 1) := dk_79 (dk_at dksX2_keep_0 20 rfl rfl)
theorem dX2_keep_21 : decode cX2_keep 21 = .ok (.iinc 1 1, 3) := dk_132 1 1 (dk_at dksX2_keep_0 21 rfl rfl)
theorem dX2_keep_24 : decode cX2_keep 24 = .ok (.goto (-22), 3) := dk_167 255 234 (dk_at dksX2_keep_1 0 rfl rfl)
theorem dX2_keep_27 : decode cX2_keep 27 = .ok (.aload_n 0, 1) := dk_42 (dk_at dksX2_keep_1 3 rfl rfl)
theorem dX2_keep_28 : decode cX2_keep 28 = .ok (.iconst 1, 1) := dk_4 (dk_at dksX2_keep_1 4 rfl rfl)
theorem dX2_keep_29 : decode cX2_keep 29 = .ok (.putfield 210, 3) := dk_181 0 210 (dk_at dksX2_keep_1 5 rfl rfl)
theorem dX2_keep_32 : decode cX2_keep 32 = .ok (.aload_n 0, 1) := dk_42 (dk_at dksX2_keep_1 8 rfl rfl)
theorem dX2_keep_33 : decode cX2_keep 33 = .ok (.getfield 7, 3) := dk_180 0 7 (dk_at dksX2_keep_1 9 rfl rfl)
theorem dX2_keep_36 : decode cX2_keep 36 = .ok (.sipush 149, 3) := dk_17 0 149 (dk_at dksX2_keep_1 12 rfl rfl)
theorem dX2_keep_39 : decode cX2_keep 39 = .ok (.iaload, 1) := dk_46 (dk_at dksX2_keep_1 15 rfl rfl)
theorem dX2_keep_40 : decode cX2_keep 40 = .ok (.ireturn, 1) := dk_172 (dk_at dksX2_keep_1 16 rfl rfl)
abbrev cX2_restore : ByteArray := prog_7_method_57_code
def yX2_restore : MethodName := ⟨RX2, "restore", "()I"⟩
def dkwX2_restore_2 : List UInt8 := [46, 172]
abbrev dktX2_restore_2 : List UInt8 := dkwX2_restore_2 ++ []
def dkwX2_restore_1 : List UInt8 := [180, 0, 7, 27, 42, 180, 0, 19, 27, 46, 79, 132, 1, 1, 167, 255, 234, 42, 180, 0, 7, 17, 0, 149]
abbrev dktX2_restore_1 : List UInt8 := dkwX2_restore_1 ++ dktX2_restore_2
def dkwX2_restore_0 : List UInt8 := [42, 180, 0, 210, 154, 0, 6, 16, 251, 172, 42, 182, 0, 122, 3, 60, 27, 17, 0, 157, 162, 0, 21, 42]
abbrev dktX2_restore_0 : List UInt8 := dkwX2_restore_0 ++ dktX2_restore_1
theorem dksX2_restore_0 : cX2_restore.data.toList.drop 0 = dktX2_restore_0 := by decide +kernel
theorem dksX2_restore_1 : cX2_restore.data.toList.drop 24 = dktX2_restore_1 := dk_seg dksX2_restore_0 24 rfl rfl
theorem dksX2_restore_2 : cX2_restore.data.toList.drop 48 = dktX2_restore_2 := dk_seg dksX2_restore_1 24 rfl rfl
theorem dX2_restore_0 : decode cX2_restore 0 = .ok (.aload_n 0, 1) := dk_42 (dk_at dksX2_restore_0 0 rfl rfl)
theorem dX2_restore_1 : decode cX2_restore 1 = .ok (.getfield 210, 3) := dk_180 0 210 (dk_at dksX2_restore_0 1 rfl rfl)
theorem dX2_restore_4 : decode cX2_restore 4 = .ok (.ifCond .ne 6, 3) := dk_154 0 6 (dk_at dksX2_restore_0 4 rfl rfl)
theorem dX2_restore_7 : decode cX2_restore 7 = .ok (.bipush (-5), 2) := dk_16 251 (dk_at dksX2_restore_0 7 rfl rfl)
theorem dX2_restore_9 : decode cX2_restore 9 = .ok (.ireturn, 1) := dk_172 (dk_at dksX2_restore_0 9 rfl rfl)
theorem dX2_restore_10 : decode cX2_restore 10 = .ok (.aload_n 0, 1) := dk_42 (dk_at dksX2_restore_0 10 rfl rfl)
theorem dX2_restore_11 : decode cX2_restore 11 = .ok (.invokevirtual 122, 3) := dk_182 0 122 (dk_at dksX2_restore_0 11 rfl rfl)
theorem dX2_restore_14 : decode cX2_restore 14 = .ok (.iconst 0, 1) := dk_3 (dk_at dksX2_restore_0 14 rfl rfl)
theorem dX2_restore_15 : decode cX2_restore 15 = .ok (.istore_n 1, 1) := dk_60 (dk_at dksX2_restore_0 15 rfl rfl)
theorem dX2_restore_16 : decode cX2_restore 16 = .ok (.iload_n 1, 1) := dk_27 (dk_at dksX2_restore_0 16 rfl rfl)
theorem dX2_restore_17 : decode cX2_restore 17 = .ok (.sipush 157, 3) := dk_17 0 157 (dk_at dksX2_restore_0 17 rfl rfl)
theorem dX2_restore_20 : decode cX2_restore 20 = .ok (.if_icmp .ge 21, 3) := dk_162 0 21 (dk_at dksX2_restore_0 20 rfl rfl)
theorem dX2_restore_23 : decode cX2_restore 23 = .ok (.aload_n 0, 1) := dk_42 (dk_at dksX2_restore_0 23 rfl rfl)
theorem dX2_restore_24 : decode cX2_restore 24 = .ok (.getfield 7, 3) := dk_180 0 7 (dk_at dksX2_restore_1 0 rfl rfl)
theorem dX2_restore_27 : decode cX2_restore 27 = .ok (.iload_n 1, 1) := dk_27 (dk_at dksX2_restore_1 3 rfl rfl)
theorem dX2_restore_28 : decode cX2_restore 28 = .ok (.aload_n 0, 1) := dk_42 (dk_at dksX2_restore_1 4 rfl rfl)
theorem dX2_restore_29 : decode cX2_restore 29 = .ok (.getfield 19, 3) := dk_180 0 19 (dk_at dksX2_restore_1 5 rfl rfl)
theorem dX2_restore_32 : decode cX2_restore 32 = .ok (.iload_n 1, 1) := dk_27 (dk_at dksX2_restore_1 8 rfl rfl)
theorem dX2_restore_33 : decode cX2_restore 33 = .ok (.iaload, 1) := dk_46 (dk_at dksX2_restore_1 9 rfl rfl)
theorem dX2_restore_34 : decode cX2_restore 34 = .ok (.iastore, 1) := dk_79 (dk_at dksX2_restore_1 10 rfl rfl)
theorem dX2_restore_35 : decode cX2_restore 35 = .ok (.iinc 1 1, 3) := dk_132 1 1 (dk_at dksX2_restore_1 11 rfl rfl)
theorem dX2_restore_38 : decode cX2_restore 38 = .ok (.goto (-22), 3) := dk_167 255 234 (dk_at dksX2_restore_1 14 rfl rfl)
theorem dX2_restore_41 : decode cX2_restore 41 = .ok (.aload_n 0, 1) := dk_42 (dk_at dksX2_restore_1 17 rfl rfl)
theorem dX2_restore_42 : decode cX2_restore 42 = .ok (.getfield 7, 3) := dk_180 0 7 (dk_at dksX2_restore_1 18 rfl rfl)
theorem dX2_restore_45 : decode cX2_restore 45 = .ok (.sipush 149, 3) := dk_17 0 149 (dk_at dksX2_restore_1 21 rfl rfl)
theorem dX2_restore_48 : decode cX2_restore 48 = .ok (.iaload, 1) := dk_46 (dk_at dksX2_restore_2 0 rfl rfl)
theorem dX2_restore_49 : decode cX2_restore 49 = .ok (.ireturn, 1) := dk_172 (dk_at dksX2_restore_2 1 rfl rfl)
abbrev cX2_boatOf : ByteArray := prog_7_method_58_code
def yX2_boatOf : MethodName := ⟨RX2, "boatOf", "(II)I"⟩
def dkwX2_boatOf_4 : List UInt8 := [42, 27, 16, 6, 182, 0, 46, 172, 42, 27, 8, 182, 0, 46, 172, 16, 254, 172]
abbrev dktX2_boatOf_4 : List UInt8 := dkwX2_boatOf_4 ++ []
def dkwX2_boatOf_3 : List UInt8 := [167, 0, 8, 42, 27, 182, 0, 60, 172, 29, 153, 0, 8, 16, 251, 167, 0, 8, 42, 27, 182, 0, 77, 172]
abbrev dktX2_boatOf_3 : List UInt8 := dkwX2_boatOf_3 ++ dktX2_boatOf_4
def dkwX2_boatOf_2 : List UInt8 := [42, 27, 28, 182, 0, 46, 172, 29, 153, 0, 7, 4, 167, 0, 4, 3, 172, 29, 153, 0, 8, 16, 251]
abbrev dktX2_boatOf_2 : List UInt8 := dkwX2_boatOf_2 ++ dktX2_boatOf_3
def dkwX2_boatOf_1 : List UInt8 := [170, 0, 0, 0, 0, 0, 117, 0, 0, 0, 0, 0, 0, 0, 9, 0, 0, 0, 55, 0, 0, 0, 55, 0, 0, 0, 55, 0, 0, 0, 55, 0, 0, 0, 55, 0, 0, 0, 62, 0, 0, 0, 72, 0, 0, 0, 87, 0, 0, 0, 102, 0, 0, 0, 110]
abbrev dktX2_boatOf_1 : List UInt8 := dkwX2_boatOf_1 ++ dktX2_boatOf_2
def dkwX2_boatOf_0 : List UInt8 := [42, 27, 182, 0, 128, 154, 0, 5, 2, 172, 42, 27, 182, 0, 57, 62, 28]
abbrev dktX2_boatOf_0 : List UInt8 := dkwX2_boatOf_0 ++ dktX2_boatOf_1
theorem dksX2_boatOf_0 : cX2_boatOf.data.toList.drop 0 = dktX2_boatOf_0 := by decide +kernel
theorem dksX2_boatOf_1 : cX2_boatOf.data.toList.drop 17 = dktX2_boatOf_1 := dk_seg dksX2_boatOf_0 17 rfl rfl
theorem dksX2_boatOf_2 : cX2_boatOf.data.toList.drop 72 = dktX2_boatOf_2 := dk_seg dksX2_boatOf_1 55 rfl rfl
theorem dksX2_boatOf_3 : cX2_boatOf.data.toList.drop 95 = dktX2_boatOf_3 := dk_seg dksX2_boatOf_2 23 rfl rfl
theorem dksX2_boatOf_4 : cX2_boatOf.data.toList.drop 119 = dktX2_boatOf_4 := dk_seg dksX2_boatOf_3 24 rfl rfl
theorem dX2_boatOf_0 : decode cX2_boatOf 0 = .ok (.aload_n 0, 1) := dk_42 (dk_at dksX2_boatOf_0 0 rfl rfl)
theorem dX2_boatOf_1 : decode cX2_boatOf 1 = .ok (.iload_n 1, 1) := dk_27 (dk_at dksX2_boatOf_0 1 rfl rfl)
theorem dX2_boatOf_2 : decode cX2_boatOf 2 = .ok (.invokevirtual 128, 3) := dk_182 0 128 (dk_at dksX2_boatOf_0 2 rfl rfl)
theorem dX2_boatOf_5 : decode cX2_boatOf 5 = .ok (.ifCond .ne 5, 3) := dk_154 0 5 (dk_at dksX2_boatOf_0 5 rfl rfl)
theorem dX2_boatOf_8 : decode cX2_boatOf 8 = .ok (.iconst (-1), 1) := dk_2 (dk_at dksX2_boatOf_0 8 rfl rfl)
theorem dX2_boatOf_9 : decode cX2_boatOf 9 = .ok (.ireturn, 1) := dk_172 (dk_at dksX2_boatOf_0 9 rfl rfl)
theorem dX2_boatOf_10 : decode cX2_boatOf 10 = .ok (.aload_n 0, 1) := dk_42 (dk_at dksX2_boatOf_0 10 rfl rfl)
theorem dX2_boatOf_11 : decode cX2_boatOf 11 = .ok (.iload_n 1, 1) := dk_27 (dk_at dksX2_boatOf_0 11 rfl rfl)
theorem dX2_boatOf_12 : decode cX2_boatOf 12 = .ok (.invokevirtual 57, 3) := dk_182 0 57 (dk_at dksX2_boatOf_0 12 rfl rfl)
theorem dX2_boatOf_15 : decode cX2_boatOf 15 = .ok (.istore_n 3, 1) := dk_62 (dk_at dksX2_boatOf_0 15 rfl rfl)
theorem dX2_boatOf_16 : decode cX2_boatOf 16 = .ok (.iload_n 2, 1) := dk_28 (dk_at dksX2_boatOf_0 16 rfl rfl)
theorem dX2_boatOf_17 : decode cX2_boatOf 17 = .ok (.tableswitch 117 0 9 #[55, 55, 55, 55, 55, 62, 72, 87, 102, 110], 55) := by decide +kernel
theorem dX2_boatOf_72 : decode cX2_boatOf 72 = .ok (.aload_n 0, 1) := dk_42 (dk_at dksX2_boatOf_2 0 rfl rfl)
theorem dX2_boatOf_73 : decode cX2_boatOf 73 = .ok (.iload_n 1, 1) := dk_27 (dk_at dksX2_boatOf_2 1 rfl rfl)
theorem dX2_boatOf_74 : decode cX2_boatOf 74 = .ok (.iload_n 2, 1) := dk_28 (dk_at dksX2_boatOf_2 2 rfl rfl)
theorem dX2_boatOf_75 : decode cX2_boatOf 75 = .ok (.invokevirtual 46, 3) := dk_182 0 46 (dk_at dksX2_boatOf_2 3 rfl rfl)
theorem dX2_boatOf_78 : decode cX2_boatOf 78 = .ok (.ireturn, 1) := dk_172 (dk_at dksX2_boatOf_2 6 rfl rfl)
theorem dX2_boatOf_79 : decode cX2_boatOf 79 = .ok (.iload_n 3, 1) := dk_29 (dk_at dksX2_boatOf_2 7 rfl rfl)
theorem dX2_boatOf_80 : decode cX2_boatOf 80 = .ok (.ifCond .eq 7, 3) := dk_153 0 7 (dk_at dksX2_boatOf_2 8 rfl rfl)
theorem dX2_boatOf_83 : decode cX2_boatOf 83 = .ok (.iconst 1, 1) := dk_4 (dk_at dksX2_boatOf_2 11 rfl rfl)
theorem dX2_boatOf_84 : decode cX2_boatOf 84 = .ok (.goto 4, 3) := dk_167 0 4 (dk_at dksX2_boatOf_2 12 rfl rfl)
theorem dX2_boatOf_87 : decode cX2_boatOf 87 = .ok (.iconst 0, 1) := dk_3 (dk_at dksX2_boatOf_2 15 rfl rfl)
theorem dX2_boatOf_88 : decode cX2_boatOf 88 = .ok (.ireturn, 1) := dk_172 (dk_at dksX2_boatOf_2 16 rfl rfl)
theorem dX2_boatOf_89 : decode cX2_boatOf 89 = .ok (.iload_n 3, 1) := dk_29 (dk_at dksX2_boatOf_2 17 rfl rfl)
theorem dX2_boatOf_90 : decode cX2_boatOf 90 = .ok (.ifCond .eq 8, 3) := dk_153 0 8 (dk_at dksX2_boatOf_2 18 rfl rfl)
theorem dX2_boatOf_93 : decode cX2_boatOf 93 = .ok (.bipush (-5), 2) := dk_16 251 (dk_at dksX2_boatOf_2 21 rfl rfl)
theorem dX2_boatOf_95 : decode cX2_boatOf 95 = .ok (.goto 8, 3) := dk_167 0 8 (dk_at dksX2_boatOf_3 0 rfl rfl)
theorem dX2_boatOf_98 : decode cX2_boatOf 98 = .ok (.aload_n 0, 1) := dk_42 (dk_at dksX2_boatOf_3 3 rfl rfl)
theorem dX2_boatOf_99 : decode cX2_boatOf 99 = .ok (.iload_n 1, 1) := dk_27 (dk_at dksX2_boatOf_3 4 rfl rfl)
theorem dX2_boatOf_100 : decode cX2_boatOf 100 = .ok (.invokevirtual 60, 3) := dk_182 0 60 (dk_at dksX2_boatOf_3 5 rfl rfl)
theorem dX2_boatOf_103 : decode cX2_boatOf 103 = .ok (.ireturn, 1) := dk_172 (dk_at dksX2_boatOf_3 8 rfl rfl)
theorem dX2_boatOf_104 : decode cX2_boatOf 104 = .ok (.iload_n 3, 1) := dk_29 (dk_at dksX2_boatOf_3 9 rfl rfl)
theorem dX2_boatOf_105 : decode cX2_boatOf 105 = .ok (.ifCond .eq 8, 3) := dk_153 0 8 (dk_at dksX2_boatOf_3 10 rfl rfl)
theorem dX2_boatOf_108 : decode cX2_boatOf 108 = .ok (.bipush (-5), 2) := dk_16 251 (dk_at dksX2_boatOf_3 13 rfl rfl)
theorem dX2_boatOf_110 : decode cX2_boatOf 110 = .ok (.goto 8, 3) := dk_167 0 8 (dk_at dksX2_boatOf_3 15 rfl rfl)
theorem dX2_boatOf_113 : decode cX2_boatOf 113 = .ok (.aload_n 0, 1) := dk_42 (dk_at dksX2_boatOf_3 18 rfl rfl)
theorem dX2_boatOf_114 : decode cX2_boatOf 114 = .ok (.iload_n 1, 1) := dk_27 (dk_at dksX2_boatOf_3 19 rfl rfl)
theorem dX2_boatOf_115 : decode cX2_boatOf 115 = .ok (.invokevirtual 77, 3) := dk_182 0 77 (dk_at dksX2_boatOf_3 20 rfl rfl)
theorem dX2_boatOf_118 : decode cX2_boatOf 118 = .ok (.ireturn, 1) := dk_172 (dk_at dksX2_boatOf_3 23 rfl rfl)
theorem dX2_boatOf_119 : decode cX2_boatOf 119 = .ok (.aload_n 0, 1) := dk_42 (dk_at dksX2_boatOf_4 0 rfl rfl)
theorem dX2_boatOf_120 : decode cX2_boatOf 120 = .ok (.iload_n 1, 1) := dk_27 (dk_at dksX2_boatOf_4 1 rfl rfl)
theorem dX2_boatOf_121 : decode cX2_boatOf 121 = .ok (.bipush 6, 2) := dk_16 6 (dk_at dksX2_boatOf_4 2 rfl rfl)
theorem dX2_boatOf_123 : decode cX2_boatOf 123 = .ok (.invokevirtual 46, 3) := dk_182 0 46 (dk_at dksX2_boatOf_4 4 rfl rfl)
theorem dX2_boatOf_126 : decode cX2_boatOf 126 = .ok (.ireturn, 1) := dk_172 (dk_at dksX2_boatOf_4 7 rfl rfl)
theorem dX2_boatOf_127 : decode cX2_boatOf 127 = .ok (.aload_n 0, 1) := dk_42 (dk_at dksX2_boatOf_4 8 rfl rfl)
theorem dX2_boatOf_128 : decode cX2_boatOf 128 = .ok (.iload_n 1, 1) := dk_27 (dk_at dksX2_boatOf_4 9 rfl rfl)
theorem dX2_boatOf_129 : decode cX2_boatOf 129 = .ok (.iconst 5, 1) := dk_8 (dk_at dksX2_boatOf_4 10 rfl rfl)
theorem dX2_boatOf_130 : decode cX2_boatOf 130 = .ok (.invokevirtual 46, 3) := dk_182 0 46 (dk_at dksX2_boatOf_4 11 rfl rfl)
theorem dX2_boatOf_133 : decode cX2_boatOf 133 = .ok (.ireturn, 1) := dk_172 (dk_at dksX2_boatOf_4 14 rfl rfl)
theorem dX2_boatOf_134 : decode cX2_boatOf 134 = .ok (.bipush (-2), 2) := dk_16 254 (dk_at dksX2_boatOf_4 15 rfl rfl)
theorem dX2_boatOf_136 : decode cX2_boatOf 136 = .ok (.ireturn, 1) := dk_172 (dk_at dksX2_boatOf_4 17 rfl rfl)
abbrev cX2_lock : ByteArray := prog_7_method_59_code
def yX2_lock : MethodName := ⟨RX2, "lock", "(II)I"⟩
def dkwX2_lock_5 : List UInt8 := [16, 6, 27, 96, 46, 172, 16, 254, 172]
abbrev dktX2_lock_5 : List UInt8 := dkwX2_lock_5 ++ []
def dkwX2_lock_4 : List UInt8 := [42, 180, 0, 7, 16, 11, 27, 96, 46, 172, 42, 180, 0, 7, 16, 16, 27, 96, 46, 172, 42, 180, 0, 7]
abbrev dktX2_lock_4 : List UInt8 := dkwX2_lock_4 ++ dktX2_lock_5
def dkwX2_lock_3 : List UInt8 := [167, 0, 4, 3, 182, 0, 99, 172, 42, 27, 28, 6, 160, 0, 7, 4, 167, 0, 4, 3, 182, 0, 89, 172]
abbrev dktX2_lock_3 : List UInt8 := dkwX2_lock_3 ++ dktX2_lock_4
def dkwX2_lock_2 : List UInt8 := [42, 27, 182, 0, 67, 153, 0, 7, 4, 167, 0, 4, 3, 172, 42, 27, 28, 4, 160, 0, 7, 4]
abbrev dktX2_lock_2 : List UInt8 := dkwX2_lock_2 ++ dktX2_lock_3
def dkwX2_lock_1 : List UInt8 := [170, 0, 0, 0, 0, 122, 0, 0, 0, 0, 0, 0, 0, 7, 0, 0, 0, 46, 0, 0, 0, 60, 0, 0, 0, 60, 0, 0, 0, 76, 0, 0, 0, 76, 0, 0, 0, 92, 0, 0, 0, 102, 0, 0, 0, 112]
abbrev dktX2_lock_1 : List UInt8 := dkwX2_lock_1 ++ dktX2_lock_2
def dkwX2_lock_0 : List UInt8 := [27, 184, 0, 131, 154, 0, 5, 2, 172, 28]
abbrev dktX2_lock_0 : List UInt8 := dkwX2_lock_0 ++ dktX2_lock_1
theorem dksX2_lock_0 : cX2_lock.data.toList.drop 0 = dktX2_lock_0 := by decide +kernel
theorem dksX2_lock_1 : cX2_lock.data.toList.drop 10 = dktX2_lock_1 := dk_seg dksX2_lock_0 10 rfl rfl
theorem dksX2_lock_2 : cX2_lock.data.toList.drop 56 = dktX2_lock_2 := dk_seg dksX2_lock_1 46 rfl rfl
theorem dksX2_lock_3 : cX2_lock.data.toList.drop 78 = dktX2_lock_3 := dk_seg dksX2_lock_2 22 rfl rfl
theorem dksX2_lock_4 : cX2_lock.data.toList.drop 102 = dktX2_lock_4 := dk_seg dksX2_lock_3 24 rfl rfl
theorem dksX2_lock_5 : cX2_lock.data.toList.drop 126 = dktX2_lock_5 := dk_seg dksX2_lock_4 24 rfl rfl
theorem dX2_lock_0 : decode cX2_lock 0 = .ok (.iload_n 1, 1) := dk_27 (dk_at dksX2_lock_0 0 rfl rfl)
theorem dX2_lock_1 : decode cX2_lock 1 = .ok (.invokestatic 131, 3) := dk_184 0 131 (dk_at dksX2_lock_0 1 rfl rfl)
theorem dX2_lock_4 : decode cX2_lock 4 = .ok (.ifCond .ne 5, 3) := dk_154 0 5 (dk_at dksX2_lock_0 4 rfl rfl)
theorem dX2_lock_7 : decode cX2_lock 7 = .ok (.iconst (-1), 1) := dk_2 (dk_at dksX2_lock_0 7 rfl rfl)
theorem dX2_lock_8 : decode cX2_lock 8 = .ok (.ireturn, 1) := dk_172 (dk_at dksX2_lock_0 8 rfl rfl)
theorem dX2_lock_9 : decode cX2_lock 9 = .ok (.iload_n 2, 1) := dk_28 (dk_at dksX2_lock_0 9 rfl rfl)
theorem dX2_lock_10 : decode cX2_lock 10 = .ok (.tableswitch 122 0 7 #[46, 60, 60, 76, 76, 92, 102, 112], 46) := by decide +kernel
theorem dX2_lock_56 : decode cX2_lock 56 = .ok (.aload_n 0, 1) := dk_42 (dk_at dksX2_lock_2 0 rfl rfl)
theorem dX2_lock_57 : decode cX2_lock 57 = .ok (.iload_n 1, 1) := dk_27 (dk_at dksX2_lock_2 1 rfl rfl)
theorem dX2_lock_58 : decode cX2_lock 58 = .ok (.invokevirtual 67, 3) := dk_182 0 67 (dk_at dksX2_lock_2 2 rfl rfl)
theorem dX2_lock_61 : decode cX2_lock 61 = .ok (.ifCond .eq 7, 3) := dk_153 0 7 (dk_at dksX2_lock_2 5 rfl rfl)
theorem dX2_lock_64 : decode cX2_lock 64 = .ok (.iconst 1, 1) := dk_4 (dk_at dksX2_lock_2 8 rfl rfl)
theorem dX2_lock_65 : decode cX2_lock 65 = .ok (.goto 4, 3) := dk_167 0 4 (dk_at dksX2_lock_2 9 rfl rfl)
theorem dX2_lock_68 : decode cX2_lock 68 = .ok (.iconst 0, 1) := dk_3 (dk_at dksX2_lock_2 12 rfl rfl)
theorem dX2_lock_69 : decode cX2_lock 69 = .ok (.ireturn, 1) := dk_172 (dk_at dksX2_lock_2 13 rfl rfl)
theorem dX2_lock_70 : decode cX2_lock 70 = .ok (.aload_n 0, 1) := dk_42 (dk_at dksX2_lock_2 14 rfl rfl)
theorem dX2_lock_71 : decode cX2_lock 71 = .ok (.iload_n 1, 1) := dk_27 (dk_at dksX2_lock_2 15 rfl rfl)
theorem dX2_lock_72 : decode cX2_lock 72 = .ok (.iload_n 2, 1) := dk_28 (dk_at dksX2_lock_2 16 rfl rfl)
theorem dX2_lock_73 : decode cX2_lock 73 = .ok (.iconst 1, 1) := dk_4 (dk_at dksX2_lock_2 17 rfl rfl)
theorem dX2_lock_74 : decode cX2_lock 74 = .ok (.if_icmp .ne 7, 3) := dk_160 0 7 (dk_at dksX2_lock_2 18 rfl rfl)
theorem dX2_lock_77 : decode cX2_lock 77 = .ok (.iconst 1, 1) := dk_4 (dk_at dksX2_lock_2 21 rfl rfl)
theorem dX2_lock_78 : decode cX2_lock 78 = .ok (.goto 4, 3) := dk_167 0 4 (dk_at dksX2_lock_3 0 rfl rfl)
theorem dX2_lock_81 : decode cX2_lock 81 = .ok (.iconst 0, 1) := dk_3 (dk_at dksX2_lock_3 3 rfl rfl)
theorem dX2_lock_82 : decode cX2_lock 82 = .ok (.invokevirtual 99, 3) := dk_182 0 99 (dk_at dksX2_lock_3 4 rfl rfl)
theorem dX2_lock_85 : decode cX2_lock 85 = .ok (.ireturn, 1) := dk_172 (dk_at dksX2_lock_3 7 rfl rfl)
theorem dX2_lock_86 : decode cX2_lock 86 = .ok (.aload_n 0, 1) := dk_42 (dk_at dksX2_lock_3 8 rfl rfl)
theorem dX2_lock_87 : decode cX2_lock 87 = .ok (.iload_n 1, 1) := dk_27 (dk_at dksX2_lock_3 9 rfl rfl)
theorem dX2_lock_88 : decode cX2_lock 88 = .ok (.iload_n 2, 1) := dk_28 (dk_at dksX2_lock_3 10 rfl rfl)
theorem dX2_lock_89 : decode cX2_lock 89 = .ok (.iconst 3, 1) := dk_6 (dk_at dksX2_lock_3 11 rfl rfl)
theorem dX2_lock_90 : decode cX2_lock 90 = .ok (.if_icmp .ne 7, 3) := dk_160 0 7 (dk_at dksX2_lock_3 12 rfl rfl)
theorem dX2_lock_93 : decode cX2_lock 93 = .ok (.iconst 1, 1) := dk_4 (dk_at dksX2_lock_3 15 rfl rfl)
theorem dX2_lock_94 : decode cX2_lock 94 = .ok (.goto 4, 3) := dk_167 0 4 (dk_at dksX2_lock_3 16 rfl rfl)
theorem dX2_lock_97 : decode cX2_lock 97 = .ok (.iconst 0, 1) := dk_3 (dk_at dksX2_lock_3 19 rfl rfl)
theorem dX2_lock_98 : decode cX2_lock 98 = .ok (.invokevirtual 89, 3) := dk_182 0 89 (dk_at dksX2_lock_3 20 rfl rfl)
theorem dX2_lock_101 : decode cX2_lock 101 = .ok (.ireturn, 1) := dk_172 (dk_at dksX2_lock_3 23 rfl rfl)
theorem dX2_lock_102 : decode cX2_lock 102 = .ok (.aload_n 0, 1) := dk_42 (dk_at dksX2_lock_4 0 rfl rfl)
theorem dX2_lock_103 : decode cX2_lock 103 = .ok (.getfield 7, 3) := dk_180 0 7 (dk_at dksX2_lock_4 1 rfl rfl)
theorem dX2_lock_106 : decode cX2_lock 106 = .ok (.bipush 11, 2) := dk_16 11 (dk_at dksX2_lock_4 4 rfl rfl)
theorem dX2_lock_108 : decode cX2_lock 108 = .ok (.iload_n 1, 1) := dk_27 (dk_at dksX2_lock_4 6 rfl rfl)
theorem dX2_lock_109 : decode cX2_lock 109 = .ok (.iadd, 1) := dk_96 (dk_at dksX2_lock_4 7 rfl rfl)
theorem dX2_lock_110 : decode cX2_lock 110 = .ok (.iaload, 1) := dk_46 (dk_at dksX2_lock_4 8 rfl rfl)
theorem dX2_lock_111 : decode cX2_lock 111 = .ok (.ireturn, 1) := dk_172 (dk_at dksX2_lock_4 9 rfl rfl)
theorem dX2_lock_112 : decode cX2_lock 112 = .ok (.aload_n 0, 1) := dk_42 (dk_at dksX2_lock_4 10 rfl rfl)
theorem dX2_lock_113 : decode cX2_lock 113 = .ok (.getfield 7, 3) := dk_180 0 7 (dk_at dksX2_lock_4 11 rfl rfl)
theorem dX2_lock_116 : decode cX2_lock 116 = .ok (.bipush 16, 2) := dk_16 16 (dk_at dksX2_lock_4 14 rfl rfl)
theorem dX2_lock_118 : decode cX2_lock 118 = .ok (.iload_n 1, 1) := dk_27 (dk_at dksX2_lock_4 16 rfl rfl)
theorem dX2_lock_119 : decode cX2_lock 119 = .ok (.iadd, 1) := dk_96 (dk_at dksX2_lock_4 17 rfl rfl)
theorem dX2_lock_120 : decode cX2_lock 120 = .ok (.iaload, 1) := dk_46 (dk_at dksX2_lock_4 18 rfl rfl)
theorem dX2_lock_121 : decode cX2_lock 121 = .ok (.ireturn, 1) := dk_172 (dk_at dksX2_lock_4 19 rfl rfl)
theorem dX2_lock_122 : decode cX2_lock 122 = .ok (.aload_n 0, 1) := dk_42 (dk_at dksX2_lock_4 20 rfl rfl)
theorem dX2_lock_123 : decode cX2_lock 123 = .ok (.getfield 7, 3) := dk_180 0 7 (dk_at dksX2_lock_4 21 rfl rfl)
theorem dX2_lock_126 : decode cX2_lock 126 = .ok (.bipush 6, 2) := dk_16 6 (dk_at dksX2_lock_5 0 rfl rfl)
theorem dX2_lock_128 : decode cX2_lock 128 = .ok (.iload_n 1, 1) := dk_27 (dk_at dksX2_lock_5 2 rfl rfl)
theorem dX2_lock_129 : decode cX2_lock 129 = .ok (.iadd, 1) := dk_96 (dk_at dksX2_lock_5 3 rfl rfl)
theorem dX2_lock_130 : decode cX2_lock 130 = .ok (.iaload, 1) := dk_46 (dk_at dksX2_lock_5 4 rfl rfl)
theorem dX2_lock_131 : decode cX2_lock 131 = .ok (.ireturn, 1) := dk_172 (dk_at dksX2_lock_5 5 rfl rfl)
theorem dX2_lock_132 : decode cX2_lock 132 = .ok (.bipush (-2), 2) := dk_16 254 (dk_at dksX2_lock_5 6 rfl rfl)
theorem dX2_lock_134 : decode cX2_lock 134 = .ok (.ireturn, 1) := dk_172 (dk_at dksX2_lock_5 8 rfl rfl)
abbrev cX2_pound : ByteArray := prog_7_method_61_code
def yX2_pound : MethodName := ⟨RX2, "pound", "(II)I"⟩
def dkwX2_pound_7 : List UInt8 := [160, 0, 8, 21, 4, 167, 0, 5, 21, 5, 172]
abbrev dktX2_pound_7 : List UInt8 := dkwX2_pound_7 ++ []
def dkwX2_pound_6 : List UInt8 := [42, 180, 0, 7, 3, 27, 96, 46, 167, 0, 24, 28, 4, 160, 0, 7, 29, 167, 0, 15, 28, 5]
abbrev dktX2_pound_6 : List UInt8 := dkwX2_pound_6 ++ dktX2_pound_7
def dkwX2_pound_5 : List UInt8 := [42, 21, 6, 4, 182, 0, 46, 167, 0, 5, 21, 5, 54, 5, 132, 6, 1, 167, 255, 151, 28, 154, 0, 14]
abbrev dktX2_pound_5 : List UInt8 := dkwX2_pound_5 ++ dktX2_pound_6
def dkwX2_pound_4 : List UInt8 := [167, 0, 4, 3, 128, 54, 4, 21, 7, 153, 0, 25, 42, 21, 6, 4, 182, 0, 46, 21, 5, 164, 0, 13]
abbrev dktX2_pound_4 : List UInt8 := dkwX2_pound_4 ++ dktX2_pound_5
def dkwX2_pound_3 : List UInt8 := [42, 21, 6, 182, 0, 57, 153, 0, 21, 42, 21, 6, 5, 182, 0, 46, 27, 160, 0, 10, 4, 21, 6, 120]
abbrev dktX2_pound_3 : List UInt8 := dkwX2_pound_3 ++ dktX2_pound_4
def dkwX2_pound_2 : List UInt8 := [27, 182, 0, 213, 54, 7, 29, 21, 7, 153, 0, 10, 4, 21, 6, 120, 167, 0, 4, 3, 128, 62, 21, 4]
abbrev dktX2_pound_2 : List UInt8 := dkwX2_pound_2 ++ dktX2_pound_3
def dkwX2_pound_1 : List UInt8 := [54, 4, 3, 54, 5, 3, 54, 6, 21, 6, 42, 180, 0, 7, 17, 0, 150, 46, 162, 0, 98, 42, 21, 6]
abbrev dktX2_pound_1 : List UInt8 := dkwX2_pound_1 ++ dktX2_pound_2
def dkwX2_pound_0 : List UInt8 := [27, 184, 0, 115, 154, 0, 5, 2, 172, 28, 3, 6, 184, 0, 35, 154, 0, 6, 16, 254, 172, 3, 62, 3]
abbrev dktX2_pound_0 : List UInt8 := dkwX2_pound_0 ++ dktX2_pound_1
theorem dksX2_pound_0 : cX2_pound.data.toList.drop 0 = dktX2_pound_0 := by decide +kernel
theorem dksX2_pound_1 : cX2_pound.data.toList.drop 24 = dktX2_pound_1 := dk_seg dksX2_pound_0 24 rfl rfl
theorem dksX2_pound_2 : cX2_pound.data.toList.drop 48 = dktX2_pound_2 := dk_seg dksX2_pound_1 24 rfl rfl
theorem dksX2_pound_3 : cX2_pound.data.toList.drop 72 = dktX2_pound_3 := dk_seg dksX2_pound_2 24 rfl rfl
theorem dksX2_pound_4 : cX2_pound.data.toList.drop 96 = dktX2_pound_4 := dk_seg dksX2_pound_3 24 rfl rfl
theorem dksX2_pound_5 : cX2_pound.data.toList.drop 120 = dktX2_pound_5 := dk_seg dksX2_pound_4 24 rfl rfl
theorem dksX2_pound_6 : cX2_pound.data.toList.drop 144 = dktX2_pound_6 := dk_seg dksX2_pound_5 24 rfl rfl
theorem dksX2_pound_7 : cX2_pound.data.toList.drop 166 = dktX2_pound_7 := dk_seg dksX2_pound_6 22 rfl rfl
theorem dX2_pound_0 : decode cX2_pound 0 = .ok (.iload_n 1, 1) := dk_27 (dk_at dksX2_pound_0 0 rfl rfl)
theorem dX2_pound_1 : decode cX2_pound 1 = .ok (.invokestatic 115, 3) := dk_184 0 115 (dk_at dksX2_pound_0 1 rfl rfl)
theorem dX2_pound_4 : decode cX2_pound 4 = .ok (.ifCond .ne 5, 3) := dk_154 0 5 (dk_at dksX2_pound_0 4 rfl rfl)
theorem dX2_pound_7 : decode cX2_pound 7 = .ok (.iconst (-1), 1) := dk_2 (dk_at dksX2_pound_0 7 rfl rfl)
theorem dX2_pound_8 : decode cX2_pound 8 = .ok (.ireturn, 1) := dk_172 (dk_at dksX2_pound_0 8 rfl rfl)
theorem dX2_pound_9 : decode cX2_pound 9 = .ok (.iload_n 2, 1) := dk_28 (dk_at dksX2_pound_0 9 rfl rfl)
theorem dX2_pound_10 : decode cX2_pound 10 = .ok (.iconst 0, 1) := dk_3 (dk_at dksX2_pound_0 10 rfl rfl)
theorem dX2_pound_11 : decode cX2_pound 11 = .ok (.iconst 3, 1) := dk_6 (dk_at dksX2_pound_0 11 rfl rfl)
theorem dX2_pound_12 : decode cX2_pound 12 = .ok (.invokestatic 35, 3) := dk_184 0 35 (dk_at dksX2_pound_0 12 rfl rfl)
theorem dX2_pound_15 : decode cX2_pound 15 = .ok (.ifCond .ne 6, 3) := dk_154 0 6 (dk_at dksX2_pound_0 15 rfl rfl)
theorem dX2_pound_18 : decode cX2_pound 18 = .ok (.bipush (-2), 2) := dk_16 254 (dk_at dksX2_pound_0 18 rfl rfl)
theorem dX2_pound_20 : decode cX2_pound 20 = .ok (.ireturn, 1) := dk_172 (dk_at dksX2_pound_0 20 rfl rfl)
theorem dX2_pound_21 : decode cX2_pound 21 = .ok (.iconst 0, 1) := dk_3 (dk_at dksX2_pound_0 21 rfl rfl)
theorem dX2_pound_22 : decode cX2_pound 22 = .ok (.istore_n 3, 1) := dk_62 (dk_at dksX2_pound_0 22 rfl rfl)
theorem dX2_pound_23 : decode cX2_pound 23 = .ok (.iconst 0, 1) := dk_3 (dk_at dksX2_pound_0 23 rfl rfl)
theorem dX2_pound_24 : decode cX2_pound 24 = .ok (.istore 4, 2) := dk_54 4 (dk_at dksX2_pound_1 0 rfl rfl)
theorem dX2_pound_26 : decode cX2_pound 26 = .ok (.iconst 0, 1) := dk_3 (dk_at dksX2_pound_1 2 rfl rfl)
theorem dX2_pound_27 : decode cX2_pound 27 = .ok (.istore 5, 2) := dk_54 5 (dk_at dksX2_pound_1 3 rfl rfl)
theorem dX2_pound_29 : decode cX2_pound 29 = .ok (.iconst 0, 1) := dk_3 (dk_at dksX2_pound_1 5 rfl rfl)
theorem dX2_pound_30 : decode cX2_pound 30 = .ok (.istore 6, 2) := dk_54 6 (dk_at dksX2_pound_1 6 rfl rfl)
theorem dX2_pound_32 : decode cX2_pound 32 = .ok (.iload 6, 2) := dk_21 6 (dk_at dksX2_pound_1 8 rfl rfl)
theorem dX2_pound_34 : decode cX2_pound 34 = .ok (.aload_n 0, 1) := dk_42 (dk_at dksX2_pound_1 10 rfl rfl)
theorem dX2_pound_35 : decode cX2_pound 35 = .ok (.getfield 7, 3) := dk_180 0 7 (dk_at dksX2_pound_1 11 rfl rfl)
theorem dX2_pound_38 : decode cX2_pound 38 = .ok (.sipush 150, 3) := dk_17 0 150 (dk_at dksX2_pound_1 14 rfl rfl)
theorem dX2_pound_41 : decode cX2_pound 41 = .ok (.iaload, 1) := dk_46 (dk_at dksX2_pound_1 17 rfl rfl)
theorem dX2_pound_42 : decode cX2_pound 42 = .ok (.if_icmp .ge 98, 3) := dk_162 0 98 (dk_at dksX2_pound_1 18 rfl rfl)
theorem dX2_pound_45 : decode cX2_pound 45 = .ok (.aload_n 0, 1) := dk_42 (dk_at dksX2_pound_1 21 rfl rfl)
theorem dX2_pound_46 : decode cX2_pound 46 = .ok (.iload 6, 2) := dk_21 6 (dk_at dksX2_pound_1 22 rfl rfl)
theorem dX2_pound_48 : decode cX2_pound 48 = .ok (.iload_n 1, 1) := dk_27 (dk_at dksX2_pound_2 0 rfl rfl)
theorem dX2_pound_49 : decode cX2_pound 49 = .ok (.invokevirtual 213, 3) := dk_182 0 213 (dk_at dksX2_pound_2 1 rfl rfl)
theorem dX2_pound_52 : decode cX2_pound 52 = .ok (.istore 7, 2) := dk_54 7 (dk_at dksX2_pound_2 4 rfl rfl)
theorem dX2_pound_54 : decode cX2_pound 54 = .ok (.iload_n 3, 1) := dk_29 (dk_at dksX2_pound_2 6 rfl rfl)
theorem dX2_pound_55 : decode cX2_pound 55 = .ok (.iload 7, 2) := dk_21 7 (dk_at dksX2_pound_2 7 rfl rfl)
theorem dX2_pound_57 : decode cX2_pound 57 = .ok (.ifCond .eq 10, 3) := dk_153 0 10 (dk_at dksX2_pound_2 9 rfl rfl)
theorem dX2_pound_60 : decode cX2_pound 60 = .ok (.iconst 1, 1) := dk_4 (dk_at dksX2_pound_2 12 rfl rfl)
theorem dX2_pound_61 : decode cX2_pound 61 = .ok (.iload 6, 2) := dk_21 6 (dk_at dksX2_pound_2 13 rfl rfl)
theorem dX2_pound_63 : decode cX2_pound 63 = .ok (.ishl, 1) := dk_120 (dk_at dksX2_pound_2 15 rfl rfl)
theorem dX2_pound_64 : decode cX2_pound 64 = .ok (.goto 4, 3) := dk_167 0 4 (dk_at dksX2_pound_2 16 rfl rfl)
theorem dX2_pound_67 : decode cX2_pound 67 = .ok (.iconst 0, 1) := dk_3 (dk_at dksX2_pound_2 19 rfl rfl)
theorem dX2_pound_68 : decode cX2_pound 68 = .ok (.ior, 1) := dk_128 (dk_at dksX2_pound_2 20 rfl rfl)
theorem dX2_pound_69 : decode cX2_pound 69 = .ok (.istore_n 3, 1) := dk_62 (dk_at dksX2_pound_2 21 rfl rfl)
theorem dX2_pound_70 : decode cX2_pound 70 = .ok (.iload 4, 2) := dk_21 4 (dk_at dksX2_pound_2 22 rfl rfl)
theorem dX2_pound_72 : decode cX2_pound 72 = .ok (.aload_n 0, 1) := dk_42 (dk_at dksX2_pound_3 0 rfl rfl)
theorem dX2_pound_73 : decode cX2_pound 73 = .ok (.iload 6, 2) := dk_21 6 (dk_at dksX2_pound_3 1 rfl rfl)
theorem dX2_pound_75 : decode cX2_pound 75 = .ok (.invokevirtual 57, 3) := dk_182 0 57 (dk_at dksX2_pound_3 3 rfl rfl)
theorem dX2_pound_78 : decode cX2_pound 78 = .ok (.ifCond .eq 21, 3) := dk_153 0 21 (dk_at dksX2_pound_3 6 rfl rfl)
theorem dX2_pound_81 : decode cX2_pound 81 = .ok (.aload_n 0, 1) := dk_42 (dk_at dksX2_pound_3 9 rfl rfl)
theorem dX2_pound_82 : decode cX2_pound 82 = .ok (.iload 6, 2) := dk_21 6 (dk_at dksX2_pound_3 10 rfl rfl)
theorem dX2_pound_84 : decode cX2_pound 84 = .ok (.iconst 2, 1) := dk_5 (dk_at dksX2_pound_3 12 rfl rfl)
theorem dX2_pound_85 : decode cX2_pound 85 = .ok (.invokevirtual 46, 3) := dk_182 0 46 (dk_at dksX2_pound_3 13 rfl rfl)
theorem dX2_pound_88 : decode cX2_pound 88 = .ok (.iload_n 1, 1) := dk_27 (dk_at dksX2_pound_3 16 rfl rfl)
theorem dX2_pound_89 : decode cX2_pound 89 = .ok (.if_icmp .ne 10, 3) := dk_160 0 10 (dk_at dksX2_pound_3 17 rfl rfl)
theorem dX2_pound_92 : decode cX2_pound 92 = .ok (.iconst 1, 1) := dk_4 (dk_at dksX2_pound_3 20 rfl rfl)
theorem dX2_pound_93 : decode cX2_pound 93 = .ok (.iload 6, 2) := dk_21 6 (dk_at dksX2_pound_3 21 rfl rfl)
theorem dX2_pound_95 : decode cX2_pound 95 = .ok (.ishl, 1) := dk_120 (dk_at dksX2_pound_3 23 rfl rfl)
theorem dX2_pound_96 : decode cX2_pound 96 = .ok (.goto 4, 3) := dk_167 0 4 (dk_at dksX2_pound_4 0 rfl rfl)
theorem dX2_pound_99 : decode cX2_pound 99 = .ok (.iconst 0, 1) := dk_3 (dk_at dksX2_pound_4 3 rfl rfl)
theorem dX2_pound_100 : decode cX2_pound 100 = .ok (.ior, 1) := dk_128 (dk_at dksX2_pound_4 4 rfl rfl)
theorem dX2_pound_101 : decode cX2_pound 101 = .ok (.istore 4, 2) := dk_54 4 (dk_at dksX2_pound_4 5 rfl rfl)
theorem dX2_pound_103 : decode cX2_pound 103 = .ok (.iload 7, 2) := dk_21 7 (dk_at dksX2_pound_4 7 rfl rfl)
theorem dX2_pound_105 : decode cX2_pound 105 = .ok (.ifCond .eq 25, 3) := dk_153 0 25 (dk_at dksX2_pound_4 9 rfl rfl)
theorem dX2_pound_108 : decode cX2_pound 108 = .ok (.aload_n 0, 1) := dk_42 (dk_at dksX2_pound_4 12 rfl rfl)
theorem dX2_pound_109 : decode cX2_pound 109 = .ok (.iload 6, 2) := dk_21 6 (dk_at dksX2_pound_4 13 rfl rfl)
theorem dX2_pound_111 : decode cX2_pound 111 = .ok (.iconst 1, 1) := dk_4 (dk_at dksX2_pound_4 15 rfl rfl)
theorem dX2_pound_112 : decode cX2_pound 112 = .ok (.invokevirtual 46, 3) := dk_182 0 46 (dk_at dksX2_pound_4 16 rfl rfl)
theorem dX2_pound_115 : decode cX2_pound 115 = .ok (.iload 5, 2) := dk_21 5 (dk_at dksX2_pound_4 19 rfl rfl)
theorem dX2_pound_117 : decode cX2_pound 117 = .ok (.if_icmp .le 13, 3) := dk_164 0 13 (dk_at dksX2_pound_4 21 rfl rfl)
theorem dX2_pound_120 : decode cX2_pound 120 = .ok (.aload_n 0, 1) := dk_42 (dk_at dksX2_pound_5 0 rfl rfl)
theorem dX2_pound_121 : decode cX2_pound 121 = .ok (.iload 6, 2) := dk_21 6 (dk_at dksX2_pound_5 1 rfl rfl)
theorem dX2_pound_123 : decode cX2_pound 123 = .ok (.iconst 1, 1) := dk_4 (dk_at dksX2_pound_5 3 rfl rfl)
theorem dX2_pound_124 : decode cX2_pound 124 = .ok (.invokevirtual 46, 3) := dk_182 0 46 (dk_at dksX2_pound_5 4 rfl rfl)
theorem dX2_pound_127 : decode cX2_pound 127 = .ok (.goto 5, 3) := dk_167 0 5 (dk_at dksX2_pound_5 7 rfl rfl)
theorem dX2_pound_130 : decode cX2_pound 130 = .ok (.iload 5, 2) := dk_21 5 (dk_at dksX2_pound_5 10 rfl rfl)
theorem dX2_pound_132 : decode cX2_pound 132 = .ok (.istore 5, 2) := dk_54 5 (dk_at dksX2_pound_5 12 rfl rfl)
theorem dX2_pound_134 : decode cX2_pound 134 = .ok (.iinc 6 1, 3) := dk_132 6 1 (dk_at dksX2_pound_5 14 rfl rfl)
theorem dX2_pound_137 : decode cX2_pound 137 = .ok (.goto (-105), 3) := dk_167 255 151 (dk_at dksX2_pound_5 17 rfl rfl)
theorem dX2_pound_140 : decode cX2_pound 140 = .ok (.iload_n 2, 1) := dk_28 (dk_at dksX2_pound_5 20 rfl rfl)
theorem dX2_pound_141 : decode cX2_pound 141 = .ok (.ifCond .ne 14, 3) := dk_154 0 14 (dk_at dksX2_pound_5 21 rfl rfl)
theorem dX2_pound_144 : decode cX2_pound 144 = .ok (.aload_n 0, 1) := dk_42 (dk_at dksX2_pound_6 0 rfl rfl)
theorem dX2_pound_145 : decode cX2_pound 145 = .ok (.getfield 7, 3) := dk_180 0 7 (dk_at dksX2_pound_6 1 rfl rfl)
theorem dX2_pound_148 : decode cX2_pound 148 = .ok (.iconst 0, 1) := dk_3 (dk_at dksX2_pound_6 4 rfl rfl)
theorem dX2_pound_149 : decode cX2_pound 149 = .ok (.iload_n 1, 1) := dk_27 (dk_at dksX2_pound_6 5 rfl rfl)
theorem dX2_pound_150 : decode cX2_pound 150 = .ok (.iadd, 1) := dk_96 (dk_at dksX2_pound_6 6 rfl rfl)
theorem dX2_pound_151 : decode cX2_pound 151 = .ok (.iaload, 1) := dk_46 (dk_at dksX2_pound_6 7 rfl rfl)
theorem dX2_pound_152 : decode cX2_pound 152 = .ok (.goto 24, 3) := dk_167 0 24 (dk_at dksX2_pound_6 8 rfl rfl)
theorem dX2_pound_155 : decode cX2_pound 155 = .ok (.iload_n 2, 1) := dk_28 (dk_at dksX2_pound_6 11 rfl rfl)
theorem dX2_pound_156 : decode cX2_pound 156 = .ok (.iconst 1, 1) := dk_4 (dk_at dksX2_pound_6 12 rfl rfl)
theorem dX2_pound_157 : decode cX2_pound 157 = .ok (.if_icmp .ne 7, 3) := dk_160 0 7 (dk_at dksX2_pound_6 13 rfl rfl)
theorem dX2_pound_160 : decode cX2_pound 160 = .ok (.iload_n 3, 1) := dk_29 (dk_at dksX2_pound_6 16 rfl rfl)
theorem dX2_pound_161 : decode cX2_pound 161 = .ok (.goto 15, 3) := dk_167 0 15 (dk_at dksX2_pound_6 17 rfl rfl)
theorem dX2_pound_164 : decode cX2_pound 164 = .ok (.iload_n 2, 1) := dk_28 (dk_at dksX2_pound_6 20 rfl rfl)
theorem dX2_pound_165 : decode cX2_pound 165 = .ok (.iconst 2, 1) := dk_5 (dk_at dksX2_pound_6 21 rfl rfl)
theorem dX2_pound_166 : decode cX2_pound 166 = .ok (.if_icmp .ne 8, 3) := dk_160 0 8 (dk_at dksX2_pound_7 0 rfl rfl)
theorem dX2_pound_169 : decode cX2_pound 169 = .ok (.iload 4, 2) := dk_21 4 (dk_at dksX2_pound_7 3 rfl rfl)
theorem dX2_pound_171 : decode cX2_pound 171 = .ok (.goto 5, 3) := dk_167 0 5 (dk_at dksX2_pound_7 5 rfl rfl)
theorem dX2_pound_174 : decode cX2_pound 174 = .ok (.iload 5, 2) := dk_21 5 (dk_at dksX2_pound_7 8 rfl rfl)
theorem dX2_pound_176 : decode cX2_pound 176 = .ok (.ireturn, 1) := dk_172 (dk_at dksX2_pound_7 10 rfl rfl)
abbrev cX2_hasPiecesIn : ByteArray := prog_7_method_60_code
def yX2_hasPiecesIn : MethodName := ⟨RX2, "hasPiecesIn", "(II)Z"⟩
def dkwX2_hasPiecesIn_1 : List UInt8 := [158, 0, 16, 42, 27, 182, 0, 53, 28, 160, 0, 7, 4, 167, 0, 4, 3, 172]
abbrev dktX2_hasPiecesIn_1 : List UInt8 := dkwX2_hasPiecesIn_1 ++ []
def dkwX2_hasPiecesIn_0 : List UInt8 := [42, 27, 182, 0, 57, 154, 0, 35, 42, 27, 5, 182, 0, 46, 28, 159, 0, 21, 42, 27, 7, 182, 0, 46]
abbrev dktX2_hasPiecesIn_0 : List UInt8 := dkwX2_hasPiecesIn_0 ++ dktX2_hasPiecesIn_1
theorem dksX2_hasPiecesIn_0 : cX2_hasPiecesIn.data.toList.drop 0 = dktX2_hasPiecesIn_0 := by decide +kernel
theorem dksX2_hasPiecesIn_1 : cX2_hasPiecesIn.data.toList.drop 24 = dktX2_hasPiecesIn_1 := dk_seg dksX2_hasPiecesIn_0 24 rfl rfl
theorem dX2_hasPiecesIn_0 : decode cX2_hasPiecesIn 0 = .ok (.aload_n 0, 1) := dk_42 (dk_at dksX2_hasPiecesIn_0 0 rfl rfl)
theorem dX2_hasPiecesIn_1 : decode cX2_hasPiecesIn 1 = .ok (.iload_n 1, 1) := dk_27 (dk_at dksX2_hasPiecesIn_0 1 rfl rfl)
theorem dX2_hasPiecesIn_2 : decode cX2_hasPiecesIn 2 = .ok (.invokevirtual 57, 3) := dk_182 0 57 (dk_at dksX2_hasPiecesIn_0 2 rfl rfl)
theorem dX2_hasPiecesIn_5 : decode cX2_hasPiecesIn 5 = .ok (.ifCond .ne 35, 3) := dk_154 0 35 (dk_at dksX2_hasPiecesIn_0 5 rfl rfl)
theorem dX2_hasPiecesIn_8 : decode cX2_hasPiecesIn 8 = .ok (.aload_n 0, 1) := dk_42 (dk_at dksX2_hasPiecesIn_0 8 rfl rfl)
theorem dX2_hasPiecesIn_9 : decode cX2_hasPiecesIn 9 = .ok (.iload_n 1, 1) := dk_27 (dk_at dksX2_hasPiecesIn_0 9 rfl rfl)
theorem dX2_hasPiecesIn_10 : decode cX2_hasPiecesIn 10 = .ok (.iconst 2, 1) := dk_5 (dk_at dksX2_hasPiecesIn_0 10 rfl rfl)
theorem dX2_hasPiecesIn_11 : decode cX2_hasPiecesIn 11 = .ok (.invokevirtual 46, 3) := dk_182 0 46 (dk_at dksX2_hasPiecesIn_0 11 rfl rfl)
theorem dX2_hasPiecesIn_14 : decode cX2_hasPiecesIn 14 = .ok (.iload_n 2, 1) := dk_28 (dk_at dksX2_hasPiecesIn_0 14 rfl rfl)
theorem dX2_hasPiecesIn_15 : decode cX2_hasPiecesIn 15 = .ok (.if_icmp .eq 21, 3) := dk_159 0 21 (dk_at dksX2_hasPiecesIn_0 15 rfl rfl)
theorem dX2_hasPiecesIn_18 : decode cX2_hasPiecesIn 18 = .ok (.aload_n 0, 1) := dk_42 (dk_at dksX2_hasPiecesIn_0 18 rfl rfl)
theorem dX2_hasPiecesIn_19 : decode cX2_hasPiecesIn 19 = .ok (.iload_n 1, 1) := dk_27 (dk_at dksX2_hasPiecesIn_0 19 rfl rfl)
theorem dX2_hasPiecesIn_20 : decode cX2_hasPiecesIn 20 = .ok (.iconst 4, 1) := dk_7 (dk_at dksX2_hasPiecesIn_0 20 rfl rfl)
theorem dX2_hasPiecesIn_21 : decode cX2_hasPiecesIn 21 = .ok (.invokevirtual 46, 3) := dk_182 0 46 (dk_at dksX2_hasPiecesIn_0 21 rfl rfl)
theorem dX2_hasPiecesIn_24 : decode cX2_hasPiecesIn 24 = .ok (.ifCond .le 16, 3) := dk_158 0 16 (dk_at dksX2_hasPiecesIn_1 0 rfl rfl)
theorem dX2_hasPiecesIn_27 : decode cX2_hasPiecesIn 27 = .ok (.aload_n 0, 1) := dk_42 (dk_at dksX2_hasPiecesIn_1 3 rfl rfl)
theorem dX2_hasPiecesIn_28 : decode cX2_hasPiecesIn 28 = .ok (.iload_n 1, 1) := dk_27 (dk_at dksX2_hasPiecesIn_1 4 rfl rfl)
theorem dX2_hasPiecesIn_29 : decode cX2_hasPiecesIn 29 = .ok (.invokevirtual 53, 3) := dk_182 0 53 (dk_at dksX2_hasPiecesIn_1 5 rfl rfl)
theorem dX2_hasPiecesIn_32 : decode cX2_hasPiecesIn 32 = .ok (.iload_n 2, 1) := dk_28 (dk_at dksX2_hasPiecesIn_1 8 rfl rfl)
theorem dX2_hasPiecesIn_33 : decode cX2_hasPiecesIn 33 = .ok (.if_icmp .ne 7, 3) := dk_160 0 7 (dk_at dksX2_hasPiecesIn_1 9 rfl rfl)
theorem dX2_hasPiecesIn_36 : decode cX2_hasPiecesIn 36 = .ok (.iconst 1, 1) := dk_4 (dk_at dksX2_hasPiecesIn_1 12 rfl rfl)
theorem dX2_hasPiecesIn_37 : decode cX2_hasPiecesIn 37 = .ok (.goto 4, 3) := dk_167 0 4 (dk_at dksX2_hasPiecesIn_1 13 rfl rfl)
theorem dX2_hasPiecesIn_40 : decode cX2_hasPiecesIn 40 = .ok (.iconst 0, 1) := dk_3 (dk_at dksX2_hasPiecesIn_1 16 rfl rfl)
theorem dX2_hasPiecesIn_41 : decode cX2_hasPiecesIn 41 = .ok (.ireturn, 1) := dk_172 (dk_at dksX2_hasPiecesIn_1 17 rfl rfl)
abbrev cX2_reason : ByteArray := prog_7_method_62_code
def yX2_reason : MethodName := ⟨RX2, "reason", "(I)I"⟩
def dkwX2_reason_2 : List UInt8 := [182, 0, 207, 42, 180, 0, 83, 172]
abbrev dktX2_reason_2 : List UInt8 := dkwX2_reason_2 ++ []
def dkwX2_reason_1 : List UInt8 := [42, 27, 181, 0, 32, 42, 16, 251, 181, 0, 83, 42, 182, 0, 112, 42, 16, 251, 181, 0, 32, 42]
abbrev dktX2_reason_1 : List UInt8 := dkwX2_reason_1 ++ dktX2_reason_2
def dkwX2_reason_0 : List UInt8 := [42, 27, 182, 0, 128, 154, 0, 5, 2, 172, 42, 27, 182, 0, 57, 153, 0, 5, 4, 172, 42, 182, 0, 204]
abbrev dktX2_reason_0 : List UInt8 := dkwX2_reason_0 ++ dktX2_reason_1
theorem dksX2_reason_0 : cX2_reason.data.toList.drop 0 = dktX2_reason_0 := by decide +kernel
theorem dksX2_reason_1 : cX2_reason.data.toList.drop 24 = dktX2_reason_1 := dk_seg dksX2_reason_0 24 rfl rfl
theorem dksX2_reason_2 : cX2_reason.data.toList.drop 46 = dktX2_reason_2 := dk_seg dksX2_reason_1 22 rfl rfl
theorem dX2_reason_0 : decode cX2_reason 0 = .ok (.aload_n 0, 1) := dk_42 (dk_at dksX2_reason_0 0 rfl rfl)
theorem dX2_reason_1 : decode cX2_reason 1 = .ok (.iload_n 1, 1) := dk_27 (dk_at dksX2_reason_0 1 rfl rfl)
theorem dX2_reason_2 : decode cX2_reason 2 = .ok (.invokevirtual 128, 3) := dk_182 0 128 (dk_at dksX2_reason_0 2 rfl rfl)
theorem dX2_reason_5 : decode cX2_reason 5 = .ok (.ifCond .ne 5, 3) := dk_154 0 5 (dk_at dksX2_reason_0 5 rfl rfl)
theorem dX2_reason_8 : decode cX2_reason 8 = .ok (.iconst (-1), 1) := dk_2 (dk_at dksX2_reason_0 8 rfl rfl)
theorem dX2_reason_9 : decode cX2_reason 9 = .ok (.ireturn, 1) := dk_172 (dk_at dksX2_reason_0 9 rfl rfl)
theorem dX2_reason_10 : decode cX2_reason 10 = .ok (.aload_n 0, 1) := dk_42 (dk_at dksX2_reason_0 10 rfl rfl)
theorem dX2_reason_11 : decode cX2_reason 11 = .ok (.iload_n 1, 1) := dk_27 (dk_at dksX2_reason_0 11 rfl rfl)
theorem dX2_reason_12 : decode cX2_reason 12 = .ok (.invokevirtual 57, 3) := dk_182 0 57 (dk_at dksX2_reason_0 12 rfl rfl)
theorem dX2_reason_15 : decode cX2_reason 15 = .ok (.ifCond .eq 5, 3) := dk_153 0 5 (dk_at dksX2_reason_0 15 rfl rfl)
theorem dX2_reason_18 : decode cX2_reason 18 = .ok (.iconst 1, 1) := dk_4 (dk_at dksX2_reason_0 18 rfl rfl)
theorem dX2_reason_19 : decode cX2_reason 19 = .ok (.ireturn, 1) := dk_172 (dk_at dksX2_reason_0 19 rfl rfl)
theorem dX2_reason_20 : decode cX2_reason 20 = .ok (.aload_n 0, 1) := dk_42 (dk_at dksX2_reason_0 20 rfl rfl)
theorem dX2_reason_21 : decode cX2_reason 21 = .ok (.invokevirtual 204, 3) := dk_182 0 204 (dk_at dksX2_reason_0 21 rfl rfl)
theorem dX2_reason_24 : decode cX2_reason 24 = .ok (.aload_n 0, 1) := dk_42 (dk_at dksX2_reason_1 0 rfl rfl)
theorem dX2_reason_25 : decode cX2_reason 25 = .ok (.iload_n 1, 1) := dk_27 (dk_at dksX2_reason_1 1 rfl rfl)
theorem dX2_reason_26 : decode cX2_reason 26 = .ok (.putfield 32, 3) := dk_181 0 32 (dk_at dksX2_reason_1 2 rfl rfl)
theorem dX2_reason_29 : decode cX2_reason 29 = .ok (.aload_n 0, 1) := dk_42 (dk_at dksX2_reason_1 5 rfl rfl)
theorem dX2_reason_30 : decode cX2_reason 30 = .ok (.bipush (-5), 2) := dk_16 251 (dk_at dksX2_reason_1 6 rfl rfl)
theorem dX2_reason_32 : decode cX2_reason 32 = .ok (.putfield 83, 3) := dk_181 0 83 (dk_at dksX2_reason_1 8 rfl rfl)
theorem dX2_reason_35 : decode cX2_reason 35 = .ok (.aload_n 0, 1) := dk_42 (dk_at dksX2_reason_1 11 rfl rfl)
theorem dX2_reason_36 : decode cX2_reason 36 = .ok (.invokevirtual 112, 3) := dk_182 0 112 (dk_at dksX2_reason_1 12 rfl rfl)
theorem dX2_reason_39 : decode cX2_reason 39 = .ok (.aload_n 0, 1) := dk_42 (dk_at dksX2_reason_1 15 rfl rfl)
theorem dX2_reason_40 : decode cX2_reason 40 = .ok (.bipush (-5), 2) := dk_16 251 (dk_at dksX2_reason_1 16 rfl rfl)
theorem dX2_reason_42 : decode cX2_reason 42 = .ok (.putfield 32, 3) := dk_181 0 32 (dk_at dksX2_reason_1 18 rfl rfl)
theorem dX2_reason_45 : decode cX2_reason 45 = .ok (.aload_n 0, 1) := dk_42 (dk_at dksX2_reason_1 21 rfl rfl)
theorem dX2_reason_46 : decode cX2_reason 46 = .ok (.invokevirtual 207, 3) := dk_182 0 207 (dk_at dksX2_reason_2 0 rfl rfl)
theorem dX2_reason_49 : decode cX2_reason 49 = .ok (.aload_n 0, 1) := dk_42 (dk_at dksX2_reason_2 3 rfl rfl)
theorem dX2_reason_50 : decode cX2_reason 50 = .ok (.getfield 83, 3) := dk_180 0 83 (dk_at dksX2_reason_2 4 rfl rfl)
theorem dX2_reason_53 : decode cX2_reason 53 = .ok (.ireturn, 1) := dk_172 (dk_at dksX2_reason_2 7 rfl rfl)
abbrev cX2_arrivesIn : ByteArray := prog_7_method_63_code
def yX2_arrivesIn : MethodName := ⟨RX2, "arrivesIn", "(I)I"⟩
def dkwX2_arrivesIn_2 : List UInt8 := [17, 1, 244, 164, 0, 8, 16, 251, 167, 0, 4, 28, 172]
abbrev dktX2_arrivesIn_2 : List UInt8 := dkwX2_arrivesIn_2 ++ []
def dkwX2_arrivesIn_1 : List UInt8 := [27, 182, 0, 57, 154, 0, 13, 42, 182, 0, 112, 132, 2, 1, 167, 255, 234, 42, 182, 0, 207, 28]
abbrev dktX2_arrivesIn_1 : List UInt8 := dkwX2_arrivesIn_1 ++ dktX2_arrivesIn_2
def dkwX2_arrivesIn_0 : List UInt8 := [42, 27, 182, 0, 128, 154, 0, 5, 2, 172, 42, 182, 0, 204, 3, 61, 28, 17, 1, 244, 163, 0, 21, 42]
abbrev dktX2_arrivesIn_0 : List UInt8 := dkwX2_arrivesIn_0 ++ dktX2_arrivesIn_1
theorem dksX2_arrivesIn_0 : cX2_arrivesIn.data.toList.drop 0 = dktX2_arrivesIn_0 := by decide +kernel
theorem dksX2_arrivesIn_1 : cX2_arrivesIn.data.toList.drop 24 = dktX2_arrivesIn_1 := dk_seg dksX2_arrivesIn_0 24 rfl rfl
theorem dksX2_arrivesIn_2 : cX2_arrivesIn.data.toList.drop 46 = dktX2_arrivesIn_2 := dk_seg dksX2_arrivesIn_1 22 rfl rfl
theorem dX2_arrivesIn_0 : decode cX2_arrivesIn 0 = .ok (.aload_n 0, 1) := dk_42 (dk_at dksX2_arrivesIn_0 0 rfl rfl)
theorem dX2_arrivesIn_1 : decode cX2_arrivesIn 1 = .ok (.iload_n 1, 1) := dk_27 (dk_at dksX2_arrivesIn_0 1 rfl rfl)
theorem dX2_arrivesIn_2 : decode cX2_arrivesIn 2 = .ok (.invokevirtual 128, 3) := dk_182 0 128 (dk_at dksX2_arrivesIn_0 2 rfl rfl)
theorem dX2_arrivesIn_5 : decode cX2_arrivesIn 5 = .ok (.ifCond .ne 5, 3) := dk_154 0 5 (dk_at dksX2_arrivesIn_0 5 rfl rfl)
theorem dX2_arrivesIn_8 : decode cX2_arrivesIn 8 = .ok (.iconst (-1), 1) := dk_2 (dk_at dksX2_arrivesIn_0 8 rfl rfl)
theorem dX2_arrivesIn_9 : decode cX2_arrivesIn 9 = .ok (.ireturn, 1) := dk_172 (dk_at dksX2_arrivesIn_0 9 rfl rfl)
theorem dX2_arrivesIn_10 : decode cX2_arrivesIn 10 = .ok (.aload_n 0, 1) := dk_42 (dk_at dksX2_arrivesIn_0 10 rfl rfl)
theorem dX2_arrivesIn_11 : decode cX2_arrivesIn 11 = .ok (.invokevirtual 204, 3) := dk_182 0 204 (dk_at dksX2_arrivesIn_0 11 rfl rfl)
theorem dX2_arrivesIn_14 : decode cX2_arrivesIn 14 = .ok (.iconst 0, 1) := dk_3 (dk_at dksX2_arrivesIn_0 14 rfl rfl)
theorem dX2_arrivesIn_15 : decode cX2_arrivesIn 15 = .ok (.istore_n 2, 1) := dk_61 (dk_at dksX2_arrivesIn_0 15 rfl rfl)
theorem dX2_arrivesIn_16 : decode cX2_arrivesIn 16 = .ok (.iload_n 2, 1) := dk_28 (dk_at dksX2_arrivesIn_0 16 rfl rfl)
theorem dX2_arrivesIn_17 : decode cX2_arrivesIn 17 = .ok (.sipush 500, 3) := dk_17 1 244 (dk_at dksX2_arrivesIn_0 17 rfl rfl)
theorem dX2_arrivesIn_20 : decode cX2_arrivesIn 20 = .ok (.if_icmp .gt 21, 3) := dk_163 0 21 (dk_at dksX2_arrivesIn_0 20 rfl rfl)
theorem dX2_arrivesIn_23 : decode cX2_arrivesIn 23 = .ok (.aload_n 0, 1) := dk_42 (dk_at dksX2_arrivesIn_0 23 rfl rfl)
theorem dX2_arrivesIn_24 : decode cX2_arrivesIn 24 = .ok (.iload_n 1, 1) := dk_27 (dk_at dksX2_arrivesIn_1 0 rfl rfl)
theorem dX2_arrivesIn_25 : decode cX2_arrivesIn 25 = .ok (.invokevirtual 57, 3) := dk_182 0 57 (dk_at dksX2_arrivesIn_1 1 rfl rfl)
theorem dX2_arrivesIn_28 : decode cX2_arrivesIn 28 = .ok (.ifCond .ne 13, 3) := dk_154 0 13 (dk_at dksX2_arrivesIn_1 4 rfl rfl)
theorem dX2_arrivesIn_31 : decode cX2_arrivesIn 31 = .ok (.aload_n 0, 1) := dk_42 (dk_at dksX2_arrivesIn_1 7 rfl rfl)
theorem dX2_arrivesIn_32 : decode cX2_arrivesIn 32 = .ok (.invokevirtual 112, 3) := dk_182 0 112 (dk_at dksX2_arrivesIn_1 8 rfl rfl)
theorem dX2_arrivesIn_35 : decode cX2_arrivesIn 35 = .ok (.iinc 2 1, 3) := dk_132 2 1 (dk_at dksX2_arrivesIn_1 11 rfl rfl)
theorem dX2_arrivesIn_38 : decode cX2_arrivesIn 38 = .ok (.goto (-22), 3) := dk_167 255 234 (dk_at dksX2_arrivesIn_1 14 rfl rfl)
theorem dX2_arrivesIn_41 : decode cX2_arrivesIn 41 = .ok (.aload_n 0, 1) := dk_42 (dk_at dksX2_arrivesIn_1 17 rfl rfl)
theorem dX2_arrivesIn_42 : decode cX2_arrivesIn 42 = .ok (.invokevirtual 207, 3) := dk_182 0 207 (dk_at dksX2_arrivesIn_1 18 rfl rfl)
theorem dX2_arrivesIn_45 : decode cX2_arrivesIn 45 = .ok (.iload_n 2, 1) := dk_28 (dk_at dksX2_arrivesIn_1 21 rfl rfl)
theorem dX2_arrivesIn_46 : decode cX2_arrivesIn 46 = .ok (.sipush 500, 3) := dk_17 1 244 (dk_at dksX2_arrivesIn_2 0 rfl rfl)
theorem dX2_arrivesIn_49 : decode cX2_arrivesIn 49 = .ok (.if_icmp .le 8, 3) := dk_164 0 8 (dk_at dksX2_arrivesIn_2 3 rfl rfl)
theorem dX2_arrivesIn_52 : decode cX2_arrivesIn 52 = .ok (.bipush (-5), 2) := dk_16 251 (dk_at dksX2_arrivesIn_2 6 rfl rfl)
theorem dX2_arrivesIn_54 : decode cX2_arrivesIn 54 = .ok (.goto 4, 3) := dk_167 0 4 (dk_at dksX2_arrivesIn_2 8 rfl rfl)
theorem dX2_arrivesIn_57 : decode cX2_arrivesIn 57 = .ok (.iload_n 2, 1) := dk_28 (dk_at dksX2_arrivesIn_2 11 rfl rfl)
theorem dX2_arrivesIn_58 : decode cX2_arrivesIn 58 = .ok (.ireturn, 1) := dk_172 (dk_at dksX2_arrivesIn_2 12 rfl rfl)
abbrev cX2_water : ByteArray := prog_7_method_64_code
def yX2_water : MethodName := ⟨RX2, "water", "(I)I"⟩
def dkwX2_water_1 : List UInt8 := [180, 0, 7, 3, 29, 96, 46, 96, 61, 132, 3, 1, 167, 255, 236, 28, 172]
abbrev dktX2_water_1 : List UInt8 := dkwX2_water_1 ++ []
def dkwX2_water_0 : List UInt8 := [27, 3, 4, 184, 0, 35, 154, 0, 6, 16, 254, 172, 3, 61, 3, 62, 29, 16, 11, 162, 0, 20, 28, 42]
abbrev dktX2_water_0 : List UInt8 := dkwX2_water_0 ++ dktX2_water_1
theorem dksX2_water_0 : cX2_water.data.toList.drop 0 = dktX2_water_0 := by decide +kernel
theorem dksX2_water_1 : cX2_water.data.toList.drop 24 = dktX2_water_1 := dk_seg dksX2_water_0 24 rfl rfl
theorem dX2_water_0 : decode cX2_water 0 = .ok (.iload_n 1, 1) := dk_27 (dk_at dksX2_water_0 0 rfl rfl)
theorem dX2_water_1 : decode cX2_water 1 = .ok (.iconst 0, 1) := dk_3 (dk_at dksX2_water_0 1 rfl rfl)
theorem dX2_water_2 : decode cX2_water 2 = .ok (.iconst 1, 1) := dk_4 (dk_at dksX2_water_0 2 rfl rfl)
theorem dX2_water_3 : decode cX2_water 3 = .ok (.invokestatic 35, 3) := dk_184 0 35 (dk_at dksX2_water_0 3 rfl rfl)
theorem dX2_water_6 : decode cX2_water 6 = .ok (.ifCond .ne 6, 3) := dk_154 0 6 (dk_at dksX2_water_0 6 rfl rfl)
theorem dX2_water_9 : decode cX2_water 9 = .ok (.bipush (-2), 2) := dk_16 254 (dk_at dksX2_water_0 9 rfl rfl)
theorem dX2_water_11 : decode cX2_water 11 = .ok (.ireturn, 1) := dk_172 (dk_at dksX2_water_0 11 rfl rfl)
theorem dX2_water_12 : decode cX2_water 12 = .ok (.iconst 0, 1) := dk_3 (dk_at dksX2_water_0 12 rfl rfl)
theorem dX2_water_13 : decode cX2_water 13 = .ok (.istore_n 2, 1) := dk_61 (dk_at dksX2_water_0 13 rfl rfl)
theorem dX2_water_14 : decode cX2_water 14 = .ok (.iconst 0, 1) := dk_3 (dk_at dksX2_water_0 14 rfl rfl)
theorem dX2_water_15 : decode cX2_water 15 = .ok (.istore_n 3, 1) := dk_62 (dk_at dksX2_water_0 15 rfl rfl)
theorem dX2_water_16 : decode cX2_water 16 = .ok (.iload_n 3, 1) := dk_29 (dk_at dksX2_water_0 16 rfl rfl)
theorem dX2_water_17 : decode cX2_water 17 = .ok (.bipush 11, 2) := dk_16 11 (dk_at dksX2_water_0 17 rfl rfl)
theorem dX2_water_19 : decode cX2_water 19 = .ok (.if_icmp .ge 20, 3) := dk_162 0 20 (dk_at dksX2_water_0 19 rfl rfl)
theorem dX2_water_22 : decode cX2_water 22 = .ok (.iload_n 2, 1) := dk_28 (dk_at dksX2_water_0 22 rfl rfl)
theorem dX2_water_23 : decode cX2_water 23 = .ok (.aload_n 0, 1) := dk_42 (dk_at dksX2_water_0 23 rfl rfl)
theorem dX2_water_24 : decode cX2_water 24 = .ok (.getfield 7, 3) := dk_180 0 7 (dk_at dksX2_water_1 0 rfl rfl)
theorem dX2_water_27 : decode cX2_water 27 = .ok (.iconst 0, 1) := dk_3 (dk_at dksX2_water_1 3 rfl rfl)
theorem dX2_water_28 : decode cX2_water 28 = .ok (.iload_n 3, 1) := dk_29 (dk_at dksX2_water_1 4 rfl rfl)
theorem dX2_water_29 : decode cX2_water 29 = .ok (.iadd, 1) := dk_96 (dk_at dksX2_water_1 5 rfl rfl)
theorem dX2_water_30 : decode cX2_water 30 = .ok (.iaload, 1) := dk_46 (dk_at dksX2_water_1 6 rfl rfl)
theorem dX2_water_31 : decode cX2_water 31 = .ok (.iadd, 1) := dk_96 (dk_at dksX2_water_1 7 rfl rfl)
theorem dX2_water_32 : decode cX2_water 32 = .ok (.istore_n 2, 1) := dk_61 (dk_at dksX2_water_1 8 rfl rfl)
theorem dX2_water_33 : decode cX2_water 33 = .ok (.iinc 3 1, 3) := dk_132 3 1 (dk_at dksX2_water_1 9 rfl rfl)
theorem dX2_water_36 : decode cX2_water 36 = .ok (.goto (-20), 3) := dk_167 255 236 (dk_at dksX2_water_1 12 rfl rfl)
theorem dX2_water_39 : decode cX2_water 39 = .ok (.iload_n 2, 1) := dk_28 (dk_at dksX2_water_1 15 rfl rfl)
theorem dX2_water_40 : decode cX2_water 40 = .ok (.ireturn, 1) := dk_172 (dk_at dksX2_water_1 16 rfl rfl)
abbrev cX2_bestTurn : ByteArray := prog_7_method_66_code
def yX2_bestTurn : MethodName := ⟨RX2, "bestTurn", "(I)I"⟩
def dkwX2_bestTurn_4 : List UInt8 := [167, 0, 12, 27, 154, 0, 7, 28, 167, 0, 4, 29, 172]
abbrev dktX2_bestTurn_4 : List UInt8 := dkwX2_bestTurn_4 ++ []
def dkwX2_bestTurn_3 : List UInt8 := [164, 0, 8, 21, 5, 167, 0, 4, 29, 62, 132, 4, 1, 167, 255, 200, 28, 16, 251, 160, 0, 8, 16, 251]
abbrev dktX2_bestTurn_3 : List UInt8 := dkwX2_bestTurn_3 ++ dktX2_bestTurn_4
def dkwX2_bestTurn_2 : List UInt8 := [167, 0, 4, 3, 54, 5, 21, 5, 29, 164, 0, 8, 21, 4, 167, 0, 4, 28, 61, 21, 5, 29]
abbrev dktX2_bestTurn_2 : List UInt8 := dkwX2_bestTurn_2 ++ dktX2_bestTurn_3
def dkwX2_bestTurn_1 : List UInt8 := [54, 4, 21, 4, 8, 162, 0, 56, 42, 21, 4, 182, 0, 80, 153, 0, 12, 42, 21, 4, 182, 0, 216]
abbrev dktX2_bestTurn_1 : List UInt8 := dkwX2_bestTurn_1 ++ dktX2_bestTurn_2
def dkwX2_bestTurn_0 : List UInt8 := [27, 3, 4, 184, 0, 35, 154, 0, 6, 16, 254, 172, 16, 251, 61, 42, 16, 251, 182, 0, 216, 62, 3]
abbrev dktX2_bestTurn_0 : List UInt8 := dkwX2_bestTurn_0 ++ dktX2_bestTurn_1
theorem dksX2_bestTurn_0 : cX2_bestTurn.data.toList.drop 0 = dktX2_bestTurn_0 := by decide +kernel
theorem dksX2_bestTurn_1 : cX2_bestTurn.data.toList.drop 23 = dktX2_bestTurn_1 := dk_seg dksX2_bestTurn_0 23 rfl rfl
theorem dksX2_bestTurn_2 : cX2_bestTurn.data.toList.drop 46 = dktX2_bestTurn_2 := dk_seg dksX2_bestTurn_1 23 rfl rfl
theorem dksX2_bestTurn_3 : cX2_bestTurn.data.toList.drop 68 = dktX2_bestTurn_3 := dk_seg dksX2_bestTurn_2 22 rfl rfl
theorem dksX2_bestTurn_4 : cX2_bestTurn.data.toList.drop 92 = dktX2_bestTurn_4 := dk_seg dksX2_bestTurn_3 24 rfl rfl
theorem dX2_bestTurn_0 : decode cX2_bestTurn 0 = .ok (.iload_n 1, 1) := dk_27 (dk_at dksX2_bestTurn_0 0 rfl rfl)
theorem dX2_bestTurn_1 : decode cX2_bestTurn 1 = .ok (.iconst 0, 1) := dk_3 (dk_at dksX2_bestTurn_0 1 rfl rfl)
theorem dX2_bestTurn_2 : decode cX2_bestTurn 2 = .ok (.iconst 1, 1) := dk_4 (dk_at dksX2_bestTurn_0 2 rfl rfl)
theorem dX2_bestTurn_3 : decode cX2_bestTurn 3 = .ok (.invokestatic 35, 3) := dk_184 0 35 (dk_at dksX2_bestTurn_0 3 rfl rfl)
theorem dX2_bestTurn_6 : decode cX2_bestTurn 6 = .ok (.ifCond .ne 6, 3) := dk_154 0 6 (dk_at dksX2_bestTurn_0 6 rfl rfl)
theorem dX2_bestTurn_9 : decode cX2_bestTurn 9 = .ok (.bipush (-2), 2) := dk_16 254 (dk_at dksX2_bestTurn_0 9 rfl rfl)
theorem dX2_bestTurn_11 : decode cX2_bestTurn 11 = .ok (.ireturn, 1) := dk_172 (dk_at dksX2_bestTurn_0 11 rfl rfl)
theorem dX2_bestTurn_12 : decode cX2_bestTurn 12 = .ok (.bipush (-5), 2) := dk_16 251 (dk_at dksX2_bestTurn_0 12 rfl rfl)
theorem dX2_bestTurn_14 : decode cX2_bestTurn 14 = .ok (.istore_n 2, 1) := dk_61 (dk_at dksX2_bestTurn_0 14 rfl rfl)
theorem dX2_bestTurn_15 : decode cX2_bestTurn 15 = .ok (.aload_n 0, 1) := dk_42 (dk_at dksX2_bestTurn_0 15 rfl rfl)
theorem dX2_bestTurn_16 : decode cX2_bestTurn 16 = .ok (.bipush (-5), 2) := dk_16 251 (dk_at dksX2_bestTurn_0 16 rfl rfl)
theorem dX2_bestTurn_18 : decode cX2_bestTurn 18 = .ok (.invokevirtual 216, 3) := dk_182 0 216 (dk_at dksX2_bestTurn_0 18 rfl rfl)
theorem dX2_bestTurn_21 : decode cX2_bestTurn 21 = .ok (.istore_n 3, 1) := dk_62 (dk_at dksX2_bestTurn_0 21 rfl rfl)
theorem dX2_bestTurn_22 : decode cX2_bestTurn 22 = .ok (.iconst 0, 1) := dk_3 (dk_at dksX2_bestTurn_0 22 rfl rfl)
theorem dX2_bestTurn_23 : decode cX2_bestTurn 23 = .ok (.istore 4, 2) := dk_54 4 (dk_at dksX2_bestTurn_1 0 rfl rfl)
theorem dX2_bestTurn_25 : decode cX2_bestTurn 25 = .ok (.iload 4, 2) := dk_21 4 (dk_at dksX2_bestTurn_1 2 rfl rfl)
theorem dX2_bestTurn_27 : decode cX2_bestTurn 27 = .ok (.iconst 5, 1) := dk_8 (dk_at dksX2_bestTurn_1 4 rfl rfl)
theorem dX2_bestTurn_28 : decode cX2_bestTurn 28 = .ok (.if_icmp .ge 56, 3) := dk_162 0 56 (dk_at dksX2_bestTurn_1 5 rfl rfl)
theorem dX2_bestTurn_31 : decode cX2_bestTurn 31 = .ok (.aload_n 0, 1) := dk_42 (dk_at dksX2_bestTurn_1 8 rfl rfl)
theorem dX2_bestTurn_32 : decode cX2_bestTurn 32 = .ok (.iload 4, 2) := dk_21 4 (dk_at dksX2_bestTurn_1 9 rfl rfl)
theorem dX2_bestTurn_34 : decode cX2_bestTurn 34 = .ok (.invokevirtual 80, 3) := dk_182 0 80 (dk_at dksX2_bestTurn_1 11 rfl rfl)
theorem dX2_bestTurn_37 : decode cX2_bestTurn 37 = .ok (.ifCond .eq 12, 3) := dk_153 0 12 (dk_at dksX2_bestTurn_1 14 rfl rfl)
theorem dX2_bestTurn_40 : decode cX2_bestTurn 40 = .ok (.aload_n 0, 1) := dk_42 (dk_at dksX2_bestTurn_1 17 rfl rfl)
theorem dX2_bestTurn_41 : decode cX2_bestTurn 41 = .ok (.iload 4, 2) := dk_21 4 (dk_at dksX2_bestTurn_1 18 rfl rfl)
theorem dX2_bestTurn_43 : decode cX2_bestTurn 43 = .ok (.invokevirtual 216, 3) := dk_182 0 216 (dk_at dksX2_bestTurn_1 20 rfl rfl)
theorem dX2_bestTurn_46 : decode cX2_bestTurn 46 = .ok (.goto 4, 3) := dk_167 0 4 (dk_at dksX2_bestTurn_2 0 rfl rfl)
theorem dX2_bestTurn_49 : decode cX2_bestTurn 49 = .ok (.iconst 0, 1) := dk_3 (dk_at dksX2_bestTurn_2 3 rfl rfl)
theorem dX2_bestTurn_50 : decode cX2_bestTurn 50 = .ok (.istore 5, 2) := dk_54 5 (dk_at dksX2_bestTurn_2 4 rfl rfl)
theorem dX2_bestTurn_52 : decode cX2_bestTurn 52 = .ok (.iload 5, 2) := dk_21 5 (dk_at dksX2_bestTurn_2 6 rfl rfl)
theorem dX2_bestTurn_54 : decode cX2_bestTurn 54 = .ok (.iload_n 3, 1) := dk_29 (dk_at dksX2_bestTurn_2 8 rfl rfl)
theorem dX2_bestTurn_55 : decode cX2_bestTurn 55 = .ok (.if_icmp .le 8, 3) := dk_164 0 8 (dk_at dksX2_bestTurn_2 9 rfl rfl)
theorem dX2_bestTurn_58 : decode cX2_bestTurn 58 = .ok (.iload 4, 2) := dk_21 4 (dk_at dksX2_bestTurn_2 12 rfl rfl)
theorem dX2_bestTurn_60 : decode cX2_bestTurn 60 = .ok (.goto 4, 3) := dk_167 0 4 (dk_at dksX2_bestTurn_2 14 rfl rfl)
theorem dX2_bestTurn_63 : decode cX2_bestTurn 63 = .ok (.iload_n 2, 1) := dk_28 (dk_at dksX2_bestTurn_2 17 rfl rfl)
theorem dX2_bestTurn_64 : decode cX2_bestTurn 64 = .ok (.istore_n 2, 1) := dk_61 (dk_at dksX2_bestTurn_2 18 rfl rfl)
theorem dX2_bestTurn_65 : decode cX2_bestTurn 65 = .ok (.iload 5, 2) := dk_21 5 (dk_at dksX2_bestTurn_2 19 rfl rfl)
theorem dX2_bestTurn_67 : decode cX2_bestTurn 67 = .ok (.iload_n 3, 1) := dk_29 (dk_at dksX2_bestTurn_2 21 rfl rfl)
theorem dX2_bestTurn_68 : decode cX2_bestTurn 68 = .ok (.if_icmp .le 8, 3) := dk_164 0 8 (dk_at dksX2_bestTurn_3 0 rfl rfl)
theorem dX2_bestTurn_71 : decode cX2_bestTurn 71 = .ok (.iload 5, 2) := dk_21 5 (dk_at dksX2_bestTurn_3 3 rfl rfl)
theorem dX2_bestTurn_73 : decode cX2_bestTurn 73 = .ok (.goto 4, 3) := dk_167 0 4 (dk_at dksX2_bestTurn_3 5 rfl rfl)
theorem dX2_bestTurn_76 : decode cX2_bestTurn 76 = .ok (.iload_n 3, 1) := dk_29 (dk_at dksX2_bestTurn_3 8 rfl rfl)
theorem dX2_bestTurn_77 : decode cX2_bestTurn 77 = .ok (.istore_n 3, 1) := dk_62 (dk_at dksX2_bestTurn_3 9 rfl rfl)
theorem dX2_bestTurn_78 : decode cX2_bestTurn 78 = .ok (.iinc 4 1, 3) := dk_132 4 1 (dk_at dksX2_bestTurn_3 10 rfl rfl)
theorem dX2_bestTurn_81 : decode cX2_bestTurn 81 = .ok (.goto (-56), 3) := dk_167 255 200 (dk_at dksX2_bestTurn_3 13 rfl rfl)
theorem dX2_bestTurn_84 : decode cX2_bestTurn 84 = .ok (.iload_n 2, 1) := dk_28 (dk_at dksX2_bestTurn_3 16 rfl rfl)
theorem dX2_bestTurn_85 : decode cX2_bestTurn 85 = .ok (.bipush (-5), 2) := dk_16 251 (dk_at dksX2_bestTurn_3 17 rfl rfl)
theorem dX2_bestTurn_87 : decode cX2_bestTurn 87 = .ok (.if_icmp .ne 8, 3) := dk_160 0 8 (dk_at dksX2_bestTurn_3 19 rfl rfl)
theorem dX2_bestTurn_90 : decode cX2_bestTurn 90 = .ok (.bipush (-5), 2) := dk_16 251 (dk_at dksX2_bestTurn_3 22 rfl rfl)
theorem dX2_bestTurn_92 : decode cX2_bestTurn 92 = .ok (.goto 12, 3) := dk_167 0 12 (dk_at dksX2_bestTurn_4 0 rfl rfl)
theorem dX2_bestTurn_95 : decode cX2_bestTurn 95 = .ok (.iload_n 1, 1) := dk_27 (dk_at dksX2_bestTurn_4 3 rfl rfl)
theorem dX2_bestTurn_96 : decode cX2_bestTurn 96 = .ok (.ifCond .ne 7, 3) := dk_154 0 7 (dk_at dksX2_bestTurn_4 4 rfl rfl)
theorem dX2_bestTurn_99 : decode cX2_bestTurn 99 = .ok (.iload_n 2, 1) := dk_28 (dk_at dksX2_bestTurn_4 7 rfl rfl)
theorem dX2_bestTurn_100 : decode cX2_bestTurn 100 = .ok (.goto 4, 3) := dk_167 0 4 (dk_at dksX2_bestTurn_4 8 rfl rfl)
theorem dX2_bestTurn_103 : decode cX2_bestTurn 103 = .ok (.iload_n 3, 1) := dk_29 (dk_at dksX2_bestTurn_4 11 rfl rfl)
theorem dX2_bestTurn_104 : decode cX2_bestTurn 104 = .ok (.ireturn, 1) := dk_172 (dk_at dksX2_bestTurn_4 12 rfl rfl)
abbrev cX2_wouldArrive : ByteArray := prog_7_method_65_code
def yX2_wouldArrive : MethodName := ⟨RX2, "wouldArrive", "(I)I"⟩
def dkwX2_wouldArrive_1 : List UInt8 := [182, 0, 207, 28, 172]
abbrev dktX2_wouldArrive_1 : List UInt8 := dkwX2_wouldArrive_1 ++ []
def dkwX2_wouldArrive_0 : List UInt8 := [42, 182, 0, 204, 27, 16, 251, 159, 0, 8, 42, 27, 182, 0, 93, 42, 16, 40, 182, 0, 147, 61, 42]
abbrev dktX2_wouldArrive_0 : List UInt8 := dkwX2_wouldArrive_0 ++ dktX2_wouldArrive_1
theorem dksX2_wouldArrive_0 : cX2_wouldArrive.data.toList.drop 0 = dktX2_wouldArrive_0 := by decide +kernel
theorem dksX2_wouldArrive_1 : cX2_wouldArrive.data.toList.drop 23 = dktX2_wouldArrive_1 := dk_seg dksX2_wouldArrive_0 23 rfl rfl
theorem dX2_wouldArrive_0 : decode cX2_wouldArrive 0 = .ok (.aload_n 0, 1) := dk_42 (dk_at dksX2_wouldArrive_0 0 rfl rfl)
theorem dX2_wouldArrive_1 : decode cX2_wouldArrive 1 = .ok (.invokevirtual 204, 3) := dk_182 0 204 (dk_at dksX2_wouldArrive_0 1 rfl rfl)
theorem dX2_wouldArrive_4 : decode cX2_wouldArrive 4 = .ok (.iload_n 1, 1) := dk_27 (dk_at dksX2_wouldArrive_0 4 rfl rfl)
theorem dX2_wouldArrive_5 : decode cX2_wouldArrive 5 = .ok (.bipush (-5), 2) := dk_16 251 (dk_at dksX2_wouldArrive_0 5 rfl rfl)
theorem dX2_wouldArrive_7 : decode cX2_wouldArrive 7 = .ok (.if_icmp .eq 8, 3) := dk_159 0 8 (dk_at dksX2_wouldArrive_0 7 rfl rfl)
theorem dX2_wouldArrive_10 : decode cX2_wouldArrive 10 = .ok (.aload_n 0, 1) := dk_42 (dk_at dksX2_wouldArrive_0 10 rfl rfl)
theorem dX2_wouldArrive_11 : decode cX2_wouldArrive 11 = .ok (.iload_n 1, 1) := dk_27 (dk_at dksX2_wouldArrive_0 11 rfl rfl)
theorem dX2_wouldArrive_12 : decode cX2_wouldArrive 12 = .ok (.invokevirtual 93, 3) := dk_182 0 93 (dk_at dksX2_wouldArrive_0 12 rfl rfl)
theorem dX2_wouldArrive_15 : decode cX2_wouldArrive 15 = .ok (.aload_n 0, 1) := dk_42 (dk_at dksX2_wouldArrive_0 15 rfl rfl)
theorem dX2_wouldArrive_16 : decode cX2_wouldArrive 16 = .ok (.bipush 40, 2) := dk_16 40 (dk_at dksX2_wouldArrive_0 16 rfl rfl)
theorem dX2_wouldArrive_18 : decode cX2_wouldArrive 18 = .ok (.invokevirtual 147, 3) := dk_182 0 147 (dk_at dksX2_wouldArrive_0 18 rfl rfl)
theorem dX2_wouldArrive_21 : decode cX2_wouldArrive 21 = .ok (.istore_n 2, 1) := dk_61 (dk_at dksX2_wouldArrive_0 21 rfl rfl)
theorem dX2_wouldArrive_22 : decode cX2_wouldArrive 22 = .ok (.aload_n 0, 1) := dk_42 (dk_at dksX2_wouldArrive_0 22 rfl rfl)
theorem dX2_wouldArrive_23 : decode cX2_wouldArrive 23 = .ok (.invokevirtual 207, 3) := dk_182 0 207 (dk_at dksX2_wouldArrive_1 0 rfl rfl)
theorem dX2_wouldArrive_26 : decode cX2_wouldArrive 26 = .ok (.iload_n 2, 1) := dk_28 (dk_at dksX2_wouldArrive_1 3 rfl rfl)
theorem dX2_wouldArrive_27 : decode cX2_wouldArrive 27 = .ok (.ireturn, 1) := dk_172 (dk_at dksX2_wouldArrive_1 4 rfl rfl)
abbrev cX2_ifTicks : ByteArray := prog_7_method_69_code
def yX2_ifTicks : MethodName := ⟨RX2, "ifTicks", "(II)I"⟩
def dkwX2_ifTicks_4 : List UInt8 := [167, 0, 7, 42, 182, 0, 222, 54, 6, 42, 182, 0, 207, 21, 6, 172]
abbrev dktX2_ifTicks_4 : List UInt8 := dkwX2_ifTicks_4 ++ []
def dkwX2_ifTicks_3 : List UInt8 := [182, 0, 219, 29, 100, 167, 0, 26, 28, 5, 160, 0, 17, 42, 180, 0, 7, 17, 0, 152, 46, 21, 4, 100]
abbrev dktX2_ifTicks_3 : List UInt8 := dkwX2_ifTicks_3 ++ dktX2_ifTicks_4
def dkwX2_ifTicks_2 : List UInt8 := [182, 0, 147, 54, 5, 28, 154, 0, 8, 21, 5, 167, 0, 42, 28, 4, 160, 0, 14, 42, 16, 11]
abbrev dktX2_ifTicks_2 : List UInt8 := dkwX2_ifTicks_2 ++ dktX2_ifTicks_3
def dkwX2_ifTicks_1 : List UInt8 := [182, 0, 204, 42, 16, 11, 182, 0, 219, 62, 42, 180, 0, 7, 17, 0, 152, 46, 54, 4, 42, 27]
abbrev dktX2_ifTicks_1 : List UInt8 := dkwX2_ifTicks_1 ++ dktX2_ifTicks_2
def dkwX2_ifTicks_0 : List UInt8 := [27, 4, 17, 1, 244, 184, 0, 35, 153, 0, 12, 28, 3, 6, 184, 0, 35, 154, 0, 6, 16, 254, 172, 42]
abbrev dktX2_ifTicks_0 : List UInt8 := dkwX2_ifTicks_0 ++ dktX2_ifTicks_1
theorem dksX2_ifTicks_0 : cX2_ifTicks.data.toList.drop 0 = dktX2_ifTicks_0 := by decide +kernel
theorem dksX2_ifTicks_1 : cX2_ifTicks.data.toList.drop 24 = dktX2_ifTicks_1 := dk_seg dksX2_ifTicks_0 24 rfl rfl
theorem dksX2_ifTicks_2 : cX2_ifTicks.data.toList.drop 46 = dktX2_ifTicks_2 := dk_seg dksX2_ifTicks_1 22 rfl rfl
theorem dksX2_ifTicks_3 : cX2_ifTicks.data.toList.drop 68 = dktX2_ifTicks_3 := dk_seg dksX2_ifTicks_2 22 rfl rfl
theorem dksX2_ifTicks_4 : cX2_ifTicks.data.toList.drop 92 = dktX2_ifTicks_4 := dk_seg dksX2_ifTicks_3 24 rfl rfl
theorem dX2_ifTicks_0 : decode cX2_ifTicks 0 = .ok (.iload_n 1, 1) := dk_27 (dk_at dksX2_ifTicks_0 0 rfl rfl)
theorem dX2_ifTicks_1 : decode cX2_ifTicks 1 = .ok (.iconst 1, 1) := dk_4 (dk_at dksX2_ifTicks_0 1 rfl rfl)
theorem dX2_ifTicks_2 : decode cX2_ifTicks 2 = .ok (.sipush 500, 3) := dk_17 1 244 (dk_at dksX2_ifTicks_0 2 rfl rfl)
theorem dX2_ifTicks_5 : decode cX2_ifTicks 5 = .ok (.invokestatic 35, 3) := dk_184 0 35 (dk_at dksX2_ifTicks_0 5 rfl rfl)
theorem dX2_ifTicks_8 : decode cX2_ifTicks 8 = .ok (.ifCond .eq 12, 3) := dk_153 0 12 (dk_at dksX2_ifTicks_0 8 rfl rfl)
theorem dX2_ifTicks_11 : decode cX2_ifTicks 11 = .ok (.iload_n 2, 1) := dk_28 (dk_at dksX2_ifTicks_0 11 rfl rfl)
theorem dX2_ifTicks_12 : decode cX2_ifTicks 12 = .ok (.iconst 0, 1) := dk_3 (dk_at dksX2_ifTicks_0 12 rfl rfl)
theorem dX2_ifTicks_13 : decode cX2_ifTicks 13 = .ok (.iconst 3, 1) := dk_6 (dk_at dksX2_ifTicks_0 13 rfl rfl)
theorem dX2_ifTicks_14 : decode cX2_ifTicks 14 = .ok (.invokestatic 35, 3) := dk_184 0 35 (dk_at dksX2_ifTicks_0 14 rfl rfl)
theorem dX2_ifTicks_17 : decode cX2_ifTicks 17 = .ok (.ifCond .ne 6, 3) := dk_154 0 6 (dk_at dksX2_ifTicks_0 17 rfl rfl)
theorem dX2_ifTicks_20 : decode cX2_ifTicks 20 = .ok (.bipush (-2), 2) := dk_16 254 (dk_at dksX2_ifTicks_0 20 rfl rfl)
theorem dX2_ifTicks_22 : decode cX2_ifTicks 22 = .ok (.ireturn, 1) := dk_172 (dk_at dksX2_ifTicks_0 22 rfl rfl)
theorem dX2_ifTicks_23 : decode cX2_ifTicks 23 = .ok (.aload_n 0, 1) := dk_42 (dk_at dksX2_ifTicks_0 23 rfl rfl)
theorem dX2_ifTicks_24 : decode cX2_ifTicks 24 = .ok (.invokevirtual 204, 3) := dk_182 0 204 (dk_at dksX2_ifTicks_1 0 rfl rfl)
theorem dX2_ifTicks_27 : decode cX2_ifTicks 27 = .ok (.aload_n 0, 1) := dk_42 (dk_at dksX2_ifTicks_1 3 rfl rfl)
theorem dX2_ifTicks_28 : decode cX2_ifTicks 28 = .ok (.bipush 11, 2) := dk_16 11 (dk_at dksX2_ifTicks_1 4 rfl rfl)
theorem dX2_ifTicks_30 : decode cX2_ifTicks 30 = .ok (.invokevirtual 219, 3) := dk_182 0 219 (dk_at dksX2_ifTicks_1 6 rfl rfl)
theorem dX2_ifTicks_33 : decode cX2_ifTicks 33 = .ok (.istore_n 3, 1) := dk_62 (dk_at dksX2_ifTicks_1 9 rfl rfl)
theorem dX2_ifTicks_34 : decode cX2_ifTicks 34 = .ok (.aload_n 0, 1) := dk_42 (dk_at dksX2_ifTicks_1 10 rfl rfl)
theorem dX2_ifTicks_35 : decode cX2_ifTicks 35 = .ok (.getfield 7, 3) := dk_180 0 7 (dk_at dksX2_ifTicks_1 11 rfl rfl)
theorem dX2_ifTicks_38 : decode cX2_ifTicks 38 = .ok (.sipush 152, 3) := dk_17 0 152 (dk_at dksX2_ifTicks_1 14 rfl rfl)
theorem dX2_ifTicks_41 : decode cX2_ifTicks 41 = .ok (.iaload, 1) := dk_46 (dk_at dksX2_ifTicks_1 17 rfl rfl)
theorem dX2_ifTicks_42 : decode cX2_ifTicks 42 = .ok (.istore 4, 2) := dk_54 4 (dk_at dksX2_ifTicks_1 18 rfl rfl)
theorem dX2_ifTicks_44 : decode cX2_ifTicks 44 = .ok (.aload_n 0, 1) := dk_42 (dk_at dksX2_ifTicks_1 20 rfl rfl)
theorem dX2_ifTicks_45 : decode cX2_ifTicks 45 = .ok (.iload_n 1, 1) := dk_27 (dk_at dksX2_ifTicks_1 21 rfl rfl)
theorem dX2_ifTicks_46 : decode cX2_ifTicks 46 = .ok (.invokevirtual 147, 3) := dk_182 0 147 (dk_at dksX2_ifTicks_2 0 rfl rfl)
theorem dX2_ifTicks_49 : decode cX2_ifTicks 49 = .ok (.istore 5, 2) := dk_54 5 (dk_at dksX2_ifTicks_2 3 rfl rfl)
theorem dX2_ifTicks_51 : decode cX2_ifTicks 51 = .ok (.iload_n 2, 1) := dk_28 (dk_at dksX2_ifTicks_2 5 rfl rfl)
theorem dX2_ifTicks_52 : decode cX2_ifTicks 52 = .ok (.ifCond .ne 8, 3) := dk_154 0 8 (dk_at dksX2_ifTicks_2 6 rfl rfl)
theorem dX2_ifTicks_55 : decode cX2_ifTicks 55 = .ok (.iload 5, 2) := dk_21 5 (dk_at dksX2_ifTicks_2 9 rfl rfl)
theorem dX2_ifTicks_57 : decode cX2_ifTicks 57 = .ok (.goto 42, 3) := dk_167 0 42 (dk_at dksX2_ifTicks_2 11 rfl rfl)
theorem dX2_ifTicks_60 : decode cX2_ifTicks 60 = .ok (.iload_n 2, 1) := dk_28 (dk_at dksX2_ifTicks_2 14 rfl rfl)
theorem dX2_ifTicks_61 : decode cX2_ifTicks 61 = .ok (.iconst 1, 1) := dk_4 (dk_at dksX2_ifTicks_2 15 rfl rfl)
theorem dX2_ifTicks_62 : decode cX2_ifTicks 62 = .ok (.if_icmp .ne 14, 3) := dk_160 0 14 (dk_at dksX2_ifTicks_2 16 rfl rfl)
theorem dX2_ifTicks_65 : decode cX2_ifTicks 65 = .ok (.aload_n 0, 1) := dk_42 (dk_at dksX2_ifTicks_2 19 rfl rfl)
theorem dX2_ifTicks_66 : decode cX2_ifTicks 66 = .ok (.bipush 11, 2) := dk_16 11 (dk_at dksX2_ifTicks_2 20 rfl rfl)
theorem dX2_ifTicks_68 : decode cX2_ifTicks 68 = .ok (.invokevirtual 219, 3) := dk_182 0 219 (dk_at dksX2_ifTicks_3 0 rfl rfl)
theorem dX2_ifTicks_71 : decode cX2_ifTicks 71 = .ok (.iload_n 3, 1) := dk_29 (dk_at dksX2_ifTicks_3 3 rfl rfl)
theorem dX2_ifTicks_72 : decode cX2_ifTicks 72 = .ok (.isub, 1) := dk_100 (dk_at dksX2_ifTicks_3 4 rfl rfl)
theorem dX2_ifTicks_73 : decode cX2_ifTicks 73 = .ok (.goto 26, 3) := dk_167 0 26 (dk_at dksX2_ifTicks_3 5 rfl rfl)
theorem dX2_ifTicks_76 : decode cX2_ifTicks 76 = .ok (.iload_n 2, 1) := dk_28 (dk_at dksX2_ifTicks_3 8 rfl rfl)
theorem dX2_ifTicks_77 : decode cX2_ifTicks 77 = .ok (.iconst 2, 1) := dk_5 (dk_at dksX2_ifTicks_3 9 rfl rfl)
theorem dX2_ifTicks_78 : decode cX2_ifTicks 78 = .ok (.if_icmp .ne 17, 3) := dk_160 0 17 (dk_at dksX2_ifTicks_3 10 rfl rfl)
theorem dX2_ifTicks_81 : decode cX2_ifTicks 81 = .ok (.aload_n 0, 1) := dk_42 (dk_at dksX2_ifTicks_3 13 rfl rfl)
theorem dX2_ifTicks_82 : decode cX2_ifTicks 82 = .ok (.getfield 7, 3) := dk_180 0 7 (dk_at dksX2_ifTicks_3 14 rfl rfl)
theorem dX2_ifTicks_85 : decode cX2_ifTicks 85 = .ok (.sipush 152, 3) := dk_17 0 152 (dk_at dksX2_ifTicks_3 17 rfl rfl)
theorem dX2_ifTicks_88 : decode cX2_ifTicks 88 = .ok (.iaload, 1) := dk_46 (dk_at dksX2_ifTicks_3 20 rfl rfl)
theorem dX2_ifTicks_89 : decode cX2_ifTicks 89 = .ok (.iload 4, 2) := dk_21 4 (dk_at dksX2_ifTicks_3 21 rfl rfl)
theorem dX2_ifTicks_91 : decode cX2_ifTicks 91 = .ok (.isub, 1) := dk_100 (dk_at dksX2_ifTicks_3 23 rfl rfl)
theorem dX2_ifTicks_92 : decode cX2_ifTicks 92 = .ok (.goto 7, 3) := dk_167 0 7 (dk_at dksX2_ifTicks_4 0 rfl rfl)
theorem dX2_ifTicks_95 : decode cX2_ifTicks 95 = .ok (.aload_n 0, 1) := dk_42 (dk_at dksX2_ifTicks_4 3 rfl rfl)
theorem dX2_ifTicks_96 : decode cX2_ifTicks 96 = .ok (.invokevirtual 222, 3) := dk_182 0 222 (dk_at dksX2_ifTicks_4 4 rfl rfl)
theorem dX2_ifTicks_99 : decode cX2_ifTicks 99 = .ok (.istore 6, 2) := dk_54 6 (dk_at dksX2_ifTicks_4 7 rfl rfl)
theorem dX2_ifTicks_101 : decode cX2_ifTicks 101 = .ok (.aload_n 0, 1) := dk_42 (dk_at dksX2_ifTicks_4 9 rfl rfl)
theorem dX2_ifTicks_102 : decode cX2_ifTicks 102 = .ok (.invokevirtual 207, 3) := dk_182 0 207 (dk_at dksX2_ifTicks_4 10 rfl rfl)
theorem dX2_ifTicks_105 : decode cX2_ifTicks 105 = .ok (.iload 6, 2) := dk_21 6 (dk_at dksX2_ifTicks_4 13 rfl rfl)
theorem dX2_ifTicks_107 : decode cX2_ifTicks 107 = .ok (.ireturn, 1) := dk_172 (dk_at dksX2_ifTicks_4 15 rfl rfl)
abbrev cX2_sumOf : ByteArray := prog_7_method_67_code
def yX2_sumOf : MethodName := ⟨RX2, "sumOf", "(I)I"⟩
def dkwX2_sumOf_2 : List UInt8 := [28, 172]
abbrev dktX2_sumOf_2 : List UInt8 := dkwX2_sumOf_2 ++ []
def dkwX2_sumOf_1 : List UInt8 := [4, 167, 0, 15, 3, 167, 0, 11, 42, 180, 0, 7, 27, 29, 96, 46, 96, 61, 132, 3, 1, 167, 255, 215]
abbrev dktX2_sumOf_1 : List UInt8 := dkwX2_sumOf_1 ++ dktX2_sumOf_2
def dkwX2_sumOf_0 : List UInt8 := [3, 61, 3, 62, 29, 8, 162, 0, 42, 28, 27, 16, 6, 160, 0, 19, 42, 29, 182, 0, 67, 153, 0, 7]
abbrev dktX2_sumOf_0 : List UInt8 := dkwX2_sumOf_0 ++ dktX2_sumOf_1
theorem dksX2_sumOf_0 : cX2_sumOf.data.toList.drop 0 = dktX2_sumOf_0 := by decide +kernel
theorem dksX2_sumOf_1 : cX2_sumOf.data.toList.drop 24 = dktX2_sumOf_1 := dk_seg dksX2_sumOf_0 24 rfl rfl
theorem dksX2_sumOf_2 : cX2_sumOf.data.toList.drop 48 = dktX2_sumOf_2 := dk_seg dksX2_sumOf_1 24 rfl rfl
theorem dX2_sumOf_0 : decode cX2_sumOf 0 = .ok (.iconst 0, 1) := dk_3 (dk_at dksX2_sumOf_0 0 rfl rfl)
theorem dX2_sumOf_1 : decode cX2_sumOf 1 = .ok (.istore_n 2, 1) := dk_61 (dk_at dksX2_sumOf_0 1 rfl rfl)
theorem dX2_sumOf_2 : decode cX2_sumOf 2 = .ok (.iconst 0, 1) := dk_3 (dk_at dksX2_sumOf_0 2 rfl rfl)
theorem dX2_sumOf_3 : decode cX2_sumOf 3 = .ok (.istore_n 3, 1) := dk_62 (dk_at dksX2_sumOf_0 3 rfl rfl)
theorem dX2_sumOf_4 : decode cX2_sumOf 4 = .ok (.iload_n 3, 1) := dk_29 (dk_at dksX2_sumOf_0 4 rfl rfl)
theorem dX2_sumOf_5 : decode cX2_sumOf 5 = .ok (.iconst 5, 1) := dk_8 (dk_at dksX2_sumOf_0 5 rfl rfl)
theorem dX2_sumOf_6 : decode cX2_sumOf 6 = .ok (.if_icmp .ge 42, 3) := dk_162 0 42 (dk_at dksX2_sumOf_0 6 rfl rfl)
theorem dX2_sumOf_9 : decode cX2_sumOf 9 = .ok (.iload_n 2, 1) := dk_28 (dk_at dksX2_sumOf_0 9 rfl rfl)
theorem dX2_sumOf_10 : decode cX2_sumOf 10 = .ok (.iload_n 1, 1) := dk_27 (dk_at dksX2_sumOf_0 10 rfl rfl)
theorem dX2_sumOf_11 : decode cX2_sumOf 11 = .ok (.bipush 6, 2) := dk_16 6 (dk_at dksX2_sumOf_0 11 rfl rfl)
theorem dX2_sumOf_13 : decode cX2_sumOf 13 = .ok (.if_icmp .ne 19, 3) := dk_160 0 19 (dk_at dksX2_sumOf_0 13 rfl rfl)
theorem dX2_sumOf_16 : decode cX2_sumOf 16 = .ok (.aload_n 0, 1) := dk_42 (dk_at dksX2_sumOf_0 16 rfl rfl)
theorem dX2_sumOf_17 : decode cX2_sumOf 17 = .ok (.iload_n 3, 1) := dk_29 (dk_at dksX2_sumOf_0 17 rfl rfl)
theorem dX2_sumOf_18 : decode cX2_sumOf 18 = .ok (.invokevirtual 67, 3) := dk_182 0 67 (dk_at dksX2_sumOf_0 18 rfl rfl)
theorem dX2_sumOf_21 : decode cX2_sumOf 21 = .ok (.ifCond .eq 7, 3) := dk_153 0 7 (dk_at dksX2_sumOf_0 21 rfl rfl)
theorem dX2_sumOf_24 : decode cX2_sumOf 24 = .ok (.iconst 1, 1) := dk_4 (dk_at dksX2_sumOf_1 0 rfl rfl)
theorem dX2_sumOf_25 : decode cX2_sumOf 25 = .ok (.goto 15, 3) := dk_167 0 15 (dk_at dksX2_sumOf_1 1 rfl rfl)
theorem dX2_sumOf_28 : decode cX2_sumOf 28 = .ok (.iconst 0, 1) := dk_3 (dk_at dksX2_sumOf_1 4 rfl rfl)
theorem dX2_sumOf_29 : decode cX2_sumOf 29 = .ok (.goto 11, 3) := dk_167 0 11 (dk_at dksX2_sumOf_1 5 rfl rfl)
theorem dX2_sumOf_32 : decode cX2_sumOf 32 = .ok (.aload_n 0, 1) := dk_42 (dk_at dksX2_sumOf_1 8 rfl rfl)
theorem dX2_sumOf_33 : decode cX2_sumOf 33 = .ok (.getfield 7, 3) := dk_180 0 7 (dk_at dksX2_sumOf_1 9 rfl rfl)
theorem dX2_sumOf_36 : decode cX2_sumOf 36 = .ok (.iload_n 1, 1) := dk_27 (dk_at dksX2_sumOf_1 12 rfl rfl)
theorem dX2_sumOf_37 : decode cX2_sumOf 37 = .ok (.iload_n 3, 1) := dk_29 (dk_at dksX2_sumOf_1 13 rfl rfl)
theorem dX2_sumOf_38 : decode cX2_sumOf 38 = .ok (.iadd, 1) := dk_96 (dk_at dksX2_sumOf_1 14 rfl rfl)
theorem dX2_sumOf_39 : decode cX2_sumOf 39 = .ok (.iaload, 1) := dk_46 (dk_at dksX2_sumOf_1 15 rfl rfl)
theorem dX2_sumOf_40 : decode cX2_sumOf 40 = .ok (.iadd, 1) := dk_96 (dk_at dksX2_sumOf_1 16 rfl rfl)
theorem dX2_sumOf_41 : decode cX2_sumOf 41 = .ok (.istore_n 2, 1) := dk_61 (dk_at dksX2_sumOf_1 17 rfl rfl)
theorem dX2_sumOf_42 : decode cX2_sumOf 42 = .ok (.iinc 3 1, 3) := dk_132 3 1 (dk_at dksX2_sumOf_1 18 rfl rfl)
theorem dX2_sumOf_45 : decode cX2_sumOf 45 = .ok (.goto (-41), 3) := dk_167 255 215 (dk_at dksX2_sumOf_1 21 rfl rfl)
theorem dX2_sumOf_48 : decode cX2_sumOf 48 = .ok (.iload_n 2, 1) := dk_28 (dk_at dksX2_sumOf_2 0 rfl rfl)
theorem dX2_sumOf_49 : decode cX2_sumOf 49 = .ok (.ireturn, 1) := dk_172 (dk_at dksX2_sumOf_2 1 rfl rfl)
abbrev cX2_aground : ByteArray := prog_7_method_68_code
def yX2_aground : MethodName := ⟨RX2, "aground", "()I"⟩
def dkwX2_aground_2 : List UInt8 := [27, 172]
abbrev dktX2_aground_2 : List UInt8 := dkwX2_aground_2 ++ []
def dkwX2_aground_1 : List UInt8 := [154, 0, 15, 42, 28, 182, 0, 74, 153, 0, 7, 4, 167, 0, 4, 3, 96, 60, 132, 2, 1, 167, 255, 217]
abbrev dktX2_aground_1 : List UInt8 := dkwX2_aground_1 ++ dktX2_aground_2
def dkwX2_aground_0 : List UInt8 := [3, 60, 3, 61, 28, 42, 180, 0, 7, 17, 0, 150, 46, 162, 0, 33, 27, 42, 28, 182, 0, 57]
abbrev dktX2_aground_0 : List UInt8 := dkwX2_aground_0 ++ dktX2_aground_1
theorem dksX2_aground_0 : cX2_aground.data.toList.drop 0 = dktX2_aground_0 := by decide +kernel
theorem dksX2_aground_1 : cX2_aground.data.toList.drop 22 = dktX2_aground_1 := dk_seg dksX2_aground_0 22 rfl rfl
theorem dksX2_aground_2 : cX2_aground.data.toList.drop 46 = dktX2_aground_2 := dk_seg dksX2_aground_1 24 rfl rfl
theorem dX2_aground_0 : decode cX2_aground 0 = .ok (.iconst 0, 1) := dk_3 (dk_at dksX2_aground_0 0 rfl rfl)
theorem dX2_aground_1 : decode cX2_aground 1 = .ok (.istore_n 1, 1) := dk_60 (dk_at dksX2_aground_0 1 rfl rfl)
theorem dX2_aground_2 : decode cX2_aground 2 = .ok (.iconst 0, 1) := dk_3 (dk_at dksX2_aground_0 2 rfl rfl)
theorem dX2_aground_3 : decode cX2_aground 3 = .ok (.istore_n 2, 1) := dk_61 (dk_at dksX2_aground_0 3 rfl rfl)
theorem dX2_aground_4 : decode cX2_aground 4 = .ok (.iload_n 2, 1) := dk_28 (dk_at dksX2_aground_0 4 rfl rfl)
theorem dX2_aground_5 : decode cX2_aground 5 = .ok (.aload_n 0, 1) := dk_42 (dk_at dksX2_aground_0 5 rfl rfl)
theorem dX2_aground_6 : decode cX2_aground 6 = .ok (.getfield 7, 3) := dk_180 0 7 (dk_at dksX2_aground_0 6 rfl rfl)
theorem dX2_aground_9 : decode cX2_aground 9 = .ok (.sipush 150, 3) := dk_17 0 150 (dk_at dksX2_aground_0 9 rfl rfl)
theorem dX2_aground_12 : decode cX2_aground 12 = .ok (.iaload, 1) := dk_46 (dk_at dksX2_aground_0 12 rfl rfl)
theorem dX2_aground_13 : decode cX2_aground 13 = .ok (.if_icmp .ge 33, 3) := dk_162 0 33 (dk_at dksX2_aground_0 13 rfl rfl)
theorem dX2_aground_16 : decode cX2_aground 16 = .ok (.iload_n 1, 1) := dk_27 (dk_at dksX2_aground_0 16 rfl rfl)
theorem dX2_aground_17 : decode cX2_aground 17 = .ok (.aload_n 0, 1) := dk_42 (dk_at dksX2_aground_0 17 rfl rfl)
theorem dX2_aground_18 : decode cX2_aground 18 = .ok (.iload_n 2, 1) := dk_28 (dk_at dksX2_aground_0 18 rfl rfl)
theorem dX2_aground_19 : decode cX2_aground 19 = .ok (.invokevirtual 57, 3) := dk_182 0 57 (dk_at dksX2_aground_0 19 rfl rfl)
theorem dX2_aground_22 : decode cX2_aground 22 = .ok (.ifCond .ne 15, 3) := dk_154 0 15 (dk_at dksX2_aground_1 0 rfl rfl)
theorem dX2_aground_25 : decode cX2_aground 25 = .ok (.aload_n 0, 1) := dk_42 (dk_at dksX2_aground_1 3 rfl rfl)
theorem dX2_aground_26 : decode cX2_aground 26 = .ok (.iload_n 2, 1) := dk_28 (dk_at dksX2_aground_1 4 rfl rfl)
theorem dX2_aground_27 : decode cX2_aground 27 = .ok (.invokevirtual 74, 3) := dk_182 0 74 (dk_at dksX2_aground_1 5 rfl rfl)
theorem dX2_aground_30 : decode cX2_aground 30 = .ok (.ifCond .eq 7, 3) := dk_153 0 7 (dk_at dksX2_aground_1 8 rfl rfl)
theorem dX2_aground_33 : decode cX2_aground 33 = .ok (.iconst 1, 1) := dk_4 (dk_at dksX2_aground_1 11 rfl rfl)
theorem dX2_aground_34 : decode cX2_aground 34 = .ok (.goto 4, 3) := dk_167 0 4 (dk_at dksX2_aground_1 12 rfl rfl)
theorem dX2_aground_37 : decode cX2_aground 37 = .ok (.iconst 0, 1) := dk_3 (dk_at dksX2_aground_1 15 rfl rfl)
theorem dX2_aground_38 : decode cX2_aground 38 = .ok (.iadd, 1) := dk_96 (dk_at dksX2_aground_1 16 rfl rfl)
theorem dX2_aground_39 : decode cX2_aground 39 = .ok (.istore_n 1, 1) := dk_60 (dk_at dksX2_aground_1 17 rfl rfl)
theorem dX2_aground_40 : decode cX2_aground 40 = .ok (.iinc 2 1, 3) := dk_132 2 1 (dk_at dksX2_aground_1 18 rfl rfl)
theorem dX2_aground_43 : decode cX2_aground 43 = .ok (.goto (-39), 3) := dk_167 255 217 (dk_at dksX2_aground_1 21 rfl rfl)
theorem dX2_aground_46 : decode cX2_aground 46 = .ok (.iload_n 1, 1) := dk_27 (dk_at dksX2_aground_2 0 rfl rfl)
theorem dX2_aground_47 : decode cX2_aground 47 = .ok (.ireturn, 1) := dk_172 (dk_at dksX2_aground_2 1 rfl rfl)
abbrev cX2_count : ByteArray := prog_7_method_70_code
def yX2_count : MethodName := ⟨RX2, "count", "(I)I"⟩
def dkwX2_count_6 : List UInt8 := [16, 254, 172]
abbrev dktX2_count_6 : List UInt8 := dkwX2_count_6 ++ []
def dkwX2_count_5 : List UInt8 := [180, 0, 7, 17, 0, 154, 27, 96, 16, 9, 100, 46, 172, 42, 180, 0, 43, 172, 42, 180, 0, 150, 172]
abbrev dktX2_count_5 : List UInt8 := dkwX2_count_5 ++ dktX2_count_6
def dkwX2_count_4 : List UInt8 := [17, 0, 152, 46, 172, 42, 180, 0, 7, 17, 0, 153, 46, 172, 42, 16, 6, 182, 0, 219, 172, 42]
abbrev dktX2_count_4 : List UInt8 := dkwX2_count_4 ++ dktX2_count_5
def dkwX2_count_3 : List UInt8 := [182, 0, 222, 172, 42, 16, 11, 182, 0, 219, 172, 42, 16, 16, 182, 0, 219, 172, 42, 180, 0, 7]
abbrev dktX2_count_3 : List UInt8 := dkwX2_count_3 ++ dktX2_count_4
def dkwX2_count_2 : List UInt8 := [42, 180, 0, 7, 17, 0, 149, 46, 172, 42, 180, 0, 7, 17, 0, 150, 46, 172, 42, 182, 0, 108, 172, 42]
abbrev dktX2_count_2 : List UInt8 := dkwX2_count_2 ++ dktX2_count_3
def dkwX2_count_1 : List UInt8 := [170, 0, 0, 0, 0, 0, 162, 0, 0, 0, 0, 0, 0, 0, 13, 0, 0, 0, 71, 0, 0, 0, 80, 0, 0, 0, 89, 0, 0, 0, 94, 0, 0, 0, 99, 0, 0, 0, 106, 0, 0, 0, 113, 0, 0, 0, 122, 0, 0, 0, 131, 0, 0, 0, 138, 0, 0, 0, 138, 0, 0, 0, 138, 0, 0, 0, 152, 0, 0, 0, 157]
abbrev dktX2_count_1 : List UInt8 := dkwX2_count_1 ++ dktX2_count_2
def dkwX2_count_0 : List UInt8 := [27]
abbrev dktX2_count_0 : List UInt8 := dkwX2_count_0 ++ dktX2_count_1
theorem dksX2_count_0 : cX2_count.data.toList.drop 0 = dktX2_count_0 := by decide +kernel
theorem dksX2_count_1 : cX2_count.data.toList.drop 1 = dktX2_count_1 := dk_seg dksX2_count_0 1 rfl rfl
theorem dksX2_count_2 : cX2_count.data.toList.drop 72 = dktX2_count_2 := dk_seg dksX2_count_1 71 rfl rfl
theorem dksX2_count_3 : cX2_count.data.toList.drop 96 = dktX2_count_3 := dk_seg dksX2_count_2 24 rfl rfl
theorem dksX2_count_4 : cX2_count.data.toList.drop 118 = dktX2_count_4 := dk_seg dksX2_count_3 22 rfl rfl
theorem dksX2_count_5 : cX2_count.data.toList.drop 140 = dktX2_count_5 := dk_seg dksX2_count_4 22 rfl rfl
theorem dksX2_count_6 : cX2_count.data.toList.drop 163 = dktX2_count_6 := dk_seg dksX2_count_5 23 rfl rfl
theorem dX2_count_0 : decode cX2_count 0 = .ok (.iload_n 1, 1) := dk_27 (dk_at dksX2_count_0 0 rfl rfl)
theorem dX2_count_1 : decode cX2_count 1 = .ok (.tableswitch 162 0 13 #[71, 80, 89, 94, 99, 106, 113, 122, 131, 138, 138, 138, 152, 157], 71) := by decide +kernel
theorem dX2_count_72 : decode cX2_count 72 = .ok (.aload_n 0, 1) := dk_42 (dk_at dksX2_count_2 0 rfl rfl)
theorem dX2_count_73 : decode cX2_count 73 = .ok (.getfield 7, 3) := dk_180 0 7 (dk_at dksX2_count_2 1 rfl rfl)
theorem dX2_count_76 : decode cX2_count 76 = .ok (.sipush 149, 3) := dk_17 0 149 (dk_at dksX2_count_2 4 rfl rfl)
theorem dX2_count_79 : decode cX2_count 79 = .ok (.iaload, 1) := dk_46 (dk_at dksX2_count_2 7 rfl rfl)
theorem dX2_count_80 : decode cX2_count 80 = .ok (.ireturn, 1) := dk_172 (dk_at dksX2_count_2 8 rfl rfl)
theorem dX2_count_81 : decode cX2_count 81 = .ok (.aload_n 0, 1) := dk_42 (dk_at dksX2_count_2 9 rfl rfl)
theorem dX2_count_82 : decode cX2_count 82 = .ok (.getfield 7, 3) := dk_180 0 7 (dk_at dksX2_count_2 10 rfl rfl)
theorem dX2_count_85 : decode cX2_count 85 = .ok (.sipush 150, 3) := dk_17 0 150 (dk_at dksX2_count_2 13 rfl rfl)
theorem dX2_count_88 : decode cX2_count 88 = .ok (.iaload, 1) := dk_46 (dk_at dksX2_count_2 16 rfl rfl)
theorem dX2_count_89 : decode cX2_count 89 = .ok (.ireturn, 1) := dk_172 (dk_at dksX2_count_2 17 rfl rfl)
theorem dX2_count_90 : decode cX2_count 90 = .ok (.aload_n 0, 1) := dk_42 (dk_at dksX2_count_2 18 rfl rfl)
theorem dX2_count_91 : decode cX2_count 91 = .ok (.invokevirtual 108, 3) := dk_182 0 108 (dk_at dksX2_count_2 19 rfl rfl)
theorem dX2_count_94 : decode cX2_count 94 = .ok (.ireturn, 1) := dk_172 (dk_at dksX2_count_2 22 rfl rfl)
theorem dX2_count_95 : decode cX2_count 95 = .ok (.aload_n 0, 1) := dk_42 (dk_at dksX2_count_2 23 rfl rfl)
theorem dX2_count_96 : decode cX2_count 96 = .ok (.invokevirtual 222, 3) := dk_182 0 222 (dk_at dksX2_count_3 0 rfl rfl)
theorem dX2_count_99 : decode cX2_count 99 = .ok (.ireturn, 1) := dk_172 (dk_at dksX2_count_3 3 rfl rfl)
theorem dX2_count_100 : decode cX2_count 100 = .ok (.aload_n 0, 1) := dk_42 (dk_at dksX2_count_3 4 rfl rfl)
theorem dX2_count_101 : decode cX2_count 101 = .ok (.bipush 11, 2) := dk_16 11 (dk_at dksX2_count_3 5 rfl rfl)
theorem dX2_count_103 : decode cX2_count 103 = .ok (.invokevirtual 219, 3) := dk_182 0 219 (dk_at dksX2_count_3 7 rfl rfl)
theorem dX2_count_106 : decode cX2_count 106 = .ok (.ireturn, 1) := dk_172 (dk_at dksX2_count_3 10 rfl rfl)
theorem dX2_count_107 : decode cX2_count 107 = .ok (.aload_n 0, 1) := dk_42 (dk_at dksX2_count_3 11 rfl rfl)
theorem dX2_count_108 : decode cX2_count 108 = .ok (.bipush 16, 2) := dk_16 16 (dk_at dksX2_count_3 12 rfl rfl)
theorem dX2_count_110 : decode cX2_count 110 = .ok (.invokevirtual 219, 3) := dk_182 0 219 (dk_at dksX2_count_3 14 rfl rfl)
theorem dX2_count_113 : decode cX2_count 113 = .ok (.ireturn, 1) := dk_172 (dk_at dksX2_count_3 17 rfl rfl)
theorem dX2_count_114 : decode cX2_count 114 = .ok (.aload_n 0, 1) := dk_42 (dk_at dksX2_count_3 18 rfl rfl)
theorem dX2_count_115 : decode cX2_count 115 = .ok (.getfield 7, 3) := dk_180 0 7 (dk_at dksX2_count_3 19 rfl rfl)
theorem dX2_count_118 : decode cX2_count 118 = .ok (.sipush 152, 3) := dk_17 0 152 (dk_at dksX2_count_4 0 rfl rfl)
theorem dX2_count_121 : decode cX2_count 121 = .ok (.iaload, 1) := dk_46 (dk_at dksX2_count_4 3 rfl rfl)
theorem dX2_count_122 : decode cX2_count 122 = .ok (.ireturn, 1) := dk_172 (dk_at dksX2_count_4 4 rfl rfl)
theorem dX2_count_123 : decode cX2_count 123 = .ok (.aload_n 0, 1) := dk_42 (dk_at dksX2_count_4 5 rfl rfl)
theorem dX2_count_124 : decode cX2_count 124 = .ok (.getfield 7, 3) := dk_180 0 7 (dk_at dksX2_count_4 6 rfl rfl)
theorem dX2_count_127 : decode cX2_count 127 = .ok (.sipush 153, 3) := dk_17 0 153 (dk_at dksX2_count_4 9 rfl rfl)
theorem dX2_count_130 : decode cX2_count 130 = .ok (.iaload, 1) := dk_46 (dk_at dksX2_count_4 12 rfl rfl)
theorem dX2_count_131 : decode cX2_count 131 = .ok (.ireturn, 1) := dk_172 (dk_at dksX2_count_4 13 rfl rfl)
theorem dX2_count_132 : decode cX2_count 132 = .ok (.aload_n 0, 1) := dk_42 (dk_at dksX2_count_4 14 rfl rfl)
theorem dX2_count_133 : decode cX2_count 133 = .ok (.bipush 6, 2) := dk_16 6 (dk_at dksX2_count_4 15 rfl rfl)
theorem dX2_count_135 : decode cX2_count 135 = .ok (.invokevirtual 219, 3) := dk_182 0 219 (dk_at dksX2_count_4 17 rfl rfl)
theorem dX2_count_138 : decode cX2_count 138 = .ok (.ireturn, 1) := dk_172 (dk_at dksX2_count_4 20 rfl rfl)
theorem dX2_count_139 : decode cX2_count 139 = .ok (.aload_n 0, 1) := dk_42 (dk_at dksX2_count_4 21 rfl rfl)
theorem dX2_count_140 : decode cX2_count 140 = .ok (.getfield 7, 3) := dk_180 0 7 (dk_at dksX2_count_5 0 rfl rfl)
theorem dX2_count_143 : decode cX2_count 143 = .ok (.sipush 154, 3) := dk_17 0 154 (dk_at dksX2_count_5 3 rfl rfl)
theorem dX2_count_146 : decode cX2_count 146 = .ok (.iload_n 1, 1) := dk_27 (dk_at dksX2_count_5 6 rfl rfl)
theorem dX2_count_147 : decode cX2_count 147 = .ok (.iadd, 1) := dk_96 (dk_at dksX2_count_5 7 rfl rfl)
theorem dX2_count_148 : decode cX2_count 148 = .ok (.bipush 9, 2) := dk_16 9 (dk_at dksX2_count_5 8 rfl rfl)
theorem dX2_count_150 : decode cX2_count 150 = .ok (.isub, 1) := dk_100 (dk_at dksX2_count_5 10 rfl rfl)
theorem dX2_count_151 : decode cX2_count 151 = .ok (.iaload, 1) := dk_46 (dk_at dksX2_count_5 11 rfl rfl)
theorem dX2_count_152 : decode cX2_count 152 = .ok (.ireturn, 1) := dk_172 (dk_at dksX2_count_5 12 rfl rfl)
theorem dX2_count_153 : decode cX2_count 153 = .ok (.aload_n 0, 1) := dk_42 (dk_at dksX2_count_5 13 rfl rfl)
theorem dX2_count_154 : decode cX2_count 154 = .ok (.getfield 43, 3) := dk_180 0 43 (dk_at dksX2_count_5 14 rfl rfl)
theorem dX2_count_157 : decode cX2_count 157 = .ok (.ireturn, 1) := dk_172 (dk_at dksX2_count_5 17 rfl rfl)
theorem dX2_count_158 : decode cX2_count 158 = .ok (.aload_n 0, 1) := dk_42 (dk_at dksX2_count_5 18 rfl rfl)
theorem dX2_count_159 : decode cX2_count 159 = .ok (.getfield 150, 3) := dk_180 0 150 (dk_at dksX2_count_5 19 rfl rfl)
theorem dX2_count_162 : decode cX2_count 162 = .ok (.ireturn, 1) := dk_172 (dk_at dksX2_count_5 22 rfl rfl)
theorem dX2_count_163 : decode cX2_count 163 = .ok (.bipush (-2), 2) := dk_16 254 (dk_at dksX2_count_6 0 rfl rfl)
theorem dX2_count_165 : decode cX2_count 165 = .ok (.ireturn, 1) := dk_172 (dk_at dksX2_count_6 2 rfl rfl)
theorem q79 : (Jvm.Cond.initialized "CanalStepsModel") ∈ lw_all := lw_g (lw_at lw_m1 14 rfl) rfl
theorem q167 : (Jvm.Cond.selects "CanalStepsModel" ({ cls := "java/lang/Object", name := "getClass", desc := "()Ljava/lang/Class;" } : Jvm.MethodName) ({ cls := "java/lang/Object", name := "getClass", desc := "()Ljava/lang/Class;" } : Jvm.MethodName)) ∈ lw_all := lw_g (lw_at lw_m1 102 rfl) rfl
theorem q802 : (Jvm.Cond.selects "CanalStepsModel" ({ cls := "java/lang/Object", name := "equals", desc := "(Ljava/lang/Object;)Z" } : Jvm.MethodName) ({ cls := "java/lang/Object", name := "equals", desc := "(Ljava/lang/Object;)Z" } : Jvm.MethodName)) ∈ lw_all := lw_g (lw_at lw_m4 17 rfl) rfl
theorem q886 : (Jvm.Cond.instantiable "CanalStepsModel" (20 : Nat)) ∈ lw_all := lw_g (lw_at lw_m4 101 rfl) rfl
theorem q888 : (Jvm.Cond.instanceMethod ({ cls := "CanalStepsModel", name := "<init>", desc := "()V" } : Jvm.MethodName)) ∈ lw_all := lw_g (lw_at lw_m4 103 rfl) rfl
theorem q889 : (Jvm.Cond.code ({ cls := "CanalStepsModel", name := "<init>", desc := "()V" } : Jvm.MethodName) prog_7_method_1_code (2 : Nat) (Option.none : Option Jvm.ClassFile.FieldType)) ∈ lw_all := lw_g (lw_at lw_m4 104 rfl) rfl
theorem q890 : (Jvm.Cond.methodLink "CanalStepsModel" (1 : Nat) ({ cls := "java/lang/Object", name := "<init>", desc := "()V" } : Jvm.MethodName)) ∈ lw_all := lw_g (lw_at lw_m4 105 rfl) rfl
theorem q891 : (Jvm.Cond.fieldLink "CanalStepsModel" (7 : Nat) "CanalStepsModel" "s" "[I") ∈ lw_all := lw_g (lw_at lw_m4 106 rfl) rfl
theorem q892 : (Jvm.Cond.fieldLink "CanalStepsModel" (13 : Nat) "CanalStepsModel" "aside" "[I") ∈ lw_all := lw_g (lw_at lw_m4 107 rfl) rfl
theorem q893 : (Jvm.Cond.fieldLink "CanalStepsModel" (16 : Nat) "CanalStepsModel" "history" "[I") ∈ lw_all := lw_g (lw_at lw_m4 108 rfl) rfl
theorem q894 : (Jvm.Cond.fieldLink "CanalStepsModel" (43 : Nat) "CanalStepsModel" "known" "I") ∈ lw_all := lw_g (lw_at lw_m4 109 rfl) rfl
theorem q895 : (Jvm.Cond.fieldLink "CanalStepsModel" (19 : Nat) "CanalStepsModel" "snapshot" "[I") ∈ lw_all := lw_g (lw_at lw_m4 110 rfl) rfl
theorem q896 : (Jvm.Cond.fieldLink "CanalStepsModel" (210 : Nat) "CanalStepsModel" "isKept" "Z") ∈ lw_all := lw_g (lw_at lw_m4 111 rfl) rfl
theorem q897 : (Jvm.Cond.fieldLink "CanalStepsModel" (22 : Nat) "CanalStepsModel" "text" "[I") ∈ lw_all := lw_g (lw_at lw_m4 112 rfl) rfl
theorem q898 : (Jvm.Cond.fieldLink "CanalStepsModel" (150 : Nat) "CanalStepsModel" "length" "I") ∈ lw_all := lw_g (lw_at lw_m4 113 rfl) rfl
theorem q899 : (Jvm.Cond.fieldLink "CanalStepsModel" (25 : Nat) "CanalStepsModel" "stop" "I") ∈ lw_all := lw_g (lw_at lw_m4 114 rfl) rfl
theorem q900 : (Jvm.Cond.fieldLink "CanalStepsModel" (29 : Nat) "CanalStepsModel" "stopError" "I") ∈ lw_all := lw_g (lw_at lw_m4 115 rfl) rfl
theorem q901 : (Jvm.Cond.fieldLink "CanalStepsModel" (32 : Nat) "CanalStepsModel" "asked" "I") ∈ lw_all := lw_g (lw_at lw_m4 116 rfl) rfl
theorem q902 : (Jvm.Cond.fieldLink "CanalStepsModel" (83 : Nat) "CanalStepsModel" "told" "I") ∈ lw_all := lw_g (lw_at lw_m4 117 rfl) rfl
theorem q903 : (Jvm.Cond.fieldLink "CanalStepsModel" (157 : Nat) "CanalStepsModel" "spot" "I") ∈ lw_all := lw_g (lw_at lw_m4 118 rfl) rfl
theorem q904 : (Jvm.Cond.fieldLink "CanalStepsModel" (153 : Nat) "CanalStepsModel" "isWrong" "Z") ∈ lw_all := lw_g (lw_at lw_m4 119 rfl) rfl
theorem q905 : (Jvm.Cond.fieldLink "CanalStepsModel" (179 : Nat) "CanalStepsModel" "letter" "I") ∈ lw_all := lw_g (lw_at lw_m4 120 rfl) rfl
theorem q906 : (Jvm.Cond.fieldLink "CanalStepsModel" (182 : Nat) "CanalStepsModel" "first" "I") ∈ lw_all := lw_g (lw_at lw_m4 121 rfl) rfl
theorem q907 : (Jvm.Cond.fieldLink "CanalStepsModel" (167 : Nat) "CanalStepsModel" "second" "I") ∈ lw_all := lw_g (lw_at lw_m4 122 rfl) rfl
theorem q908 : (Jvm.Cond.fieldLink "CanalStepsModel" (170 : Nat) "CanalStepsModel" "third" "I") ∈ lw_all := lw_g (lw_at lw_m4 123 rfl) rfl
theorem q909 : (Jvm.Cond.fieldLink "CanalStepsModel" (176 : Nat) "CanalStepsModel" "fourth" "I") ∈ lw_all := lw_g (lw_at lw_m4 124 rfl) rfl
theorem q910 : (Jvm.Cond.fieldLink "CanalStepsModel" (188 : Nat) "CanalStepsModel" "stoppedBy" "I") ∈ lw_all := lw_g (lw_at lw_m4 125 rfl) rfl
theorem q911 : (Jvm.Cond.laysFinal "CanalStepsModel" "CanalStepsModel" "s" "[I") ∈ lw_all := lw_g (lw_at lw_m4 126 rfl) rfl
theorem q912 : (Jvm.Cond.soleField "CanalStepsModel" "s") ∈ lw_all := lw_g (lw_at lw_m4 127 rfl) rfl
theorem q913 : (Jvm.Cond.laysFinal "CanalStepsModel" "CanalStepsModel" "aside" "[I") ∈ lw_all := lw_g (lw_at lw_m4 128 rfl) rfl
theorem q914 : (Jvm.Cond.soleField "CanalStepsModel" "aside") ∈ lw_all := lw_g (lw_at lw_m4 129 rfl) rfl
theorem q915 : (Jvm.Cond.laysFinal "CanalStepsModel" "CanalStepsModel" "history" "[I") ∈ lw_all := lw_g (lw_at lw_m4 130 rfl) rfl
theorem q916 : (Jvm.Cond.soleField "CanalStepsModel" "history") ∈ lw_all := lw_g (lw_at lw_m4 131 rfl) rfl
theorem q917 : (Jvm.Cond.lays "CanalStepsModel" "CanalStepsModel" "known" "I") ∈ lw_all := lw_g (lw_at lw_m4 132 rfl) rfl
theorem q918 : (Jvm.Cond.soleField "CanalStepsModel" "known") ∈ lw_all := lw_g (lw_at lw_m4 133 rfl) rfl
theorem q919 : (Jvm.Cond.laysFinal "CanalStepsModel" "CanalStepsModel" "snapshot" "[I") ∈ lw_all := lw_g (lw_at lw_m4 134 rfl) rfl
theorem q920 : (Jvm.Cond.soleField "CanalStepsModel" "snapshot") ∈ lw_all := lw_g (lw_at lw_m4 135 rfl) rfl
theorem q921 : (Jvm.Cond.lays "CanalStepsModel" "CanalStepsModel" "isKept" "Z") ∈ lw_all := lw_g (lw_at lw_m4 136 rfl) rfl
theorem q922 : (Jvm.Cond.soleField "CanalStepsModel" "isKept") ∈ lw_all := lw_g (lw_at lw_m4 137 rfl) rfl
theorem q923 : (Jvm.Cond.laysFinal "CanalStepsModel" "CanalStepsModel" "text" "[I") ∈ lw_all := lw_g (lw_at lw_m4 138 rfl) rfl
theorem q924 : (Jvm.Cond.soleField "CanalStepsModel" "text") ∈ lw_all := lw_g (lw_at lw_m4 139 rfl) rfl
theorem q925 : (Jvm.Cond.lays "CanalStepsModel" "CanalStepsModel" "length" "I") ∈ lw_all := lw_g (lw_at lw_m4 140 rfl) rfl
theorem q926 : (Jvm.Cond.soleField "CanalStepsModel" "length") ∈ lw_all := lw_g (lw_at lw_m4 141 rfl) rfl
theorem q927 : (Jvm.Cond.lays "CanalStepsModel" "CanalStepsModel" "stop" "I") ∈ lw_all := lw_g (lw_at lw_m4 142 rfl) rfl
theorem q928 : (Jvm.Cond.soleField "CanalStepsModel" "stop") ∈ lw_all := lw_g (lw_at lw_m4 143 rfl) rfl
theorem q929 : (Jvm.Cond.lays "CanalStepsModel" "CanalStepsModel" "stopError" "I") ∈ lw_all := lw_g (lw_at lw_m4 144 rfl) rfl
theorem q930 : (Jvm.Cond.soleField "CanalStepsModel" "stopError") ∈ lw_all := lw_g (lw_at lw_m4 145 rfl) rfl
theorem q931 : (Jvm.Cond.lays "CanalStepsModel" "CanalStepsModel" "asked" "I") ∈ lw_all := lw_g (lw_at lw_m4 146 rfl) rfl
theorem q932 : (Jvm.Cond.soleField "CanalStepsModel" "asked") ∈ lw_all := lw_g (lw_at lw_m4 147 rfl) rfl
theorem q933 : (Jvm.Cond.lays "CanalStepsModel" "CanalStepsModel" "told" "I") ∈ lw_all := lw_g (lw_at lw_m4 148 rfl) rfl
theorem q934 : (Jvm.Cond.soleField "CanalStepsModel" "told") ∈ lw_all := lw_g (lw_at lw_m4 149 rfl) rfl
theorem q935 : (Jvm.Cond.lays "CanalStepsModel" "CanalStepsModel" "spot" "I") ∈ lw_all := lw_g (lw_at lw_m4 150 rfl) rfl
theorem q936 : (Jvm.Cond.soleField "CanalStepsModel" "spot") ∈ lw_all := lw_g (lw_at lw_m4 151 rfl) rfl
theorem q937 : (Jvm.Cond.lays "CanalStepsModel" "CanalStepsModel" "isWrong" "Z") ∈ lw_all := lw_g (lw_at lw_m4 152 rfl) rfl
theorem q938 : (Jvm.Cond.soleField "CanalStepsModel" "isWrong") ∈ lw_all := lw_g (lw_at lw_m4 153 rfl) rfl
theorem q939 : (Jvm.Cond.lays "CanalStepsModel" "CanalStepsModel" "letter" "I") ∈ lw_all := lw_g (lw_at lw_m4 154 rfl) rfl
theorem q940 : (Jvm.Cond.soleField "CanalStepsModel" "letter") ∈ lw_all := lw_g (lw_at lw_m4 155 rfl) rfl
theorem q941 : (Jvm.Cond.lays "CanalStepsModel" "CanalStepsModel" "first" "I") ∈ lw_all := lw_g (lw_at lw_m4 156 rfl) rfl
theorem q942 : (Jvm.Cond.soleField "CanalStepsModel" "first") ∈ lw_all := lw_g (lw_at lw_m4 157 rfl) rfl
theorem q943 : (Jvm.Cond.lays "CanalStepsModel" "CanalStepsModel" "second" "I") ∈ lw_all := lw_g (lw_at lw_m4 158 rfl) rfl
theorem q944 : (Jvm.Cond.soleField "CanalStepsModel" "second") ∈ lw_all := lw_g (lw_at lw_m4 159 rfl) rfl
theorem q945 : (Jvm.Cond.lays "CanalStepsModel" "CanalStepsModel" "third" "I") ∈ lw_all := lw_g (lw_at lw_m4 160 rfl) rfl
theorem q946 : (Jvm.Cond.soleField "CanalStepsModel" "third") ∈ lw_all := lw_g (lw_at lw_m4 161 rfl) rfl
theorem q947 : (Jvm.Cond.lays "CanalStepsModel" "CanalStepsModel" "fourth" "I") ∈ lw_all := lw_g (lw_at lw_m4 162 rfl) rfl
theorem q948 : (Jvm.Cond.soleField "CanalStepsModel" "fourth") ∈ lw_all := lw_g (lw_at lw_m4 163 rfl) rfl
theorem q949 : (Jvm.Cond.lays "CanalStepsModel" "CanalStepsModel" "stoppedBy" "I") ∈ lw_all := lw_g (lw_at lw_m4 164 rfl) rfl
theorem q950 : (Jvm.Cond.soleField "CanalStepsModel" "stoppedBy") ∈ lw_all := lw_g (lw_at lw_m4 165 rfl) rfl
theorem q951 : (Jvm.Cond.superclass "CanalStepsModel" "java/lang/Object") ∈ lw_all := lw_g (lw_at lw_m4 166 rfl) rfl
theorem q953 : (Jvm.Cond.instanceMethod ({ cls := "CanalStepsModel", name := "boat", desc := "(IIII)I" } : Jvm.MethodName)) ∈ lw_all := lw_g (lw_at lw_m4 168 rfl) rfl
theorem q954 : (Jvm.Cond.selects "CanalStepsModel" ({ cls := "CanalStepsModel", name := "boat", desc := "(IIII)I" } : Jvm.MethodName) ({ cls := "CanalStepsModel", name := "boat", desc := "(IIII)I" } : Jvm.MethodName)) ∈ lw_all := lw_g (lw_at lw_m4 169 rfl) rfl
theorem q955 : (Jvm.Cond.code ({ cls := "CanalStepsModel", name := "boat", desc := "(IIII)I" } : Jvm.MethodName) prog_7_method_33_code (6 : Nat) (Option.some Jvm.ClassFile.FieldType.int)) ∈ lw_all := lw_g (lw_at lw_m4 170 rfl) rfl
theorem q956 : (Jvm.Cond.methodLink "CanalStepsModel" (118 : Nat) ({ cls := "CanalStepsModel", name := "errorOfBoat", desc := "(IIII)I" } : Jvm.MethodName)) ∈ lw_all := lw_g (lw_at lw_m4 171 rfl) rfl
theorem q957 : (Jvm.Cond.privateMethod ({ cls := "CanalStepsModel", name := "errorOfBoat", desc := "(IIII)I" } : Jvm.MethodName)) ∈ lw_tbl := lw_at lw_m4 172 rfl
theorem q958 : (Jvm.Cond.instanceMethod ({ cls := "CanalStepsModel", name := "errorOfBoat", desc := "(IIII)I" } : Jvm.MethodName)) ∈ lw_all := lw_g (lw_at lw_m4 173 rfl) rfl
theorem q959 : (Jvm.Cond.code ({ cls := "CanalStepsModel", name := "errorOfBoat", desc := "(IIII)I" } : Jvm.MethodName) prog_7_method_31_code (5 : Nat) (Option.some Jvm.ClassFile.FieldType.int)) ∈ lw_all := lw_g (lw_at lw_m4 174 rfl) rfl
theorem q960 : (Jvm.Cond.methodLink "CanalStepsModel" (115 : Nat) ({ cls := "CanalStepsModel", name := "isPound", desc := "(I)Z" } : Jvm.MethodName)) ∈ lw_all := lw_g (lw_at lw_m4 175 rfl) rfl
theorem q961 : (Jvm.Cond.static ({ cls := "CanalStepsModel", name := "isPound", desc := "(I)Z" } : Jvm.MethodName)) ∈ lw_all := lw_g (lw_at lw_m4 176 rfl) rfl
theorem q962 : (Jvm.Cond.code ({ cls := "CanalStepsModel", name := "isPound", desc := "(I)Z" } : Jvm.MethodName) prog_7_method_3_code (1 : Nat) (Option.some Jvm.ClassFile.FieldType.boolean)) ∈ lw_all := lw_g (lw_at lw_m4 177 rfl) rfl
theorem q963 : (Jvm.Cond.methodLink "CanalStepsModel" (35 : Nat) ({ cls := "CanalStepsModel", name := "in", desc := "(III)Z" } : Jvm.MethodName)) ∈ lw_all := lw_g (lw_at lw_m4 178 rfl) rfl
theorem q964 : (Jvm.Cond.static ({ cls := "CanalStepsModel", name := "in", desc := "(III)Z" } : Jvm.MethodName)) ∈ lw_all := lw_g (lw_at lw_m4 179 rfl) rfl
theorem q965 : (Jvm.Cond.code ({ cls := "CanalStepsModel", name := "in", desc := "(III)Z" } : Jvm.MethodName) prog_7_method_2_code (3 : Nat) (Option.some Jvm.ClassFile.FieldType.boolean)) ∈ lw_all := lw_g (lw_at lw_m4 180 rfl) rfl
theorem q966 : (Jvm.Cond.methodLink "CanalStepsModel" (122 : Nat) ({ cls := "CanalStepsModel", name := "record", desc := "()V" } : Jvm.MethodName)) ∈ lw_all := lw_g (lw_at lw_m4 181 rfl) rfl
theorem q967 : (Jvm.Cond.privateMethod ({ cls := "CanalStepsModel", name := "record", desc := "()V" } : Jvm.MethodName)) ∈ lw_tbl := lw_at lw_m4 182 rfl
theorem q968 : (Jvm.Cond.instanceMethod ({ cls := "CanalStepsModel", name := "record", desc := "()V" } : Jvm.MethodName)) ∈ lw_all := lw_g (lw_at lw_m4 183 rfl) rfl
theorem q969 : (Jvm.Cond.code ({ cls := "CanalStepsModel", name := "record", desc := "()V" } : Jvm.MethodName) prog_7_method_8_code (2 : Nat) (Option.none : Option Jvm.ClassFile.FieldType)) ∈ lw_all := lw_g (lw_at lw_m4 184 rfl) rfl
theorem q970 : (Jvm.Cond.methodLink "CanalStepsModel" (125 : Nat) ({ cls := "CanalStepsModel", name := "comes", desc := "(IIII)I" } : Jvm.MethodName)) ∈ lw_all := lw_g (lw_at lw_m4 185 rfl) rfl
theorem q971 : (Jvm.Cond.privateMethod ({ cls := "CanalStepsModel", name := "comes", desc := "(IIII)I" } : Jvm.MethodName)) ∈ lw_tbl := lw_at lw_m4 186 rfl
theorem q972 : (Jvm.Cond.instanceMethod ({ cls := "CanalStepsModel", name := "comes", desc := "(IIII)I" } : Jvm.MethodName)) ∈ lw_all := lw_g (lw_at lw_m4 187 rfl) rfl
theorem q973 : (Jvm.Cond.code ({ cls := "CanalStepsModel", name := "comes", desc := "(IIII)I" } : Jvm.MethodName) prog_7_method_32_code (6 : Nat) (Option.some Jvm.ClassFile.FieldType.int)) ∈ lw_all := lw_g (lw_at lw_m4 188 rfl) rfl
theorem q974 : (Jvm.Cond.methodLink "CanalStepsModel" (39 : Nat) ({ cls := "CanalStepsModel", name := "of", desc := "(II)I" } : Jvm.MethodName)) ∈ lw_all := lw_g (lw_at lw_m4 189 rfl) rfl
theorem q975 : (Jvm.Cond.static ({ cls := "CanalStepsModel", name := "of", desc := "(II)I" } : Jvm.MethodName)) ∈ lw_all := lw_g (lw_at lw_m4 190 rfl) rfl
theorem q976 : (Jvm.Cond.code ({ cls := "CanalStepsModel", name := "of", desc := "(II)I" } : Jvm.MethodName) prog_7_method_6_code (2 : Nat) (Option.some Jvm.ClassFile.FieldType.int)) ∈ lw_all := lw_g (lw_at lw_m4 191 rfl) rfl
theorem q977 : (Jvm.Cond.methodLink "CanalStepsModel" (70 : Nat) ({ cls := "CanalStepsModel", name := "joins", desc := "(I)V" } : Jvm.MethodName)) ∈ lw_all := lw_g (lw_at lw_m4 192 rfl) rfl
theorem q978 : (Jvm.Cond.privateMethod ({ cls := "CanalStepsModel", name := "joins", desc := "(I)V" } : Jvm.MethodName)) ∈ lw_tbl := lw_at lw_m4 193 rfl
theorem q979 : (Jvm.Cond.instanceMethod ({ cls := "CanalStepsModel", name := "joins", desc := "(I)V" } : Jvm.MethodName)) ∈ lw_all := lw_g (lw_at lw_m4 194 rfl) rfl
theorem q980 : (Jvm.Cond.code ({ cls := "CanalStepsModel", name := "joins", desc := "(I)V" } : Jvm.MethodName) prog_7_method_20_code (2 : Nat) (Option.none : Option Jvm.ClassFile.FieldType)) ∈ lw_all := lw_g (lw_at lw_m4 195 rfl) rfl
theorem q982 : (Jvm.Cond.instanceMethod ({ cls := "CanalStepsModel", name := "load", desc := "(II)I" } : Jvm.MethodName)) ∈ lw_all := lw_g (lw_at lw_m4 197 rfl) rfl
theorem q983 : (Jvm.Cond.selects "CanalStepsModel" ({ cls := "CanalStepsModel", name := "load", desc := "(II)I" } : Jvm.MethodName) ({ cls := "CanalStepsModel", name := "load", desc := "(II)I" } : Jvm.MethodName)) ∈ lw_all := lw_g (lw_at lw_m4 198 rfl) rfl
theorem q984 : (Jvm.Cond.code ({ cls := "CanalStepsModel", name := "load", desc := "(II)I" } : Jvm.MethodName) prog_7_method_34_code (4 : Nat) (Option.some Jvm.ClassFile.FieldType.int)) ∈ lw_all := lw_g (lw_at lw_m4 199 rfl) rfl
theorem q985 : (Jvm.Cond.methodLink "CanalStepsModel" (128 : Nat) ({ cls := "CanalStepsModel", name := "isBoat", desc := "(I)Z" } : Jvm.MethodName)) ∈ lw_all := lw_g (lw_at lw_m4 200 rfl) rfl
theorem q986 : (Jvm.Cond.privateMethod ({ cls := "CanalStepsModel", name := "isBoat", desc := "(I)Z" } : Jvm.MethodName)) ∈ lw_tbl := lw_at lw_m4 201 rfl
theorem q987 : (Jvm.Cond.instanceMethod ({ cls := "CanalStepsModel", name := "isBoat", desc := "(I)Z" } : Jvm.MethodName)) ∈ lw_all := lw_g (lw_at lw_m4 202 rfl) rfl
theorem q988 : (Jvm.Cond.code ({ cls := "CanalStepsModel", name := "isBoat", desc := "(I)Z" } : Jvm.MethodName) prog_7_method_5_code (2 : Nat) (Option.some Jvm.ClassFile.FieldType.boolean)) ∈ lw_all := lw_g (lw_at lw_m4 203 rfl) rfl
theorem q989 : (Jvm.Cond.methodLink "CanalStepsModel" (57 : Nat) ({ cls := "CanalStepsModel", name := "hasArrived", desc := "(I)Z" } : Jvm.MethodName)) ∈ lw_all := lw_g (lw_at lw_m4 204 rfl) rfl
theorem q990 : (Jvm.Cond.privateMethod ({ cls := "CanalStepsModel", name := "hasArrived", desc := "(I)Z" } : Jvm.MethodName)) ∈ lw_tbl := lw_at lw_m4 205 rfl
theorem q991 : (Jvm.Cond.instanceMethod ({ cls := "CanalStepsModel", name := "hasArrived", desc := "(I)Z" } : Jvm.MethodName)) ∈ lw_all := lw_g (lw_at lw_m4 206 rfl) rfl
theorem q992 : (Jvm.Cond.code ({ cls := "CanalStepsModel", name := "hasArrived", desc := "(I)Z" } : Jvm.MethodName) prog_7_method_11_code (2 : Nat) (Option.some Jvm.ClassFile.FieldType.boolean)) ∈ lw_all := lw_g (lw_at lw_m4 207 rfl) rfl
theorem q993 : (Jvm.Cond.methodLink "CanalStepsModel" (46 : Nat) ({ cls := "CanalStepsModel", name := "get", desc := "(II)I" } : Jvm.MethodName)) ∈ lw_all := lw_g (lw_at lw_m4 208 rfl) rfl
theorem q994 : (Jvm.Cond.privateMethod ({ cls := "CanalStepsModel", name := "get", desc := "(II)I" } : Jvm.MethodName)) ∈ lw_tbl := lw_at lw_m4 209 rfl
theorem q995 : (Jvm.Cond.instanceMethod ({ cls := "CanalStepsModel", name := "get", desc := "(II)I" } : Jvm.MethodName)) ∈ lw_all := lw_g (lw_at lw_m4 210 rfl) rfl
theorem q996 : (Jvm.Cond.code ({ cls := "CanalStepsModel", name := "get", desc := "(II)I" } : Jvm.MethodName) prog_7_method_7_code (3 : Nat) (Option.some Jvm.ClassFile.FieldType.int)) ∈ lw_all := lw_g (lw_at lw_m4 211 rfl) rfl
theorem q998 : (Jvm.Cond.instanceMethod ({ cls := "CanalStepsModel", name := "turnLock", desc := "(I)I" } : Jvm.MethodName)) ∈ lw_all := lw_g (lw_at lw_m4 213 rfl) rfl
theorem q999 : (Jvm.Cond.selects "CanalStepsModel" ({ cls := "CanalStepsModel", name := "turnLock", desc := "(I)I" } : Jvm.MethodName) ({ cls := "CanalStepsModel", name := "turnLock", desc := "(I)I" } : Jvm.MethodName)) ∈ lw_all := lw_g (lw_at lw_m4 214 rfl) rfl
theorem q1000 : (Jvm.Cond.code ({ cls := "CanalStepsModel", name := "turnLock", desc := "(I)I" } : Jvm.MethodName) prog_7_method_37_code (3 : Nat) (Option.some Jvm.ClassFile.FieldType.int)) ∈ lw_all := lw_g (lw_at lw_m4 215 rfl) rfl
theorem q1001 : (Jvm.Cond.methodLink "CanalStepsModel" (134 : Nat) ({ cls := "CanalStepsModel", name := "errorOfTurn", desc := "(I)I" } : Jvm.MethodName)) ∈ lw_all := lw_g (lw_at lw_m4 216 rfl) rfl
theorem q1002 : (Jvm.Cond.privateMethod ({ cls := "CanalStepsModel", name := "errorOfTurn", desc := "(I)I" } : Jvm.MethodName)) ∈ lw_tbl := lw_at lw_m4 217 rfl
theorem q1003 : (Jvm.Cond.instanceMethod ({ cls := "CanalStepsModel", name := "errorOfTurn", desc := "(I)I" } : Jvm.MethodName)) ∈ lw_all := lw_g (lw_at lw_m4 218 rfl) rfl
theorem q1004 : (Jvm.Cond.code ({ cls := "CanalStepsModel", name := "errorOfTurn", desc := "(I)I" } : Jvm.MethodName) prog_7_method_35_code (2 : Nat) (Option.some Jvm.ClassFile.FieldType.int)) ∈ lw_all := lw_g (lw_at lw_m4 219 rfl) rfl
theorem q1005 : (Jvm.Cond.methodLink "CanalStepsModel" (131 : Nat) ({ cls := "CanalStepsModel", name := "isLock", desc := "(I)Z" } : Jvm.MethodName)) ∈ lw_all := lw_g (lw_at lw_m4 220 rfl) rfl
theorem q1006 : (Jvm.Cond.static ({ cls := "CanalStepsModel", name := "isLock", desc := "(I)Z" } : Jvm.MethodName)) ∈ lw_all := lw_g (lw_at lw_m4 221 rfl) rfl
theorem q1007 : (Jvm.Cond.code ({ cls := "CanalStepsModel", name := "isLock", desc := "(I)Z" } : Jvm.MethodName) prog_7_method_4_code (1 : Nat) (Option.some Jvm.ClassFile.FieldType.boolean)) ∈ lw_all := lw_g (lw_at lw_m4 222 rfl) rfl
theorem q1008 : (Jvm.Cond.methodLink "CanalStepsModel" (80 : Nat) ({ cls := "CanalStepsModel", name := "canTurn", desc := "(I)Z" } : Jvm.MethodName)) ∈ lw_all := lw_g (lw_at lw_m4 223 rfl) rfl
theorem q1009 : (Jvm.Cond.privateMethod ({ cls := "CanalStepsModel", name := "canTurn", desc := "(I)Z" } : Jvm.MethodName)) ∈ lw_tbl := lw_at lw_m4 224 rfl
theorem q1010 : (Jvm.Cond.instanceMethod ({ cls := "CanalStepsModel", name := "canTurn", desc := "(I)Z" } : Jvm.MethodName)) ∈ lw_all := lw_g (lw_at lw_m4 225 rfl) rfl
theorem q1011 : (Jvm.Cond.code ({ cls := "CanalStepsModel", name := "canTurn", desc := "(I)Z" } : Jvm.MethodName) prog_7_method_22_code (2 : Nat) (Option.some Jvm.ClassFile.FieldType.boolean)) ∈ lw_all := lw_g (lw_at lw_m4 226 rfl) rfl
theorem q1012 : (Jvm.Cond.methodLink "CanalStepsModel" (67 : Nat) ({ cls := "CanalStepsModel", name := "isHigh", desc := "(I)Z" } : Jvm.MethodName)) ∈ lw_all := lw_g (lw_at lw_m4 227 rfl) rfl
theorem q1013 : (Jvm.Cond.privateMethod ({ cls := "CanalStepsModel", name := "isHigh", desc := "(I)Z" } : Jvm.MethodName)) ∈ lw_tbl := lw_at lw_m4 228 rfl
theorem q1014 : (Jvm.Cond.instanceMethod ({ cls := "CanalStepsModel", name := "isHigh", desc := "(I)Z" } : Jvm.MethodName)) ∈ lw_all := lw_g (lw_at lw_m4 229 rfl) rfl
theorem q1015 : (Jvm.Cond.code ({ cls := "CanalStepsModel", name := "isHigh", desc := "(I)Z" } : Jvm.MethodName) prog_7_method_21_code (2 : Nat) (Option.some Jvm.ClassFile.FieldType.boolean)) ∈ lw_all := lw_g (lw_at lw_m4 230 rfl) rfl
theorem q1016 : (Jvm.Cond.methodLink "CanalStepsModel" (137 : Nat) ({ cls := "CanalStepsModel", name := "turnsByHand", desc := "(I)I" } : Jvm.MethodName)) ∈ lw_all := lw_g (lw_at lw_m4 231 rfl) rfl
theorem q1017 : (Jvm.Cond.privateMethod ({ cls := "CanalStepsModel", name := "turnsByHand", desc := "(I)I" } : Jvm.MethodName)) ∈ lw_tbl := lw_at lw_m4 232 rfl
theorem q1018 : (Jvm.Cond.instanceMethod ({ cls := "CanalStepsModel", name := "turnsByHand", desc := "(I)I" } : Jvm.MethodName)) ∈ lw_all := lw_g (lw_at lw_m4 233 rfl) rfl
theorem q1019 : (Jvm.Cond.code ({ cls := "CanalStepsModel", name := "turnsByHand", desc := "(I)I" } : Jvm.MethodName) prog_7_method_36_code (2 : Nat) (Option.some Jvm.ClassFile.FieldType.int)) ∈ lw_all := lw_g (lw_at lw_m4 234 rfl) rfl
theorem q1020 : (Jvm.Cond.methodLink "CanalStepsModel" (93 : Nat) ({ cls := "CanalStepsModel", name := "turns", desc := "(I)V" } : Jvm.MethodName)) ∈ lw_all := lw_g (lw_at lw_m4 235 rfl) rfl
theorem q1021 : (Jvm.Cond.privateMethod ({ cls := "CanalStepsModel", name := "turns", desc := "(I)V" } : Jvm.MethodName)) ∈ lw_tbl := lw_at lw_m4 236 rfl
theorem q1022 : (Jvm.Cond.instanceMethod ({ cls := "CanalStepsModel", name := "turns", desc := "(I)V" } : Jvm.MethodName)) ∈ lw_all := lw_g (lw_at lw_m4 237 rfl) rfl
theorem q1023 : (Jvm.Cond.code ({ cls := "CanalStepsModel", name := "turns", desc := "(I)V" } : Jvm.MethodName) prog_7_method_23_code (3 : Nat) (Option.none : Option Jvm.ClassFile.FieldType)) ∈ lw_all := lw_g (lw_at lw_m4 238 rfl) rfl
theorem q1025 : (Jvm.Cond.instanceMethod ({ cls := "CanalStepsModel", name := "setDepth", desc := "(II)I" } : Jvm.MethodName)) ∈ lw_all := lw_g (lw_at lw_m5 0 rfl) rfl
theorem q1026 : (Jvm.Cond.selects "CanalStepsModel" ({ cls := "CanalStepsModel", name := "setDepth", desc := "(II)I" } : Jvm.MethodName) ({ cls := "CanalStepsModel", name := "setDepth", desc := "(II)I" } : Jvm.MethodName)) ∈ lw_all := lw_g (lw_at lw_m5 1 rfl) rfl
theorem q1027 : (Jvm.Cond.code ({ cls := "CanalStepsModel", name := "setDepth", desc := "(II)I" } : Jvm.MethodName) prog_7_method_39_code (3 : Nat) (Option.some Jvm.ClassFile.FieldType.int)) ∈ lw_all := lw_g (lw_at lw_m5 2 rfl) rfl
theorem q1028 : (Jvm.Cond.methodLink "CanalStepsModel" (140 : Nat) ({ cls := "CanalStepsModel", name := "becomes", desc := "(II)I" } : Jvm.MethodName)) ∈ lw_all := lw_g (lw_at lw_m5 3 rfl) rfl
theorem q1029 : (Jvm.Cond.privateMethod ({ cls := "CanalStepsModel", name := "becomes", desc := "(II)I" } : Jvm.MethodName)) ∈ lw_tbl := lw_at lw_m5 4 rfl
theorem q1030 : (Jvm.Cond.instanceMethod ({ cls := "CanalStepsModel", name := "becomes", desc := "(II)I" } : Jvm.MethodName)) ∈ lw_all := lw_g (lw_at lw_m5 5 rfl) rfl
theorem q1031 : (Jvm.Cond.code ({ cls := "CanalStepsModel", name := "becomes", desc := "(II)I" } : Jvm.MethodName) prog_7_method_38_code (4 : Nat) (Option.some Jvm.ClassFile.FieldType.int)) ∈ lw_all := lw_g (lw_at lw_m5 6 rfl) rfl
theorem q1033 : (Jvm.Cond.instanceMethod ({ cls := "CanalStepsModel", name := "set", desc := "(II)I" } : Jvm.MethodName)) ∈ lw_all := lw_g (lw_at lw_m5 8 rfl) rfl
theorem q1034 : (Jvm.Cond.selects "CanalStepsModel" ({ cls := "CanalStepsModel", name := "set", desc := "(II)I" } : Jvm.MethodName) ({ cls := "CanalStepsModel", name := "set", desc := "(II)I" } : Jvm.MethodName)) ∈ lw_all := lw_g (lw_at lw_m5 9 rfl) rfl
theorem q1035 : (Jvm.Cond.code ({ cls := "CanalStepsModel", name := "set", desc := "(II)I" } : Jvm.MethodName) prog_7_method_40_code (4 : Nat) (Option.some Jvm.ClassFile.FieldType.int)) ∈ lw_all := lw_g (lw_at lw_m5 10 rfl) rfl
theorem q1037 : (Jvm.Cond.instanceMethod ({ cls := "CanalStepsModel", name := "pass", desc := "(I)I" } : Jvm.MethodName)) ∈ lw_all := lw_g (lw_at lw_m5 12 rfl) rfl
theorem q1038 : (Jvm.Cond.selects "CanalStepsModel" ({ cls := "CanalStepsModel", name := "pass", desc := "(I)I" } : Jvm.MethodName) ({ cls := "CanalStepsModel", name := "pass", desc := "(I)I" } : Jvm.MethodName)) ∈ lw_all := lw_g (lw_at lw_m5 13 rfl) rfl
theorem q1039 : (Jvm.Cond.code ({ cls := "CanalStepsModel", name := "pass", desc := "(I)I" } : Jvm.MethodName) prog_7_method_42_code (3 : Nat) (Option.some Jvm.ClassFile.FieldType.int)) ∈ lw_all := lw_g (lw_at lw_m5 14 rfl) rfl
theorem q1040 : (Jvm.Cond.methodLink "CanalStepsModel" (144 : Nat) ({ cls := "CanalStepsModel", name := "errorOfPass", desc := "(I)I" } : Jvm.MethodName)) ∈ lw_all := lw_g (lw_at lw_m5 15 rfl) rfl
theorem q1041 : (Jvm.Cond.privateMethod ({ cls := "CanalStepsModel", name := "errorOfPass", desc := "(I)I" } : Jvm.MethodName)) ∈ lw_tbl := lw_at lw_m5 16 rfl
theorem q1042 : (Jvm.Cond.instanceMethod ({ cls := "CanalStepsModel", name := "errorOfPass", desc := "(I)I" } : Jvm.MethodName)) ∈ lw_all := lw_g (lw_at lw_m5 17 rfl) rfl
theorem q1043 : (Jvm.Cond.code ({ cls := "CanalStepsModel", name := "errorOfPass", desc := "(I)I" } : Jvm.MethodName) prog_7_method_41_code (2 : Nat) (Option.some Jvm.ClassFile.FieldType.int)) ∈ lw_all := lw_g (lw_at lw_m5 18 rfl) rfl
theorem q1044 : (Jvm.Cond.constant "CanalStepsModel" (143 : Nat) (99999 : Int32)) ∈ lw_all := lw_g (lw_at lw_m5 19 rfl) rfl
theorem q1045 : (Jvm.Cond.methodLink "CanalStepsModel" (147 : Nat) ({ cls := "CanalStepsModel", name := "passes", desc := "(I)I" } : Jvm.MethodName)) ∈ lw_all := lw_g (lw_at lw_m5 20 rfl) rfl
theorem q1046 : (Jvm.Cond.privateMethod ({ cls := "CanalStepsModel", name := "passes", desc := "(I)I" } : Jvm.MethodName)) ∈ lw_tbl := lw_at lw_m5 21 rfl
theorem q1047 : (Jvm.Cond.instanceMethod ({ cls := "CanalStepsModel", name := "passes", desc := "(I)I" } : Jvm.MethodName)) ∈ lw_all := lw_g (lw_at lw_m5 22 rfl) rfl
theorem q1048 : (Jvm.Cond.code ({ cls := "CanalStepsModel", name := "passes", desc := "(I)I" } : Jvm.MethodName) prog_7_method_30_code (4 : Nat) (Option.some Jvm.ClassFile.FieldType.int)) ∈ lw_all := lw_g (lw_at lw_m5 23 rfl) rfl
theorem q1049 : (Jvm.Cond.methodLink "CanalStepsModel" (108 : Nat) ({ cls := "CanalStepsModel", name := "arrived", desc := "()I" } : Jvm.MethodName)) ∈ lw_all := lw_g (lw_at lw_m5 24 rfl) rfl
theorem q1050 : (Jvm.Cond.privateMethod ({ cls := "CanalStepsModel", name := "arrived", desc := "()I" } : Jvm.MethodName)) ∈ lw_tbl := lw_at lw_m5 25 rfl
theorem q1051 : (Jvm.Cond.instanceMethod ({ cls := "CanalStepsModel", name := "arrived", desc := "()I" } : Jvm.MethodName)) ∈ lw_all := lw_g (lw_at lw_m5 26 rfl) rfl
theorem q1052 : (Jvm.Cond.code ({ cls := "CanalStepsModel", name := "arrived", desc := "()I" } : Jvm.MethodName) prog_7_method_29_code (3 : Nat) (Option.some Jvm.ClassFile.FieldType.int)) ∈ lw_all := lw_g (lw_at lw_m5 27 rfl) rfl
theorem q1053 : (Jvm.Cond.methodLink "CanalStepsModel" (112 : Nat) ({ cls := "CanalStepsModel", name := "ticks", desc := "()V" } : Jvm.MethodName)) ∈ lw_all := lw_g (lw_at lw_m5 28 rfl) rfl
theorem q1054 : (Jvm.Cond.privateMethod ({ cls := "CanalStepsModel", name := "ticks", desc := "()V" } : Jvm.MethodName)) ∈ lw_tbl := lw_at lw_m5 29 rfl
theorem q1055 : (Jvm.Cond.instanceMethod ({ cls := "CanalStepsModel", name := "ticks", desc := "()V" } : Jvm.MethodName)) ∈ lw_all := lw_g (lw_at lw_m5 30 rfl) rfl
theorem q1056 : (Jvm.Cond.code ({ cls := "CanalStepsModel", name := "ticks", desc := "()V" } : Jvm.MethodName) prog_7_method_28_code (2 : Nat) (Option.none : Option Jvm.ClassFile.FieldType)) ∈ lw_all := lw_g (lw_at lw_m5 31 rfl) rfl
theorem q1057 : (Jvm.Cond.methodLink "CanalStepsModel" (102 : Nat) ({ cls := "CanalStepsModel", name := "acts", desc := "(I)V" } : Jvm.MethodName)) ∈ lw_all := lw_g (lw_at lw_m5 32 rfl) rfl
theorem q1058 : (Jvm.Cond.privateMethod ({ cls := "CanalStepsModel", name := "acts", desc := "(I)V" } : Jvm.MethodName)) ∈ lw_tbl := lw_at lw_m5 33 rfl
theorem q1059 : (Jvm.Cond.instanceMethod ({ cls := "CanalStepsModel", name := "acts", desc := "(I)V" } : Jvm.MethodName)) ∈ lw_all := lw_g (lw_at lw_m5 34 rfl) rfl
theorem q1060 : (Jvm.Cond.code ({ cls := "CanalStepsModel", name := "acts", desc := "(I)V" } : Jvm.MethodName) prog_7_method_26_code (4 : Nat) (Option.none : Option Jvm.ClassFile.FieldType)) ∈ lw_all := lw_g (lw_at lw_m5 35 rfl) rfl
theorem q1061 : (Jvm.Cond.methodLink "CanalStepsModel" (60 : Nat) ({ cls := "CanalStepsModel", name := "lockOf", desc := "(I)I" } : Jvm.MethodName)) ∈ lw_all := lw_g (lw_at lw_m5 36 rfl) rfl
theorem q1062 : (Jvm.Cond.privateMethod ({ cls := "CanalStepsModel", name := "lockOf", desc := "(I)I" } : Jvm.MethodName)) ∈ lw_tbl := lw_at lw_m5 37 rfl
theorem q1063 : (Jvm.Cond.instanceMethod ({ cls := "CanalStepsModel", name := "lockOf", desc := "(I)I" } : Jvm.MethodName)) ∈ lw_all := lw_g (lw_at lw_m5 38 rfl) rfl
theorem q1064 : (Jvm.Cond.code ({ cls := "CanalStepsModel", name := "lockOf", desc := "(I)I" } : Jvm.MethodName) prog_7_method_14_code (2 : Nat) (Option.some Jvm.ClassFile.FieldType.int)) ∈ lw_all := lw_g (lw_at lw_m5 39 rfl) rfl
theorem q1065 : (Jvm.Cond.methodLink "CanalStepsModel" (49 : Nat) ({ cls := "CanalStepsModel", name := "goesUp", desc := "(I)Z" } : Jvm.MethodName)) ∈ lw_all := lw_g (lw_at lw_m5 40 rfl) rfl
theorem q1066 : (Jvm.Cond.privateMethod ({ cls := "CanalStepsModel", name := "goesUp", desc := "(I)Z" } : Jvm.MethodName)) ∈ lw_tbl := lw_at lw_m5 41 rfl
theorem q1067 : (Jvm.Cond.instanceMethod ({ cls := "CanalStepsModel", name := "goesUp", desc := "(I)Z" } : Jvm.MethodName)) ∈ lw_all := lw_g (lw_at lw_m5 42 rfl) rfl
theorem q1068 : (Jvm.Cond.code ({ cls := "CanalStepsModel", name := "goesUp", desc := "(I)Z" } : Jvm.MethodName) prog_7_method_12_code (2 : Nat) (Option.some Jvm.ClassFile.FieldType.boolean)) ∈ lw_all := lw_g (lw_at lw_m5 43 rfl) rfl
theorem q1069 : (Jvm.Cond.methodLink "CanalStepsModel" (86 : Nat) ({ cls := "CanalStepsModel", name := "hindrance", desc := "(I)I" } : Jvm.MethodName)) ∈ lw_all := lw_g (lw_at lw_m5 44 rfl) rfl
theorem q1070 : (Jvm.Cond.privateMethod ({ cls := "CanalStepsModel", name := "hindrance", desc := "(I)I" } : Jvm.MethodName)) ∈ lw_tbl := lw_at lw_m5 45 rfl
theorem q1071 : (Jvm.Cond.instanceMethod ({ cls := "CanalStepsModel", name := "hindrance", desc := "(I)I" } : Jvm.MethodName)) ∈ lw_all := lw_g (lw_at lw_m5 46 rfl) rfl
theorem q1072 : (Jvm.Cond.code ({ cls := "CanalStepsModel", name := "hindrance", desc := "(I)I" } : Jvm.MethodName) prog_7_method_25_code (3 : Nat) (Option.some Jvm.ClassFile.FieldType.int)) ∈ lw_all := lw_g (lw_at lw_m5 47 rfl) rfl
theorem q1073 : (Jvm.Cond.methodLink "CanalStepsModel" (74 : Nat) ({ cls := "CanalStepsModel", name := "isAground", desc := "(I)Z" } : Jvm.MethodName)) ∈ lw_all := lw_g (lw_at lw_m5 48 rfl) rfl
theorem q1074 : (Jvm.Cond.privateMethod ({ cls := "CanalStepsModel", name := "isAground", desc := "(I)Z" } : Jvm.MethodName)) ∈ lw_tbl := lw_at lw_m5 49 rfl
theorem q1075 : (Jvm.Cond.instanceMethod ({ cls := "CanalStepsModel", name := "isAground", desc := "(I)Z" } : Jvm.MethodName)) ∈ lw_all := lw_g (lw_at lw_m5 50 rfl) rfl
theorem q1076 : (Jvm.Cond.code ({ cls := "CanalStepsModel", name := "isAground", desc := "(I)Z" } : Jvm.MethodName) prog_7_method_15_code (3 : Nat) (Option.some Jvm.ClassFile.FieldType.boolean)) ∈ lw_all := lw_g (lw_at lw_m5 51 rfl) rfl
theorem q1077 : (Jvm.Cond.methodLink "CanalStepsModel" (53 : Nat) ({ cls := "CanalStepsModel", name := "nextOf", desc := "(I)I" } : Jvm.MethodName)) ∈ lw_all := lw_g (lw_at lw_m5 52 rfl) rfl
theorem q1078 : (Jvm.Cond.privateMethod ({ cls := "CanalStepsModel", name := "nextOf", desc := "(I)I" } : Jvm.MethodName)) ∈ lw_tbl := lw_at lw_m5 53 rfl
theorem q1079 : (Jvm.Cond.instanceMethod ({ cls := "CanalStepsModel", name := "nextOf", desc := "(I)I" } : Jvm.MethodName)) ∈ lw_all := lw_g (lw_at lw_m5 54 rfl) rfl
theorem q1080 : (Jvm.Cond.code ({ cls := "CanalStepsModel", name := "nextOf", desc := "(I)I" } : Jvm.MethodName) prog_7_method_13_code (2 : Nat) (Option.some Jvm.ClassFile.FieldType.int)) ∈ lw_all := lw_g (lw_at lw_m5 55 rfl) rfl
theorem q1081 : (Jvm.Cond.methodLink "CanalStepsModel" (77 : Nat) ({ cls := "CanalStepsModel", name := "placeOf", desc := "(I)I" } : Jvm.MethodName)) ∈ lw_all := lw_g (lw_at lw_m5 56 rfl) rfl
theorem q1082 : (Jvm.Cond.privateMethod ({ cls := "CanalStepsModel", name := "placeOf", desc := "(I)I" } : Jvm.MethodName)) ∈ lw_tbl := lw_at lw_m5 57 rfl
theorem q1083 : (Jvm.Cond.instanceMethod ({ cls := "CanalStepsModel", name := "placeOf", desc := "(I)I" } : Jvm.MethodName)) ∈ lw_all := lw_g (lw_at lw_m5 58 rfl) rfl
theorem q1084 : (Jvm.Cond.code ({ cls := "CanalStepsModel", name := "placeOf", desc := "(I)I" } : Jvm.MethodName) prog_7_method_19_code (4 : Nat) (Option.some Jvm.ClassFile.FieldType.int)) ∈ lw_all := lw_g (lw_at lw_m5 59 rfl) rfl
theorem q1085 : (Jvm.Cond.methodLink "CanalStepsModel" (63 : Nat) ({ cls := "CanalStepsModel", name := "waitsAt", desc := "(IIZ)Z" } : Jvm.MethodName)) ∈ lw_all := lw_g (lw_at lw_m5 60 rfl) rfl
theorem q1086 : (Jvm.Cond.privateMethod ({ cls := "CanalStepsModel", name := "waitsAt", desc := "(IIZ)Z" } : Jvm.MethodName)) ∈ lw_tbl := lw_at lw_m5 61 rfl
theorem q1087 : (Jvm.Cond.instanceMethod ({ cls := "CanalStepsModel", name := "waitsAt", desc := "(IIZ)Z" } : Jvm.MethodName)) ∈ lw_all := lw_g (lw_at lw_m5 62 rfl) rfl
theorem q1088 : (Jvm.Cond.code ({ cls := "CanalStepsModel", name := "waitsAt", desc := "(IIZ)Z" } : Jvm.MethodName) prog_7_method_16_code (4 : Nat) (Option.some Jvm.ClassFile.FieldType.boolean)) ∈ lw_all := lw_g (lw_at lw_m5 63 rfl) rfl
theorem q1089 : (Jvm.Cond.methodLink "CanalStepsModel" (89 : Nat) ({ cls := "CanalStepsModel", name := "firstOf", desc := "(IZ)I" } : Jvm.MethodName)) ∈ lw_all := lw_g (lw_at lw_m5 64 rfl) rfl
theorem q1090 : (Jvm.Cond.privateMethod ({ cls := "CanalStepsModel", name := "firstOf", desc := "(IZ)I" } : Jvm.MethodName)) ∈ lw_tbl := lw_at lw_m5 65 rfl
theorem q1091 : (Jvm.Cond.instanceMethod ({ cls := "CanalStepsModel", name := "firstOf", desc := "(IZ)I" } : Jvm.MethodName)) ∈ lw_all := lw_g (lw_at lw_m5 66 rfl) rfl
theorem q1092 : (Jvm.Cond.code ({ cls := "CanalStepsModel", name := "firstOf", desc := "(IZ)I" } : Jvm.MethodName) prog_7_method_18_code (6 : Nat) (Option.some Jvm.ClassFile.FieldType.int)) ∈ lw_all := lw_g (lw_at lw_m5 67 rfl) rfl
theorem q1093 : (Jvm.Cond.methodLink "CanalStepsModel" (96 : Nat) ({ cls := "CanalStepsModel", name := "goes", desc := "(I)V" } : Jvm.MethodName)) ∈ lw_all := lw_g (lw_at lw_m5 68 rfl) rfl
theorem q1094 : (Jvm.Cond.privateMethod ({ cls := "CanalStepsModel", name := "goes", desc := "(I)V" } : Jvm.MethodName)) ∈ lw_tbl := lw_at lw_m5 69 rfl
theorem q1095 : (Jvm.Cond.instanceMethod ({ cls := "CanalStepsModel", name := "goes", desc := "(I)V" } : Jvm.MethodName)) ∈ lw_all := lw_g (lw_at lw_m5 70 rfl) rfl
theorem q1096 : (Jvm.Cond.code ({ cls := "CanalStepsModel", name := "goes", desc := "(I)V" } : Jvm.MethodName) prog_7_method_24_code (4 : Nat) (Option.none : Option Jvm.ClassFile.FieldType)) ∈ lw_all := lw_g (lw_at lw_m5 71 rfl) rfl
theorem q1097 : (Jvm.Cond.methodLink "CanalStepsModel" (99 : Nat) ({ cls := "CanalStepsModel", name := "queue", desc := "(IZ)I" } : Jvm.MethodName)) ∈ lw_all := lw_g (lw_at lw_m5 72 rfl) rfl
theorem q1098 : (Jvm.Cond.privateMethod ({ cls := "CanalStepsModel", name := "queue", desc := "(IZ)I" } : Jvm.MethodName)) ∈ lw_tbl := lw_at lw_m5 73 rfl
theorem q1099 : (Jvm.Cond.instanceMethod ({ cls := "CanalStepsModel", name := "queue", desc := "(IZ)I" } : Jvm.MethodName)) ∈ lw_all := lw_g (lw_at lw_m5 74 rfl) rfl
theorem q1100 : (Jvm.Cond.code ({ cls := "CanalStepsModel", name := "queue", desc := "(IZ)I" } : Jvm.MethodName) prog_7_method_17_code (5 : Nat) (Option.some Jvm.ClassFile.FieldType.int)) ∈ lw_all := lw_g (lw_at lw_m5 75 rfl) rfl
theorem q1101 : (Jvm.Cond.methodLink "CanalStepsModel" (105 : Nat) ({ cls := "CanalStepsModel", name := "flows", desc := "()V" } : Jvm.MethodName)) ∈ lw_all := lw_g (lw_at lw_m5 76 rfl) rfl
theorem q1102 : (Jvm.Cond.privateMethod ({ cls := "CanalStepsModel", name := "flows", desc := "()V" } : Jvm.MethodName)) ∈ lw_tbl := lw_at lw_m5 77 rfl
theorem q1103 : (Jvm.Cond.instanceMethod ({ cls := "CanalStepsModel", name := "flows", desc := "()V" } : Jvm.MethodName)) ∈ lw_all := lw_g (lw_at lw_m5 78 rfl) rfl
theorem q1104 : (Jvm.Cond.code ({ cls := "CanalStepsModel", name := "flows", desc := "()V" } : Jvm.MethodName) prog_7_method_27_code (4 : Nat) (Option.none : Option Jvm.ClassFile.FieldType)) ∈ lw_all := lw_g (lw_at lw_m5 79 rfl) rfl
theorem q1106 : (Jvm.Cond.instanceMethod ({ cls := "CanalStepsModel", name := "type", desc := "(C)I" } : Jvm.MethodName)) ∈ lw_all := lw_g (lw_at lw_m5 81 rfl) rfl
theorem q1107 : (Jvm.Cond.selects "CanalStepsModel" ({ cls := "CanalStepsModel", name := "type", desc := "(C)I" } : Jvm.MethodName) ({ cls := "CanalStepsModel", name := "type", desc := "(C)I" } : Jvm.MethodName)) ∈ lw_all := lw_g (lw_at lw_m5 82 rfl) rfl
theorem q1108 : (Jvm.Cond.code ({ cls := "CanalStepsModel", name := "type", desc := "(C)I" } : Jvm.MethodName) prog_7_method_43_code (2 : Nat) (Option.some Jvm.ClassFile.FieldType.int)) ∈ lw_all := lw_g (lw_at lw_m5 83 rfl) rfl
theorem q1110 : (Jvm.Cond.instanceMethod ({ cls := "CanalStepsModel", name := "clearText", desc := "()I" } : Jvm.MethodName)) ∈ lw_all := lw_g (lw_at lw_m5 85 rfl) rfl
theorem q1111 : (Jvm.Cond.selects "CanalStepsModel" ({ cls := "CanalStepsModel", name := "clearText", desc := "()I" } : Jvm.MethodName) ({ cls := "CanalStepsModel", name := "clearText", desc := "()I" } : Jvm.MethodName)) ∈ lw_all := lw_g (lw_at lw_m5 86 rfl) rfl
theorem q1112 : (Jvm.Cond.code ({ cls := "CanalStepsModel", name := "clearText", desc := "()I" } : Jvm.MethodName) prog_7_method_44_code (2 : Nat) (Option.some Jvm.ClassFile.FieldType.int)) ∈ lw_all := lw_g (lw_at lw_m5 87 rfl) rfl
theorem q1114 : (Jvm.Cond.instanceMethod ({ cls := "CanalStepsModel", name := "perform", desc := "()I" } : Jvm.MethodName)) ∈ lw_all := lw_g (lw_at lw_m5 89 rfl) rfl
theorem q1115 : (Jvm.Cond.selects "CanalStepsModel" ({ cls := "CanalStepsModel", name := "perform", desc := "()I" } : Jvm.MethodName) ({ cls := "CanalStepsModel", name := "perform", desc := "()I" } : Jvm.MethodName)) ∈ lw_all := lw_g (lw_at lw_m5 90 rfl) rfl
theorem q1116 : (Jvm.Cond.code ({ cls := "CanalStepsModel", name := "perform", desc := "()I" } : Jvm.MethodName) prog_7_method_53_code (2 : Nat) (Option.some Jvm.ClassFile.FieldType.int)) ∈ lw_all := lw_g (lw_at lw_m5 91 rfl) rfl
theorem q1117 : (Jvm.Cond.methodLink "CanalStepsModel" (200 : Nat) ({ cls := "CanalStepsModel", name := "reads", desc := "(Z)I" } : Jvm.MethodName)) ∈ lw_all := lw_g (lw_at lw_m5 92 rfl) rfl
theorem q1118 : (Jvm.Cond.privateMethod ({ cls := "CanalStepsModel", name := "reads", desc := "(Z)I" } : Jvm.MethodName)) ∈ lw_tbl := lw_at lw_m5 93 rfl
theorem q1119 : (Jvm.Cond.instanceMethod ({ cls := "CanalStepsModel", name := "reads", desc := "(Z)I" } : Jvm.MethodName)) ∈ lw_all := lw_g (lw_at lw_m5 94 rfl) rfl
theorem q1120 : (Jvm.Cond.code ({ cls := "CanalStepsModel", name := "reads", desc := "(Z)I" } : Jvm.MethodName) prog_7_method_52_code (6 : Nat) (Option.some Jvm.ClassFile.FieldType.int)) ∈ lw_all := lw_g (lw_at lw_m5 95 rfl) rfl
theorem q1121 : (Jvm.Cond.methodLink "CanalStepsModel" (191 : Nat) ({ cls := "CanalStepsModel", name := "readOne", desc := "()V" } : Jvm.MethodName)) ∈ lw_all := lw_g (lw_at lw_m5 96 rfl) rfl
theorem q1122 : (Jvm.Cond.privateMethod ({ cls := "CanalStepsModel", name := "readOne", desc := "()V" } : Jvm.MethodName)) ∈ lw_tbl := lw_at lw_m5 97 rfl
theorem q1123 : (Jvm.Cond.instanceMethod ({ cls := "CanalStepsModel", name := "readOne", desc := "()V" } : Jvm.MethodName)) ∈ lw_all := lw_g (lw_at lw_m5 98 rfl) rfl
theorem q1124 : (Jvm.Cond.code ({ cls := "CanalStepsModel", name := "readOne", desc := "()V" } : Jvm.MethodName) prog_7_method_49_code (2 : Nat) (Option.none : Option Jvm.ClassFile.FieldType)) ∈ lw_all := lw_g (lw_at lw_m5 99 rfl) rfl
theorem q1125 : (Jvm.Cond.methodLink "CanalStepsModel" (185 : Nat) ({ cls := "CanalStepsModel", name := "readWay", desc := "()V" } : Jvm.MethodName)) ∈ lw_all := lw_g (lw_at lw_m5 100 rfl) rfl
theorem q1126 : (Jvm.Cond.privateMethod ({ cls := "CanalStepsModel", name := "readWay", desc := "()V" } : Jvm.MethodName)) ∈ lw_tbl := lw_at lw_m5 101 rfl
theorem q1127 : (Jvm.Cond.instanceMethod ({ cls := "CanalStepsModel", name := "readWay", desc := "()V" } : Jvm.MethodName)) ∈ lw_all := lw_g (lw_at lw_m5 102 rfl) rfl
theorem q1128 : (Jvm.Cond.code ({ cls := "CanalStepsModel", name := "readWay", desc := "()V" } : Jvm.MethodName) prog_7_method_48_code (2 : Nat) (Option.none : Option Jvm.ClassFile.FieldType)) ∈ lw_all := lw_g (lw_at lw_m5 103 rfl) rfl
theorem q1129 : (Jvm.Cond.methodLink "CanalStepsModel" (164 : Nat) ({ cls := "CanalStepsModel", name := "takes", desc := "(II)I" } : Jvm.MethodName)) ∈ lw_all := lw_g (lw_at lw_m5 104 rfl) rfl
theorem q1130 : (Jvm.Cond.privateMethod ({ cls := "CanalStepsModel", name := "takes", desc := "(II)I" } : Jvm.MethodName)) ∈ lw_tbl := lw_at lw_m5 105 rfl
theorem q1131 : (Jvm.Cond.instanceMethod ({ cls := "CanalStepsModel", name := "takes", desc := "(II)I" } : Jvm.MethodName)) ∈ lw_all := lw_g (lw_at lw_m5 106 rfl) rfl
theorem q1132 : (Jvm.Cond.code ({ cls := "CanalStepsModel", name := "takes", desc := "(II)I" } : Jvm.MethodName) prog_7_method_46_code (5 : Nat) (Option.some Jvm.ClassFile.FieldType.int)) ∈ lw_all := lw_g (lw_at lw_m5 107 rfl) rfl
theorem q1133 : (Jvm.Cond.methodLink "CanalStepsModel" (160 : Nat) ({ cls := "CanalStepsModel", name := "isNext", desc := "(II)Z" } : Jvm.MethodName)) ∈ lw_all := lw_g (lw_at lw_m5 108 rfl) rfl
theorem q1134 : (Jvm.Cond.privateMethod ({ cls := "CanalStepsModel", name := "isNext", desc := "(II)Z" } : Jvm.MethodName)) ∈ lw_tbl := lw_at lw_m5 109 rfl
theorem q1135 : (Jvm.Cond.instanceMethod ({ cls := "CanalStepsModel", name := "isNext", desc := "(II)Z" } : Jvm.MethodName)) ∈ lw_all := lw_g (lw_at lw_m5 110 rfl) rfl
theorem q1136 : (Jvm.Cond.code ({ cls := "CanalStepsModel", name := "isNext", desc := "(II)Z" } : Jvm.MethodName) prog_7_method_45_code (3 : Nat) (Option.some Jvm.ClassFile.FieldType.boolean)) ∈ lw_all := lw_g (lw_at lw_m5 111 rfl) rfl
theorem q1137 : (Jvm.Cond.methodLink "CanalStepsModel" (173 : Nat) ({ cls := "CanalStepsModel", name := "number", desc := "(I)I" } : Jvm.MethodName)) ∈ lw_all := lw_g (lw_at lw_m5 112 rfl) rfl
theorem q1138 : (Jvm.Cond.privateMethod ({ cls := "CanalStepsModel", name := "number", desc := "(I)I" } : Jvm.MethodName)) ∈ lw_tbl := lw_at lw_m5 113 rfl
theorem q1139 : (Jvm.Cond.instanceMethod ({ cls := "CanalStepsModel", name := "number", desc := "(I)I" } : Jvm.MethodName)) ∈ lw_all := lw_g (lw_at lw_m5 114 rfl) rfl
theorem q1140 : (Jvm.Cond.code ({ cls := "CanalStepsModel", name := "number", desc := "(I)I" } : Jvm.MethodName) prog_7_method_47_code (3 : Nat) (Option.some Jvm.ClassFile.FieldType.int)) ∈ lw_all := lw_g (lw_at lw_m5 115 rfl) rfl
theorem q1141 : (Jvm.Cond.methodLink "CanalStepsModel" (194 : Nat) ({ cls := "CanalStepsModel", name := "errorOfOne", desc := "()I" } : Jvm.MethodName)) ∈ lw_all := lw_g (lw_at lw_m5 116 rfl) rfl
theorem q1142 : (Jvm.Cond.privateMethod ({ cls := "CanalStepsModel", name := "errorOfOne", desc := "()I" } : Jvm.MethodName)) ∈ lw_tbl := lw_at lw_m5 117 rfl
theorem q1143 : (Jvm.Cond.instanceMethod ({ cls := "CanalStepsModel", name := "errorOfOne", desc := "()I" } : Jvm.MethodName)) ∈ lw_all := lw_g (lw_at lw_m5 118 rfl) rfl
theorem q1144 : (Jvm.Cond.code ({ cls := "CanalStepsModel", name := "errorOfOne", desc := "()I" } : Jvm.MethodName) prog_7_method_50_code (1 : Nat) (Option.some Jvm.ClassFile.FieldType.int)) ∈ lw_all := lw_g (lw_at lw_m5 119 rfl) rfl
theorem q1145 : (Jvm.Cond.methodLink "CanalStepsModel" (197 : Nat) ({ cls := "CanalStepsModel", name := "doesOne", desc := "()I" } : Jvm.MethodName)) ∈ lw_all := lw_g (lw_at lw_m5 120 rfl) rfl
theorem q1146 : (Jvm.Cond.privateMethod ({ cls := "CanalStepsModel", name := "doesOne", desc := "()I" } : Jvm.MethodName)) ∈ lw_tbl := lw_at lw_m5 121 rfl
theorem q1147 : (Jvm.Cond.instanceMethod ({ cls := "CanalStepsModel", name := "doesOne", desc := "()I" } : Jvm.MethodName)) ∈ lw_all := lw_g (lw_at lw_m5 122 rfl) rfl
theorem q1148 : (Jvm.Cond.code ({ cls := "CanalStepsModel", name := "doesOne", desc := "()I" } : Jvm.MethodName) prog_7_method_51_code (1 : Nat) (Option.some Jvm.ClassFile.FieldType.int)) ∈ lw_all := lw_g (lw_at lw_m5 123 rfl) rfl
theorem q1149 : (Jvm.Cond.methodLink "CanalStepsModel" (204 : Nat) ({ cls := "CanalStepsModel", name := "putAside", desc := "()V" } : Jvm.MethodName)) ∈ lw_all := lw_g (lw_at lw_m5 124 rfl) rfl
theorem q1150 : (Jvm.Cond.privateMethod ({ cls := "CanalStepsModel", name := "putAside", desc := "()V" } : Jvm.MethodName)) ∈ lw_tbl := lw_at lw_m5 125 rfl
theorem q1151 : (Jvm.Cond.instanceMethod ({ cls := "CanalStepsModel", name := "putAside", desc := "()V" } : Jvm.MethodName)) ∈ lw_all := lw_g (lw_at lw_m5 126 rfl) rfl
theorem q1152 : (Jvm.Cond.code ({ cls := "CanalStepsModel", name := "putAside", desc := "()V" } : Jvm.MethodName) prog_7_method_9_code (2 : Nat) (Option.none : Option Jvm.ClassFile.FieldType)) ∈ lw_all := lw_g (lw_at lw_m5 127 rfl) rfl
theorem q1153 : (Jvm.Cond.methodLink "CanalStepsModel" (207 : Nat) ({ cls := "CanalStepsModel", name := "exchanges", desc := "()V" } : Jvm.MethodName)) ∈ lw_all := lw_g (lw_at lw_m5 128 rfl) rfl
theorem q1154 : (Jvm.Cond.privateMethod ({ cls := "CanalStepsModel", name := "exchanges", desc := "()V" } : Jvm.MethodName)) ∈ lw_tbl := lw_at lw_m5 129 rfl
theorem q1155 : (Jvm.Cond.instanceMethod ({ cls := "CanalStepsModel", name := "exchanges", desc := "()V" } : Jvm.MethodName)) ∈ lw_all := lw_g (lw_at lw_m5 130 rfl) rfl
theorem q1156 : (Jvm.Cond.code ({ cls := "CanalStepsModel", name := "exchanges", desc := "()V" } : Jvm.MethodName) prog_7_method_10_code (3 : Nat) (Option.none : Option Jvm.ClassFile.FieldType)) ∈ lw_all := lw_g (lw_at lw_m5 131 rfl) rfl
theorem q1158 : (Jvm.Cond.instanceMethod ({ cls := "CanalStepsModel", name := "stopped", desc := "(I)I" } : Jvm.MethodName)) ∈ lw_all := lw_g (lw_at lw_m5 133 rfl) rfl
theorem q1159 : (Jvm.Cond.selects "CanalStepsModel" ({ cls := "CanalStepsModel", name := "stopped", desc := "(I)I" } : Jvm.MethodName) ({ cls := "CanalStepsModel", name := "stopped", desc := "(I)I" } : Jvm.MethodName)) ∈ lw_all := lw_g (lw_at lw_m5 134 rfl) rfl
theorem q1160 : (Jvm.Cond.code ({ cls := "CanalStepsModel", name := "stopped", desc := "(I)I" } : Jvm.MethodName) prog_7_method_54_code (2 : Nat) (Option.some Jvm.ClassFile.FieldType.int)) ∈ lw_all := lw_g (lw_at lw_m5 135 rfl) rfl
theorem q1162 : (Jvm.Cond.instanceMethod ({ cls := "CanalStepsModel", name := "undo", desc := "()I" } : Jvm.MethodName)) ∈ lw_all := lw_g (lw_at lw_m5 137 rfl) rfl
theorem q1163 : (Jvm.Cond.selects "CanalStepsModel" ({ cls := "CanalStepsModel", name := "undo", desc := "()I" } : Jvm.MethodName) ({ cls := "CanalStepsModel", name := "undo", desc := "()I" } : Jvm.MethodName)) ∈ lw_all := lw_g (lw_at lw_m5 138 rfl) rfl
theorem q1164 : (Jvm.Cond.code ({ cls := "CanalStepsModel", name := "undo", desc := "()I" } : Jvm.MethodName) prog_7_method_55_code (2 : Nat) (Option.some Jvm.ClassFile.FieldType.int)) ∈ lw_all := lw_g (lw_at lw_m5 139 rfl) rfl
theorem q1166 : (Jvm.Cond.instanceMethod ({ cls := "CanalStepsModel", name := "keep", desc := "()I" } : Jvm.MethodName)) ∈ lw_all := lw_g (lw_at lw_m5 141 rfl) rfl
theorem q1167 : (Jvm.Cond.selects "CanalStepsModel" ({ cls := "CanalStepsModel", name := "keep", desc := "()I" } : Jvm.MethodName) ({ cls := "CanalStepsModel", name := "keep", desc := "()I" } : Jvm.MethodName)) ∈ lw_all := lw_g (lw_at lw_m5 142 rfl) rfl
theorem q1168 : (Jvm.Cond.code ({ cls := "CanalStepsModel", name := "keep", desc := "()I" } : Jvm.MethodName) prog_7_method_56_code (2 : Nat) (Option.some Jvm.ClassFile.FieldType.int)) ∈ lw_all := lw_g (lw_at lw_m5 143 rfl) rfl
theorem q1170 : (Jvm.Cond.instanceMethod ({ cls := "CanalStepsModel", name := "restore", desc := "()I" } : Jvm.MethodName)) ∈ lw_all := lw_g (lw_at lw_m5 145 rfl) rfl
theorem q1171 : (Jvm.Cond.selects "CanalStepsModel" ({ cls := "CanalStepsModel", name := "restore", desc := "()I" } : Jvm.MethodName) ({ cls := "CanalStepsModel", name := "restore", desc := "()I" } : Jvm.MethodName)) ∈ lw_all := lw_g (lw_at lw_m5 146 rfl) rfl
theorem q1172 : (Jvm.Cond.code ({ cls := "CanalStepsModel", name := "restore", desc := "()I" } : Jvm.MethodName) prog_7_method_57_code (2 : Nat) (Option.some Jvm.ClassFile.FieldType.int)) ∈ lw_all := lw_g (lw_at lw_m5 147 rfl) rfl
theorem q1174 : (Jvm.Cond.instanceMethod ({ cls := "CanalStepsModel", name := "boatOf", desc := "(II)I" } : Jvm.MethodName)) ∈ lw_all := lw_g (lw_at lw_m5 149 rfl) rfl
theorem q1175 : (Jvm.Cond.selects "CanalStepsModel" ({ cls := "CanalStepsModel", name := "boatOf", desc := "(II)I" } : Jvm.MethodName) ({ cls := "CanalStepsModel", name := "boatOf", desc := "(II)I" } : Jvm.MethodName)) ∈ lw_all := lw_g (lw_at lw_m5 150 rfl) rfl
theorem q1176 : (Jvm.Cond.code ({ cls := "CanalStepsModel", name := "boatOf", desc := "(II)I" } : Jvm.MethodName) prog_7_method_58_code (4 : Nat) (Option.some Jvm.ClassFile.FieldType.int)) ∈ lw_all := lw_g (lw_at lw_m5 151 rfl) rfl
theorem q1178 : (Jvm.Cond.instanceMethod ({ cls := "CanalStepsModel", name := "lock", desc := "(II)I" } : Jvm.MethodName)) ∈ lw_all := lw_g (lw_at lw_m5 153 rfl) rfl
theorem q1179 : (Jvm.Cond.selects "CanalStepsModel" ({ cls := "CanalStepsModel", name := "lock", desc := "(II)I" } : Jvm.MethodName) ({ cls := "CanalStepsModel", name := "lock", desc := "(II)I" } : Jvm.MethodName)) ∈ lw_all := lw_g (lw_at lw_m5 154 rfl) rfl
theorem q1180 : (Jvm.Cond.code ({ cls := "CanalStepsModel", name := "lock", desc := "(II)I" } : Jvm.MethodName) prog_7_method_59_code (3 : Nat) (Option.some Jvm.ClassFile.FieldType.int)) ∈ lw_all := lw_g (lw_at lw_m5 155 rfl) rfl
theorem q1182 : (Jvm.Cond.instanceMethod ({ cls := "CanalStepsModel", name := "pound", desc := "(II)I" } : Jvm.MethodName)) ∈ lw_all := lw_g (lw_at lw_m5 157 rfl) rfl
theorem q1183 : (Jvm.Cond.selects "CanalStepsModel" ({ cls := "CanalStepsModel", name := "pound", desc := "(II)I" } : Jvm.MethodName) ({ cls := "CanalStepsModel", name := "pound", desc := "(II)I" } : Jvm.MethodName)) ∈ lw_all := lw_g (lw_at lw_m5 158 rfl) rfl
theorem q1184 : (Jvm.Cond.code ({ cls := "CanalStepsModel", name := "pound", desc := "(II)I" } : Jvm.MethodName) prog_7_method_61_code (8 : Nat) (Option.some Jvm.ClassFile.FieldType.int)) ∈ lw_all := lw_g (lw_at lw_m5 159 rfl) rfl
theorem q1185 : (Jvm.Cond.methodLink "CanalStepsModel" (213 : Nat) ({ cls := "CanalStepsModel", name := "hasPiecesIn", desc := "(II)Z" } : Jvm.MethodName)) ∈ lw_all := lw_g (lw_at lw_m5 160 rfl) rfl
theorem q1186 : (Jvm.Cond.privateMethod ({ cls := "CanalStepsModel", name := "hasPiecesIn", desc := "(II)Z" } : Jvm.MethodName)) ∈ lw_tbl := lw_at lw_m5 161 rfl
theorem q1187 : (Jvm.Cond.instanceMethod ({ cls := "CanalStepsModel", name := "hasPiecesIn", desc := "(II)Z" } : Jvm.MethodName)) ∈ lw_all := lw_g (lw_at lw_m5 162 rfl) rfl
theorem q1188 : (Jvm.Cond.code ({ cls := "CanalStepsModel", name := "hasPiecesIn", desc := "(II)Z" } : Jvm.MethodName) prog_7_method_60_code (3 : Nat) (Option.some Jvm.ClassFile.FieldType.boolean)) ∈ lw_all := lw_g (lw_at lw_m5 163 rfl) rfl
theorem q1190 : (Jvm.Cond.instanceMethod ({ cls := "CanalStepsModel", name := "reason", desc := "(I)I" } : Jvm.MethodName)) ∈ lw_all := lw_g (lw_at lw_m5 165 rfl) rfl
theorem q1191 : (Jvm.Cond.selects "CanalStepsModel" ({ cls := "CanalStepsModel", name := "reason", desc := "(I)I" } : Jvm.MethodName) ({ cls := "CanalStepsModel", name := "reason", desc := "(I)I" } : Jvm.MethodName)) ∈ lw_all := lw_g (lw_at lw_m5 166 rfl) rfl
theorem q1192 : (Jvm.Cond.code ({ cls := "CanalStepsModel", name := "reason", desc := "(I)I" } : Jvm.MethodName) prog_7_method_62_code (2 : Nat) (Option.some Jvm.ClassFile.FieldType.int)) ∈ lw_all := lw_g (lw_at lw_m5 167 rfl) rfl
theorem q1194 : (Jvm.Cond.instanceMethod ({ cls := "CanalStepsModel", name := "arrivesIn", desc := "(I)I" } : Jvm.MethodName)) ∈ lw_all := lw_g (lw_at lw_m5 169 rfl) rfl
theorem q1195 : (Jvm.Cond.selects "CanalStepsModel" ({ cls := "CanalStepsModel", name := "arrivesIn", desc := "(I)I" } : Jvm.MethodName) ({ cls := "CanalStepsModel", name := "arrivesIn", desc := "(I)I" } : Jvm.MethodName)) ∈ lw_all := lw_g (lw_at lw_m5 170 rfl) rfl
theorem q1196 : (Jvm.Cond.code ({ cls := "CanalStepsModel", name := "arrivesIn", desc := "(I)I" } : Jvm.MethodName) prog_7_method_63_code (3 : Nat) (Option.some Jvm.ClassFile.FieldType.int)) ∈ lw_all := lw_g (lw_at lw_m5 171 rfl) rfl
theorem q1198 : (Jvm.Cond.instanceMethod ({ cls := "CanalStepsModel", name := "water", desc := "(I)I" } : Jvm.MethodName)) ∈ lw_all := lw_g (lw_at lw_m5 173 rfl) rfl
theorem q1199 : (Jvm.Cond.selects "CanalStepsModel" ({ cls := "CanalStepsModel", name := "water", desc := "(I)I" } : Jvm.MethodName) ({ cls := "CanalStepsModel", name := "water", desc := "(I)I" } : Jvm.MethodName)) ∈ lw_all := lw_g (lw_at lw_m5 174 rfl) rfl
theorem q1200 : (Jvm.Cond.code ({ cls := "CanalStepsModel", name := "water", desc := "(I)I" } : Jvm.MethodName) prog_7_method_64_code (4 : Nat) (Option.some Jvm.ClassFile.FieldType.int)) ∈ lw_all := lw_g (lw_at lw_m5 175 rfl) rfl
theorem q1202 : (Jvm.Cond.instanceMethod ({ cls := "CanalStepsModel", name := "bestTurn", desc := "(I)I" } : Jvm.MethodName)) ∈ lw_all := lw_g (lw_at lw_m5 177 rfl) rfl
theorem q1203 : (Jvm.Cond.selects "CanalStepsModel" ({ cls := "CanalStepsModel", name := "bestTurn", desc := "(I)I" } : Jvm.MethodName) ({ cls := "CanalStepsModel", name := "bestTurn", desc := "(I)I" } : Jvm.MethodName)) ∈ lw_all := lw_g (lw_at lw_m5 178 rfl) rfl
theorem q1204 : (Jvm.Cond.code ({ cls := "CanalStepsModel", name := "bestTurn", desc := "(I)I" } : Jvm.MethodName) prog_7_method_66_code (6 : Nat) (Option.some Jvm.ClassFile.FieldType.int)) ∈ lw_all := lw_g (lw_at lw_m5 179 rfl) rfl
theorem q1205 : (Jvm.Cond.methodLink "CanalStepsModel" (216 : Nat) ({ cls := "CanalStepsModel", name := "wouldArrive", desc := "(I)I" } : Jvm.MethodName)) ∈ lw_all := lw_g (lw_at lw_m5 180 rfl) rfl
theorem q1206 : (Jvm.Cond.privateMethod ({ cls := "CanalStepsModel", name := "wouldArrive", desc := "(I)I" } : Jvm.MethodName)) ∈ lw_tbl := lw_at lw_m5 181 rfl
theorem q1207 : (Jvm.Cond.instanceMethod ({ cls := "CanalStepsModel", name := "wouldArrive", desc := "(I)I" } : Jvm.MethodName)) ∈ lw_all := lw_g (lw_at lw_m5 182 rfl) rfl
theorem q1208 : (Jvm.Cond.code ({ cls := "CanalStepsModel", name := "wouldArrive", desc := "(I)I" } : Jvm.MethodName) prog_7_method_65_code (3 : Nat) (Option.some Jvm.ClassFile.FieldType.int)) ∈ lw_all := lw_g (lw_at lw_m5 183 rfl) rfl
theorem q1210 : (Jvm.Cond.instanceMethod ({ cls := "CanalStepsModel", name := "ifTicks", desc := "(II)I" } : Jvm.MethodName)) ∈ lw_all := lw_g (lw_at lw_m5 185 rfl) rfl
theorem q1211 : (Jvm.Cond.selects "CanalStepsModel" ({ cls := "CanalStepsModel", name := "ifTicks", desc := "(II)I" } : Jvm.MethodName) ({ cls := "CanalStepsModel", name := "ifTicks", desc := "(II)I" } : Jvm.MethodName)) ∈ lw_all := lw_g (lw_at lw_m5 186 rfl) rfl
theorem q1212 : (Jvm.Cond.code ({ cls := "CanalStepsModel", name := "ifTicks", desc := "(II)I" } : Jvm.MethodName) prog_7_method_69_code (7 : Nat) (Option.some Jvm.ClassFile.FieldType.int)) ∈ lw_all := lw_g (lw_at lw_m5 187 rfl) rfl
theorem q1213 : (Jvm.Cond.methodLink "CanalStepsModel" (219 : Nat) ({ cls := "CanalStepsModel", name := "sumOf", desc := "(I)I" } : Jvm.MethodName)) ∈ lw_all := lw_g (lw_at lw_m5 188 rfl) rfl
theorem q1214 : (Jvm.Cond.privateMethod ({ cls := "CanalStepsModel", name := "sumOf", desc := "(I)I" } : Jvm.MethodName)) ∈ lw_tbl := lw_at lw_m5 189 rfl
theorem q1215 : (Jvm.Cond.instanceMethod ({ cls := "CanalStepsModel", name := "sumOf", desc := "(I)I" } : Jvm.MethodName)) ∈ lw_all := lw_g (lw_at lw_m5 190 rfl) rfl
theorem q1216 : (Jvm.Cond.code ({ cls := "CanalStepsModel", name := "sumOf", desc := "(I)I" } : Jvm.MethodName) prog_7_method_67_code (4 : Nat) (Option.some Jvm.ClassFile.FieldType.int)) ∈ lw_all := lw_g (lw_at lw_m5 191 rfl) rfl
theorem q1217 : (Jvm.Cond.methodLink "CanalStepsModel" (222 : Nat) ({ cls := "CanalStepsModel", name := "aground", desc := "()I" } : Jvm.MethodName)) ∈ lw_all := lw_g (lw_at lw_m5 192 rfl) rfl
theorem q1218 : (Jvm.Cond.privateMethod ({ cls := "CanalStepsModel", name := "aground", desc := "()I" } : Jvm.MethodName)) ∈ lw_tbl := lw_at lw_m5 193 rfl
theorem q1219 : (Jvm.Cond.instanceMethod ({ cls := "CanalStepsModel", name := "aground", desc := "()I" } : Jvm.MethodName)) ∈ lw_all := lw_g (lw_at lw_m5 194 rfl) rfl
theorem q1220 : (Jvm.Cond.code ({ cls := "CanalStepsModel", name := "aground", desc := "()I" } : Jvm.MethodName) prog_7_method_68_code (3 : Nat) (Option.some Jvm.ClassFile.FieldType.int)) ∈ lw_all := lw_g (lw_at lw_m5 195 rfl) rfl
theorem q1222 : (Jvm.Cond.instanceMethod ({ cls := "CanalStepsModel", name := "count", desc := "(I)I" } : Jvm.MethodName)) ∈ lw_all := lw_g (lw_at lw_m5 197 rfl) rfl
theorem q1223 : (Jvm.Cond.selects "CanalStepsModel" ({ cls := "CanalStepsModel", name := "count", desc := "(I)I" } : Jvm.MethodName) ({ cls := "CanalStepsModel", name := "count", desc := "(I)I" } : Jvm.MethodName)) ∈ lw_all := lw_g (lw_at lw_m5 198 rfl) rfl
theorem q1224 : (Jvm.Cond.code ({ cls := "CanalStepsModel", name := "count", desc := "(I)I" } : Jvm.MethodName) prog_7_method_70_code (2 : Nat) (Option.some Jvm.ClassFile.FieldType.int)) ∈ lw_all := lw_g (lw_at lw_m5 199 rfl) rfl
theorem q1237 : (Jvm.Cond.castable "CanalStepsModel" "java/lang/Object") ∈ lw_tbl := lw_at lw_m5 212 rfl
theorem in_X2 : ∀ w ∈ wsX20, w ∈ lw_all := lw_in wsX20 [911, 913, 915, 917, 919, 921, 923, 925, 927, 929, 931, 933, 935, 937, 939, 941, 943, 945, 947, 949] (by decide +kernel) (by decide +kernel)
