/-! CanalSteps -/
set_option maxRecDepth 100000
def RX0 : String := "CanalSteps"
def TX0 : u_T := fun k => match k with
  | 0 => ("CanalSteps", "canal", "LCanalSteps$Canal;", false)
  | 1 => ("CanalSteps", "snapshot", "LCanalSteps$Canal;", false)
  | 2 => ("CanalSteps", "history", "Ljava/util/List;", true)
  | 3 => ("CanalSteps", "text", "Ljava/lang/StringBuilder;", true)
  | 4 => ("CanalSteps", "stopped", "I", false)
  | _ => ("CanalSteps", "stoppedBy", "I", false)
def tyX0 : Nat → FieldType := fun k => match k with
  | 0 => .object "CanalSteps$Canal"
  | 1 => .object "CanalSteps$Canal"
  | 2 => .object "java/util/List"
  | 3 => .object "java/lang/StringBuilder"
  | 4 => .int
  | _ => .int
abbrev wsX00 : List Cond := u_ws RX0 TX0 6
theorem nmX0 : ∀ a, a < 6 → ∀ b, b < 6 → a ≠ b → (TX0 a).2.1 ≠ (TX0 b).2.1 := by decide +kernel
theorem tyX0_ok : ∀ k, k < 6 → parseFieldDescriptor (TX0 k).2.2.1 = some (tyX0 k) := by decide +kernel
abbrev cX0_init : ByteArray := prog_1_method_5_code
def yX0_init : MethodName := ⟨RX0, "<init>", "()V"⟩
def dkwX0_init_1 : List UInt8 := [181, 0, 23, 42, 187, 0, 27, 89, 183, 0, 29, 181, 0, 30, 42, 16, 251, 181, 0, 34, 177]
abbrev dktX0_init_1 : List UInt8 := dkwX0_init_1 ++ []
def dkwX0_init_0 : List UInt8 := [42, 183, 0, 7, 42, 187, 0, 13, 89, 183, 0, 15, 181, 0, 16, 42, 187, 0, 20, 89, 183, 0, 22]
abbrev dktX0_init_0 : List UInt8 := dkwX0_init_0 ++ dktX0_init_1
theorem dksX0_init_0 : cX0_init.data.toList.drop 0 = dktX0_init_0 := by decide +kernel
theorem dksX0_init_1 : cX0_init.data.toList.drop 23 = dktX0_init_1 := dk_seg dksX0_init_0 23 rfl rfl
theorem dX0_init_0 : decode cX0_init 0 = .ok (.aload_n 0, 1) := dk_42 (dk_at dksX0_init_0 0 rfl rfl)
theorem dX0_init_1 : decode cX0_init 1 = .ok (.invokespecial 7, 3) := dk_183 0 7 (dk_at dksX0_init_0 1 rfl rfl)
theorem dX0_init_4 : decode cX0_init 4 = .ok (.aload_n 0, 1) := dk_42 (dk_at dksX0_init_0 4 rfl rfl)
theorem dX0_init_5 : decode cX0_init 5 = .ok (.new 13, 3) := dk_187 0 13 (dk_at dksX0_init_0 5 rfl rfl)
theorem dX0_init_8 : decode cX0_init 8 = .ok (.dup, 1) := dk_89 (dk_at dksX0_init_0 8 rfl rfl)
theorem dX0_init_9 : decode cX0_init 9 = .ok (.invokespecial 15, 3) := dk_183 0 15 (dk_at dksX0_init_0 9 rfl rfl)
theorem dX0_init_12 : decode cX0_init 12 = .ok (.putfield 16, 3) := dk_181 0 16 (dk_at dksX0_init_0 12 rfl rfl)
theorem dX0_init_15 : decode cX0_init 15 = .ok (.aload_n 0, 1) := dk_42 (dk_at dksX0_init_0 15 rfl rfl)
theorem dX0_init_16 : decode cX0_init 16 = .ok (.new 20, 3) := dk_187 0 20 (dk_at dksX0_init_0 16 rfl rfl)
theorem dX0_init_19 : decode cX0_init 19 = .ok (.dup, 1) := dk_89 (dk_at dksX0_init_0 19 rfl rfl)
theorem dX0_init_20 : decode cX0_init 20 = .ok (.invokespecial 22, 3) := dk_183 0 22 (dk_at dksX0_init_0 20 rfl rfl)
theorem dX0_init_23 : decode cX0_init 23 = .ok (.putfield 23, 3) := dk_181 0 23 (dk_at dksX0_init_1 0 rfl rfl)
theorem dX0_init_26 : decode cX0_init 26 = .ok (.aload_n 0, 1) := dk_42 (dk_at dksX0_init_1 3 rfl rfl)
theorem dX0_init_27 : decode cX0_init 27 = .ok (.new 27, 3) := dk_187 0 27 (dk_at dksX0_init_1 4 rfl rfl)
theorem dX0_init_30 : decode cX0_init 30 = .ok (.dup, 1) := dk_89 (dk_at dksX0_init_1 7 rfl rfl)
theorem dX0_init_31 : decode cX0_init 31 = .ok (.invokespecial 29, 3) := dk_183 0 29 (dk_at dksX0_init_1 8 rfl rfl)
theorem dX0_init_34 : decode cX0_init 34 = .ok (.putfield 30, 3) := dk_181 0 30 (dk_at dksX0_init_1 11 rfl rfl)
theorem dX0_init_37 : decode cX0_init 37 = .ok (.aload_n 0, 1) := dk_42 (dk_at dksX0_init_1 14 rfl rfl)
theorem dX0_init_38 : decode cX0_init 38 = .ok (.bipush (-5), 2) := dk_16 251 (dk_at dksX0_init_1 15 rfl rfl)
theorem dX0_init_40 : decode cX0_init 40 = .ok (.putfield 34, 3) := dk_181 0 34 (dk_at dksX0_init_1 17 rfl rfl)
theorem dX0_init_43 : decode cX0_init 43 = .ok (.return_, 1) := dk_177 (dk_at dksX0_init_1 20 rfl rfl)
abbrev cX0_boat : ByteArray := prog_1_method_11_code
def yX0_boat : MethodName := ⟨RX0, "boat", "(IIII)I"⟩
def dkwX0_boat_1 : List UInt8 := [182, 0, 101, 172]
abbrev dktX0_boat_1 : List UInt8 := dkwX0_boat_1 ++ []
def dkwX0_boat_0 : List UInt8 := [42, 180, 0, 16, 182, 0, 93, 58, 5, 42, 25, 5, 25, 5, 27, 28, 29, 21, 4, 184, 0, 97]
abbrev dktX0_boat_0 : List UInt8 := dkwX0_boat_0 ++ dktX0_boat_1
theorem dksX0_boat_0 : cX0_boat.data.toList.drop 0 = dktX0_boat_0 := by decide +kernel
theorem dksX0_boat_1 : cX0_boat.data.toList.drop 22 = dktX0_boat_1 := dk_seg dksX0_boat_0 22 rfl rfl
theorem dX0_boat_0 : decode cX0_boat 0 = .ok (.aload_n 0, 1) := dk_42 (dk_at dksX0_boat_0 0 rfl rfl)
theorem dX0_boat_1 : decode cX0_boat 1 = .ok (.getfield 16, 3) := dk_180 0 16 (dk_at dksX0_boat_0 1 rfl rfl)
theorem dX0_boat_4 : decode cX0_boat 4 = .ok (.invokevirtual 93, 3) := dk_182 0 93 (dk_at dksX0_boat_0 4 rfl rfl)
theorem dX0_boat_7 : decode cX0_boat 7 = .ok (.astore 5, 2) := dk_58 5 (dk_at dksX0_boat_0 7 rfl rfl)
theorem dX0_boat_9 : decode cX0_boat 9 = .ok (.aload_n 0, 1) := dk_42 (dk_at dksX0_boat_0 9 rfl rfl)
theorem dX0_boat_10 : decode cX0_boat 10 = .ok (.aload 5, 2) := dk_25 5 (dk_at dksX0_boat_0 10 rfl rfl)
theorem dX0_boat_12 : decode cX0_boat 12 = .ok (.aload 5, 2) := dk_25 5 (dk_at dksX0_boat_0 12 rfl rfl)
theorem dX0_boat_14 : decode cX0_boat 14 = .ok (.iload_n 1, 1) := dk_27 (dk_at dksX0_boat_0 14 rfl rfl)
theorem dX0_boat_15 : decode cX0_boat 15 = .ok (.iload_n 2, 1) := dk_28 (dk_at dksX0_boat_0 15 rfl rfl)
theorem dX0_boat_16 : decode cX0_boat 16 = .ok (.iload_n 3, 1) := dk_29 (dk_at dksX0_boat_0 16 rfl rfl)
theorem dX0_boat_17 : decode cX0_boat 17 = .ok (.iload 4, 2) := dk_21 4 (dk_at dksX0_boat_0 17 rfl rfl)
theorem dX0_boat_19 : decode cX0_boat 19 = .ok (.invokestatic 97, 3) := dk_184 0 97 (dk_at dksX0_boat_0 19 rfl rfl)
theorem dX0_boat_22 : decode cX0_boat 22 = .ok (.invokevirtual 101, 3) := dk_182 0 101 (dk_at dksX0_boat_1 0 rfl rfl)
theorem dX0_boat_25 : decode cX0_boat 25 = .ok (.ireturn, 1) := dk_172 (dk_at dksX0_boat_1 3 rfl rfl)
abbrev cX0_boatIn : ByteArray := prog_1_method_8_code
def yX0_boatIn : MethodName := ⟨RX0, "boatIn", "(LCanalSteps$Canal;IIII)I"⟩
def dkwX0_boatIn_4 : List UInt8 := [185, 0, 38, 1, 0, 4, 100, 172]
abbrev dktX0_boatIn_4 : List UInt8 := dkwX0_boatIn_4 ++ []
def dkwX0_boatIn_3 : List UInt8 := [180, 0, 60, 185, 0, 38, 1, 0, 27, 28, 29, 21, 4, 183, 0, 65, 182, 0, 68, 42, 180, 0, 60]
abbrev dktX0_boatIn_3 : List UInt8 := dkwX0_boatIn_3 ++ dktX0_boatIn_4
def dkwX0_boatIn_2 : List UInt8 := [180, 0, 60, 185, 0, 38, 1, 0, 16, 16, 160, 0, 6, 16, 253, 172, 42, 187, 0, 63, 89, 42]
abbrev dktX0_boatIn_2 : List UInt8 := dkwX0_boatIn_2 ++ dktX0_boatIn_3
def dkwX0_boatIn_1 : List UInt8 := [153, 0, 19, 28, 29, 159, 0, 14, 21, 4, 4, 16, 60, 184, 0, 3, 154, 0, 6, 16, 254, 172, 42]
abbrev dktX0_boatIn_1 : List UInt8 := dkwX0_boatIn_1 ++ dktX0_boatIn_2
def dkwX0_boatIn_0 : List UInt8 := [28, 184, 0, 56, 153, 0, 10, 29, 184, 0, 56, 154, 0, 5, 2, 172, 27, 4, 16, 6, 184, 0, 3]
abbrev dktX0_boatIn_0 : List UInt8 := dkwX0_boatIn_0 ++ dktX0_boatIn_1
theorem dksX0_boatIn_0 : cX0_boatIn.data.toList.drop 0 = dktX0_boatIn_0 := by decide +kernel
theorem dksX0_boatIn_1 : cX0_boatIn.data.toList.drop 23 = dktX0_boatIn_1 := dk_seg dksX0_boatIn_0 23 rfl rfl
theorem dksX0_boatIn_2 : cX0_boatIn.data.toList.drop 46 = dktX0_boatIn_2 := dk_seg dksX0_boatIn_1 23 rfl rfl
theorem dksX0_boatIn_3 : cX0_boatIn.data.toList.drop 68 = dktX0_boatIn_3 := dk_seg dksX0_boatIn_2 22 rfl rfl
theorem dksX0_boatIn_4 : cX0_boatIn.data.toList.drop 91 = dktX0_boatIn_4 := dk_seg dksX0_boatIn_3 23 rfl rfl
theorem dX0_boatIn_0 : decode cX0_boatIn 0 = .ok (.iload_n 2, 1) := dk_28 (dk_at dksX0_boatIn_0 0 rfl rfl)
theorem dX0_boatIn_1 : decode cX0_boatIn 1 = .ok (.invokestatic 56, 3) := dk_184 0 56 (dk_at dksX0_boatIn_0 1 rfl rfl)
theorem dX0_boatIn_4 : decode cX0_boatIn 4 = .ok (.ifCond .eq 10, 3) := dk_153 0 10 (dk_at dksX0_boatIn_0 4 rfl rfl)
theorem dX0_boatIn_7 : decode cX0_boatIn 7 = .ok (.iload_n 3, 1) := dk_29 (dk_at dksX0_boatIn_0 7 rfl rfl)
theorem dX0_boatIn_8 : decode cX0_boatIn 8 = .ok (.invokestatic 56, 3) := dk_184 0 56 (dk_at dksX0_boatIn_0 8 rfl rfl)
theorem dX0_boatIn_11 : decode cX0_boatIn 11 = .ok (.ifCond .ne 5, 3) := dk_154 0 5 (dk_at dksX0_boatIn_0 11 rfl rfl)
theorem dX0_boatIn_14 : decode cX0_boatIn 14 = .ok (.iconst (-1), 1) := dk_2 (dk_at dksX0_boatIn_0 14 rfl rfl)
theorem dX0_boatIn_15 : decode cX0_boatIn 15 = .ok (.ireturn, 1) := dk_172 (dk_at dksX0_boatIn_0 15 rfl rfl)
theorem dX0_boatIn_16 : decode cX0_boatIn 16 = .ok (.iload_n 1, 1) := dk_27 (dk_at dksX0_boatIn_0 16 rfl rfl)
theorem dX0_boatIn_17 : decode cX0_boatIn 17 = .ok (.iconst 1, 1) := dk_4 (dk_at dksX0_boatIn_0 17 rfl rfl)
theorem dX0_boatIn_18 : decode cX0_boatIn 18 = .ok (.bipush 6, 2) := dk_16 6 (dk_at dksX0_boatIn_0 18 rfl rfl)
theorem dX0_boatIn_20 : decode cX0_boatIn 20 = .ok (.invokestatic 3, 3) := dk_184 0 3 (dk_at dksX0_boatIn_0 20 rfl rfl)
theorem dX0_boatIn_23 : decode cX0_boatIn 23 = .ok (.ifCond .eq 19, 3) := dk_153 0 19 (dk_at dksX0_boatIn_1 0 rfl rfl)
theorem dX0_boatIn_26 : decode cX0_boatIn 26 = .ok (.iload_n 2, 1) := dk_28 (dk_at dksX0_boatIn_1 3 rfl rfl)
theorem dX0_boatIn_27 : decode cX0_boatIn 27 = .ok (.iload_n 3, 1) := dk_29 (dk_at dksX0_boatIn_1 4 rfl rfl)
theorem dX0_boatIn_28 : decode cX0_boatIn 28 = .ok (.if_icmp .eq 14, 3) := dk_159 0 14 (dk_at dksX0_boatIn_1 5 rfl rfl)
theorem dX0_boatIn_31 : decode cX0_boatIn 31 = .ok (.iload 4, 2) := dk_21 4 (dk_at dksX0_boatIn_1 8 rfl rfl)
theorem dX0_boatIn_33 : decode cX0_boatIn 33 = .ok (.iconst 1, 1) := dk_4 (dk_at dksX0_boatIn_1 10 rfl rfl)
theorem dX0_boatIn_34 : decode cX0_boatIn 34 = .ok (.bipush 60, 2) := dk_16 60 (dk_at dksX0_boatIn_1 11 rfl rfl)
theorem dX0_boatIn_36 : decode cX0_boatIn 36 = .ok (.invokestatic 3, 3) := dk_184 0 3 (dk_at dksX0_boatIn_1 13 rfl rfl)
theorem dX0_boatIn_39 : decode cX0_boatIn 39 = .ok (.ifCond .ne 6, 3) := dk_154 0 6 (dk_at dksX0_boatIn_1 16 rfl rfl)
theorem dX0_boatIn_42 : decode cX0_boatIn 42 = .ok (.bipush (-2), 2) := dk_16 254 (dk_at dksX0_boatIn_1 19 rfl rfl)
theorem dX0_boatIn_44 : decode cX0_boatIn 44 = .ok (.ireturn, 1) := dk_172 (dk_at dksX0_boatIn_1 21 rfl rfl)
theorem dX0_boatIn_45 : decode cX0_boatIn 45 = .ok (.aload_n 0, 1) := dk_42 (dk_at dksX0_boatIn_1 22 rfl rfl)
theorem dX0_boatIn_46 : decode cX0_boatIn 46 = .ok (.getfield 60, 3) := dk_180 0 60 (dk_at dksX0_boatIn_2 0 rfl rfl)
theorem dX0_boatIn_49 : decode cX0_boatIn 49 = .ok (.invokeinterface 38 1, 5) := by decide +kernel
theorem dX0_boatIn_54 : decode cX0_boatIn 54 = .ok (.bipush 16, 2) := dk_16 16 (dk_at dksX0_boatIn_2 8 rfl rfl)
theorem dX0_boatIn_56 : decode cX0_boatIn 56 = .ok (.if_icmp .ne 6, 3) := dk_160 0 6 (dk_at dksX0_boatIn_2 10 rfl rfl)
theorem dX0_boatIn_59 : decode cX0_boatIn 59 = .ok (.bipush (-3), 2) := dk_16 253 (dk_at dksX0_boatIn_2 13 rfl rfl)
theorem dX0_boatIn_61 : decode cX0_boatIn 61 = .ok (.ireturn, 1) := dk_172 (dk_at dksX0_boatIn_2 15 rfl rfl)
theorem dX0_boatIn_62 : decode cX0_boatIn 62 = .ok (.aload_n 0, 1) := dk_42 (dk_at dksX0_boatIn_2 16 rfl rfl)
theorem dX0_boatIn_63 : decode cX0_boatIn 63 = .ok (.new 63, 3) := dk_187 0 63 (dk_at dksX0_boatIn_2 17 rfl rfl)
theorem dX0_boatIn_66 : decode cX0_boatIn 66 = .ok (.dup, 1) := dk_89 (dk_at dksX0_boatIn_2 20 rfl rfl)
theorem dX0_boatIn_67 : decode cX0_boatIn 67 = .ok (.aload_n 0, 1) := dk_42 (dk_at dksX0_boatIn_2 21 rfl rfl)
theorem dX0_boatIn_68 : decode cX0_boatIn 68 = .ok (.getfield 60, 3) := dk_180 0 60 (dk_at dksX0_boatIn_3 0 rfl rfl)
theorem dX0_boatIn_71 : decode cX0_boatIn 71 = .ok (.invokeinterface 38 1, 5) := by decide +kernel
theorem dX0_boatIn_76 : decode cX0_boatIn 76 = .ok (.iload_n 1, 1) := dk_27 (dk_at dksX0_boatIn_3 8 rfl rfl)
theorem dX0_boatIn_77 : decode cX0_boatIn 77 = .ok (.iload_n 2, 1) := dk_28 (dk_at dksX0_boatIn_3 9 rfl rfl)
theorem dX0_boatIn_78 : decode cX0_boatIn 78 = .ok (.iload_n 3, 1) := dk_29 (dk_at dksX0_boatIn_3 10 rfl rfl)
theorem dX0_boatIn_79 : decode cX0_boatIn 79 = .ok (.iload 4, 2) := dk_21 4 (dk_at dksX0_boatIn_3 11 rfl rfl)
theorem dX0_boatIn_81 : decode cX0_boatIn 81 = .ok (.invokespecial 65, 3) := dk_183 0 65 (dk_at dksX0_boatIn_3 13 rfl rfl)
theorem dX0_boatIn_84 : decode cX0_boatIn 84 = .ok (.invokevirtual 68, 3) := dk_182 0 68 (dk_at dksX0_boatIn_3 16 rfl rfl)
theorem dX0_boatIn_87 : decode cX0_boatIn 87 = .ok (.aload_n 0, 1) := dk_42 (dk_at dksX0_boatIn_3 19 rfl rfl)
theorem dX0_boatIn_88 : decode cX0_boatIn 88 = .ok (.getfield 60, 3) := dk_180 0 60 (dk_at dksX0_boatIn_3 20 rfl rfl)
theorem dX0_boatIn_91 : decode cX0_boatIn 91 = .ok (.invokeinterface 38 1, 5) := by decide +kernel
theorem dX0_boatIn_96 : decode cX0_boatIn 96 = .ok (.iconst 1, 1) := dk_4 (dk_at dksX0_boatIn_4 5 rfl rfl)
theorem dX0_boatIn_97 : decode cX0_boatIn 97 = .ok (.isub, 1) := dk_100 (dk_at dksX0_boatIn_4 6 rfl rfl)
theorem dX0_boatIn_98 : decode cX0_boatIn 98 = .ok (.ireturn, 1) := dk_172 (dk_at dksX0_boatIn_4 7 rfl rfl)
abbrev cX0_isPound : ByteArray := prog_1_method_3_code
def yX0_isPound : MethodName := ⟨RX0, "isPound", "(I)Z"⟩
def dkwX0_isPound_0 : List UInt8 := [26, 3, 8, 184, 0, 3, 172]
abbrev dktX0_isPound_0 : List UInt8 := dkwX0_isPound_0 ++ []
theorem dksX0_isPound_0 : cX0_isPound.data.toList.drop 0 = dktX0_isPound_0 := by decide +kernel
theorem dX0_isPound_0 : decode cX0_isPound 0 = .ok (.iload_n 0, 1) := dk_26 (dk_at dksX0_isPound_0 0 rfl rfl)
theorem dX0_isPound_1 : decode cX0_isPound 1 = .ok (.iconst 0, 1) := dk_3 (dk_at dksX0_isPound_0 1 rfl rfl)
theorem dX0_isPound_2 : decode cX0_isPound 2 = .ok (.iconst 5, 1) := dk_8 (dk_at dksX0_isPound_0 2 rfl rfl)
theorem dX0_isPound_3 : decode cX0_isPound 3 = .ok (.invokestatic 3, 3) := dk_184 0 3 (dk_at dksX0_isPound_0 3 rfl rfl)
theorem dX0_isPound_6 : decode cX0_isPound 6 = .ok (.ireturn, 1) := dk_172 (dk_at dksX0_isPound_0 6 rfl rfl)
abbrev cX0_inRange : ByteArray := prog_1_method_1_code
def yX0_inRange : MethodName := ⟨RX0, "inRange", "(III)Z"⟩
def dkwX0_inRange_0 : List UInt8 := [26, 27, 161, 0, 12, 26, 28, 163, 0, 7, 4, 167, 0, 4, 3, 172]
abbrev dktX0_inRange_0 : List UInt8 := dkwX0_inRange_0 ++ []
theorem dksX0_inRange_0 : cX0_inRange.data.toList.drop 0 = dktX0_inRange_0 := by decide +kernel
theorem dX0_inRange_0 : decode cX0_inRange 0 = .ok (.iload_n 0, 1) := dk_26 (dk_at dksX0_inRange_0 0 rfl rfl)
theorem dX0_inRange_1 : decode cX0_inRange 1 = .ok (.iload_n 1, 1) := dk_27 (dk_at dksX0_inRange_0 1 rfl rfl)
theorem dX0_inRange_2 : decode cX0_inRange 2 = .ok (.if_icmp .lt 12, 3) := dk_161 0 12 (dk_at dksX0_inRange_0 2 rfl rfl)
theorem dX0_inRange_5 : decode cX0_inRange 5 = .ok (.iload_n 0, 1) := dk_26 (dk_at dksX0_inRange_0 5 rfl rfl)
theorem dX0_inRange_6 : decode cX0_inRange 6 = .ok (.iload_n 2, 1) := dk_28 (dk_at dksX0_inRange_0 6 rfl rfl)
theorem dX0_inRange_7 : decode cX0_inRange 7 = .ok (.if_icmp .gt 7, 3) := dk_163 0 7 (dk_at dksX0_inRange_0 7 rfl rfl)
theorem dX0_inRange_10 : decode cX0_inRange 10 = .ok (.iconst 1, 1) := dk_4 (dk_at dksX0_inRange_0 10 rfl rfl)
theorem dX0_inRange_11 : decode cX0_inRange 11 = .ok (.goto 4, 3) := dk_167 0 4 (dk_at dksX0_inRange_0 11 rfl rfl)
theorem dX0_inRange_14 : decode cX0_inRange 14 = .ok (.iconst 0, 1) := dk_3 (dk_at dksX0_inRange_0 14 rfl rfl)
theorem dX0_inRange_15 : decode cX0_inRange 15 = .ok (.ireturn, 1) := dk_172 (dk_at dksX0_inRange_0 15 rfl rfl)
abbrev cX0_carried : ByteArray := prog_1_method_7_code
def yX0_carried : MethodName := ⟨RX0, "carried", "(LCanalSteps$Canal;I)I"⟩
def dkwX0_carried_0 : List UInt8 := [28, 156, 0, 7, 28, 167, 0, 9, 42, 43, 28, 182, 0, 52, 172]
abbrev dktX0_carried_0 : List UInt8 := dkwX0_carried_0 ++ []
theorem dksX0_carried_0 : cX0_carried.data.toList.drop 0 = dktX0_carried_0 := by decide +kernel
theorem dX0_carried_0 : decode cX0_carried 0 = .ok (.iload_n 2, 1) := dk_28 (dk_at dksX0_carried_0 0 rfl rfl)
theorem dX0_carried_1 : decode cX0_carried 1 = .ok (.ifCond .ge 7, 3) := dk_156 0 7 (dk_at dksX0_carried_0 1 rfl rfl)
theorem dX0_carried_4 : decode cX0_carried 4 = .ok (.iload_n 2, 1) := dk_28 (dk_at dksX0_carried_0 4 rfl rfl)
theorem dX0_carried_5 : decode cX0_carried 5 = .ok (.goto 9, 3) := dk_167 0 9 (dk_at dksX0_carried_0 5 rfl rfl)
theorem dX0_carried_8 : decode cX0_carried 8 = .ok (.aload_n 0, 1) := dk_42 (dk_at dksX0_carried_0 8 rfl rfl)
theorem dX0_carried_9 : decode cX0_carried 9 = .ok (.aload_n 1, 1) := dk_43 (dk_at dksX0_carried_0 9 rfl rfl)
theorem dX0_carried_10 : decode cX0_carried 10 = .ok (.iload_n 2, 1) := dk_28 (dk_at dksX0_carried_0 10 rfl rfl)
theorem dX0_carried_11 : decode cX0_carried 11 = .ok (.invokevirtual 52, 3) := dk_182 0 52 (dk_at dksX0_carried_0 11 rfl rfl)
theorem dX0_carried_14 : decode cX0_carried 14 = .ok (.ireturn, 1) := dk_172 (dk_at dksX0_carried_0 14 rfl rfl)
abbrev cX0_accept : ByteArray := prog_1_method_6_code
def yX0_accept : MethodName := ⟨RX0, "accept", "(LCanalSteps$Canal;I)I"⟩
def dkwX0_accept_1 : List UInt8 := [42, 180, 0, 23, 42, 180, 0, 16, 185, 0, 48, 2, 0, 87, 42, 43, 181, 0, 16, 28, 172]
abbrev dktX0_accept_1 : List UInt8 := dkwX0_accept_1 ++ []
def dkwX0_accept_0 : List UInt8 := [42, 180, 0, 23, 185, 0, 38, 1, 0, 7, 160, 0, 14, 42, 180, 0, 23, 3, 185, 0, 44, 2, 0, 87]
abbrev dktX0_accept_0 : List UInt8 := dkwX0_accept_0 ++ dktX0_accept_1
theorem dksX0_accept_0 : cX0_accept.data.toList.drop 0 = dktX0_accept_0 := by decide +kernel
theorem dksX0_accept_1 : cX0_accept.data.toList.drop 24 = dktX0_accept_1 := dk_seg dksX0_accept_0 24 rfl rfl
theorem dX0_accept_0 : decode cX0_accept 0 = .ok (.aload_n 0, 1) := dk_42 (dk_at dksX0_accept_0 0 rfl rfl)
theorem dX0_accept_1 : decode cX0_accept 1 = .ok (.getfield 23, 3) := dk_180 0 23 (dk_at dksX0_accept_0 1 rfl rfl)
theorem dX0_accept_4 : decode cX0_accept 4 = .ok (.invokeinterface 38 1, 5) := by decide +kernel
theorem dX0_accept_9 : decode cX0_accept 9 = .ok (.iconst 4, 1) := dk_7 (dk_at dksX0_accept_0 9 rfl rfl)
theorem dX0_accept_10 : decode cX0_accept 10 = .ok (.if_icmp .ne 14, 3) := dk_160 0 14 (dk_at dksX0_accept_0 10 rfl rfl)
theorem dX0_accept_13 : decode cX0_accept 13 = .ok (.aload_n 0, 1) := dk_42 (dk_at dksX0_accept_0 13 rfl rfl)
theorem dX0_accept_14 : decode cX0_accept 14 = .ok (.getfield 23, 3) := dk_180 0 23 (dk_at dksX0_accept_0 14 rfl rfl)
theorem dX0_accept_17 : decode cX0_accept 17 = .ok (.iconst 0, 1) := dk_3 (dk_at dksX0_accept_0 17 rfl rfl)
theorem dX0_accept_18 : decode cX0_accept 18 = .ok (.invokeinterface 44 2, 5) := by decide +kernel
theorem dX0_accept_23 : decode cX0_accept 23 = .ok (.pop, 1) := dk_87 (dk_at dksX0_accept_0 23 rfl rfl)
theorem dX0_accept_24 : decode cX0_accept 24 = .ok (.aload_n 0, 1) := dk_42 (dk_at dksX0_accept_1 0 rfl rfl)
theorem dX0_accept_25 : decode cX0_accept 25 = .ok (.getfield 23, 3) := dk_180 0 23 (dk_at dksX0_accept_1 1 rfl rfl)
theorem dX0_accept_28 : decode cX0_accept 28 = .ok (.aload_n 0, 1) := dk_42 (dk_at dksX0_accept_1 4 rfl rfl)
theorem dX0_accept_29 : decode cX0_accept 29 = .ok (.getfield 16, 3) := dk_180 0 16 (dk_at dksX0_accept_1 5 rfl rfl)
theorem dX0_accept_32 : decode cX0_accept 32 = .ok (.invokeinterface 48 2, 5) := by decide +kernel
theorem dX0_accept_37 : decode cX0_accept 37 = .ok (.pop, 1) := dk_87 (dk_at dksX0_accept_1 13 rfl rfl)
theorem dX0_accept_38 : decode cX0_accept 38 = .ok (.aload_n 0, 1) := dk_42 (dk_at dksX0_accept_1 14 rfl rfl)
theorem dX0_accept_39 : decode cX0_accept 39 = .ok (.aload_n 1, 1) := dk_43 (dk_at dksX0_accept_1 15 rfl rfl)
theorem dX0_accept_40 : decode cX0_accept 40 = .ok (.putfield 16, 3) := dk_181 0 16 (dk_at dksX0_accept_1 16 rfl rfl)
theorem dX0_accept_43 : decode cX0_accept 43 = .ok (.iload_n 2, 1) := dk_28 (dk_at dksX0_accept_1 19 rfl rfl)
theorem dX0_accept_44 : decode cX0_accept 44 = .ok (.ireturn, 1) := dk_172 (dk_at dksX0_accept_1 20 rfl rfl)
abbrev cX0_load : ByteArray := prog_1_method_12_code
def yX0_load : MethodName := ⟨RX0, "load", "(II)I"⟩
def dkwX0_load_4 : List UInt8 := [180, 0, 114, 182, 0, 52, 172]
abbrev dktX0_load_4 : List UInt8 := dkwX0_load_4 ++ []
def dkwX0_load_3 : List UInt8 := [58, 4, 25, 4, 180, 0, 60, 27, 185, 0, 107, 2, 0, 192, 0, 63, 28, 181, 0, 114, 42, 25, 4, 45]
abbrev dktX0_load_3 : List UInt8 := dkwX0_load_3 ++ dktX0_load_4
def dkwX0_load_2 : List UInt8 := [153, 0, 6, 16, 252, 172, 45, 180, 0, 114, 28, 160, 0, 6, 16, 251, 172, 42, 180, 0, 16, 182, 0, 93]
abbrev dktX0_load_2 : List UInt8 := dkwX0_load_2 ++ dktX0_load_3
def dkwX0_load_1 : List UInt8 := [16, 254, 172, 42, 180, 0, 16, 180, 0, 60, 27, 185, 0, 107, 2, 0, 192, 0, 63, 78, 45, 182, 0, 110]
abbrev dktX0_load_1 : List UInt8 := dkwX0_load_1 ++ dktX0_load_2
def dkwX0_load_0 : List UInt8 := [42, 180, 0, 16, 27, 182, 0, 104, 154, 0, 5, 2, 172, 28, 4, 16, 60, 184, 0, 3, 154, 0, 6]
abbrev dktX0_load_0 : List UInt8 := dkwX0_load_0 ++ dktX0_load_1
theorem dksX0_load_0 : cX0_load.data.toList.drop 0 = dktX0_load_0 := by decide +kernel
theorem dksX0_load_1 : cX0_load.data.toList.drop 23 = dktX0_load_1 := dk_seg dksX0_load_0 23 rfl rfl
theorem dksX0_load_2 : cX0_load.data.toList.drop 47 = dktX0_load_2 := dk_seg dksX0_load_1 24 rfl rfl
theorem dksX0_load_3 : cX0_load.data.toList.drop 71 = dktX0_load_3 := dk_seg dksX0_load_2 24 rfl rfl
theorem dksX0_load_4 : cX0_load.data.toList.drop 95 = dktX0_load_4 := dk_seg dksX0_load_3 24 rfl rfl
theorem dX0_load_0 : decode cX0_load 0 = .ok (.aload_n 0, 1) := dk_42 (dk_at dksX0_load_0 0 rfl rfl)
theorem dX0_load_1 : decode cX0_load 1 = .ok (.getfield 16, 3) := dk_180 0 16 (dk_at dksX0_load_0 1 rfl rfl)
theorem dX0_load_4 : decode cX0_load 4 = .ok (.iload_n 1, 1) := dk_27 (dk_at dksX0_load_0 4 rfl rfl)
theorem dX0_load_5 : decode cX0_load 5 = .ok (.invokevirtual 104, 3) := dk_182 0 104 (dk_at dksX0_load_0 5 rfl rfl)
theorem dX0_load_8 : decode cX0_load 8 = .ok (.ifCond .ne 5, 3) := dk_154 0 5 (dk_at dksX0_load_0 8 rfl rfl)
theorem dX0_load_11 : decode cX0_load 11 = .ok (.iconst (-1), 1) := dk_2 (dk_at dksX0_load_0 11 rfl rfl)
theorem dX0_load_12 : decode cX0_load 12 = .ok (.ireturn, 1) := dk_172 (dk_at dksX0_load_0 12 rfl rfl)
theorem dX0_load_13 : decode cX0_load 13 = .ok (.iload_n 2, 1) := dk_28 (dk_at dksX0_load_0 13 rfl rfl)
theorem dX0_load_14 : decode cX0_load 14 = .ok (.iconst 1, 1) := dk_4 (dk_at dksX0_load_0 14 rfl rfl)
theorem dX0_load_15 : decode cX0_load 15 = .ok (.bipush 60, 2) := dk_16 60 (dk_at dksX0_load_0 15 rfl rfl)
theorem dX0_load_17 : decode cX0_load 17 = .ok (.invokestatic 3, 3) := dk_184 0 3 (dk_at dksX0_load_0 17 rfl rfl)
theorem dX0_load_20 : decode cX0_load 20 = .ok (.ifCond .ne 6, 3) := dk_154 0 6 (dk_at dksX0_load_0 20 rfl rfl)
theorem dX0_load_23 : decode cX0_load 23 = .ok (.bipush (-2), 2) := dk_16 254 (dk_at dksX0_load_1 0 rfl rfl)
theorem dX0_load_25 : decode cX0_load 25 = .ok (.ireturn, 1) := dk_172 (dk_at dksX0_load_1 2 rfl rfl)
theorem dX0_load_26 : decode cX0_load 26 = .ok (.aload_n 0, 1) := dk_42 (dk_at dksX0_load_1 3 rfl rfl)
theorem dX0_load_27 : decode cX0_load 27 = .ok (.getfield 16, 3) := dk_180 0 16 (dk_at dksX0_load_1 4 rfl rfl)
theorem dX0_load_30 : decode cX0_load 30 = .ok (.getfield 60, 3) := dk_180 0 60 (dk_at dksX0_load_1 7 rfl rfl)
theorem dX0_load_33 : decode cX0_load 33 = .ok (.iload_n 1, 1) := dk_27 (dk_at dksX0_load_1 10 rfl rfl)
theorem dX0_load_34 : decode cX0_load 34 = .ok (.invokeinterface 107 2, 5) := by decide +kernel
theorem dX0_load_39 : decode cX0_load 39 = .ok (.checkcast 63, 3) := dk_192 0 63 (dk_at dksX0_load_1 16 rfl rfl)
theorem dX0_load_42 : decode cX0_load 42 = .ok (.astore_n 3, 1) := dk_78 (dk_at dksX0_load_1 19 rfl rfl)
theorem dX0_load_43 : decode cX0_load 43 = .ok (.aload_n 3, 1) := dk_45 (dk_at dksX0_load_1 20 rfl rfl)
theorem dX0_load_44 : decode cX0_load 44 = .ok (.invokevirtual 110, 3) := dk_182 0 110 (dk_at dksX0_load_1 21 rfl rfl)
theorem dX0_load_47 : decode cX0_load 47 = .ok (.ifCond .eq 6, 3) := dk_153 0 6 (dk_at dksX0_load_2 0 rfl rfl)
theorem dX0_load_50 : decode cX0_load 50 = .ok (.bipush (-4), 2) := dk_16 252 (dk_at dksX0_load_2 3 rfl rfl)
theorem dX0_load_52 : decode cX0_load 52 = .ok (.ireturn, 1) := dk_172 (dk_at dksX0_load_2 5 rfl rfl)
theorem dX0_load_53 : decode cX0_load 53 = .ok (.aload_n 3, 1) := dk_45 (dk_at dksX0_load_2 6 rfl rfl)
theorem dX0_load_54 : decode cX0_load 54 = .ok (.getfield 114, 3) := dk_180 0 114 (dk_at dksX0_load_2 7 rfl rfl)
theorem dX0_load_57 : decode cX0_load 57 = .ok (.iload_n 2, 1) := dk_28 (dk_at dksX0_load_2 10 rfl rfl)
theorem dX0_load_58 : decode cX0_load 58 = .ok (.if_icmp .ne 6, 3) := dk_160 0 6 (dk_at dksX0_load_2 11 rfl rfl)
theorem dX0_load_61 : decode cX0_load 61 = .ok (.bipush (-5), 2) := dk_16 251 (dk_at dksX0_load_2 14 rfl rfl)
theorem dX0_load_63 : decode cX0_load 63 = .ok (.ireturn, 1) := dk_172 (dk_at dksX0_load_2 16 rfl rfl)
theorem dX0_load_64 : decode cX0_load 64 = .ok (.aload_n 0, 1) := dk_42 (dk_at dksX0_load_2 17 rfl rfl)
theorem dX0_load_65 : decode cX0_load 65 = .ok (.getfield 16, 3) := dk_180 0 16 (dk_at dksX0_load_2 18 rfl rfl)
theorem dX0_load_68 : decode cX0_load 68 = .ok (.invokevirtual 93, 3) := dk_182 0 93 (dk_at dksX0_load_2 21 rfl rfl)
theorem dX0_load_71 : decode cX0_load 71 = .ok (.astore 4, 2) := dk_58 4 (dk_at dksX0_load_3 0 rfl rfl)
theorem dX0_load_73 : decode cX0_load 73 = .ok (.aload 4, 2) := dk_25 4 (dk_at dksX0_load_3 2 rfl rfl)
theorem dX0_load_75 : decode cX0_load 75 = .ok (.getfield 60, 3) := dk_180 0 60 (dk_at dksX0_load_3 4 rfl rfl)
theorem dX0_load_78 : decode cX0_load 78 = .ok (.iload_n 1, 1) := dk_27 (dk_at dksX0_load_3 7 rfl rfl)
theorem dX0_load_79 : decode cX0_load 79 = .ok (.invokeinterface 107 2, 5) := by decide +kernel
theorem dX0_load_84 : decode cX0_load 84 = .ok (.checkcast 63, 3) := dk_192 0 63 (dk_at dksX0_load_3 13 rfl rfl)
theorem dX0_load_87 : decode cX0_load 87 = .ok (.iload_n 2, 1) := dk_28 (dk_at dksX0_load_3 16 rfl rfl)
theorem dX0_load_88 : decode cX0_load 88 = .ok (.putfield 114, 3) := dk_181 0 114 (dk_at dksX0_load_3 17 rfl rfl)
theorem dX0_load_91 : decode cX0_load 91 = .ok (.aload_n 0, 1) := dk_42 (dk_at dksX0_load_3 20 rfl rfl)
theorem dX0_load_92 : decode cX0_load 92 = .ok (.aload 4, 2) := dk_25 4 (dk_at dksX0_load_3 21 rfl rfl)
theorem dX0_load_94 : decode cX0_load 94 = .ok (.aload_n 3, 1) := dk_45 (dk_at dksX0_load_3 23 rfl rfl)
theorem dX0_load_95 : decode cX0_load 95 = .ok (.getfield 114, 3) := dk_180 0 114 (dk_at dksX0_load_4 0 rfl rfl)
theorem dX0_load_98 : decode cX0_load 98 = .ok (.invokevirtual 52, 3) := dk_182 0 52 (dk_at dksX0_load_4 3 rfl rfl)
theorem dX0_load_101 : decode cX0_load 101 = .ok (.ireturn, 1) := dk_172 (dk_at dksX0_load_4 6 rfl rfl)
abbrev cX0_turnLock : ByteArray := prog_1_method_13_code
def yX0_turnLock : MethodName := ⟨RX0, "turnLock", "(I)I"⟩
def dkwX0_turnLock_0 : List UInt8 := [42, 180, 0, 16, 182, 0, 93, 77, 42, 44, 44, 27, 184, 0, 117, 182, 0, 101, 172]
abbrev dktX0_turnLock_0 : List UInt8 := dkwX0_turnLock_0 ++ []
theorem dksX0_turnLock_0 : cX0_turnLock.data.toList.drop 0 = dktX0_turnLock_0 := by decide +kernel
theorem dX0_turnLock_0 : decode cX0_turnLock 0 = .ok (.aload_n 0, 1) := dk_42 (dk_at dksX0_turnLock_0 0 rfl rfl)
theorem dX0_turnLock_1 : decode cX0_turnLock 1 = .ok (.getfield 16, 3) := dk_180 0 16 (dk_at dksX0_turnLock_0 1 rfl rfl)
theorem dX0_turnLock_4 : decode cX0_turnLock 4 = .ok (.invokevirtual 93, 3) := dk_182 0 93 (dk_at dksX0_turnLock_0 4 rfl rfl)
theorem dX0_turnLock_7 : decode cX0_turnLock 7 = .ok (.astore_n 2, 1) := dk_77 (dk_at dksX0_turnLock_0 7 rfl rfl)
theorem dX0_turnLock_8 : decode cX0_turnLock 8 = .ok (.aload_n 0, 1) := dk_42 (dk_at dksX0_turnLock_0 8 rfl rfl)
theorem dX0_turnLock_9 : decode cX0_turnLock 9 = .ok (.aload_n 2, 1) := dk_44 (dk_at dksX0_turnLock_0 9 rfl rfl)
theorem dX0_turnLock_10 : decode cX0_turnLock 10 = .ok (.aload_n 2, 1) := dk_44 (dk_at dksX0_turnLock_0 10 rfl rfl)
theorem dX0_turnLock_11 : decode cX0_turnLock 11 = .ok (.iload_n 1, 1) := dk_27 (dk_at dksX0_turnLock_0 11 rfl rfl)
theorem dX0_turnLock_12 : decode cX0_turnLock 12 = .ok (.invokestatic 117, 3) := dk_184 0 117 (dk_at dksX0_turnLock_0 12 rfl rfl)
theorem dX0_turnLock_15 : decode cX0_turnLock 15 = .ok (.invokevirtual 101, 3) := dk_182 0 101 (dk_at dksX0_turnLock_0 15 rfl rfl)
theorem dX0_turnLock_18 : decode cX0_turnLock 18 = .ok (.ireturn, 1) := dk_172 (dk_at dksX0_turnLock_0 18 rfl rfl)
abbrev cX0_turnIn : ByteArray := prog_1_method_9_code
def yX0_turnIn : MethodName := ⟨RX0, "turnIn", "(LCanalSteps$Canal;I)I"⟩
def dkwX0_turnIn_1 : List UInt8 := [182, 0, 78, 42, 180, 0, 82, 27, 51, 153, 0, 7, 4, 167, 0, 4, 3, 172]
abbrev dktX0_turnIn_1 : List UInt8 := dkwX0_turnIn_1 ++ []
def dkwX0_turnIn_0 : List UInt8 := [27, 184, 0, 72, 154, 0, 5, 2, 172, 42, 27, 182, 0, 75, 154, 0, 6, 16, 252, 172, 42, 27]
abbrev dktX0_turnIn_0 : List UInt8 := dkwX0_turnIn_0 ++ dktX0_turnIn_1
theorem dksX0_turnIn_0 : cX0_turnIn.data.toList.drop 0 = dktX0_turnIn_0 := by decide +kernel
theorem dksX0_turnIn_1 : cX0_turnIn.data.toList.drop 22 = dktX0_turnIn_1 := dk_seg dksX0_turnIn_0 22 rfl rfl
theorem dX0_turnIn_0 : decode cX0_turnIn 0 = .ok (.iload_n 1, 1) := dk_27 (dk_at dksX0_turnIn_0 0 rfl rfl)
theorem dX0_turnIn_1 : decode cX0_turnIn 1 = .ok (.invokestatic 72, 3) := dk_184 0 72 (dk_at dksX0_turnIn_0 1 rfl rfl)
theorem dX0_turnIn_4 : decode cX0_turnIn 4 = .ok (.ifCond .ne 5, 3) := dk_154 0 5 (dk_at dksX0_turnIn_0 4 rfl rfl)
theorem dX0_turnIn_7 : decode cX0_turnIn 7 = .ok (.iconst (-1), 1) := dk_2 (dk_at dksX0_turnIn_0 7 rfl rfl)
theorem dX0_turnIn_8 : decode cX0_turnIn 8 = .ok (.ireturn, 1) := dk_172 (dk_at dksX0_turnIn_0 8 rfl rfl)
theorem dX0_turnIn_9 : decode cX0_turnIn 9 = .ok (.aload_n 0, 1) := dk_42 (dk_at dksX0_turnIn_0 9 rfl rfl)
theorem dX0_turnIn_10 : decode cX0_turnIn 10 = .ok (.iload_n 1, 1) := dk_27 (dk_at dksX0_turnIn_0 10 rfl rfl)
theorem dX0_turnIn_11 : decode cX0_turnIn 11 = .ok (.invokevirtual 75, 3) := dk_182 0 75 (dk_at dksX0_turnIn_0 11 rfl rfl)
theorem dX0_turnIn_14 : decode cX0_turnIn 14 = .ok (.ifCond .ne 6, 3) := dk_154 0 6 (dk_at dksX0_turnIn_0 14 rfl rfl)
theorem dX0_turnIn_17 : decode cX0_turnIn 17 = .ok (.bipush (-4), 2) := dk_16 252 (dk_at dksX0_turnIn_0 17 rfl rfl)
theorem dX0_turnIn_19 : decode cX0_turnIn 19 = .ok (.ireturn, 1) := dk_172 (dk_at dksX0_turnIn_0 19 rfl rfl)
theorem dX0_turnIn_20 : decode cX0_turnIn 20 = .ok (.aload_n 0, 1) := dk_42 (dk_at dksX0_turnIn_0 20 rfl rfl)
theorem dX0_turnIn_21 : decode cX0_turnIn 21 = .ok (.iload_n 1, 1) := dk_27 (dk_at dksX0_turnIn_0 21 rfl rfl)
theorem dX0_turnIn_22 : decode cX0_turnIn 22 = .ok (.invokevirtual 78, 3) := dk_182 0 78 (dk_at dksX0_turnIn_1 0 rfl rfl)
theorem dX0_turnIn_25 : decode cX0_turnIn 25 = .ok (.aload_n 0, 1) := dk_42 (dk_at dksX0_turnIn_1 3 rfl rfl)
theorem dX0_turnIn_26 : decode cX0_turnIn 26 = .ok (.getfield 82, 3) := dk_180 0 82 (dk_at dksX0_turnIn_1 4 rfl rfl)
theorem dX0_turnIn_29 : decode cX0_turnIn 29 = .ok (.iload_n 1, 1) := dk_27 (dk_at dksX0_turnIn_1 7 rfl rfl)
theorem dX0_turnIn_30 : decode cX0_turnIn 30 = .ok (.baload, 1) := dk_51 (dk_at dksX0_turnIn_1 8 rfl rfl)
theorem dX0_turnIn_31 : decode cX0_turnIn 31 = .ok (.ifCond .eq 7, 3) := dk_153 0 7 (dk_at dksX0_turnIn_1 9 rfl rfl)
theorem dX0_turnIn_34 : decode cX0_turnIn 34 = .ok (.iconst 1, 1) := dk_4 (dk_at dksX0_turnIn_1 12 rfl rfl)
theorem dX0_turnIn_35 : decode cX0_turnIn 35 = .ok (.goto 4, 3) := dk_167 0 4 (dk_at dksX0_turnIn_1 13 rfl rfl)
theorem dX0_turnIn_38 : decode cX0_turnIn 38 = .ok (.iconst 0, 1) := dk_3 (dk_at dksX0_turnIn_1 16 rfl rfl)
theorem dX0_turnIn_39 : decode cX0_turnIn 39 = .ok (.ireturn, 1) := dk_172 (dk_at dksX0_turnIn_1 17 rfl rfl)
abbrev cX0_isLock : ByteArray := prog_1_method_4_code
def yX0_isLock : MethodName := ⟨RX0, "isLock", "(I)Z"⟩
def dkwX0_isLock_0 : List UInt8 := [26, 3, 7, 184, 0, 3, 172]
abbrev dktX0_isLock_0 : List UInt8 := dkwX0_isLock_0 ++ []
theorem dksX0_isLock_0 : cX0_isLock.data.toList.drop 0 = dktX0_isLock_0 := by decide +kernel
theorem dX0_isLock_0 : decode cX0_isLock 0 = .ok (.iload_n 0, 1) := dk_26 (dk_at dksX0_isLock_0 0 rfl rfl)
theorem dX0_isLock_1 : decode cX0_isLock 1 = .ok (.iconst 0, 1) := dk_3 (dk_at dksX0_isLock_0 1 rfl rfl)
theorem dX0_isLock_2 : decode cX0_isLock 2 = .ok (.iconst 4, 1) := dk_7 (dk_at dksX0_isLock_0 2 rfl rfl)
theorem dX0_isLock_3 : decode cX0_isLock 3 = .ok (.invokestatic 3, 3) := dk_184 0 3 (dk_at dksX0_isLock_0 3 rfl rfl)
theorem dX0_isLock_6 : decode cX0_isLock 6 = .ok (.ireturn, 1) := dk_172 (dk_at dksX0_isLock_0 6 rfl rfl)
abbrev cX0_setDepth : ByteArray := prog_1_method_14_code
def yX0_setDepth : MethodName := ⟨RX0, "setDepth", "(II)I"⟩
def dkwX0_setDepth_3 : List UInt8 := [25, 4, 29, 182, 0, 52, 172]
abbrev dktX0_setDepth_3 : List UInt8 := dkwX0_setDepth_3 ++ []
def dkwX0_setDepth_2 : List UInt8 := [58, 4, 25, 4, 180, 0, 120, 27, 28, 79, 25, 4, 89, 180, 0, 124, 28, 29, 100, 96, 181, 0, 124, 42]
abbrev dktX0_setDepth_2 : List UInt8 := dkwX0_setDepth_2 ++ dktX0_setDepth_3
def dkwX0_setDepth_1 : List UInt8 := [180, 0, 16, 180, 0, 120, 27, 46, 62, 29, 28, 160, 0, 6, 16, 251, 172, 42, 180, 0, 16, 182, 0, 93]
abbrev dktX0_setDepth_1 : List UInt8 := dkwX0_setDepth_1 ++ dktX0_setDepth_2
def dkwX0_setDepth_0 : List UInt8 := [27, 184, 0, 56, 154, 0, 5, 2, 172, 28, 3, 16, 90, 184, 0, 3, 154, 0, 6, 16, 254, 172, 42]
abbrev dktX0_setDepth_0 : List UInt8 := dkwX0_setDepth_0 ++ dktX0_setDepth_1
theorem dksX0_setDepth_0 : cX0_setDepth.data.toList.drop 0 = dktX0_setDepth_0 := by decide +kernel
theorem dksX0_setDepth_1 : cX0_setDepth.data.toList.drop 23 = dktX0_setDepth_1 := dk_seg dksX0_setDepth_0 23 rfl rfl
theorem dksX0_setDepth_2 : cX0_setDepth.data.toList.drop 47 = dktX0_setDepth_2 := dk_seg dksX0_setDepth_1 24 rfl rfl
theorem dksX0_setDepth_3 : cX0_setDepth.data.toList.drop 71 = dktX0_setDepth_3 := dk_seg dksX0_setDepth_2 24 rfl rfl
theorem dX0_setDepth_0 : decode cX0_setDepth 0 = .ok (.iload_n 1, 1) := dk_27 (dk_at dksX0_setDepth_0 0 rfl rfl)
theorem dX0_setDepth_1 : decode cX0_setDepth 1 = .ok (.invokestatic 56, 3) := dk_184 0 56 (dk_at dksX0_setDepth_0 1 rfl rfl)
theorem dX0_setDepth_4 : decode cX0_setDepth 4 = .ok (.ifCond .ne 5, 3) := dk_154 0 5 (dk_at dksX0_setDepth_0 4 rfl rfl)
theorem dX0_setDepth_7 : decode cX0_setDepth 7 = .ok (.iconst (-1), 1) := dk_2 (dk_at dksX0_setDepth_0 7 rfl rfl)
theorem dX0_setDepth_8 : decode cX0_setDepth 8 = .ok (.ireturn, 1) := dk_172 (dk_at dksX0_setDepth_0 8 rfl rfl)
theorem dX0_setDepth_9 : decode cX0_setDepth 9 = .ok (.iload_n 2, 1) := dk_28 (dk_at dksX0_setDepth_0 9 rfl rfl)
theorem dX0_setDepth_10 : decode cX0_setDepth 10 = .ok (.iconst 0, 1) := dk_3 (dk_at dksX0_setDepth_0 10 rfl rfl)
theorem dX0_setDepth_11 : decode cX0_setDepth 11 = .ok (.bipush 90, 2) := dk_16 90 (dk_at dksX0_setDepth_0 11 rfl rfl)
theorem dX0_setDepth_13 : decode cX0_setDepth 13 = .ok (.invokestatic 3, 3) := dk_184 0 3 (dk_at dksX0_setDepth_0 13 rfl rfl)
theorem dX0_setDepth_16 : decode cX0_setDepth 16 = .ok (.ifCond .ne 6, 3) := dk_154 0 6 (dk_at dksX0_setDepth_0 16 rfl rfl)
theorem dX0_setDepth_19 : decode cX0_setDepth 19 = .ok (.bipush (-2), 2) := dk_16 254 (dk_at dksX0_setDepth_0 19 rfl rfl)
theorem dX0_setDepth_21 : decode cX0_setDepth 21 = .ok (.ireturn, 1) := dk_172 (dk_at dksX0_setDepth_0 21 rfl rfl)
theorem dX0_setDepth_22 : decode cX0_setDepth 22 = .ok (.aload_n 0, 1) := dk_42 (dk_at dksX0_setDepth_0 22 rfl rfl)
theorem dX0_setDepth_23 : decode cX0_setDepth 23 = .ok (.getfield 16, 3) := dk_180 0 16 (dk_at dksX0_setDepth_1 0 rfl rfl)
theorem dX0_setDepth_26 : decode cX0_setDepth 26 = .ok (.getfield 120, 3) := dk_180 0 120 (dk_at dksX0_setDepth_1 3 rfl rfl)
theorem dX0_setDepth_29 : decode cX0_setDepth 29 = .ok (.iload_n 1, 1) := dk_27 (dk_at dksX0_setDepth_1 6 rfl rfl)
theorem dX0_setDepth_30 : decode cX0_setDepth 30 = .ok (.iaload, 1) := dk_46 (dk_at dksX0_setDepth_1 7 rfl rfl)
theorem dX0_setDepth_31 : decode cX0_setDepth 31 = .ok (.istore_n 3, 1) := dk_62 (dk_at dksX0_setDepth_1 8 rfl rfl)
theorem dX0_setDepth_32 : decode cX0_setDepth 32 = .ok (.iload_n 3, 1) := dk_29 (dk_at dksX0_setDepth_1 9 rfl rfl)
theorem dX0_setDepth_33 : decode cX0_setDepth 33 = .ok (.iload_n 2, 1) := dk_28 (dk_at dksX0_setDepth_1 10 rfl rfl)
theorem dX0_setDepth_34 : decode cX0_setDepth 34 = .ok (.if_icmp .ne 6, 3) := dk_160 0 6 (dk_at dksX0_setDepth_1 11 rfl rfl)
theorem dX0_setDepth_37 : decode cX0_setDepth 37 = .ok (.bipush (-5), 2) := dk_16 251 (dk_at dksX0_setDepth_1 14 rfl rfl)
theorem dX0_setDepth_39 : decode cX0_setDepth 39 = .ok (.ireturn, 1) := dk_172 (dk_at dksX0_setDepth_1 16 rfl rfl)
theorem dX0_setDepth_40 : decode cX0_setDepth 40 = .ok (.aload_n 0, 1) := dk_42 (dk_at dksX0_setDepth_1 17 rfl rfl)
theorem dX0_setDepth_41 : decode cX0_setDepth 41 = .ok (.getfield 16, 3) := dk_180 0 16 (dk_at dksX0_setDepth_1 18 rfl rfl)
theorem dX0_setDepth_44 : decode cX0_setDepth 44 = .ok (.invokevirtual 93, 3) := dk_182 0 93 (dk_at dksX0_setDepth_1 21 rfl rfl)
theorem dX0_setDepth_47 : decode cX0_setDepth 47 = .ok (.astore 4, 2) := dk_58 4 (dk_at dksX0_setDepth_2 0 rfl rfl)
theorem dX0_setDepth_49 : decode cX0_setDepth 49 = .ok (.aload 4, 2) := dk_25 4 (dk_at dksX0_setDepth_2 2 rfl rfl)
theorem dX0_setDepth_51 : decode cX0_setDepth 51 = .ok (.getfield 120, 3) := dk_180 0 120 (dk_at dksX0_setDepth_2 4 rfl rfl)
theorem dX0_setDepth_54 : decode cX0_setDepth 54 = .ok (.iload_n 1, 1) := dk_27 (dk_at dksX0_setDepth_2 7 rfl rfl)
theorem dX0_setDepth_55 : decode cX0_setDepth 55 = .ok (.iload_n 2, 1) := dk_28 (dk_at dksX0_setDepth_2 8 rfl rfl)
theorem dX0_setDepth_56 : decode cX0_setDepth 56 = .ok (.iastore, 1) := dk_79 (dk_at dksX0_setDepth_2 9 rfl rfl)
theorem dX0_setDepth_57 : decode cX0_setDepth 57 = .ok (.aload 4, 2) := dk_25 4 (dk_at dksX0_setDepth_2 10 rfl rfl)
theorem dX0_setDepth_59 : decode cX0_setDepth 59 = .ok (.dup, 1) := dk_89 (dk_at dksX0_setDepth_2 12 rfl rfl)
theorem dX0_setDepth_60 : decode cX0_setDepth 60 = .ok (.getfield 124, 3) := dk_180 0 124 (dk_at dksX0_setDepth_2 13 rfl rfl)
theorem dX0_setDepth_63 : decode cX0_setDepth 63 = .ok (.iload_n 2, 1) := dk_28 (dk_at dksX0_setDepth_2 16 rfl rfl)
theorem dX0_setDepth_64 : decode cX0_setDepth 64 = .ok (.iload_n 3, 1) := dk_29 (dk_at dksX0_setDepth_2 17 rfl rfl)
theorem dX0_setDepth_65 : decode cX0_setDepth 65 = .ok (.isub, 1) := dk_100 (dk_at dksX0_setDepth_2 18 rfl rfl)
theorem dX0_setDepth_66 : decode cX0_setDepth 66 = .ok (.iadd, 1) := dk_96 (dk_at dksX0_setDepth_2 19 rfl rfl)
theorem dX0_setDepth_67 : decode cX0_setDepth 67 = .ok (.putfield 124, 3) := dk_181 0 124 (dk_at dksX0_setDepth_2 20 rfl rfl)
theorem dX0_setDepth_70 : decode cX0_setDepth 70 = .ok (.aload_n 0, 1) := dk_42 (dk_at dksX0_setDepth_2 23 rfl rfl)
theorem dX0_setDepth_71 : decode cX0_setDepth 71 = .ok (.aload 4, 2) := dk_25 4 (dk_at dksX0_setDepth_3 0 rfl rfl)
theorem dX0_setDepth_73 : decode cX0_setDepth 73 = .ok (.iload_n 3, 1) := dk_29 (dk_at dksX0_setDepth_3 2 rfl rfl)
theorem dX0_setDepth_74 : decode cX0_setDepth 74 = .ok (.invokevirtual 52, 3) := dk_182 0 52 (dk_at dksX0_setDepth_3 3 rfl rfl)
theorem dX0_setDepth_77 : decode cX0_setDepth 77 = .ok (.ireturn, 1) := dk_172 (dk_at dksX0_setDepth_3 6 rfl rfl)
abbrev cX0_set : ByteArray := prog_1_method_15_code
def yX0_set : MethodName := ⟨RX0, "set", "(II)I"⟩
def dkwX0_set_4 : List UInt8 := [172]
abbrev dktX0_set_4 : List UInt8 := dkwX0_set_4 ++ []
def dkwX0_set_3 : List UInt8 := [42, 180, 0, 16, 182, 0, 93, 58, 4, 25, 4, 180, 0, 131, 27, 28, 79, 42, 25, 4, 29, 182, 0, 52]
abbrev dktX0_set_3 : List UInt8 := dkwX0_set_3 ++ dktX0_set_4
def dkwX0_set_2 : List UInt8 := [154, 0, 6, 16, 254, 172, 42, 180, 0, 16, 180, 0, 131, 27, 46, 62, 29, 28, 160, 0, 6, 16, 251, 172]
abbrev dktX0_set_2 : List UInt8 := dkwX0_set_2 ++ dktX0_set_3
def dkwX0_set_1 : List UInt8 := [188, 10, 89, 3, 16, 20, 79, 89, 4, 16, 6, 79, 89, 5, 16, 20, 79, 184, 0, 127, 184, 0, 3]
abbrev dktX0_set_1 : List UInt8 := dkwX0_set_1 ++ dktX0_set_2
def dkwX0_set_0 : List UInt8 := [27, 3, 5, 184, 0, 3, 154, 0, 5, 2, 172, 28, 27, 5, 160, 0, 7, 3, 167, 0, 4, 4, 27, 6]
abbrev dktX0_set_0 : List UInt8 := dkwX0_set_0 ++ dktX0_set_1
theorem dksX0_set_0 : cX0_set.data.toList.drop 0 = dktX0_set_0 := by decide +kernel
theorem dksX0_set_1 : cX0_set.data.toList.drop 24 = dktX0_set_1 := dk_seg dksX0_set_0 24 rfl rfl
theorem dksX0_set_2 : cX0_set.data.toList.drop 47 = dktX0_set_2 := dk_seg dksX0_set_1 23 rfl rfl
theorem dksX0_set_3 : cX0_set.data.toList.drop 71 = dktX0_set_3 := dk_seg dksX0_set_2 24 rfl rfl
theorem dksX0_set_4 : cX0_set.data.toList.drop 95 = dktX0_set_4 := dk_seg dksX0_set_3 24 rfl rfl
theorem dX0_set_0 : decode cX0_set 0 = .ok (.iload_n 1, 1) := dk_27 (dk_at dksX0_set_0 0 rfl rfl)
theorem dX0_set_1 : decode cX0_set 1 = .ok (.iconst 0, 1) := dk_3 (dk_at dksX0_set_0 1 rfl rfl)
theorem dX0_set_2 : decode cX0_set 2 = .ok (.iconst 2, 1) := dk_5 (dk_at dksX0_set_0 2 rfl rfl)
theorem dX0_set_3 : decode cX0_set 3 = .ok (.invokestatic 3, 3) := dk_184 0 3 (dk_at dksX0_set_0 3 rfl rfl)
theorem dX0_set_6 : decode cX0_set 6 = .ok (.ifCond .ne 5, 3) := dk_154 0 5 (dk_at dksX0_set_0 6 rfl rfl)
theorem dX0_set_9 : decode cX0_set 9 = .ok (.iconst (-1), 1) := dk_2 (dk_at dksX0_set_0 9 rfl rfl)
theorem dX0_set_10 : decode cX0_set 10 = .ok (.ireturn, 1) := dk_172 (dk_at dksX0_set_0 10 rfl rfl)
theorem dX0_set_11 : decode cX0_set 11 = .ok (.iload_n 2, 1) := dk_28 (dk_at dksX0_set_0 11 rfl rfl)
theorem dX0_set_12 : decode cX0_set 12 = .ok (.iload_n 1, 1) := dk_27 (dk_at dksX0_set_0 12 rfl rfl)
theorem dX0_set_13 : decode cX0_set 13 = .ok (.iconst 2, 1) := dk_5 (dk_at dksX0_set_0 13 rfl rfl)
theorem dX0_set_14 : decode cX0_set 14 = .ok (.if_icmp .ne 7, 3) := dk_160 0 7 (dk_at dksX0_set_0 14 rfl rfl)
theorem dX0_set_17 : decode cX0_set 17 = .ok (.iconst 0, 1) := dk_3 (dk_at dksX0_set_0 17 rfl rfl)
theorem dX0_set_18 : decode cX0_set 18 = .ok (.goto 4, 3) := dk_167 0 4 (dk_at dksX0_set_0 18 rfl rfl)
theorem dX0_set_21 : decode cX0_set 21 = .ok (.iconst 1, 1) := dk_4 (dk_at dksX0_set_0 21 rfl rfl)
theorem dX0_set_22 : decode cX0_set 22 = .ok (.iload_n 1, 1) := dk_27 (dk_at dksX0_set_0 22 rfl rfl)
theorem dX0_set_23 : decode cX0_set 23 = .ok (.iconst 3, 1) := dk_6 (dk_at dksX0_set_0 23 rfl rfl)
theorem dX0_set_24 : decode cX0_set 24 = .ok (.newarray .int, 2) := dk_188_10 (dk_at dksX0_set_1 0 rfl rfl)
theorem dX0_set_26 : decode cX0_set 26 = .ok (.dup, 1) := dk_89 (dk_at dksX0_set_1 2 rfl rfl)
theorem dX0_set_27 : decode cX0_set 27 = .ok (.iconst 0, 1) := dk_3 (dk_at dksX0_set_1 3 rfl rfl)
theorem dX0_set_28 : decode cX0_set 28 = .ok (.bipush 20, 2) := dk_16 20 (dk_at dksX0_set_1 4 rfl rfl)
theorem dX0_set_30 : decode cX0_set 30 = .ok (.iastore, 1) := dk_79 (dk_at dksX0_set_1 6 rfl rfl)
theorem dX0_set_31 : decode cX0_set 31 = .ok (.dup, 1) := dk_89 (dk_at dksX0_set_1 7 rfl rfl)
theorem dX0_set_32 : decode cX0_set 32 = .ok (.iconst 1, 1) := dk_4 (dk_at dksX0_set_1 8 rfl rfl)
theorem dX0_set_33 : decode cX0_set 33 = .ok (.bipush 6, 2) := dk_16 6 (dk_at dksX0_set_1 9 rfl rfl)
theorem dX0_set_35 : decode cX0_set 35 = .ok (.iastore, 1) := dk_79 (dk_at dksX0_set_1 11 rfl rfl)
theorem dX0_set_36 : decode cX0_set 36 = .ok (.dup, 1) := dk_89 (dk_at dksX0_set_1 12 rfl rfl)
theorem dX0_set_37 : decode cX0_set 37 = .ok (.iconst 2, 1) := dk_5 (dk_at dksX0_set_1 13 rfl rfl)
theorem dX0_set_38 : decode cX0_set 38 = .ok (.bipush 20, 2) := dk_16 20 (dk_at dksX0_set_1 14 rfl rfl)
theorem dX0_set_40 : decode cX0_set 40 = .ok (.iastore, 1) := dk_79 (dk_at dksX0_set_1 16 rfl rfl)
theorem dX0_set_41 : decode cX0_set 41 = .ok (.invokestatic 127, 3) := dk_184 0 127 (dk_at dksX0_set_1 17 rfl rfl)
theorem dX0_set_44 : decode cX0_set 44 = .ok (.invokestatic 3, 3) := dk_184 0 3 (dk_at dksX0_set_1 20 rfl rfl)
theorem dX0_set_47 : decode cX0_set 47 = .ok (.ifCond .ne 6, 3) := dk_154 0 6 (dk_at dksX0_set_2 0 rfl rfl)
theorem dX0_set_50 : decode cX0_set 50 = .ok (.bipush (-2), 2) := dk_16 254 (dk_at dksX0_set_2 3 rfl rfl)
theorem dX0_set_52 : decode cX0_set 52 = .ok (.ireturn, 1) := dk_172 (dk_at dksX0_set_2 5 rfl rfl)
theorem dX0_set_53 : decode cX0_set 53 = .ok (.aload_n 0, 1) := dk_42 (dk_at dksX0_set_2 6 rfl rfl)
theorem dX0_set_54 : decode cX0_set 54 = .ok (.getfield 16, 3) := dk_180 0 16 (dk_at dksX0_set_2 7 rfl rfl)
theorem dX0_set_57 : decode cX0_set 57 = .ok (.getfield 131, 3) := dk_180 0 131 (dk_at dksX0_set_2 10 rfl rfl)
theorem dX0_set_60 : decode cX0_set 60 = .ok (.iload_n 1, 1) := dk_27 (dk_at dksX0_set_2 13 rfl rfl)
theorem dX0_set_61 : decode cX0_set 61 = .ok (.iaload, 1) := dk_46 (dk_at dksX0_set_2 14 rfl rfl)
theorem dX0_set_62 : decode cX0_set 62 = .ok (.istore_n 3, 1) := dk_62 (dk_at dksX0_set_2 15 rfl rfl)
theorem dX0_set_63 : decode cX0_set 63 = .ok (.iload_n 3, 1) := dk_29 (dk_at dksX0_set_2 16 rfl rfl)
theorem dX0_set_64 : decode cX0_set 64 = .ok (.iload_n 2, 1) := dk_28 (dk_at dksX0_set_2 17 rfl rfl)
theorem dX0_set_65 : decode cX0_set 65 = .ok (.if_icmp .ne 6, 3) := dk_160 0 6 (dk_at dksX0_set_2 18 rfl rfl)
theorem dX0_set_68 : decode cX0_set 68 = .ok (.bipush (-5), 2) := dk_16 251 (dk_at dksX0_set_2 21 rfl rfl)
theorem dX0_set_70 : decode cX0_set 70 = .ok (.ireturn, 1) := dk_172 (dk_at dksX0_set_2 23 rfl rfl)
theorem dX0_set_71 : decode cX0_set 71 = .ok (.aload_n 0, 1) := dk_42 (dk_at dksX0_set_3 0 rfl rfl)
theorem dX0_set_72 : decode cX0_set 72 = .ok (.getfield 16, 3) := dk_180 0 16 (dk_at dksX0_set_3 1 rfl rfl)
theorem dX0_set_75 : decode cX0_set 75 = .ok (.invokevirtual 93, 3) := dk_182 0 93 (dk_at dksX0_set_3 4 rfl rfl)
theorem dX0_set_78 : decode cX0_set 78 = .ok (.astore 4, 2) := dk_58 4 (dk_at dksX0_set_3 7 rfl rfl)
theorem dX0_set_80 : decode cX0_set 80 = .ok (.aload 4, 2) := dk_25 4 (dk_at dksX0_set_3 9 rfl rfl)
theorem dX0_set_82 : decode cX0_set 82 = .ok (.getfield 131, 3) := dk_180 0 131 (dk_at dksX0_set_3 11 rfl rfl)
theorem dX0_set_85 : decode cX0_set 85 = .ok (.iload_n 1, 1) := dk_27 (dk_at dksX0_set_3 14 rfl rfl)
theorem dX0_set_86 : decode cX0_set 86 = .ok (.iload_n 2, 1) := dk_28 (dk_at dksX0_set_3 15 rfl rfl)
theorem dX0_set_87 : decode cX0_set 87 = .ok (.iastore, 1) := dk_79 (dk_at dksX0_set_3 16 rfl rfl)
theorem dX0_set_88 : decode cX0_set 88 = .ok (.aload_n 0, 1) := dk_42 (dk_at dksX0_set_3 17 rfl rfl)
theorem dX0_set_89 : decode cX0_set 89 = .ok (.aload 4, 2) := dk_25 4 (dk_at dksX0_set_3 18 rfl rfl)
theorem dX0_set_91 : decode cX0_set 91 = .ok (.iload_n 3, 1) := dk_29 (dk_at dksX0_set_3 20 rfl rfl)
theorem dX0_set_92 : decode cX0_set 92 = .ok (.invokevirtual 52, 3) := dk_182 0 52 (dk_at dksX0_set_3 21 rfl rfl)
theorem dX0_set_95 : decode cX0_set 95 = .ok (.ireturn, 1) := dk_172 (dk_at dksX0_set_4 0 rfl rfl)
abbrev cX0_pick : ByteArray := prog_1_method_2_code
def yX0_pick : MethodName := ⟨RX0, "pick", "(I[I)I"⟩
def dkwX0_pick_0 : List UInt8 := [26, 155, 0, 15, 26, 43, 190, 162, 0, 9, 43, 26, 46, 167, 0, 5, 16, 254, 172]
abbrev dktX0_pick_0 : List UInt8 := dkwX0_pick_0 ++ []
theorem dksX0_pick_0 : cX0_pick.data.toList.drop 0 = dktX0_pick_0 := by decide +kernel
theorem dX0_pick_0 : decode cX0_pick 0 = .ok (.iload_n 0, 1) := dk_26 (dk_at dksX0_pick_0 0 rfl rfl)
theorem dX0_pick_1 : decode cX0_pick 1 = .ok (.ifCond .lt 15, 3) := dk_155 0 15 (dk_at dksX0_pick_0 1 rfl rfl)
theorem dX0_pick_4 : decode cX0_pick 4 = .ok (.iload_n 0, 1) := dk_26 (dk_at dksX0_pick_0 4 rfl rfl)
theorem dX0_pick_5 : decode cX0_pick 5 = .ok (.aload_n 1, 1) := dk_43 (dk_at dksX0_pick_0 5 rfl rfl)
theorem dX0_pick_6 : decode cX0_pick 6 = .ok (.arraylength, 1) := dk_190 (dk_at dksX0_pick_0 6 rfl rfl)
theorem dX0_pick_7 : decode cX0_pick 7 = .ok (.if_icmp .ge 9, 3) := dk_162 0 9 (dk_at dksX0_pick_0 7 rfl rfl)
theorem dX0_pick_10 : decode cX0_pick 10 = .ok (.aload_n 1, 1) := dk_43 (dk_at dksX0_pick_0 10 rfl rfl)
theorem dX0_pick_11 : decode cX0_pick 11 = .ok (.iload_n 0, 1) := dk_26 (dk_at dksX0_pick_0 11 rfl rfl)
theorem dX0_pick_12 : decode cX0_pick 12 = .ok (.iaload, 1) := dk_46 (dk_at dksX0_pick_0 12 rfl rfl)
theorem dX0_pick_13 : decode cX0_pick 13 = .ok (.goto 5, 3) := dk_167 0 5 (dk_at dksX0_pick_0 13 rfl rfl)
theorem dX0_pick_16 : decode cX0_pick 16 = .ok (.bipush (-2), 2) := dk_16 254 (dk_at dksX0_pick_0 16 rfl rfl)
theorem dX0_pick_18 : decode cX0_pick 18 = .ok (.ireturn, 1) := dk_172 (dk_at dksX0_pick_0 18 rfl rfl)
abbrev cX0_pass : ByteArray := prog_1_method_16_code
def yX0_pass : MethodName := ⟨RX0, "pass", "(I)I"⟩
def dkwX0_pass_0 : List UInt8 := [42, 180, 0, 16, 182, 0, 93, 77, 42, 44, 44, 27, 184, 0, 134, 182, 0, 101, 172]
abbrev dktX0_pass_0 : List UInt8 := dkwX0_pass_0 ++ []
theorem dksX0_pass_0 : cX0_pass.data.toList.drop 0 = dktX0_pass_0 := by decide +kernel
theorem dX0_pass_0 : decode cX0_pass 0 = .ok (.aload_n 0, 1) := dk_42 (dk_at dksX0_pass_0 0 rfl rfl)
theorem dX0_pass_1 : decode cX0_pass 1 = .ok (.getfield 16, 3) := dk_180 0 16 (dk_at dksX0_pass_0 1 rfl rfl)
theorem dX0_pass_4 : decode cX0_pass 4 = .ok (.invokevirtual 93, 3) := dk_182 0 93 (dk_at dksX0_pass_0 4 rfl rfl)
theorem dX0_pass_7 : decode cX0_pass 7 = .ok (.astore_n 2, 1) := dk_77 (dk_at dksX0_pass_0 7 rfl rfl)
theorem dX0_pass_8 : decode cX0_pass 8 = .ok (.aload_n 0, 1) := dk_42 (dk_at dksX0_pass_0 8 rfl rfl)
theorem dX0_pass_9 : decode cX0_pass 9 = .ok (.aload_n 2, 1) := dk_44 (dk_at dksX0_pass_0 9 rfl rfl)
theorem dX0_pass_10 : decode cX0_pass 10 = .ok (.aload_n 2, 1) := dk_44 (dk_at dksX0_pass_0 10 rfl rfl)
theorem dX0_pass_11 : decode cX0_pass 11 = .ok (.iload_n 1, 1) := dk_27 (dk_at dksX0_pass_0 11 rfl rfl)
theorem dX0_pass_12 : decode cX0_pass 12 = .ok (.invokestatic 134, 3) := dk_184 0 134 (dk_at dksX0_pass_0 12 rfl rfl)
theorem dX0_pass_15 : decode cX0_pass 15 = .ok (.invokevirtual 101, 3) := dk_182 0 101 (dk_at dksX0_pass_0 15 rfl rfl)
theorem dX0_pass_18 : decode cX0_pass 18 = .ok (.ireturn, 1) := dk_172 (dk_at dksX0_pass_0 18 rfl rfl)
abbrev cX0_passIn : ByteArray := prog_1_method_10_code
def yX0_passIn : MethodName := ⟨RX0, "passIn", "(LCanalSteps$Canal;I)I"⟩
def dkwX0_passIn_2 : List UInt8 := [167, 255, 241, 28, 172]
abbrev dktX0_passIn_2 : List UInt8 := dkwX0_passIn_2 ++ []
def dkwX0_passIn_1 : List UInt8 := [16, 253, 172, 3, 61, 3, 62, 29, 27, 162, 0, 16, 28, 42, 182, 0, 90, 96, 61, 132, 3, 1]
abbrev dktX0_passIn_1 : List UInt8 := dkwX0_passIn_1 ++ dktX0_passIn_2
def dkwX0_passIn_0 : List UInt8 := [27, 4, 16, 99, 184, 0, 3, 154, 0, 6, 16, 254, 172, 42, 180, 0, 86, 27, 96, 18, 89, 164, 0, 6]
abbrev dktX0_passIn_0 : List UInt8 := dkwX0_passIn_0 ++ dktX0_passIn_1
theorem dksX0_passIn_0 : cX0_passIn.data.toList.drop 0 = dktX0_passIn_0 := by decide +kernel
theorem dksX0_passIn_1 : cX0_passIn.data.toList.drop 24 = dktX0_passIn_1 := dk_seg dksX0_passIn_0 24 rfl rfl
theorem dksX0_passIn_2 : cX0_passIn.data.toList.drop 46 = dktX0_passIn_2 := dk_seg dksX0_passIn_1 22 rfl rfl
theorem dX0_passIn_0 : decode cX0_passIn 0 = .ok (.iload_n 1, 1) := dk_27 (dk_at dksX0_passIn_0 0 rfl rfl)
theorem dX0_passIn_1 : decode cX0_passIn 1 = .ok (.iconst 1, 1) := dk_4 (dk_at dksX0_passIn_0 1 rfl rfl)
theorem dX0_passIn_2 : decode cX0_passIn 2 = .ok (.bipush 99, 2) := dk_16 99 (dk_at dksX0_passIn_0 2 rfl rfl)
theorem dX0_passIn_4 : decode cX0_passIn 4 = .ok (.invokestatic 3, 3) := dk_184 0 3 (dk_at dksX0_passIn_0 4 rfl rfl)
theorem dX0_passIn_7 : decode cX0_passIn 7 = .ok (.ifCond .ne 6, 3) := dk_154 0 6 (dk_at dksX0_passIn_0 7 rfl rfl)
theorem dX0_passIn_10 : decode cX0_passIn 10 = .ok (.bipush (-2), 2) := dk_16 254 (dk_at dksX0_passIn_0 10 rfl rfl)
theorem dX0_passIn_12 : decode cX0_passIn 12 = .ok (.ireturn, 1) := dk_172 (dk_at dksX0_passIn_0 12 rfl rfl)
theorem dX0_passIn_13 : decode cX0_passIn 13 = .ok (.aload_n 0, 1) := dk_42 (dk_at dksX0_passIn_0 13 rfl rfl)
theorem dX0_passIn_14 : decode cX0_passIn 14 = .ok (.getfield 86, 3) := dk_180 0 86 (dk_at dksX0_passIn_0 14 rfl rfl)
theorem dX0_passIn_17 : decode cX0_passIn 17 = .ok (.iload_n 1, 1) := dk_27 (dk_at dksX0_passIn_0 17 rfl rfl)
theorem dX0_passIn_18 : decode cX0_passIn 18 = .ok (.iadd, 1) := dk_96 (dk_at dksX0_passIn_0 18 rfl rfl)
theorem dX0_passIn_19 : decode cX0_passIn 19 = .ok (.ldc 89, 2) := dk_18 89 (dk_at dksX0_passIn_0 19 rfl rfl)
theorem dX0_passIn_21 : decode cX0_passIn 21 = .ok (.if_icmp .le 6, 3) := dk_164 0 6 (dk_at dksX0_passIn_0 21 rfl rfl)
theorem dX0_passIn_24 : decode cX0_passIn 24 = .ok (.bipush (-3), 2) := dk_16 253 (dk_at dksX0_passIn_1 0 rfl rfl)
theorem dX0_passIn_26 : decode cX0_passIn 26 = .ok (.ireturn, 1) := dk_172 (dk_at dksX0_passIn_1 2 rfl rfl)
theorem dX0_passIn_27 : decode cX0_passIn 27 = .ok (.iconst 0, 1) := dk_3 (dk_at dksX0_passIn_1 3 rfl rfl)
theorem dX0_passIn_28 : decode cX0_passIn 28 = .ok (.istore_n 2, 1) := dk_61 (dk_at dksX0_passIn_1 4 rfl rfl)
theorem dX0_passIn_29 : decode cX0_passIn 29 = .ok (.iconst 0, 1) := dk_3 (dk_at dksX0_passIn_1 5 rfl rfl)
theorem dX0_passIn_30 : decode cX0_passIn 30 = .ok (.istore_n 3, 1) := dk_62 (dk_at dksX0_passIn_1 6 rfl rfl)
theorem dX0_passIn_31 : decode cX0_passIn 31 = .ok (.iload_n 3, 1) := dk_29 (dk_at dksX0_passIn_1 7 rfl rfl)
theorem dX0_passIn_32 : decode cX0_passIn 32 = .ok (.iload_n 1, 1) := dk_27 (dk_at dksX0_passIn_1 8 rfl rfl)
theorem dX0_passIn_33 : decode cX0_passIn 33 = .ok (.if_icmp .ge 16, 3) := dk_162 0 16 (dk_at dksX0_passIn_1 9 rfl rfl)
theorem dX0_passIn_36 : decode cX0_passIn 36 = .ok (.iload_n 2, 1) := dk_28 (dk_at dksX0_passIn_1 12 rfl rfl)
theorem dX0_passIn_37 : decode cX0_passIn 37 = .ok (.aload_n 0, 1) := dk_42 (dk_at dksX0_passIn_1 13 rfl rfl)
theorem dX0_passIn_38 : decode cX0_passIn 38 = .ok (.invokevirtual 90, 3) := dk_182 0 90 (dk_at dksX0_passIn_1 14 rfl rfl)
theorem dX0_passIn_41 : decode cX0_passIn 41 = .ok (.iadd, 1) := dk_96 (dk_at dksX0_passIn_1 17 rfl rfl)
theorem dX0_passIn_42 : decode cX0_passIn 42 = .ok (.istore_n 2, 1) := dk_61 (dk_at dksX0_passIn_1 18 rfl rfl)
theorem dX0_passIn_43 : decode cX0_passIn 43 = .ok (.iinc 3 1, 3) := dk_132 3 1 (dk_at dksX0_passIn_1 19 rfl rfl)
theorem dX0_passIn_46 : decode cX0_passIn 46 = .ok (.goto (-15), 3) := dk_167 255 241 (dk_at dksX0_passIn_2 0 rfl rfl)
theorem dX0_passIn_49 : decode cX0_passIn 49 = .ok (.iload_n 2, 1) := dk_28 (dk_at dksX0_passIn_2 3 rfl rfl)
theorem dX0_passIn_50 : decode cX0_passIn 50 = .ok (.ireturn, 1) := dk_172 (dk_at dksX0_passIn_2 4 rfl rfl)
abbrev cX0_type : ByteArray := prog_1_method_17_code
def yX0_type : MethodName := ⟨RX0, "type", "(C)I"⟩
def dkwX0_type_1 : List UInt8 := [42, 180, 0, 30, 182, 0, 137, 172]
abbrev dktX0_type_1 : List UInt8 := dkwX0_type_1 ++ []
def dkwX0_type_0 : List UInt8 := [42, 180, 0, 30, 182, 0, 137, 16, 60, 160, 0, 6, 16, 253, 172, 42, 180, 0, 30, 27, 182, 0, 140, 87]
abbrev dktX0_type_0 : List UInt8 := dkwX0_type_0 ++ dktX0_type_1
theorem dksX0_type_0 : cX0_type.data.toList.drop 0 = dktX0_type_0 := by decide +kernel
theorem dksX0_type_1 : cX0_type.data.toList.drop 24 = dktX0_type_1 := dk_seg dksX0_type_0 24 rfl rfl
theorem dX0_type_0 : decode cX0_type 0 = .ok (.aload_n 0, 1) := dk_42 (dk_at dksX0_type_0 0 rfl rfl)
theorem dX0_type_1 : decode cX0_type 1 = .ok (.getfield 30, 3) := dk_180 0 30 (dk_at dksX0_type_0 1 rfl rfl)
theorem dX0_type_4 : decode cX0_type 4 = .ok (.invokevirtual 137, 3) := dk_182 0 137 (dk_at dksX0_type_0 4 rfl rfl)
theorem dX0_type_7 : decode cX0_type 7 = .ok (.bipush 60, 2) := dk_16 60 (dk_at dksX0_type_0 7 rfl rfl)
theorem dX0_type_9 : decode cX0_type 9 = .ok (.if_icmp .ne 6, 3) := dk_160 0 6 (dk_at dksX0_type_0 9 rfl rfl)
theorem dX0_type_12 : decode cX0_type 12 = .ok (.bipush (-3), 2) := dk_16 253 (dk_at dksX0_type_0 12 rfl rfl)
theorem dX0_type_14 : decode cX0_type 14 = .ok (.ireturn, 1) := dk_172 (dk_at dksX0_type_0 14 rfl rfl)
theorem dX0_type_15 : decode cX0_type 15 = .ok (.aload_n 0, 1) := dk_42 (dk_at dksX0_type_0 15 rfl rfl)
theorem dX0_type_16 : decode cX0_type 16 = .ok (.getfield 30, 3) := dk_180 0 30 (dk_at dksX0_type_0 16 rfl rfl)
theorem dX0_type_19 : decode cX0_type 19 = .ok (.iload_n 1, 1) := dk_27 (dk_at dksX0_type_0 19 rfl rfl)
theorem dX0_type_20 : decode cX0_type 20 = .ok (.invokevirtual 140, 3) := dk_182 0 140 (dk_at dksX0_type_0 20 rfl rfl)
theorem dX0_type_23 : decode cX0_type 23 = .ok (.pop, 1) := dk_87 (dk_at dksX0_type_0 23 rfl rfl)
theorem dX0_type_24 : decode cX0_type 24 = .ok (.aload_n 0, 1) := dk_42 (dk_at dksX0_type_1 0 rfl rfl)
theorem dX0_type_25 : decode cX0_type 25 = .ok (.getfield 30, 3) := dk_180 0 30 (dk_at dksX0_type_1 1 rfl rfl)
theorem dX0_type_28 : decode cX0_type 28 = .ok (.invokevirtual 137, 3) := dk_182 0 137 (dk_at dksX0_type_1 4 rfl rfl)
theorem dX0_type_31 : decode cX0_type 31 = .ok (.ireturn, 1) := dk_172 (dk_at dksX0_type_1 7 rfl rfl)
abbrev cX0_clearText : ByteArray := prog_1_method_18_code
def yX0_clearText : MethodName := ⟨RX0, "clearText", "()I"⟩
def dkwX0_clearText_0 : List UInt8 := [42, 180, 0, 30, 182, 0, 137, 60, 42, 180, 0, 30, 3, 182, 0, 144, 27, 172]
abbrev dktX0_clearText_0 : List UInt8 := dkwX0_clearText_0 ++ []
theorem dksX0_clearText_0 : cX0_clearText.data.toList.drop 0 = dktX0_clearText_0 := by decide +kernel
theorem dX0_clearText_0 : decode cX0_clearText 0 = .ok (.aload_n 0, 1) := dk_42 (dk_at dksX0_clearText_0 0 rfl rfl)
theorem dX0_clearText_1 : decode cX0_clearText 1 = .ok (.getfield 30, 3) := dk_180 0 30 (dk_at dksX0_clearText_0 1 rfl rfl)
theorem dX0_clearText_4 : decode cX0_clearText 4 = .ok (.invokevirtual 137, 3) := dk_182 0 137 (dk_at dksX0_clearText_0 4 rfl rfl)
theorem dX0_clearText_7 : decode cX0_clearText 7 = .ok (.istore_n 1, 1) := dk_60 (dk_at dksX0_clearText_0 7 rfl rfl)
theorem dX0_clearText_8 : decode cX0_clearText 8 = .ok (.aload_n 0, 1) := dk_42 (dk_at dksX0_clearText_0 8 rfl rfl)
theorem dX0_clearText_9 : decode cX0_clearText 9 = .ok (.getfield 30, 3) := dk_180 0 30 (dk_at dksX0_clearText_0 9 rfl rfl)
theorem dX0_clearText_12 : decode cX0_clearText 12 = .ok (.iconst 0, 1) := dk_3 (dk_at dksX0_clearText_0 12 rfl rfl)
theorem dX0_clearText_13 : decode cX0_clearText 13 = .ok (.invokevirtual 144, 3) := dk_182 0 144 (dk_at dksX0_clearText_0 13 rfl rfl)
theorem dX0_clearText_16 : decode cX0_clearText 16 = .ok (.iload_n 1, 1) := dk_27 (dk_at dksX0_clearText_0 16 rfl rfl)
theorem dX0_clearText_17 : decode cX0_clearText 17 = .ok (.ireturn, 1) := dk_172 (dk_at dksX0_clearText_0 17 rfl rfl)
abbrev cX0_perform : ByteArray := prog_1_method_19_code
def yX0_perform : MethodName := ⟨RX0, "perform", "()I"⟩
def dkwX0_perform_3 : List UInt8 := [181, 0, 165, 16, 252, 172, 132, 3, 1, 167, 255, 215, 42, 44, 43, 180, 0, 158, 182, 0, 52, 172]
abbrev dktX0_perform_3 : List UInt8 := dkwX0_perform_3 ++ []
def dkwX0_perform_2 : List UInt8 := [29, 44, 182, 0, 161, 54, 4, 21, 4, 155, 0, 6, 167, 0, 17, 42, 29, 181, 0, 34, 42, 21, 4]
abbrev dktX0_perform_2 : List UInt8 := dkwX0_perform_2 ++ dktX0_perform_3
def dkwX0_perform_1 : List UInt8 := [180, 0, 155, 100, 172, 42, 180, 0, 16, 182, 0, 93, 77, 3, 62, 29, 43, 180, 0, 158, 162, 0, 39, 43]
abbrev dktX0_perform_1 : List UInt8 := dkwX0_perform_1 ++ dktX0_perform_2
def dkwX0_perform_0 : List UInt8 := [187, 0, 147, 89, 42, 180, 0, 30, 183, 0, 149, 76, 43, 182, 0, 152, 154, 0, 11, 16, 156, 43]
abbrev dktX0_perform_0 : List UInt8 := dkwX0_perform_0 ++ dktX0_perform_1
theorem dksX0_perform_0 : cX0_perform.data.toList.drop 0 = dktX0_perform_0 := by decide +kernel
theorem dksX0_perform_1 : cX0_perform.data.toList.drop 22 = dktX0_perform_1 := dk_seg dksX0_perform_0 22 rfl rfl
theorem dksX0_perform_2 : cX0_perform.data.toList.drop 46 = dktX0_perform_2 := dk_seg dksX0_perform_1 24 rfl rfl
theorem dksX0_perform_3 : cX0_perform.data.toList.drop 69 = dktX0_perform_3 := dk_seg dksX0_perform_2 23 rfl rfl
theorem dX0_perform_0 : decode cX0_perform 0 = .ok (.new 147, 3) := dk_187 0 147 (dk_at dksX0_perform_0 0 rfl rfl)
theorem dX0_perform_3 : decode cX0_perform 3 = .ok (.dup, 1) := dk_89 (dk_at dksX0_perform_0 3 rfl rfl)
theorem dX0_perform_4 : decode cX0_perform 4 = .ok (.aload_n 0, 1) := dk_42 (dk_at dksX0_perform_0 4 rfl rfl)
theorem dX0_perform_5 : decode cX0_perform 5 = .ok (.getfield 30, 3) := dk_180 0 30 (dk_at dksX0_perform_0 5 rfl rfl)
theorem dX0_perform_8 : decode cX0_perform 8 = .ok (.invokespecial 149, 3) := dk_183 0 149 (dk_at dksX0_perform_0 8 rfl rfl)
theorem dX0_perform_11 : decode cX0_perform 11 = .ok (.astore_n 1, 1) := dk_76 (dk_at dksX0_perform_0 11 rfl rfl)
theorem dX0_perform_12 : decode cX0_perform 12 = .ok (.aload_n 1, 1) := dk_43 (dk_at dksX0_perform_0 12 rfl rfl)
theorem dX0_perform_13 : decode cX0_perform 13 = .ok (.invokevirtual 152, 3) := dk_182 0 152 (dk_at dksX0_perform_0 13 rfl rfl)
theorem dX0_perform_16 : decode cX0_perform 16 = .ok (.ifCond .ne 11, 3) := dk_154 0 11 (dk_at dksX0_perform_0 16 rfl rfl)
theorem dX0_perform_19 : decode cX0_perform 19 = .ok (.bipush (-100), 2) := dk_16 156 (dk_at dksX0_perform_0 19 rfl rfl)
theorem dX0_perform_21 : decode cX0_perform 21 = .ok (.aload_n 1, 1) := dk_43 (dk_at dksX0_perform_0 21 rfl rfl)
theorem dX0_perform_22 : decode cX0_perform 22 = .ok (.getfield 155, 3) := dk_180 0 155 (dk_at dksX0_perform_1 0 rfl rfl)
theorem dX0_perform_25 : decode cX0_perform 25 = .ok (.isub, 1) := dk_100 (dk_at dksX0_perform_1 3 rfl rfl)
theorem dX0_perform_26 : decode cX0_perform 26 = .ok (.ireturn, 1) := dk_172 (dk_at dksX0_perform_1 4 rfl rfl)
theorem dX0_perform_27 : decode cX0_perform 27 = .ok (.aload_n 0, 1) := dk_42 (dk_at dksX0_perform_1 5 rfl rfl)
theorem dX0_perform_28 : decode cX0_perform 28 = .ok (.getfield 16, 3) := dk_180 0 16 (dk_at dksX0_perform_1 6 rfl rfl)
theorem dX0_perform_31 : decode cX0_perform 31 = .ok (.invokevirtual 93, 3) := dk_182 0 93 (dk_at dksX0_perform_1 9 rfl rfl)
theorem dX0_perform_34 : decode cX0_perform 34 = .ok (.astore_n 2, 1) := dk_77 (dk_at dksX0_perform_1 12 rfl rfl)
theorem dX0_perform_35 : decode cX0_perform 35 = .ok (.iconst 0, 1) := dk_3 (dk_at dksX0_perform_1 13 rfl rfl)
theorem dX0_perform_36 : decode cX0_perform 36 = .ok (.istore_n 3, 1) := dk_62 (dk_at dksX0_perform_1 14 rfl rfl)
theorem dX0_perform_37 : decode cX0_perform 37 = .ok (.iload_n 3, 1) := dk_29 (dk_at dksX0_perform_1 15 rfl rfl)
theorem dX0_perform_38 : decode cX0_perform 38 = .ok (.aload_n 1, 1) := dk_43 (dk_at dksX0_perform_1 16 rfl rfl)
theorem dX0_perform_39 : decode cX0_perform 39 = .ok (.getfield 158, 3) := dk_180 0 158 (dk_at dksX0_perform_1 17 rfl rfl)
theorem dX0_perform_42 : decode cX0_perform 42 = .ok (.if_icmp .ge 39, 3) := dk_162 0 39 (dk_at dksX0_perform_1 20 rfl rfl)
theorem dX0_perform_45 : decode cX0_perform 45 = .ok (.aload_n 1, 1) := dk_43 (dk_at dksX0_perform_1 23 rfl rfl)
theorem dX0_perform_46 : decode cX0_perform 46 = .ok (.iload_n 3, 1) := dk_29 (dk_at dksX0_perform_2 0 rfl rfl)
theorem dX0_perform_47 : decode cX0_perform 47 = .ok (.aload_n 2, 1) := dk_44 (dk_at dksX0_perform_2 1 rfl rfl)
theorem dX0_perform_48 : decode cX0_perform 48 = .ok (.invokevirtual 161, 3) := dk_182 0 161 (dk_at dksX0_perform_2 2 rfl rfl)
theorem dX0_perform_51 : decode cX0_perform 51 = .ok (.istore 4, 2) := dk_54 4 (dk_at dksX0_perform_2 5 rfl rfl)
theorem dX0_perform_53 : decode cX0_perform 53 = .ok (.iload 4, 2) := dk_21 4 (dk_at dksX0_perform_2 7 rfl rfl)
theorem dX0_perform_55 : decode cX0_perform 55 = .ok (.ifCond .lt 6, 3) := dk_155 0 6 (dk_at dksX0_perform_2 9 rfl rfl)
theorem dX0_perform_58 : decode cX0_perform 58 = .ok (.goto 17, 3) := dk_167 0 17 (dk_at dksX0_perform_2 12 rfl rfl)
theorem dX0_perform_61 : decode cX0_perform 61 = .ok (.aload_n 0, 1) := dk_42 (dk_at dksX0_perform_2 15 rfl rfl)
theorem dX0_perform_62 : decode cX0_perform 62 = .ok (.iload_n 3, 1) := dk_29 (dk_at dksX0_perform_2 16 rfl rfl)
theorem dX0_perform_63 : decode cX0_perform 63 = .ok (.putfield 34, 3) := dk_181 0 34 (dk_at dksX0_perform_2 17 rfl rfl)
theorem dX0_perform_66 : decode cX0_perform 66 = .ok (.aload_n 0, 1) := dk_42 (dk_at dksX0_perform_2 20 rfl rfl)
theorem dX0_perform_67 : decode cX0_perform 67 = .ok (.iload 4, 2) := dk_21 4 (dk_at dksX0_perform_2 21 rfl rfl)
theorem dX0_perform_69 : decode cX0_perform 69 = .ok (.putfield 165, 3) := dk_181 0 165 (dk_at dksX0_perform_3 0 rfl rfl)
theorem dX0_perform_72 : decode cX0_perform 72 = .ok (.bipush (-4), 2) := dk_16 252 (dk_at dksX0_perform_3 3 rfl rfl)
theorem dX0_perform_74 : decode cX0_perform 74 = .ok (.ireturn, 1) := dk_172 (dk_at dksX0_perform_3 5 rfl rfl)
theorem dX0_perform_75 : decode cX0_perform 75 = .ok (.iinc 3 1, 3) := dk_132 3 1 (dk_at dksX0_perform_3 6 rfl rfl)
theorem dX0_perform_78 : decode cX0_perform 78 = .ok (.goto (-41), 3) := dk_167 255 215 (dk_at dksX0_perform_3 9 rfl rfl)
theorem dX0_perform_81 : decode cX0_perform 81 = .ok (.aload_n 0, 1) := dk_42 (dk_at dksX0_perform_3 12 rfl rfl)
theorem dX0_perform_82 : decode cX0_perform 82 = .ok (.aload_n 2, 1) := dk_44 (dk_at dksX0_perform_3 13 rfl rfl)
theorem dX0_perform_83 : decode cX0_perform 83 = .ok (.aload_n 1, 1) := dk_43 (dk_at dksX0_perform_3 14 rfl rfl)
theorem dX0_perform_84 : decode cX0_perform 84 = .ok (.getfield 158, 3) := dk_180 0 158 (dk_at dksX0_perform_3 15 rfl rfl)
theorem dX0_perform_87 : decode cX0_perform 87 = .ok (.invokevirtual 52, 3) := dk_182 0 52 (dk_at dksX0_perform_3 18 rfl rfl)
theorem dX0_perform_90 : decode cX0_perform 90 = .ok (.ireturn, 1) := dk_172 (dk_at dksX0_perform_3 21 rfl rfl)
abbrev cX0_stopped : ByteArray := prog_1_method_20_code
def yX0_stopped : MethodName := ⟨RX0, "stopped", "(I)I"⟩
def dkwX0_stopped_1 : List UInt8 := [167, 0, 18, 27, 154, 0, 10, 42, 180, 0, 34, 167, 0, 7, 42, 180, 0, 165, 172]
abbrev dktX0_stopped_1 : List UInt8 := dkwX0_stopped_1 ++ []
def dkwX0_stopped_0 : List UInt8 := [27, 3, 4, 184, 0, 3, 154, 0, 6, 16, 254, 172, 42, 180, 0, 34, 16, 251, 160, 0, 8, 16, 251]
abbrev dktX0_stopped_0 : List UInt8 := dkwX0_stopped_0 ++ dktX0_stopped_1
theorem dksX0_stopped_0 : cX0_stopped.data.toList.drop 0 = dktX0_stopped_0 := by decide +kernel
theorem dksX0_stopped_1 : cX0_stopped.data.toList.drop 23 = dktX0_stopped_1 := dk_seg dksX0_stopped_0 23 rfl rfl
theorem dX0_stopped_0 : decode cX0_stopped 0 = .ok (.iload_n 1, 1) := dk_27 (dk_at dksX0_stopped_0 0 rfl rfl)
theorem dX0_stopped_1 : decode cX0_stopped 1 = .ok (.iconst 0, 1) := dk_3 (dk_at dksX0_stopped_0 1 rfl rfl)
theorem dX0_stopped_2 : decode cX0_stopped 2 = .ok (.iconst 1, 1) := dk_4 (dk_at dksX0_stopped_0 2 rfl rfl)
theorem dX0_stopped_3 : decode cX0_stopped 3 = .ok (.invokestatic 3, 3) := dk_184 0 3 (dk_at dksX0_stopped_0 3 rfl rfl)
theorem dX0_stopped_6 : decode cX0_stopped 6 = .ok (.ifCond .ne 6, 3) := dk_154 0 6 (dk_at dksX0_stopped_0 6 rfl rfl)
theorem dX0_stopped_9 : decode cX0_stopped 9 = .ok (.bipush (-2), 2) := dk_16 254 (dk_at dksX0_stopped_0 9 rfl rfl)
theorem dX0_stopped_11 : decode cX0_stopped 11 = .ok (.ireturn, 1) := dk_172 (dk_at dksX0_stopped_0 11 rfl rfl)
theorem dX0_stopped_12 : decode cX0_stopped 12 = .ok (.aload_n 0, 1) := dk_42 (dk_at dksX0_stopped_0 12 rfl rfl)
theorem dX0_stopped_13 : decode cX0_stopped 13 = .ok (.getfield 34, 3) := dk_180 0 34 (dk_at dksX0_stopped_0 13 rfl rfl)
theorem dX0_stopped_16 : decode cX0_stopped 16 = .ok (.bipush (-5), 2) := dk_16 251 (dk_at dksX0_stopped_0 16 rfl rfl)
theorem dX0_stopped_18 : decode cX0_stopped 18 = .ok (.if_icmp .ne 8, 3) := dk_160 0 8 (dk_at dksX0_stopped_0 18 rfl rfl)
theorem dX0_stopped_21 : decode cX0_stopped 21 = .ok (.bipush (-5), 2) := dk_16 251 (dk_at dksX0_stopped_0 21 rfl rfl)
theorem dX0_stopped_23 : decode cX0_stopped 23 = .ok (.goto 18, 3) := dk_167 0 18 (dk_at dksX0_stopped_1 0 rfl rfl)
theorem dX0_stopped_26 : decode cX0_stopped 26 = .ok (.iload_n 1, 1) := dk_27 (dk_at dksX0_stopped_1 3 rfl rfl)
theorem dX0_stopped_27 : decode cX0_stopped 27 = .ok (.ifCond .ne 10, 3) := dk_154 0 10 (dk_at dksX0_stopped_1 4 rfl rfl)
theorem dX0_stopped_30 : decode cX0_stopped 30 = .ok (.aload_n 0, 1) := dk_42 (dk_at dksX0_stopped_1 7 rfl rfl)
theorem dX0_stopped_31 : decode cX0_stopped 31 = .ok (.getfield 34, 3) := dk_180 0 34 (dk_at dksX0_stopped_1 8 rfl rfl)
theorem dX0_stopped_34 : decode cX0_stopped 34 = .ok (.goto 7, 3) := dk_167 0 7 (dk_at dksX0_stopped_1 11 rfl rfl)
theorem dX0_stopped_37 : decode cX0_stopped 37 = .ok (.aload_n 0, 1) := dk_42 (dk_at dksX0_stopped_1 14 rfl rfl)
theorem dX0_stopped_38 : decode cX0_stopped 38 = .ok (.getfield 165, 3) := dk_180 0 165 (dk_at dksX0_stopped_1 15 rfl rfl)
theorem dX0_stopped_41 : decode cX0_stopped 41 = .ok (.ireturn, 1) := dk_172 (dk_at dksX0_stopped_1 18 rfl rfl)
abbrev cX0_undo : ByteArray := prog_1_method_21_code
def yX0_undo : MethodName := ⟨RX0, "undo", "()I"⟩
def dkwX0_undo_2 : List UInt8 := [185, 0, 38, 1, 0, 172]
abbrev dktX0_undo_2 : List UInt8 := dkwX0_undo_2 ++ []
def dkwX0_undo_1 : List UInt8 := [185, 0, 38, 1, 0, 4, 100, 185, 0, 44, 2, 0, 192, 0, 13, 181, 0, 16, 42, 180, 0, 23]
abbrev dktX0_undo_1 : List UInt8 := dkwX0_undo_1 ++ dktX0_undo_2
def dkwX0_undo_0 : List UInt8 := [42, 180, 0, 23, 185, 0, 168, 1, 0, 153, 0, 6, 16, 251, 172, 42, 42, 180, 0, 23, 42, 180, 0, 23]
abbrev dktX0_undo_0 : List UInt8 := dkwX0_undo_0 ++ dktX0_undo_1
theorem dksX0_undo_0 : cX0_undo.data.toList.drop 0 = dktX0_undo_0 := by decide +kernel
theorem dksX0_undo_1 : cX0_undo.data.toList.drop 24 = dktX0_undo_1 := dk_seg dksX0_undo_0 24 rfl rfl
theorem dksX0_undo_2 : cX0_undo.data.toList.drop 46 = dktX0_undo_2 := dk_seg dksX0_undo_1 22 rfl rfl
theorem dX0_undo_0 : decode cX0_undo 0 = .ok (.aload_n 0, 1) := dk_42 (dk_at dksX0_undo_0 0 rfl rfl)
theorem dX0_undo_1 : decode cX0_undo 1 = .ok (.getfield 23, 3) := dk_180 0 23 (dk_at dksX0_undo_0 1 rfl rfl)
theorem dX0_undo_4 : decode cX0_undo 4 = .ok (.invokeinterface 168 1, 5) := by decide +kernel
theorem dX0_undo_9 : decode cX0_undo 9 = .ok (.ifCond .eq 6, 3) := dk_153 0 6 (dk_at dksX0_undo_0 9 rfl rfl)
theorem dX0_undo_12 : decode cX0_undo 12 = .ok (.bipush (-5), 2) := dk_16 251 (dk_at dksX0_undo_0 12 rfl rfl)
theorem dX0_undo_14 : decode cX0_undo 14 = .ok (.ireturn, 1) := dk_172 (dk_at dksX0_undo_0 14 rfl rfl)
theorem dX0_undo_15 : decode cX0_undo 15 = .ok (.aload_n 0, 1) := dk_42 (dk_at dksX0_undo_0 15 rfl rfl)
theorem dX0_undo_16 : decode cX0_undo 16 = .ok (.aload_n 0, 1) := dk_42 (dk_at dksX0_undo_0 16 rfl rfl)
theorem dX0_undo_17 : decode cX0_undo 17 = .ok (.getfield 23, 3) := dk_180 0 23 (dk_at dksX0_undo_0 17 rfl rfl)
theorem dX0_undo_20 : decode cX0_undo 20 = .ok (.aload_n 0, 1) := dk_42 (dk_at dksX0_undo_0 20 rfl rfl)
theorem dX0_undo_21 : decode cX0_undo 21 = .ok (.getfield 23, 3) := dk_180 0 23 (dk_at dksX0_undo_0 21 rfl rfl)
theorem dX0_undo_24 : decode cX0_undo 24 = .ok (.invokeinterface 38 1, 5) := by decide +kernel
theorem dX0_undo_29 : decode cX0_undo 29 = .ok (.iconst 1, 1) := dk_4 (dk_at dksX0_undo_1 5 rfl rfl)
theorem dX0_undo_30 : decode cX0_undo 30 = .ok (.isub, 1) := dk_100 (dk_at dksX0_undo_1 6 rfl rfl)
theorem dX0_undo_31 : decode cX0_undo 31 = .ok (.invokeinterface 44 2, 5) := by decide +kernel
theorem dX0_undo_36 : decode cX0_undo 36 = .ok (.checkcast 13, 3) := dk_192 0 13 (dk_at dksX0_undo_1 12 rfl rfl)
theorem dX0_undo_39 : decode cX0_undo 39 = .ok (.putfield 16, 3) := dk_181 0 16 (dk_at dksX0_undo_1 15 rfl rfl)
theorem dX0_undo_42 : decode cX0_undo 42 = .ok (.aload_n 0, 1) := dk_42 (dk_at dksX0_undo_1 18 rfl rfl)
theorem dX0_undo_43 : decode cX0_undo 43 = .ok (.getfield 23, 3) := dk_180 0 23 (dk_at dksX0_undo_1 19 rfl rfl)
theorem dX0_undo_46 : decode cX0_undo 46 = .ok (.invokeinterface 38 1, 5) := by decide +kernel
theorem dX0_undo_51 : decode cX0_undo 51 = .ok (.ireturn, 1) := dk_172 (dk_at dksX0_undo_2 5 rfl rfl)
abbrev cX0_keep : ByteArray := prog_1_method_22_code
def yX0_keep : MethodName := ⟨RX0, "keep", "()I"⟩
def dkwX0_keep_0 : List UInt8 := [42, 42, 180, 0, 16, 182, 0, 93, 181, 0, 171, 42, 180, 0, 16, 180, 0, 86, 172]
abbrev dktX0_keep_0 : List UInt8 := dkwX0_keep_0 ++ []
theorem dksX0_keep_0 : cX0_keep.data.toList.drop 0 = dktX0_keep_0 := by decide +kernel
theorem dX0_keep_0 : decode cX0_keep 0 = .ok (.aload_n 0, 1) := dk_42 (dk_at dksX0_keep_0 0 rfl rfl)
theorem dX0_keep_1 : decode cX0_keep 1 = .ok (.aload_n 0, 1) := dk_42 (dk_at dksX0_keep_0 1 rfl rfl)
theorem dX0_keep_2 : decode cX0_keep 2 = .ok (.getfield 16, 3) := dk_180 0 16 (dk_at dksX0_keep_0 2 rfl rfl)
theorem dX0_keep_5 : decode cX0_keep 5 = .ok (.invokevirtual 93, 3) := dk_182 0 93 (dk_at dksX0_keep_0 5 rfl rfl)
theorem dX0_keep_8 : decode cX0_keep 8 = .ok (.putfield 171, 3) := dk_181 0 171 (dk_at dksX0_keep_0 8 rfl rfl)
theorem dX0_keep_11 : decode cX0_keep 11 = .ok (.aload_n 0, 1) := dk_42 (dk_at dksX0_keep_0 11 rfl rfl)
theorem dX0_keep_12 : decode cX0_keep 12 = .ok (.getfield 16, 3) := dk_180 0 16 (dk_at dksX0_keep_0 12 rfl rfl)
theorem dX0_keep_15 : decode cX0_keep 15 = .ok (.getfield 86, 3) := dk_180 0 86 (dk_at dksX0_keep_0 15 rfl rfl)
theorem dX0_keep_18 : decode cX0_keep 18 = .ok (.ireturn, 1) := dk_172 (dk_at dksX0_keep_0 18 rfl rfl)
abbrev cX0_restore : ByteArray := prog_1_method_23_code
def yX0_restore : MethodName := ⟨RX0, "restore", "()I"⟩
def dkwX0_restore_1 : List UInt8 := [180, 0, 86, 182, 0, 52, 172]
abbrev dktX0_restore_1 : List UInt8 := dkwX0_restore_1 ++ []
def dkwX0_restore_0 : List UInt8 := [42, 180, 0, 171, 199, 0, 8, 16, 251, 167, 0, 21, 42, 42, 180, 0, 171, 182, 0, 93, 42, 180, 0, 171]
abbrev dktX0_restore_0 : List UInt8 := dkwX0_restore_0 ++ dktX0_restore_1
theorem dksX0_restore_0 : cX0_restore.data.toList.drop 0 = dktX0_restore_0 := by decide +kernel
theorem dksX0_restore_1 : cX0_restore.data.toList.drop 24 = dktX0_restore_1 := dk_seg dksX0_restore_0 24 rfl rfl
theorem dX0_restore_0 : decode cX0_restore 0 = .ok (.aload_n 0, 1) := dk_42 (dk_at dksX0_restore_0 0 rfl rfl)
theorem dX0_restore_1 : decode cX0_restore 1 = .ok (.getfield 171, 3) := dk_180 0 171 (dk_at dksX0_restore_0 1 rfl rfl)
theorem dX0_restore_4 : decode cX0_restore 4 = .ok (.ifnonnull 8, 3) := dk_199 0 8 (dk_at dksX0_restore_0 4 rfl rfl)
theorem dX0_restore_7 : decode cX0_restore 7 = .ok (.bipush (-5), 2) := dk_16 251 (dk_at dksX0_restore_0 7 rfl rfl)
theorem dX0_restore_9 : decode cX0_restore 9 = .ok (.goto 21, 3) := dk_167 0 21 (dk_at dksX0_restore_0 9 rfl rfl)
theorem dX0_restore_12 : decode cX0_restore 12 = .ok (.aload_n 0, 1) := dk_42 (dk_at dksX0_restore_0 12 rfl rfl)
theorem dX0_restore_13 : decode cX0_restore 13 = .ok (.aload_n 0, 1) := dk_42 (dk_at dksX0_restore_0 13 rfl rfl)
theorem dX0_restore_14 : decode cX0_restore 14 = .ok (.getfield 171, 3) := dk_180 0 171 (dk_at dksX0_restore_0 14 rfl rfl)
theorem dX0_restore_17 : decode cX0_restore 17 = .ok (.invokevirtual 93, 3) := dk_182 0 93 (dk_at dksX0_restore_0 17 rfl rfl)
theorem dX0_restore_20 : decode cX0_restore 20 = .ok (.aload_n 0, 1) := dk_42 (dk_at dksX0_restore_0 20 rfl rfl)
theorem dX0_restore_21 : decode cX0_restore 21 = .ok (.getfield 171, 3) := dk_180 0 171 (dk_at dksX0_restore_0 21 rfl rfl)
theorem dX0_restore_24 : decode cX0_restore 24 = .ok (.getfield 86, 3) := dk_180 0 86 (dk_at dksX0_restore_1 0 rfl rfl)
theorem dX0_restore_27 : decode cX0_restore 27 = .ok (.invokevirtual 52, 3) := dk_182 0 52 (dk_at dksX0_restore_1 3 rfl rfl)
theorem dX0_restore_30 : decode cX0_restore 30 = .ok (.ireturn, 1) := dk_172 (dk_at dksX0_restore_1 6 rfl rfl)
abbrev cX0_boatOf : ByteArray := prog_1_method_24_code
def yX0_boatOf : MethodName := ⟨RX0, "boatOf", "(II)I"⟩
def dkwX0_boatOf_7 : List UInt8 := [16, 9, 45, 180, 0, 202, 79, 184, 0, 127, 172]
abbrev dktX0_boatOf_7 : List UInt8 := dkwX0_boatOf_7 ++ []
def dkwX0_boatOf_6 : List UInt8 := [167, 0, 7, 45, 182, 0, 196, 79, 89, 16, 7, 21, 5, 79, 89, 16, 8, 45, 180, 0, 199, 79, 89]
abbrev dktX0_boatOf_6 : List UInt8 := dkwX0_boatOf_6 ++ dktX0_boatOf_7
def dkwX0_boatOf_5 : List UInt8 := [79, 89, 8, 21, 4, 153, 0, 7, 4, 167, 0, 4, 3, 79, 89, 16, 6, 21, 4, 153, 0, 8, 16, 251]
abbrev dktX0_boatOf_5 : List UInt8 := dkwX0_boatOf_5 ++ dktX0_boatOf_6
def dkwX0_boatOf_4 : List UInt8 := [180, 0, 114, 79, 89, 5, 45, 180, 0, 187, 79, 89, 6, 45, 180, 0, 190, 79, 89, 7, 45, 180, 0, 193]
abbrev dktX0_boatOf_4 : List UInt8 := dkwX0_boatOf_4 ++ dktX0_boatOf_5
def dkwX0_boatOf_3 : List UInt8 := [185, 0, 180, 2, 0, 54, 5, 28, 16, 10, 188, 10, 89, 3, 45, 180, 0, 184, 79, 89, 4, 45]
abbrev dktX0_boatOf_3 : List UInt8 := dkwX0_boatOf_3 ++ dktX0_boatOf_4
def dkwX0_boatOf_2 : List UInt8 := [167, 0, 28, 42, 180, 0, 16, 180, 0, 174, 45, 182, 0, 177, 185, 0, 107, 2, 0, 192, 0, 39, 45]
abbrev dktX0_boatOf_2 : List UInt8 := dkwX0_boatOf_2 ++ dktX0_boatOf_3
def dkwX0_boatOf_1 : List UInt8 := [185, 0, 107, 2, 0, 192, 0, 63, 78, 45, 182, 0, 110, 54, 4, 21, 4, 153, 0, 8, 16, 251]
abbrev dktX0_boatOf_1 : List UInt8 := dkwX0_boatOf_1 ++ dktX0_boatOf_2
def dkwX0_boatOf_0 : List UInt8 := [42, 180, 0, 16, 27, 182, 0, 104, 154, 0, 5, 2, 172, 42, 180, 0, 16, 180, 0, 60, 27]
abbrev dktX0_boatOf_0 : List UInt8 := dkwX0_boatOf_0 ++ dktX0_boatOf_1
theorem dksX0_boatOf_0 : cX0_boatOf.data.toList.drop 0 = dktX0_boatOf_0 := by decide +kernel
theorem dksX0_boatOf_1 : cX0_boatOf.data.toList.drop 21 = dktX0_boatOf_1 := dk_seg dksX0_boatOf_0 21 rfl rfl
theorem dksX0_boatOf_2 : cX0_boatOf.data.toList.drop 43 = dktX0_boatOf_2 := dk_seg dksX0_boatOf_1 22 rfl rfl
theorem dksX0_boatOf_3 : cX0_boatOf.data.toList.drop 66 = dktX0_boatOf_3 := dk_seg dksX0_boatOf_2 23 rfl rfl
theorem dksX0_boatOf_4 : cX0_boatOf.data.toList.drop 88 = dktX0_boatOf_4 := dk_seg dksX0_boatOf_3 22 rfl rfl
theorem dksX0_boatOf_5 : cX0_boatOf.data.toList.drop 112 = dktX0_boatOf_5 := dk_seg dksX0_boatOf_4 24 rfl rfl
theorem dksX0_boatOf_6 : cX0_boatOf.data.toList.drop 136 = dktX0_boatOf_6 := dk_seg dksX0_boatOf_5 24 rfl rfl
theorem dksX0_boatOf_7 : cX0_boatOf.data.toList.drop 159 = dktX0_boatOf_7 := dk_seg dksX0_boatOf_6 23 rfl rfl
theorem dX0_boatOf_0 : decode cX0_boatOf 0 = .ok (.aload_n 0, 1) := dk_42 (dk_at dksX0_boatOf_0 0 rfl rfl)
theorem dX0_boatOf_1 : decode cX0_boatOf 1 = .ok (.getfield 16, 3) := dk_180 0 16 (dk_at dksX0_boatOf_0 1 rfl rfl)
theorem dX0_boatOf_4 : decode cX0_boatOf 4 = .ok (.iload_n 1, 1) := dk_27 (dk_at dksX0_boatOf_0 4 rfl rfl)
theorem dX0_boatOf_5 : decode cX0_boatOf 5 = .ok (.invokevirtual 104, 3) := dk_182 0 104 (dk_at dksX0_boatOf_0 5 rfl rfl)
theorem dX0_boatOf_8 : decode cX0_boatOf 8 = .ok (.ifCond .ne 5, 3) := dk_154 0 5 (dk_at dksX0_boatOf_0 8 rfl rfl)
theorem dX0_boatOf_11 : decode cX0_boatOf 11 = .ok (.iconst (-1), 1) := dk_2 (dk_at dksX0_boatOf_0 11 rfl rfl)
theorem dX0_boatOf_12 : decode cX0_boatOf 12 = .ok (.ireturn, 1) := dk_172 (dk_at dksX0_boatOf_0 12 rfl rfl)
theorem dX0_boatOf_13 : decode cX0_boatOf 13 = .ok (.aload_n 0, 1) := dk_42 (dk_at dksX0_boatOf_0 13 rfl rfl)
theorem dX0_boatOf_14 : decode cX0_boatOf 14 = .ok (.getfield 16, 3) := dk_180 0 16 (dk_at dksX0_boatOf_0 14 rfl rfl)
theorem dX0_boatOf_17 : decode cX0_boatOf 17 = .ok (.getfield 60, 3) := dk_180 0 60 (dk_at dksX0_boatOf_0 17 rfl rfl)
theorem dX0_boatOf_20 : decode cX0_boatOf 20 = .ok (.iload_n 1, 1) := dk_27 (dk_at dksX0_boatOf_0 20 rfl rfl)
theorem dX0_boatOf_21 : decode cX0_boatOf 21 = .ok (.invokeinterface 107 2, 5) := by decide +kernel
theorem dX0_boatOf_26 : decode cX0_boatOf 26 = .ok (.checkcast 63, 3) := dk_192 0 63 (dk_at dksX0_boatOf_1 5 rfl rfl)
theorem dX0_boatOf_29 : decode cX0_boatOf 29 = .ok (.astore_n 3, 1) := dk_78 (dk_at dksX0_boatOf_1 8 rfl rfl)
theorem dX0_boatOf_30 : decode cX0_boatOf 30 = .ok (.aload_n 3, 1) := dk_45 (dk_at dksX0_boatOf_1 9 rfl rfl)
theorem dX0_boatOf_31 : decode cX0_boatOf 31 = .ok (.invokevirtual 110, 3) := dk_182 0 110 (dk_at dksX0_boatOf_1 10 rfl rfl)
theorem dX0_boatOf_34 : decode cX0_boatOf 34 = .ok (.istore 4, 2) := dk_54 4 (dk_at dksX0_boatOf_1 13 rfl rfl)
theorem dX0_boatOf_36 : decode cX0_boatOf 36 = .ok (.iload 4, 2) := dk_21 4 (dk_at dksX0_boatOf_1 15 rfl rfl)
theorem dX0_boatOf_38 : decode cX0_boatOf 38 = .ok (.ifCond .eq 8, 3) := dk_153 0 8 (dk_at dksX0_boatOf_1 17 rfl rfl)
theorem dX0_boatOf_41 : decode cX0_boatOf 41 = .ok (.bipush (-5), 2) := dk_16 251 (dk_at dksX0_boatOf_1 20 rfl rfl)
theorem dX0_boatOf_43 : decode cX0_boatOf 43 = .ok (.goto 28, 3) := dk_167 0 28 (dk_at dksX0_boatOf_2 0 rfl rfl)
theorem dX0_boatOf_46 : decode cX0_boatOf 46 = .ok (.aload_n 0, 1) := dk_42 (dk_at dksX0_boatOf_2 3 rfl rfl)
theorem dX0_boatOf_47 : decode cX0_boatOf 47 = .ok (.getfield 16, 3) := dk_180 0 16 (dk_at dksX0_boatOf_2 4 rfl rfl)
theorem dX0_boatOf_50 : decode cX0_boatOf 50 = .ok (.getfield 174, 3) := dk_180 0 174 (dk_at dksX0_boatOf_2 7 rfl rfl)
theorem dX0_boatOf_53 : decode cX0_boatOf 53 = .ok (.aload_n 3, 1) := dk_45 (dk_at dksX0_boatOf_2 10 rfl rfl)
theorem dX0_boatOf_54 : decode cX0_boatOf 54 = .ok (.invokevirtual 177, 3) := dk_182 0 177 (dk_at dksX0_boatOf_2 11 rfl rfl)
theorem dX0_boatOf_57 : decode cX0_boatOf 57 = .ok (.invokeinterface 107 2, 5) := by decide +kernel
theorem dX0_boatOf_62 : decode cX0_boatOf 62 = .ok (.checkcast 39, 3) := dk_192 0 39 (dk_at dksX0_boatOf_2 19 rfl rfl)
theorem dX0_boatOf_65 : decode cX0_boatOf 65 = .ok (.aload_n 3, 1) := dk_45 (dk_at dksX0_boatOf_2 22 rfl rfl)
theorem dX0_boatOf_66 : decode cX0_boatOf 66 = .ok (.invokeinterface 180 2, 5) := by decide +kernel
theorem dX0_boatOf_71 : decode cX0_boatOf 71 = .ok (.istore 5, 2) := dk_54 5 (dk_at dksX0_boatOf_3 5 rfl rfl)
theorem dX0_boatOf_73 : decode cX0_boatOf 73 = .ok (.iload_n 2, 1) := dk_28 (dk_at dksX0_boatOf_3 7 rfl rfl)
theorem dX0_boatOf_74 : decode cX0_boatOf 74 = .ok (.bipush 10, 2) := dk_16 10 (dk_at dksX0_boatOf_3 8 rfl rfl)
theorem dX0_boatOf_76 : decode cX0_boatOf 76 = .ok (.newarray .int, 2) := dk_188_10 (dk_at dksX0_boatOf_3 10 rfl rfl)
theorem dX0_boatOf_78 : decode cX0_boatOf 78 = .ok (.dup, 1) := dk_89 (dk_at dksX0_boatOf_3 12 rfl rfl)
theorem dX0_boatOf_79 : decode cX0_boatOf 79 = .ok (.iconst 0, 1) := dk_3 (dk_at dksX0_boatOf_3 13 rfl rfl)
theorem dX0_boatOf_80 : decode cX0_boatOf 80 = .ok (.aload_n 3, 1) := dk_45 (dk_at dksX0_boatOf_3 14 rfl rfl)
theorem dX0_boatOf_81 : decode cX0_boatOf 81 = .ok (.getfield 184, 3) := dk_180 0 184 (dk_at dksX0_boatOf_3 15 rfl rfl)
theorem dX0_boatOf_84 : decode cX0_boatOf 84 = .ok (.iastore, 1) := dk_79 (dk_at dksX0_boatOf_3 18 rfl rfl)
theorem dX0_boatOf_85 : decode cX0_boatOf 85 = .ok (.dup, 1) := dk_89 (dk_at dksX0_boatOf_3 19 rfl rfl)
theorem dX0_boatOf_86 : decode cX0_boatOf 86 = .ok (.iconst 1, 1) := dk_4 (dk_at dksX0_boatOf_3 20 rfl rfl)
theorem dX0_boatOf_87 : decode cX0_boatOf 87 = .ok (.aload_n 3, 1) := dk_45 (dk_at dksX0_boatOf_3 21 rfl rfl)
theorem dX0_boatOf_88 : decode cX0_boatOf 88 = .ok (.getfield 114, 3) := dk_180 0 114 (dk_at dksX0_boatOf_4 0 rfl rfl)
theorem dX0_boatOf_91 : decode cX0_boatOf 91 = .ok (.iastore, 1) := dk_79 (dk_at dksX0_boatOf_4 3 rfl rfl)
theorem dX0_boatOf_92 : decode cX0_boatOf 92 = .ok (.dup, 1) := dk_89 (dk_at dksX0_boatOf_4 4 rfl rfl)
theorem dX0_boatOf_93 : decode cX0_boatOf 93 = .ok (.iconst 2, 1) := dk_5 (dk_at dksX0_boatOf_4 5 rfl rfl)
theorem dX0_boatOf_94 : decode cX0_boatOf 94 = .ok (.aload_n 3, 1) := dk_45 (dk_at dksX0_boatOf_4 6 rfl rfl)
theorem dX0_boatOf_95 : decode cX0_boatOf 95 = .ok (.getfield 187, 3) := dk_180 0 187 (dk_at dksX0_boatOf_4 7 rfl rfl)
theorem dX0_boatOf_98 : decode cX0_boatOf 98 = .ok (.iastore, 1) := dk_79 (dk_at dksX0_boatOf_4 10 rfl rfl)
theorem dX0_boatOf_99 : decode cX0_boatOf 99 = .ok (.dup, 1) := dk_89 (dk_at dksX0_boatOf_4 11 rfl rfl)
theorem dX0_boatOf_100 : decode cX0_boatOf 100 = .ok (.iconst 3, 1) := dk_6 (dk_at dksX0_boatOf_4 12 rfl rfl)
theorem dX0_boatOf_101 : decode cX0_boatOf 101 = .ok (.aload_n 3, 1) := dk_45 (dk_at dksX0_boatOf_4 13 rfl rfl)
theorem dX0_boatOf_102 : decode cX0_boatOf 102 = .ok (.getfield 190, 3) := dk_180 0 190 (dk_at dksX0_boatOf_4 14 rfl rfl)
theorem dX0_boatOf_105 : decode cX0_boatOf 105 = .ok (.iastore, 1) := dk_79 (dk_at dksX0_boatOf_4 17 rfl rfl)
theorem dX0_boatOf_106 : decode cX0_boatOf 106 = .ok (.dup, 1) := dk_89 (dk_at dksX0_boatOf_4 18 rfl rfl)
theorem dX0_boatOf_107 : decode cX0_boatOf 107 = .ok (.iconst 4, 1) := dk_7 (dk_at dksX0_boatOf_4 19 rfl rfl)
theorem dX0_boatOf_108 : decode cX0_boatOf 108 = .ok (.aload_n 3, 1) := dk_45 (dk_at dksX0_boatOf_4 20 rfl rfl)
theorem dX0_boatOf_109 : decode cX0_boatOf 109 = .ok (.getfield 193, 3) := dk_180 0 193 (dk_at dksX0_boatOf_4 21 rfl rfl)
theorem dX0_boatOf_112 : decode cX0_boatOf 112 = .ok (.iastore, 1) := dk_79 (dk_at dksX0_boatOf_5 0 rfl rfl)
theorem dX0_boatOf_113 : decode cX0_boatOf 113 = .ok (.dup, 1) := dk_89 (dk_at dksX0_boatOf_5 1 rfl rfl)
theorem dX0_boatOf_114 : decode cX0_boatOf 114 = .ok (.iconst 5, 1) := dk_8 (dk_at dksX0_boatOf_5 2 rfl rfl)
theorem dX0_boatOf_115 : decode cX0_boatOf 115 = .ok (.iload 4, 2) := dk_21 4 (dk_at dksX0_boatOf_5 3 rfl rfl)
theorem dX0_boatOf_117 : decode cX0_boatOf 117 = .ok (.ifCond .eq 7, 3) := dk_153 0 7 (dk_at dksX0_boatOf_5 5 rfl rfl)
theorem dX0_boatOf_120 : decode cX0_boatOf 120 = .ok (.iconst 1, 1) := dk_4 (dk_at dksX0_boatOf_5 8 rfl rfl)
theorem dX0_boatOf_121 : decode cX0_boatOf 121 = .ok (.goto 4, 3) := dk_167 0 4 (dk_at dksX0_boatOf_5 9 rfl rfl)
theorem dX0_boatOf_124 : decode cX0_boatOf 124 = .ok (.iconst 0, 1) := dk_3 (dk_at dksX0_boatOf_5 12 rfl rfl)
theorem dX0_boatOf_125 : decode cX0_boatOf 125 = .ok (.iastore, 1) := dk_79 (dk_at dksX0_boatOf_5 13 rfl rfl)
theorem dX0_boatOf_126 : decode cX0_boatOf 126 = .ok (.dup, 1) := dk_89 (dk_at dksX0_boatOf_5 14 rfl rfl)
theorem dX0_boatOf_127 : decode cX0_boatOf 127 = .ok (.bipush 6, 2) := dk_16 6 (dk_at dksX0_boatOf_5 15 rfl rfl)
theorem dX0_boatOf_129 : decode cX0_boatOf 129 = .ok (.iload 4, 2) := dk_21 4 (dk_at dksX0_boatOf_5 17 rfl rfl)
theorem dX0_boatOf_131 : decode cX0_boatOf 131 = .ok (.ifCond .eq 8, 3) := dk_153 0 8 (dk_at dksX0_boatOf_5 19 rfl rfl)
theorem dX0_boatOf_134 : decode cX0_boatOf 134 = .ok (.bipush (-5), 2) := dk_16 251 (dk_at dksX0_boatOf_5 22 rfl rfl)
theorem dX0_boatOf_136 : decode cX0_boatOf 136 = .ok (.goto 7, 3) := dk_167 0 7 (dk_at dksX0_boatOf_6 0 rfl rfl)
theorem dX0_boatOf_139 : decode cX0_boatOf 139 = .ok (.aload_n 3, 1) := dk_45 (dk_at dksX0_boatOf_6 3 rfl rfl)
theorem dX0_boatOf_140 : decode cX0_boatOf 140 = .ok (.invokevirtual 196, 3) := dk_182 0 196 (dk_at dksX0_boatOf_6 4 rfl rfl)
theorem dX0_boatOf_143 : decode cX0_boatOf 143 = .ok (.iastore, 1) := dk_79 (dk_at dksX0_boatOf_6 7 rfl rfl)
theorem dX0_boatOf_144 : decode cX0_boatOf 144 = .ok (.dup, 1) := dk_89 (dk_at dksX0_boatOf_6 8 rfl rfl)
theorem dX0_boatOf_145 : decode cX0_boatOf 145 = .ok (.bipush 7, 2) := dk_16 7 (dk_at dksX0_boatOf_6 9 rfl rfl)
theorem dX0_boatOf_147 : decode cX0_boatOf 147 = .ok (.iload 5, 2) := dk_21 5 (dk_at dksX0_boatOf_6 11 rfl rfl)
theorem dX0_boatOf_149 : decode cX0_boatOf 149 = .ok (.iastore, 1) := dk_79 (dk_at dksX0_boatOf_6 13 rfl rfl)
theorem dX0_boatOf_150 : decode cX0_boatOf 150 = .ok (.dup, 1) := dk_89 (dk_at dksX0_boatOf_6 14 rfl rfl)
theorem dX0_boatOf_151 : decode cX0_boatOf 151 = .ok (.bipush 8, 2) := dk_16 8 (dk_at dksX0_boatOf_6 15 rfl rfl)
theorem dX0_boatOf_153 : decode cX0_boatOf 153 = .ok (.aload_n 3, 1) := dk_45 (dk_at dksX0_boatOf_6 17 rfl rfl)
theorem dX0_boatOf_154 : decode cX0_boatOf 154 = .ok (.getfield 199, 3) := dk_180 0 199 (dk_at dksX0_boatOf_6 18 rfl rfl)
theorem dX0_boatOf_157 : decode cX0_boatOf 157 = .ok (.iastore, 1) := dk_79 (dk_at dksX0_boatOf_6 21 rfl rfl)
theorem dX0_boatOf_158 : decode cX0_boatOf 158 = .ok (.dup, 1) := dk_89 (dk_at dksX0_boatOf_6 22 rfl rfl)
theorem dX0_boatOf_159 : decode cX0_boatOf 159 = .ok (.bipush 9, 2) := dk_16 9 (dk_at dksX0_boatOf_7 0 rfl rfl)
theorem dX0_boatOf_161 : decode cX0_boatOf 161 = .ok (.aload_n 3, 1) := dk_45 (dk_at dksX0_boatOf_7 2 rfl rfl)
theorem dX0_boatOf_162 : decode cX0_boatOf 162 = .ok (.getfield 202, 3) := dk_180 0 202 (dk_at dksX0_boatOf_7 3 rfl rfl)
theorem dX0_boatOf_165 : decode cX0_boatOf 165 = .ok (.iastore, 1) := dk_79 (dk_at dksX0_boatOf_7 6 rfl rfl)
theorem dX0_boatOf_166 : decode cX0_boatOf 166 = .ok (.invokestatic 127, 3) := dk_184 0 127 (dk_at dksX0_boatOf_7 7 rfl rfl)
theorem dX0_boatOf_169 : decode cX0_boatOf 169 = .ok (.ireturn, 1) := dk_172 (dk_at dksX0_boatOf_7 10 rfl rfl)
abbrev cX0_lock : ByteArray := prog_1_method_26_code
def yX0_lock : MethodName := ⟨RX0, "lock", "(II)I"⟩
def dkwX0_lock_6 : List UInt8 := [180, 0, 16, 180, 0, 217, 27, 46, 79, 184, 0, 127, 172]
abbrev dktX0_lock_6 : List UInt8 := dkwX0_lock_6 ++ []
def dkwX0_lock_5 : List UInt8 := [180, 0, 212, 27, 46, 79, 89, 16, 6, 42, 180, 0, 16, 180, 0, 214, 27, 46, 79, 89, 16, 7, 42]
abbrev dktX0_lock_5 : List UInt8 := dkwX0_lock_5 ++ dktX0_lock_6
def dkwX0_lock_4 : List UInt8 := [182, 0, 208, 79, 89, 7, 42, 5, 27, 104, 4, 96, 182, 0, 208, 79, 89, 8, 42, 180, 0, 16]
abbrev dktX0_lock_4 : List UInt8 := dkwX0_lock_4 ++ dktX0_lock_5
def dkwX0_lock_3 : List UInt8 := [27, 104, 4, 96, 185, 0, 107, 2, 0, 192, 0, 39, 185, 0, 38, 1, 0, 79, 89, 6, 42, 5, 27, 104]
abbrev dktX0_lock_3 : List UInt8 := dkwX0_lock_3 ++ dktX0_lock_4
def dkwX0_lock_2 : List UInt8 := [185, 0, 107, 2, 0, 192, 0, 39, 185, 0, 38, 1, 0, 79, 89, 5, 42, 180, 0, 16, 180, 0, 174, 5]
abbrev dktX0_lock_2 : List UInt8 := dkwX0_lock_2 ++ dktX0_lock_3
def dkwX0_lock_1 : List UInt8 := [51, 153, 0, 7, 4, 167, 0, 4, 3, 79, 89, 4, 42, 180, 0, 16, 180, 0, 174, 5, 27, 104]
abbrev dktX0_lock_1 : List UInt8 := dkwX0_lock_1 ++ dktX0_lock_2
def dkwX0_lock_0 : List UInt8 := [27, 184, 0, 72, 154, 0, 5, 2, 172, 28, 16, 8, 188, 10, 89, 3, 42, 180, 0, 16, 180, 0, 82, 27]
abbrev dktX0_lock_0 : List UInt8 := dkwX0_lock_0 ++ dktX0_lock_1
theorem dksX0_lock_0 : cX0_lock.data.toList.drop 0 = dktX0_lock_0 := by decide +kernel
theorem dksX0_lock_1 : cX0_lock.data.toList.drop 24 = dktX0_lock_1 := dk_seg dksX0_lock_0 24 rfl rfl
theorem dksX0_lock_2 : cX0_lock.data.toList.drop 46 = dktX0_lock_2 := dk_seg dksX0_lock_1 22 rfl rfl
theorem dksX0_lock_3 : cX0_lock.data.toList.drop 70 = dktX0_lock_3 := dk_seg dksX0_lock_2 24 rfl rfl
theorem dksX0_lock_4 : cX0_lock.data.toList.drop 94 = dktX0_lock_4 := dk_seg dksX0_lock_3 24 rfl rfl
theorem dksX0_lock_5 : cX0_lock.data.toList.drop 116 = dktX0_lock_5 := dk_seg dksX0_lock_4 22 rfl rfl
theorem dksX0_lock_6 : cX0_lock.data.toList.drop 139 = dktX0_lock_6 := dk_seg dksX0_lock_5 23 rfl rfl
theorem dX0_lock_0 : decode cX0_lock 0 = .ok (.iload_n 1, 1) := dk_27 (dk_at dksX0_lock_0 0 rfl rfl)
theorem dX0_lock_1 : decode cX0_lock 1 = .ok (.invokestatic 72, 3) := dk_184 0 72 (dk_at dksX0_lock_0 1 rfl rfl)
theorem dX0_lock_4 : decode cX0_lock 4 = .ok (.ifCond .ne 5, 3) := dk_154 0 5 (dk_at dksX0_lock_0 4 rfl rfl)
theorem dX0_lock_7 : decode cX0_lock 7 = .ok (.iconst (-1), 1) := dk_2 (dk_at dksX0_lock_0 7 rfl rfl)
theorem dX0_lock_8 : decode cX0_lock 8 = .ok (.ireturn, 1) := dk_172 (dk_at dksX0_lock_0 8 rfl rfl)
theorem dX0_lock_9 : decode cX0_lock 9 = .ok (.iload_n 2, 1) := dk_28 (dk_at dksX0_lock_0 9 rfl rfl)
theorem dX0_lock_10 : decode cX0_lock 10 = .ok (.bipush 8, 2) := dk_16 8 (dk_at dksX0_lock_0 10 rfl rfl)
theorem dX0_lock_12 : decode cX0_lock 12 = .ok (.newarray .int, 2) := dk_188_10 (dk_at dksX0_lock_0 12 rfl rfl)
theorem dX0_lock_14 : decode cX0_lock 14 = .ok (.dup, 1) := dk_89 (dk_at dksX0_lock_0 14 rfl rfl)
theorem dX0_lock_15 : decode cX0_lock 15 = .ok (.iconst 0, 1) := dk_3 (dk_at dksX0_lock_0 15 rfl rfl)
theorem dX0_lock_16 : decode cX0_lock 16 = .ok (.aload_n 0, 1) := dk_42 (dk_at dksX0_lock_0 16 rfl rfl)
theorem dX0_lock_17 : decode cX0_lock 17 = .ok (.getfield 16, 3) := dk_180 0 16 (dk_at dksX0_lock_0 17 rfl rfl)
theorem dX0_lock_20 : decode cX0_lock 20 = .ok (.getfield 82, 3) := dk_180 0 82 (dk_at dksX0_lock_0 20 rfl rfl)
theorem dX0_lock_23 : decode cX0_lock 23 = .ok (.iload_n 1, 1) := dk_27 (dk_at dksX0_lock_0 23 rfl rfl)
theorem dX0_lock_24 : decode cX0_lock 24 = .ok (.baload, 1) := dk_51 (dk_at dksX0_lock_1 0 rfl rfl)
theorem dX0_lock_25 : decode cX0_lock 25 = .ok (.ifCond .eq 7, 3) := dk_153 0 7 (dk_at dksX0_lock_1 1 rfl rfl)
theorem dX0_lock_28 : decode cX0_lock 28 = .ok (.iconst 1, 1) := dk_4 (dk_at dksX0_lock_1 4 rfl rfl)
theorem dX0_lock_29 : decode cX0_lock 29 = .ok (.goto 4, 3) := dk_167 0 4 (dk_at dksX0_lock_1 5 rfl rfl)
theorem dX0_lock_32 : decode cX0_lock 32 = .ok (.iconst 0, 1) := dk_3 (dk_at dksX0_lock_1 8 rfl rfl)
theorem dX0_lock_33 : decode cX0_lock 33 = .ok (.iastore, 1) := dk_79 (dk_at dksX0_lock_1 9 rfl rfl)
theorem dX0_lock_34 : decode cX0_lock 34 = .ok (.dup, 1) := dk_89 (dk_at dksX0_lock_1 10 rfl rfl)
theorem dX0_lock_35 : decode cX0_lock 35 = .ok (.iconst 1, 1) := dk_4 (dk_at dksX0_lock_1 11 rfl rfl)
theorem dX0_lock_36 : decode cX0_lock 36 = .ok (.aload_n 0, 1) := dk_42 (dk_at dksX0_lock_1 12 rfl rfl)
theorem dX0_lock_37 : decode cX0_lock 37 = .ok (.getfield 16, 3) := dk_180 0 16 (dk_at dksX0_lock_1 13 rfl rfl)
theorem dX0_lock_40 : decode cX0_lock 40 = .ok (.getfield 174, 3) := dk_180 0 174 (dk_at dksX0_lock_1 16 rfl rfl)
theorem dX0_lock_43 : decode cX0_lock 43 = .ok (.iconst 2, 1) := dk_5 (dk_at dksX0_lock_1 19 rfl rfl)
theorem dX0_lock_44 : decode cX0_lock 44 = .ok (.iload_n 1, 1) := dk_27 (dk_at dksX0_lock_1 20 rfl rfl)
theorem dX0_lock_45 : decode cX0_lock 45 = .ok (.imul, 1) := dk_104 (dk_at dksX0_lock_1 21 rfl rfl)
theorem dX0_lock_46 : decode cX0_lock 46 = .ok (.invokeinterface 107 2, 5) := by decide +kernel
theorem dX0_lock_51 : decode cX0_lock 51 = .ok (.checkcast 39, 3) := dk_192 0 39 (dk_at dksX0_lock_2 5 rfl rfl)
theorem dX0_lock_54 : decode cX0_lock 54 = .ok (.invokeinterface 38 1, 5) := by decide +kernel
theorem dX0_lock_59 : decode cX0_lock 59 = .ok (.iastore, 1) := dk_79 (dk_at dksX0_lock_2 13 rfl rfl)
theorem dX0_lock_60 : decode cX0_lock 60 = .ok (.dup, 1) := dk_89 (dk_at dksX0_lock_2 14 rfl rfl)
theorem dX0_lock_61 : decode cX0_lock 61 = .ok (.iconst 2, 1) := dk_5 (dk_at dksX0_lock_2 15 rfl rfl)
theorem dX0_lock_62 : decode cX0_lock 62 = .ok (.aload_n 0, 1) := dk_42 (dk_at dksX0_lock_2 16 rfl rfl)
theorem dX0_lock_63 : decode cX0_lock 63 = .ok (.getfield 16, 3) := dk_180 0 16 (dk_at dksX0_lock_2 17 rfl rfl)
theorem dX0_lock_66 : decode cX0_lock 66 = .ok (.getfield 174, 3) := dk_180 0 174 (dk_at dksX0_lock_2 20 rfl rfl)
theorem dX0_lock_69 : decode cX0_lock 69 = .ok (.iconst 2, 1) := dk_5 (dk_at dksX0_lock_2 23 rfl rfl)
theorem dX0_lock_70 : decode cX0_lock 70 = .ok (.iload_n 1, 1) := dk_27 (dk_at dksX0_lock_3 0 rfl rfl)
theorem dX0_lock_71 : decode cX0_lock 71 = .ok (.imul, 1) := dk_104 (dk_at dksX0_lock_3 1 rfl rfl)
theorem dX0_lock_72 : decode cX0_lock 72 = .ok (.iconst 1, 1) := dk_4 (dk_at dksX0_lock_3 2 rfl rfl)
theorem dX0_lock_73 : decode cX0_lock 73 = .ok (.iadd, 1) := dk_96 (dk_at dksX0_lock_3 3 rfl rfl)
theorem dX0_lock_74 : decode cX0_lock 74 = .ok (.invokeinterface 107 2, 5) := by decide +kernel
theorem dX0_lock_79 : decode cX0_lock 79 = .ok (.checkcast 39, 3) := dk_192 0 39 (dk_at dksX0_lock_3 9 rfl rfl)
theorem dX0_lock_82 : decode cX0_lock 82 = .ok (.invokeinterface 38 1, 5) := by decide +kernel
theorem dX0_lock_87 : decode cX0_lock 87 = .ok (.iastore, 1) := dk_79 (dk_at dksX0_lock_3 17 rfl rfl)
theorem dX0_lock_88 : decode cX0_lock 88 = .ok (.dup, 1) := dk_89 (dk_at dksX0_lock_3 18 rfl rfl)
theorem dX0_lock_89 : decode cX0_lock 89 = .ok (.iconst 3, 1) := dk_6 (dk_at dksX0_lock_3 19 rfl rfl)
theorem dX0_lock_90 : decode cX0_lock 90 = .ok (.aload_n 0, 1) := dk_42 (dk_at dksX0_lock_3 20 rfl rfl)
theorem dX0_lock_91 : decode cX0_lock 91 = .ok (.iconst 2, 1) := dk_5 (dk_at dksX0_lock_3 21 rfl rfl)
theorem dX0_lock_92 : decode cX0_lock 92 = .ok (.iload_n 1, 1) := dk_27 (dk_at dksX0_lock_3 22 rfl rfl)
theorem dX0_lock_93 : decode cX0_lock 93 = .ok (.imul, 1) := dk_104 (dk_at dksX0_lock_3 23 rfl rfl)
theorem dX0_lock_94 : decode cX0_lock 94 = .ok (.invokevirtual 208, 3) := dk_182 0 208 (dk_at dksX0_lock_4 0 rfl rfl)
theorem dX0_lock_97 : decode cX0_lock 97 = .ok (.iastore, 1) := dk_79 (dk_at dksX0_lock_4 3 rfl rfl)
theorem dX0_lock_98 : decode cX0_lock 98 = .ok (.dup, 1) := dk_89 (dk_at dksX0_lock_4 4 rfl rfl)
theorem dX0_lock_99 : decode cX0_lock 99 = .ok (.iconst 4, 1) := dk_7 (dk_at dksX0_lock_4 5 rfl rfl)
theorem dX0_lock_100 : decode cX0_lock 100 = .ok (.aload_n 0, 1) := dk_42 (dk_at dksX0_lock_4 6 rfl rfl)
theorem dX0_lock_101 : decode cX0_lock 101 = .ok (.iconst 2, 1) := dk_5 (dk_at dksX0_lock_4 7 rfl rfl)
theorem dX0_lock_102 : decode cX0_lock 102 = .ok (.iload_n 1, 1) := dk_27 (dk_at dksX0_lock_4 8 rfl rfl)
theorem dX0_lock_103 : decode cX0_lock 103 = .ok (.imul, 1) := dk_104 (dk_at dksX0_lock_4 9 rfl rfl)
theorem dX0_lock_104 : decode cX0_lock 104 = .ok (.iconst 1, 1) := dk_4 (dk_at dksX0_lock_4 10 rfl rfl)
theorem dX0_lock_105 : decode cX0_lock 105 = .ok (.iadd, 1) := dk_96 (dk_at dksX0_lock_4 11 rfl rfl)
theorem dX0_lock_106 : decode cX0_lock 106 = .ok (.invokevirtual 208, 3) := dk_182 0 208 (dk_at dksX0_lock_4 12 rfl rfl)
theorem dX0_lock_109 : decode cX0_lock 109 = .ok (.iastore, 1) := dk_79 (dk_at dksX0_lock_4 15 rfl rfl)
theorem dX0_lock_110 : decode cX0_lock 110 = .ok (.dup, 1) := dk_89 (dk_at dksX0_lock_4 16 rfl rfl)
theorem dX0_lock_111 : decode cX0_lock 111 = .ok (.iconst 5, 1) := dk_8 (dk_at dksX0_lock_4 17 rfl rfl)
theorem dX0_lock_112 : decode cX0_lock 112 = .ok (.aload_n 0, 1) := dk_42 (dk_at dksX0_lock_4 18 rfl rfl)
theorem dX0_lock_113 : decode cX0_lock 113 = .ok (.getfield 16, 3) := dk_180 0 16 (dk_at dksX0_lock_4 19 rfl rfl)
theorem dX0_lock_116 : decode cX0_lock 116 = .ok (.getfield 212, 3) := dk_180 0 212 (dk_at dksX0_lock_5 0 rfl rfl)
theorem dX0_lock_119 : decode cX0_lock 119 = .ok (.iload_n 1, 1) := dk_27 (dk_at dksX0_lock_5 3 rfl rfl)
theorem dX0_lock_120 : decode cX0_lock 120 = .ok (.iaload, 1) := dk_46 (dk_at dksX0_lock_5 4 rfl rfl)
theorem dX0_lock_121 : decode cX0_lock 121 = .ok (.iastore, 1) := dk_79 (dk_at dksX0_lock_5 5 rfl rfl)
theorem dX0_lock_122 : decode cX0_lock 122 = .ok (.dup, 1) := dk_89 (dk_at dksX0_lock_5 6 rfl rfl)
theorem dX0_lock_123 : decode cX0_lock 123 = .ok (.bipush 6, 2) := dk_16 6 (dk_at dksX0_lock_5 7 rfl rfl)
theorem dX0_lock_125 : decode cX0_lock 125 = .ok (.aload_n 0, 1) := dk_42 (dk_at dksX0_lock_5 9 rfl rfl)
theorem dX0_lock_126 : decode cX0_lock 126 = .ok (.getfield 16, 3) := dk_180 0 16 (dk_at dksX0_lock_5 10 rfl rfl)
theorem dX0_lock_129 : decode cX0_lock 129 = .ok (.getfield 214, 3) := dk_180 0 214 (dk_at dksX0_lock_5 13 rfl rfl)
theorem dX0_lock_132 : decode cX0_lock 132 = .ok (.iload_n 1, 1) := dk_27 (dk_at dksX0_lock_5 16 rfl rfl)
theorem dX0_lock_133 : decode cX0_lock 133 = .ok (.iaload, 1) := dk_46 (dk_at dksX0_lock_5 17 rfl rfl)
theorem dX0_lock_134 : decode cX0_lock 134 = .ok (.iastore, 1) := dk_79 (dk_at dksX0_lock_5 18 rfl rfl)
theorem dX0_lock_135 : decode cX0_lock 135 = .ok (.dup, 1) := dk_89 (dk_at dksX0_lock_5 19 rfl rfl)
theorem dX0_lock_136 : decode cX0_lock 136 = .ok (.bipush 7, 2) := dk_16 7 (dk_at dksX0_lock_5 20 rfl rfl)
theorem dX0_lock_138 : decode cX0_lock 138 = .ok (.aload_n 0, 1) := dk_42 (dk_at dksX0_lock_5 22 rfl rfl)
theorem dX0_lock_139 : decode cX0_lock 139 = .ok (.getfield 16, 3) := dk_180 0 16 (dk_at dksX0_lock_6 0 rfl rfl)
theorem dX0_lock_142 : decode cX0_lock 142 = .ok (.getfield 217, 3) := dk_180 0 217 (dk_at dksX0_lock_6 3 rfl rfl)
theorem dX0_lock_145 : decode cX0_lock 145 = .ok (.iload_n 1, 1) := dk_27 (dk_at dksX0_lock_6 6 rfl rfl)
theorem dX0_lock_146 : decode cX0_lock 146 = .ok (.iaload, 1) := dk_46 (dk_at dksX0_lock_6 7 rfl rfl)
theorem dX0_lock_147 : decode cX0_lock 147 = .ok (.iastore, 1) := dk_79 (dk_at dksX0_lock_6 8 rfl rfl)
theorem dX0_lock_148 : decode cX0_lock 148 = .ok (.invokestatic 127, 3) := dk_184 0 127 (dk_at dksX0_lock_6 9 rfl rfl)
theorem dX0_lock_151 : decode cX0_lock 151 = .ok (.ireturn, 1) := dk_172 (dk_at dksX0_lock_6 12 rfl rfl)
abbrev cX0_firstOf : ByteArray := prog_1_method_25_code
def yX0_firstOf : MethodName := ⟨RX0, "firstOf", "(I)I"⟩
def dkwX0_firstOf_2 : List UInt8 := [185, 0, 107, 2, 0, 192, 0, 63, 180, 0, 205, 172]
abbrev dktX0_firstOf_2 : List UInt8 := dkwX0_firstOf_2 ++ []
def dkwX0_firstOf_1 : List UInt8 := [16, 251, 167, 0, 31, 42, 180, 0, 16, 180, 0, 174, 27, 185, 0, 107, 2, 0, 192, 0, 39, 3]
abbrev dktX0_firstOf_1 : List UInt8 := dkwX0_firstOf_1 ++ dktX0_firstOf_2
def dkwX0_firstOf_0 : List UInt8 := [42, 180, 0, 16, 180, 0, 174, 27, 185, 0, 107, 2, 0, 192, 0, 39, 185, 0, 168, 1, 0, 153, 0, 8]
abbrev dktX0_firstOf_0 : List UInt8 := dkwX0_firstOf_0 ++ dktX0_firstOf_1
theorem dksX0_firstOf_0 : cX0_firstOf.data.toList.drop 0 = dktX0_firstOf_0 := by decide +kernel
theorem dksX0_firstOf_1 : cX0_firstOf.data.toList.drop 24 = dktX0_firstOf_1 := dk_seg dksX0_firstOf_0 24 rfl rfl
theorem dksX0_firstOf_2 : cX0_firstOf.data.toList.drop 46 = dktX0_firstOf_2 := dk_seg dksX0_firstOf_1 22 rfl rfl
theorem dX0_firstOf_0 : decode cX0_firstOf 0 = .ok (.aload_n 0, 1) := dk_42 (dk_at dksX0_firstOf_0 0 rfl rfl)
theorem dX0_firstOf_1 : decode cX0_firstOf 1 = .ok (.getfield 16, 3) := dk_180 0 16 (dk_at dksX0_firstOf_0 1 rfl rfl)
theorem dX0_firstOf_4 : decode cX0_firstOf 4 = .ok (.getfield 174, 3) := dk_180 0 174 (dk_at dksX0_firstOf_0 4 rfl rfl)
theorem dX0_firstOf_7 : decode cX0_firstOf 7 = .ok (.iload_n 1, 1) := dk_27 (dk_at dksX0_firstOf_0 7 rfl rfl)
theorem dX0_firstOf_8 : decode cX0_firstOf 8 = .ok (.invokeinterface 107 2, 5) := by decide +kernel
theorem dX0_firstOf_13 : decode cX0_firstOf 13 = .ok (.checkcast 39, 3) := dk_192 0 39 (dk_at dksX0_firstOf_0 13 rfl rfl)
theorem dX0_firstOf_16 : decode cX0_firstOf 16 = .ok (.invokeinterface 168 1, 5) := by decide +kernel
theorem dX0_firstOf_21 : decode cX0_firstOf 21 = .ok (.ifCond .eq 8, 3) := dk_153 0 8 (dk_at dksX0_firstOf_0 21 rfl rfl)
theorem dX0_firstOf_24 : decode cX0_firstOf 24 = .ok (.bipush (-5), 2) := dk_16 251 (dk_at dksX0_firstOf_1 0 rfl rfl)
theorem dX0_firstOf_26 : decode cX0_firstOf 26 = .ok (.goto 31, 3) := dk_167 0 31 (dk_at dksX0_firstOf_1 2 rfl rfl)
theorem dX0_firstOf_29 : decode cX0_firstOf 29 = .ok (.aload_n 0, 1) := dk_42 (dk_at dksX0_firstOf_1 5 rfl rfl)
theorem dX0_firstOf_30 : decode cX0_firstOf 30 = .ok (.getfield 16, 3) := dk_180 0 16 (dk_at dksX0_firstOf_1 6 rfl rfl)
theorem dX0_firstOf_33 : decode cX0_firstOf 33 = .ok (.getfield 174, 3) := dk_180 0 174 (dk_at dksX0_firstOf_1 9 rfl rfl)
theorem dX0_firstOf_36 : decode cX0_firstOf 36 = .ok (.iload_n 1, 1) := dk_27 (dk_at dksX0_firstOf_1 12 rfl rfl)
theorem dX0_firstOf_37 : decode cX0_firstOf 37 = .ok (.invokeinterface 107 2, 5) := by decide +kernel
theorem dX0_firstOf_42 : decode cX0_firstOf 42 = .ok (.checkcast 39, 3) := dk_192 0 39 (dk_at dksX0_firstOf_1 18 rfl rfl)
theorem dX0_firstOf_45 : decode cX0_firstOf 45 = .ok (.iconst 0, 1) := dk_3 (dk_at dksX0_firstOf_1 21 rfl rfl)
theorem dX0_firstOf_46 : decode cX0_firstOf 46 = .ok (.invokeinterface 107 2, 5) := by decide +kernel
theorem dX0_firstOf_51 : decode cX0_firstOf 51 = .ok (.checkcast 63, 3) := dk_192 0 63 (dk_at dksX0_firstOf_2 5 rfl rfl)
theorem dX0_firstOf_54 : decode cX0_firstOf 54 = .ok (.getfield 205, 3) := dk_180 0 205 (dk_at dksX0_firstOf_2 8 rfl rfl)
theorem dX0_firstOf_57 : decode cX0_firstOf 57 = .ok (.ireturn, 1) := dk_172 (dk_at dksX0_firstOf_2 11 rfl rfl)
abbrev cX0_pound : ByteArray := prog_1_method_28_code
def yX0_pound : MethodName := ⟨RX0, "pound", "(II)I"⟩
def dkwX0_pound_3 : List UInt8 := [184, 0, 127, 172]
abbrev dktX0_pound_3 : List UInt8 := dkwX0_pound_3 ++ []
def dkwX0_pound_2 : List UInt8 := [180, 0, 120, 27, 46, 79, 89, 4, 29, 79, 89, 5, 21, 4, 79, 89, 6, 42, 27, 182, 0, 238, 79]
abbrev dktX0_pound_2 : List UInt8 := dkwX0_pound_2 ++ dktX0_pound_3
def dkwX0_pound_1 : List UInt8 := [180, 0, 16, 27, 186, 0, 237, 0, 0, 182, 0, 233, 54, 4, 28, 7, 188, 10, 89, 3, 42, 180, 0, 16]
abbrev dktX0_pound_1 : List UInt8 := dkwX0_pound_1 ++ dktX0_pound_2
def dkwX0_pound_0 : List UInt8 := [27, 184, 0, 56, 154, 0, 5, 2, 172, 42, 180, 0, 16, 27, 186, 0, 229, 0, 0, 182, 0, 233, 62, 42]
abbrev dktX0_pound_0 : List UInt8 := dkwX0_pound_0 ++ dktX0_pound_1
theorem dksX0_pound_0 : cX0_pound.data.toList.drop 0 = dktX0_pound_0 := by decide +kernel
theorem dksX0_pound_1 : cX0_pound.data.toList.drop 24 = dktX0_pound_1 := dk_seg dksX0_pound_0 24 rfl rfl
theorem dksX0_pound_2 : cX0_pound.data.toList.drop 48 = dktX0_pound_2 := dk_seg dksX0_pound_1 24 rfl rfl
theorem dksX0_pound_3 : cX0_pound.data.toList.drop 71 = dktX0_pound_3 := dk_seg dksX0_pound_2 23 rfl rfl
theorem dX0_pound_0 : decode cX0_pound 0 = .ok (.iload_n 1, 1) := dk_27 (dk_at dksX0_pound_0 0 rfl rfl)
theorem dX0_pound_1 : decode cX0_pound 1 = .ok (.invokestatic 56, 3) := dk_184 0 56 (dk_at dksX0_pound_0 1 rfl rfl)
theorem dX0_pound_4 : decode cX0_pound 4 = .ok (.ifCond .ne 5, 3) := dk_154 0 5 (dk_at dksX0_pound_0 4 rfl rfl)
theorem dX0_pound_7 : decode cX0_pound 7 = .ok (.iconst (-1), 1) := dk_2 (dk_at dksX0_pound_0 7 rfl rfl)
theorem dX0_pound_8 : decode cX0_pound 8 = .ok (.ireturn, 1) := dk_172 (dk_at dksX0_pound_0 8 rfl rfl)
theorem dX0_pound_9 : decode cX0_pound 9 = .ok (.aload_n 0, 1) := dk_42 (dk_at dksX0_pound_0 9 rfl rfl)
theorem dX0_pound_10 : decode cX0_pound 10 = .ok (.getfield 16, 3) := dk_180 0 16 (dk_at dksX0_pound_0 10 rfl rfl)
theorem dX0_pound_13 : decode cX0_pound 13 = .ok (.iload_n 1, 1) := dk_27 (dk_at dksX0_pound_0 13 rfl rfl)
theorem dX0_pound_14 : decode cX0_pound 14 = .ok (.invokedynamic 229, 5) := by decide +kernel
theorem dX0_pound_19 : decode cX0_pound 19 = .ok (.invokevirtual 233, 3) := dk_182 0 233 (dk_at dksX0_pound_0 19 rfl rfl)
theorem dX0_pound_22 : decode cX0_pound 22 = .ok (.istore_n 3, 1) := dk_62 (dk_at dksX0_pound_0 22 rfl rfl)
theorem dX0_pound_23 : decode cX0_pound 23 = .ok (.aload_n 0, 1) := dk_42 (dk_at dksX0_pound_0 23 rfl rfl)
theorem dX0_pound_24 : decode cX0_pound 24 = .ok (.getfield 16, 3) := dk_180 0 16 (dk_at dksX0_pound_1 0 rfl rfl)
theorem dX0_pound_27 : decode cX0_pound 27 = .ok (.iload_n 1, 1) := dk_27 (dk_at dksX0_pound_1 3 rfl rfl)
theorem dX0_pound_28 : decode cX0_pound 28 = .ok (.invokedynamic 237, 5) := by decide +kernel
theorem dX0_pound_33 : decode cX0_pound 33 = .ok (.invokevirtual 233, 3) := dk_182 0 233 (dk_at dksX0_pound_1 9 rfl rfl)
theorem dX0_pound_36 : decode cX0_pound 36 = .ok (.istore 4, 2) := dk_54 4 (dk_at dksX0_pound_1 12 rfl rfl)
theorem dX0_pound_38 : decode cX0_pound 38 = .ok (.iload_n 2, 1) := dk_28 (dk_at dksX0_pound_1 14 rfl rfl)
theorem dX0_pound_39 : decode cX0_pound 39 = .ok (.iconst 4, 1) := dk_7 (dk_at dksX0_pound_1 15 rfl rfl)
theorem dX0_pound_40 : decode cX0_pound 40 = .ok (.newarray .int, 2) := dk_188_10 (dk_at dksX0_pound_1 16 rfl rfl)
theorem dX0_pound_42 : decode cX0_pound 42 = .ok (.dup, 1) := dk_89 (dk_at dksX0_pound_1 18 rfl rfl)
theorem dX0_pound_43 : decode cX0_pound 43 = .ok (.iconst 0, 1) := dk_3 (dk_at dksX0_pound_1 19 rfl rfl)
theorem dX0_pound_44 : decode cX0_pound 44 = .ok (.aload_n 0, 1) := dk_42 (dk_at dksX0_pound_1 20 rfl rfl)
theorem dX0_pound_45 : decode cX0_pound 45 = .ok (.getfield 16, 3) := dk_180 0 16 (dk_at dksX0_pound_1 21 rfl rfl)
theorem dX0_pound_48 : decode cX0_pound 48 = .ok (.getfield 120, 3) := dk_180 0 120 (dk_at dksX0_pound_2 0 rfl rfl)
theorem dX0_pound_51 : decode cX0_pound 51 = .ok (.iload_n 1, 1) := dk_27 (dk_at dksX0_pound_2 3 rfl rfl)
theorem dX0_pound_52 : decode cX0_pound 52 = .ok (.iaload, 1) := dk_46 (dk_at dksX0_pound_2 4 rfl rfl)
theorem dX0_pound_53 : decode cX0_pound 53 = .ok (.iastore, 1) := dk_79 (dk_at dksX0_pound_2 5 rfl rfl)
theorem dX0_pound_54 : decode cX0_pound 54 = .ok (.dup, 1) := dk_89 (dk_at dksX0_pound_2 6 rfl rfl)
theorem dX0_pound_55 : decode cX0_pound 55 = .ok (.iconst 1, 1) := dk_4 (dk_at dksX0_pound_2 7 rfl rfl)
theorem dX0_pound_56 : decode cX0_pound 56 = .ok (.iload_n 3, 1) := dk_29 (dk_at dksX0_pound_2 8 rfl rfl)
theorem dX0_pound_57 : decode cX0_pound 57 = .ok (.iastore, 1) := dk_79 (dk_at dksX0_pound_2 9 rfl rfl)
theorem dX0_pound_58 : decode cX0_pound 58 = .ok (.dup, 1) := dk_89 (dk_at dksX0_pound_2 10 rfl rfl)
theorem dX0_pound_59 : decode cX0_pound 59 = .ok (.iconst 2, 1) := dk_5 (dk_at dksX0_pound_2 11 rfl rfl)
theorem dX0_pound_60 : decode cX0_pound 60 = .ok (.iload 4, 2) := dk_21 4 (dk_at dksX0_pound_2 12 rfl rfl)
theorem dX0_pound_62 : decode cX0_pound 62 = .ok (.iastore, 1) := dk_79 (dk_at dksX0_pound_2 14 rfl rfl)
theorem dX0_pound_63 : decode cX0_pound 63 = .ok (.dup, 1) := dk_89 (dk_at dksX0_pound_2 15 rfl rfl)
theorem dX0_pound_64 : decode cX0_pound 64 = .ok (.iconst 3, 1) := dk_6 (dk_at dksX0_pound_2 16 rfl rfl)
theorem dX0_pound_65 : decode cX0_pound 65 = .ok (.aload_n 0, 1) := dk_42 (dk_at dksX0_pound_2 17 rfl rfl)
theorem dX0_pound_66 : decode cX0_pound 66 = .ok (.iload_n 1, 1) := dk_27 (dk_at dksX0_pound_2 18 rfl rfl)
theorem dX0_pound_67 : decode cX0_pound 67 = .ok (.invokevirtual 238, 3) := dk_182 0 238 (dk_at dksX0_pound_2 19 rfl rfl)
theorem dX0_pound_70 : decode cX0_pound 70 = .ok (.iastore, 1) := dk_79 (dk_at dksX0_pound_2 22 rfl rfl)
theorem dX0_pound_71 : decode cX0_pound 71 = .ok (.invokestatic 127, 3) := dk_184 0 127 (dk_at dksX0_pound_3 0 rfl rfl)
theorem dX0_pound_74 : decode cX0_pound 74 = .ok (.ireturn, 1) := dk_172 (dk_at dksX0_pound_3 3 rfl rfl)
abbrev cX0_lambda_pound_0 : ByteArray := prog_1_method_39_code
def yX0_lambda_pound_0 : MethodName := ⟨RX0, "lambda$pound$0", "(ILCanalSteps$Boat;)Z"⟩
def dkwX0_lambda_pound_0_0 : List UInt8 := [43, 26, 182, 0, 220, 172]
abbrev dktX0_lambda_pound_0_0 : List UInt8 := dkwX0_lambda_pound_0_0 ++ []
theorem dksX0_lambda_pound_0_0 : cX0_lambda_pound_0.data.toList.drop 0 = dktX0_lambda_pound_0_0 := by decide +kernel
theorem dX0_lambda_pound_0_0 : decode cX0_lambda_pound_0 0 = .ok (.aload_n 1, 1) := dk_43 (dk_at dksX0_lambda_pound_0_0 0 rfl rfl)
theorem dX0_lambda_pound_0_1 : decode cX0_lambda_pound_0 1 = .ok (.iload_n 0, 1) := dk_26 (dk_at dksX0_lambda_pound_0_0 1 rfl rfl)
theorem dX0_lambda_pound_0_2 : decode cX0_lambda_pound_0 2 = .ok (.invokevirtual 220, 3) := dk_182 0 220 (dk_at dksX0_lambda_pound_0_0 2 rfl rfl)
theorem dX0_lambda_pound_0_5 : decode cX0_lambda_pound_0 5 = .ok (.ireturn, 1) := dk_172 (dk_at dksX0_lambda_pound_0_0 5 rfl rfl)
abbrev cX0_lambda_pound_1 : ByteArray := prog_1_method_38_code
def yX0_lambda_pound_1 : MethodName := ⟨RX0, "lambda$pound$1", "(ILCanalSteps$Boat;)Z"⟩
def dkwX0_lambda_pound_1_0 : List UInt8 := [43, 182, 0, 110, 153, 0, 15, 43, 180, 0, 187, 26, 160, 0, 7, 4, 167, 0, 4, 3, 172]
abbrev dktX0_lambda_pound_1_0 : List UInt8 := dkwX0_lambda_pound_1_0 ++ []
theorem dksX0_lambda_pound_1_0 : cX0_lambda_pound_1.data.toList.drop 0 = dktX0_lambda_pound_1_0 := by decide +kernel
theorem dX0_lambda_pound_1_0 : decode cX0_lambda_pound_1 0 = .ok (.aload_n 1, 1) := dk_43 (dk_at dksX0_lambda_pound_1_0 0 rfl rfl)
theorem dX0_lambda_pound_1_1 : decode cX0_lambda_pound_1 1 = .ok (.invokevirtual 110, 3) := dk_182 0 110 (dk_at dksX0_lambda_pound_1_0 1 rfl rfl)
theorem dX0_lambda_pound_1_4 : decode cX0_lambda_pound_1 4 = .ok (.ifCond .eq 15, 3) := dk_153 0 15 (dk_at dksX0_lambda_pound_1_0 4 rfl rfl)
theorem dX0_lambda_pound_1_7 : decode cX0_lambda_pound_1 7 = .ok (.aload_n 1, 1) := dk_43 (dk_at dksX0_lambda_pound_1_0 7 rfl rfl)
theorem dX0_lambda_pound_1_8 : decode cX0_lambda_pound_1 8 = .ok (.getfield 187, 3) := dk_180 0 187 (dk_at dksX0_lambda_pound_1_0 8 rfl rfl)
theorem dX0_lambda_pound_1_11 : decode cX0_lambda_pound_1 11 = .ok (.iload_n 0, 1) := dk_26 (dk_at dksX0_lambda_pound_1_0 11 rfl rfl)
theorem dX0_lambda_pound_1_12 : decode cX0_lambda_pound_1 12 = .ok (.if_icmp .ne 7, 3) := dk_160 0 7 (dk_at dksX0_lambda_pound_1_0 12 rfl rfl)
theorem dX0_lambda_pound_1_15 : decode cX0_lambda_pound_1 15 = .ok (.iconst 1, 1) := dk_4 (dk_at dksX0_lambda_pound_1_0 15 rfl rfl)
theorem dX0_lambda_pound_1_16 : decode cX0_lambda_pound_1 16 = .ok (.goto 4, 3) := dk_167 0 4 (dk_at dksX0_lambda_pound_1_0 16 rfl rfl)
theorem dX0_lambda_pound_1_19 : decode cX0_lambda_pound_1 19 = .ok (.iconst 0, 1) := dk_3 (dk_at dksX0_lambda_pound_1_0 19 rfl rfl)
theorem dX0_lambda_pound_1_20 : decode cX0_lambda_pound_1 20 = .ok (.ireturn, 1) := dk_172 (dk_at dksX0_lambda_pound_1_0 20 rfl rfl)
abbrev cX0_deepest : ByteArray := prog_1_method_27_code
def yX0_deepest : MethodName := ⟨RX0, "deepest", "(I)I"⟩
def dkwX0_deepest_3 : List UInt8 := [132, 3, 1, 167, 255, 186, 28, 172]
abbrev dktX0_deepest_3 : List UInt8 := dkwX0_deepest_3 ++ []
def dkwX0_deepest_2 : List UInt8 := [180, 0, 60, 29, 185, 0, 107, 2, 0, 192, 0, 63, 180, 0, 114, 184, 0, 223, 167, 0, 4, 28, 61]
abbrev dktX0_deepest_2 : List UInt8 := dkwX0_deepest_2 ++ dktX0_deepest_3
def dkwX0_deepest_1 : List UInt8 := [180, 0, 60, 29, 185, 0, 107, 2, 0, 192, 0, 63, 27, 182, 0, 220, 153, 0, 29, 28, 42, 180, 0, 16]
abbrev dktX0_deepest_1 : List UInt8 := dkwX0_deepest_1 ++ dktX0_deepest_2
def dkwX0_deepest_0 : List UInt8 := [3, 61, 3, 62, 29, 42, 180, 0, 16, 180, 0, 60, 185, 0, 38, 1, 0, 162, 0, 60, 42, 180, 0, 16]
abbrev dktX0_deepest_0 : List UInt8 := dkwX0_deepest_0 ++ dktX0_deepest_1
theorem dksX0_deepest_0 : cX0_deepest.data.toList.drop 0 = dktX0_deepest_0 := by decide +kernel
theorem dksX0_deepest_1 : cX0_deepest.data.toList.drop 24 = dktX0_deepest_1 := dk_seg dksX0_deepest_0 24 rfl rfl
theorem dksX0_deepest_2 : cX0_deepest.data.toList.drop 48 = dktX0_deepest_2 := dk_seg dksX0_deepest_1 24 rfl rfl
theorem dksX0_deepest_3 : cX0_deepest.data.toList.drop 71 = dktX0_deepest_3 := dk_seg dksX0_deepest_2 23 rfl rfl
theorem dX0_deepest_0 : decode cX0_deepest 0 = .ok (.iconst 0, 1) := dk_3 (dk_at dksX0_deepest_0 0 rfl rfl)
theorem dX0_deepest_1 : decode cX0_deepest 1 = .ok (.istore_n 2, 1) := dk_61 (dk_at dksX0_deepest_0 1 rfl rfl)
theorem dX0_deepest_2 : decode cX0_deepest 2 = .ok (.iconst 0, 1) := dk_3 (dk_at dksX0_deepest_0 2 rfl rfl)
theorem dX0_deepest_3 : decode cX0_deepest 3 = .ok (.istore_n 3, 1) := dk_62 (dk_at dksX0_deepest_0 3 rfl rfl)
theorem dX0_deepest_4 : decode cX0_deepest 4 = .ok (.iload_n 3, 1) := dk_29 (dk_at dksX0_deepest_0 4 rfl rfl)
theorem dX0_deepest_5 : decode cX0_deepest 5 = .ok (.aload_n 0, 1) := dk_42 (dk_at dksX0_deepest_0 5 rfl rfl)
theorem dX0_deepest_6 : decode cX0_deepest 6 = .ok (.getfield 16, 3) := dk_180 0 16 (dk_at dksX0_deepest_0 6 rfl rfl)
theorem dX0_deepest_9 : decode cX0_deepest 9 = .ok (.getfield 60, 3) := dk_180 0 60 (dk_at dksX0_deepest_0 9 rfl rfl)
theorem dX0_deepest_12 : decode cX0_deepest 12 = .ok (.invokeinterface 38 1, 5) := by decide +kernel
theorem dX0_deepest_17 : decode cX0_deepest 17 = .ok (.if_icmp .ge 60, 3) := dk_162 0 60 (dk_at dksX0_deepest_0 17 rfl rfl)
theorem dX0_deepest_20 : decode cX0_deepest 20 = .ok (.aload_n 0, 1) := dk_42 (dk_at dksX0_deepest_0 20 rfl rfl)
theorem dX0_deepest_21 : decode cX0_deepest 21 = .ok (.getfield 16, 3) := dk_180 0 16 (dk_at dksX0_deepest_0 21 rfl rfl)
theorem dX0_deepest_24 : decode cX0_deepest 24 = .ok (.getfield 60, 3) := dk_180 0 60 (dk_at dksX0_deepest_1 0 rfl rfl)
theorem dX0_deepest_27 : decode cX0_deepest 27 = .ok (.iload_n 3, 1) := dk_29 (dk_at dksX0_deepest_1 3 rfl rfl)
theorem dX0_deepest_28 : decode cX0_deepest 28 = .ok (.invokeinterface 107 2, 5) := by decide +kernel
theorem dX0_deepest_33 : decode cX0_deepest 33 = .ok (.checkcast 63, 3) := dk_192 0 63 (dk_at dksX0_deepest_1 9 rfl rfl)
theorem dX0_deepest_36 : decode cX0_deepest 36 = .ok (.iload_n 1, 1) := dk_27 (dk_at dksX0_deepest_1 12 rfl rfl)
theorem dX0_deepest_37 : decode cX0_deepest 37 = .ok (.invokevirtual 220, 3) := dk_182 0 220 (dk_at dksX0_deepest_1 13 rfl rfl)
theorem dX0_deepest_40 : decode cX0_deepest 40 = .ok (.ifCond .eq 29, 3) := dk_153 0 29 (dk_at dksX0_deepest_1 16 rfl rfl)
theorem dX0_deepest_43 : decode cX0_deepest 43 = .ok (.iload_n 2, 1) := dk_28 (dk_at dksX0_deepest_1 19 rfl rfl)
theorem dX0_deepest_44 : decode cX0_deepest 44 = .ok (.aload_n 0, 1) := dk_42 (dk_at dksX0_deepest_1 20 rfl rfl)
theorem dX0_deepest_45 : decode cX0_deepest 45 = .ok (.getfield 16, 3) := dk_180 0 16 (dk_at dksX0_deepest_1 21 rfl rfl)
theorem dX0_deepest_48 : decode cX0_deepest 48 = .ok (.getfield 60, 3) := dk_180 0 60 (dk_at dksX0_deepest_2 0 rfl rfl)
theorem dX0_deepest_51 : decode cX0_deepest 51 = .ok (.iload_n 3, 1) := dk_29 (dk_at dksX0_deepest_2 3 rfl rfl)
theorem dX0_deepest_52 : decode cX0_deepest 52 = .ok (.invokeinterface 107 2, 5) := by decide +kernel
theorem dX0_deepest_57 : decode cX0_deepest 57 = .ok (.checkcast 63, 3) := dk_192 0 63 (dk_at dksX0_deepest_2 9 rfl rfl)
theorem dX0_deepest_60 : decode cX0_deepest 60 = .ok (.getfield 114, 3) := dk_180 0 114 (dk_at dksX0_deepest_2 12 rfl rfl)
theorem dX0_deepest_63 : decode cX0_deepest 63 = .ok (.invokestatic 223, 3) := dk_184 0 223 (dk_at dksX0_deepest_2 15 rfl rfl)
theorem dX0_deepest_66 : decode cX0_deepest 66 = .ok (.goto 4, 3) := dk_167 0 4 (dk_at dksX0_deepest_2 18 rfl rfl)
theorem dX0_deepest_69 : decode cX0_deepest 69 = .ok (.iload_n 2, 1) := dk_28 (dk_at dksX0_deepest_2 21 rfl rfl)
theorem dX0_deepest_70 : decode cX0_deepest 70 = .ok (.istore_n 2, 1) := dk_61 (dk_at dksX0_deepest_2 22 rfl rfl)
theorem dX0_deepest_71 : decode cX0_deepest 71 = .ok (.iinc 3 1, 3) := dk_132 3 1 (dk_at dksX0_deepest_3 0 rfl rfl)
theorem dX0_deepest_74 : decode cX0_deepest 74 = .ok (.goto (-70), 3) := dk_167 255 186 (dk_at dksX0_deepest_3 3 rfl rfl)
theorem dX0_deepest_77 : decode cX0_deepest 77 = .ok (.iload_n 2, 1) := dk_28 (dk_at dksX0_deepest_3 6 rfl rfl)
theorem dX0_deepest_78 : decode cX0_deepest 78 = .ok (.ireturn, 1) := dk_172 (dk_at dksX0_deepest_3 7 rfl rfl)
abbrev cX0_reason : ByteArray := prog_1_method_29_code
def yX0_reason : MethodName := ⟨RX0, "reason", "(I)I"⟩
def dkwX0_reason_2 : List UInt8 := [44, 44, 180, 0, 60, 27, 185, 0, 107, 2, 0, 192, 0, 63, 182, 0, 241, 172]
abbrev dktX0_reason_2 : List UInt8 := dkwX0_reason_2 ++ []
def dkwX0_reason_1 : List UInt8 := [185, 0, 107, 2, 0, 192, 0, 63, 182, 0, 110, 153, 0, 5, 4, 172, 42, 180, 0, 16, 182, 0, 93, 77]
abbrev dktX0_reason_1 : List UInt8 := dkwX0_reason_1 ++ dktX0_reason_2
def dkwX0_reason_0 : List UInt8 := [42, 180, 0, 16, 27, 182, 0, 104, 154, 0, 5, 2, 172, 42, 180, 0, 16, 180, 0, 60, 27]
abbrev dktX0_reason_0 : List UInt8 := dkwX0_reason_0 ++ dktX0_reason_1
theorem dksX0_reason_0 : cX0_reason.data.toList.drop 0 = dktX0_reason_0 := by decide +kernel
theorem dksX0_reason_1 : cX0_reason.data.toList.drop 21 = dktX0_reason_1 := dk_seg dksX0_reason_0 21 rfl rfl
theorem dksX0_reason_2 : cX0_reason.data.toList.drop 45 = dktX0_reason_2 := dk_seg dksX0_reason_1 24 rfl rfl
theorem dX0_reason_0 : decode cX0_reason 0 = .ok (.aload_n 0, 1) := dk_42 (dk_at dksX0_reason_0 0 rfl rfl)
theorem dX0_reason_1 : decode cX0_reason 1 = .ok (.getfield 16, 3) := dk_180 0 16 (dk_at dksX0_reason_0 1 rfl rfl)
theorem dX0_reason_4 : decode cX0_reason 4 = .ok (.iload_n 1, 1) := dk_27 (dk_at dksX0_reason_0 4 rfl rfl)
theorem dX0_reason_5 : decode cX0_reason 5 = .ok (.invokevirtual 104, 3) := dk_182 0 104 (dk_at dksX0_reason_0 5 rfl rfl)
theorem dX0_reason_8 : decode cX0_reason 8 = .ok (.ifCond .ne 5, 3) := dk_154 0 5 (dk_at dksX0_reason_0 8 rfl rfl)
theorem dX0_reason_11 : decode cX0_reason 11 = .ok (.iconst (-1), 1) := dk_2 (dk_at dksX0_reason_0 11 rfl rfl)
theorem dX0_reason_12 : decode cX0_reason 12 = .ok (.ireturn, 1) := dk_172 (dk_at dksX0_reason_0 12 rfl rfl)
theorem dX0_reason_13 : decode cX0_reason 13 = .ok (.aload_n 0, 1) := dk_42 (dk_at dksX0_reason_0 13 rfl rfl)
theorem dX0_reason_14 : decode cX0_reason 14 = .ok (.getfield 16, 3) := dk_180 0 16 (dk_at dksX0_reason_0 14 rfl rfl)
theorem dX0_reason_17 : decode cX0_reason 17 = .ok (.getfield 60, 3) := dk_180 0 60 (dk_at dksX0_reason_0 17 rfl rfl)
theorem dX0_reason_20 : decode cX0_reason 20 = .ok (.iload_n 1, 1) := dk_27 (dk_at dksX0_reason_0 20 rfl rfl)
theorem dX0_reason_21 : decode cX0_reason 21 = .ok (.invokeinterface 107 2, 5) := by decide +kernel
theorem dX0_reason_26 : decode cX0_reason 26 = .ok (.checkcast 63, 3) := dk_192 0 63 (dk_at dksX0_reason_1 5 rfl rfl)
theorem dX0_reason_29 : decode cX0_reason 29 = .ok (.invokevirtual 110, 3) := dk_182 0 110 (dk_at dksX0_reason_1 8 rfl rfl)
theorem dX0_reason_32 : decode cX0_reason 32 = .ok (.ifCond .eq 5, 3) := dk_153 0 5 (dk_at dksX0_reason_1 11 rfl rfl)
theorem dX0_reason_35 : decode cX0_reason 35 = .ok (.iconst 1, 1) := dk_4 (dk_at dksX0_reason_1 14 rfl rfl)
theorem dX0_reason_36 : decode cX0_reason 36 = .ok (.ireturn, 1) := dk_172 (dk_at dksX0_reason_1 15 rfl rfl)
theorem dX0_reason_37 : decode cX0_reason 37 = .ok (.aload_n 0, 1) := dk_42 (dk_at dksX0_reason_1 16 rfl rfl)
theorem dX0_reason_38 : decode cX0_reason 38 = .ok (.getfield 16, 3) := dk_180 0 16 (dk_at dksX0_reason_1 17 rfl rfl)
theorem dX0_reason_41 : decode cX0_reason 41 = .ok (.invokevirtual 93, 3) := dk_182 0 93 (dk_at dksX0_reason_1 20 rfl rfl)
theorem dX0_reason_44 : decode cX0_reason 44 = .ok (.astore_n 2, 1) := dk_77 (dk_at dksX0_reason_1 23 rfl rfl)
theorem dX0_reason_45 : decode cX0_reason 45 = .ok (.aload_n 2, 1) := dk_44 (dk_at dksX0_reason_2 0 rfl rfl)
theorem dX0_reason_46 : decode cX0_reason 46 = .ok (.aload_n 2, 1) := dk_44 (dk_at dksX0_reason_2 1 rfl rfl)
theorem dX0_reason_47 : decode cX0_reason 47 = .ok (.getfield 60, 3) := dk_180 0 60 (dk_at dksX0_reason_2 2 rfl rfl)
theorem dX0_reason_50 : decode cX0_reason 50 = .ok (.iload_n 1, 1) := dk_27 (dk_at dksX0_reason_2 5 rfl rfl)
theorem dX0_reason_51 : decode cX0_reason 51 = .ok (.invokeinterface 107 2, 5) := by decide +kernel
theorem dX0_reason_56 : decode cX0_reason 56 = .ok (.checkcast 63, 3) := dk_192 0 63 (dk_at dksX0_reason_2 11 rfl rfl)
theorem dX0_reason_59 : decode cX0_reason 59 = .ok (.invokevirtual 241, 3) := dk_182 0 241 (dk_at dksX0_reason_2 14 rfl rfl)
theorem dX0_reason_62 : decode cX0_reason 62 = .ok (.ireturn, 1) := dk_172 (dk_at dksX0_reason_2 17 rfl rfl)
abbrev cX0_arrivesIn : ByteArray := prog_1_method_30_code
def yX0_arrivesIn : MethodName := ⟨RX0, "arrivesIn", "(I)I"⟩
def dkwX0_arrivesIn_2 : List UInt8 := [153, 0, 5, 29, 172, 44, 182, 0, 90, 87, 132, 3, 1, 167, 255, 220, 16, 251, 172]
abbrev dktX0_arrivesIn_2 : List UInt8 := dkwX0_arrivesIn_2 ++ []
def dkwX0_arrivesIn_1 : List UInt8 := [17, 1, 244, 163, 0, 35, 44, 180, 0, 60, 27, 185, 0, 107, 2, 0, 192, 0, 63, 182, 0, 110]
abbrev dktX0_arrivesIn_1 : List UInt8 := dkwX0_arrivesIn_1 ++ dktX0_arrivesIn_2
def dkwX0_arrivesIn_0 : List UInt8 := [42, 180, 0, 16, 27, 182, 0, 104, 154, 0, 5, 2, 172, 42, 180, 0, 16, 182, 0, 93, 77, 3, 62, 29]
abbrev dktX0_arrivesIn_0 : List UInt8 := dkwX0_arrivesIn_0 ++ dktX0_arrivesIn_1
theorem dksX0_arrivesIn_0 : cX0_arrivesIn.data.toList.drop 0 = dktX0_arrivesIn_0 := by decide +kernel
theorem dksX0_arrivesIn_1 : cX0_arrivesIn.data.toList.drop 24 = dktX0_arrivesIn_1 := dk_seg dksX0_arrivesIn_0 24 rfl rfl
theorem dksX0_arrivesIn_2 : cX0_arrivesIn.data.toList.drop 46 = dktX0_arrivesIn_2 := dk_seg dksX0_arrivesIn_1 22 rfl rfl
theorem dX0_arrivesIn_0 : decode cX0_arrivesIn 0 = .ok (.aload_n 0, 1) := dk_42 (dk_at dksX0_arrivesIn_0 0 rfl rfl)
theorem dX0_arrivesIn_1 : decode cX0_arrivesIn 1 = .ok (.getfield 16, 3) := dk_180 0 16 (dk_at dksX0_arrivesIn_0 1 rfl rfl)
theorem dX0_arrivesIn_4 : decode cX0_arrivesIn 4 = .ok (.iload_n 1, 1) := dk_27 (dk_at dksX0_arrivesIn_0 4 rfl rfl)
theorem dX0_arrivesIn_5 : decode cX0_arrivesIn 5 = .ok (.invokevirtual 104, 3) := dk_182 0 104 (dk_at dksX0_arrivesIn_0 5 rfl rfl)
theorem dX0_arrivesIn_8 : decode cX0_arrivesIn 8 = .ok (.ifCond .ne 5, 3) := dk_154 0 5 (dk_at dksX0_arrivesIn_0 8 rfl rfl)
theorem dX0_arrivesIn_11 : decode cX0_arrivesIn 11 = .ok (.iconst (-1), 1) := dk_2 (dk_at dksX0_arrivesIn_0 11 rfl rfl)
theorem dX0_arrivesIn_12 : decode cX0_arrivesIn 12 = .ok (.ireturn, 1) := dk_172 (dk_at dksX0_arrivesIn_0 12 rfl rfl)
theorem dX0_arrivesIn_13 : decode cX0_arrivesIn 13 = .ok (.aload_n 0, 1) := dk_42 (dk_at dksX0_arrivesIn_0 13 rfl rfl)
theorem dX0_arrivesIn_14 : decode cX0_arrivesIn 14 = .ok (.getfield 16, 3) := dk_180 0 16 (dk_at dksX0_arrivesIn_0 14 rfl rfl)
theorem dX0_arrivesIn_17 : decode cX0_arrivesIn 17 = .ok (.invokevirtual 93, 3) := dk_182 0 93 (dk_at dksX0_arrivesIn_0 17 rfl rfl)
theorem dX0_arrivesIn_20 : decode cX0_arrivesIn 20 = .ok (.astore_n 2, 1) := dk_77 (dk_at dksX0_arrivesIn_0 20 rfl rfl)
theorem dX0_arrivesIn_21 : decode cX0_arrivesIn 21 = .ok (.iconst 0, 1) := dk_3 (dk_at dksX0_arrivesIn_0 21 rfl rfl)
theorem dX0_arrivesIn_22 : decode cX0_arrivesIn 22 = .ok (.istore_n 3, 1) := dk_62 (dk_at dksX0_arrivesIn_0 22 rfl rfl)
theorem dX0_arrivesIn_23 : decode cX0_arrivesIn 23 = .ok (.iload_n 3, 1) := dk_29 (dk_at dksX0_arrivesIn_0 23 rfl rfl)
theorem dX0_arrivesIn_24 : decode cX0_arrivesIn 24 = .ok (.sipush 500, 3) := dk_17 1 244 (dk_at dksX0_arrivesIn_1 0 rfl rfl)
theorem dX0_arrivesIn_27 : decode cX0_arrivesIn 27 = .ok (.if_icmp .gt 35, 3) := dk_163 0 35 (dk_at dksX0_arrivesIn_1 3 rfl rfl)
theorem dX0_arrivesIn_30 : decode cX0_arrivesIn 30 = .ok (.aload_n 2, 1) := dk_44 (dk_at dksX0_arrivesIn_1 6 rfl rfl)
theorem dX0_arrivesIn_31 : decode cX0_arrivesIn 31 = .ok (.getfield 60, 3) := dk_180 0 60 (dk_at dksX0_arrivesIn_1 7 rfl rfl)
theorem dX0_arrivesIn_34 : decode cX0_arrivesIn 34 = .ok (.iload_n 1, 1) := dk_27 (dk_at dksX0_arrivesIn_1 10 rfl rfl)
theorem dX0_arrivesIn_35 : decode cX0_arrivesIn 35 = .ok (.invokeinterface 107 2, 5) := by decide +kernel
theorem dX0_arrivesIn_40 : decode cX0_arrivesIn 40 = .ok (.checkcast 63, 3) := dk_192 0 63 (dk_at dksX0_arrivesIn_1 16 rfl rfl)
theorem dX0_arrivesIn_43 : decode cX0_arrivesIn 43 = .ok (.invokevirtual 110, 3) := dk_182 0 110 (dk_at dksX0_arrivesIn_1 19 rfl rfl)
theorem dX0_arrivesIn_46 : decode cX0_arrivesIn 46 = .ok (.ifCond .eq 5, 3) := dk_153 0 5 (dk_at dksX0_arrivesIn_2 0 rfl rfl)
theorem dX0_arrivesIn_49 : decode cX0_arrivesIn 49 = .ok (.iload_n 3, 1) := dk_29 (dk_at dksX0_arrivesIn_2 3 rfl rfl)
theorem dX0_arrivesIn_50 : decode cX0_arrivesIn 50 = .ok (.ireturn, 1) := dk_172 (dk_at dksX0_arrivesIn_2 4 rfl rfl)
theorem dX0_arrivesIn_51 : decode cX0_arrivesIn 51 = .ok (.aload_n 2, 1) := dk_44 (dk_at dksX0_arrivesIn_2 5 rfl rfl)
theorem dX0_arrivesIn_52 : decode cX0_arrivesIn 52 = .ok (.invokevirtual 90, 3) := dk_182 0 90 (dk_at dksX0_arrivesIn_2 6 rfl rfl)
theorem dX0_arrivesIn_55 : decode cX0_arrivesIn 55 = .ok (.pop, 1) := dk_87 (dk_at dksX0_arrivesIn_2 9 rfl rfl)
theorem dX0_arrivesIn_56 : decode cX0_arrivesIn 56 = .ok (.iinc 3 1, 3) := dk_132 3 1 (dk_at dksX0_arrivesIn_2 10 rfl rfl)
theorem dX0_arrivesIn_59 : decode cX0_arrivesIn 59 = .ok (.goto (-36), 3) := dk_167 255 220 (dk_at dksX0_arrivesIn_2 13 rfl rfl)
theorem dX0_arrivesIn_62 : decode cX0_arrivesIn 62 = .ok (.bipush (-5), 2) := dk_16 251 (dk_at dksX0_arrivesIn_2 16 rfl rfl)
theorem dX0_arrivesIn_64 : decode cX0_arrivesIn 64 = .ok (.ireturn, 1) := dk_172 (dk_at dksX0_arrivesIn_2 18 rfl rfl)
abbrev cX0_water : ByteArray := prog_1_method_31_code
def yX0_water : MethodName := ⟨RX0, "water", "(I)I"⟩
def dkwX0_water_2 : List UInt8 := [180, 0, 249, 96, 42, 180, 0, 16, 180, 0, 124, 96, 42, 180, 0, 16, 180, 0, 252, 100, 172]
abbrev dktX0_water_2 : List UInt8 := dkwX0_water_2 ++ []
def dkwX0_water_1 : List UInt8 := [184, 0, 245, 42, 180, 0, 16, 180, 0, 217, 184, 0, 245, 96, 167, 0, 30, 17, 0, 240, 42, 180, 0, 16]
abbrev dktX0_water_1 : List UInt8 := dkwX0_water_1 ++ dktX0_water_2
def dkwX0_water_0 : List UInt8 := [27, 3, 4, 184, 0, 3, 154, 0, 6, 16, 254, 172, 27, 154, 0, 27, 42, 180, 0, 16, 180, 0, 120]
abbrev dktX0_water_0 : List UInt8 := dkwX0_water_0 ++ dktX0_water_1
theorem dksX0_water_0 : cX0_water.data.toList.drop 0 = dktX0_water_0 := by decide +kernel
theorem dksX0_water_1 : cX0_water.data.toList.drop 23 = dktX0_water_1 := dk_seg dksX0_water_0 23 rfl rfl
theorem dksX0_water_2 : cX0_water.data.toList.drop 47 = dktX0_water_2 := dk_seg dksX0_water_1 24 rfl rfl
theorem dX0_water_0 : decode cX0_water 0 = .ok (.iload_n 1, 1) := dk_27 (dk_at dksX0_water_0 0 rfl rfl)
theorem dX0_water_1 : decode cX0_water 1 = .ok (.iconst 0, 1) := dk_3 (dk_at dksX0_water_0 1 rfl rfl)
theorem dX0_water_2 : decode cX0_water 2 = .ok (.iconst 1, 1) := dk_4 (dk_at dksX0_water_0 2 rfl rfl)
theorem dX0_water_3 : decode cX0_water 3 = .ok (.invokestatic 3, 3) := dk_184 0 3 (dk_at dksX0_water_0 3 rfl rfl)
theorem dX0_water_6 : decode cX0_water 6 = .ok (.ifCond .ne 6, 3) := dk_154 0 6 (dk_at dksX0_water_0 6 rfl rfl)
theorem dX0_water_9 : decode cX0_water 9 = .ok (.bipush (-2), 2) := dk_16 254 (dk_at dksX0_water_0 9 rfl rfl)
theorem dX0_water_11 : decode cX0_water 11 = .ok (.ireturn, 1) := dk_172 (dk_at dksX0_water_0 11 rfl rfl)
theorem dX0_water_12 : decode cX0_water 12 = .ok (.iload_n 1, 1) := dk_27 (dk_at dksX0_water_0 12 rfl rfl)
theorem dX0_water_13 : decode cX0_water 13 = .ok (.ifCond .ne 27, 3) := dk_154 0 27 (dk_at dksX0_water_0 13 rfl rfl)
theorem dX0_water_16 : decode cX0_water 16 = .ok (.aload_n 0, 1) := dk_42 (dk_at dksX0_water_0 16 rfl rfl)
theorem dX0_water_17 : decode cX0_water 17 = .ok (.getfield 16, 3) := dk_180 0 16 (dk_at dksX0_water_0 17 rfl rfl)
theorem dX0_water_20 : decode cX0_water 20 = .ok (.getfield 120, 3) := dk_180 0 120 (dk_at dksX0_water_0 20 rfl rfl)
theorem dX0_water_23 : decode cX0_water 23 = .ok (.invokestatic 245, 3) := dk_184 0 245 (dk_at dksX0_water_1 0 rfl rfl)
theorem dX0_water_26 : decode cX0_water 26 = .ok (.aload_n 0, 1) := dk_42 (dk_at dksX0_water_1 3 rfl rfl)
theorem dX0_water_27 : decode cX0_water 27 = .ok (.getfield 16, 3) := dk_180 0 16 (dk_at dksX0_water_1 4 rfl rfl)
theorem dX0_water_30 : decode cX0_water 30 = .ok (.getfield 217, 3) := dk_180 0 217 (dk_at dksX0_water_1 7 rfl rfl)
theorem dX0_water_33 : decode cX0_water 33 = .ok (.invokestatic 245, 3) := dk_184 0 245 (dk_at dksX0_water_1 10 rfl rfl)
theorem dX0_water_36 : decode cX0_water 36 = .ok (.iadd, 1) := dk_96 (dk_at dksX0_water_1 13 rfl rfl)
theorem dX0_water_37 : decode cX0_water 37 = .ok (.goto 30, 3) := dk_167 0 30 (dk_at dksX0_water_1 14 rfl rfl)
theorem dX0_water_40 : decode cX0_water 40 = .ok (.sipush 240, 3) := dk_17 0 240 (dk_at dksX0_water_1 17 rfl rfl)
theorem dX0_water_43 : decode cX0_water 43 = .ok (.aload_n 0, 1) := dk_42 (dk_at dksX0_water_1 20 rfl rfl)
theorem dX0_water_44 : decode cX0_water 44 = .ok (.getfield 16, 3) := dk_180 0 16 (dk_at dksX0_water_1 21 rfl rfl)
theorem dX0_water_47 : decode cX0_water 47 = .ok (.getfield 249, 3) := dk_180 0 249 (dk_at dksX0_water_2 0 rfl rfl)
theorem dX0_water_50 : decode cX0_water 50 = .ok (.iadd, 1) := dk_96 (dk_at dksX0_water_2 3 rfl rfl)
theorem dX0_water_51 : decode cX0_water 51 = .ok (.aload_n 0, 1) := dk_42 (dk_at dksX0_water_2 4 rfl rfl)
theorem dX0_water_52 : decode cX0_water 52 = .ok (.getfield 16, 3) := dk_180 0 16 (dk_at dksX0_water_2 5 rfl rfl)
theorem dX0_water_55 : decode cX0_water 55 = .ok (.getfield 124, 3) := dk_180 0 124 (dk_at dksX0_water_2 8 rfl rfl)
theorem dX0_water_58 : decode cX0_water 58 = .ok (.iadd, 1) := dk_96 (dk_at dksX0_water_2 11 rfl rfl)
theorem dX0_water_59 : decode cX0_water 59 = .ok (.aload_n 0, 1) := dk_42 (dk_at dksX0_water_2 12 rfl rfl)
theorem dX0_water_60 : decode cX0_water 60 = .ok (.getfield 16, 3) := dk_180 0 16 (dk_at dksX0_water_2 13 rfl rfl)
theorem dX0_water_63 : decode cX0_water 63 = .ok (.getfield 252, 3) := dk_180 0 252 (dk_at dksX0_water_2 16 rfl rfl)
theorem dX0_water_66 : decode cX0_water 66 = .ok (.isub, 1) := dk_100 (dk_at dksX0_water_2 19 rfl rfl)
theorem dX0_water_67 : decode cX0_water 67 = .ok (.ireturn, 1) := dk_172 (dk_at dksX0_water_2 20 rfl rfl)
abbrev cX0_bestTurn : ByteArray := prog_1_method_33_code
def yX0_bestTurn : MethodName := ⟨RX0, "bestTurn", "(I)I"⟩
def dkwX0_bestTurn_4 : List UInt8 := [16, 251, 167, 0, 20, 27, 154, 0, 7, 28, 167, 0, 12, 29, 42, 180, 0, 16, 182, 0, 255, 100, 172]
abbrev dktX0_bestTurn_4 : List UInt8 := dkwX0_bestTurn_4 ++ []
def dkwX0_bestTurn_3 : List UInt8 := [163, 0, 6, 167, 0, 9, 21, 4, 61, 21, 6, 62, 132, 4, 1, 167, 255, 201, 28, 16, 251, 160, 0, 8]
abbrev dktX0_bestTurn_3 : List UInt8 := dkwX0_bestTurn_3 ++ dktX0_bestTurn_4
def dkwX0_bestTurn_2 : List UInt8 := [21, 4, 184, 0, 117, 156, 0, 6, 167, 0, 27, 25, 5, 16, 40, 184, 1, 2, 54, 6, 21, 6, 29]
abbrev dktX0_bestTurn_2 : List UInt8 := dkwX0_bestTurn_2 ++ dktX0_bestTurn_3
def dkwX0_bestTurn_1 : List UInt8 := [184, 1, 2, 62, 3, 54, 4, 21, 4, 8, 162, 0, 55, 42, 180, 0, 16, 182, 0, 93, 58, 5, 25, 5]
abbrev dktX0_bestTurn_1 : List UInt8 := dkwX0_bestTurn_1 ++ dktX0_bestTurn_2
def dkwX0_bestTurn_0 : List UInt8 := [27, 3, 4, 184, 0, 3, 154, 0, 6, 16, 254, 172, 16, 251, 61, 42, 180, 0, 16, 182, 0, 93, 16, 40]
abbrev dktX0_bestTurn_0 : List UInt8 := dkwX0_bestTurn_0 ++ dktX0_bestTurn_1
theorem dksX0_bestTurn_0 : cX0_bestTurn.data.toList.drop 0 = dktX0_bestTurn_0 := by decide +kernel
theorem dksX0_bestTurn_1 : cX0_bestTurn.data.toList.drop 24 = dktX0_bestTurn_1 := dk_seg dksX0_bestTurn_0 24 rfl rfl
theorem dksX0_bestTurn_2 : cX0_bestTurn.data.toList.drop 48 = dktX0_bestTurn_2 := dk_seg dksX0_bestTurn_1 24 rfl rfl
theorem dksX0_bestTurn_3 : cX0_bestTurn.data.toList.drop 71 = dktX0_bestTurn_3 := dk_seg dksX0_bestTurn_2 23 rfl rfl
theorem dksX0_bestTurn_4 : cX0_bestTurn.data.toList.drop 95 = dktX0_bestTurn_4 := dk_seg dksX0_bestTurn_3 24 rfl rfl
theorem dX0_bestTurn_0 : decode cX0_bestTurn 0 = .ok (.iload_n 1, 1) := dk_27 (dk_at dksX0_bestTurn_0 0 rfl rfl)
theorem dX0_bestTurn_1 : decode cX0_bestTurn 1 = .ok (.iconst 0, 1) := dk_3 (dk_at dksX0_bestTurn_0 1 rfl rfl)
theorem dX0_bestTurn_2 : decode cX0_bestTurn 2 = .ok (.iconst 1, 1) := dk_4 (dk_at dksX0_bestTurn_0 2 rfl rfl)
theorem dX0_bestTurn_3 : decode cX0_bestTurn 3 = .ok (.invokestatic 3, 3) := dk_184 0 3 (dk_at dksX0_bestTurn_0 3 rfl rfl)
theorem dX0_bestTurn_6 : decode cX0_bestTurn 6 = .ok (.ifCond .ne 6, 3) := dk_154 0 6 (dk_at dksX0_bestTurn_0 6 rfl rfl)
theorem dX0_bestTurn_9 : decode cX0_bestTurn 9 = .ok (.bipush (-2), 2) := dk_16 254 (dk_at dksX0_bestTurn_0 9 rfl rfl)
theorem dX0_bestTurn_11 : decode cX0_bestTurn 11 = .ok (.ireturn, 1) := dk_172 (dk_at dksX0_bestTurn_0 11 rfl rfl)
theorem dX0_bestTurn_12 : decode cX0_bestTurn 12 = .ok (.bipush (-5), 2) := dk_16 251 (dk_at dksX0_bestTurn_0 12 rfl rfl)
theorem dX0_bestTurn_14 : decode cX0_bestTurn 14 = .ok (.istore_n 2, 1) := dk_61 (dk_at dksX0_bestTurn_0 14 rfl rfl)
theorem dX0_bestTurn_15 : decode cX0_bestTurn 15 = .ok (.aload_n 0, 1) := dk_42 (dk_at dksX0_bestTurn_0 15 rfl rfl)
theorem dX0_bestTurn_16 : decode cX0_bestTurn 16 = .ok (.getfield 16, 3) := dk_180 0 16 (dk_at dksX0_bestTurn_0 16 rfl rfl)
theorem dX0_bestTurn_19 : decode cX0_bestTurn 19 = .ok (.invokevirtual 93, 3) := dk_182 0 93 (dk_at dksX0_bestTurn_0 19 rfl rfl)
theorem dX0_bestTurn_22 : decode cX0_bestTurn 22 = .ok (.bipush 40, 2) := dk_16 40 (dk_at dksX0_bestTurn_0 22 rfl rfl)
theorem dX0_bestTurn_24 : decode cX0_bestTurn 24 = .ok (.invokestatic 258, 3) := dk_184 1 2 (dk_at dksX0_bestTurn_1 0 rfl rfl)
theorem dX0_bestTurn_27 : decode cX0_bestTurn 27 = .ok (.istore_n 3, 1) := dk_62 (dk_at dksX0_bestTurn_1 3 rfl rfl)
theorem dX0_bestTurn_28 : decode cX0_bestTurn 28 = .ok (.iconst 0, 1) := dk_3 (dk_at dksX0_bestTurn_1 4 rfl rfl)
theorem dX0_bestTurn_29 : decode cX0_bestTurn 29 = .ok (.istore 4, 2) := dk_54 4 (dk_at dksX0_bestTurn_1 5 rfl rfl)
theorem dX0_bestTurn_31 : decode cX0_bestTurn 31 = .ok (.iload 4, 2) := dk_21 4 (dk_at dksX0_bestTurn_1 7 rfl rfl)
theorem dX0_bestTurn_33 : decode cX0_bestTurn 33 = .ok (.iconst 5, 1) := dk_8 (dk_at dksX0_bestTurn_1 9 rfl rfl)
theorem dX0_bestTurn_34 : decode cX0_bestTurn 34 = .ok (.if_icmp .ge 55, 3) := dk_162 0 55 (dk_at dksX0_bestTurn_1 10 rfl rfl)
theorem dX0_bestTurn_37 : decode cX0_bestTurn 37 = .ok (.aload_n 0, 1) := dk_42 (dk_at dksX0_bestTurn_1 13 rfl rfl)
theorem dX0_bestTurn_38 : decode cX0_bestTurn 38 = .ok (.getfield 16, 3) := dk_180 0 16 (dk_at dksX0_bestTurn_1 14 rfl rfl)
theorem dX0_bestTurn_41 : decode cX0_bestTurn 41 = .ok (.invokevirtual 93, 3) := dk_182 0 93 (dk_at dksX0_bestTurn_1 17 rfl rfl)
theorem dX0_bestTurn_44 : decode cX0_bestTurn 44 = .ok (.astore 5, 2) := dk_58 5 (dk_at dksX0_bestTurn_1 20 rfl rfl)
theorem dX0_bestTurn_46 : decode cX0_bestTurn 46 = .ok (.aload 5, 2) := dk_25 5 (dk_at dksX0_bestTurn_1 22 rfl rfl)
theorem dX0_bestTurn_48 : decode cX0_bestTurn 48 = .ok (.iload 4, 2) := dk_21 4 (dk_at dksX0_bestTurn_2 0 rfl rfl)
theorem dX0_bestTurn_50 : decode cX0_bestTurn 50 = .ok (.invokestatic 117, 3) := dk_184 0 117 (dk_at dksX0_bestTurn_2 2 rfl rfl)
theorem dX0_bestTurn_53 : decode cX0_bestTurn 53 = .ok (.ifCond .ge 6, 3) := dk_156 0 6 (dk_at dksX0_bestTurn_2 5 rfl rfl)
theorem dX0_bestTurn_56 : decode cX0_bestTurn 56 = .ok (.goto 27, 3) := dk_167 0 27 (dk_at dksX0_bestTurn_2 8 rfl rfl)
theorem dX0_bestTurn_59 : decode cX0_bestTurn 59 = .ok (.aload 5, 2) := dk_25 5 (dk_at dksX0_bestTurn_2 11 rfl rfl)
theorem dX0_bestTurn_61 : decode cX0_bestTurn 61 = .ok (.bipush 40, 2) := dk_16 40 (dk_at dksX0_bestTurn_2 13 rfl rfl)
theorem dX0_bestTurn_63 : decode cX0_bestTurn 63 = .ok (.invokestatic 258, 3) := dk_184 1 2 (dk_at dksX0_bestTurn_2 15 rfl rfl)
theorem dX0_bestTurn_66 : decode cX0_bestTurn 66 = .ok (.istore 6, 2) := dk_54 6 (dk_at dksX0_bestTurn_2 18 rfl rfl)
theorem dX0_bestTurn_68 : decode cX0_bestTurn 68 = .ok (.iload 6, 2) := dk_21 6 (dk_at dksX0_bestTurn_2 20 rfl rfl)
theorem dX0_bestTurn_70 : decode cX0_bestTurn 70 = .ok (.iload_n 3, 1) := dk_29 (dk_at dksX0_bestTurn_2 22 rfl rfl)
theorem dX0_bestTurn_71 : decode cX0_bestTurn 71 = .ok (.if_icmp .gt 6, 3) := dk_163 0 6 (dk_at dksX0_bestTurn_3 0 rfl rfl)
theorem dX0_bestTurn_74 : decode cX0_bestTurn 74 = .ok (.goto 9, 3) := dk_167 0 9 (dk_at dksX0_bestTurn_3 3 rfl rfl)
theorem dX0_bestTurn_77 : decode cX0_bestTurn 77 = .ok (.iload 4, 2) := dk_21 4 (dk_at dksX0_bestTurn_3 6 rfl rfl)
theorem dX0_bestTurn_79 : decode cX0_bestTurn 79 = .ok (.istore_n 2, 1) := dk_61 (dk_at dksX0_bestTurn_3 8 rfl rfl)
theorem dX0_bestTurn_80 : decode cX0_bestTurn 80 = .ok (.iload 6, 2) := dk_21 6 (dk_at dksX0_bestTurn_3 9 rfl rfl)
theorem dX0_bestTurn_82 : decode cX0_bestTurn 82 = .ok (.istore_n 3, 1) := dk_62 (dk_at dksX0_bestTurn_3 11 rfl rfl)
theorem dX0_bestTurn_83 : decode cX0_bestTurn 83 = .ok (.iinc 4 1, 3) := dk_132 4 1 (dk_at dksX0_bestTurn_3 12 rfl rfl)
theorem dX0_bestTurn_86 : decode cX0_bestTurn 86 = .ok (.goto (-55), 3) := dk_167 255 201 (dk_at dksX0_bestTurn_3 15 rfl rfl)
theorem dX0_bestTurn_89 : decode cX0_bestTurn 89 = .ok (.iload_n 2, 1) := dk_28 (dk_at dksX0_bestTurn_3 18 rfl rfl)
theorem dX0_bestTurn_90 : decode cX0_bestTurn 90 = .ok (.bipush (-5), 2) := dk_16 251 (dk_at dksX0_bestTurn_3 19 rfl rfl)
theorem dX0_bestTurn_92 : decode cX0_bestTurn 92 = .ok (.if_icmp .ne 8, 3) := dk_160 0 8 (dk_at dksX0_bestTurn_3 21 rfl rfl)
theorem dX0_bestTurn_95 : decode cX0_bestTurn 95 = .ok (.bipush (-5), 2) := dk_16 251 (dk_at dksX0_bestTurn_4 0 rfl rfl)
theorem dX0_bestTurn_97 : decode cX0_bestTurn 97 = .ok (.goto 20, 3) := dk_167 0 20 (dk_at dksX0_bestTurn_4 2 rfl rfl)
theorem dX0_bestTurn_100 : decode cX0_bestTurn 100 = .ok (.iload_n 1, 1) := dk_27 (dk_at dksX0_bestTurn_4 5 rfl rfl)
theorem dX0_bestTurn_101 : decode cX0_bestTurn 101 = .ok (.ifCond .ne 7, 3) := dk_154 0 7 (dk_at dksX0_bestTurn_4 6 rfl rfl)
theorem dX0_bestTurn_104 : decode cX0_bestTurn 104 = .ok (.iload_n 2, 1) := dk_28 (dk_at dksX0_bestTurn_4 9 rfl rfl)
theorem dX0_bestTurn_105 : decode cX0_bestTurn 105 = .ok (.goto 12, 3) := dk_167 0 12 (dk_at dksX0_bestTurn_4 10 rfl rfl)
theorem dX0_bestTurn_108 : decode cX0_bestTurn 108 = .ok (.iload_n 3, 1) := dk_29 (dk_at dksX0_bestTurn_4 13 rfl rfl)
theorem dX0_bestTurn_109 : decode cX0_bestTurn 109 = .ok (.aload_n 0, 1) := dk_42 (dk_at dksX0_bestTurn_4 14 rfl rfl)
theorem dX0_bestTurn_110 : decode cX0_bestTurn 110 = .ok (.getfield 16, 3) := dk_180 0 16 (dk_at dksX0_bestTurn_4 15 rfl rfl)
theorem dX0_bestTurn_113 : decode cX0_bestTurn 113 = .ok (.invokevirtual 255, 3) := dk_182 0 255 (dk_at dksX0_bestTurn_4 18 rfl rfl)
theorem dX0_bestTurn_116 : decode cX0_bestTurn 116 = .ok (.isub, 1) := dk_100 (dk_at dksX0_bestTurn_4 21 rfl rfl)
theorem dX0_bestTurn_117 : decode cX0_bestTurn 117 = .ok (.ireturn, 1) := dk_172 (dk_at dksX0_bestTurn_4 22 rfl rfl)
abbrev cX0_after : ByteArray := prog_1_method_32_code
def yX0_after : MethodName := ⟨RX0, "after", "(LCanalSteps$Canal;I)I"⟩
def dkwX0_after_0 : List UInt8 := [3, 61, 28, 27, 162, 0, 14, 42, 182, 0, 90, 87, 132, 2, 1, 167, 255, 243, 42, 182, 0, 255, 172]
abbrev dktX0_after_0 : List UInt8 := dkwX0_after_0 ++ []
theorem dksX0_after_0 : cX0_after.data.toList.drop 0 = dktX0_after_0 := by decide +kernel
theorem dX0_after_0 : decode cX0_after 0 = .ok (.iconst 0, 1) := dk_3 (dk_at dksX0_after_0 0 rfl rfl)
theorem dX0_after_1 : decode cX0_after 1 = .ok (.istore_n 2, 1) := dk_61 (dk_at dksX0_after_0 1 rfl rfl)
theorem dX0_after_2 : decode cX0_after 2 = .ok (.iload_n 2, 1) := dk_28 (dk_at dksX0_after_0 2 rfl rfl)
theorem dX0_after_3 : decode cX0_after 3 = .ok (.iload_n 1, 1) := dk_27 (dk_at dksX0_after_0 3 rfl rfl)
theorem dX0_after_4 : decode cX0_after 4 = .ok (.if_icmp .ge 14, 3) := dk_162 0 14 (dk_at dksX0_after_0 4 rfl rfl)
theorem dX0_after_7 : decode cX0_after 7 = .ok (.aload_n 0, 1) := dk_42 (dk_at dksX0_after_0 7 rfl rfl)
theorem dX0_after_8 : decode cX0_after 8 = .ok (.invokevirtual 90, 3) := dk_182 0 90 (dk_at dksX0_after_0 8 rfl rfl)
theorem dX0_after_11 : decode cX0_after 11 = .ok (.pop, 1) := dk_87 (dk_at dksX0_after_0 11 rfl rfl)
theorem dX0_after_12 : decode cX0_after 12 = .ok (.iinc 2 1, 3) := dk_132 2 1 (dk_at dksX0_after_0 12 rfl rfl)
theorem dX0_after_15 : decode cX0_after 15 = .ok (.goto (-13), 3) := dk_167 255 243 (dk_at dksX0_after_0 15 rfl rfl)
theorem dX0_after_18 : decode cX0_after 18 = .ok (.aload_n 0, 1) := dk_42 (dk_at dksX0_after_0 18 rfl rfl)
theorem dX0_after_19 : decode cX0_after 19 = .ok (.invokevirtual 255, 3) := dk_182 0 255 (dk_at dksX0_after_0 19 rfl rfl)
theorem dX0_after_22 : decode cX0_after 22 = .ok (.ireturn, 1) := dk_172 (dk_at dksX0_after_0 22 rfl rfl)
abbrev cX0_ifTicks : ByteArray := prog_1_method_34_code
def yX0_ifTicks : MethodName := ⟨RX0, "ifTicks", "(II)I"⟩
def dkwX0_ifTicks_4 : List UInt8 := [186, 1, 5, 0, 0, 182, 1, 8, 79, 184, 0, 127, 172]
abbrev dktX0_ifTicks_4 : List UInt8 := dkwX0_ifTicks_4 ++ []
def dkwX0_ifTicks_3 : List UInt8 := [184, 0, 245, 100, 79, 89, 5, 45, 180, 0, 252, 42, 180, 0, 16, 180, 0, 252, 100, 79, 89, 6, 45, 45]
abbrev dktX0_ifTicks_3 : List UInt8 := dkwX0_ifTicks_3 ++ dktX0_ifTicks_4
def dkwX0_ifTicks_2 : List UInt8 := [180, 0, 16, 182, 0, 255, 100, 79, 89, 4, 45, 180, 0, 212, 184, 0, 245, 42, 180, 0, 16, 180, 0, 212]
abbrev dktX0_ifTicks_2 : List UInt8 := dkwX0_ifTicks_2 ++ dktX0_ifTicks_3
def dkwX0_ifTicks_1 : List UInt8 := [180, 0, 16, 182, 0, 93, 78, 45, 27, 184, 1, 2, 54, 4, 28, 7, 188, 10, 89, 3, 21, 4, 42]
abbrev dktX0_ifTicks_1 : List UInt8 := dkwX0_ifTicks_1 ++ dktX0_ifTicks_2
def dkwX0_ifTicks_0 : List UInt8 := [27, 4, 17, 1, 244, 184, 0, 3, 153, 0, 12, 28, 3, 6, 184, 0, 3, 154, 0, 6, 16, 254, 172, 42]
abbrev dktX0_ifTicks_0 : List UInt8 := dkwX0_ifTicks_0 ++ dktX0_ifTicks_1
theorem dksX0_ifTicks_0 : cX0_ifTicks.data.toList.drop 0 = dktX0_ifTicks_0 := by decide +kernel
theorem dksX0_ifTicks_1 : cX0_ifTicks.data.toList.drop 24 = dktX0_ifTicks_1 := dk_seg dksX0_ifTicks_0 24 rfl rfl
theorem dksX0_ifTicks_2 : cX0_ifTicks.data.toList.drop 47 = dktX0_ifTicks_2 := dk_seg dksX0_ifTicks_1 23 rfl rfl
theorem dksX0_ifTicks_3 : cX0_ifTicks.data.toList.drop 71 = dktX0_ifTicks_3 := dk_seg dksX0_ifTicks_2 24 rfl rfl
theorem dksX0_ifTicks_4 : cX0_ifTicks.data.toList.drop 95 = dktX0_ifTicks_4 := dk_seg dksX0_ifTicks_3 24 rfl rfl
theorem dX0_ifTicks_0 : decode cX0_ifTicks 0 = .ok (.iload_n 1, 1) := dk_27 (dk_at dksX0_ifTicks_0 0 rfl rfl)
theorem dX0_ifTicks_1 : decode cX0_ifTicks 1 = .ok (.iconst 1, 1) := dk_4 (dk_at dksX0_ifTicks_0 1 rfl rfl)
theorem dX0_ifTicks_2 : decode cX0_ifTicks 2 = .ok (.sipush 500, 3) := dk_17 1 244 (dk_at dksX0_ifTicks_0 2 rfl rfl)
theorem dX0_ifTicks_5 : decode cX0_ifTicks 5 = .ok (.invokestatic 3, 3) := dk_184 0 3 (dk_at dksX0_ifTicks_0 5 rfl rfl)
theorem dX0_ifTicks_8 : decode cX0_ifTicks 8 = .ok (.ifCond .eq 12, 3) := dk_153 0 12 (dk_at dksX0_ifTicks_0 8 rfl rfl)
theorem dX0_ifTicks_11 : decode cX0_ifTicks 11 = .ok (.iload_n 2, 1) := dk_28 (dk_at dksX0_ifTicks_0 11 rfl rfl)
theorem dX0_ifTicks_12 : decode cX0_ifTicks 12 = .ok (.iconst 0, 1) := dk_3 (dk_at dksX0_ifTicks_0 12 rfl rfl)
theorem dX0_ifTicks_13 : decode cX0_ifTicks 13 = .ok (.iconst 3, 1) := dk_6 (dk_at dksX0_ifTicks_0 13 rfl rfl)
theorem dX0_ifTicks_14 : decode cX0_ifTicks 14 = .ok (.invokestatic 3, 3) := dk_184 0 3 (dk_at dksX0_ifTicks_0 14 rfl rfl)
theorem dX0_ifTicks_17 : decode cX0_ifTicks 17 = .ok (.ifCond .ne 6, 3) := dk_154 0 6 (dk_at dksX0_ifTicks_0 17 rfl rfl)
theorem dX0_ifTicks_20 : decode cX0_ifTicks 20 = .ok (.bipush (-2), 2) := dk_16 254 (dk_at dksX0_ifTicks_0 20 rfl rfl)
theorem dX0_ifTicks_22 : decode cX0_ifTicks 22 = .ok (.ireturn, 1) := dk_172 (dk_at dksX0_ifTicks_0 22 rfl rfl)
theorem dX0_ifTicks_23 : decode cX0_ifTicks 23 = .ok (.aload_n 0, 1) := dk_42 (dk_at dksX0_ifTicks_0 23 rfl rfl)
theorem dX0_ifTicks_24 : decode cX0_ifTicks 24 = .ok (.getfield 16, 3) := dk_180 0 16 (dk_at dksX0_ifTicks_1 0 rfl rfl)
theorem dX0_ifTicks_27 : decode cX0_ifTicks 27 = .ok (.invokevirtual 93, 3) := dk_182 0 93 (dk_at dksX0_ifTicks_1 3 rfl rfl)
theorem dX0_ifTicks_30 : decode cX0_ifTicks 30 = .ok (.astore_n 3, 1) := dk_78 (dk_at dksX0_ifTicks_1 6 rfl rfl)
theorem dX0_ifTicks_31 : decode cX0_ifTicks 31 = .ok (.aload_n 3, 1) := dk_45 (dk_at dksX0_ifTicks_1 7 rfl rfl)
theorem dX0_ifTicks_32 : decode cX0_ifTicks 32 = .ok (.iload_n 1, 1) := dk_27 (dk_at dksX0_ifTicks_1 8 rfl rfl)
theorem dX0_ifTicks_33 : decode cX0_ifTicks 33 = .ok (.invokestatic 258, 3) := dk_184 1 2 (dk_at dksX0_ifTicks_1 9 rfl rfl)
theorem dX0_ifTicks_36 : decode cX0_ifTicks 36 = .ok (.istore 4, 2) := dk_54 4 (dk_at dksX0_ifTicks_1 12 rfl rfl)
theorem dX0_ifTicks_38 : decode cX0_ifTicks 38 = .ok (.iload_n 2, 1) := dk_28 (dk_at dksX0_ifTicks_1 14 rfl rfl)
theorem dX0_ifTicks_39 : decode cX0_ifTicks 39 = .ok (.iconst 4, 1) := dk_7 (dk_at dksX0_ifTicks_1 15 rfl rfl)
theorem dX0_ifTicks_40 : decode cX0_ifTicks 40 = .ok (.newarray .int, 2) := dk_188_10 (dk_at dksX0_ifTicks_1 16 rfl rfl)
theorem dX0_ifTicks_42 : decode cX0_ifTicks 42 = .ok (.dup, 1) := dk_89 (dk_at dksX0_ifTicks_1 18 rfl rfl)
theorem dX0_ifTicks_43 : decode cX0_ifTicks 43 = .ok (.iconst 0, 1) := dk_3 (dk_at dksX0_ifTicks_1 19 rfl rfl)
theorem dX0_ifTicks_44 : decode cX0_ifTicks 44 = .ok (.iload 4, 2) := dk_21 4 (dk_at dksX0_ifTicks_1 20 rfl rfl)
theorem dX0_ifTicks_46 : decode cX0_ifTicks 46 = .ok (.aload_n 0, 1) := dk_42 (dk_at dksX0_ifTicks_1 22 rfl rfl)
theorem dX0_ifTicks_47 : decode cX0_ifTicks 47 = .ok (.getfield 16, 3) := dk_180 0 16 (dk_at dksX0_ifTicks_2 0 rfl rfl)
theorem dX0_ifTicks_50 : decode cX0_ifTicks 50 = .ok (.invokevirtual 255, 3) := dk_182 0 255 (dk_at dksX0_ifTicks_2 3 rfl rfl)
theorem dX0_ifTicks_53 : decode cX0_ifTicks 53 = .ok (.isub, 1) := dk_100 (dk_at dksX0_ifTicks_2 6 rfl rfl)
theorem dX0_ifTicks_54 : decode cX0_ifTicks 54 = .ok (.iastore, 1) := dk_79 (dk_at dksX0_ifTicks_2 7 rfl rfl)
theorem dX0_ifTicks_55 : decode cX0_ifTicks 55 = .ok (.dup, 1) := dk_89 (dk_at dksX0_ifTicks_2 8 rfl rfl)
theorem dX0_ifTicks_56 : decode cX0_ifTicks 56 = .ok (.iconst 1, 1) := dk_4 (dk_at dksX0_ifTicks_2 9 rfl rfl)
theorem dX0_ifTicks_57 : decode cX0_ifTicks 57 = .ok (.aload_n 3, 1) := dk_45 (dk_at dksX0_ifTicks_2 10 rfl rfl)
theorem dX0_ifTicks_58 : decode cX0_ifTicks 58 = .ok (.getfield 212, 3) := dk_180 0 212 (dk_at dksX0_ifTicks_2 11 rfl rfl)
theorem dX0_ifTicks_61 : decode cX0_ifTicks 61 = .ok (.invokestatic 245, 3) := dk_184 0 245 (dk_at dksX0_ifTicks_2 14 rfl rfl)
theorem dX0_ifTicks_64 : decode cX0_ifTicks 64 = .ok (.aload_n 0, 1) := dk_42 (dk_at dksX0_ifTicks_2 17 rfl rfl)
theorem dX0_ifTicks_65 : decode cX0_ifTicks 65 = .ok (.getfield 16, 3) := dk_180 0 16 (dk_at dksX0_ifTicks_2 18 rfl rfl)
theorem dX0_ifTicks_68 : decode cX0_ifTicks 68 = .ok (.getfield 212, 3) := dk_180 0 212 (dk_at dksX0_ifTicks_2 21 rfl rfl)
theorem dX0_ifTicks_71 : decode cX0_ifTicks 71 = .ok (.invokestatic 245, 3) := dk_184 0 245 (dk_at dksX0_ifTicks_3 0 rfl rfl)
theorem dX0_ifTicks_74 : decode cX0_ifTicks 74 = .ok (.isub, 1) := dk_100 (dk_at dksX0_ifTicks_3 3 rfl rfl)
theorem dX0_ifTicks_75 : decode cX0_ifTicks 75 = .ok (.iastore, 1) := dk_79 (dk_at dksX0_ifTicks_3 4 rfl rfl)
theorem dX0_ifTicks_76 : decode cX0_ifTicks 76 = .ok (.dup, 1) := dk_89 (dk_at dksX0_ifTicks_3 5 rfl rfl)
theorem dX0_ifTicks_77 : decode cX0_ifTicks 77 = .ok (.iconst 2, 1) := dk_5 (dk_at dksX0_ifTicks_3 6 rfl rfl)
theorem dX0_ifTicks_78 : decode cX0_ifTicks 78 = .ok (.aload_n 3, 1) := dk_45 (dk_at dksX0_ifTicks_3 7 rfl rfl)
theorem dX0_ifTicks_79 : decode cX0_ifTicks 79 = .ok (.getfield 252, 3) := dk_180 0 252 (dk_at dksX0_ifTicks_3 8 rfl rfl)
theorem dX0_ifTicks_82 : decode cX0_ifTicks 82 = .ok (.aload_n 0, 1) := dk_42 (dk_at dksX0_ifTicks_3 11 rfl rfl)
theorem dX0_ifTicks_83 : decode cX0_ifTicks 83 = .ok (.getfield 16, 3) := dk_180 0 16 (dk_at dksX0_ifTicks_3 12 rfl rfl)
theorem dX0_ifTicks_86 : decode cX0_ifTicks 86 = .ok (.getfield 252, 3) := dk_180 0 252 (dk_at dksX0_ifTicks_3 15 rfl rfl)
theorem dX0_ifTicks_89 : decode cX0_ifTicks 89 = .ok (.isub, 1) := dk_100 (dk_at dksX0_ifTicks_3 18 rfl rfl)
theorem dX0_ifTicks_90 : decode cX0_ifTicks 90 = .ok (.iastore, 1) := dk_79 (dk_at dksX0_ifTicks_3 19 rfl rfl)
theorem dX0_ifTicks_91 : decode cX0_ifTicks 91 = .ok (.dup, 1) := dk_89 (dk_at dksX0_ifTicks_3 20 rfl rfl)
theorem dX0_ifTicks_92 : decode cX0_ifTicks 92 = .ok (.iconst 3, 1) := dk_6 (dk_at dksX0_ifTicks_3 21 rfl rfl)
theorem dX0_ifTicks_93 : decode cX0_ifTicks 93 = .ok (.aload_n 3, 1) := dk_45 (dk_at dksX0_ifTicks_3 22 rfl rfl)
theorem dX0_ifTicks_94 : decode cX0_ifTicks 94 = .ok (.aload_n 3, 1) := dk_45 (dk_at dksX0_ifTicks_3 23 rfl rfl)
theorem dX0_ifTicks_95 : decode cX0_ifTicks 95 = .ok (.invokedynamic 261, 5) := by decide +kernel
theorem dX0_ifTicks_100 : decode cX0_ifTicks 100 = .ok (.invokevirtual 264, 3) := dk_182 1 8 (dk_at dksX0_ifTicks_4 5 rfl rfl)
theorem dX0_ifTicks_103 : decode cX0_ifTicks 103 = .ok (.iastore, 1) := dk_79 (dk_at dksX0_ifTicks_4 8 rfl rfl)
theorem dX0_ifTicks_104 : decode cX0_ifTicks 104 = .ok (.invokestatic 127, 3) := dk_184 0 127 (dk_at dksX0_ifTicks_4 9 rfl rfl)
theorem dX0_ifTicks_107 : decode cX0_ifTicks 107 = .ok (.ireturn, 1) := dk_172 (dk_at dksX0_ifTicks_4 12 rfl rfl)
abbrev cX0_lambda_ifTicks_2 : ByteArray := prog_1_method_37_code
def yX0_lambda_ifTicks_2 : MethodName := ⟨RX0, "lambda$ifTicks$2", "(LCanalSteps$Canal;LCanalSteps$Boat;)Z"⟩
def dkwX0_lambda_ifTicks_2_0 : List UInt8 := [42, 43, 182, 1, 16, 172]
abbrev dktX0_lambda_ifTicks_2_0 : List UInt8 := dkwX0_lambda_ifTicks_2_0 ++ []
theorem dksX0_lambda_ifTicks_2_0 : cX0_lambda_ifTicks_2.data.toList.drop 0 = dktX0_lambda_ifTicks_2_0 := by decide +kernel
theorem dX0_lambda_ifTicks_2_0 : decode cX0_lambda_ifTicks_2 0 = .ok (.aload_n 0, 1) := dk_42 (dk_at dksX0_lambda_ifTicks_2_0 0 rfl rfl)
theorem dX0_lambda_ifTicks_2_1 : decode cX0_lambda_ifTicks_2 1 = .ok (.aload_n 1, 1) := dk_43 (dk_at dksX0_lambda_ifTicks_2_0 1 rfl rfl)
theorem dX0_lambda_ifTicks_2_2 : decode cX0_lambda_ifTicks_2 2 = .ok (.invokevirtual 272, 3) := dk_182 1 16 (dk_at dksX0_lambda_ifTicks_2_0 2 rfl rfl)
theorem dX0_lambda_ifTicks_2_5 : decode cX0_lambda_ifTicks_2 5 = .ok (.ireturn, 1) := dk_172 (dk_at dksX0_lambda_ifTicks_2_0 5 rfl rfl)
abbrev cX0_count : ByteArray := prog_1_method_35_code
def yX0_count : MethodName := ⟨RX0, "count", "(I)I"⟩
def dkwX0_count_7 : List UInt8 := [180, 0, 249, 79, 89, 16, 8, 42, 180, 0, 16, 182, 1, 13, 79, 184, 0, 127, 172]
abbrev dktX0_count_7 : List UInt8 := dkwX0_count_7 ++ []
def dkwX0_count_6 : List UInt8 := [184, 0, 245, 79, 89, 16, 6, 42, 180, 0, 16, 180, 0, 252, 79, 89, 16, 7, 42, 180, 0, 16]
abbrev dktX0_count_6 : List UInt8 := dkwX0_count_6 ++ dktX0_count_7
def dkwX0_count_5 : List UInt8 := [89, 7, 42, 180, 0, 16, 180, 0, 212, 184, 0, 245, 79, 89, 8, 42, 180, 0, 16, 180, 0, 214]
abbrev dktX0_count_5 : List UInt8 := dkwX0_count_5 ++ dktX0_count_6
def dkwX0_count_4 : List UInt8 := [42, 180, 0, 16, 182, 0, 255, 79, 89, 6, 42, 180, 0, 16, 42, 186, 1, 10, 0, 0, 182, 1, 8, 79]
abbrev dktX0_count_4 : List UInt8 := dkwX0_count_4 ++ dktX0_count_5
def dkwX0_count_3 : List UInt8 := [180, 0, 16, 180, 0, 86, 79, 89, 4, 42, 180, 0, 16, 180, 0, 60, 185, 0, 38, 1, 0, 79, 89, 5]
abbrev dktX0_count_3 : List UInt8 := dkwX0_count_3 ++ dktX0_count_4
def dkwX0_count_2 : List UInt8 := [185, 0, 38, 1, 0, 167, 0, 10, 42, 180, 0, 30, 182, 0, 137, 172, 27, 16, 9, 188, 10, 89, 3, 42]
abbrev dktX0_count_2 : List UInt8 := dkwX0_count_2 ++ dktX0_count_3
def dkwX0_count_1 : List UInt8 := [27, 16, 12, 16, 13, 184, 0, 3, 153, 0, 29, 27, 16, 12, 160, 0, 15, 42, 180, 0, 23]
abbrev dktX0_count_1 : List UInt8 := dkwX0_count_1 ++ dktX0_count_2
def dkwX0_count_0 : List UInt8 := [27, 16, 9, 16, 11, 184, 0, 3, 153, 0, 16, 42, 180, 0, 16, 180, 0, 131, 27, 16, 9, 100, 46, 172]
abbrev dktX0_count_0 : List UInt8 := dkwX0_count_0 ++ dktX0_count_1
theorem dksX0_count_0 : cX0_count.data.toList.drop 0 = dktX0_count_0 := by decide +kernel
theorem dksX0_count_1 : cX0_count.data.toList.drop 24 = dktX0_count_1 := dk_seg dksX0_count_0 24 rfl rfl
theorem dksX0_count_2 : cX0_count.data.toList.drop 45 = dktX0_count_2 := dk_seg dksX0_count_1 21 rfl rfl
theorem dksX0_count_3 : cX0_count.data.toList.drop 69 = dktX0_count_3 := dk_seg dksX0_count_2 24 rfl rfl
theorem dksX0_count_4 : cX0_count.data.toList.drop 93 = dktX0_count_4 := dk_seg dksX0_count_3 24 rfl rfl
theorem dksX0_count_5 : cX0_count.data.toList.drop 117 = dktX0_count_5 := dk_seg dksX0_count_4 24 rfl rfl
theorem dksX0_count_6 : cX0_count.data.toList.drop 139 = dktX0_count_6 := dk_seg dksX0_count_5 22 rfl rfl
theorem dksX0_count_7 : cX0_count.data.toList.drop 161 = dktX0_count_7 := dk_seg dksX0_count_6 22 rfl rfl
theorem dX0_count_0 : decode cX0_count 0 = .ok (.iload_n 1, 1) := dk_27 (dk_at dksX0_count_0 0 rfl rfl)
theorem dX0_count_1 : decode cX0_count 1 = .ok (.bipush 9, 2) := dk_16 9 (dk_at dksX0_count_0 1 rfl rfl)
theorem dX0_count_3 : decode cX0_count 3 = .ok (.bipush 11, 2) := dk_16 11 (dk_at dksX0_count_0 3 rfl rfl)
theorem dX0_count_5 : decode cX0_count 5 = .ok (.invokestatic 3, 3) := dk_184 0 3 (dk_at dksX0_count_0 5 rfl rfl)
theorem dX0_count_8 : decode cX0_count 8 = .ok (.ifCond .eq 16, 3) := dk_153 0 16 (dk_at dksX0_count_0 8 rfl rfl)
theorem dX0_count_11 : decode cX0_count 11 = .ok (.aload_n 0, 1) := dk_42 (dk_at dksX0_count_0 11 rfl rfl)
theorem dX0_count_12 : decode cX0_count 12 = .ok (.getfield 16, 3) := dk_180 0 16 (dk_at dksX0_count_0 12 rfl rfl)
theorem dX0_count_15 : decode cX0_count 15 = .ok (.getfield 131, 3) := dk_180 0 131 (dk_at dksX0_count_0 15 rfl rfl)
theorem dX0_count_18 : decode cX0_count 18 = .ok (.iload_n 1, 1) := dk_27 (dk_at dksX0_count_0 18 rfl rfl)
theorem dX0_count_19 : decode cX0_count 19 = .ok (.bipush 9, 2) := dk_16 9 (dk_at dksX0_count_0 19 rfl rfl)
theorem dX0_count_21 : decode cX0_count 21 = .ok (.isub, 1) := dk_100 (dk_at dksX0_count_0 21 rfl rfl)
theorem dX0_count_22 : decode cX0_count 22 = .ok (.iaload, 1) := dk_46 (dk_at dksX0_count_0 22 rfl rfl)
theorem dX0_count_23 : decode cX0_count 23 = .ok (.ireturn, 1) := dk_172 (dk_at dksX0_count_0 23 rfl rfl)
theorem dX0_count_24 : decode cX0_count 24 = .ok (.iload_n 1, 1) := dk_27 (dk_at dksX0_count_1 0 rfl rfl)
theorem dX0_count_25 : decode cX0_count 25 = .ok (.bipush 12, 2) := dk_16 12 (dk_at dksX0_count_1 1 rfl rfl)
theorem dX0_count_27 : decode cX0_count 27 = .ok (.bipush 13, 2) := dk_16 13 (dk_at dksX0_count_1 3 rfl rfl)
theorem dX0_count_29 : decode cX0_count 29 = .ok (.invokestatic 3, 3) := dk_184 0 3 (dk_at dksX0_count_1 5 rfl rfl)
theorem dX0_count_32 : decode cX0_count 32 = .ok (.ifCond .eq 29, 3) := dk_153 0 29 (dk_at dksX0_count_1 8 rfl rfl)
theorem dX0_count_35 : decode cX0_count 35 = .ok (.iload_n 1, 1) := dk_27 (dk_at dksX0_count_1 11 rfl rfl)
theorem dX0_count_36 : decode cX0_count 36 = .ok (.bipush 12, 2) := dk_16 12 (dk_at dksX0_count_1 12 rfl rfl)
theorem dX0_count_38 : decode cX0_count 38 = .ok (.if_icmp .ne 15, 3) := dk_160 0 15 (dk_at dksX0_count_1 14 rfl rfl)
theorem dX0_count_41 : decode cX0_count 41 = .ok (.aload_n 0, 1) := dk_42 (dk_at dksX0_count_1 17 rfl rfl)
theorem dX0_count_42 : decode cX0_count 42 = .ok (.getfield 23, 3) := dk_180 0 23 (dk_at dksX0_count_1 18 rfl rfl)
theorem dX0_count_45 : decode cX0_count 45 = .ok (.invokeinterface 38 1, 5) := by decide +kernel
theorem dX0_count_50 : decode cX0_count 50 = .ok (.goto 10, 3) := dk_167 0 10 (dk_at dksX0_count_2 5 rfl rfl)
theorem dX0_count_53 : decode cX0_count 53 = .ok (.aload_n 0, 1) := dk_42 (dk_at dksX0_count_2 8 rfl rfl)
theorem dX0_count_54 : decode cX0_count 54 = .ok (.getfield 30, 3) := dk_180 0 30 (dk_at dksX0_count_2 9 rfl rfl)
theorem dX0_count_57 : decode cX0_count 57 = .ok (.invokevirtual 137, 3) := dk_182 0 137 (dk_at dksX0_count_2 12 rfl rfl)
theorem dX0_count_60 : decode cX0_count 60 = .ok (.ireturn, 1) := dk_172 (dk_at dksX0_count_2 15 rfl rfl)
theorem dX0_count_61 : decode cX0_count 61 = .ok (.iload_n 1, 1) := dk_27 (dk_at dksX0_count_2 16 rfl rfl)
theorem dX0_count_62 : decode cX0_count 62 = .ok (.bipush 9, 2) := dk_16 9 (dk_at dksX0_count_2 17 rfl rfl)
theorem dX0_count_64 : decode cX0_count 64 = .ok (.newarray .int, 2) := dk_188_10 (dk_at dksX0_count_2 19 rfl rfl)
theorem dX0_count_66 : decode cX0_count 66 = .ok (.dup, 1) := dk_89 (dk_at dksX0_count_2 21 rfl rfl)
theorem dX0_count_67 : decode cX0_count 67 = .ok (.iconst 0, 1) := dk_3 (dk_at dksX0_count_2 22 rfl rfl)
theorem dX0_count_68 : decode cX0_count 68 = .ok (.aload_n 0, 1) := dk_42 (dk_at dksX0_count_2 23 rfl rfl)
theorem dX0_count_69 : decode cX0_count 69 = .ok (.getfield 16, 3) := dk_180 0 16 (dk_at dksX0_count_3 0 rfl rfl)
theorem dX0_count_72 : decode cX0_count 72 = .ok (.getfield 86, 3) := dk_180 0 86 (dk_at dksX0_count_3 3 rfl rfl)
theorem dX0_count_75 : decode cX0_count 75 = .ok (.iastore, 1) := dk_79 (dk_at dksX0_count_3 6 rfl rfl)
theorem dX0_count_76 : decode cX0_count 76 = .ok (.dup, 1) := dk_89 (dk_at dksX0_count_3 7 rfl rfl)
theorem dX0_count_77 : decode cX0_count 77 = .ok (.iconst 1, 1) := dk_4 (dk_at dksX0_count_3 8 rfl rfl)
theorem dX0_count_78 : decode cX0_count 78 = .ok (.aload_n 0, 1) := dk_42 (dk_at dksX0_count_3 9 rfl rfl)
theorem dX0_count_79 : decode cX0_count 79 = .ok (.getfield 16, 3) := dk_180 0 16 (dk_at dksX0_count_3 10 rfl rfl)
theorem dX0_count_82 : decode cX0_count 82 = .ok (.getfield 60, 3) := dk_180 0 60 (dk_at dksX0_count_3 13 rfl rfl)
theorem dX0_count_85 : decode cX0_count 85 = .ok (.invokeinterface 38 1, 5) := by decide +kernel
theorem dX0_count_90 : decode cX0_count 90 = .ok (.iastore, 1) := dk_79 (dk_at dksX0_count_3 21 rfl rfl)
theorem dX0_count_91 : decode cX0_count 91 = .ok (.dup, 1) := dk_89 (dk_at dksX0_count_3 22 rfl rfl)
theorem dX0_count_92 : decode cX0_count 92 = .ok (.iconst 2, 1) := dk_5 (dk_at dksX0_count_3 23 rfl rfl)
theorem dX0_count_93 : decode cX0_count 93 = .ok (.aload_n 0, 1) := dk_42 (dk_at dksX0_count_4 0 rfl rfl)
theorem dX0_count_94 : decode cX0_count 94 = .ok (.getfield 16, 3) := dk_180 0 16 (dk_at dksX0_count_4 1 rfl rfl)
theorem dX0_count_97 : decode cX0_count 97 = .ok (.invokevirtual 255, 3) := dk_182 0 255 (dk_at dksX0_count_4 4 rfl rfl)
theorem dX0_count_100 : decode cX0_count 100 = .ok (.iastore, 1) := dk_79 (dk_at dksX0_count_4 7 rfl rfl)
theorem dX0_count_101 : decode cX0_count 101 = .ok (.dup, 1) := dk_89 (dk_at dksX0_count_4 8 rfl rfl)
theorem dX0_count_102 : decode cX0_count 102 = .ok (.iconst 3, 1) := dk_6 (dk_at dksX0_count_4 9 rfl rfl)
theorem dX0_count_103 : decode cX0_count 103 = .ok (.aload_n 0, 1) := dk_42 (dk_at dksX0_count_4 10 rfl rfl)
theorem dX0_count_104 : decode cX0_count 104 = .ok (.getfield 16, 3) := dk_180 0 16 (dk_at dksX0_count_4 11 rfl rfl)
theorem dX0_count_107 : decode cX0_count 107 = .ok (.aload_n 0, 1) := dk_42 (dk_at dksX0_count_4 14 rfl rfl)
theorem dX0_count_108 : decode cX0_count 108 = .ok (.invokedynamic 266, 5) := by decide +kernel
theorem dX0_count_113 : decode cX0_count 113 = .ok (.invokevirtual 264, 3) := dk_182 1 8 (dk_at dksX0_count_4 20 rfl rfl)
theorem dX0_count_116 : decode cX0_count 116 = .ok (.iastore, 1) := dk_79 (dk_at dksX0_count_4 23 rfl rfl)
theorem dX0_count_117 : decode cX0_count 117 = .ok (.dup, 1) := dk_89 (dk_at dksX0_count_5 0 rfl rfl)
theorem dX0_count_118 : decode cX0_count 118 = .ok (.iconst 4, 1) := dk_7 (dk_at dksX0_count_5 1 rfl rfl)
theorem dX0_count_119 : decode cX0_count 119 = .ok (.aload_n 0, 1) := dk_42 (dk_at dksX0_count_5 2 rfl rfl)
theorem dX0_count_120 : decode cX0_count 120 = .ok (.getfield 16, 3) := dk_180 0 16 (dk_at dksX0_count_5 3 rfl rfl)
theorem dX0_count_123 : decode cX0_count 123 = .ok (.getfield 212, 3) := dk_180 0 212 (dk_at dksX0_count_5 6 rfl rfl)
theorem dX0_count_126 : decode cX0_count 126 = .ok (.invokestatic 245, 3) := dk_184 0 245 (dk_at dksX0_count_5 9 rfl rfl)
theorem dX0_count_129 : decode cX0_count 129 = .ok (.iastore, 1) := dk_79 (dk_at dksX0_count_5 12 rfl rfl)
theorem dX0_count_130 : decode cX0_count 130 = .ok (.dup, 1) := dk_89 (dk_at dksX0_count_5 13 rfl rfl)
theorem dX0_count_131 : decode cX0_count 131 = .ok (.iconst 5, 1) := dk_8 (dk_at dksX0_count_5 14 rfl rfl)
theorem dX0_count_132 : decode cX0_count 132 = .ok (.aload_n 0, 1) := dk_42 (dk_at dksX0_count_5 15 rfl rfl)
theorem dX0_count_133 : decode cX0_count 133 = .ok (.getfield 16, 3) := dk_180 0 16 (dk_at dksX0_count_5 16 rfl rfl)
theorem dX0_count_136 : decode cX0_count 136 = .ok (.getfield 214, 3) := dk_180 0 214 (dk_at dksX0_count_5 19 rfl rfl)
theorem dX0_count_139 : decode cX0_count 139 = .ok (.invokestatic 245, 3) := dk_184 0 245 (dk_at dksX0_count_6 0 rfl rfl)
theorem dX0_count_142 : decode cX0_count 142 = .ok (.iastore, 1) := dk_79 (dk_at dksX0_count_6 3 rfl rfl)
theorem dX0_count_143 : decode cX0_count 143 = .ok (.dup, 1) := dk_89 (dk_at dksX0_count_6 4 rfl rfl)
theorem dX0_count_144 : decode cX0_count 144 = .ok (.bipush 6, 2) := dk_16 6 (dk_at dksX0_count_6 5 rfl rfl)
theorem dX0_count_146 : decode cX0_count 146 = .ok (.aload_n 0, 1) := dk_42 (dk_at dksX0_count_6 7 rfl rfl)
theorem dX0_count_147 : decode cX0_count 147 = .ok (.getfield 16, 3) := dk_180 0 16 (dk_at dksX0_count_6 8 rfl rfl)
theorem dX0_count_150 : decode cX0_count 150 = .ok (.getfield 252, 3) := dk_180 0 252 (dk_at dksX0_count_6 11 rfl rfl)
theorem dX0_count_153 : decode cX0_count 153 = .ok (.iastore, 1) := dk_79 (dk_at dksX0_count_6 14 rfl rfl)
theorem dX0_count_154 : decode cX0_count 154 = .ok (.dup, 1) := dk_89 (dk_at dksX0_count_6 15 rfl rfl)
theorem dX0_count_155 : decode cX0_count 155 = .ok (.bipush 7, 2) := dk_16 7 (dk_at dksX0_count_6 16 rfl rfl)
theorem dX0_count_157 : decode cX0_count 157 = .ok (.aload_n 0, 1) := dk_42 (dk_at dksX0_count_6 18 rfl rfl)
theorem dX0_count_158 : decode cX0_count 158 = .ok (.getfield 16, 3) := dk_180 0 16 (dk_at dksX0_count_6 19 rfl rfl)
theorem dX0_count_161 : decode cX0_count 161 = .ok (.getfield 249, 3) := dk_180 0 249 (dk_at dksX0_count_7 0 rfl rfl)
theorem dX0_count_164 : decode cX0_count 164 = .ok (.iastore, 1) := dk_79 (dk_at dksX0_count_7 3 rfl rfl)
theorem dX0_count_165 : decode cX0_count 165 = .ok (.dup, 1) := dk_89 (dk_at dksX0_count_7 4 rfl rfl)
theorem dX0_count_166 : decode cX0_count 166 = .ok (.bipush 8, 2) := dk_16 8 (dk_at dksX0_count_7 5 rfl rfl)
theorem dX0_count_168 : decode cX0_count 168 = .ok (.aload_n 0, 1) := dk_42 (dk_at dksX0_count_7 7 rfl rfl)
theorem dX0_count_169 : decode cX0_count 169 = .ok (.getfield 16, 3) := dk_180 0 16 (dk_at dksX0_count_7 8 rfl rfl)
theorem dX0_count_172 : decode cX0_count 172 = .ok (.invokevirtual 269, 3) := dk_182 1 13 (dk_at dksX0_count_7 11 rfl rfl)
theorem dX0_count_175 : decode cX0_count 175 = .ok (.iastore, 1) := dk_79 (dk_at dksX0_count_7 14 rfl rfl)
theorem dX0_count_176 : decode cX0_count 176 = .ok (.invokestatic 127, 3) := dk_184 0 127 (dk_at dksX0_count_7 15 rfl rfl)
theorem dX0_count_179 : decode cX0_count 179 = .ok (.ireturn, 1) := dk_172 (dk_at dksX0_count_7 18 rfl rfl)
abbrev cX0_lambda_count_3 : ByteArray := prog_1_method_36_code
def yX0_lambda_count_3 : MethodName := ⟨RX0, "lambda$count$3", "(LCanalSteps$Boat;)Z"⟩
def dkwX0_lambda_count_3_0 : List UInt8 := [42, 180, 0, 16, 43, 182, 1, 16, 172]
abbrev dktX0_lambda_count_3_0 : List UInt8 := dkwX0_lambda_count_3_0 ++ []
theorem dksX0_lambda_count_3_0 : cX0_lambda_count_3.data.toList.drop 0 = dktX0_lambda_count_3_0 := by decide +kernel
theorem dX0_lambda_count_3_0 : decode cX0_lambda_count_3 0 = .ok (.aload_n 0, 1) := dk_42 (dk_at dksX0_lambda_count_3_0 0 rfl rfl)
theorem dX0_lambda_count_3_1 : decode cX0_lambda_count_3 1 = .ok (.getfield 16, 3) := dk_180 0 16 (dk_at dksX0_lambda_count_3_0 1 rfl rfl)
theorem dX0_lambda_count_3_4 : decode cX0_lambda_count_3 4 = .ok (.aload_n 1, 1) := dk_43 (dk_at dksX0_lambda_count_3_0 4 rfl rfl)
theorem dX0_lambda_count_3_5 : decode cX0_lambda_count_3 5 = .ok (.invokevirtual 272, 3) := dk_182 1 16 (dk_at dksX0_lambda_count_3_0 5 rfl rfl)
theorem dX0_lambda_count_3_8 : decode cX0_lambda_count_3 8 = .ok (.ireturn, 1) := dk_172 (dk_at dksX0_lambda_count_3_0 8 rfl rfl)
theorem q66 : (Jvm.Cond.initialized "CanalSteps") ∈ lw_all := lw_g (lw_at lw_m1 1 rfl) rfl
theorem q86 : (Jvm.Cond.instantiable "CanalSteps" (6 : Nat)) ∈ lw_all := lw_g (lw_at lw_m1 21 rfl) rfl
theorem q88 : (Jvm.Cond.instanceMethod ({ cls := "CanalSteps", name := "<init>", desc := "()V" } : Jvm.MethodName)) ∈ lw_all := lw_g (lw_at lw_m1 23 rfl) rfl
theorem q89 : (Jvm.Cond.code ({ cls := "CanalSteps", name := "<init>", desc := "()V" } : Jvm.MethodName) prog_1_method_5_code (1 : Nat) (Option.none : Option Jvm.ClassFile.FieldType)) ∈ lw_all := lw_g (lw_at lw_m1 24 rfl) rfl
theorem q90 : (Jvm.Cond.methodLink "CanalSteps" (7 : Nat) ({ cls := "java/lang/Object", name := "<init>", desc := "()V" } : Jvm.MethodName)) ∈ lw_all := lw_g (lw_at lw_m1 25 rfl) rfl
theorem q93 : (Jvm.Cond.classLink "CanalSteps" (13 : Nat) "CanalSteps$Canal") ∈ lw_all := lw_g (lw_at lw_m1 28 rfl) rfl
theorem q95 : (Jvm.Cond.methodLinkNest "CanalSteps" (15 : Nat) ({ cls := "CanalSteps$Canal", name := "<init>", desc := "()V" } : Jvm.MethodName) "CanalSteps") ∈ lw_tbl := lw_at lw_m1 30 rfl
theorem q163 : (Jvm.Cond.selects "CanalSteps" ({ cls := "java/lang/Object", name := "getClass", desc := "()Ljava/lang/Class;" } : Jvm.MethodName) ({ cls := "java/lang/Object", name := "getClass", desc := "()Ljava/lang/Class;" } : Jvm.MethodName)) ∈ lw_all := lw_g (lw_at lw_m1 98 rfl) rfl
theorem q186 : (Jvm.Cond.fieldLinkNest "CanalSteps" (60 : Nat) "CanalSteps$Canal" "boats" "Ljava/util/List;" "CanalSteps") ∈ lw_tbl := lw_at lw_m1 121 rfl
theorem q188 : (Jvm.Cond.fieldLinkNest "CanalSteps" (174 : Nat) "CanalSteps$Canal" "queues" "Ljava/util/List;" "CanalSteps") ∈ lw_tbl := lw_at lw_m1 123 rfl
theorem q190 : (Jvm.Cond.fieldLinkNest "CanalSteps" (120 : Nat) "CanalSteps$Canal" "depths" "[I" "CanalSteps") ∈ lw_tbl := lw_at lw_m1 125 rfl
theorem q192 : (Jvm.Cond.fieldLinkNest "CanalSteps" (82 : Nat) "CanalSteps$Canal" "isHigh" "[Z" "CanalSteps") ∈ lw_tbl := lw_at lw_m1 127 rfl
theorem q194 : (Jvm.Cond.fieldLinkNest "CanalSteps" (217 : Nat) "CanalSteps$Canal" "chambers" "[I" "CanalSteps") ∈ lw_tbl := lw_at lw_m1 129 rfl
theorem q196 : (Jvm.Cond.fieldLinkNest "CanalSteps" (212 : Nat) "CanalSteps$Canal" "passages" "[I" "CanalSteps") ∈ lw_tbl := lw_at lw_m1 131 rfl
theorem q198 : (Jvm.Cond.fieldLinkNest "CanalSteps" (214 : Nat) "CanalSteps$Canal" "fillings" "[I" "CanalSteps") ∈ lw_tbl := lw_at lw_m1 133 rfl
theorem q200 : (Jvm.Cond.fieldLinkNest "CanalSteps" (131 : Nat) "CanalSteps$Canal" "settings" "[I" "CanalSteps") ∈ lw_tbl := lw_at lw_m1 135 rfl
theorem q202 : (Jvm.Cond.fieldLinkNest "CanalSteps" (86 : Nat) "CanalSteps$Canal" "tick" "I" "CanalSteps") ∈ lw_tbl := lw_at lw_m1 137 rfl
theorem q204 : (Jvm.Cond.fieldLinkNest "CanalSteps" (249 : Nat) "CanalSteps$Canal" "sprung" "I" "CanalSteps") ∈ lw_tbl := lw_at lw_m1 139 rfl
theorem q206 : (Jvm.Cond.fieldLinkNest "CanalSteps" (252 : Nat) "CanalSteps$Canal" "lost" "I" "CanalSteps") ∈ lw_tbl := lw_at lw_m1 141 rfl
theorem q208 : (Jvm.Cond.fieldLinkNest "CanalSteps" (124 : Nat) "CanalSteps$Canal" "byHand" "I" "CanalSteps") ∈ lw_tbl := lw_at lw_m1 143 rfl
theorem q236 : (Jvm.Cond.classLink "CanalSteps" (20 : Nat) "java/util/ArrayList") ∈ lw_all := lw_g (lw_at lw_m1 171 rfl) rfl
theorem q237 : (Jvm.Cond.methodLink "CanalSteps" (22 : Nat) ({ cls := "java/util/ArrayList", name := "<init>", desc := "()V" } : Jvm.MethodName)) ∈ lw_all := lw_g (lw_at lw_m1 172 rfl) rfl
theorem q238 : (Jvm.Cond.classLink "CanalSteps" (27 : Nat) "java/lang/StringBuilder") ∈ lw_all := lw_g (lw_at lw_m1 173 rfl) rfl
theorem q240 : (Jvm.Cond.methodLink "CanalSteps" (29 : Nat) ({ cls := "java/lang/StringBuilder", name := "<init>", desc := "()V" } : Jvm.MethodName)) ∈ lw_all := lw_g (lw_at lw_m1 175 rfl) rfl
theorem q270 : (Jvm.Cond.fieldLink "CanalSteps" (16 : Nat) "CanalSteps" "canal" "LCanalSteps$Canal;") ∈ lw_all := lw_g (lw_at lw_m1 205 rfl) rfl
theorem q271 : (Jvm.Cond.fieldLink "CanalSteps" (171 : Nat) "CanalSteps" "snapshot" "LCanalSteps$Canal;") ∈ lw_all := lw_g (lw_at lw_m1 206 rfl) rfl
theorem q272 : (Jvm.Cond.fieldLink "CanalSteps" (23 : Nat) "CanalSteps" "history" "Ljava/util/List;") ∈ lw_all := lw_g (lw_at lw_m1 207 rfl) rfl
theorem q273 : (Jvm.Cond.fieldLink "CanalSteps" (30 : Nat) "CanalSteps" "text" "Ljava/lang/StringBuilder;") ∈ lw_all := lw_g (lw_at lw_m1 208 rfl) rfl
theorem q274 : (Jvm.Cond.fieldLink "CanalSteps" (34 : Nat) "CanalSteps" "stopped" "I") ∈ lw_all := lw_g (lw_at lw_m1 209 rfl) rfl
theorem q275 : (Jvm.Cond.fieldLink "CanalSteps" (165 : Nat) "CanalSteps" "stoppedBy" "I") ∈ lw_all := lw_g (lw_at lw_m1 210 rfl) rfl
theorem q276 : (Jvm.Cond.lays "CanalSteps" "CanalSteps" "canal" "LCanalSteps$Canal;") ∈ lw_all := lw_g (lw_at lw_m1 211 rfl) rfl
theorem q277 : (Jvm.Cond.soleField "CanalSteps" "canal") ∈ lw_all := lw_g (lw_at lw_m1 212 rfl) rfl
theorem q278 : (Jvm.Cond.lays "CanalSteps" "CanalSteps" "snapshot" "LCanalSteps$Canal;") ∈ lw_all := lw_g (lw_at lw_m1 213 rfl) rfl
theorem q279 : (Jvm.Cond.soleField "CanalSteps" "snapshot") ∈ lw_all := lw_g (lw_at lw_m1 214 rfl) rfl
theorem q280 : (Jvm.Cond.laysFinal "CanalSteps" "CanalSteps" "history" "Ljava/util/List;") ∈ lw_all := lw_g (lw_at lw_m1 215 rfl) rfl
theorem q281 : (Jvm.Cond.soleField "CanalSteps" "history") ∈ lw_all := lw_g (lw_at lw_m1 216 rfl) rfl
theorem q282 : (Jvm.Cond.laysFinal "CanalSteps" "CanalSteps" "text" "Ljava/lang/StringBuilder;") ∈ lw_all := lw_g (lw_at lw_m1 217 rfl) rfl
theorem q283 : (Jvm.Cond.soleField "CanalSteps" "text") ∈ lw_all := lw_g (lw_at lw_m1 218 rfl) rfl
theorem q284 : (Jvm.Cond.lays "CanalSteps" "CanalSteps" "stopped" "I") ∈ lw_all := lw_g (lw_at lw_m1 219 rfl) rfl
theorem q285 : (Jvm.Cond.soleField "CanalSteps" "stopped") ∈ lw_all := lw_g (lw_at lw_m1 220 rfl) rfl
theorem q286 : (Jvm.Cond.lays "CanalSteps" "CanalSteps" "stoppedBy" "I") ∈ lw_all := lw_g (lw_at lw_m1 221 rfl) rfl
theorem q287 : (Jvm.Cond.soleField "CanalSteps" "stoppedBy") ∈ lw_all := lw_g (lw_at lw_m1 222 rfl) rfl
theorem q288 : (Jvm.Cond.superclass "CanalSteps" "java/lang/Object") ∈ lw_all := lw_g (lw_at lw_m1 223 rfl) rfl
theorem q290 : (Jvm.Cond.instanceMethod ({ cls := "CanalSteps", name := "boat", desc := "(IIII)I" } : Jvm.MethodName)) ∈ lw_all := lw_g (lw_at lw_m1 225 rfl) rfl
theorem q291 : (Jvm.Cond.selects "CanalSteps" ({ cls := "CanalSteps", name := "boat", desc := "(IIII)I" } : Jvm.MethodName) ({ cls := "CanalSteps", name := "boat", desc := "(IIII)I" } : Jvm.MethodName)) ∈ lw_all := lw_g (lw_at lw_m1 226 rfl) rfl
theorem q292 : (Jvm.Cond.code ({ cls := "CanalSteps", name := "boat", desc := "(IIII)I" } : Jvm.MethodName) prog_1_method_11_code (6 : Nat) (Option.some Jvm.ClassFile.FieldType.int)) ∈ lw_all := lw_g (lw_at lw_m1 227 rfl) rfl
theorem q293 : (Jvm.Cond.methodLink "CanalSteps" (93 : Nat) ({ cls := "CanalSteps$Canal", name := "copy", desc := "()LCanalSteps$Canal;" } : Jvm.MethodName)) ∈ lw_all := lw_g (lw_at lw_m1 228 rfl) rfl
theorem q338 : (Jvm.Cond.fieldLinkNest "CanalSteps" (205 : Nat) "CanalSteps$Boat" "number" "I" "CanalSteps") ∈ lw_tbl := lw_at lw_m2 33 rfl
theorem q341 : (Jvm.Cond.fieldLinkNest "CanalSteps" (184 : Nat) "CanalSteps$Boat" "pieces" "I" "CanalSteps") ∈ lw_tbl := lw_at lw_m2 36 rfl
theorem q343 : (Jvm.Cond.fieldLinkNest "CanalSteps" (190 : Nat) "CanalSteps$Boat" "goal" "I" "CanalSteps") ∈ lw_tbl := lw_at lw_m2 38 rfl
theorem q346 : (Jvm.Cond.fieldLinkNest "CanalSteps" (187 : Nat) "CanalSteps$Boat" "at" "I" "CanalSteps") ∈ lw_tbl := lw_at lw_m2 41 rfl
theorem q349 : (Jvm.Cond.fieldLinkNest "CanalSteps" (114 : Nat) "CanalSteps$Boat" "draught" "I" "CanalSteps") ∈ lw_tbl := lw_at lw_m2 44 rfl
theorem q352 : (Jvm.Cond.fieldLinkNest "CanalSteps" (193 : Nat) "CanalSteps$Boat" "over" "I" "CanalSteps") ∈ lw_tbl := lw_at lw_m2 47 rfl
theorem q355 : (Jvm.Cond.fieldLinkNest "CanalSteps" (199 : Nat) "CanalSteps$Boat" "passages" "I" "CanalSteps") ∈ lw_tbl := lw_at lw_m2 50 rfl
theorem q358 : (Jvm.Cond.fieldLinkNest "CanalSteps" (202 : Nat) "CanalSteps$Boat" "arrived" "I" "CanalSteps") ∈ lw_tbl := lw_at lw_m2 53 rfl
theorem q378 : (Jvm.Cond.methodLink "CanalSteps" (97 : Nat) ({ cls := "CanalSteps", name := "boatIn", desc := "(LCanalSteps$Canal;IIII)I" } : Jvm.MethodName)) ∈ lw_all := lw_g (lw_at lw_m2 73 rfl) rfl
theorem q379 : (Jvm.Cond.static ({ cls := "CanalSteps", name := "boatIn", desc := "(LCanalSteps$Canal;IIII)I" } : Jvm.MethodName)) ∈ lw_all := lw_g (lw_at lw_m2 74 rfl) rfl
theorem q380 : (Jvm.Cond.code ({ cls := "CanalSteps", name := "boatIn", desc := "(LCanalSteps$Canal;IIII)I" } : Jvm.MethodName) prog_1_method_8_code (5 : Nat) (Option.some Jvm.ClassFile.FieldType.int)) ∈ lw_all := lw_g (lw_at lw_m2 75 rfl) rfl
theorem q381 : (Jvm.Cond.methodLink "CanalSteps" (56 : Nat) ({ cls := "CanalSteps", name := "isPound", desc := "(I)Z" } : Jvm.MethodName)) ∈ lw_all := lw_g (lw_at lw_m2 76 rfl) rfl
theorem q382 : (Jvm.Cond.static ({ cls := "CanalSteps", name := "isPound", desc := "(I)Z" } : Jvm.MethodName)) ∈ lw_all := lw_g (lw_at lw_m2 77 rfl) rfl
theorem q383 : (Jvm.Cond.code ({ cls := "CanalSteps", name := "isPound", desc := "(I)Z" } : Jvm.MethodName) prog_1_method_3_code (1 : Nat) (Option.some Jvm.ClassFile.FieldType.boolean)) ∈ lw_all := lw_g (lw_at lw_m2 78 rfl) rfl
theorem q384 : (Jvm.Cond.methodLink "CanalSteps" (3 : Nat) ({ cls := "CanalSteps", name := "inRange", desc := "(III)Z" } : Jvm.MethodName)) ∈ lw_all := lw_g (lw_at lw_m2 79 rfl) rfl
theorem q385 : (Jvm.Cond.static ({ cls := "CanalSteps", name := "inRange", desc := "(III)Z" } : Jvm.MethodName)) ∈ lw_all := lw_g (lw_at lw_m2 80 rfl) rfl
theorem q386 : (Jvm.Cond.code ({ cls := "CanalSteps", name := "inRange", desc := "(III)Z" } : Jvm.MethodName) prog_1_method_1_code (3 : Nat) (Option.some Jvm.ClassFile.FieldType.boolean)) ∈ lw_all := lw_g (lw_at lw_m2 81 rfl) rfl
theorem q387 : (Jvm.Cond.interfaceEntry "CanalSteps" (38 : Nat)) ∈ lw_tbl := lw_at lw_m2 82 rfl
theorem q388 : (Jvm.Cond.methodLink "CanalSteps" (38 : Nat) ({ cls := "java/util/List", name := "size", desc := "()I" } : Jvm.MethodName)) ∈ lw_all := lw_g (lw_at lw_m2 83 rfl) rfl
theorem q389 : (Jvm.Cond.classLink "CanalSteps" (63 : Nat) "CanalSteps$Boat") ∈ lw_all := lw_g (lw_at lw_m2 84 rfl) rfl
theorem q390 : (Jvm.Cond.methodLink "CanalSteps" (65 : Nat) ({ cls := "CanalSteps$Boat", name := "<init>", desc := "(IIIII)V" } : Jvm.MethodName)) ∈ lw_all := lw_g (lw_at lw_m2 85 rfl) rfl
theorem q391 : (Jvm.Cond.methodLink "CanalSteps" (68 : Nat) ({ cls := "CanalSteps$Canal", name := "come", desc := "(LCanalSteps$Boat;)V" } : Jvm.MethodName)) ∈ lw_all := lw_g (lw_at lw_m2 86 rfl) rfl
theorem q415 : (Jvm.Cond.methodLink "CanalSteps" (101 : Nat) ({ cls := "CanalSteps", name := "carried", desc := "(LCanalSteps$Canal;I)I" } : Jvm.MethodName)) ∈ lw_all := lw_g (lw_at lw_m2 110 rfl) rfl
theorem q416 : (Jvm.Cond.privateMethod ({ cls := "CanalSteps", name := "carried", desc := "(LCanalSteps$Canal;I)I" } : Jvm.MethodName)) ∈ lw_tbl := lw_at lw_m2 111 rfl
theorem q417 : (Jvm.Cond.instanceMethod ({ cls := "CanalSteps", name := "carried", desc := "(LCanalSteps$Canal;I)I" } : Jvm.MethodName)) ∈ lw_all := lw_g (lw_at lw_m2 112 rfl) rfl
theorem q418 : (Jvm.Cond.code ({ cls := "CanalSteps", name := "carried", desc := "(LCanalSteps$Canal;I)I" } : Jvm.MethodName) prog_1_method_7_code (3 : Nat) (Option.some Jvm.ClassFile.FieldType.int)) ∈ lw_all := lw_g (lw_at lw_m2 113 rfl) rfl
theorem q419 : (Jvm.Cond.methodLink "CanalSteps" (52 : Nat) ({ cls := "CanalSteps", name := "accept", desc := "(LCanalSteps$Canal;I)I" } : Jvm.MethodName)) ∈ lw_all := lw_g (lw_at lw_m2 114 rfl) rfl
theorem q420 : (Jvm.Cond.privateMethod ({ cls := "CanalSteps", name := "accept", desc := "(LCanalSteps$Canal;I)I" } : Jvm.MethodName)) ∈ lw_tbl := lw_at lw_m2 115 rfl
theorem q421 : (Jvm.Cond.instanceMethod ({ cls := "CanalSteps", name := "accept", desc := "(LCanalSteps$Canal;I)I" } : Jvm.MethodName)) ∈ lw_all := lw_g (lw_at lw_m2 116 rfl) rfl
theorem q422 : (Jvm.Cond.code ({ cls := "CanalSteps", name := "accept", desc := "(LCanalSteps$Canal;I)I" } : Jvm.MethodName) prog_1_method_6_code (3 : Nat) (Option.some Jvm.ClassFile.FieldType.int)) ∈ lw_all := lw_g (lw_at lw_m2 117 rfl) rfl
theorem q423 : (Jvm.Cond.interfaceEntry "CanalSteps" (44 : Nat)) ∈ lw_tbl := lw_at lw_m2 118 rfl
theorem q424 : (Jvm.Cond.methodLink "CanalSteps" (44 : Nat) ({ cls := "java/util/List", name := "remove", desc := "(I)Ljava/lang/Object;" } : Jvm.MethodName)) ∈ lw_all := lw_g (lw_at lw_m2 119 rfl) rfl
theorem q437 : (Jvm.Cond.interfaceEntry "CanalSteps" (48 : Nat)) ∈ lw_tbl := lw_at lw_m2 132 rfl
theorem q438 : (Jvm.Cond.methodLink "CanalSteps" (48 : Nat) ({ cls := "java/util/List", name := "add", desc := "(Ljava/lang/Object;)Z" } : Jvm.MethodName)) ∈ lw_all := lw_g (lw_at lw_m2 133 rfl) rfl
theorem q440 : (Jvm.Cond.instanceMethod ({ cls := "CanalSteps", name := "load", desc := "(II)I" } : Jvm.MethodName)) ∈ lw_all := lw_g (lw_at lw_m2 135 rfl) rfl
theorem q441 : (Jvm.Cond.selects "CanalSteps" ({ cls := "CanalSteps", name := "load", desc := "(II)I" } : Jvm.MethodName) ({ cls := "CanalSteps", name := "load", desc := "(II)I" } : Jvm.MethodName)) ∈ lw_all := lw_g (lw_at lw_m2 136 rfl) rfl
theorem q442 : (Jvm.Cond.code ({ cls := "CanalSteps", name := "load", desc := "(II)I" } : Jvm.MethodName) prog_1_method_12_code (5 : Nat) (Option.some Jvm.ClassFile.FieldType.int)) ∈ lw_all := lw_g (lw_at lw_m2 137 rfl) rfl
theorem q443 : (Jvm.Cond.methodLink "CanalSteps" (104 : Nat) ({ cls := "CanalSteps$Canal", name := "isBoat", desc := "(I)Z" } : Jvm.MethodName)) ∈ lw_all := lw_g (lw_at lw_m2 138 rfl) rfl
theorem q448 : (Jvm.Cond.interfaceEntry "CanalSteps" (107 : Nat)) ∈ lw_tbl := lw_at lw_m2 143 rfl
theorem q449 : (Jvm.Cond.methodLink "CanalSteps" (107 : Nat) ({ cls := "java/util/List", name := "get", desc := "(I)Ljava/lang/Object;" } : Jvm.MethodName)) ∈ lw_all := lw_g (lw_at lw_m2 144 rfl) rfl
theorem q450 : (Jvm.Cond.methodLink "CanalSteps" (110 : Nat) ({ cls := "CanalSteps$Boat", name := "hasArrived", desc := "()Z" } : Jvm.MethodName)) ∈ lw_all := lw_g (lw_at lw_m2 145 rfl) rfl
theorem q452 : (Jvm.Cond.instanceMethod ({ cls := "CanalSteps", name := "turnLock", desc := "(I)I" } : Jvm.MethodName)) ∈ lw_all := lw_g (lw_at lw_m2 147 rfl) rfl
theorem q453 : (Jvm.Cond.selects "CanalSteps" ({ cls := "CanalSteps", name := "turnLock", desc := "(I)I" } : Jvm.MethodName) ({ cls := "CanalSteps", name := "turnLock", desc := "(I)I" } : Jvm.MethodName)) ∈ lw_all := lw_g (lw_at lw_m2 148 rfl) rfl
theorem q454 : (Jvm.Cond.code ({ cls := "CanalSteps", name := "turnLock", desc := "(I)I" } : Jvm.MethodName) prog_1_method_13_code (3 : Nat) (Option.some Jvm.ClassFile.FieldType.int)) ∈ lw_all := lw_g (lw_at lw_m2 149 rfl) rfl
theorem q455 : (Jvm.Cond.methodLink "CanalSteps" (117 : Nat) ({ cls := "CanalSteps", name := "turnIn", desc := "(LCanalSteps$Canal;I)I" } : Jvm.MethodName)) ∈ lw_all := lw_g (lw_at lw_m2 150 rfl) rfl
theorem q456 : (Jvm.Cond.static ({ cls := "CanalSteps", name := "turnIn", desc := "(LCanalSteps$Canal;I)I" } : Jvm.MethodName)) ∈ lw_all := lw_g (lw_at lw_m2 151 rfl) rfl
theorem q457 : (Jvm.Cond.code ({ cls := "CanalSteps", name := "turnIn", desc := "(LCanalSteps$Canal;I)I" } : Jvm.MethodName) prog_1_method_9_code (2 : Nat) (Option.some Jvm.ClassFile.FieldType.int)) ∈ lw_all := lw_g (lw_at lw_m2 152 rfl) rfl
theorem q458 : (Jvm.Cond.methodLink "CanalSteps" (72 : Nat) ({ cls := "CanalSteps", name := "isLock", desc := "(I)Z" } : Jvm.MethodName)) ∈ lw_all := lw_g (lw_at lw_m2 153 rfl) rfl
theorem q459 : (Jvm.Cond.static ({ cls := "CanalSteps", name := "isLock", desc := "(I)Z" } : Jvm.MethodName)) ∈ lw_all := lw_g (lw_at lw_m2 154 rfl) rfl
theorem q460 : (Jvm.Cond.code ({ cls := "CanalSteps", name := "isLock", desc := "(I)Z" } : Jvm.MethodName) prog_1_method_4_code (1 : Nat) (Option.some Jvm.ClassFile.FieldType.boolean)) ∈ lw_all := lw_g (lw_at lw_m2 155 rfl) rfl
theorem q461 : (Jvm.Cond.methodLink "CanalSteps" (75 : Nat) ({ cls := "CanalSteps$Canal", name := "canTurn", desc := "(I)Z" } : Jvm.MethodName)) ∈ lw_all := lw_g (lw_at lw_m2 156 rfl) rfl
theorem q465 : (Jvm.Cond.methodLink "CanalSteps" (78 : Nat) ({ cls := "CanalSteps$Canal", name := "turn", desc := "(I)V" } : Jvm.MethodName)) ∈ lw_all := lw_g (lw_at lw_m2 160 rfl) rfl
theorem q478 : (Jvm.Cond.instanceMethod ({ cls := "CanalSteps", name := "setDepth", desc := "(II)I" } : Jvm.MethodName)) ∈ lw_all := lw_g (lw_at lw_m2 173 rfl) rfl
theorem q479 : (Jvm.Cond.selects "CanalSteps" ({ cls := "CanalSteps", name := "setDepth", desc := "(II)I" } : Jvm.MethodName) ({ cls := "CanalSteps", name := "setDepth", desc := "(II)I" } : Jvm.MethodName)) ∈ lw_all := lw_g (lw_at lw_m2 174 rfl) rfl
theorem q480 : (Jvm.Cond.code ({ cls := "CanalSteps", name := "setDepth", desc := "(II)I" } : Jvm.MethodName) prog_1_method_14_code (5 : Nat) (Option.some Jvm.ClassFile.FieldType.int)) ∈ lw_all := lw_g (lw_at lw_m2 175 rfl) rfl
theorem q482 : (Jvm.Cond.instanceMethod ({ cls := "CanalSteps", name := "set", desc := "(II)I" } : Jvm.MethodName)) ∈ lw_all := lw_g (lw_at lw_m2 177 rfl) rfl
theorem q483 : (Jvm.Cond.selects "CanalSteps" ({ cls := "CanalSteps", name := "set", desc := "(II)I" } : Jvm.MethodName) ({ cls := "CanalSteps", name := "set", desc := "(II)I" } : Jvm.MethodName)) ∈ lw_all := lw_g (lw_at lw_m2 178 rfl) rfl
theorem q484 : (Jvm.Cond.code ({ cls := "CanalSteps", name := "set", desc := "(II)I" } : Jvm.MethodName) prog_1_method_15_code (5 : Nat) (Option.some Jvm.ClassFile.FieldType.int)) ∈ lw_all := lw_g (lw_at lw_m2 179 rfl) rfl
theorem q485 : (Jvm.Cond.methodLink "CanalSteps" (127 : Nat) ({ cls := "CanalSteps", name := "pick", desc := "(I[I)I" } : Jvm.MethodName)) ∈ lw_all := lw_g (lw_at lw_m2 180 rfl) rfl
theorem q486 : (Jvm.Cond.static ({ cls := "CanalSteps", name := "pick", desc := "(I[I)I" } : Jvm.MethodName)) ∈ lw_all := lw_g (lw_at lw_m2 181 rfl) rfl
theorem q487 : (Jvm.Cond.code ({ cls := "CanalSteps", name := "pick", desc := "(I[I)I" } : Jvm.MethodName) prog_1_method_2_code (2 : Nat) (Option.some Jvm.ClassFile.FieldType.int)) ∈ lw_all := lw_g (lw_at lw_m2 182 rfl) rfl
theorem q489 : (Jvm.Cond.instanceMethod ({ cls := "CanalSteps", name := "pass", desc := "(I)I" } : Jvm.MethodName)) ∈ lw_all := lw_g (lw_at lw_m2 184 rfl) rfl
theorem q490 : (Jvm.Cond.selects "CanalSteps" ({ cls := "CanalSteps", name := "pass", desc := "(I)I" } : Jvm.MethodName) ({ cls := "CanalSteps", name := "pass", desc := "(I)I" } : Jvm.MethodName)) ∈ lw_all := lw_g (lw_at lw_m2 185 rfl) rfl
theorem q491 : (Jvm.Cond.code ({ cls := "CanalSteps", name := "pass", desc := "(I)I" } : Jvm.MethodName) prog_1_method_16_code (3 : Nat) (Option.some Jvm.ClassFile.FieldType.int)) ∈ lw_all := lw_g (lw_at lw_m2 186 rfl) rfl
theorem q492 : (Jvm.Cond.methodLink "CanalSteps" (134 : Nat) ({ cls := "CanalSteps", name := "passIn", desc := "(LCanalSteps$Canal;I)I" } : Jvm.MethodName)) ∈ lw_all := lw_g (lw_at lw_m2 187 rfl) rfl
theorem q493 : (Jvm.Cond.static ({ cls := "CanalSteps", name := "passIn", desc := "(LCanalSteps$Canal;I)I" } : Jvm.MethodName)) ∈ lw_all := lw_g (lw_at lw_m2 188 rfl) rfl
theorem q494 : (Jvm.Cond.code ({ cls := "CanalSteps", name := "passIn", desc := "(LCanalSteps$Canal;I)I" } : Jvm.MethodName) prog_1_method_10_code (4 : Nat) (Option.some Jvm.ClassFile.FieldType.int)) ∈ lw_all := lw_g (lw_at lw_m2 189 rfl) rfl
theorem q495 : (Jvm.Cond.constant "CanalSteps" (89 : Nat) (99999 : Int32)) ∈ lw_all := lw_g (lw_at lw_m2 190 rfl) rfl
theorem q496 : (Jvm.Cond.methodLink "CanalSteps" (90 : Nat) ({ cls := "CanalSteps$Canal", name := "pass", desc := "()I" } : Jvm.MethodName)) ∈ lw_all := lw_g (lw_at lw_m2 191 rfl) rfl
theorem q550 : (Jvm.Cond.instanceMethod ({ cls := "CanalSteps", name := "type", desc := "(C)I" } : Jvm.MethodName)) ∈ lw_all := lw_g (lw_at lw_m3 5 rfl) rfl
theorem q551 : (Jvm.Cond.selects "CanalSteps" ({ cls := "CanalSteps", name := "type", desc := "(C)I" } : Jvm.MethodName) ({ cls := "CanalSteps", name := "type", desc := "(C)I" } : Jvm.MethodName)) ∈ lw_all := lw_g (lw_at lw_m3 6 rfl) rfl
theorem q552 : (Jvm.Cond.code ({ cls := "CanalSteps", name := "type", desc := "(C)I" } : Jvm.MethodName) prog_1_method_17_code (2 : Nat) (Option.some Jvm.ClassFile.FieldType.int)) ∈ lw_all := lw_g (lw_at lw_m3 7 rfl) rfl
theorem q553 : (Jvm.Cond.methodLink "CanalSteps" (137 : Nat) ({ cls := "java/lang/StringBuilder", name := "length", desc := "()I" } : Jvm.MethodName)) ∈ lw_all := lw_g (lw_at lw_m3 8 rfl) rfl
theorem q560 : (Jvm.Cond.methodLink "CanalSteps" (140 : Nat) ({ cls := "java/lang/StringBuilder", name := "append", desc := "(C)Ljava/lang/StringBuilder;" } : Jvm.MethodName)) ∈ lw_all := lw_g (lw_at lw_m3 15 rfl) rfl
theorem q639 : (Jvm.Cond.instanceMethod ({ cls := "CanalSteps", name := "clearText", desc := "()I" } : Jvm.MethodName)) ∈ lw_all := lw_g (lw_at lw_m3 94 rfl) rfl
theorem q640 : (Jvm.Cond.selects "CanalSteps" ({ cls := "CanalSteps", name := "clearText", desc := "()I" } : Jvm.MethodName) ({ cls := "CanalSteps", name := "clearText", desc := "()I" } : Jvm.MethodName)) ∈ lw_all := lw_g (lw_at lw_m3 95 rfl) rfl
theorem q641 : (Jvm.Cond.code ({ cls := "CanalSteps", name := "clearText", desc := "()I" } : Jvm.MethodName) prog_1_method_18_code (2 : Nat) (Option.some Jvm.ClassFile.FieldType.int)) ∈ lw_all := lw_g (lw_at lw_m3 96 rfl) rfl
theorem q642 : (Jvm.Cond.methodLink "CanalSteps" (144 : Nat) ({ cls := "java/lang/StringBuilder", name := "setLength", desc := "(I)V" } : Jvm.MethodName)) ∈ lw_all := lw_g (lw_at lw_m3 97 rfl) rfl
theorem q663 : (Jvm.Cond.instanceMethod ({ cls := "CanalSteps", name := "perform", desc := "()I" } : Jvm.MethodName)) ∈ lw_all := lw_g (lw_at lw_m3 118 rfl) rfl
theorem q664 : (Jvm.Cond.selects "CanalSteps" ({ cls := "CanalSteps", name := "perform", desc := "()I" } : Jvm.MethodName) ({ cls := "CanalSteps", name := "perform", desc := "()I" } : Jvm.MethodName)) ∈ lw_all := lw_g (lw_at lw_m3 119 rfl) rfl
theorem q665 : (Jvm.Cond.code ({ cls := "CanalSteps", name := "perform", desc := "()I" } : Jvm.MethodName) prog_1_method_19_code (5 : Nat) (Option.some Jvm.ClassFile.FieldType.int)) ∈ lw_all := lw_g (lw_at lw_m3 120 rfl) rfl
theorem q666 : (Jvm.Cond.classLink "CanalSteps" (147 : Nat) "CanalSteps$Reader") ∈ lw_all := lw_g (lw_at lw_m3 121 rfl) rfl
theorem q668 : (Jvm.Cond.methodLink "CanalSteps" (149 : Nat) ({ cls := "CanalSteps$Reader", name := "<init>", desc := "(Ljava/lang/CharSequence;)V" } : Jvm.MethodName)) ∈ lw_all := lw_g (lw_at lw_m3 123 rfl) rfl
theorem q676 : (Jvm.Cond.fieldLinkNest "CanalSteps" (158 : Nat) "CanalSteps$Reader" "many" "I" "CanalSteps") ∈ lw_tbl := lw_at lw_m3 131 rfl
theorem q678 : (Jvm.Cond.fieldLinkNest "CanalSteps" (155 : Nat) "CanalSteps$Reader" "place" "I" "CanalSteps") ∈ lw_tbl := lw_at lw_m3 133 rfl
theorem q691 : (Jvm.Cond.methodLink "CanalSteps" (152 : Nat) ({ cls := "CanalSteps$Reader", name := "reads", desc := "()Z" } : Jvm.MethodName)) ∈ lw_all := lw_g (lw_at lw_m3 146 rfl) rfl
theorem q746 : (Jvm.Cond.methodLink "CanalSteps" (161 : Nat) ({ cls := "CanalSteps$Reader", name := "does", desc := "(ILCanalSteps$Canal;)I" } : Jvm.MethodName)) ∈ lw_all := lw_g (lw_at lw_m3 201 rfl) rfl
theorem q758 : (Jvm.Cond.instanceMethod ({ cls := "CanalSteps", name := "stopped", desc := "(I)I" } : Jvm.MethodName)) ∈ lw_all := lw_g (lw_at lw_m3 213 rfl) rfl
theorem q759 : (Jvm.Cond.selects "CanalSteps" ({ cls := "CanalSteps", name := "stopped", desc := "(I)I" } : Jvm.MethodName) ({ cls := "CanalSteps", name := "stopped", desc := "(I)I" } : Jvm.MethodName)) ∈ lw_all := lw_g (lw_at lw_m3 214 rfl) rfl
theorem q760 : (Jvm.Cond.code ({ cls := "CanalSteps", name := "stopped", desc := "(I)I" } : Jvm.MethodName) prog_1_method_20_code (2 : Nat) (Option.some Jvm.ClassFile.FieldType.int)) ∈ lw_all := lw_g (lw_at lw_m3 215 rfl) rfl
theorem q762 : (Jvm.Cond.instanceMethod ({ cls := "CanalSteps", name := "undo", desc := "()I" } : Jvm.MethodName)) ∈ lw_all := lw_g (lw_at lw_m3 217 rfl) rfl
theorem q763 : (Jvm.Cond.selects "CanalSteps" ({ cls := "CanalSteps", name := "undo", desc := "()I" } : Jvm.MethodName) ({ cls := "CanalSteps", name := "undo", desc := "()I" } : Jvm.MethodName)) ∈ lw_all := lw_g (lw_at lw_m3 218 rfl) rfl
theorem q764 : (Jvm.Cond.code ({ cls := "CanalSteps", name := "undo", desc := "()I" } : Jvm.MethodName) prog_1_method_21_code (1 : Nat) (Option.some Jvm.ClassFile.FieldType.int)) ∈ lw_all := lw_g (lw_at lw_m3 219 rfl) rfl
theorem q765 : (Jvm.Cond.interfaceEntry "CanalSteps" (168 : Nat)) ∈ lw_tbl := lw_at lw_m3 220 rfl
theorem q766 : (Jvm.Cond.methodLink "CanalSteps" (168 : Nat) ({ cls := "java/util/List", name := "isEmpty", desc := "()Z" } : Jvm.MethodName)) ∈ lw_all := lw_g (lw_at lw_m3 221 rfl) rfl
theorem q768 : (Jvm.Cond.instanceMethod ({ cls := "CanalSteps", name := "keep", desc := "()I" } : Jvm.MethodName)) ∈ lw_all := lw_g (lw_at lw_m3 223 rfl) rfl
theorem q769 : (Jvm.Cond.selects "CanalSteps" ({ cls := "CanalSteps", name := "keep", desc := "()I" } : Jvm.MethodName) ({ cls := "CanalSteps", name := "keep", desc := "()I" } : Jvm.MethodName)) ∈ lw_all := lw_g (lw_at lw_m3 224 rfl) rfl
theorem q770 : (Jvm.Cond.code ({ cls := "CanalSteps", name := "keep", desc := "()I" } : Jvm.MethodName) prog_1_method_22_code (1 : Nat) (Option.some Jvm.ClassFile.FieldType.int)) ∈ lw_all := lw_g (lw_at lw_m3 225 rfl) rfl
theorem q772 : (Jvm.Cond.instanceMethod ({ cls := "CanalSteps", name := "restore", desc := "()I" } : Jvm.MethodName)) ∈ lw_all := lw_g (lw_at lw_m3 227 rfl) rfl
theorem q773 : (Jvm.Cond.selects "CanalSteps" ({ cls := "CanalSteps", name := "restore", desc := "()I" } : Jvm.MethodName) ({ cls := "CanalSteps", name := "restore", desc := "()I" } : Jvm.MethodName)) ∈ lw_all := lw_g (lw_at lw_m3 228 rfl) rfl
theorem q774 : (Jvm.Cond.code ({ cls := "CanalSteps", name := "restore", desc := "()I" } : Jvm.MethodName) prog_1_method_23_code (1 : Nat) (Option.some Jvm.ClassFile.FieldType.int)) ∈ lw_all := lw_g (lw_at lw_m3 229 rfl) rfl
theorem q776 : (Jvm.Cond.instanceMethod ({ cls := "CanalSteps", name := "boatOf", desc := "(II)I" } : Jvm.MethodName)) ∈ lw_all := lw_g (lw_at lw_m3 231 rfl) rfl
theorem q777 : (Jvm.Cond.selects "CanalSteps" ({ cls := "CanalSteps", name := "boatOf", desc := "(II)I" } : Jvm.MethodName) ({ cls := "CanalSteps", name := "boatOf", desc := "(II)I" } : Jvm.MethodName)) ∈ lw_all := lw_g (lw_at lw_m3 232 rfl) rfl
theorem q778 : (Jvm.Cond.code ({ cls := "CanalSteps", name := "boatOf", desc := "(II)I" } : Jvm.MethodName) prog_1_method_24_code (6 : Nat) (Option.some Jvm.ClassFile.FieldType.int)) ∈ lw_all := lw_g (lw_at lw_m3 233 rfl) rfl
theorem q779 : (Jvm.Cond.methodLink "CanalSteps" (177 : Nat) ({ cls := "CanalSteps$Boat", name := "queue", desc := "()I" } : Jvm.MethodName)) ∈ lw_all := lw_g (lw_at lw_m3 234 rfl) rfl
theorem q780 : (Jvm.Cond.classLink "CanalSteps" (39 : Nat) "java/util/List") ∈ lw_all := lw_g (lw_at lw_m3 235 rfl) rfl
theorem q781 : (Jvm.Cond.interfaceEntry "CanalSteps" (180 : Nat)) ∈ lw_tbl := lw_at lw_m3 236 rfl
theorem q782 : (Jvm.Cond.methodLink "CanalSteps" (180 : Nat) ({ cls := "java/util/List", name := "indexOf", desc := "(Ljava/lang/Object;)I" } : Jvm.MethodName)) ∈ lw_all := lw_g (lw_at lw_m3 237 rfl) rfl
theorem q798 : (Jvm.Cond.selects "CanalSteps" ({ cls := "java/lang/Object", name := "equals", desc := "(Ljava/lang/Object;)Z" } : Jvm.MethodName) ({ cls := "java/lang/Object", name := "equals", desc := "(Ljava/lang/Object;)Z" } : Jvm.MethodName)) ∈ lw_all := lw_g (lw_at lw_m4 13 rfl) rfl
theorem q805 : (Jvm.Cond.methodLink "CanalSteps" (196 : Nat) ({ cls := "CanalSteps$Boat", name := "lock", desc := "()I" } : Jvm.MethodName)) ∈ lw_all := lw_g (lw_at lw_m4 20 rfl) rfl
theorem q807 : (Jvm.Cond.instanceMethod ({ cls := "CanalSteps", name := "lock", desc := "(II)I" } : Jvm.MethodName)) ∈ lw_all := lw_g (lw_at lw_m4 22 rfl) rfl
theorem q808 : (Jvm.Cond.selects "CanalSteps" ({ cls := "CanalSteps", name := "lock", desc := "(II)I" } : Jvm.MethodName) ({ cls := "CanalSteps", name := "lock", desc := "(II)I" } : Jvm.MethodName)) ∈ lw_all := lw_g (lw_at lw_m4 23 rfl) rfl
theorem q809 : (Jvm.Cond.code ({ cls := "CanalSteps", name := "lock", desc := "(II)I" } : Jvm.MethodName) prog_1_method_26_code (3 : Nat) (Option.some Jvm.ClassFile.FieldType.int)) ∈ lw_all := lw_g (lw_at lw_m4 24 rfl) rfl
theorem q810 : (Jvm.Cond.methodLink "CanalSteps" (208 : Nat) ({ cls := "CanalSteps", name := "firstOf", desc := "(I)I" } : Jvm.MethodName)) ∈ lw_all := lw_g (lw_at lw_m4 25 rfl) rfl
theorem q811 : (Jvm.Cond.privateMethod ({ cls := "CanalSteps", name := "firstOf", desc := "(I)I" } : Jvm.MethodName)) ∈ lw_tbl := lw_at lw_m4 26 rfl
theorem q812 : (Jvm.Cond.instanceMethod ({ cls := "CanalSteps", name := "firstOf", desc := "(I)I" } : Jvm.MethodName)) ∈ lw_all := lw_g (lw_at lw_m4 27 rfl) rfl
theorem q813 : (Jvm.Cond.code ({ cls := "CanalSteps", name := "firstOf", desc := "(I)I" } : Jvm.MethodName) prog_1_method_25_code (2 : Nat) (Option.some Jvm.ClassFile.FieldType.int)) ∈ lw_all := lw_g (lw_at lw_m4 28 rfl) rfl
theorem q815 : (Jvm.Cond.instanceMethod ({ cls := "CanalSteps", name := "pound", desc := "(II)I" } : Jvm.MethodName)) ∈ lw_all := lw_g (lw_at lw_m4 30 rfl) rfl
theorem q816 : (Jvm.Cond.selects "CanalSteps" ({ cls := "CanalSteps", name := "pound", desc := "(II)I" } : Jvm.MethodName) ({ cls := "CanalSteps", name := "pound", desc := "(II)I" } : Jvm.MethodName)) ∈ lw_all := lw_g (lw_at lw_m4 31 rfl) rfl
theorem q817 : (Jvm.Cond.code ({ cls := "CanalSteps", name := "pound", desc := "(II)I" } : Jvm.MethodName) prog_1_method_28_code (5 : Nat) (Option.some Jvm.ClassFile.FieldType.int)) ∈ lw_all := lw_g (lw_at lw_m4 32 rfl) rfl
theorem q818 : (Jvm.Cond.static ({ cls := "CanalSteps", name := "lambda$pound$0", desc := "(ILCanalSteps$Boat;)Z" } : Jvm.MethodName)) ∈ lw_all := lw_g (lw_at lw_m4 33 rfl) rfl
theorem q819 : (Jvm.Cond.code ({ cls := "CanalSteps", name := "lambda$pound$0", desc := "(ILCanalSteps$Boat;)Z" } : Jvm.MethodName) prog_1_method_39_code (2 : Nat) (Option.some Jvm.ClassFile.FieldType.boolean)) ∈ lw_all := lw_g (lw_at lw_m4 34 rfl) rfl
theorem q820 : (Jvm.Cond.methodLink "CanalSteps" (220 : Nat) ({ cls := "CanalSteps$Boat", name := "isIn", desc := "(I)Z" } : Jvm.MethodName)) ∈ lw_all := lw_g (lw_at lw_m4 35 rfl) rfl
theorem q826 : (Jvm.Cond.methodLink "CanalSteps" (233 : Nat) ({ cls := "CanalSteps$Canal", name := "setOf", desc := "(LCanalSteps$Choice;)I" } : Jvm.MethodName)) ∈ lw_all := lw_g (lw_at lw_m4 41 rfl) rfl
theorem q830 : (Jvm.Cond.static ({ cls := "CanalSteps", name := "lambda$pound$1", desc := "(ILCanalSteps$Boat;)Z" } : Jvm.MethodName)) ∈ lw_all := lw_g (lw_at lw_m4 45 rfl) rfl
theorem q831 : (Jvm.Cond.code ({ cls := "CanalSteps", name := "lambda$pound$1", desc := "(ILCanalSteps$Boat;)Z" } : Jvm.MethodName) prog_1_method_38_code (2 : Nat) (Option.some Jvm.ClassFile.FieldType.boolean)) ∈ lw_all := lw_g (lw_at lw_m4 46 rfl) rfl
theorem q832 : (Jvm.Cond.methodLink "CanalSteps" (238 : Nat) ({ cls := "CanalSteps", name := "deepest", desc := "(I)I" } : Jvm.MethodName)) ∈ lw_all := lw_g (lw_at lw_m4 47 rfl) rfl
theorem q833 : (Jvm.Cond.privateMethod ({ cls := "CanalSteps", name := "deepest", desc := "(I)I" } : Jvm.MethodName)) ∈ lw_tbl := lw_at lw_m4 48 rfl
theorem q834 : (Jvm.Cond.instanceMethod ({ cls := "CanalSteps", name := "deepest", desc := "(I)I" } : Jvm.MethodName)) ∈ lw_all := lw_g (lw_at lw_m4 49 rfl) rfl
theorem q835 : (Jvm.Cond.code ({ cls := "CanalSteps", name := "deepest", desc := "(I)I" } : Jvm.MethodName) prog_1_method_27_code (4 : Nat) (Option.some Jvm.ClassFile.FieldType.int)) ∈ lw_all := lw_g (lw_at lw_m4 50 rfl) rfl
theorem q836 : (Jvm.Cond.methodLink "CanalSteps" (223 : Nat) ({ cls := "java/lang/Math", name := "max", desc := "(II)I" } : Jvm.MethodName)) ∈ lw_all := lw_g (lw_at lw_m4 51 rfl) rfl
theorem q838 : (Jvm.Cond.instanceMethod ({ cls := "CanalSteps", name := "reason", desc := "(I)I" } : Jvm.MethodName)) ∈ lw_all := lw_g (lw_at lw_m4 53 rfl) rfl
theorem q839 : (Jvm.Cond.selects "CanalSteps" ({ cls := "CanalSteps", name := "reason", desc := "(I)I" } : Jvm.MethodName) ({ cls := "CanalSteps", name := "reason", desc := "(I)I" } : Jvm.MethodName)) ∈ lw_all := lw_g (lw_at lw_m4 54 rfl) rfl
theorem q840 : (Jvm.Cond.code ({ cls := "CanalSteps", name := "reason", desc := "(I)I" } : Jvm.MethodName) prog_1_method_29_code (3 : Nat) (Option.some Jvm.ClassFile.FieldType.int)) ∈ lw_all := lw_g (lw_at lw_m4 55 rfl) rfl
theorem q841 : (Jvm.Cond.methodLink "CanalSteps" (241 : Nat) ({ cls := "CanalSteps$Canal", name := "refusal", desc := "(LCanalSteps$Boat;)I" } : Jvm.MethodName)) ∈ lw_all := lw_g (lw_at lw_m4 56 rfl) rfl
theorem q848 : (Jvm.Cond.instanceMethod ({ cls := "CanalSteps", name := "arrivesIn", desc := "(I)I" } : Jvm.MethodName)) ∈ lw_all := lw_g (lw_at lw_m4 63 rfl) rfl
theorem q849 : (Jvm.Cond.selects "CanalSteps" ({ cls := "CanalSteps", name := "arrivesIn", desc := "(I)I" } : Jvm.MethodName) ({ cls := "CanalSteps", name := "arrivesIn", desc := "(I)I" } : Jvm.MethodName)) ∈ lw_all := lw_g (lw_at lw_m4 64 rfl) rfl
theorem q850 : (Jvm.Cond.code ({ cls := "CanalSteps", name := "arrivesIn", desc := "(I)I" } : Jvm.MethodName) prog_1_method_30_code (4 : Nat) (Option.some Jvm.ClassFile.FieldType.int)) ∈ lw_all := lw_g (lw_at lw_m4 65 rfl) rfl
theorem q852 : (Jvm.Cond.instanceMethod ({ cls := "CanalSteps", name := "water", desc := "(I)I" } : Jvm.MethodName)) ∈ lw_all := lw_g (lw_at lw_m4 67 rfl) rfl
theorem q853 : (Jvm.Cond.selects "CanalSteps" ({ cls := "CanalSteps", name := "water", desc := "(I)I" } : Jvm.MethodName) ({ cls := "CanalSteps", name := "water", desc := "(I)I" } : Jvm.MethodName)) ∈ lw_all := lw_g (lw_at lw_m4 68 rfl) rfl
theorem q854 : (Jvm.Cond.code ({ cls := "CanalSteps", name := "water", desc := "(I)I" } : Jvm.MethodName) prog_1_method_31_code (2 : Nat) (Option.some Jvm.ClassFile.FieldType.int)) ∈ lw_all := lw_g (lw_at lw_m4 69 rfl) rfl
theorem q855 : (Jvm.Cond.methodLink "CanalSteps" (245 : Nat) ({ cls := "CanalSteps$Canal", name := "sum", desc := "([I)I" } : Jvm.MethodName)) ∈ lw_all := lw_g (lw_at lw_m4 70 rfl) rfl
theorem q859 : (Jvm.Cond.instanceMethod ({ cls := "CanalSteps", name := "bestTurn", desc := "(I)I" } : Jvm.MethodName)) ∈ lw_all := lw_g (lw_at lw_m4 74 rfl) rfl
theorem q860 : (Jvm.Cond.selects "CanalSteps" ({ cls := "CanalSteps", name := "bestTurn", desc := "(I)I" } : Jvm.MethodName) ({ cls := "CanalSteps", name := "bestTurn", desc := "(I)I" } : Jvm.MethodName)) ∈ lw_all := lw_g (lw_at lw_m4 75 rfl) rfl
theorem q861 : (Jvm.Cond.code ({ cls := "CanalSteps", name := "bestTurn", desc := "(I)I" } : Jvm.MethodName) prog_1_method_33_code (7 : Nat) (Option.some Jvm.ClassFile.FieldType.int)) ∈ lw_all := lw_g (lw_at lw_m4 76 rfl) rfl
theorem q862 : (Jvm.Cond.methodLink "CanalSteps" (258 : Nat) ({ cls := "CanalSteps", name := "after", desc := "(LCanalSteps$Canal;I)I" } : Jvm.MethodName)) ∈ lw_all := lw_g (lw_at lw_m4 77 rfl) rfl
theorem q863 : (Jvm.Cond.static ({ cls := "CanalSteps", name := "after", desc := "(LCanalSteps$Canal;I)I" } : Jvm.MethodName)) ∈ lw_all := lw_g (lw_at lw_m4 78 rfl) rfl
theorem q864 : (Jvm.Cond.code ({ cls := "CanalSteps", name := "after", desc := "(LCanalSteps$Canal;I)I" } : Jvm.MethodName) prog_1_method_32_code (3 : Nat) (Option.some Jvm.ClassFile.FieldType.int)) ∈ lw_all := lw_g (lw_at lw_m4 79 rfl) rfl
theorem q865 : (Jvm.Cond.methodLink "CanalSteps" (255 : Nat) ({ cls := "CanalSteps$Canal", name := "arrivals", desc := "()I" } : Jvm.MethodName)) ∈ lw_all := lw_g (lw_at lw_m4 80 rfl) rfl
theorem q867 : (Jvm.Cond.instanceMethod ({ cls := "CanalSteps", name := "ifTicks", desc := "(II)I" } : Jvm.MethodName)) ∈ lw_all := lw_g (lw_at lw_m4 82 rfl) rfl
theorem q868 : (Jvm.Cond.selects "CanalSteps" ({ cls := "CanalSteps", name := "ifTicks", desc := "(II)I" } : Jvm.MethodName) ({ cls := "CanalSteps", name := "ifTicks", desc := "(II)I" } : Jvm.MethodName)) ∈ lw_all := lw_g (lw_at lw_m4 83 rfl) rfl
theorem q869 : (Jvm.Cond.code ({ cls := "CanalSteps", name := "ifTicks", desc := "(II)I" } : Jvm.MethodName) prog_1_method_34_code (5 : Nat) (Option.some Jvm.ClassFile.FieldType.int)) ∈ lw_all := lw_g (lw_at lw_m4 84 rfl) rfl
theorem q870 : (Jvm.Cond.static ({ cls := "CanalSteps", name := "lambda$ifTicks$2", desc := "(LCanalSteps$Canal;LCanalSteps$Boat;)Z" } : Jvm.MethodName)) ∈ lw_all := lw_g (lw_at lw_m4 85 rfl) rfl
theorem q871 : (Jvm.Cond.code ({ cls := "CanalSteps", name := "lambda$ifTicks$2", desc := "(LCanalSteps$Canal;LCanalSteps$Boat;)Z" } : Jvm.MethodName) prog_1_method_37_code (2 : Nat) (Option.some Jvm.ClassFile.FieldType.boolean)) ∈ lw_all := lw_g (lw_at lw_m4 86 rfl) rfl
theorem q872 : (Jvm.Cond.methodLink "CanalSteps" (272 : Nat) ({ cls := "CanalSteps$Canal", name := "isAground", desc := "(LCanalSteps$Boat;)Z" } : Jvm.MethodName)) ∈ lw_all := lw_g (lw_at lw_m4 87 rfl) rfl
theorem q873 : (Jvm.Cond.methodLink "CanalSteps" (264 : Nat) ({ cls := "CanalSteps$Canal", name := "many", desc := "(LCanalSteps$Choice;)I" } : Jvm.MethodName)) ∈ lw_all := lw_g (lw_at lw_m4 88 rfl) rfl
theorem q875 : (Jvm.Cond.instanceMethod ({ cls := "CanalSteps", name := "count", desc := "(I)I" } : Jvm.MethodName)) ∈ lw_all := lw_g (lw_at lw_m4 90 rfl) rfl
theorem q876 : (Jvm.Cond.selects "CanalSteps" ({ cls := "CanalSteps", name := "count", desc := "(I)I" } : Jvm.MethodName) ({ cls := "CanalSteps", name := "count", desc := "(I)I" } : Jvm.MethodName)) ∈ lw_all := lw_g (lw_at lw_m4 91 rfl) rfl
theorem q877 : (Jvm.Cond.code ({ cls := "CanalSteps", name := "count", desc := "(I)I" } : Jvm.MethodName) prog_1_method_35_code (2 : Nat) (Option.some Jvm.ClassFile.FieldType.int)) ∈ lw_all := lw_g (lw_at lw_m4 92 rfl) rfl
theorem q878 : (Jvm.Cond.privateMethod ({ cls := "CanalSteps", name := "lambda$count$3", desc := "(LCanalSteps$Boat;)Z" } : Jvm.MethodName)) ∈ lw_tbl := lw_at lw_m4 93 rfl
theorem q879 : (Jvm.Cond.instanceMethod ({ cls := "CanalSteps", name := "lambda$count$3", desc := "(LCanalSteps$Boat;)Z" } : Jvm.MethodName)) ∈ lw_all := lw_g (lw_at lw_m4 94 rfl) rfl
theorem q880 : (Jvm.Cond.code ({ cls := "CanalSteps", name := "lambda$count$3", desc := "(LCanalSteps$Boat;)Z" } : Jvm.MethodName) prog_1_method_36_code (2 : Nat) (Option.some Jvm.ClassFile.FieldType.boolean)) ∈ lw_all := lw_g (lw_at lw_m4 95 rfl) rfl
theorem q881 : (Jvm.Cond.methodLink "CanalSteps" (269 : Nat) ({ cls := "CanalSteps$Canal", name := "highOnes", desc := "()I" } : Jvm.MethodName)) ∈ lw_all := lw_g (lw_at lw_m4 96 rfl) rfl
theorem q1233 : (Jvm.Cond.castable "CanalSteps" "java/lang/Object") ∈ lw_tbl := lw_at lw_m5 208 rfl
theorem in_X0 : ∀ w ∈ wsX00, w ∈ lw_all := lw_in wsX00 [276, 278, 280, 282, 284, 286] (by decide +kernel) (by decide +kernel)
/-! CanalSteps$Canal -/
set_option maxRecDepth 100000
def RX1 : String := "CanalSteps$Canal"
def TX1 : u_T := fun k => match k with
  | 0 => ("CanalSteps$Canal", "boats", "Ljava/util/List;", true)
  | 1 => ("CanalSteps$Canal", "queues", "Ljava/util/List;", true)
  | 2 => ("CanalSteps$Canal", "depths", "[I", true)
  | 3 => ("CanalSteps$Canal", "isHigh", "[Z", true)
  | 4 => ("CanalSteps$Canal", "chambers", "[I", true)
  | 5 => ("CanalSteps$Canal", "passages", "[I", true)
  | 6 => ("CanalSteps$Canal", "fillings", "[I", true)
  | 7 => ("CanalSteps$Canal", "settings", "[I", true)
  | 8 => ("CanalSteps$Canal", "tick", "I", false)
  | 9 => ("CanalSteps$Canal", "sprung", "I", false)
  | 10 => ("CanalSteps$Canal", "lost", "I", false)
  | _ => ("CanalSteps$Canal", "byHand", "I", false)
def tyX1 : Nat → FieldType := fun k => match k with
  | 0 => .object "java/util/List"
  | 1 => .object "java/util/List"
  | 2 => .array .int
  | 3 => .array .boolean
  | 4 => .array .int
  | 5 => .array .int
  | 6 => .array .int
  | 7 => .array .int
  | 8 => .int
  | 9 => .int
  | 10 => .int
  | _ => .int
abbrev wsX10 : List Cond := u_ws RX1 TX1 12
theorem nmX1 : ∀ a, a < 12 → ∀ b, b < 12 → a ≠ b → (TX1 a).2.1 ≠ (TX1 b).2.1 := by decide +kernel
theorem tyX1_ok : ∀ k, k < 12 → parseFieldDescriptor (TX1 k).2.2.1 = some (tyX1 k) := by decide +kernel
abbrev cX1_init : ByteArray := prog_3_method_1_code
def yX1_init : MethodName := ⟨RX1, "<init>", "()V"⟩
def dkwX1_init_5 : List UInt8 := [180, 0, 18, 187, 0, 9, 89, 183, 0, 11, 185, 0, 41, 2, 0, 87, 132, 1, 1, 167, 255, 230, 177]
abbrev dktX1_init_5 : List UInt8 := dkwX1_init_5 ++ []
def dkwX1_init_4 : List UInt8 := [180, 0, 21, 27, 16, 40, 79, 132, 1, 1, 167, 255, 239, 3, 60, 27, 16, 10, 162, 0, 26, 42]
abbrev dktX1_init_4 : List UInt8 := dkwX1_init_4 ++ dktX1_init_5
def dkwX1_init_3 : List UInt8 := [16, 6, 79, 89, 4, 5, 79, 89, 5, 7, 79, 181, 0, 38, 3, 60, 27, 16, 6, 162, 0, 17, 42]
abbrev dktX1_init_3 : List UInt8 := dkwX1_init_3 ++ dktX1_init_4
def dkwX1_init_2 : List UInt8 := [181, 0, 29, 42, 8, 188, 10, 181, 0, 32, 42, 8, 188, 10, 181, 0, 35, 42, 6, 188, 10, 89, 3]
abbrev dktX1_init_2 : List UInt8 := dkwX1_init_2 ++ dktX1_init_3
def dkwX1_init_1 : List UInt8 := [181, 0, 18, 42, 16, 6, 188, 10, 181, 0, 21, 42, 8, 188, 4, 181, 0, 25, 42, 8, 188, 10]
abbrev dktX1_init_1 : List UInt8 := dkwX1_init_1 ++ dktX1_init_2
def dkwX1_init_0 : List UInt8 := [42, 183, 0, 3, 42, 187, 0, 9, 89, 183, 0, 11, 181, 0, 12, 42, 187, 0, 9, 89, 183, 0, 11]
abbrev dktX1_init_0 : List UInt8 := dkwX1_init_0 ++ dktX1_init_1
theorem dksX1_init_0 : cX1_init.data.toList.drop 0 = dktX1_init_0 := by decide +kernel
theorem dksX1_init_1 : cX1_init.data.toList.drop 23 = dktX1_init_1 := dk_seg dksX1_init_0 23 rfl rfl
theorem dksX1_init_2 : cX1_init.data.toList.drop 45 = dktX1_init_2 := dk_seg dksX1_init_1 22 rfl rfl
theorem dksX1_init_3 : cX1_init.data.toList.drop 68 = dktX1_init_3 := dk_seg dksX1_init_2 23 rfl rfl
theorem dksX1_init_4 : cX1_init.data.toList.drop 91 = dktX1_init_4 := dk_seg dksX1_init_3 23 rfl rfl
theorem dksX1_init_5 : cX1_init.data.toList.drop 113 = dktX1_init_5 := dk_seg dksX1_init_4 22 rfl rfl
theorem dX1_init_0 : decode cX1_init 0 = .ok (.aload_n 0, 1) := dk_42 (dk_at dksX1_init_0 0 rfl rfl)
theorem dX1_init_1 : decode cX1_init 1 = .ok (.invokespecial 3, 3) := dk_183 0 3 (dk_at dksX1_init_0 1 rfl rfl)
theorem dX1_init_4 : decode cX1_init 4 = .ok (.aload_n 0, 1) := dk_42 (dk_at dksX1_init_0 4 rfl rfl)
theorem dX1_init_5 : decode cX1_init 5 = .ok (.new 9, 3) := dk_187 0 9 (dk_at dksX1_init_0 5 rfl rfl)
theorem dX1_init_8 : decode cX1_init 8 = .ok (.dup, 1) := dk_89 (dk_at dksX1_init_0 8 rfl rfl)
theorem dX1_init_9 : decode cX1_init 9 = .ok (.invokespecial 11, 3) := dk_183 0 11 (dk_at dksX1_init_0 9 rfl rfl)
theorem dX1_init_12 : decode cX1_init 12 = .ok (.putfield 12, 3) := dk_181 0 12 (dk_at dksX1_init_0 12 rfl rfl)
theorem dX1_init_15 : decode cX1_init 15 = .ok (.aload_n 0, 1) := dk_42 (dk_at dksX1_init_0 15 rfl rfl)
theorem dX1_init_16 : decode cX1_init 16 = .ok (.new 9, 3) := dk_187 0 9 (dk_at dksX1_init_0 16 rfl rfl)
theorem dX1_init_19 : decode cX1_init 19 = .ok (.dup, 1) := dk_89 (dk_at dksX1_init_0 19 rfl rfl)
theorem dX1_init_20 : decode cX1_init 20 = .ok (.invokespecial 11, 3) := dk_183 0 11 (dk_at dksX1_init_0 20 rfl rfl)
theorem dX1_init_23 : decode cX1_init 23 = .ok (.putfield 18, 3) := dk_181 0 18 (dk_at dksX1_init_1 0 rfl rfl)
theorem dX1_init_26 : decode cX1_init 26 = .ok (.aload_n 0, 1) := dk_42 (dk_at dksX1_init_1 3 rfl rfl)
theorem dX1_init_27 : decode cX1_init 27 = .ok (.bipush 6, 2) := dk_16 6 (dk_at dksX1_init_1 4 rfl rfl)
theorem dX1_init_29 : decode cX1_init 29 = .ok (.newarray .int, 2) := dk_188_10 (dk_at dksX1_init_1 6 rfl rfl)
theorem dX1_init_31 : decode cX1_init 31 = .ok (.putfield 21, 3) := dk_181 0 21 (dk_at dksX1_init_1 8 rfl rfl)
theorem dX1_init_34 : decode cX1_init 34 = .ok (.aload_n 0, 1) := dk_42 (dk_at dksX1_init_1 11 rfl rfl)
theorem dX1_init_35 : decode cX1_init 35 = .ok (.iconst 5, 1) := dk_8 (dk_at dksX1_init_1 12 rfl rfl)
theorem dX1_init_36 : decode cX1_init 36 = .ok (.newarray .boolean, 2) := dk_188_4 (dk_at dksX1_init_1 13 rfl rfl)
theorem dX1_init_38 : decode cX1_init 38 = .ok (.putfield 25, 3) := dk_181 0 25 (dk_at dksX1_init_1 15 rfl rfl)
theorem dX1_init_41 : decode cX1_init 41 = .ok (.aload_n 0, 1) := dk_42 (dk_at dksX1_init_1 18 rfl rfl)
theorem dX1_init_42 : decode cX1_init 42 = .ok (.iconst 5, 1) := dk_8 (dk_at dksX1_init_1 19 rfl rfl)
theorem dX1_init_43 : decode cX1_init 43 = .ok (.newarray .int, 2) := dk_188_10 (dk_at dksX1_init_1 20 rfl rfl)
theorem dX1_init_45 : decode cX1_init 45 = .ok (.putfield 29, 3) := dk_181 0 29 (dk_at dksX1_init_2 0 rfl rfl)
theorem dX1_init_48 : decode cX1_init 48 = .ok (.aload_n 0, 1) := dk_42 (dk_at dksX1_init_2 3 rfl rfl)
theorem dX1_init_49 : decode cX1_init 49 = .ok (.iconst 5, 1) := dk_8 (dk_at dksX1_init_2 4 rfl rfl)
theorem dX1_init_50 : decode cX1_init 50 = .ok (.newarray .int, 2) := dk_188_10 (dk_at dksX1_init_2 5 rfl rfl)
theorem dX1_init_52 : decode cX1_init 52 = .ok (.putfield 32, 3) := dk_181 0 32 (dk_at dksX1_init_2 7 rfl rfl)
theorem dX1_init_55 : decode cX1_init 55 = .ok (.aload_n 0, 1) := dk_42 (dk_at dksX1_init_2 10 rfl rfl)
theorem dX1_init_56 : decode cX1_init 56 = .ok (.iconst 5, 1) := dk_8 (dk_at dksX1_init_2 11 rfl rfl)
theorem dX1_init_57 : decode cX1_init 57 = .ok (.newarray .int, 2) := dk_188_10 (dk_at dksX1_init_2 12 rfl rfl)
theorem dX1_init_59 : decode cX1_init 59 = .ok (.putfield 35, 3) := dk_181 0 35 (dk_at dksX1_init_2 14 rfl rfl)
theorem dX1_init_62 : decode cX1_init 62 = .ok (.aload_n 0, 1) := dk_42 (dk_at dksX1_init_2 17 rfl rfl)
theorem dX1_init_63 : decode cX1_init 63 = .ok (.iconst 3, 1) := dk_6 (dk_at dksX1_init_2 18 rfl rfl)
theorem dX1_init_64 : decode cX1_init 64 = .ok (.newarray .int, 2) := dk_188_10 (dk_at dksX1_init_2 19 rfl rfl)
theorem dX1_init_66 : decode cX1_init 66 = .ok (.dup, 1) := dk_89 (dk_at dksX1_init_2 21 rfl rfl)
theorem dX1_init_67 : decode cX1_init 67 = .ok (.iconst 0, 1) := dk_3 (dk_at dksX1_init_2 22 rfl rfl)
theorem dX1_init_68 : decode cX1_init 68 = .ok (.bipush 6, 2) := dk_16 6 (dk_at dksX1_init_3 0 rfl rfl)
theorem dX1_init_70 : decode cX1_init 70 = .ok (.iastore, 1) := dk_79 (dk_at dksX1_init_3 2 rfl rfl)
theorem dX1_init_71 : decode cX1_init 71 = .ok (.dup, 1) := dk_89 (dk_at dksX1_init_3 3 rfl rfl)
theorem dX1_init_72 : decode cX1_init 72 = .ok (.iconst 1, 1) := dk_4 (dk_at dksX1_init_3 4 rfl rfl)
theorem dX1_init_73 : decode cX1_init 73 = .ok (.iconst 2, 1) := dk_5 (dk_at dksX1_init_3 5 rfl rfl)
theorem dX1_init_74 : decode cX1_init 74 = .ok (.iastore, 1) := dk_79 (dk_at dksX1_init_3 6 rfl rfl)
theorem dX1_init_75 : decode cX1_init 75 = .ok (.dup, 1) := dk_89 (dk_at dksX1_init_3 7 rfl rfl)
theorem dX1_init_76 : decode cX1_init 76 = .ok (.iconst 2, 1) := dk_5 (dk_at dksX1_init_3 8 rfl rfl)
theorem dX1_init_77 : decode cX1_init 77 = .ok (.iconst 4, 1) := dk_7 (dk_at dksX1_init_3 9 rfl rfl)
theorem dX1_init_78 : decode cX1_init 78 = .ok (.iastore, 1) := dk_79 (dk_at dksX1_init_3 10 rfl rfl)
theorem dX1_init_79 : decode cX1_init 79 = .ok (.putfield 38, 3) := dk_181 0 38 (dk_at dksX1_init_3 11 rfl rfl)
theorem dX1_init_82 : decode cX1_init 82 = .ok (.iconst 0, 1) := dk_3 (dk_at dksX1_init_3 14 rfl rfl)
theorem dX1_init_83 : decode cX1_init 83 = .ok (.istore_n 1, 1) := dk_60 (dk_at dksX1_init_3 15 rfl rfl)
theorem dX1_init_84 : decode cX1_init 84 = .ok (.iload_n 1, 1) := dk_27 (dk_at dksX1_init_3 16 rfl rfl)
theorem dX1_init_85 : decode cX1_init 85 = .ok (.bipush 6, 2) := dk_16 6 (dk_at dksX1_init_3 17 rfl rfl)
theorem dX1_init_87 : decode cX1_init 87 = .ok (.if_icmp .ge 17, 3) := dk_162 0 17 (dk_at dksX1_init_3 19 rfl rfl)
theorem dX1_init_90 : decode cX1_init 90 = .ok (.aload_n 0, 1) := dk_42 (dk_at dksX1_init_3 22 rfl rfl)
theorem dX1_init_91 : decode cX1_init 91 = .ok (.getfield 21, 3) := dk_180 0 21 (dk_at dksX1_init_4 0 rfl rfl)
theorem dX1_init_94 : decode cX1_init 94 = .ok (.iload_n 1, 1) := dk_27 (dk_at dksX1_init_4 3 rfl rfl)
theorem dX1_init_95 : decode cX1_init 95 = .ok (.bipush 40, 2) := dk_16 40 (dk_at dksX1_init_4 4 rfl rfl)
theorem dX1_init_97 : decode cX1_init 97 = .ok (.iastore, 1) := dk_79 (dk_at dksX1_init_4 6 rfl rfl)
theorem dX1_init_98 : decode cX1_init 98 = .ok (.iinc 1 1, 3) := dk_132 1 1 (dk_at dksX1_init_4 7 rfl rfl)
theorem dX1_init_101 : decode cX1_init 101 = .ok (.goto (-17), 3) := dk_167 255 239 (dk_at dksX1_init_4 10 rfl rfl)
theorem dX1_init_104 : decode cX1_init 104 = .ok (.iconst 0, 1) := dk_3 (dk_at dksX1_init_4 13 rfl rfl)
theorem dX1_init_105 : decode cX1_init 105 = .ok (.istore_n 1, 1) := dk_60 (dk_at dksX1_init_4 14 rfl rfl)
theorem dX1_init_106 : decode cX1_init 106 = .ok (.iload_n 1, 1) := dk_27 (dk_at dksX1_init_4 15 rfl rfl)
theorem dX1_init_107 : decode cX1_init 107 = .ok (.bipush 10, 2) := dk_16 10 (dk_at dksX1_init_4 16 rfl rfl)
theorem dX1_init_109 : decode cX1_init 109 = .ok (.if_icmp .ge 26, 3) := dk_162 0 26 (dk_at dksX1_init_4 18 rfl rfl)
theorem dX1_init_112 : decode cX1_init 112 = .ok (.aload_n 0, 1) := dk_42 (dk_at dksX1_init_4 21 rfl rfl)
theorem dX1_init_113 : decode cX1_init 113 = .ok (.getfield 18, 3) := dk_180 0 18 (dk_at dksX1_init_5 0 rfl rfl)
theorem dX1_init_116 : decode cX1_init 116 = .ok (.new 9, 3) := dk_187 0 9 (dk_at dksX1_init_5 3 rfl rfl)
theorem dX1_init_119 : decode cX1_init 119 = .ok (.dup, 1) := dk_89 (dk_at dksX1_init_5 6 rfl rfl)
theorem dX1_init_120 : decode cX1_init 120 = .ok (.invokespecial 11, 3) := dk_183 0 11 (dk_at dksX1_init_5 7 rfl rfl)
theorem dX1_init_123 : decode cX1_init 123 = .ok (.invokeinterface 41 2, 5) := by decide +kernel
theorem dX1_init_128 : decode cX1_init 128 = .ok (.pop, 1) := dk_87 (dk_at dksX1_init_5 15 rfl rfl)
theorem dX1_init_129 : decode cX1_init 129 = .ok (.iinc 1 1, 3) := dk_132 1 1 (dk_at dksX1_init_5 16 rfl rfl)
theorem dX1_init_132 : decode cX1_init 132 = .ok (.goto (-26), 3) := dk_167 255 230 (dk_at dksX1_init_5 19 rfl rfl)
theorem dX1_init_135 : decode cX1_init 135 = .ok (.return_, 1) := dk_177 (dk_at dksX1_init_5 22 rfl rfl)
abbrev cX1_copy : ByteArray := prog_3_method_2_code
def yX1_copy : MethodName := ⟨RX1, "copy", "()LCanalSteps$Canal;"⟩
def dkwX1_copy_11 : List UInt8 := [43, 42, 180, 0, 77, 181, 0, 77, 43, 42, 180, 0, 80, 181, 0, 80, 43, 176]
abbrev dktX1_copy_11 : List UInt8 := dkwX1_copy_11 ++ []
def dkwX1_copy_10 : List UInt8 := [180, 0, 38, 3, 6, 184, 0, 65, 43, 42, 180, 0, 71, 181, 0, 71, 43, 42, 180, 0, 74, 181, 0, 74]
abbrev dktX1_copy_10 : List UInt8 := dkwX1_copy_10 ++ dktX1_copy_11
def dkwX1_copy_9 : List UInt8 := [184, 0, 65, 42, 180, 0, 35, 3, 43, 180, 0, 35, 3, 8, 184, 0, 65, 42, 180, 0, 38, 3, 43]
abbrev dktX1_copy_9 : List UInt8 := dkwX1_copy_9 ++ dktX1_copy_10
def dkwX1_copy_8 : List UInt8 := [180, 0, 29, 3, 43, 180, 0, 29, 3, 8, 184, 0, 65, 42, 180, 0, 32, 3, 43, 180, 0, 32, 3, 8]
abbrev dktX1_copy_8 : List UInt8 := dkwX1_copy_8 ++ dktX1_copy_9
def dkwX1_copy_7 : List UInt8 := [180, 0, 21, 3, 16, 6, 184, 0, 65, 42, 180, 0, 25, 3, 43, 180, 0, 25, 3, 8, 184, 0, 65, 42]
abbrev dktX1_copy_7 : List UInt8 := dkwX1_copy_7 ++ dktX1_copy_8
def dkwX1_copy_6 : List UInt8 := [185, 0, 41, 2, 0, 87, 132, 3, 1, 167, 255, 175, 132, 2, 1, 167, 255, 161, 42, 180, 0, 21, 3, 43]
abbrev dktX1_copy_6 : List UInt8 := dkwX1_copy_6 ++ dktX1_copy_7
def dkwX1_copy_5 : List UInt8 := [192, 0, 42, 29, 185, 0, 54, 2, 0, 192, 0, 52, 180, 0, 61, 185, 0, 54, 2, 0, 192, 0, 52]
abbrev dktX1_copy_5 : List UInt8 := dkwX1_copy_5 ++ dktX1_copy_6
def dkwX1_copy_4 : List UInt8 := [28, 185, 0, 54, 2, 0, 192, 0, 42, 43, 180, 0, 12, 42, 180, 0, 18, 28, 185, 0, 54, 2, 0]
abbrev dktX1_copy_4 : List UInt8 := dkwX1_copy_4 ++ dktX1_copy_5
def dkwX1_copy_3 : List UInt8 := [180, 0, 18, 28, 185, 0, 54, 2, 0, 192, 0, 42, 185, 0, 48, 1, 0, 162, 0, 65, 43, 180, 0, 18]
abbrev dktX1_copy_3 : List UInt8 := dkwX1_copy_3 ++ dktX1_copy_4
def dkwX1_copy_2 : List UInt8 := [185, 0, 41, 2, 0, 87, 132, 2, 1, 167, 255, 210, 3, 61, 28, 16, 10, 162, 0, 95, 3, 62, 29, 42]
abbrev dktX1_copy_2 : List UInt8 := dkwX1_copy_2 ++ dktX1_copy_3
def dkwX1_copy_1 : List UInt8 := [180, 0, 12, 187, 0, 52, 89, 42, 180, 0, 12, 28, 185, 0, 54, 2, 0, 192, 0, 52, 183, 0, 58]
abbrev dktX1_copy_1 : List UInt8 := dkwX1_copy_1 ++ dktX1_copy_2
def dkwX1_copy_0 : List UInt8 := [187, 0, 13, 89, 183, 0, 47, 76, 3, 61, 28, 42, 180, 0, 12, 185, 0, 48, 1, 0, 162, 0, 39, 43]
abbrev dktX1_copy_0 : List UInt8 := dkwX1_copy_0 ++ dktX1_copy_1
theorem dksX1_copy_0 : cX1_copy.data.toList.drop 0 = dktX1_copy_0 := by decide +kernel
theorem dksX1_copy_1 : cX1_copy.data.toList.drop 24 = dktX1_copy_1 := dk_seg dksX1_copy_0 24 rfl rfl
theorem dksX1_copy_2 : cX1_copy.data.toList.drop 47 = dktX1_copy_2 := dk_seg dksX1_copy_1 23 rfl rfl
theorem dksX1_copy_3 : cX1_copy.data.toList.drop 71 = dktX1_copy_3 := dk_seg dksX1_copy_2 24 rfl rfl
theorem dksX1_copy_4 : cX1_copy.data.toList.drop 95 = dktX1_copy_4 := dk_seg dksX1_copy_3 24 rfl rfl
theorem dksX1_copy_5 : cX1_copy.data.toList.drop 118 = dktX1_copy_5 := dk_seg dksX1_copy_4 23 rfl rfl
theorem dksX1_copy_6 : cX1_copy.data.toList.drop 141 = dktX1_copy_6 := dk_seg dksX1_copy_5 23 rfl rfl
theorem dksX1_copy_7 : cX1_copy.data.toList.drop 165 = dktX1_copy_7 := dk_seg dksX1_copy_6 24 rfl rfl
theorem dksX1_copy_8 : cX1_copy.data.toList.drop 189 = dktX1_copy_8 := dk_seg dksX1_copy_7 24 rfl rfl
theorem dksX1_copy_9 : cX1_copy.data.toList.drop 213 = dktX1_copy_9 := dk_seg dksX1_copy_8 24 rfl rfl
theorem dksX1_copy_10 : cX1_copy.data.toList.drop 236 = dktX1_copy_10 := dk_seg dksX1_copy_9 23 rfl rfl
theorem dksX1_copy_11 : cX1_copy.data.toList.drop 260 = dktX1_copy_11 := dk_seg dksX1_copy_10 24 rfl rfl
theorem dX1_copy_0 : decode cX1_copy 0 = .ok (.new 13, 3) := dk_187 0 13 (dk_at dksX1_copy_0 0 rfl rfl)
theorem dX1_copy_3 : decode cX1_copy 3 = .ok (.dup, 1) := dk_89 (dk_at dksX1_copy_0 3 rfl rfl)
theorem dX1_copy_4 : decode cX1_copy 4 = .ok (.invokespecial 47, 3) := dk_183 0 47 (dk_at dksX1_copy_0 4 rfl rfl)
theorem dX1_copy_7 : decode cX1_copy 7 = .ok (.astore_n 1, 1) := dk_76 (dk_at dksX1_copy_0 7 rfl rfl)
theorem dX1_copy_8 : decode cX1_copy 8 = .ok (.iconst 0, 1) := dk_3 (dk_at dksX1_copy_0 8 rfl rfl)
theorem dX1_copy_9 : decode cX1_copy 9 = .ok (.istore_n 2, 1) := dk_61 (dk_at dksX1_copy_0 9 rfl rfl)
theorem dX1_copy_10 : decode cX1_copy 10 = .ok (.iload_n 2, 1) := dk_28 (dk_at dksX1_copy_0 10 rfl rfl)
theorem dX1_copy_11 : decode cX1_copy 11 = .ok (.aload_n 0, 1) := dk_42 (dk_at dksX1_copy_0 11 rfl rfl)
theorem dX1_copy_12 : decode cX1_copy 12 = .ok (.getfield 12, 3) := dk_180 0 12 (dk_at dksX1_copy_0 12 rfl rfl)
theorem dX1_copy_15 : decode cX1_copy 15 = .ok (.invokeinterface 48 1, 5) := by decide +kernel
theorem dX1_copy_20 : decode cX1_copy 20 = .ok (.if_icmp .ge 39, 3) := dk_162 0 39 (dk_at dksX1_copy_0 20 rfl rfl)
theorem dX1_copy_23 : decode cX1_copy 23 = .ok (.aload_n 1, 1) := dk_43 (dk_at dksX1_copy_0 23 rfl rfl)
theorem dX1_copy_24 : decode cX1_copy 24 = .ok (.getfield 12, 3) := dk_180 0 12 (dk_at dksX1_copy_1 0 rfl rfl)
theorem dX1_copy_27 : decode cX1_copy 27 = .ok (.new 52, 3) := dk_187 0 52 (dk_at dksX1_copy_1 3 rfl rfl)
theorem dX1_copy_30 : decode cX1_copy 30 = .ok (.dup, 1) := dk_89 (dk_at dksX1_copy_1 6 rfl rfl)
theorem dX1_copy_31 : decode cX1_copy 31 = .ok (.aload_n 0, 1) := dk_42 (dk_at dksX1_copy_1 7 rfl rfl)
theorem dX1_copy_32 : decode cX1_copy 32 = .ok (.getfield 12, 3) := dk_180 0 12 (dk_at dksX1_copy_1 8 rfl rfl)
theorem dX1_copy_35 : decode cX1_copy 35 = .ok (.iload_n 2, 1) := dk_28 (dk_at dksX1_copy_1 11 rfl rfl)
theorem dX1_copy_36 : decode cX1_copy 36 = .ok (.invokeinterface 54 2, 5) := by decide +kernel
theorem dX1_copy_41 : decode cX1_copy 41 = .ok (.checkcast 52, 3) := dk_192 0 52 (dk_at dksX1_copy_1 17 rfl rfl)
theorem dX1_copy_44 : decode cX1_copy 44 = .ok (.invokespecial 58, 3) := dk_183 0 58 (dk_at dksX1_copy_1 20 rfl rfl)
theorem dX1_copy_47 : decode cX1_copy 47 = .ok (.invokeinterface 41 2, 5) := by decide +kernel
theorem dX1_copy_52 : decode cX1_copy 52 = .ok (.pop, 1) := dk_87 (dk_at dksX1_copy_2 5 rfl rfl)
theorem dX1_copy_53 : decode cX1_copy 53 = .ok (.iinc 2 1, 3) := dk_132 2 1 (dk_at dksX1_copy_2 6 rfl rfl)
theorem dX1_copy_56 : decode cX1_copy 56 = .ok (.goto (-46), 3) := dk_167 255 210 (dk_at dksX1_copy_2 9 rfl rfl)
theorem dX1_copy_59 : decode cX1_copy 59 = .ok (.iconst 0, 1) := dk_3 (dk_at dksX1_copy_2 12 rfl rfl)
theorem dX1_copy_60 : decode cX1_copy 60 = .ok (.istore_n 2, 1) := dk_61 (dk_at dksX1_copy_2 13 rfl rfl)
theorem dX1_copy_61 : decode cX1_copy 61 = .ok (.iload_n 2, 1) := dk_28 (dk_at dksX1_copy_2 14 rfl rfl)
theorem dX1_copy_62 : decode cX1_copy 62 = .ok (.bipush 10, 2) := dk_16 10 (dk_at dksX1_copy_2 15 rfl rfl)
theorem dX1_copy_64 : decode cX1_copy 64 = .ok (.if_icmp .ge 95, 3) := dk_162 0 95 (dk_at dksX1_copy_2 17 rfl rfl)
theorem dX1_copy_67 : decode cX1_copy 67 = .ok (.iconst 0, 1) := dk_3 (dk_at dksX1_copy_2 20 rfl rfl)
theorem dX1_copy_68 : decode cX1_copy 68 = .ok (.istore_n 3, 1) := dk_62 (dk_at dksX1_copy_2 21 rfl rfl)
theorem dX1_copy_69 : decode cX1_copy 69 = .ok (.iload_n 3, 1) := dk_29 (dk_at dksX1_copy_2 22 rfl rfl)
theorem dX1_copy_70 : decode cX1_copy 70 = .ok (.aload_n 0, 1) := dk_42 (dk_at dksX1_copy_2 23 rfl rfl)
theorem dX1_copy_71 : decode cX1_copy 71 = .ok (.getfield 18, 3) := dk_180 0 18 (dk_at dksX1_copy_3 0 rfl rfl)
theorem dX1_copy_74 : decode cX1_copy 74 = .ok (.iload_n 2, 1) := dk_28 (dk_at dksX1_copy_3 3 rfl rfl)
theorem dX1_copy_75 : decode cX1_copy 75 = .ok (.invokeinterface 54 2, 5) := by decide +kernel
theorem dX1_copy_80 : decode cX1_copy 80 = .ok (.checkcast 42, 3) := dk_192 0 42 (dk_at dksX1_copy_3 9 rfl rfl)
theorem dX1_copy_83 : decode cX1_copy 83 = .ok (.invokeinterface 48 1, 5) := by decide +kernel
theorem dX1_copy_88 : decode cX1_copy 88 = .ok (.if_icmp .ge 65, 3) := dk_162 0 65 (dk_at dksX1_copy_3 17 rfl rfl)
theorem dX1_copy_91 : decode cX1_copy 91 = .ok (.aload_n 1, 1) := dk_43 (dk_at dksX1_copy_3 20 rfl rfl)
theorem dX1_copy_92 : decode cX1_copy 92 = .ok (.getfield 18, 3) := dk_180 0 18 (dk_at dksX1_copy_3 21 rfl rfl)
theorem dX1_copy_95 : decode cX1_copy 95 = .ok (.iload_n 2, 1) := dk_28 (dk_at dksX1_copy_4 0 rfl rfl)
theorem dX1_copy_96 : decode cX1_copy 96 = .ok (.invokeinterface 54 2, 5) := by decide +kernel
theorem dX1_copy_101 : decode cX1_copy 101 = .ok (.checkcast 42, 3) := dk_192 0 42 (dk_at dksX1_copy_4 6 rfl rfl)
theorem dX1_copy_104 : decode cX1_copy 104 = .ok (.aload_n 1, 1) := dk_43 (dk_at dksX1_copy_4 9 rfl rfl)
theorem dX1_copy_105 : decode cX1_copy 105 = .ok (.getfield 12, 3) := dk_180 0 12 (dk_at dksX1_copy_4 10 rfl rfl)
theorem dX1_copy_108 : decode cX1_copy 108 = .ok (.aload_n 0, 1) := dk_42 (dk_at dksX1_copy_4 13 rfl rfl)
theorem dX1_copy_109 : decode cX1_copy 109 = .ok (.getfield 18, 3) := dk_180 0 18 (dk_at dksX1_copy_4 14 rfl rfl)
theorem dX1_copy_112 : decode cX1_copy 112 = .ok (.iload_n 2, 1) := dk_28 (dk_at dksX1_copy_4 17 rfl rfl)
theorem dX1_copy_113 : decode cX1_copy 113 = .ok (.invokeinterface 54 2, 5) := by decide +kernel
theorem dX1_copy_118 : decode cX1_copy 118 = .ok (.checkcast 42, 3) := dk_192 0 42 (dk_at dksX1_copy_5 0 rfl rfl)
theorem dX1_copy_121 : decode cX1_copy 121 = .ok (.iload_n 3, 1) := dk_29 (dk_at dksX1_copy_5 3 rfl rfl)
theorem dX1_copy_122 : decode cX1_copy 122 = .ok (.invokeinterface 54 2, 5) := by decide +kernel
theorem dX1_copy_127 : decode cX1_copy 127 = .ok (.checkcast 52, 3) := dk_192 0 52 (dk_at dksX1_copy_5 9 rfl rfl)
theorem dX1_copy_130 : decode cX1_copy 130 = .ok (.getfield 61, 3) := dk_180 0 61 (dk_at dksX1_copy_5 12 rfl rfl)
theorem dX1_copy_133 : decode cX1_copy 133 = .ok (.invokeinterface 54 2, 5) := by decide +kernel
theorem dX1_copy_138 : decode cX1_copy 138 = .ok (.checkcast 52, 3) := dk_192 0 52 (dk_at dksX1_copy_5 20 rfl rfl)
theorem dX1_copy_141 : decode cX1_copy 141 = .ok (.invokeinterface 41 2, 5) := by decide +kernel
theorem dX1_copy_146 : decode cX1_copy 146 = .ok (.pop, 1) := dk_87 (dk_at dksX1_copy_6 5 rfl rfl)
theorem dX1_copy_147 : decode cX1_copy 147 = .ok (.iinc 3 1, 3) := dk_132 3 1 (dk_at dksX1_copy_6 6 rfl rfl)
theorem dX1_copy_150 : decode cX1_copy 150 = .ok (.goto (-81), 3) := dk_167 255 175 (dk_at dksX1_copy_6 9 rfl rfl)
theorem dX1_copy_153 : decode cX1_copy 153 = .ok (.iinc 2 1, 3) := dk_132 2 1 (dk_at dksX1_copy_6 12 rfl rfl)
theorem dX1_copy_156 : decode cX1_copy 156 = .ok (.goto (-95), 3) := dk_167 255 161 (dk_at dksX1_copy_6 15 rfl rfl)
theorem dX1_copy_159 : decode cX1_copy 159 = .ok (.aload_n 0, 1) := dk_42 (dk_at dksX1_copy_6 18 rfl rfl)
theorem dX1_copy_160 : decode cX1_copy 160 = .ok (.getfield 21, 3) := dk_180 0 21 (dk_at dksX1_copy_6 19 rfl rfl)
theorem dX1_copy_163 : decode cX1_copy 163 = .ok (.iconst 0, 1) := dk_3 (dk_at dksX1_copy_6 22 rfl rfl)
theorem dX1_copy_164 : decode cX1_copy 164 = .ok (.aload_n 1, 1) := dk_43 (dk_at dksX1_copy_6 23 rfl rfl)
theorem dX1_copy_165 : decode cX1_copy 165 = .ok (.getfield 21, 3) := dk_180 0 21 (dk_at dksX1_copy_7 0 rfl rfl)
theorem dX1_copy_168 : decode cX1_copy 168 = .ok (.iconst 0, 1) := dk_3 (dk_at dksX1_copy_7 3 rfl rfl)
theorem dX1_copy_169 : decode cX1_copy 169 = .ok (.bipush 6, 2) := dk_16 6 (dk_at dksX1_copy_7 4 rfl rfl)
theorem dX1_copy_171 : decode cX1_copy 171 = .ok (.invokestatic 65, 3) := dk_184 0 65 (dk_at dksX1_copy_7 6 rfl rfl)
theorem dX1_copy_174 : decode cX1_copy 174 = .ok (.aload_n 0, 1) := dk_42 (dk_at dksX1_copy_7 9 rfl rfl)
theorem dX1_copy_175 : decode cX1_copy 175 = .ok (.getfield 25, 3) := dk_180 0 25 (dk_at dksX1_copy_7 10 rfl rfl)
theorem dX1_copy_178 : decode cX1_copy 178 = .ok (.iconst 0, 1) := dk_3 (dk_at dksX1_copy_7 13 rfl rfl)
theorem dX1_copy_179 : decode cX1_copy 179 = .ok (.aload_n 1, 1) := dk_43 (dk_at dksX1_copy_7 14 rfl rfl)
theorem dX1_copy_180 : decode cX1_copy 180 = .ok (.getfield 25, 3) := dk_180 0 25 (dk_at dksX1_copy_7 15 rfl rfl)
theorem dX1_copy_183 : decode cX1_copy 183 = .ok (.iconst 0, 1) := dk_3 (dk_at dksX1_copy_7 18 rfl rfl)
theorem dX1_copy_184 : decode cX1_copy 184 = .ok (.iconst 5, 1) := dk_8 (dk_at dksX1_copy_7 19 rfl rfl)
theorem dX1_copy_185 : decode cX1_copy 185 = .ok (.invokestatic 65, 3) := dk_184 0 65 (dk_at dksX1_copy_7 20 rfl rfl)
theorem dX1_copy_188 : decode cX1_copy 188 = .ok (.aload_n 0, 1) := dk_42 (dk_at dksX1_copy_7 23 rfl rfl)
theorem dX1_copy_189 : decode cX1_copy 189 = .ok (.getfield 29, 3) := dk_180 0 29 (dk_at dksX1_copy_8 0 rfl rfl)
theorem dX1_copy_192 : decode cX1_copy 192 = .ok (.iconst 0, 1) := dk_3 (dk_at dksX1_copy_8 3 rfl rfl)
theorem dX1_copy_193 : decode cX1_copy 193 = .ok (.aload_n 1, 1) := dk_43 (dk_at dksX1_copy_8 4 rfl rfl)
theorem dX1_copy_194 : decode cX1_copy 194 = .ok (.getfield 29, 3) := dk_180 0 29 (dk_at dksX1_copy_8 5 rfl rfl)
theorem dX1_copy_197 : decode cX1_copy 197 = .ok (.iconst 0, 1) := dk_3 (dk_at dksX1_copy_8 8 rfl rfl)
theorem dX1_copy_198 : decode cX1_copy 198 = .ok (.iconst 5, 1) := dk_8 (dk_at dksX1_copy_8 9 rfl rfl)
theorem dX1_copy_199 : decode cX1_copy 199 = .ok (.invokestatic 65, 3) := dk_184 0 65 (dk_at dksX1_copy_8 10 rfl rfl)
theorem dX1_copy_202 : decode cX1_copy 202 = .ok (.aload_n 0, 1) := dk_42 (dk_at dksX1_copy_8 13 rfl rfl)
theorem dX1_copy_203 : decode cX1_copy 203 = .ok (.getfield 32, 3) := dk_180 0 32 (dk_at dksX1_copy_8 14 rfl rfl)
theorem dX1_copy_206 : decode cX1_copy 206 = .ok (.iconst 0, 1) := dk_3 (dk_at dksX1_copy_8 17 rfl rfl)
theorem dX1_copy_207 : decode cX1_copy 207 = .ok (.aload_n 1, 1) := dk_43 (dk_at dksX1_copy_8 18 rfl rfl)
theorem dX1_copy_208 : decode cX1_copy 208 = .ok (.getfield 32, 3) := dk_180 0 32 (dk_at dksX1_copy_8 19 rfl rfl)
theorem dX1_copy_211 : decode cX1_copy 211 = .ok (.iconst 0, 1) := dk_3 (dk_at dksX1_copy_8 22 rfl rfl)
theorem dX1_copy_212 : decode cX1_copy 212 = .ok (.iconst 5, 1) := dk_8 (dk_at dksX1_copy_8 23 rfl rfl)
theorem dX1_copy_213 : decode cX1_copy 213 = .ok (.invokestatic 65, 3) := dk_184 0 65 (dk_at dksX1_copy_9 0 rfl rfl)
theorem dX1_copy_216 : decode cX1_copy 216 = .ok (.aload_n 0, 1) := dk_42 (dk_at dksX1_copy_9 3 rfl rfl)
theorem dX1_copy_217 : decode cX1_copy 217 = .ok (.getfield 35, 3) := dk_180 0 35 (dk_at dksX1_copy_9 4 rfl rfl)
theorem dX1_copy_220 : decode cX1_copy 220 = .ok (.iconst 0, 1) := dk_3 (dk_at dksX1_copy_9 7 rfl rfl)
theorem dX1_copy_221 : decode cX1_copy 221 = .ok (.aload_n 1, 1) := dk_43 (dk_at dksX1_copy_9 8 rfl rfl)
theorem dX1_copy_222 : decode cX1_copy 222 = .ok (.getfield 35, 3) := dk_180 0 35 (dk_at dksX1_copy_9 9 rfl rfl)
theorem dX1_copy_225 : decode cX1_copy 225 = .ok (.iconst 0, 1) := dk_3 (dk_at dksX1_copy_9 12 rfl rfl)
theorem dX1_copy_226 : decode cX1_copy 226 = .ok (.iconst 5, 1) := dk_8 (dk_at dksX1_copy_9 13 rfl rfl)
theorem dX1_copy_227 : decode cX1_copy 227 = .ok (.invokestatic 65, 3) := dk_184 0 65 (dk_at dksX1_copy_9 14 rfl rfl)
theorem dX1_copy_230 : decode cX1_copy 230 = .ok (.aload_n 0, 1) := dk_42 (dk_at dksX1_copy_9 17 rfl rfl)
theorem dX1_copy_231 : decode cX1_copy 231 = .ok (.getfield 38, 3) := dk_180 0 38 (dk_at dksX1_copy_9 18 rfl rfl)
theorem dX1_copy_234 : decode cX1_copy 234 = .ok (.iconst 0, 1) := dk_3 (dk_at dksX1_copy_9 21 rfl rfl)
theorem dX1_copy_235 : decode cX1_copy 235 = .ok (.aload_n 1, 1) := dk_43 (dk_at dksX1_copy_9 22 rfl rfl)
theorem dX1_copy_236 : decode cX1_copy 236 = .ok (.getfield 38, 3) := dk_180 0 38 (dk_at dksX1_copy_10 0 rfl rfl)
theorem dX1_copy_239 : decode cX1_copy 239 = .ok (.iconst 0, 1) := dk_3 (dk_at dksX1_copy_10 3 rfl rfl)
theorem dX1_copy_240 : decode cX1_copy 240 = .ok (.iconst 3, 1) := dk_6 (dk_at dksX1_copy_10 4 rfl rfl)
theorem dX1_copy_241 : decode cX1_copy 241 = .ok (.invokestatic 65, 3) := dk_184 0 65 (dk_at dksX1_copy_10 5 rfl rfl)
theorem dX1_copy_244 : decode cX1_copy 244 = .ok (.aload_n 1, 1) := dk_43 (dk_at dksX1_copy_10 8 rfl rfl)
theorem dX1_copy_245 : decode cX1_copy 245 = .ok (.aload_n 0, 1) := dk_42 (dk_at dksX1_copy_10 9 rfl rfl)
theorem dX1_copy_246 : decode cX1_copy 246 = .ok (.getfield 71, 3) := dk_180 0 71 (dk_at dksX1_copy_10 10 rfl rfl)
theorem dX1_copy_249 : decode cX1_copy 249 = .ok (.putfield 71, 3) := dk_181 0 71 (dk_at dksX1_copy_10 13 rfl rfl)
theorem dX1_copy_252 : decode cX1_copy 252 = .ok (.aload_n 1, 1) := dk_43 (dk_at dksX1_copy_10 16 rfl rfl)
theorem dX1_copy_253 : decode cX1_copy 253 = .ok (.aload_n 0, 1) := dk_42 (dk_at dksX1_copy_10 17 rfl rfl)
theorem dX1_copy_254 : decode cX1_copy 254 = .ok (.getfield 74, 3) := dk_180 0 74 (dk_at dksX1_copy_10 18 rfl rfl)
theorem dX1_copy_257 : decode cX1_copy 257 = .ok (.putfield 74, 3) := dk_181 0 74 (dk_at dksX1_copy_10 21 rfl rfl)
theorem dX1_copy_260 : decode cX1_copy 260 = .ok (.aload_n 1, 1) := dk_43 (dk_at dksX1_copy_11 0 rfl rfl)
theorem dX1_copy_261 : decode cX1_copy 261 = .ok (.aload_n 0, 1) := dk_42 (dk_at dksX1_copy_11 1 rfl rfl)
theorem dX1_copy_262 : decode cX1_copy 262 = .ok (.getfield 77, 3) := dk_180 0 77 (dk_at dksX1_copy_11 2 rfl rfl)
theorem dX1_copy_265 : decode cX1_copy 265 = .ok (.putfield 77, 3) := dk_181 0 77 (dk_at dksX1_copy_11 5 rfl rfl)
theorem dX1_copy_268 : decode cX1_copy 268 = .ok (.aload_n 1, 1) := dk_43 (dk_at dksX1_copy_11 8 rfl rfl)
theorem dX1_copy_269 : decode cX1_copy 269 = .ok (.aload_n 0, 1) := dk_42 (dk_at dksX1_copy_11 9 rfl rfl)
theorem dX1_copy_270 : decode cX1_copy 270 = .ok (.getfield 80, 3) := dk_180 0 80 (dk_at dksX1_copy_11 10 rfl rfl)
theorem dX1_copy_273 : decode cX1_copy 273 = .ok (.putfield 80, 3) := dk_181 0 80 (dk_at dksX1_copy_11 13 rfl rfl)
theorem dX1_copy_276 : decode cX1_copy 276 = .ok (.aload_n 1, 1) := dk_43 (dk_at dksX1_copy_11 16 rfl rfl)
theorem dX1_copy_277 : decode cX1_copy 277 = .ok (.areturn, 1) := dk_176 (dk_at dksX1_copy_11 17 rfl rfl)
abbrev cX1_come : ByteArray := prog_3_method_15_code
def yX1_come : MethodName := ⟨RX1, "come", "(LCanalSteps$Boat;)V"⟩
def dkwX1_come_0 : List UInt8 := [42, 180, 0, 12, 43, 185, 0, 41, 2, 0, 87, 42, 43, 182, 0, 123, 177]
abbrev dktX1_come_0 : List UInt8 := dkwX1_come_0 ++ []
theorem dksX1_come_0 : cX1_come.data.toList.drop 0 = dktX1_come_0 := by decide +kernel
theorem dX1_come_0 : decode cX1_come 0 = .ok (.aload_n 0, 1) := dk_42 (dk_at dksX1_come_0 0 rfl rfl)
theorem dX1_come_1 : decode cX1_come 1 = .ok (.getfield 12, 3) := dk_180 0 12 (dk_at dksX1_come_0 1 rfl rfl)
theorem dX1_come_4 : decode cX1_come 4 = .ok (.aload_n 1, 1) := dk_43 (dk_at dksX1_come_0 4 rfl rfl)
theorem dX1_come_5 : decode cX1_come 5 = .ok (.invokeinterface 41 2, 5) := by decide +kernel
theorem dX1_come_10 : decode cX1_come 10 = .ok (.pop, 1) := dk_87 (dk_at dksX1_come_0 10 rfl rfl)
theorem dX1_come_11 : decode cX1_come 11 = .ok (.aload_n 0, 1) := dk_42 (dk_at dksX1_come_0 11 rfl rfl)
theorem dX1_come_12 : decode cX1_come 12 = .ok (.aload_n 1, 1) := dk_43 (dk_at dksX1_come_0 12 rfl rfl)
theorem dX1_come_13 : decode cX1_come 13 = .ok (.invokevirtual 123, 3) := dk_182 0 123 (dk_at dksX1_come_0 13 rfl rfl)
theorem dX1_come_16 : decode cX1_come 16 = .ok (.return_, 1) := dk_177 (dk_at dksX1_come_0 16 rfl rfl)
abbrev cX1_join : ByteArray := prog_3_method_14_code
def yX1_join : MethodName := ⟨RX1, "join", "(LCanalSteps$Boat;)V"⟩
def dkwX1_join_1 : List UInt8 := [185, 0, 41, 2, 0, 87, 177]
abbrev dktX1_join_1 : List UInt8 := dkwX1_join_1 ++ []
def dkwX1_join_0 : List UInt8 := [43, 182, 0, 100, 154, 0, 26, 42, 180, 0, 18, 43, 182, 0, 120, 185, 0, 54, 2, 0, 192, 0, 42, 43]
abbrev dktX1_join_0 : List UInt8 := dkwX1_join_0 ++ dktX1_join_1
theorem dksX1_join_0 : cX1_join.data.toList.drop 0 = dktX1_join_0 := by decide +kernel
theorem dksX1_join_1 : cX1_join.data.toList.drop 24 = dktX1_join_1 := dk_seg dksX1_join_0 24 rfl rfl
theorem dX1_join_0 : decode cX1_join 0 = .ok (.aload_n 1, 1) := dk_43 (dk_at dksX1_join_0 0 rfl rfl)
theorem dX1_join_1 : decode cX1_join 1 = .ok (.invokevirtual 100, 3) := dk_182 0 100 (dk_at dksX1_join_0 1 rfl rfl)
theorem dX1_join_4 : decode cX1_join 4 = .ok (.ifCond .ne 26, 3) := dk_154 0 26 (dk_at dksX1_join_0 4 rfl rfl)
theorem dX1_join_7 : decode cX1_join 7 = .ok (.aload_n 0, 1) := dk_42 (dk_at dksX1_join_0 7 rfl rfl)
theorem dX1_join_8 : decode cX1_join 8 = .ok (.getfield 18, 3) := dk_180 0 18 (dk_at dksX1_join_0 8 rfl rfl)
theorem dX1_join_11 : decode cX1_join 11 = .ok (.aload_n 1, 1) := dk_43 (dk_at dksX1_join_0 11 rfl rfl)
theorem dX1_join_12 : decode cX1_join 12 = .ok (.invokevirtual 120, 3) := dk_182 0 120 (dk_at dksX1_join_0 12 rfl rfl)
theorem dX1_join_15 : decode cX1_join 15 = .ok (.invokeinterface 54 2, 5) := by decide +kernel
theorem dX1_join_20 : decode cX1_join 20 = .ok (.checkcast 42, 3) := dk_192 0 42 (dk_at dksX1_join_0 20 rfl rfl)
theorem dX1_join_23 : decode cX1_join 23 = .ok (.aload_n 1, 1) := dk_43 (dk_at dksX1_join_0 23 rfl rfl)
theorem dX1_join_24 : decode cX1_join 24 = .ok (.invokeinterface 41 2, 5) := by decide +kernel
theorem dX1_join_29 : decode cX1_join 29 = .ok (.pop, 1) := dk_87 (dk_at dksX1_join_1 5 rfl rfl)
theorem dX1_join_30 : decode cX1_join 30 = .ok (.return_, 1) := dk_177 (dk_at dksX1_join_1 6 rfl rfl)
abbrev cX1_isBoat : ByteArray := prog_3_method_3_code
def yX1_isBoat : MethodName := ⟨RX1, "isBoat", "(I)Z"⟩
def dkwX1_isBoat_0 : List UInt8 := [27, 3, 42, 180, 0, 12, 185, 0, 48, 1, 0, 4, 100, 184, 0, 83, 172]
abbrev dktX1_isBoat_0 : List UInt8 := dkwX1_isBoat_0 ++ []
theorem dksX1_isBoat_0 : cX1_isBoat.data.toList.drop 0 = dktX1_isBoat_0 := by decide +kernel
theorem dX1_isBoat_0 : decode cX1_isBoat 0 = .ok (.iload_n 1, 1) := dk_27 (dk_at dksX1_isBoat_0 0 rfl rfl)
theorem dX1_isBoat_1 : decode cX1_isBoat 1 = .ok (.iconst 0, 1) := dk_3 (dk_at dksX1_isBoat_0 1 rfl rfl)
theorem dX1_isBoat_2 : decode cX1_isBoat 2 = .ok (.aload_n 0, 1) := dk_42 (dk_at dksX1_isBoat_0 2 rfl rfl)
theorem dX1_isBoat_3 : decode cX1_isBoat 3 = .ok (.getfield 12, 3) := dk_180 0 12 (dk_at dksX1_isBoat_0 3 rfl rfl)
theorem dX1_isBoat_6 : decode cX1_isBoat 6 = .ok (.invokeinterface 48 1, 5) := by decide +kernel
theorem dX1_isBoat_11 : decode cX1_isBoat 11 = .ok (.iconst 1, 1) := dk_4 (dk_at dksX1_isBoat_0 11 rfl rfl)
theorem dX1_isBoat_12 : decode cX1_isBoat 12 = .ok (.isub, 1) := dk_100 (dk_at dksX1_isBoat_0 12 rfl rfl)
theorem dX1_isBoat_13 : decode cX1_isBoat 13 = .ok (.invokestatic 83, 3) := dk_184 0 83 (dk_at dksX1_isBoat_0 13 rfl rfl)
theorem dX1_isBoat_16 : decode cX1_isBoat 16 = .ok (.ireturn, 1) := dk_172 (dk_at dksX1_isBoat_0 16 rfl rfl)
abbrev cX1_canTurn : ByteArray := prog_3_method_10_code
def yX1_canTurn : MethodName := ⟨RX1, "canTurn", "(I)Z"⟩
def dkwX1_canTurn_1 : List UInt8 := [161, 0, 7, 4, 167, 0, 4, 3, 172]
abbrev dktX1_canTurn_1 : List UInt8 := dkwX1_canTurn_1 ++ []
def dkwX1_canTurn_0 : List UInt8 := [42, 180, 0, 25, 27, 51, 154, 0, 20, 42, 180, 0, 21, 27, 4, 96, 46, 42, 180, 0, 38, 3, 46]
abbrev dktX1_canTurn_0 : List UInt8 := dkwX1_canTurn_0 ++ dktX1_canTurn_1
theorem dksX1_canTurn_0 : cX1_canTurn.data.toList.drop 0 = dktX1_canTurn_0 := by decide +kernel
theorem dksX1_canTurn_1 : cX1_canTurn.data.toList.drop 23 = dktX1_canTurn_1 := dk_seg dksX1_canTurn_0 23 rfl rfl
theorem dX1_canTurn_0 : decode cX1_canTurn 0 = .ok (.aload_n 0, 1) := dk_42 (dk_at dksX1_canTurn_0 0 rfl rfl)
theorem dX1_canTurn_1 : decode cX1_canTurn 1 = .ok (.getfield 25, 3) := dk_180 0 25 (dk_at dksX1_canTurn_0 1 rfl rfl)
theorem dX1_canTurn_4 : decode cX1_canTurn 4 = .ok (.iload_n 1, 1) := dk_27 (dk_at dksX1_canTurn_0 4 rfl rfl)
theorem dX1_canTurn_5 : decode cX1_canTurn 5 = .ok (.baload, 1) := dk_51 (dk_at dksX1_canTurn_0 5 rfl rfl)
theorem dX1_canTurn_6 : decode cX1_canTurn 6 = .ok (.ifCond .ne 20, 3) := dk_154 0 20 (dk_at dksX1_canTurn_0 6 rfl rfl)
theorem dX1_canTurn_9 : decode cX1_canTurn 9 = .ok (.aload_n 0, 1) := dk_42 (dk_at dksX1_canTurn_0 9 rfl rfl)
theorem dX1_canTurn_10 : decode cX1_canTurn 10 = .ok (.getfield 21, 3) := dk_180 0 21 (dk_at dksX1_canTurn_0 10 rfl rfl)
theorem dX1_canTurn_13 : decode cX1_canTurn 13 = .ok (.iload_n 1, 1) := dk_27 (dk_at dksX1_canTurn_0 13 rfl rfl)
theorem dX1_canTurn_14 : decode cX1_canTurn 14 = .ok (.iconst 1, 1) := dk_4 (dk_at dksX1_canTurn_0 14 rfl rfl)
theorem dX1_canTurn_15 : decode cX1_canTurn 15 = .ok (.iadd, 1) := dk_96 (dk_at dksX1_canTurn_0 15 rfl rfl)
theorem dX1_canTurn_16 : decode cX1_canTurn 16 = .ok (.iaload, 1) := dk_46 (dk_at dksX1_canTurn_0 16 rfl rfl)
theorem dX1_canTurn_17 : decode cX1_canTurn 17 = .ok (.aload_n 0, 1) := dk_42 (dk_at dksX1_canTurn_0 17 rfl rfl)
theorem dX1_canTurn_18 : decode cX1_canTurn 18 = .ok (.getfield 38, 3) := dk_180 0 38 (dk_at dksX1_canTurn_0 18 rfl rfl)
theorem dX1_canTurn_21 : decode cX1_canTurn 21 = .ok (.iconst 0, 1) := dk_3 (dk_at dksX1_canTurn_0 21 rfl rfl)
theorem dX1_canTurn_22 : decode cX1_canTurn 22 = .ok (.iaload, 1) := dk_46 (dk_at dksX1_canTurn_0 22 rfl rfl)
theorem dX1_canTurn_23 : decode cX1_canTurn 23 = .ok (.if_icmp .lt 7, 3) := dk_161 0 7 (dk_at dksX1_canTurn_1 0 rfl rfl)
theorem dX1_canTurn_26 : decode cX1_canTurn 26 = .ok (.iconst 1, 1) := dk_4 (dk_at dksX1_canTurn_1 3 rfl rfl)
theorem dX1_canTurn_27 : decode cX1_canTurn 27 = .ok (.goto 4, 3) := dk_167 0 4 (dk_at dksX1_canTurn_1 4 rfl rfl)
theorem dX1_canTurn_30 : decode cX1_canTurn 30 = .ok (.iconst 0, 1) := dk_3 (dk_at dksX1_canTurn_1 7 rfl rfl)
theorem dX1_canTurn_31 : decode cX1_canTurn 31 = .ok (.ireturn, 1) := dk_172 (dk_at dksX1_canTurn_1 8 rfl rfl)
abbrev cX1_turn : ByteArray := prog_3_method_13_code
def yX1_turn : MethodName := ⟨RX1, "turn", "(I)V"⟩
def dkwX1_turn_1 : List UInt8 := [180, 0, 25, 27, 42, 180, 0, 25, 27, 51, 154, 0, 7, 4, 167, 0, 4, 3, 84, 177]
abbrev dktX1_turn_1 : List UInt8 := dkwX1_turn_1 ++ []
def dkwX1_turn_0 : List UInt8 := [42, 180, 0, 25, 27, 51, 153, 0, 11, 42, 27, 182, 0, 113, 167, 0, 8, 42, 27, 182, 0, 117, 42]
abbrev dktX1_turn_0 : List UInt8 := dkwX1_turn_0 ++ dktX1_turn_1
theorem dksX1_turn_0 : cX1_turn.data.toList.drop 0 = dktX1_turn_0 := by decide +kernel
theorem dksX1_turn_1 : cX1_turn.data.toList.drop 23 = dktX1_turn_1 := dk_seg dksX1_turn_0 23 rfl rfl
theorem dX1_turn_0 : decode cX1_turn 0 = .ok (.aload_n 0, 1) := dk_42 (dk_at dksX1_turn_0 0 rfl rfl)
theorem dX1_turn_1 : decode cX1_turn 1 = .ok (.getfield 25, 3) := dk_180 0 25 (dk_at dksX1_turn_0 1 rfl rfl)
theorem dX1_turn_4 : decode cX1_turn 4 = .ok (.iload_n 1, 1) := dk_27 (dk_at dksX1_turn_0 4 rfl rfl)
theorem dX1_turn_5 : decode cX1_turn 5 = .ok (.baload, 1) := dk_51 (dk_at dksX1_turn_0 5 rfl rfl)
theorem dX1_turn_6 : decode cX1_turn 6 = .ok (.ifCond .eq 11, 3) := dk_153 0 11 (dk_at dksX1_turn_0 6 rfl rfl)
theorem dX1_turn_9 : decode cX1_turn 9 = .ok (.aload_n 0, 1) := dk_42 (dk_at dksX1_turn_0 9 rfl rfl)
theorem dX1_turn_10 : decode cX1_turn 10 = .ok (.iload_n 1, 1) := dk_27 (dk_at dksX1_turn_0 10 rfl rfl)
theorem dX1_turn_11 : decode cX1_turn 11 = .ok (.invokevirtual 113, 3) := dk_182 0 113 (dk_at dksX1_turn_0 11 rfl rfl)
theorem dX1_turn_14 : decode cX1_turn 14 = .ok (.goto 8, 3) := dk_167 0 8 (dk_at dksX1_turn_0 14 rfl rfl)
theorem dX1_turn_17 : decode cX1_turn 17 = .ok (.aload_n 0, 1) := dk_42 (dk_at dksX1_turn_0 17 rfl rfl)
theorem dX1_turn_18 : decode cX1_turn 18 = .ok (.iload_n 1, 1) := dk_27 (dk_at dksX1_turn_0 18 rfl rfl)
theorem dX1_turn_19 : decode cX1_turn 19 = .ok (.invokevirtual 117, 3) := dk_182 0 117 (dk_at dksX1_turn_0 19 rfl rfl)
theorem dX1_turn_22 : decode cX1_turn 22 = .ok (.aload_n 0, 1) := dk_42 (dk_at dksX1_turn_0 22 rfl rfl)
theorem dX1_turn_23 : decode cX1_turn 23 = .ok (.getfield 25, 3) := dk_180 0 25 (dk_at dksX1_turn_1 0 rfl rfl)
theorem dX1_turn_26 : decode cX1_turn 26 = .ok (.iload_n 1, 1) := dk_27 (dk_at dksX1_turn_1 3 rfl rfl)
theorem dX1_turn_27 : decode cX1_turn 27 = .ok (.aload_n 0, 1) := dk_42 (dk_at dksX1_turn_1 4 rfl rfl)
theorem dX1_turn_28 : decode cX1_turn 28 = .ok (.getfield 25, 3) := dk_180 0 25 (dk_at dksX1_turn_1 5 rfl rfl)
theorem dX1_turn_31 : decode cX1_turn 31 = .ok (.iload_n 1, 1) := dk_27 (dk_at dksX1_turn_1 8 rfl rfl)
theorem dX1_turn_32 : decode cX1_turn 32 = .ok (.baload, 1) := dk_51 (dk_at dksX1_turn_1 9 rfl rfl)
theorem dX1_turn_33 : decode cX1_turn 33 = .ok (.ifCond .ne 7, 3) := dk_154 0 7 (dk_at dksX1_turn_1 10 rfl rfl)
theorem dX1_turn_36 : decode cX1_turn 36 = .ok (.iconst 1, 1) := dk_4 (dk_at dksX1_turn_1 13 rfl rfl)
theorem dX1_turn_37 : decode cX1_turn 37 = .ok (.goto 4, 3) := dk_167 0 4 (dk_at dksX1_turn_1 14 rfl rfl)
theorem dX1_turn_40 : decode cX1_turn 40 = .ok (.iconst 0, 1) := dk_3 (dk_at dksX1_turn_1 17 rfl rfl)
theorem dX1_turn_41 : decode cX1_turn 41 = .ok (.bastore, 1) := dk_84 (dk_at dksX1_turn_1 18 rfl rfl)
theorem dX1_turn_42 : decode cX1_turn 42 = .ok (.return_, 1) := dk_177 (dk_at dksX1_turn_1 19 rfl rfl)
abbrev cX1_empty : ByteArray := prog_3_method_12_code
def yX1_empty : MethodName := ⟨RX1, "empty", "(I)V"⟩
def dkwX1_empty_2 : List UInt8 := [100, 96, 181, 0, 77, 42, 180, 0, 21, 27, 16, 90, 79, 177]
abbrev dktX1_empty_2 : List UInt8 := dkwX1_empty_2 ++ []
def dkwX1_empty_1 : List UInt8 := [180, 0, 21, 27, 46, 16, 90, 163, 0, 4, 177, 42, 89, 180, 0, 77, 42, 180, 0, 21, 27, 46, 16, 90]
abbrev dktX1_empty_1 : List UInt8 := dkwX1_empty_1 ++ dktX1_empty_2
def dkwX1_empty_0 : List UInt8 := [42, 180, 0, 21, 27, 92, 46, 42, 180, 0, 29, 27, 46, 96, 79, 42, 180, 0, 29, 27, 3, 79, 42]
abbrev dktX1_empty_0 : List UInt8 := dkwX1_empty_0 ++ dktX1_empty_1
theorem dksX1_empty_0 : cX1_empty.data.toList.drop 0 = dktX1_empty_0 := by decide +kernel
theorem dksX1_empty_1 : cX1_empty.data.toList.drop 23 = dktX1_empty_1 := dk_seg dksX1_empty_0 23 rfl rfl
theorem dksX1_empty_2 : cX1_empty.data.toList.drop 47 = dktX1_empty_2 := dk_seg dksX1_empty_1 24 rfl rfl
theorem dX1_empty_0 : decode cX1_empty 0 = .ok (.aload_n 0, 1) := dk_42 (dk_at dksX1_empty_0 0 rfl rfl)
theorem dX1_empty_1 : decode cX1_empty 1 = .ok (.getfield 21, 3) := dk_180 0 21 (dk_at dksX1_empty_0 1 rfl rfl)
theorem dX1_empty_4 : decode cX1_empty 4 = .ok (.iload_n 1, 1) := dk_27 (dk_at dksX1_empty_0 4 rfl rfl)
theorem dX1_empty_5 : decode cX1_empty 5 = .ok (.dup2, 1) := dk_92 (dk_at dksX1_empty_0 5 rfl rfl)
theorem dX1_empty_6 : decode cX1_empty 6 = .ok (.iaload, 1) := dk_46 (dk_at dksX1_empty_0 6 rfl rfl)
theorem dX1_empty_7 : decode cX1_empty 7 = .ok (.aload_n 0, 1) := dk_42 (dk_at dksX1_empty_0 7 rfl rfl)
theorem dX1_empty_8 : decode cX1_empty 8 = .ok (.getfield 29, 3) := dk_180 0 29 (dk_at dksX1_empty_0 8 rfl rfl)
theorem dX1_empty_11 : decode cX1_empty 11 = .ok (.iload_n 1, 1) := dk_27 (dk_at dksX1_empty_0 11 rfl rfl)
theorem dX1_empty_12 : decode cX1_empty 12 = .ok (.iaload, 1) := dk_46 (dk_at dksX1_empty_0 12 rfl rfl)
theorem dX1_empty_13 : decode cX1_empty 13 = .ok (.iadd, 1) := dk_96 (dk_at dksX1_empty_0 13 rfl rfl)
theorem dX1_empty_14 : decode cX1_empty 14 = .ok (.iastore, 1) := dk_79 (dk_at dksX1_empty_0 14 rfl rfl)
theorem dX1_empty_15 : decode cX1_empty 15 = .ok (.aload_n 0, 1) := dk_42 (dk_at dksX1_empty_0 15 rfl rfl)
theorem dX1_empty_16 : decode cX1_empty 16 = .ok (.getfield 29, 3) := dk_180 0 29 (dk_at dksX1_empty_0 16 rfl rfl)
theorem dX1_empty_19 : decode cX1_empty 19 = .ok (.iload_n 1, 1) := dk_27 (dk_at dksX1_empty_0 19 rfl rfl)
theorem dX1_empty_20 : decode cX1_empty 20 = .ok (.iconst 0, 1) := dk_3 (dk_at dksX1_empty_0 20 rfl rfl)
theorem dX1_empty_21 : decode cX1_empty 21 = .ok (.iastore, 1) := dk_79 (dk_at dksX1_empty_0 21 rfl rfl)
theorem dX1_empty_22 : decode cX1_empty 22 = .ok (.aload_n 0, 1) := dk_42 (dk_at dksX1_empty_0 22 rfl rfl)
theorem dX1_empty_23 : decode cX1_empty 23 = .ok (.getfield 21, 3) := dk_180 0 21 (dk_at dksX1_empty_1 0 rfl rfl)
theorem dX1_empty_26 : decode cX1_empty 26 = .ok (.iload_n 1, 1) := dk_27 (dk_at dksX1_empty_1 3 rfl rfl)
theorem dX1_empty_27 : decode cX1_empty 27 = .ok (.iaload, 1) := dk_46 (dk_at dksX1_empty_1 4 rfl rfl)
theorem dX1_empty_28 : decode cX1_empty 28 = .ok (.bipush 90, 2) := dk_16 90 (dk_at dksX1_empty_1 5 rfl rfl)
theorem dX1_empty_30 : decode cX1_empty 30 = .ok (.if_icmp .gt 4, 3) := dk_163 0 4 (dk_at dksX1_empty_1 7 rfl rfl)
theorem dX1_empty_33 : decode cX1_empty 33 = .ok (.return_, 1) := dk_177 (dk_at dksX1_empty_1 10 rfl rfl)
theorem dX1_empty_34 : decode cX1_empty 34 = .ok (.aload_n 0, 1) := dk_42 (dk_at dksX1_empty_1 11 rfl rfl)
theorem dX1_empty_35 : decode cX1_empty 35 = .ok (.dup, 1) := dk_89 (dk_at dksX1_empty_1 12 rfl rfl)
theorem dX1_empty_36 : decode cX1_empty 36 = .ok (.getfield 77, 3) := dk_180 0 77 (dk_at dksX1_empty_1 13 rfl rfl)
theorem dX1_empty_39 : decode cX1_empty 39 = .ok (.aload_n 0, 1) := dk_42 (dk_at dksX1_empty_1 16 rfl rfl)
theorem dX1_empty_40 : decode cX1_empty 40 = .ok (.getfield 21, 3) := dk_180 0 21 (dk_at dksX1_empty_1 17 rfl rfl)
theorem dX1_empty_43 : decode cX1_empty 43 = .ok (.iload_n 1, 1) := dk_27 (dk_at dksX1_empty_1 20 rfl rfl)
theorem dX1_empty_44 : decode cX1_empty 44 = .ok (.iaload, 1) := dk_46 (dk_at dksX1_empty_1 21 rfl rfl)
theorem dX1_empty_45 : decode cX1_empty 45 = .ok (.bipush 90, 2) := dk_16 90 (dk_at dksX1_empty_1 22 rfl rfl)
theorem dX1_empty_47 : decode cX1_empty 47 = .ok (.isub, 1) := dk_100 (dk_at dksX1_empty_2 0 rfl rfl)
theorem dX1_empty_48 : decode cX1_empty 48 = .ok (.iadd, 1) := dk_96 (dk_at dksX1_empty_2 1 rfl rfl)
theorem dX1_empty_49 : decode cX1_empty 49 = .ok (.putfield 77, 3) := dk_181 0 77 (dk_at dksX1_empty_2 2 rfl rfl)
theorem dX1_empty_52 : decode cX1_empty 52 = .ok (.aload_n 0, 1) := dk_42 (dk_at dksX1_empty_2 5 rfl rfl)
theorem dX1_empty_53 : decode cX1_empty 53 = .ok (.getfield 21, 3) := dk_180 0 21 (dk_at dksX1_empty_2 6 rfl rfl)
theorem dX1_empty_56 : decode cX1_empty 56 = .ok (.iload_n 1, 1) := dk_27 (dk_at dksX1_empty_2 9 rfl rfl)
theorem dX1_empty_57 : decode cX1_empty 57 = .ok (.bipush 90, 2) := dk_16 90 (dk_at dksX1_empty_2 10 rfl rfl)
theorem dX1_empty_59 : decode cX1_empty 59 = .ok (.iastore, 1) := dk_79 (dk_at dksX1_empty_2 12 rfl rfl)
theorem dX1_empty_60 : decode cX1_empty 60 = .ok (.return_, 1) := dk_177 (dk_at dksX1_empty_2 13 rfl rfl)
abbrev cX1_fill : ByteArray := prog_3_method_11_code
def yX1_fill : MethodName := ⟨RX1, "fill", "(I)V"⟩
def dkwX1_fill_1 : List UInt8 := [180, 0, 38, 3, 46, 79, 42, 180, 0, 35, 27, 92, 46, 4, 96, 79, 177]
abbrev dktX1_fill_1 : List UInt8 := dkwX1_fill_1 ++ []
def dkwX1_fill_0 : List UInt8 := [42, 180, 0, 21, 27, 4, 96, 92, 46, 42, 180, 0, 38, 3, 46, 100, 79, 42, 180, 0, 29, 27, 42]
abbrev dktX1_fill_0 : List UInt8 := dkwX1_fill_0 ++ dktX1_fill_1
theorem dksX1_fill_0 : cX1_fill.data.toList.drop 0 = dktX1_fill_0 := by decide +kernel
theorem dksX1_fill_1 : cX1_fill.data.toList.drop 23 = dktX1_fill_1 := dk_seg dksX1_fill_0 23 rfl rfl
theorem dX1_fill_0 : decode cX1_fill 0 = .ok (.aload_n 0, 1) := dk_42 (dk_at dksX1_fill_0 0 rfl rfl)
theorem dX1_fill_1 : decode cX1_fill 1 = .ok (.getfield 21, 3) := dk_180 0 21 (dk_at dksX1_fill_0 1 rfl rfl)
theorem dX1_fill_4 : decode cX1_fill 4 = .ok (.iload_n 1, 1) := dk_27 (dk_at dksX1_fill_0 4 rfl rfl)
theorem dX1_fill_5 : decode cX1_fill 5 = .ok (.iconst 1, 1) := dk_4 (dk_at dksX1_fill_0 5 rfl rfl)
theorem dX1_fill_6 : decode cX1_fill 6 = .ok (.iadd, 1) := dk_96 (dk_at dksX1_fill_0 6 rfl rfl)
theorem dX1_fill_7 : decode cX1_fill 7 = .ok (.dup2, 1) := dk_92 (dk_at dksX1_fill_0 7 rfl rfl)
theorem dX1_fill_8 : decode cX1_fill 8 = .ok (.iaload, 1) := dk_46 (dk_at dksX1_fill_0 8 rfl rfl)
theorem dX1_fill_9 : decode cX1_fill 9 = .ok (.aload_n 0, 1) := dk_42 (dk_at dksX1_fill_0 9 rfl rfl)
theorem dX1_fill_10 : decode cX1_fill 10 = .ok (.getfield 38, 3) := dk_180 0 38 (dk_at dksX1_fill_0 10 rfl rfl)
theorem dX1_fill_13 : decode cX1_fill 13 = .ok (.iconst 0, 1) := dk_3 (dk_at dksX1_fill_0 13 rfl rfl)
theorem dX1_fill_14 : decode cX1_fill 14 = .ok (.iaload, 1) := dk_46 (dk_at dksX1_fill_0 14 rfl rfl)
theorem dX1_fill_15 : decode cX1_fill 15 = .ok (.isub, 1) := dk_100 (dk_at dksX1_fill_0 15 rfl rfl)
theorem dX1_fill_16 : decode cX1_fill 16 = .ok (.iastore, 1) := dk_79 (dk_at dksX1_fill_0 16 rfl rfl)
theorem dX1_fill_17 : decode cX1_fill 17 = .ok (.aload_n 0, 1) := dk_42 (dk_at dksX1_fill_0 17 rfl rfl)
theorem dX1_fill_18 : decode cX1_fill 18 = .ok (.getfield 29, 3) := dk_180 0 29 (dk_at dksX1_fill_0 18 rfl rfl)
theorem dX1_fill_21 : decode cX1_fill 21 = .ok (.iload_n 1, 1) := dk_27 (dk_at dksX1_fill_0 21 rfl rfl)
theorem dX1_fill_22 : decode cX1_fill 22 = .ok (.aload_n 0, 1) := dk_42 (dk_at dksX1_fill_0 22 rfl rfl)
theorem dX1_fill_23 : decode cX1_fill 23 = .ok (.getfield 38, 3) := dk_180 0 38 (dk_at dksX1_fill_1 0 rfl rfl)
theorem dX1_fill_26 : decode cX1_fill 26 = .ok (.iconst 0, 1) := dk_3 (dk_at dksX1_fill_1 3 rfl rfl)
theorem dX1_fill_27 : decode cX1_fill 27 = .ok (.iaload, 1) := dk_46 (dk_at dksX1_fill_1 4 rfl rfl)
theorem dX1_fill_28 : decode cX1_fill 28 = .ok (.iastore, 1) := dk_79 (dk_at dksX1_fill_1 5 rfl rfl)
theorem dX1_fill_29 : decode cX1_fill 29 = .ok (.aload_n 0, 1) := dk_42 (dk_at dksX1_fill_1 6 rfl rfl)
theorem dX1_fill_30 : decode cX1_fill 30 = .ok (.getfield 35, 3) := dk_180 0 35 (dk_at dksX1_fill_1 7 rfl rfl)
theorem dX1_fill_33 : decode cX1_fill 33 = .ok (.iload_n 1, 1) := dk_27 (dk_at dksX1_fill_1 10 rfl rfl)
theorem dX1_fill_34 : decode cX1_fill 34 = .ok (.dup2, 1) := dk_92 (dk_at dksX1_fill_1 11 rfl rfl)
theorem dX1_fill_35 : decode cX1_fill 35 = .ok (.iaload, 1) := dk_46 (dk_at dksX1_fill_1 12 rfl rfl)
theorem dX1_fill_36 : decode cX1_fill 36 = .ok (.iconst 1, 1) := dk_4 (dk_at dksX1_fill_1 13 rfl rfl)
theorem dX1_fill_37 : decode cX1_fill 37 = .ok (.iadd, 1) := dk_96 (dk_at dksX1_fill_1 14 rfl rfl)
theorem dX1_fill_38 : decode cX1_fill 38 = .ok (.iastore, 1) := dk_79 (dk_at dksX1_fill_1 15 rfl rfl)
theorem dX1_fill_39 : decode cX1_fill 39 = .ok (.return_, 1) := dk_177 (dk_at dksX1_fill_1 16 rfl rfl)
abbrev cX1_pass : ByteArray := prog_3_method_19_code
def yX1_pass : MethodName := ⟨RX1, "pass", "()I"⟩
def dkwX1_pass_1 : List UInt8 := [182, 0, 172, 42, 89, 180, 0, 71, 4, 96, 181, 0, 71, 42, 182, 0, 166, 27, 100, 172]
abbrev dktX1_pass_1 : List UInt8 := dkwX1_pass_1 ++ []
def dkwX1_pass_0 : List UInt8 := [42, 182, 0, 166, 60, 3, 61, 28, 8, 162, 0, 14, 42, 28, 182, 0, 169, 132, 2, 1, 167, 255, 243, 42]
abbrev dktX1_pass_0 : List UInt8 := dkwX1_pass_0 ++ dktX1_pass_1
theorem dksX1_pass_0 : cX1_pass.data.toList.drop 0 = dktX1_pass_0 := by decide +kernel
theorem dksX1_pass_1 : cX1_pass.data.toList.drop 24 = dktX1_pass_1 := dk_seg dksX1_pass_0 24 rfl rfl
theorem dX1_pass_0 : decode cX1_pass 0 = .ok (.aload_n 0, 1) := dk_42 (dk_at dksX1_pass_0 0 rfl rfl)
theorem dX1_pass_1 : decode cX1_pass 1 = .ok (.invokevirtual 166, 3) := dk_182 0 166 (dk_at dksX1_pass_0 1 rfl rfl)
theorem dX1_pass_4 : decode cX1_pass 4 = .ok (.istore_n 1, 1) := dk_60 (dk_at dksX1_pass_0 4 rfl rfl)
theorem dX1_pass_5 : decode cX1_pass 5 = .ok (.iconst 0, 1) := dk_3 (dk_at dksX1_pass_0 5 rfl rfl)
theorem dX1_pass_6 : decode cX1_pass 6 = .ok (.istore_n 2, 1) := dk_61 (dk_at dksX1_pass_0 6 rfl rfl)
theorem dX1_pass_7 : decode cX1_pass 7 = .ok (.iload_n 2, 1) := dk_28 (dk_at dksX1_pass_0 7 rfl rfl)
theorem dX1_pass_8 : decode cX1_pass 8 = .ok (.iconst 5, 1) := dk_8 (dk_at dksX1_pass_0 8 rfl rfl)
theorem dX1_pass_9 : decode cX1_pass 9 = .ok (.if_icmp .ge 14, 3) := dk_162 0 14 (dk_at dksX1_pass_0 9 rfl rfl)
theorem dX1_pass_12 : decode cX1_pass 12 = .ok (.aload_n 0, 1) := dk_42 (dk_at dksX1_pass_0 12 rfl rfl)
theorem dX1_pass_13 : decode cX1_pass 13 = .ok (.iload_n 2, 1) := dk_28 (dk_at dksX1_pass_0 13 rfl rfl)
theorem dX1_pass_14 : decode cX1_pass 14 = .ok (.invokevirtual 169, 3) := dk_182 0 169 (dk_at dksX1_pass_0 14 rfl rfl)
theorem dX1_pass_17 : decode cX1_pass 17 = .ok (.iinc 2 1, 3) := dk_132 2 1 (dk_at dksX1_pass_0 17 rfl rfl)
theorem dX1_pass_20 : decode cX1_pass 20 = .ok (.goto (-13), 3) := dk_167 255 243 (dk_at dksX1_pass_0 20 rfl rfl)
theorem dX1_pass_23 : decode cX1_pass 23 = .ok (.aload_n 0, 1) := dk_42 (dk_at dksX1_pass_0 23 rfl rfl)
theorem dX1_pass_24 : decode cX1_pass 24 = .ok (.invokevirtual 172, 3) := dk_182 0 172 (dk_at dksX1_pass_1 0 rfl rfl)
theorem dX1_pass_27 : decode cX1_pass 27 = .ok (.aload_n 0, 1) := dk_42 (dk_at dksX1_pass_1 3 rfl rfl)
theorem dX1_pass_28 : decode cX1_pass 28 = .ok (.dup, 1) := dk_89 (dk_at dksX1_pass_1 4 rfl rfl)
theorem dX1_pass_29 : decode cX1_pass 29 = .ok (.getfield 71, 3) := dk_180 0 71 (dk_at dksX1_pass_1 5 rfl rfl)
theorem dX1_pass_32 : decode cX1_pass 32 = .ok (.iconst 1, 1) := dk_4 (dk_at dksX1_pass_1 8 rfl rfl)
theorem dX1_pass_33 : decode cX1_pass 33 = .ok (.iadd, 1) := dk_96 (dk_at dksX1_pass_1 9 rfl rfl)
theorem dX1_pass_34 : decode cX1_pass 34 = .ok (.putfield 71, 3) := dk_181 0 71 (dk_at dksX1_pass_1 10 rfl rfl)
theorem dX1_pass_37 : decode cX1_pass 37 = .ok (.aload_n 0, 1) := dk_42 (dk_at dksX1_pass_1 13 rfl rfl)
theorem dX1_pass_38 : decode cX1_pass 38 = .ok (.invokevirtual 166, 3) := dk_182 0 166 (dk_at dksX1_pass_1 14 rfl rfl)
theorem dX1_pass_41 : decode cX1_pass 41 = .ok (.iload_n 1, 1) := dk_27 (dk_at dksX1_pass_1 17 rfl rfl)
theorem dX1_pass_42 : decode cX1_pass 42 = .ok (.isub, 1) := dk_100 (dk_at dksX1_pass_1 18 rfl rfl)
theorem dX1_pass_43 : decode cX1_pass 43 = .ok (.ireturn, 1) := dk_172 (dk_at dksX1_pass_1 19 rfl rfl)
abbrev cX1_arrivals : ByteArray := prog_3_method_6_code
def yX1_arrivals : MethodName := ⟨RX1, "arrivals", "()I"⟩
def dkwX1_arrivals_0 : List UInt8 := [42, 186, 0, 93, 0, 0, 182, 0, 96, 172]
abbrev dktX1_arrivals_0 : List UInt8 := dkwX1_arrivals_0 ++ []
theorem dksX1_arrivals_0 : cX1_arrivals.data.toList.drop 0 = dktX1_arrivals_0 := by decide +kernel
theorem dX1_arrivals_0 : decode cX1_arrivals 0 = .ok (.aload_n 0, 1) := dk_42 (dk_at dksX1_arrivals_0 0 rfl rfl)
theorem dX1_arrivals_1 : decode cX1_arrivals 1 = .ok (.invokedynamic 93, 5) := by decide +kernel
theorem dX1_arrivals_6 : decode cX1_arrivals 6 = .ok (.invokevirtual 96, 3) := dk_182 0 96 (dk_at dksX1_arrivals_0 6 rfl rfl)
theorem dX1_arrivals_9 : decode cX1_arrivals 9 = .ok (.ireturn, 1) := dk_172 (dk_at dksX1_arrivals_0 9 rfl rfl)
abbrev cX1_lambda_arrivals_0 : ByteArray := prog_3_method_21_code
def yX1_lambda_arrivals_0 : MethodName := ⟨RX1, "lambda$arrivals$0", "(LCanalSteps$Boat;)Z"⟩
theorem dX1_lambda_arrivals_0_0 : decode cX1_lambda_arrivals_0 0 = .ok (.aload_n 0, 1) := by decide +kernel
theorem dX1_lambda_arrivals_0_1 : decode cX1_lambda_arrivals_0 1 = .ok (.invokevirtual 100, 3) := by decide +kernel
theorem dX1_lambda_arrivals_0_4 : decode cX1_lambda_arrivals_0 4 = .ok (.ireturn, 1) := by decide +kernel
abbrev cX1_many : ByteArray := prog_3_method_4_code
def yX1_many : MethodName := ⟨RX1, "many", "(LCanalSteps$Choice;)I"⟩
def dkwX1_many_2 : List UInt8 := [132, 3, 1, 167, 255, 210, 28, 172]
abbrev dktX1_many_2 : List UInt8 := dkwX1_many_2 ++ []
def dkwX1_many_1 : List UInt8 := [185, 0, 54, 2, 0, 192, 0, 52, 185, 0, 87, 2, 0, 153, 0, 7, 4, 167, 0, 4, 3, 96, 61]
abbrev dktX1_many_1 : List UInt8 := dkwX1_many_1 ++ dktX1_many_2
def dkwX1_many_0 : List UInt8 := [3, 61, 3, 62, 29, 42, 180, 0, 12, 185, 0, 48, 1, 0, 162, 0, 39, 28, 43, 42, 180, 0, 12, 29]
abbrev dktX1_many_0 : List UInt8 := dkwX1_many_0 ++ dktX1_many_1
theorem dksX1_many_0 : cX1_many.data.toList.drop 0 = dktX1_many_0 := by decide +kernel
theorem dksX1_many_1 : cX1_many.data.toList.drop 24 = dktX1_many_1 := dk_seg dksX1_many_0 24 rfl rfl
theorem dksX1_many_2 : cX1_many.data.toList.drop 47 = dktX1_many_2 := dk_seg dksX1_many_1 23 rfl rfl
theorem dX1_many_0 : decode cX1_many 0 = .ok (.iconst 0, 1) := dk_3 (dk_at dksX1_many_0 0 rfl rfl)
theorem dX1_many_1 : decode cX1_many 1 = .ok (.istore_n 2, 1) := dk_61 (dk_at dksX1_many_0 1 rfl rfl)
theorem dX1_many_2 : decode cX1_many 2 = .ok (.iconst 0, 1) := dk_3 (dk_at dksX1_many_0 2 rfl rfl)
theorem dX1_many_3 : decode cX1_many 3 = .ok (.istore_n 3, 1) := dk_62 (dk_at dksX1_many_0 3 rfl rfl)
theorem dX1_many_4 : decode cX1_many 4 = .ok (.iload_n 3, 1) := dk_29 (dk_at dksX1_many_0 4 rfl rfl)
theorem dX1_many_5 : decode cX1_many 5 = .ok (.aload_n 0, 1) := dk_42 (dk_at dksX1_many_0 5 rfl rfl)
theorem dX1_many_6 : decode cX1_many 6 = .ok (.getfield 12, 3) := dk_180 0 12 (dk_at dksX1_many_0 6 rfl rfl)
theorem dX1_many_9 : decode cX1_many 9 = .ok (.invokeinterface 48 1, 5) := by decide +kernel
theorem dX1_many_14 : decode cX1_many 14 = .ok (.if_icmp .ge 39, 3) := dk_162 0 39 (dk_at dksX1_many_0 14 rfl rfl)
theorem dX1_many_17 : decode cX1_many 17 = .ok (.iload_n 2, 1) := dk_28 (dk_at dksX1_many_0 17 rfl rfl)
theorem dX1_many_18 : decode cX1_many 18 = .ok (.aload_n 1, 1) := dk_43 (dk_at dksX1_many_0 18 rfl rfl)
theorem dX1_many_19 : decode cX1_many 19 = .ok (.aload_n 0, 1) := dk_42 (dk_at dksX1_many_0 19 rfl rfl)
theorem dX1_many_20 : decode cX1_many 20 = .ok (.getfield 12, 3) := dk_180 0 12 (dk_at dksX1_many_0 20 rfl rfl)
theorem dX1_many_23 : decode cX1_many 23 = .ok (.iload_n 3, 1) := dk_29 (dk_at dksX1_many_0 23 rfl rfl)
theorem dX1_many_24 : decode cX1_many 24 = .ok (.invokeinterface 54 2, 5) := by decide +kernel
theorem dX1_many_29 : decode cX1_many 29 = .ok (.checkcast 52, 3) := dk_192 0 52 (dk_at dksX1_many_1 5 rfl rfl)
theorem dX1_many_32 : decode cX1_many 32 = .ok (.invokeinterface 87 2, 5) := by decide +kernel
theorem dX1_many_37 : decode cX1_many 37 = .ok (.ifCond .eq 7, 3) := dk_153 0 7 (dk_at dksX1_many_1 13 rfl rfl)
theorem dX1_many_40 : decode cX1_many 40 = .ok (.iconst 1, 1) := dk_4 (dk_at dksX1_many_1 16 rfl rfl)
theorem dX1_many_41 : decode cX1_many 41 = .ok (.goto 4, 3) := dk_167 0 4 (dk_at dksX1_many_1 17 rfl rfl)
theorem dX1_many_44 : decode cX1_many 44 = .ok (.iconst 0, 1) := dk_3 (dk_at dksX1_many_1 20 rfl rfl)
theorem dX1_many_45 : decode cX1_many 45 = .ok (.iadd, 1) := dk_96 (dk_at dksX1_many_1 21 rfl rfl)
theorem dX1_many_46 : decode cX1_many 46 = .ok (.istore_n 2, 1) := dk_61 (dk_at dksX1_many_1 22 rfl rfl)
theorem dX1_many_47 : decode cX1_many 47 = .ok (.iinc 3 1, 3) := dk_132 3 1 (dk_at dksX1_many_2 0 rfl rfl)
theorem dX1_many_50 : decode cX1_many 50 = .ok (.goto (-46), 3) := dk_167 255 210 (dk_at dksX1_many_2 3 rfl rfl)
theorem dX1_many_53 : decode cX1_many 53 = .ok (.iload_n 2, 1) := dk_28 (dk_at dksX1_many_2 6 rfl rfl)
theorem dX1_many_54 : decode cX1_many 54 = .ok (.ireturn, 1) := dk_172 (dk_at dksX1_many_2 7 rfl rfl)
abbrev cX1_work : ByteArray := prog_3_method_17_code
def yX1_work : MethodName := ⟨RX1, "work", "(I)V"⟩
def dkwX1_work_5 : List UInt8 := [42, 27, 182, 0, 155, 153, 0, 8, 42, 27, 182, 0, 126, 177]
abbrev dktX1_work_5 : List UInt8 := dkwX1_work_5 ++ []
def dkwX1_work_4 : List UInt8 := [167, 0, 37, 42, 180, 0, 18, 29, 185, 0, 54, 2, 0, 192, 0, 42, 185, 0, 149, 1, 0, 154, 0, 16]
abbrev dktX1_work_4 : List UInt8 := dkwX1_work_4 ++ dktX1_work_5
def dkwX1_work_3 : List UInt8 := [42, 25, 4, 182, 0, 152, 154, 0, 18, 42, 27, 182, 0, 155, 153, 0, 10, 42, 25, 4, 27, 182, 0, 159]
abbrev dktX1_work_3 : List UInt8 := dkwX1_work_3 ++ dktX1_work_4
def dkwX1_work_2 : List UInt8 := [42, 180, 0, 18, 28, 185, 0, 54, 2, 0, 192, 0, 42, 3, 185, 0, 54, 2, 0, 192, 0, 52, 58, 4]
abbrev dktX1_work_2 : List UInt8 := dkwX1_work_2 ++ dktX1_work_3
def dkwX1_work_1 : List UInt8 := [28, 100, 62, 42, 180, 0, 18, 28, 185, 0, 54, 2, 0, 192, 0, 42, 185, 0, 149, 1, 0, 154, 0, 54]
abbrev dktX1_work_1 : List UInt8 := dkwX1_work_1 ++ dktX1_work_2
def dkwX1_work_0 : List UInt8 := [5, 27, 104, 42, 180, 0, 25, 27, 51, 153, 0, 7, 4, 167, 0, 4, 3, 96, 61, 7, 27, 104, 4, 96]
abbrev dktX1_work_0 : List UInt8 := dkwX1_work_0 ++ dktX1_work_1
theorem dksX1_work_0 : cX1_work.data.toList.drop 0 = dktX1_work_0 := by decide +kernel
theorem dksX1_work_1 : cX1_work.data.toList.drop 24 = dktX1_work_1 := dk_seg dksX1_work_0 24 rfl rfl
theorem dksX1_work_2 : cX1_work.data.toList.drop 48 = dktX1_work_2 := dk_seg dksX1_work_1 24 rfl rfl
theorem dksX1_work_3 : cX1_work.data.toList.drop 72 = dktX1_work_3 := dk_seg dksX1_work_2 24 rfl rfl
theorem dksX1_work_4 : cX1_work.data.toList.drop 96 = dktX1_work_4 := dk_seg dksX1_work_3 24 rfl rfl
theorem dksX1_work_5 : cX1_work.data.toList.drop 120 = dktX1_work_5 := dk_seg dksX1_work_4 24 rfl rfl
theorem dX1_work_0 : decode cX1_work 0 = .ok (.iconst 2, 1) := dk_5 (dk_at dksX1_work_0 0 rfl rfl)
theorem dX1_work_1 : decode cX1_work 1 = .ok (.iload_n 1, 1) := dk_27 (dk_at dksX1_work_0 1 rfl rfl)
theorem dX1_work_2 : decode cX1_work 2 = .ok (.imul, 1) := dk_104 (dk_at dksX1_work_0 2 rfl rfl)
theorem dX1_work_3 : decode cX1_work 3 = .ok (.aload_n 0, 1) := dk_42 (dk_at dksX1_work_0 3 rfl rfl)
theorem dX1_work_4 : decode cX1_work 4 = .ok (.getfield 25, 3) := dk_180 0 25 (dk_at dksX1_work_0 4 rfl rfl)
theorem dX1_work_7 : decode cX1_work 7 = .ok (.iload_n 1, 1) := dk_27 (dk_at dksX1_work_0 7 rfl rfl)
theorem dX1_work_8 : decode cX1_work 8 = .ok (.baload, 1) := dk_51 (dk_at dksX1_work_0 8 rfl rfl)
theorem dX1_work_9 : decode cX1_work 9 = .ok (.ifCond .eq 7, 3) := dk_153 0 7 (dk_at dksX1_work_0 9 rfl rfl)
theorem dX1_work_12 : decode cX1_work 12 = .ok (.iconst 1, 1) := dk_4 (dk_at dksX1_work_0 12 rfl rfl)
theorem dX1_work_13 : decode cX1_work 13 = .ok (.goto 4, 3) := dk_167 0 4 (dk_at dksX1_work_0 13 rfl rfl)
theorem dX1_work_16 : decode cX1_work 16 = .ok (.iconst 0, 1) := dk_3 (dk_at dksX1_work_0 16 rfl rfl)
theorem dX1_work_17 : decode cX1_work 17 = .ok (.iadd, 1) := dk_96 (dk_at dksX1_work_0 17 rfl rfl)
theorem dX1_work_18 : decode cX1_work 18 = .ok (.istore_n 2, 1) := dk_61 (dk_at dksX1_work_0 18 rfl rfl)
theorem dX1_work_19 : decode cX1_work 19 = .ok (.iconst 4, 1) := dk_7 (dk_at dksX1_work_0 19 rfl rfl)
theorem dX1_work_20 : decode cX1_work 20 = .ok (.iload_n 1, 1) := dk_27 (dk_at dksX1_work_0 20 rfl rfl)
theorem dX1_work_21 : decode cX1_work 21 = .ok (.imul, 1) := dk_104 (dk_at dksX1_work_0 21 rfl rfl)
theorem dX1_work_22 : decode cX1_work 22 = .ok (.iconst 1, 1) := dk_4 (dk_at dksX1_work_0 22 rfl rfl)
theorem dX1_work_23 : decode cX1_work 23 = .ok (.iadd, 1) := dk_96 (dk_at dksX1_work_0 23 rfl rfl)
theorem dX1_work_24 : decode cX1_work 24 = .ok (.iload_n 2, 1) := dk_28 (dk_at dksX1_work_1 0 rfl rfl)
theorem dX1_work_25 : decode cX1_work 25 = .ok (.isub, 1) := dk_100 (dk_at dksX1_work_1 1 rfl rfl)
theorem dX1_work_26 : decode cX1_work 26 = .ok (.istore_n 3, 1) := dk_62 (dk_at dksX1_work_1 2 rfl rfl)
theorem dX1_work_27 : decode cX1_work 27 = .ok (.aload_n 0, 1) := dk_42 (dk_at dksX1_work_1 3 rfl rfl)
theorem dX1_work_28 : decode cX1_work 28 = .ok (.getfield 18, 3) := dk_180 0 18 (dk_at dksX1_work_1 4 rfl rfl)
theorem dX1_work_31 : decode cX1_work 31 = .ok (.iload_n 2, 1) := dk_28 (dk_at dksX1_work_1 7 rfl rfl)
theorem dX1_work_32 : decode cX1_work 32 = .ok (.invokeinterface 54 2, 5) := by decide +kernel
theorem dX1_work_37 : decode cX1_work 37 = .ok (.checkcast 42, 3) := dk_192 0 42 (dk_at dksX1_work_1 13 rfl rfl)
theorem dX1_work_40 : decode cX1_work 40 = .ok (.invokeinterface 149 1, 5) := by decide +kernel
theorem dX1_work_45 : decode cX1_work 45 = .ok (.ifCond .ne 54, 3) := dk_154 0 54 (dk_at dksX1_work_1 21 rfl rfl)
theorem dX1_work_48 : decode cX1_work 48 = .ok (.aload_n 0, 1) := dk_42 (dk_at dksX1_work_2 0 rfl rfl)
theorem dX1_work_49 : decode cX1_work 49 = .ok (.getfield 18, 3) := dk_180 0 18 (dk_at dksX1_work_2 1 rfl rfl)
theorem dX1_work_52 : decode cX1_work 52 = .ok (.iload_n 2, 1) := dk_28 (dk_at dksX1_work_2 4 rfl rfl)
theorem dX1_work_53 : decode cX1_work 53 = .ok (.invokeinterface 54 2, 5) := by decide +kernel
theorem dX1_work_58 : decode cX1_work 58 = .ok (.checkcast 42, 3) := dk_192 0 42 (dk_at dksX1_work_2 10 rfl rfl)
theorem dX1_work_61 : decode cX1_work 61 = .ok (.iconst 0, 1) := dk_3 (dk_at dksX1_work_2 13 rfl rfl)
theorem dX1_work_62 : decode cX1_work 62 = .ok (.invokeinterface 54 2, 5) := by decide +kernel
theorem dX1_work_67 : decode cX1_work 67 = .ok (.checkcast 52, 3) := dk_192 0 52 (dk_at dksX1_work_2 19 rfl rfl)
theorem dX1_work_70 : decode cX1_work 70 = .ok (.astore 4, 2) := dk_58 4 (dk_at dksX1_work_2 22 rfl rfl)
theorem dX1_work_72 : decode cX1_work 72 = .ok (.aload_n 0, 1) := dk_42 (dk_at dksX1_work_3 0 rfl rfl)
theorem dX1_work_73 : decode cX1_work 73 = .ok (.aload 4, 2) := dk_25 4 (dk_at dksX1_work_3 1 rfl rfl)
theorem dX1_work_75 : decode cX1_work 75 = .ok (.invokevirtual 152, 3) := dk_182 0 152 (dk_at dksX1_work_3 3 rfl rfl)
theorem dX1_work_78 : decode cX1_work 78 = .ok (.ifCond .ne 18, 3) := dk_154 0 18 (dk_at dksX1_work_3 6 rfl rfl)
theorem dX1_work_81 : decode cX1_work 81 = .ok (.aload_n 0, 1) := dk_42 (dk_at dksX1_work_3 9 rfl rfl)
theorem dX1_work_82 : decode cX1_work 82 = .ok (.iload_n 1, 1) := dk_27 (dk_at dksX1_work_3 10 rfl rfl)
theorem dX1_work_83 : decode cX1_work 83 = .ok (.invokevirtual 155, 3) := dk_182 0 155 (dk_at dksX1_work_3 11 rfl rfl)
theorem dX1_work_86 : decode cX1_work 86 = .ok (.ifCond .eq 10, 3) := dk_153 0 10 (dk_at dksX1_work_3 14 rfl rfl)
theorem dX1_work_89 : decode cX1_work 89 = .ok (.aload_n 0, 1) := dk_42 (dk_at dksX1_work_3 17 rfl rfl)
theorem dX1_work_90 : decode cX1_work 90 = .ok (.aload 4, 2) := dk_25 4 (dk_at dksX1_work_3 18 rfl rfl)
theorem dX1_work_92 : decode cX1_work 92 = .ok (.iload_n 1, 1) := dk_27 (dk_at dksX1_work_3 20 rfl rfl)
theorem dX1_work_93 : decode cX1_work 93 = .ok (.invokevirtual 159, 3) := dk_182 0 159 (dk_at dksX1_work_3 21 rfl rfl)
theorem dX1_work_96 : decode cX1_work 96 = .ok (.goto 37, 3) := dk_167 0 37 (dk_at dksX1_work_4 0 rfl rfl)
theorem dX1_work_99 : decode cX1_work 99 = .ok (.aload_n 0, 1) := dk_42 (dk_at dksX1_work_4 3 rfl rfl)
theorem dX1_work_100 : decode cX1_work 100 = .ok (.getfield 18, 3) := dk_180 0 18 (dk_at dksX1_work_4 4 rfl rfl)
theorem dX1_work_103 : decode cX1_work 103 = .ok (.iload_n 3, 1) := dk_29 (dk_at dksX1_work_4 7 rfl rfl)
theorem dX1_work_104 : decode cX1_work 104 = .ok (.invokeinterface 54 2, 5) := by decide +kernel
theorem dX1_work_109 : decode cX1_work 109 = .ok (.checkcast 42, 3) := dk_192 0 42 (dk_at dksX1_work_4 13 rfl rfl)
theorem dX1_work_112 : decode cX1_work 112 = .ok (.invokeinterface 149 1, 5) := by decide +kernel
theorem dX1_work_117 : decode cX1_work 117 = .ok (.ifCond .ne 16, 3) := dk_154 0 16 (dk_at dksX1_work_4 21 rfl rfl)
theorem dX1_work_120 : decode cX1_work 120 = .ok (.aload_n 0, 1) := dk_42 (dk_at dksX1_work_5 0 rfl rfl)
theorem dX1_work_121 : decode cX1_work 121 = .ok (.iload_n 1, 1) := dk_27 (dk_at dksX1_work_5 1 rfl rfl)
theorem dX1_work_122 : decode cX1_work 122 = .ok (.invokevirtual 155, 3) := dk_182 0 155 (dk_at dksX1_work_5 2 rfl rfl)
theorem dX1_work_125 : decode cX1_work 125 = .ok (.ifCond .eq 8, 3) := dk_153 0 8 (dk_at dksX1_work_5 5 rfl rfl)
theorem dX1_work_128 : decode cX1_work 128 = .ok (.aload_n 0, 1) := dk_42 (dk_at dksX1_work_5 8 rfl rfl)
theorem dX1_work_129 : decode cX1_work 129 = .ok (.iload_n 1, 1) := dk_27 (dk_at dksX1_work_5 9 rfl rfl)
theorem dX1_work_130 : decode cX1_work 130 = .ok (.invokevirtual 126, 3) := dk_182 0 126 (dk_at dksX1_work_5 10 rfl rfl)
theorem dX1_work_133 : decode cX1_work 133 = .ok (.return_, 1) := dk_177 (dk_at dksX1_work_5 13 rfl rfl)
abbrev cX1_isAground : ByteArray := prog_3_method_8_code
def yX1_isAground : MethodName := ⟨RX1, "isAground", "(LCanalSteps$Boat;)Z"⟩
def dkwX1_isAground_1 : List UInt8 := [180, 0, 21, 43, 182, 0, 110, 46, 43, 180, 0, 107, 162, 0, 7, 4, 167, 0, 4, 3, 172]
abbrev dktX1_isAground_1 : List UInt8 := dkwX1_isAground_1 ++ []
def dkwX1_isAground_0 : List UInt8 := [43, 182, 0, 100, 154, 0, 39, 42, 180, 0, 21, 43, 180, 0, 104, 46, 43, 180, 0, 107, 161, 0, 19, 42]
abbrev dktX1_isAground_0 : List UInt8 := dkwX1_isAground_0 ++ dktX1_isAground_1
theorem dksX1_isAground_0 : cX1_isAground.data.toList.drop 0 = dktX1_isAground_0 := by decide +kernel
theorem dksX1_isAground_1 : cX1_isAground.data.toList.drop 24 = dktX1_isAground_1 := dk_seg dksX1_isAground_0 24 rfl rfl
theorem dX1_isAground_0 : decode cX1_isAground 0 = .ok (.aload_n 1, 1) := dk_43 (dk_at dksX1_isAground_0 0 rfl rfl)
theorem dX1_isAground_1 : decode cX1_isAground 1 = .ok (.invokevirtual 100, 3) := dk_182 0 100 (dk_at dksX1_isAground_0 1 rfl rfl)
theorem dX1_isAground_4 : decode cX1_isAground 4 = .ok (.ifCond .ne 39, 3) := dk_154 0 39 (dk_at dksX1_isAground_0 4 rfl rfl)
theorem dX1_isAground_7 : decode cX1_isAground 7 = .ok (.aload_n 0, 1) := dk_42 (dk_at dksX1_isAground_0 7 rfl rfl)
theorem dX1_isAground_8 : decode cX1_isAground 8 = .ok (.getfield 21, 3) := dk_180 0 21 (dk_at dksX1_isAground_0 8 rfl rfl)
theorem dX1_isAground_11 : decode cX1_isAground 11 = .ok (.aload_n 1, 1) := dk_43 (dk_at dksX1_isAground_0 11 rfl rfl)
theorem dX1_isAground_12 : decode cX1_isAground 12 = .ok (.getfield 104, 3) := dk_180 0 104 (dk_at dksX1_isAground_0 12 rfl rfl)
theorem dX1_isAground_15 : decode cX1_isAground 15 = .ok (.iaload, 1) := dk_46 (dk_at dksX1_isAground_0 15 rfl rfl)
theorem dX1_isAground_16 : decode cX1_isAground 16 = .ok (.aload_n 1, 1) := dk_43 (dk_at dksX1_isAground_0 16 rfl rfl)
theorem dX1_isAground_17 : decode cX1_isAground 17 = .ok (.getfield 107, 3) := dk_180 0 107 (dk_at dksX1_isAground_0 17 rfl rfl)
theorem dX1_isAground_20 : decode cX1_isAground 20 = .ok (.if_icmp .lt 19, 3) := dk_161 0 19 (dk_at dksX1_isAground_0 20 rfl rfl)
theorem dX1_isAground_23 : decode cX1_isAground 23 = .ok (.aload_n 0, 1) := dk_42 (dk_at dksX1_isAground_0 23 rfl rfl)
theorem dX1_isAground_24 : decode cX1_isAground 24 = .ok (.getfield 21, 3) := dk_180 0 21 (dk_at dksX1_isAground_1 0 rfl rfl)
theorem dX1_isAground_27 : decode cX1_isAground 27 = .ok (.aload_n 1, 1) := dk_43 (dk_at dksX1_isAground_1 3 rfl rfl)
theorem dX1_isAground_28 : decode cX1_isAground 28 = .ok (.invokevirtual 110, 3) := dk_182 0 110 (dk_at dksX1_isAground_1 4 rfl rfl)
theorem dX1_isAground_31 : decode cX1_isAground 31 = .ok (.iaload, 1) := dk_46 (dk_at dksX1_isAground_1 7 rfl rfl)
theorem dX1_isAground_32 : decode cX1_isAground 32 = .ok (.aload_n 1, 1) := dk_43 (dk_at dksX1_isAground_1 8 rfl rfl)
theorem dX1_isAground_33 : decode cX1_isAground 33 = .ok (.getfield 107, 3) := dk_180 0 107 (dk_at dksX1_isAground_1 9 rfl rfl)
theorem dX1_isAground_36 : decode cX1_isAground 36 = .ok (.if_icmp .ge 7, 3) := dk_162 0 7 (dk_at dksX1_isAground_1 12 rfl rfl)
theorem dX1_isAground_39 : decode cX1_isAground 39 = .ok (.iconst 1, 1) := dk_4 (dk_at dksX1_isAground_1 15 rfl rfl)
theorem dX1_isAground_40 : decode cX1_isAground 40 = .ok (.goto 4, 3) := dk_167 0 4 (dk_at dksX1_isAground_1 16 rfl rfl)
theorem dX1_isAground_43 : decode cX1_isAground 43 = .ok (.iconst 0, 1) := dk_3 (dk_at dksX1_isAground_1 19 rfl rfl)
theorem dX1_isAground_44 : decode cX1_isAground 44 = .ok (.ireturn, 1) := dk_172 (dk_at dksX1_isAground_1 20 rfl rfl)
abbrev cX1_goThrough : ByteArray := prog_3_method_16_code
def yX1_goThrough : MethodName := ⟨RX1, "goThrough", "(LCanalSteps$Boat;I)V"⟩
def dkwX1_goThrough_5 : List UInt8 := [43, 182, 0, 123, 177]
abbrev dktX1_goThrough_5 : List UInt8 := dkwX1_goThrough_5 ++ []
def dkwX1_goThrough_4 : List UInt8 := [181, 0, 104, 43, 3, 181, 0, 131, 43, 182, 0, 100, 153, 0, 11, 43, 42, 180, 0, 71, 181, 0, 146, 42]
abbrev dktX1_goThrough_4 : List UInt8 := dkwX1_goThrough_4 ++ dktX1_goThrough_5
def dkwX1_goThrough_3 : List UInt8 := [182, 0, 120, 185, 0, 54, 2, 0, 192, 0, 42, 3, 185, 0, 143, 2, 0, 87, 43, 43, 182, 0, 110]
abbrev dktX1_goThrough_3 : List UInt8 := dkwX1_goThrough_3 ++ dktX1_goThrough_4
def dkwX1_goThrough_2 : List UInt8 := [184, 0, 137, 96, 181, 0, 131, 43, 180, 0, 131, 43, 180, 0, 134, 162, 0, 4, 177, 42, 180, 0, 18, 43]
abbrev dktX1_goThrough_2 : List UInt8 := dkwX1_goThrough_2 ++ dktX1_goThrough_3
def dkwX1_goThrough_1 : List UInt8 := [181, 0, 129, 43, 89, 180, 0, 131, 42, 180, 0, 38, 4, 46, 43, 180, 0, 134, 43, 180, 0, 131, 100]
abbrev dktX1_goThrough_1 : List UInt8 := dkwX1_goThrough_1 ++ dktX1_goThrough_2
def dkwX1_goThrough_0 : List UInt8 := [42, 28, 182, 0, 126, 42, 180, 0, 32, 28, 92, 46, 4, 96, 79, 43, 89, 180, 0, 129, 4, 96]
abbrev dktX1_goThrough_0 : List UInt8 := dkwX1_goThrough_0 ++ dktX1_goThrough_1
theorem dksX1_goThrough_0 : cX1_goThrough.data.toList.drop 0 = dktX1_goThrough_0 := by decide +kernel
theorem dksX1_goThrough_1 : cX1_goThrough.data.toList.drop 22 = dktX1_goThrough_1 := dk_seg dksX1_goThrough_0 22 rfl rfl
theorem dksX1_goThrough_2 : cX1_goThrough.data.toList.drop 45 = dktX1_goThrough_2 := dk_seg dksX1_goThrough_1 23 rfl rfl
theorem dksX1_goThrough_3 : cX1_goThrough.data.toList.drop 69 = dktX1_goThrough_3 := dk_seg dksX1_goThrough_2 24 rfl rfl
theorem dksX1_goThrough_4 : cX1_goThrough.data.toList.drop 92 = dktX1_goThrough_4 := dk_seg dksX1_goThrough_3 23 rfl rfl
theorem dksX1_goThrough_5 : cX1_goThrough.data.toList.drop 116 = dktX1_goThrough_5 := dk_seg dksX1_goThrough_4 24 rfl rfl
theorem dX1_goThrough_0 : decode cX1_goThrough 0 = .ok (.aload_n 0, 1) := dk_42 (dk_at dksX1_goThrough_0 0 rfl rfl)
theorem dX1_goThrough_1 : decode cX1_goThrough 1 = .ok (.iload_n 2, 1) := dk_28 (dk_at dksX1_goThrough_0 1 rfl rfl)
theorem dX1_goThrough_2 : decode cX1_goThrough 2 = .ok (.invokevirtual 126, 3) := dk_182 0 126 (dk_at dksX1_goThrough_0 2 rfl rfl)
theorem dX1_goThrough_5 : decode cX1_goThrough 5 = .ok (.aload_n 0, 1) := dk_42 (dk_at dksX1_goThrough_0 5 rfl rfl)
theorem dX1_goThrough_6 : decode cX1_goThrough 6 = .ok (.getfield 32, 3) := dk_180 0 32 (dk_at dksX1_goThrough_0 6 rfl rfl)
theorem dX1_goThrough_9 : decode cX1_goThrough 9 = .ok (.iload_n 2, 1) := dk_28 (dk_at dksX1_goThrough_0 9 rfl rfl)
theorem dX1_goThrough_10 : decode cX1_goThrough 10 = .ok (.dup2, 1) := dk_92 (dk_at dksX1_goThrough_0 10 rfl rfl)
theorem dX1_goThrough_11 : decode cX1_goThrough 11 = .ok (.iaload, 1) := dk_46 (dk_at dksX1_goThrough_0 11 rfl rfl)
theorem dX1_goThrough_12 : decode cX1_goThrough 12 = .ok (.iconst 1, 1) := dk_4 (dk_at dksX1_goThrough_0 12 rfl rfl)
theorem dX1_goThrough_13 : decode cX1_goThrough 13 = .ok (.iadd, 1) := dk_96 (dk_at dksX1_goThrough_0 13 rfl rfl)
theorem dX1_goThrough_14 : decode cX1_goThrough 14 = .ok (.iastore, 1) := dk_79 (dk_at dksX1_goThrough_0 14 rfl rfl)
theorem dX1_goThrough_15 : decode cX1_goThrough 15 = .ok (.aload_n 1, 1) := dk_43 (dk_at dksX1_goThrough_0 15 rfl rfl)
theorem dX1_goThrough_16 : decode cX1_goThrough 16 = .ok (.dup, 1) := dk_89 (dk_at dksX1_goThrough_0 16 rfl rfl)
theorem dX1_goThrough_17 : decode cX1_goThrough 17 = .ok (.getfield 129, 3) := dk_180 0 129 (dk_at dksX1_goThrough_0 17 rfl rfl)
theorem dX1_goThrough_20 : decode cX1_goThrough 20 = .ok (.iconst 1, 1) := dk_4 (dk_at dksX1_goThrough_0 20 rfl rfl)
theorem dX1_goThrough_21 : decode cX1_goThrough 21 = .ok (.iadd, 1) := dk_96 (dk_at dksX1_goThrough_0 21 rfl rfl)
theorem dX1_goThrough_22 : decode cX1_goThrough 22 = .ok (.putfield 129, 3) := dk_181 0 129 (dk_at dksX1_goThrough_1 0 rfl rfl)
theorem dX1_goThrough_25 : decode cX1_goThrough 25 = .ok (.aload_n 1, 1) := dk_43 (dk_at dksX1_goThrough_1 3 rfl rfl)
theorem dX1_goThrough_26 : decode cX1_goThrough 26 = .ok (.dup, 1) := dk_89 (dk_at dksX1_goThrough_1 4 rfl rfl)
theorem dX1_goThrough_27 : decode cX1_goThrough 27 = .ok (.getfield 131, 3) := dk_180 0 131 (dk_at dksX1_goThrough_1 5 rfl rfl)
theorem dX1_goThrough_30 : decode cX1_goThrough 30 = .ok (.aload_n 0, 1) := dk_42 (dk_at dksX1_goThrough_1 8 rfl rfl)
theorem dX1_goThrough_31 : decode cX1_goThrough 31 = .ok (.getfield 38, 3) := dk_180 0 38 (dk_at dksX1_goThrough_1 9 rfl rfl)
theorem dX1_goThrough_34 : decode cX1_goThrough 34 = .ok (.iconst 1, 1) := dk_4 (dk_at dksX1_goThrough_1 12 rfl rfl)
theorem dX1_goThrough_35 : decode cX1_goThrough 35 = .ok (.iaload, 1) := dk_46 (dk_at dksX1_goThrough_1 13 rfl rfl)
theorem dX1_goThrough_36 : decode cX1_goThrough 36 = .ok (.aload_n 1, 1) := dk_43 (dk_at dksX1_goThrough_1 14 rfl rfl)
theorem dX1_goThrough_37 : decode cX1_goThrough 37 = .ok (.getfield 134, 3) := dk_180 0 134 (dk_at dksX1_goThrough_1 15 rfl rfl)
theorem dX1_goThrough_40 : decode cX1_goThrough 40 = .ok (.aload_n 1, 1) := dk_43 (dk_at dksX1_goThrough_1 18 rfl rfl)
theorem dX1_goThrough_41 : decode cX1_goThrough 41 = .ok (.getfield 131, 3) := dk_180 0 131 (dk_at dksX1_goThrough_1 19 rfl rfl)
theorem dX1_goThrough_44 : decode cX1_goThrough 44 = .ok (.isub, 1) := dk_100 (dk_at dksX1_goThrough_1 22 rfl rfl)
theorem dX1_goThrough_45 : decode cX1_goThrough 45 = .ok (.invokestatic 137, 3) := dk_184 0 137 (dk_at dksX1_goThrough_2 0 rfl rfl)
theorem dX1_goThrough_48 : decode cX1_goThrough 48 = .ok (.iadd, 1) := dk_96 (dk_at dksX1_goThrough_2 3 rfl rfl)
theorem dX1_goThrough_49 : decode cX1_goThrough 49 = .ok (.putfield 131, 3) := dk_181 0 131 (dk_at dksX1_goThrough_2 4 rfl rfl)
theorem dX1_goThrough_52 : decode cX1_goThrough 52 = .ok (.aload_n 1, 1) := dk_43 (dk_at dksX1_goThrough_2 7 rfl rfl)
theorem dX1_goThrough_53 : decode cX1_goThrough 53 = .ok (.getfield 131, 3) := dk_180 0 131 (dk_at dksX1_goThrough_2 8 rfl rfl)
theorem dX1_goThrough_56 : decode cX1_goThrough 56 = .ok (.aload_n 1, 1) := dk_43 (dk_at dksX1_goThrough_2 11 rfl rfl)
theorem dX1_goThrough_57 : decode cX1_goThrough 57 = .ok (.getfield 134, 3) := dk_180 0 134 (dk_at dksX1_goThrough_2 12 rfl rfl)
theorem dX1_goThrough_60 : decode cX1_goThrough 60 = .ok (.if_icmp .ge 4, 3) := dk_162 0 4 (dk_at dksX1_goThrough_2 15 rfl rfl)
theorem dX1_goThrough_63 : decode cX1_goThrough 63 = .ok (.return_, 1) := dk_177 (dk_at dksX1_goThrough_2 18 rfl rfl)
theorem dX1_goThrough_64 : decode cX1_goThrough 64 = .ok (.aload_n 0, 1) := dk_42 (dk_at dksX1_goThrough_2 19 rfl rfl)
theorem dX1_goThrough_65 : decode cX1_goThrough 65 = .ok (.getfield 18, 3) := dk_180 0 18 (dk_at dksX1_goThrough_2 20 rfl rfl)
theorem dX1_goThrough_68 : decode cX1_goThrough 68 = .ok (.aload_n 1, 1) := dk_43 (dk_at dksX1_goThrough_2 23 rfl rfl)
theorem dX1_goThrough_69 : decode cX1_goThrough 69 = .ok (.invokevirtual 120, 3) := dk_182 0 120 (dk_at dksX1_goThrough_3 0 rfl rfl)
theorem dX1_goThrough_72 : decode cX1_goThrough 72 = .ok (.invokeinterface 54 2, 5) := by decide +kernel
theorem dX1_goThrough_77 : decode cX1_goThrough 77 = .ok (.checkcast 42, 3) := dk_192 0 42 (dk_at dksX1_goThrough_3 8 rfl rfl)
theorem dX1_goThrough_80 : decode cX1_goThrough 80 = .ok (.iconst 0, 1) := dk_3 (dk_at dksX1_goThrough_3 11 rfl rfl)
theorem dX1_goThrough_81 : decode cX1_goThrough 81 = .ok (.invokeinterface 143 2, 5) := by decide +kernel
theorem dX1_goThrough_86 : decode cX1_goThrough 86 = .ok (.pop, 1) := dk_87 (dk_at dksX1_goThrough_3 17 rfl rfl)
theorem dX1_goThrough_87 : decode cX1_goThrough 87 = .ok (.aload_n 1, 1) := dk_43 (dk_at dksX1_goThrough_3 18 rfl rfl)
theorem dX1_goThrough_88 : decode cX1_goThrough 88 = .ok (.aload_n 1, 1) := dk_43 (dk_at dksX1_goThrough_3 19 rfl rfl)
theorem dX1_goThrough_89 : decode cX1_goThrough 89 = .ok (.invokevirtual 110, 3) := dk_182 0 110 (dk_at dksX1_goThrough_3 20 rfl rfl)
theorem dX1_goThrough_92 : decode cX1_goThrough 92 = .ok (.putfield 104, 3) := dk_181 0 104 (dk_at dksX1_goThrough_4 0 rfl rfl)
theorem dX1_goThrough_95 : decode cX1_goThrough 95 = .ok (.aload_n 1, 1) := dk_43 (dk_at dksX1_goThrough_4 3 rfl rfl)
theorem dX1_goThrough_96 : decode cX1_goThrough 96 = .ok (.iconst 0, 1) := dk_3 (dk_at dksX1_goThrough_4 4 rfl rfl)
theorem dX1_goThrough_97 : decode cX1_goThrough 97 = .ok (.putfield 131, 3) := dk_181 0 131 (dk_at dksX1_goThrough_4 5 rfl rfl)
theorem dX1_goThrough_100 : decode cX1_goThrough 100 = .ok (.aload_n 1, 1) := dk_43 (dk_at dksX1_goThrough_4 8 rfl rfl)
theorem dX1_goThrough_101 : decode cX1_goThrough 101 = .ok (.invokevirtual 100, 3) := dk_182 0 100 (dk_at dksX1_goThrough_4 9 rfl rfl)
theorem dX1_goThrough_104 : decode cX1_goThrough 104 = .ok (.ifCond .eq 11, 3) := dk_153 0 11 (dk_at dksX1_goThrough_4 12 rfl rfl)
theorem dX1_goThrough_107 : decode cX1_goThrough 107 = .ok (.aload_n 1, 1) := dk_43 (dk_at dksX1_goThrough_4 15 rfl rfl)
theorem dX1_goThrough_108 : decode cX1_goThrough 108 = .ok (.aload_n 0, 1) := dk_42 (dk_at dksX1_goThrough_4 16 rfl rfl)
theorem dX1_goThrough_109 : decode cX1_goThrough 109 = .ok (.getfield 71, 3) := dk_180 0 71 (dk_at dksX1_goThrough_4 17 rfl rfl)
theorem dX1_goThrough_112 : decode cX1_goThrough 112 = .ok (.putfield 146, 3) := dk_181 0 146 (dk_at dksX1_goThrough_4 20 rfl rfl)
theorem dX1_goThrough_115 : decode cX1_goThrough 115 = .ok (.aload_n 0, 1) := dk_42 (dk_at dksX1_goThrough_4 23 rfl rfl)
theorem dX1_goThrough_116 : decode cX1_goThrough 116 = .ok (.aload_n 1, 1) := dk_43 (dk_at dksX1_goThrough_5 0 rfl rfl)
theorem dX1_goThrough_117 : decode cX1_goThrough 117 = .ok (.invokevirtual 123, 3) := dk_182 0 123 (dk_at dksX1_goThrough_5 1 rfl rfl)
theorem dX1_goThrough_120 : decode cX1_goThrough 120 = .ok (.return_, 1) := dk_177 (dk_at dksX1_goThrough_5 4 rfl rfl)
abbrev cX1_spring : ByteArray := prog_3_method_18_code
def yX1_spring : MethodName := ⟨RX1, "spring", "()V"⟩
def dkwX1_spring_4 : List UInt8 := [167, 255, 196, 177]
abbrev dktX1_spring_4 : List UInt8 := dkwX1_spring_4 ++ []
def dkwX1_spring_3 : List UInt8 := [100, 92, 46, 28, 96, 79, 167, 0, 13, 42, 89, 180, 0, 77, 28, 96, 181, 0, 77, 132, 1, 255]
abbrev dktX1_spring_3 : List UInt8 := dkwX1_spring_3 ++ dktX1_spring_4
def dkwX1_spring_2 : List UInt8 := [184, 0, 163, 61, 42, 180, 0, 21, 27, 92, 46, 28, 100, 79, 27, 158, 0, 18, 42, 180, 0, 21, 27, 4]
abbrev dktX1_spring_2 : List UInt8 := dkwX1_spring_2 ++ dktX1_spring_3
def dkwX1_spring_1 : List UInt8 := [5, 46, 96, 181, 0, 74, 8, 60, 27, 155, 0, 62, 3, 42, 180, 0, 21, 27, 46, 16, 90, 100]
abbrev dktX1_spring_1 : List UInt8 := dkwX1_spring_1 ++ dktX1_spring_2
def dkwX1_spring_0 : List UInt8 := [42, 180, 0, 21, 8, 92, 46, 42, 180, 0, 38, 5, 46, 96, 79, 42, 89, 180, 0, 74, 42, 180, 0, 38]
abbrev dktX1_spring_0 : List UInt8 := dkwX1_spring_0 ++ dktX1_spring_1
theorem dksX1_spring_0 : cX1_spring.data.toList.drop 0 = dktX1_spring_0 := by decide +kernel
theorem dksX1_spring_1 : cX1_spring.data.toList.drop 24 = dktX1_spring_1 := dk_seg dksX1_spring_0 24 rfl rfl
theorem dksX1_spring_2 : cX1_spring.data.toList.drop 46 = dktX1_spring_2 := dk_seg dksX1_spring_1 22 rfl rfl
theorem dksX1_spring_3 : cX1_spring.data.toList.drop 70 = dktX1_spring_3 := dk_seg dksX1_spring_2 24 rfl rfl
theorem dksX1_spring_4 : cX1_spring.data.toList.drop 92 = dktX1_spring_4 := dk_seg dksX1_spring_3 22 rfl rfl
theorem dX1_spring_0 : decode cX1_spring 0 = .ok (.aload_n 0, 1) := dk_42 (dk_at dksX1_spring_0 0 rfl rfl)
theorem dX1_spring_1 : decode cX1_spring 1 = .ok (.getfield 21, 3) := dk_180 0 21 (dk_at dksX1_spring_0 1 rfl rfl)
theorem dX1_spring_4 : decode cX1_spring 4 = .ok (.iconst 5, 1) := dk_8 (dk_at dksX1_spring_0 4 rfl rfl)
theorem dX1_spring_5 : decode cX1_spring 5 = .ok (.dup2, 1) := dk_92 (dk_at dksX1_spring_0 5 rfl rfl)
theorem dX1_spring_6 : decode cX1_spring 6 = .ok (.iaload, 1) := dk_46 (dk_at dksX1_spring_0 6 rfl rfl)
theorem dX1_spring_7 : decode cX1_spring 7 = .ok (.aload_n 0, 1) := dk_42 (dk_at dksX1_spring_0 7 rfl rfl)
theorem dX1_spring_8 : decode cX1_spring 8 = .ok (.getfield 38, 3) := dk_180 0 38 (dk_at dksX1_spring_0 8 rfl rfl)
theorem dX1_spring_11 : decode cX1_spring 11 = .ok (.iconst 2, 1) := dk_5 (dk_at dksX1_spring_0 11 rfl rfl)
theorem dX1_spring_12 : decode cX1_spring 12 = .ok (.iaload, 1) := dk_46 (dk_at dksX1_spring_0 12 rfl rfl)
theorem dX1_spring_13 : decode cX1_spring 13 = .ok (.iadd, 1) := dk_96 (dk_at dksX1_spring_0 13 rfl rfl)
theorem dX1_spring_14 : decode cX1_spring 14 = .ok (.iastore, 1) := dk_79 (dk_at dksX1_spring_0 14 rfl rfl)
theorem dX1_spring_15 : decode cX1_spring 15 = .ok (.aload_n 0, 1) := dk_42 (dk_at dksX1_spring_0 15 rfl rfl)
theorem dX1_spring_16 : decode cX1_spring 16 = .ok (.dup, 1) := dk_89 (dk_at dksX1_spring_0 16 rfl rfl)
theorem dX1_spring_17 : decode cX1_spring 17 = .ok (.getfield 74, 3) := dk_180 0 74 (dk_at dksX1_spring_0 17 rfl rfl)
theorem dX1_spring_20 : decode cX1_spring 20 = .ok (.aload_n 0, 1) := dk_42 (dk_at dksX1_spring_0 20 rfl rfl)
theorem dX1_spring_21 : decode cX1_spring 21 = .ok (.getfield 38, 3) := dk_180 0 38 (dk_at dksX1_spring_0 21 rfl rfl)
theorem dX1_spring_24 : decode cX1_spring 24 = .ok (.iconst 2, 1) := dk_5 (dk_at dksX1_spring_1 0 rfl rfl)
theorem dX1_spring_25 : decode cX1_spring 25 = .ok (.iaload, 1) := dk_46 (dk_at dksX1_spring_1 1 rfl rfl)
theorem dX1_spring_26 : decode cX1_spring 26 = .ok (.iadd, 1) := dk_96 (dk_at dksX1_spring_1 2 rfl rfl)
theorem dX1_spring_27 : decode cX1_spring 27 = .ok (.putfield 74, 3) := dk_181 0 74 (dk_at dksX1_spring_1 3 rfl rfl)
theorem dX1_spring_30 : decode cX1_spring 30 = .ok (.iconst 5, 1) := dk_8 (dk_at dksX1_spring_1 6 rfl rfl)
theorem dX1_spring_31 : decode cX1_spring 31 = .ok (.istore_n 1, 1) := dk_60 (dk_at dksX1_spring_1 7 rfl rfl)
theorem dX1_spring_32 : decode cX1_spring 32 = .ok (.iload_n 1, 1) := dk_27 (dk_at dksX1_spring_1 8 rfl rfl)
theorem dX1_spring_33 : decode cX1_spring 33 = .ok (.ifCond .lt 62, 3) := dk_155 0 62 (dk_at dksX1_spring_1 9 rfl rfl)
theorem dX1_spring_36 : decode cX1_spring 36 = .ok (.iconst 0, 1) := dk_3 (dk_at dksX1_spring_1 12 rfl rfl)
theorem dX1_spring_37 : decode cX1_spring 37 = .ok (.aload_n 0, 1) := dk_42 (dk_at dksX1_spring_1 13 rfl rfl)
theorem dX1_spring_38 : decode cX1_spring 38 = .ok (.getfield 21, 3) := dk_180 0 21 (dk_at dksX1_spring_1 14 rfl rfl)
theorem dX1_spring_41 : decode cX1_spring 41 = .ok (.iload_n 1, 1) := dk_27 (dk_at dksX1_spring_1 17 rfl rfl)
theorem dX1_spring_42 : decode cX1_spring 42 = .ok (.iaload, 1) := dk_46 (dk_at dksX1_spring_1 18 rfl rfl)
theorem dX1_spring_43 : decode cX1_spring 43 = .ok (.bipush 90, 2) := dk_16 90 (dk_at dksX1_spring_1 19 rfl rfl)
theorem dX1_spring_45 : decode cX1_spring 45 = .ok (.isub, 1) := dk_100 (dk_at dksX1_spring_1 21 rfl rfl)
theorem dX1_spring_46 : decode cX1_spring 46 = .ok (.invokestatic 163, 3) := dk_184 0 163 (dk_at dksX1_spring_2 0 rfl rfl)
theorem dX1_spring_49 : decode cX1_spring 49 = .ok (.istore_n 2, 1) := dk_61 (dk_at dksX1_spring_2 3 rfl rfl)
theorem dX1_spring_50 : decode cX1_spring 50 = .ok (.aload_n 0, 1) := dk_42 (dk_at dksX1_spring_2 4 rfl rfl)
theorem dX1_spring_51 : decode cX1_spring 51 = .ok (.getfield 21, 3) := dk_180 0 21 (dk_at dksX1_spring_2 5 rfl rfl)
theorem dX1_spring_54 : decode cX1_spring 54 = .ok (.iload_n 1, 1) := dk_27 (dk_at dksX1_spring_2 8 rfl rfl)
theorem dX1_spring_55 : decode cX1_spring 55 = .ok (.dup2, 1) := dk_92 (dk_at dksX1_spring_2 9 rfl rfl)
theorem dX1_spring_56 : decode cX1_spring 56 = .ok (.iaload, 1) := dk_46 (dk_at dksX1_spring_2 10 rfl rfl)
theorem dX1_spring_57 : decode cX1_spring 57 = .ok (.iload_n 2, 1) := dk_28 (dk_at dksX1_spring_2 11 rfl rfl)
theorem dX1_spring_58 : decode cX1_spring 58 = .ok (.isub, 1) := dk_100 (dk_at dksX1_spring_2 12 rfl rfl)
theorem dX1_spring_59 : decode cX1_spring 59 = .ok (.iastore, 1) := dk_79 (dk_at dksX1_spring_2 13 rfl rfl)
theorem dX1_spring_60 : decode cX1_spring 60 = .ok (.iload_n 1, 1) := dk_27 (dk_at dksX1_spring_2 14 rfl rfl)
theorem dX1_spring_61 : decode cX1_spring 61 = .ok (.ifCond .le 18, 3) := dk_158 0 18 (dk_at dksX1_spring_2 15 rfl rfl)
theorem dX1_spring_64 : decode cX1_spring 64 = .ok (.aload_n 0, 1) := dk_42 (dk_at dksX1_spring_2 18 rfl rfl)
theorem dX1_spring_65 : decode cX1_spring 65 = .ok (.getfield 21, 3) := dk_180 0 21 (dk_at dksX1_spring_2 19 rfl rfl)
theorem dX1_spring_68 : decode cX1_spring 68 = .ok (.iload_n 1, 1) := dk_27 (dk_at dksX1_spring_2 22 rfl rfl)
theorem dX1_spring_69 : decode cX1_spring 69 = .ok (.iconst 1, 1) := dk_4 (dk_at dksX1_spring_2 23 rfl rfl)
theorem dX1_spring_70 : decode cX1_spring 70 = .ok (.isub, 1) := dk_100 (dk_at dksX1_spring_3 0 rfl rfl)
theorem dX1_spring_71 : decode cX1_spring 71 = .ok (.dup2, 1) := dk_92 (dk_at dksX1_spring_3 1 rfl rfl)
theorem dX1_spring_72 : decode cX1_spring 72 = .ok (.iaload, 1) := dk_46 (dk_at dksX1_spring_3 2 rfl rfl)
theorem dX1_spring_73 : decode cX1_spring 73 = .ok (.iload_n 2, 1) := dk_28 (dk_at dksX1_spring_3 3 rfl rfl)
theorem dX1_spring_74 : decode cX1_spring 74 = .ok (.iadd, 1) := dk_96 (dk_at dksX1_spring_3 4 rfl rfl)
theorem dX1_spring_75 : decode cX1_spring 75 = .ok (.iastore, 1) := dk_79 (dk_at dksX1_spring_3 5 rfl rfl)
theorem dX1_spring_76 : decode cX1_spring 76 = .ok (.goto 13, 3) := dk_167 0 13 (dk_at dksX1_spring_3 6 rfl rfl)
theorem dX1_spring_79 : decode cX1_spring 79 = .ok (.aload_n 0, 1) := dk_42 (dk_at dksX1_spring_3 9 rfl rfl)
theorem dX1_spring_80 : decode cX1_spring 80 = .ok (.dup, 1) := dk_89 (dk_at dksX1_spring_3 10 rfl rfl)
theorem dX1_spring_81 : decode cX1_spring 81 = .ok (.getfield 77, 3) := dk_180 0 77 (dk_at dksX1_spring_3 11 rfl rfl)
theorem dX1_spring_84 : decode cX1_spring 84 = .ok (.iload_n 2, 1) := dk_28 (dk_at dksX1_spring_3 14 rfl rfl)
theorem dX1_spring_85 : decode cX1_spring 85 = .ok (.iadd, 1) := dk_96 (dk_at dksX1_spring_3 15 rfl rfl)
theorem dX1_spring_86 : decode cX1_spring 86 = .ok (.putfield 77, 3) := dk_181 0 77 (dk_at dksX1_spring_3 16 rfl rfl)
theorem dX1_spring_89 : decode cX1_spring 89 = .ok (.iinc 1 (-1), 3) := dk_132 1 255 (dk_at dksX1_spring_3 19 rfl rfl)
theorem dX1_spring_92 : decode cX1_spring 92 = .ok (.goto (-60), 3) := dk_167 255 196 (dk_at dksX1_spring_4 0 rfl rfl)
theorem dX1_spring_95 : decode cX1_spring 95 = .ok (.return_, 1) := dk_177 (dk_at dksX1_spring_4 3 rfl rfl)
abbrev cX1_setOf : ByteArray := prog_3_method_5_code
def yX1_setOf : MethodName := ⟨RX1, "setOf", "(LCanalSteps$Choice;)I"⟩
def dkwX1_setOf_2 : List UInt8 := [61, 132, 3, 1, 167, 255, 208, 28, 172]
abbrev dktX1_setOf_2 : List UInt8 := dkwX1_setOf_2 ++ []
def dkwX1_setOf_1 : List UInt8 := [185, 0, 54, 2, 0, 192, 0, 52, 185, 0, 87, 2, 0, 153, 0, 9, 4, 29, 120, 167, 0, 4, 3, 128]
abbrev dktX1_setOf_1 : List UInt8 := dkwX1_setOf_1 ++ dktX1_setOf_2
def dkwX1_setOf_0 : List UInt8 := [3, 61, 3, 62, 29, 42, 180, 0, 12, 185, 0, 48, 1, 0, 162, 0, 41, 28, 43, 42, 180, 0, 12, 29]
abbrev dktX1_setOf_0 : List UInt8 := dkwX1_setOf_0 ++ dktX1_setOf_1
theorem dksX1_setOf_0 : cX1_setOf.data.toList.drop 0 = dktX1_setOf_0 := by decide +kernel
theorem dksX1_setOf_1 : cX1_setOf.data.toList.drop 24 = dktX1_setOf_1 := dk_seg dksX1_setOf_0 24 rfl rfl
theorem dksX1_setOf_2 : cX1_setOf.data.toList.drop 48 = dktX1_setOf_2 := dk_seg dksX1_setOf_1 24 rfl rfl
theorem dX1_setOf_0 : decode cX1_setOf 0 = .ok (.iconst 0, 1) := dk_3 (dk_at dksX1_setOf_0 0 rfl rfl)
theorem dX1_setOf_1 : decode cX1_setOf 1 = .ok (.istore_n 2, 1) := dk_61 (dk_at dksX1_setOf_0 1 rfl rfl)
theorem dX1_setOf_2 : decode cX1_setOf 2 = .ok (.iconst 0, 1) := dk_3 (dk_at dksX1_setOf_0 2 rfl rfl)
theorem dX1_setOf_3 : decode cX1_setOf 3 = .ok (.istore_n 3, 1) := dk_62 (dk_at dksX1_setOf_0 3 rfl rfl)
theorem dX1_setOf_4 : decode cX1_setOf 4 = .ok (.iload_n 3, 1) := dk_29 (dk_at dksX1_setOf_0 4 rfl rfl)
theorem dX1_setOf_5 : decode cX1_setOf 5 = .ok (.aload_n 0, 1) := dk_42 (dk_at dksX1_setOf_0 5 rfl rfl)
theorem dX1_setOf_6 : decode cX1_setOf 6 = .ok (.getfield 12, 3) := dk_180 0 12 (dk_at dksX1_setOf_0 6 rfl rfl)
theorem dX1_setOf_9 : decode cX1_setOf 9 = .ok (.invokeinterface 48 1, 5) := by decide +kernel
theorem dX1_setOf_14 : decode cX1_setOf 14 = .ok (.if_icmp .ge 41, 3) := dk_162 0 41 (dk_at dksX1_setOf_0 14 rfl rfl)
theorem dX1_setOf_17 : decode cX1_setOf 17 = .ok (.iload_n 2, 1) := dk_28 (dk_at dksX1_setOf_0 17 rfl rfl)
theorem dX1_setOf_18 : decode cX1_setOf 18 = .ok (.aload_n 1, 1) := dk_43 (dk_at dksX1_setOf_0 18 rfl rfl)
theorem dX1_setOf_19 : decode cX1_setOf 19 = .ok (.aload_n 0, 1) := dk_42 (dk_at dksX1_setOf_0 19 rfl rfl)
theorem dX1_setOf_20 : decode cX1_setOf 20 = .ok (.getfield 12, 3) := dk_180 0 12 (dk_at dksX1_setOf_0 20 rfl rfl)
theorem dX1_setOf_23 : decode cX1_setOf 23 = .ok (.iload_n 3, 1) := dk_29 (dk_at dksX1_setOf_0 23 rfl rfl)
theorem dX1_setOf_24 : decode cX1_setOf 24 = .ok (.invokeinterface 54 2, 5) := by decide +kernel
theorem dX1_setOf_29 : decode cX1_setOf 29 = .ok (.checkcast 52, 3) := dk_192 0 52 (dk_at dksX1_setOf_1 5 rfl rfl)
theorem dX1_setOf_32 : decode cX1_setOf 32 = .ok (.invokeinterface 87 2, 5) := by decide +kernel
theorem dX1_setOf_37 : decode cX1_setOf 37 = .ok (.ifCond .eq 9, 3) := dk_153 0 9 (dk_at dksX1_setOf_1 13 rfl rfl)
theorem dX1_setOf_40 : decode cX1_setOf 40 = .ok (.iconst 1, 1) := dk_4 (dk_at dksX1_setOf_1 16 rfl rfl)
theorem dX1_setOf_41 : decode cX1_setOf 41 = .ok (.iload_n 3, 1) := dk_29 (dk_at dksX1_setOf_1 17 rfl rfl)
theorem dX1_setOf_42 : decode cX1_setOf 42 = .ok (.ishl, 1) := dk_120 (dk_at dksX1_setOf_1 18 rfl rfl)
theorem dX1_setOf_43 : decode cX1_setOf 43 = .ok (.goto 4, 3) := dk_167 0 4 (dk_at dksX1_setOf_1 19 rfl rfl)
theorem dX1_setOf_46 : decode cX1_setOf 46 = .ok (.iconst 0, 1) := dk_3 (dk_at dksX1_setOf_1 22 rfl rfl)
theorem dX1_setOf_47 : decode cX1_setOf 47 = .ok (.ior, 1) := dk_128 (dk_at dksX1_setOf_1 23 rfl rfl)
theorem dX1_setOf_48 : decode cX1_setOf 48 = .ok (.istore_n 2, 1) := dk_61 (dk_at dksX1_setOf_2 0 rfl rfl)
theorem dX1_setOf_49 : decode cX1_setOf 49 = .ok (.iinc 3 1, 3) := dk_132 3 1 (dk_at dksX1_setOf_2 1 rfl rfl)
theorem dX1_setOf_52 : decode cX1_setOf 52 = .ok (.goto (-48), 3) := dk_167 255 208 (dk_at dksX1_setOf_2 4 rfl rfl)
theorem dX1_setOf_55 : decode cX1_setOf 55 = .ok (.iload_n 2, 1) := dk_28 (dk_at dksX1_setOf_2 7 rfl rfl)
theorem dX1_setOf_56 : decode cX1_setOf 56 = .ok (.ireturn, 1) := dk_172 (dk_at dksX1_setOf_2 8 rfl rfl)
abbrev cX1_refusal : ByteArray := prog_3_method_20_code
def yX1_refusal : MethodName := ⟨RX1, "refusal", "(LCanalSteps$Boat;)I"⟩
def dkwX1_refusal_3 : List UInt8 := [182, 0, 178, 160, 0, 5, 7, 172, 42, 28, 182, 0, 155, 153, 0, 7, 3, 167, 0, 4, 8, 172]
abbrev dktX1_refusal_3 : List UInt8 := dkwX1_refusal_3 ++ []
def dkwX1_refusal_2 : List UInt8 := [192, 0, 42, 3, 185, 0, 54, 2, 0, 43, 165, 0, 5, 6, 172, 42, 180, 0, 25, 28, 51, 43]
abbrev dktX1_refusal_2 : List UInt8 := dkwX1_refusal_2 ++ dktX1_refusal_3
def dkwX1_refusal_1 : List UInt8 := [43, 182, 0, 152, 153, 0, 5, 5, 172, 42, 180, 0, 18, 43, 182, 0, 120, 185, 0, 54, 2, 0]
abbrev dktX1_refusal_1 : List UInt8 := dkwX1_refusal_1 ++ dktX1_refusal_2
def dkwX1_refusal_0 : List UInt8 := [43, 182, 0, 175, 61, 3, 62, 29, 28, 162, 0, 14, 42, 29, 182, 0, 169, 132, 3, 1, 167, 255, 243, 42]
abbrev dktX1_refusal_0 : List UInt8 := dkwX1_refusal_0 ++ dktX1_refusal_1
theorem dksX1_refusal_0 : cX1_refusal.data.toList.drop 0 = dktX1_refusal_0 := by decide +kernel
theorem dksX1_refusal_1 : cX1_refusal.data.toList.drop 24 = dktX1_refusal_1 := dk_seg dksX1_refusal_0 24 rfl rfl
theorem dksX1_refusal_2 : cX1_refusal.data.toList.drop 46 = dktX1_refusal_2 := dk_seg dksX1_refusal_1 22 rfl rfl
theorem dksX1_refusal_3 : cX1_refusal.data.toList.drop 68 = dktX1_refusal_3 := dk_seg dksX1_refusal_2 22 rfl rfl
theorem dX1_refusal_0 : decode cX1_refusal 0 = .ok (.aload_n 1, 1) := dk_43 (dk_at dksX1_refusal_0 0 rfl rfl)
theorem dX1_refusal_1 : decode cX1_refusal 1 = .ok (.invokevirtual 175, 3) := dk_182 0 175 (dk_at dksX1_refusal_0 1 rfl rfl)
theorem dX1_refusal_4 : decode cX1_refusal 4 = .ok (.istore_n 2, 1) := dk_61 (dk_at dksX1_refusal_0 4 rfl rfl)
theorem dX1_refusal_5 : decode cX1_refusal 5 = .ok (.iconst 0, 1) := dk_3 (dk_at dksX1_refusal_0 5 rfl rfl)
theorem dX1_refusal_6 : decode cX1_refusal 6 = .ok (.istore_n 3, 1) := dk_62 (dk_at dksX1_refusal_0 6 rfl rfl)
theorem dX1_refusal_7 : decode cX1_refusal 7 = .ok (.iload_n 3, 1) := dk_29 (dk_at dksX1_refusal_0 7 rfl rfl)
theorem dX1_refusal_8 : decode cX1_refusal 8 = .ok (.iload_n 2, 1) := dk_28 (dk_at dksX1_refusal_0 8 rfl rfl)
theorem dX1_refusal_9 : decode cX1_refusal 9 = .ok (.if_icmp .ge 14, 3) := dk_162 0 14 (dk_at dksX1_refusal_0 9 rfl rfl)
theorem dX1_refusal_12 : decode cX1_refusal 12 = .ok (.aload_n 0, 1) := dk_42 (dk_at dksX1_refusal_0 12 rfl rfl)
theorem dX1_refusal_13 : decode cX1_refusal 13 = .ok (.iload_n 3, 1) := dk_29 (dk_at dksX1_refusal_0 13 rfl rfl)
theorem dX1_refusal_14 : decode cX1_refusal 14 = .ok (.invokevirtual 169, 3) := dk_182 0 169 (dk_at dksX1_refusal_0 14 rfl rfl)
theorem dX1_refusal_17 : decode cX1_refusal 17 = .ok (.iinc 3 1, 3) := dk_132 3 1 (dk_at dksX1_refusal_0 17 rfl rfl)
theorem dX1_refusal_20 : decode cX1_refusal 20 = .ok (.goto (-13), 3) := dk_167 255 243 (dk_at dksX1_refusal_0 20 rfl rfl)
theorem dX1_refusal_23 : decode cX1_refusal 23 = .ok (.aload_n 0, 1) := dk_42 (dk_at dksX1_refusal_0 23 rfl rfl)
theorem dX1_refusal_24 : decode cX1_refusal 24 = .ok (.aload_n 1, 1) := dk_43 (dk_at dksX1_refusal_1 0 rfl rfl)
theorem dX1_refusal_25 : decode cX1_refusal 25 = .ok (.invokevirtual 152, 3) := dk_182 0 152 (dk_at dksX1_refusal_1 1 rfl rfl)
theorem dX1_refusal_28 : decode cX1_refusal 28 = .ok (.ifCond .eq 5, 3) := dk_153 0 5 (dk_at dksX1_refusal_1 4 rfl rfl)
theorem dX1_refusal_31 : decode cX1_refusal 31 = .ok (.iconst 2, 1) := dk_5 (dk_at dksX1_refusal_1 7 rfl rfl)
theorem dX1_refusal_32 : decode cX1_refusal 32 = .ok (.ireturn, 1) := dk_172 (dk_at dksX1_refusal_1 8 rfl rfl)
theorem dX1_refusal_33 : decode cX1_refusal 33 = .ok (.aload_n 0, 1) := dk_42 (dk_at dksX1_refusal_1 9 rfl rfl)
theorem dX1_refusal_34 : decode cX1_refusal 34 = .ok (.getfield 18, 3) := dk_180 0 18 (dk_at dksX1_refusal_1 10 rfl rfl)
theorem dX1_refusal_37 : decode cX1_refusal 37 = .ok (.aload_n 1, 1) := dk_43 (dk_at dksX1_refusal_1 13 rfl rfl)
theorem dX1_refusal_38 : decode cX1_refusal 38 = .ok (.invokevirtual 120, 3) := dk_182 0 120 (dk_at dksX1_refusal_1 14 rfl rfl)
theorem dX1_refusal_41 : decode cX1_refusal 41 = .ok (.invokeinterface 54 2, 5) := by decide +kernel
theorem dX1_refusal_46 : decode cX1_refusal 46 = .ok (.checkcast 42, 3) := dk_192 0 42 (dk_at dksX1_refusal_2 0 rfl rfl)
theorem dX1_refusal_49 : decode cX1_refusal 49 = .ok (.iconst 0, 1) := dk_3 (dk_at dksX1_refusal_2 3 rfl rfl)
theorem dX1_refusal_50 : decode cX1_refusal 50 = .ok (.invokeinterface 54 2, 5) := by decide +kernel
theorem dX1_refusal_55 : decode cX1_refusal 55 = .ok (.aload_n 1, 1) := dk_43 (dk_at dksX1_refusal_2 9 rfl rfl)
theorem dX1_refusal_56 : decode cX1_refusal 56 = .ok (.if_acmp .eq 5, 3) := dk_165 0 5 (dk_at dksX1_refusal_2 10 rfl rfl)
theorem dX1_refusal_59 : decode cX1_refusal 59 = .ok (.iconst 3, 1) := dk_6 (dk_at dksX1_refusal_2 13 rfl rfl)
theorem dX1_refusal_60 : decode cX1_refusal 60 = .ok (.ireturn, 1) := dk_172 (dk_at dksX1_refusal_2 14 rfl rfl)
theorem dX1_refusal_61 : decode cX1_refusal 61 = .ok (.aload_n 0, 1) := dk_42 (dk_at dksX1_refusal_2 15 rfl rfl)
theorem dX1_refusal_62 : decode cX1_refusal 62 = .ok (.getfield 25, 3) := dk_180 0 25 (dk_at dksX1_refusal_2 16 rfl rfl)
theorem dX1_refusal_65 : decode cX1_refusal 65 = .ok (.iload_n 2, 1) := dk_28 (dk_at dksX1_refusal_2 19 rfl rfl)
theorem dX1_refusal_66 : decode cX1_refusal 66 = .ok (.baload, 1) := dk_51 (dk_at dksX1_refusal_2 20 rfl rfl)
theorem dX1_refusal_67 : decode cX1_refusal 67 = .ok (.aload_n 1, 1) := dk_43 (dk_at dksX1_refusal_2 21 rfl rfl)
theorem dX1_refusal_68 : decode cX1_refusal 68 = .ok (.invokevirtual 178, 3) := dk_182 0 178 (dk_at dksX1_refusal_3 0 rfl rfl)
theorem dX1_refusal_71 : decode cX1_refusal 71 = .ok (.if_icmp .ne 5, 3) := dk_160 0 5 (dk_at dksX1_refusal_3 3 rfl rfl)
theorem dX1_refusal_74 : decode cX1_refusal 74 = .ok (.iconst 4, 1) := dk_7 (dk_at dksX1_refusal_3 6 rfl rfl)
theorem dX1_refusal_75 : decode cX1_refusal 75 = .ok (.ireturn, 1) := dk_172 (dk_at dksX1_refusal_3 7 rfl rfl)
theorem dX1_refusal_76 : decode cX1_refusal 76 = .ok (.aload_n 0, 1) := dk_42 (dk_at dksX1_refusal_3 8 rfl rfl)
theorem dX1_refusal_77 : decode cX1_refusal 77 = .ok (.iload_n 2, 1) := dk_28 (dk_at dksX1_refusal_3 9 rfl rfl)
theorem dX1_refusal_78 : decode cX1_refusal 78 = .ok (.invokevirtual 155, 3) := dk_182 0 155 (dk_at dksX1_refusal_3 10 rfl rfl)
theorem dX1_refusal_81 : decode cX1_refusal 81 = .ok (.ifCond .eq 7, 3) := dk_153 0 7 (dk_at dksX1_refusal_3 13 rfl rfl)
theorem dX1_refusal_84 : decode cX1_refusal 84 = .ok (.iconst 0, 1) := dk_3 (dk_at dksX1_refusal_3 16 rfl rfl)
theorem dX1_refusal_85 : decode cX1_refusal 85 = .ok (.goto 4, 3) := dk_167 0 4 (dk_at dksX1_refusal_3 17 rfl rfl)
theorem dX1_refusal_88 : decode cX1_refusal 88 = .ok (.iconst 5, 1) := dk_8 (dk_at dksX1_refusal_3 20 rfl rfl)
theorem dX1_refusal_89 : decode cX1_refusal 89 = .ok (.ireturn, 1) := dk_172 (dk_at dksX1_refusal_3 21 rfl rfl)
abbrev cX1_sum : ByteArray := prog_3_method_7_code
def yX1_sum : MethodName := ⟨RX1, "sum", "([I)I"⟩
def dkwX1_sum_0 : List UInt8 := [3, 60, 3, 61, 28, 42, 190, 162, 0, 15, 27, 42, 28, 46, 96, 60, 132, 2, 1, 167, 255, 241, 27, 172]
abbrev dktX1_sum_0 : List UInt8 := dkwX1_sum_0 ++ []
theorem dksX1_sum_0 : cX1_sum.data.toList.drop 0 = dktX1_sum_0 := by decide +kernel
theorem dX1_sum_0 : decode cX1_sum 0 = .ok (.iconst 0, 1) := dk_3 (dk_at dksX1_sum_0 0 rfl rfl)
theorem dX1_sum_1 : decode cX1_sum 1 = .ok (.istore_n 1, 1) := dk_60 (dk_at dksX1_sum_0 1 rfl rfl)
theorem dX1_sum_2 : decode cX1_sum 2 = .ok (.iconst 0, 1) := dk_3 (dk_at dksX1_sum_0 2 rfl rfl)
theorem dX1_sum_3 : decode cX1_sum 3 = .ok (.istore_n 2, 1) := dk_61 (dk_at dksX1_sum_0 3 rfl rfl)
theorem dX1_sum_4 : decode cX1_sum 4 = .ok (.iload_n 2, 1) := dk_28 (dk_at dksX1_sum_0 4 rfl rfl)
theorem dX1_sum_5 : decode cX1_sum 5 = .ok (.aload_n 0, 1) := dk_42 (dk_at dksX1_sum_0 5 rfl rfl)
theorem dX1_sum_6 : decode cX1_sum 6 = .ok (.arraylength, 1) := dk_190 (dk_at dksX1_sum_0 6 rfl rfl)
theorem dX1_sum_7 : decode cX1_sum 7 = .ok (.if_icmp .ge 15, 3) := dk_162 0 15 (dk_at dksX1_sum_0 7 rfl rfl)
theorem dX1_sum_10 : decode cX1_sum 10 = .ok (.iload_n 1, 1) := dk_27 (dk_at dksX1_sum_0 10 rfl rfl)
theorem dX1_sum_11 : decode cX1_sum 11 = .ok (.aload_n 0, 1) := dk_42 (dk_at dksX1_sum_0 11 rfl rfl)
theorem dX1_sum_12 : decode cX1_sum 12 = .ok (.iload_n 2, 1) := dk_28 (dk_at dksX1_sum_0 12 rfl rfl)
theorem dX1_sum_13 : decode cX1_sum 13 = .ok (.iaload, 1) := dk_46 (dk_at dksX1_sum_0 13 rfl rfl)
theorem dX1_sum_14 : decode cX1_sum 14 = .ok (.iadd, 1) := dk_96 (dk_at dksX1_sum_0 14 rfl rfl)
theorem dX1_sum_15 : decode cX1_sum 15 = .ok (.istore_n 1, 1) := dk_60 (dk_at dksX1_sum_0 15 rfl rfl)
theorem dX1_sum_16 : decode cX1_sum 16 = .ok (.iinc 2 1, 3) := dk_132 2 1 (dk_at dksX1_sum_0 16 rfl rfl)
theorem dX1_sum_19 : decode cX1_sum 19 = .ok (.goto (-15), 3) := dk_167 255 241 (dk_at dksX1_sum_0 19 rfl rfl)
theorem dX1_sum_22 : decode cX1_sum 22 = .ok (.iload_n 1, 1) := dk_27 (dk_at dksX1_sum_0 22 rfl rfl)
theorem dX1_sum_23 : decode cX1_sum 23 = .ok (.ireturn, 1) := dk_172 (dk_at dksX1_sum_0 23 rfl rfl)
abbrev cX1_highOnes : ByteArray := prog_3_method_9_code
def yX1_highOnes : MethodName := ⟨RX1, "highOnes", "()I"⟩
def dkwX1_highOnes_1 : List UInt8 := [96, 60, 132, 2, 1, 167, 255, 231, 27, 172]
abbrev dktX1_highOnes_1 : List UInt8 := dkwX1_highOnes_1 ++ []
def dkwX1_highOnes_0 : List UInt8 := [3, 60, 3, 61, 28, 8, 162, 0, 26, 27, 42, 180, 0, 25, 28, 51, 153, 0, 7, 4, 167, 0, 4, 3]
abbrev dktX1_highOnes_0 : List UInt8 := dkwX1_highOnes_0 ++ dktX1_highOnes_1
theorem dksX1_highOnes_0 : cX1_highOnes.data.toList.drop 0 = dktX1_highOnes_0 := by decide +kernel
theorem dksX1_highOnes_1 : cX1_highOnes.data.toList.drop 24 = dktX1_highOnes_1 := dk_seg dksX1_highOnes_0 24 rfl rfl
theorem dX1_highOnes_0 : decode cX1_highOnes 0 = .ok (.iconst 0, 1) := dk_3 (dk_at dksX1_highOnes_0 0 rfl rfl)
theorem dX1_highOnes_1 : decode cX1_highOnes 1 = .ok (.istore_n 1, 1) := dk_60 (dk_at dksX1_highOnes_0 1 rfl rfl)
theorem dX1_highOnes_2 : decode cX1_highOnes 2 = .ok (.iconst 0, 1) := dk_3 (dk_at dksX1_highOnes_0 2 rfl rfl)
theorem dX1_highOnes_3 : decode cX1_highOnes 3 = .ok (.istore_n 2, 1) := dk_61 (dk_at dksX1_highOnes_0 3 rfl rfl)
theorem dX1_highOnes_4 : decode cX1_highOnes 4 = .ok (.iload_n 2, 1) := dk_28 (dk_at dksX1_highOnes_0 4 rfl rfl)
theorem dX1_highOnes_5 : decode cX1_highOnes 5 = .ok (.iconst 5, 1) := dk_8 (dk_at dksX1_highOnes_0 5 rfl rfl)
theorem dX1_highOnes_6 : decode cX1_highOnes 6 = .ok (.if_icmp .ge 26, 3) := dk_162 0 26 (dk_at dksX1_highOnes_0 6 rfl rfl)
theorem dX1_highOnes_9 : decode cX1_highOnes 9 = .ok (.iload_n 1, 1) := dk_27 (dk_at dksX1_highOnes_0 9 rfl rfl)
theorem dX1_highOnes_10 : decode cX1_highOnes 10 = .ok (.aload_n 0, 1) := dk_42 (dk_at dksX1_highOnes_0 10 rfl rfl)
theorem dX1_highOnes_11 : decode cX1_highOnes 11 = .ok (.getfield 25, 3) := dk_180 0 25 (dk_at dksX1_highOnes_0 11 rfl rfl)
theorem dX1_highOnes_14 : decode cX1_highOnes 14 = .ok (.iload_n 2, 1) := dk_28 (dk_at dksX1_highOnes_0 14 rfl rfl)
theorem dX1_highOnes_15 : decode cX1_highOnes 15 = .ok (.baload, 1) := dk_51 (dk_at dksX1_highOnes_0 15 rfl rfl)
theorem dX1_highOnes_16 : decode cX1_highOnes 16 = .ok (.ifCond .eq 7, 3) := dk_153 0 7 (dk_at dksX1_highOnes_0 16 rfl rfl)
theorem dX1_highOnes_19 : decode cX1_highOnes 19 = .ok (.iconst 1, 1) := dk_4 (dk_at dksX1_highOnes_0 19 rfl rfl)
theorem dX1_highOnes_20 : decode cX1_highOnes 20 = .ok (.goto 4, 3) := dk_167 0 4 (dk_at dksX1_highOnes_0 20 rfl rfl)
theorem dX1_highOnes_23 : decode cX1_highOnes 23 = .ok (.iconst 0, 1) := dk_3 (dk_at dksX1_highOnes_0 23 rfl rfl)
theorem dX1_highOnes_24 : decode cX1_highOnes 24 = .ok (.iadd, 1) := dk_96 (dk_at dksX1_highOnes_1 0 rfl rfl)
theorem dX1_highOnes_25 : decode cX1_highOnes 25 = .ok (.istore_n 1, 1) := dk_60 (dk_at dksX1_highOnes_1 1 rfl rfl)
theorem dX1_highOnes_26 : decode cX1_highOnes 26 = .ok (.iinc 2 1, 3) := dk_132 2 1 (dk_at dksX1_highOnes_1 2 rfl rfl)
theorem dX1_highOnes_29 : decode cX1_highOnes 29 = .ok (.goto (-25), 3) := dk_167 255 231 (dk_at dksX1_highOnes_1 5 rfl rfl)
theorem dX1_highOnes_32 : decode cX1_highOnes 32 = .ok (.iload_n 1, 1) := dk_27 (dk_at dksX1_highOnes_1 8 rfl rfl)
theorem dX1_highOnes_33 : decode cX1_highOnes 33 = .ok (.ireturn, 1) := dk_172 (dk_at dksX1_highOnes_1 9 rfl rfl)
theorem q67 : (Jvm.Cond.initialized "CanalSteps$Canal") ∈ lw_all := lw_g (lw_at lw_m1 2 rfl) rfl
theorem q94 : (Jvm.Cond.instantiable "CanalSteps$Canal" (12 : Nat)) ∈ lw_all := lw_g (lw_at lw_m1 29 rfl) rfl
theorem q96 : (Jvm.Cond.instanceMethod ({ cls := "CanalSteps$Canal", name := "<init>", desc := "()V" } : Jvm.MethodName)) ∈ lw_all := lw_g (lw_at lw_m1 31 rfl) rfl
theorem q97 : (Jvm.Cond.code ({ cls := "CanalSteps$Canal", name := "<init>", desc := "()V" } : Jvm.MethodName) prog_3_method_1_code (2 : Nat) (Option.none : Option Jvm.ClassFile.FieldType)) ∈ lw_all := lw_g (lw_at lw_m1 32 rfl) rfl
theorem q98 : (Jvm.Cond.methodLink "CanalSteps$Canal" (3 : Nat) ({ cls := "java/lang/Object", name := "<init>", desc := "()V" } : Jvm.MethodName)) ∈ lw_all := lw_g (lw_at lw_m1 33 rfl) rfl
theorem q99 : (Jvm.Cond.classLink "CanalSteps$Canal" (9 : Nat) "java/util/ArrayList") ∈ lw_all := lw_g (lw_at lw_m1 34 rfl) rfl
theorem q101 : (Jvm.Cond.methodLink "CanalSteps$Canal" (11 : Nat) ({ cls := "java/util/ArrayList", name := "<init>", desc := "()V" } : Jvm.MethodName)) ∈ lw_all := lw_g (lw_at lw_m1 36 rfl) rfl
theorem q125 : (Jvm.Cond.interfaceEntry "CanalSteps$Canal" (41 : Nat)) ∈ lw_tbl := lw_at lw_m1 60 rfl
theorem q126 : (Jvm.Cond.methodLink "CanalSteps$Canal" (41 : Nat) ({ cls := "java/util/List", name := "add", desc := "(Ljava/lang/Object;)Z" } : Jvm.MethodName)) ∈ lw_all := lw_g (lw_at lw_m1 61 rfl) rfl
theorem q165 : (Jvm.Cond.selects "CanalSteps$Canal" ({ cls := "java/lang/Object", name := "getClass", desc := "()Ljava/lang/Class;" } : Jvm.MethodName) ({ cls := "java/lang/Object", name := "getClass", desc := "()Ljava/lang/Class;" } : Jvm.MethodName)) ∈ lw_all := lw_g (lw_at lw_m1 100 rfl) rfl
theorem q185 : (Jvm.Cond.fieldLink "CanalSteps$Canal" (12 : Nat) "CanalSteps$Canal" "boats" "Ljava/util/List;") ∈ lw_all := lw_g (lw_at lw_m1 120 rfl) rfl
theorem q187 : (Jvm.Cond.fieldLink "CanalSteps$Canal" (18 : Nat) "CanalSteps$Canal" "queues" "Ljava/util/List;") ∈ lw_all := lw_g (lw_at lw_m1 122 rfl) rfl
theorem q189 : (Jvm.Cond.fieldLink "CanalSteps$Canal" (21 : Nat) "CanalSteps$Canal" "depths" "[I") ∈ lw_all := lw_g (lw_at lw_m1 124 rfl) rfl
theorem q191 : (Jvm.Cond.fieldLink "CanalSteps$Canal" (25 : Nat) "CanalSteps$Canal" "isHigh" "[Z") ∈ lw_all := lw_g (lw_at lw_m1 126 rfl) rfl
theorem q193 : (Jvm.Cond.fieldLink "CanalSteps$Canal" (29 : Nat) "CanalSteps$Canal" "chambers" "[I") ∈ lw_all := lw_g (lw_at lw_m1 128 rfl) rfl
theorem q195 : (Jvm.Cond.fieldLink "CanalSteps$Canal" (32 : Nat) "CanalSteps$Canal" "passages" "[I") ∈ lw_all := lw_g (lw_at lw_m1 130 rfl) rfl
theorem q197 : (Jvm.Cond.fieldLink "CanalSteps$Canal" (35 : Nat) "CanalSteps$Canal" "fillings" "[I") ∈ lw_all := lw_g (lw_at lw_m1 132 rfl) rfl
theorem q199 : (Jvm.Cond.fieldLink "CanalSteps$Canal" (38 : Nat) "CanalSteps$Canal" "settings" "[I") ∈ lw_all := lw_g (lw_at lw_m1 134 rfl) rfl
theorem q201 : (Jvm.Cond.fieldLink "CanalSteps$Canal" (71 : Nat) "CanalSteps$Canal" "tick" "I") ∈ lw_all := lw_g (lw_at lw_m1 136 rfl) rfl
theorem q203 : (Jvm.Cond.fieldLink "CanalSteps$Canal" (74 : Nat) "CanalSteps$Canal" "sprung" "I") ∈ lw_all := lw_g (lw_at lw_m1 138 rfl) rfl
theorem q205 : (Jvm.Cond.fieldLink "CanalSteps$Canal" (77 : Nat) "CanalSteps$Canal" "lost" "I") ∈ lw_all := lw_g (lw_at lw_m1 140 rfl) rfl
theorem q207 : (Jvm.Cond.fieldLink "CanalSteps$Canal" (80 : Nat) "CanalSteps$Canal" "byHand" "I") ∈ lw_all := lw_g (lw_at lw_m1 142 rfl) rfl
theorem q209 : (Jvm.Cond.laysFinal "CanalSteps$Canal" "CanalSteps$Canal" "boats" "Ljava/util/List;") ∈ lw_all := lw_g (lw_at lw_m1 144 rfl) rfl
theorem q210 : (Jvm.Cond.soleField "CanalSteps$Canal" "boats") ∈ lw_all := lw_g (lw_at lw_m1 145 rfl) rfl
theorem q211 : (Jvm.Cond.laysFinal "CanalSteps$Canal" "CanalSteps$Canal" "queues" "Ljava/util/List;") ∈ lw_all := lw_g (lw_at lw_m1 146 rfl) rfl
theorem q212 : (Jvm.Cond.soleField "CanalSteps$Canal" "queues") ∈ lw_all := lw_g (lw_at lw_m1 147 rfl) rfl
theorem q213 : (Jvm.Cond.laysFinal "CanalSteps$Canal" "CanalSteps$Canal" "depths" "[I") ∈ lw_all := lw_g (lw_at lw_m1 148 rfl) rfl
theorem q214 : (Jvm.Cond.soleField "CanalSteps$Canal" "depths") ∈ lw_all := lw_g (lw_at lw_m1 149 rfl) rfl
theorem q215 : (Jvm.Cond.laysFinal "CanalSteps$Canal" "CanalSteps$Canal" "isHigh" "[Z") ∈ lw_all := lw_g (lw_at lw_m1 150 rfl) rfl
theorem q216 : (Jvm.Cond.soleField "CanalSteps$Canal" "isHigh") ∈ lw_all := lw_g (lw_at lw_m1 151 rfl) rfl
theorem q217 : (Jvm.Cond.laysFinal "CanalSteps$Canal" "CanalSteps$Canal" "chambers" "[I") ∈ lw_all := lw_g (lw_at lw_m1 152 rfl) rfl
theorem q218 : (Jvm.Cond.soleField "CanalSteps$Canal" "chambers") ∈ lw_all := lw_g (lw_at lw_m1 153 rfl) rfl
theorem q219 : (Jvm.Cond.laysFinal "CanalSteps$Canal" "CanalSteps$Canal" "passages" "[I") ∈ lw_all := lw_g (lw_at lw_m1 154 rfl) rfl
theorem q220 : (Jvm.Cond.soleField "CanalSteps$Canal" "passages") ∈ lw_all := lw_g (lw_at lw_m1 155 rfl) rfl
theorem q221 : (Jvm.Cond.laysFinal "CanalSteps$Canal" "CanalSteps$Canal" "fillings" "[I") ∈ lw_all := lw_g (lw_at lw_m1 156 rfl) rfl
theorem q222 : (Jvm.Cond.soleField "CanalSteps$Canal" "fillings") ∈ lw_all := lw_g (lw_at lw_m1 157 rfl) rfl
theorem q223 : (Jvm.Cond.laysFinal "CanalSteps$Canal" "CanalSteps$Canal" "settings" "[I") ∈ lw_all := lw_g (lw_at lw_m1 158 rfl) rfl
theorem q224 : (Jvm.Cond.soleField "CanalSteps$Canal" "settings") ∈ lw_all := lw_g (lw_at lw_m1 159 rfl) rfl
theorem q225 : (Jvm.Cond.lays "CanalSteps$Canal" "CanalSteps$Canal" "tick" "I") ∈ lw_all := lw_g (lw_at lw_m1 160 rfl) rfl
theorem q226 : (Jvm.Cond.soleField "CanalSteps$Canal" "tick") ∈ lw_all := lw_g (lw_at lw_m1 161 rfl) rfl
theorem q227 : (Jvm.Cond.lays "CanalSteps$Canal" "CanalSteps$Canal" "sprung" "I") ∈ lw_all := lw_g (lw_at lw_m1 162 rfl) rfl
theorem q228 : (Jvm.Cond.soleField "CanalSteps$Canal" "sprung") ∈ lw_all := lw_g (lw_at lw_m1 163 rfl) rfl
theorem q229 : (Jvm.Cond.lays "CanalSteps$Canal" "CanalSteps$Canal" "lost" "I") ∈ lw_all := lw_g (lw_at lw_m1 164 rfl) rfl
theorem q230 : (Jvm.Cond.soleField "CanalSteps$Canal" "lost") ∈ lw_all := lw_g (lw_at lw_m1 165 rfl) rfl
theorem q231 : (Jvm.Cond.lays "CanalSteps$Canal" "CanalSteps$Canal" "byHand" "I") ∈ lw_all := lw_g (lw_at lw_m1 166 rfl) rfl
theorem q232 : (Jvm.Cond.soleField "CanalSteps$Canal" "byHand") ∈ lw_all := lw_g (lw_at lw_m1 167 rfl) rfl
theorem q233 : (Jvm.Cond.superclass "CanalSteps$Canal" "java/lang/Object") ∈ lw_all := lw_g (lw_at lw_m1 168 rfl) rfl
theorem q294 : (Jvm.Cond.instanceMethod ({ cls := "CanalSteps$Canal", name := "copy", desc := "()LCanalSteps$Canal;" } : Jvm.MethodName)) ∈ lw_all := lw_g (lw_at lw_m1 229 rfl) rfl
theorem q295 : (Jvm.Cond.selects "CanalSteps$Canal" ({ cls := "CanalSteps$Canal", name := "copy", desc := "()LCanalSteps$Canal;" } : Jvm.MethodName) ({ cls := "CanalSteps$Canal", name := "copy", desc := "()LCanalSteps$Canal;" } : Jvm.MethodName)) ∈ lw_all := lw_g (lw_at lw_m1 230 rfl) rfl
theorem q296 : (Jvm.Cond.code ({ cls := "CanalSteps$Canal", name := "copy", desc := "()LCanalSteps$Canal;" } : Jvm.MethodName) prog_3_method_2_code (4 : Nat) (Option.some (Jvm.ClassFile.FieldType.object "CanalSteps$Canal"))) ∈ lw_all := lw_g (lw_at lw_m1 231 rfl) rfl
theorem q297 : (Jvm.Cond.classLink "CanalSteps$Canal" (13 : Nat) "CanalSteps$Canal") ∈ lw_all := lw_g (lw_at lw_m1 232 rfl) rfl
theorem q298 : (Jvm.Cond.methodLink "CanalSteps$Canal" (47 : Nat) ({ cls := "CanalSteps$Canal", name := "<init>", desc := "()V" } : Jvm.MethodName)) ∈ lw_all := lw_g (lw_at lw_m1 233 rfl) rfl
theorem q299 : (Jvm.Cond.interfaceEntry "CanalSteps$Canal" (48 : Nat)) ∈ lw_tbl := lw_at lw_m1 234 rfl
theorem q300 : (Jvm.Cond.methodLink "CanalSteps$Canal" (48 : Nat) ({ cls := "java/util/List", name := "size", desc := "()I" } : Jvm.MethodName)) ∈ lw_all := lw_g (lw_at lw_m1 235 rfl) rfl
theorem q308 : (Jvm.Cond.classLink "CanalSteps$Canal" (52 : Nat) "CanalSteps$Boat") ∈ lw_all := lw_g (lw_at lw_m2 3 rfl) rfl
theorem q310 : (Jvm.Cond.interfaceEntry "CanalSteps$Canal" (54 : Nat)) ∈ lw_tbl := lw_at lw_m2 5 rfl
theorem q311 : (Jvm.Cond.methodLink "CanalSteps$Canal" (54 : Nat) ({ cls := "java/util/List", name := "get", desc := "(I)Ljava/lang/Object;" } : Jvm.MethodName)) ∈ lw_all := lw_g (lw_at lw_m2 6 rfl) rfl
theorem q329 : (Jvm.Cond.methodLink "CanalSteps$Canal" (58 : Nat) ({ cls := "CanalSteps$Boat", name := "<init>", desc := "(LCanalSteps$Boat;)V" } : Jvm.MethodName)) ∈ lw_all := lw_g (lw_at lw_m2 24 rfl) rfl
theorem q337 : (Jvm.Cond.fieldLinkNest "CanalSteps$Canal" (61 : Nat) "CanalSteps$Boat" "number" "I" "CanalSteps") ∈ lw_tbl := lw_at lw_m2 32 rfl
theorem q340 : (Jvm.Cond.fieldLinkNest "CanalSteps$Canal" (134 : Nat) "CanalSteps$Boat" "pieces" "I" "CanalSteps") ∈ lw_tbl := lw_at lw_m2 35 rfl
theorem q345 : (Jvm.Cond.fieldLinkNest "CanalSteps$Canal" (104 : Nat) "CanalSteps$Boat" "at" "I" "CanalSteps") ∈ lw_tbl := lw_at lw_m2 40 rfl
theorem q348 : (Jvm.Cond.fieldLinkNest "CanalSteps$Canal" (107 : Nat) "CanalSteps$Boat" "draught" "I" "CanalSteps") ∈ lw_tbl := lw_at lw_m2 43 rfl
theorem q351 : (Jvm.Cond.fieldLinkNest "CanalSteps$Canal" (131 : Nat) "CanalSteps$Boat" "over" "I" "CanalSteps") ∈ lw_tbl := lw_at lw_m2 46 rfl
theorem q354 : (Jvm.Cond.fieldLinkNest "CanalSteps$Canal" (129 : Nat) "CanalSteps$Boat" "passages" "I" "CanalSteps") ∈ lw_tbl := lw_at lw_m2 49 rfl
theorem q357 : (Jvm.Cond.fieldLinkNest "CanalSteps$Canal" (146 : Nat) "CanalSteps$Boat" "arrived" "I" "CanalSteps") ∈ lw_tbl := lw_at lw_m2 52 rfl
theorem q376 : (Jvm.Cond.classLink "CanalSteps$Canal" (42 : Nat) "java/util/List") ∈ lw_all := lw_g (lw_at lw_m2 71 rfl) rfl
theorem q377 : (Jvm.Cond.methodLink "CanalSteps$Canal" (65 : Nat) ({ cls := "java/lang/System", name := "arraycopy", desc := "(Ljava/lang/Object;ILjava/lang/Object;II)V" } : Jvm.MethodName)) ∈ lw_all := lw_g (lw_at lw_m2 72 rfl) rfl
theorem q392 : (Jvm.Cond.instanceMethod ({ cls := "CanalSteps$Canal", name := "come", desc := "(LCanalSteps$Boat;)V" } : Jvm.MethodName)) ∈ lw_all := lw_g (lw_at lw_m2 87 rfl) rfl
theorem q393 : (Jvm.Cond.selects "CanalSteps$Canal" ({ cls := "CanalSteps$Canal", name := "come", desc := "(LCanalSteps$Boat;)V" } : Jvm.MethodName) ({ cls := "CanalSteps$Canal", name := "come", desc := "(LCanalSteps$Boat;)V" } : Jvm.MethodName)) ∈ lw_all := lw_g (lw_at lw_m2 88 rfl) rfl
theorem q394 : (Jvm.Cond.code ({ cls := "CanalSteps$Canal", name := "come", desc := "(LCanalSteps$Boat;)V" } : Jvm.MethodName) prog_3_method_15_code (2 : Nat) (Option.none : Option Jvm.ClassFile.FieldType)) ∈ lw_all := lw_g (lw_at lw_m2 89 rfl) rfl
theorem q395 : (Jvm.Cond.methodLink "CanalSteps$Canal" (123 : Nat) ({ cls := "CanalSteps$Canal", name := "join", desc := "(LCanalSteps$Boat;)V" } : Jvm.MethodName)) ∈ lw_all := lw_g (lw_at lw_m2 90 rfl) rfl
theorem q396 : (Jvm.Cond.privateMethod ({ cls := "CanalSteps$Canal", name := "join", desc := "(LCanalSteps$Boat;)V" } : Jvm.MethodName)) ∈ lw_tbl := lw_at lw_m2 91 rfl
theorem q397 : (Jvm.Cond.instanceMethod ({ cls := "CanalSteps$Canal", name := "join", desc := "(LCanalSteps$Boat;)V" } : Jvm.MethodName)) ∈ lw_all := lw_g (lw_at lw_m2 92 rfl) rfl
theorem q398 : (Jvm.Cond.code ({ cls := "CanalSteps$Canal", name := "join", desc := "(LCanalSteps$Boat;)V" } : Jvm.MethodName) prog_3_method_14_code (2 : Nat) (Option.none : Option Jvm.ClassFile.FieldType)) ∈ lw_all := lw_g (lw_at lw_m2 93 rfl) rfl
theorem q399 : (Jvm.Cond.methodLink "CanalSteps$Canal" (100 : Nat) ({ cls := "CanalSteps$Boat", name := "hasArrived", desc := "()Z" } : Jvm.MethodName)) ∈ lw_all := lw_g (lw_at lw_m2 94 rfl) rfl
theorem q403 : (Jvm.Cond.methodLink "CanalSteps$Canal" (120 : Nat) ({ cls := "CanalSteps$Boat", name := "queue", desc := "()I" } : Jvm.MethodName)) ∈ lw_all := lw_g (lw_at lw_m2 98 rfl) rfl
theorem q444 : (Jvm.Cond.instanceMethod ({ cls := "CanalSteps$Canal", name := "isBoat", desc := "(I)Z" } : Jvm.MethodName)) ∈ lw_all := lw_g (lw_at lw_m2 139 rfl) rfl
theorem q445 : (Jvm.Cond.selects "CanalSteps$Canal" ({ cls := "CanalSteps$Canal", name := "isBoat", desc := "(I)Z" } : Jvm.MethodName) ({ cls := "CanalSteps$Canal", name := "isBoat", desc := "(I)Z" } : Jvm.MethodName)) ∈ lw_all := lw_g (lw_at lw_m2 140 rfl) rfl
theorem q446 : (Jvm.Cond.code ({ cls := "CanalSteps$Canal", name := "isBoat", desc := "(I)Z" } : Jvm.MethodName) prog_3_method_3_code (2 : Nat) (Option.some Jvm.ClassFile.FieldType.boolean)) ∈ lw_all := lw_g (lw_at lw_m2 141 rfl) rfl
theorem q447 : (Jvm.Cond.methodLinkNest "CanalSteps$Canal" (83 : Nat) ({ cls := "CanalSteps", name := "inRange", desc := "(III)Z" } : Jvm.MethodName) "CanalSteps") ∈ lw_tbl := lw_at lw_m2 142 rfl
theorem q462 : (Jvm.Cond.instanceMethod ({ cls := "CanalSteps$Canal", name := "canTurn", desc := "(I)Z" } : Jvm.MethodName)) ∈ lw_all := lw_g (lw_at lw_m2 157 rfl) rfl
theorem q463 : (Jvm.Cond.selects "CanalSteps$Canal" ({ cls := "CanalSteps$Canal", name := "canTurn", desc := "(I)Z" } : Jvm.MethodName) ({ cls := "CanalSteps$Canal", name := "canTurn", desc := "(I)Z" } : Jvm.MethodName)) ∈ lw_all := lw_g (lw_at lw_m2 158 rfl) rfl
theorem q464 : (Jvm.Cond.code ({ cls := "CanalSteps$Canal", name := "canTurn", desc := "(I)Z" } : Jvm.MethodName) prog_3_method_10_code (2 : Nat) (Option.some Jvm.ClassFile.FieldType.boolean)) ∈ lw_all := lw_g (lw_at lw_m2 159 rfl) rfl
theorem q466 : (Jvm.Cond.instanceMethod ({ cls := "CanalSteps$Canal", name := "turn", desc := "(I)V" } : Jvm.MethodName)) ∈ lw_all := lw_g (lw_at lw_m2 161 rfl) rfl
theorem q467 : (Jvm.Cond.selects "CanalSteps$Canal" ({ cls := "CanalSteps$Canal", name := "turn", desc := "(I)V" } : Jvm.MethodName) ({ cls := "CanalSteps$Canal", name := "turn", desc := "(I)V" } : Jvm.MethodName)) ∈ lw_all := lw_g (lw_at lw_m2 162 rfl) rfl
theorem q468 : (Jvm.Cond.code ({ cls := "CanalSteps$Canal", name := "turn", desc := "(I)V" } : Jvm.MethodName) prog_3_method_13_code (2 : Nat) (Option.none : Option Jvm.ClassFile.FieldType)) ∈ lw_all := lw_g (lw_at lw_m2 163 rfl) rfl
theorem q469 : (Jvm.Cond.methodLink "CanalSteps$Canal" (113 : Nat) ({ cls := "CanalSteps$Canal", name := "empty", desc := "(I)V" } : Jvm.MethodName)) ∈ lw_all := lw_g (lw_at lw_m2 164 rfl) rfl
theorem q470 : (Jvm.Cond.privateMethod ({ cls := "CanalSteps$Canal", name := "empty", desc := "(I)V" } : Jvm.MethodName)) ∈ lw_tbl := lw_at lw_m2 165 rfl
theorem q471 : (Jvm.Cond.instanceMethod ({ cls := "CanalSteps$Canal", name := "empty", desc := "(I)V" } : Jvm.MethodName)) ∈ lw_all := lw_g (lw_at lw_m2 166 rfl) rfl
theorem q472 : (Jvm.Cond.code ({ cls := "CanalSteps$Canal", name := "empty", desc := "(I)V" } : Jvm.MethodName) prog_3_method_12_code (2 : Nat) (Option.none : Option Jvm.ClassFile.FieldType)) ∈ lw_all := lw_g (lw_at lw_m2 167 rfl) rfl
theorem q473 : (Jvm.Cond.methodLink "CanalSteps$Canal" (117 : Nat) ({ cls := "CanalSteps$Canal", name := "fill", desc := "(I)V" } : Jvm.MethodName)) ∈ lw_all := lw_g (lw_at lw_m2 168 rfl) rfl
theorem q474 : (Jvm.Cond.privateMethod ({ cls := "CanalSteps$Canal", name := "fill", desc := "(I)V" } : Jvm.MethodName)) ∈ lw_tbl := lw_at lw_m2 169 rfl
theorem q475 : (Jvm.Cond.instanceMethod ({ cls := "CanalSteps$Canal", name := "fill", desc := "(I)V" } : Jvm.MethodName)) ∈ lw_all := lw_g (lw_at lw_m2 170 rfl) rfl
theorem q476 : (Jvm.Cond.code ({ cls := "CanalSteps$Canal", name := "fill", desc := "(I)V" } : Jvm.MethodName) prog_3_method_11_code (2 : Nat) (Option.none : Option Jvm.ClassFile.FieldType)) ∈ lw_all := lw_g (lw_at lw_m2 171 rfl) rfl
theorem q497 : (Jvm.Cond.instanceMethod ({ cls := "CanalSteps$Canal", name := "pass", desc := "()I" } : Jvm.MethodName)) ∈ lw_all := lw_g (lw_at lw_m2 192 rfl) rfl
theorem q498 : (Jvm.Cond.selects "CanalSteps$Canal" ({ cls := "CanalSteps$Canal", name := "pass", desc := "()I" } : Jvm.MethodName) ({ cls := "CanalSteps$Canal", name := "pass", desc := "()I" } : Jvm.MethodName)) ∈ lw_all := lw_g (lw_at lw_m2 193 rfl) rfl
theorem q499 : (Jvm.Cond.code ({ cls := "CanalSteps$Canal", name := "pass", desc := "()I" } : Jvm.MethodName) prog_3_method_19_code (3 : Nat) (Option.some Jvm.ClassFile.FieldType.int)) ∈ lw_all := lw_g (lw_at lw_m2 194 rfl) rfl
theorem q500 : (Jvm.Cond.methodLink "CanalSteps$Canal" (166 : Nat) ({ cls := "CanalSteps$Canal", name := "arrivals", desc := "()I" } : Jvm.MethodName)) ∈ lw_all := lw_g (lw_at lw_m2 195 rfl) rfl
theorem q501 : (Jvm.Cond.instanceMethod ({ cls := "CanalSteps$Canal", name := "arrivals", desc := "()I" } : Jvm.MethodName)) ∈ lw_all := lw_g (lw_at lw_m2 196 rfl) rfl
theorem q502 : (Jvm.Cond.selects "CanalSteps$Canal" ({ cls := "CanalSteps$Canal", name := "arrivals", desc := "()I" } : Jvm.MethodName) ({ cls := "CanalSteps$Canal", name := "arrivals", desc := "()I" } : Jvm.MethodName)) ∈ lw_all := lw_g (lw_at lw_m2 197 rfl) rfl
theorem q503 : (Jvm.Cond.code ({ cls := "CanalSteps$Canal", name := "arrivals", desc := "()I" } : Jvm.MethodName) prog_3_method_6_code (1 : Nat) (Option.some Jvm.ClassFile.FieldType.int)) ∈ lw_all := lw_g (lw_at lw_m2 198 rfl) rfl
theorem q504 : (Jvm.Cond.static ({ cls := "CanalSteps$Canal", name := "lambda$arrivals$0", desc := "(LCanalSteps$Boat;)Z" } : Jvm.MethodName)) ∈ lw_all := lw_g (lw_at lw_m2 199 rfl) rfl
theorem q505 : (Jvm.Cond.code ({ cls := "CanalSteps$Canal", name := "lambda$arrivals$0", desc := "(LCanalSteps$Boat;)Z" } : Jvm.MethodName) prog_3_method_21_code (1 : Nat) (Option.some Jvm.ClassFile.FieldType.boolean)) ∈ lw_all := lw_g (lw_at lw_m2 200 rfl) rfl
theorem q506 : (Jvm.Cond.methodLink "CanalSteps$Canal" (96 : Nat) ({ cls := "CanalSteps$Canal", name := "many", desc := "(LCanalSteps$Choice;)I" } : Jvm.MethodName)) ∈ lw_all := lw_g (lw_at lw_m2 201 rfl) rfl
theorem q507 : (Jvm.Cond.instanceMethod ({ cls := "CanalSteps$Canal", name := "many", desc := "(LCanalSteps$Choice;)I" } : Jvm.MethodName)) ∈ lw_all := lw_g (lw_at lw_m2 202 rfl) rfl
theorem q508 : (Jvm.Cond.selects "CanalSteps$Canal" ({ cls := "CanalSteps$Canal", name := "many", desc := "(LCanalSteps$Choice;)I" } : Jvm.MethodName) ({ cls := "CanalSteps$Canal", name := "many", desc := "(LCanalSteps$Choice;)I" } : Jvm.MethodName)) ∈ lw_all := lw_g (lw_at lw_m2 203 rfl) rfl
theorem q509 : (Jvm.Cond.code ({ cls := "CanalSteps$Canal", name := "many", desc := "(LCanalSteps$Choice;)I" } : Jvm.MethodName) prog_3_method_4_code (4 : Nat) (Option.some Jvm.ClassFile.FieldType.int)) ∈ lw_all := lw_g (lw_at lw_m2 204 rfl) rfl
theorem q510 : (Jvm.Cond.interfaceEntry "CanalSteps$Canal" (87 : Nat)) ∈ lw_tbl := lw_at lw_m2 205 rfl
theorem q511 : (Jvm.Cond.methodLink "CanalSteps$Canal" (87 : Nat) ({ cls := "CanalSteps$Choice", name := "is", desc := "(LCanalSteps$Boat;)Z" } : Jvm.MethodName)) ∈ lw_all := lw_g (lw_at lw_m2 206 rfl) rfl
theorem q514 : (Jvm.Cond.methodLink "CanalSteps$Canal" (169 : Nat) ({ cls := "CanalSteps$Canal", name := "work", desc := "(I)V" } : Jvm.MethodName)) ∈ lw_all := lw_g (lw_at lw_m2 209 rfl) rfl
theorem q515 : (Jvm.Cond.privateMethod ({ cls := "CanalSteps$Canal", name := "work", desc := "(I)V" } : Jvm.MethodName)) ∈ lw_tbl := lw_at lw_m2 210 rfl
theorem q516 : (Jvm.Cond.instanceMethod ({ cls := "CanalSteps$Canal", name := "work", desc := "(I)V" } : Jvm.MethodName)) ∈ lw_all := lw_g (lw_at lw_m2 211 rfl) rfl
theorem q517 : (Jvm.Cond.code ({ cls := "CanalSteps$Canal", name := "work", desc := "(I)V" } : Jvm.MethodName) prog_3_method_17_code (5 : Nat) (Option.none : Option Jvm.ClassFile.FieldType)) ∈ lw_all := lw_g (lw_at lw_m2 212 rfl) rfl
theorem q518 : (Jvm.Cond.interfaceEntry "CanalSteps$Canal" (149 : Nat)) ∈ lw_tbl := lw_at lw_m2 213 rfl
theorem q519 : (Jvm.Cond.methodLink "CanalSteps$Canal" (149 : Nat) ({ cls := "java/util/List", name := "isEmpty", desc := "()Z" } : Jvm.MethodName)) ∈ lw_all := lw_g (lw_at lw_m2 214 rfl) rfl
theorem q527 : (Jvm.Cond.methodLink "CanalSteps$Canal" (152 : Nat) ({ cls := "CanalSteps$Canal", name := "isAground", desc := "(LCanalSteps$Boat;)Z" } : Jvm.MethodName)) ∈ lw_all := lw_g (lw_at lw_m2 222 rfl) rfl
theorem q528 : (Jvm.Cond.instanceMethod ({ cls := "CanalSteps$Canal", name := "isAground", desc := "(LCanalSteps$Boat;)Z" } : Jvm.MethodName)) ∈ lw_all := lw_g (lw_at lw_m2 223 rfl) rfl
theorem q529 : (Jvm.Cond.selects "CanalSteps$Canal" ({ cls := "CanalSteps$Canal", name := "isAground", desc := "(LCanalSteps$Boat;)Z" } : Jvm.MethodName) ({ cls := "CanalSteps$Canal", name := "isAground", desc := "(LCanalSteps$Boat;)Z" } : Jvm.MethodName)) ∈ lw_all := lw_g (lw_at lw_m2 224 rfl) rfl
theorem q530 : (Jvm.Cond.code ({ cls := "CanalSteps$Canal", name := "isAground", desc := "(LCanalSteps$Boat;)Z" } : Jvm.MethodName) prog_3_method_8_code (2 : Nat) (Option.some Jvm.ClassFile.FieldType.boolean)) ∈ lw_all := lw_g (lw_at lw_m2 225 rfl) rfl
theorem q531 : (Jvm.Cond.methodLink "CanalSteps$Canal" (110 : Nat) ({ cls := "CanalSteps$Boat", name := "next", desc := "()I" } : Jvm.MethodName)) ∈ lw_all := lw_g (lw_at lw_m2 226 rfl) rfl
theorem q535 : (Jvm.Cond.methodLink "CanalSteps$Canal" (155 : Nat) ({ cls := "CanalSteps$Canal", name := "canTurn", desc := "(I)Z" } : Jvm.MethodName)) ∈ lw_all := lw_g (lw_at lw_m2 230 rfl) rfl
theorem q536 : (Jvm.Cond.methodLink "CanalSteps$Canal" (159 : Nat) ({ cls := "CanalSteps$Canal", name := "goThrough", desc := "(LCanalSteps$Boat;I)V" } : Jvm.MethodName)) ∈ lw_all := lw_g (lw_at lw_m2 231 rfl) rfl
theorem q537 : (Jvm.Cond.privateMethod ({ cls := "CanalSteps$Canal", name := "goThrough", desc := "(LCanalSteps$Boat;I)V" } : Jvm.MethodName)) ∈ lw_tbl := lw_at lw_m2 232 rfl
theorem q538 : (Jvm.Cond.instanceMethod ({ cls := "CanalSteps$Canal", name := "goThrough", desc := "(LCanalSteps$Boat;I)V" } : Jvm.MethodName)) ∈ lw_all := lw_g (lw_at lw_m2 233 rfl) rfl
theorem q539 : (Jvm.Cond.code ({ cls := "CanalSteps$Canal", name := "goThrough", desc := "(LCanalSteps$Boat;I)V" } : Jvm.MethodName) prog_3_method_16_code (3 : Nat) (Option.none : Option Jvm.ClassFile.FieldType)) ∈ lw_all := lw_g (lw_at lw_m2 234 rfl) rfl
theorem q540 : (Jvm.Cond.methodLink "CanalSteps$Canal" (126 : Nat) ({ cls := "CanalSteps$Canal", name := "turn", desc := "(I)V" } : Jvm.MethodName)) ∈ lw_all := lw_g (lw_at lw_m2 235 rfl) rfl
theorem q541 : (Jvm.Cond.methodLink "CanalSteps$Canal" (137 : Nat) ({ cls := "java/lang/Math", name := "min", desc := "(II)I" } : Jvm.MethodName)) ∈ lw_all := lw_g (lw_at lw_m2 236 rfl) rfl
theorem q542 : (Jvm.Cond.interfaceEntry "CanalSteps$Canal" (143 : Nat)) ∈ lw_tbl := lw_at lw_m2 237 rfl
theorem q543 : (Jvm.Cond.methodLink "CanalSteps$Canal" (143 : Nat) ({ cls := "java/util/List", name := "remove", desc := "(I)Ljava/lang/Object;" } : Jvm.MethodName)) ∈ lw_all := lw_g (lw_at lw_m2 238 rfl) rfl
theorem q544 : (Jvm.Cond.methodLink "CanalSteps$Canal" (172 : Nat) ({ cls := "CanalSteps$Canal", name := "spring", desc := "()V" } : Jvm.MethodName)) ∈ lw_all := lw_g (lw_at lw_m2 239 rfl) rfl
theorem q545 : (Jvm.Cond.privateMethod ({ cls := "CanalSteps$Canal", name := "spring", desc := "()V" } : Jvm.MethodName)) ∈ lw_tbl := lw_at lw_m3 0 rfl
theorem q546 : (Jvm.Cond.instanceMethod ({ cls := "CanalSteps$Canal", name := "spring", desc := "()V" } : Jvm.MethodName)) ∈ lw_all := lw_g (lw_at lw_m3 1 rfl) rfl
theorem q547 : (Jvm.Cond.code ({ cls := "CanalSteps$Canal", name := "spring", desc := "()V" } : Jvm.MethodName) prog_3_method_18_code (3 : Nat) (Option.none : Option Jvm.ClassFile.FieldType)) ∈ lw_all := lw_g (lw_at lw_m3 2 rfl) rfl
theorem q548 : (Jvm.Cond.methodLink "CanalSteps$Canal" (163 : Nat) ({ cls := "java/lang/Math", name := "max", desc := "(II)I" } : Jvm.MethodName)) ∈ lw_all := lw_g (lw_at lw_m3 3 rfl) rfl
theorem q800 : (Jvm.Cond.selects "CanalSteps$Canal" ({ cls := "java/lang/Object", name := "equals", desc := "(Ljava/lang/Object;)Z" } : Jvm.MethodName) ({ cls := "java/lang/Object", name := "equals", desc := "(Ljava/lang/Object;)Z" } : Jvm.MethodName)) ∈ lw_all := lw_g (lw_at lw_m4 15 rfl) rfl
theorem q827 : (Jvm.Cond.instanceMethod ({ cls := "CanalSteps$Canal", name := "setOf", desc := "(LCanalSteps$Choice;)I" } : Jvm.MethodName)) ∈ lw_all := lw_g (lw_at lw_m4 42 rfl) rfl
theorem q828 : (Jvm.Cond.selects "CanalSteps$Canal" ({ cls := "CanalSteps$Canal", name := "setOf", desc := "(LCanalSteps$Choice;)I" } : Jvm.MethodName) ({ cls := "CanalSteps$Canal", name := "setOf", desc := "(LCanalSteps$Choice;)I" } : Jvm.MethodName)) ∈ lw_all := lw_g (lw_at lw_m4 43 rfl) rfl
theorem q829 : (Jvm.Cond.code ({ cls := "CanalSteps$Canal", name := "setOf", desc := "(LCanalSteps$Choice;)I" } : Jvm.MethodName) prog_3_method_5_code (4 : Nat) (Option.some Jvm.ClassFile.FieldType.int)) ∈ lw_all := lw_g (lw_at lw_m4 44 rfl) rfl
theorem q842 : (Jvm.Cond.instanceMethod ({ cls := "CanalSteps$Canal", name := "refusal", desc := "(LCanalSteps$Boat;)I" } : Jvm.MethodName)) ∈ lw_all := lw_g (lw_at lw_m4 57 rfl) rfl
theorem q843 : (Jvm.Cond.selects "CanalSteps$Canal" ({ cls := "CanalSteps$Canal", name := "refusal", desc := "(LCanalSteps$Boat;)I" } : Jvm.MethodName) ({ cls := "CanalSteps$Canal", name := "refusal", desc := "(LCanalSteps$Boat;)I" } : Jvm.MethodName)) ∈ lw_all := lw_g (lw_at lw_m4 58 rfl) rfl
theorem q844 : (Jvm.Cond.code ({ cls := "CanalSteps$Canal", name := "refusal", desc := "(LCanalSteps$Boat;)I" } : Jvm.MethodName) prog_3_method_20_code (4 : Nat) (Option.some Jvm.ClassFile.FieldType.int)) ∈ lw_all := lw_g (lw_at lw_m4 59 rfl) rfl
theorem q845 : (Jvm.Cond.methodLink "CanalSteps$Canal" (175 : Nat) ({ cls := "CanalSteps$Boat", name := "lock", desc := "()I" } : Jvm.MethodName)) ∈ lw_all := lw_g (lw_at lw_m4 60 rfl) rfl
theorem q846 : (Jvm.Cond.methodLink "CanalSteps$Canal" (178 : Nat) ({ cls := "CanalSteps$Boat", name := "goesUp", desc := "()Z" } : Jvm.MethodName)) ∈ lw_all := lw_g (lw_at lw_m4 61 rfl) rfl
theorem q856 : (Jvm.Cond.static ({ cls := "CanalSteps$Canal", name := "sum", desc := "([I)I" } : Jvm.MethodName)) ∈ lw_all := lw_g (lw_at lw_m4 71 rfl) rfl
theorem q857 : (Jvm.Cond.code ({ cls := "CanalSteps$Canal", name := "sum", desc := "([I)I" } : Jvm.MethodName) prog_3_method_7_code (3 : Nat) (Option.some Jvm.ClassFile.FieldType.int)) ∈ lw_all := lw_g (lw_at lw_m4 72 rfl) rfl
theorem q882 : (Jvm.Cond.instanceMethod ({ cls := "CanalSteps$Canal", name := "highOnes", desc := "()I" } : Jvm.MethodName)) ∈ lw_all := lw_g (lw_at lw_m4 97 rfl) rfl
theorem q883 : (Jvm.Cond.selects "CanalSteps$Canal" ({ cls := "CanalSteps$Canal", name := "highOnes", desc := "()I" } : Jvm.MethodName) ({ cls := "CanalSteps$Canal", name := "highOnes", desc := "()I" } : Jvm.MethodName)) ∈ lw_all := lw_g (lw_at lw_m4 98 rfl) rfl
theorem q884 : (Jvm.Cond.code ({ cls := "CanalSteps$Canal", name := "highOnes", desc := "()I" } : Jvm.MethodName) prog_3_method_9_code (3 : Nat) (Option.some Jvm.ClassFile.FieldType.int)) ∈ lw_all := lw_g (lw_at lw_m4 99 rfl) rfl
theorem q1234 : (Jvm.Cond.castable "CanalSteps$Canal" "java/lang/Object") ∈ lw_tbl := lw_at lw_m5 209 rfl
theorem in_X1 : ∀ w ∈ wsX10, w ∈ lw_all := lw_in wsX10 [209, 211, 213, 215, 217, 219, 221, 223, 225, 227, 229, 231] (by decide +kernel) (by decide +kernel)
