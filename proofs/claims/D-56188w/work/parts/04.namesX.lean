/-! PendulumGym -/
set_option maxRecDepth 100000
def RX1 : String := "PendulumGym"
def TX1 : u_T := fun k => match k with
  | 0 => ("PendulumGym", "gym", "LPendulumGym$Gym;", false)
  | 1 => ("PendulumGym", "snapshot", "LPendulumGym$Gym;", false)
  | 2 => ("PendulumGym", "history", "Ljava/util/ArrayDeque;", true)
  | 3 => ("PendulumGym", "card", "Ljava/lang/String;", false)
  | 4 => ("PendulumGym", "buffer", "Ljava/lang/StringBuilder;", true)
  | 5 => ("PendulumGym", "errorPosition", "I", false)
  | _ => ("PendulumGym", "failedCommand", "I", false)
def tyX1 : Nat → FieldType := fun k => match k with
  | 0 => .object "PendulumGym$Gym"
  | 1 => .object "PendulumGym$Gym"
  | 2 => .object "java/util/ArrayDeque"
  | 3 => .object "java/lang/String"
  | 4 => .object "java/lang/StringBuilder"
  | 5 => .int
  | _ => .int
abbrev wsX10 : List Cond := u_ws RX1 TX1 7
theorem nmX1 : ∀ a, a < 7 → ∀ b, b < 7 → a ≠ b → (TX1 a).2.1 ≠ (TX1 b).2.1 := by decide +kernel
theorem tyX1_ok : ∀ k, k < 7 → parseFieldDescriptor (TX1 k).2.2.1 = some (tyX1 k) := by decide +kernel
abbrev cX1_init : ByteArray := prog_1_method_11_code
def yX1_init : MethodName := ⟨RX1, "<init>", "()V"⟩
def dkwX1_init_2 : List UInt8 := [181, 0, 83, 42, 2, 181, 0, 87, 177]
abbrev dktX1_init_2 : List UInt8 := dkwX1_init_2 ++ []
def dkwX1_init_1 : List UInt8 := [181, 0, 27, 42, 18, 70, 181, 0, 72, 42, 187, 0, 76, 89, 183, 0, 78, 181, 0, 79, 42, 2]
abbrev dktX1_init_1 : List UInt8 := dkwX1_init_1 ++ dktX1_init_2
def dkwX1_init_0 : List UInt8 := [42, 183, 0, 65, 42, 187, 0, 41, 89, 183, 0, 68, 181, 0, 43, 42, 187, 0, 32, 89, 183, 0, 69]
abbrev dktX1_init_0 : List UInt8 := dkwX1_init_0 ++ dktX1_init_1
theorem dksX1_init_0 : cX1_init.data.toList.drop 0 = dktX1_init_0 := by decide +kernel
theorem dksX1_init_1 : cX1_init.data.toList.drop 23 = dktX1_init_1 := dk_seg dksX1_init_0 23 rfl rfl
theorem dksX1_init_2 : cX1_init.data.toList.drop 45 = dktX1_init_2 := dk_seg dksX1_init_1 22 rfl rfl
theorem dX1_init_0 : decode cX1_init 0 = .ok (.aload_n 0, 1) := dk_42 (dk_at dksX1_init_0 0 rfl rfl)
theorem dX1_init_1 : decode cX1_init 1 = .ok (.invokespecial 65, 3) := dk_183 0 65 (dk_at dksX1_init_0 1 rfl rfl)
theorem dX1_init_4 : decode cX1_init 4 = .ok (.aload_n 0, 1) := dk_42 (dk_at dksX1_init_0 4 rfl rfl)
theorem dX1_init_5 : decode cX1_init 5 = .ok (.new 41, 3) := dk_187 0 41 (dk_at dksX1_init_0 5 rfl rfl)
theorem dX1_init_8 : decode cX1_init 8 = .ok (.dup, 1) := dk_89 (dk_at dksX1_init_0 8 rfl rfl)
theorem dX1_init_9 : decode cX1_init 9 = .ok (.invokespecial 68, 3) := dk_183 0 68 (dk_at dksX1_init_0 9 rfl rfl)
theorem dX1_init_12 : decode cX1_init 12 = .ok (.putfield 43, 3) := dk_181 0 43 (dk_at dksX1_init_0 12 rfl rfl)
theorem dX1_init_15 : decode cX1_init 15 = .ok (.aload_n 0, 1) := dk_42 (dk_at dksX1_init_0 15 rfl rfl)
theorem dX1_init_16 : decode cX1_init 16 = .ok (.new 32, 3) := dk_187 0 32 (dk_at dksX1_init_0 16 rfl rfl)
theorem dX1_init_19 : decode cX1_init 19 = .ok (.dup, 1) := dk_89 (dk_at dksX1_init_0 19 rfl rfl)
theorem dX1_init_20 : decode cX1_init 20 = .ok (.invokespecial 69, 3) := dk_183 0 69 (dk_at dksX1_init_0 20 rfl rfl)
theorem dX1_init_23 : decode cX1_init 23 = .ok (.putfield 27, 3) := dk_181 0 27 (dk_at dksX1_init_1 0 rfl rfl)
theorem dX1_init_26 : decode cX1_init 26 = .ok (.aload_n 0, 1) := dk_42 (dk_at dksX1_init_1 3 rfl rfl)
theorem dX1_init_27 : decode cX1_init 27 = .ok (.ldc 70, 2) := dk_18 70 (dk_at dksX1_init_1 4 rfl rfl)
theorem dX1_init_29 : decode cX1_init 29 = .ok (.putfield 72, 3) := dk_181 0 72 (dk_at dksX1_init_1 6 rfl rfl)
theorem dX1_init_32 : decode cX1_init 32 = .ok (.aload_n 0, 1) := dk_42 (dk_at dksX1_init_1 9 rfl rfl)
theorem dX1_init_33 : decode cX1_init 33 = .ok (.new 76, 3) := dk_187 0 76 (dk_at dksX1_init_1 10 rfl rfl)
theorem dX1_init_36 : decode cX1_init 36 = .ok (.dup, 1) := dk_89 (dk_at dksX1_init_1 13 rfl rfl)
theorem dX1_init_37 : decode cX1_init 37 = .ok (.invokespecial 78, 3) := dk_183 0 78 (dk_at dksX1_init_1 14 rfl rfl)
theorem dX1_init_40 : decode cX1_init 40 = .ok (.putfield 79, 3) := dk_181 0 79 (dk_at dksX1_init_1 17 rfl rfl)
theorem dX1_init_43 : decode cX1_init 43 = .ok (.aload_n 0, 1) := dk_42 (dk_at dksX1_init_1 20 rfl rfl)
theorem dX1_init_44 : decode cX1_init 44 = .ok (.iconst (-1), 1) := dk_2 (dk_at dksX1_init_1 21 rfl rfl)
theorem dX1_init_45 : decode cX1_init 45 = .ok (.putfield 83, 3) := dk_181 0 83 (dk_at dksX1_init_2 0 rfl rfl)
theorem dX1_init_48 : decode cX1_init 48 = .ok (.aload_n 0, 1) := dk_42 (dk_at dksX1_init_2 3 rfl rfl)
theorem dX1_init_49 : decode cX1_init 49 = .ok (.iconst (-1), 1) := dk_2 (dk_at dksX1_init_2 4 rfl rfl)
theorem dX1_init_50 : decode cX1_init 50 = .ok (.putfield 87, 3) := dk_181 0 87 (dk_at dksX1_init_2 5 rfl rfl)
theorem dX1_init_53 : decode cX1_init 53 = .ok (.return_, 1) := dk_177 (dk_at dksX1_init_2 8 rfl rfl)
abbrev cX1_pendulumCount : ByteArray := prog_1_method_17_code
def yX1_pendulumCount : MethodName := ⟨RX1, "pendulumCount", "()I"⟩
def dkwX1_pendulumCount_0 : List UInt8 := [42, 180, 0, 43, 180, 0, 103, 182, 0, 107, 172]
abbrev dktX1_pendulumCount_0 : List UInt8 := dkwX1_pendulumCount_0 ++ []
theorem dksX1_pendulumCount_0 : cX1_pendulumCount.data.toList.drop 0 = dktX1_pendulumCount_0 := by decide +kernel
theorem dX1_pendulumCount_0 : decode cX1_pendulumCount 0 = .ok (.aload_n 0, 1) := dk_42 (dk_at dksX1_pendulumCount_0 0 rfl rfl)
theorem dX1_pendulumCount_1 : decode cX1_pendulumCount 1 = .ok (.getfield 43, 3) := dk_180 0 43 (dk_at dksX1_pendulumCount_0 1 rfl rfl)
theorem dX1_pendulumCount_4 : decode cX1_pendulumCount 4 = .ok (.getfield 103, 3) := dk_180 0 103 (dk_at dksX1_pendulumCount_0 4 rfl rfl)
theorem dX1_pendulumCount_7 : decode cX1_pendulumCount 7 = .ok (.invokevirtual 107, 3) := dk_182 0 107 (dk_at dksX1_pendulumCount_0 7 rfl rfl)
theorem dX1_pendulumCount_10 : decode cX1_pendulumCount 10 = .ok (.ireturn, 1) := dk_172 (dk_at dksX1_pendulumCount_0 10 rfl rfl)
abbrev cX1_clock : ByteArray := prog_1_method_26_code
def yX1_clock : MethodName := ⟨RX1, "clock", "()I"⟩
def dkwX1_clock_0 : List UInt8 := [42, 180, 0, 43, 180, 0, 157, 172]
abbrev dktX1_clock_0 : List UInt8 := dkwX1_clock_0 ++ []
theorem dksX1_clock_0 : cX1_clock.data.toList.drop 0 = dktX1_clock_0 := by decide +kernel
theorem dX1_clock_0 : decode cX1_clock 0 = .ok (.aload_n 0, 1) := dk_42 (dk_at dksX1_clock_0 0 rfl rfl)
theorem dX1_clock_1 : decode cX1_clock 1 = .ok (.getfield 43, 3) := dk_180 0 43 (dk_at dksX1_clock_0 1 rfl rfl)
theorem dX1_clock_4 : decode cX1_clock 4 = .ok (.getfield 157, 3) := dk_180 0 157 (dk_at dksX1_clock_0 4 rfl rfl)
theorem dX1_clock_7 : decode cX1_clock 7 = .ok (.ireturn, 1) := dk_172 (dk_at dksX1_clock_0 7 rfl rfl)
abbrev cX1_friction : ByteArray := prog_1_method_27_code
def yX1_friction : MethodName := ⟨RX1, "friction", "()I"⟩
def dkwX1_friction_0 : List UInt8 := [42, 180, 0, 43, 180, 0, 160, 172]
abbrev dktX1_friction_0 : List UInt8 := dkwX1_friction_0 ++ []
theorem dksX1_friction_0 : cX1_friction.data.toList.drop 0 = dktX1_friction_0 := by decide +kernel
theorem dX1_friction_0 : decode cX1_friction 0 = .ok (.aload_n 0, 1) := dk_42 (dk_at dksX1_friction_0 0 rfl rfl)
theorem dX1_friction_1 : decode cX1_friction 1 = .ok (.getfield 43, 3) := dk_180 0 43 (dk_at dksX1_friction_0 1 rfl rfl)
theorem dX1_friction_4 : decode cX1_friction 4 = .ok (.getfield 160, 3) := dk_180 0 160 (dk_at dksX1_friction_0 4 rfl rfl)
theorem dX1_friction_7 : decode cX1_friction 7 = .ok (.ireturn, 1) := dk_172 (dk_at dksX1_friction_0 7 rfl rfl)
abbrev cX1_meetingPairs : ByteArray := prog_1_method_40_code
def yX1_meetingPairs : MethodName := ⟨RX1, "meetingPairs", "()I"⟩
def dkwX1_meetingPairs_3 : List UInt8 := [4, 167, 0, 4, 3, 96, 60, 132, 4, 1, 167, 255, 201, 132, 2, 1, 167, 255, 172, 27, 172]
abbrev dktX1_meetingPairs_3 : List UInt8 := dkwX1_meetingPairs_3 ++ []
def dkwX1_meetingPairs_2 : List UInt8 := [198, 0, 28, 42, 45, 42, 28, 182, 0, 192, 25, 5, 42, 21, 4, 182, 0, 192, 182, 0, 212, 153, 0, 7]
abbrev dktX1_meetingPairs_2 : List UInt8 := dkwX1_meetingPairs_2 ++ dktX1_meetingPairs_3
def dkwX1_meetingPairs_1 : List UInt8 := [3, 54, 4, 21, 4, 28, 162, 0, 55, 45, 198, 0, 51, 42, 21, 4, 182, 0, 135, 58, 5, 27, 25, 5]
abbrev dktX1_meetingPairs_1 : List UInt8 := dkwX1_meetingPairs_1 ++ dktX1_meetingPairs_2
def dkwX1_meetingPairs_0 : List UInt8 := [3, 60, 3, 61, 28, 42, 180, 0, 43, 180, 0, 103, 182, 0, 107, 162, 0, 76, 42, 28, 182, 0, 135, 78]
abbrev dktX1_meetingPairs_0 : List UInt8 := dkwX1_meetingPairs_0 ++ dktX1_meetingPairs_1
theorem dksX1_meetingPairs_0 : cX1_meetingPairs.data.toList.drop 0 = dktX1_meetingPairs_0 := by decide +kernel
theorem dksX1_meetingPairs_1 : cX1_meetingPairs.data.toList.drop 24 = dktX1_meetingPairs_1 := dk_seg dksX1_meetingPairs_0 24 rfl rfl
theorem dksX1_meetingPairs_2 : cX1_meetingPairs.data.toList.drop 48 = dktX1_meetingPairs_2 := dk_seg dksX1_meetingPairs_1 24 rfl rfl
theorem dksX1_meetingPairs_3 : cX1_meetingPairs.data.toList.drop 72 = dktX1_meetingPairs_3 := dk_seg dksX1_meetingPairs_2 24 rfl rfl
theorem dX1_meetingPairs_0 : decode cX1_meetingPairs 0 = .ok (.iconst 0, 1) := dk_3 (dk_at dksX1_meetingPairs_0 0 rfl rfl)
theorem dX1_meetingPairs_1 : decode cX1_meetingPairs 1 = .ok (.istore_n 1, 1) := dk_60 (dk_at dksX1_meetingPairs_0 1 rfl rfl)
theorem dX1_meetingPairs_2 : decode cX1_meetingPairs 2 = .ok (.iconst 0, 1) := dk_3 (dk_at dksX1_meetingPairs_0 2 rfl rfl)
theorem dX1_meetingPairs_3 : decode cX1_meetingPairs 3 = .ok (.istore_n 2, 1) := dk_61 (dk_at dksX1_meetingPairs_0 3 rfl rfl)
theorem dX1_meetingPairs_4 : decode cX1_meetingPairs 4 = .ok (.iload_n 2, 1) := dk_28 (dk_at dksX1_meetingPairs_0 4 rfl rfl)
theorem dX1_meetingPairs_5 : decode cX1_meetingPairs 5 = .ok (.aload_n 0, 1) := dk_42 (dk_at dksX1_meetingPairs_0 5 rfl rfl)
theorem dX1_meetingPairs_6 : decode cX1_meetingPairs 6 = .ok (.getfield 43, 3) := dk_180 0 43 (dk_at dksX1_meetingPairs_0 6 rfl rfl)
theorem dX1_meetingPairs_9 : decode cX1_meetingPairs 9 = .ok (.getfield 103, 3) := dk_180 0 103 (dk_at dksX1_meetingPairs_0 9 rfl rfl)
theorem dX1_meetingPairs_12 : decode cX1_meetingPairs 12 = .ok (.invokevirtual 107, 3) := dk_182 0 107 (dk_at dksX1_meetingPairs_0 12 rfl rfl)
theorem dX1_meetingPairs_15 : decode cX1_meetingPairs 15 = .ok (.if_icmp .ge 76, 3) := dk_162 0 76 (dk_at dksX1_meetingPairs_0 15 rfl rfl)
theorem dX1_meetingPairs_18 : decode cX1_meetingPairs 18 = .ok (.aload_n 0, 1) := dk_42 (dk_at dksX1_meetingPairs_0 18 rfl rfl)
theorem dX1_meetingPairs_19 : decode cX1_meetingPairs 19 = .ok (.iload_n 2, 1) := dk_28 (dk_at dksX1_meetingPairs_0 19 rfl rfl)
theorem dX1_meetingPairs_20 : decode cX1_meetingPairs 20 = .ok (.invokevirtual 135, 3) := dk_182 0 135 (dk_at dksX1_meetingPairs_0 20 rfl rfl)
theorem dX1_meetingPairs_23 : decode cX1_meetingPairs 23 = .ok (.astore_n 3, 1) := dk_78 (dk_at dksX1_meetingPairs_0 23 rfl rfl)
theorem dX1_meetingPairs_24 : decode cX1_meetingPairs 24 = .ok (.iconst 0, 1) := dk_3 (dk_at dksX1_meetingPairs_1 0 rfl rfl)
theorem dX1_meetingPairs_25 : decode cX1_meetingPairs 25 = .ok (.istore 4, 2) := dk_54 4 (dk_at dksX1_meetingPairs_1 1 rfl rfl)
theorem dX1_meetingPairs_27 : decode cX1_meetingPairs 27 = .ok (.iload 4, 2) := dk_21 4 (dk_at dksX1_meetingPairs_1 3 rfl rfl)
theorem dX1_meetingPairs_29 : decode cX1_meetingPairs 29 = .ok (.iload_n 2, 1) := dk_28 (dk_at dksX1_meetingPairs_1 5 rfl rfl)
theorem dX1_meetingPairs_30 : decode cX1_meetingPairs 30 = .ok (.if_icmp .ge 55, 3) := dk_162 0 55 (dk_at dksX1_meetingPairs_1 6 rfl rfl)
theorem dX1_meetingPairs_33 : decode cX1_meetingPairs 33 = .ok (.aload_n 3, 1) := dk_45 (dk_at dksX1_meetingPairs_1 9 rfl rfl)
theorem dX1_meetingPairs_34 : decode cX1_meetingPairs 34 = .ok (.ifnull 51, 3) := dk_198 0 51 (dk_at dksX1_meetingPairs_1 10 rfl rfl)
theorem dX1_meetingPairs_37 : decode cX1_meetingPairs 37 = .ok (.aload_n 0, 1) := dk_42 (dk_at dksX1_meetingPairs_1 13 rfl rfl)
theorem dX1_meetingPairs_38 : decode cX1_meetingPairs 38 = .ok (.iload 4, 2) := dk_21 4 (dk_at dksX1_meetingPairs_1 14 rfl rfl)
theorem dX1_meetingPairs_40 : decode cX1_meetingPairs 40 = .ok (.invokevirtual 135, 3) := dk_182 0 135 (dk_at dksX1_meetingPairs_1 16 rfl rfl)
theorem dX1_meetingPairs_43 : decode cX1_meetingPairs 43 = .ok (.astore 5, 2) := dk_58 5 (dk_at dksX1_meetingPairs_1 19 rfl rfl)
theorem dX1_meetingPairs_45 : decode cX1_meetingPairs 45 = .ok (.iload_n 1, 1) := dk_27 (dk_at dksX1_meetingPairs_1 21 rfl rfl)
theorem dX1_meetingPairs_46 : decode cX1_meetingPairs 46 = .ok (.aload 5, 2) := dk_25 5 (dk_at dksX1_meetingPairs_1 22 rfl rfl)
theorem dX1_meetingPairs_48 : decode cX1_meetingPairs 48 = .ok (.ifnull 28, 3) := dk_198 0 28 (dk_at dksX1_meetingPairs_2 0 rfl rfl)
theorem dX1_meetingPairs_51 : decode cX1_meetingPairs 51 = .ok (.aload_n 0, 1) := dk_42 (dk_at dksX1_meetingPairs_2 3 rfl rfl)
theorem dX1_meetingPairs_52 : decode cX1_meetingPairs 52 = .ok (.aload_n 3, 1) := dk_45 (dk_at dksX1_meetingPairs_2 4 rfl rfl)
theorem dX1_meetingPairs_53 : decode cX1_meetingPairs 53 = .ok (.aload_n 0, 1) := dk_42 (dk_at dksX1_meetingPairs_2 5 rfl rfl)
theorem dX1_meetingPairs_54 : decode cX1_meetingPairs 54 = .ok (.iload_n 2, 1) := dk_28 (dk_at dksX1_meetingPairs_2 6 rfl rfl)
theorem dX1_meetingPairs_55 : decode cX1_meetingPairs 55 = .ok (.invokevirtual 192, 3) := dk_182 0 192 (dk_at dksX1_meetingPairs_2 7 rfl rfl)
theorem dX1_meetingPairs_58 : decode cX1_meetingPairs 58 = .ok (.aload 5, 2) := dk_25 5 (dk_at dksX1_meetingPairs_2 10 rfl rfl)
theorem dX1_meetingPairs_60 : decode cX1_meetingPairs 60 = .ok (.aload_n 0, 1) := dk_42 (dk_at dksX1_meetingPairs_2 12 rfl rfl)
theorem dX1_meetingPairs_61 : decode cX1_meetingPairs 61 = .ok (.iload 4, 2) := dk_21 4 (dk_at dksX1_meetingPairs_2 13 rfl rfl)
theorem dX1_meetingPairs_63 : decode cX1_meetingPairs 63 = .ok (.invokevirtual 192, 3) := dk_182 0 192 (dk_at dksX1_meetingPairs_2 15 rfl rfl)
theorem dX1_meetingPairs_66 : decode cX1_meetingPairs 66 = .ok (.invokevirtual 212, 3) := dk_182 0 212 (dk_at dksX1_meetingPairs_2 18 rfl rfl)
theorem dX1_meetingPairs_69 : decode cX1_meetingPairs 69 = .ok (.ifCond .eq 7, 3) := dk_153 0 7 (dk_at dksX1_meetingPairs_2 21 rfl rfl)
theorem dX1_meetingPairs_72 : decode cX1_meetingPairs 72 = .ok (.iconst 1, 1) := dk_4 (dk_at dksX1_meetingPairs_3 0 rfl rfl)
theorem dX1_meetingPairs_73 : decode cX1_meetingPairs 73 = .ok (.goto 4, 3) := dk_167 0 4 (dk_at dksX1_meetingPairs_3 1 rfl rfl)
theorem dX1_meetingPairs_76 : decode cX1_meetingPairs 76 = .ok (.iconst 0, 1) := dk_3 (dk_at dksX1_meetingPairs_3 4 rfl rfl)
theorem dX1_meetingPairs_77 : decode cX1_meetingPairs 77 = .ok (.iadd, 1) := dk_96 (dk_at dksX1_meetingPairs_3 5 rfl rfl)
theorem dX1_meetingPairs_78 : decode cX1_meetingPairs 78 = .ok (.istore_n 1, 1) := dk_60 (dk_at dksX1_meetingPairs_3 6 rfl rfl)
theorem dX1_meetingPairs_79 : decode cX1_meetingPairs 79 = .ok (.iinc 4 1, 3) := dk_132 4 1 (dk_at dksX1_meetingPairs_3 7 rfl rfl)
theorem dX1_meetingPairs_82 : decode cX1_meetingPairs 82 = .ok (.goto (-55), 3) := dk_167 255 201 (dk_at dksX1_meetingPairs_3 10 rfl rfl)
theorem dX1_meetingPairs_85 : decode cX1_meetingPairs 85 = .ok (.iinc 2 1, 3) := dk_132 2 1 (dk_at dksX1_meetingPairs_3 13 rfl rfl)
theorem dX1_meetingPairs_88 : decode cX1_meetingPairs 88 = .ok (.goto (-84), 3) := dk_167 255 172 (dk_at dksX1_meetingPairs_3 16 rfl rfl)
theorem dX1_meetingPairs_91 : decode cX1_meetingPairs 91 = .ok (.iload_n 1, 1) := dk_27 (dk_at dksX1_meetingPairs_3 19 rfl rfl)
theorem dX1_meetingPairs_92 : decode cX1_meetingPairs 92 = .ok (.ireturn, 1) := dk_172 (dk_at dksX1_meetingPairs_3 20 rfl rfl)
abbrev cX1_motionOf : ByteArray := prog_1_method_21_code
def yX1_motionOf : MethodName := ⟨RX1, "motionOf", "(I)LPendulumGym$Swinging;"⟩
def dkwX1_motionOf_0 : List UInt8 := [42, 180, 0, 43, 42, 180, 0, 43, 27, 182, 0, 110, 182, 0, 131, 176]
abbrev dktX1_motionOf_0 : List UInt8 := dkwX1_motionOf_0 ++ []
theorem dksX1_motionOf_0 : cX1_motionOf.data.toList.drop 0 = dktX1_motionOf_0 := by decide +kernel
theorem dX1_motionOf_0 : decode cX1_motionOf 0 = .ok (.aload_n 0, 1) := dk_42 (dk_at dksX1_motionOf_0 0 rfl rfl)
theorem dX1_motionOf_1 : decode cX1_motionOf 1 = .ok (.getfield 43, 3) := dk_180 0 43 (dk_at dksX1_motionOf_0 1 rfl rfl)
theorem dX1_motionOf_4 : decode cX1_motionOf 4 = .ok (.aload_n 0, 1) := dk_42 (dk_at dksX1_motionOf_0 4 rfl rfl)
theorem dX1_motionOf_5 : decode cX1_motionOf 5 = .ok (.getfield 43, 3) := dk_180 0 43 (dk_at dksX1_motionOf_0 5 rfl rfl)
theorem dX1_motionOf_8 : decode cX1_motionOf 8 = .ok (.iload_n 1, 1) := dk_27 (dk_at dksX1_motionOf_0 8 rfl rfl)
theorem dX1_motionOf_9 : decode cX1_motionOf 9 = .ok (.invokevirtual 110, 3) := dk_182 0 110 (dk_at dksX1_motionOf_0 9 rfl rfl)
theorem dX1_motionOf_12 : decode cX1_motionOf 12 = .ok (.invokevirtual 131, 3) := dk_182 0 131 (dk_at dksX1_motionOf_0 12 rfl rfl)
theorem dX1_motionOf_15 : decode cX1_motionOf 15 = .ok (.areturn, 1) := dk_176 (dk_at dksX1_motionOf_0 15 rfl rfl)
abbrev cX1_isBetween : ByteArray := prog_1_method_1_code
def yX1_isBetween : MethodName := ⟨RX1, "isBetween", "(III)Z"⟩
def dkwX1_isBetween_0 : List UInt8 := [26, 27, 161, 0, 12, 26, 28, 163, 0, 7, 4, 167, 0, 4, 3, 172]
abbrev dktX1_isBetween_0 : List UInt8 := dkwX1_isBetween_0 ++ []
theorem dksX1_isBetween_0 : cX1_isBetween.data.toList.drop 0 = dktX1_isBetween_0 := by decide +kernel
theorem dX1_isBetween_0 : decode cX1_isBetween 0 = .ok (.iload_n 0, 1) := dk_26 (dk_at dksX1_isBetween_0 0 rfl rfl)
theorem dX1_isBetween_1 : decode cX1_isBetween 1 = .ok (.iload_n 1, 1) := dk_27 (dk_at dksX1_isBetween_0 1 rfl rfl)
theorem dX1_isBetween_2 : decode cX1_isBetween 2 = .ok (.if_icmp .lt 12, 3) := dk_161 0 12 (dk_at dksX1_isBetween_0 2 rfl rfl)
theorem dX1_isBetween_5 : decode cX1_isBetween 5 = .ok (.iload_n 0, 1) := dk_26 (dk_at dksX1_isBetween_0 5 rfl rfl)
theorem dX1_isBetween_6 : decode cX1_isBetween 6 = .ok (.iload_n 2, 1) := dk_28 (dk_at dksX1_isBetween_0 6 rfl rfl)
theorem dX1_isBetween_7 : decode cX1_isBetween 7 = .ok (.if_icmp .gt 7, 3) := dk_163 0 7 (dk_at dksX1_isBetween_0 7 rfl rfl)
theorem dX1_isBetween_10 : decode cX1_isBetween 10 = .ok (.iconst 1, 1) := dk_4 (dk_at dksX1_isBetween_0 10 rfl rfl)
theorem dX1_isBetween_11 : decode cX1_isBetween 11 = .ok (.goto 4, 3) := dk_167 0 4 (dk_at dksX1_isBetween_0 11 rfl rfl)
theorem dX1_isBetween_14 : decode cX1_isBetween 14 = .ok (.iconst 0, 1) := dk_3 (dk_at dksX1_isBetween_0 14 rfl rfl)
theorem dX1_isBetween_15 : decode cX1_isBetween 15 = .ok (.ireturn, 1) := dk_172 (dk_at dksX1_isBetween_0 15 rfl rfl)
abbrev cX1_requireIndex : ByteArray := prog_1_method_2_code
def yX1_requireIndex : MethodName := ⟨RX1, "requireIndex", "(Z)V"⟩
def dkwX1_requireIndex_0 : List UInt8 := [26, 154, 0, 11, 187, 0, 1, 89, 183, 0, 3, 191, 177]
abbrev dktX1_requireIndex_0 : List UInt8 := dkwX1_requireIndex_0 ++ []
theorem dksX1_requireIndex_0 : cX1_requireIndex.data.toList.drop 0 = dktX1_requireIndex_0 := by decide +kernel
theorem dX1_requireIndex_0 : decode cX1_requireIndex 0 = .ok (.iload_n 0, 1) := dk_26 (dk_at dksX1_requireIndex_0 0 rfl rfl)
theorem dX1_requireIndex_1 : decode cX1_requireIndex 1 = .ok (.ifCond .ne 11, 3) := dk_154 0 11 (dk_at dksX1_requireIndex_0 1 rfl rfl)
theorem dX1_requireIndex_4 : decode cX1_requireIndex 4 = .ok (.new 1, 3) := dk_187 0 1 (dk_at dksX1_requireIndex_0 4 rfl rfl)
theorem dX1_requireIndex_7 : decode cX1_requireIndex 7 = .ok (.dup, 1) := dk_89 (dk_at dksX1_requireIndex_0 7 rfl rfl)
theorem dX1_requireIndex_8 : decode cX1_requireIndex 8 = .ok (.invokespecial 3, 3) := dk_183 0 3 (dk_at dksX1_requireIndex_0 8 rfl rfl)
theorem dX1_requireIndex_11 : decode cX1_requireIndex 11 = .ok (.athrow, 1) := dk_191 (dk_at dksX1_requireIndex_0 11 rfl rfl)
theorem dX1_requireIndex_12 : decode cX1_requireIndex 12 = .ok (.return_, 1) := dk_177 (dk_at dksX1_requireIndex_0 12 rfl rfl)
abbrev cX1_periodOf : ByteArray := prog_1_method_23_code
def yX1_periodOf : MethodName := ⟨RX1, "periodOf", "(I)I"⟩
def dkwX1_periodOf_0 : List UInt8 := [42, 180, 0, 43, 27, 182, 0, 110, 182, 0, 148, 172]
abbrev dktX1_periodOf_0 : List UInt8 := dkwX1_periodOf_0 ++ []
theorem dksX1_periodOf_0 : cX1_periodOf.data.toList.drop 0 = dktX1_periodOf_0 := by decide +kernel
theorem dX1_periodOf_0 : decode cX1_periodOf 0 = .ok (.aload_n 0, 1) := dk_42 (dk_at dksX1_periodOf_0 0 rfl rfl)
theorem dX1_periodOf_1 : decode cX1_periodOf 1 = .ok (.getfield 43, 3) := dk_180 0 43 (dk_at dksX1_periodOf_0 1 rfl rfl)
theorem dX1_periodOf_4 : decode cX1_periodOf 4 = .ok (.iload_n 1, 1) := dk_27 (dk_at dksX1_periodOf_0 4 rfl rfl)
theorem dX1_periodOf_5 : decode cX1_periodOf 5 = .ok (.invokevirtual 110, 3) := dk_182 0 110 (dk_at dksX1_periodOf_0 5 rfl rfl)
theorem dX1_periodOf_8 : decode cX1_periodOf 8 = .ok (.invokevirtual 148, 3) := dk_182 0 148 (dk_at dksX1_periodOf_0 8 rfl rfl)
theorem dX1_periodOf_11 : decode cX1_periodOf 11 = .ok (.ireturn, 1) := dk_172 (dk_at dksX1_periodOf_0 11 rfl rfl)
abbrev cX1_doMeet : ByteArray := prog_1_method_38_code
def yX1_doMeet : MethodName := ⟨RX1, "doMeet", "(LPendulumGym$Swinging;ILPendulumGym$Swinging;I)Z"⟩
def dkwX1_doMeet_1 : List UInt8 := [172]
abbrev dktX1_doMeet_1 : List UInt8 := dkwX1_doMeet_1 ++ []
def dkwX1_doMeet_0 : List UInt8 := [43, 180, 0, 143, 45, 180, 0, 143, 100, 28, 21, 4, 184, 0, 16, 112, 154, 0, 7, 4, 167, 0, 4, 3]
abbrev dktX1_doMeet_0 : List UInt8 := dkwX1_doMeet_0 ++ dktX1_doMeet_1
theorem dksX1_doMeet_0 : cX1_doMeet.data.toList.drop 0 = dktX1_doMeet_0 := by decide +kernel
theorem dksX1_doMeet_1 : cX1_doMeet.data.toList.drop 24 = dktX1_doMeet_1 := dk_seg dksX1_doMeet_0 24 rfl rfl
theorem dX1_doMeet_0 : decode cX1_doMeet 0 = .ok (.aload_n 1, 1) := dk_43 (dk_at dksX1_doMeet_0 0 rfl rfl)
theorem dX1_doMeet_1 : decode cX1_doMeet 1 = .ok (.getfield 143, 3) := dk_180 0 143 (dk_at dksX1_doMeet_0 1 rfl rfl)
theorem dX1_doMeet_4 : decode cX1_doMeet 4 = .ok (.aload_n 3, 1) := dk_45 (dk_at dksX1_doMeet_0 4 rfl rfl)
theorem dX1_doMeet_5 : decode cX1_doMeet 5 = .ok (.getfield 143, 3) := dk_180 0 143 (dk_at dksX1_doMeet_0 5 rfl rfl)
theorem dX1_doMeet_8 : decode cX1_doMeet 8 = .ok (.isub, 1) := dk_100 (dk_at dksX1_doMeet_0 8 rfl rfl)
theorem dX1_doMeet_9 : decode cX1_doMeet 9 = .ok (.iload_n 2, 1) := dk_28 (dk_at dksX1_doMeet_0 9 rfl rfl)
theorem dX1_doMeet_10 : decode cX1_doMeet 10 = .ok (.iload 4, 2) := dk_21 4 (dk_at dksX1_doMeet_0 10 rfl rfl)
theorem dX1_doMeet_12 : decode cX1_doMeet 12 = .ok (.invokestatic 16, 3) := dk_184 0 16 (dk_at dksX1_doMeet_0 12 rfl rfl)
theorem dX1_doMeet_15 : decode cX1_doMeet 15 = .ok (.irem, 1) := dk_112 (dk_at dksX1_doMeet_0 15 rfl rfl)
theorem dX1_doMeet_16 : decode cX1_doMeet 16 = .ok (.ifCond .ne 7, 3) := dk_154 0 7 (dk_at dksX1_doMeet_0 16 rfl rfl)
theorem dX1_doMeet_19 : decode cX1_doMeet 19 = .ok (.iconst 1, 1) := dk_4 (dk_at dksX1_doMeet_0 19 rfl rfl)
theorem dX1_doMeet_20 : decode cX1_doMeet 20 = .ok (.goto 4, 3) := dk_167 0 4 (dk_at dksX1_doMeet_0 20 rfl rfl)
theorem dX1_doMeet_23 : decode cX1_doMeet 23 = .ok (.iconst 0, 1) := dk_3 (dk_at dksX1_doMeet_0 23 rfl rfl)
theorem dX1_doMeet_24 : decode cX1_doMeet 24 = .ok (.ireturn, 1) := dk_172 (dk_at dksX1_doMeet_1 0 rfl rfl)
abbrev cX1_commonDivisor : ByteArray := prog_1_method_6_code
def yX1_commonDivisor : MethodName := ⟨RX1, "commonDivisor", "(II)I"⟩
def dkwX1_commonDivisor_0 : List UInt8 := [27, 154, 0, 7, 26, 167, 0, 10, 27, 26, 27, 112, 184, 0, 16, 172]
abbrev dktX1_commonDivisor_0 : List UInt8 := dkwX1_commonDivisor_0 ++ []
theorem dksX1_commonDivisor_0 : cX1_commonDivisor.data.toList.drop 0 = dktX1_commonDivisor_0 := by decide +kernel
theorem dX1_commonDivisor_0 : decode cX1_commonDivisor 0 = .ok (.iload_n 1, 1) := dk_27 (dk_at dksX1_commonDivisor_0 0 rfl rfl)
theorem dX1_commonDivisor_1 : decode cX1_commonDivisor 1 = .ok (.ifCond .ne 7, 3) := dk_154 0 7 (dk_at dksX1_commonDivisor_0 1 rfl rfl)
theorem dX1_commonDivisor_4 : decode cX1_commonDivisor 4 = .ok (.iload_n 0, 1) := dk_26 (dk_at dksX1_commonDivisor_0 4 rfl rfl)
theorem dX1_commonDivisor_5 : decode cX1_commonDivisor 5 = .ok (.goto 10, 3) := dk_167 0 10 (dk_at dksX1_commonDivisor_0 5 rfl rfl)
theorem dX1_commonDivisor_8 : decode cX1_commonDivisor 8 = .ok (.iload_n 1, 1) := dk_27 (dk_at dksX1_commonDivisor_0 8 rfl rfl)
theorem dX1_commonDivisor_9 : decode cX1_commonDivisor 9 = .ok (.iload_n 0, 1) := dk_26 (dk_at dksX1_commonDivisor_0 9 rfl rfl)
theorem dX1_commonDivisor_10 : decode cX1_commonDivisor 10 = .ok (.iload_n 1, 1) := dk_27 (dk_at dksX1_commonDivisor_0 10 rfl rfl)
theorem dX1_commonDivisor_11 : decode cX1_commonDivisor 11 = .ok (.irem, 1) := dk_112 (dk_at dksX1_commonDivisor_0 11 rfl rfl)
theorem dX1_commonDivisor_12 : decode cX1_commonDivisor 12 = .ok (.invokestatic 16, 3) := dk_184 0 16 (dk_at dksX1_commonDivisor_0 12 rfl rfl)
theorem dX1_commonDivisor_15 : decode cX1_commonDivisor 15 = .ok (.ireturn, 1) := dk_172 (dk_at dksX1_commonDivisor_0 15 rfl rfl)
abbrev cX1_legCount : ByteArray := prog_1_method_44_code
def yX1_legCount : MethodName := ⟨RX1, "legCount", "()I"⟩
def dkwX1_legCount_0 : List UInt8 := [42, 180, 0, 43, 180, 0, 224, 182, 0, 107, 172]
abbrev dktX1_legCount_0 : List UInt8 := dkwX1_legCount_0 ++ []
theorem dksX1_legCount_0 : cX1_legCount.data.toList.drop 0 = dktX1_legCount_0 := by decide +kernel
theorem dX1_legCount_0 : decode cX1_legCount 0 = .ok (.aload_n 0, 1) := dk_42 (dk_at dksX1_legCount_0 0 rfl rfl)
theorem dX1_legCount_1 : decode cX1_legCount 1 = .ok (.getfield 43, 3) := dk_180 0 43 (dk_at dksX1_legCount_0 1 rfl rfl)
theorem dX1_legCount_4 : decode cX1_legCount 4 = .ok (.getfield 224, 3) := dk_180 0 224 (dk_at dksX1_legCount_0 4 rfl rfl)
theorem dX1_legCount_7 : decode cX1_legCount 7 = .ok (.invokevirtual 107, 3) := dk_182 0 107 (dk_at dksX1_legCount_0 7 rfl rfl)
theorem dX1_legCount_10 : decode cX1_legCount 10 = .ok (.ireturn, 1) := dk_172 (dk_at dksX1_legCount_0 10 rfl rfl)
abbrev cX1_save : ByteArray := prog_1_method_69_code
def yX1_save : MethodName := ⟨RX1, "save", "()I"⟩
def dkwX1_save_0 : List UInt8 := [42, 42, 180, 0, 43, 182, 0, 51, 181, 1, 119, 42, 180, 0, 43, 180, 0, 157, 172]
abbrev dktX1_save_0 : List UInt8 := dkwX1_save_0 ++ []
theorem dksX1_save_0 : cX1_save.data.toList.drop 0 = dktX1_save_0 := by decide +kernel
theorem dX1_save_0 : decode cX1_save 0 = .ok (.aload_n 0, 1) := dk_42 (dk_at dksX1_save_0 0 rfl rfl)
theorem dX1_save_1 : decode cX1_save 1 = .ok (.aload_n 0, 1) := dk_42 (dk_at dksX1_save_0 1 rfl rfl)
theorem dX1_save_2 : decode cX1_save 2 = .ok (.getfield 43, 3) := dk_180 0 43 (dk_at dksX1_save_0 2 rfl rfl)
theorem dX1_save_5 : decode cX1_save 5 = .ok (.invokevirtual 51, 3) := dk_182 0 51 (dk_at dksX1_save_0 5 rfl rfl)
theorem dX1_save_8 : decode cX1_save 8 = .ok (.putfield 375, 3) := dk_181 1 119 (dk_at dksX1_save_0 8 rfl rfl)
theorem dX1_save_11 : decode cX1_save 11 = .ok (.aload_n 0, 1) := dk_42 (dk_at dksX1_save_0 11 rfl rfl)
theorem dX1_save_12 : decode cX1_save 12 = .ok (.getfield 43, 3) := dk_180 0 43 (dk_at dksX1_save_0 12 rfl rfl)
theorem dX1_save_15 : decode cX1_save 15 = .ok (.getfield 157, 3) := dk_180 0 157 (dk_at dksX1_save_0 15 rfl rfl)
theorem dX1_save_18 : decode cX1_save 18 = .ok (.ireturn, 1) := dk_172 (dk_at dksX1_save_0 18 rfl rfl)
abbrev cX1_addPendulum : ByteArray := prog_1_method_12_code
def yX1_addPendulum : MethodName := ⟨RX1, "addPendulum", "(I)I"⟩
def dkwX1_addPendulum_0 : List UInt8 := [42, 27, 186, 0, 90, 0, 0, 182, 0, 93, 172]
abbrev dktX1_addPendulum_0 : List UInt8 := dkwX1_addPendulum_0 ++ []
theorem dksX1_addPendulum_0 : cX1_addPendulum.data.toList.drop 0 = dktX1_addPendulum_0 := by decide +kernel
theorem dX1_addPendulum_0 : decode cX1_addPendulum 0 = .ok (.aload_n 0, 1) := dk_42 (dk_at dksX1_addPendulum_0 0 rfl rfl)
theorem dX1_addPendulum_1 : decode cX1_addPendulum 1 = .ok (.iload_n 1, 1) := dk_27 (dk_at dksX1_addPendulum_0 1 rfl rfl)
theorem dX1_addPendulum_2 : decode cX1_addPendulum 2 = .ok (.invokedynamic 90, 5) := by decide +kernel
theorem dX1_addPendulum_7 : decode cX1_addPendulum 7 = .ok (.invokevirtual 93, 3) := dk_182 0 93 (dk_at dksX1_addPendulum_0 7 rfl rfl)
theorem dX1_addPendulum_10 : decode cX1_addPendulum 10 = .ok (.ireturn, 1) := dk_172 (dk_at dksX1_addPendulum_0 10 rfl rfl)
abbrev cX1_lambda_addPendulum_0 : ByteArray := prog_1_method_81_code
def yX1_lambda_addPendulum_0 : MethodName := ⟨RX1, "lambda$addPendulum$0", "(ILPendulumGym$Gym;)I"⟩
def dkwX1_lambda_addPendulum_0_0 : List UInt8 := [43, 26, 182, 1, 149, 172]
abbrev dktX1_lambda_addPendulum_0_0 : List UInt8 := dkwX1_lambda_addPendulum_0_0 ++ []
theorem dksX1_lambda_addPendulum_0_0 : cX1_lambda_addPendulum_0.data.toList.drop 0 = dktX1_lambda_addPendulum_0_0 := by decide +kernel
theorem dX1_lambda_addPendulum_0_0 : decode cX1_lambda_addPendulum_0 0 = .ok (.aload_n 1, 1) := dk_43 (dk_at dksX1_lambda_addPendulum_0_0 0 rfl rfl)
theorem dX1_lambda_addPendulum_0_1 : decode cX1_lambda_addPendulum_0 1 = .ok (.iload_n 0, 1) := dk_26 (dk_at dksX1_lambda_addPendulum_0_0 1 rfl rfl)
theorem dX1_lambda_addPendulum_0_2 : decode cX1_lambda_addPendulum_0 2 = .ok (.invokevirtual 405, 3) := dk_182 1 149 (dk_at dksX1_lambda_addPendulum_0_0 2 rfl rfl)
theorem dX1_lambda_addPendulum_0_5 : decode cX1_lambda_addPendulum_0 5 = .ok (.ireturn, 1) := dk_172 (dk_at dksX1_lambda_addPendulum_0_0 5 rfl rfl)
abbrev cX1_requireArgument : ByteArray := prog_1_method_3_code
def yX1_requireArgument : MethodName := ⟨RX1, "requireArgument", "(Z)V"⟩
def dkwX1_requireArgument_0 : List UInt8 := [26, 154, 0, 11, 187, 0, 7, 89, 183, 0, 9, 191, 177]
abbrev dktX1_requireArgument_0 : List UInt8 := dkwX1_requireArgument_0 ++ []
theorem dksX1_requireArgument_0 : cX1_requireArgument.data.toList.drop 0 = dktX1_requireArgument_0 := by decide +kernel
theorem dX1_requireArgument_0 : decode cX1_requireArgument 0 = .ok (.iload_n 0, 1) := dk_26 (dk_at dksX1_requireArgument_0 0 rfl rfl)
theorem dX1_requireArgument_1 : decode cX1_requireArgument 1 = .ok (.ifCond .ne 11, 3) := dk_154 0 11 (dk_at dksX1_requireArgument_0 1 rfl rfl)
theorem dX1_requireArgument_4 : decode cX1_requireArgument 4 = .ok (.new 7, 3) := dk_187 0 7 (dk_at dksX1_requireArgument_0 4 rfl rfl)
theorem dX1_requireArgument_7 : decode cX1_requireArgument 7 = .ok (.dup, 1) := dk_89 (dk_at dksX1_requireArgument_0 7 rfl rfl)
theorem dX1_requireArgument_8 : decode cX1_requireArgument 8 = .ok (.invokespecial 9, 3) := dk_183 0 9 (dk_at dksX1_requireArgument_0 8 rfl rfl)
theorem dX1_requireArgument_11 : decode cX1_requireArgument 11 = .ok (.athrow, 1) := dk_191 (dk_at dksX1_requireArgument_0 11 rfl rfl)
theorem dX1_requireArgument_12 : decode cX1_requireArgument 12 = .ok (.return_, 1) := dk_177 (dk_at dksX1_requireArgument_0 12 rfl rfl)
abbrev cX1_requireState : ByteArray := prog_1_method_4_code
def yX1_requireState : MethodName := ⟨RX1, "requireState", "(Z)V"⟩
def dkwX1_requireState_0 : List UInt8 := [26, 154, 0, 11, 187, 0, 10, 89, 183, 0, 12, 191, 177]
abbrev dktX1_requireState_0 : List UInt8 := dkwX1_requireState_0 ++ []
theorem dksX1_requireState_0 : cX1_requireState.data.toList.drop 0 = dktX1_requireState_0 := by decide +kernel
theorem dX1_requireState_0 : decode cX1_requireState 0 = .ok (.iload_n 0, 1) := dk_26 (dk_at dksX1_requireState_0 0 rfl rfl)
theorem dX1_requireState_1 : decode cX1_requireState 1 = .ok (.ifCond .ne 11, 3) := dk_154 0 11 (dk_at dksX1_requireState_0 1 rfl rfl)
theorem dX1_requireState_4 : decode cX1_requireState 4 = .ok (.new 10, 3) := dk_187 0 10 (dk_at dksX1_requireState_0 4 rfl rfl)
theorem dX1_requireState_7 : decode cX1_requireState 7 = .ok (.dup, 1) := dk_89 (dk_at dksX1_requireState_0 7 rfl rfl)
theorem dX1_requireState_8 : decode cX1_requireState 8 = .ok (.invokespecial 12, 3) := dk_183 0 12 (dk_at dksX1_requireState_0 8 rfl rfl)
theorem dX1_requireState_11 : decode cX1_requireState 11 = .ok (.athrow, 1) := dk_191 (dk_at dksX1_requireState_0 11 rfl rfl)
theorem dX1_requireState_12 : decode cX1_requireState 12 = .ok (.return_, 1) := dk_177 (dk_at dksX1_requireState_0 12 rfl rfl)
abbrev cX1_modify : ByteArray := prog_1_method_10_code
def yX1_modify : MethodName := ⟨RX1, "modify", "(LPendulumGym$Modification;)I"⟩
def dkwX1_modify_0 : List UInt8 := [42, 180, 0, 43, 182, 0, 51, 77, 42, 44, 43, 44, 185, 0, 55, 2, 0, 182, 0, 61, 172]
abbrev dktX1_modify_0 : List UInt8 := dkwX1_modify_0 ++ []
theorem dksX1_modify_0 : cX1_modify.data.toList.drop 0 = dktX1_modify_0 := by decide +kernel
theorem dX1_modify_0 : decode cX1_modify 0 = .ok (.aload_n 0, 1) := dk_42 (dk_at dksX1_modify_0 0 rfl rfl)
theorem dX1_modify_1 : decode cX1_modify 1 = .ok (.getfield 43, 3) := dk_180 0 43 (dk_at dksX1_modify_0 1 rfl rfl)
theorem dX1_modify_4 : decode cX1_modify 4 = .ok (.invokevirtual 51, 3) := dk_182 0 51 (dk_at dksX1_modify_0 4 rfl rfl)
theorem dX1_modify_7 : decode cX1_modify 7 = .ok (.astore_n 2, 1) := dk_77 (dk_at dksX1_modify_0 7 rfl rfl)
theorem dX1_modify_8 : decode cX1_modify 8 = .ok (.aload_n 0, 1) := dk_42 (dk_at dksX1_modify_0 8 rfl rfl)
theorem dX1_modify_9 : decode cX1_modify 9 = .ok (.aload_n 2, 1) := dk_44 (dk_at dksX1_modify_0 9 rfl rfl)
theorem dX1_modify_10 : decode cX1_modify 10 = .ok (.aload_n 1, 1) := dk_43 (dk_at dksX1_modify_0 10 rfl rfl)
theorem dX1_modify_11 : decode cX1_modify 11 = .ok (.aload_n 2, 1) := dk_44 (dk_at dksX1_modify_0 11 rfl rfl)
theorem dX1_modify_12 : decode cX1_modify 12 = .ok (.invokeinterface 55 2, 5) := by decide +kernel
theorem dX1_modify_17 : decode cX1_modify 17 = .ok (.invokevirtual 61, 3) := dk_182 0 61 (dk_at dksX1_modify_0 17 rfl rfl)
theorem dX1_modify_20 : decode cX1_modify 20 = .ok (.ireturn, 1) := dk_172 (dk_at dksX1_modify_0 20 rfl rfl)
abbrev cX1_commit : ByteArray := prog_1_method_9_code
def yX1_commit : MethodName := ⟨RX1, "commit", "(LPendulumGym$Gym;I)I"⟩
def dkwX1_commit_1 : List UInt8 := [180, 0, 27, 42, 180, 0, 43, 182, 0, 47, 42, 43, 181, 0, 43, 28, 172]
abbrev dktX1_commit_1 : List UInt8 := dkwX1_commit_1 ++ []
def dkwX1_commit_0 : List UInt8 := [42, 180, 0, 27, 182, 0, 31, 16, 8, 160, 0, 14, 42, 180, 0, 27, 182, 0, 37, 192, 0, 41, 78, 42]
abbrev dktX1_commit_0 : List UInt8 := dkwX1_commit_0 ++ dktX1_commit_1
theorem dksX1_commit_0 : cX1_commit.data.toList.drop 0 = dktX1_commit_0 := by decide +kernel
theorem dksX1_commit_1 : cX1_commit.data.toList.drop 24 = dktX1_commit_1 := dk_seg dksX1_commit_0 24 rfl rfl
theorem dX1_commit_0 : decode cX1_commit 0 = .ok (.aload_n 0, 1) := dk_42 (dk_at dksX1_commit_0 0 rfl rfl)
theorem dX1_commit_1 : decode cX1_commit 1 = .ok (.getfield 27, 3) := dk_180 0 27 (dk_at dksX1_commit_0 1 rfl rfl)
theorem dX1_commit_4 : decode cX1_commit 4 = .ok (.invokevirtual 31, 3) := dk_182 0 31 (dk_at dksX1_commit_0 4 rfl rfl)
theorem dX1_commit_7 : decode cX1_commit 7 = .ok (.bipush 8, 2) := dk_16 8 (dk_at dksX1_commit_0 7 rfl rfl)
theorem dX1_commit_9 : decode cX1_commit 9 = .ok (.if_icmp .ne 14, 3) := dk_160 0 14 (dk_at dksX1_commit_0 9 rfl rfl)
theorem dX1_commit_12 : decode cX1_commit 12 = .ok (.aload_n 0, 1) := dk_42 (dk_at dksX1_commit_0 12 rfl rfl)
theorem dX1_commit_13 : decode cX1_commit 13 = .ok (.getfield 27, 3) := dk_180 0 27 (dk_at dksX1_commit_0 13 rfl rfl)
theorem dX1_commit_16 : decode cX1_commit 16 = .ok (.invokevirtual 37, 3) := dk_182 0 37 (dk_at dksX1_commit_0 16 rfl rfl)
theorem dX1_commit_19 : decode cX1_commit 19 = .ok (.checkcast 41, 3) := dk_192 0 41 (dk_at dksX1_commit_0 19 rfl rfl)
theorem dX1_commit_22 : decode cX1_commit 22 = .ok (.astore_n 3, 1) := dk_78 (dk_at dksX1_commit_0 22 rfl rfl)
theorem dX1_commit_23 : decode cX1_commit 23 = .ok (.aload_n 0, 1) := dk_42 (dk_at dksX1_commit_0 23 rfl rfl)
theorem dX1_commit_24 : decode cX1_commit 24 = .ok (.getfield 27, 3) := dk_180 0 27 (dk_at dksX1_commit_1 0 rfl rfl)
theorem dX1_commit_27 : decode cX1_commit 27 = .ok (.aload_n 0, 1) := dk_42 (dk_at dksX1_commit_1 3 rfl rfl)
theorem dX1_commit_28 : decode cX1_commit 28 = .ok (.getfield 43, 3) := dk_180 0 43 (dk_at dksX1_commit_1 4 rfl rfl)
theorem dX1_commit_31 : decode cX1_commit 31 = .ok (.invokevirtual 47, 3) := dk_182 0 47 (dk_at dksX1_commit_1 7 rfl rfl)
theorem dX1_commit_34 : decode cX1_commit 34 = .ok (.aload_n 0, 1) := dk_42 (dk_at dksX1_commit_1 10 rfl rfl)
theorem dX1_commit_35 : decode cX1_commit 35 = .ok (.aload_n 1, 1) := dk_43 (dk_at dksX1_commit_1 11 rfl rfl)
theorem dX1_commit_36 : decode cX1_commit 36 = .ok (.putfield 43, 3) := dk_181 0 43 (dk_at dksX1_commit_1 12 rfl rfl)
theorem dX1_commit_39 : decode cX1_commit 39 = .ok (.iload_n 2, 1) := dk_28 (dk_at dksX1_commit_1 15 rfl rfl)
theorem dX1_commit_40 : decode cX1_commit 40 = .ok (.ireturn, 1) := dk_172 (dk_at dksX1_commit_1 16 rfl rfl)
abbrev cX1_push : ByteArray := prog_1_method_13_code
def yX1_push : MethodName := ⟨RX1, "push", "(II)I"⟩
def dkwX1_push_0 : List UInt8 := [42, 27, 28, 186, 0, 97, 0, 0, 182, 0, 93, 172]
abbrev dktX1_push_0 : List UInt8 := dkwX1_push_0 ++ []
theorem dksX1_push_0 : cX1_push.data.toList.drop 0 = dktX1_push_0 := by decide +kernel
theorem dX1_push_0 : decode cX1_push 0 = .ok (.aload_n 0, 1) := dk_42 (dk_at dksX1_push_0 0 rfl rfl)
theorem dX1_push_1 : decode cX1_push 1 = .ok (.iload_n 1, 1) := dk_27 (dk_at dksX1_push_0 1 rfl rfl)
theorem dX1_push_2 : decode cX1_push 2 = .ok (.iload_n 2, 1) := dk_28 (dk_at dksX1_push_0 2 rfl rfl)
theorem dX1_push_3 : decode cX1_push 3 = .ok (.invokedynamic 97, 5) := by decide +kernel
theorem dX1_push_8 : decode cX1_push 8 = .ok (.invokevirtual 93, 3) := dk_182 0 93 (dk_at dksX1_push_0 8 rfl rfl)
theorem dX1_push_11 : decode cX1_push 11 = .ok (.ireturn, 1) := dk_172 (dk_at dksX1_push_0 11 rfl rfl)
abbrev cX1_lambda_push_1 : ByteArray := prog_1_method_80_code
def yX1_lambda_push_1 : MethodName := ⟨RX1, "lambda$push$1", "(IILPendulumGym$Gym;)I"⟩
def dkwX1_lambda_push_1_0 : List UInt8 := [44, 26, 27, 182, 1, 147, 172]
abbrev dktX1_lambda_push_1_0 : List UInt8 := dkwX1_lambda_push_1_0 ++ []
theorem dksX1_lambda_push_1_0 : cX1_lambda_push_1.data.toList.drop 0 = dktX1_lambda_push_1_0 := by decide +kernel
theorem dX1_lambda_push_1_0 : decode cX1_lambda_push_1 0 = .ok (.aload_n 2, 1) := dk_44 (dk_at dksX1_lambda_push_1_0 0 rfl rfl)
theorem dX1_lambda_push_1_1 : decode cX1_lambda_push_1 1 = .ok (.iload_n 0, 1) := dk_26 (dk_at dksX1_lambda_push_1_0 1 rfl rfl)
theorem dX1_lambda_push_1_2 : decode cX1_lambda_push_1 2 = .ok (.iload_n 1, 1) := dk_27 (dk_at dksX1_lambda_push_1_0 2 rfl rfl)
theorem dX1_lambda_push_1_3 : decode cX1_lambda_push_1 3 = .ok (.invokevirtual 403, 3) := dk_182 1 147 (dk_at dksX1_lambda_push_1_0 3 rfl rfl)
theorem dX1_lambda_push_1_6 : decode cX1_lambda_push_1 6 = .ok (.ireturn, 1) := dk_172 (dk_at dksX1_lambda_push_1_0 6 rfl rfl)
abbrev cX1_catchPendulum : ByteArray := prog_1_method_14_code
def yX1_catchPendulum : MethodName := ⟨RX1, "catchPendulum", "(I)I"⟩
def dkwX1_catchPendulum_0 : List UInt8 := [42, 27, 186, 0, 100, 0, 0, 182, 0, 93, 172]
abbrev dktX1_catchPendulum_0 : List UInt8 := dkwX1_catchPendulum_0 ++ []
theorem dksX1_catchPendulum_0 : cX1_catchPendulum.data.toList.drop 0 = dktX1_catchPendulum_0 := by decide +kernel
theorem dX1_catchPendulum_0 : decode cX1_catchPendulum 0 = .ok (.aload_n 0, 1) := dk_42 (dk_at dksX1_catchPendulum_0 0 rfl rfl)
theorem dX1_catchPendulum_1 : decode cX1_catchPendulum 1 = .ok (.iload_n 1, 1) := dk_27 (dk_at dksX1_catchPendulum_0 1 rfl rfl)
theorem dX1_catchPendulum_2 : decode cX1_catchPendulum 2 = .ok (.invokedynamic 100, 5) := by decide +kernel
theorem dX1_catchPendulum_7 : decode cX1_catchPendulum 7 = .ok (.invokevirtual 93, 3) := dk_182 0 93 (dk_at dksX1_catchPendulum_0 7 rfl rfl)
theorem dX1_catchPendulum_10 : decode cX1_catchPendulum 10 = .ok (.ireturn, 1) := dk_172 (dk_at dksX1_catchPendulum_0 10 rfl rfl)
abbrev cX1_lambda_catchPendulum_2 : ByteArray := prog_1_method_79_code
def yX1_lambda_catchPendulum_2 : MethodName := ⟨RX1, "lambda$catchPendulum$2", "(ILPendulumGym$Gym;)I"⟩
def dkwX1_lambda_catchPendulum_2_0 : List UInt8 := [43, 26, 182, 1, 144, 172]
abbrev dktX1_lambda_catchPendulum_2_0 : List UInt8 := dkwX1_lambda_catchPendulum_2_0 ++ []
theorem dksX1_lambda_catchPendulum_2_0 : cX1_lambda_catchPendulum_2.data.toList.drop 0 = dktX1_lambda_catchPendulum_2_0 := by decide +kernel
theorem dX1_lambda_catchPendulum_2_0 : decode cX1_lambda_catchPendulum_2 0 = .ok (.aload_n 1, 1) := dk_43 (dk_at dksX1_lambda_catchPendulum_2_0 0 rfl rfl)
theorem dX1_lambda_catchPendulum_2_1 : decode cX1_lambda_catchPendulum_2 1 = .ok (.iload_n 0, 1) := dk_26 (dk_at dksX1_lambda_catchPendulum_2_0 1 rfl rfl)
theorem dX1_lambda_catchPendulum_2_2 : decode cX1_lambda_catchPendulum_2 2 = .ok (.invokevirtual 400, 3) := dk_182 1 144 (dk_at dksX1_lambda_catchPendulum_2_0 2 rfl rfl)
theorem dX1_lambda_catchPendulum_2_5 : decode cX1_lambda_catchPendulum_2 5 = .ok (.ireturn, 1) := dk_172 (dk_at dksX1_lambda_catchPendulum_2_0 5 rfl rfl)
abbrev cX1_setFriction : ByteArray := prog_1_method_15_code
def yX1_setFriction : MethodName := ⟨RX1, "setFriction", "(I)I"⟩
def dkwX1_setFriction_0 : List UInt8 := [42, 27, 186, 0, 101, 0, 0, 182, 0, 93, 172]
abbrev dktX1_setFriction_0 : List UInt8 := dkwX1_setFriction_0 ++ []
theorem dksX1_setFriction_0 : cX1_setFriction.data.toList.drop 0 = dktX1_setFriction_0 := by decide +kernel
theorem dX1_setFriction_0 : decode cX1_setFriction 0 = .ok (.aload_n 0, 1) := dk_42 (dk_at dksX1_setFriction_0 0 rfl rfl)
theorem dX1_setFriction_1 : decode cX1_setFriction 1 = .ok (.iload_n 1, 1) := dk_27 (dk_at dksX1_setFriction_0 1 rfl rfl)
theorem dX1_setFriction_2 : decode cX1_setFriction 2 = .ok (.invokedynamic 101, 5) := by decide +kernel
theorem dX1_setFriction_7 : decode cX1_setFriction 7 = .ok (.invokevirtual 93, 3) := dk_182 0 93 (dk_at dksX1_setFriction_0 7 rfl rfl)
theorem dX1_setFriction_10 : decode cX1_setFriction 10 = .ok (.ireturn, 1) := dk_172 (dk_at dksX1_setFriction_0 10 rfl rfl)
abbrev cX1_lambda_setFriction_3 : ByteArray := prog_1_method_78_code
def yX1_lambda_setFriction_3 : MethodName := ⟨RX1, "lambda$setFriction$3", "(ILPendulumGym$Gym;)I"⟩
def dkwX1_lambda_setFriction_3_0 : List UInt8 := [43, 26, 182, 1, 141, 172]
abbrev dktX1_lambda_setFriction_3_0 : List UInt8 := dkwX1_lambda_setFriction_3_0 ++ []
theorem dksX1_lambda_setFriction_3_0 : cX1_lambda_setFriction_3.data.toList.drop 0 = dktX1_lambda_setFriction_3_0 := by decide +kernel
theorem dX1_lambda_setFriction_3_0 : decode cX1_lambda_setFriction_3 0 = .ok (.aload_n 1, 1) := dk_43 (dk_at dksX1_lambda_setFriction_3_0 0 rfl rfl)
theorem dX1_lambda_setFriction_3_1 : decode cX1_lambda_setFriction_3 1 = .ok (.iload_n 0, 1) := dk_26 (dk_at dksX1_lambda_setFriction_3_0 1 rfl rfl)
theorem dX1_lambda_setFriction_3_2 : decode cX1_lambda_setFriction_3 2 = .ok (.invokevirtual 397, 3) := dk_182 1 141 (dk_at dksX1_lambda_setFriction_3_0 2 rfl rfl)
theorem dX1_lambda_setFriction_3_5 : decode cX1_lambda_setFriction_3 5 = .ok (.ireturn, 1) := dk_172 (dk_at dksX1_lambda_setFriction_3_0 5 rfl rfl)
abbrev cX1_pass : ByteArray := prog_1_method_16_code
def yX1_pass : MethodName := ⟨RX1, "pass", "(I)I"⟩
def dkwX1_pass_0 : List UInt8 := [42, 27, 186, 0, 102, 0, 0, 182, 0, 93, 172]
abbrev dktX1_pass_0 : List UInt8 := dkwX1_pass_0 ++ []
theorem dksX1_pass_0 : cX1_pass.data.toList.drop 0 = dktX1_pass_0 := by decide +kernel
theorem dX1_pass_0 : decode cX1_pass 0 = .ok (.aload_n 0, 1) := dk_42 (dk_at dksX1_pass_0 0 rfl rfl)
theorem dX1_pass_1 : decode cX1_pass 1 = .ok (.iload_n 1, 1) := dk_27 (dk_at dksX1_pass_0 1 rfl rfl)
theorem dX1_pass_2 : decode cX1_pass 2 = .ok (.invokedynamic 102, 5) := by decide +kernel
theorem dX1_pass_7 : decode cX1_pass 7 = .ok (.invokevirtual 93, 3) := dk_182 0 93 (dk_at dksX1_pass_0 7 rfl rfl)
theorem dX1_pass_10 : decode cX1_pass 10 = .ok (.ireturn, 1) := dk_172 (dk_at dksX1_pass_0 10 rfl rfl)
abbrev cX1_lambda_pass_4 : ByteArray := prog_1_method_77_code
def yX1_lambda_pass_4 : MethodName := ⟨RX1, "lambda$pass$4", "(ILPendulumGym$Gym;)I"⟩
def dkwX1_lambda_pass_4_0 : List UInt8 := [43, 26, 182, 1, 138, 172]
abbrev dktX1_lambda_pass_4_0 : List UInt8 := dkwX1_lambda_pass_4_0 ++ []
theorem dksX1_lambda_pass_4_0 : cX1_lambda_pass_4.data.toList.drop 0 = dktX1_lambda_pass_4_0 := by decide +kernel
theorem dX1_lambda_pass_4_0 : decode cX1_lambda_pass_4 0 = .ok (.aload_n 1, 1) := dk_43 (dk_at dksX1_lambda_pass_4_0 0 rfl rfl)
theorem dX1_lambda_pass_4_1 : decode cX1_lambda_pass_4 1 = .ok (.iload_n 0, 1) := dk_26 (dk_at dksX1_lambda_pass_4_0 1 rfl rfl)
theorem dX1_lambda_pass_4_2 : decode cX1_lambda_pass_4 2 = .ok (.invokevirtual 394, 3) := dk_182 1 138 (dk_at dksX1_lambda_pass_4_0 2 rfl rfl)
theorem dX1_lambda_pass_4_5 : decode cX1_lambda_pass_4 5 = .ok (.ireturn, 1) := dk_172 (dk_at dksX1_lambda_pass_4_0 5 rfl rfl)
abbrev cX1_loss : ByteArray := prog_1_method_8_code
def yX1_loss : MethodName := ⟨RX1, "loss", "(II)I"⟩
def dkwX1_loss_0 : List UInt8 := [4, 26, 27, 104, 16, 100, 108, 184, 0, 22, 172]
abbrev dktX1_loss_0 : List UInt8 := dkwX1_loss_0 ++ []
theorem dksX1_loss_0 : cX1_loss.data.toList.drop 0 = dktX1_loss_0 := by decide +kernel
theorem dX1_loss_0 : decode cX1_loss 0 = .ok (.iconst 1, 1) := dk_4 (dk_at dksX1_loss_0 0 rfl rfl)
theorem dX1_loss_1 : decode cX1_loss 1 = .ok (.iload_n 0, 1) := dk_26 (dk_at dksX1_loss_0 1 rfl rfl)
theorem dX1_loss_2 : decode cX1_loss 2 = .ok (.iload_n 1, 1) := dk_27 (dk_at dksX1_loss_0 2 rfl rfl)
theorem dX1_loss_3 : decode cX1_loss 3 = .ok (.imul, 1) := dk_104 (dk_at dksX1_loss_0 3 rfl rfl)
theorem dX1_loss_4 : decode cX1_loss 4 = .ok (.bipush 100, 2) := dk_16 100 (dk_at dksX1_loss_0 4 rfl rfl)
theorem dX1_loss_6 : decode cX1_loss 6 = .ok (.idiv, 1) := dk_108 (dk_at dksX1_loss_0 6 rfl rfl)
theorem dX1_loss_7 : decode cX1_loss 7 = .ok (.invokestatic 22, 3) := dk_184 0 22 (dk_at dksX1_loss_0 7 rfl rfl)
theorem dX1_loss_10 : decode cX1_loss 10 = .ok (.ireturn, 1) := dk_172 (dk_at dksX1_loss_0 10 rfl rfl)
abbrev cX1_lengthOf : ByteArray := prog_1_method_18_code
def yX1_lengthOf : MethodName := ⟨RX1, "lengthOf", "(I)I"⟩
def dkwX1_lengthOf_0 : List UInt8 := [42, 180, 0, 43, 27, 182, 0, 110, 180, 0, 114, 172]
abbrev dktX1_lengthOf_0 : List UInt8 := dkwX1_lengthOf_0 ++ []
theorem dksX1_lengthOf_0 : cX1_lengthOf.data.toList.drop 0 = dktX1_lengthOf_0 := by decide +kernel
theorem dX1_lengthOf_0 : decode cX1_lengthOf 0 = .ok (.aload_n 0, 1) := dk_42 (dk_at dksX1_lengthOf_0 0 rfl rfl)
theorem dX1_lengthOf_1 : decode cX1_lengthOf 1 = .ok (.getfield 43, 3) := dk_180 0 43 (dk_at dksX1_lengthOf_0 1 rfl rfl)
theorem dX1_lengthOf_4 : decode cX1_lengthOf 4 = .ok (.iload_n 1, 1) := dk_27 (dk_at dksX1_lengthOf_0 4 rfl rfl)
theorem dX1_lengthOf_5 : decode cX1_lengthOf 5 = .ok (.invokevirtual 110, 3) := dk_182 0 110 (dk_at dksX1_lengthOf_0 5 rfl rfl)
theorem dX1_lengthOf_8 : decode cX1_lengthOf 8 = .ok (.getfield 114, 3) := dk_180 0 114 (dk_at dksX1_lengthOf_0 8 rfl rfl)
theorem dX1_lengthOf_11 : decode cX1_lengthOf 11 = .ok (.ireturn, 1) := dk_172 (dk_at dksX1_lengthOf_0 11 rfl rfl)
abbrev cX1_classOf : ByteArray := prog_1_method_19_code
def yX1_classOf : MethodName := ⟨RX1, "classOf", "(I)I"⟩
def dkwX1_classOf_0 : List UInt8 := [42, 180, 0, 43, 27, 182, 0, 110, 180, 0, 114, 184, 0, 119, 182, 0, 125, 172]
abbrev dktX1_classOf_0 : List UInt8 := dkwX1_classOf_0 ++ []
theorem dksX1_classOf_0 : cX1_classOf.data.toList.drop 0 = dktX1_classOf_0 := by decide +kernel
theorem dX1_classOf_0 : decode cX1_classOf 0 = .ok (.aload_n 0, 1) := dk_42 (dk_at dksX1_classOf_0 0 rfl rfl)
theorem dX1_classOf_1 : decode cX1_classOf 1 = .ok (.getfield 43, 3) := dk_180 0 43 (dk_at dksX1_classOf_0 1 rfl rfl)
theorem dX1_classOf_4 : decode cX1_classOf 4 = .ok (.iload_n 1, 1) := dk_27 (dk_at dksX1_classOf_0 4 rfl rfl)
theorem dX1_classOf_5 : decode cX1_classOf 5 = .ok (.invokevirtual 110, 3) := dk_182 0 110 (dk_at dksX1_classOf_0 5 rfl rfl)
theorem dX1_classOf_8 : decode cX1_classOf 8 = .ok (.getfield 114, 3) := dk_180 0 114 (dk_at dksX1_classOf_0 8 rfl rfl)
theorem dX1_classOf_11 : decode cX1_classOf 11 = .ok (.invokestatic 119, 3) := dk_184 0 119 (dk_at dksX1_classOf_0 11 rfl rfl)
theorem dX1_classOf_14 : decode cX1_classOf 14 = .ok (.invokevirtual 125, 3) := dk_182 0 125 (dk_at dksX1_classOf_0 14 rfl rfl)
theorem dX1_classOf_17 : decode cX1_classOf 17 = .ok (.ireturn, 1) := dk_172 (dk_at dksX1_classOf_0 17 rfl rfl)
abbrev cX1_amplitudeOf : ByteArray := prog_1_method_20_code
def yX1_amplitudeOf : MethodName := ⟨RX1, "amplitudeOf", "(I)I"⟩
def dkwX1_amplitudeOf_0 : List UInt8 := [42, 180, 0, 43, 27, 182, 0, 110, 182, 0, 128, 172]
abbrev dktX1_amplitudeOf_0 : List UInt8 := dkwX1_amplitudeOf_0 ++ []
theorem dksX1_amplitudeOf_0 : cX1_amplitudeOf.data.toList.drop 0 = dktX1_amplitudeOf_0 := by decide +kernel
theorem dX1_amplitudeOf_0 : decode cX1_amplitudeOf 0 = .ok (.aload_n 0, 1) := dk_42 (dk_at dksX1_amplitudeOf_0 0 rfl rfl)
theorem dX1_amplitudeOf_1 : decode cX1_amplitudeOf 1 = .ok (.getfield 43, 3) := dk_180 0 43 (dk_at dksX1_amplitudeOf_0 1 rfl rfl)
theorem dX1_amplitudeOf_4 : decode cX1_amplitudeOf 4 = .ok (.iload_n 1, 1) := dk_27 (dk_at dksX1_amplitudeOf_0 4 rfl rfl)
theorem dX1_amplitudeOf_5 : decode cX1_amplitudeOf 5 = .ok (.invokevirtual 110, 3) := dk_182 0 110 (dk_at dksX1_amplitudeOf_0 5 rfl rfl)
theorem dX1_amplitudeOf_8 : decode cX1_amplitudeOf 8 = .ok (.invokevirtual 128, 3) := dk_182 0 128 (dk_at dksX1_amplitudeOf_0 8 rfl rfl)
theorem dX1_amplitudeOf_11 : decode cX1_amplitudeOf 11 = .ok (.ireturn, 1) := dk_172 (dk_at dksX1_amplitudeOf_0 11 rfl rfl)
abbrev cX1_startOf : ByteArray := prog_1_method_22_code
def yX1_startOf : MethodName := ⟨RX1, "startOf", "(I)I"⟩
def dkwX1_startOf_0 : List UInt8 := [42, 27, 182, 0, 135, 77, 44, 198, 0, 7, 4, 167, 0, 4, 3, 184, 0, 139, 44, 180, 0, 143, 172]
abbrev dktX1_startOf_0 : List UInt8 := dkwX1_startOf_0 ++ []
theorem dksX1_startOf_0 : cX1_startOf.data.toList.drop 0 = dktX1_startOf_0 := by decide +kernel
theorem dX1_startOf_0 : decode cX1_startOf 0 = .ok (.aload_n 0, 1) := dk_42 (dk_at dksX1_startOf_0 0 rfl rfl)
theorem dX1_startOf_1 : decode cX1_startOf 1 = .ok (.iload_n 1, 1) := dk_27 (dk_at dksX1_startOf_0 1 rfl rfl)
theorem dX1_startOf_2 : decode cX1_startOf 2 = .ok (.invokevirtual 135, 3) := dk_182 0 135 (dk_at dksX1_startOf_0 2 rfl rfl)
theorem dX1_startOf_5 : decode cX1_startOf 5 = .ok (.astore_n 2, 1) := dk_77 (dk_at dksX1_startOf_0 5 rfl rfl)
theorem dX1_startOf_6 : decode cX1_startOf 6 = .ok (.aload_n 2, 1) := dk_44 (dk_at dksX1_startOf_0 6 rfl rfl)
theorem dX1_startOf_7 : decode cX1_startOf 7 = .ok (.ifnull 7, 3) := dk_198 0 7 (dk_at dksX1_startOf_0 7 rfl rfl)
theorem dX1_startOf_10 : decode cX1_startOf 10 = .ok (.iconst 1, 1) := dk_4 (dk_at dksX1_startOf_0 10 rfl rfl)
theorem dX1_startOf_11 : decode cX1_startOf 11 = .ok (.goto 4, 3) := dk_167 0 4 (dk_at dksX1_startOf_0 11 rfl rfl)
theorem dX1_startOf_14 : decode cX1_startOf 14 = .ok (.iconst 0, 1) := dk_3 (dk_at dksX1_startOf_0 14 rfl rfl)
theorem dX1_startOf_15 : decode cX1_startOf 15 = .ok (.invokestatic 139, 3) := dk_184 0 139 (dk_at dksX1_startOf_0 15 rfl rfl)
theorem dX1_startOf_18 : decode cX1_startOf 18 = .ok (.aload_n 2, 1) := dk_44 (dk_at dksX1_startOf_0 18 rfl rfl)
theorem dX1_startOf_19 : decode cX1_startOf 19 = .ok (.getfield 143, 3) := dk_180 0 143 (dk_at dksX1_startOf_0 19 rfl rfl)
theorem dX1_startOf_22 : decode cX1_startOf 22 = .ok (.ireturn, 1) := dk_172 (dk_at dksX1_startOf_0 22 rfl rfl)
abbrev cX1_requireElement : ByteArray := prog_1_method_5_code
def yX1_requireElement : MethodName := ⟨RX1, "requireElement", "(Z)V"⟩
def dkwX1_requireElement_0 : List UInt8 := [26, 154, 0, 11, 187, 0, 13, 89, 183, 0, 15, 191, 177]
abbrev dktX1_requireElement_0 : List UInt8 := dkwX1_requireElement_0 ++ []
theorem dksX1_requireElement_0 : cX1_requireElement.data.toList.drop 0 = dktX1_requireElement_0 := by decide +kernel
theorem dX1_requireElement_0 : decode cX1_requireElement 0 = .ok (.iload_n 0, 1) := dk_26 (dk_at dksX1_requireElement_0 0 rfl rfl)
theorem dX1_requireElement_1 : decode cX1_requireElement 1 = .ok (.ifCond .ne 11, 3) := dk_154 0 11 (dk_at dksX1_requireElement_0 1 rfl rfl)
theorem dX1_requireElement_4 : decode cX1_requireElement 4 = .ok (.new 13, 3) := dk_187 0 13 (dk_at dksX1_requireElement_0 4 rfl rfl)
theorem dX1_requireElement_7 : decode cX1_requireElement 7 = .ok (.dup, 1) := dk_89 (dk_at dksX1_requireElement_0 7 rfl rfl)
theorem dX1_requireElement_8 : decode cX1_requireElement 8 = .ok (.invokespecial 15, 3) := dk_183 0 15 (dk_at dksX1_requireElement_0 8 rfl rfl)
theorem dX1_requireElement_11 : decode cX1_requireElement 11 = .ok (.athrow, 1) := dk_191 (dk_at dksX1_requireElement_0 11 rfl rfl)
theorem dX1_requireElement_12 : decode cX1_requireElement 12 = .ok (.return_, 1) := dk_177 (dk_at dksX1_requireElement_0 12 rfl rfl)
abbrev cX1_periodByEstimates : ByteArray := prog_1_method_24_code
def yX1_periodByEstimates : MethodName := ⟨RX1, "periodByEstimates", "(I)I"⟩
def dkwX1_periodByEstimates_0 : List UInt8 := [42, 180, 0, 43, 27, 182, 0, 110, 182, 0, 151, 172]
abbrev dktX1_periodByEstimates_0 : List UInt8 := dkwX1_periodByEstimates_0 ++ []
theorem dksX1_periodByEstimates_0 : cX1_periodByEstimates.data.toList.drop 0 = dktX1_periodByEstimates_0 := by decide +kernel
theorem dX1_periodByEstimates_0 : decode cX1_periodByEstimates 0 = .ok (.aload_n 0, 1) := dk_42 (dk_at dksX1_periodByEstimates_0 0 rfl rfl)
theorem dX1_periodByEstimates_1 : decode cX1_periodByEstimates 1 = .ok (.getfield 43, 3) := dk_180 0 43 (dk_at dksX1_periodByEstimates_0 1 rfl rfl)
theorem dX1_periodByEstimates_4 : decode cX1_periodByEstimates 4 = .ok (.iload_n 1, 1) := dk_27 (dk_at dksX1_periodByEstimates_0 4 rfl rfl)
theorem dX1_periodByEstimates_5 : decode cX1_periodByEstimates 5 = .ok (.invokevirtual 110, 3) := dk_182 0 110 (dk_at dksX1_periodByEstimates_0 5 rfl rfl)
theorem dX1_periodByEstimates_8 : decode cX1_periodByEstimates 8 = .ok (.invokevirtual 151, 3) := dk_182 0 151 (dk_at dksX1_periodByEstimates_0 8 rfl rfl)
theorem dX1_periodByEstimates_11 : decode cX1_periodByEstimates 11 = .ok (.ireturn, 1) := dk_172 (dk_at dksX1_periodByEstimates_0 11 rfl rfl)
abbrev cX1_swingsOf : ByteArray := prog_1_method_25_code
def yX1_swingsOf : MethodName := ⟨RX1, "swingsOf", "(I)I"⟩
def dkwX1_swingsOf_0 : List UInt8 := [42, 180, 0, 43, 27, 182, 0, 110, 180, 0, 154, 172]
abbrev dktX1_swingsOf_0 : List UInt8 := dkwX1_swingsOf_0 ++ []
theorem dksX1_swingsOf_0 : cX1_swingsOf.data.toList.drop 0 = dktX1_swingsOf_0 := by decide +kernel
theorem dX1_swingsOf_0 : decode cX1_swingsOf 0 = .ok (.aload_n 0, 1) := dk_42 (dk_at dksX1_swingsOf_0 0 rfl rfl)
theorem dX1_swingsOf_1 : decode cX1_swingsOf 1 = .ok (.getfield 43, 3) := dk_180 0 43 (dk_at dksX1_swingsOf_0 1 rfl rfl)
theorem dX1_swingsOf_4 : decode cX1_swingsOf 4 = .ok (.iload_n 1, 1) := dk_27 (dk_at dksX1_swingsOf_0 4 rfl rfl)
theorem dX1_swingsOf_5 : decode cX1_swingsOf 5 = .ok (.invokevirtual 110, 3) := dk_182 0 110 (dk_at dksX1_swingsOf_0 5 rfl rfl)
theorem dX1_swingsOf_8 : decode cX1_swingsOf 8 = .ok (.getfield 154, 3) := dk_180 0 154 (dk_at dksX1_swingsOf_0 8 rfl rfl)
theorem dX1_swingsOf_11 : decode cX1_swingsOf 11 = .ok (.ireturn, 1) := dk_172 (dk_at dksX1_swingsOf_0 11 rfl rfl)
abbrev cX1_recordOf : ByteArray := prog_1_method_29_code
def yX1_recordOf : MethodName := ⟨RX1, "recordOf", "(I)I"⟩
def dkwX1_recordOf_1 : List UInt8 := [184, 0, 139, 42, 180, 0, 43, 180, 0, 178, 27, 46, 172]
abbrev dktX1_recordOf_1 : List UInt8 := dkwX1_recordOf_1 ++ []
def dkwX1_recordOf_0 : List UInt8 := [27, 184, 0, 170, 42, 180, 0, 43, 180, 0, 174, 27, 46, 2, 159, 0, 7, 4, 167, 0, 4, 3]
abbrev dktX1_recordOf_0 : List UInt8 := dkwX1_recordOf_0 ++ dktX1_recordOf_1
theorem dksX1_recordOf_0 : cX1_recordOf.data.toList.drop 0 = dktX1_recordOf_0 := by decide +kernel
theorem dksX1_recordOf_1 : cX1_recordOf.data.toList.drop 22 = dktX1_recordOf_1 := dk_seg dksX1_recordOf_0 22 rfl rfl
theorem dX1_recordOf_0 : decode cX1_recordOf 0 = .ok (.iload_n 1, 1) := dk_27 (dk_at dksX1_recordOf_0 0 rfl rfl)
theorem dX1_recordOf_1 : decode cX1_recordOf 1 = .ok (.invokestatic 170, 3) := dk_184 0 170 (dk_at dksX1_recordOf_0 1 rfl rfl)
theorem dX1_recordOf_4 : decode cX1_recordOf 4 = .ok (.aload_n 0, 1) := dk_42 (dk_at dksX1_recordOf_0 4 rfl rfl)
theorem dX1_recordOf_5 : decode cX1_recordOf 5 = .ok (.getfield 43, 3) := dk_180 0 43 (dk_at dksX1_recordOf_0 5 rfl rfl)
theorem dX1_recordOf_8 : decode cX1_recordOf 8 = .ok (.getfield 174, 3) := dk_180 0 174 (dk_at dksX1_recordOf_0 8 rfl rfl)
theorem dX1_recordOf_11 : decode cX1_recordOf 11 = .ok (.iload_n 1, 1) := dk_27 (dk_at dksX1_recordOf_0 11 rfl rfl)
theorem dX1_recordOf_12 : decode cX1_recordOf 12 = .ok (.iaload, 1) := dk_46 (dk_at dksX1_recordOf_0 12 rfl rfl)
theorem dX1_recordOf_13 : decode cX1_recordOf 13 = .ok (.iconst (-1), 1) := dk_2 (dk_at dksX1_recordOf_0 13 rfl rfl)
theorem dX1_recordOf_14 : decode cX1_recordOf 14 = .ok (.if_icmp .eq 7, 3) := dk_159 0 7 (dk_at dksX1_recordOf_0 14 rfl rfl)
theorem dX1_recordOf_17 : decode cX1_recordOf 17 = .ok (.iconst 1, 1) := dk_4 (dk_at dksX1_recordOf_0 17 rfl rfl)
theorem dX1_recordOf_18 : decode cX1_recordOf 18 = .ok (.goto 4, 3) := dk_167 0 4 (dk_at dksX1_recordOf_0 18 rfl rfl)
theorem dX1_recordOf_21 : decode cX1_recordOf 21 = .ok (.iconst 0, 1) := dk_3 (dk_at dksX1_recordOf_0 21 rfl rfl)
theorem dX1_recordOf_22 : decode cX1_recordOf 22 = .ok (.invokestatic 139, 3) := dk_184 0 139 (dk_at dksX1_recordOf_1 0 rfl rfl)
theorem dX1_recordOf_25 : decode cX1_recordOf 25 = .ok (.aload_n 0, 1) := dk_42 (dk_at dksX1_recordOf_1 3 rfl rfl)
theorem dX1_recordOf_26 : decode cX1_recordOf 26 = .ok (.getfield 43, 3) := dk_180 0 43 (dk_at dksX1_recordOf_1 4 rfl rfl)
theorem dX1_recordOf_29 : decode cX1_recordOf 29 = .ok (.getfield 178, 3) := dk_180 0 178 (dk_at dksX1_recordOf_1 7 rfl rfl)
theorem dX1_recordOf_32 : decode cX1_recordOf 32 = .ok (.iload_n 1, 1) := dk_27 (dk_at dksX1_recordOf_1 10 rfl rfl)
theorem dX1_recordOf_33 : decode cX1_recordOf 33 = .ok (.iaload, 1) := dk_46 (dk_at dksX1_recordOf_1 11 rfl rfl)
theorem dX1_recordOf_34 : decode cX1_recordOf 34 = .ok (.ireturn, 1) := dk_172 (dk_at dksX1_recordOf_1 12 rfl rfl)
abbrev cX1_requireKind : ByteArray := prog_1_method_28_code
def yX1_requireKind : MethodName := ⟨RX1, "requireKind", "(I)V"⟩
def dkwX1_requireKind_0 : List UInt8 := [26, 3, 5, 184, 0, 163, 184, 0, 167, 177]
abbrev dktX1_requireKind_0 : List UInt8 := dkwX1_requireKind_0 ++ []
theorem dksX1_requireKind_0 : cX1_requireKind.data.toList.drop 0 = dktX1_requireKind_0 := by decide +kernel
theorem dX1_requireKind_0 : decode cX1_requireKind 0 = .ok (.iload_n 0, 1) := dk_26 (dk_at dksX1_requireKind_0 0 rfl rfl)
theorem dX1_requireKind_1 : decode cX1_requireKind 1 = .ok (.iconst 0, 1) := dk_3 (dk_at dksX1_requireKind_0 1 rfl rfl)
theorem dX1_requireKind_2 : decode cX1_requireKind 2 = .ok (.iconst 2, 1) := dk_5 (dk_at dksX1_requireKind_0 2 rfl rfl)
theorem dX1_requireKind_3 : decode cX1_requireKind 3 = .ok (.invokestatic 163, 3) := dk_184 0 163 (dk_at dksX1_requireKind_0 3 rfl rfl)
theorem dX1_requireKind_6 : decode cX1_requireKind 6 = .ok (.invokestatic 167, 3) := dk_184 0 167 (dk_at dksX1_requireKind_0 6 rfl rfl)
theorem dX1_requireKind_9 : decode cX1_requireKind 9 = .ok (.return_, 1) := dk_177 (dk_at dksX1_requireKind_0 9 rfl rfl)
abbrev cX1_holderOf : ByteArray := prog_1_method_30_code
def yX1_holderOf : MethodName := ⟨RX1, "holderOf", "(I)I"⟩
def dkwX1_holderOf_1 : List UInt8 := [184, 0, 139, 42, 180, 0, 43, 180, 0, 174, 27, 46, 172]
abbrev dktX1_holderOf_1 : List UInt8 := dkwX1_holderOf_1 ++ []
def dkwX1_holderOf_0 : List UInt8 := [27, 184, 0, 170, 42, 180, 0, 43, 180, 0, 174, 27, 46, 2, 159, 0, 7, 4, 167, 0, 4, 3]
abbrev dktX1_holderOf_0 : List UInt8 := dkwX1_holderOf_0 ++ dktX1_holderOf_1
theorem dksX1_holderOf_0 : cX1_holderOf.data.toList.drop 0 = dktX1_holderOf_0 := by decide +kernel
theorem dksX1_holderOf_1 : cX1_holderOf.data.toList.drop 22 = dktX1_holderOf_1 := dk_seg dksX1_holderOf_0 22 rfl rfl
theorem dX1_holderOf_0 : decode cX1_holderOf 0 = .ok (.iload_n 1, 1) := dk_27 (dk_at dksX1_holderOf_0 0 rfl rfl)
theorem dX1_holderOf_1 : decode cX1_holderOf 1 = .ok (.invokestatic 170, 3) := dk_184 0 170 (dk_at dksX1_holderOf_0 1 rfl rfl)
theorem dX1_holderOf_4 : decode cX1_holderOf 4 = .ok (.aload_n 0, 1) := dk_42 (dk_at dksX1_holderOf_0 4 rfl rfl)
theorem dX1_holderOf_5 : decode cX1_holderOf 5 = .ok (.getfield 43, 3) := dk_180 0 43 (dk_at dksX1_holderOf_0 5 rfl rfl)
theorem dX1_holderOf_8 : decode cX1_holderOf 8 = .ok (.getfield 174, 3) := dk_180 0 174 (dk_at dksX1_holderOf_0 8 rfl rfl)
theorem dX1_holderOf_11 : decode cX1_holderOf 11 = .ok (.iload_n 1, 1) := dk_27 (dk_at dksX1_holderOf_0 11 rfl rfl)
theorem dX1_holderOf_12 : decode cX1_holderOf 12 = .ok (.iaload, 1) := dk_46 (dk_at dksX1_holderOf_0 12 rfl rfl)
theorem dX1_holderOf_13 : decode cX1_holderOf 13 = .ok (.iconst (-1), 1) := dk_2 (dk_at dksX1_holderOf_0 13 rfl rfl)
theorem dX1_holderOf_14 : decode cX1_holderOf 14 = .ok (.if_icmp .eq 7, 3) := dk_159 0 7 (dk_at dksX1_holderOf_0 14 rfl rfl)
theorem dX1_holderOf_17 : decode cX1_holderOf 17 = .ok (.iconst 1, 1) := dk_4 (dk_at dksX1_holderOf_0 17 rfl rfl)
theorem dX1_holderOf_18 : decode cX1_holderOf 18 = .ok (.goto 4, 3) := dk_167 0 4 (dk_at dksX1_holderOf_0 18 rfl rfl)
theorem dX1_holderOf_21 : decode cX1_holderOf 21 = .ok (.iconst 0, 1) := dk_3 (dk_at dksX1_holderOf_0 21 rfl rfl)
theorem dX1_holderOf_22 : decode cX1_holderOf 22 = .ok (.invokestatic 139, 3) := dk_184 0 139 (dk_at dksX1_holderOf_1 0 rfl rfl)
theorem dX1_holderOf_25 : decode cX1_holderOf 25 = .ok (.aload_n 0, 1) := dk_42 (dk_at dksX1_holderOf_1 3 rfl rfl)
theorem dX1_holderOf_26 : decode cX1_holderOf 26 = .ok (.getfield 43, 3) := dk_180 0 43 (dk_at dksX1_holderOf_1 4 rfl rfl)
theorem dX1_holderOf_29 : decode cX1_holderOf 29 = .ok (.getfield 174, 3) := dk_180 0 174 (dk_at dksX1_holderOf_1 7 rfl rfl)
theorem dX1_holderOf_32 : decode cX1_holderOf 32 = .ok (.iload_n 1, 1) := dk_27 (dk_at dksX1_holderOf_1 10 rfl rfl)
theorem dX1_holderOf_33 : decode cX1_holderOf 33 = .ok (.iaload, 1) := dk_46 (dk_at dksX1_holderOf_1 11 rfl rfl)
theorem dX1_holderOf_34 : decode cX1_holderOf 34 = .ok (.ireturn, 1) := dk_172 (dk_at dksX1_holderOf_1 12 rfl rfl)
abbrev cX1_pendulumAtRank : ByteArray := prog_1_method_31_code
def yX1_pendulumAtRank : MethodName := ⟨RX1, "pendulumAtRank", "(I)I"⟩
def dkwX1_pendulumAtRank_4 : List UInt8 := [160, 0, 5, 28, 172, 132, 2, 1, 167, 255, 157, 187, 0, 13, 89, 183, 0, 15, 191]
abbrev dktX1_pendulumAtRank_4 : List UInt8 := dkwX1_pendulumAtRank_4 ++ []
def dkwX1_pendulumAtRank_3 : List UInt8 := [192, 0, 115, 182, 0, 185, 153, 0, 7, 4, 167, 0, 4, 3, 96, 62, 132, 4, 1, 167, 255, 189, 29, 27]
abbrev dktX1_pendulumAtRank_3 : List UInt8 := dkwX1_pendulumAtRank_3 ++ dktX1_pendulumAtRank_4
def dkwX1_pendulumAtRank_2 : List UInt8 := [180, 0, 103, 21, 4, 182, 0, 181, 192, 0, 115, 42, 180, 0, 43, 180, 0, 103, 28, 182, 0, 181]
abbrev dktX1_pendulumAtRank_2 : List UInt8 := dkwX1_pendulumAtRank_2 ++ dktX1_pendulumAtRank_3
def dkwX1_pendulumAtRank_1 : List UInt8 := [180, 0, 43, 180, 0, 103, 182, 0, 107, 162, 0, 58, 29, 21, 4, 28, 159, 0, 42, 42, 180, 0, 43]
abbrev dktX1_pendulumAtRank_1 : List UInt8 := dkwX1_pendulumAtRank_1 ++ dktX1_pendulumAtRank_2
def dkwX1_pendulumAtRank_0 : List UInt8 := [3, 61, 28, 42, 180, 0, 43, 180, 0, 103, 182, 0, 107, 162, 0, 91, 3, 62, 3, 54, 4, 21, 4, 42]
abbrev dktX1_pendulumAtRank_0 : List UInt8 := dkwX1_pendulumAtRank_0 ++ dktX1_pendulumAtRank_1
theorem dksX1_pendulumAtRank_0 : cX1_pendulumAtRank.data.toList.drop 0 = dktX1_pendulumAtRank_0 := by decide +kernel
theorem dksX1_pendulumAtRank_1 : cX1_pendulumAtRank.data.toList.drop 24 = dktX1_pendulumAtRank_1 := dk_seg dksX1_pendulumAtRank_0 24 rfl rfl
theorem dksX1_pendulumAtRank_2 : cX1_pendulumAtRank.data.toList.drop 47 = dktX1_pendulumAtRank_2 := dk_seg dksX1_pendulumAtRank_1 23 rfl rfl
theorem dksX1_pendulumAtRank_3 : cX1_pendulumAtRank.data.toList.drop 69 = dktX1_pendulumAtRank_3 := dk_seg dksX1_pendulumAtRank_2 22 rfl rfl
theorem dksX1_pendulumAtRank_4 : cX1_pendulumAtRank.data.toList.drop 93 = dktX1_pendulumAtRank_4 := dk_seg dksX1_pendulumAtRank_3 24 rfl rfl
theorem dX1_pendulumAtRank_0 : decode cX1_pendulumAtRank 0 = .ok (.iconst 0, 1) := dk_3 (dk_at dksX1_pendulumAtRank_0 0 rfl rfl)
theorem dX1_pendulumAtRank_1 : decode cX1_pendulumAtRank 1 = .ok (.istore_n 2, 1) := dk_61 (dk_at dksX1_pendulumAtRank_0 1 rfl rfl)
theorem dX1_pendulumAtRank_2 : decode cX1_pendulumAtRank 2 = .ok (.iload_n 2, 1) := dk_28 (dk_at dksX1_pendulumAtRank_0 2 rfl rfl)
theorem dX1_pendulumAtRank_3 : decode cX1_pendulumAtRank 3 = .ok (.aload_n 0, 1) := dk_42 (dk_at dksX1_pendulumAtRank_0 3 rfl rfl)
theorem dX1_pendulumAtRank_4 : decode cX1_pendulumAtRank 4 = .ok (.getfield 43, 3) := dk_180 0 43 (dk_at dksX1_pendulumAtRank_0 4 rfl rfl)
theorem dX1_pendulumAtRank_7 : decode cX1_pendulumAtRank 7 = .ok (.getfield 103, 3) := dk_180 0 103 (dk_at dksX1_pendulumAtRank_0 7 rfl rfl)
theorem dX1_pendulumAtRank_10 : decode cX1_pendulumAtRank 10 = .ok (.invokevirtual 107, 3) := dk_182 0 107 (dk_at dksX1_pendulumAtRank_0 10 rfl rfl)
theorem dX1_pendulumAtRank_13 : decode cX1_pendulumAtRank 13 = .ok (.if_icmp .ge 91, 3) := dk_162 0 91 (dk_at dksX1_pendulumAtRank_0 13 rfl rfl)
theorem dX1_pendulumAtRank_16 : decode cX1_pendulumAtRank 16 = .ok (.iconst 0, 1) := dk_3 (dk_at dksX1_pendulumAtRank_0 16 rfl rfl)
theorem dX1_pendulumAtRank_17 : decode cX1_pendulumAtRank 17 = .ok (.istore_n 3, 1) := dk_62 (dk_at dksX1_pendulumAtRank_0 17 rfl rfl)
theorem dX1_pendulumAtRank_18 : decode cX1_pendulumAtRank 18 = .ok (.iconst 0, 1) := dk_3 (dk_at dksX1_pendulumAtRank_0 18 rfl rfl)
theorem dX1_pendulumAtRank_19 : decode cX1_pendulumAtRank 19 = .ok (.istore 4, 2) := dk_54 4 (dk_at dksX1_pendulumAtRank_0 19 rfl rfl)
theorem dX1_pendulumAtRank_21 : decode cX1_pendulumAtRank 21 = .ok (.iload 4, 2) := dk_21 4 (dk_at dksX1_pendulumAtRank_0 21 rfl rfl)
theorem dX1_pendulumAtRank_23 : decode cX1_pendulumAtRank 23 = .ok (.aload_n 0, 1) := dk_42 (dk_at dksX1_pendulumAtRank_0 23 rfl rfl)
theorem dX1_pendulumAtRank_24 : decode cX1_pendulumAtRank 24 = .ok (.getfield 43, 3) := dk_180 0 43 (dk_at dksX1_pendulumAtRank_1 0 rfl rfl)
theorem dX1_pendulumAtRank_27 : decode cX1_pendulumAtRank 27 = .ok (.getfield 103, 3) := dk_180 0 103 (dk_at dksX1_pendulumAtRank_1 3 rfl rfl)
theorem dX1_pendulumAtRank_30 : decode cX1_pendulumAtRank 30 = .ok (.invokevirtual 107, 3) := dk_182 0 107 (dk_at dksX1_pendulumAtRank_1 6 rfl rfl)
theorem dX1_pendulumAtRank_33 : decode cX1_pendulumAtRank 33 = .ok (.if_icmp .ge 58, 3) := dk_162 0 58 (dk_at dksX1_pendulumAtRank_1 9 rfl rfl)
theorem dX1_pendulumAtRank_36 : decode cX1_pendulumAtRank 36 = .ok (.iload_n 3, 1) := dk_29 (dk_at dksX1_pendulumAtRank_1 12 rfl rfl)
theorem dX1_pendulumAtRank_37 : decode cX1_pendulumAtRank 37 = .ok (.iload 4, 2) := dk_21 4 (dk_at dksX1_pendulumAtRank_1 13 rfl rfl)
theorem dX1_pendulumAtRank_39 : decode cX1_pendulumAtRank 39 = .ok (.iload_n 2, 1) := dk_28 (dk_at dksX1_pendulumAtRank_1 15 rfl rfl)
theorem dX1_pendulumAtRank_40 : decode cX1_pendulumAtRank 40 = .ok (.if_icmp .eq 42, 3) := dk_159 0 42 (dk_at dksX1_pendulumAtRank_1 16 rfl rfl)
theorem dX1_pendulumAtRank_43 : decode cX1_pendulumAtRank 43 = .ok (.aload_n 0, 1) := dk_42 (dk_at dksX1_pendulumAtRank_1 19 rfl rfl)
theorem dX1_pendulumAtRank_44 : decode cX1_pendulumAtRank 44 = .ok (.getfield 43, 3) := dk_180 0 43 (dk_at dksX1_pendulumAtRank_1 20 rfl rfl)
theorem dX1_pendulumAtRank_47 : decode cX1_pendulumAtRank 47 = .ok (.getfield 103, 3) := dk_180 0 103 (dk_at dksX1_pendulumAtRank_2 0 rfl rfl)
theorem dX1_pendulumAtRank_50 : decode cX1_pendulumAtRank 50 = .ok (.iload 4, 2) := dk_21 4 (dk_at dksX1_pendulumAtRank_2 3 rfl rfl)
theorem dX1_pendulumAtRank_52 : decode cX1_pendulumAtRank 52 = .ok (.invokevirtual 181, 3) := dk_182 0 181 (dk_at dksX1_pendulumAtRank_2 5 rfl rfl)
theorem dX1_pendulumAtRank_55 : decode cX1_pendulumAtRank 55 = .ok (.checkcast 115, 3) := dk_192 0 115 (dk_at dksX1_pendulumAtRank_2 8 rfl rfl)
theorem dX1_pendulumAtRank_58 : decode cX1_pendulumAtRank 58 = .ok (.aload_n 0, 1) := dk_42 (dk_at dksX1_pendulumAtRank_2 11 rfl rfl)
theorem dX1_pendulumAtRank_59 : decode cX1_pendulumAtRank 59 = .ok (.getfield 43, 3) := dk_180 0 43 (dk_at dksX1_pendulumAtRank_2 12 rfl rfl)
theorem dX1_pendulumAtRank_62 : decode cX1_pendulumAtRank 62 = .ok (.getfield 103, 3) := dk_180 0 103 (dk_at dksX1_pendulumAtRank_2 15 rfl rfl)
theorem dX1_pendulumAtRank_65 : decode cX1_pendulumAtRank 65 = .ok (.iload_n 2, 1) := dk_28 (dk_at dksX1_pendulumAtRank_2 18 rfl rfl)
theorem dX1_pendulumAtRank_66 : decode cX1_pendulumAtRank 66 = .ok (.invokevirtual 181, 3) := dk_182 0 181 (dk_at dksX1_pendulumAtRank_2 19 rfl rfl)
theorem dX1_pendulumAtRank_69 : decode cX1_pendulumAtRank 69 = .ok (.checkcast 115, 3) := dk_192 0 115 (dk_at dksX1_pendulumAtRank_3 0 rfl rfl)
theorem dX1_pendulumAtRank_72 : decode cX1_pendulumAtRank 72 = .ok (.invokevirtual 185, 3) := dk_182 0 185 (dk_at dksX1_pendulumAtRank_3 3 rfl rfl)
theorem dX1_pendulumAtRank_75 : decode cX1_pendulumAtRank 75 = .ok (.ifCond .eq 7, 3) := dk_153 0 7 (dk_at dksX1_pendulumAtRank_3 6 rfl rfl)
theorem dX1_pendulumAtRank_78 : decode cX1_pendulumAtRank 78 = .ok (.iconst 1, 1) := dk_4 (dk_at dksX1_pendulumAtRank_3 9 rfl rfl)
theorem dX1_pendulumAtRank_79 : decode cX1_pendulumAtRank 79 = .ok (.goto 4, 3) := dk_167 0 4 (dk_at dksX1_pendulumAtRank_3 10 rfl rfl)
theorem dX1_pendulumAtRank_82 : decode cX1_pendulumAtRank 82 = .ok (.iconst 0, 1) := dk_3 (dk_at dksX1_pendulumAtRank_3 13 rfl rfl)
theorem dX1_pendulumAtRank_83 : decode cX1_pendulumAtRank 83 = .ok (.iadd, 1) := dk_96 (dk_at dksX1_pendulumAtRank_3 14 rfl rfl)
theorem dX1_pendulumAtRank_84 : decode cX1_pendulumAtRank 84 = .ok (.istore_n 3, 1) := dk_62 (dk_at dksX1_pendulumAtRank_3 15 rfl rfl)
theorem dX1_pendulumAtRank_85 : decode cX1_pendulumAtRank 85 = .ok (.iinc 4 1, 3) := dk_132 4 1 (dk_at dksX1_pendulumAtRank_3 16 rfl rfl)
theorem dX1_pendulumAtRank_88 : decode cX1_pendulumAtRank 88 = .ok (.goto (-67), 3) := dk_167 255 189 (dk_at dksX1_pendulumAtRank_3 19 rfl rfl)
theorem dX1_pendulumAtRank_91 : decode cX1_pendulumAtRank 91 = .ok (.iload_n 3, 1) := dk_29 (dk_at dksX1_pendulumAtRank_3 22 rfl rfl)
theorem dX1_pendulumAtRank_92 : decode cX1_pendulumAtRank 92 = .ok (.iload_n 1, 1) := dk_27 (dk_at dksX1_pendulumAtRank_3 23 rfl rfl)
theorem dX1_pendulumAtRank_93 : decode cX1_pendulumAtRank 93 = .ok (.if_icmp .ne 5, 3) := dk_160 0 5 (dk_at dksX1_pendulumAtRank_4 0 rfl rfl)
theorem dX1_pendulumAtRank_96 : decode cX1_pendulumAtRank 96 = .ok (.iload_n 2, 1) := dk_28 (dk_at dksX1_pendulumAtRank_4 3 rfl rfl)
theorem dX1_pendulumAtRank_97 : decode cX1_pendulumAtRank 97 = .ok (.ireturn, 1) := dk_172 (dk_at dksX1_pendulumAtRank_4 4 rfl rfl)
theorem dX1_pendulumAtRank_98 : decode cX1_pendulumAtRank 98 = .ok (.iinc 2 1, 3) := dk_132 2 1 (dk_at dksX1_pendulumAtRank_4 5 rfl rfl)
theorem dX1_pendulumAtRank_101 : decode cX1_pendulumAtRank 101 = .ok (.goto (-99), 3) := dk_167 255 157 (dk_at dksX1_pendulumAtRank_4 8 rfl rfl)
theorem dX1_pendulumAtRank_104 : decode cX1_pendulumAtRank 104 = .ok (.new 13, 3) := dk_187 0 13 (dk_at dksX1_pendulumAtRank_4 11 rfl rfl)
theorem dX1_pendulumAtRank_107 : decode cX1_pendulumAtRank 107 = .ok (.dup, 1) := dk_89 (dk_at dksX1_pendulumAtRank_4 14 rfl rfl)
theorem dX1_pendulumAtRank_108 : decode cX1_pendulumAtRank 108 = .ok (.invokespecial 15, 3) := dk_183 0 15 (dk_at dksX1_pendulumAtRank_4 15 rfl rfl)
theorem dX1_pendulumAtRank_111 : decode cX1_pendulumAtRank 111 = .ok (.athrow, 1) := dk_191 (dk_at dksX1_pendulumAtRank_4 18 rfl rfl)
abbrev cX1_swingsToRest : ByteArray := prog_1_method_32_code
def yX1_swingsToRest : MethodName := ⟨RX1, "swingsToRest", "(I)I"⟩
def dkwX1_swingsToRest_1 : List UInt8 := [180, 0, 160, 184, 0, 189, 100, 61, 132, 3, 1, 167, 255, 235, 29, 172]
abbrev dktX1_swingsToRest_1 : List UInt8 := dkwX1_swingsToRest_1 ++ []
def dkwX1_swingsToRest_0 : List UInt8 := [42, 180, 0, 43, 27, 182, 0, 110, 182, 0, 128, 61, 3, 62, 28, 158, 0, 23, 28, 28, 42, 180, 0, 43]
abbrev dktX1_swingsToRest_0 : List UInt8 := dkwX1_swingsToRest_0 ++ dktX1_swingsToRest_1
theorem dksX1_swingsToRest_0 : cX1_swingsToRest.data.toList.drop 0 = dktX1_swingsToRest_0 := by decide +kernel
theorem dksX1_swingsToRest_1 : cX1_swingsToRest.data.toList.drop 24 = dktX1_swingsToRest_1 := dk_seg dksX1_swingsToRest_0 24 rfl rfl
theorem dX1_swingsToRest_0 : decode cX1_swingsToRest 0 = .ok (.aload_n 0, 1) := dk_42 (dk_at dksX1_swingsToRest_0 0 rfl rfl)
theorem dX1_swingsToRest_1 : decode cX1_swingsToRest 1 = .ok (.getfield 43, 3) := dk_180 0 43 (dk_at dksX1_swingsToRest_0 1 rfl rfl)
theorem dX1_swingsToRest_4 : decode cX1_swingsToRest 4 = .ok (.iload_n 1, 1) := dk_27 (dk_at dksX1_swingsToRest_0 4 rfl rfl)
theorem dX1_swingsToRest_5 : decode cX1_swingsToRest 5 = .ok (.invokevirtual 110, 3) := dk_182 0 110 (dk_at dksX1_swingsToRest_0 5 rfl rfl)
theorem dX1_swingsToRest_8 : decode cX1_swingsToRest 8 = .ok (.invokevirtual 128, 3) := dk_182 0 128 (dk_at dksX1_swingsToRest_0 8 rfl rfl)
theorem dX1_swingsToRest_11 : decode cX1_swingsToRest 11 = .ok (.istore_n 2, 1) := dk_61 (dk_at dksX1_swingsToRest_0 11 rfl rfl)
theorem dX1_swingsToRest_12 : decode cX1_swingsToRest 12 = .ok (.iconst 0, 1) := dk_3 (dk_at dksX1_swingsToRest_0 12 rfl rfl)
theorem dX1_swingsToRest_13 : decode cX1_swingsToRest 13 = .ok (.istore_n 3, 1) := dk_62 (dk_at dksX1_swingsToRest_0 13 rfl rfl)
theorem dX1_swingsToRest_14 : decode cX1_swingsToRest 14 = .ok (.iload_n 2, 1) := dk_28 (dk_at dksX1_swingsToRest_0 14 rfl rfl)
theorem dX1_swingsToRest_15 : decode cX1_swingsToRest 15 = .ok (.ifCond .le 23, 3) := dk_158 0 23 (dk_at dksX1_swingsToRest_0 15 rfl rfl)
theorem dX1_swingsToRest_18 : decode cX1_swingsToRest 18 = .ok (.iload_n 2, 1) := dk_28 (dk_at dksX1_swingsToRest_0 18 rfl rfl)
theorem dX1_swingsToRest_19 : decode cX1_swingsToRest 19 = .ok (.iload_n 2, 1) := dk_28 (dk_at dksX1_swingsToRest_0 19 rfl rfl)
theorem dX1_swingsToRest_20 : decode cX1_swingsToRest 20 = .ok (.aload_n 0, 1) := dk_42 (dk_at dksX1_swingsToRest_0 20 rfl rfl)
theorem dX1_swingsToRest_21 : decode cX1_swingsToRest 21 = .ok (.getfield 43, 3) := dk_180 0 43 (dk_at dksX1_swingsToRest_0 21 rfl rfl)
theorem dX1_swingsToRest_24 : decode cX1_swingsToRest 24 = .ok (.getfield 160, 3) := dk_180 0 160 (dk_at dksX1_swingsToRest_1 0 rfl rfl)
theorem dX1_swingsToRest_27 : decode cX1_swingsToRest 27 = .ok (.invokestatic 189, 3) := dk_184 0 189 (dk_at dksX1_swingsToRest_1 3 rfl rfl)
theorem dX1_swingsToRest_30 : decode cX1_swingsToRest 30 = .ok (.isub, 1) := dk_100 (dk_at dksX1_swingsToRest_1 6 rfl rfl)
theorem dX1_swingsToRest_31 : decode cX1_swingsToRest 31 = .ok (.istore_n 2, 1) := dk_61 (dk_at dksX1_swingsToRest_1 7 rfl rfl)
theorem dX1_swingsToRest_32 : decode cX1_swingsToRest 32 = .ok (.iinc 3 1, 3) := dk_132 3 1 (dk_at dksX1_swingsToRest_1 8 rfl rfl)
theorem dX1_swingsToRest_35 : decode cX1_swingsToRest 35 = .ok (.goto (-21), 3) := dk_167 255 235 (dk_at dksX1_swingsToRest_1 11 rfl rfl)
theorem dX1_swingsToRest_38 : decode cX1_swingsToRest 38 = .ok (.iload_n 3, 1) := dk_29 (dk_at dksX1_swingsToRest_1 14 rfl rfl)
theorem dX1_swingsToRest_39 : decode cX1_swingsToRest 39 = .ok (.ireturn, 1) := dk_172 (dk_at dksX1_swingsToRest_1 15 rfl rfl)
abbrev cX1_swingsToRestByTable : ByteArray := prog_1_method_33_code
def yX1_swingsToRestByTable : MethodName := ⟨RX1, "swingsToRestByTable", "(I)I"⟩
def dkwX1_swingsToRestByTable_2 : List UInt8 := [96, 79, 132, 4, 1, 167, 255, 224, 45, 28, 46, 172]
abbrev dktX1_swingsToRestByTable_2 : List UInt8 := dkwX1_swingsToRestByTable_2 ++ []
def dkwX1_swingsToRestByTable_1 : List UInt8 := [163, 0, 32, 45, 21, 4, 4, 45, 21, 4, 21, 4, 42, 180, 0, 43, 180, 0, 160, 184, 0, 189, 100, 46]
abbrev dktX1_swingsToRestByTable_1 : List UInt8 := dkwX1_swingsToRestByTable_1 ++ dktX1_swingsToRestByTable_2
def dkwX1_swingsToRestByTable_0 : List UInt8 := [42, 180, 0, 43, 27, 182, 0, 110, 182, 0, 128, 61, 28, 4, 96, 188, 10, 78, 4, 54, 4, 21, 4, 28]
abbrev dktX1_swingsToRestByTable_0 : List UInt8 := dkwX1_swingsToRestByTable_0 ++ dktX1_swingsToRestByTable_1
theorem dksX1_swingsToRestByTable_0 : cX1_swingsToRestByTable.data.toList.drop 0 = dktX1_swingsToRestByTable_0 := by decide +kernel
theorem dksX1_swingsToRestByTable_1 : cX1_swingsToRestByTable.data.toList.drop 24 = dktX1_swingsToRestByTable_1 := dk_seg dksX1_swingsToRestByTable_0 24 rfl rfl
theorem dksX1_swingsToRestByTable_2 : cX1_swingsToRestByTable.data.toList.drop 48 = dktX1_swingsToRestByTable_2 := dk_seg dksX1_swingsToRestByTable_1 24 rfl rfl
theorem dX1_swingsToRestByTable_0 : decode cX1_swingsToRestByTable 0 = .ok (.aload_n 0, 1) := dk_42 (dk_at dksX1_swingsToRestByTable_0 0 rfl rfl)
theorem dX1_swingsToRestByTable_1 : decode cX1_swingsToRestByTable 1 = .ok (.getfield 43, 3) := dk_180 0 43 (dk_at dksX1_swingsToRestByTable_0 1 rfl rfl)
theorem dX1_swingsToRestByTable_4 : decode cX1_swingsToRestByTable 4 = .ok (.iload_n 1, 1) := dk_27 (dk_at dksX1_swingsToRestByTable_0 4 rfl rfl)
theorem dX1_swingsToRestByTable_5 : decode cX1_swingsToRestByTable 5 = .ok (.invokevirtual 110, 3) := dk_182 0 110 (dk_at dksX1_swingsToRestByTable_0 5 rfl rfl)
theorem dX1_swingsToRestByTable_8 : decode cX1_swingsToRestByTable 8 = .ok (.invokevirtual 128, 3) := dk_182 0 128 (dk_at dksX1_swingsToRestByTable_0 8 rfl rfl)
theorem dX1_swingsToRestByTable_11 : decode cX1_swingsToRestByTable 11 = .ok (.istore_n 2, 1) := dk_61 (dk_at dksX1_swingsToRestByTable_0 11 rfl rfl)
theorem dX1_swingsToRestByTable_12 : decode cX1_swingsToRestByTable 12 = .ok (.iload_n 2, 1) := dk_28 (dk_at dksX1_swingsToRestByTable_0 12 rfl rfl)
theorem dX1_swingsToRestByTable_13 : decode cX1_swingsToRestByTable 13 = .ok (.iconst 1, 1) := dk_4 (dk_at dksX1_swingsToRestByTable_0 13 rfl rfl)
theorem dX1_swingsToRestByTable_14 : decode cX1_swingsToRestByTable 14 = .ok (.iadd, 1) := dk_96 (dk_at dksX1_swingsToRestByTable_0 14 rfl rfl)
theorem dX1_swingsToRestByTable_15 : decode cX1_swingsToRestByTable 15 = .ok (.newarray .int, 2) := dk_188_10 (dk_at dksX1_swingsToRestByTable_0 15 rfl rfl)
theorem dX1_swingsToRestByTable_17 : decode cX1_swingsToRestByTable 17 = .ok (.astore_n 3, 1) := dk_78 (dk_at dksX1_swingsToRestByTable_0 17 rfl rfl)
theorem dX1_swingsToRestByTable_18 : decode cX1_swingsToRestByTable 18 = .ok (.iconst 1, 1) := dk_4 (dk_at dksX1_swingsToRestByTable_0 18 rfl rfl)
theorem dX1_swingsToRestByTable_19 : decode cX1_swingsToRestByTable 19 = .ok (.istore 4, 2) := dk_54 4 (dk_at dksX1_swingsToRestByTable_0 19 rfl rfl)
theorem dX1_swingsToRestByTable_21 : decode cX1_swingsToRestByTable 21 = .ok (.iload 4, 2) := dk_21 4 (dk_at dksX1_swingsToRestByTable_0 21 rfl rfl)
theorem dX1_swingsToRestByTable_23 : decode cX1_swingsToRestByTable 23 = .ok (.iload_n 2, 1) := dk_28 (dk_at dksX1_swingsToRestByTable_0 23 rfl rfl)
theorem dX1_swingsToRestByTable_24 : decode cX1_swingsToRestByTable 24 = .ok (.if_icmp .gt 32, 3) := dk_163 0 32 (dk_at dksX1_swingsToRestByTable_1 0 rfl rfl)
theorem dX1_swingsToRestByTable_27 : decode cX1_swingsToRestByTable 27 = .ok (.aload_n 3, 1) := dk_45 (dk_at dksX1_swingsToRestByTable_1 3 rfl rfl)
theorem dX1_swingsToRestByTable_28 : decode cX1_swingsToRestByTable 28 = .ok (.iload 4, 2) := dk_21 4 (dk_at dksX1_swingsToRestByTable_1 4 rfl rfl)
theorem dX1_swingsToRestByTable_30 : decode cX1_swingsToRestByTable 30 = .ok (.iconst 1, 1) := dk_4 (dk_at dksX1_swingsToRestByTable_1 6 rfl rfl)
theorem dX1_swingsToRestByTable_31 : decode cX1_swingsToRestByTable 31 = .ok (.aload_n 3, 1) := dk_45 (dk_at dksX1_swingsToRestByTable_1 7 rfl rfl)
theorem dX1_swingsToRestByTable_32 : decode cX1_swingsToRestByTable 32 = .ok (.iload 4, 2) := dk_21 4 (dk_at dksX1_swingsToRestByTable_1 8 rfl rfl)
theorem dX1_swingsToRestByTable_34 : decode cX1_swingsToRestByTable 34 = .ok (.iload 4, 2) := dk_21 4 (dk_at dksX1_swingsToRestByTable_1 10 rfl rfl)
theorem dX1_swingsToRestByTable_36 : decode cX1_swingsToRestByTable 36 = .ok (.aload_n 0, 1) := dk_42 (dk_at dksX1_swingsToRestByTable_1 12 rfl rfl)
theorem dX1_swingsToRestByTable_37 : decode cX1_swingsToRestByTable 37 = .ok (.getfield 43, 3) := dk_180 0 43 (dk_at dksX1_swingsToRestByTable_1 13 rfl rfl)
theorem dX1_swingsToRestByTable_40 : decode cX1_swingsToRestByTable 40 = .ok (.getfield 160, 3) := dk_180 0 160 (dk_at dksX1_swingsToRestByTable_1 16 rfl rfl)
theorem dX1_swingsToRestByTable_43 : decode cX1_swingsToRestByTable 43 = .ok (.invokestatic 189, 3) := dk_184 0 189 (dk_at dksX1_swingsToRestByTable_1 19 rfl rfl)
theorem dX1_swingsToRestByTable_46 : decode cX1_swingsToRestByTable 46 = .ok (.isub, 1) := dk_100 (dk_at dksX1_swingsToRestByTable_1 22 rfl rfl)
theorem dX1_swingsToRestByTable_47 : decode cX1_swingsToRestByTable 47 = .ok (.iaload, 1) := dk_46 (dk_at dksX1_swingsToRestByTable_1 23 rfl rfl)
theorem dX1_swingsToRestByTable_48 : decode cX1_swingsToRestByTable 48 = .ok (.iadd, 1) := dk_96 (dk_at dksX1_swingsToRestByTable_2 0 rfl rfl)
theorem dX1_swingsToRestByTable_49 : decode cX1_swingsToRestByTable 49 = .ok (.iastore, 1) := dk_79 (dk_at dksX1_swingsToRestByTable_2 1 rfl rfl)
theorem dX1_swingsToRestByTable_50 : decode cX1_swingsToRestByTable 50 = .ok (.iinc 4 1, 3) := dk_132 4 1 (dk_at dksX1_swingsToRestByTable_2 2 rfl rfl)
theorem dX1_swingsToRestByTable_53 : decode cX1_swingsToRestByTable 53 = .ok (.goto (-32), 3) := dk_167 255 224 (dk_at dksX1_swingsToRestByTable_2 5 rfl rfl)
theorem dX1_swingsToRestByTable_56 : decode cX1_swingsToRestByTable 56 = .ok (.aload_n 3, 1) := dk_45 (dk_at dksX1_swingsToRestByTable_2 8 rfl rfl)
theorem dX1_swingsToRestByTable_57 : decode cX1_swingsToRestByTable 57 = .ok (.iload_n 2, 1) := dk_28 (dk_at dksX1_swingsToRestByTable_2 9 rfl rfl)
theorem dX1_swingsToRestByTable_58 : decode cX1_swingsToRestByTable 58 = .ok (.iaload, 1) := dk_46 (dk_at dksX1_swingsToRestByTable_2 10 rfl rfl)
theorem dX1_swingsToRestByTable_59 : decode cX1_swingsToRestByTable 59 = .ok (.ireturn, 1) := dk_172 (dk_at dksX1_swingsToRestByTable_2 11 rfl rfl)
abbrev cX1_restTick : ByteArray := prog_1_method_34_code
def yX1_restTick : MethodName := ⟨RX1, "restTick", "(I)I"⟩
def dkwX1_restTick_2 : List UInt8 := [182, 0, 196, 96, 29, 104, 96, 172]
abbrev dktX1_restTick_2 : List UInt8 := dkwX1_restTick_2 ++ []
def dkwX1_restTick_1 : List UInt8 := [42, 180, 0, 43, 180, 0, 157, 44, 180, 0, 143, 100, 29, 108, 54, 4, 44, 180, 0, 143, 21, 4, 42, 27]
abbrev dktX1_restTick_1 : List UInt8 := dkwX1_restTick_1 ++ dktX1_restTick_2
def dkwX1_restTick_0 : List UInt8 := [42, 27, 182, 0, 135, 77, 44, 198, 0, 7, 4, 167, 0, 4, 3, 184, 0, 139, 42, 27, 182, 0, 192, 62]
abbrev dktX1_restTick_0 : List UInt8 := dkwX1_restTick_0 ++ dktX1_restTick_1
theorem dksX1_restTick_0 : cX1_restTick.data.toList.drop 0 = dktX1_restTick_0 := by decide +kernel
theorem dksX1_restTick_1 : cX1_restTick.data.toList.drop 24 = dktX1_restTick_1 := dk_seg dksX1_restTick_0 24 rfl rfl
theorem dksX1_restTick_2 : cX1_restTick.data.toList.drop 48 = dktX1_restTick_2 := dk_seg dksX1_restTick_1 24 rfl rfl
theorem dX1_restTick_0 : decode cX1_restTick 0 = .ok (.aload_n 0, 1) := dk_42 (dk_at dksX1_restTick_0 0 rfl rfl)
theorem dX1_restTick_1 : decode cX1_restTick 1 = .ok (.iload_n 1, 1) := dk_27 (dk_at dksX1_restTick_0 1 rfl rfl)
theorem dX1_restTick_2 : decode cX1_restTick 2 = .ok (.invokevirtual 135, 3) := dk_182 0 135 (dk_at dksX1_restTick_0 2 rfl rfl)
theorem dX1_restTick_5 : decode cX1_restTick 5 = .ok (.astore_n 2, 1) := dk_77 (dk_at dksX1_restTick_0 5 rfl rfl)
theorem dX1_restTick_6 : decode cX1_restTick 6 = .ok (.aload_n 2, 1) := dk_44 (dk_at dksX1_restTick_0 6 rfl rfl)
theorem dX1_restTick_7 : decode cX1_restTick 7 = .ok (.ifnull 7, 3) := dk_198 0 7 (dk_at dksX1_restTick_0 7 rfl rfl)
theorem dX1_restTick_10 : decode cX1_restTick 10 = .ok (.iconst 1, 1) := dk_4 (dk_at dksX1_restTick_0 10 rfl rfl)
theorem dX1_restTick_11 : decode cX1_restTick 11 = .ok (.goto 4, 3) := dk_167 0 4 (dk_at dksX1_restTick_0 11 rfl rfl)
theorem dX1_restTick_14 : decode cX1_restTick 14 = .ok (.iconst 0, 1) := dk_3 (dk_at dksX1_restTick_0 14 rfl rfl)
theorem dX1_restTick_15 : decode cX1_restTick 15 = .ok (.invokestatic 139, 3) := dk_184 0 139 (dk_at dksX1_restTick_0 15 rfl rfl)
theorem dX1_restTick_18 : decode cX1_restTick 18 = .ok (.aload_n 0, 1) := dk_42 (dk_at dksX1_restTick_0 18 rfl rfl)
theorem dX1_restTick_19 : decode cX1_restTick 19 = .ok (.iload_n 1, 1) := dk_27 (dk_at dksX1_restTick_0 19 rfl rfl)
theorem dX1_restTick_20 : decode cX1_restTick 20 = .ok (.invokevirtual 192, 3) := dk_182 0 192 (dk_at dksX1_restTick_0 20 rfl rfl)
theorem dX1_restTick_23 : decode cX1_restTick 23 = .ok (.istore_n 3, 1) := dk_62 (dk_at dksX1_restTick_0 23 rfl rfl)
theorem dX1_restTick_24 : decode cX1_restTick 24 = .ok (.aload_n 0, 1) := dk_42 (dk_at dksX1_restTick_1 0 rfl rfl)
theorem dX1_restTick_25 : decode cX1_restTick 25 = .ok (.getfield 43, 3) := dk_180 0 43 (dk_at dksX1_restTick_1 1 rfl rfl)
theorem dX1_restTick_28 : decode cX1_restTick 28 = .ok (.getfield 157, 3) := dk_180 0 157 (dk_at dksX1_restTick_1 4 rfl rfl)
theorem dX1_restTick_31 : decode cX1_restTick 31 = .ok (.aload_n 2, 1) := dk_44 (dk_at dksX1_restTick_1 7 rfl rfl)
theorem dX1_restTick_32 : decode cX1_restTick 32 = .ok (.getfield 143, 3) := dk_180 0 143 (dk_at dksX1_restTick_1 8 rfl rfl)
theorem dX1_restTick_35 : decode cX1_restTick 35 = .ok (.isub, 1) := dk_100 (dk_at dksX1_restTick_1 11 rfl rfl)
theorem dX1_restTick_36 : decode cX1_restTick 36 = .ok (.iload_n 3, 1) := dk_29 (dk_at dksX1_restTick_1 12 rfl rfl)
theorem dX1_restTick_37 : decode cX1_restTick 37 = .ok (.idiv, 1) := dk_108 (dk_at dksX1_restTick_1 13 rfl rfl)
theorem dX1_restTick_38 : decode cX1_restTick 38 = .ok (.istore 4, 2) := dk_54 4 (dk_at dksX1_restTick_1 14 rfl rfl)
theorem dX1_restTick_40 : decode cX1_restTick 40 = .ok (.aload_n 2, 1) := dk_44 (dk_at dksX1_restTick_1 16 rfl rfl)
theorem dX1_restTick_41 : decode cX1_restTick 41 = .ok (.getfield 143, 3) := dk_180 0 143 (dk_at dksX1_restTick_1 17 rfl rfl)
theorem dX1_restTick_44 : decode cX1_restTick 44 = .ok (.iload 4, 2) := dk_21 4 (dk_at dksX1_restTick_1 20 rfl rfl)
theorem dX1_restTick_46 : decode cX1_restTick 46 = .ok (.aload_n 0, 1) := dk_42 (dk_at dksX1_restTick_1 22 rfl rfl)
theorem dX1_restTick_47 : decode cX1_restTick 47 = .ok (.iload_n 1, 1) := dk_27 (dk_at dksX1_restTick_1 23 rfl rfl)
theorem dX1_restTick_48 : decode cX1_restTick 48 = .ok (.invokevirtual 196, 3) := dk_182 0 196 (dk_at dksX1_restTick_2 0 rfl rfl)
theorem dX1_restTick_51 : decode cX1_restTick 51 = .ok (.iadd, 1) := dk_96 (dk_at dksX1_restTick_2 3 rfl rfl)
theorem dX1_restTick_52 : decode cX1_restTick 52 = .ok (.iload_n 3, 1) := dk_29 (dk_at dksX1_restTick_2 4 rfl rfl)
theorem dX1_restTick_53 : decode cX1_restTick 53 = .ok (.imul, 1) := dk_104 (dk_at dksX1_restTick_2 5 rfl rfl)
theorem dX1_restTick_54 : decode cX1_restTick 54 = .ok (.iadd, 1) := dk_96 (dk_at dksX1_restTick_2 6 rfl rfl)
theorem dX1_restTick_55 : decode cX1_restTick 55 = .ok (.ireturn, 1) := dk_172 (dk_at dksX1_restTick_2 7 rfl rfl)
abbrev cX1_amplitudeAfter : ByteArray := prog_1_method_35_code
def yX1_amplitudeAfter : MethodName := ⟨RX1, "amplitudeAfter", "(II)I"⟩
def dkwX1_amplitudeAfter_2 : List UInt8 := [42, 180, 0, 43, 180, 0, 160, 182, 0, 202, 96, 54, 4, 132, 5, 1, 167, 255, 221, 45, 182, 0, 128, 172]
abbrev dktX1_amplitudeAfter_2 : List UInt8 := dkwX1_amplitudeAfter_2 ++ []
def dkwX1_amplitudeAfter_1 : List UInt8 := [54, 4, 4, 54, 5, 21, 5, 28, 163, 0, 35, 21, 4, 45, 42, 180, 0, 43, 180, 0, 157, 21, 5, 96]
abbrev dktX1_amplitudeAfter_1 : List UInt8 := dkwX1_amplitudeAfter_1 ++ dktX1_amplitudeAfter_2
def dkwX1_amplitudeAfter_0 : List UInt8 := [42, 180, 0, 43, 27, 182, 0, 110, 182, 0, 199, 78, 28, 3, 17, 1, 244, 184, 0, 163, 184, 0, 167, 3]
abbrev dktX1_amplitudeAfter_0 : List UInt8 := dkwX1_amplitudeAfter_0 ++ dktX1_amplitudeAfter_1
theorem dksX1_amplitudeAfter_0 : cX1_amplitudeAfter.data.toList.drop 0 = dktX1_amplitudeAfter_0 := by decide +kernel
theorem dksX1_amplitudeAfter_1 : cX1_amplitudeAfter.data.toList.drop 24 = dktX1_amplitudeAfter_1 := dk_seg dksX1_amplitudeAfter_0 24 rfl rfl
theorem dksX1_amplitudeAfter_2 : cX1_amplitudeAfter.data.toList.drop 48 = dktX1_amplitudeAfter_2 := dk_seg dksX1_amplitudeAfter_1 24 rfl rfl
theorem dX1_amplitudeAfter_0 : decode cX1_amplitudeAfter 0 = .ok (.aload_n 0, 1) := dk_42 (dk_at dksX1_amplitudeAfter_0 0 rfl rfl)
theorem dX1_amplitudeAfter_1 : decode cX1_amplitudeAfter 1 = .ok (.getfield 43, 3) := dk_180 0 43 (dk_at dksX1_amplitudeAfter_0 1 rfl rfl)
theorem dX1_amplitudeAfter_4 : decode cX1_amplitudeAfter 4 = .ok (.iload_n 1, 1) := dk_27 (dk_at dksX1_amplitudeAfter_0 4 rfl rfl)
theorem dX1_amplitudeAfter_5 : decode cX1_amplitudeAfter 5 = .ok (.invokevirtual 110, 3) := dk_182 0 110 (dk_at dksX1_amplitudeAfter_0 5 rfl rfl)
theorem dX1_amplitudeAfter_8 : decode cX1_amplitudeAfter 8 = .ok (.invokevirtual 199, 3) := dk_182 0 199 (dk_at dksX1_amplitudeAfter_0 8 rfl rfl)
theorem dX1_amplitudeAfter_11 : decode cX1_amplitudeAfter 11 = .ok (.astore_n 3, 1) := dk_78 (dk_at dksX1_amplitudeAfter_0 11 rfl rfl)
theorem dX1_amplitudeAfter_12 : decode cX1_amplitudeAfter 12 = .ok (.iload_n 2, 1) := dk_28 (dk_at dksX1_amplitudeAfter_0 12 rfl rfl)
theorem dX1_amplitudeAfter_13 : decode cX1_amplitudeAfter 13 = .ok (.iconst 0, 1) := dk_3 (dk_at dksX1_amplitudeAfter_0 13 rfl rfl)
theorem dX1_amplitudeAfter_14 : decode cX1_amplitudeAfter 14 = .ok (.sipush 500, 3) := dk_17 1 244 (dk_at dksX1_amplitudeAfter_0 14 rfl rfl)
theorem dX1_amplitudeAfter_17 : decode cX1_amplitudeAfter 17 = .ok (.invokestatic 163, 3) := dk_184 0 163 (dk_at dksX1_amplitudeAfter_0 17 rfl rfl)
theorem dX1_amplitudeAfter_20 : decode cX1_amplitudeAfter 20 = .ok (.invokestatic 167, 3) := dk_184 0 167 (dk_at dksX1_amplitudeAfter_0 20 rfl rfl)
theorem dX1_amplitudeAfter_23 : decode cX1_amplitudeAfter 23 = .ok (.iconst 0, 1) := dk_3 (dk_at dksX1_amplitudeAfter_0 23 rfl rfl)
theorem dX1_amplitudeAfter_24 : decode cX1_amplitudeAfter 24 = .ok (.istore 4, 2) := dk_54 4 (dk_at dksX1_amplitudeAfter_1 0 rfl rfl)
theorem dX1_amplitudeAfter_26 : decode cX1_amplitudeAfter 26 = .ok (.iconst 1, 1) := dk_4 (dk_at dksX1_amplitudeAfter_1 2 rfl rfl)
theorem dX1_amplitudeAfter_27 : decode cX1_amplitudeAfter 27 = .ok (.istore 5, 2) := dk_54 5 (dk_at dksX1_amplitudeAfter_1 3 rfl rfl)
theorem dX1_amplitudeAfter_29 : decode cX1_amplitudeAfter 29 = .ok (.iload 5, 2) := dk_21 5 (dk_at dksX1_amplitudeAfter_1 5 rfl rfl)
theorem dX1_amplitudeAfter_31 : decode cX1_amplitudeAfter 31 = .ok (.iload_n 2, 1) := dk_28 (dk_at dksX1_amplitudeAfter_1 7 rfl rfl)
theorem dX1_amplitudeAfter_32 : decode cX1_amplitudeAfter 32 = .ok (.if_icmp .gt 35, 3) := dk_163 0 35 (dk_at dksX1_amplitudeAfter_1 8 rfl rfl)
theorem dX1_amplitudeAfter_35 : decode cX1_amplitudeAfter 35 = .ok (.iload 4, 2) := dk_21 4 (dk_at dksX1_amplitudeAfter_1 11 rfl rfl)
theorem dX1_amplitudeAfter_37 : decode cX1_amplitudeAfter 37 = .ok (.aload_n 3, 1) := dk_45 (dk_at dksX1_amplitudeAfter_1 13 rfl rfl)
theorem dX1_amplitudeAfter_38 : decode cX1_amplitudeAfter 38 = .ok (.aload_n 0, 1) := dk_42 (dk_at dksX1_amplitudeAfter_1 14 rfl rfl)
theorem dX1_amplitudeAfter_39 : decode cX1_amplitudeAfter 39 = .ok (.getfield 43, 3) := dk_180 0 43 (dk_at dksX1_amplitudeAfter_1 15 rfl rfl)
theorem dX1_amplitudeAfter_42 : decode cX1_amplitudeAfter 42 = .ok (.getfield 157, 3) := dk_180 0 157 (dk_at dksX1_amplitudeAfter_1 18 rfl rfl)
theorem dX1_amplitudeAfter_45 : decode cX1_amplitudeAfter 45 = .ok (.iload 5, 2) := dk_21 5 (dk_at dksX1_amplitudeAfter_1 21 rfl rfl)
theorem dX1_amplitudeAfter_47 : decode cX1_amplitudeAfter 47 = .ok (.iadd, 1) := dk_96 (dk_at dksX1_amplitudeAfter_1 23 rfl rfl)
theorem dX1_amplitudeAfter_48 : decode cX1_amplitudeAfter 48 = .ok (.aload_n 0, 1) := dk_42 (dk_at dksX1_amplitudeAfter_2 0 rfl rfl)
theorem dX1_amplitudeAfter_49 : decode cX1_amplitudeAfter 49 = .ok (.getfield 43, 3) := dk_180 0 43 (dk_at dksX1_amplitudeAfter_2 1 rfl rfl)
theorem dX1_amplitudeAfter_52 : decode cX1_amplitudeAfter 52 = .ok (.getfield 160, 3) := dk_180 0 160 (dk_at dksX1_amplitudeAfter_2 4 rfl rfl)
theorem dX1_amplitudeAfter_55 : decode cX1_amplitudeAfter 55 = .ok (.invokevirtual 202, 3) := dk_182 0 202 (dk_at dksX1_amplitudeAfter_2 7 rfl rfl)
theorem dX1_amplitudeAfter_58 : decode cX1_amplitudeAfter 58 = .ok (.iadd, 1) := dk_96 (dk_at dksX1_amplitudeAfter_2 10 rfl rfl)
theorem dX1_amplitudeAfter_59 : decode cX1_amplitudeAfter 59 = .ok (.istore 4, 2) := dk_54 4 (dk_at dksX1_amplitudeAfter_2 11 rfl rfl)
theorem dX1_amplitudeAfter_61 : decode cX1_amplitudeAfter 61 = .ok (.iinc 5 1, 3) := dk_132 5 1 (dk_at dksX1_amplitudeAfter_2 13 rfl rfl)
theorem dX1_amplitudeAfter_64 : decode cX1_amplitudeAfter 64 = .ok (.goto (-35), 3) := dk_167 255 221 (dk_at dksX1_amplitudeAfter_2 16 rfl rfl)
theorem dX1_amplitudeAfter_67 : decode cX1_amplitudeAfter 67 = .ok (.aload_n 3, 1) := dk_45 (dk_at dksX1_amplitudeAfter_2 19 rfl rfl)
theorem dX1_amplitudeAfter_68 : decode cX1_amplitudeAfter 68 = .ok (.invokevirtual 128, 3) := dk_182 0 128 (dk_at dksX1_amplitudeAfter_2 20 rfl rfl)
theorem dX1_amplitudeAfter_71 : decode cX1_amplitudeAfter 71 = .ok (.ireturn, 1) := dk_172 (dk_at dksX1_amplitudeAfter_2 23 rfl rfl)
abbrev cX1_meeting : ByteArray := prog_1_method_37_code
def yX1_meeting : MethodName := ⟨RX1, "meeting", "(II)I"⟩
def dkwX1_meeting_4 : List UInt8 := [153, 0, 6, 21, 7, 172, 132, 7, 1, 167, 255, 209, 187, 0, 13, 89, 183, 0, 15, 191]
abbrev dktX1_meeting_4 : List UInt8 := dkwX1_meeting_4 ++ []
def dkwX1_meeting_3 : List UInt8 := [96, 163, 0, 35, 45, 21, 5, 21, 7, 184, 0, 208, 153, 0, 18, 25, 4, 21, 6, 21, 7, 184, 0, 208]
abbrev dktX1_meeting_3 : List UInt8 := dkwX1_meeting_3 ++ dktX1_meeting_4
def dkwX1_meeting_2 : List UInt8 := [180, 0, 43, 180, 0, 157, 4, 96, 54, 7, 21, 7, 42, 180, 0, 43, 180, 0, 157, 21, 5, 21, 6, 104]
abbrev dktX1_meeting_2 : List UInt8 := dkwX1_meeting_2 ++ dktX1_meeting_3
def dkwX1_meeting_1 : List UInt8 := [167, 0, 4, 3, 184, 0, 205, 42, 27, 182, 0, 192, 54, 5, 42, 28, 182, 0, 192, 54, 6, 42]
abbrev dktX1_meeting_1 : List UInt8 := dkwX1_meeting_1 ++ dktX1_meeting_2
def dkwX1_meeting_0 : List UInt8 := [42, 27, 182, 0, 135, 78, 42, 28, 182, 0, 135, 58, 4, 45, 198, 0, 12, 25, 4, 198, 0, 7, 4]
abbrev dktX1_meeting_0 : List UInt8 := dkwX1_meeting_0 ++ dktX1_meeting_1
theorem dksX1_meeting_0 : cX1_meeting.data.toList.drop 0 = dktX1_meeting_0 := by decide +kernel
theorem dksX1_meeting_1 : cX1_meeting.data.toList.drop 23 = dktX1_meeting_1 := dk_seg dksX1_meeting_0 23 rfl rfl
theorem dksX1_meeting_2 : cX1_meeting.data.toList.drop 45 = dktX1_meeting_2 := dk_seg dksX1_meeting_1 22 rfl rfl
theorem dksX1_meeting_3 : cX1_meeting.data.toList.drop 69 = dktX1_meeting_3 := dk_seg dksX1_meeting_2 24 rfl rfl
theorem dksX1_meeting_4 : cX1_meeting.data.toList.drop 93 = dktX1_meeting_4 := dk_seg dksX1_meeting_3 24 rfl rfl
theorem dX1_meeting_0 : decode cX1_meeting 0 = .ok (.aload_n 0, 1) := dk_42 (dk_at dksX1_meeting_0 0 rfl rfl)
theorem dX1_meeting_1 : decode cX1_meeting 1 = .ok (.iload_n 1, 1) := dk_27 (dk_at dksX1_meeting_0 1 rfl rfl)
theorem dX1_meeting_2 : decode cX1_meeting 2 = .ok (.invokevirtual 135, 3) := dk_182 0 135 (dk_at dksX1_meeting_0 2 rfl rfl)
theorem dX1_meeting_5 : decode cX1_meeting 5 = .ok (.astore_n 3, 1) := dk_78 (dk_at dksX1_meeting_0 5 rfl rfl)
theorem dX1_meeting_6 : decode cX1_meeting 6 = .ok (.aload_n 0, 1) := dk_42 (dk_at dksX1_meeting_0 6 rfl rfl)
theorem dX1_meeting_7 : decode cX1_meeting 7 = .ok (.iload_n 2, 1) := dk_28 (dk_at dksX1_meeting_0 7 rfl rfl)
theorem dX1_meeting_8 : decode cX1_meeting 8 = .ok (.invokevirtual 135, 3) := dk_182 0 135 (dk_at dksX1_meeting_0 8 rfl rfl)
theorem dX1_meeting_11 : decode cX1_meeting 11 = .ok (.astore 4, 2) := dk_58 4 (dk_at dksX1_meeting_0 11 rfl rfl)
theorem dX1_meeting_13 : decode cX1_meeting 13 = .ok (.aload_n 3, 1) := dk_45 (dk_at dksX1_meeting_0 13 rfl rfl)
theorem dX1_meeting_14 : decode cX1_meeting 14 = .ok (.ifnull 12, 3) := dk_198 0 12 (dk_at dksX1_meeting_0 14 rfl rfl)
theorem dX1_meeting_17 : decode cX1_meeting 17 = .ok (.aload 4, 2) := dk_25 4 (dk_at dksX1_meeting_0 17 rfl rfl)
theorem dX1_meeting_19 : decode cX1_meeting 19 = .ok (.ifnull 7, 3) := dk_198 0 7 (dk_at dksX1_meeting_0 19 rfl rfl)
theorem dX1_meeting_22 : decode cX1_meeting 22 = .ok (.iconst 1, 1) := dk_4 (dk_at dksX1_meeting_0 22 rfl rfl)
theorem dX1_meeting_23 : decode cX1_meeting 23 = .ok (.goto 4, 3) := dk_167 0 4 (dk_at dksX1_meeting_1 0 rfl rfl)
theorem dX1_meeting_26 : decode cX1_meeting 26 = .ok (.iconst 0, 1) := dk_3 (dk_at dksX1_meeting_1 3 rfl rfl)
theorem dX1_meeting_27 : decode cX1_meeting 27 = .ok (.invokestatic 205, 3) := dk_184 0 205 (dk_at dksX1_meeting_1 4 rfl rfl)
theorem dX1_meeting_30 : decode cX1_meeting 30 = .ok (.aload_n 0, 1) := dk_42 (dk_at dksX1_meeting_1 7 rfl rfl)
theorem dX1_meeting_31 : decode cX1_meeting 31 = .ok (.iload_n 1, 1) := dk_27 (dk_at dksX1_meeting_1 8 rfl rfl)
theorem dX1_meeting_32 : decode cX1_meeting 32 = .ok (.invokevirtual 192, 3) := dk_182 0 192 (dk_at dksX1_meeting_1 9 rfl rfl)
theorem dX1_meeting_35 : decode cX1_meeting 35 = .ok (.istore 5, 2) := dk_54 5 (dk_at dksX1_meeting_1 12 rfl rfl)
theorem dX1_meeting_37 : decode cX1_meeting 37 = .ok (.aload_n 0, 1) := dk_42 (dk_at dksX1_meeting_1 14 rfl rfl)
theorem dX1_meeting_38 : decode cX1_meeting 38 = .ok (.iload_n 2, 1) := dk_28 (dk_at dksX1_meeting_1 15 rfl rfl)
theorem dX1_meeting_39 : decode cX1_meeting 39 = .ok (.invokevirtual 192, 3) := dk_182 0 192 (dk_at dksX1_meeting_1 16 rfl rfl)
theorem dX1_meeting_42 : decode cX1_meeting 42 = .ok (.istore 6, 2) := dk_54 6 (dk_at dksX1_meeting_1 19 rfl rfl)
theorem dX1_meeting_44 : decode cX1_meeting 44 = .ok (.aload_n 0, 1) := dk_42 (dk_at dksX1_meeting_1 21 rfl rfl)
theorem dX1_meeting_45 : decode cX1_meeting 45 = .ok (.getfield 43, 3) := dk_180 0 43 (dk_at dksX1_meeting_2 0 rfl rfl)
theorem dX1_meeting_48 : decode cX1_meeting 48 = .ok (.getfield 157, 3) := dk_180 0 157 (dk_at dksX1_meeting_2 3 rfl rfl)
theorem dX1_meeting_51 : decode cX1_meeting 51 = .ok (.iconst 1, 1) := dk_4 (dk_at dksX1_meeting_2 6 rfl rfl)
theorem dX1_meeting_52 : decode cX1_meeting 52 = .ok (.iadd, 1) := dk_96 (dk_at dksX1_meeting_2 7 rfl rfl)
theorem dX1_meeting_53 : decode cX1_meeting 53 = .ok (.istore 7, 2) := dk_54 7 (dk_at dksX1_meeting_2 8 rfl rfl)
theorem dX1_meeting_55 : decode cX1_meeting 55 = .ok (.iload 7, 2) := dk_21 7 (dk_at dksX1_meeting_2 10 rfl rfl)
theorem dX1_meeting_57 : decode cX1_meeting 57 = .ok (.aload_n 0, 1) := dk_42 (dk_at dksX1_meeting_2 12 rfl rfl)
theorem dX1_meeting_58 : decode cX1_meeting 58 = .ok (.getfield 43, 3) := dk_180 0 43 (dk_at dksX1_meeting_2 13 rfl rfl)
theorem dX1_meeting_61 : decode cX1_meeting 61 = .ok (.getfield 157, 3) := dk_180 0 157 (dk_at dksX1_meeting_2 16 rfl rfl)
theorem dX1_meeting_64 : decode cX1_meeting 64 = .ok (.iload 5, 2) := dk_21 5 (dk_at dksX1_meeting_2 19 rfl rfl)
theorem dX1_meeting_66 : decode cX1_meeting 66 = .ok (.iload 6, 2) := dk_21 6 (dk_at dksX1_meeting_2 21 rfl rfl)
theorem dX1_meeting_68 : decode cX1_meeting 68 = .ok (.imul, 1) := dk_104 (dk_at dksX1_meeting_2 23 rfl rfl)
theorem dX1_meeting_69 : decode cX1_meeting 69 = .ok (.iadd, 1) := dk_96 (dk_at dksX1_meeting_3 0 rfl rfl)
theorem dX1_meeting_70 : decode cX1_meeting 70 = .ok (.if_icmp .gt 35, 3) := dk_163 0 35 (dk_at dksX1_meeting_3 1 rfl rfl)
theorem dX1_meeting_73 : decode cX1_meeting 73 = .ok (.aload_n 3, 1) := dk_45 (dk_at dksX1_meeting_3 4 rfl rfl)
theorem dX1_meeting_74 : decode cX1_meeting 74 = .ok (.iload 5, 2) := dk_21 5 (dk_at dksX1_meeting_3 5 rfl rfl)
theorem dX1_meeting_76 : decode cX1_meeting 76 = .ok (.iload 7, 2) := dk_21 7 (dk_at dksX1_meeting_3 7 rfl rfl)
theorem dX1_meeting_78 : decode cX1_meeting 78 = .ok (.invokestatic 208, 3) := dk_184 0 208 (dk_at dksX1_meeting_3 9 rfl rfl)
theorem dX1_meeting_81 : decode cX1_meeting 81 = .ok (.ifCond .eq 18, 3) := dk_153 0 18 (dk_at dksX1_meeting_3 12 rfl rfl)
theorem dX1_meeting_84 : decode cX1_meeting 84 = .ok (.aload 4, 2) := dk_25 4 (dk_at dksX1_meeting_3 15 rfl rfl)
theorem dX1_meeting_86 : decode cX1_meeting 86 = .ok (.iload 6, 2) := dk_21 6 (dk_at dksX1_meeting_3 17 rfl rfl)
theorem dX1_meeting_88 : decode cX1_meeting 88 = .ok (.iload 7, 2) := dk_21 7 (dk_at dksX1_meeting_3 19 rfl rfl)
theorem dX1_meeting_90 : decode cX1_meeting 90 = .ok (.invokestatic 208, 3) := dk_184 0 208 (dk_at dksX1_meeting_3 21 rfl rfl)
theorem dX1_meeting_93 : decode cX1_meeting 93 = .ok (.ifCond .eq 6, 3) := dk_153 0 6 (dk_at dksX1_meeting_4 0 rfl rfl)
theorem dX1_meeting_96 : decode cX1_meeting 96 = .ok (.iload 7, 2) := dk_21 7 (dk_at dksX1_meeting_4 3 rfl rfl)
theorem dX1_meeting_98 : decode cX1_meeting 98 = .ok (.ireturn, 1) := dk_172 (dk_at dksX1_meeting_4 5 rfl rfl)
theorem dX1_meeting_99 : decode cX1_meeting 99 = .ok (.iinc 7 1, 3) := dk_132 7 1 (dk_at dksX1_meeting_4 6 rfl rfl)
theorem dX1_meeting_102 : decode cX1_meeting 102 = .ok (.goto (-47), 3) := dk_167 255 209 (dk_at dksX1_meeting_4 9 rfl rfl)
theorem dX1_meeting_105 : decode cX1_meeting 105 = .ok (.new 13, 3) := dk_187 0 13 (dk_at dksX1_meeting_4 12 rfl rfl)
theorem dX1_meeting_108 : decode cX1_meeting 108 = .ok (.dup, 1) := dk_89 (dk_at dksX1_meeting_4 15 rfl rfl)
theorem dX1_meeting_109 : decode cX1_meeting 109 = .ok (.invokespecial 15, 3) := dk_183 0 15 (dk_at dksX1_meeting_4 16 rfl rfl)
theorem dX1_meeting_112 : decode cX1_meeting 112 = .ok (.athrow, 1) := dk_191 (dk_at dksX1_meeting_4 19 rfl rfl)
abbrev cX1_isSwingTick : ByteArray := prog_1_method_36_code
def yX1_isSwingTick : MethodName := ⟨RX1, "isSwingTick", "(LPendulumGym$Swinging;II)Z"⟩
def dkwX1_isSwingTick_0 : List UInt8 := [28, 42, 180, 0, 143, 100, 27, 112, 154, 0, 7, 4, 167, 0, 4, 3, 172]
abbrev dktX1_isSwingTick_0 : List UInt8 := dkwX1_isSwingTick_0 ++ []
theorem dksX1_isSwingTick_0 : cX1_isSwingTick.data.toList.drop 0 = dktX1_isSwingTick_0 := by decide +kernel
theorem dX1_isSwingTick_0 : decode cX1_isSwingTick 0 = .ok (.iload_n 2, 1) := dk_28 (dk_at dksX1_isSwingTick_0 0 rfl rfl)
theorem dX1_isSwingTick_1 : decode cX1_isSwingTick 1 = .ok (.aload_n 0, 1) := dk_42 (dk_at dksX1_isSwingTick_0 1 rfl rfl)
theorem dX1_isSwingTick_2 : decode cX1_isSwingTick 2 = .ok (.getfield 143, 3) := dk_180 0 143 (dk_at dksX1_isSwingTick_0 2 rfl rfl)
theorem dX1_isSwingTick_5 : decode cX1_isSwingTick 5 = .ok (.isub, 1) := dk_100 (dk_at dksX1_isSwingTick_0 5 rfl rfl)
theorem dX1_isSwingTick_6 : decode cX1_isSwingTick 6 = .ok (.iload_n 1, 1) := dk_27 (dk_at dksX1_isSwingTick_0 6 rfl rfl)
theorem dX1_isSwingTick_7 : decode cX1_isSwingTick 7 = .ok (.irem, 1) := dk_112 (dk_at dksX1_isSwingTick_0 7 rfl rfl)
theorem dX1_isSwingTick_8 : decode cX1_isSwingTick 8 = .ok (.ifCond .ne 7, 3) := dk_154 0 7 (dk_at dksX1_isSwingTick_0 8 rfl rfl)
theorem dX1_isSwingTick_11 : decode cX1_isSwingTick 11 = .ok (.iconst 1, 1) := dk_4 (dk_at dksX1_isSwingTick_0 11 rfl rfl)
theorem dX1_isSwingTick_12 : decode cX1_isSwingTick 12 = .ok (.goto 4, 3) := dk_167 0 4 (dk_at dksX1_isSwingTick_0 12 rfl rfl)
theorem dX1_isSwingTick_15 : decode cX1_isSwingTick 15 = .ok (.iconst 0, 1) := dk_3 (dk_at dksX1_isSwingTick_0 15 rfl rfl)
theorem dX1_isSwingTick_16 : decode cX1_isSwingTick 16 = .ok (.ireturn, 1) := dk_172 (dk_at dksX1_isSwingTick_0 16 rfl rfl)
abbrev cX1_meetingByDivisors : ByteArray := prog_1_method_39_code
def yX1_meetingByDivisors : MethodName := ⟨RX1, "meetingByDivisors", "(II)I"⟩
def dkwX1_meetingByDivisors_5 : List UInt8 := [180, 0, 43, 180, 0, 157, 4, 96, 21, 9, 96, 172]
abbrev dktX1_meetingByDivisors_5 : List UInt8 := dkwX1_meetingByDivisors_5 ++ []
def dkwX1_meetingByDivisors_4 : List UInt8 := [54, 8, 21, 7, 42, 180, 0, 43, 180, 0, 157, 100, 4, 100, 21, 8, 184, 0, 219, 54, 9, 42]
abbrev dktX1_meetingByDivisors_4 : List UInt8 := dkwX1_meetingByDivisors_4 ++ dktX1_meetingByDivisors_5
def dkwX1_meetingByDivisors_3 : List UInt8 := [184, 0, 208, 154, 0, 13, 21, 7, 21, 5, 96, 54, 7, 167, 255, 237, 21, 5, 21, 6, 184, 0, 216]
abbrev dktX1_meetingByDivisors_3 : List UInt8 := dkwX1_meetingByDivisors_3 ++ dktX1_meetingByDivisors_4
def dkwX1_meetingByDivisors_2 : List UInt8 := [21, 5, 25, 4, 21, 6, 182, 0, 212, 184, 0, 139, 45, 180, 0, 143, 54, 7, 25, 4, 21, 6, 21, 7]
abbrev dktX1_meetingByDivisors_2 : List UInt8 := dkwX1_meetingByDivisors_2 ++ dktX1_meetingByDivisors_3
def dkwX1_meetingByDivisors_1 : List UInt8 := [167, 0, 4, 3, 184, 0, 205, 42, 27, 182, 0, 192, 54, 5, 42, 28, 182, 0, 192, 54, 6, 42, 45]
abbrev dktX1_meetingByDivisors_1 : List UInt8 := dkwX1_meetingByDivisors_1 ++ dktX1_meetingByDivisors_2
def dkwX1_meetingByDivisors_0 : List UInt8 := [42, 27, 182, 0, 135, 78, 42, 28, 182, 0, 135, 58, 4, 45, 198, 0, 12, 25, 4, 198, 0, 7, 4]
abbrev dktX1_meetingByDivisors_0 : List UInt8 := dkwX1_meetingByDivisors_0 ++ dktX1_meetingByDivisors_1
theorem dksX1_meetingByDivisors_0 : cX1_meetingByDivisors.data.toList.drop 0 = dktX1_meetingByDivisors_0 := by decide +kernel
theorem dksX1_meetingByDivisors_1 : cX1_meetingByDivisors.data.toList.drop 23 = dktX1_meetingByDivisors_1 := dk_seg dksX1_meetingByDivisors_0 23 rfl rfl
theorem dksX1_meetingByDivisors_2 : cX1_meetingByDivisors.data.toList.drop 46 = dktX1_meetingByDivisors_2 := dk_seg dksX1_meetingByDivisors_1 23 rfl rfl
theorem dksX1_meetingByDivisors_3 : cX1_meetingByDivisors.data.toList.drop 70 = dktX1_meetingByDivisors_3 := dk_seg dksX1_meetingByDivisors_2 24 rfl rfl
theorem dksX1_meetingByDivisors_4 : cX1_meetingByDivisors.data.toList.drop 93 = dktX1_meetingByDivisors_4 := dk_seg dksX1_meetingByDivisors_3 23 rfl rfl
theorem dksX1_meetingByDivisors_5 : cX1_meetingByDivisors.data.toList.drop 115 = dktX1_meetingByDivisors_5 := dk_seg dksX1_meetingByDivisors_4 22 rfl rfl
theorem dX1_meetingByDivisors_0 : decode cX1_meetingByDivisors 0 = .ok (.aload_n 0, 1) := dk_42 (dk_at dksX1_meetingByDivisors_0 0 rfl rfl)
theorem dX1_meetingByDivisors_1 : decode cX1_meetingByDivisors 1 = .ok (.iload_n 1, 1) := dk_27 (dk_at dksX1_meetingByDivisors_0 1 rfl rfl)
theorem dX1_meetingByDivisors_2 : decode cX1_meetingByDivisors 2 = .ok (.invokevirtual 135, 3) := dk_182 0 135 (dk_at dksX1_meetingByDivisors_0 2 rfl rfl)
theorem dX1_meetingByDivisors_5 : decode cX1_meetingByDivisors 5 = .ok (.astore_n 3, 1) := dk_78 (dk_at dksX1_meetingByDivisors_0 5 rfl rfl)
theorem dX1_meetingByDivisors_6 : decode cX1_meetingByDivisors 6 = .ok (.aload_n 0, 1) := dk_42 (dk_at dksX1_meetingByDivisors_0 6 rfl rfl)
theorem dX1_meetingByDivisors_7 : decode cX1_meetingByDivisors 7 = .ok (.iload_n 2, 1) := dk_28 (dk_at dksX1_meetingByDivisors_0 7 rfl rfl)
theorem dX1_meetingByDivisors_8 : decode cX1_meetingByDivisors 8 = .ok (.invokevirtual 135, 3) := dk_182 0 135 (dk_at dksX1_meetingByDivisors_0 8 rfl rfl)
theorem dX1_meetingByDivisors_11 : decode cX1_meetingByDivisors 11 = .ok (.astore 4, 2) := dk_58 4 (dk_at dksX1_meetingByDivisors_0 11 rfl rfl)
theorem dX1_meetingByDivisors_13 : decode cX1_meetingByDivisors 13 = .ok (.aload_n 3, 1) := dk_45 (dk_at dksX1_meetingByDivisors_0 13 rfl rfl)
theorem dX1_meetingByDivisors_14 : decode cX1_meetingByDivisors 14 = .ok (.ifnull 12, 3) := dk_198 0 12 (dk_at dksX1_meetingByDivisors_0 14 rfl rfl)
theorem dX1_meetingByDivisors_17 : decode cX1_meetingByDivisors 17 = .ok (.aload 4, 2) := dk_25 4 (dk_at dksX1_meetingByDivisors_0 17 rfl rfl)
theorem dX1_meetingByDivisors_19 : decode cX1_meetingByDivisors 19 = .ok (.ifnull 7, 3) := dk_198 0 7 (dk_at dksX1_meetingByDivisors_0 19 rfl rfl)
theorem dX1_meetingByDivisors_22 : decode cX1_meetingByDivisors 22 = .ok (.iconst 1, 1) := dk_4 (dk_at dksX1_meetingByDivisors_0 22 rfl rfl)
theorem dX1_meetingByDivisors_23 : decode cX1_meetingByDivisors 23 = .ok (.goto 4, 3) := dk_167 0 4 (dk_at dksX1_meetingByDivisors_1 0 rfl rfl)
theorem dX1_meetingByDivisors_26 : decode cX1_meetingByDivisors 26 = .ok (.iconst 0, 1) := dk_3 (dk_at dksX1_meetingByDivisors_1 3 rfl rfl)
theorem dX1_meetingByDivisors_27 : decode cX1_meetingByDivisors 27 = .ok (.invokestatic 205, 3) := dk_184 0 205 (dk_at dksX1_meetingByDivisors_1 4 rfl rfl)
theorem dX1_meetingByDivisors_30 : decode cX1_meetingByDivisors 30 = .ok (.aload_n 0, 1) := dk_42 (dk_at dksX1_meetingByDivisors_1 7 rfl rfl)
theorem dX1_meetingByDivisors_31 : decode cX1_meetingByDivisors 31 = .ok (.iload_n 1, 1) := dk_27 (dk_at dksX1_meetingByDivisors_1 8 rfl rfl)
theorem dX1_meetingByDivisors_32 : decode cX1_meetingByDivisors 32 = .ok (.invokevirtual 192, 3) := dk_182 0 192 (dk_at dksX1_meetingByDivisors_1 9 rfl rfl)
theorem dX1_meetingByDivisors_35 : decode cX1_meetingByDivisors 35 = .ok (.istore 5, 2) := dk_54 5 (dk_at dksX1_meetingByDivisors_1 12 rfl rfl)
theorem dX1_meetingByDivisors_37 : decode cX1_meetingByDivisors 37 = .ok (.aload_n 0, 1) := dk_42 (dk_at dksX1_meetingByDivisors_1 14 rfl rfl)
theorem dX1_meetingByDivisors_38 : decode cX1_meetingByDivisors 38 = .ok (.iload_n 2, 1) := dk_28 (dk_at dksX1_meetingByDivisors_1 15 rfl rfl)
theorem dX1_meetingByDivisors_39 : decode cX1_meetingByDivisors 39 = .ok (.invokevirtual 192, 3) := dk_182 0 192 (dk_at dksX1_meetingByDivisors_1 16 rfl rfl)
theorem dX1_meetingByDivisors_42 : decode cX1_meetingByDivisors 42 = .ok (.istore 6, 2) := dk_54 6 (dk_at dksX1_meetingByDivisors_1 19 rfl rfl)
theorem dX1_meetingByDivisors_44 : decode cX1_meetingByDivisors 44 = .ok (.aload_n 0, 1) := dk_42 (dk_at dksX1_meetingByDivisors_1 21 rfl rfl)
theorem dX1_meetingByDivisors_45 : decode cX1_meetingByDivisors 45 = .ok (.aload_n 3, 1) := dk_45 (dk_at dksX1_meetingByDivisors_1 22 rfl rfl)
theorem dX1_meetingByDivisors_46 : decode cX1_meetingByDivisors 46 = .ok (.iload 5, 2) := dk_21 5 (dk_at dksX1_meetingByDivisors_2 0 rfl rfl)
theorem dX1_meetingByDivisors_48 : decode cX1_meetingByDivisors 48 = .ok (.aload 4, 2) := dk_25 4 (dk_at dksX1_meetingByDivisors_2 2 rfl rfl)
theorem dX1_meetingByDivisors_50 : decode cX1_meetingByDivisors 50 = .ok (.iload 6, 2) := dk_21 6 (dk_at dksX1_meetingByDivisors_2 4 rfl rfl)
theorem dX1_meetingByDivisors_52 : decode cX1_meetingByDivisors 52 = .ok (.invokevirtual 212, 3) := dk_182 0 212 (dk_at dksX1_meetingByDivisors_2 6 rfl rfl)
theorem dX1_meetingByDivisors_55 : decode cX1_meetingByDivisors 55 = .ok (.invokestatic 139, 3) := dk_184 0 139 (dk_at dksX1_meetingByDivisors_2 9 rfl rfl)
theorem dX1_meetingByDivisors_58 : decode cX1_meetingByDivisors 58 = .ok (.aload_n 3, 1) := dk_45 (dk_at dksX1_meetingByDivisors_2 12 rfl rfl)
theorem dX1_meetingByDivisors_59 : decode cX1_meetingByDivisors 59 = .ok (.getfield 143, 3) := dk_180 0 143 (dk_at dksX1_meetingByDivisors_2 13 rfl rfl)
theorem dX1_meetingByDivisors_62 : decode cX1_meetingByDivisors 62 = .ok (.istore 7, 2) := dk_54 7 (dk_at dksX1_meetingByDivisors_2 16 rfl rfl)
theorem dX1_meetingByDivisors_64 : decode cX1_meetingByDivisors 64 = .ok (.aload 4, 2) := dk_25 4 (dk_at dksX1_meetingByDivisors_2 18 rfl rfl)
theorem dX1_meetingByDivisors_66 : decode cX1_meetingByDivisors 66 = .ok (.iload 6, 2) := dk_21 6 (dk_at dksX1_meetingByDivisors_2 20 rfl rfl)
theorem dX1_meetingByDivisors_68 : decode cX1_meetingByDivisors 68 = .ok (.iload 7, 2) := dk_21 7 (dk_at dksX1_meetingByDivisors_2 22 rfl rfl)
theorem dX1_meetingByDivisors_70 : decode cX1_meetingByDivisors 70 = .ok (.invokestatic 208, 3) := dk_184 0 208 (dk_at dksX1_meetingByDivisors_3 0 rfl rfl)
theorem dX1_meetingByDivisors_73 : decode cX1_meetingByDivisors 73 = .ok (.ifCond .ne 13, 3) := dk_154 0 13 (dk_at dksX1_meetingByDivisors_3 3 rfl rfl)
theorem dX1_meetingByDivisors_76 : decode cX1_meetingByDivisors 76 = .ok (.iload 7, 2) := dk_21 7 (dk_at dksX1_meetingByDivisors_3 6 rfl rfl)
theorem dX1_meetingByDivisors_78 : decode cX1_meetingByDivisors 78 = .ok (.iload 5, 2) := dk_21 5 (dk_at dksX1_meetingByDivisors_3 8 rfl rfl)
theorem dX1_meetingByDivisors_80 : decode cX1_meetingByDivisors 80 = .ok (.iadd, 1) := dk_96 (dk_at dksX1_meetingByDivisors_3 10 rfl rfl)
theorem dX1_meetingByDivisors_81 : decode cX1_meetingByDivisors 81 = .ok (.istore 7, 2) := dk_54 7 (dk_at dksX1_meetingByDivisors_3 11 rfl rfl)
theorem dX1_meetingByDivisors_83 : decode cX1_meetingByDivisors 83 = .ok (.goto (-19), 3) := dk_167 255 237 (dk_at dksX1_meetingByDivisors_3 13 rfl rfl)
theorem dX1_meetingByDivisors_86 : decode cX1_meetingByDivisors 86 = .ok (.iload 5, 2) := dk_21 5 (dk_at dksX1_meetingByDivisors_3 16 rfl rfl)
theorem dX1_meetingByDivisors_88 : decode cX1_meetingByDivisors 88 = .ok (.iload 6, 2) := dk_21 6 (dk_at dksX1_meetingByDivisors_3 18 rfl rfl)
theorem dX1_meetingByDivisors_90 : decode cX1_meetingByDivisors 90 = .ok (.invokestatic 216, 3) := dk_184 0 216 (dk_at dksX1_meetingByDivisors_3 20 rfl rfl)
theorem dX1_meetingByDivisors_93 : decode cX1_meetingByDivisors 93 = .ok (.istore 8, 2) := dk_54 8 (dk_at dksX1_meetingByDivisors_4 0 rfl rfl)
theorem dX1_meetingByDivisors_95 : decode cX1_meetingByDivisors 95 = .ok (.iload 7, 2) := dk_21 7 (dk_at dksX1_meetingByDivisors_4 2 rfl rfl)
theorem dX1_meetingByDivisors_97 : decode cX1_meetingByDivisors 97 = .ok (.aload_n 0, 1) := dk_42 (dk_at dksX1_meetingByDivisors_4 4 rfl rfl)
theorem dX1_meetingByDivisors_98 : decode cX1_meetingByDivisors 98 = .ok (.getfield 43, 3) := dk_180 0 43 (dk_at dksX1_meetingByDivisors_4 5 rfl rfl)
theorem dX1_meetingByDivisors_101 : decode cX1_meetingByDivisors 101 = .ok (.getfield 157, 3) := dk_180 0 157 (dk_at dksX1_meetingByDivisors_4 8 rfl rfl)
theorem dX1_meetingByDivisors_104 : decode cX1_meetingByDivisors 104 = .ok (.isub, 1) := dk_100 (dk_at dksX1_meetingByDivisors_4 11 rfl rfl)
theorem dX1_meetingByDivisors_105 : decode cX1_meetingByDivisors 105 = .ok (.iconst 1, 1) := dk_4 (dk_at dksX1_meetingByDivisors_4 12 rfl rfl)
theorem dX1_meetingByDivisors_106 : decode cX1_meetingByDivisors 106 = .ok (.isub, 1) := dk_100 (dk_at dksX1_meetingByDivisors_4 13 rfl rfl)
theorem dX1_meetingByDivisors_107 : decode cX1_meetingByDivisors 107 = .ok (.iload 8, 2) := dk_21 8 (dk_at dksX1_meetingByDivisors_4 14 rfl rfl)
theorem dX1_meetingByDivisors_109 : decode cX1_meetingByDivisors 109 = .ok (.invokestatic 219, 3) := dk_184 0 219 (dk_at dksX1_meetingByDivisors_4 16 rfl rfl)
theorem dX1_meetingByDivisors_112 : decode cX1_meetingByDivisors 112 = .ok (.istore 9, 2) := dk_54 9 (dk_at dksX1_meetingByDivisors_4 19 rfl rfl)
theorem dX1_meetingByDivisors_114 : decode cX1_meetingByDivisors 114 = .ok (.aload_n 0, 1) := dk_42 (dk_at dksX1_meetingByDivisors_4 21 rfl rfl)
theorem dX1_meetingByDivisors_115 : decode cX1_meetingByDivisors 115 = .ok (.getfield 43, 3) := dk_180 0 43 (dk_at dksX1_meetingByDivisors_5 0 rfl rfl)
theorem dX1_meetingByDivisors_118 : decode cX1_meetingByDivisors 118 = .ok (.getfield 157, 3) := dk_180 0 157 (dk_at dksX1_meetingByDivisors_5 3 rfl rfl)
theorem dX1_meetingByDivisors_121 : decode cX1_meetingByDivisors 121 = .ok (.iconst 1, 1) := dk_4 (dk_at dksX1_meetingByDivisors_5 6 rfl rfl)
theorem dX1_meetingByDivisors_122 : decode cX1_meetingByDivisors 122 = .ok (.iadd, 1) := dk_96 (dk_at dksX1_meetingByDivisors_5 7 rfl rfl)
theorem dX1_meetingByDivisors_123 : decode cX1_meetingByDivisors 123 = .ok (.iload 9, 2) := dk_21 9 (dk_at dksX1_meetingByDivisors_5 8 rfl rfl)
theorem dX1_meetingByDivisors_125 : decode cX1_meetingByDivisors 125 = .ok (.iadd, 1) := dk_96 (dk_at dksX1_meetingByDivisors_5 10 rfl rfl)
theorem dX1_meetingByDivisors_126 : decode cX1_meetingByDivisors 126 = .ok (.ireturn, 1) := dk_172 (dk_at dksX1_meetingByDivisors_5 11 rfl rfl)
abbrev cX1_commonMultiple : ByteArray := prog_1_method_7_code
def yX1_commonMultiple : MethodName := ⟨RX1, "commonMultiple", "(II)I"⟩
def dkwX1_commonMultiple_0 : List UInt8 := [26, 26, 27, 184, 0, 16, 108, 27, 104, 172]
abbrev dktX1_commonMultiple_0 : List UInt8 := dkwX1_commonMultiple_0 ++ []
theorem dksX1_commonMultiple_0 : cX1_commonMultiple.data.toList.drop 0 = dktX1_commonMultiple_0 := by decide +kernel
theorem dX1_commonMultiple_0 : decode cX1_commonMultiple 0 = .ok (.iload_n 0, 1) := dk_26 (dk_at dksX1_commonMultiple_0 0 rfl rfl)
theorem dX1_commonMultiple_1 : decode cX1_commonMultiple 1 = .ok (.iload_n 0, 1) := dk_26 (dk_at dksX1_commonMultiple_0 1 rfl rfl)
theorem dX1_commonMultiple_2 : decode cX1_commonMultiple 2 = .ok (.iload_n 1, 1) := dk_27 (dk_at dksX1_commonMultiple_0 2 rfl rfl)
theorem dX1_commonMultiple_3 : decode cX1_commonMultiple 3 = .ok (.invokestatic 16, 3) := dk_184 0 16 (dk_at dksX1_commonMultiple_0 3 rfl rfl)
theorem dX1_commonMultiple_6 : decode cX1_commonMultiple 6 = .ok (.idiv, 1) := dk_108 (dk_at dksX1_commonMultiple_0 6 rfl rfl)
theorem dX1_commonMultiple_7 : decode cX1_commonMultiple 7 = .ok (.iload_n 1, 1) := dk_27 (dk_at dksX1_commonMultiple_0 7 rfl rfl)
theorem dX1_commonMultiple_8 : decode cX1_commonMultiple 8 = .ok (.imul, 1) := dk_104 (dk_at dksX1_commonMultiple_0 8 rfl rfl)
theorem dX1_commonMultiple_9 : decode cX1_commonMultiple 9 = .ok (.ireturn, 1) := dk_172 (dk_at dksX1_commonMultiple_0 9 rfl rfl)
abbrev cX1_cycleOf : ByteArray := prog_1_method_41_code
def yX1_cycleOf : MethodName := ⟨RX1, "cycleOf", "(II)I"⟩
def dkwX1_cycleOf_0 : List UInt8 := [42, 27, 182, 0, 192, 62, 29, 42, 28, 182, 0, 192, 184, 0, 216, 172]
abbrev dktX1_cycleOf_0 : List UInt8 := dkwX1_cycleOf_0 ++ []
theorem dksX1_cycleOf_0 : cX1_cycleOf.data.toList.drop 0 = dktX1_cycleOf_0 := by decide +kernel
theorem dX1_cycleOf_0 : decode cX1_cycleOf 0 = .ok (.aload_n 0, 1) := dk_42 (dk_at dksX1_cycleOf_0 0 rfl rfl)
theorem dX1_cycleOf_1 : decode cX1_cycleOf 1 = .ok (.iload_n 1, 1) := dk_27 (dk_at dksX1_cycleOf_0 1 rfl rfl)
theorem dX1_cycleOf_2 : decode cX1_cycleOf 2 = .ok (.invokevirtual 192, 3) := dk_182 0 192 (dk_at dksX1_cycleOf_0 2 rfl rfl)
theorem dX1_cycleOf_5 : decode cX1_cycleOf 5 = .ok (.istore_n 3, 1) := dk_62 (dk_at dksX1_cycleOf_0 5 rfl rfl)
theorem dX1_cycleOf_6 : decode cX1_cycleOf 6 = .ok (.iload_n 3, 1) := dk_29 (dk_at dksX1_cycleOf_0 6 rfl rfl)
theorem dX1_cycleOf_7 : decode cX1_cycleOf 7 = .ok (.aload_n 0, 1) := dk_42 (dk_at dksX1_cycleOf_0 7 rfl rfl)
theorem dX1_cycleOf_8 : decode cX1_cycleOf 8 = .ok (.iload_n 2, 1) := dk_28 (dk_at dksX1_cycleOf_0 8 rfl rfl)
theorem dX1_cycleOf_9 : decode cX1_cycleOf 9 = .ok (.invokevirtual 192, 3) := dk_182 0 192 (dk_at dksX1_cycleOf_0 9 rfl rfl)
theorem dX1_cycleOf_12 : decode cX1_cycleOf 12 = .ok (.invokestatic 216, 3) := dk_184 0 216 (dk_at dksX1_cycleOf_0 12 rfl rfl)
theorem dX1_cycleOf_15 : decode cX1_cycleOf 15 = .ok (.ireturn, 1) := dk_172 (dk_at dksX1_cycleOf_0 15 rfl rfl)
abbrev cX1_addLeg : ByteArray := prog_1_method_42_code
def yX1_addLeg : MethodName := ⟨RX1, "addLeg", "(I)I"⟩
def dkwX1_addLeg_0 : List UInt8 := [42, 27, 186, 0, 222, 0, 0, 182, 0, 93, 172]
abbrev dktX1_addLeg_0 : List UInt8 := dkwX1_addLeg_0 ++ []
theorem dksX1_addLeg_0 : cX1_addLeg.data.toList.drop 0 = dktX1_addLeg_0 := by decide +kernel
theorem dX1_addLeg_0 : decode cX1_addLeg 0 = .ok (.aload_n 0, 1) := dk_42 (dk_at dksX1_addLeg_0 0 rfl rfl)
theorem dX1_addLeg_1 : decode cX1_addLeg 1 = .ok (.iload_n 1, 1) := dk_27 (dk_at dksX1_addLeg_0 1 rfl rfl)
theorem dX1_addLeg_2 : decode cX1_addLeg 2 = .ok (.invokedynamic 222, 5) := by decide +kernel
theorem dX1_addLeg_7 : decode cX1_addLeg 7 = .ok (.invokevirtual 93, 3) := dk_182 0 93 (dk_at dksX1_addLeg_0 7 rfl rfl)
theorem dX1_addLeg_10 : decode cX1_addLeg 10 = .ok (.ireturn, 1) := dk_172 (dk_at dksX1_addLeg_0 10 rfl rfl)
abbrev cX1_lambda_addLeg_5 : ByteArray := prog_1_method_76_code
def yX1_lambda_addLeg_5 : MethodName := ⟨RX1, "lambda$addLeg$5", "(ILPendulumGym$Gym;)I"⟩
def dkwX1_lambda_addLeg_5_0 : List UInt8 := [43, 26, 182, 1, 135, 172]
abbrev dktX1_lambda_addLeg_5_0 : List UInt8 := dkwX1_lambda_addLeg_5_0 ++ []
theorem dksX1_lambda_addLeg_5_0 : cX1_lambda_addLeg_5.data.toList.drop 0 = dktX1_lambda_addLeg_5_0 := by decide +kernel
theorem dX1_lambda_addLeg_5_0 : decode cX1_lambda_addLeg_5 0 = .ok (.aload_n 1, 1) := dk_43 (dk_at dksX1_lambda_addLeg_5_0 0 rfl rfl)
theorem dX1_lambda_addLeg_5_1 : decode cX1_lambda_addLeg_5 1 = .ok (.iload_n 0, 1) := dk_26 (dk_at dksX1_lambda_addLeg_5_0 1 rfl rfl)
theorem dX1_lambda_addLeg_5_2 : decode cX1_lambda_addLeg_5 2 = .ok (.invokevirtual 391, 3) := dk_182 1 135 (dk_at dksX1_lambda_addLeg_5_0 2 rfl rfl)
theorem dX1_lambda_addLeg_5_5 : decode cX1_lambda_addLeg_5 5 = .ok (.ireturn, 1) := dk_172 (dk_at dksX1_lambda_addLeg_5_0 5 rfl rfl)
abbrev cX1_removeLeg : ByteArray := prog_1_method_43_code
def yX1_removeLeg : MethodName := ⟨RX1, "removeLeg", "(I)I"⟩
def dkwX1_removeLeg_0 : List UInt8 := [42, 27, 186, 0, 223, 0, 0, 182, 0, 93, 172]
abbrev dktX1_removeLeg_0 : List UInt8 := dkwX1_removeLeg_0 ++ []
theorem dksX1_removeLeg_0 : cX1_removeLeg.data.toList.drop 0 = dktX1_removeLeg_0 := by decide +kernel
theorem dX1_removeLeg_0 : decode cX1_removeLeg 0 = .ok (.aload_n 0, 1) := dk_42 (dk_at dksX1_removeLeg_0 0 rfl rfl)
theorem dX1_removeLeg_1 : decode cX1_removeLeg 1 = .ok (.iload_n 1, 1) := dk_27 (dk_at dksX1_removeLeg_0 1 rfl rfl)
theorem dX1_removeLeg_2 : decode cX1_removeLeg 2 = .ok (.invokedynamic 223, 5) := by decide +kernel
theorem dX1_removeLeg_7 : decode cX1_removeLeg 7 = .ok (.invokevirtual 93, 3) := dk_182 0 93 (dk_at dksX1_removeLeg_0 7 rfl rfl)
theorem dX1_removeLeg_10 : decode cX1_removeLeg 10 = .ok (.ireturn, 1) := dk_172 (dk_at dksX1_removeLeg_0 10 rfl rfl)
abbrev cX1_lambda_removeLeg_6 : ByteArray := prog_1_method_75_code
def yX1_lambda_removeLeg_6 : MethodName := ⟨RX1, "lambda$removeLeg$6", "(ILPendulumGym$Gym;)I"⟩
def dkwX1_lambda_removeLeg_6_0 : List UInt8 := [43, 26, 182, 1, 132, 172]
abbrev dktX1_lambda_removeLeg_6_0 : List UInt8 := dkwX1_lambda_removeLeg_6_0 ++ []
theorem dksX1_lambda_removeLeg_6_0 : cX1_lambda_removeLeg_6.data.toList.drop 0 = dktX1_lambda_removeLeg_6_0 := by decide +kernel
theorem dX1_lambda_removeLeg_6_0 : decode cX1_lambda_removeLeg_6 0 = .ok (.aload_n 1, 1) := dk_43 (dk_at dksX1_lambda_removeLeg_6_0 0 rfl rfl)
theorem dX1_lambda_removeLeg_6_1 : decode cX1_lambda_removeLeg_6 1 = .ok (.iload_n 0, 1) := dk_26 (dk_at dksX1_lambda_removeLeg_6_0 1 rfl rfl)
theorem dX1_lambda_removeLeg_6_2 : decode cX1_lambda_removeLeg_6 2 = .ok (.invokevirtual 388, 3) := dk_182 1 132 (dk_at dksX1_lambda_removeLeg_6_0 2 rfl rfl)
theorem dX1_lambda_removeLeg_6_5 : decode cX1_lambda_removeLeg_6 5 = .ok (.ireturn, 1) := dk_172 (dk_at dksX1_lambda_removeLeg_6_0 5 rfl rfl)
abbrev cX1_wishOf : ByteArray := prog_1_method_45_code
def yX1_wishOf : MethodName := ⟨RX1, "wishOf", "(I)I"⟩
def dkwX1_wishOf_1 : List UInt8 := [180, 0, 224, 27, 182, 0, 181, 192, 0, 230, 182, 0, 232, 172]
abbrev dktX1_wishOf_1 : List UInt8 := dkwX1_wishOf_1 ++ []
def dkwX1_wishOf_0 : List UInt8 := [27, 3, 42, 180, 0, 43, 180, 0, 224, 182, 0, 107, 4, 100, 184, 0, 163, 184, 0, 227, 42, 180, 0, 43]
abbrev dktX1_wishOf_0 : List UInt8 := dkwX1_wishOf_0 ++ dktX1_wishOf_1
theorem dksX1_wishOf_0 : cX1_wishOf.data.toList.drop 0 = dktX1_wishOf_0 := by decide +kernel
theorem dksX1_wishOf_1 : cX1_wishOf.data.toList.drop 24 = dktX1_wishOf_1 := dk_seg dksX1_wishOf_0 24 rfl rfl
theorem dX1_wishOf_0 : decode cX1_wishOf 0 = .ok (.iload_n 1, 1) := dk_27 (dk_at dksX1_wishOf_0 0 rfl rfl)
theorem dX1_wishOf_1 : decode cX1_wishOf 1 = .ok (.iconst 0, 1) := dk_3 (dk_at dksX1_wishOf_0 1 rfl rfl)
theorem dX1_wishOf_2 : decode cX1_wishOf 2 = .ok (.aload_n 0, 1) := dk_42 (dk_at dksX1_wishOf_0 2 rfl rfl)
theorem dX1_wishOf_3 : decode cX1_wishOf 3 = .ok (.getfield 43, 3) := dk_180 0 43 (dk_at dksX1_wishOf_0 3 rfl rfl)
theorem dX1_wishOf_6 : decode cX1_wishOf 6 = .ok (.getfield 224, 3) := dk_180 0 224 (dk_at dksX1_wishOf_0 6 rfl rfl)
theorem dX1_wishOf_9 : decode cX1_wishOf 9 = .ok (.invokevirtual 107, 3) := dk_182 0 107 (dk_at dksX1_wishOf_0 9 rfl rfl)
theorem dX1_wishOf_12 : decode cX1_wishOf 12 = .ok (.iconst 1, 1) := dk_4 (dk_at dksX1_wishOf_0 12 rfl rfl)
theorem dX1_wishOf_13 : decode cX1_wishOf 13 = .ok (.isub, 1) := dk_100 (dk_at dksX1_wishOf_0 13 rfl rfl)
theorem dX1_wishOf_14 : decode cX1_wishOf 14 = .ok (.invokestatic 163, 3) := dk_184 0 163 (dk_at dksX1_wishOf_0 14 rfl rfl)
theorem dX1_wishOf_17 : decode cX1_wishOf 17 = .ok (.invokestatic 227, 3) := dk_184 0 227 (dk_at dksX1_wishOf_0 17 rfl rfl)
theorem dX1_wishOf_20 : decode cX1_wishOf 20 = .ok (.aload_n 0, 1) := dk_42 (dk_at dksX1_wishOf_0 20 rfl rfl)
theorem dX1_wishOf_21 : decode cX1_wishOf 21 = .ok (.getfield 43, 3) := dk_180 0 43 (dk_at dksX1_wishOf_0 21 rfl rfl)
theorem dX1_wishOf_24 : decode cX1_wishOf 24 = .ok (.getfield 224, 3) := dk_180 0 224 (dk_at dksX1_wishOf_1 0 rfl rfl)
theorem dX1_wishOf_27 : decode cX1_wishOf 27 = .ok (.iload_n 1, 1) := dk_27 (dk_at dksX1_wishOf_1 3 rfl rfl)
theorem dX1_wishOf_28 : decode cX1_wishOf 28 = .ok (.invokevirtual 181, 3) := dk_182 0 181 (dk_at dksX1_wishOf_1 4 rfl rfl)
theorem dX1_wishOf_31 : decode cX1_wishOf 31 = .ok (.checkcast 230, 3) := dk_192 0 230 (dk_at dksX1_wishOf_1 7 rfl rfl)
theorem dX1_wishOf_34 : decode cX1_wishOf 34 = .ok (.invokevirtual 232, 3) := dk_182 0 232 (dk_at dksX1_wishOf_1 10 rfl rfl)
theorem dX1_wishOf_37 : decode cX1_wishOf 37 = .ok (.ireturn, 1) := dk_172 (dk_at dksX1_wishOf_1 13 rfl rfl)
abbrev cX1_leastRelay : ByteArray := prog_1_method_49_code
def yX1_leastRelay : MethodName := ⟨RX1, "leastRelay", "()I"⟩
def dkwX1_leastRelay_0 : List UInt8 := [42, 182, 0, 247, 42, 182, 0, 250, 3, 42, 180, 0, 43, 180, 0, 224, 182, 0, 107, 182, 0, 254, 172]
abbrev dktX1_leastRelay_0 : List UInt8 := dkwX1_leastRelay_0 ++ []
theorem dksX1_leastRelay_0 : cX1_leastRelay.data.toList.drop 0 = dktX1_leastRelay_0 := by decide +kernel
theorem dX1_leastRelay_0 : decode cX1_leastRelay 0 = .ok (.aload_n 0, 1) := dk_42 (dk_at dksX1_leastRelay_0 0 rfl rfl)
theorem dX1_leastRelay_1 : decode cX1_leastRelay 1 = .ok (.invokevirtual 247, 3) := dk_182 0 247 (dk_at dksX1_leastRelay_0 1 rfl rfl)
theorem dX1_leastRelay_4 : decode cX1_leastRelay 4 = .ok (.aload_n 0, 1) := dk_42 (dk_at dksX1_leastRelay_0 4 rfl rfl)
theorem dX1_leastRelay_5 : decode cX1_leastRelay 5 = .ok (.invokevirtual 250, 3) := dk_182 0 250 (dk_at dksX1_leastRelay_0 5 rfl rfl)
theorem dX1_leastRelay_8 : decode cX1_leastRelay 8 = .ok (.iconst 0, 1) := dk_3 (dk_at dksX1_leastRelay_0 8 rfl rfl)
theorem dX1_leastRelay_9 : decode cX1_leastRelay 9 = .ok (.aload_n 0, 1) := dk_42 (dk_at dksX1_leastRelay_0 9 rfl rfl)
theorem dX1_leastRelay_10 : decode cX1_leastRelay 10 = .ok (.getfield 43, 3) := dk_180 0 43 (dk_at dksX1_leastRelay_0 10 rfl rfl)
theorem dX1_leastRelay_13 : decode cX1_leastRelay 13 = .ok (.getfield 224, 3) := dk_180 0 224 (dk_at dksX1_leastRelay_0 13 rfl rfl)
theorem dX1_leastRelay_16 : decode cX1_leastRelay 16 = .ok (.invokevirtual 107, 3) := dk_182 0 107 (dk_at dksX1_leastRelay_0 16 rfl rfl)
theorem dX1_leastRelay_19 : decode cX1_leastRelay 19 = .ok (.invokevirtual 254, 3) := dk_182 0 254 (dk_at dksX1_leastRelay_0 19 rfl rfl)
theorem dX1_leastRelay_22 : decode cX1_leastRelay 22 = .ok (.ireturn, 1) := dk_172 (dk_at dksX1_leastRelay_0 22 rfl rfl)
abbrev cX1_requireRelay : ByteArray := prog_1_method_46_code
def yX1_requireRelay : MethodName := ⟨RX1, "requireRelay", "()V"⟩
def dkwX1_requireRelay_1 : List UInt8 := [167, 0, 4, 3, 184, 0, 205, 177]
abbrev dktX1_requireRelay_1 : List UInt8 := dkwX1_requireRelay_1 ++ []
def dkwX1_requireRelay_0 : List UInt8 := [42, 180, 0, 43, 180, 0, 103, 182, 0, 107, 42, 180, 0, 43, 180, 0, 224, 182, 0, 107, 161, 0, 7, 4]
abbrev dktX1_requireRelay_0 : List UInt8 := dkwX1_requireRelay_0 ++ dktX1_requireRelay_1
theorem dksX1_requireRelay_0 : cX1_requireRelay.data.toList.drop 0 = dktX1_requireRelay_0 := by decide +kernel
theorem dksX1_requireRelay_1 : cX1_requireRelay.data.toList.drop 24 = dktX1_requireRelay_1 := dk_seg dksX1_requireRelay_0 24 rfl rfl
theorem dX1_requireRelay_0 : decode cX1_requireRelay 0 = .ok (.aload_n 0, 1) := dk_42 (dk_at dksX1_requireRelay_0 0 rfl rfl)
theorem dX1_requireRelay_1 : decode cX1_requireRelay 1 = .ok (.getfield 43, 3) := dk_180 0 43 (dk_at dksX1_requireRelay_0 1 rfl rfl)
theorem dX1_requireRelay_4 : decode cX1_requireRelay 4 = .ok (.getfield 103, 3) := dk_180 0 103 (dk_at dksX1_requireRelay_0 4 rfl rfl)
theorem dX1_requireRelay_7 : decode cX1_requireRelay 7 = .ok (.invokevirtual 107, 3) := dk_182 0 107 (dk_at dksX1_requireRelay_0 7 rfl rfl)
theorem dX1_requireRelay_10 : decode cX1_requireRelay 10 = .ok (.aload_n 0, 1) := dk_42 (dk_at dksX1_requireRelay_0 10 rfl rfl)
theorem dX1_requireRelay_11 : decode cX1_requireRelay 11 = .ok (.getfield 43, 3) := dk_180 0 43 (dk_at dksX1_requireRelay_0 11 rfl rfl)
theorem dX1_requireRelay_14 : decode cX1_requireRelay 14 = .ok (.getfield 224, 3) := dk_180 0 224 (dk_at dksX1_requireRelay_0 14 rfl rfl)
theorem dX1_requireRelay_17 : decode cX1_requireRelay 17 = .ok (.invokevirtual 107, 3) := dk_182 0 107 (dk_at dksX1_requireRelay_0 17 rfl rfl)
theorem dX1_requireRelay_20 : decode cX1_requireRelay 20 = .ok (.if_icmp .lt 7, 3) := dk_161 0 7 (dk_at dksX1_requireRelay_0 20 rfl rfl)
theorem dX1_requireRelay_23 : decode cX1_requireRelay 23 = .ok (.iconst 1, 1) := dk_4 (dk_at dksX1_requireRelay_0 23 rfl rfl)
theorem dX1_requireRelay_24 : decode cX1_requireRelay 24 = .ok (.goto 4, 3) := dk_167 0 4 (dk_at dksX1_requireRelay_1 0 rfl rfl)
theorem dX1_requireRelay_27 : decode cX1_requireRelay 27 = .ok (.iconst 0, 1) := dk_3 (dk_at dksX1_requireRelay_1 3 rfl rfl)
theorem dX1_requireRelay_28 : decode cX1_requireRelay 28 = .ok (.invokestatic 205, 3) := dk_184 0 205 (dk_at dksX1_requireRelay_1 4 rfl rfl)
theorem dX1_requireRelay_31 : decode cX1_requireRelay 31 = .ok (.return_, 1) := dk_177 (dk_at dksX1_requireRelay_1 7 rfl rfl)
abbrev cX1_relayTable : ByteArray := prog_1_method_48_code
def yX1_relayTable : MethodName := ⟨RX1, "relayTable", "()LPendulumGym$RelayTable;"⟩
def dkwX1_relayTable_1 : List UInt8 := [42, 182, 0, 240, 183, 0, 244, 176]
abbrev dktX1_relayTable_1 : List UInt8 := dkwX1_relayTable_1 ++ []
def dkwX1_relayTable_0 : List UInt8 := [187, 0, 238, 89, 42, 180, 0, 43, 180, 0, 224, 182, 0, 107, 42, 180, 0, 43, 180, 0, 103, 182, 0, 107]
abbrev dktX1_relayTable_0 : List UInt8 := dkwX1_relayTable_0 ++ dktX1_relayTable_1
theorem dksX1_relayTable_0 : cX1_relayTable.data.toList.drop 0 = dktX1_relayTable_0 := by decide +kernel
theorem dksX1_relayTable_1 : cX1_relayTable.data.toList.drop 24 = dktX1_relayTable_1 := dk_seg dksX1_relayTable_0 24 rfl rfl
theorem dX1_relayTable_0 : decode cX1_relayTable 0 = .ok (.new 238, 3) := dk_187 0 238 (dk_at dksX1_relayTable_0 0 rfl rfl)
theorem dX1_relayTable_3 : decode cX1_relayTable 3 = .ok (.dup, 1) := dk_89 (dk_at dksX1_relayTable_0 3 rfl rfl)
theorem dX1_relayTable_4 : decode cX1_relayTable 4 = .ok (.aload_n 0, 1) := dk_42 (dk_at dksX1_relayTable_0 4 rfl rfl)
theorem dX1_relayTable_5 : decode cX1_relayTable 5 = .ok (.getfield 43, 3) := dk_180 0 43 (dk_at dksX1_relayTable_0 5 rfl rfl)
theorem dX1_relayTable_8 : decode cX1_relayTable 8 = .ok (.getfield 224, 3) := dk_180 0 224 (dk_at dksX1_relayTable_0 8 rfl rfl)
theorem dX1_relayTable_11 : decode cX1_relayTable 11 = .ok (.invokevirtual 107, 3) := dk_182 0 107 (dk_at dksX1_relayTable_0 11 rfl rfl)
theorem dX1_relayTable_14 : decode cX1_relayTable 14 = .ok (.aload_n 0, 1) := dk_42 (dk_at dksX1_relayTable_0 14 rfl rfl)
theorem dX1_relayTable_15 : decode cX1_relayTable 15 = .ok (.getfield 43, 3) := dk_180 0 43 (dk_at dksX1_relayTable_0 15 rfl rfl)
theorem dX1_relayTable_18 : decode cX1_relayTable 18 = .ok (.getfield 103, 3) := dk_180 0 103 (dk_at dksX1_relayTable_0 18 rfl rfl)
theorem dX1_relayTable_21 : decode cX1_relayTable 21 = .ok (.invokevirtual 107, 3) := dk_182 0 107 (dk_at dksX1_relayTable_0 21 rfl rfl)
theorem dX1_relayTable_24 : decode cX1_relayTable 24 = .ok (.aload_n 0, 1) := dk_42 (dk_at dksX1_relayTable_1 0 rfl rfl)
theorem dX1_relayTable_25 : decode cX1_relayTable 25 = .ok (.invokevirtual 240, 3) := dk_182 0 240 (dk_at dksX1_relayTable_1 1 rfl rfl)
theorem dX1_relayTable_28 : decode cX1_relayTable 28 = .ok (.invokespecial 244, 3) := dk_183 0 244 (dk_at dksX1_relayTable_1 4 rfl rfl)
theorem dX1_relayTable_31 : decode cX1_relayTable 31 = .ok (.areturn, 1) := dk_176 (dk_at dksX1_relayTable_1 7 rfl rfl)
abbrev cX1_legCost : ByteArray := prog_1_method_47_code
def yX1_legCost : MethodName := ⟨RX1, "legCost", "()LPendulumGym$LegCost;"⟩
def dkwX1_legCost_3 : List UInt8 := [192, 0, 230, 182, 0, 232, 79, 132, 3, 1, 167, 255, 227, 43, 44, 186, 0, 235, 0, 0, 176]
abbrev dktX1_legCost_3 : List UInt8 := dkwX1_legCost_3 ++ []
def dkwX1_legCost_2 : List UInt8 := [167, 255, 239, 3, 62, 29, 44, 190, 162, 0, 29, 44, 29, 42, 180, 0, 43, 180, 0, 224, 29, 182, 0, 181]
abbrev dktX1_legCost_2 : List UInt8 := dkwX1_legCost_2 ++ dktX1_legCost_3
def dkwX1_legCost_1 : List UInt8 := [188, 10, 77, 3, 62, 29, 43, 190, 162, 0, 17, 43, 29, 42, 29, 182, 0, 192, 79, 132, 3, 1]
abbrev dktX1_legCost_1 : List UInt8 := dkwX1_legCost_1 ++ dktX1_legCost_2
def dkwX1_legCost_0 : List UInt8 := [42, 180, 0, 43, 180, 0, 103, 182, 0, 107, 188, 10, 76, 42, 180, 0, 43, 180, 0, 224, 182, 0, 107]
abbrev dktX1_legCost_0 : List UInt8 := dkwX1_legCost_0 ++ dktX1_legCost_1
theorem dksX1_legCost_0 : cX1_legCost.data.toList.drop 0 = dktX1_legCost_0 := by decide +kernel
theorem dksX1_legCost_1 : cX1_legCost.data.toList.drop 23 = dktX1_legCost_1 := dk_seg dksX1_legCost_0 23 rfl rfl
theorem dksX1_legCost_2 : cX1_legCost.data.toList.drop 45 = dktX1_legCost_2 := dk_seg dksX1_legCost_1 22 rfl rfl
theorem dksX1_legCost_3 : cX1_legCost.data.toList.drop 69 = dktX1_legCost_3 := dk_seg dksX1_legCost_2 24 rfl rfl
theorem dX1_legCost_0 : decode cX1_legCost 0 = .ok (.aload_n 0, 1) := dk_42 (dk_at dksX1_legCost_0 0 rfl rfl)
theorem dX1_legCost_1 : decode cX1_legCost 1 = .ok (.getfield 43, 3) := dk_180 0 43 (dk_at dksX1_legCost_0 1 rfl rfl)
theorem dX1_legCost_4 : decode cX1_legCost 4 = .ok (.getfield 103, 3) := dk_180 0 103 (dk_at dksX1_legCost_0 4 rfl rfl)
theorem dX1_legCost_7 : decode cX1_legCost 7 = .ok (.invokevirtual 107, 3) := dk_182 0 107 (dk_at dksX1_legCost_0 7 rfl rfl)
theorem dX1_legCost_10 : decode cX1_legCost 10 = .ok (.newarray .int, 2) := dk_188_10 (dk_at dksX1_legCost_0 10 rfl rfl)
theorem dX1_legCost_12 : decode cX1_legCost 12 = .ok (.astore_n 1, 1) := dk_76 (dk_at dksX1_legCost_0 12 rfl rfl)
theorem dX1_legCost_13 : decode cX1_legCost 13 = .ok (.aload_n 0, 1) := dk_42 (dk_at dksX1_legCost_0 13 rfl rfl)
theorem dX1_legCost_14 : decode cX1_legCost 14 = .ok (.getfield 43, 3) := dk_180 0 43 (dk_at dksX1_legCost_0 14 rfl rfl)
theorem dX1_legCost_17 : decode cX1_legCost 17 = .ok (.getfield 224, 3) := dk_180 0 224 (dk_at dksX1_legCost_0 17 rfl rfl)
theorem dX1_legCost_20 : decode cX1_legCost 20 = .ok (.invokevirtual 107, 3) := dk_182 0 107 (dk_at dksX1_legCost_0 20 rfl rfl)
theorem dX1_legCost_23 : decode cX1_legCost 23 = .ok (.newarray .int, 2) := dk_188_10 (dk_at dksX1_legCost_1 0 rfl rfl)
theorem dX1_legCost_25 : decode cX1_legCost 25 = .ok (.astore_n 2, 1) := dk_77 (dk_at dksX1_legCost_1 2 rfl rfl)
theorem dX1_legCost_26 : decode cX1_legCost 26 = .ok (.iconst 0, 1) := dk_3 (dk_at dksX1_legCost_1 3 rfl rfl)
theorem dX1_legCost_27 : decode cX1_legCost 27 = .ok (.istore_n 3, 1) := dk_62 (dk_at dksX1_legCost_1 4 rfl rfl)
theorem dX1_legCost_28 : decode cX1_legCost 28 = .ok (.iload_n 3, 1) := dk_29 (dk_at dksX1_legCost_1 5 rfl rfl)
theorem dX1_legCost_29 : decode cX1_legCost 29 = .ok (.aload_n 1, 1) := dk_43 (dk_at dksX1_legCost_1 6 rfl rfl)
theorem dX1_legCost_30 : decode cX1_legCost 30 = .ok (.arraylength, 1) := dk_190 (dk_at dksX1_legCost_1 7 rfl rfl)
theorem dX1_legCost_31 : decode cX1_legCost 31 = .ok (.if_icmp .ge 17, 3) := dk_162 0 17 (dk_at dksX1_legCost_1 8 rfl rfl)
theorem dX1_legCost_34 : decode cX1_legCost 34 = .ok (.aload_n 1, 1) := dk_43 (dk_at dksX1_legCost_1 11 rfl rfl)
theorem dX1_legCost_35 : decode cX1_legCost 35 = .ok (.iload_n 3, 1) := dk_29 (dk_at dksX1_legCost_1 12 rfl rfl)
theorem dX1_legCost_36 : decode cX1_legCost 36 = .ok (.aload_n 0, 1) := dk_42 (dk_at dksX1_legCost_1 13 rfl rfl)
theorem dX1_legCost_37 : decode cX1_legCost 37 = .ok (.iload_n 3, 1) := dk_29 (dk_at dksX1_legCost_1 14 rfl rfl)
theorem dX1_legCost_38 : decode cX1_legCost 38 = .ok (.invokevirtual 192, 3) := dk_182 0 192 (dk_at dksX1_legCost_1 15 rfl rfl)
theorem dX1_legCost_41 : decode cX1_legCost 41 = .ok (.iastore, 1) := dk_79 (dk_at dksX1_legCost_1 18 rfl rfl)
theorem dX1_legCost_42 : decode cX1_legCost 42 = .ok (.iinc 3 1, 3) := dk_132 3 1 (dk_at dksX1_legCost_1 19 rfl rfl)
theorem dX1_legCost_45 : decode cX1_legCost 45 = .ok (.goto (-17), 3) := dk_167 255 239 (dk_at dksX1_legCost_2 0 rfl rfl)
theorem dX1_legCost_48 : decode cX1_legCost 48 = .ok (.iconst 0, 1) := dk_3 (dk_at dksX1_legCost_2 3 rfl rfl)
theorem dX1_legCost_49 : decode cX1_legCost 49 = .ok (.istore_n 3, 1) := dk_62 (dk_at dksX1_legCost_2 4 rfl rfl)
theorem dX1_legCost_50 : decode cX1_legCost 50 = .ok (.iload_n 3, 1) := dk_29 (dk_at dksX1_legCost_2 5 rfl rfl)
theorem dX1_legCost_51 : decode cX1_legCost 51 = .ok (.aload_n 2, 1) := dk_44 (dk_at dksX1_legCost_2 6 rfl rfl)
theorem dX1_legCost_52 : decode cX1_legCost 52 = .ok (.arraylength, 1) := dk_190 (dk_at dksX1_legCost_2 7 rfl rfl)
theorem dX1_legCost_53 : decode cX1_legCost 53 = .ok (.if_icmp .ge 29, 3) := dk_162 0 29 (dk_at dksX1_legCost_2 8 rfl rfl)
theorem dX1_legCost_56 : decode cX1_legCost 56 = .ok (.aload_n 2, 1) := dk_44 (dk_at dksX1_legCost_2 11 rfl rfl)
theorem dX1_legCost_57 : decode cX1_legCost 57 = .ok (.iload_n 3, 1) := dk_29 (dk_at dksX1_legCost_2 12 rfl rfl)
theorem dX1_legCost_58 : decode cX1_legCost 58 = .ok (.aload_n 0, 1) := dk_42 (dk_at dksX1_legCost_2 13 rfl rfl)
theorem dX1_legCost_59 : decode cX1_legCost 59 = .ok (.getfield 43, 3) := dk_180 0 43 (dk_at dksX1_legCost_2 14 rfl rfl)
theorem dX1_legCost_62 : decode cX1_legCost 62 = .ok (.getfield 224, 3) := dk_180 0 224 (dk_at dksX1_legCost_2 17 rfl rfl)
theorem dX1_legCost_65 : decode cX1_legCost 65 = .ok (.iload_n 3, 1) := dk_29 (dk_at dksX1_legCost_2 20 rfl rfl)
theorem dX1_legCost_66 : decode cX1_legCost 66 = .ok (.invokevirtual 181, 3) := dk_182 0 181 (dk_at dksX1_legCost_2 21 rfl rfl)
theorem dX1_legCost_69 : decode cX1_legCost 69 = .ok (.checkcast 230, 3) := dk_192 0 230 (dk_at dksX1_legCost_3 0 rfl rfl)
theorem dX1_legCost_72 : decode cX1_legCost 72 = .ok (.invokevirtual 232, 3) := dk_182 0 232 (dk_at dksX1_legCost_3 3 rfl rfl)
theorem dX1_legCost_75 : decode cX1_legCost 75 = .ok (.iastore, 1) := dk_79 (dk_at dksX1_legCost_3 6 rfl rfl)
theorem dX1_legCost_76 : decode cX1_legCost 76 = .ok (.iinc 3 1, 3) := dk_132 3 1 (dk_at dksX1_legCost_3 7 rfl rfl)
theorem dX1_legCost_79 : decode cX1_legCost 79 = .ok (.goto (-29), 3) := dk_167 255 227 (dk_at dksX1_legCost_3 10 rfl rfl)
theorem dX1_legCost_82 : decode cX1_legCost 82 = .ok (.aload_n 1, 1) := dk_43 (dk_at dksX1_legCost_3 13 rfl rfl)
theorem dX1_legCost_83 : decode cX1_legCost 83 = .ok (.aload_n 2, 1) := dk_44 (dk_at dksX1_legCost_3 14 rfl rfl)
theorem dX1_legCost_84 : decode cX1_legCost 84 = .ok (.invokedynamic 235, 5) := by decide +kernel
theorem dX1_legCost_89 : decode cX1_legCost 89 = .ok (.areturn, 1) := dk_176 (dk_at dksX1_legCost_3 20 rfl rfl)
abbrev cX1_lambda_legCost_7 : ByteArray := prog_1_method_74_code
def yX1_lambda_legCost_7 : MethodName := ⟨RX1, "lambda$legCost$7", "([I[III)I"⟩
def dkwX1_lambda_legCost_7_0 : List UInt8 := [42, 29, 46, 43, 28, 46, 100, 184, 1, 129, 172]
abbrev dktX1_lambda_legCost_7_0 : List UInt8 := dkwX1_lambda_legCost_7_0 ++ []
theorem dksX1_lambda_legCost_7_0 : cX1_lambda_legCost_7.data.toList.drop 0 = dktX1_lambda_legCost_7_0 := by decide +kernel
theorem dX1_lambda_legCost_7_0 : decode cX1_lambda_legCost_7 0 = .ok (.aload_n 0, 1) := dk_42 (dk_at dksX1_lambda_legCost_7_0 0 rfl rfl)
theorem dX1_lambda_legCost_7_1 : decode cX1_lambda_legCost_7 1 = .ok (.iload_n 3, 1) := dk_29 (dk_at dksX1_lambda_legCost_7_0 1 rfl rfl)
theorem dX1_lambda_legCost_7_2 : decode cX1_lambda_legCost_7 2 = .ok (.iaload, 1) := dk_46 (dk_at dksX1_lambda_legCost_7_0 2 rfl rfl)
theorem dX1_lambda_legCost_7_3 : decode cX1_lambda_legCost_7 3 = .ok (.aload_n 1, 1) := dk_43 (dk_at dksX1_lambda_legCost_7_0 3 rfl rfl)
theorem dX1_lambda_legCost_7_4 : decode cX1_lambda_legCost_7 4 = .ok (.iload_n 2, 1) := dk_28 (dk_at dksX1_lambda_legCost_7_0 4 rfl rfl)
theorem dX1_lambda_legCost_7_5 : decode cX1_lambda_legCost_7 5 = .ok (.iaload, 1) := dk_46 (dk_at dksX1_lambda_legCost_7_0 5 rfl rfl)
theorem dX1_lambda_legCost_7_6 : decode cX1_lambda_legCost_7 6 = .ok (.isub, 1) := dk_100 (dk_at dksX1_lambda_legCost_7_0 6 rfl rfl)
theorem dX1_lambda_legCost_7_7 : decode cX1_lambda_legCost_7 7 = .ok (.invokestatic 385, 3) := dk_184 1 129 (dk_at dksX1_lambda_legCost_7_0 7 rfl rfl)
theorem dX1_lambda_legCost_7_10 : decode cX1_lambda_legCost_7 10 = .ok (.ireturn, 1) := dk_172 (dk_at dksX1_lambda_legCost_7_0 10 rfl rfl)
abbrev cX1_leastRelayByTrying : ByteArray := prog_1_method_50_code
def yX1_leastRelayByTrying : MethodName := ⟨RX1, "leastRelayByTrying", "()I"⟩
def dkwX1_leastRelayByTrying_1 : List UInt8 := [180, 0, 103, 182, 0, 107, 42, 182, 0, 240, 183, 1, 3, 3, 3, 3, 182, 1, 4, 172]
abbrev dktX1_leastRelayByTrying_1 : List UInt8 := dkwX1_leastRelayByTrying_1 ++ []
def dkwX1_leastRelayByTrying_0 : List UInt8 := [42, 182, 0, 247, 187, 1, 1, 89, 42, 180, 0, 43, 180, 0, 224, 182, 0, 107, 42, 180, 0, 43]
abbrev dktX1_leastRelayByTrying_0 : List UInt8 := dkwX1_leastRelayByTrying_0 ++ dktX1_leastRelayByTrying_1
theorem dksX1_leastRelayByTrying_0 : cX1_leastRelayByTrying.data.toList.drop 0 = dktX1_leastRelayByTrying_0 := by decide +kernel
theorem dksX1_leastRelayByTrying_1 : cX1_leastRelayByTrying.data.toList.drop 22 = dktX1_leastRelayByTrying_1 := dk_seg dksX1_leastRelayByTrying_0 22 rfl rfl
theorem dX1_leastRelayByTrying_0 : decode cX1_leastRelayByTrying 0 = .ok (.aload_n 0, 1) := dk_42 (dk_at dksX1_leastRelayByTrying_0 0 rfl rfl)
theorem dX1_leastRelayByTrying_1 : decode cX1_leastRelayByTrying 1 = .ok (.invokevirtual 247, 3) := dk_182 0 247 (dk_at dksX1_leastRelayByTrying_0 1 rfl rfl)
theorem dX1_leastRelayByTrying_4 : decode cX1_leastRelayByTrying 4 = .ok (.new 257, 3) := dk_187 1 1 (dk_at dksX1_leastRelayByTrying_0 4 rfl rfl)
theorem dX1_leastRelayByTrying_7 : decode cX1_leastRelayByTrying 7 = .ok (.dup, 1) := dk_89 (dk_at dksX1_leastRelayByTrying_0 7 rfl rfl)
theorem dX1_leastRelayByTrying_8 : decode cX1_leastRelayByTrying 8 = .ok (.aload_n 0, 1) := dk_42 (dk_at dksX1_leastRelayByTrying_0 8 rfl rfl)
theorem dX1_leastRelayByTrying_9 : decode cX1_leastRelayByTrying 9 = .ok (.getfield 43, 3) := dk_180 0 43 (dk_at dksX1_leastRelayByTrying_0 9 rfl rfl)
theorem dX1_leastRelayByTrying_12 : decode cX1_leastRelayByTrying 12 = .ok (.getfield 224, 3) := dk_180 0 224 (dk_at dksX1_leastRelayByTrying_0 12 rfl rfl)
theorem dX1_leastRelayByTrying_15 : decode cX1_leastRelayByTrying 15 = .ok (.invokevirtual 107, 3) := dk_182 0 107 (dk_at dksX1_leastRelayByTrying_0 15 rfl rfl)
theorem dX1_leastRelayByTrying_18 : decode cX1_leastRelayByTrying 18 = .ok (.aload_n 0, 1) := dk_42 (dk_at dksX1_leastRelayByTrying_0 18 rfl rfl)
theorem dX1_leastRelayByTrying_19 : decode cX1_leastRelayByTrying 19 = .ok (.getfield 43, 3) := dk_180 0 43 (dk_at dksX1_leastRelayByTrying_0 19 rfl rfl)
theorem dX1_leastRelayByTrying_22 : decode cX1_leastRelayByTrying 22 = .ok (.getfield 103, 3) := dk_180 0 103 (dk_at dksX1_leastRelayByTrying_1 0 rfl rfl)
theorem dX1_leastRelayByTrying_25 : decode cX1_leastRelayByTrying 25 = .ok (.invokevirtual 107, 3) := dk_182 0 107 (dk_at dksX1_leastRelayByTrying_1 3 rfl rfl)
theorem dX1_leastRelayByTrying_28 : decode cX1_leastRelayByTrying 28 = .ok (.aload_n 0, 1) := dk_42 (dk_at dksX1_leastRelayByTrying_1 6 rfl rfl)
theorem dX1_leastRelayByTrying_29 : decode cX1_leastRelayByTrying 29 = .ok (.invokevirtual 240, 3) := dk_182 0 240 (dk_at dksX1_leastRelayByTrying_1 7 rfl rfl)
theorem dX1_leastRelayByTrying_32 : decode cX1_leastRelayByTrying 32 = .ok (.invokespecial 259, 3) := dk_183 1 3 (dk_at dksX1_leastRelayByTrying_1 10 rfl rfl)
theorem dX1_leastRelayByTrying_35 : decode cX1_leastRelayByTrying 35 = .ok (.iconst 0, 1) := dk_3 (dk_at dksX1_leastRelayByTrying_1 13 rfl rfl)
theorem dX1_leastRelayByTrying_36 : decode cX1_leastRelayByTrying 36 = .ok (.iconst 0, 1) := dk_3 (dk_at dksX1_leastRelayByTrying_1 14 rfl rfl)
theorem dX1_leastRelayByTrying_37 : decode cX1_leastRelayByTrying 37 = .ok (.iconst 0, 1) := dk_3 (dk_at dksX1_leastRelayByTrying_1 15 rfl rfl)
theorem dX1_leastRelayByTrying_38 : decode cX1_leastRelayByTrying 38 = .ok (.invokevirtual 260, 3) := dk_182 1 4 (dk_at dksX1_leastRelayByTrying_1 16 rfl rfl)
theorem dX1_leastRelayByTrying_41 : decode cX1_leastRelayByTrying 41 = .ok (.ireturn, 1) := dk_172 (dk_at dksX1_leastRelayByTrying_1 19 rfl rfl)
abbrev cX1_runnerOf : ByteArray := prog_1_method_51_code
def yX1_runnerOf : MethodName := ⟨RX1, "runnerOf", "(I)I"⟩
def dkwX1_runnerOf_3 : List UInt8 := [45, 25, 4, 27, 21, 6, 21, 5, 182, 1, 11, 172]
abbrev dktX1_runnerOf_3 : List UInt8 := dkwX1_runnerOf_3 ++ []
def dkwX1_runnerOf_2 : List UInt8 := [42, 45, 25, 4, 21, 7, 21, 6, 21, 5, 182, 1, 11, 120, 128, 54, 5, 132, 7, 1, 167, 255, 227, 42]
abbrev dktX1_runnerOf_2 : List UInt8 := dkwX1_runnerOf_2 ++ dktX1_runnerOf_3
def dkwX1_runnerOf_1 : List UInt8 := [42, 180, 0, 43, 180, 0, 224, 182, 0, 107, 54, 6, 3, 54, 7, 21, 7, 27, 162, 0, 29, 21, 5, 4]
abbrev dktX1_runnerOf_1 : List UInt8 := dkwX1_runnerOf_1 ++ dktX1_runnerOf_2
def dkwX1_runnerOf_0 : List UInt8 := [42, 27, 182, 1, 8, 61, 42, 182, 0, 247, 42, 182, 0, 250, 78, 42, 182, 0, 240, 58, 4, 3, 54, 5]
abbrev dktX1_runnerOf_0 : List UInt8 := dkwX1_runnerOf_0 ++ dktX1_runnerOf_1
theorem dksX1_runnerOf_0 : cX1_runnerOf.data.toList.drop 0 = dktX1_runnerOf_0 := by decide +kernel
theorem dksX1_runnerOf_1 : cX1_runnerOf.data.toList.drop 24 = dktX1_runnerOf_1 := dk_seg dksX1_runnerOf_0 24 rfl rfl
theorem dksX1_runnerOf_2 : cX1_runnerOf.data.toList.drop 48 = dktX1_runnerOf_2 := dk_seg dksX1_runnerOf_1 24 rfl rfl
theorem dksX1_runnerOf_3 : cX1_runnerOf.data.toList.drop 72 = dktX1_runnerOf_3 := dk_seg dksX1_runnerOf_2 24 rfl rfl
theorem dX1_runnerOf_0 : decode cX1_runnerOf 0 = .ok (.aload_n 0, 1) := dk_42 (dk_at dksX1_runnerOf_0 0 rfl rfl)
theorem dX1_runnerOf_1 : decode cX1_runnerOf 1 = .ok (.iload_n 1, 1) := dk_27 (dk_at dksX1_runnerOf_0 1 rfl rfl)
theorem dX1_runnerOf_2 : decode cX1_runnerOf 2 = .ok (.invokevirtual 264, 3) := dk_182 1 8 (dk_at dksX1_runnerOf_0 2 rfl rfl)
theorem dX1_runnerOf_5 : decode cX1_runnerOf 5 = .ok (.istore_n 2, 1) := dk_61 (dk_at dksX1_runnerOf_0 5 rfl rfl)
theorem dX1_runnerOf_6 : decode cX1_runnerOf 6 = .ok (.aload_n 0, 1) := dk_42 (dk_at dksX1_runnerOf_0 6 rfl rfl)
theorem dX1_runnerOf_7 : decode cX1_runnerOf 7 = .ok (.invokevirtual 247, 3) := dk_182 0 247 (dk_at dksX1_runnerOf_0 7 rfl rfl)
theorem dX1_runnerOf_10 : decode cX1_runnerOf 10 = .ok (.aload_n 0, 1) := dk_42 (dk_at dksX1_runnerOf_0 10 rfl rfl)
theorem dX1_runnerOf_11 : decode cX1_runnerOf 11 = .ok (.invokevirtual 250, 3) := dk_182 0 250 (dk_at dksX1_runnerOf_0 11 rfl rfl)
theorem dX1_runnerOf_14 : decode cX1_runnerOf 14 = .ok (.astore_n 3, 1) := dk_78 (dk_at dksX1_runnerOf_0 14 rfl rfl)
theorem dX1_runnerOf_15 : decode cX1_runnerOf 15 = .ok (.aload_n 0, 1) := dk_42 (dk_at dksX1_runnerOf_0 15 rfl rfl)
theorem dX1_runnerOf_16 : decode cX1_runnerOf 16 = .ok (.invokevirtual 240, 3) := dk_182 0 240 (dk_at dksX1_runnerOf_0 16 rfl rfl)
theorem dX1_runnerOf_19 : decode cX1_runnerOf 19 = .ok (.astore 4, 2) := dk_58 4 (dk_at dksX1_runnerOf_0 19 rfl rfl)
theorem dX1_runnerOf_21 : decode cX1_runnerOf 21 = .ok (.iconst 0, 1) := dk_3 (dk_at dksX1_runnerOf_0 21 rfl rfl)
theorem dX1_runnerOf_22 : decode cX1_runnerOf 22 = .ok (.istore 5, 2) := dk_54 5 (dk_at dksX1_runnerOf_0 22 rfl rfl)
theorem dX1_runnerOf_24 : decode cX1_runnerOf 24 = .ok (.aload_n 0, 1) := dk_42 (dk_at dksX1_runnerOf_1 0 rfl rfl)
theorem dX1_runnerOf_25 : decode cX1_runnerOf 25 = .ok (.getfield 43, 3) := dk_180 0 43 (dk_at dksX1_runnerOf_1 1 rfl rfl)
theorem dX1_runnerOf_28 : decode cX1_runnerOf 28 = .ok (.getfield 224, 3) := dk_180 0 224 (dk_at dksX1_runnerOf_1 4 rfl rfl)
theorem dX1_runnerOf_31 : decode cX1_runnerOf 31 = .ok (.invokevirtual 107, 3) := dk_182 0 107 (dk_at dksX1_runnerOf_1 7 rfl rfl)
theorem dX1_runnerOf_34 : decode cX1_runnerOf 34 = .ok (.istore 6, 2) := dk_54 6 (dk_at dksX1_runnerOf_1 10 rfl rfl)
theorem dX1_runnerOf_36 : decode cX1_runnerOf 36 = .ok (.iconst 0, 1) := dk_3 (dk_at dksX1_runnerOf_1 12 rfl rfl)
theorem dX1_runnerOf_37 : decode cX1_runnerOf 37 = .ok (.istore 7, 2) := dk_54 7 (dk_at dksX1_runnerOf_1 13 rfl rfl)
theorem dX1_runnerOf_39 : decode cX1_runnerOf 39 = .ok (.iload 7, 2) := dk_21 7 (dk_at dksX1_runnerOf_1 15 rfl rfl)
theorem dX1_runnerOf_41 : decode cX1_runnerOf 41 = .ok (.iload_n 1, 1) := dk_27 (dk_at dksX1_runnerOf_1 17 rfl rfl)
theorem dX1_runnerOf_42 : decode cX1_runnerOf 42 = .ok (.if_icmp .ge 29, 3) := dk_162 0 29 (dk_at dksX1_runnerOf_1 18 rfl rfl)
theorem dX1_runnerOf_45 : decode cX1_runnerOf 45 = .ok (.iload 5, 2) := dk_21 5 (dk_at dksX1_runnerOf_1 21 rfl rfl)
theorem dX1_runnerOf_47 : decode cX1_runnerOf 47 = .ok (.iconst 1, 1) := dk_4 (dk_at dksX1_runnerOf_1 23 rfl rfl)
theorem dX1_runnerOf_48 : decode cX1_runnerOf 48 = .ok (.aload_n 0, 1) := dk_42 (dk_at dksX1_runnerOf_2 0 rfl rfl)
theorem dX1_runnerOf_49 : decode cX1_runnerOf 49 = .ok (.aload_n 3, 1) := dk_45 (dk_at dksX1_runnerOf_2 1 rfl rfl)
theorem dX1_runnerOf_50 : decode cX1_runnerOf 50 = .ok (.aload 4, 2) := dk_25 4 (dk_at dksX1_runnerOf_2 2 rfl rfl)
theorem dX1_runnerOf_52 : decode cX1_runnerOf 52 = .ok (.iload 7, 2) := dk_21 7 (dk_at dksX1_runnerOf_2 4 rfl rfl)
theorem dX1_runnerOf_54 : decode cX1_runnerOf 54 = .ok (.iload 6, 2) := dk_21 6 (dk_at dksX1_runnerOf_2 6 rfl rfl)
theorem dX1_runnerOf_56 : decode cX1_runnerOf 56 = .ok (.iload 5, 2) := dk_21 5 (dk_at dksX1_runnerOf_2 8 rfl rfl)
theorem dX1_runnerOf_58 : decode cX1_runnerOf 58 = .ok (.invokevirtual 267, 3) := dk_182 1 11 (dk_at dksX1_runnerOf_2 10 rfl rfl)
theorem dX1_runnerOf_61 : decode cX1_runnerOf 61 = .ok (.ishl, 1) := dk_120 (dk_at dksX1_runnerOf_2 13 rfl rfl)
theorem dX1_runnerOf_62 : decode cX1_runnerOf 62 = .ok (.ior, 1) := dk_128 (dk_at dksX1_runnerOf_2 14 rfl rfl)
theorem dX1_runnerOf_63 : decode cX1_runnerOf 63 = .ok (.istore 5, 2) := dk_54 5 (dk_at dksX1_runnerOf_2 15 rfl rfl)
theorem dX1_runnerOf_65 : decode cX1_runnerOf 65 = .ok (.iinc 7 1, 3) := dk_132 7 1 (dk_at dksX1_runnerOf_2 17 rfl rfl)
theorem dX1_runnerOf_68 : decode cX1_runnerOf 68 = .ok (.goto (-29), 3) := dk_167 255 227 (dk_at dksX1_runnerOf_2 20 rfl rfl)
theorem dX1_runnerOf_71 : decode cX1_runnerOf 71 = .ok (.aload_n 0, 1) := dk_42 (dk_at dksX1_runnerOf_2 23 rfl rfl)
theorem dX1_runnerOf_72 : decode cX1_runnerOf 72 = .ok (.aload_n 3, 1) := dk_45 (dk_at dksX1_runnerOf_3 0 rfl rfl)
theorem dX1_runnerOf_73 : decode cX1_runnerOf 73 = .ok (.aload 4, 2) := dk_25 4 (dk_at dksX1_runnerOf_3 1 rfl rfl)
theorem dX1_runnerOf_75 : decode cX1_runnerOf 75 = .ok (.iload_n 1, 1) := dk_27 (dk_at dksX1_runnerOf_3 3 rfl rfl)
theorem dX1_runnerOf_76 : decode cX1_runnerOf 76 = .ok (.iload 6, 2) := dk_21 6 (dk_at dksX1_runnerOf_3 4 rfl rfl)
theorem dX1_runnerOf_78 : decode cX1_runnerOf 78 = .ok (.iload 5, 2) := dk_21 5 (dk_at dksX1_runnerOf_3 6 rfl rfl)
theorem dX1_runnerOf_80 : decode cX1_runnerOf 80 = .ok (.invokevirtual 267, 3) := dk_182 1 11 (dk_at dksX1_runnerOf_3 8 rfl rfl)
theorem dX1_runnerOf_83 : decode cX1_runnerOf 83 = .ok (.ireturn, 1) := dk_172 (dk_at dksX1_runnerOf_3 11 rfl rfl)
abbrev cX1_runner : ByteArray := prog_1_method_52_code
def yX1_runner : MethodName := ⟨RX1, "runner", "(LPendulumGym$RelayTable;LPendulumGym$LegCost;III)I"⟩
def dkwX1_runner_2 : List UInt8 := [4, 100, 182, 0, 254, 96, 21, 6, 159, 0, 9, 132, 7, 1, 167, 255, 210, 21, 7, 172]
abbrev dktX1_runner_2 : List UInt8 := dkwX1_runner_2 ++ []
def dkwX1_runner_1 : List UInt8 := [159, 0, 35, 44, 29, 21, 7, 185, 1, 15, 3, 0, 43, 21, 5, 4, 21, 7, 120, 128, 21, 4, 29, 100]
abbrev dktX1_runner_1 : List UInt8 := dkwX1_runner_1 ++ dktX1_runner_2
def dkwX1_runner_0 : List UInt8 := [43, 21, 5, 21, 4, 29, 100, 182, 0, 254, 54, 6, 3, 54, 7, 21, 5, 21, 7, 122, 4, 126, 4]
abbrev dktX1_runner_0 : List UInt8 := dkwX1_runner_0 ++ dktX1_runner_1
theorem dksX1_runner_0 : cX1_runner.data.toList.drop 0 = dktX1_runner_0 := by decide +kernel
theorem dksX1_runner_1 : cX1_runner.data.toList.drop 23 = dktX1_runner_1 := dk_seg dksX1_runner_0 23 rfl rfl
theorem dksX1_runner_2 : cX1_runner.data.toList.drop 47 = dktX1_runner_2 := dk_seg dksX1_runner_1 24 rfl rfl
theorem dX1_runner_0 : decode cX1_runner 0 = .ok (.aload_n 1, 1) := dk_43 (dk_at dksX1_runner_0 0 rfl rfl)
theorem dX1_runner_1 : decode cX1_runner 1 = .ok (.iload 5, 2) := dk_21 5 (dk_at dksX1_runner_0 1 rfl rfl)
theorem dX1_runner_3 : decode cX1_runner 3 = .ok (.iload 4, 2) := dk_21 4 (dk_at dksX1_runner_0 3 rfl rfl)
theorem dX1_runner_5 : decode cX1_runner 5 = .ok (.iload_n 3, 1) := dk_29 (dk_at dksX1_runner_0 5 rfl rfl)
theorem dX1_runner_6 : decode cX1_runner 6 = .ok (.isub, 1) := dk_100 (dk_at dksX1_runner_0 6 rfl rfl)
theorem dX1_runner_7 : decode cX1_runner 7 = .ok (.invokevirtual 254, 3) := dk_182 0 254 (dk_at dksX1_runner_0 7 rfl rfl)
theorem dX1_runner_10 : decode cX1_runner 10 = .ok (.istore 6, 2) := dk_54 6 (dk_at dksX1_runner_0 10 rfl rfl)
theorem dX1_runner_12 : decode cX1_runner 12 = .ok (.iconst 0, 1) := dk_3 (dk_at dksX1_runner_0 12 rfl rfl)
theorem dX1_runner_13 : decode cX1_runner 13 = .ok (.istore 7, 2) := dk_54 7 (dk_at dksX1_runner_0 13 rfl rfl)
theorem dX1_runner_15 : decode cX1_runner 15 = .ok (.iload 5, 2) := dk_21 5 (dk_at dksX1_runner_0 15 rfl rfl)
theorem dX1_runner_17 : decode cX1_runner 17 = .ok (.iload 7, 2) := dk_21 7 (dk_at dksX1_runner_0 17 rfl rfl)
theorem dX1_runner_19 : decode cX1_runner 19 = .ok (.ishr, 1) := dk_122 (dk_at dksX1_runner_0 19 rfl rfl)
theorem dX1_runner_20 : decode cX1_runner 20 = .ok (.iconst 1, 1) := dk_4 (dk_at dksX1_runner_0 20 rfl rfl)
theorem dX1_runner_21 : decode cX1_runner 21 = .ok (.iand, 1) := dk_126 (dk_at dksX1_runner_0 21 rfl rfl)
theorem dX1_runner_22 : decode cX1_runner 22 = .ok (.iconst 1, 1) := dk_4 (dk_at dksX1_runner_0 22 rfl rfl)
theorem dX1_runner_23 : decode cX1_runner 23 = .ok (.if_icmp .eq 35, 3) := dk_159 0 35 (dk_at dksX1_runner_1 0 rfl rfl)
theorem dX1_runner_26 : decode cX1_runner 26 = .ok (.aload_n 2, 1) := dk_44 (dk_at dksX1_runner_1 3 rfl rfl)
theorem dX1_runner_27 : decode cX1_runner 27 = .ok (.iload_n 3, 1) := dk_29 (dk_at dksX1_runner_1 4 rfl rfl)
theorem dX1_runner_28 : decode cX1_runner 28 = .ok (.iload 7, 2) := dk_21 7 (dk_at dksX1_runner_1 5 rfl rfl)
theorem dX1_runner_30 : decode cX1_runner 30 = .ok (.invokeinterface 271 3, 5) := by decide +kernel
theorem dX1_runner_35 : decode cX1_runner 35 = .ok (.aload_n 1, 1) := dk_43 (dk_at dksX1_runner_1 12 rfl rfl)
theorem dX1_runner_36 : decode cX1_runner 36 = .ok (.iload 5, 2) := dk_21 5 (dk_at dksX1_runner_1 13 rfl rfl)
theorem dX1_runner_38 : decode cX1_runner 38 = .ok (.iconst 1, 1) := dk_4 (dk_at dksX1_runner_1 15 rfl rfl)
theorem dX1_runner_39 : decode cX1_runner 39 = .ok (.iload 7, 2) := dk_21 7 (dk_at dksX1_runner_1 16 rfl rfl)
theorem dX1_runner_41 : decode cX1_runner 41 = .ok (.ishl, 1) := dk_120 (dk_at dksX1_runner_1 18 rfl rfl)
theorem dX1_runner_42 : decode cX1_runner 42 = .ok (.ior, 1) := dk_128 (dk_at dksX1_runner_1 19 rfl rfl)
theorem dX1_runner_43 : decode cX1_runner 43 = .ok (.iload 4, 2) := dk_21 4 (dk_at dksX1_runner_1 20 rfl rfl)
theorem dX1_runner_45 : decode cX1_runner 45 = .ok (.iload_n 3, 1) := dk_29 (dk_at dksX1_runner_1 22 rfl rfl)
theorem dX1_runner_46 : decode cX1_runner 46 = .ok (.isub, 1) := dk_100 (dk_at dksX1_runner_1 23 rfl rfl)
theorem dX1_runner_47 : decode cX1_runner 47 = .ok (.iconst 1, 1) := dk_4 (dk_at dksX1_runner_2 0 rfl rfl)
theorem dX1_runner_48 : decode cX1_runner 48 = .ok (.isub, 1) := dk_100 (dk_at dksX1_runner_2 1 rfl rfl)
theorem dX1_runner_49 : decode cX1_runner 49 = .ok (.invokevirtual 254, 3) := dk_182 0 254 (dk_at dksX1_runner_2 2 rfl rfl)
theorem dX1_runner_52 : decode cX1_runner 52 = .ok (.iadd, 1) := dk_96 (dk_at dksX1_runner_2 5 rfl rfl)
theorem dX1_runner_53 : decode cX1_runner 53 = .ok (.iload 6, 2) := dk_21 6 (dk_at dksX1_runner_2 6 rfl rfl)
theorem dX1_runner_55 : decode cX1_runner 55 = .ok (.if_icmp .eq 9, 3) := dk_159 0 9 (dk_at dksX1_runner_2 8 rfl rfl)
theorem dX1_runner_58 : decode cX1_runner 58 = .ok (.iinc 7 1, 3) := dk_132 7 1 (dk_at dksX1_runner_2 11 rfl rfl)
theorem dX1_runner_61 : decode cX1_runner 61 = .ok (.goto (-46), 3) := dk_167 255 210 (dk_at dksX1_runner_2 14 rfl rfl)
theorem dX1_runner_64 : decode cX1_runner 64 = .ok (.iload 7, 2) := dk_21 7 (dk_at dksX1_runner_2 17 rfl rfl)
theorem dX1_runner_66 : decode cX1_runner 66 = .ok (.ireturn, 1) := dk_172 (dk_at dksX1_runner_2 19 rfl rfl)
abbrev cX1_fewestFor : ByteArray := prog_1_method_55_code
def yX1_fewestFor : MethodName := ⟨RX1, "fewestFor", "(I)I"⟩
def dkwX1_fewestFor_4 : List UInt8 := [184, 0, 139, 21, 4, 172]
abbrev dktX1_fewestFor_4 : List UInt8 := dkwX1_fewestFor_4 ++ []
def dkwX1_fewestFor_3 : List UInt8 := [44, 21, 6, 3, 79, 132, 4, 1, 132, 5, 1, 167, 255, 193, 29, 157, 0, 7, 4, 167, 0, 4, 3]
abbrev dktX1_fewestFor_3 : List UInt8 := dkwX1_fewestFor_3 ++ dktX1_fewestFor_4
def dkwX1_fewestFor_2 : List UInt8 := [44, 21, 6, 46, 164, 0, 7, 21, 7, 54, 6, 132, 7, 1, 167, 255, 231, 29, 44, 21, 6, 46, 100, 62]
abbrev dktX1_fewestFor_2 : List UInt8 := dkwX1_fewestFor_2 ++ dktX1_fewestFor_3
def dkwX1_fewestFor_1 : List UInt8 := [162, 0, 62, 29, 158, 0, 58, 3, 54, 6, 4, 54, 7, 21, 7, 44, 190, 162, 0, 24, 44, 21, 7, 46]
abbrev dktX1_fewestFor_1 : List UInt8 := dkwX1_fewestFor_1 ++ dktX1_fewestFor_2
def dkwX1_fewestFor_0 : List UInt8 := [27, 4, 184, 1, 22, 42, 182, 1, 26, 77, 27, 62, 3, 54, 4, 3, 54, 5, 21, 5, 44, 190]
abbrev dktX1_fewestFor_0 : List UInt8 := dkwX1_fewestFor_0 ++ dktX1_fewestFor_1
theorem dksX1_fewestFor_0 : cX1_fewestFor.data.toList.drop 0 = dktX1_fewestFor_0 := by decide +kernel
theorem dksX1_fewestFor_1 : cX1_fewestFor.data.toList.drop 22 = dktX1_fewestFor_1 := dk_seg dksX1_fewestFor_0 22 rfl rfl
theorem dksX1_fewestFor_2 : cX1_fewestFor.data.toList.drop 46 = dktX1_fewestFor_2 := dk_seg dksX1_fewestFor_1 24 rfl rfl
theorem dksX1_fewestFor_3 : cX1_fewestFor.data.toList.drop 70 = dktX1_fewestFor_3 := dk_seg dksX1_fewestFor_2 24 rfl rfl
theorem dksX1_fewestFor_4 : cX1_fewestFor.data.toList.drop 93 = dktX1_fewestFor_4 := dk_seg dksX1_fewestFor_3 23 rfl rfl
theorem dX1_fewestFor_0 : decode cX1_fewestFor 0 = .ok (.iload_n 1, 1) := dk_27 (dk_at dksX1_fewestFor_0 0 rfl rfl)
theorem dX1_fewestFor_1 : decode cX1_fewestFor 1 = .ok (.iconst 1, 1) := dk_4 (dk_at dksX1_fewestFor_0 1 rfl rfl)
theorem dX1_fewestFor_2 : decode cX1_fewestFor 2 = .ok (.invokestatic 278, 3) := dk_184 1 22 (dk_at dksX1_fewestFor_0 2 rfl rfl)
theorem dX1_fewestFor_5 : decode cX1_fewestFor 5 = .ok (.aload_n 0, 1) := dk_42 (dk_at dksX1_fewestFor_0 5 rfl rfl)
theorem dX1_fewestFor_6 : decode cX1_fewestFor 6 = .ok (.invokevirtual 282, 3) := dk_182 1 26 (dk_at dksX1_fewestFor_0 6 rfl rfl)
theorem dX1_fewestFor_9 : decode cX1_fewestFor 9 = .ok (.astore_n 2, 1) := dk_77 (dk_at dksX1_fewestFor_0 9 rfl rfl)
theorem dX1_fewestFor_10 : decode cX1_fewestFor 10 = .ok (.iload_n 1, 1) := dk_27 (dk_at dksX1_fewestFor_0 10 rfl rfl)
theorem dX1_fewestFor_11 : decode cX1_fewestFor 11 = .ok (.istore_n 3, 1) := dk_62 (dk_at dksX1_fewestFor_0 11 rfl rfl)
theorem dX1_fewestFor_12 : decode cX1_fewestFor 12 = .ok (.iconst 0, 1) := dk_3 (dk_at dksX1_fewestFor_0 12 rfl rfl)
theorem dX1_fewestFor_13 : decode cX1_fewestFor 13 = .ok (.istore 4, 2) := dk_54 4 (dk_at dksX1_fewestFor_0 13 rfl rfl)
theorem dX1_fewestFor_15 : decode cX1_fewestFor 15 = .ok (.iconst 0, 1) := dk_3 (dk_at dksX1_fewestFor_0 15 rfl rfl)
theorem dX1_fewestFor_16 : decode cX1_fewestFor 16 = .ok (.istore 5, 2) := dk_54 5 (dk_at dksX1_fewestFor_0 16 rfl rfl)
theorem dX1_fewestFor_18 : decode cX1_fewestFor 18 = .ok (.iload 5, 2) := dk_21 5 (dk_at dksX1_fewestFor_0 18 rfl rfl)
theorem dX1_fewestFor_20 : decode cX1_fewestFor 20 = .ok (.aload_n 2, 1) := dk_44 (dk_at dksX1_fewestFor_0 20 rfl rfl)
theorem dX1_fewestFor_21 : decode cX1_fewestFor 21 = .ok (.arraylength, 1) := dk_190 (dk_at dksX1_fewestFor_0 21 rfl rfl)
theorem dX1_fewestFor_22 : decode cX1_fewestFor 22 = .ok (.if_icmp .ge 62, 3) := dk_162 0 62 (dk_at dksX1_fewestFor_1 0 rfl rfl)
theorem dX1_fewestFor_25 : decode cX1_fewestFor 25 = .ok (.iload_n 3, 1) := dk_29 (dk_at dksX1_fewestFor_1 3 rfl rfl)
theorem dX1_fewestFor_26 : decode cX1_fewestFor 26 = .ok (.ifCond .le 58, 3) := dk_158 0 58 (dk_at dksX1_fewestFor_1 4 rfl rfl)
theorem dX1_fewestFor_29 : decode cX1_fewestFor 29 = .ok (.iconst 0, 1) := dk_3 (dk_at dksX1_fewestFor_1 7 rfl rfl)
theorem dX1_fewestFor_30 : decode cX1_fewestFor 30 = .ok (.istore 6, 2) := dk_54 6 (dk_at dksX1_fewestFor_1 8 rfl rfl)
theorem dX1_fewestFor_32 : decode cX1_fewestFor 32 = .ok (.iconst 1, 1) := dk_4 (dk_at dksX1_fewestFor_1 10 rfl rfl)
theorem dX1_fewestFor_33 : decode cX1_fewestFor 33 = .ok (.istore 7, 2) := dk_54 7 (dk_at dksX1_fewestFor_1 11 rfl rfl)
theorem dX1_fewestFor_35 : decode cX1_fewestFor 35 = .ok (.iload 7, 2) := dk_21 7 (dk_at dksX1_fewestFor_1 13 rfl rfl)
theorem dX1_fewestFor_37 : decode cX1_fewestFor 37 = .ok (.aload_n 2, 1) := dk_44 (dk_at dksX1_fewestFor_1 15 rfl rfl)
theorem dX1_fewestFor_38 : decode cX1_fewestFor 38 = .ok (.arraylength, 1) := dk_190 (dk_at dksX1_fewestFor_1 16 rfl rfl)
theorem dX1_fewestFor_39 : decode cX1_fewestFor 39 = .ok (.if_icmp .ge 24, 3) := dk_162 0 24 (dk_at dksX1_fewestFor_1 17 rfl rfl)
theorem dX1_fewestFor_42 : decode cX1_fewestFor 42 = .ok (.aload_n 2, 1) := dk_44 (dk_at dksX1_fewestFor_1 20 rfl rfl)
theorem dX1_fewestFor_43 : decode cX1_fewestFor 43 = .ok (.iload 7, 2) := dk_21 7 (dk_at dksX1_fewestFor_1 21 rfl rfl)
theorem dX1_fewestFor_45 : decode cX1_fewestFor 45 = .ok (.iaload, 1) := dk_46 (dk_at dksX1_fewestFor_1 23 rfl rfl)
theorem dX1_fewestFor_46 : decode cX1_fewestFor 46 = .ok (.aload_n 2, 1) := dk_44 (dk_at dksX1_fewestFor_2 0 rfl rfl)
theorem dX1_fewestFor_47 : decode cX1_fewestFor 47 = .ok (.iload 6, 2) := dk_21 6 (dk_at dksX1_fewestFor_2 1 rfl rfl)
theorem dX1_fewestFor_49 : decode cX1_fewestFor 49 = .ok (.iaload, 1) := dk_46 (dk_at dksX1_fewestFor_2 3 rfl rfl)
theorem dX1_fewestFor_50 : decode cX1_fewestFor 50 = .ok (.if_icmp .le 7, 3) := dk_164 0 7 (dk_at dksX1_fewestFor_2 4 rfl rfl)
theorem dX1_fewestFor_53 : decode cX1_fewestFor 53 = .ok (.iload 7, 2) := dk_21 7 (dk_at dksX1_fewestFor_2 7 rfl rfl)
theorem dX1_fewestFor_55 : decode cX1_fewestFor 55 = .ok (.istore 6, 2) := dk_54 6 (dk_at dksX1_fewestFor_2 9 rfl rfl)
theorem dX1_fewestFor_57 : decode cX1_fewestFor 57 = .ok (.iinc 7 1, 3) := dk_132 7 1 (dk_at dksX1_fewestFor_2 11 rfl rfl)
theorem dX1_fewestFor_60 : decode cX1_fewestFor 60 = .ok (.goto (-25), 3) := dk_167 255 231 (dk_at dksX1_fewestFor_2 14 rfl rfl)
theorem dX1_fewestFor_63 : decode cX1_fewestFor 63 = .ok (.iload_n 3, 1) := dk_29 (dk_at dksX1_fewestFor_2 17 rfl rfl)
theorem dX1_fewestFor_64 : decode cX1_fewestFor 64 = .ok (.aload_n 2, 1) := dk_44 (dk_at dksX1_fewestFor_2 18 rfl rfl)
theorem dX1_fewestFor_65 : decode cX1_fewestFor 65 = .ok (.iload 6, 2) := dk_21 6 (dk_at dksX1_fewestFor_2 19 rfl rfl)
theorem dX1_fewestFor_67 : decode cX1_fewestFor 67 = .ok (.iaload, 1) := dk_46 (dk_at dksX1_fewestFor_2 21 rfl rfl)
theorem dX1_fewestFor_68 : decode cX1_fewestFor 68 = .ok (.isub, 1) := dk_100 (dk_at dksX1_fewestFor_2 22 rfl rfl)
theorem dX1_fewestFor_69 : decode cX1_fewestFor 69 = .ok (.istore_n 3, 1) := dk_62 (dk_at dksX1_fewestFor_2 23 rfl rfl)
theorem dX1_fewestFor_70 : decode cX1_fewestFor 70 = .ok (.aload_n 2, 1) := dk_44 (dk_at dksX1_fewestFor_3 0 rfl rfl)
theorem dX1_fewestFor_71 : decode cX1_fewestFor 71 = .ok (.iload 6, 2) := dk_21 6 (dk_at dksX1_fewestFor_3 1 rfl rfl)
theorem dX1_fewestFor_73 : decode cX1_fewestFor 73 = .ok (.iconst 0, 1) := dk_3 (dk_at dksX1_fewestFor_3 3 rfl rfl)
theorem dX1_fewestFor_74 : decode cX1_fewestFor 74 = .ok (.iastore, 1) := dk_79 (dk_at dksX1_fewestFor_3 4 rfl rfl)
theorem dX1_fewestFor_75 : decode cX1_fewestFor 75 = .ok (.iinc 4 1, 3) := dk_132 4 1 (dk_at dksX1_fewestFor_3 5 rfl rfl)
theorem dX1_fewestFor_78 : decode cX1_fewestFor 78 = .ok (.iinc 5 1, 3) := dk_132 5 1 (dk_at dksX1_fewestFor_3 8 rfl rfl)
theorem dX1_fewestFor_81 : decode cX1_fewestFor 81 = .ok (.goto (-63), 3) := dk_167 255 193 (dk_at dksX1_fewestFor_3 11 rfl rfl)
theorem dX1_fewestFor_84 : decode cX1_fewestFor 84 = .ok (.iload_n 3, 1) := dk_29 (dk_at dksX1_fewestFor_3 14 rfl rfl)
theorem dX1_fewestFor_85 : decode cX1_fewestFor 85 = .ok (.ifCond .gt 7, 3) := dk_157 0 7 (dk_at dksX1_fewestFor_3 15 rfl rfl)
theorem dX1_fewestFor_88 : decode cX1_fewestFor 88 = .ok (.iconst 1, 1) := dk_4 (dk_at dksX1_fewestFor_3 18 rfl rfl)
theorem dX1_fewestFor_89 : decode cX1_fewestFor 89 = .ok (.goto 4, 3) := dk_167 0 4 (dk_at dksX1_fewestFor_3 19 rfl rfl)
theorem dX1_fewestFor_92 : decode cX1_fewestFor 92 = .ok (.iconst 0, 1) := dk_3 (dk_at dksX1_fewestFor_3 22 rfl rfl)
theorem dX1_fewestFor_93 : decode cX1_fewestFor 93 = .ok (.invokestatic 139, 3) := dk_184 0 139 (dk_at dksX1_fewestFor_4 0 rfl rfl)
theorem dX1_fewestFor_96 : decode cX1_fewestFor 96 = .ok (.iload 4, 2) := dk_21 4 (dk_at dksX1_fewestFor_4 3 rfl rfl)
theorem dX1_fewestFor_98 : decode cX1_fewestFor 98 = .ok (.ireturn, 1) := dk_172 (dk_at dksX1_fewestFor_4 5 rfl rfl)
abbrev cX1_requireSwings : ByteArray := prog_1_method_54_code
def yX1_requireSwings : MethodName := ⟨RX1, "requireSwings", "(II)V"⟩
def dkwX1_requireSwings_0 : List UInt8 := [26, 27, 17, 3, 231, 184, 0, 163, 184, 0, 167, 177]
abbrev dktX1_requireSwings_0 : List UInt8 := dkwX1_requireSwings_0 ++ []
theorem dksX1_requireSwings_0 : cX1_requireSwings.data.toList.drop 0 = dktX1_requireSwings_0 := by decide +kernel
theorem dX1_requireSwings_0 : decode cX1_requireSwings 0 = .ok (.iload_n 0, 1) := dk_26 (dk_at dksX1_requireSwings_0 0 rfl rfl)
theorem dX1_requireSwings_1 : decode cX1_requireSwings 1 = .ok (.iload_n 1, 1) := dk_27 (dk_at dksX1_requireSwings_0 1 rfl rfl)
theorem dX1_requireSwings_2 : decode cX1_requireSwings 2 = .ok (.sipush 999, 3) := dk_17 3 231 (dk_at dksX1_requireSwings_0 2 rfl rfl)
theorem dX1_requireSwings_5 : decode cX1_requireSwings 5 = .ok (.invokestatic 163, 3) := dk_184 0 163 (dk_at dksX1_requireSwings_0 5 rfl rfl)
theorem dX1_requireSwings_8 : decode cX1_requireSwings 8 = .ok (.invokestatic 167, 3) := dk_184 0 167 (dk_at dksX1_requireSwings_0 8 rfl rfl)
theorem dX1_requireSwings_11 : decode cX1_requireSwings 11 = .ok (.return_, 1) := dk_177 (dk_at dksX1_requireSwings_0 11 rfl rfl)
abbrev cX1_weekSwings : ByteArray := prog_1_method_53_code
def yX1_weekSwings : MethodName := ⟨RX1, "weekSwings", "()[I"⟩
def dkwX1_weekSwings_2 : List UInt8 := [176]
abbrev dktX1_weekSwings_2 : List UInt8 := dkwX1_weekSwings_2 ++ []
def dkwX1_weekSwings_1 : List UInt8 := [180, 0, 43, 180, 0, 103, 28, 182, 0, 181, 192, 0, 115, 182, 1, 19, 79, 132, 2, 1, 167, 255, 227, 43]
abbrev dktX1_weekSwings_1 : List UInt8 := dkwX1_weekSwings_1 ++ dktX1_weekSwings_2
def dkwX1_weekSwings_0 : List UInt8 := [42, 180, 0, 43, 180, 0, 103, 182, 0, 107, 188, 10, 76, 3, 61, 28, 43, 190, 162, 0, 29, 43, 28, 42]
abbrev dktX1_weekSwings_0 : List UInt8 := dkwX1_weekSwings_0 ++ dktX1_weekSwings_1
theorem dksX1_weekSwings_0 : cX1_weekSwings.data.toList.drop 0 = dktX1_weekSwings_0 := by decide +kernel
theorem dksX1_weekSwings_1 : cX1_weekSwings.data.toList.drop 24 = dktX1_weekSwings_1 := dk_seg dksX1_weekSwings_0 24 rfl rfl
theorem dksX1_weekSwings_2 : cX1_weekSwings.data.toList.drop 48 = dktX1_weekSwings_2 := dk_seg dksX1_weekSwings_1 24 rfl rfl
theorem dX1_weekSwings_0 : decode cX1_weekSwings 0 = .ok (.aload_n 0, 1) := dk_42 (dk_at dksX1_weekSwings_0 0 rfl rfl)
theorem dX1_weekSwings_1 : decode cX1_weekSwings 1 = .ok (.getfield 43, 3) := dk_180 0 43 (dk_at dksX1_weekSwings_0 1 rfl rfl)
theorem dX1_weekSwings_4 : decode cX1_weekSwings 4 = .ok (.getfield 103, 3) := dk_180 0 103 (dk_at dksX1_weekSwings_0 4 rfl rfl)
theorem dX1_weekSwings_7 : decode cX1_weekSwings 7 = .ok (.invokevirtual 107, 3) := dk_182 0 107 (dk_at dksX1_weekSwings_0 7 rfl rfl)
theorem dX1_weekSwings_10 : decode cX1_weekSwings 10 = .ok (.newarray .int, 2) := dk_188_10 (dk_at dksX1_weekSwings_0 10 rfl rfl)
theorem dX1_weekSwings_12 : decode cX1_weekSwings 12 = .ok (.astore_n 1, 1) := dk_76 (dk_at dksX1_weekSwings_0 12 rfl rfl)
theorem dX1_weekSwings_13 : decode cX1_weekSwings 13 = .ok (.iconst 0, 1) := dk_3 (dk_at dksX1_weekSwings_0 13 rfl rfl)
theorem dX1_weekSwings_14 : decode cX1_weekSwings 14 = .ok (.istore_n 2, 1) := dk_61 (dk_at dksX1_weekSwings_0 14 rfl rfl)
theorem dX1_weekSwings_15 : decode cX1_weekSwings 15 = .ok (.iload_n 2, 1) := dk_28 (dk_at dksX1_weekSwings_0 15 rfl rfl)
theorem dX1_weekSwings_16 : decode cX1_weekSwings 16 = .ok (.aload_n 1, 1) := dk_43 (dk_at dksX1_weekSwings_0 16 rfl rfl)
theorem dX1_weekSwings_17 : decode cX1_weekSwings 17 = .ok (.arraylength, 1) := dk_190 (dk_at dksX1_weekSwings_0 17 rfl rfl)
theorem dX1_weekSwings_18 : decode cX1_weekSwings 18 = .ok (.if_icmp .ge 29, 3) := dk_162 0 29 (dk_at dksX1_weekSwings_0 18 rfl rfl)
theorem dX1_weekSwings_21 : decode cX1_weekSwings 21 = .ok (.aload_n 1, 1) := dk_43 (dk_at dksX1_weekSwings_0 21 rfl rfl)
theorem dX1_weekSwings_22 : decode cX1_weekSwings 22 = .ok (.iload_n 2, 1) := dk_28 (dk_at dksX1_weekSwings_0 22 rfl rfl)
theorem dX1_weekSwings_23 : decode cX1_weekSwings 23 = .ok (.aload_n 0, 1) := dk_42 (dk_at dksX1_weekSwings_0 23 rfl rfl)
theorem dX1_weekSwings_24 : decode cX1_weekSwings 24 = .ok (.getfield 43, 3) := dk_180 0 43 (dk_at dksX1_weekSwings_1 0 rfl rfl)
theorem dX1_weekSwings_27 : decode cX1_weekSwings 27 = .ok (.getfield 103, 3) := dk_180 0 103 (dk_at dksX1_weekSwings_1 3 rfl rfl)
theorem dX1_weekSwings_30 : decode cX1_weekSwings 30 = .ok (.iload_n 2, 1) := dk_28 (dk_at dksX1_weekSwings_1 6 rfl rfl)
theorem dX1_weekSwings_31 : decode cX1_weekSwings 31 = .ok (.invokevirtual 181, 3) := dk_182 0 181 (dk_at dksX1_weekSwings_1 7 rfl rfl)
theorem dX1_weekSwings_34 : decode cX1_weekSwings 34 = .ok (.checkcast 115, 3) := dk_192 0 115 (dk_at dksX1_weekSwings_1 10 rfl rfl)
theorem dX1_weekSwings_37 : decode cX1_weekSwings 37 = .ok (.invokevirtual 275, 3) := dk_182 1 19 (dk_at dksX1_weekSwings_1 13 rfl rfl)
theorem dX1_weekSwings_40 : decode cX1_weekSwings 40 = .ok (.iastore, 1) := dk_79 (dk_at dksX1_weekSwings_1 16 rfl rfl)
theorem dX1_weekSwings_41 : decode cX1_weekSwings 41 = .ok (.iinc 2 1, 3) := dk_132 2 1 (dk_at dksX1_weekSwings_1 17 rfl rfl)
theorem dX1_weekSwings_44 : decode cX1_weekSwings 44 = .ok (.goto (-29), 3) := dk_167 255 227 (dk_at dksX1_weekSwings_1 20 rfl rfl)
theorem dX1_weekSwings_47 : decode cX1_weekSwings 47 = .ok (.aload_n 1, 1) := dk_43 (dk_at dksX1_weekSwings_1 23 rfl rfl)
theorem dX1_weekSwings_48 : decode cX1_weekSwings 48 = .ok (.areturn, 1) := dk_176 (dk_at dksX1_weekSwings_2 0 rfl rfl)
abbrev cX1_fewestForBySets : ByteArray := prog_1_method_57_code
def yX1_fewestForBySets : MethodName := ⟨RX1, "fewestForBySets", "(I)I"⟩
def dkwX1_fewestForBySets_3 : List UInt8 := [163, 0, 7, 4, 167, 0, 4, 3, 184, 0, 139, 21, 4, 172]
abbrev dktX1_fewestForBySets_3 : List UInt8 := dkwX1_fewestForBySets_3 ++ []
def dkwX1_fewestForBySets_2 : List UInt8 := [21, 4, 21, 5, 184, 1, 42, 184, 1, 45, 54, 4, 132, 5, 1, 167, 255, 217, 21, 4, 16, 8]
abbrev dktX1_fewestForBySets_2 : List UInt8 := dkwX1_fewestForBySets_2 ++ dktX1_fewestForBySets_3
def dkwX1_fewestForBySets_1 : List UInt8 := [21, 5, 4, 45, 190, 120, 162, 0, 36, 44, 45, 21, 5, 184, 1, 33, 185, 1, 37, 2, 0, 153, 0, 15]
abbrev dktX1_fewestForBySets_1 : List UInt8 := dkwX1_fewestForBySets_1 ++ dktX1_fewestForBySets_2
def dkwX1_fewestForBySets_0 : List UInt8 := [27, 4, 184, 1, 22, 27, 186, 1, 29, 0, 0, 77, 42, 182, 1, 26, 78, 16, 9, 54, 4, 3, 54, 5]
abbrev dktX1_fewestForBySets_0 : List UInt8 := dkwX1_fewestForBySets_0 ++ dktX1_fewestForBySets_1
theorem dksX1_fewestForBySets_0 : cX1_fewestForBySets.data.toList.drop 0 = dktX1_fewestForBySets_0 := by decide +kernel
theorem dksX1_fewestForBySets_1 : cX1_fewestForBySets.data.toList.drop 24 = dktX1_fewestForBySets_1 := dk_seg dksX1_fewestForBySets_0 24 rfl rfl
theorem dksX1_fewestForBySets_2 : cX1_fewestForBySets.data.toList.drop 48 = dktX1_fewestForBySets_2 := dk_seg dksX1_fewestForBySets_1 24 rfl rfl
theorem dksX1_fewestForBySets_3 : cX1_fewestForBySets.data.toList.drop 70 = dktX1_fewestForBySets_3 := dk_seg dksX1_fewestForBySets_2 22 rfl rfl
theorem dX1_fewestForBySets_0 : decode cX1_fewestForBySets 0 = .ok (.iload_n 1, 1) := dk_27 (dk_at dksX1_fewestForBySets_0 0 rfl rfl)
theorem dX1_fewestForBySets_1 : decode cX1_fewestForBySets 1 = .ok (.iconst 1, 1) := dk_4 (dk_at dksX1_fewestForBySets_0 1 rfl rfl)
theorem dX1_fewestForBySets_2 : decode cX1_fewestForBySets 2 = .ok (.invokestatic 278, 3) := dk_184 1 22 (dk_at dksX1_fewestForBySets_0 2 rfl rfl)
theorem dX1_fewestForBySets_5 : decode cX1_fewestForBySets 5 = .ok (.iload_n 1, 1) := dk_27 (dk_at dksX1_fewestForBySets_0 5 rfl rfl)
theorem dX1_fewestForBySets_6 : decode cX1_fewestForBySets 6 = .ok (.invokedynamic 285, 5) := by decide +kernel
theorem dX1_fewestForBySets_11 : decode cX1_fewestForBySets 11 = .ok (.astore_n 2, 1) := dk_77 (dk_at dksX1_fewestForBySets_0 11 rfl rfl)
theorem dX1_fewestForBySets_12 : decode cX1_fewestForBySets 12 = .ok (.aload_n 0, 1) := dk_42 (dk_at dksX1_fewestForBySets_0 12 rfl rfl)
theorem dX1_fewestForBySets_13 : decode cX1_fewestForBySets 13 = .ok (.invokevirtual 282, 3) := dk_182 1 26 (dk_at dksX1_fewestForBySets_0 13 rfl rfl)
theorem dX1_fewestForBySets_16 : decode cX1_fewestForBySets 16 = .ok (.astore_n 3, 1) := dk_78 (dk_at dksX1_fewestForBySets_0 16 rfl rfl)
theorem dX1_fewestForBySets_17 : decode cX1_fewestForBySets 17 = .ok (.bipush 9, 2) := dk_16 9 (dk_at dksX1_fewestForBySets_0 17 rfl rfl)
theorem dX1_fewestForBySets_19 : decode cX1_fewestForBySets 19 = .ok (.istore 4, 2) := dk_54 4 (dk_at dksX1_fewestForBySets_0 19 rfl rfl)
theorem dX1_fewestForBySets_21 : decode cX1_fewestForBySets 21 = .ok (.iconst 0, 1) := dk_3 (dk_at dksX1_fewestForBySets_0 21 rfl rfl)
theorem dX1_fewestForBySets_22 : decode cX1_fewestForBySets 22 = .ok (.istore 5, 2) := dk_54 5 (dk_at dksX1_fewestForBySets_0 22 rfl rfl)
theorem dX1_fewestForBySets_24 : decode cX1_fewestForBySets 24 = .ok (.iload 5, 2) := dk_21 5 (dk_at dksX1_fewestForBySets_1 0 rfl rfl)
theorem dX1_fewestForBySets_26 : decode cX1_fewestForBySets 26 = .ok (.iconst 1, 1) := dk_4 (dk_at dksX1_fewestForBySets_1 2 rfl rfl)
theorem dX1_fewestForBySets_27 : decode cX1_fewestForBySets 27 = .ok (.aload_n 3, 1) := dk_45 (dk_at dksX1_fewestForBySets_1 3 rfl rfl)
theorem dX1_fewestForBySets_28 : decode cX1_fewestForBySets 28 = .ok (.arraylength, 1) := dk_190 (dk_at dksX1_fewestForBySets_1 4 rfl rfl)
theorem dX1_fewestForBySets_29 : decode cX1_fewestForBySets 29 = .ok (.ishl, 1) := dk_120 (dk_at dksX1_fewestForBySets_1 5 rfl rfl)
theorem dX1_fewestForBySets_30 : decode cX1_fewestForBySets 30 = .ok (.if_icmp .ge 36, 3) := dk_162 0 36 (dk_at dksX1_fewestForBySets_1 6 rfl rfl)
theorem dX1_fewestForBySets_33 : decode cX1_fewestForBySets 33 = .ok (.aload_n 2, 1) := dk_44 (dk_at dksX1_fewestForBySets_1 9 rfl rfl)
theorem dX1_fewestForBySets_34 : decode cX1_fewestForBySets 34 = .ok (.aload_n 3, 1) := dk_45 (dk_at dksX1_fewestForBySets_1 10 rfl rfl)
theorem dX1_fewestForBySets_35 : decode cX1_fewestForBySets 35 = .ok (.iload 5, 2) := dk_21 5 (dk_at dksX1_fewestForBySets_1 11 rfl rfl)
theorem dX1_fewestForBySets_37 : decode cX1_fewestForBySets 37 = .ok (.invokestatic 289, 3) := dk_184 1 33 (dk_at dksX1_fewestForBySets_1 13 rfl rfl)
theorem dX1_fewestForBySets_40 : decode cX1_fewestForBySets 40 = .ok (.invokeinterface 293 2, 5) := by decide +kernel
theorem dX1_fewestForBySets_45 : decode cX1_fewestForBySets 45 = .ok (.ifCond .eq 15, 3) := dk_153 0 15 (dk_at dksX1_fewestForBySets_1 21 rfl rfl)
theorem dX1_fewestForBySets_48 : decode cX1_fewestForBySets 48 = .ok (.iload 4, 2) := dk_21 4 (dk_at dksX1_fewestForBySets_2 0 rfl rfl)
theorem dX1_fewestForBySets_50 : decode cX1_fewestForBySets 50 = .ok (.iload 5, 2) := dk_21 5 (dk_at dksX1_fewestForBySets_2 2 rfl rfl)
theorem dX1_fewestForBySets_52 : decode cX1_fewestForBySets 52 = .ok (.invokestatic 298, 3) := dk_184 1 42 (dk_at dksX1_fewestForBySets_2 4 rfl rfl)
theorem dX1_fewestForBySets_55 : decode cX1_fewestForBySets 55 = .ok (.invokestatic 301, 3) := dk_184 1 45 (dk_at dksX1_fewestForBySets_2 7 rfl rfl)
theorem dX1_fewestForBySets_58 : decode cX1_fewestForBySets 58 = .ok (.istore 4, 2) := dk_54 4 (dk_at dksX1_fewestForBySets_2 10 rfl rfl)
theorem dX1_fewestForBySets_60 : decode cX1_fewestForBySets 60 = .ok (.iinc 5 1, 3) := dk_132 5 1 (dk_at dksX1_fewestForBySets_2 12 rfl rfl)
theorem dX1_fewestForBySets_63 : decode cX1_fewestForBySets 63 = .ok (.goto (-39), 3) := dk_167 255 217 (dk_at dksX1_fewestForBySets_2 15 rfl rfl)
theorem dX1_fewestForBySets_66 : decode cX1_fewestForBySets 66 = .ok (.iload 4, 2) := dk_21 4 (dk_at dksX1_fewestForBySets_2 18 rfl rfl)
theorem dX1_fewestForBySets_68 : decode cX1_fewestForBySets 68 = .ok (.bipush 8, 2) := dk_16 8 (dk_at dksX1_fewestForBySets_2 20 rfl rfl)
theorem dX1_fewestForBySets_70 : decode cX1_fewestForBySets 70 = .ok (.if_icmp .gt 7, 3) := dk_163 0 7 (dk_at dksX1_fewestForBySets_3 0 rfl rfl)
theorem dX1_fewestForBySets_73 : decode cX1_fewestForBySets 73 = .ok (.iconst 1, 1) := dk_4 (dk_at dksX1_fewestForBySets_3 3 rfl rfl)
theorem dX1_fewestForBySets_74 : decode cX1_fewestForBySets 74 = .ok (.goto 4, 3) := dk_167 0 4 (dk_at dksX1_fewestForBySets_3 4 rfl rfl)
theorem dX1_fewestForBySets_77 : decode cX1_fewestForBySets 77 = .ok (.iconst 0, 1) := dk_3 (dk_at dksX1_fewestForBySets_3 7 rfl rfl)
theorem dX1_fewestForBySets_78 : decode cX1_fewestForBySets 78 = .ok (.invokestatic 139, 3) := dk_184 0 139 (dk_at dksX1_fewestForBySets_3 8 rfl rfl)
theorem dX1_fewestForBySets_81 : decode cX1_fewestForBySets 81 = .ok (.iload 4, 2) := dk_21 4 (dk_at dksX1_fewestForBySets_3 11 rfl rfl)
theorem dX1_fewestForBySets_83 : decode cX1_fewestForBySets 83 = .ok (.ireturn, 1) := dk_172 (dk_at dksX1_fewestForBySets_3 13 rfl rfl)
abbrev cX1_lambda_fewestForBySets_8 : ByteArray := prog_1_method_73_code
def yX1_lambda_fewestForBySets_8 : MethodName := ⟨RX1, "lambda$fewestForBySets$8", "(II)Z"⟩
def dkwX1_lambda_fewestForBySets_8_0 : List UInt8 := [27, 26, 161, 0, 7, 4, 167, 0, 4, 3, 172]
abbrev dktX1_lambda_fewestForBySets_8_0 : List UInt8 := dkwX1_lambda_fewestForBySets_8_0 ++ []
theorem dksX1_lambda_fewestForBySets_8_0 : cX1_lambda_fewestForBySets_8.data.toList.drop 0 = dktX1_lambda_fewestForBySets_8_0 := by decide +kernel
theorem dX1_lambda_fewestForBySets_8_0 : decode cX1_lambda_fewestForBySets_8 0 = .ok (.iload_n 1, 1) := dk_27 (dk_at dksX1_lambda_fewestForBySets_8_0 0 rfl rfl)
theorem dX1_lambda_fewestForBySets_8_1 : decode cX1_lambda_fewestForBySets_8 1 = .ok (.iload_n 0, 1) := dk_26 (dk_at dksX1_lambda_fewestForBySets_8_0 1 rfl rfl)
theorem dX1_lambda_fewestForBySets_8_2 : decode cX1_lambda_fewestForBySets_8 2 = .ok (.if_icmp .lt 7, 3) := dk_161 0 7 (dk_at dksX1_lambda_fewestForBySets_8_0 2 rfl rfl)
theorem dX1_lambda_fewestForBySets_8_5 : decode cX1_lambda_fewestForBySets_8 5 = .ok (.iconst 1, 1) := dk_4 (dk_at dksX1_lambda_fewestForBySets_8_0 5 rfl rfl)
theorem dX1_lambda_fewestForBySets_8_6 : decode cX1_lambda_fewestForBySets_8 6 = .ok (.goto 4, 3) := dk_167 0 4 (dk_at dksX1_lambda_fewestForBySets_8_0 6 rfl rfl)
theorem dX1_lambda_fewestForBySets_8_9 : decode cX1_lambda_fewestForBySets_8 9 = .ok (.iconst 0, 1) := dk_3 (dk_at dksX1_lambda_fewestForBySets_8_0 9 rfl rfl)
theorem dX1_lambda_fewestForBySets_8_10 : decode cX1_lambda_fewestForBySets_8 10 = .ok (.ireturn, 1) := dk_172 (dk_at dksX1_lambda_fewestForBySets_8_0 10 rfl rfl)
abbrev cX1_sum : ByteArray := prog_1_method_56_code
def yX1_sum : MethodName := ⟨RX1, "sum", "([II)I"⟩
def dkwX1_sum_1 : List UInt8 := [167, 0, 4, 3, 96, 61, 132, 3, 1, 167, 255, 228, 28, 172]
abbrev dktX1_sum_1 : List UInt8 := dkwX1_sum_1 ++ []
def dkwX1_sum_0 : List UInt8 := [3, 61, 3, 62, 29, 42, 190, 162, 0, 28, 28, 27, 29, 122, 4, 126, 4, 160, 0, 9, 42, 29, 46]
abbrev dktX1_sum_0 : List UInt8 := dkwX1_sum_0 ++ dktX1_sum_1
theorem dksX1_sum_0 : cX1_sum.data.toList.drop 0 = dktX1_sum_0 := by decide +kernel
theorem dksX1_sum_1 : cX1_sum.data.toList.drop 23 = dktX1_sum_1 := dk_seg dksX1_sum_0 23 rfl rfl
theorem dX1_sum_0 : decode cX1_sum 0 = .ok (.iconst 0, 1) := dk_3 (dk_at dksX1_sum_0 0 rfl rfl)
theorem dX1_sum_1 : decode cX1_sum 1 = .ok (.istore_n 2, 1) := dk_61 (dk_at dksX1_sum_0 1 rfl rfl)
theorem dX1_sum_2 : decode cX1_sum 2 = .ok (.iconst 0, 1) := dk_3 (dk_at dksX1_sum_0 2 rfl rfl)
theorem dX1_sum_3 : decode cX1_sum 3 = .ok (.istore_n 3, 1) := dk_62 (dk_at dksX1_sum_0 3 rfl rfl)
theorem dX1_sum_4 : decode cX1_sum 4 = .ok (.iload_n 3, 1) := dk_29 (dk_at dksX1_sum_0 4 rfl rfl)
theorem dX1_sum_5 : decode cX1_sum 5 = .ok (.aload_n 0, 1) := dk_42 (dk_at dksX1_sum_0 5 rfl rfl)
theorem dX1_sum_6 : decode cX1_sum 6 = .ok (.arraylength, 1) := dk_190 (dk_at dksX1_sum_0 6 rfl rfl)
theorem dX1_sum_7 : decode cX1_sum 7 = .ok (.if_icmp .ge 28, 3) := dk_162 0 28 (dk_at dksX1_sum_0 7 rfl rfl)
theorem dX1_sum_10 : decode cX1_sum 10 = .ok (.iload_n 2, 1) := dk_28 (dk_at dksX1_sum_0 10 rfl rfl)
theorem dX1_sum_11 : decode cX1_sum 11 = .ok (.iload_n 1, 1) := dk_27 (dk_at dksX1_sum_0 11 rfl rfl)
theorem dX1_sum_12 : decode cX1_sum 12 = .ok (.iload_n 3, 1) := dk_29 (dk_at dksX1_sum_0 12 rfl rfl)
theorem dX1_sum_13 : decode cX1_sum 13 = .ok (.ishr, 1) := dk_122 (dk_at dksX1_sum_0 13 rfl rfl)
theorem dX1_sum_14 : decode cX1_sum 14 = .ok (.iconst 1, 1) := dk_4 (dk_at dksX1_sum_0 14 rfl rfl)
theorem dX1_sum_15 : decode cX1_sum 15 = .ok (.iand, 1) := dk_126 (dk_at dksX1_sum_0 15 rfl rfl)
theorem dX1_sum_16 : decode cX1_sum 16 = .ok (.iconst 1, 1) := dk_4 (dk_at dksX1_sum_0 16 rfl rfl)
theorem dX1_sum_17 : decode cX1_sum 17 = .ok (.if_icmp .ne 9, 3) := dk_160 0 9 (dk_at dksX1_sum_0 17 rfl rfl)
theorem dX1_sum_20 : decode cX1_sum 20 = .ok (.aload_n 0, 1) := dk_42 (dk_at dksX1_sum_0 20 rfl rfl)
theorem dX1_sum_21 : decode cX1_sum 21 = .ok (.iload_n 3, 1) := dk_29 (dk_at dksX1_sum_0 21 rfl rfl)
theorem dX1_sum_22 : decode cX1_sum 22 = .ok (.iaload, 1) := dk_46 (dk_at dksX1_sum_0 22 rfl rfl)
theorem dX1_sum_23 : decode cX1_sum 23 = .ok (.goto 4, 3) := dk_167 0 4 (dk_at dksX1_sum_1 0 rfl rfl)
theorem dX1_sum_26 : decode cX1_sum 26 = .ok (.iconst 0, 1) := dk_3 (dk_at dksX1_sum_1 3 rfl rfl)
theorem dX1_sum_27 : decode cX1_sum 27 = .ok (.iadd, 1) := dk_96 (dk_at dksX1_sum_1 4 rfl rfl)
theorem dX1_sum_28 : decode cX1_sum 28 = .ok (.istore_n 2, 1) := dk_61 (dk_at dksX1_sum_1 5 rfl rfl)
theorem dX1_sum_29 : decode cX1_sum 29 = .ok (.iinc 3 1, 3) := dk_132 3 1 (dk_at dksX1_sum_1 6 rfl rfl)
theorem dX1_sum_32 : decode cX1_sum 32 = .ok (.goto (-28), 3) := dk_167 255 228 (dk_at dksX1_sum_1 9 rfl rfl)
theorem dX1_sum_35 : decode cX1_sum 35 = .ok (.iload_n 2, 1) := dk_28 (dk_at dksX1_sum_1 12 rfl rfl)
theorem dX1_sum_36 : decode cX1_sum 36 = .ok (.ireturn, 1) := dk_172 (dk_at dksX1_sum_1 13 rfl rfl)
abbrev cX1_exactSets : ByteArray := prog_1_method_58_code
def yX1_exactSets : MethodName := ⟨RX1, "exactSets", "(I)I"⟩
def dkwX1_exactSets_2 : List UInt8 := [153, 0, 7, 4, 167, 0, 4, 3, 96, 54, 4, 132, 5, 1, 167, 255, 219, 21, 4, 172]
abbrev dktX1_exactSets_2 : List UInt8 := dkwX1_exactSets_2 ++ []
def dkwX1_exactSets_1 : List UInt8 := [21, 5, 4, 45, 190, 120, 162, 0, 34, 21, 4, 44, 45, 21, 5, 184, 1, 33, 185, 1, 37, 2, 0]
abbrev dktX1_exactSets_1 : List UInt8 := dkwX1_exactSets_1 ++ dktX1_exactSets_2
def dkwX1_exactSets_0 : List UInt8 := [27, 3, 184, 1, 22, 27, 186, 1, 48, 0, 0, 77, 42, 182, 1, 26, 78, 3, 54, 4, 3, 54, 5]
abbrev dktX1_exactSets_0 : List UInt8 := dkwX1_exactSets_0 ++ dktX1_exactSets_1
theorem dksX1_exactSets_0 : cX1_exactSets.data.toList.drop 0 = dktX1_exactSets_0 := by decide +kernel
theorem dksX1_exactSets_1 : cX1_exactSets.data.toList.drop 23 = dktX1_exactSets_1 := dk_seg dksX1_exactSets_0 23 rfl rfl
theorem dksX1_exactSets_2 : cX1_exactSets.data.toList.drop 46 = dktX1_exactSets_2 := dk_seg dksX1_exactSets_1 23 rfl rfl
theorem dX1_exactSets_0 : decode cX1_exactSets 0 = .ok (.iload_n 1, 1) := dk_27 (dk_at dksX1_exactSets_0 0 rfl rfl)
theorem dX1_exactSets_1 : decode cX1_exactSets 1 = .ok (.iconst 0, 1) := dk_3 (dk_at dksX1_exactSets_0 1 rfl rfl)
theorem dX1_exactSets_2 : decode cX1_exactSets 2 = .ok (.invokestatic 278, 3) := dk_184 1 22 (dk_at dksX1_exactSets_0 2 rfl rfl)
theorem dX1_exactSets_5 : decode cX1_exactSets 5 = .ok (.iload_n 1, 1) := dk_27 (dk_at dksX1_exactSets_0 5 rfl rfl)
theorem dX1_exactSets_6 : decode cX1_exactSets 6 = .ok (.invokedynamic 304, 5) := by decide +kernel
theorem dX1_exactSets_11 : decode cX1_exactSets 11 = .ok (.astore_n 2, 1) := dk_77 (dk_at dksX1_exactSets_0 11 rfl rfl)
theorem dX1_exactSets_12 : decode cX1_exactSets 12 = .ok (.aload_n 0, 1) := dk_42 (dk_at dksX1_exactSets_0 12 rfl rfl)
theorem dX1_exactSets_13 : decode cX1_exactSets 13 = .ok (.invokevirtual 282, 3) := dk_182 1 26 (dk_at dksX1_exactSets_0 13 rfl rfl)
theorem dX1_exactSets_16 : decode cX1_exactSets 16 = .ok (.astore_n 3, 1) := dk_78 (dk_at dksX1_exactSets_0 16 rfl rfl)
theorem dX1_exactSets_17 : decode cX1_exactSets 17 = .ok (.iconst 0, 1) := dk_3 (dk_at dksX1_exactSets_0 17 rfl rfl)
theorem dX1_exactSets_18 : decode cX1_exactSets 18 = .ok (.istore 4, 2) := dk_54 4 (dk_at dksX1_exactSets_0 18 rfl rfl)
theorem dX1_exactSets_20 : decode cX1_exactSets 20 = .ok (.iconst 0, 1) := dk_3 (dk_at dksX1_exactSets_0 20 rfl rfl)
theorem dX1_exactSets_21 : decode cX1_exactSets 21 = .ok (.istore 5, 2) := dk_54 5 (dk_at dksX1_exactSets_0 21 rfl rfl)
theorem dX1_exactSets_23 : decode cX1_exactSets 23 = .ok (.iload 5, 2) := dk_21 5 (dk_at dksX1_exactSets_1 0 rfl rfl)
theorem dX1_exactSets_25 : decode cX1_exactSets 25 = .ok (.iconst 1, 1) := dk_4 (dk_at dksX1_exactSets_1 2 rfl rfl)
theorem dX1_exactSets_26 : decode cX1_exactSets 26 = .ok (.aload_n 3, 1) := dk_45 (dk_at dksX1_exactSets_1 3 rfl rfl)
theorem dX1_exactSets_27 : decode cX1_exactSets 27 = .ok (.arraylength, 1) := dk_190 (dk_at dksX1_exactSets_1 4 rfl rfl)
theorem dX1_exactSets_28 : decode cX1_exactSets 28 = .ok (.ishl, 1) := dk_120 (dk_at dksX1_exactSets_1 5 rfl rfl)
theorem dX1_exactSets_29 : decode cX1_exactSets 29 = .ok (.if_icmp .ge 34, 3) := dk_162 0 34 (dk_at dksX1_exactSets_1 6 rfl rfl)
theorem dX1_exactSets_32 : decode cX1_exactSets 32 = .ok (.iload 4, 2) := dk_21 4 (dk_at dksX1_exactSets_1 9 rfl rfl)
theorem dX1_exactSets_34 : decode cX1_exactSets 34 = .ok (.aload_n 2, 1) := dk_44 (dk_at dksX1_exactSets_1 11 rfl rfl)
theorem dX1_exactSets_35 : decode cX1_exactSets 35 = .ok (.aload_n 3, 1) := dk_45 (dk_at dksX1_exactSets_1 12 rfl rfl)
theorem dX1_exactSets_36 : decode cX1_exactSets 36 = .ok (.iload 5, 2) := dk_21 5 (dk_at dksX1_exactSets_1 13 rfl rfl)
theorem dX1_exactSets_38 : decode cX1_exactSets 38 = .ok (.invokestatic 289, 3) := dk_184 1 33 (dk_at dksX1_exactSets_1 15 rfl rfl)
theorem dX1_exactSets_41 : decode cX1_exactSets 41 = .ok (.invokeinterface 293 2, 5) := by decide +kernel
theorem dX1_exactSets_46 : decode cX1_exactSets 46 = .ok (.ifCond .eq 7, 3) := dk_153 0 7 (dk_at dksX1_exactSets_2 0 rfl rfl)
theorem dX1_exactSets_49 : decode cX1_exactSets 49 = .ok (.iconst 1, 1) := dk_4 (dk_at dksX1_exactSets_2 3 rfl rfl)
theorem dX1_exactSets_50 : decode cX1_exactSets 50 = .ok (.goto 4, 3) := dk_167 0 4 (dk_at dksX1_exactSets_2 4 rfl rfl)
theorem dX1_exactSets_53 : decode cX1_exactSets 53 = .ok (.iconst 0, 1) := dk_3 (dk_at dksX1_exactSets_2 7 rfl rfl)
theorem dX1_exactSets_54 : decode cX1_exactSets 54 = .ok (.iadd, 1) := dk_96 (dk_at dksX1_exactSets_2 8 rfl rfl)
theorem dX1_exactSets_55 : decode cX1_exactSets 55 = .ok (.istore 4, 2) := dk_54 4 (dk_at dksX1_exactSets_2 9 rfl rfl)
theorem dX1_exactSets_57 : decode cX1_exactSets 57 = .ok (.iinc 5 1, 3) := dk_132 5 1 (dk_at dksX1_exactSets_2 11 rfl rfl)
theorem dX1_exactSets_60 : decode cX1_exactSets 60 = .ok (.goto (-37), 3) := dk_167 255 219 (dk_at dksX1_exactSets_2 14 rfl rfl)
theorem dX1_exactSets_63 : decode cX1_exactSets 63 = .ok (.iload 4, 2) := dk_21 4 (dk_at dksX1_exactSets_2 17 rfl rfl)
theorem dX1_exactSets_65 : decode cX1_exactSets 65 = .ok (.ireturn, 1) := dk_172 (dk_at dksX1_exactSets_2 19 rfl rfl)
abbrev cX1_lambda_exactSets_9 : ByteArray := prog_1_method_72_code
def yX1_lambda_exactSets_9 : MethodName := ⟨RX1, "lambda$exactSets$9", "(II)Z"⟩
def dkwX1_lambda_exactSets_9_0 : List UInt8 := [27, 26, 160, 0, 7, 4, 167, 0, 4, 3, 172]
abbrev dktX1_lambda_exactSets_9_0 : List UInt8 := dkwX1_lambda_exactSets_9_0 ++ []
theorem dksX1_lambda_exactSets_9_0 : cX1_lambda_exactSets_9.data.toList.drop 0 = dktX1_lambda_exactSets_9_0 := by decide +kernel
theorem dX1_lambda_exactSets_9_0 : decode cX1_lambda_exactSets_9 0 = .ok (.iload_n 1, 1) := dk_27 (dk_at dksX1_lambda_exactSets_9_0 0 rfl rfl)
theorem dX1_lambda_exactSets_9_1 : decode cX1_lambda_exactSets_9 1 = .ok (.iload_n 0, 1) := dk_26 (dk_at dksX1_lambda_exactSets_9_0 1 rfl rfl)
theorem dX1_lambda_exactSets_9_2 : decode cX1_lambda_exactSets_9 2 = .ok (.if_icmp .ne 7, 3) := dk_160 0 7 (dk_at dksX1_lambda_exactSets_9_0 2 rfl rfl)
theorem dX1_lambda_exactSets_9_5 : decode cX1_lambda_exactSets_9 5 = .ok (.iconst 1, 1) := dk_4 (dk_at dksX1_lambda_exactSets_9_0 5 rfl rfl)
theorem dX1_lambda_exactSets_9_6 : decode cX1_lambda_exactSets_9 6 = .ok (.goto 4, 3) := dk_167 0 4 (dk_at dksX1_lambda_exactSets_9_0 6 rfl rfl)
theorem dX1_lambda_exactSets_9_9 : decode cX1_lambda_exactSets_9 9 = .ok (.iconst 0, 1) := dk_3 (dk_at dksX1_lambda_exactSets_9_0 9 rfl rfl)
theorem dX1_lambda_exactSets_9_10 : decode cX1_lambda_exactSets_9 10 = .ok (.ireturn, 1) := dk_172 (dk_at dksX1_lambda_exactSets_9_0 10 rfl rfl)
abbrev cX1_meanAmplitude : ByteArray := prog_1_method_59_code
def yX1_meanAmplitude : MethodName := ⟨RX1, "meanAmplitude", "()D"⟩
def dkwX1_meanAmplitude_3 : List UInt8 := [183, 1, 51, 191, 27, 135, 28, 135, 111, 175]
abbrev dktX1_meanAmplitude_3 : List UInt8 := dkwX1_meanAmplitude_3 ++ []
def dkwX1_meanAmplitude_2 : List UInt8 := [158, 0, 7, 4, 167, 0, 4, 3, 96, 61, 132, 3, 1, 167, 255, 202, 28, 154, 0, 11, 187, 1, 49, 89]
abbrev dktX1_meanAmplitude_2 : List UInt8 := dkwX1_meanAmplitude_2 ++ dktX1_meanAmplitude_3
def dkwX1_meanAmplitude_1 : List UInt8 := [180, 0, 103, 29, 182, 0, 181, 192, 0, 115, 182, 0, 128, 54, 4, 27, 21, 4, 96, 60, 28, 21, 4]
abbrev dktX1_meanAmplitude_1 : List UInt8 := dkwX1_meanAmplitude_1 ++ dktX1_meanAmplitude_2
def dkwX1_meanAmplitude_0 : List UInt8 := [3, 60, 3, 61, 3, 62, 29, 42, 180, 0, 43, 180, 0, 103, 182, 0, 107, 162, 0, 46, 42, 180, 0, 43]
abbrev dktX1_meanAmplitude_0 : List UInt8 := dkwX1_meanAmplitude_0 ++ dktX1_meanAmplitude_1
theorem dksX1_meanAmplitude_0 : cX1_meanAmplitude.data.toList.drop 0 = dktX1_meanAmplitude_0 := by decide +kernel
theorem dksX1_meanAmplitude_1 : cX1_meanAmplitude.data.toList.drop 24 = dktX1_meanAmplitude_1 := dk_seg dksX1_meanAmplitude_0 24 rfl rfl
theorem dksX1_meanAmplitude_2 : cX1_meanAmplitude.data.toList.drop 47 = dktX1_meanAmplitude_2 := dk_seg dksX1_meanAmplitude_1 23 rfl rfl
theorem dksX1_meanAmplitude_3 : cX1_meanAmplitude.data.toList.drop 71 = dktX1_meanAmplitude_3 := dk_seg dksX1_meanAmplitude_2 24 rfl rfl
theorem dX1_meanAmplitude_0 : decode cX1_meanAmplitude 0 = .ok (.iconst 0, 1) := dk_3 (dk_at dksX1_meanAmplitude_0 0 rfl rfl)
theorem dX1_meanAmplitude_1 : decode cX1_meanAmplitude 1 = .ok (.istore_n 1, 1) := dk_60 (dk_at dksX1_meanAmplitude_0 1 rfl rfl)
theorem dX1_meanAmplitude_2 : decode cX1_meanAmplitude 2 = .ok (.iconst 0, 1) := dk_3 (dk_at dksX1_meanAmplitude_0 2 rfl rfl)
theorem dX1_meanAmplitude_3 : decode cX1_meanAmplitude 3 = .ok (.istore_n 2, 1) := dk_61 (dk_at dksX1_meanAmplitude_0 3 rfl rfl)
theorem dX1_meanAmplitude_4 : decode cX1_meanAmplitude 4 = .ok (.iconst 0, 1) := dk_3 (dk_at dksX1_meanAmplitude_0 4 rfl rfl)
theorem dX1_meanAmplitude_5 : decode cX1_meanAmplitude 5 = .ok (.istore_n 3, 1) := dk_62 (dk_at dksX1_meanAmplitude_0 5 rfl rfl)
theorem dX1_meanAmplitude_6 : decode cX1_meanAmplitude 6 = .ok (.iload_n 3, 1) := dk_29 (dk_at dksX1_meanAmplitude_0 6 rfl rfl)
theorem dX1_meanAmplitude_7 : decode cX1_meanAmplitude 7 = .ok (.aload_n 0, 1) := dk_42 (dk_at dksX1_meanAmplitude_0 7 rfl rfl)
theorem dX1_meanAmplitude_8 : decode cX1_meanAmplitude 8 = .ok (.getfield 43, 3) := dk_180 0 43 (dk_at dksX1_meanAmplitude_0 8 rfl rfl)
theorem dX1_meanAmplitude_11 : decode cX1_meanAmplitude 11 = .ok (.getfield 103, 3) := dk_180 0 103 (dk_at dksX1_meanAmplitude_0 11 rfl rfl)
theorem dX1_meanAmplitude_14 : decode cX1_meanAmplitude 14 = .ok (.invokevirtual 107, 3) := dk_182 0 107 (dk_at dksX1_meanAmplitude_0 14 rfl rfl)
theorem dX1_meanAmplitude_17 : decode cX1_meanAmplitude 17 = .ok (.if_icmp .ge 46, 3) := dk_162 0 46 (dk_at dksX1_meanAmplitude_0 17 rfl rfl)
theorem dX1_meanAmplitude_20 : decode cX1_meanAmplitude 20 = .ok (.aload_n 0, 1) := dk_42 (dk_at dksX1_meanAmplitude_0 20 rfl rfl)
theorem dX1_meanAmplitude_21 : decode cX1_meanAmplitude 21 = .ok (.getfield 43, 3) := dk_180 0 43 (dk_at dksX1_meanAmplitude_0 21 rfl rfl)
theorem dX1_meanAmplitude_24 : decode cX1_meanAmplitude 24 = .ok (.getfield 103, 3) := dk_180 0 103 (dk_at dksX1_meanAmplitude_1 0 rfl rfl)
theorem dX1_meanAmplitude_27 : decode cX1_meanAmplitude 27 = .ok (.iload_n 3, 1) := dk_29 (dk_at dksX1_meanAmplitude_1 3 rfl rfl)
theorem dX1_meanAmplitude_28 : decode cX1_meanAmplitude 28 = .ok (.invokevirtual 181, 3) := dk_182 0 181 (dk_at dksX1_meanAmplitude_1 4 rfl rfl)
theorem dX1_meanAmplitude_31 : decode cX1_meanAmplitude 31 = .ok (.checkcast 115, 3) := dk_192 0 115 (dk_at dksX1_meanAmplitude_1 7 rfl rfl)
theorem dX1_meanAmplitude_34 : decode cX1_meanAmplitude 34 = .ok (.invokevirtual 128, 3) := dk_182 0 128 (dk_at dksX1_meanAmplitude_1 10 rfl rfl)
theorem dX1_meanAmplitude_37 : decode cX1_meanAmplitude 37 = .ok (.istore 4, 2) := dk_54 4 (dk_at dksX1_meanAmplitude_1 13 rfl rfl)
theorem dX1_meanAmplitude_39 : decode cX1_meanAmplitude 39 = .ok (.iload_n 1, 1) := dk_27 (dk_at dksX1_meanAmplitude_1 15 rfl rfl)
theorem dX1_meanAmplitude_40 : decode cX1_meanAmplitude 40 = .ok (.iload 4, 2) := dk_21 4 (dk_at dksX1_meanAmplitude_1 16 rfl rfl)
theorem dX1_meanAmplitude_42 : decode cX1_meanAmplitude 42 = .ok (.iadd, 1) := dk_96 (dk_at dksX1_meanAmplitude_1 18 rfl rfl)
theorem dX1_meanAmplitude_43 : decode cX1_meanAmplitude 43 = .ok (.istore_n 1, 1) := dk_60 (dk_at dksX1_meanAmplitude_1 19 rfl rfl)
theorem dX1_meanAmplitude_44 : decode cX1_meanAmplitude 44 = .ok (.iload_n 2, 1) := dk_28 (dk_at dksX1_meanAmplitude_1 20 rfl rfl)
theorem dX1_meanAmplitude_45 : decode cX1_meanAmplitude 45 = .ok (.iload 4, 2) := dk_21 4 (dk_at dksX1_meanAmplitude_1 21 rfl rfl)
theorem dX1_meanAmplitude_47 : decode cX1_meanAmplitude 47 = .ok (.ifCond .le 7, 3) := dk_158 0 7 (dk_at dksX1_meanAmplitude_2 0 rfl rfl)
theorem dX1_meanAmplitude_50 : decode cX1_meanAmplitude 50 = .ok (.iconst 1, 1) := dk_4 (dk_at dksX1_meanAmplitude_2 3 rfl rfl)
theorem dX1_meanAmplitude_51 : decode cX1_meanAmplitude 51 = .ok (.goto 4, 3) := dk_167 0 4 (dk_at dksX1_meanAmplitude_2 4 rfl rfl)
theorem dX1_meanAmplitude_54 : decode cX1_meanAmplitude 54 = .ok (.iconst 0, 1) := dk_3 (dk_at dksX1_meanAmplitude_2 7 rfl rfl)
theorem dX1_meanAmplitude_55 : decode cX1_meanAmplitude 55 = .ok (.iadd, 1) := dk_96 (dk_at dksX1_meanAmplitude_2 8 rfl rfl)
theorem dX1_meanAmplitude_56 : decode cX1_meanAmplitude 56 = .ok (.istore_n 2, 1) := dk_61 (dk_at dksX1_meanAmplitude_2 9 rfl rfl)
theorem dX1_meanAmplitude_57 : decode cX1_meanAmplitude 57 = .ok (.iinc 3 1, 3) := dk_132 3 1 (dk_at dksX1_meanAmplitude_2 10 rfl rfl)
theorem dX1_meanAmplitude_60 : decode cX1_meanAmplitude 60 = .ok (.goto (-54), 3) := dk_167 255 202 (dk_at dksX1_meanAmplitude_2 13 rfl rfl)
theorem dX1_meanAmplitude_63 : decode cX1_meanAmplitude 63 = .ok (.iload_n 2, 1) := dk_28 (dk_at dksX1_meanAmplitude_2 16 rfl rfl)
theorem dX1_meanAmplitude_64 : decode cX1_meanAmplitude 64 = .ok (.ifCond .ne 11, 3) := dk_154 0 11 (dk_at dksX1_meanAmplitude_2 17 rfl rfl)
theorem dX1_meanAmplitude_67 : decode cX1_meanAmplitude 67 = .ok (.new 305, 3) := dk_187 1 49 (dk_at dksX1_meanAmplitude_2 20 rfl rfl)
theorem dX1_meanAmplitude_70 : decode cX1_meanAmplitude 70 = .ok (.dup, 1) := dk_89 (dk_at dksX1_meanAmplitude_2 23 rfl rfl)
theorem dX1_meanAmplitude_71 : decode cX1_meanAmplitude 71 = .ok (.invokespecial 307, 3) := dk_183 1 51 (dk_at dksX1_meanAmplitude_3 0 rfl rfl)
theorem dX1_meanAmplitude_74 : decode cX1_meanAmplitude 74 = .ok (.athrow, 1) := dk_191 (dk_at dksX1_meanAmplitude_3 3 rfl rfl)
theorem dX1_meanAmplitude_75 : decode cX1_meanAmplitude 75 = .ok (.iload_n 1, 1) := dk_27 (dk_at dksX1_meanAmplitude_3 4 rfl rfl)
theorem dX1_meanAmplitude_76 : decode cX1_meanAmplitude 76 = .ok (.i2d, 1) := dk_135 (dk_at dksX1_meanAmplitude_3 5 rfl rfl)
theorem dX1_meanAmplitude_77 : decode cX1_meanAmplitude 77 = .ok (.iload_n 2, 1) := dk_28 (dk_at dksX1_meanAmplitude_3 6 rfl rfl)
theorem dX1_meanAmplitude_78 : decode cX1_meanAmplitude 78 = .ok (.i2d, 1) := dk_135 (dk_at dksX1_meanAmplitude_3 7 rfl rfl)
theorem dX1_meanAmplitude_79 : decode cX1_meanAmplitude 79 = .ok (.ddiv, 1) := dk_111 (dk_at dksX1_meanAmplitude_3 8 rfl rfl)
theorem dX1_meanAmplitude_80 : decode cX1_meanAmplitude 80 = .ok (.dreturn, 1) := dk_175 (dk_at dksX1_meanAmplitude_3 9 rfl rfl)
abbrev cX1_writeCard : ByteArray := prog_1_method_60_code
def yX1_writeCard : MethodName := ⟨RX1, "writeCard", "(I)I"⟩
def dkwX1_writeCard_5 : List UInt8 := [87, 42, 45, 182, 1, 75, 181, 0, 72, 42, 180, 0, 72, 182, 1, 79, 172]
abbrev dktX1_writeCard_5 : List UInt8 := dkwX1_writeCard_5 ++ []
def dkwX1_writeCard_4 : List UInt8 := [87, 42, 180, 0, 43, 180, 0, 174, 42, 27, 182, 1, 72, 46, 27, 160, 0, 10, 45, 16, 42, 182, 1, 56]
abbrev dktX1_writeCard_4 : List UInt8 := dkwX1_writeCard_4 ++ dktX1_writeCard_5
def dkwX1_writeCard_3 : List UInt8 := [16, 64, 182, 1, 56, 25, 4, 180, 0, 143, 182, 1, 52, 87, 167, 0, 11, 45, 19, 1, 70, 182, 1, 61]
abbrev dktX1_writeCard_3 : List UInt8 := dkwX1_writeCard_3 ++ dktX1_writeCard_4
def dkwX1_writeCard_2 : List UInt8 := [25, 5, 193, 0, 144, 153, 0, 36, 25, 5, 192, 0, 144, 58, 4, 45, 25, 4, 180, 1, 68, 182, 1, 52]
abbrev dktX1_writeCard_2 : List UInt8 := dkwX1_writeCard_2 ++ dktX1_writeCard_3
def dkwX1_writeCard_1 : List UInt8 := [182, 1, 56, 44, 180, 0, 114, 182, 1, 52, 19, 1, 59, 182, 1, 61, 87, 44, 180, 1, 64, 58, 5]
abbrev dktX1_writeCard_1 : List UInt8 := dkwX1_writeCard_1 ++ dktX1_writeCard_2
def dkwX1_writeCard_0 : List UInt8 := [42, 180, 0, 43, 27, 182, 0, 110, 77, 187, 0, 76, 89, 183, 0, 78, 78, 45, 27, 182, 1, 52, 16, 58]
abbrev dktX1_writeCard_0 : List UInt8 := dkwX1_writeCard_0 ++ dktX1_writeCard_1
theorem dksX1_writeCard_0 : cX1_writeCard.data.toList.drop 0 = dktX1_writeCard_0 := by decide +kernel
theorem dksX1_writeCard_1 : cX1_writeCard.data.toList.drop 24 = dktX1_writeCard_1 := dk_seg dksX1_writeCard_0 24 rfl rfl
theorem dksX1_writeCard_2 : cX1_writeCard.data.toList.drop 47 = dktX1_writeCard_2 := dk_seg dksX1_writeCard_1 23 rfl rfl
theorem dksX1_writeCard_3 : cX1_writeCard.data.toList.drop 71 = dktX1_writeCard_3 := dk_seg dksX1_writeCard_2 24 rfl rfl
theorem dksX1_writeCard_4 : cX1_writeCard.data.toList.drop 95 = dktX1_writeCard_4 := dk_seg dksX1_writeCard_3 24 rfl rfl
theorem dksX1_writeCard_5 : cX1_writeCard.data.toList.drop 119 = dktX1_writeCard_5 := dk_seg dksX1_writeCard_4 24 rfl rfl
theorem dX1_writeCard_0 : decode cX1_writeCard 0 = .ok (.aload_n 0, 1) := dk_42 (dk_at dksX1_writeCard_0 0 rfl rfl)
theorem dX1_writeCard_1 : decode cX1_writeCard 1 = .ok (.getfield 43, 3) := dk_180 0 43 (dk_at dksX1_writeCard_0 1 rfl rfl)
theorem dX1_writeCard_4 : decode cX1_writeCard 4 = .ok (.iload_n 1, 1) := dk_27 (dk_at dksX1_writeCard_0 4 rfl rfl)
theorem dX1_writeCard_5 : decode cX1_writeCard 5 = .ok (.invokevirtual 110, 3) := dk_182 0 110 (dk_at dksX1_writeCard_0 5 rfl rfl)
theorem dX1_writeCard_8 : decode cX1_writeCard 8 = .ok (.astore_n 2, 1) := dk_77 (dk_at dksX1_writeCard_0 8 rfl rfl)
theorem dX1_writeCard_9 : decode cX1_writeCard 9 = .ok (.new 76, 3) := dk_187 0 76 (dk_at dksX1_writeCard_0 9 rfl rfl)
theorem dX1_writeCard_12 : decode cX1_writeCard 12 = .ok (.dup, 1) := dk_89 (dk_at dksX1_writeCard_0 12 rfl rfl)
theorem dX1_writeCard_13 : decode cX1_writeCard 13 = .ok (.invokespecial 78, 3) := dk_183 0 78 (dk_at dksX1_writeCard_0 13 rfl rfl)
theorem dX1_writeCard_16 : decode cX1_writeCard 16 = .ok (.astore_n 3, 1) := dk_78 (dk_at dksX1_writeCard_0 16 rfl rfl)
theorem dX1_writeCard_17 : decode cX1_writeCard 17 = .ok (.aload_n 3, 1) := dk_45 (dk_at dksX1_writeCard_0 17 rfl rfl)
theorem dX1_writeCard_18 : decode cX1_writeCard 18 = .ok (.iload_n 1, 1) := dk_27 (dk_at dksX1_writeCard_0 18 rfl rfl)
theorem dX1_writeCard_19 : decode cX1_writeCard 19 = .ok (.invokevirtual 308, 3) := dk_182 1 52 (dk_at dksX1_writeCard_0 19 rfl rfl)
theorem dX1_writeCard_22 : decode cX1_writeCard 22 = .ok (.bipush 58, 2) := dk_16 58 (dk_at dksX1_writeCard_0 22 rfl rfl)
theorem dX1_writeCard_24 : decode cX1_writeCard 24 = .ok (.invokevirtual 312, 3) := dk_182 1 56 (dk_at dksX1_writeCard_1 0 rfl rfl)
theorem dX1_writeCard_27 : decode cX1_writeCard 27 = .ok (.aload_n 2, 1) := dk_44 (dk_at dksX1_writeCard_1 3 rfl rfl)
theorem dX1_writeCard_28 : decode cX1_writeCard 28 = .ok (.getfield 114, 3) := dk_180 0 114 (dk_at dksX1_writeCard_1 4 rfl rfl)
theorem dX1_writeCard_31 : decode cX1_writeCard 31 = .ok (.invokevirtual 308, 3) := dk_182 1 52 (dk_at dksX1_writeCard_1 7 rfl rfl)
theorem dX1_writeCard_34 : decode cX1_writeCard 34 = .ok (.ldc_w 315, 3) := dk_19 1 59 (dk_at dksX1_writeCard_1 10 rfl rfl)
theorem dX1_writeCard_37 : decode cX1_writeCard 37 = .ok (.invokevirtual 317, 3) := dk_182 1 61 (dk_at dksX1_writeCard_1 13 rfl rfl)
theorem dX1_writeCard_40 : decode cX1_writeCard 40 = .ok (.pop, 1) := dk_87 (dk_at dksX1_writeCard_1 16 rfl rfl)
theorem dX1_writeCard_41 : decode cX1_writeCard 41 = .ok (.aload_n 2, 1) := dk_44 (dk_at dksX1_writeCard_1 17 rfl rfl)
theorem dX1_writeCard_42 : decode cX1_writeCard 42 = .ok (.getfield 320, 3) := dk_180 1 64 (dk_at dksX1_writeCard_1 18 rfl rfl)
theorem dX1_writeCard_45 : decode cX1_writeCard 45 = .ok (.astore 5, 2) := dk_58 5 (dk_at dksX1_writeCard_1 21 rfl rfl)
theorem dX1_writeCard_47 : decode cX1_writeCard 47 = .ok (.aload 5, 2) := dk_25 5 (dk_at dksX1_writeCard_2 0 rfl rfl)
theorem dX1_writeCard_49 : decode cX1_writeCard 49 = .ok (.instanceof 144, 3) := dk_193 0 144 (dk_at dksX1_writeCard_2 2 rfl rfl)
theorem dX1_writeCard_52 : decode cX1_writeCard 52 = .ok (.ifCond .eq 36, 3) := dk_153 0 36 (dk_at dksX1_writeCard_2 5 rfl rfl)
theorem dX1_writeCard_55 : decode cX1_writeCard 55 = .ok (.aload 5, 2) := dk_25 5 (dk_at dksX1_writeCard_2 8 rfl rfl)
theorem dX1_writeCard_57 : decode cX1_writeCard 57 = .ok (.checkcast 144, 3) := dk_192 0 144 (dk_at dksX1_writeCard_2 10 rfl rfl)
theorem dX1_writeCard_60 : decode cX1_writeCard 60 = .ok (.astore 4, 2) := dk_58 4 (dk_at dksX1_writeCard_2 13 rfl rfl)
theorem dX1_writeCard_62 : decode cX1_writeCard 62 = .ok (.aload_n 3, 1) := dk_45 (dk_at dksX1_writeCard_2 15 rfl rfl)
theorem dX1_writeCard_63 : decode cX1_writeCard 63 = .ok (.aload 4, 2) := dk_25 4 (dk_at dksX1_writeCard_2 16 rfl rfl)
theorem dX1_writeCard_65 : decode cX1_writeCard 65 = .ok (.getfield 324, 3) := dk_180 1 68 (dk_at dksX1_writeCard_2 18 rfl rfl)
theorem dX1_writeCard_68 : decode cX1_writeCard 68 = .ok (.invokevirtual 308, 3) := dk_182 1 52 (dk_at dksX1_writeCard_2 21 rfl rfl)
theorem dX1_writeCard_71 : decode cX1_writeCard 71 = .ok (.bipush 64, 2) := dk_16 64 (dk_at dksX1_writeCard_3 0 rfl rfl)
theorem dX1_writeCard_73 : decode cX1_writeCard 73 = .ok (.invokevirtual 312, 3) := dk_182 1 56 (dk_at dksX1_writeCard_3 2 rfl rfl)
theorem dX1_writeCard_76 : decode cX1_writeCard 76 = .ok (.aload 4, 2) := dk_25 4 (dk_at dksX1_writeCard_3 5 rfl rfl)
theorem dX1_writeCard_78 : decode cX1_writeCard 78 = .ok (.getfield 143, 3) := dk_180 0 143 (dk_at dksX1_writeCard_3 7 rfl rfl)
theorem dX1_writeCard_81 : decode cX1_writeCard 81 = .ok (.invokevirtual 308, 3) := dk_182 1 52 (dk_at dksX1_writeCard_3 10 rfl rfl)
theorem dX1_writeCard_84 : decode cX1_writeCard 84 = .ok (.pop, 1) := dk_87 (dk_at dksX1_writeCard_3 13 rfl rfl)
theorem dX1_writeCard_85 : decode cX1_writeCard 85 = .ok (.goto 11, 3) := dk_167 0 11 (dk_at dksX1_writeCard_3 14 rfl rfl)
theorem dX1_writeCard_88 : decode cX1_writeCard 88 = .ok (.aload_n 3, 1) := dk_45 (dk_at dksX1_writeCard_3 17 rfl rfl)
theorem dX1_writeCard_89 : decode cX1_writeCard 89 = .ok (.ldc_w 326, 3) := dk_19 1 70 (dk_at dksX1_writeCard_3 18 rfl rfl)
theorem dX1_writeCard_92 : decode cX1_writeCard 92 = .ok (.invokevirtual 317, 3) := dk_182 1 61 (dk_at dksX1_writeCard_3 21 rfl rfl)
theorem dX1_writeCard_95 : decode cX1_writeCard 95 = .ok (.pop, 1) := dk_87 (dk_at dksX1_writeCard_4 0 rfl rfl)
theorem dX1_writeCard_96 : decode cX1_writeCard 96 = .ok (.aload_n 0, 1) := dk_42 (dk_at dksX1_writeCard_4 1 rfl rfl)
theorem dX1_writeCard_97 : decode cX1_writeCard 97 = .ok (.getfield 43, 3) := dk_180 0 43 (dk_at dksX1_writeCard_4 2 rfl rfl)
theorem dX1_writeCard_100 : decode cX1_writeCard 100 = .ok (.getfield 174, 3) := dk_180 0 174 (dk_at dksX1_writeCard_4 5 rfl rfl)
theorem dX1_writeCard_103 : decode cX1_writeCard 103 = .ok (.aload_n 0, 1) := dk_42 (dk_at dksX1_writeCard_4 8 rfl rfl)
theorem dX1_writeCard_104 : decode cX1_writeCard 104 = .ok (.iload_n 1, 1) := dk_27 (dk_at dksX1_writeCard_4 9 rfl rfl)
theorem dX1_writeCard_105 : decode cX1_writeCard 105 = .ok (.invokevirtual 328, 3) := dk_182 1 72 (dk_at dksX1_writeCard_4 10 rfl rfl)
theorem dX1_writeCard_108 : decode cX1_writeCard 108 = .ok (.iaload, 1) := dk_46 (dk_at dksX1_writeCard_4 13 rfl rfl)
theorem dX1_writeCard_109 : decode cX1_writeCard 109 = .ok (.iload_n 1, 1) := dk_27 (dk_at dksX1_writeCard_4 14 rfl rfl)
theorem dX1_writeCard_110 : decode cX1_writeCard 110 = .ok (.if_icmp .ne 10, 3) := dk_160 0 10 (dk_at dksX1_writeCard_4 15 rfl rfl)
theorem dX1_writeCard_113 : decode cX1_writeCard 113 = .ok (.aload_n 3, 1) := dk_45 (dk_at dksX1_writeCard_4 18 rfl rfl)
theorem dX1_writeCard_114 : decode cX1_writeCard 114 = .ok (.bipush 42, 2) := dk_16 42 (dk_at dksX1_writeCard_4 19 rfl rfl)
theorem dX1_writeCard_116 : decode cX1_writeCard 116 = .ok (.invokevirtual 312, 3) := dk_182 1 56 (dk_at dksX1_writeCard_4 21 rfl rfl)
theorem dX1_writeCard_119 : decode cX1_writeCard 119 = .ok (.pop, 1) := dk_87 (dk_at dksX1_writeCard_5 0 rfl rfl)
theorem dX1_writeCard_120 : decode cX1_writeCard 120 = .ok (.aload_n 0, 1) := dk_42 (dk_at dksX1_writeCard_5 1 rfl rfl)
theorem dX1_writeCard_121 : decode cX1_writeCard 121 = .ok (.aload_n 3, 1) := dk_45 (dk_at dksX1_writeCard_5 2 rfl rfl)
theorem dX1_writeCard_122 : decode cX1_writeCard 122 = .ok (.invokevirtual 331, 3) := dk_182 1 75 (dk_at dksX1_writeCard_5 3 rfl rfl)
theorem dX1_writeCard_125 : decode cX1_writeCard 125 = .ok (.putfield 72, 3) := dk_181 0 72 (dk_at dksX1_writeCard_5 6 rfl rfl)
theorem dX1_writeCard_128 : decode cX1_writeCard 128 = .ok (.aload_n 0, 1) := dk_42 (dk_at dksX1_writeCard_5 9 rfl rfl)
theorem dX1_writeCard_129 : decode cX1_writeCard 129 = .ok (.getfield 72, 3) := dk_180 0 72 (dk_at dksX1_writeCard_5 10 rfl rfl)
theorem dX1_writeCard_132 : decode cX1_writeCard 132 = .ok (.invokevirtual 335, 3) := dk_182 1 79 (dk_at dksX1_writeCard_5 13 rfl rfl)
theorem dX1_writeCard_135 : decode cX1_writeCard 135 = .ok (.ireturn, 1) := dk_172 (dk_at dksX1_writeCard_5 16 rfl rfl)
abbrev cX1_cardAt : ByteArray := prog_1_method_61_code
def yX1_cardAt : MethodName := ⟨RX1, "cardAt", "(I)C"⟩
def dkwX1_cardAt_1 : List UInt8 := [182, 1, 83, 172]
abbrev dktX1_cardAt_1 : List UInt8 := dkwX1_cardAt_1 ++ []
def dkwX1_cardAt_0 : List UInt8 := [27, 3, 42, 180, 0, 72, 182, 1, 79, 4, 100, 184, 0, 163, 184, 0, 227, 42, 180, 0, 72, 27]
abbrev dktX1_cardAt_0 : List UInt8 := dkwX1_cardAt_0 ++ dktX1_cardAt_1
theorem dksX1_cardAt_0 : cX1_cardAt.data.toList.drop 0 = dktX1_cardAt_0 := by decide +kernel
theorem dksX1_cardAt_1 : cX1_cardAt.data.toList.drop 22 = dktX1_cardAt_1 := dk_seg dksX1_cardAt_0 22 rfl rfl
theorem dX1_cardAt_0 : decode cX1_cardAt 0 = .ok (.iload_n 1, 1) := dk_27 (dk_at dksX1_cardAt_0 0 rfl rfl)
theorem dX1_cardAt_1 : decode cX1_cardAt 1 = .ok (.iconst 0, 1) := dk_3 (dk_at dksX1_cardAt_0 1 rfl rfl)
theorem dX1_cardAt_2 : decode cX1_cardAt 2 = .ok (.aload_n 0, 1) := dk_42 (dk_at dksX1_cardAt_0 2 rfl rfl)
theorem dX1_cardAt_3 : decode cX1_cardAt 3 = .ok (.getfield 72, 3) := dk_180 0 72 (dk_at dksX1_cardAt_0 3 rfl rfl)
theorem dX1_cardAt_6 : decode cX1_cardAt 6 = .ok (.invokevirtual 335, 3) := dk_182 1 79 (dk_at dksX1_cardAt_0 6 rfl rfl)
theorem dX1_cardAt_9 : decode cX1_cardAt 9 = .ok (.iconst 1, 1) := dk_4 (dk_at dksX1_cardAt_0 9 rfl rfl)
theorem dX1_cardAt_10 : decode cX1_cardAt 10 = .ok (.isub, 1) := dk_100 (dk_at dksX1_cardAt_0 10 rfl rfl)
theorem dX1_cardAt_11 : decode cX1_cardAt 11 = .ok (.invokestatic 163, 3) := dk_184 0 163 (dk_at dksX1_cardAt_0 11 rfl rfl)
theorem dX1_cardAt_14 : decode cX1_cardAt 14 = .ok (.invokestatic 227, 3) := dk_184 0 227 (dk_at dksX1_cardAt_0 14 rfl rfl)
theorem dX1_cardAt_17 : decode cX1_cardAt 17 = .ok (.aload_n 0, 1) := dk_42 (dk_at dksX1_cardAt_0 17 rfl rfl)
theorem dX1_cardAt_18 : decode cX1_cardAt 18 = .ok (.getfield 72, 3) := dk_180 0 72 (dk_at dksX1_cardAt_0 18 rfl rfl)
theorem dX1_cardAt_21 : decode cX1_cardAt 21 = .ok (.iload_n 1, 1) := dk_27 (dk_at dksX1_cardAt_0 21 rfl rfl)
theorem dX1_cardAt_22 : decode cX1_cardAt 22 = .ok (.invokevirtual 339, 3) := dk_182 1 83 (dk_at dksX1_cardAt_1 0 rfl rfl)
theorem dX1_cardAt_25 : decode cX1_cardAt 25 = .ok (.ireturn, 1) := dk_172 (dk_at dksX1_cardAt_1 3 rfl rfl)
abbrev cX1_type : ByteArray := prog_1_method_62_code
def yX1_type : MethodName := ⟨RX1, "type", "(C)I"⟩
def dkwX1_type_1 : List UInt8 := [167, 0, 4, 3, 184, 0, 205, 42, 180, 0, 79, 27, 182, 1, 56, 87, 42, 180, 0, 79, 182, 1, 87, 172]
abbrev dktX1_type_1 : List UInt8 := dkwX1_type_1 ++ []
def dkwX1_type_0 : List UInt8 := [27, 16, 32, 16, 126, 184, 0, 163, 184, 0, 167, 42, 180, 0, 79, 182, 1, 87, 16, 60, 162, 0, 7, 4]
abbrev dktX1_type_0 : List UInt8 := dkwX1_type_0 ++ dktX1_type_1
theorem dksX1_type_0 : cX1_type.data.toList.drop 0 = dktX1_type_0 := by decide +kernel
theorem dksX1_type_1 : cX1_type.data.toList.drop 24 = dktX1_type_1 := dk_seg dksX1_type_0 24 rfl rfl
theorem dX1_type_0 : decode cX1_type 0 = .ok (.iload_n 1, 1) := dk_27 (dk_at dksX1_type_0 0 rfl rfl)
theorem dX1_type_1 : decode cX1_type 1 = .ok (.bipush 32, 2) := dk_16 32 (dk_at dksX1_type_0 1 rfl rfl)
theorem dX1_type_3 : decode cX1_type 3 = .ok (.bipush 126, 2) := dk_16 126 (dk_at dksX1_type_0 3 rfl rfl)
theorem dX1_type_5 : decode cX1_type 5 = .ok (.invokestatic 163, 3) := dk_184 0 163 (dk_at dksX1_type_0 5 rfl rfl)
theorem dX1_type_8 : decode cX1_type 8 = .ok (.invokestatic 167, 3) := dk_184 0 167 (dk_at dksX1_type_0 8 rfl rfl)
theorem dX1_type_11 : decode cX1_type 11 = .ok (.aload_n 0, 1) := dk_42 (dk_at dksX1_type_0 11 rfl rfl)
theorem dX1_type_12 : decode cX1_type 12 = .ok (.getfield 79, 3) := dk_180 0 79 (dk_at dksX1_type_0 12 rfl rfl)
theorem dX1_type_15 : decode cX1_type 15 = .ok (.invokevirtual 343, 3) := dk_182 1 87 (dk_at dksX1_type_0 15 rfl rfl)
theorem dX1_type_18 : decode cX1_type 18 = .ok (.bipush 60, 2) := dk_16 60 (dk_at dksX1_type_0 18 rfl rfl)
theorem dX1_type_20 : decode cX1_type 20 = .ok (.if_icmp .ge 7, 3) := dk_162 0 7 (dk_at dksX1_type_0 20 rfl rfl)
theorem dX1_type_23 : decode cX1_type 23 = .ok (.iconst 1, 1) := dk_4 (dk_at dksX1_type_0 23 rfl rfl)
theorem dX1_type_24 : decode cX1_type 24 = .ok (.goto 4, 3) := dk_167 0 4 (dk_at dksX1_type_1 0 rfl rfl)
theorem dX1_type_27 : decode cX1_type 27 = .ok (.iconst 0, 1) := dk_3 (dk_at dksX1_type_1 3 rfl rfl)
theorem dX1_type_28 : decode cX1_type 28 = .ok (.invokestatic 205, 3) := dk_184 0 205 (dk_at dksX1_type_1 4 rfl rfl)
theorem dX1_type_31 : decode cX1_type 31 = .ok (.aload_n 0, 1) := dk_42 (dk_at dksX1_type_1 7 rfl rfl)
theorem dX1_type_32 : decode cX1_type 32 = .ok (.getfield 79, 3) := dk_180 0 79 (dk_at dksX1_type_1 8 rfl rfl)
theorem dX1_type_35 : decode cX1_type 35 = .ok (.iload_n 1, 1) := dk_27 (dk_at dksX1_type_1 11 rfl rfl)
theorem dX1_type_36 : decode cX1_type 36 = .ok (.invokevirtual 312, 3) := dk_182 1 56 (dk_at dksX1_type_1 12 rfl rfl)
theorem dX1_type_39 : decode cX1_type 39 = .ok (.pop, 1) := dk_87 (dk_at dksX1_type_1 15 rfl rfl)
theorem dX1_type_40 : decode cX1_type 40 = .ok (.aload_n 0, 1) := dk_42 (dk_at dksX1_type_1 16 rfl rfl)
theorem dX1_type_41 : decode cX1_type 41 = .ok (.getfield 79, 3) := dk_180 0 79 (dk_at dksX1_type_1 17 rfl rfl)
theorem dX1_type_44 : decode cX1_type 44 = .ok (.invokevirtual 343, 3) := dk_182 1 87 (dk_at dksX1_type_1 20 rfl rfl)
theorem dX1_type_47 : decode cX1_type 47 = .ok (.ireturn, 1) := dk_172 (dk_at dksX1_type_1 23 rfl rfl)
abbrev cX1_execute : ByteArray := prog_1_method_65_code
def yX1_execute : MethodName := ⟨RX1, "execute", "()I"⟩
def dkwX1_execute_2 : List UInt8 := [181, 0, 83, 187, 0, 7, 89, 183, 0, 9, 191]
abbrev dktX1_execute_2 : List UInt8 := dkwX1_execute_2 ++ []
def dkwX1_execute_1 : List UInt8 := [182, 1, 100, 77, 42, 42, 44, 186, 1, 104, 0, 0, 182, 0, 93, 172, 77, 42, 44, 180, 1, 109]
abbrev dktX1_execute_1 : List UInt8 := dkwX1_execute_1 ++ dktX1_execute_2
def dkwX1_execute_0 : List UInt8 := [42, 180, 0, 79, 182, 1, 75, 76, 42, 180, 0, 79, 3, 182, 1, 92, 187, 1, 95, 89, 43, 183, 1, 97]
abbrev dktX1_execute_0 : List UInt8 := dkwX1_execute_0 ++ dktX1_execute_1
theorem dksX1_execute_0 : cX1_execute.data.toList.drop 0 = dktX1_execute_0 := by decide +kernel
theorem dksX1_execute_1 : cX1_execute.data.toList.drop 24 = dktX1_execute_1 := dk_seg dksX1_execute_0 24 rfl rfl
theorem dksX1_execute_2 : cX1_execute.data.toList.drop 46 = dktX1_execute_2 := dk_seg dksX1_execute_1 22 rfl rfl
theorem dX1_execute_0 : decode cX1_execute 0 = .ok (.aload_n 0, 1) := dk_42 (dk_at dksX1_execute_0 0 rfl rfl)
theorem dX1_execute_1 : decode cX1_execute 1 = .ok (.getfield 79, 3) := dk_180 0 79 (dk_at dksX1_execute_0 1 rfl rfl)
theorem dX1_execute_4 : decode cX1_execute 4 = .ok (.invokevirtual 331, 3) := dk_182 1 75 (dk_at dksX1_execute_0 4 rfl rfl)
theorem dX1_execute_7 : decode cX1_execute 7 = .ok (.astore_n 1, 1) := dk_76 (dk_at dksX1_execute_0 7 rfl rfl)
theorem dX1_execute_8 : decode cX1_execute 8 = .ok (.aload_n 0, 1) := dk_42 (dk_at dksX1_execute_0 8 rfl rfl)
theorem dX1_execute_9 : decode cX1_execute 9 = .ok (.getfield 79, 3) := dk_180 0 79 (dk_at dksX1_execute_0 9 rfl rfl)
theorem dX1_execute_12 : decode cX1_execute 12 = .ok (.iconst 0, 1) := dk_3 (dk_at dksX1_execute_0 12 rfl rfl)
theorem dX1_execute_13 : decode cX1_execute 13 = .ok (.invokevirtual 348, 3) := dk_182 1 92 (dk_at dksX1_execute_0 13 rfl rfl)
theorem dX1_execute_16 : decode cX1_execute 16 = .ok (.new 351, 3) := dk_187 1 95 (dk_at dksX1_execute_0 16 rfl rfl)
theorem dX1_execute_19 : decode cX1_execute 19 = .ok (.dup, 1) := dk_89 (dk_at dksX1_execute_0 19 rfl rfl)
theorem dX1_execute_20 : decode cX1_execute 20 = .ok (.aload_n 1, 1) := dk_43 (dk_at dksX1_execute_0 20 rfl rfl)
theorem dX1_execute_21 : decode cX1_execute 21 = .ok (.invokespecial 353, 3) := dk_183 1 97 (dk_at dksX1_execute_0 21 rfl rfl)
theorem dX1_execute_24 : decode cX1_execute 24 = .ok (.invokevirtual 356, 3) := dk_182 1 100 (dk_at dksX1_execute_1 0 rfl rfl)
theorem dX1_execute_27 : decode cX1_execute 27 = .ok (.astore_n 2, 1) := dk_77 (dk_at dksX1_execute_1 3 rfl rfl)
theorem dX1_execute_28 : decode cX1_execute 28 = .ok (.aload_n 0, 1) := dk_42 (dk_at dksX1_execute_1 4 rfl rfl)
theorem dX1_execute_29 : decode cX1_execute 29 = .ok (.aload_n 0, 1) := dk_42 (dk_at dksX1_execute_1 5 rfl rfl)
theorem dX1_execute_30 : decode cX1_execute 30 = .ok (.aload_n 2, 1) := dk_44 (dk_at dksX1_execute_1 6 rfl rfl)
theorem dX1_execute_31 : decode cX1_execute 31 = .ok (.invokedynamic 360, 5) := by decide +kernel
theorem dX1_execute_36 : decode cX1_execute 36 = .ok (.invokevirtual 93, 3) := dk_182 0 93 (dk_at dksX1_execute_1 12 rfl rfl)
theorem dX1_execute_39 : decode cX1_execute 39 = .ok (.ireturn, 1) := dk_172 (dk_at dksX1_execute_1 15 rfl rfl)
theorem dX1_execute_40 : decode cX1_execute 40 = .ok (.astore_n 2, 1) := dk_77 (dk_at dksX1_execute_1 16 rfl rfl)
theorem dX1_execute_41 : decode cX1_execute 41 = .ok (.aload_n 0, 1) := dk_42 (dk_at dksX1_execute_1 17 rfl rfl)
theorem dX1_execute_42 : decode cX1_execute 42 = .ok (.aload_n 2, 1) := dk_44 (dk_at dksX1_execute_1 18 rfl rfl)
theorem dX1_execute_43 : decode cX1_execute 43 = .ok (.getfield 365, 3) := dk_180 1 109 (dk_at dksX1_execute_1 19 rfl rfl)
theorem dX1_execute_46 : decode cX1_execute 46 = .ok (.putfield 83, 3) := dk_181 0 83 (dk_at dksX1_execute_2 0 rfl rfl)
theorem dX1_execute_49 : decode cX1_execute 49 = .ok (.new 7, 3) := dk_187 0 7 (dk_at dksX1_execute_2 3 rfl rfl)
theorem dX1_execute_52 : decode cX1_execute 52 = .ok (.dup, 1) := dk_89 (dk_at dksX1_execute_2 6 rfl rfl)
theorem dX1_execute_53 : decode cX1_execute 53 = .ok (.invokespecial 9, 3) := dk_183 0 9 (dk_at dksX1_execute_2 7 rfl rfl)
theorem dX1_execute_56 : decode cX1_execute 56 = .ok (.athrow, 1) := dk_191 (dk_at dksX1_execute_2 10 rfl rfl)
abbrev cX1_lambda_execute_10 : ByteArray := prog_1_method_71_code
def yX1_lambda_execute_10 : MethodName := ⟨RX1, "lambda$execute$10", "(Ljava/util/ArrayList;LPendulumGym$Gym;)I"⟩
def dkwX1_lambda_execute_10_0 : List UInt8 := [42, 43, 44, 182, 1, 125, 172]
abbrev dktX1_lambda_execute_10_0 : List UInt8 := dkwX1_lambda_execute_10_0 ++ []
theorem dksX1_lambda_execute_10_0 : cX1_lambda_execute_10.data.toList.drop 0 = dktX1_lambda_execute_10_0 := by decide +kernel
theorem dX1_lambda_execute_10_0 : decode cX1_lambda_execute_10 0 = .ok (.aload_n 0, 1) := dk_42 (dk_at dksX1_lambda_execute_10_0 0 rfl rfl)
theorem dX1_lambda_execute_10_1 : decode cX1_lambda_execute_10 1 = .ok (.aload_n 1, 1) := dk_43 (dk_at dksX1_lambda_execute_10_0 1 rfl rfl)
theorem dX1_lambda_execute_10_2 : decode cX1_lambda_execute_10 2 = .ok (.aload_n 2, 1) := dk_44 (dk_at dksX1_lambda_execute_10_0 2 rfl rfl)
theorem dX1_lambda_execute_10_3 : decode cX1_lambda_execute_10 3 = .ok (.invokevirtual 381, 3) := dk_182 1 125 (dk_at dksX1_lambda_execute_10_0 3 rfl rfl)
theorem dX1_lambda_execute_10_6 : decode cX1_lambda_execute_10 6 = .ok (.ireturn, 1) := dk_172 (dk_at dksX1_lambda_execute_10_0 6 rfl rfl)
abbrev cX1_applyAll : ByteArray := prog_1_method_64_code
def yX1_applyAll : MethodName := ⟨RX1, "applyAll", "(Ljava/util/ArrayList;LPendulumGym$Gym;)I"⟩
def dkwX1_applyAll_2 : List UInt8 := [167, 255, 214, 43, 182, 0, 107, 172]
abbrev dktX1_applyAll_2 : List UInt8 := dkwX1_applyAll_2 ++ []
def dkwX1_applyAll_1 : List UInt8 := [153, 0, 6, 167, 0, 16, 42, 29, 181, 0, 87, 187, 0, 10, 89, 183, 0, 12, 191, 132, 3, 1]
abbrev dktX1_applyAll_1 : List UInt8 := dkwX1_applyAll_1 ++ dktX1_applyAll_2
def dkwX1_applyAll_0 : List UInt8 := [3, 62, 29, 43, 182, 0, 107, 162, 0, 40, 43, 29, 182, 0, 181, 192, 0, 56, 44, 184, 1, 88]
abbrev dktX1_applyAll_0 : List UInt8 := dkwX1_applyAll_0 ++ dktX1_applyAll_1
theorem dksX1_applyAll_0 : cX1_applyAll.data.toList.drop 0 = dktX1_applyAll_0 := by decide +kernel
theorem dksX1_applyAll_1 : cX1_applyAll.data.toList.drop 22 = dktX1_applyAll_1 := dk_seg dksX1_applyAll_0 22 rfl rfl
theorem dksX1_applyAll_2 : cX1_applyAll.data.toList.drop 44 = dktX1_applyAll_2 := dk_seg dksX1_applyAll_1 22 rfl rfl
theorem dX1_applyAll_0 : decode cX1_applyAll 0 = .ok (.iconst 0, 1) := dk_3 (dk_at dksX1_applyAll_0 0 rfl rfl)
theorem dX1_applyAll_1 : decode cX1_applyAll 1 = .ok (.istore_n 3, 1) := dk_62 (dk_at dksX1_applyAll_0 1 rfl rfl)
theorem dX1_applyAll_2 : decode cX1_applyAll 2 = .ok (.iload_n 3, 1) := dk_29 (dk_at dksX1_applyAll_0 2 rfl rfl)
theorem dX1_applyAll_3 : decode cX1_applyAll 3 = .ok (.aload_n 1, 1) := dk_43 (dk_at dksX1_applyAll_0 3 rfl rfl)
theorem dX1_applyAll_4 : decode cX1_applyAll 4 = .ok (.invokevirtual 107, 3) := dk_182 0 107 (dk_at dksX1_applyAll_0 4 rfl rfl)
theorem dX1_applyAll_7 : decode cX1_applyAll 7 = .ok (.if_icmp .ge 40, 3) := dk_162 0 40 (dk_at dksX1_applyAll_0 7 rfl rfl)
theorem dX1_applyAll_10 : decode cX1_applyAll 10 = .ok (.aload_n 1, 1) := dk_43 (dk_at dksX1_applyAll_0 10 rfl rfl)
theorem dX1_applyAll_11 : decode cX1_applyAll 11 = .ok (.iload_n 3, 1) := dk_29 (dk_at dksX1_applyAll_0 11 rfl rfl)
theorem dX1_applyAll_12 : decode cX1_applyAll 12 = .ok (.invokevirtual 181, 3) := dk_182 0 181 (dk_at dksX1_applyAll_0 12 rfl rfl)
theorem dX1_applyAll_15 : decode cX1_applyAll 15 = .ok (.checkcast 56, 3) := dk_192 0 56 (dk_at dksX1_applyAll_0 15 rfl rfl)
theorem dX1_applyAll_18 : decode cX1_applyAll 18 = .ok (.aload_n 2, 1) := dk_44 (dk_at dksX1_applyAll_0 18 rfl rfl)
theorem dX1_applyAll_19 : decode cX1_applyAll 19 = .ok (.invokestatic 344, 3) := dk_184 1 88 (dk_at dksX1_applyAll_0 19 rfl rfl)
theorem dX1_applyAll_22 : decode cX1_applyAll 22 = .ok (.ifCond .eq 6, 3) := dk_153 0 6 (dk_at dksX1_applyAll_1 0 rfl rfl)
theorem dX1_applyAll_25 : decode cX1_applyAll 25 = .ok (.goto 16, 3) := dk_167 0 16 (dk_at dksX1_applyAll_1 3 rfl rfl)
theorem dX1_applyAll_28 : decode cX1_applyAll 28 = .ok (.aload_n 0, 1) := dk_42 (dk_at dksX1_applyAll_1 6 rfl rfl)
theorem dX1_applyAll_29 : decode cX1_applyAll 29 = .ok (.iload_n 3, 1) := dk_29 (dk_at dksX1_applyAll_1 7 rfl rfl)
theorem dX1_applyAll_30 : decode cX1_applyAll 30 = .ok (.putfield 87, 3) := dk_181 0 87 (dk_at dksX1_applyAll_1 8 rfl rfl)
theorem dX1_applyAll_33 : decode cX1_applyAll 33 = .ok (.new 10, 3) := dk_187 0 10 (dk_at dksX1_applyAll_1 11 rfl rfl)
theorem dX1_applyAll_36 : decode cX1_applyAll 36 = .ok (.dup, 1) := dk_89 (dk_at dksX1_applyAll_1 14 rfl rfl)
theorem dX1_applyAll_37 : decode cX1_applyAll 37 = .ok (.invokespecial 12, 3) := dk_183 0 12 (dk_at dksX1_applyAll_1 15 rfl rfl)
theorem dX1_applyAll_40 : decode cX1_applyAll 40 = .ok (.athrow, 1) := dk_191 (dk_at dksX1_applyAll_1 18 rfl rfl)
theorem dX1_applyAll_41 : decode cX1_applyAll 41 = .ok (.iinc 3 1, 3) := dk_132 3 1 (dk_at dksX1_applyAll_1 19 rfl rfl)
theorem dX1_applyAll_44 : decode cX1_applyAll 44 = .ok (.goto (-42), 3) := dk_167 255 214 (dk_at dksX1_applyAll_2 0 rfl rfl)
theorem dX1_applyAll_47 : decode cX1_applyAll 47 = .ok (.aload_n 1, 1) := dk_43 (dk_at dksX1_applyAll_2 3 rfl rfl)
theorem dX1_applyAll_48 : decode cX1_applyAll 48 = .ok (.invokevirtual 107, 3) := dk_182 0 107 (dk_at dksX1_applyAll_2 4 rfl rfl)
theorem dX1_applyAll_51 : decode cX1_applyAll 51 = .ok (.ireturn, 1) := dk_172 (dk_at dksX1_applyAll_2 7 rfl rfl)
abbrev cX1_applies : ByteArray := prog_1_method_63_code
def yX1_applies : MethodName := ⟨RX1, "applies", "(LPendulumGym$Modification;LPendulumGym$Gym;)Z"⟩
def dkwX1_applies_0 : List UInt8 := [42, 43, 185, 0, 55, 2, 0, 61, 4, 172, 77, 3, 172]
abbrev dktX1_applies_0 : List UInt8 := dkwX1_applies_0 ++ []
theorem dksX1_applies_0 : cX1_applies.data.toList.drop 0 = dktX1_applies_0 := by decide +kernel
theorem dX1_applies_0 : decode cX1_applies 0 = .ok (.aload_n 0, 1) := dk_42 (dk_at dksX1_applies_0 0 rfl rfl)
theorem dX1_applies_1 : decode cX1_applies 1 = .ok (.aload_n 1, 1) := dk_43 (dk_at dksX1_applies_0 1 rfl rfl)
theorem dX1_applies_2 : decode cX1_applies 2 = .ok (.invokeinterface 55 2, 5) := by decide +kernel
theorem dX1_applies_7 : decode cX1_applies 7 = .ok (.istore_n 2, 1) := dk_61 (dk_at dksX1_applies_0 7 rfl rfl)
theorem dX1_applies_8 : decode cX1_applies 8 = .ok (.iconst 1, 1) := dk_4 (dk_at dksX1_applies_0 8 rfl rfl)
theorem dX1_applies_9 : decode cX1_applies 9 = .ok (.ireturn, 1) := dk_172 (dk_at dksX1_applies_0 9 rfl rfl)
theorem dX1_applies_10 : decode cX1_applies 10 = .ok (.astore_n 2, 1) := dk_77 (dk_at dksX1_applies_0 10 rfl rfl)
theorem dX1_applies_11 : decode cX1_applies 11 = .ok (.iconst 0, 1) := dk_3 (dk_at dksX1_applies_0 11 rfl rfl)
theorem dX1_applies_12 : decode cX1_applies 12 = .ok (.ireturn, 1) := dk_172 (dk_at dksX1_applies_0 12 rfl rfl)
abbrev cX1_errorPosition : ByteArray := prog_1_method_66_code
def yX1_errorPosition : MethodName := ⟨RX1, "errorPosition", "()I"⟩
def dkwX1_errorPosition_0 : List UInt8 := [42, 180, 0, 83, 2, 159, 0, 7, 4, 167, 0, 4, 3, 184, 0, 139, 42, 180, 0, 83, 172]
abbrev dktX1_errorPosition_0 : List UInt8 := dkwX1_errorPosition_0 ++ []
theorem dksX1_errorPosition_0 : cX1_errorPosition.data.toList.drop 0 = dktX1_errorPosition_0 := by decide +kernel
theorem dX1_errorPosition_0 : decode cX1_errorPosition 0 = .ok (.aload_n 0, 1) := dk_42 (dk_at dksX1_errorPosition_0 0 rfl rfl)
theorem dX1_errorPosition_1 : decode cX1_errorPosition 1 = .ok (.getfield 83, 3) := dk_180 0 83 (dk_at dksX1_errorPosition_0 1 rfl rfl)
theorem dX1_errorPosition_4 : decode cX1_errorPosition 4 = .ok (.iconst (-1), 1) := dk_2 (dk_at dksX1_errorPosition_0 4 rfl rfl)
theorem dX1_errorPosition_5 : decode cX1_errorPosition 5 = .ok (.if_icmp .eq 7, 3) := dk_159 0 7 (dk_at dksX1_errorPosition_0 5 rfl rfl)
theorem dX1_errorPosition_8 : decode cX1_errorPosition 8 = .ok (.iconst 1, 1) := dk_4 (dk_at dksX1_errorPosition_0 8 rfl rfl)
theorem dX1_errorPosition_9 : decode cX1_errorPosition 9 = .ok (.goto 4, 3) := dk_167 0 4 (dk_at dksX1_errorPosition_0 9 rfl rfl)
theorem dX1_errorPosition_12 : decode cX1_errorPosition 12 = .ok (.iconst 0, 1) := dk_3 (dk_at dksX1_errorPosition_0 12 rfl rfl)
theorem dX1_errorPosition_13 : decode cX1_errorPosition 13 = .ok (.invokestatic 139, 3) := dk_184 0 139 (dk_at dksX1_errorPosition_0 13 rfl rfl)
theorem dX1_errorPosition_16 : decode cX1_errorPosition 16 = .ok (.aload_n 0, 1) := dk_42 (dk_at dksX1_errorPosition_0 16 rfl rfl)
theorem dX1_errorPosition_17 : decode cX1_errorPosition 17 = .ok (.getfield 83, 3) := dk_180 0 83 (dk_at dksX1_errorPosition_0 17 rfl rfl)
theorem dX1_errorPosition_20 : decode cX1_errorPosition 20 = .ok (.ireturn, 1) := dk_172 (dk_at dksX1_errorPosition_0 20 rfl rfl)
abbrev cX1_failedCommand : ByteArray := prog_1_method_67_code
def yX1_failedCommand : MethodName := ⟨RX1, "failedCommand", "()I"⟩
def dkwX1_failedCommand_0 : List UInt8 := [42, 180, 0, 87, 2, 159, 0, 7, 4, 167, 0, 4, 3, 184, 0, 139, 42, 180, 0, 87, 172]
abbrev dktX1_failedCommand_0 : List UInt8 := dkwX1_failedCommand_0 ++ []
theorem dksX1_failedCommand_0 : cX1_failedCommand.data.toList.drop 0 = dktX1_failedCommand_0 := by decide +kernel
theorem dX1_failedCommand_0 : decode cX1_failedCommand 0 = .ok (.aload_n 0, 1) := dk_42 (dk_at dksX1_failedCommand_0 0 rfl rfl)
theorem dX1_failedCommand_1 : decode cX1_failedCommand 1 = .ok (.getfield 87, 3) := dk_180 0 87 (dk_at dksX1_failedCommand_0 1 rfl rfl)
theorem dX1_failedCommand_4 : decode cX1_failedCommand 4 = .ok (.iconst (-1), 1) := dk_2 (dk_at dksX1_failedCommand_0 4 rfl rfl)
theorem dX1_failedCommand_5 : decode cX1_failedCommand 5 = .ok (.if_icmp .eq 7, 3) := dk_159 0 7 (dk_at dksX1_failedCommand_0 5 rfl rfl)
theorem dX1_failedCommand_8 : decode cX1_failedCommand 8 = .ok (.iconst 1, 1) := dk_4 (dk_at dksX1_failedCommand_0 8 rfl rfl)
theorem dX1_failedCommand_9 : decode cX1_failedCommand 9 = .ok (.goto 4, 3) := dk_167 0 4 (dk_at dksX1_failedCommand_0 9 rfl rfl)
theorem dX1_failedCommand_12 : decode cX1_failedCommand 12 = .ok (.iconst 0, 1) := dk_3 (dk_at dksX1_failedCommand_0 12 rfl rfl)
theorem dX1_failedCommand_13 : decode cX1_failedCommand 13 = .ok (.invokestatic 139, 3) := dk_184 0 139 (dk_at dksX1_failedCommand_0 13 rfl rfl)
theorem dX1_failedCommand_16 : decode cX1_failedCommand 16 = .ok (.aload_n 0, 1) := dk_42 (dk_at dksX1_failedCommand_0 16 rfl rfl)
theorem dX1_failedCommand_17 : decode cX1_failedCommand 17 = .ok (.getfield 87, 3) := dk_180 0 87 (dk_at dksX1_failedCommand_0 17 rfl rfl)
theorem dX1_failedCommand_20 : decode cX1_failedCommand 20 = .ok (.ireturn, 1) := dk_172 (dk_at dksX1_failedCommand_0 20 rfl rfl)
abbrev cX1_undo : ByteArray := prog_1_method_68_code
def yX1_undo : MethodName := ⟨RX1, "undo", "()I"⟩
def dkwX1_undo_1 : List UInt8 := [182, 1, 116, 192, 0, 41, 181, 0, 43, 42, 180, 0, 27, 182, 0, 31, 172]
abbrev dktX1_undo_1 : List UInt8 := dkwX1_undo_1 ++ []
def dkwX1_undo_0 : List UInt8 := [42, 180, 0, 27, 182, 1, 112, 154, 0, 7, 4, 167, 0, 4, 3, 184, 0, 205, 42, 42, 180, 0, 27]
abbrev dktX1_undo_0 : List UInt8 := dkwX1_undo_0 ++ dktX1_undo_1
theorem dksX1_undo_0 : cX1_undo.data.toList.drop 0 = dktX1_undo_0 := by decide +kernel
theorem dksX1_undo_1 : cX1_undo.data.toList.drop 23 = dktX1_undo_1 := dk_seg dksX1_undo_0 23 rfl rfl
theorem dX1_undo_0 : decode cX1_undo 0 = .ok (.aload_n 0, 1) := dk_42 (dk_at dksX1_undo_0 0 rfl rfl)
theorem dX1_undo_1 : decode cX1_undo 1 = .ok (.getfield 27, 3) := dk_180 0 27 (dk_at dksX1_undo_0 1 rfl rfl)
theorem dX1_undo_4 : decode cX1_undo 4 = .ok (.invokevirtual 368, 3) := dk_182 1 112 (dk_at dksX1_undo_0 4 rfl rfl)
theorem dX1_undo_7 : decode cX1_undo 7 = .ok (.ifCond .ne 7, 3) := dk_154 0 7 (dk_at dksX1_undo_0 7 rfl rfl)
theorem dX1_undo_10 : decode cX1_undo 10 = .ok (.iconst 1, 1) := dk_4 (dk_at dksX1_undo_0 10 rfl rfl)
theorem dX1_undo_11 : decode cX1_undo 11 = .ok (.goto 4, 3) := dk_167 0 4 (dk_at dksX1_undo_0 11 rfl rfl)
theorem dX1_undo_14 : decode cX1_undo 14 = .ok (.iconst 0, 1) := dk_3 (dk_at dksX1_undo_0 14 rfl rfl)
theorem dX1_undo_15 : decode cX1_undo 15 = .ok (.invokestatic 205, 3) := dk_184 0 205 (dk_at dksX1_undo_0 15 rfl rfl)
theorem dX1_undo_18 : decode cX1_undo 18 = .ok (.aload_n 0, 1) := dk_42 (dk_at dksX1_undo_0 18 rfl rfl)
theorem dX1_undo_19 : decode cX1_undo 19 = .ok (.aload_n 0, 1) := dk_42 (dk_at dksX1_undo_0 19 rfl rfl)
theorem dX1_undo_20 : decode cX1_undo 20 = .ok (.getfield 27, 3) := dk_180 0 27 (dk_at dksX1_undo_0 20 rfl rfl)
theorem dX1_undo_23 : decode cX1_undo 23 = .ok (.invokevirtual 372, 3) := dk_182 1 116 (dk_at dksX1_undo_1 0 rfl rfl)
theorem dX1_undo_26 : decode cX1_undo 26 = .ok (.checkcast 41, 3) := dk_192 0 41 (dk_at dksX1_undo_1 3 rfl rfl)
theorem dX1_undo_29 : decode cX1_undo 29 = .ok (.putfield 43, 3) := dk_181 0 43 (dk_at dksX1_undo_1 6 rfl rfl)
theorem dX1_undo_32 : decode cX1_undo 32 = .ok (.aload_n 0, 1) := dk_42 (dk_at dksX1_undo_1 9 rfl rfl)
theorem dX1_undo_33 : decode cX1_undo 33 = .ok (.getfield 27, 3) := dk_180 0 27 (dk_at dksX1_undo_1 10 rfl rfl)
theorem dX1_undo_36 : decode cX1_undo 36 = .ok (.invokevirtual 31, 3) := dk_182 0 31 (dk_at dksX1_undo_1 13 rfl rfl)
theorem dX1_undo_39 : decode cX1_undo 39 = .ok (.ireturn, 1) := dk_172 (dk_at dksX1_undo_1 16 rfl rfl)
abbrev cX1_restore : ByteArray := prog_1_method_70_code
def yX1_restore : MethodName := ⟨RX1, "restore", "()I"⟩
def dkwX1_restore_1 : List UInt8 := [181, 0, 43, 42, 180, 0, 27, 182, 1, 122, 42, 180, 0, 43, 180, 0, 157, 172]
abbrev dktX1_restore_1 : List UInt8 := dkwX1_restore_1 ++ []
def dkwX1_restore_0 : List UInt8 := [42, 180, 1, 119, 198, 0, 7, 4, 167, 0, 4, 3, 184, 0, 205, 42, 42, 180, 1, 119, 182, 0, 51]
abbrev dktX1_restore_0 : List UInt8 := dkwX1_restore_0 ++ dktX1_restore_1
theorem dksX1_restore_0 : cX1_restore.data.toList.drop 0 = dktX1_restore_0 := by decide +kernel
theorem dksX1_restore_1 : cX1_restore.data.toList.drop 23 = dktX1_restore_1 := dk_seg dksX1_restore_0 23 rfl rfl
theorem dX1_restore_0 : decode cX1_restore 0 = .ok (.aload_n 0, 1) := dk_42 (dk_at dksX1_restore_0 0 rfl rfl)
theorem dX1_restore_1 : decode cX1_restore 1 = .ok (.getfield 375, 3) := dk_180 1 119 (dk_at dksX1_restore_0 1 rfl rfl)
theorem dX1_restore_4 : decode cX1_restore 4 = .ok (.ifnull 7, 3) := dk_198 0 7 (dk_at dksX1_restore_0 4 rfl rfl)
theorem dX1_restore_7 : decode cX1_restore 7 = .ok (.iconst 1, 1) := dk_4 (dk_at dksX1_restore_0 7 rfl rfl)
theorem dX1_restore_8 : decode cX1_restore 8 = .ok (.goto 4, 3) := dk_167 0 4 (dk_at dksX1_restore_0 8 rfl rfl)
theorem dX1_restore_11 : decode cX1_restore 11 = .ok (.iconst 0, 1) := dk_3 (dk_at dksX1_restore_0 11 rfl rfl)
theorem dX1_restore_12 : decode cX1_restore 12 = .ok (.invokestatic 205, 3) := dk_184 0 205 (dk_at dksX1_restore_0 12 rfl rfl)
theorem dX1_restore_15 : decode cX1_restore 15 = .ok (.aload_n 0, 1) := dk_42 (dk_at dksX1_restore_0 15 rfl rfl)
theorem dX1_restore_16 : decode cX1_restore 16 = .ok (.aload_n 0, 1) := dk_42 (dk_at dksX1_restore_0 16 rfl rfl)
theorem dX1_restore_17 : decode cX1_restore 17 = .ok (.getfield 375, 3) := dk_180 1 119 (dk_at dksX1_restore_0 17 rfl rfl)
theorem dX1_restore_20 : decode cX1_restore 20 = .ok (.invokevirtual 51, 3) := dk_182 0 51 (dk_at dksX1_restore_0 20 rfl rfl)
theorem dX1_restore_23 : decode cX1_restore 23 = .ok (.putfield 43, 3) := dk_181 0 43 (dk_at dksX1_restore_1 0 rfl rfl)
theorem dX1_restore_26 : decode cX1_restore 26 = .ok (.aload_n 0, 1) := dk_42 (dk_at dksX1_restore_1 3 rfl rfl)
theorem dX1_restore_27 : decode cX1_restore 27 = .ok (.getfield 27, 3) := dk_180 0 27 (dk_at dksX1_restore_1 4 rfl rfl)
theorem dX1_restore_30 : decode cX1_restore 30 = .ok (.invokevirtual 378, 3) := dk_182 1 122 (dk_at dksX1_restore_1 7 rfl rfl)
theorem dX1_restore_33 : decode cX1_restore 33 = .ok (.aload_n 0, 1) := dk_42 (dk_at dksX1_restore_1 10 rfl rfl)
theorem dX1_restore_34 : decode cX1_restore 34 = .ok (.getfield 43, 3) := dk_180 0 43 (dk_at dksX1_restore_1 11 rfl rfl)
theorem dX1_restore_37 : decode cX1_restore 37 = .ok (.getfield 157, 3) := dk_180 0 157 (dk_at dksX1_restore_1 14 rfl rfl)
theorem dX1_restore_40 : decode cX1_restore 40 = .ok (.ireturn, 1) := dk_172 (dk_at dksX1_restore_1 17 rfl rfl)
theorem q68 : (Jvm.Cond.initialized "PendulumGym") ∈ lw_all := lw_g (lw_at lw_m1 1 rfl) rfl
theorem q109 : (Jvm.Cond.instantiable "PendulumGym" (7 : Nat)) ∈ lw_all := lw_g (lw_at lw_m1 42 rfl) rfl
theorem q111 : (Jvm.Cond.instanceMethod ({ cls := "PendulumGym", name := "<init>", desc := "()V" } : Jvm.MethodName)) ∈ lw_all := lw_g (lw_at lw_m1 44 rfl) rfl
theorem q112 : (Jvm.Cond.code ({ cls := "PendulumGym", name := "<init>", desc := "()V" } : Jvm.MethodName) prog_1_method_11_code (1 : Nat) (Option.none : Option Jvm.ClassFile.FieldType)) ∈ lw_all := lw_g (lw_at lw_m1 45 rfl) rfl
theorem q113 : (Jvm.Cond.methodLink "PendulumGym" (65 : Nat) ({ cls := "java/lang/Object", name := "<init>", desc := "()V" } : Jvm.MethodName)) ∈ lw_all := lw_g (lw_at lw_m1 46 rfl) rfl
theorem q116 : (Jvm.Cond.classLink "PendulumGym" (41 : Nat) "PendulumGym$Gym") ∈ lw_all := lw_g (lw_at lw_m1 49 rfl) rfl
theorem q118 : (Jvm.Cond.methodLink "PendulumGym" (68 : Nat) ({ cls := "PendulumGym$Gym", name := "<init>", desc := "()V" } : Jvm.MethodName)) ∈ lw_all := lw_g (lw_at lw_m1 51 rfl) rfl
theorem q149 : (Jvm.Cond.fieldLink "PendulumGym" (103 : Nat) "PendulumGym$Gym" "pendulums" "Ljava/util/ArrayList;") ∈ lw_all := lw_g (lw_at lw_m1 82 rfl) rfl
theorem q151 : (Jvm.Cond.fieldLink "PendulumGym" (224 : Nat) "PendulumGym$Gym" "legs" "Ljava/util/ArrayList;") ∈ lw_all := lw_g (lw_at lw_m1 84 rfl) rfl
theorem q153 : (Jvm.Cond.fieldLink "PendulumGym" (178 : Nat) "PendulumGym$Gym" "records" "[I") ∈ lw_all := lw_g (lw_at lw_m1 86 rfl) rfl
theorem q155 : (Jvm.Cond.fieldLink "PendulumGym" (174 : Nat) "PendulumGym$Gym" "holders" "[I") ∈ lw_all := lw_g (lw_at lw_m1 88 rfl) rfl
theorem q157 : (Jvm.Cond.fieldLink "PendulumGym" (157 : Nat) "PendulumGym$Gym" "clock" "I") ∈ lw_all := lw_g (lw_at lw_m1 90 rfl) rfl
theorem q159 : (Jvm.Cond.fieldLink "PendulumGym" (160 : Nat) "PendulumGym$Gym" "friction" "I") ∈ lw_all := lw_g (lw_at lw_m1 92 rfl) rfl
theorem q174 : (Jvm.Cond.classLink "PendulumGym" (32 : Nat) "java/util/ArrayDeque") ∈ lw_all := lw_g (lw_at lw_m1 107 rfl) rfl
theorem q176 : (Jvm.Cond.methodLink "PendulumGym" (69 : Nat) ({ cls := "java/util/ArrayDeque", name := "<init>", desc := "()V" } : Jvm.MethodName)) ∈ lw_all := lw_g (lw_at lw_m1 109 rfl) rfl
theorem q192 : (Jvm.Cond.stringRef "PendulumGym" (70 : Nat) "") ∈ lw_tbl := lw_at lw_m1 125 rfl
theorem q193 : (Jvm.Cond.classLink "PendulumGym" (76 : Nat) "java/lang/StringBuilder") ∈ lw_all := lw_g (lw_at lw_m1 126 rfl) rfl
theorem q195 : (Jvm.Cond.methodLink "PendulumGym" (78 : Nat) ({ cls := "java/lang/StringBuilder", name := "<init>", desc := "()V" } : Jvm.MethodName)) ∈ lw_all := lw_g (lw_at lw_m1 128 rfl) rfl
theorem q226 : (Jvm.Cond.fieldLink "PendulumGym" (43 : Nat) "PendulumGym" "gym" "LPendulumGym$Gym;") ∈ lw_all := lw_g (lw_at lw_m1 159 rfl) rfl
theorem q227 : (Jvm.Cond.fieldLink "PendulumGym" (375 : Nat) "PendulumGym" "snapshot" "LPendulumGym$Gym;") ∈ lw_all := lw_g (lw_at lw_m1 160 rfl) rfl
theorem q228 : (Jvm.Cond.fieldLink "PendulumGym" (27 : Nat) "PendulumGym" "history" "Ljava/util/ArrayDeque;") ∈ lw_all := lw_g (lw_at lw_m1 161 rfl) rfl
theorem q229 : (Jvm.Cond.fieldLink "PendulumGym" (72 : Nat) "PendulumGym" "card" "Ljava/lang/String;") ∈ lw_all := lw_g (lw_at lw_m1 162 rfl) rfl
theorem q230 : (Jvm.Cond.fieldLink "PendulumGym" (79 : Nat) "PendulumGym" "buffer" "Ljava/lang/StringBuilder;") ∈ lw_all := lw_g (lw_at lw_m1 163 rfl) rfl
theorem q231 : (Jvm.Cond.fieldLink "PendulumGym" (83 : Nat) "PendulumGym" "errorPosition" "I") ∈ lw_all := lw_g (lw_at lw_m1 164 rfl) rfl
theorem q232 : (Jvm.Cond.fieldLink "PendulumGym" (87 : Nat) "PendulumGym" "failedCommand" "I") ∈ lw_all := lw_g (lw_at lw_m1 165 rfl) rfl
theorem q233 : (Jvm.Cond.lays "PendulumGym" "PendulumGym" "gym" "LPendulumGym$Gym;") ∈ lw_all := lw_g (lw_at lw_m1 166 rfl) rfl
theorem q234 : (Jvm.Cond.soleField "PendulumGym" "gym") ∈ lw_all := lw_g (lw_at lw_m1 167 rfl) rfl
theorem q235 : (Jvm.Cond.lays "PendulumGym" "PendulumGym" "snapshot" "LPendulumGym$Gym;") ∈ lw_all := lw_g (lw_at lw_m1 168 rfl) rfl
theorem q236 : (Jvm.Cond.soleField "PendulumGym" "snapshot") ∈ lw_all := lw_g (lw_at lw_m1 169 rfl) rfl
theorem q237 : (Jvm.Cond.laysFinal "PendulumGym" "PendulumGym" "history" "Ljava/util/ArrayDeque;") ∈ lw_all := lw_g (lw_at lw_m1 170 rfl) rfl
theorem q238 : (Jvm.Cond.soleField "PendulumGym" "history") ∈ lw_all := lw_g (lw_at lw_m1 171 rfl) rfl
theorem q239 : (Jvm.Cond.lays "PendulumGym" "PendulumGym" "card" "Ljava/lang/String;") ∈ lw_all := lw_g (lw_at lw_m1 172 rfl) rfl
theorem q240 : (Jvm.Cond.soleField "PendulumGym" "card") ∈ lw_all := lw_g (lw_at lw_m1 173 rfl) rfl
theorem q241 : (Jvm.Cond.laysFinal "PendulumGym" "PendulumGym" "buffer" "Ljava/lang/StringBuilder;") ∈ lw_all := lw_g (lw_at lw_m1 174 rfl) rfl
theorem q242 : (Jvm.Cond.soleField "PendulumGym" "buffer") ∈ lw_all := lw_g (lw_at lw_m1 175 rfl) rfl
theorem q243 : (Jvm.Cond.lays "PendulumGym" "PendulumGym" "errorPosition" "I") ∈ lw_all := lw_g (lw_at lw_m1 176 rfl) rfl
theorem q244 : (Jvm.Cond.soleField "PendulumGym" "errorPosition") ∈ lw_all := lw_g (lw_at lw_m1 177 rfl) rfl
theorem q245 : (Jvm.Cond.lays "PendulumGym" "PendulumGym" "failedCommand" "I") ∈ lw_all := lw_g (lw_at lw_m1 178 rfl) rfl
theorem q246 : (Jvm.Cond.soleField "PendulumGym" "failedCommand") ∈ lw_all := lw_g (lw_at lw_m1 179 rfl) rfl
theorem q247 : (Jvm.Cond.superclass "PendulumGym" "java/lang/Object") ∈ lw_all := lw_g (lw_at lw_m1 180 rfl) rfl
theorem q249 : (Jvm.Cond.instanceMethod ({ cls := "PendulumGym", name := "pendulumCount", desc := "()I" } : Jvm.MethodName)) ∈ lw_all := lw_g (lw_at lw_m1 182 rfl) rfl
theorem q250 : (Jvm.Cond.selects "PendulumGym" ({ cls := "PendulumGym", name := "pendulumCount", desc := "()I" } : Jvm.MethodName) ({ cls := "PendulumGym", name := "pendulumCount", desc := "()I" } : Jvm.MethodName)) ∈ lw_all := lw_g (lw_at lw_m1 183 rfl) rfl
theorem q251 : (Jvm.Cond.code ({ cls := "PendulumGym", name := "pendulumCount", desc := "()I" } : Jvm.MethodName) prog_1_method_17_code (1 : Nat) (Option.some Jvm.ClassFile.FieldType.int)) ∈ lw_all := lw_g (lw_at lw_m1 184 rfl) rfl
theorem q252 : (Jvm.Cond.methodLink "PendulumGym" (107 : Nat) ({ cls := "java/util/ArrayList", name := "size", desc := "()I" } : Jvm.MethodName)) ∈ lw_all := lw_g (lw_at lw_m1 185 rfl) rfl
theorem q257 : (Jvm.Cond.instanceMethod ({ cls := "PendulumGym", name := "clock", desc := "()I" } : Jvm.MethodName)) ∈ lw_all := lw_g (lw_at lw_m1 190 rfl) rfl
theorem q258 : (Jvm.Cond.selects "PendulumGym" ({ cls := "PendulumGym", name := "clock", desc := "()I" } : Jvm.MethodName) ({ cls := "PendulumGym", name := "clock", desc := "()I" } : Jvm.MethodName)) ∈ lw_all := lw_g (lw_at lw_m1 191 rfl) rfl
theorem q259 : (Jvm.Cond.code ({ cls := "PendulumGym", name := "clock", desc := "()I" } : Jvm.MethodName) prog_1_method_26_code (1 : Nat) (Option.some Jvm.ClassFile.FieldType.int)) ∈ lw_all := lw_g (lw_at lw_m1 192 rfl) rfl
theorem q261 : (Jvm.Cond.instanceMethod ({ cls := "PendulumGym", name := "friction", desc := "()I" } : Jvm.MethodName)) ∈ lw_all := lw_g (lw_at lw_m1 194 rfl) rfl
theorem q262 : (Jvm.Cond.selects "PendulumGym" ({ cls := "PendulumGym", name := "friction", desc := "()I" } : Jvm.MethodName) ({ cls := "PendulumGym", name := "friction", desc := "()I" } : Jvm.MethodName)) ∈ lw_all := lw_g (lw_at lw_m1 195 rfl) rfl
theorem q263 : (Jvm.Cond.code ({ cls := "PendulumGym", name := "friction", desc := "()I" } : Jvm.MethodName) prog_1_method_27_code (1 : Nat) (Option.some Jvm.ClassFile.FieldType.int)) ∈ lw_all := lw_g (lw_at lw_m1 196 rfl) rfl
theorem q265 : (Jvm.Cond.instanceMethod ({ cls := "PendulumGym", name := "meetingPairs", desc := "()I" } : Jvm.MethodName)) ∈ lw_all := lw_g (lw_at lw_m1 198 rfl) rfl
theorem q266 : (Jvm.Cond.selects "PendulumGym" ({ cls := "PendulumGym", name := "meetingPairs", desc := "()I" } : Jvm.MethodName) ({ cls := "PendulumGym", name := "meetingPairs", desc := "()I" } : Jvm.MethodName)) ∈ lw_all := lw_g (lw_at lw_m1 199 rfl) rfl
theorem q267 : (Jvm.Cond.code ({ cls := "PendulumGym", name := "meetingPairs", desc := "()I" } : Jvm.MethodName) prog_1_method_40_code (6 : Nat) (Option.some Jvm.ClassFile.FieldType.int)) ∈ lw_all := lw_g (lw_at lw_m1 200 rfl) rfl
theorem q268 : (Jvm.Cond.methodLink "PendulumGym" (135 : Nat) ({ cls := "PendulumGym", name := "motionOf", desc := "(I)LPendulumGym$Swinging;" } : Jvm.MethodName)) ∈ lw_all := lw_g (lw_at lw_m1 201 rfl) rfl
theorem q269 : (Jvm.Cond.privateMethod ({ cls := "PendulumGym", name := "motionOf", desc := "(I)LPendulumGym$Swinging;" } : Jvm.MethodName)) ∈ lw_tbl := lw_at lw_m1 202 rfl
theorem q270 : (Jvm.Cond.instanceMethod ({ cls := "PendulumGym", name := "motionOf", desc := "(I)LPendulumGym$Swinging;" } : Jvm.MethodName)) ∈ lw_all := lw_g (lw_at lw_m1 203 rfl) rfl
theorem q271 : (Jvm.Cond.code ({ cls := "PendulumGym", name := "motionOf", desc := "(I)LPendulumGym$Swinging;" } : Jvm.MethodName) prog_1_method_21_code (2 : Nat) (Option.some (Jvm.ClassFile.FieldType.object "PendulumGym$Swinging"))) ∈ lw_all := lw_g (lw_at lw_m1 204 rfl) rfl
theorem q272 : (Jvm.Cond.methodLink "PendulumGym" (110 : Nat) ({ cls := "PendulumGym$Gym", name := "pendulum", desc := "(I)LPendulumGym$Pendulum;" } : Jvm.MethodName)) ∈ lw_all := lw_g (lw_at lw_m1 205 rfl) rfl
theorem q278 : (Jvm.Cond.static ({ cls := "PendulumGym", name := "isBetween", desc := "(III)Z" } : Jvm.MethodName)) ∈ lw_all := lw_g (lw_at lw_m1 211 rfl) rfl
theorem q279 : (Jvm.Cond.code ({ cls := "PendulumGym", name := "isBetween", desc := "(III)Z" } : Jvm.MethodName) prog_1_method_1_code (3 : Nat) (Option.some Jvm.ClassFile.FieldType.boolean)) ∈ lw_all := lw_g (lw_at lw_m1 212 rfl) rfl
theorem q281 : (Jvm.Cond.static ({ cls := "PendulumGym", name := "requireIndex", desc := "(Z)V" } : Jvm.MethodName)) ∈ lw_all := lw_g (lw_at lw_m1 214 rfl) rfl
theorem q282 : (Jvm.Cond.code ({ cls := "PendulumGym", name := "requireIndex", desc := "(Z)V" } : Jvm.MethodName) prog_1_method_2_code (1 : Nat) (Option.none : Option Jvm.ClassFile.FieldType)) ∈ lw_all := lw_g (lw_at lw_m1 215 rfl) rfl
theorem q283 : (Jvm.Cond.classLink "PendulumGym" (1 : Nat) "java/lang/IndexOutOfBoundsException") ∈ lw_all := lw_g (lw_at lw_m1 216 rfl) rfl
theorem q329 : (Jvm.Cond.methodLink "PendulumGym" (3 : Nat) ({ cls := "java/lang/IndexOutOfBoundsException", name := "<init>", desc := "()V" } : Jvm.MethodName)) ∈ lw_all := lw_g (lw_at lw_m2 22 rfl) rfl
theorem q367 : (Jvm.Cond.methodLink "PendulumGym" (131 : Nat) ({ cls := "PendulumGym$Gym", name := "swinging", desc := "(LPendulumGym$Pendulum;)LPendulumGym$Swinging;" } : Jvm.MethodName)) ∈ lw_all := lw_g (lw_at lw_m2 60 rfl) rfl
theorem q372 : (Jvm.Cond.methodLink "PendulumGym" (192 : Nat) ({ cls := "PendulumGym", name := "periodOf", desc := "(I)I" } : Jvm.MethodName)) ∈ lw_all := lw_g (lw_at lw_m2 65 rfl) rfl
theorem q373 : (Jvm.Cond.instanceMethod ({ cls := "PendulumGym", name := "periodOf", desc := "(I)I" } : Jvm.MethodName)) ∈ lw_all := lw_g (lw_at lw_m2 66 rfl) rfl
theorem q374 : (Jvm.Cond.selects "PendulumGym" ({ cls := "PendulumGym", name := "periodOf", desc := "(I)I" } : Jvm.MethodName) ({ cls := "PendulumGym", name := "periodOf", desc := "(I)I" } : Jvm.MethodName)) ∈ lw_all := lw_g (lw_at lw_m2 67 rfl) rfl
theorem q375 : (Jvm.Cond.code ({ cls := "PendulumGym", name := "periodOf", desc := "(I)I" } : Jvm.MethodName) prog_1_method_23_code (2 : Nat) (Option.some Jvm.ClassFile.FieldType.int)) ∈ lw_all := lw_g (lw_at lw_m2 68 rfl) rfl
theorem q376 : (Jvm.Cond.methodLink "PendulumGym" (148 : Nat) ({ cls := "PendulumGym$Pendulum", name := "period", desc := "()I" } : Jvm.MethodName)) ∈ lw_all := lw_g (lw_at lw_m2 69 rfl) rfl
theorem q380 : (Jvm.Cond.methodLink "PendulumGym" (212 : Nat) ({ cls := "PendulumGym", name := "doMeet", desc := "(LPendulumGym$Swinging;ILPendulumGym$Swinging;I)Z" } : Jvm.MethodName)) ∈ lw_all := lw_g (lw_at lw_m2 73 rfl) rfl
theorem q381 : (Jvm.Cond.privateMethod ({ cls := "PendulumGym", name := "doMeet", desc := "(LPendulumGym$Swinging;ILPendulumGym$Swinging;I)Z" } : Jvm.MethodName)) ∈ lw_tbl := lw_at lw_m2 74 rfl
theorem q382 : (Jvm.Cond.instanceMethod ({ cls := "PendulumGym", name := "doMeet", desc := "(LPendulumGym$Swinging;ILPendulumGym$Swinging;I)Z" } : Jvm.MethodName)) ∈ lw_all := lw_g (lw_at lw_m2 75 rfl) rfl
theorem q383 : (Jvm.Cond.code ({ cls := "PendulumGym", name := "doMeet", desc := "(LPendulumGym$Swinging;ILPendulumGym$Swinging;I)Z" } : Jvm.MethodName) prog_1_method_38_code (5 : Nat) (Option.some Jvm.ClassFile.FieldType.boolean)) ∈ lw_all := lw_g (lw_at lw_m2 76 rfl) rfl
theorem q384 : (Jvm.Cond.methodLink "PendulumGym" (16 : Nat) ({ cls := "PendulumGym", name := "commonDivisor", desc := "(II)I" } : Jvm.MethodName)) ∈ lw_all := lw_g (lw_at lw_m2 77 rfl) rfl
theorem q385 : (Jvm.Cond.static ({ cls := "PendulumGym", name := "commonDivisor", desc := "(II)I" } : Jvm.MethodName)) ∈ lw_all := lw_g (lw_at lw_m2 78 rfl) rfl
theorem q386 : (Jvm.Cond.code ({ cls := "PendulumGym", name := "commonDivisor", desc := "(II)I" } : Jvm.MethodName) prog_1_method_6_code (2 : Nat) (Option.some Jvm.ClassFile.FieldType.int)) ∈ lw_all := lw_g (lw_at lw_m2 79 rfl) rfl
theorem q388 : (Jvm.Cond.instanceMethod ({ cls := "PendulumGym", name := "legCount", desc := "()I" } : Jvm.MethodName)) ∈ lw_all := lw_g (lw_at lw_m2 81 rfl) rfl
theorem q389 : (Jvm.Cond.selects "PendulumGym" ({ cls := "PendulumGym", name := "legCount", desc := "()I" } : Jvm.MethodName) ({ cls := "PendulumGym", name := "legCount", desc := "()I" } : Jvm.MethodName)) ∈ lw_all := lw_g (lw_at lw_m2 82 rfl) rfl
theorem q390 : (Jvm.Cond.code ({ cls := "PendulumGym", name := "legCount", desc := "()I" } : Jvm.MethodName) prog_1_method_44_code (1 : Nat) (Option.some Jvm.ClassFile.FieldType.int)) ∈ lw_all := lw_g (lw_at lw_m2 83 rfl) rfl
theorem q392 : (Jvm.Cond.instanceMethod ({ cls := "PendulumGym", name := "save", desc := "()I" } : Jvm.MethodName)) ∈ lw_all := lw_g (lw_at lw_m2 85 rfl) rfl
theorem q393 : (Jvm.Cond.selects "PendulumGym" ({ cls := "PendulumGym", name := "save", desc := "()I" } : Jvm.MethodName) ({ cls := "PendulumGym", name := "save", desc := "()I" } : Jvm.MethodName)) ∈ lw_all := lw_g (lw_at lw_m2 86 rfl) rfl
theorem q394 : (Jvm.Cond.code ({ cls := "PendulumGym", name := "save", desc := "()I" } : Jvm.MethodName) prog_1_method_69_code (1 : Nat) (Option.some Jvm.ClassFile.FieldType.int)) ∈ lw_all := lw_g (lw_at lw_m2 87 rfl) rfl
theorem q395 : (Jvm.Cond.methodLink "PendulumGym" (51 : Nat) ({ cls := "PendulumGym$Gym", name := "copy", desc := "()LPendulumGym$Gym;" } : Jvm.MethodName)) ∈ lw_all := lw_g (lw_at lw_m2 88 rfl) rfl
theorem q421 : (Jvm.Cond.fieldLink "PendulumGym" (114 : Nat) "PendulumGym$Pendulum" "length" "I") ∈ lw_all := lw_g (lw_at lw_m2 114 rfl) rfl
theorem q423 : (Jvm.Cond.fieldLink "PendulumGym" (154 : Nat) "PendulumGym$Pendulum" "swings" "I") ∈ lw_all := lw_g (lw_at lw_m2 116 rfl) rfl
theorem q426 : (Jvm.Cond.fieldLink "PendulumGym" (320 : Nat) "PendulumGym$Pendulum" "motion" "LPendulumGym$Motion;") ∈ lw_all := lw_g (lw_at lw_m2 119 rfl) rfl
theorem q468 : (Jvm.Cond.selects "PendulumGym" ({ cls := "java/lang/Object", name := "getClass", desc := "()Ljava/lang/Class;" } : Jvm.MethodName) ({ cls := "java/lang/Object", name := "getClass", desc := "()Ljava/lang/Class;" } : Jvm.MethodName)) ∈ lw_all := lw_g (lw_at lw_m2 161 rfl) rfl
theorem q515 : (Jvm.Cond.instanceMethod ({ cls := "PendulumGym", name := "addPendulum", desc := "(I)I" } : Jvm.MethodName)) ∈ lw_all := lw_g (lw_at lw_m2 208 rfl) rfl
theorem q516 : (Jvm.Cond.selects "PendulumGym" ({ cls := "PendulumGym", name := "addPendulum", desc := "(I)I" } : Jvm.MethodName) ({ cls := "PendulumGym", name := "addPendulum", desc := "(I)I" } : Jvm.MethodName)) ∈ lw_all := lw_g (lw_at lw_m2 209 rfl) rfl
theorem q517 : (Jvm.Cond.code ({ cls := "PendulumGym", name := "addPendulum", desc := "(I)I" } : Jvm.MethodName) prog_1_method_12_code (2 : Nat) (Option.some Jvm.ClassFile.FieldType.int)) ∈ lw_all := lw_g (lw_at lw_m2 210 rfl) rfl
theorem q518 : (Jvm.Cond.static ({ cls := "PendulumGym", name := "lambda$addPendulum$0", desc := "(ILPendulumGym$Gym;)I" } : Jvm.MethodName)) ∈ lw_all := lw_g (lw_at lw_m2 211 rfl) rfl
theorem q519 : (Jvm.Cond.code ({ cls := "PendulumGym", name := "lambda$addPendulum$0", desc := "(ILPendulumGym$Gym;)I" } : Jvm.MethodName) prog_1_method_81_code (2 : Nat) (Option.some Jvm.ClassFile.FieldType.int)) ∈ lw_all := lw_g (lw_at lw_m2 212 rfl) rfl
theorem q520 : (Jvm.Cond.methodLink "PendulumGym" (405 : Nat) ({ cls := "PendulumGym$Gym", name := "addPendulum", desc := "(I)I" } : Jvm.MethodName)) ∈ lw_all := lw_g (lw_at lw_m2 213 rfl) rfl
theorem q525 : (Jvm.Cond.static ({ cls := "PendulumGym", name := "requireArgument", desc := "(Z)V" } : Jvm.MethodName)) ∈ lw_all := lw_g (lw_at lw_m2 218 rfl) rfl
theorem q526 : (Jvm.Cond.code ({ cls := "PendulumGym", name := "requireArgument", desc := "(Z)V" } : Jvm.MethodName) prog_1_method_3_code (1 : Nat) (Option.none : Option Jvm.ClassFile.FieldType)) ∈ lw_all := lw_g (lw_at lw_m2 219 rfl) rfl
theorem q527 : (Jvm.Cond.classLink "PendulumGym" (7 : Nat) "java/lang/IllegalArgumentException") ∈ lw_all := lw_g (lw_at lw_m2 220 rfl) rfl
theorem q536 : (Jvm.Cond.methodLink "PendulumGym" (9 : Nat) ({ cls := "java/lang/IllegalArgumentException", name := "<init>", desc := "()V" } : Jvm.MethodName)) ∈ lw_all := lw_g (lw_at lw_m2 229 rfl) rfl
theorem q543 : (Jvm.Cond.static ({ cls := "PendulumGym", name := "requireState", desc := "(Z)V" } : Jvm.MethodName)) ∈ lw_all := lw_g (lw_at lw_m2 236 rfl) rfl
theorem q544 : (Jvm.Cond.code ({ cls := "PendulumGym", name := "requireState", desc := "(Z)V" } : Jvm.MethodName) prog_1_method_4_code (1 : Nat) (Option.none : Option Jvm.ClassFile.FieldType)) ∈ lw_all := lw_g (lw_at lw_m2 237 rfl) rfl
theorem q545 : (Jvm.Cond.classLink "PendulumGym" (10 : Nat) "java/lang/IllegalStateException") ∈ lw_all := lw_g (lw_at lw_m2 238 rfl) rfl
theorem q554 : (Jvm.Cond.methodLink "PendulumGym" (12 : Nat) ({ cls := "java/lang/IllegalStateException", name := "<init>", desc := "()V" } : Jvm.MethodName)) ∈ lw_all := lw_g (lw_at lw_m3 7 rfl) rfl
theorem q561 : (Jvm.Cond.methodLink "PendulumGym" (93 : Nat) ({ cls := "PendulumGym", name := "modify", desc := "(LPendulumGym$Modification;)I" } : Jvm.MethodName)) ∈ lw_all := lw_g (lw_at lw_m3 14 rfl) rfl
theorem q562 : (Jvm.Cond.privateMethod ({ cls := "PendulumGym", name := "modify", desc := "(LPendulumGym$Modification;)I" } : Jvm.MethodName)) ∈ lw_tbl := lw_at lw_m3 15 rfl
theorem q563 : (Jvm.Cond.instanceMethod ({ cls := "PendulumGym", name := "modify", desc := "(LPendulumGym$Modification;)I" } : Jvm.MethodName)) ∈ lw_all := lw_g (lw_at lw_m3 16 rfl) rfl
theorem q564 : (Jvm.Cond.code ({ cls := "PendulumGym", name := "modify", desc := "(LPendulumGym$Modification;)I" } : Jvm.MethodName) prog_1_method_10_code (3 : Nat) (Option.some Jvm.ClassFile.FieldType.int)) ∈ lw_all := lw_g (lw_at lw_m3 17 rfl) rfl
theorem q565 : (Jvm.Cond.interfaceEntry "PendulumGym" (55 : Nat)) ∈ lw_tbl := lw_at lw_m3 18 rfl
theorem q566 : (Jvm.Cond.methodLink "PendulumGym" (55 : Nat) ({ cls := "PendulumGym$Modification", name := "apply", desc := "(LPendulumGym$Gym;)I" } : Jvm.MethodName)) ∈ lw_all := lw_g (lw_at lw_m3 19 rfl) rfl
theorem q569 : (Jvm.Cond.methodLink "PendulumGym" (61 : Nat) ({ cls := "PendulumGym", name := "commit", desc := "(LPendulumGym$Gym;I)I" } : Jvm.MethodName)) ∈ lw_all := lw_g (lw_at lw_m3 22 rfl) rfl
theorem q570 : (Jvm.Cond.privateMethod ({ cls := "PendulumGym", name := "commit", desc := "(LPendulumGym$Gym;I)I" } : Jvm.MethodName)) ∈ lw_tbl := lw_at lw_m3 23 rfl
theorem q571 : (Jvm.Cond.instanceMethod ({ cls := "PendulumGym", name := "commit", desc := "(LPendulumGym$Gym;I)I" } : Jvm.MethodName)) ∈ lw_all := lw_g (lw_at lw_m3 24 rfl) rfl
theorem q572 : (Jvm.Cond.code ({ cls := "PendulumGym", name := "commit", desc := "(LPendulumGym$Gym;I)I" } : Jvm.MethodName) prog_1_method_9_code (4 : Nat) (Option.some Jvm.ClassFile.FieldType.int)) ∈ lw_all := lw_g (lw_at lw_m3 25 rfl) rfl
theorem q573 : (Jvm.Cond.methodLink "PendulumGym" (31 : Nat) ({ cls := "java/util/ArrayDeque", name := "size", desc := "()I" } : Jvm.MethodName)) ∈ lw_all := lw_g (lw_at lw_m3 26 rfl) rfl
theorem q580 : (Jvm.Cond.methodLink "PendulumGym" (37 : Nat) ({ cls := "java/util/ArrayDeque", name := "removeLast", desc := "()Ljava/lang/Object;" } : Jvm.MethodName)) ∈ lw_all := lw_g (lw_at lw_m3 33 rfl) rfl
theorem q609 : (Jvm.Cond.methodLink "PendulumGym" (47 : Nat) ({ cls := "java/util/ArrayDeque", name := "push", desc := "(Ljava/lang/Object;)V" } : Jvm.MethodName)) ∈ lw_all := lw_g (lw_at lw_m3 62 rfl) rfl
theorem q671 : (Jvm.Cond.instanceMethod ({ cls := "PendulumGym", name := "push", desc := "(II)I" } : Jvm.MethodName)) ∈ lw_all := lw_g (lw_at lw_m3 124 rfl) rfl
theorem q672 : (Jvm.Cond.selects "PendulumGym" ({ cls := "PendulumGym", name := "push", desc := "(II)I" } : Jvm.MethodName) ({ cls := "PendulumGym", name := "push", desc := "(II)I" } : Jvm.MethodName)) ∈ lw_all := lw_g (lw_at lw_m3 125 rfl) rfl
theorem q673 : (Jvm.Cond.code ({ cls := "PendulumGym", name := "push", desc := "(II)I" } : Jvm.MethodName) prog_1_method_13_code (3 : Nat) (Option.some Jvm.ClassFile.FieldType.int)) ∈ lw_all := lw_g (lw_at lw_m3 126 rfl) rfl
theorem q674 : (Jvm.Cond.static ({ cls := "PendulumGym", name := "lambda$push$1", desc := "(IILPendulumGym$Gym;)I" } : Jvm.MethodName)) ∈ lw_all := lw_g (lw_at lw_m3 127 rfl) rfl
theorem q675 : (Jvm.Cond.code ({ cls := "PendulumGym", name := "lambda$push$1", desc := "(IILPendulumGym$Gym;)I" } : Jvm.MethodName) prog_1_method_80_code (3 : Nat) (Option.some Jvm.ClassFile.FieldType.int)) ∈ lw_all := lw_g (lw_at lw_m3 128 rfl) rfl
theorem q676 : (Jvm.Cond.methodLink "PendulumGym" (403 : Nat) ({ cls := "PendulumGym$Gym", name := "push", desc := "(II)I" } : Jvm.MethodName)) ∈ lw_all := lw_g (lw_at lw_m3 129 rfl) rfl
theorem q723 : (Jvm.Cond.fieldLink "PendulumGym" (324 : Nat) "PendulumGym$Swinging" "amplitude" "I") ∈ lw_all := lw_g (lw_at lw_m3 176 rfl) rfl
theorem q727 : (Jvm.Cond.fieldLink "PendulumGym" (143 : Nat) "PendulumGym$Swinging" "start" "I") ∈ lw_all := lw_g (lw_at lw_m3 180 rfl) rfl
theorem q737 : (Jvm.Cond.instanceMethod ({ cls := "PendulumGym", name := "catchPendulum", desc := "(I)I" } : Jvm.MethodName)) ∈ lw_all := lw_g (lw_at lw_m3 190 rfl) rfl
theorem q738 : (Jvm.Cond.selects "PendulumGym" ({ cls := "PendulumGym", name := "catchPendulum", desc := "(I)I" } : Jvm.MethodName) ({ cls := "PendulumGym", name := "catchPendulum", desc := "(I)I" } : Jvm.MethodName)) ∈ lw_all := lw_g (lw_at lw_m3 191 rfl) rfl
theorem q739 : (Jvm.Cond.code ({ cls := "PendulumGym", name := "catchPendulum", desc := "(I)I" } : Jvm.MethodName) prog_1_method_14_code (2 : Nat) (Option.some Jvm.ClassFile.FieldType.int)) ∈ lw_all := lw_g (lw_at lw_m3 192 rfl) rfl
theorem q740 : (Jvm.Cond.static ({ cls := "PendulumGym", name := "lambda$catchPendulum$2", desc := "(ILPendulumGym$Gym;)I" } : Jvm.MethodName)) ∈ lw_all := lw_g (lw_at lw_m3 193 rfl) rfl
theorem q741 : (Jvm.Cond.code ({ cls := "PendulumGym", name := "lambda$catchPendulum$2", desc := "(ILPendulumGym$Gym;)I" } : Jvm.MethodName) prog_1_method_79_code (2 : Nat) (Option.some Jvm.ClassFile.FieldType.int)) ∈ lw_all := lw_g (lw_at lw_m3 194 rfl) rfl
theorem q742 : (Jvm.Cond.methodLink "PendulumGym" (400 : Nat) ({ cls := "PendulumGym$Gym", name := "catchPendulum", desc := "(I)I" } : Jvm.MethodName)) ∈ lw_all := lw_g (lw_at lw_m3 195 rfl) rfl
theorem q752 : (Jvm.Cond.instanceMethod ({ cls := "PendulumGym", name := "setFriction", desc := "(I)I" } : Jvm.MethodName)) ∈ lw_all := lw_g (lw_at lw_m3 205 rfl) rfl
theorem q753 : (Jvm.Cond.selects "PendulumGym" ({ cls := "PendulumGym", name := "setFriction", desc := "(I)I" } : Jvm.MethodName) ({ cls := "PendulumGym", name := "setFriction", desc := "(I)I" } : Jvm.MethodName)) ∈ lw_all := lw_g (lw_at lw_m3 206 rfl) rfl
theorem q754 : (Jvm.Cond.code ({ cls := "PendulumGym", name := "setFriction", desc := "(I)I" } : Jvm.MethodName) prog_1_method_15_code (2 : Nat) (Option.some Jvm.ClassFile.FieldType.int)) ∈ lw_all := lw_g (lw_at lw_m3 207 rfl) rfl
theorem q755 : (Jvm.Cond.static ({ cls := "PendulumGym", name := "lambda$setFriction$3", desc := "(ILPendulumGym$Gym;)I" } : Jvm.MethodName)) ∈ lw_all := lw_g (lw_at lw_m3 208 rfl) rfl
theorem q756 : (Jvm.Cond.code ({ cls := "PendulumGym", name := "lambda$setFriction$3", desc := "(ILPendulumGym$Gym;)I" } : Jvm.MethodName) prog_1_method_78_code (2 : Nat) (Option.some Jvm.ClassFile.FieldType.int)) ∈ lw_all := lw_g (lw_at lw_m3 209 rfl) rfl
theorem q757 : (Jvm.Cond.methodLink "PendulumGym" (397 : Nat) ({ cls := "PendulumGym$Gym", name := "setFriction", desc := "(I)I" } : Jvm.MethodName)) ∈ lw_all := lw_g (lw_at lw_m3 210 rfl) rfl
theorem q765 : (Jvm.Cond.instanceMethod ({ cls := "PendulumGym", name := "pass", desc := "(I)I" } : Jvm.MethodName)) ∈ lw_all := lw_g (lw_at lw_m3 218 rfl) rfl
theorem q766 : (Jvm.Cond.selects "PendulumGym" ({ cls := "PendulumGym", name := "pass", desc := "(I)I" } : Jvm.MethodName) ({ cls := "PendulumGym", name := "pass", desc := "(I)I" } : Jvm.MethodName)) ∈ lw_all := lw_g (lw_at lw_m3 219 rfl) rfl
theorem q767 : (Jvm.Cond.code ({ cls := "PendulumGym", name := "pass", desc := "(I)I" } : Jvm.MethodName) prog_1_method_16_code (2 : Nat) (Option.some Jvm.ClassFile.FieldType.int)) ∈ lw_all := lw_g (lw_at lw_m3 220 rfl) rfl
theorem q768 : (Jvm.Cond.static ({ cls := "PendulumGym", name := "lambda$pass$4", desc := "(ILPendulumGym$Gym;)I" } : Jvm.MethodName)) ∈ lw_all := lw_g (lw_at lw_m3 221 rfl) rfl
theorem q769 : (Jvm.Cond.code ({ cls := "PendulumGym", name := "lambda$pass$4", desc := "(ILPendulumGym$Gym;)I" } : Jvm.MethodName) prog_1_method_77_code (2 : Nat) (Option.some Jvm.ClassFile.FieldType.int)) ∈ lw_all := lw_g (lw_at lw_m3 222 rfl) rfl
theorem q770 : (Jvm.Cond.methodLink "PendulumGym" (394 : Nat) ({ cls := "PendulumGym$Gym", name := "pass", desc := "(I)I" } : Jvm.MethodName)) ∈ lw_all := lw_g (lw_at lw_m3 223 rfl) rfl
theorem q780 : (Jvm.Cond.static ({ cls := "PendulumGym", name := "loss", desc := "(II)I" } : Jvm.MethodName)) ∈ lw_all := lw_g (lw_at lw_m3 233 rfl) rfl
theorem q781 : (Jvm.Cond.code ({ cls := "PendulumGym", name := "loss", desc := "(II)I" } : Jvm.MethodName) prog_1_method_8_code (2 : Nat) (Option.some Jvm.ClassFile.FieldType.int)) ∈ lw_all := lw_g (lw_at lw_m3 234 rfl) rfl
theorem q782 : (Jvm.Cond.methodLink "PendulumGym" (22 : Nat) ({ cls := "java/lang/Math", name := "max", desc := "(II)I" } : Jvm.MethodName)) ∈ lw_all := lw_g (lw_at lw_m3 235 rfl) rfl
theorem q788 : (Jvm.Cond.instanceMethod ({ cls := "PendulumGym", name := "lengthOf", desc := "(I)I" } : Jvm.MethodName)) ∈ lw_all := lw_g (lw_at lw_m4 1 rfl) rfl
theorem q789 : (Jvm.Cond.selects "PendulumGym" ({ cls := "PendulumGym", name := "lengthOf", desc := "(I)I" } : Jvm.MethodName) ({ cls := "PendulumGym", name := "lengthOf", desc := "(I)I" } : Jvm.MethodName)) ∈ lw_all := lw_g (lw_at lw_m4 2 rfl) rfl
theorem q790 : (Jvm.Cond.code ({ cls := "PendulumGym", name := "lengthOf", desc := "(I)I" } : Jvm.MethodName) prog_1_method_18_code (2 : Nat) (Option.some Jvm.ClassFile.FieldType.int)) ∈ lw_all := lw_g (lw_at lw_m4 3 rfl) rfl
theorem q795 : (Jvm.Cond.instanceMethod ({ cls := "PendulumGym", name := "classOf", desc := "(I)I" } : Jvm.MethodName)) ∈ lw_all := lw_g (lw_at lw_m4 8 rfl) rfl
theorem q796 : (Jvm.Cond.selects "PendulumGym" ({ cls := "PendulumGym", name := "classOf", desc := "(I)I" } : Jvm.MethodName) ({ cls := "PendulumGym", name := "classOf", desc := "(I)I" } : Jvm.MethodName)) ∈ lw_all := lw_g (lw_at lw_m4 9 rfl) rfl
theorem q797 : (Jvm.Cond.code ({ cls := "PendulumGym", name := "classOf", desc := "(I)I" } : Jvm.MethodName) prog_1_method_19_code (2 : Nat) (Option.some Jvm.ClassFile.FieldType.int)) ∈ lw_all := lw_g (lw_at lw_m4 10 rfl) rfl
theorem q798 : (Jvm.Cond.methodLink "PendulumGym" (119 : Nat) ({ cls := "PendulumGym$Kind", name := "of", desc := "(I)LPendulumGym$Kind;" } : Jvm.MethodName)) ∈ lw_all := lw_g (lw_at lw_m4 11 rfl) rfl
theorem q799 : (Jvm.Cond.methodLink "PendulumGym" (125 : Nat) ({ cls := "PendulumGym$Kind", name := "ordinal", desc := "()I" } : Jvm.MethodName)) ∈ lw_all := lw_g (lw_at lw_m4 12 rfl) rfl
theorem q804 : (Jvm.Cond.instanceMethod ({ cls := "PendulumGym", name := "amplitudeOf", desc := "(I)I" } : Jvm.MethodName)) ∈ lw_all := lw_g (lw_at lw_m4 17 rfl) rfl
theorem q805 : (Jvm.Cond.selects "PendulumGym" ({ cls := "PendulumGym", name := "amplitudeOf", desc := "(I)I" } : Jvm.MethodName) ({ cls := "PendulumGym", name := "amplitudeOf", desc := "(I)I" } : Jvm.MethodName)) ∈ lw_all := lw_g (lw_at lw_m4 18 rfl) rfl
theorem q806 : (Jvm.Cond.code ({ cls := "PendulumGym", name := "amplitudeOf", desc := "(I)I" } : Jvm.MethodName) prog_1_method_20_code (2 : Nat) (Option.some Jvm.ClassFile.FieldType.int)) ∈ lw_all := lw_g (lw_at lw_m4 19 rfl) rfl
theorem q807 : (Jvm.Cond.methodLink "PendulumGym" (128 : Nat) ({ cls := "PendulumGym$Pendulum", name := "amplitude", desc := "()I" } : Jvm.MethodName)) ∈ lw_all := lw_g (lw_at lw_m4 20 rfl) rfl
theorem q813 : (Jvm.Cond.instanceMethod ({ cls := "PendulumGym", name := "startOf", desc := "(I)I" } : Jvm.MethodName)) ∈ lw_all := lw_g (lw_at lw_m4 26 rfl) rfl
theorem q814 : (Jvm.Cond.selects "PendulumGym" ({ cls := "PendulumGym", name := "startOf", desc := "(I)I" } : Jvm.MethodName) ({ cls := "PendulumGym", name := "startOf", desc := "(I)I" } : Jvm.MethodName)) ∈ lw_all := lw_g (lw_at lw_m4 27 rfl) rfl
theorem q815 : (Jvm.Cond.code ({ cls := "PendulumGym", name := "startOf", desc := "(I)I" } : Jvm.MethodName) prog_1_method_22_code (3 : Nat) (Option.some Jvm.ClassFile.FieldType.int)) ∈ lw_all := lw_g (lw_at lw_m4 28 rfl) rfl
theorem q816 : (Jvm.Cond.methodLink "PendulumGym" (139 : Nat) ({ cls := "PendulumGym", name := "requireElement", desc := "(Z)V" } : Jvm.MethodName)) ∈ lw_all := lw_g (lw_at lw_m4 29 rfl) rfl
theorem q817 : (Jvm.Cond.static ({ cls := "PendulumGym", name := "requireElement", desc := "(Z)V" } : Jvm.MethodName)) ∈ lw_all := lw_g (lw_at lw_m4 30 rfl) rfl
theorem q818 : (Jvm.Cond.code ({ cls := "PendulumGym", name := "requireElement", desc := "(Z)V" } : Jvm.MethodName) prog_1_method_5_code (1 : Nat) (Option.none : Option Jvm.ClassFile.FieldType)) ∈ lw_all := lw_g (lw_at lw_m4 31 rfl) rfl
theorem q819 : (Jvm.Cond.classLink "PendulumGym" (13 : Nat) "java/util/NoSuchElementException") ∈ lw_all := lw_g (lw_at lw_m4 32 rfl) rfl
theorem q820 : (Jvm.Cond.methodLink "PendulumGym" (15 : Nat) ({ cls := "java/util/NoSuchElementException", name := "<init>", desc := "()V" } : Jvm.MethodName)) ∈ lw_all := lw_g (lw_at lw_m4 33 rfl) rfl
theorem q829 : (Jvm.Cond.instanceMethod ({ cls := "PendulumGym", name := "periodByEstimates", desc := "(I)I" } : Jvm.MethodName)) ∈ lw_all := lw_g (lw_at lw_m4 42 rfl) rfl
theorem q830 : (Jvm.Cond.selects "PendulumGym" ({ cls := "PendulumGym", name := "periodByEstimates", desc := "(I)I" } : Jvm.MethodName) ({ cls := "PendulumGym", name := "periodByEstimates", desc := "(I)I" } : Jvm.MethodName)) ∈ lw_all := lw_g (lw_at lw_m4 43 rfl) rfl
theorem q831 : (Jvm.Cond.code ({ cls := "PendulumGym", name := "periodByEstimates", desc := "(I)I" } : Jvm.MethodName) prog_1_method_24_code (2 : Nat) (Option.some Jvm.ClassFile.FieldType.int)) ∈ lw_all := lw_g (lw_at lw_m4 44 rfl) rfl
theorem q832 : (Jvm.Cond.methodLink "PendulumGym" (151 : Nat) ({ cls := "PendulumGym$Pendulum", name := "periodByEstimates", desc := "()I" } : Jvm.MethodName)) ∈ lw_all := lw_g (lw_at lw_m4 45 rfl) rfl
theorem q840 : (Jvm.Cond.instanceMethod ({ cls := "PendulumGym", name := "swingsOf", desc := "(I)I" } : Jvm.MethodName)) ∈ lw_all := lw_g (lw_at lw_m4 53 rfl) rfl
theorem q841 : (Jvm.Cond.selects "PendulumGym" ({ cls := "PendulumGym", name := "swingsOf", desc := "(I)I" } : Jvm.MethodName) ({ cls := "PendulumGym", name := "swingsOf", desc := "(I)I" } : Jvm.MethodName)) ∈ lw_all := lw_g (lw_at lw_m4 54 rfl) rfl
theorem q842 : (Jvm.Cond.code ({ cls := "PendulumGym", name := "swingsOf", desc := "(I)I" } : Jvm.MethodName) prog_1_method_25_code (2 : Nat) (Option.some Jvm.ClassFile.FieldType.int)) ∈ lw_all := lw_g (lw_at lw_m4 55 rfl) rfl
theorem q847 : (Jvm.Cond.instanceMethod ({ cls := "PendulumGym", name := "recordOf", desc := "(I)I" } : Jvm.MethodName)) ∈ lw_all := lw_g (lw_at lw_m4 60 rfl) rfl
theorem q848 : (Jvm.Cond.selects "PendulumGym" ({ cls := "PendulumGym", name := "recordOf", desc := "(I)I" } : Jvm.MethodName) ({ cls := "PendulumGym", name := "recordOf", desc := "(I)I" } : Jvm.MethodName)) ∈ lw_all := lw_g (lw_at lw_m4 61 rfl) rfl
theorem q849 : (Jvm.Cond.code ({ cls := "PendulumGym", name := "recordOf", desc := "(I)I" } : Jvm.MethodName) prog_1_method_29_code (2 : Nat) (Option.some Jvm.ClassFile.FieldType.int)) ∈ lw_all := lw_g (lw_at lw_m4 62 rfl) rfl
theorem q850 : (Jvm.Cond.methodLink "PendulumGym" (170 : Nat) ({ cls := "PendulumGym", name := "requireKind", desc := "(I)V" } : Jvm.MethodName)) ∈ lw_all := lw_g (lw_at lw_m4 63 rfl) rfl
theorem q851 : (Jvm.Cond.static ({ cls := "PendulumGym", name := "requireKind", desc := "(I)V" } : Jvm.MethodName)) ∈ lw_all := lw_g (lw_at lw_m4 64 rfl) rfl
theorem q852 : (Jvm.Cond.code ({ cls := "PendulumGym", name := "requireKind", desc := "(I)V" } : Jvm.MethodName) prog_1_method_28_code (1 : Nat) (Option.none : Option Jvm.ClassFile.FieldType)) ∈ lw_all := lw_g (lw_at lw_m4 65 rfl) rfl
theorem q853 : (Jvm.Cond.methodLink "PendulumGym" (163 : Nat) ({ cls := "PendulumGym", name := "isBetween", desc := "(III)Z" } : Jvm.MethodName)) ∈ lw_all := lw_g (lw_at lw_m4 66 rfl) rfl
theorem q854 : (Jvm.Cond.methodLink "PendulumGym" (167 : Nat) ({ cls := "PendulumGym", name := "requireArgument", desc := "(Z)V" } : Jvm.MethodName)) ∈ lw_all := lw_g (lw_at lw_m4 67 rfl) rfl
theorem q859 : (Jvm.Cond.instanceMethod ({ cls := "PendulumGym", name := "holderOf", desc := "(I)I" } : Jvm.MethodName)) ∈ lw_all := lw_g (lw_at lw_m4 72 rfl) rfl
theorem q860 : (Jvm.Cond.selects "PendulumGym" ({ cls := "PendulumGym", name := "holderOf", desc := "(I)I" } : Jvm.MethodName) ({ cls := "PendulumGym", name := "holderOf", desc := "(I)I" } : Jvm.MethodName)) ∈ lw_all := lw_g (lw_at lw_m4 73 rfl) rfl
theorem q861 : (Jvm.Cond.code ({ cls := "PendulumGym", name := "holderOf", desc := "(I)I" } : Jvm.MethodName) prog_1_method_30_code (2 : Nat) (Option.some Jvm.ClassFile.FieldType.int)) ∈ lw_all := lw_g (lw_at lw_m4 74 rfl) rfl
theorem q866 : (Jvm.Cond.instanceMethod ({ cls := "PendulumGym", name := "pendulumAtRank", desc := "(I)I" } : Jvm.MethodName)) ∈ lw_all := lw_g (lw_at lw_m4 79 rfl) rfl
theorem q867 : (Jvm.Cond.selects "PendulumGym" ({ cls := "PendulumGym", name := "pendulumAtRank", desc := "(I)I" } : Jvm.MethodName) ({ cls := "PendulumGym", name := "pendulumAtRank", desc := "(I)I" } : Jvm.MethodName)) ∈ lw_all := lw_g (lw_at lw_m4 80 rfl) rfl
theorem q868 : (Jvm.Cond.code ({ cls := "PendulumGym", name := "pendulumAtRank", desc := "(I)I" } : Jvm.MethodName) prog_1_method_31_code (5 : Nat) (Option.some Jvm.ClassFile.FieldType.int)) ∈ lw_all := lw_g (lw_at lw_m4 81 rfl) rfl
theorem q869 : (Jvm.Cond.methodLink "PendulumGym" (181 : Nat) ({ cls := "java/util/ArrayList", name := "get", desc := "(I)Ljava/lang/Object;" } : Jvm.MethodName)) ∈ lw_all := lw_g (lw_at lw_m4 82 rfl) rfl
theorem q870 : (Jvm.Cond.classLink "PendulumGym" (115 : Nat) "PendulumGym$Pendulum") ∈ lw_all := lw_g (lw_at lw_m4 83 rfl) rfl
theorem q871 : (Jvm.Cond.methodLink "PendulumGym" (185 : Nat) ({ cls := "PendulumGym$Pendulum", name := "isAheadOf", desc := "(LPendulumGym$Pendulum;)Z" } : Jvm.MethodName)) ∈ lw_all := lw_g (lw_at lw_m4 84 rfl) rfl
theorem q880 : (Jvm.Cond.instanceMethod ({ cls := "PendulumGym", name := "swingsToRest", desc := "(I)I" } : Jvm.MethodName)) ∈ lw_all := lw_g (lw_at lw_m4 93 rfl) rfl
theorem q881 : (Jvm.Cond.selects "PendulumGym" ({ cls := "PendulumGym", name := "swingsToRest", desc := "(I)I" } : Jvm.MethodName) ({ cls := "PendulumGym", name := "swingsToRest", desc := "(I)I" } : Jvm.MethodName)) ∈ lw_all := lw_g (lw_at lw_m4 94 rfl) rfl
theorem q882 : (Jvm.Cond.code ({ cls := "PendulumGym", name := "swingsToRest", desc := "(I)I" } : Jvm.MethodName) prog_1_method_32_code (4 : Nat) (Option.some Jvm.ClassFile.FieldType.int)) ∈ lw_all := lw_g (lw_at lw_m4 95 rfl) rfl
theorem q883 : (Jvm.Cond.methodLink "PendulumGym" (189 : Nat) ({ cls := "PendulumGym", name := "loss", desc := "(II)I" } : Jvm.MethodName)) ∈ lw_all := lw_g (lw_at lw_m4 96 rfl) rfl
theorem q888 : (Jvm.Cond.instanceMethod ({ cls := "PendulumGym", name := "swingsToRestByTable", desc := "(I)I" } : Jvm.MethodName)) ∈ lw_all := lw_g (lw_at lw_m4 101 rfl) rfl
theorem q889 : (Jvm.Cond.selects "PendulumGym" ({ cls := "PendulumGym", name := "swingsToRestByTable", desc := "(I)I" } : Jvm.MethodName) ({ cls := "PendulumGym", name := "swingsToRestByTable", desc := "(I)I" } : Jvm.MethodName)) ∈ lw_all := lw_g (lw_at lw_m4 102 rfl) rfl
theorem q890 : (Jvm.Cond.code ({ cls := "PendulumGym", name := "swingsToRestByTable", desc := "(I)I" } : Jvm.MethodName) prog_1_method_33_code (5 : Nat) (Option.some Jvm.ClassFile.FieldType.int)) ∈ lw_all := lw_g (lw_at lw_m4 103 rfl) rfl
theorem q895 : (Jvm.Cond.instanceMethod ({ cls := "PendulumGym", name := "restTick", desc := "(I)I" } : Jvm.MethodName)) ∈ lw_all := lw_g (lw_at lw_m4 108 rfl) rfl
theorem q896 : (Jvm.Cond.selects "PendulumGym" ({ cls := "PendulumGym", name := "restTick", desc := "(I)I" } : Jvm.MethodName) ({ cls := "PendulumGym", name := "restTick", desc := "(I)I" } : Jvm.MethodName)) ∈ lw_all := lw_g (lw_at lw_m4 109 rfl) rfl
theorem q897 : (Jvm.Cond.code ({ cls := "PendulumGym", name := "restTick", desc := "(I)I" } : Jvm.MethodName) prog_1_method_34_code (5 : Nat) (Option.some Jvm.ClassFile.FieldType.int)) ∈ lw_all := lw_g (lw_at lw_m4 110 rfl) rfl
theorem q898 : (Jvm.Cond.methodLink "PendulumGym" (196 : Nat) ({ cls := "PendulumGym", name := "swingsToRest", desc := "(I)I" } : Jvm.MethodName)) ∈ lw_all := lw_g (lw_at lw_m4 111 rfl) rfl
theorem q903 : (Jvm.Cond.instanceMethod ({ cls := "PendulumGym", name := "amplitudeAfter", desc := "(II)I" } : Jvm.MethodName)) ∈ lw_all := lw_g (lw_at lw_m4 116 rfl) rfl
theorem q904 : (Jvm.Cond.selects "PendulumGym" ({ cls := "PendulumGym", name := "amplitudeAfter", desc := "(II)I" } : Jvm.MethodName) ({ cls := "PendulumGym", name := "amplitudeAfter", desc := "(II)I" } : Jvm.MethodName)) ∈ lw_all := lw_g (lw_at lw_m4 117 rfl) rfl
theorem q905 : (Jvm.Cond.code ({ cls := "PendulumGym", name := "amplitudeAfter", desc := "(II)I" } : Jvm.MethodName) prog_1_method_35_code (6 : Nat) (Option.some Jvm.ClassFile.FieldType.int)) ∈ lw_all := lw_g (lw_at lw_m4 118 rfl) rfl
theorem q906 : (Jvm.Cond.methodLink "PendulumGym" (199 : Nat) ({ cls := "PendulumGym$Pendulum", name := "copy", desc := "()LPendulumGym$Pendulum;" } : Jvm.MethodName)) ∈ lw_all := lw_g (lw_at lw_m4 119 rfl) rfl
theorem q907 : (Jvm.Cond.methodLink "PendulumGym" (202 : Nat) ({ cls := "PendulumGym$Pendulum", name := "tick", desc := "(II)I" } : Jvm.MethodName)) ∈ lw_all := lw_g (lw_at lw_m4 120 rfl) rfl
theorem q912 : (Jvm.Cond.instanceMethod ({ cls := "PendulumGym", name := "meeting", desc := "(II)I" } : Jvm.MethodName)) ∈ lw_all := lw_g (lw_at lw_m4 125 rfl) rfl
theorem q913 : (Jvm.Cond.selects "PendulumGym" ({ cls := "PendulumGym", name := "meeting", desc := "(II)I" } : Jvm.MethodName) ({ cls := "PendulumGym", name := "meeting", desc := "(II)I" } : Jvm.MethodName)) ∈ lw_all := lw_g (lw_at lw_m4 126 rfl) rfl
theorem q914 : (Jvm.Cond.code ({ cls := "PendulumGym", name := "meeting", desc := "(II)I" } : Jvm.MethodName) prog_1_method_37_code (8 : Nat) (Option.some Jvm.ClassFile.FieldType.int)) ∈ lw_all := lw_g (lw_at lw_m4 127 rfl) rfl
theorem q915 : (Jvm.Cond.methodLink "PendulumGym" (205 : Nat) ({ cls := "PendulumGym", name := "requireState", desc := "(Z)V" } : Jvm.MethodName)) ∈ lw_all := lw_g (lw_at lw_m4 128 rfl) rfl
theorem q916 : (Jvm.Cond.methodLink "PendulumGym" (208 : Nat) ({ cls := "PendulumGym", name := "isSwingTick", desc := "(LPendulumGym$Swinging;II)Z" } : Jvm.MethodName)) ∈ lw_all := lw_g (lw_at lw_m4 129 rfl) rfl
theorem q917 : (Jvm.Cond.static ({ cls := "PendulumGym", name := "isSwingTick", desc := "(LPendulumGym$Swinging;II)Z" } : Jvm.MethodName)) ∈ lw_all := lw_g (lw_at lw_m4 130 rfl) rfl
theorem q918 : (Jvm.Cond.code ({ cls := "PendulumGym", name := "isSwingTick", desc := "(LPendulumGym$Swinging;II)Z" } : Jvm.MethodName) prog_1_method_36_code (3 : Nat) (Option.some Jvm.ClassFile.FieldType.boolean)) ∈ lw_all := lw_g (lw_at lw_m4 131 rfl) rfl
theorem q923 : (Jvm.Cond.instanceMethod ({ cls := "PendulumGym", name := "meetingByDivisors", desc := "(II)I" } : Jvm.MethodName)) ∈ lw_all := lw_g (lw_at lw_m4 136 rfl) rfl
theorem q924 : (Jvm.Cond.selects "PendulumGym" ({ cls := "PendulumGym", name := "meetingByDivisors", desc := "(II)I" } : Jvm.MethodName) ({ cls := "PendulumGym", name := "meetingByDivisors", desc := "(II)I" } : Jvm.MethodName)) ∈ lw_all := lw_g (lw_at lw_m4 137 rfl) rfl
theorem q925 : (Jvm.Cond.code ({ cls := "PendulumGym", name := "meetingByDivisors", desc := "(II)I" } : Jvm.MethodName) prog_1_method_39_code (10 : Nat) (Option.some Jvm.ClassFile.FieldType.int)) ∈ lw_all := lw_g (lw_at lw_m4 138 rfl) rfl
theorem q926 : (Jvm.Cond.methodLink "PendulumGym" (216 : Nat) ({ cls := "PendulumGym", name := "commonMultiple", desc := "(II)I" } : Jvm.MethodName)) ∈ lw_all := lw_g (lw_at lw_m4 139 rfl) rfl
theorem q927 : (Jvm.Cond.static ({ cls := "PendulumGym", name := "commonMultiple", desc := "(II)I" } : Jvm.MethodName)) ∈ lw_all := lw_g (lw_at lw_m4 140 rfl) rfl
theorem q928 : (Jvm.Cond.code ({ cls := "PendulumGym", name := "commonMultiple", desc := "(II)I" } : Jvm.MethodName) prog_1_method_7_code (2 : Nat) (Option.some Jvm.ClassFile.FieldType.int)) ∈ lw_all := lw_g (lw_at lw_m4 141 rfl) rfl
theorem q929 : (Jvm.Cond.methodLink "PendulumGym" (219 : Nat) ({ cls := "java/lang/Math", name := "floorMod", desc := "(II)I" } : Jvm.MethodName)) ∈ lw_all := lw_g (lw_at lw_m4 142 rfl) rfl
theorem q936 : (Jvm.Cond.instanceMethod ({ cls := "PendulumGym", name := "cycleOf", desc := "(II)I" } : Jvm.MethodName)) ∈ lw_all := lw_g (lw_at lw_m4 149 rfl) rfl
theorem q937 : (Jvm.Cond.selects "PendulumGym" ({ cls := "PendulumGym", name := "cycleOf", desc := "(II)I" } : Jvm.MethodName) ({ cls := "PendulumGym", name := "cycleOf", desc := "(II)I" } : Jvm.MethodName)) ∈ lw_all := lw_g (lw_at lw_m4 150 rfl) rfl
theorem q938 : (Jvm.Cond.code ({ cls := "PendulumGym", name := "cycleOf", desc := "(II)I" } : Jvm.MethodName) prog_1_method_41_code (4 : Nat) (Option.some Jvm.ClassFile.FieldType.int)) ∈ lw_all := lw_g (lw_at lw_m4 151 rfl) rfl
theorem q943 : (Jvm.Cond.instanceMethod ({ cls := "PendulumGym", name := "addLeg", desc := "(I)I" } : Jvm.MethodName)) ∈ lw_all := lw_g (lw_at lw_m4 156 rfl) rfl
theorem q944 : (Jvm.Cond.selects "PendulumGym" ({ cls := "PendulumGym", name := "addLeg", desc := "(I)I" } : Jvm.MethodName) ({ cls := "PendulumGym", name := "addLeg", desc := "(I)I" } : Jvm.MethodName)) ∈ lw_all := lw_g (lw_at lw_m4 157 rfl) rfl
theorem q945 : (Jvm.Cond.code ({ cls := "PendulumGym", name := "addLeg", desc := "(I)I" } : Jvm.MethodName) prog_1_method_42_code (2 : Nat) (Option.some Jvm.ClassFile.FieldType.int)) ∈ lw_all := lw_g (lw_at lw_m4 158 rfl) rfl
theorem q946 : (Jvm.Cond.static ({ cls := "PendulumGym", name := "lambda$addLeg$5", desc := "(ILPendulumGym$Gym;)I" } : Jvm.MethodName)) ∈ lw_all := lw_g (lw_at lw_m4 159 rfl) rfl
theorem q947 : (Jvm.Cond.code ({ cls := "PendulumGym", name := "lambda$addLeg$5", desc := "(ILPendulumGym$Gym;)I" } : Jvm.MethodName) prog_1_method_76_code (2 : Nat) (Option.some Jvm.ClassFile.FieldType.int)) ∈ lw_all := lw_g (lw_at lw_m4 160 rfl) rfl
theorem q948 : (Jvm.Cond.methodLink "PendulumGym" (391 : Nat) ({ cls := "PendulumGym$Gym", name := "addLeg", desc := "(I)I" } : Jvm.MethodName)) ∈ lw_all := lw_g (lw_at lw_m4 161 rfl) rfl
theorem q976 : (Jvm.Cond.instanceMethod ({ cls := "PendulumGym", name := "removeLeg", desc := "(I)I" } : Jvm.MethodName)) ∈ lw_all := lw_g (lw_at lw_m4 189 rfl) rfl
theorem q977 : (Jvm.Cond.selects "PendulumGym" ({ cls := "PendulumGym", name := "removeLeg", desc := "(I)I" } : Jvm.MethodName) ({ cls := "PendulumGym", name := "removeLeg", desc := "(I)I" } : Jvm.MethodName)) ∈ lw_all := lw_g (lw_at lw_m4 190 rfl) rfl
theorem q978 : (Jvm.Cond.code ({ cls := "PendulumGym", name := "removeLeg", desc := "(I)I" } : Jvm.MethodName) prog_1_method_43_code (2 : Nat) (Option.some Jvm.ClassFile.FieldType.int)) ∈ lw_all := lw_g (lw_at lw_m4 191 rfl) rfl
theorem q979 : (Jvm.Cond.static ({ cls := "PendulumGym", name := "lambda$removeLeg$6", desc := "(ILPendulumGym$Gym;)I" } : Jvm.MethodName)) ∈ lw_all := lw_g (lw_at lw_m4 192 rfl) rfl
theorem q980 : (Jvm.Cond.code ({ cls := "PendulumGym", name := "lambda$removeLeg$6", desc := "(ILPendulumGym$Gym;)I" } : Jvm.MethodName) prog_1_method_75_code (2 : Nat) (Option.some Jvm.ClassFile.FieldType.int)) ∈ lw_all := lw_g (lw_at lw_m4 193 rfl) rfl
theorem q981 : (Jvm.Cond.methodLink "PendulumGym" (388 : Nat) ({ cls := "PendulumGym$Gym", name := "removeLeg", desc := "(I)I" } : Jvm.MethodName)) ∈ lw_all := lw_g (lw_at lw_m4 194 rfl) rfl
theorem q1002 : (Jvm.Cond.instanceMethod ({ cls := "PendulumGym", name := "wishOf", desc := "(I)I" } : Jvm.MethodName)) ∈ lw_all := lw_g (lw_at lw_m4 215 rfl) rfl
theorem q1003 : (Jvm.Cond.selects "PendulumGym" ({ cls := "PendulumGym", name := "wishOf", desc := "(I)I" } : Jvm.MethodName) ({ cls := "PendulumGym", name := "wishOf", desc := "(I)I" } : Jvm.MethodName)) ∈ lw_all := lw_g (lw_at lw_m4 216 rfl) rfl
theorem q1004 : (Jvm.Cond.code ({ cls := "PendulumGym", name := "wishOf", desc := "(I)I" } : Jvm.MethodName) prog_1_method_45_code (2 : Nat) (Option.some Jvm.ClassFile.FieldType.int)) ∈ lw_all := lw_g (lw_at lw_m4 217 rfl) rfl
theorem q1005 : (Jvm.Cond.methodLink "PendulumGym" (227 : Nat) ({ cls := "PendulumGym", name := "requireIndex", desc := "(Z)V" } : Jvm.MethodName)) ∈ lw_all := lw_g (lw_at lw_m4 218 rfl) rfl
theorem q1006 : (Jvm.Cond.classLink "PendulumGym" (230 : Nat) "java/lang/Integer") ∈ lw_all := lw_g (lw_at lw_m4 219 rfl) rfl
theorem q1007 : (Jvm.Cond.methodLink "PendulumGym" (232 : Nat) ({ cls := "java/lang/Integer", name := "intValue", desc := "()I" } : Jvm.MethodName)) ∈ lw_all := lw_g (lw_at lw_m4 220 rfl) rfl
theorem q1012 : (Jvm.Cond.instanceMethod ({ cls := "PendulumGym", name := "leastRelay", desc := "()I" } : Jvm.MethodName)) ∈ lw_all := lw_g (lw_at lw_m4 225 rfl) rfl
theorem q1013 : (Jvm.Cond.selects "PendulumGym" ({ cls := "PendulumGym", name := "leastRelay", desc := "()I" } : Jvm.MethodName) ({ cls := "PendulumGym", name := "leastRelay", desc := "()I" } : Jvm.MethodName)) ∈ lw_all := lw_g (lw_at lw_m4 226 rfl) rfl
theorem q1014 : (Jvm.Cond.code ({ cls := "PendulumGym", name := "leastRelay", desc := "()I" } : Jvm.MethodName) prog_1_method_49_code (1 : Nat) (Option.some Jvm.ClassFile.FieldType.int)) ∈ lw_all := lw_g (lw_at lw_m4 227 rfl) rfl
theorem q1015 : (Jvm.Cond.methodLink "PendulumGym" (247 : Nat) ({ cls := "PendulumGym", name := "requireRelay", desc := "()V" } : Jvm.MethodName)) ∈ lw_all := lw_g (lw_at lw_m4 228 rfl) rfl
theorem q1016 : (Jvm.Cond.privateMethod ({ cls := "PendulumGym", name := "requireRelay", desc := "()V" } : Jvm.MethodName)) ∈ lw_tbl := lw_at lw_m4 229 rfl
theorem q1017 : (Jvm.Cond.instanceMethod ({ cls := "PendulumGym", name := "requireRelay", desc := "()V" } : Jvm.MethodName)) ∈ lw_all := lw_g (lw_at lw_m4 230 rfl) rfl
theorem q1018 : (Jvm.Cond.code ({ cls := "PendulumGym", name := "requireRelay", desc := "()V" } : Jvm.MethodName) prog_1_method_46_code (1 : Nat) (Option.none : Option Jvm.ClassFile.FieldType)) ∈ lw_all := lw_g (lw_at lw_m4 231 rfl) rfl
theorem q1019 : (Jvm.Cond.methodLink "PendulumGym" (250 : Nat) ({ cls := "PendulumGym", name := "relayTable", desc := "()LPendulumGym$RelayTable;" } : Jvm.MethodName)) ∈ lw_all := lw_g (lw_at lw_m4 232 rfl) rfl
theorem q1020 : (Jvm.Cond.privateMethod ({ cls := "PendulumGym", name := "relayTable", desc := "()LPendulumGym$RelayTable;" } : Jvm.MethodName)) ∈ lw_tbl := lw_at lw_m4 233 rfl
theorem q1021 : (Jvm.Cond.instanceMethod ({ cls := "PendulumGym", name := "relayTable", desc := "()LPendulumGym$RelayTable;" } : Jvm.MethodName)) ∈ lw_all := lw_g (lw_at lw_m4 234 rfl) rfl
theorem q1022 : (Jvm.Cond.code ({ cls := "PendulumGym", name := "relayTable", desc := "()LPendulumGym$RelayTable;" } : Jvm.MethodName) prog_1_method_48_code (1 : Nat) (Option.some (Jvm.ClassFile.FieldType.object "PendulumGym$RelayTable"))) ∈ lw_all := lw_g (lw_at lw_m4 235 rfl) rfl
theorem q1023 : (Jvm.Cond.classLink "PendulumGym" (238 : Nat) "PendulumGym$RelayTable") ∈ lw_all := lw_g (lw_at lw_m4 236 rfl) rfl
theorem q1025 : (Jvm.Cond.methodLink "PendulumGym" (240 : Nat) ({ cls := "PendulumGym", name := "legCost", desc := "()LPendulumGym$LegCost;" } : Jvm.MethodName)) ∈ lw_all := lw_g (lw_at lw_m4 238 rfl) rfl
theorem q1026 : (Jvm.Cond.privateMethod ({ cls := "PendulumGym", name := "legCost", desc := "()LPendulumGym$LegCost;" } : Jvm.MethodName)) ∈ lw_tbl := lw_at lw_m4 239 rfl
theorem q1027 : (Jvm.Cond.instanceMethod ({ cls := "PendulumGym", name := "legCost", desc := "()LPendulumGym$LegCost;" } : Jvm.MethodName)) ∈ lw_all := lw_g (lw_at lw_m5 0 rfl) rfl
theorem q1028 : (Jvm.Cond.code ({ cls := "PendulumGym", name := "legCost", desc := "()LPendulumGym$LegCost;" } : Jvm.MethodName) prog_1_method_47_code (4 : Nat) (Option.some (Jvm.ClassFile.FieldType.object "PendulumGym$LegCost"))) ∈ lw_all := lw_g (lw_at lw_m5 1 rfl) rfl
theorem q1029 : (Jvm.Cond.static ({ cls := "PendulumGym", name := "lambda$legCost$7", desc := "([I[III)I" } : Jvm.MethodName)) ∈ lw_all := lw_g (lw_at lw_m5 2 rfl) rfl
theorem q1030 : (Jvm.Cond.code ({ cls := "PendulumGym", name := "lambda$legCost$7", desc := "([I[III)I" } : Jvm.MethodName) prog_1_method_74_code (4 : Nat) (Option.some Jvm.ClassFile.FieldType.int)) ∈ lw_all := lw_g (lw_at lw_m5 3 rfl) rfl
theorem q1031 : (Jvm.Cond.methodLink "PendulumGym" (385 : Nat) ({ cls := "java/lang/Math", name := "abs", desc := "(I)I" } : Jvm.MethodName)) ∈ lw_all := lw_g (lw_at lw_m5 4 rfl) rfl
theorem q1034 : (Jvm.Cond.methodLink "PendulumGym" (244 : Nat) ({ cls := "PendulumGym$RelayTable", name := "<init>", desc := "(IILPendulumGym$LegCost;)V" } : Jvm.MethodName)) ∈ lw_all := lw_g (lw_at lw_m5 7 rfl) rfl
theorem q1064 : (Jvm.Cond.methodLink "PendulumGym" (254 : Nat) ({ cls := "PendulumGym$RelayTable", name := "without", desc := "(II)I" } : Jvm.MethodName)) ∈ lw_all := lw_g (lw_at lw_m5 37 rfl) rfl
theorem q1072 : (Jvm.Cond.instanceMethod ({ cls := "PendulumGym", name := "leastRelayByTrying", desc := "()I" } : Jvm.MethodName)) ∈ lw_all := lw_g (lw_at lw_m5 45 rfl) rfl
theorem q1073 : (Jvm.Cond.selects "PendulumGym" ({ cls := "PendulumGym", name := "leastRelayByTrying", desc := "()I" } : Jvm.MethodName) ({ cls := "PendulumGym", name := "leastRelayByTrying", desc := "()I" } : Jvm.MethodName)) ∈ lw_all := lw_g (lw_at lw_m5 46 rfl) rfl
theorem q1074 : (Jvm.Cond.code ({ cls := "PendulumGym", name := "leastRelayByTrying", desc := "()I" } : Jvm.MethodName) prog_1_method_50_code (1 : Nat) (Option.some Jvm.ClassFile.FieldType.int)) ∈ lw_all := lw_g (lw_at lw_m5 47 rfl) rfl
theorem q1075 : (Jvm.Cond.classLink "PendulumGym" (257 : Nat) "PendulumGym$RelaySearch") ∈ lw_all := lw_g (lw_at lw_m5 48 rfl) rfl
theorem q1077 : (Jvm.Cond.methodLink "PendulumGym" (259 : Nat) ({ cls := "PendulumGym$RelaySearch", name := "<init>", desc := "(IILPendulumGym$LegCost;)V" } : Jvm.MethodName)) ∈ lw_all := lw_g (lw_at lw_m5 50 rfl) rfl
theorem q1095 : (Jvm.Cond.methodLink "PendulumGym" (260 : Nat) ({ cls := "PendulumGym$RelaySearch", name := "search", desc := "(III)I" } : Jvm.MethodName)) ∈ lw_all := lw_g (lw_at lw_m5 68 rfl) rfl
theorem q1106 : (Jvm.Cond.instanceMethod ({ cls := "PendulumGym", name := "runnerOf", desc := "(I)I" } : Jvm.MethodName)) ∈ lw_all := lw_g (lw_at lw_m5 79 rfl) rfl
theorem q1107 : (Jvm.Cond.selects "PendulumGym" ({ cls := "PendulumGym", name := "runnerOf", desc := "(I)I" } : Jvm.MethodName) ({ cls := "PendulumGym", name := "runnerOf", desc := "(I)I" } : Jvm.MethodName)) ∈ lw_all := lw_g (lw_at lw_m5 80 rfl) rfl
theorem q1108 : (Jvm.Cond.code ({ cls := "PendulumGym", name := "runnerOf", desc := "(I)I" } : Jvm.MethodName) prog_1_method_51_code (8 : Nat) (Option.some Jvm.ClassFile.FieldType.int)) ∈ lw_all := lw_g (lw_at lw_m5 81 rfl) rfl
theorem q1109 : (Jvm.Cond.methodLink "PendulumGym" (264 : Nat) ({ cls := "PendulumGym", name := "wishOf", desc := "(I)I" } : Jvm.MethodName)) ∈ lw_all := lw_g (lw_at lw_m5 82 rfl) rfl
theorem q1110 : (Jvm.Cond.methodLink "PendulumGym" (267 : Nat) ({ cls := "PendulumGym", name := "runner", desc := "(LPendulumGym$RelayTable;LPendulumGym$LegCost;III)I" } : Jvm.MethodName)) ∈ lw_all := lw_g (lw_at lw_m5 83 rfl) rfl
theorem q1111 : (Jvm.Cond.privateMethod ({ cls := "PendulumGym", name := "runner", desc := "(LPendulumGym$RelayTable;LPendulumGym$LegCost;III)I" } : Jvm.MethodName)) ∈ lw_tbl := lw_at lw_m5 84 rfl
theorem q1112 : (Jvm.Cond.instanceMethod ({ cls := "PendulumGym", name := "runner", desc := "(LPendulumGym$RelayTable;LPendulumGym$LegCost;III)I" } : Jvm.MethodName)) ∈ lw_all := lw_g (lw_at lw_m5 85 rfl) rfl
theorem q1113 : (Jvm.Cond.code ({ cls := "PendulumGym", name := "runner", desc := "(LPendulumGym$RelayTable;LPendulumGym$LegCost;III)I" } : Jvm.MethodName) prog_1_method_52_code (8 : Nat) (Option.some Jvm.ClassFile.FieldType.int)) ∈ lw_all := lw_g (lw_at lw_m5 86 rfl) rfl
theorem q1114 : (Jvm.Cond.interfaceEntry "PendulumGym" (271 : Nat)) ∈ lw_tbl := lw_at lw_m5 87 rfl
theorem q1115 : (Jvm.Cond.methodLink "PendulumGym" (271 : Nat) ({ cls := "PendulumGym$LegCost", name := "of", desc := "(II)I" } : Jvm.MethodName)) ∈ lw_all := lw_g (lw_at lw_m5 88 rfl) rfl
theorem q1120 : (Jvm.Cond.instanceMethod ({ cls := "PendulumGym", name := "fewestFor", desc := "(I)I" } : Jvm.MethodName)) ∈ lw_all := lw_g (lw_at lw_m5 93 rfl) rfl
theorem q1121 : (Jvm.Cond.selects "PendulumGym" ({ cls := "PendulumGym", name := "fewestFor", desc := "(I)I" } : Jvm.MethodName) ({ cls := "PendulumGym", name := "fewestFor", desc := "(I)I" } : Jvm.MethodName)) ∈ lw_all := lw_g (lw_at lw_m5 94 rfl) rfl
theorem q1122 : (Jvm.Cond.code ({ cls := "PendulumGym", name := "fewestFor", desc := "(I)I" } : Jvm.MethodName) prog_1_method_55_code (8 : Nat) (Option.some Jvm.ClassFile.FieldType.int)) ∈ lw_all := lw_g (lw_at lw_m5 95 rfl) rfl
theorem q1123 : (Jvm.Cond.methodLink "PendulumGym" (278 : Nat) ({ cls := "PendulumGym", name := "requireSwings", desc := "(II)V" } : Jvm.MethodName)) ∈ lw_all := lw_g (lw_at lw_m5 96 rfl) rfl
theorem q1124 : (Jvm.Cond.static ({ cls := "PendulumGym", name := "requireSwings", desc := "(II)V" } : Jvm.MethodName)) ∈ lw_all := lw_g (lw_at lw_m5 97 rfl) rfl
theorem q1125 : (Jvm.Cond.code ({ cls := "PendulumGym", name := "requireSwings", desc := "(II)V" } : Jvm.MethodName) prog_1_method_54_code (2 : Nat) (Option.none : Option Jvm.ClassFile.FieldType)) ∈ lw_all := lw_g (lw_at lw_m5 98 rfl) rfl
theorem q1126 : (Jvm.Cond.methodLink "PendulumGym" (282 : Nat) ({ cls := "PendulumGym", name := "weekSwings", desc := "()[I" } : Jvm.MethodName)) ∈ lw_all := lw_g (lw_at lw_m5 99 rfl) rfl
theorem q1127 : (Jvm.Cond.privateMethod ({ cls := "PendulumGym", name := "weekSwings", desc := "()[I" } : Jvm.MethodName)) ∈ lw_tbl := lw_at lw_m5 100 rfl
theorem q1128 : (Jvm.Cond.instanceMethod ({ cls := "PendulumGym", name := "weekSwings", desc := "()[I" } : Jvm.MethodName)) ∈ lw_all := lw_g (lw_at lw_m5 101 rfl) rfl
theorem q1129 : (Jvm.Cond.code ({ cls := "PendulumGym", name := "weekSwings", desc := "()[I" } : Jvm.MethodName) prog_1_method_53_code (3 : Nat) (Option.some (Jvm.ClassFile.FieldType.array Jvm.ClassFile.FieldType.int))) ∈ lw_all := lw_g (lw_at lw_m5 102 rfl) rfl
theorem q1130 : (Jvm.Cond.methodLink "PendulumGym" (275 : Nat) ({ cls := "PendulumGym$Pendulum", name := "weekSwings", desc := "()I" } : Jvm.MethodName)) ∈ lw_all := lw_g (lw_at lw_m5 103 rfl) rfl
theorem q1138 : (Jvm.Cond.instanceMethod ({ cls := "PendulumGym", name := "fewestForBySets", desc := "(I)I" } : Jvm.MethodName)) ∈ lw_all := lw_g (lw_at lw_m5 111 rfl) rfl
theorem q1139 : (Jvm.Cond.selects "PendulumGym" ({ cls := "PendulumGym", name := "fewestForBySets", desc := "(I)I" } : Jvm.MethodName) ({ cls := "PendulumGym", name := "fewestForBySets", desc := "(I)I" } : Jvm.MethodName)) ∈ lw_all := lw_g (lw_at lw_m5 112 rfl) rfl
theorem q1140 : (Jvm.Cond.code ({ cls := "PendulumGym", name := "fewestForBySets", desc := "(I)I" } : Jvm.MethodName) prog_1_method_57_code (6 : Nat) (Option.some Jvm.ClassFile.FieldType.int)) ∈ lw_all := lw_g (lw_at lw_m5 113 rfl) rfl
theorem q1141 : (Jvm.Cond.static ({ cls := "PendulumGym", name := "lambda$fewestForBySets$8", desc := "(II)Z" } : Jvm.MethodName)) ∈ lw_all := lw_g (lw_at lw_m5 114 rfl) rfl
theorem q1142 : (Jvm.Cond.code ({ cls := "PendulumGym", name := "lambda$fewestForBySets$8", desc := "(II)Z" } : Jvm.MethodName) prog_1_method_73_code (2 : Nat) (Option.some Jvm.ClassFile.FieldType.boolean)) ∈ lw_all := lw_g (lw_at lw_m5 115 rfl) rfl
theorem q1143 : (Jvm.Cond.methodLink "PendulumGym" (289 : Nat) ({ cls := "PendulumGym", name := "sum", desc := "([II)I" } : Jvm.MethodName)) ∈ lw_all := lw_g (lw_at lw_m5 116 rfl) rfl
theorem q1144 : (Jvm.Cond.static ({ cls := "PendulumGym", name := "sum", desc := "([II)I" } : Jvm.MethodName)) ∈ lw_all := lw_g (lw_at lw_m5 117 rfl) rfl
theorem q1145 : (Jvm.Cond.code ({ cls := "PendulumGym", name := "sum", desc := "([II)I" } : Jvm.MethodName) prog_1_method_56_code (4 : Nat) (Option.some Jvm.ClassFile.FieldType.int)) ∈ lw_all := lw_g (lw_at lw_m5 118 rfl) rfl
theorem q1146 : (Jvm.Cond.interfaceEntry "PendulumGym" (293 : Nat)) ∈ lw_tbl := lw_at lw_m5 119 rfl
theorem q1147 : (Jvm.Cond.methodLink "PendulumGym" (293 : Nat) ({ cls := "PendulumGym$SetTest", name := "holds", desc := "(I)Z" } : Jvm.MethodName)) ∈ lw_all := lw_g (lw_at lw_m5 120 rfl) rfl
theorem q1150 : (Jvm.Cond.methodLink "PendulumGym" (298 : Nat) ({ cls := "java/lang/Integer", name := "bitCount", desc := "(I)I" } : Jvm.MethodName)) ∈ lw_all := lw_g (lw_at lw_m5 123 rfl) rfl
theorem q1151 : (Jvm.Cond.methodLink "PendulumGym" (301 : Nat) ({ cls := "java/lang/Math", name := "min", desc := "(II)I" } : Jvm.MethodName)) ∈ lw_all := lw_g (lw_at lw_m5 124 rfl) rfl
theorem q1156 : (Jvm.Cond.instanceMethod ({ cls := "PendulumGym", name := "exactSets", desc := "(I)I" } : Jvm.MethodName)) ∈ lw_all := lw_g (lw_at lw_m5 129 rfl) rfl
theorem q1157 : (Jvm.Cond.selects "PendulumGym" ({ cls := "PendulumGym", name := "exactSets", desc := "(I)I" } : Jvm.MethodName) ({ cls := "PendulumGym", name := "exactSets", desc := "(I)I" } : Jvm.MethodName)) ∈ lw_all := lw_g (lw_at lw_m5 130 rfl) rfl
theorem q1158 : (Jvm.Cond.code ({ cls := "PendulumGym", name := "exactSets", desc := "(I)I" } : Jvm.MethodName) prog_1_method_58_code (6 : Nat) (Option.some Jvm.ClassFile.FieldType.int)) ∈ lw_all := lw_g (lw_at lw_m5 131 rfl) rfl
theorem q1159 : (Jvm.Cond.static ({ cls := "PendulumGym", name := "lambda$exactSets$9", desc := "(II)Z" } : Jvm.MethodName)) ∈ lw_all := lw_g (lw_at lw_m5 132 rfl) rfl
theorem q1160 : (Jvm.Cond.code ({ cls := "PendulumGym", name := "lambda$exactSets$9", desc := "(II)Z" } : Jvm.MethodName) prog_1_method_72_code (2 : Nat) (Option.some Jvm.ClassFile.FieldType.boolean)) ∈ lw_all := lw_g (lw_at lw_m5 133 rfl) rfl
theorem q1179 : (Jvm.Cond.instanceMethod ({ cls := "PendulumGym", name := "meanAmplitude", desc := "()D" } : Jvm.MethodName)) ∈ lw_all := lw_g (lw_at lw_m5 152 rfl) rfl
theorem q1180 : (Jvm.Cond.selects "PendulumGym" ({ cls := "PendulumGym", name := "meanAmplitude", desc := "()D" } : Jvm.MethodName) ({ cls := "PendulumGym", name := "meanAmplitude", desc := "()D" } : Jvm.MethodName)) ∈ lw_all := lw_g (lw_at lw_m5 153 rfl) rfl
theorem q1181 : (Jvm.Cond.code ({ cls := "PendulumGym", name := "meanAmplitude", desc := "()D" } : Jvm.MethodName) prog_1_method_59_code (5 : Nat) (Option.some Jvm.ClassFile.FieldType.double)) ∈ lw_all := lw_g (lw_at lw_m5 154 rfl) rfl
theorem q1182 : (Jvm.Cond.classLink "PendulumGym" (305 : Nat) "java/lang/ArithmeticException") ∈ lw_all := lw_g (lw_at lw_m5 155 rfl) rfl
theorem q1183 : (Jvm.Cond.methodLink "PendulumGym" (307 : Nat) ({ cls := "java/lang/ArithmeticException", name := "<init>", desc := "()V" } : Jvm.MethodName)) ∈ lw_all := lw_g (lw_at lw_m5 156 rfl) rfl
theorem q1191 : (Jvm.Cond.instanceMethod ({ cls := "PendulumGym", name := "writeCard", desc := "(I)I" } : Jvm.MethodName)) ∈ lw_all := lw_g (lw_at lw_m5 164 rfl) rfl
theorem q1192 : (Jvm.Cond.selects "PendulumGym" ({ cls := "PendulumGym", name := "writeCard", desc := "(I)I" } : Jvm.MethodName) ({ cls := "PendulumGym", name := "writeCard", desc := "(I)I" } : Jvm.MethodName)) ∈ lw_all := lw_g (lw_at lw_m5 165 rfl) rfl
theorem q1193 : (Jvm.Cond.code ({ cls := "PendulumGym", name := "writeCard", desc := "(I)I" } : Jvm.MethodName) prog_1_method_60_code (6 : Nat) (Option.some Jvm.ClassFile.FieldType.int)) ∈ lw_all := lw_g (lw_at lw_m5 166 rfl) rfl
theorem q1194 : (Jvm.Cond.methodLink "PendulumGym" (308 : Nat) ({ cls := "java/lang/StringBuilder", name := "append", desc := "(I)Ljava/lang/StringBuilder;" } : Jvm.MethodName)) ∈ lw_all := lw_g (lw_at lw_m5 167 rfl) rfl
theorem q1267 : (Jvm.Cond.methodLink "PendulumGym" (312 : Nat) ({ cls := "java/lang/StringBuilder", name := "append", desc := "(C)Ljava/lang/StringBuilder;" } : Jvm.MethodName)) ∈ lw_all := lw_g (lw_at lw_m6 0 rfl) rfl
theorem q1306 : (Jvm.Cond.stringRef "PendulumGym" (315 : Nat) "cm ") ∈ lw_tbl := lw_at lw_m6 39 rfl
theorem q1307 : (Jvm.Cond.methodLink "PendulumGym" (317 : Nat) ({ cls := "java/lang/StringBuilder", name := "append", desc := "(Ljava/lang/String;)Ljava/lang/StringBuilder;" } : Jvm.MethodName)) ∈ lw_all := lw_g (lw_at lw_m6 40 rfl) rfl
theorem q1345 : (Jvm.Cond.classLink "PendulumGym" (144 : Nat) "PendulumGym$Swinging") ∈ lw_all := lw_g (lw_at lw_m6 78 rfl) rfl
theorem q1346 : (Jvm.Cond.stringRef "PendulumGym" (326 : Nat) "rest") ∈ lw_tbl := lw_at lw_m6 79 rfl
theorem q1347 : (Jvm.Cond.methodLink "PendulumGym" (328 : Nat) ({ cls := "PendulumGym", name := "classOf", desc := "(I)I" } : Jvm.MethodName)) ∈ lw_all := lw_g (lw_at lw_m6 80 rfl) rfl
theorem q1348 : (Jvm.Cond.methodLink "PendulumGym" (331 : Nat) ({ cls := "java/lang/StringBuilder", name := "toString", desc := "()Ljava/lang/String;" } : Jvm.MethodName)) ∈ lw_all := lw_g (lw_at lw_m6 81 rfl) rfl
theorem q1414 : (Jvm.Cond.methodLink "PendulumGym" (335 : Nat) ({ cls := "java/lang/String", name := "length", desc := "()I" } : Jvm.MethodName)) ∈ lw_all := lw_g (lw_at lw_m6 147 rfl) rfl
theorem q1419 : (Jvm.Cond.instanceMethod ({ cls := "PendulumGym", name := "cardAt", desc := "(I)C" } : Jvm.MethodName)) ∈ lw_all := lw_g (lw_at lw_m6 152 rfl) rfl
theorem q1420 : (Jvm.Cond.selects "PendulumGym" ({ cls := "PendulumGym", name := "cardAt", desc := "(I)C" } : Jvm.MethodName) ({ cls := "PendulumGym", name := "cardAt", desc := "(I)C" } : Jvm.MethodName)) ∈ lw_all := lw_g (lw_at lw_m6 153 rfl) rfl
theorem q1421 : (Jvm.Cond.code ({ cls := "PendulumGym", name := "cardAt", desc := "(I)C" } : Jvm.MethodName) prog_1_method_61_code (2 : Nat) (Option.some Jvm.ClassFile.FieldType.char)) ∈ lw_all := lw_g (lw_at lw_m6 154 rfl) rfl
theorem q1422 : (Jvm.Cond.methodLink "PendulumGym" (339 : Nat) ({ cls := "java/lang/String", name := "charAt", desc := "(I)C" } : Jvm.MethodName)) ∈ lw_all := lw_g (lw_at lw_m6 155 rfl) rfl
theorem q1441 : (Jvm.Cond.instanceMethod ({ cls := "PendulumGym", name := "type", desc := "(C)I" } : Jvm.MethodName)) ∈ lw_all := lw_g (lw_at lw_m6 174 rfl) rfl
theorem q1442 : (Jvm.Cond.selects "PendulumGym" ({ cls := "PendulumGym", name := "type", desc := "(C)I" } : Jvm.MethodName) ({ cls := "PendulumGym", name := "type", desc := "(C)I" } : Jvm.MethodName)) ∈ lw_all := lw_g (lw_at lw_m6 175 rfl) rfl
theorem q1443 : (Jvm.Cond.code ({ cls := "PendulumGym", name := "type", desc := "(C)I" } : Jvm.MethodName) prog_1_method_62_code (2 : Nat) (Option.some Jvm.ClassFile.FieldType.int)) ∈ lw_all := lw_g (lw_at lw_m6 176 rfl) rfl
theorem q1444 : (Jvm.Cond.methodLink "PendulumGym" (343 : Nat) ({ cls := "java/lang/StringBuilder", name := "length", desc := "()I" } : Jvm.MethodName)) ∈ lw_all := lw_g (lw_at lw_m6 177 rfl) rfl
theorem q1449 : (Jvm.Cond.instanceMethod ({ cls := "PendulumGym", name := "execute", desc := "()I" } : Jvm.MethodName)) ∈ lw_all := lw_g (lw_at lw_m6 182 rfl) rfl
theorem q1450 : (Jvm.Cond.selects "PendulumGym" ({ cls := "PendulumGym", name := "execute", desc := "()I" } : Jvm.MethodName) ({ cls := "PendulumGym", name := "execute", desc := "()I" } : Jvm.MethodName)) ∈ lw_all := lw_g (lw_at lw_m6 183 rfl) rfl
theorem q1451 : (Jvm.Cond.codeWith ({ cls := "PendulumGym", name := "execute", desc := "()I" } : Jvm.MethodName) prog_1_method_65_code (3 : Nat) (Option.some Jvm.ClassFile.FieldType.int) [((16 : Nat), (39 : Nat), (40 : Nat), (363 : Nat))]) ∈ lw_all := lw_g (lw_at lw_m6 184 rfl) rfl
theorem q1452 : (Jvm.Cond.classLink "PendulumGym" (363 : Nat) "PendulumGym$SyntaxError") ∈ lw_all := lw_g (lw_at lw_m6 185 rfl) rfl
theorem q1453 : (Jvm.Cond.methodLink "PendulumGym" (348 : Nat) ({ cls := "java/lang/StringBuilder", name := "setLength", desc := "(I)V" } : Jvm.MethodName)) ∈ lw_all := lw_g (lw_at lw_m6 186 rfl) rfl
theorem q1505 : (Jvm.Cond.classLink "PendulumGym" (351 : Nat) "PendulumGym$Parser") ∈ lw_all := lw_g (lw_at lw_m6 238 rfl) rfl
theorem q1507 : (Jvm.Cond.methodLink "PendulumGym" (353 : Nat) ({ cls := "PendulumGym$Parser", name := "<init>", desc := "(Ljava/lang/String;)V" } : Jvm.MethodName)) ∈ lw_all := lw_g (lw_at lw_m7 0 rfl) rfl
theorem q1518 : (Jvm.Cond.methodLink "PendulumGym" (356 : Nat) ({ cls := "PendulumGym$Parser", name := "program", desc := "()Ljava/util/ArrayList;" } : Jvm.MethodName)) ∈ lw_all := lw_g (lw_at lw_m7 11 rfl) rfl
theorem q1561 : (Jvm.Cond.fieldLink "PendulumGym" (365 : Nat) "PendulumGym$SyntaxError" "position" "I") ∈ lw_all := lw_g (lw_at lw_m7 54 rfl) rfl
theorem q1618 : (Jvm.Cond.privateMethod ({ cls := "PendulumGym", name := "lambda$execute$10", desc := "(Ljava/util/ArrayList;LPendulumGym$Gym;)I" } : Jvm.MethodName)) ∈ lw_tbl := lw_at lw_m7 111 rfl
theorem q1619 : (Jvm.Cond.instanceMethod ({ cls := "PendulumGym", name := "lambda$execute$10", desc := "(Ljava/util/ArrayList;LPendulumGym$Gym;)I" } : Jvm.MethodName)) ∈ lw_all := lw_g (lw_at lw_m7 112 rfl) rfl
theorem q1620 : (Jvm.Cond.code ({ cls := "PendulumGym", name := "lambda$execute$10", desc := "(Ljava/util/ArrayList;LPendulumGym$Gym;)I" } : Jvm.MethodName) prog_1_method_71_code (3 : Nat) (Option.some Jvm.ClassFile.FieldType.int)) ∈ lw_all := lw_g (lw_at lw_m7 113 rfl) rfl
theorem q1621 : (Jvm.Cond.methodLink "PendulumGym" (381 : Nat) ({ cls := "PendulumGym", name := "applyAll", desc := "(Ljava/util/ArrayList;LPendulumGym$Gym;)I" } : Jvm.MethodName)) ∈ lw_all := lw_g (lw_at lw_m7 114 rfl) rfl
theorem q1622 : (Jvm.Cond.privateMethod ({ cls := "PendulumGym", name := "applyAll", desc := "(Ljava/util/ArrayList;LPendulumGym$Gym;)I" } : Jvm.MethodName)) ∈ lw_tbl := lw_at lw_m7 115 rfl
theorem q1623 : (Jvm.Cond.instanceMethod ({ cls := "PendulumGym", name := "applyAll", desc := "(Ljava/util/ArrayList;LPendulumGym$Gym;)I" } : Jvm.MethodName)) ∈ lw_all := lw_g (lw_at lw_m7 116 rfl) rfl
theorem q1624 : (Jvm.Cond.code ({ cls := "PendulumGym", name := "applyAll", desc := "(Ljava/util/ArrayList;LPendulumGym$Gym;)I" } : Jvm.MethodName) prog_1_method_64_code (4 : Nat) (Option.some Jvm.ClassFile.FieldType.int)) ∈ lw_all := lw_g (lw_at lw_m7 117 rfl) rfl
theorem q1625 : (Jvm.Cond.classLink "PendulumGym" (56 : Nat) "PendulumGym$Modification") ∈ lw_all := lw_g (lw_at lw_m7 118 rfl) rfl
theorem q1626 : (Jvm.Cond.methodLink "PendulumGym" (344 : Nat) ({ cls := "PendulumGym", name := "applies", desc := "(LPendulumGym$Modification;LPendulumGym$Gym;)Z" } : Jvm.MethodName)) ∈ lw_all := lw_g (lw_at lw_m7 119 rfl) rfl
theorem q1627 : (Jvm.Cond.static ({ cls := "PendulumGym", name := "applies", desc := "(LPendulumGym$Modification;LPendulumGym$Gym;)Z" } : Jvm.MethodName)) ∈ lw_all := lw_g (lw_at lw_m7 120 rfl) rfl
theorem q1628 : (Jvm.Cond.codeWith ({ cls := "PendulumGym", name := "applies", desc := "(LPendulumGym$Modification;LPendulumGym$Gym;)Z" } : Jvm.MethodName) prog_1_method_63_code (3 : Nat) (Option.some Jvm.ClassFile.FieldType.boolean) [((0 : Nat), (9 : Nat), (10 : Nat), (7 : Nat)), ((0 : Nat), (9 : Nat), (10 : Nat), (10 : Nat)), ((0 : Nat), (9 : Nat), (10 : Nat), (1 : Nat))]) ∈ lw_all := lw_g (lw_at lw_m7 121 rfl) rfl
theorem q1633 : (Jvm.Cond.instanceMethod ({ cls := "PendulumGym", name := "errorPosition", desc := "()I" } : Jvm.MethodName)) ∈ lw_all := lw_g (lw_at lw_m7 126 rfl) rfl
theorem q1634 : (Jvm.Cond.selects "PendulumGym" ({ cls := "PendulumGym", name := "errorPosition", desc := "()I" } : Jvm.MethodName) ({ cls := "PendulumGym", name := "errorPosition", desc := "()I" } : Jvm.MethodName)) ∈ lw_all := lw_g (lw_at lw_m7 127 rfl) rfl
theorem q1635 : (Jvm.Cond.code ({ cls := "PendulumGym", name := "errorPosition", desc := "()I" } : Jvm.MethodName) prog_1_method_66_code (1 : Nat) (Option.some Jvm.ClassFile.FieldType.int)) ∈ lw_all := lw_g (lw_at lw_m7 128 rfl) rfl
theorem q1640 : (Jvm.Cond.instanceMethod ({ cls := "PendulumGym", name := "failedCommand", desc := "()I" } : Jvm.MethodName)) ∈ lw_all := lw_g (lw_at lw_m7 133 rfl) rfl
theorem q1641 : (Jvm.Cond.selects "PendulumGym" ({ cls := "PendulumGym", name := "failedCommand", desc := "()I" } : Jvm.MethodName) ({ cls := "PendulumGym", name := "failedCommand", desc := "()I" } : Jvm.MethodName)) ∈ lw_all := lw_g (lw_at lw_m7 134 rfl) rfl
theorem q1642 : (Jvm.Cond.code ({ cls := "PendulumGym", name := "failedCommand", desc := "()I" } : Jvm.MethodName) prog_1_method_67_code (1 : Nat) (Option.some Jvm.ClassFile.FieldType.int)) ∈ lw_all := lw_g (lw_at lw_m7 135 rfl) rfl
theorem q1647 : (Jvm.Cond.instanceMethod ({ cls := "PendulumGym", name := "undo", desc := "()I" } : Jvm.MethodName)) ∈ lw_all := lw_g (lw_at lw_m7 140 rfl) rfl
theorem q1648 : (Jvm.Cond.selects "PendulumGym" ({ cls := "PendulumGym", name := "undo", desc := "()I" } : Jvm.MethodName) ({ cls := "PendulumGym", name := "undo", desc := "()I" } : Jvm.MethodName)) ∈ lw_all := lw_g (lw_at lw_m7 141 rfl) rfl
theorem q1649 : (Jvm.Cond.code ({ cls := "PendulumGym", name := "undo", desc := "()I" } : Jvm.MethodName) prog_1_method_68_code (1 : Nat) (Option.some Jvm.ClassFile.FieldType.int)) ∈ lw_all := lw_g (lw_at lw_m7 142 rfl) rfl
theorem q1650 : (Jvm.Cond.methodLink "PendulumGym" (368 : Nat) ({ cls := "java/util/ArrayDeque", name := "isEmpty", desc := "()Z" } : Jvm.MethodName)) ∈ lw_all := lw_g (lw_at lw_m7 143 rfl) rfl
theorem q1654 : (Jvm.Cond.methodLink "PendulumGym" (372 : Nat) ({ cls := "java/util/ArrayDeque", name := "pop", desc := "()Ljava/lang/Object;" } : Jvm.MethodName)) ∈ lw_all := lw_g (lw_at lw_m7 147 rfl) rfl
theorem q1673 : (Jvm.Cond.instanceMethod ({ cls := "PendulumGym", name := "restore", desc := "()I" } : Jvm.MethodName)) ∈ lw_all := lw_g (lw_at lw_m7 166 rfl) rfl
theorem q1674 : (Jvm.Cond.selects "PendulumGym" ({ cls := "PendulumGym", name := "restore", desc := "()I" } : Jvm.MethodName) ({ cls := "PendulumGym", name := "restore", desc := "()I" } : Jvm.MethodName)) ∈ lw_all := lw_g (lw_at lw_m7 167 rfl) rfl
theorem q1675 : (Jvm.Cond.code ({ cls := "PendulumGym", name := "restore", desc := "()I" } : Jvm.MethodName) prog_1_method_70_code (1 : Nat) (Option.some Jvm.ClassFile.FieldType.int)) ∈ lw_all := lw_g (lw_at lw_m7 168 rfl) rfl
theorem q1676 : (Jvm.Cond.methodLink "PendulumGym" (378 : Nat) ({ cls := "java/util/ArrayDeque", name := "clear", desc := "()V" } : Jvm.MethodName)) ∈ lw_all := lw_g (lw_at lw_m7 169 rfl) rfl
theorem q2121 : (Jvm.Cond.castable "PendulumGym" "java/lang/Object") ∈ lw_tbl := lw_at lw_m9 134 rfl
theorem in_X1 : ∀ w ∈ wsX10, w ∈ lw_all := lw_in wsX10 [233, 235, 237, 239, 241, 243, 245] (by decide +kernel) (by decide +kernel)
/-! PendulumGym$Gym -/
set_option maxRecDepth 100000
def RX2 : String := "PendulumGym$Gym"
def TX2 : u_T := fun k => match k with
  | 0 => ("PendulumGym$Gym", "pendulums", "Ljava/util/ArrayList;", true)
  | 1 => ("PendulumGym$Gym", "legs", "Ljava/util/ArrayList;", true)
  | 2 => ("PendulumGym$Gym", "records", "[I", true)
  | 3 => ("PendulumGym$Gym", "holders", "[I", true)
  | 4 => ("PendulumGym$Gym", "clock", "I", false)
  | _ => ("PendulumGym$Gym", "friction", "I", false)
def tyX2 : Nat → FieldType := fun k => match k with
  | 0 => .object "java/util/ArrayList"
  | 1 => .object "java/util/ArrayList"
  | 2 => .array .int
  | 3 => .array .int
  | 4 => .int
  | _ => .int
abbrev wsX20 : List Cond := u_ws RX2 TX2 6
theorem nmX2 : ∀ a, a < 6 → ∀ b, b < 6 → a ≠ b → (TX2 a).2.1 ≠ (TX2 b).2.1 := by decide +kernel
theorem tyX2_ok : ∀ k, k < 6 → parseFieldDescriptor (TX2 k).2.2.1 = some (tyX2 k) := by decide +kernel
abbrev cX2_init : ByteArray := prog_2_method_1_code
def yX2_init : MethodName := ⟨RX2, "<init>", "()V"⟩
def dkwX2_init_2 : List UInt8 := [27, 6, 162, 0, 16, 42, 180, 0, 25, 27, 2, 79, 132, 1, 1, 167, 255, 241, 177]
abbrev dktX2_init_2 : List UInt8 := dkwX2_init_2 ++ []
def dkwX2_init_1 : List UInt8 := [181, 0, 18, 42, 6, 188, 10, 181, 0, 21, 42, 6, 188, 10, 181, 0, 25, 42, 8, 181, 0, 28, 3, 60]
abbrev dktX2_init_1 : List UInt8 := dkwX2_init_1 ++ dktX2_init_2
def dkwX2_init_0 : List UInt8 := [42, 183, 0, 3, 42, 187, 0, 9, 89, 183, 0, 11, 181, 0, 12, 42, 187, 0, 9, 89, 183, 0, 11]
abbrev dktX2_init_0 : List UInt8 := dkwX2_init_0 ++ dktX2_init_1
theorem dksX2_init_0 : cX2_init.data.toList.drop 0 = dktX2_init_0 := by decide +kernel
theorem dksX2_init_1 : cX2_init.data.toList.drop 23 = dktX2_init_1 := dk_seg dksX2_init_0 23 rfl rfl
theorem dksX2_init_2 : cX2_init.data.toList.drop 47 = dktX2_init_2 := dk_seg dksX2_init_1 24 rfl rfl
theorem dX2_init_0 : decode cX2_init 0 = .ok (.aload_n 0, 1) := dk_42 (dk_at dksX2_init_0 0 rfl rfl)
theorem dX2_init_1 : decode cX2_init 1 = .ok (.invokespecial 3, 3) := dk_183 0 3 (dk_at dksX2_init_0 1 rfl rfl)
theorem dX2_init_4 : decode cX2_init 4 = .ok (.aload_n 0, 1) := dk_42 (dk_at dksX2_init_0 4 rfl rfl)
theorem dX2_init_5 : decode cX2_init 5 = .ok (.new 9, 3) := dk_187 0 9 (dk_at dksX2_init_0 5 rfl rfl)
theorem dX2_init_8 : decode cX2_init 8 = .ok (.dup, 1) := dk_89 (dk_at dksX2_init_0 8 rfl rfl)
theorem dX2_init_9 : decode cX2_init 9 = .ok (.invokespecial 11, 3) := dk_183 0 11 (dk_at dksX2_init_0 9 rfl rfl)
theorem dX2_init_12 : decode cX2_init 12 = .ok (.putfield 12, 3) := dk_181 0 12 (dk_at dksX2_init_0 12 rfl rfl)
theorem dX2_init_15 : decode cX2_init 15 = .ok (.aload_n 0, 1) := dk_42 (dk_at dksX2_init_0 15 rfl rfl)
theorem dX2_init_16 : decode cX2_init 16 = .ok (.new 9, 3) := dk_187 0 9 (dk_at dksX2_init_0 16 rfl rfl)
theorem dX2_init_19 : decode cX2_init 19 = .ok (.dup, 1) := dk_89 (dk_at dksX2_init_0 19 rfl rfl)
theorem dX2_init_20 : decode cX2_init 20 = .ok (.invokespecial 11, 3) := dk_183 0 11 (dk_at dksX2_init_0 20 rfl rfl)
theorem dX2_init_23 : decode cX2_init 23 = .ok (.putfield 18, 3) := dk_181 0 18 (dk_at dksX2_init_1 0 rfl rfl)
theorem dX2_init_26 : decode cX2_init 26 = .ok (.aload_n 0, 1) := dk_42 (dk_at dksX2_init_1 3 rfl rfl)
theorem dX2_init_27 : decode cX2_init 27 = .ok (.iconst 3, 1) := dk_6 (dk_at dksX2_init_1 4 rfl rfl)
theorem dX2_init_28 : decode cX2_init 28 = .ok (.newarray .int, 2) := dk_188_10 (dk_at dksX2_init_1 5 rfl rfl)
theorem dX2_init_30 : decode cX2_init 30 = .ok (.putfield 21, 3) := dk_181 0 21 (dk_at dksX2_init_1 7 rfl rfl)
theorem dX2_init_33 : decode cX2_init 33 = .ok (.aload_n 0, 1) := dk_42 (dk_at dksX2_init_1 10 rfl rfl)
theorem dX2_init_34 : decode cX2_init 34 = .ok (.iconst 3, 1) := dk_6 (dk_at dksX2_init_1 11 rfl rfl)
theorem dX2_init_35 : decode cX2_init 35 = .ok (.newarray .int, 2) := dk_188_10 (dk_at dksX2_init_1 12 rfl rfl)
theorem dX2_init_37 : decode cX2_init 37 = .ok (.putfield 25, 3) := dk_181 0 25 (dk_at dksX2_init_1 14 rfl rfl)
theorem dX2_init_40 : decode cX2_init 40 = .ok (.aload_n 0, 1) := dk_42 (dk_at dksX2_init_1 17 rfl rfl)
theorem dX2_init_41 : decode cX2_init 41 = .ok (.iconst 5, 1) := dk_8 (dk_at dksX2_init_1 18 rfl rfl)
theorem dX2_init_42 : decode cX2_init 42 = .ok (.putfield 28, 3) := dk_181 0 28 (dk_at dksX2_init_1 19 rfl rfl)
theorem dX2_init_45 : decode cX2_init 45 = .ok (.iconst 0, 1) := dk_3 (dk_at dksX2_init_1 22 rfl rfl)
theorem dX2_init_46 : decode cX2_init 46 = .ok (.istore_n 1, 1) := dk_60 (dk_at dksX2_init_1 23 rfl rfl)
theorem dX2_init_47 : decode cX2_init 47 = .ok (.iload_n 1, 1) := dk_27 (dk_at dksX2_init_2 0 rfl rfl)
theorem dX2_init_48 : decode cX2_init 48 = .ok (.iconst 3, 1) := dk_6 (dk_at dksX2_init_2 1 rfl rfl)
theorem dX2_init_49 : decode cX2_init 49 = .ok (.if_icmp .ge 16, 3) := dk_162 0 16 (dk_at dksX2_init_2 2 rfl rfl)
theorem dX2_init_52 : decode cX2_init 52 = .ok (.aload_n 0, 1) := dk_42 (dk_at dksX2_init_2 5 rfl rfl)
theorem dX2_init_53 : decode cX2_init 53 = .ok (.getfield 25, 3) := dk_180 0 25 (dk_at dksX2_init_2 6 rfl rfl)
theorem dX2_init_56 : decode cX2_init 56 = .ok (.iload_n 1, 1) := dk_27 (dk_at dksX2_init_2 9 rfl rfl)
theorem dX2_init_57 : decode cX2_init 57 = .ok (.iconst (-1), 1) := dk_2 (dk_at dksX2_init_2 10 rfl rfl)
theorem dX2_init_58 : decode cX2_init 58 = .ok (.iastore, 1) := dk_79 (dk_at dksX2_init_2 11 rfl rfl)
theorem dX2_init_59 : decode cX2_init 59 = .ok (.iinc 1 1, 3) := dk_132 1 1 (dk_at dksX2_init_2 12 rfl rfl)
theorem dX2_init_62 : decode cX2_init 62 = .ok (.goto (-15), 3) := dk_167 255 241 (dk_at dksX2_init_2 15 rfl rfl)
theorem dX2_init_65 : decode cX2_init 65 = .ok (.return_, 1) := dk_177 (dk_at dksX2_init_2 18 rfl rfl)
abbrev cX2_pendulum : ByteArray := prog_2_method_3_code
def yX2_pendulum : MethodName := ⟨RX2, "pendulum", "(I)LPendulumGym$Pendulum;"⟩
def dkwX2_pendulum_1 : List UInt8 := [182, 0, 37, 192, 0, 41, 176]
abbrev dktX2_pendulum_1 : List UInt8 := dkwX2_pendulum_1 ++ []
def dkwX2_pendulum_0 : List UInt8 := [27, 3, 42, 180, 0, 12, 182, 0, 33, 4, 100, 184, 0, 62, 184, 0, 66, 42, 180, 0, 12, 27]
abbrev dktX2_pendulum_0 : List UInt8 := dkwX2_pendulum_0 ++ dktX2_pendulum_1
theorem dksX2_pendulum_0 : cX2_pendulum.data.toList.drop 0 = dktX2_pendulum_0 := by decide +kernel
theorem dksX2_pendulum_1 : cX2_pendulum.data.toList.drop 22 = dktX2_pendulum_1 := dk_seg dksX2_pendulum_0 22 rfl rfl
theorem dX2_pendulum_0 : decode cX2_pendulum 0 = .ok (.iload_n 1, 1) := dk_27 (dk_at dksX2_pendulum_0 0 rfl rfl)
theorem dX2_pendulum_1 : decode cX2_pendulum 1 = .ok (.iconst 0, 1) := dk_3 (dk_at dksX2_pendulum_0 1 rfl rfl)
theorem dX2_pendulum_2 : decode cX2_pendulum 2 = .ok (.aload_n 0, 1) := dk_42 (dk_at dksX2_pendulum_0 2 rfl rfl)
theorem dX2_pendulum_3 : decode cX2_pendulum 3 = .ok (.getfield 12, 3) := dk_180 0 12 (dk_at dksX2_pendulum_0 3 rfl rfl)
theorem dX2_pendulum_6 : decode cX2_pendulum 6 = .ok (.invokevirtual 33, 3) := dk_182 0 33 (dk_at dksX2_pendulum_0 6 rfl rfl)
theorem dX2_pendulum_9 : decode cX2_pendulum 9 = .ok (.iconst 1, 1) := dk_4 (dk_at dksX2_pendulum_0 9 rfl rfl)
theorem dX2_pendulum_10 : decode cX2_pendulum 10 = .ok (.isub, 1) := dk_100 (dk_at dksX2_pendulum_0 10 rfl rfl)
theorem dX2_pendulum_11 : decode cX2_pendulum 11 = .ok (.invokestatic 62, 3) := dk_184 0 62 (dk_at dksX2_pendulum_0 11 rfl rfl)
theorem dX2_pendulum_14 : decode cX2_pendulum 14 = .ok (.invokestatic 66, 3) := dk_184 0 66 (dk_at dksX2_pendulum_0 14 rfl rfl)
theorem dX2_pendulum_17 : decode cX2_pendulum 17 = .ok (.aload_n 0, 1) := dk_42 (dk_at dksX2_pendulum_0 17 rfl rfl)
theorem dX2_pendulum_18 : decode cX2_pendulum 18 = .ok (.getfield 12, 3) := dk_180 0 12 (dk_at dksX2_pendulum_0 18 rfl rfl)
theorem dX2_pendulum_21 : decode cX2_pendulum 21 = .ok (.iload_n 1, 1) := dk_27 (dk_at dksX2_pendulum_0 21 rfl rfl)
theorem dX2_pendulum_22 : decode cX2_pendulum 22 = .ok (.invokevirtual 37, 3) := dk_182 0 37 (dk_at dksX2_pendulum_1 0 rfl rfl)
theorem dX2_pendulum_25 : decode cX2_pendulum 25 = .ok (.checkcast 41, 3) := dk_192 0 41 (dk_at dksX2_pendulum_1 3 rfl rfl)
theorem dX2_pendulum_28 : decode cX2_pendulum 28 = .ok (.areturn, 1) := dk_176 (dk_at dksX2_pendulum_1 6 rfl rfl)
abbrev cX2_swinging : ByteArray := prog_2_method_4_code
def yX2_swinging : MethodName := ⟨RX2, "swinging", "(LPendulumGym$Pendulum;)LPendulumGym$Swinging;"⟩
def dkwX2_swinging_0 : List UInt8 := [43, 180, 0, 70, 78, 45, 193, 0, 74, 153, 0, 12, 45, 192, 0, 74, 77, 44, 167, 0, 4, 1, 176]
abbrev dktX2_swinging_0 : List UInt8 := dkwX2_swinging_0 ++ []
theorem dksX2_swinging_0 : cX2_swinging.data.toList.drop 0 = dktX2_swinging_0 := by decide +kernel
theorem dX2_swinging_0 : decode cX2_swinging 0 = .ok (.aload_n 1, 1) := dk_43 (dk_at dksX2_swinging_0 0 rfl rfl)
theorem dX2_swinging_1 : decode cX2_swinging 1 = .ok (.getfield 70, 3) := dk_180 0 70 (dk_at dksX2_swinging_0 1 rfl rfl)
theorem dX2_swinging_4 : decode cX2_swinging 4 = .ok (.astore_n 3, 1) := dk_78 (dk_at dksX2_swinging_0 4 rfl rfl)
theorem dX2_swinging_5 : decode cX2_swinging 5 = .ok (.aload_n 3, 1) := dk_45 (dk_at dksX2_swinging_0 5 rfl rfl)
theorem dX2_swinging_6 : decode cX2_swinging 6 = .ok (.instanceof 74, 3) := dk_193 0 74 (dk_at dksX2_swinging_0 6 rfl rfl)
theorem dX2_swinging_9 : decode cX2_swinging 9 = .ok (.ifCond .eq 12, 3) := dk_153 0 12 (dk_at dksX2_swinging_0 9 rfl rfl)
theorem dX2_swinging_12 : decode cX2_swinging 12 = .ok (.aload_n 3, 1) := dk_45 (dk_at dksX2_swinging_0 12 rfl rfl)
theorem dX2_swinging_13 : decode cX2_swinging 13 = .ok (.checkcast 74, 3) := dk_192 0 74 (dk_at dksX2_swinging_0 13 rfl rfl)
theorem dX2_swinging_16 : decode cX2_swinging 16 = .ok (.astore_n 2, 1) := dk_77 (dk_at dksX2_swinging_0 16 rfl rfl)
theorem dX2_swinging_17 : decode cX2_swinging 17 = .ok (.aload_n 2, 1) := dk_44 (dk_at dksX2_swinging_0 17 rfl rfl)
theorem dX2_swinging_18 : decode cX2_swinging 18 = .ok (.goto 4, 3) := dk_167 0 4 (dk_at dksX2_swinging_0 18 rfl rfl)
theorem dX2_swinging_21 : decode cX2_swinging 21 = .ok (.aconst_null, 1) := dk_1 (dk_at dksX2_swinging_0 21 rfl rfl)
theorem dX2_swinging_22 : decode cX2_swinging 22 = .ok (.areturn, 1) := dk_176 (dk_at dksX2_swinging_0 22 rfl rfl)
abbrev cX2_copy : ByteArray := prog_2_method_2_code
def yX2_copy : MethodName := ⟨RX2, "copy", "()LPendulumGym$Gym;"⟩
def dkwX2_copy_5 : List UInt8 := [180, 0, 59, 181, 0, 59, 43, 42, 180, 0, 28, 181, 0, 28, 43, 176]
abbrev dktX2_copy_5 : List UInt8 := dkwX2_copy_5 ++ []
def dkwX2_copy_4 : List UInt8 := [180, 0, 21, 3, 6, 184, 0, 53, 42, 180, 0, 25, 3, 43, 180, 0, 25, 3, 6, 184, 0, 53, 43, 42]
abbrev dktX2_copy_4 : List UInt8 := dkwX2_copy_4 ++ dktX2_copy_5
def dkwX2_copy_3 : List UInt8 := [28, 182, 0, 37, 192, 0, 51, 182, 0, 47, 62, 132, 2, 1, 167, 255, 223, 42, 180, 0, 21, 3, 43]
abbrev dktX2_copy_3 : List UInt8 := dkwX2_copy_3 ++ dktX2_copy_4
def dkwX2_copy_2 : List UInt8 := [167, 255, 220, 3, 61, 28, 42, 180, 0, 18, 182, 0, 33, 162, 0, 28, 43, 180, 0, 18, 42, 180, 0, 18]
abbrev dktX2_copy_2 : List UInt8 := dkwX2_copy_2 ++ dktX2_copy_3
def dkwX2_copy_1 : List UInt8 := [180, 0, 12, 42, 180, 0, 12, 28, 182, 0, 37, 192, 0, 41, 182, 0, 43, 182, 0, 47, 62, 132, 2, 1]
abbrev dktX2_copy_1 : List UInt8 := dkwX2_copy_1 ++ dktX2_copy_2
def dkwX2_copy_0 : List UInt8 := [187, 0, 13, 89, 183, 0, 32, 76, 3, 61, 28, 42, 180, 0, 12, 182, 0, 33, 162, 0, 31, 43]
abbrev dktX2_copy_0 : List UInt8 := dkwX2_copy_0 ++ dktX2_copy_1
theorem dksX2_copy_0 : cX2_copy.data.toList.drop 0 = dktX2_copy_0 := by decide +kernel
theorem dksX2_copy_1 : cX2_copy.data.toList.drop 22 = dktX2_copy_1 := dk_seg dksX2_copy_0 22 rfl rfl
theorem dksX2_copy_2 : cX2_copy.data.toList.drop 46 = dktX2_copy_2 := dk_seg dksX2_copy_1 24 rfl rfl
theorem dksX2_copy_3 : cX2_copy.data.toList.drop 70 = dktX2_copy_3 := dk_seg dksX2_copy_2 24 rfl rfl
theorem dksX2_copy_4 : cX2_copy.data.toList.drop 93 = dktX2_copy_4 := dk_seg dksX2_copy_3 23 rfl rfl
theorem dksX2_copy_5 : cX2_copy.data.toList.drop 117 = dktX2_copy_5 := dk_seg dksX2_copy_4 24 rfl rfl
theorem dX2_copy_0 : decode cX2_copy 0 = .ok (.new 13, 3) := dk_187 0 13 (dk_at dksX2_copy_0 0 rfl rfl)
theorem dX2_copy_3 : decode cX2_copy 3 = .ok (.dup, 1) := dk_89 (dk_at dksX2_copy_0 3 rfl rfl)
theorem dX2_copy_4 : decode cX2_copy 4 = .ok (.invokespecial 32, 3) := dk_183 0 32 (dk_at dksX2_copy_0 4 rfl rfl)
theorem dX2_copy_7 : decode cX2_copy 7 = .ok (.astore_n 1, 1) := dk_76 (dk_at dksX2_copy_0 7 rfl rfl)
theorem dX2_copy_8 : decode cX2_copy 8 = .ok (.iconst 0, 1) := dk_3 (dk_at dksX2_copy_0 8 rfl rfl)
theorem dX2_copy_9 : decode cX2_copy 9 = .ok (.istore_n 2, 1) := dk_61 (dk_at dksX2_copy_0 9 rfl rfl)
theorem dX2_copy_10 : decode cX2_copy 10 = .ok (.iload_n 2, 1) := dk_28 (dk_at dksX2_copy_0 10 rfl rfl)
theorem dX2_copy_11 : decode cX2_copy 11 = .ok (.aload_n 0, 1) := dk_42 (dk_at dksX2_copy_0 11 rfl rfl)
theorem dX2_copy_12 : decode cX2_copy 12 = .ok (.getfield 12, 3) := dk_180 0 12 (dk_at dksX2_copy_0 12 rfl rfl)
theorem dX2_copy_15 : decode cX2_copy 15 = .ok (.invokevirtual 33, 3) := dk_182 0 33 (dk_at dksX2_copy_0 15 rfl rfl)
theorem dX2_copy_18 : decode cX2_copy 18 = .ok (.if_icmp .ge 31, 3) := dk_162 0 31 (dk_at dksX2_copy_0 18 rfl rfl)
theorem dX2_copy_21 : decode cX2_copy 21 = .ok (.aload_n 1, 1) := dk_43 (dk_at dksX2_copy_0 21 rfl rfl)
theorem dX2_copy_22 : decode cX2_copy 22 = .ok (.getfield 12, 3) := dk_180 0 12 (dk_at dksX2_copy_1 0 rfl rfl)
theorem dX2_copy_25 : decode cX2_copy 25 = .ok (.aload_n 0, 1) := dk_42 (dk_at dksX2_copy_1 3 rfl rfl)
theorem dX2_copy_26 : decode cX2_copy 26 = .ok (.getfield 12, 3) := dk_180 0 12 (dk_at dksX2_copy_1 4 rfl rfl)
theorem dX2_copy_29 : decode cX2_copy 29 = .ok (.iload_n 2, 1) := dk_28 (dk_at dksX2_copy_1 7 rfl rfl)
theorem dX2_copy_30 : decode cX2_copy 30 = .ok (.invokevirtual 37, 3) := dk_182 0 37 (dk_at dksX2_copy_1 8 rfl rfl)
theorem dX2_copy_33 : decode cX2_copy 33 = .ok (.checkcast 41, 3) := dk_192 0 41 (dk_at dksX2_copy_1 11 rfl rfl)
theorem dX2_copy_36 : decode cX2_copy 36 = .ok (.invokevirtual 43, 3) := dk_182 0 43 (dk_at dksX2_copy_1 14 rfl rfl)
theorem dX2_copy_39 : decode cX2_copy 39 = .ok (.invokevirtual 47, 3) := dk_182 0 47 (dk_at dksX2_copy_1 17 rfl rfl)
theorem dX2_copy_42 : decode cX2_copy 42 = .ok (.istore_n 3, 1) := dk_62 (dk_at dksX2_copy_1 20 rfl rfl)
theorem dX2_copy_43 : decode cX2_copy 43 = .ok (.iinc 2 1, 3) := dk_132 2 1 (dk_at dksX2_copy_1 21 rfl rfl)
theorem dX2_copy_46 : decode cX2_copy 46 = .ok (.goto (-36), 3) := dk_167 255 220 (dk_at dksX2_copy_2 0 rfl rfl)
theorem dX2_copy_49 : decode cX2_copy 49 = .ok (.iconst 0, 1) := dk_3 (dk_at dksX2_copy_2 3 rfl rfl)
theorem dX2_copy_50 : decode cX2_copy 50 = .ok (.istore_n 2, 1) := dk_61 (dk_at dksX2_copy_2 4 rfl rfl)
theorem dX2_copy_51 : decode cX2_copy 51 = .ok (.iload_n 2, 1) := dk_28 (dk_at dksX2_copy_2 5 rfl rfl)
theorem dX2_copy_52 : decode cX2_copy 52 = .ok (.aload_n 0, 1) := dk_42 (dk_at dksX2_copy_2 6 rfl rfl)
theorem dX2_copy_53 : decode cX2_copy 53 = .ok (.getfield 18, 3) := dk_180 0 18 (dk_at dksX2_copy_2 7 rfl rfl)
theorem dX2_copy_56 : decode cX2_copy 56 = .ok (.invokevirtual 33, 3) := dk_182 0 33 (dk_at dksX2_copy_2 10 rfl rfl)
theorem dX2_copy_59 : decode cX2_copy 59 = .ok (.if_icmp .ge 28, 3) := dk_162 0 28 (dk_at dksX2_copy_2 13 rfl rfl)
theorem dX2_copy_62 : decode cX2_copy 62 = .ok (.aload_n 1, 1) := dk_43 (dk_at dksX2_copy_2 16 rfl rfl)
theorem dX2_copy_63 : decode cX2_copy 63 = .ok (.getfield 18, 3) := dk_180 0 18 (dk_at dksX2_copy_2 17 rfl rfl)
theorem dX2_copy_66 : decode cX2_copy 66 = .ok (.aload_n 0, 1) := dk_42 (dk_at dksX2_copy_2 20 rfl rfl)
theorem dX2_copy_67 : decode cX2_copy 67 = .ok (.getfield 18, 3) := dk_180 0 18 (dk_at dksX2_copy_2 21 rfl rfl)
theorem dX2_copy_70 : decode cX2_copy 70 = .ok (.iload_n 2, 1) := dk_28 (dk_at dksX2_copy_3 0 rfl rfl)
theorem dX2_copy_71 : decode cX2_copy 71 = .ok (.invokevirtual 37, 3) := dk_182 0 37 (dk_at dksX2_copy_3 1 rfl rfl)
theorem dX2_copy_74 : decode cX2_copy 74 = .ok (.checkcast 51, 3) := dk_192 0 51 (dk_at dksX2_copy_3 4 rfl rfl)
theorem dX2_copy_77 : decode cX2_copy 77 = .ok (.invokevirtual 47, 3) := dk_182 0 47 (dk_at dksX2_copy_3 7 rfl rfl)
theorem dX2_copy_80 : decode cX2_copy 80 = .ok (.istore_n 3, 1) := dk_62 (dk_at dksX2_copy_3 10 rfl rfl)
theorem dX2_copy_81 : decode cX2_copy 81 = .ok (.iinc 2 1, 3) := dk_132 2 1 (dk_at dksX2_copy_3 11 rfl rfl)
theorem dX2_copy_84 : decode cX2_copy 84 = .ok (.goto (-33), 3) := dk_167 255 223 (dk_at dksX2_copy_3 14 rfl rfl)
theorem dX2_copy_87 : decode cX2_copy 87 = .ok (.aload_n 0, 1) := dk_42 (dk_at dksX2_copy_3 17 rfl rfl)
theorem dX2_copy_88 : decode cX2_copy 88 = .ok (.getfield 21, 3) := dk_180 0 21 (dk_at dksX2_copy_3 18 rfl rfl)
theorem dX2_copy_91 : decode cX2_copy 91 = .ok (.iconst 0, 1) := dk_3 (dk_at dksX2_copy_3 21 rfl rfl)
theorem dX2_copy_92 : decode cX2_copy 92 = .ok (.aload_n 1, 1) := dk_43 (dk_at dksX2_copy_3 22 rfl rfl)
theorem dX2_copy_93 : decode cX2_copy 93 = .ok (.getfield 21, 3) := dk_180 0 21 (dk_at dksX2_copy_4 0 rfl rfl)
theorem dX2_copy_96 : decode cX2_copy 96 = .ok (.iconst 0, 1) := dk_3 (dk_at dksX2_copy_4 3 rfl rfl)
theorem dX2_copy_97 : decode cX2_copy 97 = .ok (.iconst 3, 1) := dk_6 (dk_at dksX2_copy_4 4 rfl rfl)
theorem dX2_copy_98 : decode cX2_copy 98 = .ok (.invokestatic 53, 3) := dk_184 0 53 (dk_at dksX2_copy_4 5 rfl rfl)
theorem dX2_copy_101 : decode cX2_copy 101 = .ok (.aload_n 0, 1) := dk_42 (dk_at dksX2_copy_4 8 rfl rfl)
theorem dX2_copy_102 : decode cX2_copy 102 = .ok (.getfield 25, 3) := dk_180 0 25 (dk_at dksX2_copy_4 9 rfl rfl)
theorem dX2_copy_105 : decode cX2_copy 105 = .ok (.iconst 0, 1) := dk_3 (dk_at dksX2_copy_4 12 rfl rfl)
theorem dX2_copy_106 : decode cX2_copy 106 = .ok (.aload_n 1, 1) := dk_43 (dk_at dksX2_copy_4 13 rfl rfl)
theorem dX2_copy_107 : decode cX2_copy 107 = .ok (.getfield 25, 3) := dk_180 0 25 (dk_at dksX2_copy_4 14 rfl rfl)
theorem dX2_copy_110 : decode cX2_copy 110 = .ok (.iconst 0, 1) := dk_3 (dk_at dksX2_copy_4 17 rfl rfl)
theorem dX2_copy_111 : decode cX2_copy 111 = .ok (.iconst 3, 1) := dk_6 (dk_at dksX2_copy_4 18 rfl rfl)
theorem dX2_copy_112 : decode cX2_copy 112 = .ok (.invokestatic 53, 3) := dk_184 0 53 (dk_at dksX2_copy_4 19 rfl rfl)
theorem dX2_copy_115 : decode cX2_copy 115 = .ok (.aload_n 1, 1) := dk_43 (dk_at dksX2_copy_4 22 rfl rfl)
theorem dX2_copy_116 : decode cX2_copy 116 = .ok (.aload_n 0, 1) := dk_42 (dk_at dksX2_copy_4 23 rfl rfl)
theorem dX2_copy_117 : decode cX2_copy 117 = .ok (.getfield 59, 3) := dk_180 0 59 (dk_at dksX2_copy_5 0 rfl rfl)
theorem dX2_copy_120 : decode cX2_copy 120 = .ok (.putfield 59, 3) := dk_181 0 59 (dk_at dksX2_copy_5 3 rfl rfl)
theorem dX2_copy_123 : decode cX2_copy 123 = .ok (.aload_n 1, 1) := dk_43 (dk_at dksX2_copy_5 6 rfl rfl)
theorem dX2_copy_124 : decode cX2_copy 124 = .ok (.aload_n 0, 1) := dk_42 (dk_at dksX2_copy_5 7 rfl rfl)
theorem dX2_copy_125 : decode cX2_copy 125 = .ok (.getfield 28, 3) := dk_180 0 28 (dk_at dksX2_copy_5 8 rfl rfl)
theorem dX2_copy_128 : decode cX2_copy 128 = .ok (.putfield 28, 3) := dk_181 0 28 (dk_at dksX2_copy_5 11 rfl rfl)
theorem dX2_copy_131 : decode cX2_copy 131 = .ok (.aload_n 1, 1) := dk_43 (dk_at dksX2_copy_5 14 rfl rfl)
theorem dX2_copy_132 : decode cX2_copy 132 = .ok (.areturn, 1) := dk_176 (dk_at dksX2_copy_5 15 rfl rfl)
abbrev cX2_addPendulum : ByteArray := prog_2_method_5_code
def yX2_addPendulum : MethodName := ⟨RX2, "addPendulum", "(I)I"⟩
def dkwX2_addPendulum_2 : List UInt8 := [183, 0, 82, 182, 0, 47, 61, 42, 180, 0, 12, 182, 0, 33, 4, 100, 172]
abbrev dktX2_addPendulum_2 : List UInt8 := dkwX2_addPendulum_2 ++ []
def dkwX2_addPendulum_1 : List UInt8 := [167, 0, 4, 3, 184, 0, 79, 42, 180, 0, 12, 187, 0, 41, 89, 42, 180, 0, 12, 182, 0, 33, 27]
abbrev dktX2_addPendulum_1 : List UInt8 := dkwX2_addPendulum_1 ++ dktX2_addPendulum_2
def dkwX2_addPendulum_0 : List UInt8 := [27, 4, 16, 99, 184, 0, 62, 184, 0, 76, 42, 180, 0, 12, 182, 0, 33, 16, 8, 162, 0, 7, 4]
abbrev dktX2_addPendulum_0 : List UInt8 := dkwX2_addPendulum_0 ++ dktX2_addPendulum_1
theorem dksX2_addPendulum_0 : cX2_addPendulum.data.toList.drop 0 = dktX2_addPendulum_0 := by decide +kernel
theorem dksX2_addPendulum_1 : cX2_addPendulum.data.toList.drop 23 = dktX2_addPendulum_1 := dk_seg dksX2_addPendulum_0 23 rfl rfl
theorem dksX2_addPendulum_2 : cX2_addPendulum.data.toList.drop 46 = dktX2_addPendulum_2 := dk_seg dksX2_addPendulum_1 23 rfl rfl
theorem dX2_addPendulum_0 : decode cX2_addPendulum 0 = .ok (.iload_n 1, 1) := dk_27 (dk_at dksX2_addPendulum_0 0 rfl rfl)
theorem dX2_addPendulum_1 : decode cX2_addPendulum 1 = .ok (.iconst 1, 1) := dk_4 (dk_at dksX2_addPendulum_0 1 rfl rfl)
theorem dX2_addPendulum_2 : decode cX2_addPendulum 2 = .ok (.bipush 99, 2) := dk_16 99 (dk_at dksX2_addPendulum_0 2 rfl rfl)
theorem dX2_addPendulum_4 : decode cX2_addPendulum 4 = .ok (.invokestatic 62, 3) := dk_184 0 62 (dk_at dksX2_addPendulum_0 4 rfl rfl)
theorem dX2_addPendulum_7 : decode cX2_addPendulum 7 = .ok (.invokestatic 76, 3) := dk_184 0 76 (dk_at dksX2_addPendulum_0 7 rfl rfl)
theorem dX2_addPendulum_10 : decode cX2_addPendulum 10 = .ok (.aload_n 0, 1) := dk_42 (dk_at dksX2_addPendulum_0 10 rfl rfl)
theorem dX2_addPendulum_11 : decode cX2_addPendulum 11 = .ok (.getfield 12, 3) := dk_180 0 12 (dk_at dksX2_addPendulum_0 11 rfl rfl)
theorem dX2_addPendulum_14 : decode cX2_addPendulum 14 = .ok (.invokevirtual 33, 3) := dk_182 0 33 (dk_at dksX2_addPendulum_0 14 rfl rfl)
theorem dX2_addPendulum_17 : decode cX2_addPendulum 17 = .ok (.bipush 8, 2) := dk_16 8 (dk_at dksX2_addPendulum_0 17 rfl rfl)
theorem dX2_addPendulum_19 : decode cX2_addPendulum 19 = .ok (.if_icmp .ge 7, 3) := dk_162 0 7 (dk_at dksX2_addPendulum_0 19 rfl rfl)
theorem dX2_addPendulum_22 : decode cX2_addPendulum 22 = .ok (.iconst 1, 1) := dk_4 (dk_at dksX2_addPendulum_0 22 rfl rfl)
theorem dX2_addPendulum_23 : decode cX2_addPendulum 23 = .ok (.goto 4, 3) := dk_167 0 4 (dk_at dksX2_addPendulum_1 0 rfl rfl)
theorem dX2_addPendulum_26 : decode cX2_addPendulum 26 = .ok (.iconst 0, 1) := dk_3 (dk_at dksX2_addPendulum_1 3 rfl rfl)
theorem dX2_addPendulum_27 : decode cX2_addPendulum 27 = .ok (.invokestatic 79, 3) := dk_184 0 79 (dk_at dksX2_addPendulum_1 4 rfl rfl)
theorem dX2_addPendulum_30 : decode cX2_addPendulum 30 = .ok (.aload_n 0, 1) := dk_42 (dk_at dksX2_addPendulum_1 7 rfl rfl)
theorem dX2_addPendulum_31 : decode cX2_addPendulum 31 = .ok (.getfield 12, 3) := dk_180 0 12 (dk_at dksX2_addPendulum_1 8 rfl rfl)
theorem dX2_addPendulum_34 : decode cX2_addPendulum 34 = .ok (.new 41, 3) := dk_187 0 41 (dk_at dksX2_addPendulum_1 11 rfl rfl)
theorem dX2_addPendulum_37 : decode cX2_addPendulum 37 = .ok (.dup, 1) := dk_89 (dk_at dksX2_addPendulum_1 14 rfl rfl)
theorem dX2_addPendulum_38 : decode cX2_addPendulum 38 = .ok (.aload_n 0, 1) := dk_42 (dk_at dksX2_addPendulum_1 15 rfl rfl)
theorem dX2_addPendulum_39 : decode cX2_addPendulum 39 = .ok (.getfield 12, 3) := dk_180 0 12 (dk_at dksX2_addPendulum_1 16 rfl rfl)
theorem dX2_addPendulum_42 : decode cX2_addPendulum 42 = .ok (.invokevirtual 33, 3) := dk_182 0 33 (dk_at dksX2_addPendulum_1 19 rfl rfl)
theorem dX2_addPendulum_45 : decode cX2_addPendulum 45 = .ok (.iload_n 1, 1) := dk_27 (dk_at dksX2_addPendulum_1 22 rfl rfl)
theorem dX2_addPendulum_46 : decode cX2_addPendulum 46 = .ok (.invokespecial 82, 3) := dk_183 0 82 (dk_at dksX2_addPendulum_2 0 rfl rfl)
theorem dX2_addPendulum_49 : decode cX2_addPendulum 49 = .ok (.invokevirtual 47, 3) := dk_182 0 47 (dk_at dksX2_addPendulum_2 3 rfl rfl)
theorem dX2_addPendulum_52 : decode cX2_addPendulum 52 = .ok (.istore_n 2, 1) := dk_61 (dk_at dksX2_addPendulum_2 6 rfl rfl)
theorem dX2_addPendulum_53 : decode cX2_addPendulum 53 = .ok (.aload_n 0, 1) := dk_42 (dk_at dksX2_addPendulum_2 7 rfl rfl)
theorem dX2_addPendulum_54 : decode cX2_addPendulum 54 = .ok (.getfield 12, 3) := dk_180 0 12 (dk_at dksX2_addPendulum_2 8 rfl rfl)
theorem dX2_addPendulum_57 : decode cX2_addPendulum 57 = .ok (.invokevirtual 33, 3) := dk_182 0 33 (dk_at dksX2_addPendulum_2 11 rfl rfl)
theorem dX2_addPendulum_60 : decode cX2_addPendulum 60 = .ok (.iconst 1, 1) := dk_4 (dk_at dksX2_addPendulum_2 14 rfl rfl)
theorem dX2_addPendulum_61 : decode cX2_addPendulum 61 = .ok (.isub, 1) := dk_100 (dk_at dksX2_addPendulum_2 15 rfl rfl)
theorem dX2_addPendulum_62 : decode cX2_addPendulum 62 = .ok (.ireturn, 1) := dk_172 (dk_at dksX2_addPendulum_2 16 rfl rfl)
abbrev cX2_push : ByteArray := prog_2_method_6_code
def yX2_push : MethodName := ⟨RX2, "push", "(II)I"⟩
def dkwX2_push_5 : List UInt8 := [21, 4, 172]
abbrev dktX2_push_5 : List UInt8 := dkwX2_push_5 ++ []
def dkwX2_push_4 : List UInt8 := [21, 5, 46, 164, 0, 20, 42, 180, 0, 21, 21, 5, 21, 4, 79, 42, 180, 0, 25, 21, 5, 27, 79]
abbrev dktX2_push_4 : List UInt8 := dkwX2_push_4 ++ dktX2_push_5
def dkwX2_push_3 : List UInt8 := [180, 0, 59, 167, 0, 8, 25, 6, 180, 0, 108, 183, 0, 111, 181, 0, 70, 21, 4, 42, 180, 0, 21]
abbrev dktX2_push_3 : List UInt8 := dkwX2_push_3 ++ dktX2_push_4
def dkwX2_push_2 : List UInt8 := [184, 0, 79, 42, 45, 182, 0, 104, 58, 6, 45, 187, 0, 74, 89, 21, 4, 25, 6, 199, 0, 10, 42]
abbrev dktX2_push_2 : List UInt8 := dkwX2_push_2 ++ dktX2_push_3
def dkwX2_push_1 : List UInt8 := [45, 180, 0, 92, 184, 0, 95, 182, 0, 101, 54, 5, 21, 4, 16, 60, 163, 0, 7, 4, 167, 0, 4, 3]
abbrev dktX2_push_1 : List UInt8 := dkwX2_push_1 ++ dktX2_push_2
def dkwX2_push_0 : List UInt8 := [42, 27, 182, 0, 85, 78, 28, 4, 16, 60, 184, 0, 62, 184, 0, 76, 45, 182, 0, 89, 28, 96, 54, 4]
abbrev dktX2_push_0 : List UInt8 := dkwX2_push_0 ++ dktX2_push_1
theorem dksX2_push_0 : cX2_push.data.toList.drop 0 = dktX2_push_0 := by decide +kernel
theorem dksX2_push_1 : cX2_push.data.toList.drop 24 = dktX2_push_1 := dk_seg dksX2_push_0 24 rfl rfl
theorem dksX2_push_2 : cX2_push.data.toList.drop 48 = dktX2_push_2 := dk_seg dksX2_push_1 24 rfl rfl
theorem dksX2_push_3 : cX2_push.data.toList.drop 71 = dktX2_push_3 := dk_seg dksX2_push_2 23 rfl rfl
theorem dksX2_push_4 : cX2_push.data.toList.drop 94 = dktX2_push_4 := dk_seg dksX2_push_3 23 rfl rfl
theorem dksX2_push_5 : cX2_push.data.toList.drop 117 = dktX2_push_5 := dk_seg dksX2_push_4 23 rfl rfl
theorem dX2_push_0 : decode cX2_push 0 = .ok (.aload_n 0, 1) := dk_42 (dk_at dksX2_push_0 0 rfl rfl)
theorem dX2_push_1 : decode cX2_push 1 = .ok (.iload_n 1, 1) := dk_27 (dk_at dksX2_push_0 1 rfl rfl)
theorem dX2_push_2 : decode cX2_push 2 = .ok (.invokevirtual 85, 3) := dk_182 0 85 (dk_at dksX2_push_0 2 rfl rfl)
theorem dX2_push_5 : decode cX2_push 5 = .ok (.astore_n 3, 1) := dk_78 (dk_at dksX2_push_0 5 rfl rfl)
theorem dX2_push_6 : decode cX2_push 6 = .ok (.iload_n 2, 1) := dk_28 (dk_at dksX2_push_0 6 rfl rfl)
theorem dX2_push_7 : decode cX2_push 7 = .ok (.iconst 1, 1) := dk_4 (dk_at dksX2_push_0 7 rfl rfl)
theorem dX2_push_8 : decode cX2_push 8 = .ok (.bipush 60, 2) := dk_16 60 (dk_at dksX2_push_0 8 rfl rfl)
theorem dX2_push_10 : decode cX2_push 10 = .ok (.invokestatic 62, 3) := dk_184 0 62 (dk_at dksX2_push_0 10 rfl rfl)
theorem dX2_push_13 : decode cX2_push 13 = .ok (.invokestatic 76, 3) := dk_184 0 76 (dk_at dksX2_push_0 13 rfl rfl)
theorem dX2_push_16 : decode cX2_push 16 = .ok (.aload_n 3, 1) := dk_45 (dk_at dksX2_push_0 16 rfl rfl)
theorem dX2_push_17 : decode cX2_push 17 = .ok (.invokevirtual 89, 3) := dk_182 0 89 (dk_at dksX2_push_0 17 rfl rfl)
theorem dX2_push_20 : decode cX2_push 20 = .ok (.iload_n 2, 1) := dk_28 (dk_at dksX2_push_0 20 rfl rfl)
theorem dX2_push_21 : decode cX2_push 21 = .ok (.iadd, 1) := dk_96 (dk_at dksX2_push_0 21 rfl rfl)
theorem dX2_push_22 : decode cX2_push 22 = .ok (.istore 4, 2) := dk_54 4 (dk_at dksX2_push_0 22 rfl rfl)
theorem dX2_push_24 : decode cX2_push 24 = .ok (.aload_n 3, 1) := dk_45 (dk_at dksX2_push_1 0 rfl rfl)
theorem dX2_push_25 : decode cX2_push 25 = .ok (.getfield 92, 3) := dk_180 0 92 (dk_at dksX2_push_1 1 rfl rfl)
theorem dX2_push_28 : decode cX2_push 28 = .ok (.invokestatic 95, 3) := dk_184 0 95 (dk_at dksX2_push_1 4 rfl rfl)
theorem dX2_push_31 : decode cX2_push 31 = .ok (.invokevirtual 101, 3) := dk_182 0 101 (dk_at dksX2_push_1 7 rfl rfl)
theorem dX2_push_34 : decode cX2_push 34 = .ok (.istore 5, 2) := dk_54 5 (dk_at dksX2_push_1 10 rfl rfl)
theorem dX2_push_36 : decode cX2_push 36 = .ok (.iload 4, 2) := dk_21 4 (dk_at dksX2_push_1 12 rfl rfl)
theorem dX2_push_38 : decode cX2_push 38 = .ok (.bipush 60, 2) := dk_16 60 (dk_at dksX2_push_1 14 rfl rfl)
theorem dX2_push_40 : decode cX2_push 40 = .ok (.if_icmp .gt 7, 3) := dk_163 0 7 (dk_at dksX2_push_1 16 rfl rfl)
theorem dX2_push_43 : decode cX2_push 43 = .ok (.iconst 1, 1) := dk_4 (dk_at dksX2_push_1 19 rfl rfl)
theorem dX2_push_44 : decode cX2_push 44 = .ok (.goto 4, 3) := dk_167 0 4 (dk_at dksX2_push_1 20 rfl rfl)
theorem dX2_push_47 : decode cX2_push 47 = .ok (.iconst 0, 1) := dk_3 (dk_at dksX2_push_1 23 rfl rfl)
theorem dX2_push_48 : decode cX2_push 48 = .ok (.invokestatic 79, 3) := dk_184 0 79 (dk_at dksX2_push_2 0 rfl rfl)
theorem dX2_push_51 : decode cX2_push 51 = .ok (.aload_n 0, 1) := dk_42 (dk_at dksX2_push_2 3 rfl rfl)
theorem dX2_push_52 : decode cX2_push 52 = .ok (.aload_n 3, 1) := dk_45 (dk_at dksX2_push_2 4 rfl rfl)
theorem dX2_push_53 : decode cX2_push 53 = .ok (.invokevirtual 104, 3) := dk_182 0 104 (dk_at dksX2_push_2 5 rfl rfl)
theorem dX2_push_56 : decode cX2_push 56 = .ok (.astore 6, 2) := dk_58 6 (dk_at dksX2_push_2 8 rfl rfl)
theorem dX2_push_58 : decode cX2_push 58 = .ok (.aload_n 3, 1) := dk_45 (dk_at dksX2_push_2 10 rfl rfl)
theorem dX2_push_59 : decode cX2_push 59 = .ok (.new 74, 3) := dk_187 0 74 (dk_at dksX2_push_2 11 rfl rfl)
theorem dX2_push_62 : decode cX2_push 62 = .ok (.dup, 1) := dk_89 (dk_at dksX2_push_2 14 rfl rfl)
theorem dX2_push_63 : decode cX2_push 63 = .ok (.iload 4, 2) := dk_21 4 (dk_at dksX2_push_2 15 rfl rfl)
theorem dX2_push_65 : decode cX2_push 65 = .ok (.aload 6, 2) := dk_25 6 (dk_at dksX2_push_2 17 rfl rfl)
theorem dX2_push_67 : decode cX2_push 67 = .ok (.ifnonnull 10, 3) := dk_199 0 10 (dk_at dksX2_push_2 19 rfl rfl)
theorem dX2_push_70 : decode cX2_push 70 = .ok (.aload_n 0, 1) := dk_42 (dk_at dksX2_push_2 22 rfl rfl)
theorem dX2_push_71 : decode cX2_push 71 = .ok (.getfield 59, 3) := dk_180 0 59 (dk_at dksX2_push_3 0 rfl rfl)
theorem dX2_push_74 : decode cX2_push 74 = .ok (.goto 8, 3) := dk_167 0 8 (dk_at dksX2_push_3 3 rfl rfl)
theorem dX2_push_77 : decode cX2_push 77 = .ok (.aload 6, 2) := dk_25 6 (dk_at dksX2_push_3 6 rfl rfl)
theorem dX2_push_79 : decode cX2_push 79 = .ok (.getfield 108, 3) := dk_180 0 108 (dk_at dksX2_push_3 8 rfl rfl)
theorem dX2_push_82 : decode cX2_push 82 = .ok (.invokespecial 111, 3) := dk_183 0 111 (dk_at dksX2_push_3 11 rfl rfl)
theorem dX2_push_85 : decode cX2_push 85 = .ok (.putfield 70, 3) := dk_181 0 70 (dk_at dksX2_push_3 14 rfl rfl)
theorem dX2_push_88 : decode cX2_push 88 = .ok (.iload 4, 2) := dk_21 4 (dk_at dksX2_push_3 17 rfl rfl)
theorem dX2_push_90 : decode cX2_push 90 = .ok (.aload_n 0, 1) := dk_42 (dk_at dksX2_push_3 19 rfl rfl)
theorem dX2_push_91 : decode cX2_push 91 = .ok (.getfield 21, 3) := dk_180 0 21 (dk_at dksX2_push_3 20 rfl rfl)
theorem dX2_push_94 : decode cX2_push 94 = .ok (.iload 5, 2) := dk_21 5 (dk_at dksX2_push_4 0 rfl rfl)
theorem dX2_push_96 : decode cX2_push 96 = .ok (.iaload, 1) := dk_46 (dk_at dksX2_push_4 2 rfl rfl)
theorem dX2_push_97 : decode cX2_push 97 = .ok (.if_icmp .le 20, 3) := dk_164 0 20 (dk_at dksX2_push_4 3 rfl rfl)
theorem dX2_push_100 : decode cX2_push 100 = .ok (.aload_n 0, 1) := dk_42 (dk_at dksX2_push_4 6 rfl rfl)
theorem dX2_push_101 : decode cX2_push 101 = .ok (.getfield 21, 3) := dk_180 0 21 (dk_at dksX2_push_4 7 rfl rfl)
theorem dX2_push_104 : decode cX2_push 104 = .ok (.iload 5, 2) := dk_21 5 (dk_at dksX2_push_4 10 rfl rfl)
theorem dX2_push_106 : decode cX2_push 106 = .ok (.iload 4, 2) := dk_21 4 (dk_at dksX2_push_4 12 rfl rfl)
theorem dX2_push_108 : decode cX2_push 108 = .ok (.iastore, 1) := dk_79 (dk_at dksX2_push_4 14 rfl rfl)
theorem dX2_push_109 : decode cX2_push 109 = .ok (.aload_n 0, 1) := dk_42 (dk_at dksX2_push_4 15 rfl rfl)
theorem dX2_push_110 : decode cX2_push 110 = .ok (.getfield 25, 3) := dk_180 0 25 (dk_at dksX2_push_4 16 rfl rfl)
theorem dX2_push_113 : decode cX2_push 113 = .ok (.iload 5, 2) := dk_21 5 (dk_at dksX2_push_4 19 rfl rfl)
theorem dX2_push_115 : decode cX2_push 115 = .ok (.iload_n 1, 1) := dk_27 (dk_at dksX2_push_4 21 rfl rfl)
theorem dX2_push_116 : decode cX2_push 116 = .ok (.iastore, 1) := dk_79 (dk_at dksX2_push_4 22 rfl rfl)
theorem dX2_push_117 : decode cX2_push 117 = .ok (.iload 4, 2) := dk_21 4 (dk_at dksX2_push_5 0 rfl rfl)
theorem dX2_push_119 : decode cX2_push 119 = .ok (.ireturn, 1) := dk_172 (dk_at dksX2_push_5 2 rfl rfl)
abbrev cX2_catchPendulum : ByteArray := prog_2_method_7_code
def yX2_catchPendulum : MethodName := ⟨RX2, "catchPendulum", "(I)I"⟩
def dkwX2_catchPendulum_1 : List UInt8 := [187, 0, 112, 89, 183, 0, 114, 181, 0, 70, 29, 172]
abbrev dktX2_catchPendulum_1 : List UInt8 := dkwX2_catchPendulum_1 ++ []
def dkwX2_catchPendulum_0 : List UInt8 := [42, 27, 182, 0, 85, 77, 44, 182, 0, 89, 62, 29, 158, 0, 7, 4, 167, 0, 4, 3, 184, 0, 79, 44]
abbrev dktX2_catchPendulum_0 : List UInt8 := dkwX2_catchPendulum_0 ++ dktX2_catchPendulum_1
theorem dksX2_catchPendulum_0 : cX2_catchPendulum.data.toList.drop 0 = dktX2_catchPendulum_0 := by decide +kernel
theorem dksX2_catchPendulum_1 : cX2_catchPendulum.data.toList.drop 24 = dktX2_catchPendulum_1 := dk_seg dksX2_catchPendulum_0 24 rfl rfl
theorem dX2_catchPendulum_0 : decode cX2_catchPendulum 0 = .ok (.aload_n 0, 1) := dk_42 (dk_at dksX2_catchPendulum_0 0 rfl rfl)
theorem dX2_catchPendulum_1 : decode cX2_catchPendulum 1 = .ok (.iload_n 1, 1) := dk_27 (dk_at dksX2_catchPendulum_0 1 rfl rfl)
theorem dX2_catchPendulum_2 : decode cX2_catchPendulum 2 = .ok (.invokevirtual 85, 3) := dk_182 0 85 (dk_at dksX2_catchPendulum_0 2 rfl rfl)
theorem dX2_catchPendulum_5 : decode cX2_catchPendulum 5 = .ok (.astore_n 2, 1) := dk_77 (dk_at dksX2_catchPendulum_0 5 rfl rfl)
theorem dX2_catchPendulum_6 : decode cX2_catchPendulum 6 = .ok (.aload_n 2, 1) := dk_44 (dk_at dksX2_catchPendulum_0 6 rfl rfl)
theorem dX2_catchPendulum_7 : decode cX2_catchPendulum 7 = .ok (.invokevirtual 89, 3) := dk_182 0 89 (dk_at dksX2_catchPendulum_0 7 rfl rfl)
theorem dX2_catchPendulum_10 : decode cX2_catchPendulum 10 = .ok (.istore_n 3, 1) := dk_62 (dk_at dksX2_catchPendulum_0 10 rfl rfl)
theorem dX2_catchPendulum_11 : decode cX2_catchPendulum 11 = .ok (.iload_n 3, 1) := dk_29 (dk_at dksX2_catchPendulum_0 11 rfl rfl)
theorem dX2_catchPendulum_12 : decode cX2_catchPendulum 12 = .ok (.ifCond .le 7, 3) := dk_158 0 7 (dk_at dksX2_catchPendulum_0 12 rfl rfl)
theorem dX2_catchPendulum_15 : decode cX2_catchPendulum 15 = .ok (.iconst 1, 1) := dk_4 (dk_at dksX2_catchPendulum_0 15 rfl rfl)
theorem dX2_catchPendulum_16 : decode cX2_catchPendulum 16 = .ok (.goto 4, 3) := dk_167 0 4 (dk_at dksX2_catchPendulum_0 16 rfl rfl)
theorem dX2_catchPendulum_19 : decode cX2_catchPendulum 19 = .ok (.iconst 0, 1) := dk_3 (dk_at dksX2_catchPendulum_0 19 rfl rfl)
theorem dX2_catchPendulum_20 : decode cX2_catchPendulum 20 = .ok (.invokestatic 79, 3) := dk_184 0 79 (dk_at dksX2_catchPendulum_0 20 rfl rfl)
theorem dX2_catchPendulum_23 : decode cX2_catchPendulum 23 = .ok (.aload_n 2, 1) := dk_44 (dk_at dksX2_catchPendulum_0 23 rfl rfl)
theorem dX2_catchPendulum_24 : decode cX2_catchPendulum 24 = .ok (.new 112, 3) := dk_187 0 112 (dk_at dksX2_catchPendulum_1 0 rfl rfl)
theorem dX2_catchPendulum_27 : decode cX2_catchPendulum 27 = .ok (.dup, 1) := dk_89 (dk_at dksX2_catchPendulum_1 3 rfl rfl)
theorem dX2_catchPendulum_28 : decode cX2_catchPendulum 28 = .ok (.invokespecial 114, 3) := dk_183 0 114 (dk_at dksX2_catchPendulum_1 4 rfl rfl)
theorem dX2_catchPendulum_31 : decode cX2_catchPendulum 31 = .ok (.putfield 70, 3) := dk_181 0 70 (dk_at dksX2_catchPendulum_1 7 rfl rfl)
theorem dX2_catchPendulum_34 : decode cX2_catchPendulum 34 = .ok (.iload_n 3, 1) := dk_29 (dk_at dksX2_catchPendulum_1 10 rfl rfl)
theorem dX2_catchPendulum_35 : decode cX2_catchPendulum 35 = .ok (.ireturn, 1) := dk_172 (dk_at dksX2_catchPendulum_1 11 rfl rfl)
abbrev cX2_setFriction : ByteArray := prog_2_method_8_code
def yX2_setFriction : MethodName := ⟨RX2, "setFriction", "(I)I"⟩
def dkwX2_setFriction_0 : List UInt8 := [27, 3, 16, 30, 184, 0, 62, 184, 0, 76, 42, 180, 0, 28, 61, 42, 27, 181, 0, 28, 28, 172]
abbrev dktX2_setFriction_0 : List UInt8 := dkwX2_setFriction_0 ++ []
theorem dksX2_setFriction_0 : cX2_setFriction.data.toList.drop 0 = dktX2_setFriction_0 := by decide +kernel
theorem dX2_setFriction_0 : decode cX2_setFriction 0 = .ok (.iload_n 1, 1) := dk_27 (dk_at dksX2_setFriction_0 0 rfl rfl)
theorem dX2_setFriction_1 : decode cX2_setFriction 1 = .ok (.iconst 0, 1) := dk_3 (dk_at dksX2_setFriction_0 1 rfl rfl)
theorem dX2_setFriction_2 : decode cX2_setFriction 2 = .ok (.bipush 30, 2) := dk_16 30 (dk_at dksX2_setFriction_0 2 rfl rfl)
theorem dX2_setFriction_4 : decode cX2_setFriction 4 = .ok (.invokestatic 62, 3) := dk_184 0 62 (dk_at dksX2_setFriction_0 4 rfl rfl)
theorem dX2_setFriction_7 : decode cX2_setFriction 7 = .ok (.invokestatic 76, 3) := dk_184 0 76 (dk_at dksX2_setFriction_0 7 rfl rfl)
theorem dX2_setFriction_10 : decode cX2_setFriction 10 = .ok (.aload_n 0, 1) := dk_42 (dk_at dksX2_setFriction_0 10 rfl rfl)
theorem dX2_setFriction_11 : decode cX2_setFriction 11 = .ok (.getfield 28, 3) := dk_180 0 28 (dk_at dksX2_setFriction_0 11 rfl rfl)
theorem dX2_setFriction_14 : decode cX2_setFriction 14 = .ok (.istore_n 2, 1) := dk_61 (dk_at dksX2_setFriction_0 14 rfl rfl)
theorem dX2_setFriction_15 : decode cX2_setFriction 15 = .ok (.aload_n 0, 1) := dk_42 (dk_at dksX2_setFriction_0 15 rfl rfl)
theorem dX2_setFriction_16 : decode cX2_setFriction 16 = .ok (.iload_n 1, 1) := dk_27 (dk_at dksX2_setFriction_0 16 rfl rfl)
theorem dX2_setFriction_17 : decode cX2_setFriction 17 = .ok (.putfield 28, 3) := dk_181 0 28 (dk_at dksX2_setFriction_0 17 rfl rfl)
theorem dX2_setFriction_20 : decode cX2_setFriction 20 = .ok (.iload_n 2, 1) := dk_28 (dk_at dksX2_setFriction_0 20 rfl rfl)
theorem dX2_setFriction_21 : decode cX2_setFriction 21 = .ok (.ireturn, 1) := dk_172 (dk_at dksX2_setFriction_0 21 rfl rfl)
abbrev cX2_pass : ByteArray := prog_2_method_11_code
def yX2_pass : MethodName := ⟨RX2, "pass", "(I)I"⟩
def dkwX2_pass_3 : List UInt8 := [61, 132, 4, 1, 167, 255, 215, 132, 3, 1, 167, 255, 191, 28, 172]
abbrev dktX2_pass_3 : List UInt8 := dkwX2_pass_3 ++ []
def dkwX2_pass_2 : List UInt8 := [42, 180, 0, 12, 21, 4, 182, 0, 37, 192, 0, 41, 42, 180, 0, 59, 42, 180, 0, 28, 182, 0, 125, 96]
abbrev dktX2_pass_2 : List UInt8 := dkwX2_pass_2 ++ dktX2_pass_3
def dkwX2_pass_1 : List UInt8 := [180, 0, 59, 4, 96, 181, 0, 59, 3, 54, 4, 21, 4, 42, 180, 0, 12, 182, 0, 33, 162, 0, 35, 28]
abbrev dktX2_pass_1 : List UInt8 := dkwX2_pass_1 ++ dktX2_pass_2
def dkwX2_pass_0 : List UInt8 := [27, 4, 17, 1, 244, 184, 0, 62, 184, 0, 76, 3, 61, 3, 62, 29, 27, 162, 0, 66, 42, 89]
abbrev dktX2_pass_0 : List UInt8 := dkwX2_pass_0 ++ dktX2_pass_1
theorem dksX2_pass_0 : cX2_pass.data.toList.drop 0 = dktX2_pass_0 := by decide +kernel
theorem dksX2_pass_1 : cX2_pass.data.toList.drop 22 = dktX2_pass_1 := dk_seg dksX2_pass_0 22 rfl rfl
theorem dksX2_pass_2 : cX2_pass.data.toList.drop 46 = dktX2_pass_2 := dk_seg dksX2_pass_1 24 rfl rfl
theorem dksX2_pass_3 : cX2_pass.data.toList.drop 70 = dktX2_pass_3 := dk_seg dksX2_pass_2 24 rfl rfl
theorem dX2_pass_0 : decode cX2_pass 0 = .ok (.iload_n 1, 1) := dk_27 (dk_at dksX2_pass_0 0 rfl rfl)
theorem dX2_pass_1 : decode cX2_pass 1 = .ok (.iconst 1, 1) := dk_4 (dk_at dksX2_pass_0 1 rfl rfl)
theorem dX2_pass_2 : decode cX2_pass 2 = .ok (.sipush 500, 3) := dk_17 1 244 (dk_at dksX2_pass_0 2 rfl rfl)
theorem dX2_pass_5 : decode cX2_pass 5 = .ok (.invokestatic 62, 3) := dk_184 0 62 (dk_at dksX2_pass_0 5 rfl rfl)
theorem dX2_pass_8 : decode cX2_pass 8 = .ok (.invokestatic 76, 3) := dk_184 0 76 (dk_at dksX2_pass_0 8 rfl rfl)
theorem dX2_pass_11 : decode cX2_pass 11 = .ok (.iconst 0, 1) := dk_3 (dk_at dksX2_pass_0 11 rfl rfl)
theorem dX2_pass_12 : decode cX2_pass 12 = .ok (.istore_n 2, 1) := dk_61 (dk_at dksX2_pass_0 12 rfl rfl)
theorem dX2_pass_13 : decode cX2_pass 13 = .ok (.iconst 0, 1) := dk_3 (dk_at dksX2_pass_0 13 rfl rfl)
theorem dX2_pass_14 : decode cX2_pass 14 = .ok (.istore_n 3, 1) := dk_62 (dk_at dksX2_pass_0 14 rfl rfl)
theorem dX2_pass_15 : decode cX2_pass 15 = .ok (.iload_n 3, 1) := dk_29 (dk_at dksX2_pass_0 15 rfl rfl)
theorem dX2_pass_16 : decode cX2_pass 16 = .ok (.iload_n 1, 1) := dk_27 (dk_at dksX2_pass_0 16 rfl rfl)
theorem dX2_pass_17 : decode cX2_pass 17 = .ok (.if_icmp .ge 66, 3) := dk_162 0 66 (dk_at dksX2_pass_0 17 rfl rfl)
theorem dX2_pass_20 : decode cX2_pass 20 = .ok (.aload_n 0, 1) := dk_42 (dk_at dksX2_pass_0 20 rfl rfl)
theorem dX2_pass_21 : decode cX2_pass 21 = .ok (.dup, 1) := dk_89 (dk_at dksX2_pass_0 21 rfl rfl)
theorem dX2_pass_22 : decode cX2_pass 22 = .ok (.getfield 59, 3) := dk_180 0 59 (dk_at dksX2_pass_1 0 rfl rfl)
theorem dX2_pass_25 : decode cX2_pass 25 = .ok (.iconst 1, 1) := dk_4 (dk_at dksX2_pass_1 3 rfl rfl)
theorem dX2_pass_26 : decode cX2_pass 26 = .ok (.iadd, 1) := dk_96 (dk_at dksX2_pass_1 4 rfl rfl)
theorem dX2_pass_27 : decode cX2_pass 27 = .ok (.putfield 59, 3) := dk_181 0 59 (dk_at dksX2_pass_1 5 rfl rfl)
theorem dX2_pass_30 : decode cX2_pass 30 = .ok (.iconst 0, 1) := dk_3 (dk_at dksX2_pass_1 8 rfl rfl)
theorem dX2_pass_31 : decode cX2_pass 31 = .ok (.istore 4, 2) := dk_54 4 (dk_at dksX2_pass_1 9 rfl rfl)
theorem dX2_pass_33 : decode cX2_pass 33 = .ok (.iload 4, 2) := dk_21 4 (dk_at dksX2_pass_1 11 rfl rfl)
theorem dX2_pass_35 : decode cX2_pass 35 = .ok (.aload_n 0, 1) := dk_42 (dk_at dksX2_pass_1 13 rfl rfl)
theorem dX2_pass_36 : decode cX2_pass 36 = .ok (.getfield 12, 3) := dk_180 0 12 (dk_at dksX2_pass_1 14 rfl rfl)
theorem dX2_pass_39 : decode cX2_pass 39 = .ok (.invokevirtual 33, 3) := dk_182 0 33 (dk_at dksX2_pass_1 17 rfl rfl)
theorem dX2_pass_42 : decode cX2_pass 42 = .ok (.if_icmp .ge 35, 3) := dk_162 0 35 (dk_at dksX2_pass_1 20 rfl rfl)
theorem dX2_pass_45 : decode cX2_pass 45 = .ok (.iload_n 2, 1) := dk_28 (dk_at dksX2_pass_1 23 rfl rfl)
theorem dX2_pass_46 : decode cX2_pass 46 = .ok (.aload_n 0, 1) := dk_42 (dk_at dksX2_pass_2 0 rfl rfl)
theorem dX2_pass_47 : decode cX2_pass 47 = .ok (.getfield 12, 3) := dk_180 0 12 (dk_at dksX2_pass_2 1 rfl rfl)
theorem dX2_pass_50 : decode cX2_pass 50 = .ok (.iload 4, 2) := dk_21 4 (dk_at dksX2_pass_2 4 rfl rfl)
theorem dX2_pass_52 : decode cX2_pass 52 = .ok (.invokevirtual 37, 3) := dk_182 0 37 (dk_at dksX2_pass_2 6 rfl rfl)
theorem dX2_pass_55 : decode cX2_pass 55 = .ok (.checkcast 41, 3) := dk_192 0 41 (dk_at dksX2_pass_2 9 rfl rfl)
theorem dX2_pass_58 : decode cX2_pass 58 = .ok (.aload_n 0, 1) := dk_42 (dk_at dksX2_pass_2 12 rfl rfl)
theorem dX2_pass_59 : decode cX2_pass 59 = .ok (.getfield 59, 3) := dk_180 0 59 (dk_at dksX2_pass_2 13 rfl rfl)
theorem dX2_pass_62 : decode cX2_pass 62 = .ok (.aload_n 0, 1) := dk_42 (dk_at dksX2_pass_2 16 rfl rfl)
theorem dX2_pass_63 : decode cX2_pass 63 = .ok (.getfield 28, 3) := dk_180 0 28 (dk_at dksX2_pass_2 17 rfl rfl)
theorem dX2_pass_66 : decode cX2_pass 66 = .ok (.invokevirtual 125, 3) := dk_182 0 125 (dk_at dksX2_pass_2 20 rfl rfl)
theorem dX2_pass_69 : decode cX2_pass 69 = .ok (.iadd, 1) := dk_96 (dk_at dksX2_pass_2 23 rfl rfl)
theorem dX2_pass_70 : decode cX2_pass 70 = .ok (.istore_n 2, 1) := dk_61 (dk_at dksX2_pass_3 0 rfl rfl)
theorem dX2_pass_71 : decode cX2_pass 71 = .ok (.iinc 4 1, 3) := dk_132 4 1 (dk_at dksX2_pass_3 1 rfl rfl)
theorem dX2_pass_74 : decode cX2_pass 74 = .ok (.goto (-41), 3) := dk_167 255 215 (dk_at dksX2_pass_3 4 rfl rfl)
theorem dX2_pass_77 : decode cX2_pass 77 = .ok (.iinc 3 1, 3) := dk_132 3 1 (dk_at dksX2_pass_3 7 rfl rfl)
theorem dX2_pass_80 : decode cX2_pass 80 = .ok (.goto (-65), 3) := dk_167 255 191 (dk_at dksX2_pass_3 10 rfl rfl)
theorem dX2_pass_83 : decode cX2_pass 83 = .ok (.iload_n 2, 1) := dk_28 (dk_at dksX2_pass_3 13 rfl rfl)
theorem dX2_pass_84 : decode cX2_pass 84 = .ok (.ireturn, 1) := dk_172 (dk_at dksX2_pass_3 14 rfl rfl)
abbrev cX2_addLeg : ByteArray := prog_2_method_9_code
def yX2_addLeg : MethodName := ⟨RX2, "addLeg", "(I)I"⟩
def dkwX2_addLeg_2 : List UInt8 := [182, 0, 33, 172]
abbrev dktX2_addLeg_2 : List UInt8 := dkwX2_addLeg_2 ++ []
def dkwX2_addLeg_1 : List UInt8 := [167, 0, 4, 3, 184, 0, 79, 42, 180, 0, 18, 27, 184, 0, 115, 182, 0, 47, 61, 42, 180, 0, 18]
abbrev dktX2_addLeg_1 : List UInt8 := dkwX2_addLeg_1 ++ dktX2_addLeg_2
def dkwX2_addLeg_0 : List UInt8 := [27, 4, 16, 60, 184, 0, 62, 184, 0, 76, 42, 180, 0, 18, 182, 0, 33, 16, 6, 162, 0, 7, 4]
abbrev dktX2_addLeg_0 : List UInt8 := dkwX2_addLeg_0 ++ dktX2_addLeg_1
theorem dksX2_addLeg_0 : cX2_addLeg.data.toList.drop 0 = dktX2_addLeg_0 := by decide +kernel
theorem dksX2_addLeg_1 : cX2_addLeg.data.toList.drop 23 = dktX2_addLeg_1 := dk_seg dksX2_addLeg_0 23 rfl rfl
theorem dksX2_addLeg_2 : cX2_addLeg.data.toList.drop 46 = dktX2_addLeg_2 := dk_seg dksX2_addLeg_1 23 rfl rfl
theorem dX2_addLeg_0 : decode cX2_addLeg 0 = .ok (.iload_n 1, 1) := dk_27 (dk_at dksX2_addLeg_0 0 rfl rfl)
theorem dX2_addLeg_1 : decode cX2_addLeg 1 = .ok (.iconst 1, 1) := dk_4 (dk_at dksX2_addLeg_0 1 rfl rfl)
theorem dX2_addLeg_2 : decode cX2_addLeg 2 = .ok (.bipush 60, 2) := dk_16 60 (dk_at dksX2_addLeg_0 2 rfl rfl)
theorem dX2_addLeg_4 : decode cX2_addLeg 4 = .ok (.invokestatic 62, 3) := dk_184 0 62 (dk_at dksX2_addLeg_0 4 rfl rfl)
theorem dX2_addLeg_7 : decode cX2_addLeg 7 = .ok (.invokestatic 76, 3) := dk_184 0 76 (dk_at dksX2_addLeg_0 7 rfl rfl)
theorem dX2_addLeg_10 : decode cX2_addLeg 10 = .ok (.aload_n 0, 1) := dk_42 (dk_at dksX2_addLeg_0 10 rfl rfl)
theorem dX2_addLeg_11 : decode cX2_addLeg 11 = .ok (.getfield 18, 3) := dk_180 0 18 (dk_at dksX2_addLeg_0 11 rfl rfl)
theorem dX2_addLeg_14 : decode cX2_addLeg 14 = .ok (.invokevirtual 33, 3) := dk_182 0 33 (dk_at dksX2_addLeg_0 14 rfl rfl)
theorem dX2_addLeg_17 : decode cX2_addLeg 17 = .ok (.bipush 6, 2) := dk_16 6 (dk_at dksX2_addLeg_0 17 rfl rfl)
theorem dX2_addLeg_19 : decode cX2_addLeg 19 = .ok (.if_icmp .ge 7, 3) := dk_162 0 7 (dk_at dksX2_addLeg_0 19 rfl rfl)
theorem dX2_addLeg_22 : decode cX2_addLeg 22 = .ok (.iconst 1, 1) := dk_4 (dk_at dksX2_addLeg_0 22 rfl rfl)
theorem dX2_addLeg_23 : decode cX2_addLeg 23 = .ok (.goto 4, 3) := dk_167 0 4 (dk_at dksX2_addLeg_1 0 rfl rfl)
theorem dX2_addLeg_26 : decode cX2_addLeg 26 = .ok (.iconst 0, 1) := dk_3 (dk_at dksX2_addLeg_1 3 rfl rfl)
theorem dX2_addLeg_27 : decode cX2_addLeg 27 = .ok (.invokestatic 79, 3) := dk_184 0 79 (dk_at dksX2_addLeg_1 4 rfl rfl)
theorem dX2_addLeg_30 : decode cX2_addLeg 30 = .ok (.aload_n 0, 1) := dk_42 (dk_at dksX2_addLeg_1 7 rfl rfl)
theorem dX2_addLeg_31 : decode cX2_addLeg 31 = .ok (.getfield 18, 3) := dk_180 0 18 (dk_at dksX2_addLeg_1 8 rfl rfl)
theorem dX2_addLeg_34 : decode cX2_addLeg 34 = .ok (.iload_n 1, 1) := dk_27 (dk_at dksX2_addLeg_1 11 rfl rfl)
theorem dX2_addLeg_35 : decode cX2_addLeg 35 = .ok (.invokestatic 115, 3) := dk_184 0 115 (dk_at dksX2_addLeg_1 12 rfl rfl)
theorem dX2_addLeg_38 : decode cX2_addLeg 38 = .ok (.invokevirtual 47, 3) := dk_182 0 47 (dk_at dksX2_addLeg_1 15 rfl rfl)
theorem dX2_addLeg_41 : decode cX2_addLeg 41 = .ok (.istore_n 2, 1) := dk_61 (dk_at dksX2_addLeg_1 18 rfl rfl)
theorem dX2_addLeg_42 : decode cX2_addLeg 42 = .ok (.aload_n 0, 1) := dk_42 (dk_at dksX2_addLeg_1 19 rfl rfl)
theorem dX2_addLeg_43 : decode cX2_addLeg 43 = .ok (.getfield 18, 3) := dk_180 0 18 (dk_at dksX2_addLeg_1 20 rfl rfl)
theorem dX2_addLeg_46 : decode cX2_addLeg 46 = .ok (.invokevirtual 33, 3) := dk_182 0 33 (dk_at dksX2_addLeg_2 0 rfl rfl)
theorem dX2_addLeg_49 : decode cX2_addLeg 49 = .ok (.ireturn, 1) := dk_172 (dk_at dksX2_addLeg_2 3 rfl rfl)
abbrev cX2_removeLeg : ByteArray := prog_2_method_10_code
def yX2_removeLeg : MethodName := ⟨RX2, "removeLeg", "(I)I"⟩
def dkwX2_removeLeg_1 : List UInt8 := [182, 0, 119, 192, 0, 51, 182, 0, 122, 61, 28, 172]
abbrev dktX2_removeLeg_1 : List UInt8 := dkwX2_removeLeg_1 ++ []
def dkwX2_removeLeg_0 : List UInt8 := [27, 3, 42, 180, 0, 18, 182, 0, 33, 4, 100, 184, 0, 62, 184, 0, 66, 42, 180, 0, 18, 27]
abbrev dktX2_removeLeg_0 : List UInt8 := dkwX2_removeLeg_0 ++ dktX2_removeLeg_1
theorem dksX2_removeLeg_0 : cX2_removeLeg.data.toList.drop 0 = dktX2_removeLeg_0 := by decide +kernel
theorem dksX2_removeLeg_1 : cX2_removeLeg.data.toList.drop 22 = dktX2_removeLeg_1 := dk_seg dksX2_removeLeg_0 22 rfl rfl
theorem dX2_removeLeg_0 : decode cX2_removeLeg 0 = .ok (.iload_n 1, 1) := dk_27 (dk_at dksX2_removeLeg_0 0 rfl rfl)
theorem dX2_removeLeg_1 : decode cX2_removeLeg 1 = .ok (.iconst 0, 1) := dk_3 (dk_at dksX2_removeLeg_0 1 rfl rfl)
theorem dX2_removeLeg_2 : decode cX2_removeLeg 2 = .ok (.aload_n 0, 1) := dk_42 (dk_at dksX2_removeLeg_0 2 rfl rfl)
theorem dX2_removeLeg_3 : decode cX2_removeLeg 3 = .ok (.getfield 18, 3) := dk_180 0 18 (dk_at dksX2_removeLeg_0 3 rfl rfl)
theorem dX2_removeLeg_6 : decode cX2_removeLeg 6 = .ok (.invokevirtual 33, 3) := dk_182 0 33 (dk_at dksX2_removeLeg_0 6 rfl rfl)
theorem dX2_removeLeg_9 : decode cX2_removeLeg 9 = .ok (.iconst 1, 1) := dk_4 (dk_at dksX2_removeLeg_0 9 rfl rfl)
theorem dX2_removeLeg_10 : decode cX2_removeLeg 10 = .ok (.isub, 1) := dk_100 (dk_at dksX2_removeLeg_0 10 rfl rfl)
theorem dX2_removeLeg_11 : decode cX2_removeLeg 11 = .ok (.invokestatic 62, 3) := dk_184 0 62 (dk_at dksX2_removeLeg_0 11 rfl rfl)
theorem dX2_removeLeg_14 : decode cX2_removeLeg 14 = .ok (.invokestatic 66, 3) := dk_184 0 66 (dk_at dksX2_removeLeg_0 14 rfl rfl)
theorem dX2_removeLeg_17 : decode cX2_removeLeg 17 = .ok (.aload_n 0, 1) := dk_42 (dk_at dksX2_removeLeg_0 17 rfl rfl)
theorem dX2_removeLeg_18 : decode cX2_removeLeg 18 = .ok (.getfield 18, 3) := dk_180 0 18 (dk_at dksX2_removeLeg_0 18 rfl rfl)
theorem dX2_removeLeg_21 : decode cX2_removeLeg 21 = .ok (.iload_n 1, 1) := dk_27 (dk_at dksX2_removeLeg_0 21 rfl rfl)
theorem dX2_removeLeg_22 : decode cX2_removeLeg 22 = .ok (.invokevirtual 119, 3) := dk_182 0 119 (dk_at dksX2_removeLeg_1 0 rfl rfl)
theorem dX2_removeLeg_25 : decode cX2_removeLeg 25 = .ok (.checkcast 51, 3) := dk_192 0 51 (dk_at dksX2_removeLeg_1 3 rfl rfl)
theorem dX2_removeLeg_28 : decode cX2_removeLeg 28 = .ok (.invokevirtual 122, 3) := dk_182 0 122 (dk_at dksX2_removeLeg_1 6 rfl rfl)
theorem dX2_removeLeg_31 : decode cX2_removeLeg 31 = .ok (.istore_n 2, 1) := dk_61 (dk_at dksX2_removeLeg_1 9 rfl rfl)
theorem dX2_removeLeg_32 : decode cX2_removeLeg 32 = .ok (.iload_n 2, 1) := dk_28 (dk_at dksX2_removeLeg_1 10 rfl rfl)
theorem dX2_removeLeg_33 : decode cX2_removeLeg 33 = .ok (.ireturn, 1) := dk_172 (dk_at dksX2_removeLeg_1 11 rfl rfl)
theorem q69 : (Jvm.Cond.initialized "PendulumGym$Gym") ∈ lw_all := lw_g (lw_at lw_m1 2 rfl) rfl
theorem q117 : (Jvm.Cond.instantiable "PendulumGym$Gym" (6 : Nat)) ∈ lw_all := lw_g (lw_at lw_m1 50 rfl) rfl
theorem q119 : (Jvm.Cond.instanceMethod ({ cls := "PendulumGym$Gym", name := "<init>", desc := "()V" } : Jvm.MethodName)) ∈ lw_all := lw_g (lw_at lw_m1 52 rfl) rfl
theorem q120 : (Jvm.Cond.code ({ cls := "PendulumGym$Gym", name := "<init>", desc := "()V" } : Jvm.MethodName) prog_2_method_1_code (2 : Nat) (Option.none : Option Jvm.ClassFile.FieldType)) ∈ lw_all := lw_g (lw_at lw_m1 53 rfl) rfl
theorem q121 : (Jvm.Cond.methodLink "PendulumGym$Gym" (3 : Nat) ({ cls := "java/lang/Object", name := "<init>", desc := "()V" } : Jvm.MethodName)) ∈ lw_all := lw_g (lw_at lw_m1 54 rfl) rfl
theorem q122 : (Jvm.Cond.classLink "PendulumGym$Gym" (9 : Nat) "java/util/ArrayList") ∈ lw_all := lw_g (lw_at lw_m1 55 rfl) rfl
theorem q124 : (Jvm.Cond.methodLink "PendulumGym$Gym" (11 : Nat) ({ cls := "java/util/ArrayList", name := "<init>", desc := "()V" } : Jvm.MethodName)) ∈ lw_all := lw_g (lw_at lw_m1 57 rfl) rfl
theorem q148 : (Jvm.Cond.fieldLink "PendulumGym$Gym" (12 : Nat) "PendulumGym$Gym" "pendulums" "Ljava/util/ArrayList;") ∈ lw_all := lw_g (lw_at lw_m1 81 rfl) rfl
theorem q150 : (Jvm.Cond.fieldLink "PendulumGym$Gym" (18 : Nat) "PendulumGym$Gym" "legs" "Ljava/util/ArrayList;") ∈ lw_all := lw_g (lw_at lw_m1 83 rfl) rfl
theorem q152 : (Jvm.Cond.fieldLink "PendulumGym$Gym" (21 : Nat) "PendulumGym$Gym" "records" "[I") ∈ lw_all := lw_g (lw_at lw_m1 85 rfl) rfl
theorem q154 : (Jvm.Cond.fieldLink "PendulumGym$Gym" (25 : Nat) "PendulumGym$Gym" "holders" "[I") ∈ lw_all := lw_g (lw_at lw_m1 87 rfl) rfl
theorem q156 : (Jvm.Cond.fieldLink "PendulumGym$Gym" (59 : Nat) "PendulumGym$Gym" "clock" "I") ∈ lw_all := lw_g (lw_at lw_m1 89 rfl) rfl
theorem q158 : (Jvm.Cond.fieldLink "PendulumGym$Gym" (28 : Nat) "PendulumGym$Gym" "friction" "I") ∈ lw_all := lw_g (lw_at lw_m1 91 rfl) rfl
theorem q160 : (Jvm.Cond.laysFinal "PendulumGym$Gym" "PendulumGym$Gym" "pendulums" "Ljava/util/ArrayList;") ∈ lw_all := lw_g (lw_at lw_m1 93 rfl) rfl
theorem q161 : (Jvm.Cond.soleField "PendulumGym$Gym" "pendulums") ∈ lw_all := lw_g (lw_at lw_m1 94 rfl) rfl
theorem q162 : (Jvm.Cond.laysFinal "PendulumGym$Gym" "PendulumGym$Gym" "legs" "Ljava/util/ArrayList;") ∈ lw_all := lw_g (lw_at lw_m1 95 rfl) rfl
theorem q163 : (Jvm.Cond.soleField "PendulumGym$Gym" "legs") ∈ lw_all := lw_g (lw_at lw_m1 96 rfl) rfl
theorem q164 : (Jvm.Cond.laysFinal "PendulumGym$Gym" "PendulumGym$Gym" "records" "[I") ∈ lw_all := lw_g (lw_at lw_m1 97 rfl) rfl
theorem q165 : (Jvm.Cond.soleField "PendulumGym$Gym" "records") ∈ lw_all := lw_g (lw_at lw_m1 98 rfl) rfl
theorem q166 : (Jvm.Cond.laysFinal "PendulumGym$Gym" "PendulumGym$Gym" "holders" "[I") ∈ lw_all := lw_g (lw_at lw_m1 99 rfl) rfl
theorem q167 : (Jvm.Cond.soleField "PendulumGym$Gym" "holders") ∈ lw_all := lw_g (lw_at lw_m1 100 rfl) rfl
theorem q168 : (Jvm.Cond.lays "PendulumGym$Gym" "PendulumGym$Gym" "clock" "I") ∈ lw_all := lw_g (lw_at lw_m1 101 rfl) rfl
theorem q169 : (Jvm.Cond.soleField "PendulumGym$Gym" "clock") ∈ lw_all := lw_g (lw_at lw_m1 102 rfl) rfl
theorem q170 : (Jvm.Cond.lays "PendulumGym$Gym" "PendulumGym$Gym" "friction" "I") ∈ lw_all := lw_g (lw_at lw_m1 103 rfl) rfl
theorem q171 : (Jvm.Cond.soleField "PendulumGym$Gym" "friction") ∈ lw_all := lw_g (lw_at lw_m1 104 rfl) rfl
theorem q172 : (Jvm.Cond.superclass "PendulumGym$Gym" "java/lang/Object") ∈ lw_all := lw_g (lw_at lw_m1 105 rfl) rfl
theorem q273 : (Jvm.Cond.instanceMethod ({ cls := "PendulumGym$Gym", name := "pendulum", desc := "(I)LPendulumGym$Pendulum;" } : Jvm.MethodName)) ∈ lw_all := lw_g (lw_at lw_m1 206 rfl) rfl
theorem q274 : (Jvm.Cond.selects "PendulumGym$Gym" ({ cls := "PendulumGym$Gym", name := "pendulum", desc := "(I)LPendulumGym$Pendulum;" } : Jvm.MethodName) ({ cls := "PendulumGym$Gym", name := "pendulum", desc := "(I)LPendulumGym$Pendulum;" } : Jvm.MethodName)) ∈ lw_all := lw_g (lw_at lw_m1 207 rfl) rfl
theorem q275 : (Jvm.Cond.code ({ cls := "PendulumGym$Gym", name := "pendulum", desc := "(I)LPendulumGym$Pendulum;" } : Jvm.MethodName) prog_2_method_3_code (2 : Nat) (Option.some (Jvm.ClassFile.FieldType.object "PendulumGym$Pendulum"))) ∈ lw_all := lw_g (lw_at lw_m1 208 rfl) rfl
theorem q276 : (Jvm.Cond.methodLink "PendulumGym$Gym" (33 : Nat) ({ cls := "java/util/ArrayList", name := "size", desc := "()I" } : Jvm.MethodName)) ∈ lw_all := lw_g (lw_at lw_m1 209 rfl) rfl
theorem q277 : (Jvm.Cond.methodLinkNest "PendulumGym$Gym" (62 : Nat) ({ cls := "PendulumGym", name := "isBetween", desc := "(III)Z" } : Jvm.MethodName) "PendulumGym") ∈ lw_tbl := lw_at lw_m1 210 rfl
theorem q280 : (Jvm.Cond.methodLinkNest "PendulumGym$Gym" (66 : Nat) ({ cls := "PendulumGym", name := "requireIndex", desc := "(Z)V" } : Jvm.MethodName) "PendulumGym") ∈ lw_tbl := lw_at lw_m1 213 rfl
theorem q352 : (Jvm.Cond.methodLink "PendulumGym$Gym" (37 : Nat) ({ cls := "java/util/ArrayList", name := "get", desc := "(I)Ljava/lang/Object;" } : Jvm.MethodName)) ∈ lw_all := lw_g (lw_at lw_m2 45 rfl) rfl
theorem q366 : (Jvm.Cond.classLink "PendulumGym$Gym" (41 : Nat) "PendulumGym$Pendulum") ∈ lw_all := lw_g (lw_at lw_m2 59 rfl) rfl
theorem q368 : (Jvm.Cond.instanceMethod ({ cls := "PendulumGym$Gym", name := "swinging", desc := "(LPendulumGym$Pendulum;)LPendulumGym$Swinging;" } : Jvm.MethodName)) ∈ lw_all := lw_g (lw_at lw_m2 61 rfl) rfl
theorem q369 : (Jvm.Cond.selects "PendulumGym$Gym" ({ cls := "PendulumGym$Gym", name := "swinging", desc := "(LPendulumGym$Pendulum;)LPendulumGym$Swinging;" } : Jvm.MethodName) ({ cls := "PendulumGym$Gym", name := "swinging", desc := "(LPendulumGym$Pendulum;)LPendulumGym$Swinging;" } : Jvm.MethodName)) ∈ lw_all := lw_g (lw_at lw_m2 62 rfl) rfl
theorem q370 : (Jvm.Cond.code ({ cls := "PendulumGym$Gym", name := "swinging", desc := "(LPendulumGym$Pendulum;)LPendulumGym$Swinging;" } : Jvm.MethodName) prog_2_method_4_code (4 : Nat) (Option.some (Jvm.ClassFile.FieldType.object "PendulumGym$Swinging"))) ∈ lw_all := lw_g (lw_at lw_m2 63 rfl) rfl
theorem q371 : (Jvm.Cond.classLink "PendulumGym$Gym" (74 : Nat) "PendulumGym$Swinging") ∈ lw_all := lw_g (lw_at lw_m2 64 rfl) rfl
theorem q396 : (Jvm.Cond.instanceMethod ({ cls := "PendulumGym$Gym", name := "copy", desc := "()LPendulumGym$Gym;" } : Jvm.MethodName)) ∈ lw_all := lw_g (lw_at lw_m2 89 rfl) rfl
theorem q397 : (Jvm.Cond.selects "PendulumGym$Gym" ({ cls := "PendulumGym$Gym", name := "copy", desc := "()LPendulumGym$Gym;" } : Jvm.MethodName) ({ cls := "PendulumGym$Gym", name := "copy", desc := "()LPendulumGym$Gym;" } : Jvm.MethodName)) ∈ lw_all := lw_g (lw_at lw_m2 90 rfl) rfl
theorem q398 : (Jvm.Cond.code ({ cls := "PendulumGym$Gym", name := "copy", desc := "()LPendulumGym$Gym;" } : Jvm.MethodName) prog_2_method_2_code (4 : Nat) (Option.some (Jvm.ClassFile.FieldType.object "PendulumGym$Gym"))) ∈ lw_all := lw_g (lw_at lw_m2 91 rfl) rfl
theorem q399 : (Jvm.Cond.classLink "PendulumGym$Gym" (13 : Nat) "PendulumGym$Gym") ∈ lw_all := lw_g (lw_at lw_m2 92 rfl) rfl
theorem q400 : (Jvm.Cond.methodLink "PendulumGym$Gym" (32 : Nat) ({ cls := "PendulumGym$Gym", name := "<init>", desc := "()V" } : Jvm.MethodName)) ∈ lw_all := lw_g (lw_at lw_m2 93 rfl) rfl
theorem q401 : (Jvm.Cond.methodLink "PendulumGym$Gym" (43 : Nat) ({ cls := "PendulumGym$Pendulum", name := "copy", desc := "()LPendulumGym$Pendulum;" } : Jvm.MethodName)) ∈ lw_all := lw_g (lw_at lw_m2 94 rfl) rfl
theorem q420 : (Jvm.Cond.fieldLink "PendulumGym$Gym" (92 : Nat) "PendulumGym$Pendulum" "length" "I") ∈ lw_all := lw_g (lw_at lw_m2 113 rfl) rfl
theorem q425 : (Jvm.Cond.fieldLink "PendulumGym$Gym" (70 : Nat) "PendulumGym$Pendulum" "motion" "LPendulumGym$Motion;") ∈ lw_all := lw_g (lw_at lw_m2 118 rfl) rfl
theorem q436 : (Jvm.Cond.methodLink "PendulumGym$Gym" (47 : Nat) ({ cls := "java/util/ArrayList", name := "add", desc := "(Ljava/lang/Object;)Z" } : Jvm.MethodName)) ∈ lw_all := lw_g (lw_at lw_m2 129 rfl) rfl
theorem q469 : (Jvm.Cond.selects "PendulumGym$Gym" ({ cls := "java/lang/Object", name := "getClass", desc := "()Ljava/lang/Class;" } : Jvm.MethodName) ({ cls := "java/lang/Object", name := "getClass", desc := "()Ljava/lang/Class;" } : Jvm.MethodName)) ∈ lw_all := lw_g (lw_at lw_m2 162 rfl) rfl
theorem q507 : (Jvm.Cond.classLink "PendulumGym$Gym" (51 : Nat) "java/lang/Integer") ∈ lw_all := lw_g (lw_at lw_m2 200 rfl) rfl
theorem q508 : (Jvm.Cond.methodLink "PendulumGym$Gym" (53 : Nat) ({ cls := "java/lang/System", name := "arraycopy", desc := "(Ljava/lang/Object;ILjava/lang/Object;II)V" } : Jvm.MethodName)) ∈ lw_all := lw_g (lw_at lw_m2 201 rfl) rfl
theorem q521 : (Jvm.Cond.instanceMethod ({ cls := "PendulumGym$Gym", name := "addPendulum", desc := "(I)I" } : Jvm.MethodName)) ∈ lw_all := lw_g (lw_at lw_m2 214 rfl) rfl
theorem q522 : (Jvm.Cond.selects "PendulumGym$Gym" ({ cls := "PendulumGym$Gym", name := "addPendulum", desc := "(I)I" } : Jvm.MethodName) ({ cls := "PendulumGym$Gym", name := "addPendulum", desc := "(I)I" } : Jvm.MethodName)) ∈ lw_all := lw_g (lw_at lw_m2 215 rfl) rfl
theorem q523 : (Jvm.Cond.code ({ cls := "PendulumGym$Gym", name := "addPendulum", desc := "(I)I" } : Jvm.MethodName) prog_2_method_5_code (3 : Nat) (Option.some Jvm.ClassFile.FieldType.int)) ∈ lw_all := lw_g (lw_at lw_m2 216 rfl) rfl
theorem q524 : (Jvm.Cond.methodLinkNest "PendulumGym$Gym" (76 : Nat) ({ cls := "PendulumGym", name := "requireArgument", desc := "(Z)V" } : Jvm.MethodName) "PendulumGym") ∈ lw_tbl := lw_at lw_m2 217 rfl
theorem q542 : (Jvm.Cond.methodLinkNest "PendulumGym$Gym" (79 : Nat) ({ cls := "PendulumGym", name := "requireState", desc := "(Z)V" } : Jvm.MethodName) "PendulumGym") ∈ lw_tbl := lw_at lw_m2 235 rfl
theorem q560 : (Jvm.Cond.methodLink "PendulumGym$Gym" (82 : Nat) ({ cls := "PendulumGym$Pendulum", name := "<init>", desc := "(II)V" } : Jvm.MethodName)) ∈ lw_all := lw_g (lw_at lw_m3 13 rfl) rfl
theorem q677 : (Jvm.Cond.instanceMethod ({ cls := "PendulumGym$Gym", name := "push", desc := "(II)I" } : Jvm.MethodName)) ∈ lw_all := lw_g (lw_at lw_m3 130 rfl) rfl
theorem q678 : (Jvm.Cond.selects "PendulumGym$Gym" ({ cls := "PendulumGym$Gym", name := "push", desc := "(II)I" } : Jvm.MethodName) ({ cls := "PendulumGym$Gym", name := "push", desc := "(II)I" } : Jvm.MethodName)) ∈ lw_all := lw_g (lw_at lw_m3 131 rfl) rfl
theorem q679 : (Jvm.Cond.code ({ cls := "PendulumGym$Gym", name := "push", desc := "(II)I" } : Jvm.MethodName) prog_2_method_6_code (7 : Nat) (Option.some Jvm.ClassFile.FieldType.int)) ∈ lw_all := lw_g (lw_at lw_m3 132 rfl) rfl
theorem q680 : (Jvm.Cond.methodLink "PendulumGym$Gym" (85 : Nat) ({ cls := "PendulumGym$Gym", name := "pendulum", desc := "(I)LPendulumGym$Pendulum;" } : Jvm.MethodName)) ∈ lw_all := lw_g (lw_at lw_m3 133 rfl) rfl
theorem q681 : (Jvm.Cond.methodLink "PendulumGym$Gym" (89 : Nat) ({ cls := "PendulumGym$Pendulum", name := "amplitude", desc := "()I" } : Jvm.MethodName)) ∈ lw_all := lw_g (lw_at lw_m3 134 rfl) rfl
theorem q686 : (Jvm.Cond.methodLink "PendulumGym$Gym" (95 : Nat) ({ cls := "PendulumGym$Kind", name := "of", desc := "(I)LPendulumGym$Kind;" } : Jvm.MethodName)) ∈ lw_all := lw_g (lw_at lw_m3 139 rfl) rfl
theorem q707 : (Jvm.Cond.methodLink "PendulumGym$Gym" (101 : Nat) ({ cls := "PendulumGym$Kind", name := "ordinal", desc := "()I" } : Jvm.MethodName)) ∈ lw_all := lw_g (lw_at lw_m3 160 rfl) rfl
theorem q715 : (Jvm.Cond.methodLink "PendulumGym$Gym" (104 : Nat) ({ cls := "PendulumGym$Gym", name := "swinging", desc := "(LPendulumGym$Pendulum;)LPendulumGym$Swinging;" } : Jvm.MethodName)) ∈ lw_all := lw_g (lw_at lw_m3 168 rfl) rfl
theorem q717 : (Jvm.Cond.methodLink "PendulumGym$Gym" (111 : Nat) ({ cls := "PendulumGym$Swinging", name := "<init>", desc := "(II)V" } : Jvm.MethodName)) ∈ lw_all := lw_g (lw_at lw_m3 170 rfl) rfl
theorem q725 : (Jvm.Cond.fieldLink "PendulumGym$Gym" (108 : Nat) "PendulumGym$Swinging" "start" "I") ∈ lw_all := lw_g (lw_at lw_m3 178 rfl) rfl
theorem q743 : (Jvm.Cond.instanceMethod ({ cls := "PendulumGym$Gym", name := "catchPendulum", desc := "(I)I" } : Jvm.MethodName)) ∈ lw_all := lw_g (lw_at lw_m3 196 rfl) rfl
theorem q744 : (Jvm.Cond.selects "PendulumGym$Gym" ({ cls := "PendulumGym$Gym", name := "catchPendulum", desc := "(I)I" } : Jvm.MethodName) ({ cls := "PendulumGym$Gym", name := "catchPendulum", desc := "(I)I" } : Jvm.MethodName)) ∈ lw_all := lw_g (lw_at lw_m3 197 rfl) rfl
theorem q745 : (Jvm.Cond.code ({ cls := "PendulumGym$Gym", name := "catchPendulum", desc := "(I)I" } : Jvm.MethodName) prog_2_method_7_code (4 : Nat) (Option.some Jvm.ClassFile.FieldType.int)) ∈ lw_all := lw_g (lw_at lw_m3 198 rfl) rfl
theorem q746 : (Jvm.Cond.classLink "PendulumGym$Gym" (112 : Nat) "PendulumGym$Rest") ∈ lw_all := lw_g (lw_at lw_m3 199 rfl) rfl
theorem q747 : (Jvm.Cond.methodLinkNest "PendulumGym$Gym" (114 : Nat) ({ cls := "PendulumGym$Rest", name := "<init>", desc := "()V" } : Jvm.MethodName) "PendulumGym") ∈ lw_tbl := lw_at lw_m3 200 rfl
theorem q758 : (Jvm.Cond.instanceMethod ({ cls := "PendulumGym$Gym", name := "setFriction", desc := "(I)I" } : Jvm.MethodName)) ∈ lw_all := lw_g (lw_at lw_m3 211 rfl) rfl
theorem q759 : (Jvm.Cond.selects "PendulumGym$Gym" ({ cls := "PendulumGym$Gym", name := "setFriction", desc := "(I)I" } : Jvm.MethodName) ({ cls := "PendulumGym$Gym", name := "setFriction", desc := "(I)I" } : Jvm.MethodName)) ∈ lw_all := lw_g (lw_at lw_m3 212 rfl) rfl
theorem q760 : (Jvm.Cond.code ({ cls := "PendulumGym$Gym", name := "setFriction", desc := "(I)I" } : Jvm.MethodName) prog_2_method_8_code (3 : Nat) (Option.some Jvm.ClassFile.FieldType.int)) ∈ lw_all := lw_g (lw_at lw_m3 213 rfl) rfl
theorem q771 : (Jvm.Cond.instanceMethod ({ cls := "PendulumGym$Gym", name := "pass", desc := "(I)I" } : Jvm.MethodName)) ∈ lw_all := lw_g (lw_at lw_m3 224 rfl) rfl
theorem q772 : (Jvm.Cond.selects "PendulumGym$Gym" ({ cls := "PendulumGym$Gym", name := "pass", desc := "(I)I" } : Jvm.MethodName) ({ cls := "PendulumGym$Gym", name := "pass", desc := "(I)I" } : Jvm.MethodName)) ∈ lw_all := lw_g (lw_at lw_m3 225 rfl) rfl
theorem q773 : (Jvm.Cond.code ({ cls := "PendulumGym$Gym", name := "pass", desc := "(I)I" } : Jvm.MethodName) prog_2_method_11_code (5 : Nat) (Option.some Jvm.ClassFile.FieldType.int)) ∈ lw_all := lw_g (lw_at lw_m3 226 rfl) rfl
theorem q774 : (Jvm.Cond.methodLink "PendulumGym$Gym" (125 : Nat) ({ cls := "PendulumGym$Pendulum", name := "tick", desc := "(II)I" } : Jvm.MethodName)) ∈ lw_all := lw_g (lw_at lw_m3 227 rfl) rfl
theorem q949 : (Jvm.Cond.instanceMethod ({ cls := "PendulumGym$Gym", name := "addLeg", desc := "(I)I" } : Jvm.MethodName)) ∈ lw_all := lw_g (lw_at lw_m4 162 rfl) rfl
theorem q950 : (Jvm.Cond.selects "PendulumGym$Gym" ({ cls := "PendulumGym$Gym", name := "addLeg", desc := "(I)I" } : Jvm.MethodName) ({ cls := "PendulumGym$Gym", name := "addLeg", desc := "(I)I" } : Jvm.MethodName)) ∈ lw_all := lw_g (lw_at lw_m4 163 rfl) rfl
theorem q951 : (Jvm.Cond.code ({ cls := "PendulumGym$Gym", name := "addLeg", desc := "(I)I" } : Jvm.MethodName) prog_2_method_9_code (3 : Nat) (Option.some Jvm.ClassFile.FieldType.int)) ∈ lw_all := lw_g (lw_at lw_m4 164 rfl) rfl
theorem q952 : (Jvm.Cond.methodLink "PendulumGym$Gym" (115 : Nat) ({ cls := "java/lang/Integer", name := "valueOf", desc := "(I)Ljava/lang/Integer;" } : Jvm.MethodName)) ∈ lw_all := lw_g (lw_at lw_m4 165 rfl) rfl
theorem q982 : (Jvm.Cond.instanceMethod ({ cls := "PendulumGym$Gym", name := "removeLeg", desc := "(I)I" } : Jvm.MethodName)) ∈ lw_all := lw_g (lw_at lw_m4 195 rfl) rfl
theorem q983 : (Jvm.Cond.selects "PendulumGym$Gym" ({ cls := "PendulumGym$Gym", name := "removeLeg", desc := "(I)I" } : Jvm.MethodName) ({ cls := "PendulumGym$Gym", name := "removeLeg", desc := "(I)I" } : Jvm.MethodName)) ∈ lw_all := lw_g (lw_at lw_m4 196 rfl) rfl
theorem q984 : (Jvm.Cond.code ({ cls := "PendulumGym$Gym", name := "removeLeg", desc := "(I)I" } : Jvm.MethodName) prog_2_method_10_code (3 : Nat) (Option.some Jvm.ClassFile.FieldType.int)) ∈ lw_all := lw_g (lw_at lw_m4 197 rfl) rfl
theorem q985 : (Jvm.Cond.methodLink "PendulumGym$Gym" (119 : Nat) ({ cls := "java/util/ArrayList", name := "remove", desc := "(I)Ljava/lang/Object;" } : Jvm.MethodName)) ∈ lw_all := lw_g (lw_at lw_m4 198 rfl) rfl
theorem q994 : (Jvm.Cond.methodLink "PendulumGym$Gym" (122 : Nat) ({ cls := "java/lang/Integer", name := "intValue", desc := "()I" } : Jvm.MethodName)) ∈ lw_all := lw_g (lw_at lw_m4 207 rfl) rfl
theorem q2122 : (Jvm.Cond.castable "PendulumGym$Gym" "java/lang/Object") ∈ lw_tbl := lw_at lw_m9 135 rfl
theorem in_X2 : ∀ w ∈ wsX20, w ∈ lw_all := lw_in wsX20 [160, 162, 164, 166, 168, 170] (by decide +kernel) (by decide +kernel)
/-! PendulumGym$Pendulum -/
set_option maxRecDepth 100000
def RX4 : String := "PendulumGym$Pendulum"
def TX4 : u_T := fun k => match k with
  | 0 => ("PendulumGym$Pendulum", "number", "I", true)
  | 1 => ("PendulumGym$Pendulum", "length", "I", true)
  | 2 => ("PendulumGym$Pendulum", "swings", "I", false)
  | _ => ("PendulumGym$Pendulum", "motion", "LPendulumGym$Motion;", false)
def tyX4 : Nat → FieldType := fun k => match k with
  | 0 => .int
  | 1 => .int
  | 2 => .int
  | _ => .object "PendulumGym$Motion"
abbrev wsX40 : List Cond := u_ws RX4 TX4 4
theorem nmX4 : ∀ a, a < 4 → ∀ b, b < 4 → a ≠ b → (TX4 a).2.1 ≠ (TX4 b).2.1 := by decide +kernel
theorem tyX4_ok : ∀ k, k < 4 → parseFieldDescriptor (TX4 k).2.2.1 = some (tyX4 k) := by decide +kernel
abbrev cX4_period : ByteArray := prog_11_method_4_code
def yX4_period : MethodName := ⟨RX4, "period", "()I"⟩
def dkwX4_period_1 : List UInt8 := [163, 0, 7, 27, 28, 96, 60, 28, 5, 108, 61, 167, 255, 227, 27, 172]
abbrev dktX4_period_1 : List UInt8 := dkwX4_period_1 ++ []
def dkwX4_period_0 : List UInt8 := [3, 60, 16, 32, 61, 28, 158, 0, 31, 27, 28, 96, 27, 28, 96, 104, 16, 36, 42, 180, 0, 22, 104]
abbrev dktX4_period_0 : List UInt8 := dkwX4_period_0 ++ dktX4_period_1
theorem dksX4_period_0 : cX4_period.data.toList.drop 0 = dktX4_period_0 := by decide +kernel
theorem dksX4_period_1 : cX4_period.data.toList.drop 23 = dktX4_period_1 := dk_seg dksX4_period_0 23 rfl rfl
theorem dX4_period_0 : decode cX4_period 0 = .ok (.iconst 0, 1) := dk_3 (dk_at dksX4_period_0 0 rfl rfl)
theorem dX4_period_1 : decode cX4_period 1 = .ok (.istore_n 1, 1) := dk_60 (dk_at dksX4_period_0 1 rfl rfl)
theorem dX4_period_2 : decode cX4_period 2 = .ok (.bipush 32, 2) := dk_16 32 (dk_at dksX4_period_0 2 rfl rfl)
theorem dX4_period_4 : decode cX4_period 4 = .ok (.istore_n 2, 1) := dk_61 (dk_at dksX4_period_0 4 rfl rfl)
theorem dX4_period_5 : decode cX4_period 5 = .ok (.iload_n 2, 1) := dk_28 (dk_at dksX4_period_0 5 rfl rfl)
theorem dX4_period_6 : decode cX4_period 6 = .ok (.ifCond .le 31, 3) := dk_158 0 31 (dk_at dksX4_period_0 6 rfl rfl)
theorem dX4_period_9 : decode cX4_period 9 = .ok (.iload_n 1, 1) := dk_27 (dk_at dksX4_period_0 9 rfl rfl)
theorem dX4_period_10 : decode cX4_period 10 = .ok (.iload_n 2, 1) := dk_28 (dk_at dksX4_period_0 10 rfl rfl)
theorem dX4_period_11 : decode cX4_period 11 = .ok (.iadd, 1) := dk_96 (dk_at dksX4_period_0 11 rfl rfl)
theorem dX4_period_12 : decode cX4_period 12 = .ok (.iload_n 1, 1) := dk_27 (dk_at dksX4_period_0 12 rfl rfl)
theorem dX4_period_13 : decode cX4_period 13 = .ok (.iload_n 2, 1) := dk_28 (dk_at dksX4_period_0 13 rfl rfl)
theorem dX4_period_14 : decode cX4_period 14 = .ok (.iadd, 1) := dk_96 (dk_at dksX4_period_0 14 rfl rfl)
theorem dX4_period_15 : decode cX4_period 15 = .ok (.imul, 1) := dk_104 (dk_at dksX4_period_0 15 rfl rfl)
theorem dX4_period_16 : decode cX4_period 16 = .ok (.bipush 36, 2) := dk_16 36 (dk_at dksX4_period_0 16 rfl rfl)
theorem dX4_period_18 : decode cX4_period 18 = .ok (.aload_n 0, 1) := dk_42 (dk_at dksX4_period_0 18 rfl rfl)
theorem dX4_period_19 : decode cX4_period 19 = .ok (.getfield 22, 3) := dk_180 0 22 (dk_at dksX4_period_0 19 rfl rfl)
theorem dX4_period_22 : decode cX4_period 22 = .ok (.imul, 1) := dk_104 (dk_at dksX4_period_0 22 rfl rfl)
theorem dX4_period_23 : decode cX4_period 23 = .ok (.if_icmp .gt 7, 3) := dk_163 0 7 (dk_at dksX4_period_1 0 rfl rfl)
theorem dX4_period_26 : decode cX4_period 26 = .ok (.iload_n 1, 1) := dk_27 (dk_at dksX4_period_1 3 rfl rfl)
theorem dX4_period_27 : decode cX4_period 27 = .ok (.iload_n 2, 1) := dk_28 (dk_at dksX4_period_1 4 rfl rfl)
theorem dX4_period_28 : decode cX4_period 28 = .ok (.iadd, 1) := dk_96 (dk_at dksX4_period_1 5 rfl rfl)
theorem dX4_period_29 : decode cX4_period 29 = .ok (.istore_n 1, 1) := dk_60 (dk_at dksX4_period_1 6 rfl rfl)
theorem dX4_period_30 : decode cX4_period 30 = .ok (.iload_n 2, 1) := dk_28 (dk_at dksX4_period_1 7 rfl rfl)
theorem dX4_period_31 : decode cX4_period 31 = .ok (.iconst 2, 1) := dk_5 (dk_at dksX4_period_1 8 rfl rfl)
theorem dX4_period_32 : decode cX4_period 32 = .ok (.idiv, 1) := dk_108 (dk_at dksX4_period_1 9 rfl rfl)
theorem dX4_period_33 : decode cX4_period 33 = .ok (.istore_n 2, 1) := dk_61 (dk_at dksX4_period_1 10 rfl rfl)
theorem dX4_period_34 : decode cX4_period 34 = .ok (.goto (-29), 3) := dk_167 255 227 (dk_at dksX4_period_1 11 rfl rfl)
theorem dX4_period_37 : decode cX4_period 37 = .ok (.iload_n 1, 1) := dk_27 (dk_at dksX4_period_1 14 rfl rfl)
theorem dX4_period_38 : decode cX4_period 38 = .ok (.ireturn, 1) := dk_172 (dk_at dksX4_period_1 15 rfl rfl)
abbrev cX4_copy : ByteArray := prog_11_method_2_code
def yX4_copy : MethodName := ⟨RX4, "copy", "()LPendulumGym$Pendulum;"⟩
def dkwX4_copy_1 : List UInt8 := [43, 42, 180, 0, 12, 181, 0, 12, 43, 176]
abbrev dktX4_copy_1 : List UInt8 := dkwX4_copy_1 ++ []
def dkwX4_copy_0 : List UInt8 := [187, 0, 13, 89, 42, 180, 0, 18, 42, 180, 0, 22, 183, 0, 25, 76, 43, 42, 180, 0, 28, 181, 0, 28]
abbrev dktX4_copy_0 : List UInt8 := dkwX4_copy_0 ++ dktX4_copy_1
theorem dksX4_copy_0 : cX4_copy.data.toList.drop 0 = dktX4_copy_0 := by decide +kernel
theorem dksX4_copy_1 : cX4_copy.data.toList.drop 24 = dktX4_copy_1 := dk_seg dksX4_copy_0 24 rfl rfl
theorem dX4_copy_0 : decode cX4_copy 0 = .ok (.new 13, 3) := dk_187 0 13 (dk_at dksX4_copy_0 0 rfl rfl)
theorem dX4_copy_3 : decode cX4_copy 3 = .ok (.dup, 1) := dk_89 (dk_at dksX4_copy_0 3 rfl rfl)
theorem dX4_copy_4 : decode cX4_copy 4 = .ok (.aload_n 0, 1) := dk_42 (dk_at dksX4_copy_0 4 rfl rfl)
theorem dX4_copy_5 : decode cX4_copy 5 = .ok (.getfield 18, 3) := dk_180 0 18 (dk_at dksX4_copy_0 5 rfl rfl)
theorem dX4_copy_8 : decode cX4_copy 8 = .ok (.aload_n 0, 1) := dk_42 (dk_at dksX4_copy_0 8 rfl rfl)
theorem dX4_copy_9 : decode cX4_copy 9 = .ok (.getfield 22, 3) := dk_180 0 22 (dk_at dksX4_copy_0 9 rfl rfl)
theorem dX4_copy_12 : decode cX4_copy 12 = .ok (.invokespecial 25, 3) := dk_183 0 25 (dk_at dksX4_copy_0 12 rfl rfl)
theorem dX4_copy_15 : decode cX4_copy 15 = .ok (.astore_n 1, 1) := dk_76 (dk_at dksX4_copy_0 15 rfl rfl)
theorem dX4_copy_16 : decode cX4_copy 16 = .ok (.aload_n 1, 1) := dk_43 (dk_at dksX4_copy_0 16 rfl rfl)
theorem dX4_copy_17 : decode cX4_copy 17 = .ok (.aload_n 0, 1) := dk_42 (dk_at dksX4_copy_0 17 rfl rfl)
theorem dX4_copy_18 : decode cX4_copy 18 = .ok (.getfield 28, 3) := dk_180 0 28 (dk_at dksX4_copy_0 18 rfl rfl)
theorem dX4_copy_21 : decode cX4_copy 21 = .ok (.putfield 28, 3) := dk_181 0 28 (dk_at dksX4_copy_0 21 rfl rfl)
theorem dX4_copy_24 : decode cX4_copy 24 = .ok (.aload_n 1, 1) := dk_43 (dk_at dksX4_copy_1 0 rfl rfl)
theorem dX4_copy_25 : decode cX4_copy 25 = .ok (.aload_n 0, 1) := dk_42 (dk_at dksX4_copy_1 1 rfl rfl)
theorem dX4_copy_26 : decode cX4_copy 26 = .ok (.getfield 12, 3) := dk_180 0 12 (dk_at dksX4_copy_1 2 rfl rfl)
theorem dX4_copy_29 : decode cX4_copy 29 = .ok (.putfield 12, 3) := dk_181 0 12 (dk_at dksX4_copy_1 5 rfl rfl)
theorem dX4_copy_32 : decode cX4_copy 32 = .ok (.aload_n 1, 1) := dk_43 (dk_at dksX4_copy_1 8 rfl rfl)
theorem dX4_copy_33 : decode cX4_copy 33 = .ok (.areturn, 1) := dk_176 (dk_at dksX4_copy_1 9 rfl rfl)
abbrev cX4_init : ByteArray := prog_11_method_1_code
def yX4_init : MethodName := ⟨RX4, "<init>", "(II)V"⟩
def dkwX4_init_1 : List UInt8 := [181, 0, 22, 177]
abbrev dktX4_init_1 : List UInt8 := dkwX4_init_1 ++ []
def dkwX4_init_0 : List UInt8 := [42, 183, 0, 3, 42, 187, 0, 9, 89, 183, 0, 11, 181, 0, 12, 42, 27, 181, 0, 18, 42, 28]
abbrev dktX4_init_0 : List UInt8 := dkwX4_init_0 ++ dktX4_init_1
theorem dksX4_init_0 : cX4_init.data.toList.drop 0 = dktX4_init_0 := by decide +kernel
theorem dksX4_init_1 : cX4_init.data.toList.drop 22 = dktX4_init_1 := dk_seg dksX4_init_0 22 rfl rfl
theorem dX4_init_0 : decode cX4_init 0 = .ok (.aload_n 0, 1) := dk_42 (dk_at dksX4_init_0 0 rfl rfl)
theorem dX4_init_1 : decode cX4_init 1 = .ok (.invokespecial 3, 3) := dk_183 0 3 (dk_at dksX4_init_0 1 rfl rfl)
theorem dX4_init_4 : decode cX4_init 4 = .ok (.aload_n 0, 1) := dk_42 (dk_at dksX4_init_0 4 rfl rfl)
theorem dX4_init_5 : decode cX4_init 5 = .ok (.new 9, 3) := dk_187 0 9 (dk_at dksX4_init_0 5 rfl rfl)
theorem dX4_init_8 : decode cX4_init 8 = .ok (.dup, 1) := dk_89 (dk_at dksX4_init_0 8 rfl rfl)
theorem dX4_init_9 : decode cX4_init 9 = .ok (.invokespecial 11, 3) := dk_183 0 11 (dk_at dksX4_init_0 9 rfl rfl)
theorem dX4_init_12 : decode cX4_init 12 = .ok (.putfield 12, 3) := dk_181 0 12 (dk_at dksX4_init_0 12 rfl rfl)
theorem dX4_init_15 : decode cX4_init 15 = .ok (.aload_n 0, 1) := dk_42 (dk_at dksX4_init_0 15 rfl rfl)
theorem dX4_init_16 : decode cX4_init 16 = .ok (.iload_n 1, 1) := dk_27 (dk_at dksX4_init_0 16 rfl rfl)
theorem dX4_init_17 : decode cX4_init 17 = .ok (.putfield 18, 3) := dk_181 0 18 (dk_at dksX4_init_0 17 rfl rfl)
theorem dX4_init_20 : decode cX4_init 20 = .ok (.aload_n 0, 1) := dk_42 (dk_at dksX4_init_0 20 rfl rfl)
theorem dX4_init_21 : decode cX4_init 21 = .ok (.iload_n 2, 1) := dk_28 (dk_at dksX4_init_0 21 rfl rfl)
theorem dX4_init_22 : decode cX4_init 22 = .ok (.putfield 22, 3) := dk_181 0 22 (dk_at dksX4_init_1 0 rfl rfl)
theorem dX4_init_25 : decode cX4_init 25 = .ok (.return_, 1) := dk_177 (dk_at dksX4_init_1 3 rfl rfl)
abbrev cX4_amplitude : ByteArray := prog_11_method_3_code
def yX4_amplitude : MethodName := ⟨RX4, "amplitude", "()I"⟩
def dkwX4_amplitude_1 : List UInt8 := [3, 172]
abbrev dktX4_amplitude_1 : List UInt8 := dkwX4_amplitude_1 ++ []
def dkwX4_amplitude_0 : List UInt8 := [42, 180, 0, 12, 77, 44, 193, 0, 31, 153, 0, 15, 44, 192, 0, 31, 76, 43, 180, 0, 33, 167, 0, 4]
abbrev dktX4_amplitude_0 : List UInt8 := dkwX4_amplitude_0 ++ dktX4_amplitude_1
theorem dksX4_amplitude_0 : cX4_amplitude.data.toList.drop 0 = dktX4_amplitude_0 := by decide +kernel
theorem dksX4_amplitude_1 : cX4_amplitude.data.toList.drop 24 = dktX4_amplitude_1 := dk_seg dksX4_amplitude_0 24 rfl rfl
theorem dX4_amplitude_0 : decode cX4_amplitude 0 = .ok (.aload_n 0, 1) := dk_42 (dk_at dksX4_amplitude_0 0 rfl rfl)
theorem dX4_amplitude_1 : decode cX4_amplitude 1 = .ok (.getfield 12, 3) := dk_180 0 12 (dk_at dksX4_amplitude_0 1 rfl rfl)
theorem dX4_amplitude_4 : decode cX4_amplitude 4 = .ok (.astore_n 2, 1) := dk_77 (dk_at dksX4_amplitude_0 4 rfl rfl)
theorem dX4_amplitude_5 : decode cX4_amplitude 5 = .ok (.aload_n 2, 1) := dk_44 (dk_at dksX4_amplitude_0 5 rfl rfl)
theorem dX4_amplitude_6 : decode cX4_amplitude 6 = .ok (.instanceof 31, 3) := dk_193 0 31 (dk_at dksX4_amplitude_0 6 rfl rfl)
theorem dX4_amplitude_9 : decode cX4_amplitude 9 = .ok (.ifCond .eq 15, 3) := dk_153 0 15 (dk_at dksX4_amplitude_0 9 rfl rfl)
theorem dX4_amplitude_12 : decode cX4_amplitude 12 = .ok (.aload_n 2, 1) := dk_44 (dk_at dksX4_amplitude_0 12 rfl rfl)
theorem dX4_amplitude_13 : decode cX4_amplitude 13 = .ok (.checkcast 31, 3) := dk_192 0 31 (dk_at dksX4_amplitude_0 13 rfl rfl)
theorem dX4_amplitude_16 : decode cX4_amplitude 16 = .ok (.astore_n 1, 1) := dk_76 (dk_at dksX4_amplitude_0 16 rfl rfl)
theorem dX4_amplitude_17 : decode cX4_amplitude 17 = .ok (.aload_n 1, 1) := dk_43 (dk_at dksX4_amplitude_0 17 rfl rfl)
theorem dX4_amplitude_18 : decode cX4_amplitude 18 = .ok (.getfield 33, 3) := dk_180 0 33 (dk_at dksX4_amplitude_0 18 rfl rfl)
theorem dX4_amplitude_21 : decode cX4_amplitude 21 = .ok (.goto 4, 3) := dk_167 0 4 (dk_at dksX4_amplitude_0 21 rfl rfl)
theorem dX4_amplitude_24 : decode cX4_amplitude 24 = .ok (.iconst 0, 1) := dk_3 (dk_at dksX4_amplitude_1 0 rfl rfl)
theorem dX4_amplitude_25 : decode cX4_amplitude 25 = .ok (.ireturn, 1) := dk_172 (dk_at dksX4_amplitude_1 1 rfl rfl)
abbrev cX4_tick : ByteArray := prog_11_method_8_code
def yX4_tick : MethodName := ⟨RX4, "tick", "(II)I"⟩
def dkwX4_tick_4 : List UInt8 := [181, 0, 12, 4, 172]
abbrev dktX4_tick_4 : List UInt8 := dkwX4_tick_4 ++ []
def dkwX4_tick_3 : List UInt8 := [187, 0, 9, 89, 183, 0, 11, 167, 0, 16, 187, 0, 31, 89, 21, 4, 45, 180, 0, 42, 183, 0, 49]
abbrev dktX4_tick_3 : List UInt8 := dkwX4_tick_3 ++ dktX4_tick_4
def dkwX4_tick_2 : List UInt8 := [184, 0, 45, 100, 54, 4, 42, 89, 180, 0, 28, 4, 96, 181, 0, 28, 42, 21, 4, 154, 0, 13]
abbrev dktX4_tick_2 : List UInt8 := dkwX4_tick_2 ++ dktX4_tick_3
def dkwX4_tick_1 : List UInt8 := [180, 0, 42, 100, 42, 182, 0, 36, 112, 153, 0, 5, 3, 172, 45, 180, 0, 33, 45, 180, 0, 33, 28]
abbrev dktX4_tick_1 : List UInt8 := dkwX4_tick_1 ++ dktX4_tick_2
def dkwX4_tick_0 : List UInt8 := [42, 180, 0, 12, 58, 4, 25, 4, 193, 0, 31, 153, 0, 23, 25, 4, 192, 0, 31, 78, 27, 45]
abbrev dktX4_tick_0 : List UInt8 := dkwX4_tick_0 ++ dktX4_tick_1
theorem dksX4_tick_0 : cX4_tick.data.toList.drop 0 = dktX4_tick_0 := by decide +kernel
theorem dksX4_tick_1 : cX4_tick.data.toList.drop 22 = dktX4_tick_1 := dk_seg dksX4_tick_0 22 rfl rfl
theorem dksX4_tick_2 : cX4_tick.data.toList.drop 45 = dktX4_tick_2 := dk_seg dksX4_tick_1 23 rfl rfl
theorem dksX4_tick_3 : cX4_tick.data.toList.drop 67 = dktX4_tick_3 := dk_seg dksX4_tick_2 22 rfl rfl
theorem dksX4_tick_4 : cX4_tick.data.toList.drop 90 = dktX4_tick_4 := dk_seg dksX4_tick_3 23 rfl rfl
theorem dX4_tick_0 : decode cX4_tick 0 = .ok (.aload_n 0, 1) := dk_42 (dk_at dksX4_tick_0 0 rfl rfl)
theorem dX4_tick_1 : decode cX4_tick 1 = .ok (.getfield 12, 3) := dk_180 0 12 (dk_at dksX4_tick_0 1 rfl rfl)
theorem dX4_tick_4 : decode cX4_tick 4 = .ok (.astore 4, 2) := dk_58 4 (dk_at dksX4_tick_0 4 rfl rfl)
theorem dX4_tick_6 : decode cX4_tick 6 = .ok (.aload 4, 2) := dk_25 4 (dk_at dksX4_tick_0 6 rfl rfl)
theorem dX4_tick_8 : decode cX4_tick 8 = .ok (.instanceof 31, 3) := dk_193 0 31 (dk_at dksX4_tick_0 8 rfl rfl)
theorem dX4_tick_11 : decode cX4_tick 11 = .ok (.ifCond .eq 23, 3) := dk_153 0 23 (dk_at dksX4_tick_0 11 rfl rfl)
theorem dX4_tick_14 : decode cX4_tick 14 = .ok (.aload 4, 2) := dk_25 4 (dk_at dksX4_tick_0 14 rfl rfl)
theorem dX4_tick_16 : decode cX4_tick 16 = .ok (.checkcast 31, 3) := dk_192 0 31 (dk_at dksX4_tick_0 16 rfl rfl)
theorem dX4_tick_19 : decode cX4_tick 19 = .ok (.astore_n 3, 1) := dk_78 (dk_at dksX4_tick_0 19 rfl rfl)
theorem dX4_tick_20 : decode cX4_tick 20 = .ok (.iload_n 1, 1) := dk_27 (dk_at dksX4_tick_0 20 rfl rfl)
theorem dX4_tick_21 : decode cX4_tick 21 = .ok (.aload_n 3, 1) := dk_45 (dk_at dksX4_tick_0 21 rfl rfl)
theorem dX4_tick_22 : decode cX4_tick 22 = .ok (.getfield 42, 3) := dk_180 0 42 (dk_at dksX4_tick_1 0 rfl rfl)
theorem dX4_tick_25 : decode cX4_tick 25 = .ok (.isub, 1) := dk_100 (dk_at dksX4_tick_1 3 rfl rfl)
theorem dX4_tick_26 : decode cX4_tick 26 = .ok (.aload_n 0, 1) := dk_42 (dk_at dksX4_tick_1 4 rfl rfl)
theorem dX4_tick_27 : decode cX4_tick 27 = .ok (.invokevirtual 36, 3) := dk_182 0 36 (dk_at dksX4_tick_1 5 rfl rfl)
theorem dX4_tick_30 : decode cX4_tick 30 = .ok (.irem, 1) := dk_112 (dk_at dksX4_tick_1 8 rfl rfl)
theorem dX4_tick_31 : decode cX4_tick 31 = .ok (.ifCond .eq 5, 3) := dk_153 0 5 (dk_at dksX4_tick_1 9 rfl rfl)
theorem dX4_tick_34 : decode cX4_tick 34 = .ok (.iconst 0, 1) := dk_3 (dk_at dksX4_tick_1 12 rfl rfl)
theorem dX4_tick_35 : decode cX4_tick 35 = .ok (.ireturn, 1) := dk_172 (dk_at dksX4_tick_1 13 rfl rfl)
theorem dX4_tick_36 : decode cX4_tick 36 = .ok (.aload_n 3, 1) := dk_45 (dk_at dksX4_tick_1 14 rfl rfl)
theorem dX4_tick_37 : decode cX4_tick 37 = .ok (.getfield 33, 3) := dk_180 0 33 (dk_at dksX4_tick_1 15 rfl rfl)
theorem dX4_tick_40 : decode cX4_tick 40 = .ok (.aload_n 3, 1) := dk_45 (dk_at dksX4_tick_1 18 rfl rfl)
theorem dX4_tick_41 : decode cX4_tick 41 = .ok (.getfield 33, 3) := dk_180 0 33 (dk_at dksX4_tick_1 19 rfl rfl)
theorem dX4_tick_44 : decode cX4_tick 44 = .ok (.iload_n 2, 1) := dk_28 (dk_at dksX4_tick_1 22 rfl rfl)
theorem dX4_tick_45 : decode cX4_tick 45 = .ok (.invokestatic 45, 3) := dk_184 0 45 (dk_at dksX4_tick_2 0 rfl rfl)
theorem dX4_tick_48 : decode cX4_tick 48 = .ok (.isub, 1) := dk_100 (dk_at dksX4_tick_2 3 rfl rfl)
theorem dX4_tick_49 : decode cX4_tick 49 = .ok (.istore 4, 2) := dk_54 4 (dk_at dksX4_tick_2 4 rfl rfl)
theorem dX4_tick_51 : decode cX4_tick 51 = .ok (.aload_n 0, 1) := dk_42 (dk_at dksX4_tick_2 6 rfl rfl)
theorem dX4_tick_52 : decode cX4_tick 52 = .ok (.dup, 1) := dk_89 (dk_at dksX4_tick_2 7 rfl rfl)
theorem dX4_tick_53 : decode cX4_tick 53 = .ok (.getfield 28, 3) := dk_180 0 28 (dk_at dksX4_tick_2 8 rfl rfl)
theorem dX4_tick_56 : decode cX4_tick 56 = .ok (.iconst 1, 1) := dk_4 (dk_at dksX4_tick_2 11 rfl rfl)
theorem dX4_tick_57 : decode cX4_tick 57 = .ok (.iadd, 1) := dk_96 (dk_at dksX4_tick_2 12 rfl rfl)
theorem dX4_tick_58 : decode cX4_tick 58 = .ok (.putfield 28, 3) := dk_181 0 28 (dk_at dksX4_tick_2 13 rfl rfl)
theorem dX4_tick_61 : decode cX4_tick 61 = .ok (.aload_n 0, 1) := dk_42 (dk_at dksX4_tick_2 16 rfl rfl)
theorem dX4_tick_62 : decode cX4_tick 62 = .ok (.iload 4, 2) := dk_21 4 (dk_at dksX4_tick_2 17 rfl rfl)
theorem dX4_tick_64 : decode cX4_tick 64 = .ok (.ifCond .ne 13, 3) := dk_154 0 13 (dk_at dksX4_tick_2 19 rfl rfl)
theorem dX4_tick_67 : decode cX4_tick 67 = .ok (.new 9, 3) := dk_187 0 9 (dk_at dksX4_tick_3 0 rfl rfl)
theorem dX4_tick_70 : decode cX4_tick 70 = .ok (.dup, 1) := dk_89 (dk_at dksX4_tick_3 3 rfl rfl)
theorem dX4_tick_71 : decode cX4_tick 71 = .ok (.invokespecial 11, 3) := dk_183 0 11 (dk_at dksX4_tick_3 4 rfl rfl)
theorem dX4_tick_74 : decode cX4_tick 74 = .ok (.goto 16, 3) := dk_167 0 16 (dk_at dksX4_tick_3 7 rfl rfl)
theorem dX4_tick_77 : decode cX4_tick 77 = .ok (.new 31, 3) := dk_187 0 31 (dk_at dksX4_tick_3 10 rfl rfl)
theorem dX4_tick_80 : decode cX4_tick 80 = .ok (.dup, 1) := dk_89 (dk_at dksX4_tick_3 13 rfl rfl)
theorem dX4_tick_81 : decode cX4_tick 81 = .ok (.iload 4, 2) := dk_21 4 (dk_at dksX4_tick_3 14 rfl rfl)
theorem dX4_tick_83 : decode cX4_tick 83 = .ok (.aload_n 3, 1) := dk_45 (dk_at dksX4_tick_3 16 rfl rfl)
theorem dX4_tick_84 : decode cX4_tick 84 = .ok (.getfield 42, 3) := dk_180 0 42 (dk_at dksX4_tick_3 17 rfl rfl)
theorem dX4_tick_87 : decode cX4_tick 87 = .ok (.invokespecial 49, 3) := dk_183 0 49 (dk_at dksX4_tick_3 20 rfl rfl)
theorem dX4_tick_90 : decode cX4_tick 90 = .ok (.putfield 12, 3) := dk_181 0 12 (dk_at dksX4_tick_4 0 rfl rfl)
theorem dX4_tick_93 : decode cX4_tick 93 = .ok (.iconst 1, 1) := dk_4 (dk_at dksX4_tick_4 3 rfl rfl)
theorem dX4_tick_94 : decode cX4_tick 94 = .ok (.ireturn, 1) := dk_172 (dk_at dksX4_tick_4 4 rfl rfl)
abbrev cX4_periodByEstimates : ByteArray := prog_11_method_5_code
def yX4_periodByEstimates : MethodName := ⟨RX4, "periodByEstimates", "()I"⟩
def dkwX4_periodByEstimates_1 : List UInt8 := [61, 167, 255, 241, 28, 172]
abbrev dktX4_periodByEstimates_1 : List UInt8 := dkwX4_periodByEstimates_1 ++ []
def dkwX4_periodByEstimates_0 : List UInt8 := [16, 36, 42, 180, 0, 22, 104, 60, 27, 61, 28, 27, 28, 108, 164, 0, 14, 28, 27, 28, 108, 96, 5, 108]
abbrev dktX4_periodByEstimates_0 : List UInt8 := dkwX4_periodByEstimates_0 ++ dktX4_periodByEstimates_1
theorem dksX4_periodByEstimates_0 : cX4_periodByEstimates.data.toList.drop 0 = dktX4_periodByEstimates_0 := by decide +kernel
theorem dksX4_periodByEstimates_1 : cX4_periodByEstimates.data.toList.drop 24 = dktX4_periodByEstimates_1 := dk_seg dksX4_periodByEstimates_0 24 rfl rfl
theorem dX4_periodByEstimates_0 : decode cX4_periodByEstimates 0 = .ok (.bipush 36, 2) := dk_16 36 (dk_at dksX4_periodByEstimates_0 0 rfl rfl)
theorem dX4_periodByEstimates_2 : decode cX4_periodByEstimates 2 = .ok (.aload_n 0, 1) := dk_42 (dk_at dksX4_periodByEstimates_0 2 rfl rfl)
theorem dX4_periodByEstimates_3 : decode cX4_periodByEstimates 3 = .ok (.getfield 22, 3) := dk_180 0 22 (dk_at dksX4_periodByEstimates_0 3 rfl rfl)
theorem dX4_periodByEstimates_6 : decode cX4_periodByEstimates 6 = .ok (.imul, 1) := dk_104 (dk_at dksX4_periodByEstimates_0 6 rfl rfl)
theorem dX4_periodByEstimates_7 : decode cX4_periodByEstimates 7 = .ok (.istore_n 1, 1) := dk_60 (dk_at dksX4_periodByEstimates_0 7 rfl rfl)
theorem dX4_periodByEstimates_8 : decode cX4_periodByEstimates 8 = .ok (.iload_n 1, 1) := dk_27 (dk_at dksX4_periodByEstimates_0 8 rfl rfl)
theorem dX4_periodByEstimates_9 : decode cX4_periodByEstimates 9 = .ok (.istore_n 2, 1) := dk_61 (dk_at dksX4_periodByEstimates_0 9 rfl rfl)
theorem dX4_periodByEstimates_10 : decode cX4_periodByEstimates 10 = .ok (.iload_n 2, 1) := dk_28 (dk_at dksX4_periodByEstimates_0 10 rfl rfl)
theorem dX4_periodByEstimates_11 : decode cX4_periodByEstimates 11 = .ok (.iload_n 1, 1) := dk_27 (dk_at dksX4_periodByEstimates_0 11 rfl rfl)
theorem dX4_periodByEstimates_12 : decode cX4_periodByEstimates 12 = .ok (.iload_n 2, 1) := dk_28 (dk_at dksX4_periodByEstimates_0 12 rfl rfl)
theorem dX4_periodByEstimates_13 : decode cX4_periodByEstimates 13 = .ok (.idiv, 1) := dk_108 (dk_at dksX4_periodByEstimates_0 13 rfl rfl)
theorem dX4_periodByEstimates_14 : decode cX4_periodByEstimates 14 = .ok (.if_icmp .le 14, 3) := dk_164 0 14 (dk_at dksX4_periodByEstimates_0 14 rfl rfl)
theorem dX4_periodByEstimates_17 : decode cX4_periodByEstimates 17 = .ok (.iload_n 2, 1) := dk_28 (dk_at dksX4_periodByEstimates_0 17 rfl rfl)
theorem dX4_periodByEstimates_18 : decode cX4_periodByEstimates 18 = .ok (.iload_n 1, 1) := dk_27 (dk_at dksX4_periodByEstimates_0 18 rfl rfl)
theorem dX4_periodByEstimates_19 : decode cX4_periodByEstimates 19 = .ok (.iload_n 2, 1) := dk_28 (dk_at dksX4_periodByEstimates_0 19 rfl rfl)
theorem dX4_periodByEstimates_20 : decode cX4_periodByEstimates 20 = .ok (.idiv, 1) := dk_108 (dk_at dksX4_periodByEstimates_0 20 rfl rfl)
theorem dX4_periodByEstimates_21 : decode cX4_periodByEstimates 21 = .ok (.iadd, 1) := dk_96 (dk_at dksX4_periodByEstimates_0 21 rfl rfl)
theorem dX4_periodByEstimates_22 : decode cX4_periodByEstimates 22 = .ok (.iconst 2, 1) := dk_5 (dk_at dksX4_periodByEstimates_0 22 rfl rfl)
theorem dX4_periodByEstimates_23 : decode cX4_periodByEstimates 23 = .ok (.idiv, 1) := dk_108 (dk_at dksX4_periodByEstimates_0 23 rfl rfl)
theorem dX4_periodByEstimates_24 : decode cX4_periodByEstimates 24 = .ok (.istore_n 2, 1) := dk_61 (dk_at dksX4_periodByEstimates_1 0 rfl rfl)
theorem dX4_periodByEstimates_25 : decode cX4_periodByEstimates 25 = .ok (.goto (-15), 3) := dk_167 255 241 (dk_at dksX4_periodByEstimates_1 1 rfl rfl)
theorem dX4_periodByEstimates_28 : decode cX4_periodByEstimates 28 = .ok (.iload_n 2, 1) := dk_28 (dk_at dksX4_periodByEstimates_1 4 rfl rfl)
theorem dX4_periodByEstimates_29 : decode cX4_periodByEstimates 29 = .ok (.ireturn, 1) := dk_172 (dk_at dksX4_periodByEstimates_1 5 rfl rfl)
abbrev cX4_isAheadOf : ByteArray := prog_11_method_7_code
def yX4_isAheadOf : MethodName := ⟨RX4, "isAheadOf", "(LPendulumGym$Pendulum;)Z"⟩
def dkwX4_isAheadOf_3 : List UInt8 := [167, 0, 4, 3, 172]
abbrev dktX4_isAheadOf_3 : List UInt8 := dkwX4_isAheadOf_3 ++ []
def dkwX4_isAheadOf_2 : List UInt8 := [164, 0, 7, 4, 167, 0, 23, 3, 167, 0, 19, 42, 180, 0, 18, 43, 180, 0, 18, 162, 0, 7, 4]
abbrev dktX4_isAheadOf_2 : List UInt8 := dkwX4_isAheadOf_2 ++ dktX4_isAheadOf_3
def dkwX4_isAheadOf_1 : List UInt8 := [167, 0, 4, 3, 172, 42, 180, 0, 28, 43, 180, 0, 28, 159, 0, 22, 42, 180, 0, 28, 43, 180, 0, 28]
abbrev dktX4_isAheadOf_1 : List UInt8 := dkwX4_isAheadOf_1 ++ dktX4_isAheadOf_2
def dkwX4_isAheadOf_0 : List UInt8 := [42, 182, 0, 40, 43, 182, 0, 40, 159, 0, 20, 42, 182, 0, 40, 43, 182, 0, 40, 164, 0, 7, 4]
abbrev dktX4_isAheadOf_0 : List UInt8 := dkwX4_isAheadOf_0 ++ dktX4_isAheadOf_1
theorem dksX4_isAheadOf_0 : cX4_isAheadOf.data.toList.drop 0 = dktX4_isAheadOf_0 := by decide +kernel
theorem dksX4_isAheadOf_1 : cX4_isAheadOf.data.toList.drop 23 = dktX4_isAheadOf_1 := dk_seg dksX4_isAheadOf_0 23 rfl rfl
theorem dksX4_isAheadOf_2 : cX4_isAheadOf.data.toList.drop 47 = dktX4_isAheadOf_2 := dk_seg dksX4_isAheadOf_1 24 rfl rfl
theorem dksX4_isAheadOf_3 : cX4_isAheadOf.data.toList.drop 70 = dktX4_isAheadOf_3 := dk_seg dksX4_isAheadOf_2 23 rfl rfl
theorem dX4_isAheadOf_0 : decode cX4_isAheadOf 0 = .ok (.aload_n 0, 1) := dk_42 (dk_at dksX4_isAheadOf_0 0 rfl rfl)
theorem dX4_isAheadOf_1 : decode cX4_isAheadOf 1 = .ok (.invokevirtual 40, 3) := dk_182 0 40 (dk_at dksX4_isAheadOf_0 1 rfl rfl)
theorem dX4_isAheadOf_4 : decode cX4_isAheadOf 4 = .ok (.aload_n 1, 1) := dk_43 (dk_at dksX4_isAheadOf_0 4 rfl rfl)
theorem dX4_isAheadOf_5 : decode cX4_isAheadOf 5 = .ok (.invokevirtual 40, 3) := dk_182 0 40 (dk_at dksX4_isAheadOf_0 5 rfl rfl)
theorem dX4_isAheadOf_8 : decode cX4_isAheadOf 8 = .ok (.if_icmp .eq 20, 3) := dk_159 0 20 (dk_at dksX4_isAheadOf_0 8 rfl rfl)
theorem dX4_isAheadOf_11 : decode cX4_isAheadOf 11 = .ok (.aload_n 0, 1) := dk_42 (dk_at dksX4_isAheadOf_0 11 rfl rfl)
theorem dX4_isAheadOf_12 : decode cX4_isAheadOf 12 = .ok (.invokevirtual 40, 3) := dk_182 0 40 (dk_at dksX4_isAheadOf_0 12 rfl rfl)
theorem dX4_isAheadOf_15 : decode cX4_isAheadOf 15 = .ok (.aload_n 1, 1) := dk_43 (dk_at dksX4_isAheadOf_0 15 rfl rfl)
theorem dX4_isAheadOf_16 : decode cX4_isAheadOf 16 = .ok (.invokevirtual 40, 3) := dk_182 0 40 (dk_at dksX4_isAheadOf_0 16 rfl rfl)
theorem dX4_isAheadOf_19 : decode cX4_isAheadOf 19 = .ok (.if_icmp .le 7, 3) := dk_164 0 7 (dk_at dksX4_isAheadOf_0 19 rfl rfl)
theorem dX4_isAheadOf_22 : decode cX4_isAheadOf 22 = .ok (.iconst 1, 1) := dk_4 (dk_at dksX4_isAheadOf_0 22 rfl rfl)
theorem dX4_isAheadOf_23 : decode cX4_isAheadOf 23 = .ok (.goto 4, 3) := dk_167 0 4 (dk_at dksX4_isAheadOf_1 0 rfl rfl)
theorem dX4_isAheadOf_26 : decode cX4_isAheadOf 26 = .ok (.iconst 0, 1) := dk_3 (dk_at dksX4_isAheadOf_1 3 rfl rfl)
theorem dX4_isAheadOf_27 : decode cX4_isAheadOf 27 = .ok (.ireturn, 1) := dk_172 (dk_at dksX4_isAheadOf_1 4 rfl rfl)
theorem dX4_isAheadOf_28 : decode cX4_isAheadOf 28 = .ok (.aload_n 0, 1) := dk_42 (dk_at dksX4_isAheadOf_1 5 rfl rfl)
theorem dX4_isAheadOf_29 : decode cX4_isAheadOf 29 = .ok (.getfield 28, 3) := dk_180 0 28 (dk_at dksX4_isAheadOf_1 6 rfl rfl)
theorem dX4_isAheadOf_32 : decode cX4_isAheadOf 32 = .ok (.aload_n 1, 1) := dk_43 (dk_at dksX4_isAheadOf_1 9 rfl rfl)
theorem dX4_isAheadOf_33 : decode cX4_isAheadOf 33 = .ok (.getfield 28, 3) := dk_180 0 28 (dk_at dksX4_isAheadOf_1 10 rfl rfl)
theorem dX4_isAheadOf_36 : decode cX4_isAheadOf 36 = .ok (.if_icmp .eq 22, 3) := dk_159 0 22 (dk_at dksX4_isAheadOf_1 13 rfl rfl)
theorem dX4_isAheadOf_39 : decode cX4_isAheadOf 39 = .ok (.aload_n 0, 1) := dk_42 (dk_at dksX4_isAheadOf_1 16 rfl rfl)
theorem dX4_isAheadOf_40 : decode cX4_isAheadOf 40 = .ok (.getfield 28, 3) := dk_180 0 28 (dk_at dksX4_isAheadOf_1 17 rfl rfl)
theorem dX4_isAheadOf_43 : decode cX4_isAheadOf 43 = .ok (.aload_n 1, 1) := dk_43 (dk_at dksX4_isAheadOf_1 20 rfl rfl)
theorem dX4_isAheadOf_44 : decode cX4_isAheadOf 44 = .ok (.getfield 28, 3) := dk_180 0 28 (dk_at dksX4_isAheadOf_1 21 rfl rfl)
theorem dX4_isAheadOf_47 : decode cX4_isAheadOf 47 = .ok (.if_icmp .le 7, 3) := dk_164 0 7 (dk_at dksX4_isAheadOf_2 0 rfl rfl)
theorem dX4_isAheadOf_50 : decode cX4_isAheadOf 50 = .ok (.iconst 1, 1) := dk_4 (dk_at dksX4_isAheadOf_2 3 rfl rfl)
theorem dX4_isAheadOf_51 : decode cX4_isAheadOf 51 = .ok (.goto 23, 3) := dk_167 0 23 (dk_at dksX4_isAheadOf_2 4 rfl rfl)
theorem dX4_isAheadOf_54 : decode cX4_isAheadOf 54 = .ok (.iconst 0, 1) := dk_3 (dk_at dksX4_isAheadOf_2 7 rfl rfl)
theorem dX4_isAheadOf_55 : decode cX4_isAheadOf 55 = .ok (.goto 19, 3) := dk_167 0 19 (dk_at dksX4_isAheadOf_2 8 rfl rfl)
theorem dX4_isAheadOf_58 : decode cX4_isAheadOf 58 = .ok (.aload_n 0, 1) := dk_42 (dk_at dksX4_isAheadOf_2 11 rfl rfl)
theorem dX4_isAheadOf_59 : decode cX4_isAheadOf 59 = .ok (.getfield 18, 3) := dk_180 0 18 (dk_at dksX4_isAheadOf_2 12 rfl rfl)
theorem dX4_isAheadOf_62 : decode cX4_isAheadOf 62 = .ok (.aload_n 1, 1) := dk_43 (dk_at dksX4_isAheadOf_2 15 rfl rfl)
theorem dX4_isAheadOf_63 : decode cX4_isAheadOf 63 = .ok (.getfield 18, 3) := dk_180 0 18 (dk_at dksX4_isAheadOf_2 16 rfl rfl)
theorem dX4_isAheadOf_66 : decode cX4_isAheadOf 66 = .ok (.if_icmp .ge 7, 3) := dk_162 0 7 (dk_at dksX4_isAheadOf_2 19 rfl rfl)
theorem dX4_isAheadOf_69 : decode cX4_isAheadOf 69 = .ok (.iconst 1, 1) := dk_4 (dk_at dksX4_isAheadOf_2 22 rfl rfl)
theorem dX4_isAheadOf_70 : decode cX4_isAheadOf 70 = .ok (.goto 4, 3) := dk_167 0 4 (dk_at dksX4_isAheadOf_3 0 rfl rfl)
theorem dX4_isAheadOf_73 : decode cX4_isAheadOf 73 = .ok (.iconst 0, 1) := dk_3 (dk_at dksX4_isAheadOf_3 3 rfl rfl)
theorem dX4_isAheadOf_74 : decode cX4_isAheadOf 74 = .ok (.ireturn, 1) := dk_172 (dk_at dksX4_isAheadOf_3 4 rfl rfl)
abbrev cX4_weekSwings : ByteArray := prog_11_method_6_code
def yX4_weekSwings : MethodName := ⟨RX4, "weekSwings", "()I"⟩
def dkwX4_weekSwings_0 : List UInt8 := [17, 0, 168, 42, 182, 0, 36, 108, 172]
abbrev dktX4_weekSwings_0 : List UInt8 := dkwX4_weekSwings_0 ++ []
theorem dksX4_weekSwings_0 : cX4_weekSwings.data.toList.drop 0 = dktX4_weekSwings_0 := by decide +kernel
theorem dX4_weekSwings_0 : decode cX4_weekSwings 0 = .ok (.sipush 168, 3) := dk_17 0 168 (dk_at dksX4_weekSwings_0 0 rfl rfl)
theorem dX4_weekSwings_3 : decode cX4_weekSwings 3 = .ok (.aload_n 0, 1) := dk_42 (dk_at dksX4_weekSwings_0 3 rfl rfl)
theorem dX4_weekSwings_4 : decode cX4_weekSwings 4 = .ok (.invokevirtual 36, 3) := dk_182 0 36 (dk_at dksX4_weekSwings_0 4 rfl rfl)
theorem dX4_weekSwings_7 : decode cX4_weekSwings 7 = .ok (.idiv, 1) := dk_108 (dk_at dksX4_weekSwings_0 7 rfl rfl)
theorem dX4_weekSwings_8 : decode cX4_weekSwings 8 = .ok (.ireturn, 1) := dk_172 (dk_at dksX4_weekSwings_0 8 rfl rfl)
theorem q84 : (Jvm.Cond.initialized "PendulumGym$Pendulum") ∈ lw_all := lw_g (lw_at lw_m1 17 rfl) rfl
theorem q377 : (Jvm.Cond.instanceMethod ({ cls := "PendulumGym$Pendulum", name := "period", desc := "()I" } : Jvm.MethodName)) ∈ lw_all := lw_g (lw_at lw_m2 70 rfl) rfl
theorem q378 : (Jvm.Cond.selects "PendulumGym$Pendulum" ({ cls := "PendulumGym$Pendulum", name := "period", desc := "()I" } : Jvm.MethodName) ({ cls := "PendulumGym$Pendulum", name := "period", desc := "()I" } : Jvm.MethodName)) ∈ lw_all := lw_g (lw_at lw_m2 71 rfl) rfl
theorem q379 : (Jvm.Cond.code ({ cls := "PendulumGym$Pendulum", name := "period", desc := "()I" } : Jvm.MethodName) prog_11_method_4_code (3 : Nat) (Option.some Jvm.ClassFile.FieldType.int)) ∈ lw_all := lw_g (lw_at lw_m2 72 rfl) rfl
theorem q402 : (Jvm.Cond.instanceMethod ({ cls := "PendulumGym$Pendulum", name := "copy", desc := "()LPendulumGym$Pendulum;" } : Jvm.MethodName)) ∈ lw_all := lw_g (lw_at lw_m2 95 rfl) rfl
theorem q403 : (Jvm.Cond.selects "PendulumGym$Pendulum" ({ cls := "PendulumGym$Pendulum", name := "copy", desc := "()LPendulumGym$Pendulum;" } : Jvm.MethodName) ({ cls := "PendulumGym$Pendulum", name := "copy", desc := "()LPendulumGym$Pendulum;" } : Jvm.MethodName)) ∈ lw_all := lw_g (lw_at lw_m2 96 rfl) rfl
theorem q404 : (Jvm.Cond.code ({ cls := "PendulumGym$Pendulum", name := "copy", desc := "()LPendulumGym$Pendulum;" } : Jvm.MethodName) prog_11_method_2_code (2 : Nat) (Option.some (Jvm.ClassFile.FieldType.object "PendulumGym$Pendulum"))) ∈ lw_all := lw_g (lw_at lw_m2 97 rfl) rfl
theorem q405 : (Jvm.Cond.classLink "PendulumGym$Pendulum" (13 : Nat) "PendulumGym$Pendulum") ∈ lw_all := lw_g (lw_at lw_m2 98 rfl) rfl
theorem q406 : (Jvm.Cond.instantiable "PendulumGym$Pendulum" (4 : Nat)) ∈ lw_all := lw_g (lw_at lw_m2 99 rfl) rfl
theorem q407 : (Jvm.Cond.methodLink "PendulumGym$Pendulum" (25 : Nat) ({ cls := "PendulumGym$Pendulum", name := "<init>", desc := "(II)V" } : Jvm.MethodName)) ∈ lw_all := lw_g (lw_at lw_m2 100 rfl) rfl
theorem q408 : (Jvm.Cond.instanceMethod ({ cls := "PendulumGym$Pendulum", name := "<init>", desc := "(II)V" } : Jvm.MethodName)) ∈ lw_all := lw_g (lw_at lw_m2 101 rfl) rfl
theorem q409 : (Jvm.Cond.code ({ cls := "PendulumGym$Pendulum", name := "<init>", desc := "(II)V" } : Jvm.MethodName) prog_11_method_1_code (3 : Nat) (Option.none : Option Jvm.ClassFile.FieldType)) ∈ lw_all := lw_g (lw_at lw_m2 102 rfl) rfl
theorem q410 : (Jvm.Cond.methodLink "PendulumGym$Pendulum" (3 : Nat) ({ cls := "java/lang/Object", name := "<init>", desc := "()V" } : Jvm.MethodName)) ∈ lw_all := lw_g (lw_at lw_m2 103 rfl) rfl
theorem q411 : (Jvm.Cond.classLink "PendulumGym$Pendulum" (9 : Nat) "PendulumGym$Rest") ∈ lw_all := lw_g (lw_at lw_m2 104 rfl) rfl
theorem q413 : (Jvm.Cond.methodLinkNest "PendulumGym$Pendulum" (11 : Nat) ({ cls := "PendulumGym$Rest", name := "<init>", desc := "()V" } : Jvm.MethodName) "PendulumGym") ∈ lw_tbl := lw_at lw_m2 106 rfl
theorem q418 : (Jvm.Cond.fieldLink "PendulumGym$Pendulum" (18 : Nat) "PendulumGym$Pendulum" "number" "I") ∈ lw_all := lw_g (lw_at lw_m2 111 rfl) rfl
theorem q419 : (Jvm.Cond.fieldLink "PendulumGym$Pendulum" (22 : Nat) "PendulumGym$Pendulum" "length" "I") ∈ lw_all := lw_g (lw_at lw_m2 112 rfl) rfl
theorem q422 : (Jvm.Cond.fieldLink "PendulumGym$Pendulum" (28 : Nat) "PendulumGym$Pendulum" "swings" "I") ∈ lw_all := lw_g (lw_at lw_m2 115 rfl) rfl
theorem q424 : (Jvm.Cond.fieldLink "PendulumGym$Pendulum" (12 : Nat) "PendulumGym$Pendulum" "motion" "LPendulumGym$Motion;") ∈ lw_all := lw_g (lw_at lw_m2 117 rfl) rfl
theorem q427 : (Jvm.Cond.laysFinal "PendulumGym$Pendulum" "PendulumGym$Pendulum" "number" "I") ∈ lw_all := lw_g (lw_at lw_m2 120 rfl) rfl
theorem q428 : (Jvm.Cond.soleField "PendulumGym$Pendulum" "number") ∈ lw_all := lw_g (lw_at lw_m2 121 rfl) rfl
theorem q429 : (Jvm.Cond.laysFinal "PendulumGym$Pendulum" "PendulumGym$Pendulum" "length" "I") ∈ lw_all := lw_g (lw_at lw_m2 122 rfl) rfl
theorem q430 : (Jvm.Cond.soleField "PendulumGym$Pendulum" "length") ∈ lw_all := lw_g (lw_at lw_m2 123 rfl) rfl
theorem q431 : (Jvm.Cond.lays "PendulumGym$Pendulum" "PendulumGym$Pendulum" "swings" "I") ∈ lw_all := lw_g (lw_at lw_m2 124 rfl) rfl
theorem q432 : (Jvm.Cond.soleField "PendulumGym$Pendulum" "swings") ∈ lw_all := lw_g (lw_at lw_m2 125 rfl) rfl
theorem q433 : (Jvm.Cond.lays "PendulumGym$Pendulum" "PendulumGym$Pendulum" "motion" "LPendulumGym$Motion;") ∈ lw_all := lw_g (lw_at lw_m2 126 rfl) rfl
theorem q434 : (Jvm.Cond.soleField "PendulumGym$Pendulum" "motion") ∈ lw_all := lw_g (lw_at lw_m2 127 rfl) rfl
theorem q435 : (Jvm.Cond.superclass "PendulumGym$Pendulum" "java/lang/Object") ∈ lw_all := lw_g (lw_at lw_m2 128 rfl) rfl
theorem q474 : (Jvm.Cond.selects "PendulumGym$Pendulum" ({ cls := "java/lang/Object", name := "getClass", desc := "()Ljava/lang/Class;" } : Jvm.MethodName) ({ cls := "java/lang/Object", name := "getClass", desc := "()Ljava/lang/Class;" } : Jvm.MethodName)) ∈ lw_all := lw_g (lw_at lw_m2 167 rfl) rfl
theorem q682 : (Jvm.Cond.instanceMethod ({ cls := "PendulumGym$Pendulum", name := "amplitude", desc := "()I" } : Jvm.MethodName)) ∈ lw_all := lw_g (lw_at lw_m3 135 rfl) rfl
theorem q683 : (Jvm.Cond.selects "PendulumGym$Pendulum" ({ cls := "PendulumGym$Pendulum", name := "amplitude", desc := "()I" } : Jvm.MethodName) ({ cls := "PendulumGym$Pendulum", name := "amplitude", desc := "()I" } : Jvm.MethodName)) ∈ lw_all := lw_g (lw_at lw_m3 136 rfl) rfl
theorem q684 : (Jvm.Cond.code ({ cls := "PendulumGym$Pendulum", name := "amplitude", desc := "()I" } : Jvm.MethodName) prog_11_method_3_code (3 : Nat) (Option.some Jvm.ClassFile.FieldType.int)) ∈ lw_all := lw_g (lw_at lw_m3 137 rfl) rfl
theorem q685 : (Jvm.Cond.classLink "PendulumGym$Pendulum" (31 : Nat) "PendulumGym$Swinging") ∈ lw_all := lw_g (lw_at lw_m3 138 rfl) rfl
theorem q722 : (Jvm.Cond.fieldLink "PendulumGym$Pendulum" (33 : Nat) "PendulumGym$Swinging" "amplitude" "I") ∈ lw_all := lw_g (lw_at lw_m3 175 rfl) rfl
theorem q726 : (Jvm.Cond.fieldLink "PendulumGym$Pendulum" (42 : Nat) "PendulumGym$Swinging" "start" "I") ∈ lw_all := lw_g (lw_at lw_m3 179 rfl) rfl
theorem q775 : (Jvm.Cond.instanceMethod ({ cls := "PendulumGym$Pendulum", name := "tick", desc := "(II)I" } : Jvm.MethodName)) ∈ lw_all := lw_g (lw_at lw_m3 228 rfl) rfl
theorem q776 : (Jvm.Cond.selects "PendulumGym$Pendulum" ({ cls := "PendulumGym$Pendulum", name := "tick", desc := "(II)I" } : Jvm.MethodName) ({ cls := "PendulumGym$Pendulum", name := "tick", desc := "(II)I" } : Jvm.MethodName)) ∈ lw_all := lw_g (lw_at lw_m3 229 rfl) rfl
theorem q777 : (Jvm.Cond.code ({ cls := "PendulumGym$Pendulum", name := "tick", desc := "(II)I" } : Jvm.MethodName) prog_11_method_8_code (5 : Nat) (Option.some Jvm.ClassFile.FieldType.int)) ∈ lw_all := lw_g (lw_at lw_m3 230 rfl) rfl
theorem q778 : (Jvm.Cond.methodLink "PendulumGym$Pendulum" (36 : Nat) ({ cls := "PendulumGym$Pendulum", name := "period", desc := "()I" } : Jvm.MethodName)) ∈ lw_all := lw_g (lw_at lw_m3 231 rfl) rfl
theorem q779 : (Jvm.Cond.methodLinkNest "PendulumGym$Pendulum" (45 : Nat) ({ cls := "PendulumGym", name := "loss", desc := "(II)I" } : Jvm.MethodName) "PendulumGym") ∈ lw_tbl := lw_at lw_m3 232 rfl
theorem q783 : (Jvm.Cond.methodLink "PendulumGym$Pendulum" (49 : Nat) ({ cls := "PendulumGym$Swinging", name := "<init>", desc := "(II)V" } : Jvm.MethodName)) ∈ lw_all := lw_g (lw_at lw_m3 236 rfl) rfl
theorem q833 : (Jvm.Cond.instanceMethod ({ cls := "PendulumGym$Pendulum", name := "periodByEstimates", desc := "()I" } : Jvm.MethodName)) ∈ lw_all := lw_g (lw_at lw_m4 46 rfl) rfl
theorem q834 : (Jvm.Cond.selects "PendulumGym$Pendulum" ({ cls := "PendulumGym$Pendulum", name := "periodByEstimates", desc := "()I" } : Jvm.MethodName) ({ cls := "PendulumGym$Pendulum", name := "periodByEstimates", desc := "()I" } : Jvm.MethodName)) ∈ lw_all := lw_g (lw_at lw_m4 47 rfl) rfl
theorem q835 : (Jvm.Cond.code ({ cls := "PendulumGym$Pendulum", name := "periodByEstimates", desc := "()I" } : Jvm.MethodName) prog_11_method_5_code (3 : Nat) (Option.some Jvm.ClassFile.FieldType.int)) ∈ lw_all := lw_g (lw_at lw_m4 48 rfl) rfl
theorem q872 : (Jvm.Cond.instanceMethod ({ cls := "PendulumGym$Pendulum", name := "isAheadOf", desc := "(LPendulumGym$Pendulum;)Z" } : Jvm.MethodName)) ∈ lw_all := lw_g (lw_at lw_m4 85 rfl) rfl
theorem q873 : (Jvm.Cond.selects "PendulumGym$Pendulum" ({ cls := "PendulumGym$Pendulum", name := "isAheadOf", desc := "(LPendulumGym$Pendulum;)Z" } : Jvm.MethodName) ({ cls := "PendulumGym$Pendulum", name := "isAheadOf", desc := "(LPendulumGym$Pendulum;)Z" } : Jvm.MethodName)) ∈ lw_all := lw_g (lw_at lw_m4 86 rfl) rfl
theorem q874 : (Jvm.Cond.code ({ cls := "PendulumGym$Pendulum", name := "isAheadOf", desc := "(LPendulumGym$Pendulum;)Z" } : Jvm.MethodName) prog_11_method_7_code (2 : Nat) (Option.some Jvm.ClassFile.FieldType.boolean)) ∈ lw_all := lw_g (lw_at lw_m4 87 rfl) rfl
theorem q875 : (Jvm.Cond.methodLink "PendulumGym$Pendulum" (40 : Nat) ({ cls := "PendulumGym$Pendulum", name := "amplitude", desc := "()I" } : Jvm.MethodName)) ∈ lw_all := lw_g (lw_at lw_m4 88 rfl) rfl
theorem q1131 : (Jvm.Cond.instanceMethod ({ cls := "PendulumGym$Pendulum", name := "weekSwings", desc := "()I" } : Jvm.MethodName)) ∈ lw_all := lw_g (lw_at lw_m5 104 rfl) rfl
theorem q1132 : (Jvm.Cond.selects "PendulumGym$Pendulum" ({ cls := "PendulumGym$Pendulum", name := "weekSwings", desc := "()I" } : Jvm.MethodName) ({ cls := "PendulumGym$Pendulum", name := "weekSwings", desc := "()I" } : Jvm.MethodName)) ∈ lw_all := lw_g (lw_at lw_m5 105 rfl) rfl
theorem q1133 : (Jvm.Cond.code ({ cls := "PendulumGym$Pendulum", name := "weekSwings", desc := "()I" } : Jvm.MethodName) prog_11_method_6_code (1 : Nat) (Option.some Jvm.ClassFile.FieldType.int)) ∈ lw_all := lw_g (lw_at lw_m5 106 rfl) rfl
theorem q2129 : (Jvm.Cond.castable "PendulumGym$Pendulum" "java/lang/Object") ∈ lw_tbl := lw_at lw_m9 142 rfl
theorem in_X4 : ∀ w ∈ wsX40, w ∈ lw_all := lw_in wsX40 [427, 429, 431, 433] (by decide +kernel) (by decide +kernel)
/-! PendulumGym$Rest -/
set_option maxRecDepth 100000
def RX5 : String := "PendulumGym$Rest"
abbrev cX5_init : ByteArray := prog_14_method_1_code
def yX5_init : MethodName := ⟨RX5, "<init>", "()V"⟩
theorem dX5_init_0 : decode cX5_init 0 = .ok (.aload_n 0, 1) := by decide +kernel
theorem dX5_init_1 : decode cX5_init 1 = .ok (.invokespecial 1, 3) := by decide +kernel
theorem dX5_init_4 : decode cX5_init 4 = .ok (.return_, 1) := by decide +kernel
theorem q85 : (Jvm.Cond.initialized "PendulumGym$Rest") ∈ lw_all := lw_g (lw_at lw_m1 18 rfl) rfl
theorem q412 : (Jvm.Cond.instantiable "PendulumGym$Rest" (0 : Nat)) ∈ lw_all := lw_g (lw_at lw_m2 105 rfl) rfl
theorem q414 : (Jvm.Cond.instanceMethod ({ cls := "PendulumGym$Rest", name := "<init>", desc := "()V" } : Jvm.MethodName)) ∈ lw_all := lw_g (lw_at lw_m2 107 rfl) rfl
theorem q415 : (Jvm.Cond.code ({ cls := "PendulumGym$Rest", name := "<init>", desc := "()V" } : Jvm.MethodName) prog_14_method_1_code (1 : Nat) (Option.none : Option Jvm.ClassFile.FieldType)) ∈ lw_all := lw_g (lw_at lw_m2 108 rfl) rfl
theorem q416 : (Jvm.Cond.methodLink "PendulumGym$Rest" (1 : Nat) ({ cls := "java/lang/Object", name := "<init>", desc := "()V" } : Jvm.MethodName)) ∈ lw_all := lw_g (lw_at lw_m2 109 rfl) rfl
theorem q417 : (Jvm.Cond.superclass "PendulumGym$Rest" "java/lang/Object") ∈ lw_all := lw_g (lw_at lw_m2 110 rfl) rfl
theorem q477 : (Jvm.Cond.selects "PendulumGym$Rest" ({ cls := "java/lang/Object", name := "getClass", desc := "()Ljava/lang/Class;" } : Jvm.MethodName) ({ cls := "java/lang/Object", name := "getClass", desc := "()Ljava/lang/Class;" } : Jvm.MethodName)) ∈ lw_all := lw_g (lw_at lw_m2 170 rfl) rfl
theorem q2130 : (Jvm.Cond.castable "PendulumGym$Rest" "java/lang/Object") ∈ lw_tbl := lw_at lw_m9 143 rfl
/-! PendulumGym$Kind -/
set_option maxRecDepth 100000
def RX6 : String := "PendulumGym$Kind"
abbrev cX6_of : ByteArray := prog_3_method_5_code
def yX6_of : MethodName := ⟨RX6, "of", "(I)LPendulumGym$Kind;"⟩
def dkwX6_of_1 : List UInt8 := [153, 0, 9, 178, 0, 7, 167, 0, 6, 178, 0, 10, 176]
abbrev dktX6_of_1 : List UInt8 := dkwX6_of_1 ++ []
def dkwX6_of_0 : List UInt8 := [178, 0, 3, 26, 182, 0, 32, 153, 0, 9, 178, 0, 3, 167, 0, 22, 178, 0, 7, 26, 182, 0, 32]
abbrev dktX6_of_0 : List UInt8 := dkwX6_of_0 ++ dktX6_of_1
theorem dksX6_of_0 : cX6_of.data.toList.drop 0 = dktX6_of_0 := by decide +kernel
theorem dksX6_of_1 : cX6_of.data.toList.drop 23 = dktX6_of_1 := dk_seg dksX6_of_0 23 rfl rfl
theorem dX6_of_0 : decode cX6_of 0 = .ok (.getstatic 3, 3) := dk_178 0 3 (dk_at dksX6_of_0 0 rfl rfl)
theorem dX6_of_3 : decode cX6_of 3 = .ok (.iload_n 0, 1) := dk_26 (dk_at dksX6_of_0 3 rfl rfl)
theorem dX6_of_4 : decode cX6_of 4 = .ok (.invokevirtual 32, 3) := dk_182 0 32 (dk_at dksX6_of_0 4 rfl rfl)
theorem dX6_of_7 : decode cX6_of 7 = .ok (.ifCond .eq 9, 3) := dk_153 0 9 (dk_at dksX6_of_0 7 rfl rfl)
theorem dX6_of_10 : decode cX6_of 10 = .ok (.getstatic 3, 3) := dk_178 0 3 (dk_at dksX6_of_0 10 rfl rfl)
theorem dX6_of_13 : decode cX6_of 13 = .ok (.goto 22, 3) := dk_167 0 22 (dk_at dksX6_of_0 13 rfl rfl)
theorem dX6_of_16 : decode cX6_of 16 = .ok (.getstatic 7, 3) := dk_178 0 7 (dk_at dksX6_of_0 16 rfl rfl)
theorem dX6_of_19 : decode cX6_of 19 = .ok (.iload_n 0, 1) := dk_26 (dk_at dksX6_of_0 19 rfl rfl)
theorem dX6_of_20 : decode cX6_of 20 = .ok (.invokevirtual 32, 3) := dk_182 0 32 (dk_at dksX6_of_0 20 rfl rfl)
theorem dX6_of_23 : decode cX6_of 23 = .ok (.ifCond .eq 9, 3) := dk_153 0 9 (dk_at dksX6_of_1 0 rfl rfl)
theorem dX6_of_26 : decode cX6_of 26 = .ok (.getstatic 7, 3) := dk_178 0 7 (dk_at dksX6_of_1 3 rfl rfl)
theorem dX6_of_29 : decode cX6_of 29 = .ok (.goto 6, 3) := dk_167 0 6 (dk_at dksX6_of_1 6 rfl rfl)
theorem dX6_of_32 : decode cX6_of 32 = .ok (.getstatic 10, 3) := dk_178 0 10 (dk_at dksX6_of_1 9 rfl rfl)
theorem dX6_of_35 : decode cX6_of 35 = .ok (.areturn, 1) := dk_176 (dk_at dksX6_of_1 12 rfl rfl)
theorem q96 : (Jvm.Cond.initialized "PendulumGym$Kind") ∈ lw_all := lw_g (lw_at lw_m1 29 rfl) rfl
theorem q687 : (Jvm.Cond.static ({ cls := "PendulumGym$Kind", name := "of", desc := "(I)LPendulumGym$Kind;" } : Jvm.MethodName)) ∈ lw_all := lw_g (lw_at lw_m3 140 rfl) rfl
theorem q688 : (Jvm.Cond.code ({ cls := "PendulumGym$Kind", name := "of", desc := "(I)LPendulumGym$Kind;" } : Jvm.MethodName) prog_3_method_5_code (1 : Nat) (Option.some (Jvm.ClassFile.FieldType.object "PendulumGym$Kind"))) ∈ lw_all := lw_g (lw_at lw_m3 141 rfl) rfl
theorem q689 : (Jvm.Cond.fieldLink "PendulumGym$Kind" (3 : Nat) "PendulumGym$Kind" "SHORT" "LPendulumGym$Kind;") ∈ lw_all := lw_g (lw_at lw_m3 142 rfl) rfl
theorem q690 : (Jvm.Cond.laysStatic "PendulumGym$Kind" "SHORT" "LPendulumGym$Kind;") ∈ lw_tbl := lw_at lw_m3 143 rfl
theorem q691 : (Jvm.Cond.methodLink "PendulumGym$Kind" (32 : Nat) ({ cls := "PendulumGym$Kind", name := "contains", desc := "(I)Z" } : Jvm.MethodName)) ∈ lw_all := lw_g (lw_at lw_m3 144 rfl) rfl
theorem q692 : (Jvm.Cond.declares ({ cls := "PendulumGym$Kind", name := "contains", desc := "(I)Z" } : Jvm.MethodName)) ∈ lw_tbl := lw_at lw_m3 145 rfl
theorem q693 : (Jvm.Cond.sameMethod "PendulumGym$Kind" "PendulumGym$Kind" "contains" "(I)Z") ∈ lw_all := lw_g (lw_at lw_m3 146 rfl) rfl
theorem q703 : (Jvm.Cond.fieldLink "PendulumGym$Kind" (7 : Nat) "PendulumGym$Kind" "MIDDLE" "LPendulumGym$Kind;") ∈ lw_all := lw_g (lw_at lw_m3 156 rfl) rfl
theorem q704 : (Jvm.Cond.laysStatic "PendulumGym$Kind" "MIDDLE" "LPendulumGym$Kind;") ∈ lw_tbl := lw_at lw_m3 157 rfl
theorem q705 : (Jvm.Cond.fieldLink "PendulumGym$Kind" (10 : Nat) "PendulumGym$Kind" "LONG" "LPendulumGym$Kind;") ∈ lw_all := lw_g (lw_at lw_m3 158 rfl) rfl
theorem q706 : (Jvm.Cond.laysStatic "PendulumGym$Kind" "LONG" "LPendulumGym$Kind;") ∈ lw_tbl := lw_at lw_m3 159 rfl
theorem q708 : (Jvm.Cond.sameMethod "PendulumGym$Kind" "java/lang/Enum" "ordinal" "()I") ∈ lw_all := lw_g (lw_at lw_m3 161 rfl) rfl
theorem q2150 : (Jvm.Cond.castable "PendulumGym$Kind" "java/lang/Object") ∈ lw_tbl := lw_at lw_m9 163 rfl
/-! PendulumGym$Swinging -/
set_option maxRecDepth 100000
def RX7 : String := "PendulumGym$Swinging"
def TX7 : u_T := fun k => match k with
  | 0 => ("PendulumGym$Swinging", "amplitude", "I", true)
  | _ => ("PendulumGym$Swinging", "start", "I", true)
def tyX7 : Nat → FieldType := fun k => match k with
  | 0 => .int
  | _ => .int
abbrev wsX70 : List Cond := u_ws RX7 TX7 2
theorem nmX7 : ∀ a, a < 2 → ∀ b, b < 2 → a ≠ b → (TX7 a).2.1 ≠ (TX7 b).2.1 := by decide +kernel
theorem tyX7_ok : ∀ k, k < 2 → parseFieldDescriptor (TX7 k).2.2.1 = some (tyX7 k) := by decide +kernel
abbrev cX7_init : ByteArray := prog_16_method_1_code
def yX7_init : MethodName := ⟨RX7, "<init>", "(II)V"⟩
def dkwX7_init_0 : List UInt8 := [42, 183, 0, 1, 42, 27, 181, 0, 7, 42, 28, 181, 0, 13, 177]
abbrev dktX7_init_0 : List UInt8 := dkwX7_init_0 ++ []
theorem dksX7_init_0 : cX7_init.data.toList.drop 0 = dktX7_init_0 := by decide +kernel
theorem dX7_init_0 : decode cX7_init 0 = .ok (.aload_n 0, 1) := dk_42 (dk_at dksX7_init_0 0 rfl rfl)
theorem dX7_init_1 : decode cX7_init 1 = .ok (.invokespecial 1, 3) := dk_183 0 1 (dk_at dksX7_init_0 1 rfl rfl)
theorem dX7_init_4 : decode cX7_init 4 = .ok (.aload_n 0, 1) := dk_42 (dk_at dksX7_init_0 4 rfl rfl)
theorem dX7_init_5 : decode cX7_init 5 = .ok (.iload_n 1, 1) := dk_27 (dk_at dksX7_init_0 5 rfl rfl)
theorem dX7_init_6 : decode cX7_init 6 = .ok (.putfield 7, 3) := dk_181 0 7 (dk_at dksX7_init_0 6 rfl rfl)
theorem dX7_init_9 : decode cX7_init 9 = .ok (.aload_n 0, 1) := dk_42 (dk_at dksX7_init_0 9 rfl rfl)
theorem dX7_init_10 : decode cX7_init 10 = .ok (.iload_n 2, 1) := dk_28 (dk_at dksX7_init_0 10 rfl rfl)
theorem dX7_init_11 : decode cX7_init 11 = .ok (.putfield 13, 3) := dk_181 0 13 (dk_at dksX7_init_0 11 rfl rfl)
theorem dX7_init_14 : decode cX7_init 14 = .ok (.return_, 1) := dk_177 (dk_at dksX7_init_0 14 rfl rfl)
theorem q97 : (Jvm.Cond.initialized "PendulumGym$Swinging") ∈ lw_all := lw_g (lw_at lw_m1 30 rfl) rfl
theorem q478 : (Jvm.Cond.selects "PendulumGym$Swinging" ({ cls := "java/lang/Object", name := "getClass", desc := "()Ljava/lang/Class;" } : Jvm.MethodName) ({ cls := "java/lang/Object", name := "getClass", desc := "()Ljava/lang/Class;" } : Jvm.MethodName)) ∈ lw_all := lw_g (lw_at lw_m2 171 rfl) rfl
theorem q716 : (Jvm.Cond.instantiable "PendulumGym$Swinging" (2 : Nat)) ∈ lw_all := lw_g (lw_at lw_m3 169 rfl) rfl
theorem q718 : (Jvm.Cond.instanceMethod ({ cls := "PendulumGym$Swinging", name := "<init>", desc := "(II)V" } : Jvm.MethodName)) ∈ lw_all := lw_g (lw_at lw_m3 171 rfl) rfl
theorem q719 : (Jvm.Cond.code ({ cls := "PendulumGym$Swinging", name := "<init>", desc := "(II)V" } : Jvm.MethodName) prog_16_method_1_code (3 : Nat) (Option.none : Option Jvm.ClassFile.FieldType)) ∈ lw_all := lw_g (lw_at lw_m3 172 rfl) rfl
theorem q720 : (Jvm.Cond.methodLink "PendulumGym$Swinging" (1 : Nat) ({ cls := "java/lang/Object", name := "<init>", desc := "()V" } : Jvm.MethodName)) ∈ lw_all := lw_g (lw_at lw_m3 173 rfl) rfl
theorem q721 : (Jvm.Cond.fieldLink "PendulumGym$Swinging" (7 : Nat) "PendulumGym$Swinging" "amplitude" "I") ∈ lw_all := lw_g (lw_at lw_m3 174 rfl) rfl
theorem q724 : (Jvm.Cond.fieldLink "PendulumGym$Swinging" (13 : Nat) "PendulumGym$Swinging" "start" "I") ∈ lw_all := lw_g (lw_at lw_m3 177 rfl) rfl
theorem q728 : (Jvm.Cond.laysFinal "PendulumGym$Swinging" "PendulumGym$Swinging" "amplitude" "I") ∈ lw_all := lw_g (lw_at lw_m3 181 rfl) rfl
theorem q729 : (Jvm.Cond.soleField "PendulumGym$Swinging" "amplitude") ∈ lw_all := lw_g (lw_at lw_m3 182 rfl) rfl
theorem q730 : (Jvm.Cond.laysFinal "PendulumGym$Swinging" "PendulumGym$Swinging" "start" "I") ∈ lw_all := lw_g (lw_at lw_m3 183 rfl) rfl
theorem q731 : (Jvm.Cond.soleField "PendulumGym$Swinging" "start") ∈ lw_all := lw_g (lw_at lw_m3 184 rfl) rfl
theorem q732 : (Jvm.Cond.superclass "PendulumGym$Swinging" "java/lang/Object") ∈ lw_all := lw_g (lw_at lw_m3 185 rfl) rfl
theorem q2137 : (Jvm.Cond.castable "PendulumGym$Swinging" "java/lang/Object") ∈ lw_tbl := lw_at lw_m9 150 rfl
theorem in_X7 : ∀ w ∈ wsX70, w ∈ lw_all := lw_in wsX70 [728, 730] (by decide +kernel) (by decide +kernel)
/-! PendulumGym$RelayTable -/
set_option maxRecDepth 100000
def RX8 : String := "PendulumGym$RelayTable"
def TX8 : u_T := fun k => match k with
  | 0 => ("PendulumGym$RelayTable", "legs", "I", true)
  | 1 => ("PendulumGym$RelayTable", "pendulums", "I", true)
  | _ => ("PendulumGym$RelayTable", "least", "[I", true)
def tyX8 : Nat → FieldType := fun k => match k with
  | 0 => .int
  | 1 => .int
  | _ => .array .int
abbrev wsX80 : List Cond := u_ws RX8 TX8 3
theorem nmX8 : ∀ a, a < 3 → ∀ b, b < 3 → a ≠ b → (TX8 a).2.1 ≠ (TX8 b).2.1 := by decide +kernel
theorem tyX8_ok : ∀ k, k < 3 → parseFieldDescriptor (TX8 k).2.2.1 = some (tyX8 k) := by decide +kernel
abbrev cX8_init : ByteArray := prog_13_method_1_code
def yX8_init : MethodName := ⟨RX8, "<init>", "(IILPendulumGym$LegCost;)V"⟩
def dkwX8_init_2 : List UInt8 := [164, 0, 7, 3, 167, 0, 10, 42, 21, 4, 45, 182, 0, 26, 79, 132, 4, 1, 167, 255, 216, 177]
abbrev dktX8_init_2 : List UInt8 := dkwX8_init_2 ++ []
def dkwX8_init_1 : List UInt8 := [54, 4, 21, 4, 42, 180, 0, 16, 190, 162, 0, 36, 42, 180, 0, 16, 21, 4, 21, 4, 184, 0, 20, 27]
abbrev dktX8_init_1 : List UInt8 := dkwX8_init_1 ++ dktX8_init_2
def dkwX8_init_0 : List UInt8 := [42, 183, 0, 1, 42, 27, 181, 0, 7, 42, 28, 181, 0, 13, 42, 4, 28, 120, 188, 10, 181, 0, 16, 4]
abbrev dktX8_init_0 : List UInt8 := dkwX8_init_0 ++ dktX8_init_1
theorem dksX8_init_0 : cX8_init.data.toList.drop 0 = dktX8_init_0 := by decide +kernel
theorem dksX8_init_1 : cX8_init.data.toList.drop 24 = dktX8_init_1 := dk_seg dksX8_init_0 24 rfl rfl
theorem dksX8_init_2 : cX8_init.data.toList.drop 48 = dktX8_init_2 := dk_seg dksX8_init_1 24 rfl rfl
theorem dX8_init_0 : decode cX8_init 0 = .ok (.aload_n 0, 1) := dk_42 (dk_at dksX8_init_0 0 rfl rfl)
theorem dX8_init_1 : decode cX8_init 1 = .ok (.invokespecial 1, 3) := dk_183 0 1 (dk_at dksX8_init_0 1 rfl rfl)
theorem dX8_init_4 : decode cX8_init 4 = .ok (.aload_n 0, 1) := dk_42 (dk_at dksX8_init_0 4 rfl rfl)
theorem dX8_init_5 : decode cX8_init 5 = .ok (.iload_n 1, 1) := dk_27 (dk_at dksX8_init_0 5 rfl rfl)
theorem dX8_init_6 : decode cX8_init 6 = .ok (.putfield 7, 3) := dk_181 0 7 (dk_at dksX8_init_0 6 rfl rfl)
theorem dX8_init_9 : decode cX8_init 9 = .ok (.aload_n 0, 1) := dk_42 (dk_at dksX8_init_0 9 rfl rfl)
theorem dX8_init_10 : decode cX8_init 10 = .ok (.iload_n 2, 1) := dk_28 (dk_at dksX8_init_0 10 rfl rfl)
theorem dX8_init_11 : decode cX8_init 11 = .ok (.putfield 13, 3) := dk_181 0 13 (dk_at dksX8_init_0 11 rfl rfl)
theorem dX8_init_14 : decode cX8_init 14 = .ok (.aload_n 0, 1) := dk_42 (dk_at dksX8_init_0 14 rfl rfl)
theorem dX8_init_15 : decode cX8_init 15 = .ok (.iconst 1, 1) := dk_4 (dk_at dksX8_init_0 15 rfl rfl)
theorem dX8_init_16 : decode cX8_init 16 = .ok (.iload_n 2, 1) := dk_28 (dk_at dksX8_init_0 16 rfl rfl)
theorem dX8_init_17 : decode cX8_init 17 = .ok (.ishl, 1) := dk_120 (dk_at dksX8_init_0 17 rfl rfl)
theorem dX8_init_18 : decode cX8_init 18 = .ok (.newarray .int, 2) := dk_188_10 (dk_at dksX8_init_0 18 rfl rfl)
theorem dX8_init_20 : decode cX8_init 20 = .ok (.putfield 16, 3) := dk_181 0 16 (dk_at dksX8_init_0 20 rfl rfl)
theorem dX8_init_23 : decode cX8_init 23 = .ok (.iconst 1, 1) := dk_4 (dk_at dksX8_init_0 23 rfl rfl)
theorem dX8_init_24 : decode cX8_init 24 = .ok (.istore 4, 2) := dk_54 4 (dk_at dksX8_init_1 0 rfl rfl)
theorem dX8_init_26 : decode cX8_init 26 = .ok (.iload 4, 2) := dk_21 4 (dk_at dksX8_init_1 2 rfl rfl)
theorem dX8_init_28 : decode cX8_init 28 = .ok (.aload_n 0, 1) := dk_42 (dk_at dksX8_init_1 4 rfl rfl)
theorem dX8_init_29 : decode cX8_init 29 = .ok (.getfield 16, 3) := dk_180 0 16 (dk_at dksX8_init_1 5 rfl rfl)
theorem dX8_init_32 : decode cX8_init 32 = .ok (.arraylength, 1) := dk_190 (dk_at dksX8_init_1 8 rfl rfl)
theorem dX8_init_33 : decode cX8_init 33 = .ok (.if_icmp .ge 36, 3) := dk_162 0 36 (dk_at dksX8_init_1 9 rfl rfl)
theorem dX8_init_36 : decode cX8_init 36 = .ok (.aload_n 0, 1) := dk_42 (dk_at dksX8_init_1 12 rfl rfl)
theorem dX8_init_37 : decode cX8_init 37 = .ok (.getfield 16, 3) := dk_180 0 16 (dk_at dksX8_init_1 13 rfl rfl)
theorem dX8_init_40 : decode cX8_init 40 = .ok (.iload 4, 2) := dk_21 4 (dk_at dksX8_init_1 16 rfl rfl)
theorem dX8_init_42 : decode cX8_init 42 = .ok (.iload 4, 2) := dk_21 4 (dk_at dksX8_init_1 18 rfl rfl)
theorem dX8_init_44 : decode cX8_init 44 = .ok (.invokestatic 20, 3) := dk_184 0 20 (dk_at dksX8_init_1 20 rfl rfl)
theorem dX8_init_47 : decode cX8_init 47 = .ok (.iload_n 1, 1) := dk_27 (dk_at dksX8_init_1 23 rfl rfl)
theorem dX8_init_48 : decode cX8_init 48 = .ok (.if_icmp .le 7, 3) := dk_164 0 7 (dk_at dksX8_init_2 0 rfl rfl)
theorem dX8_init_51 : decode cX8_init 51 = .ok (.iconst 0, 1) := dk_3 (dk_at dksX8_init_2 3 rfl rfl)
theorem dX8_init_52 : decode cX8_init 52 = .ok (.goto 10, 3) := dk_167 0 10 (dk_at dksX8_init_2 4 rfl rfl)
theorem dX8_init_55 : decode cX8_init 55 = .ok (.aload_n 0, 1) := dk_42 (dk_at dksX8_init_2 7 rfl rfl)
theorem dX8_init_56 : decode cX8_init 56 = .ok (.iload 4, 2) := dk_21 4 (dk_at dksX8_init_2 8 rfl rfl)
theorem dX8_init_58 : decode cX8_init 58 = .ok (.aload_n 3, 1) := dk_45 (dk_at dksX8_init_2 10 rfl rfl)
theorem dX8_init_59 : decode cX8_init 59 = .ok (.invokevirtual 26, 3) := dk_182 0 26 (dk_at dksX8_init_2 11 rfl rfl)
theorem dX8_init_62 : decode cX8_init 62 = .ok (.iastore, 1) := dk_79 (dk_at dksX8_init_2 14 rfl rfl)
theorem dX8_init_63 : decode cX8_init 63 = .ok (.iinc 4 1, 3) := dk_132 4 1 (dk_at dksX8_init_2 15 rfl rfl)
theorem dX8_init_66 : decode cX8_init 66 = .ok (.goto (-40), 3) := dk_167 255 216 (dk_at dksX8_init_2 18 rfl rfl)
theorem dX8_init_69 : decode cX8_init 69 = .ok (.return_, 1) := dk_177 (dk_at dksX8_init_2 21 rfl rfl)
abbrev cX8_leastOf : ByteArray := prog_13_method_2_code
def yX8_leastOf : MethodName := ⟨RX8, "leastOf", "(ILPendulumGym$LegCost;)I"⟩
def dkwX8_leastOf_3 : List UInt8 := [167, 255, 204, 21, 4, 172]
abbrev dktX8_leastOf_3 : List UInt8 := dkwX8_leastOf_3 ++ []
def dkwX8_leastOf_2 : List UInt8 := [42, 180, 0, 16, 27, 4, 21, 5, 120, 2, 130, 126, 46, 96, 184, 0, 37, 54, 4, 132, 5, 1]
abbrev dktX8_leastOf_2 : List UInt8 := dkwX8_leastOf_2 ++ dktX8_leastOf_3
def dkwX8_leastOf_1 : List UInt8 := [162, 0, 49, 27, 21, 5, 122, 4, 126, 4, 160, 0, 33, 21, 4, 44, 29, 21, 5, 185, 0, 31, 3, 0]
abbrev dktX8_leastOf_1 : List UInt8 := dkwX8_leastOf_1 ++ dktX8_leastOf_2
def dkwX8_leastOf_0 : List UInt8 := [42, 180, 0, 7, 27, 184, 0, 20, 100, 62, 18, 30, 54, 4, 3, 54, 5, 21, 5, 42, 180, 0, 13]
abbrev dktX8_leastOf_0 : List UInt8 := dkwX8_leastOf_0 ++ dktX8_leastOf_1
theorem dksX8_leastOf_0 : cX8_leastOf.data.toList.drop 0 = dktX8_leastOf_0 := by decide +kernel
theorem dksX8_leastOf_1 : cX8_leastOf.data.toList.drop 23 = dktX8_leastOf_1 := dk_seg dksX8_leastOf_0 23 rfl rfl
theorem dksX8_leastOf_2 : cX8_leastOf.data.toList.drop 47 = dktX8_leastOf_2 := dk_seg dksX8_leastOf_1 24 rfl rfl
theorem dksX8_leastOf_3 : cX8_leastOf.data.toList.drop 69 = dktX8_leastOf_3 := dk_seg dksX8_leastOf_2 22 rfl rfl
theorem dX8_leastOf_0 : decode cX8_leastOf 0 = .ok (.aload_n 0, 1) := dk_42 (dk_at dksX8_leastOf_0 0 rfl rfl)
theorem dX8_leastOf_1 : decode cX8_leastOf 1 = .ok (.getfield 7, 3) := dk_180 0 7 (dk_at dksX8_leastOf_0 1 rfl rfl)
theorem dX8_leastOf_4 : decode cX8_leastOf 4 = .ok (.iload_n 1, 1) := dk_27 (dk_at dksX8_leastOf_0 4 rfl rfl)
theorem dX8_leastOf_5 : decode cX8_leastOf 5 = .ok (.invokestatic 20, 3) := dk_184 0 20 (dk_at dksX8_leastOf_0 5 rfl rfl)
theorem dX8_leastOf_8 : decode cX8_leastOf 8 = .ok (.isub, 1) := dk_100 (dk_at dksX8_leastOf_0 8 rfl rfl)
theorem dX8_leastOf_9 : decode cX8_leastOf 9 = .ok (.istore_n 3, 1) := dk_62 (dk_at dksX8_leastOf_0 9 rfl rfl)
theorem dX8_leastOf_10 : decode cX8_leastOf 10 = .ok (.ldc 30, 2) := dk_18 30 (dk_at dksX8_leastOf_0 10 rfl rfl)
theorem dX8_leastOf_12 : decode cX8_leastOf 12 = .ok (.istore 4, 2) := dk_54 4 (dk_at dksX8_leastOf_0 12 rfl rfl)
theorem dX8_leastOf_14 : decode cX8_leastOf 14 = .ok (.iconst 0, 1) := dk_3 (dk_at dksX8_leastOf_0 14 rfl rfl)
theorem dX8_leastOf_15 : decode cX8_leastOf 15 = .ok (.istore 5, 2) := dk_54 5 (dk_at dksX8_leastOf_0 15 rfl rfl)
theorem dX8_leastOf_17 : decode cX8_leastOf 17 = .ok (.iload 5, 2) := dk_21 5 (dk_at dksX8_leastOf_0 17 rfl rfl)
theorem dX8_leastOf_19 : decode cX8_leastOf 19 = .ok (.aload_n 0, 1) := dk_42 (dk_at dksX8_leastOf_0 19 rfl rfl)
theorem dX8_leastOf_20 : decode cX8_leastOf 20 = .ok (.getfield 13, 3) := dk_180 0 13 (dk_at dksX8_leastOf_0 20 rfl rfl)
theorem dX8_leastOf_23 : decode cX8_leastOf 23 = .ok (.if_icmp .ge 49, 3) := dk_162 0 49 (dk_at dksX8_leastOf_1 0 rfl rfl)
theorem dX8_leastOf_26 : decode cX8_leastOf 26 = .ok (.iload_n 1, 1) := dk_27 (dk_at dksX8_leastOf_1 3 rfl rfl)
theorem dX8_leastOf_27 : decode cX8_leastOf 27 = .ok (.iload 5, 2) := dk_21 5 (dk_at dksX8_leastOf_1 4 rfl rfl)
theorem dX8_leastOf_29 : decode cX8_leastOf 29 = .ok (.ishr, 1) := dk_122 (dk_at dksX8_leastOf_1 6 rfl rfl)
theorem dX8_leastOf_30 : decode cX8_leastOf 30 = .ok (.iconst 1, 1) := dk_4 (dk_at dksX8_leastOf_1 7 rfl rfl)
theorem dX8_leastOf_31 : decode cX8_leastOf 31 = .ok (.iand, 1) := dk_126 (dk_at dksX8_leastOf_1 8 rfl rfl)
theorem dX8_leastOf_32 : decode cX8_leastOf 32 = .ok (.iconst 1, 1) := dk_4 (dk_at dksX8_leastOf_1 9 rfl rfl)
theorem dX8_leastOf_33 : decode cX8_leastOf 33 = .ok (.if_icmp .ne 33, 3) := dk_160 0 33 (dk_at dksX8_leastOf_1 10 rfl rfl)
theorem dX8_leastOf_36 : decode cX8_leastOf 36 = .ok (.iload 4, 2) := dk_21 4 (dk_at dksX8_leastOf_1 13 rfl rfl)
theorem dX8_leastOf_38 : decode cX8_leastOf 38 = .ok (.aload_n 2, 1) := dk_44 (dk_at dksX8_leastOf_1 15 rfl rfl)
theorem dX8_leastOf_39 : decode cX8_leastOf 39 = .ok (.iload_n 3, 1) := dk_29 (dk_at dksX8_leastOf_1 16 rfl rfl)
theorem dX8_leastOf_40 : decode cX8_leastOf 40 = .ok (.iload 5, 2) := dk_21 5 (dk_at dksX8_leastOf_1 17 rfl rfl)
theorem dX8_leastOf_42 : decode cX8_leastOf 42 = .ok (.invokeinterface 31 3, 5) := by decide +kernel
theorem dX8_leastOf_47 : decode cX8_leastOf 47 = .ok (.aload_n 0, 1) := dk_42 (dk_at dksX8_leastOf_2 0 rfl rfl)
theorem dX8_leastOf_48 : decode cX8_leastOf 48 = .ok (.getfield 16, 3) := dk_180 0 16 (dk_at dksX8_leastOf_2 1 rfl rfl)
theorem dX8_leastOf_51 : decode cX8_leastOf 51 = .ok (.iload_n 1, 1) := dk_27 (dk_at dksX8_leastOf_2 4 rfl rfl)
theorem dX8_leastOf_52 : decode cX8_leastOf 52 = .ok (.iconst 1, 1) := dk_4 (dk_at dksX8_leastOf_2 5 rfl rfl)
theorem dX8_leastOf_53 : decode cX8_leastOf 53 = .ok (.iload 5, 2) := dk_21 5 (dk_at dksX8_leastOf_2 6 rfl rfl)
theorem dX8_leastOf_55 : decode cX8_leastOf 55 = .ok (.ishl, 1) := dk_120 (dk_at dksX8_leastOf_2 8 rfl rfl)
theorem dX8_leastOf_56 : decode cX8_leastOf 56 = .ok (.iconst (-1), 1) := dk_2 (dk_at dksX8_leastOf_2 9 rfl rfl)
theorem dX8_leastOf_57 : decode cX8_leastOf 57 = .ok (.ixor, 1) := dk_130 (dk_at dksX8_leastOf_2 10 rfl rfl)
theorem dX8_leastOf_58 : decode cX8_leastOf 58 = .ok (.iand, 1) := dk_126 (dk_at dksX8_leastOf_2 11 rfl rfl)
theorem dX8_leastOf_59 : decode cX8_leastOf 59 = .ok (.iaload, 1) := dk_46 (dk_at dksX8_leastOf_2 12 rfl rfl)
theorem dX8_leastOf_60 : decode cX8_leastOf 60 = .ok (.iadd, 1) := dk_96 (dk_at dksX8_leastOf_2 13 rfl rfl)
theorem dX8_leastOf_61 : decode cX8_leastOf 61 = .ok (.invokestatic 37, 3) := dk_184 0 37 (dk_at dksX8_leastOf_2 14 rfl rfl)
theorem dX8_leastOf_64 : decode cX8_leastOf 64 = .ok (.istore 4, 2) := dk_54 4 (dk_at dksX8_leastOf_2 17 rfl rfl)
theorem dX8_leastOf_66 : decode cX8_leastOf 66 = .ok (.iinc 5 1, 3) := dk_132 5 1 (dk_at dksX8_leastOf_2 19 rfl rfl)
theorem dX8_leastOf_69 : decode cX8_leastOf 69 = .ok (.goto (-52), 3) := dk_167 255 204 (dk_at dksX8_leastOf_3 0 rfl rfl)
theorem dX8_leastOf_72 : decode cX8_leastOf 72 = .ok (.iload 4, 2) := dk_21 4 (dk_at dksX8_leastOf_3 3 rfl rfl)
theorem dX8_leastOf_74 : decode cX8_leastOf 74 = .ok (.ireturn, 1) := dk_172 (dk_at dksX8_leastOf_3 5 rfl rfl)
abbrev cX8_without : ByteArray := prog_13_method_3_code
def yX8_without : MethodName := ⟨RX8, "without", "(II)I"⟩
def dkwX8_without_2 : List UInt8 := [132, 4, 1, 167, 255, 215, 29, 172]
abbrev dktX8_without_2 : List UInt8 := dkwX8_without_2 ++ []
def dkwX8_without_1 : List UInt8 := [160, 0, 22, 21, 4, 27, 126, 154, 0, 15, 29, 42, 180, 0, 16, 21, 4, 46, 184, 0, 37, 62]
abbrev dktX8_without_1 : List UInt8 := dkwX8_without_1 ++ dktX8_without_2
def dkwX8_without_0 : List UInt8 := [18, 30, 62, 3, 54, 4, 21, 4, 42, 180, 0, 16, 190, 162, 0, 37, 21, 4, 184, 0, 20, 28]
abbrev dktX8_without_0 : List UInt8 := dkwX8_without_0 ++ dktX8_without_1
theorem dksX8_without_0 : cX8_without.data.toList.drop 0 = dktX8_without_0 := by decide +kernel
theorem dksX8_without_1 : cX8_without.data.toList.drop 22 = dktX8_without_1 := dk_seg dksX8_without_0 22 rfl rfl
theorem dksX8_without_2 : cX8_without.data.toList.drop 44 = dktX8_without_2 := dk_seg dksX8_without_1 22 rfl rfl
theorem dX8_without_0 : decode cX8_without 0 = .ok (.ldc 30, 2) := dk_18 30 (dk_at dksX8_without_0 0 rfl rfl)
theorem dX8_without_2 : decode cX8_without 2 = .ok (.istore_n 3, 1) := dk_62 (dk_at dksX8_without_0 2 rfl rfl)
theorem dX8_without_3 : decode cX8_without 3 = .ok (.iconst 0, 1) := dk_3 (dk_at dksX8_without_0 3 rfl rfl)
theorem dX8_without_4 : decode cX8_without 4 = .ok (.istore 4, 2) := dk_54 4 (dk_at dksX8_without_0 4 rfl rfl)
theorem dX8_without_6 : decode cX8_without 6 = .ok (.iload 4, 2) := dk_21 4 (dk_at dksX8_without_0 6 rfl rfl)
theorem dX8_without_8 : decode cX8_without 8 = .ok (.aload_n 0, 1) := dk_42 (dk_at dksX8_without_0 8 rfl rfl)
theorem dX8_without_9 : decode cX8_without 9 = .ok (.getfield 16, 3) := dk_180 0 16 (dk_at dksX8_without_0 9 rfl rfl)
theorem dX8_without_12 : decode cX8_without 12 = .ok (.arraylength, 1) := dk_190 (dk_at dksX8_without_0 12 rfl rfl)
theorem dX8_without_13 : decode cX8_without 13 = .ok (.if_icmp .ge 37, 3) := dk_162 0 37 (dk_at dksX8_without_0 13 rfl rfl)
theorem dX8_without_16 : decode cX8_without 16 = .ok (.iload 4, 2) := dk_21 4 (dk_at dksX8_without_0 16 rfl rfl)
theorem dX8_without_18 : decode cX8_without 18 = .ok (.invokestatic 20, 3) := dk_184 0 20 (dk_at dksX8_without_0 18 rfl rfl)
theorem dX8_without_21 : decode cX8_without 21 = .ok (.iload_n 2, 1) := dk_28 (dk_at dksX8_without_0 21 rfl rfl)
theorem dX8_without_22 : decode cX8_without 22 = .ok (.if_icmp .ne 22, 3) := dk_160 0 22 (dk_at dksX8_without_1 0 rfl rfl)
theorem dX8_without_25 : decode cX8_without 25 = .ok (.iload 4, 2) := dk_21 4 (dk_at dksX8_without_1 3 rfl rfl)
theorem dX8_without_27 : decode cX8_without 27 = .ok (.iload_n 1, 1) := dk_27 (dk_at dksX8_without_1 5 rfl rfl)
theorem dX8_without_28 : decode cX8_without 28 = .ok (.iand, 1) := dk_126 (dk_at dksX8_without_1 6 rfl rfl)
theorem dX8_without_29 : decode cX8_without 29 = .ok (.ifCond .ne 15, 3) := dk_154 0 15 (dk_at dksX8_without_1 7 rfl rfl)
theorem dX8_without_32 : decode cX8_without 32 = .ok (.iload_n 3, 1) := dk_29 (dk_at dksX8_without_1 10 rfl rfl)
theorem dX8_without_33 : decode cX8_without 33 = .ok (.aload_n 0, 1) := dk_42 (dk_at dksX8_without_1 11 rfl rfl)
theorem dX8_without_34 : decode cX8_without 34 = .ok (.getfield 16, 3) := dk_180 0 16 (dk_at dksX8_without_1 12 rfl rfl)
theorem dX8_without_37 : decode cX8_without 37 = .ok (.iload 4, 2) := dk_21 4 (dk_at dksX8_without_1 15 rfl rfl)
theorem dX8_without_39 : decode cX8_without 39 = .ok (.iaload, 1) := dk_46 (dk_at dksX8_without_1 17 rfl rfl)
theorem dX8_without_40 : decode cX8_without 40 = .ok (.invokestatic 37, 3) := dk_184 0 37 (dk_at dksX8_without_1 18 rfl rfl)
theorem dX8_without_43 : decode cX8_without 43 = .ok (.istore_n 3, 1) := dk_62 (dk_at dksX8_without_1 21 rfl rfl)
theorem dX8_without_44 : decode cX8_without 44 = .ok (.iinc 4 1, 3) := dk_132 4 1 (dk_at dksX8_without_2 0 rfl rfl)
theorem dX8_without_47 : decode cX8_without 47 = .ok (.goto (-41), 3) := dk_167 255 215 (dk_at dksX8_without_2 3 rfl rfl)
theorem dX8_without_50 : decode cX8_without 50 = .ok (.iload_n 3, 1) := dk_29 (dk_at dksX8_without_2 6 rfl rfl)
theorem dX8_without_51 : decode cX8_without 51 = .ok (.ireturn, 1) := dk_172 (dk_at dksX8_without_2 7 rfl rfl)
theorem q101 : (Jvm.Cond.initialized "PendulumGym$RelayTable") ∈ lw_all := lw_g (lw_at lw_m1 34 rfl) rfl
theorem q476 : (Jvm.Cond.selects "PendulumGym$RelayTable" ({ cls := "java/lang/Object", name := "getClass", desc := "()Ljava/lang/Class;" } : Jvm.MethodName) ({ cls := "java/lang/Object", name := "getClass", desc := "()Ljava/lang/Class;" } : Jvm.MethodName)) ∈ lw_all := lw_g (lw_at lw_m2 169 rfl) rfl
theorem q1024 : (Jvm.Cond.instantiable "PendulumGym$RelayTable" (3 : Nat)) ∈ lw_all := lw_g (lw_at lw_m4 237 rfl) rfl
theorem q1035 : (Jvm.Cond.instanceMethod ({ cls := "PendulumGym$RelayTable", name := "<init>", desc := "(IILPendulumGym$LegCost;)V" } : Jvm.MethodName)) ∈ lw_all := lw_g (lw_at lw_m5 8 rfl) rfl
theorem q1036 : (Jvm.Cond.code ({ cls := "PendulumGym$RelayTable", name := "<init>", desc := "(IILPendulumGym$LegCost;)V" } : Jvm.MethodName) prog_13_method_1_code (5 : Nat) (Option.none : Option Jvm.ClassFile.FieldType)) ∈ lw_all := lw_g (lw_at lw_m5 9 rfl) rfl
theorem q1037 : (Jvm.Cond.methodLink "PendulumGym$RelayTable" (1 : Nat) ({ cls := "java/lang/Object", name := "<init>", desc := "()V" } : Jvm.MethodName)) ∈ lw_all := lw_g (lw_at lw_m5 10 rfl) rfl
theorem q1038 : (Jvm.Cond.methodLink "PendulumGym$RelayTable" (20 : Nat) ({ cls := "java/lang/Integer", name := "bitCount", desc := "(I)I" } : Jvm.MethodName)) ∈ lw_all := lw_g (lw_at lw_m5 11 rfl) rfl
theorem q1044 : (Jvm.Cond.methodLink "PendulumGym$RelayTable" (26 : Nat) ({ cls := "PendulumGym$RelayTable", name := "leastOf", desc := "(ILPendulumGym$LegCost;)I" } : Jvm.MethodName)) ∈ lw_all := lw_g (lw_at lw_m5 17 rfl) rfl
theorem q1045 : (Jvm.Cond.privateMethod ({ cls := "PendulumGym$RelayTable", name := "leastOf", desc := "(ILPendulumGym$LegCost;)I" } : Jvm.MethodName)) ∈ lw_tbl := lw_at lw_m5 18 rfl
theorem q1046 : (Jvm.Cond.instanceMethod ({ cls := "PendulumGym$RelayTable", name := "leastOf", desc := "(ILPendulumGym$LegCost;)I" } : Jvm.MethodName)) ∈ lw_all := lw_g (lw_at lw_m5 19 rfl) rfl
theorem q1047 : (Jvm.Cond.code ({ cls := "PendulumGym$RelayTable", name := "leastOf", desc := "(ILPendulumGym$LegCost;)I" } : Jvm.MethodName) prog_13_method_2_code (6 : Nat) (Option.some Jvm.ClassFile.FieldType.int)) ∈ lw_all := lw_g (lw_at lw_m5 20 rfl) rfl
theorem q1048 : (Jvm.Cond.constant "PendulumGym$RelayTable" (30 : Nat) (2147483647 : Int32)) ∈ lw_all := lw_g (lw_at lw_m5 21 rfl) rfl
theorem q1049 : (Jvm.Cond.interfaceEntry "PendulumGym$RelayTable" (31 : Nat)) ∈ lw_tbl := lw_at lw_m5 22 rfl
theorem q1050 : (Jvm.Cond.methodLink "PendulumGym$RelayTable" (31 : Nat) ({ cls := "PendulumGym$LegCost", name := "of", desc := "(II)I" } : Jvm.MethodName)) ∈ lw_all := lw_g (lw_at lw_m5 23 rfl) rfl
theorem q1053 : (Jvm.Cond.methodLink "PendulumGym$RelayTable" (37 : Nat) ({ cls := "java/lang/Math", name := "min", desc := "(II)I" } : Jvm.MethodName)) ∈ lw_all := lw_g (lw_at lw_m5 26 rfl) rfl
theorem q1054 : (Jvm.Cond.fieldLink "PendulumGym$RelayTable" (7 : Nat) "PendulumGym$RelayTable" "legs" "I") ∈ lw_all := lw_g (lw_at lw_m5 27 rfl) rfl
theorem q1055 : (Jvm.Cond.fieldLink "PendulumGym$RelayTable" (13 : Nat) "PendulumGym$RelayTable" "pendulums" "I") ∈ lw_all := lw_g (lw_at lw_m5 28 rfl) rfl
theorem q1056 : (Jvm.Cond.fieldLink "PendulumGym$RelayTable" (16 : Nat) "PendulumGym$RelayTable" "least" "[I") ∈ lw_all := lw_g (lw_at lw_m5 29 rfl) rfl
theorem q1057 : (Jvm.Cond.laysFinal "PendulumGym$RelayTable" "PendulumGym$RelayTable" "legs" "I") ∈ lw_all := lw_g (lw_at lw_m5 30 rfl) rfl
theorem q1058 : (Jvm.Cond.soleField "PendulumGym$RelayTable" "legs") ∈ lw_all := lw_g (lw_at lw_m5 31 rfl) rfl
theorem q1059 : (Jvm.Cond.laysFinal "PendulumGym$RelayTable" "PendulumGym$RelayTable" "pendulums" "I") ∈ lw_all := lw_g (lw_at lw_m5 32 rfl) rfl
theorem q1060 : (Jvm.Cond.soleField "PendulumGym$RelayTable" "pendulums") ∈ lw_all := lw_g (lw_at lw_m5 33 rfl) rfl
theorem q1061 : (Jvm.Cond.laysFinal "PendulumGym$RelayTable" "PendulumGym$RelayTable" "least" "[I") ∈ lw_all := lw_g (lw_at lw_m5 34 rfl) rfl
theorem q1062 : (Jvm.Cond.soleField "PendulumGym$RelayTable" "least") ∈ lw_all := lw_g (lw_at lw_m5 35 rfl) rfl
theorem q1063 : (Jvm.Cond.superclass "PendulumGym$RelayTable" "java/lang/Object") ∈ lw_all := lw_g (lw_at lw_m5 36 rfl) rfl
theorem q1065 : (Jvm.Cond.instanceMethod ({ cls := "PendulumGym$RelayTable", name := "without", desc := "(II)I" } : Jvm.MethodName)) ∈ lw_all := lw_g (lw_at lw_m5 38 rfl) rfl
theorem q1066 : (Jvm.Cond.selects "PendulumGym$RelayTable" ({ cls := "PendulumGym$RelayTable", name := "without", desc := "(II)I" } : Jvm.MethodName) ({ cls := "PendulumGym$RelayTable", name := "without", desc := "(II)I" } : Jvm.MethodName)) ∈ lw_all := lw_g (lw_at lw_m5 39 rfl) rfl
theorem q1067 : (Jvm.Cond.code ({ cls := "PendulumGym$RelayTable", name := "without", desc := "(II)I" } : Jvm.MethodName) prog_13_method_3_code (5 : Nat) (Option.some Jvm.ClassFile.FieldType.int)) ∈ lw_all := lw_g (lw_at lw_m5 40 rfl) rfl
theorem q2139 : (Jvm.Cond.castable "PendulumGym$RelayTable" "java/lang/Object") ∈ lw_tbl := lw_at lw_m9 152 rfl
theorem in_X8 : ∀ w ∈ wsX80, w ∈ lw_all := lw_in wsX80 [1057, 1059, 1061] (by decide +kernel) (by decide +kernel)
/-! PendulumGym$RelaySearch -/
set_option maxRecDepth 100000
def RX9 : String := "PendulumGym$RelaySearch"
def TX9 : u_T := fun k => match k with
  | 0 => ("PendulumGym$RelaySearch", "legs", "I", true)
  | 1 => ("PendulumGym$RelaySearch", "pendulums", "I", true)
  | 2 => ("PendulumGym$RelaySearch", "cost", "LPendulumGym$LegCost;", true)
  | _ => ("PendulumGym$RelaySearch", "best", "I", false)
def tyX9 : Nat → FieldType := fun k => match k with
  | 0 => .int
  | 1 => .int
  | 2 => .object "PendulumGym$LegCost"
  | _ => .int
abbrev wsX90 : List Cond := u_ws RX9 TX9 4
theorem nmX9 : ∀ a, a < 4 → ∀ b, b < 4 → a ≠ b → (TX9 a).2.1 ≠ (TX9 b).2.1 := by decide +kernel
theorem tyX9_ok : ∀ k, k < 4 → parseFieldDescriptor (TX9 k).2.2.1 = some (tyX9 k) := by decide +kernel
abbrev cX9_init : ByteArray := prog_12_method_1_code
def yX9_init : MethodName := ⟨RX9, "<init>", "(IILPendulumGym$LegCost;)V"⟩
def dkwX9_init_1 : List UInt8 := [181, 0, 22, 177]
abbrev dktX9_init_1 : List UInt8 := dkwX9_init_1 ++ []
def dkwX9_init_0 : List UInt8 := [42, 183, 0, 1, 42, 18, 9, 181, 0, 10, 42, 27, 181, 0, 16, 42, 28, 181, 0, 19, 42, 45]
abbrev dktX9_init_0 : List UInt8 := dkwX9_init_0 ++ dktX9_init_1
theorem dksX9_init_0 : cX9_init.data.toList.drop 0 = dktX9_init_0 := by decide +kernel
theorem dksX9_init_1 : cX9_init.data.toList.drop 22 = dktX9_init_1 := dk_seg dksX9_init_0 22 rfl rfl
theorem dX9_init_0 : decode cX9_init 0 = .ok (.aload_n 0, 1) := dk_42 (dk_at dksX9_init_0 0 rfl rfl)
theorem dX9_init_1 : decode cX9_init 1 = .ok (.invokespecial 1, 3) := dk_183 0 1 (dk_at dksX9_init_0 1 rfl rfl)
theorem dX9_init_4 : decode cX9_init 4 = .ok (.aload_n 0, 1) := dk_42 (dk_at dksX9_init_0 4 rfl rfl)
theorem dX9_init_5 : decode cX9_init 5 = .ok (.ldc 9, 2) := dk_18 9 (dk_at dksX9_init_0 5 rfl rfl)
theorem dX9_init_7 : decode cX9_init 7 = .ok (.putfield 10, 3) := dk_181 0 10 (dk_at dksX9_init_0 7 rfl rfl)
theorem dX9_init_10 : decode cX9_init 10 = .ok (.aload_n 0, 1) := dk_42 (dk_at dksX9_init_0 10 rfl rfl)
theorem dX9_init_11 : decode cX9_init 11 = .ok (.iload_n 1, 1) := dk_27 (dk_at dksX9_init_0 11 rfl rfl)
theorem dX9_init_12 : decode cX9_init 12 = .ok (.putfield 16, 3) := dk_181 0 16 (dk_at dksX9_init_0 12 rfl rfl)
theorem dX9_init_15 : decode cX9_init 15 = .ok (.aload_n 0, 1) := dk_42 (dk_at dksX9_init_0 15 rfl rfl)
theorem dX9_init_16 : decode cX9_init 16 = .ok (.iload_n 2, 1) := dk_28 (dk_at dksX9_init_0 16 rfl rfl)
theorem dX9_init_17 : decode cX9_init 17 = .ok (.putfield 19, 3) := dk_181 0 19 (dk_at dksX9_init_0 17 rfl rfl)
theorem dX9_init_20 : decode cX9_init 20 = .ok (.aload_n 0, 1) := dk_42 (dk_at dksX9_init_0 20 rfl rfl)
theorem dX9_init_21 : decode cX9_init 21 = .ok (.aload_n 3, 1) := dk_45 (dk_at dksX9_init_0 21 rfl rfl)
theorem dX9_init_22 : decode cX9_init 22 = .ok (.putfield 22, 3) := dk_181 0 22 (dk_at dksX9_init_1 0 rfl rfl)
theorem dX9_init_25 : decode cX9_init 25 = .ok (.return_, 1) := dk_177 (dk_at dksX9_init_1 3 rfl rfl)
abbrev cX9_search : ByteArray := prog_12_method_2_code
def yX9_search : MethodName := ⟨RX9, "search", "(III)I"⟩
def dkwX9_search_4 : List UInt8 := [180, 0, 10, 172]
abbrev dktX9_search_4 : List UInt8 := dkwX9_search_4 ++ []
def dkwX9_search_3 : List UInt8 := [180, 0, 22, 27, 21, 4, 185, 0, 26, 3, 0, 96, 182, 0, 32, 54, 5, 132, 4, 1, 167, 255, 194, 42]
abbrev dktX9_search_3 : List UInt8 := dkwX9_search_3 ++ dktX9_search_4
def dkwX9_search_2 : List UInt8 := [21, 4, 122, 4, 126, 4, 160, 0, 6, 167, 0, 32, 42, 27, 4, 96, 28, 4, 21, 4, 120, 128, 29, 42]
abbrev dktX9_search_2 : List UInt8 := dkwX9_search_2 ++ dktX9_search_3
def dkwX9_search_1 : List UInt8 := [181, 0, 10, 3, 54, 4, 21, 4, 42, 180, 0, 19, 162, 0, 59, 27, 42, 180, 0, 16, 162, 0, 51, 28]
abbrev dktX9_search_1 : List UInt8 := dkwX9_search_1 ++ dktX9_search_2
def dkwX9_search_0 : List UInt8 := [29, 42, 180, 0, 10, 161, 0, 8, 42, 180, 0, 10, 172, 27, 42, 180, 0, 16, 160, 0, 8, 42, 29]
abbrev dktX9_search_0 : List UInt8 := dkwX9_search_0 ++ dktX9_search_1
theorem dksX9_search_0 : cX9_search.data.toList.drop 0 = dktX9_search_0 := by decide +kernel
theorem dksX9_search_1 : cX9_search.data.toList.drop 23 = dktX9_search_1 := dk_seg dksX9_search_0 23 rfl rfl
theorem dksX9_search_2 : cX9_search.data.toList.drop 47 = dktX9_search_2 := dk_seg dksX9_search_1 24 rfl rfl
theorem dksX9_search_3 : cX9_search.data.toList.drop 71 = dktX9_search_3 := dk_seg dksX9_search_2 24 rfl rfl
theorem dksX9_search_4 : cX9_search.data.toList.drop 95 = dktX9_search_4 := dk_seg dksX9_search_3 24 rfl rfl
theorem dX9_search_0 : decode cX9_search 0 = .ok (.iload_n 3, 1) := dk_29 (dk_at dksX9_search_0 0 rfl rfl)
theorem dX9_search_1 : decode cX9_search 1 = .ok (.aload_n 0, 1) := dk_42 (dk_at dksX9_search_0 1 rfl rfl)
theorem dX9_search_2 : decode cX9_search 2 = .ok (.getfield 10, 3) := dk_180 0 10 (dk_at dksX9_search_0 2 rfl rfl)
theorem dX9_search_5 : decode cX9_search 5 = .ok (.if_icmp .lt 8, 3) := dk_161 0 8 (dk_at dksX9_search_0 5 rfl rfl)
theorem dX9_search_8 : decode cX9_search 8 = .ok (.aload_n 0, 1) := dk_42 (dk_at dksX9_search_0 8 rfl rfl)
theorem dX9_search_9 : decode cX9_search 9 = .ok (.getfield 10, 3) := dk_180 0 10 (dk_at dksX9_search_0 9 rfl rfl)
theorem dX9_search_12 : decode cX9_search 12 = .ok (.ireturn, 1) := dk_172 (dk_at dksX9_search_0 12 rfl rfl)
theorem dX9_search_13 : decode cX9_search 13 = .ok (.iload_n 1, 1) := dk_27 (dk_at dksX9_search_0 13 rfl rfl)
theorem dX9_search_14 : decode cX9_search 14 = .ok (.aload_n 0, 1) := dk_42 (dk_at dksX9_search_0 14 rfl rfl)
theorem dX9_search_15 : decode cX9_search 15 = .ok (.getfield 16, 3) := dk_180 0 16 (dk_at dksX9_search_0 15 rfl rfl)
theorem dX9_search_18 : decode cX9_search 18 = .ok (.if_icmp .ne 8, 3) := dk_160 0 8 (dk_at dksX9_search_0 18 rfl rfl)
theorem dX9_search_21 : decode cX9_search 21 = .ok (.aload_n 0, 1) := dk_42 (dk_at dksX9_search_0 21 rfl rfl)
theorem dX9_search_22 : decode cX9_search 22 = .ok (.iload_n 3, 1) := dk_29 (dk_at dksX9_search_0 22 rfl rfl)
theorem dX9_search_23 : decode cX9_search 23 = .ok (.putfield 10, 3) := dk_181 0 10 (dk_at dksX9_search_1 0 rfl rfl)
theorem dX9_search_26 : decode cX9_search 26 = .ok (.iconst 0, 1) := dk_3 (dk_at dksX9_search_1 3 rfl rfl)
theorem dX9_search_27 : decode cX9_search 27 = .ok (.istore 4, 2) := dk_54 4 (dk_at dksX9_search_1 4 rfl rfl)
theorem dX9_search_29 : decode cX9_search 29 = .ok (.iload 4, 2) := dk_21 4 (dk_at dksX9_search_1 6 rfl rfl)
theorem dX9_search_31 : decode cX9_search 31 = .ok (.aload_n 0, 1) := dk_42 (dk_at dksX9_search_1 8 rfl rfl)
theorem dX9_search_32 : decode cX9_search 32 = .ok (.getfield 19, 3) := dk_180 0 19 (dk_at dksX9_search_1 9 rfl rfl)
theorem dX9_search_35 : decode cX9_search 35 = .ok (.if_icmp .ge 59, 3) := dk_162 0 59 (dk_at dksX9_search_1 12 rfl rfl)
theorem dX9_search_38 : decode cX9_search 38 = .ok (.iload_n 1, 1) := dk_27 (dk_at dksX9_search_1 15 rfl rfl)
theorem dX9_search_39 : decode cX9_search 39 = .ok (.aload_n 0, 1) := dk_42 (dk_at dksX9_search_1 16 rfl rfl)
theorem dX9_search_40 : decode cX9_search 40 = .ok (.getfield 16, 3) := dk_180 0 16 (dk_at dksX9_search_1 17 rfl rfl)
theorem dX9_search_43 : decode cX9_search 43 = .ok (.if_icmp .ge 51, 3) := dk_162 0 51 (dk_at dksX9_search_1 20 rfl rfl)
theorem dX9_search_46 : decode cX9_search 46 = .ok (.iload_n 2, 1) := dk_28 (dk_at dksX9_search_1 23 rfl rfl)
theorem dX9_search_47 : decode cX9_search 47 = .ok (.iload 4, 2) := dk_21 4 (dk_at dksX9_search_2 0 rfl rfl)
theorem dX9_search_49 : decode cX9_search 49 = .ok (.ishr, 1) := dk_122 (dk_at dksX9_search_2 2 rfl rfl)
theorem dX9_search_50 : decode cX9_search 50 = .ok (.iconst 1, 1) := dk_4 (dk_at dksX9_search_2 3 rfl rfl)
theorem dX9_search_51 : decode cX9_search 51 = .ok (.iand, 1) := dk_126 (dk_at dksX9_search_2 4 rfl rfl)
theorem dX9_search_52 : decode cX9_search 52 = .ok (.iconst 1, 1) := dk_4 (dk_at dksX9_search_2 5 rfl rfl)
theorem dX9_search_53 : decode cX9_search 53 = .ok (.if_icmp .ne 6, 3) := dk_160 0 6 (dk_at dksX9_search_2 6 rfl rfl)
theorem dX9_search_56 : decode cX9_search 56 = .ok (.goto 32, 3) := dk_167 0 32 (dk_at dksX9_search_2 9 rfl rfl)
theorem dX9_search_59 : decode cX9_search 59 = .ok (.aload_n 0, 1) := dk_42 (dk_at dksX9_search_2 12 rfl rfl)
theorem dX9_search_60 : decode cX9_search 60 = .ok (.iload_n 1, 1) := dk_27 (dk_at dksX9_search_2 13 rfl rfl)
theorem dX9_search_61 : decode cX9_search 61 = .ok (.iconst 1, 1) := dk_4 (dk_at dksX9_search_2 14 rfl rfl)
theorem dX9_search_62 : decode cX9_search 62 = .ok (.iadd, 1) := dk_96 (dk_at dksX9_search_2 15 rfl rfl)
theorem dX9_search_63 : decode cX9_search 63 = .ok (.iload_n 2, 1) := dk_28 (dk_at dksX9_search_2 16 rfl rfl)
theorem dX9_search_64 : decode cX9_search 64 = .ok (.iconst 1, 1) := dk_4 (dk_at dksX9_search_2 17 rfl rfl)
theorem dX9_search_65 : decode cX9_search 65 = .ok (.iload 4, 2) := dk_21 4 (dk_at dksX9_search_2 18 rfl rfl)
theorem dX9_search_67 : decode cX9_search 67 = .ok (.ishl, 1) := dk_120 (dk_at dksX9_search_2 20 rfl rfl)
theorem dX9_search_68 : decode cX9_search 68 = .ok (.ior, 1) := dk_128 (dk_at dksX9_search_2 21 rfl rfl)
theorem dX9_search_69 : decode cX9_search 69 = .ok (.iload_n 3, 1) := dk_29 (dk_at dksX9_search_2 22 rfl rfl)
theorem dX9_search_70 : decode cX9_search 70 = .ok (.aload_n 0, 1) := dk_42 (dk_at dksX9_search_2 23 rfl rfl)
theorem dX9_search_71 : decode cX9_search 71 = .ok (.getfield 22, 3) := dk_180 0 22 (dk_at dksX9_search_3 0 rfl rfl)
theorem dX9_search_74 : decode cX9_search 74 = .ok (.iload_n 1, 1) := dk_27 (dk_at dksX9_search_3 3 rfl rfl)
theorem dX9_search_75 : decode cX9_search 75 = .ok (.iload 4, 2) := dk_21 4 (dk_at dksX9_search_3 4 rfl rfl)
theorem dX9_search_77 : decode cX9_search 77 = .ok (.invokeinterface 26 3, 5) := by decide +kernel
theorem dX9_search_82 : decode cX9_search 82 = .ok (.iadd, 1) := dk_96 (dk_at dksX9_search_3 11 rfl rfl)
theorem dX9_search_83 : decode cX9_search 83 = .ok (.invokevirtual 32, 3) := dk_182 0 32 (dk_at dksX9_search_3 12 rfl rfl)
theorem dX9_search_86 : decode cX9_search 86 = .ok (.istore 5, 2) := dk_54 5 (dk_at dksX9_search_3 15 rfl rfl)
theorem dX9_search_88 : decode cX9_search 88 = .ok (.iinc 4 1, 3) := dk_132 4 1 (dk_at dksX9_search_3 17 rfl rfl)
theorem dX9_search_91 : decode cX9_search 91 = .ok (.goto (-62), 3) := dk_167 255 194 (dk_at dksX9_search_3 20 rfl rfl)
theorem dX9_search_94 : decode cX9_search 94 = .ok (.aload_n 0, 1) := dk_42 (dk_at dksX9_search_3 23 rfl rfl)
theorem dX9_search_95 : decode cX9_search 95 = .ok (.getfield 10, 3) := dk_180 0 10 (dk_at dksX9_search_4 0 rfl rfl)
theorem dX9_search_98 : decode cX9_search 98 = .ok (.ireturn, 1) := dk_172 (dk_at dksX9_search_4 3 rfl rfl)
theorem q102 : (Jvm.Cond.initialized "PendulumGym$RelaySearch") ∈ lw_all := lw_g (lw_at lw_m1 35 rfl) rfl
theorem q475 : (Jvm.Cond.selects "PendulumGym$RelaySearch" ({ cls := "java/lang/Object", name := "getClass", desc := "()Ljava/lang/Class;" } : Jvm.MethodName) ({ cls := "java/lang/Object", name := "getClass", desc := "()Ljava/lang/Class;" } : Jvm.MethodName)) ∈ lw_all := lw_g (lw_at lw_m2 168 rfl) rfl
theorem q1076 : (Jvm.Cond.instantiable "PendulumGym$RelaySearch" (4 : Nat)) ∈ lw_all := lw_g (lw_at lw_m5 49 rfl) rfl
theorem q1078 : (Jvm.Cond.instanceMethod ({ cls := "PendulumGym$RelaySearch", name := "<init>", desc := "(IILPendulumGym$LegCost;)V" } : Jvm.MethodName)) ∈ lw_all := lw_g (lw_at lw_m5 51 rfl) rfl
theorem q1079 : (Jvm.Cond.code ({ cls := "PendulumGym$RelaySearch", name := "<init>", desc := "(IILPendulumGym$LegCost;)V" } : Jvm.MethodName) prog_12_method_1_code (4 : Nat) (Option.none : Option Jvm.ClassFile.FieldType)) ∈ lw_all := lw_g (lw_at lw_m5 52 rfl) rfl
theorem q1080 : (Jvm.Cond.methodLink "PendulumGym$RelaySearch" (1 : Nat) ({ cls := "java/lang/Object", name := "<init>", desc := "()V" } : Jvm.MethodName)) ∈ lw_all := lw_g (lw_at lw_m5 53 rfl) rfl
theorem q1081 : (Jvm.Cond.constant "PendulumGym$RelaySearch" (9 : Nat) (2147483647 : Int32)) ∈ lw_all := lw_g (lw_at lw_m5 54 rfl) rfl
theorem q1082 : (Jvm.Cond.fieldLink "PendulumGym$RelaySearch" (16 : Nat) "PendulumGym$RelaySearch" "legs" "I") ∈ lw_all := lw_g (lw_at lw_m5 55 rfl) rfl
theorem q1083 : (Jvm.Cond.fieldLink "PendulumGym$RelaySearch" (19 : Nat) "PendulumGym$RelaySearch" "pendulums" "I") ∈ lw_all := lw_g (lw_at lw_m5 56 rfl) rfl
theorem q1084 : (Jvm.Cond.fieldLink "PendulumGym$RelaySearch" (22 : Nat) "PendulumGym$RelaySearch" "cost" "LPendulumGym$LegCost;") ∈ lw_all := lw_g (lw_at lw_m5 57 rfl) rfl
theorem q1085 : (Jvm.Cond.fieldLink "PendulumGym$RelaySearch" (10 : Nat) "PendulumGym$RelaySearch" "best" "I") ∈ lw_all := lw_g (lw_at lw_m5 58 rfl) rfl
theorem q1086 : (Jvm.Cond.laysFinal "PendulumGym$RelaySearch" "PendulumGym$RelaySearch" "legs" "I") ∈ lw_all := lw_g (lw_at lw_m5 59 rfl) rfl
theorem q1087 : (Jvm.Cond.soleField "PendulumGym$RelaySearch" "legs") ∈ lw_all := lw_g (lw_at lw_m5 60 rfl) rfl
theorem q1088 : (Jvm.Cond.laysFinal "PendulumGym$RelaySearch" "PendulumGym$RelaySearch" "pendulums" "I") ∈ lw_all := lw_g (lw_at lw_m5 61 rfl) rfl
theorem q1089 : (Jvm.Cond.soleField "PendulumGym$RelaySearch" "pendulums") ∈ lw_all := lw_g (lw_at lw_m5 62 rfl) rfl
theorem q1090 : (Jvm.Cond.laysFinal "PendulumGym$RelaySearch" "PendulumGym$RelaySearch" "cost" "LPendulumGym$LegCost;") ∈ lw_all := lw_g (lw_at lw_m5 63 rfl) rfl
theorem q1091 : (Jvm.Cond.soleField "PendulumGym$RelaySearch" "cost") ∈ lw_all := lw_g (lw_at lw_m5 64 rfl) rfl
theorem q1092 : (Jvm.Cond.lays "PendulumGym$RelaySearch" "PendulumGym$RelaySearch" "best" "I") ∈ lw_all := lw_g (lw_at lw_m5 65 rfl) rfl
theorem q1093 : (Jvm.Cond.soleField "PendulumGym$RelaySearch" "best") ∈ lw_all := lw_g (lw_at lw_m5 66 rfl) rfl
theorem q1094 : (Jvm.Cond.superclass "PendulumGym$RelaySearch" "java/lang/Object") ∈ lw_all := lw_g (lw_at lw_m5 67 rfl) rfl
theorem q1096 : (Jvm.Cond.instanceMethod ({ cls := "PendulumGym$RelaySearch", name := "search", desc := "(III)I" } : Jvm.MethodName)) ∈ lw_all := lw_g (lw_at lw_m5 69 rfl) rfl
theorem q1097 : (Jvm.Cond.selects "PendulumGym$RelaySearch" ({ cls := "PendulumGym$RelaySearch", name := "search", desc := "(III)I" } : Jvm.MethodName) ({ cls := "PendulumGym$RelaySearch", name := "search", desc := "(III)I" } : Jvm.MethodName)) ∈ lw_all := lw_g (lw_at lw_m5 70 rfl) rfl
theorem q1098 : (Jvm.Cond.code ({ cls := "PendulumGym$RelaySearch", name := "search", desc := "(III)I" } : Jvm.MethodName) prog_12_method_2_code (6 : Nat) (Option.some Jvm.ClassFile.FieldType.int)) ∈ lw_all := lw_g (lw_at lw_m5 71 rfl) rfl
theorem q1099 : (Jvm.Cond.interfaceEntry "PendulumGym$RelaySearch" (26 : Nat)) ∈ lw_tbl := lw_at lw_m5 72 rfl
theorem q1100 : (Jvm.Cond.methodLink "PendulumGym$RelaySearch" (26 : Nat) ({ cls := "PendulumGym$LegCost", name := "of", desc := "(II)I" } : Jvm.MethodName)) ∈ lw_all := lw_g (lw_at lw_m5 73 rfl) rfl
theorem q1101 : (Jvm.Cond.methodLink "PendulumGym$RelaySearch" (32 : Nat) ({ cls := "PendulumGym$RelaySearch", name := "search", desc := "(III)I" } : Jvm.MethodName)) ∈ lw_all := lw_g (lw_at lw_m5 74 rfl) rfl
theorem q2140 : (Jvm.Cond.castable "PendulumGym$RelaySearch" "java/lang/Object") ∈ lw_tbl := lw_at lw_m9 153 rfl
theorem in_X9 : ∀ w ∈ wsX90, w ∈ lw_all := lw_in wsX90 [1086, 1088, 1090, 1092] (by decide +kernel) (by decide +kernel)
/-! PendulumGym$Parser -/
set_option maxRecDepth 100000
def RX10 : String := "PendulumGym$Parser"
def TX10 : u_T := fun k => match k with
  | 0 => ("PendulumGym$Parser", "text", "Ljava/lang/String;", true)
  | _ => ("PendulumGym$Parser", "next", "I", false)
def tyX10 : Nat → FieldType := fun k => match k with
  | 0 => .object "java/lang/String"
  | _ => .int
abbrev wsX100 : List Cond := u_ws RX10 TX10 2
theorem nmX10 : ∀ a, a < 2 → ∀ b, b < 2 → a ≠ b → (TX10 a).2.1 ≠ (TX10 b).2.1 := by decide +kernel
theorem tyX10_ok : ∀ k, k < 2 → parseFieldDescriptor (TX10 k).2.2.1 = some (tyX10 k) := by decide +kernel
abbrev cX10_init : ByteArray := prog_10_method_1_code
def yX10_init : MethodName := ⟨RX10, "<init>", "(Ljava/lang/String;)V"⟩
def dkwX10_init_0 : List UInt8 := [42, 183, 0, 1, 42, 43, 181, 0, 7, 177]
abbrev dktX10_init_0 : List UInt8 := dkwX10_init_0 ++ []
theorem dksX10_init_0 : cX10_init.data.toList.drop 0 = dktX10_init_0 := by decide +kernel
theorem dX10_init_0 : decode cX10_init 0 = .ok (.aload_n 0, 1) := dk_42 (dk_at dksX10_init_0 0 rfl rfl)
theorem dX10_init_1 : decode cX10_init 1 = .ok (.invokespecial 1, 3) := dk_183 0 1 (dk_at dksX10_init_0 1 rfl rfl)
theorem dX10_init_4 : decode cX10_init 4 = .ok (.aload_n 0, 1) := dk_42 (dk_at dksX10_init_0 4 rfl rfl)
theorem dX10_init_5 : decode cX10_init 5 = .ok (.aload_n 1, 1) := dk_43 (dk_at dksX10_init_0 5 rfl rfl)
theorem dX10_init_6 : decode cX10_init 6 = .ok (.putfield 7, 3) := dk_181 0 7 (dk_at dksX10_init_0 6 rfl rfl)
theorem dX10_init_9 : decode cX10_init 9 = .ok (.return_, 1) := dk_177 (dk_at dksX10_init_0 9 rfl rfl)
abbrev cX10_program : ByteArray := prog_10_method_12_code
def yX10_program : MethodName := ⟨RX10, "program", "()Ljava/util/ArrayList;"⟩
def dkwX10_program_2 : List UInt8 := [167, 255, 227, 43, 176]
abbrev dktX10_program_2 : List UInt8 := dkwX10_program_2 ++ []
def dkwX10_program_1 : List UInt8 := [180, 0, 7, 182, 0, 17, 162, 0, 21, 42, 18, 109, 182, 0, 36, 43, 42, 182, 0, 102, 182, 0, 105, 61]
abbrev dktX10_program_1 : List UInt8 := dkwX10_program_1 ++ dktX10_program_2
def dkwX10_program_0 : List UInt8 := [187, 0, 99, 89, 183, 0, 101, 76, 43, 42, 182, 0, 102, 182, 0, 105, 61, 42, 180, 0, 13, 42]
abbrev dktX10_program_0 : List UInt8 := dkwX10_program_0 ++ dktX10_program_1
theorem dksX10_program_0 : cX10_program.data.toList.drop 0 = dktX10_program_0 := by decide +kernel
theorem dksX10_program_1 : cX10_program.data.toList.drop 22 = dktX10_program_1 := dk_seg dksX10_program_0 22 rfl rfl
theorem dksX10_program_2 : cX10_program.data.toList.drop 46 = dktX10_program_2 := dk_seg dksX10_program_1 24 rfl rfl
theorem dX10_program_0 : decode cX10_program 0 = .ok (.new 99, 3) := dk_187 0 99 (dk_at dksX10_program_0 0 rfl rfl)
theorem dX10_program_3 : decode cX10_program 3 = .ok (.dup, 1) := dk_89 (dk_at dksX10_program_0 3 rfl rfl)
theorem dX10_program_4 : decode cX10_program 4 = .ok (.invokespecial 101, 3) := dk_183 0 101 (dk_at dksX10_program_0 4 rfl rfl)
theorem dX10_program_7 : decode cX10_program 7 = .ok (.astore_n 1, 1) := dk_76 (dk_at dksX10_program_0 7 rfl rfl)
theorem dX10_program_8 : decode cX10_program 8 = .ok (.aload_n 1, 1) := dk_43 (dk_at dksX10_program_0 8 rfl rfl)
theorem dX10_program_9 : decode cX10_program 9 = .ok (.aload_n 0, 1) := dk_42 (dk_at dksX10_program_0 9 rfl rfl)
theorem dX10_program_10 : decode cX10_program 10 = .ok (.invokevirtual 102, 3) := dk_182 0 102 (dk_at dksX10_program_0 10 rfl rfl)
theorem dX10_program_13 : decode cX10_program 13 = .ok (.invokevirtual 105, 3) := dk_182 0 105 (dk_at dksX10_program_0 13 rfl rfl)
theorem dX10_program_16 : decode cX10_program 16 = .ok (.istore_n 2, 1) := dk_61 (dk_at dksX10_program_0 16 rfl rfl)
theorem dX10_program_17 : decode cX10_program 17 = .ok (.aload_n 0, 1) := dk_42 (dk_at dksX10_program_0 17 rfl rfl)
theorem dX10_program_18 : decode cX10_program 18 = .ok (.getfield 13, 3) := dk_180 0 13 (dk_at dksX10_program_0 18 rfl rfl)
theorem dX10_program_21 : decode cX10_program 21 = .ok (.aload_n 0, 1) := dk_42 (dk_at dksX10_program_0 21 rfl rfl)
theorem dX10_program_22 : decode cX10_program 22 = .ok (.getfield 7, 3) := dk_180 0 7 (dk_at dksX10_program_1 0 rfl rfl)
theorem dX10_program_25 : decode cX10_program 25 = .ok (.invokevirtual 17, 3) := dk_182 0 17 (dk_at dksX10_program_1 3 rfl rfl)
theorem dX10_program_28 : decode cX10_program 28 = .ok (.if_icmp .ge 21, 3) := dk_162 0 21 (dk_at dksX10_program_1 6 rfl rfl)
theorem dX10_program_31 : decode cX10_program 31 = .ok (.aload_n 0, 1) := dk_42 (dk_at dksX10_program_1 9 rfl rfl)
theorem dX10_program_32 : decode cX10_program 32 = .ok (.ldc 109, 2) := dk_18 109 (dk_at dksX10_program_1 10 rfl rfl)
theorem dX10_program_34 : decode cX10_program 34 = .ok (.invokevirtual 36, 3) := dk_182 0 36 (dk_at dksX10_program_1 12 rfl rfl)
theorem dX10_program_37 : decode cX10_program 37 = .ok (.aload_n 1, 1) := dk_43 (dk_at dksX10_program_1 15 rfl rfl)
theorem dX10_program_38 : decode cX10_program 38 = .ok (.aload_n 0, 1) := dk_42 (dk_at dksX10_program_1 16 rfl rfl)
theorem dX10_program_39 : decode cX10_program 39 = .ok (.invokevirtual 102, 3) := dk_182 0 102 (dk_at dksX10_program_1 17 rfl rfl)
theorem dX10_program_42 : decode cX10_program 42 = .ok (.invokevirtual 105, 3) := dk_182 0 105 (dk_at dksX10_program_1 20 rfl rfl)
theorem dX10_program_45 : decode cX10_program 45 = .ok (.istore_n 2, 1) := dk_61 (dk_at dksX10_program_1 23 rfl rfl)
theorem dX10_program_46 : decode cX10_program 46 = .ok (.goto (-29), 3) := dk_167 255 227 (dk_at dksX10_program_2 0 rfl rfl)
theorem dX10_program_49 : decode cX10_program 49 = .ok (.aload_n 1, 1) := dk_43 (dk_at dksX10_program_2 3 rfl rfl)
theorem dX10_program_50 : decode cX10_program 50 = .ok (.areturn, 1) := dk_176 (dk_at dksX10_program_2 4 rfl rfl)
abbrev cX10_command : ByteArray := prog_10_method_11_code
def yX10_command : MethodName := ⟨RX10, "command", "()LPendulumGym$Modification;"⟩
def dkwX10_command_3 : List UInt8 := [176, 42, 182, 0, 96, 176, 187, 0, 31, 89, 42, 180, 0, 13, 183, 0, 33, 191]
abbrev dktX10_command_3 : List UInt8 := dkwX10_command_3 ++ []
def dkwX10_command_2 : List UInt8 := [42, 182, 0, 80, 176, 42, 182, 0, 84, 176, 42, 182, 0, 87, 176, 42, 182, 0, 90, 176, 42, 182, 0, 93]
abbrev dktX10_command_2 : List UInt8 := dkwX10_command_2 ++ dktX10_command_3
def dkwX10_command_1 : List UInt8 := [170, 0, 0, 0, 0, 0, 0, 118, 0, 0, 0, 99, 0, 0, 0, 116, 0, 0, 0, 98, 0, 0, 0, 118, 0, 0, 0, 118, 0, 0, 0, 103, 0, 0, 0, 118, 0, 0, 0, 88, 0, 0, 0, 118, 0, 0, 0, 118, 0, 0, 0, 118, 0, 0, 0, 108, 0, 0, 0, 118, 0, 0, 0, 118, 0, 0, 0, 118, 0, 0, 0, 93, 0, 0, 0, 118, 0, 0, 0, 118, 0, 0, 0, 118, 0, 0, 0, 113]
abbrev dktX10_command_1 : List UInt8 := dkwX10_command_1 ++ dktX10_command_2
def dkwX10_command_0 : List UInt8 := [42, 182, 0, 27]
abbrev dktX10_command_0 : List UInt8 := dkwX10_command_0 ++ dktX10_command_1
theorem dksX10_command_0 : cX10_command.data.toList.drop 0 = dktX10_command_0 := by decide +kernel
theorem dksX10_command_1 : cX10_command.data.toList.drop 4 = dktX10_command_1 := dk_seg dksX10_command_0 4 rfl rfl
theorem dksX10_command_2 : cX10_command.data.toList.drop 92 = dktX10_command_2 := dk_seg dksX10_command_1 88 rfl rfl
theorem dksX10_command_3 : cX10_command.data.toList.drop 116 = dktX10_command_3 := dk_seg dksX10_command_2 24 rfl rfl
theorem dX10_command_0 : decode cX10_command 0 = .ok (.aload_n 0, 1) := dk_42 (dk_at dksX10_command_0 0 rfl rfl)
theorem dX10_command_1 : decode cX10_command 1 = .ok (.invokevirtual 27, 3) := dk_182 0 27 (dk_at dksX10_command_0 1 rfl rfl)
theorem dX10_command_4 : decode cX10_command 4 = .ok (.tableswitch 118 99 116 #[98, 118, 118, 103, 118, 88, 118, 118, 118, 108, 118, 118, 118, 93, 118, 118, 118, 113], 88) := by decide +kernel
theorem dX10_command_92 : decode cX10_command 92 = .ok (.aload_n 0, 1) := dk_42 (dk_at dksX10_command_2 0 rfl rfl)
theorem dX10_command_93 : decode cX10_command 93 = .ok (.invokevirtual 80, 3) := dk_182 0 80 (dk_at dksX10_command_2 1 rfl rfl)
theorem dX10_command_96 : decode cX10_command 96 = .ok (.areturn, 1) := dk_176 (dk_at dksX10_command_2 4 rfl rfl)
theorem dX10_command_97 : decode cX10_command 97 = .ok (.aload_n 0, 1) := dk_42 (dk_at dksX10_command_2 5 rfl rfl)
theorem dX10_command_98 : decode cX10_command 98 = .ok (.invokevirtual 84, 3) := dk_182 0 84 (dk_at dksX10_command_2 6 rfl rfl)
theorem dX10_command_101 : decode cX10_command 101 = .ok (.areturn, 1) := dk_176 (dk_at dksX10_command_2 9 rfl rfl)
theorem dX10_command_102 : decode cX10_command 102 = .ok (.aload_n 0, 1) := dk_42 (dk_at dksX10_command_2 10 rfl rfl)
theorem dX10_command_103 : decode cX10_command 103 = .ok (.invokevirtual 87, 3) := dk_182 0 87 (dk_at dksX10_command_2 11 rfl rfl)
theorem dX10_command_106 : decode cX10_command 106 = .ok (.areturn, 1) := dk_176 (dk_at dksX10_command_2 14 rfl rfl)
theorem dX10_command_107 : decode cX10_command 107 = .ok (.aload_n 0, 1) := dk_42 (dk_at dksX10_command_2 15 rfl rfl)
theorem dX10_command_108 : decode cX10_command 108 = .ok (.invokevirtual 90, 3) := dk_182 0 90 (dk_at dksX10_command_2 16 rfl rfl)
theorem dX10_command_111 : decode cX10_command 111 = .ok (.areturn, 1) := dk_176 (dk_at dksX10_command_2 19 rfl rfl)
theorem dX10_command_112 : decode cX10_command 112 = .ok (.aload_n 0, 1) := dk_42 (dk_at dksX10_command_2 20 rfl rfl)
theorem dX10_command_113 : decode cX10_command 113 = .ok (.invokevirtual 93, 3) := dk_182 0 93 (dk_at dksX10_command_2 21 rfl rfl)
theorem dX10_command_116 : decode cX10_command 116 = .ok (.areturn, 1) := dk_176 (dk_at dksX10_command_3 0 rfl rfl)
theorem dX10_command_117 : decode cX10_command 117 = .ok (.aload_n 0, 1) := dk_42 (dk_at dksX10_command_3 1 rfl rfl)
theorem dX10_command_118 : decode cX10_command 118 = .ok (.invokevirtual 96, 3) := dk_182 0 96 (dk_at dksX10_command_3 2 rfl rfl)
theorem dX10_command_121 : decode cX10_command 121 = .ok (.areturn, 1) := dk_176 (dk_at dksX10_command_3 5 rfl rfl)
theorem dX10_command_122 : decode cX10_command 122 = .ok (.new 31, 3) := dk_187 0 31 (dk_at dksX10_command_3 6 rfl rfl)
theorem dX10_command_125 : decode cX10_command 125 = .ok (.dup, 1) := dk_89 (dk_at dksX10_command_3 9 rfl rfl)
theorem dX10_command_126 : decode cX10_command 126 = .ok (.aload_n 0, 1) := dk_42 (dk_at dksX10_command_3 10 rfl rfl)
theorem dX10_command_127 : decode cX10_command 127 = .ok (.getfield 13, 3) := dk_180 0 13 (dk_at dksX10_command_3 11 rfl rfl)
theorem dX10_command_130 : decode cX10_command 130 = .ok (.invokespecial 33, 3) := dk_183 0 33 (dk_at dksX10_command_3 14 rfl rfl)
theorem dX10_command_133 : decode cX10_command 133 = .ok (.athrow, 1) := dk_191 (dk_at dksX10_command_3 17 rfl rfl)
abbrev cX10_peek : ByteArray := prog_10_method_2_code
def yX10_peek : MethodName := ⟨RX10, "peek", "()C"⟩
def dkwX10_peek_1 : List UInt8 := [182, 0, 23, 167, 0, 5, 16, 10, 172]
abbrev dktX10_peek_1 : List UInt8 := dkwX10_peek_1 ++ []
def dkwX10_peek_0 : List UInt8 := [42, 180, 0, 13, 42, 180, 0, 7, 182, 0, 17, 162, 0, 17, 42, 180, 0, 7, 42, 180, 0, 13]
abbrev dktX10_peek_0 : List UInt8 := dkwX10_peek_0 ++ dktX10_peek_1
theorem dksX10_peek_0 : cX10_peek.data.toList.drop 0 = dktX10_peek_0 := by decide +kernel
theorem dksX10_peek_1 : cX10_peek.data.toList.drop 22 = dktX10_peek_1 := dk_seg dksX10_peek_0 22 rfl rfl
theorem dX10_peek_0 : decode cX10_peek 0 = .ok (.aload_n 0, 1) := dk_42 (dk_at dksX10_peek_0 0 rfl rfl)
theorem dX10_peek_1 : decode cX10_peek 1 = .ok (.getfield 13, 3) := dk_180 0 13 (dk_at dksX10_peek_0 1 rfl rfl)
theorem dX10_peek_4 : decode cX10_peek 4 = .ok (.aload_n 0, 1) := dk_42 (dk_at dksX10_peek_0 4 rfl rfl)
theorem dX10_peek_5 : decode cX10_peek 5 = .ok (.getfield 7, 3) := dk_180 0 7 (dk_at dksX10_peek_0 5 rfl rfl)
theorem dX10_peek_8 : decode cX10_peek 8 = .ok (.invokevirtual 17, 3) := dk_182 0 17 (dk_at dksX10_peek_0 8 rfl rfl)
theorem dX10_peek_11 : decode cX10_peek 11 = .ok (.if_icmp .ge 17, 3) := dk_162 0 17 (dk_at dksX10_peek_0 11 rfl rfl)
theorem dX10_peek_14 : decode cX10_peek 14 = .ok (.aload_n 0, 1) := dk_42 (dk_at dksX10_peek_0 14 rfl rfl)
theorem dX10_peek_15 : decode cX10_peek 15 = .ok (.getfield 7, 3) := dk_180 0 7 (dk_at dksX10_peek_0 15 rfl rfl)
theorem dX10_peek_18 : decode cX10_peek 18 = .ok (.aload_n 0, 1) := dk_42 (dk_at dksX10_peek_0 18 rfl rfl)
theorem dX10_peek_19 : decode cX10_peek 19 = .ok (.getfield 13, 3) := dk_180 0 13 (dk_at dksX10_peek_0 19 rfl rfl)
theorem dX10_peek_22 : decode cX10_peek 22 = .ok (.invokevirtual 23, 3) := dk_182 0 23 (dk_at dksX10_peek_1 0 rfl rfl)
theorem dX10_peek_25 : decode cX10_peek 25 = .ok (.goto 5, 3) := dk_167 0 5 (dk_at dksX10_peek_1 3 rfl rfl)
theorem dX10_peek_28 : decode cX10_peek 28 = .ok (.bipush 10, 2) := dk_16 10 (dk_at dksX10_peek_1 6 rfl rfl)
theorem dX10_peek_30 : decode cX10_peek 30 = .ok (.ireturn, 1) := dk_172 (dk_at dksX10_peek_1 8 rfl rfl)
abbrev cX10_hanging : ByteArray := prog_10_method_5_code
def yX10_hanging : MethodName := ⟨RX10, "hanging", "()LPendulumGym$Modification;"⟩
def dkwX10_hanging_0 : List UInt8 := [42, 18, 46, 6, 182, 0, 48, 60, 27, 186, 0, 52, 0, 0, 176]
abbrev dktX10_hanging_0 : List UInt8 := dkwX10_hanging_0 ++ []
theorem dksX10_hanging_0 : cX10_hanging.data.toList.drop 0 = dktX10_hanging_0 := by decide +kernel
theorem dX10_hanging_0 : decode cX10_hanging 0 = .ok (.aload_n 0, 1) := dk_42 (dk_at dksX10_hanging_0 0 rfl rfl)
theorem dX10_hanging_1 : decode cX10_hanging 1 = .ok (.ldc 46, 2) := dk_18 46 (dk_at dksX10_hanging_0 1 rfl rfl)
theorem dX10_hanging_3 : decode cX10_hanging 3 = .ok (.iconst 3, 1) := dk_6 (dk_at dksX10_hanging_0 3 rfl rfl)
theorem dX10_hanging_4 : decode cX10_hanging 4 = .ok (.invokevirtual 48, 3) := dk_182 0 48 (dk_at dksX10_hanging_0 4 rfl rfl)
theorem dX10_hanging_7 : decode cX10_hanging 7 = .ok (.istore_n 1, 1) := dk_60 (dk_at dksX10_hanging_0 7 rfl rfl)
theorem dX10_hanging_8 : decode cX10_hanging 8 = .ok (.iload_n 1, 1) := dk_27 (dk_at dksX10_hanging_0 8 rfl rfl)
theorem dX10_hanging_9 : decode cX10_hanging 9 = .ok (.invokedynamic 52, 5) := by decide +kernel
theorem dX10_hanging_14 : decode cX10_hanging 14 = .ok (.areturn, 1) := dk_176 (dk_at dksX10_hanging_0 14 rfl rfl)
abbrev cX10_number : ByteArray := prog_10_method_4_code
def yX10_number : MethodName := ⟨RX10, "number", "(Ljava/lang/String;I)I"⟩
def dkwX10_number_3 : List UInt8 := [180, 0, 13, 4, 96, 181, 0, 13, 132, 4, 1, 167, 255, 210, 29, 172]
abbrev dktX10_number_3 : List UInt8 := dkwX10_number_3 ++ []
def dkwX10_number_2 : List UInt8 := [16, 57, 184, 0, 40, 153, 0, 32, 16, 10, 29, 104, 42, 182, 0, 27, 96, 16, 48, 100, 62, 42, 89]
abbrev dktX10_number_2 : List UInt8 := dkwX10_number_2 ++ dktX10_number_3
def dkwX10_number_1 : List UInt8 := [180, 0, 13, 183, 0, 33, 191, 3, 62, 3, 54, 4, 21, 4, 28, 162, 0, 46, 42, 182, 0, 27, 16, 48]
abbrev dktX10_number_1 : List UInt8 := dkwX10_number_1 ++ dktX10_number_2
def dkwX10_number_0 : List UInt8 := [42, 43, 182, 0, 36, 42, 182, 0, 27, 16, 48, 16, 57, 184, 0, 40, 154, 0, 15, 187, 0, 31, 89, 42]
abbrev dktX10_number_0 : List UInt8 := dkwX10_number_0 ++ dktX10_number_1
theorem dksX10_number_0 : cX10_number.data.toList.drop 0 = dktX10_number_0 := by decide +kernel
theorem dksX10_number_1 : cX10_number.data.toList.drop 24 = dktX10_number_1 := dk_seg dksX10_number_0 24 rfl rfl
theorem dksX10_number_2 : cX10_number.data.toList.drop 48 = dktX10_number_2 := dk_seg dksX10_number_1 24 rfl rfl
theorem dksX10_number_3 : cX10_number.data.toList.drop 71 = dktX10_number_3 := dk_seg dksX10_number_2 23 rfl rfl
theorem dX10_number_0 : decode cX10_number 0 = .ok (.aload_n 0, 1) := dk_42 (dk_at dksX10_number_0 0 rfl rfl)
theorem dX10_number_1 : decode cX10_number 1 = .ok (.aload_n 1, 1) := dk_43 (dk_at dksX10_number_0 1 rfl rfl)
theorem dX10_number_2 : decode cX10_number 2 = .ok (.invokevirtual 36, 3) := dk_182 0 36 (dk_at dksX10_number_0 2 rfl rfl)
theorem dX10_number_5 : decode cX10_number 5 = .ok (.aload_n 0, 1) := dk_42 (dk_at dksX10_number_0 5 rfl rfl)
theorem dX10_number_6 : decode cX10_number 6 = .ok (.invokevirtual 27, 3) := dk_182 0 27 (dk_at dksX10_number_0 6 rfl rfl)
theorem dX10_number_9 : decode cX10_number 9 = .ok (.bipush 48, 2) := dk_16 48 (dk_at dksX10_number_0 9 rfl rfl)
theorem dX10_number_11 : decode cX10_number 11 = .ok (.bipush 57, 2) := dk_16 57 (dk_at dksX10_number_0 11 rfl rfl)
theorem dX10_number_13 : decode cX10_number 13 = .ok (.invokestatic 40, 3) := dk_184 0 40 (dk_at dksX10_number_0 13 rfl rfl)
theorem dX10_number_16 : decode cX10_number 16 = .ok (.ifCond .ne 15, 3) := dk_154 0 15 (dk_at dksX10_number_0 16 rfl rfl)
theorem dX10_number_19 : decode cX10_number 19 = .ok (.new 31, 3) := dk_187 0 31 (dk_at dksX10_number_0 19 rfl rfl)
theorem dX10_number_22 : decode cX10_number 22 = .ok (.dup, 1) := dk_89 (dk_at dksX10_number_0 22 rfl rfl)
theorem dX10_number_23 : decode cX10_number 23 = .ok (.aload_n 0, 1) := dk_42 (dk_at dksX10_number_0 23 rfl rfl)
theorem dX10_number_24 : decode cX10_number 24 = .ok (.getfield 13, 3) := dk_180 0 13 (dk_at dksX10_number_1 0 rfl rfl)
theorem dX10_number_27 : decode cX10_number 27 = .ok (.invokespecial 33, 3) := dk_183 0 33 (dk_at dksX10_number_1 3 rfl rfl)
theorem dX10_number_30 : decode cX10_number 30 = .ok (.athrow, 1) := dk_191 (dk_at dksX10_number_1 6 rfl rfl)
theorem dX10_number_31 : decode cX10_number 31 = .ok (.iconst 0, 1) := dk_3 (dk_at dksX10_number_1 7 rfl rfl)
theorem dX10_number_32 : decode cX10_number 32 = .ok (.istore_n 3, 1) := dk_62 (dk_at dksX10_number_1 8 rfl rfl)
theorem dX10_number_33 : decode cX10_number 33 = .ok (.iconst 0, 1) := dk_3 (dk_at dksX10_number_1 9 rfl rfl)
theorem dX10_number_34 : decode cX10_number 34 = .ok (.istore 4, 2) := dk_54 4 (dk_at dksX10_number_1 10 rfl rfl)
theorem dX10_number_36 : decode cX10_number 36 = .ok (.iload 4, 2) := dk_21 4 (dk_at dksX10_number_1 12 rfl rfl)
theorem dX10_number_38 : decode cX10_number 38 = .ok (.iload_n 2, 1) := dk_28 (dk_at dksX10_number_1 14 rfl rfl)
theorem dX10_number_39 : decode cX10_number 39 = .ok (.if_icmp .ge 46, 3) := dk_162 0 46 (dk_at dksX10_number_1 15 rfl rfl)
theorem dX10_number_42 : decode cX10_number 42 = .ok (.aload_n 0, 1) := dk_42 (dk_at dksX10_number_1 18 rfl rfl)
theorem dX10_number_43 : decode cX10_number 43 = .ok (.invokevirtual 27, 3) := dk_182 0 27 (dk_at dksX10_number_1 19 rfl rfl)
theorem dX10_number_46 : decode cX10_number 46 = .ok (.bipush 48, 2) := dk_16 48 (dk_at dksX10_number_1 22 rfl rfl)
theorem dX10_number_48 : decode cX10_number 48 = .ok (.bipush 57, 2) := dk_16 57 (dk_at dksX10_number_2 0 rfl rfl)
theorem dX10_number_50 : decode cX10_number 50 = .ok (.invokestatic 40, 3) := dk_184 0 40 (dk_at dksX10_number_2 2 rfl rfl)
theorem dX10_number_53 : decode cX10_number 53 = .ok (.ifCond .eq 32, 3) := dk_153 0 32 (dk_at dksX10_number_2 5 rfl rfl)
theorem dX10_number_56 : decode cX10_number 56 = .ok (.bipush 10, 2) := dk_16 10 (dk_at dksX10_number_2 8 rfl rfl)
theorem dX10_number_58 : decode cX10_number 58 = .ok (.iload_n 3, 1) := dk_29 (dk_at dksX10_number_2 10 rfl rfl)
theorem dX10_number_59 : decode cX10_number 59 = .ok (.imul, 1) := dk_104 (dk_at dksX10_number_2 11 rfl rfl)
theorem dX10_number_60 : decode cX10_number 60 = .ok (.aload_n 0, 1) := dk_42 (dk_at dksX10_number_2 12 rfl rfl)
theorem dX10_number_61 : decode cX10_number 61 = .ok (.invokevirtual 27, 3) := dk_182 0 27 (dk_at dksX10_number_2 13 rfl rfl)
theorem dX10_number_64 : decode cX10_number 64 = .ok (.iadd, 1) := dk_96 (dk_at dksX10_number_2 16 rfl rfl)
theorem dX10_number_65 : decode cX10_number 65 = .ok (.bipush 48, 2) := dk_16 48 (dk_at dksX10_number_2 17 rfl rfl)
theorem dX10_number_67 : decode cX10_number 67 = .ok (.isub, 1) := dk_100 (dk_at dksX10_number_2 19 rfl rfl)
theorem dX10_number_68 : decode cX10_number 68 = .ok (.istore_n 3, 1) := dk_62 (dk_at dksX10_number_2 20 rfl rfl)
theorem dX10_number_69 : decode cX10_number 69 = .ok (.aload_n 0, 1) := dk_42 (dk_at dksX10_number_2 21 rfl rfl)
theorem dX10_number_70 : decode cX10_number 70 = .ok (.dup, 1) := dk_89 (dk_at dksX10_number_2 22 rfl rfl)
theorem dX10_number_71 : decode cX10_number 71 = .ok (.getfield 13, 3) := dk_180 0 13 (dk_at dksX10_number_3 0 rfl rfl)
theorem dX10_number_74 : decode cX10_number 74 = .ok (.iconst 1, 1) := dk_4 (dk_at dksX10_number_3 3 rfl rfl)
theorem dX10_number_75 : decode cX10_number 75 = .ok (.iadd, 1) := dk_96 (dk_at dksX10_number_3 4 rfl rfl)
theorem dX10_number_76 : decode cX10_number 76 = .ok (.putfield 13, 3) := dk_181 0 13 (dk_at dksX10_number_3 5 rfl rfl)
theorem dX10_number_79 : decode cX10_number 79 = .ok (.iinc 4 1, 3) := dk_132 4 1 (dk_at dksX10_number_3 8 rfl rfl)
theorem dX10_number_82 : decode cX10_number 82 = .ok (.goto (-46), 3) := dk_167 255 210 (dk_at dksX10_number_3 11 rfl rfl)
theorem dX10_number_85 : decode cX10_number 85 = .ok (.iload_n 3, 1) := dk_29 (dk_at dksX10_number_3 14 rfl rfl)
theorem dX10_number_86 : decode cX10_number 86 = .ok (.ireturn, 1) := dk_172 (dk_at dksX10_number_3 15 rfl rfl)
abbrev cX10_expect : ByteArray := prog_10_method_3_code
def yX10_expect : MethodName := ⟨RX10, "expect", "(Ljava/lang/String;)V"⟩
def dkwX10_expect_2 : List UInt8 := [132, 2, 1, 167, 255, 211, 177]
abbrev dktX10_expect_2 : List UInt8 := dkwX10_expect_2 ++ []
def dkwX10_expect_1 : List UInt8 := [187, 0, 31, 89, 42, 180, 0, 13, 183, 0, 33, 191, 42, 89, 180, 0, 13, 4, 96, 181, 0, 13]
abbrev dktX10_expect_1 : List UInt8 := dkwX10_expect_1 ++ dktX10_expect_2
def dkwX10_expect_0 : List UInt8 := [3, 61, 28, 43, 182, 0, 17, 162, 0, 43, 42, 182, 0, 27, 43, 28, 182, 0, 23, 159, 0, 15]
abbrev dktX10_expect_0 : List UInt8 := dkwX10_expect_0 ++ dktX10_expect_1
theorem dksX10_expect_0 : cX10_expect.data.toList.drop 0 = dktX10_expect_0 := by decide +kernel
theorem dksX10_expect_1 : cX10_expect.data.toList.drop 22 = dktX10_expect_1 := dk_seg dksX10_expect_0 22 rfl rfl
theorem dksX10_expect_2 : cX10_expect.data.toList.drop 44 = dktX10_expect_2 := dk_seg dksX10_expect_1 22 rfl rfl
theorem dX10_expect_0 : decode cX10_expect 0 = .ok (.iconst 0, 1) := dk_3 (dk_at dksX10_expect_0 0 rfl rfl)
theorem dX10_expect_1 : decode cX10_expect 1 = .ok (.istore_n 2, 1) := dk_61 (dk_at dksX10_expect_0 1 rfl rfl)
theorem dX10_expect_2 : decode cX10_expect 2 = .ok (.iload_n 2, 1) := dk_28 (dk_at dksX10_expect_0 2 rfl rfl)
theorem dX10_expect_3 : decode cX10_expect 3 = .ok (.aload_n 1, 1) := dk_43 (dk_at dksX10_expect_0 3 rfl rfl)
theorem dX10_expect_4 : decode cX10_expect 4 = .ok (.invokevirtual 17, 3) := dk_182 0 17 (dk_at dksX10_expect_0 4 rfl rfl)
theorem dX10_expect_7 : decode cX10_expect 7 = .ok (.if_icmp .ge 43, 3) := dk_162 0 43 (dk_at dksX10_expect_0 7 rfl rfl)
theorem dX10_expect_10 : decode cX10_expect 10 = .ok (.aload_n 0, 1) := dk_42 (dk_at dksX10_expect_0 10 rfl rfl)
theorem dX10_expect_11 : decode cX10_expect 11 = .ok (.invokevirtual 27, 3) := dk_182 0 27 (dk_at dksX10_expect_0 11 rfl rfl)
theorem dX10_expect_14 : decode cX10_expect 14 = .ok (.aload_n 1, 1) := dk_43 (dk_at dksX10_expect_0 14 rfl rfl)
theorem dX10_expect_15 : decode cX10_expect 15 = .ok (.iload_n 2, 1) := dk_28 (dk_at dksX10_expect_0 15 rfl rfl)
theorem dX10_expect_16 : decode cX10_expect 16 = .ok (.invokevirtual 23, 3) := dk_182 0 23 (dk_at dksX10_expect_0 16 rfl rfl)
theorem dX10_expect_19 : decode cX10_expect 19 = .ok (.if_icmp .eq 15, 3) := dk_159 0 15 (dk_at dksX10_expect_0 19 rfl rfl)
theorem dX10_expect_22 : decode cX10_expect 22 = .ok (.new 31, 3) := dk_187 0 31 (dk_at dksX10_expect_1 0 rfl rfl)
theorem dX10_expect_25 : decode cX10_expect 25 = .ok (.dup, 1) := dk_89 (dk_at dksX10_expect_1 3 rfl rfl)
theorem dX10_expect_26 : decode cX10_expect 26 = .ok (.aload_n 0, 1) := dk_42 (dk_at dksX10_expect_1 4 rfl rfl)
theorem dX10_expect_27 : decode cX10_expect 27 = .ok (.getfield 13, 3) := dk_180 0 13 (dk_at dksX10_expect_1 5 rfl rfl)
theorem dX10_expect_30 : decode cX10_expect 30 = .ok (.invokespecial 33, 3) := dk_183 0 33 (dk_at dksX10_expect_1 8 rfl rfl)
theorem dX10_expect_33 : decode cX10_expect 33 = .ok (.athrow, 1) := dk_191 (dk_at dksX10_expect_1 11 rfl rfl)
theorem dX10_expect_34 : decode cX10_expect 34 = .ok (.aload_n 0, 1) := dk_42 (dk_at dksX10_expect_1 12 rfl rfl)
theorem dX10_expect_35 : decode cX10_expect 35 = .ok (.dup, 1) := dk_89 (dk_at dksX10_expect_1 13 rfl rfl)
theorem dX10_expect_36 : decode cX10_expect 36 = .ok (.getfield 13, 3) := dk_180 0 13 (dk_at dksX10_expect_1 14 rfl rfl)
theorem dX10_expect_39 : decode cX10_expect 39 = .ok (.iconst 1, 1) := dk_4 (dk_at dksX10_expect_1 17 rfl rfl)
theorem dX10_expect_40 : decode cX10_expect 40 = .ok (.iadd, 1) := dk_96 (dk_at dksX10_expect_1 18 rfl rfl)
theorem dX10_expect_41 : decode cX10_expect 41 = .ok (.putfield 13, 3) := dk_181 0 13 (dk_at dksX10_expect_1 19 rfl rfl)
theorem dX10_expect_44 : decode cX10_expect 44 = .ok (.iinc 2 1, 3) := dk_132 2 1 (dk_at dksX10_expect_2 0 rfl rfl)
theorem dX10_expect_47 : decode cX10_expect 47 = .ok (.goto (-45), 3) := dk_167 255 211 (dk_at dksX10_expect_2 3 rfl rfl)
theorem dX10_expect_50 : decode cX10_expect 50 = .ok (.return_, 1) := dk_177 (dk_at dksX10_expect_2 6 rfl rfl)
abbrev cX10_lambda_hanging_0 : ByteArray := prog_10_method_19_code
def yX10_lambda_hanging_0 : MethodName := ⟨RX10, "lambda$hanging$0", "(ILPendulumGym$Gym;)I"⟩
def dkwX10_lambda_hanging_0_0 : List UInt8 := [43, 26, 182, 0, 133, 172]
abbrev dktX10_lambda_hanging_0_0 : List UInt8 := dkwX10_lambda_hanging_0_0 ++ []
theorem dksX10_lambda_hanging_0_0 : cX10_lambda_hanging_0.data.toList.drop 0 = dktX10_lambda_hanging_0_0 := by decide +kernel
theorem dX10_lambda_hanging_0_0 : decode cX10_lambda_hanging_0 0 = .ok (.aload_n 1, 1) := dk_43 (dk_at dksX10_lambda_hanging_0_0 0 rfl rfl)
theorem dX10_lambda_hanging_0_1 : decode cX10_lambda_hanging_0 1 = .ok (.iload_n 0, 1) := dk_26 (dk_at dksX10_lambda_hanging_0_0 1 rfl rfl)
theorem dX10_lambda_hanging_0_2 : decode cX10_lambda_hanging_0 2 = .ok (.invokevirtual 133, 3) := dk_182 0 133 (dk_at dksX10_lambda_hanging_0_0 2 rfl rfl)
theorem dX10_lambda_hanging_0_5 : decode cX10_lambda_hanging_0 5 = .ok (.ireturn, 1) := dk_172 (dk_at dksX10_lambda_hanging_0_0 5 rfl rfl)
abbrev cX10_pushing : ByteArray := prog_10_method_6_code
def yX10_pushing : MethodName := ⟨RX10, "pushing", "()LPendulumGym$Modification;"⟩
def dkwX10_pushing_0 : List UInt8 := [42, 18, 56, 4, 182, 0, 48, 60, 42, 18, 58, 6, 182, 0, 48, 61, 27, 28, 186, 0, 60, 0, 0, 176]
abbrev dktX10_pushing_0 : List UInt8 := dkwX10_pushing_0 ++ []
theorem dksX10_pushing_0 : cX10_pushing.data.toList.drop 0 = dktX10_pushing_0 := by decide +kernel
theorem dX10_pushing_0 : decode cX10_pushing 0 = .ok (.aload_n 0, 1) := dk_42 (dk_at dksX10_pushing_0 0 rfl rfl)
theorem dX10_pushing_1 : decode cX10_pushing 1 = .ok (.ldc 56, 2) := dk_18 56 (dk_at dksX10_pushing_0 1 rfl rfl)
theorem dX10_pushing_3 : decode cX10_pushing 3 = .ok (.iconst 1, 1) := dk_4 (dk_at dksX10_pushing_0 3 rfl rfl)
theorem dX10_pushing_4 : decode cX10_pushing 4 = .ok (.invokevirtual 48, 3) := dk_182 0 48 (dk_at dksX10_pushing_0 4 rfl rfl)
theorem dX10_pushing_7 : decode cX10_pushing 7 = .ok (.istore_n 1, 1) := dk_60 (dk_at dksX10_pushing_0 7 rfl rfl)
theorem dX10_pushing_8 : decode cX10_pushing 8 = .ok (.aload_n 0, 1) := dk_42 (dk_at dksX10_pushing_0 8 rfl rfl)
theorem dX10_pushing_9 : decode cX10_pushing 9 = .ok (.ldc 58, 2) := dk_18 58 (dk_at dksX10_pushing_0 9 rfl rfl)
theorem dX10_pushing_11 : decode cX10_pushing 11 = .ok (.iconst 3, 1) := dk_6 (dk_at dksX10_pushing_0 11 rfl rfl)
theorem dX10_pushing_12 : decode cX10_pushing 12 = .ok (.invokevirtual 48, 3) := dk_182 0 48 (dk_at dksX10_pushing_0 12 rfl rfl)
theorem dX10_pushing_15 : decode cX10_pushing 15 = .ok (.istore_n 2, 1) := dk_61 (dk_at dksX10_pushing_0 15 rfl rfl)
theorem dX10_pushing_16 : decode cX10_pushing 16 = .ok (.iload_n 1, 1) := dk_27 (dk_at dksX10_pushing_0 16 rfl rfl)
theorem dX10_pushing_17 : decode cX10_pushing 17 = .ok (.iload_n 2, 1) := dk_28 (dk_at dksX10_pushing_0 17 rfl rfl)
theorem dX10_pushing_18 : decode cX10_pushing 18 = .ok (.invokedynamic 60, 5) := by decide +kernel
theorem dX10_pushing_23 : decode cX10_pushing 23 = .ok (.areturn, 1) := dk_176 (dk_at dksX10_pushing_0 23 rfl rfl)
abbrev cX10_lambda_pushing_1 : ByteArray := prog_10_method_18_code
def yX10_lambda_pushing_1 : MethodName := ⟨RX10, "lambda$pushing$1", "(IILPendulumGym$Gym;)I"⟩
def dkwX10_lambda_pushing_1_0 : List UInt8 := [44, 26, 27, 182, 0, 129, 172]
abbrev dktX10_lambda_pushing_1_0 : List UInt8 := dkwX10_lambda_pushing_1_0 ++ []
theorem dksX10_lambda_pushing_1_0 : cX10_lambda_pushing_1.data.toList.drop 0 = dktX10_lambda_pushing_1_0 := by decide +kernel
theorem dX10_lambda_pushing_1_0 : decode cX10_lambda_pushing_1 0 = .ok (.aload_n 2, 1) := dk_44 (dk_at dksX10_lambda_pushing_1_0 0 rfl rfl)
theorem dX10_lambda_pushing_1_1 : decode cX10_lambda_pushing_1 1 = .ok (.iload_n 0, 1) := dk_26 (dk_at dksX10_lambda_pushing_1_0 1 rfl rfl)
theorem dX10_lambda_pushing_1_2 : decode cX10_lambda_pushing_1 2 = .ok (.iload_n 1, 1) := dk_27 (dk_at dksX10_lambda_pushing_1_0 2 rfl rfl)
theorem dX10_lambda_pushing_1_3 : decode cX10_lambda_pushing_1 3 = .ok (.invokevirtual 129, 3) := dk_182 0 129 (dk_at dksX10_lambda_pushing_1_0 3 rfl rfl)
theorem dX10_lambda_pushing_1_6 : decode cX10_lambda_pushing_1 6 = .ok (.ireturn, 1) := dk_172 (dk_at dksX10_lambda_pushing_1_0 6 rfl rfl)
abbrev cX10_catchingOrCutting : ByteArray := prog_10_method_7_code
def yX10_catchingOrCutting : MethodName := ⟨RX10, "catchingOrCutting", "()LPendulumGym$Modification;"⟩
def dkwX10_catchingOrCutting_2 : List UInt8 := [186, 0, 69, 0, 0, 167, 0, 9, 28, 186, 0, 70, 0, 0, 176]
abbrev dktX10_catchingOrCutting_2 : List UInt8 := dkwX10_catchingOrCutting_2 ++ []
def dkwX10_catchingOrCutting_1 : List UInt8 := [153, 0, 8, 18, 65, 167, 0, 5, 18, 67, 4, 182, 0, 48, 61, 27, 153, 0, 12, 28]
abbrev dktX10_catchingOrCutting_1 : List UInt8 := dkwX10_catchingOrCutting_1 ++ dktX10_catchingOrCutting_2
def dkwX10_catchingOrCutting_0 : List UInt8 := [42, 18, 63, 182, 0, 36, 42, 182, 0, 27, 16, 117, 160, 0, 7, 4, 167, 0, 4, 3, 60, 42, 27]
abbrev dktX10_catchingOrCutting_0 : List UInt8 := dkwX10_catchingOrCutting_0 ++ dktX10_catchingOrCutting_1
theorem dksX10_catchingOrCutting_0 : cX10_catchingOrCutting.data.toList.drop 0 = dktX10_catchingOrCutting_0 := by decide +kernel
theorem dksX10_catchingOrCutting_1 : cX10_catchingOrCutting.data.toList.drop 23 = dktX10_catchingOrCutting_1 := dk_seg dksX10_catchingOrCutting_0 23 rfl rfl
theorem dksX10_catchingOrCutting_2 : cX10_catchingOrCutting.data.toList.drop 43 = dktX10_catchingOrCutting_2 := dk_seg dksX10_catchingOrCutting_1 20 rfl rfl
theorem dX10_catchingOrCutting_0 : decode cX10_catchingOrCutting 0 = .ok (.aload_n 0, 1) := dk_42 (dk_at dksX10_catchingOrCutting_0 0 rfl rfl)
theorem dX10_catchingOrCutting_1 : decode cX10_catchingOrCutting 1 = .ok (.ldc 63, 2) := dk_18 63 (dk_at dksX10_catchingOrCutting_0 1 rfl rfl)
theorem dX10_catchingOrCutting_3 : decode cX10_catchingOrCutting 3 = .ok (.invokevirtual 36, 3) := dk_182 0 36 (dk_at dksX10_catchingOrCutting_0 3 rfl rfl)
theorem dX10_catchingOrCutting_6 : decode cX10_catchingOrCutting 6 = .ok (.aload_n 0, 1) := dk_42 (dk_at dksX10_catchingOrCutting_0 6 rfl rfl)
theorem dX10_catchingOrCutting_7 : decode cX10_catchingOrCutting 7 = .ok (.invokevirtual 27, 3) := dk_182 0 27 (dk_at dksX10_catchingOrCutting_0 7 rfl rfl)
theorem dX10_catchingOrCutting_10 : decode cX10_catchingOrCutting 10 = .ok (.bipush 117, 2) := dk_16 117 (dk_at dksX10_catchingOrCutting_0 10 rfl rfl)
theorem dX10_catchingOrCutting_12 : decode cX10_catchingOrCutting 12 = .ok (.if_icmp .ne 7, 3) := dk_160 0 7 (dk_at dksX10_catchingOrCutting_0 12 rfl rfl)
theorem dX10_catchingOrCutting_15 : decode cX10_catchingOrCutting 15 = .ok (.iconst 1, 1) := dk_4 (dk_at dksX10_catchingOrCutting_0 15 rfl rfl)
theorem dX10_catchingOrCutting_16 : decode cX10_catchingOrCutting 16 = .ok (.goto 4, 3) := dk_167 0 4 (dk_at dksX10_catchingOrCutting_0 16 rfl rfl)
theorem dX10_catchingOrCutting_19 : decode cX10_catchingOrCutting 19 = .ok (.iconst 0, 1) := dk_3 (dk_at dksX10_catchingOrCutting_0 19 rfl rfl)
theorem dX10_catchingOrCutting_20 : decode cX10_catchingOrCutting 20 = .ok (.istore_n 1, 1) := dk_60 (dk_at dksX10_catchingOrCutting_0 20 rfl rfl)
theorem dX10_catchingOrCutting_21 : decode cX10_catchingOrCutting 21 = .ok (.aload_n 0, 1) := dk_42 (dk_at dksX10_catchingOrCutting_0 21 rfl rfl)
theorem dX10_catchingOrCutting_22 : decode cX10_catchingOrCutting 22 = .ok (.iload_n 1, 1) := dk_27 (dk_at dksX10_catchingOrCutting_0 22 rfl rfl)
theorem dX10_catchingOrCutting_23 : decode cX10_catchingOrCutting 23 = .ok (.ifCond .eq 8, 3) := dk_153 0 8 (dk_at dksX10_catchingOrCutting_1 0 rfl rfl)
theorem dX10_catchingOrCutting_26 : decode cX10_catchingOrCutting 26 = .ok (.ldc 65, 2) := dk_18 65 (dk_at dksX10_catchingOrCutting_1 3 rfl rfl)
theorem dX10_catchingOrCutting_28 : decode cX10_catchingOrCutting 28 = .ok (.goto 5, 3) := dk_167 0 5 (dk_at dksX10_catchingOrCutting_1 5 rfl rfl)
theorem dX10_catchingOrCutting_31 : decode cX10_catchingOrCutting 31 = .ok (.ldc 67, 2) := dk_18 67 (dk_at dksX10_catchingOrCutting_1 8 rfl rfl)
theorem dX10_catchingOrCutting_33 : decode cX10_catchingOrCutting 33 = .ok (.iconst 1, 1) := dk_4 (dk_at dksX10_catchingOrCutting_1 10 rfl rfl)
theorem dX10_catchingOrCutting_34 : decode cX10_catchingOrCutting 34 = .ok (.invokevirtual 48, 3) := dk_182 0 48 (dk_at dksX10_catchingOrCutting_1 11 rfl rfl)
theorem dX10_catchingOrCutting_37 : decode cX10_catchingOrCutting 37 = .ok (.istore_n 2, 1) := dk_61 (dk_at dksX10_catchingOrCutting_1 14 rfl rfl)
theorem dX10_catchingOrCutting_38 : decode cX10_catchingOrCutting 38 = .ok (.iload_n 1, 1) := dk_27 (dk_at dksX10_catchingOrCutting_1 15 rfl rfl)
theorem dX10_catchingOrCutting_39 : decode cX10_catchingOrCutting 39 = .ok (.ifCond .eq 12, 3) := dk_153 0 12 (dk_at dksX10_catchingOrCutting_1 16 rfl rfl)
theorem dX10_catchingOrCutting_42 : decode cX10_catchingOrCutting 42 = .ok (.iload_n 2, 1) := dk_28 (dk_at dksX10_catchingOrCutting_1 19 rfl rfl)
theorem dX10_catchingOrCutting_43 : decode cX10_catchingOrCutting 43 = .ok (.invokedynamic 69, 5) := by decide +kernel
theorem dX10_catchingOrCutting_48 : decode cX10_catchingOrCutting 48 = .ok (.goto 9, 3) := dk_167 0 9 (dk_at dksX10_catchingOrCutting_2 5 rfl rfl)
theorem dX10_catchingOrCutting_51 : decode cX10_catchingOrCutting 51 = .ok (.iload_n 2, 1) := dk_28 (dk_at dksX10_catchingOrCutting_2 8 rfl rfl)
theorem dX10_catchingOrCutting_52 : decode cX10_catchingOrCutting 52 = .ok (.invokedynamic 70, 5) := by decide +kernel
theorem dX10_catchingOrCutting_57 : decode cX10_catchingOrCutting 57 = .ok (.areturn, 1) := dk_176 (dk_at dksX10_catchingOrCutting_2 14 rfl rfl)
abbrev cX10_lambda_catchingOrCutting_2 : ByteArray := prog_10_method_17_code
def yX10_lambda_catchingOrCutting_2 : MethodName := ⟨RX10, "lambda$catchingOrCutting$2", "(ILPendulumGym$Gym;)I"⟩
def dkwX10_lambda_catchingOrCutting_2_0 : List UInt8 := [43, 26, 182, 0, 126, 172]
abbrev dktX10_lambda_catchingOrCutting_2_0 : List UInt8 := dkwX10_lambda_catchingOrCutting_2_0 ++ []
theorem dksX10_lambda_catchingOrCutting_2_0 : cX10_lambda_catchingOrCutting_2.data.toList.drop 0 = dktX10_lambda_catchingOrCutting_2_0 := by decide +kernel
theorem dX10_lambda_catchingOrCutting_2_0 : decode cX10_lambda_catchingOrCutting_2 0 = .ok (.aload_n 1, 1) := dk_43 (dk_at dksX10_lambda_catchingOrCutting_2_0 0 rfl rfl)
theorem dX10_lambda_catchingOrCutting_2_1 : decode cX10_lambda_catchingOrCutting_2 1 = .ok (.iload_n 0, 1) := dk_26 (dk_at dksX10_lambda_catchingOrCutting_2_0 1 rfl rfl)
theorem dX10_lambda_catchingOrCutting_2_2 : decode cX10_lambda_catchingOrCutting_2 2 = .ok (.invokevirtual 126, 3) := dk_182 0 126 (dk_at dksX10_lambda_catchingOrCutting_2_0 2 rfl rfl)
theorem dX10_lambda_catchingOrCutting_2_5 : decode cX10_lambda_catchingOrCutting_2 5 = .ok (.ireturn, 1) := dk_172 (dk_at dksX10_lambda_catchingOrCutting_2_0 5 rfl rfl)
abbrev cX10_lambda_catchingOrCutting_3 : ByteArray := prog_10_method_16_code
def yX10_lambda_catchingOrCutting_3 : MethodName := ⟨RX10, "lambda$catchingOrCutting$3", "(ILPendulumGym$Gym;)I"⟩
def dkwX10_lambda_catchingOrCutting_3_0 : List UInt8 := [43, 26, 182, 0, 123, 172]
abbrev dktX10_lambda_catchingOrCutting_3_0 : List UInt8 := dkwX10_lambda_catchingOrCutting_3_0 ++ []
theorem dksX10_lambda_catchingOrCutting_3_0 : cX10_lambda_catchingOrCutting_3.data.toList.drop 0 = dktX10_lambda_catchingOrCutting_3_0 := by decide +kernel
theorem dX10_lambda_catchingOrCutting_3_0 : decode cX10_lambda_catchingOrCutting_3 0 = .ok (.aload_n 1, 1) := dk_43 (dk_at dksX10_lambda_catchingOrCutting_3_0 0 rfl rfl)
theorem dX10_lambda_catchingOrCutting_3_1 : decode cX10_lambda_catchingOrCutting_3 1 = .ok (.iload_n 0, 1) := dk_26 (dk_at dksX10_lambda_catchingOrCutting_3_0 1 rfl rfl)
theorem dX10_lambda_catchingOrCutting_3_2 : decode cX10_lambda_catchingOrCutting_3 2 = .ok (.invokevirtual 123, 3) := dk_182 0 123 (dk_at dksX10_lambda_catchingOrCutting_3_0 2 rfl rfl)
theorem dX10_lambda_catchingOrCutting_3_5 : decode cX10_lambda_catchingOrCutting_3 5 = .ok (.ireturn, 1) := dk_172 (dk_at dksX10_lambda_catchingOrCutting_3_0 5 rfl rfl)
abbrev cX10_rubbing : ByteArray := prog_10_method_8_code
def yX10_rubbing : MethodName := ⟨RX10, "rubbing", "()LPendulumGym$Modification;"⟩
def dkwX10_rubbing_0 : List UInt8 := [42, 18, 71, 6, 182, 0, 48, 60, 27, 186, 0, 73, 0, 0, 176]
abbrev dktX10_rubbing_0 : List UInt8 := dkwX10_rubbing_0 ++ []
theorem dksX10_rubbing_0 : cX10_rubbing.data.toList.drop 0 = dktX10_rubbing_0 := by decide +kernel
theorem dX10_rubbing_0 : decode cX10_rubbing 0 = .ok (.aload_n 0, 1) := dk_42 (dk_at dksX10_rubbing_0 0 rfl rfl)
theorem dX10_rubbing_1 : decode cX10_rubbing 1 = .ok (.ldc 71, 2) := dk_18 71 (dk_at dksX10_rubbing_0 1 rfl rfl)
theorem dX10_rubbing_3 : decode cX10_rubbing 3 = .ok (.iconst 3, 1) := dk_6 (dk_at dksX10_rubbing_0 3 rfl rfl)
theorem dX10_rubbing_4 : decode cX10_rubbing 4 = .ok (.invokevirtual 48, 3) := dk_182 0 48 (dk_at dksX10_rubbing_0 4 rfl rfl)
theorem dX10_rubbing_7 : decode cX10_rubbing 7 = .ok (.istore_n 1, 1) := dk_60 (dk_at dksX10_rubbing_0 7 rfl rfl)
theorem dX10_rubbing_8 : decode cX10_rubbing 8 = .ok (.iload_n 1, 1) := dk_27 (dk_at dksX10_rubbing_0 8 rfl rfl)
theorem dX10_rubbing_9 : decode cX10_rubbing 9 = .ok (.invokedynamic 73, 5) := by decide +kernel
theorem dX10_rubbing_14 : decode cX10_rubbing 14 = .ok (.areturn, 1) := dk_176 (dk_at dksX10_rubbing_0 14 rfl rfl)
abbrev cX10_lambda_rubbing_4 : ByteArray := prog_10_method_15_code
def yX10_lambda_rubbing_4 : MethodName := ⟨RX10, "lambda$rubbing$4", "(ILPendulumGym$Gym;)I"⟩
def dkwX10_lambda_rubbing_4_0 : List UInt8 := [43, 26, 182, 0, 120, 172]
abbrev dktX10_lambda_rubbing_4_0 : List UInt8 := dkwX10_lambda_rubbing_4_0 ++ []
theorem dksX10_lambda_rubbing_4_0 : cX10_lambda_rubbing_4.data.toList.drop 0 = dktX10_lambda_rubbing_4_0 := by decide +kernel
theorem dX10_lambda_rubbing_4_0 : decode cX10_lambda_rubbing_4 0 = .ok (.aload_n 1, 1) := dk_43 (dk_at dksX10_lambda_rubbing_4_0 0 rfl rfl)
theorem dX10_lambda_rubbing_4_1 : decode cX10_lambda_rubbing_4 1 = .ok (.iload_n 0, 1) := dk_26 (dk_at dksX10_lambda_rubbing_4_0 1 rfl rfl)
theorem dX10_lambda_rubbing_4_2 : decode cX10_lambda_rubbing_4 2 = .ok (.invokevirtual 120, 3) := dk_182 0 120 (dk_at dksX10_lambda_rubbing_4_0 2 rfl rfl)
theorem dX10_lambda_rubbing_4_5 : decode cX10_lambda_rubbing_4 5 = .ok (.ireturn, 1) := dk_172 (dk_at dksX10_lambda_rubbing_4_0 5 rfl rfl)
abbrev cX10_addingLeg : ByteArray := prog_10_method_9_code
def yX10_addingLeg : MethodName := ⟨RX10, "addingLeg", "()LPendulumGym$Modification;"⟩
def dkwX10_addingLeg_0 : List UInt8 := [42, 18, 74, 6, 182, 0, 48, 60, 27, 186, 0, 76, 0, 0, 176]
abbrev dktX10_addingLeg_0 : List UInt8 := dkwX10_addingLeg_0 ++ []
theorem dksX10_addingLeg_0 : cX10_addingLeg.data.toList.drop 0 = dktX10_addingLeg_0 := by decide +kernel
theorem dX10_addingLeg_0 : decode cX10_addingLeg 0 = .ok (.aload_n 0, 1) := dk_42 (dk_at dksX10_addingLeg_0 0 rfl rfl)
theorem dX10_addingLeg_1 : decode cX10_addingLeg 1 = .ok (.ldc 74, 2) := dk_18 74 (dk_at dksX10_addingLeg_0 1 rfl rfl)
theorem dX10_addingLeg_3 : decode cX10_addingLeg 3 = .ok (.iconst 3, 1) := dk_6 (dk_at dksX10_addingLeg_0 3 rfl rfl)
theorem dX10_addingLeg_4 : decode cX10_addingLeg 4 = .ok (.invokevirtual 48, 3) := dk_182 0 48 (dk_at dksX10_addingLeg_0 4 rfl rfl)
theorem dX10_addingLeg_7 : decode cX10_addingLeg 7 = .ok (.istore_n 1, 1) := dk_60 (dk_at dksX10_addingLeg_0 7 rfl rfl)
theorem dX10_addingLeg_8 : decode cX10_addingLeg 8 = .ok (.iload_n 1, 1) := dk_27 (dk_at dksX10_addingLeg_0 8 rfl rfl)
theorem dX10_addingLeg_9 : decode cX10_addingLeg 9 = .ok (.invokedynamic 76, 5) := by decide +kernel
theorem dX10_addingLeg_14 : decode cX10_addingLeg 14 = .ok (.areturn, 1) := dk_176 (dk_at dksX10_addingLeg_0 14 rfl rfl)
abbrev cX10_lambda_addingLeg_5 : ByteArray := prog_10_method_14_code
def yX10_lambda_addingLeg_5 : MethodName := ⟨RX10, "lambda$addingLeg$5", "(ILPendulumGym$Gym;)I"⟩
def dkwX10_lambda_addingLeg_5_0 : List UInt8 := [43, 26, 182, 0, 117, 172]
abbrev dktX10_lambda_addingLeg_5_0 : List UInt8 := dkwX10_lambda_addingLeg_5_0 ++ []
theorem dksX10_lambda_addingLeg_5_0 : cX10_lambda_addingLeg_5.data.toList.drop 0 = dktX10_lambda_addingLeg_5_0 := by decide +kernel
theorem dX10_lambda_addingLeg_5_0 : decode cX10_lambda_addingLeg_5 0 = .ok (.aload_n 1, 1) := dk_43 (dk_at dksX10_lambda_addingLeg_5_0 0 rfl rfl)
theorem dX10_lambda_addingLeg_5_1 : decode cX10_lambda_addingLeg_5 1 = .ok (.iload_n 0, 1) := dk_26 (dk_at dksX10_lambda_addingLeg_5_0 1 rfl rfl)
theorem dX10_lambda_addingLeg_5_2 : decode cX10_lambda_addingLeg_5 2 = .ok (.invokevirtual 117, 3) := dk_182 0 117 (dk_at dksX10_lambda_addingLeg_5_0 2 rfl rfl)
theorem dX10_lambda_addingLeg_5_5 : decode cX10_lambda_addingLeg_5 5 = .ok (.ireturn, 1) := dk_172 (dk_at dksX10_lambda_addingLeg_5_0 5 rfl rfl)
abbrev cX10_ticking : ByteArray := prog_10_method_10_code
def yX10_ticking : MethodName := ⟨RX10, "ticking", "()LPendulumGym$Modification;"⟩
def dkwX10_ticking_0 : List UInt8 := [42, 18, 77, 6, 182, 0, 48, 60, 27, 186, 0, 79, 0, 0, 176]
abbrev dktX10_ticking_0 : List UInt8 := dkwX10_ticking_0 ++ []
theorem dksX10_ticking_0 : cX10_ticking.data.toList.drop 0 = dktX10_ticking_0 := by decide +kernel
theorem dX10_ticking_0 : decode cX10_ticking 0 = .ok (.aload_n 0, 1) := dk_42 (dk_at dksX10_ticking_0 0 rfl rfl)
theorem dX10_ticking_1 : decode cX10_ticking 1 = .ok (.ldc 77, 2) := dk_18 77 (dk_at dksX10_ticking_0 1 rfl rfl)
theorem dX10_ticking_3 : decode cX10_ticking 3 = .ok (.iconst 3, 1) := dk_6 (dk_at dksX10_ticking_0 3 rfl rfl)
theorem dX10_ticking_4 : decode cX10_ticking 4 = .ok (.invokevirtual 48, 3) := dk_182 0 48 (dk_at dksX10_ticking_0 4 rfl rfl)
theorem dX10_ticking_7 : decode cX10_ticking 7 = .ok (.istore_n 1, 1) := dk_60 (dk_at dksX10_ticking_0 7 rfl rfl)
theorem dX10_ticking_8 : decode cX10_ticking 8 = .ok (.iload_n 1, 1) := dk_27 (dk_at dksX10_ticking_0 8 rfl rfl)
theorem dX10_ticking_9 : decode cX10_ticking 9 = .ok (.invokedynamic 79, 5) := by decide +kernel
theorem dX10_ticking_14 : decode cX10_ticking 14 = .ok (.areturn, 1) := dk_176 (dk_at dksX10_ticking_0 14 rfl rfl)
abbrev cX10_lambda_ticking_6 : ByteArray := prog_10_method_13_code
def yX10_lambda_ticking_6 : MethodName := ⟨RX10, "lambda$ticking$6", "(ILPendulumGym$Gym;)I"⟩
def dkwX10_lambda_ticking_6_0 : List UInt8 := [43, 26, 182, 0, 111, 172]
abbrev dktX10_lambda_ticking_6_0 : List UInt8 := dkwX10_lambda_ticking_6_0 ++ []
theorem dksX10_lambda_ticking_6_0 : cX10_lambda_ticking_6.data.toList.drop 0 = dktX10_lambda_ticking_6_0 := by decide +kernel
theorem dX10_lambda_ticking_6_0 : decode cX10_lambda_ticking_6 0 = .ok (.aload_n 1, 1) := dk_43 (dk_at dksX10_lambda_ticking_6_0 0 rfl rfl)
theorem dX10_lambda_ticking_6_1 : decode cX10_lambda_ticking_6 1 = .ok (.iload_n 0, 1) := dk_26 (dk_at dksX10_lambda_ticking_6_0 1 rfl rfl)
theorem dX10_lambda_ticking_6_2 : decode cX10_lambda_ticking_6 2 = .ok (.invokevirtual 111, 3) := dk_182 0 111 (dk_at dksX10_lambda_ticking_6_0 2 rfl rfl)
theorem dX10_lambda_ticking_6_5 : decode cX10_lambda_ticking_6 5 = .ok (.ireturn, 1) := dk_172 (dk_at dksX10_lambda_ticking_6_0 5 rfl rfl)
theorem q106 : (Jvm.Cond.initialized "PendulumGym$Parser") ∈ lw_all := lw_g (lw_at lw_m1 39 rfl) rfl
theorem q473 : (Jvm.Cond.selects "PendulumGym$Parser" ({ cls := "java/lang/Object", name := "getClass", desc := "()Ljava/lang/Class;" } : Jvm.MethodName) ({ cls := "java/lang/Object", name := "getClass", desc := "()Ljava/lang/Class;" } : Jvm.MethodName)) ∈ lw_all := lw_g (lw_at lw_m2 166 rfl) rfl
theorem q1506 : (Jvm.Cond.instantiable "PendulumGym$Parser" (2 : Nat)) ∈ lw_all := lw_g (lw_at lw_m6 239 rfl) rfl
theorem q1508 : (Jvm.Cond.instanceMethod ({ cls := "PendulumGym$Parser", name := "<init>", desc := "(Ljava/lang/String;)V" } : Jvm.MethodName)) ∈ lw_all := lw_g (lw_at lw_m7 1 rfl) rfl
theorem q1509 : (Jvm.Cond.code ({ cls := "PendulumGym$Parser", name := "<init>", desc := "(Ljava/lang/String;)V" } : Jvm.MethodName) prog_10_method_1_code (2 : Nat) (Option.none : Option Jvm.ClassFile.FieldType)) ∈ lw_all := lw_g (lw_at lw_m7 2 rfl) rfl
theorem q1510 : (Jvm.Cond.methodLink "PendulumGym$Parser" (1 : Nat) ({ cls := "java/lang/Object", name := "<init>", desc := "()V" } : Jvm.MethodName)) ∈ lw_all := lw_g (lw_at lw_m7 3 rfl) rfl
theorem q1511 : (Jvm.Cond.fieldLink "PendulumGym$Parser" (7 : Nat) "PendulumGym$Parser" "text" "Ljava/lang/String;") ∈ lw_all := lw_g (lw_at lw_m7 4 rfl) rfl
theorem q1512 : (Jvm.Cond.fieldLink "PendulumGym$Parser" (13 : Nat) "PendulumGym$Parser" "next" "I") ∈ lw_all := lw_g (lw_at lw_m7 5 rfl) rfl
theorem q1513 : (Jvm.Cond.laysFinal "PendulumGym$Parser" "PendulumGym$Parser" "text" "Ljava/lang/String;") ∈ lw_all := lw_g (lw_at lw_m7 6 rfl) rfl
theorem q1514 : (Jvm.Cond.soleField "PendulumGym$Parser" "text") ∈ lw_all := lw_g (lw_at lw_m7 7 rfl) rfl
theorem q1515 : (Jvm.Cond.lays "PendulumGym$Parser" "PendulumGym$Parser" "next" "I") ∈ lw_all := lw_g (lw_at lw_m7 8 rfl) rfl
theorem q1516 : (Jvm.Cond.soleField "PendulumGym$Parser" "next") ∈ lw_all := lw_g (lw_at lw_m7 9 rfl) rfl
theorem q1517 : (Jvm.Cond.superclass "PendulumGym$Parser" "java/lang/Object") ∈ lw_all := lw_g (lw_at lw_m7 10 rfl) rfl
theorem q1519 : (Jvm.Cond.instanceMethod ({ cls := "PendulumGym$Parser", name := "program", desc := "()Ljava/util/ArrayList;" } : Jvm.MethodName)) ∈ lw_all := lw_g (lw_at lw_m7 12 rfl) rfl
theorem q1520 : (Jvm.Cond.selects "PendulumGym$Parser" ({ cls := "PendulumGym$Parser", name := "program", desc := "()Ljava/util/ArrayList;" } : Jvm.MethodName) ({ cls := "PendulumGym$Parser", name := "program", desc := "()Ljava/util/ArrayList;" } : Jvm.MethodName)) ∈ lw_all := lw_g (lw_at lw_m7 13 rfl) rfl
theorem q1521 : (Jvm.Cond.code ({ cls := "PendulumGym$Parser", name := "program", desc := "()Ljava/util/ArrayList;" } : Jvm.MethodName) prog_10_method_12_code (3 : Nat) (Option.some (Jvm.ClassFile.FieldType.object "java/util/ArrayList"))) ∈ lw_all := lw_g (lw_at lw_m7 14 rfl) rfl
theorem q1522 : (Jvm.Cond.classLink "PendulumGym$Parser" (99 : Nat) "java/util/ArrayList") ∈ lw_all := lw_g (lw_at lw_m7 15 rfl) rfl
theorem q1523 : (Jvm.Cond.methodLink "PendulumGym$Parser" (101 : Nat) ({ cls := "java/util/ArrayList", name := "<init>", desc := "()V" } : Jvm.MethodName)) ∈ lw_all := lw_g (lw_at lw_m7 16 rfl) rfl
theorem q1524 : (Jvm.Cond.methodLink "PendulumGym$Parser" (102 : Nat) ({ cls := "PendulumGym$Parser", name := "command", desc := "()LPendulumGym$Modification;" } : Jvm.MethodName)) ∈ lw_all := lw_g (lw_at lw_m7 17 rfl) rfl
theorem q1525 : (Jvm.Cond.privateMethod ({ cls := "PendulumGym$Parser", name := "command", desc := "()LPendulumGym$Modification;" } : Jvm.MethodName)) ∈ lw_tbl := lw_at lw_m7 18 rfl
theorem q1526 : (Jvm.Cond.instanceMethod ({ cls := "PendulumGym$Parser", name := "command", desc := "()LPendulumGym$Modification;" } : Jvm.MethodName)) ∈ lw_all := lw_g (lw_at lw_m7 19 rfl) rfl
theorem q1527 : (Jvm.Cond.code ({ cls := "PendulumGym$Parser", name := "command", desc := "()LPendulumGym$Modification;" } : Jvm.MethodName) prog_10_method_11_code (1 : Nat) (Option.some (Jvm.ClassFile.FieldType.object "PendulumGym$Modification"))) ∈ lw_all := lw_g (lw_at lw_m7 20 rfl) rfl
theorem q1528 : (Jvm.Cond.methodLink "PendulumGym$Parser" (27 : Nat) ({ cls := "PendulumGym$Parser", name := "peek", desc := "()C" } : Jvm.MethodName)) ∈ lw_all := lw_g (lw_at lw_m7 21 rfl) rfl
theorem q1529 : (Jvm.Cond.privateMethod ({ cls := "PendulumGym$Parser", name := "peek", desc := "()C" } : Jvm.MethodName)) ∈ lw_tbl := lw_at lw_m7 22 rfl
theorem q1530 : (Jvm.Cond.instanceMethod ({ cls := "PendulumGym$Parser", name := "peek", desc := "()C" } : Jvm.MethodName)) ∈ lw_all := lw_g (lw_at lw_m7 23 rfl) rfl
theorem q1531 : (Jvm.Cond.code ({ cls := "PendulumGym$Parser", name := "peek", desc := "()C" } : Jvm.MethodName) prog_10_method_2_code (1 : Nat) (Option.some Jvm.ClassFile.FieldType.char)) ∈ lw_all := lw_g (lw_at lw_m7 24 rfl) rfl
theorem q1532 : (Jvm.Cond.methodLink "PendulumGym$Parser" (17 : Nat) ({ cls := "java/lang/String", name := "length", desc := "()I" } : Jvm.MethodName)) ∈ lw_all := lw_g (lw_at lw_m7 25 rfl) rfl
theorem q1533 : (Jvm.Cond.methodLink "PendulumGym$Parser" (23 : Nat) ({ cls := "java/lang/String", name := "charAt", desc := "(I)C" } : Jvm.MethodName)) ∈ lw_all := lw_g (lw_at lw_m7 26 rfl) rfl
theorem q1534 : (Jvm.Cond.methodLink "PendulumGym$Parser" (80 : Nat) ({ cls := "PendulumGym$Parser", name := "hanging", desc := "()LPendulumGym$Modification;" } : Jvm.MethodName)) ∈ lw_all := lw_g (lw_at lw_m7 27 rfl) rfl
theorem q1535 : (Jvm.Cond.privateMethod ({ cls := "PendulumGym$Parser", name := "hanging", desc := "()LPendulumGym$Modification;" } : Jvm.MethodName)) ∈ lw_tbl := lw_at lw_m7 28 rfl
theorem q1536 : (Jvm.Cond.instanceMethod ({ cls := "PendulumGym$Parser", name := "hanging", desc := "()LPendulumGym$Modification;" } : Jvm.MethodName)) ∈ lw_all := lw_g (lw_at lw_m7 29 rfl) rfl
theorem q1537 : (Jvm.Cond.code ({ cls := "PendulumGym$Parser", name := "hanging", desc := "()LPendulumGym$Modification;" } : Jvm.MethodName) prog_10_method_5_code (2 : Nat) (Option.some (Jvm.ClassFile.FieldType.object "PendulumGym$Modification"))) ∈ lw_all := lw_g (lw_at lw_m7 30 rfl) rfl
theorem q1538 : (Jvm.Cond.stringRef "PendulumGym$Parser" (46 : Nat) "hang ") ∈ lw_tbl := lw_at lw_m7 31 rfl
theorem q1539 : (Jvm.Cond.methodLink "PendulumGym$Parser" (48 : Nat) ({ cls := "PendulumGym$Parser", name := "number", desc := "(Ljava/lang/String;I)I" } : Jvm.MethodName)) ∈ lw_all := lw_g (lw_at lw_m7 32 rfl) rfl
theorem q1540 : (Jvm.Cond.privateMethod ({ cls := "PendulumGym$Parser", name := "number", desc := "(Ljava/lang/String;I)I" } : Jvm.MethodName)) ∈ lw_tbl := lw_at lw_m7 33 rfl
theorem q1541 : (Jvm.Cond.instanceMethod ({ cls := "PendulumGym$Parser", name := "number", desc := "(Ljava/lang/String;I)I" } : Jvm.MethodName)) ∈ lw_all := lw_g (lw_at lw_m7 34 rfl) rfl
theorem q1542 : (Jvm.Cond.code ({ cls := "PendulumGym$Parser", name := "number", desc := "(Ljava/lang/String;I)I" } : Jvm.MethodName) prog_10_method_4_code (5 : Nat) (Option.some Jvm.ClassFile.FieldType.int)) ∈ lw_all := lw_g (lw_at lw_m7 35 rfl) rfl
theorem q1543 : (Jvm.Cond.methodLink "PendulumGym$Parser" (36 : Nat) ({ cls := "PendulumGym$Parser", name := "expect", desc := "(Ljava/lang/String;)V" } : Jvm.MethodName)) ∈ lw_all := lw_g (lw_at lw_m7 36 rfl) rfl
theorem q1544 : (Jvm.Cond.privateMethod ({ cls := "PendulumGym$Parser", name := "expect", desc := "(Ljava/lang/String;)V" } : Jvm.MethodName)) ∈ lw_tbl := lw_at lw_m7 37 rfl
theorem q1545 : (Jvm.Cond.instanceMethod ({ cls := "PendulumGym$Parser", name := "expect", desc := "(Ljava/lang/String;)V" } : Jvm.MethodName)) ∈ lw_all := lw_g (lw_at lw_m7 38 rfl) rfl
theorem q1546 : (Jvm.Cond.code ({ cls := "PendulumGym$Parser", name := "expect", desc := "(Ljava/lang/String;)V" } : Jvm.MethodName) prog_10_method_3_code (3 : Nat) (Option.none : Option Jvm.ClassFile.FieldType)) ∈ lw_all := lw_g (lw_at lw_m7 39 rfl) rfl
theorem q1547 : (Jvm.Cond.classLink "PendulumGym$Parser" (31 : Nat) "PendulumGym$SyntaxError") ∈ lw_all := lw_g (lw_at lw_m7 40 rfl) rfl
theorem q1556 : (Jvm.Cond.methodLink "PendulumGym$Parser" (33 : Nat) ({ cls := "PendulumGym$SyntaxError", name := "<init>", desc := "(I)V" } : Jvm.MethodName)) ∈ lw_all := lw_g (lw_at lw_m7 49 rfl) rfl
theorem q1566 : (Jvm.Cond.methodLinkNest "PendulumGym$Parser" (40 : Nat) ({ cls := "PendulumGym", name := "isBetween", desc := "(III)Z" } : Jvm.MethodName) "PendulumGym") ∈ lw_tbl := lw_at lw_m7 59 rfl
theorem q1567 : (Jvm.Cond.static ({ cls := "PendulumGym$Parser", name := "lambda$hanging$0", desc := "(ILPendulumGym$Gym;)I" } : Jvm.MethodName)) ∈ lw_all := lw_g (lw_at lw_m7 60 rfl) rfl
theorem q1568 : (Jvm.Cond.code ({ cls := "PendulumGym$Parser", name := "lambda$hanging$0", desc := "(ILPendulumGym$Gym;)I" } : Jvm.MethodName) prog_10_method_19_code (2 : Nat) (Option.some Jvm.ClassFile.FieldType.int)) ∈ lw_all := lw_g (lw_at lw_m7 61 rfl) rfl
theorem q1569 : (Jvm.Cond.methodLink "PendulumGym$Parser" (133 : Nat) ({ cls := "PendulumGym$Gym", name := "addPendulum", desc := "(I)I" } : Jvm.MethodName)) ∈ lw_all := lw_g (lw_at lw_m7 62 rfl) rfl
theorem q1570 : (Jvm.Cond.methodLink "PendulumGym$Parser" (84 : Nat) ({ cls := "PendulumGym$Parser", name := "pushing", desc := "()LPendulumGym$Modification;" } : Jvm.MethodName)) ∈ lw_all := lw_g (lw_at lw_m7 63 rfl) rfl
theorem q1571 : (Jvm.Cond.privateMethod ({ cls := "PendulumGym$Parser", name := "pushing", desc := "()LPendulumGym$Modification;" } : Jvm.MethodName)) ∈ lw_tbl := lw_at lw_m7 64 rfl
theorem q1572 : (Jvm.Cond.instanceMethod ({ cls := "PendulumGym$Parser", name := "pushing", desc := "()LPendulumGym$Modification;" } : Jvm.MethodName)) ∈ lw_all := lw_g (lw_at lw_m7 65 rfl) rfl
theorem q1573 : (Jvm.Cond.code ({ cls := "PendulumGym$Parser", name := "pushing", desc := "()LPendulumGym$Modification;" } : Jvm.MethodName) prog_10_method_6_code (3 : Nat) (Option.some (Jvm.ClassFile.FieldType.object "PendulumGym$Modification"))) ∈ lw_all := lw_g (lw_at lw_m7 66 rfl) rfl
theorem q1574 : (Jvm.Cond.stringRef "PendulumGym$Parser" (56 : Nat) "push ") ∈ lw_tbl := lw_at lw_m7 67 rfl
theorem q1575 : (Jvm.Cond.stringRef "PendulumGym$Parser" (58 : Nat) " ") ∈ lw_tbl := lw_at lw_m7 68 rfl
theorem q1576 : (Jvm.Cond.static ({ cls := "PendulumGym$Parser", name := "lambda$pushing$1", desc := "(IILPendulumGym$Gym;)I" } : Jvm.MethodName)) ∈ lw_all := lw_g (lw_at lw_m7 69 rfl) rfl
theorem q1577 : (Jvm.Cond.code ({ cls := "PendulumGym$Parser", name := "lambda$pushing$1", desc := "(IILPendulumGym$Gym;)I" } : Jvm.MethodName) prog_10_method_18_code (3 : Nat) (Option.some Jvm.ClassFile.FieldType.int)) ∈ lw_all := lw_g (lw_at lw_m7 70 rfl) rfl
theorem q1578 : (Jvm.Cond.methodLink "PendulumGym$Parser" (129 : Nat) ({ cls := "PendulumGym$Gym", name := "push", desc := "(II)I" } : Jvm.MethodName)) ∈ lw_all := lw_g (lw_at lw_m7 71 rfl) rfl
theorem q1579 : (Jvm.Cond.methodLink "PendulumGym$Parser" (87 : Nat) ({ cls := "PendulumGym$Parser", name := "catchingOrCutting", desc := "()LPendulumGym$Modification;" } : Jvm.MethodName)) ∈ lw_all := lw_g (lw_at lw_m7 72 rfl) rfl
theorem q1580 : (Jvm.Cond.privateMethod ({ cls := "PendulumGym$Parser", name := "catchingOrCutting", desc := "()LPendulumGym$Modification;" } : Jvm.MethodName)) ∈ lw_tbl := lw_at lw_m7 73 rfl
theorem q1581 : (Jvm.Cond.instanceMethod ({ cls := "PendulumGym$Parser", name := "catchingOrCutting", desc := "()LPendulumGym$Modification;" } : Jvm.MethodName)) ∈ lw_all := lw_g (lw_at lw_m7 74 rfl) rfl
theorem q1582 : (Jvm.Cond.code ({ cls := "PendulumGym$Parser", name := "catchingOrCutting", desc := "()LPendulumGym$Modification;" } : Jvm.MethodName) prog_10_method_7_code (3 : Nat) (Option.some (Jvm.ClassFile.FieldType.object "PendulumGym$Modification"))) ∈ lw_all := lw_g (lw_at lw_m7 75 rfl) rfl
theorem q1583 : (Jvm.Cond.stringRef "PendulumGym$Parser" (63 : Nat) "c") ∈ lw_tbl := lw_at lw_m7 76 rfl
theorem q1584 : (Jvm.Cond.stringRef "PendulumGym$Parser" (65 : Nat) "ut ") ∈ lw_tbl := lw_at lw_m7 77 rfl
theorem q1585 : (Jvm.Cond.stringRef "PendulumGym$Parser" (67 : Nat) "atch ") ∈ lw_tbl := lw_at lw_m7 78 rfl
theorem q1586 : (Jvm.Cond.static ({ cls := "PendulumGym$Parser", name := "lambda$catchingOrCutting$2", desc := "(ILPendulumGym$Gym;)I" } : Jvm.MethodName)) ∈ lw_all := lw_g (lw_at lw_m7 79 rfl) rfl
theorem q1587 : (Jvm.Cond.code ({ cls := "PendulumGym$Parser", name := "lambda$catchingOrCutting$2", desc := "(ILPendulumGym$Gym;)I" } : Jvm.MethodName) prog_10_method_17_code (2 : Nat) (Option.some Jvm.ClassFile.FieldType.int)) ∈ lw_all := lw_g (lw_at lw_m7 80 rfl) rfl
theorem q1588 : (Jvm.Cond.methodLink "PendulumGym$Parser" (126 : Nat) ({ cls := "PendulumGym$Gym", name := "removeLeg", desc := "(I)I" } : Jvm.MethodName)) ∈ lw_all := lw_g (lw_at lw_m7 81 rfl) rfl
theorem q1589 : (Jvm.Cond.static ({ cls := "PendulumGym$Parser", name := "lambda$catchingOrCutting$3", desc := "(ILPendulumGym$Gym;)I" } : Jvm.MethodName)) ∈ lw_all := lw_g (lw_at lw_m7 82 rfl) rfl
theorem q1590 : (Jvm.Cond.code ({ cls := "PendulumGym$Parser", name := "lambda$catchingOrCutting$3", desc := "(ILPendulumGym$Gym;)I" } : Jvm.MethodName) prog_10_method_16_code (2 : Nat) (Option.some Jvm.ClassFile.FieldType.int)) ∈ lw_all := lw_g (lw_at lw_m7 83 rfl) rfl
theorem q1591 : (Jvm.Cond.methodLink "PendulumGym$Parser" (123 : Nat) ({ cls := "PendulumGym$Gym", name := "catchPendulum", desc := "(I)I" } : Jvm.MethodName)) ∈ lw_all := lw_g (lw_at lw_m7 84 rfl) rfl
theorem q1592 : (Jvm.Cond.methodLink "PendulumGym$Parser" (90 : Nat) ({ cls := "PendulumGym$Parser", name := "rubbing", desc := "()LPendulumGym$Modification;" } : Jvm.MethodName)) ∈ lw_all := lw_g (lw_at lw_m7 85 rfl) rfl
theorem q1593 : (Jvm.Cond.privateMethod ({ cls := "PendulumGym$Parser", name := "rubbing", desc := "()LPendulumGym$Modification;" } : Jvm.MethodName)) ∈ lw_tbl := lw_at lw_m7 86 rfl
theorem q1594 : (Jvm.Cond.instanceMethod ({ cls := "PendulumGym$Parser", name := "rubbing", desc := "()LPendulumGym$Modification;" } : Jvm.MethodName)) ∈ lw_all := lw_g (lw_at lw_m7 87 rfl) rfl
theorem q1595 : (Jvm.Cond.code ({ cls := "PendulumGym$Parser", name := "rubbing", desc := "()LPendulumGym$Modification;" } : Jvm.MethodName) prog_10_method_8_code (2 : Nat) (Option.some (Jvm.ClassFile.FieldType.object "PendulumGym$Modification"))) ∈ lw_all := lw_g (lw_at lw_m7 88 rfl) rfl
theorem q1596 : (Jvm.Cond.stringRef "PendulumGym$Parser" (71 : Nat) "friction ") ∈ lw_tbl := lw_at lw_m7 89 rfl
theorem q1597 : (Jvm.Cond.static ({ cls := "PendulumGym$Parser", name := "lambda$rubbing$4", desc := "(ILPendulumGym$Gym;)I" } : Jvm.MethodName)) ∈ lw_all := lw_g (lw_at lw_m7 90 rfl) rfl
theorem q1598 : (Jvm.Cond.code ({ cls := "PendulumGym$Parser", name := "lambda$rubbing$4", desc := "(ILPendulumGym$Gym;)I" } : Jvm.MethodName) prog_10_method_15_code (2 : Nat) (Option.some Jvm.ClassFile.FieldType.int)) ∈ lw_all := lw_g (lw_at lw_m7 91 rfl) rfl
theorem q1599 : (Jvm.Cond.methodLink "PendulumGym$Parser" (120 : Nat) ({ cls := "PendulumGym$Gym", name := "setFriction", desc := "(I)I" } : Jvm.MethodName)) ∈ lw_all := lw_g (lw_at lw_m7 92 rfl) rfl
theorem q1600 : (Jvm.Cond.methodLink "PendulumGym$Parser" (93 : Nat) ({ cls := "PendulumGym$Parser", name := "addingLeg", desc := "()LPendulumGym$Modification;" } : Jvm.MethodName)) ∈ lw_all := lw_g (lw_at lw_m7 93 rfl) rfl
theorem q1601 : (Jvm.Cond.privateMethod ({ cls := "PendulumGym$Parser", name := "addingLeg", desc := "()LPendulumGym$Modification;" } : Jvm.MethodName)) ∈ lw_tbl := lw_at lw_m7 94 rfl
theorem q1602 : (Jvm.Cond.instanceMethod ({ cls := "PendulumGym$Parser", name := "addingLeg", desc := "()LPendulumGym$Modification;" } : Jvm.MethodName)) ∈ lw_all := lw_g (lw_at lw_m7 95 rfl) rfl
theorem q1603 : (Jvm.Cond.code ({ cls := "PendulumGym$Parser", name := "addingLeg", desc := "()LPendulumGym$Modification;" } : Jvm.MethodName) prog_10_method_9_code (2 : Nat) (Option.some (Jvm.ClassFile.FieldType.object "PendulumGym$Modification"))) ∈ lw_all := lw_g (lw_at lw_m7 96 rfl) rfl
theorem q1604 : (Jvm.Cond.stringRef "PendulumGym$Parser" (74 : Nat) "leg ") ∈ lw_tbl := lw_at lw_m7 97 rfl
theorem q1605 : (Jvm.Cond.static ({ cls := "PendulumGym$Parser", name := "lambda$addingLeg$5", desc := "(ILPendulumGym$Gym;)I" } : Jvm.MethodName)) ∈ lw_all := lw_g (lw_at lw_m7 98 rfl) rfl
theorem q1606 : (Jvm.Cond.code ({ cls := "PendulumGym$Parser", name := "lambda$addingLeg$5", desc := "(ILPendulumGym$Gym;)I" } : Jvm.MethodName) prog_10_method_14_code (2 : Nat) (Option.some Jvm.ClassFile.FieldType.int)) ∈ lw_all := lw_g (lw_at lw_m7 99 rfl) rfl
theorem q1607 : (Jvm.Cond.methodLink "PendulumGym$Parser" (117 : Nat) ({ cls := "PendulumGym$Gym", name := "addLeg", desc := "(I)I" } : Jvm.MethodName)) ∈ lw_all := lw_g (lw_at lw_m7 100 rfl) rfl
theorem q1608 : (Jvm.Cond.methodLink "PendulumGym$Parser" (96 : Nat) ({ cls := "PendulumGym$Parser", name := "ticking", desc := "()LPendulumGym$Modification;" } : Jvm.MethodName)) ∈ lw_all := lw_g (lw_at lw_m7 101 rfl) rfl
theorem q1609 : (Jvm.Cond.privateMethod ({ cls := "PendulumGym$Parser", name := "ticking", desc := "()LPendulumGym$Modification;" } : Jvm.MethodName)) ∈ lw_tbl := lw_at lw_m7 102 rfl
theorem q1610 : (Jvm.Cond.instanceMethod ({ cls := "PendulumGym$Parser", name := "ticking", desc := "()LPendulumGym$Modification;" } : Jvm.MethodName)) ∈ lw_all := lw_g (lw_at lw_m7 103 rfl) rfl
theorem q1611 : (Jvm.Cond.code ({ cls := "PendulumGym$Parser", name := "ticking", desc := "()LPendulumGym$Modification;" } : Jvm.MethodName) prog_10_method_10_code (2 : Nat) (Option.some (Jvm.ClassFile.FieldType.object "PendulumGym$Modification"))) ∈ lw_all := lw_g (lw_at lw_m7 104 rfl) rfl
theorem q1612 : (Jvm.Cond.stringRef "PendulumGym$Parser" (77 : Nat) "tick ") ∈ lw_tbl := lw_at lw_m7 105 rfl
theorem q1613 : (Jvm.Cond.static ({ cls := "PendulumGym$Parser", name := "lambda$ticking$6", desc := "(ILPendulumGym$Gym;)I" } : Jvm.MethodName)) ∈ lw_all := lw_g (lw_at lw_m7 106 rfl) rfl
theorem q1614 : (Jvm.Cond.code ({ cls := "PendulumGym$Parser", name := "lambda$ticking$6", desc := "(ILPendulumGym$Gym;)I" } : Jvm.MethodName) prog_10_method_13_code (2 : Nat) (Option.some Jvm.ClassFile.FieldType.int)) ∈ lw_all := lw_g (lw_at lw_m7 107 rfl) rfl
theorem q1615 : (Jvm.Cond.methodLink "PendulumGym$Parser" (111 : Nat) ({ cls := "PendulumGym$Gym", name := "pass", desc := "(I)I" } : Jvm.MethodName)) ∈ lw_all := lw_g (lw_at lw_m7 108 rfl) rfl
theorem q1616 : (Jvm.Cond.methodLink "PendulumGym$Parser" (105 : Nat) ({ cls := "java/util/ArrayList", name := "add", desc := "(Ljava/lang/Object;)Z" } : Jvm.MethodName)) ∈ lw_all := lw_g (lw_at lw_m7 109 rfl) rfl
theorem q1617 : (Jvm.Cond.stringRef "PendulumGym$Parser" (109 : Nat) ";") ∈ lw_tbl := lw_at lw_m7 110 rfl
theorem q2144 : (Jvm.Cond.castable "PendulumGym$Parser" "java/lang/Object") ∈ lw_tbl := lw_at lw_m9 157 rfl
theorem in_X10 : ∀ w ∈ wsX100, w ∈ lw_all := lw_in wsX100 [1513, 1515] (by decide +kernel) (by decide +kernel)
/-! PendulumGym$SyntaxError -/
set_option maxRecDepth 100000
def RX11 : String := "PendulumGym$SyntaxError"
def TX11 : u_T := fun k => match k with
  | 0 => ("java/lang/Throwable", "cause", "Ljava/lang/Throwable;", false)
  | 1 => ("java/lang/Throwable", "stackTrace", "[Ljava/lang/StackTraceElement;", false)
  | 2 => ("java/lang/Throwable", "suppressedExceptions", "Ljava/util/List;", false)
  | 3 => ("java/lang/Throwable", "detailMessage", "Ljava/lang/String;", false)
  | 4 => ("java/lang/Throwable", "backtrace", "Ljava/lang/Object;", false)
  | 5 => ("java/lang/Throwable", "depth", "I", false)
  | _ => ("PendulumGym$SyntaxError", "position", "I", true)
def tyX11 : Nat → FieldType := fun k => match k with
  | 0 => .object "java/lang/Throwable"
  | 1 => .array (.object "java/lang/StackTraceElement")
  | 2 => .object "java/util/List"
  | 3 => .object "java/lang/String"
  | 4 => .object "java/lang/Object"
  | 5 => .int
  | _ => .int
abbrev wsX110 : List Cond := u_ws RX11 TX11 7
theorem nmX11 : ∀ a, a < 7 → ∀ b, b < 7 → a ≠ b → (TX11 a).2.1 ≠ (TX11 b).2.1 := by decide +kernel
theorem tyX11_ok : ∀ k, k < 7 → parseFieldDescriptor (TX11 k).2.2.1 = some (tyX11 k) := by decide +kernel
abbrev cX11_init : ByteArray := prog_17_method_1_code
def yX11_init : MethodName := ⟨RX11, "<init>", "(I)V"⟩
def dkwX11_init_0 : List UInt8 := [42, 183, 0, 1, 42, 27, 181, 0, 7, 177]
abbrev dktX11_init_0 : List UInt8 := dkwX11_init_0 ++ []
theorem dksX11_init_0 : cX11_init.data.toList.drop 0 = dktX11_init_0 := by decide +kernel
theorem dX11_init_0 : decode cX11_init 0 = .ok (.aload_n 0, 1) := dk_42 (dk_at dksX11_init_0 0 rfl rfl)
theorem dX11_init_1 : decode cX11_init 1 = .ok (.invokespecial 1, 3) := dk_183 0 1 (dk_at dksX11_init_0 1 rfl rfl)
theorem dX11_init_4 : decode cX11_init 4 = .ok (.aload_n 0, 1) := dk_42 (dk_at dksX11_init_0 4 rfl rfl)
theorem dX11_init_5 : decode cX11_init 5 = .ok (.iload_n 1, 1) := dk_27 (dk_at dksX11_init_0 5 rfl rfl)
theorem dX11_init_6 : decode cX11_init 6 = .ok (.putfield 7, 3) := dk_181 0 7 (dk_at dksX11_init_0 6 rfl rfl)
theorem dX11_init_9 : decode cX11_init 9 = .ok (.return_, 1) := dk_177 (dk_at dksX11_init_0 9 rfl rfl)
theorem q107 : (Jvm.Cond.initialized "PendulumGym$SyntaxError") ∈ lw_all := lw_g (lw_at lw_m1 40 rfl) rfl
theorem q316 : (Jvm.Cond.selects "PendulumGym$SyntaxError" ({ cls := "java/lang/Throwable", name := "fillInStackTrace", desc := "()Ljava/lang/Throwable;" } : Jvm.MethodName) ({ cls := "java/lang/Throwable", name := "fillInStackTrace", desc := "()Ljava/lang/Throwable;" } : Jvm.MethodName)) ∈ lw_all := lw_g (lw_at lw_m2 9 rfl) rfl
theorem q479 : (Jvm.Cond.selects "PendulumGym$SyntaxError" ({ cls := "java/lang/Object", name := "getClass", desc := "()Ljava/lang/Class;" } : Jvm.MethodName) ({ cls := "java/lang/Object", name := "getClass", desc := "()Ljava/lang/Class;" } : Jvm.MethodName)) ∈ lw_all := lw_g (lw_at lw_m2 172 rfl) rfl
theorem q1548 : (Jvm.Cond.instantiable "PendulumGym$SyntaxError" (7 : Nat)) ∈ lw_all := lw_g (lw_at lw_m7 41 rfl) rfl
theorem q1549 : (Jvm.Cond.castable "PendulumGym$SyntaxError" "PendulumGym$SyntaxError") ∈ lw_tbl := lw_at lw_m7 42 rfl
theorem q1550 : (Jvm.Cond.selects "PendulumGym$SyntaxError" ({ cls := "java/lang/Throwable", name := "fillInStackTrace", desc := "(I)Ljava/lang/Throwable;" } : Jvm.MethodName) ({ cls := "java/lang/Throwable", name := "fillInStackTrace", desc := "(I)Ljava/lang/Throwable;" } : Jvm.MethodName)) ∈ lw_all := lw_g (lw_at lw_m7 43 rfl) rfl
theorem q1551 : (Jvm.Cond.lays "PendulumGym$SyntaxError" "java/lang/Throwable" "cause" "Ljava/lang/Throwable;") ∈ lw_all := lw_g (lw_at lw_m7 44 rfl) rfl
theorem q1552 : (Jvm.Cond.lays "PendulumGym$SyntaxError" "java/lang/Throwable" "stackTrace" "[Ljava/lang/StackTraceElement;") ∈ lw_all := lw_g (lw_at lw_m7 45 rfl) rfl
theorem q1553 : (Jvm.Cond.lays "PendulumGym$SyntaxError" "java/lang/Throwable" "suppressedExceptions" "Ljava/util/List;") ∈ lw_all := lw_g (lw_at lw_m7 46 rfl) rfl
theorem q1554 : (Jvm.Cond.lays "PendulumGym$SyntaxError" "java/lang/Throwable" "detailMessage" "Ljava/lang/String;") ∈ lw_all := lw_g (lw_at lw_m7 47 rfl) rfl
theorem q1555 : (Jvm.Cond.lays "PendulumGym$SyntaxError" "java/lang/Throwable" "backtrace" "Ljava/lang/Object;") ∈ lw_all := lw_g (lw_at lw_m7 48 rfl) rfl
theorem q1557 : (Jvm.Cond.instanceMethod ({ cls := "PendulumGym$SyntaxError", name := "<init>", desc := "(I)V" } : Jvm.MethodName)) ∈ lw_all := lw_g (lw_at lw_m7 50 rfl) rfl
theorem q1558 : (Jvm.Cond.code ({ cls := "PendulumGym$SyntaxError", name := "<init>", desc := "(I)V" } : Jvm.MethodName) prog_17_method_1_code (2 : Nat) (Option.none : Option Jvm.ClassFile.FieldType)) ∈ lw_all := lw_g (lw_at lw_m7 51 rfl) rfl
theorem q1559 : (Jvm.Cond.methodLink "PendulumGym$SyntaxError" (1 : Nat) ({ cls := "java/lang/Exception", name := "<init>", desc := "()V" } : Jvm.MethodName)) ∈ lw_all := lw_g (lw_at lw_m7 52 rfl) rfl
theorem q1560 : (Jvm.Cond.fieldLink "PendulumGym$SyntaxError" (7 : Nat) "PendulumGym$SyntaxError" "position" "I") ∈ lw_all := lw_g (lw_at lw_m7 53 rfl) rfl
theorem q1562 : (Jvm.Cond.laysFinal "PendulumGym$SyntaxError" "PendulumGym$SyntaxError" "position" "I") ∈ lw_all := lw_g (lw_at lw_m7 55 rfl) rfl
theorem q1563 : (Jvm.Cond.soleField "PendulumGym$SyntaxError" "position") ∈ lw_all := lw_g (lw_at lw_m7 56 rfl) rfl
theorem q1564 : (Jvm.Cond.lays "PendulumGym$SyntaxError" "java/lang/Throwable" "depth" "I") ∈ lw_all := lw_g (lw_at lw_m7 57 rfl) rfl
theorem q1565 : (Jvm.Cond.superclass "PendulumGym$SyntaxError" "java/lang/Exception") ∈ lw_all := lw_g (lw_at lw_m7 58 rfl) rfl
theorem q2145 : (Jvm.Cond.castable "PendulumGym$SyntaxError" "java/lang/Object") ∈ lw_tbl := lw_at lw_m9 158 rfl
theorem in_X11 : ∀ w ∈ wsX110, w ∈ lw_all := lw_in wsX110 [1551, 1552, 1553, 1554, 1555, 1564, 1562] (by decide +kernel) (by decide +kernel)
/-! PendulumGym$Kind$1 -/
set_option maxRecDepth 100000
def RX12 : String := "PendulumGym$Kind$1"
abbrev cX12_contains : ByteArray := prog_4_method_2_code
def yX12_contains : MethodName := ⟨RX12, "contains", "(I)Z"⟩
def dkwX12_contains_0 : List UInt8 := [27, 16, 30, 162, 0, 7, 4, 167, 0, 4, 3, 172]
abbrev dktX12_contains_0 : List UInt8 := dkwX12_contains_0 ++ []
theorem dksX12_contains_0 : cX12_contains.data.toList.drop 0 = dktX12_contains_0 := by decide +kernel
theorem dX12_contains_0 : decode cX12_contains 0 = .ok (.iload_n 1, 1) := dk_27 (dk_at dksX12_contains_0 0 rfl rfl)
theorem dX12_contains_1 : decode cX12_contains 1 = .ok (.bipush 30, 2) := dk_16 30 (dk_at dksX12_contains_0 1 rfl rfl)
theorem dX12_contains_3 : decode cX12_contains 3 = .ok (.if_icmp .ge 7, 3) := dk_162 0 7 (dk_at dksX12_contains_0 3 rfl rfl)
theorem dX12_contains_6 : decode cX12_contains 6 = .ok (.iconst 1, 1) := dk_4 (dk_at dksX12_contains_0 6 rfl rfl)
theorem dX12_contains_7 : decode cX12_contains 7 = .ok (.goto 4, 3) := dk_167 0 4 (dk_at dksX12_contains_0 7 rfl rfl)
theorem dX12_contains_10 : decode cX12_contains 10 = .ok (.iconst 0, 1) := dk_3 (dk_at dksX12_contains_0 10 rfl rfl)
theorem dX12_contains_11 : decode cX12_contains 11 = .ok (.ireturn, 1) := dk_172 (dk_at dksX12_contains_0 11 rfl rfl)
theorem q470 : (Jvm.Cond.selects "PendulumGym$Kind$1" ({ cls := "java/lang/Object", name := "getClass", desc := "()Ljava/lang/Class;" } : Jvm.MethodName) ({ cls := "java/lang/Object", name := "getClass", desc := "()Ljava/lang/Class;" } : Jvm.MethodName)) ∈ lw_all := lw_g (lw_at lw_m2 163 rfl) rfl
theorem q694 : (Jvm.Cond.selects "PendulumGym$Kind$1" ({ cls := "PendulumGym$Kind", name := "contains", desc := "(I)Z" } : Jvm.MethodName) ({ cls := "PendulumGym$Kind$1", name := "contains", desc := "(I)Z" } : Jvm.MethodName)) ∈ lw_all := lw_g (lw_at lw_m3 147 rfl) rfl
theorem q695 : (Jvm.Cond.instanceMethod ({ cls := "PendulumGym$Kind$1", name := "contains", desc := "(I)Z" } : Jvm.MethodName)) ∈ lw_all := lw_g (lw_at lw_m3 148 rfl) rfl
theorem q696 : (Jvm.Cond.code ({ cls := "PendulumGym$Kind$1", name := "contains", desc := "(I)Z" } : Jvm.MethodName) prog_4_method_2_code (2 : Nat) (Option.some Jvm.ClassFile.FieldType.boolean)) ∈ lw_all := lw_g (lw_at lw_m3 149 rfl) rfl
theorem q710 : (Jvm.Cond.selects "PendulumGym$Kind$1" ({ cls := "PendulumGym$Kind", name := "ordinal", desc := "()I" } : Jvm.MethodName) ({ cls := "java/lang/Enum", name := "ordinal", desc := "()I" } : Jvm.MethodName)) ∈ lw_all := lw_g (lw_at lw_m3 163 rfl) rfl
theorem q2134 : (Jvm.Cond.castable "PendulumGym$Kind$1" "java/lang/Object") ∈ lw_tbl := lw_at lw_m9 147 rfl
/-! PendulumGym$Kind$2 -/
set_option maxRecDepth 100000
def RX13 : String := "PendulumGym$Kind$2"
abbrev cX13_contains : ByteArray := prog_5_method_2_code
def yX13_contains : MethodName := ⟨RX13, "contains", "(I)Z"⟩
def dkwX13_contains_0 : List UInt8 := [27, 16, 30, 161, 0, 13, 27, 16, 60, 162, 0, 7, 4, 167, 0, 4, 3, 172]
abbrev dktX13_contains_0 : List UInt8 := dkwX13_contains_0 ++ []
theorem dksX13_contains_0 : cX13_contains.data.toList.drop 0 = dktX13_contains_0 := by decide +kernel
theorem dX13_contains_0 : decode cX13_contains 0 = .ok (.iload_n 1, 1) := dk_27 (dk_at dksX13_contains_0 0 rfl rfl)
theorem dX13_contains_1 : decode cX13_contains 1 = .ok (.bipush 30, 2) := dk_16 30 (dk_at dksX13_contains_0 1 rfl rfl)
theorem dX13_contains_3 : decode cX13_contains 3 = .ok (.if_icmp .lt 13, 3) := dk_161 0 13 (dk_at dksX13_contains_0 3 rfl rfl)
theorem dX13_contains_6 : decode cX13_contains 6 = .ok (.iload_n 1, 1) := dk_27 (dk_at dksX13_contains_0 6 rfl rfl)
theorem dX13_contains_7 : decode cX13_contains 7 = .ok (.bipush 60, 2) := dk_16 60 (dk_at dksX13_contains_0 7 rfl rfl)
theorem dX13_contains_9 : decode cX13_contains 9 = .ok (.if_icmp .ge 7, 3) := dk_162 0 7 (dk_at dksX13_contains_0 9 rfl rfl)
theorem dX13_contains_12 : decode cX13_contains 12 = .ok (.iconst 1, 1) := dk_4 (dk_at dksX13_contains_0 12 rfl rfl)
theorem dX13_contains_13 : decode cX13_contains 13 = .ok (.goto 4, 3) := dk_167 0 4 (dk_at dksX13_contains_0 13 rfl rfl)
theorem dX13_contains_16 : decode cX13_contains 16 = .ok (.iconst 0, 1) := dk_3 (dk_at dksX13_contains_0 16 rfl rfl)
theorem dX13_contains_17 : decode cX13_contains 17 = .ok (.ireturn, 1) := dk_172 (dk_at dksX13_contains_0 17 rfl rfl)
theorem q471 : (Jvm.Cond.selects "PendulumGym$Kind$2" ({ cls := "java/lang/Object", name := "getClass", desc := "()Ljava/lang/Class;" } : Jvm.MethodName) ({ cls := "java/lang/Object", name := "getClass", desc := "()Ljava/lang/Class;" } : Jvm.MethodName)) ∈ lw_all := lw_g (lw_at lw_m2 164 rfl) rfl
theorem q697 : (Jvm.Cond.selects "PendulumGym$Kind$2" ({ cls := "PendulumGym$Kind", name := "contains", desc := "(I)Z" } : Jvm.MethodName) ({ cls := "PendulumGym$Kind$2", name := "contains", desc := "(I)Z" } : Jvm.MethodName)) ∈ lw_all := lw_g (lw_at lw_m3 150 rfl) rfl
theorem q698 : (Jvm.Cond.instanceMethod ({ cls := "PendulumGym$Kind$2", name := "contains", desc := "(I)Z" } : Jvm.MethodName)) ∈ lw_all := lw_g (lw_at lw_m3 151 rfl) rfl
theorem q699 : (Jvm.Cond.code ({ cls := "PendulumGym$Kind$2", name := "contains", desc := "(I)Z" } : Jvm.MethodName) prog_5_method_2_code (2 : Nat) (Option.some Jvm.ClassFile.FieldType.boolean)) ∈ lw_all := lw_g (lw_at lw_m3 152 rfl) rfl
theorem q711 : (Jvm.Cond.selects "PendulumGym$Kind$2" ({ cls := "PendulumGym$Kind", name := "ordinal", desc := "()I" } : Jvm.MethodName) ({ cls := "java/lang/Enum", name := "ordinal", desc := "()I" } : Jvm.MethodName)) ∈ lw_all := lw_g (lw_at lw_m3 164 rfl) rfl
theorem q2135 : (Jvm.Cond.castable "PendulumGym$Kind$2" "java/lang/Object") ∈ lw_tbl := lw_at lw_m9 148 rfl
/-! PendulumGym$Kind$3 -/
set_option maxRecDepth 100000
def RX14 : String := "PendulumGym$Kind$3"
abbrev cX14_contains : ByteArray := prog_6_method_2_code
def yX14_contains : MethodName := ⟨RX14, "contains", "(I)Z"⟩
def dkwX14_contains_0 : List UInt8 := [27, 16, 60, 161, 0, 7, 4, 167, 0, 4, 3, 172]
abbrev dktX14_contains_0 : List UInt8 := dkwX14_contains_0 ++ []
theorem dksX14_contains_0 : cX14_contains.data.toList.drop 0 = dktX14_contains_0 := by decide +kernel
theorem dX14_contains_0 : decode cX14_contains 0 = .ok (.iload_n 1, 1) := dk_27 (dk_at dksX14_contains_0 0 rfl rfl)
theorem dX14_contains_1 : decode cX14_contains 1 = .ok (.bipush 60, 2) := dk_16 60 (dk_at dksX14_contains_0 1 rfl rfl)
theorem dX14_contains_3 : decode cX14_contains 3 = .ok (.if_icmp .lt 7, 3) := dk_161 0 7 (dk_at dksX14_contains_0 3 rfl rfl)
theorem dX14_contains_6 : decode cX14_contains 6 = .ok (.iconst 1, 1) := dk_4 (dk_at dksX14_contains_0 6 rfl rfl)
theorem dX14_contains_7 : decode cX14_contains 7 = .ok (.goto 4, 3) := dk_167 0 4 (dk_at dksX14_contains_0 7 rfl rfl)
theorem dX14_contains_10 : decode cX14_contains 10 = .ok (.iconst 0, 1) := dk_3 (dk_at dksX14_contains_0 10 rfl rfl)
theorem dX14_contains_11 : decode cX14_contains 11 = .ok (.ireturn, 1) := dk_172 (dk_at dksX14_contains_0 11 rfl rfl)
theorem q472 : (Jvm.Cond.selects "PendulumGym$Kind$3" ({ cls := "java/lang/Object", name := "getClass", desc := "()Ljava/lang/Class;" } : Jvm.MethodName) ({ cls := "java/lang/Object", name := "getClass", desc := "()Ljava/lang/Class;" } : Jvm.MethodName)) ∈ lw_all := lw_g (lw_at lw_m2 165 rfl) rfl
theorem q700 : (Jvm.Cond.selects "PendulumGym$Kind$3" ({ cls := "PendulumGym$Kind", name := "contains", desc := "(I)Z" } : Jvm.MethodName) ({ cls := "PendulumGym$Kind$3", name := "contains", desc := "(I)Z" } : Jvm.MethodName)) ∈ lw_all := lw_g (lw_at lw_m3 153 rfl) rfl
theorem q701 : (Jvm.Cond.instanceMethod ({ cls := "PendulumGym$Kind$3", name := "contains", desc := "(I)Z" } : Jvm.MethodName)) ∈ lw_all := lw_g (lw_at lw_m3 154 rfl) rfl
theorem q702 : (Jvm.Cond.code ({ cls := "PendulumGym$Kind$3", name := "contains", desc := "(I)Z" } : Jvm.MethodName) prog_6_method_2_code (2 : Nat) (Option.some Jvm.ClassFile.FieldType.boolean)) ∈ lw_all := lw_g (lw_at lw_m3 155 rfl) rfl
theorem q712 : (Jvm.Cond.selects "PendulumGym$Kind$3" ({ cls := "PendulumGym$Kind", name := "ordinal", desc := "()I" } : Jvm.MethodName) ({ cls := "java/lang/Enum", name := "ordinal", desc := "()I" } : Jvm.MethodName)) ∈ lw_all := lw_g (lw_at lw_m3 165 rfl) rfl
theorem q2136 : (Jvm.Cond.castable "PendulumGym$Kind$3" "java/lang/Object") ∈ lw_tbl := lw_at lw_m9 149 rfl
