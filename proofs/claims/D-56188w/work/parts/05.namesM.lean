/-! PendulumGymModel -/
set_option maxRecDepth 100000
def RX3 : String := "PendulumGymModel"
def TX3 : u_T := fun k => match k with
  | 0 => ("PendulumGymModel", "g", "[I", true)
  | 1 => ("PendulumGymModel", "before", "[I", true)
  | 2 => ("PendulumGymModel", "history", "[I", true)
  | 3 => ("PendulumGymModel", "changes", "I", false)
  | 4 => ("PendulumGymModel", "savedState", "[I", true)
  | 5 => ("PendulumGymModel", "hasSaved", "Z", false)
  | 6 => ("PendulumGymModel", "buffer", "[C", true)
  | 7 => ("PendulumGymModel", "typed", "I", false)
  | 8 => ("PendulumGymModel", "errorAt", "I", false)
  | 9 => ("PendulumGymModel", "failedAt", "I", false)
  | 10 => ("PendulumGymModel", "letters", "[C", true)
  | 11 => ("PendulumGymModel", "cardLength", "I", false)
  | 12 => ("PendulumGymModel", "thrown", "I", false)
  | 13 => ("PendulumGymModel", "least", "[I", true)
  | 14 => ("PendulumGymModel", "spot", "I", false)
  | 15 => ("PendulumGymModel", "isWrong", "Z", false)
  | _ => ("PendulumGymModel", "parsed", "[I", true)
def tyX3 : Nat → FieldType := fun k => match k with
  | 0 => .array .int
  | 1 => .array .int
  | 2 => .array .int
  | 3 => .int
  | 4 => .array .int
  | 5 => .boolean
  | 6 => .array .char
  | 7 => .int
  | 8 => .int
  | 9 => .int
  | 10 => .array .char
  | 11 => .int
  | 12 => .int
  | 13 => .array .int
  | 14 => .int
  | 15 => .boolean
  | _ => .array .int
abbrev wsX30 : List Cond := u_ws RX3 TX3 17
set_option maxRecDepth 100000 in
theorem nmX3 : ∀ a, a < 17 → ∀ b, b < 17 → a ≠ b → (TX3 a).2.1 ≠ (TX3 b).2.1 := by decide +kernel
set_option maxRecDepth 100000 in
theorem tyX3_ok : ∀ k, k < 17 → parseFieldDescriptor (TX3 k).2.2.1 = some (tyX3 k) := by decide +kernel
abbrev cX3_init : ByteArray := prog_19_method_1_code
def yX3_init : MethodName := ⟨RX3, "<init>", "()V"⟩
def dkwX3_init_3 : List UInt8 := [181, 0, 36, 42, 17, 0, 180, 188, 10, 181, 0, 39, 42, 180, 0, 7, 4, 8, 79, 177]
abbrev dktX3_init_3 : List UInt8 := dkwX3_init_3 ++ []
def dkwX3_init_2 : List UInt8 := [181, 0, 26, 42, 2, 181, 0, 30, 42, 16, 60, 188, 5, 181, 0, 33, 42, 17, 1, 0, 188, 10]
abbrev dktX3_init_2 : List UInt8 := dkwX3_init_2 ++ dktX3_init_3
def dkwX3_init_1 : List UInt8 := [188, 10, 181, 0, 16, 42, 16, 48, 188, 10, 181, 0, 19, 42, 16, 60, 188, 5, 181, 0, 22, 42, 2]
abbrev dktX3_init_1 : List UInt8 := dkwX3_init_1 ++ dktX3_init_2
def dkwX3_init_0 : List UInt8 := [42, 183, 0, 1, 42, 16, 48, 188, 10, 181, 0, 7, 42, 16, 48, 188, 10, 181, 0, 13, 42, 17, 1, 128]
abbrev dktX3_init_0 : List UInt8 := dkwX3_init_0 ++ dktX3_init_1
theorem dksX3_init_0 : cX3_init.data.toList.drop 0 = dktX3_init_0 := by decide +kernel
theorem dksX3_init_1 : cX3_init.data.toList.drop 24 = dktX3_init_1 := dk_seg dksX3_init_0 24 rfl rfl
theorem dksX3_init_2 : cX3_init.data.toList.drop 47 = dktX3_init_2 := dk_seg dksX3_init_1 23 rfl rfl
theorem dksX3_init_3 : cX3_init.data.toList.drop 69 = dktX3_init_3 := dk_seg dksX3_init_2 22 rfl rfl
theorem dX3_init_0 : decode cX3_init 0 = .ok (.aload_n 0, 1) := dk_42 (dk_at dksX3_init_0 0 rfl rfl)
theorem dX3_init_1 : decode cX3_init 1 = .ok (.invokespecial 1, 3) := dk_183 0 1 (dk_at dksX3_init_0 1 rfl rfl)
theorem dX3_init_4 : decode cX3_init 4 = .ok (.aload_n 0, 1) := dk_42 (dk_at dksX3_init_0 4 rfl rfl)
theorem dX3_init_5 : decode cX3_init 5 = .ok (.bipush 48, 2) := dk_16 48 (dk_at dksX3_init_0 5 rfl rfl)
theorem dX3_init_7 : decode cX3_init 7 = .ok (.newarray .int, 2) := dk_188_10 (dk_at dksX3_init_0 7 rfl rfl)
theorem dX3_init_9 : decode cX3_init 9 = .ok (.putfield 7, 3) := dk_181 0 7 (dk_at dksX3_init_0 9 rfl rfl)
theorem dX3_init_12 : decode cX3_init 12 = .ok (.aload_n 0, 1) := dk_42 (dk_at dksX3_init_0 12 rfl rfl)
theorem dX3_init_13 : decode cX3_init 13 = .ok (.bipush 48, 2) := dk_16 48 (dk_at dksX3_init_0 13 rfl rfl)
theorem dX3_init_15 : decode cX3_init 15 = .ok (.newarray .int, 2) := dk_188_10 (dk_at dksX3_init_0 15 rfl rfl)
theorem dX3_init_17 : decode cX3_init 17 = .ok (.putfield 13, 3) := dk_181 0 13 (dk_at dksX3_init_0 17 rfl rfl)
theorem dX3_init_20 : decode cX3_init 20 = .ok (.aload_n 0, 1) := dk_42 (dk_at dksX3_init_0 20 rfl rfl)
theorem dX3_init_21 : decode cX3_init 21 = .ok (.sipush 384, 3) := dk_17 1 128 (dk_at dksX3_init_0 21 rfl rfl)
theorem dX3_init_24 : decode cX3_init 24 = .ok (.newarray .int, 2) := dk_188_10 (dk_at dksX3_init_1 0 rfl rfl)
theorem dX3_init_26 : decode cX3_init 26 = .ok (.putfield 16, 3) := dk_181 0 16 (dk_at dksX3_init_1 2 rfl rfl)
theorem dX3_init_29 : decode cX3_init 29 = .ok (.aload_n 0, 1) := dk_42 (dk_at dksX3_init_1 5 rfl rfl)
theorem dX3_init_30 : decode cX3_init 30 = .ok (.bipush 48, 2) := dk_16 48 (dk_at dksX3_init_1 6 rfl rfl)
theorem dX3_init_32 : decode cX3_init 32 = .ok (.newarray .int, 2) := dk_188_10 (dk_at dksX3_init_1 8 rfl rfl)
theorem dX3_init_34 : decode cX3_init 34 = .ok (.putfield 19, 3) := dk_181 0 19 (dk_at dksX3_init_1 10 rfl rfl)
theorem dX3_init_37 : decode cX3_init 37 = .ok (.aload_n 0, 1) := dk_42 (dk_at dksX3_init_1 13 rfl rfl)
theorem dX3_init_38 : decode cX3_init 38 = .ok (.bipush 60, 2) := dk_16 60 (dk_at dksX3_init_1 14 rfl rfl)
theorem dX3_init_40 : decode cX3_init 40 = .ok (.newarray .char, 2) := dk_188_5 (dk_at dksX3_init_1 16 rfl rfl)
theorem dX3_init_42 : decode cX3_init 42 = .ok (.putfield 22, 3) := dk_181 0 22 (dk_at dksX3_init_1 18 rfl rfl)
theorem dX3_init_45 : decode cX3_init 45 = .ok (.aload_n 0, 1) := dk_42 (dk_at dksX3_init_1 21 rfl rfl)
theorem dX3_init_46 : decode cX3_init 46 = .ok (.iconst (-1), 1) := dk_2 (dk_at dksX3_init_1 22 rfl rfl)
theorem dX3_init_47 : decode cX3_init 47 = .ok (.putfield 26, 3) := dk_181 0 26 (dk_at dksX3_init_2 0 rfl rfl)
theorem dX3_init_50 : decode cX3_init 50 = .ok (.aload_n 0, 1) := dk_42 (dk_at dksX3_init_2 3 rfl rfl)
theorem dX3_init_51 : decode cX3_init 51 = .ok (.iconst (-1), 1) := dk_2 (dk_at dksX3_init_2 4 rfl rfl)
theorem dX3_init_52 : decode cX3_init 52 = .ok (.putfield 30, 3) := dk_181 0 30 (dk_at dksX3_init_2 5 rfl rfl)
theorem dX3_init_55 : decode cX3_init 55 = .ok (.aload_n 0, 1) := dk_42 (dk_at dksX3_init_2 8 rfl rfl)
theorem dX3_init_56 : decode cX3_init 56 = .ok (.bipush 60, 2) := dk_16 60 (dk_at dksX3_init_2 9 rfl rfl)
theorem dX3_init_58 : decode cX3_init 58 = .ok (.newarray .char, 2) := dk_188_5 (dk_at dksX3_init_2 11 rfl rfl)
theorem dX3_init_60 : decode cX3_init 60 = .ok (.putfield 33, 3) := dk_181 0 33 (dk_at dksX3_init_2 13 rfl rfl)
theorem dX3_init_63 : decode cX3_init 63 = .ok (.aload_n 0, 1) := dk_42 (dk_at dksX3_init_2 16 rfl rfl)
theorem dX3_init_64 : decode cX3_init 64 = .ok (.sipush 256, 3) := dk_17 1 0 (dk_at dksX3_init_2 17 rfl rfl)
theorem dX3_init_67 : decode cX3_init 67 = .ok (.newarray .int, 2) := dk_188_10 (dk_at dksX3_init_2 20 rfl rfl)
theorem dX3_init_69 : decode cX3_init 69 = .ok (.putfield 36, 3) := dk_181 0 36 (dk_at dksX3_init_3 0 rfl rfl)
theorem dX3_init_72 : decode cX3_init 72 = .ok (.aload_n 0, 1) := dk_42 (dk_at dksX3_init_3 3 rfl rfl)
theorem dX3_init_73 : decode cX3_init 73 = .ok (.sipush 180, 3) := dk_17 0 180 (dk_at dksX3_init_3 4 rfl rfl)
theorem dX3_init_76 : decode cX3_init 76 = .ok (.newarray .int, 2) := dk_188_10 (dk_at dksX3_init_3 7 rfl rfl)
theorem dX3_init_78 : decode cX3_init 78 = .ok (.putfield 39, 3) := dk_181 0 39 (dk_at dksX3_init_3 9 rfl rfl)
theorem dX3_init_81 : decode cX3_init 81 = .ok (.aload_n 0, 1) := dk_42 (dk_at dksX3_init_3 12 rfl rfl)
theorem dX3_init_82 : decode cX3_init 82 = .ok (.getfield 7, 3) := dk_180 0 7 (dk_at dksX3_init_3 13 rfl rfl)
theorem dX3_init_85 : decode cX3_init 85 = .ok (.iconst 1, 1) := dk_4 (dk_at dksX3_init_3 16 rfl rfl)
theorem dX3_init_86 : decode cX3_init 86 = .ok (.iconst 5, 1) := dk_8 (dk_at dksX3_init_3 17 rfl rfl)
theorem dX3_init_87 : decode cX3_init 87 = .ok (.iastore, 1) := dk_79 (dk_at dksX3_init_3 18 rfl rfl)
theorem dX3_init_88 : decode cX3_init 88 = .ok (.return_, 1) := dk_177 (dk_at dksX3_init_3 19 rfl rfl)
abbrev cX3_thrown : ByteArray := prog_19_method_2_code
def yX3_thrown : MethodName := ⟨RX3, "thrown", "()I"⟩
theorem dX3_thrown_0 : decode cX3_thrown 0 = .ok (.aload_n 0, 1) := by decide +kernel
theorem dX3_thrown_1 : decode cX3_thrown 1 = .ok (.getfield 42, 3) := by decide +kernel
theorem dX3_thrown_4 : decode cX3_thrown 4 = .ok (.ireturn, 1) := by decide +kernel
abbrev cX3_addPendulum : ByteArray := prog_19_method_17_code
def yX3_addPendulum : MethodName := ⟨RX3, "addPendulum", "(I)I"⟩
def dkwX3_addPendulum_0 : List UInt8 := [42, 182, 0, 63, 42, 42, 27, 182, 0, 66, 182, 0, 69, 172]
abbrev dktX3_addPendulum_0 : List UInt8 := dkwX3_addPendulum_0 ++ []
theorem dksX3_addPendulum_0 : cX3_addPendulum.data.toList.drop 0 = dktX3_addPendulum_0 := by decide +kernel
theorem dX3_addPendulum_0 : decode cX3_addPendulum 0 = .ok (.aload_n 0, 1) := dk_42 (dk_at dksX3_addPendulum_0 0 rfl rfl)
theorem dX3_addPendulum_1 : decode cX3_addPendulum 1 = .ok (.invokevirtual 63, 3) := dk_182 0 63 (dk_at dksX3_addPendulum_0 1 rfl rfl)
theorem dX3_addPendulum_4 : decode cX3_addPendulum 4 = .ok (.aload_n 0, 1) := dk_42 (dk_at dksX3_addPendulum_0 4 rfl rfl)
theorem dX3_addPendulum_5 : decode cX3_addPendulum 5 = .ok (.aload_n 0, 1) := dk_42 (dk_at dksX3_addPendulum_0 5 rfl rfl)
theorem dX3_addPendulum_6 : decode cX3_addPendulum 6 = .ok (.iload_n 1, 1) := dk_27 (dk_at dksX3_addPendulum_0 6 rfl rfl)
theorem dX3_addPendulum_7 : decode cX3_addPendulum 7 = .ok (.invokevirtual 66, 3) := dk_182 0 66 (dk_at dksX3_addPendulum_0 7 rfl rfl)
theorem dX3_addPendulum_10 : decode cX3_addPendulum 10 = .ok (.invokevirtual 69, 3) := dk_182 0 69 (dk_at dksX3_addPendulum_0 10 rfl rfl)
theorem dX3_addPendulum_13 : decode cX3_addPendulum 13 = .ok (.ireturn, 1) := dk_172 (dk_at dksX3_addPendulum_0 13 rfl rfl)
abbrev cX3_begin : ByteArray := prog_19_method_8_code
def yX3_begin : MethodName := ⟨RX3, "begin", "()V"⟩
def dkwX3_begin_0 : List UInt8 := [42, 180, 0, 7, 3, 42, 180, 0, 13, 3, 184, 0, 45, 177]
abbrev dktX3_begin_0 : List UInt8 := dkwX3_begin_0 ++ []
theorem dksX3_begin_0 : cX3_begin.data.toList.drop 0 = dktX3_begin_0 := by decide +kernel
theorem dX3_begin_0 : decode cX3_begin 0 = .ok (.aload_n 0, 1) := dk_42 (dk_at dksX3_begin_0 0 rfl rfl)
theorem dX3_begin_1 : decode cX3_begin 1 = .ok (.getfield 7, 3) := dk_180 0 7 (dk_at dksX3_begin_0 1 rfl rfl)
theorem dX3_begin_4 : decode cX3_begin 4 = .ok (.iconst 0, 1) := dk_3 (dk_at dksX3_begin_0 4 rfl rfl)
theorem dX3_begin_5 : decode cX3_begin 5 = .ok (.aload_n 0, 1) := dk_42 (dk_at dksX3_begin_0 5 rfl rfl)
theorem dX3_begin_6 : decode cX3_begin 6 = .ok (.getfield 13, 3) := dk_180 0 13 (dk_at dksX3_begin_0 6 rfl rfl)
theorem dX3_begin_9 : decode cX3_begin 9 = .ok (.iconst 0, 1) := dk_3 (dk_at dksX3_begin_0 9 rfl rfl)
theorem dX3_begin_10 : decode cX3_begin 10 = .ok (.invokestatic 45, 3) := dk_184 0 45 (dk_at dksX3_begin_0 10 rfl rfl)
theorem dX3_begin_13 : decode cX3_begin 13 = .ok (.return_, 1) := dk_177 (dk_at dksX3_begin_0 13 rfl rfl)
abbrev cX3_copy : ByteArray := prog_19_method_7_code
def yX3_copy : MethodName := ⟨RX3, "copy", "([II[II)V"⟩
def dkwX3_copy_1 : List UInt8 := [132, 4, 1, 167, 255, 234, 177]
abbrev dktX3_copy_1 : List UInt8 := dkwX3_copy_1 ++ []
def dkwX3_copy_0 : List UInt8 := [3, 54, 4, 21, 4, 16, 48, 162, 0, 21, 44, 29, 21, 4, 96, 42, 27, 21, 4, 96, 46, 79]
abbrev dktX3_copy_0 : List UInt8 := dkwX3_copy_0 ++ dktX3_copy_1
theorem dksX3_copy_0 : cX3_copy.data.toList.drop 0 = dktX3_copy_0 := by decide +kernel
theorem dksX3_copy_1 : cX3_copy.data.toList.drop 22 = dktX3_copy_1 := dk_seg dksX3_copy_0 22 rfl rfl
theorem dX3_copy_0 : decode cX3_copy 0 = .ok (.iconst 0, 1) := dk_3 (dk_at dksX3_copy_0 0 rfl rfl)
theorem dX3_copy_1 : decode cX3_copy 1 = .ok (.istore 4, 2) := dk_54 4 (dk_at dksX3_copy_0 1 rfl rfl)
theorem dX3_copy_3 : decode cX3_copy 3 = .ok (.iload 4, 2) := dk_21 4 (dk_at dksX3_copy_0 3 rfl rfl)
theorem dX3_copy_5 : decode cX3_copy 5 = .ok (.bipush 48, 2) := dk_16 48 (dk_at dksX3_copy_0 5 rfl rfl)
theorem dX3_copy_7 : decode cX3_copy 7 = .ok (.if_icmp .ge 21, 3) := dk_162 0 21 (dk_at dksX3_copy_0 7 rfl rfl)
theorem dX3_copy_10 : decode cX3_copy 10 = .ok (.aload_n 2, 1) := dk_44 (dk_at dksX3_copy_0 10 rfl rfl)
theorem dX3_copy_11 : decode cX3_copy 11 = .ok (.iload_n 3, 1) := dk_29 (dk_at dksX3_copy_0 11 rfl rfl)
theorem dX3_copy_12 : decode cX3_copy 12 = .ok (.iload 4, 2) := dk_21 4 (dk_at dksX3_copy_0 12 rfl rfl)
theorem dX3_copy_14 : decode cX3_copy 14 = .ok (.iadd, 1) := dk_96 (dk_at dksX3_copy_0 14 rfl rfl)
theorem dX3_copy_15 : decode cX3_copy 15 = .ok (.aload_n 0, 1) := dk_42 (dk_at dksX3_copy_0 15 rfl rfl)
theorem dX3_copy_16 : decode cX3_copy 16 = .ok (.iload_n 1, 1) := dk_27 (dk_at dksX3_copy_0 16 rfl rfl)
theorem dX3_copy_17 : decode cX3_copy 17 = .ok (.iload 4, 2) := dk_21 4 (dk_at dksX3_copy_0 17 rfl rfl)
theorem dX3_copy_19 : decode cX3_copy 19 = .ok (.iadd, 1) := dk_96 (dk_at dksX3_copy_0 19 rfl rfl)
theorem dX3_copy_20 : decode cX3_copy 20 = .ok (.iaload, 1) := dk_46 (dk_at dksX3_copy_0 20 rfl rfl)
theorem dX3_copy_21 : decode cX3_copy 21 = .ok (.iastore, 1) := dk_79 (dk_at dksX3_copy_0 21 rfl rfl)
theorem dX3_copy_22 : decode cX3_copy 22 = .ok (.iinc 4 1, 3) := dk_132 4 1 (dk_at dksX3_copy_1 0 rfl rfl)
theorem dX3_copy_25 : decode cX3_copy 25 = .ok (.goto (-22), 3) := dk_167 255 234 (dk_at dksX3_copy_1 3 rfl rfl)
theorem dX3_copy_28 : decode cX3_copy 28 = .ok (.return_, 1) := dk_177 (dk_at dksX3_copy_1 6 rfl rfl)
abbrev cX3_adds : ByteArray := prog_19_method_16_code
def yX3_adds : MethodName := ⟨RX3, "adds", "(I)I"⟩
def dkwX3_adds_2 : List UInt8 := [180, 0, 7, 5, 92, 46, 4, 96, 79, 42, 42, 180, 0, 7, 5, 46, 4, 100, 182, 0, 60, 172]
abbrev dktX3_adds_2 : List UInt8 := dkwX3_adds_2 ++ []
def dkwX3_adds_1 : List UInt8 := [160, 0, 9, 42, 5, 182, 0, 56, 172, 42, 180, 0, 7, 7, 42, 180, 0, 7, 5, 46, 96, 27, 79, 42]
abbrev dktX3_adds_1 : List UInt8 := dkwX3_adds_1 ++ dktX3_adds_2
def dkwX3_adds_0 : List UInt8 := [27, 4, 16, 99, 184, 0, 52, 154, 0, 9, 42, 4, 182, 0, 56, 172, 42, 180, 0, 7, 5, 46, 16, 8]
abbrev dktX3_adds_0 : List UInt8 := dkwX3_adds_0 ++ dktX3_adds_1
theorem dksX3_adds_0 : cX3_adds.data.toList.drop 0 = dktX3_adds_0 := by decide +kernel
theorem dksX3_adds_1 : cX3_adds.data.toList.drop 24 = dktX3_adds_1 := dk_seg dksX3_adds_0 24 rfl rfl
theorem dksX3_adds_2 : cX3_adds.data.toList.drop 48 = dktX3_adds_2 := dk_seg dksX3_adds_1 24 rfl rfl
theorem dX3_adds_0 : decode cX3_adds 0 = .ok (.iload_n 1, 1) := dk_27 (dk_at dksX3_adds_0 0 rfl rfl)
theorem dX3_adds_1 : decode cX3_adds 1 = .ok (.iconst 1, 1) := dk_4 (dk_at dksX3_adds_0 1 rfl rfl)
theorem dX3_adds_2 : decode cX3_adds 2 = .ok (.bipush 99, 2) := dk_16 99 (dk_at dksX3_adds_0 2 rfl rfl)
theorem dX3_adds_4 : decode cX3_adds 4 = .ok (.invokestatic 52, 3) := dk_184 0 52 (dk_at dksX3_adds_0 4 rfl rfl)
theorem dX3_adds_7 : decode cX3_adds 7 = .ok (.ifCond .ne 9, 3) := dk_154 0 9 (dk_at dksX3_adds_0 7 rfl rfl)
theorem dX3_adds_10 : decode cX3_adds 10 = .ok (.aload_n 0, 1) := dk_42 (dk_at dksX3_adds_0 10 rfl rfl)
theorem dX3_adds_11 : decode cX3_adds 11 = .ok (.iconst 1, 1) := dk_4 (dk_at dksX3_adds_0 11 rfl rfl)
theorem dX3_adds_12 : decode cX3_adds 12 = .ok (.invokevirtual 56, 3) := dk_182 0 56 (dk_at dksX3_adds_0 12 rfl rfl)
theorem dX3_adds_15 : decode cX3_adds 15 = .ok (.ireturn, 1) := dk_172 (dk_at dksX3_adds_0 15 rfl rfl)
theorem dX3_adds_16 : decode cX3_adds 16 = .ok (.aload_n 0, 1) := dk_42 (dk_at dksX3_adds_0 16 rfl rfl)
theorem dX3_adds_17 : decode cX3_adds 17 = .ok (.getfield 7, 3) := dk_180 0 7 (dk_at dksX3_adds_0 17 rfl rfl)
theorem dX3_adds_20 : decode cX3_adds 20 = .ok (.iconst 2, 1) := dk_5 (dk_at dksX3_adds_0 20 rfl rfl)
theorem dX3_adds_21 : decode cX3_adds 21 = .ok (.iaload, 1) := dk_46 (dk_at dksX3_adds_0 21 rfl rfl)
theorem dX3_adds_22 : decode cX3_adds 22 = .ok (.bipush 8, 2) := dk_16 8 (dk_at dksX3_adds_0 22 rfl rfl)
theorem dX3_adds_24 : decode cX3_adds 24 = .ok (.if_icmp .ne 9, 3) := dk_160 0 9 (dk_at dksX3_adds_1 0 rfl rfl)
theorem dX3_adds_27 : decode cX3_adds 27 = .ok (.aload_n 0, 1) := dk_42 (dk_at dksX3_adds_1 3 rfl rfl)
theorem dX3_adds_28 : decode cX3_adds 28 = .ok (.iconst 2, 1) := dk_5 (dk_at dksX3_adds_1 4 rfl rfl)
theorem dX3_adds_29 : decode cX3_adds 29 = .ok (.invokevirtual 56, 3) := dk_182 0 56 (dk_at dksX3_adds_1 5 rfl rfl)
theorem dX3_adds_32 : decode cX3_adds 32 = .ok (.ireturn, 1) := dk_172 (dk_at dksX3_adds_1 8 rfl rfl)
theorem dX3_adds_33 : decode cX3_adds 33 = .ok (.aload_n 0, 1) := dk_42 (dk_at dksX3_adds_1 9 rfl rfl)
theorem dX3_adds_34 : decode cX3_adds 34 = .ok (.getfield 7, 3) := dk_180 0 7 (dk_at dksX3_adds_1 10 rfl rfl)
theorem dX3_adds_37 : decode cX3_adds 37 = .ok (.iconst 4, 1) := dk_7 (dk_at dksX3_adds_1 13 rfl rfl)
theorem dX3_adds_38 : decode cX3_adds 38 = .ok (.aload_n 0, 1) := dk_42 (dk_at dksX3_adds_1 14 rfl rfl)
theorem dX3_adds_39 : decode cX3_adds 39 = .ok (.getfield 7, 3) := dk_180 0 7 (dk_at dksX3_adds_1 15 rfl rfl)
theorem dX3_adds_42 : decode cX3_adds 42 = .ok (.iconst 2, 1) := dk_5 (dk_at dksX3_adds_1 18 rfl rfl)
theorem dX3_adds_43 : decode cX3_adds 43 = .ok (.iaload, 1) := dk_46 (dk_at dksX3_adds_1 19 rfl rfl)
theorem dX3_adds_44 : decode cX3_adds 44 = .ok (.iadd, 1) := dk_96 (dk_at dksX3_adds_1 20 rfl rfl)
theorem dX3_adds_45 : decode cX3_adds 45 = .ok (.iload_n 1, 1) := dk_27 (dk_at dksX3_adds_1 21 rfl rfl)
theorem dX3_adds_46 : decode cX3_adds 46 = .ok (.iastore, 1) := dk_79 (dk_at dksX3_adds_1 22 rfl rfl)
theorem dX3_adds_47 : decode cX3_adds 47 = .ok (.aload_n 0, 1) := dk_42 (dk_at dksX3_adds_1 23 rfl rfl)
theorem dX3_adds_48 : decode cX3_adds 48 = .ok (.getfield 7, 3) := dk_180 0 7 (dk_at dksX3_adds_2 0 rfl rfl)
theorem dX3_adds_51 : decode cX3_adds 51 = .ok (.iconst 2, 1) := dk_5 (dk_at dksX3_adds_2 3 rfl rfl)
theorem dX3_adds_52 : decode cX3_adds 52 = .ok (.dup2, 1) := dk_92 (dk_at dksX3_adds_2 4 rfl rfl)
theorem dX3_adds_53 : decode cX3_adds 53 = .ok (.iaload, 1) := dk_46 (dk_at dksX3_adds_2 5 rfl rfl)
theorem dX3_adds_54 : decode cX3_adds 54 = .ok (.iconst 1, 1) := dk_4 (dk_at dksX3_adds_2 6 rfl rfl)
theorem dX3_adds_55 : decode cX3_adds 55 = .ok (.iadd, 1) := dk_96 (dk_at dksX3_adds_2 7 rfl rfl)
theorem dX3_adds_56 : decode cX3_adds 56 = .ok (.iastore, 1) := dk_79 (dk_at dksX3_adds_2 8 rfl rfl)
theorem dX3_adds_57 : decode cX3_adds 57 = .ok (.aload_n 0, 1) := dk_42 (dk_at dksX3_adds_2 9 rfl rfl)
theorem dX3_adds_58 : decode cX3_adds 58 = .ok (.aload_n 0, 1) := dk_42 (dk_at dksX3_adds_2 10 rfl rfl)
theorem dX3_adds_59 : decode cX3_adds 59 = .ok (.getfield 7, 3) := dk_180 0 7 (dk_at dksX3_adds_2 11 rfl rfl)
theorem dX3_adds_62 : decode cX3_adds 62 = .ok (.iconst 2, 1) := dk_5 (dk_at dksX3_adds_2 14 rfl rfl)
theorem dX3_adds_63 : decode cX3_adds 63 = .ok (.iaload, 1) := dk_46 (dk_at dksX3_adds_2 15 rfl rfl)
theorem dX3_adds_64 : decode cX3_adds 64 = .ok (.iconst 1, 1) := dk_4 (dk_at dksX3_adds_2 16 rfl rfl)
theorem dX3_adds_65 : decode cX3_adds 65 = .ok (.isub, 1) := dk_100 (dk_at dksX3_adds_2 17 rfl rfl)
theorem dX3_adds_66 : decode cX3_adds 66 = .ok (.invokevirtual 60, 3) := dk_182 0 60 (dk_at dksX3_adds_2 18 rfl rfl)
theorem dX3_adds_69 : decode cX3_adds 69 = .ok (.ireturn, 1) := dk_172 (dk_at dksX3_adds_2 21 rfl rfl)
abbrev cX3_in : ByteArray := prog_19_method_3_code
def yX3_in : MethodName := ⟨RX3, "in", "(III)Z"⟩
def dkwX3_in_0 : List UInt8 := [26, 27, 161, 0, 12, 26, 28, 163, 0, 7, 4, 167, 0, 4, 3, 172]
abbrev dktX3_in_0 : List UInt8 := dkwX3_in_0 ++ []
theorem dksX3_in_0 : cX3_in.data.toList.drop 0 = dktX3_in_0 := by decide +kernel
theorem dX3_in_0 : decode cX3_in 0 = .ok (.iload_n 0, 1) := dk_26 (dk_at dksX3_in_0 0 rfl rfl)
theorem dX3_in_1 : decode cX3_in 1 = .ok (.iload_n 1, 1) := dk_27 (dk_at dksX3_in_0 1 rfl rfl)
theorem dX3_in_2 : decode cX3_in 2 = .ok (.if_icmp .lt 12, 3) := dk_161 0 12 (dk_at dksX3_in_0 2 rfl rfl)
theorem dX3_in_5 : decode cX3_in 5 = .ok (.iload_n 0, 1) := dk_26 (dk_at dksX3_in_0 5 rfl rfl)
theorem dX3_in_6 : decode cX3_in 6 = .ok (.iload_n 2, 1) := dk_28 (dk_at dksX3_in_0 6 rfl rfl)
theorem dX3_in_7 : decode cX3_in 7 = .ok (.if_icmp .gt 7, 3) := dk_163 0 7 (dk_at dksX3_in_0 7 rfl rfl)
theorem dX3_in_10 : decode cX3_in 10 = .ok (.iconst 1, 1) := dk_4 (dk_at dksX3_in_0 10 rfl rfl)
theorem dX3_in_11 : decode cX3_in 11 = .ok (.goto 4, 3) := dk_167 0 4 (dk_at dksX3_in_0 11 rfl rfl)
theorem dX3_in_14 : decode cX3_in 14 = .ok (.iconst 0, 1) := dk_3 (dk_at dksX3_in_0 14 rfl rfl)
theorem dX3_in_15 : decode cX3_in 15 = .ok (.ireturn, 1) := dk_172 (dk_at dksX3_in_0 15 rfl rfl)
abbrev cX3_fails : ByteArray := prog_19_method_6_code
def yX3_fails : MethodName := ⟨RX3, "fails", "(I)I"⟩
def dkwX3_fails_0 : List UInt8 := [42, 27, 181, 0, 42, 3, 172]
abbrev dktX3_fails_0 : List UInt8 := dkwX3_fails_0 ++ []
theorem dksX3_fails_0 : cX3_fails.data.toList.drop 0 = dktX3_fails_0 := by decide +kernel
theorem dX3_fails_0 : decode cX3_fails 0 = .ok (.aload_n 0, 1) := dk_42 (dk_at dksX3_fails_0 0 rfl rfl)
theorem dX3_fails_1 : decode cX3_fails 1 = .ok (.iload_n 1, 1) := dk_27 (dk_at dksX3_fails_0 1 rfl rfl)
theorem dX3_fails_2 : decode cX3_fails 2 = .ok (.putfield 42, 3) := dk_181 0 42 (dk_at dksX3_fails_0 2 rfl rfl)
theorem dX3_fails_5 : decode cX3_fails 5 = .ok (.iconst 0, 1) := dk_3 (dk_at dksX3_fails_0 5 rfl rfl)
theorem dX3_fails_6 : decode cX3_fails 6 = .ok (.ireturn, 1) := dk_172 (dk_at dksX3_fails_0 6 rfl rfl)
abbrev cX3_done : ByteArray := prog_19_method_5_code
def yX3_done : MethodName := ⟨RX3, "done", "(I)I"⟩
def dkwX3_done_0 : List UInt8 := [42, 3, 181, 0, 42, 27, 172]
abbrev dktX3_done_0 : List UInt8 := dkwX3_done_0 ++ []
theorem dksX3_done_0 : cX3_done.data.toList.drop 0 = dktX3_done_0 := by decide +kernel
theorem dX3_done_0 : decode cX3_done 0 = .ok (.aload_n 0, 1) := dk_42 (dk_at dksX3_done_0 0 rfl rfl)
theorem dX3_done_1 : decode cX3_done 1 = .ok (.iconst 0, 1) := dk_3 (dk_at dksX3_done_0 1 rfl rfl)
theorem dX3_done_2 : decode cX3_done 2 = .ok (.putfield 42, 3) := dk_181 0 42 (dk_at dksX3_done_0 2 rfl rfl)
theorem dX3_done_5 : decode cX3_done 5 = .ok (.iload_n 1, 1) := dk_27 (dk_at dksX3_done_0 5 rfl rfl)
theorem dX3_done_6 : decode cX3_done 6 = .ok (.ireturn, 1) := dk_172 (dk_at dksX3_done_0 6 rfl rfl)
abbrev cX3_kept : ByteArray := prog_19_method_9_code
def yX3_kept : MethodName := ⟨RX3, "kept", "(I)I"⟩
def dkwX3_kept_4 : List UInt8 := [180, 0, 49, 4, 96, 181, 0, 49, 27, 172]
abbrev dktX3_kept_4 : List UInt8 := dkwX3_kept_4 ++ []
def dkwX3_kept_3 : List UInt8 := [181, 0, 49, 42, 180, 0, 13, 3, 42, 180, 0, 16, 42, 180, 0, 49, 16, 48, 104, 184, 0, 45, 42, 89]
abbrev dktX3_kept_3 : List UInt8 := dkwX3_kept_3 ++ dktX3_kept_4
def dkwX3_kept_2 : List UInt8 := [180, 0, 16, 28, 16, 48, 96, 46, 79, 132, 2, 1, 167, 255, 231, 42, 89, 180, 0, 49, 4, 100]
abbrev dktX3_kept_2 : List UInt8 := dkwX3_kept_2 ++ dktX3_kept_3
def dkwX3_kept_1 : List UInt8 := [180, 0, 49, 16, 8, 160, 0, 43, 3, 61, 28, 17, 1, 80, 162, 0, 24, 42, 180, 0, 16, 28, 42]
abbrev dktX3_kept_1 : List UInt8 := dkwX3_kept_1 ++ dktX3_kept_2
def dkwX3_kept_0 : List UInt8 := [42, 180, 0, 42, 153, 0, 18, 42, 180, 0, 13, 3, 42, 180, 0, 7, 3, 184, 0, 45, 3, 172, 42]
abbrev dktX3_kept_0 : List UInt8 := dkwX3_kept_0 ++ dktX3_kept_1
theorem dksX3_kept_0 : cX3_kept.data.toList.drop 0 = dktX3_kept_0 := by decide +kernel
theorem dksX3_kept_1 : cX3_kept.data.toList.drop 23 = dktX3_kept_1 := dk_seg dksX3_kept_0 23 rfl rfl
theorem dksX3_kept_2 : cX3_kept.data.toList.drop 46 = dktX3_kept_2 := dk_seg dksX3_kept_1 23 rfl rfl
theorem dksX3_kept_3 : cX3_kept.data.toList.drop 68 = dktX3_kept_3 := dk_seg dksX3_kept_2 22 rfl rfl
theorem dksX3_kept_4 : cX3_kept.data.toList.drop 92 = dktX3_kept_4 := dk_seg dksX3_kept_3 24 rfl rfl
theorem dX3_kept_0 : decode cX3_kept 0 = .ok (.aload_n 0, 1) := dk_42 (dk_at dksX3_kept_0 0 rfl rfl)
theorem dX3_kept_1 : decode cX3_kept 1 = .ok (.getfield 42, 3) := dk_180 0 42 (dk_at dksX3_kept_0 1 rfl rfl)
theorem dX3_kept_4 : decode cX3_kept 4 = .ok (.ifCond .eq 18, 3) := dk_153 0 18 (dk_at dksX3_kept_0 4 rfl rfl)
theorem dX3_kept_7 : decode cX3_kept 7 = .ok (.aload_n 0, 1) := dk_42 (dk_at dksX3_kept_0 7 rfl rfl)
theorem dX3_kept_8 : decode cX3_kept 8 = .ok (.getfield 13, 3) := dk_180 0 13 (dk_at dksX3_kept_0 8 rfl rfl)
theorem dX3_kept_11 : decode cX3_kept 11 = .ok (.iconst 0, 1) := dk_3 (dk_at dksX3_kept_0 11 rfl rfl)
theorem dX3_kept_12 : decode cX3_kept 12 = .ok (.aload_n 0, 1) := dk_42 (dk_at dksX3_kept_0 12 rfl rfl)
theorem dX3_kept_13 : decode cX3_kept 13 = .ok (.getfield 7, 3) := dk_180 0 7 (dk_at dksX3_kept_0 13 rfl rfl)
theorem dX3_kept_16 : decode cX3_kept 16 = .ok (.iconst 0, 1) := dk_3 (dk_at dksX3_kept_0 16 rfl rfl)
theorem dX3_kept_17 : decode cX3_kept 17 = .ok (.invokestatic 45, 3) := dk_184 0 45 (dk_at dksX3_kept_0 17 rfl rfl)
theorem dX3_kept_20 : decode cX3_kept 20 = .ok (.iconst 0, 1) := dk_3 (dk_at dksX3_kept_0 20 rfl rfl)
theorem dX3_kept_21 : decode cX3_kept 21 = .ok (.ireturn, 1) := dk_172 (dk_at dksX3_kept_0 21 rfl rfl)
theorem dX3_kept_22 : decode cX3_kept 22 = .ok (.aload_n 0, 1) := dk_42 (dk_at dksX3_kept_0 22 rfl rfl)
theorem dX3_kept_23 : decode cX3_kept 23 = .ok (.getfield 49, 3) := dk_180 0 49 (dk_at dksX3_kept_1 0 rfl rfl)
theorem dX3_kept_26 : decode cX3_kept 26 = .ok (.bipush 8, 2) := dk_16 8 (dk_at dksX3_kept_1 3 rfl rfl)
theorem dX3_kept_28 : decode cX3_kept 28 = .ok (.if_icmp .ne 43, 3) := dk_160 0 43 (dk_at dksX3_kept_1 5 rfl rfl)
theorem dX3_kept_31 : decode cX3_kept 31 = .ok (.iconst 0, 1) := dk_3 (dk_at dksX3_kept_1 8 rfl rfl)
theorem dX3_kept_32 : decode cX3_kept 32 = .ok (.istore_n 2, 1) := dk_61 (dk_at dksX3_kept_1 9 rfl rfl)
theorem dX3_kept_33 : decode cX3_kept 33 = .ok (.iload_n 2, 1) := dk_28 (dk_at dksX3_kept_1 10 rfl rfl)
theorem dX3_kept_34 : decode cX3_kept 34 = .ok (.sipush 336, 3) := dk_17 1 80 (dk_at dksX3_kept_1 11 rfl rfl)
theorem dX3_kept_37 : decode cX3_kept 37 = .ok (.if_icmp .ge 24, 3) := dk_162 0 24 (dk_at dksX3_kept_1 14 rfl rfl)
theorem dX3_kept_40 : decode cX3_kept 40 = .ok (.aload_n 0, 1) := dk_42 (dk_at dksX3_kept_1 17 rfl rfl)
theorem dX3_kept_41 : decode cX3_kept 41 = .ok (.getfield 16, 3) := dk_180 0 16 (dk_at dksX3_kept_1 18 rfl rfl)
theorem dX3_kept_44 : decode cX3_kept 44 = .ok (.iload_n 2, 1) := dk_28 (dk_at dksX3_kept_1 21 rfl rfl)
theorem dX3_kept_45 : decode cX3_kept 45 = .ok (.aload_n 0, 1) := dk_42 (dk_at dksX3_kept_1 22 rfl rfl)
theorem dX3_kept_46 : decode cX3_kept 46 = .ok (.getfield 16, 3) := dk_180 0 16 (dk_at dksX3_kept_2 0 rfl rfl)
theorem dX3_kept_49 : decode cX3_kept 49 = .ok (.iload_n 2, 1) := dk_28 (dk_at dksX3_kept_2 3 rfl rfl)
theorem dX3_kept_50 : decode cX3_kept 50 = .ok (.bipush 48, 2) := dk_16 48 (dk_at dksX3_kept_2 4 rfl rfl)
theorem dX3_kept_52 : decode cX3_kept 52 = .ok (.iadd, 1) := dk_96 (dk_at dksX3_kept_2 6 rfl rfl)
theorem dX3_kept_53 : decode cX3_kept 53 = .ok (.iaload, 1) := dk_46 (dk_at dksX3_kept_2 7 rfl rfl)
theorem dX3_kept_54 : decode cX3_kept 54 = .ok (.iastore, 1) := dk_79 (dk_at dksX3_kept_2 8 rfl rfl)
theorem dX3_kept_55 : decode cX3_kept 55 = .ok (.iinc 2 1, 3) := dk_132 2 1 (dk_at dksX3_kept_2 9 rfl rfl)
theorem dX3_kept_58 : decode cX3_kept 58 = .ok (.goto (-25), 3) := dk_167 255 231 (dk_at dksX3_kept_2 12 rfl rfl)
theorem dX3_kept_61 : decode cX3_kept 61 = .ok (.aload_n 0, 1) := dk_42 (dk_at dksX3_kept_2 15 rfl rfl)
theorem dX3_kept_62 : decode cX3_kept 62 = .ok (.dup, 1) := dk_89 (dk_at dksX3_kept_2 16 rfl rfl)
theorem dX3_kept_63 : decode cX3_kept 63 = .ok (.getfield 49, 3) := dk_180 0 49 (dk_at dksX3_kept_2 17 rfl rfl)
theorem dX3_kept_66 : decode cX3_kept 66 = .ok (.iconst 1, 1) := dk_4 (dk_at dksX3_kept_2 20 rfl rfl)
theorem dX3_kept_67 : decode cX3_kept 67 = .ok (.isub, 1) := dk_100 (dk_at dksX3_kept_2 21 rfl rfl)
theorem dX3_kept_68 : decode cX3_kept 68 = .ok (.putfield 49, 3) := dk_181 0 49 (dk_at dksX3_kept_3 0 rfl rfl)
theorem dX3_kept_71 : decode cX3_kept 71 = .ok (.aload_n 0, 1) := dk_42 (dk_at dksX3_kept_3 3 rfl rfl)
theorem dX3_kept_72 : decode cX3_kept 72 = .ok (.getfield 13, 3) := dk_180 0 13 (dk_at dksX3_kept_3 4 rfl rfl)
theorem dX3_kept_75 : decode cX3_kept 75 = .ok (.iconst 0, 1) := dk_3 (dk_at dksX3_kept_3 7 rfl rfl)
theorem dX3_kept_76 : decode cX3_kept 76 = .ok (.aload_n 0, 1) := dk_42 (dk_at dksX3_kept_3 8 rfl rfl)
theorem dX3_kept_77 : decode cX3_kept 77 = .ok (.getfield 16, 3) := dk_180 0 16 (dk_at dksX3_kept_3 9 rfl rfl)
theorem dX3_kept_80 : decode cX3_kept 80 = .ok (.aload_n 0, 1) := dk_42 (dk_at dksX3_kept_3 12 rfl rfl)
theorem dX3_kept_81 : decode cX3_kept 81 = .ok (.getfield 49, 3) := dk_180 0 49 (dk_at dksX3_kept_3 13 rfl rfl)
theorem dX3_kept_84 : decode cX3_kept 84 = .ok (.bipush 48, 2) := dk_16 48 (dk_at dksX3_kept_3 16 rfl rfl)
theorem dX3_kept_86 : decode cX3_kept 86 = .ok (.imul, 1) := dk_104 (dk_at dksX3_kept_3 18 rfl rfl)
theorem dX3_kept_87 : decode cX3_kept 87 = .ok (.invokestatic 45, 3) := dk_184 0 45 (dk_at dksX3_kept_3 19 rfl rfl)
theorem dX3_kept_90 : decode cX3_kept 90 = .ok (.aload_n 0, 1) := dk_42 (dk_at dksX3_kept_3 22 rfl rfl)
theorem dX3_kept_91 : decode cX3_kept 91 = .ok (.dup, 1) := dk_89 (dk_at dksX3_kept_3 23 rfl rfl)
theorem dX3_kept_92 : decode cX3_kept 92 = .ok (.getfield 49, 3) := dk_180 0 49 (dk_at dksX3_kept_4 0 rfl rfl)
theorem dX3_kept_95 : decode cX3_kept 95 = .ok (.iconst 1, 1) := dk_4 (dk_at dksX3_kept_4 3 rfl rfl)
theorem dX3_kept_96 : decode cX3_kept 96 = .ok (.iadd, 1) := dk_96 (dk_at dksX3_kept_4 4 rfl rfl)
theorem dX3_kept_97 : decode cX3_kept 97 = .ok (.putfield 49, 3) := dk_181 0 49 (dk_at dksX3_kept_4 5 rfl rfl)
theorem dX3_kept_100 : decode cX3_kept 100 = .ok (.iload_n 1, 1) := dk_27 (dk_at dksX3_kept_4 8 rfl rfl)
theorem dX3_kept_101 : decode cX3_kept 101 = .ok (.ireturn, 1) := dk_172 (dk_at dksX3_kept_4 9 rfl rfl)
abbrev cX3_push : ByteArray := prog_19_method_19_code
def yX3_push : MethodName := ⟨RX3, "push", "(II)I"⟩
def dkwX3_push_0 : List UInt8 := [42, 182, 0, 63, 42, 42, 27, 28, 182, 0, 82, 182, 0, 69, 172]
abbrev dktX3_push_0 : List UInt8 := dkwX3_push_0 ++ []
theorem dksX3_push_0 : cX3_push.data.toList.drop 0 = dktX3_push_0 := by decide +kernel
theorem dX3_push_0 : decode cX3_push 0 = .ok (.aload_n 0, 1) := dk_42 (dk_at dksX3_push_0 0 rfl rfl)
theorem dX3_push_1 : decode cX3_push 1 = .ok (.invokevirtual 63, 3) := dk_182 0 63 (dk_at dksX3_push_0 1 rfl rfl)
theorem dX3_push_4 : decode cX3_push 4 = .ok (.aload_n 0, 1) := dk_42 (dk_at dksX3_push_0 4 rfl rfl)
theorem dX3_push_5 : decode cX3_push 5 = .ok (.aload_n 0, 1) := dk_42 (dk_at dksX3_push_0 5 rfl rfl)
theorem dX3_push_6 : decode cX3_push 6 = .ok (.iload_n 1, 1) := dk_27 (dk_at dksX3_push_0 6 rfl rfl)
theorem dX3_push_7 : decode cX3_push 7 = .ok (.iload_n 2, 1) := dk_28 (dk_at dksX3_push_0 7 rfl rfl)
theorem dX3_push_8 : decode cX3_push 8 = .ok (.invokevirtual 82, 3) := dk_182 0 82 (dk_at dksX3_push_0 8 rfl rfl)
theorem dX3_push_11 : decode cX3_push 11 = .ok (.invokevirtual 69, 3) := dk_182 0 69 (dk_at dksX3_push_0 11 rfl rfl)
theorem dX3_push_14 : decode cX3_push 14 = .ok (.ireturn, 1) := dk_172 (dk_at dksX3_push_0 14 rfl rfl)
abbrev cX3_pushes : ByteArray := prog_19_method_18_code
def yX3_pushes : MethodName := ⟨RX3, "pushes", "(II)I"⟩
def dkwX3_pushes_5 : List UInt8 := [180, 0, 7, 16, 39, 42, 27, 182, 0, 79, 96, 27, 79, 42, 29, 182, 0, 60, 172]
abbrev dktX3_pushes_5 : List UInt8 := dkwX3_pushes_5 ++ []
def dkwX3_pushes_4 : List UInt8 := [27, 182, 0, 79, 96, 46, 164, 0, 31, 42, 180, 0, 7, 16, 36, 42, 27, 182, 0, 79, 96, 29, 79, 42]
abbrev dktX3_pushes_4 : List UInt8 := dkwX3_pushes_4 ++ dktX3_pushes_5
def dkwX3_pushes_3 : List UInt8 := [180, 0, 7, 3, 46, 79, 42, 180, 0, 7, 16, 12, 27, 96, 29, 79, 29, 42, 180, 0, 7, 16, 36, 42]
abbrev dktX3_pushes_3 : List UInt8 := dkwX3_pushes_3 ++ dktX3_pushes_4
def dkwX3_pushes_2 : List UInt8 := [42, 6, 182, 0, 56, 172, 42, 27, 182, 0, 76, 153, 0, 18, 42, 180, 0, 7, 16, 20, 27, 96, 42]
abbrev dktX3_pushes_2 : List UInt8 := dkwX3_pushes_2 ++ dktX3_pushes_3
def dkwX3_pushes_1 : List UInt8 := [42, 5, 182, 0, 56, 172, 42, 180, 0, 7, 16, 12, 27, 96, 46, 28, 96, 62, 29, 16, 60, 164, 0, 9]
abbrev dktX3_pushes_1 : List UInt8 := dkwX3_pushes_1 ++ dktX3_pushes_2
def dkwX3_pushes_0 : List UInt8 := [42, 27, 182, 0, 72, 154, 0, 9, 42, 4, 182, 0, 56, 172, 28, 4, 16, 60, 184, 0, 52, 154, 0, 9]
abbrev dktX3_pushes_0 : List UInt8 := dkwX3_pushes_0 ++ dktX3_pushes_1
theorem dksX3_pushes_0 : cX3_pushes.data.toList.drop 0 = dktX3_pushes_0 := by decide +kernel
theorem dksX3_pushes_1 : cX3_pushes.data.toList.drop 24 = dktX3_pushes_1 := dk_seg dksX3_pushes_0 24 rfl rfl
theorem dksX3_pushes_2 : cX3_pushes.data.toList.drop 48 = dktX3_pushes_2 := dk_seg dksX3_pushes_1 24 rfl rfl
theorem dksX3_pushes_3 : cX3_pushes.data.toList.drop 71 = dktX3_pushes_3 := dk_seg dksX3_pushes_2 23 rfl rfl
theorem dksX3_pushes_4 : cX3_pushes.data.toList.drop 95 = dktX3_pushes_4 := dk_seg dksX3_pushes_3 24 rfl rfl
theorem dksX3_pushes_5 : cX3_pushes.data.toList.drop 119 = dktX3_pushes_5 := dk_seg dksX3_pushes_4 24 rfl rfl
theorem dX3_pushes_0 : decode cX3_pushes 0 = .ok (.aload_n 0, 1) := dk_42 (dk_at dksX3_pushes_0 0 rfl rfl)
theorem dX3_pushes_1 : decode cX3_pushes 1 = .ok (.iload_n 1, 1) := dk_27 (dk_at dksX3_pushes_0 1 rfl rfl)
theorem dX3_pushes_2 : decode cX3_pushes 2 = .ok (.invokevirtual 72, 3) := dk_182 0 72 (dk_at dksX3_pushes_0 2 rfl rfl)
theorem dX3_pushes_5 : decode cX3_pushes 5 = .ok (.ifCond .ne 9, 3) := dk_154 0 9 (dk_at dksX3_pushes_0 5 rfl rfl)
theorem dX3_pushes_8 : decode cX3_pushes 8 = .ok (.aload_n 0, 1) := dk_42 (dk_at dksX3_pushes_0 8 rfl rfl)
theorem dX3_pushes_9 : decode cX3_pushes 9 = .ok (.iconst 1, 1) := dk_4 (dk_at dksX3_pushes_0 9 rfl rfl)
theorem dX3_pushes_10 : decode cX3_pushes 10 = .ok (.invokevirtual 56, 3) := dk_182 0 56 (dk_at dksX3_pushes_0 10 rfl rfl)
theorem dX3_pushes_13 : decode cX3_pushes 13 = .ok (.ireturn, 1) := dk_172 (dk_at dksX3_pushes_0 13 rfl rfl)
theorem dX3_pushes_14 : decode cX3_pushes 14 = .ok (.iload_n 2, 1) := dk_28 (dk_at dksX3_pushes_0 14 rfl rfl)
theorem dX3_pushes_15 : decode cX3_pushes 15 = .ok (.iconst 1, 1) := dk_4 (dk_at dksX3_pushes_0 15 rfl rfl)
theorem dX3_pushes_16 : decode cX3_pushes 16 = .ok (.bipush 60, 2) := dk_16 60 (dk_at dksX3_pushes_0 16 rfl rfl)
theorem dX3_pushes_18 : decode cX3_pushes 18 = .ok (.invokestatic 52, 3) := dk_184 0 52 (dk_at dksX3_pushes_0 18 rfl rfl)
theorem dX3_pushes_21 : decode cX3_pushes 21 = .ok (.ifCond .ne 9, 3) := dk_154 0 9 (dk_at dksX3_pushes_0 21 rfl rfl)
theorem dX3_pushes_24 : decode cX3_pushes 24 = .ok (.aload_n 0, 1) := dk_42 (dk_at dksX3_pushes_1 0 rfl rfl)
theorem dX3_pushes_25 : decode cX3_pushes 25 = .ok (.iconst 2, 1) := dk_5 (dk_at dksX3_pushes_1 1 rfl rfl)
theorem dX3_pushes_26 : decode cX3_pushes 26 = .ok (.invokevirtual 56, 3) := dk_182 0 56 (dk_at dksX3_pushes_1 2 rfl rfl)
theorem dX3_pushes_29 : decode cX3_pushes 29 = .ok (.ireturn, 1) := dk_172 (dk_at dksX3_pushes_1 5 rfl rfl)
theorem dX3_pushes_30 : decode cX3_pushes 30 = .ok (.aload_n 0, 1) := dk_42 (dk_at dksX3_pushes_1 6 rfl rfl)
theorem dX3_pushes_31 : decode cX3_pushes 31 = .ok (.getfield 7, 3) := dk_180 0 7 (dk_at dksX3_pushes_1 7 rfl rfl)
theorem dX3_pushes_34 : decode cX3_pushes 34 = .ok (.bipush 12, 2) := dk_16 12 (dk_at dksX3_pushes_1 10 rfl rfl)
theorem dX3_pushes_36 : decode cX3_pushes 36 = .ok (.iload_n 1, 1) := dk_27 (dk_at dksX3_pushes_1 12 rfl rfl)
theorem dX3_pushes_37 : decode cX3_pushes 37 = .ok (.iadd, 1) := dk_96 (dk_at dksX3_pushes_1 13 rfl rfl)
theorem dX3_pushes_38 : decode cX3_pushes 38 = .ok (.iaload, 1) := dk_46 (dk_at dksX3_pushes_1 14 rfl rfl)
theorem dX3_pushes_39 : decode cX3_pushes 39 = .ok (.iload_n 2, 1) := dk_28 (dk_at dksX3_pushes_1 15 rfl rfl)
theorem dX3_pushes_40 : decode cX3_pushes 40 = .ok (.iadd, 1) := dk_96 (dk_at dksX3_pushes_1 16 rfl rfl)
theorem dX3_pushes_41 : decode cX3_pushes 41 = .ok (.istore_n 3, 1) := dk_62 (dk_at dksX3_pushes_1 17 rfl rfl)
theorem dX3_pushes_42 : decode cX3_pushes 42 = .ok (.iload_n 3, 1) := dk_29 (dk_at dksX3_pushes_1 18 rfl rfl)
theorem dX3_pushes_43 : decode cX3_pushes 43 = .ok (.bipush 60, 2) := dk_16 60 (dk_at dksX3_pushes_1 19 rfl rfl)
theorem dX3_pushes_45 : decode cX3_pushes 45 = .ok (.if_icmp .le 9, 3) := dk_164 0 9 (dk_at dksX3_pushes_1 21 rfl rfl)
theorem dX3_pushes_48 : decode cX3_pushes 48 = .ok (.aload_n 0, 1) := dk_42 (dk_at dksX3_pushes_2 0 rfl rfl)
theorem dX3_pushes_49 : decode cX3_pushes 49 = .ok (.iconst 3, 1) := dk_6 (dk_at dksX3_pushes_2 1 rfl rfl)
theorem dX3_pushes_50 : decode cX3_pushes 50 = .ok (.invokevirtual 56, 3) := dk_182 0 56 (dk_at dksX3_pushes_2 2 rfl rfl)
theorem dX3_pushes_53 : decode cX3_pushes 53 = .ok (.ireturn, 1) := dk_172 (dk_at dksX3_pushes_2 5 rfl rfl)
theorem dX3_pushes_54 : decode cX3_pushes 54 = .ok (.aload_n 0, 1) := dk_42 (dk_at dksX3_pushes_2 6 rfl rfl)
theorem dX3_pushes_55 : decode cX3_pushes 55 = .ok (.iload_n 1, 1) := dk_27 (dk_at dksX3_pushes_2 7 rfl rfl)
theorem dX3_pushes_56 : decode cX3_pushes 56 = .ok (.invokevirtual 76, 3) := dk_182 0 76 (dk_at dksX3_pushes_2 8 rfl rfl)
theorem dX3_pushes_59 : decode cX3_pushes 59 = .ok (.ifCond .eq 18, 3) := dk_153 0 18 (dk_at dksX3_pushes_2 11 rfl rfl)
theorem dX3_pushes_62 : decode cX3_pushes 62 = .ok (.aload_n 0, 1) := dk_42 (dk_at dksX3_pushes_2 14 rfl rfl)
theorem dX3_pushes_63 : decode cX3_pushes 63 = .ok (.getfield 7, 3) := dk_180 0 7 (dk_at dksX3_pushes_2 15 rfl rfl)
theorem dX3_pushes_66 : decode cX3_pushes 66 = .ok (.bipush 20, 2) := dk_16 20 (dk_at dksX3_pushes_2 18 rfl rfl)
theorem dX3_pushes_68 : decode cX3_pushes 68 = .ok (.iload_n 1, 1) := dk_27 (dk_at dksX3_pushes_2 20 rfl rfl)
theorem dX3_pushes_69 : decode cX3_pushes 69 = .ok (.iadd, 1) := dk_96 (dk_at dksX3_pushes_2 21 rfl rfl)
theorem dX3_pushes_70 : decode cX3_pushes 70 = .ok (.aload_n 0, 1) := dk_42 (dk_at dksX3_pushes_2 22 rfl rfl)
theorem dX3_pushes_71 : decode cX3_pushes 71 = .ok (.getfield 7, 3) := dk_180 0 7 (dk_at dksX3_pushes_3 0 rfl rfl)
theorem dX3_pushes_74 : decode cX3_pushes 74 = .ok (.iconst 0, 1) := dk_3 (dk_at dksX3_pushes_3 3 rfl rfl)
theorem dX3_pushes_75 : decode cX3_pushes 75 = .ok (.iaload, 1) := dk_46 (dk_at dksX3_pushes_3 4 rfl rfl)
theorem dX3_pushes_76 : decode cX3_pushes 76 = .ok (.iastore, 1) := dk_79 (dk_at dksX3_pushes_3 5 rfl rfl)
theorem dX3_pushes_77 : decode cX3_pushes 77 = .ok (.aload_n 0, 1) := dk_42 (dk_at dksX3_pushes_3 6 rfl rfl)
theorem dX3_pushes_78 : decode cX3_pushes 78 = .ok (.getfield 7, 3) := dk_180 0 7 (dk_at dksX3_pushes_3 7 rfl rfl)
theorem dX3_pushes_81 : decode cX3_pushes 81 = .ok (.bipush 12, 2) := dk_16 12 (dk_at dksX3_pushes_3 10 rfl rfl)
theorem dX3_pushes_83 : decode cX3_pushes 83 = .ok (.iload_n 1, 1) := dk_27 (dk_at dksX3_pushes_3 12 rfl rfl)
theorem dX3_pushes_84 : decode cX3_pushes 84 = .ok (.iadd, 1) := dk_96 (dk_at dksX3_pushes_3 13 rfl rfl)
theorem dX3_pushes_85 : decode cX3_pushes 85 = .ok (.iload_n 3, 1) := dk_29 (dk_at dksX3_pushes_3 14 rfl rfl)
theorem dX3_pushes_86 : decode cX3_pushes 86 = .ok (.iastore, 1) := dk_79 (dk_at dksX3_pushes_3 15 rfl rfl)
theorem dX3_pushes_87 : decode cX3_pushes 87 = .ok (.iload_n 3, 1) := dk_29 (dk_at dksX3_pushes_3 16 rfl rfl)
theorem dX3_pushes_88 : decode cX3_pushes 88 = .ok (.aload_n 0, 1) := dk_42 (dk_at dksX3_pushes_3 17 rfl rfl)
theorem dX3_pushes_89 : decode cX3_pushes 89 = .ok (.getfield 7, 3) := dk_180 0 7 (dk_at dksX3_pushes_3 18 rfl rfl)
theorem dX3_pushes_92 : decode cX3_pushes 92 = .ok (.bipush 36, 2) := dk_16 36 (dk_at dksX3_pushes_3 21 rfl rfl)
theorem dX3_pushes_94 : decode cX3_pushes 94 = .ok (.aload_n 0, 1) := dk_42 (dk_at dksX3_pushes_3 23 rfl rfl)
theorem dX3_pushes_95 : decode cX3_pushes 95 = .ok (.iload_n 1, 1) := dk_27 (dk_at dksX3_pushes_4 0 rfl rfl)
theorem dX3_pushes_96 : decode cX3_pushes 96 = .ok (.invokevirtual 79, 3) := dk_182 0 79 (dk_at dksX3_pushes_4 1 rfl rfl)
theorem dX3_pushes_99 : decode cX3_pushes 99 = .ok (.iadd, 1) := dk_96 (dk_at dksX3_pushes_4 4 rfl rfl)
theorem dX3_pushes_100 : decode cX3_pushes 100 = .ok (.iaload, 1) := dk_46 (dk_at dksX3_pushes_4 5 rfl rfl)
theorem dX3_pushes_101 : decode cX3_pushes 101 = .ok (.if_icmp .le 31, 3) := dk_164 0 31 (dk_at dksX3_pushes_4 6 rfl rfl)
theorem dX3_pushes_104 : decode cX3_pushes 104 = .ok (.aload_n 0, 1) := dk_42 (dk_at dksX3_pushes_4 9 rfl rfl)
theorem dX3_pushes_105 : decode cX3_pushes 105 = .ok (.getfield 7, 3) := dk_180 0 7 (dk_at dksX3_pushes_4 10 rfl rfl)
theorem dX3_pushes_108 : decode cX3_pushes 108 = .ok (.bipush 36, 2) := dk_16 36 (dk_at dksX3_pushes_4 13 rfl rfl)
theorem dX3_pushes_110 : decode cX3_pushes 110 = .ok (.aload_n 0, 1) := dk_42 (dk_at dksX3_pushes_4 15 rfl rfl)
theorem dX3_pushes_111 : decode cX3_pushes 111 = .ok (.iload_n 1, 1) := dk_27 (dk_at dksX3_pushes_4 16 rfl rfl)
theorem dX3_pushes_112 : decode cX3_pushes 112 = .ok (.invokevirtual 79, 3) := dk_182 0 79 (dk_at dksX3_pushes_4 17 rfl rfl)
theorem dX3_pushes_115 : decode cX3_pushes 115 = .ok (.iadd, 1) := dk_96 (dk_at dksX3_pushes_4 20 rfl rfl)
theorem dX3_pushes_116 : decode cX3_pushes 116 = .ok (.iload_n 3, 1) := dk_29 (dk_at dksX3_pushes_4 21 rfl rfl)
theorem dX3_pushes_117 : decode cX3_pushes 117 = .ok (.iastore, 1) := dk_79 (dk_at dksX3_pushes_4 22 rfl rfl)
theorem dX3_pushes_118 : decode cX3_pushes 118 = .ok (.aload_n 0, 1) := dk_42 (dk_at dksX3_pushes_4 23 rfl rfl)
theorem dX3_pushes_119 : decode cX3_pushes 119 = .ok (.getfield 7, 3) := dk_180 0 7 (dk_at dksX3_pushes_5 0 rfl rfl)
theorem dX3_pushes_122 : decode cX3_pushes 122 = .ok (.bipush 39, 2) := dk_16 39 (dk_at dksX3_pushes_5 3 rfl rfl)
theorem dX3_pushes_124 : decode cX3_pushes 124 = .ok (.aload_n 0, 1) := dk_42 (dk_at dksX3_pushes_5 5 rfl rfl)
theorem dX3_pushes_125 : decode cX3_pushes 125 = .ok (.iload_n 1, 1) := dk_27 (dk_at dksX3_pushes_5 6 rfl rfl)
theorem dX3_pushes_126 : decode cX3_pushes 126 = .ok (.invokevirtual 79, 3) := dk_182 0 79 (dk_at dksX3_pushes_5 7 rfl rfl)
theorem dX3_pushes_129 : decode cX3_pushes 129 = .ok (.iadd, 1) := dk_96 (dk_at dksX3_pushes_5 10 rfl rfl)
theorem dX3_pushes_130 : decode cX3_pushes 130 = .ok (.iload_n 1, 1) := dk_27 (dk_at dksX3_pushes_5 11 rfl rfl)
theorem dX3_pushes_131 : decode cX3_pushes 131 = .ok (.iastore, 1) := dk_79 (dk_at dksX3_pushes_5 12 rfl rfl)
theorem dX3_pushes_132 : decode cX3_pushes 132 = .ok (.aload_n 0, 1) := dk_42 (dk_at dksX3_pushes_5 13 rfl rfl)
theorem dX3_pushes_133 : decode cX3_pushes 133 = .ok (.iload_n 3, 1) := dk_29 (dk_at dksX3_pushes_5 14 rfl rfl)
theorem dX3_pushes_134 : decode cX3_pushes 134 = .ok (.invokevirtual 60, 3) := dk_182 0 60 (dk_at dksX3_pushes_5 15 rfl rfl)
theorem dX3_pushes_137 : decode cX3_pushes 137 = .ok (.ireturn, 1) := dk_172 (dk_at dksX3_pushes_5 18 rfl rfl)
abbrev cX3_isPendulum : ByteArray := prog_19_method_10_code
def yX3_isPendulum : MethodName := ⟨RX3, "isPendulum", "(I)Z"⟩
def dkwX3_isPendulum_0 : List UInt8 := [27, 3, 42, 180, 0, 7, 5, 46, 4, 100, 184, 0, 52, 172]
abbrev dktX3_isPendulum_0 : List UInt8 := dkwX3_isPendulum_0 ++ []
theorem dksX3_isPendulum_0 : cX3_isPendulum.data.toList.drop 0 = dktX3_isPendulum_0 := by decide +kernel
theorem dX3_isPendulum_0 : decode cX3_isPendulum 0 = .ok (.iload_n 1, 1) := dk_27 (dk_at dksX3_isPendulum_0 0 rfl rfl)
theorem dX3_isPendulum_1 : decode cX3_isPendulum 1 = .ok (.iconst 0, 1) := dk_3 (dk_at dksX3_isPendulum_0 1 rfl rfl)
theorem dX3_isPendulum_2 : decode cX3_isPendulum 2 = .ok (.aload_n 0, 1) := dk_42 (dk_at dksX3_isPendulum_0 2 rfl rfl)
theorem dX3_isPendulum_3 : decode cX3_isPendulum 3 = .ok (.getfield 7, 3) := dk_180 0 7 (dk_at dksX3_isPendulum_0 3 rfl rfl)
theorem dX3_isPendulum_6 : decode cX3_isPendulum 6 = .ok (.iconst 2, 1) := dk_5 (dk_at dksX3_isPendulum_0 6 rfl rfl)
theorem dX3_isPendulum_7 : decode cX3_isPendulum 7 = .ok (.iaload, 1) := dk_46 (dk_at dksX3_isPendulum_0 7 rfl rfl)
theorem dX3_isPendulum_8 : decode cX3_isPendulum 8 = .ok (.iconst 1, 1) := dk_4 (dk_at dksX3_isPendulum_0 8 rfl rfl)
theorem dX3_isPendulum_9 : decode cX3_isPendulum 9 = .ok (.isub, 1) := dk_100 (dk_at dksX3_isPendulum_0 9 rfl rfl)
theorem dX3_isPendulum_10 : decode cX3_isPendulum 10 = .ok (.invokestatic 52, 3) := dk_184 0 52 (dk_at dksX3_isPendulum_0 10 rfl rfl)
theorem dX3_isPendulum_13 : decode cX3_isPendulum 13 = .ok (.ireturn, 1) := dk_172 (dk_at dksX3_isPendulum_0 13 rfl rfl)
abbrev cX3_rests : ByteArray := prog_19_method_11_code
def yX3_rests : MethodName := ⟨RX3, "rests", "(I)Z"⟩
def dkwX3_rests_0 : List UInt8 := [42, 180, 0, 7, 16, 12, 27, 96, 46, 154, 0, 7, 4, 167, 0, 4, 3, 172]
abbrev dktX3_rests_0 : List UInt8 := dkwX3_rests_0 ++ []
theorem dksX3_rests_0 : cX3_rests.data.toList.drop 0 = dktX3_rests_0 := by decide +kernel
theorem dX3_rests_0 : decode cX3_rests 0 = .ok (.aload_n 0, 1) := dk_42 (dk_at dksX3_rests_0 0 rfl rfl)
theorem dX3_rests_1 : decode cX3_rests 1 = .ok (.getfield 7, 3) := dk_180 0 7 (dk_at dksX3_rests_0 1 rfl rfl)
theorem dX3_rests_4 : decode cX3_rests 4 = .ok (.bipush 12, 2) := dk_16 12 (dk_at dksX3_rests_0 4 rfl rfl)
theorem dX3_rests_6 : decode cX3_rests 6 = .ok (.iload_n 1, 1) := dk_27 (dk_at dksX3_rests_0 6 rfl rfl)
theorem dX3_rests_7 : decode cX3_rests 7 = .ok (.iadd, 1) := dk_96 (dk_at dksX3_rests_0 7 rfl rfl)
theorem dX3_rests_8 : decode cX3_rests 8 = .ok (.iaload, 1) := dk_46 (dk_at dksX3_rests_0 8 rfl rfl)
theorem dX3_rests_9 : decode cX3_rests 9 = .ok (.ifCond .ne 7, 3) := dk_154 0 7 (dk_at dksX3_rests_0 9 rfl rfl)
theorem dX3_rests_12 : decode cX3_rests 12 = .ok (.iconst 1, 1) := dk_4 (dk_at dksX3_rests_0 12 rfl rfl)
theorem dX3_rests_13 : decode cX3_rests 13 = .ok (.goto 4, 3) := dk_167 0 4 (dk_at dksX3_rests_0 13 rfl rfl)
theorem dX3_rests_16 : decode cX3_rests 16 = .ok (.iconst 0, 1) := dk_3 (dk_at dksX3_rests_0 16 rfl rfl)
theorem dX3_rests_17 : decode cX3_rests 17 = .ok (.ireturn, 1) := dk_172 (dk_at dksX3_rests_0 17 rfl rfl)
abbrev cX3_kind : ByteArray := prog_19_method_12_code
def yX3_kind : MethodName := ⟨RX3, "kind", "(I)I"⟩
def dkwX3_kind_1 : List UInt8 := [162, 0, 7, 4, 167, 0, 4, 5, 172]
abbrev dktX3_kind_1 : List UInt8 := dkwX3_kind_1 ++ []
def dkwX3_kind_0 : List UInt8 := [42, 180, 0, 7, 7, 27, 96, 46, 61, 28, 16, 30, 162, 0, 7, 3, 167, 0, 14, 28, 16, 60]
abbrev dktX3_kind_0 : List UInt8 := dkwX3_kind_0 ++ dktX3_kind_1
theorem dksX3_kind_0 : cX3_kind.data.toList.drop 0 = dktX3_kind_0 := by decide +kernel
theorem dksX3_kind_1 : cX3_kind.data.toList.drop 22 = dktX3_kind_1 := dk_seg dksX3_kind_0 22 rfl rfl
theorem dX3_kind_0 : decode cX3_kind 0 = .ok (.aload_n 0, 1) := dk_42 (dk_at dksX3_kind_0 0 rfl rfl)
theorem dX3_kind_1 : decode cX3_kind 1 = .ok (.getfield 7, 3) := dk_180 0 7 (dk_at dksX3_kind_0 1 rfl rfl)
theorem dX3_kind_4 : decode cX3_kind 4 = .ok (.iconst 4, 1) := dk_7 (dk_at dksX3_kind_0 4 rfl rfl)
theorem dX3_kind_5 : decode cX3_kind 5 = .ok (.iload_n 1, 1) := dk_27 (dk_at dksX3_kind_0 5 rfl rfl)
theorem dX3_kind_6 : decode cX3_kind 6 = .ok (.iadd, 1) := dk_96 (dk_at dksX3_kind_0 6 rfl rfl)
theorem dX3_kind_7 : decode cX3_kind 7 = .ok (.iaload, 1) := dk_46 (dk_at dksX3_kind_0 7 rfl rfl)
theorem dX3_kind_8 : decode cX3_kind 8 = .ok (.istore_n 2, 1) := dk_61 (dk_at dksX3_kind_0 8 rfl rfl)
theorem dX3_kind_9 : decode cX3_kind 9 = .ok (.iload_n 2, 1) := dk_28 (dk_at dksX3_kind_0 9 rfl rfl)
theorem dX3_kind_10 : decode cX3_kind 10 = .ok (.bipush 30, 2) := dk_16 30 (dk_at dksX3_kind_0 10 rfl rfl)
theorem dX3_kind_12 : decode cX3_kind 12 = .ok (.if_icmp .ge 7, 3) := dk_162 0 7 (dk_at dksX3_kind_0 12 rfl rfl)
theorem dX3_kind_15 : decode cX3_kind 15 = .ok (.iconst 0, 1) := dk_3 (dk_at dksX3_kind_0 15 rfl rfl)
theorem dX3_kind_16 : decode cX3_kind 16 = .ok (.goto 14, 3) := dk_167 0 14 (dk_at dksX3_kind_0 16 rfl rfl)
theorem dX3_kind_19 : decode cX3_kind 19 = .ok (.iload_n 2, 1) := dk_28 (dk_at dksX3_kind_0 19 rfl rfl)
theorem dX3_kind_20 : decode cX3_kind 20 = .ok (.bipush 60, 2) := dk_16 60 (dk_at dksX3_kind_0 20 rfl rfl)
theorem dX3_kind_22 : decode cX3_kind 22 = .ok (.if_icmp .ge 7, 3) := dk_162 0 7 (dk_at dksX3_kind_1 0 rfl rfl)
theorem dX3_kind_25 : decode cX3_kind 25 = .ok (.iconst 1, 1) := dk_4 (dk_at dksX3_kind_1 3 rfl rfl)
theorem dX3_kind_26 : decode cX3_kind 26 = .ok (.goto 4, 3) := dk_167 0 4 (dk_at dksX3_kind_1 4 rfl rfl)
theorem dX3_kind_29 : decode cX3_kind 29 = .ok (.iconst 2, 1) := dk_5 (dk_at dksX3_kind_1 7 rfl rfl)
theorem dX3_kind_30 : decode cX3_kind 30 = .ok (.ireturn, 1) := dk_172 (dk_at dksX3_kind_1 8 rfl rfl)
abbrev cX3_catchPendulum : ByteArray := prog_19_method_21_code
def yX3_catchPendulum : MethodName := ⟨RX3, "catchPendulum", "(I)I"⟩
def dkwX3_catchPendulum_0 : List UInt8 := [42, 182, 0, 63, 42, 42, 27, 182, 0, 86, 182, 0, 69, 172]
abbrev dktX3_catchPendulum_0 : List UInt8 := dkwX3_catchPendulum_0 ++ []
theorem dksX3_catchPendulum_0 : cX3_catchPendulum.data.toList.drop 0 = dktX3_catchPendulum_0 := by decide +kernel
theorem dX3_catchPendulum_0 : decode cX3_catchPendulum 0 = .ok (.aload_n 0, 1) := dk_42 (dk_at dksX3_catchPendulum_0 0 rfl rfl)
theorem dX3_catchPendulum_1 : decode cX3_catchPendulum 1 = .ok (.invokevirtual 63, 3) := dk_182 0 63 (dk_at dksX3_catchPendulum_0 1 rfl rfl)
theorem dX3_catchPendulum_4 : decode cX3_catchPendulum 4 = .ok (.aload_n 0, 1) := dk_42 (dk_at dksX3_catchPendulum_0 4 rfl rfl)
theorem dX3_catchPendulum_5 : decode cX3_catchPendulum 5 = .ok (.aload_n 0, 1) := dk_42 (dk_at dksX3_catchPendulum_0 5 rfl rfl)
theorem dX3_catchPendulum_6 : decode cX3_catchPendulum 6 = .ok (.iload_n 1, 1) := dk_27 (dk_at dksX3_catchPendulum_0 6 rfl rfl)
theorem dX3_catchPendulum_7 : decode cX3_catchPendulum 7 = .ok (.invokevirtual 86, 3) := dk_182 0 86 (dk_at dksX3_catchPendulum_0 7 rfl rfl)
theorem dX3_catchPendulum_10 : decode cX3_catchPendulum 10 = .ok (.invokevirtual 69, 3) := dk_182 0 69 (dk_at dksX3_catchPendulum_0 10 rfl rfl)
theorem dX3_catchPendulum_13 : decode cX3_catchPendulum 13 = .ok (.ireturn, 1) := dk_172 (dk_at dksX3_catchPendulum_0 13 rfl rfl)
abbrev cX3_catches : ByteArray := prog_19_method_20_code
def yX3_catches : MethodName := ⟨RX3, "catches", "(I)I"⟩
def dkwX3_catches_2 : List UInt8 := [42, 28, 182, 0, 60, 172]
abbrev dktX3_catches_2 : List UInt8 := dkwX3_catches_2 ++ []
def dkwX3_catches_1 : List UInt8 := [182, 0, 56, 172, 42, 180, 0, 7, 16, 12, 27, 96, 46, 61, 42, 180, 0, 7, 16, 12, 27, 96, 3, 79]
abbrev dktX3_catches_1 : List UInt8 := dkwX3_catches_1 ++ dktX3_catches_2
def dkwX3_catches_0 : List UInt8 := [42, 27, 182, 0, 72, 154, 0, 9, 42, 4, 182, 0, 56, 172, 42, 27, 182, 0, 76, 153, 0, 9, 42, 5]
abbrev dktX3_catches_0 : List UInt8 := dkwX3_catches_0 ++ dktX3_catches_1
theorem dksX3_catches_0 : cX3_catches.data.toList.drop 0 = dktX3_catches_0 := by decide +kernel
theorem dksX3_catches_1 : cX3_catches.data.toList.drop 24 = dktX3_catches_1 := dk_seg dksX3_catches_0 24 rfl rfl
theorem dksX3_catches_2 : cX3_catches.data.toList.drop 48 = dktX3_catches_2 := dk_seg dksX3_catches_1 24 rfl rfl
theorem dX3_catches_0 : decode cX3_catches 0 = .ok (.aload_n 0, 1) := dk_42 (dk_at dksX3_catches_0 0 rfl rfl)
theorem dX3_catches_1 : decode cX3_catches 1 = .ok (.iload_n 1, 1) := dk_27 (dk_at dksX3_catches_0 1 rfl rfl)
theorem dX3_catches_2 : decode cX3_catches 2 = .ok (.invokevirtual 72, 3) := dk_182 0 72 (dk_at dksX3_catches_0 2 rfl rfl)
theorem dX3_catches_5 : decode cX3_catches 5 = .ok (.ifCond .ne 9, 3) := dk_154 0 9 (dk_at dksX3_catches_0 5 rfl rfl)
theorem dX3_catches_8 : decode cX3_catches 8 = .ok (.aload_n 0, 1) := dk_42 (dk_at dksX3_catches_0 8 rfl rfl)
theorem dX3_catches_9 : decode cX3_catches 9 = .ok (.iconst 1, 1) := dk_4 (dk_at dksX3_catches_0 9 rfl rfl)
theorem dX3_catches_10 : decode cX3_catches 10 = .ok (.invokevirtual 56, 3) := dk_182 0 56 (dk_at dksX3_catches_0 10 rfl rfl)
theorem dX3_catches_13 : decode cX3_catches 13 = .ok (.ireturn, 1) := dk_172 (dk_at dksX3_catches_0 13 rfl rfl)
theorem dX3_catches_14 : decode cX3_catches 14 = .ok (.aload_n 0, 1) := dk_42 (dk_at dksX3_catches_0 14 rfl rfl)
theorem dX3_catches_15 : decode cX3_catches 15 = .ok (.iload_n 1, 1) := dk_27 (dk_at dksX3_catches_0 15 rfl rfl)
theorem dX3_catches_16 : decode cX3_catches 16 = .ok (.invokevirtual 76, 3) := dk_182 0 76 (dk_at dksX3_catches_0 16 rfl rfl)
theorem dX3_catches_19 : decode cX3_catches 19 = .ok (.ifCond .eq 9, 3) := dk_153 0 9 (dk_at dksX3_catches_0 19 rfl rfl)
theorem dX3_catches_22 : decode cX3_catches 22 = .ok (.aload_n 0, 1) := dk_42 (dk_at dksX3_catches_0 22 rfl rfl)
theorem dX3_catches_23 : decode cX3_catches 23 = .ok (.iconst 2, 1) := dk_5 (dk_at dksX3_catches_0 23 rfl rfl)
theorem dX3_catches_24 : decode cX3_catches 24 = .ok (.invokevirtual 56, 3) := dk_182 0 56 (dk_at dksX3_catches_1 0 rfl rfl)
theorem dX3_catches_27 : decode cX3_catches 27 = .ok (.ireturn, 1) := dk_172 (dk_at dksX3_catches_1 3 rfl rfl)
theorem dX3_catches_28 : decode cX3_catches 28 = .ok (.aload_n 0, 1) := dk_42 (dk_at dksX3_catches_1 4 rfl rfl)
theorem dX3_catches_29 : decode cX3_catches 29 = .ok (.getfield 7, 3) := dk_180 0 7 (dk_at dksX3_catches_1 5 rfl rfl)
theorem dX3_catches_32 : decode cX3_catches 32 = .ok (.bipush 12, 2) := dk_16 12 (dk_at dksX3_catches_1 8 rfl rfl)
theorem dX3_catches_34 : decode cX3_catches 34 = .ok (.iload_n 1, 1) := dk_27 (dk_at dksX3_catches_1 10 rfl rfl)
theorem dX3_catches_35 : decode cX3_catches 35 = .ok (.iadd, 1) := dk_96 (dk_at dksX3_catches_1 11 rfl rfl)
theorem dX3_catches_36 : decode cX3_catches 36 = .ok (.iaload, 1) := dk_46 (dk_at dksX3_catches_1 12 rfl rfl)
theorem dX3_catches_37 : decode cX3_catches 37 = .ok (.istore_n 2, 1) := dk_61 (dk_at dksX3_catches_1 13 rfl rfl)
theorem dX3_catches_38 : decode cX3_catches 38 = .ok (.aload_n 0, 1) := dk_42 (dk_at dksX3_catches_1 14 rfl rfl)
theorem dX3_catches_39 : decode cX3_catches 39 = .ok (.getfield 7, 3) := dk_180 0 7 (dk_at dksX3_catches_1 15 rfl rfl)
theorem dX3_catches_42 : decode cX3_catches 42 = .ok (.bipush 12, 2) := dk_16 12 (dk_at dksX3_catches_1 18 rfl rfl)
theorem dX3_catches_44 : decode cX3_catches 44 = .ok (.iload_n 1, 1) := dk_27 (dk_at dksX3_catches_1 20 rfl rfl)
theorem dX3_catches_45 : decode cX3_catches 45 = .ok (.iadd, 1) := dk_96 (dk_at dksX3_catches_1 21 rfl rfl)
theorem dX3_catches_46 : decode cX3_catches 46 = .ok (.iconst 0, 1) := dk_3 (dk_at dksX3_catches_1 22 rfl rfl)
theorem dX3_catches_47 : decode cX3_catches 47 = .ok (.iastore, 1) := dk_79 (dk_at dksX3_catches_1 23 rfl rfl)
theorem dX3_catches_48 : decode cX3_catches 48 = .ok (.aload_n 0, 1) := dk_42 (dk_at dksX3_catches_2 0 rfl rfl)
theorem dX3_catches_49 : decode cX3_catches 49 = .ok (.iload_n 2, 1) := dk_28 (dk_at dksX3_catches_2 1 rfl rfl)
theorem dX3_catches_50 : decode cX3_catches 50 = .ok (.invokevirtual 60, 3) := dk_182 0 60 (dk_at dksX3_catches_2 2 rfl rfl)
theorem dX3_catches_53 : decode cX3_catches 53 = .ok (.ireturn, 1) := dk_172 (dk_at dksX3_catches_2 5 rfl rfl)
abbrev cX3_setFriction : ByteArray := prog_19_method_23_code
def yX3_setFriction : MethodName := ⟨RX3, "setFriction", "(I)I"⟩
def dkwX3_setFriction_0 : List UInt8 := [42, 182, 0, 63, 42, 42, 27, 182, 0, 89, 182, 0, 69, 172]
abbrev dktX3_setFriction_0 : List UInt8 := dkwX3_setFriction_0 ++ []
theorem dksX3_setFriction_0 : cX3_setFriction.data.toList.drop 0 = dktX3_setFriction_0 := by decide +kernel
theorem dX3_setFriction_0 : decode cX3_setFriction 0 = .ok (.aload_n 0, 1) := dk_42 (dk_at dksX3_setFriction_0 0 rfl rfl)
theorem dX3_setFriction_1 : decode cX3_setFriction 1 = .ok (.invokevirtual 63, 3) := dk_182 0 63 (dk_at dksX3_setFriction_0 1 rfl rfl)
theorem dX3_setFriction_4 : decode cX3_setFriction 4 = .ok (.aload_n 0, 1) := dk_42 (dk_at dksX3_setFriction_0 4 rfl rfl)
theorem dX3_setFriction_5 : decode cX3_setFriction 5 = .ok (.aload_n 0, 1) := dk_42 (dk_at dksX3_setFriction_0 5 rfl rfl)
theorem dX3_setFriction_6 : decode cX3_setFriction 6 = .ok (.iload_n 1, 1) := dk_27 (dk_at dksX3_setFriction_0 6 rfl rfl)
theorem dX3_setFriction_7 : decode cX3_setFriction 7 = .ok (.invokevirtual 89, 3) := dk_182 0 89 (dk_at dksX3_setFriction_0 7 rfl rfl)
theorem dX3_setFriction_10 : decode cX3_setFriction 10 = .ok (.invokevirtual 69, 3) := dk_182 0 69 (dk_at dksX3_setFriction_0 10 rfl rfl)
theorem dX3_setFriction_13 : decode cX3_setFriction 13 = .ok (.ireturn, 1) := dk_172 (dk_at dksX3_setFriction_0 13 rfl rfl)
abbrev cX3_rubs : ByteArray := prog_19_method_22_code
def yX3_rubs : MethodName := ⟨RX3, "rubs", "(I)I"⟩
def dkwX3_rubs_1 : List UInt8 := [180, 0, 7, 4, 27, 79, 42, 28, 182, 0, 60, 172]
abbrev dktX3_rubs_1 : List UInt8 := dkwX3_rubs_1 ++ []
def dkwX3_rubs_0 : List UInt8 := [27, 3, 16, 30, 184, 0, 52, 154, 0, 9, 42, 4, 182, 0, 56, 172, 42, 180, 0, 7, 4, 46, 61, 42]
abbrev dktX3_rubs_0 : List UInt8 := dkwX3_rubs_0 ++ dktX3_rubs_1
theorem dksX3_rubs_0 : cX3_rubs.data.toList.drop 0 = dktX3_rubs_0 := by decide +kernel
theorem dksX3_rubs_1 : cX3_rubs.data.toList.drop 24 = dktX3_rubs_1 := dk_seg dksX3_rubs_0 24 rfl rfl
theorem dX3_rubs_0 : decode cX3_rubs 0 = .ok (.iload_n 1, 1) := dk_27 (dk_at dksX3_rubs_0 0 rfl rfl)
theorem dX3_rubs_1 : decode cX3_rubs 1 = .ok (.iconst 0, 1) := dk_3 (dk_at dksX3_rubs_0 1 rfl rfl)
theorem dX3_rubs_2 : decode cX3_rubs 2 = .ok (.bipush 30, 2) := dk_16 30 (dk_at dksX3_rubs_0 2 rfl rfl)
theorem dX3_rubs_4 : decode cX3_rubs 4 = .ok (.invokestatic 52, 3) := dk_184 0 52 (dk_at dksX3_rubs_0 4 rfl rfl)
theorem dX3_rubs_7 : decode cX3_rubs 7 = .ok (.ifCond .ne 9, 3) := dk_154 0 9 (dk_at dksX3_rubs_0 7 rfl rfl)
theorem dX3_rubs_10 : decode cX3_rubs 10 = .ok (.aload_n 0, 1) := dk_42 (dk_at dksX3_rubs_0 10 rfl rfl)
theorem dX3_rubs_11 : decode cX3_rubs 11 = .ok (.iconst 1, 1) := dk_4 (dk_at dksX3_rubs_0 11 rfl rfl)
theorem dX3_rubs_12 : decode cX3_rubs 12 = .ok (.invokevirtual 56, 3) := dk_182 0 56 (dk_at dksX3_rubs_0 12 rfl rfl)
theorem dX3_rubs_15 : decode cX3_rubs 15 = .ok (.ireturn, 1) := dk_172 (dk_at dksX3_rubs_0 15 rfl rfl)
theorem dX3_rubs_16 : decode cX3_rubs 16 = .ok (.aload_n 0, 1) := dk_42 (dk_at dksX3_rubs_0 16 rfl rfl)
theorem dX3_rubs_17 : decode cX3_rubs 17 = .ok (.getfield 7, 3) := dk_180 0 7 (dk_at dksX3_rubs_0 17 rfl rfl)
theorem dX3_rubs_20 : decode cX3_rubs 20 = .ok (.iconst 1, 1) := dk_4 (dk_at dksX3_rubs_0 20 rfl rfl)
theorem dX3_rubs_21 : decode cX3_rubs 21 = .ok (.iaload, 1) := dk_46 (dk_at dksX3_rubs_0 21 rfl rfl)
theorem dX3_rubs_22 : decode cX3_rubs 22 = .ok (.istore_n 2, 1) := dk_61 (dk_at dksX3_rubs_0 22 rfl rfl)
theorem dX3_rubs_23 : decode cX3_rubs 23 = .ok (.aload_n 0, 1) := dk_42 (dk_at dksX3_rubs_0 23 rfl rfl)
theorem dX3_rubs_24 : decode cX3_rubs 24 = .ok (.getfield 7, 3) := dk_180 0 7 (dk_at dksX3_rubs_1 0 rfl rfl)
theorem dX3_rubs_27 : decode cX3_rubs 27 = .ok (.iconst 1, 1) := dk_4 (dk_at dksX3_rubs_1 3 rfl rfl)
theorem dX3_rubs_28 : decode cX3_rubs 28 = .ok (.iload_n 1, 1) := dk_27 (dk_at dksX3_rubs_1 4 rfl rfl)
theorem dX3_rubs_29 : decode cX3_rubs 29 = .ok (.iastore, 1) := dk_79 (dk_at dksX3_rubs_1 5 rfl rfl)
theorem dX3_rubs_30 : decode cX3_rubs 30 = .ok (.aload_n 0, 1) := dk_42 (dk_at dksX3_rubs_1 6 rfl rfl)
theorem dX3_rubs_31 : decode cX3_rubs 31 = .ok (.iload_n 2, 1) := dk_28 (dk_at dksX3_rubs_1 7 rfl rfl)
theorem dX3_rubs_32 : decode cX3_rubs 32 = .ok (.invokevirtual 60, 3) := dk_182 0 60 (dk_at dksX3_rubs_1 8 rfl rfl)
theorem dX3_rubs_35 : decode cX3_rubs 35 = .ok (.ireturn, 1) := dk_172 (dk_at dksX3_rubs_1 11 rfl rfl)
abbrev cX3_pass : ByteArray := prog_19_method_26_code
def yX3_pass : MethodName := ⟨RX3, "pass", "(I)I"⟩
def dkwX3_pass_0 : List UInt8 := [42, 182, 0, 63, 42, 42, 27, 182, 0, 102, 182, 0, 69, 172]
abbrev dktX3_pass_0 : List UInt8 := dkwX3_pass_0 ++ []
theorem dksX3_pass_0 : cX3_pass.data.toList.drop 0 = dktX3_pass_0 := by decide +kernel
theorem dX3_pass_0 : decode cX3_pass 0 = .ok (.aload_n 0, 1) := dk_42 (dk_at dksX3_pass_0 0 rfl rfl)
theorem dX3_pass_1 : decode cX3_pass 1 = .ok (.invokevirtual 63, 3) := dk_182 0 63 (dk_at dksX3_pass_0 1 rfl rfl)
theorem dX3_pass_4 : decode cX3_pass 4 = .ok (.aload_n 0, 1) := dk_42 (dk_at dksX3_pass_0 4 rfl rfl)
theorem dX3_pass_5 : decode cX3_pass 5 = .ok (.aload_n 0, 1) := dk_42 (dk_at dksX3_pass_0 5 rfl rfl)
theorem dX3_pass_6 : decode cX3_pass 6 = .ok (.iload_n 1, 1) := dk_27 (dk_at dksX3_pass_0 6 rfl rfl)
theorem dX3_pass_7 : decode cX3_pass 7 = .ok (.invokevirtual 102, 3) := dk_182 0 102 (dk_at dksX3_pass_0 7 rfl rfl)
theorem dX3_pass_10 : decode cX3_pass 10 = .ok (.invokevirtual 69, 3) := dk_182 0 69 (dk_at dksX3_pass_0 10 rfl rfl)
theorem dX3_pass_13 : decode cX3_pass 13 = .ok (.ireturn, 1) := dk_172 (dk_at dksX3_pass_0 13 rfl rfl)
abbrev cX3_passes : ByteArray := prog_19_method_25_code
def yX3_passes : MethodName := ⟨RX3, "passes", "(I)I"⟩
def dkwX3_passes_1 : List UInt8 := [162, 0, 16, 28, 42, 182, 0, 98, 96, 61, 132, 3, 1, 167, 255, 241, 42, 28, 182, 0, 60, 172]
abbrev dktX3_passes_1 : List UInt8 := dkwX3_passes_1 ++ []
def dkwX3_passes_0 : List UInt8 := [27, 4, 17, 1, 244, 184, 0, 52, 154, 0, 9, 42, 4, 182, 0, 56, 172, 3, 61, 3, 62, 29, 27]
abbrev dktX3_passes_0 : List UInt8 := dkwX3_passes_0 ++ dktX3_passes_1
theorem dksX3_passes_0 : cX3_passes.data.toList.drop 0 = dktX3_passes_0 := by decide +kernel
theorem dksX3_passes_1 : cX3_passes.data.toList.drop 23 = dktX3_passes_1 := dk_seg dksX3_passes_0 23 rfl rfl
theorem dX3_passes_0 : decode cX3_passes 0 = .ok (.iload_n 1, 1) := dk_27 (dk_at dksX3_passes_0 0 rfl rfl)
theorem dX3_passes_1 : decode cX3_passes 1 = .ok (.iconst 1, 1) := dk_4 (dk_at dksX3_passes_0 1 rfl rfl)
theorem dX3_passes_2 : decode cX3_passes 2 = .ok (.sipush 500, 3) := dk_17 1 244 (dk_at dksX3_passes_0 2 rfl rfl)
theorem dX3_passes_5 : decode cX3_passes 5 = .ok (.invokestatic 52, 3) := dk_184 0 52 (dk_at dksX3_passes_0 5 rfl rfl)
theorem dX3_passes_8 : decode cX3_passes 8 = .ok (.ifCond .ne 9, 3) := dk_154 0 9 (dk_at dksX3_passes_0 8 rfl rfl)
theorem dX3_passes_11 : decode cX3_passes 11 = .ok (.aload_n 0, 1) := dk_42 (dk_at dksX3_passes_0 11 rfl rfl)
theorem dX3_passes_12 : decode cX3_passes 12 = .ok (.iconst 1, 1) := dk_4 (dk_at dksX3_passes_0 12 rfl rfl)
theorem dX3_passes_13 : decode cX3_passes 13 = .ok (.invokevirtual 56, 3) := dk_182 0 56 (dk_at dksX3_passes_0 13 rfl rfl)
theorem dX3_passes_16 : decode cX3_passes 16 = .ok (.ireturn, 1) := dk_172 (dk_at dksX3_passes_0 16 rfl rfl)
theorem dX3_passes_17 : decode cX3_passes 17 = .ok (.iconst 0, 1) := dk_3 (dk_at dksX3_passes_0 17 rfl rfl)
theorem dX3_passes_18 : decode cX3_passes 18 = .ok (.istore_n 2, 1) := dk_61 (dk_at dksX3_passes_0 18 rfl rfl)
theorem dX3_passes_19 : decode cX3_passes 19 = .ok (.iconst 0, 1) := dk_3 (dk_at dksX3_passes_0 19 rfl rfl)
theorem dX3_passes_20 : decode cX3_passes 20 = .ok (.istore_n 3, 1) := dk_62 (dk_at dksX3_passes_0 20 rfl rfl)
theorem dX3_passes_21 : decode cX3_passes 21 = .ok (.iload_n 3, 1) := dk_29 (dk_at dksX3_passes_0 21 rfl rfl)
theorem dX3_passes_22 : decode cX3_passes 22 = .ok (.iload_n 1, 1) := dk_27 (dk_at dksX3_passes_0 22 rfl rfl)
theorem dX3_passes_23 : decode cX3_passes 23 = .ok (.if_icmp .ge 16, 3) := dk_162 0 16 (dk_at dksX3_passes_1 0 rfl rfl)
theorem dX3_passes_26 : decode cX3_passes 26 = .ok (.iload_n 2, 1) := dk_28 (dk_at dksX3_passes_1 3 rfl rfl)
theorem dX3_passes_27 : decode cX3_passes 27 = .ok (.aload_n 0, 1) := dk_42 (dk_at dksX3_passes_1 4 rfl rfl)
theorem dX3_passes_28 : decode cX3_passes 28 = .ok (.invokevirtual 98, 3) := dk_182 0 98 (dk_at dksX3_passes_1 5 rfl rfl)
theorem dX3_passes_31 : decode cX3_passes 31 = .ok (.iadd, 1) := dk_96 (dk_at dksX3_passes_1 8 rfl rfl)
theorem dX3_passes_32 : decode cX3_passes 32 = .ok (.istore_n 2, 1) := dk_61 (dk_at dksX3_passes_1 9 rfl rfl)
theorem dX3_passes_33 : decode cX3_passes 33 = .ok (.iinc 3 1, 3) := dk_132 3 1 (dk_at dksX3_passes_1 10 rfl rfl)
theorem dX3_passes_36 : decode cX3_passes 36 = .ok (.goto (-15), 3) := dk_167 255 241 (dk_at dksX3_passes_1 13 rfl rfl)
theorem dX3_passes_39 : decode cX3_passes 39 = .ok (.aload_n 0, 1) := dk_42 (dk_at dksX3_passes_1 16 rfl rfl)
theorem dX3_passes_40 : decode cX3_passes 40 = .ok (.iload_n 2, 1) := dk_28 (dk_at dksX3_passes_1 17 rfl rfl)
theorem dX3_passes_41 : decode cX3_passes 41 = .ok (.invokevirtual 60, 3) := dk_182 0 60 (dk_at dksX3_passes_1 18 rfl rfl)
theorem dX3_passes_44 : decode cX3_passes 44 = .ok (.ireturn, 1) := dk_172 (dk_at dksX3_passes_1 21 rfl rfl)
abbrev cX3_passesTick : ByteArray := prog_19_method_24_code
def yX3_passesTick : MethodName := ⟨RX3, "passesTick", "()I"⟩
def dkwX3_passesTick_4 : List UInt8 := [132, 2, 1, 167, 255, 172, 27, 172]
abbrev dktX3_passesTick_4 : List UInt8 := dkwX3_passesTick_4 ++ []
def dkwX3_passesTick_3 : List UInt8 := [28, 96, 46, 182, 0, 95, 79, 42, 180, 0, 7, 16, 28, 28, 96, 92, 46, 4, 96, 79, 132, 1, 1]
abbrev dktX3_passesTick_3 : List UInt8 := dkwX3_passesTick_3 ++ dktX3_passesTick_4
def dkwX3_passesTick_2 : List UInt8 := [42, 28, 182, 0, 92, 112, 154, 0, 41, 42, 180, 0, 7, 16, 12, 28, 96, 42, 42, 180, 0, 7, 16, 12]
abbrev dktX3_passesTick_2 : List UInt8 := dkwX3_passesTick_2 ++ dktX3_passesTick_3
def dkwX3_passesTick_1 : List UInt8 := [42, 28, 182, 0, 76, 154, 0, 66, 42, 180, 0, 7, 3, 46, 42, 180, 0, 7, 16, 20, 28, 96, 46, 100]
abbrev dktX3_passesTick_1 : List UInt8 := dkwX3_passesTick_1 ++ dktX3_passesTick_2
def dkwX3_passesTick_0 : List UInt8 := [42, 180, 0, 7, 3, 92, 46, 4, 96, 79, 3, 60, 3, 61, 28, 42, 180, 0, 7, 5, 46, 162, 0, 80]
abbrev dktX3_passesTick_0 : List UInt8 := dkwX3_passesTick_0 ++ dktX3_passesTick_1
theorem dksX3_passesTick_0 : cX3_passesTick.data.toList.drop 0 = dktX3_passesTick_0 := by decide +kernel
theorem dksX3_passesTick_1 : cX3_passesTick.data.toList.drop 24 = dktX3_passesTick_1 := dk_seg dksX3_passesTick_0 24 rfl rfl
theorem dksX3_passesTick_2 : cX3_passesTick.data.toList.drop 48 = dktX3_passesTick_2 := dk_seg dksX3_passesTick_1 24 rfl rfl
theorem dksX3_passesTick_3 : cX3_passesTick.data.toList.drop 72 = dktX3_passesTick_3 := dk_seg dksX3_passesTick_2 24 rfl rfl
theorem dksX3_passesTick_4 : cX3_passesTick.data.toList.drop 95 = dktX3_passesTick_4 := dk_seg dksX3_passesTick_3 23 rfl rfl
theorem dX3_passesTick_0 : decode cX3_passesTick 0 = .ok (.aload_n 0, 1) := dk_42 (dk_at dksX3_passesTick_0 0 rfl rfl)
theorem dX3_passesTick_1 : decode cX3_passesTick 1 = .ok (.getfield 7, 3) := dk_180 0 7 (dk_at dksX3_passesTick_0 1 rfl rfl)
theorem dX3_passesTick_4 : decode cX3_passesTick 4 = .ok (.iconst 0, 1) := dk_3 (dk_at dksX3_passesTick_0 4 rfl rfl)
theorem dX3_passesTick_5 : decode cX3_passesTick 5 = .ok (.dup2, 1) := dk_92 (dk_at dksX3_passesTick_0 5 rfl rfl)
theorem dX3_passesTick_6 : decode cX3_passesTick 6 = .ok (.iaload, 1) := dk_46 (dk_at dksX3_passesTick_0 6 rfl rfl)
theorem dX3_passesTick_7 : decode cX3_passesTick 7 = .ok (.iconst 1, 1) := dk_4 (dk_at dksX3_passesTick_0 7 rfl rfl)
theorem dX3_passesTick_8 : decode cX3_passesTick 8 = .ok (.iadd, 1) := dk_96 (dk_at dksX3_passesTick_0 8 rfl rfl)
theorem dX3_passesTick_9 : decode cX3_passesTick 9 = .ok (.iastore, 1) := dk_79 (dk_at dksX3_passesTick_0 9 rfl rfl)
theorem dX3_passesTick_10 : decode cX3_passesTick 10 = .ok (.iconst 0, 1) := dk_3 (dk_at dksX3_passesTick_0 10 rfl rfl)
theorem dX3_passesTick_11 : decode cX3_passesTick 11 = .ok (.istore_n 1, 1) := dk_60 (dk_at dksX3_passesTick_0 11 rfl rfl)
theorem dX3_passesTick_12 : decode cX3_passesTick 12 = .ok (.iconst 0, 1) := dk_3 (dk_at dksX3_passesTick_0 12 rfl rfl)
theorem dX3_passesTick_13 : decode cX3_passesTick 13 = .ok (.istore_n 2, 1) := dk_61 (dk_at dksX3_passesTick_0 13 rfl rfl)
theorem dX3_passesTick_14 : decode cX3_passesTick 14 = .ok (.iload_n 2, 1) := dk_28 (dk_at dksX3_passesTick_0 14 rfl rfl)
theorem dX3_passesTick_15 : decode cX3_passesTick 15 = .ok (.aload_n 0, 1) := dk_42 (dk_at dksX3_passesTick_0 15 rfl rfl)
theorem dX3_passesTick_16 : decode cX3_passesTick 16 = .ok (.getfield 7, 3) := dk_180 0 7 (dk_at dksX3_passesTick_0 16 rfl rfl)
theorem dX3_passesTick_19 : decode cX3_passesTick 19 = .ok (.iconst 2, 1) := dk_5 (dk_at dksX3_passesTick_0 19 rfl rfl)
theorem dX3_passesTick_20 : decode cX3_passesTick 20 = .ok (.iaload, 1) := dk_46 (dk_at dksX3_passesTick_0 20 rfl rfl)
theorem dX3_passesTick_21 : decode cX3_passesTick 21 = .ok (.if_icmp .ge 80, 3) := dk_162 0 80 (dk_at dksX3_passesTick_0 21 rfl rfl)
theorem dX3_passesTick_24 : decode cX3_passesTick 24 = .ok (.aload_n 0, 1) := dk_42 (dk_at dksX3_passesTick_1 0 rfl rfl)
theorem dX3_passesTick_25 : decode cX3_passesTick 25 = .ok (.iload_n 2, 1) := dk_28 (dk_at dksX3_passesTick_1 1 rfl rfl)
theorem dX3_passesTick_26 : decode cX3_passesTick 26 = .ok (.invokevirtual 76, 3) := dk_182 0 76 (dk_at dksX3_passesTick_1 2 rfl rfl)
theorem dX3_passesTick_29 : decode cX3_passesTick 29 = .ok (.ifCond .ne 66, 3) := dk_154 0 66 (dk_at dksX3_passesTick_1 5 rfl rfl)
theorem dX3_passesTick_32 : decode cX3_passesTick 32 = .ok (.aload_n 0, 1) := dk_42 (dk_at dksX3_passesTick_1 8 rfl rfl)
theorem dX3_passesTick_33 : decode cX3_passesTick 33 = .ok (.getfield 7, 3) := dk_180 0 7 (dk_at dksX3_passesTick_1 9 rfl rfl)
theorem dX3_passesTick_36 : decode cX3_passesTick 36 = .ok (.iconst 0, 1) := dk_3 (dk_at dksX3_passesTick_1 12 rfl rfl)
theorem dX3_passesTick_37 : decode cX3_passesTick 37 = .ok (.iaload, 1) := dk_46 (dk_at dksX3_passesTick_1 13 rfl rfl)
theorem dX3_passesTick_38 : decode cX3_passesTick 38 = .ok (.aload_n 0, 1) := dk_42 (dk_at dksX3_passesTick_1 14 rfl rfl)
theorem dX3_passesTick_39 : decode cX3_passesTick 39 = .ok (.getfield 7, 3) := dk_180 0 7 (dk_at dksX3_passesTick_1 15 rfl rfl)
theorem dX3_passesTick_42 : decode cX3_passesTick 42 = .ok (.bipush 20, 2) := dk_16 20 (dk_at dksX3_passesTick_1 18 rfl rfl)
theorem dX3_passesTick_44 : decode cX3_passesTick 44 = .ok (.iload_n 2, 1) := dk_28 (dk_at dksX3_passesTick_1 20 rfl rfl)
theorem dX3_passesTick_45 : decode cX3_passesTick 45 = .ok (.iadd, 1) := dk_96 (dk_at dksX3_passesTick_1 21 rfl rfl)
theorem dX3_passesTick_46 : decode cX3_passesTick 46 = .ok (.iaload, 1) := dk_46 (dk_at dksX3_passesTick_1 22 rfl rfl)
theorem dX3_passesTick_47 : decode cX3_passesTick 47 = .ok (.isub, 1) := dk_100 (dk_at dksX3_passesTick_1 23 rfl rfl)
theorem dX3_passesTick_48 : decode cX3_passesTick 48 = .ok (.aload_n 0, 1) := dk_42 (dk_at dksX3_passesTick_2 0 rfl rfl)
theorem dX3_passesTick_49 : decode cX3_passesTick 49 = .ok (.iload_n 2, 1) := dk_28 (dk_at dksX3_passesTick_2 1 rfl rfl)
theorem dX3_passesTick_50 : decode cX3_passesTick 50 = .ok (.invokevirtual 92, 3) := dk_182 0 92 (dk_at dksX3_passesTick_2 2 rfl rfl)
theorem dX3_passesTick_53 : decode cX3_passesTick 53 = .ok (.irem, 1) := dk_112 (dk_at dksX3_passesTick_2 5 rfl rfl)
theorem dX3_passesTick_54 : decode cX3_passesTick 54 = .ok (.ifCond .ne 41, 3) := dk_154 0 41 (dk_at dksX3_passesTick_2 6 rfl rfl)
theorem dX3_passesTick_57 : decode cX3_passesTick 57 = .ok (.aload_n 0, 1) := dk_42 (dk_at dksX3_passesTick_2 9 rfl rfl)
theorem dX3_passesTick_58 : decode cX3_passesTick 58 = .ok (.getfield 7, 3) := dk_180 0 7 (dk_at dksX3_passesTick_2 10 rfl rfl)
theorem dX3_passesTick_61 : decode cX3_passesTick 61 = .ok (.bipush 12, 2) := dk_16 12 (dk_at dksX3_passesTick_2 13 rfl rfl)
theorem dX3_passesTick_63 : decode cX3_passesTick 63 = .ok (.iload_n 2, 1) := dk_28 (dk_at dksX3_passesTick_2 15 rfl rfl)
theorem dX3_passesTick_64 : decode cX3_passesTick 64 = .ok (.iadd, 1) := dk_96 (dk_at dksX3_passesTick_2 16 rfl rfl)
theorem dX3_passesTick_65 : decode cX3_passesTick 65 = .ok (.aload_n 0, 1) := dk_42 (dk_at dksX3_passesTick_2 17 rfl rfl)
theorem dX3_passesTick_66 : decode cX3_passesTick 66 = .ok (.aload_n 0, 1) := dk_42 (dk_at dksX3_passesTick_2 18 rfl rfl)
theorem dX3_passesTick_67 : decode cX3_passesTick 67 = .ok (.getfield 7, 3) := dk_180 0 7 (dk_at dksX3_passesTick_2 19 rfl rfl)
theorem dX3_passesTick_70 : decode cX3_passesTick 70 = .ok (.bipush 12, 2) := dk_16 12 (dk_at dksX3_passesTick_2 22 rfl rfl)
theorem dX3_passesTick_72 : decode cX3_passesTick 72 = .ok (.iload_n 2, 1) := dk_28 (dk_at dksX3_passesTick_3 0 rfl rfl)
theorem dX3_passesTick_73 : decode cX3_passesTick 73 = .ok (.iadd, 1) := dk_96 (dk_at dksX3_passesTick_3 1 rfl rfl)
theorem dX3_passesTick_74 : decode cX3_passesTick 74 = .ok (.iaload, 1) := dk_46 (dk_at dksX3_passesTick_3 2 rfl rfl)
theorem dX3_passesTick_75 : decode cX3_passesTick 75 = .ok (.invokevirtual 95, 3) := dk_182 0 95 (dk_at dksX3_passesTick_3 3 rfl rfl)
theorem dX3_passesTick_78 : decode cX3_passesTick 78 = .ok (.iastore, 1) := dk_79 (dk_at dksX3_passesTick_3 6 rfl rfl)
theorem dX3_passesTick_79 : decode cX3_passesTick 79 = .ok (.aload_n 0, 1) := dk_42 (dk_at dksX3_passesTick_3 7 rfl rfl)
theorem dX3_passesTick_80 : decode cX3_passesTick 80 = .ok (.getfield 7, 3) := dk_180 0 7 (dk_at dksX3_passesTick_3 8 rfl rfl)
theorem dX3_passesTick_83 : decode cX3_passesTick 83 = .ok (.bipush 28, 2) := dk_16 28 (dk_at dksX3_passesTick_3 11 rfl rfl)
theorem dX3_passesTick_85 : decode cX3_passesTick 85 = .ok (.iload_n 2, 1) := dk_28 (dk_at dksX3_passesTick_3 13 rfl rfl)
theorem dX3_passesTick_86 : decode cX3_passesTick 86 = .ok (.iadd, 1) := dk_96 (dk_at dksX3_passesTick_3 14 rfl rfl)
theorem dX3_passesTick_87 : decode cX3_passesTick 87 = .ok (.dup2, 1) := dk_92 (dk_at dksX3_passesTick_3 15 rfl rfl)
theorem dX3_passesTick_88 : decode cX3_passesTick 88 = .ok (.iaload, 1) := dk_46 (dk_at dksX3_passesTick_3 16 rfl rfl)
theorem dX3_passesTick_89 : decode cX3_passesTick 89 = .ok (.iconst 1, 1) := dk_4 (dk_at dksX3_passesTick_3 17 rfl rfl)
theorem dX3_passesTick_90 : decode cX3_passesTick 90 = .ok (.iadd, 1) := dk_96 (dk_at dksX3_passesTick_3 18 rfl rfl)
theorem dX3_passesTick_91 : decode cX3_passesTick 91 = .ok (.iastore, 1) := dk_79 (dk_at dksX3_passesTick_3 19 rfl rfl)
theorem dX3_passesTick_92 : decode cX3_passesTick 92 = .ok (.iinc 1 1, 3) := dk_132 1 1 (dk_at dksX3_passesTick_3 20 rfl rfl)
theorem dX3_passesTick_95 : decode cX3_passesTick 95 = .ok (.iinc 2 1, 3) := dk_132 2 1 (dk_at dksX3_passesTick_4 0 rfl rfl)
theorem dX3_passesTick_98 : decode cX3_passesTick 98 = .ok (.goto (-84), 3) := dk_167 255 172 (dk_at dksX3_passesTick_4 3 rfl rfl)
theorem dX3_passesTick_101 : decode cX3_passesTick 101 = .ok (.iload_n 1, 1) := dk_27 (dk_at dksX3_passesTick_4 6 rfl rfl)
theorem dX3_passesTick_102 : decode cX3_passesTick 102 = .ok (.ireturn, 1) := dk_172 (dk_at dksX3_passesTick_4 7 rfl rfl)
abbrev cX3_period : ByteArray := prog_19_method_13_code
def yX3_period : MethodName := ⟨RX3, "period", "(I)I"⟩
def dkwX3_period_1 : List UInt8 := [132, 2, 1, 167, 255, 232, 28, 172]
abbrev dktX3_period_1 : List UInt8 := dkwX3_period_1 ++ []
def dkwX3_period_0 : List UInt8 := [3, 61, 28, 4, 96, 28, 4, 96, 104, 16, 36, 42, 180, 0, 7, 7, 27, 96, 46, 104, 163, 0, 9]
abbrev dktX3_period_0 : List UInt8 := dkwX3_period_0 ++ dktX3_period_1
theorem dksX3_period_0 : cX3_period.data.toList.drop 0 = dktX3_period_0 := by decide +kernel
theorem dksX3_period_1 : cX3_period.data.toList.drop 23 = dktX3_period_1 := dk_seg dksX3_period_0 23 rfl rfl
theorem dX3_period_0 : decode cX3_period 0 = .ok (.iconst 0, 1) := dk_3 (dk_at dksX3_period_0 0 rfl rfl)
theorem dX3_period_1 : decode cX3_period 1 = .ok (.istore_n 2, 1) := dk_61 (dk_at dksX3_period_0 1 rfl rfl)
theorem dX3_period_2 : decode cX3_period 2 = .ok (.iload_n 2, 1) := dk_28 (dk_at dksX3_period_0 2 rfl rfl)
theorem dX3_period_3 : decode cX3_period 3 = .ok (.iconst 1, 1) := dk_4 (dk_at dksX3_period_0 3 rfl rfl)
theorem dX3_period_4 : decode cX3_period 4 = .ok (.iadd, 1) := dk_96 (dk_at dksX3_period_0 4 rfl rfl)
theorem dX3_period_5 : decode cX3_period 5 = .ok (.iload_n 2, 1) := dk_28 (dk_at dksX3_period_0 5 rfl rfl)
theorem dX3_period_6 : decode cX3_period 6 = .ok (.iconst 1, 1) := dk_4 (dk_at dksX3_period_0 6 rfl rfl)
theorem dX3_period_7 : decode cX3_period 7 = .ok (.iadd, 1) := dk_96 (dk_at dksX3_period_0 7 rfl rfl)
theorem dX3_period_8 : decode cX3_period 8 = .ok (.imul, 1) := dk_104 (dk_at dksX3_period_0 8 rfl rfl)
theorem dX3_period_9 : decode cX3_period 9 = .ok (.bipush 36, 2) := dk_16 36 (dk_at dksX3_period_0 9 rfl rfl)
theorem dX3_period_11 : decode cX3_period 11 = .ok (.aload_n 0, 1) := dk_42 (dk_at dksX3_period_0 11 rfl rfl)
theorem dX3_period_12 : decode cX3_period 12 = .ok (.getfield 7, 3) := dk_180 0 7 (dk_at dksX3_period_0 12 rfl rfl)
theorem dX3_period_15 : decode cX3_period 15 = .ok (.iconst 4, 1) := dk_7 (dk_at dksX3_period_0 15 rfl rfl)
theorem dX3_period_16 : decode cX3_period 16 = .ok (.iload_n 1, 1) := dk_27 (dk_at dksX3_period_0 16 rfl rfl)
theorem dX3_period_17 : decode cX3_period 17 = .ok (.iadd, 1) := dk_96 (dk_at dksX3_period_0 17 rfl rfl)
theorem dX3_period_18 : decode cX3_period 18 = .ok (.iaload, 1) := dk_46 (dk_at dksX3_period_0 18 rfl rfl)
theorem dX3_period_19 : decode cX3_period 19 = .ok (.imul, 1) := dk_104 (dk_at dksX3_period_0 19 rfl rfl)
theorem dX3_period_20 : decode cX3_period 20 = .ok (.if_icmp .gt 9, 3) := dk_163 0 9 (dk_at dksX3_period_0 20 rfl rfl)
theorem dX3_period_23 : decode cX3_period 23 = .ok (.iinc 2 1, 3) := dk_132 2 1 (dk_at dksX3_period_1 0 rfl rfl)
theorem dX3_period_26 : decode cX3_period 26 = .ok (.goto (-24), 3) := dk_167 255 232 (dk_at dksX3_period_1 3 rfl rfl)
theorem dX3_period_29 : decode cX3_period 29 = .ok (.iload_n 2, 1) := dk_28 (dk_at dksX3_period_1 6 rfl rfl)
theorem dX3_period_30 : decode cX3_period 30 = .ok (.ireturn, 1) := dk_172 (dk_at dksX3_period_1 7 rfl rfl)
abbrev cX3_behindSwing : ByteArray := prog_19_method_14_code
def yX3_behindSwing : MethodName := ⟨RX3, "behindSwing", "(I)I"⟩
def dkwX3_behindSwing_1 : List UInt8 := [172]
abbrev dktX3_behindSwing_1 : List UInt8 := dkwX3_behindSwing_1 ++ []
def dkwX3_behindSwing_0 : List UInt8 := [27, 42, 180, 0, 7, 4, 46, 104, 16, 100, 108, 61, 27, 28, 4, 162, 0, 7, 4, 167, 0, 4, 28, 100]
abbrev dktX3_behindSwing_0 : List UInt8 := dkwX3_behindSwing_0 ++ dktX3_behindSwing_1
theorem dksX3_behindSwing_0 : cX3_behindSwing.data.toList.drop 0 = dktX3_behindSwing_0 := by decide +kernel
theorem dksX3_behindSwing_1 : cX3_behindSwing.data.toList.drop 24 = dktX3_behindSwing_1 := dk_seg dksX3_behindSwing_0 24 rfl rfl
theorem dX3_behindSwing_0 : decode cX3_behindSwing 0 = .ok (.iload_n 1, 1) := dk_27 (dk_at dksX3_behindSwing_0 0 rfl rfl)
theorem dX3_behindSwing_1 : decode cX3_behindSwing 1 = .ok (.aload_n 0, 1) := dk_42 (dk_at dksX3_behindSwing_0 1 rfl rfl)
theorem dX3_behindSwing_2 : decode cX3_behindSwing 2 = .ok (.getfield 7, 3) := dk_180 0 7 (dk_at dksX3_behindSwing_0 2 rfl rfl)
theorem dX3_behindSwing_5 : decode cX3_behindSwing 5 = .ok (.iconst 1, 1) := dk_4 (dk_at dksX3_behindSwing_0 5 rfl rfl)
theorem dX3_behindSwing_6 : decode cX3_behindSwing 6 = .ok (.iaload, 1) := dk_46 (dk_at dksX3_behindSwing_0 6 rfl rfl)
theorem dX3_behindSwing_7 : decode cX3_behindSwing 7 = .ok (.imul, 1) := dk_104 (dk_at dksX3_behindSwing_0 7 rfl rfl)
theorem dX3_behindSwing_8 : decode cX3_behindSwing 8 = .ok (.bipush 100, 2) := dk_16 100 (dk_at dksX3_behindSwing_0 8 rfl rfl)
theorem dX3_behindSwing_10 : decode cX3_behindSwing 10 = .ok (.idiv, 1) := dk_108 (dk_at dksX3_behindSwing_0 10 rfl rfl)
theorem dX3_behindSwing_11 : decode cX3_behindSwing 11 = .ok (.istore_n 2, 1) := dk_61 (dk_at dksX3_behindSwing_0 11 rfl rfl)
theorem dX3_behindSwing_12 : decode cX3_behindSwing 12 = .ok (.iload_n 1, 1) := dk_27 (dk_at dksX3_behindSwing_0 12 rfl rfl)
theorem dX3_behindSwing_13 : decode cX3_behindSwing 13 = .ok (.iload_n 2, 1) := dk_28 (dk_at dksX3_behindSwing_0 13 rfl rfl)
theorem dX3_behindSwing_14 : decode cX3_behindSwing 14 = .ok (.iconst 1, 1) := dk_4 (dk_at dksX3_behindSwing_0 14 rfl rfl)
theorem dX3_behindSwing_15 : decode cX3_behindSwing 15 = .ok (.if_icmp .ge 7, 3) := dk_162 0 7 (dk_at dksX3_behindSwing_0 15 rfl rfl)
theorem dX3_behindSwing_18 : decode cX3_behindSwing 18 = .ok (.iconst 1, 1) := dk_4 (dk_at dksX3_behindSwing_0 18 rfl rfl)
theorem dX3_behindSwing_19 : decode cX3_behindSwing 19 = .ok (.goto 4, 3) := dk_167 0 4 (dk_at dksX3_behindSwing_0 19 rfl rfl)
theorem dX3_behindSwing_22 : decode cX3_behindSwing 22 = .ok (.iload_n 2, 1) := dk_28 (dk_at dksX3_behindSwing_0 22 rfl rfl)
theorem dX3_behindSwing_23 : decode cX3_behindSwing 23 = .ok (.isub, 1) := dk_100 (dk_at dksX3_behindSwing_0 23 rfl rfl)
theorem dX3_behindSwing_24 : decode cX3_behindSwing 24 = .ok (.ireturn, 1) := dk_172 (dk_at dksX3_behindSwing_1 0 rfl rfl)
abbrev cX3_pendulumCount : ByteArray := prog_19_method_27_code
def yX3_pendulumCount : MethodName := ⟨RX3, "pendulumCount", "()I"⟩
def dkwX3_pendulumCount_0 : List UInt8 := [42, 42, 180, 0, 7, 5, 46, 182, 0, 60, 172]
abbrev dktX3_pendulumCount_0 : List UInt8 := dkwX3_pendulumCount_0 ++ []
theorem dksX3_pendulumCount_0 : cX3_pendulumCount.data.toList.drop 0 = dktX3_pendulumCount_0 := by decide +kernel
theorem dX3_pendulumCount_0 : decode cX3_pendulumCount 0 = .ok (.aload_n 0, 1) := dk_42 (dk_at dksX3_pendulumCount_0 0 rfl rfl)
theorem dX3_pendulumCount_1 : decode cX3_pendulumCount 1 = .ok (.aload_n 0, 1) := dk_42 (dk_at dksX3_pendulumCount_0 1 rfl rfl)
theorem dX3_pendulumCount_2 : decode cX3_pendulumCount 2 = .ok (.getfield 7, 3) := dk_180 0 7 (dk_at dksX3_pendulumCount_0 2 rfl rfl)
theorem dX3_pendulumCount_5 : decode cX3_pendulumCount 5 = .ok (.iconst 2, 1) := dk_5 (dk_at dksX3_pendulumCount_0 5 rfl rfl)
theorem dX3_pendulumCount_6 : decode cX3_pendulumCount 6 = .ok (.iaload, 1) := dk_46 (dk_at dksX3_pendulumCount_0 6 rfl rfl)
theorem dX3_pendulumCount_7 : decode cX3_pendulumCount 7 = .ok (.invokevirtual 60, 3) := dk_182 0 60 (dk_at dksX3_pendulumCount_0 7 rfl rfl)
theorem dX3_pendulumCount_10 : decode cX3_pendulumCount 10 = .ok (.ireturn, 1) := dk_172 (dk_at dksX3_pendulumCount_0 10 rfl rfl)
abbrev cX3_lengthOf : ByteArray := prog_19_method_29_code
def yX3_lengthOf : MethodName := ⟨RX3, "lengthOf", "(I)I"⟩
def dkwX3_lengthOf_0 : List UInt8 := [42, 7, 27, 182, 0, 105, 172]
abbrev dktX3_lengthOf_0 : List UInt8 := dkwX3_lengthOf_0 ++ []
theorem dksX3_lengthOf_0 : cX3_lengthOf.data.toList.drop 0 = dktX3_lengthOf_0 := by decide +kernel
theorem dX3_lengthOf_0 : decode cX3_lengthOf 0 = .ok (.aload_n 0, 1) := dk_42 (dk_at dksX3_lengthOf_0 0 rfl rfl)
theorem dX3_lengthOf_1 : decode cX3_lengthOf 1 = .ok (.iconst 4, 1) := dk_7 (dk_at dksX3_lengthOf_0 1 rfl rfl)
theorem dX3_lengthOf_2 : decode cX3_lengthOf 2 = .ok (.iload_n 1, 1) := dk_27 (dk_at dksX3_lengthOf_0 2 rfl rfl)
theorem dX3_lengthOf_3 : decode cX3_lengthOf 3 = .ok (.invokevirtual 105, 3) := dk_182 0 105 (dk_at dksX3_lengthOf_0 3 rfl rfl)
theorem dX3_lengthOf_6 : decode cX3_lengthOf 6 = .ok (.ireturn, 1) := dk_172 (dk_at dksX3_lengthOf_0 6 rfl rfl)
abbrev cX3_pendulumNumber : ByteArray := prog_19_method_28_code
def yX3_pendulumNumber : MethodName := ⟨RX3, "pendulumNumber", "(II)I"⟩
def dkwX3_pendulumNumber_1 : List UInt8 := [4, 182, 0, 56, 172]
abbrev dktX3_pendulumNumber_1 : List UInt8 := dkwX3_pendulumNumber_1 ++ []
def dkwX3_pendulumNumber_0 : List UInt8 := [42, 28, 182, 0, 72, 153, 0, 18, 42, 42, 180, 0, 7, 27, 28, 96, 46, 182, 0, 60, 167, 0, 8, 42]
abbrev dktX3_pendulumNumber_0 : List UInt8 := dkwX3_pendulumNumber_0 ++ dktX3_pendulumNumber_1
theorem dksX3_pendulumNumber_0 : cX3_pendulumNumber.data.toList.drop 0 = dktX3_pendulumNumber_0 := by decide +kernel
theorem dksX3_pendulumNumber_1 : cX3_pendulumNumber.data.toList.drop 24 = dktX3_pendulumNumber_1 := dk_seg dksX3_pendulumNumber_0 24 rfl rfl
theorem dX3_pendulumNumber_0 : decode cX3_pendulumNumber 0 = .ok (.aload_n 0, 1) := dk_42 (dk_at dksX3_pendulumNumber_0 0 rfl rfl)
theorem dX3_pendulumNumber_1 : decode cX3_pendulumNumber 1 = .ok (.iload_n 2, 1) := dk_28 (dk_at dksX3_pendulumNumber_0 1 rfl rfl)
theorem dX3_pendulumNumber_2 : decode cX3_pendulumNumber 2 = .ok (.invokevirtual 72, 3) := dk_182 0 72 (dk_at dksX3_pendulumNumber_0 2 rfl rfl)
theorem dX3_pendulumNumber_5 : decode cX3_pendulumNumber 5 = .ok (.ifCond .eq 18, 3) := dk_153 0 18 (dk_at dksX3_pendulumNumber_0 5 rfl rfl)
theorem dX3_pendulumNumber_8 : decode cX3_pendulumNumber 8 = .ok (.aload_n 0, 1) := dk_42 (dk_at dksX3_pendulumNumber_0 8 rfl rfl)
theorem dX3_pendulumNumber_9 : decode cX3_pendulumNumber 9 = .ok (.aload_n 0, 1) := dk_42 (dk_at dksX3_pendulumNumber_0 9 rfl rfl)
theorem dX3_pendulumNumber_10 : decode cX3_pendulumNumber 10 = .ok (.getfield 7, 3) := dk_180 0 7 (dk_at dksX3_pendulumNumber_0 10 rfl rfl)
theorem dX3_pendulumNumber_13 : decode cX3_pendulumNumber 13 = .ok (.iload_n 1, 1) := dk_27 (dk_at dksX3_pendulumNumber_0 13 rfl rfl)
theorem dX3_pendulumNumber_14 : decode cX3_pendulumNumber 14 = .ok (.iload_n 2, 1) := dk_28 (dk_at dksX3_pendulumNumber_0 14 rfl rfl)
theorem dX3_pendulumNumber_15 : decode cX3_pendulumNumber 15 = .ok (.iadd, 1) := dk_96 (dk_at dksX3_pendulumNumber_0 15 rfl rfl)
theorem dX3_pendulumNumber_16 : decode cX3_pendulumNumber 16 = .ok (.iaload, 1) := dk_46 (dk_at dksX3_pendulumNumber_0 16 rfl rfl)
theorem dX3_pendulumNumber_17 : decode cX3_pendulumNumber 17 = .ok (.invokevirtual 60, 3) := dk_182 0 60 (dk_at dksX3_pendulumNumber_0 17 rfl rfl)
theorem dX3_pendulumNumber_20 : decode cX3_pendulumNumber 20 = .ok (.goto 8, 3) := dk_167 0 8 (dk_at dksX3_pendulumNumber_0 20 rfl rfl)
theorem dX3_pendulumNumber_23 : decode cX3_pendulumNumber 23 = .ok (.aload_n 0, 1) := dk_42 (dk_at dksX3_pendulumNumber_0 23 rfl rfl)
theorem dX3_pendulumNumber_24 : decode cX3_pendulumNumber 24 = .ok (.iconst 1, 1) := dk_4 (dk_at dksX3_pendulumNumber_1 0 rfl rfl)
theorem dX3_pendulumNumber_25 : decode cX3_pendulumNumber 25 = .ok (.invokevirtual 56, 3) := dk_182 0 56 (dk_at dksX3_pendulumNumber_1 1 rfl rfl)
theorem dX3_pendulumNumber_28 : decode cX3_pendulumNumber 28 = .ok (.ireturn, 1) := dk_172 (dk_at dksX3_pendulumNumber_1 4 rfl rfl)
abbrev cX3_classOf : ByteArray := prog_19_method_30_code
def yX3_classOf : MethodName := ⟨RX3, "classOf", "(I)I"⟩
def dkwX3_classOf_1 : List UInt8 := [182, 0, 56, 172]
abbrev dktX3_classOf_1 : List UInt8 := dkwX3_classOf_1 ++ []
def dkwX3_classOf_0 : List UInt8 := [42, 27, 182, 0, 72, 153, 0, 15, 42, 42, 27, 182, 0, 79, 182, 0, 60, 167, 0, 8, 42, 4]
abbrev dktX3_classOf_0 : List UInt8 := dkwX3_classOf_0 ++ dktX3_classOf_1
theorem dksX3_classOf_0 : cX3_classOf.data.toList.drop 0 = dktX3_classOf_0 := by decide +kernel
theorem dksX3_classOf_1 : cX3_classOf.data.toList.drop 22 = dktX3_classOf_1 := dk_seg dksX3_classOf_0 22 rfl rfl
theorem dX3_classOf_0 : decode cX3_classOf 0 = .ok (.aload_n 0, 1) := dk_42 (dk_at dksX3_classOf_0 0 rfl rfl)
theorem dX3_classOf_1 : decode cX3_classOf 1 = .ok (.iload_n 1, 1) := dk_27 (dk_at dksX3_classOf_0 1 rfl rfl)
theorem dX3_classOf_2 : decode cX3_classOf 2 = .ok (.invokevirtual 72, 3) := dk_182 0 72 (dk_at dksX3_classOf_0 2 rfl rfl)
theorem dX3_classOf_5 : decode cX3_classOf 5 = .ok (.ifCond .eq 15, 3) := dk_153 0 15 (dk_at dksX3_classOf_0 5 rfl rfl)
theorem dX3_classOf_8 : decode cX3_classOf 8 = .ok (.aload_n 0, 1) := dk_42 (dk_at dksX3_classOf_0 8 rfl rfl)
theorem dX3_classOf_9 : decode cX3_classOf 9 = .ok (.aload_n 0, 1) := dk_42 (dk_at dksX3_classOf_0 9 rfl rfl)
theorem dX3_classOf_10 : decode cX3_classOf 10 = .ok (.iload_n 1, 1) := dk_27 (dk_at dksX3_classOf_0 10 rfl rfl)
theorem dX3_classOf_11 : decode cX3_classOf 11 = .ok (.invokevirtual 79, 3) := dk_182 0 79 (dk_at dksX3_classOf_0 11 rfl rfl)
theorem dX3_classOf_14 : decode cX3_classOf 14 = .ok (.invokevirtual 60, 3) := dk_182 0 60 (dk_at dksX3_classOf_0 14 rfl rfl)
theorem dX3_classOf_17 : decode cX3_classOf 17 = .ok (.goto 8, 3) := dk_167 0 8 (dk_at dksX3_classOf_0 17 rfl rfl)
theorem dX3_classOf_20 : decode cX3_classOf 20 = .ok (.aload_n 0, 1) := dk_42 (dk_at dksX3_classOf_0 20 rfl rfl)
theorem dX3_classOf_21 : decode cX3_classOf 21 = .ok (.iconst 1, 1) := dk_4 (dk_at dksX3_classOf_0 21 rfl rfl)
theorem dX3_classOf_22 : decode cX3_classOf 22 = .ok (.invokevirtual 56, 3) := dk_182 0 56 (dk_at dksX3_classOf_1 0 rfl rfl)
theorem dX3_classOf_25 : decode cX3_classOf 25 = .ok (.ireturn, 1) := dk_172 (dk_at dksX3_classOf_1 3 rfl rfl)
abbrev cX3_amplitudeOf : ByteArray := prog_19_method_31_code
def yX3_amplitudeOf : MethodName := ⟨RX3, "amplitudeOf", "(I)I"⟩
def dkwX3_amplitudeOf_0 : List UInt8 := [42, 16, 12, 27, 182, 0, 105, 172]
abbrev dktX3_amplitudeOf_0 : List UInt8 := dkwX3_amplitudeOf_0 ++ []
theorem dksX3_amplitudeOf_0 : cX3_amplitudeOf.data.toList.drop 0 = dktX3_amplitudeOf_0 := by decide +kernel
theorem dX3_amplitudeOf_0 : decode cX3_amplitudeOf 0 = .ok (.aload_n 0, 1) := dk_42 (dk_at dksX3_amplitudeOf_0 0 rfl rfl)
theorem dX3_amplitudeOf_1 : decode cX3_amplitudeOf 1 = .ok (.bipush 12, 2) := dk_16 12 (dk_at dksX3_amplitudeOf_0 1 rfl rfl)
theorem dX3_amplitudeOf_3 : decode cX3_amplitudeOf 3 = .ok (.iload_n 1, 1) := dk_27 (dk_at dksX3_amplitudeOf_0 3 rfl rfl)
theorem dX3_amplitudeOf_4 : decode cX3_amplitudeOf 4 = .ok (.invokevirtual 105, 3) := dk_182 0 105 (dk_at dksX3_amplitudeOf_0 4 rfl rfl)
theorem dX3_amplitudeOf_7 : decode cX3_amplitudeOf 7 = .ok (.ireturn, 1) := dk_172 (dk_at dksX3_amplitudeOf_0 7 rfl rfl)
abbrev cX3_startOf : ByteArray := prog_19_method_32_code
def yX3_startOf : MethodName := ⟨RX3, "startOf", "(I)I"⟩
def dkwX3_startOf_1 : List UInt8 := [182, 0, 56, 167, 0, 16, 42, 42, 180, 0, 7, 16, 20, 27, 96, 46, 182, 0, 60, 172]
abbrev dktX3_startOf_1 : List UInt8 := dkwX3_startOf_1 ++ []
def dkwX3_startOf_0 : List UInt8 := [42, 27, 182, 0, 72, 154, 0, 9, 42, 4, 182, 0, 56, 172, 42, 27, 182, 0, 76, 153, 0, 11, 42, 5]
abbrev dktX3_startOf_0 : List UInt8 := dkwX3_startOf_0 ++ dktX3_startOf_1
theorem dksX3_startOf_0 : cX3_startOf.data.toList.drop 0 = dktX3_startOf_0 := by decide +kernel
theorem dksX3_startOf_1 : cX3_startOf.data.toList.drop 24 = dktX3_startOf_1 := dk_seg dksX3_startOf_0 24 rfl rfl
theorem dX3_startOf_0 : decode cX3_startOf 0 = .ok (.aload_n 0, 1) := dk_42 (dk_at dksX3_startOf_0 0 rfl rfl)
theorem dX3_startOf_1 : decode cX3_startOf 1 = .ok (.iload_n 1, 1) := dk_27 (dk_at dksX3_startOf_0 1 rfl rfl)
theorem dX3_startOf_2 : decode cX3_startOf 2 = .ok (.invokevirtual 72, 3) := dk_182 0 72 (dk_at dksX3_startOf_0 2 rfl rfl)
theorem dX3_startOf_5 : decode cX3_startOf 5 = .ok (.ifCond .ne 9, 3) := dk_154 0 9 (dk_at dksX3_startOf_0 5 rfl rfl)
theorem dX3_startOf_8 : decode cX3_startOf 8 = .ok (.aload_n 0, 1) := dk_42 (dk_at dksX3_startOf_0 8 rfl rfl)
theorem dX3_startOf_9 : decode cX3_startOf 9 = .ok (.iconst 1, 1) := dk_4 (dk_at dksX3_startOf_0 9 rfl rfl)
theorem dX3_startOf_10 : decode cX3_startOf 10 = .ok (.invokevirtual 56, 3) := dk_182 0 56 (dk_at dksX3_startOf_0 10 rfl rfl)
theorem dX3_startOf_13 : decode cX3_startOf 13 = .ok (.ireturn, 1) := dk_172 (dk_at dksX3_startOf_0 13 rfl rfl)
theorem dX3_startOf_14 : decode cX3_startOf 14 = .ok (.aload_n 0, 1) := dk_42 (dk_at dksX3_startOf_0 14 rfl rfl)
theorem dX3_startOf_15 : decode cX3_startOf 15 = .ok (.iload_n 1, 1) := dk_27 (dk_at dksX3_startOf_0 15 rfl rfl)
theorem dX3_startOf_16 : decode cX3_startOf 16 = .ok (.invokevirtual 76, 3) := dk_182 0 76 (dk_at dksX3_startOf_0 16 rfl rfl)
theorem dX3_startOf_19 : decode cX3_startOf 19 = .ok (.ifCond .eq 11, 3) := dk_153 0 11 (dk_at dksX3_startOf_0 19 rfl rfl)
theorem dX3_startOf_22 : decode cX3_startOf 22 = .ok (.aload_n 0, 1) := dk_42 (dk_at dksX3_startOf_0 22 rfl rfl)
theorem dX3_startOf_23 : decode cX3_startOf 23 = .ok (.iconst 2, 1) := dk_5 (dk_at dksX3_startOf_0 23 rfl rfl)
theorem dX3_startOf_24 : decode cX3_startOf 24 = .ok (.invokevirtual 56, 3) := dk_182 0 56 (dk_at dksX3_startOf_1 0 rfl rfl)
theorem dX3_startOf_27 : decode cX3_startOf 27 = .ok (.goto 16, 3) := dk_167 0 16 (dk_at dksX3_startOf_1 3 rfl rfl)
theorem dX3_startOf_30 : decode cX3_startOf 30 = .ok (.aload_n 0, 1) := dk_42 (dk_at dksX3_startOf_1 6 rfl rfl)
theorem dX3_startOf_31 : decode cX3_startOf 31 = .ok (.aload_n 0, 1) := dk_42 (dk_at dksX3_startOf_1 7 rfl rfl)
theorem dX3_startOf_32 : decode cX3_startOf 32 = .ok (.getfield 7, 3) := dk_180 0 7 (dk_at dksX3_startOf_1 8 rfl rfl)
theorem dX3_startOf_35 : decode cX3_startOf 35 = .ok (.bipush 20, 2) := dk_16 20 (dk_at dksX3_startOf_1 11 rfl rfl)
theorem dX3_startOf_37 : decode cX3_startOf 37 = .ok (.iload_n 1, 1) := dk_27 (dk_at dksX3_startOf_1 13 rfl rfl)
theorem dX3_startOf_38 : decode cX3_startOf 38 = .ok (.iadd, 1) := dk_96 (dk_at dksX3_startOf_1 14 rfl rfl)
theorem dX3_startOf_39 : decode cX3_startOf 39 = .ok (.iaload, 1) := dk_46 (dk_at dksX3_startOf_1 15 rfl rfl)
theorem dX3_startOf_40 : decode cX3_startOf 40 = .ok (.invokevirtual 60, 3) := dk_182 0 60 (dk_at dksX3_startOf_1 16 rfl rfl)
theorem dX3_startOf_43 : decode cX3_startOf 43 = .ok (.ireturn, 1) := dk_172 (dk_at dksX3_startOf_1 19 rfl rfl)
abbrev cX3_periodOf : ByteArray := prog_19_method_33_code
def yX3_periodOf : MethodName := ⟨RX3, "periodOf", "(I)I"⟩
def dkwX3_periodOf_1 : List UInt8 := [182, 0, 56, 172]
abbrev dktX3_periodOf_1 : List UInt8 := dkwX3_periodOf_1 ++ []
def dkwX3_periodOf_0 : List UInt8 := [42, 27, 182, 0, 72, 153, 0, 15, 42, 42, 27, 182, 0, 92, 182, 0, 60, 167, 0, 8, 42, 4]
abbrev dktX3_periodOf_0 : List UInt8 := dkwX3_periodOf_0 ++ dktX3_periodOf_1
theorem dksX3_periodOf_0 : cX3_periodOf.data.toList.drop 0 = dktX3_periodOf_0 := by decide +kernel
theorem dksX3_periodOf_1 : cX3_periodOf.data.toList.drop 22 = dktX3_periodOf_1 := dk_seg dksX3_periodOf_0 22 rfl rfl
theorem dX3_periodOf_0 : decode cX3_periodOf 0 = .ok (.aload_n 0, 1) := dk_42 (dk_at dksX3_periodOf_0 0 rfl rfl)
theorem dX3_periodOf_1 : decode cX3_periodOf 1 = .ok (.iload_n 1, 1) := dk_27 (dk_at dksX3_periodOf_0 1 rfl rfl)
theorem dX3_periodOf_2 : decode cX3_periodOf 2 = .ok (.invokevirtual 72, 3) := dk_182 0 72 (dk_at dksX3_periodOf_0 2 rfl rfl)
theorem dX3_periodOf_5 : decode cX3_periodOf 5 = .ok (.ifCond .eq 15, 3) := dk_153 0 15 (dk_at dksX3_periodOf_0 5 rfl rfl)
theorem dX3_periodOf_8 : decode cX3_periodOf 8 = .ok (.aload_n 0, 1) := dk_42 (dk_at dksX3_periodOf_0 8 rfl rfl)
theorem dX3_periodOf_9 : decode cX3_periodOf 9 = .ok (.aload_n 0, 1) := dk_42 (dk_at dksX3_periodOf_0 9 rfl rfl)
theorem dX3_periodOf_10 : decode cX3_periodOf 10 = .ok (.iload_n 1, 1) := dk_27 (dk_at dksX3_periodOf_0 10 rfl rfl)
theorem dX3_periodOf_11 : decode cX3_periodOf 11 = .ok (.invokevirtual 92, 3) := dk_182 0 92 (dk_at dksX3_periodOf_0 11 rfl rfl)
theorem dX3_periodOf_14 : decode cX3_periodOf 14 = .ok (.invokevirtual 60, 3) := dk_182 0 60 (dk_at dksX3_periodOf_0 14 rfl rfl)
theorem dX3_periodOf_17 : decode cX3_periodOf 17 = .ok (.goto 8, 3) := dk_167 0 8 (dk_at dksX3_periodOf_0 17 rfl rfl)
theorem dX3_periodOf_20 : decode cX3_periodOf 20 = .ok (.aload_n 0, 1) := dk_42 (dk_at dksX3_periodOf_0 20 rfl rfl)
theorem dX3_periodOf_21 : decode cX3_periodOf 21 = .ok (.iconst 1, 1) := dk_4 (dk_at dksX3_periodOf_0 21 rfl rfl)
theorem dX3_periodOf_22 : decode cX3_periodOf 22 = .ok (.invokevirtual 56, 3) := dk_182 0 56 (dk_at dksX3_periodOf_1 0 rfl rfl)
theorem dX3_periodOf_25 : decode cX3_periodOf 25 = .ok (.ireturn, 1) := dk_172 (dk_at dksX3_periodOf_1 3 rfl rfl)
abbrev cX3_periodByEstimates : ByteArray := prog_19_method_34_code
def yX3_periodByEstimates : MethodName := ⟨RX3, "periodByEstimates", "(I)I"⟩
def dkwX3_periodByEstimates_0 : List UInt8 := [42, 27, 182, 0, 108, 172]
abbrev dktX3_periodByEstimates_0 : List UInt8 := dkwX3_periodByEstimates_0 ++ []
theorem dksX3_periodByEstimates_0 : cX3_periodByEstimates.data.toList.drop 0 = dktX3_periodByEstimates_0 := by decide +kernel
theorem dX3_periodByEstimates_0 : decode cX3_periodByEstimates 0 = .ok (.aload_n 0, 1) := dk_42 (dk_at dksX3_periodByEstimates_0 0 rfl rfl)
theorem dX3_periodByEstimates_1 : decode cX3_periodByEstimates 1 = .ok (.iload_n 1, 1) := dk_27 (dk_at dksX3_periodByEstimates_0 1 rfl rfl)
theorem dX3_periodByEstimates_2 : decode cX3_periodByEstimates 2 = .ok (.invokevirtual 108, 3) := dk_182 0 108 (dk_at dksX3_periodByEstimates_0 2 rfl rfl)
theorem dX3_periodByEstimates_5 : decode cX3_periodByEstimates 5 = .ok (.ireturn, 1) := dk_172 (dk_at dksX3_periodByEstimates_0 5 rfl rfl)
abbrev cX3_swingsOf : ByteArray := prog_19_method_35_code
def yX3_swingsOf : MethodName := ⟨RX3, "swingsOf", "(I)I"⟩
def dkwX3_swingsOf_0 : List UInt8 := [42, 16, 28, 27, 182, 0, 105, 172]
abbrev dktX3_swingsOf_0 : List UInt8 := dkwX3_swingsOf_0 ++ []
theorem dksX3_swingsOf_0 : cX3_swingsOf.data.toList.drop 0 = dktX3_swingsOf_0 := by decide +kernel
theorem dX3_swingsOf_0 : decode cX3_swingsOf 0 = .ok (.aload_n 0, 1) := dk_42 (dk_at dksX3_swingsOf_0 0 rfl rfl)
theorem dX3_swingsOf_1 : decode cX3_swingsOf 1 = .ok (.bipush 28, 2) := dk_16 28 (dk_at dksX3_swingsOf_0 1 rfl rfl)
theorem dX3_swingsOf_3 : decode cX3_swingsOf 3 = .ok (.iload_n 1, 1) := dk_27 (dk_at dksX3_swingsOf_0 3 rfl rfl)
theorem dX3_swingsOf_4 : decode cX3_swingsOf 4 = .ok (.invokevirtual 105, 3) := dk_182 0 105 (dk_at dksX3_swingsOf_0 4 rfl rfl)
theorem dX3_swingsOf_7 : decode cX3_swingsOf 7 = .ok (.ireturn, 1) := dk_172 (dk_at dksX3_swingsOf_0 7 rfl rfl)
abbrev cX3_clock : ByteArray := prog_19_method_36_code
def yX3_clock : MethodName := ⟨RX3, "clock", "()I"⟩
def dkwX3_clock_0 : List UInt8 := [42, 42, 180, 0, 7, 3, 46, 182, 0, 60, 172]
abbrev dktX3_clock_0 : List UInt8 := dkwX3_clock_0 ++ []
theorem dksX3_clock_0 : cX3_clock.data.toList.drop 0 = dktX3_clock_0 := by decide +kernel
theorem dX3_clock_0 : decode cX3_clock 0 = .ok (.aload_n 0, 1) := dk_42 (dk_at dksX3_clock_0 0 rfl rfl)
theorem dX3_clock_1 : decode cX3_clock 1 = .ok (.aload_n 0, 1) := dk_42 (dk_at dksX3_clock_0 1 rfl rfl)
theorem dX3_clock_2 : decode cX3_clock 2 = .ok (.getfield 7, 3) := dk_180 0 7 (dk_at dksX3_clock_0 2 rfl rfl)
theorem dX3_clock_5 : decode cX3_clock 5 = .ok (.iconst 0, 1) := dk_3 (dk_at dksX3_clock_0 5 rfl rfl)
theorem dX3_clock_6 : decode cX3_clock 6 = .ok (.iaload, 1) := dk_46 (dk_at dksX3_clock_0 6 rfl rfl)
theorem dX3_clock_7 : decode cX3_clock 7 = .ok (.invokevirtual 60, 3) := dk_182 0 60 (dk_at dksX3_clock_0 7 rfl rfl)
theorem dX3_clock_10 : decode cX3_clock 10 = .ok (.ireturn, 1) := dk_172 (dk_at dksX3_clock_0 10 rfl rfl)
abbrev cX3_friction : ByteArray := prog_19_method_37_code
def yX3_friction : MethodName := ⟨RX3, "friction", "()I"⟩
def dkwX3_friction_0 : List UInt8 := [42, 42, 180, 0, 7, 4, 46, 182, 0, 60, 172]
abbrev dktX3_friction_0 : List UInt8 := dkwX3_friction_0 ++ []
theorem dksX3_friction_0 : cX3_friction.data.toList.drop 0 = dktX3_friction_0 := by decide +kernel
theorem dX3_friction_0 : decode cX3_friction 0 = .ok (.aload_n 0, 1) := dk_42 (dk_at dksX3_friction_0 0 rfl rfl)
theorem dX3_friction_1 : decode cX3_friction 1 = .ok (.aload_n 0, 1) := dk_42 (dk_at dksX3_friction_0 1 rfl rfl)
theorem dX3_friction_2 : decode cX3_friction 2 = .ok (.getfield 7, 3) := dk_180 0 7 (dk_at dksX3_friction_0 2 rfl rfl)
theorem dX3_friction_5 : decode cX3_friction 5 = .ok (.iconst 1, 1) := dk_4 (dk_at dksX3_friction_0 5 rfl rfl)
theorem dX3_friction_6 : decode cX3_friction 6 = .ok (.iaload, 1) := dk_46 (dk_at dksX3_friction_0 6 rfl rfl)
theorem dX3_friction_7 : decode cX3_friction 7 = .ok (.invokevirtual 60, 3) := dk_182 0 60 (dk_at dksX3_friction_0 7 rfl rfl)
theorem dX3_friction_10 : decode cX3_friction 10 = .ok (.ireturn, 1) := dk_172 (dk_at dksX3_friction_0 10 rfl rfl)
abbrev cX3_recordOf : ByteArray := prog_19_method_39_code
def yX3_recordOf : MethodName := ⟨RX3, "recordOf", "(I)I"⟩
def dkwX3_recordOf_1 : List UInt8 := [16, 36, 27, 96, 46, 182, 0, 60, 172]
abbrev dktX3_recordOf_1 : List UInt8 := dkwX3_recordOf_1 ++ []
def dkwX3_recordOf_0 : List UInt8 := [42, 27, 182, 0, 111, 61, 28, 158, 0, 11, 42, 28, 182, 0, 56, 167, 0, 16, 42, 42, 180, 0, 7]
abbrev dktX3_recordOf_0 : List UInt8 := dkwX3_recordOf_0 ++ dktX3_recordOf_1
theorem dksX3_recordOf_0 : cX3_recordOf.data.toList.drop 0 = dktX3_recordOf_0 := by decide +kernel
theorem dksX3_recordOf_1 : cX3_recordOf.data.toList.drop 23 = dktX3_recordOf_1 := dk_seg dksX3_recordOf_0 23 rfl rfl
theorem dX3_recordOf_0 : decode cX3_recordOf 0 = .ok (.aload_n 0, 1) := dk_42 (dk_at dksX3_recordOf_0 0 rfl rfl)
theorem dX3_recordOf_1 : decode cX3_recordOf 1 = .ok (.iload_n 1, 1) := dk_27 (dk_at dksX3_recordOf_0 1 rfl rfl)
theorem dX3_recordOf_2 : decode cX3_recordOf 2 = .ok (.invokevirtual 111, 3) := dk_182 0 111 (dk_at dksX3_recordOf_0 2 rfl rfl)
theorem dX3_recordOf_5 : decode cX3_recordOf 5 = .ok (.istore_n 2, 1) := dk_61 (dk_at dksX3_recordOf_0 5 rfl rfl)
theorem dX3_recordOf_6 : decode cX3_recordOf 6 = .ok (.iload_n 2, 1) := dk_28 (dk_at dksX3_recordOf_0 6 rfl rfl)
theorem dX3_recordOf_7 : decode cX3_recordOf 7 = .ok (.ifCond .le 11, 3) := dk_158 0 11 (dk_at dksX3_recordOf_0 7 rfl rfl)
theorem dX3_recordOf_10 : decode cX3_recordOf 10 = .ok (.aload_n 0, 1) := dk_42 (dk_at dksX3_recordOf_0 10 rfl rfl)
theorem dX3_recordOf_11 : decode cX3_recordOf 11 = .ok (.iload_n 2, 1) := dk_28 (dk_at dksX3_recordOf_0 11 rfl rfl)
theorem dX3_recordOf_12 : decode cX3_recordOf 12 = .ok (.invokevirtual 56, 3) := dk_182 0 56 (dk_at dksX3_recordOf_0 12 rfl rfl)
theorem dX3_recordOf_15 : decode cX3_recordOf 15 = .ok (.goto 16, 3) := dk_167 0 16 (dk_at dksX3_recordOf_0 15 rfl rfl)
theorem dX3_recordOf_18 : decode cX3_recordOf 18 = .ok (.aload_n 0, 1) := dk_42 (dk_at dksX3_recordOf_0 18 rfl rfl)
theorem dX3_recordOf_19 : decode cX3_recordOf 19 = .ok (.aload_n 0, 1) := dk_42 (dk_at dksX3_recordOf_0 19 rfl rfl)
theorem dX3_recordOf_20 : decode cX3_recordOf 20 = .ok (.getfield 7, 3) := dk_180 0 7 (dk_at dksX3_recordOf_0 20 rfl rfl)
theorem dX3_recordOf_23 : decode cX3_recordOf 23 = .ok (.bipush 36, 2) := dk_16 36 (dk_at dksX3_recordOf_1 0 rfl rfl)
theorem dX3_recordOf_25 : decode cX3_recordOf 25 = .ok (.iload_n 1, 1) := dk_27 (dk_at dksX3_recordOf_1 2 rfl rfl)
theorem dX3_recordOf_26 : decode cX3_recordOf 26 = .ok (.iadd, 1) := dk_96 (dk_at dksX3_recordOf_1 3 rfl rfl)
theorem dX3_recordOf_27 : decode cX3_recordOf 27 = .ok (.iaload, 1) := dk_46 (dk_at dksX3_recordOf_1 4 rfl rfl)
theorem dX3_recordOf_28 : decode cX3_recordOf 28 = .ok (.invokevirtual 60, 3) := dk_182 0 60 (dk_at dksX3_recordOf_1 5 rfl rfl)
theorem dX3_recordOf_31 : decode cX3_recordOf 31 = .ok (.ireturn, 1) := dk_172 (dk_at dksX3_recordOf_1 8 rfl rfl)
abbrev cX3_whyNoRecord : ByteArray := prog_19_method_38_code
def yX3_whyNoRecord : MethodName := ⟨RX3, "whyNoRecord", "(I)I"⟩
def dkwX3_whyNoRecord_1 : List UInt8 := [154, 0, 7, 5, 167, 0, 4, 3, 172]
abbrev dktX3_whyNoRecord_1 : List UInt8 := dkwX3_whyNoRecord_1 ++ []
def dkwX3_whyNoRecord_0 : List UInt8 := [27, 3, 5, 184, 0, 52, 154, 0, 7, 4, 167, 0, 20, 42, 180, 0, 7, 16, 36, 27, 96, 46]
abbrev dktX3_whyNoRecord_0 : List UInt8 := dkwX3_whyNoRecord_0 ++ dktX3_whyNoRecord_1
theorem dksX3_whyNoRecord_0 : cX3_whyNoRecord.data.toList.drop 0 = dktX3_whyNoRecord_0 := by decide +kernel
theorem dksX3_whyNoRecord_1 : cX3_whyNoRecord.data.toList.drop 22 = dktX3_whyNoRecord_1 := dk_seg dksX3_whyNoRecord_0 22 rfl rfl
theorem dX3_whyNoRecord_0 : decode cX3_whyNoRecord 0 = .ok (.iload_n 1, 1) := dk_27 (dk_at dksX3_whyNoRecord_0 0 rfl rfl)
theorem dX3_whyNoRecord_1 : decode cX3_whyNoRecord 1 = .ok (.iconst 0, 1) := dk_3 (dk_at dksX3_whyNoRecord_0 1 rfl rfl)
theorem dX3_whyNoRecord_2 : decode cX3_whyNoRecord 2 = .ok (.iconst 2, 1) := dk_5 (dk_at dksX3_whyNoRecord_0 2 rfl rfl)
theorem dX3_whyNoRecord_3 : decode cX3_whyNoRecord 3 = .ok (.invokestatic 52, 3) := dk_184 0 52 (dk_at dksX3_whyNoRecord_0 3 rfl rfl)
theorem dX3_whyNoRecord_6 : decode cX3_whyNoRecord 6 = .ok (.ifCond .ne 7, 3) := dk_154 0 7 (dk_at dksX3_whyNoRecord_0 6 rfl rfl)
theorem dX3_whyNoRecord_9 : decode cX3_whyNoRecord 9 = .ok (.iconst 1, 1) := dk_4 (dk_at dksX3_whyNoRecord_0 9 rfl rfl)
theorem dX3_whyNoRecord_10 : decode cX3_whyNoRecord 10 = .ok (.goto 20, 3) := dk_167 0 20 (dk_at dksX3_whyNoRecord_0 10 rfl rfl)
theorem dX3_whyNoRecord_13 : decode cX3_whyNoRecord 13 = .ok (.aload_n 0, 1) := dk_42 (dk_at dksX3_whyNoRecord_0 13 rfl rfl)
theorem dX3_whyNoRecord_14 : decode cX3_whyNoRecord 14 = .ok (.getfield 7, 3) := dk_180 0 7 (dk_at dksX3_whyNoRecord_0 14 rfl rfl)
theorem dX3_whyNoRecord_17 : decode cX3_whyNoRecord 17 = .ok (.bipush 36, 2) := dk_16 36 (dk_at dksX3_whyNoRecord_0 17 rfl rfl)
theorem dX3_whyNoRecord_19 : decode cX3_whyNoRecord 19 = .ok (.iload_n 1, 1) := dk_27 (dk_at dksX3_whyNoRecord_0 19 rfl rfl)
theorem dX3_whyNoRecord_20 : decode cX3_whyNoRecord 20 = .ok (.iadd, 1) := dk_96 (dk_at dksX3_whyNoRecord_0 20 rfl rfl)
theorem dX3_whyNoRecord_21 : decode cX3_whyNoRecord 21 = .ok (.iaload, 1) := dk_46 (dk_at dksX3_whyNoRecord_0 21 rfl rfl)
theorem dX3_whyNoRecord_22 : decode cX3_whyNoRecord 22 = .ok (.ifCond .ne 7, 3) := dk_154 0 7 (dk_at dksX3_whyNoRecord_1 0 rfl rfl)
theorem dX3_whyNoRecord_25 : decode cX3_whyNoRecord 25 = .ok (.iconst 2, 1) := dk_5 (dk_at dksX3_whyNoRecord_1 3 rfl rfl)
theorem dX3_whyNoRecord_26 : decode cX3_whyNoRecord 26 = .ok (.goto 4, 3) := dk_167 0 4 (dk_at dksX3_whyNoRecord_1 4 rfl rfl)
theorem dX3_whyNoRecord_29 : decode cX3_whyNoRecord 29 = .ok (.iconst 0, 1) := dk_3 (dk_at dksX3_whyNoRecord_1 7 rfl rfl)
theorem dX3_whyNoRecord_30 : decode cX3_whyNoRecord 30 = .ok (.ireturn, 1) := dk_172 (dk_at dksX3_whyNoRecord_1 8 rfl rfl)
abbrev cX3_holderOf : ByteArray := prog_19_method_40_code
def yX3_holderOf : MethodName := ⟨RX3, "holderOf", "(I)I"⟩
def dkwX3_holderOf_1 : List UInt8 := [16, 39, 27, 96, 46, 182, 0, 60, 172]
abbrev dktX3_holderOf_1 : List UInt8 := dkwX3_holderOf_1 ++ []
def dkwX3_holderOf_0 : List UInt8 := [42, 27, 182, 0, 111, 61, 28, 158, 0, 11, 42, 28, 182, 0, 56, 167, 0, 16, 42, 42, 180, 0, 7]
abbrev dktX3_holderOf_0 : List UInt8 := dkwX3_holderOf_0 ++ dktX3_holderOf_1
theorem dksX3_holderOf_0 : cX3_holderOf.data.toList.drop 0 = dktX3_holderOf_0 := by decide +kernel
theorem dksX3_holderOf_1 : cX3_holderOf.data.toList.drop 23 = dktX3_holderOf_1 := dk_seg dksX3_holderOf_0 23 rfl rfl
theorem dX3_holderOf_0 : decode cX3_holderOf 0 = .ok (.aload_n 0, 1) := dk_42 (dk_at dksX3_holderOf_0 0 rfl rfl)
theorem dX3_holderOf_1 : decode cX3_holderOf 1 = .ok (.iload_n 1, 1) := dk_27 (dk_at dksX3_holderOf_0 1 rfl rfl)
theorem dX3_holderOf_2 : decode cX3_holderOf 2 = .ok (.invokevirtual 111, 3) := dk_182 0 111 (dk_at dksX3_holderOf_0 2 rfl rfl)
theorem dX3_holderOf_5 : decode cX3_holderOf 5 = .ok (.istore_n 2, 1) := dk_61 (dk_at dksX3_holderOf_0 5 rfl rfl)
theorem dX3_holderOf_6 : decode cX3_holderOf 6 = .ok (.iload_n 2, 1) := dk_28 (dk_at dksX3_holderOf_0 6 rfl rfl)
theorem dX3_holderOf_7 : decode cX3_holderOf 7 = .ok (.ifCond .le 11, 3) := dk_158 0 11 (dk_at dksX3_holderOf_0 7 rfl rfl)
theorem dX3_holderOf_10 : decode cX3_holderOf 10 = .ok (.aload_n 0, 1) := dk_42 (dk_at dksX3_holderOf_0 10 rfl rfl)
theorem dX3_holderOf_11 : decode cX3_holderOf 11 = .ok (.iload_n 2, 1) := dk_28 (dk_at dksX3_holderOf_0 11 rfl rfl)
theorem dX3_holderOf_12 : decode cX3_holderOf 12 = .ok (.invokevirtual 56, 3) := dk_182 0 56 (dk_at dksX3_holderOf_0 12 rfl rfl)
theorem dX3_holderOf_15 : decode cX3_holderOf 15 = .ok (.goto 16, 3) := dk_167 0 16 (dk_at dksX3_holderOf_0 15 rfl rfl)
theorem dX3_holderOf_18 : decode cX3_holderOf 18 = .ok (.aload_n 0, 1) := dk_42 (dk_at dksX3_holderOf_0 18 rfl rfl)
theorem dX3_holderOf_19 : decode cX3_holderOf 19 = .ok (.aload_n 0, 1) := dk_42 (dk_at dksX3_holderOf_0 19 rfl rfl)
theorem dX3_holderOf_20 : decode cX3_holderOf 20 = .ok (.getfield 7, 3) := dk_180 0 7 (dk_at dksX3_holderOf_0 20 rfl rfl)
theorem dX3_holderOf_23 : decode cX3_holderOf 23 = .ok (.bipush 39, 2) := dk_16 39 (dk_at dksX3_holderOf_1 0 rfl rfl)
theorem dX3_holderOf_25 : decode cX3_holderOf 25 = .ok (.iload_n 1, 1) := dk_27 (dk_at dksX3_holderOf_1 2 rfl rfl)
theorem dX3_holderOf_26 : decode cX3_holderOf 26 = .ok (.iadd, 1) := dk_96 (dk_at dksX3_holderOf_1 3 rfl rfl)
theorem dX3_holderOf_27 : decode cX3_holderOf 27 = .ok (.iaload, 1) := dk_46 (dk_at dksX3_holderOf_1 4 rfl rfl)
theorem dX3_holderOf_28 : decode cX3_holderOf 28 = .ok (.invokevirtual 60, 3) := dk_182 0 60 (dk_at dksX3_holderOf_1 5 rfl rfl)
theorem dX3_holderOf_31 : decode cX3_holderOf 31 = .ok (.ireturn, 1) := dk_172 (dk_at dksX3_holderOf_1 8 rfl rfl)
abbrev cX3_pendulumAtRank : ByteArray := prog_19_method_42_code
def yX3_pendulumAtRank : MethodName := ⟨RX3, "pendulumAtRank", "(I)I"⟩
def dkwX3_pendulumAtRank_3 : List UInt8 := [4, 182, 0, 56, 172]
abbrev dktX3_pendulumAtRank_3 : List UInt8 := dkwX3_pendulumAtRank_3 ++ []
def dkwX3_pendulumAtRank_2 : List UInt8 := [132, 4, 1, 167, 255, 224, 29, 27, 160, 0, 9, 42, 28, 182, 0, 60, 172, 132, 2, 1, 167, 255, 192, 42]
abbrev dktX3_pendulumAtRank_2 : List UInt8 := dkwX3_pendulumAtRank_2 ++ dktX3_pendulumAtRank_3
def dkwX3_pendulumAtRank_1 : List UInt8 := [46, 162, 0, 27, 29, 42, 21, 4, 28, 182, 0, 114, 153, 0, 7, 4, 167, 0, 4, 3, 96, 62]
abbrev dktX3_pendulumAtRank_1 : List UInt8 := dkwX3_pendulumAtRank_1 ++ dktX3_pendulumAtRank_2
def dkwX3_pendulumAtRank_0 : List UInt8 := [3, 61, 28, 42, 180, 0, 7, 5, 46, 162, 0, 60, 3, 62, 3, 54, 4, 21, 4, 42, 180, 0, 7, 5]
abbrev dktX3_pendulumAtRank_0 : List UInt8 := dkwX3_pendulumAtRank_0 ++ dktX3_pendulumAtRank_1
theorem dksX3_pendulumAtRank_0 : cX3_pendulumAtRank.data.toList.drop 0 = dktX3_pendulumAtRank_0 := by decide +kernel
theorem dksX3_pendulumAtRank_1 : cX3_pendulumAtRank.data.toList.drop 24 = dktX3_pendulumAtRank_1 := dk_seg dksX3_pendulumAtRank_0 24 rfl rfl
theorem dksX3_pendulumAtRank_2 : cX3_pendulumAtRank.data.toList.drop 46 = dktX3_pendulumAtRank_2 := dk_seg dksX3_pendulumAtRank_1 22 rfl rfl
theorem dksX3_pendulumAtRank_3 : cX3_pendulumAtRank.data.toList.drop 70 = dktX3_pendulumAtRank_3 := dk_seg dksX3_pendulumAtRank_2 24 rfl rfl
theorem dX3_pendulumAtRank_0 : decode cX3_pendulumAtRank 0 = .ok (.iconst 0, 1) := dk_3 (dk_at dksX3_pendulumAtRank_0 0 rfl rfl)
theorem dX3_pendulumAtRank_1 : decode cX3_pendulumAtRank 1 = .ok (.istore_n 2, 1) := dk_61 (dk_at dksX3_pendulumAtRank_0 1 rfl rfl)
theorem dX3_pendulumAtRank_2 : decode cX3_pendulumAtRank 2 = .ok (.iload_n 2, 1) := dk_28 (dk_at dksX3_pendulumAtRank_0 2 rfl rfl)
theorem dX3_pendulumAtRank_3 : decode cX3_pendulumAtRank 3 = .ok (.aload_n 0, 1) := dk_42 (dk_at dksX3_pendulumAtRank_0 3 rfl rfl)
theorem dX3_pendulumAtRank_4 : decode cX3_pendulumAtRank 4 = .ok (.getfield 7, 3) := dk_180 0 7 (dk_at dksX3_pendulumAtRank_0 4 rfl rfl)
theorem dX3_pendulumAtRank_7 : decode cX3_pendulumAtRank 7 = .ok (.iconst 2, 1) := dk_5 (dk_at dksX3_pendulumAtRank_0 7 rfl rfl)
theorem dX3_pendulumAtRank_8 : decode cX3_pendulumAtRank 8 = .ok (.iaload, 1) := dk_46 (dk_at dksX3_pendulumAtRank_0 8 rfl rfl)
theorem dX3_pendulumAtRank_9 : decode cX3_pendulumAtRank 9 = .ok (.if_icmp .ge 60, 3) := dk_162 0 60 (dk_at dksX3_pendulumAtRank_0 9 rfl rfl)
theorem dX3_pendulumAtRank_12 : decode cX3_pendulumAtRank 12 = .ok (.iconst 0, 1) := dk_3 (dk_at dksX3_pendulumAtRank_0 12 rfl rfl)
theorem dX3_pendulumAtRank_13 : decode cX3_pendulumAtRank 13 = .ok (.istore_n 3, 1) := dk_62 (dk_at dksX3_pendulumAtRank_0 13 rfl rfl)
theorem dX3_pendulumAtRank_14 : decode cX3_pendulumAtRank 14 = .ok (.iconst 0, 1) := dk_3 (dk_at dksX3_pendulumAtRank_0 14 rfl rfl)
theorem dX3_pendulumAtRank_15 : decode cX3_pendulumAtRank 15 = .ok (.istore 4, 2) := dk_54 4 (dk_at dksX3_pendulumAtRank_0 15 rfl rfl)
theorem dX3_pendulumAtRank_17 : decode cX3_pendulumAtRank 17 = .ok (.iload 4, 2) := dk_21 4 (dk_at dksX3_pendulumAtRank_0 17 rfl rfl)
theorem dX3_pendulumAtRank_19 : decode cX3_pendulumAtRank 19 = .ok (.aload_n 0, 1) := dk_42 (dk_at dksX3_pendulumAtRank_0 19 rfl rfl)
theorem dX3_pendulumAtRank_20 : decode cX3_pendulumAtRank 20 = .ok (.getfield 7, 3) := dk_180 0 7 (dk_at dksX3_pendulumAtRank_0 20 rfl rfl)
theorem dX3_pendulumAtRank_23 : decode cX3_pendulumAtRank 23 = .ok (.iconst 2, 1) := dk_5 (dk_at dksX3_pendulumAtRank_0 23 rfl rfl)
theorem dX3_pendulumAtRank_24 : decode cX3_pendulumAtRank 24 = .ok (.iaload, 1) := dk_46 (dk_at dksX3_pendulumAtRank_1 0 rfl rfl)
theorem dX3_pendulumAtRank_25 : decode cX3_pendulumAtRank 25 = .ok (.if_icmp .ge 27, 3) := dk_162 0 27 (dk_at dksX3_pendulumAtRank_1 1 rfl rfl)
theorem dX3_pendulumAtRank_28 : decode cX3_pendulumAtRank 28 = .ok (.iload_n 3, 1) := dk_29 (dk_at dksX3_pendulumAtRank_1 4 rfl rfl)
theorem dX3_pendulumAtRank_29 : decode cX3_pendulumAtRank 29 = .ok (.aload_n 0, 1) := dk_42 (dk_at dksX3_pendulumAtRank_1 5 rfl rfl)
theorem dX3_pendulumAtRank_30 : decode cX3_pendulumAtRank 30 = .ok (.iload 4, 2) := dk_21 4 (dk_at dksX3_pendulumAtRank_1 6 rfl rfl)
theorem dX3_pendulumAtRank_32 : decode cX3_pendulumAtRank 32 = .ok (.iload_n 2, 1) := dk_28 (dk_at dksX3_pendulumAtRank_1 8 rfl rfl)
theorem dX3_pendulumAtRank_33 : decode cX3_pendulumAtRank 33 = .ok (.invokevirtual 114, 3) := dk_182 0 114 (dk_at dksX3_pendulumAtRank_1 9 rfl rfl)
theorem dX3_pendulumAtRank_36 : decode cX3_pendulumAtRank 36 = .ok (.ifCond .eq 7, 3) := dk_153 0 7 (dk_at dksX3_pendulumAtRank_1 12 rfl rfl)
theorem dX3_pendulumAtRank_39 : decode cX3_pendulumAtRank 39 = .ok (.iconst 1, 1) := dk_4 (dk_at dksX3_pendulumAtRank_1 15 rfl rfl)
theorem dX3_pendulumAtRank_40 : decode cX3_pendulumAtRank 40 = .ok (.goto 4, 3) := dk_167 0 4 (dk_at dksX3_pendulumAtRank_1 16 rfl rfl)
theorem dX3_pendulumAtRank_43 : decode cX3_pendulumAtRank 43 = .ok (.iconst 0, 1) := dk_3 (dk_at dksX3_pendulumAtRank_1 19 rfl rfl)
theorem dX3_pendulumAtRank_44 : decode cX3_pendulumAtRank 44 = .ok (.iadd, 1) := dk_96 (dk_at dksX3_pendulumAtRank_1 20 rfl rfl)
theorem dX3_pendulumAtRank_45 : decode cX3_pendulumAtRank 45 = .ok (.istore_n 3, 1) := dk_62 (dk_at dksX3_pendulumAtRank_1 21 rfl rfl)
theorem dX3_pendulumAtRank_46 : decode cX3_pendulumAtRank 46 = .ok (.iinc 4 1, 3) := dk_132 4 1 (dk_at dksX3_pendulumAtRank_2 0 rfl rfl)
theorem dX3_pendulumAtRank_49 : decode cX3_pendulumAtRank 49 = .ok (.goto (-32), 3) := dk_167 255 224 (dk_at dksX3_pendulumAtRank_2 3 rfl rfl)
theorem dX3_pendulumAtRank_52 : decode cX3_pendulumAtRank 52 = .ok (.iload_n 3, 1) := dk_29 (dk_at dksX3_pendulumAtRank_2 6 rfl rfl)
theorem dX3_pendulumAtRank_53 : decode cX3_pendulumAtRank 53 = .ok (.iload_n 1, 1) := dk_27 (dk_at dksX3_pendulumAtRank_2 7 rfl rfl)
theorem dX3_pendulumAtRank_54 : decode cX3_pendulumAtRank 54 = .ok (.if_icmp .ne 9, 3) := dk_160 0 9 (dk_at dksX3_pendulumAtRank_2 8 rfl rfl)
theorem dX3_pendulumAtRank_57 : decode cX3_pendulumAtRank 57 = .ok (.aload_n 0, 1) := dk_42 (dk_at dksX3_pendulumAtRank_2 11 rfl rfl)
theorem dX3_pendulumAtRank_58 : decode cX3_pendulumAtRank 58 = .ok (.iload_n 2, 1) := dk_28 (dk_at dksX3_pendulumAtRank_2 12 rfl rfl)
theorem dX3_pendulumAtRank_59 : decode cX3_pendulumAtRank 59 = .ok (.invokevirtual 60, 3) := dk_182 0 60 (dk_at dksX3_pendulumAtRank_2 13 rfl rfl)
theorem dX3_pendulumAtRank_62 : decode cX3_pendulumAtRank 62 = .ok (.ireturn, 1) := dk_172 (dk_at dksX3_pendulumAtRank_2 16 rfl rfl)
theorem dX3_pendulumAtRank_63 : decode cX3_pendulumAtRank 63 = .ok (.iinc 2 1, 3) := dk_132 2 1 (dk_at dksX3_pendulumAtRank_2 17 rfl rfl)
theorem dX3_pendulumAtRank_66 : decode cX3_pendulumAtRank 66 = .ok (.goto (-64), 3) := dk_167 255 192 (dk_at dksX3_pendulumAtRank_2 20 rfl rfl)
theorem dX3_pendulumAtRank_69 : decode cX3_pendulumAtRank 69 = .ok (.aload_n 0, 1) := dk_42 (dk_at dksX3_pendulumAtRank_2 23 rfl rfl)
theorem dX3_pendulumAtRank_70 : decode cX3_pendulumAtRank 70 = .ok (.iconst 1, 1) := dk_4 (dk_at dksX3_pendulumAtRank_3 0 rfl rfl)
theorem dX3_pendulumAtRank_71 : decode cX3_pendulumAtRank 71 = .ok (.invokevirtual 56, 3) := dk_182 0 56 (dk_at dksX3_pendulumAtRank_3 1 rfl rfl)
theorem dX3_pendulumAtRank_74 : decode cX3_pendulumAtRank 74 = .ok (.ireturn, 1) := dk_172 (dk_at dksX3_pendulumAtRank_3 4 rfl rfl)
abbrev cX3_isAhead : ByteArray := prog_19_method_41_code
def yX3_isAhead : MethodName := ⟨RX3, "isAhead", "(II)Z"⟩
def dkwX3_isAhead_2 : List UInt8 := [154, 0, 22, 21, 4, 157, 0, 13, 21, 4, 154, 0, 12, 27, 28, 162, 0, 7, 4, 167, 0, 4, 3, 172]
abbrev dktX3_isAhead_2 : List UInt8 := dkwX3_isAhead_2 ++ []
def dkwX3_isAhead_1 : List UInt8 := [16, 28, 27, 96, 46, 42, 180, 0, 7, 16, 28, 28, 96, 46, 100, 54, 4, 29, 157, 0, 22, 29]
abbrev dktX3_isAhead_1 : List UInt8 := dkwX3_isAhead_1 ++ dktX3_isAhead_2
def dkwX3_isAhead_0 : List UInt8 := [42, 180, 0, 7, 16, 12, 27, 96, 46, 42, 180, 0, 7, 16, 12, 28, 96, 46, 100, 62, 42, 180, 0, 7]
abbrev dktX3_isAhead_0 : List UInt8 := dkwX3_isAhead_0 ++ dktX3_isAhead_1
theorem dksX3_isAhead_0 : cX3_isAhead.data.toList.drop 0 = dktX3_isAhead_0 := by decide +kernel
theorem dksX3_isAhead_1 : cX3_isAhead.data.toList.drop 24 = dktX3_isAhead_1 := dk_seg dksX3_isAhead_0 24 rfl rfl
theorem dksX3_isAhead_2 : cX3_isAhead.data.toList.drop 46 = dktX3_isAhead_2 := dk_seg dksX3_isAhead_1 22 rfl rfl
theorem dX3_isAhead_0 : decode cX3_isAhead 0 = .ok (.aload_n 0, 1) := dk_42 (dk_at dksX3_isAhead_0 0 rfl rfl)
theorem dX3_isAhead_1 : decode cX3_isAhead 1 = .ok (.getfield 7, 3) := dk_180 0 7 (dk_at dksX3_isAhead_0 1 rfl rfl)
theorem dX3_isAhead_4 : decode cX3_isAhead 4 = .ok (.bipush 12, 2) := dk_16 12 (dk_at dksX3_isAhead_0 4 rfl rfl)
theorem dX3_isAhead_6 : decode cX3_isAhead 6 = .ok (.iload_n 1, 1) := dk_27 (dk_at dksX3_isAhead_0 6 rfl rfl)
theorem dX3_isAhead_7 : decode cX3_isAhead 7 = .ok (.iadd, 1) := dk_96 (dk_at dksX3_isAhead_0 7 rfl rfl)
theorem dX3_isAhead_8 : decode cX3_isAhead 8 = .ok (.iaload, 1) := dk_46 (dk_at dksX3_isAhead_0 8 rfl rfl)
theorem dX3_isAhead_9 : decode cX3_isAhead 9 = .ok (.aload_n 0, 1) := dk_42 (dk_at dksX3_isAhead_0 9 rfl rfl)
theorem dX3_isAhead_10 : decode cX3_isAhead 10 = .ok (.getfield 7, 3) := dk_180 0 7 (dk_at dksX3_isAhead_0 10 rfl rfl)
theorem dX3_isAhead_13 : decode cX3_isAhead 13 = .ok (.bipush 12, 2) := dk_16 12 (dk_at dksX3_isAhead_0 13 rfl rfl)
theorem dX3_isAhead_15 : decode cX3_isAhead 15 = .ok (.iload_n 2, 1) := dk_28 (dk_at dksX3_isAhead_0 15 rfl rfl)
theorem dX3_isAhead_16 : decode cX3_isAhead 16 = .ok (.iadd, 1) := dk_96 (dk_at dksX3_isAhead_0 16 rfl rfl)
theorem dX3_isAhead_17 : decode cX3_isAhead 17 = .ok (.iaload, 1) := dk_46 (dk_at dksX3_isAhead_0 17 rfl rfl)
theorem dX3_isAhead_18 : decode cX3_isAhead 18 = .ok (.isub, 1) := dk_100 (dk_at dksX3_isAhead_0 18 rfl rfl)
theorem dX3_isAhead_19 : decode cX3_isAhead 19 = .ok (.istore_n 3, 1) := dk_62 (dk_at dksX3_isAhead_0 19 rfl rfl)
theorem dX3_isAhead_20 : decode cX3_isAhead 20 = .ok (.aload_n 0, 1) := dk_42 (dk_at dksX3_isAhead_0 20 rfl rfl)
theorem dX3_isAhead_21 : decode cX3_isAhead 21 = .ok (.getfield 7, 3) := dk_180 0 7 (dk_at dksX3_isAhead_0 21 rfl rfl)
theorem dX3_isAhead_24 : decode cX3_isAhead 24 = .ok (.bipush 28, 2) := dk_16 28 (dk_at dksX3_isAhead_1 0 rfl rfl)
theorem dX3_isAhead_26 : decode cX3_isAhead 26 = .ok (.iload_n 1, 1) := dk_27 (dk_at dksX3_isAhead_1 2 rfl rfl)
theorem dX3_isAhead_27 : decode cX3_isAhead 27 = .ok (.iadd, 1) := dk_96 (dk_at dksX3_isAhead_1 3 rfl rfl)
theorem dX3_isAhead_28 : decode cX3_isAhead 28 = .ok (.iaload, 1) := dk_46 (dk_at dksX3_isAhead_1 4 rfl rfl)
theorem dX3_isAhead_29 : decode cX3_isAhead 29 = .ok (.aload_n 0, 1) := dk_42 (dk_at dksX3_isAhead_1 5 rfl rfl)
theorem dX3_isAhead_30 : decode cX3_isAhead 30 = .ok (.getfield 7, 3) := dk_180 0 7 (dk_at dksX3_isAhead_1 6 rfl rfl)
theorem dX3_isAhead_33 : decode cX3_isAhead 33 = .ok (.bipush 28, 2) := dk_16 28 (dk_at dksX3_isAhead_1 9 rfl rfl)
theorem dX3_isAhead_35 : decode cX3_isAhead 35 = .ok (.iload_n 2, 1) := dk_28 (dk_at dksX3_isAhead_1 11 rfl rfl)
theorem dX3_isAhead_36 : decode cX3_isAhead 36 = .ok (.iadd, 1) := dk_96 (dk_at dksX3_isAhead_1 12 rfl rfl)
theorem dX3_isAhead_37 : decode cX3_isAhead 37 = .ok (.iaload, 1) := dk_46 (dk_at dksX3_isAhead_1 13 rfl rfl)
theorem dX3_isAhead_38 : decode cX3_isAhead 38 = .ok (.isub, 1) := dk_100 (dk_at dksX3_isAhead_1 14 rfl rfl)
theorem dX3_isAhead_39 : decode cX3_isAhead 39 = .ok (.istore 4, 2) := dk_54 4 (dk_at dksX3_isAhead_1 15 rfl rfl)
theorem dX3_isAhead_41 : decode cX3_isAhead 41 = .ok (.iload_n 3, 1) := dk_29 (dk_at dksX3_isAhead_1 17 rfl rfl)
theorem dX3_isAhead_42 : decode cX3_isAhead 42 = .ok (.ifCond .gt 22, 3) := dk_157 0 22 (dk_at dksX3_isAhead_1 18 rfl rfl)
theorem dX3_isAhead_45 : decode cX3_isAhead 45 = .ok (.iload_n 3, 1) := dk_29 (dk_at dksX3_isAhead_1 21 rfl rfl)
theorem dX3_isAhead_46 : decode cX3_isAhead 46 = .ok (.ifCond .ne 22, 3) := dk_154 0 22 (dk_at dksX3_isAhead_2 0 rfl rfl)
theorem dX3_isAhead_49 : decode cX3_isAhead 49 = .ok (.iload 4, 2) := dk_21 4 (dk_at dksX3_isAhead_2 3 rfl rfl)
theorem dX3_isAhead_51 : decode cX3_isAhead 51 = .ok (.ifCond .gt 13, 3) := dk_157 0 13 (dk_at dksX3_isAhead_2 5 rfl rfl)
theorem dX3_isAhead_54 : decode cX3_isAhead 54 = .ok (.iload 4, 2) := dk_21 4 (dk_at dksX3_isAhead_2 8 rfl rfl)
theorem dX3_isAhead_56 : decode cX3_isAhead 56 = .ok (.ifCond .ne 12, 3) := dk_154 0 12 (dk_at dksX3_isAhead_2 10 rfl rfl)
theorem dX3_isAhead_59 : decode cX3_isAhead 59 = .ok (.iload_n 1, 1) := dk_27 (dk_at dksX3_isAhead_2 13 rfl rfl)
theorem dX3_isAhead_60 : decode cX3_isAhead 60 = .ok (.iload_n 2, 1) := dk_28 (dk_at dksX3_isAhead_2 14 rfl rfl)
theorem dX3_isAhead_61 : decode cX3_isAhead 61 = .ok (.if_icmp .ge 7, 3) := dk_162 0 7 (dk_at dksX3_isAhead_2 15 rfl rfl)
theorem dX3_isAhead_64 : decode cX3_isAhead 64 = .ok (.iconst 1, 1) := dk_4 (dk_at dksX3_isAhead_2 18 rfl rfl)
theorem dX3_isAhead_65 : decode cX3_isAhead 65 = .ok (.goto 4, 3) := dk_167 0 4 (dk_at dksX3_isAhead_2 19 rfl rfl)
theorem dX3_isAhead_68 : decode cX3_isAhead 68 = .ok (.iconst 0, 1) := dk_3 (dk_at dksX3_isAhead_2 22 rfl rfl)
theorem dX3_isAhead_69 : decode cX3_isAhead 69 = .ok (.ireturn, 1) := dk_172 (dk_at dksX3_isAhead_2 23 rfl rfl)
abbrev cX3_swingsToRest : ByteArray := prog_19_method_44_code
def yX3_swingsToRest : MethodName := ⟨RX3, "swingsToRest", "(I)I"⟩
def dkwX3_swingsToRest_1 : List UInt8 := [182, 0, 56, 172]
abbrev dktX3_swingsToRest_1 : List UInt8 := dkwX3_swingsToRest_1 ++ []
def dkwX3_swingsToRest_0 : List UInt8 := [42, 27, 182, 0, 72, 153, 0, 15, 42, 42, 27, 182, 0, 118, 182, 0, 60, 167, 0, 8, 42, 4]
abbrev dktX3_swingsToRest_0 : List UInt8 := dkwX3_swingsToRest_0 ++ dktX3_swingsToRest_1
theorem dksX3_swingsToRest_0 : cX3_swingsToRest.data.toList.drop 0 = dktX3_swingsToRest_0 := by decide +kernel
theorem dksX3_swingsToRest_1 : cX3_swingsToRest.data.toList.drop 22 = dktX3_swingsToRest_1 := dk_seg dksX3_swingsToRest_0 22 rfl rfl
theorem dX3_swingsToRest_0 : decode cX3_swingsToRest 0 = .ok (.aload_n 0, 1) := dk_42 (dk_at dksX3_swingsToRest_0 0 rfl rfl)
theorem dX3_swingsToRest_1 : decode cX3_swingsToRest 1 = .ok (.iload_n 1, 1) := dk_27 (dk_at dksX3_swingsToRest_0 1 rfl rfl)
theorem dX3_swingsToRest_2 : decode cX3_swingsToRest 2 = .ok (.invokevirtual 72, 3) := dk_182 0 72 (dk_at dksX3_swingsToRest_0 2 rfl rfl)
theorem dX3_swingsToRest_5 : decode cX3_swingsToRest 5 = .ok (.ifCond .eq 15, 3) := dk_153 0 15 (dk_at dksX3_swingsToRest_0 5 rfl rfl)
theorem dX3_swingsToRest_8 : decode cX3_swingsToRest 8 = .ok (.aload_n 0, 1) := dk_42 (dk_at dksX3_swingsToRest_0 8 rfl rfl)
theorem dX3_swingsToRest_9 : decode cX3_swingsToRest 9 = .ok (.aload_n 0, 1) := dk_42 (dk_at dksX3_swingsToRest_0 9 rfl rfl)
theorem dX3_swingsToRest_10 : decode cX3_swingsToRest 10 = .ok (.iload_n 1, 1) := dk_27 (dk_at dksX3_swingsToRest_0 10 rfl rfl)
theorem dX3_swingsToRest_11 : decode cX3_swingsToRest 11 = .ok (.invokevirtual 118, 3) := dk_182 0 118 (dk_at dksX3_swingsToRest_0 11 rfl rfl)
theorem dX3_swingsToRest_14 : decode cX3_swingsToRest 14 = .ok (.invokevirtual 60, 3) := dk_182 0 60 (dk_at dksX3_swingsToRest_0 14 rfl rfl)
theorem dX3_swingsToRest_17 : decode cX3_swingsToRest 17 = .ok (.goto 8, 3) := dk_167 0 8 (dk_at dksX3_swingsToRest_0 17 rfl rfl)
theorem dX3_swingsToRest_20 : decode cX3_swingsToRest 20 = .ok (.aload_n 0, 1) := dk_42 (dk_at dksX3_swingsToRest_0 20 rfl rfl)
theorem dX3_swingsToRest_21 : decode cX3_swingsToRest 21 = .ok (.iconst 1, 1) := dk_4 (dk_at dksX3_swingsToRest_0 21 rfl rfl)
theorem dX3_swingsToRest_22 : decode cX3_swingsToRest 22 = .ok (.invokevirtual 56, 3) := dk_182 0 56 (dk_at dksX3_swingsToRest_1 0 rfl rfl)
theorem dX3_swingsToRest_25 : decode cX3_swingsToRest 25 = .ok (.ireturn, 1) := dk_172 (dk_at dksX3_swingsToRest_1 3 rfl rfl)
abbrev cX3_swingsLeft : ByteArray := prog_19_method_43_code
def yX3_swingsLeft : MethodName := ⟨RX3, "swingsLeft", "(I)I"⟩
def dkwX3_swingsLeft_1 : List UInt8 := [62, 167, 255, 243, 28, 172]
abbrev dktX3_swingsLeft_1 : List UInt8 := dkwX3_swingsLeft_1 ++ []
def dkwX3_swingsLeft_0 : List UInt8 := [3, 61, 42, 180, 0, 7, 16, 12, 27, 96, 46, 62, 29, 158, 0, 15, 132, 2, 1, 42, 29, 182, 0, 95]
abbrev dktX3_swingsLeft_0 : List UInt8 := dkwX3_swingsLeft_0 ++ dktX3_swingsLeft_1
theorem dksX3_swingsLeft_0 : cX3_swingsLeft.data.toList.drop 0 = dktX3_swingsLeft_0 := by decide +kernel
theorem dksX3_swingsLeft_1 : cX3_swingsLeft.data.toList.drop 24 = dktX3_swingsLeft_1 := dk_seg dksX3_swingsLeft_0 24 rfl rfl
theorem dX3_swingsLeft_0 : decode cX3_swingsLeft 0 = .ok (.iconst 0, 1) := dk_3 (dk_at dksX3_swingsLeft_0 0 rfl rfl)
theorem dX3_swingsLeft_1 : decode cX3_swingsLeft 1 = .ok (.istore_n 2, 1) := dk_61 (dk_at dksX3_swingsLeft_0 1 rfl rfl)
theorem dX3_swingsLeft_2 : decode cX3_swingsLeft 2 = .ok (.aload_n 0, 1) := dk_42 (dk_at dksX3_swingsLeft_0 2 rfl rfl)
theorem dX3_swingsLeft_3 : decode cX3_swingsLeft 3 = .ok (.getfield 7, 3) := dk_180 0 7 (dk_at dksX3_swingsLeft_0 3 rfl rfl)
theorem dX3_swingsLeft_6 : decode cX3_swingsLeft 6 = .ok (.bipush 12, 2) := dk_16 12 (dk_at dksX3_swingsLeft_0 6 rfl rfl)
theorem dX3_swingsLeft_8 : decode cX3_swingsLeft 8 = .ok (.iload_n 1, 1) := dk_27 (dk_at dksX3_swingsLeft_0 8 rfl rfl)
theorem dX3_swingsLeft_9 : decode cX3_swingsLeft 9 = .ok (.iadd, 1) := dk_96 (dk_at dksX3_swingsLeft_0 9 rfl rfl)
theorem dX3_swingsLeft_10 : decode cX3_swingsLeft 10 = .ok (.iaload, 1) := dk_46 (dk_at dksX3_swingsLeft_0 10 rfl rfl)
theorem dX3_swingsLeft_11 : decode cX3_swingsLeft 11 = .ok (.istore_n 3, 1) := dk_62 (dk_at dksX3_swingsLeft_0 11 rfl rfl)
theorem dX3_swingsLeft_12 : decode cX3_swingsLeft 12 = .ok (.iload_n 3, 1) := dk_29 (dk_at dksX3_swingsLeft_0 12 rfl rfl)
theorem dX3_swingsLeft_13 : decode cX3_swingsLeft 13 = .ok (.ifCond .le 15, 3) := dk_158 0 15 (dk_at dksX3_swingsLeft_0 13 rfl rfl)
theorem dX3_swingsLeft_16 : decode cX3_swingsLeft 16 = .ok (.iinc 2 1, 3) := dk_132 2 1 (dk_at dksX3_swingsLeft_0 16 rfl rfl)
theorem dX3_swingsLeft_19 : decode cX3_swingsLeft 19 = .ok (.aload_n 0, 1) := dk_42 (dk_at dksX3_swingsLeft_0 19 rfl rfl)
theorem dX3_swingsLeft_20 : decode cX3_swingsLeft 20 = .ok (.iload_n 3, 1) := dk_29 (dk_at dksX3_swingsLeft_0 20 rfl rfl)
theorem dX3_swingsLeft_21 : decode cX3_swingsLeft 21 = .ok (.invokevirtual 95, 3) := dk_182 0 95 (dk_at dksX3_swingsLeft_0 21 rfl rfl)
theorem dX3_swingsLeft_24 : decode cX3_swingsLeft 24 = .ok (.istore_n 3, 1) := dk_62 (dk_at dksX3_swingsLeft_1 0 rfl rfl)
theorem dX3_swingsLeft_25 : decode cX3_swingsLeft 25 = .ok (.goto (-13), 3) := dk_167 255 243 (dk_at dksX3_swingsLeft_1 1 rfl rfl)
theorem dX3_swingsLeft_28 : decode cX3_swingsLeft 28 = .ok (.iload_n 2, 1) := dk_28 (dk_at dksX3_swingsLeft_1 4 rfl rfl)
theorem dX3_swingsLeft_29 : decode cX3_swingsLeft 29 = .ok (.ireturn, 1) := dk_172 (dk_at dksX3_swingsLeft_1 5 rfl rfl)
abbrev cX3_swingsToRestByTable : ByteArray := prog_19_method_45_code
def yX3_swingsToRestByTable : MethodName := ⟨RX3, "swingsToRestByTable", "(I)I"⟩
def dkwX3_swingsToRestByTable_0 : List UInt8 := [42, 27, 182, 0, 121, 172]
abbrev dktX3_swingsToRestByTable_0 : List UInt8 := dkwX3_swingsToRestByTable_0 ++ []
theorem dksX3_swingsToRestByTable_0 : cX3_swingsToRestByTable.data.toList.drop 0 = dktX3_swingsToRestByTable_0 := by decide +kernel
theorem dX3_swingsToRestByTable_0 : decode cX3_swingsToRestByTable 0 = .ok (.aload_n 0, 1) := dk_42 (dk_at dksX3_swingsToRestByTable_0 0 rfl rfl)
theorem dX3_swingsToRestByTable_1 : decode cX3_swingsToRestByTable 1 = .ok (.iload_n 1, 1) := dk_27 (dk_at dksX3_swingsToRestByTable_0 1 rfl rfl)
theorem dX3_swingsToRestByTable_2 : decode cX3_swingsToRestByTable 2 = .ok (.invokevirtual 121, 3) := dk_182 0 121 (dk_at dksX3_swingsToRestByTable_0 2 rfl rfl)
theorem dX3_swingsToRestByTable_5 : decode cX3_swingsToRestByTable 5 = .ok (.ireturn, 1) := dk_172 (dk_at dksX3_swingsToRestByTable_0 5 rfl rfl)
abbrev cX3_restTick : ByteArray := prog_19_method_47_code
def yX3_restTick : MethodName := ⟨RX3, "restTick", "(I)I"⟩
def dkwX3_restTick_2 : List UInt8 := [180, 0, 7, 16, 20, 27, 96, 46, 28, 42, 27, 182, 0, 92, 104, 96, 182, 0, 60, 172]
abbrev dktX3_restTick_2 : List UInt8 := dkwX3_restTick_2 ++ []
def dkwX3_restTick_1 : List UInt8 := [182, 0, 56, 172, 42, 27, 42, 180, 0, 7, 3, 46, 182, 0, 124, 42, 27, 182, 0, 118, 96, 61, 42, 42]
abbrev dktX3_restTick_1 : List UInt8 := dkwX3_restTick_1 ++ dktX3_restTick_2
def dkwX3_restTick_0 : List UInt8 := [42, 27, 182, 0, 72, 154, 0, 9, 42, 4, 182, 0, 56, 172, 42, 27, 182, 0, 76, 153, 0, 9, 42, 5]
abbrev dktX3_restTick_0 : List UInt8 := dkwX3_restTick_0 ++ dktX3_restTick_1
theorem dksX3_restTick_0 : cX3_restTick.data.toList.drop 0 = dktX3_restTick_0 := by decide +kernel
theorem dksX3_restTick_1 : cX3_restTick.data.toList.drop 24 = dktX3_restTick_1 := dk_seg dksX3_restTick_0 24 rfl rfl
theorem dksX3_restTick_2 : cX3_restTick.data.toList.drop 48 = dktX3_restTick_2 := dk_seg dksX3_restTick_1 24 rfl rfl
theorem dX3_restTick_0 : decode cX3_restTick 0 = .ok (.aload_n 0, 1) := dk_42 (dk_at dksX3_restTick_0 0 rfl rfl)
theorem dX3_restTick_1 : decode cX3_restTick 1 = .ok (.iload_n 1, 1) := dk_27 (dk_at dksX3_restTick_0 1 rfl rfl)
theorem dX3_restTick_2 : decode cX3_restTick 2 = .ok (.invokevirtual 72, 3) := dk_182 0 72 (dk_at dksX3_restTick_0 2 rfl rfl)
theorem dX3_restTick_5 : decode cX3_restTick 5 = .ok (.ifCond .ne 9, 3) := dk_154 0 9 (dk_at dksX3_restTick_0 5 rfl rfl)
theorem dX3_restTick_8 : decode cX3_restTick 8 = .ok (.aload_n 0, 1) := dk_42 (dk_at dksX3_restTick_0 8 rfl rfl)
theorem dX3_restTick_9 : decode cX3_restTick 9 = .ok (.iconst 1, 1) := dk_4 (dk_at dksX3_restTick_0 9 rfl rfl)
theorem dX3_restTick_10 : decode cX3_restTick 10 = .ok (.invokevirtual 56, 3) := dk_182 0 56 (dk_at dksX3_restTick_0 10 rfl rfl)
theorem dX3_restTick_13 : decode cX3_restTick 13 = .ok (.ireturn, 1) := dk_172 (dk_at dksX3_restTick_0 13 rfl rfl)
theorem dX3_restTick_14 : decode cX3_restTick 14 = .ok (.aload_n 0, 1) := dk_42 (dk_at dksX3_restTick_0 14 rfl rfl)
theorem dX3_restTick_15 : decode cX3_restTick 15 = .ok (.iload_n 1, 1) := dk_27 (dk_at dksX3_restTick_0 15 rfl rfl)
theorem dX3_restTick_16 : decode cX3_restTick 16 = .ok (.invokevirtual 76, 3) := dk_182 0 76 (dk_at dksX3_restTick_0 16 rfl rfl)
theorem dX3_restTick_19 : decode cX3_restTick 19 = .ok (.ifCond .eq 9, 3) := dk_153 0 9 (dk_at dksX3_restTick_0 19 rfl rfl)
theorem dX3_restTick_22 : decode cX3_restTick 22 = .ok (.aload_n 0, 1) := dk_42 (dk_at dksX3_restTick_0 22 rfl rfl)
theorem dX3_restTick_23 : decode cX3_restTick 23 = .ok (.iconst 2, 1) := dk_5 (dk_at dksX3_restTick_0 23 rfl rfl)
theorem dX3_restTick_24 : decode cX3_restTick 24 = .ok (.invokevirtual 56, 3) := dk_182 0 56 (dk_at dksX3_restTick_1 0 rfl rfl)
theorem dX3_restTick_27 : decode cX3_restTick 27 = .ok (.ireturn, 1) := dk_172 (dk_at dksX3_restTick_1 3 rfl rfl)
theorem dX3_restTick_28 : decode cX3_restTick 28 = .ok (.aload_n 0, 1) := dk_42 (dk_at dksX3_restTick_1 4 rfl rfl)
theorem dX3_restTick_29 : decode cX3_restTick 29 = .ok (.iload_n 1, 1) := dk_27 (dk_at dksX3_restTick_1 5 rfl rfl)
theorem dX3_restTick_30 : decode cX3_restTick 30 = .ok (.aload_n 0, 1) := dk_42 (dk_at dksX3_restTick_1 6 rfl rfl)
theorem dX3_restTick_31 : decode cX3_restTick 31 = .ok (.getfield 7, 3) := dk_180 0 7 (dk_at dksX3_restTick_1 7 rfl rfl)
theorem dX3_restTick_34 : decode cX3_restTick 34 = .ok (.iconst 0, 1) := dk_3 (dk_at dksX3_restTick_1 10 rfl rfl)
theorem dX3_restTick_35 : decode cX3_restTick 35 = .ok (.iaload, 1) := dk_46 (dk_at dksX3_restTick_1 11 rfl rfl)
theorem dX3_restTick_36 : decode cX3_restTick 36 = .ok (.invokevirtual 124, 3) := dk_182 0 124 (dk_at dksX3_restTick_1 12 rfl rfl)
theorem dX3_restTick_39 : decode cX3_restTick 39 = .ok (.aload_n 0, 1) := dk_42 (dk_at dksX3_restTick_1 15 rfl rfl)
theorem dX3_restTick_40 : decode cX3_restTick 40 = .ok (.iload_n 1, 1) := dk_27 (dk_at dksX3_restTick_1 16 rfl rfl)
theorem dX3_restTick_41 : decode cX3_restTick 41 = .ok (.invokevirtual 118, 3) := dk_182 0 118 (dk_at dksX3_restTick_1 17 rfl rfl)
theorem dX3_restTick_44 : decode cX3_restTick 44 = .ok (.iadd, 1) := dk_96 (dk_at dksX3_restTick_1 20 rfl rfl)
theorem dX3_restTick_45 : decode cX3_restTick 45 = .ok (.istore_n 2, 1) := dk_61 (dk_at dksX3_restTick_1 21 rfl rfl)
theorem dX3_restTick_46 : decode cX3_restTick 46 = .ok (.aload_n 0, 1) := dk_42 (dk_at dksX3_restTick_1 22 rfl rfl)
theorem dX3_restTick_47 : decode cX3_restTick 47 = .ok (.aload_n 0, 1) := dk_42 (dk_at dksX3_restTick_1 23 rfl rfl)
theorem dX3_restTick_48 : decode cX3_restTick 48 = .ok (.getfield 7, 3) := dk_180 0 7 (dk_at dksX3_restTick_2 0 rfl rfl)
theorem dX3_restTick_51 : decode cX3_restTick 51 = .ok (.bipush 20, 2) := dk_16 20 (dk_at dksX3_restTick_2 3 rfl rfl)
theorem dX3_restTick_53 : decode cX3_restTick 53 = .ok (.iload_n 1, 1) := dk_27 (dk_at dksX3_restTick_2 5 rfl rfl)
theorem dX3_restTick_54 : decode cX3_restTick 54 = .ok (.iadd, 1) := dk_96 (dk_at dksX3_restTick_2 6 rfl rfl)
theorem dX3_restTick_55 : decode cX3_restTick 55 = .ok (.iaload, 1) := dk_46 (dk_at dksX3_restTick_2 7 rfl rfl)
theorem dX3_restTick_56 : decode cX3_restTick 56 = .ok (.iload_n 2, 1) := dk_28 (dk_at dksX3_restTick_2 8 rfl rfl)
theorem dX3_restTick_57 : decode cX3_restTick 57 = .ok (.aload_n 0, 1) := dk_42 (dk_at dksX3_restTick_2 9 rfl rfl)
theorem dX3_restTick_58 : decode cX3_restTick 58 = .ok (.iload_n 1, 1) := dk_27 (dk_at dksX3_restTick_2 10 rfl rfl)
theorem dX3_restTick_59 : decode cX3_restTick 59 = .ok (.invokevirtual 92, 3) := dk_182 0 92 (dk_at dksX3_restTick_2 11 rfl rfl)
theorem dX3_restTick_62 : decode cX3_restTick 62 = .ok (.imul, 1) := dk_104 (dk_at dksX3_restTick_2 14 rfl rfl)
theorem dX3_restTick_63 : decode cX3_restTick 63 = .ok (.iadd, 1) := dk_96 (dk_at dksX3_restTick_2 15 rfl rfl)
theorem dX3_restTick_64 : decode cX3_restTick 64 = .ok (.invokevirtual 60, 3) := dk_182 0 60 (dk_at dksX3_restTick_2 16 rfl rfl)
theorem dX3_restTick_67 : decode cX3_restTick 67 = .ok (.ireturn, 1) := dk_172 (dk_at dksX3_restTick_2 19 rfl rfl)
abbrev cX3_swingsUntil : ByteArray := prog_19_method_46_code
def yX3_swingsUntil : MethodName := ⟨RX3, "swingsUntil", "(II)I"⟩
def dkwX3_swingsUntil_0 : List UInt8 := [28, 42, 180, 0, 7, 16, 20, 27, 96, 46, 100, 42, 27, 182, 0, 92, 108, 172]
abbrev dktX3_swingsUntil_0 : List UInt8 := dkwX3_swingsUntil_0 ++ []
theorem dksX3_swingsUntil_0 : cX3_swingsUntil.data.toList.drop 0 = dktX3_swingsUntil_0 := by decide +kernel
theorem dX3_swingsUntil_0 : decode cX3_swingsUntil 0 = .ok (.iload_n 2, 1) := dk_28 (dk_at dksX3_swingsUntil_0 0 rfl rfl)
theorem dX3_swingsUntil_1 : decode cX3_swingsUntil 1 = .ok (.aload_n 0, 1) := dk_42 (dk_at dksX3_swingsUntil_0 1 rfl rfl)
theorem dX3_swingsUntil_2 : decode cX3_swingsUntil 2 = .ok (.getfield 7, 3) := dk_180 0 7 (dk_at dksX3_swingsUntil_0 2 rfl rfl)
theorem dX3_swingsUntil_5 : decode cX3_swingsUntil 5 = .ok (.bipush 20, 2) := dk_16 20 (dk_at dksX3_swingsUntil_0 5 rfl rfl)
theorem dX3_swingsUntil_7 : decode cX3_swingsUntil 7 = .ok (.iload_n 1, 1) := dk_27 (dk_at dksX3_swingsUntil_0 7 rfl rfl)
theorem dX3_swingsUntil_8 : decode cX3_swingsUntil 8 = .ok (.iadd, 1) := dk_96 (dk_at dksX3_swingsUntil_0 8 rfl rfl)
theorem dX3_swingsUntil_9 : decode cX3_swingsUntil 9 = .ok (.iaload, 1) := dk_46 (dk_at dksX3_swingsUntil_0 9 rfl rfl)
theorem dX3_swingsUntil_10 : decode cX3_swingsUntil 10 = .ok (.isub, 1) := dk_100 (dk_at dksX3_swingsUntil_0 10 rfl rfl)
theorem dX3_swingsUntil_11 : decode cX3_swingsUntil 11 = .ok (.aload_n 0, 1) := dk_42 (dk_at dksX3_swingsUntil_0 11 rfl rfl)
theorem dX3_swingsUntil_12 : decode cX3_swingsUntil 12 = .ok (.iload_n 1, 1) := dk_27 (dk_at dksX3_swingsUntil_0 12 rfl rfl)
theorem dX3_swingsUntil_13 : decode cX3_swingsUntil 13 = .ok (.invokevirtual 92, 3) := dk_182 0 92 (dk_at dksX3_swingsUntil_0 13 rfl rfl)
theorem dX3_swingsUntil_16 : decode cX3_swingsUntil 16 = .ok (.idiv, 1) := dk_108 (dk_at dksX3_swingsUntil_0 16 rfl rfl)
theorem dX3_swingsUntil_17 : decode cX3_swingsUntil 17 = .ok (.ireturn, 1) := dk_172 (dk_at dksX3_swingsUntil_0 17 rfl rfl)
abbrev cX3_amplitudeAfter : ByteArray := prog_19_method_48_code
def yX3_amplitudeAfter : MethodName := ⟨RX3, "amplitudeAfter", "(II)I"⟩
def dkwX3_amplitudeAfter_4 : List UInt8 := [182, 0, 95, 62, 132, 5, 1, 167, 255, 236, 42, 29, 182, 0, 60, 172]
abbrev dktX3_amplitudeAfter_4 : List UInt8 := dkwX3_amplitudeAfter_4 ++ []
def dkwX3_amplitudeAfter_3 : List UInt8 := [167, 0, 4, 3, 54, 4, 3, 54, 5, 21, 5, 21, 4, 162, 0, 19, 29, 158, 0, 15, 42, 29]
abbrev dktX3_amplitudeAfter_3 : List UInt8 := dkwX3_amplitudeAfter_3 ++ dktX3_amplitudeAfter_4
def dkwX3_amplitudeAfter_2 : List UInt8 := [27, 42, 180, 0, 7, 3, 46, 28, 96, 182, 0, 124, 42, 27, 42, 180, 0, 7, 3, 46, 182, 0, 124, 100]
abbrev dktX3_amplitudeAfter_2 : List UInt8 := dkwX3_amplitudeAfter_2 ++ dktX3_amplitudeAfter_3
def dkwX3_amplitudeAfter_1 : List UInt8 := [154, 0, 9, 42, 5, 182, 0, 56, 172, 42, 180, 0, 7, 16, 12, 27, 96, 46, 62, 29, 158, 0, 31, 42]
abbrev dktX3_amplitudeAfter_1 : List UInt8 := dkwX3_amplitudeAfter_1 ++ dktX3_amplitudeAfter_2
def dkwX3_amplitudeAfter_0 : List UInt8 := [42, 27, 182, 0, 72, 154, 0, 9, 42, 4, 182, 0, 56, 172, 28, 3, 17, 1, 244, 184, 0, 52]
abbrev dktX3_amplitudeAfter_0 : List UInt8 := dkwX3_amplitudeAfter_0 ++ dktX3_amplitudeAfter_1
theorem dksX3_amplitudeAfter_0 : cX3_amplitudeAfter.data.toList.drop 0 = dktX3_amplitudeAfter_0 := by decide +kernel
theorem dksX3_amplitudeAfter_1 : cX3_amplitudeAfter.data.toList.drop 22 = dktX3_amplitudeAfter_1 := dk_seg dksX3_amplitudeAfter_0 22 rfl rfl
theorem dksX3_amplitudeAfter_2 : cX3_amplitudeAfter.data.toList.drop 46 = dktX3_amplitudeAfter_2 := dk_seg dksX3_amplitudeAfter_1 24 rfl rfl
theorem dksX3_amplitudeAfter_3 : cX3_amplitudeAfter.data.toList.drop 70 = dktX3_amplitudeAfter_3 := dk_seg dksX3_amplitudeAfter_2 24 rfl rfl
theorem dksX3_amplitudeAfter_4 : cX3_amplitudeAfter.data.toList.drop 92 = dktX3_amplitudeAfter_4 := dk_seg dksX3_amplitudeAfter_3 22 rfl rfl
theorem dX3_amplitudeAfter_0 : decode cX3_amplitudeAfter 0 = .ok (.aload_n 0, 1) := dk_42 (dk_at dksX3_amplitudeAfter_0 0 rfl rfl)
theorem dX3_amplitudeAfter_1 : decode cX3_amplitudeAfter 1 = .ok (.iload_n 1, 1) := dk_27 (dk_at dksX3_amplitudeAfter_0 1 rfl rfl)
theorem dX3_amplitudeAfter_2 : decode cX3_amplitudeAfter 2 = .ok (.invokevirtual 72, 3) := dk_182 0 72 (dk_at dksX3_amplitudeAfter_0 2 rfl rfl)
theorem dX3_amplitudeAfter_5 : decode cX3_amplitudeAfter 5 = .ok (.ifCond .ne 9, 3) := dk_154 0 9 (dk_at dksX3_amplitudeAfter_0 5 rfl rfl)
theorem dX3_amplitudeAfter_8 : decode cX3_amplitudeAfter 8 = .ok (.aload_n 0, 1) := dk_42 (dk_at dksX3_amplitudeAfter_0 8 rfl rfl)
theorem dX3_amplitudeAfter_9 : decode cX3_amplitudeAfter 9 = .ok (.iconst 1, 1) := dk_4 (dk_at dksX3_amplitudeAfter_0 9 rfl rfl)
theorem dX3_amplitudeAfter_10 : decode cX3_amplitudeAfter 10 = .ok (.invokevirtual 56, 3) := dk_182 0 56 (dk_at dksX3_amplitudeAfter_0 10 rfl rfl)
theorem dX3_amplitudeAfter_13 : decode cX3_amplitudeAfter 13 = .ok (.ireturn, 1) := dk_172 (dk_at dksX3_amplitudeAfter_0 13 rfl rfl)
theorem dX3_amplitudeAfter_14 : decode cX3_amplitudeAfter 14 = .ok (.iload_n 2, 1) := dk_28 (dk_at dksX3_amplitudeAfter_0 14 rfl rfl)
theorem dX3_amplitudeAfter_15 : decode cX3_amplitudeAfter 15 = .ok (.iconst 0, 1) := dk_3 (dk_at dksX3_amplitudeAfter_0 15 rfl rfl)
theorem dX3_amplitudeAfter_16 : decode cX3_amplitudeAfter 16 = .ok (.sipush 500, 3) := dk_17 1 244 (dk_at dksX3_amplitudeAfter_0 16 rfl rfl)
theorem dX3_amplitudeAfter_19 : decode cX3_amplitudeAfter 19 = .ok (.invokestatic 52, 3) := dk_184 0 52 (dk_at dksX3_amplitudeAfter_0 19 rfl rfl)
theorem dX3_amplitudeAfter_22 : decode cX3_amplitudeAfter 22 = .ok (.ifCond .ne 9, 3) := dk_154 0 9 (dk_at dksX3_amplitudeAfter_1 0 rfl rfl)
theorem dX3_amplitudeAfter_25 : decode cX3_amplitudeAfter 25 = .ok (.aload_n 0, 1) := dk_42 (dk_at dksX3_amplitudeAfter_1 3 rfl rfl)
theorem dX3_amplitudeAfter_26 : decode cX3_amplitudeAfter 26 = .ok (.iconst 2, 1) := dk_5 (dk_at dksX3_amplitudeAfter_1 4 rfl rfl)
theorem dX3_amplitudeAfter_27 : decode cX3_amplitudeAfter 27 = .ok (.invokevirtual 56, 3) := dk_182 0 56 (dk_at dksX3_amplitudeAfter_1 5 rfl rfl)
theorem dX3_amplitudeAfter_30 : decode cX3_amplitudeAfter 30 = .ok (.ireturn, 1) := dk_172 (dk_at dksX3_amplitudeAfter_1 8 rfl rfl)
theorem dX3_amplitudeAfter_31 : decode cX3_amplitudeAfter 31 = .ok (.aload_n 0, 1) := dk_42 (dk_at dksX3_amplitudeAfter_1 9 rfl rfl)
theorem dX3_amplitudeAfter_32 : decode cX3_amplitudeAfter 32 = .ok (.getfield 7, 3) := dk_180 0 7 (dk_at dksX3_amplitudeAfter_1 10 rfl rfl)
theorem dX3_amplitudeAfter_35 : decode cX3_amplitudeAfter 35 = .ok (.bipush 12, 2) := dk_16 12 (dk_at dksX3_amplitudeAfter_1 13 rfl rfl)
theorem dX3_amplitudeAfter_37 : decode cX3_amplitudeAfter 37 = .ok (.iload_n 1, 1) := dk_27 (dk_at dksX3_amplitudeAfter_1 15 rfl rfl)
theorem dX3_amplitudeAfter_38 : decode cX3_amplitudeAfter 38 = .ok (.iadd, 1) := dk_96 (dk_at dksX3_amplitudeAfter_1 16 rfl rfl)
theorem dX3_amplitudeAfter_39 : decode cX3_amplitudeAfter 39 = .ok (.iaload, 1) := dk_46 (dk_at dksX3_amplitudeAfter_1 17 rfl rfl)
theorem dX3_amplitudeAfter_40 : decode cX3_amplitudeAfter 40 = .ok (.istore_n 3, 1) := dk_62 (dk_at dksX3_amplitudeAfter_1 18 rfl rfl)
theorem dX3_amplitudeAfter_41 : decode cX3_amplitudeAfter 41 = .ok (.iload_n 3, 1) := dk_29 (dk_at dksX3_amplitudeAfter_1 19 rfl rfl)
theorem dX3_amplitudeAfter_42 : decode cX3_amplitudeAfter 42 = .ok (.ifCond .le 31, 3) := dk_158 0 31 (dk_at dksX3_amplitudeAfter_1 20 rfl rfl)
theorem dX3_amplitudeAfter_45 : decode cX3_amplitudeAfter 45 = .ok (.aload_n 0, 1) := dk_42 (dk_at dksX3_amplitudeAfter_1 23 rfl rfl)
theorem dX3_amplitudeAfter_46 : decode cX3_amplitudeAfter 46 = .ok (.iload_n 1, 1) := dk_27 (dk_at dksX3_amplitudeAfter_2 0 rfl rfl)
theorem dX3_amplitudeAfter_47 : decode cX3_amplitudeAfter 47 = .ok (.aload_n 0, 1) := dk_42 (dk_at dksX3_amplitudeAfter_2 1 rfl rfl)
theorem dX3_amplitudeAfter_48 : decode cX3_amplitudeAfter 48 = .ok (.getfield 7, 3) := dk_180 0 7 (dk_at dksX3_amplitudeAfter_2 2 rfl rfl)
theorem dX3_amplitudeAfter_51 : decode cX3_amplitudeAfter 51 = .ok (.iconst 0, 1) := dk_3 (dk_at dksX3_amplitudeAfter_2 5 rfl rfl)
theorem dX3_amplitudeAfter_52 : decode cX3_amplitudeAfter 52 = .ok (.iaload, 1) := dk_46 (dk_at dksX3_amplitudeAfter_2 6 rfl rfl)
theorem dX3_amplitudeAfter_53 : decode cX3_amplitudeAfter 53 = .ok (.iload_n 2, 1) := dk_28 (dk_at dksX3_amplitudeAfter_2 7 rfl rfl)
theorem dX3_amplitudeAfter_54 : decode cX3_amplitudeAfter 54 = .ok (.iadd, 1) := dk_96 (dk_at dksX3_amplitudeAfter_2 8 rfl rfl)
theorem dX3_amplitudeAfter_55 : decode cX3_amplitudeAfter 55 = .ok (.invokevirtual 124, 3) := dk_182 0 124 (dk_at dksX3_amplitudeAfter_2 9 rfl rfl)
theorem dX3_amplitudeAfter_58 : decode cX3_amplitudeAfter 58 = .ok (.aload_n 0, 1) := dk_42 (dk_at dksX3_amplitudeAfter_2 12 rfl rfl)
theorem dX3_amplitudeAfter_59 : decode cX3_amplitudeAfter 59 = .ok (.iload_n 1, 1) := dk_27 (dk_at dksX3_amplitudeAfter_2 13 rfl rfl)
theorem dX3_amplitudeAfter_60 : decode cX3_amplitudeAfter 60 = .ok (.aload_n 0, 1) := dk_42 (dk_at dksX3_amplitudeAfter_2 14 rfl rfl)
theorem dX3_amplitudeAfter_61 : decode cX3_amplitudeAfter 61 = .ok (.getfield 7, 3) := dk_180 0 7 (dk_at dksX3_amplitudeAfter_2 15 rfl rfl)
theorem dX3_amplitudeAfter_64 : decode cX3_amplitudeAfter 64 = .ok (.iconst 0, 1) := dk_3 (dk_at dksX3_amplitudeAfter_2 18 rfl rfl)
theorem dX3_amplitudeAfter_65 : decode cX3_amplitudeAfter 65 = .ok (.iaload, 1) := dk_46 (dk_at dksX3_amplitudeAfter_2 19 rfl rfl)
theorem dX3_amplitudeAfter_66 : decode cX3_amplitudeAfter 66 = .ok (.invokevirtual 124, 3) := dk_182 0 124 (dk_at dksX3_amplitudeAfter_2 20 rfl rfl)
theorem dX3_amplitudeAfter_69 : decode cX3_amplitudeAfter 69 = .ok (.isub, 1) := dk_100 (dk_at dksX3_amplitudeAfter_2 23 rfl rfl)
theorem dX3_amplitudeAfter_70 : decode cX3_amplitudeAfter 70 = .ok (.goto 4, 3) := dk_167 0 4 (dk_at dksX3_amplitudeAfter_3 0 rfl rfl)
theorem dX3_amplitudeAfter_73 : decode cX3_amplitudeAfter 73 = .ok (.iconst 0, 1) := dk_3 (dk_at dksX3_amplitudeAfter_3 3 rfl rfl)
theorem dX3_amplitudeAfter_74 : decode cX3_amplitudeAfter 74 = .ok (.istore 4, 2) := dk_54 4 (dk_at dksX3_amplitudeAfter_3 4 rfl rfl)
theorem dX3_amplitudeAfter_76 : decode cX3_amplitudeAfter 76 = .ok (.iconst 0, 1) := dk_3 (dk_at dksX3_amplitudeAfter_3 6 rfl rfl)
theorem dX3_amplitudeAfter_77 : decode cX3_amplitudeAfter 77 = .ok (.istore 5, 2) := dk_54 5 (dk_at dksX3_amplitudeAfter_3 7 rfl rfl)
theorem dX3_amplitudeAfter_79 : decode cX3_amplitudeAfter 79 = .ok (.iload 5, 2) := dk_21 5 (dk_at dksX3_amplitudeAfter_3 9 rfl rfl)
theorem dX3_amplitudeAfter_81 : decode cX3_amplitudeAfter 81 = .ok (.iload 4, 2) := dk_21 4 (dk_at dksX3_amplitudeAfter_3 11 rfl rfl)
theorem dX3_amplitudeAfter_83 : decode cX3_amplitudeAfter 83 = .ok (.if_icmp .ge 19, 3) := dk_162 0 19 (dk_at dksX3_amplitudeAfter_3 13 rfl rfl)
theorem dX3_amplitudeAfter_86 : decode cX3_amplitudeAfter 86 = .ok (.iload_n 3, 1) := dk_29 (dk_at dksX3_amplitudeAfter_3 16 rfl rfl)
theorem dX3_amplitudeAfter_87 : decode cX3_amplitudeAfter 87 = .ok (.ifCond .le 15, 3) := dk_158 0 15 (dk_at dksX3_amplitudeAfter_3 17 rfl rfl)
theorem dX3_amplitudeAfter_90 : decode cX3_amplitudeAfter 90 = .ok (.aload_n 0, 1) := dk_42 (dk_at dksX3_amplitudeAfter_3 20 rfl rfl)
theorem dX3_amplitudeAfter_91 : decode cX3_amplitudeAfter 91 = .ok (.iload_n 3, 1) := dk_29 (dk_at dksX3_amplitudeAfter_3 21 rfl rfl)
theorem dX3_amplitudeAfter_92 : decode cX3_amplitudeAfter 92 = .ok (.invokevirtual 95, 3) := dk_182 0 95 (dk_at dksX3_amplitudeAfter_4 0 rfl rfl)
theorem dX3_amplitudeAfter_95 : decode cX3_amplitudeAfter 95 = .ok (.istore_n 3, 1) := dk_62 (dk_at dksX3_amplitudeAfter_4 3 rfl rfl)
theorem dX3_amplitudeAfter_96 : decode cX3_amplitudeAfter 96 = .ok (.iinc 5 1, 3) := dk_132 5 1 (dk_at dksX3_amplitudeAfter_4 4 rfl rfl)
theorem dX3_amplitudeAfter_99 : decode cX3_amplitudeAfter 99 = .ok (.goto (-20), 3) := dk_167 255 236 (dk_at dksX3_amplitudeAfter_4 7 rfl rfl)
theorem dX3_amplitudeAfter_102 : decode cX3_amplitudeAfter 102 = .ok (.aload_n 0, 1) := dk_42 (dk_at dksX3_amplitudeAfter_4 10 rfl rfl)
theorem dX3_amplitudeAfter_103 : decode cX3_amplitudeAfter 103 = .ok (.iload_n 3, 1) := dk_29 (dk_at dksX3_amplitudeAfter_4 11 rfl rfl)
theorem dX3_amplitudeAfter_104 : decode cX3_amplitudeAfter 104 = .ok (.invokevirtual 60, 3) := dk_182 0 60 (dk_at dksX3_amplitudeAfter_4 12 rfl rfl)
theorem dX3_amplitudeAfter_107 : decode cX3_amplitudeAfter 107 = .ok (.ireturn, 1) := dk_172 (dk_at dksX3_amplitudeAfter_4 15 rfl rfl)
abbrev cX3_meeting : ByteArray := prog_19_method_51_code
def yX3_meeting : MethodName := ⟨RX3, "meeting", "(II)I"⟩
def dkwX3_meeting_2 : List UInt8 := [182, 0, 133, 62, 29, 2, 160, 0, 11, 42, 6, 182, 0, 56, 167, 0, 8, 42, 29, 182, 0, 60, 172]
abbrev dktX3_meeting_2 : List UInt8 := dkwX3_meeting_2 ++ []
def dkwX3_meeting_1 : List UInt8 := [182, 0, 76, 154, 0, 11, 42, 28, 182, 0, 76, 153, 0, 9, 42, 5, 182, 0, 56, 172, 42, 27, 28]
abbrev dktX3_meeting_1 : List UInt8 := dkwX3_meeting_1 ++ dktX3_meeting_2
def dkwX3_meeting_0 : List UInt8 := [42, 27, 182, 0, 72, 153, 0, 11, 42, 28, 182, 0, 72, 154, 0, 9, 42, 4, 182, 0, 56, 172, 42, 27]
abbrev dktX3_meeting_0 : List UInt8 := dkwX3_meeting_0 ++ dktX3_meeting_1
theorem dksX3_meeting_0 : cX3_meeting.data.toList.drop 0 = dktX3_meeting_0 := by decide +kernel
theorem dksX3_meeting_1 : cX3_meeting.data.toList.drop 24 = dktX3_meeting_1 := dk_seg dksX3_meeting_0 24 rfl rfl
theorem dksX3_meeting_2 : cX3_meeting.data.toList.drop 47 = dktX3_meeting_2 := dk_seg dksX3_meeting_1 23 rfl rfl
theorem dX3_meeting_0 : decode cX3_meeting 0 = .ok (.aload_n 0, 1) := dk_42 (dk_at dksX3_meeting_0 0 rfl rfl)
theorem dX3_meeting_1 : decode cX3_meeting 1 = .ok (.iload_n 1, 1) := dk_27 (dk_at dksX3_meeting_0 1 rfl rfl)
theorem dX3_meeting_2 : decode cX3_meeting 2 = .ok (.invokevirtual 72, 3) := dk_182 0 72 (dk_at dksX3_meeting_0 2 rfl rfl)
theorem dX3_meeting_5 : decode cX3_meeting 5 = .ok (.ifCond .eq 11, 3) := dk_153 0 11 (dk_at dksX3_meeting_0 5 rfl rfl)
theorem dX3_meeting_8 : decode cX3_meeting 8 = .ok (.aload_n 0, 1) := dk_42 (dk_at dksX3_meeting_0 8 rfl rfl)
theorem dX3_meeting_9 : decode cX3_meeting 9 = .ok (.iload_n 2, 1) := dk_28 (dk_at dksX3_meeting_0 9 rfl rfl)
theorem dX3_meeting_10 : decode cX3_meeting 10 = .ok (.invokevirtual 72, 3) := dk_182 0 72 (dk_at dksX3_meeting_0 10 rfl rfl)
theorem dX3_meeting_13 : decode cX3_meeting 13 = .ok (.ifCond .ne 9, 3) := dk_154 0 9 (dk_at dksX3_meeting_0 13 rfl rfl)
theorem dX3_meeting_16 : decode cX3_meeting 16 = .ok (.aload_n 0, 1) := dk_42 (dk_at dksX3_meeting_0 16 rfl rfl)
theorem dX3_meeting_17 : decode cX3_meeting 17 = .ok (.iconst 1, 1) := dk_4 (dk_at dksX3_meeting_0 17 rfl rfl)
theorem dX3_meeting_18 : decode cX3_meeting 18 = .ok (.invokevirtual 56, 3) := dk_182 0 56 (dk_at dksX3_meeting_0 18 rfl rfl)
theorem dX3_meeting_21 : decode cX3_meeting 21 = .ok (.ireturn, 1) := dk_172 (dk_at dksX3_meeting_0 21 rfl rfl)
theorem dX3_meeting_22 : decode cX3_meeting 22 = .ok (.aload_n 0, 1) := dk_42 (dk_at dksX3_meeting_0 22 rfl rfl)
theorem dX3_meeting_23 : decode cX3_meeting 23 = .ok (.iload_n 1, 1) := dk_27 (dk_at dksX3_meeting_0 23 rfl rfl)
theorem dX3_meeting_24 : decode cX3_meeting 24 = .ok (.invokevirtual 76, 3) := dk_182 0 76 (dk_at dksX3_meeting_1 0 rfl rfl)
theorem dX3_meeting_27 : decode cX3_meeting 27 = .ok (.ifCond .ne 11, 3) := dk_154 0 11 (dk_at dksX3_meeting_1 3 rfl rfl)
theorem dX3_meeting_30 : decode cX3_meeting 30 = .ok (.aload_n 0, 1) := dk_42 (dk_at dksX3_meeting_1 6 rfl rfl)
theorem dX3_meeting_31 : decode cX3_meeting 31 = .ok (.iload_n 2, 1) := dk_28 (dk_at dksX3_meeting_1 7 rfl rfl)
theorem dX3_meeting_32 : decode cX3_meeting 32 = .ok (.invokevirtual 76, 3) := dk_182 0 76 (dk_at dksX3_meeting_1 8 rfl rfl)
theorem dX3_meeting_35 : decode cX3_meeting 35 = .ok (.ifCond .eq 9, 3) := dk_153 0 9 (dk_at dksX3_meeting_1 11 rfl rfl)
theorem dX3_meeting_38 : decode cX3_meeting 38 = .ok (.aload_n 0, 1) := dk_42 (dk_at dksX3_meeting_1 14 rfl rfl)
theorem dX3_meeting_39 : decode cX3_meeting 39 = .ok (.iconst 2, 1) := dk_5 (dk_at dksX3_meeting_1 15 rfl rfl)
theorem dX3_meeting_40 : decode cX3_meeting 40 = .ok (.invokevirtual 56, 3) := dk_182 0 56 (dk_at dksX3_meeting_1 16 rfl rfl)
theorem dX3_meeting_43 : decode cX3_meeting 43 = .ok (.ireturn, 1) := dk_172 (dk_at dksX3_meeting_1 19 rfl rfl)
theorem dX3_meeting_44 : decode cX3_meeting 44 = .ok (.aload_n 0, 1) := dk_42 (dk_at dksX3_meeting_1 20 rfl rfl)
theorem dX3_meeting_45 : decode cX3_meeting 45 = .ok (.iload_n 1, 1) := dk_27 (dk_at dksX3_meeting_1 21 rfl rfl)
theorem dX3_meeting_46 : decode cX3_meeting 46 = .ok (.iload_n 2, 1) := dk_28 (dk_at dksX3_meeting_1 22 rfl rfl)
theorem dX3_meeting_47 : decode cX3_meeting 47 = .ok (.invokevirtual 133, 3) := dk_182 0 133 (dk_at dksX3_meeting_2 0 rfl rfl)
theorem dX3_meeting_50 : decode cX3_meeting 50 = .ok (.istore_n 3, 1) := dk_62 (dk_at dksX3_meeting_2 3 rfl rfl)
theorem dX3_meeting_51 : decode cX3_meeting 51 = .ok (.iload_n 3, 1) := dk_29 (dk_at dksX3_meeting_2 4 rfl rfl)
theorem dX3_meeting_52 : decode cX3_meeting 52 = .ok (.iconst (-1), 1) := dk_2 (dk_at dksX3_meeting_2 5 rfl rfl)
theorem dX3_meeting_53 : decode cX3_meeting 53 = .ok (.if_icmp .ne 11, 3) := dk_160 0 11 (dk_at dksX3_meeting_2 6 rfl rfl)
theorem dX3_meeting_56 : decode cX3_meeting 56 = .ok (.aload_n 0, 1) := dk_42 (dk_at dksX3_meeting_2 9 rfl rfl)
theorem dX3_meeting_57 : decode cX3_meeting 57 = .ok (.iconst 3, 1) := dk_6 (dk_at dksX3_meeting_2 10 rfl rfl)
theorem dX3_meeting_58 : decode cX3_meeting 58 = .ok (.invokevirtual 56, 3) := dk_182 0 56 (dk_at dksX3_meeting_2 11 rfl rfl)
theorem dX3_meeting_61 : decode cX3_meeting 61 = .ok (.goto 8, 3) := dk_167 0 8 (dk_at dksX3_meeting_2 14 rfl rfl)
theorem dX3_meeting_64 : decode cX3_meeting 64 = .ok (.aload_n 0, 1) := dk_42 (dk_at dksX3_meeting_2 17 rfl rfl)
theorem dX3_meeting_65 : decode cX3_meeting 65 = .ok (.iload_n 3, 1) := dk_29 (dk_at dksX3_meeting_2 18 rfl rfl)
theorem dX3_meeting_66 : decode cX3_meeting 66 = .ok (.invokevirtual 60, 3) := dk_182 0 60 (dk_at dksX3_meeting_2 19 rfl rfl)
theorem dX3_meeting_69 : decode cX3_meeting 69 = .ok (.ireturn, 1) := dk_172 (dk_at dksX3_meeting_2 22 rfl rfl)
abbrev cX3_meets : ByteArray := prog_19_method_50_code
def yX3_meets : MethodName := ⟨RX3, "meets", "(II)I"⟩
def dkwX3_meets_3 : List UInt8 := [21, 4, 172, 132, 4, 1, 167, 255, 195, 2, 172]
abbrev dktX3_meets_3 : List UInt8 := dkwX3_meets_3 ++ []
def dkwX3_meets_2 : List UInt8 := [154, 0, 27, 21, 4, 42, 180, 0, 7, 16, 20, 28, 96, 46, 100, 42, 28, 182, 0, 92, 112, 154, 0, 6]
abbrev dktX3_meets_2 : List UInt8 := dkwX3_meets_2 ++ dktX3_meets_3
def dkwX3_meets_1 : List UInt8 := [46, 29, 96, 163, 0, 54, 21, 4, 42, 180, 0, 7, 16, 20, 27, 96, 46, 100, 42, 27, 182, 0, 92, 112]
abbrev dktX3_meets_1 : List UInt8 := dkwX3_meets_1 ++ dktX3_meets_2
def dkwX3_meets_0 : List UInt8 := [42, 27, 28, 182, 0, 130, 62, 42, 180, 0, 7, 3, 46, 4, 96, 54, 4, 21, 4, 42, 180, 0, 7, 3]
abbrev dktX3_meets_0 : List UInt8 := dkwX3_meets_0 ++ dktX3_meets_1
theorem dksX3_meets_0 : cX3_meets.data.toList.drop 0 = dktX3_meets_0 := by decide +kernel
theorem dksX3_meets_1 : cX3_meets.data.toList.drop 24 = dktX3_meets_1 := dk_seg dksX3_meets_0 24 rfl rfl
theorem dksX3_meets_2 : cX3_meets.data.toList.drop 48 = dktX3_meets_2 := dk_seg dksX3_meets_1 24 rfl rfl
theorem dksX3_meets_3 : cX3_meets.data.toList.drop 72 = dktX3_meets_3 := dk_seg dksX3_meets_2 24 rfl rfl
theorem dX3_meets_0 : decode cX3_meets 0 = .ok (.aload_n 0, 1) := dk_42 (dk_at dksX3_meets_0 0 rfl rfl)
theorem dX3_meets_1 : decode cX3_meets 1 = .ok (.iload_n 1, 1) := dk_27 (dk_at dksX3_meets_0 1 rfl rfl)
theorem dX3_meets_2 : decode cX3_meets 2 = .ok (.iload_n 2, 1) := dk_28 (dk_at dksX3_meets_0 2 rfl rfl)
theorem dX3_meets_3 : decode cX3_meets 3 = .ok (.invokevirtual 130, 3) := dk_182 0 130 (dk_at dksX3_meets_0 3 rfl rfl)
theorem dX3_meets_6 : decode cX3_meets 6 = .ok (.istore_n 3, 1) := dk_62 (dk_at dksX3_meets_0 6 rfl rfl)
theorem dX3_meets_7 : decode cX3_meets 7 = .ok (.aload_n 0, 1) := dk_42 (dk_at dksX3_meets_0 7 rfl rfl)
theorem dX3_meets_8 : decode cX3_meets 8 = .ok (.getfield 7, 3) := dk_180 0 7 (dk_at dksX3_meets_0 8 rfl rfl)
theorem dX3_meets_11 : decode cX3_meets 11 = .ok (.iconst 0, 1) := dk_3 (dk_at dksX3_meets_0 11 rfl rfl)
theorem dX3_meets_12 : decode cX3_meets 12 = .ok (.iaload, 1) := dk_46 (dk_at dksX3_meets_0 12 rfl rfl)
theorem dX3_meets_13 : decode cX3_meets 13 = .ok (.iconst 1, 1) := dk_4 (dk_at dksX3_meets_0 13 rfl rfl)
theorem dX3_meets_14 : decode cX3_meets 14 = .ok (.iadd, 1) := dk_96 (dk_at dksX3_meets_0 14 rfl rfl)
theorem dX3_meets_15 : decode cX3_meets 15 = .ok (.istore 4, 2) := dk_54 4 (dk_at dksX3_meets_0 15 rfl rfl)
theorem dX3_meets_17 : decode cX3_meets 17 = .ok (.iload 4, 2) := dk_21 4 (dk_at dksX3_meets_0 17 rfl rfl)
theorem dX3_meets_19 : decode cX3_meets 19 = .ok (.aload_n 0, 1) := dk_42 (dk_at dksX3_meets_0 19 rfl rfl)
theorem dX3_meets_20 : decode cX3_meets 20 = .ok (.getfield 7, 3) := dk_180 0 7 (dk_at dksX3_meets_0 20 rfl rfl)
theorem dX3_meets_23 : decode cX3_meets 23 = .ok (.iconst 0, 1) := dk_3 (dk_at dksX3_meets_0 23 rfl rfl)
theorem dX3_meets_24 : decode cX3_meets 24 = .ok (.iaload, 1) := dk_46 (dk_at dksX3_meets_1 0 rfl rfl)
theorem dX3_meets_25 : decode cX3_meets 25 = .ok (.iload_n 3, 1) := dk_29 (dk_at dksX3_meets_1 1 rfl rfl)
theorem dX3_meets_26 : decode cX3_meets 26 = .ok (.iadd, 1) := dk_96 (dk_at dksX3_meets_1 2 rfl rfl)
theorem dX3_meets_27 : decode cX3_meets 27 = .ok (.if_icmp .gt 54, 3) := dk_163 0 54 (dk_at dksX3_meets_1 3 rfl rfl)
theorem dX3_meets_30 : decode cX3_meets 30 = .ok (.iload 4, 2) := dk_21 4 (dk_at dksX3_meets_1 6 rfl rfl)
theorem dX3_meets_32 : decode cX3_meets 32 = .ok (.aload_n 0, 1) := dk_42 (dk_at dksX3_meets_1 8 rfl rfl)
theorem dX3_meets_33 : decode cX3_meets 33 = .ok (.getfield 7, 3) := dk_180 0 7 (dk_at dksX3_meets_1 9 rfl rfl)
theorem dX3_meets_36 : decode cX3_meets 36 = .ok (.bipush 20, 2) := dk_16 20 (dk_at dksX3_meets_1 12 rfl rfl)
theorem dX3_meets_38 : decode cX3_meets 38 = .ok (.iload_n 1, 1) := dk_27 (dk_at dksX3_meets_1 14 rfl rfl)
theorem dX3_meets_39 : decode cX3_meets 39 = .ok (.iadd, 1) := dk_96 (dk_at dksX3_meets_1 15 rfl rfl)
theorem dX3_meets_40 : decode cX3_meets 40 = .ok (.iaload, 1) := dk_46 (dk_at dksX3_meets_1 16 rfl rfl)
theorem dX3_meets_41 : decode cX3_meets 41 = .ok (.isub, 1) := dk_100 (dk_at dksX3_meets_1 17 rfl rfl)
theorem dX3_meets_42 : decode cX3_meets 42 = .ok (.aload_n 0, 1) := dk_42 (dk_at dksX3_meets_1 18 rfl rfl)
theorem dX3_meets_43 : decode cX3_meets 43 = .ok (.iload_n 1, 1) := dk_27 (dk_at dksX3_meets_1 19 rfl rfl)
theorem dX3_meets_44 : decode cX3_meets 44 = .ok (.invokevirtual 92, 3) := dk_182 0 92 (dk_at dksX3_meets_1 20 rfl rfl)
theorem dX3_meets_47 : decode cX3_meets 47 = .ok (.irem, 1) := dk_112 (dk_at dksX3_meets_1 23 rfl rfl)
theorem dX3_meets_48 : decode cX3_meets 48 = .ok (.ifCond .ne 27, 3) := dk_154 0 27 (dk_at dksX3_meets_2 0 rfl rfl)
theorem dX3_meets_51 : decode cX3_meets 51 = .ok (.iload 4, 2) := dk_21 4 (dk_at dksX3_meets_2 3 rfl rfl)
theorem dX3_meets_53 : decode cX3_meets 53 = .ok (.aload_n 0, 1) := dk_42 (dk_at dksX3_meets_2 5 rfl rfl)
theorem dX3_meets_54 : decode cX3_meets 54 = .ok (.getfield 7, 3) := dk_180 0 7 (dk_at dksX3_meets_2 6 rfl rfl)
theorem dX3_meets_57 : decode cX3_meets 57 = .ok (.bipush 20, 2) := dk_16 20 (dk_at dksX3_meets_2 9 rfl rfl)
theorem dX3_meets_59 : decode cX3_meets 59 = .ok (.iload_n 2, 1) := dk_28 (dk_at dksX3_meets_2 11 rfl rfl)
theorem dX3_meets_60 : decode cX3_meets 60 = .ok (.iadd, 1) := dk_96 (dk_at dksX3_meets_2 12 rfl rfl)
theorem dX3_meets_61 : decode cX3_meets 61 = .ok (.iaload, 1) := dk_46 (dk_at dksX3_meets_2 13 rfl rfl)
theorem dX3_meets_62 : decode cX3_meets 62 = .ok (.isub, 1) := dk_100 (dk_at dksX3_meets_2 14 rfl rfl)
theorem dX3_meets_63 : decode cX3_meets 63 = .ok (.aload_n 0, 1) := dk_42 (dk_at dksX3_meets_2 15 rfl rfl)
theorem dX3_meets_64 : decode cX3_meets 64 = .ok (.iload_n 2, 1) := dk_28 (dk_at dksX3_meets_2 16 rfl rfl)
theorem dX3_meets_65 : decode cX3_meets 65 = .ok (.invokevirtual 92, 3) := dk_182 0 92 (dk_at dksX3_meets_2 17 rfl rfl)
theorem dX3_meets_68 : decode cX3_meets 68 = .ok (.irem, 1) := dk_112 (dk_at dksX3_meets_2 20 rfl rfl)
theorem dX3_meets_69 : decode cX3_meets 69 = .ok (.ifCond .ne 6, 3) := dk_154 0 6 (dk_at dksX3_meets_2 21 rfl rfl)
theorem dX3_meets_72 : decode cX3_meets 72 = .ok (.iload 4, 2) := dk_21 4 (dk_at dksX3_meets_3 0 rfl rfl)
theorem dX3_meets_74 : decode cX3_meets 74 = .ok (.ireturn, 1) := dk_172 (dk_at dksX3_meets_3 2 rfl rfl)
theorem dX3_meets_75 : decode cX3_meets 75 = .ok (.iinc 4 1, 3) := dk_132 4 1 (dk_at dksX3_meets_3 3 rfl rfl)
theorem dX3_meets_78 : decode cX3_meets 78 = .ok (.goto (-61), 3) := dk_167 255 195 (dk_at dksX3_meets_3 6 rfl rfl)
theorem dX3_meets_81 : decode cX3_meets 81 = .ok (.iconst (-1), 1) := dk_2 (dk_at dksX3_meets_3 9 rfl rfl)
theorem dX3_meets_82 : decode cX3_meets 82 = .ok (.ireturn, 1) := dk_172 (dk_at dksX3_meets_3 10 rfl rfl)
abbrev cX3_cycle : ByteArray := prog_19_method_49_code
def yX3_cycle : MethodName := ⟨RX3, "cycle", "(II)I"⟩
def dkwX3_cycle_1 : List UInt8 := [104, 172]
abbrev dktX3_cycle_1 : List UInt8 := dkwX3_cycle_1 ++ []
def dkwX3_cycle_0 : List UInt8 := [42, 27, 182, 0, 92, 42, 27, 182, 0, 92, 42, 28, 182, 0, 92, 184, 0, 127, 108, 42, 28, 182, 0, 92]
abbrev dktX3_cycle_0 : List UInt8 := dkwX3_cycle_0 ++ dktX3_cycle_1
theorem dksX3_cycle_0 : cX3_cycle.data.toList.drop 0 = dktX3_cycle_0 := by decide +kernel
theorem dksX3_cycle_1 : cX3_cycle.data.toList.drop 24 = dktX3_cycle_1 := dk_seg dksX3_cycle_0 24 rfl rfl
theorem dX3_cycle_0 : decode cX3_cycle 0 = .ok (.aload_n 0, 1) := dk_42 (dk_at dksX3_cycle_0 0 rfl rfl)
theorem dX3_cycle_1 : decode cX3_cycle 1 = .ok (.iload_n 1, 1) := dk_27 (dk_at dksX3_cycle_0 1 rfl rfl)
theorem dX3_cycle_2 : decode cX3_cycle 2 = .ok (.invokevirtual 92, 3) := dk_182 0 92 (dk_at dksX3_cycle_0 2 rfl rfl)
theorem dX3_cycle_5 : decode cX3_cycle 5 = .ok (.aload_n 0, 1) := dk_42 (dk_at dksX3_cycle_0 5 rfl rfl)
theorem dX3_cycle_6 : decode cX3_cycle 6 = .ok (.iload_n 1, 1) := dk_27 (dk_at dksX3_cycle_0 6 rfl rfl)
theorem dX3_cycle_7 : decode cX3_cycle 7 = .ok (.invokevirtual 92, 3) := dk_182 0 92 (dk_at dksX3_cycle_0 7 rfl rfl)
theorem dX3_cycle_10 : decode cX3_cycle 10 = .ok (.aload_n 0, 1) := dk_42 (dk_at dksX3_cycle_0 10 rfl rfl)
theorem dX3_cycle_11 : decode cX3_cycle 11 = .ok (.iload_n 2, 1) := dk_28 (dk_at dksX3_cycle_0 11 rfl rfl)
theorem dX3_cycle_12 : decode cX3_cycle 12 = .ok (.invokevirtual 92, 3) := dk_182 0 92 (dk_at dksX3_cycle_0 12 rfl rfl)
theorem dX3_cycle_15 : decode cX3_cycle 15 = .ok (.invokestatic 127, 3) := dk_184 0 127 (dk_at dksX3_cycle_0 15 rfl rfl)
theorem dX3_cycle_18 : decode cX3_cycle 18 = .ok (.idiv, 1) := dk_108 (dk_at dksX3_cycle_0 18 rfl rfl)
theorem dX3_cycle_19 : decode cX3_cycle 19 = .ok (.aload_n 0, 1) := dk_42 (dk_at dksX3_cycle_0 19 rfl rfl)
theorem dX3_cycle_20 : decode cX3_cycle 20 = .ok (.iload_n 2, 1) := dk_28 (dk_at dksX3_cycle_0 20 rfl rfl)
theorem dX3_cycle_21 : decode cX3_cycle 21 = .ok (.invokevirtual 92, 3) := dk_182 0 92 (dk_at dksX3_cycle_0 21 rfl rfl)
theorem dX3_cycle_24 : decode cX3_cycle 24 = .ok (.imul, 1) := dk_104 (dk_at dksX3_cycle_1 0 rfl rfl)
theorem dX3_cycle_25 : decode cX3_cycle 25 = .ok (.ireturn, 1) := dk_172 (dk_at dksX3_cycle_1 1 rfl rfl)
abbrev cX3_divisor : ByteArray := prog_19_method_15_code
def yX3_divisor : MethodName := ⟨RX3, "divisor", "(II)I"⟩
def dkwX3_divisor_0 : List UInt8 := [26, 61, 27, 62, 29, 158, 0, 16, 28, 29, 112, 54, 4, 29, 61, 21, 4, 62, 167, 255, 242, 28, 172]
abbrev dktX3_divisor_0 : List UInt8 := dkwX3_divisor_0 ++ []
theorem dksX3_divisor_0 : cX3_divisor.data.toList.drop 0 = dktX3_divisor_0 := by decide +kernel
theorem dX3_divisor_0 : decode cX3_divisor 0 = .ok (.iload_n 0, 1) := dk_26 (dk_at dksX3_divisor_0 0 rfl rfl)
theorem dX3_divisor_1 : decode cX3_divisor 1 = .ok (.istore_n 2, 1) := dk_61 (dk_at dksX3_divisor_0 1 rfl rfl)
theorem dX3_divisor_2 : decode cX3_divisor 2 = .ok (.iload_n 1, 1) := dk_27 (dk_at dksX3_divisor_0 2 rfl rfl)
theorem dX3_divisor_3 : decode cX3_divisor 3 = .ok (.istore_n 3, 1) := dk_62 (dk_at dksX3_divisor_0 3 rfl rfl)
theorem dX3_divisor_4 : decode cX3_divisor 4 = .ok (.iload_n 3, 1) := dk_29 (dk_at dksX3_divisor_0 4 rfl rfl)
theorem dX3_divisor_5 : decode cX3_divisor 5 = .ok (.ifCond .le 16, 3) := dk_158 0 16 (dk_at dksX3_divisor_0 5 rfl rfl)
theorem dX3_divisor_8 : decode cX3_divisor 8 = .ok (.iload_n 2, 1) := dk_28 (dk_at dksX3_divisor_0 8 rfl rfl)
theorem dX3_divisor_9 : decode cX3_divisor 9 = .ok (.iload_n 3, 1) := dk_29 (dk_at dksX3_divisor_0 9 rfl rfl)
theorem dX3_divisor_10 : decode cX3_divisor 10 = .ok (.irem, 1) := dk_112 (dk_at dksX3_divisor_0 10 rfl rfl)
theorem dX3_divisor_11 : decode cX3_divisor 11 = .ok (.istore 4, 2) := dk_54 4 (dk_at dksX3_divisor_0 11 rfl rfl)
theorem dX3_divisor_13 : decode cX3_divisor 13 = .ok (.iload_n 3, 1) := dk_29 (dk_at dksX3_divisor_0 13 rfl rfl)
theorem dX3_divisor_14 : decode cX3_divisor 14 = .ok (.istore_n 2, 1) := dk_61 (dk_at dksX3_divisor_0 14 rfl rfl)
theorem dX3_divisor_15 : decode cX3_divisor 15 = .ok (.iload 4, 2) := dk_21 4 (dk_at dksX3_divisor_0 15 rfl rfl)
theorem dX3_divisor_17 : decode cX3_divisor 17 = .ok (.istore_n 3, 1) := dk_62 (dk_at dksX3_divisor_0 17 rfl rfl)
theorem dX3_divisor_18 : decode cX3_divisor 18 = .ok (.goto (-14), 3) := dk_167 255 242 (dk_at dksX3_divisor_0 18 rfl rfl)
theorem dX3_divisor_21 : decode cX3_divisor 21 = .ok (.iload_n 2, 1) := dk_28 (dk_at dksX3_divisor_0 21 rfl rfl)
theorem dX3_divisor_22 : decode cX3_divisor 22 = .ok (.ireturn, 1) := dk_172 (dk_at dksX3_divisor_0 22 rfl rfl)
abbrev cX3_meetingByDivisors : ByteArray := prog_19_method_52_code
def yX3_meetingByDivisors : MethodName := ⟨RX3, "meetingByDivisors", "(II)I"⟩
def dkwX3_meetingByDivisors_0 : List UInt8 := [42, 27, 28, 182, 0, 136, 172]
abbrev dktX3_meetingByDivisors_0 : List UInt8 := dkwX3_meetingByDivisors_0 ++ []
theorem dksX3_meetingByDivisors_0 : cX3_meetingByDivisors.data.toList.drop 0 = dktX3_meetingByDivisors_0 := by decide +kernel
theorem dX3_meetingByDivisors_0 : decode cX3_meetingByDivisors 0 = .ok (.aload_n 0, 1) := dk_42 (dk_at dksX3_meetingByDivisors_0 0 rfl rfl)
theorem dX3_meetingByDivisors_1 : decode cX3_meetingByDivisors 1 = .ok (.iload_n 1, 1) := dk_27 (dk_at dksX3_meetingByDivisors_0 1 rfl rfl)
theorem dX3_meetingByDivisors_2 : decode cX3_meetingByDivisors 2 = .ok (.iload_n 2, 1) := dk_28 (dk_at dksX3_meetingByDivisors_0 2 rfl rfl)
theorem dX3_meetingByDivisors_3 : decode cX3_meetingByDivisors 3 = .ok (.invokevirtual 136, 3) := dk_182 0 136 (dk_at dksX3_meetingByDivisors_0 3 rfl rfl)
theorem dX3_meetingByDivisors_6 : decode cX3_meetingByDivisors 6 = .ok (.ireturn, 1) := dk_172 (dk_at dksX3_meetingByDivisors_0 6 rfl rfl)
abbrev cX3_meetingPairs : ByteArray := prog_19_method_53_code
def yX3_meetingPairs : MethodName := ⟨RX3, "meetingPairs", "()I"⟩
def dkwX3_meetingPairs_5 : List UInt8 := [172]
abbrev dktX3_meetingPairs_5 : List UInt8 := dkwX3_meetingPairs_5 ++ []
def dkwX3_meetingPairs_4 : List UInt8 := [4, 167, 0, 4, 3, 96, 60, 132, 3, 1, 167, 255, 169, 132, 2, 1, 167, 255, 151, 42, 27, 182, 0, 60]
abbrev dktX3_meetingPairs_4 : List UInt8 := dkwX3_meetingPairs_4 ++ dktX3_meetingPairs_5
def dkwX3_meetingPairs_3 : List UInt8 := [21, 5, 153, 0, 26, 21, 4, 42, 29, 182, 0, 92, 42, 28, 182, 0, 92, 184, 0, 127, 112, 154, 0, 7]
abbrev dktX3_meetingPairs_3 : List UInt8 := dkwX3_meetingPairs_3 ++ dktX3_meetingPairs_4
def dkwX3_meetingPairs_2 : List UInt8 := [29, 182, 0, 76, 154, 0, 15, 42, 28, 182, 0, 76, 154, 0, 7, 4, 167, 0, 4, 3, 54, 5, 27]
abbrev dktX3_meetingPairs_2 : List UInt8 := dkwX3_meetingPairs_2 ++ dktX3_meetingPairs_3
def dkwX3_meetingPairs_1 : List UInt8 := [180, 0, 7, 16, 20, 29, 96, 46, 42, 180, 0, 7, 16, 20, 28, 96, 46, 100, 184, 0, 139, 54, 4, 42]
abbrev dktX3_meetingPairs_1 : List UInt8 := dkwX3_meetingPairs_1 ++ dktX3_meetingPairs_2
def dkwX3_meetingPairs_0 : List UInt8 := [3, 60, 3, 61, 28, 42, 180, 0, 7, 5, 46, 162, 0, 101, 3, 62, 29, 28, 162, 0, 88, 42]
abbrev dktX3_meetingPairs_0 : List UInt8 := dkwX3_meetingPairs_0 ++ dktX3_meetingPairs_1
theorem dksX3_meetingPairs_0 : cX3_meetingPairs.data.toList.drop 0 = dktX3_meetingPairs_0 := by decide +kernel
theorem dksX3_meetingPairs_1 : cX3_meetingPairs.data.toList.drop 22 = dktX3_meetingPairs_1 := dk_seg dksX3_meetingPairs_0 22 rfl rfl
theorem dksX3_meetingPairs_2 : cX3_meetingPairs.data.toList.drop 46 = dktX3_meetingPairs_2 := dk_seg dksX3_meetingPairs_1 24 rfl rfl
theorem dksX3_meetingPairs_3 : cX3_meetingPairs.data.toList.drop 69 = dktX3_meetingPairs_3 := dk_seg dksX3_meetingPairs_2 23 rfl rfl
theorem dksX3_meetingPairs_4 : cX3_meetingPairs.data.toList.drop 93 = dktX3_meetingPairs_4 := dk_seg dksX3_meetingPairs_3 24 rfl rfl
theorem dksX3_meetingPairs_5 : cX3_meetingPairs.data.toList.drop 117 = dktX3_meetingPairs_5 := dk_seg dksX3_meetingPairs_4 24 rfl rfl
theorem dX3_meetingPairs_0 : decode cX3_meetingPairs 0 = .ok (.iconst 0, 1) := dk_3 (dk_at dksX3_meetingPairs_0 0 rfl rfl)
theorem dX3_meetingPairs_1 : decode cX3_meetingPairs 1 = .ok (.istore_n 1, 1) := dk_60 (dk_at dksX3_meetingPairs_0 1 rfl rfl)
theorem dX3_meetingPairs_2 : decode cX3_meetingPairs 2 = .ok (.iconst 0, 1) := dk_3 (dk_at dksX3_meetingPairs_0 2 rfl rfl)
theorem dX3_meetingPairs_3 : decode cX3_meetingPairs 3 = .ok (.istore_n 2, 1) := dk_61 (dk_at dksX3_meetingPairs_0 3 rfl rfl)
theorem dX3_meetingPairs_4 : decode cX3_meetingPairs 4 = .ok (.iload_n 2, 1) := dk_28 (dk_at dksX3_meetingPairs_0 4 rfl rfl)
theorem dX3_meetingPairs_5 : decode cX3_meetingPairs 5 = .ok (.aload_n 0, 1) := dk_42 (dk_at dksX3_meetingPairs_0 5 rfl rfl)
theorem dX3_meetingPairs_6 : decode cX3_meetingPairs 6 = .ok (.getfield 7, 3) := dk_180 0 7 (dk_at dksX3_meetingPairs_0 6 rfl rfl)
theorem dX3_meetingPairs_9 : decode cX3_meetingPairs 9 = .ok (.iconst 2, 1) := dk_5 (dk_at dksX3_meetingPairs_0 9 rfl rfl)
theorem dX3_meetingPairs_10 : decode cX3_meetingPairs 10 = .ok (.iaload, 1) := dk_46 (dk_at dksX3_meetingPairs_0 10 rfl rfl)
theorem dX3_meetingPairs_11 : decode cX3_meetingPairs 11 = .ok (.if_icmp .ge 101, 3) := dk_162 0 101 (dk_at dksX3_meetingPairs_0 11 rfl rfl)
theorem dX3_meetingPairs_14 : decode cX3_meetingPairs 14 = .ok (.iconst 0, 1) := dk_3 (dk_at dksX3_meetingPairs_0 14 rfl rfl)
theorem dX3_meetingPairs_15 : decode cX3_meetingPairs 15 = .ok (.istore_n 3, 1) := dk_62 (dk_at dksX3_meetingPairs_0 15 rfl rfl)
theorem dX3_meetingPairs_16 : decode cX3_meetingPairs 16 = .ok (.iload_n 3, 1) := dk_29 (dk_at dksX3_meetingPairs_0 16 rfl rfl)
theorem dX3_meetingPairs_17 : decode cX3_meetingPairs 17 = .ok (.iload_n 2, 1) := dk_28 (dk_at dksX3_meetingPairs_0 17 rfl rfl)
theorem dX3_meetingPairs_18 : decode cX3_meetingPairs 18 = .ok (.if_icmp .ge 88, 3) := dk_162 0 88 (dk_at dksX3_meetingPairs_0 18 rfl rfl)
theorem dX3_meetingPairs_21 : decode cX3_meetingPairs 21 = .ok (.aload_n 0, 1) := dk_42 (dk_at dksX3_meetingPairs_0 21 rfl rfl)
theorem dX3_meetingPairs_22 : decode cX3_meetingPairs 22 = .ok (.getfield 7, 3) := dk_180 0 7 (dk_at dksX3_meetingPairs_1 0 rfl rfl)
theorem dX3_meetingPairs_25 : decode cX3_meetingPairs 25 = .ok (.bipush 20, 2) := dk_16 20 (dk_at dksX3_meetingPairs_1 3 rfl rfl)
theorem dX3_meetingPairs_27 : decode cX3_meetingPairs 27 = .ok (.iload_n 3, 1) := dk_29 (dk_at dksX3_meetingPairs_1 5 rfl rfl)
theorem dX3_meetingPairs_28 : decode cX3_meetingPairs 28 = .ok (.iadd, 1) := dk_96 (dk_at dksX3_meetingPairs_1 6 rfl rfl)
theorem dX3_meetingPairs_29 : decode cX3_meetingPairs 29 = .ok (.iaload, 1) := dk_46 (dk_at dksX3_meetingPairs_1 7 rfl rfl)
theorem dX3_meetingPairs_30 : decode cX3_meetingPairs 30 = .ok (.aload_n 0, 1) := dk_42 (dk_at dksX3_meetingPairs_1 8 rfl rfl)
theorem dX3_meetingPairs_31 : decode cX3_meetingPairs 31 = .ok (.getfield 7, 3) := dk_180 0 7 (dk_at dksX3_meetingPairs_1 9 rfl rfl)
theorem dX3_meetingPairs_34 : decode cX3_meetingPairs 34 = .ok (.bipush 20, 2) := dk_16 20 (dk_at dksX3_meetingPairs_1 12 rfl rfl)
theorem dX3_meetingPairs_36 : decode cX3_meetingPairs 36 = .ok (.iload_n 2, 1) := dk_28 (dk_at dksX3_meetingPairs_1 14 rfl rfl)
theorem dX3_meetingPairs_37 : decode cX3_meetingPairs 37 = .ok (.iadd, 1) := dk_96 (dk_at dksX3_meetingPairs_1 15 rfl rfl)
theorem dX3_meetingPairs_38 : decode cX3_meetingPairs 38 = .ok (.iaload, 1) := dk_46 (dk_at dksX3_meetingPairs_1 16 rfl rfl)
theorem dX3_meetingPairs_39 : decode cX3_meetingPairs 39 = .ok (.isub, 1) := dk_100 (dk_at dksX3_meetingPairs_1 17 rfl rfl)
theorem dX3_meetingPairs_40 : decode cX3_meetingPairs 40 = .ok (.invokestatic 139, 3) := dk_184 0 139 (dk_at dksX3_meetingPairs_1 18 rfl rfl)
theorem dX3_meetingPairs_43 : decode cX3_meetingPairs 43 = .ok (.istore 4, 2) := dk_54 4 (dk_at dksX3_meetingPairs_1 21 rfl rfl)
theorem dX3_meetingPairs_45 : decode cX3_meetingPairs 45 = .ok (.aload_n 0, 1) := dk_42 (dk_at dksX3_meetingPairs_1 23 rfl rfl)
theorem dX3_meetingPairs_46 : decode cX3_meetingPairs 46 = .ok (.iload_n 3, 1) := dk_29 (dk_at dksX3_meetingPairs_2 0 rfl rfl)
theorem dX3_meetingPairs_47 : decode cX3_meetingPairs 47 = .ok (.invokevirtual 76, 3) := dk_182 0 76 (dk_at dksX3_meetingPairs_2 1 rfl rfl)
theorem dX3_meetingPairs_50 : decode cX3_meetingPairs 50 = .ok (.ifCond .ne 15, 3) := dk_154 0 15 (dk_at dksX3_meetingPairs_2 4 rfl rfl)
theorem dX3_meetingPairs_53 : decode cX3_meetingPairs 53 = .ok (.aload_n 0, 1) := dk_42 (dk_at dksX3_meetingPairs_2 7 rfl rfl)
theorem dX3_meetingPairs_54 : decode cX3_meetingPairs 54 = .ok (.iload_n 2, 1) := dk_28 (dk_at dksX3_meetingPairs_2 8 rfl rfl)
theorem dX3_meetingPairs_55 : decode cX3_meetingPairs 55 = .ok (.invokevirtual 76, 3) := dk_182 0 76 (dk_at dksX3_meetingPairs_2 9 rfl rfl)
theorem dX3_meetingPairs_58 : decode cX3_meetingPairs 58 = .ok (.ifCond .ne 7, 3) := dk_154 0 7 (dk_at dksX3_meetingPairs_2 12 rfl rfl)
theorem dX3_meetingPairs_61 : decode cX3_meetingPairs 61 = .ok (.iconst 1, 1) := dk_4 (dk_at dksX3_meetingPairs_2 15 rfl rfl)
theorem dX3_meetingPairs_62 : decode cX3_meetingPairs 62 = .ok (.goto 4, 3) := dk_167 0 4 (dk_at dksX3_meetingPairs_2 16 rfl rfl)
theorem dX3_meetingPairs_65 : decode cX3_meetingPairs 65 = .ok (.iconst 0, 1) := dk_3 (dk_at dksX3_meetingPairs_2 19 rfl rfl)
theorem dX3_meetingPairs_66 : decode cX3_meetingPairs 66 = .ok (.istore 5, 2) := dk_54 5 (dk_at dksX3_meetingPairs_2 20 rfl rfl)
theorem dX3_meetingPairs_68 : decode cX3_meetingPairs 68 = .ok (.iload_n 1, 1) := dk_27 (dk_at dksX3_meetingPairs_2 22 rfl rfl)
theorem dX3_meetingPairs_69 : decode cX3_meetingPairs 69 = .ok (.iload 5, 2) := dk_21 5 (dk_at dksX3_meetingPairs_3 0 rfl rfl)
theorem dX3_meetingPairs_71 : decode cX3_meetingPairs 71 = .ok (.ifCond .eq 26, 3) := dk_153 0 26 (dk_at dksX3_meetingPairs_3 2 rfl rfl)
theorem dX3_meetingPairs_74 : decode cX3_meetingPairs 74 = .ok (.iload 4, 2) := dk_21 4 (dk_at dksX3_meetingPairs_3 5 rfl rfl)
theorem dX3_meetingPairs_76 : decode cX3_meetingPairs 76 = .ok (.aload_n 0, 1) := dk_42 (dk_at dksX3_meetingPairs_3 7 rfl rfl)
theorem dX3_meetingPairs_77 : decode cX3_meetingPairs 77 = .ok (.iload_n 3, 1) := dk_29 (dk_at dksX3_meetingPairs_3 8 rfl rfl)
theorem dX3_meetingPairs_78 : decode cX3_meetingPairs 78 = .ok (.invokevirtual 92, 3) := dk_182 0 92 (dk_at dksX3_meetingPairs_3 9 rfl rfl)
theorem dX3_meetingPairs_81 : decode cX3_meetingPairs 81 = .ok (.aload_n 0, 1) := dk_42 (dk_at dksX3_meetingPairs_3 12 rfl rfl)
theorem dX3_meetingPairs_82 : decode cX3_meetingPairs 82 = .ok (.iload_n 2, 1) := dk_28 (dk_at dksX3_meetingPairs_3 13 rfl rfl)
theorem dX3_meetingPairs_83 : decode cX3_meetingPairs 83 = .ok (.invokevirtual 92, 3) := dk_182 0 92 (dk_at dksX3_meetingPairs_3 14 rfl rfl)
theorem dX3_meetingPairs_86 : decode cX3_meetingPairs 86 = .ok (.invokestatic 127, 3) := dk_184 0 127 (dk_at dksX3_meetingPairs_3 17 rfl rfl)
theorem dX3_meetingPairs_89 : decode cX3_meetingPairs 89 = .ok (.irem, 1) := dk_112 (dk_at dksX3_meetingPairs_3 20 rfl rfl)
theorem dX3_meetingPairs_90 : decode cX3_meetingPairs 90 = .ok (.ifCond .ne 7, 3) := dk_154 0 7 (dk_at dksX3_meetingPairs_3 21 rfl rfl)
theorem dX3_meetingPairs_93 : decode cX3_meetingPairs 93 = .ok (.iconst 1, 1) := dk_4 (dk_at dksX3_meetingPairs_4 0 rfl rfl)
theorem dX3_meetingPairs_94 : decode cX3_meetingPairs 94 = .ok (.goto 4, 3) := dk_167 0 4 (dk_at dksX3_meetingPairs_4 1 rfl rfl)
theorem dX3_meetingPairs_97 : decode cX3_meetingPairs 97 = .ok (.iconst 0, 1) := dk_3 (dk_at dksX3_meetingPairs_4 4 rfl rfl)
theorem dX3_meetingPairs_98 : decode cX3_meetingPairs 98 = .ok (.iadd, 1) := dk_96 (dk_at dksX3_meetingPairs_4 5 rfl rfl)
theorem dX3_meetingPairs_99 : decode cX3_meetingPairs 99 = .ok (.istore_n 1, 1) := dk_60 (dk_at dksX3_meetingPairs_4 6 rfl rfl)
theorem dX3_meetingPairs_100 : decode cX3_meetingPairs 100 = .ok (.iinc 3 1, 3) := dk_132 3 1 (dk_at dksX3_meetingPairs_4 7 rfl rfl)
theorem dX3_meetingPairs_103 : decode cX3_meetingPairs 103 = .ok (.goto (-87), 3) := dk_167 255 169 (dk_at dksX3_meetingPairs_4 10 rfl rfl)
theorem dX3_meetingPairs_106 : decode cX3_meetingPairs 106 = .ok (.iinc 2 1, 3) := dk_132 2 1 (dk_at dksX3_meetingPairs_4 13 rfl rfl)
theorem dX3_meetingPairs_109 : decode cX3_meetingPairs 109 = .ok (.goto (-105), 3) := dk_167 255 151 (dk_at dksX3_meetingPairs_4 16 rfl rfl)
theorem dX3_meetingPairs_112 : decode cX3_meetingPairs 112 = .ok (.aload_n 0, 1) := dk_42 (dk_at dksX3_meetingPairs_4 19 rfl rfl)
theorem dX3_meetingPairs_113 : decode cX3_meetingPairs 113 = .ok (.iload_n 1, 1) := dk_27 (dk_at dksX3_meetingPairs_4 20 rfl rfl)
theorem dX3_meetingPairs_114 : decode cX3_meetingPairs 114 = .ok (.invokevirtual 60, 3) := dk_182 0 60 (dk_at dksX3_meetingPairs_4 21 rfl rfl)
theorem dX3_meetingPairs_117 : decode cX3_meetingPairs 117 = .ok (.ireturn, 1) := dk_172 (dk_at dksX3_meetingPairs_5 0 rfl rfl)
abbrev cX3_size : ByteArray := prog_19_method_4_code
def yX3_size : MethodName := ⟨RX3, "size", "(I)I"⟩
def dkwX3_size_0 : List UInt8 := [26, 156, 0, 8, 26, 116, 167, 0, 4, 26, 172]
abbrev dktX3_size_0 : List UInt8 := dkwX3_size_0 ++ []
theorem dksX3_size_0 : cX3_size.data.toList.drop 0 = dktX3_size_0 := by decide +kernel
theorem dX3_size_0 : decode cX3_size 0 = .ok (.iload_n 0, 1) := dk_26 (dk_at dksX3_size_0 0 rfl rfl)
theorem dX3_size_1 : decode cX3_size 1 = .ok (.ifCond .ge 8, 3) := dk_156 0 8 (dk_at dksX3_size_0 1 rfl rfl)
theorem dX3_size_4 : decode cX3_size 4 = .ok (.iload_n 0, 1) := dk_26 (dk_at dksX3_size_0 4 rfl rfl)
theorem dX3_size_5 : decode cX3_size 5 = .ok (.ineg, 1) := dk_116 (dk_at dksX3_size_0 5 rfl rfl)
theorem dX3_size_6 : decode cX3_size 6 = .ok (.goto 4, 3) := dk_167 0 4 (dk_at dksX3_size_0 6 rfl rfl)
theorem dX3_size_9 : decode cX3_size 9 = .ok (.iload_n 0, 1) := dk_26 (dk_at dksX3_size_0 9 rfl rfl)
theorem dX3_size_10 : decode cX3_size 10 = .ok (.ireturn, 1) := dk_172 (dk_at dksX3_size_0 10 rfl rfl)
abbrev cX3_cycleOf : ByteArray := prog_19_method_54_code
def yX3_cycleOf : MethodName := ⟨RX3, "cycleOf", "(II)I"⟩
def dkwX3_cycleOf_1 : List UInt8 := [182, 0, 60, 167, 0, 8, 42, 4, 182, 0, 56, 172]
abbrev dktX3_cycleOf_1 : List UInt8 := dkwX3_cycleOf_1 ++ []
def dkwX3_cycleOf_0 : List UInt8 := [42, 27, 182, 0, 72, 153, 0, 24, 42, 28, 182, 0, 72, 153, 0, 16, 42, 42, 27, 28, 182, 0, 130]
abbrev dktX3_cycleOf_0 : List UInt8 := dkwX3_cycleOf_0 ++ dktX3_cycleOf_1
theorem dksX3_cycleOf_0 : cX3_cycleOf.data.toList.drop 0 = dktX3_cycleOf_0 := by decide +kernel
theorem dksX3_cycleOf_1 : cX3_cycleOf.data.toList.drop 23 = dktX3_cycleOf_1 := dk_seg dksX3_cycleOf_0 23 rfl rfl
theorem dX3_cycleOf_0 : decode cX3_cycleOf 0 = .ok (.aload_n 0, 1) := dk_42 (dk_at dksX3_cycleOf_0 0 rfl rfl)
theorem dX3_cycleOf_1 : decode cX3_cycleOf 1 = .ok (.iload_n 1, 1) := dk_27 (dk_at dksX3_cycleOf_0 1 rfl rfl)
theorem dX3_cycleOf_2 : decode cX3_cycleOf 2 = .ok (.invokevirtual 72, 3) := dk_182 0 72 (dk_at dksX3_cycleOf_0 2 rfl rfl)
theorem dX3_cycleOf_5 : decode cX3_cycleOf 5 = .ok (.ifCond .eq 24, 3) := dk_153 0 24 (dk_at dksX3_cycleOf_0 5 rfl rfl)
theorem dX3_cycleOf_8 : decode cX3_cycleOf 8 = .ok (.aload_n 0, 1) := dk_42 (dk_at dksX3_cycleOf_0 8 rfl rfl)
theorem dX3_cycleOf_9 : decode cX3_cycleOf 9 = .ok (.iload_n 2, 1) := dk_28 (dk_at dksX3_cycleOf_0 9 rfl rfl)
theorem dX3_cycleOf_10 : decode cX3_cycleOf 10 = .ok (.invokevirtual 72, 3) := dk_182 0 72 (dk_at dksX3_cycleOf_0 10 rfl rfl)
theorem dX3_cycleOf_13 : decode cX3_cycleOf 13 = .ok (.ifCond .eq 16, 3) := dk_153 0 16 (dk_at dksX3_cycleOf_0 13 rfl rfl)
theorem dX3_cycleOf_16 : decode cX3_cycleOf 16 = .ok (.aload_n 0, 1) := dk_42 (dk_at dksX3_cycleOf_0 16 rfl rfl)
theorem dX3_cycleOf_17 : decode cX3_cycleOf 17 = .ok (.aload_n 0, 1) := dk_42 (dk_at dksX3_cycleOf_0 17 rfl rfl)
theorem dX3_cycleOf_18 : decode cX3_cycleOf 18 = .ok (.iload_n 1, 1) := dk_27 (dk_at dksX3_cycleOf_0 18 rfl rfl)
theorem dX3_cycleOf_19 : decode cX3_cycleOf 19 = .ok (.iload_n 2, 1) := dk_28 (dk_at dksX3_cycleOf_0 19 rfl rfl)
theorem dX3_cycleOf_20 : decode cX3_cycleOf 20 = .ok (.invokevirtual 130, 3) := dk_182 0 130 (dk_at dksX3_cycleOf_0 20 rfl rfl)
theorem dX3_cycleOf_23 : decode cX3_cycleOf 23 = .ok (.invokevirtual 60, 3) := dk_182 0 60 (dk_at dksX3_cycleOf_1 0 rfl rfl)
theorem dX3_cycleOf_26 : decode cX3_cycleOf 26 = .ok (.goto 8, 3) := dk_167 0 8 (dk_at dksX3_cycleOf_1 3 rfl rfl)
theorem dX3_cycleOf_29 : decode cX3_cycleOf 29 = .ok (.aload_n 0, 1) := dk_42 (dk_at dksX3_cycleOf_1 6 rfl rfl)
theorem dX3_cycleOf_30 : decode cX3_cycleOf 30 = .ok (.iconst 1, 1) := dk_4 (dk_at dksX3_cycleOf_1 7 rfl rfl)
theorem dX3_cycleOf_31 : decode cX3_cycleOf 31 = .ok (.invokevirtual 56, 3) := dk_182 0 56 (dk_at dksX3_cycleOf_1 8 rfl rfl)
theorem dX3_cycleOf_34 : decode cX3_cycleOf 34 = .ok (.ireturn, 1) := dk_172 (dk_at dksX3_cycleOf_1 11 rfl rfl)
abbrev cX3_addLeg : ByteArray := prog_19_method_56_code
def yX3_addLeg : MethodName := ⟨RX3, "addLeg", "(I)I"⟩
def dkwX3_addLeg_0 : List UInt8 := [42, 182, 0, 63, 42, 42, 27, 182, 0, 142, 182, 0, 69, 172]
abbrev dktX3_addLeg_0 : List UInt8 := dkwX3_addLeg_0 ++ []
theorem dksX3_addLeg_0 : cX3_addLeg.data.toList.drop 0 = dktX3_addLeg_0 := by decide +kernel
theorem dX3_addLeg_0 : decode cX3_addLeg 0 = .ok (.aload_n 0, 1) := dk_42 (dk_at dksX3_addLeg_0 0 rfl rfl)
theorem dX3_addLeg_1 : decode cX3_addLeg 1 = .ok (.invokevirtual 63, 3) := dk_182 0 63 (dk_at dksX3_addLeg_0 1 rfl rfl)
theorem dX3_addLeg_4 : decode cX3_addLeg 4 = .ok (.aload_n 0, 1) := dk_42 (dk_at dksX3_addLeg_0 4 rfl rfl)
theorem dX3_addLeg_5 : decode cX3_addLeg 5 = .ok (.aload_n 0, 1) := dk_42 (dk_at dksX3_addLeg_0 5 rfl rfl)
theorem dX3_addLeg_6 : decode cX3_addLeg 6 = .ok (.iload_n 1, 1) := dk_27 (dk_at dksX3_addLeg_0 6 rfl rfl)
theorem dX3_addLeg_7 : decode cX3_addLeg 7 = .ok (.invokevirtual 142, 3) := dk_182 0 142 (dk_at dksX3_addLeg_0 7 rfl rfl)
theorem dX3_addLeg_10 : decode cX3_addLeg 10 = .ok (.invokevirtual 69, 3) := dk_182 0 69 (dk_at dksX3_addLeg_0 10 rfl rfl)
theorem dX3_addLeg_13 : decode cX3_addLeg 13 = .ok (.ireturn, 1) := dk_172 (dk_at dksX3_addLeg_0 13 rfl rfl)
abbrev cX3_addsLeg : ByteArray := prog_19_method_55_code
def yX3_addsLeg : MethodName := ⟨RX3, "addsLeg", "(I)I"⟩
def dkwX3_addsLeg_2 : List UInt8 := [42, 180, 0, 7, 6, 92, 46, 4, 96, 79, 42, 42, 180, 0, 7, 6, 46, 182, 0, 60, 172]
abbrev dktX3_addsLeg_2 : List UInt8 := dkwX3_addsLeg_2 ++ []
def dkwX3_addsLeg_1 : List UInt8 := [160, 0, 9, 42, 5, 182, 0, 56, 172, 42, 180, 0, 7, 16, 42, 42, 180, 0, 7, 6, 46, 96, 27, 79]
abbrev dktX3_addsLeg_1 : List UInt8 := dkwX3_addsLeg_1 ++ dktX3_addsLeg_2
def dkwX3_addsLeg_0 : List UInt8 := [27, 4, 16, 60, 184, 0, 52, 154, 0, 9, 42, 4, 182, 0, 56, 172, 42, 180, 0, 7, 6, 46, 16, 6]
abbrev dktX3_addsLeg_0 : List UInt8 := dkwX3_addsLeg_0 ++ dktX3_addsLeg_1
theorem dksX3_addsLeg_0 : cX3_addsLeg.data.toList.drop 0 = dktX3_addsLeg_0 := by decide +kernel
theorem dksX3_addsLeg_1 : cX3_addsLeg.data.toList.drop 24 = dktX3_addsLeg_1 := dk_seg dksX3_addsLeg_0 24 rfl rfl
theorem dksX3_addsLeg_2 : cX3_addsLeg.data.toList.drop 48 = dktX3_addsLeg_2 := dk_seg dksX3_addsLeg_1 24 rfl rfl
theorem dX3_addsLeg_0 : decode cX3_addsLeg 0 = .ok (.iload_n 1, 1) := dk_27 (dk_at dksX3_addsLeg_0 0 rfl rfl)
theorem dX3_addsLeg_1 : decode cX3_addsLeg 1 = .ok (.iconst 1, 1) := dk_4 (dk_at dksX3_addsLeg_0 1 rfl rfl)
theorem dX3_addsLeg_2 : decode cX3_addsLeg 2 = .ok (.bipush 60, 2) := dk_16 60 (dk_at dksX3_addsLeg_0 2 rfl rfl)
theorem dX3_addsLeg_4 : decode cX3_addsLeg 4 = .ok (.invokestatic 52, 3) := dk_184 0 52 (dk_at dksX3_addsLeg_0 4 rfl rfl)
theorem dX3_addsLeg_7 : decode cX3_addsLeg 7 = .ok (.ifCond .ne 9, 3) := dk_154 0 9 (dk_at dksX3_addsLeg_0 7 rfl rfl)
theorem dX3_addsLeg_10 : decode cX3_addsLeg 10 = .ok (.aload_n 0, 1) := dk_42 (dk_at dksX3_addsLeg_0 10 rfl rfl)
theorem dX3_addsLeg_11 : decode cX3_addsLeg 11 = .ok (.iconst 1, 1) := dk_4 (dk_at dksX3_addsLeg_0 11 rfl rfl)
theorem dX3_addsLeg_12 : decode cX3_addsLeg 12 = .ok (.invokevirtual 56, 3) := dk_182 0 56 (dk_at dksX3_addsLeg_0 12 rfl rfl)
theorem dX3_addsLeg_15 : decode cX3_addsLeg 15 = .ok (.ireturn, 1) := dk_172 (dk_at dksX3_addsLeg_0 15 rfl rfl)
theorem dX3_addsLeg_16 : decode cX3_addsLeg 16 = .ok (.aload_n 0, 1) := dk_42 (dk_at dksX3_addsLeg_0 16 rfl rfl)
theorem dX3_addsLeg_17 : decode cX3_addsLeg 17 = .ok (.getfield 7, 3) := dk_180 0 7 (dk_at dksX3_addsLeg_0 17 rfl rfl)
theorem dX3_addsLeg_20 : decode cX3_addsLeg 20 = .ok (.iconst 3, 1) := dk_6 (dk_at dksX3_addsLeg_0 20 rfl rfl)
theorem dX3_addsLeg_21 : decode cX3_addsLeg 21 = .ok (.iaload, 1) := dk_46 (dk_at dksX3_addsLeg_0 21 rfl rfl)
theorem dX3_addsLeg_22 : decode cX3_addsLeg 22 = .ok (.bipush 6, 2) := dk_16 6 (dk_at dksX3_addsLeg_0 22 rfl rfl)
theorem dX3_addsLeg_24 : decode cX3_addsLeg 24 = .ok (.if_icmp .ne 9, 3) := dk_160 0 9 (dk_at dksX3_addsLeg_1 0 rfl rfl)
theorem dX3_addsLeg_27 : decode cX3_addsLeg 27 = .ok (.aload_n 0, 1) := dk_42 (dk_at dksX3_addsLeg_1 3 rfl rfl)
theorem dX3_addsLeg_28 : decode cX3_addsLeg 28 = .ok (.iconst 2, 1) := dk_5 (dk_at dksX3_addsLeg_1 4 rfl rfl)
theorem dX3_addsLeg_29 : decode cX3_addsLeg 29 = .ok (.invokevirtual 56, 3) := dk_182 0 56 (dk_at dksX3_addsLeg_1 5 rfl rfl)
theorem dX3_addsLeg_32 : decode cX3_addsLeg 32 = .ok (.ireturn, 1) := dk_172 (dk_at dksX3_addsLeg_1 8 rfl rfl)
theorem dX3_addsLeg_33 : decode cX3_addsLeg 33 = .ok (.aload_n 0, 1) := dk_42 (dk_at dksX3_addsLeg_1 9 rfl rfl)
theorem dX3_addsLeg_34 : decode cX3_addsLeg 34 = .ok (.getfield 7, 3) := dk_180 0 7 (dk_at dksX3_addsLeg_1 10 rfl rfl)
theorem dX3_addsLeg_37 : decode cX3_addsLeg 37 = .ok (.bipush 42, 2) := dk_16 42 (dk_at dksX3_addsLeg_1 13 rfl rfl)
theorem dX3_addsLeg_39 : decode cX3_addsLeg 39 = .ok (.aload_n 0, 1) := dk_42 (dk_at dksX3_addsLeg_1 15 rfl rfl)
theorem dX3_addsLeg_40 : decode cX3_addsLeg 40 = .ok (.getfield 7, 3) := dk_180 0 7 (dk_at dksX3_addsLeg_1 16 rfl rfl)
theorem dX3_addsLeg_43 : decode cX3_addsLeg 43 = .ok (.iconst 3, 1) := dk_6 (dk_at dksX3_addsLeg_1 19 rfl rfl)
theorem dX3_addsLeg_44 : decode cX3_addsLeg 44 = .ok (.iaload, 1) := dk_46 (dk_at dksX3_addsLeg_1 20 rfl rfl)
theorem dX3_addsLeg_45 : decode cX3_addsLeg 45 = .ok (.iadd, 1) := dk_96 (dk_at dksX3_addsLeg_1 21 rfl rfl)
theorem dX3_addsLeg_46 : decode cX3_addsLeg 46 = .ok (.iload_n 1, 1) := dk_27 (dk_at dksX3_addsLeg_1 22 rfl rfl)
theorem dX3_addsLeg_47 : decode cX3_addsLeg 47 = .ok (.iastore, 1) := dk_79 (dk_at dksX3_addsLeg_1 23 rfl rfl)
theorem dX3_addsLeg_48 : decode cX3_addsLeg 48 = .ok (.aload_n 0, 1) := dk_42 (dk_at dksX3_addsLeg_2 0 rfl rfl)
theorem dX3_addsLeg_49 : decode cX3_addsLeg 49 = .ok (.getfield 7, 3) := dk_180 0 7 (dk_at dksX3_addsLeg_2 1 rfl rfl)
theorem dX3_addsLeg_52 : decode cX3_addsLeg 52 = .ok (.iconst 3, 1) := dk_6 (dk_at dksX3_addsLeg_2 4 rfl rfl)
theorem dX3_addsLeg_53 : decode cX3_addsLeg 53 = .ok (.dup2, 1) := dk_92 (dk_at dksX3_addsLeg_2 5 rfl rfl)
theorem dX3_addsLeg_54 : decode cX3_addsLeg 54 = .ok (.iaload, 1) := dk_46 (dk_at dksX3_addsLeg_2 6 rfl rfl)
theorem dX3_addsLeg_55 : decode cX3_addsLeg 55 = .ok (.iconst 1, 1) := dk_4 (dk_at dksX3_addsLeg_2 7 rfl rfl)
theorem dX3_addsLeg_56 : decode cX3_addsLeg 56 = .ok (.iadd, 1) := dk_96 (dk_at dksX3_addsLeg_2 8 rfl rfl)
theorem dX3_addsLeg_57 : decode cX3_addsLeg 57 = .ok (.iastore, 1) := dk_79 (dk_at dksX3_addsLeg_2 9 rfl rfl)
theorem dX3_addsLeg_58 : decode cX3_addsLeg 58 = .ok (.aload_n 0, 1) := dk_42 (dk_at dksX3_addsLeg_2 10 rfl rfl)
theorem dX3_addsLeg_59 : decode cX3_addsLeg 59 = .ok (.aload_n 0, 1) := dk_42 (dk_at dksX3_addsLeg_2 11 rfl rfl)
theorem dX3_addsLeg_60 : decode cX3_addsLeg 60 = .ok (.getfield 7, 3) := dk_180 0 7 (dk_at dksX3_addsLeg_2 12 rfl rfl)
theorem dX3_addsLeg_63 : decode cX3_addsLeg 63 = .ok (.iconst 3, 1) := dk_6 (dk_at dksX3_addsLeg_2 15 rfl rfl)
theorem dX3_addsLeg_64 : decode cX3_addsLeg 64 = .ok (.iaload, 1) := dk_46 (dk_at dksX3_addsLeg_2 16 rfl rfl)
theorem dX3_addsLeg_65 : decode cX3_addsLeg 65 = .ok (.invokevirtual 60, 3) := dk_182 0 60 (dk_at dksX3_addsLeg_2 17 rfl rfl)
theorem dX3_addsLeg_68 : decode cX3_addsLeg 68 = .ok (.ireturn, 1) := dk_172 (dk_at dksX3_addsLeg_2 20 rfl rfl)
abbrev cX3_removeLeg : ByteArray := prog_19_method_59_code
def yX3_removeLeg : MethodName := ⟨RX3, "removeLeg", "(I)I"⟩
def dkwX3_removeLeg_0 : List UInt8 := [42, 182, 0, 63, 42, 42, 27, 182, 0, 148, 182, 0, 69, 172]
abbrev dktX3_removeLeg_0 : List UInt8 := dkwX3_removeLeg_0 ++ []
theorem dksX3_removeLeg_0 : cX3_removeLeg.data.toList.drop 0 = dktX3_removeLeg_0 := by decide +kernel
theorem dX3_removeLeg_0 : decode cX3_removeLeg 0 = .ok (.aload_n 0, 1) := dk_42 (dk_at dksX3_removeLeg_0 0 rfl rfl)
theorem dX3_removeLeg_1 : decode cX3_removeLeg 1 = .ok (.invokevirtual 63, 3) := dk_182 0 63 (dk_at dksX3_removeLeg_0 1 rfl rfl)
theorem dX3_removeLeg_4 : decode cX3_removeLeg 4 = .ok (.aload_n 0, 1) := dk_42 (dk_at dksX3_removeLeg_0 4 rfl rfl)
theorem dX3_removeLeg_5 : decode cX3_removeLeg 5 = .ok (.aload_n 0, 1) := dk_42 (dk_at dksX3_removeLeg_0 5 rfl rfl)
theorem dX3_removeLeg_6 : decode cX3_removeLeg 6 = .ok (.iload_n 1, 1) := dk_27 (dk_at dksX3_removeLeg_0 6 rfl rfl)
theorem dX3_removeLeg_7 : decode cX3_removeLeg 7 = .ok (.invokevirtual 148, 3) := dk_182 0 148 (dk_at dksX3_removeLeg_0 7 rfl rfl)
theorem dX3_removeLeg_10 : decode cX3_removeLeg 10 = .ok (.invokevirtual 69, 3) := dk_182 0 69 (dk_at dksX3_removeLeg_0 10 rfl rfl)
theorem dX3_removeLeg_13 : decode cX3_removeLeg 13 = .ok (.ireturn, 1) := dk_172 (dk_at dksX3_removeLeg_0 13 rfl rfl)
abbrev cX3_cuts : ByteArray := prog_19_method_58_code
def yX3_cuts : MethodName := ⟨RX3, "cuts", "(I)I"⟩
def dkwX3_cuts_3 : List UInt8 := [172]
abbrev dktX3_cuts_3 : List UInt8 := dkwX3_cuts_3 ++ []
def dkwX3_cuts_2 : List UInt8 := [96, 46, 79, 132, 3, 1, 167, 255, 228, 42, 180, 0, 7, 6, 92, 46, 4, 100, 79, 42, 28, 182, 0, 60]
abbrev dktX3_cuts_2 : List UInt8 := dkwX3_cuts_2 ++ dktX3_cuts_3
def dkwX3_cuts_1 : List UInt8 := [27, 62, 29, 8, 162, 0, 29, 42, 180, 0, 7, 16, 42, 29, 96, 42, 180, 0, 7, 16, 42, 29, 96, 4]
abbrev dktX3_cuts_1 : List UInt8 := dkwX3_cuts_1 ++ dktX3_cuts_2
def dkwX3_cuts_0 : List UInt8 := [42, 27, 182, 0, 145, 154, 0, 9, 42, 4, 182, 0, 56, 172, 42, 180, 0, 7, 16, 42, 27, 96, 46, 61]
abbrev dktX3_cuts_0 : List UInt8 := dkwX3_cuts_0 ++ dktX3_cuts_1
theorem dksX3_cuts_0 : cX3_cuts.data.toList.drop 0 = dktX3_cuts_0 := by decide +kernel
theorem dksX3_cuts_1 : cX3_cuts.data.toList.drop 24 = dktX3_cuts_1 := dk_seg dksX3_cuts_0 24 rfl rfl
theorem dksX3_cuts_2 : cX3_cuts.data.toList.drop 48 = dktX3_cuts_2 := dk_seg dksX3_cuts_1 24 rfl rfl
theorem dksX3_cuts_3 : cX3_cuts.data.toList.drop 72 = dktX3_cuts_3 := dk_seg dksX3_cuts_2 24 rfl rfl
theorem dX3_cuts_0 : decode cX3_cuts 0 = .ok (.aload_n 0, 1) := dk_42 (dk_at dksX3_cuts_0 0 rfl rfl)
theorem dX3_cuts_1 : decode cX3_cuts 1 = .ok (.iload_n 1, 1) := dk_27 (dk_at dksX3_cuts_0 1 rfl rfl)
theorem dX3_cuts_2 : decode cX3_cuts 2 = .ok (.invokevirtual 145, 3) := dk_182 0 145 (dk_at dksX3_cuts_0 2 rfl rfl)
theorem dX3_cuts_5 : decode cX3_cuts 5 = .ok (.ifCond .ne 9, 3) := dk_154 0 9 (dk_at dksX3_cuts_0 5 rfl rfl)
theorem dX3_cuts_8 : decode cX3_cuts 8 = .ok (.aload_n 0, 1) := dk_42 (dk_at dksX3_cuts_0 8 rfl rfl)
theorem dX3_cuts_9 : decode cX3_cuts 9 = .ok (.iconst 1, 1) := dk_4 (dk_at dksX3_cuts_0 9 rfl rfl)
theorem dX3_cuts_10 : decode cX3_cuts 10 = .ok (.invokevirtual 56, 3) := dk_182 0 56 (dk_at dksX3_cuts_0 10 rfl rfl)
theorem dX3_cuts_13 : decode cX3_cuts 13 = .ok (.ireturn, 1) := dk_172 (dk_at dksX3_cuts_0 13 rfl rfl)
theorem dX3_cuts_14 : decode cX3_cuts 14 = .ok (.aload_n 0, 1) := dk_42 (dk_at dksX3_cuts_0 14 rfl rfl)
theorem dX3_cuts_15 : decode cX3_cuts 15 = .ok (.getfield 7, 3) := dk_180 0 7 (dk_at dksX3_cuts_0 15 rfl rfl)
theorem dX3_cuts_18 : decode cX3_cuts 18 = .ok (.bipush 42, 2) := dk_16 42 (dk_at dksX3_cuts_0 18 rfl rfl)
theorem dX3_cuts_20 : decode cX3_cuts 20 = .ok (.iload_n 1, 1) := dk_27 (dk_at dksX3_cuts_0 20 rfl rfl)
theorem dX3_cuts_21 : decode cX3_cuts 21 = .ok (.iadd, 1) := dk_96 (dk_at dksX3_cuts_0 21 rfl rfl)
theorem dX3_cuts_22 : decode cX3_cuts 22 = .ok (.iaload, 1) := dk_46 (dk_at dksX3_cuts_0 22 rfl rfl)
theorem dX3_cuts_23 : decode cX3_cuts 23 = .ok (.istore_n 2, 1) := dk_61 (dk_at dksX3_cuts_0 23 rfl rfl)
theorem dX3_cuts_24 : decode cX3_cuts 24 = .ok (.iload_n 1, 1) := dk_27 (dk_at dksX3_cuts_1 0 rfl rfl)
theorem dX3_cuts_25 : decode cX3_cuts 25 = .ok (.istore_n 3, 1) := dk_62 (dk_at dksX3_cuts_1 1 rfl rfl)
theorem dX3_cuts_26 : decode cX3_cuts 26 = .ok (.iload_n 3, 1) := dk_29 (dk_at dksX3_cuts_1 2 rfl rfl)
theorem dX3_cuts_27 : decode cX3_cuts 27 = .ok (.iconst 5, 1) := dk_8 (dk_at dksX3_cuts_1 3 rfl rfl)
theorem dX3_cuts_28 : decode cX3_cuts 28 = .ok (.if_icmp .ge 29, 3) := dk_162 0 29 (dk_at dksX3_cuts_1 4 rfl rfl)
theorem dX3_cuts_31 : decode cX3_cuts 31 = .ok (.aload_n 0, 1) := dk_42 (dk_at dksX3_cuts_1 7 rfl rfl)
theorem dX3_cuts_32 : decode cX3_cuts 32 = .ok (.getfield 7, 3) := dk_180 0 7 (dk_at dksX3_cuts_1 8 rfl rfl)
theorem dX3_cuts_35 : decode cX3_cuts 35 = .ok (.bipush 42, 2) := dk_16 42 (dk_at dksX3_cuts_1 11 rfl rfl)
theorem dX3_cuts_37 : decode cX3_cuts 37 = .ok (.iload_n 3, 1) := dk_29 (dk_at dksX3_cuts_1 13 rfl rfl)
theorem dX3_cuts_38 : decode cX3_cuts 38 = .ok (.iadd, 1) := dk_96 (dk_at dksX3_cuts_1 14 rfl rfl)
theorem dX3_cuts_39 : decode cX3_cuts 39 = .ok (.aload_n 0, 1) := dk_42 (dk_at dksX3_cuts_1 15 rfl rfl)
theorem dX3_cuts_40 : decode cX3_cuts 40 = .ok (.getfield 7, 3) := dk_180 0 7 (dk_at dksX3_cuts_1 16 rfl rfl)
theorem dX3_cuts_43 : decode cX3_cuts 43 = .ok (.bipush 42, 2) := dk_16 42 (dk_at dksX3_cuts_1 19 rfl rfl)
theorem dX3_cuts_45 : decode cX3_cuts 45 = .ok (.iload_n 3, 1) := dk_29 (dk_at dksX3_cuts_1 21 rfl rfl)
theorem dX3_cuts_46 : decode cX3_cuts 46 = .ok (.iadd, 1) := dk_96 (dk_at dksX3_cuts_1 22 rfl rfl)
theorem dX3_cuts_47 : decode cX3_cuts 47 = .ok (.iconst 1, 1) := dk_4 (dk_at dksX3_cuts_1 23 rfl rfl)
theorem dX3_cuts_48 : decode cX3_cuts 48 = .ok (.iadd, 1) := dk_96 (dk_at dksX3_cuts_2 0 rfl rfl)
theorem dX3_cuts_49 : decode cX3_cuts 49 = .ok (.iaload, 1) := dk_46 (dk_at dksX3_cuts_2 1 rfl rfl)
theorem dX3_cuts_50 : decode cX3_cuts 50 = .ok (.iastore, 1) := dk_79 (dk_at dksX3_cuts_2 2 rfl rfl)
theorem dX3_cuts_51 : decode cX3_cuts 51 = .ok (.iinc 3 1, 3) := dk_132 3 1 (dk_at dksX3_cuts_2 3 rfl rfl)
theorem dX3_cuts_54 : decode cX3_cuts 54 = .ok (.goto (-28), 3) := dk_167 255 228 (dk_at dksX3_cuts_2 6 rfl rfl)
theorem dX3_cuts_57 : decode cX3_cuts 57 = .ok (.aload_n 0, 1) := dk_42 (dk_at dksX3_cuts_2 9 rfl rfl)
theorem dX3_cuts_58 : decode cX3_cuts 58 = .ok (.getfield 7, 3) := dk_180 0 7 (dk_at dksX3_cuts_2 10 rfl rfl)
theorem dX3_cuts_61 : decode cX3_cuts 61 = .ok (.iconst 3, 1) := dk_6 (dk_at dksX3_cuts_2 13 rfl rfl)
theorem dX3_cuts_62 : decode cX3_cuts 62 = .ok (.dup2, 1) := dk_92 (dk_at dksX3_cuts_2 14 rfl rfl)
theorem dX3_cuts_63 : decode cX3_cuts 63 = .ok (.iaload, 1) := dk_46 (dk_at dksX3_cuts_2 15 rfl rfl)
theorem dX3_cuts_64 : decode cX3_cuts 64 = .ok (.iconst 1, 1) := dk_4 (dk_at dksX3_cuts_2 16 rfl rfl)
theorem dX3_cuts_65 : decode cX3_cuts 65 = .ok (.isub, 1) := dk_100 (dk_at dksX3_cuts_2 17 rfl rfl)
theorem dX3_cuts_66 : decode cX3_cuts 66 = .ok (.iastore, 1) := dk_79 (dk_at dksX3_cuts_2 18 rfl rfl)
theorem dX3_cuts_67 : decode cX3_cuts 67 = .ok (.aload_n 0, 1) := dk_42 (dk_at dksX3_cuts_2 19 rfl rfl)
theorem dX3_cuts_68 : decode cX3_cuts 68 = .ok (.iload_n 2, 1) := dk_28 (dk_at dksX3_cuts_2 20 rfl rfl)
theorem dX3_cuts_69 : decode cX3_cuts 69 = .ok (.invokevirtual 60, 3) := dk_182 0 60 (dk_at dksX3_cuts_2 21 rfl rfl)
theorem dX3_cuts_72 : decode cX3_cuts 72 = .ok (.ireturn, 1) := dk_172 (dk_at dksX3_cuts_3 0 rfl rfl)
abbrev cX3_isLeg : ByteArray := prog_19_method_57_code
def yX3_isLeg : MethodName := ⟨RX3, "isLeg", "(I)Z"⟩
def dkwX3_isLeg_0 : List UInt8 := [27, 3, 42, 180, 0, 7, 6, 46, 4, 100, 184, 0, 52, 172]
abbrev dktX3_isLeg_0 : List UInt8 := dkwX3_isLeg_0 ++ []
theorem dksX3_isLeg_0 : cX3_isLeg.data.toList.drop 0 = dktX3_isLeg_0 := by decide +kernel
theorem dX3_isLeg_0 : decode cX3_isLeg 0 = .ok (.iload_n 1, 1) := dk_27 (dk_at dksX3_isLeg_0 0 rfl rfl)
theorem dX3_isLeg_1 : decode cX3_isLeg 1 = .ok (.iconst 0, 1) := dk_3 (dk_at dksX3_isLeg_0 1 rfl rfl)
theorem dX3_isLeg_2 : decode cX3_isLeg 2 = .ok (.aload_n 0, 1) := dk_42 (dk_at dksX3_isLeg_0 2 rfl rfl)
theorem dX3_isLeg_3 : decode cX3_isLeg 3 = .ok (.getfield 7, 3) := dk_180 0 7 (dk_at dksX3_isLeg_0 3 rfl rfl)
theorem dX3_isLeg_6 : decode cX3_isLeg 6 = .ok (.iconst 3, 1) := dk_6 (dk_at dksX3_isLeg_0 6 rfl rfl)
theorem dX3_isLeg_7 : decode cX3_isLeg 7 = .ok (.iaload, 1) := dk_46 (dk_at dksX3_isLeg_0 7 rfl rfl)
theorem dX3_isLeg_8 : decode cX3_isLeg 8 = .ok (.iconst 1, 1) := dk_4 (dk_at dksX3_isLeg_0 8 rfl rfl)
theorem dX3_isLeg_9 : decode cX3_isLeg 9 = .ok (.isub, 1) := dk_100 (dk_at dksX3_isLeg_0 9 rfl rfl)
theorem dX3_isLeg_10 : decode cX3_isLeg 10 = .ok (.invokestatic 52, 3) := dk_184 0 52 (dk_at dksX3_isLeg_0 10 rfl rfl)
theorem dX3_isLeg_13 : decode cX3_isLeg 13 = .ok (.ireturn, 1) := dk_172 (dk_at dksX3_isLeg_0 13 rfl rfl)
abbrev cX3_legCount : ByteArray := prog_19_method_60_code
def yX3_legCount : MethodName := ⟨RX3, "legCount", "()I"⟩
def dkwX3_legCount_0 : List UInt8 := [42, 42, 180, 0, 7, 6, 46, 182, 0, 60, 172]
abbrev dktX3_legCount_0 : List UInt8 := dkwX3_legCount_0 ++ []
theorem dksX3_legCount_0 : cX3_legCount.data.toList.drop 0 = dktX3_legCount_0 := by decide +kernel
theorem dX3_legCount_0 : decode cX3_legCount 0 = .ok (.aload_n 0, 1) := dk_42 (dk_at dksX3_legCount_0 0 rfl rfl)
theorem dX3_legCount_1 : decode cX3_legCount 1 = .ok (.aload_n 0, 1) := dk_42 (dk_at dksX3_legCount_0 1 rfl rfl)
theorem dX3_legCount_2 : decode cX3_legCount 2 = .ok (.getfield 7, 3) := dk_180 0 7 (dk_at dksX3_legCount_0 2 rfl rfl)
theorem dX3_legCount_5 : decode cX3_legCount 5 = .ok (.iconst 3, 1) := dk_6 (dk_at dksX3_legCount_0 5 rfl rfl)
theorem dX3_legCount_6 : decode cX3_legCount 6 = .ok (.iaload, 1) := dk_46 (dk_at dksX3_legCount_0 6 rfl rfl)
theorem dX3_legCount_7 : decode cX3_legCount 7 = .ok (.invokevirtual 60, 3) := dk_182 0 60 (dk_at dksX3_legCount_0 7 rfl rfl)
theorem dX3_legCount_10 : decode cX3_legCount 10 = .ok (.ireturn, 1) := dk_172 (dk_at dksX3_legCount_0 10 rfl rfl)
abbrev cX3_wishOf : ByteArray := prog_19_method_61_code
def yX3_wishOf : MethodName := ⟨RX3, "wishOf", "(I)I"⟩
def dkwX3_wishOf_1 : List UInt8 := [42, 4, 182, 0, 56, 172]
abbrev dktX3_wishOf_1 : List UInt8 := dkwX3_wishOf_1 ++ []
def dkwX3_wishOf_0 : List UInt8 := [42, 27, 182, 0, 145, 153, 0, 19, 42, 42, 180, 0, 7, 16, 42, 27, 96, 46, 182, 0, 60, 167, 0, 8]
abbrev dktX3_wishOf_0 : List UInt8 := dkwX3_wishOf_0 ++ dktX3_wishOf_1
theorem dksX3_wishOf_0 : cX3_wishOf.data.toList.drop 0 = dktX3_wishOf_0 := by decide +kernel
theorem dksX3_wishOf_1 : cX3_wishOf.data.toList.drop 24 = dktX3_wishOf_1 := dk_seg dksX3_wishOf_0 24 rfl rfl
theorem dX3_wishOf_0 : decode cX3_wishOf 0 = .ok (.aload_n 0, 1) := dk_42 (dk_at dksX3_wishOf_0 0 rfl rfl)
theorem dX3_wishOf_1 : decode cX3_wishOf 1 = .ok (.iload_n 1, 1) := dk_27 (dk_at dksX3_wishOf_0 1 rfl rfl)
theorem dX3_wishOf_2 : decode cX3_wishOf 2 = .ok (.invokevirtual 145, 3) := dk_182 0 145 (dk_at dksX3_wishOf_0 2 rfl rfl)
theorem dX3_wishOf_5 : decode cX3_wishOf 5 = .ok (.ifCond .eq 19, 3) := dk_153 0 19 (dk_at dksX3_wishOf_0 5 rfl rfl)
theorem dX3_wishOf_8 : decode cX3_wishOf 8 = .ok (.aload_n 0, 1) := dk_42 (dk_at dksX3_wishOf_0 8 rfl rfl)
theorem dX3_wishOf_9 : decode cX3_wishOf 9 = .ok (.aload_n 0, 1) := dk_42 (dk_at dksX3_wishOf_0 9 rfl rfl)
theorem dX3_wishOf_10 : decode cX3_wishOf 10 = .ok (.getfield 7, 3) := dk_180 0 7 (dk_at dksX3_wishOf_0 10 rfl rfl)
theorem dX3_wishOf_13 : decode cX3_wishOf 13 = .ok (.bipush 42, 2) := dk_16 42 (dk_at dksX3_wishOf_0 13 rfl rfl)
theorem dX3_wishOf_15 : decode cX3_wishOf 15 = .ok (.iload_n 1, 1) := dk_27 (dk_at dksX3_wishOf_0 15 rfl rfl)
theorem dX3_wishOf_16 : decode cX3_wishOf 16 = .ok (.iadd, 1) := dk_96 (dk_at dksX3_wishOf_0 16 rfl rfl)
theorem dX3_wishOf_17 : decode cX3_wishOf 17 = .ok (.iaload, 1) := dk_46 (dk_at dksX3_wishOf_0 17 rfl rfl)
theorem dX3_wishOf_18 : decode cX3_wishOf 18 = .ok (.invokevirtual 60, 3) := dk_182 0 60 (dk_at dksX3_wishOf_0 18 rfl rfl)
theorem dX3_wishOf_21 : decode cX3_wishOf 21 = .ok (.goto 8, 3) := dk_167 0 8 (dk_at dksX3_wishOf_0 21 rfl rfl)
theorem dX3_wishOf_24 : decode cX3_wishOf 24 = .ok (.aload_n 0, 1) := dk_42 (dk_at dksX3_wishOf_1 0 rfl rfl)
theorem dX3_wishOf_25 : decode cX3_wishOf 25 = .ok (.iconst 1, 1) := dk_4 (dk_at dksX3_wishOf_1 1 rfl rfl)
theorem dX3_wishOf_26 : decode cX3_wishOf 26 = .ok (.invokevirtual 56, 3) := dk_182 0 56 (dk_at dksX3_wishOf_1 2 rfl rfl)
theorem dX3_wishOf_29 : decode cX3_wishOf 29 = .ok (.ireturn, 1) := dk_172 (dk_at dksX3_wishOf_1 5 rfl rfl)
abbrev cX3_leastRelay : ByteArray := prog_19_method_65_code
def yX3_leastRelay : MethodName := ⟨RX3, "leastRelay", "()I"⟩
def dkwX3_leastRelay_1 : List UInt8 := [182, 0, 159, 42, 42, 180, 0, 36, 3, 46, 182, 0, 60, 172]
abbrev dktX3_leastRelay_1 : List UInt8 := dkwX3_leastRelay_1 ++ []
def dkwX3_leastRelay_0 : List UInt8 := [42, 180, 0, 7, 5, 46, 42, 180, 0, 7, 6, 46, 162, 0, 9, 42, 4, 182, 0, 56, 172, 42]
abbrev dktX3_leastRelay_0 : List UInt8 := dkwX3_leastRelay_0 ++ dktX3_leastRelay_1
theorem dksX3_leastRelay_0 : cX3_leastRelay.data.toList.drop 0 = dktX3_leastRelay_0 := by decide +kernel
theorem dksX3_leastRelay_1 : cX3_leastRelay.data.toList.drop 22 = dktX3_leastRelay_1 := dk_seg dksX3_leastRelay_0 22 rfl rfl
theorem dX3_leastRelay_0 : decode cX3_leastRelay 0 = .ok (.aload_n 0, 1) := dk_42 (dk_at dksX3_leastRelay_0 0 rfl rfl)
theorem dX3_leastRelay_1 : decode cX3_leastRelay 1 = .ok (.getfield 7, 3) := dk_180 0 7 (dk_at dksX3_leastRelay_0 1 rfl rfl)
theorem dX3_leastRelay_4 : decode cX3_leastRelay 4 = .ok (.iconst 2, 1) := dk_5 (dk_at dksX3_leastRelay_0 4 rfl rfl)
theorem dX3_leastRelay_5 : decode cX3_leastRelay 5 = .ok (.iaload, 1) := dk_46 (dk_at dksX3_leastRelay_0 5 rfl rfl)
theorem dX3_leastRelay_6 : decode cX3_leastRelay 6 = .ok (.aload_n 0, 1) := dk_42 (dk_at dksX3_leastRelay_0 6 rfl rfl)
theorem dX3_leastRelay_7 : decode cX3_leastRelay 7 = .ok (.getfield 7, 3) := dk_180 0 7 (dk_at dksX3_leastRelay_0 7 rfl rfl)
theorem dX3_leastRelay_10 : decode cX3_leastRelay 10 = .ok (.iconst 3, 1) := dk_6 (dk_at dksX3_leastRelay_0 10 rfl rfl)
theorem dX3_leastRelay_11 : decode cX3_leastRelay 11 = .ok (.iaload, 1) := dk_46 (dk_at dksX3_leastRelay_0 11 rfl rfl)
theorem dX3_leastRelay_12 : decode cX3_leastRelay 12 = .ok (.if_icmp .ge 9, 3) := dk_162 0 9 (dk_at dksX3_leastRelay_0 12 rfl rfl)
theorem dX3_leastRelay_15 : decode cX3_leastRelay 15 = .ok (.aload_n 0, 1) := dk_42 (dk_at dksX3_leastRelay_0 15 rfl rfl)
theorem dX3_leastRelay_16 : decode cX3_leastRelay 16 = .ok (.iconst 1, 1) := dk_4 (dk_at dksX3_leastRelay_0 16 rfl rfl)
theorem dX3_leastRelay_17 : decode cX3_leastRelay 17 = .ok (.invokevirtual 56, 3) := dk_182 0 56 (dk_at dksX3_leastRelay_0 17 rfl rfl)
theorem dX3_leastRelay_20 : decode cX3_leastRelay 20 = .ok (.ireturn, 1) := dk_172 (dk_at dksX3_leastRelay_0 20 rfl rfl)
theorem dX3_leastRelay_21 : decode cX3_leastRelay 21 = .ok (.aload_n 0, 1) := dk_42 (dk_at dksX3_leastRelay_0 21 rfl rfl)
theorem dX3_leastRelay_22 : decode cX3_leastRelay 22 = .ok (.invokevirtual 159, 3) := dk_182 0 159 (dk_at dksX3_leastRelay_1 0 rfl rfl)
theorem dX3_leastRelay_25 : decode cX3_leastRelay 25 = .ok (.aload_n 0, 1) := dk_42 (dk_at dksX3_leastRelay_1 3 rfl rfl)
theorem dX3_leastRelay_26 : decode cX3_leastRelay 26 = .ok (.aload_n 0, 1) := dk_42 (dk_at dksX3_leastRelay_1 4 rfl rfl)
theorem dX3_leastRelay_27 : decode cX3_leastRelay 27 = .ok (.getfield 36, 3) := dk_180 0 36 (dk_at dksX3_leastRelay_1 5 rfl rfl)
theorem dX3_leastRelay_30 : decode cX3_leastRelay 30 = .ok (.iconst 0, 1) := dk_3 (dk_at dksX3_leastRelay_1 8 rfl rfl)
theorem dX3_leastRelay_31 : decode cX3_leastRelay 31 = .ok (.iaload, 1) := dk_46 (dk_at dksX3_leastRelay_1 9 rfl rfl)
theorem dX3_leastRelay_32 : decode cX3_leastRelay 32 = .ok (.invokevirtual 60, 3) := dk_182 0 60 (dk_at dksX3_leastRelay_1 10 rfl rfl)
theorem dX3_leastRelay_35 : decode cX3_leastRelay 35 = .ok (.ireturn, 1) := dk_172 (dk_at dksX3_leastRelay_1 13 rfl rfl)
abbrev cX3_finds : ByteArray := prog_19_method_64_code
def yX3_finds : MethodName := ⟨RX3, "finds", "()V"⟩
def dkwX3_finds_4 : List UInt8 := [132, 3, 1, 167, 255, 196, 132, 1, 255, 167, 255, 157, 177]
abbrev dktX3_finds_4 : List UInt8 := dkwX3_finds_4 ++ []
def dkwX3_finds_3 : List UInt8 := [21, 4, 42, 180, 0, 36, 27, 46, 162, 0, 8, 21, 4, 167, 0, 9, 42, 180, 0, 36, 27, 46, 79]
abbrev dktX3_finds_3 : List UInt8 := dkwX3_finds_3 ++ dktX3_finds_4
def dkwX3_finds_2 : List UInt8 := [42, 180, 0, 7, 6, 46, 162, 0, 46, 42, 27, 28, 29, 182, 0, 155, 54, 4, 42, 180, 0, 36, 27]
abbrev dktX3_finds_2 : List UInt8 := dkwX3_finds_2 ++ dktX3_finds_3
def dkwX3_finds_1 : List UInt8 := [46, 161, 0, 7, 3, 167, 0, 5, 18, 151, 79, 3, 62, 29, 42, 180, 0, 7, 5, 46, 162, 0, 56, 28]
abbrev dktX3_finds_1 : List UInt8 := dkwX3_finds_1 ++ dktX3_finds_2
def dkwX3_finds_0 : List UInt8 := [17, 0, 255, 60, 27, 155, 0, 101, 27, 184, 0, 152, 61, 42, 180, 0, 36, 27, 28, 42, 180, 0, 7, 6]
abbrev dktX3_finds_0 : List UInt8 := dkwX3_finds_0 ++ dktX3_finds_1
theorem dksX3_finds_0 : cX3_finds.data.toList.drop 0 = dktX3_finds_0 := by decide +kernel
theorem dksX3_finds_1 : cX3_finds.data.toList.drop 24 = dktX3_finds_1 := dk_seg dksX3_finds_0 24 rfl rfl
theorem dksX3_finds_2 : cX3_finds.data.toList.drop 48 = dktX3_finds_2 := dk_seg dksX3_finds_1 24 rfl rfl
theorem dksX3_finds_3 : cX3_finds.data.toList.drop 71 = dktX3_finds_3 := dk_seg dksX3_finds_2 23 rfl rfl
theorem dksX3_finds_4 : cX3_finds.data.toList.drop 94 = dktX3_finds_4 := dk_seg dksX3_finds_3 23 rfl rfl
theorem dX3_finds_0 : decode cX3_finds 0 = .ok (.sipush 255, 3) := dk_17 0 255 (dk_at dksX3_finds_0 0 rfl rfl)
theorem dX3_finds_3 : decode cX3_finds 3 = .ok (.istore_n 1, 1) := dk_60 (dk_at dksX3_finds_0 3 rfl rfl)
theorem dX3_finds_4 : decode cX3_finds 4 = .ok (.iload_n 1, 1) := dk_27 (dk_at dksX3_finds_0 4 rfl rfl)
theorem dX3_finds_5 : decode cX3_finds 5 = .ok (.ifCond .lt 101, 3) := dk_155 0 101 (dk_at dksX3_finds_0 5 rfl rfl)
theorem dX3_finds_8 : decode cX3_finds 8 = .ok (.iload_n 1, 1) := dk_27 (dk_at dksX3_finds_0 8 rfl rfl)
theorem dX3_finds_9 : decode cX3_finds 9 = .ok (.invokestatic 152, 3) := dk_184 0 152 (dk_at dksX3_finds_0 9 rfl rfl)
theorem dX3_finds_12 : decode cX3_finds 12 = .ok (.istore_n 2, 1) := dk_61 (dk_at dksX3_finds_0 12 rfl rfl)
theorem dX3_finds_13 : decode cX3_finds 13 = .ok (.aload_n 0, 1) := dk_42 (dk_at dksX3_finds_0 13 rfl rfl)
theorem dX3_finds_14 : decode cX3_finds 14 = .ok (.getfield 36, 3) := dk_180 0 36 (dk_at dksX3_finds_0 14 rfl rfl)
theorem dX3_finds_17 : decode cX3_finds 17 = .ok (.iload_n 1, 1) := dk_27 (dk_at dksX3_finds_0 17 rfl rfl)
theorem dX3_finds_18 : decode cX3_finds 18 = .ok (.iload_n 2, 1) := dk_28 (dk_at dksX3_finds_0 18 rfl rfl)
theorem dX3_finds_19 : decode cX3_finds 19 = .ok (.aload_n 0, 1) := dk_42 (dk_at dksX3_finds_0 19 rfl rfl)
theorem dX3_finds_20 : decode cX3_finds 20 = .ok (.getfield 7, 3) := dk_180 0 7 (dk_at dksX3_finds_0 20 rfl rfl)
theorem dX3_finds_23 : decode cX3_finds 23 = .ok (.iconst 3, 1) := dk_6 (dk_at dksX3_finds_0 23 rfl rfl)
theorem dX3_finds_24 : decode cX3_finds 24 = .ok (.iaload, 1) := dk_46 (dk_at dksX3_finds_1 0 rfl rfl)
theorem dX3_finds_25 : decode cX3_finds 25 = .ok (.if_icmp .lt 7, 3) := dk_161 0 7 (dk_at dksX3_finds_1 1 rfl rfl)
theorem dX3_finds_28 : decode cX3_finds 28 = .ok (.iconst 0, 1) := dk_3 (dk_at dksX3_finds_1 4 rfl rfl)
theorem dX3_finds_29 : decode cX3_finds 29 = .ok (.goto 5, 3) := dk_167 0 5 (dk_at dksX3_finds_1 5 rfl rfl)
theorem dX3_finds_32 : decode cX3_finds 32 = .ok (.ldc 151, 2) := dk_18 151 (dk_at dksX3_finds_1 8 rfl rfl)
theorem dX3_finds_34 : decode cX3_finds 34 = .ok (.iastore, 1) := dk_79 (dk_at dksX3_finds_1 10 rfl rfl)
theorem dX3_finds_35 : decode cX3_finds 35 = .ok (.iconst 0, 1) := dk_3 (dk_at dksX3_finds_1 11 rfl rfl)
theorem dX3_finds_36 : decode cX3_finds 36 = .ok (.istore_n 3, 1) := dk_62 (dk_at dksX3_finds_1 12 rfl rfl)
theorem dX3_finds_37 : decode cX3_finds 37 = .ok (.iload_n 3, 1) := dk_29 (dk_at dksX3_finds_1 13 rfl rfl)
theorem dX3_finds_38 : decode cX3_finds 38 = .ok (.aload_n 0, 1) := dk_42 (dk_at dksX3_finds_1 14 rfl rfl)
theorem dX3_finds_39 : decode cX3_finds 39 = .ok (.getfield 7, 3) := dk_180 0 7 (dk_at dksX3_finds_1 15 rfl rfl)
theorem dX3_finds_42 : decode cX3_finds 42 = .ok (.iconst 2, 1) := dk_5 (dk_at dksX3_finds_1 18 rfl rfl)
theorem dX3_finds_43 : decode cX3_finds 43 = .ok (.iaload, 1) := dk_46 (dk_at dksX3_finds_1 19 rfl rfl)
theorem dX3_finds_44 : decode cX3_finds 44 = .ok (.if_icmp .ge 56, 3) := dk_162 0 56 (dk_at dksX3_finds_1 20 rfl rfl)
theorem dX3_finds_47 : decode cX3_finds 47 = .ok (.iload_n 2, 1) := dk_28 (dk_at dksX3_finds_1 23 rfl rfl)
theorem dX3_finds_48 : decode cX3_finds 48 = .ok (.aload_n 0, 1) := dk_42 (dk_at dksX3_finds_2 0 rfl rfl)
theorem dX3_finds_49 : decode cX3_finds 49 = .ok (.getfield 7, 3) := dk_180 0 7 (dk_at dksX3_finds_2 1 rfl rfl)
theorem dX3_finds_52 : decode cX3_finds 52 = .ok (.iconst 3, 1) := dk_6 (dk_at dksX3_finds_2 4 rfl rfl)
theorem dX3_finds_53 : decode cX3_finds 53 = .ok (.iaload, 1) := dk_46 (dk_at dksX3_finds_2 5 rfl rfl)
theorem dX3_finds_54 : decode cX3_finds 54 = .ok (.if_icmp .ge 46, 3) := dk_162 0 46 (dk_at dksX3_finds_2 6 rfl rfl)
theorem dX3_finds_57 : decode cX3_finds 57 = .ok (.aload_n 0, 1) := dk_42 (dk_at dksX3_finds_2 9 rfl rfl)
theorem dX3_finds_58 : decode cX3_finds 58 = .ok (.iload_n 1, 1) := dk_27 (dk_at dksX3_finds_2 10 rfl rfl)
theorem dX3_finds_59 : decode cX3_finds 59 = .ok (.iload_n 2, 1) := dk_28 (dk_at dksX3_finds_2 11 rfl rfl)
theorem dX3_finds_60 : decode cX3_finds 60 = .ok (.iload_n 3, 1) := dk_29 (dk_at dksX3_finds_2 12 rfl rfl)
theorem dX3_finds_61 : decode cX3_finds 61 = .ok (.invokevirtual 155, 3) := dk_182 0 155 (dk_at dksX3_finds_2 13 rfl rfl)
theorem dX3_finds_64 : decode cX3_finds 64 = .ok (.istore 4, 2) := dk_54 4 (dk_at dksX3_finds_2 16 rfl rfl)
theorem dX3_finds_66 : decode cX3_finds 66 = .ok (.aload_n 0, 1) := dk_42 (dk_at dksX3_finds_2 18 rfl rfl)
theorem dX3_finds_67 : decode cX3_finds 67 = .ok (.getfield 36, 3) := dk_180 0 36 (dk_at dksX3_finds_2 19 rfl rfl)
theorem dX3_finds_70 : decode cX3_finds 70 = .ok (.iload_n 1, 1) := dk_27 (dk_at dksX3_finds_2 22 rfl rfl)
theorem dX3_finds_71 : decode cX3_finds 71 = .ok (.iload 4, 2) := dk_21 4 (dk_at dksX3_finds_3 0 rfl rfl)
theorem dX3_finds_73 : decode cX3_finds 73 = .ok (.aload_n 0, 1) := dk_42 (dk_at dksX3_finds_3 2 rfl rfl)
theorem dX3_finds_74 : decode cX3_finds 74 = .ok (.getfield 36, 3) := dk_180 0 36 (dk_at dksX3_finds_3 3 rfl rfl)
theorem dX3_finds_77 : decode cX3_finds 77 = .ok (.iload_n 1, 1) := dk_27 (dk_at dksX3_finds_3 6 rfl rfl)
theorem dX3_finds_78 : decode cX3_finds 78 = .ok (.iaload, 1) := dk_46 (dk_at dksX3_finds_3 7 rfl rfl)
theorem dX3_finds_79 : decode cX3_finds 79 = .ok (.if_icmp .ge 8, 3) := dk_162 0 8 (dk_at dksX3_finds_3 8 rfl rfl)
theorem dX3_finds_82 : decode cX3_finds 82 = .ok (.iload 4, 2) := dk_21 4 (dk_at dksX3_finds_3 11 rfl rfl)
theorem dX3_finds_84 : decode cX3_finds 84 = .ok (.goto 9, 3) := dk_167 0 9 (dk_at dksX3_finds_3 13 rfl rfl)
theorem dX3_finds_87 : decode cX3_finds 87 = .ok (.aload_n 0, 1) := dk_42 (dk_at dksX3_finds_3 16 rfl rfl)
theorem dX3_finds_88 : decode cX3_finds 88 = .ok (.getfield 36, 3) := dk_180 0 36 (dk_at dksX3_finds_3 17 rfl rfl)
theorem dX3_finds_91 : decode cX3_finds 91 = .ok (.iload_n 1, 1) := dk_27 (dk_at dksX3_finds_3 20 rfl rfl)
theorem dX3_finds_92 : decode cX3_finds 92 = .ok (.iaload, 1) := dk_46 (dk_at dksX3_finds_3 21 rfl rfl)
theorem dX3_finds_93 : decode cX3_finds 93 = .ok (.iastore, 1) := dk_79 (dk_at dksX3_finds_3 22 rfl rfl)
theorem dX3_finds_94 : decode cX3_finds 94 = .ok (.iinc 3 1, 3) := dk_132 3 1 (dk_at dksX3_finds_4 0 rfl rfl)
theorem dX3_finds_97 : decode cX3_finds 97 = .ok (.goto (-60), 3) := dk_167 255 196 (dk_at dksX3_finds_4 3 rfl rfl)
theorem dX3_finds_100 : decode cX3_finds 100 = .ok (.iinc 1 (-1), 3) := dk_132 1 255 (dk_at dksX3_finds_4 6 rfl rfl)
theorem dX3_finds_103 : decode cX3_finds 103 = .ok (.goto (-99), 3) := dk_167 255 157 (dk_at dksX3_finds_4 9 rfl rfl)
theorem dX3_finds_106 : decode cX3_finds 106 = .ok (.return_, 1) := dk_177 (dk_at dksX3_finds_4 12 rfl rfl)
abbrev cX3_members : ByteArray := prog_19_method_62_code
def yX3_members : MethodName := ⟨RX3, "members", "(I)I"⟩
def dkwX3_members_1 : List UInt8 := [27, 172]
abbrev dktX3_members_1 : List UInt8 := dkwX3_members_1 ++ []
def dkwX3_members_0 : List UInt8 := [3, 60, 3, 61, 28, 16, 8, 162, 0, 17, 27, 26, 28, 122, 4, 126, 96, 60, 132, 2, 1, 167, 255, 239]
abbrev dktX3_members_0 : List UInt8 := dkwX3_members_0 ++ dktX3_members_1
theorem dksX3_members_0 : cX3_members.data.toList.drop 0 = dktX3_members_0 := by decide +kernel
theorem dksX3_members_1 : cX3_members.data.toList.drop 24 = dktX3_members_1 := dk_seg dksX3_members_0 24 rfl rfl
theorem dX3_members_0 : decode cX3_members 0 = .ok (.iconst 0, 1) := dk_3 (dk_at dksX3_members_0 0 rfl rfl)
theorem dX3_members_1 : decode cX3_members 1 = .ok (.istore_n 1, 1) := dk_60 (dk_at dksX3_members_0 1 rfl rfl)
theorem dX3_members_2 : decode cX3_members 2 = .ok (.iconst 0, 1) := dk_3 (dk_at dksX3_members_0 2 rfl rfl)
theorem dX3_members_3 : decode cX3_members 3 = .ok (.istore_n 2, 1) := dk_61 (dk_at dksX3_members_0 3 rfl rfl)
theorem dX3_members_4 : decode cX3_members 4 = .ok (.iload_n 2, 1) := dk_28 (dk_at dksX3_members_0 4 rfl rfl)
theorem dX3_members_5 : decode cX3_members 5 = .ok (.bipush 8, 2) := dk_16 8 (dk_at dksX3_members_0 5 rfl rfl)
theorem dX3_members_7 : decode cX3_members 7 = .ok (.if_icmp .ge 17, 3) := dk_162 0 17 (dk_at dksX3_members_0 7 rfl rfl)
theorem dX3_members_10 : decode cX3_members 10 = .ok (.iload_n 1, 1) := dk_27 (dk_at dksX3_members_0 10 rfl rfl)
theorem dX3_members_11 : decode cX3_members 11 = .ok (.iload_n 0, 1) := dk_26 (dk_at dksX3_members_0 11 rfl rfl)
theorem dX3_members_12 : decode cX3_members 12 = .ok (.iload_n 2, 1) := dk_28 (dk_at dksX3_members_0 12 rfl rfl)
theorem dX3_members_13 : decode cX3_members 13 = .ok (.ishr, 1) := dk_122 (dk_at dksX3_members_0 13 rfl rfl)
theorem dX3_members_14 : decode cX3_members 14 = .ok (.iconst 1, 1) := dk_4 (dk_at dksX3_members_0 14 rfl rfl)
theorem dX3_members_15 : decode cX3_members 15 = .ok (.iand, 1) := dk_126 (dk_at dksX3_members_0 15 rfl rfl)
theorem dX3_members_16 : decode cX3_members 16 = .ok (.iadd, 1) := dk_96 (dk_at dksX3_members_0 16 rfl rfl)
theorem dX3_members_17 : decode cX3_members 17 = .ok (.istore_n 1, 1) := dk_60 (dk_at dksX3_members_0 17 rfl rfl)
theorem dX3_members_18 : decode cX3_members 18 = .ok (.iinc 2 1, 3) := dk_132 2 1 (dk_at dksX3_members_0 18 rfl rfl)
theorem dX3_members_21 : decode cX3_members 21 = .ok (.goto (-17), 3) := dk_167 255 239 (dk_at dksX3_members_0 21 rfl rfl)
theorem dX3_members_24 : decode cX3_members 24 = .ok (.iload_n 1, 1) := dk_27 (dk_at dksX3_members_1 0 rfl rfl)
theorem dX3_members_25 : decode cX3_members 25 = .ok (.ireturn, 1) := dk_172 (dk_at dksX3_members_1 1 rfl rfl)
abbrev cX3_costWith : ByteArray := prog_19_method_63_code
def yX3_costWith : MethodName := ⟨RX3, "costWith", "(III)I"⟩
def dkwX3_costWith_1 : List UInt8 := [126, 4, 160, 0, 8, 18, 151, 167, 0, 16, 21, 4, 42, 180, 0, 36, 27, 4, 29, 120, 128, 46, 96, 172]
abbrev dktX3_costWith_1 : List UInt8 := dkwX3_costWith_1 ++ []
def dkwX3_costWith_0 : List UInt8 := [42, 29, 182, 0, 92, 42, 180, 0, 7, 16, 42, 28, 96, 46, 100, 184, 0, 139, 54, 4, 27, 29, 122, 4]
abbrev dktX3_costWith_0 : List UInt8 := dkwX3_costWith_0 ++ dktX3_costWith_1
theorem dksX3_costWith_0 : cX3_costWith.data.toList.drop 0 = dktX3_costWith_0 := by decide +kernel
theorem dksX3_costWith_1 : cX3_costWith.data.toList.drop 24 = dktX3_costWith_1 := dk_seg dksX3_costWith_0 24 rfl rfl
theorem dX3_costWith_0 : decode cX3_costWith 0 = .ok (.aload_n 0, 1) := dk_42 (dk_at dksX3_costWith_0 0 rfl rfl)
theorem dX3_costWith_1 : decode cX3_costWith 1 = .ok (.iload_n 3, 1) := dk_29 (dk_at dksX3_costWith_0 1 rfl rfl)
theorem dX3_costWith_2 : decode cX3_costWith 2 = .ok (.invokevirtual 92, 3) := dk_182 0 92 (dk_at dksX3_costWith_0 2 rfl rfl)
theorem dX3_costWith_5 : decode cX3_costWith 5 = .ok (.aload_n 0, 1) := dk_42 (dk_at dksX3_costWith_0 5 rfl rfl)
theorem dX3_costWith_6 : decode cX3_costWith 6 = .ok (.getfield 7, 3) := dk_180 0 7 (dk_at dksX3_costWith_0 6 rfl rfl)
theorem dX3_costWith_9 : decode cX3_costWith 9 = .ok (.bipush 42, 2) := dk_16 42 (dk_at dksX3_costWith_0 9 rfl rfl)
theorem dX3_costWith_11 : decode cX3_costWith 11 = .ok (.iload_n 2, 1) := dk_28 (dk_at dksX3_costWith_0 11 rfl rfl)
theorem dX3_costWith_12 : decode cX3_costWith 12 = .ok (.iadd, 1) := dk_96 (dk_at dksX3_costWith_0 12 rfl rfl)
theorem dX3_costWith_13 : decode cX3_costWith 13 = .ok (.iaload, 1) := dk_46 (dk_at dksX3_costWith_0 13 rfl rfl)
theorem dX3_costWith_14 : decode cX3_costWith 14 = .ok (.isub, 1) := dk_100 (dk_at dksX3_costWith_0 14 rfl rfl)
theorem dX3_costWith_15 : decode cX3_costWith 15 = .ok (.invokestatic 139, 3) := dk_184 0 139 (dk_at dksX3_costWith_0 15 rfl rfl)
theorem dX3_costWith_18 : decode cX3_costWith 18 = .ok (.istore 4, 2) := dk_54 4 (dk_at dksX3_costWith_0 18 rfl rfl)
theorem dX3_costWith_20 : decode cX3_costWith 20 = .ok (.iload_n 1, 1) := dk_27 (dk_at dksX3_costWith_0 20 rfl rfl)
theorem dX3_costWith_21 : decode cX3_costWith 21 = .ok (.iload_n 3, 1) := dk_29 (dk_at dksX3_costWith_0 21 rfl rfl)
theorem dX3_costWith_22 : decode cX3_costWith 22 = .ok (.ishr, 1) := dk_122 (dk_at dksX3_costWith_0 22 rfl rfl)
theorem dX3_costWith_23 : decode cX3_costWith 23 = .ok (.iconst 1, 1) := dk_4 (dk_at dksX3_costWith_0 23 rfl rfl)
theorem dX3_costWith_24 : decode cX3_costWith 24 = .ok (.iand, 1) := dk_126 (dk_at dksX3_costWith_1 0 rfl rfl)
theorem dX3_costWith_25 : decode cX3_costWith 25 = .ok (.iconst 1, 1) := dk_4 (dk_at dksX3_costWith_1 1 rfl rfl)
theorem dX3_costWith_26 : decode cX3_costWith 26 = .ok (.if_icmp .ne 8, 3) := dk_160 0 8 (dk_at dksX3_costWith_1 2 rfl rfl)
theorem dX3_costWith_29 : decode cX3_costWith 29 = .ok (.ldc 151, 2) := dk_18 151 (dk_at dksX3_costWith_1 5 rfl rfl)
theorem dX3_costWith_31 : decode cX3_costWith 31 = .ok (.goto 16, 3) := dk_167 0 16 (dk_at dksX3_costWith_1 7 rfl rfl)
theorem dX3_costWith_34 : decode cX3_costWith 34 = .ok (.iload 4, 2) := dk_21 4 (dk_at dksX3_costWith_1 10 rfl rfl)
theorem dX3_costWith_36 : decode cX3_costWith 36 = .ok (.aload_n 0, 1) := dk_42 (dk_at dksX3_costWith_1 12 rfl rfl)
theorem dX3_costWith_37 : decode cX3_costWith 37 = .ok (.getfield 36, 3) := dk_180 0 36 (dk_at dksX3_costWith_1 13 rfl rfl)
theorem dX3_costWith_40 : decode cX3_costWith 40 = .ok (.iload_n 1, 1) := dk_27 (dk_at dksX3_costWith_1 16 rfl rfl)
theorem dX3_costWith_41 : decode cX3_costWith 41 = .ok (.iconst 1, 1) := dk_4 (dk_at dksX3_costWith_1 17 rfl rfl)
theorem dX3_costWith_42 : decode cX3_costWith 42 = .ok (.iload_n 3, 1) := dk_29 (dk_at dksX3_costWith_1 18 rfl rfl)
theorem dX3_costWith_43 : decode cX3_costWith 43 = .ok (.ishl, 1) := dk_120 (dk_at dksX3_costWith_1 19 rfl rfl)
theorem dX3_costWith_44 : decode cX3_costWith 44 = .ok (.ior, 1) := dk_128 (dk_at dksX3_costWith_1 20 rfl rfl)
theorem dX3_costWith_45 : decode cX3_costWith 45 = .ok (.iaload, 1) := dk_46 (dk_at dksX3_costWith_1 21 rfl rfl)
theorem dX3_costWith_46 : decode cX3_costWith 46 = .ok (.iadd, 1) := dk_96 (dk_at dksX3_costWith_1 22 rfl rfl)
theorem dX3_costWith_47 : decode cX3_costWith 47 = .ok (.ireturn, 1) := dk_172 (dk_at dksX3_costWith_1 23 rfl rfl)
abbrev cX3_leastRelayByTrying : ByteArray := prog_19_method_66_code
def yX3_leastRelayByTrying : MethodName := ⟨RX3, "leastRelayByTrying", "()I"⟩
theorem dX3_leastRelayByTrying_0 : decode cX3_leastRelayByTrying 0 = .ok (.aload_n 0, 1) := by decide +kernel
theorem dX3_leastRelayByTrying_1 : decode cX3_leastRelayByTrying 1 = .ok (.invokevirtual 162, 3) := by decide +kernel
theorem dX3_leastRelayByTrying_4 : decode cX3_leastRelayByTrying 4 = .ok (.ireturn, 1) := by decide +kernel
abbrev cX3_runnerOf : ByteArray := prog_19_method_67_code
def yX3_runnerOf : MethodName := ⟨RX3, "runnerOf", "(I)I"⟩
def dkwX3_runnerOf_3 : List UInt8 := [132, 3, 1, 167, 255, 236, 28, 4, 29, 120, 128, 61, 132, 4, 1, 167, 255, 216, 42, 29, 182, 0, 60, 172]
abbrev dktX3_runnerOf_3 : List UInt8 := dkwX3_runnerOf_3 ++ []
def dkwX3_runnerOf_2 : List UInt8 := [27, 163, 0, 40, 3, 62, 42, 28, 21, 4, 29, 182, 0, 155, 42, 180, 0, 36, 28, 46, 159, 0, 9]
abbrev dktX3_runnerOf_2 : List UInt8 := dkwX3_runnerOf_2 ++ dktX3_runnerOf_3
def dkwX3_runnerOf_1 : List UInt8 := [6, 46, 162, 0, 9, 42, 5, 182, 0, 56, 172, 42, 182, 0, 159, 3, 61, 2, 62, 3, 54, 4, 21, 4]
abbrev dktX3_runnerOf_1 : List UInt8 := dkwX3_runnerOf_1 ++ dktX3_runnerOf_2
def dkwX3_runnerOf_0 : List UInt8 := [42, 27, 182, 0, 145, 154, 0, 9, 42, 4, 182, 0, 56, 172, 42, 180, 0, 7, 5, 46, 42, 180, 0, 7]
abbrev dktX3_runnerOf_0 : List UInt8 := dkwX3_runnerOf_0 ++ dktX3_runnerOf_1
theorem dksX3_runnerOf_0 : cX3_runnerOf.data.toList.drop 0 = dktX3_runnerOf_0 := by decide +kernel
theorem dksX3_runnerOf_1 : cX3_runnerOf.data.toList.drop 24 = dktX3_runnerOf_1 := dk_seg dksX3_runnerOf_0 24 rfl rfl
theorem dksX3_runnerOf_2 : cX3_runnerOf.data.toList.drop 48 = dktX3_runnerOf_2 := dk_seg dksX3_runnerOf_1 24 rfl rfl
theorem dksX3_runnerOf_3 : cX3_runnerOf.data.toList.drop 71 = dktX3_runnerOf_3 := dk_seg dksX3_runnerOf_2 23 rfl rfl
theorem dX3_runnerOf_0 : decode cX3_runnerOf 0 = .ok (.aload_n 0, 1) := dk_42 (dk_at dksX3_runnerOf_0 0 rfl rfl)
theorem dX3_runnerOf_1 : decode cX3_runnerOf 1 = .ok (.iload_n 1, 1) := dk_27 (dk_at dksX3_runnerOf_0 1 rfl rfl)
theorem dX3_runnerOf_2 : decode cX3_runnerOf 2 = .ok (.invokevirtual 145, 3) := dk_182 0 145 (dk_at dksX3_runnerOf_0 2 rfl rfl)
theorem dX3_runnerOf_5 : decode cX3_runnerOf 5 = .ok (.ifCond .ne 9, 3) := dk_154 0 9 (dk_at dksX3_runnerOf_0 5 rfl rfl)
theorem dX3_runnerOf_8 : decode cX3_runnerOf 8 = .ok (.aload_n 0, 1) := dk_42 (dk_at dksX3_runnerOf_0 8 rfl rfl)
theorem dX3_runnerOf_9 : decode cX3_runnerOf 9 = .ok (.iconst 1, 1) := dk_4 (dk_at dksX3_runnerOf_0 9 rfl rfl)
theorem dX3_runnerOf_10 : decode cX3_runnerOf 10 = .ok (.invokevirtual 56, 3) := dk_182 0 56 (dk_at dksX3_runnerOf_0 10 rfl rfl)
theorem dX3_runnerOf_13 : decode cX3_runnerOf 13 = .ok (.ireturn, 1) := dk_172 (dk_at dksX3_runnerOf_0 13 rfl rfl)
theorem dX3_runnerOf_14 : decode cX3_runnerOf 14 = .ok (.aload_n 0, 1) := dk_42 (dk_at dksX3_runnerOf_0 14 rfl rfl)
theorem dX3_runnerOf_15 : decode cX3_runnerOf 15 = .ok (.getfield 7, 3) := dk_180 0 7 (dk_at dksX3_runnerOf_0 15 rfl rfl)
theorem dX3_runnerOf_18 : decode cX3_runnerOf 18 = .ok (.iconst 2, 1) := dk_5 (dk_at dksX3_runnerOf_0 18 rfl rfl)
theorem dX3_runnerOf_19 : decode cX3_runnerOf 19 = .ok (.iaload, 1) := dk_46 (dk_at dksX3_runnerOf_0 19 rfl rfl)
theorem dX3_runnerOf_20 : decode cX3_runnerOf 20 = .ok (.aload_n 0, 1) := dk_42 (dk_at dksX3_runnerOf_0 20 rfl rfl)
theorem dX3_runnerOf_21 : decode cX3_runnerOf 21 = .ok (.getfield 7, 3) := dk_180 0 7 (dk_at dksX3_runnerOf_0 21 rfl rfl)
theorem dX3_runnerOf_24 : decode cX3_runnerOf 24 = .ok (.iconst 3, 1) := dk_6 (dk_at dksX3_runnerOf_1 0 rfl rfl)
theorem dX3_runnerOf_25 : decode cX3_runnerOf 25 = .ok (.iaload, 1) := dk_46 (dk_at dksX3_runnerOf_1 1 rfl rfl)
theorem dX3_runnerOf_26 : decode cX3_runnerOf 26 = .ok (.if_icmp .ge 9, 3) := dk_162 0 9 (dk_at dksX3_runnerOf_1 2 rfl rfl)
theorem dX3_runnerOf_29 : decode cX3_runnerOf 29 = .ok (.aload_n 0, 1) := dk_42 (dk_at dksX3_runnerOf_1 5 rfl rfl)
theorem dX3_runnerOf_30 : decode cX3_runnerOf 30 = .ok (.iconst 2, 1) := dk_5 (dk_at dksX3_runnerOf_1 6 rfl rfl)
theorem dX3_runnerOf_31 : decode cX3_runnerOf 31 = .ok (.invokevirtual 56, 3) := dk_182 0 56 (dk_at dksX3_runnerOf_1 7 rfl rfl)
theorem dX3_runnerOf_34 : decode cX3_runnerOf 34 = .ok (.ireturn, 1) := dk_172 (dk_at dksX3_runnerOf_1 10 rfl rfl)
theorem dX3_runnerOf_35 : decode cX3_runnerOf 35 = .ok (.aload_n 0, 1) := dk_42 (dk_at dksX3_runnerOf_1 11 rfl rfl)
theorem dX3_runnerOf_36 : decode cX3_runnerOf 36 = .ok (.invokevirtual 159, 3) := dk_182 0 159 (dk_at dksX3_runnerOf_1 12 rfl rfl)
theorem dX3_runnerOf_39 : decode cX3_runnerOf 39 = .ok (.iconst 0, 1) := dk_3 (dk_at dksX3_runnerOf_1 15 rfl rfl)
theorem dX3_runnerOf_40 : decode cX3_runnerOf 40 = .ok (.istore_n 2, 1) := dk_61 (dk_at dksX3_runnerOf_1 16 rfl rfl)
theorem dX3_runnerOf_41 : decode cX3_runnerOf 41 = .ok (.iconst (-1), 1) := dk_2 (dk_at dksX3_runnerOf_1 17 rfl rfl)
theorem dX3_runnerOf_42 : decode cX3_runnerOf 42 = .ok (.istore_n 3, 1) := dk_62 (dk_at dksX3_runnerOf_1 18 rfl rfl)
theorem dX3_runnerOf_43 : decode cX3_runnerOf 43 = .ok (.iconst 0, 1) := dk_3 (dk_at dksX3_runnerOf_1 19 rfl rfl)
theorem dX3_runnerOf_44 : decode cX3_runnerOf 44 = .ok (.istore 4, 2) := dk_54 4 (dk_at dksX3_runnerOf_1 20 rfl rfl)
theorem dX3_runnerOf_46 : decode cX3_runnerOf 46 = .ok (.iload 4, 2) := dk_21 4 (dk_at dksX3_runnerOf_1 22 rfl rfl)
theorem dX3_runnerOf_48 : decode cX3_runnerOf 48 = .ok (.iload_n 1, 1) := dk_27 (dk_at dksX3_runnerOf_2 0 rfl rfl)
theorem dX3_runnerOf_49 : decode cX3_runnerOf 49 = .ok (.if_icmp .gt 40, 3) := dk_163 0 40 (dk_at dksX3_runnerOf_2 1 rfl rfl)
theorem dX3_runnerOf_52 : decode cX3_runnerOf 52 = .ok (.iconst 0, 1) := dk_3 (dk_at dksX3_runnerOf_2 4 rfl rfl)
theorem dX3_runnerOf_53 : decode cX3_runnerOf 53 = .ok (.istore_n 3, 1) := dk_62 (dk_at dksX3_runnerOf_2 5 rfl rfl)
theorem dX3_runnerOf_54 : decode cX3_runnerOf 54 = .ok (.aload_n 0, 1) := dk_42 (dk_at dksX3_runnerOf_2 6 rfl rfl)
theorem dX3_runnerOf_55 : decode cX3_runnerOf 55 = .ok (.iload_n 2, 1) := dk_28 (dk_at dksX3_runnerOf_2 7 rfl rfl)
theorem dX3_runnerOf_56 : decode cX3_runnerOf 56 = .ok (.iload 4, 2) := dk_21 4 (dk_at dksX3_runnerOf_2 8 rfl rfl)
theorem dX3_runnerOf_58 : decode cX3_runnerOf 58 = .ok (.iload_n 3, 1) := dk_29 (dk_at dksX3_runnerOf_2 10 rfl rfl)
theorem dX3_runnerOf_59 : decode cX3_runnerOf 59 = .ok (.invokevirtual 155, 3) := dk_182 0 155 (dk_at dksX3_runnerOf_2 11 rfl rfl)
theorem dX3_runnerOf_62 : decode cX3_runnerOf 62 = .ok (.aload_n 0, 1) := dk_42 (dk_at dksX3_runnerOf_2 14 rfl rfl)
theorem dX3_runnerOf_63 : decode cX3_runnerOf 63 = .ok (.getfield 36, 3) := dk_180 0 36 (dk_at dksX3_runnerOf_2 15 rfl rfl)
theorem dX3_runnerOf_66 : decode cX3_runnerOf 66 = .ok (.iload_n 2, 1) := dk_28 (dk_at dksX3_runnerOf_2 18 rfl rfl)
theorem dX3_runnerOf_67 : decode cX3_runnerOf 67 = .ok (.iaload, 1) := dk_46 (dk_at dksX3_runnerOf_2 19 rfl rfl)
theorem dX3_runnerOf_68 : decode cX3_runnerOf 68 = .ok (.if_icmp .eq 9, 3) := dk_159 0 9 (dk_at dksX3_runnerOf_2 20 rfl rfl)
theorem dX3_runnerOf_71 : decode cX3_runnerOf 71 = .ok (.iinc 3 1, 3) := dk_132 3 1 (dk_at dksX3_runnerOf_3 0 rfl rfl)
theorem dX3_runnerOf_74 : decode cX3_runnerOf 74 = .ok (.goto (-20), 3) := dk_167 255 236 (dk_at dksX3_runnerOf_3 3 rfl rfl)
theorem dX3_runnerOf_77 : decode cX3_runnerOf 77 = .ok (.iload_n 2, 1) := dk_28 (dk_at dksX3_runnerOf_3 6 rfl rfl)
theorem dX3_runnerOf_78 : decode cX3_runnerOf 78 = .ok (.iconst 1, 1) := dk_4 (dk_at dksX3_runnerOf_3 7 rfl rfl)
theorem dX3_runnerOf_79 : decode cX3_runnerOf 79 = .ok (.iload_n 3, 1) := dk_29 (dk_at dksX3_runnerOf_3 8 rfl rfl)
theorem dX3_runnerOf_80 : decode cX3_runnerOf 80 = .ok (.ishl, 1) := dk_120 (dk_at dksX3_runnerOf_3 9 rfl rfl)
theorem dX3_runnerOf_81 : decode cX3_runnerOf 81 = .ok (.ior, 1) := dk_128 (dk_at dksX3_runnerOf_3 10 rfl rfl)
theorem dX3_runnerOf_82 : decode cX3_runnerOf 82 = .ok (.istore_n 2, 1) := dk_61 (dk_at dksX3_runnerOf_3 11 rfl rfl)
theorem dX3_runnerOf_83 : decode cX3_runnerOf 83 = .ok (.iinc 4 1, 3) := dk_132 4 1 (dk_at dksX3_runnerOf_3 12 rfl rfl)
theorem dX3_runnerOf_86 : decode cX3_runnerOf 86 = .ok (.goto (-40), 3) := dk_167 255 216 (dk_at dksX3_runnerOf_3 15 rfl rfl)
theorem dX3_runnerOf_89 : decode cX3_runnerOf 89 = .ok (.aload_n 0, 1) := dk_42 (dk_at dksX3_runnerOf_3 18 rfl rfl)
theorem dX3_runnerOf_90 : decode cX3_runnerOf 90 = .ok (.iload_n 3, 1) := dk_29 (dk_at dksX3_runnerOf_3 19 rfl rfl)
theorem dX3_runnerOf_91 : decode cX3_runnerOf 91 = .ok (.invokevirtual 60, 3) := dk_182 0 60 (dk_at dksX3_runnerOf_3 20 rfl rfl)
theorem dX3_runnerOf_94 : decode cX3_runnerOf 94 = .ok (.ireturn, 1) := dk_172 (dk_at dksX3_runnerOf_3 23 rfl rfl)
abbrev cX3_fewestFor : ByteArray := prog_19_method_69_code
def yX3_fewestFor : MethodName := ⟨RX3, "fewestFor", "(I)I"⟩
def dkwX3_fewestFor_3 : List UInt8 := [42, 5, 182, 0, 56, 167, 0, 8, 42, 28, 182, 0, 60, 172]
abbrev dktX3_fewestFor_3 : List UInt8 := dkwX3_fewestFor_3 ++ []
def dkwX3_fewestFor_2 : List UInt8 := [162, 0, 10, 29, 184, 0, 152, 167, 0, 4, 28, 61, 132, 3, 1, 167, 255, 215, 28, 16, 8, 164, 0, 11]
abbrev dktX3_fewestFor_2 : List UInt8 := dkwX3_fewestFor_2 ++ dktX3_fewestFor_3
def dkwX3_fewestFor_1 : List UInt8 := [42, 180, 0, 7, 5, 46, 120, 162, 0, 35, 42, 29, 182, 0, 165, 27, 161, 0, 18, 29, 184, 0, 152, 28]
abbrev dktX3_fewestFor_1 : List UInt8 := dkwX3_fewestFor_1 ++ dktX3_fewestFor_2
def dkwX3_fewestFor_0 : List UInt8 := [27, 4, 17, 3, 231, 184, 0, 52, 154, 0, 9, 42, 4, 182, 0, 56, 172, 16, 9, 61, 3, 62, 29, 4]
abbrev dktX3_fewestFor_0 : List UInt8 := dkwX3_fewestFor_0 ++ dktX3_fewestFor_1
theorem dksX3_fewestFor_0 : cX3_fewestFor.data.toList.drop 0 = dktX3_fewestFor_0 := by decide +kernel
theorem dksX3_fewestFor_1 : cX3_fewestFor.data.toList.drop 24 = dktX3_fewestFor_1 := dk_seg dksX3_fewestFor_0 24 rfl rfl
theorem dksX3_fewestFor_2 : cX3_fewestFor.data.toList.drop 48 = dktX3_fewestFor_2 := dk_seg dksX3_fewestFor_1 24 rfl rfl
theorem dksX3_fewestFor_3 : cX3_fewestFor.data.toList.drop 72 = dktX3_fewestFor_3 := dk_seg dksX3_fewestFor_2 24 rfl rfl
theorem dX3_fewestFor_0 : decode cX3_fewestFor 0 = .ok (.iload_n 1, 1) := dk_27 (dk_at dksX3_fewestFor_0 0 rfl rfl)
theorem dX3_fewestFor_1 : decode cX3_fewestFor 1 = .ok (.iconst 1, 1) := dk_4 (dk_at dksX3_fewestFor_0 1 rfl rfl)
theorem dX3_fewestFor_2 : decode cX3_fewestFor 2 = .ok (.sipush 999, 3) := dk_17 3 231 (dk_at dksX3_fewestFor_0 2 rfl rfl)
theorem dX3_fewestFor_5 : decode cX3_fewestFor 5 = .ok (.invokestatic 52, 3) := dk_184 0 52 (dk_at dksX3_fewestFor_0 5 rfl rfl)
theorem dX3_fewestFor_8 : decode cX3_fewestFor 8 = .ok (.ifCond .ne 9, 3) := dk_154 0 9 (dk_at dksX3_fewestFor_0 8 rfl rfl)
theorem dX3_fewestFor_11 : decode cX3_fewestFor 11 = .ok (.aload_n 0, 1) := dk_42 (dk_at dksX3_fewestFor_0 11 rfl rfl)
theorem dX3_fewestFor_12 : decode cX3_fewestFor 12 = .ok (.iconst 1, 1) := dk_4 (dk_at dksX3_fewestFor_0 12 rfl rfl)
theorem dX3_fewestFor_13 : decode cX3_fewestFor 13 = .ok (.invokevirtual 56, 3) := dk_182 0 56 (dk_at dksX3_fewestFor_0 13 rfl rfl)
theorem dX3_fewestFor_16 : decode cX3_fewestFor 16 = .ok (.ireturn, 1) := dk_172 (dk_at dksX3_fewestFor_0 16 rfl rfl)
theorem dX3_fewestFor_17 : decode cX3_fewestFor 17 = .ok (.bipush 9, 2) := dk_16 9 (dk_at dksX3_fewestFor_0 17 rfl rfl)
theorem dX3_fewestFor_19 : decode cX3_fewestFor 19 = .ok (.istore_n 2, 1) := dk_61 (dk_at dksX3_fewestFor_0 19 rfl rfl)
theorem dX3_fewestFor_20 : decode cX3_fewestFor 20 = .ok (.iconst 0, 1) := dk_3 (dk_at dksX3_fewestFor_0 20 rfl rfl)
theorem dX3_fewestFor_21 : decode cX3_fewestFor 21 = .ok (.istore_n 3, 1) := dk_62 (dk_at dksX3_fewestFor_0 21 rfl rfl)
theorem dX3_fewestFor_22 : decode cX3_fewestFor 22 = .ok (.iload_n 3, 1) := dk_29 (dk_at dksX3_fewestFor_0 22 rfl rfl)
theorem dX3_fewestFor_23 : decode cX3_fewestFor 23 = .ok (.iconst 1, 1) := dk_4 (dk_at dksX3_fewestFor_0 23 rfl rfl)
theorem dX3_fewestFor_24 : decode cX3_fewestFor 24 = .ok (.aload_n 0, 1) := dk_42 (dk_at dksX3_fewestFor_1 0 rfl rfl)
theorem dX3_fewestFor_25 : decode cX3_fewestFor 25 = .ok (.getfield 7, 3) := dk_180 0 7 (dk_at dksX3_fewestFor_1 1 rfl rfl)
theorem dX3_fewestFor_28 : decode cX3_fewestFor 28 = .ok (.iconst 2, 1) := dk_5 (dk_at dksX3_fewestFor_1 4 rfl rfl)
theorem dX3_fewestFor_29 : decode cX3_fewestFor 29 = .ok (.iaload, 1) := dk_46 (dk_at dksX3_fewestFor_1 5 rfl rfl)
theorem dX3_fewestFor_30 : decode cX3_fewestFor 30 = .ok (.ishl, 1) := dk_120 (dk_at dksX3_fewestFor_1 6 rfl rfl)
theorem dX3_fewestFor_31 : decode cX3_fewestFor 31 = .ok (.if_icmp .ge 35, 3) := dk_162 0 35 (dk_at dksX3_fewestFor_1 7 rfl rfl)
theorem dX3_fewestFor_34 : decode cX3_fewestFor 34 = .ok (.aload_n 0, 1) := dk_42 (dk_at dksX3_fewestFor_1 10 rfl rfl)
theorem dX3_fewestFor_35 : decode cX3_fewestFor 35 = .ok (.iload_n 3, 1) := dk_29 (dk_at dksX3_fewestFor_1 11 rfl rfl)
theorem dX3_fewestFor_36 : decode cX3_fewestFor 36 = .ok (.invokevirtual 165, 3) := dk_182 0 165 (dk_at dksX3_fewestFor_1 12 rfl rfl)
theorem dX3_fewestFor_39 : decode cX3_fewestFor 39 = .ok (.iload_n 1, 1) := dk_27 (dk_at dksX3_fewestFor_1 15 rfl rfl)
theorem dX3_fewestFor_40 : decode cX3_fewestFor 40 = .ok (.if_icmp .lt 18, 3) := dk_161 0 18 (dk_at dksX3_fewestFor_1 16 rfl rfl)
theorem dX3_fewestFor_43 : decode cX3_fewestFor 43 = .ok (.iload_n 3, 1) := dk_29 (dk_at dksX3_fewestFor_1 19 rfl rfl)
theorem dX3_fewestFor_44 : decode cX3_fewestFor 44 = .ok (.invokestatic 152, 3) := dk_184 0 152 (dk_at dksX3_fewestFor_1 20 rfl rfl)
theorem dX3_fewestFor_47 : decode cX3_fewestFor 47 = .ok (.iload_n 2, 1) := dk_28 (dk_at dksX3_fewestFor_1 23 rfl rfl)
theorem dX3_fewestFor_48 : decode cX3_fewestFor 48 = .ok (.if_icmp .ge 10, 3) := dk_162 0 10 (dk_at dksX3_fewestFor_2 0 rfl rfl)
theorem dX3_fewestFor_51 : decode cX3_fewestFor 51 = .ok (.iload_n 3, 1) := dk_29 (dk_at dksX3_fewestFor_2 3 rfl rfl)
theorem dX3_fewestFor_52 : decode cX3_fewestFor 52 = .ok (.invokestatic 152, 3) := dk_184 0 152 (dk_at dksX3_fewestFor_2 4 rfl rfl)
theorem dX3_fewestFor_55 : decode cX3_fewestFor 55 = .ok (.goto 4, 3) := dk_167 0 4 (dk_at dksX3_fewestFor_2 7 rfl rfl)
theorem dX3_fewestFor_58 : decode cX3_fewestFor 58 = .ok (.iload_n 2, 1) := dk_28 (dk_at dksX3_fewestFor_2 10 rfl rfl)
theorem dX3_fewestFor_59 : decode cX3_fewestFor 59 = .ok (.istore_n 2, 1) := dk_61 (dk_at dksX3_fewestFor_2 11 rfl rfl)
theorem dX3_fewestFor_60 : decode cX3_fewestFor 60 = .ok (.iinc 3 1, 3) := dk_132 3 1 (dk_at dksX3_fewestFor_2 12 rfl rfl)
theorem dX3_fewestFor_63 : decode cX3_fewestFor 63 = .ok (.goto (-41), 3) := dk_167 255 215 (dk_at dksX3_fewestFor_2 15 rfl rfl)
theorem dX3_fewestFor_66 : decode cX3_fewestFor 66 = .ok (.iload_n 2, 1) := dk_28 (dk_at dksX3_fewestFor_2 18 rfl rfl)
theorem dX3_fewestFor_67 : decode cX3_fewestFor 67 = .ok (.bipush 8, 2) := dk_16 8 (dk_at dksX3_fewestFor_2 19 rfl rfl)
theorem dX3_fewestFor_69 : decode cX3_fewestFor 69 = .ok (.if_icmp .le 11, 3) := dk_164 0 11 (dk_at dksX3_fewestFor_2 21 rfl rfl)
theorem dX3_fewestFor_72 : decode cX3_fewestFor 72 = .ok (.aload_n 0, 1) := dk_42 (dk_at dksX3_fewestFor_3 0 rfl rfl)
theorem dX3_fewestFor_73 : decode cX3_fewestFor 73 = .ok (.iconst 2, 1) := dk_5 (dk_at dksX3_fewestFor_3 1 rfl rfl)
theorem dX3_fewestFor_74 : decode cX3_fewestFor 74 = .ok (.invokevirtual 56, 3) := dk_182 0 56 (dk_at dksX3_fewestFor_3 2 rfl rfl)
theorem dX3_fewestFor_77 : decode cX3_fewestFor 77 = .ok (.goto 8, 3) := dk_167 0 8 (dk_at dksX3_fewestFor_3 5 rfl rfl)
theorem dX3_fewestFor_80 : decode cX3_fewestFor 80 = .ok (.aload_n 0, 1) := dk_42 (dk_at dksX3_fewestFor_3 8 rfl rfl)
theorem dX3_fewestFor_81 : decode cX3_fewestFor 81 = .ok (.iload_n 2, 1) := dk_28 (dk_at dksX3_fewestFor_3 9 rfl rfl)
theorem dX3_fewestFor_82 : decode cX3_fewestFor 82 = .ok (.invokevirtual 60, 3) := dk_182 0 60 (dk_at dksX3_fewestFor_3 10 rfl rfl)
theorem dX3_fewestFor_85 : decode cX3_fewestFor 85 = .ok (.ireturn, 1) := dk_172 (dk_at dksX3_fewestFor_3 13 rfl rfl)
abbrev cX3_together : ByteArray := prog_19_method_68_code
def yX3_together : MethodName := ⟨RX3, "together", "(I)I"⟩
def dkwX3_together_1 : List UInt8 := [17, 0, 168, 42, 29, 182, 0, 92, 108, 167, 0, 4, 3, 96, 61, 132, 3, 1, 167, 255, 218, 28, 172]
abbrev dktX3_together_1 : List UInt8 := dkwX3_together_1 ++ []
def dkwX3_together_0 : List UInt8 := [3, 61, 3, 62, 29, 42, 180, 0, 7, 5, 46, 162, 0, 34, 28, 27, 29, 122, 4, 126, 4, 160, 0, 15]
abbrev dktX3_together_0 : List UInt8 := dkwX3_together_0 ++ dktX3_together_1
theorem dksX3_together_0 : cX3_together.data.toList.drop 0 = dktX3_together_0 := by decide +kernel
theorem dksX3_together_1 : cX3_together.data.toList.drop 24 = dktX3_together_1 := dk_seg dksX3_together_0 24 rfl rfl
theorem dX3_together_0 : decode cX3_together 0 = .ok (.iconst 0, 1) := dk_3 (dk_at dksX3_together_0 0 rfl rfl)
theorem dX3_together_1 : decode cX3_together 1 = .ok (.istore_n 2, 1) := dk_61 (dk_at dksX3_together_0 1 rfl rfl)
theorem dX3_together_2 : decode cX3_together 2 = .ok (.iconst 0, 1) := dk_3 (dk_at dksX3_together_0 2 rfl rfl)
theorem dX3_together_3 : decode cX3_together 3 = .ok (.istore_n 3, 1) := dk_62 (dk_at dksX3_together_0 3 rfl rfl)
theorem dX3_together_4 : decode cX3_together 4 = .ok (.iload_n 3, 1) := dk_29 (dk_at dksX3_together_0 4 rfl rfl)
theorem dX3_together_5 : decode cX3_together 5 = .ok (.aload_n 0, 1) := dk_42 (dk_at dksX3_together_0 5 rfl rfl)
theorem dX3_together_6 : decode cX3_together 6 = .ok (.getfield 7, 3) := dk_180 0 7 (dk_at dksX3_together_0 6 rfl rfl)
theorem dX3_together_9 : decode cX3_together 9 = .ok (.iconst 2, 1) := dk_5 (dk_at dksX3_together_0 9 rfl rfl)
theorem dX3_together_10 : decode cX3_together 10 = .ok (.iaload, 1) := dk_46 (dk_at dksX3_together_0 10 rfl rfl)
theorem dX3_together_11 : decode cX3_together 11 = .ok (.if_icmp .ge 34, 3) := dk_162 0 34 (dk_at dksX3_together_0 11 rfl rfl)
theorem dX3_together_14 : decode cX3_together 14 = .ok (.iload_n 2, 1) := dk_28 (dk_at dksX3_together_0 14 rfl rfl)
theorem dX3_together_15 : decode cX3_together 15 = .ok (.iload_n 1, 1) := dk_27 (dk_at dksX3_together_0 15 rfl rfl)
theorem dX3_together_16 : decode cX3_together 16 = .ok (.iload_n 3, 1) := dk_29 (dk_at dksX3_together_0 16 rfl rfl)
theorem dX3_together_17 : decode cX3_together 17 = .ok (.ishr, 1) := dk_122 (dk_at dksX3_together_0 17 rfl rfl)
theorem dX3_together_18 : decode cX3_together 18 = .ok (.iconst 1, 1) := dk_4 (dk_at dksX3_together_0 18 rfl rfl)
theorem dX3_together_19 : decode cX3_together 19 = .ok (.iand, 1) := dk_126 (dk_at dksX3_together_0 19 rfl rfl)
theorem dX3_together_20 : decode cX3_together 20 = .ok (.iconst 1, 1) := dk_4 (dk_at dksX3_together_0 20 rfl rfl)
theorem dX3_together_21 : decode cX3_together 21 = .ok (.if_icmp .ne 15, 3) := dk_160 0 15 (dk_at dksX3_together_0 21 rfl rfl)
theorem dX3_together_24 : decode cX3_together 24 = .ok (.sipush 168, 3) := dk_17 0 168 (dk_at dksX3_together_1 0 rfl rfl)
theorem dX3_together_27 : decode cX3_together 27 = .ok (.aload_n 0, 1) := dk_42 (dk_at dksX3_together_1 3 rfl rfl)
theorem dX3_together_28 : decode cX3_together 28 = .ok (.iload_n 3, 1) := dk_29 (dk_at dksX3_together_1 4 rfl rfl)
theorem dX3_together_29 : decode cX3_together 29 = .ok (.invokevirtual 92, 3) := dk_182 0 92 (dk_at dksX3_together_1 5 rfl rfl)
theorem dX3_together_32 : decode cX3_together 32 = .ok (.idiv, 1) := dk_108 (dk_at dksX3_together_1 8 rfl rfl)
theorem dX3_together_33 : decode cX3_together 33 = .ok (.goto 4, 3) := dk_167 0 4 (dk_at dksX3_together_1 9 rfl rfl)
theorem dX3_together_36 : decode cX3_together 36 = .ok (.iconst 0, 1) := dk_3 (dk_at dksX3_together_1 12 rfl rfl)
theorem dX3_together_37 : decode cX3_together 37 = .ok (.iadd, 1) := dk_96 (dk_at dksX3_together_1 13 rfl rfl)
theorem dX3_together_38 : decode cX3_together 38 = .ok (.istore_n 2, 1) := dk_61 (dk_at dksX3_together_1 14 rfl rfl)
theorem dX3_together_39 : decode cX3_together 39 = .ok (.iinc 3 1, 3) := dk_132 3 1 (dk_at dksX3_together_1 15 rfl rfl)
theorem dX3_together_42 : decode cX3_together 42 = .ok (.goto (-38), 3) := dk_167 255 218 (dk_at dksX3_together_1 18 rfl rfl)
theorem dX3_together_45 : decode cX3_together 45 = .ok (.iload_n 2, 1) := dk_28 (dk_at dksX3_together_1 21 rfl rfl)
theorem dX3_together_46 : decode cX3_together 46 = .ok (.ireturn, 1) := dk_172 (dk_at dksX3_together_1 22 rfl rfl)
abbrev cX3_fewestForBySets : ByteArray := prog_19_method_70_code
def yX3_fewestForBySets : MethodName := ⟨RX3, "fewestForBySets", "(I)I"⟩
def dkwX3_fewestForBySets_0 : List UInt8 := [42, 27, 182, 0, 168, 172]
abbrev dktX3_fewestForBySets_0 : List UInt8 := dkwX3_fewestForBySets_0 ++ []
theorem dksX3_fewestForBySets_0 : cX3_fewestForBySets.data.toList.drop 0 = dktX3_fewestForBySets_0 := by decide +kernel
theorem dX3_fewestForBySets_0 : decode cX3_fewestForBySets 0 = .ok (.aload_n 0, 1) := dk_42 (dk_at dksX3_fewestForBySets_0 0 rfl rfl)
theorem dX3_fewestForBySets_1 : decode cX3_fewestForBySets 1 = .ok (.iload_n 1, 1) := dk_27 (dk_at dksX3_fewestForBySets_0 1 rfl rfl)
theorem dX3_fewestForBySets_2 : decode cX3_fewestForBySets 2 = .ok (.invokevirtual 168, 3) := dk_182 0 168 (dk_at dksX3_fewestForBySets_0 2 rfl rfl)
theorem dX3_fewestForBySets_5 : decode cX3_fewestForBySets 5 = .ok (.ireturn, 1) := dk_172 (dk_at dksX3_fewestForBySets_0 5 rfl rfl)
abbrev cX3_exactSets : ByteArray := prog_19_method_71_code
def yX3_exactSets : MethodName := ⟨RX3, "exactSets", "(I)I"⟩
def dkwX3_exactSets_2 : List UInt8 := [96, 61, 132, 3, 1, 167, 255, 224, 42, 28, 182, 0, 60, 172]
abbrev dktX3_exactSets_2 : List UInt8 := dkwX3_exactSets_2 ++ []
def dkwX3_exactSets_1 : List UInt8 := [180, 0, 7, 5, 46, 120, 162, 0, 26, 28, 42, 29, 182, 0, 165, 27, 160, 0, 7, 4, 167, 0, 4, 3]
abbrev dktX3_exactSets_1 : List UInt8 := dkwX3_exactSets_1 ++ dktX3_exactSets_2
def dkwX3_exactSets_0 : List UInt8 := [27, 3, 17, 3, 231, 184, 0, 52, 154, 0, 9, 42, 4, 182, 0, 56, 172, 3, 61, 3, 62, 29, 4, 42]
abbrev dktX3_exactSets_0 : List UInt8 := dkwX3_exactSets_0 ++ dktX3_exactSets_1
theorem dksX3_exactSets_0 : cX3_exactSets.data.toList.drop 0 = dktX3_exactSets_0 := by decide +kernel
theorem dksX3_exactSets_1 : cX3_exactSets.data.toList.drop 24 = dktX3_exactSets_1 := dk_seg dksX3_exactSets_0 24 rfl rfl
theorem dksX3_exactSets_2 : cX3_exactSets.data.toList.drop 48 = dktX3_exactSets_2 := dk_seg dksX3_exactSets_1 24 rfl rfl
theorem dX3_exactSets_0 : decode cX3_exactSets 0 = .ok (.iload_n 1, 1) := dk_27 (dk_at dksX3_exactSets_0 0 rfl rfl)
theorem dX3_exactSets_1 : decode cX3_exactSets 1 = .ok (.iconst 0, 1) := dk_3 (dk_at dksX3_exactSets_0 1 rfl rfl)
theorem dX3_exactSets_2 : decode cX3_exactSets 2 = .ok (.sipush 999, 3) := dk_17 3 231 (dk_at dksX3_exactSets_0 2 rfl rfl)
theorem dX3_exactSets_5 : decode cX3_exactSets 5 = .ok (.invokestatic 52, 3) := dk_184 0 52 (dk_at dksX3_exactSets_0 5 rfl rfl)
theorem dX3_exactSets_8 : decode cX3_exactSets 8 = .ok (.ifCond .ne 9, 3) := dk_154 0 9 (dk_at dksX3_exactSets_0 8 rfl rfl)
theorem dX3_exactSets_11 : decode cX3_exactSets 11 = .ok (.aload_n 0, 1) := dk_42 (dk_at dksX3_exactSets_0 11 rfl rfl)
theorem dX3_exactSets_12 : decode cX3_exactSets 12 = .ok (.iconst 1, 1) := dk_4 (dk_at dksX3_exactSets_0 12 rfl rfl)
theorem dX3_exactSets_13 : decode cX3_exactSets 13 = .ok (.invokevirtual 56, 3) := dk_182 0 56 (dk_at dksX3_exactSets_0 13 rfl rfl)
theorem dX3_exactSets_16 : decode cX3_exactSets 16 = .ok (.ireturn, 1) := dk_172 (dk_at dksX3_exactSets_0 16 rfl rfl)
theorem dX3_exactSets_17 : decode cX3_exactSets 17 = .ok (.iconst 0, 1) := dk_3 (dk_at dksX3_exactSets_0 17 rfl rfl)
theorem dX3_exactSets_18 : decode cX3_exactSets 18 = .ok (.istore_n 2, 1) := dk_61 (dk_at dksX3_exactSets_0 18 rfl rfl)
theorem dX3_exactSets_19 : decode cX3_exactSets 19 = .ok (.iconst 0, 1) := dk_3 (dk_at dksX3_exactSets_0 19 rfl rfl)
theorem dX3_exactSets_20 : decode cX3_exactSets 20 = .ok (.istore_n 3, 1) := dk_62 (dk_at dksX3_exactSets_0 20 rfl rfl)
theorem dX3_exactSets_21 : decode cX3_exactSets 21 = .ok (.iload_n 3, 1) := dk_29 (dk_at dksX3_exactSets_0 21 rfl rfl)
theorem dX3_exactSets_22 : decode cX3_exactSets 22 = .ok (.iconst 1, 1) := dk_4 (dk_at dksX3_exactSets_0 22 rfl rfl)
theorem dX3_exactSets_23 : decode cX3_exactSets 23 = .ok (.aload_n 0, 1) := dk_42 (dk_at dksX3_exactSets_0 23 rfl rfl)
theorem dX3_exactSets_24 : decode cX3_exactSets 24 = .ok (.getfield 7, 3) := dk_180 0 7 (dk_at dksX3_exactSets_1 0 rfl rfl)
theorem dX3_exactSets_27 : decode cX3_exactSets 27 = .ok (.iconst 2, 1) := dk_5 (dk_at dksX3_exactSets_1 3 rfl rfl)
theorem dX3_exactSets_28 : decode cX3_exactSets 28 = .ok (.iaload, 1) := dk_46 (dk_at dksX3_exactSets_1 4 rfl rfl)
theorem dX3_exactSets_29 : decode cX3_exactSets 29 = .ok (.ishl, 1) := dk_120 (dk_at dksX3_exactSets_1 5 rfl rfl)
theorem dX3_exactSets_30 : decode cX3_exactSets 30 = .ok (.if_icmp .ge 26, 3) := dk_162 0 26 (dk_at dksX3_exactSets_1 6 rfl rfl)
theorem dX3_exactSets_33 : decode cX3_exactSets 33 = .ok (.iload_n 2, 1) := dk_28 (dk_at dksX3_exactSets_1 9 rfl rfl)
theorem dX3_exactSets_34 : decode cX3_exactSets 34 = .ok (.aload_n 0, 1) := dk_42 (dk_at dksX3_exactSets_1 10 rfl rfl)
theorem dX3_exactSets_35 : decode cX3_exactSets 35 = .ok (.iload_n 3, 1) := dk_29 (dk_at dksX3_exactSets_1 11 rfl rfl)
theorem dX3_exactSets_36 : decode cX3_exactSets 36 = .ok (.invokevirtual 165, 3) := dk_182 0 165 (dk_at dksX3_exactSets_1 12 rfl rfl)
theorem dX3_exactSets_39 : decode cX3_exactSets 39 = .ok (.iload_n 1, 1) := dk_27 (dk_at dksX3_exactSets_1 15 rfl rfl)
theorem dX3_exactSets_40 : decode cX3_exactSets 40 = .ok (.if_icmp .ne 7, 3) := dk_160 0 7 (dk_at dksX3_exactSets_1 16 rfl rfl)
theorem dX3_exactSets_43 : decode cX3_exactSets 43 = .ok (.iconst 1, 1) := dk_4 (dk_at dksX3_exactSets_1 19 rfl rfl)
theorem dX3_exactSets_44 : decode cX3_exactSets 44 = .ok (.goto 4, 3) := dk_167 0 4 (dk_at dksX3_exactSets_1 20 rfl rfl)
theorem dX3_exactSets_47 : decode cX3_exactSets 47 = .ok (.iconst 0, 1) := dk_3 (dk_at dksX3_exactSets_1 23 rfl rfl)
theorem dX3_exactSets_48 : decode cX3_exactSets 48 = .ok (.iadd, 1) := dk_96 (dk_at dksX3_exactSets_2 0 rfl rfl)
theorem dX3_exactSets_49 : decode cX3_exactSets 49 = .ok (.istore_n 2, 1) := dk_61 (dk_at dksX3_exactSets_2 1 rfl rfl)
theorem dX3_exactSets_50 : decode cX3_exactSets 50 = .ok (.iinc 3 1, 3) := dk_132 3 1 (dk_at dksX3_exactSets_2 2 rfl rfl)
theorem dX3_exactSets_53 : decode cX3_exactSets 53 = .ok (.goto (-32), 3) := dk_167 255 224 (dk_at dksX3_exactSets_2 5 rfl rfl)
theorem dX3_exactSets_56 : decode cX3_exactSets 56 = .ok (.aload_n 0, 1) := dk_42 (dk_at dksX3_exactSets_2 8 rfl rfl)
theorem dX3_exactSets_57 : decode cX3_exactSets 57 = .ok (.iload_n 2, 1) := dk_28 (dk_at dksX3_exactSets_2 9 rfl rfl)
theorem dX3_exactSets_58 : decode cX3_exactSets 58 = .ok (.invokevirtual 60, 3) := dk_182 0 60 (dk_at dksX3_exactSets_2 10 rfl rfl)
theorem dX3_exactSets_61 : decode cX3_exactSets 61 = .ok (.ireturn, 1) := dk_172 (dk_at dksX3_exactSets_2 13 rfl rfl)
abbrev cX3_meanAmplitude : ByteArray := prog_19_method_72_code
def yX3_meanAmplitude : MethodName := ⟨RX3, "meanAmplitude", "()D"⟩
def dkwX3_meanAmplitude_3 : List UInt8 := [135, 28, 135, 111, 167, 0, 4, 14, 175]
abbrev dktX3_meanAmplitude_3 : List UInt8 := dkwX3_meanAmplitude_3 ++ []
def dkwX3_meanAmplitude_2 : List UInt8 := [167, 255, 215, 42, 28, 154, 0, 7, 4, 167, 0, 4, 3, 181, 0, 42, 42, 180, 0, 42, 154, 0, 11, 27]
abbrev dktX3_meanAmplitude_2 : List UInt8 := dkwX3_meanAmplitude_2 ++ dktX3_meanAmplitude_3
def dkwX3_meanAmplitude_1 : List UInt8 := [96, 46, 96, 60, 28, 42, 29, 182, 0, 76, 153, 0, 7, 3, 167, 0, 4, 4, 96, 61, 132, 3, 1]
abbrev dktX3_meanAmplitude_1 : List UInt8 := dkwX3_meanAmplitude_1 ++ dktX3_meanAmplitude_2
def dkwX3_meanAmplitude_0 : List UInt8 := [3, 60, 3, 61, 3, 62, 29, 42, 180, 0, 7, 5, 46, 162, 0, 37, 27, 42, 180, 0, 7, 16, 12, 29]
abbrev dktX3_meanAmplitude_0 : List UInt8 := dkwX3_meanAmplitude_0 ++ dktX3_meanAmplitude_1
theorem dksX3_meanAmplitude_0 : cX3_meanAmplitude.data.toList.drop 0 = dktX3_meanAmplitude_0 := by decide +kernel
theorem dksX3_meanAmplitude_1 : cX3_meanAmplitude.data.toList.drop 24 = dktX3_meanAmplitude_1 := dk_seg dksX3_meanAmplitude_0 24 rfl rfl
theorem dksX3_meanAmplitude_2 : cX3_meanAmplitude.data.toList.drop 47 = dktX3_meanAmplitude_2 := dk_seg dksX3_meanAmplitude_1 23 rfl rfl
theorem dksX3_meanAmplitude_3 : cX3_meanAmplitude.data.toList.drop 71 = dktX3_meanAmplitude_3 := dk_seg dksX3_meanAmplitude_2 24 rfl rfl
theorem dX3_meanAmplitude_0 : decode cX3_meanAmplitude 0 = .ok (.iconst 0, 1) := dk_3 (dk_at dksX3_meanAmplitude_0 0 rfl rfl)
theorem dX3_meanAmplitude_1 : decode cX3_meanAmplitude 1 = .ok (.istore_n 1, 1) := dk_60 (dk_at dksX3_meanAmplitude_0 1 rfl rfl)
theorem dX3_meanAmplitude_2 : decode cX3_meanAmplitude 2 = .ok (.iconst 0, 1) := dk_3 (dk_at dksX3_meanAmplitude_0 2 rfl rfl)
theorem dX3_meanAmplitude_3 : decode cX3_meanAmplitude 3 = .ok (.istore_n 2, 1) := dk_61 (dk_at dksX3_meanAmplitude_0 3 rfl rfl)
theorem dX3_meanAmplitude_4 : decode cX3_meanAmplitude 4 = .ok (.iconst 0, 1) := dk_3 (dk_at dksX3_meanAmplitude_0 4 rfl rfl)
theorem dX3_meanAmplitude_5 : decode cX3_meanAmplitude 5 = .ok (.istore_n 3, 1) := dk_62 (dk_at dksX3_meanAmplitude_0 5 rfl rfl)
theorem dX3_meanAmplitude_6 : decode cX3_meanAmplitude 6 = .ok (.iload_n 3, 1) := dk_29 (dk_at dksX3_meanAmplitude_0 6 rfl rfl)
theorem dX3_meanAmplitude_7 : decode cX3_meanAmplitude 7 = .ok (.aload_n 0, 1) := dk_42 (dk_at dksX3_meanAmplitude_0 7 rfl rfl)
theorem dX3_meanAmplitude_8 : decode cX3_meanAmplitude 8 = .ok (.getfield 7, 3) := dk_180 0 7 (dk_at dksX3_meanAmplitude_0 8 rfl rfl)
theorem dX3_meanAmplitude_11 : decode cX3_meanAmplitude 11 = .ok (.iconst 2, 1) := dk_5 (dk_at dksX3_meanAmplitude_0 11 rfl rfl)
theorem dX3_meanAmplitude_12 : decode cX3_meanAmplitude 12 = .ok (.iaload, 1) := dk_46 (dk_at dksX3_meanAmplitude_0 12 rfl rfl)
theorem dX3_meanAmplitude_13 : decode cX3_meanAmplitude 13 = .ok (.if_icmp .ge 37, 3) := dk_162 0 37 (dk_at dksX3_meanAmplitude_0 13 rfl rfl)
theorem dX3_meanAmplitude_16 : decode cX3_meanAmplitude 16 = .ok (.iload_n 1, 1) := dk_27 (dk_at dksX3_meanAmplitude_0 16 rfl rfl)
theorem dX3_meanAmplitude_17 : decode cX3_meanAmplitude 17 = .ok (.aload_n 0, 1) := dk_42 (dk_at dksX3_meanAmplitude_0 17 rfl rfl)
theorem dX3_meanAmplitude_18 : decode cX3_meanAmplitude 18 = .ok (.getfield 7, 3) := dk_180 0 7 (dk_at dksX3_meanAmplitude_0 18 rfl rfl)
theorem dX3_meanAmplitude_21 : decode cX3_meanAmplitude 21 = .ok (.bipush 12, 2) := dk_16 12 (dk_at dksX3_meanAmplitude_0 21 rfl rfl)
theorem dX3_meanAmplitude_23 : decode cX3_meanAmplitude 23 = .ok (.iload_n 3, 1) := dk_29 (dk_at dksX3_meanAmplitude_0 23 rfl rfl)
theorem dX3_meanAmplitude_24 : decode cX3_meanAmplitude 24 = .ok (.iadd, 1) := dk_96 (dk_at dksX3_meanAmplitude_1 0 rfl rfl)
theorem dX3_meanAmplitude_25 : decode cX3_meanAmplitude 25 = .ok (.iaload, 1) := dk_46 (dk_at dksX3_meanAmplitude_1 1 rfl rfl)
theorem dX3_meanAmplitude_26 : decode cX3_meanAmplitude 26 = .ok (.iadd, 1) := dk_96 (dk_at dksX3_meanAmplitude_1 2 rfl rfl)
theorem dX3_meanAmplitude_27 : decode cX3_meanAmplitude 27 = .ok (.istore_n 1, 1) := dk_60 (dk_at dksX3_meanAmplitude_1 3 rfl rfl)
theorem dX3_meanAmplitude_28 : decode cX3_meanAmplitude 28 = .ok (.iload_n 2, 1) := dk_28 (dk_at dksX3_meanAmplitude_1 4 rfl rfl)
theorem dX3_meanAmplitude_29 : decode cX3_meanAmplitude 29 = .ok (.aload_n 0, 1) := dk_42 (dk_at dksX3_meanAmplitude_1 5 rfl rfl)
theorem dX3_meanAmplitude_30 : decode cX3_meanAmplitude 30 = .ok (.iload_n 3, 1) := dk_29 (dk_at dksX3_meanAmplitude_1 6 rfl rfl)
theorem dX3_meanAmplitude_31 : decode cX3_meanAmplitude 31 = .ok (.invokevirtual 76, 3) := dk_182 0 76 (dk_at dksX3_meanAmplitude_1 7 rfl rfl)
theorem dX3_meanAmplitude_34 : decode cX3_meanAmplitude 34 = .ok (.ifCond .eq 7, 3) := dk_153 0 7 (dk_at dksX3_meanAmplitude_1 10 rfl rfl)
theorem dX3_meanAmplitude_37 : decode cX3_meanAmplitude 37 = .ok (.iconst 0, 1) := dk_3 (dk_at dksX3_meanAmplitude_1 13 rfl rfl)
theorem dX3_meanAmplitude_38 : decode cX3_meanAmplitude 38 = .ok (.goto 4, 3) := dk_167 0 4 (dk_at dksX3_meanAmplitude_1 14 rfl rfl)
theorem dX3_meanAmplitude_41 : decode cX3_meanAmplitude 41 = .ok (.iconst 1, 1) := dk_4 (dk_at dksX3_meanAmplitude_1 17 rfl rfl)
theorem dX3_meanAmplitude_42 : decode cX3_meanAmplitude 42 = .ok (.iadd, 1) := dk_96 (dk_at dksX3_meanAmplitude_1 18 rfl rfl)
theorem dX3_meanAmplitude_43 : decode cX3_meanAmplitude 43 = .ok (.istore_n 2, 1) := dk_61 (dk_at dksX3_meanAmplitude_1 19 rfl rfl)
theorem dX3_meanAmplitude_44 : decode cX3_meanAmplitude 44 = .ok (.iinc 3 1, 3) := dk_132 3 1 (dk_at dksX3_meanAmplitude_1 20 rfl rfl)
theorem dX3_meanAmplitude_47 : decode cX3_meanAmplitude 47 = .ok (.goto (-41), 3) := dk_167 255 215 (dk_at dksX3_meanAmplitude_2 0 rfl rfl)
theorem dX3_meanAmplitude_50 : decode cX3_meanAmplitude 50 = .ok (.aload_n 0, 1) := dk_42 (dk_at dksX3_meanAmplitude_2 3 rfl rfl)
theorem dX3_meanAmplitude_51 : decode cX3_meanAmplitude 51 = .ok (.iload_n 2, 1) := dk_28 (dk_at dksX3_meanAmplitude_2 4 rfl rfl)
theorem dX3_meanAmplitude_52 : decode cX3_meanAmplitude 52 = .ok (.ifCond .ne 7, 3) := dk_154 0 7 (dk_at dksX3_meanAmplitude_2 5 rfl rfl)
theorem dX3_meanAmplitude_55 : decode cX3_meanAmplitude 55 = .ok (.iconst 1, 1) := dk_4 (dk_at dksX3_meanAmplitude_2 8 rfl rfl)
theorem dX3_meanAmplitude_56 : decode cX3_meanAmplitude 56 = .ok (.goto 4, 3) := dk_167 0 4 (dk_at dksX3_meanAmplitude_2 9 rfl rfl)
theorem dX3_meanAmplitude_59 : decode cX3_meanAmplitude 59 = .ok (.iconst 0, 1) := dk_3 (dk_at dksX3_meanAmplitude_2 12 rfl rfl)
theorem dX3_meanAmplitude_60 : decode cX3_meanAmplitude 60 = .ok (.putfield 42, 3) := dk_181 0 42 (dk_at dksX3_meanAmplitude_2 13 rfl rfl)
theorem dX3_meanAmplitude_63 : decode cX3_meanAmplitude 63 = .ok (.aload_n 0, 1) := dk_42 (dk_at dksX3_meanAmplitude_2 16 rfl rfl)
theorem dX3_meanAmplitude_64 : decode cX3_meanAmplitude 64 = .ok (.getfield 42, 3) := dk_180 0 42 (dk_at dksX3_meanAmplitude_2 17 rfl rfl)
theorem dX3_meanAmplitude_67 : decode cX3_meanAmplitude 67 = .ok (.ifCond .ne 11, 3) := dk_154 0 11 (dk_at dksX3_meanAmplitude_2 20 rfl rfl)
theorem dX3_meanAmplitude_70 : decode cX3_meanAmplitude 70 = .ok (.iload_n 1, 1) := dk_27 (dk_at dksX3_meanAmplitude_2 23 rfl rfl)
theorem dX3_meanAmplitude_71 : decode cX3_meanAmplitude 71 = .ok (.i2d, 1) := dk_135 (dk_at dksX3_meanAmplitude_3 0 rfl rfl)
theorem dX3_meanAmplitude_72 : decode cX3_meanAmplitude 72 = .ok (.iload_n 2, 1) := dk_28 (dk_at dksX3_meanAmplitude_3 1 rfl rfl)
theorem dX3_meanAmplitude_73 : decode cX3_meanAmplitude 73 = .ok (.i2d, 1) := dk_135 (dk_at dksX3_meanAmplitude_3 2 rfl rfl)
theorem dX3_meanAmplitude_74 : decode cX3_meanAmplitude 74 = .ok (.ddiv, 1) := dk_111 (dk_at dksX3_meanAmplitude_3 3 rfl rfl)
theorem dX3_meanAmplitude_75 : decode cX3_meanAmplitude 75 = .ok (.goto 4, 3) := dk_167 0 4 (dk_at dksX3_meanAmplitude_3 4 rfl rfl)
theorem dX3_meanAmplitude_78 : decode cX3_meanAmplitude 78 = .ok (.dconst 0, 1) := dk_14 (dk_at dksX3_meanAmplitude_3 7 rfl rfl)
theorem dX3_meanAmplitude_79 : decode cX3_meanAmplitude 79 = .ok (.dreturn, 1) := dk_175 (dk_at dksX3_meanAmplitude_3 8 rfl rfl)
abbrev cX3_writeCard : ByteArray := prog_19_method_76_code
def yX3_writeCard : MethodName := ⟨RX3, "writeCard", "(I)I"⟩
def dkwX3_writeCard_6 : List UInt8 := [182, 0, 175, 42, 42, 180, 0, 171, 182, 0, 60, 172]
abbrev dktX3_writeCard_6 : List UInt8 := dkwX3_writeCard_6 ++ []
def dkwX3_writeCard_5 : List UInt8 := [158, 0, 26, 42, 180, 0, 7, 16, 39, 42, 27, 182, 0, 79, 96, 46, 27, 160, 0, 9, 42, 16, 42]
abbrev dktX3_writeCard_5 : List UInt8 := dkwX3_writeCard_5 ++ dktX3_writeCard_6
def dkwX3_writeCard_4 : List UInt8 := [180, 0, 7, 16, 20, 27, 96, 46, 182, 0, 179, 42, 180, 0, 7, 16, 36, 42, 27, 182, 0, 79, 96, 46]
abbrev dktX3_writeCard_4 : List UInt8 := dkwX3_writeCard_4 ++ dktX3_writeCard_5
def dkwX3_writeCard_3 : List UInt8 := [167, 0, 35, 42, 42, 180, 0, 7, 16, 12, 27, 96, 46, 182, 0, 179, 42, 16, 64, 182, 0, 175, 42, 42]
abbrev dktX3_writeCard_3 : List UInt8 := dkwX3_writeCard_3 ++ dktX3_writeCard_4
def dkwX3_writeCard_2 : List UInt8 := [42, 16, 109, 182, 0, 175, 42, 16, 32, 182, 0, 175, 42, 27, 182, 0, 76, 153, 0, 10, 42, 182, 0, 182]
abbrev dktX3_writeCard_2 : List UInt8 := dkwX3_writeCard_2 ++ dktX3_writeCard_3
def dkwX3_writeCard_1 : List UInt8 := [42, 16, 58, 182, 0, 175, 42, 42, 180, 0, 7, 7, 27, 96, 46, 182, 0, 179, 42, 16, 99, 182, 0, 175]
abbrev dktX3_writeCard_1 : List UInt8 := dkwX3_writeCard_1 ++ dktX3_writeCard_2
def dkwX3_writeCard_0 : List UInt8 := [42, 27, 182, 0, 72, 154, 0, 9, 42, 4, 182, 0, 56, 172, 42, 3, 181, 0, 171, 42, 27, 182, 0, 179]
abbrev dktX3_writeCard_0 : List UInt8 := dkwX3_writeCard_0 ++ dktX3_writeCard_1
theorem dksX3_writeCard_0 : cX3_writeCard.data.toList.drop 0 = dktX3_writeCard_0 := by decide +kernel
theorem dksX3_writeCard_1 : cX3_writeCard.data.toList.drop 24 = dktX3_writeCard_1 := dk_seg dksX3_writeCard_0 24 rfl rfl
theorem dksX3_writeCard_2 : cX3_writeCard.data.toList.drop 48 = dktX3_writeCard_2 := dk_seg dksX3_writeCard_1 24 rfl rfl
theorem dksX3_writeCard_3 : cX3_writeCard.data.toList.drop 72 = dktX3_writeCard_3 := dk_seg dksX3_writeCard_2 24 rfl rfl
theorem dksX3_writeCard_4 : cX3_writeCard.data.toList.drop 96 = dktX3_writeCard_4 := dk_seg dksX3_writeCard_3 24 rfl rfl
theorem dksX3_writeCard_5 : cX3_writeCard.data.toList.drop 120 = dktX3_writeCard_5 := dk_seg dksX3_writeCard_4 24 rfl rfl
theorem dksX3_writeCard_6 : cX3_writeCard.data.toList.drop 143 = dktX3_writeCard_6 := dk_seg dksX3_writeCard_5 23 rfl rfl
theorem dX3_writeCard_0 : decode cX3_writeCard 0 = .ok (.aload_n 0, 1) := dk_42 (dk_at dksX3_writeCard_0 0 rfl rfl)
theorem dX3_writeCard_1 : decode cX3_writeCard 1 = .ok (.iload_n 1, 1) := dk_27 (dk_at dksX3_writeCard_0 1 rfl rfl)
theorem dX3_writeCard_2 : decode cX3_writeCard 2 = .ok (.invokevirtual 72, 3) := dk_182 0 72 (dk_at dksX3_writeCard_0 2 rfl rfl)
theorem dX3_writeCard_5 : decode cX3_writeCard 5 = .ok (.ifCond .ne 9, 3) := dk_154 0 9 (dk_at dksX3_writeCard_0 5 rfl rfl)
theorem dX3_writeCard_8 : decode cX3_writeCard 8 = .ok (.aload_n 0, 1) := dk_42 (dk_at dksX3_writeCard_0 8 rfl rfl)
theorem dX3_writeCard_9 : decode cX3_writeCard 9 = .ok (.iconst 1, 1) := dk_4 (dk_at dksX3_writeCard_0 9 rfl rfl)
theorem dX3_writeCard_10 : decode cX3_writeCard 10 = .ok (.invokevirtual 56, 3) := dk_182 0 56 (dk_at dksX3_writeCard_0 10 rfl rfl)
theorem dX3_writeCard_13 : decode cX3_writeCard 13 = .ok (.ireturn, 1) := dk_172 (dk_at dksX3_writeCard_0 13 rfl rfl)
theorem dX3_writeCard_14 : decode cX3_writeCard 14 = .ok (.aload_n 0, 1) := dk_42 (dk_at dksX3_writeCard_0 14 rfl rfl)
theorem dX3_writeCard_15 : decode cX3_writeCard 15 = .ok (.iconst 0, 1) := dk_3 (dk_at dksX3_writeCard_0 15 rfl rfl)
theorem dX3_writeCard_16 : decode cX3_writeCard 16 = .ok (.putfield 171, 3) := dk_181 0 171 (dk_at dksX3_writeCard_0 16 rfl rfl)
theorem dX3_writeCard_19 : decode cX3_writeCard 19 = .ok (.aload_n 0, 1) := dk_42 (dk_at dksX3_writeCard_0 19 rfl rfl)
theorem dX3_writeCard_20 : decode cX3_writeCard 20 = .ok (.iload_n 1, 1) := dk_27 (dk_at dksX3_writeCard_0 20 rfl rfl)
theorem dX3_writeCard_21 : decode cX3_writeCard 21 = .ok (.invokevirtual 179, 3) := dk_182 0 179 (dk_at dksX3_writeCard_0 21 rfl rfl)
theorem dX3_writeCard_24 : decode cX3_writeCard 24 = .ok (.aload_n 0, 1) := dk_42 (dk_at dksX3_writeCard_1 0 rfl rfl)
theorem dX3_writeCard_25 : decode cX3_writeCard 25 = .ok (.bipush 58, 2) := dk_16 58 (dk_at dksX3_writeCard_1 1 rfl rfl)
theorem dX3_writeCard_27 : decode cX3_writeCard 27 = .ok (.invokevirtual 175, 3) := dk_182 0 175 (dk_at dksX3_writeCard_1 3 rfl rfl)
theorem dX3_writeCard_30 : decode cX3_writeCard 30 = .ok (.aload_n 0, 1) := dk_42 (dk_at dksX3_writeCard_1 6 rfl rfl)
theorem dX3_writeCard_31 : decode cX3_writeCard 31 = .ok (.aload_n 0, 1) := dk_42 (dk_at dksX3_writeCard_1 7 rfl rfl)
theorem dX3_writeCard_32 : decode cX3_writeCard 32 = .ok (.getfield 7, 3) := dk_180 0 7 (dk_at dksX3_writeCard_1 8 rfl rfl)
theorem dX3_writeCard_35 : decode cX3_writeCard 35 = .ok (.iconst 4, 1) := dk_7 (dk_at dksX3_writeCard_1 11 rfl rfl)
theorem dX3_writeCard_36 : decode cX3_writeCard 36 = .ok (.iload_n 1, 1) := dk_27 (dk_at dksX3_writeCard_1 12 rfl rfl)
theorem dX3_writeCard_37 : decode cX3_writeCard 37 = .ok (.iadd, 1) := dk_96 (dk_at dksX3_writeCard_1 13 rfl rfl)
theorem dX3_writeCard_38 : decode cX3_writeCard 38 = .ok (.iaload, 1) := dk_46 (dk_at dksX3_writeCard_1 14 rfl rfl)
theorem dX3_writeCard_39 : decode cX3_writeCard 39 = .ok (.invokevirtual 179, 3) := dk_182 0 179 (dk_at dksX3_writeCard_1 15 rfl rfl)
theorem dX3_writeCard_42 : decode cX3_writeCard 42 = .ok (.aload_n 0, 1) := dk_42 (dk_at dksX3_writeCard_1 18 rfl rfl)
theorem dX3_writeCard_43 : decode cX3_writeCard 43 = .ok (.bipush 99, 2) := dk_16 99 (dk_at dksX3_writeCard_1 19 rfl rfl)
theorem dX3_writeCard_45 : decode cX3_writeCard 45 = .ok (.invokevirtual 175, 3) := dk_182 0 175 (dk_at dksX3_writeCard_1 21 rfl rfl)
theorem dX3_writeCard_48 : decode cX3_writeCard 48 = .ok (.aload_n 0, 1) := dk_42 (dk_at dksX3_writeCard_2 0 rfl rfl)
theorem dX3_writeCard_49 : decode cX3_writeCard 49 = .ok (.bipush 109, 2) := dk_16 109 (dk_at dksX3_writeCard_2 1 rfl rfl)
theorem dX3_writeCard_51 : decode cX3_writeCard 51 = .ok (.invokevirtual 175, 3) := dk_182 0 175 (dk_at dksX3_writeCard_2 3 rfl rfl)
theorem dX3_writeCard_54 : decode cX3_writeCard 54 = .ok (.aload_n 0, 1) := dk_42 (dk_at dksX3_writeCard_2 6 rfl rfl)
theorem dX3_writeCard_55 : decode cX3_writeCard 55 = .ok (.bipush 32, 2) := dk_16 32 (dk_at dksX3_writeCard_2 7 rfl rfl)
theorem dX3_writeCard_57 : decode cX3_writeCard 57 = .ok (.invokevirtual 175, 3) := dk_182 0 175 (dk_at dksX3_writeCard_2 9 rfl rfl)
theorem dX3_writeCard_60 : decode cX3_writeCard 60 = .ok (.aload_n 0, 1) := dk_42 (dk_at dksX3_writeCard_2 12 rfl rfl)
theorem dX3_writeCard_61 : decode cX3_writeCard 61 = .ok (.iload_n 1, 1) := dk_27 (dk_at dksX3_writeCard_2 13 rfl rfl)
theorem dX3_writeCard_62 : decode cX3_writeCard 62 = .ok (.invokevirtual 76, 3) := dk_182 0 76 (dk_at dksX3_writeCard_2 14 rfl rfl)
theorem dX3_writeCard_65 : decode cX3_writeCard 65 = .ok (.ifCond .eq 10, 3) := dk_153 0 10 (dk_at dksX3_writeCard_2 17 rfl rfl)
theorem dX3_writeCard_68 : decode cX3_writeCard 68 = .ok (.aload_n 0, 1) := dk_42 (dk_at dksX3_writeCard_2 20 rfl rfl)
theorem dX3_writeCard_69 : decode cX3_writeCard 69 = .ok (.invokevirtual 182, 3) := dk_182 0 182 (dk_at dksX3_writeCard_2 21 rfl rfl)
theorem dX3_writeCard_72 : decode cX3_writeCard 72 = .ok (.goto 35, 3) := dk_167 0 35 (dk_at dksX3_writeCard_3 0 rfl rfl)
theorem dX3_writeCard_75 : decode cX3_writeCard 75 = .ok (.aload_n 0, 1) := dk_42 (dk_at dksX3_writeCard_3 3 rfl rfl)
theorem dX3_writeCard_76 : decode cX3_writeCard 76 = .ok (.aload_n 0, 1) := dk_42 (dk_at dksX3_writeCard_3 4 rfl rfl)
theorem dX3_writeCard_77 : decode cX3_writeCard 77 = .ok (.getfield 7, 3) := dk_180 0 7 (dk_at dksX3_writeCard_3 5 rfl rfl)
theorem dX3_writeCard_80 : decode cX3_writeCard 80 = .ok (.bipush 12, 2) := dk_16 12 (dk_at dksX3_writeCard_3 8 rfl rfl)
theorem dX3_writeCard_82 : decode cX3_writeCard 82 = .ok (.iload_n 1, 1) := dk_27 (dk_at dksX3_writeCard_3 10 rfl rfl)
theorem dX3_writeCard_83 : decode cX3_writeCard 83 = .ok (.iadd, 1) := dk_96 (dk_at dksX3_writeCard_3 11 rfl rfl)
theorem dX3_writeCard_84 : decode cX3_writeCard 84 = .ok (.iaload, 1) := dk_46 (dk_at dksX3_writeCard_3 12 rfl rfl)
theorem dX3_writeCard_85 : decode cX3_writeCard 85 = .ok (.invokevirtual 179, 3) := dk_182 0 179 (dk_at dksX3_writeCard_3 13 rfl rfl)
theorem dX3_writeCard_88 : decode cX3_writeCard 88 = .ok (.aload_n 0, 1) := dk_42 (dk_at dksX3_writeCard_3 16 rfl rfl)
theorem dX3_writeCard_89 : decode cX3_writeCard 89 = .ok (.bipush 64, 2) := dk_16 64 (dk_at dksX3_writeCard_3 17 rfl rfl)
theorem dX3_writeCard_91 : decode cX3_writeCard 91 = .ok (.invokevirtual 175, 3) := dk_182 0 175 (dk_at dksX3_writeCard_3 19 rfl rfl)
theorem dX3_writeCard_94 : decode cX3_writeCard 94 = .ok (.aload_n 0, 1) := dk_42 (dk_at dksX3_writeCard_3 22 rfl rfl)
theorem dX3_writeCard_95 : decode cX3_writeCard 95 = .ok (.aload_n 0, 1) := dk_42 (dk_at dksX3_writeCard_3 23 rfl rfl)
theorem dX3_writeCard_96 : decode cX3_writeCard 96 = .ok (.getfield 7, 3) := dk_180 0 7 (dk_at dksX3_writeCard_4 0 rfl rfl)
theorem dX3_writeCard_99 : decode cX3_writeCard 99 = .ok (.bipush 20, 2) := dk_16 20 (dk_at dksX3_writeCard_4 3 rfl rfl)
theorem dX3_writeCard_101 : decode cX3_writeCard 101 = .ok (.iload_n 1, 1) := dk_27 (dk_at dksX3_writeCard_4 5 rfl rfl)
theorem dX3_writeCard_102 : decode cX3_writeCard 102 = .ok (.iadd, 1) := dk_96 (dk_at dksX3_writeCard_4 6 rfl rfl)
theorem dX3_writeCard_103 : decode cX3_writeCard 103 = .ok (.iaload, 1) := dk_46 (dk_at dksX3_writeCard_4 7 rfl rfl)
theorem dX3_writeCard_104 : decode cX3_writeCard 104 = .ok (.invokevirtual 179, 3) := dk_182 0 179 (dk_at dksX3_writeCard_4 8 rfl rfl)
theorem dX3_writeCard_107 : decode cX3_writeCard 107 = .ok (.aload_n 0, 1) := dk_42 (dk_at dksX3_writeCard_4 11 rfl rfl)
theorem dX3_writeCard_108 : decode cX3_writeCard 108 = .ok (.getfield 7, 3) := dk_180 0 7 (dk_at dksX3_writeCard_4 12 rfl rfl)
theorem dX3_writeCard_111 : decode cX3_writeCard 111 = .ok (.bipush 36, 2) := dk_16 36 (dk_at dksX3_writeCard_4 15 rfl rfl)
theorem dX3_writeCard_113 : decode cX3_writeCard 113 = .ok (.aload_n 0, 1) := dk_42 (dk_at dksX3_writeCard_4 17 rfl rfl)
theorem dX3_writeCard_114 : decode cX3_writeCard 114 = .ok (.iload_n 1, 1) := dk_27 (dk_at dksX3_writeCard_4 18 rfl rfl)
theorem dX3_writeCard_115 : decode cX3_writeCard 115 = .ok (.invokevirtual 79, 3) := dk_182 0 79 (dk_at dksX3_writeCard_4 19 rfl rfl)
theorem dX3_writeCard_118 : decode cX3_writeCard 118 = .ok (.iadd, 1) := dk_96 (dk_at dksX3_writeCard_4 22 rfl rfl)
theorem dX3_writeCard_119 : decode cX3_writeCard 119 = .ok (.iaload, 1) := dk_46 (dk_at dksX3_writeCard_4 23 rfl rfl)
theorem dX3_writeCard_120 : decode cX3_writeCard 120 = .ok (.ifCond .le 26, 3) := dk_158 0 26 (dk_at dksX3_writeCard_5 0 rfl rfl)
theorem dX3_writeCard_123 : decode cX3_writeCard 123 = .ok (.aload_n 0, 1) := dk_42 (dk_at dksX3_writeCard_5 3 rfl rfl)
theorem dX3_writeCard_124 : decode cX3_writeCard 124 = .ok (.getfield 7, 3) := dk_180 0 7 (dk_at dksX3_writeCard_5 4 rfl rfl)
theorem dX3_writeCard_127 : decode cX3_writeCard 127 = .ok (.bipush 39, 2) := dk_16 39 (dk_at dksX3_writeCard_5 7 rfl rfl)
theorem dX3_writeCard_129 : decode cX3_writeCard 129 = .ok (.aload_n 0, 1) := dk_42 (dk_at dksX3_writeCard_5 9 rfl rfl)
theorem dX3_writeCard_130 : decode cX3_writeCard 130 = .ok (.iload_n 1, 1) := dk_27 (dk_at dksX3_writeCard_5 10 rfl rfl)
theorem dX3_writeCard_131 : decode cX3_writeCard 131 = .ok (.invokevirtual 79, 3) := dk_182 0 79 (dk_at dksX3_writeCard_5 11 rfl rfl)
theorem dX3_writeCard_134 : decode cX3_writeCard 134 = .ok (.iadd, 1) := dk_96 (dk_at dksX3_writeCard_5 14 rfl rfl)
theorem dX3_writeCard_135 : decode cX3_writeCard 135 = .ok (.iaload, 1) := dk_46 (dk_at dksX3_writeCard_5 15 rfl rfl)
theorem dX3_writeCard_136 : decode cX3_writeCard 136 = .ok (.iload_n 1, 1) := dk_27 (dk_at dksX3_writeCard_5 16 rfl rfl)
theorem dX3_writeCard_137 : decode cX3_writeCard 137 = .ok (.if_icmp .ne 9, 3) := dk_160 0 9 (dk_at dksX3_writeCard_5 17 rfl rfl)
theorem dX3_writeCard_140 : decode cX3_writeCard 140 = .ok (.aload_n 0, 1) := dk_42 (dk_at dksX3_writeCard_5 20 rfl rfl)
theorem dX3_writeCard_141 : decode cX3_writeCard 141 = .ok (.bipush 42, 2) := dk_16 42 (dk_at dksX3_writeCard_5 21 rfl rfl)
theorem dX3_writeCard_143 : decode cX3_writeCard 143 = .ok (.invokevirtual 175, 3) := dk_182 0 175 (dk_at dksX3_writeCard_6 0 rfl rfl)
theorem dX3_writeCard_146 : decode cX3_writeCard 146 = .ok (.aload_n 0, 1) := dk_42 (dk_at dksX3_writeCard_6 3 rfl rfl)
theorem dX3_writeCard_147 : decode cX3_writeCard 147 = .ok (.aload_n 0, 1) := dk_42 (dk_at dksX3_writeCard_6 4 rfl rfl)
theorem dX3_writeCard_148 : decode cX3_writeCard 148 = .ok (.getfield 171, 3) := dk_180 0 171 (dk_at dksX3_writeCard_6 5 rfl rfl)
theorem dX3_writeCard_151 : decode cX3_writeCard 151 = .ok (.invokevirtual 60, 3) := dk_182 0 60 (dk_at dksX3_writeCard_6 8 rfl rfl)
theorem dX3_writeCard_154 : decode cX3_writeCard 154 = .ok (.ireturn, 1) := dk_172 (dk_at dksX3_writeCard_6 11 rfl rfl)
abbrev cX3_writesNumber : ByteArray := prog_19_method_74_code
def yX3_writesNumber : MethodName := ⟨RX3, "writesNumber", "(I)V"⟩
def dkwX3_writesNumber_2 : List UInt8 := [177]
abbrev dktX3_writesNumber_2 : List UInt8 := dkwX3_writesNumber_2 ++ []
def dkwX3_writesNumber_1 : List UInt8 := [158, 0, 24, 42, 16, 48, 27, 28, 108, 16, 10, 112, 96, 182, 0, 175, 28, 16, 10, 108, 61, 167, 255, 234]
abbrev dktX3_writesNumber_1 : List UInt8 := dkwX3_writesNumber_1 ++ dktX3_writesNumber_2
def dkwX3_writesNumber_0 : List UInt8 := [18, 174, 61, 28, 4, 164, 0, 16, 27, 28, 162, 0, 11, 28, 16, 10, 108, 61, 167, 255, 241, 28]
abbrev dktX3_writesNumber_0 : List UInt8 := dkwX3_writesNumber_0 ++ dktX3_writesNumber_1
theorem dksX3_writesNumber_0 : cX3_writesNumber.data.toList.drop 0 = dktX3_writesNumber_0 := by decide +kernel
theorem dksX3_writesNumber_1 : cX3_writesNumber.data.toList.drop 22 = dktX3_writesNumber_1 := dk_seg dksX3_writesNumber_0 22 rfl rfl
theorem dksX3_writesNumber_2 : cX3_writesNumber.data.toList.drop 46 = dktX3_writesNumber_2 := dk_seg dksX3_writesNumber_1 24 rfl rfl
theorem dX3_writesNumber_0 : decode cX3_writesNumber 0 = .ok (.ldc 174, 2) := dk_18 174 (dk_at dksX3_writesNumber_0 0 rfl rfl)
theorem dX3_writesNumber_2 : decode cX3_writesNumber 2 = .ok (.istore_n 2, 1) := dk_61 (dk_at dksX3_writesNumber_0 2 rfl rfl)
theorem dX3_writesNumber_3 : decode cX3_writesNumber 3 = .ok (.iload_n 2, 1) := dk_28 (dk_at dksX3_writesNumber_0 3 rfl rfl)
theorem dX3_writesNumber_4 : decode cX3_writesNumber 4 = .ok (.iconst 1, 1) := dk_4 (dk_at dksX3_writesNumber_0 4 rfl rfl)
theorem dX3_writesNumber_5 : decode cX3_writesNumber 5 = .ok (.if_icmp .le 16, 3) := dk_164 0 16 (dk_at dksX3_writesNumber_0 5 rfl rfl)
theorem dX3_writesNumber_8 : decode cX3_writesNumber 8 = .ok (.iload_n 1, 1) := dk_27 (dk_at dksX3_writesNumber_0 8 rfl rfl)
theorem dX3_writesNumber_9 : decode cX3_writesNumber 9 = .ok (.iload_n 2, 1) := dk_28 (dk_at dksX3_writesNumber_0 9 rfl rfl)
theorem dX3_writesNumber_10 : decode cX3_writesNumber 10 = .ok (.if_icmp .ge 11, 3) := dk_162 0 11 (dk_at dksX3_writesNumber_0 10 rfl rfl)
theorem dX3_writesNumber_13 : decode cX3_writesNumber 13 = .ok (.iload_n 2, 1) := dk_28 (dk_at dksX3_writesNumber_0 13 rfl rfl)
theorem dX3_writesNumber_14 : decode cX3_writesNumber 14 = .ok (.bipush 10, 2) := dk_16 10 (dk_at dksX3_writesNumber_0 14 rfl rfl)
theorem dX3_writesNumber_16 : decode cX3_writesNumber 16 = .ok (.idiv, 1) := dk_108 (dk_at dksX3_writesNumber_0 16 rfl rfl)
theorem dX3_writesNumber_17 : decode cX3_writesNumber 17 = .ok (.istore_n 2, 1) := dk_61 (dk_at dksX3_writesNumber_0 17 rfl rfl)
theorem dX3_writesNumber_18 : decode cX3_writesNumber 18 = .ok (.goto (-15), 3) := dk_167 255 241 (dk_at dksX3_writesNumber_0 18 rfl rfl)
theorem dX3_writesNumber_21 : decode cX3_writesNumber 21 = .ok (.iload_n 2, 1) := dk_28 (dk_at dksX3_writesNumber_0 21 rfl rfl)
theorem dX3_writesNumber_22 : decode cX3_writesNumber 22 = .ok (.ifCond .le 24, 3) := dk_158 0 24 (dk_at dksX3_writesNumber_1 0 rfl rfl)
theorem dX3_writesNumber_25 : decode cX3_writesNumber 25 = .ok (.aload_n 0, 1) := dk_42 (dk_at dksX3_writesNumber_1 3 rfl rfl)
theorem dX3_writesNumber_26 : decode cX3_writesNumber 26 = .ok (.bipush 48, 2) := dk_16 48 (dk_at dksX3_writesNumber_1 4 rfl rfl)
theorem dX3_writesNumber_28 : decode cX3_writesNumber 28 = .ok (.iload_n 1, 1) := dk_27 (dk_at dksX3_writesNumber_1 6 rfl rfl)
theorem dX3_writesNumber_29 : decode cX3_writesNumber 29 = .ok (.iload_n 2, 1) := dk_28 (dk_at dksX3_writesNumber_1 7 rfl rfl)
theorem dX3_writesNumber_30 : decode cX3_writesNumber 30 = .ok (.idiv, 1) := dk_108 (dk_at dksX3_writesNumber_1 8 rfl rfl)
theorem dX3_writesNumber_31 : decode cX3_writesNumber 31 = .ok (.bipush 10, 2) := dk_16 10 (dk_at dksX3_writesNumber_1 9 rfl rfl)
theorem dX3_writesNumber_33 : decode cX3_writesNumber 33 = .ok (.irem, 1) := dk_112 (dk_at dksX3_writesNumber_1 11 rfl rfl)
theorem dX3_writesNumber_34 : decode cX3_writesNumber 34 = .ok (.iadd, 1) := dk_96 (dk_at dksX3_writesNumber_1 12 rfl rfl)
theorem dX3_writesNumber_35 : decode cX3_writesNumber 35 = .ok (.invokevirtual 175, 3) := dk_182 0 175 (dk_at dksX3_writesNumber_1 13 rfl rfl)
theorem dX3_writesNumber_38 : decode cX3_writesNumber 38 = .ok (.iload_n 2, 1) := dk_28 (dk_at dksX3_writesNumber_1 16 rfl rfl)
theorem dX3_writesNumber_39 : decode cX3_writesNumber 39 = .ok (.bipush 10, 2) := dk_16 10 (dk_at dksX3_writesNumber_1 17 rfl rfl)
theorem dX3_writesNumber_41 : decode cX3_writesNumber 41 = .ok (.idiv, 1) := dk_108 (dk_at dksX3_writesNumber_1 19 rfl rfl)
theorem dX3_writesNumber_42 : decode cX3_writesNumber 42 = .ok (.istore_n 2, 1) := dk_61 (dk_at dksX3_writesNumber_1 20 rfl rfl)
theorem dX3_writesNumber_43 : decode cX3_writesNumber 43 = .ok (.goto (-22), 3) := dk_167 255 234 (dk_at dksX3_writesNumber_1 21 rfl rfl)
theorem dX3_writesNumber_46 : decode cX3_writesNumber 46 = .ok (.return_, 1) := dk_177 (dk_at dksX3_writesNumber_2 0 rfl rfl)
abbrev cX3_writes : ByteArray := prog_19_method_73_code
def yX3_writes : MethodName := ⟨RX3, "writes", "(I)V"⟩
def dkwX3_writes_0 : List UInt8 := [42, 180, 0, 33, 42, 180, 0, 171, 27, 146, 85, 42, 89, 180, 0, 171, 4, 96, 181, 0, 171, 177]
abbrev dktX3_writes_0 : List UInt8 := dkwX3_writes_0 ++ []
theorem dksX3_writes_0 : cX3_writes.data.toList.drop 0 = dktX3_writes_0 := by decide +kernel
theorem dX3_writes_0 : decode cX3_writes 0 = .ok (.aload_n 0, 1) := dk_42 (dk_at dksX3_writes_0 0 rfl rfl)
theorem dX3_writes_1 : decode cX3_writes 1 = .ok (.getfield 33, 3) := dk_180 0 33 (dk_at dksX3_writes_0 1 rfl rfl)
theorem dX3_writes_4 : decode cX3_writes 4 = .ok (.aload_n 0, 1) := dk_42 (dk_at dksX3_writes_0 4 rfl rfl)
theorem dX3_writes_5 : decode cX3_writes 5 = .ok (.getfield 171, 3) := dk_180 0 171 (dk_at dksX3_writes_0 5 rfl rfl)
theorem dX3_writes_8 : decode cX3_writes 8 = .ok (.iload_n 1, 1) := dk_27 (dk_at dksX3_writes_0 8 rfl rfl)
theorem dX3_writes_9 : decode cX3_writes 9 = .ok (.i2c, 1) := dk_146 (dk_at dksX3_writes_0 9 rfl rfl)
theorem dX3_writes_10 : decode cX3_writes 10 = .ok (.castore, 1) := dk_85 (dk_at dksX3_writes_0 10 rfl rfl)
theorem dX3_writes_11 : decode cX3_writes 11 = .ok (.aload_n 0, 1) := dk_42 (dk_at dksX3_writes_0 11 rfl rfl)
theorem dX3_writes_12 : decode cX3_writes 12 = .ok (.dup, 1) := dk_89 (dk_at dksX3_writes_0 12 rfl rfl)
theorem dX3_writes_13 : decode cX3_writes 13 = .ok (.getfield 171, 3) := dk_180 0 171 (dk_at dksX3_writes_0 13 rfl rfl)
theorem dX3_writes_16 : decode cX3_writes 16 = .ok (.iconst 1, 1) := dk_4 (dk_at dksX3_writes_0 16 rfl rfl)
theorem dX3_writes_17 : decode cX3_writes 17 = .ok (.iadd, 1) := dk_96 (dk_at dksX3_writes_0 17 rfl rfl)
theorem dX3_writes_18 : decode cX3_writes 18 = .ok (.putfield 171, 3) := dk_181 0 171 (dk_at dksX3_writes_0 18 rfl rfl)
theorem dX3_writes_21 : decode cX3_writes 21 = .ok (.return_, 1) := dk_177 (dk_at dksX3_writes_0 21 rfl rfl)
abbrev cX3_writesRest : ByteArray := prog_19_method_75_code
def yX3_writesRest : MethodName := ⟨RX3, "writesRest", "()V"⟩
def dkwX3_writesRest_1 : List UInt8 := [177]
abbrev dktX3_writesRest_1 : List UInt8 := dkwX3_writesRest_1 ++ []
def dkwX3_writesRest_0 : List UInt8 := [42, 16, 114, 182, 0, 175, 42, 16, 101, 182, 0, 175, 42, 16, 115, 182, 0, 175, 42, 16, 116, 182, 0, 175]
abbrev dktX3_writesRest_0 : List UInt8 := dkwX3_writesRest_0 ++ dktX3_writesRest_1
theorem dksX3_writesRest_0 : cX3_writesRest.data.toList.drop 0 = dktX3_writesRest_0 := by decide +kernel
theorem dksX3_writesRest_1 : cX3_writesRest.data.toList.drop 24 = dktX3_writesRest_1 := dk_seg dksX3_writesRest_0 24 rfl rfl
theorem dX3_writesRest_0 : decode cX3_writesRest 0 = .ok (.aload_n 0, 1) := dk_42 (dk_at dksX3_writesRest_0 0 rfl rfl)
theorem dX3_writesRest_1 : decode cX3_writesRest 1 = .ok (.bipush 114, 2) := dk_16 114 (dk_at dksX3_writesRest_0 1 rfl rfl)
theorem dX3_writesRest_3 : decode cX3_writesRest 3 = .ok (.invokevirtual 175, 3) := dk_182 0 175 (dk_at dksX3_writesRest_0 3 rfl rfl)
theorem dX3_writesRest_6 : decode cX3_writesRest 6 = .ok (.aload_n 0, 1) := dk_42 (dk_at dksX3_writesRest_0 6 rfl rfl)
theorem dX3_writesRest_7 : decode cX3_writesRest 7 = .ok (.bipush 101, 2) := dk_16 101 (dk_at dksX3_writesRest_0 7 rfl rfl)
theorem dX3_writesRest_9 : decode cX3_writesRest 9 = .ok (.invokevirtual 175, 3) := dk_182 0 175 (dk_at dksX3_writesRest_0 9 rfl rfl)
theorem dX3_writesRest_12 : decode cX3_writesRest 12 = .ok (.aload_n 0, 1) := dk_42 (dk_at dksX3_writesRest_0 12 rfl rfl)
theorem dX3_writesRest_13 : decode cX3_writesRest 13 = .ok (.bipush 115, 2) := dk_16 115 (dk_at dksX3_writesRest_0 13 rfl rfl)
theorem dX3_writesRest_15 : decode cX3_writesRest 15 = .ok (.invokevirtual 175, 3) := dk_182 0 175 (dk_at dksX3_writesRest_0 15 rfl rfl)
theorem dX3_writesRest_18 : decode cX3_writesRest 18 = .ok (.aload_n 0, 1) := dk_42 (dk_at dksX3_writesRest_0 18 rfl rfl)
theorem dX3_writesRest_19 : decode cX3_writesRest 19 = .ok (.bipush 116, 2) := dk_16 116 (dk_at dksX3_writesRest_0 19 rfl rfl)
theorem dX3_writesRest_21 : decode cX3_writesRest 21 = .ok (.invokevirtual 175, 3) := dk_182 0 175 (dk_at dksX3_writesRest_0 21 rfl rfl)
theorem dX3_writesRest_24 : decode cX3_writesRest 24 = .ok (.return_, 1) := dk_177 (dk_at dksX3_writesRest_1 0 rfl rfl)
abbrev cX3_cardAt : ByteArray := prog_19_method_77_code
def yX3_cardAt : MethodName := ⟨RX3, "cardAt", "(I)C"⟩
def dkwX3_cardAt_1 : List UInt8 := [180, 0, 42, 154, 0, 12, 42, 180, 0, 33, 27, 52, 167, 0, 4, 3, 172]
abbrev dktX3_cardAt_1 : List UInt8 := dkwX3_cardAt_1 ++ []
def dkwX3_cardAt_0 : List UInt8 := [42, 27, 3, 42, 180, 0, 171, 4, 100, 184, 0, 52, 153, 0, 7, 3, 167, 0, 4, 4, 181, 0, 42, 42]
abbrev dktX3_cardAt_0 : List UInt8 := dkwX3_cardAt_0 ++ dktX3_cardAt_1
theorem dksX3_cardAt_0 : cX3_cardAt.data.toList.drop 0 = dktX3_cardAt_0 := by decide +kernel
theorem dksX3_cardAt_1 : cX3_cardAt.data.toList.drop 24 = dktX3_cardAt_1 := dk_seg dksX3_cardAt_0 24 rfl rfl
theorem dX3_cardAt_0 : decode cX3_cardAt 0 = .ok (.aload_n 0, 1) := dk_42 (dk_at dksX3_cardAt_0 0 rfl rfl)
theorem dX3_cardAt_1 : decode cX3_cardAt 1 = .ok (.iload_n 1, 1) := dk_27 (dk_at dksX3_cardAt_0 1 rfl rfl)
theorem dX3_cardAt_2 : decode cX3_cardAt 2 = .ok (.iconst 0, 1) := dk_3 (dk_at dksX3_cardAt_0 2 rfl rfl)
theorem dX3_cardAt_3 : decode cX3_cardAt 3 = .ok (.aload_n 0, 1) := dk_42 (dk_at dksX3_cardAt_0 3 rfl rfl)
theorem dX3_cardAt_4 : decode cX3_cardAt 4 = .ok (.getfield 171, 3) := dk_180 0 171 (dk_at dksX3_cardAt_0 4 rfl rfl)
theorem dX3_cardAt_7 : decode cX3_cardAt 7 = .ok (.iconst 1, 1) := dk_4 (dk_at dksX3_cardAt_0 7 rfl rfl)
theorem dX3_cardAt_8 : decode cX3_cardAt 8 = .ok (.isub, 1) := dk_100 (dk_at dksX3_cardAt_0 8 rfl rfl)
theorem dX3_cardAt_9 : decode cX3_cardAt 9 = .ok (.invokestatic 52, 3) := dk_184 0 52 (dk_at dksX3_cardAt_0 9 rfl rfl)
theorem dX3_cardAt_12 : decode cX3_cardAt 12 = .ok (.ifCond .eq 7, 3) := dk_153 0 7 (dk_at dksX3_cardAt_0 12 rfl rfl)
theorem dX3_cardAt_15 : decode cX3_cardAt 15 = .ok (.iconst 0, 1) := dk_3 (dk_at dksX3_cardAt_0 15 rfl rfl)
theorem dX3_cardAt_16 : decode cX3_cardAt 16 = .ok (.goto 4, 3) := dk_167 0 4 (dk_at dksX3_cardAt_0 16 rfl rfl)
theorem dX3_cardAt_19 : decode cX3_cardAt 19 = .ok (.iconst 1, 1) := dk_4 (dk_at dksX3_cardAt_0 19 rfl rfl)
theorem dX3_cardAt_20 : decode cX3_cardAt 20 = .ok (.putfield 42, 3) := dk_181 0 42 (dk_at dksX3_cardAt_0 20 rfl rfl)
theorem dX3_cardAt_23 : decode cX3_cardAt 23 = .ok (.aload_n 0, 1) := dk_42 (dk_at dksX3_cardAt_0 23 rfl rfl)
theorem dX3_cardAt_24 : decode cX3_cardAt 24 = .ok (.getfield 42, 3) := dk_180 0 42 (dk_at dksX3_cardAt_1 0 rfl rfl)
theorem dX3_cardAt_27 : decode cX3_cardAt 27 = .ok (.ifCond .ne 12, 3) := dk_154 0 12 (dk_at dksX3_cardAt_1 3 rfl rfl)
theorem dX3_cardAt_30 : decode cX3_cardAt 30 = .ok (.aload_n 0, 1) := dk_42 (dk_at dksX3_cardAt_1 6 rfl rfl)
theorem dX3_cardAt_31 : decode cX3_cardAt 31 = .ok (.getfield 33, 3) := dk_180 0 33 (dk_at dksX3_cardAt_1 7 rfl rfl)
theorem dX3_cardAt_34 : decode cX3_cardAt 34 = .ok (.iload_n 1, 1) := dk_27 (dk_at dksX3_cardAt_1 10 rfl rfl)
theorem dX3_cardAt_35 : decode cX3_cardAt 35 = .ok (.caload, 1) := dk_52 (dk_at dksX3_cardAt_1 11 rfl rfl)
theorem dX3_cardAt_36 : decode cX3_cardAt 36 = .ok (.goto 4, 3) := dk_167 0 4 (dk_at dksX3_cardAt_1 12 rfl rfl)
theorem dX3_cardAt_39 : decode cX3_cardAt 39 = .ok (.iconst 0, 1) := dk_3 (dk_at dksX3_cardAt_1 15 rfl rfl)
theorem dX3_cardAt_40 : decode cX3_cardAt 40 = .ok (.ireturn, 1) := dk_172 (dk_at dksX3_cardAt_1 16 rfl rfl)
abbrev cX3_type : ByteArray := prog_19_method_78_code
def yX3_type : MethodName := ⟨RX3, "type", "(C)I"⟩
def dkwX3_type_2 : List UInt8 := [4, 96, 181, 0, 185, 42, 42, 180, 0, 185, 182, 0, 60, 172]
abbrev dktX3_type_2 : List UInt8 := dkwX3_type_2 ++ []
def dkwX3_type_1 : List UInt8 := [160, 0, 9, 42, 5, 182, 0, 56, 172, 42, 180, 0, 22, 42, 180, 0, 185, 27, 85, 42, 89, 180, 0, 185]
abbrev dktX3_type_1 : List UInt8 := dkwX3_type_1 ++ dktX3_type_2
def dkwX3_type_0 : List UInt8 := [27, 16, 32, 16, 126, 184, 0, 52, 154, 0, 9, 42, 4, 182, 0, 56, 172, 42, 180, 0, 185, 16, 60]
abbrev dktX3_type_0 : List UInt8 := dkwX3_type_0 ++ dktX3_type_1
theorem dksX3_type_0 : cX3_type.data.toList.drop 0 = dktX3_type_0 := by decide +kernel
theorem dksX3_type_1 : cX3_type.data.toList.drop 23 = dktX3_type_1 := dk_seg dksX3_type_0 23 rfl rfl
theorem dksX3_type_2 : cX3_type.data.toList.drop 47 = dktX3_type_2 := dk_seg dksX3_type_1 24 rfl rfl
theorem dX3_type_0 : decode cX3_type 0 = .ok (.iload_n 1, 1) := dk_27 (dk_at dksX3_type_0 0 rfl rfl)
theorem dX3_type_1 : decode cX3_type 1 = .ok (.bipush 32, 2) := dk_16 32 (dk_at dksX3_type_0 1 rfl rfl)
theorem dX3_type_3 : decode cX3_type 3 = .ok (.bipush 126, 2) := dk_16 126 (dk_at dksX3_type_0 3 rfl rfl)
theorem dX3_type_5 : decode cX3_type 5 = .ok (.invokestatic 52, 3) := dk_184 0 52 (dk_at dksX3_type_0 5 rfl rfl)
theorem dX3_type_8 : decode cX3_type 8 = .ok (.ifCond .ne 9, 3) := dk_154 0 9 (dk_at dksX3_type_0 8 rfl rfl)
theorem dX3_type_11 : decode cX3_type 11 = .ok (.aload_n 0, 1) := dk_42 (dk_at dksX3_type_0 11 rfl rfl)
theorem dX3_type_12 : decode cX3_type 12 = .ok (.iconst 1, 1) := dk_4 (dk_at dksX3_type_0 12 rfl rfl)
theorem dX3_type_13 : decode cX3_type 13 = .ok (.invokevirtual 56, 3) := dk_182 0 56 (dk_at dksX3_type_0 13 rfl rfl)
theorem dX3_type_16 : decode cX3_type 16 = .ok (.ireturn, 1) := dk_172 (dk_at dksX3_type_0 16 rfl rfl)
theorem dX3_type_17 : decode cX3_type 17 = .ok (.aload_n 0, 1) := dk_42 (dk_at dksX3_type_0 17 rfl rfl)
theorem dX3_type_18 : decode cX3_type 18 = .ok (.getfield 185, 3) := dk_180 0 185 (dk_at dksX3_type_0 18 rfl rfl)
theorem dX3_type_21 : decode cX3_type 21 = .ok (.bipush 60, 2) := dk_16 60 (dk_at dksX3_type_0 21 rfl rfl)
theorem dX3_type_23 : decode cX3_type 23 = .ok (.if_icmp .ne 9, 3) := dk_160 0 9 (dk_at dksX3_type_1 0 rfl rfl)
theorem dX3_type_26 : decode cX3_type 26 = .ok (.aload_n 0, 1) := dk_42 (dk_at dksX3_type_1 3 rfl rfl)
theorem dX3_type_27 : decode cX3_type 27 = .ok (.iconst 2, 1) := dk_5 (dk_at dksX3_type_1 4 rfl rfl)
theorem dX3_type_28 : decode cX3_type 28 = .ok (.invokevirtual 56, 3) := dk_182 0 56 (dk_at dksX3_type_1 5 rfl rfl)
theorem dX3_type_31 : decode cX3_type 31 = .ok (.ireturn, 1) := dk_172 (dk_at dksX3_type_1 8 rfl rfl)
theorem dX3_type_32 : decode cX3_type 32 = .ok (.aload_n 0, 1) := dk_42 (dk_at dksX3_type_1 9 rfl rfl)
theorem dX3_type_33 : decode cX3_type 33 = .ok (.getfield 22, 3) := dk_180 0 22 (dk_at dksX3_type_1 10 rfl rfl)
theorem dX3_type_36 : decode cX3_type 36 = .ok (.aload_n 0, 1) := dk_42 (dk_at dksX3_type_1 13 rfl rfl)
theorem dX3_type_37 : decode cX3_type 37 = .ok (.getfield 185, 3) := dk_180 0 185 (dk_at dksX3_type_1 14 rfl rfl)
theorem dX3_type_40 : decode cX3_type 40 = .ok (.iload_n 1, 1) := dk_27 (dk_at dksX3_type_1 17 rfl rfl)
theorem dX3_type_41 : decode cX3_type 41 = .ok (.castore, 1) := dk_85 (dk_at dksX3_type_1 18 rfl rfl)
theorem dX3_type_42 : decode cX3_type 42 = .ok (.aload_n 0, 1) := dk_42 (dk_at dksX3_type_1 19 rfl rfl)
theorem dX3_type_43 : decode cX3_type 43 = .ok (.dup, 1) := dk_89 (dk_at dksX3_type_1 20 rfl rfl)
theorem dX3_type_44 : decode cX3_type 44 = .ok (.getfield 185, 3) := dk_180 0 185 (dk_at dksX3_type_1 21 rfl rfl)
theorem dX3_type_47 : decode cX3_type 47 = .ok (.iconst 1, 1) := dk_4 (dk_at dksX3_type_2 0 rfl rfl)
theorem dX3_type_48 : decode cX3_type 48 = .ok (.iadd, 1) := dk_96 (dk_at dksX3_type_2 1 rfl rfl)
theorem dX3_type_49 : decode cX3_type 49 = .ok (.putfield 185, 3) := dk_181 0 185 (dk_at dksX3_type_2 2 rfl rfl)
theorem dX3_type_52 : decode cX3_type 52 = .ok (.aload_n 0, 1) := dk_42 (dk_at dksX3_type_2 5 rfl rfl)
theorem dX3_type_53 : decode cX3_type 53 = .ok (.aload_n 0, 1) := dk_42 (dk_at dksX3_type_2 6 rfl rfl)
theorem dX3_type_54 : decode cX3_type 54 = .ok (.getfield 185, 3) := dk_180 0 185 (dk_at dksX3_type_2 7 rfl rfl)
theorem dX3_type_57 : decode cX3_type 57 = .ok (.invokevirtual 60, 3) := dk_182 0 60 (dk_at dksX3_type_2 10 rfl rfl)
theorem dX3_type_60 : decode cX3_type 60 = .ok (.ireturn, 1) := dk_172 (dk_at dksX3_type_2 13 rfl rfl)
abbrev cX3_execute : ByteArray := prog_19_method_86_code
def yX3_execute : MethodName := ⟨RX3, "execute", "()I"⟩
def dkwX3_execute_7 : List UInt8 := [21, 4, 182, 0, 69, 172, 132, 3, 1, 167, 255, 215, 42, 42, 27, 182, 0, 60, 182, 0, 69, 172]
abbrev dktX3_execute_7 : List UInt8 := dkwX3_execute_7 ++ []
def dkwX3_execute_6 : List UInt8 := [182, 0, 214, 54, 4, 42, 180, 0, 42, 153, 0, 20, 42, 29, 181, 0, 30, 42, 5, 181, 0, 42, 42]
abbrev dktX3_execute_6 : List UInt8 := dkwX3_execute_6 ++ dktX3_execute_7
def dkwX3_execute_5 : List UInt8 := [181, 0, 26, 42, 4, 182, 0, 56, 172, 42, 182, 0, 63, 3, 62, 29, 27, 162, 0, 42, 42, 6, 29, 104]
abbrev dktX3_execute_5 : List UInt8 := dkwX3_execute_5 ++ dktX3_execute_6
def dkwX3_execute_4 : List UInt8 := [167, 0, 4, 3, 181, 0, 191, 42, 3, 181, 0, 185, 42, 180, 0, 191, 153, 0, 17, 42, 42, 180, 0, 188]
abbrev dktX3_execute_4 : List UInt8 := dkwX3_execute_4 ++ dktX3_execute_5
def dkwX3_execute_3 : List UInt8 := [167, 255, 202, 42, 42, 180, 0, 191, 154, 0, 14, 42, 180, 0, 188, 42, 180, 0, 185, 162, 0, 7, 4]
abbrev dktX3_execute_3 : List UInt8 := dkwX3_execute_3 ++ dktX3_execute_4
def dkwX3_execute_2 : List UInt8 := [167, 0, 4, 3, 61, 42, 89, 180, 0, 188, 28, 153, 0, 7, 4, 167, 0, 4, 3, 96, 181, 0, 188]
abbrev dktX3_execute_2 : List UInt8 := dkwX3_execute_2 ++ dktX3_execute_3
def dkwX3_execute_1 : List UInt8 := [182, 0, 211, 132, 1, 1, 42, 180, 0, 191, 154, 0, 16, 42, 182, 0, 195, 16, 59, 160, 0, 7, 4]
abbrev dktX3_execute_1 : List UInt8 := dkwX3_execute_1 ++ dktX3_execute_2
def dkwX3_execute_0 : List UInt8 := [42, 3, 181, 0, 188, 42, 3, 181, 0, 191, 3, 60, 4, 61, 28, 153, 0, 56, 42, 6, 27, 104]
abbrev dktX3_execute_0 : List UInt8 := dkwX3_execute_0 ++ dktX3_execute_1
theorem dksX3_execute_0 : cX3_execute.data.toList.drop 0 = dktX3_execute_0 := by decide +kernel
theorem dksX3_execute_1 : cX3_execute.data.toList.drop 22 = dktX3_execute_1 := dk_seg dksX3_execute_0 22 rfl rfl
theorem dksX3_execute_2 : cX3_execute.data.toList.drop 45 = dktX3_execute_2 := dk_seg dksX3_execute_1 23 rfl rfl
theorem dksX3_execute_3 : cX3_execute.data.toList.drop 68 = dktX3_execute_3 := dk_seg dksX3_execute_2 23 rfl rfl
theorem dksX3_execute_4 : cX3_execute.data.toList.drop 91 = dktX3_execute_4 := dk_seg dksX3_execute_3 23 rfl rfl
theorem dksX3_execute_5 : cX3_execute.data.toList.drop 115 = dktX3_execute_5 := dk_seg dksX3_execute_4 24 rfl rfl
theorem dksX3_execute_6 : cX3_execute.data.toList.drop 139 = dktX3_execute_6 := dk_seg dksX3_execute_5 24 rfl rfl
theorem dksX3_execute_7 : cX3_execute.data.toList.drop 162 = dktX3_execute_7 := dk_seg dksX3_execute_6 23 rfl rfl
theorem dX3_execute_0 : decode cX3_execute 0 = .ok (.aload_n 0, 1) := dk_42 (dk_at dksX3_execute_0 0 rfl rfl)
theorem dX3_execute_1 : decode cX3_execute 1 = .ok (.iconst 0, 1) := dk_3 (dk_at dksX3_execute_0 1 rfl rfl)
theorem dX3_execute_2 : decode cX3_execute 2 = .ok (.putfield 188, 3) := dk_181 0 188 (dk_at dksX3_execute_0 2 rfl rfl)
theorem dX3_execute_5 : decode cX3_execute 5 = .ok (.aload_n 0, 1) := dk_42 (dk_at dksX3_execute_0 5 rfl rfl)
theorem dX3_execute_6 : decode cX3_execute 6 = .ok (.iconst 0, 1) := dk_3 (dk_at dksX3_execute_0 6 rfl rfl)
theorem dX3_execute_7 : decode cX3_execute 7 = .ok (.putfield 191, 3) := dk_181 0 191 (dk_at dksX3_execute_0 7 rfl rfl)
theorem dX3_execute_10 : decode cX3_execute 10 = .ok (.iconst 0, 1) := dk_3 (dk_at dksX3_execute_0 10 rfl rfl)
theorem dX3_execute_11 : decode cX3_execute 11 = .ok (.istore_n 1, 1) := dk_60 (dk_at dksX3_execute_0 11 rfl rfl)
theorem dX3_execute_12 : decode cX3_execute 12 = .ok (.iconst 1, 1) := dk_4 (dk_at dksX3_execute_0 12 rfl rfl)
theorem dX3_execute_13 : decode cX3_execute 13 = .ok (.istore_n 2, 1) := dk_61 (dk_at dksX3_execute_0 13 rfl rfl)
theorem dX3_execute_14 : decode cX3_execute 14 = .ok (.iload_n 2, 1) := dk_28 (dk_at dksX3_execute_0 14 rfl rfl)
theorem dX3_execute_15 : decode cX3_execute 15 = .ok (.ifCond .eq 56, 3) := dk_153 0 56 (dk_at dksX3_execute_0 15 rfl rfl)
theorem dX3_execute_18 : decode cX3_execute 18 = .ok (.aload_n 0, 1) := dk_42 (dk_at dksX3_execute_0 18 rfl rfl)
theorem dX3_execute_19 : decode cX3_execute 19 = .ok (.iconst 3, 1) := dk_6 (dk_at dksX3_execute_0 19 rfl rfl)
theorem dX3_execute_20 : decode cX3_execute 20 = .ok (.iload_n 1, 1) := dk_27 (dk_at dksX3_execute_0 20 rfl rfl)
theorem dX3_execute_21 : decode cX3_execute 21 = .ok (.imul, 1) := dk_104 (dk_at dksX3_execute_0 21 rfl rfl)
theorem dX3_execute_22 : decode cX3_execute 22 = .ok (.invokevirtual 211, 3) := dk_182 0 211 (dk_at dksX3_execute_1 0 rfl rfl)
theorem dX3_execute_25 : decode cX3_execute 25 = .ok (.iinc 1 1, 3) := dk_132 1 1 (dk_at dksX3_execute_1 3 rfl rfl)
theorem dX3_execute_28 : decode cX3_execute 28 = .ok (.aload_n 0, 1) := dk_42 (dk_at dksX3_execute_1 6 rfl rfl)
theorem dX3_execute_29 : decode cX3_execute 29 = .ok (.getfield 191, 3) := dk_180 0 191 (dk_at dksX3_execute_1 7 rfl rfl)
theorem dX3_execute_32 : decode cX3_execute 32 = .ok (.ifCond .ne 16, 3) := dk_154 0 16 (dk_at dksX3_execute_1 10 rfl rfl)
theorem dX3_execute_35 : decode cX3_execute 35 = .ok (.aload_n 0, 1) := dk_42 (dk_at dksX3_execute_1 13 rfl rfl)
theorem dX3_execute_36 : decode cX3_execute 36 = .ok (.invokevirtual 195, 3) := dk_182 0 195 (dk_at dksX3_execute_1 14 rfl rfl)
theorem dX3_execute_39 : decode cX3_execute 39 = .ok (.bipush 59, 2) := dk_16 59 (dk_at dksX3_execute_1 17 rfl rfl)
theorem dX3_execute_41 : decode cX3_execute 41 = .ok (.if_icmp .ne 7, 3) := dk_160 0 7 (dk_at dksX3_execute_1 19 rfl rfl)
theorem dX3_execute_44 : decode cX3_execute 44 = .ok (.iconst 1, 1) := dk_4 (dk_at dksX3_execute_1 22 rfl rfl)
theorem dX3_execute_45 : decode cX3_execute 45 = .ok (.goto 4, 3) := dk_167 0 4 (dk_at dksX3_execute_2 0 rfl rfl)
theorem dX3_execute_48 : decode cX3_execute 48 = .ok (.iconst 0, 1) := dk_3 (dk_at dksX3_execute_2 3 rfl rfl)
theorem dX3_execute_49 : decode cX3_execute 49 = .ok (.istore_n 2, 1) := dk_61 (dk_at dksX3_execute_2 4 rfl rfl)
theorem dX3_execute_50 : decode cX3_execute 50 = .ok (.aload_n 0, 1) := dk_42 (dk_at dksX3_execute_2 5 rfl rfl)
theorem dX3_execute_51 : decode cX3_execute 51 = .ok (.dup, 1) := dk_89 (dk_at dksX3_execute_2 6 rfl rfl)
theorem dX3_execute_52 : decode cX3_execute 52 = .ok (.getfield 188, 3) := dk_180 0 188 (dk_at dksX3_execute_2 7 rfl rfl)
theorem dX3_execute_55 : decode cX3_execute 55 = .ok (.iload_n 2, 1) := dk_28 (dk_at dksX3_execute_2 10 rfl rfl)
theorem dX3_execute_56 : decode cX3_execute 56 = .ok (.ifCond .eq 7, 3) := dk_153 0 7 (dk_at dksX3_execute_2 11 rfl rfl)
theorem dX3_execute_59 : decode cX3_execute 59 = .ok (.iconst 1, 1) := dk_4 (dk_at dksX3_execute_2 14 rfl rfl)
theorem dX3_execute_60 : decode cX3_execute 60 = .ok (.goto 4, 3) := dk_167 0 4 (dk_at dksX3_execute_2 15 rfl rfl)
theorem dX3_execute_63 : decode cX3_execute 63 = .ok (.iconst 0, 1) := dk_3 (dk_at dksX3_execute_2 18 rfl rfl)
theorem dX3_execute_64 : decode cX3_execute 64 = .ok (.iadd, 1) := dk_96 (dk_at dksX3_execute_2 19 rfl rfl)
theorem dX3_execute_65 : decode cX3_execute 65 = .ok (.putfield 188, 3) := dk_181 0 188 (dk_at dksX3_execute_2 20 rfl rfl)
theorem dX3_execute_68 : decode cX3_execute 68 = .ok (.goto (-54), 3) := dk_167 255 202 (dk_at dksX3_execute_3 0 rfl rfl)
theorem dX3_execute_71 : decode cX3_execute 71 = .ok (.aload_n 0, 1) := dk_42 (dk_at dksX3_execute_3 3 rfl rfl)
theorem dX3_execute_72 : decode cX3_execute 72 = .ok (.aload_n 0, 1) := dk_42 (dk_at dksX3_execute_3 4 rfl rfl)
theorem dX3_execute_73 : decode cX3_execute 73 = .ok (.getfield 191, 3) := dk_180 0 191 (dk_at dksX3_execute_3 5 rfl rfl)
theorem dX3_execute_76 : decode cX3_execute 76 = .ok (.ifCond .ne 14, 3) := dk_154 0 14 (dk_at dksX3_execute_3 8 rfl rfl)
theorem dX3_execute_79 : decode cX3_execute 79 = .ok (.aload_n 0, 1) := dk_42 (dk_at dksX3_execute_3 11 rfl rfl)
theorem dX3_execute_80 : decode cX3_execute 80 = .ok (.getfield 188, 3) := dk_180 0 188 (dk_at dksX3_execute_3 12 rfl rfl)
theorem dX3_execute_83 : decode cX3_execute 83 = .ok (.aload_n 0, 1) := dk_42 (dk_at dksX3_execute_3 15 rfl rfl)
theorem dX3_execute_84 : decode cX3_execute 84 = .ok (.getfield 185, 3) := dk_180 0 185 (dk_at dksX3_execute_3 16 rfl rfl)
theorem dX3_execute_87 : decode cX3_execute 87 = .ok (.if_icmp .ge 7, 3) := dk_162 0 7 (dk_at dksX3_execute_3 19 rfl rfl)
theorem dX3_execute_90 : decode cX3_execute 90 = .ok (.iconst 1, 1) := dk_4 (dk_at dksX3_execute_3 22 rfl rfl)
theorem dX3_execute_91 : decode cX3_execute 91 = .ok (.goto 4, 3) := dk_167 0 4 (dk_at dksX3_execute_4 0 rfl rfl)
theorem dX3_execute_94 : decode cX3_execute 94 = .ok (.iconst 0, 1) := dk_3 (dk_at dksX3_execute_4 3 rfl rfl)
theorem dX3_execute_95 : decode cX3_execute 95 = .ok (.putfield 191, 3) := dk_181 0 191 (dk_at dksX3_execute_4 4 rfl rfl)
theorem dX3_execute_98 : decode cX3_execute 98 = .ok (.aload_n 0, 1) := dk_42 (dk_at dksX3_execute_4 7 rfl rfl)
theorem dX3_execute_99 : decode cX3_execute 99 = .ok (.iconst 0, 1) := dk_3 (dk_at dksX3_execute_4 8 rfl rfl)
theorem dX3_execute_100 : decode cX3_execute 100 = .ok (.putfield 185, 3) := dk_181 0 185 (dk_at dksX3_execute_4 9 rfl rfl)
theorem dX3_execute_103 : decode cX3_execute 103 = .ok (.aload_n 0, 1) := dk_42 (dk_at dksX3_execute_4 12 rfl rfl)
theorem dX3_execute_104 : decode cX3_execute 104 = .ok (.getfield 191, 3) := dk_180 0 191 (dk_at dksX3_execute_4 13 rfl rfl)
theorem dX3_execute_107 : decode cX3_execute 107 = .ok (.ifCond .eq 17, 3) := dk_153 0 17 (dk_at dksX3_execute_4 16 rfl rfl)
theorem dX3_execute_110 : decode cX3_execute 110 = .ok (.aload_n 0, 1) := dk_42 (dk_at dksX3_execute_4 19 rfl rfl)
theorem dX3_execute_111 : decode cX3_execute 111 = .ok (.aload_n 0, 1) := dk_42 (dk_at dksX3_execute_4 20 rfl rfl)
theorem dX3_execute_112 : decode cX3_execute 112 = .ok (.getfield 188, 3) := dk_180 0 188 (dk_at dksX3_execute_4 21 rfl rfl)
theorem dX3_execute_115 : decode cX3_execute 115 = .ok (.putfield 26, 3) := dk_181 0 26 (dk_at dksX3_execute_5 0 rfl rfl)
theorem dX3_execute_118 : decode cX3_execute 118 = .ok (.aload_n 0, 1) := dk_42 (dk_at dksX3_execute_5 3 rfl rfl)
theorem dX3_execute_119 : decode cX3_execute 119 = .ok (.iconst 1, 1) := dk_4 (dk_at dksX3_execute_5 4 rfl rfl)
theorem dX3_execute_120 : decode cX3_execute 120 = .ok (.invokevirtual 56, 3) := dk_182 0 56 (dk_at dksX3_execute_5 5 rfl rfl)
theorem dX3_execute_123 : decode cX3_execute 123 = .ok (.ireturn, 1) := dk_172 (dk_at dksX3_execute_5 8 rfl rfl)
theorem dX3_execute_124 : decode cX3_execute 124 = .ok (.aload_n 0, 1) := dk_42 (dk_at dksX3_execute_5 9 rfl rfl)
theorem dX3_execute_125 : decode cX3_execute 125 = .ok (.invokevirtual 63, 3) := dk_182 0 63 (dk_at dksX3_execute_5 10 rfl rfl)
theorem dX3_execute_128 : decode cX3_execute 128 = .ok (.iconst 0, 1) := dk_3 (dk_at dksX3_execute_5 13 rfl rfl)
theorem dX3_execute_129 : decode cX3_execute 129 = .ok (.istore_n 3, 1) := dk_62 (dk_at dksX3_execute_5 14 rfl rfl)
theorem dX3_execute_130 : decode cX3_execute 130 = .ok (.iload_n 3, 1) := dk_29 (dk_at dksX3_execute_5 15 rfl rfl)
theorem dX3_execute_131 : decode cX3_execute 131 = .ok (.iload_n 1, 1) := dk_27 (dk_at dksX3_execute_5 16 rfl rfl)
theorem dX3_execute_132 : decode cX3_execute 132 = .ok (.if_icmp .ge 42, 3) := dk_162 0 42 (dk_at dksX3_execute_5 17 rfl rfl)
theorem dX3_execute_135 : decode cX3_execute 135 = .ok (.aload_n 0, 1) := dk_42 (dk_at dksX3_execute_5 20 rfl rfl)
theorem dX3_execute_136 : decode cX3_execute 136 = .ok (.iconst 3, 1) := dk_6 (dk_at dksX3_execute_5 21 rfl rfl)
theorem dX3_execute_137 : decode cX3_execute 137 = .ok (.iload_n 3, 1) := dk_29 (dk_at dksX3_execute_5 22 rfl rfl)
theorem dX3_execute_138 : decode cX3_execute 138 = .ok (.imul, 1) := dk_104 (dk_at dksX3_execute_5 23 rfl rfl)
theorem dX3_execute_139 : decode cX3_execute 139 = .ok (.invokevirtual 214, 3) := dk_182 0 214 (dk_at dksX3_execute_6 0 rfl rfl)
theorem dX3_execute_142 : decode cX3_execute 142 = .ok (.istore 4, 2) := dk_54 4 (dk_at dksX3_execute_6 3 rfl rfl)
theorem dX3_execute_144 : decode cX3_execute 144 = .ok (.aload_n 0, 1) := dk_42 (dk_at dksX3_execute_6 5 rfl rfl)
theorem dX3_execute_145 : decode cX3_execute 145 = .ok (.getfield 42, 3) := dk_180 0 42 (dk_at dksX3_execute_6 6 rfl rfl)
theorem dX3_execute_148 : decode cX3_execute 148 = .ok (.ifCond .eq 20, 3) := dk_153 0 20 (dk_at dksX3_execute_6 9 rfl rfl)
theorem dX3_execute_151 : decode cX3_execute 151 = .ok (.aload_n 0, 1) := dk_42 (dk_at dksX3_execute_6 12 rfl rfl)
theorem dX3_execute_152 : decode cX3_execute 152 = .ok (.iload_n 3, 1) := dk_29 (dk_at dksX3_execute_6 13 rfl rfl)
theorem dX3_execute_153 : decode cX3_execute 153 = .ok (.putfield 30, 3) := dk_181 0 30 (dk_at dksX3_execute_6 14 rfl rfl)
theorem dX3_execute_156 : decode cX3_execute 156 = .ok (.aload_n 0, 1) := dk_42 (dk_at dksX3_execute_6 17 rfl rfl)
theorem dX3_execute_157 : decode cX3_execute 157 = .ok (.iconst 2, 1) := dk_5 (dk_at dksX3_execute_6 18 rfl rfl)
theorem dX3_execute_158 : decode cX3_execute 158 = .ok (.putfield 42, 3) := dk_181 0 42 (dk_at dksX3_execute_6 19 rfl rfl)
theorem dX3_execute_161 : decode cX3_execute 161 = .ok (.aload_n 0, 1) := dk_42 (dk_at dksX3_execute_6 22 rfl rfl)
theorem dX3_execute_162 : decode cX3_execute 162 = .ok (.iload 4, 2) := dk_21 4 (dk_at dksX3_execute_7 0 rfl rfl)
theorem dX3_execute_164 : decode cX3_execute 164 = .ok (.invokevirtual 69, 3) := dk_182 0 69 (dk_at dksX3_execute_7 2 rfl rfl)
theorem dX3_execute_167 : decode cX3_execute 167 = .ok (.ireturn, 1) := dk_172 (dk_at dksX3_execute_7 5 rfl rfl)
theorem dX3_execute_168 : decode cX3_execute 168 = .ok (.iinc 3 1, 3) := dk_132 3 1 (dk_at dksX3_execute_7 6 rfl rfl)
theorem dX3_execute_171 : decode cX3_execute 171 = .ok (.goto (-41), 3) := dk_167 255 215 (dk_at dksX3_execute_7 9 rfl rfl)
theorem dX3_execute_174 : decode cX3_execute 174 = .ok (.aload_n 0, 1) := dk_42 (dk_at dksX3_execute_7 12 rfl rfl)
theorem dX3_execute_175 : decode cX3_execute 175 = .ok (.aload_n 0, 1) := dk_42 (dk_at dksX3_execute_7 13 rfl rfl)
theorem dX3_execute_176 : decode cX3_execute 176 = .ok (.iload_n 1, 1) := dk_27 (dk_at dksX3_execute_7 14 rfl rfl)
theorem dX3_execute_177 : decode cX3_execute 177 = .ok (.invokevirtual 60, 3) := dk_182 0 60 (dk_at dksX3_execute_7 15 rfl rfl)
theorem dX3_execute_180 : decode cX3_execute 180 = .ok (.invokevirtual 69, 3) := dk_182 0 69 (dk_at dksX3_execute_7 18 rfl rfl)
theorem dX3_execute_183 : decode cX3_execute 183 = .ok (.ireturn, 1) := dk_172 (dk_at dksX3_execute_7 21 rfl rfl)
abbrev cX3_parsesCommand : ByteArray := prog_19_method_84_code
def yX3_parsesCommand : MethodName := ⟨RX3, "parsesCommand", "(I)V"⟩
def dkwX3_parsesCommand_10 : List UInt8 := [177]
abbrev dktX3_parsesCommand_10 : List UInt8 := dkwX3_parsesCommand_10 ++ []
def dkwX3_parsesCommand_9 : List UInt8 := [42, 6, 182, 0, 205, 79, 167, 0, 18, 42, 4, 181, 0, 191, 42, 89, 180, 0, 188, 4, 100, 181, 0, 188]
abbrev dktX3_parsesCommand_9 : List UInt8 := dkwX3_parsesCommand_9 ++ dktX3_parsesCommand_10
def dkwX3_parsesCommand_8 : List UInt8 := [182, 0, 205, 79, 167, 0, 44, 42, 16, 105, 16, 99, 16, 107, 182, 0, 201, 42, 180, 0, 39, 27, 4, 96]
abbrev dktX3_parsesCommand_8 : List UInt8 := dkwX3_parsesCommand_8 ++ dktX3_parsesCommand_9
def dkwX3_parsesCommand_7 : List UInt8 := [167, 0, 72, 42, 16, 101, 182, 0, 198, 42, 16, 103, 182, 0, 198, 42, 180, 0, 39, 27, 4, 96, 42, 6]
abbrev dktX3_parsesCommand_7 : List UInt8 := dkwX3_parsesCommand_7 ++ dktX3_parsesCommand_8
def dkwX3_parsesCommand_6 : List UInt8 := [182, 0, 201, 42, 16, 110, 182, 0, 198, 42, 180, 0, 39, 27, 4, 96, 42, 6, 182, 0, 205, 79]
abbrev dktX3_parsesCommand_6 : List UInt8 := dkwX3_parsesCommand_6 ++ dktX3_parsesCommand_7
def dkwX3_parsesCommand_5 : List UInt8 := [182, 0, 208, 167, 0, 114, 42, 16, 114, 16, 105, 16, 99, 182, 0, 201, 42, 16, 116, 16, 105, 16, 111]
abbrev dktX3_parsesCommand_5 : List UInt8 := dkwX3_parsesCommand_5 ++ dktX3_parsesCommand_6
def dkwX3_parsesCommand_4 : List UInt8 := [182, 0, 205, 79, 42, 180, 0, 39, 27, 5, 96, 42, 6, 182, 0, 205, 79, 167, 0, 122, 42, 27]
abbrev dktX3_parsesCommand_4 : List UInt8 := dkwX3_parsesCommand_4 ++ dktX3_parsesCommand_5
def dkwX3_parsesCommand_3 : List UInt8 := [167, 0, 161, 42, 16, 117, 16, 115, 16, 104, 182, 0, 201, 42, 180, 0, 39, 27, 4, 96, 42, 4]
abbrev dktX3_parsesCommand_3 : List UInt8 := dkwX3_parsesCommand_3 ++ dktX3_parsesCommand_4
def dkwX3_parsesCommand_2 : List UInt8 := [42, 16, 97, 16, 110, 16, 103, 182, 0, 201, 42, 180, 0, 39, 27, 4, 96, 42, 6, 182, 0, 205, 79]
abbrev dktX3_parsesCommand_2 : List UInt8 := dkwX3_parsesCommand_2 ++ dktX3_parsesCommand_3
def dkwX3_parsesCommand_1 : List UInt8 := [170, 0, 0, 0, 254, 0, 0, 0, 99, 0, 0, 0, 116, 0, 0, 0, 150, 0, 0, 0, 254, 0, 0, 0, 254, 0, 0, 0, 158, 0, 0, 0, 254, 0, 0, 0, 85, 0, 0, 0, 254, 0, 0, 0, 254, 0, 0, 0, 254, 0, 0, 0, 200, 0, 0, 0, 254, 0, 0, 0, 254, 0, 0, 0, 254, 0, 0, 0, 111, 0, 0, 0, 254, 0, 0, 0, 254, 0, 0, 0, 254, 0, 0, 0, 228]
abbrev dktX3_parsesCommand_1 : List UInt8 := dkwX3_parsesCommand_1 ++ dktX3_parsesCommand_2
def dkwX3_parsesCommand_0 : List UInt8 := [42, 182, 0, 195, 61, 42, 89, 180, 0, 188, 4, 96, 181, 0, 188, 42, 180, 0, 39, 27, 28, 79, 28]
abbrev dktX3_parsesCommand_0 : List UInt8 := dkwX3_parsesCommand_0 ++ dktX3_parsesCommand_1
theorem dksX3_parsesCommand_0 : cX3_parsesCommand.data.toList.drop 0 = dktX3_parsesCommand_0 := by decide +kernel
theorem dksX3_parsesCommand_1 : cX3_parsesCommand.data.toList.drop 23 = dktX3_parsesCommand_1 := dk_seg dksX3_parsesCommand_0 23 rfl rfl
theorem dksX3_parsesCommand_2 : cX3_parsesCommand.data.toList.drop 108 = dktX3_parsesCommand_2 := dk_seg dksX3_parsesCommand_1 85 rfl rfl
theorem dksX3_parsesCommand_3 : cX3_parsesCommand.data.toList.drop 131 = dktX3_parsesCommand_3 := dk_seg dksX3_parsesCommand_2 23 rfl rfl
theorem dksX3_parsesCommand_4 : cX3_parsesCommand.data.toList.drop 153 = dktX3_parsesCommand_4 := dk_seg dksX3_parsesCommand_3 22 rfl rfl
theorem dksX3_parsesCommand_5 : cX3_parsesCommand.data.toList.drop 175 = dktX3_parsesCommand_5 := dk_seg dksX3_parsesCommand_4 22 rfl rfl
theorem dksX3_parsesCommand_6 : cX3_parsesCommand.data.toList.drop 198 = dktX3_parsesCommand_6 := dk_seg dksX3_parsesCommand_5 23 rfl rfl
theorem dksX3_parsesCommand_7 : cX3_parsesCommand.data.toList.drop 220 = dktX3_parsesCommand_7 := dk_seg dksX3_parsesCommand_6 22 rfl rfl
theorem dksX3_parsesCommand_8 : cX3_parsesCommand.data.toList.drop 244 = dktX3_parsesCommand_8 := dk_seg dksX3_parsesCommand_7 24 rfl rfl
theorem dksX3_parsesCommand_9 : cX3_parsesCommand.data.toList.drop 268 = dktX3_parsesCommand_9 := dk_seg dksX3_parsesCommand_8 24 rfl rfl
theorem dksX3_parsesCommand_10 : cX3_parsesCommand.data.toList.drop 292 = dktX3_parsesCommand_10 := dk_seg dksX3_parsesCommand_9 24 rfl rfl
theorem dX3_parsesCommand_0 : decode cX3_parsesCommand 0 = .ok (.aload_n 0, 1) := dk_42 (dk_at dksX3_parsesCommand_0 0 rfl rfl)
theorem dX3_parsesCommand_1 : decode cX3_parsesCommand 1 = .ok (.invokevirtual 195, 3) := dk_182 0 195 (dk_at dksX3_parsesCommand_0 1 rfl rfl)
theorem dX3_parsesCommand_4 : decode cX3_parsesCommand 4 = .ok (.istore_n 2, 1) := dk_61 (dk_at dksX3_parsesCommand_0 4 rfl rfl)
theorem dX3_parsesCommand_5 : decode cX3_parsesCommand 5 = .ok (.aload_n 0, 1) := dk_42 (dk_at dksX3_parsesCommand_0 5 rfl rfl)
theorem dX3_parsesCommand_6 : decode cX3_parsesCommand 6 = .ok (.dup, 1) := dk_89 (dk_at dksX3_parsesCommand_0 6 rfl rfl)
theorem dX3_parsesCommand_7 : decode cX3_parsesCommand 7 = .ok (.getfield 188, 3) := dk_180 0 188 (dk_at dksX3_parsesCommand_0 7 rfl rfl)
theorem dX3_parsesCommand_10 : decode cX3_parsesCommand 10 = .ok (.iconst 1, 1) := dk_4 (dk_at dksX3_parsesCommand_0 10 rfl rfl)
theorem dX3_parsesCommand_11 : decode cX3_parsesCommand 11 = .ok (.iadd, 1) := dk_96 (dk_at dksX3_parsesCommand_0 11 rfl rfl)
theorem dX3_parsesCommand_12 : decode cX3_parsesCommand 12 = .ok (.putfield 188, 3) := dk_181 0 188 (dk_at dksX3_parsesCommand_0 12 rfl rfl)
theorem dX3_parsesCommand_15 : decode cX3_parsesCommand 15 = .ok (.aload_n 0, 1) := dk_42 (dk_at dksX3_parsesCommand_0 15 rfl rfl)
theorem dX3_parsesCommand_16 : decode cX3_parsesCommand 16 = .ok (.getfield 39, 3) := dk_180 0 39 (dk_at dksX3_parsesCommand_0 16 rfl rfl)
theorem dX3_parsesCommand_19 : decode cX3_parsesCommand 19 = .ok (.iload_n 1, 1) := dk_27 (dk_at dksX3_parsesCommand_0 19 rfl rfl)
theorem dX3_parsesCommand_20 : decode cX3_parsesCommand 20 = .ok (.iload_n 2, 1) := dk_28 (dk_at dksX3_parsesCommand_0 20 rfl rfl)
theorem dX3_parsesCommand_21 : decode cX3_parsesCommand 21 = .ok (.iastore, 1) := dk_79 (dk_at dksX3_parsesCommand_0 21 rfl rfl)
theorem dX3_parsesCommand_22 : decode cX3_parsesCommand 22 = .ok (.iload_n 2, 1) := dk_28 (dk_at dksX3_parsesCommand_0 22 rfl rfl)
theorem dX3_parsesCommand_23 : decode cX3_parsesCommand 23 = .ok (.tableswitch 254 99 116 #[150, 254, 254, 158, 254, 85, 254, 254, 254, 200, 254, 254, 254, 111, 254, 254, 254, 228], 85) := by decide +kernel
theorem dX3_parsesCommand_108 : decode cX3_parsesCommand 108 = .ok (.aload_n 0, 1) := dk_42 (dk_at dksX3_parsesCommand_2 0 rfl rfl)
theorem dX3_parsesCommand_109 : decode cX3_parsesCommand 109 = .ok (.bipush 97, 2) := dk_16 97 (dk_at dksX3_parsesCommand_2 1 rfl rfl)
theorem dX3_parsesCommand_111 : decode cX3_parsesCommand 111 = .ok (.bipush 110, 2) := dk_16 110 (dk_at dksX3_parsesCommand_2 3 rfl rfl)
theorem dX3_parsesCommand_113 : decode cX3_parsesCommand 113 = .ok (.bipush 103, 2) := dk_16 103 (dk_at dksX3_parsesCommand_2 5 rfl rfl)
theorem dX3_parsesCommand_115 : decode cX3_parsesCommand 115 = .ok (.invokevirtual 201, 3) := dk_182 0 201 (dk_at dksX3_parsesCommand_2 7 rfl rfl)
theorem dX3_parsesCommand_118 : decode cX3_parsesCommand 118 = .ok (.aload_n 0, 1) := dk_42 (dk_at dksX3_parsesCommand_2 10 rfl rfl)
theorem dX3_parsesCommand_119 : decode cX3_parsesCommand 119 = .ok (.getfield 39, 3) := dk_180 0 39 (dk_at dksX3_parsesCommand_2 11 rfl rfl)
theorem dX3_parsesCommand_122 : decode cX3_parsesCommand 122 = .ok (.iload_n 1, 1) := dk_27 (dk_at dksX3_parsesCommand_2 14 rfl rfl)
theorem dX3_parsesCommand_123 : decode cX3_parsesCommand 123 = .ok (.iconst 1, 1) := dk_4 (dk_at dksX3_parsesCommand_2 15 rfl rfl)
theorem dX3_parsesCommand_124 : decode cX3_parsesCommand 124 = .ok (.iadd, 1) := dk_96 (dk_at dksX3_parsesCommand_2 16 rfl rfl)
theorem dX3_parsesCommand_125 : decode cX3_parsesCommand 125 = .ok (.aload_n 0, 1) := dk_42 (dk_at dksX3_parsesCommand_2 17 rfl rfl)
theorem dX3_parsesCommand_126 : decode cX3_parsesCommand 126 = .ok (.iconst 3, 1) := dk_6 (dk_at dksX3_parsesCommand_2 18 rfl rfl)
theorem dX3_parsesCommand_127 : decode cX3_parsesCommand 127 = .ok (.invokevirtual 205, 3) := dk_182 0 205 (dk_at dksX3_parsesCommand_2 19 rfl rfl)
theorem dX3_parsesCommand_130 : decode cX3_parsesCommand 130 = .ok (.iastore, 1) := dk_79 (dk_at dksX3_parsesCommand_2 22 rfl rfl)
theorem dX3_parsesCommand_131 : decode cX3_parsesCommand 131 = .ok (.goto 161, 3) := dk_167 0 161 (dk_at dksX3_parsesCommand_3 0 rfl rfl)
theorem dX3_parsesCommand_134 : decode cX3_parsesCommand 134 = .ok (.aload_n 0, 1) := dk_42 (dk_at dksX3_parsesCommand_3 3 rfl rfl)
theorem dX3_parsesCommand_135 : decode cX3_parsesCommand 135 = .ok (.bipush 117, 2) := dk_16 117 (dk_at dksX3_parsesCommand_3 4 rfl rfl)
theorem dX3_parsesCommand_137 : decode cX3_parsesCommand 137 = .ok (.bipush 115, 2) := dk_16 115 (dk_at dksX3_parsesCommand_3 6 rfl rfl)
theorem dX3_parsesCommand_139 : decode cX3_parsesCommand 139 = .ok (.bipush 104, 2) := dk_16 104 (dk_at dksX3_parsesCommand_3 8 rfl rfl)
theorem dX3_parsesCommand_141 : decode cX3_parsesCommand 141 = .ok (.invokevirtual 201, 3) := dk_182 0 201 (dk_at dksX3_parsesCommand_3 10 rfl rfl)
theorem dX3_parsesCommand_144 : decode cX3_parsesCommand 144 = .ok (.aload_n 0, 1) := dk_42 (dk_at dksX3_parsesCommand_3 13 rfl rfl)
theorem dX3_parsesCommand_145 : decode cX3_parsesCommand 145 = .ok (.getfield 39, 3) := dk_180 0 39 (dk_at dksX3_parsesCommand_3 14 rfl rfl)
theorem dX3_parsesCommand_148 : decode cX3_parsesCommand 148 = .ok (.iload_n 1, 1) := dk_27 (dk_at dksX3_parsesCommand_3 17 rfl rfl)
theorem dX3_parsesCommand_149 : decode cX3_parsesCommand 149 = .ok (.iconst 1, 1) := dk_4 (dk_at dksX3_parsesCommand_3 18 rfl rfl)
theorem dX3_parsesCommand_150 : decode cX3_parsesCommand 150 = .ok (.iadd, 1) := dk_96 (dk_at dksX3_parsesCommand_3 19 rfl rfl)
theorem dX3_parsesCommand_151 : decode cX3_parsesCommand 151 = .ok (.aload_n 0, 1) := dk_42 (dk_at dksX3_parsesCommand_3 20 rfl rfl)
theorem dX3_parsesCommand_152 : decode cX3_parsesCommand 152 = .ok (.iconst 1, 1) := dk_4 (dk_at dksX3_parsesCommand_3 21 rfl rfl)
theorem dX3_parsesCommand_153 : decode cX3_parsesCommand 153 = .ok (.invokevirtual 205, 3) := dk_182 0 205 (dk_at dksX3_parsesCommand_4 0 rfl rfl)
theorem dX3_parsesCommand_156 : decode cX3_parsesCommand 156 = .ok (.iastore, 1) := dk_79 (dk_at dksX3_parsesCommand_4 3 rfl rfl)
theorem dX3_parsesCommand_157 : decode cX3_parsesCommand 157 = .ok (.aload_n 0, 1) := dk_42 (dk_at dksX3_parsesCommand_4 4 rfl rfl)
theorem dX3_parsesCommand_158 : decode cX3_parsesCommand 158 = .ok (.getfield 39, 3) := dk_180 0 39 (dk_at dksX3_parsesCommand_4 5 rfl rfl)
theorem dX3_parsesCommand_161 : decode cX3_parsesCommand 161 = .ok (.iload_n 1, 1) := dk_27 (dk_at dksX3_parsesCommand_4 8 rfl rfl)
theorem dX3_parsesCommand_162 : decode cX3_parsesCommand 162 = .ok (.iconst 2, 1) := dk_5 (dk_at dksX3_parsesCommand_4 9 rfl rfl)
theorem dX3_parsesCommand_163 : decode cX3_parsesCommand 163 = .ok (.iadd, 1) := dk_96 (dk_at dksX3_parsesCommand_4 10 rfl rfl)
theorem dX3_parsesCommand_164 : decode cX3_parsesCommand 164 = .ok (.aload_n 0, 1) := dk_42 (dk_at dksX3_parsesCommand_4 11 rfl rfl)
theorem dX3_parsesCommand_165 : decode cX3_parsesCommand 165 = .ok (.iconst 3, 1) := dk_6 (dk_at dksX3_parsesCommand_4 12 rfl rfl)
theorem dX3_parsesCommand_166 : decode cX3_parsesCommand 166 = .ok (.invokevirtual 205, 3) := dk_182 0 205 (dk_at dksX3_parsesCommand_4 13 rfl rfl)
theorem dX3_parsesCommand_169 : decode cX3_parsesCommand 169 = .ok (.iastore, 1) := dk_79 (dk_at dksX3_parsesCommand_4 16 rfl rfl)
theorem dX3_parsesCommand_170 : decode cX3_parsesCommand 170 = .ok (.goto 122, 3) := dk_167 0 122 (dk_at dksX3_parsesCommand_4 17 rfl rfl)
theorem dX3_parsesCommand_173 : decode cX3_parsesCommand 173 = .ok (.aload_n 0, 1) := dk_42 (dk_at dksX3_parsesCommand_4 20 rfl rfl)
theorem dX3_parsesCommand_174 : decode cX3_parsesCommand 174 = .ok (.iload_n 1, 1) := dk_27 (dk_at dksX3_parsesCommand_4 21 rfl rfl)
theorem dX3_parsesCommand_175 : decode cX3_parsesCommand 175 = .ok (.invokevirtual 208, 3) := dk_182 0 208 (dk_at dksX3_parsesCommand_5 0 rfl rfl)
theorem dX3_parsesCommand_178 : decode cX3_parsesCommand 178 = .ok (.goto 114, 3) := dk_167 0 114 (dk_at dksX3_parsesCommand_5 3 rfl rfl)
theorem dX3_parsesCommand_181 : decode cX3_parsesCommand 181 = .ok (.aload_n 0, 1) := dk_42 (dk_at dksX3_parsesCommand_5 6 rfl rfl)
theorem dX3_parsesCommand_182 : decode cX3_parsesCommand 182 = .ok (.bipush 114, 2) := dk_16 114 (dk_at dksX3_parsesCommand_5 7 rfl rfl)
theorem dX3_parsesCommand_184 : decode cX3_parsesCommand 184 = .ok (.bipush 105, 2) := dk_16 105 (dk_at dksX3_parsesCommand_5 9 rfl rfl)
theorem dX3_parsesCommand_186 : decode cX3_parsesCommand 186 = .ok (.bipush 99, 2) := dk_16 99 (dk_at dksX3_parsesCommand_5 11 rfl rfl)
theorem dX3_parsesCommand_188 : decode cX3_parsesCommand 188 = .ok (.invokevirtual 201, 3) := dk_182 0 201 (dk_at dksX3_parsesCommand_5 13 rfl rfl)
theorem dX3_parsesCommand_191 : decode cX3_parsesCommand 191 = .ok (.aload_n 0, 1) := dk_42 (dk_at dksX3_parsesCommand_5 16 rfl rfl)
theorem dX3_parsesCommand_192 : decode cX3_parsesCommand 192 = .ok (.bipush 116, 2) := dk_16 116 (dk_at dksX3_parsesCommand_5 17 rfl rfl)
theorem dX3_parsesCommand_194 : decode cX3_parsesCommand 194 = .ok (.bipush 105, 2) := dk_16 105 (dk_at dksX3_parsesCommand_5 19 rfl rfl)
theorem dX3_parsesCommand_196 : decode cX3_parsesCommand 196 = .ok (.bipush 111, 2) := dk_16 111 (dk_at dksX3_parsesCommand_5 21 rfl rfl)
theorem dX3_parsesCommand_198 : decode cX3_parsesCommand 198 = .ok (.invokevirtual 201, 3) := dk_182 0 201 (dk_at dksX3_parsesCommand_6 0 rfl rfl)
theorem dX3_parsesCommand_201 : decode cX3_parsesCommand 201 = .ok (.aload_n 0, 1) := dk_42 (dk_at dksX3_parsesCommand_6 3 rfl rfl)
theorem dX3_parsesCommand_202 : decode cX3_parsesCommand 202 = .ok (.bipush 110, 2) := dk_16 110 (dk_at dksX3_parsesCommand_6 4 rfl rfl)
theorem dX3_parsesCommand_204 : decode cX3_parsesCommand 204 = .ok (.invokevirtual 198, 3) := dk_182 0 198 (dk_at dksX3_parsesCommand_6 6 rfl rfl)
theorem dX3_parsesCommand_207 : decode cX3_parsesCommand 207 = .ok (.aload_n 0, 1) := dk_42 (dk_at dksX3_parsesCommand_6 9 rfl rfl)
theorem dX3_parsesCommand_208 : decode cX3_parsesCommand 208 = .ok (.getfield 39, 3) := dk_180 0 39 (dk_at dksX3_parsesCommand_6 10 rfl rfl)
theorem dX3_parsesCommand_211 : decode cX3_parsesCommand 211 = .ok (.iload_n 1, 1) := dk_27 (dk_at dksX3_parsesCommand_6 13 rfl rfl)
theorem dX3_parsesCommand_212 : decode cX3_parsesCommand 212 = .ok (.iconst 1, 1) := dk_4 (dk_at dksX3_parsesCommand_6 14 rfl rfl)
theorem dX3_parsesCommand_213 : decode cX3_parsesCommand 213 = .ok (.iadd, 1) := dk_96 (dk_at dksX3_parsesCommand_6 15 rfl rfl)
theorem dX3_parsesCommand_214 : decode cX3_parsesCommand 214 = .ok (.aload_n 0, 1) := dk_42 (dk_at dksX3_parsesCommand_6 16 rfl rfl)
theorem dX3_parsesCommand_215 : decode cX3_parsesCommand 215 = .ok (.iconst 3, 1) := dk_6 (dk_at dksX3_parsesCommand_6 17 rfl rfl)
theorem dX3_parsesCommand_216 : decode cX3_parsesCommand 216 = .ok (.invokevirtual 205, 3) := dk_182 0 205 (dk_at dksX3_parsesCommand_6 18 rfl rfl)
theorem dX3_parsesCommand_219 : decode cX3_parsesCommand 219 = .ok (.iastore, 1) := dk_79 (dk_at dksX3_parsesCommand_6 21 rfl rfl)
theorem dX3_parsesCommand_220 : decode cX3_parsesCommand 220 = .ok (.goto 72, 3) := dk_167 0 72 (dk_at dksX3_parsesCommand_7 0 rfl rfl)
theorem dX3_parsesCommand_223 : decode cX3_parsesCommand 223 = .ok (.aload_n 0, 1) := dk_42 (dk_at dksX3_parsesCommand_7 3 rfl rfl)
theorem dX3_parsesCommand_224 : decode cX3_parsesCommand 224 = .ok (.bipush 101, 2) := dk_16 101 (dk_at dksX3_parsesCommand_7 4 rfl rfl)
theorem dX3_parsesCommand_226 : decode cX3_parsesCommand 226 = .ok (.invokevirtual 198, 3) := dk_182 0 198 (dk_at dksX3_parsesCommand_7 6 rfl rfl)
theorem dX3_parsesCommand_229 : decode cX3_parsesCommand 229 = .ok (.aload_n 0, 1) := dk_42 (dk_at dksX3_parsesCommand_7 9 rfl rfl)
theorem dX3_parsesCommand_230 : decode cX3_parsesCommand 230 = .ok (.bipush 103, 2) := dk_16 103 (dk_at dksX3_parsesCommand_7 10 rfl rfl)
theorem dX3_parsesCommand_232 : decode cX3_parsesCommand 232 = .ok (.invokevirtual 198, 3) := dk_182 0 198 (dk_at dksX3_parsesCommand_7 12 rfl rfl)
theorem dX3_parsesCommand_235 : decode cX3_parsesCommand 235 = .ok (.aload_n 0, 1) := dk_42 (dk_at dksX3_parsesCommand_7 15 rfl rfl)
theorem dX3_parsesCommand_236 : decode cX3_parsesCommand 236 = .ok (.getfield 39, 3) := dk_180 0 39 (dk_at dksX3_parsesCommand_7 16 rfl rfl)
theorem dX3_parsesCommand_239 : decode cX3_parsesCommand 239 = .ok (.iload_n 1, 1) := dk_27 (dk_at dksX3_parsesCommand_7 19 rfl rfl)
theorem dX3_parsesCommand_240 : decode cX3_parsesCommand 240 = .ok (.iconst 1, 1) := dk_4 (dk_at dksX3_parsesCommand_7 20 rfl rfl)
theorem dX3_parsesCommand_241 : decode cX3_parsesCommand 241 = .ok (.iadd, 1) := dk_96 (dk_at dksX3_parsesCommand_7 21 rfl rfl)
theorem dX3_parsesCommand_242 : decode cX3_parsesCommand 242 = .ok (.aload_n 0, 1) := dk_42 (dk_at dksX3_parsesCommand_7 22 rfl rfl)
theorem dX3_parsesCommand_243 : decode cX3_parsesCommand 243 = .ok (.iconst 3, 1) := dk_6 (dk_at dksX3_parsesCommand_7 23 rfl rfl)
theorem dX3_parsesCommand_244 : decode cX3_parsesCommand 244 = .ok (.invokevirtual 205, 3) := dk_182 0 205 (dk_at dksX3_parsesCommand_8 0 rfl rfl)
theorem dX3_parsesCommand_247 : decode cX3_parsesCommand 247 = .ok (.iastore, 1) := dk_79 (dk_at dksX3_parsesCommand_8 3 rfl rfl)
theorem dX3_parsesCommand_248 : decode cX3_parsesCommand 248 = .ok (.goto 44, 3) := dk_167 0 44 (dk_at dksX3_parsesCommand_8 4 rfl rfl)
theorem dX3_parsesCommand_251 : decode cX3_parsesCommand 251 = .ok (.aload_n 0, 1) := dk_42 (dk_at dksX3_parsesCommand_8 7 rfl rfl)
theorem dX3_parsesCommand_252 : decode cX3_parsesCommand 252 = .ok (.bipush 105, 2) := dk_16 105 (dk_at dksX3_parsesCommand_8 8 rfl rfl)
theorem dX3_parsesCommand_254 : decode cX3_parsesCommand 254 = .ok (.bipush 99, 2) := dk_16 99 (dk_at dksX3_parsesCommand_8 10 rfl rfl)
theorem dX3_parsesCommand_256 : decode cX3_parsesCommand 256 = .ok (.bipush 107, 2) := dk_16 107 (dk_at dksX3_parsesCommand_8 12 rfl rfl)
theorem dX3_parsesCommand_258 : decode cX3_parsesCommand 258 = .ok (.invokevirtual 201, 3) := dk_182 0 201 (dk_at dksX3_parsesCommand_8 14 rfl rfl)
theorem dX3_parsesCommand_261 : decode cX3_parsesCommand 261 = .ok (.aload_n 0, 1) := dk_42 (dk_at dksX3_parsesCommand_8 17 rfl rfl)
theorem dX3_parsesCommand_262 : decode cX3_parsesCommand 262 = .ok (.getfield 39, 3) := dk_180 0 39 (dk_at dksX3_parsesCommand_8 18 rfl rfl)
theorem dX3_parsesCommand_265 : decode cX3_parsesCommand 265 = .ok (.iload_n 1, 1) := dk_27 (dk_at dksX3_parsesCommand_8 21 rfl rfl)
theorem dX3_parsesCommand_266 : decode cX3_parsesCommand 266 = .ok (.iconst 1, 1) := dk_4 (dk_at dksX3_parsesCommand_8 22 rfl rfl)
theorem dX3_parsesCommand_267 : decode cX3_parsesCommand 267 = .ok (.iadd, 1) := dk_96 (dk_at dksX3_parsesCommand_8 23 rfl rfl)
theorem dX3_parsesCommand_268 : decode cX3_parsesCommand 268 = .ok (.aload_n 0, 1) := dk_42 (dk_at dksX3_parsesCommand_9 0 rfl rfl)
theorem dX3_parsesCommand_269 : decode cX3_parsesCommand 269 = .ok (.iconst 3, 1) := dk_6 (dk_at dksX3_parsesCommand_9 1 rfl rfl)
theorem dX3_parsesCommand_270 : decode cX3_parsesCommand 270 = .ok (.invokevirtual 205, 3) := dk_182 0 205 (dk_at dksX3_parsesCommand_9 2 rfl rfl)
theorem dX3_parsesCommand_273 : decode cX3_parsesCommand 273 = .ok (.iastore, 1) := dk_79 (dk_at dksX3_parsesCommand_9 5 rfl rfl)
theorem dX3_parsesCommand_274 : decode cX3_parsesCommand 274 = .ok (.goto 18, 3) := dk_167 0 18 (dk_at dksX3_parsesCommand_9 6 rfl rfl)
theorem dX3_parsesCommand_277 : decode cX3_parsesCommand 277 = .ok (.aload_n 0, 1) := dk_42 (dk_at dksX3_parsesCommand_9 9 rfl rfl)
theorem dX3_parsesCommand_278 : decode cX3_parsesCommand 278 = .ok (.iconst 1, 1) := dk_4 (dk_at dksX3_parsesCommand_9 10 rfl rfl)
theorem dX3_parsesCommand_279 : decode cX3_parsesCommand 279 = .ok (.putfield 191, 3) := dk_181 0 191 (dk_at dksX3_parsesCommand_9 11 rfl rfl)
theorem dX3_parsesCommand_282 : decode cX3_parsesCommand 282 = .ok (.aload_n 0, 1) := dk_42 (dk_at dksX3_parsesCommand_9 14 rfl rfl)
theorem dX3_parsesCommand_283 : decode cX3_parsesCommand 283 = .ok (.dup, 1) := dk_89 (dk_at dksX3_parsesCommand_9 15 rfl rfl)
theorem dX3_parsesCommand_284 : decode cX3_parsesCommand 284 = .ok (.getfield 188, 3) := dk_180 0 188 (dk_at dksX3_parsesCommand_9 16 rfl rfl)
theorem dX3_parsesCommand_287 : decode cX3_parsesCommand 287 = .ok (.iconst 1, 1) := dk_4 (dk_at dksX3_parsesCommand_9 19 rfl rfl)
theorem dX3_parsesCommand_288 : decode cX3_parsesCommand 288 = .ok (.isub, 1) := dk_100 (dk_at dksX3_parsesCommand_9 20 rfl rfl)
theorem dX3_parsesCommand_289 : decode cX3_parsesCommand 289 = .ok (.putfield 188, 3) := dk_181 0 188 (dk_at dksX3_parsesCommand_9 21 rfl rfl)
theorem dX3_parsesCommand_292 : decode cX3_parsesCommand 292 = .ok (.return_, 1) := dk_177 (dk_at dksX3_parsesCommand_10 0 rfl rfl)
abbrev cX3_here : ByteArray := prog_19_method_79_code
def yX3_here : MethodName := ⟨RX3, "here", "()I"⟩
def dkwX3_here_1 : List UInt8 := [172]
abbrev dktX3_here_1 : List UInt8 := dkwX3_here_1 ++ []
def dkwX3_here_0 : List UInt8 := [42, 180, 0, 188, 42, 180, 0, 185, 162, 0, 15, 42, 180, 0, 22, 42, 180, 0, 188, 52, 167, 0, 4, 2]
abbrev dktX3_here_0 : List UInt8 := dkwX3_here_0 ++ dktX3_here_1
theorem dksX3_here_0 : cX3_here.data.toList.drop 0 = dktX3_here_0 := by decide +kernel
theorem dksX3_here_1 : cX3_here.data.toList.drop 24 = dktX3_here_1 := dk_seg dksX3_here_0 24 rfl rfl
theorem dX3_here_0 : decode cX3_here 0 = .ok (.aload_n 0, 1) := dk_42 (dk_at dksX3_here_0 0 rfl rfl)
theorem dX3_here_1 : decode cX3_here 1 = .ok (.getfield 188, 3) := dk_180 0 188 (dk_at dksX3_here_0 1 rfl rfl)
theorem dX3_here_4 : decode cX3_here 4 = .ok (.aload_n 0, 1) := dk_42 (dk_at dksX3_here_0 4 rfl rfl)
theorem dX3_here_5 : decode cX3_here 5 = .ok (.getfield 185, 3) := dk_180 0 185 (dk_at dksX3_here_0 5 rfl rfl)
theorem dX3_here_8 : decode cX3_here 8 = .ok (.if_icmp .ge 15, 3) := dk_162 0 15 (dk_at dksX3_here_0 8 rfl rfl)
theorem dX3_here_11 : decode cX3_here 11 = .ok (.aload_n 0, 1) := dk_42 (dk_at dksX3_here_0 11 rfl rfl)
theorem dX3_here_12 : decode cX3_here 12 = .ok (.getfield 22, 3) := dk_180 0 22 (dk_at dksX3_here_0 12 rfl rfl)
theorem dX3_here_15 : decode cX3_here 15 = .ok (.aload_n 0, 1) := dk_42 (dk_at dksX3_here_0 15 rfl rfl)
theorem dX3_here_16 : decode cX3_here 16 = .ok (.getfield 188, 3) := dk_180 0 188 (dk_at dksX3_here_0 16 rfl rfl)
theorem dX3_here_19 : decode cX3_here 19 = .ok (.caload, 1) := dk_52 (dk_at dksX3_here_0 19 rfl rfl)
theorem dX3_here_20 : decode cX3_here 20 = .ok (.goto 4, 3) := dk_167 0 4 (dk_at dksX3_here_0 20 rfl rfl)
theorem dX3_here_23 : decode cX3_here 23 = .ok (.iconst (-1), 1) := dk_2 (dk_at dksX3_here_0 23 rfl rfl)
theorem dX3_here_24 : decode cX3_here 24 = .ok (.ireturn, 1) := dk_172 (dk_at dksX3_here_1 0 rfl rfl)
abbrev cX3_needsThree : ByteArray := prog_19_method_81_code
def yX3_needsThree : MethodName := ⟨RX3, "needsThree", "(III)V"⟩
def dkwX3_needsThree_0 : List UInt8 := [42, 27, 182, 0, 198, 42, 28, 182, 0, 198, 42, 29, 182, 0, 198, 177]
abbrev dktX3_needsThree_0 : List UInt8 := dkwX3_needsThree_0 ++ []
theorem dksX3_needsThree_0 : cX3_needsThree.data.toList.drop 0 = dktX3_needsThree_0 := by decide +kernel
theorem dX3_needsThree_0 : decode cX3_needsThree 0 = .ok (.aload_n 0, 1) := dk_42 (dk_at dksX3_needsThree_0 0 rfl rfl)
theorem dX3_needsThree_1 : decode cX3_needsThree 1 = .ok (.iload_n 1, 1) := dk_27 (dk_at dksX3_needsThree_0 1 rfl rfl)
theorem dX3_needsThree_2 : decode cX3_needsThree 2 = .ok (.invokevirtual 198, 3) := dk_182 0 198 (dk_at dksX3_needsThree_0 2 rfl rfl)
theorem dX3_needsThree_5 : decode cX3_needsThree 5 = .ok (.aload_n 0, 1) := dk_42 (dk_at dksX3_needsThree_0 5 rfl rfl)
theorem dX3_needsThree_6 : decode cX3_needsThree 6 = .ok (.iload_n 2, 1) := dk_28 (dk_at dksX3_needsThree_0 6 rfl rfl)
theorem dX3_needsThree_7 : decode cX3_needsThree 7 = .ok (.invokevirtual 198, 3) := dk_182 0 198 (dk_at dksX3_needsThree_0 7 rfl rfl)
theorem dX3_needsThree_10 : decode cX3_needsThree 10 = .ok (.aload_n 0, 1) := dk_42 (dk_at dksX3_needsThree_0 10 rfl rfl)
theorem dX3_needsThree_11 : decode cX3_needsThree 11 = .ok (.iload_n 3, 1) := dk_29 (dk_at dksX3_needsThree_0 11 rfl rfl)
theorem dX3_needsThree_12 : decode cX3_needsThree 12 = .ok (.invokevirtual 198, 3) := dk_182 0 198 (dk_at dksX3_needsThree_0 12 rfl rfl)
theorem dX3_needsThree_15 : decode cX3_needsThree 15 = .ok (.return_, 1) := dk_177 (dk_at dksX3_needsThree_0 15 rfl rfl)
abbrev cX3_needs : ByteArray := prog_19_method_80_code
def yX3_needs : MethodName := ⟨RX3, "needs", "(I)V"⟩
def dkwX3_needs_1 : List UInt8 := [42, 89, 180, 0, 188, 42, 180, 0, 191, 153, 0, 7, 3, 167, 0, 4, 4, 96, 181, 0, 188, 177]
abbrev dktX3_needs_1 : List UInt8 := dkwX3_needs_1 ++ []
def dkwX3_needs_0 : List UInt8 := [42, 42, 180, 0, 191, 154, 0, 11, 42, 182, 0, 195, 27, 159, 0, 7, 4, 167, 0, 4, 3, 181, 0, 191]
abbrev dktX3_needs_0 : List UInt8 := dkwX3_needs_0 ++ dktX3_needs_1
theorem dksX3_needs_0 : cX3_needs.data.toList.drop 0 = dktX3_needs_0 := by decide +kernel
theorem dksX3_needs_1 : cX3_needs.data.toList.drop 24 = dktX3_needs_1 := dk_seg dksX3_needs_0 24 rfl rfl
theorem dX3_needs_0 : decode cX3_needs 0 = .ok (.aload_n 0, 1) := dk_42 (dk_at dksX3_needs_0 0 rfl rfl)
theorem dX3_needs_1 : decode cX3_needs 1 = .ok (.aload_n 0, 1) := dk_42 (dk_at dksX3_needs_0 1 rfl rfl)
theorem dX3_needs_2 : decode cX3_needs 2 = .ok (.getfield 191, 3) := dk_180 0 191 (dk_at dksX3_needs_0 2 rfl rfl)
theorem dX3_needs_5 : decode cX3_needs 5 = .ok (.ifCond .ne 11, 3) := dk_154 0 11 (dk_at dksX3_needs_0 5 rfl rfl)
theorem dX3_needs_8 : decode cX3_needs 8 = .ok (.aload_n 0, 1) := dk_42 (dk_at dksX3_needs_0 8 rfl rfl)
theorem dX3_needs_9 : decode cX3_needs 9 = .ok (.invokevirtual 195, 3) := dk_182 0 195 (dk_at dksX3_needs_0 9 rfl rfl)
theorem dX3_needs_12 : decode cX3_needs 12 = .ok (.iload_n 1, 1) := dk_27 (dk_at dksX3_needs_0 12 rfl rfl)
theorem dX3_needs_13 : decode cX3_needs 13 = .ok (.if_icmp .eq 7, 3) := dk_159 0 7 (dk_at dksX3_needs_0 13 rfl rfl)
theorem dX3_needs_16 : decode cX3_needs 16 = .ok (.iconst 1, 1) := dk_4 (dk_at dksX3_needs_0 16 rfl rfl)
theorem dX3_needs_17 : decode cX3_needs 17 = .ok (.goto 4, 3) := dk_167 0 4 (dk_at dksX3_needs_0 17 rfl rfl)
theorem dX3_needs_20 : decode cX3_needs 20 = .ok (.iconst 0, 1) := dk_3 (dk_at dksX3_needs_0 20 rfl rfl)
theorem dX3_needs_21 : decode cX3_needs 21 = .ok (.putfield 191, 3) := dk_181 0 191 (dk_at dksX3_needs_0 21 rfl rfl)
theorem dX3_needs_24 : decode cX3_needs 24 = .ok (.aload_n 0, 1) := dk_42 (dk_at dksX3_needs_1 0 rfl rfl)
theorem dX3_needs_25 : decode cX3_needs 25 = .ok (.dup, 1) := dk_89 (dk_at dksX3_needs_1 1 rfl rfl)
theorem dX3_needs_26 : decode cX3_needs 26 = .ok (.getfield 188, 3) := dk_180 0 188 (dk_at dksX3_needs_1 2 rfl rfl)
theorem dX3_needs_29 : decode cX3_needs 29 = .ok (.aload_n 0, 1) := dk_42 (dk_at dksX3_needs_1 5 rfl rfl)
theorem dX3_needs_30 : decode cX3_needs 30 = .ok (.getfield 191, 3) := dk_180 0 191 (dk_at dksX3_needs_1 6 rfl rfl)
theorem dX3_needs_33 : decode cX3_needs 33 = .ok (.ifCond .eq 7, 3) := dk_153 0 7 (dk_at dksX3_needs_1 9 rfl rfl)
theorem dX3_needs_36 : decode cX3_needs 36 = .ok (.iconst 0, 1) := dk_3 (dk_at dksX3_needs_1 12 rfl rfl)
theorem dX3_needs_37 : decode cX3_needs 37 = .ok (.goto 4, 3) := dk_167 0 4 (dk_at dksX3_needs_1 13 rfl rfl)
theorem dX3_needs_40 : decode cX3_needs 40 = .ok (.iconst 1, 1) := dk_4 (dk_at dksX3_needs_1 16 rfl rfl)
theorem dX3_needs_41 : decode cX3_needs 41 = .ok (.iadd, 1) := dk_96 (dk_at dksX3_needs_1 17 rfl rfl)
theorem dX3_needs_42 : decode cX3_needs 42 = .ok (.putfield 188, 3) := dk_181 0 188 (dk_at dksX3_needs_1 18 rfl rfl)
theorem dX3_needs_45 : decode cX3_needs 45 = .ok (.return_, 1) := dk_177 (dk_at dksX3_needs_1 21 rfl rfl)
abbrev cX3_digits : ByteArray := prog_19_method_82_code
def yX3_digits : MethodName := ⟨RX3, "digits", "(I)I"⟩
def dkwX3_digits_4 : List UInt8 := [167, 255, 204, 28, 172]
abbrev dktX3_digits_4 : List UInt8 := dkwX3_digits_4 ++ []
def dkwX3_digits_3 : List UInt8 := [28, 104, 42, 182, 0, 195, 96, 16, 48, 100, 61, 42, 89, 180, 0, 188, 4, 96, 181, 0, 188, 132, 3, 1]
abbrev dktX3_digits_3 : List UInt8 := dkwX3_digits_3 ++ dktX3_digits_4
def dkwX3_digits_2 : List UInt8 := [154, 0, 51, 29, 27, 162, 0, 46, 42, 182, 0, 195, 16, 48, 16, 57, 184, 0, 52, 153, 0, 32, 16, 10]
abbrev dktX3_digits_2 : List UInt8 := dkwX3_digits_2 ++ dktX3_digits_3
def dkwX3_digits_1 : List UInt8 := [184, 0, 52, 154, 0, 7, 4, 167, 0, 4, 3, 181, 0, 191, 3, 61, 3, 62, 42, 180, 0, 191]
abbrev dktX3_digits_1 : List UInt8 := dkwX3_digits_1 ++ dktX3_digits_2
def dkwX3_digits_0 : List UInt8 := [42, 16, 32, 182, 0, 198, 42, 42, 180, 0, 191, 154, 0, 17, 42, 182, 0, 195, 16, 48, 16, 57]
abbrev dktX3_digits_0 : List UInt8 := dkwX3_digits_0 ++ dktX3_digits_1
theorem dksX3_digits_0 : cX3_digits.data.toList.drop 0 = dktX3_digits_0 := by decide +kernel
theorem dksX3_digits_1 : cX3_digits.data.toList.drop 22 = dktX3_digits_1 := dk_seg dksX3_digits_0 22 rfl rfl
theorem dksX3_digits_2 : cX3_digits.data.toList.drop 44 = dktX3_digits_2 := dk_seg dksX3_digits_1 22 rfl rfl
theorem dksX3_digits_3 : cX3_digits.data.toList.drop 68 = dktX3_digits_3 := dk_seg dksX3_digits_2 24 rfl rfl
theorem dksX3_digits_4 : cX3_digits.data.toList.drop 92 = dktX3_digits_4 := dk_seg dksX3_digits_3 24 rfl rfl
theorem dX3_digits_0 : decode cX3_digits 0 = .ok (.aload_n 0, 1) := dk_42 (dk_at dksX3_digits_0 0 rfl rfl)
theorem dX3_digits_1 : decode cX3_digits 1 = .ok (.bipush 32, 2) := dk_16 32 (dk_at dksX3_digits_0 1 rfl rfl)
theorem dX3_digits_3 : decode cX3_digits 3 = .ok (.invokevirtual 198, 3) := dk_182 0 198 (dk_at dksX3_digits_0 3 rfl rfl)
theorem dX3_digits_6 : decode cX3_digits 6 = .ok (.aload_n 0, 1) := dk_42 (dk_at dksX3_digits_0 6 rfl rfl)
theorem dX3_digits_7 : decode cX3_digits 7 = .ok (.aload_n 0, 1) := dk_42 (dk_at dksX3_digits_0 7 rfl rfl)
theorem dX3_digits_8 : decode cX3_digits 8 = .ok (.getfield 191, 3) := dk_180 0 191 (dk_at dksX3_digits_0 8 rfl rfl)
theorem dX3_digits_11 : decode cX3_digits 11 = .ok (.ifCond .ne 17, 3) := dk_154 0 17 (dk_at dksX3_digits_0 11 rfl rfl)
theorem dX3_digits_14 : decode cX3_digits 14 = .ok (.aload_n 0, 1) := dk_42 (dk_at dksX3_digits_0 14 rfl rfl)
theorem dX3_digits_15 : decode cX3_digits 15 = .ok (.invokevirtual 195, 3) := dk_182 0 195 (dk_at dksX3_digits_0 15 rfl rfl)
theorem dX3_digits_18 : decode cX3_digits 18 = .ok (.bipush 48, 2) := dk_16 48 (dk_at dksX3_digits_0 18 rfl rfl)
theorem dX3_digits_20 : decode cX3_digits 20 = .ok (.bipush 57, 2) := dk_16 57 (dk_at dksX3_digits_0 20 rfl rfl)
theorem dX3_digits_22 : decode cX3_digits 22 = .ok (.invokestatic 52, 3) := dk_184 0 52 (dk_at dksX3_digits_1 0 rfl rfl)
theorem dX3_digits_25 : decode cX3_digits 25 = .ok (.ifCond .ne 7, 3) := dk_154 0 7 (dk_at dksX3_digits_1 3 rfl rfl)
theorem dX3_digits_28 : decode cX3_digits 28 = .ok (.iconst 1, 1) := dk_4 (dk_at dksX3_digits_1 6 rfl rfl)
theorem dX3_digits_29 : decode cX3_digits 29 = .ok (.goto 4, 3) := dk_167 0 4 (dk_at dksX3_digits_1 7 rfl rfl)
theorem dX3_digits_32 : decode cX3_digits 32 = .ok (.iconst 0, 1) := dk_3 (dk_at dksX3_digits_1 10 rfl rfl)
theorem dX3_digits_33 : decode cX3_digits 33 = .ok (.putfield 191, 3) := dk_181 0 191 (dk_at dksX3_digits_1 11 rfl rfl)
theorem dX3_digits_36 : decode cX3_digits 36 = .ok (.iconst 0, 1) := dk_3 (dk_at dksX3_digits_1 14 rfl rfl)
theorem dX3_digits_37 : decode cX3_digits 37 = .ok (.istore_n 2, 1) := dk_61 (dk_at dksX3_digits_1 15 rfl rfl)
theorem dX3_digits_38 : decode cX3_digits 38 = .ok (.iconst 0, 1) := dk_3 (dk_at dksX3_digits_1 16 rfl rfl)
theorem dX3_digits_39 : decode cX3_digits 39 = .ok (.istore_n 3, 1) := dk_62 (dk_at dksX3_digits_1 17 rfl rfl)
theorem dX3_digits_40 : decode cX3_digits 40 = .ok (.aload_n 0, 1) := dk_42 (dk_at dksX3_digits_1 18 rfl rfl)
theorem dX3_digits_41 : decode cX3_digits 41 = .ok (.getfield 191, 3) := dk_180 0 191 (dk_at dksX3_digits_1 19 rfl rfl)
theorem dX3_digits_44 : decode cX3_digits 44 = .ok (.ifCond .ne 51, 3) := dk_154 0 51 (dk_at dksX3_digits_2 0 rfl rfl)
theorem dX3_digits_47 : decode cX3_digits 47 = .ok (.iload_n 3, 1) := dk_29 (dk_at dksX3_digits_2 3 rfl rfl)
theorem dX3_digits_48 : decode cX3_digits 48 = .ok (.iload_n 1, 1) := dk_27 (dk_at dksX3_digits_2 4 rfl rfl)
theorem dX3_digits_49 : decode cX3_digits 49 = .ok (.if_icmp .ge 46, 3) := dk_162 0 46 (dk_at dksX3_digits_2 5 rfl rfl)
theorem dX3_digits_52 : decode cX3_digits 52 = .ok (.aload_n 0, 1) := dk_42 (dk_at dksX3_digits_2 8 rfl rfl)
theorem dX3_digits_53 : decode cX3_digits 53 = .ok (.invokevirtual 195, 3) := dk_182 0 195 (dk_at dksX3_digits_2 9 rfl rfl)
theorem dX3_digits_56 : decode cX3_digits 56 = .ok (.bipush 48, 2) := dk_16 48 (dk_at dksX3_digits_2 12 rfl rfl)
theorem dX3_digits_58 : decode cX3_digits 58 = .ok (.bipush 57, 2) := dk_16 57 (dk_at dksX3_digits_2 14 rfl rfl)
theorem dX3_digits_60 : decode cX3_digits 60 = .ok (.invokestatic 52, 3) := dk_184 0 52 (dk_at dksX3_digits_2 16 rfl rfl)
theorem dX3_digits_63 : decode cX3_digits 63 = .ok (.ifCond .eq 32, 3) := dk_153 0 32 (dk_at dksX3_digits_2 19 rfl rfl)
theorem dX3_digits_66 : decode cX3_digits 66 = .ok (.bipush 10, 2) := dk_16 10 (dk_at dksX3_digits_2 22 rfl rfl)
theorem dX3_digits_68 : decode cX3_digits 68 = .ok (.iload_n 2, 1) := dk_28 (dk_at dksX3_digits_3 0 rfl rfl)
theorem dX3_digits_69 : decode cX3_digits 69 = .ok (.imul, 1) := dk_104 (dk_at dksX3_digits_3 1 rfl rfl)
theorem dX3_digits_70 : decode cX3_digits 70 = .ok (.aload_n 0, 1) := dk_42 (dk_at dksX3_digits_3 2 rfl rfl)
theorem dX3_digits_71 : decode cX3_digits 71 = .ok (.invokevirtual 195, 3) := dk_182 0 195 (dk_at dksX3_digits_3 3 rfl rfl)
theorem dX3_digits_74 : decode cX3_digits 74 = .ok (.iadd, 1) := dk_96 (dk_at dksX3_digits_3 6 rfl rfl)
theorem dX3_digits_75 : decode cX3_digits 75 = .ok (.bipush 48, 2) := dk_16 48 (dk_at dksX3_digits_3 7 rfl rfl)
theorem dX3_digits_77 : decode cX3_digits 77 = .ok (.isub, 1) := dk_100 (dk_at dksX3_digits_3 9 rfl rfl)
theorem dX3_digits_78 : decode cX3_digits 78 = .ok (.istore_n 2, 1) := dk_61 (dk_at dksX3_digits_3 10 rfl rfl)
theorem dX3_digits_79 : decode cX3_digits 79 = .ok (.aload_n 0, 1) := dk_42 (dk_at dksX3_digits_3 11 rfl rfl)
theorem dX3_digits_80 : decode cX3_digits 80 = .ok (.dup, 1) := dk_89 (dk_at dksX3_digits_3 12 rfl rfl)
theorem dX3_digits_81 : decode cX3_digits 81 = .ok (.getfield 188, 3) := dk_180 0 188 (dk_at dksX3_digits_3 13 rfl rfl)
theorem dX3_digits_84 : decode cX3_digits 84 = .ok (.iconst 1, 1) := dk_4 (dk_at dksX3_digits_3 16 rfl rfl)
theorem dX3_digits_85 : decode cX3_digits 85 = .ok (.iadd, 1) := dk_96 (dk_at dksX3_digits_3 17 rfl rfl)
theorem dX3_digits_86 : decode cX3_digits 86 = .ok (.putfield 188, 3) := dk_181 0 188 (dk_at dksX3_digits_3 18 rfl rfl)
theorem dX3_digits_89 : decode cX3_digits 89 = .ok (.iinc 3 1, 3) := dk_132 3 1 (dk_at dksX3_digits_3 21 rfl rfl)
theorem dX3_digits_92 : decode cX3_digits 92 = .ok (.goto (-52), 3) := dk_167 255 204 (dk_at dksX3_digits_4 0 rfl rfl)
theorem dX3_digits_95 : decode cX3_digits 95 = .ok (.iload_n 2, 1) := dk_28 (dk_at dksX3_digits_4 3 rfl rfl)
theorem dX3_digits_96 : decode cX3_digits 96 = .ok (.ireturn, 1) := dk_172 (dk_at dksX3_digits_4 4 rfl rfl)
abbrev cX3_parsesC : ByteArray := prog_19_method_83_code
def yX3_parsesC : MethodName := ⟨RX3, "parsesC", "(I)V"⟩
def dkwX3_parsesC_2 : List UInt8 := [42, 180, 0, 39, 27, 4, 96, 42, 4, 182, 0, 205, 79, 177]
abbrev dktX3_parsesC_2 : List UInt8 := dkwX3_parsesC_2 ++ []
def dkwX3_parsesC_1 : List UInt8 := [16, 116, 182, 0, 198, 167, 0, 19, 42, 16, 97, 16, 116, 16, 99, 182, 0, 201, 42, 16, 104, 182, 0, 198]
abbrev dktX3_parsesC_1 : List UInt8 := dkwX3_parsesC_1 ++ dktX3_parsesC_2
def dkwX3_parsesC_0 : List UInt8 := [42, 182, 0, 195, 16, 117, 160, 0, 26, 42, 180, 0, 39, 27, 16, 117, 79, 42, 16, 117, 182, 0, 198, 42]
abbrev dktX3_parsesC_0 : List UInt8 := dkwX3_parsesC_0 ++ dktX3_parsesC_1
theorem dksX3_parsesC_0 : cX3_parsesC.data.toList.drop 0 = dktX3_parsesC_0 := by decide +kernel
theorem dksX3_parsesC_1 : cX3_parsesC.data.toList.drop 24 = dktX3_parsesC_1 := dk_seg dksX3_parsesC_0 24 rfl rfl
theorem dksX3_parsesC_2 : cX3_parsesC.data.toList.drop 48 = dktX3_parsesC_2 := dk_seg dksX3_parsesC_1 24 rfl rfl
theorem dX3_parsesC_0 : decode cX3_parsesC 0 = .ok (.aload_n 0, 1) := dk_42 (dk_at dksX3_parsesC_0 0 rfl rfl)
theorem dX3_parsesC_1 : decode cX3_parsesC 1 = .ok (.invokevirtual 195, 3) := dk_182 0 195 (dk_at dksX3_parsesC_0 1 rfl rfl)
theorem dX3_parsesC_4 : decode cX3_parsesC 4 = .ok (.bipush 117, 2) := dk_16 117 (dk_at dksX3_parsesC_0 4 rfl rfl)
theorem dX3_parsesC_6 : decode cX3_parsesC 6 = .ok (.if_icmp .ne 26, 3) := dk_160 0 26 (dk_at dksX3_parsesC_0 6 rfl rfl)
theorem dX3_parsesC_9 : decode cX3_parsesC 9 = .ok (.aload_n 0, 1) := dk_42 (dk_at dksX3_parsesC_0 9 rfl rfl)
theorem dX3_parsesC_10 : decode cX3_parsesC 10 = .ok (.getfield 39, 3) := dk_180 0 39 (dk_at dksX3_parsesC_0 10 rfl rfl)
theorem dX3_parsesC_13 : decode cX3_parsesC 13 = .ok (.iload_n 1, 1) := dk_27 (dk_at dksX3_parsesC_0 13 rfl rfl)
theorem dX3_parsesC_14 : decode cX3_parsesC 14 = .ok (.bipush 117, 2) := dk_16 117 (dk_at dksX3_parsesC_0 14 rfl rfl)
theorem dX3_parsesC_16 : decode cX3_parsesC 16 = .ok (.iastore, 1) := dk_79 (dk_at dksX3_parsesC_0 16 rfl rfl)
theorem dX3_parsesC_17 : decode cX3_parsesC 17 = .ok (.aload_n 0, 1) := dk_42 (dk_at dksX3_parsesC_0 17 rfl rfl)
theorem dX3_parsesC_18 : decode cX3_parsesC 18 = .ok (.bipush 117, 2) := dk_16 117 (dk_at dksX3_parsesC_0 18 rfl rfl)
theorem dX3_parsesC_20 : decode cX3_parsesC 20 = .ok (.invokevirtual 198, 3) := dk_182 0 198 (dk_at dksX3_parsesC_0 20 rfl rfl)
theorem dX3_parsesC_23 : decode cX3_parsesC 23 = .ok (.aload_n 0, 1) := dk_42 (dk_at dksX3_parsesC_0 23 rfl rfl)
theorem dX3_parsesC_24 : decode cX3_parsesC 24 = .ok (.bipush 116, 2) := dk_16 116 (dk_at dksX3_parsesC_1 0 rfl rfl)
theorem dX3_parsesC_26 : decode cX3_parsesC 26 = .ok (.invokevirtual 198, 3) := dk_182 0 198 (dk_at dksX3_parsesC_1 2 rfl rfl)
theorem dX3_parsesC_29 : decode cX3_parsesC 29 = .ok (.goto 19, 3) := dk_167 0 19 (dk_at dksX3_parsesC_1 5 rfl rfl)
theorem dX3_parsesC_32 : decode cX3_parsesC 32 = .ok (.aload_n 0, 1) := dk_42 (dk_at dksX3_parsesC_1 8 rfl rfl)
theorem dX3_parsesC_33 : decode cX3_parsesC 33 = .ok (.bipush 97, 2) := dk_16 97 (dk_at dksX3_parsesC_1 9 rfl rfl)
theorem dX3_parsesC_35 : decode cX3_parsesC 35 = .ok (.bipush 116, 2) := dk_16 116 (dk_at dksX3_parsesC_1 11 rfl rfl)
theorem dX3_parsesC_37 : decode cX3_parsesC 37 = .ok (.bipush 99, 2) := dk_16 99 (dk_at dksX3_parsesC_1 13 rfl rfl)
theorem dX3_parsesC_39 : decode cX3_parsesC 39 = .ok (.invokevirtual 201, 3) := dk_182 0 201 (dk_at dksX3_parsesC_1 15 rfl rfl)
theorem dX3_parsesC_42 : decode cX3_parsesC 42 = .ok (.aload_n 0, 1) := dk_42 (dk_at dksX3_parsesC_1 18 rfl rfl)
theorem dX3_parsesC_43 : decode cX3_parsesC 43 = .ok (.bipush 104, 2) := dk_16 104 (dk_at dksX3_parsesC_1 19 rfl rfl)
theorem dX3_parsesC_45 : decode cX3_parsesC 45 = .ok (.invokevirtual 198, 3) := dk_182 0 198 (dk_at dksX3_parsesC_1 21 rfl rfl)
theorem dX3_parsesC_48 : decode cX3_parsesC 48 = .ok (.aload_n 0, 1) := dk_42 (dk_at dksX3_parsesC_2 0 rfl rfl)
theorem dX3_parsesC_49 : decode cX3_parsesC 49 = .ok (.getfield 39, 3) := dk_180 0 39 (dk_at dksX3_parsesC_2 1 rfl rfl)
theorem dX3_parsesC_52 : decode cX3_parsesC 52 = .ok (.iload_n 1, 1) := dk_27 (dk_at dksX3_parsesC_2 4 rfl rfl)
theorem dX3_parsesC_53 : decode cX3_parsesC 53 = .ok (.iconst 1, 1) := dk_4 (dk_at dksX3_parsesC_2 5 rfl rfl)
theorem dX3_parsesC_54 : decode cX3_parsesC 54 = .ok (.iadd, 1) := dk_96 (dk_at dksX3_parsesC_2 6 rfl rfl)
theorem dX3_parsesC_55 : decode cX3_parsesC 55 = .ok (.aload_n 0, 1) := dk_42 (dk_at dksX3_parsesC_2 7 rfl rfl)
theorem dX3_parsesC_56 : decode cX3_parsesC 56 = .ok (.iconst 1, 1) := dk_4 (dk_at dksX3_parsesC_2 8 rfl rfl)
theorem dX3_parsesC_57 : decode cX3_parsesC 57 = .ok (.invokevirtual 205, 3) := dk_182 0 205 (dk_at dksX3_parsesC_2 9 rfl rfl)
theorem dX3_parsesC_60 : decode cX3_parsesC 60 = .ok (.iastore, 1) := dk_79 (dk_at dksX3_parsesC_2 12 rfl rfl)
theorem dX3_parsesC_61 : decode cX3_parsesC 61 = .ok (.return_, 1) := dk_177 (dk_at dksX3_parsesC_2 13 rfl rfl)
abbrev cX3_carriesOut : ByteArray := prog_19_method_85_code
def yX3_carriesOut : MethodName := ⟨RX3, "carriesOut", "(I)I"⟩
def dkwX3_carriesOut_4 : List UInt8 := [182, 0, 102, 172]
abbrev dktX3_carriesOut_4 : List UInt8 := dkwX3_carriesOut_4 ++ []
def dkwX3_carriesOut_3 : List UInt8 := [182, 0, 86, 172, 42, 28, 182, 0, 89, 172, 42, 28, 182, 0, 142, 172, 42, 28, 182, 0, 148, 172, 42, 28]
abbrev dktX3_carriesOut_3 : List UInt8 := dkwX3_carriesOut_3 ++ dktX3_carriesOut_4
def dkwX3_carriesOut_2 : List UInt8 := [42, 28, 182, 0, 66, 172, 42, 28, 42, 180, 0, 39, 27, 5, 96, 46, 182, 0, 82, 172, 42, 28]
abbrev dktX3_carriesOut_2 : List UInt8 := dkwX3_carriesOut_2 ++ dktX3_carriesOut_3
def dkwX3_carriesOut_1 : List UInt8 := [170, 0, 0, 0, 133, 0, 0, 0, 99, 0, 0, 0, 117, 0, 0, 0, 109, 0, 0, 0, 133, 0, 0, 0, 133, 0, 0, 0, 115, 0, 0, 0, 133, 0, 0, 0, 89, 0, 0, 0, 133, 0, 0, 0, 133, 0, 0, 0, 133, 0, 0, 0, 121, 0, 0, 0, 133, 0, 0, 0, 133, 0, 0, 0, 133, 0, 0, 0, 95, 0, 0, 0, 133, 0, 0, 0, 133, 0, 0, 0, 133, 0, 0, 0, 133, 0, 0, 0, 127]
abbrev dktX3_carriesOut_1 : List UInt8 := dkwX3_carriesOut_1 ++ dktX3_carriesOut_2
def dkwX3_carriesOut_0 : List UInt8 := [42, 180, 0, 39, 27, 4, 96, 46, 61, 42, 180, 0, 39, 27, 46]
abbrev dktX3_carriesOut_0 : List UInt8 := dkwX3_carriesOut_0 ++ dktX3_carriesOut_1
theorem dksX3_carriesOut_0 : cX3_carriesOut.data.toList.drop 0 = dktX3_carriesOut_0 := by decide +kernel
theorem dksX3_carriesOut_1 : cX3_carriesOut.data.toList.drop 15 = dktX3_carriesOut_1 := dk_seg dksX3_carriesOut_0 15 rfl rfl
theorem dksX3_carriesOut_2 : cX3_carriesOut.data.toList.drop 104 = dktX3_carriesOut_2 := dk_seg dksX3_carriesOut_1 89 rfl rfl
theorem dksX3_carriesOut_3 : cX3_carriesOut.data.toList.drop 126 = dktX3_carriesOut_3 := dk_seg dksX3_carriesOut_2 22 rfl rfl
theorem dksX3_carriesOut_4 : cX3_carriesOut.data.toList.drop 150 = dktX3_carriesOut_4 := dk_seg dksX3_carriesOut_3 24 rfl rfl
theorem dX3_carriesOut_0 : decode cX3_carriesOut 0 = .ok (.aload_n 0, 1) := dk_42 (dk_at dksX3_carriesOut_0 0 rfl rfl)
theorem dX3_carriesOut_1 : decode cX3_carriesOut 1 = .ok (.getfield 39, 3) := dk_180 0 39 (dk_at dksX3_carriesOut_0 1 rfl rfl)
theorem dX3_carriesOut_4 : decode cX3_carriesOut 4 = .ok (.iload_n 1, 1) := dk_27 (dk_at dksX3_carriesOut_0 4 rfl rfl)
theorem dX3_carriesOut_5 : decode cX3_carriesOut 5 = .ok (.iconst 1, 1) := dk_4 (dk_at dksX3_carriesOut_0 5 rfl rfl)
theorem dX3_carriesOut_6 : decode cX3_carriesOut 6 = .ok (.iadd, 1) := dk_96 (dk_at dksX3_carriesOut_0 6 rfl rfl)
theorem dX3_carriesOut_7 : decode cX3_carriesOut 7 = .ok (.iaload, 1) := dk_46 (dk_at dksX3_carriesOut_0 7 rfl rfl)
theorem dX3_carriesOut_8 : decode cX3_carriesOut 8 = .ok (.istore_n 2, 1) := dk_61 (dk_at dksX3_carriesOut_0 8 rfl rfl)
theorem dX3_carriesOut_9 : decode cX3_carriesOut 9 = .ok (.aload_n 0, 1) := dk_42 (dk_at dksX3_carriesOut_0 9 rfl rfl)
theorem dX3_carriesOut_10 : decode cX3_carriesOut 10 = .ok (.getfield 39, 3) := dk_180 0 39 (dk_at dksX3_carriesOut_0 10 rfl rfl)
theorem dX3_carriesOut_13 : decode cX3_carriesOut 13 = .ok (.iload_n 1, 1) := dk_27 (dk_at dksX3_carriesOut_0 13 rfl rfl)
theorem dX3_carriesOut_14 : decode cX3_carriesOut 14 = .ok (.iaload, 1) := dk_46 (dk_at dksX3_carriesOut_0 14 rfl rfl)
theorem dX3_carriesOut_15 : decode cX3_carriesOut 15 = .ok (.tableswitch 133 99 117 #[109, 133, 133, 115, 133, 89, 133, 133, 133, 121, 133, 133, 133, 95, 133, 133, 133, 133, 127], 89) := by decide +kernel
theorem dX3_carriesOut_104 : decode cX3_carriesOut 104 = .ok (.aload_n 0, 1) := dk_42 (dk_at dksX3_carriesOut_2 0 rfl rfl)
theorem dX3_carriesOut_105 : decode cX3_carriesOut 105 = .ok (.iload_n 2, 1) := dk_28 (dk_at dksX3_carriesOut_2 1 rfl rfl)
theorem dX3_carriesOut_106 : decode cX3_carriesOut 106 = .ok (.invokevirtual 66, 3) := dk_182 0 66 (dk_at dksX3_carriesOut_2 2 rfl rfl)
theorem dX3_carriesOut_109 : decode cX3_carriesOut 109 = .ok (.ireturn, 1) := dk_172 (dk_at dksX3_carriesOut_2 5 rfl rfl)
theorem dX3_carriesOut_110 : decode cX3_carriesOut 110 = .ok (.aload_n 0, 1) := dk_42 (dk_at dksX3_carriesOut_2 6 rfl rfl)
theorem dX3_carriesOut_111 : decode cX3_carriesOut 111 = .ok (.iload_n 2, 1) := dk_28 (dk_at dksX3_carriesOut_2 7 rfl rfl)
theorem dX3_carriesOut_112 : decode cX3_carriesOut 112 = .ok (.aload_n 0, 1) := dk_42 (dk_at dksX3_carriesOut_2 8 rfl rfl)
theorem dX3_carriesOut_113 : decode cX3_carriesOut 113 = .ok (.getfield 39, 3) := dk_180 0 39 (dk_at dksX3_carriesOut_2 9 rfl rfl)
theorem dX3_carriesOut_116 : decode cX3_carriesOut 116 = .ok (.iload_n 1, 1) := dk_27 (dk_at dksX3_carriesOut_2 12 rfl rfl)
theorem dX3_carriesOut_117 : decode cX3_carriesOut 117 = .ok (.iconst 2, 1) := dk_5 (dk_at dksX3_carriesOut_2 13 rfl rfl)
theorem dX3_carriesOut_118 : decode cX3_carriesOut 118 = .ok (.iadd, 1) := dk_96 (dk_at dksX3_carriesOut_2 14 rfl rfl)
theorem dX3_carriesOut_119 : decode cX3_carriesOut 119 = .ok (.iaload, 1) := dk_46 (dk_at dksX3_carriesOut_2 15 rfl rfl)
theorem dX3_carriesOut_120 : decode cX3_carriesOut 120 = .ok (.invokevirtual 82, 3) := dk_182 0 82 (dk_at dksX3_carriesOut_2 16 rfl rfl)
theorem dX3_carriesOut_123 : decode cX3_carriesOut 123 = .ok (.ireturn, 1) := dk_172 (dk_at dksX3_carriesOut_2 19 rfl rfl)
theorem dX3_carriesOut_124 : decode cX3_carriesOut 124 = .ok (.aload_n 0, 1) := dk_42 (dk_at dksX3_carriesOut_2 20 rfl rfl)
theorem dX3_carriesOut_125 : decode cX3_carriesOut 125 = .ok (.iload_n 2, 1) := dk_28 (dk_at dksX3_carriesOut_2 21 rfl rfl)
theorem dX3_carriesOut_126 : decode cX3_carriesOut 126 = .ok (.invokevirtual 86, 3) := dk_182 0 86 (dk_at dksX3_carriesOut_3 0 rfl rfl)
theorem dX3_carriesOut_129 : decode cX3_carriesOut 129 = .ok (.ireturn, 1) := dk_172 (dk_at dksX3_carriesOut_3 3 rfl rfl)
theorem dX3_carriesOut_130 : decode cX3_carriesOut 130 = .ok (.aload_n 0, 1) := dk_42 (dk_at dksX3_carriesOut_3 4 rfl rfl)
theorem dX3_carriesOut_131 : decode cX3_carriesOut 131 = .ok (.iload_n 2, 1) := dk_28 (dk_at dksX3_carriesOut_3 5 rfl rfl)
theorem dX3_carriesOut_132 : decode cX3_carriesOut 132 = .ok (.invokevirtual 89, 3) := dk_182 0 89 (dk_at dksX3_carriesOut_3 6 rfl rfl)
theorem dX3_carriesOut_135 : decode cX3_carriesOut 135 = .ok (.ireturn, 1) := dk_172 (dk_at dksX3_carriesOut_3 9 rfl rfl)
theorem dX3_carriesOut_136 : decode cX3_carriesOut 136 = .ok (.aload_n 0, 1) := dk_42 (dk_at dksX3_carriesOut_3 10 rfl rfl)
theorem dX3_carriesOut_137 : decode cX3_carriesOut 137 = .ok (.iload_n 2, 1) := dk_28 (dk_at dksX3_carriesOut_3 11 rfl rfl)
theorem dX3_carriesOut_138 : decode cX3_carriesOut 138 = .ok (.invokevirtual 142, 3) := dk_182 0 142 (dk_at dksX3_carriesOut_3 12 rfl rfl)
theorem dX3_carriesOut_141 : decode cX3_carriesOut 141 = .ok (.ireturn, 1) := dk_172 (dk_at dksX3_carriesOut_3 15 rfl rfl)
theorem dX3_carriesOut_142 : decode cX3_carriesOut 142 = .ok (.aload_n 0, 1) := dk_42 (dk_at dksX3_carriesOut_3 16 rfl rfl)
theorem dX3_carriesOut_143 : decode cX3_carriesOut 143 = .ok (.iload_n 2, 1) := dk_28 (dk_at dksX3_carriesOut_3 17 rfl rfl)
theorem dX3_carriesOut_144 : decode cX3_carriesOut 144 = .ok (.invokevirtual 148, 3) := dk_182 0 148 (dk_at dksX3_carriesOut_3 18 rfl rfl)
theorem dX3_carriesOut_147 : decode cX3_carriesOut 147 = .ok (.ireturn, 1) := dk_172 (dk_at dksX3_carriesOut_3 21 rfl rfl)
theorem dX3_carriesOut_148 : decode cX3_carriesOut 148 = .ok (.aload_n 0, 1) := dk_42 (dk_at dksX3_carriesOut_3 22 rfl rfl)
theorem dX3_carriesOut_149 : decode cX3_carriesOut 149 = .ok (.iload_n 2, 1) := dk_28 (dk_at dksX3_carriesOut_3 23 rfl rfl)
theorem dX3_carriesOut_150 : decode cX3_carriesOut 150 = .ok (.invokevirtual 102, 3) := dk_182 0 102 (dk_at dksX3_carriesOut_4 0 rfl rfl)
theorem dX3_carriesOut_153 : decode cX3_carriesOut 153 = .ok (.ireturn, 1) := dk_172 (dk_at dksX3_carriesOut_4 3 rfl rfl)
abbrev cX3_errorPosition : ByteArray := prog_19_method_87_code
def yX3_errorPosition : MethodName := ⟨RX3, "errorPosition", "()I"⟩
def dkwX3_errorPosition_1 : List UInt8 := [172]
abbrev dktX3_errorPosition_1 : List UInt8 := dkwX3_errorPosition_1 ++ []
def dkwX3_errorPosition_0 : List UInt8 := [42, 180, 0, 26, 2, 160, 0, 11, 42, 4, 182, 0, 56, 167, 0, 11, 42, 42, 180, 0, 26, 182, 0, 60]
abbrev dktX3_errorPosition_0 : List UInt8 := dkwX3_errorPosition_0 ++ dktX3_errorPosition_1
theorem dksX3_errorPosition_0 : cX3_errorPosition.data.toList.drop 0 = dktX3_errorPosition_0 := by decide +kernel
theorem dksX3_errorPosition_1 : cX3_errorPosition.data.toList.drop 24 = dktX3_errorPosition_1 := dk_seg dksX3_errorPosition_0 24 rfl rfl
theorem dX3_errorPosition_0 : decode cX3_errorPosition 0 = .ok (.aload_n 0, 1) := dk_42 (dk_at dksX3_errorPosition_0 0 rfl rfl)
theorem dX3_errorPosition_1 : decode cX3_errorPosition 1 = .ok (.getfield 26, 3) := dk_180 0 26 (dk_at dksX3_errorPosition_0 1 rfl rfl)
theorem dX3_errorPosition_4 : decode cX3_errorPosition 4 = .ok (.iconst (-1), 1) := dk_2 (dk_at dksX3_errorPosition_0 4 rfl rfl)
theorem dX3_errorPosition_5 : decode cX3_errorPosition 5 = .ok (.if_icmp .ne 11, 3) := dk_160 0 11 (dk_at dksX3_errorPosition_0 5 rfl rfl)
theorem dX3_errorPosition_8 : decode cX3_errorPosition 8 = .ok (.aload_n 0, 1) := dk_42 (dk_at dksX3_errorPosition_0 8 rfl rfl)
theorem dX3_errorPosition_9 : decode cX3_errorPosition 9 = .ok (.iconst 1, 1) := dk_4 (dk_at dksX3_errorPosition_0 9 rfl rfl)
theorem dX3_errorPosition_10 : decode cX3_errorPosition 10 = .ok (.invokevirtual 56, 3) := dk_182 0 56 (dk_at dksX3_errorPosition_0 10 rfl rfl)
theorem dX3_errorPosition_13 : decode cX3_errorPosition 13 = .ok (.goto 11, 3) := dk_167 0 11 (dk_at dksX3_errorPosition_0 13 rfl rfl)
theorem dX3_errorPosition_16 : decode cX3_errorPosition 16 = .ok (.aload_n 0, 1) := dk_42 (dk_at dksX3_errorPosition_0 16 rfl rfl)
theorem dX3_errorPosition_17 : decode cX3_errorPosition 17 = .ok (.aload_n 0, 1) := dk_42 (dk_at dksX3_errorPosition_0 17 rfl rfl)
theorem dX3_errorPosition_18 : decode cX3_errorPosition 18 = .ok (.getfield 26, 3) := dk_180 0 26 (dk_at dksX3_errorPosition_0 18 rfl rfl)
theorem dX3_errorPosition_21 : decode cX3_errorPosition 21 = .ok (.invokevirtual 60, 3) := dk_182 0 60 (dk_at dksX3_errorPosition_0 21 rfl rfl)
theorem dX3_errorPosition_24 : decode cX3_errorPosition 24 = .ok (.ireturn, 1) := dk_172 (dk_at dksX3_errorPosition_1 0 rfl rfl)
abbrev cX3_failedCommand : ByteArray := prog_19_method_88_code
def yX3_failedCommand : MethodName := ⟨RX3, "failedCommand", "()I"⟩
def dkwX3_failedCommand_1 : List UInt8 := [172]
abbrev dktX3_failedCommand_1 : List UInt8 := dkwX3_failedCommand_1 ++ []
def dkwX3_failedCommand_0 : List UInt8 := [42, 180, 0, 30, 2, 160, 0, 11, 42, 4, 182, 0, 56, 167, 0, 11, 42, 42, 180, 0, 30, 182, 0, 60]
abbrev dktX3_failedCommand_0 : List UInt8 := dkwX3_failedCommand_0 ++ dktX3_failedCommand_1
theorem dksX3_failedCommand_0 : cX3_failedCommand.data.toList.drop 0 = dktX3_failedCommand_0 := by decide +kernel
theorem dksX3_failedCommand_1 : cX3_failedCommand.data.toList.drop 24 = dktX3_failedCommand_1 := dk_seg dksX3_failedCommand_0 24 rfl rfl
theorem dX3_failedCommand_0 : decode cX3_failedCommand 0 = .ok (.aload_n 0, 1) := dk_42 (dk_at dksX3_failedCommand_0 0 rfl rfl)
theorem dX3_failedCommand_1 : decode cX3_failedCommand 1 = .ok (.getfield 30, 3) := dk_180 0 30 (dk_at dksX3_failedCommand_0 1 rfl rfl)
theorem dX3_failedCommand_4 : decode cX3_failedCommand 4 = .ok (.iconst (-1), 1) := dk_2 (dk_at dksX3_failedCommand_0 4 rfl rfl)
theorem dX3_failedCommand_5 : decode cX3_failedCommand 5 = .ok (.if_icmp .ne 11, 3) := dk_160 0 11 (dk_at dksX3_failedCommand_0 5 rfl rfl)
theorem dX3_failedCommand_8 : decode cX3_failedCommand 8 = .ok (.aload_n 0, 1) := dk_42 (dk_at dksX3_failedCommand_0 8 rfl rfl)
theorem dX3_failedCommand_9 : decode cX3_failedCommand 9 = .ok (.iconst 1, 1) := dk_4 (dk_at dksX3_failedCommand_0 9 rfl rfl)
theorem dX3_failedCommand_10 : decode cX3_failedCommand 10 = .ok (.invokevirtual 56, 3) := dk_182 0 56 (dk_at dksX3_failedCommand_0 10 rfl rfl)
theorem dX3_failedCommand_13 : decode cX3_failedCommand 13 = .ok (.goto 11, 3) := dk_167 0 11 (dk_at dksX3_failedCommand_0 13 rfl rfl)
theorem dX3_failedCommand_16 : decode cX3_failedCommand 16 = .ok (.aload_n 0, 1) := dk_42 (dk_at dksX3_failedCommand_0 16 rfl rfl)
theorem dX3_failedCommand_17 : decode cX3_failedCommand 17 = .ok (.aload_n 0, 1) := dk_42 (dk_at dksX3_failedCommand_0 17 rfl rfl)
theorem dX3_failedCommand_18 : decode cX3_failedCommand 18 = .ok (.getfield 30, 3) := dk_180 0 30 (dk_at dksX3_failedCommand_0 18 rfl rfl)
theorem dX3_failedCommand_21 : decode cX3_failedCommand 21 = .ok (.invokevirtual 60, 3) := dk_182 0 60 (dk_at dksX3_failedCommand_0 21 rfl rfl)
theorem dX3_failedCommand_24 : decode cX3_failedCommand 24 = .ok (.ireturn, 1) := dk_172 (dk_at dksX3_failedCommand_1 0 rfl rfl)
abbrev cX3_undo : ByteArray := prog_19_method_89_code
def yX3_undo : MethodName := ⟨RX3, "undo", "()I"⟩
def dkwX3_undo_2 : List UInt8 := [182, 0, 60, 172]
abbrev dktX3_undo_2 : List UInt8 := dkwX3_undo_2 ++ []
def dkwX3_undo_1 : List UInt8 := [180, 0, 16, 42, 180, 0, 49, 16, 48, 104, 42, 180, 0, 7, 3, 184, 0, 45, 42, 42, 180, 0, 49]
abbrev dktX3_undo_1 : List UInt8 := dkwX3_undo_1 ++ dktX3_undo_2
def dkwX3_undo_0 : List UInt8 := [42, 180, 0, 49, 154, 0, 9, 42, 4, 182, 0, 56, 172, 42, 89, 180, 0, 49, 4, 100, 181, 0, 49, 42]
abbrev dktX3_undo_0 : List UInt8 := dkwX3_undo_0 ++ dktX3_undo_1
theorem dksX3_undo_0 : cX3_undo.data.toList.drop 0 = dktX3_undo_0 := by decide +kernel
theorem dksX3_undo_1 : cX3_undo.data.toList.drop 24 = dktX3_undo_1 := dk_seg dksX3_undo_0 24 rfl rfl
theorem dksX3_undo_2 : cX3_undo.data.toList.drop 47 = dktX3_undo_2 := dk_seg dksX3_undo_1 23 rfl rfl
theorem dX3_undo_0 : decode cX3_undo 0 = .ok (.aload_n 0, 1) := dk_42 (dk_at dksX3_undo_0 0 rfl rfl)
theorem dX3_undo_1 : decode cX3_undo 1 = .ok (.getfield 49, 3) := dk_180 0 49 (dk_at dksX3_undo_0 1 rfl rfl)
theorem dX3_undo_4 : decode cX3_undo 4 = .ok (.ifCond .ne 9, 3) := dk_154 0 9 (dk_at dksX3_undo_0 4 rfl rfl)
theorem dX3_undo_7 : decode cX3_undo 7 = .ok (.aload_n 0, 1) := dk_42 (dk_at dksX3_undo_0 7 rfl rfl)
theorem dX3_undo_8 : decode cX3_undo 8 = .ok (.iconst 1, 1) := dk_4 (dk_at dksX3_undo_0 8 rfl rfl)
theorem dX3_undo_9 : decode cX3_undo 9 = .ok (.invokevirtual 56, 3) := dk_182 0 56 (dk_at dksX3_undo_0 9 rfl rfl)
theorem dX3_undo_12 : decode cX3_undo 12 = .ok (.ireturn, 1) := dk_172 (dk_at dksX3_undo_0 12 rfl rfl)
theorem dX3_undo_13 : decode cX3_undo 13 = .ok (.aload_n 0, 1) := dk_42 (dk_at dksX3_undo_0 13 rfl rfl)
theorem dX3_undo_14 : decode cX3_undo 14 = .ok (.dup, 1) := dk_89 (dk_at dksX3_undo_0 14 rfl rfl)
theorem dX3_undo_15 : decode cX3_undo 15 = .ok (.getfield 49, 3) := dk_180 0 49 (dk_at dksX3_undo_0 15 rfl rfl)
theorem dX3_undo_18 : decode cX3_undo 18 = .ok (.iconst 1, 1) := dk_4 (dk_at dksX3_undo_0 18 rfl rfl)
theorem dX3_undo_19 : decode cX3_undo 19 = .ok (.isub, 1) := dk_100 (dk_at dksX3_undo_0 19 rfl rfl)
theorem dX3_undo_20 : decode cX3_undo 20 = .ok (.putfield 49, 3) := dk_181 0 49 (dk_at dksX3_undo_0 20 rfl rfl)
theorem dX3_undo_23 : decode cX3_undo 23 = .ok (.aload_n 0, 1) := dk_42 (dk_at dksX3_undo_0 23 rfl rfl)
theorem dX3_undo_24 : decode cX3_undo 24 = .ok (.getfield 16, 3) := dk_180 0 16 (dk_at dksX3_undo_1 0 rfl rfl)
theorem dX3_undo_27 : decode cX3_undo 27 = .ok (.aload_n 0, 1) := dk_42 (dk_at dksX3_undo_1 3 rfl rfl)
theorem dX3_undo_28 : decode cX3_undo 28 = .ok (.getfield 49, 3) := dk_180 0 49 (dk_at dksX3_undo_1 4 rfl rfl)
theorem dX3_undo_31 : decode cX3_undo 31 = .ok (.bipush 48, 2) := dk_16 48 (dk_at dksX3_undo_1 7 rfl rfl)
theorem dX3_undo_33 : decode cX3_undo 33 = .ok (.imul, 1) := dk_104 (dk_at dksX3_undo_1 9 rfl rfl)
theorem dX3_undo_34 : decode cX3_undo 34 = .ok (.aload_n 0, 1) := dk_42 (dk_at dksX3_undo_1 10 rfl rfl)
theorem dX3_undo_35 : decode cX3_undo 35 = .ok (.getfield 7, 3) := dk_180 0 7 (dk_at dksX3_undo_1 11 rfl rfl)
theorem dX3_undo_38 : decode cX3_undo 38 = .ok (.iconst 0, 1) := dk_3 (dk_at dksX3_undo_1 14 rfl rfl)
theorem dX3_undo_39 : decode cX3_undo 39 = .ok (.invokestatic 45, 3) := dk_184 0 45 (dk_at dksX3_undo_1 15 rfl rfl)
theorem dX3_undo_42 : decode cX3_undo 42 = .ok (.aload_n 0, 1) := dk_42 (dk_at dksX3_undo_1 18 rfl rfl)
theorem dX3_undo_43 : decode cX3_undo 43 = .ok (.aload_n 0, 1) := dk_42 (dk_at dksX3_undo_1 19 rfl rfl)
theorem dX3_undo_44 : decode cX3_undo 44 = .ok (.getfield 49, 3) := dk_180 0 49 (dk_at dksX3_undo_1 20 rfl rfl)
theorem dX3_undo_47 : decode cX3_undo 47 = .ok (.invokevirtual 60, 3) := dk_182 0 60 (dk_at dksX3_undo_2 0 rfl rfl)
theorem dX3_undo_50 : decode cX3_undo 50 = .ok (.ireturn, 1) := dk_172 (dk_at dksX3_undo_2 3 rfl rfl)
abbrev cX3_save : ByteArray := prog_19_method_90_code
def yX3_save : MethodName := ⟨RX3, "save", "()I"⟩
def dkwX3_save_1 : List UInt8 := [46, 182, 0, 60, 172]
abbrev dktX3_save_1 : List UInt8 := dkwX3_save_1 ++ []
def dkwX3_save_0 : List UInt8 := [42, 180, 0, 7, 3, 42, 180, 0, 19, 3, 184, 0, 45, 42, 4, 181, 0, 217, 42, 42, 180, 0, 7, 3]
abbrev dktX3_save_0 : List UInt8 := dkwX3_save_0 ++ dktX3_save_1
theorem dksX3_save_0 : cX3_save.data.toList.drop 0 = dktX3_save_0 := by decide +kernel
theorem dksX3_save_1 : cX3_save.data.toList.drop 24 = dktX3_save_1 := dk_seg dksX3_save_0 24 rfl rfl
theorem dX3_save_0 : decode cX3_save 0 = .ok (.aload_n 0, 1) := dk_42 (dk_at dksX3_save_0 0 rfl rfl)
theorem dX3_save_1 : decode cX3_save 1 = .ok (.getfield 7, 3) := dk_180 0 7 (dk_at dksX3_save_0 1 rfl rfl)
theorem dX3_save_4 : decode cX3_save 4 = .ok (.iconst 0, 1) := dk_3 (dk_at dksX3_save_0 4 rfl rfl)
theorem dX3_save_5 : decode cX3_save 5 = .ok (.aload_n 0, 1) := dk_42 (dk_at dksX3_save_0 5 rfl rfl)
theorem dX3_save_6 : decode cX3_save 6 = .ok (.getfield 19, 3) := dk_180 0 19 (dk_at dksX3_save_0 6 rfl rfl)
theorem dX3_save_9 : decode cX3_save 9 = .ok (.iconst 0, 1) := dk_3 (dk_at dksX3_save_0 9 rfl rfl)
theorem dX3_save_10 : decode cX3_save 10 = .ok (.invokestatic 45, 3) := dk_184 0 45 (dk_at dksX3_save_0 10 rfl rfl)
theorem dX3_save_13 : decode cX3_save 13 = .ok (.aload_n 0, 1) := dk_42 (dk_at dksX3_save_0 13 rfl rfl)
theorem dX3_save_14 : decode cX3_save 14 = .ok (.iconst 1, 1) := dk_4 (dk_at dksX3_save_0 14 rfl rfl)
theorem dX3_save_15 : decode cX3_save 15 = .ok (.putfield 217, 3) := dk_181 0 217 (dk_at dksX3_save_0 15 rfl rfl)
theorem dX3_save_18 : decode cX3_save 18 = .ok (.aload_n 0, 1) := dk_42 (dk_at dksX3_save_0 18 rfl rfl)
theorem dX3_save_19 : decode cX3_save 19 = .ok (.aload_n 0, 1) := dk_42 (dk_at dksX3_save_0 19 rfl rfl)
theorem dX3_save_20 : decode cX3_save 20 = .ok (.getfield 7, 3) := dk_180 0 7 (dk_at dksX3_save_0 20 rfl rfl)
theorem dX3_save_23 : decode cX3_save 23 = .ok (.iconst 0, 1) := dk_3 (dk_at dksX3_save_0 23 rfl rfl)
theorem dX3_save_24 : decode cX3_save 24 = .ok (.iaload, 1) := dk_46 (dk_at dksX3_save_1 0 rfl rfl)
theorem dX3_save_25 : decode cX3_save 25 = .ok (.invokevirtual 60, 3) := dk_182 0 60 (dk_at dksX3_save_1 1 rfl rfl)
theorem dX3_save_28 : decode cX3_save 28 = .ok (.ireturn, 1) := dk_172 (dk_at dksX3_save_1 4 rfl rfl)
abbrev cX3_restore : ByteArray := prog_19_method_91_code
def yX3_restore : MethodName := ⟨RX3, "restore", "()I"⟩
def dkwX3_restore_1 : List UInt8 := [184, 0, 45, 42, 3, 181, 0, 49, 42, 42, 180, 0, 7, 3, 46, 182, 0, 60, 172]
abbrev dktX3_restore_1 : List UInt8 := dkwX3_restore_1 ++ []
def dkwX3_restore_0 : List UInt8 := [42, 180, 0, 217, 154, 0, 9, 42, 4, 182, 0, 56, 172, 42, 180, 0, 19, 3, 42, 180, 0, 7, 3]
abbrev dktX3_restore_0 : List UInt8 := dkwX3_restore_0 ++ dktX3_restore_1
theorem dksX3_restore_0 : cX3_restore.data.toList.drop 0 = dktX3_restore_0 := by decide +kernel
theorem dksX3_restore_1 : cX3_restore.data.toList.drop 23 = dktX3_restore_1 := dk_seg dksX3_restore_0 23 rfl rfl
theorem dX3_restore_0 : decode cX3_restore 0 = .ok (.aload_n 0, 1) := dk_42 (dk_at dksX3_restore_0 0 rfl rfl)
theorem dX3_restore_1 : decode cX3_restore 1 = .ok (.getfield 217, 3) := dk_180 0 217 (dk_at dksX3_restore_0 1 rfl rfl)
theorem dX3_restore_4 : decode cX3_restore 4 = .ok (.ifCond .ne 9, 3) := dk_154 0 9 (dk_at dksX3_restore_0 4 rfl rfl)
theorem dX3_restore_7 : decode cX3_restore 7 = .ok (.aload_n 0, 1) := dk_42 (dk_at dksX3_restore_0 7 rfl rfl)
theorem dX3_restore_8 : decode cX3_restore 8 = .ok (.iconst 1, 1) := dk_4 (dk_at dksX3_restore_0 8 rfl rfl)
theorem dX3_restore_9 : decode cX3_restore 9 = .ok (.invokevirtual 56, 3) := dk_182 0 56 (dk_at dksX3_restore_0 9 rfl rfl)
theorem dX3_restore_12 : decode cX3_restore 12 = .ok (.ireturn, 1) := dk_172 (dk_at dksX3_restore_0 12 rfl rfl)
theorem dX3_restore_13 : decode cX3_restore 13 = .ok (.aload_n 0, 1) := dk_42 (dk_at dksX3_restore_0 13 rfl rfl)
theorem dX3_restore_14 : decode cX3_restore 14 = .ok (.getfield 19, 3) := dk_180 0 19 (dk_at dksX3_restore_0 14 rfl rfl)
theorem dX3_restore_17 : decode cX3_restore 17 = .ok (.iconst 0, 1) := dk_3 (dk_at dksX3_restore_0 17 rfl rfl)
theorem dX3_restore_18 : decode cX3_restore 18 = .ok (.aload_n 0, 1) := dk_42 (dk_at dksX3_restore_0 18 rfl rfl)
theorem dX3_restore_19 : decode cX3_restore 19 = .ok (.getfield 7, 3) := dk_180 0 7 (dk_at dksX3_restore_0 19 rfl rfl)
theorem dX3_restore_22 : decode cX3_restore 22 = .ok (.iconst 0, 1) := dk_3 (dk_at dksX3_restore_0 22 rfl rfl)
theorem dX3_restore_23 : decode cX3_restore 23 = .ok (.invokestatic 45, 3) := dk_184 0 45 (dk_at dksX3_restore_1 0 rfl rfl)
theorem dX3_restore_26 : decode cX3_restore 26 = .ok (.aload_n 0, 1) := dk_42 (dk_at dksX3_restore_1 3 rfl rfl)
theorem dX3_restore_27 : decode cX3_restore 27 = .ok (.iconst 0, 1) := dk_3 (dk_at dksX3_restore_1 4 rfl rfl)
theorem dX3_restore_28 : decode cX3_restore 28 = .ok (.putfield 49, 3) := dk_181 0 49 (dk_at dksX3_restore_1 5 rfl rfl)
theorem dX3_restore_31 : decode cX3_restore 31 = .ok (.aload_n 0, 1) := dk_42 (dk_at dksX3_restore_1 8 rfl rfl)
theorem dX3_restore_32 : decode cX3_restore 32 = .ok (.aload_n 0, 1) := dk_42 (dk_at dksX3_restore_1 9 rfl rfl)
theorem dX3_restore_33 : decode cX3_restore 33 = .ok (.getfield 7, 3) := dk_180 0 7 (dk_at dksX3_restore_1 10 rfl rfl)
theorem dX3_restore_36 : decode cX3_restore 36 = .ok (.iconst 0, 1) := dk_3 (dk_at dksX3_restore_1 13 rfl rfl)
theorem dX3_restore_37 : decode cX3_restore 37 = .ok (.iaload, 1) := dk_46 (dk_at dksX3_restore_1 14 rfl rfl)
theorem dX3_restore_38 : decode cX3_restore 38 = .ok (.invokevirtual 60, 3) := dk_182 0 60 (dk_at dksX3_restore_1 15 rfl rfl)
theorem dX3_restore_41 : decode cX3_restore 41 = .ok (.ireturn, 1) := dk_172 (dk_at dksX3_restore_1 18 rfl rfl)
theorem q78 : (Jvm.Cond.initialized "PendulumGymModel") ∈ lw_all := lw_g (lw_at lw_m1 11 rfl) rfl
theorem q480 : (Jvm.Cond.selects "PendulumGymModel" ({ cls := "java/lang/Object", name := "getClass", desc := "()Ljava/lang/Class;" } : Jvm.MethodName) ({ cls := "java/lang/Object", name := "getClass", desc := "()Ljava/lang/Class;" } : Jvm.MethodName)) ∈ lw_all := lw_g (lw_at lw_m2 173 rfl) rfl
theorem q1684 : (Jvm.Cond.instantiable "PendulumGymModel" (17 : Nat)) ∈ lw_all := lw_g (lw_at lw_m7 177 rfl) rfl
theorem q1686 : (Jvm.Cond.instanceMethod ({ cls := "PendulumGymModel", name := "<init>", desc := "()V" } : Jvm.MethodName)) ∈ lw_all := lw_g (lw_at lw_m7 179 rfl) rfl
theorem q1687 : (Jvm.Cond.code ({ cls := "PendulumGymModel", name := "<init>", desc := "()V" } : Jvm.MethodName) prog_19_method_1_code (1 : Nat) (Option.none : Option Jvm.ClassFile.FieldType)) ∈ lw_all := lw_g (lw_at lw_m7 180 rfl) rfl
theorem q1688 : (Jvm.Cond.methodLink "PendulumGymModel" (1 : Nat) ({ cls := "java/lang/Object", name := "<init>", desc := "()V" } : Jvm.MethodName)) ∈ lw_all := lw_g (lw_at lw_m7 181 rfl) rfl
theorem q1689 : (Jvm.Cond.fieldLink "PendulumGymModel" (7 : Nat) "PendulumGymModel" "g" "[I") ∈ lw_all := lw_g (lw_at lw_m7 182 rfl) rfl
theorem q1690 : (Jvm.Cond.fieldLink "PendulumGymModel" (13 : Nat) "PendulumGymModel" "before" "[I") ∈ lw_all := lw_g (lw_at lw_m7 183 rfl) rfl
theorem q1691 : (Jvm.Cond.fieldLink "PendulumGymModel" (16 : Nat) "PendulumGymModel" "history" "[I") ∈ lw_all := lw_g (lw_at lw_m7 184 rfl) rfl
theorem q1692 : (Jvm.Cond.fieldLink "PendulumGymModel" (49 : Nat) "PendulumGymModel" "changes" "I") ∈ lw_all := lw_g (lw_at lw_m7 185 rfl) rfl
theorem q1693 : (Jvm.Cond.fieldLink "PendulumGymModel" (19 : Nat) "PendulumGymModel" "savedState" "[I") ∈ lw_all := lw_g (lw_at lw_m7 186 rfl) rfl
theorem q1694 : (Jvm.Cond.fieldLink "PendulumGymModel" (217 : Nat) "PendulumGymModel" "hasSaved" "Z") ∈ lw_all := lw_g (lw_at lw_m7 187 rfl) rfl
theorem q1695 : (Jvm.Cond.fieldLink "PendulumGymModel" (22 : Nat) "PendulumGymModel" "buffer" "[C") ∈ lw_all := lw_g (lw_at lw_m7 188 rfl) rfl
theorem q1696 : (Jvm.Cond.fieldLink "PendulumGymModel" (185 : Nat) "PendulumGymModel" "typed" "I") ∈ lw_all := lw_g (lw_at lw_m7 189 rfl) rfl
theorem q1697 : (Jvm.Cond.fieldLink "PendulumGymModel" (26 : Nat) "PendulumGymModel" "errorAt" "I") ∈ lw_all := lw_g (lw_at lw_m7 190 rfl) rfl
theorem q1698 : (Jvm.Cond.fieldLink "PendulumGymModel" (30 : Nat) "PendulumGymModel" "failedAt" "I") ∈ lw_all := lw_g (lw_at lw_m7 191 rfl) rfl
theorem q1699 : (Jvm.Cond.fieldLink "PendulumGymModel" (33 : Nat) "PendulumGymModel" "letters" "[C") ∈ lw_all := lw_g (lw_at lw_m7 192 rfl) rfl
theorem q1700 : (Jvm.Cond.fieldLink "PendulumGymModel" (171 : Nat) "PendulumGymModel" "cardLength" "I") ∈ lw_all := lw_g (lw_at lw_m7 193 rfl) rfl
theorem q1701 : (Jvm.Cond.fieldLink "PendulumGymModel" (42 : Nat) "PendulumGymModel" "thrown" "I") ∈ lw_all := lw_g (lw_at lw_m7 194 rfl) rfl
theorem q1702 : (Jvm.Cond.fieldLink "PendulumGymModel" (36 : Nat) "PendulumGymModel" "least" "[I") ∈ lw_all := lw_g (lw_at lw_m7 195 rfl) rfl
theorem q1703 : (Jvm.Cond.fieldLink "PendulumGymModel" (188 : Nat) "PendulumGymModel" "spot" "I") ∈ lw_all := lw_g (lw_at lw_m7 196 rfl) rfl
theorem q1704 : (Jvm.Cond.fieldLink "PendulumGymModel" (191 : Nat) "PendulumGymModel" "isWrong" "Z") ∈ lw_all := lw_g (lw_at lw_m7 197 rfl) rfl
theorem q1705 : (Jvm.Cond.fieldLink "PendulumGymModel" (39 : Nat) "PendulumGymModel" "parsed" "[I") ∈ lw_all := lw_g (lw_at lw_m7 198 rfl) rfl
theorem q1706 : (Jvm.Cond.laysFinal "PendulumGymModel" "PendulumGymModel" "g" "[I") ∈ lw_all := lw_g (lw_at lw_m7 199 rfl) rfl
theorem q1707 : (Jvm.Cond.soleField "PendulumGymModel" "g") ∈ lw_all := lw_g (lw_at lw_m7 200 rfl) rfl
theorem q1708 : (Jvm.Cond.laysFinal "PendulumGymModel" "PendulumGymModel" "before" "[I") ∈ lw_all := lw_g (lw_at lw_m7 201 rfl) rfl
theorem q1709 : (Jvm.Cond.soleField "PendulumGymModel" "before") ∈ lw_all := lw_g (lw_at lw_m7 202 rfl) rfl
theorem q1710 : (Jvm.Cond.laysFinal "PendulumGymModel" "PendulumGymModel" "history" "[I") ∈ lw_all := lw_g (lw_at lw_m7 203 rfl) rfl
theorem q1711 : (Jvm.Cond.soleField "PendulumGymModel" "history") ∈ lw_all := lw_g (lw_at lw_m7 204 rfl) rfl
theorem q1712 : (Jvm.Cond.lays "PendulumGymModel" "PendulumGymModel" "changes" "I") ∈ lw_all := lw_g (lw_at lw_m7 205 rfl) rfl
theorem q1713 : (Jvm.Cond.soleField "PendulumGymModel" "changes") ∈ lw_all := lw_g (lw_at lw_m7 206 rfl) rfl
theorem q1714 : (Jvm.Cond.laysFinal "PendulumGymModel" "PendulumGymModel" "savedState" "[I") ∈ lw_all := lw_g (lw_at lw_m7 207 rfl) rfl
theorem q1715 : (Jvm.Cond.soleField "PendulumGymModel" "savedState") ∈ lw_all := lw_g (lw_at lw_m7 208 rfl) rfl
theorem q1716 : (Jvm.Cond.lays "PendulumGymModel" "PendulumGymModel" "hasSaved" "Z") ∈ lw_all := lw_g (lw_at lw_m7 209 rfl) rfl
theorem q1717 : (Jvm.Cond.soleField "PendulumGymModel" "hasSaved") ∈ lw_all := lw_g (lw_at lw_m7 210 rfl) rfl
theorem q1718 : (Jvm.Cond.laysFinal "PendulumGymModel" "PendulumGymModel" "buffer" "[C") ∈ lw_all := lw_g (lw_at lw_m7 211 rfl) rfl
theorem q1719 : (Jvm.Cond.soleField "PendulumGymModel" "buffer") ∈ lw_all := lw_g (lw_at lw_m7 212 rfl) rfl
theorem q1720 : (Jvm.Cond.lays "PendulumGymModel" "PendulumGymModel" "typed" "I") ∈ lw_all := lw_g (lw_at lw_m7 213 rfl) rfl
theorem q1721 : (Jvm.Cond.soleField "PendulumGymModel" "typed") ∈ lw_all := lw_g (lw_at lw_m7 214 rfl) rfl
theorem q1722 : (Jvm.Cond.lays "PendulumGymModel" "PendulumGymModel" "errorAt" "I") ∈ lw_all := lw_g (lw_at lw_m7 215 rfl) rfl
theorem q1723 : (Jvm.Cond.soleField "PendulumGymModel" "errorAt") ∈ lw_all := lw_g (lw_at lw_m7 216 rfl) rfl
theorem q1724 : (Jvm.Cond.lays "PendulumGymModel" "PendulumGymModel" "failedAt" "I") ∈ lw_all := lw_g (lw_at lw_m7 217 rfl) rfl
theorem q1725 : (Jvm.Cond.soleField "PendulumGymModel" "failedAt") ∈ lw_all := lw_g (lw_at lw_m7 218 rfl) rfl
theorem q1726 : (Jvm.Cond.laysFinal "PendulumGymModel" "PendulumGymModel" "letters" "[C") ∈ lw_all := lw_g (lw_at lw_m7 219 rfl) rfl
theorem q1727 : (Jvm.Cond.soleField "PendulumGymModel" "letters") ∈ lw_all := lw_g (lw_at lw_m7 220 rfl) rfl
theorem q1728 : (Jvm.Cond.lays "PendulumGymModel" "PendulumGymModel" "cardLength" "I") ∈ lw_all := lw_g (lw_at lw_m7 221 rfl) rfl
theorem q1729 : (Jvm.Cond.soleField "PendulumGymModel" "cardLength") ∈ lw_all := lw_g (lw_at lw_m7 222 rfl) rfl
theorem q1730 : (Jvm.Cond.lays "PendulumGymModel" "PendulumGymModel" "thrown" "I") ∈ lw_all := lw_g (lw_at lw_m7 223 rfl) rfl
theorem q1731 : (Jvm.Cond.soleField "PendulumGymModel" "thrown") ∈ lw_all := lw_g (lw_at lw_m7 224 rfl) rfl
theorem q1732 : (Jvm.Cond.laysFinal "PendulumGymModel" "PendulumGymModel" "least" "[I") ∈ lw_all := lw_g (lw_at lw_m7 225 rfl) rfl
theorem q1733 : (Jvm.Cond.soleField "PendulumGymModel" "least") ∈ lw_all := lw_g (lw_at lw_m7 226 rfl) rfl
theorem q1734 : (Jvm.Cond.lays "PendulumGymModel" "PendulumGymModel" "spot" "I") ∈ lw_all := lw_g (lw_at lw_m7 227 rfl) rfl
theorem q1735 : (Jvm.Cond.soleField "PendulumGymModel" "spot") ∈ lw_all := lw_g (lw_at lw_m7 228 rfl) rfl
theorem q1736 : (Jvm.Cond.lays "PendulumGymModel" "PendulumGymModel" "isWrong" "Z") ∈ lw_all := lw_g (lw_at lw_m7 229 rfl) rfl
theorem q1737 : (Jvm.Cond.soleField "PendulumGymModel" "isWrong") ∈ lw_all := lw_g (lw_at lw_m7 230 rfl) rfl
theorem q1738 : (Jvm.Cond.laysFinal "PendulumGymModel" "PendulumGymModel" "parsed" "[I") ∈ lw_all := lw_g (lw_at lw_m7 231 rfl) rfl
theorem q1739 : (Jvm.Cond.soleField "PendulumGymModel" "parsed") ∈ lw_all := lw_g (lw_at lw_m7 232 rfl) rfl
theorem q1740 : (Jvm.Cond.superclass "PendulumGymModel" "java/lang/Object") ∈ lw_all := lw_g (lw_at lw_m7 233 rfl) rfl
theorem q1743 : (Jvm.Cond.instanceMethod ({ cls := "PendulumGymModel", name := "thrown", desc := "()I" } : Jvm.MethodName)) ∈ lw_all := lw_g (lw_at lw_m7 236 rfl) rfl
theorem q1744 : (Jvm.Cond.selects "PendulumGymModel" ({ cls := "PendulumGymModel", name := "thrown", desc := "()I" } : Jvm.MethodName) ({ cls := "PendulumGymModel", name := "thrown", desc := "()I" } : Jvm.MethodName)) ∈ lw_all := lw_g (lw_at lw_m7 237 rfl) rfl
theorem q1745 : (Jvm.Cond.code ({ cls := "PendulumGymModel", name := "thrown", desc := "()I" } : Jvm.MethodName) prog_19_method_2_code (1 : Nat) (Option.some Jvm.ClassFile.FieldType.int)) ∈ lw_all := lw_g (lw_at lw_m7 238 rfl) rfl
theorem q1747 : (Jvm.Cond.instanceMethod ({ cls := "PendulumGymModel", name := "addPendulum", desc := "(I)I" } : Jvm.MethodName)) ∈ lw_all := lw_g (lw_at lw_m8 0 rfl) rfl
theorem q1748 : (Jvm.Cond.selects "PendulumGymModel" ({ cls := "PendulumGymModel", name := "addPendulum", desc := "(I)I" } : Jvm.MethodName) ({ cls := "PendulumGymModel", name := "addPendulum", desc := "(I)I" } : Jvm.MethodName)) ∈ lw_all := lw_g (lw_at lw_m8 1 rfl) rfl
theorem q1749 : (Jvm.Cond.code ({ cls := "PendulumGymModel", name := "addPendulum", desc := "(I)I" } : Jvm.MethodName) prog_19_method_17_code (2 : Nat) (Option.some Jvm.ClassFile.FieldType.int)) ∈ lw_all := lw_g (lw_at lw_m8 2 rfl) rfl
theorem q1750 : (Jvm.Cond.methodLink "PendulumGymModel" (63 : Nat) ({ cls := "PendulumGymModel", name := "begin", desc := "()V" } : Jvm.MethodName)) ∈ lw_all := lw_g (lw_at lw_m8 3 rfl) rfl
theorem q1751 : (Jvm.Cond.privateMethod ({ cls := "PendulumGymModel", name := "begin", desc := "()V" } : Jvm.MethodName)) ∈ lw_tbl := lw_at lw_m8 4 rfl
theorem q1752 : (Jvm.Cond.instanceMethod ({ cls := "PendulumGymModel", name := "begin", desc := "()V" } : Jvm.MethodName)) ∈ lw_all := lw_g (lw_at lw_m8 5 rfl) rfl
theorem q1753 : (Jvm.Cond.code ({ cls := "PendulumGymModel", name := "begin", desc := "()V" } : Jvm.MethodName) prog_19_method_8_code (1 : Nat) (Option.none : Option Jvm.ClassFile.FieldType)) ∈ lw_all := lw_g (lw_at lw_m8 6 rfl) rfl
theorem q1754 : (Jvm.Cond.methodLink "PendulumGymModel" (45 : Nat) ({ cls := "PendulumGymModel", name := "copy", desc := "([II[II)V" } : Jvm.MethodName)) ∈ lw_all := lw_g (lw_at lw_m8 7 rfl) rfl
theorem q1755 : (Jvm.Cond.static ({ cls := "PendulumGymModel", name := "copy", desc := "([II[II)V" } : Jvm.MethodName)) ∈ lw_all := lw_g (lw_at lw_m8 8 rfl) rfl
theorem q1756 : (Jvm.Cond.code ({ cls := "PendulumGymModel", name := "copy", desc := "([II[II)V" } : Jvm.MethodName) prog_19_method_7_code (5 : Nat) (Option.none : Option Jvm.ClassFile.FieldType)) ∈ lw_all := lw_g (lw_at lw_m8 9 rfl) rfl
theorem q1757 : (Jvm.Cond.methodLink "PendulumGymModel" (66 : Nat) ({ cls := "PendulumGymModel", name := "adds", desc := "(I)I" } : Jvm.MethodName)) ∈ lw_all := lw_g (lw_at lw_m8 10 rfl) rfl
theorem q1758 : (Jvm.Cond.privateMethod ({ cls := "PendulumGymModel", name := "adds", desc := "(I)I" } : Jvm.MethodName)) ∈ lw_tbl := lw_at lw_m8 11 rfl
theorem q1759 : (Jvm.Cond.instanceMethod ({ cls := "PendulumGymModel", name := "adds", desc := "(I)I" } : Jvm.MethodName)) ∈ lw_all := lw_g (lw_at lw_m8 12 rfl) rfl
theorem q1760 : (Jvm.Cond.code ({ cls := "PendulumGymModel", name := "adds", desc := "(I)I" } : Jvm.MethodName) prog_19_method_16_code (2 : Nat) (Option.some Jvm.ClassFile.FieldType.int)) ∈ lw_all := lw_g (lw_at lw_m8 13 rfl) rfl
theorem q1761 : (Jvm.Cond.methodLink "PendulumGymModel" (52 : Nat) ({ cls := "PendulumGymModel", name := "in", desc := "(III)Z" } : Jvm.MethodName)) ∈ lw_all := lw_g (lw_at lw_m8 14 rfl) rfl
theorem q1762 : (Jvm.Cond.static ({ cls := "PendulumGymModel", name := "in", desc := "(III)Z" } : Jvm.MethodName)) ∈ lw_all := lw_g (lw_at lw_m8 15 rfl) rfl
theorem q1763 : (Jvm.Cond.code ({ cls := "PendulumGymModel", name := "in", desc := "(III)Z" } : Jvm.MethodName) prog_19_method_3_code (3 : Nat) (Option.some Jvm.ClassFile.FieldType.boolean)) ∈ lw_all := lw_g (lw_at lw_m8 16 rfl) rfl
theorem q1764 : (Jvm.Cond.methodLink "PendulumGymModel" (56 : Nat) ({ cls := "PendulumGymModel", name := "fails", desc := "(I)I" } : Jvm.MethodName)) ∈ lw_all := lw_g (lw_at lw_m8 17 rfl) rfl
theorem q1765 : (Jvm.Cond.privateMethod ({ cls := "PendulumGymModel", name := "fails", desc := "(I)I" } : Jvm.MethodName)) ∈ lw_tbl := lw_at lw_m8 18 rfl
theorem q1766 : (Jvm.Cond.instanceMethod ({ cls := "PendulumGymModel", name := "fails", desc := "(I)I" } : Jvm.MethodName)) ∈ lw_all := lw_g (lw_at lw_m8 19 rfl) rfl
theorem q1767 : (Jvm.Cond.code ({ cls := "PendulumGymModel", name := "fails", desc := "(I)I" } : Jvm.MethodName) prog_19_method_6_code (2 : Nat) (Option.some Jvm.ClassFile.FieldType.int)) ∈ lw_all := lw_g (lw_at lw_m8 20 rfl) rfl
theorem q1768 : (Jvm.Cond.methodLink "PendulumGymModel" (60 : Nat) ({ cls := "PendulumGymModel", name := "done", desc := "(I)I" } : Jvm.MethodName)) ∈ lw_all := lw_g (lw_at lw_m8 21 rfl) rfl
theorem q1769 : (Jvm.Cond.privateMethod ({ cls := "PendulumGymModel", name := "done", desc := "(I)I" } : Jvm.MethodName)) ∈ lw_tbl := lw_at lw_m8 22 rfl
theorem q1770 : (Jvm.Cond.instanceMethod ({ cls := "PendulumGymModel", name := "done", desc := "(I)I" } : Jvm.MethodName)) ∈ lw_all := lw_g (lw_at lw_m8 23 rfl) rfl
theorem q1771 : (Jvm.Cond.code ({ cls := "PendulumGymModel", name := "done", desc := "(I)I" } : Jvm.MethodName) prog_19_method_5_code (2 : Nat) (Option.some Jvm.ClassFile.FieldType.int)) ∈ lw_all := lw_g (lw_at lw_m8 24 rfl) rfl
theorem q1772 : (Jvm.Cond.methodLink "PendulumGymModel" (69 : Nat) ({ cls := "PendulumGymModel", name := "kept", desc := "(I)I" } : Jvm.MethodName)) ∈ lw_all := lw_g (lw_at lw_m8 25 rfl) rfl
theorem q1773 : (Jvm.Cond.privateMethod ({ cls := "PendulumGymModel", name := "kept", desc := "(I)I" } : Jvm.MethodName)) ∈ lw_tbl := lw_at lw_m8 26 rfl
theorem q1774 : (Jvm.Cond.instanceMethod ({ cls := "PendulumGymModel", name := "kept", desc := "(I)I" } : Jvm.MethodName)) ∈ lw_all := lw_g (lw_at lw_m8 27 rfl) rfl
theorem q1775 : (Jvm.Cond.code ({ cls := "PendulumGymModel", name := "kept", desc := "(I)I" } : Jvm.MethodName) prog_19_method_9_code (3 : Nat) (Option.some Jvm.ClassFile.FieldType.int)) ∈ lw_all := lw_g (lw_at lw_m8 28 rfl) rfl
theorem q1777 : (Jvm.Cond.instanceMethod ({ cls := "PendulumGymModel", name := "push", desc := "(II)I" } : Jvm.MethodName)) ∈ lw_all := lw_g (lw_at lw_m8 30 rfl) rfl
theorem q1778 : (Jvm.Cond.selects "PendulumGymModel" ({ cls := "PendulumGymModel", name := "push", desc := "(II)I" } : Jvm.MethodName) ({ cls := "PendulumGymModel", name := "push", desc := "(II)I" } : Jvm.MethodName)) ∈ lw_all := lw_g (lw_at lw_m8 31 rfl) rfl
theorem q1779 : (Jvm.Cond.code ({ cls := "PendulumGymModel", name := "push", desc := "(II)I" } : Jvm.MethodName) prog_19_method_19_code (3 : Nat) (Option.some Jvm.ClassFile.FieldType.int)) ∈ lw_all := lw_g (lw_at lw_m8 32 rfl) rfl
theorem q1780 : (Jvm.Cond.methodLink "PendulumGymModel" (82 : Nat) ({ cls := "PendulumGymModel", name := "pushes", desc := "(II)I" } : Jvm.MethodName)) ∈ lw_all := lw_g (lw_at lw_m8 33 rfl) rfl
theorem q1781 : (Jvm.Cond.privateMethod ({ cls := "PendulumGymModel", name := "pushes", desc := "(II)I" } : Jvm.MethodName)) ∈ lw_tbl := lw_at lw_m8 34 rfl
theorem q1782 : (Jvm.Cond.instanceMethod ({ cls := "PendulumGymModel", name := "pushes", desc := "(II)I" } : Jvm.MethodName)) ∈ lw_all := lw_g (lw_at lw_m8 35 rfl) rfl
theorem q1783 : (Jvm.Cond.code ({ cls := "PendulumGymModel", name := "pushes", desc := "(II)I" } : Jvm.MethodName) prog_19_method_18_code (4 : Nat) (Option.some Jvm.ClassFile.FieldType.int)) ∈ lw_all := lw_g (lw_at lw_m8 36 rfl) rfl
theorem q1784 : (Jvm.Cond.methodLink "PendulumGymModel" (72 : Nat) ({ cls := "PendulumGymModel", name := "isPendulum", desc := "(I)Z" } : Jvm.MethodName)) ∈ lw_all := lw_g (lw_at lw_m8 37 rfl) rfl
theorem q1785 : (Jvm.Cond.privateMethod ({ cls := "PendulumGymModel", name := "isPendulum", desc := "(I)Z" } : Jvm.MethodName)) ∈ lw_tbl := lw_at lw_m8 38 rfl
theorem q1786 : (Jvm.Cond.instanceMethod ({ cls := "PendulumGymModel", name := "isPendulum", desc := "(I)Z" } : Jvm.MethodName)) ∈ lw_all := lw_g (lw_at lw_m8 39 rfl) rfl
theorem q1787 : (Jvm.Cond.code ({ cls := "PendulumGymModel", name := "isPendulum", desc := "(I)Z" } : Jvm.MethodName) prog_19_method_10_code (2 : Nat) (Option.some Jvm.ClassFile.FieldType.boolean)) ∈ lw_all := lw_g (lw_at lw_m8 40 rfl) rfl
theorem q1788 : (Jvm.Cond.methodLink "PendulumGymModel" (76 : Nat) ({ cls := "PendulumGymModel", name := "rests", desc := "(I)Z" } : Jvm.MethodName)) ∈ lw_all := lw_g (lw_at lw_m8 41 rfl) rfl
theorem q1789 : (Jvm.Cond.privateMethod ({ cls := "PendulumGymModel", name := "rests", desc := "(I)Z" } : Jvm.MethodName)) ∈ lw_tbl := lw_at lw_m8 42 rfl
theorem q1790 : (Jvm.Cond.instanceMethod ({ cls := "PendulumGymModel", name := "rests", desc := "(I)Z" } : Jvm.MethodName)) ∈ lw_all := lw_g (lw_at lw_m8 43 rfl) rfl
theorem q1791 : (Jvm.Cond.code ({ cls := "PendulumGymModel", name := "rests", desc := "(I)Z" } : Jvm.MethodName) prog_19_method_11_code (2 : Nat) (Option.some Jvm.ClassFile.FieldType.boolean)) ∈ lw_all := lw_g (lw_at lw_m8 44 rfl) rfl
theorem q1792 : (Jvm.Cond.methodLink "PendulumGymModel" (79 : Nat) ({ cls := "PendulumGymModel", name := "kind", desc := "(I)I" } : Jvm.MethodName)) ∈ lw_all := lw_g (lw_at lw_m8 45 rfl) rfl
theorem q1793 : (Jvm.Cond.privateMethod ({ cls := "PendulumGymModel", name := "kind", desc := "(I)I" } : Jvm.MethodName)) ∈ lw_tbl := lw_at lw_m8 46 rfl
theorem q1794 : (Jvm.Cond.instanceMethod ({ cls := "PendulumGymModel", name := "kind", desc := "(I)I" } : Jvm.MethodName)) ∈ lw_all := lw_g (lw_at lw_m8 47 rfl) rfl
theorem q1795 : (Jvm.Cond.code ({ cls := "PendulumGymModel", name := "kind", desc := "(I)I" } : Jvm.MethodName) prog_19_method_12_code (3 : Nat) (Option.some Jvm.ClassFile.FieldType.int)) ∈ lw_all := lw_g (lw_at lw_m8 48 rfl) rfl
theorem q1797 : (Jvm.Cond.instanceMethod ({ cls := "PendulumGymModel", name := "catchPendulum", desc := "(I)I" } : Jvm.MethodName)) ∈ lw_all := lw_g (lw_at lw_m8 50 rfl) rfl
theorem q1798 : (Jvm.Cond.selects "PendulumGymModel" ({ cls := "PendulumGymModel", name := "catchPendulum", desc := "(I)I" } : Jvm.MethodName) ({ cls := "PendulumGymModel", name := "catchPendulum", desc := "(I)I" } : Jvm.MethodName)) ∈ lw_all := lw_g (lw_at lw_m8 51 rfl) rfl
theorem q1799 : (Jvm.Cond.code ({ cls := "PendulumGymModel", name := "catchPendulum", desc := "(I)I" } : Jvm.MethodName) prog_19_method_21_code (2 : Nat) (Option.some Jvm.ClassFile.FieldType.int)) ∈ lw_all := lw_g (lw_at lw_m8 52 rfl) rfl
theorem q1800 : (Jvm.Cond.methodLink "PendulumGymModel" (86 : Nat) ({ cls := "PendulumGymModel", name := "catches", desc := "(I)I" } : Jvm.MethodName)) ∈ lw_all := lw_g (lw_at lw_m8 53 rfl) rfl
theorem q1801 : (Jvm.Cond.privateMethod ({ cls := "PendulumGymModel", name := "catches", desc := "(I)I" } : Jvm.MethodName)) ∈ lw_tbl := lw_at lw_m8 54 rfl
theorem q1802 : (Jvm.Cond.instanceMethod ({ cls := "PendulumGymModel", name := "catches", desc := "(I)I" } : Jvm.MethodName)) ∈ lw_all := lw_g (lw_at lw_m8 55 rfl) rfl
theorem q1803 : (Jvm.Cond.code ({ cls := "PendulumGymModel", name := "catches", desc := "(I)I" } : Jvm.MethodName) prog_19_method_20_code (3 : Nat) (Option.some Jvm.ClassFile.FieldType.int)) ∈ lw_all := lw_g (lw_at lw_m8 56 rfl) rfl
theorem q1805 : (Jvm.Cond.instanceMethod ({ cls := "PendulumGymModel", name := "setFriction", desc := "(I)I" } : Jvm.MethodName)) ∈ lw_all := lw_g (lw_at lw_m8 58 rfl) rfl
theorem q1806 : (Jvm.Cond.selects "PendulumGymModel" ({ cls := "PendulumGymModel", name := "setFriction", desc := "(I)I" } : Jvm.MethodName) ({ cls := "PendulumGymModel", name := "setFriction", desc := "(I)I" } : Jvm.MethodName)) ∈ lw_all := lw_g (lw_at lw_m8 59 rfl) rfl
theorem q1807 : (Jvm.Cond.code ({ cls := "PendulumGymModel", name := "setFriction", desc := "(I)I" } : Jvm.MethodName) prog_19_method_23_code (2 : Nat) (Option.some Jvm.ClassFile.FieldType.int)) ∈ lw_all := lw_g (lw_at lw_m8 60 rfl) rfl
theorem q1808 : (Jvm.Cond.methodLink "PendulumGymModel" (89 : Nat) ({ cls := "PendulumGymModel", name := "rubs", desc := "(I)I" } : Jvm.MethodName)) ∈ lw_all := lw_g (lw_at lw_m8 61 rfl) rfl
theorem q1809 : (Jvm.Cond.privateMethod ({ cls := "PendulumGymModel", name := "rubs", desc := "(I)I" } : Jvm.MethodName)) ∈ lw_tbl := lw_at lw_m8 62 rfl
theorem q1810 : (Jvm.Cond.instanceMethod ({ cls := "PendulumGymModel", name := "rubs", desc := "(I)I" } : Jvm.MethodName)) ∈ lw_all := lw_g (lw_at lw_m8 63 rfl) rfl
theorem q1811 : (Jvm.Cond.code ({ cls := "PendulumGymModel", name := "rubs", desc := "(I)I" } : Jvm.MethodName) prog_19_method_22_code (3 : Nat) (Option.some Jvm.ClassFile.FieldType.int)) ∈ lw_all := lw_g (lw_at lw_m8 64 rfl) rfl
theorem q1813 : (Jvm.Cond.instanceMethod ({ cls := "PendulumGymModel", name := "pass", desc := "(I)I" } : Jvm.MethodName)) ∈ lw_all := lw_g (lw_at lw_m8 66 rfl) rfl
theorem q1814 : (Jvm.Cond.selects "PendulumGymModel" ({ cls := "PendulumGymModel", name := "pass", desc := "(I)I" } : Jvm.MethodName) ({ cls := "PendulumGymModel", name := "pass", desc := "(I)I" } : Jvm.MethodName)) ∈ lw_all := lw_g (lw_at lw_m8 67 rfl) rfl
theorem q1815 : (Jvm.Cond.code ({ cls := "PendulumGymModel", name := "pass", desc := "(I)I" } : Jvm.MethodName) prog_19_method_26_code (2 : Nat) (Option.some Jvm.ClassFile.FieldType.int)) ∈ lw_all := lw_g (lw_at lw_m8 68 rfl) rfl
theorem q1816 : (Jvm.Cond.methodLink "PendulumGymModel" (102 : Nat) ({ cls := "PendulumGymModel", name := "passes", desc := "(I)I" } : Jvm.MethodName)) ∈ lw_all := lw_g (lw_at lw_m8 69 rfl) rfl
theorem q1817 : (Jvm.Cond.privateMethod ({ cls := "PendulumGymModel", name := "passes", desc := "(I)I" } : Jvm.MethodName)) ∈ lw_tbl := lw_at lw_m8 70 rfl
theorem q1818 : (Jvm.Cond.instanceMethod ({ cls := "PendulumGymModel", name := "passes", desc := "(I)I" } : Jvm.MethodName)) ∈ lw_all := lw_g (lw_at lw_m8 71 rfl) rfl
theorem q1819 : (Jvm.Cond.code ({ cls := "PendulumGymModel", name := "passes", desc := "(I)I" } : Jvm.MethodName) prog_19_method_25_code (4 : Nat) (Option.some Jvm.ClassFile.FieldType.int)) ∈ lw_all := lw_g (lw_at lw_m8 72 rfl) rfl
theorem q1820 : (Jvm.Cond.methodLink "PendulumGymModel" (98 : Nat) ({ cls := "PendulumGymModel", name := "passesTick", desc := "()I" } : Jvm.MethodName)) ∈ lw_all := lw_g (lw_at lw_m8 73 rfl) rfl
theorem q1821 : (Jvm.Cond.privateMethod ({ cls := "PendulumGymModel", name := "passesTick", desc := "()I" } : Jvm.MethodName)) ∈ lw_tbl := lw_at lw_m8 74 rfl
theorem q1822 : (Jvm.Cond.instanceMethod ({ cls := "PendulumGymModel", name := "passesTick", desc := "()I" } : Jvm.MethodName)) ∈ lw_all := lw_g (lw_at lw_m8 75 rfl) rfl
theorem q1823 : (Jvm.Cond.code ({ cls := "PendulumGymModel", name := "passesTick", desc := "()I" } : Jvm.MethodName) prog_19_method_24_code (3 : Nat) (Option.some Jvm.ClassFile.FieldType.int)) ∈ lw_all := lw_g (lw_at lw_m8 76 rfl) rfl
theorem q1824 : (Jvm.Cond.methodLink "PendulumGymModel" (92 : Nat) ({ cls := "PendulumGymModel", name := "period", desc := "(I)I" } : Jvm.MethodName)) ∈ lw_all := lw_g (lw_at lw_m8 77 rfl) rfl
theorem q1825 : (Jvm.Cond.privateMethod ({ cls := "PendulumGymModel", name := "period", desc := "(I)I" } : Jvm.MethodName)) ∈ lw_tbl := lw_at lw_m8 78 rfl
theorem q1826 : (Jvm.Cond.instanceMethod ({ cls := "PendulumGymModel", name := "period", desc := "(I)I" } : Jvm.MethodName)) ∈ lw_all := lw_g (lw_at lw_m8 79 rfl) rfl
theorem q1827 : (Jvm.Cond.code ({ cls := "PendulumGymModel", name := "period", desc := "(I)I" } : Jvm.MethodName) prog_19_method_13_code (3 : Nat) (Option.some Jvm.ClassFile.FieldType.int)) ∈ lw_all := lw_g (lw_at lw_m8 80 rfl) rfl
theorem q1828 : (Jvm.Cond.methodLink "PendulumGymModel" (95 : Nat) ({ cls := "PendulumGymModel", name := "behindSwing", desc := "(I)I" } : Jvm.MethodName)) ∈ lw_all := lw_g (lw_at lw_m8 81 rfl) rfl
theorem q1829 : (Jvm.Cond.privateMethod ({ cls := "PendulumGymModel", name := "behindSwing", desc := "(I)I" } : Jvm.MethodName)) ∈ lw_tbl := lw_at lw_m8 82 rfl
theorem q1830 : (Jvm.Cond.instanceMethod ({ cls := "PendulumGymModel", name := "behindSwing", desc := "(I)I" } : Jvm.MethodName)) ∈ lw_all := lw_g (lw_at lw_m8 83 rfl) rfl
theorem q1831 : (Jvm.Cond.code ({ cls := "PendulumGymModel", name := "behindSwing", desc := "(I)I" } : Jvm.MethodName) prog_19_method_14_code (3 : Nat) (Option.some Jvm.ClassFile.FieldType.int)) ∈ lw_all := lw_g (lw_at lw_m8 84 rfl) rfl
theorem q1833 : (Jvm.Cond.instanceMethod ({ cls := "PendulumGymModel", name := "pendulumCount", desc := "()I" } : Jvm.MethodName)) ∈ lw_all := lw_g (lw_at lw_m8 86 rfl) rfl
theorem q1834 : (Jvm.Cond.selects "PendulumGymModel" ({ cls := "PendulumGymModel", name := "pendulumCount", desc := "()I" } : Jvm.MethodName) ({ cls := "PendulumGymModel", name := "pendulumCount", desc := "()I" } : Jvm.MethodName)) ∈ lw_all := lw_g (lw_at lw_m8 87 rfl) rfl
theorem q1835 : (Jvm.Cond.code ({ cls := "PendulumGymModel", name := "pendulumCount", desc := "()I" } : Jvm.MethodName) prog_19_method_27_code (1 : Nat) (Option.some Jvm.ClassFile.FieldType.int)) ∈ lw_all := lw_g (lw_at lw_m8 88 rfl) rfl
theorem q1837 : (Jvm.Cond.instanceMethod ({ cls := "PendulumGymModel", name := "lengthOf", desc := "(I)I" } : Jvm.MethodName)) ∈ lw_all := lw_g (lw_at lw_m8 90 rfl) rfl
theorem q1838 : (Jvm.Cond.selects "PendulumGymModel" ({ cls := "PendulumGymModel", name := "lengthOf", desc := "(I)I" } : Jvm.MethodName) ({ cls := "PendulumGymModel", name := "lengthOf", desc := "(I)I" } : Jvm.MethodName)) ∈ lw_all := lw_g (lw_at lw_m8 91 rfl) rfl
theorem q1839 : (Jvm.Cond.code ({ cls := "PendulumGymModel", name := "lengthOf", desc := "(I)I" } : Jvm.MethodName) prog_19_method_29_code (2 : Nat) (Option.some Jvm.ClassFile.FieldType.int)) ∈ lw_all := lw_g (lw_at lw_m8 92 rfl) rfl
theorem q1840 : (Jvm.Cond.methodLink "PendulumGymModel" (105 : Nat) ({ cls := "PendulumGymModel", name := "pendulumNumber", desc := "(II)I" } : Jvm.MethodName)) ∈ lw_all := lw_g (lw_at lw_m8 93 rfl) rfl
theorem q1841 : (Jvm.Cond.privateMethod ({ cls := "PendulumGymModel", name := "pendulumNumber", desc := "(II)I" } : Jvm.MethodName)) ∈ lw_tbl := lw_at lw_m8 94 rfl
theorem q1842 : (Jvm.Cond.instanceMethod ({ cls := "PendulumGymModel", name := "pendulumNumber", desc := "(II)I" } : Jvm.MethodName)) ∈ lw_all := lw_g (lw_at lw_m8 95 rfl) rfl
theorem q1843 : (Jvm.Cond.code ({ cls := "PendulumGymModel", name := "pendulumNumber", desc := "(II)I" } : Jvm.MethodName) prog_19_method_28_code (3 : Nat) (Option.some Jvm.ClassFile.FieldType.int)) ∈ lw_all := lw_g (lw_at lw_m8 96 rfl) rfl
theorem q1845 : (Jvm.Cond.instanceMethod ({ cls := "PendulumGymModel", name := "classOf", desc := "(I)I" } : Jvm.MethodName)) ∈ lw_all := lw_g (lw_at lw_m8 98 rfl) rfl
theorem q1846 : (Jvm.Cond.selects "PendulumGymModel" ({ cls := "PendulumGymModel", name := "classOf", desc := "(I)I" } : Jvm.MethodName) ({ cls := "PendulumGymModel", name := "classOf", desc := "(I)I" } : Jvm.MethodName)) ∈ lw_all := lw_g (lw_at lw_m8 99 rfl) rfl
theorem q1847 : (Jvm.Cond.code ({ cls := "PendulumGymModel", name := "classOf", desc := "(I)I" } : Jvm.MethodName) prog_19_method_30_code (2 : Nat) (Option.some Jvm.ClassFile.FieldType.int)) ∈ lw_all := lw_g (lw_at lw_m8 100 rfl) rfl
theorem q1849 : (Jvm.Cond.instanceMethod ({ cls := "PendulumGymModel", name := "amplitudeOf", desc := "(I)I" } : Jvm.MethodName)) ∈ lw_all := lw_g (lw_at lw_m8 102 rfl) rfl
theorem q1850 : (Jvm.Cond.selects "PendulumGymModel" ({ cls := "PendulumGymModel", name := "amplitudeOf", desc := "(I)I" } : Jvm.MethodName) ({ cls := "PendulumGymModel", name := "amplitudeOf", desc := "(I)I" } : Jvm.MethodName)) ∈ lw_all := lw_g (lw_at lw_m8 103 rfl) rfl
theorem q1851 : (Jvm.Cond.code ({ cls := "PendulumGymModel", name := "amplitudeOf", desc := "(I)I" } : Jvm.MethodName) prog_19_method_31_code (2 : Nat) (Option.some Jvm.ClassFile.FieldType.int)) ∈ lw_all := lw_g (lw_at lw_m8 104 rfl) rfl
theorem q1853 : (Jvm.Cond.instanceMethod ({ cls := "PendulumGymModel", name := "startOf", desc := "(I)I" } : Jvm.MethodName)) ∈ lw_all := lw_g (lw_at lw_m8 106 rfl) rfl
theorem q1854 : (Jvm.Cond.selects "PendulumGymModel" ({ cls := "PendulumGymModel", name := "startOf", desc := "(I)I" } : Jvm.MethodName) ({ cls := "PendulumGymModel", name := "startOf", desc := "(I)I" } : Jvm.MethodName)) ∈ lw_all := lw_g (lw_at lw_m8 107 rfl) rfl
theorem q1855 : (Jvm.Cond.code ({ cls := "PendulumGymModel", name := "startOf", desc := "(I)I" } : Jvm.MethodName) prog_19_method_32_code (2 : Nat) (Option.some Jvm.ClassFile.FieldType.int)) ∈ lw_all := lw_g (lw_at lw_m8 108 rfl) rfl
theorem q1857 : (Jvm.Cond.instanceMethod ({ cls := "PendulumGymModel", name := "periodOf", desc := "(I)I" } : Jvm.MethodName)) ∈ lw_all := lw_g (lw_at lw_m8 110 rfl) rfl
theorem q1858 : (Jvm.Cond.selects "PendulumGymModel" ({ cls := "PendulumGymModel", name := "periodOf", desc := "(I)I" } : Jvm.MethodName) ({ cls := "PendulumGymModel", name := "periodOf", desc := "(I)I" } : Jvm.MethodName)) ∈ lw_all := lw_g (lw_at lw_m8 111 rfl) rfl
theorem q1859 : (Jvm.Cond.code ({ cls := "PendulumGymModel", name := "periodOf", desc := "(I)I" } : Jvm.MethodName) prog_19_method_33_code (2 : Nat) (Option.some Jvm.ClassFile.FieldType.int)) ∈ lw_all := lw_g (lw_at lw_m8 112 rfl) rfl
theorem q1861 : (Jvm.Cond.instanceMethod ({ cls := "PendulumGymModel", name := "periodByEstimates", desc := "(I)I" } : Jvm.MethodName)) ∈ lw_all := lw_g (lw_at lw_m8 114 rfl) rfl
theorem q1862 : (Jvm.Cond.selects "PendulumGymModel" ({ cls := "PendulumGymModel", name := "periodByEstimates", desc := "(I)I" } : Jvm.MethodName) ({ cls := "PendulumGymModel", name := "periodByEstimates", desc := "(I)I" } : Jvm.MethodName)) ∈ lw_all := lw_g (lw_at lw_m8 115 rfl) rfl
theorem q1863 : (Jvm.Cond.code ({ cls := "PendulumGymModel", name := "periodByEstimates", desc := "(I)I" } : Jvm.MethodName) prog_19_method_34_code (2 : Nat) (Option.some Jvm.ClassFile.FieldType.int)) ∈ lw_all := lw_g (lw_at lw_m8 116 rfl) rfl
theorem q1864 : (Jvm.Cond.methodLink "PendulumGymModel" (108 : Nat) ({ cls := "PendulumGymModel", name := "periodOf", desc := "(I)I" } : Jvm.MethodName)) ∈ lw_all := lw_g (lw_at lw_m8 117 rfl) rfl
theorem q1866 : (Jvm.Cond.instanceMethod ({ cls := "PendulumGymModel", name := "swingsOf", desc := "(I)I" } : Jvm.MethodName)) ∈ lw_all := lw_g (lw_at lw_m8 119 rfl) rfl
theorem q1867 : (Jvm.Cond.selects "PendulumGymModel" ({ cls := "PendulumGymModel", name := "swingsOf", desc := "(I)I" } : Jvm.MethodName) ({ cls := "PendulumGymModel", name := "swingsOf", desc := "(I)I" } : Jvm.MethodName)) ∈ lw_all := lw_g (lw_at lw_m8 120 rfl) rfl
theorem q1868 : (Jvm.Cond.code ({ cls := "PendulumGymModel", name := "swingsOf", desc := "(I)I" } : Jvm.MethodName) prog_19_method_35_code (2 : Nat) (Option.some Jvm.ClassFile.FieldType.int)) ∈ lw_all := lw_g (lw_at lw_m8 121 rfl) rfl
theorem q1870 : (Jvm.Cond.instanceMethod ({ cls := "PendulumGymModel", name := "clock", desc := "()I" } : Jvm.MethodName)) ∈ lw_all := lw_g (lw_at lw_m8 123 rfl) rfl
theorem q1871 : (Jvm.Cond.selects "PendulumGymModel" ({ cls := "PendulumGymModel", name := "clock", desc := "()I" } : Jvm.MethodName) ({ cls := "PendulumGymModel", name := "clock", desc := "()I" } : Jvm.MethodName)) ∈ lw_all := lw_g (lw_at lw_m8 124 rfl) rfl
theorem q1872 : (Jvm.Cond.code ({ cls := "PendulumGymModel", name := "clock", desc := "()I" } : Jvm.MethodName) prog_19_method_36_code (1 : Nat) (Option.some Jvm.ClassFile.FieldType.int)) ∈ lw_all := lw_g (lw_at lw_m8 125 rfl) rfl
theorem q1874 : (Jvm.Cond.instanceMethod ({ cls := "PendulumGymModel", name := "friction", desc := "()I" } : Jvm.MethodName)) ∈ lw_all := lw_g (lw_at lw_m8 127 rfl) rfl
theorem q1875 : (Jvm.Cond.selects "PendulumGymModel" ({ cls := "PendulumGymModel", name := "friction", desc := "()I" } : Jvm.MethodName) ({ cls := "PendulumGymModel", name := "friction", desc := "()I" } : Jvm.MethodName)) ∈ lw_all := lw_g (lw_at lw_m8 128 rfl) rfl
theorem q1876 : (Jvm.Cond.code ({ cls := "PendulumGymModel", name := "friction", desc := "()I" } : Jvm.MethodName) prog_19_method_37_code (1 : Nat) (Option.some Jvm.ClassFile.FieldType.int)) ∈ lw_all := lw_g (lw_at lw_m8 129 rfl) rfl
theorem q1878 : (Jvm.Cond.instanceMethod ({ cls := "PendulumGymModel", name := "recordOf", desc := "(I)I" } : Jvm.MethodName)) ∈ lw_all := lw_g (lw_at lw_m8 131 rfl) rfl
theorem q1879 : (Jvm.Cond.selects "PendulumGymModel" ({ cls := "PendulumGymModel", name := "recordOf", desc := "(I)I" } : Jvm.MethodName) ({ cls := "PendulumGymModel", name := "recordOf", desc := "(I)I" } : Jvm.MethodName)) ∈ lw_all := lw_g (lw_at lw_m8 132 rfl) rfl
theorem q1880 : (Jvm.Cond.code ({ cls := "PendulumGymModel", name := "recordOf", desc := "(I)I" } : Jvm.MethodName) prog_19_method_39_code (3 : Nat) (Option.some Jvm.ClassFile.FieldType.int)) ∈ lw_all := lw_g (lw_at lw_m8 133 rfl) rfl
theorem q1881 : (Jvm.Cond.methodLink "PendulumGymModel" (111 : Nat) ({ cls := "PendulumGymModel", name := "whyNoRecord", desc := "(I)I" } : Jvm.MethodName)) ∈ lw_all := lw_g (lw_at lw_m8 134 rfl) rfl
theorem q1882 : (Jvm.Cond.privateMethod ({ cls := "PendulumGymModel", name := "whyNoRecord", desc := "(I)I" } : Jvm.MethodName)) ∈ lw_tbl := lw_at lw_m8 135 rfl
theorem q1883 : (Jvm.Cond.instanceMethod ({ cls := "PendulumGymModel", name := "whyNoRecord", desc := "(I)I" } : Jvm.MethodName)) ∈ lw_all := lw_g (lw_at lw_m8 136 rfl) rfl
theorem q1884 : (Jvm.Cond.code ({ cls := "PendulumGymModel", name := "whyNoRecord", desc := "(I)I" } : Jvm.MethodName) prog_19_method_38_code (2 : Nat) (Option.some Jvm.ClassFile.FieldType.int)) ∈ lw_all := lw_g (lw_at lw_m8 137 rfl) rfl
theorem q1886 : (Jvm.Cond.instanceMethod ({ cls := "PendulumGymModel", name := "holderOf", desc := "(I)I" } : Jvm.MethodName)) ∈ lw_all := lw_g (lw_at lw_m8 139 rfl) rfl
theorem q1887 : (Jvm.Cond.selects "PendulumGymModel" ({ cls := "PendulumGymModel", name := "holderOf", desc := "(I)I" } : Jvm.MethodName) ({ cls := "PendulumGymModel", name := "holderOf", desc := "(I)I" } : Jvm.MethodName)) ∈ lw_all := lw_g (lw_at lw_m8 140 rfl) rfl
theorem q1888 : (Jvm.Cond.code ({ cls := "PendulumGymModel", name := "holderOf", desc := "(I)I" } : Jvm.MethodName) prog_19_method_40_code (3 : Nat) (Option.some Jvm.ClassFile.FieldType.int)) ∈ lw_all := lw_g (lw_at lw_m8 141 rfl) rfl
theorem q1890 : (Jvm.Cond.instanceMethod ({ cls := "PendulumGymModel", name := "pendulumAtRank", desc := "(I)I" } : Jvm.MethodName)) ∈ lw_all := lw_g (lw_at lw_m8 143 rfl) rfl
theorem q1891 : (Jvm.Cond.selects "PendulumGymModel" ({ cls := "PendulumGymModel", name := "pendulumAtRank", desc := "(I)I" } : Jvm.MethodName) ({ cls := "PendulumGymModel", name := "pendulumAtRank", desc := "(I)I" } : Jvm.MethodName)) ∈ lw_all := lw_g (lw_at lw_m8 144 rfl) rfl
theorem q1892 : (Jvm.Cond.code ({ cls := "PendulumGymModel", name := "pendulumAtRank", desc := "(I)I" } : Jvm.MethodName) prog_19_method_42_code (5 : Nat) (Option.some Jvm.ClassFile.FieldType.int)) ∈ lw_all := lw_g (lw_at lw_m8 145 rfl) rfl
theorem q1893 : (Jvm.Cond.methodLink "PendulumGymModel" (114 : Nat) ({ cls := "PendulumGymModel", name := "isAhead", desc := "(II)Z" } : Jvm.MethodName)) ∈ lw_all := lw_g (lw_at lw_m8 146 rfl) rfl
theorem q1894 : (Jvm.Cond.privateMethod ({ cls := "PendulumGymModel", name := "isAhead", desc := "(II)Z" } : Jvm.MethodName)) ∈ lw_tbl := lw_at lw_m8 147 rfl
theorem q1895 : (Jvm.Cond.instanceMethod ({ cls := "PendulumGymModel", name := "isAhead", desc := "(II)Z" } : Jvm.MethodName)) ∈ lw_all := lw_g (lw_at lw_m8 148 rfl) rfl
theorem q1896 : (Jvm.Cond.code ({ cls := "PendulumGymModel", name := "isAhead", desc := "(II)Z" } : Jvm.MethodName) prog_19_method_41_code (5 : Nat) (Option.some Jvm.ClassFile.FieldType.boolean)) ∈ lw_all := lw_g (lw_at lw_m8 149 rfl) rfl
theorem q1898 : (Jvm.Cond.instanceMethod ({ cls := "PendulumGymModel", name := "swingsToRest", desc := "(I)I" } : Jvm.MethodName)) ∈ lw_all := lw_g (lw_at lw_m8 151 rfl) rfl
theorem q1899 : (Jvm.Cond.selects "PendulumGymModel" ({ cls := "PendulumGymModel", name := "swingsToRest", desc := "(I)I" } : Jvm.MethodName) ({ cls := "PendulumGymModel", name := "swingsToRest", desc := "(I)I" } : Jvm.MethodName)) ∈ lw_all := lw_g (lw_at lw_m8 152 rfl) rfl
theorem q1900 : (Jvm.Cond.code ({ cls := "PendulumGymModel", name := "swingsToRest", desc := "(I)I" } : Jvm.MethodName) prog_19_method_44_code (2 : Nat) (Option.some Jvm.ClassFile.FieldType.int)) ∈ lw_all := lw_g (lw_at lw_m8 153 rfl) rfl
theorem q1901 : (Jvm.Cond.methodLink "PendulumGymModel" (118 : Nat) ({ cls := "PendulumGymModel", name := "swingsLeft", desc := "(I)I" } : Jvm.MethodName)) ∈ lw_all := lw_g (lw_at lw_m8 154 rfl) rfl
theorem q1902 : (Jvm.Cond.privateMethod ({ cls := "PendulumGymModel", name := "swingsLeft", desc := "(I)I" } : Jvm.MethodName)) ∈ lw_tbl := lw_at lw_m8 155 rfl
theorem q1903 : (Jvm.Cond.instanceMethod ({ cls := "PendulumGymModel", name := "swingsLeft", desc := "(I)I" } : Jvm.MethodName)) ∈ lw_all := lw_g (lw_at lw_m8 156 rfl) rfl
theorem q1904 : (Jvm.Cond.code ({ cls := "PendulumGymModel", name := "swingsLeft", desc := "(I)I" } : Jvm.MethodName) prog_19_method_43_code (4 : Nat) (Option.some Jvm.ClassFile.FieldType.int)) ∈ lw_all := lw_g (lw_at lw_m8 157 rfl) rfl
theorem q1906 : (Jvm.Cond.instanceMethod ({ cls := "PendulumGymModel", name := "swingsToRestByTable", desc := "(I)I" } : Jvm.MethodName)) ∈ lw_all := lw_g (lw_at lw_m8 159 rfl) rfl
theorem q1907 : (Jvm.Cond.selects "PendulumGymModel" ({ cls := "PendulumGymModel", name := "swingsToRestByTable", desc := "(I)I" } : Jvm.MethodName) ({ cls := "PendulumGymModel", name := "swingsToRestByTable", desc := "(I)I" } : Jvm.MethodName)) ∈ lw_all := lw_g (lw_at lw_m8 160 rfl) rfl
theorem q1908 : (Jvm.Cond.code ({ cls := "PendulumGymModel", name := "swingsToRestByTable", desc := "(I)I" } : Jvm.MethodName) prog_19_method_45_code (2 : Nat) (Option.some Jvm.ClassFile.FieldType.int)) ∈ lw_all := lw_g (lw_at lw_m8 161 rfl) rfl
theorem q1909 : (Jvm.Cond.methodLink "PendulumGymModel" (121 : Nat) ({ cls := "PendulumGymModel", name := "swingsToRest", desc := "(I)I" } : Jvm.MethodName)) ∈ lw_all := lw_g (lw_at lw_m8 162 rfl) rfl
theorem q1911 : (Jvm.Cond.instanceMethod ({ cls := "PendulumGymModel", name := "restTick", desc := "(I)I" } : Jvm.MethodName)) ∈ lw_all := lw_g (lw_at lw_m8 164 rfl) rfl
theorem q1912 : (Jvm.Cond.selects "PendulumGymModel" ({ cls := "PendulumGymModel", name := "restTick", desc := "(I)I" } : Jvm.MethodName) ({ cls := "PendulumGymModel", name := "restTick", desc := "(I)I" } : Jvm.MethodName)) ∈ lw_all := lw_g (lw_at lw_m8 165 rfl) rfl
theorem q1913 : (Jvm.Cond.code ({ cls := "PendulumGymModel", name := "restTick", desc := "(I)I" } : Jvm.MethodName) prog_19_method_47_code (3 : Nat) (Option.some Jvm.ClassFile.FieldType.int)) ∈ lw_all := lw_g (lw_at lw_m8 166 rfl) rfl
theorem q1914 : (Jvm.Cond.methodLink "PendulumGymModel" (124 : Nat) ({ cls := "PendulumGymModel", name := "swingsUntil", desc := "(II)I" } : Jvm.MethodName)) ∈ lw_all := lw_g (lw_at lw_m8 167 rfl) rfl
theorem q1915 : (Jvm.Cond.privateMethod ({ cls := "PendulumGymModel", name := "swingsUntil", desc := "(II)I" } : Jvm.MethodName)) ∈ lw_tbl := lw_at lw_m8 168 rfl
theorem q1916 : (Jvm.Cond.instanceMethod ({ cls := "PendulumGymModel", name := "swingsUntil", desc := "(II)I" } : Jvm.MethodName)) ∈ lw_all := lw_g (lw_at lw_m8 169 rfl) rfl
theorem q1917 : (Jvm.Cond.code ({ cls := "PendulumGymModel", name := "swingsUntil", desc := "(II)I" } : Jvm.MethodName) prog_19_method_46_code (3 : Nat) (Option.some Jvm.ClassFile.FieldType.int)) ∈ lw_all := lw_g (lw_at lw_m8 170 rfl) rfl
theorem q1919 : (Jvm.Cond.instanceMethod ({ cls := "PendulumGymModel", name := "amplitudeAfter", desc := "(II)I" } : Jvm.MethodName)) ∈ lw_all := lw_g (lw_at lw_m8 172 rfl) rfl
theorem q1920 : (Jvm.Cond.selects "PendulumGymModel" ({ cls := "PendulumGymModel", name := "amplitudeAfter", desc := "(II)I" } : Jvm.MethodName) ({ cls := "PendulumGymModel", name := "amplitudeAfter", desc := "(II)I" } : Jvm.MethodName)) ∈ lw_all := lw_g (lw_at lw_m8 173 rfl) rfl
theorem q1921 : (Jvm.Cond.code ({ cls := "PendulumGymModel", name := "amplitudeAfter", desc := "(II)I" } : Jvm.MethodName) prog_19_method_48_code (6 : Nat) (Option.some Jvm.ClassFile.FieldType.int)) ∈ lw_all := lw_g (lw_at lw_m8 174 rfl) rfl
theorem q1923 : (Jvm.Cond.instanceMethod ({ cls := "PendulumGymModel", name := "meeting", desc := "(II)I" } : Jvm.MethodName)) ∈ lw_all := lw_g (lw_at lw_m8 176 rfl) rfl
theorem q1924 : (Jvm.Cond.selects "PendulumGymModel" ({ cls := "PendulumGymModel", name := "meeting", desc := "(II)I" } : Jvm.MethodName) ({ cls := "PendulumGymModel", name := "meeting", desc := "(II)I" } : Jvm.MethodName)) ∈ lw_all := lw_g (lw_at lw_m8 177 rfl) rfl
theorem q1925 : (Jvm.Cond.code ({ cls := "PendulumGymModel", name := "meeting", desc := "(II)I" } : Jvm.MethodName) prog_19_method_51_code (4 : Nat) (Option.some Jvm.ClassFile.FieldType.int)) ∈ lw_all := lw_g (lw_at lw_m8 178 rfl) rfl
theorem q1926 : (Jvm.Cond.methodLink "PendulumGymModel" (133 : Nat) ({ cls := "PendulumGymModel", name := "meets", desc := "(II)I" } : Jvm.MethodName)) ∈ lw_all := lw_g (lw_at lw_m8 179 rfl) rfl
theorem q1927 : (Jvm.Cond.privateMethod ({ cls := "PendulumGymModel", name := "meets", desc := "(II)I" } : Jvm.MethodName)) ∈ lw_tbl := lw_at lw_m8 180 rfl
theorem q1928 : (Jvm.Cond.instanceMethod ({ cls := "PendulumGymModel", name := "meets", desc := "(II)I" } : Jvm.MethodName)) ∈ lw_all := lw_g (lw_at lw_m8 181 rfl) rfl
theorem q1929 : (Jvm.Cond.code ({ cls := "PendulumGymModel", name := "meets", desc := "(II)I" } : Jvm.MethodName) prog_19_method_50_code (5 : Nat) (Option.some Jvm.ClassFile.FieldType.int)) ∈ lw_all := lw_g (lw_at lw_m8 182 rfl) rfl
theorem q1930 : (Jvm.Cond.methodLink "PendulumGymModel" (130 : Nat) ({ cls := "PendulumGymModel", name := "cycle", desc := "(II)I" } : Jvm.MethodName)) ∈ lw_all := lw_g (lw_at lw_m8 183 rfl) rfl
theorem q1931 : (Jvm.Cond.privateMethod ({ cls := "PendulumGymModel", name := "cycle", desc := "(II)I" } : Jvm.MethodName)) ∈ lw_tbl := lw_at lw_m8 184 rfl
theorem q1932 : (Jvm.Cond.instanceMethod ({ cls := "PendulumGymModel", name := "cycle", desc := "(II)I" } : Jvm.MethodName)) ∈ lw_all := lw_g (lw_at lw_m8 185 rfl) rfl
theorem q1933 : (Jvm.Cond.code ({ cls := "PendulumGymModel", name := "cycle", desc := "(II)I" } : Jvm.MethodName) prog_19_method_49_code (3 : Nat) (Option.some Jvm.ClassFile.FieldType.int)) ∈ lw_all := lw_g (lw_at lw_m8 186 rfl) rfl
theorem q1934 : (Jvm.Cond.methodLink "PendulumGymModel" (127 : Nat) ({ cls := "PendulumGymModel", name := "divisor", desc := "(II)I" } : Jvm.MethodName)) ∈ lw_all := lw_g (lw_at lw_m8 187 rfl) rfl
theorem q1935 : (Jvm.Cond.static ({ cls := "PendulumGymModel", name := "divisor", desc := "(II)I" } : Jvm.MethodName)) ∈ lw_all := lw_g (lw_at lw_m8 188 rfl) rfl
theorem q1936 : (Jvm.Cond.code ({ cls := "PendulumGymModel", name := "divisor", desc := "(II)I" } : Jvm.MethodName) prog_19_method_15_code (5 : Nat) (Option.some Jvm.ClassFile.FieldType.int)) ∈ lw_all := lw_g (lw_at lw_m8 189 rfl) rfl
theorem q1938 : (Jvm.Cond.instanceMethod ({ cls := "PendulumGymModel", name := "meetingByDivisors", desc := "(II)I" } : Jvm.MethodName)) ∈ lw_all := lw_g (lw_at lw_m8 191 rfl) rfl
theorem q1939 : (Jvm.Cond.selects "PendulumGymModel" ({ cls := "PendulumGymModel", name := "meetingByDivisors", desc := "(II)I" } : Jvm.MethodName) ({ cls := "PendulumGymModel", name := "meetingByDivisors", desc := "(II)I" } : Jvm.MethodName)) ∈ lw_all := lw_g (lw_at lw_m8 192 rfl) rfl
theorem q1940 : (Jvm.Cond.code ({ cls := "PendulumGymModel", name := "meetingByDivisors", desc := "(II)I" } : Jvm.MethodName) prog_19_method_52_code (3 : Nat) (Option.some Jvm.ClassFile.FieldType.int)) ∈ lw_all := lw_g (lw_at lw_m8 193 rfl) rfl
theorem q1941 : (Jvm.Cond.methodLink "PendulumGymModel" (136 : Nat) ({ cls := "PendulumGymModel", name := "meeting", desc := "(II)I" } : Jvm.MethodName)) ∈ lw_all := lw_g (lw_at lw_m8 194 rfl) rfl
theorem q1943 : (Jvm.Cond.instanceMethod ({ cls := "PendulumGymModel", name := "meetingPairs", desc := "()I" } : Jvm.MethodName)) ∈ lw_all := lw_g (lw_at lw_m8 196 rfl) rfl
theorem q1944 : (Jvm.Cond.selects "PendulumGymModel" ({ cls := "PendulumGymModel", name := "meetingPairs", desc := "()I" } : Jvm.MethodName) ({ cls := "PendulumGymModel", name := "meetingPairs", desc := "()I" } : Jvm.MethodName)) ∈ lw_all := lw_g (lw_at lw_m8 197 rfl) rfl
theorem q1945 : (Jvm.Cond.code ({ cls := "PendulumGymModel", name := "meetingPairs", desc := "()I" } : Jvm.MethodName) prog_19_method_53_code (6 : Nat) (Option.some Jvm.ClassFile.FieldType.int)) ∈ lw_all := lw_g (lw_at lw_m8 198 rfl) rfl
theorem q1946 : (Jvm.Cond.methodLink "PendulumGymModel" (139 : Nat) ({ cls := "PendulumGymModel", name := "size", desc := "(I)I" } : Jvm.MethodName)) ∈ lw_all := lw_g (lw_at lw_m8 199 rfl) rfl
theorem q1947 : (Jvm.Cond.static ({ cls := "PendulumGymModel", name := "size", desc := "(I)I" } : Jvm.MethodName)) ∈ lw_all := lw_g (lw_at lw_m8 200 rfl) rfl
theorem q1948 : (Jvm.Cond.code ({ cls := "PendulumGymModel", name := "size", desc := "(I)I" } : Jvm.MethodName) prog_19_method_4_code (1 : Nat) (Option.some Jvm.ClassFile.FieldType.int)) ∈ lw_all := lw_g (lw_at lw_m8 201 rfl) rfl
theorem q1950 : (Jvm.Cond.instanceMethod ({ cls := "PendulumGymModel", name := "cycleOf", desc := "(II)I" } : Jvm.MethodName)) ∈ lw_all := lw_g (lw_at lw_m8 203 rfl) rfl
theorem q1951 : (Jvm.Cond.selects "PendulumGymModel" ({ cls := "PendulumGymModel", name := "cycleOf", desc := "(II)I" } : Jvm.MethodName) ({ cls := "PendulumGymModel", name := "cycleOf", desc := "(II)I" } : Jvm.MethodName)) ∈ lw_all := lw_g (lw_at lw_m8 204 rfl) rfl
theorem q1952 : (Jvm.Cond.code ({ cls := "PendulumGymModel", name := "cycleOf", desc := "(II)I" } : Jvm.MethodName) prog_19_method_54_code (3 : Nat) (Option.some Jvm.ClassFile.FieldType.int)) ∈ lw_all := lw_g (lw_at lw_m8 205 rfl) rfl
theorem q1954 : (Jvm.Cond.instanceMethod ({ cls := "PendulumGymModel", name := "addLeg", desc := "(I)I" } : Jvm.MethodName)) ∈ lw_all := lw_g (lw_at lw_m8 207 rfl) rfl
theorem q1955 : (Jvm.Cond.selects "PendulumGymModel" ({ cls := "PendulumGymModel", name := "addLeg", desc := "(I)I" } : Jvm.MethodName) ({ cls := "PendulumGymModel", name := "addLeg", desc := "(I)I" } : Jvm.MethodName)) ∈ lw_all := lw_g (lw_at lw_m8 208 rfl) rfl
theorem q1956 : (Jvm.Cond.code ({ cls := "PendulumGymModel", name := "addLeg", desc := "(I)I" } : Jvm.MethodName) prog_19_method_56_code (2 : Nat) (Option.some Jvm.ClassFile.FieldType.int)) ∈ lw_all := lw_g (lw_at lw_m8 209 rfl) rfl
theorem q1957 : (Jvm.Cond.methodLink "PendulumGymModel" (142 : Nat) ({ cls := "PendulumGymModel", name := "addsLeg", desc := "(I)I" } : Jvm.MethodName)) ∈ lw_all := lw_g (lw_at lw_m8 210 rfl) rfl
theorem q1958 : (Jvm.Cond.privateMethod ({ cls := "PendulumGymModel", name := "addsLeg", desc := "(I)I" } : Jvm.MethodName)) ∈ lw_tbl := lw_at lw_m8 211 rfl
theorem q1959 : (Jvm.Cond.instanceMethod ({ cls := "PendulumGymModel", name := "addsLeg", desc := "(I)I" } : Jvm.MethodName)) ∈ lw_all := lw_g (lw_at lw_m8 212 rfl) rfl
theorem q1960 : (Jvm.Cond.code ({ cls := "PendulumGymModel", name := "addsLeg", desc := "(I)I" } : Jvm.MethodName) prog_19_method_55_code (2 : Nat) (Option.some Jvm.ClassFile.FieldType.int)) ∈ lw_all := lw_g (lw_at lw_m8 213 rfl) rfl
theorem q1962 : (Jvm.Cond.instanceMethod ({ cls := "PendulumGymModel", name := "removeLeg", desc := "(I)I" } : Jvm.MethodName)) ∈ lw_all := lw_g (lw_at lw_m8 215 rfl) rfl
theorem q1963 : (Jvm.Cond.selects "PendulumGymModel" ({ cls := "PendulumGymModel", name := "removeLeg", desc := "(I)I" } : Jvm.MethodName) ({ cls := "PendulumGymModel", name := "removeLeg", desc := "(I)I" } : Jvm.MethodName)) ∈ lw_all := lw_g (lw_at lw_m8 216 rfl) rfl
theorem q1964 : (Jvm.Cond.code ({ cls := "PendulumGymModel", name := "removeLeg", desc := "(I)I" } : Jvm.MethodName) prog_19_method_59_code (2 : Nat) (Option.some Jvm.ClassFile.FieldType.int)) ∈ lw_all := lw_g (lw_at lw_m8 217 rfl) rfl
theorem q1965 : (Jvm.Cond.methodLink "PendulumGymModel" (148 : Nat) ({ cls := "PendulumGymModel", name := "cuts", desc := "(I)I" } : Jvm.MethodName)) ∈ lw_all := lw_g (lw_at lw_m8 218 rfl) rfl
theorem q1966 : (Jvm.Cond.privateMethod ({ cls := "PendulumGymModel", name := "cuts", desc := "(I)I" } : Jvm.MethodName)) ∈ lw_tbl := lw_at lw_m8 219 rfl
theorem q1967 : (Jvm.Cond.instanceMethod ({ cls := "PendulumGymModel", name := "cuts", desc := "(I)I" } : Jvm.MethodName)) ∈ lw_all := lw_g (lw_at lw_m8 220 rfl) rfl
theorem q1968 : (Jvm.Cond.code ({ cls := "PendulumGymModel", name := "cuts", desc := "(I)I" } : Jvm.MethodName) prog_19_method_58_code (4 : Nat) (Option.some Jvm.ClassFile.FieldType.int)) ∈ lw_all := lw_g (lw_at lw_m8 221 rfl) rfl
theorem q1969 : (Jvm.Cond.methodLink "PendulumGymModel" (145 : Nat) ({ cls := "PendulumGymModel", name := "isLeg", desc := "(I)Z" } : Jvm.MethodName)) ∈ lw_all := lw_g (lw_at lw_m8 222 rfl) rfl
theorem q1970 : (Jvm.Cond.privateMethod ({ cls := "PendulumGymModel", name := "isLeg", desc := "(I)Z" } : Jvm.MethodName)) ∈ lw_tbl := lw_at lw_m8 223 rfl
theorem q1971 : (Jvm.Cond.instanceMethod ({ cls := "PendulumGymModel", name := "isLeg", desc := "(I)Z" } : Jvm.MethodName)) ∈ lw_all := lw_g (lw_at lw_m8 224 rfl) rfl
theorem q1972 : (Jvm.Cond.code ({ cls := "PendulumGymModel", name := "isLeg", desc := "(I)Z" } : Jvm.MethodName) prog_19_method_57_code (2 : Nat) (Option.some Jvm.ClassFile.FieldType.boolean)) ∈ lw_all := lw_g (lw_at lw_m8 225 rfl) rfl
theorem q1974 : (Jvm.Cond.instanceMethod ({ cls := "PendulumGymModel", name := "legCount", desc := "()I" } : Jvm.MethodName)) ∈ lw_all := lw_g (lw_at lw_m8 227 rfl) rfl
theorem q1975 : (Jvm.Cond.selects "PendulumGymModel" ({ cls := "PendulumGymModel", name := "legCount", desc := "()I" } : Jvm.MethodName) ({ cls := "PendulumGymModel", name := "legCount", desc := "()I" } : Jvm.MethodName)) ∈ lw_all := lw_g (lw_at lw_m8 228 rfl) rfl
theorem q1976 : (Jvm.Cond.code ({ cls := "PendulumGymModel", name := "legCount", desc := "()I" } : Jvm.MethodName) prog_19_method_60_code (1 : Nat) (Option.some Jvm.ClassFile.FieldType.int)) ∈ lw_all := lw_g (lw_at lw_m8 229 rfl) rfl
theorem q1978 : (Jvm.Cond.instanceMethod ({ cls := "PendulumGymModel", name := "wishOf", desc := "(I)I" } : Jvm.MethodName)) ∈ lw_all := lw_g (lw_at lw_m8 231 rfl) rfl
theorem q1979 : (Jvm.Cond.selects "PendulumGymModel" ({ cls := "PendulumGymModel", name := "wishOf", desc := "(I)I" } : Jvm.MethodName) ({ cls := "PendulumGymModel", name := "wishOf", desc := "(I)I" } : Jvm.MethodName)) ∈ lw_all := lw_g (lw_at lw_m8 232 rfl) rfl
theorem q1980 : (Jvm.Cond.code ({ cls := "PendulumGymModel", name := "wishOf", desc := "(I)I" } : Jvm.MethodName) prog_19_method_61_code (2 : Nat) (Option.some Jvm.ClassFile.FieldType.int)) ∈ lw_all := lw_g (lw_at lw_m8 233 rfl) rfl
theorem q1982 : (Jvm.Cond.instanceMethod ({ cls := "PendulumGymModel", name := "leastRelay", desc := "()I" } : Jvm.MethodName)) ∈ lw_all := lw_g (lw_at lw_m8 235 rfl) rfl
theorem q1983 : (Jvm.Cond.selects "PendulumGymModel" ({ cls := "PendulumGymModel", name := "leastRelay", desc := "()I" } : Jvm.MethodName) ({ cls := "PendulumGymModel", name := "leastRelay", desc := "()I" } : Jvm.MethodName)) ∈ lw_all := lw_g (lw_at lw_m8 236 rfl) rfl
theorem q1984 : (Jvm.Cond.code ({ cls := "PendulumGymModel", name := "leastRelay", desc := "()I" } : Jvm.MethodName) prog_19_method_65_code (1 : Nat) (Option.some Jvm.ClassFile.FieldType.int)) ∈ lw_all := lw_g (lw_at lw_m8 237 rfl) rfl
theorem q1985 : (Jvm.Cond.methodLink "PendulumGymModel" (159 : Nat) ({ cls := "PendulumGymModel", name := "finds", desc := "()V" } : Jvm.MethodName)) ∈ lw_all := lw_g (lw_at lw_m8 238 rfl) rfl
theorem q1986 : (Jvm.Cond.privateMethod ({ cls := "PendulumGymModel", name := "finds", desc := "()V" } : Jvm.MethodName)) ∈ lw_tbl := lw_at lw_m8 239 rfl
theorem q1987 : (Jvm.Cond.instanceMethod ({ cls := "PendulumGymModel", name := "finds", desc := "()V" } : Jvm.MethodName)) ∈ lw_all := lw_g (lw_at lw_m9 0 rfl) rfl
theorem q1988 : (Jvm.Cond.code ({ cls := "PendulumGymModel", name := "finds", desc := "()V" } : Jvm.MethodName) prog_19_method_64_code (5 : Nat) (Option.none : Option Jvm.ClassFile.FieldType)) ∈ lw_all := lw_g (lw_at lw_m9 1 rfl) rfl
theorem q1989 : (Jvm.Cond.methodLink "PendulumGymModel" (152 : Nat) ({ cls := "PendulumGymModel", name := "members", desc := "(I)I" } : Jvm.MethodName)) ∈ lw_all := lw_g (lw_at lw_m9 2 rfl) rfl
theorem q1990 : (Jvm.Cond.static ({ cls := "PendulumGymModel", name := "members", desc := "(I)I" } : Jvm.MethodName)) ∈ lw_all := lw_g (lw_at lw_m9 3 rfl) rfl
theorem q1991 : (Jvm.Cond.code ({ cls := "PendulumGymModel", name := "members", desc := "(I)I" } : Jvm.MethodName) prog_19_method_62_code (3 : Nat) (Option.some Jvm.ClassFile.FieldType.int)) ∈ lw_all := lw_g (lw_at lw_m9 4 rfl) rfl
theorem q1992 : (Jvm.Cond.constant "PendulumGymModel" (151 : Nat) (100000 : Int32)) ∈ lw_all := lw_g (lw_at lw_m9 5 rfl) rfl
theorem q1993 : (Jvm.Cond.methodLink "PendulumGymModel" (155 : Nat) ({ cls := "PendulumGymModel", name := "costWith", desc := "(III)I" } : Jvm.MethodName)) ∈ lw_all := lw_g (lw_at lw_m9 6 rfl) rfl
theorem q1994 : (Jvm.Cond.privateMethod ({ cls := "PendulumGymModel", name := "costWith", desc := "(III)I" } : Jvm.MethodName)) ∈ lw_tbl := lw_at lw_m9 7 rfl
theorem q1995 : (Jvm.Cond.instanceMethod ({ cls := "PendulumGymModel", name := "costWith", desc := "(III)I" } : Jvm.MethodName)) ∈ lw_all := lw_g (lw_at lw_m9 8 rfl) rfl
theorem q1996 : (Jvm.Cond.code ({ cls := "PendulumGymModel", name := "costWith", desc := "(III)I" } : Jvm.MethodName) prog_19_method_63_code (5 : Nat) (Option.some Jvm.ClassFile.FieldType.int)) ∈ lw_all := lw_g (lw_at lw_m9 9 rfl) rfl
theorem q1998 : (Jvm.Cond.instanceMethod ({ cls := "PendulumGymModel", name := "leastRelayByTrying", desc := "()I" } : Jvm.MethodName)) ∈ lw_all := lw_g (lw_at lw_m9 11 rfl) rfl
theorem q1999 : (Jvm.Cond.selects "PendulumGymModel" ({ cls := "PendulumGymModel", name := "leastRelayByTrying", desc := "()I" } : Jvm.MethodName) ({ cls := "PendulumGymModel", name := "leastRelayByTrying", desc := "()I" } : Jvm.MethodName)) ∈ lw_all := lw_g (lw_at lw_m9 12 rfl) rfl
theorem q2000 : (Jvm.Cond.code ({ cls := "PendulumGymModel", name := "leastRelayByTrying", desc := "()I" } : Jvm.MethodName) prog_19_method_66_code (1 : Nat) (Option.some Jvm.ClassFile.FieldType.int)) ∈ lw_all := lw_g (lw_at lw_m9 13 rfl) rfl
theorem q2001 : (Jvm.Cond.methodLink "PendulumGymModel" (162 : Nat) ({ cls := "PendulumGymModel", name := "leastRelay", desc := "()I" } : Jvm.MethodName)) ∈ lw_all := lw_g (lw_at lw_m9 14 rfl) rfl
theorem q2003 : (Jvm.Cond.instanceMethod ({ cls := "PendulumGymModel", name := "runnerOf", desc := "(I)I" } : Jvm.MethodName)) ∈ lw_all := lw_g (lw_at lw_m9 16 rfl) rfl
theorem q2004 : (Jvm.Cond.selects "PendulumGymModel" ({ cls := "PendulumGymModel", name := "runnerOf", desc := "(I)I" } : Jvm.MethodName) ({ cls := "PendulumGymModel", name := "runnerOf", desc := "(I)I" } : Jvm.MethodName)) ∈ lw_all := lw_g (lw_at lw_m9 17 rfl) rfl
theorem q2005 : (Jvm.Cond.code ({ cls := "PendulumGymModel", name := "runnerOf", desc := "(I)I" } : Jvm.MethodName) prog_19_method_67_code (5 : Nat) (Option.some Jvm.ClassFile.FieldType.int)) ∈ lw_all := lw_g (lw_at lw_m9 18 rfl) rfl
theorem q2007 : (Jvm.Cond.instanceMethod ({ cls := "PendulumGymModel", name := "fewestFor", desc := "(I)I" } : Jvm.MethodName)) ∈ lw_all := lw_g (lw_at lw_m9 20 rfl) rfl
theorem q2008 : (Jvm.Cond.selects "PendulumGymModel" ({ cls := "PendulumGymModel", name := "fewestFor", desc := "(I)I" } : Jvm.MethodName) ({ cls := "PendulumGymModel", name := "fewestFor", desc := "(I)I" } : Jvm.MethodName)) ∈ lw_all := lw_g (lw_at lw_m9 21 rfl) rfl
theorem q2009 : (Jvm.Cond.code ({ cls := "PendulumGymModel", name := "fewestFor", desc := "(I)I" } : Jvm.MethodName) prog_19_method_69_code (4 : Nat) (Option.some Jvm.ClassFile.FieldType.int)) ∈ lw_all := lw_g (lw_at lw_m9 22 rfl) rfl
theorem q2010 : (Jvm.Cond.methodLink "PendulumGymModel" (165 : Nat) ({ cls := "PendulumGymModel", name := "together", desc := "(I)I" } : Jvm.MethodName)) ∈ lw_all := lw_g (lw_at lw_m9 23 rfl) rfl
theorem q2011 : (Jvm.Cond.privateMethod ({ cls := "PendulumGymModel", name := "together", desc := "(I)I" } : Jvm.MethodName)) ∈ lw_tbl := lw_at lw_m9 24 rfl
theorem q2012 : (Jvm.Cond.instanceMethod ({ cls := "PendulumGymModel", name := "together", desc := "(I)I" } : Jvm.MethodName)) ∈ lw_all := lw_g (lw_at lw_m9 25 rfl) rfl
theorem q2013 : (Jvm.Cond.code ({ cls := "PendulumGymModel", name := "together", desc := "(I)I" } : Jvm.MethodName) prog_19_method_68_code (4 : Nat) (Option.some Jvm.ClassFile.FieldType.int)) ∈ lw_all := lw_g (lw_at lw_m9 26 rfl) rfl
theorem q2015 : (Jvm.Cond.instanceMethod ({ cls := "PendulumGymModel", name := "fewestForBySets", desc := "(I)I" } : Jvm.MethodName)) ∈ lw_all := lw_g (lw_at lw_m9 28 rfl) rfl
theorem q2016 : (Jvm.Cond.selects "PendulumGymModel" ({ cls := "PendulumGymModel", name := "fewestForBySets", desc := "(I)I" } : Jvm.MethodName) ({ cls := "PendulumGymModel", name := "fewestForBySets", desc := "(I)I" } : Jvm.MethodName)) ∈ lw_all := lw_g (lw_at lw_m9 29 rfl) rfl
theorem q2017 : (Jvm.Cond.code ({ cls := "PendulumGymModel", name := "fewestForBySets", desc := "(I)I" } : Jvm.MethodName) prog_19_method_70_code (2 : Nat) (Option.some Jvm.ClassFile.FieldType.int)) ∈ lw_all := lw_g (lw_at lw_m9 30 rfl) rfl
theorem q2018 : (Jvm.Cond.methodLink "PendulumGymModel" (168 : Nat) ({ cls := "PendulumGymModel", name := "fewestFor", desc := "(I)I" } : Jvm.MethodName)) ∈ lw_all := lw_g (lw_at lw_m9 31 rfl) rfl
theorem q2020 : (Jvm.Cond.instanceMethod ({ cls := "PendulumGymModel", name := "exactSets", desc := "(I)I" } : Jvm.MethodName)) ∈ lw_all := lw_g (lw_at lw_m9 33 rfl) rfl
theorem q2021 : (Jvm.Cond.selects "PendulumGymModel" ({ cls := "PendulumGymModel", name := "exactSets", desc := "(I)I" } : Jvm.MethodName) ({ cls := "PendulumGymModel", name := "exactSets", desc := "(I)I" } : Jvm.MethodName)) ∈ lw_all := lw_g (lw_at lw_m9 34 rfl) rfl
theorem q2022 : (Jvm.Cond.code ({ cls := "PendulumGymModel", name := "exactSets", desc := "(I)I" } : Jvm.MethodName) prog_19_method_71_code (4 : Nat) (Option.some Jvm.ClassFile.FieldType.int)) ∈ lw_all := lw_g (lw_at lw_m9 35 rfl) rfl
theorem q2024 : (Jvm.Cond.instanceMethod ({ cls := "PendulumGymModel", name := "meanAmplitude", desc := "()D" } : Jvm.MethodName)) ∈ lw_all := lw_g (lw_at lw_m9 37 rfl) rfl
theorem q2025 : (Jvm.Cond.selects "PendulumGymModel" ({ cls := "PendulumGymModel", name := "meanAmplitude", desc := "()D" } : Jvm.MethodName) ({ cls := "PendulumGymModel", name := "meanAmplitude", desc := "()D" } : Jvm.MethodName)) ∈ lw_all := lw_g (lw_at lw_m9 38 rfl) rfl
theorem q2026 : (Jvm.Cond.code ({ cls := "PendulumGymModel", name := "meanAmplitude", desc := "()D" } : Jvm.MethodName) prog_19_method_72_code (4 : Nat) (Option.some Jvm.ClassFile.FieldType.double)) ∈ lw_all := lw_g (lw_at lw_m9 39 rfl) rfl
theorem q2028 : (Jvm.Cond.instanceMethod ({ cls := "PendulumGymModel", name := "writeCard", desc := "(I)I" } : Jvm.MethodName)) ∈ lw_all := lw_g (lw_at lw_m9 41 rfl) rfl
theorem q2029 : (Jvm.Cond.selects "PendulumGymModel" ({ cls := "PendulumGymModel", name := "writeCard", desc := "(I)I" } : Jvm.MethodName) ({ cls := "PendulumGymModel", name := "writeCard", desc := "(I)I" } : Jvm.MethodName)) ∈ lw_all := lw_g (lw_at lw_m9 42 rfl) rfl
theorem q2030 : (Jvm.Cond.code ({ cls := "PendulumGymModel", name := "writeCard", desc := "(I)I" } : Jvm.MethodName) prog_19_method_76_code (2 : Nat) (Option.some Jvm.ClassFile.FieldType.int)) ∈ lw_all := lw_g (lw_at lw_m9 43 rfl) rfl
theorem q2031 : (Jvm.Cond.methodLink "PendulumGymModel" (179 : Nat) ({ cls := "PendulumGymModel", name := "writesNumber", desc := "(I)V" } : Jvm.MethodName)) ∈ lw_all := lw_g (lw_at lw_m9 44 rfl) rfl
theorem q2032 : (Jvm.Cond.privateMethod ({ cls := "PendulumGymModel", name := "writesNumber", desc := "(I)V" } : Jvm.MethodName)) ∈ lw_tbl := lw_at lw_m9 45 rfl
theorem q2033 : (Jvm.Cond.instanceMethod ({ cls := "PendulumGymModel", name := "writesNumber", desc := "(I)V" } : Jvm.MethodName)) ∈ lw_all := lw_g (lw_at lw_m9 46 rfl) rfl
theorem q2034 : (Jvm.Cond.code ({ cls := "PendulumGymModel", name := "writesNumber", desc := "(I)V" } : Jvm.MethodName) prog_19_method_74_code (3 : Nat) (Option.none : Option Jvm.ClassFile.FieldType)) ∈ lw_all := lw_g (lw_at lw_m9 47 rfl) rfl
theorem q2035 : (Jvm.Cond.constant "PendulumGymModel" (174 : Nat) (100000000 : Int32)) ∈ lw_all := lw_g (lw_at lw_m9 48 rfl) rfl
theorem q2036 : (Jvm.Cond.methodLink "PendulumGymModel" (175 : Nat) ({ cls := "PendulumGymModel", name := "writes", desc := "(I)V" } : Jvm.MethodName)) ∈ lw_all := lw_g (lw_at lw_m9 49 rfl) rfl
theorem q2037 : (Jvm.Cond.privateMethod ({ cls := "PendulumGymModel", name := "writes", desc := "(I)V" } : Jvm.MethodName)) ∈ lw_tbl := lw_at lw_m9 50 rfl
theorem q2038 : (Jvm.Cond.instanceMethod ({ cls := "PendulumGymModel", name := "writes", desc := "(I)V" } : Jvm.MethodName)) ∈ lw_all := lw_g (lw_at lw_m9 51 rfl) rfl
theorem q2039 : (Jvm.Cond.code ({ cls := "PendulumGymModel", name := "writes", desc := "(I)V" } : Jvm.MethodName) prog_19_method_73_code (2 : Nat) (Option.none : Option Jvm.ClassFile.FieldType)) ∈ lw_all := lw_g (lw_at lw_m9 52 rfl) rfl
theorem q2040 : (Jvm.Cond.methodLink "PendulumGymModel" (182 : Nat) ({ cls := "PendulumGymModel", name := "writesRest", desc := "()V" } : Jvm.MethodName)) ∈ lw_all := lw_g (lw_at lw_m9 53 rfl) rfl
theorem q2041 : (Jvm.Cond.privateMethod ({ cls := "PendulumGymModel", name := "writesRest", desc := "()V" } : Jvm.MethodName)) ∈ lw_tbl := lw_at lw_m9 54 rfl
theorem q2042 : (Jvm.Cond.instanceMethod ({ cls := "PendulumGymModel", name := "writesRest", desc := "()V" } : Jvm.MethodName)) ∈ lw_all := lw_g (lw_at lw_m9 55 rfl) rfl
theorem q2043 : (Jvm.Cond.code ({ cls := "PendulumGymModel", name := "writesRest", desc := "()V" } : Jvm.MethodName) prog_19_method_75_code (1 : Nat) (Option.none : Option Jvm.ClassFile.FieldType)) ∈ lw_all := lw_g (lw_at lw_m9 56 rfl) rfl
theorem q2045 : (Jvm.Cond.instanceMethod ({ cls := "PendulumGymModel", name := "cardAt", desc := "(I)C" } : Jvm.MethodName)) ∈ lw_all := lw_g (lw_at lw_m9 58 rfl) rfl
theorem q2046 : (Jvm.Cond.selects "PendulumGymModel" ({ cls := "PendulumGymModel", name := "cardAt", desc := "(I)C" } : Jvm.MethodName) ({ cls := "PendulumGymModel", name := "cardAt", desc := "(I)C" } : Jvm.MethodName)) ∈ lw_all := lw_g (lw_at lw_m9 59 rfl) rfl
theorem q2047 : (Jvm.Cond.code ({ cls := "PendulumGymModel", name := "cardAt", desc := "(I)C" } : Jvm.MethodName) prog_19_method_77_code (2 : Nat) (Option.some Jvm.ClassFile.FieldType.char)) ∈ lw_all := lw_g (lw_at lw_m9 60 rfl) rfl
theorem q2049 : (Jvm.Cond.instanceMethod ({ cls := "PendulumGymModel", name := "type", desc := "(C)I" } : Jvm.MethodName)) ∈ lw_all := lw_g (lw_at lw_m9 62 rfl) rfl
theorem q2050 : (Jvm.Cond.selects "PendulumGymModel" ({ cls := "PendulumGymModel", name := "type", desc := "(C)I" } : Jvm.MethodName) ({ cls := "PendulumGymModel", name := "type", desc := "(C)I" } : Jvm.MethodName)) ∈ lw_all := lw_g (lw_at lw_m9 63 rfl) rfl
theorem q2051 : (Jvm.Cond.code ({ cls := "PendulumGymModel", name := "type", desc := "(C)I" } : Jvm.MethodName) prog_19_method_78_code (2 : Nat) (Option.some Jvm.ClassFile.FieldType.int)) ∈ lw_all := lw_g (lw_at lw_m9 64 rfl) rfl
theorem q2053 : (Jvm.Cond.instanceMethod ({ cls := "PendulumGymModel", name := "execute", desc := "()I" } : Jvm.MethodName)) ∈ lw_all := lw_g (lw_at lw_m9 66 rfl) rfl
theorem q2054 : (Jvm.Cond.selects "PendulumGymModel" ({ cls := "PendulumGymModel", name := "execute", desc := "()I" } : Jvm.MethodName) ({ cls := "PendulumGymModel", name := "execute", desc := "()I" } : Jvm.MethodName)) ∈ lw_all := lw_g (lw_at lw_m9 67 rfl) rfl
theorem q2055 : (Jvm.Cond.code ({ cls := "PendulumGymModel", name := "execute", desc := "()I" } : Jvm.MethodName) prog_19_method_86_code (5 : Nat) (Option.some Jvm.ClassFile.FieldType.int)) ∈ lw_all := lw_g (lw_at lw_m9 68 rfl) rfl
theorem q2056 : (Jvm.Cond.methodLink "PendulumGymModel" (211 : Nat) ({ cls := "PendulumGymModel", name := "parsesCommand", desc := "(I)V" } : Jvm.MethodName)) ∈ lw_all := lw_g (lw_at lw_m9 69 rfl) rfl
theorem q2057 : (Jvm.Cond.privateMethod ({ cls := "PendulumGymModel", name := "parsesCommand", desc := "(I)V" } : Jvm.MethodName)) ∈ lw_tbl := lw_at lw_m9 70 rfl
theorem q2058 : (Jvm.Cond.instanceMethod ({ cls := "PendulumGymModel", name := "parsesCommand", desc := "(I)V" } : Jvm.MethodName)) ∈ lw_all := lw_g (lw_at lw_m9 71 rfl) rfl
theorem q2059 : (Jvm.Cond.code ({ cls := "PendulumGymModel", name := "parsesCommand", desc := "(I)V" } : Jvm.MethodName) prog_19_method_84_code (3 : Nat) (Option.none : Option Jvm.ClassFile.FieldType)) ∈ lw_all := lw_g (lw_at lw_m9 72 rfl) rfl
theorem q2060 : (Jvm.Cond.methodLink "PendulumGymModel" (195 : Nat) ({ cls := "PendulumGymModel", name := "here", desc := "()I" } : Jvm.MethodName)) ∈ lw_all := lw_g (lw_at lw_m9 73 rfl) rfl
theorem q2061 : (Jvm.Cond.privateMethod ({ cls := "PendulumGymModel", name := "here", desc := "()I" } : Jvm.MethodName)) ∈ lw_tbl := lw_at lw_m9 74 rfl
theorem q2062 : (Jvm.Cond.instanceMethod ({ cls := "PendulumGymModel", name := "here", desc := "()I" } : Jvm.MethodName)) ∈ lw_all := lw_g (lw_at lw_m9 75 rfl) rfl
theorem q2063 : (Jvm.Cond.code ({ cls := "PendulumGymModel", name := "here", desc := "()I" } : Jvm.MethodName) prog_19_method_79_code (1 : Nat) (Option.some Jvm.ClassFile.FieldType.int)) ∈ lw_all := lw_g (lw_at lw_m9 76 rfl) rfl
theorem q2064 : (Jvm.Cond.methodLink "PendulumGymModel" (201 : Nat) ({ cls := "PendulumGymModel", name := "needsThree", desc := "(III)V" } : Jvm.MethodName)) ∈ lw_all := lw_g (lw_at lw_m9 77 rfl) rfl
theorem q2065 : (Jvm.Cond.privateMethod ({ cls := "PendulumGymModel", name := "needsThree", desc := "(III)V" } : Jvm.MethodName)) ∈ lw_tbl := lw_at lw_m9 78 rfl
theorem q2066 : (Jvm.Cond.instanceMethod ({ cls := "PendulumGymModel", name := "needsThree", desc := "(III)V" } : Jvm.MethodName)) ∈ lw_all := lw_g (lw_at lw_m9 79 rfl) rfl
theorem q2067 : (Jvm.Cond.code ({ cls := "PendulumGymModel", name := "needsThree", desc := "(III)V" } : Jvm.MethodName) prog_19_method_81_code (4 : Nat) (Option.none : Option Jvm.ClassFile.FieldType)) ∈ lw_all := lw_g (lw_at lw_m9 80 rfl) rfl
theorem q2068 : (Jvm.Cond.methodLink "PendulumGymModel" (198 : Nat) ({ cls := "PendulumGymModel", name := "needs", desc := "(I)V" } : Jvm.MethodName)) ∈ lw_all := lw_g (lw_at lw_m9 81 rfl) rfl
theorem q2069 : (Jvm.Cond.privateMethod ({ cls := "PendulumGymModel", name := "needs", desc := "(I)V" } : Jvm.MethodName)) ∈ lw_tbl := lw_at lw_m9 82 rfl
theorem q2070 : (Jvm.Cond.instanceMethod ({ cls := "PendulumGymModel", name := "needs", desc := "(I)V" } : Jvm.MethodName)) ∈ lw_all := lw_g (lw_at lw_m9 83 rfl) rfl
theorem q2071 : (Jvm.Cond.code ({ cls := "PendulumGymModel", name := "needs", desc := "(I)V" } : Jvm.MethodName) prog_19_method_80_code (2 : Nat) (Option.none : Option Jvm.ClassFile.FieldType)) ∈ lw_all := lw_g (lw_at lw_m9 84 rfl) rfl
theorem q2072 : (Jvm.Cond.methodLink "PendulumGymModel" (205 : Nat) ({ cls := "PendulumGymModel", name := "digits", desc := "(I)I" } : Jvm.MethodName)) ∈ lw_all := lw_g (lw_at lw_m9 85 rfl) rfl
theorem q2073 : (Jvm.Cond.privateMethod ({ cls := "PendulumGymModel", name := "digits", desc := "(I)I" } : Jvm.MethodName)) ∈ lw_tbl := lw_at lw_m9 86 rfl
theorem q2074 : (Jvm.Cond.instanceMethod ({ cls := "PendulumGymModel", name := "digits", desc := "(I)I" } : Jvm.MethodName)) ∈ lw_all := lw_g (lw_at lw_m9 87 rfl) rfl
theorem q2075 : (Jvm.Cond.code ({ cls := "PendulumGymModel", name := "digits", desc := "(I)I" } : Jvm.MethodName) prog_19_method_82_code (4 : Nat) (Option.some Jvm.ClassFile.FieldType.int)) ∈ lw_all := lw_g (lw_at lw_m9 88 rfl) rfl
theorem q2076 : (Jvm.Cond.methodLink "PendulumGymModel" (208 : Nat) ({ cls := "PendulumGymModel", name := "parsesC", desc := "(I)V" } : Jvm.MethodName)) ∈ lw_all := lw_g (lw_at lw_m9 89 rfl) rfl
theorem q2077 : (Jvm.Cond.privateMethod ({ cls := "PendulumGymModel", name := "parsesC", desc := "(I)V" } : Jvm.MethodName)) ∈ lw_tbl := lw_at lw_m9 90 rfl
theorem q2078 : (Jvm.Cond.instanceMethod ({ cls := "PendulumGymModel", name := "parsesC", desc := "(I)V" } : Jvm.MethodName)) ∈ lw_all := lw_g (lw_at lw_m9 91 rfl) rfl
theorem q2079 : (Jvm.Cond.code ({ cls := "PendulumGymModel", name := "parsesC", desc := "(I)V" } : Jvm.MethodName) prog_19_method_83_code (2 : Nat) (Option.none : Option Jvm.ClassFile.FieldType)) ∈ lw_all := lw_g (lw_at lw_m9 92 rfl) rfl
theorem q2080 : (Jvm.Cond.methodLink "PendulumGymModel" (214 : Nat) ({ cls := "PendulumGymModel", name := "carriesOut", desc := "(I)I" } : Jvm.MethodName)) ∈ lw_all := lw_g (lw_at lw_m9 93 rfl) rfl
theorem q2081 : (Jvm.Cond.privateMethod ({ cls := "PendulumGymModel", name := "carriesOut", desc := "(I)I" } : Jvm.MethodName)) ∈ lw_tbl := lw_at lw_m9 94 rfl
theorem q2082 : (Jvm.Cond.instanceMethod ({ cls := "PendulumGymModel", name := "carriesOut", desc := "(I)I" } : Jvm.MethodName)) ∈ lw_all := lw_g (lw_at lw_m9 95 rfl) rfl
theorem q2083 : (Jvm.Cond.code ({ cls := "PendulumGymModel", name := "carriesOut", desc := "(I)I" } : Jvm.MethodName) prog_19_method_85_code (3 : Nat) (Option.some Jvm.ClassFile.FieldType.int)) ∈ lw_all := lw_g (lw_at lw_m9 96 rfl) rfl
theorem q2085 : (Jvm.Cond.instanceMethod ({ cls := "PendulumGymModel", name := "errorPosition", desc := "()I" } : Jvm.MethodName)) ∈ lw_all := lw_g (lw_at lw_m9 98 rfl) rfl
theorem q2086 : (Jvm.Cond.selects "PendulumGymModel" ({ cls := "PendulumGymModel", name := "errorPosition", desc := "()I" } : Jvm.MethodName) ({ cls := "PendulumGymModel", name := "errorPosition", desc := "()I" } : Jvm.MethodName)) ∈ lw_all := lw_g (lw_at lw_m9 99 rfl) rfl
theorem q2087 : (Jvm.Cond.code ({ cls := "PendulumGymModel", name := "errorPosition", desc := "()I" } : Jvm.MethodName) prog_19_method_87_code (1 : Nat) (Option.some Jvm.ClassFile.FieldType.int)) ∈ lw_all := lw_g (lw_at lw_m9 100 rfl) rfl
theorem q2089 : (Jvm.Cond.instanceMethod ({ cls := "PendulumGymModel", name := "failedCommand", desc := "()I" } : Jvm.MethodName)) ∈ lw_all := lw_g (lw_at lw_m9 102 rfl) rfl
theorem q2090 : (Jvm.Cond.selects "PendulumGymModel" ({ cls := "PendulumGymModel", name := "failedCommand", desc := "()I" } : Jvm.MethodName) ({ cls := "PendulumGymModel", name := "failedCommand", desc := "()I" } : Jvm.MethodName)) ∈ lw_all := lw_g (lw_at lw_m9 103 rfl) rfl
theorem q2091 : (Jvm.Cond.code ({ cls := "PendulumGymModel", name := "failedCommand", desc := "()I" } : Jvm.MethodName) prog_19_method_88_code (1 : Nat) (Option.some Jvm.ClassFile.FieldType.int)) ∈ lw_all := lw_g (lw_at lw_m9 104 rfl) rfl
theorem q2093 : (Jvm.Cond.instanceMethod ({ cls := "PendulumGymModel", name := "undo", desc := "()I" } : Jvm.MethodName)) ∈ lw_all := lw_g (lw_at lw_m9 106 rfl) rfl
theorem q2094 : (Jvm.Cond.selects "PendulumGymModel" ({ cls := "PendulumGymModel", name := "undo", desc := "()I" } : Jvm.MethodName) ({ cls := "PendulumGymModel", name := "undo", desc := "()I" } : Jvm.MethodName)) ∈ lw_all := lw_g (lw_at lw_m9 107 rfl) rfl
theorem q2095 : (Jvm.Cond.code ({ cls := "PendulumGymModel", name := "undo", desc := "()I" } : Jvm.MethodName) prog_19_method_89_code (1 : Nat) (Option.some Jvm.ClassFile.FieldType.int)) ∈ lw_all := lw_g (lw_at lw_m9 108 rfl) rfl
theorem q2097 : (Jvm.Cond.instanceMethod ({ cls := "PendulumGymModel", name := "save", desc := "()I" } : Jvm.MethodName)) ∈ lw_all := lw_g (lw_at lw_m9 110 rfl) rfl
theorem q2098 : (Jvm.Cond.selects "PendulumGymModel" ({ cls := "PendulumGymModel", name := "save", desc := "()I" } : Jvm.MethodName) ({ cls := "PendulumGymModel", name := "save", desc := "()I" } : Jvm.MethodName)) ∈ lw_all := lw_g (lw_at lw_m9 111 rfl) rfl
theorem q2099 : (Jvm.Cond.code ({ cls := "PendulumGymModel", name := "save", desc := "()I" } : Jvm.MethodName) prog_19_method_90_code (1 : Nat) (Option.some Jvm.ClassFile.FieldType.int)) ∈ lw_all := lw_g (lw_at lw_m9 112 rfl) rfl
theorem q2101 : (Jvm.Cond.instanceMethod ({ cls := "PendulumGymModel", name := "restore", desc := "()I" } : Jvm.MethodName)) ∈ lw_all := lw_g (lw_at lw_m9 114 rfl) rfl
theorem q2102 : (Jvm.Cond.selects "PendulumGymModel" ({ cls := "PendulumGymModel", name := "restore", desc := "()I" } : Jvm.MethodName) ({ cls := "PendulumGymModel", name := "restore", desc := "()I" } : Jvm.MethodName)) ∈ lw_all := lw_g (lw_at lw_m9 115 rfl) rfl
theorem q2103 : (Jvm.Cond.code ({ cls := "PendulumGymModel", name := "restore", desc := "()I" } : Jvm.MethodName) prog_19_method_91_code (1 : Nat) (Option.some Jvm.ClassFile.FieldType.int)) ∈ lw_all := lw_g (lw_at lw_m9 116 rfl) rfl
theorem q2126 : (Jvm.Cond.castable "PendulumGymModel" "java/lang/Object") ∈ lw_tbl := lw_at lw_m9 139 rfl
theorem in_X3 : ∀ w ∈ wsX30, w ∈ lw_all := lw_in wsX30 [1706, 1708, 1710, 1712, 1714, 1716, 1718, 1720, 1722, 1724, 1726, 1728, 1730, 1732, 1734, 1736, 1738] (by decide +kernel) (by decide +kernel)
