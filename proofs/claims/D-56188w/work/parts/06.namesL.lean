/-! PendulumGymLaw -/
set_option maxRecDepth 100000
def RX0 : String := "PendulumGymLaw"
abbrev cX0_addPendulum : ByteArray := method_3_code
def yX0_addPendulum : MethodName := ⟨RX0, "addPendulum", "(LPendulumGym;I[J)I"⟩
def dkwX0_addPendulum_0 : List UInt8 := [44, 3, 42, 27, 182, 0, 7, 133, 80, 167, 0, 9, 78, 4, 172, 78, 5, 172, 3, 172]
abbrev dktX0_addPendulum_0 : List UInt8 := dkwX0_addPendulum_0 ++ []
theorem dksX0_addPendulum_0 : cX0_addPendulum.data.toList.drop 0 = dktX0_addPendulum_0 := by decide +kernel
theorem dX0_addPendulum_0 : decode cX0_addPendulum 0 = .ok (.aload_n 2, 1) := dk_44 (dk_at dksX0_addPendulum_0 0 rfl rfl)
theorem dX0_addPendulum_1 : decode cX0_addPendulum 1 = .ok (.iconst 0, 1) := dk_3 (dk_at dksX0_addPendulum_0 1 rfl rfl)
theorem dX0_addPendulum_2 : decode cX0_addPendulum 2 = .ok (.aload_n 0, 1) := dk_42 (dk_at dksX0_addPendulum_0 2 rfl rfl)
theorem dX0_addPendulum_3 : decode cX0_addPendulum 3 = .ok (.iload_n 1, 1) := dk_27 (dk_at dksX0_addPendulum_0 3 rfl rfl)
theorem dX0_addPendulum_4 : decode cX0_addPendulum 4 = .ok (.invokevirtual 7, 3) := dk_182 0 7 (dk_at dksX0_addPendulum_0 4 rfl rfl)
theorem dX0_addPendulum_7 : decode cX0_addPendulum 7 = .ok (.i2l, 1) := dk_133 (dk_at dksX0_addPendulum_0 7 rfl rfl)
theorem dX0_addPendulum_8 : decode cX0_addPendulum 8 = .ok (.lastore, 1) := dk_80 (dk_at dksX0_addPendulum_0 8 rfl rfl)
theorem dX0_addPendulum_9 : decode cX0_addPendulum 9 = .ok (.goto 9, 3) := dk_167 0 9 (dk_at dksX0_addPendulum_0 9 rfl rfl)
theorem dX0_addPendulum_12 : decode cX0_addPendulum 12 = .ok (.astore_n 3, 1) := dk_78 (dk_at dksX0_addPendulum_0 12 rfl rfl)
theorem dX0_addPendulum_13 : decode cX0_addPendulum 13 = .ok (.iconst 1, 1) := dk_4 (dk_at dksX0_addPendulum_0 13 rfl rfl)
theorem dX0_addPendulum_14 : decode cX0_addPendulum 14 = .ok (.ireturn, 1) := dk_172 (dk_at dksX0_addPendulum_0 14 rfl rfl)
theorem dX0_addPendulum_15 : decode cX0_addPendulum 15 = .ok (.astore_n 3, 1) := dk_78 (dk_at dksX0_addPendulum_0 15 rfl rfl)
theorem dX0_addPendulum_16 : decode cX0_addPendulum 16 = .ok (.iconst 2, 1) := dk_5 (dk_at dksX0_addPendulum_0 16 rfl rfl)
theorem dX0_addPendulum_17 : decode cX0_addPendulum 17 = .ok (.ireturn, 1) := dk_172 (dk_at dksX0_addPendulum_0 17 rfl rfl)
theorem dX0_addPendulum_18 : decode cX0_addPendulum 18 = .ok (.iconst 0, 1) := dk_3 (dk_at dksX0_addPendulum_0 18 rfl rfl)
theorem dX0_addPendulum_19 : decode cX0_addPendulum 19 = .ok (.ireturn, 1) := dk_172 (dk_at dksX0_addPendulum_0 19 rfl rfl)
abbrev cX0_push : ByteArray := method_4_code
def yX0_push : MethodName := ⟨RX0, "push", "(LPendulumGym;II[J)I"⟩
def dkwX0_push_1 : List UInt8 := [172, 3, 172]
abbrev dktX0_push_1 : List UInt8 := dkwX0_push_1 ++ []
def dkwX0_push_0 : List UInt8 := [45, 3, 42, 27, 28, 182, 0, 17, 133, 80, 167, 0, 15, 58, 4, 4, 172, 58, 4, 5, 172, 58, 4, 6]
abbrev dktX0_push_0 : List UInt8 := dkwX0_push_0 ++ dktX0_push_1
theorem dksX0_push_0 : cX0_push.data.toList.drop 0 = dktX0_push_0 := by decide +kernel
theorem dksX0_push_1 : cX0_push.data.toList.drop 24 = dktX0_push_1 := dk_seg dksX0_push_0 24 rfl rfl
theorem dX0_push_0 : decode cX0_push 0 = .ok (.aload_n 3, 1) := dk_45 (dk_at dksX0_push_0 0 rfl rfl)
theorem dX0_push_1 : decode cX0_push 1 = .ok (.iconst 0, 1) := dk_3 (dk_at dksX0_push_0 1 rfl rfl)
theorem dX0_push_2 : decode cX0_push 2 = .ok (.aload_n 0, 1) := dk_42 (dk_at dksX0_push_0 2 rfl rfl)
theorem dX0_push_3 : decode cX0_push 3 = .ok (.iload_n 1, 1) := dk_27 (dk_at dksX0_push_0 3 rfl rfl)
theorem dX0_push_4 : decode cX0_push 4 = .ok (.iload_n 2, 1) := dk_28 (dk_at dksX0_push_0 4 rfl rfl)
theorem dX0_push_5 : decode cX0_push 5 = .ok (.invokevirtual 17, 3) := dk_182 0 17 (dk_at dksX0_push_0 5 rfl rfl)
theorem dX0_push_8 : decode cX0_push 8 = .ok (.i2l, 1) := dk_133 (dk_at dksX0_push_0 8 rfl rfl)
theorem dX0_push_9 : decode cX0_push 9 = .ok (.lastore, 1) := dk_80 (dk_at dksX0_push_0 9 rfl rfl)
theorem dX0_push_10 : decode cX0_push 10 = .ok (.goto 15, 3) := dk_167 0 15 (dk_at dksX0_push_0 10 rfl rfl)
theorem dX0_push_13 : decode cX0_push 13 = .ok (.astore 4, 2) := dk_58 4 (dk_at dksX0_push_0 13 rfl rfl)
theorem dX0_push_15 : decode cX0_push 15 = .ok (.iconst 1, 1) := dk_4 (dk_at dksX0_push_0 15 rfl rfl)
theorem dX0_push_16 : decode cX0_push 16 = .ok (.ireturn, 1) := dk_172 (dk_at dksX0_push_0 16 rfl rfl)
theorem dX0_push_17 : decode cX0_push 17 = .ok (.astore 4, 2) := dk_58 4 (dk_at dksX0_push_0 17 rfl rfl)
theorem dX0_push_19 : decode cX0_push 19 = .ok (.iconst 2, 1) := dk_5 (dk_at dksX0_push_0 19 rfl rfl)
theorem dX0_push_20 : decode cX0_push 20 = .ok (.ireturn, 1) := dk_172 (dk_at dksX0_push_0 20 rfl rfl)
theorem dX0_push_21 : decode cX0_push 21 = .ok (.astore 4, 2) := dk_58 4 (dk_at dksX0_push_0 21 rfl rfl)
theorem dX0_push_23 : decode cX0_push 23 = .ok (.iconst 3, 1) := dk_6 (dk_at dksX0_push_0 23 rfl rfl)
theorem dX0_push_24 : decode cX0_push 24 = .ok (.ireturn, 1) := dk_172 (dk_at dksX0_push_1 0 rfl rfl)
theorem dX0_push_25 : decode cX0_push 25 = .ok (.iconst 0, 1) := dk_3 (dk_at dksX0_push_1 1 rfl rfl)
theorem dX0_push_26 : decode cX0_push 26 = .ok (.ireturn, 1) := dk_172 (dk_at dksX0_push_1 2 rfl rfl)
abbrev cX0_catchPendulum : ByteArray := method_5_code
def yX0_catchPendulum : MethodName := ⟨RX0, "catchPendulum", "(LPendulumGym;I[J)I"⟩
def dkwX0_catchPendulum_0 : List UInt8 := [44, 3, 42, 27, 182, 0, 23, 133, 80, 167, 0, 9, 78, 4, 172, 78, 5, 172, 3, 172]
abbrev dktX0_catchPendulum_0 : List UInt8 := dkwX0_catchPendulum_0 ++ []
theorem dksX0_catchPendulum_0 : cX0_catchPendulum.data.toList.drop 0 = dktX0_catchPendulum_0 := by decide +kernel
theorem dX0_catchPendulum_0 : decode cX0_catchPendulum 0 = .ok (.aload_n 2, 1) := dk_44 (dk_at dksX0_catchPendulum_0 0 rfl rfl)
theorem dX0_catchPendulum_1 : decode cX0_catchPendulum 1 = .ok (.iconst 0, 1) := dk_3 (dk_at dksX0_catchPendulum_0 1 rfl rfl)
theorem dX0_catchPendulum_2 : decode cX0_catchPendulum 2 = .ok (.aload_n 0, 1) := dk_42 (dk_at dksX0_catchPendulum_0 2 rfl rfl)
theorem dX0_catchPendulum_3 : decode cX0_catchPendulum 3 = .ok (.iload_n 1, 1) := dk_27 (dk_at dksX0_catchPendulum_0 3 rfl rfl)
theorem dX0_catchPendulum_4 : decode cX0_catchPendulum 4 = .ok (.invokevirtual 23, 3) := dk_182 0 23 (dk_at dksX0_catchPendulum_0 4 rfl rfl)
theorem dX0_catchPendulum_7 : decode cX0_catchPendulum 7 = .ok (.i2l, 1) := dk_133 (dk_at dksX0_catchPendulum_0 7 rfl rfl)
theorem dX0_catchPendulum_8 : decode cX0_catchPendulum 8 = .ok (.lastore, 1) := dk_80 (dk_at dksX0_catchPendulum_0 8 rfl rfl)
theorem dX0_catchPendulum_9 : decode cX0_catchPendulum 9 = .ok (.goto 9, 3) := dk_167 0 9 (dk_at dksX0_catchPendulum_0 9 rfl rfl)
theorem dX0_catchPendulum_12 : decode cX0_catchPendulum 12 = .ok (.astore_n 3, 1) := dk_78 (dk_at dksX0_catchPendulum_0 12 rfl rfl)
theorem dX0_catchPendulum_13 : decode cX0_catchPendulum 13 = .ok (.iconst 1, 1) := dk_4 (dk_at dksX0_catchPendulum_0 13 rfl rfl)
theorem dX0_catchPendulum_14 : decode cX0_catchPendulum 14 = .ok (.ireturn, 1) := dk_172 (dk_at dksX0_catchPendulum_0 14 rfl rfl)
theorem dX0_catchPendulum_15 : decode cX0_catchPendulum 15 = .ok (.astore_n 3, 1) := dk_78 (dk_at dksX0_catchPendulum_0 15 rfl rfl)
theorem dX0_catchPendulum_16 : decode cX0_catchPendulum 16 = .ok (.iconst 2, 1) := dk_5 (dk_at dksX0_catchPendulum_0 16 rfl rfl)
theorem dX0_catchPendulum_17 : decode cX0_catchPendulum 17 = .ok (.ireturn, 1) := dk_172 (dk_at dksX0_catchPendulum_0 17 rfl rfl)
theorem dX0_catchPendulum_18 : decode cX0_catchPendulum 18 = .ok (.iconst 0, 1) := dk_3 (dk_at dksX0_catchPendulum_0 18 rfl rfl)
theorem dX0_catchPendulum_19 : decode cX0_catchPendulum 19 = .ok (.ireturn, 1) := dk_172 (dk_at dksX0_catchPendulum_0 19 rfl rfl)
abbrev cX0_setFriction : ByteArray := method_6_code
def yX0_setFriction : MethodName := ⟨RX0, "setFriction", "(LPendulumGym;I[J)I"⟩
def dkwX0_setFriction_0 : List UInt8 := [44, 3, 42, 27, 182, 0, 26, 133, 80, 167, 0, 6, 78, 4, 172, 3, 172]
abbrev dktX0_setFriction_0 : List UInt8 := dkwX0_setFriction_0 ++ []
theorem dksX0_setFriction_0 : cX0_setFriction.data.toList.drop 0 = dktX0_setFriction_0 := by decide +kernel
theorem dX0_setFriction_0 : decode cX0_setFriction 0 = .ok (.aload_n 2, 1) := dk_44 (dk_at dksX0_setFriction_0 0 rfl rfl)
theorem dX0_setFriction_1 : decode cX0_setFriction 1 = .ok (.iconst 0, 1) := dk_3 (dk_at dksX0_setFriction_0 1 rfl rfl)
theorem dX0_setFriction_2 : decode cX0_setFriction 2 = .ok (.aload_n 0, 1) := dk_42 (dk_at dksX0_setFriction_0 2 rfl rfl)
theorem dX0_setFriction_3 : decode cX0_setFriction 3 = .ok (.iload_n 1, 1) := dk_27 (dk_at dksX0_setFriction_0 3 rfl rfl)
theorem dX0_setFriction_4 : decode cX0_setFriction 4 = .ok (.invokevirtual 26, 3) := dk_182 0 26 (dk_at dksX0_setFriction_0 4 rfl rfl)
theorem dX0_setFriction_7 : decode cX0_setFriction 7 = .ok (.i2l, 1) := dk_133 (dk_at dksX0_setFriction_0 7 rfl rfl)
theorem dX0_setFriction_8 : decode cX0_setFriction 8 = .ok (.lastore, 1) := dk_80 (dk_at dksX0_setFriction_0 8 rfl rfl)
theorem dX0_setFriction_9 : decode cX0_setFriction 9 = .ok (.goto 6, 3) := dk_167 0 6 (dk_at dksX0_setFriction_0 9 rfl rfl)
theorem dX0_setFriction_12 : decode cX0_setFriction 12 = .ok (.astore_n 3, 1) := dk_78 (dk_at dksX0_setFriction_0 12 rfl rfl)
theorem dX0_setFriction_13 : decode cX0_setFriction 13 = .ok (.iconst 1, 1) := dk_4 (dk_at dksX0_setFriction_0 13 rfl rfl)
theorem dX0_setFriction_14 : decode cX0_setFriction 14 = .ok (.ireturn, 1) := dk_172 (dk_at dksX0_setFriction_0 14 rfl rfl)
theorem dX0_setFriction_15 : decode cX0_setFriction 15 = .ok (.iconst 0, 1) := dk_3 (dk_at dksX0_setFriction_0 15 rfl rfl)
theorem dX0_setFriction_16 : decode cX0_setFriction 16 = .ok (.ireturn, 1) := dk_172 (dk_at dksX0_setFriction_0 16 rfl rfl)
abbrev cX0_pass : ByteArray := method_7_code
def yX0_pass : MethodName := ⟨RX0, "pass", "(LPendulumGym;I[J)I"⟩
def dkwX0_pass_0 : List UInt8 := [44, 3, 42, 27, 182, 0, 29, 133, 80, 167, 0, 6, 78, 4, 172, 3, 172]
abbrev dktX0_pass_0 : List UInt8 := dkwX0_pass_0 ++ []
theorem dksX0_pass_0 : cX0_pass.data.toList.drop 0 = dktX0_pass_0 := by decide +kernel
theorem dX0_pass_0 : decode cX0_pass 0 = .ok (.aload_n 2, 1) := dk_44 (dk_at dksX0_pass_0 0 rfl rfl)
theorem dX0_pass_1 : decode cX0_pass 1 = .ok (.iconst 0, 1) := dk_3 (dk_at dksX0_pass_0 1 rfl rfl)
theorem dX0_pass_2 : decode cX0_pass 2 = .ok (.aload_n 0, 1) := dk_42 (dk_at dksX0_pass_0 2 rfl rfl)
theorem dX0_pass_3 : decode cX0_pass 3 = .ok (.iload_n 1, 1) := dk_27 (dk_at dksX0_pass_0 3 rfl rfl)
theorem dX0_pass_4 : decode cX0_pass 4 = .ok (.invokevirtual 29, 3) := dk_182 0 29 (dk_at dksX0_pass_0 4 rfl rfl)
theorem dX0_pass_7 : decode cX0_pass 7 = .ok (.i2l, 1) := dk_133 (dk_at dksX0_pass_0 7 rfl rfl)
theorem dX0_pass_8 : decode cX0_pass 8 = .ok (.lastore, 1) := dk_80 (dk_at dksX0_pass_0 8 rfl rfl)
theorem dX0_pass_9 : decode cX0_pass 9 = .ok (.goto 6, 3) := dk_167 0 6 (dk_at dksX0_pass_0 9 rfl rfl)
theorem dX0_pass_12 : decode cX0_pass 12 = .ok (.astore_n 3, 1) := dk_78 (dk_at dksX0_pass_0 12 rfl rfl)
theorem dX0_pass_13 : decode cX0_pass 13 = .ok (.iconst 1, 1) := dk_4 (dk_at dksX0_pass_0 13 rfl rfl)
theorem dX0_pass_14 : decode cX0_pass 14 = .ok (.ireturn, 1) := dk_172 (dk_at dksX0_pass_0 14 rfl rfl)
theorem dX0_pass_15 : decode cX0_pass 15 = .ok (.iconst 0, 1) := dk_3 (dk_at dksX0_pass_0 15 rfl rfl)
theorem dX0_pass_16 : decode cX0_pass 16 = .ok (.ireturn, 1) := dk_172 (dk_at dksX0_pass_0 16 rfl rfl)
abbrev cX0_lengthOf : ByteArray := method_8_code
def yX0_lengthOf : MethodName := ⟨RX0, "lengthOf", "(LPendulumGym;I[J)I"⟩
def dkwX0_lengthOf_0 : List UInt8 := [44, 3, 42, 27, 182, 0, 32, 133, 80, 167, 0, 6, 78, 4, 172, 3, 172]
abbrev dktX0_lengthOf_0 : List UInt8 := dkwX0_lengthOf_0 ++ []
theorem dksX0_lengthOf_0 : cX0_lengthOf.data.toList.drop 0 = dktX0_lengthOf_0 := by decide +kernel
theorem dX0_lengthOf_0 : decode cX0_lengthOf 0 = .ok (.aload_n 2, 1) := dk_44 (dk_at dksX0_lengthOf_0 0 rfl rfl)
theorem dX0_lengthOf_1 : decode cX0_lengthOf 1 = .ok (.iconst 0, 1) := dk_3 (dk_at dksX0_lengthOf_0 1 rfl rfl)
theorem dX0_lengthOf_2 : decode cX0_lengthOf 2 = .ok (.aload_n 0, 1) := dk_42 (dk_at dksX0_lengthOf_0 2 rfl rfl)
theorem dX0_lengthOf_3 : decode cX0_lengthOf 3 = .ok (.iload_n 1, 1) := dk_27 (dk_at dksX0_lengthOf_0 3 rfl rfl)
theorem dX0_lengthOf_4 : decode cX0_lengthOf 4 = .ok (.invokevirtual 32, 3) := dk_182 0 32 (dk_at dksX0_lengthOf_0 4 rfl rfl)
theorem dX0_lengthOf_7 : decode cX0_lengthOf 7 = .ok (.i2l, 1) := dk_133 (dk_at dksX0_lengthOf_0 7 rfl rfl)
theorem dX0_lengthOf_8 : decode cX0_lengthOf 8 = .ok (.lastore, 1) := dk_80 (dk_at dksX0_lengthOf_0 8 rfl rfl)
theorem dX0_lengthOf_9 : decode cX0_lengthOf 9 = .ok (.goto 6, 3) := dk_167 0 6 (dk_at dksX0_lengthOf_0 9 rfl rfl)
theorem dX0_lengthOf_12 : decode cX0_lengthOf 12 = .ok (.astore_n 3, 1) := dk_78 (dk_at dksX0_lengthOf_0 12 rfl rfl)
theorem dX0_lengthOf_13 : decode cX0_lengthOf 13 = .ok (.iconst 1, 1) := dk_4 (dk_at dksX0_lengthOf_0 13 rfl rfl)
theorem dX0_lengthOf_14 : decode cX0_lengthOf 14 = .ok (.ireturn, 1) := dk_172 (dk_at dksX0_lengthOf_0 14 rfl rfl)
theorem dX0_lengthOf_15 : decode cX0_lengthOf 15 = .ok (.iconst 0, 1) := dk_3 (dk_at dksX0_lengthOf_0 15 rfl rfl)
theorem dX0_lengthOf_16 : decode cX0_lengthOf 16 = .ok (.ireturn, 1) := dk_172 (dk_at dksX0_lengthOf_0 16 rfl rfl)
abbrev cX0_classOf : ByteArray := method_9_code
def yX0_classOf : MethodName := ⟨RX0, "classOf", "(LPendulumGym;I[J)I"⟩
def dkwX0_classOf_0 : List UInt8 := [44, 3, 42, 27, 182, 0, 35, 133, 80, 167, 0, 6, 78, 4, 172, 3, 172]
abbrev dktX0_classOf_0 : List UInt8 := dkwX0_classOf_0 ++ []
theorem dksX0_classOf_0 : cX0_classOf.data.toList.drop 0 = dktX0_classOf_0 := by decide +kernel
theorem dX0_classOf_0 : decode cX0_classOf 0 = .ok (.aload_n 2, 1) := dk_44 (dk_at dksX0_classOf_0 0 rfl rfl)
theorem dX0_classOf_1 : decode cX0_classOf 1 = .ok (.iconst 0, 1) := dk_3 (dk_at dksX0_classOf_0 1 rfl rfl)
theorem dX0_classOf_2 : decode cX0_classOf 2 = .ok (.aload_n 0, 1) := dk_42 (dk_at dksX0_classOf_0 2 rfl rfl)
theorem dX0_classOf_3 : decode cX0_classOf 3 = .ok (.iload_n 1, 1) := dk_27 (dk_at dksX0_classOf_0 3 rfl rfl)
theorem dX0_classOf_4 : decode cX0_classOf 4 = .ok (.invokevirtual 35, 3) := dk_182 0 35 (dk_at dksX0_classOf_0 4 rfl rfl)
theorem dX0_classOf_7 : decode cX0_classOf 7 = .ok (.i2l, 1) := dk_133 (dk_at dksX0_classOf_0 7 rfl rfl)
theorem dX0_classOf_8 : decode cX0_classOf 8 = .ok (.lastore, 1) := dk_80 (dk_at dksX0_classOf_0 8 rfl rfl)
theorem dX0_classOf_9 : decode cX0_classOf 9 = .ok (.goto 6, 3) := dk_167 0 6 (dk_at dksX0_classOf_0 9 rfl rfl)
theorem dX0_classOf_12 : decode cX0_classOf 12 = .ok (.astore_n 3, 1) := dk_78 (dk_at dksX0_classOf_0 12 rfl rfl)
theorem dX0_classOf_13 : decode cX0_classOf 13 = .ok (.iconst 1, 1) := dk_4 (dk_at dksX0_classOf_0 13 rfl rfl)
theorem dX0_classOf_14 : decode cX0_classOf 14 = .ok (.ireturn, 1) := dk_172 (dk_at dksX0_classOf_0 14 rfl rfl)
theorem dX0_classOf_15 : decode cX0_classOf 15 = .ok (.iconst 0, 1) := dk_3 (dk_at dksX0_classOf_0 15 rfl rfl)
theorem dX0_classOf_16 : decode cX0_classOf 16 = .ok (.ireturn, 1) := dk_172 (dk_at dksX0_classOf_0 16 rfl rfl)
abbrev cX0_amplitudeOf : ByteArray := method_10_code
def yX0_amplitudeOf : MethodName := ⟨RX0, "amplitudeOf", "(LPendulumGym;I[J)I"⟩
def dkwX0_amplitudeOf_0 : List UInt8 := [44, 3, 42, 27, 182, 0, 38, 133, 80, 167, 0, 6, 78, 4, 172, 3, 172]
abbrev dktX0_amplitudeOf_0 : List UInt8 := dkwX0_amplitudeOf_0 ++ []
theorem dksX0_amplitudeOf_0 : cX0_amplitudeOf.data.toList.drop 0 = dktX0_amplitudeOf_0 := by decide +kernel
theorem dX0_amplitudeOf_0 : decode cX0_amplitudeOf 0 = .ok (.aload_n 2, 1) := dk_44 (dk_at dksX0_amplitudeOf_0 0 rfl rfl)
theorem dX0_amplitudeOf_1 : decode cX0_amplitudeOf 1 = .ok (.iconst 0, 1) := dk_3 (dk_at dksX0_amplitudeOf_0 1 rfl rfl)
theorem dX0_amplitudeOf_2 : decode cX0_amplitudeOf 2 = .ok (.aload_n 0, 1) := dk_42 (dk_at dksX0_amplitudeOf_0 2 rfl rfl)
theorem dX0_amplitudeOf_3 : decode cX0_amplitudeOf 3 = .ok (.iload_n 1, 1) := dk_27 (dk_at dksX0_amplitudeOf_0 3 rfl rfl)
theorem dX0_amplitudeOf_4 : decode cX0_amplitudeOf 4 = .ok (.invokevirtual 38, 3) := dk_182 0 38 (dk_at dksX0_amplitudeOf_0 4 rfl rfl)
theorem dX0_amplitudeOf_7 : decode cX0_amplitudeOf 7 = .ok (.i2l, 1) := dk_133 (dk_at dksX0_amplitudeOf_0 7 rfl rfl)
theorem dX0_amplitudeOf_8 : decode cX0_amplitudeOf 8 = .ok (.lastore, 1) := dk_80 (dk_at dksX0_amplitudeOf_0 8 rfl rfl)
theorem dX0_amplitudeOf_9 : decode cX0_amplitudeOf 9 = .ok (.goto 6, 3) := dk_167 0 6 (dk_at dksX0_amplitudeOf_0 9 rfl rfl)
theorem dX0_amplitudeOf_12 : decode cX0_amplitudeOf 12 = .ok (.astore_n 3, 1) := dk_78 (dk_at dksX0_amplitudeOf_0 12 rfl rfl)
theorem dX0_amplitudeOf_13 : decode cX0_amplitudeOf 13 = .ok (.iconst 1, 1) := dk_4 (dk_at dksX0_amplitudeOf_0 13 rfl rfl)
theorem dX0_amplitudeOf_14 : decode cX0_amplitudeOf 14 = .ok (.ireturn, 1) := dk_172 (dk_at dksX0_amplitudeOf_0 14 rfl rfl)
theorem dX0_amplitudeOf_15 : decode cX0_amplitudeOf 15 = .ok (.iconst 0, 1) := dk_3 (dk_at dksX0_amplitudeOf_0 15 rfl rfl)
theorem dX0_amplitudeOf_16 : decode cX0_amplitudeOf 16 = .ok (.ireturn, 1) := dk_172 (dk_at dksX0_amplitudeOf_0 16 rfl rfl)
abbrev cX0_startOf : ByteArray := method_11_code
def yX0_startOf : MethodName := ⟨RX0, "startOf", "(LPendulumGym;I[J)I"⟩
def dkwX0_startOf_0 : List UInt8 := [44, 3, 42, 27, 182, 0, 41, 133, 80, 167, 0, 9, 78, 4, 172, 78, 5, 172, 3, 172]
abbrev dktX0_startOf_0 : List UInt8 := dkwX0_startOf_0 ++ []
theorem dksX0_startOf_0 : cX0_startOf.data.toList.drop 0 = dktX0_startOf_0 := by decide +kernel
theorem dX0_startOf_0 : decode cX0_startOf 0 = .ok (.aload_n 2, 1) := dk_44 (dk_at dksX0_startOf_0 0 rfl rfl)
theorem dX0_startOf_1 : decode cX0_startOf 1 = .ok (.iconst 0, 1) := dk_3 (dk_at dksX0_startOf_0 1 rfl rfl)
theorem dX0_startOf_2 : decode cX0_startOf 2 = .ok (.aload_n 0, 1) := dk_42 (dk_at dksX0_startOf_0 2 rfl rfl)
theorem dX0_startOf_3 : decode cX0_startOf 3 = .ok (.iload_n 1, 1) := dk_27 (dk_at dksX0_startOf_0 3 rfl rfl)
theorem dX0_startOf_4 : decode cX0_startOf 4 = .ok (.invokevirtual 41, 3) := dk_182 0 41 (dk_at dksX0_startOf_0 4 rfl rfl)
theorem dX0_startOf_7 : decode cX0_startOf 7 = .ok (.i2l, 1) := dk_133 (dk_at dksX0_startOf_0 7 rfl rfl)
theorem dX0_startOf_8 : decode cX0_startOf 8 = .ok (.lastore, 1) := dk_80 (dk_at dksX0_startOf_0 8 rfl rfl)
theorem dX0_startOf_9 : decode cX0_startOf 9 = .ok (.goto 9, 3) := dk_167 0 9 (dk_at dksX0_startOf_0 9 rfl rfl)
theorem dX0_startOf_12 : decode cX0_startOf 12 = .ok (.astore_n 3, 1) := dk_78 (dk_at dksX0_startOf_0 12 rfl rfl)
theorem dX0_startOf_13 : decode cX0_startOf 13 = .ok (.iconst 1, 1) := dk_4 (dk_at dksX0_startOf_0 13 rfl rfl)
theorem dX0_startOf_14 : decode cX0_startOf 14 = .ok (.ireturn, 1) := dk_172 (dk_at dksX0_startOf_0 14 rfl rfl)
theorem dX0_startOf_15 : decode cX0_startOf 15 = .ok (.astore_n 3, 1) := dk_78 (dk_at dksX0_startOf_0 15 rfl rfl)
theorem dX0_startOf_16 : decode cX0_startOf 16 = .ok (.iconst 2, 1) := dk_5 (dk_at dksX0_startOf_0 16 rfl rfl)
theorem dX0_startOf_17 : decode cX0_startOf 17 = .ok (.ireturn, 1) := dk_172 (dk_at dksX0_startOf_0 17 rfl rfl)
theorem dX0_startOf_18 : decode cX0_startOf 18 = .ok (.iconst 0, 1) := dk_3 (dk_at dksX0_startOf_0 18 rfl rfl)
theorem dX0_startOf_19 : decode cX0_startOf 19 = .ok (.ireturn, 1) := dk_172 (dk_at dksX0_startOf_0 19 rfl rfl)
abbrev cX0_periodOf : ByteArray := method_12_code
def yX0_periodOf : MethodName := ⟨RX0, "periodOf", "(LPendulumGym;I[J)I"⟩
def dkwX0_periodOf_0 : List UInt8 := [44, 3, 42, 27, 182, 0, 46, 133, 80, 167, 0, 6, 78, 4, 172, 3, 172]
abbrev dktX0_periodOf_0 : List UInt8 := dkwX0_periodOf_0 ++ []
theorem dksX0_periodOf_0 : cX0_periodOf.data.toList.drop 0 = dktX0_periodOf_0 := by decide +kernel
theorem dX0_periodOf_0 : decode cX0_periodOf 0 = .ok (.aload_n 2, 1) := dk_44 (dk_at dksX0_periodOf_0 0 rfl rfl)
theorem dX0_periodOf_1 : decode cX0_periodOf 1 = .ok (.iconst 0, 1) := dk_3 (dk_at dksX0_periodOf_0 1 rfl rfl)
theorem dX0_periodOf_2 : decode cX0_periodOf 2 = .ok (.aload_n 0, 1) := dk_42 (dk_at dksX0_periodOf_0 2 rfl rfl)
theorem dX0_periodOf_3 : decode cX0_periodOf 3 = .ok (.iload_n 1, 1) := dk_27 (dk_at dksX0_periodOf_0 3 rfl rfl)
theorem dX0_periodOf_4 : decode cX0_periodOf 4 = .ok (.invokevirtual 46, 3) := dk_182 0 46 (dk_at dksX0_periodOf_0 4 rfl rfl)
theorem dX0_periodOf_7 : decode cX0_periodOf 7 = .ok (.i2l, 1) := dk_133 (dk_at dksX0_periodOf_0 7 rfl rfl)
theorem dX0_periodOf_8 : decode cX0_periodOf 8 = .ok (.lastore, 1) := dk_80 (dk_at dksX0_periodOf_0 8 rfl rfl)
theorem dX0_periodOf_9 : decode cX0_periodOf 9 = .ok (.goto 6, 3) := dk_167 0 6 (dk_at dksX0_periodOf_0 9 rfl rfl)
theorem dX0_periodOf_12 : decode cX0_periodOf 12 = .ok (.astore_n 3, 1) := dk_78 (dk_at dksX0_periodOf_0 12 rfl rfl)
theorem dX0_periodOf_13 : decode cX0_periodOf 13 = .ok (.iconst 1, 1) := dk_4 (dk_at dksX0_periodOf_0 13 rfl rfl)
theorem dX0_periodOf_14 : decode cX0_periodOf 14 = .ok (.ireturn, 1) := dk_172 (dk_at dksX0_periodOf_0 14 rfl rfl)
theorem dX0_periodOf_15 : decode cX0_periodOf 15 = .ok (.iconst 0, 1) := dk_3 (dk_at dksX0_periodOf_0 15 rfl rfl)
theorem dX0_periodOf_16 : decode cX0_periodOf 16 = .ok (.ireturn, 1) := dk_172 (dk_at dksX0_periodOf_0 16 rfl rfl)
abbrev cX0_periodByEstimates : ByteArray := method_13_code
def yX0_periodByEstimates : MethodName := ⟨RX0, "periodByEstimates", "(LPendulumGym;I[J)I"⟩
def dkwX0_periodByEstimates_0 : List UInt8 := [44, 3, 42, 27, 182, 0, 49, 133, 80, 167, 0, 6, 78, 4, 172, 3, 172]
abbrev dktX0_periodByEstimates_0 : List UInt8 := dkwX0_periodByEstimates_0 ++ []
theorem dksX0_periodByEstimates_0 : cX0_periodByEstimates.data.toList.drop 0 = dktX0_periodByEstimates_0 := by decide +kernel
theorem dX0_periodByEstimates_0 : decode cX0_periodByEstimates 0 = .ok (.aload_n 2, 1) := dk_44 (dk_at dksX0_periodByEstimates_0 0 rfl rfl)
theorem dX0_periodByEstimates_1 : decode cX0_periodByEstimates 1 = .ok (.iconst 0, 1) := dk_3 (dk_at dksX0_periodByEstimates_0 1 rfl rfl)
theorem dX0_periodByEstimates_2 : decode cX0_periodByEstimates 2 = .ok (.aload_n 0, 1) := dk_42 (dk_at dksX0_periodByEstimates_0 2 rfl rfl)
theorem dX0_periodByEstimates_3 : decode cX0_periodByEstimates 3 = .ok (.iload_n 1, 1) := dk_27 (dk_at dksX0_periodByEstimates_0 3 rfl rfl)
theorem dX0_periodByEstimates_4 : decode cX0_periodByEstimates 4 = .ok (.invokevirtual 49, 3) := dk_182 0 49 (dk_at dksX0_periodByEstimates_0 4 rfl rfl)
theorem dX0_periodByEstimates_7 : decode cX0_periodByEstimates 7 = .ok (.i2l, 1) := dk_133 (dk_at dksX0_periodByEstimates_0 7 rfl rfl)
theorem dX0_periodByEstimates_8 : decode cX0_periodByEstimates 8 = .ok (.lastore, 1) := dk_80 (dk_at dksX0_periodByEstimates_0 8 rfl rfl)
theorem dX0_periodByEstimates_9 : decode cX0_periodByEstimates 9 = .ok (.goto 6, 3) := dk_167 0 6 (dk_at dksX0_periodByEstimates_0 9 rfl rfl)
theorem dX0_periodByEstimates_12 : decode cX0_periodByEstimates 12 = .ok (.astore_n 3, 1) := dk_78 (dk_at dksX0_periodByEstimates_0 12 rfl rfl)
theorem dX0_periodByEstimates_13 : decode cX0_periodByEstimates 13 = .ok (.iconst 1, 1) := dk_4 (dk_at dksX0_periodByEstimates_0 13 rfl rfl)
theorem dX0_periodByEstimates_14 : decode cX0_periodByEstimates 14 = .ok (.ireturn, 1) := dk_172 (dk_at dksX0_periodByEstimates_0 14 rfl rfl)
theorem dX0_periodByEstimates_15 : decode cX0_periodByEstimates 15 = .ok (.iconst 0, 1) := dk_3 (dk_at dksX0_periodByEstimates_0 15 rfl rfl)
theorem dX0_periodByEstimates_16 : decode cX0_periodByEstimates 16 = .ok (.ireturn, 1) := dk_172 (dk_at dksX0_periodByEstimates_0 16 rfl rfl)
abbrev cX0_swingsOf : ByteArray := method_14_code
def yX0_swingsOf : MethodName := ⟨RX0, "swingsOf", "(LPendulumGym;I[J)I"⟩
def dkwX0_swingsOf_0 : List UInt8 := [44, 3, 42, 27, 182, 0, 52, 133, 80, 167, 0, 6, 78, 4, 172, 3, 172]
abbrev dktX0_swingsOf_0 : List UInt8 := dkwX0_swingsOf_0 ++ []
theorem dksX0_swingsOf_0 : cX0_swingsOf.data.toList.drop 0 = dktX0_swingsOf_0 := by decide +kernel
theorem dX0_swingsOf_0 : decode cX0_swingsOf 0 = .ok (.aload_n 2, 1) := dk_44 (dk_at dksX0_swingsOf_0 0 rfl rfl)
theorem dX0_swingsOf_1 : decode cX0_swingsOf 1 = .ok (.iconst 0, 1) := dk_3 (dk_at dksX0_swingsOf_0 1 rfl rfl)
theorem dX0_swingsOf_2 : decode cX0_swingsOf 2 = .ok (.aload_n 0, 1) := dk_42 (dk_at dksX0_swingsOf_0 2 rfl rfl)
theorem dX0_swingsOf_3 : decode cX0_swingsOf 3 = .ok (.iload_n 1, 1) := dk_27 (dk_at dksX0_swingsOf_0 3 rfl rfl)
theorem dX0_swingsOf_4 : decode cX0_swingsOf 4 = .ok (.invokevirtual 52, 3) := dk_182 0 52 (dk_at dksX0_swingsOf_0 4 rfl rfl)
theorem dX0_swingsOf_7 : decode cX0_swingsOf 7 = .ok (.i2l, 1) := dk_133 (dk_at dksX0_swingsOf_0 7 rfl rfl)
theorem dX0_swingsOf_8 : decode cX0_swingsOf 8 = .ok (.lastore, 1) := dk_80 (dk_at dksX0_swingsOf_0 8 rfl rfl)
theorem dX0_swingsOf_9 : decode cX0_swingsOf 9 = .ok (.goto 6, 3) := dk_167 0 6 (dk_at dksX0_swingsOf_0 9 rfl rfl)
theorem dX0_swingsOf_12 : decode cX0_swingsOf 12 = .ok (.astore_n 3, 1) := dk_78 (dk_at dksX0_swingsOf_0 12 rfl rfl)
theorem dX0_swingsOf_13 : decode cX0_swingsOf 13 = .ok (.iconst 1, 1) := dk_4 (dk_at dksX0_swingsOf_0 13 rfl rfl)
theorem dX0_swingsOf_14 : decode cX0_swingsOf 14 = .ok (.ireturn, 1) := dk_172 (dk_at dksX0_swingsOf_0 14 rfl rfl)
theorem dX0_swingsOf_15 : decode cX0_swingsOf 15 = .ok (.iconst 0, 1) := dk_3 (dk_at dksX0_swingsOf_0 15 rfl rfl)
theorem dX0_swingsOf_16 : decode cX0_swingsOf 16 = .ok (.ireturn, 1) := dk_172 (dk_at dksX0_swingsOf_0 16 rfl rfl)
abbrev cX0_recordOf : ByteArray := method_15_code
def yX0_recordOf : MethodName := ⟨RX0, "recordOf", "(LPendulumGym;I[J)I"⟩
def dkwX0_recordOf_0 : List UInt8 := [44, 3, 42, 27, 182, 0, 55, 133, 80, 167, 0, 9, 78, 4, 172, 78, 5, 172, 3, 172]
abbrev dktX0_recordOf_0 : List UInt8 := dkwX0_recordOf_0 ++ []
theorem dksX0_recordOf_0 : cX0_recordOf.data.toList.drop 0 = dktX0_recordOf_0 := by decide +kernel
theorem dX0_recordOf_0 : decode cX0_recordOf 0 = .ok (.aload_n 2, 1) := dk_44 (dk_at dksX0_recordOf_0 0 rfl rfl)
theorem dX0_recordOf_1 : decode cX0_recordOf 1 = .ok (.iconst 0, 1) := dk_3 (dk_at dksX0_recordOf_0 1 rfl rfl)
theorem dX0_recordOf_2 : decode cX0_recordOf 2 = .ok (.aload_n 0, 1) := dk_42 (dk_at dksX0_recordOf_0 2 rfl rfl)
theorem dX0_recordOf_3 : decode cX0_recordOf 3 = .ok (.iload_n 1, 1) := dk_27 (dk_at dksX0_recordOf_0 3 rfl rfl)
theorem dX0_recordOf_4 : decode cX0_recordOf 4 = .ok (.invokevirtual 55, 3) := dk_182 0 55 (dk_at dksX0_recordOf_0 4 rfl rfl)
theorem dX0_recordOf_7 : decode cX0_recordOf 7 = .ok (.i2l, 1) := dk_133 (dk_at dksX0_recordOf_0 7 rfl rfl)
theorem dX0_recordOf_8 : decode cX0_recordOf 8 = .ok (.lastore, 1) := dk_80 (dk_at dksX0_recordOf_0 8 rfl rfl)
theorem dX0_recordOf_9 : decode cX0_recordOf 9 = .ok (.goto 9, 3) := dk_167 0 9 (dk_at dksX0_recordOf_0 9 rfl rfl)
theorem dX0_recordOf_12 : decode cX0_recordOf 12 = .ok (.astore_n 3, 1) := dk_78 (dk_at dksX0_recordOf_0 12 rfl rfl)
theorem dX0_recordOf_13 : decode cX0_recordOf 13 = .ok (.iconst 1, 1) := dk_4 (dk_at dksX0_recordOf_0 13 rfl rfl)
theorem dX0_recordOf_14 : decode cX0_recordOf 14 = .ok (.ireturn, 1) := dk_172 (dk_at dksX0_recordOf_0 14 rfl rfl)
theorem dX0_recordOf_15 : decode cX0_recordOf 15 = .ok (.astore_n 3, 1) := dk_78 (dk_at dksX0_recordOf_0 15 rfl rfl)
theorem dX0_recordOf_16 : decode cX0_recordOf 16 = .ok (.iconst 2, 1) := dk_5 (dk_at dksX0_recordOf_0 16 rfl rfl)
theorem dX0_recordOf_17 : decode cX0_recordOf 17 = .ok (.ireturn, 1) := dk_172 (dk_at dksX0_recordOf_0 17 rfl rfl)
theorem dX0_recordOf_18 : decode cX0_recordOf 18 = .ok (.iconst 0, 1) := dk_3 (dk_at dksX0_recordOf_0 18 rfl rfl)
theorem dX0_recordOf_19 : decode cX0_recordOf 19 = .ok (.ireturn, 1) := dk_172 (dk_at dksX0_recordOf_0 19 rfl rfl)
abbrev cX0_holderOf : ByteArray := method_16_code
def yX0_holderOf : MethodName := ⟨RX0, "holderOf", "(LPendulumGym;I[J)I"⟩
def dkwX0_holderOf_0 : List UInt8 := [44, 3, 42, 27, 182, 0, 58, 133, 80, 167, 0, 9, 78, 4, 172, 78, 5, 172, 3, 172]
abbrev dktX0_holderOf_0 : List UInt8 := dkwX0_holderOf_0 ++ []
theorem dksX0_holderOf_0 : cX0_holderOf.data.toList.drop 0 = dktX0_holderOf_0 := by decide +kernel
theorem dX0_holderOf_0 : decode cX0_holderOf 0 = .ok (.aload_n 2, 1) := dk_44 (dk_at dksX0_holderOf_0 0 rfl rfl)
theorem dX0_holderOf_1 : decode cX0_holderOf 1 = .ok (.iconst 0, 1) := dk_3 (dk_at dksX0_holderOf_0 1 rfl rfl)
theorem dX0_holderOf_2 : decode cX0_holderOf 2 = .ok (.aload_n 0, 1) := dk_42 (dk_at dksX0_holderOf_0 2 rfl rfl)
theorem dX0_holderOf_3 : decode cX0_holderOf 3 = .ok (.iload_n 1, 1) := dk_27 (dk_at dksX0_holderOf_0 3 rfl rfl)
theorem dX0_holderOf_4 : decode cX0_holderOf 4 = .ok (.invokevirtual 58, 3) := dk_182 0 58 (dk_at dksX0_holderOf_0 4 rfl rfl)
theorem dX0_holderOf_7 : decode cX0_holderOf 7 = .ok (.i2l, 1) := dk_133 (dk_at dksX0_holderOf_0 7 rfl rfl)
theorem dX0_holderOf_8 : decode cX0_holderOf 8 = .ok (.lastore, 1) := dk_80 (dk_at dksX0_holderOf_0 8 rfl rfl)
theorem dX0_holderOf_9 : decode cX0_holderOf 9 = .ok (.goto 9, 3) := dk_167 0 9 (dk_at dksX0_holderOf_0 9 rfl rfl)
theorem dX0_holderOf_12 : decode cX0_holderOf 12 = .ok (.astore_n 3, 1) := dk_78 (dk_at dksX0_holderOf_0 12 rfl rfl)
theorem dX0_holderOf_13 : decode cX0_holderOf 13 = .ok (.iconst 1, 1) := dk_4 (dk_at dksX0_holderOf_0 13 rfl rfl)
theorem dX0_holderOf_14 : decode cX0_holderOf 14 = .ok (.ireturn, 1) := dk_172 (dk_at dksX0_holderOf_0 14 rfl rfl)
theorem dX0_holderOf_15 : decode cX0_holderOf 15 = .ok (.astore_n 3, 1) := dk_78 (dk_at dksX0_holderOf_0 15 rfl rfl)
theorem dX0_holderOf_16 : decode cX0_holderOf 16 = .ok (.iconst 2, 1) := dk_5 (dk_at dksX0_holderOf_0 16 rfl rfl)
theorem dX0_holderOf_17 : decode cX0_holderOf 17 = .ok (.ireturn, 1) := dk_172 (dk_at dksX0_holderOf_0 17 rfl rfl)
theorem dX0_holderOf_18 : decode cX0_holderOf 18 = .ok (.iconst 0, 1) := dk_3 (dk_at dksX0_holderOf_0 18 rfl rfl)
theorem dX0_holderOf_19 : decode cX0_holderOf 19 = .ok (.ireturn, 1) := dk_172 (dk_at dksX0_holderOf_0 19 rfl rfl)
abbrev cX0_pendulumAtRank : ByteArray := method_17_code
def yX0_pendulumAtRank : MethodName := ⟨RX0, "pendulumAtRank", "(LPendulumGym;I[J)I"⟩
def dkwX0_pendulumAtRank_0 : List UInt8 := [44, 3, 42, 27, 182, 0, 61, 133, 80, 167, 0, 6, 78, 4, 172, 3, 172]
abbrev dktX0_pendulumAtRank_0 : List UInt8 := dkwX0_pendulumAtRank_0 ++ []
theorem dksX0_pendulumAtRank_0 : cX0_pendulumAtRank.data.toList.drop 0 = dktX0_pendulumAtRank_0 := by decide +kernel
theorem dX0_pendulumAtRank_0 : decode cX0_pendulumAtRank 0 = .ok (.aload_n 2, 1) := dk_44 (dk_at dksX0_pendulumAtRank_0 0 rfl rfl)
theorem dX0_pendulumAtRank_1 : decode cX0_pendulumAtRank 1 = .ok (.iconst 0, 1) := dk_3 (dk_at dksX0_pendulumAtRank_0 1 rfl rfl)
theorem dX0_pendulumAtRank_2 : decode cX0_pendulumAtRank 2 = .ok (.aload_n 0, 1) := dk_42 (dk_at dksX0_pendulumAtRank_0 2 rfl rfl)
theorem dX0_pendulumAtRank_3 : decode cX0_pendulumAtRank 3 = .ok (.iload_n 1, 1) := dk_27 (dk_at dksX0_pendulumAtRank_0 3 rfl rfl)
theorem dX0_pendulumAtRank_4 : decode cX0_pendulumAtRank 4 = .ok (.invokevirtual 61, 3) := dk_182 0 61 (dk_at dksX0_pendulumAtRank_0 4 rfl rfl)
theorem dX0_pendulumAtRank_7 : decode cX0_pendulumAtRank 7 = .ok (.i2l, 1) := dk_133 (dk_at dksX0_pendulumAtRank_0 7 rfl rfl)
theorem dX0_pendulumAtRank_8 : decode cX0_pendulumAtRank 8 = .ok (.lastore, 1) := dk_80 (dk_at dksX0_pendulumAtRank_0 8 rfl rfl)
theorem dX0_pendulumAtRank_9 : decode cX0_pendulumAtRank 9 = .ok (.goto 6, 3) := dk_167 0 6 (dk_at dksX0_pendulumAtRank_0 9 rfl rfl)
theorem dX0_pendulumAtRank_12 : decode cX0_pendulumAtRank 12 = .ok (.astore_n 3, 1) := dk_78 (dk_at dksX0_pendulumAtRank_0 12 rfl rfl)
theorem dX0_pendulumAtRank_13 : decode cX0_pendulumAtRank 13 = .ok (.iconst 1, 1) := dk_4 (dk_at dksX0_pendulumAtRank_0 13 rfl rfl)
theorem dX0_pendulumAtRank_14 : decode cX0_pendulumAtRank 14 = .ok (.ireturn, 1) := dk_172 (dk_at dksX0_pendulumAtRank_0 14 rfl rfl)
theorem dX0_pendulumAtRank_15 : decode cX0_pendulumAtRank 15 = .ok (.iconst 0, 1) := dk_3 (dk_at dksX0_pendulumAtRank_0 15 rfl rfl)
theorem dX0_pendulumAtRank_16 : decode cX0_pendulumAtRank 16 = .ok (.ireturn, 1) := dk_172 (dk_at dksX0_pendulumAtRank_0 16 rfl rfl)
abbrev cX0_swingsToRest : ByteArray := method_18_code
def yX0_swingsToRest : MethodName := ⟨RX0, "swingsToRest", "(LPendulumGym;I[J)I"⟩
def dkwX0_swingsToRest_0 : List UInt8 := [44, 3, 42, 27, 182, 0, 64, 133, 80, 167, 0, 6, 78, 4, 172, 3, 172]
abbrev dktX0_swingsToRest_0 : List UInt8 := dkwX0_swingsToRest_0 ++ []
theorem dksX0_swingsToRest_0 : cX0_swingsToRest.data.toList.drop 0 = dktX0_swingsToRest_0 := by decide +kernel
theorem dX0_swingsToRest_0 : decode cX0_swingsToRest 0 = .ok (.aload_n 2, 1) := dk_44 (dk_at dksX0_swingsToRest_0 0 rfl rfl)
theorem dX0_swingsToRest_1 : decode cX0_swingsToRest 1 = .ok (.iconst 0, 1) := dk_3 (dk_at dksX0_swingsToRest_0 1 rfl rfl)
theorem dX0_swingsToRest_2 : decode cX0_swingsToRest 2 = .ok (.aload_n 0, 1) := dk_42 (dk_at dksX0_swingsToRest_0 2 rfl rfl)
theorem dX0_swingsToRest_3 : decode cX0_swingsToRest 3 = .ok (.iload_n 1, 1) := dk_27 (dk_at dksX0_swingsToRest_0 3 rfl rfl)
theorem dX0_swingsToRest_4 : decode cX0_swingsToRest 4 = .ok (.invokevirtual 64, 3) := dk_182 0 64 (dk_at dksX0_swingsToRest_0 4 rfl rfl)
theorem dX0_swingsToRest_7 : decode cX0_swingsToRest 7 = .ok (.i2l, 1) := dk_133 (dk_at dksX0_swingsToRest_0 7 rfl rfl)
theorem dX0_swingsToRest_8 : decode cX0_swingsToRest 8 = .ok (.lastore, 1) := dk_80 (dk_at dksX0_swingsToRest_0 8 rfl rfl)
theorem dX0_swingsToRest_9 : decode cX0_swingsToRest 9 = .ok (.goto 6, 3) := dk_167 0 6 (dk_at dksX0_swingsToRest_0 9 rfl rfl)
theorem dX0_swingsToRest_12 : decode cX0_swingsToRest 12 = .ok (.astore_n 3, 1) := dk_78 (dk_at dksX0_swingsToRest_0 12 rfl rfl)
theorem dX0_swingsToRest_13 : decode cX0_swingsToRest 13 = .ok (.iconst 1, 1) := dk_4 (dk_at dksX0_swingsToRest_0 13 rfl rfl)
theorem dX0_swingsToRest_14 : decode cX0_swingsToRest 14 = .ok (.ireturn, 1) := dk_172 (dk_at dksX0_swingsToRest_0 14 rfl rfl)
theorem dX0_swingsToRest_15 : decode cX0_swingsToRest 15 = .ok (.iconst 0, 1) := dk_3 (dk_at dksX0_swingsToRest_0 15 rfl rfl)
theorem dX0_swingsToRest_16 : decode cX0_swingsToRest 16 = .ok (.ireturn, 1) := dk_172 (dk_at dksX0_swingsToRest_0 16 rfl rfl)
abbrev cX0_swingsToRestByTable : ByteArray := method_19_code
def yX0_swingsToRestByTable : MethodName := ⟨RX0, "swingsToRestByTable", "(LPendulumGym;I[J)I"⟩
def dkwX0_swingsToRestByTable_0 : List UInt8 := [44, 3, 42, 27, 182, 0, 67, 133, 80, 167, 0, 6, 78, 4, 172, 3, 172]
abbrev dktX0_swingsToRestByTable_0 : List UInt8 := dkwX0_swingsToRestByTable_0 ++ []
theorem dksX0_swingsToRestByTable_0 : cX0_swingsToRestByTable.data.toList.drop 0 = dktX0_swingsToRestByTable_0 := by decide +kernel
theorem dX0_swingsToRestByTable_0 : decode cX0_swingsToRestByTable 0 = .ok (.aload_n 2, 1) := dk_44 (dk_at dksX0_swingsToRestByTable_0 0 rfl rfl)
theorem dX0_swingsToRestByTable_1 : decode cX0_swingsToRestByTable 1 = .ok (.iconst 0, 1) := dk_3 (dk_at dksX0_swingsToRestByTable_0 1 rfl rfl)
theorem dX0_swingsToRestByTable_2 : decode cX0_swingsToRestByTable 2 = .ok (.aload_n 0, 1) := dk_42 (dk_at dksX0_swingsToRestByTable_0 2 rfl rfl)
theorem dX0_swingsToRestByTable_3 : decode cX0_swingsToRestByTable 3 = .ok (.iload_n 1, 1) := dk_27 (dk_at dksX0_swingsToRestByTable_0 3 rfl rfl)
theorem dX0_swingsToRestByTable_4 : decode cX0_swingsToRestByTable 4 = .ok (.invokevirtual 67, 3) := dk_182 0 67 (dk_at dksX0_swingsToRestByTable_0 4 rfl rfl)
theorem dX0_swingsToRestByTable_7 : decode cX0_swingsToRestByTable 7 = .ok (.i2l, 1) := dk_133 (dk_at dksX0_swingsToRestByTable_0 7 rfl rfl)
theorem dX0_swingsToRestByTable_8 : decode cX0_swingsToRestByTable 8 = .ok (.lastore, 1) := dk_80 (dk_at dksX0_swingsToRestByTable_0 8 rfl rfl)
theorem dX0_swingsToRestByTable_9 : decode cX0_swingsToRestByTable 9 = .ok (.goto 6, 3) := dk_167 0 6 (dk_at dksX0_swingsToRestByTable_0 9 rfl rfl)
theorem dX0_swingsToRestByTable_12 : decode cX0_swingsToRestByTable 12 = .ok (.astore_n 3, 1) := dk_78 (dk_at dksX0_swingsToRestByTable_0 12 rfl rfl)
theorem dX0_swingsToRestByTable_13 : decode cX0_swingsToRestByTable 13 = .ok (.iconst 1, 1) := dk_4 (dk_at dksX0_swingsToRestByTable_0 13 rfl rfl)
theorem dX0_swingsToRestByTable_14 : decode cX0_swingsToRestByTable 14 = .ok (.ireturn, 1) := dk_172 (dk_at dksX0_swingsToRestByTable_0 14 rfl rfl)
theorem dX0_swingsToRestByTable_15 : decode cX0_swingsToRestByTable 15 = .ok (.iconst 0, 1) := dk_3 (dk_at dksX0_swingsToRestByTable_0 15 rfl rfl)
theorem dX0_swingsToRestByTable_16 : decode cX0_swingsToRestByTable 16 = .ok (.ireturn, 1) := dk_172 (dk_at dksX0_swingsToRestByTable_0 16 rfl rfl)
abbrev cX0_restTick : ByteArray := method_20_code
def yX0_restTick : MethodName := ⟨RX0, "restTick", "(LPendulumGym;I[J)I"⟩
def dkwX0_restTick_0 : List UInt8 := [44, 3, 42, 27, 182, 0, 70, 133, 80, 167, 0, 9, 78, 4, 172, 78, 5, 172, 3, 172]
abbrev dktX0_restTick_0 : List UInt8 := dkwX0_restTick_0 ++ []
theorem dksX0_restTick_0 : cX0_restTick.data.toList.drop 0 = dktX0_restTick_0 := by decide +kernel
theorem dX0_restTick_0 : decode cX0_restTick 0 = .ok (.aload_n 2, 1) := dk_44 (dk_at dksX0_restTick_0 0 rfl rfl)
theorem dX0_restTick_1 : decode cX0_restTick 1 = .ok (.iconst 0, 1) := dk_3 (dk_at dksX0_restTick_0 1 rfl rfl)
theorem dX0_restTick_2 : decode cX0_restTick 2 = .ok (.aload_n 0, 1) := dk_42 (dk_at dksX0_restTick_0 2 rfl rfl)
theorem dX0_restTick_3 : decode cX0_restTick 3 = .ok (.iload_n 1, 1) := dk_27 (dk_at dksX0_restTick_0 3 rfl rfl)
theorem dX0_restTick_4 : decode cX0_restTick 4 = .ok (.invokevirtual 70, 3) := dk_182 0 70 (dk_at dksX0_restTick_0 4 rfl rfl)
theorem dX0_restTick_7 : decode cX0_restTick 7 = .ok (.i2l, 1) := dk_133 (dk_at dksX0_restTick_0 7 rfl rfl)
theorem dX0_restTick_8 : decode cX0_restTick 8 = .ok (.lastore, 1) := dk_80 (dk_at dksX0_restTick_0 8 rfl rfl)
theorem dX0_restTick_9 : decode cX0_restTick 9 = .ok (.goto 9, 3) := dk_167 0 9 (dk_at dksX0_restTick_0 9 rfl rfl)
theorem dX0_restTick_12 : decode cX0_restTick 12 = .ok (.astore_n 3, 1) := dk_78 (dk_at dksX0_restTick_0 12 rfl rfl)
theorem dX0_restTick_13 : decode cX0_restTick 13 = .ok (.iconst 1, 1) := dk_4 (dk_at dksX0_restTick_0 13 rfl rfl)
theorem dX0_restTick_14 : decode cX0_restTick 14 = .ok (.ireturn, 1) := dk_172 (dk_at dksX0_restTick_0 14 rfl rfl)
theorem dX0_restTick_15 : decode cX0_restTick 15 = .ok (.astore_n 3, 1) := dk_78 (dk_at dksX0_restTick_0 15 rfl rfl)
theorem dX0_restTick_16 : decode cX0_restTick 16 = .ok (.iconst 2, 1) := dk_5 (dk_at dksX0_restTick_0 16 rfl rfl)
theorem dX0_restTick_17 : decode cX0_restTick 17 = .ok (.ireturn, 1) := dk_172 (dk_at dksX0_restTick_0 17 rfl rfl)
theorem dX0_restTick_18 : decode cX0_restTick 18 = .ok (.iconst 0, 1) := dk_3 (dk_at dksX0_restTick_0 18 rfl rfl)
theorem dX0_restTick_19 : decode cX0_restTick 19 = .ok (.ireturn, 1) := dk_172 (dk_at dksX0_restTick_0 19 rfl rfl)
abbrev cX0_amplitudeAfter : ByteArray := method_21_code
def yX0_amplitudeAfter : MethodName := ⟨RX0, "amplitudeAfter", "(LPendulumGym;II[J)I"⟩
def dkwX0_amplitudeAfter_0 : List UInt8 := [45, 3, 42, 27, 28, 182, 0, 73, 133, 80, 167, 0, 11, 58, 4, 4, 172, 58, 4, 5, 172, 3, 172]
abbrev dktX0_amplitudeAfter_0 : List UInt8 := dkwX0_amplitudeAfter_0 ++ []
theorem dksX0_amplitudeAfter_0 : cX0_amplitudeAfter.data.toList.drop 0 = dktX0_amplitudeAfter_0 := by decide +kernel
theorem dX0_amplitudeAfter_0 : decode cX0_amplitudeAfter 0 = .ok (.aload_n 3, 1) := dk_45 (dk_at dksX0_amplitudeAfter_0 0 rfl rfl)
theorem dX0_amplitudeAfter_1 : decode cX0_amplitudeAfter 1 = .ok (.iconst 0, 1) := dk_3 (dk_at dksX0_amplitudeAfter_0 1 rfl rfl)
theorem dX0_amplitudeAfter_2 : decode cX0_amplitudeAfter 2 = .ok (.aload_n 0, 1) := dk_42 (dk_at dksX0_amplitudeAfter_0 2 rfl rfl)
theorem dX0_amplitudeAfter_3 : decode cX0_amplitudeAfter 3 = .ok (.iload_n 1, 1) := dk_27 (dk_at dksX0_amplitudeAfter_0 3 rfl rfl)
theorem dX0_amplitudeAfter_4 : decode cX0_amplitudeAfter 4 = .ok (.iload_n 2, 1) := dk_28 (dk_at dksX0_amplitudeAfter_0 4 rfl rfl)
theorem dX0_amplitudeAfter_5 : decode cX0_amplitudeAfter 5 = .ok (.invokevirtual 73, 3) := dk_182 0 73 (dk_at dksX0_amplitudeAfter_0 5 rfl rfl)
theorem dX0_amplitudeAfter_8 : decode cX0_amplitudeAfter 8 = .ok (.i2l, 1) := dk_133 (dk_at dksX0_amplitudeAfter_0 8 rfl rfl)
theorem dX0_amplitudeAfter_9 : decode cX0_amplitudeAfter 9 = .ok (.lastore, 1) := dk_80 (dk_at dksX0_amplitudeAfter_0 9 rfl rfl)
theorem dX0_amplitudeAfter_10 : decode cX0_amplitudeAfter 10 = .ok (.goto 11, 3) := dk_167 0 11 (dk_at dksX0_amplitudeAfter_0 10 rfl rfl)
theorem dX0_amplitudeAfter_13 : decode cX0_amplitudeAfter 13 = .ok (.astore 4, 2) := dk_58 4 (dk_at dksX0_amplitudeAfter_0 13 rfl rfl)
theorem dX0_amplitudeAfter_15 : decode cX0_amplitudeAfter 15 = .ok (.iconst 1, 1) := dk_4 (dk_at dksX0_amplitudeAfter_0 15 rfl rfl)
theorem dX0_amplitudeAfter_16 : decode cX0_amplitudeAfter 16 = .ok (.ireturn, 1) := dk_172 (dk_at dksX0_amplitudeAfter_0 16 rfl rfl)
theorem dX0_amplitudeAfter_17 : decode cX0_amplitudeAfter 17 = .ok (.astore 4, 2) := dk_58 4 (dk_at dksX0_amplitudeAfter_0 17 rfl rfl)
theorem dX0_amplitudeAfter_19 : decode cX0_amplitudeAfter 19 = .ok (.iconst 2, 1) := dk_5 (dk_at dksX0_amplitudeAfter_0 19 rfl rfl)
theorem dX0_amplitudeAfter_20 : decode cX0_amplitudeAfter 20 = .ok (.ireturn, 1) := dk_172 (dk_at dksX0_amplitudeAfter_0 20 rfl rfl)
theorem dX0_amplitudeAfter_21 : decode cX0_amplitudeAfter 21 = .ok (.iconst 0, 1) := dk_3 (dk_at dksX0_amplitudeAfter_0 21 rfl rfl)
theorem dX0_amplitudeAfter_22 : decode cX0_amplitudeAfter 22 = .ok (.ireturn, 1) := dk_172 (dk_at dksX0_amplitudeAfter_0 22 rfl rfl)
abbrev cX0_meeting : ByteArray := method_22_code
def yX0_meeting : MethodName := ⟨RX0, "meeting", "(LPendulumGym;II[J)I"⟩
def dkwX0_meeting_1 : List UInt8 := [172, 3, 172]
abbrev dktX0_meeting_1 : List UInt8 := dkwX0_meeting_1 ++ []
def dkwX0_meeting_0 : List UInt8 := [45, 3, 42, 27, 28, 182, 0, 76, 133, 80, 167, 0, 15, 58, 4, 4, 172, 58, 4, 5, 172, 58, 4, 6]
abbrev dktX0_meeting_0 : List UInt8 := dkwX0_meeting_0 ++ dktX0_meeting_1
theorem dksX0_meeting_0 : cX0_meeting.data.toList.drop 0 = dktX0_meeting_0 := by decide +kernel
theorem dksX0_meeting_1 : cX0_meeting.data.toList.drop 24 = dktX0_meeting_1 := dk_seg dksX0_meeting_0 24 rfl rfl
theorem dX0_meeting_0 : decode cX0_meeting 0 = .ok (.aload_n 3, 1) := dk_45 (dk_at dksX0_meeting_0 0 rfl rfl)
theorem dX0_meeting_1 : decode cX0_meeting 1 = .ok (.iconst 0, 1) := dk_3 (dk_at dksX0_meeting_0 1 rfl rfl)
theorem dX0_meeting_2 : decode cX0_meeting 2 = .ok (.aload_n 0, 1) := dk_42 (dk_at dksX0_meeting_0 2 rfl rfl)
theorem dX0_meeting_3 : decode cX0_meeting 3 = .ok (.iload_n 1, 1) := dk_27 (dk_at dksX0_meeting_0 3 rfl rfl)
theorem dX0_meeting_4 : decode cX0_meeting 4 = .ok (.iload_n 2, 1) := dk_28 (dk_at dksX0_meeting_0 4 rfl rfl)
theorem dX0_meeting_5 : decode cX0_meeting 5 = .ok (.invokevirtual 76, 3) := dk_182 0 76 (dk_at dksX0_meeting_0 5 rfl rfl)
theorem dX0_meeting_8 : decode cX0_meeting 8 = .ok (.i2l, 1) := dk_133 (dk_at dksX0_meeting_0 8 rfl rfl)
theorem dX0_meeting_9 : decode cX0_meeting 9 = .ok (.lastore, 1) := dk_80 (dk_at dksX0_meeting_0 9 rfl rfl)
theorem dX0_meeting_10 : decode cX0_meeting 10 = .ok (.goto 15, 3) := dk_167 0 15 (dk_at dksX0_meeting_0 10 rfl rfl)
theorem dX0_meeting_13 : decode cX0_meeting 13 = .ok (.astore 4, 2) := dk_58 4 (dk_at dksX0_meeting_0 13 rfl rfl)
theorem dX0_meeting_15 : decode cX0_meeting 15 = .ok (.iconst 1, 1) := dk_4 (dk_at dksX0_meeting_0 15 rfl rfl)
theorem dX0_meeting_16 : decode cX0_meeting 16 = .ok (.ireturn, 1) := dk_172 (dk_at dksX0_meeting_0 16 rfl rfl)
theorem dX0_meeting_17 : decode cX0_meeting 17 = .ok (.astore 4, 2) := dk_58 4 (dk_at dksX0_meeting_0 17 rfl rfl)
theorem dX0_meeting_19 : decode cX0_meeting 19 = .ok (.iconst 2, 1) := dk_5 (dk_at dksX0_meeting_0 19 rfl rfl)
theorem dX0_meeting_20 : decode cX0_meeting 20 = .ok (.ireturn, 1) := dk_172 (dk_at dksX0_meeting_0 20 rfl rfl)
theorem dX0_meeting_21 : decode cX0_meeting 21 = .ok (.astore 4, 2) := dk_58 4 (dk_at dksX0_meeting_0 21 rfl rfl)
theorem dX0_meeting_23 : decode cX0_meeting 23 = .ok (.iconst 3, 1) := dk_6 (dk_at dksX0_meeting_0 23 rfl rfl)
theorem dX0_meeting_24 : decode cX0_meeting 24 = .ok (.ireturn, 1) := dk_172 (dk_at dksX0_meeting_1 0 rfl rfl)
theorem dX0_meeting_25 : decode cX0_meeting 25 = .ok (.iconst 0, 1) := dk_3 (dk_at dksX0_meeting_1 1 rfl rfl)
theorem dX0_meeting_26 : decode cX0_meeting 26 = .ok (.ireturn, 1) := dk_172 (dk_at dksX0_meeting_1 2 rfl rfl)
abbrev cX0_meetingByDivisors : ByteArray := method_23_code
def yX0_meetingByDivisors : MethodName := ⟨RX0, "meetingByDivisors", "(LPendulumGym;II[J)I"⟩
def dkwX0_meetingByDivisors_1 : List UInt8 := [172, 3, 172]
abbrev dktX0_meetingByDivisors_1 : List UInt8 := dkwX0_meetingByDivisors_1 ++ []
def dkwX0_meetingByDivisors_0 : List UInt8 := [45, 3, 42, 27, 28, 182, 0, 79, 133, 80, 167, 0, 15, 58, 4, 4, 172, 58, 4, 5, 172, 58, 4, 6]
abbrev dktX0_meetingByDivisors_0 : List UInt8 := dkwX0_meetingByDivisors_0 ++ dktX0_meetingByDivisors_1
theorem dksX0_meetingByDivisors_0 : cX0_meetingByDivisors.data.toList.drop 0 = dktX0_meetingByDivisors_0 := by decide +kernel
theorem dksX0_meetingByDivisors_1 : cX0_meetingByDivisors.data.toList.drop 24 = dktX0_meetingByDivisors_1 := dk_seg dksX0_meetingByDivisors_0 24 rfl rfl
theorem dX0_meetingByDivisors_0 : decode cX0_meetingByDivisors 0 = .ok (.aload_n 3, 1) := dk_45 (dk_at dksX0_meetingByDivisors_0 0 rfl rfl)
theorem dX0_meetingByDivisors_1 : decode cX0_meetingByDivisors 1 = .ok (.iconst 0, 1) := dk_3 (dk_at dksX0_meetingByDivisors_0 1 rfl rfl)
theorem dX0_meetingByDivisors_2 : decode cX0_meetingByDivisors 2 = .ok (.aload_n 0, 1) := dk_42 (dk_at dksX0_meetingByDivisors_0 2 rfl rfl)
theorem dX0_meetingByDivisors_3 : decode cX0_meetingByDivisors 3 = .ok (.iload_n 1, 1) := dk_27 (dk_at dksX0_meetingByDivisors_0 3 rfl rfl)
theorem dX0_meetingByDivisors_4 : decode cX0_meetingByDivisors 4 = .ok (.iload_n 2, 1) := dk_28 (dk_at dksX0_meetingByDivisors_0 4 rfl rfl)
theorem dX0_meetingByDivisors_5 : decode cX0_meetingByDivisors 5 = .ok (.invokevirtual 79, 3) := dk_182 0 79 (dk_at dksX0_meetingByDivisors_0 5 rfl rfl)
theorem dX0_meetingByDivisors_8 : decode cX0_meetingByDivisors 8 = .ok (.i2l, 1) := dk_133 (dk_at dksX0_meetingByDivisors_0 8 rfl rfl)
theorem dX0_meetingByDivisors_9 : decode cX0_meetingByDivisors 9 = .ok (.lastore, 1) := dk_80 (dk_at dksX0_meetingByDivisors_0 9 rfl rfl)
theorem dX0_meetingByDivisors_10 : decode cX0_meetingByDivisors 10 = .ok (.goto 15, 3) := dk_167 0 15 (dk_at dksX0_meetingByDivisors_0 10 rfl rfl)
theorem dX0_meetingByDivisors_13 : decode cX0_meetingByDivisors 13 = .ok (.astore 4, 2) := dk_58 4 (dk_at dksX0_meetingByDivisors_0 13 rfl rfl)
theorem dX0_meetingByDivisors_15 : decode cX0_meetingByDivisors 15 = .ok (.iconst 1, 1) := dk_4 (dk_at dksX0_meetingByDivisors_0 15 rfl rfl)
theorem dX0_meetingByDivisors_16 : decode cX0_meetingByDivisors 16 = .ok (.ireturn, 1) := dk_172 (dk_at dksX0_meetingByDivisors_0 16 rfl rfl)
theorem dX0_meetingByDivisors_17 : decode cX0_meetingByDivisors 17 = .ok (.astore 4, 2) := dk_58 4 (dk_at dksX0_meetingByDivisors_0 17 rfl rfl)
theorem dX0_meetingByDivisors_19 : decode cX0_meetingByDivisors 19 = .ok (.iconst 2, 1) := dk_5 (dk_at dksX0_meetingByDivisors_0 19 rfl rfl)
theorem dX0_meetingByDivisors_20 : decode cX0_meetingByDivisors 20 = .ok (.ireturn, 1) := dk_172 (dk_at dksX0_meetingByDivisors_0 20 rfl rfl)
theorem dX0_meetingByDivisors_21 : decode cX0_meetingByDivisors 21 = .ok (.astore 4, 2) := dk_58 4 (dk_at dksX0_meetingByDivisors_0 21 rfl rfl)
theorem dX0_meetingByDivisors_23 : decode cX0_meetingByDivisors 23 = .ok (.iconst 3, 1) := dk_6 (dk_at dksX0_meetingByDivisors_0 23 rfl rfl)
theorem dX0_meetingByDivisors_24 : decode cX0_meetingByDivisors 24 = .ok (.ireturn, 1) := dk_172 (dk_at dksX0_meetingByDivisors_1 0 rfl rfl)
theorem dX0_meetingByDivisors_25 : decode cX0_meetingByDivisors 25 = .ok (.iconst 0, 1) := dk_3 (dk_at dksX0_meetingByDivisors_1 1 rfl rfl)
theorem dX0_meetingByDivisors_26 : decode cX0_meetingByDivisors 26 = .ok (.ireturn, 1) := dk_172 (dk_at dksX0_meetingByDivisors_1 2 rfl rfl)
abbrev cX0_cycleOf : ByteArray := method_24_code
def yX0_cycleOf : MethodName := ⟨RX0, "cycleOf", "(LPendulumGym;II[J)I"⟩
def dkwX0_cycleOf_0 : List UInt8 := [45, 3, 42, 27, 28, 182, 0, 82, 133, 80, 167, 0, 7, 58, 4, 4, 172, 3, 172]
abbrev dktX0_cycleOf_0 : List UInt8 := dkwX0_cycleOf_0 ++ []
theorem dksX0_cycleOf_0 : cX0_cycleOf.data.toList.drop 0 = dktX0_cycleOf_0 := by decide +kernel
theorem dX0_cycleOf_0 : decode cX0_cycleOf 0 = .ok (.aload_n 3, 1) := dk_45 (dk_at dksX0_cycleOf_0 0 rfl rfl)
theorem dX0_cycleOf_1 : decode cX0_cycleOf 1 = .ok (.iconst 0, 1) := dk_3 (dk_at dksX0_cycleOf_0 1 rfl rfl)
theorem dX0_cycleOf_2 : decode cX0_cycleOf 2 = .ok (.aload_n 0, 1) := dk_42 (dk_at dksX0_cycleOf_0 2 rfl rfl)
theorem dX0_cycleOf_3 : decode cX0_cycleOf 3 = .ok (.iload_n 1, 1) := dk_27 (dk_at dksX0_cycleOf_0 3 rfl rfl)
theorem dX0_cycleOf_4 : decode cX0_cycleOf 4 = .ok (.iload_n 2, 1) := dk_28 (dk_at dksX0_cycleOf_0 4 rfl rfl)
theorem dX0_cycleOf_5 : decode cX0_cycleOf 5 = .ok (.invokevirtual 82, 3) := dk_182 0 82 (dk_at dksX0_cycleOf_0 5 rfl rfl)
theorem dX0_cycleOf_8 : decode cX0_cycleOf 8 = .ok (.i2l, 1) := dk_133 (dk_at dksX0_cycleOf_0 8 rfl rfl)
theorem dX0_cycleOf_9 : decode cX0_cycleOf 9 = .ok (.lastore, 1) := dk_80 (dk_at dksX0_cycleOf_0 9 rfl rfl)
theorem dX0_cycleOf_10 : decode cX0_cycleOf 10 = .ok (.goto 7, 3) := dk_167 0 7 (dk_at dksX0_cycleOf_0 10 rfl rfl)
theorem dX0_cycleOf_13 : decode cX0_cycleOf 13 = .ok (.astore 4, 2) := dk_58 4 (dk_at dksX0_cycleOf_0 13 rfl rfl)
theorem dX0_cycleOf_15 : decode cX0_cycleOf 15 = .ok (.iconst 1, 1) := dk_4 (dk_at dksX0_cycleOf_0 15 rfl rfl)
theorem dX0_cycleOf_16 : decode cX0_cycleOf 16 = .ok (.ireturn, 1) := dk_172 (dk_at dksX0_cycleOf_0 16 rfl rfl)
theorem dX0_cycleOf_17 : decode cX0_cycleOf 17 = .ok (.iconst 0, 1) := dk_3 (dk_at dksX0_cycleOf_0 17 rfl rfl)
theorem dX0_cycleOf_18 : decode cX0_cycleOf 18 = .ok (.ireturn, 1) := dk_172 (dk_at dksX0_cycleOf_0 18 rfl rfl)
abbrev cX0_addLeg : ByteArray := method_25_code
def yX0_addLeg : MethodName := ⟨RX0, "addLeg", "(LPendulumGym;I[J)I"⟩
def dkwX0_addLeg_0 : List UInt8 := [44, 3, 42, 27, 182, 0, 85, 133, 80, 167, 0, 9, 78, 4, 172, 78, 5, 172, 3, 172]
abbrev dktX0_addLeg_0 : List UInt8 := dkwX0_addLeg_0 ++ []
theorem dksX0_addLeg_0 : cX0_addLeg.data.toList.drop 0 = dktX0_addLeg_0 := by decide +kernel
theorem dX0_addLeg_0 : decode cX0_addLeg 0 = .ok (.aload_n 2, 1) := dk_44 (dk_at dksX0_addLeg_0 0 rfl rfl)
theorem dX0_addLeg_1 : decode cX0_addLeg 1 = .ok (.iconst 0, 1) := dk_3 (dk_at dksX0_addLeg_0 1 rfl rfl)
theorem dX0_addLeg_2 : decode cX0_addLeg 2 = .ok (.aload_n 0, 1) := dk_42 (dk_at dksX0_addLeg_0 2 rfl rfl)
theorem dX0_addLeg_3 : decode cX0_addLeg 3 = .ok (.iload_n 1, 1) := dk_27 (dk_at dksX0_addLeg_0 3 rfl rfl)
theorem dX0_addLeg_4 : decode cX0_addLeg 4 = .ok (.invokevirtual 85, 3) := dk_182 0 85 (dk_at dksX0_addLeg_0 4 rfl rfl)
theorem dX0_addLeg_7 : decode cX0_addLeg 7 = .ok (.i2l, 1) := dk_133 (dk_at dksX0_addLeg_0 7 rfl rfl)
theorem dX0_addLeg_8 : decode cX0_addLeg 8 = .ok (.lastore, 1) := dk_80 (dk_at dksX0_addLeg_0 8 rfl rfl)
theorem dX0_addLeg_9 : decode cX0_addLeg 9 = .ok (.goto 9, 3) := dk_167 0 9 (dk_at dksX0_addLeg_0 9 rfl rfl)
theorem dX0_addLeg_12 : decode cX0_addLeg 12 = .ok (.astore_n 3, 1) := dk_78 (dk_at dksX0_addLeg_0 12 rfl rfl)
theorem dX0_addLeg_13 : decode cX0_addLeg 13 = .ok (.iconst 1, 1) := dk_4 (dk_at dksX0_addLeg_0 13 rfl rfl)
theorem dX0_addLeg_14 : decode cX0_addLeg 14 = .ok (.ireturn, 1) := dk_172 (dk_at dksX0_addLeg_0 14 rfl rfl)
theorem dX0_addLeg_15 : decode cX0_addLeg 15 = .ok (.astore_n 3, 1) := dk_78 (dk_at dksX0_addLeg_0 15 rfl rfl)
theorem dX0_addLeg_16 : decode cX0_addLeg 16 = .ok (.iconst 2, 1) := dk_5 (dk_at dksX0_addLeg_0 16 rfl rfl)
theorem dX0_addLeg_17 : decode cX0_addLeg 17 = .ok (.ireturn, 1) := dk_172 (dk_at dksX0_addLeg_0 17 rfl rfl)
theorem dX0_addLeg_18 : decode cX0_addLeg 18 = .ok (.iconst 0, 1) := dk_3 (dk_at dksX0_addLeg_0 18 rfl rfl)
theorem dX0_addLeg_19 : decode cX0_addLeg 19 = .ok (.ireturn, 1) := dk_172 (dk_at dksX0_addLeg_0 19 rfl rfl)
abbrev cX0_removeLeg : ByteArray := method_26_code
def yX0_removeLeg : MethodName := ⟨RX0, "removeLeg", "(LPendulumGym;I[J)I"⟩
def dkwX0_removeLeg_0 : List UInt8 := [44, 3, 42, 27, 182, 0, 88, 133, 80, 167, 0, 6, 78, 4, 172, 3, 172]
abbrev dktX0_removeLeg_0 : List UInt8 := dkwX0_removeLeg_0 ++ []
theorem dksX0_removeLeg_0 : cX0_removeLeg.data.toList.drop 0 = dktX0_removeLeg_0 := by decide +kernel
theorem dX0_removeLeg_0 : decode cX0_removeLeg 0 = .ok (.aload_n 2, 1) := dk_44 (dk_at dksX0_removeLeg_0 0 rfl rfl)
theorem dX0_removeLeg_1 : decode cX0_removeLeg 1 = .ok (.iconst 0, 1) := dk_3 (dk_at dksX0_removeLeg_0 1 rfl rfl)
theorem dX0_removeLeg_2 : decode cX0_removeLeg 2 = .ok (.aload_n 0, 1) := dk_42 (dk_at dksX0_removeLeg_0 2 rfl rfl)
theorem dX0_removeLeg_3 : decode cX0_removeLeg 3 = .ok (.iload_n 1, 1) := dk_27 (dk_at dksX0_removeLeg_0 3 rfl rfl)
theorem dX0_removeLeg_4 : decode cX0_removeLeg 4 = .ok (.invokevirtual 88, 3) := dk_182 0 88 (dk_at dksX0_removeLeg_0 4 rfl rfl)
theorem dX0_removeLeg_7 : decode cX0_removeLeg 7 = .ok (.i2l, 1) := dk_133 (dk_at dksX0_removeLeg_0 7 rfl rfl)
theorem dX0_removeLeg_8 : decode cX0_removeLeg 8 = .ok (.lastore, 1) := dk_80 (dk_at dksX0_removeLeg_0 8 rfl rfl)
theorem dX0_removeLeg_9 : decode cX0_removeLeg 9 = .ok (.goto 6, 3) := dk_167 0 6 (dk_at dksX0_removeLeg_0 9 rfl rfl)
theorem dX0_removeLeg_12 : decode cX0_removeLeg 12 = .ok (.astore_n 3, 1) := dk_78 (dk_at dksX0_removeLeg_0 12 rfl rfl)
theorem dX0_removeLeg_13 : decode cX0_removeLeg 13 = .ok (.iconst 1, 1) := dk_4 (dk_at dksX0_removeLeg_0 13 rfl rfl)
theorem dX0_removeLeg_14 : decode cX0_removeLeg 14 = .ok (.ireturn, 1) := dk_172 (dk_at dksX0_removeLeg_0 14 rfl rfl)
theorem dX0_removeLeg_15 : decode cX0_removeLeg 15 = .ok (.iconst 0, 1) := dk_3 (dk_at dksX0_removeLeg_0 15 rfl rfl)
theorem dX0_removeLeg_16 : decode cX0_removeLeg 16 = .ok (.ireturn, 1) := dk_172 (dk_at dksX0_removeLeg_0 16 rfl rfl)
abbrev cX0_wishOf : ByteArray := method_27_code
def yX0_wishOf : MethodName := ⟨RX0, "wishOf", "(LPendulumGym;I[J)I"⟩
def dkwX0_wishOf_0 : List UInt8 := [44, 3, 42, 27, 182, 0, 91, 133, 80, 167, 0, 6, 78, 4, 172, 3, 172]
abbrev dktX0_wishOf_0 : List UInt8 := dkwX0_wishOf_0 ++ []
theorem dksX0_wishOf_0 : cX0_wishOf.data.toList.drop 0 = dktX0_wishOf_0 := by decide +kernel
theorem dX0_wishOf_0 : decode cX0_wishOf 0 = .ok (.aload_n 2, 1) := dk_44 (dk_at dksX0_wishOf_0 0 rfl rfl)
theorem dX0_wishOf_1 : decode cX0_wishOf 1 = .ok (.iconst 0, 1) := dk_3 (dk_at dksX0_wishOf_0 1 rfl rfl)
theorem dX0_wishOf_2 : decode cX0_wishOf 2 = .ok (.aload_n 0, 1) := dk_42 (dk_at dksX0_wishOf_0 2 rfl rfl)
theorem dX0_wishOf_3 : decode cX0_wishOf 3 = .ok (.iload_n 1, 1) := dk_27 (dk_at dksX0_wishOf_0 3 rfl rfl)
theorem dX0_wishOf_4 : decode cX0_wishOf 4 = .ok (.invokevirtual 91, 3) := dk_182 0 91 (dk_at dksX0_wishOf_0 4 rfl rfl)
theorem dX0_wishOf_7 : decode cX0_wishOf 7 = .ok (.i2l, 1) := dk_133 (dk_at dksX0_wishOf_0 7 rfl rfl)
theorem dX0_wishOf_8 : decode cX0_wishOf 8 = .ok (.lastore, 1) := dk_80 (dk_at dksX0_wishOf_0 8 rfl rfl)
theorem dX0_wishOf_9 : decode cX0_wishOf 9 = .ok (.goto 6, 3) := dk_167 0 6 (dk_at dksX0_wishOf_0 9 rfl rfl)
theorem dX0_wishOf_12 : decode cX0_wishOf 12 = .ok (.astore_n 3, 1) := dk_78 (dk_at dksX0_wishOf_0 12 rfl rfl)
theorem dX0_wishOf_13 : decode cX0_wishOf 13 = .ok (.iconst 1, 1) := dk_4 (dk_at dksX0_wishOf_0 13 rfl rfl)
theorem dX0_wishOf_14 : decode cX0_wishOf 14 = .ok (.ireturn, 1) := dk_172 (dk_at dksX0_wishOf_0 14 rfl rfl)
theorem dX0_wishOf_15 : decode cX0_wishOf 15 = .ok (.iconst 0, 1) := dk_3 (dk_at dksX0_wishOf_0 15 rfl rfl)
theorem dX0_wishOf_16 : decode cX0_wishOf 16 = .ok (.ireturn, 1) := dk_172 (dk_at dksX0_wishOf_0 16 rfl rfl)
abbrev cX0_leastRelay : ByteArray := method_28_code
def yX0_leastRelay : MethodName := ⟨RX0, "leastRelay", "(LPendulumGym;[J)I"⟩
def dkwX0_leastRelay_0 : List UInt8 := [43, 3, 42, 182, 0, 94, 133, 80, 167, 0, 6, 77, 4, 172, 3, 172]
abbrev dktX0_leastRelay_0 : List UInt8 := dkwX0_leastRelay_0 ++ []
theorem dksX0_leastRelay_0 : cX0_leastRelay.data.toList.drop 0 = dktX0_leastRelay_0 := by decide +kernel
theorem dX0_leastRelay_0 : decode cX0_leastRelay 0 = .ok (.aload_n 1, 1) := dk_43 (dk_at dksX0_leastRelay_0 0 rfl rfl)
theorem dX0_leastRelay_1 : decode cX0_leastRelay 1 = .ok (.iconst 0, 1) := dk_3 (dk_at dksX0_leastRelay_0 1 rfl rfl)
theorem dX0_leastRelay_2 : decode cX0_leastRelay 2 = .ok (.aload_n 0, 1) := dk_42 (dk_at dksX0_leastRelay_0 2 rfl rfl)
theorem dX0_leastRelay_3 : decode cX0_leastRelay 3 = .ok (.invokevirtual 94, 3) := dk_182 0 94 (dk_at dksX0_leastRelay_0 3 rfl rfl)
theorem dX0_leastRelay_6 : decode cX0_leastRelay 6 = .ok (.i2l, 1) := dk_133 (dk_at dksX0_leastRelay_0 6 rfl rfl)
theorem dX0_leastRelay_7 : decode cX0_leastRelay 7 = .ok (.lastore, 1) := dk_80 (dk_at dksX0_leastRelay_0 7 rfl rfl)
theorem dX0_leastRelay_8 : decode cX0_leastRelay 8 = .ok (.goto 6, 3) := dk_167 0 6 (dk_at dksX0_leastRelay_0 8 rfl rfl)
theorem dX0_leastRelay_11 : decode cX0_leastRelay 11 = .ok (.astore_n 2, 1) := dk_77 (dk_at dksX0_leastRelay_0 11 rfl rfl)
theorem dX0_leastRelay_12 : decode cX0_leastRelay 12 = .ok (.iconst 1, 1) := dk_4 (dk_at dksX0_leastRelay_0 12 rfl rfl)
theorem dX0_leastRelay_13 : decode cX0_leastRelay 13 = .ok (.ireturn, 1) := dk_172 (dk_at dksX0_leastRelay_0 13 rfl rfl)
theorem dX0_leastRelay_14 : decode cX0_leastRelay 14 = .ok (.iconst 0, 1) := dk_3 (dk_at dksX0_leastRelay_0 14 rfl rfl)
theorem dX0_leastRelay_15 : decode cX0_leastRelay 15 = .ok (.ireturn, 1) := dk_172 (dk_at dksX0_leastRelay_0 15 rfl rfl)
abbrev cX0_leastRelayByTrying : ByteArray := method_29_code
def yX0_leastRelayByTrying : MethodName := ⟨RX0, "leastRelayByTrying", "(LPendulumGym;[J)I"⟩
def dkwX0_leastRelayByTrying_0 : List UInt8 := [43, 3, 42, 182, 0, 98, 133, 80, 167, 0, 6, 77, 4, 172, 3, 172]
abbrev dktX0_leastRelayByTrying_0 : List UInt8 := dkwX0_leastRelayByTrying_0 ++ []
theorem dksX0_leastRelayByTrying_0 : cX0_leastRelayByTrying.data.toList.drop 0 = dktX0_leastRelayByTrying_0 := by decide +kernel
theorem dX0_leastRelayByTrying_0 : decode cX0_leastRelayByTrying 0 = .ok (.aload_n 1, 1) := dk_43 (dk_at dksX0_leastRelayByTrying_0 0 rfl rfl)
theorem dX0_leastRelayByTrying_1 : decode cX0_leastRelayByTrying 1 = .ok (.iconst 0, 1) := dk_3 (dk_at dksX0_leastRelayByTrying_0 1 rfl rfl)
theorem dX0_leastRelayByTrying_2 : decode cX0_leastRelayByTrying 2 = .ok (.aload_n 0, 1) := dk_42 (dk_at dksX0_leastRelayByTrying_0 2 rfl rfl)
theorem dX0_leastRelayByTrying_3 : decode cX0_leastRelayByTrying 3 = .ok (.invokevirtual 98, 3) := dk_182 0 98 (dk_at dksX0_leastRelayByTrying_0 3 rfl rfl)
theorem dX0_leastRelayByTrying_6 : decode cX0_leastRelayByTrying 6 = .ok (.i2l, 1) := dk_133 (dk_at dksX0_leastRelayByTrying_0 6 rfl rfl)
theorem dX0_leastRelayByTrying_7 : decode cX0_leastRelayByTrying 7 = .ok (.lastore, 1) := dk_80 (dk_at dksX0_leastRelayByTrying_0 7 rfl rfl)
theorem dX0_leastRelayByTrying_8 : decode cX0_leastRelayByTrying 8 = .ok (.goto 6, 3) := dk_167 0 6 (dk_at dksX0_leastRelayByTrying_0 8 rfl rfl)
theorem dX0_leastRelayByTrying_11 : decode cX0_leastRelayByTrying 11 = .ok (.astore_n 2, 1) := dk_77 (dk_at dksX0_leastRelayByTrying_0 11 rfl rfl)
theorem dX0_leastRelayByTrying_12 : decode cX0_leastRelayByTrying 12 = .ok (.iconst 1, 1) := dk_4 (dk_at dksX0_leastRelayByTrying_0 12 rfl rfl)
theorem dX0_leastRelayByTrying_13 : decode cX0_leastRelayByTrying 13 = .ok (.ireturn, 1) := dk_172 (dk_at dksX0_leastRelayByTrying_0 13 rfl rfl)
theorem dX0_leastRelayByTrying_14 : decode cX0_leastRelayByTrying 14 = .ok (.iconst 0, 1) := dk_3 (dk_at dksX0_leastRelayByTrying_0 14 rfl rfl)
theorem dX0_leastRelayByTrying_15 : decode cX0_leastRelayByTrying 15 = .ok (.ireturn, 1) := dk_172 (dk_at dksX0_leastRelayByTrying_0 15 rfl rfl)
abbrev cX0_runnerOf : ByteArray := method_30_code
def yX0_runnerOf : MethodName := ⟨RX0, "runnerOf", "(LPendulumGym;I[J)I"⟩
def dkwX0_runnerOf_0 : List UInt8 := [44, 3, 42, 27, 182, 0, 101, 133, 80, 167, 0, 9, 78, 4, 172, 78, 5, 172, 3, 172]
abbrev dktX0_runnerOf_0 : List UInt8 := dkwX0_runnerOf_0 ++ []
theorem dksX0_runnerOf_0 : cX0_runnerOf.data.toList.drop 0 = dktX0_runnerOf_0 := by decide +kernel
theorem dX0_runnerOf_0 : decode cX0_runnerOf 0 = .ok (.aload_n 2, 1) := dk_44 (dk_at dksX0_runnerOf_0 0 rfl rfl)
theorem dX0_runnerOf_1 : decode cX0_runnerOf 1 = .ok (.iconst 0, 1) := dk_3 (dk_at dksX0_runnerOf_0 1 rfl rfl)
theorem dX0_runnerOf_2 : decode cX0_runnerOf 2 = .ok (.aload_n 0, 1) := dk_42 (dk_at dksX0_runnerOf_0 2 rfl rfl)
theorem dX0_runnerOf_3 : decode cX0_runnerOf 3 = .ok (.iload_n 1, 1) := dk_27 (dk_at dksX0_runnerOf_0 3 rfl rfl)
theorem dX0_runnerOf_4 : decode cX0_runnerOf 4 = .ok (.invokevirtual 101, 3) := dk_182 0 101 (dk_at dksX0_runnerOf_0 4 rfl rfl)
theorem dX0_runnerOf_7 : decode cX0_runnerOf 7 = .ok (.i2l, 1) := dk_133 (dk_at dksX0_runnerOf_0 7 rfl rfl)
theorem dX0_runnerOf_8 : decode cX0_runnerOf 8 = .ok (.lastore, 1) := dk_80 (dk_at dksX0_runnerOf_0 8 rfl rfl)
theorem dX0_runnerOf_9 : decode cX0_runnerOf 9 = .ok (.goto 9, 3) := dk_167 0 9 (dk_at dksX0_runnerOf_0 9 rfl rfl)
theorem dX0_runnerOf_12 : decode cX0_runnerOf 12 = .ok (.astore_n 3, 1) := dk_78 (dk_at dksX0_runnerOf_0 12 rfl rfl)
theorem dX0_runnerOf_13 : decode cX0_runnerOf 13 = .ok (.iconst 1, 1) := dk_4 (dk_at dksX0_runnerOf_0 13 rfl rfl)
theorem dX0_runnerOf_14 : decode cX0_runnerOf 14 = .ok (.ireturn, 1) := dk_172 (dk_at dksX0_runnerOf_0 14 rfl rfl)
theorem dX0_runnerOf_15 : decode cX0_runnerOf 15 = .ok (.astore_n 3, 1) := dk_78 (dk_at dksX0_runnerOf_0 15 rfl rfl)
theorem dX0_runnerOf_16 : decode cX0_runnerOf 16 = .ok (.iconst 2, 1) := dk_5 (dk_at dksX0_runnerOf_0 16 rfl rfl)
theorem dX0_runnerOf_17 : decode cX0_runnerOf 17 = .ok (.ireturn, 1) := dk_172 (dk_at dksX0_runnerOf_0 17 rfl rfl)
theorem dX0_runnerOf_18 : decode cX0_runnerOf 18 = .ok (.iconst 0, 1) := dk_3 (dk_at dksX0_runnerOf_0 18 rfl rfl)
theorem dX0_runnerOf_19 : decode cX0_runnerOf 19 = .ok (.ireturn, 1) := dk_172 (dk_at dksX0_runnerOf_0 19 rfl rfl)
abbrev cX0_fewestFor : ByteArray := method_31_code
def yX0_fewestFor : MethodName := ⟨RX0, "fewestFor", "(LPendulumGym;I[J)I"⟩
def dkwX0_fewestFor_0 : List UInt8 := [44, 3, 42, 27, 182, 0, 104, 133, 80, 167, 0, 9, 78, 4, 172, 78, 5, 172, 3, 172]
abbrev dktX0_fewestFor_0 : List UInt8 := dkwX0_fewestFor_0 ++ []
theorem dksX0_fewestFor_0 : cX0_fewestFor.data.toList.drop 0 = dktX0_fewestFor_0 := by decide +kernel
theorem dX0_fewestFor_0 : decode cX0_fewestFor 0 = .ok (.aload_n 2, 1) := dk_44 (dk_at dksX0_fewestFor_0 0 rfl rfl)
theorem dX0_fewestFor_1 : decode cX0_fewestFor 1 = .ok (.iconst 0, 1) := dk_3 (dk_at dksX0_fewestFor_0 1 rfl rfl)
theorem dX0_fewestFor_2 : decode cX0_fewestFor 2 = .ok (.aload_n 0, 1) := dk_42 (dk_at dksX0_fewestFor_0 2 rfl rfl)
theorem dX0_fewestFor_3 : decode cX0_fewestFor 3 = .ok (.iload_n 1, 1) := dk_27 (dk_at dksX0_fewestFor_0 3 rfl rfl)
theorem dX0_fewestFor_4 : decode cX0_fewestFor 4 = .ok (.invokevirtual 104, 3) := dk_182 0 104 (dk_at dksX0_fewestFor_0 4 rfl rfl)
theorem dX0_fewestFor_7 : decode cX0_fewestFor 7 = .ok (.i2l, 1) := dk_133 (dk_at dksX0_fewestFor_0 7 rfl rfl)
theorem dX0_fewestFor_8 : decode cX0_fewestFor 8 = .ok (.lastore, 1) := dk_80 (dk_at dksX0_fewestFor_0 8 rfl rfl)
theorem dX0_fewestFor_9 : decode cX0_fewestFor 9 = .ok (.goto 9, 3) := dk_167 0 9 (dk_at dksX0_fewestFor_0 9 rfl rfl)
theorem dX0_fewestFor_12 : decode cX0_fewestFor 12 = .ok (.astore_n 3, 1) := dk_78 (dk_at dksX0_fewestFor_0 12 rfl rfl)
theorem dX0_fewestFor_13 : decode cX0_fewestFor 13 = .ok (.iconst 1, 1) := dk_4 (dk_at dksX0_fewestFor_0 13 rfl rfl)
theorem dX0_fewestFor_14 : decode cX0_fewestFor 14 = .ok (.ireturn, 1) := dk_172 (dk_at dksX0_fewestFor_0 14 rfl rfl)
theorem dX0_fewestFor_15 : decode cX0_fewestFor 15 = .ok (.astore_n 3, 1) := dk_78 (dk_at dksX0_fewestFor_0 15 rfl rfl)
theorem dX0_fewestFor_16 : decode cX0_fewestFor 16 = .ok (.iconst 2, 1) := dk_5 (dk_at dksX0_fewestFor_0 16 rfl rfl)
theorem dX0_fewestFor_17 : decode cX0_fewestFor 17 = .ok (.ireturn, 1) := dk_172 (dk_at dksX0_fewestFor_0 17 rfl rfl)
theorem dX0_fewestFor_18 : decode cX0_fewestFor 18 = .ok (.iconst 0, 1) := dk_3 (dk_at dksX0_fewestFor_0 18 rfl rfl)
theorem dX0_fewestFor_19 : decode cX0_fewestFor 19 = .ok (.ireturn, 1) := dk_172 (dk_at dksX0_fewestFor_0 19 rfl rfl)
abbrev cX0_fewestForBySets : ByteArray := method_32_code
def yX0_fewestForBySets : MethodName := ⟨RX0, "fewestForBySets", "(LPendulumGym;I[J)I"⟩
def dkwX0_fewestForBySets_0 : List UInt8 := [44, 3, 42, 27, 182, 0, 107, 133, 80, 167, 0, 9, 78, 4, 172, 78, 5, 172, 3, 172]
abbrev dktX0_fewestForBySets_0 : List UInt8 := dkwX0_fewestForBySets_0 ++ []
theorem dksX0_fewestForBySets_0 : cX0_fewestForBySets.data.toList.drop 0 = dktX0_fewestForBySets_0 := by decide +kernel
theorem dX0_fewestForBySets_0 : decode cX0_fewestForBySets 0 = .ok (.aload_n 2, 1) := dk_44 (dk_at dksX0_fewestForBySets_0 0 rfl rfl)
theorem dX0_fewestForBySets_1 : decode cX0_fewestForBySets 1 = .ok (.iconst 0, 1) := dk_3 (dk_at dksX0_fewestForBySets_0 1 rfl rfl)
theorem dX0_fewestForBySets_2 : decode cX0_fewestForBySets 2 = .ok (.aload_n 0, 1) := dk_42 (dk_at dksX0_fewestForBySets_0 2 rfl rfl)
theorem dX0_fewestForBySets_3 : decode cX0_fewestForBySets 3 = .ok (.iload_n 1, 1) := dk_27 (dk_at dksX0_fewestForBySets_0 3 rfl rfl)
theorem dX0_fewestForBySets_4 : decode cX0_fewestForBySets 4 = .ok (.invokevirtual 107, 3) := dk_182 0 107 (dk_at dksX0_fewestForBySets_0 4 rfl rfl)
theorem dX0_fewestForBySets_7 : decode cX0_fewestForBySets 7 = .ok (.i2l, 1) := dk_133 (dk_at dksX0_fewestForBySets_0 7 rfl rfl)
theorem dX0_fewestForBySets_8 : decode cX0_fewestForBySets 8 = .ok (.lastore, 1) := dk_80 (dk_at dksX0_fewestForBySets_0 8 rfl rfl)
theorem dX0_fewestForBySets_9 : decode cX0_fewestForBySets 9 = .ok (.goto 9, 3) := dk_167 0 9 (dk_at dksX0_fewestForBySets_0 9 rfl rfl)
theorem dX0_fewestForBySets_12 : decode cX0_fewestForBySets 12 = .ok (.astore_n 3, 1) := dk_78 (dk_at dksX0_fewestForBySets_0 12 rfl rfl)
theorem dX0_fewestForBySets_13 : decode cX0_fewestForBySets 13 = .ok (.iconst 1, 1) := dk_4 (dk_at dksX0_fewestForBySets_0 13 rfl rfl)
theorem dX0_fewestForBySets_14 : decode cX0_fewestForBySets 14 = .ok (.ireturn, 1) := dk_172 (dk_at dksX0_fewestForBySets_0 14 rfl rfl)
theorem dX0_fewestForBySets_15 : decode cX0_fewestForBySets 15 = .ok (.astore_n 3, 1) := dk_78 (dk_at dksX0_fewestForBySets_0 15 rfl rfl)
theorem dX0_fewestForBySets_16 : decode cX0_fewestForBySets 16 = .ok (.iconst 2, 1) := dk_5 (dk_at dksX0_fewestForBySets_0 16 rfl rfl)
theorem dX0_fewestForBySets_17 : decode cX0_fewestForBySets 17 = .ok (.ireturn, 1) := dk_172 (dk_at dksX0_fewestForBySets_0 17 rfl rfl)
theorem dX0_fewestForBySets_18 : decode cX0_fewestForBySets 18 = .ok (.iconst 0, 1) := dk_3 (dk_at dksX0_fewestForBySets_0 18 rfl rfl)
theorem dX0_fewestForBySets_19 : decode cX0_fewestForBySets 19 = .ok (.ireturn, 1) := dk_172 (dk_at dksX0_fewestForBySets_0 19 rfl rfl)
abbrev cX0_exactSets : ByteArray := method_33_code
def yX0_exactSets : MethodName := ⟨RX0, "exactSets", "(LPendulumGym;I[J)I"⟩
def dkwX0_exactSets_0 : List UInt8 := [44, 3, 42, 27, 182, 0, 110, 133, 80, 167, 0, 6, 78, 4, 172, 3, 172]
abbrev dktX0_exactSets_0 : List UInt8 := dkwX0_exactSets_0 ++ []
theorem dksX0_exactSets_0 : cX0_exactSets.data.toList.drop 0 = dktX0_exactSets_0 := by decide +kernel
theorem dX0_exactSets_0 : decode cX0_exactSets 0 = .ok (.aload_n 2, 1) := dk_44 (dk_at dksX0_exactSets_0 0 rfl rfl)
theorem dX0_exactSets_1 : decode cX0_exactSets 1 = .ok (.iconst 0, 1) := dk_3 (dk_at dksX0_exactSets_0 1 rfl rfl)
theorem dX0_exactSets_2 : decode cX0_exactSets 2 = .ok (.aload_n 0, 1) := dk_42 (dk_at dksX0_exactSets_0 2 rfl rfl)
theorem dX0_exactSets_3 : decode cX0_exactSets 3 = .ok (.iload_n 1, 1) := dk_27 (dk_at dksX0_exactSets_0 3 rfl rfl)
theorem dX0_exactSets_4 : decode cX0_exactSets 4 = .ok (.invokevirtual 110, 3) := dk_182 0 110 (dk_at dksX0_exactSets_0 4 rfl rfl)
theorem dX0_exactSets_7 : decode cX0_exactSets 7 = .ok (.i2l, 1) := dk_133 (dk_at dksX0_exactSets_0 7 rfl rfl)
theorem dX0_exactSets_8 : decode cX0_exactSets 8 = .ok (.lastore, 1) := dk_80 (dk_at dksX0_exactSets_0 8 rfl rfl)
theorem dX0_exactSets_9 : decode cX0_exactSets 9 = .ok (.goto 6, 3) := dk_167 0 6 (dk_at dksX0_exactSets_0 9 rfl rfl)
theorem dX0_exactSets_12 : decode cX0_exactSets 12 = .ok (.astore_n 3, 1) := dk_78 (dk_at dksX0_exactSets_0 12 rfl rfl)
theorem dX0_exactSets_13 : decode cX0_exactSets 13 = .ok (.iconst 1, 1) := dk_4 (dk_at dksX0_exactSets_0 13 rfl rfl)
theorem dX0_exactSets_14 : decode cX0_exactSets 14 = .ok (.ireturn, 1) := dk_172 (dk_at dksX0_exactSets_0 14 rfl rfl)
theorem dX0_exactSets_15 : decode cX0_exactSets 15 = .ok (.iconst 0, 1) := dk_3 (dk_at dksX0_exactSets_0 15 rfl rfl)
theorem dX0_exactSets_16 : decode cX0_exactSets 16 = .ok (.ireturn, 1) := dk_172 (dk_at dksX0_exactSets_0 16 rfl rfl)
abbrev cX0_meanAmplitude : ByteArray := method_34_code
def yX0_meanAmplitude : MethodName := ⟨RX0, "meanAmplitude", "(LPendulumGym;[D)I"⟩
def dkwX0_meanAmplitude_0 : List UInt8 := [43, 3, 42, 182, 0, 113, 82, 167, 0, 6, 77, 4, 172, 3, 172]
abbrev dktX0_meanAmplitude_0 : List UInt8 := dkwX0_meanAmplitude_0 ++ []
theorem dksX0_meanAmplitude_0 : cX0_meanAmplitude.data.toList.drop 0 = dktX0_meanAmplitude_0 := by decide +kernel
theorem dX0_meanAmplitude_0 : decode cX0_meanAmplitude 0 = .ok (.aload_n 1, 1) := dk_43 (dk_at dksX0_meanAmplitude_0 0 rfl rfl)
theorem dX0_meanAmplitude_1 : decode cX0_meanAmplitude 1 = .ok (.iconst 0, 1) := dk_3 (dk_at dksX0_meanAmplitude_0 1 rfl rfl)
theorem dX0_meanAmplitude_2 : decode cX0_meanAmplitude 2 = .ok (.aload_n 0, 1) := dk_42 (dk_at dksX0_meanAmplitude_0 2 rfl rfl)
theorem dX0_meanAmplitude_3 : decode cX0_meanAmplitude 3 = .ok (.invokevirtual 113, 3) := dk_182 0 113 (dk_at dksX0_meanAmplitude_0 3 rfl rfl)
theorem dX0_meanAmplitude_6 : decode cX0_meanAmplitude 6 = .ok (.dastore, 1) := dk_82 (dk_at dksX0_meanAmplitude_0 6 rfl rfl)
theorem dX0_meanAmplitude_7 : decode cX0_meanAmplitude 7 = .ok (.goto 6, 3) := dk_167 0 6 (dk_at dksX0_meanAmplitude_0 7 rfl rfl)
theorem dX0_meanAmplitude_10 : decode cX0_meanAmplitude 10 = .ok (.astore_n 2, 1) := dk_77 (dk_at dksX0_meanAmplitude_0 10 rfl rfl)
theorem dX0_meanAmplitude_11 : decode cX0_meanAmplitude 11 = .ok (.iconst 1, 1) := dk_4 (dk_at dksX0_meanAmplitude_0 11 rfl rfl)
theorem dX0_meanAmplitude_12 : decode cX0_meanAmplitude 12 = .ok (.ireturn, 1) := dk_172 (dk_at dksX0_meanAmplitude_0 12 rfl rfl)
theorem dX0_meanAmplitude_13 : decode cX0_meanAmplitude 13 = .ok (.iconst 0, 1) := dk_3 (dk_at dksX0_meanAmplitude_0 13 rfl rfl)
theorem dX0_meanAmplitude_14 : decode cX0_meanAmplitude 14 = .ok (.ireturn, 1) := dk_172 (dk_at dksX0_meanAmplitude_0 14 rfl rfl)
abbrev cX0_writeCard : ByteArray := method_35_code
def yX0_writeCard : MethodName := ⟨RX0, "writeCard", "(LPendulumGym;I[J)I"⟩
def dkwX0_writeCard_0 : List UInt8 := [44, 3, 42, 27, 182, 0, 119, 133, 80, 167, 0, 6, 78, 4, 172, 3, 172]
abbrev dktX0_writeCard_0 : List UInt8 := dkwX0_writeCard_0 ++ []
theorem dksX0_writeCard_0 : cX0_writeCard.data.toList.drop 0 = dktX0_writeCard_0 := by decide +kernel
theorem dX0_writeCard_0 : decode cX0_writeCard 0 = .ok (.aload_n 2, 1) := dk_44 (dk_at dksX0_writeCard_0 0 rfl rfl)
theorem dX0_writeCard_1 : decode cX0_writeCard 1 = .ok (.iconst 0, 1) := dk_3 (dk_at dksX0_writeCard_0 1 rfl rfl)
theorem dX0_writeCard_2 : decode cX0_writeCard 2 = .ok (.aload_n 0, 1) := dk_42 (dk_at dksX0_writeCard_0 2 rfl rfl)
theorem dX0_writeCard_3 : decode cX0_writeCard 3 = .ok (.iload_n 1, 1) := dk_27 (dk_at dksX0_writeCard_0 3 rfl rfl)
theorem dX0_writeCard_4 : decode cX0_writeCard 4 = .ok (.invokevirtual 119, 3) := dk_182 0 119 (dk_at dksX0_writeCard_0 4 rfl rfl)
theorem dX0_writeCard_7 : decode cX0_writeCard 7 = .ok (.i2l, 1) := dk_133 (dk_at dksX0_writeCard_0 7 rfl rfl)
theorem dX0_writeCard_8 : decode cX0_writeCard 8 = .ok (.lastore, 1) := dk_80 (dk_at dksX0_writeCard_0 8 rfl rfl)
theorem dX0_writeCard_9 : decode cX0_writeCard 9 = .ok (.goto 6, 3) := dk_167 0 6 (dk_at dksX0_writeCard_0 9 rfl rfl)
theorem dX0_writeCard_12 : decode cX0_writeCard 12 = .ok (.astore_n 3, 1) := dk_78 (dk_at dksX0_writeCard_0 12 rfl rfl)
theorem dX0_writeCard_13 : decode cX0_writeCard 13 = .ok (.iconst 1, 1) := dk_4 (dk_at dksX0_writeCard_0 13 rfl rfl)
theorem dX0_writeCard_14 : decode cX0_writeCard 14 = .ok (.ireturn, 1) := dk_172 (dk_at dksX0_writeCard_0 14 rfl rfl)
theorem dX0_writeCard_15 : decode cX0_writeCard 15 = .ok (.iconst 0, 1) := dk_3 (dk_at dksX0_writeCard_0 15 rfl rfl)
theorem dX0_writeCard_16 : decode cX0_writeCard 16 = .ok (.ireturn, 1) := dk_172 (dk_at dksX0_writeCard_0 16 rfl rfl)
abbrev cX0_cardAt : ByteArray := method_36_code
def yX0_cardAt : MethodName := ⟨RX0, "cardAt", "(LPendulumGym;I[J)I"⟩
def dkwX0_cardAt_0 : List UInt8 := [44, 3, 42, 27, 182, 0, 122, 133, 80, 167, 0, 6, 78, 4, 172, 3, 172]
abbrev dktX0_cardAt_0 : List UInt8 := dkwX0_cardAt_0 ++ []
theorem dksX0_cardAt_0 : cX0_cardAt.data.toList.drop 0 = dktX0_cardAt_0 := by decide +kernel
theorem dX0_cardAt_0 : decode cX0_cardAt 0 = .ok (.aload_n 2, 1) := dk_44 (dk_at dksX0_cardAt_0 0 rfl rfl)
theorem dX0_cardAt_1 : decode cX0_cardAt 1 = .ok (.iconst 0, 1) := dk_3 (dk_at dksX0_cardAt_0 1 rfl rfl)
theorem dX0_cardAt_2 : decode cX0_cardAt 2 = .ok (.aload_n 0, 1) := dk_42 (dk_at dksX0_cardAt_0 2 rfl rfl)
theorem dX0_cardAt_3 : decode cX0_cardAt 3 = .ok (.iload_n 1, 1) := dk_27 (dk_at dksX0_cardAt_0 3 rfl rfl)
theorem dX0_cardAt_4 : decode cX0_cardAt 4 = .ok (.invokevirtual 122, 3) := dk_182 0 122 (dk_at dksX0_cardAt_0 4 rfl rfl)
theorem dX0_cardAt_7 : decode cX0_cardAt 7 = .ok (.i2l, 1) := dk_133 (dk_at dksX0_cardAt_0 7 rfl rfl)
theorem dX0_cardAt_8 : decode cX0_cardAt 8 = .ok (.lastore, 1) := dk_80 (dk_at dksX0_cardAt_0 8 rfl rfl)
theorem dX0_cardAt_9 : decode cX0_cardAt 9 = .ok (.goto 6, 3) := dk_167 0 6 (dk_at dksX0_cardAt_0 9 rfl rfl)
theorem dX0_cardAt_12 : decode cX0_cardAt 12 = .ok (.astore_n 3, 1) := dk_78 (dk_at dksX0_cardAt_0 12 rfl rfl)
theorem dX0_cardAt_13 : decode cX0_cardAt 13 = .ok (.iconst 1, 1) := dk_4 (dk_at dksX0_cardAt_0 13 rfl rfl)
theorem dX0_cardAt_14 : decode cX0_cardAt 14 = .ok (.ireturn, 1) := dk_172 (dk_at dksX0_cardAt_0 14 rfl rfl)
theorem dX0_cardAt_15 : decode cX0_cardAt 15 = .ok (.iconst 0, 1) := dk_3 (dk_at dksX0_cardAt_0 15 rfl rfl)
theorem dX0_cardAt_16 : decode cX0_cardAt 16 = .ok (.ireturn, 1) := dk_172 (dk_at dksX0_cardAt_0 16 rfl rfl)
abbrev cX0_type : ByteArray := method_37_code
def yX0_type : MethodName := ⟨RX0, "type", "(LPendulumGym;C[J)I"⟩
def dkwX0_type_0 : List UInt8 := [44, 3, 42, 27, 182, 0, 126, 133, 80, 167, 0, 9, 78, 4, 172, 78, 5, 172, 3, 172]
abbrev dktX0_type_0 : List UInt8 := dkwX0_type_0 ++ []
theorem dksX0_type_0 : cX0_type.data.toList.drop 0 = dktX0_type_0 := by decide +kernel
theorem dX0_type_0 : decode cX0_type 0 = .ok (.aload_n 2, 1) := dk_44 (dk_at dksX0_type_0 0 rfl rfl)
theorem dX0_type_1 : decode cX0_type 1 = .ok (.iconst 0, 1) := dk_3 (dk_at dksX0_type_0 1 rfl rfl)
theorem dX0_type_2 : decode cX0_type 2 = .ok (.aload_n 0, 1) := dk_42 (dk_at dksX0_type_0 2 rfl rfl)
theorem dX0_type_3 : decode cX0_type 3 = .ok (.iload_n 1, 1) := dk_27 (dk_at dksX0_type_0 3 rfl rfl)
theorem dX0_type_4 : decode cX0_type 4 = .ok (.invokevirtual 126, 3) := dk_182 0 126 (dk_at dksX0_type_0 4 rfl rfl)
theorem dX0_type_7 : decode cX0_type 7 = .ok (.i2l, 1) := dk_133 (dk_at dksX0_type_0 7 rfl rfl)
theorem dX0_type_8 : decode cX0_type 8 = .ok (.lastore, 1) := dk_80 (dk_at dksX0_type_0 8 rfl rfl)
theorem dX0_type_9 : decode cX0_type 9 = .ok (.goto 9, 3) := dk_167 0 9 (dk_at dksX0_type_0 9 rfl rfl)
theorem dX0_type_12 : decode cX0_type 12 = .ok (.astore_n 3, 1) := dk_78 (dk_at dksX0_type_0 12 rfl rfl)
theorem dX0_type_13 : decode cX0_type 13 = .ok (.iconst 1, 1) := dk_4 (dk_at dksX0_type_0 13 rfl rfl)
theorem dX0_type_14 : decode cX0_type 14 = .ok (.ireturn, 1) := dk_172 (dk_at dksX0_type_0 14 rfl rfl)
theorem dX0_type_15 : decode cX0_type 15 = .ok (.astore_n 3, 1) := dk_78 (dk_at dksX0_type_0 15 rfl rfl)
theorem dX0_type_16 : decode cX0_type 16 = .ok (.iconst 2, 1) := dk_5 (dk_at dksX0_type_0 16 rfl rfl)
theorem dX0_type_17 : decode cX0_type 17 = .ok (.ireturn, 1) := dk_172 (dk_at dksX0_type_0 17 rfl rfl)
theorem dX0_type_18 : decode cX0_type 18 = .ok (.iconst 0, 1) := dk_3 (dk_at dksX0_type_0 18 rfl rfl)
theorem dX0_type_19 : decode cX0_type 19 = .ok (.ireturn, 1) := dk_172 (dk_at dksX0_type_0 19 rfl rfl)
abbrev cX0_execute : ByteArray := method_38_code
def yX0_execute : MethodName := ⟨RX0, "execute", "(LPendulumGym;[J)I"⟩
def dkwX0_execute_0 : List UInt8 := [43, 3, 42, 182, 0, 130, 133, 80, 167, 0, 9, 77, 4, 172, 77, 5, 172, 3, 172]
abbrev dktX0_execute_0 : List UInt8 := dkwX0_execute_0 ++ []
theorem dksX0_execute_0 : cX0_execute.data.toList.drop 0 = dktX0_execute_0 := by decide +kernel
theorem dX0_execute_0 : decode cX0_execute 0 = .ok (.aload_n 1, 1) := dk_43 (dk_at dksX0_execute_0 0 rfl rfl)
theorem dX0_execute_1 : decode cX0_execute 1 = .ok (.iconst 0, 1) := dk_3 (dk_at dksX0_execute_0 1 rfl rfl)
theorem dX0_execute_2 : decode cX0_execute 2 = .ok (.aload_n 0, 1) := dk_42 (dk_at dksX0_execute_0 2 rfl rfl)
theorem dX0_execute_3 : decode cX0_execute 3 = .ok (.invokevirtual 130, 3) := dk_182 0 130 (dk_at dksX0_execute_0 3 rfl rfl)
theorem dX0_execute_6 : decode cX0_execute 6 = .ok (.i2l, 1) := dk_133 (dk_at dksX0_execute_0 6 rfl rfl)
theorem dX0_execute_7 : decode cX0_execute 7 = .ok (.lastore, 1) := dk_80 (dk_at dksX0_execute_0 7 rfl rfl)
theorem dX0_execute_8 : decode cX0_execute 8 = .ok (.goto 9, 3) := dk_167 0 9 (dk_at dksX0_execute_0 8 rfl rfl)
theorem dX0_execute_11 : decode cX0_execute 11 = .ok (.astore_n 2, 1) := dk_77 (dk_at dksX0_execute_0 11 rfl rfl)
theorem dX0_execute_12 : decode cX0_execute 12 = .ok (.iconst 1, 1) := dk_4 (dk_at dksX0_execute_0 12 rfl rfl)
theorem dX0_execute_13 : decode cX0_execute 13 = .ok (.ireturn, 1) := dk_172 (dk_at dksX0_execute_0 13 rfl rfl)
theorem dX0_execute_14 : decode cX0_execute 14 = .ok (.astore_n 2, 1) := dk_77 (dk_at dksX0_execute_0 14 rfl rfl)
theorem dX0_execute_15 : decode cX0_execute 15 = .ok (.iconst 2, 1) := dk_5 (dk_at dksX0_execute_0 15 rfl rfl)
theorem dX0_execute_16 : decode cX0_execute 16 = .ok (.ireturn, 1) := dk_172 (dk_at dksX0_execute_0 16 rfl rfl)
theorem dX0_execute_17 : decode cX0_execute 17 = .ok (.iconst 0, 1) := dk_3 (dk_at dksX0_execute_0 17 rfl rfl)
theorem dX0_execute_18 : decode cX0_execute 18 = .ok (.ireturn, 1) := dk_172 (dk_at dksX0_execute_0 18 rfl rfl)
abbrev cX0_errorPosition : ByteArray := method_39_code
def yX0_errorPosition : MethodName := ⟨RX0, "errorPosition", "(LPendulumGym;[J)I"⟩
def dkwX0_errorPosition_0 : List UInt8 := [43, 3, 42, 182, 0, 133, 133, 80, 167, 0, 6, 77, 4, 172, 3, 172]
abbrev dktX0_errorPosition_0 : List UInt8 := dkwX0_errorPosition_0 ++ []
theorem dksX0_errorPosition_0 : cX0_errorPosition.data.toList.drop 0 = dktX0_errorPosition_0 := by decide +kernel
theorem dX0_errorPosition_0 : decode cX0_errorPosition 0 = .ok (.aload_n 1, 1) := dk_43 (dk_at dksX0_errorPosition_0 0 rfl rfl)
theorem dX0_errorPosition_1 : decode cX0_errorPosition 1 = .ok (.iconst 0, 1) := dk_3 (dk_at dksX0_errorPosition_0 1 rfl rfl)
theorem dX0_errorPosition_2 : decode cX0_errorPosition 2 = .ok (.aload_n 0, 1) := dk_42 (dk_at dksX0_errorPosition_0 2 rfl rfl)
theorem dX0_errorPosition_3 : decode cX0_errorPosition 3 = .ok (.invokevirtual 133, 3) := dk_182 0 133 (dk_at dksX0_errorPosition_0 3 rfl rfl)
theorem dX0_errorPosition_6 : decode cX0_errorPosition 6 = .ok (.i2l, 1) := dk_133 (dk_at dksX0_errorPosition_0 6 rfl rfl)
theorem dX0_errorPosition_7 : decode cX0_errorPosition 7 = .ok (.lastore, 1) := dk_80 (dk_at dksX0_errorPosition_0 7 rfl rfl)
theorem dX0_errorPosition_8 : decode cX0_errorPosition 8 = .ok (.goto 6, 3) := dk_167 0 6 (dk_at dksX0_errorPosition_0 8 rfl rfl)
theorem dX0_errorPosition_11 : decode cX0_errorPosition 11 = .ok (.astore_n 2, 1) := dk_77 (dk_at dksX0_errorPosition_0 11 rfl rfl)
theorem dX0_errorPosition_12 : decode cX0_errorPosition 12 = .ok (.iconst 1, 1) := dk_4 (dk_at dksX0_errorPosition_0 12 rfl rfl)
theorem dX0_errorPosition_13 : decode cX0_errorPosition 13 = .ok (.ireturn, 1) := dk_172 (dk_at dksX0_errorPosition_0 13 rfl rfl)
theorem dX0_errorPosition_14 : decode cX0_errorPosition 14 = .ok (.iconst 0, 1) := dk_3 (dk_at dksX0_errorPosition_0 14 rfl rfl)
theorem dX0_errorPosition_15 : decode cX0_errorPosition 15 = .ok (.ireturn, 1) := dk_172 (dk_at dksX0_errorPosition_0 15 rfl rfl)
abbrev cX0_failedCommand : ByteArray := method_40_code
def yX0_failedCommand : MethodName := ⟨RX0, "failedCommand", "(LPendulumGym;[J)I"⟩
def dkwX0_failedCommand_0 : List UInt8 := [43, 3, 42, 182, 0, 136, 133, 80, 167, 0, 6, 77, 4, 172, 3, 172]
abbrev dktX0_failedCommand_0 : List UInt8 := dkwX0_failedCommand_0 ++ []
theorem dksX0_failedCommand_0 : cX0_failedCommand.data.toList.drop 0 = dktX0_failedCommand_0 := by decide +kernel
theorem dX0_failedCommand_0 : decode cX0_failedCommand 0 = .ok (.aload_n 1, 1) := dk_43 (dk_at dksX0_failedCommand_0 0 rfl rfl)
theorem dX0_failedCommand_1 : decode cX0_failedCommand 1 = .ok (.iconst 0, 1) := dk_3 (dk_at dksX0_failedCommand_0 1 rfl rfl)
theorem dX0_failedCommand_2 : decode cX0_failedCommand 2 = .ok (.aload_n 0, 1) := dk_42 (dk_at dksX0_failedCommand_0 2 rfl rfl)
theorem dX0_failedCommand_3 : decode cX0_failedCommand 3 = .ok (.invokevirtual 136, 3) := dk_182 0 136 (dk_at dksX0_failedCommand_0 3 rfl rfl)
theorem dX0_failedCommand_6 : decode cX0_failedCommand 6 = .ok (.i2l, 1) := dk_133 (dk_at dksX0_failedCommand_0 6 rfl rfl)
theorem dX0_failedCommand_7 : decode cX0_failedCommand 7 = .ok (.lastore, 1) := dk_80 (dk_at dksX0_failedCommand_0 7 rfl rfl)
theorem dX0_failedCommand_8 : decode cX0_failedCommand 8 = .ok (.goto 6, 3) := dk_167 0 6 (dk_at dksX0_failedCommand_0 8 rfl rfl)
theorem dX0_failedCommand_11 : decode cX0_failedCommand 11 = .ok (.astore_n 2, 1) := dk_77 (dk_at dksX0_failedCommand_0 11 rfl rfl)
theorem dX0_failedCommand_12 : decode cX0_failedCommand 12 = .ok (.iconst 1, 1) := dk_4 (dk_at dksX0_failedCommand_0 12 rfl rfl)
theorem dX0_failedCommand_13 : decode cX0_failedCommand 13 = .ok (.ireturn, 1) := dk_172 (dk_at dksX0_failedCommand_0 13 rfl rfl)
theorem dX0_failedCommand_14 : decode cX0_failedCommand 14 = .ok (.iconst 0, 1) := dk_3 (dk_at dksX0_failedCommand_0 14 rfl rfl)
theorem dX0_failedCommand_15 : decode cX0_failedCommand 15 = .ok (.ireturn, 1) := dk_172 (dk_at dksX0_failedCommand_0 15 rfl rfl)
abbrev cX0_undo : ByteArray := method_41_code
def yX0_undo : MethodName := ⟨RX0, "undo", "(LPendulumGym;[J)I"⟩
def dkwX0_undo_0 : List UInt8 := [43, 3, 42, 182, 0, 139, 133, 80, 167, 0, 6, 77, 4, 172, 3, 172]
abbrev dktX0_undo_0 : List UInt8 := dkwX0_undo_0 ++ []
theorem dksX0_undo_0 : cX0_undo.data.toList.drop 0 = dktX0_undo_0 := by decide +kernel
theorem dX0_undo_0 : decode cX0_undo 0 = .ok (.aload_n 1, 1) := dk_43 (dk_at dksX0_undo_0 0 rfl rfl)
theorem dX0_undo_1 : decode cX0_undo 1 = .ok (.iconst 0, 1) := dk_3 (dk_at dksX0_undo_0 1 rfl rfl)
theorem dX0_undo_2 : decode cX0_undo 2 = .ok (.aload_n 0, 1) := dk_42 (dk_at dksX0_undo_0 2 rfl rfl)
theorem dX0_undo_3 : decode cX0_undo 3 = .ok (.invokevirtual 139, 3) := dk_182 0 139 (dk_at dksX0_undo_0 3 rfl rfl)
theorem dX0_undo_6 : decode cX0_undo 6 = .ok (.i2l, 1) := dk_133 (dk_at dksX0_undo_0 6 rfl rfl)
theorem dX0_undo_7 : decode cX0_undo 7 = .ok (.lastore, 1) := dk_80 (dk_at dksX0_undo_0 7 rfl rfl)
theorem dX0_undo_8 : decode cX0_undo 8 = .ok (.goto 6, 3) := dk_167 0 6 (dk_at dksX0_undo_0 8 rfl rfl)
theorem dX0_undo_11 : decode cX0_undo 11 = .ok (.astore_n 2, 1) := dk_77 (dk_at dksX0_undo_0 11 rfl rfl)
theorem dX0_undo_12 : decode cX0_undo 12 = .ok (.iconst 1, 1) := dk_4 (dk_at dksX0_undo_0 12 rfl rfl)
theorem dX0_undo_13 : decode cX0_undo 13 = .ok (.ireturn, 1) := dk_172 (dk_at dksX0_undo_0 13 rfl rfl)
theorem dX0_undo_14 : decode cX0_undo 14 = .ok (.iconst 0, 1) := dk_3 (dk_at dksX0_undo_0 14 rfl rfl)
theorem dX0_undo_15 : decode cX0_undo 15 = .ok (.ireturn, 1) := dk_172 (dk_at dksX0_undo_0 15 rfl rfl)
abbrev cX0_restore : ByteArray := method_42_code
def yX0_restore : MethodName := ⟨RX0, "restore", "(LPendulumGym;[J)I"⟩
def dkwX0_restore_0 : List UInt8 := [43, 3, 42, 182, 0, 142, 133, 80, 167, 0, 6, 77, 4, 172, 3, 172]
abbrev dktX0_restore_0 : List UInt8 := dkwX0_restore_0 ++ []
theorem dksX0_restore_0 : cX0_restore.data.toList.drop 0 = dktX0_restore_0 := by decide +kernel
theorem dX0_restore_0 : decode cX0_restore 0 = .ok (.aload_n 1, 1) := dk_43 (dk_at dksX0_restore_0 0 rfl rfl)
theorem dX0_restore_1 : decode cX0_restore 1 = .ok (.iconst 0, 1) := dk_3 (dk_at dksX0_restore_0 1 rfl rfl)
theorem dX0_restore_2 : decode cX0_restore 2 = .ok (.aload_n 0, 1) := dk_42 (dk_at dksX0_restore_0 2 rfl rfl)
theorem dX0_restore_3 : decode cX0_restore 3 = .ok (.invokevirtual 142, 3) := dk_182 0 142 (dk_at dksX0_restore_0 3 rfl rfl)
theorem dX0_restore_6 : decode cX0_restore 6 = .ok (.i2l, 1) := dk_133 (dk_at dksX0_restore_0 6 rfl rfl)
theorem dX0_restore_7 : decode cX0_restore 7 = .ok (.lastore, 1) := dk_80 (dk_at dksX0_restore_0 7 rfl rfl)
theorem dX0_restore_8 : decode cX0_restore 8 = .ok (.goto 6, 3) := dk_167 0 6 (dk_at dksX0_restore_0 8 rfl rfl)
theorem dX0_restore_11 : decode cX0_restore 11 = .ok (.astore_n 2, 1) := dk_77 (dk_at dksX0_restore_0 11 rfl rfl)
theorem dX0_restore_12 : decode cX0_restore 12 = .ok (.iconst 1, 1) := dk_4 (dk_at dksX0_restore_0 12 rfl rfl)
theorem dX0_restore_13 : decode cX0_restore 13 = .ok (.ireturn, 1) := dk_172 (dk_at dksX0_restore_0 13 rfl rfl)
theorem dX0_restore_14 : decode cX0_restore 14 = .ok (.iconst 0, 1) := dk_3 (dk_at dksX0_restore_0 14 rfl rfl)
theorem dX0_restore_15 : decode cX0_restore 15 = .ok (.ireturn, 1) := dk_172 (dk_at dksX0_restore_0 15 rfl rfl)
theorem q67 : (Jvm.Cond.initialized "PendulumGymLaw") ∈ lw_all := lw_g (lw_at lw_m1 0 rfl) rfl
theorem q108 : (Jvm.Cond.classLink "PendulumGymLaw" (8 : Nat) "PendulumGym") ∈ lw_all := lw_g (lw_at lw_m1 41 rfl) rfl
theorem q110 : (Jvm.Cond.methodLink "PendulumGymLaw" (145 : Nat) ({ cls := "PendulumGym", name := "<init>", desc := "()V" } : Jvm.MethodName)) ∈ lw_all := lw_g (lw_at lw_m1 43 rfl) rfl
theorem q248 : (Jvm.Cond.methodLink "PendulumGymLaw" (171 : Nat) ({ cls := "PendulumGym", name := "pendulumCount", desc := "()I" } : Jvm.MethodName)) ∈ lw_all := lw_g (lw_at lw_m1 181 rfl) rfl
theorem q256 : (Jvm.Cond.methodLink "PendulumGymLaw" (196 : Nat) ({ cls := "PendulumGym", name := "clock", desc := "()I" } : Jvm.MethodName)) ∈ lw_all := lw_g (lw_at lw_m1 189 rfl) rfl
theorem q260 : (Jvm.Cond.methodLink "PendulumGymLaw" (200 : Nat) ({ cls := "PendulumGym", name := "friction", desc := "()I" } : Jvm.MethodName)) ∈ lw_all := lw_g (lw_at lw_m1 193 rfl) rfl
theorem q264 : (Jvm.Cond.methodLink "PendulumGymLaw" (231 : Nat) ({ cls := "PendulumGym", name := "meetingPairs", desc := "()I" } : Jvm.MethodName)) ∈ lw_all := lw_g (lw_at lw_m1 197 rfl) rfl
theorem q387 : (Jvm.Cond.methodLink "PendulumGymLaw" (244 : Nat) ({ cls := "PendulumGym", name := "legCount", desc := "()I" } : Jvm.MethodName)) ∈ lw_all := lw_g (lw_at lw_m2 80 rfl) rfl
theorem q391 : (Jvm.Cond.methodLink "PendulumGymLaw" (296 : Nat) ({ cls := "PendulumGym", name := "save", desc := "()I" } : Jvm.MethodName)) ∈ lw_all := lw_g (lw_at lw_m2 84 rfl) rfl
theorem q509 : (Jvm.Cond.methodLink "PendulumGymLaw" (149 : Nat) ({ cls := "PendulumGymLaw", name := "addPendulum", desc := "(LPendulumGym;I[J)I" } : Jvm.MethodName)) ∈ lw_all := lw_g (lw_at lw_m2 202 rfl) rfl
theorem q510 : (Jvm.Cond.static ({ cls := "PendulumGymLaw", name := "addPendulum", desc := "(LPendulumGym;I[J)I" } : Jvm.MethodName)) ∈ lw_all := lw_g (lw_at lw_m2 203 rfl) rfl
theorem q511 : (Jvm.Cond.codeWith ({ cls := "PendulumGymLaw", name := "addPendulum", desc := "(LPendulumGym;I[J)I" } : Jvm.MethodName) method_3_code (4 : Nat) (Option.some Jvm.ClassFile.FieldType.int) [((0 : Nat), (9 : Nat), (12 : Nat), (13 : Nat)), ((0 : Nat), (9 : Nat), (15 : Nat), (15 : Nat))]) ∈ lw_all := lw_g (lw_at lw_m2 204 rfl) rfl
theorem q512 : (Jvm.Cond.classLink "PendulumGymLaw" (13 : Nat) "java/lang/IllegalArgumentException") ∈ lw_all := lw_g (lw_at lw_m2 205 rfl) rfl
theorem q513 : (Jvm.Cond.classLink "PendulumGymLaw" (15 : Nat) "java/lang/IllegalStateException") ∈ lw_all := lw_g (lw_at lw_m2 206 rfl) rfl
theorem q514 : (Jvm.Cond.methodLink "PendulumGymLaw" (7 : Nat) ({ cls := "PendulumGym", name := "addPendulum", desc := "(I)I" } : Jvm.MethodName)) ∈ lw_all := lw_g (lw_at lw_m2 207 rfl) rfl
theorem q643 : (Jvm.Cond.methodLink "PendulumGymLaw" (158 : Nat) ({ cls := "PendulumGymLaw", name := "push", desc := "(LPendulumGym;II[J)I" } : Jvm.MethodName)) ∈ lw_all := lw_g (lw_at lw_m3 96 rfl) rfl
theorem q644 : (Jvm.Cond.static ({ cls := "PendulumGymLaw", name := "push", desc := "(LPendulumGym;II[J)I" } : Jvm.MethodName)) ∈ lw_all := lw_g (lw_at lw_m3 97 rfl) rfl
theorem q645 : (Jvm.Cond.codeWith ({ cls := "PendulumGymLaw", name := "push", desc := "(LPendulumGym;II[J)I" } : Jvm.MethodName) method_4_code (5 : Nat) (Option.some Jvm.ClassFile.FieldType.int) [((0 : Nat), (10 : Nat), (13 : Nat), (21 : Nat)), ((0 : Nat), (10 : Nat), (17 : Nat), (13 : Nat)), ((0 : Nat), (10 : Nat), (21 : Nat), (15 : Nat))]) ∈ lw_all := lw_g (lw_at lw_m3 98 rfl) rfl
theorem q646 : (Jvm.Cond.classLink "PendulumGymLaw" (21 : Nat) "java/lang/IndexOutOfBoundsException") ∈ lw_all := lw_g (lw_at lw_m3 99 rfl) rfl
theorem q670 : (Jvm.Cond.methodLink "PendulumGymLaw" (17 : Nat) ({ cls := "PendulumGym", name := "push", desc := "(II)I" } : Jvm.MethodName)) ∈ lw_all := lw_g (lw_at lw_m3 123 rfl) rfl
theorem q733 : (Jvm.Cond.methodLink "PendulumGymLaw" (162 : Nat) ({ cls := "PendulumGymLaw", name := "catchPendulum", desc := "(LPendulumGym;I[J)I" } : Jvm.MethodName)) ∈ lw_all := lw_g (lw_at lw_m3 186 rfl) rfl
theorem q734 : (Jvm.Cond.static ({ cls := "PendulumGymLaw", name := "catchPendulum", desc := "(LPendulumGym;I[J)I" } : Jvm.MethodName)) ∈ lw_all := lw_g (lw_at lw_m3 187 rfl) rfl
theorem q735 : (Jvm.Cond.codeWith ({ cls := "PendulumGymLaw", name := "catchPendulum", desc := "(LPendulumGym;I[J)I" } : Jvm.MethodName) method_5_code (4 : Nat) (Option.some Jvm.ClassFile.FieldType.int) [((0 : Nat), (9 : Nat), (12 : Nat), (21 : Nat)), ((0 : Nat), (9 : Nat), (15 : Nat), (15 : Nat))]) ∈ lw_all := lw_g (lw_at lw_m3 188 rfl) rfl
theorem q736 : (Jvm.Cond.methodLink "PendulumGymLaw" (23 : Nat) ({ cls := "PendulumGym", name := "catchPendulum", desc := "(I)I" } : Jvm.MethodName)) ∈ lw_all := lw_g (lw_at lw_m3 189 rfl) rfl
theorem q748 : (Jvm.Cond.methodLink "PendulumGymLaw" (165 : Nat) ({ cls := "PendulumGymLaw", name := "setFriction", desc := "(LPendulumGym;I[J)I" } : Jvm.MethodName)) ∈ lw_all := lw_g (lw_at lw_m3 201 rfl) rfl
theorem q749 : (Jvm.Cond.static ({ cls := "PendulumGymLaw", name := "setFriction", desc := "(LPendulumGym;I[J)I" } : Jvm.MethodName)) ∈ lw_all := lw_g (lw_at lw_m3 202 rfl) rfl
theorem q750 : (Jvm.Cond.codeWith ({ cls := "PendulumGymLaw", name := "setFriction", desc := "(LPendulumGym;I[J)I" } : Jvm.MethodName) method_6_code (4 : Nat) (Option.some Jvm.ClassFile.FieldType.int) [((0 : Nat), (9 : Nat), (12 : Nat), (13 : Nat))]) ∈ lw_all := lw_g (lw_at lw_m3 203 rfl) rfl
theorem q751 : (Jvm.Cond.methodLink "PendulumGymLaw" (26 : Nat) ({ cls := "PendulumGym", name := "setFriction", desc := "(I)I" } : Jvm.MethodName)) ∈ lw_all := lw_g (lw_at lw_m3 204 rfl) rfl
theorem q761 : (Jvm.Cond.methodLink "PendulumGymLaw" (168 : Nat) ({ cls := "PendulumGymLaw", name := "pass", desc := "(LPendulumGym;I[J)I" } : Jvm.MethodName)) ∈ lw_all := lw_g (lw_at lw_m3 214 rfl) rfl
theorem q762 : (Jvm.Cond.static ({ cls := "PendulumGymLaw", name := "pass", desc := "(LPendulumGym;I[J)I" } : Jvm.MethodName)) ∈ lw_all := lw_g (lw_at lw_m3 215 rfl) rfl
theorem q763 : (Jvm.Cond.codeWith ({ cls := "PendulumGymLaw", name := "pass", desc := "(LPendulumGym;I[J)I" } : Jvm.MethodName) method_7_code (4 : Nat) (Option.some Jvm.ClassFile.FieldType.int) [((0 : Nat), (9 : Nat), (12 : Nat), (13 : Nat))]) ∈ lw_all := lw_g (lw_at lw_m3 216 rfl) rfl
theorem q764 : (Jvm.Cond.methodLink "PendulumGymLaw" (29 : Nat) ({ cls := "PendulumGym", name := "pass", desc := "(I)I" } : Jvm.MethodName)) ∈ lw_all := lw_g (lw_at lw_m3 217 rfl) rfl
theorem q784 : (Jvm.Cond.methodLink "PendulumGymLaw" (175 : Nat) ({ cls := "PendulumGymLaw", name := "lengthOf", desc := "(LPendulumGym;I[J)I" } : Jvm.MethodName)) ∈ lw_all := lw_g (lw_at lw_m3 237 rfl) rfl
theorem q785 : (Jvm.Cond.static ({ cls := "PendulumGymLaw", name := "lengthOf", desc := "(LPendulumGym;I[J)I" } : Jvm.MethodName)) ∈ lw_all := lw_g (lw_at lw_m3 238 rfl) rfl
theorem q786 : (Jvm.Cond.codeWith ({ cls := "PendulumGymLaw", name := "lengthOf", desc := "(LPendulumGym;I[J)I" } : Jvm.MethodName) method_8_code (4 : Nat) (Option.some Jvm.ClassFile.FieldType.int) [((0 : Nat), (9 : Nat), (12 : Nat), (21 : Nat))]) ∈ lw_all := lw_g (lw_at lw_m3 239 rfl) rfl
theorem q787 : (Jvm.Cond.methodLink "PendulumGymLaw" (32 : Nat) ({ cls := "PendulumGym", name := "lengthOf", desc := "(I)I" } : Jvm.MethodName)) ∈ lw_all := lw_g (lw_at lw_m4 0 rfl) rfl
theorem q791 : (Jvm.Cond.methodLink "PendulumGymLaw" (178 : Nat) ({ cls := "PendulumGymLaw", name := "classOf", desc := "(LPendulumGym;I[J)I" } : Jvm.MethodName)) ∈ lw_all := lw_g (lw_at lw_m4 4 rfl) rfl
theorem q792 : (Jvm.Cond.static ({ cls := "PendulumGymLaw", name := "classOf", desc := "(LPendulumGym;I[J)I" } : Jvm.MethodName)) ∈ lw_all := lw_g (lw_at lw_m4 5 rfl) rfl
theorem q793 : (Jvm.Cond.codeWith ({ cls := "PendulumGymLaw", name := "classOf", desc := "(LPendulumGym;I[J)I" } : Jvm.MethodName) method_9_code (4 : Nat) (Option.some Jvm.ClassFile.FieldType.int) [((0 : Nat), (9 : Nat), (12 : Nat), (21 : Nat))]) ∈ lw_all := lw_g (lw_at lw_m4 6 rfl) rfl
theorem q794 : (Jvm.Cond.methodLink "PendulumGymLaw" (35 : Nat) ({ cls := "PendulumGym", name := "classOf", desc := "(I)I" } : Jvm.MethodName)) ∈ lw_all := lw_g (lw_at lw_m4 7 rfl) rfl
theorem q800 : (Jvm.Cond.methodLink "PendulumGymLaw" (181 : Nat) ({ cls := "PendulumGymLaw", name := "amplitudeOf", desc := "(LPendulumGym;I[J)I" } : Jvm.MethodName)) ∈ lw_all := lw_g (lw_at lw_m4 13 rfl) rfl
theorem q801 : (Jvm.Cond.static ({ cls := "PendulumGymLaw", name := "amplitudeOf", desc := "(LPendulumGym;I[J)I" } : Jvm.MethodName)) ∈ lw_all := lw_g (lw_at lw_m4 14 rfl) rfl
theorem q802 : (Jvm.Cond.codeWith ({ cls := "PendulumGymLaw", name := "amplitudeOf", desc := "(LPendulumGym;I[J)I" } : Jvm.MethodName) method_10_code (4 : Nat) (Option.some Jvm.ClassFile.FieldType.int) [((0 : Nat), (9 : Nat), (12 : Nat), (21 : Nat))]) ∈ lw_all := lw_g (lw_at lw_m4 15 rfl) rfl
theorem q803 : (Jvm.Cond.methodLink "PendulumGymLaw" (38 : Nat) ({ cls := "PendulumGym", name := "amplitudeOf", desc := "(I)I" } : Jvm.MethodName)) ∈ lw_all := lw_g (lw_at lw_m4 16 rfl) rfl
theorem q808 : (Jvm.Cond.methodLink "PendulumGymLaw" (184 : Nat) ({ cls := "PendulumGymLaw", name := "startOf", desc := "(LPendulumGym;I[J)I" } : Jvm.MethodName)) ∈ lw_all := lw_g (lw_at lw_m4 21 rfl) rfl
theorem q809 : (Jvm.Cond.static ({ cls := "PendulumGymLaw", name := "startOf", desc := "(LPendulumGym;I[J)I" } : Jvm.MethodName)) ∈ lw_all := lw_g (lw_at lw_m4 22 rfl) rfl
theorem q810 : (Jvm.Cond.codeWith ({ cls := "PendulumGymLaw", name := "startOf", desc := "(LPendulumGym;I[J)I" } : Jvm.MethodName) method_11_code (4 : Nat) (Option.some Jvm.ClassFile.FieldType.int) [((0 : Nat), (9 : Nat), (12 : Nat), (21 : Nat)), ((0 : Nat), (9 : Nat), (15 : Nat), (44 : Nat))]) ∈ lw_all := lw_g (lw_at lw_m4 23 rfl) rfl
theorem q811 : (Jvm.Cond.classLink "PendulumGymLaw" (44 : Nat) "java/util/NoSuchElementException") ∈ lw_all := lw_g (lw_at lw_m4 24 rfl) rfl
theorem q812 : (Jvm.Cond.methodLink "PendulumGymLaw" (41 : Nat) ({ cls := "PendulumGym", name := "startOf", desc := "(I)I" } : Jvm.MethodName)) ∈ lw_all := lw_g (lw_at lw_m4 25 rfl) rfl
theorem q821 : (Jvm.Cond.methodLink "PendulumGymLaw" (187 : Nat) ({ cls := "PendulumGymLaw", name := "periodOf", desc := "(LPendulumGym;I[J)I" } : Jvm.MethodName)) ∈ lw_all := lw_g (lw_at lw_m4 34 rfl) rfl
theorem q822 : (Jvm.Cond.static ({ cls := "PendulumGymLaw", name := "periodOf", desc := "(LPendulumGym;I[J)I" } : Jvm.MethodName)) ∈ lw_all := lw_g (lw_at lw_m4 35 rfl) rfl
theorem q823 : (Jvm.Cond.codeWith ({ cls := "PendulumGymLaw", name := "periodOf", desc := "(LPendulumGym;I[J)I" } : Jvm.MethodName) method_12_code (4 : Nat) (Option.some Jvm.ClassFile.FieldType.int) [((0 : Nat), (9 : Nat), (12 : Nat), (21 : Nat))]) ∈ lw_all := lw_g (lw_at lw_m4 36 rfl) rfl
theorem q824 : (Jvm.Cond.methodLink "PendulumGymLaw" (46 : Nat) ({ cls := "PendulumGym", name := "periodOf", desc := "(I)I" } : Jvm.MethodName)) ∈ lw_all := lw_g (lw_at lw_m4 37 rfl) rfl
theorem q825 : (Jvm.Cond.methodLink "PendulumGymLaw" (190 : Nat) ({ cls := "PendulumGymLaw", name := "periodByEstimates", desc := "(LPendulumGym;I[J)I" } : Jvm.MethodName)) ∈ lw_all := lw_g (lw_at lw_m4 38 rfl) rfl
theorem q826 : (Jvm.Cond.static ({ cls := "PendulumGymLaw", name := "periodByEstimates", desc := "(LPendulumGym;I[J)I" } : Jvm.MethodName)) ∈ lw_all := lw_g (lw_at lw_m4 39 rfl) rfl
theorem q827 : (Jvm.Cond.codeWith ({ cls := "PendulumGymLaw", name := "periodByEstimates", desc := "(LPendulumGym;I[J)I" } : Jvm.MethodName) method_13_code (4 : Nat) (Option.some Jvm.ClassFile.FieldType.int) [((0 : Nat), (9 : Nat), (12 : Nat), (21 : Nat))]) ∈ lw_all := lw_g (lw_at lw_m4 40 rfl) rfl
theorem q828 : (Jvm.Cond.methodLink "PendulumGymLaw" (49 : Nat) ({ cls := "PendulumGym", name := "periodByEstimates", desc := "(I)I" } : Jvm.MethodName)) ∈ lw_all := lw_g (lw_at lw_m4 41 rfl) rfl
theorem q836 : (Jvm.Cond.methodLink "PendulumGymLaw" (193 : Nat) ({ cls := "PendulumGymLaw", name := "swingsOf", desc := "(LPendulumGym;I[J)I" } : Jvm.MethodName)) ∈ lw_all := lw_g (lw_at lw_m4 49 rfl) rfl
theorem q837 : (Jvm.Cond.static ({ cls := "PendulumGymLaw", name := "swingsOf", desc := "(LPendulumGym;I[J)I" } : Jvm.MethodName)) ∈ lw_all := lw_g (lw_at lw_m4 50 rfl) rfl
theorem q838 : (Jvm.Cond.codeWith ({ cls := "PendulumGymLaw", name := "swingsOf", desc := "(LPendulumGym;I[J)I" } : Jvm.MethodName) method_14_code (4 : Nat) (Option.some Jvm.ClassFile.FieldType.int) [((0 : Nat), (9 : Nat), (12 : Nat), (21 : Nat))]) ∈ lw_all := lw_g (lw_at lw_m4 51 rfl) rfl
theorem q839 : (Jvm.Cond.methodLink "PendulumGymLaw" (52 : Nat) ({ cls := "PendulumGym", name := "swingsOf", desc := "(I)I" } : Jvm.MethodName)) ∈ lw_all := lw_g (lw_at lw_m4 52 rfl) rfl
theorem q843 : (Jvm.Cond.methodLink "PendulumGymLaw" (204 : Nat) ({ cls := "PendulumGymLaw", name := "recordOf", desc := "(LPendulumGym;I[J)I" } : Jvm.MethodName)) ∈ lw_all := lw_g (lw_at lw_m4 56 rfl) rfl
theorem q844 : (Jvm.Cond.static ({ cls := "PendulumGymLaw", name := "recordOf", desc := "(LPendulumGym;I[J)I" } : Jvm.MethodName)) ∈ lw_all := lw_g (lw_at lw_m4 57 rfl) rfl
theorem q845 : (Jvm.Cond.codeWith ({ cls := "PendulumGymLaw", name := "recordOf", desc := "(LPendulumGym;I[J)I" } : Jvm.MethodName) method_15_code (4 : Nat) (Option.some Jvm.ClassFile.FieldType.int) [((0 : Nat), (9 : Nat), (12 : Nat), (13 : Nat)), ((0 : Nat), (9 : Nat), (15 : Nat), (44 : Nat))]) ∈ lw_all := lw_g (lw_at lw_m4 58 rfl) rfl
theorem q846 : (Jvm.Cond.methodLink "PendulumGymLaw" (55 : Nat) ({ cls := "PendulumGym", name := "recordOf", desc := "(I)I" } : Jvm.MethodName)) ∈ lw_all := lw_g (lw_at lw_m4 59 rfl) rfl
theorem q855 : (Jvm.Cond.methodLink "PendulumGymLaw" (207 : Nat) ({ cls := "PendulumGymLaw", name := "holderOf", desc := "(LPendulumGym;I[J)I" } : Jvm.MethodName)) ∈ lw_all := lw_g (lw_at lw_m4 68 rfl) rfl
theorem q856 : (Jvm.Cond.static ({ cls := "PendulumGymLaw", name := "holderOf", desc := "(LPendulumGym;I[J)I" } : Jvm.MethodName)) ∈ lw_all := lw_g (lw_at lw_m4 69 rfl) rfl
theorem q857 : (Jvm.Cond.codeWith ({ cls := "PendulumGymLaw", name := "holderOf", desc := "(LPendulumGym;I[J)I" } : Jvm.MethodName) method_16_code (4 : Nat) (Option.some Jvm.ClassFile.FieldType.int) [((0 : Nat), (9 : Nat), (12 : Nat), (13 : Nat)), ((0 : Nat), (9 : Nat), (15 : Nat), (44 : Nat))]) ∈ lw_all := lw_g (lw_at lw_m4 70 rfl) rfl
theorem q858 : (Jvm.Cond.methodLink "PendulumGymLaw" (58 : Nat) ({ cls := "PendulumGym", name := "holderOf", desc := "(I)I" } : Jvm.MethodName)) ∈ lw_all := lw_g (lw_at lw_m4 71 rfl) rfl
theorem q862 : (Jvm.Cond.methodLink "PendulumGymLaw" (210 : Nat) ({ cls := "PendulumGymLaw", name := "pendulumAtRank", desc := "(LPendulumGym;I[J)I" } : Jvm.MethodName)) ∈ lw_all := lw_g (lw_at lw_m4 75 rfl) rfl
theorem q863 : (Jvm.Cond.static ({ cls := "PendulumGymLaw", name := "pendulumAtRank", desc := "(LPendulumGym;I[J)I" } : Jvm.MethodName)) ∈ lw_all := lw_g (lw_at lw_m4 76 rfl) rfl
theorem q864 : (Jvm.Cond.codeWith ({ cls := "PendulumGymLaw", name := "pendulumAtRank", desc := "(LPendulumGym;I[J)I" } : Jvm.MethodName) method_17_code (4 : Nat) (Option.some Jvm.ClassFile.FieldType.int) [((0 : Nat), (9 : Nat), (12 : Nat), (44 : Nat))]) ∈ lw_all := lw_g (lw_at lw_m4 77 rfl) rfl
theorem q865 : (Jvm.Cond.methodLink "PendulumGymLaw" (61 : Nat) ({ cls := "PendulumGym", name := "pendulumAtRank", desc := "(I)I" } : Jvm.MethodName)) ∈ lw_all := lw_g (lw_at lw_m4 78 rfl) rfl
theorem q876 : (Jvm.Cond.methodLink "PendulumGymLaw" (213 : Nat) ({ cls := "PendulumGymLaw", name := "swingsToRest", desc := "(LPendulumGym;I[J)I" } : Jvm.MethodName)) ∈ lw_all := lw_g (lw_at lw_m4 89 rfl) rfl
theorem q877 : (Jvm.Cond.static ({ cls := "PendulumGymLaw", name := "swingsToRest", desc := "(LPendulumGym;I[J)I" } : Jvm.MethodName)) ∈ lw_all := lw_g (lw_at lw_m4 90 rfl) rfl
theorem q878 : (Jvm.Cond.codeWith ({ cls := "PendulumGymLaw", name := "swingsToRest", desc := "(LPendulumGym;I[J)I" } : Jvm.MethodName) method_18_code (4 : Nat) (Option.some Jvm.ClassFile.FieldType.int) [((0 : Nat), (9 : Nat), (12 : Nat), (21 : Nat))]) ∈ lw_all := lw_g (lw_at lw_m4 91 rfl) rfl
theorem q879 : (Jvm.Cond.methodLink "PendulumGymLaw" (64 : Nat) ({ cls := "PendulumGym", name := "swingsToRest", desc := "(I)I" } : Jvm.MethodName)) ∈ lw_all := lw_g (lw_at lw_m4 92 rfl) rfl
theorem q884 : (Jvm.Cond.methodLink "PendulumGymLaw" (216 : Nat) ({ cls := "PendulumGymLaw", name := "swingsToRestByTable", desc := "(LPendulumGym;I[J)I" } : Jvm.MethodName)) ∈ lw_all := lw_g (lw_at lw_m4 97 rfl) rfl
theorem q885 : (Jvm.Cond.static ({ cls := "PendulumGymLaw", name := "swingsToRestByTable", desc := "(LPendulumGym;I[J)I" } : Jvm.MethodName)) ∈ lw_all := lw_g (lw_at lw_m4 98 rfl) rfl
theorem q886 : (Jvm.Cond.codeWith ({ cls := "PendulumGymLaw", name := "swingsToRestByTable", desc := "(LPendulumGym;I[J)I" } : Jvm.MethodName) method_19_code (4 : Nat) (Option.some Jvm.ClassFile.FieldType.int) [((0 : Nat), (9 : Nat), (12 : Nat), (21 : Nat))]) ∈ lw_all := lw_g (lw_at lw_m4 99 rfl) rfl
theorem q887 : (Jvm.Cond.methodLink "PendulumGymLaw" (67 : Nat) ({ cls := "PendulumGym", name := "swingsToRestByTable", desc := "(I)I" } : Jvm.MethodName)) ∈ lw_all := lw_g (lw_at lw_m4 100 rfl) rfl
theorem q891 : (Jvm.Cond.methodLink "PendulumGymLaw" (219 : Nat) ({ cls := "PendulumGymLaw", name := "restTick", desc := "(LPendulumGym;I[J)I" } : Jvm.MethodName)) ∈ lw_all := lw_g (lw_at lw_m4 104 rfl) rfl
theorem q892 : (Jvm.Cond.static ({ cls := "PendulumGymLaw", name := "restTick", desc := "(LPendulumGym;I[J)I" } : Jvm.MethodName)) ∈ lw_all := lw_g (lw_at lw_m4 105 rfl) rfl
theorem q893 : (Jvm.Cond.codeWith ({ cls := "PendulumGymLaw", name := "restTick", desc := "(LPendulumGym;I[J)I" } : Jvm.MethodName) method_20_code (4 : Nat) (Option.some Jvm.ClassFile.FieldType.int) [((0 : Nat), (9 : Nat), (12 : Nat), (21 : Nat)), ((0 : Nat), (9 : Nat), (15 : Nat), (44 : Nat))]) ∈ lw_all := lw_g (lw_at lw_m4 106 rfl) rfl
theorem q894 : (Jvm.Cond.methodLink "PendulumGymLaw" (70 : Nat) ({ cls := "PendulumGym", name := "restTick", desc := "(I)I" } : Jvm.MethodName)) ∈ lw_all := lw_g (lw_at lw_m4 107 rfl) rfl
theorem q899 : (Jvm.Cond.methodLink "PendulumGymLaw" (222 : Nat) ({ cls := "PendulumGymLaw", name := "amplitudeAfter", desc := "(LPendulumGym;II[J)I" } : Jvm.MethodName)) ∈ lw_all := lw_g (lw_at lw_m4 112 rfl) rfl
theorem q900 : (Jvm.Cond.static ({ cls := "PendulumGymLaw", name := "amplitudeAfter", desc := "(LPendulumGym;II[J)I" } : Jvm.MethodName)) ∈ lw_all := lw_g (lw_at lw_m4 113 rfl) rfl
theorem q901 : (Jvm.Cond.codeWith ({ cls := "PendulumGymLaw", name := "amplitudeAfter", desc := "(LPendulumGym;II[J)I" } : Jvm.MethodName) method_21_code (5 : Nat) (Option.some Jvm.ClassFile.FieldType.int) [((0 : Nat), (10 : Nat), (13 : Nat), (21 : Nat)), ((0 : Nat), (10 : Nat), (17 : Nat), (13 : Nat))]) ∈ lw_all := lw_g (lw_at lw_m4 114 rfl) rfl
theorem q902 : (Jvm.Cond.methodLink "PendulumGymLaw" (73 : Nat) ({ cls := "PendulumGym", name := "amplitudeAfter", desc := "(II)I" } : Jvm.MethodName)) ∈ lw_all := lw_g (lw_at lw_m4 115 rfl) rfl
theorem q908 : (Jvm.Cond.methodLink "PendulumGymLaw" (225 : Nat) ({ cls := "PendulumGymLaw", name := "meeting", desc := "(LPendulumGym;II[J)I" } : Jvm.MethodName)) ∈ lw_all := lw_g (lw_at lw_m4 121 rfl) rfl
theorem q909 : (Jvm.Cond.static ({ cls := "PendulumGymLaw", name := "meeting", desc := "(LPendulumGym;II[J)I" } : Jvm.MethodName)) ∈ lw_all := lw_g (lw_at lw_m4 122 rfl) rfl
theorem q910 : (Jvm.Cond.codeWith ({ cls := "PendulumGymLaw", name := "meeting", desc := "(LPendulumGym;II[J)I" } : Jvm.MethodName) method_22_code (5 : Nat) (Option.some Jvm.ClassFile.FieldType.int) [((0 : Nat), (10 : Nat), (13 : Nat), (21 : Nat)), ((0 : Nat), (10 : Nat), (17 : Nat), (15 : Nat)), ((0 : Nat), (10 : Nat), (21 : Nat), (44 : Nat))]) ∈ lw_all := lw_g (lw_at lw_m4 123 rfl) rfl
theorem q911 : (Jvm.Cond.methodLink "PendulumGymLaw" (76 : Nat) ({ cls := "PendulumGym", name := "meeting", desc := "(II)I" } : Jvm.MethodName)) ∈ lw_all := lw_g (lw_at lw_m4 124 rfl) rfl
theorem q919 : (Jvm.Cond.methodLink "PendulumGymLaw" (228 : Nat) ({ cls := "PendulumGymLaw", name := "meetingByDivisors", desc := "(LPendulumGym;II[J)I" } : Jvm.MethodName)) ∈ lw_all := lw_g (lw_at lw_m4 132 rfl) rfl
theorem q920 : (Jvm.Cond.static ({ cls := "PendulumGymLaw", name := "meetingByDivisors", desc := "(LPendulumGym;II[J)I" } : Jvm.MethodName)) ∈ lw_all := lw_g (lw_at lw_m4 133 rfl) rfl
theorem q921 : (Jvm.Cond.codeWith ({ cls := "PendulumGymLaw", name := "meetingByDivisors", desc := "(LPendulumGym;II[J)I" } : Jvm.MethodName) method_23_code (5 : Nat) (Option.some Jvm.ClassFile.FieldType.int) [((0 : Nat), (10 : Nat), (13 : Nat), (21 : Nat)), ((0 : Nat), (10 : Nat), (17 : Nat), (15 : Nat)), ((0 : Nat), (10 : Nat), (21 : Nat), (44 : Nat))]) ∈ lw_all := lw_g (lw_at lw_m4 134 rfl) rfl
theorem q922 : (Jvm.Cond.methodLink "PendulumGymLaw" (79 : Nat) ({ cls := "PendulumGym", name := "meetingByDivisors", desc := "(II)I" } : Jvm.MethodName)) ∈ lw_all := lw_g (lw_at lw_m4 135 rfl) rfl
theorem q932 : (Jvm.Cond.methodLink "PendulumGymLaw" (235 : Nat) ({ cls := "PendulumGymLaw", name := "cycleOf", desc := "(LPendulumGym;II[J)I" } : Jvm.MethodName)) ∈ lw_all := lw_g (lw_at lw_m4 145 rfl) rfl
theorem q933 : (Jvm.Cond.static ({ cls := "PendulumGymLaw", name := "cycleOf", desc := "(LPendulumGym;II[J)I" } : Jvm.MethodName)) ∈ lw_all := lw_g (lw_at lw_m4 146 rfl) rfl
theorem q934 : (Jvm.Cond.codeWith ({ cls := "PendulumGymLaw", name := "cycleOf", desc := "(LPendulumGym;II[J)I" } : Jvm.MethodName) method_24_code (5 : Nat) (Option.some Jvm.ClassFile.FieldType.int) [((0 : Nat), (10 : Nat), (13 : Nat), (21 : Nat))]) ∈ lw_all := lw_g (lw_at lw_m4 147 rfl) rfl
theorem q935 : (Jvm.Cond.methodLink "PendulumGymLaw" (82 : Nat) ({ cls := "PendulumGym", name := "cycleOf", desc := "(II)I" } : Jvm.MethodName)) ∈ lw_all := lw_g (lw_at lw_m4 148 rfl) rfl
theorem q939 : (Jvm.Cond.methodLink "PendulumGymLaw" (238 : Nat) ({ cls := "PendulumGymLaw", name := "addLeg", desc := "(LPendulumGym;I[J)I" } : Jvm.MethodName)) ∈ lw_all := lw_g (lw_at lw_m4 152 rfl) rfl
theorem q940 : (Jvm.Cond.static ({ cls := "PendulumGymLaw", name := "addLeg", desc := "(LPendulumGym;I[J)I" } : Jvm.MethodName)) ∈ lw_all := lw_g (lw_at lw_m4 153 rfl) rfl
theorem q941 : (Jvm.Cond.codeWith ({ cls := "PendulumGymLaw", name := "addLeg", desc := "(LPendulumGym;I[J)I" } : Jvm.MethodName) method_25_code (4 : Nat) (Option.some Jvm.ClassFile.FieldType.int) [((0 : Nat), (9 : Nat), (12 : Nat), (13 : Nat)), ((0 : Nat), (9 : Nat), (15 : Nat), (15 : Nat))]) ∈ lw_all := lw_g (lw_at lw_m4 154 rfl) rfl
theorem q942 : (Jvm.Cond.methodLink "PendulumGymLaw" (85 : Nat) ({ cls := "PendulumGym", name := "addLeg", desc := "(I)I" } : Jvm.MethodName)) ∈ lw_all := lw_g (lw_at lw_m4 155 rfl) rfl
theorem q972 : (Jvm.Cond.methodLink "PendulumGymLaw" (241 : Nat) ({ cls := "PendulumGymLaw", name := "removeLeg", desc := "(LPendulumGym;I[J)I" } : Jvm.MethodName)) ∈ lw_all := lw_g (lw_at lw_m4 185 rfl) rfl
theorem q973 : (Jvm.Cond.static ({ cls := "PendulumGymLaw", name := "removeLeg", desc := "(LPendulumGym;I[J)I" } : Jvm.MethodName)) ∈ lw_all := lw_g (lw_at lw_m4 186 rfl) rfl
theorem q974 : (Jvm.Cond.codeWith ({ cls := "PendulumGymLaw", name := "removeLeg", desc := "(LPendulumGym;I[J)I" } : Jvm.MethodName) method_26_code (4 : Nat) (Option.some Jvm.ClassFile.FieldType.int) [((0 : Nat), (9 : Nat), (12 : Nat), (21 : Nat))]) ∈ lw_all := lw_g (lw_at lw_m4 187 rfl) rfl
theorem q975 : (Jvm.Cond.methodLink "PendulumGymLaw" (88 : Nat) ({ cls := "PendulumGym", name := "removeLeg", desc := "(I)I" } : Jvm.MethodName)) ∈ lw_all := lw_g (lw_at lw_m4 188 rfl) rfl
theorem q998 : (Jvm.Cond.methodLink "PendulumGymLaw" (248 : Nat) ({ cls := "PendulumGymLaw", name := "wishOf", desc := "(LPendulumGym;I[J)I" } : Jvm.MethodName)) ∈ lw_all := lw_g (lw_at lw_m4 211 rfl) rfl
theorem q999 : (Jvm.Cond.static ({ cls := "PendulumGymLaw", name := "wishOf", desc := "(LPendulumGym;I[J)I" } : Jvm.MethodName)) ∈ lw_all := lw_g (lw_at lw_m4 212 rfl) rfl
theorem q1000 : (Jvm.Cond.codeWith ({ cls := "PendulumGymLaw", name := "wishOf", desc := "(LPendulumGym;I[J)I" } : Jvm.MethodName) method_27_code (4 : Nat) (Option.some Jvm.ClassFile.FieldType.int) [((0 : Nat), (9 : Nat), (12 : Nat), (21 : Nat))]) ∈ lw_all := lw_g (lw_at lw_m4 213 rfl) rfl
theorem q1001 : (Jvm.Cond.methodLink "PendulumGymLaw" (91 : Nat) ({ cls := "PendulumGym", name := "wishOf", desc := "(I)I" } : Jvm.MethodName)) ∈ lw_all := lw_g (lw_at lw_m4 214 rfl) rfl
theorem q1008 : (Jvm.Cond.methodLink "PendulumGymLaw" (251 : Nat) ({ cls := "PendulumGymLaw", name := "leastRelay", desc := "(LPendulumGym;[J)I" } : Jvm.MethodName)) ∈ lw_all := lw_g (lw_at lw_m4 221 rfl) rfl
theorem q1009 : (Jvm.Cond.static ({ cls := "PendulumGymLaw", name := "leastRelay", desc := "(LPendulumGym;[J)I" } : Jvm.MethodName)) ∈ lw_all := lw_g (lw_at lw_m4 222 rfl) rfl
theorem q1010 : (Jvm.Cond.codeWith ({ cls := "PendulumGymLaw", name := "leastRelay", desc := "(LPendulumGym;[J)I" } : Jvm.MethodName) method_28_code (3 : Nat) (Option.some Jvm.ClassFile.FieldType.int) [((0 : Nat), (8 : Nat), (11 : Nat), (15 : Nat))]) ∈ lw_all := lw_g (lw_at lw_m4 223 rfl) rfl
theorem q1011 : (Jvm.Cond.methodLink "PendulumGymLaw" (94 : Nat) ({ cls := "PendulumGym", name := "leastRelay", desc := "()I" } : Jvm.MethodName)) ∈ lw_all := lw_g (lw_at lw_m4 224 rfl) rfl
theorem q1068 : (Jvm.Cond.methodLink "PendulumGymLaw" (255 : Nat) ({ cls := "PendulumGymLaw", name := "leastRelayByTrying", desc := "(LPendulumGym;[J)I" } : Jvm.MethodName)) ∈ lw_all := lw_g (lw_at lw_m5 41 rfl) rfl
theorem q1069 : (Jvm.Cond.static ({ cls := "PendulumGymLaw", name := "leastRelayByTrying", desc := "(LPendulumGym;[J)I" } : Jvm.MethodName)) ∈ lw_all := lw_g (lw_at lw_m5 42 rfl) rfl
theorem q1070 : (Jvm.Cond.codeWith ({ cls := "PendulumGymLaw", name := "leastRelayByTrying", desc := "(LPendulumGym;[J)I" } : Jvm.MethodName) method_29_code (3 : Nat) (Option.some Jvm.ClassFile.FieldType.int) [((0 : Nat), (8 : Nat), (11 : Nat), (15 : Nat))]) ∈ lw_all := lw_g (lw_at lw_m5 43 rfl) rfl
theorem q1071 : (Jvm.Cond.methodLink "PendulumGymLaw" (98 : Nat) ({ cls := "PendulumGym", name := "leastRelayByTrying", desc := "()I" } : Jvm.MethodName)) ∈ lw_all := lw_g (lw_at lw_m5 44 rfl) rfl
theorem q1102 : (Jvm.Cond.methodLink "PendulumGymLaw" (258 : Nat) ({ cls := "PendulumGymLaw", name := "runnerOf", desc := "(LPendulumGym;I[J)I" } : Jvm.MethodName)) ∈ lw_all := lw_g (lw_at lw_m5 75 rfl) rfl
theorem q1103 : (Jvm.Cond.static ({ cls := "PendulumGymLaw", name := "runnerOf", desc := "(LPendulumGym;I[J)I" } : Jvm.MethodName)) ∈ lw_all := lw_g (lw_at lw_m5 76 rfl) rfl
theorem q1104 : (Jvm.Cond.codeWith ({ cls := "PendulumGymLaw", name := "runnerOf", desc := "(LPendulumGym;I[J)I" } : Jvm.MethodName) method_30_code (4 : Nat) (Option.some Jvm.ClassFile.FieldType.int) [((0 : Nat), (9 : Nat), (12 : Nat), (21 : Nat)), ((0 : Nat), (9 : Nat), (15 : Nat), (15 : Nat))]) ∈ lw_all := lw_g (lw_at lw_m5 77 rfl) rfl
theorem q1105 : (Jvm.Cond.methodLink "PendulumGymLaw" (101 : Nat) ({ cls := "PendulumGym", name := "runnerOf", desc := "(I)I" } : Jvm.MethodName)) ∈ lw_all := lw_g (lw_at lw_m5 78 rfl) rfl
theorem q1116 : (Jvm.Cond.methodLink "PendulumGymLaw" (261 : Nat) ({ cls := "PendulumGymLaw", name := "fewestFor", desc := "(LPendulumGym;I[J)I" } : Jvm.MethodName)) ∈ lw_all := lw_g (lw_at lw_m5 89 rfl) rfl
theorem q1117 : (Jvm.Cond.static ({ cls := "PendulumGymLaw", name := "fewestFor", desc := "(LPendulumGym;I[J)I" } : Jvm.MethodName)) ∈ lw_all := lw_g (lw_at lw_m5 90 rfl) rfl
theorem q1118 : (Jvm.Cond.codeWith ({ cls := "PendulumGymLaw", name := "fewestFor", desc := "(LPendulumGym;I[J)I" } : Jvm.MethodName) method_31_code (4 : Nat) (Option.some Jvm.ClassFile.FieldType.int) [((0 : Nat), (9 : Nat), (12 : Nat), (13 : Nat)), ((0 : Nat), (9 : Nat), (15 : Nat), (44 : Nat))]) ∈ lw_all := lw_g (lw_at lw_m5 91 rfl) rfl
theorem q1119 : (Jvm.Cond.methodLink "PendulumGymLaw" (104 : Nat) ({ cls := "PendulumGym", name := "fewestFor", desc := "(I)I" } : Jvm.MethodName)) ∈ lw_all := lw_g (lw_at lw_m5 92 rfl) rfl
theorem q1134 : (Jvm.Cond.methodLink "PendulumGymLaw" (264 : Nat) ({ cls := "PendulumGymLaw", name := "fewestForBySets", desc := "(LPendulumGym;I[J)I" } : Jvm.MethodName)) ∈ lw_all := lw_g (lw_at lw_m5 107 rfl) rfl
theorem q1135 : (Jvm.Cond.static ({ cls := "PendulumGymLaw", name := "fewestForBySets", desc := "(LPendulumGym;I[J)I" } : Jvm.MethodName)) ∈ lw_all := lw_g (lw_at lw_m5 108 rfl) rfl
theorem q1136 : (Jvm.Cond.codeWith ({ cls := "PendulumGymLaw", name := "fewestForBySets", desc := "(LPendulumGym;I[J)I" } : Jvm.MethodName) method_32_code (4 : Nat) (Option.some Jvm.ClassFile.FieldType.int) [((0 : Nat), (9 : Nat), (12 : Nat), (13 : Nat)), ((0 : Nat), (9 : Nat), (15 : Nat), (44 : Nat))]) ∈ lw_all := lw_g (lw_at lw_m5 109 rfl) rfl
theorem q1137 : (Jvm.Cond.methodLink "PendulumGymLaw" (107 : Nat) ({ cls := "PendulumGym", name := "fewestForBySets", desc := "(I)I" } : Jvm.MethodName)) ∈ lw_all := lw_g (lw_at lw_m5 110 rfl) rfl
theorem q1152 : (Jvm.Cond.methodLink "PendulumGymLaw" (267 : Nat) ({ cls := "PendulumGymLaw", name := "exactSets", desc := "(LPendulumGym;I[J)I" } : Jvm.MethodName)) ∈ lw_all := lw_g (lw_at lw_m5 125 rfl) rfl
theorem q1153 : (Jvm.Cond.static ({ cls := "PendulumGymLaw", name := "exactSets", desc := "(LPendulumGym;I[J)I" } : Jvm.MethodName)) ∈ lw_all := lw_g (lw_at lw_m5 126 rfl) rfl
theorem q1154 : (Jvm.Cond.codeWith ({ cls := "PendulumGymLaw", name := "exactSets", desc := "(LPendulumGym;I[J)I" } : Jvm.MethodName) method_33_code (4 : Nat) (Option.some Jvm.ClassFile.FieldType.int) [((0 : Nat), (9 : Nat), (12 : Nat), (13 : Nat))]) ∈ lw_all := lw_g (lw_at lw_m5 127 rfl) rfl
theorem q1155 : (Jvm.Cond.methodLink "PendulumGymLaw" (110 : Nat) ({ cls := "PendulumGym", name := "exactSets", desc := "(I)I" } : Jvm.MethodName)) ∈ lw_all := lw_g (lw_at lw_m5 128 rfl) rfl
theorem q1161 : (Jvm.Cond.methodLink "PendulumGymLaw" (270 : Nat) ({ cls := "PendulumGymLaw", name := "meanAmplitude", desc := "(LPendulumGym;[D)I" } : Jvm.MethodName)) ∈ lw_all := lw_g (lw_at lw_m5 134 rfl) rfl
theorem q1162 : (Jvm.Cond.static ({ cls := "PendulumGymLaw", name := "meanAmplitude", desc := "(LPendulumGym;[D)I" } : Jvm.MethodName)) ∈ lw_all := lw_g (lw_at lw_m5 135 rfl) rfl
theorem q1163 : (Jvm.Cond.codeWith ({ cls := "PendulumGymLaw", name := "meanAmplitude", desc := "(LPendulumGym;[D)I" } : Jvm.MethodName) method_34_code (3 : Nat) (Option.some Jvm.ClassFile.FieldType.int) [((0 : Nat), (7 : Nat), (10 : Nat), (117 : Nat))]) ∈ lw_all := lw_g (lw_at lw_m5 136 rfl) rfl
theorem q1164 : (Jvm.Cond.classLink "PendulumGymLaw" (117 : Nat) "java/lang/ArithmeticException") ∈ lw_all := lw_g (lw_at lw_m5 137 rfl) rfl
theorem q1178 : (Jvm.Cond.methodLink "PendulumGymLaw" (113 : Nat) ({ cls := "PendulumGym", name := "meanAmplitude", desc := "()D" } : Jvm.MethodName)) ∈ lw_all := lw_g (lw_at lw_m5 151 rfl) rfl
theorem q1187 : (Jvm.Cond.methodLink "PendulumGymLaw" (274 : Nat) ({ cls := "PendulumGymLaw", name := "writeCard", desc := "(LPendulumGym;I[J)I" } : Jvm.MethodName)) ∈ lw_all := lw_g (lw_at lw_m5 160 rfl) rfl
theorem q1188 : (Jvm.Cond.static ({ cls := "PendulumGymLaw", name := "writeCard", desc := "(LPendulumGym;I[J)I" } : Jvm.MethodName)) ∈ lw_all := lw_g (lw_at lw_m5 161 rfl) rfl
theorem q1189 : (Jvm.Cond.codeWith ({ cls := "PendulumGymLaw", name := "writeCard", desc := "(LPendulumGym;I[J)I" } : Jvm.MethodName) method_35_code (4 : Nat) (Option.some Jvm.ClassFile.FieldType.int) [((0 : Nat), (9 : Nat), (12 : Nat), (21 : Nat))]) ∈ lw_all := lw_g (lw_at lw_m5 162 rfl) rfl
theorem q1190 : (Jvm.Cond.methodLink "PendulumGymLaw" (119 : Nat) ({ cls := "PendulumGym", name := "writeCard", desc := "(I)I" } : Jvm.MethodName)) ∈ lw_all := lw_g (lw_at lw_m5 163 rfl) rfl
theorem q1415 : (Jvm.Cond.methodLink "PendulumGymLaw" (277 : Nat) ({ cls := "PendulumGymLaw", name := "cardAt", desc := "(LPendulumGym;I[J)I" } : Jvm.MethodName)) ∈ lw_all := lw_g (lw_at lw_m6 148 rfl) rfl
theorem q1416 : (Jvm.Cond.static ({ cls := "PendulumGymLaw", name := "cardAt", desc := "(LPendulumGym;I[J)I" } : Jvm.MethodName)) ∈ lw_all := lw_g (lw_at lw_m6 149 rfl) rfl
theorem q1417 : (Jvm.Cond.codeWith ({ cls := "PendulumGymLaw", name := "cardAt", desc := "(LPendulumGym;I[J)I" } : Jvm.MethodName) method_36_code (4 : Nat) (Option.some Jvm.ClassFile.FieldType.int) [((0 : Nat), (9 : Nat), (12 : Nat), (21 : Nat))]) ∈ lw_all := lw_g (lw_at lw_m6 150 rfl) rfl
theorem q1418 : (Jvm.Cond.methodLink "PendulumGymLaw" (122 : Nat) ({ cls := "PendulumGym", name := "cardAt", desc := "(I)C" } : Jvm.MethodName)) ∈ lw_all := lw_g (lw_at lw_m6 151 rfl) rfl
theorem q1437 : (Jvm.Cond.methodLink "PendulumGymLaw" (280 : Nat) ({ cls := "PendulumGymLaw", name := "type", desc := "(LPendulumGym;C[J)I" } : Jvm.MethodName)) ∈ lw_all := lw_g (lw_at lw_m6 170 rfl) rfl
theorem q1438 : (Jvm.Cond.static ({ cls := "PendulumGymLaw", name := "type", desc := "(LPendulumGym;C[J)I" } : Jvm.MethodName)) ∈ lw_all := lw_g (lw_at lw_m6 171 rfl) rfl
theorem q1439 : (Jvm.Cond.codeWith ({ cls := "PendulumGymLaw", name := "type", desc := "(LPendulumGym;C[J)I" } : Jvm.MethodName) method_37_code (4 : Nat) (Option.some Jvm.ClassFile.FieldType.int) [((0 : Nat), (9 : Nat), (12 : Nat), (13 : Nat)), ((0 : Nat), (9 : Nat), (15 : Nat), (15 : Nat))]) ∈ lw_all := lw_g (lw_at lw_m6 172 rfl) rfl
theorem q1440 : (Jvm.Cond.methodLink "PendulumGymLaw" (126 : Nat) ({ cls := "PendulumGym", name := "type", desc := "(C)I" } : Jvm.MethodName)) ∈ lw_all := lw_g (lw_at lw_m6 173 rfl) rfl
theorem q1445 : (Jvm.Cond.methodLink "PendulumGymLaw" (284 : Nat) ({ cls := "PendulumGymLaw", name := "execute", desc := "(LPendulumGym;[J)I" } : Jvm.MethodName)) ∈ lw_all := lw_g (lw_at lw_m6 178 rfl) rfl
theorem q1446 : (Jvm.Cond.static ({ cls := "PendulumGymLaw", name := "execute", desc := "(LPendulumGym;[J)I" } : Jvm.MethodName)) ∈ lw_all := lw_g (lw_at lw_m6 179 rfl) rfl
theorem q1447 : (Jvm.Cond.codeWith ({ cls := "PendulumGymLaw", name := "execute", desc := "(LPendulumGym;[J)I" } : Jvm.MethodName) method_38_code (3 : Nat) (Option.some Jvm.ClassFile.FieldType.int) [((0 : Nat), (8 : Nat), (11 : Nat), (13 : Nat)), ((0 : Nat), (8 : Nat), (14 : Nat), (15 : Nat))]) ∈ lw_all := lw_g (lw_at lw_m6 180 rfl) rfl
theorem q1448 : (Jvm.Cond.methodLink "PendulumGymLaw" (130 : Nat) ({ cls := "PendulumGym", name := "execute", desc := "()I" } : Jvm.MethodName)) ∈ lw_all := lw_g (lw_at lw_m6 181 rfl) rfl
theorem q1629 : (Jvm.Cond.methodLink "PendulumGymLaw" (287 : Nat) ({ cls := "PendulumGymLaw", name := "errorPosition", desc := "(LPendulumGym;[J)I" } : Jvm.MethodName)) ∈ lw_all := lw_g (lw_at lw_m7 122 rfl) rfl
theorem q1630 : (Jvm.Cond.static ({ cls := "PendulumGymLaw", name := "errorPosition", desc := "(LPendulumGym;[J)I" } : Jvm.MethodName)) ∈ lw_all := lw_g (lw_at lw_m7 123 rfl) rfl
theorem q1631 : (Jvm.Cond.codeWith ({ cls := "PendulumGymLaw", name := "errorPosition", desc := "(LPendulumGym;[J)I" } : Jvm.MethodName) method_39_code (3 : Nat) (Option.some Jvm.ClassFile.FieldType.int) [((0 : Nat), (8 : Nat), (11 : Nat), (44 : Nat))]) ∈ lw_all := lw_g (lw_at lw_m7 124 rfl) rfl
theorem q1632 : (Jvm.Cond.methodLink "PendulumGymLaw" (133 : Nat) ({ cls := "PendulumGym", name := "errorPosition", desc := "()I" } : Jvm.MethodName)) ∈ lw_all := lw_g (lw_at lw_m7 125 rfl) rfl
theorem q1636 : (Jvm.Cond.methodLink "PendulumGymLaw" (290 : Nat) ({ cls := "PendulumGymLaw", name := "failedCommand", desc := "(LPendulumGym;[J)I" } : Jvm.MethodName)) ∈ lw_all := lw_g (lw_at lw_m7 129 rfl) rfl
theorem q1637 : (Jvm.Cond.static ({ cls := "PendulumGymLaw", name := "failedCommand", desc := "(LPendulumGym;[J)I" } : Jvm.MethodName)) ∈ lw_all := lw_g (lw_at lw_m7 130 rfl) rfl
theorem q1638 : (Jvm.Cond.codeWith ({ cls := "PendulumGymLaw", name := "failedCommand", desc := "(LPendulumGym;[J)I" } : Jvm.MethodName) method_40_code (3 : Nat) (Option.some Jvm.ClassFile.FieldType.int) [((0 : Nat), (8 : Nat), (11 : Nat), (44 : Nat))]) ∈ lw_all := lw_g (lw_at lw_m7 131 rfl) rfl
theorem q1639 : (Jvm.Cond.methodLink "PendulumGymLaw" (136 : Nat) ({ cls := "PendulumGym", name := "failedCommand", desc := "()I" } : Jvm.MethodName)) ∈ lw_all := lw_g (lw_at lw_m7 132 rfl) rfl
theorem q1643 : (Jvm.Cond.methodLink "PendulumGymLaw" (293 : Nat) ({ cls := "PendulumGymLaw", name := "undo", desc := "(LPendulumGym;[J)I" } : Jvm.MethodName)) ∈ lw_all := lw_g (lw_at lw_m7 136 rfl) rfl
theorem q1644 : (Jvm.Cond.static ({ cls := "PendulumGymLaw", name := "undo", desc := "(LPendulumGym;[J)I" } : Jvm.MethodName)) ∈ lw_all := lw_g (lw_at lw_m7 137 rfl) rfl
theorem q1645 : (Jvm.Cond.codeWith ({ cls := "PendulumGymLaw", name := "undo", desc := "(LPendulumGym;[J)I" } : Jvm.MethodName) method_41_code (3 : Nat) (Option.some Jvm.ClassFile.FieldType.int) [((0 : Nat), (8 : Nat), (11 : Nat), (15 : Nat))]) ∈ lw_all := lw_g (lw_at lw_m7 138 rfl) rfl
theorem q1646 : (Jvm.Cond.methodLink "PendulumGymLaw" (139 : Nat) ({ cls := "PendulumGym", name := "undo", desc := "()I" } : Jvm.MethodName)) ∈ lw_all := lw_g (lw_at lw_m7 139 rfl) rfl
theorem q1669 : (Jvm.Cond.methodLink "PendulumGymLaw" (300 : Nat) ({ cls := "PendulumGymLaw", name := "restore", desc := "(LPendulumGym;[J)I" } : Jvm.MethodName)) ∈ lw_all := lw_g (lw_at lw_m7 162 rfl) rfl
theorem q1670 : (Jvm.Cond.static ({ cls := "PendulumGymLaw", name := "restore", desc := "(LPendulumGym;[J)I" } : Jvm.MethodName)) ∈ lw_all := lw_g (lw_at lw_m7 163 rfl) rfl
theorem q1671 : (Jvm.Cond.codeWith ({ cls := "PendulumGymLaw", name := "restore", desc := "(LPendulumGym;[J)I" } : Jvm.MethodName) method_42_code (3 : Nat) (Option.some Jvm.ClassFile.FieldType.int) [((0 : Nat), (8 : Nat), (11 : Nat), (15 : Nat))]) ∈ lw_all := lw_g (lw_at lw_m7 164 rfl) rfl
theorem q1672 : (Jvm.Cond.methodLink "PendulumGymLaw" (142 : Nat) ({ cls := "PendulumGym", name := "restore", desc := "()I" } : Jvm.MethodName)) ∈ lw_all := lw_g (lw_at lw_m7 165 rfl) rfl
theorem q1683 : (Jvm.Cond.classLink "PendulumGymLaw" (146 : Nat) "PendulumGymModel") ∈ lw_all := lw_g (lw_at lw_m7 176 rfl) rfl
theorem q1685 : (Jvm.Cond.methodLink "PendulumGymLaw" (148 : Nat) ({ cls := "PendulumGymModel", name := "<init>", desc := "()V" } : Jvm.MethodName)) ∈ lw_all := lw_g (lw_at lw_m7 178 rfl) rfl
theorem q1742 : (Jvm.Cond.methodLink "PendulumGymLaw" (155 : Nat) ({ cls := "PendulumGymModel", name := "thrown", desc := "()I" } : Jvm.MethodName)) ∈ lw_all := lw_g (lw_at lw_m7 235 rfl) rfl
theorem q1746 : (Jvm.Cond.methodLink "PendulumGymLaw" (154 : Nat) ({ cls := "PendulumGymModel", name := "addPendulum", desc := "(I)I" } : Jvm.MethodName)) ∈ lw_all := lw_g (lw_at lw_m7 239 rfl) rfl
theorem q1776 : (Jvm.Cond.methodLink "PendulumGymLaw" (161 : Nat) ({ cls := "PendulumGymModel", name := "push", desc := "(II)I" } : Jvm.MethodName)) ∈ lw_all := lw_g (lw_at lw_m8 29 rfl) rfl
theorem q1796 : (Jvm.Cond.methodLink "PendulumGymLaw" (164 : Nat) ({ cls := "PendulumGymModel", name := "catchPendulum", desc := "(I)I" } : Jvm.MethodName)) ∈ lw_all := lw_g (lw_at lw_m8 49 rfl) rfl
theorem q1804 : (Jvm.Cond.methodLink "PendulumGymLaw" (167 : Nat) ({ cls := "PendulumGymModel", name := "setFriction", desc := "(I)I" } : Jvm.MethodName)) ∈ lw_all := lw_g (lw_at lw_m8 57 rfl) rfl
theorem q1812 : (Jvm.Cond.methodLink "PendulumGymLaw" (170 : Nat) ({ cls := "PendulumGymModel", name := "pass", desc := "(I)I" } : Jvm.MethodName)) ∈ lw_all := lw_g (lw_at lw_m8 65 rfl) rfl
theorem q1832 : (Jvm.Cond.methodLink "PendulumGymLaw" (174 : Nat) ({ cls := "PendulumGymModel", name := "pendulumCount", desc := "()I" } : Jvm.MethodName)) ∈ lw_all := lw_g (lw_at lw_m8 85 rfl) rfl
theorem q1836 : (Jvm.Cond.methodLink "PendulumGymLaw" (177 : Nat) ({ cls := "PendulumGymModel", name := "lengthOf", desc := "(I)I" } : Jvm.MethodName)) ∈ lw_all := lw_g (lw_at lw_m8 89 rfl) rfl
theorem q1844 : (Jvm.Cond.methodLink "PendulumGymLaw" (180 : Nat) ({ cls := "PendulumGymModel", name := "classOf", desc := "(I)I" } : Jvm.MethodName)) ∈ lw_all := lw_g (lw_at lw_m8 97 rfl) rfl
theorem q1848 : (Jvm.Cond.methodLink "PendulumGymLaw" (183 : Nat) ({ cls := "PendulumGymModel", name := "amplitudeOf", desc := "(I)I" } : Jvm.MethodName)) ∈ lw_all := lw_g (lw_at lw_m8 101 rfl) rfl
theorem q1852 : (Jvm.Cond.methodLink "PendulumGymLaw" (186 : Nat) ({ cls := "PendulumGymModel", name := "startOf", desc := "(I)I" } : Jvm.MethodName)) ∈ lw_all := lw_g (lw_at lw_m8 105 rfl) rfl
theorem q1856 : (Jvm.Cond.methodLink "PendulumGymLaw" (189 : Nat) ({ cls := "PendulumGymModel", name := "periodOf", desc := "(I)I" } : Jvm.MethodName)) ∈ lw_all := lw_g (lw_at lw_m8 109 rfl) rfl
theorem q1860 : (Jvm.Cond.methodLink "PendulumGymLaw" (192 : Nat) ({ cls := "PendulumGymModel", name := "periodByEstimates", desc := "(I)I" } : Jvm.MethodName)) ∈ lw_all := lw_g (lw_at lw_m8 113 rfl) rfl
theorem q1865 : (Jvm.Cond.methodLink "PendulumGymLaw" (195 : Nat) ({ cls := "PendulumGymModel", name := "swingsOf", desc := "(I)I" } : Jvm.MethodName)) ∈ lw_all := lw_g (lw_at lw_m8 118 rfl) rfl
theorem q1869 : (Jvm.Cond.methodLink "PendulumGymLaw" (199 : Nat) ({ cls := "PendulumGymModel", name := "clock", desc := "()I" } : Jvm.MethodName)) ∈ lw_all := lw_g (lw_at lw_m8 122 rfl) rfl
theorem q1873 : (Jvm.Cond.methodLink "PendulumGymLaw" (203 : Nat) ({ cls := "PendulumGymModel", name := "friction", desc := "()I" } : Jvm.MethodName)) ∈ lw_all := lw_g (lw_at lw_m8 126 rfl) rfl
theorem q1877 : (Jvm.Cond.methodLink "PendulumGymLaw" (206 : Nat) ({ cls := "PendulumGymModel", name := "recordOf", desc := "(I)I" } : Jvm.MethodName)) ∈ lw_all := lw_g (lw_at lw_m8 130 rfl) rfl
theorem q1885 : (Jvm.Cond.methodLink "PendulumGymLaw" (209 : Nat) ({ cls := "PendulumGymModel", name := "holderOf", desc := "(I)I" } : Jvm.MethodName)) ∈ lw_all := lw_g (lw_at lw_m8 138 rfl) rfl
theorem q1889 : (Jvm.Cond.methodLink "PendulumGymLaw" (212 : Nat) ({ cls := "PendulumGymModel", name := "pendulumAtRank", desc := "(I)I" } : Jvm.MethodName)) ∈ lw_all := lw_g (lw_at lw_m8 142 rfl) rfl
theorem q1897 : (Jvm.Cond.methodLink "PendulumGymLaw" (215 : Nat) ({ cls := "PendulumGymModel", name := "swingsToRest", desc := "(I)I" } : Jvm.MethodName)) ∈ lw_all := lw_g (lw_at lw_m8 150 rfl) rfl
theorem q1905 : (Jvm.Cond.methodLink "PendulumGymLaw" (218 : Nat) ({ cls := "PendulumGymModel", name := "swingsToRestByTable", desc := "(I)I" } : Jvm.MethodName)) ∈ lw_all := lw_g (lw_at lw_m8 158 rfl) rfl
theorem q1910 : (Jvm.Cond.methodLink "PendulumGymLaw" (221 : Nat) ({ cls := "PendulumGymModel", name := "restTick", desc := "(I)I" } : Jvm.MethodName)) ∈ lw_all := lw_g (lw_at lw_m8 163 rfl) rfl
theorem q1918 : (Jvm.Cond.methodLink "PendulumGymLaw" (224 : Nat) ({ cls := "PendulumGymModel", name := "amplitudeAfter", desc := "(II)I" } : Jvm.MethodName)) ∈ lw_all := lw_g (lw_at lw_m8 171 rfl) rfl
theorem q1922 : (Jvm.Cond.methodLink "PendulumGymLaw" (227 : Nat) ({ cls := "PendulumGymModel", name := "meeting", desc := "(II)I" } : Jvm.MethodName)) ∈ lw_all := lw_g (lw_at lw_m8 175 rfl) rfl
theorem q1937 : (Jvm.Cond.methodLink "PendulumGymLaw" (230 : Nat) ({ cls := "PendulumGymModel", name := "meetingByDivisors", desc := "(II)I" } : Jvm.MethodName)) ∈ lw_all := lw_g (lw_at lw_m8 190 rfl) rfl
theorem q1942 : (Jvm.Cond.methodLink "PendulumGymLaw" (234 : Nat) ({ cls := "PendulumGymModel", name := "meetingPairs", desc := "()I" } : Jvm.MethodName)) ∈ lw_all := lw_g (lw_at lw_m8 195 rfl) rfl
theorem q1949 : (Jvm.Cond.methodLink "PendulumGymLaw" (237 : Nat) ({ cls := "PendulumGymModel", name := "cycleOf", desc := "(II)I" } : Jvm.MethodName)) ∈ lw_all := lw_g (lw_at lw_m8 202 rfl) rfl
theorem q1953 : (Jvm.Cond.methodLink "PendulumGymLaw" (240 : Nat) ({ cls := "PendulumGymModel", name := "addLeg", desc := "(I)I" } : Jvm.MethodName)) ∈ lw_all := lw_g (lw_at lw_m8 206 rfl) rfl
theorem q1961 : (Jvm.Cond.methodLink "PendulumGymLaw" (243 : Nat) ({ cls := "PendulumGymModel", name := "removeLeg", desc := "(I)I" } : Jvm.MethodName)) ∈ lw_all := lw_g (lw_at lw_m8 214 rfl) rfl
theorem q1973 : (Jvm.Cond.methodLink "PendulumGymLaw" (247 : Nat) ({ cls := "PendulumGymModel", name := "legCount", desc := "()I" } : Jvm.MethodName)) ∈ lw_all := lw_g (lw_at lw_m8 226 rfl) rfl
theorem q1977 : (Jvm.Cond.methodLink "PendulumGymLaw" (250 : Nat) ({ cls := "PendulumGymModel", name := "wishOf", desc := "(I)I" } : Jvm.MethodName)) ∈ lw_all := lw_g (lw_at lw_m8 230 rfl) rfl
theorem q1981 : (Jvm.Cond.methodLink "PendulumGymLaw" (254 : Nat) ({ cls := "PendulumGymModel", name := "leastRelay", desc := "()I" } : Jvm.MethodName)) ∈ lw_all := lw_g (lw_at lw_m8 234 rfl) rfl
theorem q1997 : (Jvm.Cond.methodLink "PendulumGymLaw" (257 : Nat) ({ cls := "PendulumGymModel", name := "leastRelayByTrying", desc := "()I" } : Jvm.MethodName)) ∈ lw_all := lw_g (lw_at lw_m9 10 rfl) rfl
theorem q2002 : (Jvm.Cond.methodLink "PendulumGymLaw" (260 : Nat) ({ cls := "PendulumGymModel", name := "runnerOf", desc := "(I)I" } : Jvm.MethodName)) ∈ lw_all := lw_g (lw_at lw_m9 15 rfl) rfl
theorem q2006 : (Jvm.Cond.methodLink "PendulumGymLaw" (263 : Nat) ({ cls := "PendulumGymModel", name := "fewestFor", desc := "(I)I" } : Jvm.MethodName)) ∈ lw_all := lw_g (lw_at lw_m9 19 rfl) rfl
theorem q2014 : (Jvm.Cond.methodLink "PendulumGymLaw" (266 : Nat) ({ cls := "PendulumGymModel", name := "fewestForBySets", desc := "(I)I" } : Jvm.MethodName)) ∈ lw_all := lw_g (lw_at lw_m9 27 rfl) rfl
theorem q2019 : (Jvm.Cond.methodLink "PendulumGymLaw" (269 : Nat) ({ cls := "PendulumGymModel", name := "exactSets", desc := "(I)I" } : Jvm.MethodName)) ∈ lw_all := lw_g (lw_at lw_m9 32 rfl) rfl
theorem q2023 : (Jvm.Cond.methodLink "PendulumGymLaw" (273 : Nat) ({ cls := "PendulumGymModel", name := "meanAmplitude", desc := "()D" } : Jvm.MethodName)) ∈ lw_all := lw_g (lw_at lw_m9 36 rfl) rfl
theorem q2027 : (Jvm.Cond.methodLink "PendulumGymLaw" (276 : Nat) ({ cls := "PendulumGymModel", name := "writeCard", desc := "(I)I" } : Jvm.MethodName)) ∈ lw_all := lw_g (lw_at lw_m9 40 rfl) rfl
theorem q2044 : (Jvm.Cond.methodLink "PendulumGymLaw" (279 : Nat) ({ cls := "PendulumGymModel", name := "cardAt", desc := "(I)C" } : Jvm.MethodName)) ∈ lw_all := lw_g (lw_at lw_m9 57 rfl) rfl
theorem q2048 : (Jvm.Cond.methodLink "PendulumGymLaw" (283 : Nat) ({ cls := "PendulumGymModel", name := "type", desc := "(C)I" } : Jvm.MethodName)) ∈ lw_all := lw_g (lw_at lw_m9 61 rfl) rfl
theorem q2052 : (Jvm.Cond.methodLink "PendulumGymLaw" (286 : Nat) ({ cls := "PendulumGymModel", name := "execute", desc := "()I" } : Jvm.MethodName)) ∈ lw_all := lw_g (lw_at lw_m9 65 rfl) rfl
theorem q2084 : (Jvm.Cond.methodLink "PendulumGymLaw" (289 : Nat) ({ cls := "PendulumGymModel", name := "errorPosition", desc := "()I" } : Jvm.MethodName)) ∈ lw_all := lw_g (lw_at lw_m9 97 rfl) rfl
theorem q2088 : (Jvm.Cond.methodLink "PendulumGymLaw" (292 : Nat) ({ cls := "PendulumGymModel", name := "failedCommand", desc := "()I" } : Jvm.MethodName)) ∈ lw_all := lw_g (lw_at lw_m9 101 rfl) rfl
theorem q2092 : (Jvm.Cond.methodLink "PendulumGymLaw" (295 : Nat) ({ cls := "PendulumGymModel", name := "undo", desc := "()I" } : Jvm.MethodName)) ∈ lw_all := lw_g (lw_at lw_m9 105 rfl) rfl
theorem q2096 : (Jvm.Cond.methodLink "PendulumGymLaw" (299 : Nat) ({ cls := "PendulumGymModel", name := "save", desc := "()I" } : Jvm.MethodName)) ∈ lw_all := lw_g (lw_at lw_m9 109 rfl) rfl
theorem q2100 : (Jvm.Cond.methodLink "PendulumGymLaw" (302 : Nat) ({ cls := "PendulumGymModel", name := "restore", desc := "()I" } : Jvm.MethodName)) ∈ lw_all := lw_g (lw_at lw_m9 113 rfl) rfl
/-! the law's own entry -/
set_option maxRecDepth 100000
abbrev cL_law : ByteArray := code
def dkwL_law_102 : List UInt8 := [4, 172]
abbrev dktL_law_102 : List UInt8 := dkwL_law_102 ++ []
def dkwL_law_101 : List UInt8 := [154, 0, 15, 45, 3, 47, 21, 7, 133, 148, 153, 0, 5, 3, 172, 167, 0, 3, 132, 5, 3, 167, 246, 36]
abbrev dktL_law_101 : List UInt8 := dkwL_law_101 ++ dktL_law_102
def dkwL_law_100 : List UInt8 := [184, 1, 44, 54, 6, 44, 182, 1, 46, 54, 7, 44, 182, 0, 155, 21, 6, 159, 0, 5, 3, 172, 21, 6]
abbrev dktL_law_100 : List UInt8 := dkwL_law_100 ++ dktL_law_101
def dkwL_law_99 : List UInt8 := [148, 153, 0, 5, 3, 172, 167, 0, 60, 43, 182, 1, 40, 44, 182, 1, 43, 159, 0, 49, 3, 172, 43, 45]
abbrev dktL_law_99 : List UInt8 := dkwL_law_99 ++ dktL_law_100
def dkwL_law_98 : List UInt8 := [54, 7, 44, 182, 0, 155, 21, 6, 159, 0, 5, 3, 172, 21, 6, 154, 0, 15, 45, 3, 47, 21, 7, 133]
abbrev dktL_law_98 : List UInt8 := dkwL_law_98 ++ dktL_law_99
def dkwL_law_97 : List UInt8 := [21, 7, 133, 148, 153, 0, 5, 3, 172, 167, 0, 104, 43, 45, 184, 1, 37, 54, 6, 44, 182, 1, 39]
abbrev dktL_law_97 : List UInt8 := dkwL_law_97 ++ dktL_law_98
def dkwL_law_96 : List UInt8 := [182, 1, 36, 54, 7, 44, 182, 0, 155, 21, 6, 159, 0, 5, 3, 172, 21, 6, 154, 0, 15, 45, 3, 47]
abbrev dktL_law_96 : List UInt8 := dkwL_law_96 ++ dktL_law_97
def dkwL_law_95 : List UInt8 := [45, 3, 47, 21, 7, 133, 148, 153, 0, 5, 3, 172, 167, 0, 148, 43, 45, 184, 1, 34, 54, 6, 44]
abbrev dktL_law_95 : List UInt8 := dkwL_law_95 ++ dktL_law_96
def dkwL_law_94 : List UInt8 := [54, 6, 44, 182, 1, 33, 54, 7, 44, 182, 0, 155, 21, 6, 159, 0, 5, 3, 172, 21, 6, 154, 0, 15]
abbrev dktL_law_94 : List UInt8 := dkwL_law_94 ++ dktL_law_95
def dkwL_law_93 : List UInt8 := [154, 0, 15, 45, 3, 47, 21, 7, 133, 148, 153, 0, 5, 3, 172, 167, 0, 192, 43, 45, 184, 1, 31]
abbrev dktL_law_93 : List UInt8 := dkwL_law_93 ++ dktL_law_94
def dkwL_law_92 : List UInt8 := [184, 1, 28, 54, 6, 44, 182, 1, 30, 54, 7, 44, 182, 0, 155, 21, 6, 159, 0, 5, 3, 172, 21, 6]
abbrev dktL_law_92 : List UInt8 := dkwL_law_92 ++ dktL_law_93
def dkwL_law_91 : List UInt8 := [3, 172, 21, 6, 154, 0, 15, 45, 3, 47, 21, 7, 133, 148, 153, 0, 5, 3, 172, 167, 0, 236, 43, 45]
abbrev dktL_law_91 : List UInt8 := dkwL_law_91 ++ dktL_law_92
def dkwL_law_90 : List UInt8 := [54, 6, 44, 42, 21, 5, 4, 96, 46, 146, 182, 1, 27, 54, 7, 44, 182, 0, 155, 21, 6, 159, 0, 5]
abbrev dktL_law_90 : List UInt8 := dkwL_law_90 ++ dktL_law_91
def dkwL_law_89 : List UInt8 := [21, 7, 133, 148, 153, 0, 5, 3, 172, 167, 1, 38, 43, 42, 21, 5, 4, 96, 46, 146, 45, 184, 1, 24]
abbrev dktL_law_89 : List UInt8 := dkwL_law_89 ++ dktL_law_90
def dkwL_law_88 : List UInt8 := [182, 1, 23, 54, 7, 44, 182, 0, 155, 21, 6, 159, 0, 5, 3, 172, 21, 6, 154, 0, 15, 45, 3, 47]
abbrev dktL_law_88 : List UInt8 := dkwL_law_88 ++ dktL_law_89
def dkwL_law_87 : List UInt8 := [167, 1, 94, 43, 42, 21, 5, 4, 96, 46, 45, 184, 1, 21, 54, 6, 44, 42, 21, 5, 4, 96, 46]
abbrev dktL_law_87 : List UInt8 := dkwL_law_87 ++ dktL_law_88
def dkwL_law_86 : List UInt8 := [159, 0, 5, 3, 172, 21, 6, 154, 0, 15, 45, 3, 47, 21, 7, 133, 148, 153, 0, 5, 3, 172]
abbrev dktL_law_86 : List UInt8 := dkwL_law_86 ++ dktL_law_87
def dkwL_law_85 : List UInt8 := [184, 1, 18, 54, 6, 44, 42, 21, 5, 4, 96, 46, 182, 1, 20, 54, 7, 44, 182, 0, 155, 21, 6]
abbrev dktL_law_85 : List UInt8 := dkwL_law_85 ++ dktL_law_86
def dkwL_law_84 : List UInt8 := [153, 0, 11, 24, 7, 24, 7, 151, 154, 0, 5, 3, 172, 167, 1, 150, 43, 42, 21, 5, 4, 96, 46, 45]
abbrev dktL_law_84 : List UInt8 := dkwL_law_84 ++ dktL_law_85
def dkwL_law_83 : List UInt8 := [154, 0, 35, 25, 4, 3, 49, 24, 7, 151, 153, 0, 25, 25, 4, 3, 49, 25, 4, 3, 49, 151]
abbrev dktL_law_83 : List UInt8 := dkwL_law_83 ++ dktL_law_84
def dkwL_law_82 : List UInt8 := [184, 1, 14, 54, 6, 44, 182, 1, 17, 57, 7, 44, 182, 0, 155, 21, 6, 159, 0, 5, 3, 172, 21, 6]
abbrev dktL_law_82 : List UInt8 := dkwL_law_82 ++ dktL_law_83
def dkwL_law_81 : List UInt8 := [172, 21, 6, 154, 0, 15, 45, 3, 47, 21, 7, 133, 148, 153, 0, 5, 3, 172, 167, 1, 215, 43, 25, 4]
abbrev dktL_law_81 : List UInt8 := dkwL_law_81 ++ dktL_law_82
def dkwL_law_80 : List UInt8 := [54, 6, 44, 42, 21, 5, 4, 96, 46, 182, 1, 13, 54, 7, 44, 182, 0, 155, 21, 6, 159, 0, 5, 3]
abbrev dktL_law_80 : List UInt8 := dkwL_law_80 ++ dktL_law_81
def dkwL_law_79 : List UInt8 := [21, 7, 133, 148, 153, 0, 5, 3, 172, 167, 2, 15, 43, 42, 21, 5, 4, 96, 46, 45, 184, 1, 11]
abbrev dktL_law_79 : List UInt8 := dkwL_law_79 ++ dktL_law_80
def dkwL_law_78 : List UInt8 := [182, 1, 10, 54, 7, 44, 182, 0, 155, 21, 6, 159, 0, 5, 3, 172, 21, 6, 154, 0, 15, 45, 3, 47]
abbrev dktL_law_78 : List UInt8 := dkwL_law_78 ++ dktL_law_79
def dkwL_law_77 : List UInt8 := [167, 2, 71, 43, 42, 21, 5, 4, 96, 46, 45, 184, 1, 8, 54, 6, 44, 42, 21, 5, 4, 96, 46]
abbrev dktL_law_77 : List UInt8 := dkwL_law_77 ++ dktL_law_78
def dkwL_law_76 : List UInt8 := [21, 6, 159, 0, 5, 3, 172, 21, 6, 154, 0, 15, 45, 3, 47, 21, 7, 133, 148, 153, 0, 5, 3, 172]
abbrev dktL_law_76 : List UInt8 := dkwL_law_76 ++ dktL_law_77
def dkwL_law_75 : List UInt8 := [46, 45, 184, 1, 5, 54, 6, 44, 42, 21, 5, 4, 96, 46, 182, 1, 7, 54, 7, 44, 182, 0, 155]
abbrev dktL_law_75 : List UInt8 := dkwL_law_75 ++ dktL_law_76
def dkwL_law_74 : List UInt8 := [154, 0, 15, 45, 3, 47, 21, 7, 133, 148, 153, 0, 5, 3, 172, 167, 2, 127, 43, 42, 21, 5, 4, 96]
abbrev dktL_law_74 : List UInt8 := dkwL_law_74 ++ dktL_law_75
def dkwL_law_73 : List UInt8 := [21, 5, 4, 96, 46, 182, 1, 4, 54, 7, 44, 182, 0, 155, 21, 6, 159, 0, 5, 3, 172, 21, 6]
abbrev dktL_law_73 : List UInt8 := dkwL_law_73 ++ dktL_law_74
def dkwL_law_72 : List UInt8 := [153, 0, 5, 3, 172, 167, 2, 183, 43, 42, 21, 5, 4, 96, 46, 45, 184, 1, 2, 54, 6, 44, 42]
abbrev dktL_law_72 : List UInt8 := dkwL_law_72 ++ dktL_law_73
def dkwL_law_71 : List UInt8 := [182, 0, 155, 21, 6, 159, 0, 5, 3, 172, 21, 6, 154, 0, 15, 45, 3, 47, 21, 7, 133, 148]
abbrev dktL_law_71 : List UInt8 := dkwL_law_71 ++ dktL_law_72
def dkwL_law_70 : List UInt8 := [153, 0, 5, 3, 172, 167, 2, 227, 43, 45, 184, 0, 255, 54, 6, 44, 182, 1, 1, 54, 7, 44]
abbrev dktL_law_70 : List UInt8 := dkwL_law_70 ++ dktL_law_71
def dkwL_law_69 : List UInt8 := [182, 0, 155, 21, 6, 159, 0, 5, 3, 172, 21, 6, 154, 0, 15, 45, 3, 47, 21, 7, 133, 148]
abbrev dktL_law_69 : List UInt8 := dkwL_law_69 ++ dktL_law_70
def dkwL_law_68 : List UInt8 := [148, 153, 0, 5, 3, 172, 167, 3, 15, 43, 45, 184, 0, 251, 54, 6, 44, 182, 0, 254, 54, 7, 44]
abbrev dktL_law_68 : List UInt8 := dkwL_law_68 ++ dktL_law_69
def dkwL_law_67 : List UInt8 := [54, 7, 44, 182, 0, 155, 21, 6, 159, 0, 5, 3, 172, 21, 6, 154, 0, 15, 45, 3, 47, 21, 7, 133]
abbrev dktL_law_67 : List UInt8 := dkwL_law_67 ++ dktL_law_68
def dkwL_law_66 : List UInt8 := [172, 43, 42, 21, 5, 4, 96, 46, 45, 184, 0, 248, 54, 6, 44, 42, 21, 5, 4, 96, 46, 182, 0, 250]
abbrev dktL_law_66 : List UInt8 := dkwL_law_66 ++ dktL_law_67
def dkwL_law_65 : List UInt8 := [21, 7, 133, 148, 153, 0, 5, 3, 172, 167, 3, 84, 43, 182, 0, 244, 44, 182, 0, 247, 159, 3, 73, 3]
abbrev dktL_law_65 : List UInt8 := dkwL_law_65 ++ dktL_law_66
def dkwL_law_64 : List UInt8 := [182, 0, 243, 54, 7, 44, 182, 0, 155, 21, 6, 159, 0, 5, 3, 172, 21, 6, 154, 0, 15, 45, 3, 47]
abbrev dktL_law_64 : List UInt8 := dkwL_law_64 ++ dktL_law_65
def dkwL_law_63 : List UInt8 := [167, 3, 140, 43, 42, 21, 5, 4, 96, 46, 45, 184, 0, 241, 54, 6, 44, 42, 21, 5, 4, 96, 46]
abbrev dktL_law_63 : List UInt8 := dkwL_law_63 ++ dktL_law_64
def dkwL_law_62 : List UInt8 := [21, 6, 159, 0, 5, 3, 172, 21, 6, 154, 0, 15, 45, 3, 47, 21, 7, 133, 148, 153, 0, 5, 3, 172]
abbrev dktL_law_62 : List UInt8 := dkwL_law_62 ++ dktL_law_63
def dkwL_law_61 : List UInt8 := [46, 45, 184, 0, 238, 54, 6, 44, 42, 21, 5, 4, 96, 46, 182, 0, 240, 54, 7, 44, 182, 0, 155]
abbrev dktL_law_61 : List UInt8 := dkwL_law_61 ++ dktL_law_62
def dkwL_law_60 : List UInt8 := [154, 0, 15, 45, 3, 47, 21, 7, 133, 148, 153, 0, 5, 3, 172, 167, 3, 196, 43, 42, 21, 5, 4, 96]
abbrev dktL_law_60 : List UInt8 := dkwL_law_60 ++ dktL_law_61
def dkwL_law_59 : List UInt8 := [42, 21, 5, 5, 96, 46, 182, 0, 237, 54, 7, 44, 182, 0, 155, 21, 6, 159, 0, 5, 3, 172, 21, 6]
abbrev dktL_law_59 : List UInt8 := dkwL_law_59 ++ dktL_law_60
def dkwL_law_58 : List UInt8 := [21, 5, 4, 96, 46, 42, 21, 5, 5, 96, 46, 45, 184, 0, 235, 54, 6, 44, 42, 21, 5, 4, 96, 46]
abbrev dktL_law_58 : List UInt8 := dkwL_law_58 ++ dktL_law_59
def dkwL_law_57 : List UInt8 := [153, 0, 5, 3, 172, 167, 4, 21, 43, 182, 0, 231, 44, 182, 0, 234, 159, 4, 10, 3, 172, 43, 42]
abbrev dktL_law_57 : List UInt8 := dkwL_law_57 ++ dktL_law_58
def dkwL_law_56 : List UInt8 := [182, 0, 155, 21, 6, 159, 0, 5, 3, 172, 21, 6, 154, 0, 15, 45, 3, 47, 21, 7, 133, 148]
abbrev dktL_law_56 : List UInt8 := dkwL_law_56 ++ dktL_law_57
def dkwL_law_55 : List UInt8 := [184, 0, 228, 54, 6, 44, 42, 21, 5, 4, 96, 46, 42, 21, 5, 5, 96, 46, 182, 0, 230, 54, 7, 44]
abbrev dktL_law_55 : List UInt8 := dkwL_law_55 ++ dktL_law_56
def dkwL_law_54 : List UInt8 := [153, 0, 5, 3, 172, 167, 4, 89, 43, 42, 21, 5, 4, 96, 46, 42, 21, 5, 5, 96, 46, 45]
abbrev dktL_law_54 : List UInt8 := dkwL_law_54 ++ dktL_law_55
def dkwL_law_53 : List UInt8 := [182, 0, 155, 21, 6, 159, 0, 5, 3, 172, 21, 6, 154, 0, 15, 45, 3, 47, 21, 7, 133, 148]
abbrev dktL_law_53 : List UInt8 := dkwL_law_53 ++ dktL_law_54
def dkwL_law_52 : List UInt8 := [184, 0, 225, 54, 6, 44, 42, 21, 5, 4, 96, 46, 42, 21, 5, 5, 96, 46, 182, 0, 227, 54, 7, 44]
abbrev dktL_law_52 : List UInt8 := dkwL_law_52 ++ dktL_law_53
def dkwL_law_51 : List UInt8 := [153, 0, 5, 3, 172, 167, 4, 157, 43, 42, 21, 5, 4, 96, 46, 42, 21, 5, 5, 96, 46, 45]
abbrev dktL_law_51 : List UInt8 := dkwL_law_51 ++ dktL_law_52
def dkwL_law_50 : List UInt8 := [182, 0, 155, 21, 6, 159, 0, 5, 3, 172, 21, 6, 154, 0, 15, 45, 3, 47, 21, 7, 133, 148]
abbrev dktL_law_50 : List UInt8 := dkwL_law_50 ++ dktL_law_51
def dkwL_law_49 : List UInt8 := [184, 0, 222, 54, 6, 44, 42, 21, 5, 4, 96, 46, 42, 21, 5, 5, 96, 46, 182, 0, 224, 54, 7, 44]
abbrev dktL_law_49 : List UInt8 := dkwL_law_49 ++ dktL_law_50
def dkwL_law_48 : List UInt8 := [153, 0, 5, 3, 172, 167, 4, 225, 43, 42, 21, 5, 4, 96, 46, 42, 21, 5, 5, 96, 46, 45]
abbrev dktL_law_48 : List UInt8 := dkwL_law_48 ++ dktL_law_49
def dkwL_law_47 : List UInt8 := [182, 0, 155, 21, 6, 159, 0, 5, 3, 172, 21, 6, 154, 0, 15, 45, 3, 47, 21, 7, 133, 148]
abbrev dktL_law_47 : List UInt8 := dkwL_law_47 ++ dktL_law_48
def dkwL_law_46 : List UInt8 := [21, 5, 4, 96, 46, 45, 184, 0, 219, 54, 6, 44, 42, 21, 5, 4, 96, 46, 182, 0, 221, 54, 7, 44]
abbrev dktL_law_46 : List UInt8 := dkwL_law_46 ++ dktL_law_47
def dkwL_law_45 : List UInt8 := [172, 21, 6, 154, 0, 15, 45, 3, 47, 21, 7, 133, 148, 153, 0, 5, 3, 172, 167, 5, 25, 43, 42]
abbrev dktL_law_45 : List UInt8 := dkwL_law_45 ++ dktL_law_46
def dkwL_law_44 : List UInt8 := [54, 6, 44, 42, 21, 5, 4, 96, 46, 182, 0, 218, 54, 7, 44, 182, 0, 155, 21, 6, 159, 0, 5, 3]
abbrev dktL_law_44 : List UInt8 := dkwL_law_44 ++ dktL_law_45
def dkwL_law_43 : List UInt8 := [21, 7, 133, 148, 153, 0, 5, 3, 172, 167, 5, 81, 43, 42, 21, 5, 4, 96, 46, 45, 184, 0, 216]
abbrev dktL_law_43 : List UInt8 := dkwL_law_43 ++ dktL_law_44
def dkwL_law_42 : List UInt8 := [182, 0, 215, 54, 7, 44, 182, 0, 155, 21, 6, 159, 0, 5, 3, 172, 21, 6, 154, 0, 15, 45, 3, 47]
abbrev dktL_law_42 : List UInt8 := dkwL_law_42 ++ dktL_law_43
def dkwL_law_41 : List UInt8 := [167, 5, 137, 43, 42, 21, 5, 4, 96, 46, 45, 184, 0, 213, 54, 6, 44, 42, 21, 5, 4, 96, 46]
abbrev dktL_law_41 : List UInt8 := dkwL_law_41 ++ dktL_law_42
def dkwL_law_40 : List UInt8 := [21, 6, 159, 0, 5, 3, 172, 21, 6, 154, 0, 15, 45, 3, 47, 21, 7, 133, 148, 153, 0, 5, 3, 172]
abbrev dktL_law_40 : List UInt8 := dkwL_law_40 ++ dktL_law_41
def dkwL_law_39 : List UInt8 := [46, 45, 184, 0, 210, 54, 6, 44, 42, 21, 5, 4, 96, 46, 182, 0, 212, 54, 7, 44, 182, 0, 155]
abbrev dktL_law_39 : List UInt8 := dkwL_law_39 ++ dktL_law_40
def dkwL_law_38 : List UInt8 := [154, 0, 15, 45, 3, 47, 21, 7, 133, 148, 153, 0, 5, 3, 172, 167, 5, 193, 43, 42, 21, 5, 4, 96]
abbrev dktL_law_38 : List UInt8 := dkwL_law_38 ++ dktL_law_39
def dkwL_law_37 : List UInt8 := [21, 5, 4, 96, 46, 182, 0, 209, 54, 7, 44, 182, 0, 155, 21, 6, 159, 0, 5, 3, 172, 21, 6]
abbrev dktL_law_37 : List UInt8 := dkwL_law_37 ++ dktL_law_38
def dkwL_law_36 : List UInt8 := [153, 0, 5, 3, 172, 167, 5, 249, 43, 42, 21, 5, 4, 96, 46, 45, 184, 0, 207, 54, 6, 44, 42]
abbrev dktL_law_36 : List UInt8 := dkwL_law_36 ++ dktL_law_37
def dkwL_law_35 : List UInt8 := [182, 0, 155, 21, 6, 159, 0, 5, 3, 172, 21, 6, 154, 0, 15, 45, 3, 47, 21, 7, 133, 148]
abbrev dktL_law_35 : List UInt8 := dkwL_law_35 ++ dktL_law_36
def dkwL_law_34 : List UInt8 := [21, 5, 4, 96, 46, 45, 184, 0, 204, 54, 6, 44, 42, 21, 5, 4, 96, 46, 182, 0, 206, 54, 7, 44]
abbrev dktL_law_34 : List UInt8 := dkwL_law_34 ++ dktL_law_35
def dkwL_law_33 : List UInt8 := [182, 0, 199, 159, 6, 64, 3, 172, 43, 182, 0, 200, 44, 182, 0, 203, 159, 6, 51, 3, 172, 43, 42]
abbrev dktL_law_33 : List UInt8 := dkwL_law_33 ++ dktL_law_34
def dkwL_law_32 : List UInt8 := [154, 0, 15, 45, 3, 47, 21, 7, 133, 148, 153, 0, 5, 3, 172, 167, 6, 75, 43, 182, 0, 196, 44]
abbrev dktL_law_32 : List UInt8 := dkwL_law_32 ++ dktL_law_33
def dkwL_law_31 : List UInt8 := [21, 5, 4, 96, 46, 182, 0, 195, 54, 7, 44, 182, 0, 155, 21, 6, 159, 0, 5, 3, 172, 21, 6]
abbrev dktL_law_31 : List UInt8 := dkwL_law_31 ++ dktL_law_32
def dkwL_law_30 : List UInt8 := [153, 0, 5, 3, 172, 167, 6, 131, 43, 42, 21, 5, 4, 96, 46, 45, 184, 0, 193, 54, 6, 44, 42]
abbrev dktL_law_30 : List UInt8 := dkwL_law_30 ++ dktL_law_31
def dkwL_law_29 : List UInt8 := [182, 0, 155, 21, 6, 159, 0, 5, 3, 172, 21, 6, 154, 0, 15, 45, 3, 47, 21, 7, 133, 148]
abbrev dktL_law_29 : List UInt8 := dkwL_law_29 ++ dktL_law_30
def dkwL_law_28 : List UInt8 := [21, 5, 4, 96, 46, 45, 184, 0, 190, 54, 6, 44, 42, 21, 5, 4, 96, 46, 182, 0, 192, 54, 7, 44]
abbrev dktL_law_28 : List UInt8 := dkwL_law_28 ++ dktL_law_29
def dkwL_law_27 : List UInt8 := [172, 21, 6, 154, 0, 15, 45, 3, 47, 21, 7, 133, 148, 153, 0, 5, 3, 172, 167, 6, 187, 43, 42]
abbrev dktL_law_27 : List UInt8 := dkwL_law_27 ++ dktL_law_28
def dkwL_law_26 : List UInt8 := [54, 6, 44, 42, 21, 5, 4, 96, 46, 182, 0, 189, 54, 7, 44, 182, 0, 155, 21, 6, 159, 0, 5, 3]
abbrev dktL_law_26 : List UInt8 := dkwL_law_26 ++ dktL_law_27
def dkwL_law_25 : List UInt8 := [21, 7, 133, 148, 153, 0, 5, 3, 172, 167, 6, 243, 43, 42, 21, 5, 4, 96, 46, 45, 184, 0, 187]
abbrev dktL_law_25 : List UInt8 := dkwL_law_25 ++ dktL_law_26
def dkwL_law_24 : List UInt8 := [182, 0, 186, 54, 7, 44, 182, 0, 155, 21, 6, 159, 0, 5, 3, 172, 21, 6, 154, 0, 15, 45, 3, 47]
abbrev dktL_law_24 : List UInt8 := dkwL_law_24 ++ dktL_law_25
def dkwL_law_23 : List UInt8 := [167, 7, 43, 43, 42, 21, 5, 4, 96, 46, 45, 184, 0, 184, 54, 6, 44, 42, 21, 5, 4, 96, 46]
abbrev dktL_law_23 : List UInt8 := dkwL_law_23 ++ dktL_law_24
def dkwL_law_22 : List UInt8 := [21, 6, 159, 0, 5, 3, 172, 21, 6, 154, 0, 15, 45, 3, 47, 21, 7, 133, 148, 153, 0, 5, 3, 172]
abbrev dktL_law_22 : List UInt8 := dkwL_law_22 ++ dktL_law_23
def dkwL_law_21 : List UInt8 := [46, 45, 184, 0, 181, 54, 6, 44, 42, 21, 5, 4, 96, 46, 182, 0, 183, 54, 7, 44, 182, 0, 155]
abbrev dktL_law_21 : List UInt8 := dkwL_law_21 ++ dktL_law_22
def dkwL_law_20 : List UInt8 := [154, 0, 15, 45, 3, 47, 21, 7, 133, 148, 153, 0, 5, 3, 172, 167, 7, 99, 43, 42, 21, 5, 4, 96]
abbrev dktL_law_20 : List UInt8 := dkwL_law_20 ++ dktL_law_21
def dkwL_law_19 : List UInt8 := [21, 5, 4, 96, 46, 182, 0, 180, 54, 7, 44, 182, 0, 155, 21, 6, 159, 0, 5, 3, 172, 21, 6]
abbrev dktL_law_19 : List UInt8 := dkwL_law_19 ++ dktL_law_20
def dkwL_law_18 : List UInt8 := [148, 153, 0, 5, 3, 172, 167, 7, 155, 43, 42, 21, 5, 4, 96, 46, 45, 184, 0, 178, 54, 6, 44, 42]
abbrev dktL_law_18 : List UInt8 := dkwL_law_18 ++ dktL_law_19
def dkwL_law_17 : List UInt8 := [54, 7, 44, 182, 0, 155, 21, 6, 159, 0, 5, 3, 172, 21, 6, 154, 0, 15, 45, 3, 47, 21, 7, 133]
abbrev dktL_law_17 : List UInt8 := dkwL_law_17 ++ dktL_law_18
def dkwL_law_16 : List UInt8 := [172, 43, 42, 21, 5, 4, 96, 46, 45, 184, 0, 175, 54, 6, 44, 42, 21, 5, 4, 96, 46, 182, 0, 177]
abbrev dktL_law_16 : List UInt8 := dkwL_law_16 ++ dktL_law_17
def dkwL_law_15 : List UInt8 := [21, 7, 133, 148, 153, 0, 5, 3, 172, 167, 7, 224, 43, 182, 0, 171, 44, 182, 0, 174, 159, 7, 213, 3]
abbrev dktL_law_15 : List UInt8 := dkwL_law_15 ++ dktL_law_16
def dkwL_law_14 : List UInt8 := [182, 0, 170, 54, 7, 44, 182, 0, 155, 21, 6, 159, 0, 5, 3, 172, 21, 6, 154, 0, 15, 45, 3, 47]
abbrev dktL_law_14 : List UInt8 := dkwL_law_14 ++ dktL_law_15
def dkwL_law_13 : List UInt8 := [167, 8, 24, 43, 42, 21, 5, 4, 96, 46, 45, 184, 0, 168, 54, 6, 44, 42, 21, 5, 4, 96, 46]
abbrev dktL_law_13 : List UInt8 := dkwL_law_13 ++ dktL_law_14
def dkwL_law_12 : List UInt8 := [21, 6, 159, 0, 5, 3, 172, 21, 6, 154, 0, 15, 45, 3, 47, 21, 7, 133, 148, 153, 0, 5, 3, 172]
abbrev dktL_law_12 : List UInt8 := dkwL_law_12 ++ dktL_law_13
def dkwL_law_11 : List UInt8 := [46, 45, 184, 0, 165, 54, 6, 44, 42, 21, 5, 4, 96, 46, 182, 0, 167, 54, 7, 44, 182, 0, 155]
abbrev dktL_law_11 : List UInt8 := dkwL_law_11 ++ dktL_law_12
def dkwL_law_10 : List UInt8 := [154, 0, 15, 45, 3, 47, 21, 7, 133, 148, 153, 0, 5, 3, 172, 167, 8, 80, 43, 42, 21, 5, 4, 96]
abbrev dktL_law_10 : List UInt8 := dkwL_law_10 ++ dktL_law_11
def dkwL_law_9 : List UInt8 := [21, 5, 4, 96, 46, 182, 0, 164, 54, 7, 44, 182, 0, 155, 21, 6, 159, 0, 5, 3, 172, 21, 6]
abbrev dktL_law_9 : List UInt8 := dkwL_law_9 ++ dktL_law_10
def dkwL_law_8 : List UInt8 := [153, 0, 5, 3, 172, 167, 8, 136, 43, 42, 21, 5, 4, 96, 46, 45, 184, 0, 162, 54, 6, 44, 42]
abbrev dktL_law_8 : List UInt8 := dkwL_law_8 ++ dktL_law_9
def dkwL_law_7 : List UInt8 := [182, 0, 155, 21, 6, 159, 0, 5, 3, 172, 21, 6, 154, 0, 15, 45, 3, 47, 21, 7, 133, 148]
abbrev dktL_law_7 : List UInt8 := dkwL_law_7 ++ dktL_law_8
def dkwL_law_6 : List UInt8 := [184, 0, 158, 54, 6, 44, 42, 21, 5, 4, 96, 46, 42, 21, 5, 5, 96, 46, 182, 0, 161, 54, 7, 44]
abbrev dktL_law_6 : List UInt8 := dkwL_law_6 ++ dktL_law_7
def dkwL_law_5 : List UInt8 := [148, 153, 0, 5, 3, 172, 167, 8, 204, 43, 42, 21, 5, 4, 96, 46, 42, 21, 5, 5, 96, 46, 45]
abbrev dktL_law_5 : List UInt8 := dkwL_law_5 ++ dktL_law_6
def dkwL_law_4 : List UInt8 := [54, 7, 44, 182, 0, 155, 21, 6, 159, 0, 5, 3, 172, 21, 6, 154, 0, 15, 45, 3, 47, 21, 7, 133]
abbrev dktL_law_4 : List UInt8 := dkwL_law_4 ++ dktL_law_5
def dkwL_law_3 : List UInt8 := [43, 42, 21, 5, 4, 96, 46, 45, 184, 0, 149, 54, 6, 44, 42, 21, 5, 4, 96, 46, 182, 0, 154]
abbrev dktL_law_3 : List UInt8 := dkwL_law_3 ++ dktL_law_4
def dkwL_law_2 : List UInt8 := [170, 0, 0, 0, 0, 0, 9, 201, 0, 0, 0, 0, 0, 0, 0, 45, 0, 0, 0, 200, 0, 0, 1, 0, 0, 0, 1, 68, 0, 0, 1, 124, 0, 0, 1, 180, 0, 0, 1, 236, 0, 0, 1, 249, 0, 0, 2, 49, 0, 0, 2, 105, 0, 0, 2, 161, 0, 0, 2, 217, 0, 0, 3, 17, 0, 0, 3, 73, 0, 0, 3, 129, 0, 0, 3, 142, 0, 0, 3, 155, 0, 0, 3, 211, 0, 0, 4, 11, 0, 0, 4, 67, 0, 0, 4, 123, 0, 0, 4, 179, 0, 0, 4, 235, 0, 0, 5, 47, 0, 0, 5, 115, 0, 0, 5, 183, 0, 0, 5, 196, 0, 0, 6, 8, 0, 0, 6, 64, 0, 0, 6, 120, 0, 0, 6, 133, 0, 0, 6, 189, 0, 0, 6, 233, 0, 0, 7, 21, 0, 0, 7, 77, 0, 0, 7, 133, 0, 0, 7, 189, 0, 0, 7, 245, 0, 0, 8, 54, 0, 0, 8, 110, 0, 0, 8, 166, 0, 0, 8, 224, 0, 0, 9, 12, 0, 0, 9, 56, 0, 0, 9, 100, 0, 0, 9, 144, 0, 0, 9, 157]
abbrev dktL_law_2 : List UInt8 := dkwL_law_2 ++ dktL_law_3
def dkwL_law_1 : List UInt8 := [58, 4, 3, 54, 5, 21, 5, 42, 190, 6, 100, 163, 9, 217, 42, 21, 5, 46, 16, 63, 126]
abbrev dktL_law_1 : List UInt8 := dkwL_law_1 ++ dktL_law_2
def dkwL_law_0 : List UInt8 := [187, 0, 8, 89, 183, 0, 145, 76, 187, 0, 146, 89, 183, 0, 148, 77, 4, 188, 11, 78, 4, 188, 7]
abbrev dktL_law_0 : List UInt8 := dkwL_law_0 ++ dktL_law_1
theorem dksL_law_0 : cL_law.data.toList.drop 0 = dktL_law_0 := by decide +kernel
theorem dksL_law_1 : cL_law.data.toList.drop 23 = dktL_law_1 := dk_seg dksL_law_0 23 rfl rfl
theorem dksL_law_2 : cL_law.data.toList.drop 44 = dktL_law_2 := dk_seg dksL_law_1 21 rfl rfl
theorem dksL_law_3 : cL_law.data.toList.drop 244 = dktL_law_3 := dk_seg dksL_law_2 200 rfl rfl
theorem dksL_law_4 : cL_law.data.toList.drop 267 = dktL_law_4 := dk_seg dksL_law_3 23 rfl rfl
theorem dksL_law_5 : cL_law.data.toList.drop 291 = dktL_law_5 := dk_seg dksL_law_4 24 rfl rfl
theorem dksL_law_6 : cL_law.data.toList.drop 314 = dktL_law_6 := dk_seg dksL_law_5 23 rfl rfl
theorem dksL_law_7 : cL_law.data.toList.drop 338 = dktL_law_7 := dk_seg dksL_law_6 24 rfl rfl
theorem dksL_law_8 : cL_law.data.toList.drop 360 = dktL_law_8 := dk_seg dksL_law_7 22 rfl rfl
theorem dksL_law_9 : cL_law.data.toList.drop 383 = dktL_law_9 := dk_seg dksL_law_8 23 rfl rfl
theorem dksL_law_10 : cL_law.data.toList.drop 406 = dktL_law_10 := dk_seg dksL_law_9 23 rfl rfl
theorem dksL_law_11 : cL_law.data.toList.drop 430 = dktL_law_11 := dk_seg dksL_law_10 24 rfl rfl
theorem dksL_law_12 : cL_law.data.toList.drop 453 = dktL_law_12 := dk_seg dksL_law_11 23 rfl rfl
theorem dksL_law_13 : cL_law.data.toList.drop 477 = dktL_law_13 := dk_seg dksL_law_12 24 rfl rfl
theorem dksL_law_14 : cL_law.data.toList.drop 500 = dktL_law_14 := dk_seg dksL_law_13 23 rfl rfl
theorem dksL_law_15 : cL_law.data.toList.drop 524 = dktL_law_15 := dk_seg dksL_law_14 24 rfl rfl
theorem dksL_law_16 : cL_law.data.toList.drop 548 = dktL_law_16 := dk_seg dksL_law_15 24 rfl rfl
theorem dksL_law_17 : cL_law.data.toList.drop 572 = dktL_law_17 := dk_seg dksL_law_16 24 rfl rfl
theorem dksL_law_18 : cL_law.data.toList.drop 596 = dktL_law_18 := dk_seg dksL_law_17 24 rfl rfl
theorem dksL_law_19 : cL_law.data.toList.drop 620 = dktL_law_19 := dk_seg dksL_law_18 24 rfl rfl
theorem dksL_law_20 : cL_law.data.toList.drop 643 = dktL_law_20 := dk_seg dksL_law_19 23 rfl rfl
theorem dksL_law_21 : cL_law.data.toList.drop 667 = dktL_law_21 := dk_seg dksL_law_20 24 rfl rfl
theorem dksL_law_22 : cL_law.data.toList.drop 690 = dktL_law_22 := dk_seg dksL_law_21 23 rfl rfl
theorem dksL_law_23 : cL_law.data.toList.drop 714 = dktL_law_23 := dk_seg dksL_law_22 24 rfl rfl
theorem dksL_law_24 : cL_law.data.toList.drop 737 = dktL_law_24 := dk_seg dksL_law_23 23 rfl rfl
theorem dksL_law_25 : cL_law.data.toList.drop 761 = dktL_law_25 := dk_seg dksL_law_24 24 rfl rfl
theorem dksL_law_26 : cL_law.data.toList.drop 784 = dktL_law_26 := dk_seg dksL_law_25 23 rfl rfl
theorem dksL_law_27 : cL_law.data.toList.drop 808 = dktL_law_27 := dk_seg dksL_law_26 24 rfl rfl
theorem dksL_law_28 : cL_law.data.toList.drop 831 = dktL_law_28 := dk_seg dksL_law_27 23 rfl rfl
theorem dksL_law_29 : cL_law.data.toList.drop 855 = dktL_law_29 := dk_seg dksL_law_28 24 rfl rfl
theorem dksL_law_30 : cL_law.data.toList.drop 877 = dktL_law_30 := dk_seg dksL_law_29 22 rfl rfl
theorem dksL_law_31 : cL_law.data.toList.drop 900 = dktL_law_31 := dk_seg dksL_law_30 23 rfl rfl
theorem dksL_law_32 : cL_law.data.toList.drop 923 = dktL_law_32 := dk_seg dksL_law_31 23 rfl rfl
theorem dksL_law_33 : cL_law.data.toList.drop 946 = dktL_law_33 := dk_seg dksL_law_32 23 rfl rfl
theorem dksL_law_34 : cL_law.data.toList.drop 969 = dktL_law_34 := dk_seg dksL_law_33 23 rfl rfl
theorem dksL_law_35 : cL_law.data.toList.drop 993 = dktL_law_35 := dk_seg dksL_law_34 24 rfl rfl
theorem dksL_law_36 : cL_law.data.toList.drop 1015 = dktL_law_36 := dk_seg dksL_law_35 22 rfl rfl
theorem dksL_law_37 : cL_law.data.toList.drop 1038 = dktL_law_37 := dk_seg dksL_law_36 23 rfl rfl
theorem dksL_law_38 : cL_law.data.toList.drop 1061 = dktL_law_38 := dk_seg dksL_law_37 23 rfl rfl
theorem dksL_law_39 : cL_law.data.toList.drop 1085 = dktL_law_39 := dk_seg dksL_law_38 24 rfl rfl
theorem dksL_law_40 : cL_law.data.toList.drop 1108 = dktL_law_40 := dk_seg dksL_law_39 23 rfl rfl
theorem dksL_law_41 : cL_law.data.toList.drop 1132 = dktL_law_41 := dk_seg dksL_law_40 24 rfl rfl
theorem dksL_law_42 : cL_law.data.toList.drop 1155 = dktL_law_42 := dk_seg dksL_law_41 23 rfl rfl
theorem dksL_law_43 : cL_law.data.toList.drop 1179 = dktL_law_43 := dk_seg dksL_law_42 24 rfl rfl
theorem dksL_law_44 : cL_law.data.toList.drop 1202 = dktL_law_44 := dk_seg dksL_law_43 23 rfl rfl
theorem dksL_law_45 : cL_law.data.toList.drop 1226 = dktL_law_45 := dk_seg dksL_law_44 24 rfl rfl
theorem dksL_law_46 : cL_law.data.toList.drop 1249 = dktL_law_46 := dk_seg dksL_law_45 23 rfl rfl
theorem dksL_law_47 : cL_law.data.toList.drop 1273 = dktL_law_47 := dk_seg dksL_law_46 24 rfl rfl
theorem dksL_law_48 : cL_law.data.toList.drop 1295 = dktL_law_48 := dk_seg dksL_law_47 22 rfl rfl
theorem dksL_law_49 : cL_law.data.toList.drop 1317 = dktL_law_49 := dk_seg dksL_law_48 22 rfl rfl
theorem dksL_law_50 : cL_law.data.toList.drop 1341 = dktL_law_50 := dk_seg dksL_law_49 24 rfl rfl
theorem dksL_law_51 : cL_law.data.toList.drop 1363 = dktL_law_51 := dk_seg dksL_law_50 22 rfl rfl
theorem dksL_law_52 : cL_law.data.toList.drop 1385 = dktL_law_52 := dk_seg dksL_law_51 22 rfl rfl
theorem dksL_law_53 : cL_law.data.toList.drop 1409 = dktL_law_53 := dk_seg dksL_law_52 24 rfl rfl
theorem dksL_law_54 : cL_law.data.toList.drop 1431 = dktL_law_54 := dk_seg dksL_law_53 22 rfl rfl
theorem dksL_law_55 : cL_law.data.toList.drop 1453 = dktL_law_55 := dk_seg dksL_law_54 22 rfl rfl
theorem dksL_law_56 : cL_law.data.toList.drop 1477 = dktL_law_56 := dk_seg dksL_law_55 24 rfl rfl
theorem dksL_law_57 : cL_law.data.toList.drop 1499 = dktL_law_57 := dk_seg dksL_law_56 22 rfl rfl
theorem dksL_law_58 : cL_law.data.toList.drop 1522 = dktL_law_58 := dk_seg dksL_law_57 23 rfl rfl
theorem dksL_law_59 : cL_law.data.toList.drop 1546 = dktL_law_59 := dk_seg dksL_law_58 24 rfl rfl
theorem dksL_law_60 : cL_law.data.toList.drop 1570 = dktL_law_60 := dk_seg dksL_law_59 24 rfl rfl
theorem dksL_law_61 : cL_law.data.toList.drop 1594 = dktL_law_61 := dk_seg dksL_law_60 24 rfl rfl
theorem dksL_law_62 : cL_law.data.toList.drop 1617 = dktL_law_62 := dk_seg dksL_law_61 23 rfl rfl
theorem dksL_law_63 : cL_law.data.toList.drop 1641 = dktL_law_63 := dk_seg dksL_law_62 24 rfl rfl
theorem dksL_law_64 : cL_law.data.toList.drop 1664 = dktL_law_64 := dk_seg dksL_law_63 23 rfl rfl
theorem dksL_law_65 : cL_law.data.toList.drop 1688 = dktL_law_65 := dk_seg dksL_law_64 24 rfl rfl
theorem dksL_law_66 : cL_law.data.toList.drop 1712 = dktL_law_66 := dk_seg dksL_law_65 24 rfl rfl
theorem dksL_law_67 : cL_law.data.toList.drop 1736 = dktL_law_67 := dk_seg dksL_law_66 24 rfl rfl
theorem dksL_law_68 : cL_law.data.toList.drop 1760 = dktL_law_68 := dk_seg dksL_law_67 24 rfl rfl
theorem dksL_law_69 : cL_law.data.toList.drop 1783 = dktL_law_69 := dk_seg dksL_law_68 23 rfl rfl
theorem dksL_law_70 : cL_law.data.toList.drop 1805 = dktL_law_70 := dk_seg dksL_law_69 22 rfl rfl
theorem dksL_law_71 : cL_law.data.toList.drop 1827 = dktL_law_71 := dk_seg dksL_law_70 22 rfl rfl
theorem dksL_law_72 : cL_law.data.toList.drop 1849 = dktL_law_72 := dk_seg dksL_law_71 22 rfl rfl
theorem dksL_law_73 : cL_law.data.toList.drop 1872 = dktL_law_73 := dk_seg dksL_law_72 23 rfl rfl
theorem dksL_law_74 : cL_law.data.toList.drop 1895 = dktL_law_74 := dk_seg dksL_law_73 23 rfl rfl
theorem dksL_law_75 : cL_law.data.toList.drop 1919 = dktL_law_75 := dk_seg dksL_law_74 24 rfl rfl
theorem dksL_law_76 : cL_law.data.toList.drop 1942 = dktL_law_76 := dk_seg dksL_law_75 23 rfl rfl
theorem dksL_law_77 : cL_law.data.toList.drop 1966 = dktL_law_77 := dk_seg dksL_law_76 24 rfl rfl
theorem dksL_law_78 : cL_law.data.toList.drop 1989 = dktL_law_78 := dk_seg dksL_law_77 23 rfl rfl
theorem dksL_law_79 : cL_law.data.toList.drop 2013 = dktL_law_79 := dk_seg dksL_law_78 24 rfl rfl
theorem dksL_law_80 : cL_law.data.toList.drop 2036 = dktL_law_80 := dk_seg dksL_law_79 23 rfl rfl
theorem dksL_law_81 : cL_law.data.toList.drop 2060 = dktL_law_81 := dk_seg dksL_law_80 24 rfl rfl
theorem dksL_law_82 : cL_law.data.toList.drop 2084 = dktL_law_82 := dk_seg dksL_law_81 24 rfl rfl
theorem dksL_law_83 : cL_law.data.toList.drop 2108 = dktL_law_83 := dk_seg dksL_law_82 24 rfl rfl
theorem dksL_law_84 : cL_law.data.toList.drop 2130 = dktL_law_84 := dk_seg dksL_law_83 22 rfl rfl
theorem dksL_law_85 : cL_law.data.toList.drop 2154 = dktL_law_85 := dk_seg dksL_law_84 24 rfl rfl
theorem dksL_law_86 : cL_law.data.toList.drop 2177 = dktL_law_86 := dk_seg dksL_law_85 23 rfl rfl
theorem dksL_law_87 : cL_law.data.toList.drop 2199 = dktL_law_87 := dk_seg dksL_law_86 22 rfl rfl
theorem dksL_law_88 : cL_law.data.toList.drop 2222 = dktL_law_88 := dk_seg dksL_law_87 23 rfl rfl
theorem dksL_law_89 : cL_law.data.toList.drop 2246 = dktL_law_89 := dk_seg dksL_law_88 24 rfl rfl
theorem dksL_law_90 : cL_law.data.toList.drop 2270 = dktL_law_90 := dk_seg dksL_law_89 24 rfl rfl
theorem dksL_law_91 : cL_law.data.toList.drop 2294 = dktL_law_91 := dk_seg dksL_law_90 24 rfl rfl
theorem dksL_law_92 : cL_law.data.toList.drop 2318 = dktL_law_92 := dk_seg dksL_law_91 24 rfl rfl
theorem dksL_law_93 : cL_law.data.toList.drop 2342 = dktL_law_93 := dk_seg dksL_law_92 24 rfl rfl
theorem dksL_law_94 : cL_law.data.toList.drop 2365 = dktL_law_94 := dk_seg dksL_law_93 23 rfl rfl
theorem dksL_law_95 : cL_law.data.toList.drop 2389 = dktL_law_95 := dk_seg dksL_law_94 24 rfl rfl
theorem dksL_law_96 : cL_law.data.toList.drop 2412 = dktL_law_96 := dk_seg dksL_law_95 23 rfl rfl
theorem dksL_law_97 : cL_law.data.toList.drop 2436 = dktL_law_97 := dk_seg dksL_law_96 24 rfl rfl
theorem dksL_law_98 : cL_law.data.toList.drop 2459 = dktL_law_98 := dk_seg dksL_law_97 23 rfl rfl
theorem dksL_law_99 : cL_law.data.toList.drop 2483 = dktL_law_99 := dk_seg dksL_law_98 24 rfl rfl
theorem dksL_law_100 : cL_law.data.toList.drop 2507 = dktL_law_100 := dk_seg dksL_law_99 24 rfl rfl
theorem dksL_law_101 : cL_law.data.toList.drop 2531 = dktL_law_101 := dk_seg dksL_law_100 24 rfl rfl
theorem dksL_law_102 : cL_law.data.toList.drop 2555 = dktL_law_102 := dk_seg dksL_law_101 24 rfl rfl
theorem dL_law_0 : decode cL_law 0 = .ok (.new 8, 3) := dk_187 0 8 (dk_at dksL_law_0 0 rfl rfl)
theorem dL_law_3 : decode cL_law 3 = .ok (.dup, 1) := dk_89 (dk_at dksL_law_0 3 rfl rfl)
theorem dL_law_4 : decode cL_law 4 = .ok (.invokespecial 145, 3) := dk_183 0 145 (dk_at dksL_law_0 4 rfl rfl)
theorem dL_law_7 : decode cL_law 7 = .ok (.astore_n 1, 1) := dk_76 (dk_at dksL_law_0 7 rfl rfl)
theorem dL_law_8 : decode cL_law 8 = .ok (.new 146, 3) := dk_187 0 146 (dk_at dksL_law_0 8 rfl rfl)
theorem dL_law_11 : decode cL_law 11 = .ok (.dup, 1) := dk_89 (dk_at dksL_law_0 11 rfl rfl)
theorem dL_law_12 : decode cL_law 12 = .ok (.invokespecial 148, 3) := dk_183 0 148 (dk_at dksL_law_0 12 rfl rfl)
theorem dL_law_15 : decode cL_law 15 = .ok (.astore_n 2, 1) := dk_77 (dk_at dksL_law_0 15 rfl rfl)
theorem dL_law_16 : decode cL_law 16 = .ok (.iconst 1, 1) := dk_4 (dk_at dksL_law_0 16 rfl rfl)
theorem dL_law_17 : decode cL_law 17 = .ok (.newarray .long, 2) := dk_188_11 (dk_at dksL_law_0 17 rfl rfl)
theorem dL_law_19 : decode cL_law 19 = .ok (.astore_n 3, 1) := dk_78 (dk_at dksL_law_0 19 rfl rfl)
theorem dL_law_20 : decode cL_law 20 = .ok (.iconst 1, 1) := dk_4 (dk_at dksL_law_0 20 rfl rfl)
theorem dL_law_21 : decode cL_law 21 = .ok (.newarray .double, 2) := dk_188_7 (dk_at dksL_law_0 21 rfl rfl)
theorem dL_law_23 : decode cL_law 23 = .ok (.astore 4, 2) := dk_58 4 (dk_at dksL_law_1 0 rfl rfl)
theorem dL_law_25 : decode cL_law 25 = .ok (.iconst 0, 1) := dk_3 (dk_at dksL_law_1 2 rfl rfl)
theorem dL_law_26 : decode cL_law 26 = .ok (.istore 5, 2) := dk_54 5 (dk_at dksL_law_1 3 rfl rfl)
theorem dL_law_28 : decode cL_law 28 = .ok (.iload 5, 2) := dk_21 5 (dk_at dksL_law_1 5 rfl rfl)
theorem dL_law_30 : decode cL_law 30 = .ok (.aload_n 0, 1) := dk_42 (dk_at dksL_law_1 7 rfl rfl)
theorem dL_law_31 : decode cL_law 31 = .ok (.arraylength, 1) := dk_190 (dk_at dksL_law_1 8 rfl rfl)
theorem dL_law_32 : decode cL_law 32 = .ok (.iconst 3, 1) := dk_6 (dk_at dksL_law_1 9 rfl rfl)
theorem dL_law_33 : decode cL_law 33 = .ok (.isub, 1) := dk_100 (dk_at dksL_law_1 10 rfl rfl)
theorem dL_law_34 : decode cL_law 34 = .ok (.if_icmp .gt 2521, 3) := dk_163 9 217 (dk_at dksL_law_1 11 rfl rfl)
theorem dL_law_37 : decode cL_law 37 = .ok (.aload_n 0, 1) := dk_42 (dk_at dksL_law_1 14 rfl rfl)
theorem dL_law_38 : decode cL_law 38 = .ok (.iload 5, 2) := dk_21 5 (dk_at dksL_law_1 15 rfl rfl)
theorem dL_law_40 : decode cL_law 40 = .ok (.iaload, 1) := dk_46 (dk_at dksL_law_1 17 rfl rfl)
theorem dL_law_41 : decode cL_law 41 = .ok (.bipush 63, 2) := dk_16 63 (dk_at dksL_law_1 18 rfl rfl)
theorem dL_law_43 : decode cL_law 43 = .ok (.iand, 1) := dk_126 (dk_at dksL_law_1 20 rfl rfl)
theorem dL_law_44 : decode cL_law 44 = .ok (.tableswitch 2505 0 45 #[200, 256, 324, 380, 436, 492, 505, 561, 617, 673, 729, 785, 841, 897, 910, 923, 979, 1035, 1091, 1147, 1203, 1259, 1327, 1395, 1463, 1476, 1544, 1600, 1656, 1669, 1725, 1769, 1813, 1869, 1925, 1981, 2037, 2102, 2158, 2214, 2272, 2316, 2360, 2404, 2448, 2461], 200) := by decide +kernel
theorem dL_law_244 : decode cL_law 244 = .ok (.aload_n 1, 1) := dk_43 (dk_at dksL_law_3 0 rfl rfl)
theorem dL_law_245 : decode cL_law 245 = .ok (.aload_n 0, 1) := dk_42 (dk_at dksL_law_3 1 rfl rfl)
theorem dL_law_246 : decode cL_law 246 = .ok (.iload 5, 2) := dk_21 5 (dk_at dksL_law_3 2 rfl rfl)
theorem dL_law_248 : decode cL_law 248 = .ok (.iconst 1, 1) := dk_4 (dk_at dksL_law_3 4 rfl rfl)
theorem dL_law_249 : decode cL_law 249 = .ok (.iadd, 1) := dk_96 (dk_at dksL_law_3 5 rfl rfl)
theorem dL_law_250 : decode cL_law 250 = .ok (.iaload, 1) := dk_46 (dk_at dksL_law_3 6 rfl rfl)
theorem dL_law_251 : decode cL_law 251 = .ok (.aload_n 3, 1) := dk_45 (dk_at dksL_law_3 7 rfl rfl)
theorem dL_law_252 : decode cL_law 252 = .ok (.invokestatic 149, 3) := dk_184 0 149 (dk_at dksL_law_3 8 rfl rfl)
theorem dL_law_255 : decode cL_law 255 = .ok (.istore 6, 2) := dk_54 6 (dk_at dksL_law_3 11 rfl rfl)
theorem dL_law_257 : decode cL_law 257 = .ok (.aload_n 2, 1) := dk_44 (dk_at dksL_law_3 13 rfl rfl)
theorem dL_law_258 : decode cL_law 258 = .ok (.aload_n 0, 1) := dk_42 (dk_at dksL_law_3 14 rfl rfl)
theorem dL_law_259 : decode cL_law 259 = .ok (.iload 5, 2) := dk_21 5 (dk_at dksL_law_3 15 rfl rfl)
theorem dL_law_261 : decode cL_law 261 = .ok (.iconst 1, 1) := dk_4 (dk_at dksL_law_3 17 rfl rfl)
theorem dL_law_262 : decode cL_law 262 = .ok (.iadd, 1) := dk_96 (dk_at dksL_law_3 18 rfl rfl)
theorem dL_law_263 : decode cL_law 263 = .ok (.iaload, 1) := dk_46 (dk_at dksL_law_3 19 rfl rfl)
theorem dL_law_264 : decode cL_law 264 = .ok (.invokevirtual 154, 3) := dk_182 0 154 (dk_at dksL_law_3 20 rfl rfl)
theorem dL_law_267 : decode cL_law 267 = .ok (.istore 7, 2) := dk_54 7 (dk_at dksL_law_4 0 rfl rfl)
theorem dL_law_269 : decode cL_law 269 = .ok (.aload_n 2, 1) := dk_44 (dk_at dksL_law_4 2 rfl rfl)
theorem dL_law_270 : decode cL_law 270 = .ok (.invokevirtual 155, 3) := dk_182 0 155 (dk_at dksL_law_4 3 rfl rfl)
theorem dL_law_273 : decode cL_law 273 = .ok (.iload 6, 2) := dk_21 6 (dk_at dksL_law_4 6 rfl rfl)
theorem dL_law_275 : decode cL_law 275 = .ok (.if_icmp .eq 5, 3) := dk_159 0 5 (dk_at dksL_law_4 8 rfl rfl)
theorem dL_law_278 : decode cL_law 278 = .ok (.iconst 0, 1) := dk_3 (dk_at dksL_law_4 11 rfl rfl)
theorem dL_law_279 : decode cL_law 279 = .ok (.ireturn, 1) := dk_172 (dk_at dksL_law_4 12 rfl rfl)
theorem dL_law_280 : decode cL_law 280 = .ok (.iload 6, 2) := dk_21 6 (dk_at dksL_law_4 13 rfl rfl)
theorem dL_law_282 : decode cL_law 282 = .ok (.ifCond .ne 15, 3) := dk_154 0 15 (dk_at dksL_law_4 15 rfl rfl)
theorem dL_law_285 : decode cL_law 285 = .ok (.aload_n 3, 1) := dk_45 (dk_at dksL_law_4 18 rfl rfl)
theorem dL_law_286 : decode cL_law 286 = .ok (.iconst 0, 1) := dk_3 (dk_at dksL_law_4 19 rfl rfl)
theorem dL_law_287 : decode cL_law 287 = .ok (.laload, 1) := dk_47 (dk_at dksL_law_4 20 rfl rfl)
theorem dL_law_288 : decode cL_law 288 = .ok (.iload 7, 2) := dk_21 7 (dk_at dksL_law_4 21 rfl rfl)
theorem dL_law_290 : decode cL_law 290 = .ok (.i2l, 1) := dk_133 (dk_at dksL_law_4 23 rfl rfl)
theorem dL_law_291 : decode cL_law 291 = .ok (.lcmp, 1) := dk_148 (dk_at dksL_law_5 0 rfl rfl)
theorem dL_law_292 : decode cL_law 292 = .ok (.ifCond .eq 5, 3) := dk_153 0 5 (dk_at dksL_law_5 1 rfl rfl)
theorem dL_law_295 : decode cL_law 295 = .ok (.iconst 0, 1) := dk_3 (dk_at dksL_law_5 4 rfl rfl)
theorem dL_law_296 : decode cL_law 296 = .ok (.ireturn, 1) := dk_172 (dk_at dksL_law_5 5 rfl rfl)
theorem dL_law_297 : decode cL_law 297 = .ok (.goto 2252, 3) := dk_167 8 204 (dk_at dksL_law_5 6 rfl rfl)
theorem dL_law_300 : decode cL_law 300 = .ok (.aload_n 1, 1) := dk_43 (dk_at dksL_law_5 9 rfl rfl)
theorem dL_law_301 : decode cL_law 301 = .ok (.aload_n 0, 1) := dk_42 (dk_at dksL_law_5 10 rfl rfl)
theorem dL_law_302 : decode cL_law 302 = .ok (.iload 5, 2) := dk_21 5 (dk_at dksL_law_5 11 rfl rfl)
theorem dL_law_304 : decode cL_law 304 = .ok (.iconst 1, 1) := dk_4 (dk_at dksL_law_5 13 rfl rfl)
theorem dL_law_305 : decode cL_law 305 = .ok (.iadd, 1) := dk_96 (dk_at dksL_law_5 14 rfl rfl)
theorem dL_law_306 : decode cL_law 306 = .ok (.iaload, 1) := dk_46 (dk_at dksL_law_5 15 rfl rfl)
theorem dL_law_307 : decode cL_law 307 = .ok (.aload_n 0, 1) := dk_42 (dk_at dksL_law_5 16 rfl rfl)
theorem dL_law_308 : decode cL_law 308 = .ok (.iload 5, 2) := dk_21 5 (dk_at dksL_law_5 17 rfl rfl)
theorem dL_law_310 : decode cL_law 310 = .ok (.iconst 2, 1) := dk_5 (dk_at dksL_law_5 19 rfl rfl)
theorem dL_law_311 : decode cL_law 311 = .ok (.iadd, 1) := dk_96 (dk_at dksL_law_5 20 rfl rfl)
theorem dL_law_312 : decode cL_law 312 = .ok (.iaload, 1) := dk_46 (dk_at dksL_law_5 21 rfl rfl)
theorem dL_law_313 : decode cL_law 313 = .ok (.aload_n 3, 1) := dk_45 (dk_at dksL_law_5 22 rfl rfl)
theorem dL_law_314 : decode cL_law 314 = .ok (.invokestatic 158, 3) := dk_184 0 158 (dk_at dksL_law_6 0 rfl rfl)
theorem dL_law_317 : decode cL_law 317 = .ok (.istore 6, 2) := dk_54 6 (dk_at dksL_law_6 3 rfl rfl)
theorem dL_law_319 : decode cL_law 319 = .ok (.aload_n 2, 1) := dk_44 (dk_at dksL_law_6 5 rfl rfl)
theorem dL_law_320 : decode cL_law 320 = .ok (.aload_n 0, 1) := dk_42 (dk_at dksL_law_6 6 rfl rfl)
theorem dL_law_321 : decode cL_law 321 = .ok (.iload 5, 2) := dk_21 5 (dk_at dksL_law_6 7 rfl rfl)
theorem dL_law_323 : decode cL_law 323 = .ok (.iconst 1, 1) := dk_4 (dk_at dksL_law_6 9 rfl rfl)
theorem dL_law_324 : decode cL_law 324 = .ok (.iadd, 1) := dk_96 (dk_at dksL_law_6 10 rfl rfl)
theorem dL_law_325 : decode cL_law 325 = .ok (.iaload, 1) := dk_46 (dk_at dksL_law_6 11 rfl rfl)
theorem dL_law_326 : decode cL_law 326 = .ok (.aload_n 0, 1) := dk_42 (dk_at dksL_law_6 12 rfl rfl)
theorem dL_law_327 : decode cL_law 327 = .ok (.iload 5, 2) := dk_21 5 (dk_at dksL_law_6 13 rfl rfl)
theorem dL_law_329 : decode cL_law 329 = .ok (.iconst 2, 1) := dk_5 (dk_at dksL_law_6 15 rfl rfl)
theorem dL_law_330 : decode cL_law 330 = .ok (.iadd, 1) := dk_96 (dk_at dksL_law_6 16 rfl rfl)
theorem dL_law_331 : decode cL_law 331 = .ok (.iaload, 1) := dk_46 (dk_at dksL_law_6 17 rfl rfl)
theorem dL_law_332 : decode cL_law 332 = .ok (.invokevirtual 161, 3) := dk_182 0 161 (dk_at dksL_law_6 18 rfl rfl)
theorem dL_law_335 : decode cL_law 335 = .ok (.istore 7, 2) := dk_54 7 (dk_at dksL_law_6 21 rfl rfl)
theorem dL_law_337 : decode cL_law 337 = .ok (.aload_n 2, 1) := dk_44 (dk_at dksL_law_6 23 rfl rfl)
theorem dL_law_338 : decode cL_law 338 = .ok (.invokevirtual 155, 3) := dk_182 0 155 (dk_at dksL_law_7 0 rfl rfl)
theorem dL_law_341 : decode cL_law 341 = .ok (.iload 6, 2) := dk_21 6 (dk_at dksL_law_7 3 rfl rfl)
theorem dL_law_343 : decode cL_law 343 = .ok (.if_icmp .eq 5, 3) := dk_159 0 5 (dk_at dksL_law_7 5 rfl rfl)
theorem dL_law_346 : decode cL_law 346 = .ok (.iconst 0, 1) := dk_3 (dk_at dksL_law_7 8 rfl rfl)
theorem dL_law_347 : decode cL_law 347 = .ok (.ireturn, 1) := dk_172 (dk_at dksL_law_7 9 rfl rfl)
theorem dL_law_348 : decode cL_law 348 = .ok (.iload 6, 2) := dk_21 6 (dk_at dksL_law_7 10 rfl rfl)
theorem dL_law_350 : decode cL_law 350 = .ok (.ifCond .ne 15, 3) := dk_154 0 15 (dk_at dksL_law_7 12 rfl rfl)
theorem dL_law_353 : decode cL_law 353 = .ok (.aload_n 3, 1) := dk_45 (dk_at dksL_law_7 15 rfl rfl)
theorem dL_law_354 : decode cL_law 354 = .ok (.iconst 0, 1) := dk_3 (dk_at dksL_law_7 16 rfl rfl)
theorem dL_law_355 : decode cL_law 355 = .ok (.laload, 1) := dk_47 (dk_at dksL_law_7 17 rfl rfl)
theorem dL_law_356 : decode cL_law 356 = .ok (.iload 7, 2) := dk_21 7 (dk_at dksL_law_7 18 rfl rfl)
theorem dL_law_358 : decode cL_law 358 = .ok (.i2l, 1) := dk_133 (dk_at dksL_law_7 20 rfl rfl)
theorem dL_law_359 : decode cL_law 359 = .ok (.lcmp, 1) := dk_148 (dk_at dksL_law_7 21 rfl rfl)
theorem dL_law_360 : decode cL_law 360 = .ok (.ifCond .eq 5, 3) := dk_153 0 5 (dk_at dksL_law_8 0 rfl rfl)
theorem dL_law_363 : decode cL_law 363 = .ok (.iconst 0, 1) := dk_3 (dk_at dksL_law_8 3 rfl rfl)
theorem dL_law_364 : decode cL_law 364 = .ok (.ireturn, 1) := dk_172 (dk_at dksL_law_8 4 rfl rfl)
theorem dL_law_365 : decode cL_law 365 = .ok (.goto 2184, 3) := dk_167 8 136 (dk_at dksL_law_8 5 rfl rfl)
theorem dL_law_368 : decode cL_law 368 = .ok (.aload_n 1, 1) := dk_43 (dk_at dksL_law_8 8 rfl rfl)
theorem dL_law_369 : decode cL_law 369 = .ok (.aload_n 0, 1) := dk_42 (dk_at dksL_law_8 9 rfl rfl)
theorem dL_law_370 : decode cL_law 370 = .ok (.iload 5, 2) := dk_21 5 (dk_at dksL_law_8 10 rfl rfl)
theorem dL_law_372 : decode cL_law 372 = .ok (.iconst 1, 1) := dk_4 (dk_at dksL_law_8 12 rfl rfl)
theorem dL_law_373 : decode cL_law 373 = .ok (.iadd, 1) := dk_96 (dk_at dksL_law_8 13 rfl rfl)
theorem dL_law_374 : decode cL_law 374 = .ok (.iaload, 1) := dk_46 (dk_at dksL_law_8 14 rfl rfl)
theorem dL_law_375 : decode cL_law 375 = .ok (.aload_n 3, 1) := dk_45 (dk_at dksL_law_8 15 rfl rfl)
theorem dL_law_376 : decode cL_law 376 = .ok (.invokestatic 162, 3) := dk_184 0 162 (dk_at dksL_law_8 16 rfl rfl)
theorem dL_law_379 : decode cL_law 379 = .ok (.istore 6, 2) := dk_54 6 (dk_at dksL_law_8 19 rfl rfl)
theorem dL_law_381 : decode cL_law 381 = .ok (.aload_n 2, 1) := dk_44 (dk_at dksL_law_8 21 rfl rfl)
theorem dL_law_382 : decode cL_law 382 = .ok (.aload_n 0, 1) := dk_42 (dk_at dksL_law_8 22 rfl rfl)
theorem dL_law_383 : decode cL_law 383 = .ok (.iload 5, 2) := dk_21 5 (dk_at dksL_law_9 0 rfl rfl)
theorem dL_law_385 : decode cL_law 385 = .ok (.iconst 1, 1) := dk_4 (dk_at dksL_law_9 2 rfl rfl)
theorem dL_law_386 : decode cL_law 386 = .ok (.iadd, 1) := dk_96 (dk_at dksL_law_9 3 rfl rfl)
theorem dL_law_387 : decode cL_law 387 = .ok (.iaload, 1) := dk_46 (dk_at dksL_law_9 4 rfl rfl)
theorem dL_law_388 : decode cL_law 388 = .ok (.invokevirtual 164, 3) := dk_182 0 164 (dk_at dksL_law_9 5 rfl rfl)
theorem dL_law_391 : decode cL_law 391 = .ok (.istore 7, 2) := dk_54 7 (dk_at dksL_law_9 8 rfl rfl)
theorem dL_law_393 : decode cL_law 393 = .ok (.aload_n 2, 1) := dk_44 (dk_at dksL_law_9 10 rfl rfl)
theorem dL_law_394 : decode cL_law 394 = .ok (.invokevirtual 155, 3) := dk_182 0 155 (dk_at dksL_law_9 11 rfl rfl)
theorem dL_law_397 : decode cL_law 397 = .ok (.iload 6, 2) := dk_21 6 (dk_at dksL_law_9 14 rfl rfl)
theorem dL_law_399 : decode cL_law 399 = .ok (.if_icmp .eq 5, 3) := dk_159 0 5 (dk_at dksL_law_9 16 rfl rfl)
theorem dL_law_402 : decode cL_law 402 = .ok (.iconst 0, 1) := dk_3 (dk_at dksL_law_9 19 rfl rfl)
theorem dL_law_403 : decode cL_law 403 = .ok (.ireturn, 1) := dk_172 (dk_at dksL_law_9 20 rfl rfl)
theorem dL_law_404 : decode cL_law 404 = .ok (.iload 6, 2) := dk_21 6 (dk_at dksL_law_9 21 rfl rfl)
theorem dL_law_406 : decode cL_law 406 = .ok (.ifCond .ne 15, 3) := dk_154 0 15 (dk_at dksL_law_10 0 rfl rfl)
theorem dL_law_409 : decode cL_law 409 = .ok (.aload_n 3, 1) := dk_45 (dk_at dksL_law_10 3 rfl rfl)
theorem dL_law_410 : decode cL_law 410 = .ok (.iconst 0, 1) := dk_3 (dk_at dksL_law_10 4 rfl rfl)
theorem dL_law_411 : decode cL_law 411 = .ok (.laload, 1) := dk_47 (dk_at dksL_law_10 5 rfl rfl)
theorem dL_law_412 : decode cL_law 412 = .ok (.iload 7, 2) := dk_21 7 (dk_at dksL_law_10 6 rfl rfl)
theorem dL_law_414 : decode cL_law 414 = .ok (.i2l, 1) := dk_133 (dk_at dksL_law_10 8 rfl rfl)
theorem dL_law_415 : decode cL_law 415 = .ok (.lcmp, 1) := dk_148 (dk_at dksL_law_10 9 rfl rfl)
theorem dL_law_416 : decode cL_law 416 = .ok (.ifCond .eq 5, 3) := dk_153 0 5 (dk_at dksL_law_10 10 rfl rfl)
theorem dL_law_419 : decode cL_law 419 = .ok (.iconst 0, 1) := dk_3 (dk_at dksL_law_10 13 rfl rfl)
theorem dL_law_420 : decode cL_law 420 = .ok (.ireturn, 1) := dk_172 (dk_at dksL_law_10 14 rfl rfl)
theorem dL_law_421 : decode cL_law 421 = .ok (.goto 2128, 3) := dk_167 8 80 (dk_at dksL_law_10 15 rfl rfl)
theorem dL_law_424 : decode cL_law 424 = .ok (.aload_n 1, 1) := dk_43 (dk_at dksL_law_10 18 rfl rfl)
theorem dL_law_425 : decode cL_law 425 = .ok (.aload_n 0, 1) := dk_42 (dk_at dksL_law_10 19 rfl rfl)
theorem dL_law_426 : decode cL_law 426 = .ok (.iload 5, 2) := dk_21 5 (dk_at dksL_law_10 20 rfl rfl)
theorem dL_law_428 : decode cL_law 428 = .ok (.iconst 1, 1) := dk_4 (dk_at dksL_law_10 22 rfl rfl)
theorem dL_law_429 : decode cL_law 429 = .ok (.iadd, 1) := dk_96 (dk_at dksL_law_10 23 rfl rfl)
theorem dL_law_430 : decode cL_law 430 = .ok (.iaload, 1) := dk_46 (dk_at dksL_law_11 0 rfl rfl)
theorem dL_law_431 : decode cL_law 431 = .ok (.aload_n 3, 1) := dk_45 (dk_at dksL_law_11 1 rfl rfl)
theorem dL_law_432 : decode cL_law 432 = .ok (.invokestatic 165, 3) := dk_184 0 165 (dk_at dksL_law_11 2 rfl rfl)
theorem dL_law_435 : decode cL_law 435 = .ok (.istore 6, 2) := dk_54 6 (dk_at dksL_law_11 5 rfl rfl)
theorem dL_law_437 : decode cL_law 437 = .ok (.aload_n 2, 1) := dk_44 (dk_at dksL_law_11 7 rfl rfl)
theorem dL_law_438 : decode cL_law 438 = .ok (.aload_n 0, 1) := dk_42 (dk_at dksL_law_11 8 rfl rfl)
theorem dL_law_439 : decode cL_law 439 = .ok (.iload 5, 2) := dk_21 5 (dk_at dksL_law_11 9 rfl rfl)
theorem dL_law_441 : decode cL_law 441 = .ok (.iconst 1, 1) := dk_4 (dk_at dksL_law_11 11 rfl rfl)
theorem dL_law_442 : decode cL_law 442 = .ok (.iadd, 1) := dk_96 (dk_at dksL_law_11 12 rfl rfl)
theorem dL_law_443 : decode cL_law 443 = .ok (.iaload, 1) := dk_46 (dk_at dksL_law_11 13 rfl rfl)
theorem dL_law_444 : decode cL_law 444 = .ok (.invokevirtual 167, 3) := dk_182 0 167 (dk_at dksL_law_11 14 rfl rfl)
theorem dL_law_447 : decode cL_law 447 = .ok (.istore 7, 2) := dk_54 7 (dk_at dksL_law_11 17 rfl rfl)
theorem dL_law_449 : decode cL_law 449 = .ok (.aload_n 2, 1) := dk_44 (dk_at dksL_law_11 19 rfl rfl)
theorem dL_law_450 : decode cL_law 450 = .ok (.invokevirtual 155, 3) := dk_182 0 155 (dk_at dksL_law_11 20 rfl rfl)
theorem dL_law_453 : decode cL_law 453 = .ok (.iload 6, 2) := dk_21 6 (dk_at dksL_law_12 0 rfl rfl)
theorem dL_law_455 : decode cL_law 455 = .ok (.if_icmp .eq 5, 3) := dk_159 0 5 (dk_at dksL_law_12 2 rfl rfl)
theorem dL_law_458 : decode cL_law 458 = .ok (.iconst 0, 1) := dk_3 (dk_at dksL_law_12 5 rfl rfl)
theorem dL_law_459 : decode cL_law 459 = .ok (.ireturn, 1) := dk_172 (dk_at dksL_law_12 6 rfl rfl)
theorem dL_law_460 : decode cL_law 460 = .ok (.iload 6, 2) := dk_21 6 (dk_at dksL_law_12 7 rfl rfl)
theorem dL_law_462 : decode cL_law 462 = .ok (.ifCond .ne 15, 3) := dk_154 0 15 (dk_at dksL_law_12 9 rfl rfl)
theorem dL_law_465 : decode cL_law 465 = .ok (.aload_n 3, 1) := dk_45 (dk_at dksL_law_12 12 rfl rfl)
theorem dL_law_466 : decode cL_law 466 = .ok (.iconst 0, 1) := dk_3 (dk_at dksL_law_12 13 rfl rfl)
theorem dL_law_467 : decode cL_law 467 = .ok (.laload, 1) := dk_47 (dk_at dksL_law_12 14 rfl rfl)
theorem dL_law_468 : decode cL_law 468 = .ok (.iload 7, 2) := dk_21 7 (dk_at dksL_law_12 15 rfl rfl)
theorem dL_law_470 : decode cL_law 470 = .ok (.i2l, 1) := dk_133 (dk_at dksL_law_12 17 rfl rfl)
theorem dL_law_471 : decode cL_law 471 = .ok (.lcmp, 1) := dk_148 (dk_at dksL_law_12 18 rfl rfl)
theorem dL_law_472 : decode cL_law 472 = .ok (.ifCond .eq 5, 3) := dk_153 0 5 (dk_at dksL_law_12 19 rfl rfl)
theorem dL_law_475 : decode cL_law 475 = .ok (.iconst 0, 1) := dk_3 (dk_at dksL_law_12 22 rfl rfl)
theorem dL_law_476 : decode cL_law 476 = .ok (.ireturn, 1) := dk_172 (dk_at dksL_law_12 23 rfl rfl)
theorem dL_law_477 : decode cL_law 477 = .ok (.goto 2072, 3) := dk_167 8 24 (dk_at dksL_law_13 0 rfl rfl)
theorem dL_law_480 : decode cL_law 480 = .ok (.aload_n 1, 1) := dk_43 (dk_at dksL_law_13 3 rfl rfl)
theorem dL_law_481 : decode cL_law 481 = .ok (.aload_n 0, 1) := dk_42 (dk_at dksL_law_13 4 rfl rfl)
theorem dL_law_482 : decode cL_law 482 = .ok (.iload 5, 2) := dk_21 5 (dk_at dksL_law_13 5 rfl rfl)
theorem dL_law_484 : decode cL_law 484 = .ok (.iconst 1, 1) := dk_4 (dk_at dksL_law_13 7 rfl rfl)
theorem dL_law_485 : decode cL_law 485 = .ok (.iadd, 1) := dk_96 (dk_at dksL_law_13 8 rfl rfl)
theorem dL_law_486 : decode cL_law 486 = .ok (.iaload, 1) := dk_46 (dk_at dksL_law_13 9 rfl rfl)
theorem dL_law_487 : decode cL_law 487 = .ok (.aload_n 3, 1) := dk_45 (dk_at dksL_law_13 10 rfl rfl)
theorem dL_law_488 : decode cL_law 488 = .ok (.invokestatic 168, 3) := dk_184 0 168 (dk_at dksL_law_13 11 rfl rfl)
theorem dL_law_491 : decode cL_law 491 = .ok (.istore 6, 2) := dk_54 6 (dk_at dksL_law_13 14 rfl rfl)
theorem dL_law_493 : decode cL_law 493 = .ok (.aload_n 2, 1) := dk_44 (dk_at dksL_law_13 16 rfl rfl)
theorem dL_law_494 : decode cL_law 494 = .ok (.aload_n 0, 1) := dk_42 (dk_at dksL_law_13 17 rfl rfl)
theorem dL_law_495 : decode cL_law 495 = .ok (.iload 5, 2) := dk_21 5 (dk_at dksL_law_13 18 rfl rfl)
theorem dL_law_497 : decode cL_law 497 = .ok (.iconst 1, 1) := dk_4 (dk_at dksL_law_13 20 rfl rfl)
theorem dL_law_498 : decode cL_law 498 = .ok (.iadd, 1) := dk_96 (dk_at dksL_law_13 21 rfl rfl)
theorem dL_law_499 : decode cL_law 499 = .ok (.iaload, 1) := dk_46 (dk_at dksL_law_13 22 rfl rfl)
theorem dL_law_500 : decode cL_law 500 = .ok (.invokevirtual 170, 3) := dk_182 0 170 (dk_at dksL_law_14 0 rfl rfl)
theorem dL_law_503 : decode cL_law 503 = .ok (.istore 7, 2) := dk_54 7 (dk_at dksL_law_14 3 rfl rfl)
theorem dL_law_505 : decode cL_law 505 = .ok (.aload_n 2, 1) := dk_44 (dk_at dksL_law_14 5 rfl rfl)
theorem dL_law_506 : decode cL_law 506 = .ok (.invokevirtual 155, 3) := dk_182 0 155 (dk_at dksL_law_14 6 rfl rfl)
theorem dL_law_509 : decode cL_law 509 = .ok (.iload 6, 2) := dk_21 6 (dk_at dksL_law_14 9 rfl rfl)
theorem dL_law_511 : decode cL_law 511 = .ok (.if_icmp .eq 5, 3) := dk_159 0 5 (dk_at dksL_law_14 11 rfl rfl)
theorem dL_law_514 : decode cL_law 514 = .ok (.iconst 0, 1) := dk_3 (dk_at dksL_law_14 14 rfl rfl)
theorem dL_law_515 : decode cL_law 515 = .ok (.ireturn, 1) := dk_172 (dk_at dksL_law_14 15 rfl rfl)
theorem dL_law_516 : decode cL_law 516 = .ok (.iload 6, 2) := dk_21 6 (dk_at dksL_law_14 16 rfl rfl)
theorem dL_law_518 : decode cL_law 518 = .ok (.ifCond .ne 15, 3) := dk_154 0 15 (dk_at dksL_law_14 18 rfl rfl)
theorem dL_law_521 : decode cL_law 521 = .ok (.aload_n 3, 1) := dk_45 (dk_at dksL_law_14 21 rfl rfl)
theorem dL_law_522 : decode cL_law 522 = .ok (.iconst 0, 1) := dk_3 (dk_at dksL_law_14 22 rfl rfl)
theorem dL_law_523 : decode cL_law 523 = .ok (.laload, 1) := dk_47 (dk_at dksL_law_14 23 rfl rfl)
theorem dL_law_524 : decode cL_law 524 = .ok (.iload 7, 2) := dk_21 7 (dk_at dksL_law_15 0 rfl rfl)
theorem dL_law_526 : decode cL_law 526 = .ok (.i2l, 1) := dk_133 (dk_at dksL_law_15 2 rfl rfl)
theorem dL_law_527 : decode cL_law 527 = .ok (.lcmp, 1) := dk_148 (dk_at dksL_law_15 3 rfl rfl)
theorem dL_law_528 : decode cL_law 528 = .ok (.ifCond .eq 5, 3) := dk_153 0 5 (dk_at dksL_law_15 4 rfl rfl)
theorem dL_law_531 : decode cL_law 531 = .ok (.iconst 0, 1) := dk_3 (dk_at dksL_law_15 7 rfl rfl)
theorem dL_law_532 : decode cL_law 532 = .ok (.ireturn, 1) := dk_172 (dk_at dksL_law_15 8 rfl rfl)
theorem dL_law_533 : decode cL_law 533 = .ok (.goto 2016, 3) := dk_167 7 224 (dk_at dksL_law_15 9 rfl rfl)
theorem dL_law_536 : decode cL_law 536 = .ok (.aload_n 1, 1) := dk_43 (dk_at dksL_law_15 12 rfl rfl)
theorem dL_law_537 : decode cL_law 537 = .ok (.invokevirtual 171, 3) := dk_182 0 171 (dk_at dksL_law_15 13 rfl rfl)
theorem dL_law_540 : decode cL_law 540 = .ok (.aload_n 2, 1) := dk_44 (dk_at dksL_law_15 16 rfl rfl)
theorem dL_law_541 : decode cL_law 541 = .ok (.invokevirtual 174, 3) := dk_182 0 174 (dk_at dksL_law_15 17 rfl rfl)
theorem dL_law_544 : decode cL_law 544 = .ok (.if_icmp .eq 2005, 3) := dk_159 7 213 (dk_at dksL_law_15 20 rfl rfl)
theorem dL_law_547 : decode cL_law 547 = .ok (.iconst 0, 1) := dk_3 (dk_at dksL_law_15 23 rfl rfl)
theorem dL_law_548 : decode cL_law 548 = .ok (.ireturn, 1) := dk_172 (dk_at dksL_law_16 0 rfl rfl)
theorem dL_law_549 : decode cL_law 549 = .ok (.aload_n 1, 1) := dk_43 (dk_at dksL_law_16 1 rfl rfl)
theorem dL_law_550 : decode cL_law 550 = .ok (.aload_n 0, 1) := dk_42 (dk_at dksL_law_16 2 rfl rfl)
theorem dL_law_551 : decode cL_law 551 = .ok (.iload 5, 2) := dk_21 5 (dk_at dksL_law_16 3 rfl rfl)
theorem dL_law_553 : decode cL_law 553 = .ok (.iconst 1, 1) := dk_4 (dk_at dksL_law_16 5 rfl rfl)
theorem dL_law_554 : decode cL_law 554 = .ok (.iadd, 1) := dk_96 (dk_at dksL_law_16 6 rfl rfl)
theorem dL_law_555 : decode cL_law 555 = .ok (.iaload, 1) := dk_46 (dk_at dksL_law_16 7 rfl rfl)
theorem dL_law_556 : decode cL_law 556 = .ok (.aload_n 3, 1) := dk_45 (dk_at dksL_law_16 8 rfl rfl)
theorem dL_law_557 : decode cL_law 557 = .ok (.invokestatic 175, 3) := dk_184 0 175 (dk_at dksL_law_16 9 rfl rfl)
theorem dL_law_560 : decode cL_law 560 = .ok (.istore 6, 2) := dk_54 6 (dk_at dksL_law_16 12 rfl rfl)
theorem dL_law_562 : decode cL_law 562 = .ok (.aload_n 2, 1) := dk_44 (dk_at dksL_law_16 14 rfl rfl)
theorem dL_law_563 : decode cL_law 563 = .ok (.aload_n 0, 1) := dk_42 (dk_at dksL_law_16 15 rfl rfl)
theorem dL_law_564 : decode cL_law 564 = .ok (.iload 5, 2) := dk_21 5 (dk_at dksL_law_16 16 rfl rfl)
theorem dL_law_566 : decode cL_law 566 = .ok (.iconst 1, 1) := dk_4 (dk_at dksL_law_16 18 rfl rfl)
theorem dL_law_567 : decode cL_law 567 = .ok (.iadd, 1) := dk_96 (dk_at dksL_law_16 19 rfl rfl)
theorem dL_law_568 : decode cL_law 568 = .ok (.iaload, 1) := dk_46 (dk_at dksL_law_16 20 rfl rfl)
theorem dL_law_569 : decode cL_law 569 = .ok (.invokevirtual 177, 3) := dk_182 0 177 (dk_at dksL_law_16 21 rfl rfl)
theorem dL_law_572 : decode cL_law 572 = .ok (.istore 7, 2) := dk_54 7 (dk_at dksL_law_17 0 rfl rfl)
theorem dL_law_574 : decode cL_law 574 = .ok (.aload_n 2, 1) := dk_44 (dk_at dksL_law_17 2 rfl rfl)
theorem dL_law_575 : decode cL_law 575 = .ok (.invokevirtual 155, 3) := dk_182 0 155 (dk_at dksL_law_17 3 rfl rfl)
theorem dL_law_578 : decode cL_law 578 = .ok (.iload 6, 2) := dk_21 6 (dk_at dksL_law_17 6 rfl rfl)
theorem dL_law_580 : decode cL_law 580 = .ok (.if_icmp .eq 5, 3) := dk_159 0 5 (dk_at dksL_law_17 8 rfl rfl)
theorem dL_law_583 : decode cL_law 583 = .ok (.iconst 0, 1) := dk_3 (dk_at dksL_law_17 11 rfl rfl)
theorem dL_law_584 : decode cL_law 584 = .ok (.ireturn, 1) := dk_172 (dk_at dksL_law_17 12 rfl rfl)
theorem dL_law_585 : decode cL_law 585 = .ok (.iload 6, 2) := dk_21 6 (dk_at dksL_law_17 13 rfl rfl)
theorem dL_law_587 : decode cL_law 587 = .ok (.ifCond .ne 15, 3) := dk_154 0 15 (dk_at dksL_law_17 15 rfl rfl)
theorem dL_law_590 : decode cL_law 590 = .ok (.aload_n 3, 1) := dk_45 (dk_at dksL_law_17 18 rfl rfl)
theorem dL_law_591 : decode cL_law 591 = .ok (.iconst 0, 1) := dk_3 (dk_at dksL_law_17 19 rfl rfl)
theorem dL_law_592 : decode cL_law 592 = .ok (.laload, 1) := dk_47 (dk_at dksL_law_17 20 rfl rfl)
theorem dL_law_593 : decode cL_law 593 = .ok (.iload 7, 2) := dk_21 7 (dk_at dksL_law_17 21 rfl rfl)
theorem dL_law_595 : decode cL_law 595 = .ok (.i2l, 1) := dk_133 (dk_at dksL_law_17 23 rfl rfl)
theorem dL_law_596 : decode cL_law 596 = .ok (.lcmp, 1) := dk_148 (dk_at dksL_law_18 0 rfl rfl)
theorem dL_law_597 : decode cL_law 597 = .ok (.ifCond .eq 5, 3) := dk_153 0 5 (dk_at dksL_law_18 1 rfl rfl)
theorem dL_law_600 : decode cL_law 600 = .ok (.iconst 0, 1) := dk_3 (dk_at dksL_law_18 4 rfl rfl)
theorem dL_law_601 : decode cL_law 601 = .ok (.ireturn, 1) := dk_172 (dk_at dksL_law_18 5 rfl rfl)
theorem dL_law_602 : decode cL_law 602 = .ok (.goto 1947, 3) := dk_167 7 155 (dk_at dksL_law_18 6 rfl rfl)
theorem dL_law_605 : decode cL_law 605 = .ok (.aload_n 1, 1) := dk_43 (dk_at dksL_law_18 9 rfl rfl)
theorem dL_law_606 : decode cL_law 606 = .ok (.aload_n 0, 1) := dk_42 (dk_at dksL_law_18 10 rfl rfl)
theorem dL_law_607 : decode cL_law 607 = .ok (.iload 5, 2) := dk_21 5 (dk_at dksL_law_18 11 rfl rfl)
theorem dL_law_609 : decode cL_law 609 = .ok (.iconst 1, 1) := dk_4 (dk_at dksL_law_18 13 rfl rfl)
theorem dL_law_610 : decode cL_law 610 = .ok (.iadd, 1) := dk_96 (dk_at dksL_law_18 14 rfl rfl)
theorem dL_law_611 : decode cL_law 611 = .ok (.iaload, 1) := dk_46 (dk_at dksL_law_18 15 rfl rfl)
theorem dL_law_612 : decode cL_law 612 = .ok (.aload_n 3, 1) := dk_45 (dk_at dksL_law_18 16 rfl rfl)
theorem dL_law_613 : decode cL_law 613 = .ok (.invokestatic 178, 3) := dk_184 0 178 (dk_at dksL_law_18 17 rfl rfl)
theorem dL_law_616 : decode cL_law 616 = .ok (.istore 6, 2) := dk_54 6 (dk_at dksL_law_18 20 rfl rfl)
theorem dL_law_618 : decode cL_law 618 = .ok (.aload_n 2, 1) := dk_44 (dk_at dksL_law_18 22 rfl rfl)
theorem dL_law_619 : decode cL_law 619 = .ok (.aload_n 0, 1) := dk_42 (dk_at dksL_law_18 23 rfl rfl)
theorem dL_law_620 : decode cL_law 620 = .ok (.iload 5, 2) := dk_21 5 (dk_at dksL_law_19 0 rfl rfl)
theorem dL_law_622 : decode cL_law 622 = .ok (.iconst 1, 1) := dk_4 (dk_at dksL_law_19 2 rfl rfl)
theorem dL_law_623 : decode cL_law 623 = .ok (.iadd, 1) := dk_96 (dk_at dksL_law_19 3 rfl rfl)
theorem dL_law_624 : decode cL_law 624 = .ok (.iaload, 1) := dk_46 (dk_at dksL_law_19 4 rfl rfl)
theorem dL_law_625 : decode cL_law 625 = .ok (.invokevirtual 180, 3) := dk_182 0 180 (dk_at dksL_law_19 5 rfl rfl)
theorem dL_law_628 : decode cL_law 628 = .ok (.istore 7, 2) := dk_54 7 (dk_at dksL_law_19 8 rfl rfl)
theorem dL_law_630 : decode cL_law 630 = .ok (.aload_n 2, 1) := dk_44 (dk_at dksL_law_19 10 rfl rfl)
theorem dL_law_631 : decode cL_law 631 = .ok (.invokevirtual 155, 3) := dk_182 0 155 (dk_at dksL_law_19 11 rfl rfl)
theorem dL_law_634 : decode cL_law 634 = .ok (.iload 6, 2) := dk_21 6 (dk_at dksL_law_19 14 rfl rfl)
theorem dL_law_636 : decode cL_law 636 = .ok (.if_icmp .eq 5, 3) := dk_159 0 5 (dk_at dksL_law_19 16 rfl rfl)
theorem dL_law_639 : decode cL_law 639 = .ok (.iconst 0, 1) := dk_3 (dk_at dksL_law_19 19 rfl rfl)
theorem dL_law_640 : decode cL_law 640 = .ok (.ireturn, 1) := dk_172 (dk_at dksL_law_19 20 rfl rfl)
theorem dL_law_641 : decode cL_law 641 = .ok (.iload 6, 2) := dk_21 6 (dk_at dksL_law_19 21 rfl rfl)
theorem dL_law_643 : decode cL_law 643 = .ok (.ifCond .ne 15, 3) := dk_154 0 15 (dk_at dksL_law_20 0 rfl rfl)
theorem dL_law_646 : decode cL_law 646 = .ok (.aload_n 3, 1) := dk_45 (dk_at dksL_law_20 3 rfl rfl)
theorem dL_law_647 : decode cL_law 647 = .ok (.iconst 0, 1) := dk_3 (dk_at dksL_law_20 4 rfl rfl)
theorem dL_law_648 : decode cL_law 648 = .ok (.laload, 1) := dk_47 (dk_at dksL_law_20 5 rfl rfl)
theorem dL_law_649 : decode cL_law 649 = .ok (.iload 7, 2) := dk_21 7 (dk_at dksL_law_20 6 rfl rfl)
theorem dL_law_651 : decode cL_law 651 = .ok (.i2l, 1) := dk_133 (dk_at dksL_law_20 8 rfl rfl)
theorem dL_law_652 : decode cL_law 652 = .ok (.lcmp, 1) := dk_148 (dk_at dksL_law_20 9 rfl rfl)
theorem dL_law_653 : decode cL_law 653 = .ok (.ifCond .eq 5, 3) := dk_153 0 5 (dk_at dksL_law_20 10 rfl rfl)
theorem dL_law_656 : decode cL_law 656 = .ok (.iconst 0, 1) := dk_3 (dk_at dksL_law_20 13 rfl rfl)
theorem dL_law_657 : decode cL_law 657 = .ok (.ireturn, 1) := dk_172 (dk_at dksL_law_20 14 rfl rfl)
theorem dL_law_658 : decode cL_law 658 = .ok (.goto 1891, 3) := dk_167 7 99 (dk_at dksL_law_20 15 rfl rfl)
theorem dL_law_661 : decode cL_law 661 = .ok (.aload_n 1, 1) := dk_43 (dk_at dksL_law_20 18 rfl rfl)
theorem dL_law_662 : decode cL_law 662 = .ok (.aload_n 0, 1) := dk_42 (dk_at dksL_law_20 19 rfl rfl)
theorem dL_law_663 : decode cL_law 663 = .ok (.iload 5, 2) := dk_21 5 (dk_at dksL_law_20 20 rfl rfl)
theorem dL_law_665 : decode cL_law 665 = .ok (.iconst 1, 1) := dk_4 (dk_at dksL_law_20 22 rfl rfl)
theorem dL_law_666 : decode cL_law 666 = .ok (.iadd, 1) := dk_96 (dk_at dksL_law_20 23 rfl rfl)
theorem dL_law_667 : decode cL_law 667 = .ok (.iaload, 1) := dk_46 (dk_at dksL_law_21 0 rfl rfl)
theorem dL_law_668 : decode cL_law 668 = .ok (.aload_n 3, 1) := dk_45 (dk_at dksL_law_21 1 rfl rfl)
theorem dL_law_669 : decode cL_law 669 = .ok (.invokestatic 181, 3) := dk_184 0 181 (dk_at dksL_law_21 2 rfl rfl)
theorem dL_law_672 : decode cL_law 672 = .ok (.istore 6, 2) := dk_54 6 (dk_at dksL_law_21 5 rfl rfl)
theorem dL_law_674 : decode cL_law 674 = .ok (.aload_n 2, 1) := dk_44 (dk_at dksL_law_21 7 rfl rfl)
theorem dL_law_675 : decode cL_law 675 = .ok (.aload_n 0, 1) := dk_42 (dk_at dksL_law_21 8 rfl rfl)
theorem dL_law_676 : decode cL_law 676 = .ok (.iload 5, 2) := dk_21 5 (dk_at dksL_law_21 9 rfl rfl)
theorem dL_law_678 : decode cL_law 678 = .ok (.iconst 1, 1) := dk_4 (dk_at dksL_law_21 11 rfl rfl)
theorem dL_law_679 : decode cL_law 679 = .ok (.iadd, 1) := dk_96 (dk_at dksL_law_21 12 rfl rfl)
theorem dL_law_680 : decode cL_law 680 = .ok (.iaload, 1) := dk_46 (dk_at dksL_law_21 13 rfl rfl)
theorem dL_law_681 : decode cL_law 681 = .ok (.invokevirtual 183, 3) := dk_182 0 183 (dk_at dksL_law_21 14 rfl rfl)
theorem dL_law_684 : decode cL_law 684 = .ok (.istore 7, 2) := dk_54 7 (dk_at dksL_law_21 17 rfl rfl)
theorem dL_law_686 : decode cL_law 686 = .ok (.aload_n 2, 1) := dk_44 (dk_at dksL_law_21 19 rfl rfl)
theorem dL_law_687 : decode cL_law 687 = .ok (.invokevirtual 155, 3) := dk_182 0 155 (dk_at dksL_law_21 20 rfl rfl)
theorem dL_law_690 : decode cL_law 690 = .ok (.iload 6, 2) := dk_21 6 (dk_at dksL_law_22 0 rfl rfl)
theorem dL_law_692 : decode cL_law 692 = .ok (.if_icmp .eq 5, 3) := dk_159 0 5 (dk_at dksL_law_22 2 rfl rfl)
theorem dL_law_695 : decode cL_law 695 = .ok (.iconst 0, 1) := dk_3 (dk_at dksL_law_22 5 rfl rfl)
theorem dL_law_696 : decode cL_law 696 = .ok (.ireturn, 1) := dk_172 (dk_at dksL_law_22 6 rfl rfl)
theorem dL_law_697 : decode cL_law 697 = .ok (.iload 6, 2) := dk_21 6 (dk_at dksL_law_22 7 rfl rfl)
theorem dL_law_699 : decode cL_law 699 = .ok (.ifCond .ne 15, 3) := dk_154 0 15 (dk_at dksL_law_22 9 rfl rfl)
theorem dL_law_702 : decode cL_law 702 = .ok (.aload_n 3, 1) := dk_45 (dk_at dksL_law_22 12 rfl rfl)
theorem dL_law_703 : decode cL_law 703 = .ok (.iconst 0, 1) := dk_3 (dk_at dksL_law_22 13 rfl rfl)
theorem dL_law_704 : decode cL_law 704 = .ok (.laload, 1) := dk_47 (dk_at dksL_law_22 14 rfl rfl)
theorem dL_law_705 : decode cL_law 705 = .ok (.iload 7, 2) := dk_21 7 (dk_at dksL_law_22 15 rfl rfl)
theorem dL_law_707 : decode cL_law 707 = .ok (.i2l, 1) := dk_133 (dk_at dksL_law_22 17 rfl rfl)
theorem dL_law_708 : decode cL_law 708 = .ok (.lcmp, 1) := dk_148 (dk_at dksL_law_22 18 rfl rfl)
theorem dL_law_709 : decode cL_law 709 = .ok (.ifCond .eq 5, 3) := dk_153 0 5 (dk_at dksL_law_22 19 rfl rfl)
theorem dL_law_712 : decode cL_law 712 = .ok (.iconst 0, 1) := dk_3 (dk_at dksL_law_22 22 rfl rfl)
theorem dL_law_713 : decode cL_law 713 = .ok (.ireturn, 1) := dk_172 (dk_at dksL_law_22 23 rfl rfl)
theorem dL_law_714 : decode cL_law 714 = .ok (.goto 1835, 3) := dk_167 7 43 (dk_at dksL_law_23 0 rfl rfl)
theorem dL_law_717 : decode cL_law 717 = .ok (.aload_n 1, 1) := dk_43 (dk_at dksL_law_23 3 rfl rfl)
theorem dL_law_718 : decode cL_law 718 = .ok (.aload_n 0, 1) := dk_42 (dk_at dksL_law_23 4 rfl rfl)
theorem dL_law_719 : decode cL_law 719 = .ok (.iload 5, 2) := dk_21 5 (dk_at dksL_law_23 5 rfl rfl)
theorem dL_law_721 : decode cL_law 721 = .ok (.iconst 1, 1) := dk_4 (dk_at dksL_law_23 7 rfl rfl)
theorem dL_law_722 : decode cL_law 722 = .ok (.iadd, 1) := dk_96 (dk_at dksL_law_23 8 rfl rfl)
theorem dL_law_723 : decode cL_law 723 = .ok (.iaload, 1) := dk_46 (dk_at dksL_law_23 9 rfl rfl)
theorem dL_law_724 : decode cL_law 724 = .ok (.aload_n 3, 1) := dk_45 (dk_at dksL_law_23 10 rfl rfl)
theorem dL_law_725 : decode cL_law 725 = .ok (.invokestatic 184, 3) := dk_184 0 184 (dk_at dksL_law_23 11 rfl rfl)
theorem dL_law_728 : decode cL_law 728 = .ok (.istore 6, 2) := dk_54 6 (dk_at dksL_law_23 14 rfl rfl)
theorem dL_law_730 : decode cL_law 730 = .ok (.aload_n 2, 1) := dk_44 (dk_at dksL_law_23 16 rfl rfl)
theorem dL_law_731 : decode cL_law 731 = .ok (.aload_n 0, 1) := dk_42 (dk_at dksL_law_23 17 rfl rfl)
theorem dL_law_732 : decode cL_law 732 = .ok (.iload 5, 2) := dk_21 5 (dk_at dksL_law_23 18 rfl rfl)
theorem dL_law_734 : decode cL_law 734 = .ok (.iconst 1, 1) := dk_4 (dk_at dksL_law_23 20 rfl rfl)
theorem dL_law_735 : decode cL_law 735 = .ok (.iadd, 1) := dk_96 (dk_at dksL_law_23 21 rfl rfl)
theorem dL_law_736 : decode cL_law 736 = .ok (.iaload, 1) := dk_46 (dk_at dksL_law_23 22 rfl rfl)
theorem dL_law_737 : decode cL_law 737 = .ok (.invokevirtual 186, 3) := dk_182 0 186 (dk_at dksL_law_24 0 rfl rfl)
theorem dL_law_740 : decode cL_law 740 = .ok (.istore 7, 2) := dk_54 7 (dk_at dksL_law_24 3 rfl rfl)
theorem dL_law_742 : decode cL_law 742 = .ok (.aload_n 2, 1) := dk_44 (dk_at dksL_law_24 5 rfl rfl)
theorem dL_law_743 : decode cL_law 743 = .ok (.invokevirtual 155, 3) := dk_182 0 155 (dk_at dksL_law_24 6 rfl rfl)
theorem dL_law_746 : decode cL_law 746 = .ok (.iload 6, 2) := dk_21 6 (dk_at dksL_law_24 9 rfl rfl)
theorem dL_law_748 : decode cL_law 748 = .ok (.if_icmp .eq 5, 3) := dk_159 0 5 (dk_at dksL_law_24 11 rfl rfl)
theorem dL_law_751 : decode cL_law 751 = .ok (.iconst 0, 1) := dk_3 (dk_at dksL_law_24 14 rfl rfl)
theorem dL_law_752 : decode cL_law 752 = .ok (.ireturn, 1) := dk_172 (dk_at dksL_law_24 15 rfl rfl)
theorem dL_law_753 : decode cL_law 753 = .ok (.iload 6, 2) := dk_21 6 (dk_at dksL_law_24 16 rfl rfl)
theorem dL_law_755 : decode cL_law 755 = .ok (.ifCond .ne 15, 3) := dk_154 0 15 (dk_at dksL_law_24 18 rfl rfl)
theorem dL_law_758 : decode cL_law 758 = .ok (.aload_n 3, 1) := dk_45 (dk_at dksL_law_24 21 rfl rfl)
theorem dL_law_759 : decode cL_law 759 = .ok (.iconst 0, 1) := dk_3 (dk_at dksL_law_24 22 rfl rfl)
theorem dL_law_760 : decode cL_law 760 = .ok (.laload, 1) := dk_47 (dk_at dksL_law_24 23 rfl rfl)
theorem dL_law_761 : decode cL_law 761 = .ok (.iload 7, 2) := dk_21 7 (dk_at dksL_law_25 0 rfl rfl)
theorem dL_law_763 : decode cL_law 763 = .ok (.i2l, 1) := dk_133 (dk_at dksL_law_25 2 rfl rfl)
theorem dL_law_764 : decode cL_law 764 = .ok (.lcmp, 1) := dk_148 (dk_at dksL_law_25 3 rfl rfl)
theorem dL_law_765 : decode cL_law 765 = .ok (.ifCond .eq 5, 3) := dk_153 0 5 (dk_at dksL_law_25 4 rfl rfl)
theorem dL_law_768 : decode cL_law 768 = .ok (.iconst 0, 1) := dk_3 (dk_at dksL_law_25 7 rfl rfl)
theorem dL_law_769 : decode cL_law 769 = .ok (.ireturn, 1) := dk_172 (dk_at dksL_law_25 8 rfl rfl)
theorem dL_law_770 : decode cL_law 770 = .ok (.goto 1779, 3) := dk_167 6 243 (dk_at dksL_law_25 9 rfl rfl)
theorem dL_law_773 : decode cL_law 773 = .ok (.aload_n 1, 1) := dk_43 (dk_at dksL_law_25 12 rfl rfl)
theorem dL_law_774 : decode cL_law 774 = .ok (.aload_n 0, 1) := dk_42 (dk_at dksL_law_25 13 rfl rfl)
theorem dL_law_775 : decode cL_law 775 = .ok (.iload 5, 2) := dk_21 5 (dk_at dksL_law_25 14 rfl rfl)
theorem dL_law_777 : decode cL_law 777 = .ok (.iconst 1, 1) := dk_4 (dk_at dksL_law_25 16 rfl rfl)
theorem dL_law_778 : decode cL_law 778 = .ok (.iadd, 1) := dk_96 (dk_at dksL_law_25 17 rfl rfl)
theorem dL_law_779 : decode cL_law 779 = .ok (.iaload, 1) := dk_46 (dk_at dksL_law_25 18 rfl rfl)
theorem dL_law_780 : decode cL_law 780 = .ok (.aload_n 3, 1) := dk_45 (dk_at dksL_law_25 19 rfl rfl)
theorem dL_law_781 : decode cL_law 781 = .ok (.invokestatic 187, 3) := dk_184 0 187 (dk_at dksL_law_25 20 rfl rfl)
theorem dL_law_784 : decode cL_law 784 = .ok (.istore 6, 2) := dk_54 6 (dk_at dksL_law_26 0 rfl rfl)
theorem dL_law_786 : decode cL_law 786 = .ok (.aload_n 2, 1) := dk_44 (dk_at dksL_law_26 2 rfl rfl)
theorem dL_law_787 : decode cL_law 787 = .ok (.aload_n 0, 1) := dk_42 (dk_at dksL_law_26 3 rfl rfl)
theorem dL_law_788 : decode cL_law 788 = .ok (.iload 5, 2) := dk_21 5 (dk_at dksL_law_26 4 rfl rfl)
theorem dL_law_790 : decode cL_law 790 = .ok (.iconst 1, 1) := dk_4 (dk_at dksL_law_26 6 rfl rfl)
theorem dL_law_791 : decode cL_law 791 = .ok (.iadd, 1) := dk_96 (dk_at dksL_law_26 7 rfl rfl)
theorem dL_law_792 : decode cL_law 792 = .ok (.iaload, 1) := dk_46 (dk_at dksL_law_26 8 rfl rfl)
theorem dL_law_793 : decode cL_law 793 = .ok (.invokevirtual 189, 3) := dk_182 0 189 (dk_at dksL_law_26 9 rfl rfl)
theorem dL_law_796 : decode cL_law 796 = .ok (.istore 7, 2) := dk_54 7 (dk_at dksL_law_26 12 rfl rfl)
theorem dL_law_798 : decode cL_law 798 = .ok (.aload_n 2, 1) := dk_44 (dk_at dksL_law_26 14 rfl rfl)
theorem dL_law_799 : decode cL_law 799 = .ok (.invokevirtual 155, 3) := dk_182 0 155 (dk_at dksL_law_26 15 rfl rfl)
theorem dL_law_802 : decode cL_law 802 = .ok (.iload 6, 2) := dk_21 6 (dk_at dksL_law_26 18 rfl rfl)
theorem dL_law_804 : decode cL_law 804 = .ok (.if_icmp .eq 5, 3) := dk_159 0 5 (dk_at dksL_law_26 20 rfl rfl)
theorem dL_law_807 : decode cL_law 807 = .ok (.iconst 0, 1) := dk_3 (dk_at dksL_law_26 23 rfl rfl)
theorem dL_law_808 : decode cL_law 808 = .ok (.ireturn, 1) := dk_172 (dk_at dksL_law_27 0 rfl rfl)
theorem dL_law_809 : decode cL_law 809 = .ok (.iload 6, 2) := dk_21 6 (dk_at dksL_law_27 1 rfl rfl)
theorem dL_law_811 : decode cL_law 811 = .ok (.ifCond .ne 15, 3) := dk_154 0 15 (dk_at dksL_law_27 3 rfl rfl)
theorem dL_law_814 : decode cL_law 814 = .ok (.aload_n 3, 1) := dk_45 (dk_at dksL_law_27 6 rfl rfl)
theorem dL_law_815 : decode cL_law 815 = .ok (.iconst 0, 1) := dk_3 (dk_at dksL_law_27 7 rfl rfl)
theorem dL_law_816 : decode cL_law 816 = .ok (.laload, 1) := dk_47 (dk_at dksL_law_27 8 rfl rfl)
theorem dL_law_817 : decode cL_law 817 = .ok (.iload 7, 2) := dk_21 7 (dk_at dksL_law_27 9 rfl rfl)
theorem dL_law_819 : decode cL_law 819 = .ok (.i2l, 1) := dk_133 (dk_at dksL_law_27 11 rfl rfl)
theorem dL_law_820 : decode cL_law 820 = .ok (.lcmp, 1) := dk_148 (dk_at dksL_law_27 12 rfl rfl)
theorem dL_law_821 : decode cL_law 821 = .ok (.ifCond .eq 5, 3) := dk_153 0 5 (dk_at dksL_law_27 13 rfl rfl)
theorem dL_law_824 : decode cL_law 824 = .ok (.iconst 0, 1) := dk_3 (dk_at dksL_law_27 16 rfl rfl)
theorem dL_law_825 : decode cL_law 825 = .ok (.ireturn, 1) := dk_172 (dk_at dksL_law_27 17 rfl rfl)
theorem dL_law_826 : decode cL_law 826 = .ok (.goto 1723, 3) := dk_167 6 187 (dk_at dksL_law_27 18 rfl rfl)
theorem dL_law_829 : decode cL_law 829 = .ok (.aload_n 1, 1) := dk_43 (dk_at dksL_law_27 21 rfl rfl)
theorem dL_law_830 : decode cL_law 830 = .ok (.aload_n 0, 1) := dk_42 (dk_at dksL_law_27 22 rfl rfl)
theorem dL_law_831 : decode cL_law 831 = .ok (.iload 5, 2) := dk_21 5 (dk_at dksL_law_28 0 rfl rfl)
theorem dL_law_833 : decode cL_law 833 = .ok (.iconst 1, 1) := dk_4 (dk_at dksL_law_28 2 rfl rfl)
theorem dL_law_834 : decode cL_law 834 = .ok (.iadd, 1) := dk_96 (dk_at dksL_law_28 3 rfl rfl)
theorem dL_law_835 : decode cL_law 835 = .ok (.iaload, 1) := dk_46 (dk_at dksL_law_28 4 rfl rfl)
theorem dL_law_836 : decode cL_law 836 = .ok (.aload_n 3, 1) := dk_45 (dk_at dksL_law_28 5 rfl rfl)
theorem dL_law_837 : decode cL_law 837 = .ok (.invokestatic 190, 3) := dk_184 0 190 (dk_at dksL_law_28 6 rfl rfl)
theorem dL_law_840 : decode cL_law 840 = .ok (.istore 6, 2) := dk_54 6 (dk_at dksL_law_28 9 rfl rfl)
theorem dL_law_842 : decode cL_law 842 = .ok (.aload_n 2, 1) := dk_44 (dk_at dksL_law_28 11 rfl rfl)
theorem dL_law_843 : decode cL_law 843 = .ok (.aload_n 0, 1) := dk_42 (dk_at dksL_law_28 12 rfl rfl)
theorem dL_law_844 : decode cL_law 844 = .ok (.iload 5, 2) := dk_21 5 (dk_at dksL_law_28 13 rfl rfl)
theorem dL_law_846 : decode cL_law 846 = .ok (.iconst 1, 1) := dk_4 (dk_at dksL_law_28 15 rfl rfl)
theorem dL_law_847 : decode cL_law 847 = .ok (.iadd, 1) := dk_96 (dk_at dksL_law_28 16 rfl rfl)
theorem dL_law_848 : decode cL_law 848 = .ok (.iaload, 1) := dk_46 (dk_at dksL_law_28 17 rfl rfl)
theorem dL_law_849 : decode cL_law 849 = .ok (.invokevirtual 192, 3) := dk_182 0 192 (dk_at dksL_law_28 18 rfl rfl)
theorem dL_law_852 : decode cL_law 852 = .ok (.istore 7, 2) := dk_54 7 (dk_at dksL_law_28 21 rfl rfl)
theorem dL_law_854 : decode cL_law 854 = .ok (.aload_n 2, 1) := dk_44 (dk_at dksL_law_28 23 rfl rfl)
theorem dL_law_855 : decode cL_law 855 = .ok (.invokevirtual 155, 3) := dk_182 0 155 (dk_at dksL_law_29 0 rfl rfl)
theorem dL_law_858 : decode cL_law 858 = .ok (.iload 6, 2) := dk_21 6 (dk_at dksL_law_29 3 rfl rfl)
theorem dL_law_860 : decode cL_law 860 = .ok (.if_icmp .eq 5, 3) := dk_159 0 5 (dk_at dksL_law_29 5 rfl rfl)
theorem dL_law_863 : decode cL_law 863 = .ok (.iconst 0, 1) := dk_3 (dk_at dksL_law_29 8 rfl rfl)
theorem dL_law_864 : decode cL_law 864 = .ok (.ireturn, 1) := dk_172 (dk_at dksL_law_29 9 rfl rfl)
theorem dL_law_865 : decode cL_law 865 = .ok (.iload 6, 2) := dk_21 6 (dk_at dksL_law_29 10 rfl rfl)
theorem dL_law_867 : decode cL_law 867 = .ok (.ifCond .ne 15, 3) := dk_154 0 15 (dk_at dksL_law_29 12 rfl rfl)
theorem dL_law_870 : decode cL_law 870 = .ok (.aload_n 3, 1) := dk_45 (dk_at dksL_law_29 15 rfl rfl)
theorem dL_law_871 : decode cL_law 871 = .ok (.iconst 0, 1) := dk_3 (dk_at dksL_law_29 16 rfl rfl)
theorem dL_law_872 : decode cL_law 872 = .ok (.laload, 1) := dk_47 (dk_at dksL_law_29 17 rfl rfl)
theorem dL_law_873 : decode cL_law 873 = .ok (.iload 7, 2) := dk_21 7 (dk_at dksL_law_29 18 rfl rfl)
theorem dL_law_875 : decode cL_law 875 = .ok (.i2l, 1) := dk_133 (dk_at dksL_law_29 20 rfl rfl)
theorem dL_law_876 : decode cL_law 876 = .ok (.lcmp, 1) := dk_148 (dk_at dksL_law_29 21 rfl rfl)
theorem dL_law_877 : decode cL_law 877 = .ok (.ifCond .eq 5, 3) := dk_153 0 5 (dk_at dksL_law_30 0 rfl rfl)
theorem dL_law_880 : decode cL_law 880 = .ok (.iconst 0, 1) := dk_3 (dk_at dksL_law_30 3 rfl rfl)
theorem dL_law_881 : decode cL_law 881 = .ok (.ireturn, 1) := dk_172 (dk_at dksL_law_30 4 rfl rfl)
theorem dL_law_882 : decode cL_law 882 = .ok (.goto 1667, 3) := dk_167 6 131 (dk_at dksL_law_30 5 rfl rfl)
theorem dL_law_885 : decode cL_law 885 = .ok (.aload_n 1, 1) := dk_43 (dk_at dksL_law_30 8 rfl rfl)
theorem dL_law_886 : decode cL_law 886 = .ok (.aload_n 0, 1) := dk_42 (dk_at dksL_law_30 9 rfl rfl)
theorem dL_law_887 : decode cL_law 887 = .ok (.iload 5, 2) := dk_21 5 (dk_at dksL_law_30 10 rfl rfl)
theorem dL_law_889 : decode cL_law 889 = .ok (.iconst 1, 1) := dk_4 (dk_at dksL_law_30 12 rfl rfl)
theorem dL_law_890 : decode cL_law 890 = .ok (.iadd, 1) := dk_96 (dk_at dksL_law_30 13 rfl rfl)
theorem dL_law_891 : decode cL_law 891 = .ok (.iaload, 1) := dk_46 (dk_at dksL_law_30 14 rfl rfl)
theorem dL_law_892 : decode cL_law 892 = .ok (.aload_n 3, 1) := dk_45 (dk_at dksL_law_30 15 rfl rfl)
theorem dL_law_893 : decode cL_law 893 = .ok (.invokestatic 193, 3) := dk_184 0 193 (dk_at dksL_law_30 16 rfl rfl)
theorem dL_law_896 : decode cL_law 896 = .ok (.istore 6, 2) := dk_54 6 (dk_at dksL_law_30 19 rfl rfl)
theorem dL_law_898 : decode cL_law 898 = .ok (.aload_n 2, 1) := dk_44 (dk_at dksL_law_30 21 rfl rfl)
theorem dL_law_899 : decode cL_law 899 = .ok (.aload_n 0, 1) := dk_42 (dk_at dksL_law_30 22 rfl rfl)
theorem dL_law_900 : decode cL_law 900 = .ok (.iload 5, 2) := dk_21 5 (dk_at dksL_law_31 0 rfl rfl)
theorem dL_law_902 : decode cL_law 902 = .ok (.iconst 1, 1) := dk_4 (dk_at dksL_law_31 2 rfl rfl)
theorem dL_law_903 : decode cL_law 903 = .ok (.iadd, 1) := dk_96 (dk_at dksL_law_31 3 rfl rfl)
theorem dL_law_904 : decode cL_law 904 = .ok (.iaload, 1) := dk_46 (dk_at dksL_law_31 4 rfl rfl)
theorem dL_law_905 : decode cL_law 905 = .ok (.invokevirtual 195, 3) := dk_182 0 195 (dk_at dksL_law_31 5 rfl rfl)
theorem dL_law_908 : decode cL_law 908 = .ok (.istore 7, 2) := dk_54 7 (dk_at dksL_law_31 8 rfl rfl)
theorem dL_law_910 : decode cL_law 910 = .ok (.aload_n 2, 1) := dk_44 (dk_at dksL_law_31 10 rfl rfl)
theorem dL_law_911 : decode cL_law 911 = .ok (.invokevirtual 155, 3) := dk_182 0 155 (dk_at dksL_law_31 11 rfl rfl)
theorem dL_law_914 : decode cL_law 914 = .ok (.iload 6, 2) := dk_21 6 (dk_at dksL_law_31 14 rfl rfl)
theorem dL_law_916 : decode cL_law 916 = .ok (.if_icmp .eq 5, 3) := dk_159 0 5 (dk_at dksL_law_31 16 rfl rfl)
theorem dL_law_919 : decode cL_law 919 = .ok (.iconst 0, 1) := dk_3 (dk_at dksL_law_31 19 rfl rfl)
theorem dL_law_920 : decode cL_law 920 = .ok (.ireturn, 1) := dk_172 (dk_at dksL_law_31 20 rfl rfl)
theorem dL_law_921 : decode cL_law 921 = .ok (.iload 6, 2) := dk_21 6 (dk_at dksL_law_31 21 rfl rfl)
theorem dL_law_923 : decode cL_law 923 = .ok (.ifCond .ne 15, 3) := dk_154 0 15 (dk_at dksL_law_32 0 rfl rfl)
theorem dL_law_926 : decode cL_law 926 = .ok (.aload_n 3, 1) := dk_45 (dk_at dksL_law_32 3 rfl rfl)
theorem dL_law_927 : decode cL_law 927 = .ok (.iconst 0, 1) := dk_3 (dk_at dksL_law_32 4 rfl rfl)
theorem dL_law_928 : decode cL_law 928 = .ok (.laload, 1) := dk_47 (dk_at dksL_law_32 5 rfl rfl)
theorem dL_law_929 : decode cL_law 929 = .ok (.iload 7, 2) := dk_21 7 (dk_at dksL_law_32 6 rfl rfl)
theorem dL_law_931 : decode cL_law 931 = .ok (.i2l, 1) := dk_133 (dk_at dksL_law_32 8 rfl rfl)
theorem dL_law_932 : decode cL_law 932 = .ok (.lcmp, 1) := dk_148 (dk_at dksL_law_32 9 rfl rfl)
theorem dL_law_933 : decode cL_law 933 = .ok (.ifCond .eq 5, 3) := dk_153 0 5 (dk_at dksL_law_32 10 rfl rfl)
theorem dL_law_936 : decode cL_law 936 = .ok (.iconst 0, 1) := dk_3 (dk_at dksL_law_32 13 rfl rfl)
theorem dL_law_937 : decode cL_law 937 = .ok (.ireturn, 1) := dk_172 (dk_at dksL_law_32 14 rfl rfl)
theorem dL_law_938 : decode cL_law 938 = .ok (.goto 1611, 3) := dk_167 6 75 (dk_at dksL_law_32 15 rfl rfl)
theorem dL_law_941 : decode cL_law 941 = .ok (.aload_n 1, 1) := dk_43 (dk_at dksL_law_32 18 rfl rfl)
theorem dL_law_942 : decode cL_law 942 = .ok (.invokevirtual 196, 3) := dk_182 0 196 (dk_at dksL_law_32 19 rfl rfl)
theorem dL_law_945 : decode cL_law 945 = .ok (.aload_n 2, 1) := dk_44 (dk_at dksL_law_32 22 rfl rfl)
theorem dL_law_946 : decode cL_law 946 = .ok (.invokevirtual 199, 3) := dk_182 0 199 (dk_at dksL_law_33 0 rfl rfl)
theorem dL_law_949 : decode cL_law 949 = .ok (.if_icmp .eq 1600, 3) := dk_159 6 64 (dk_at dksL_law_33 3 rfl rfl)
theorem dL_law_952 : decode cL_law 952 = .ok (.iconst 0, 1) := dk_3 (dk_at dksL_law_33 6 rfl rfl)
theorem dL_law_953 : decode cL_law 953 = .ok (.ireturn, 1) := dk_172 (dk_at dksL_law_33 7 rfl rfl)
theorem dL_law_954 : decode cL_law 954 = .ok (.aload_n 1, 1) := dk_43 (dk_at dksL_law_33 8 rfl rfl)
theorem dL_law_955 : decode cL_law 955 = .ok (.invokevirtual 200, 3) := dk_182 0 200 (dk_at dksL_law_33 9 rfl rfl)
theorem dL_law_958 : decode cL_law 958 = .ok (.aload_n 2, 1) := dk_44 (dk_at dksL_law_33 12 rfl rfl)
theorem dL_law_959 : decode cL_law 959 = .ok (.invokevirtual 203, 3) := dk_182 0 203 (dk_at dksL_law_33 13 rfl rfl)
theorem dL_law_962 : decode cL_law 962 = .ok (.if_icmp .eq 1587, 3) := dk_159 6 51 (dk_at dksL_law_33 16 rfl rfl)
theorem dL_law_965 : decode cL_law 965 = .ok (.iconst 0, 1) := dk_3 (dk_at dksL_law_33 19 rfl rfl)
theorem dL_law_966 : decode cL_law 966 = .ok (.ireturn, 1) := dk_172 (dk_at dksL_law_33 20 rfl rfl)
theorem dL_law_967 : decode cL_law 967 = .ok (.aload_n 1, 1) := dk_43 (dk_at dksL_law_33 21 rfl rfl)
theorem dL_law_968 : decode cL_law 968 = .ok (.aload_n 0, 1) := dk_42 (dk_at dksL_law_33 22 rfl rfl)
theorem dL_law_969 : decode cL_law 969 = .ok (.iload 5, 2) := dk_21 5 (dk_at dksL_law_34 0 rfl rfl)
theorem dL_law_971 : decode cL_law 971 = .ok (.iconst 1, 1) := dk_4 (dk_at dksL_law_34 2 rfl rfl)
theorem dL_law_972 : decode cL_law 972 = .ok (.iadd, 1) := dk_96 (dk_at dksL_law_34 3 rfl rfl)
theorem dL_law_973 : decode cL_law 973 = .ok (.iaload, 1) := dk_46 (dk_at dksL_law_34 4 rfl rfl)
theorem dL_law_974 : decode cL_law 974 = .ok (.aload_n 3, 1) := dk_45 (dk_at dksL_law_34 5 rfl rfl)
theorem dL_law_975 : decode cL_law 975 = .ok (.invokestatic 204, 3) := dk_184 0 204 (dk_at dksL_law_34 6 rfl rfl)
theorem dL_law_978 : decode cL_law 978 = .ok (.istore 6, 2) := dk_54 6 (dk_at dksL_law_34 9 rfl rfl)
theorem dL_law_980 : decode cL_law 980 = .ok (.aload_n 2, 1) := dk_44 (dk_at dksL_law_34 11 rfl rfl)
theorem dL_law_981 : decode cL_law 981 = .ok (.aload_n 0, 1) := dk_42 (dk_at dksL_law_34 12 rfl rfl)
theorem dL_law_982 : decode cL_law 982 = .ok (.iload 5, 2) := dk_21 5 (dk_at dksL_law_34 13 rfl rfl)
theorem dL_law_984 : decode cL_law 984 = .ok (.iconst 1, 1) := dk_4 (dk_at dksL_law_34 15 rfl rfl)
theorem dL_law_985 : decode cL_law 985 = .ok (.iadd, 1) := dk_96 (dk_at dksL_law_34 16 rfl rfl)
theorem dL_law_986 : decode cL_law 986 = .ok (.iaload, 1) := dk_46 (dk_at dksL_law_34 17 rfl rfl)
theorem dL_law_987 : decode cL_law 987 = .ok (.invokevirtual 206, 3) := dk_182 0 206 (dk_at dksL_law_34 18 rfl rfl)
theorem dL_law_990 : decode cL_law 990 = .ok (.istore 7, 2) := dk_54 7 (dk_at dksL_law_34 21 rfl rfl)
theorem dL_law_992 : decode cL_law 992 = .ok (.aload_n 2, 1) := dk_44 (dk_at dksL_law_34 23 rfl rfl)
theorem dL_law_993 : decode cL_law 993 = .ok (.invokevirtual 155, 3) := dk_182 0 155 (dk_at dksL_law_35 0 rfl rfl)
theorem dL_law_996 : decode cL_law 996 = .ok (.iload 6, 2) := dk_21 6 (dk_at dksL_law_35 3 rfl rfl)
theorem dL_law_998 : decode cL_law 998 = .ok (.if_icmp .eq 5, 3) := dk_159 0 5 (dk_at dksL_law_35 5 rfl rfl)
theorem dL_law_1001 : decode cL_law 1001 = .ok (.iconst 0, 1) := dk_3 (dk_at dksL_law_35 8 rfl rfl)
theorem dL_law_1002 : decode cL_law 1002 = .ok (.ireturn, 1) := dk_172 (dk_at dksL_law_35 9 rfl rfl)
theorem dL_law_1003 : decode cL_law 1003 = .ok (.iload 6, 2) := dk_21 6 (dk_at dksL_law_35 10 rfl rfl)
theorem dL_law_1005 : decode cL_law 1005 = .ok (.ifCond .ne 15, 3) := dk_154 0 15 (dk_at dksL_law_35 12 rfl rfl)
theorem dL_law_1008 : decode cL_law 1008 = .ok (.aload_n 3, 1) := dk_45 (dk_at dksL_law_35 15 rfl rfl)
theorem dL_law_1009 : decode cL_law 1009 = .ok (.iconst 0, 1) := dk_3 (dk_at dksL_law_35 16 rfl rfl)
theorem dL_law_1010 : decode cL_law 1010 = .ok (.laload, 1) := dk_47 (dk_at dksL_law_35 17 rfl rfl)
theorem dL_law_1011 : decode cL_law 1011 = .ok (.iload 7, 2) := dk_21 7 (dk_at dksL_law_35 18 rfl rfl)
theorem dL_law_1013 : decode cL_law 1013 = .ok (.i2l, 1) := dk_133 (dk_at dksL_law_35 20 rfl rfl)
theorem dL_law_1014 : decode cL_law 1014 = .ok (.lcmp, 1) := dk_148 (dk_at dksL_law_35 21 rfl rfl)
theorem dL_law_1015 : decode cL_law 1015 = .ok (.ifCond .eq 5, 3) := dk_153 0 5 (dk_at dksL_law_36 0 rfl rfl)
theorem dL_law_1018 : decode cL_law 1018 = .ok (.iconst 0, 1) := dk_3 (dk_at dksL_law_36 3 rfl rfl)
theorem dL_law_1019 : decode cL_law 1019 = .ok (.ireturn, 1) := dk_172 (dk_at dksL_law_36 4 rfl rfl)
theorem dL_law_1020 : decode cL_law 1020 = .ok (.goto 1529, 3) := dk_167 5 249 (dk_at dksL_law_36 5 rfl rfl)
theorem dL_law_1023 : decode cL_law 1023 = .ok (.aload_n 1, 1) := dk_43 (dk_at dksL_law_36 8 rfl rfl)
theorem dL_law_1024 : decode cL_law 1024 = .ok (.aload_n 0, 1) := dk_42 (dk_at dksL_law_36 9 rfl rfl)
theorem dL_law_1025 : decode cL_law 1025 = .ok (.iload 5, 2) := dk_21 5 (dk_at dksL_law_36 10 rfl rfl)
theorem dL_law_1027 : decode cL_law 1027 = .ok (.iconst 1, 1) := dk_4 (dk_at dksL_law_36 12 rfl rfl)
theorem dL_law_1028 : decode cL_law 1028 = .ok (.iadd, 1) := dk_96 (dk_at dksL_law_36 13 rfl rfl)
theorem dL_law_1029 : decode cL_law 1029 = .ok (.iaload, 1) := dk_46 (dk_at dksL_law_36 14 rfl rfl)
theorem dL_law_1030 : decode cL_law 1030 = .ok (.aload_n 3, 1) := dk_45 (dk_at dksL_law_36 15 rfl rfl)
theorem dL_law_1031 : decode cL_law 1031 = .ok (.invokestatic 207, 3) := dk_184 0 207 (dk_at dksL_law_36 16 rfl rfl)
theorem dL_law_1034 : decode cL_law 1034 = .ok (.istore 6, 2) := dk_54 6 (dk_at dksL_law_36 19 rfl rfl)
theorem dL_law_1036 : decode cL_law 1036 = .ok (.aload_n 2, 1) := dk_44 (dk_at dksL_law_36 21 rfl rfl)
theorem dL_law_1037 : decode cL_law 1037 = .ok (.aload_n 0, 1) := dk_42 (dk_at dksL_law_36 22 rfl rfl)
theorem dL_law_1038 : decode cL_law 1038 = .ok (.iload 5, 2) := dk_21 5 (dk_at dksL_law_37 0 rfl rfl)
theorem dL_law_1040 : decode cL_law 1040 = .ok (.iconst 1, 1) := dk_4 (dk_at dksL_law_37 2 rfl rfl)
theorem dL_law_1041 : decode cL_law 1041 = .ok (.iadd, 1) := dk_96 (dk_at dksL_law_37 3 rfl rfl)
theorem dL_law_1042 : decode cL_law 1042 = .ok (.iaload, 1) := dk_46 (dk_at dksL_law_37 4 rfl rfl)
theorem dL_law_1043 : decode cL_law 1043 = .ok (.invokevirtual 209, 3) := dk_182 0 209 (dk_at dksL_law_37 5 rfl rfl)
theorem dL_law_1046 : decode cL_law 1046 = .ok (.istore 7, 2) := dk_54 7 (dk_at dksL_law_37 8 rfl rfl)
theorem dL_law_1048 : decode cL_law 1048 = .ok (.aload_n 2, 1) := dk_44 (dk_at dksL_law_37 10 rfl rfl)
theorem dL_law_1049 : decode cL_law 1049 = .ok (.invokevirtual 155, 3) := dk_182 0 155 (dk_at dksL_law_37 11 rfl rfl)
theorem dL_law_1052 : decode cL_law 1052 = .ok (.iload 6, 2) := dk_21 6 (dk_at dksL_law_37 14 rfl rfl)
theorem dL_law_1054 : decode cL_law 1054 = .ok (.if_icmp .eq 5, 3) := dk_159 0 5 (dk_at dksL_law_37 16 rfl rfl)
theorem dL_law_1057 : decode cL_law 1057 = .ok (.iconst 0, 1) := dk_3 (dk_at dksL_law_37 19 rfl rfl)
theorem dL_law_1058 : decode cL_law 1058 = .ok (.ireturn, 1) := dk_172 (dk_at dksL_law_37 20 rfl rfl)
theorem dL_law_1059 : decode cL_law 1059 = .ok (.iload 6, 2) := dk_21 6 (dk_at dksL_law_37 21 rfl rfl)
theorem dL_law_1061 : decode cL_law 1061 = .ok (.ifCond .ne 15, 3) := dk_154 0 15 (dk_at dksL_law_38 0 rfl rfl)
theorem dL_law_1064 : decode cL_law 1064 = .ok (.aload_n 3, 1) := dk_45 (dk_at dksL_law_38 3 rfl rfl)
theorem dL_law_1065 : decode cL_law 1065 = .ok (.iconst 0, 1) := dk_3 (dk_at dksL_law_38 4 rfl rfl)
theorem dL_law_1066 : decode cL_law 1066 = .ok (.laload, 1) := dk_47 (dk_at dksL_law_38 5 rfl rfl)
theorem dL_law_1067 : decode cL_law 1067 = .ok (.iload 7, 2) := dk_21 7 (dk_at dksL_law_38 6 rfl rfl)
theorem dL_law_1069 : decode cL_law 1069 = .ok (.i2l, 1) := dk_133 (dk_at dksL_law_38 8 rfl rfl)
theorem dL_law_1070 : decode cL_law 1070 = .ok (.lcmp, 1) := dk_148 (dk_at dksL_law_38 9 rfl rfl)
theorem dL_law_1071 : decode cL_law 1071 = .ok (.ifCond .eq 5, 3) := dk_153 0 5 (dk_at dksL_law_38 10 rfl rfl)
theorem dL_law_1074 : decode cL_law 1074 = .ok (.iconst 0, 1) := dk_3 (dk_at dksL_law_38 13 rfl rfl)
theorem dL_law_1075 : decode cL_law 1075 = .ok (.ireturn, 1) := dk_172 (dk_at dksL_law_38 14 rfl rfl)
theorem dL_law_1076 : decode cL_law 1076 = .ok (.goto 1473, 3) := dk_167 5 193 (dk_at dksL_law_38 15 rfl rfl)
theorem dL_law_1079 : decode cL_law 1079 = .ok (.aload_n 1, 1) := dk_43 (dk_at dksL_law_38 18 rfl rfl)
theorem dL_law_1080 : decode cL_law 1080 = .ok (.aload_n 0, 1) := dk_42 (dk_at dksL_law_38 19 rfl rfl)
theorem dL_law_1081 : decode cL_law 1081 = .ok (.iload 5, 2) := dk_21 5 (dk_at dksL_law_38 20 rfl rfl)
theorem dL_law_1083 : decode cL_law 1083 = .ok (.iconst 1, 1) := dk_4 (dk_at dksL_law_38 22 rfl rfl)
theorem dL_law_1084 : decode cL_law 1084 = .ok (.iadd, 1) := dk_96 (dk_at dksL_law_38 23 rfl rfl)
theorem dL_law_1085 : decode cL_law 1085 = .ok (.iaload, 1) := dk_46 (dk_at dksL_law_39 0 rfl rfl)
theorem dL_law_1086 : decode cL_law 1086 = .ok (.aload_n 3, 1) := dk_45 (dk_at dksL_law_39 1 rfl rfl)
theorem dL_law_1087 : decode cL_law 1087 = .ok (.invokestatic 210, 3) := dk_184 0 210 (dk_at dksL_law_39 2 rfl rfl)
theorem dL_law_1090 : decode cL_law 1090 = .ok (.istore 6, 2) := dk_54 6 (dk_at dksL_law_39 5 rfl rfl)
theorem dL_law_1092 : decode cL_law 1092 = .ok (.aload_n 2, 1) := dk_44 (dk_at dksL_law_39 7 rfl rfl)
theorem dL_law_1093 : decode cL_law 1093 = .ok (.aload_n 0, 1) := dk_42 (dk_at dksL_law_39 8 rfl rfl)
theorem dL_law_1094 : decode cL_law 1094 = .ok (.iload 5, 2) := dk_21 5 (dk_at dksL_law_39 9 rfl rfl)
theorem dL_law_1096 : decode cL_law 1096 = .ok (.iconst 1, 1) := dk_4 (dk_at dksL_law_39 11 rfl rfl)
theorem dL_law_1097 : decode cL_law 1097 = .ok (.iadd, 1) := dk_96 (dk_at dksL_law_39 12 rfl rfl)
theorem dL_law_1098 : decode cL_law 1098 = .ok (.iaload, 1) := dk_46 (dk_at dksL_law_39 13 rfl rfl)
theorem dL_law_1099 : decode cL_law 1099 = .ok (.invokevirtual 212, 3) := dk_182 0 212 (dk_at dksL_law_39 14 rfl rfl)
theorem dL_law_1102 : decode cL_law 1102 = .ok (.istore 7, 2) := dk_54 7 (dk_at dksL_law_39 17 rfl rfl)
theorem dL_law_1104 : decode cL_law 1104 = .ok (.aload_n 2, 1) := dk_44 (dk_at dksL_law_39 19 rfl rfl)
theorem dL_law_1105 : decode cL_law 1105 = .ok (.invokevirtual 155, 3) := dk_182 0 155 (dk_at dksL_law_39 20 rfl rfl)
theorem dL_law_1108 : decode cL_law 1108 = .ok (.iload 6, 2) := dk_21 6 (dk_at dksL_law_40 0 rfl rfl)
theorem dL_law_1110 : decode cL_law 1110 = .ok (.if_icmp .eq 5, 3) := dk_159 0 5 (dk_at dksL_law_40 2 rfl rfl)
theorem dL_law_1113 : decode cL_law 1113 = .ok (.iconst 0, 1) := dk_3 (dk_at dksL_law_40 5 rfl rfl)
theorem dL_law_1114 : decode cL_law 1114 = .ok (.ireturn, 1) := dk_172 (dk_at dksL_law_40 6 rfl rfl)
theorem dL_law_1115 : decode cL_law 1115 = .ok (.iload 6, 2) := dk_21 6 (dk_at dksL_law_40 7 rfl rfl)
theorem dL_law_1117 : decode cL_law 1117 = .ok (.ifCond .ne 15, 3) := dk_154 0 15 (dk_at dksL_law_40 9 rfl rfl)
theorem dL_law_1120 : decode cL_law 1120 = .ok (.aload_n 3, 1) := dk_45 (dk_at dksL_law_40 12 rfl rfl)
theorem dL_law_1121 : decode cL_law 1121 = .ok (.iconst 0, 1) := dk_3 (dk_at dksL_law_40 13 rfl rfl)
theorem dL_law_1122 : decode cL_law 1122 = .ok (.laload, 1) := dk_47 (dk_at dksL_law_40 14 rfl rfl)
theorem dL_law_1123 : decode cL_law 1123 = .ok (.iload 7, 2) := dk_21 7 (dk_at dksL_law_40 15 rfl rfl)
theorem dL_law_1125 : decode cL_law 1125 = .ok (.i2l, 1) := dk_133 (dk_at dksL_law_40 17 rfl rfl)
theorem dL_law_1126 : decode cL_law 1126 = .ok (.lcmp, 1) := dk_148 (dk_at dksL_law_40 18 rfl rfl)
theorem dL_law_1127 : decode cL_law 1127 = .ok (.ifCond .eq 5, 3) := dk_153 0 5 (dk_at dksL_law_40 19 rfl rfl)
theorem dL_law_1130 : decode cL_law 1130 = .ok (.iconst 0, 1) := dk_3 (dk_at dksL_law_40 22 rfl rfl)
theorem dL_law_1131 : decode cL_law 1131 = .ok (.ireturn, 1) := dk_172 (dk_at dksL_law_40 23 rfl rfl)
theorem dL_law_1132 : decode cL_law 1132 = .ok (.goto 1417, 3) := dk_167 5 137 (dk_at dksL_law_41 0 rfl rfl)
theorem dL_law_1135 : decode cL_law 1135 = .ok (.aload_n 1, 1) := dk_43 (dk_at dksL_law_41 3 rfl rfl)
theorem dL_law_1136 : decode cL_law 1136 = .ok (.aload_n 0, 1) := dk_42 (dk_at dksL_law_41 4 rfl rfl)
theorem dL_law_1137 : decode cL_law 1137 = .ok (.iload 5, 2) := dk_21 5 (dk_at dksL_law_41 5 rfl rfl)
theorem dL_law_1139 : decode cL_law 1139 = .ok (.iconst 1, 1) := dk_4 (dk_at dksL_law_41 7 rfl rfl)
theorem dL_law_1140 : decode cL_law 1140 = .ok (.iadd, 1) := dk_96 (dk_at dksL_law_41 8 rfl rfl)
theorem dL_law_1141 : decode cL_law 1141 = .ok (.iaload, 1) := dk_46 (dk_at dksL_law_41 9 rfl rfl)
theorem dL_law_1142 : decode cL_law 1142 = .ok (.aload_n 3, 1) := dk_45 (dk_at dksL_law_41 10 rfl rfl)
theorem dL_law_1143 : decode cL_law 1143 = .ok (.invokestatic 213, 3) := dk_184 0 213 (dk_at dksL_law_41 11 rfl rfl)
theorem dL_law_1146 : decode cL_law 1146 = .ok (.istore 6, 2) := dk_54 6 (dk_at dksL_law_41 14 rfl rfl)
theorem dL_law_1148 : decode cL_law 1148 = .ok (.aload_n 2, 1) := dk_44 (dk_at dksL_law_41 16 rfl rfl)
theorem dL_law_1149 : decode cL_law 1149 = .ok (.aload_n 0, 1) := dk_42 (dk_at dksL_law_41 17 rfl rfl)
theorem dL_law_1150 : decode cL_law 1150 = .ok (.iload 5, 2) := dk_21 5 (dk_at dksL_law_41 18 rfl rfl)
theorem dL_law_1152 : decode cL_law 1152 = .ok (.iconst 1, 1) := dk_4 (dk_at dksL_law_41 20 rfl rfl)
theorem dL_law_1153 : decode cL_law 1153 = .ok (.iadd, 1) := dk_96 (dk_at dksL_law_41 21 rfl rfl)
theorem dL_law_1154 : decode cL_law 1154 = .ok (.iaload, 1) := dk_46 (dk_at dksL_law_41 22 rfl rfl)
theorem dL_law_1155 : decode cL_law 1155 = .ok (.invokevirtual 215, 3) := dk_182 0 215 (dk_at dksL_law_42 0 rfl rfl)
theorem dL_law_1158 : decode cL_law 1158 = .ok (.istore 7, 2) := dk_54 7 (dk_at dksL_law_42 3 rfl rfl)
theorem dL_law_1160 : decode cL_law 1160 = .ok (.aload_n 2, 1) := dk_44 (dk_at dksL_law_42 5 rfl rfl)
theorem dL_law_1161 : decode cL_law 1161 = .ok (.invokevirtual 155, 3) := dk_182 0 155 (dk_at dksL_law_42 6 rfl rfl)
theorem dL_law_1164 : decode cL_law 1164 = .ok (.iload 6, 2) := dk_21 6 (dk_at dksL_law_42 9 rfl rfl)
theorem dL_law_1166 : decode cL_law 1166 = .ok (.if_icmp .eq 5, 3) := dk_159 0 5 (dk_at dksL_law_42 11 rfl rfl)
theorem dL_law_1169 : decode cL_law 1169 = .ok (.iconst 0, 1) := dk_3 (dk_at dksL_law_42 14 rfl rfl)
theorem dL_law_1170 : decode cL_law 1170 = .ok (.ireturn, 1) := dk_172 (dk_at dksL_law_42 15 rfl rfl)
theorem dL_law_1171 : decode cL_law 1171 = .ok (.iload 6, 2) := dk_21 6 (dk_at dksL_law_42 16 rfl rfl)
theorem dL_law_1173 : decode cL_law 1173 = .ok (.ifCond .ne 15, 3) := dk_154 0 15 (dk_at dksL_law_42 18 rfl rfl)
theorem dL_law_1176 : decode cL_law 1176 = .ok (.aload_n 3, 1) := dk_45 (dk_at dksL_law_42 21 rfl rfl)
theorem dL_law_1177 : decode cL_law 1177 = .ok (.iconst 0, 1) := dk_3 (dk_at dksL_law_42 22 rfl rfl)
theorem dL_law_1178 : decode cL_law 1178 = .ok (.laload, 1) := dk_47 (dk_at dksL_law_42 23 rfl rfl)
theorem dL_law_1179 : decode cL_law 1179 = .ok (.iload 7, 2) := dk_21 7 (dk_at dksL_law_43 0 rfl rfl)
theorem dL_law_1181 : decode cL_law 1181 = .ok (.i2l, 1) := dk_133 (dk_at dksL_law_43 2 rfl rfl)
theorem dL_law_1182 : decode cL_law 1182 = .ok (.lcmp, 1) := dk_148 (dk_at dksL_law_43 3 rfl rfl)
theorem dL_law_1183 : decode cL_law 1183 = .ok (.ifCond .eq 5, 3) := dk_153 0 5 (dk_at dksL_law_43 4 rfl rfl)
theorem dL_law_1186 : decode cL_law 1186 = .ok (.iconst 0, 1) := dk_3 (dk_at dksL_law_43 7 rfl rfl)
theorem dL_law_1187 : decode cL_law 1187 = .ok (.ireturn, 1) := dk_172 (dk_at dksL_law_43 8 rfl rfl)
theorem dL_law_1188 : decode cL_law 1188 = .ok (.goto 1361, 3) := dk_167 5 81 (dk_at dksL_law_43 9 rfl rfl)
theorem dL_law_1191 : decode cL_law 1191 = .ok (.aload_n 1, 1) := dk_43 (dk_at dksL_law_43 12 rfl rfl)
theorem dL_law_1192 : decode cL_law 1192 = .ok (.aload_n 0, 1) := dk_42 (dk_at dksL_law_43 13 rfl rfl)
theorem dL_law_1193 : decode cL_law 1193 = .ok (.iload 5, 2) := dk_21 5 (dk_at dksL_law_43 14 rfl rfl)
theorem dL_law_1195 : decode cL_law 1195 = .ok (.iconst 1, 1) := dk_4 (dk_at dksL_law_43 16 rfl rfl)
theorem dL_law_1196 : decode cL_law 1196 = .ok (.iadd, 1) := dk_96 (dk_at dksL_law_43 17 rfl rfl)
theorem dL_law_1197 : decode cL_law 1197 = .ok (.iaload, 1) := dk_46 (dk_at dksL_law_43 18 rfl rfl)
theorem dL_law_1198 : decode cL_law 1198 = .ok (.aload_n 3, 1) := dk_45 (dk_at dksL_law_43 19 rfl rfl)
theorem dL_law_1199 : decode cL_law 1199 = .ok (.invokestatic 216, 3) := dk_184 0 216 (dk_at dksL_law_43 20 rfl rfl)
theorem dL_law_1202 : decode cL_law 1202 = .ok (.istore 6, 2) := dk_54 6 (dk_at dksL_law_44 0 rfl rfl)
theorem dL_law_1204 : decode cL_law 1204 = .ok (.aload_n 2, 1) := dk_44 (dk_at dksL_law_44 2 rfl rfl)
theorem dL_law_1205 : decode cL_law 1205 = .ok (.aload_n 0, 1) := dk_42 (dk_at dksL_law_44 3 rfl rfl)
theorem dL_law_1206 : decode cL_law 1206 = .ok (.iload 5, 2) := dk_21 5 (dk_at dksL_law_44 4 rfl rfl)
theorem dL_law_1208 : decode cL_law 1208 = .ok (.iconst 1, 1) := dk_4 (dk_at dksL_law_44 6 rfl rfl)
theorem dL_law_1209 : decode cL_law 1209 = .ok (.iadd, 1) := dk_96 (dk_at dksL_law_44 7 rfl rfl)
theorem dL_law_1210 : decode cL_law 1210 = .ok (.iaload, 1) := dk_46 (dk_at dksL_law_44 8 rfl rfl)
theorem dL_law_1211 : decode cL_law 1211 = .ok (.invokevirtual 218, 3) := dk_182 0 218 (dk_at dksL_law_44 9 rfl rfl)
theorem dL_law_1214 : decode cL_law 1214 = .ok (.istore 7, 2) := dk_54 7 (dk_at dksL_law_44 12 rfl rfl)
theorem dL_law_1216 : decode cL_law 1216 = .ok (.aload_n 2, 1) := dk_44 (dk_at dksL_law_44 14 rfl rfl)
theorem dL_law_1217 : decode cL_law 1217 = .ok (.invokevirtual 155, 3) := dk_182 0 155 (dk_at dksL_law_44 15 rfl rfl)
theorem dL_law_1220 : decode cL_law 1220 = .ok (.iload 6, 2) := dk_21 6 (dk_at dksL_law_44 18 rfl rfl)
theorem dL_law_1222 : decode cL_law 1222 = .ok (.if_icmp .eq 5, 3) := dk_159 0 5 (dk_at dksL_law_44 20 rfl rfl)
theorem dL_law_1225 : decode cL_law 1225 = .ok (.iconst 0, 1) := dk_3 (dk_at dksL_law_44 23 rfl rfl)
theorem dL_law_1226 : decode cL_law 1226 = .ok (.ireturn, 1) := dk_172 (dk_at dksL_law_45 0 rfl rfl)
theorem dL_law_1227 : decode cL_law 1227 = .ok (.iload 6, 2) := dk_21 6 (dk_at dksL_law_45 1 rfl rfl)
theorem dL_law_1229 : decode cL_law 1229 = .ok (.ifCond .ne 15, 3) := dk_154 0 15 (dk_at dksL_law_45 3 rfl rfl)
theorem dL_law_1232 : decode cL_law 1232 = .ok (.aload_n 3, 1) := dk_45 (dk_at dksL_law_45 6 rfl rfl)
theorem dL_law_1233 : decode cL_law 1233 = .ok (.iconst 0, 1) := dk_3 (dk_at dksL_law_45 7 rfl rfl)
theorem dL_law_1234 : decode cL_law 1234 = .ok (.laload, 1) := dk_47 (dk_at dksL_law_45 8 rfl rfl)
theorem dL_law_1235 : decode cL_law 1235 = .ok (.iload 7, 2) := dk_21 7 (dk_at dksL_law_45 9 rfl rfl)
theorem dL_law_1237 : decode cL_law 1237 = .ok (.i2l, 1) := dk_133 (dk_at dksL_law_45 11 rfl rfl)
theorem dL_law_1238 : decode cL_law 1238 = .ok (.lcmp, 1) := dk_148 (dk_at dksL_law_45 12 rfl rfl)
theorem dL_law_1239 : decode cL_law 1239 = .ok (.ifCond .eq 5, 3) := dk_153 0 5 (dk_at dksL_law_45 13 rfl rfl)
theorem dL_law_1242 : decode cL_law 1242 = .ok (.iconst 0, 1) := dk_3 (dk_at dksL_law_45 16 rfl rfl)
theorem dL_law_1243 : decode cL_law 1243 = .ok (.ireturn, 1) := dk_172 (dk_at dksL_law_45 17 rfl rfl)
theorem dL_law_1244 : decode cL_law 1244 = .ok (.goto 1305, 3) := dk_167 5 25 (dk_at dksL_law_45 18 rfl rfl)
theorem dL_law_1247 : decode cL_law 1247 = .ok (.aload_n 1, 1) := dk_43 (dk_at dksL_law_45 21 rfl rfl)
theorem dL_law_1248 : decode cL_law 1248 = .ok (.aload_n 0, 1) := dk_42 (dk_at dksL_law_45 22 rfl rfl)
theorem dL_law_1249 : decode cL_law 1249 = .ok (.iload 5, 2) := dk_21 5 (dk_at dksL_law_46 0 rfl rfl)
theorem dL_law_1251 : decode cL_law 1251 = .ok (.iconst 1, 1) := dk_4 (dk_at dksL_law_46 2 rfl rfl)
theorem dL_law_1252 : decode cL_law 1252 = .ok (.iadd, 1) := dk_96 (dk_at dksL_law_46 3 rfl rfl)
theorem dL_law_1253 : decode cL_law 1253 = .ok (.iaload, 1) := dk_46 (dk_at dksL_law_46 4 rfl rfl)
theorem dL_law_1254 : decode cL_law 1254 = .ok (.aload_n 3, 1) := dk_45 (dk_at dksL_law_46 5 rfl rfl)
theorem dL_law_1255 : decode cL_law 1255 = .ok (.invokestatic 219, 3) := dk_184 0 219 (dk_at dksL_law_46 6 rfl rfl)
theorem dL_law_1258 : decode cL_law 1258 = .ok (.istore 6, 2) := dk_54 6 (dk_at dksL_law_46 9 rfl rfl)
theorem dL_law_1260 : decode cL_law 1260 = .ok (.aload_n 2, 1) := dk_44 (dk_at dksL_law_46 11 rfl rfl)
theorem dL_law_1261 : decode cL_law 1261 = .ok (.aload_n 0, 1) := dk_42 (dk_at dksL_law_46 12 rfl rfl)
theorem dL_law_1262 : decode cL_law 1262 = .ok (.iload 5, 2) := dk_21 5 (dk_at dksL_law_46 13 rfl rfl)
theorem dL_law_1264 : decode cL_law 1264 = .ok (.iconst 1, 1) := dk_4 (dk_at dksL_law_46 15 rfl rfl)
theorem dL_law_1265 : decode cL_law 1265 = .ok (.iadd, 1) := dk_96 (dk_at dksL_law_46 16 rfl rfl)
theorem dL_law_1266 : decode cL_law 1266 = .ok (.iaload, 1) := dk_46 (dk_at dksL_law_46 17 rfl rfl)
theorem dL_law_1267 : decode cL_law 1267 = .ok (.invokevirtual 221, 3) := dk_182 0 221 (dk_at dksL_law_46 18 rfl rfl)
theorem dL_law_1270 : decode cL_law 1270 = .ok (.istore 7, 2) := dk_54 7 (dk_at dksL_law_46 21 rfl rfl)
theorem dL_law_1272 : decode cL_law 1272 = .ok (.aload_n 2, 1) := dk_44 (dk_at dksL_law_46 23 rfl rfl)
theorem dL_law_1273 : decode cL_law 1273 = .ok (.invokevirtual 155, 3) := dk_182 0 155 (dk_at dksL_law_47 0 rfl rfl)
theorem dL_law_1276 : decode cL_law 1276 = .ok (.iload 6, 2) := dk_21 6 (dk_at dksL_law_47 3 rfl rfl)
theorem dL_law_1278 : decode cL_law 1278 = .ok (.if_icmp .eq 5, 3) := dk_159 0 5 (dk_at dksL_law_47 5 rfl rfl)
theorem dL_law_1281 : decode cL_law 1281 = .ok (.iconst 0, 1) := dk_3 (dk_at dksL_law_47 8 rfl rfl)
theorem dL_law_1282 : decode cL_law 1282 = .ok (.ireturn, 1) := dk_172 (dk_at dksL_law_47 9 rfl rfl)
theorem dL_law_1283 : decode cL_law 1283 = .ok (.iload 6, 2) := dk_21 6 (dk_at dksL_law_47 10 rfl rfl)
theorem dL_law_1285 : decode cL_law 1285 = .ok (.ifCond .ne 15, 3) := dk_154 0 15 (dk_at dksL_law_47 12 rfl rfl)
theorem dL_law_1288 : decode cL_law 1288 = .ok (.aload_n 3, 1) := dk_45 (dk_at dksL_law_47 15 rfl rfl)
theorem dL_law_1289 : decode cL_law 1289 = .ok (.iconst 0, 1) := dk_3 (dk_at dksL_law_47 16 rfl rfl)
theorem dL_law_1290 : decode cL_law 1290 = .ok (.laload, 1) := dk_47 (dk_at dksL_law_47 17 rfl rfl)
theorem dL_law_1291 : decode cL_law 1291 = .ok (.iload 7, 2) := dk_21 7 (dk_at dksL_law_47 18 rfl rfl)
theorem dL_law_1293 : decode cL_law 1293 = .ok (.i2l, 1) := dk_133 (dk_at dksL_law_47 20 rfl rfl)
theorem dL_law_1294 : decode cL_law 1294 = .ok (.lcmp, 1) := dk_148 (dk_at dksL_law_47 21 rfl rfl)
theorem dL_law_1295 : decode cL_law 1295 = .ok (.ifCond .eq 5, 3) := dk_153 0 5 (dk_at dksL_law_48 0 rfl rfl)
theorem dL_law_1298 : decode cL_law 1298 = .ok (.iconst 0, 1) := dk_3 (dk_at dksL_law_48 3 rfl rfl)
theorem dL_law_1299 : decode cL_law 1299 = .ok (.ireturn, 1) := dk_172 (dk_at dksL_law_48 4 rfl rfl)
theorem dL_law_1300 : decode cL_law 1300 = .ok (.goto 1249, 3) := dk_167 4 225 (dk_at dksL_law_48 5 rfl rfl)
theorem dL_law_1303 : decode cL_law 1303 = .ok (.aload_n 1, 1) := dk_43 (dk_at dksL_law_48 8 rfl rfl)
theorem dL_law_1304 : decode cL_law 1304 = .ok (.aload_n 0, 1) := dk_42 (dk_at dksL_law_48 9 rfl rfl)
theorem dL_law_1305 : decode cL_law 1305 = .ok (.iload 5, 2) := dk_21 5 (dk_at dksL_law_48 10 rfl rfl)
theorem dL_law_1307 : decode cL_law 1307 = .ok (.iconst 1, 1) := dk_4 (dk_at dksL_law_48 12 rfl rfl)
theorem dL_law_1308 : decode cL_law 1308 = .ok (.iadd, 1) := dk_96 (dk_at dksL_law_48 13 rfl rfl)
theorem dL_law_1309 : decode cL_law 1309 = .ok (.iaload, 1) := dk_46 (dk_at dksL_law_48 14 rfl rfl)
theorem dL_law_1310 : decode cL_law 1310 = .ok (.aload_n 0, 1) := dk_42 (dk_at dksL_law_48 15 rfl rfl)
theorem dL_law_1311 : decode cL_law 1311 = .ok (.iload 5, 2) := dk_21 5 (dk_at dksL_law_48 16 rfl rfl)
theorem dL_law_1313 : decode cL_law 1313 = .ok (.iconst 2, 1) := dk_5 (dk_at dksL_law_48 18 rfl rfl)
theorem dL_law_1314 : decode cL_law 1314 = .ok (.iadd, 1) := dk_96 (dk_at dksL_law_48 19 rfl rfl)
theorem dL_law_1315 : decode cL_law 1315 = .ok (.iaload, 1) := dk_46 (dk_at dksL_law_48 20 rfl rfl)
theorem dL_law_1316 : decode cL_law 1316 = .ok (.aload_n 3, 1) := dk_45 (dk_at dksL_law_48 21 rfl rfl)
theorem dL_law_1317 : decode cL_law 1317 = .ok (.invokestatic 222, 3) := dk_184 0 222 (dk_at dksL_law_49 0 rfl rfl)
theorem dL_law_1320 : decode cL_law 1320 = .ok (.istore 6, 2) := dk_54 6 (dk_at dksL_law_49 3 rfl rfl)
theorem dL_law_1322 : decode cL_law 1322 = .ok (.aload_n 2, 1) := dk_44 (dk_at dksL_law_49 5 rfl rfl)
theorem dL_law_1323 : decode cL_law 1323 = .ok (.aload_n 0, 1) := dk_42 (dk_at dksL_law_49 6 rfl rfl)
theorem dL_law_1324 : decode cL_law 1324 = .ok (.iload 5, 2) := dk_21 5 (dk_at dksL_law_49 7 rfl rfl)
theorem dL_law_1326 : decode cL_law 1326 = .ok (.iconst 1, 1) := dk_4 (dk_at dksL_law_49 9 rfl rfl)
theorem dL_law_1327 : decode cL_law 1327 = .ok (.iadd, 1) := dk_96 (dk_at dksL_law_49 10 rfl rfl)
theorem dL_law_1328 : decode cL_law 1328 = .ok (.iaload, 1) := dk_46 (dk_at dksL_law_49 11 rfl rfl)
theorem dL_law_1329 : decode cL_law 1329 = .ok (.aload_n 0, 1) := dk_42 (dk_at dksL_law_49 12 rfl rfl)
theorem dL_law_1330 : decode cL_law 1330 = .ok (.iload 5, 2) := dk_21 5 (dk_at dksL_law_49 13 rfl rfl)
theorem dL_law_1332 : decode cL_law 1332 = .ok (.iconst 2, 1) := dk_5 (dk_at dksL_law_49 15 rfl rfl)
theorem dL_law_1333 : decode cL_law 1333 = .ok (.iadd, 1) := dk_96 (dk_at dksL_law_49 16 rfl rfl)
theorem dL_law_1334 : decode cL_law 1334 = .ok (.iaload, 1) := dk_46 (dk_at dksL_law_49 17 rfl rfl)
theorem dL_law_1335 : decode cL_law 1335 = .ok (.invokevirtual 224, 3) := dk_182 0 224 (dk_at dksL_law_49 18 rfl rfl)
theorem dL_law_1338 : decode cL_law 1338 = .ok (.istore 7, 2) := dk_54 7 (dk_at dksL_law_49 21 rfl rfl)
theorem dL_law_1340 : decode cL_law 1340 = .ok (.aload_n 2, 1) := dk_44 (dk_at dksL_law_49 23 rfl rfl)
theorem dL_law_1341 : decode cL_law 1341 = .ok (.invokevirtual 155, 3) := dk_182 0 155 (dk_at dksL_law_50 0 rfl rfl)
theorem dL_law_1344 : decode cL_law 1344 = .ok (.iload 6, 2) := dk_21 6 (dk_at dksL_law_50 3 rfl rfl)
theorem dL_law_1346 : decode cL_law 1346 = .ok (.if_icmp .eq 5, 3) := dk_159 0 5 (dk_at dksL_law_50 5 rfl rfl)
theorem dL_law_1349 : decode cL_law 1349 = .ok (.iconst 0, 1) := dk_3 (dk_at dksL_law_50 8 rfl rfl)
theorem dL_law_1350 : decode cL_law 1350 = .ok (.ireturn, 1) := dk_172 (dk_at dksL_law_50 9 rfl rfl)
theorem dL_law_1351 : decode cL_law 1351 = .ok (.iload 6, 2) := dk_21 6 (dk_at dksL_law_50 10 rfl rfl)
theorem dL_law_1353 : decode cL_law 1353 = .ok (.ifCond .ne 15, 3) := dk_154 0 15 (dk_at dksL_law_50 12 rfl rfl)
theorem dL_law_1356 : decode cL_law 1356 = .ok (.aload_n 3, 1) := dk_45 (dk_at dksL_law_50 15 rfl rfl)
theorem dL_law_1357 : decode cL_law 1357 = .ok (.iconst 0, 1) := dk_3 (dk_at dksL_law_50 16 rfl rfl)
theorem dL_law_1358 : decode cL_law 1358 = .ok (.laload, 1) := dk_47 (dk_at dksL_law_50 17 rfl rfl)
theorem dL_law_1359 : decode cL_law 1359 = .ok (.iload 7, 2) := dk_21 7 (dk_at dksL_law_50 18 rfl rfl)
theorem dL_law_1361 : decode cL_law 1361 = .ok (.i2l, 1) := dk_133 (dk_at dksL_law_50 20 rfl rfl)
theorem dL_law_1362 : decode cL_law 1362 = .ok (.lcmp, 1) := dk_148 (dk_at dksL_law_50 21 rfl rfl)
theorem dL_law_1363 : decode cL_law 1363 = .ok (.ifCond .eq 5, 3) := dk_153 0 5 (dk_at dksL_law_51 0 rfl rfl)
theorem dL_law_1366 : decode cL_law 1366 = .ok (.iconst 0, 1) := dk_3 (dk_at dksL_law_51 3 rfl rfl)
theorem dL_law_1367 : decode cL_law 1367 = .ok (.ireturn, 1) := dk_172 (dk_at dksL_law_51 4 rfl rfl)
theorem dL_law_1368 : decode cL_law 1368 = .ok (.goto 1181, 3) := dk_167 4 157 (dk_at dksL_law_51 5 rfl rfl)
theorem dL_law_1371 : decode cL_law 1371 = .ok (.aload_n 1, 1) := dk_43 (dk_at dksL_law_51 8 rfl rfl)
theorem dL_law_1372 : decode cL_law 1372 = .ok (.aload_n 0, 1) := dk_42 (dk_at dksL_law_51 9 rfl rfl)
theorem dL_law_1373 : decode cL_law 1373 = .ok (.iload 5, 2) := dk_21 5 (dk_at dksL_law_51 10 rfl rfl)
theorem dL_law_1375 : decode cL_law 1375 = .ok (.iconst 1, 1) := dk_4 (dk_at dksL_law_51 12 rfl rfl)
theorem dL_law_1376 : decode cL_law 1376 = .ok (.iadd, 1) := dk_96 (dk_at dksL_law_51 13 rfl rfl)
theorem dL_law_1377 : decode cL_law 1377 = .ok (.iaload, 1) := dk_46 (dk_at dksL_law_51 14 rfl rfl)
theorem dL_law_1378 : decode cL_law 1378 = .ok (.aload_n 0, 1) := dk_42 (dk_at dksL_law_51 15 rfl rfl)
theorem dL_law_1379 : decode cL_law 1379 = .ok (.iload 5, 2) := dk_21 5 (dk_at dksL_law_51 16 rfl rfl)
theorem dL_law_1381 : decode cL_law 1381 = .ok (.iconst 2, 1) := dk_5 (dk_at dksL_law_51 18 rfl rfl)
theorem dL_law_1382 : decode cL_law 1382 = .ok (.iadd, 1) := dk_96 (dk_at dksL_law_51 19 rfl rfl)
theorem dL_law_1383 : decode cL_law 1383 = .ok (.iaload, 1) := dk_46 (dk_at dksL_law_51 20 rfl rfl)
theorem dL_law_1384 : decode cL_law 1384 = .ok (.aload_n 3, 1) := dk_45 (dk_at dksL_law_51 21 rfl rfl)
theorem dL_law_1385 : decode cL_law 1385 = .ok (.invokestatic 225, 3) := dk_184 0 225 (dk_at dksL_law_52 0 rfl rfl)
theorem dL_law_1388 : decode cL_law 1388 = .ok (.istore 6, 2) := dk_54 6 (dk_at dksL_law_52 3 rfl rfl)
theorem dL_law_1390 : decode cL_law 1390 = .ok (.aload_n 2, 1) := dk_44 (dk_at dksL_law_52 5 rfl rfl)
theorem dL_law_1391 : decode cL_law 1391 = .ok (.aload_n 0, 1) := dk_42 (dk_at dksL_law_52 6 rfl rfl)
theorem dL_law_1392 : decode cL_law 1392 = .ok (.iload 5, 2) := dk_21 5 (dk_at dksL_law_52 7 rfl rfl)
theorem dL_law_1394 : decode cL_law 1394 = .ok (.iconst 1, 1) := dk_4 (dk_at dksL_law_52 9 rfl rfl)
theorem dL_law_1395 : decode cL_law 1395 = .ok (.iadd, 1) := dk_96 (dk_at dksL_law_52 10 rfl rfl)
theorem dL_law_1396 : decode cL_law 1396 = .ok (.iaload, 1) := dk_46 (dk_at dksL_law_52 11 rfl rfl)
theorem dL_law_1397 : decode cL_law 1397 = .ok (.aload_n 0, 1) := dk_42 (dk_at dksL_law_52 12 rfl rfl)
theorem dL_law_1398 : decode cL_law 1398 = .ok (.iload 5, 2) := dk_21 5 (dk_at dksL_law_52 13 rfl rfl)
theorem dL_law_1400 : decode cL_law 1400 = .ok (.iconst 2, 1) := dk_5 (dk_at dksL_law_52 15 rfl rfl)
theorem dL_law_1401 : decode cL_law 1401 = .ok (.iadd, 1) := dk_96 (dk_at dksL_law_52 16 rfl rfl)
theorem dL_law_1402 : decode cL_law 1402 = .ok (.iaload, 1) := dk_46 (dk_at dksL_law_52 17 rfl rfl)
theorem dL_law_1403 : decode cL_law 1403 = .ok (.invokevirtual 227, 3) := dk_182 0 227 (dk_at dksL_law_52 18 rfl rfl)
theorem dL_law_1406 : decode cL_law 1406 = .ok (.istore 7, 2) := dk_54 7 (dk_at dksL_law_52 21 rfl rfl)
theorem dL_law_1408 : decode cL_law 1408 = .ok (.aload_n 2, 1) := dk_44 (dk_at dksL_law_52 23 rfl rfl)
theorem dL_law_1409 : decode cL_law 1409 = .ok (.invokevirtual 155, 3) := dk_182 0 155 (dk_at dksL_law_53 0 rfl rfl)
theorem dL_law_1412 : decode cL_law 1412 = .ok (.iload 6, 2) := dk_21 6 (dk_at dksL_law_53 3 rfl rfl)
theorem dL_law_1414 : decode cL_law 1414 = .ok (.if_icmp .eq 5, 3) := dk_159 0 5 (dk_at dksL_law_53 5 rfl rfl)
theorem dL_law_1417 : decode cL_law 1417 = .ok (.iconst 0, 1) := dk_3 (dk_at dksL_law_53 8 rfl rfl)
theorem dL_law_1418 : decode cL_law 1418 = .ok (.ireturn, 1) := dk_172 (dk_at dksL_law_53 9 rfl rfl)
theorem dL_law_1419 : decode cL_law 1419 = .ok (.iload 6, 2) := dk_21 6 (dk_at dksL_law_53 10 rfl rfl)
theorem dL_law_1421 : decode cL_law 1421 = .ok (.ifCond .ne 15, 3) := dk_154 0 15 (dk_at dksL_law_53 12 rfl rfl)
theorem dL_law_1424 : decode cL_law 1424 = .ok (.aload_n 3, 1) := dk_45 (dk_at dksL_law_53 15 rfl rfl)
theorem dL_law_1425 : decode cL_law 1425 = .ok (.iconst 0, 1) := dk_3 (dk_at dksL_law_53 16 rfl rfl)
theorem dL_law_1426 : decode cL_law 1426 = .ok (.laload, 1) := dk_47 (dk_at dksL_law_53 17 rfl rfl)
theorem dL_law_1427 : decode cL_law 1427 = .ok (.iload 7, 2) := dk_21 7 (dk_at dksL_law_53 18 rfl rfl)
theorem dL_law_1429 : decode cL_law 1429 = .ok (.i2l, 1) := dk_133 (dk_at dksL_law_53 20 rfl rfl)
theorem dL_law_1430 : decode cL_law 1430 = .ok (.lcmp, 1) := dk_148 (dk_at dksL_law_53 21 rfl rfl)
theorem dL_law_1431 : decode cL_law 1431 = .ok (.ifCond .eq 5, 3) := dk_153 0 5 (dk_at dksL_law_54 0 rfl rfl)
theorem dL_law_1434 : decode cL_law 1434 = .ok (.iconst 0, 1) := dk_3 (dk_at dksL_law_54 3 rfl rfl)
theorem dL_law_1435 : decode cL_law 1435 = .ok (.ireturn, 1) := dk_172 (dk_at dksL_law_54 4 rfl rfl)
theorem dL_law_1436 : decode cL_law 1436 = .ok (.goto 1113, 3) := dk_167 4 89 (dk_at dksL_law_54 5 rfl rfl)
theorem dL_law_1439 : decode cL_law 1439 = .ok (.aload_n 1, 1) := dk_43 (dk_at dksL_law_54 8 rfl rfl)
theorem dL_law_1440 : decode cL_law 1440 = .ok (.aload_n 0, 1) := dk_42 (dk_at dksL_law_54 9 rfl rfl)
theorem dL_law_1441 : decode cL_law 1441 = .ok (.iload 5, 2) := dk_21 5 (dk_at dksL_law_54 10 rfl rfl)
theorem dL_law_1443 : decode cL_law 1443 = .ok (.iconst 1, 1) := dk_4 (dk_at dksL_law_54 12 rfl rfl)
theorem dL_law_1444 : decode cL_law 1444 = .ok (.iadd, 1) := dk_96 (dk_at dksL_law_54 13 rfl rfl)
theorem dL_law_1445 : decode cL_law 1445 = .ok (.iaload, 1) := dk_46 (dk_at dksL_law_54 14 rfl rfl)
theorem dL_law_1446 : decode cL_law 1446 = .ok (.aload_n 0, 1) := dk_42 (dk_at dksL_law_54 15 rfl rfl)
theorem dL_law_1447 : decode cL_law 1447 = .ok (.iload 5, 2) := dk_21 5 (dk_at dksL_law_54 16 rfl rfl)
theorem dL_law_1449 : decode cL_law 1449 = .ok (.iconst 2, 1) := dk_5 (dk_at dksL_law_54 18 rfl rfl)
theorem dL_law_1450 : decode cL_law 1450 = .ok (.iadd, 1) := dk_96 (dk_at dksL_law_54 19 rfl rfl)
theorem dL_law_1451 : decode cL_law 1451 = .ok (.iaload, 1) := dk_46 (dk_at dksL_law_54 20 rfl rfl)
theorem dL_law_1452 : decode cL_law 1452 = .ok (.aload_n 3, 1) := dk_45 (dk_at dksL_law_54 21 rfl rfl)
theorem dL_law_1453 : decode cL_law 1453 = .ok (.invokestatic 228, 3) := dk_184 0 228 (dk_at dksL_law_55 0 rfl rfl)
theorem dL_law_1456 : decode cL_law 1456 = .ok (.istore 6, 2) := dk_54 6 (dk_at dksL_law_55 3 rfl rfl)
theorem dL_law_1458 : decode cL_law 1458 = .ok (.aload_n 2, 1) := dk_44 (dk_at dksL_law_55 5 rfl rfl)
theorem dL_law_1459 : decode cL_law 1459 = .ok (.aload_n 0, 1) := dk_42 (dk_at dksL_law_55 6 rfl rfl)
theorem dL_law_1460 : decode cL_law 1460 = .ok (.iload 5, 2) := dk_21 5 (dk_at dksL_law_55 7 rfl rfl)
theorem dL_law_1462 : decode cL_law 1462 = .ok (.iconst 1, 1) := dk_4 (dk_at dksL_law_55 9 rfl rfl)
theorem dL_law_1463 : decode cL_law 1463 = .ok (.iadd, 1) := dk_96 (dk_at dksL_law_55 10 rfl rfl)
theorem dL_law_1464 : decode cL_law 1464 = .ok (.iaload, 1) := dk_46 (dk_at dksL_law_55 11 rfl rfl)
theorem dL_law_1465 : decode cL_law 1465 = .ok (.aload_n 0, 1) := dk_42 (dk_at dksL_law_55 12 rfl rfl)
theorem dL_law_1466 : decode cL_law 1466 = .ok (.iload 5, 2) := dk_21 5 (dk_at dksL_law_55 13 rfl rfl)
theorem dL_law_1468 : decode cL_law 1468 = .ok (.iconst 2, 1) := dk_5 (dk_at dksL_law_55 15 rfl rfl)
theorem dL_law_1469 : decode cL_law 1469 = .ok (.iadd, 1) := dk_96 (dk_at dksL_law_55 16 rfl rfl)
theorem dL_law_1470 : decode cL_law 1470 = .ok (.iaload, 1) := dk_46 (dk_at dksL_law_55 17 rfl rfl)
theorem dL_law_1471 : decode cL_law 1471 = .ok (.invokevirtual 230, 3) := dk_182 0 230 (dk_at dksL_law_55 18 rfl rfl)
theorem dL_law_1474 : decode cL_law 1474 = .ok (.istore 7, 2) := dk_54 7 (dk_at dksL_law_55 21 rfl rfl)
theorem dL_law_1476 : decode cL_law 1476 = .ok (.aload_n 2, 1) := dk_44 (dk_at dksL_law_55 23 rfl rfl)
theorem dL_law_1477 : decode cL_law 1477 = .ok (.invokevirtual 155, 3) := dk_182 0 155 (dk_at dksL_law_56 0 rfl rfl)
theorem dL_law_1480 : decode cL_law 1480 = .ok (.iload 6, 2) := dk_21 6 (dk_at dksL_law_56 3 rfl rfl)
theorem dL_law_1482 : decode cL_law 1482 = .ok (.if_icmp .eq 5, 3) := dk_159 0 5 (dk_at dksL_law_56 5 rfl rfl)
theorem dL_law_1485 : decode cL_law 1485 = .ok (.iconst 0, 1) := dk_3 (dk_at dksL_law_56 8 rfl rfl)
theorem dL_law_1486 : decode cL_law 1486 = .ok (.ireturn, 1) := dk_172 (dk_at dksL_law_56 9 rfl rfl)
theorem dL_law_1487 : decode cL_law 1487 = .ok (.iload 6, 2) := dk_21 6 (dk_at dksL_law_56 10 rfl rfl)
theorem dL_law_1489 : decode cL_law 1489 = .ok (.ifCond .ne 15, 3) := dk_154 0 15 (dk_at dksL_law_56 12 rfl rfl)
theorem dL_law_1492 : decode cL_law 1492 = .ok (.aload_n 3, 1) := dk_45 (dk_at dksL_law_56 15 rfl rfl)
theorem dL_law_1493 : decode cL_law 1493 = .ok (.iconst 0, 1) := dk_3 (dk_at dksL_law_56 16 rfl rfl)
theorem dL_law_1494 : decode cL_law 1494 = .ok (.laload, 1) := dk_47 (dk_at dksL_law_56 17 rfl rfl)
theorem dL_law_1495 : decode cL_law 1495 = .ok (.iload 7, 2) := dk_21 7 (dk_at dksL_law_56 18 rfl rfl)
theorem dL_law_1497 : decode cL_law 1497 = .ok (.i2l, 1) := dk_133 (dk_at dksL_law_56 20 rfl rfl)
theorem dL_law_1498 : decode cL_law 1498 = .ok (.lcmp, 1) := dk_148 (dk_at dksL_law_56 21 rfl rfl)
theorem dL_law_1499 : decode cL_law 1499 = .ok (.ifCond .eq 5, 3) := dk_153 0 5 (dk_at dksL_law_57 0 rfl rfl)
theorem dL_law_1502 : decode cL_law 1502 = .ok (.iconst 0, 1) := dk_3 (dk_at dksL_law_57 3 rfl rfl)
theorem dL_law_1503 : decode cL_law 1503 = .ok (.ireturn, 1) := dk_172 (dk_at dksL_law_57 4 rfl rfl)
theorem dL_law_1504 : decode cL_law 1504 = .ok (.goto 1045, 3) := dk_167 4 21 (dk_at dksL_law_57 5 rfl rfl)
theorem dL_law_1507 : decode cL_law 1507 = .ok (.aload_n 1, 1) := dk_43 (dk_at dksL_law_57 8 rfl rfl)
theorem dL_law_1508 : decode cL_law 1508 = .ok (.invokevirtual 231, 3) := dk_182 0 231 (dk_at dksL_law_57 9 rfl rfl)
theorem dL_law_1511 : decode cL_law 1511 = .ok (.aload_n 2, 1) := dk_44 (dk_at dksL_law_57 12 rfl rfl)
theorem dL_law_1512 : decode cL_law 1512 = .ok (.invokevirtual 234, 3) := dk_182 0 234 (dk_at dksL_law_57 13 rfl rfl)
theorem dL_law_1515 : decode cL_law 1515 = .ok (.if_icmp .eq 1034, 3) := dk_159 4 10 (dk_at dksL_law_57 16 rfl rfl)
theorem dL_law_1518 : decode cL_law 1518 = .ok (.iconst 0, 1) := dk_3 (dk_at dksL_law_57 19 rfl rfl)
theorem dL_law_1519 : decode cL_law 1519 = .ok (.ireturn, 1) := dk_172 (dk_at dksL_law_57 20 rfl rfl)
theorem dL_law_1520 : decode cL_law 1520 = .ok (.aload_n 1, 1) := dk_43 (dk_at dksL_law_57 21 rfl rfl)
theorem dL_law_1521 : decode cL_law 1521 = .ok (.aload_n 0, 1) := dk_42 (dk_at dksL_law_57 22 rfl rfl)
theorem dL_law_1522 : decode cL_law 1522 = .ok (.iload 5, 2) := dk_21 5 (dk_at dksL_law_58 0 rfl rfl)
theorem dL_law_1524 : decode cL_law 1524 = .ok (.iconst 1, 1) := dk_4 (dk_at dksL_law_58 2 rfl rfl)
theorem dL_law_1525 : decode cL_law 1525 = .ok (.iadd, 1) := dk_96 (dk_at dksL_law_58 3 rfl rfl)
theorem dL_law_1526 : decode cL_law 1526 = .ok (.iaload, 1) := dk_46 (dk_at dksL_law_58 4 rfl rfl)
theorem dL_law_1527 : decode cL_law 1527 = .ok (.aload_n 0, 1) := dk_42 (dk_at dksL_law_58 5 rfl rfl)
theorem dL_law_1528 : decode cL_law 1528 = .ok (.iload 5, 2) := dk_21 5 (dk_at dksL_law_58 6 rfl rfl)
theorem dL_law_1530 : decode cL_law 1530 = .ok (.iconst 2, 1) := dk_5 (dk_at dksL_law_58 8 rfl rfl)
theorem dL_law_1531 : decode cL_law 1531 = .ok (.iadd, 1) := dk_96 (dk_at dksL_law_58 9 rfl rfl)
theorem dL_law_1532 : decode cL_law 1532 = .ok (.iaload, 1) := dk_46 (dk_at dksL_law_58 10 rfl rfl)
theorem dL_law_1533 : decode cL_law 1533 = .ok (.aload_n 3, 1) := dk_45 (dk_at dksL_law_58 11 rfl rfl)
theorem dL_law_1534 : decode cL_law 1534 = .ok (.invokestatic 235, 3) := dk_184 0 235 (dk_at dksL_law_58 12 rfl rfl)
theorem dL_law_1537 : decode cL_law 1537 = .ok (.istore 6, 2) := dk_54 6 (dk_at dksL_law_58 15 rfl rfl)
theorem dL_law_1539 : decode cL_law 1539 = .ok (.aload_n 2, 1) := dk_44 (dk_at dksL_law_58 17 rfl rfl)
theorem dL_law_1540 : decode cL_law 1540 = .ok (.aload_n 0, 1) := dk_42 (dk_at dksL_law_58 18 rfl rfl)
theorem dL_law_1541 : decode cL_law 1541 = .ok (.iload 5, 2) := dk_21 5 (dk_at dksL_law_58 19 rfl rfl)
theorem dL_law_1543 : decode cL_law 1543 = .ok (.iconst 1, 1) := dk_4 (dk_at dksL_law_58 21 rfl rfl)
theorem dL_law_1544 : decode cL_law 1544 = .ok (.iadd, 1) := dk_96 (dk_at dksL_law_58 22 rfl rfl)
theorem dL_law_1545 : decode cL_law 1545 = .ok (.iaload, 1) := dk_46 (dk_at dksL_law_58 23 rfl rfl)
theorem dL_law_1546 : decode cL_law 1546 = .ok (.aload_n 0, 1) := dk_42 (dk_at dksL_law_59 0 rfl rfl)
theorem dL_law_1547 : decode cL_law 1547 = .ok (.iload 5, 2) := dk_21 5 (dk_at dksL_law_59 1 rfl rfl)
theorem dL_law_1549 : decode cL_law 1549 = .ok (.iconst 2, 1) := dk_5 (dk_at dksL_law_59 3 rfl rfl)
theorem dL_law_1550 : decode cL_law 1550 = .ok (.iadd, 1) := dk_96 (dk_at dksL_law_59 4 rfl rfl)
theorem dL_law_1551 : decode cL_law 1551 = .ok (.iaload, 1) := dk_46 (dk_at dksL_law_59 5 rfl rfl)
theorem dL_law_1552 : decode cL_law 1552 = .ok (.invokevirtual 237, 3) := dk_182 0 237 (dk_at dksL_law_59 6 rfl rfl)
theorem dL_law_1555 : decode cL_law 1555 = .ok (.istore 7, 2) := dk_54 7 (dk_at dksL_law_59 9 rfl rfl)
theorem dL_law_1557 : decode cL_law 1557 = .ok (.aload_n 2, 1) := dk_44 (dk_at dksL_law_59 11 rfl rfl)
theorem dL_law_1558 : decode cL_law 1558 = .ok (.invokevirtual 155, 3) := dk_182 0 155 (dk_at dksL_law_59 12 rfl rfl)
theorem dL_law_1561 : decode cL_law 1561 = .ok (.iload 6, 2) := dk_21 6 (dk_at dksL_law_59 15 rfl rfl)
theorem dL_law_1563 : decode cL_law 1563 = .ok (.if_icmp .eq 5, 3) := dk_159 0 5 (dk_at dksL_law_59 17 rfl rfl)
theorem dL_law_1566 : decode cL_law 1566 = .ok (.iconst 0, 1) := dk_3 (dk_at dksL_law_59 20 rfl rfl)
theorem dL_law_1567 : decode cL_law 1567 = .ok (.ireturn, 1) := dk_172 (dk_at dksL_law_59 21 rfl rfl)
theorem dL_law_1568 : decode cL_law 1568 = .ok (.iload 6, 2) := dk_21 6 (dk_at dksL_law_59 22 rfl rfl)
theorem dL_law_1570 : decode cL_law 1570 = .ok (.ifCond .ne 15, 3) := dk_154 0 15 (dk_at dksL_law_60 0 rfl rfl)
theorem dL_law_1573 : decode cL_law 1573 = .ok (.aload_n 3, 1) := dk_45 (dk_at dksL_law_60 3 rfl rfl)
theorem dL_law_1574 : decode cL_law 1574 = .ok (.iconst 0, 1) := dk_3 (dk_at dksL_law_60 4 rfl rfl)
theorem dL_law_1575 : decode cL_law 1575 = .ok (.laload, 1) := dk_47 (dk_at dksL_law_60 5 rfl rfl)
theorem dL_law_1576 : decode cL_law 1576 = .ok (.iload 7, 2) := dk_21 7 (dk_at dksL_law_60 6 rfl rfl)
theorem dL_law_1578 : decode cL_law 1578 = .ok (.i2l, 1) := dk_133 (dk_at dksL_law_60 8 rfl rfl)
theorem dL_law_1579 : decode cL_law 1579 = .ok (.lcmp, 1) := dk_148 (dk_at dksL_law_60 9 rfl rfl)
theorem dL_law_1580 : decode cL_law 1580 = .ok (.ifCond .eq 5, 3) := dk_153 0 5 (dk_at dksL_law_60 10 rfl rfl)
theorem dL_law_1583 : decode cL_law 1583 = .ok (.iconst 0, 1) := dk_3 (dk_at dksL_law_60 13 rfl rfl)
theorem dL_law_1584 : decode cL_law 1584 = .ok (.ireturn, 1) := dk_172 (dk_at dksL_law_60 14 rfl rfl)
theorem dL_law_1585 : decode cL_law 1585 = .ok (.goto 964, 3) := dk_167 3 196 (dk_at dksL_law_60 15 rfl rfl)
theorem dL_law_1588 : decode cL_law 1588 = .ok (.aload_n 1, 1) := dk_43 (dk_at dksL_law_60 18 rfl rfl)
theorem dL_law_1589 : decode cL_law 1589 = .ok (.aload_n 0, 1) := dk_42 (dk_at dksL_law_60 19 rfl rfl)
theorem dL_law_1590 : decode cL_law 1590 = .ok (.iload 5, 2) := dk_21 5 (dk_at dksL_law_60 20 rfl rfl)
theorem dL_law_1592 : decode cL_law 1592 = .ok (.iconst 1, 1) := dk_4 (dk_at dksL_law_60 22 rfl rfl)
theorem dL_law_1593 : decode cL_law 1593 = .ok (.iadd, 1) := dk_96 (dk_at dksL_law_60 23 rfl rfl)
theorem dL_law_1594 : decode cL_law 1594 = .ok (.iaload, 1) := dk_46 (dk_at dksL_law_61 0 rfl rfl)
theorem dL_law_1595 : decode cL_law 1595 = .ok (.aload_n 3, 1) := dk_45 (dk_at dksL_law_61 1 rfl rfl)
theorem dL_law_1596 : decode cL_law 1596 = .ok (.invokestatic 238, 3) := dk_184 0 238 (dk_at dksL_law_61 2 rfl rfl)
theorem dL_law_1599 : decode cL_law 1599 = .ok (.istore 6, 2) := dk_54 6 (dk_at dksL_law_61 5 rfl rfl)
theorem dL_law_1601 : decode cL_law 1601 = .ok (.aload_n 2, 1) := dk_44 (dk_at dksL_law_61 7 rfl rfl)
theorem dL_law_1602 : decode cL_law 1602 = .ok (.aload_n 0, 1) := dk_42 (dk_at dksL_law_61 8 rfl rfl)
theorem dL_law_1603 : decode cL_law 1603 = .ok (.iload 5, 2) := dk_21 5 (dk_at dksL_law_61 9 rfl rfl)
theorem dL_law_1605 : decode cL_law 1605 = .ok (.iconst 1, 1) := dk_4 (dk_at dksL_law_61 11 rfl rfl)
theorem dL_law_1606 : decode cL_law 1606 = .ok (.iadd, 1) := dk_96 (dk_at dksL_law_61 12 rfl rfl)
theorem dL_law_1607 : decode cL_law 1607 = .ok (.iaload, 1) := dk_46 (dk_at dksL_law_61 13 rfl rfl)
theorem dL_law_1608 : decode cL_law 1608 = .ok (.invokevirtual 240, 3) := dk_182 0 240 (dk_at dksL_law_61 14 rfl rfl)
theorem dL_law_1611 : decode cL_law 1611 = .ok (.istore 7, 2) := dk_54 7 (dk_at dksL_law_61 17 rfl rfl)
theorem dL_law_1613 : decode cL_law 1613 = .ok (.aload_n 2, 1) := dk_44 (dk_at dksL_law_61 19 rfl rfl)
theorem dL_law_1614 : decode cL_law 1614 = .ok (.invokevirtual 155, 3) := dk_182 0 155 (dk_at dksL_law_61 20 rfl rfl)
theorem dL_law_1617 : decode cL_law 1617 = .ok (.iload 6, 2) := dk_21 6 (dk_at dksL_law_62 0 rfl rfl)
theorem dL_law_1619 : decode cL_law 1619 = .ok (.if_icmp .eq 5, 3) := dk_159 0 5 (dk_at dksL_law_62 2 rfl rfl)
theorem dL_law_1622 : decode cL_law 1622 = .ok (.iconst 0, 1) := dk_3 (dk_at dksL_law_62 5 rfl rfl)
theorem dL_law_1623 : decode cL_law 1623 = .ok (.ireturn, 1) := dk_172 (dk_at dksL_law_62 6 rfl rfl)
theorem dL_law_1624 : decode cL_law 1624 = .ok (.iload 6, 2) := dk_21 6 (dk_at dksL_law_62 7 rfl rfl)
theorem dL_law_1626 : decode cL_law 1626 = .ok (.ifCond .ne 15, 3) := dk_154 0 15 (dk_at dksL_law_62 9 rfl rfl)
theorem dL_law_1629 : decode cL_law 1629 = .ok (.aload_n 3, 1) := dk_45 (dk_at dksL_law_62 12 rfl rfl)
theorem dL_law_1630 : decode cL_law 1630 = .ok (.iconst 0, 1) := dk_3 (dk_at dksL_law_62 13 rfl rfl)
theorem dL_law_1631 : decode cL_law 1631 = .ok (.laload, 1) := dk_47 (dk_at dksL_law_62 14 rfl rfl)
theorem dL_law_1632 : decode cL_law 1632 = .ok (.iload 7, 2) := dk_21 7 (dk_at dksL_law_62 15 rfl rfl)
theorem dL_law_1634 : decode cL_law 1634 = .ok (.i2l, 1) := dk_133 (dk_at dksL_law_62 17 rfl rfl)
theorem dL_law_1635 : decode cL_law 1635 = .ok (.lcmp, 1) := dk_148 (dk_at dksL_law_62 18 rfl rfl)
theorem dL_law_1636 : decode cL_law 1636 = .ok (.ifCond .eq 5, 3) := dk_153 0 5 (dk_at dksL_law_62 19 rfl rfl)
theorem dL_law_1639 : decode cL_law 1639 = .ok (.iconst 0, 1) := dk_3 (dk_at dksL_law_62 22 rfl rfl)
theorem dL_law_1640 : decode cL_law 1640 = .ok (.ireturn, 1) := dk_172 (dk_at dksL_law_62 23 rfl rfl)
theorem dL_law_1641 : decode cL_law 1641 = .ok (.goto 908, 3) := dk_167 3 140 (dk_at dksL_law_63 0 rfl rfl)
theorem dL_law_1644 : decode cL_law 1644 = .ok (.aload_n 1, 1) := dk_43 (dk_at dksL_law_63 3 rfl rfl)
theorem dL_law_1645 : decode cL_law 1645 = .ok (.aload_n 0, 1) := dk_42 (dk_at dksL_law_63 4 rfl rfl)
theorem dL_law_1646 : decode cL_law 1646 = .ok (.iload 5, 2) := dk_21 5 (dk_at dksL_law_63 5 rfl rfl)
theorem dL_law_1648 : decode cL_law 1648 = .ok (.iconst 1, 1) := dk_4 (dk_at dksL_law_63 7 rfl rfl)
theorem dL_law_1649 : decode cL_law 1649 = .ok (.iadd, 1) := dk_96 (dk_at dksL_law_63 8 rfl rfl)
theorem dL_law_1650 : decode cL_law 1650 = .ok (.iaload, 1) := dk_46 (dk_at dksL_law_63 9 rfl rfl)
theorem dL_law_1651 : decode cL_law 1651 = .ok (.aload_n 3, 1) := dk_45 (dk_at dksL_law_63 10 rfl rfl)
theorem dL_law_1652 : decode cL_law 1652 = .ok (.invokestatic 241, 3) := dk_184 0 241 (dk_at dksL_law_63 11 rfl rfl)
theorem dL_law_1655 : decode cL_law 1655 = .ok (.istore 6, 2) := dk_54 6 (dk_at dksL_law_63 14 rfl rfl)
theorem dL_law_1657 : decode cL_law 1657 = .ok (.aload_n 2, 1) := dk_44 (dk_at dksL_law_63 16 rfl rfl)
theorem dL_law_1658 : decode cL_law 1658 = .ok (.aload_n 0, 1) := dk_42 (dk_at dksL_law_63 17 rfl rfl)
theorem dL_law_1659 : decode cL_law 1659 = .ok (.iload 5, 2) := dk_21 5 (dk_at dksL_law_63 18 rfl rfl)
theorem dL_law_1661 : decode cL_law 1661 = .ok (.iconst 1, 1) := dk_4 (dk_at dksL_law_63 20 rfl rfl)
theorem dL_law_1662 : decode cL_law 1662 = .ok (.iadd, 1) := dk_96 (dk_at dksL_law_63 21 rfl rfl)
theorem dL_law_1663 : decode cL_law 1663 = .ok (.iaload, 1) := dk_46 (dk_at dksL_law_63 22 rfl rfl)
theorem dL_law_1664 : decode cL_law 1664 = .ok (.invokevirtual 243, 3) := dk_182 0 243 (dk_at dksL_law_64 0 rfl rfl)
theorem dL_law_1667 : decode cL_law 1667 = .ok (.istore 7, 2) := dk_54 7 (dk_at dksL_law_64 3 rfl rfl)
theorem dL_law_1669 : decode cL_law 1669 = .ok (.aload_n 2, 1) := dk_44 (dk_at dksL_law_64 5 rfl rfl)
theorem dL_law_1670 : decode cL_law 1670 = .ok (.invokevirtual 155, 3) := dk_182 0 155 (dk_at dksL_law_64 6 rfl rfl)
theorem dL_law_1673 : decode cL_law 1673 = .ok (.iload 6, 2) := dk_21 6 (dk_at dksL_law_64 9 rfl rfl)
theorem dL_law_1675 : decode cL_law 1675 = .ok (.if_icmp .eq 5, 3) := dk_159 0 5 (dk_at dksL_law_64 11 rfl rfl)
theorem dL_law_1678 : decode cL_law 1678 = .ok (.iconst 0, 1) := dk_3 (dk_at dksL_law_64 14 rfl rfl)
theorem dL_law_1679 : decode cL_law 1679 = .ok (.ireturn, 1) := dk_172 (dk_at dksL_law_64 15 rfl rfl)
theorem dL_law_1680 : decode cL_law 1680 = .ok (.iload 6, 2) := dk_21 6 (dk_at dksL_law_64 16 rfl rfl)
theorem dL_law_1682 : decode cL_law 1682 = .ok (.ifCond .ne 15, 3) := dk_154 0 15 (dk_at dksL_law_64 18 rfl rfl)
theorem dL_law_1685 : decode cL_law 1685 = .ok (.aload_n 3, 1) := dk_45 (dk_at dksL_law_64 21 rfl rfl)
theorem dL_law_1686 : decode cL_law 1686 = .ok (.iconst 0, 1) := dk_3 (dk_at dksL_law_64 22 rfl rfl)
theorem dL_law_1687 : decode cL_law 1687 = .ok (.laload, 1) := dk_47 (dk_at dksL_law_64 23 rfl rfl)
theorem dL_law_1688 : decode cL_law 1688 = .ok (.iload 7, 2) := dk_21 7 (dk_at dksL_law_65 0 rfl rfl)
theorem dL_law_1690 : decode cL_law 1690 = .ok (.i2l, 1) := dk_133 (dk_at dksL_law_65 2 rfl rfl)
theorem dL_law_1691 : decode cL_law 1691 = .ok (.lcmp, 1) := dk_148 (dk_at dksL_law_65 3 rfl rfl)
theorem dL_law_1692 : decode cL_law 1692 = .ok (.ifCond .eq 5, 3) := dk_153 0 5 (dk_at dksL_law_65 4 rfl rfl)
theorem dL_law_1695 : decode cL_law 1695 = .ok (.iconst 0, 1) := dk_3 (dk_at dksL_law_65 7 rfl rfl)
theorem dL_law_1696 : decode cL_law 1696 = .ok (.ireturn, 1) := dk_172 (dk_at dksL_law_65 8 rfl rfl)
theorem dL_law_1697 : decode cL_law 1697 = .ok (.goto 852, 3) := dk_167 3 84 (dk_at dksL_law_65 9 rfl rfl)
theorem dL_law_1700 : decode cL_law 1700 = .ok (.aload_n 1, 1) := dk_43 (dk_at dksL_law_65 12 rfl rfl)
theorem dL_law_1701 : decode cL_law 1701 = .ok (.invokevirtual 244, 3) := dk_182 0 244 (dk_at dksL_law_65 13 rfl rfl)
theorem dL_law_1704 : decode cL_law 1704 = .ok (.aload_n 2, 1) := dk_44 (dk_at dksL_law_65 16 rfl rfl)
theorem dL_law_1705 : decode cL_law 1705 = .ok (.invokevirtual 247, 3) := dk_182 0 247 (dk_at dksL_law_65 17 rfl rfl)
theorem dL_law_1708 : decode cL_law 1708 = .ok (.if_icmp .eq 841, 3) := dk_159 3 73 (dk_at dksL_law_65 20 rfl rfl)
theorem dL_law_1711 : decode cL_law 1711 = .ok (.iconst 0, 1) := dk_3 (dk_at dksL_law_65 23 rfl rfl)
theorem dL_law_1712 : decode cL_law 1712 = .ok (.ireturn, 1) := dk_172 (dk_at dksL_law_66 0 rfl rfl)
theorem dL_law_1713 : decode cL_law 1713 = .ok (.aload_n 1, 1) := dk_43 (dk_at dksL_law_66 1 rfl rfl)
theorem dL_law_1714 : decode cL_law 1714 = .ok (.aload_n 0, 1) := dk_42 (dk_at dksL_law_66 2 rfl rfl)
theorem dL_law_1715 : decode cL_law 1715 = .ok (.iload 5, 2) := dk_21 5 (dk_at dksL_law_66 3 rfl rfl)
theorem dL_law_1717 : decode cL_law 1717 = .ok (.iconst 1, 1) := dk_4 (dk_at dksL_law_66 5 rfl rfl)
theorem dL_law_1718 : decode cL_law 1718 = .ok (.iadd, 1) := dk_96 (dk_at dksL_law_66 6 rfl rfl)
theorem dL_law_1719 : decode cL_law 1719 = .ok (.iaload, 1) := dk_46 (dk_at dksL_law_66 7 rfl rfl)
theorem dL_law_1720 : decode cL_law 1720 = .ok (.aload_n 3, 1) := dk_45 (dk_at dksL_law_66 8 rfl rfl)
theorem dL_law_1721 : decode cL_law 1721 = .ok (.invokestatic 248, 3) := dk_184 0 248 (dk_at dksL_law_66 9 rfl rfl)
theorem dL_law_1724 : decode cL_law 1724 = .ok (.istore 6, 2) := dk_54 6 (dk_at dksL_law_66 12 rfl rfl)
theorem dL_law_1726 : decode cL_law 1726 = .ok (.aload_n 2, 1) := dk_44 (dk_at dksL_law_66 14 rfl rfl)
theorem dL_law_1727 : decode cL_law 1727 = .ok (.aload_n 0, 1) := dk_42 (dk_at dksL_law_66 15 rfl rfl)
theorem dL_law_1728 : decode cL_law 1728 = .ok (.iload 5, 2) := dk_21 5 (dk_at dksL_law_66 16 rfl rfl)
theorem dL_law_1730 : decode cL_law 1730 = .ok (.iconst 1, 1) := dk_4 (dk_at dksL_law_66 18 rfl rfl)
theorem dL_law_1731 : decode cL_law 1731 = .ok (.iadd, 1) := dk_96 (dk_at dksL_law_66 19 rfl rfl)
theorem dL_law_1732 : decode cL_law 1732 = .ok (.iaload, 1) := dk_46 (dk_at dksL_law_66 20 rfl rfl)
theorem dL_law_1733 : decode cL_law 1733 = .ok (.invokevirtual 250, 3) := dk_182 0 250 (dk_at dksL_law_66 21 rfl rfl)
theorem dL_law_1736 : decode cL_law 1736 = .ok (.istore 7, 2) := dk_54 7 (dk_at dksL_law_67 0 rfl rfl)
theorem dL_law_1738 : decode cL_law 1738 = .ok (.aload_n 2, 1) := dk_44 (dk_at dksL_law_67 2 rfl rfl)
theorem dL_law_1739 : decode cL_law 1739 = .ok (.invokevirtual 155, 3) := dk_182 0 155 (dk_at dksL_law_67 3 rfl rfl)
theorem dL_law_1742 : decode cL_law 1742 = .ok (.iload 6, 2) := dk_21 6 (dk_at dksL_law_67 6 rfl rfl)
theorem dL_law_1744 : decode cL_law 1744 = .ok (.if_icmp .eq 5, 3) := dk_159 0 5 (dk_at dksL_law_67 8 rfl rfl)
theorem dL_law_1747 : decode cL_law 1747 = .ok (.iconst 0, 1) := dk_3 (dk_at dksL_law_67 11 rfl rfl)
theorem dL_law_1748 : decode cL_law 1748 = .ok (.ireturn, 1) := dk_172 (dk_at dksL_law_67 12 rfl rfl)
theorem dL_law_1749 : decode cL_law 1749 = .ok (.iload 6, 2) := dk_21 6 (dk_at dksL_law_67 13 rfl rfl)
theorem dL_law_1751 : decode cL_law 1751 = .ok (.ifCond .ne 15, 3) := dk_154 0 15 (dk_at dksL_law_67 15 rfl rfl)
theorem dL_law_1754 : decode cL_law 1754 = .ok (.aload_n 3, 1) := dk_45 (dk_at dksL_law_67 18 rfl rfl)
theorem dL_law_1755 : decode cL_law 1755 = .ok (.iconst 0, 1) := dk_3 (dk_at dksL_law_67 19 rfl rfl)
theorem dL_law_1756 : decode cL_law 1756 = .ok (.laload, 1) := dk_47 (dk_at dksL_law_67 20 rfl rfl)
theorem dL_law_1757 : decode cL_law 1757 = .ok (.iload 7, 2) := dk_21 7 (dk_at dksL_law_67 21 rfl rfl)
theorem dL_law_1759 : decode cL_law 1759 = .ok (.i2l, 1) := dk_133 (dk_at dksL_law_67 23 rfl rfl)
theorem dL_law_1760 : decode cL_law 1760 = .ok (.lcmp, 1) := dk_148 (dk_at dksL_law_68 0 rfl rfl)
theorem dL_law_1761 : decode cL_law 1761 = .ok (.ifCond .eq 5, 3) := dk_153 0 5 (dk_at dksL_law_68 1 rfl rfl)
theorem dL_law_1764 : decode cL_law 1764 = .ok (.iconst 0, 1) := dk_3 (dk_at dksL_law_68 4 rfl rfl)
theorem dL_law_1765 : decode cL_law 1765 = .ok (.ireturn, 1) := dk_172 (dk_at dksL_law_68 5 rfl rfl)
theorem dL_law_1766 : decode cL_law 1766 = .ok (.goto 783, 3) := dk_167 3 15 (dk_at dksL_law_68 6 rfl rfl)
theorem dL_law_1769 : decode cL_law 1769 = .ok (.aload_n 1, 1) := dk_43 (dk_at dksL_law_68 9 rfl rfl)
theorem dL_law_1770 : decode cL_law 1770 = .ok (.aload_n 3, 1) := dk_45 (dk_at dksL_law_68 10 rfl rfl)
theorem dL_law_1771 : decode cL_law 1771 = .ok (.invokestatic 251, 3) := dk_184 0 251 (dk_at dksL_law_68 11 rfl rfl)
theorem dL_law_1774 : decode cL_law 1774 = .ok (.istore 6, 2) := dk_54 6 (dk_at dksL_law_68 14 rfl rfl)
theorem dL_law_1776 : decode cL_law 1776 = .ok (.aload_n 2, 1) := dk_44 (dk_at dksL_law_68 16 rfl rfl)
theorem dL_law_1777 : decode cL_law 1777 = .ok (.invokevirtual 254, 3) := dk_182 0 254 (dk_at dksL_law_68 17 rfl rfl)
theorem dL_law_1780 : decode cL_law 1780 = .ok (.istore 7, 2) := dk_54 7 (dk_at dksL_law_68 20 rfl rfl)
theorem dL_law_1782 : decode cL_law 1782 = .ok (.aload_n 2, 1) := dk_44 (dk_at dksL_law_68 22 rfl rfl)
theorem dL_law_1783 : decode cL_law 1783 = .ok (.invokevirtual 155, 3) := dk_182 0 155 (dk_at dksL_law_69 0 rfl rfl)
theorem dL_law_1786 : decode cL_law 1786 = .ok (.iload 6, 2) := dk_21 6 (dk_at dksL_law_69 3 rfl rfl)
theorem dL_law_1788 : decode cL_law 1788 = .ok (.if_icmp .eq 5, 3) := dk_159 0 5 (dk_at dksL_law_69 5 rfl rfl)
theorem dL_law_1791 : decode cL_law 1791 = .ok (.iconst 0, 1) := dk_3 (dk_at dksL_law_69 8 rfl rfl)
theorem dL_law_1792 : decode cL_law 1792 = .ok (.ireturn, 1) := dk_172 (dk_at dksL_law_69 9 rfl rfl)
theorem dL_law_1793 : decode cL_law 1793 = .ok (.iload 6, 2) := dk_21 6 (dk_at dksL_law_69 10 rfl rfl)
theorem dL_law_1795 : decode cL_law 1795 = .ok (.ifCond .ne 15, 3) := dk_154 0 15 (dk_at dksL_law_69 12 rfl rfl)
theorem dL_law_1798 : decode cL_law 1798 = .ok (.aload_n 3, 1) := dk_45 (dk_at dksL_law_69 15 rfl rfl)
theorem dL_law_1799 : decode cL_law 1799 = .ok (.iconst 0, 1) := dk_3 (dk_at dksL_law_69 16 rfl rfl)
theorem dL_law_1800 : decode cL_law 1800 = .ok (.laload, 1) := dk_47 (dk_at dksL_law_69 17 rfl rfl)
theorem dL_law_1801 : decode cL_law 1801 = .ok (.iload 7, 2) := dk_21 7 (dk_at dksL_law_69 18 rfl rfl)
theorem dL_law_1803 : decode cL_law 1803 = .ok (.i2l, 1) := dk_133 (dk_at dksL_law_69 20 rfl rfl)
theorem dL_law_1804 : decode cL_law 1804 = .ok (.lcmp, 1) := dk_148 (dk_at dksL_law_69 21 rfl rfl)
theorem dL_law_1805 : decode cL_law 1805 = .ok (.ifCond .eq 5, 3) := dk_153 0 5 (dk_at dksL_law_70 0 rfl rfl)
theorem dL_law_1808 : decode cL_law 1808 = .ok (.iconst 0, 1) := dk_3 (dk_at dksL_law_70 3 rfl rfl)
theorem dL_law_1809 : decode cL_law 1809 = .ok (.ireturn, 1) := dk_172 (dk_at dksL_law_70 4 rfl rfl)
theorem dL_law_1810 : decode cL_law 1810 = .ok (.goto 739, 3) := dk_167 2 227 (dk_at dksL_law_70 5 rfl rfl)
theorem dL_law_1813 : decode cL_law 1813 = .ok (.aload_n 1, 1) := dk_43 (dk_at dksL_law_70 8 rfl rfl)
theorem dL_law_1814 : decode cL_law 1814 = .ok (.aload_n 3, 1) := dk_45 (dk_at dksL_law_70 9 rfl rfl)
theorem dL_law_1815 : decode cL_law 1815 = .ok (.invokestatic 255, 3) := dk_184 0 255 (dk_at dksL_law_70 10 rfl rfl)
theorem dL_law_1818 : decode cL_law 1818 = .ok (.istore 6, 2) := dk_54 6 (dk_at dksL_law_70 13 rfl rfl)
theorem dL_law_1820 : decode cL_law 1820 = .ok (.aload_n 2, 1) := dk_44 (dk_at dksL_law_70 15 rfl rfl)
theorem dL_law_1821 : decode cL_law 1821 = .ok (.invokevirtual 257, 3) := dk_182 1 1 (dk_at dksL_law_70 16 rfl rfl)
theorem dL_law_1824 : decode cL_law 1824 = .ok (.istore 7, 2) := dk_54 7 (dk_at dksL_law_70 19 rfl rfl)
theorem dL_law_1826 : decode cL_law 1826 = .ok (.aload_n 2, 1) := dk_44 (dk_at dksL_law_70 21 rfl rfl)
theorem dL_law_1827 : decode cL_law 1827 = .ok (.invokevirtual 155, 3) := dk_182 0 155 (dk_at dksL_law_71 0 rfl rfl)
theorem dL_law_1830 : decode cL_law 1830 = .ok (.iload 6, 2) := dk_21 6 (dk_at dksL_law_71 3 rfl rfl)
theorem dL_law_1832 : decode cL_law 1832 = .ok (.if_icmp .eq 5, 3) := dk_159 0 5 (dk_at dksL_law_71 5 rfl rfl)
theorem dL_law_1835 : decode cL_law 1835 = .ok (.iconst 0, 1) := dk_3 (dk_at dksL_law_71 8 rfl rfl)
theorem dL_law_1836 : decode cL_law 1836 = .ok (.ireturn, 1) := dk_172 (dk_at dksL_law_71 9 rfl rfl)
theorem dL_law_1837 : decode cL_law 1837 = .ok (.iload 6, 2) := dk_21 6 (dk_at dksL_law_71 10 rfl rfl)
theorem dL_law_1839 : decode cL_law 1839 = .ok (.ifCond .ne 15, 3) := dk_154 0 15 (dk_at dksL_law_71 12 rfl rfl)
theorem dL_law_1842 : decode cL_law 1842 = .ok (.aload_n 3, 1) := dk_45 (dk_at dksL_law_71 15 rfl rfl)
theorem dL_law_1843 : decode cL_law 1843 = .ok (.iconst 0, 1) := dk_3 (dk_at dksL_law_71 16 rfl rfl)
theorem dL_law_1844 : decode cL_law 1844 = .ok (.laload, 1) := dk_47 (dk_at dksL_law_71 17 rfl rfl)
theorem dL_law_1845 : decode cL_law 1845 = .ok (.iload 7, 2) := dk_21 7 (dk_at dksL_law_71 18 rfl rfl)
theorem dL_law_1847 : decode cL_law 1847 = .ok (.i2l, 1) := dk_133 (dk_at dksL_law_71 20 rfl rfl)
theorem dL_law_1848 : decode cL_law 1848 = .ok (.lcmp, 1) := dk_148 (dk_at dksL_law_71 21 rfl rfl)
theorem dL_law_1849 : decode cL_law 1849 = .ok (.ifCond .eq 5, 3) := dk_153 0 5 (dk_at dksL_law_72 0 rfl rfl)
theorem dL_law_1852 : decode cL_law 1852 = .ok (.iconst 0, 1) := dk_3 (dk_at dksL_law_72 3 rfl rfl)
theorem dL_law_1853 : decode cL_law 1853 = .ok (.ireturn, 1) := dk_172 (dk_at dksL_law_72 4 rfl rfl)
theorem dL_law_1854 : decode cL_law 1854 = .ok (.goto 695, 3) := dk_167 2 183 (dk_at dksL_law_72 5 rfl rfl)
theorem dL_law_1857 : decode cL_law 1857 = .ok (.aload_n 1, 1) := dk_43 (dk_at dksL_law_72 8 rfl rfl)
theorem dL_law_1858 : decode cL_law 1858 = .ok (.aload_n 0, 1) := dk_42 (dk_at dksL_law_72 9 rfl rfl)
theorem dL_law_1859 : decode cL_law 1859 = .ok (.iload 5, 2) := dk_21 5 (dk_at dksL_law_72 10 rfl rfl)
theorem dL_law_1861 : decode cL_law 1861 = .ok (.iconst 1, 1) := dk_4 (dk_at dksL_law_72 12 rfl rfl)
theorem dL_law_1862 : decode cL_law 1862 = .ok (.iadd, 1) := dk_96 (dk_at dksL_law_72 13 rfl rfl)
theorem dL_law_1863 : decode cL_law 1863 = .ok (.iaload, 1) := dk_46 (dk_at dksL_law_72 14 rfl rfl)
theorem dL_law_1864 : decode cL_law 1864 = .ok (.aload_n 3, 1) := dk_45 (dk_at dksL_law_72 15 rfl rfl)
theorem dL_law_1865 : decode cL_law 1865 = .ok (.invokestatic 258, 3) := dk_184 1 2 (dk_at dksL_law_72 16 rfl rfl)
theorem dL_law_1868 : decode cL_law 1868 = .ok (.istore 6, 2) := dk_54 6 (dk_at dksL_law_72 19 rfl rfl)
theorem dL_law_1870 : decode cL_law 1870 = .ok (.aload_n 2, 1) := dk_44 (dk_at dksL_law_72 21 rfl rfl)
theorem dL_law_1871 : decode cL_law 1871 = .ok (.aload_n 0, 1) := dk_42 (dk_at dksL_law_72 22 rfl rfl)
theorem dL_law_1872 : decode cL_law 1872 = .ok (.iload 5, 2) := dk_21 5 (dk_at dksL_law_73 0 rfl rfl)
theorem dL_law_1874 : decode cL_law 1874 = .ok (.iconst 1, 1) := dk_4 (dk_at dksL_law_73 2 rfl rfl)
theorem dL_law_1875 : decode cL_law 1875 = .ok (.iadd, 1) := dk_96 (dk_at dksL_law_73 3 rfl rfl)
theorem dL_law_1876 : decode cL_law 1876 = .ok (.iaload, 1) := dk_46 (dk_at dksL_law_73 4 rfl rfl)
theorem dL_law_1877 : decode cL_law 1877 = .ok (.invokevirtual 260, 3) := dk_182 1 4 (dk_at dksL_law_73 5 rfl rfl)
theorem dL_law_1880 : decode cL_law 1880 = .ok (.istore 7, 2) := dk_54 7 (dk_at dksL_law_73 8 rfl rfl)
theorem dL_law_1882 : decode cL_law 1882 = .ok (.aload_n 2, 1) := dk_44 (dk_at dksL_law_73 10 rfl rfl)
theorem dL_law_1883 : decode cL_law 1883 = .ok (.invokevirtual 155, 3) := dk_182 0 155 (dk_at dksL_law_73 11 rfl rfl)
theorem dL_law_1886 : decode cL_law 1886 = .ok (.iload 6, 2) := dk_21 6 (dk_at dksL_law_73 14 rfl rfl)
theorem dL_law_1888 : decode cL_law 1888 = .ok (.if_icmp .eq 5, 3) := dk_159 0 5 (dk_at dksL_law_73 16 rfl rfl)
theorem dL_law_1891 : decode cL_law 1891 = .ok (.iconst 0, 1) := dk_3 (dk_at dksL_law_73 19 rfl rfl)
theorem dL_law_1892 : decode cL_law 1892 = .ok (.ireturn, 1) := dk_172 (dk_at dksL_law_73 20 rfl rfl)
theorem dL_law_1893 : decode cL_law 1893 = .ok (.iload 6, 2) := dk_21 6 (dk_at dksL_law_73 21 rfl rfl)
theorem dL_law_1895 : decode cL_law 1895 = .ok (.ifCond .ne 15, 3) := dk_154 0 15 (dk_at dksL_law_74 0 rfl rfl)
theorem dL_law_1898 : decode cL_law 1898 = .ok (.aload_n 3, 1) := dk_45 (dk_at dksL_law_74 3 rfl rfl)
theorem dL_law_1899 : decode cL_law 1899 = .ok (.iconst 0, 1) := dk_3 (dk_at dksL_law_74 4 rfl rfl)
theorem dL_law_1900 : decode cL_law 1900 = .ok (.laload, 1) := dk_47 (dk_at dksL_law_74 5 rfl rfl)
theorem dL_law_1901 : decode cL_law 1901 = .ok (.iload 7, 2) := dk_21 7 (dk_at dksL_law_74 6 rfl rfl)
theorem dL_law_1903 : decode cL_law 1903 = .ok (.i2l, 1) := dk_133 (dk_at dksL_law_74 8 rfl rfl)
theorem dL_law_1904 : decode cL_law 1904 = .ok (.lcmp, 1) := dk_148 (dk_at dksL_law_74 9 rfl rfl)
theorem dL_law_1905 : decode cL_law 1905 = .ok (.ifCond .eq 5, 3) := dk_153 0 5 (dk_at dksL_law_74 10 rfl rfl)
theorem dL_law_1908 : decode cL_law 1908 = .ok (.iconst 0, 1) := dk_3 (dk_at dksL_law_74 13 rfl rfl)
theorem dL_law_1909 : decode cL_law 1909 = .ok (.ireturn, 1) := dk_172 (dk_at dksL_law_74 14 rfl rfl)
theorem dL_law_1910 : decode cL_law 1910 = .ok (.goto 639, 3) := dk_167 2 127 (dk_at dksL_law_74 15 rfl rfl)
theorem dL_law_1913 : decode cL_law 1913 = .ok (.aload_n 1, 1) := dk_43 (dk_at dksL_law_74 18 rfl rfl)
theorem dL_law_1914 : decode cL_law 1914 = .ok (.aload_n 0, 1) := dk_42 (dk_at dksL_law_74 19 rfl rfl)
theorem dL_law_1915 : decode cL_law 1915 = .ok (.iload 5, 2) := dk_21 5 (dk_at dksL_law_74 20 rfl rfl)
theorem dL_law_1917 : decode cL_law 1917 = .ok (.iconst 1, 1) := dk_4 (dk_at dksL_law_74 22 rfl rfl)
theorem dL_law_1918 : decode cL_law 1918 = .ok (.iadd, 1) := dk_96 (dk_at dksL_law_74 23 rfl rfl)
theorem dL_law_1919 : decode cL_law 1919 = .ok (.iaload, 1) := dk_46 (dk_at dksL_law_75 0 rfl rfl)
theorem dL_law_1920 : decode cL_law 1920 = .ok (.aload_n 3, 1) := dk_45 (dk_at dksL_law_75 1 rfl rfl)
theorem dL_law_1921 : decode cL_law 1921 = .ok (.invokestatic 261, 3) := dk_184 1 5 (dk_at dksL_law_75 2 rfl rfl)
theorem dL_law_1924 : decode cL_law 1924 = .ok (.istore 6, 2) := dk_54 6 (dk_at dksL_law_75 5 rfl rfl)
theorem dL_law_1926 : decode cL_law 1926 = .ok (.aload_n 2, 1) := dk_44 (dk_at dksL_law_75 7 rfl rfl)
theorem dL_law_1927 : decode cL_law 1927 = .ok (.aload_n 0, 1) := dk_42 (dk_at dksL_law_75 8 rfl rfl)
theorem dL_law_1928 : decode cL_law 1928 = .ok (.iload 5, 2) := dk_21 5 (dk_at dksL_law_75 9 rfl rfl)
theorem dL_law_1930 : decode cL_law 1930 = .ok (.iconst 1, 1) := dk_4 (dk_at dksL_law_75 11 rfl rfl)
theorem dL_law_1931 : decode cL_law 1931 = .ok (.iadd, 1) := dk_96 (dk_at dksL_law_75 12 rfl rfl)
theorem dL_law_1932 : decode cL_law 1932 = .ok (.iaload, 1) := dk_46 (dk_at dksL_law_75 13 rfl rfl)
theorem dL_law_1933 : decode cL_law 1933 = .ok (.invokevirtual 263, 3) := dk_182 1 7 (dk_at dksL_law_75 14 rfl rfl)
theorem dL_law_1936 : decode cL_law 1936 = .ok (.istore 7, 2) := dk_54 7 (dk_at dksL_law_75 17 rfl rfl)
theorem dL_law_1938 : decode cL_law 1938 = .ok (.aload_n 2, 1) := dk_44 (dk_at dksL_law_75 19 rfl rfl)
theorem dL_law_1939 : decode cL_law 1939 = .ok (.invokevirtual 155, 3) := dk_182 0 155 (dk_at dksL_law_75 20 rfl rfl)
theorem dL_law_1942 : decode cL_law 1942 = .ok (.iload 6, 2) := dk_21 6 (dk_at dksL_law_76 0 rfl rfl)
theorem dL_law_1944 : decode cL_law 1944 = .ok (.if_icmp .eq 5, 3) := dk_159 0 5 (dk_at dksL_law_76 2 rfl rfl)
theorem dL_law_1947 : decode cL_law 1947 = .ok (.iconst 0, 1) := dk_3 (dk_at dksL_law_76 5 rfl rfl)
theorem dL_law_1948 : decode cL_law 1948 = .ok (.ireturn, 1) := dk_172 (dk_at dksL_law_76 6 rfl rfl)
theorem dL_law_1949 : decode cL_law 1949 = .ok (.iload 6, 2) := dk_21 6 (dk_at dksL_law_76 7 rfl rfl)
theorem dL_law_1951 : decode cL_law 1951 = .ok (.ifCond .ne 15, 3) := dk_154 0 15 (dk_at dksL_law_76 9 rfl rfl)
theorem dL_law_1954 : decode cL_law 1954 = .ok (.aload_n 3, 1) := dk_45 (dk_at dksL_law_76 12 rfl rfl)
theorem dL_law_1955 : decode cL_law 1955 = .ok (.iconst 0, 1) := dk_3 (dk_at dksL_law_76 13 rfl rfl)
theorem dL_law_1956 : decode cL_law 1956 = .ok (.laload, 1) := dk_47 (dk_at dksL_law_76 14 rfl rfl)
theorem dL_law_1957 : decode cL_law 1957 = .ok (.iload 7, 2) := dk_21 7 (dk_at dksL_law_76 15 rfl rfl)
theorem dL_law_1959 : decode cL_law 1959 = .ok (.i2l, 1) := dk_133 (dk_at dksL_law_76 17 rfl rfl)
theorem dL_law_1960 : decode cL_law 1960 = .ok (.lcmp, 1) := dk_148 (dk_at dksL_law_76 18 rfl rfl)
theorem dL_law_1961 : decode cL_law 1961 = .ok (.ifCond .eq 5, 3) := dk_153 0 5 (dk_at dksL_law_76 19 rfl rfl)
theorem dL_law_1964 : decode cL_law 1964 = .ok (.iconst 0, 1) := dk_3 (dk_at dksL_law_76 22 rfl rfl)
theorem dL_law_1965 : decode cL_law 1965 = .ok (.ireturn, 1) := dk_172 (dk_at dksL_law_76 23 rfl rfl)
theorem dL_law_1966 : decode cL_law 1966 = .ok (.goto 583, 3) := dk_167 2 71 (dk_at dksL_law_77 0 rfl rfl)
theorem dL_law_1969 : decode cL_law 1969 = .ok (.aload_n 1, 1) := dk_43 (dk_at dksL_law_77 3 rfl rfl)
theorem dL_law_1970 : decode cL_law 1970 = .ok (.aload_n 0, 1) := dk_42 (dk_at dksL_law_77 4 rfl rfl)
theorem dL_law_1971 : decode cL_law 1971 = .ok (.iload 5, 2) := dk_21 5 (dk_at dksL_law_77 5 rfl rfl)
theorem dL_law_1973 : decode cL_law 1973 = .ok (.iconst 1, 1) := dk_4 (dk_at dksL_law_77 7 rfl rfl)
theorem dL_law_1974 : decode cL_law 1974 = .ok (.iadd, 1) := dk_96 (dk_at dksL_law_77 8 rfl rfl)
theorem dL_law_1975 : decode cL_law 1975 = .ok (.iaload, 1) := dk_46 (dk_at dksL_law_77 9 rfl rfl)
theorem dL_law_1976 : decode cL_law 1976 = .ok (.aload_n 3, 1) := dk_45 (dk_at dksL_law_77 10 rfl rfl)
theorem dL_law_1977 : decode cL_law 1977 = .ok (.invokestatic 264, 3) := dk_184 1 8 (dk_at dksL_law_77 11 rfl rfl)
theorem dL_law_1980 : decode cL_law 1980 = .ok (.istore 6, 2) := dk_54 6 (dk_at dksL_law_77 14 rfl rfl)
theorem dL_law_1982 : decode cL_law 1982 = .ok (.aload_n 2, 1) := dk_44 (dk_at dksL_law_77 16 rfl rfl)
theorem dL_law_1983 : decode cL_law 1983 = .ok (.aload_n 0, 1) := dk_42 (dk_at dksL_law_77 17 rfl rfl)
theorem dL_law_1984 : decode cL_law 1984 = .ok (.iload 5, 2) := dk_21 5 (dk_at dksL_law_77 18 rfl rfl)
theorem dL_law_1986 : decode cL_law 1986 = .ok (.iconst 1, 1) := dk_4 (dk_at dksL_law_77 20 rfl rfl)
theorem dL_law_1987 : decode cL_law 1987 = .ok (.iadd, 1) := dk_96 (dk_at dksL_law_77 21 rfl rfl)
theorem dL_law_1988 : decode cL_law 1988 = .ok (.iaload, 1) := dk_46 (dk_at dksL_law_77 22 rfl rfl)
theorem dL_law_1989 : decode cL_law 1989 = .ok (.invokevirtual 266, 3) := dk_182 1 10 (dk_at dksL_law_78 0 rfl rfl)
theorem dL_law_1992 : decode cL_law 1992 = .ok (.istore 7, 2) := dk_54 7 (dk_at dksL_law_78 3 rfl rfl)
theorem dL_law_1994 : decode cL_law 1994 = .ok (.aload_n 2, 1) := dk_44 (dk_at dksL_law_78 5 rfl rfl)
theorem dL_law_1995 : decode cL_law 1995 = .ok (.invokevirtual 155, 3) := dk_182 0 155 (dk_at dksL_law_78 6 rfl rfl)
theorem dL_law_1998 : decode cL_law 1998 = .ok (.iload 6, 2) := dk_21 6 (dk_at dksL_law_78 9 rfl rfl)
theorem dL_law_2000 : decode cL_law 2000 = .ok (.if_icmp .eq 5, 3) := dk_159 0 5 (dk_at dksL_law_78 11 rfl rfl)
theorem dL_law_2003 : decode cL_law 2003 = .ok (.iconst 0, 1) := dk_3 (dk_at dksL_law_78 14 rfl rfl)
theorem dL_law_2004 : decode cL_law 2004 = .ok (.ireturn, 1) := dk_172 (dk_at dksL_law_78 15 rfl rfl)
theorem dL_law_2005 : decode cL_law 2005 = .ok (.iload 6, 2) := dk_21 6 (dk_at dksL_law_78 16 rfl rfl)
theorem dL_law_2007 : decode cL_law 2007 = .ok (.ifCond .ne 15, 3) := dk_154 0 15 (dk_at dksL_law_78 18 rfl rfl)
theorem dL_law_2010 : decode cL_law 2010 = .ok (.aload_n 3, 1) := dk_45 (dk_at dksL_law_78 21 rfl rfl)
theorem dL_law_2011 : decode cL_law 2011 = .ok (.iconst 0, 1) := dk_3 (dk_at dksL_law_78 22 rfl rfl)
theorem dL_law_2012 : decode cL_law 2012 = .ok (.laload, 1) := dk_47 (dk_at dksL_law_78 23 rfl rfl)
theorem dL_law_2013 : decode cL_law 2013 = .ok (.iload 7, 2) := dk_21 7 (dk_at dksL_law_79 0 rfl rfl)
theorem dL_law_2015 : decode cL_law 2015 = .ok (.i2l, 1) := dk_133 (dk_at dksL_law_79 2 rfl rfl)
theorem dL_law_2016 : decode cL_law 2016 = .ok (.lcmp, 1) := dk_148 (dk_at dksL_law_79 3 rfl rfl)
theorem dL_law_2017 : decode cL_law 2017 = .ok (.ifCond .eq 5, 3) := dk_153 0 5 (dk_at dksL_law_79 4 rfl rfl)
theorem dL_law_2020 : decode cL_law 2020 = .ok (.iconst 0, 1) := dk_3 (dk_at dksL_law_79 7 rfl rfl)
theorem dL_law_2021 : decode cL_law 2021 = .ok (.ireturn, 1) := dk_172 (dk_at dksL_law_79 8 rfl rfl)
theorem dL_law_2022 : decode cL_law 2022 = .ok (.goto 527, 3) := dk_167 2 15 (dk_at dksL_law_79 9 rfl rfl)
theorem dL_law_2025 : decode cL_law 2025 = .ok (.aload_n 1, 1) := dk_43 (dk_at dksL_law_79 12 rfl rfl)
theorem dL_law_2026 : decode cL_law 2026 = .ok (.aload_n 0, 1) := dk_42 (dk_at dksL_law_79 13 rfl rfl)
theorem dL_law_2027 : decode cL_law 2027 = .ok (.iload 5, 2) := dk_21 5 (dk_at dksL_law_79 14 rfl rfl)
theorem dL_law_2029 : decode cL_law 2029 = .ok (.iconst 1, 1) := dk_4 (dk_at dksL_law_79 16 rfl rfl)
theorem dL_law_2030 : decode cL_law 2030 = .ok (.iadd, 1) := dk_96 (dk_at dksL_law_79 17 rfl rfl)
theorem dL_law_2031 : decode cL_law 2031 = .ok (.iaload, 1) := dk_46 (dk_at dksL_law_79 18 rfl rfl)
theorem dL_law_2032 : decode cL_law 2032 = .ok (.aload_n 3, 1) := dk_45 (dk_at dksL_law_79 19 rfl rfl)
theorem dL_law_2033 : decode cL_law 2033 = .ok (.invokestatic 267, 3) := dk_184 1 11 (dk_at dksL_law_79 20 rfl rfl)
theorem dL_law_2036 : decode cL_law 2036 = .ok (.istore 6, 2) := dk_54 6 (dk_at dksL_law_80 0 rfl rfl)
theorem dL_law_2038 : decode cL_law 2038 = .ok (.aload_n 2, 1) := dk_44 (dk_at dksL_law_80 2 rfl rfl)
theorem dL_law_2039 : decode cL_law 2039 = .ok (.aload_n 0, 1) := dk_42 (dk_at dksL_law_80 3 rfl rfl)
theorem dL_law_2040 : decode cL_law 2040 = .ok (.iload 5, 2) := dk_21 5 (dk_at dksL_law_80 4 rfl rfl)
theorem dL_law_2042 : decode cL_law 2042 = .ok (.iconst 1, 1) := dk_4 (dk_at dksL_law_80 6 rfl rfl)
theorem dL_law_2043 : decode cL_law 2043 = .ok (.iadd, 1) := dk_96 (dk_at dksL_law_80 7 rfl rfl)
theorem dL_law_2044 : decode cL_law 2044 = .ok (.iaload, 1) := dk_46 (dk_at dksL_law_80 8 rfl rfl)
theorem dL_law_2045 : decode cL_law 2045 = .ok (.invokevirtual 269, 3) := dk_182 1 13 (dk_at dksL_law_80 9 rfl rfl)
theorem dL_law_2048 : decode cL_law 2048 = .ok (.istore 7, 2) := dk_54 7 (dk_at dksL_law_80 12 rfl rfl)
theorem dL_law_2050 : decode cL_law 2050 = .ok (.aload_n 2, 1) := dk_44 (dk_at dksL_law_80 14 rfl rfl)
theorem dL_law_2051 : decode cL_law 2051 = .ok (.invokevirtual 155, 3) := dk_182 0 155 (dk_at dksL_law_80 15 rfl rfl)
theorem dL_law_2054 : decode cL_law 2054 = .ok (.iload 6, 2) := dk_21 6 (dk_at dksL_law_80 18 rfl rfl)
theorem dL_law_2056 : decode cL_law 2056 = .ok (.if_icmp .eq 5, 3) := dk_159 0 5 (dk_at dksL_law_80 20 rfl rfl)
theorem dL_law_2059 : decode cL_law 2059 = .ok (.iconst 0, 1) := dk_3 (dk_at dksL_law_80 23 rfl rfl)
theorem dL_law_2060 : decode cL_law 2060 = .ok (.ireturn, 1) := dk_172 (dk_at dksL_law_81 0 rfl rfl)
theorem dL_law_2061 : decode cL_law 2061 = .ok (.iload 6, 2) := dk_21 6 (dk_at dksL_law_81 1 rfl rfl)
theorem dL_law_2063 : decode cL_law 2063 = .ok (.ifCond .ne 15, 3) := dk_154 0 15 (dk_at dksL_law_81 3 rfl rfl)
theorem dL_law_2066 : decode cL_law 2066 = .ok (.aload_n 3, 1) := dk_45 (dk_at dksL_law_81 6 rfl rfl)
theorem dL_law_2067 : decode cL_law 2067 = .ok (.iconst 0, 1) := dk_3 (dk_at dksL_law_81 7 rfl rfl)
theorem dL_law_2068 : decode cL_law 2068 = .ok (.laload, 1) := dk_47 (dk_at dksL_law_81 8 rfl rfl)
theorem dL_law_2069 : decode cL_law 2069 = .ok (.iload 7, 2) := dk_21 7 (dk_at dksL_law_81 9 rfl rfl)
theorem dL_law_2071 : decode cL_law 2071 = .ok (.i2l, 1) := dk_133 (dk_at dksL_law_81 11 rfl rfl)
theorem dL_law_2072 : decode cL_law 2072 = .ok (.lcmp, 1) := dk_148 (dk_at dksL_law_81 12 rfl rfl)
theorem dL_law_2073 : decode cL_law 2073 = .ok (.ifCond .eq 5, 3) := dk_153 0 5 (dk_at dksL_law_81 13 rfl rfl)
theorem dL_law_2076 : decode cL_law 2076 = .ok (.iconst 0, 1) := dk_3 (dk_at dksL_law_81 16 rfl rfl)
theorem dL_law_2077 : decode cL_law 2077 = .ok (.ireturn, 1) := dk_172 (dk_at dksL_law_81 17 rfl rfl)
theorem dL_law_2078 : decode cL_law 2078 = .ok (.goto 471, 3) := dk_167 1 215 (dk_at dksL_law_81 18 rfl rfl)
theorem dL_law_2081 : decode cL_law 2081 = .ok (.aload_n 1, 1) := dk_43 (dk_at dksL_law_81 21 rfl rfl)
theorem dL_law_2082 : decode cL_law 2082 = .ok (.aload 4, 2) := dk_25 4 (dk_at dksL_law_81 22 rfl rfl)
theorem dL_law_2084 : decode cL_law 2084 = .ok (.invokestatic 270, 3) := dk_184 1 14 (dk_at dksL_law_82 0 rfl rfl)
theorem dL_law_2087 : decode cL_law 2087 = .ok (.istore 6, 2) := dk_54 6 (dk_at dksL_law_82 3 rfl rfl)
theorem dL_law_2089 : decode cL_law 2089 = .ok (.aload_n 2, 1) := dk_44 (dk_at dksL_law_82 5 rfl rfl)
theorem dL_law_2090 : decode cL_law 2090 = .ok (.invokevirtual 273, 3) := dk_182 1 17 (dk_at dksL_law_82 6 rfl rfl)
theorem dL_law_2093 : decode cL_law 2093 = .ok (.dstore 7, 2) := dk_57 7 (dk_at dksL_law_82 9 rfl rfl)
theorem dL_law_2095 : decode cL_law 2095 = .ok (.aload_n 2, 1) := dk_44 (dk_at dksL_law_82 11 rfl rfl)
theorem dL_law_2096 : decode cL_law 2096 = .ok (.invokevirtual 155, 3) := dk_182 0 155 (dk_at dksL_law_82 12 rfl rfl)
theorem dL_law_2099 : decode cL_law 2099 = .ok (.iload 6, 2) := dk_21 6 (dk_at dksL_law_82 15 rfl rfl)
theorem dL_law_2101 : decode cL_law 2101 = .ok (.if_icmp .eq 5, 3) := dk_159 0 5 (dk_at dksL_law_82 17 rfl rfl)
theorem dL_law_2104 : decode cL_law 2104 = .ok (.iconst 0, 1) := dk_3 (dk_at dksL_law_82 20 rfl rfl)
theorem dL_law_2105 : decode cL_law 2105 = .ok (.ireturn, 1) := dk_172 (dk_at dksL_law_82 21 rfl rfl)
theorem dL_law_2106 : decode cL_law 2106 = .ok (.iload 6, 2) := dk_21 6 (dk_at dksL_law_82 22 rfl rfl)
theorem dL_law_2108 : decode cL_law 2108 = .ok (.ifCond .ne 35, 3) := dk_154 0 35 (dk_at dksL_law_83 0 rfl rfl)
theorem dL_law_2111 : decode cL_law 2111 = .ok (.aload 4, 2) := dk_25 4 (dk_at dksL_law_83 3 rfl rfl)
theorem dL_law_2113 : decode cL_law 2113 = .ok (.iconst 0, 1) := dk_3 (dk_at dksL_law_83 5 rfl rfl)
theorem dL_law_2114 : decode cL_law 2114 = .ok (.daload, 1) := dk_49 (dk_at dksL_law_83 6 rfl rfl)
theorem dL_law_2115 : decode cL_law 2115 = .ok (.dload 7, 2) := dk_24 7 (dk_at dksL_law_83 7 rfl rfl)
theorem dL_law_2117 : decode cL_law 2117 = .ok (.dcmp .l, 1) := dk_151 (dk_at dksL_law_83 9 rfl rfl)
theorem dL_law_2118 : decode cL_law 2118 = .ok (.ifCond .eq 25, 3) := dk_153 0 25 (dk_at dksL_law_83 10 rfl rfl)
theorem dL_law_2121 : decode cL_law 2121 = .ok (.aload 4, 2) := dk_25 4 (dk_at dksL_law_83 13 rfl rfl)
theorem dL_law_2123 : decode cL_law 2123 = .ok (.iconst 0, 1) := dk_3 (dk_at dksL_law_83 15 rfl rfl)
theorem dL_law_2124 : decode cL_law 2124 = .ok (.daload, 1) := dk_49 (dk_at dksL_law_83 16 rfl rfl)
theorem dL_law_2125 : decode cL_law 2125 = .ok (.aload 4, 2) := dk_25 4 (dk_at dksL_law_83 17 rfl rfl)
theorem dL_law_2127 : decode cL_law 2127 = .ok (.iconst 0, 1) := dk_3 (dk_at dksL_law_83 19 rfl rfl)
theorem dL_law_2128 : decode cL_law 2128 = .ok (.daload, 1) := dk_49 (dk_at dksL_law_83 20 rfl rfl)
theorem dL_law_2129 : decode cL_law 2129 = .ok (.dcmp .l, 1) := dk_151 (dk_at dksL_law_83 21 rfl rfl)
theorem dL_law_2130 : decode cL_law 2130 = .ok (.ifCond .eq 11, 3) := dk_153 0 11 (dk_at dksL_law_84 0 rfl rfl)
theorem dL_law_2133 : decode cL_law 2133 = .ok (.dload 7, 2) := dk_24 7 (dk_at dksL_law_84 3 rfl rfl)
theorem dL_law_2135 : decode cL_law 2135 = .ok (.dload 7, 2) := dk_24 7 (dk_at dksL_law_84 5 rfl rfl)
theorem dL_law_2137 : decode cL_law 2137 = .ok (.dcmp .l, 1) := dk_151 (dk_at dksL_law_84 7 rfl rfl)
theorem dL_law_2138 : decode cL_law 2138 = .ok (.ifCond .ne 5, 3) := dk_154 0 5 (dk_at dksL_law_84 8 rfl rfl)
theorem dL_law_2141 : decode cL_law 2141 = .ok (.iconst 0, 1) := dk_3 (dk_at dksL_law_84 11 rfl rfl)
theorem dL_law_2142 : decode cL_law 2142 = .ok (.ireturn, 1) := dk_172 (dk_at dksL_law_84 12 rfl rfl)
theorem dL_law_2143 : decode cL_law 2143 = .ok (.goto 406, 3) := dk_167 1 150 (dk_at dksL_law_84 13 rfl rfl)
theorem dL_law_2146 : decode cL_law 2146 = .ok (.aload_n 1, 1) := dk_43 (dk_at dksL_law_84 16 rfl rfl)
theorem dL_law_2147 : decode cL_law 2147 = .ok (.aload_n 0, 1) := dk_42 (dk_at dksL_law_84 17 rfl rfl)
theorem dL_law_2148 : decode cL_law 2148 = .ok (.iload 5, 2) := dk_21 5 (dk_at dksL_law_84 18 rfl rfl)
theorem dL_law_2150 : decode cL_law 2150 = .ok (.iconst 1, 1) := dk_4 (dk_at dksL_law_84 20 rfl rfl)
theorem dL_law_2151 : decode cL_law 2151 = .ok (.iadd, 1) := dk_96 (dk_at dksL_law_84 21 rfl rfl)
theorem dL_law_2152 : decode cL_law 2152 = .ok (.iaload, 1) := dk_46 (dk_at dksL_law_84 22 rfl rfl)
theorem dL_law_2153 : decode cL_law 2153 = .ok (.aload_n 3, 1) := dk_45 (dk_at dksL_law_84 23 rfl rfl)
theorem dL_law_2154 : decode cL_law 2154 = .ok (.invokestatic 274, 3) := dk_184 1 18 (dk_at dksL_law_85 0 rfl rfl)
theorem dL_law_2157 : decode cL_law 2157 = .ok (.istore 6, 2) := dk_54 6 (dk_at dksL_law_85 3 rfl rfl)
theorem dL_law_2159 : decode cL_law 2159 = .ok (.aload_n 2, 1) := dk_44 (dk_at dksL_law_85 5 rfl rfl)
theorem dL_law_2160 : decode cL_law 2160 = .ok (.aload_n 0, 1) := dk_42 (dk_at dksL_law_85 6 rfl rfl)
theorem dL_law_2161 : decode cL_law 2161 = .ok (.iload 5, 2) := dk_21 5 (dk_at dksL_law_85 7 rfl rfl)
theorem dL_law_2163 : decode cL_law 2163 = .ok (.iconst 1, 1) := dk_4 (dk_at dksL_law_85 9 rfl rfl)
theorem dL_law_2164 : decode cL_law 2164 = .ok (.iadd, 1) := dk_96 (dk_at dksL_law_85 10 rfl rfl)
theorem dL_law_2165 : decode cL_law 2165 = .ok (.iaload, 1) := dk_46 (dk_at dksL_law_85 11 rfl rfl)
theorem dL_law_2166 : decode cL_law 2166 = .ok (.invokevirtual 276, 3) := dk_182 1 20 (dk_at dksL_law_85 12 rfl rfl)
theorem dL_law_2169 : decode cL_law 2169 = .ok (.istore 7, 2) := dk_54 7 (dk_at dksL_law_85 15 rfl rfl)
theorem dL_law_2171 : decode cL_law 2171 = .ok (.aload_n 2, 1) := dk_44 (dk_at dksL_law_85 17 rfl rfl)
theorem dL_law_2172 : decode cL_law 2172 = .ok (.invokevirtual 155, 3) := dk_182 0 155 (dk_at dksL_law_85 18 rfl rfl)
theorem dL_law_2175 : decode cL_law 2175 = .ok (.iload 6, 2) := dk_21 6 (dk_at dksL_law_85 21 rfl rfl)
theorem dL_law_2177 : decode cL_law 2177 = .ok (.if_icmp .eq 5, 3) := dk_159 0 5 (dk_at dksL_law_86 0 rfl rfl)
theorem dL_law_2180 : decode cL_law 2180 = .ok (.iconst 0, 1) := dk_3 (dk_at dksL_law_86 3 rfl rfl)
theorem dL_law_2181 : decode cL_law 2181 = .ok (.ireturn, 1) := dk_172 (dk_at dksL_law_86 4 rfl rfl)
theorem dL_law_2182 : decode cL_law 2182 = .ok (.iload 6, 2) := dk_21 6 (dk_at dksL_law_86 5 rfl rfl)
theorem dL_law_2184 : decode cL_law 2184 = .ok (.ifCond .ne 15, 3) := dk_154 0 15 (dk_at dksL_law_86 7 rfl rfl)
theorem dL_law_2187 : decode cL_law 2187 = .ok (.aload_n 3, 1) := dk_45 (dk_at dksL_law_86 10 rfl rfl)
theorem dL_law_2188 : decode cL_law 2188 = .ok (.iconst 0, 1) := dk_3 (dk_at dksL_law_86 11 rfl rfl)
theorem dL_law_2189 : decode cL_law 2189 = .ok (.laload, 1) := dk_47 (dk_at dksL_law_86 12 rfl rfl)
theorem dL_law_2190 : decode cL_law 2190 = .ok (.iload 7, 2) := dk_21 7 (dk_at dksL_law_86 13 rfl rfl)
theorem dL_law_2192 : decode cL_law 2192 = .ok (.i2l, 1) := dk_133 (dk_at dksL_law_86 15 rfl rfl)
theorem dL_law_2193 : decode cL_law 2193 = .ok (.lcmp, 1) := dk_148 (dk_at dksL_law_86 16 rfl rfl)
theorem dL_law_2194 : decode cL_law 2194 = .ok (.ifCond .eq 5, 3) := dk_153 0 5 (dk_at dksL_law_86 17 rfl rfl)
theorem dL_law_2197 : decode cL_law 2197 = .ok (.iconst 0, 1) := dk_3 (dk_at dksL_law_86 20 rfl rfl)
theorem dL_law_2198 : decode cL_law 2198 = .ok (.ireturn, 1) := dk_172 (dk_at dksL_law_86 21 rfl rfl)
theorem dL_law_2199 : decode cL_law 2199 = .ok (.goto 350, 3) := dk_167 1 94 (dk_at dksL_law_87 0 rfl rfl)
theorem dL_law_2202 : decode cL_law 2202 = .ok (.aload_n 1, 1) := dk_43 (dk_at dksL_law_87 3 rfl rfl)
theorem dL_law_2203 : decode cL_law 2203 = .ok (.aload_n 0, 1) := dk_42 (dk_at dksL_law_87 4 rfl rfl)
theorem dL_law_2204 : decode cL_law 2204 = .ok (.iload 5, 2) := dk_21 5 (dk_at dksL_law_87 5 rfl rfl)
theorem dL_law_2206 : decode cL_law 2206 = .ok (.iconst 1, 1) := dk_4 (dk_at dksL_law_87 7 rfl rfl)
theorem dL_law_2207 : decode cL_law 2207 = .ok (.iadd, 1) := dk_96 (dk_at dksL_law_87 8 rfl rfl)
theorem dL_law_2208 : decode cL_law 2208 = .ok (.iaload, 1) := dk_46 (dk_at dksL_law_87 9 rfl rfl)
theorem dL_law_2209 : decode cL_law 2209 = .ok (.aload_n 3, 1) := dk_45 (dk_at dksL_law_87 10 rfl rfl)
theorem dL_law_2210 : decode cL_law 2210 = .ok (.invokestatic 277, 3) := dk_184 1 21 (dk_at dksL_law_87 11 rfl rfl)
theorem dL_law_2213 : decode cL_law 2213 = .ok (.istore 6, 2) := dk_54 6 (dk_at dksL_law_87 14 rfl rfl)
theorem dL_law_2215 : decode cL_law 2215 = .ok (.aload_n 2, 1) := dk_44 (dk_at dksL_law_87 16 rfl rfl)
theorem dL_law_2216 : decode cL_law 2216 = .ok (.aload_n 0, 1) := dk_42 (dk_at dksL_law_87 17 rfl rfl)
theorem dL_law_2217 : decode cL_law 2217 = .ok (.iload 5, 2) := dk_21 5 (dk_at dksL_law_87 18 rfl rfl)
theorem dL_law_2219 : decode cL_law 2219 = .ok (.iconst 1, 1) := dk_4 (dk_at dksL_law_87 20 rfl rfl)
theorem dL_law_2220 : decode cL_law 2220 = .ok (.iadd, 1) := dk_96 (dk_at dksL_law_87 21 rfl rfl)
theorem dL_law_2221 : decode cL_law 2221 = .ok (.iaload, 1) := dk_46 (dk_at dksL_law_87 22 rfl rfl)
theorem dL_law_2222 : decode cL_law 2222 = .ok (.invokevirtual 279, 3) := dk_182 1 23 (dk_at dksL_law_88 0 rfl rfl)
theorem dL_law_2225 : decode cL_law 2225 = .ok (.istore 7, 2) := dk_54 7 (dk_at dksL_law_88 3 rfl rfl)
theorem dL_law_2227 : decode cL_law 2227 = .ok (.aload_n 2, 1) := dk_44 (dk_at dksL_law_88 5 rfl rfl)
theorem dL_law_2228 : decode cL_law 2228 = .ok (.invokevirtual 155, 3) := dk_182 0 155 (dk_at dksL_law_88 6 rfl rfl)
theorem dL_law_2231 : decode cL_law 2231 = .ok (.iload 6, 2) := dk_21 6 (dk_at dksL_law_88 9 rfl rfl)
theorem dL_law_2233 : decode cL_law 2233 = .ok (.if_icmp .eq 5, 3) := dk_159 0 5 (dk_at dksL_law_88 11 rfl rfl)
theorem dL_law_2236 : decode cL_law 2236 = .ok (.iconst 0, 1) := dk_3 (dk_at dksL_law_88 14 rfl rfl)
theorem dL_law_2237 : decode cL_law 2237 = .ok (.ireturn, 1) := dk_172 (dk_at dksL_law_88 15 rfl rfl)
theorem dL_law_2238 : decode cL_law 2238 = .ok (.iload 6, 2) := dk_21 6 (dk_at dksL_law_88 16 rfl rfl)
theorem dL_law_2240 : decode cL_law 2240 = .ok (.ifCond .ne 15, 3) := dk_154 0 15 (dk_at dksL_law_88 18 rfl rfl)
theorem dL_law_2243 : decode cL_law 2243 = .ok (.aload_n 3, 1) := dk_45 (dk_at dksL_law_88 21 rfl rfl)
theorem dL_law_2244 : decode cL_law 2244 = .ok (.iconst 0, 1) := dk_3 (dk_at dksL_law_88 22 rfl rfl)
theorem dL_law_2245 : decode cL_law 2245 = .ok (.laload, 1) := dk_47 (dk_at dksL_law_88 23 rfl rfl)
theorem dL_law_2246 : decode cL_law 2246 = .ok (.iload 7, 2) := dk_21 7 (dk_at dksL_law_89 0 rfl rfl)
theorem dL_law_2248 : decode cL_law 2248 = .ok (.i2l, 1) := dk_133 (dk_at dksL_law_89 2 rfl rfl)
theorem dL_law_2249 : decode cL_law 2249 = .ok (.lcmp, 1) := dk_148 (dk_at dksL_law_89 3 rfl rfl)
theorem dL_law_2250 : decode cL_law 2250 = .ok (.ifCond .eq 5, 3) := dk_153 0 5 (dk_at dksL_law_89 4 rfl rfl)
theorem dL_law_2253 : decode cL_law 2253 = .ok (.iconst 0, 1) := dk_3 (dk_at dksL_law_89 7 rfl rfl)
theorem dL_law_2254 : decode cL_law 2254 = .ok (.ireturn, 1) := dk_172 (dk_at dksL_law_89 8 rfl rfl)
theorem dL_law_2255 : decode cL_law 2255 = .ok (.goto 294, 3) := dk_167 1 38 (dk_at dksL_law_89 9 rfl rfl)
theorem dL_law_2258 : decode cL_law 2258 = .ok (.aload_n 1, 1) := dk_43 (dk_at dksL_law_89 12 rfl rfl)
theorem dL_law_2259 : decode cL_law 2259 = .ok (.aload_n 0, 1) := dk_42 (dk_at dksL_law_89 13 rfl rfl)
theorem dL_law_2260 : decode cL_law 2260 = .ok (.iload 5, 2) := dk_21 5 (dk_at dksL_law_89 14 rfl rfl)
theorem dL_law_2262 : decode cL_law 2262 = .ok (.iconst 1, 1) := dk_4 (dk_at dksL_law_89 16 rfl rfl)
theorem dL_law_2263 : decode cL_law 2263 = .ok (.iadd, 1) := dk_96 (dk_at dksL_law_89 17 rfl rfl)
theorem dL_law_2264 : decode cL_law 2264 = .ok (.iaload, 1) := dk_46 (dk_at dksL_law_89 18 rfl rfl)
theorem dL_law_2265 : decode cL_law 2265 = .ok (.i2c, 1) := dk_146 (dk_at dksL_law_89 19 rfl rfl)
theorem dL_law_2266 : decode cL_law 2266 = .ok (.aload_n 3, 1) := dk_45 (dk_at dksL_law_89 20 rfl rfl)
theorem dL_law_2267 : decode cL_law 2267 = .ok (.invokestatic 280, 3) := dk_184 1 24 (dk_at dksL_law_89 21 rfl rfl)
theorem dL_law_2270 : decode cL_law 2270 = .ok (.istore 6, 2) := dk_54 6 (dk_at dksL_law_90 0 rfl rfl)
theorem dL_law_2272 : decode cL_law 2272 = .ok (.aload_n 2, 1) := dk_44 (dk_at dksL_law_90 2 rfl rfl)
theorem dL_law_2273 : decode cL_law 2273 = .ok (.aload_n 0, 1) := dk_42 (dk_at dksL_law_90 3 rfl rfl)
theorem dL_law_2274 : decode cL_law 2274 = .ok (.iload 5, 2) := dk_21 5 (dk_at dksL_law_90 4 rfl rfl)
theorem dL_law_2276 : decode cL_law 2276 = .ok (.iconst 1, 1) := dk_4 (dk_at dksL_law_90 6 rfl rfl)
theorem dL_law_2277 : decode cL_law 2277 = .ok (.iadd, 1) := dk_96 (dk_at dksL_law_90 7 rfl rfl)
theorem dL_law_2278 : decode cL_law 2278 = .ok (.iaload, 1) := dk_46 (dk_at dksL_law_90 8 rfl rfl)
theorem dL_law_2279 : decode cL_law 2279 = .ok (.i2c, 1) := dk_146 (dk_at dksL_law_90 9 rfl rfl)
theorem dL_law_2280 : decode cL_law 2280 = .ok (.invokevirtual 283, 3) := dk_182 1 27 (dk_at dksL_law_90 10 rfl rfl)
theorem dL_law_2283 : decode cL_law 2283 = .ok (.istore 7, 2) := dk_54 7 (dk_at dksL_law_90 13 rfl rfl)
theorem dL_law_2285 : decode cL_law 2285 = .ok (.aload_n 2, 1) := dk_44 (dk_at dksL_law_90 15 rfl rfl)
theorem dL_law_2286 : decode cL_law 2286 = .ok (.invokevirtual 155, 3) := dk_182 0 155 (dk_at dksL_law_90 16 rfl rfl)
theorem dL_law_2289 : decode cL_law 2289 = .ok (.iload 6, 2) := dk_21 6 (dk_at dksL_law_90 19 rfl rfl)
theorem dL_law_2291 : decode cL_law 2291 = .ok (.if_icmp .eq 5, 3) := dk_159 0 5 (dk_at dksL_law_90 21 rfl rfl)
theorem dL_law_2294 : decode cL_law 2294 = .ok (.iconst 0, 1) := dk_3 (dk_at dksL_law_91 0 rfl rfl)
theorem dL_law_2295 : decode cL_law 2295 = .ok (.ireturn, 1) := dk_172 (dk_at dksL_law_91 1 rfl rfl)
theorem dL_law_2296 : decode cL_law 2296 = .ok (.iload 6, 2) := dk_21 6 (dk_at dksL_law_91 2 rfl rfl)
theorem dL_law_2298 : decode cL_law 2298 = .ok (.ifCond .ne 15, 3) := dk_154 0 15 (dk_at dksL_law_91 4 rfl rfl)
theorem dL_law_2301 : decode cL_law 2301 = .ok (.aload_n 3, 1) := dk_45 (dk_at dksL_law_91 7 rfl rfl)
theorem dL_law_2302 : decode cL_law 2302 = .ok (.iconst 0, 1) := dk_3 (dk_at dksL_law_91 8 rfl rfl)
theorem dL_law_2303 : decode cL_law 2303 = .ok (.laload, 1) := dk_47 (dk_at dksL_law_91 9 rfl rfl)
theorem dL_law_2304 : decode cL_law 2304 = .ok (.iload 7, 2) := dk_21 7 (dk_at dksL_law_91 10 rfl rfl)
theorem dL_law_2306 : decode cL_law 2306 = .ok (.i2l, 1) := dk_133 (dk_at dksL_law_91 12 rfl rfl)
theorem dL_law_2307 : decode cL_law 2307 = .ok (.lcmp, 1) := dk_148 (dk_at dksL_law_91 13 rfl rfl)
theorem dL_law_2308 : decode cL_law 2308 = .ok (.ifCond .eq 5, 3) := dk_153 0 5 (dk_at dksL_law_91 14 rfl rfl)
theorem dL_law_2311 : decode cL_law 2311 = .ok (.iconst 0, 1) := dk_3 (dk_at dksL_law_91 17 rfl rfl)
theorem dL_law_2312 : decode cL_law 2312 = .ok (.ireturn, 1) := dk_172 (dk_at dksL_law_91 18 rfl rfl)
theorem dL_law_2313 : decode cL_law 2313 = .ok (.goto 236, 3) := dk_167 0 236 (dk_at dksL_law_91 19 rfl rfl)
theorem dL_law_2316 : decode cL_law 2316 = .ok (.aload_n 1, 1) := dk_43 (dk_at dksL_law_91 22 rfl rfl)
theorem dL_law_2317 : decode cL_law 2317 = .ok (.aload_n 3, 1) := dk_45 (dk_at dksL_law_91 23 rfl rfl)
theorem dL_law_2318 : decode cL_law 2318 = .ok (.invokestatic 284, 3) := dk_184 1 28 (dk_at dksL_law_92 0 rfl rfl)
theorem dL_law_2321 : decode cL_law 2321 = .ok (.istore 6, 2) := dk_54 6 (dk_at dksL_law_92 3 rfl rfl)
theorem dL_law_2323 : decode cL_law 2323 = .ok (.aload_n 2, 1) := dk_44 (dk_at dksL_law_92 5 rfl rfl)
theorem dL_law_2324 : decode cL_law 2324 = .ok (.invokevirtual 286, 3) := dk_182 1 30 (dk_at dksL_law_92 6 rfl rfl)
theorem dL_law_2327 : decode cL_law 2327 = .ok (.istore 7, 2) := dk_54 7 (dk_at dksL_law_92 9 rfl rfl)
theorem dL_law_2329 : decode cL_law 2329 = .ok (.aload_n 2, 1) := dk_44 (dk_at dksL_law_92 11 rfl rfl)
theorem dL_law_2330 : decode cL_law 2330 = .ok (.invokevirtual 155, 3) := dk_182 0 155 (dk_at dksL_law_92 12 rfl rfl)
theorem dL_law_2333 : decode cL_law 2333 = .ok (.iload 6, 2) := dk_21 6 (dk_at dksL_law_92 15 rfl rfl)
theorem dL_law_2335 : decode cL_law 2335 = .ok (.if_icmp .eq 5, 3) := dk_159 0 5 (dk_at dksL_law_92 17 rfl rfl)
theorem dL_law_2338 : decode cL_law 2338 = .ok (.iconst 0, 1) := dk_3 (dk_at dksL_law_92 20 rfl rfl)
theorem dL_law_2339 : decode cL_law 2339 = .ok (.ireturn, 1) := dk_172 (dk_at dksL_law_92 21 rfl rfl)
theorem dL_law_2340 : decode cL_law 2340 = .ok (.iload 6, 2) := dk_21 6 (dk_at dksL_law_92 22 rfl rfl)
theorem dL_law_2342 : decode cL_law 2342 = .ok (.ifCond .ne 15, 3) := dk_154 0 15 (dk_at dksL_law_93 0 rfl rfl)
theorem dL_law_2345 : decode cL_law 2345 = .ok (.aload_n 3, 1) := dk_45 (dk_at dksL_law_93 3 rfl rfl)
theorem dL_law_2346 : decode cL_law 2346 = .ok (.iconst 0, 1) := dk_3 (dk_at dksL_law_93 4 rfl rfl)
theorem dL_law_2347 : decode cL_law 2347 = .ok (.laload, 1) := dk_47 (dk_at dksL_law_93 5 rfl rfl)
theorem dL_law_2348 : decode cL_law 2348 = .ok (.iload 7, 2) := dk_21 7 (dk_at dksL_law_93 6 rfl rfl)
theorem dL_law_2350 : decode cL_law 2350 = .ok (.i2l, 1) := dk_133 (dk_at dksL_law_93 8 rfl rfl)
theorem dL_law_2351 : decode cL_law 2351 = .ok (.lcmp, 1) := dk_148 (dk_at dksL_law_93 9 rfl rfl)
theorem dL_law_2352 : decode cL_law 2352 = .ok (.ifCond .eq 5, 3) := dk_153 0 5 (dk_at dksL_law_93 10 rfl rfl)
theorem dL_law_2355 : decode cL_law 2355 = .ok (.iconst 0, 1) := dk_3 (dk_at dksL_law_93 13 rfl rfl)
theorem dL_law_2356 : decode cL_law 2356 = .ok (.ireturn, 1) := dk_172 (dk_at dksL_law_93 14 rfl rfl)
theorem dL_law_2357 : decode cL_law 2357 = .ok (.goto 192, 3) := dk_167 0 192 (dk_at dksL_law_93 15 rfl rfl)
theorem dL_law_2360 : decode cL_law 2360 = .ok (.aload_n 1, 1) := dk_43 (dk_at dksL_law_93 18 rfl rfl)
theorem dL_law_2361 : decode cL_law 2361 = .ok (.aload_n 3, 1) := dk_45 (dk_at dksL_law_93 19 rfl rfl)
theorem dL_law_2362 : decode cL_law 2362 = .ok (.invokestatic 287, 3) := dk_184 1 31 (dk_at dksL_law_93 20 rfl rfl)
theorem dL_law_2365 : decode cL_law 2365 = .ok (.istore 6, 2) := dk_54 6 (dk_at dksL_law_94 0 rfl rfl)
theorem dL_law_2367 : decode cL_law 2367 = .ok (.aload_n 2, 1) := dk_44 (dk_at dksL_law_94 2 rfl rfl)
theorem dL_law_2368 : decode cL_law 2368 = .ok (.invokevirtual 289, 3) := dk_182 1 33 (dk_at dksL_law_94 3 rfl rfl)
theorem dL_law_2371 : decode cL_law 2371 = .ok (.istore 7, 2) := dk_54 7 (dk_at dksL_law_94 6 rfl rfl)
theorem dL_law_2373 : decode cL_law 2373 = .ok (.aload_n 2, 1) := dk_44 (dk_at dksL_law_94 8 rfl rfl)
theorem dL_law_2374 : decode cL_law 2374 = .ok (.invokevirtual 155, 3) := dk_182 0 155 (dk_at dksL_law_94 9 rfl rfl)
theorem dL_law_2377 : decode cL_law 2377 = .ok (.iload 6, 2) := dk_21 6 (dk_at dksL_law_94 12 rfl rfl)
theorem dL_law_2379 : decode cL_law 2379 = .ok (.if_icmp .eq 5, 3) := dk_159 0 5 (dk_at dksL_law_94 14 rfl rfl)
theorem dL_law_2382 : decode cL_law 2382 = .ok (.iconst 0, 1) := dk_3 (dk_at dksL_law_94 17 rfl rfl)
theorem dL_law_2383 : decode cL_law 2383 = .ok (.ireturn, 1) := dk_172 (dk_at dksL_law_94 18 rfl rfl)
theorem dL_law_2384 : decode cL_law 2384 = .ok (.iload 6, 2) := dk_21 6 (dk_at dksL_law_94 19 rfl rfl)
theorem dL_law_2386 : decode cL_law 2386 = .ok (.ifCond .ne 15, 3) := dk_154 0 15 (dk_at dksL_law_94 21 rfl rfl)
theorem dL_law_2389 : decode cL_law 2389 = .ok (.aload_n 3, 1) := dk_45 (dk_at dksL_law_95 0 rfl rfl)
theorem dL_law_2390 : decode cL_law 2390 = .ok (.iconst 0, 1) := dk_3 (dk_at dksL_law_95 1 rfl rfl)
theorem dL_law_2391 : decode cL_law 2391 = .ok (.laload, 1) := dk_47 (dk_at dksL_law_95 2 rfl rfl)
theorem dL_law_2392 : decode cL_law 2392 = .ok (.iload 7, 2) := dk_21 7 (dk_at dksL_law_95 3 rfl rfl)
theorem dL_law_2394 : decode cL_law 2394 = .ok (.i2l, 1) := dk_133 (dk_at dksL_law_95 5 rfl rfl)
theorem dL_law_2395 : decode cL_law 2395 = .ok (.lcmp, 1) := dk_148 (dk_at dksL_law_95 6 rfl rfl)
theorem dL_law_2396 : decode cL_law 2396 = .ok (.ifCond .eq 5, 3) := dk_153 0 5 (dk_at dksL_law_95 7 rfl rfl)
theorem dL_law_2399 : decode cL_law 2399 = .ok (.iconst 0, 1) := dk_3 (dk_at dksL_law_95 10 rfl rfl)
theorem dL_law_2400 : decode cL_law 2400 = .ok (.ireturn, 1) := dk_172 (dk_at dksL_law_95 11 rfl rfl)
theorem dL_law_2401 : decode cL_law 2401 = .ok (.goto 148, 3) := dk_167 0 148 (dk_at dksL_law_95 12 rfl rfl)
theorem dL_law_2404 : decode cL_law 2404 = .ok (.aload_n 1, 1) := dk_43 (dk_at dksL_law_95 15 rfl rfl)
theorem dL_law_2405 : decode cL_law 2405 = .ok (.aload_n 3, 1) := dk_45 (dk_at dksL_law_95 16 rfl rfl)
theorem dL_law_2406 : decode cL_law 2406 = .ok (.invokestatic 290, 3) := dk_184 1 34 (dk_at dksL_law_95 17 rfl rfl)
theorem dL_law_2409 : decode cL_law 2409 = .ok (.istore 6, 2) := dk_54 6 (dk_at dksL_law_95 20 rfl rfl)
theorem dL_law_2411 : decode cL_law 2411 = .ok (.aload_n 2, 1) := dk_44 (dk_at dksL_law_95 22 rfl rfl)
theorem dL_law_2412 : decode cL_law 2412 = .ok (.invokevirtual 292, 3) := dk_182 1 36 (dk_at dksL_law_96 0 rfl rfl)
theorem dL_law_2415 : decode cL_law 2415 = .ok (.istore 7, 2) := dk_54 7 (dk_at dksL_law_96 3 rfl rfl)
theorem dL_law_2417 : decode cL_law 2417 = .ok (.aload_n 2, 1) := dk_44 (dk_at dksL_law_96 5 rfl rfl)
theorem dL_law_2418 : decode cL_law 2418 = .ok (.invokevirtual 155, 3) := dk_182 0 155 (dk_at dksL_law_96 6 rfl rfl)
theorem dL_law_2421 : decode cL_law 2421 = .ok (.iload 6, 2) := dk_21 6 (dk_at dksL_law_96 9 rfl rfl)
theorem dL_law_2423 : decode cL_law 2423 = .ok (.if_icmp .eq 5, 3) := dk_159 0 5 (dk_at dksL_law_96 11 rfl rfl)
theorem dL_law_2426 : decode cL_law 2426 = .ok (.iconst 0, 1) := dk_3 (dk_at dksL_law_96 14 rfl rfl)
theorem dL_law_2427 : decode cL_law 2427 = .ok (.ireturn, 1) := dk_172 (dk_at dksL_law_96 15 rfl rfl)
theorem dL_law_2428 : decode cL_law 2428 = .ok (.iload 6, 2) := dk_21 6 (dk_at dksL_law_96 16 rfl rfl)
theorem dL_law_2430 : decode cL_law 2430 = .ok (.ifCond .ne 15, 3) := dk_154 0 15 (dk_at dksL_law_96 18 rfl rfl)
theorem dL_law_2433 : decode cL_law 2433 = .ok (.aload_n 3, 1) := dk_45 (dk_at dksL_law_96 21 rfl rfl)
theorem dL_law_2434 : decode cL_law 2434 = .ok (.iconst 0, 1) := dk_3 (dk_at dksL_law_96 22 rfl rfl)
theorem dL_law_2435 : decode cL_law 2435 = .ok (.laload, 1) := dk_47 (dk_at dksL_law_96 23 rfl rfl)
theorem dL_law_2436 : decode cL_law 2436 = .ok (.iload 7, 2) := dk_21 7 (dk_at dksL_law_97 0 rfl rfl)
theorem dL_law_2438 : decode cL_law 2438 = .ok (.i2l, 1) := dk_133 (dk_at dksL_law_97 2 rfl rfl)
theorem dL_law_2439 : decode cL_law 2439 = .ok (.lcmp, 1) := dk_148 (dk_at dksL_law_97 3 rfl rfl)
theorem dL_law_2440 : decode cL_law 2440 = .ok (.ifCond .eq 5, 3) := dk_153 0 5 (dk_at dksL_law_97 4 rfl rfl)
theorem dL_law_2443 : decode cL_law 2443 = .ok (.iconst 0, 1) := dk_3 (dk_at dksL_law_97 7 rfl rfl)
theorem dL_law_2444 : decode cL_law 2444 = .ok (.ireturn, 1) := dk_172 (dk_at dksL_law_97 8 rfl rfl)
theorem dL_law_2445 : decode cL_law 2445 = .ok (.goto 104, 3) := dk_167 0 104 (dk_at dksL_law_97 9 rfl rfl)
theorem dL_law_2448 : decode cL_law 2448 = .ok (.aload_n 1, 1) := dk_43 (dk_at dksL_law_97 12 rfl rfl)
theorem dL_law_2449 : decode cL_law 2449 = .ok (.aload_n 3, 1) := dk_45 (dk_at dksL_law_97 13 rfl rfl)
theorem dL_law_2450 : decode cL_law 2450 = .ok (.invokestatic 293, 3) := dk_184 1 37 (dk_at dksL_law_97 14 rfl rfl)
theorem dL_law_2453 : decode cL_law 2453 = .ok (.istore 6, 2) := dk_54 6 (dk_at dksL_law_97 17 rfl rfl)
theorem dL_law_2455 : decode cL_law 2455 = .ok (.aload_n 2, 1) := dk_44 (dk_at dksL_law_97 19 rfl rfl)
theorem dL_law_2456 : decode cL_law 2456 = .ok (.invokevirtual 295, 3) := dk_182 1 39 (dk_at dksL_law_97 20 rfl rfl)
theorem dL_law_2459 : decode cL_law 2459 = .ok (.istore 7, 2) := dk_54 7 (dk_at dksL_law_98 0 rfl rfl)
theorem dL_law_2461 : decode cL_law 2461 = .ok (.aload_n 2, 1) := dk_44 (dk_at dksL_law_98 2 rfl rfl)
theorem dL_law_2462 : decode cL_law 2462 = .ok (.invokevirtual 155, 3) := dk_182 0 155 (dk_at dksL_law_98 3 rfl rfl)
theorem dL_law_2465 : decode cL_law 2465 = .ok (.iload 6, 2) := dk_21 6 (dk_at dksL_law_98 6 rfl rfl)
theorem dL_law_2467 : decode cL_law 2467 = .ok (.if_icmp .eq 5, 3) := dk_159 0 5 (dk_at dksL_law_98 8 rfl rfl)
theorem dL_law_2470 : decode cL_law 2470 = .ok (.iconst 0, 1) := dk_3 (dk_at dksL_law_98 11 rfl rfl)
theorem dL_law_2471 : decode cL_law 2471 = .ok (.ireturn, 1) := dk_172 (dk_at dksL_law_98 12 rfl rfl)
theorem dL_law_2472 : decode cL_law 2472 = .ok (.iload 6, 2) := dk_21 6 (dk_at dksL_law_98 13 rfl rfl)
theorem dL_law_2474 : decode cL_law 2474 = .ok (.ifCond .ne 15, 3) := dk_154 0 15 (dk_at dksL_law_98 15 rfl rfl)
theorem dL_law_2477 : decode cL_law 2477 = .ok (.aload_n 3, 1) := dk_45 (dk_at dksL_law_98 18 rfl rfl)
theorem dL_law_2478 : decode cL_law 2478 = .ok (.iconst 0, 1) := dk_3 (dk_at dksL_law_98 19 rfl rfl)
theorem dL_law_2479 : decode cL_law 2479 = .ok (.laload, 1) := dk_47 (dk_at dksL_law_98 20 rfl rfl)
theorem dL_law_2480 : decode cL_law 2480 = .ok (.iload 7, 2) := dk_21 7 (dk_at dksL_law_98 21 rfl rfl)
theorem dL_law_2482 : decode cL_law 2482 = .ok (.i2l, 1) := dk_133 (dk_at dksL_law_98 23 rfl rfl)
theorem dL_law_2483 : decode cL_law 2483 = .ok (.lcmp, 1) := dk_148 (dk_at dksL_law_99 0 rfl rfl)
theorem dL_law_2484 : decode cL_law 2484 = .ok (.ifCond .eq 5, 3) := dk_153 0 5 (dk_at dksL_law_99 1 rfl rfl)
theorem dL_law_2487 : decode cL_law 2487 = .ok (.iconst 0, 1) := dk_3 (dk_at dksL_law_99 4 rfl rfl)
theorem dL_law_2488 : decode cL_law 2488 = .ok (.ireturn, 1) := dk_172 (dk_at dksL_law_99 5 rfl rfl)
theorem dL_law_2489 : decode cL_law 2489 = .ok (.goto 60, 3) := dk_167 0 60 (dk_at dksL_law_99 6 rfl rfl)
theorem dL_law_2492 : decode cL_law 2492 = .ok (.aload_n 1, 1) := dk_43 (dk_at dksL_law_99 9 rfl rfl)
theorem dL_law_2493 : decode cL_law 2493 = .ok (.invokevirtual 296, 3) := dk_182 1 40 (dk_at dksL_law_99 10 rfl rfl)
theorem dL_law_2496 : decode cL_law 2496 = .ok (.aload_n 2, 1) := dk_44 (dk_at dksL_law_99 13 rfl rfl)
theorem dL_law_2497 : decode cL_law 2497 = .ok (.invokevirtual 299, 3) := dk_182 1 43 (dk_at dksL_law_99 14 rfl rfl)
theorem dL_law_2500 : decode cL_law 2500 = .ok (.if_icmp .eq 49, 3) := dk_159 0 49 (dk_at dksL_law_99 17 rfl rfl)
theorem dL_law_2503 : decode cL_law 2503 = .ok (.iconst 0, 1) := dk_3 (dk_at dksL_law_99 20 rfl rfl)
theorem dL_law_2504 : decode cL_law 2504 = .ok (.ireturn, 1) := dk_172 (dk_at dksL_law_99 21 rfl rfl)
theorem dL_law_2505 : decode cL_law 2505 = .ok (.aload_n 1, 1) := dk_43 (dk_at dksL_law_99 22 rfl rfl)
theorem dL_law_2506 : decode cL_law 2506 = .ok (.aload_n 3, 1) := dk_45 (dk_at dksL_law_99 23 rfl rfl)
theorem dL_law_2507 : decode cL_law 2507 = .ok (.invokestatic 300, 3) := dk_184 1 44 (dk_at dksL_law_100 0 rfl rfl)
theorem dL_law_2510 : decode cL_law 2510 = .ok (.istore 6, 2) := dk_54 6 (dk_at dksL_law_100 3 rfl rfl)
theorem dL_law_2512 : decode cL_law 2512 = .ok (.aload_n 2, 1) := dk_44 (dk_at dksL_law_100 5 rfl rfl)
theorem dL_law_2513 : decode cL_law 2513 = .ok (.invokevirtual 302, 3) := dk_182 1 46 (dk_at dksL_law_100 6 rfl rfl)
theorem dL_law_2516 : decode cL_law 2516 = .ok (.istore 7, 2) := dk_54 7 (dk_at dksL_law_100 9 rfl rfl)
theorem dL_law_2518 : decode cL_law 2518 = .ok (.aload_n 2, 1) := dk_44 (dk_at dksL_law_100 11 rfl rfl)
theorem dL_law_2519 : decode cL_law 2519 = .ok (.invokevirtual 155, 3) := dk_182 0 155 (dk_at dksL_law_100 12 rfl rfl)
theorem dL_law_2522 : decode cL_law 2522 = .ok (.iload 6, 2) := dk_21 6 (dk_at dksL_law_100 15 rfl rfl)
theorem dL_law_2524 : decode cL_law 2524 = .ok (.if_icmp .eq 5, 3) := dk_159 0 5 (dk_at dksL_law_100 17 rfl rfl)
theorem dL_law_2527 : decode cL_law 2527 = .ok (.iconst 0, 1) := dk_3 (dk_at dksL_law_100 20 rfl rfl)
theorem dL_law_2528 : decode cL_law 2528 = .ok (.ireturn, 1) := dk_172 (dk_at dksL_law_100 21 rfl rfl)
theorem dL_law_2529 : decode cL_law 2529 = .ok (.iload 6, 2) := dk_21 6 (dk_at dksL_law_100 22 rfl rfl)
theorem dL_law_2531 : decode cL_law 2531 = .ok (.ifCond .ne 15, 3) := dk_154 0 15 (dk_at dksL_law_101 0 rfl rfl)
theorem dL_law_2534 : decode cL_law 2534 = .ok (.aload_n 3, 1) := dk_45 (dk_at dksL_law_101 3 rfl rfl)
theorem dL_law_2535 : decode cL_law 2535 = .ok (.iconst 0, 1) := dk_3 (dk_at dksL_law_101 4 rfl rfl)
theorem dL_law_2536 : decode cL_law 2536 = .ok (.laload, 1) := dk_47 (dk_at dksL_law_101 5 rfl rfl)
theorem dL_law_2537 : decode cL_law 2537 = .ok (.iload 7, 2) := dk_21 7 (dk_at dksL_law_101 6 rfl rfl)
theorem dL_law_2539 : decode cL_law 2539 = .ok (.i2l, 1) := dk_133 (dk_at dksL_law_101 8 rfl rfl)
theorem dL_law_2540 : decode cL_law 2540 = .ok (.lcmp, 1) := dk_148 (dk_at dksL_law_101 9 rfl rfl)
theorem dL_law_2541 : decode cL_law 2541 = .ok (.ifCond .eq 5, 3) := dk_153 0 5 (dk_at dksL_law_101 10 rfl rfl)
theorem dL_law_2544 : decode cL_law 2544 = .ok (.iconst 0, 1) := dk_3 (dk_at dksL_law_101 13 rfl rfl)
theorem dL_law_2545 : decode cL_law 2545 = .ok (.ireturn, 1) := dk_172 (dk_at dksL_law_101 14 rfl rfl)
theorem dL_law_2546 : decode cL_law 2546 = .ok (.goto 3, 3) := dk_167 0 3 (dk_at dksL_law_101 15 rfl rfl)
theorem dL_law_2549 : decode cL_law 2549 = .ok (.iinc 5 3, 3) := dk_132 5 3 (dk_at dksL_law_101 18 rfl rfl)
theorem dL_law_2552 : decode cL_law 2552 = .ok (.goto (-2524), 3) := dk_167 246 36 (dk_at dksL_law_101 21 rfl rfl)
theorem dL_law_2555 : decode cL_law 2555 = .ok (.iconst 1, 1) := dk_4 (dk_at dksL_law_102 0 rfl rfl)
theorem dL_law_2556 : decode cL_law 2556 = .ok (.ireturn, 1) := dk_172 (dk_at dksL_law_102 1 rfl rfl)
