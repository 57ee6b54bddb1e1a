set_option maxRecDepth 100000
theorem J_410 (S : MS) (r : MH) : (J S r).2 410 = some (.inr (9, mfs S)) := rfl
theorem k0 : kcl[0]? = some (RX1, TX1, 7) := rfl
theorem m0 : mcl[0]? = some (RX1, TX1, 7) := rfl
theorem k1 : kcl[1]? = some (RX2, TX2, 6) := rfl
theorem m1 : mcl[1]? = some (RX2, TX2, 6) := rfl
theorem k2 : kcl[2]? = some (RX4, TX4, 4) := rfl
theorem m2 : mcl[2]? = some (RX4, TX4, 4) := rfl
theorem k3 : kcl[3]? = some (RX5, T0_, 0) := rfl
theorem m3 : mcl[3]? = some (RX5, T0_, 0) := rfl
theorem k4 : kcl[4]? = some (RX7, TX7, 2) := rfl
theorem m4 : mcl[4]? = some (RX7, TX7, 2) := rfl
theorem k5 : kcl[5]? = some (RX8, TX8, 3) := rfl
theorem m5 : mcl[5]? = some (RX8, TX8, 3) := rfl
theorem k6 : kcl[6]? = some (RX9, TX9, 4) := rfl
theorem m6 : mcl[6]? = some (RX9, TX9, 4) := rfl
theorem k7 : kcl[7]? = some (RX10, TX10, 2) := rfl
theorem m7 : mcl[7]? = some (RX10, TX10, 2) := rfl
theorem k8 : kcl[8]? = some (RX11, TXE, 1) := rfl
theorem m8 : mcl[8]? = some (RX11, TXE, 1) := rfl
theorem k9 : kcl[9]? = some (RX3, TX3, 17) := rfl
theorem m9 : mcl[9]? = some (RX3, TX3, 17) := rfl
theorem k10 : kcl[10]? = some (RJ2, TJ2, 3) := rfl
theorem m10 : mcl[10]? = some (RJ2, TJ2, 3) := rfl
theorem k11 : kcl[11]? = some (RJ3, TJ3, 3) := rfl
theorem m11 : mcl[11]? = some (RJ3, TJ3, 3) := rfl
theorem k12 : kcl[12]? = some (RJ5, TJ5, 4) := rfl
theorem m12 : mcl[12]? = some (RJ5, TJ5, 4) := rfl
theorem k13 : kcl[13]? = some (RJ6, TJ6, 4) := rfl
theorem m13 : mcl[13]? = some (RJ6, TJ6, 4) := rfl
theorem k14 : kcl[14]? = some (RJ11, T0_, 0) := rfl
theorem m14 : mcl[14]? = some (RJ11, T0_, 0) := rfl
theorem k15 : kcl[15]? = some (RJ12, T0_, 0) := rfl
theorem m15 : mcl[15]? = some (RJ12, T0_, 0) := rfl
theorem k16 : kcl[16]? = some (RJ19, T0_, 0) := rfl
theorem m16 : mcl[16]? = some (RJ19, T0_, 0) := rfl
theorem k17 : kcl[17]? = some (RJ18, T0_, 0) := rfl
theorem m17 : mcl[17]? = some (RJ18, T0_, 0) := rfl
theorem k18 : kcl[18]? = some (RJ24, T0_, 0) := rfl
theorem m18 : mcl[18]? = some (RJ24, T0_, 0) := rfl
theorem k19 : kcl[19]? = some (RJ23, TJ23, 1) := rfl
theorem m19 : mcl[19]? = some (RJ23, TJ23, 1) := rfl
theorem k20 : kcl[20]? = some (RX12, TXK, 1) := rfl
theorem k21 : kcl[21]? = some (RX13, TXK, 1) := rfl
theorem k22 : kcl[22]? = some (RX14, TXK, 1) := rfl
theorem fp_J1_7_10 : FP RJ1 7 10 0 (.int) false := ⟨_, _, m10, (show 0 < 3 by decide), q138, (Or.inl rfl), (show parseFieldDescriptor "I" = some (.int) by decide +kernel), rfl, fun h => by cases h⟩
theorem fl_J1_7_10 : FL RJ1 7 10 0 := ⟨_, _, k10, (show 0 < 3 by decide), q138, (Or.inl rfl)⟩
theorem fp_J2_9_10 : FP RJ2 9 10 1 (.array (.object "java/lang/Object")) false := ⟨_, _, m10, (show 1 < 3 by decide), q136, (Or.inl rfl), (show parseFieldDescriptor "[Ljava/lang/Object;" = some (.array (.object "java/lang/Object")) by decide +kernel), rfl, fun h => by cases h⟩
theorem fl_J2_9_10 : FL RJ2 9 10 1 := ⟨_, _, k10, (show 1 < 3 by decide), q136, (Or.inl rfl)⟩
theorem fp_J2_48_10 : FP RJ2 48 10 2 (.int) false := ⟨_, _, m10, (show 2 < 3 by decide), q137, (Or.inl rfl), (show parseFieldDescriptor "I" = some (.int) by decide +kernel), rfl, fun h => by cases h⟩
theorem fl_J2_48_10 : FL RJ2 48 10 2 := ⟨_, _, k10, (show 2 < 3 by decide), q137, (Or.inl rfl)⟩
theorem fp_J2_63_10 : FP RJ2 63 10 0 (.int) false := ⟨_, _, m10, (show 0 < 3 by decide), q139, (Or.inr q140), (show parseFieldDescriptor "I" = some (.int) by decide +kernel), rfl, fun h => by cases h⟩
theorem fl_J2_63_10 : FL RJ2 63 10 0 := ⟨_, _, k10, (show 0 < 3 by decide), q139, (Or.inr q140)⟩
theorem fl_J21_7_20 : FL RJ21 7 20 0 := ⟨_, _, k20, (show 0 < 1 by decide), q2157, (Or.inl rfl)⟩
theorem fl_J21_7_21 : FL RJ21 7 21 0 := ⟨_, _, k21, (show 0 < 1 by decide), q2157, (Or.inl rfl)⟩
theorem fl_J21_7_22 : FL RJ21 7 22 0 := ⟨_, _, k22, (show 0 < 1 by decide), q2157, (Or.inl rfl)⟩
theorem fp_J23_205_19 : FP RJ23 205 19 0 (.int) true := ⟨_, _, m19, (show 0 < 1 by decide), q968, (Or.inl rfl), (show parseFieldDescriptor "I" = some (.int) by decide +kernel), rfl, fun _ => rfl⟩
theorem fl_J23_205_19 : FL RJ23 205 19 0 := ⟨_, _, k19, (show 0 < 1 by decide), q968, (Or.inl rfl)⟩
theorem fp_J3_3_11 : FP RJ3 3 11 0 (.array (.object "java/lang/Object")) false := ⟨_, _, m11, (show 0 < 3 by decide), q182, (Or.inl rfl), (show parseFieldDescriptor "[Ljava/lang/Object;" = some (.array (.object "java/lang/Object")) by decide +kernel), rfl, fun h => by cases h⟩
theorem fl_J3_3_11 : FL RJ3 3 11 0 := ⟨_, _, k11, (show 0 < 3 by decide), q182, (Or.inl rfl)⟩
theorem fp_J3_24_11 : FP RJ3 24 11 1 (.int) false := ⟨_, _, m11, (show 1 < 3 by decide), q183, (Or.inl rfl), (show parseFieldDescriptor "I" = some (.int) by decide +kernel), rfl, fun h => by cases h⟩
theorem fl_J3_24_11 : FL RJ3 24 11 1 := ⟨_, _, k11, (show 1 < 3 by decide), q183, (Or.inl rfl)⟩
theorem fp_J3_20_11 : FP RJ3 20 11 2 (.int) false := ⟨_, _, m11, (show 2 < 3 by decide), q184, (Or.inl rfl), (show parseFieldDescriptor "I" = some (.int) by decide +kernel), rfl, fun h => by cases h⟩
theorem fl_J3_20_11 : FL RJ3 20 11 2 := ⟨_, _, k11, (show 2 < 3 by decide), q184, (Or.inl rfl)⟩
theorem fp_J4_15_12 : FP RJ4 15 12 0 (.array .byte) false := ⟨_, _, m12, (show 0 < 4 by decide), q211, (Or.inl rfl), (show parseFieldDescriptor "[B" = some (.array .byte) by decide +kernel), rfl, fun h => by cases h⟩
theorem fl_J4_15_12 : FL RJ4 15 12 0 := ⟨_, _, k12, (show 0 < 4 by decide), q211, (Or.inl rfl)⟩
theorem fp_J4_22_12 : FP RJ4 22 12 1 (.byte) false := ⟨_, _, m12, (show 1 < 4 by decide), q212, (Or.inl rfl), (show parseFieldDescriptor "B" = some (.byte) by decide +kernel), rfl, fun h => by cases h⟩
theorem fl_J4_22_12 : FL RJ4 22 12 1 := ⟨_, _, k12, (show 1 < 4 by decide), q212, (Or.inl rfl)⟩
theorem fp_J4_73_12 : FP RJ4 73 12 2 (.boolean) false := ⟨_, _, m12, (show 2 < 4 by decide), q213, (Or.inl rfl), (show parseFieldDescriptor "Z" = some (.boolean) by decide +kernel), rfl, fun h => by cases h⟩
theorem fl_J4_73_12 : FL RJ4 73 12 2 := ⟨_, _, k12, (show 2 < 4 by decide), q213, (Or.inl rfl)⟩
theorem fp_J4_79_12 : FP RJ4 79 12 3 (.int) false := ⟨_, _, m12, (show 3 < 4 by decide), q215, (Or.inl rfl), (show parseFieldDescriptor "I" = some (.int) by decide +kernel), rfl, fun h => by cases h⟩
theorem fl_J4_79_12 : FL RJ4 79 12 3 := ⟨_, _, k12, (show 3 < 4 by decide), q215, (Or.inl rfl)⟩
theorem fp_J6_1048_12 : FP RJ6 1048 12 2 (.boolean) false := ⟨_, _, m12, (show 2 < 4 by decide), q214, (Or.inl rfl), (show parseFieldDescriptor "Z" = some (.boolean) by decide +kernel), rfl, fun h => by cases h⟩
theorem fl_J6_1048_12 : FL RJ6 1048 12 2 := ⟨_, _, k12, (show 2 < 4 by decide), q214, (Or.inl rfl)⟩
theorem fp_J6_9_13 : FP RJ6 9 13 0 (.array .byte) true := ⟨_, _, m13, (show 0 < 4 by decide), q1407, (Or.inl rfl), (show parseFieldDescriptor "[B" = some (.array .byte) by decide +kernel), rfl, fun _ => rfl⟩
theorem fl_J6_9_13 : FL RJ6 9 13 0 := ⟨_, _, k13, (show 0 < 4 by decide), q1407, (Or.inl rfl)⟩
theorem fp_J6_15_13 : FP RJ6 15 13 1 (.byte) true := ⟨_, _, m13, (show 1 < 4 by decide), q1408, (Or.inl rfl), (show parseFieldDescriptor "B" = some (.byte) by decide +kernel), rfl, fun _ => rfl⟩
theorem fl_J6_15_13 : FL RJ6 15 13 1 := ⟨_, _, k13, (show 1 < 4 by decide), q1408, (Or.inl rfl)⟩
-- X1_103_1: a final field of another class
theorem fl_X1_103_1 : FL RX1 103 1 0 := ⟨_, _, k1, (show 0 < 6 by decide), q149, (Or.inl rfl)⟩
-- X1_224_1: a final field of another class
theorem fl_X1_224_1 : FL RX1 224 1 1 := ⟨_, _, k1, (show 1 < 6 by decide), q151, (Or.inl rfl)⟩
-- X1_178_1: a final field of another class
theorem fl_X1_178_1 : FL RX1 178 1 2 := ⟨_, _, k1, (show 2 < 6 by decide), q153, (Or.inl rfl)⟩
-- X1_174_1: a final field of another class
theorem fl_X1_174_1 : FL RX1 174 1 3 := ⟨_, _, k1, (show 3 < 6 by decide), q155, (Or.inl rfl)⟩
theorem fp_X1_157_1 : FP RX1 157 1 4 (.int) false := ⟨_, _, m1, (show 4 < 6 by decide), q157, (Or.inl rfl), (show parseFieldDescriptor "I" = some (.int) by decide +kernel), rfl, fun h => by cases h⟩
theorem fl_X1_157_1 : FL RX1 157 1 4 := ⟨_, _, k1, (show 4 < 6 by decide), q157, (Or.inl rfl)⟩
theorem fp_X1_160_1 : FP RX1 160 1 5 (.int) false := ⟨_, _, m1, (show 5 < 6 by decide), q159, (Or.inl rfl), (show parseFieldDescriptor "I" = some (.int) by decide +kernel), rfl, fun h => by cases h⟩
theorem fl_X1_160_1 : FL RX1 160 1 5 := ⟨_, _, k1, (show 5 < 6 by decide), q159, (Or.inl rfl)⟩
theorem fp_X1_43_0 : FP RX1 43 0 0 (.object "PendulumGym$Gym") false := ⟨_, _, m0, (show 0 < 7 by decide), q226, (Or.inl rfl), (show parseFieldDescriptor "LPendulumGym$Gym;" = some (.object "PendulumGym$Gym") by decide +kernel), rfl, fun h => by cases h⟩
theorem fl_X1_43_0 : FL RX1 43 0 0 := ⟨_, _, k0, (show 0 < 7 by decide), q226, (Or.inl rfl)⟩
theorem fp_X1_375_0 : FP RX1 375 0 1 (.object "PendulumGym$Gym") false := ⟨_, _, m0, (show 1 < 7 by decide), q227, (Or.inl rfl), (show parseFieldDescriptor "LPendulumGym$Gym;" = some (.object "PendulumGym$Gym") by decide +kernel), rfl, fun h => by cases h⟩
theorem fl_X1_375_0 : FL RX1 375 0 1 := ⟨_, _, k0, (show 1 < 7 by decide), q227, (Or.inl rfl)⟩
theorem fp_X1_27_0 : FP RX1 27 0 2 (.object "java/util/ArrayDeque") true := ⟨_, _, m0, (show 2 < 7 by decide), q228, (Or.inl rfl), (show parseFieldDescriptor "Ljava/util/ArrayDeque;" = some (.object "java/util/ArrayDeque") by decide +kernel), rfl, fun _ => rfl⟩
theorem fl_X1_27_0 : FL RX1 27 0 2 := ⟨_, _, k0, (show 2 < 7 by decide), q228, (Or.inl rfl)⟩
theorem fp_X1_72_0 : FP RX1 72 0 3 (.object "java/lang/String") false := ⟨_, _, m0, (show 3 < 7 by decide), q229, (Or.inl rfl), (show parseFieldDescriptor "Ljava/lang/String;" = some (.object "java/lang/String") by decide +kernel), rfl, fun h => by cases h⟩
theorem fl_X1_72_0 : FL RX1 72 0 3 := ⟨_, _, k0, (show 3 < 7 by decide), q229, (Or.inl rfl)⟩
theorem fp_X1_79_0 : FP RX1 79 0 4 (.object "java/lang/StringBuilder") true := ⟨_, _, m0, (show 4 < 7 by decide), q230, (Or.inl rfl), (show parseFieldDescriptor "Ljava/lang/StringBuilder;" = some (.object "java/lang/StringBuilder") by decide +kernel), rfl, fun _ => rfl⟩
theorem fl_X1_79_0 : FL RX1 79 0 4 := ⟨_, _, k0, (show 4 < 7 by decide), q230, (Or.inl rfl)⟩
theorem fp_X1_83_0 : FP RX1 83 0 5 (.int) false := ⟨_, _, m0, (show 5 < 7 by decide), q231, (Or.inl rfl), (show parseFieldDescriptor "I" = some (.int) by decide +kernel), rfl, fun h => by cases h⟩
theorem fl_X1_83_0 : FL RX1 83 0 5 := ⟨_, _, k0, (show 5 < 7 by decide), q231, (Or.inl rfl)⟩
theorem fp_X1_87_0 : FP RX1 87 0 6 (.int) false := ⟨_, _, m0, (show 6 < 7 by decide), q232, (Or.inl rfl), (show parseFieldDescriptor "I" = some (.int) by decide +kernel), rfl, fun h => by cases h⟩
theorem fl_X1_87_0 : FL RX1 87 0 6 := ⟨_, _, k0, (show 6 < 7 by decide), q232, (Or.inl rfl)⟩
-- X1_114_2: a final field of another class
theorem fl_X1_114_2 : FL RX1 114 2 1 := ⟨_, _, k2, (show 1 < 4 by decide), q421, (Or.inl rfl)⟩
theorem fp_X1_154_2 : FP RX1 154 2 2 (.int) false := ⟨_, _, m2, (show 2 < 4 by decide), q423, (Or.inl rfl), (show parseFieldDescriptor "I" = some (.int) by decide +kernel), rfl, fun h => by cases h⟩
theorem fl_X1_154_2 : FL RX1 154 2 2 := ⟨_, _, k2, (show 2 < 4 by decide), q423, (Or.inl rfl)⟩
theorem fp_X1_320_2 : FP RX1 320 2 3 (.object "PendulumGym$Motion") false := ⟨_, _, m2, (show 3 < 4 by decide), q426, (Or.inl rfl), (show parseFieldDescriptor "LPendulumGym$Motion;" = some (.object "PendulumGym$Motion") by decide +kernel), rfl, fun h => by cases h⟩
theorem fl_X1_320_2 : FL RX1 320 2 3 := ⟨_, _, k2, (show 3 < 4 by decide), q426, (Or.inl rfl)⟩
-- X1_324_4: a final field of another class
theorem fl_X1_324_4 : FL RX1 324 4 0 := ⟨_, _, k4, (show 0 < 2 by decide), q723, (Or.inl rfl)⟩
-- X1_143_4: a final field of another class
theorem fl_X1_143_4 : FL RX1 143 4 1 := ⟨_, _, k4, (show 1 < 2 by decide), q727, (Or.inl rfl)⟩
-- X1_365_8: a final field of another class
theorem fl_X1_365_8 : FL RX1 365 8 0 := ⟨_, _, k8, (show 0 < 1 by decide), q1561, (Or.inl rfl)⟩
theorem fp_X2_12_1 : FP RX2 12 1 0 (.object "java/util/ArrayList") true := ⟨_, _, m1, (show 0 < 6 by decide), q148, (Or.inl rfl), (show parseFieldDescriptor "Ljava/util/ArrayList;" = some (.object "java/util/ArrayList") by decide +kernel), rfl, fun _ => rfl⟩
theorem fl_X2_12_1 : FL RX2 12 1 0 := ⟨_, _, k1, (show 0 < 6 by decide), q148, (Or.inl rfl)⟩
theorem fp_X2_18_1 : FP RX2 18 1 1 (.object "java/util/ArrayList") true := ⟨_, _, m1, (show 1 < 6 by decide), q150, (Or.inl rfl), (show parseFieldDescriptor "Ljava/util/ArrayList;" = some (.object "java/util/ArrayList") by decide +kernel), rfl, fun _ => rfl⟩
theorem fl_X2_18_1 : FL RX2 18 1 1 := ⟨_, _, k1, (show 1 < 6 by decide), q150, (Or.inl rfl)⟩
theorem fp_X2_21_1 : FP RX2 21 1 2 (.array .int) true := ⟨_, _, m1, (show 2 < 6 by decide), q152, (Or.inl rfl), (show parseFieldDescriptor "[I" = some (.array .int) by decide +kernel), rfl, fun _ => rfl⟩
theorem fl_X2_21_1 : FL RX2 21 1 2 := ⟨_, _, k1, (show 2 < 6 by decide), q152, (Or.inl rfl)⟩
theorem fp_X2_25_1 : FP RX2 25 1 3 (.array .int) true := ⟨_, _, m1, (show 3 < 6 by decide), q154, (Or.inl rfl), (show parseFieldDescriptor "[I" = some (.array .int) by decide +kernel), rfl, fun _ => rfl⟩
theorem fl_X2_25_1 : FL RX2 25 1 3 := ⟨_, _, k1, (show 3 < 6 by decide), q154, (Or.inl rfl)⟩
theorem fp_X2_59_1 : FP RX2 59 1 4 (.int) false := ⟨_, _, m1, (show 4 < 6 by decide), q156, (Or.inl rfl), (show parseFieldDescriptor "I" = some (.int) by decide +kernel), rfl, fun h => by cases h⟩
theorem fl_X2_59_1 : FL RX2 59 1 4 := ⟨_, _, k1, (show 4 < 6 by decide), q156, (Or.inl rfl)⟩
theorem fp_X2_28_1 : FP RX2 28 1 5 (.int) false := ⟨_, _, m1, (show 5 < 6 by decide), q158, (Or.inl rfl), (show parseFieldDescriptor "I" = some (.int) by decide +kernel), rfl, fun h => by cases h⟩
theorem fl_X2_28_1 : FL RX2 28 1 5 := ⟨_, _, k1, (show 5 < 6 by decide), q158, (Or.inl rfl)⟩
-- X2_92_2: a final field of another class
theorem fl_X2_92_2 : FL RX2 92 2 1 := ⟨_, _, k2, (show 1 < 4 by decide), q420, (Or.inl rfl)⟩
theorem fp_X2_70_2 : FP RX2 70 2 3 (.object "PendulumGym$Motion") false := ⟨_, _, m2, (show 3 < 4 by decide), q425, (Or.inl rfl), (show parseFieldDescriptor "LPendulumGym$Motion;" = some (.object "PendulumGym$Motion") by decide +kernel), rfl, fun h => by cases h⟩
theorem fl_X2_70_2 : FL RX2 70 2 3 := ⟨_, _, k2, (show 3 < 4 by decide), q425, (Or.inl rfl)⟩
-- X2_108_4: a final field of another class
theorem fl_X2_108_4 : FL RX2 108 4 1 := ⟨_, _, k4, (show 1 < 2 by decide), q725, (Or.inl rfl)⟩
theorem fp_X4_18_2 : FP RX4 18 2 0 (.int) true := ⟨_, _, m2, (show 0 < 4 by decide), q418, (Or.inl rfl), (show parseFieldDescriptor "I" = some (.int) by decide +kernel), rfl, fun _ => rfl⟩
theorem fl_X4_18_2 : FL RX4 18 2 0 := ⟨_, _, k2, (show 0 < 4 by decide), q418, (Or.inl rfl)⟩
theorem fp_X4_22_2 : FP RX4 22 2 1 (.int) true := ⟨_, _, m2, (show 1 < 4 by decide), q419, (Or.inl rfl), (show parseFieldDescriptor "I" = some (.int) by decide +kernel), rfl, fun _ => rfl⟩
theorem fl_X4_22_2 : FL RX4 22 2 1 := ⟨_, _, k2, (show 1 < 4 by decide), q419, (Or.inl rfl)⟩
theorem fp_X4_28_2 : FP RX4 28 2 2 (.int) false := ⟨_, _, m2, (show 2 < 4 by decide), q422, (Or.inl rfl), (show parseFieldDescriptor "I" = some (.int) by decide +kernel), rfl, fun h => by cases h⟩
theorem fl_X4_28_2 : FL RX4 28 2 2 := ⟨_, _, k2, (show 2 < 4 by decide), q422, (Or.inl rfl)⟩
theorem fp_X4_12_2 : FP RX4 12 2 3 (.object "PendulumGym$Motion") false := ⟨_, _, m2, (show 3 < 4 by decide), q424, (Or.inl rfl), (show parseFieldDescriptor "LPendulumGym$Motion;" = some (.object "PendulumGym$Motion") by decide +kernel), rfl, fun h => by cases h⟩
theorem fl_X4_12_2 : FL RX4 12 2 3 := ⟨_, _, k2, (show 3 < 4 by decide), q424, (Or.inl rfl)⟩
-- X4_33_4: a final field of another class
theorem fl_X4_33_4 : FL RX4 33 4 0 := ⟨_, _, k4, (show 0 < 2 by decide), q722, (Or.inl rfl)⟩
-- X4_42_4: a final field of another class
theorem fl_X4_42_4 : FL RX4 42 4 1 := ⟨_, _, k4, (show 1 < 2 by decide), q726, (Or.inl rfl)⟩
theorem fp_X7_7_4 : FP RX7 7 4 0 (.int) true := ⟨_, _, m4, (show 0 < 2 by decide), q721, (Or.inl rfl), (show parseFieldDescriptor "I" = some (.int) by decide +kernel), rfl, fun _ => rfl⟩
theorem fl_X7_7_4 : FL RX7 7 4 0 := ⟨_, _, k4, (show 0 < 2 by decide), q721, (Or.inl rfl)⟩
theorem fp_X7_13_4 : FP RX7 13 4 1 (.int) true := ⟨_, _, m4, (show 1 < 2 by decide), q724, (Or.inl rfl), (show parseFieldDescriptor "I" = some (.int) by decide +kernel), rfl, fun _ => rfl⟩
theorem fl_X7_13_4 : FL RX7 13 4 1 := ⟨_, _, k4, (show 1 < 2 by decide), q724, (Or.inl rfl)⟩
theorem fp_X8_7_5 : FP RX8 7 5 0 (.int) true := ⟨_, _, m5, (show 0 < 3 by decide), q1054, (Or.inl rfl), (show parseFieldDescriptor "I" = some (.int) by decide +kernel), rfl, fun _ => rfl⟩
theorem fl_X8_7_5 : FL RX8 7 5 0 := ⟨_, _, k5, (show 0 < 3 by decide), q1054, (Or.inl rfl)⟩
theorem fp_X8_13_5 : FP RX8 13 5 1 (.int) true := ⟨_, _, m5, (show 1 < 3 by decide), q1055, (Or.inl rfl), (show parseFieldDescriptor "I" = some (.int) by decide +kernel), rfl, fun _ => rfl⟩
theorem fl_X8_13_5 : FL RX8 13 5 1 := ⟨_, _, k5, (show 1 < 3 by decide), q1055, (Or.inl rfl)⟩
theorem fp_X8_16_5 : FP RX8 16 5 2 (.array .int) true := ⟨_, _, m5, (show 2 < 3 by decide), q1056, (Or.inl rfl), (show parseFieldDescriptor "[I" = some (.array .int) by decide +kernel), rfl, fun _ => rfl⟩
theorem fl_X8_16_5 : FL RX8 16 5 2 := ⟨_, _, k5, (show 2 < 3 by decide), q1056, (Or.inl rfl)⟩
theorem fp_X9_16_6 : FP RX9 16 6 0 (.int) true := ⟨_, _, m6, (show 0 < 4 by decide), q1082, (Or.inl rfl), (show parseFieldDescriptor "I" = some (.int) by decide +kernel), rfl, fun _ => rfl⟩
theorem fl_X9_16_6 : FL RX9 16 6 0 := ⟨_, _, k6, (show 0 < 4 by decide), q1082, (Or.inl rfl)⟩
theorem fp_X9_19_6 : FP RX9 19 6 1 (.int) true := ⟨_, _, m6, (show 1 < 4 by decide), q1083, (Or.inl rfl), (show parseFieldDescriptor "I" = some (.int) by decide +kernel), rfl, fun _ => rfl⟩
theorem fl_X9_19_6 : FL RX9 19 6 1 := ⟨_, _, k6, (show 1 < 4 by decide), q1083, (Or.inl rfl)⟩
theorem fp_X9_22_6 : FP RX9 22 6 2 (.object "PendulumGym$LegCost") true := ⟨_, _, m6, (show 2 < 4 by decide), q1084, (Or.inl rfl), (show parseFieldDescriptor "LPendulumGym$LegCost;" = some (.object "PendulumGym$LegCost") by decide +kernel), rfl, fun _ => rfl⟩
theorem fl_X9_22_6 : FL RX9 22 6 2 := ⟨_, _, k6, (show 2 < 4 by decide), q1084, (Or.inl rfl)⟩
theorem fp_X9_10_6 : FP RX9 10 6 3 (.int) false := ⟨_, _, m6, (show 3 < 4 by decide), q1085, (Or.inl rfl), (show parseFieldDescriptor "I" = some (.int) by decide +kernel), rfl, fun h => by cases h⟩
theorem fl_X9_10_6 : FL RX9 10 6 3 := ⟨_, _, k6, (show 3 < 4 by decide), q1085, (Or.inl rfl)⟩
theorem fp_X10_7_7 : FP RX10 7 7 0 (.object "java/lang/String") true := ⟨_, _, m7, (show 0 < 2 by decide), q1511, (Or.inl rfl), (show parseFieldDescriptor "Ljava/lang/String;" = some (.object "java/lang/String") by decide +kernel), rfl, fun _ => rfl⟩
theorem fl_X10_7_7 : FL RX10 7 7 0 := ⟨_, _, k7, (show 0 < 2 by decide), q1511, (Or.inl rfl)⟩
theorem fp_X10_13_7 : FP RX10 13 7 1 (.int) false := ⟨_, _, m7, (show 1 < 2 by decide), q1512, (Or.inl rfl), (show parseFieldDescriptor "I" = some (.int) by decide +kernel), rfl, fun h => by cases h⟩
theorem fl_X10_13_7 : FL RX10 13 7 1 := ⟨_, _, k7, (show 1 < 2 by decide), q1512, (Or.inl rfl)⟩
theorem fp_X11_7_8 : FP RX11 7 8 0 (.int) true := ⟨_, _, m8, (show 0 < 1 by decide), q1560, (Or.inl rfl), (show parseFieldDescriptor "I" = some (.int) by decide +kernel), rfl, fun _ => rfl⟩
theorem fl_X11_7_8 : FL RX11 7 8 0 := ⟨_, _, k8, (show 0 < 1 by decide), q1560, (Or.inl rfl)⟩
theorem fp_X3_7_9 : FP RX3 7 9 0 (.array .int) true := ⟨_, _, m9, (show 0 < 17 by decide), q1689, (Or.inl rfl), (show parseFieldDescriptor "[I" = some (.array .int) by decide +kernel), rfl, fun _ => rfl⟩
theorem fl_X3_7_9 : FL RX3 7 9 0 := ⟨_, _, k9, (show 0 < 17 by decide), q1689, (Or.inl rfl)⟩
theorem fp_X3_13_9 : FP RX3 13 9 1 (.array .int) true := ⟨_, _, m9, (show 1 < 17 by decide), q1690, (Or.inl rfl), (show parseFieldDescriptor "[I" = some (.array .int) by decide +kernel), rfl, fun _ => rfl⟩
theorem fl_X3_13_9 : FL RX3 13 9 1 := ⟨_, _, k9, (show 1 < 17 by decide), q1690, (Or.inl rfl)⟩
theorem fp_X3_16_9 : FP RX3 16 9 2 (.array .int) true := ⟨_, _, m9, (show 2 < 17 by decide), q1691, (Or.inl rfl), (show parseFieldDescriptor "[I" = some (.array .int) by decide +kernel), rfl, fun _ => rfl⟩
theorem fl_X3_16_9 : FL RX3 16 9 2 := ⟨_, _, k9, (show 2 < 17 by decide), q1691, (Or.inl rfl)⟩
theorem fp_X3_49_9 : FP RX3 49 9 3 (.int) false := ⟨_, _, m9, (show 3 < 17 by decide), q1692, (Or.inl rfl), (show parseFieldDescriptor "I" = some (.int) by decide +kernel), rfl, fun h => by cases h⟩
theorem fl_X3_49_9 : FL RX3 49 9 3 := ⟨_, _, k9, (show 3 < 17 by decide), q1692, (Or.inl rfl)⟩
theorem fp_X3_19_9 : FP RX3 19 9 4 (.array .int) true := ⟨_, _, m9, (show 4 < 17 by decide), q1693, (Or.inl rfl), (show parseFieldDescriptor "[I" = some (.array .int) by decide +kernel), rfl, fun _ => rfl⟩
theorem fl_X3_19_9 : FL RX3 19 9 4 := ⟨_, _, k9, (show 4 < 17 by decide), q1693, (Or.inl rfl)⟩
theorem fp_X3_217_9 : FP RX3 217 9 5 (.boolean) false := ⟨_, _, m9, (show 5 < 17 by decide), q1694, (Or.inl rfl), (show parseFieldDescriptor "Z" = some (.boolean) by decide +kernel), rfl, fun h => by cases h⟩
theorem fl_X3_217_9 : FL RX3 217 9 5 := ⟨_, _, k9, (show 5 < 17 by decide), q1694, (Or.inl rfl)⟩
theorem fp_X3_22_9 : FP RX3 22 9 6 (.array .char) true := ⟨_, _, m9, (show 6 < 17 by decide), q1695, (Or.inl rfl), (show parseFieldDescriptor "[C" = some (.array .char) by decide +kernel), rfl, fun _ => rfl⟩
theorem fl_X3_22_9 : FL RX3 22 9 6 := ⟨_, _, k9, (show 6 < 17 by decide), q1695, (Or.inl rfl)⟩
theorem fp_X3_185_9 : FP RX3 185 9 7 (.int) false := ⟨_, _, m9, (show 7 < 17 by decide), q1696, (Or.inl rfl), (show parseFieldDescriptor "I" = some (.int) by decide +kernel), rfl, fun h => by cases h⟩
theorem fl_X3_185_9 : FL RX3 185 9 7 := ⟨_, _, k9, (show 7 < 17 by decide), q1696, (Or.inl rfl)⟩
theorem fp_X3_26_9 : FP RX3 26 9 8 (.int) false := ⟨_, _, m9, (show 8 < 17 by decide), q1697, (Or.inl rfl), (show parseFieldDescriptor "I" = some (.int) by decide +kernel), rfl, fun h => by cases h⟩
theorem fl_X3_26_9 : FL RX3 26 9 8 := ⟨_, _, k9, (show 8 < 17 by decide), q1697, (Or.inl rfl)⟩
theorem fp_X3_30_9 : FP RX3 30 9 9 (.int) false := ⟨_, _, m9, (show 9 < 17 by decide), q1698, (Or.inl rfl), (show parseFieldDescriptor "I" = some (.int) by decide +kernel), rfl, fun h => by cases h⟩
theorem fl_X3_30_9 : FL RX3 30 9 9 := ⟨_, _, k9, (show 9 < 17 by decide), q1698, (Or.inl rfl)⟩
theorem fp_X3_33_9 : FP RX3 33 9 10 (.array .char) true := ⟨_, _, m9, (show 10 < 17 by decide), q1699, (Or.inl rfl), (show parseFieldDescriptor "[C" = some (.array .char) by decide +kernel), rfl, fun _ => rfl⟩
theorem fl_X3_33_9 : FL RX3 33 9 10 := ⟨_, _, k9, (show 10 < 17 by decide), q1699, (Or.inl rfl)⟩
theorem fp_X3_171_9 : FP RX3 171 9 11 (.int) false := ⟨_, _, m9, (show 11 < 17 by decide), q1700, (Or.inl rfl), (show parseFieldDescriptor "I" = some (.int) by decide +kernel), rfl, fun h => by cases h⟩
theorem fl_X3_171_9 : FL RX3 171 9 11 := ⟨_, _, k9, (show 11 < 17 by decide), q1700, (Or.inl rfl)⟩
theorem fp_X3_42_9 : FP RX3 42 9 12 (.int) false := ⟨_, _, m9, (show 12 < 17 by decide), q1701, (Or.inl rfl), (show parseFieldDescriptor "I" = some (.int) by decide +kernel), rfl, fun h => by cases h⟩
theorem fl_X3_42_9 : FL RX3 42 9 12 := ⟨_, _, k9, (show 12 < 17 by decide), q1701, (Or.inl rfl)⟩
theorem fp_X3_36_9 : FP RX3 36 9 13 (.array .int) true := ⟨_, _, m9, (show 13 < 17 by decide), q1702, (Or.inl rfl), (show parseFieldDescriptor "[I" = some (.array .int) by decide +kernel), rfl, fun _ => rfl⟩
theorem fl_X3_36_9 : FL RX3 36 9 13 := ⟨_, _, k9, (show 13 < 17 by decide), q1702, (Or.inl rfl)⟩
theorem fp_X3_188_9 : FP RX3 188 9 14 (.int) false := ⟨_, _, m9, (show 14 < 17 by decide), q1703, (Or.inl rfl), (show parseFieldDescriptor "I" = some (.int) by decide +kernel), rfl, fun h => by cases h⟩
theorem fl_X3_188_9 : FL RX3 188 9 14 := ⟨_, _, k9, (show 14 < 17 by decide), q1703, (Or.inl rfl)⟩
theorem fp_X3_191_9 : FP RX3 191 9 15 (.boolean) false := ⟨_, _, m9, (show 15 < 17 by decide), q1704, (Or.inl rfl), (show parseFieldDescriptor "Z" = some (.boolean) by decide +kernel), rfl, fun h => by cases h⟩
theorem fl_X3_191_9 : FL RX3 191 9 15 := ⟨_, _, k9, (show 15 < 17 by decide), q1704, (Or.inl rfl)⟩
theorem fp_X3_39_9 : FP RX3 39 9 16 (.array .int) true := ⟨_, _, m9, (show 16 < 17 by decide), q1705, (Or.inl rfl), (show parseFieldDescriptor "[I" = some (.array .int) by decide +kernel), rfl, fun _ => rfl⟩
theorem fl_X3_39_9 : FL RX3 39 9 16 := ⟨_, _, k9, (show 16 < 17 by decide), q1705, (Or.inl rfl)⟩
theorem nw_J15_45 : NW RJ15 45 12 4 [.null, .int (nI 0), .int (nI 0), .int (nI 0)] := by
  refine ⟨_, m12, q1384, q194, q75, fun j hj => ?_⟩
  have hj : j < 4 := hj
  rcases (show j = 0 ∨ j = 1 ∨ j = 2 ∨ j = 3 by omega) with rfl | rfl | rfl | rfl
  · intro ty hty
    rw [show parseFieldDescriptor ((TJ5) 0).2.2.1 = some (.array .byte) by decide +kernel] at hty
    cases hty
    rfl
  · intro ty hty
    rw [show parseFieldDescriptor ((TJ5) 1).2.2.1 = some (.byte) by decide +kernel] at hty
    cases hty
    rfl
  · intro ty hty
    rw [show parseFieldDescriptor ((TJ5) 2).2.2.1 = some (.boolean) by decide +kernel] at hty
    cases hty
    rfl
  · intro ty hty
    rw [show parseFieldDescriptor ((TJ5) 3).2.2.1 = some (.int) by decide +kernel] at hty
    cases hty
    rfl
theorem nw_J20_10 : NW RJ20 10 12 4 [.null, .int (nI 0), .int (nI 0), .int (nI 0)] := by
  refine ⟨_, m12, q1495, q194, q75, fun j hj => ?_⟩
  have hj : j < 4 := hj
  rcases (show j = 0 ∨ j = 1 ∨ j = 2 ∨ j = 3 by omega) with rfl | rfl | rfl | rfl
  · intro ty hty
    rw [show parseFieldDescriptor ((TJ5) 0).2.2.1 = some (.array .byte) by decide +kernel] at hty
    cases hty
    rfl
  · intro ty hty
    rw [show parseFieldDescriptor ((TJ5) 1).2.2.1 = some (.byte) by decide +kernel] at hty
    cases hty
    rfl
  · intro ty hty
    rw [show parseFieldDescriptor ((TJ5) 2).2.2.1 = some (.boolean) by decide +kernel] at hty
    cases hty
    rfl
  · intro ty hty
    rw [show parseFieldDescriptor ((TJ5) 3).2.2.1 = some (.int) by decide +kernel] at hty
    cases hty
    rfl
theorem nw_J26_10 : NW RJ26 10 12 4 [.null, .int (nI 0), .int (nI 0), .int (nI 0)] := by
  refine ⟨_, m12, q1465, q194, q75, fun j hj => ?_⟩
  have hj : j < 4 := hj
  rcases (show j = 0 ∨ j = 1 ∨ j = 2 ∨ j = 3 by omega) with rfl | rfl | rfl | rfl
  · intro ty hty
    rw [show parseFieldDescriptor ((TJ5) 0).2.2.1 = some (.array .byte) by decide +kernel] at hty
    cases hty
    rfl
  · intro ty hty
    rw [show parseFieldDescriptor ((TJ5) 1).2.2.1 = some (.byte) by decide +kernel] at hty
    cases hty
    rfl
  · intro ty hty
    rw [show parseFieldDescriptor ((TJ5) 2).2.2.1 = some (.boolean) by decide +kernel] at hty
    cases hty
    rfl
  · intro ty hty
    rw [show parseFieldDescriptor ((TJ5) 3).2.2.1 = some (.int) by decide +kernel] at hty
    cases hty
    rfl
theorem nw_J5_18 : NW RJ5 18 13 4 [.null, .int (nI 0), .int (nI 0), .int (nI 0)] := by
  refine ⟨_, m13, q1352, q665, q76, fun j hj => ?_⟩
  have hj : j < 4 := hj
  rcases (show j = 0 ∨ j = 1 ∨ j = 2 ∨ j = 3 by omega) with rfl | rfl | rfl | rfl
  · intro ty hty
    rw [show parseFieldDescriptor ((TJ6) 0).2.2.1 = some (.array .byte) by decide +kernel] at hty
    cases hty
    rfl
  · intro ty hty
    rw [show parseFieldDescriptor ((TJ6) 1).2.2.1 = some (.byte) by decide +kernel] at hty
    cases hty
    rfl
  · intro ty hty
    rw [show parseFieldDescriptor ((TJ6) 2).2.2.1 = some (.int) by decide +kernel] at hty
    cases hty
    rfl
  · intro ty hty
    rw [show parseFieldDescriptor ((TJ6) 3).2.2.1 = some (.boolean) by decide +kernel] at hty
    cases hty
    rfl
theorem nw_X1_41 : NW RX1 41 1 6 [.null, .null, .null, .null, .int (nI 0), .int (nI 0)] := by
  refine ⟨_, m1, q116, q117, q69, fun j hj => ?_⟩
  have hj : j < 6 := hj
  rcases (show j = 0 ∨ j = 1 ∨ j = 2 ∨ j = 3 ∨ j = 4 ∨ j = 5 by omega) with rfl | rfl | rfl | rfl | rfl | rfl
  · intro ty hty
    rw [show parseFieldDescriptor ((TX2) 0).2.2.1 = some (.object "java/util/ArrayList") by decide +kernel] at hty
    cases hty
    rfl
  · intro ty hty
    rw [show parseFieldDescriptor ((TX2) 1).2.2.1 = some (.object "java/util/ArrayList") by decide +kernel] at hty
    cases hty
    rfl
  · intro ty hty
    rw [show parseFieldDescriptor ((TX2) 2).2.2.1 = some (.array .int) by decide +kernel] at hty
    cases hty
    rfl
  · intro ty hty
    rw [show parseFieldDescriptor ((TX2) 3).2.2.1 = some (.array .int) by decide +kernel] at hty
    cases hty
    rfl
  · intro ty hty
    rw [show parseFieldDescriptor ((TX2) 4).2.2.1 = some (.int) by decide +kernel] at hty
    cases hty
    rfl
  · intro ty hty
    rw [show parseFieldDescriptor ((TX2) 5).2.2.1 = some (.int) by decide +kernel] at hty
    cases hty
    rfl
theorem nw_X1_32 : NW RX1 32 11 3 [.null, .int (nI 0), .int (nI 0)] := by
  refine ⟨_, m11, q174, q175, q73, fun j hj => ?_⟩
  have hj : j < 3 := hj
  rcases (show j = 0 ∨ j = 1 ∨ j = 2 by omega) with rfl | rfl | rfl
  · intro ty hty
    rw [show parseFieldDescriptor ((TJ3) 0).2.2.1 = some (.array (.object "java/lang/Object")) by decide +kernel] at hty
    cases hty
    rfl
  · intro ty hty
    rw [show parseFieldDescriptor ((TJ3) 1).2.2.1 = some (.int) by decide +kernel] at hty
    cases hty
    rfl
  · intro ty hty
    rw [show parseFieldDescriptor ((TJ3) 2).2.2.1 = some (.int) by decide +kernel] at hty
    cases hty
    rfl
theorem nw_X1_76 : NW RX1 76 12 4 [.null, .int (nI 0), .int (nI 0), .int (nI 0)] := by
  refine ⟨_, m12, q193, q194, q75, fun j hj => ?_⟩
  have hj : j < 4 := hj
  rcases (show j = 0 ∨ j = 1 ∨ j = 2 ∨ j = 3 by omega) with rfl | rfl | rfl | rfl
  · intro ty hty
    rw [show parseFieldDescriptor ((TJ5) 0).2.2.1 = some (.array .byte) by decide +kernel] at hty
    cases hty
    rfl
  · intro ty hty
    rw [show parseFieldDescriptor ((TJ5) 1).2.2.1 = some (.byte) by decide +kernel] at hty
    cases hty
    rfl
  · intro ty hty
    rw [show parseFieldDescriptor ((TJ5) 2).2.2.1 = some (.boolean) by decide +kernel] at hty
    cases hty
    rfl
  · intro ty hty
    rw [show parseFieldDescriptor ((TJ5) 3).2.2.1 = some (.int) by decide +kernel] at hty
    cases hty
    rfl
theorem nw_X1_115 : NW RX1 115 2 4 [.int (nI 0), .int (nI 0), .int (nI 0), .null] := by
  refine ⟨_, m2, q870, q406, q84, fun j hj => ?_⟩
  have hj : j < 4 := hj
  rcases (show j = 0 ∨ j = 1 ∨ j = 2 ∨ j = 3 by omega) with rfl | rfl | rfl | rfl
  · intro ty hty
    rw [show parseFieldDescriptor ((TX4) 0).2.2.1 = some (.int) by decide +kernel] at hty
    cases hty
    rfl
  · intro ty hty
    rw [show parseFieldDescriptor ((TX4) 1).2.2.1 = some (.int) by decide +kernel] at hty
    cases hty
    rfl
  · intro ty hty
    rw [show parseFieldDescriptor ((TX4) 2).2.2.1 = some (.int) by decide +kernel] at hty
    cases hty
    rfl
  · intro ty hty
    rw [show parseFieldDescriptor ((TX4) 3).2.2.1 = some (.object "PendulumGym$Motion") by decide +kernel] at hty
    cases hty
    rfl
theorem nw_X1_238 : NW RX1 238 5 3 [.int (nI 0), .int (nI 0), .null] := by
  refine ⟨_, m5, q1023, q1024, q101, fun j hj => ?_⟩
  have hj : j < 3 := hj
  rcases (show j = 0 ∨ j = 1 ∨ j = 2 by omega) with rfl | rfl | rfl
  · intro ty hty
    rw [show parseFieldDescriptor ((TX8) 0).2.2.1 = some (.int) by decide +kernel] at hty
    cases hty
    rfl
  · intro ty hty
    rw [show parseFieldDescriptor ((TX8) 1).2.2.1 = some (.int) by decide +kernel] at hty
    cases hty
    rfl
  · intro ty hty
    rw [show parseFieldDescriptor ((TX8) 2).2.2.1 = some (.array .int) by decide +kernel] at hty
    cases hty
    rfl
theorem nw_X1_257 : NW RX1 257 6 4 [.int (nI 0), .int (nI 0), .null, .int (nI 0)] := by
  refine ⟨_, m6, q1075, q1076, q102, fun j hj => ?_⟩
  have hj : j < 4 := hj
  rcases (show j = 0 ∨ j = 1 ∨ j = 2 ∨ j = 3 by omega) with rfl | rfl | rfl | rfl
  · intro ty hty
    rw [show parseFieldDescriptor ((TX9) 0).2.2.1 = some (.int) by decide +kernel] at hty
    cases hty
    rfl
  · intro ty hty
    rw [show parseFieldDescriptor ((TX9) 1).2.2.1 = some (.int) by decide +kernel] at hty
    cases hty
    rfl
  · intro ty hty
    rw [show parseFieldDescriptor ((TX9) 2).2.2.1 = some (.object "PendulumGym$LegCost") by decide +kernel] at hty
    cases hty
    rfl
  · intro ty hty
    rw [show parseFieldDescriptor ((TX9) 3).2.2.1 = some (.int) by decide +kernel] at hty
    cases hty
    rfl
theorem nw_X1_144 : NW RX1 144 4 2 [.int (nI 0), .int (nI 0)] := by
  refine ⟨_, m4, q1345, q716, q97, fun j hj => ?_⟩
  have hj : j < 2 := hj
  rcases (show j = 0 ∨ j = 1 by omega) with rfl | rfl
  · intro ty hty
    rw [show parseFieldDescriptor ((TX7) 0).2.2.1 = some (.int) by decide +kernel] at hty
    cases hty
    rfl
  · intro ty hty
    rw [show parseFieldDescriptor ((TX7) 1).2.2.1 = some (.int) by decide +kernel] at hty
    cases hty
    rfl
theorem nw_X1_363 : NW RX1 363 8 7 [.int (nI 0)] := by
  refine ⟨_, m8, q1452, q1548, q107, fun j hj => ?_⟩
  have hj : j < 1 := hj
  rcases (show j = 0 by omega) with rfl
  · intro ty hty
    rw [show parseFieldDescriptor ((TXE) 0).2.2.1 = some (.int) by decide +kernel] at hty
    cases hty
    rfl
theorem nw_X1_351 : NW RX1 351 7 2 [.null, .int (nI 0)] := by
  refine ⟨_, m7, q1505, q1506, q106, fun j hj => ?_⟩
  have hj : j < 2 := hj
  rcases (show j = 0 ∨ j = 1 by omega) with rfl | rfl
  · intro ty hty
    rw [show parseFieldDescriptor ((TX10) 0).2.2.1 = some (.object "java/lang/String") by decide +kernel] at hty
    cases hty
    rfl
  · intro ty hty
    rw [show parseFieldDescriptor ((TX10) 1).2.2.1 = some (.int) by decide +kernel] at hty
    cases hty
    rfl
theorem nw_X2_9 : NW RX2 9 10 3 [.int (nI 0), .null, .int (nI 0)] := by
  refine ⟨_, m10, q122, q123, q72, fun j hj => ?_⟩
  have hj : j < 3 := hj
  rcases (show j = 0 ∨ j = 1 ∨ j = 2 by omega) with rfl | rfl | rfl
  · intro ty hty
    rw [show parseFieldDescriptor ((TJ2) 0).2.2.1 = some (.int) by decide +kernel] at hty
    cases hty
    rfl
  · intro ty hty
    rw [show parseFieldDescriptor ((TJ2) 1).2.2.1 = some (.array (.object "java/lang/Object")) by decide +kernel] at hty
    cases hty
    rfl
  · intro ty hty
    rw [show parseFieldDescriptor ((TJ2) 2).2.2.1 = some (.int) by decide +kernel] at hty
    cases hty
    rfl
theorem nw_X2_41 : NW RX2 41 2 4 [.int (nI 0), .int (nI 0), .int (nI 0), .null] := by
  refine ⟨_, m2, q366, q406, q84, fun j hj => ?_⟩
  have hj : j < 4 := hj
  rcases (show j = 0 ∨ j = 1 ∨ j = 2 ∨ j = 3 by omega) with rfl | rfl | rfl | rfl
  · intro ty hty
    rw [show parseFieldDescriptor ((TX4) 0).2.2.1 = some (.int) by decide +kernel] at hty
    cases hty
    rfl
  · intro ty hty
    rw [show parseFieldDescriptor ((TX4) 1).2.2.1 = some (.int) by decide +kernel] at hty
    cases hty
    rfl
  · intro ty hty
    rw [show parseFieldDescriptor ((TX4) 2).2.2.1 = some (.int) by decide +kernel] at hty
    cases hty
    rfl
  · intro ty hty
    rw [show parseFieldDescriptor ((TX4) 3).2.2.1 = some (.object "PendulumGym$Motion") by decide +kernel] at hty
    cases hty
    rfl
theorem nw_X2_74 : NW RX2 74 4 2 [.int (nI 0), .int (nI 0)] := by
  refine ⟨_, m4, q371, q716, q97, fun j hj => ?_⟩
  have hj : j < 2 := hj
  rcases (show j = 0 ∨ j = 1 by omega) with rfl | rfl
  · intro ty hty
    rw [show parseFieldDescriptor ((TX7) 0).2.2.1 = some (.int) by decide +kernel] at hty
    cases hty
    rfl
  · intro ty hty
    rw [show parseFieldDescriptor ((TX7) 1).2.2.1 = some (.int) by decide +kernel] at hty
    cases hty
    rfl
theorem nw_X2_13 : NW RX2 13 1 6 [.null, .null, .null, .null, .int (nI 0), .int (nI 0)] := by
  refine ⟨_, m1, q399, q117, q69, fun j hj => ?_⟩
  have hj : j < 6 := hj
  rcases (show j = 0 ∨ j = 1 ∨ j = 2 ∨ j = 3 ∨ j = 4 ∨ j = 5 by omega) with rfl | rfl | rfl | rfl | rfl | rfl
  · intro ty hty
    rw [show parseFieldDescriptor ((TX2) 0).2.2.1 = some (.object "java/util/ArrayList") by decide +kernel] at hty
    cases hty
    rfl
  · intro ty hty
    rw [show parseFieldDescriptor ((TX2) 1).2.2.1 = some (.object "java/util/ArrayList") by decide +kernel] at hty
    cases hty
    rfl
  · intro ty hty
    rw [show parseFieldDescriptor ((TX2) 2).2.2.1 = some (.array .int) by decide +kernel] at hty
    cases hty
    rfl
  · intro ty hty
    rw [show parseFieldDescriptor ((TX2) 3).2.2.1 = some (.array .int) by decide +kernel] at hty
    cases hty
    rfl
  · intro ty hty
    rw [show parseFieldDescriptor ((TX2) 4).2.2.1 = some (.int) by decide +kernel] at hty
    cases hty
    rfl
  · intro ty hty
    rw [show parseFieldDescriptor ((TX2) 5).2.2.1 = some (.int) by decide +kernel] at hty
    cases hty
    rfl
theorem nw_X2_112 : NW RX2 112 3 0 [] := by
  refine ⟨_, m3, q746, q412, q85, fun j hj => ?_⟩
  exact absurd hj (Nat.not_lt_zero _)
theorem nw_X4_13 : NW RX4 13 2 4 [.int (nI 0), .int (nI 0), .int (nI 0), .null] := by
  refine ⟨_, m2, q405, q406, q84, fun j hj => ?_⟩
  have hj : j < 4 := hj
  rcases (show j = 0 ∨ j = 1 ∨ j = 2 ∨ j = 3 by omega) with rfl | rfl | rfl | rfl
  · intro ty hty
    rw [show parseFieldDescriptor ((TX4) 0).2.2.1 = some (.int) by decide +kernel] at hty
    cases hty
    rfl
  · intro ty hty
    rw [show parseFieldDescriptor ((TX4) 1).2.2.1 = some (.int) by decide +kernel] at hty
    cases hty
    rfl
  · intro ty hty
    rw [show parseFieldDescriptor ((TX4) 2).2.2.1 = some (.int) by decide +kernel] at hty
    cases hty
    rfl
  · intro ty hty
    rw [show parseFieldDescriptor ((TX4) 3).2.2.1 = some (.object "PendulumGym$Motion") by decide +kernel] at hty
    cases hty
    rfl
theorem nw_X4_9 : NW RX4 9 3 0 [] := by
  refine ⟨_, m3, q411, q412, q85, fun j hj => ?_⟩
  exact absurd hj (Nat.not_lt_zero _)
theorem nw_X4_31 : NW RX4 31 4 2 [.int (nI 0), .int (nI 0)] := by
  refine ⟨_, m4, q685, q716, q97, fun j hj => ?_⟩
  have hj : j < 2 := hj
  rcases (show j = 0 ∨ j = 1 by omega) with rfl | rfl
  · intro ty hty
    rw [show parseFieldDescriptor ((TX7) 0).2.2.1 = some (.int) by decide +kernel] at hty
    cases hty
    rfl
  · intro ty hty
    rw [show parseFieldDescriptor ((TX7) 1).2.2.1 = some (.int) by decide +kernel] at hty
    cases hty
    rfl
theorem nw_X10_99 : NW RX10 99 10 3 [.int (nI 0), .null, .int (nI 0)] := by
  refine ⟨_, m10, q1522, q123, q72, fun j hj => ?_⟩
  have hj : j < 3 := hj
  rcases (show j = 0 ∨ j = 1 ∨ j = 2 by omega) with rfl | rfl | rfl
  · intro ty hty
    rw [show parseFieldDescriptor ((TJ2) 0).2.2.1 = some (.int) by decide +kernel] at hty
    cases hty
    rfl
  · intro ty hty
    rw [show parseFieldDescriptor ((TJ2) 1).2.2.1 = some (.array (.object "java/lang/Object")) by decide +kernel] at hty
    cases hty
    rfl
  · intro ty hty
    rw [show parseFieldDescriptor ((TJ2) 2).2.2.1 = some (.int) by decide +kernel] at hty
    cases hty
    rfl
theorem nw_X10_31 : NW RX10 31 8 7 [.int (nI 0)] := by
  refine ⟨_, m8, q1547, q1548, q107, fun j hj => ?_⟩
  have hj : j < 1 := hj
  rcases (show j = 0 by omega) with rfl
  · intro ty hty
    rw [show parseFieldDescriptor ((TXE) 0).2.2.1 = some (.int) by decide +kernel] at hty
    cases hty
    rfl
theorem nw_X0_8 : NW RX0 8 0 7 [.null, .null, .null, .null, .null, .int (nI 0), .int (nI 0)] := by
  refine ⟨_, m0, q108, q109, q68, fun j hj => ?_⟩
  have hj : j < 7 := hj
  rcases (show j = 0 ∨ j = 1 ∨ j = 2 ∨ j = 3 ∨ j = 4 ∨ j = 5 ∨ j = 6 by omega) with rfl | rfl | rfl | rfl | rfl | rfl | rfl
  · intro ty hty
    rw [show parseFieldDescriptor ((TX1) 0).2.2.1 = some (.object "PendulumGym$Gym") by decide +kernel] at hty
    cases hty
    rfl
  · intro ty hty
    rw [show parseFieldDescriptor ((TX1) 1).2.2.1 = some (.object "PendulumGym$Gym") by decide +kernel] at hty
    cases hty
    rfl
  · intro ty hty
    rw [show parseFieldDescriptor ((TX1) 2).2.2.1 = some (.object "java/util/ArrayDeque") by decide +kernel] at hty
    cases hty
    rfl
  · intro ty hty
    rw [show parseFieldDescriptor ((TX1) 3).2.2.1 = some (.object "java/lang/String") by decide +kernel] at hty
    cases hty
    rfl
  · intro ty hty
    rw [show parseFieldDescriptor ((TX1) 4).2.2.1 = some (.object "java/lang/StringBuilder") by decide +kernel] at hty
    cases hty
    rfl
  · intro ty hty
    rw [show parseFieldDescriptor ((TX1) 5).2.2.1 = some (.int) by decide +kernel] at hty
    cases hty
    rfl
  · intro ty hty
    rw [show parseFieldDescriptor ((TX1) 6).2.2.1 = some (.int) by decide +kernel] at hty
    cases hty
    rfl
theorem nw_X0_146 : NW RX0 146 9 17 [.null, .null, .null, .int (nI 0), .null, .int (nI 0), .null, .int (nI 0), .int (nI 0), .int (nI 0), .null, .int (nI 0), .int (nI 0), .null, .int (nI 0), .int (nI 0), .null] := by
  refine ⟨_, m9, q1683, q1684, q78, fun j hj => ?_⟩
  have hj : j < 17 := hj
  rcases (show j = 0 ∨ j = 1 ∨ j = 2 ∨ j = 3 ∨ j = 4 ∨ j = 5 ∨ j = 6 ∨ j = 7 ∨ j = 8 ∨ j = 9 ∨ j = 10 ∨ j = 11 ∨ j = 12 ∨ j = 13 ∨ j = 14 ∨ j = 15 ∨ j = 16 by omega) with rfl | rfl | rfl | rfl | rfl | rfl | rfl | rfl | rfl | rfl | rfl | rfl | rfl | rfl | rfl | rfl | rfl
  · intro ty hty
    rw [show parseFieldDescriptor ((TX3) 0).2.2.1 = some (.array .int) by decide +kernel] at hty
    cases hty
    rfl
  · intro ty hty
    rw [show parseFieldDescriptor ((TX3) 1).2.2.1 = some (.array .int) by decide +kernel] at hty
    cases hty
    rfl
  · intro ty hty
    rw [show parseFieldDescriptor ((TX3) 2).2.2.1 = some (.array .int) by decide +kernel] at hty
    cases hty
    rfl
  · intro ty hty
    rw [show parseFieldDescriptor ((TX3) 3).2.2.1 = some (.int) by decide +kernel] at hty
    cases hty
    rfl
  · intro ty hty
    rw [show parseFieldDescriptor ((TX3) 4).2.2.1 = some (.array .int) by decide +kernel] at hty
    cases hty
    rfl
  · intro ty hty
    rw [show parseFieldDescriptor ((TX3) 5).2.2.1 = some (.boolean) by decide +kernel] at hty
    cases hty
    rfl
  · intro ty hty
    rw [show parseFieldDescriptor ((TX3) 6).2.2.1 = some (.array .char) by decide +kernel] at hty
    cases hty
    rfl
  · intro ty hty
    rw [show parseFieldDescriptor ((TX3) 7).2.2.1 = some (.int) by decide +kernel] at hty
    cases hty
    rfl
  · intro ty hty
    rw [show parseFieldDescriptor ((TX3) 8).2.2.1 = some (.int) by decide +kernel] at hty
    cases hty
    rfl
  · intro ty hty
    rw [show parseFieldDescriptor ((TX3) 9).2.2.1 = some (.int) by decide +kernel] at hty
    cases hty
    rfl
  · intro ty hty
    rw [show parseFieldDescriptor ((TX3) 10).2.2.1 = some (.array .char) by decide +kernel] at hty
    cases hty
    rfl
  · intro ty hty
    rw [show parseFieldDescriptor ((TX3) 11).2.2.1 = some (.int) by decide +kernel] at hty
    cases hty
    rfl
  · intro ty hty
    rw [show parseFieldDescriptor ((TX3) 12).2.2.1 = some (.int) by decide +kernel] at hty
    cases hty
    rfl
  · intro ty hty
    rw [show parseFieldDescriptor ((TX3) 13).2.2.1 = some (.array .int) by decide +kernel] at hty
    cases hty
    rfl
  · intro ty hty
    rw [show parseFieldDescriptor ((TX3) 14).2.2.1 = some (.int) by decide +kernel] at hty
    cases hty
    rfl
  · intro ty hty
    rw [show parseFieldDescriptor ((TX3) 15).2.2.1 = some (.boolean) by decide +kernel] at hty
    cases hty
    rfl
  · intro ty hty
    rw [show parseFieldDescriptor ((TX3) 16).2.2.1 = some (.array .int) by decide +kernel] at hty
    cases hty
    rfl
theorem pl_X1 : plainName RX1 = true := by decide +kernel
theorem pl_X2 : plainName RX2 = true := by decide +kernel
theorem pl_X6 : plainName RX6 = true := by decide +kernel
theorem pl_X12 : plainName RX12 = true := by decide +kernel
theorem pl_X13 : plainName RX13 = true := by decide +kernel
theorem pl_X14 : plainName RX14 = true := by decide +kernel
theorem pl_X10 : plainName RX10 = true := by decide +kernel
theorem pl_X4 : plainName RX4 = true := by decide +kernel
theorem pl_X9 : plainName RX9 = true := by decide +kernel
theorem pl_X8 : plainName RX8 = true := by decide +kernel
theorem pl_X5 : plainName RX5 = true := by decide +kernel
theorem pl_X7 : plainName RX7 = true := by decide +kernel
theorem pl_X11 : plainName RX11 = true := by decide +kernel
theorem pl_X0 : plainName RX0 = true := by decide +kernel
theorem pl_X3 : plainName RX3 = true := by decide +kernel
theorem pl_J4 : plainName RJ4 = true := by decide +kernel
theorem pl_J24 : plainName RJ24 = true := by decide +kernel
theorem pl_J20 : plainName RJ20 = true := by decide +kernel
theorem pl_J21 : plainName RJ21 = true := by decide +kernel
theorem pl_J9 : plainName RJ9 = true := by decide +kernel
theorem pl_J11 : plainName RJ11 = true := by decide +kernel
theorem pl_J12 : plainName RJ12 = true := by decide +kernel
theorem pl_J19 : plainName RJ19 = true := by decide +kernel
theorem pl_J23 : plainName RJ23 = true := by decide +kernel
theorem pl_J22 : plainName RJ22 = true := by decide +kernel
theorem pl_J10 : plainName RJ10 = true := by decide +kernel
theorem pl_J6 : plainName RJ6 = true := by decide +kernel
theorem pl_J5 : plainName RJ5 = true := by decide +kernel
theorem pl_J26 : plainName RJ26 = true := by decide +kernel
theorem pl_J25 : plainName RJ25 = true := by decide +kernel
theorem pl_J7 : plainName RJ7 = true := by decide +kernel
theorem pl_J8 : plainName RJ8 = true := by decide +kernel
theorem pl_J0 : plainName RJ0 = true := by decide +kernel
theorem pl_J1 : plainName RJ1 = true := by decide +kernel
theorem pl_J3 : plainName RJ3 = true := by decide +kernel
theorem pl_J2 : plainName RJ2 = true := by decide +kernel
theorem pl_J15 : plainName RJ15 = true := by decide +kernel
theorem pl_J18 : plainName RJ18 = true := by decide +kernel
theorem pl_J16 : plainName RJ16 = true := by decide +kernel
theorem pl_J13 : plainName RJ13 = true := by decide +kernel
theorem pl_J17 : plainName RJ17 = true := by decide +kernel
theorem pn_J0_init : (parseMethodDescriptor yJ0_init.desc).map (fun z => z.parameters.length) = some 0 := by decide +kernel
theorem mh_J0_init : yJ0_init.cls ≠ "java/lang/invoke/MethodHandle" ∧ yJ0_init.cls ≠ "java/lang/invoke/VarHandle" := by decide +kernel
theorem pn_J1_init : (parseMethodDescriptor yJ1_init.desc).map (fun z => z.parameters.length) = some 0 := by decide +kernel
theorem mh_J1_init : yJ1_init.cls ≠ "java/lang/invoke/MethodHandle" ∧ yJ1_init.cls ≠ "java/lang/invoke/VarHandle" := by decide +kernel
theorem pn_J10_init : (parseMethodDescriptor yJ10_init.desc).map (fun z => z.parameters.length) = some 0 := by decide +kernel
theorem mh_J10_init : yJ10_init.cls ≠ "java/lang/invoke/MethodHandle" ∧ yJ10_init.cls ≠ "java/lang/invoke/VarHandle" := by decide +kernel
theorem pn_J10_init_2 : (parseMethodDescriptor yJ10_init_2.desc).map (fun z => z.parameters.length) = some 1 := by decide +kernel
theorem mh_J10_init_2 : yJ10_init_2.cls ≠ "java/lang/invoke/MethodHandle" ∧ yJ10_init_2.cls ≠ "java/lang/invoke/VarHandle" := by decide +kernel
theorem pn_J11_init : (parseMethodDescriptor yJ11_init.desc).map (fun z => z.parameters.length) = some 0 := by decide +kernel
theorem mh_J11_init : yJ11_init.cls ≠ "java/lang/invoke/MethodHandle" ∧ yJ11_init.cls ≠ "java/lang/invoke/VarHandle" := by decide +kernel
theorem pn_J11_init_2 : (parseMethodDescriptor yJ11_init_2.desc).map (fun z => z.parameters.length) = some 1 := by decide +kernel
theorem mh_J11_init_2 : yJ11_init_2.cls ≠ "java/lang/invoke/MethodHandle" ∧ yJ11_init_2.cls ≠ "java/lang/invoke/VarHandle" := by decide +kernel
theorem pn_J12_init : (parseMethodDescriptor yJ12_init.desc).map (fun z => z.parameters.length) = some 0 := by decide +kernel
theorem mh_J12_init : yJ12_init.cls ≠ "java/lang/invoke/MethodHandle" ∧ yJ12_init.cls ≠ "java/lang/invoke/VarHandle" := by decide +kernel
theorem pn_J12_init_2 : (parseMethodDescriptor yJ12_init_2.desc).map (fun z => z.parameters.length) = some 1 := by decide +kernel
theorem mh_J12_init_2 : yJ12_init_2.cls ≠ "java/lang/invoke/MethodHandle" ∧ yJ12_init_2.cls ≠ "java/lang/invoke/VarHandle" := by decide +kernel
theorem pn_J13_newLength : (parseMethodDescriptor yJ13_newLength.desc).map (fun z => z.parameters.length) = some 3 := by decide +kernel
theorem mh_J13_newLength : yJ13_newLength.cls ≠ "java/lang/invoke/MethodHandle" ∧ yJ13_newLength.cls ≠ "java/lang/invoke/VarHandle" := by decide +kernel
theorem pn_J13_hugeLength : (parseMethodDescriptor yJ13_hugeLength.desc).map (fun z => z.parameters.length) = some 2 := by decide +kernel
theorem mh_J13_hugeLength : yJ13_hugeLength.cls ≠ "java/lang/invoke/MethodHandle" ∧ yJ13_hugeLength.cls ≠ "java/lang/invoke/VarHandle" := by decide +kernel
theorem pn_J14_max : (parseMethodDescriptor yJ14_max.desc).map (fun z => z.parameters.length) = some 2 := by decide +kernel
theorem mh_J14_max : yJ14_max.cls ≠ "java/lang/invoke/MethodHandle" ∧ yJ14_max.cls ≠ "java/lang/invoke/VarHandle" := by decide +kernel
theorem pn_J14_min : (parseMethodDescriptor yJ14_min.desc).map (fun z => z.parameters.length) = some 2 := by decide +kernel
theorem mh_J14_min : yJ14_min.cls ≠ "java/lang/invoke/MethodHandle" ∧ yJ14_min.cls ≠ "java/lang/invoke/VarHandle" := by decide +kernel
theorem pn_J14_floorMod : (parseMethodDescriptor yJ14_floorMod.desc).map (fun z => z.parameters.length) = some 2 := by decide +kernel
theorem mh_J14_floorMod : yJ14_floorMod.cls ≠ "java/lang/invoke/MethodHandle" ∧ yJ14_floorMod.cls ≠ "java/lang/invoke/VarHandle" := by decide +kernel
theorem pn_J14_abs : (parseMethodDescriptor yJ14_abs.desc).map (fun z => z.parameters.length) = some 1 := by decide +kernel
theorem mh_J14_abs : yJ14_abs.cls ≠ "java/lang/invoke/MethodHandle" ∧ yJ14_abs.cls ≠ "java/lang/invoke/VarHandle" := by decide +kernel
theorem pn_J15_copyOf : (parseMethodDescriptor yJ15_copyOf.desc).map (fun z => z.parameters.length) = some 2 := by decide +kernel
theorem mh_J15_copyOf : yJ15_copyOf.cls ≠ "java/lang/invoke/MethodHandle" ∧ yJ15_copyOf.cls ≠ "java/lang/invoke/VarHandle" := by decide +kernel
theorem pn_J15_copyOf_2 : (parseMethodDescriptor yJ15_copyOf_2.desc).map (fun z => z.parameters.length) = some 3 := by decide +kernel
theorem mh_J15_copyOf_2 : yJ15_copyOf_2.cls ≠ "java/lang/invoke/MethodHandle" ∧ yJ15_copyOf_2.cls ≠ "java/lang/invoke/VarHandle" := by decide +kernel
theorem pn_J15_copyOf_3 : (parseMethodDescriptor yJ15_copyOf_3.desc).map (fun z => z.parameters.length) = some 2 := by decide +kernel
theorem mh_J15_copyOf_3 : yJ15_copyOf_3.cls ≠ "java/lang/invoke/MethodHandle" ∧ yJ15_copyOf_3.cls ≠ "java/lang/invoke/VarHandle" := by decide +kernel
theorem pn_J15_copyOfRange : (parseMethodDescriptor yJ15_copyOfRange.desc).map (fun z => z.parameters.length) = some 3 := by decide +kernel
theorem mh_J15_copyOfRange : yJ15_copyOfRange.cls ≠ "java/lang/invoke/MethodHandle" ∧ yJ15_copyOfRange.cls ≠ "java/lang/invoke/VarHandle" := by decide +kernel
theorem pn_J15_copyOfRangeByte : (parseMethodDescriptor yJ15_copyOfRangeByte.desc).map (fun z => z.parameters.length) = some 3 := by decide +kernel
theorem mh_J15_copyOfRangeByte : yJ15_copyOfRangeByte.cls ≠ "java/lang/invoke/MethodHandle" ∧ yJ15_copyOfRangeByte.cls ≠ "java/lang/invoke/VarHandle" := by decide +kernel
theorem pn_J15_checkLength : (parseMethodDescriptor yJ15_checkLength.desc).map (fun z => z.parameters.length) = some 2 := by decide +kernel
theorem mh_J15_checkLength : yJ15_checkLength.cls ≠ "java/lang/invoke/MethodHandle" ∧ yJ15_checkLength.cls ≠ "java/lang/invoke/VarHandle" := by decide +kernel
theorem pn_J15_fill : (parseMethodDescriptor yJ15_fill.desc).map (fun z => z.parameters.length) = some 4 := by decide +kernel
theorem mh_J15_fill : yJ15_fill.cls ≠ "java/lang/invoke/MethodHandle" ∧ yJ15_fill.cls ≠ "java/lang/invoke/VarHandle" := by decide +kernel
theorem pn_J15_rangeCheck : (parseMethodDescriptor yJ15_rangeCheck.desc).map (fun z => z.parameters.length) = some 3 := by decide +kernel
theorem mh_J15_rangeCheck : yJ15_rangeCheck.cls ≠ "java/lang/invoke/MethodHandle" ∧ yJ15_rangeCheck.cls ≠ "java/lang/invoke/VarHandle" := by decide +kernel
theorem pn_J16_checkIndex : (parseMethodDescriptor yJ16_checkIndex.desc).map (fun z => z.parameters.length) = some 2 := by decide +kernel
theorem mh_J16_checkIndex : yJ16_checkIndex.cls ≠ "java/lang/invoke/MethodHandle" ∧ yJ16_checkIndex.cls ≠ "java/lang/invoke/VarHandle" := by decide +kernel
theorem pn_J17_checkIndex : (parseMethodDescriptor yJ17_checkIndex.desc).map (fun z => z.parameters.length) = some 3 := by decide +kernel
theorem mh_J17_checkIndex : yJ17_checkIndex.cls ≠ "java/lang/invoke/MethodHandle" ∧ yJ17_checkIndex.cls ≠ "java/lang/invoke/VarHandle" := by decide +kernel
theorem pn_J17_checkFromToIndex : (parseMethodDescriptor yJ17_checkFromToIndex.desc).map (fun z => z.parameters.length) = some 4 := by decide +kernel
theorem mh_J17_checkFromToIndex : yJ17_checkFromToIndex.cls ≠ "java/lang/invoke/MethodHandle" ∧ yJ17_checkFromToIndex.cls ≠ "java/lang/invoke/VarHandle" := by decide +kernel
theorem pn_J17_checkFromIndexSize : (parseMethodDescriptor yJ17_checkFromIndexSize.desc).map (fun z => z.parameters.length) = some 4 := by decide +kernel
theorem mh_J17_checkFromIndexSize : yJ17_checkFromIndexSize.cls ≠ "java/lang/invoke/MethodHandle" ∧ yJ17_checkFromIndexSize.cls ≠ "java/lang/invoke/VarHandle" := by decide +kernel
theorem pn_J18_init : (parseMethodDescriptor yJ18_init.desc).map (fun z => z.parameters.length) = some 0 := by decide +kernel
theorem mh_J18_init : yJ18_init.cls ≠ "java/lang/invoke/MethodHandle" ∧ yJ18_init.cls ≠ "java/lang/invoke/VarHandle" := by decide +kernel
theorem pn_J19_init : (parseMethodDescriptor yJ19_init.desc).map (fun z => z.parameters.length) = some 0 := by decide +kernel
theorem mh_J19_init : yJ19_init.cls ≠ "java/lang/invoke/MethodHandle" ∧ yJ19_init.cls ≠ "java/lang/invoke/VarHandle" := by decide +kernel
theorem pn_J19_init_2 : (parseMethodDescriptor yJ19_init_2.desc).map (fun z => z.parameters.length) = some 1 := by decide +kernel
theorem mh_J19_init_2 : yJ19_init_2.cls ≠ "java/lang/invoke/MethodHandle" ∧ yJ19_init_2.cls ≠ "java/lang/invoke/VarHandle" := by decide +kernel
theorem pn_J2_init : (parseMethodDescriptor yJ2_init.desc).map (fun z => z.parameters.length) = some 0 := by decide +kernel
theorem mh_J2_init : yJ2_init.cls ≠ "java/lang/invoke/MethodHandle" ∧ yJ2_init.cls ≠ "java/lang/invoke/VarHandle" := by decide +kernel
theorem pn_J2_size : (parseMethodDescriptor yJ2_size.desc).map (fun z => z.parameters.length) = some 0 := by decide +kernel
theorem mh_J2_size : yJ2_size.cls ≠ "java/lang/invoke/MethodHandle" ∧ yJ2_size.cls ≠ "java/lang/invoke/VarHandle" := by decide +kernel
theorem pn_J2_get : (parseMethodDescriptor yJ2_get.desc).map (fun z => z.parameters.length) = some 1 := by decide +kernel
theorem mh_J2_get : yJ2_get.cls ≠ "java/lang/invoke/MethodHandle" ∧ yJ2_get.cls ≠ "java/lang/invoke/VarHandle" := by decide +kernel
theorem pn_J2_elementData : (parseMethodDescriptor yJ2_elementData.desc).map (fun z => z.parameters.length) = some 1 := by decide +kernel
theorem mh_J2_elementData : yJ2_elementData.cls ≠ "java/lang/invoke/MethodHandle" ∧ yJ2_elementData.cls ≠ "java/lang/invoke/VarHandle" := by decide +kernel
theorem pn_J2_add : (parseMethodDescriptor yJ2_add.desc).map (fun z => z.parameters.length) = some 1 := by decide +kernel
theorem mh_J2_add : yJ2_add.cls ≠ "java/lang/invoke/MethodHandle" ∧ yJ2_add.cls ≠ "java/lang/invoke/VarHandle" := by decide +kernel
theorem pn_J2_add_2 : (parseMethodDescriptor yJ2_add_2.desc).map (fun z => z.parameters.length) = some 3 := by decide +kernel
theorem mh_J2_add_2 : yJ2_add_2.cls ≠ "java/lang/invoke/MethodHandle" ∧ yJ2_add_2.cls ≠ "java/lang/invoke/VarHandle" := by decide +kernel
theorem pn_J2_grow : (parseMethodDescriptor yJ2_grow.desc).map (fun z => z.parameters.length) = some 0 := by decide +kernel
theorem mh_J2_grow : yJ2_grow.cls ≠ "java/lang/invoke/MethodHandle" ∧ yJ2_grow.cls ≠ "java/lang/invoke/VarHandle" := by decide +kernel
theorem pn_J2_grow_2 : (parseMethodDescriptor yJ2_grow_2.desc).map (fun z => z.parameters.length) = some 1 := by decide +kernel
theorem mh_J2_grow_2 : yJ2_grow_2.cls ≠ "java/lang/invoke/MethodHandle" ∧ yJ2_grow_2.cls ≠ "java/lang/invoke/VarHandle" := by decide +kernel
theorem pn_J2_remove : (parseMethodDescriptor yJ2_remove.desc).map (fun z => z.parameters.length) = some 1 := by decide +kernel
theorem mh_J2_remove : yJ2_remove.cls ≠ "java/lang/invoke/MethodHandle" ∧ yJ2_remove.cls ≠ "java/lang/invoke/VarHandle" := by decide +kernel
theorem pn_J2_fastRemove : (parseMethodDescriptor yJ2_fastRemove.desc).map (fun z => z.parameters.length) = some 2 := by decide +kernel
theorem mh_J2_fastRemove : yJ2_fastRemove.cls ≠ "java/lang/invoke/MethodHandle" ∧ yJ2_fastRemove.cls ≠ "java/lang/invoke/VarHandle" := by decide +kernel
theorem pn_J20_init : (parseMethodDescriptor yJ20_init.desc).map (fun z => z.parameters.length) = some 1 := by decide +kernel
theorem mh_J20_init : yJ20_init.cls ≠ "java/lang/invoke/MethodHandle" ∧ yJ20_init.cls ≠ "java/lang/invoke/VarHandle" := by decide +kernel
theorem pn_J20_init_2 : (parseMethodDescriptor yJ20_init_2.desc).map (fun z => z.parameters.length) = some 1 := by decide +kernel
theorem mh_J20_init_2 : yJ20_init_2.cls ≠ "java/lang/invoke/MethodHandle" ∧ yJ20_init_2.cls ≠ "java/lang/invoke/VarHandle" := by decide +kernel
theorem pn_J21_ordinal : (parseMethodDescriptor yJ21_ordinal.desc).map (fun z => z.parameters.length) = some 0 := by decide +kernel
theorem mh_J21_ordinal : yJ21_ordinal.cls ≠ "java/lang/invoke/MethodHandle" ∧ yJ21_ordinal.cls ≠ "java/lang/invoke/VarHandle" := by decide +kernel
theorem pn_J22_init : (parseMethodDescriptor yJ22_init.desc).map (fun z => z.parameters.length) = some 0 := by decide +kernel
theorem mh_J22_init : yJ22_init.cls ≠ "java/lang/invoke/MethodHandle" ∧ yJ22_init.cls ≠ "java/lang/invoke/VarHandle" := by decide +kernel
theorem pn_J23_valueOf : (parseMethodDescriptor yJ23_valueOf.desc).map (fun z => z.parameters.length) = some 1 := by decide +kernel
theorem mh_J23_valueOf : yJ23_valueOf.cls ≠ "java/lang/invoke/MethodHandle" ∧ yJ23_valueOf.cls ≠ "java/lang/invoke/VarHandle" := by decide +kernel
theorem pn_J23_init : (parseMethodDescriptor yJ23_init.desc).map (fun z => z.parameters.length) = some 1 := by decide +kernel
theorem mh_J23_init : yJ23_init.cls ≠ "java/lang/invoke/MethodHandle" ∧ yJ23_init.cls ≠ "java/lang/invoke/VarHandle" := by decide +kernel
theorem pn_J23_intValue : (parseMethodDescriptor yJ23_intValue.desc).map (fun z => z.parameters.length) = some 0 := by decide +kernel
theorem mh_J23_intValue : yJ23_intValue.cls ≠ "java/lang/invoke/MethodHandle" ∧ yJ23_intValue.cls ≠ "java/lang/invoke/VarHandle" := by decide +kernel
theorem pn_J23_bitCount : (parseMethodDescriptor yJ23_bitCount.desc).map (fun z => z.parameters.length) = some 1 := by decide +kernel
theorem mh_J23_bitCount : yJ23_bitCount.cls ≠ "java/lang/invoke/MethodHandle" ∧ yJ23_bitCount.cls ≠ "java/lang/invoke/VarHandle" := by decide +kernel
theorem pn_J23_stringSize : (parseMethodDescriptor yJ23_stringSize.desc).map (fun z => z.parameters.length) = some 1 := by decide +kernel
theorem mh_J23_stringSize : yJ23_stringSize.cls ≠ "java/lang/invoke/MethodHandle" ∧ yJ23_stringSize.cls ≠ "java/lang/invoke/VarHandle" := by decide +kernel
theorem pn_J23_getChars : (parseMethodDescriptor yJ23_getChars.desc).map (fun z => z.parameters.length) = some 3 := by decide +kernel
theorem mh_J23_getChars : yJ23_getChars.cls ≠ "java/lang/invoke/MethodHandle" ∧ yJ23_getChars.cls ≠ "java/lang/invoke/VarHandle" := by decide +kernel
theorem pn_J24_init : (parseMethodDescriptor yJ24_init.desc).map (fun z => z.parameters.length) = some 1 := by decide +kernel
theorem mh_J24_init : yJ24_init.cls ≠ "java/lang/invoke/MethodHandle" ∧ yJ24_init.cls ≠ "java/lang/invoke/VarHandle" := by decide +kernel
theorem pn_J24_init_2 : (parseMethodDescriptor yJ24_init_2.desc).map (fun z => z.parameters.length) = some 0 := by decide +kernel
theorem mh_J24_init_2 : yJ24_init_2.cls ≠ "java/lang/invoke/MethodHandle" ∧ yJ24_init_2.cls ≠ "java/lang/invoke/VarHandle" := by decide +kernel
theorem pn_J25_canEncode : (parseMethodDescriptor yJ25_canEncode.desc).map (fun z => z.parameters.length) = some 1 := by decide +kernel
theorem mh_J25_canEncode : yJ25_canEncode.cls ≠ "java/lang/invoke/MethodHandle" ∧ yJ25_canEncode.cls ≠ "java/lang/invoke/VarHandle" := by decide +kernel
theorem pn_J25_inflate : (parseMethodDescriptor yJ25_inflate.desc).map (fun z => z.parameters.length) = some 5 := by decide +kernel
theorem mh_J25_inflate : yJ25_inflate.cls ≠ "java/lang/invoke/MethodHandle" ∧ yJ25_inflate.cls ≠ "java/lang/invoke/VarHandle" := by decide +kernel
theorem pn_J25_charAt : (parseMethodDescriptor yJ25_charAt.desc).map (fun z => z.parameters.length) = some 2 := by decide +kernel
theorem mh_J25_charAt : yJ25_charAt.cls ≠ "java/lang/invoke/MethodHandle" ∧ yJ25_charAt.cls ≠ "java/lang/invoke/VarHandle" := by decide +kernel
theorem pn_J25_fillNull : (parseMethodDescriptor yJ25_fillNull.desc).map (fun z => z.parameters.length) = some 3 := by decide +kernel
theorem mh_J25_fillNull : yJ25_fillNull.cls ≠ "java/lang/invoke/MethodHandle" ∧ yJ25_fillNull.cls ≠ "java/lang/invoke/VarHandle" := by decide +kernel
theorem pn_J26_init : (parseMethodDescriptor yJ26_init.desc).map (fun z => z.parameters.length) = some 1 := by decide +kernel
theorem mh_J26_init : yJ26_init.cls ≠ "java/lang/invoke/MethodHandle" ∧ yJ26_init.cls ≠ "java/lang/invoke/VarHandle" := by decide +kernel
theorem pn_J27_init : (parseMethodDescriptor yJ27_init.desc).map (fun z => z.parameters.length) = some 0 := by decide +kernel
theorem mh_J27_init : yJ27_init.cls ≠ "java/lang/invoke/MethodHandle" ∧ yJ27_init.cls ≠ "java/lang/invoke/VarHandle" := by decide +kernel
theorem pn_J3_init : (parseMethodDescriptor yJ3_init.desc).map (fun z => z.parameters.length) = some 0 := by decide +kernel
theorem mh_J3_init : yJ3_init.cls ≠ "java/lang/invoke/MethodHandle" ∧ yJ3_init.cls ≠ "java/lang/invoke/VarHandle" := by decide +kernel
theorem pn_J3_size : (parseMethodDescriptor yJ3_size.desc).map (fun z => z.parameters.length) = some 0 := by decide +kernel
theorem mh_J3_size : yJ3_size.cls ≠ "java/lang/invoke/MethodHandle" ∧ yJ3_size.cls ≠ "java/lang/invoke/VarHandle" := by decide +kernel
theorem pn_J3_sub : (parseMethodDescriptor yJ3_sub.desc).map (fun z => z.parameters.length) = some 3 := by decide +kernel
theorem mh_J3_sub : yJ3_sub.cls ≠ "java/lang/invoke/MethodHandle" ∧ yJ3_sub.cls ≠ "java/lang/invoke/VarHandle" := by decide +kernel
theorem pn_J3_removeLast : (parseMethodDescriptor yJ3_removeLast.desc).map (fun z => z.parameters.length) = some 0 := by decide +kernel
theorem mh_J3_removeLast : yJ3_removeLast.cls ≠ "java/lang/invoke/MethodHandle" ∧ yJ3_removeLast.cls ≠ "java/lang/invoke/VarHandle" := by decide +kernel
theorem pn_J3_pollLast : (parseMethodDescriptor yJ3_pollLast.desc).map (fun z => z.parameters.length) = some 0 := by decide +kernel
theorem mh_J3_pollLast : yJ3_pollLast.cls ≠ "java/lang/invoke/MethodHandle" ∧ yJ3_pollLast.cls ≠ "java/lang/invoke/VarHandle" := by decide +kernel
theorem pn_J3_dec : (parseMethodDescriptor yJ3_dec.desc).map (fun z => z.parameters.length) = some 2 := by decide +kernel
theorem mh_J3_dec : yJ3_dec.cls ≠ "java/lang/invoke/MethodHandle" ∧ yJ3_dec.cls ≠ "java/lang/invoke/VarHandle" := by decide +kernel
theorem pn_J3_elementAt : (parseMethodDescriptor yJ3_elementAt.desc).map (fun z => z.parameters.length) = some 2 := by decide +kernel
theorem mh_J3_elementAt : yJ3_elementAt.cls ≠ "java/lang/invoke/MethodHandle" ∧ yJ3_elementAt.cls ≠ "java/lang/invoke/VarHandle" := by decide +kernel
theorem pn_J3_push : (parseMethodDescriptor yJ3_push.desc).map (fun z => z.parameters.length) = some 1 := by decide +kernel
theorem mh_J3_push : yJ3_push.cls ≠ "java/lang/invoke/MethodHandle" ∧ yJ3_push.cls ≠ "java/lang/invoke/VarHandle" := by decide +kernel
theorem pn_J3_addFirst : (parseMethodDescriptor yJ3_addFirst.desc).map (fun z => z.parameters.length) = some 1 := by decide +kernel
theorem mh_J3_addFirst : yJ3_addFirst.cls ≠ "java/lang/invoke/MethodHandle" ∧ yJ3_addFirst.cls ≠ "java/lang/invoke/VarHandle" := by decide +kernel
theorem pn_J3_grow : (parseMethodDescriptor yJ3_grow.desc).map (fun z => z.parameters.length) = some 1 := by decide +kernel
theorem mh_J3_grow : yJ3_grow.cls ≠ "java/lang/invoke/MethodHandle" ∧ yJ3_grow.cls ≠ "java/lang/invoke/VarHandle" := by decide +kernel
theorem pn_J3_newCapacity : (parseMethodDescriptor yJ3_newCapacity.desc).map (fun z => z.parameters.length) = some 2 := by decide +kernel
theorem mh_J3_newCapacity : yJ3_newCapacity.cls ≠ "java/lang/invoke/MethodHandle" ∧ yJ3_newCapacity.cls ≠ "java/lang/invoke/VarHandle" := by decide +kernel
theorem pn_J3_isEmpty : (parseMethodDescriptor yJ3_isEmpty.desc).map (fun z => z.parameters.length) = some 0 := by decide +kernel
theorem mh_J3_isEmpty : yJ3_isEmpty.cls ≠ "java/lang/invoke/MethodHandle" ∧ yJ3_isEmpty.cls ≠ "java/lang/invoke/VarHandle" := by decide +kernel
theorem pn_J3_pop : (parseMethodDescriptor yJ3_pop.desc).map (fun z => z.parameters.length) = some 0 := by decide +kernel
theorem mh_J3_pop : yJ3_pop.cls ≠ "java/lang/invoke/MethodHandle" ∧ yJ3_pop.cls ≠ "java/lang/invoke/VarHandle" := by decide +kernel
theorem pn_J3_removeFirst : (parseMethodDescriptor yJ3_removeFirst.desc).map (fun z => z.parameters.length) = some 0 := by decide +kernel
theorem mh_J3_removeFirst : yJ3_removeFirst.cls ≠ "java/lang/invoke/MethodHandle" ∧ yJ3_removeFirst.cls ≠ "java/lang/invoke/VarHandle" := by decide +kernel
theorem pn_J3_pollFirst : (parseMethodDescriptor yJ3_pollFirst.desc).map (fun z => z.parameters.length) = some 0 := by decide +kernel
theorem mh_J3_pollFirst : yJ3_pollFirst.cls ≠ "java/lang/invoke/MethodHandle" ∧ yJ3_pollFirst.cls ≠ "java/lang/invoke/VarHandle" := by decide +kernel
theorem pn_J3_inc : (parseMethodDescriptor yJ3_inc.desc).map (fun z => z.parameters.length) = some 2 := by decide +kernel
theorem mh_J3_inc : yJ3_inc.cls ≠ "java/lang/invoke/MethodHandle" ∧ yJ3_inc.cls ≠ "java/lang/invoke/VarHandle" := by decide +kernel
theorem pn_J3_clear : (parseMethodDescriptor yJ3_clear.desc).map (fun z => z.parameters.length) = some 0 := by decide +kernel
theorem mh_J3_clear : yJ3_clear.cls ≠ "java/lang/invoke/MethodHandle" ∧ yJ3_clear.cls ≠ "java/lang/invoke/VarHandle" := by decide +kernel
theorem pn_J3_circularClear : (parseMethodDescriptor yJ3_circularClear.desc).map (fun z => z.parameters.length) = some 3 := by decide +kernel
theorem mh_J3_circularClear : yJ3_circularClear.cls ≠ "java/lang/invoke/MethodHandle" ∧ yJ3_circularClear.cls ≠ "java/lang/invoke/VarHandle" := by decide +kernel
theorem pn_J4_init : (parseMethodDescriptor yJ4_init.desc).map (fun z => z.parameters.length) = some 1 := by decide +kernel
theorem mh_J4_init : yJ4_init.cls ≠ "java/lang/invoke/MethodHandle" ∧ yJ4_init.cls ≠ "java/lang/invoke/VarHandle" := by decide +kernel
theorem pn_J4_append : (parseMethodDescriptor yJ4_append.desc).map (fun z => z.parameters.length) = some 1 := by decide +kernel
theorem mh_J4_append : yJ4_append.cls ≠ "java/lang/invoke/MethodHandle" ∧ yJ4_append.cls ≠ "java/lang/invoke/VarHandle" := by decide +kernel
theorem pn_J4_ensureCapacityInternal : (parseMethodDescriptor yJ4_ensureCapacityInternal.desc).map (fun z => z.parameters.length) = some 1 := by decide +kernel
theorem mh_J4_ensureCapacityInternal : yJ4_ensureCapacityInternal.cls ≠ "java/lang/invoke/MethodHandle" ∧ yJ4_ensureCapacityInternal.cls ≠ "java/lang/invoke/VarHandle" := by decide +kernel
theorem pn_J4_newCapacity : (parseMethodDescriptor yJ4_newCapacity.desc).map (fun z => z.parameters.length) = some 1 := by decide +kernel
theorem mh_J4_newCapacity : yJ4_newCapacity.cls ≠ "java/lang/invoke/MethodHandle" ∧ yJ4_newCapacity.cls ≠ "java/lang/invoke/VarHandle" := by decide +kernel
theorem pn_J4_isLatin1 : (parseMethodDescriptor yJ4_isLatin1.desc).map (fun z => z.parameters.length) = some 0 := by decide +kernel
theorem mh_J4_isLatin1 : yJ4_isLatin1.cls ≠ "java/lang/invoke/MethodHandle" ∧ yJ4_isLatin1.cls ≠ "java/lang/invoke/VarHandle" := by decide +kernel
theorem pn_J4_append_2 : (parseMethodDescriptor yJ4_append_2.desc).map (fun z => z.parameters.length) = some 1 := by decide +kernel
theorem mh_J4_append_2 : yJ4_append_2.cls ≠ "java/lang/invoke/MethodHandle" ∧ yJ4_append_2.cls ≠ "java/lang/invoke/VarHandle" := by decide +kernel
theorem pn_J4_inflate : (parseMethodDescriptor yJ4_inflate.desc).map (fun z => z.parameters.length) = some 0 := by decide +kernel
theorem mh_J4_inflate : yJ4_inflate.cls ≠ "java/lang/invoke/MethodHandle" ∧ yJ4_inflate.cls ≠ "java/lang/invoke/VarHandle" := by decide +kernel
theorem pn_J4_append_3 : (parseMethodDescriptor yJ4_append_3.desc).map (fun z => z.parameters.length) = some 1 := by decide +kernel
theorem mh_J4_append_3 : yJ4_append_3.cls ≠ "java/lang/invoke/MethodHandle" ∧ yJ4_append_3.cls ≠ "java/lang/invoke/VarHandle" := by decide +kernel
theorem pn_J4_appendNull : (parseMethodDescriptor yJ4_appendNull.desc).map (fun z => z.parameters.length) = some 0 := by decide +kernel
theorem mh_J4_appendNull : yJ4_appendNull.cls ≠ "java/lang/invoke/MethodHandle" ∧ yJ4_appendNull.cls ≠ "java/lang/invoke/VarHandle" := by decide +kernel
theorem pn_J4_putStringAt : (parseMethodDescriptor yJ4_putStringAt.desc).map (fun z => z.parameters.length) = some 2 := by decide +kernel
theorem mh_J4_putStringAt : yJ4_putStringAt.cls ≠ "java/lang/invoke/MethodHandle" ∧ yJ4_putStringAt.cls ≠ "java/lang/invoke/VarHandle" := by decide +kernel
theorem pn_J4_inflateIfNeededFor : (parseMethodDescriptor yJ4_inflateIfNeededFor.desc).map (fun z => z.parameters.length) = some 1 := by decide +kernel
theorem mh_J4_inflateIfNeededFor : yJ4_inflateIfNeededFor.cls ≠ "java/lang/invoke/MethodHandle" ∧ yJ4_inflateIfNeededFor.cls ≠ "java/lang/invoke/VarHandle" := by decide +kernel
theorem pn_J4_getValue : (parseMethodDescriptor yJ4_getValue.desc).map (fun z => z.parameters.length) = some 0 := by decide +kernel
theorem mh_J4_getValue : yJ4_getValue.cls ≠ "java/lang/invoke/MethodHandle" ∧ yJ4_getValue.cls ≠ "java/lang/invoke/VarHandle" := by decide +kernel
theorem pn_J4_length : (parseMethodDescriptor yJ4_length.desc).map (fun z => z.parameters.length) = some 0 := by decide +kernel
theorem mh_J4_length : yJ4_length.cls ≠ "java/lang/invoke/MethodHandle" ∧ yJ4_length.cls ≠ "java/lang/invoke/VarHandle" := by decide +kernel
theorem pn_J4_setLength : (parseMethodDescriptor yJ4_setLength.desc).map (fun z => z.parameters.length) = some 1 := by decide +kernel
theorem mh_J4_setLength : yJ4_setLength.cls ≠ "java/lang/invoke/MethodHandle" ∧ yJ4_setLength.cls ≠ "java/lang/invoke/VarHandle" := by decide +kernel
theorem pn_J5_init : (parseMethodDescriptor yJ5_init.desc).map (fun z => z.parameters.length) = some 0 := by decide +kernel
theorem mh_J5_init : yJ5_init.cls ≠ "java/lang/invoke/MethodHandle" ∧ yJ5_init.cls ≠ "java/lang/invoke/VarHandle" := by decide +kernel
theorem pn_J5_append : (parseMethodDescriptor yJ5_append.desc).map (fun z => z.parameters.length) = some 1 := by decide +kernel
theorem mh_J5_append : yJ5_append.cls ≠ "java/lang/invoke/MethodHandle" ∧ yJ5_append.cls ≠ "java/lang/invoke/VarHandle" := by decide +kernel
theorem pn_J5_append_2 : (parseMethodDescriptor yJ5_append_2.desc).map (fun z => z.parameters.length) = some 1 := by decide +kernel
theorem mh_J5_append_2 : yJ5_append_2.cls ≠ "java/lang/invoke/MethodHandle" ∧ yJ5_append_2.cls ≠ "java/lang/invoke/VarHandle" := by decide +kernel
theorem pn_J5_append_3 : (parseMethodDescriptor yJ5_append_3.desc).map (fun z => z.parameters.length) = some 1 := by decide +kernel
theorem mh_J5_append_3 : yJ5_append_3.cls ≠ "java/lang/invoke/MethodHandle" ∧ yJ5_append_3.cls ≠ "java/lang/invoke/VarHandle" := by decide +kernel
theorem pn_J5_toString : (parseMethodDescriptor yJ5_toString.desc).map (fun z => z.parameters.length) = some 0 := by decide +kernel
theorem mh_J5_toString : yJ5_toString.cls ≠ "java/lang/invoke/MethodHandle" ∧ yJ5_toString.cls ≠ "java/lang/invoke/VarHandle" := by decide +kernel
theorem pn_J5_length : (parseMethodDescriptor yJ5_length.desc).map (fun z => z.parameters.length) = some 0 := by decide +kernel
theorem mh_J5_length : yJ5_length.cls ≠ "java/lang/invoke/MethodHandle" ∧ yJ5_length.cls ≠ "java/lang/invoke/VarHandle" := by decide +kernel
theorem pn_J5_setLength : (parseMethodDescriptor yJ5_setLength.desc).map (fun z => z.parameters.length) = some 1 := by decide +kernel
theorem mh_J5_setLength : yJ5_setLength.cls ≠ "java/lang/invoke/MethodHandle" ∧ yJ5_setLength.cls ≠ "java/lang/invoke/VarHandle" := by decide +kernel
theorem pn_J6_checkBoundsBeginEnd : (parseMethodDescriptor yJ6_checkBoundsBeginEnd.desc).map (fun z => z.parameters.length) = some 3 := by decide +kernel
theorem mh_J6_checkBoundsBeginEnd : yJ6_checkBoundsBeginEnd.cls ≠ "java/lang/invoke/MethodHandle" ∧ yJ6_checkBoundsBeginEnd.cls ≠ "java/lang/invoke/VarHandle" := by decide +kernel
theorem pn_J6_checkBoundsOffCount : (parseMethodDescriptor yJ6_checkBoundsOffCount.desc).map (fun z => z.parameters.length) = some 3 := by decide +kernel
theorem mh_J6_checkBoundsOffCount : yJ6_checkBoundsOffCount.cls ≠ "java/lang/invoke/MethodHandle" ∧ yJ6_checkBoundsOffCount.cls ≠ "java/lang/invoke/VarHandle" := by decide +kernel
theorem pn_J6_checkIndex : (parseMethodDescriptor yJ6_checkIndex.desc).map (fun z => z.parameters.length) = some 2 := by decide +kernel
theorem mh_J6_checkIndex : yJ6_checkIndex.cls ≠ "java/lang/invoke/MethodHandle" ∧ yJ6_checkIndex.cls ≠ "java/lang/invoke/VarHandle" := by decide +kernel
theorem pn_J6_length : (parseMethodDescriptor yJ6_length.desc).map (fun z => z.parameters.length) = some 0 := by decide +kernel
theorem mh_J6_length : yJ6_length.cls ≠ "java/lang/invoke/MethodHandle" ∧ yJ6_length.cls ≠ "java/lang/invoke/VarHandle" := by decide +kernel
theorem pn_J6_coder : (parseMethodDescriptor yJ6_coder.desc).map (fun z => z.parameters.length) = some 0 := by decide +kernel
theorem mh_J6_coder : yJ6_coder.cls ≠ "java/lang/invoke/MethodHandle" ∧ yJ6_coder.cls ≠ "java/lang/invoke/VarHandle" := by decide +kernel
theorem pn_J6_getBytes : (parseMethodDescriptor yJ6_getBytes.desc).map (fun z => z.parameters.length) = some 3 := by decide +kernel
theorem mh_J6_getBytes : yJ6_getBytes.cls ≠ "java/lang/invoke/MethodHandle" ∧ yJ6_getBytes.cls ≠ "java/lang/invoke/VarHandle" := by decide +kernel
theorem pn_J6_init : (parseMethodDescriptor yJ6_init.desc).map (fun z => z.parameters.length) = some 1 := by decide +kernel
theorem mh_J6_init : yJ6_init.cls ≠ "java/lang/invoke/MethodHandle" ∧ yJ6_init.cls ≠ "java/lang/invoke/VarHandle" := by decide +kernel
theorem pn_J6_init_2 : (parseMethodDescriptor yJ6_init_2.desc).map (fun z => z.parameters.length) = some 2 := by decide +kernel
theorem mh_J6_init_2 : yJ6_init_2.cls ≠ "java/lang/invoke/MethodHandle" ∧ yJ6_init_2.cls ≠ "java/lang/invoke/VarHandle" := by decide +kernel
theorem pn_J6_charAt : (parseMethodDescriptor yJ6_charAt.desc).map (fun z => z.parameters.length) = some 1 := by decide +kernel
theorem mh_J6_charAt : yJ6_charAt.cls ≠ "java/lang/invoke/MethodHandle" ∧ yJ6_charAt.cls ≠ "java/lang/invoke/VarHandle" := by decide +kernel
theorem pn_J6_isLatin1 : (parseMethodDescriptor yJ6_isLatin1.desc).map (fun z => z.parameters.length) = some 0 := by decide +kernel
theorem mh_J6_isLatin1 : yJ6_isLatin1.cls ≠ "java/lang/invoke/MethodHandle" ∧ yJ6_isLatin1.cls ≠ "java/lang/invoke/VarHandle" := by decide +kernel
theorem pn_J7_newBytesFor : (parseMethodDescriptor yJ7_newBytesFor.desc).map (fun z => z.parameters.length) = some 1 := by decide +kernel
theorem mh_J7_newBytesFor : yJ7_newBytesFor.cls ≠ "java/lang/invoke/MethodHandle" ∧ yJ7_newBytesFor.cls ≠ "java/lang/invoke/VarHandle" := by decide +kernel
theorem pn_J7_newBytesLength : (parseMethodDescriptor yJ7_newBytesLength.desc).map (fun z => z.parameters.length) = some 1 := by decide +kernel
theorem mh_J7_newBytesLength : yJ7_newBytesLength.cls ≠ "java/lang/invoke/MethodHandle" ∧ yJ7_newBytesLength.cls ≠ "java/lang/invoke/VarHandle" := by decide +kernel
theorem pn_J7_getChars : (parseMethodDescriptor yJ7_getChars.desc).map (fun z => z.parameters.length) = some 4 := by decide +kernel
theorem mh_J7_getChars : yJ7_getChars.cls ≠ "java/lang/invoke/MethodHandle" ∧ yJ7_getChars.cls ≠ "java/lang/invoke/VarHandle" := by decide +kernel
theorem pn_J7_checkBoundsBeginEnd : (parseMethodDescriptor yJ7_checkBoundsBeginEnd.desc).map (fun z => z.parameters.length) = some 3 := by decide +kernel
theorem mh_J7_checkBoundsBeginEnd : yJ7_checkBoundsBeginEnd.cls ≠ "java/lang/invoke/MethodHandle" ∧ yJ7_checkBoundsBeginEnd.cls ≠ "java/lang/invoke/VarHandle" := by decide +kernel
theorem pn_J7_length : (parseMethodDescriptor yJ7_length.desc).map (fun z => z.parameters.length) = some 1 := by decide +kernel
theorem mh_J7_length : yJ7_length.cls ≠ "java/lang/invoke/MethodHandle" ∧ yJ7_length.cls ≠ "java/lang/invoke/VarHandle" := by decide +kernel
theorem pn_J7_getChars_2 : (parseMethodDescriptor yJ7_getChars_2.desc).map (fun z => z.parameters.length) = some 3 := by decide +kernel
theorem mh_J7_getChars_2 : yJ7_getChars_2.cls ≠ "java/lang/invoke/MethodHandle" ∧ yJ7_getChars_2.cls ≠ "java/lang/invoke/VarHandle" := by decide +kernel
theorem pn_J7_putChar : (parseMethodDescriptor yJ7_putChar.desc).map (fun z => z.parameters.length) = some 3 := by decide +kernel
theorem mh_J7_putChar : yJ7_putChar.cls ≠ "java/lang/invoke/MethodHandle" ∧ yJ7_putChar.cls ≠ "java/lang/invoke/VarHandle" := by decide +kernel
theorem pn_J7_inflate : (parseMethodDescriptor yJ7_inflate.desc).map (fun z => z.parameters.length) = some 5 := by decide +kernel
theorem mh_J7_inflate : yJ7_inflate.cls ≠ "java/lang/invoke/MethodHandle" ∧ yJ7_inflate.cls ≠ "java/lang/invoke/VarHandle" := by decide +kernel
theorem pn_J7_checkBoundsOffCount : (parseMethodDescriptor yJ7_checkBoundsOffCount.desc).map (fun z => z.parameters.length) = some 3 := by decide +kernel
theorem mh_J7_checkBoundsOffCount : yJ7_checkBoundsOffCount.cls ≠ "java/lang/invoke/MethodHandle" ∧ yJ7_checkBoundsOffCount.cls ≠ "java/lang/invoke/VarHandle" := by decide +kernel
theorem pn_J7_putCharSB : (parseMethodDescriptor yJ7_putCharSB.desc).map (fun z => z.parameters.length) = some 3 := by decide +kernel
theorem mh_J7_putCharSB : yJ7_putCharSB.cls ≠ "java/lang/invoke/MethodHandle" ∧ yJ7_putCharSB.cls ≠ "java/lang/invoke/VarHandle" := by decide +kernel
theorem pn_J7_checkIndex : (parseMethodDescriptor yJ7_checkIndex.desc).map (fun z => z.parameters.length) = some 2 := by decide +kernel
theorem mh_J7_checkIndex : yJ7_checkIndex.cls ≠ "java/lang/invoke/MethodHandle" ∧ yJ7_checkIndex.cls ≠ "java/lang/invoke/VarHandle" := by decide +kernel
theorem pn_J7_putCharsAt : (parseMethodDescriptor yJ7_putCharsAt.desc).map (fun z => z.parameters.length) = some 6 := by decide +kernel
theorem mh_J7_putCharsAt : yJ7_putCharsAt.cls ≠ "java/lang/invoke/MethodHandle" ∧ yJ7_putCharsAt.cls ≠ "java/lang/invoke/VarHandle" := by decide +kernel
theorem pn_J7_compress : (parseMethodDescriptor yJ7_compress.desc).map (fun z => z.parameters.length) = some 3 := by decide +kernel
theorem mh_J7_compress : yJ7_compress.cls ≠ "java/lang/invoke/MethodHandle" ∧ yJ7_compress.cls ≠ "java/lang/invoke/VarHandle" := by decide +kernel
theorem pn_J7_compress_2 : (parseMethodDescriptor yJ7_compress_2.desc).map (fun z => z.parameters.length) = some 5 := by decide +kernel
theorem mh_J7_compress_2 : yJ7_compress_2.cls ≠ "java/lang/invoke/MethodHandle" ∧ yJ7_compress_2.cls ≠ "java/lang/invoke/VarHandle" := by decide +kernel
theorem pn_J7_getChar : (parseMethodDescriptor yJ7_getChar.desc).map (fun z => z.parameters.length) = some 2 := by decide +kernel
theorem mh_J7_getChar : yJ7_getChar.cls ≠ "java/lang/invoke/MethodHandle" ∧ yJ7_getChar.cls ≠ "java/lang/invoke/VarHandle" := by decide +kernel
theorem pn_J7_coderFromArrayLen : (parseMethodDescriptor yJ7_coderFromArrayLen.desc).map (fun z => z.parameters.length) = some 2 := by decide +kernel
theorem mh_J7_coderFromArrayLen : yJ7_coderFromArrayLen.cls ≠ "java/lang/invoke/MethodHandle" ∧ yJ7_coderFromArrayLen.cls ≠ "java/lang/invoke/VarHandle" := by decide +kernel
theorem pn_J7_charAt : (parseMethodDescriptor yJ7_charAt.desc).map (fun z => z.parameters.length) = some 2 := by decide +kernel
theorem mh_J7_charAt : yJ7_charAt.cls ≠ "java/lang/invoke/MethodHandle" ∧ yJ7_charAt.cls ≠ "java/lang/invoke/VarHandle" := by decide +kernel
theorem pn_J7_fillNull : (parseMethodDescriptor yJ7_fillNull.desc).map (fun z => z.parameters.length) = some 3 := by decide +kernel
theorem mh_J7_fillNull : yJ7_fillNull.cls ≠ "java/lang/invoke/MethodHandle" ∧ yJ7_fillNull.cls ≠ "java/lang/invoke/VarHandle" := by decide +kernel
theorem pn_J8_init : (parseMethodDescriptor yJ8_init.desc).map (fun z => z.parameters.length) = some 0 := by decide +kernel
theorem mh_J8_init : yJ8_init.cls ≠ "java/lang/invoke/MethodHandle" ∧ yJ8_init.cls ≠ "java/lang/invoke/VarHandle" := by decide +kernel
theorem pn_J8_init_2 : (parseMethodDescriptor yJ8_init_2.desc).map (fun z => z.parameters.length) = some 1 := by decide +kernel
theorem mh_J8_init_2 : yJ8_init_2.cls ≠ "java/lang/invoke/MethodHandle" ∧ yJ8_init_2.cls ≠ "java/lang/invoke/VarHandle" := by decide +kernel
theorem pn_J9_init : (parseMethodDescriptor yJ9_init.desc).map (fun z => z.parameters.length) = some 0 := by decide +kernel
theorem mh_J9_init : yJ9_init.cls ≠ "java/lang/invoke/MethodHandle" ∧ yJ9_init.cls ≠ "java/lang/invoke/VarHandle" := by decide +kernel
theorem pn_J9_init_2 : (parseMethodDescriptor yJ9_init_2.desc).map (fun z => z.parameters.length) = some 1 := by decide +kernel
theorem mh_J9_init_2 : yJ9_init_2.cls ≠ "java/lang/invoke/MethodHandle" ∧ yJ9_init_2.cls ≠ "java/lang/invoke/VarHandle" := by decide +kernel
theorem pn_X1_init : (parseMethodDescriptor yX1_init.desc).map (fun z => z.parameters.length) = some 0 := by decide +kernel
theorem mh_X1_init : yX1_init.cls ≠ "java/lang/invoke/MethodHandle" ∧ yX1_init.cls ≠ "java/lang/invoke/VarHandle" := by decide +kernel
theorem pn_X1_pendulumCount : (parseMethodDescriptor yX1_pendulumCount.desc).map (fun z => z.parameters.length) = some 0 := by decide +kernel
theorem mh_X1_pendulumCount : yX1_pendulumCount.cls ≠ "java/lang/invoke/MethodHandle" ∧ yX1_pendulumCount.cls ≠ "java/lang/invoke/VarHandle" := by decide +kernel
theorem pn_X1_clock : (parseMethodDescriptor yX1_clock.desc).map (fun z => z.parameters.length) = some 0 := by decide +kernel
theorem mh_X1_clock : yX1_clock.cls ≠ "java/lang/invoke/MethodHandle" ∧ yX1_clock.cls ≠ "java/lang/invoke/VarHandle" := by decide +kernel
theorem pn_X1_friction : (parseMethodDescriptor yX1_friction.desc).map (fun z => z.parameters.length) = some 0 := by decide +kernel
theorem mh_X1_friction : yX1_friction.cls ≠ "java/lang/invoke/MethodHandle" ∧ yX1_friction.cls ≠ "java/lang/invoke/VarHandle" := by decide +kernel
theorem pn_X1_meetingPairs : (parseMethodDescriptor yX1_meetingPairs.desc).map (fun z => z.parameters.length) = some 0 := by decide +kernel
theorem mh_X1_meetingPairs : yX1_meetingPairs.cls ≠ "java/lang/invoke/MethodHandle" ∧ yX1_meetingPairs.cls ≠ "java/lang/invoke/VarHandle" := by decide +kernel
theorem pn_X1_motionOf : (parseMethodDescriptor yX1_motionOf.desc).map (fun z => z.parameters.length) = some 1 := by decide +kernel
theorem mh_X1_motionOf : yX1_motionOf.cls ≠ "java/lang/invoke/MethodHandle" ∧ yX1_motionOf.cls ≠ "java/lang/invoke/VarHandle" := by decide +kernel
theorem pn_X1_isBetween : (parseMethodDescriptor yX1_isBetween.desc).map (fun z => z.parameters.length) = some 3 := by decide +kernel
theorem mh_X1_isBetween : yX1_isBetween.cls ≠ "java/lang/invoke/MethodHandle" ∧ yX1_isBetween.cls ≠ "java/lang/invoke/VarHandle" := by decide +kernel
theorem pn_X1_requireIndex : (parseMethodDescriptor yX1_requireIndex.desc).map (fun z => z.parameters.length) = some 1 := by decide +kernel
theorem mh_X1_requireIndex : yX1_requireIndex.cls ≠ "java/lang/invoke/MethodHandle" ∧ yX1_requireIndex.cls ≠ "java/lang/invoke/VarHandle" := by decide +kernel
theorem pn_X1_periodOf : (parseMethodDescriptor yX1_periodOf.desc).map (fun z => z.parameters.length) = some 1 := by decide +kernel
theorem mh_X1_periodOf : yX1_periodOf.cls ≠ "java/lang/invoke/MethodHandle" ∧ yX1_periodOf.cls ≠ "java/lang/invoke/VarHandle" := by decide +kernel
theorem pn_X1_doMeet : (parseMethodDescriptor yX1_doMeet.desc).map (fun z => z.parameters.length) = some 4 := by decide +kernel
theorem mh_X1_doMeet : yX1_doMeet.cls ≠ "java/lang/invoke/MethodHandle" ∧ yX1_doMeet.cls ≠ "java/lang/invoke/VarHandle" := by decide +kernel
theorem pn_X1_commonDivisor : (parseMethodDescriptor yX1_commonDivisor.desc).map (fun z => z.parameters.length) = some 2 := by decide +kernel
theorem mh_X1_commonDivisor : yX1_commonDivisor.cls ≠ "java/lang/invoke/MethodHandle" ∧ yX1_commonDivisor.cls ≠ "java/lang/invoke/VarHandle" := by decide +kernel
theorem pn_X1_legCount : (parseMethodDescriptor yX1_legCount.desc).map (fun z => z.parameters.length) = some 0 := by decide +kernel
theorem mh_X1_legCount : yX1_legCount.cls ≠ "java/lang/invoke/MethodHandle" ∧ yX1_legCount.cls ≠ "java/lang/invoke/VarHandle" := by decide +kernel
theorem pn_X1_save : (parseMethodDescriptor yX1_save.desc).map (fun z => z.parameters.length) = some 0 := by decide +kernel
theorem mh_X1_save : yX1_save.cls ≠ "java/lang/invoke/MethodHandle" ∧ yX1_save.cls ≠ "java/lang/invoke/VarHandle" := by decide +kernel
theorem pn_X1_addPendulum : (parseMethodDescriptor yX1_addPendulum.desc).map (fun z => z.parameters.length) = some 1 := by decide +kernel
theorem mh_X1_addPendulum : yX1_addPendulum.cls ≠ "java/lang/invoke/MethodHandle" ∧ yX1_addPendulum.cls ≠ "java/lang/invoke/VarHandle" := by decide +kernel
theorem pn_X1_lambda_addPendulum_0 : (parseMethodDescriptor yX1_lambda_addPendulum_0.desc).map (fun z => z.parameters.length) = some 2 := by decide +kernel
theorem mh_X1_lambda_addPendulum_0 : yX1_lambda_addPendulum_0.cls ≠ "java/lang/invoke/MethodHandle" ∧ yX1_lambda_addPendulum_0.cls ≠ "java/lang/invoke/VarHandle" := by decide +kernel
theorem pn_X1_requireArgument : (parseMethodDescriptor yX1_requireArgument.desc).map (fun z => z.parameters.length) = some 1 := by decide +kernel
theorem mh_X1_requireArgument : yX1_requireArgument.cls ≠ "java/lang/invoke/MethodHandle" ∧ yX1_requireArgument.cls ≠ "java/lang/invoke/VarHandle" := by decide +kernel
theorem pn_X1_requireState : (parseMethodDescriptor yX1_requireState.desc).map (fun z => z.parameters.length) = some 1 := by decide +kernel
theorem mh_X1_requireState : yX1_requireState.cls ≠ "java/lang/invoke/MethodHandle" ∧ yX1_requireState.cls ≠ "java/lang/invoke/VarHandle" := by decide +kernel
theorem pn_X1_modify : (parseMethodDescriptor yX1_modify.desc).map (fun z => z.parameters.length) = some 1 := by decide +kernel
theorem mh_X1_modify : yX1_modify.cls ≠ "java/lang/invoke/MethodHandle" ∧ yX1_modify.cls ≠ "java/lang/invoke/VarHandle" := by decide +kernel
theorem pn_X1_commit : (parseMethodDescriptor yX1_commit.desc).map (fun z => z.parameters.length) = some 2 := by decide +kernel
theorem mh_X1_commit : yX1_commit.cls ≠ "java/lang/invoke/MethodHandle" ∧ yX1_commit.cls ≠ "java/lang/invoke/VarHandle" := by decide +kernel
theorem pn_X1_push : (parseMethodDescriptor yX1_push.desc).map (fun z => z.parameters.length) = some 2 := by decide +kernel
theorem mh_X1_push : yX1_push.cls ≠ "java/lang/invoke/MethodHandle" ∧ yX1_push.cls ≠ "java/lang/invoke/VarHandle" := by decide +kernel
theorem pn_X1_lambda_push_1 : (parseMethodDescriptor yX1_lambda_push_1.desc).map (fun z => z.parameters.length) = some 3 := by decide +kernel
theorem mh_X1_lambda_push_1 : yX1_lambda_push_1.cls ≠ "java/lang/invoke/MethodHandle" ∧ yX1_lambda_push_1.cls ≠ "java/lang/invoke/VarHandle" := by decide +kernel
theorem pn_X1_catchPendulum : (parseMethodDescriptor yX1_catchPendulum.desc).map (fun z => z.parameters.length) = some 1 := by decide +kernel
theorem mh_X1_catchPendulum : yX1_catchPendulum.cls ≠ "java/lang/invoke/MethodHandle" ∧ yX1_catchPendulum.cls ≠ "java/lang/invoke/VarHandle" := by decide +kernel
theorem pn_X1_lambda_catchPendulum_2 : (parseMethodDescriptor yX1_lambda_catchPendulum_2.desc).map (fun z => z.parameters.length) = some 2 := by decide +kernel
theorem mh_X1_lambda_catchPendulum_2 : yX1_lambda_catchPendulum_2.cls ≠ "java/lang/invoke/MethodHandle" ∧ yX1_lambda_catchPendulum_2.cls ≠ "java/lang/invoke/VarHandle" := by decide +kernel
theorem pn_X1_setFriction : (parseMethodDescriptor yX1_setFriction.desc).map (fun z => z.parameters.length) = some 1 := by decide +kernel
theorem mh_X1_setFriction : yX1_setFriction.cls ≠ "java/lang/invoke/MethodHandle" ∧ yX1_setFriction.cls ≠ "java/lang/invoke/VarHandle" := by decide +kernel
theorem pn_X1_lambda_setFriction_3 : (parseMethodDescriptor yX1_lambda_setFriction_3.desc).map (fun z => z.parameters.length) = some 2 := by decide +kernel
theorem mh_X1_lambda_setFriction_3 : yX1_lambda_setFriction_3.cls ≠ "java/lang/invoke/MethodHandle" ∧ yX1_lambda_setFriction_3.cls ≠ "java/lang/invoke/VarHandle" := by decide +kernel
theorem pn_X1_pass : (parseMethodDescriptor yX1_pass.desc).map (fun z => z.parameters.length) = some 1 := by decide +kernel
theorem mh_X1_pass : yX1_pass.cls ≠ "java/lang/invoke/MethodHandle" ∧ yX1_pass.cls ≠ "java/lang/invoke/VarHandle" := by decide +kernel
theorem pn_X1_lambda_pass_4 : (parseMethodDescriptor yX1_lambda_pass_4.desc).map (fun z => z.parameters.length) = some 2 := by decide +kernel
theorem mh_X1_lambda_pass_4 : yX1_lambda_pass_4.cls ≠ "java/lang/invoke/MethodHandle" ∧ yX1_lambda_pass_4.cls ≠ "java/lang/invoke/VarHandle" := by decide +kernel
theorem pn_X1_loss : (parseMethodDescriptor yX1_loss.desc).map (fun z => z.parameters.length) = some 2 := by decide +kernel
theorem mh_X1_loss : yX1_loss.cls ≠ "java/lang/invoke/MethodHandle" ∧ yX1_loss.cls ≠ "java/lang/invoke/VarHandle" := by decide +kernel
theorem pn_X1_lengthOf : (parseMethodDescriptor yX1_lengthOf.desc).map (fun z => z.parameters.length) = some 1 := by decide +kernel
theorem mh_X1_lengthOf : yX1_lengthOf.cls ≠ "java/lang/invoke/MethodHandle" ∧ yX1_lengthOf.cls ≠ "java/lang/invoke/VarHandle" := by decide +kernel
theorem pn_X1_classOf : (parseMethodDescriptor yX1_classOf.desc).map (fun z => z.parameters.length) = some 1 := by decide +kernel
theorem mh_X1_classOf : yX1_classOf.cls ≠ "java/lang/invoke/MethodHandle" ∧ yX1_classOf.cls ≠ "java/lang/invoke/VarHandle" := by decide +kernel
theorem pn_X1_amplitudeOf : (parseMethodDescriptor yX1_amplitudeOf.desc).map (fun z => z.parameters.length) = some 1 := by decide +kernel
theorem mh_X1_amplitudeOf : yX1_amplitudeOf.cls ≠ "java/lang/invoke/MethodHandle" ∧ yX1_amplitudeOf.cls ≠ "java/lang/invoke/VarHandle" := by decide +kernel
theorem pn_X1_startOf : (parseMethodDescriptor yX1_startOf.desc).map (fun z => z.parameters.length) = some 1 := by decide +kernel
theorem mh_X1_startOf : yX1_startOf.cls ≠ "java/lang/invoke/MethodHandle" ∧ yX1_startOf.cls ≠ "java/lang/invoke/VarHandle" := by decide +kernel
theorem pn_X1_requireElement : (parseMethodDescriptor yX1_requireElement.desc).map (fun z => z.parameters.length) = some 1 := by decide +kernel
theorem mh_X1_requireElement : yX1_requireElement.cls ≠ "java/lang/invoke/MethodHandle" ∧ yX1_requireElement.cls ≠ "java/lang/invoke/VarHandle" := by decide +kernel
theorem pn_X1_periodByEstimates : (parseMethodDescriptor yX1_periodByEstimates.desc).map (fun z => z.parameters.length) = some 1 := by decide +kernel
theorem mh_X1_periodByEstimates : yX1_periodByEstimates.cls ≠ "java/lang/invoke/MethodHandle" ∧ yX1_periodByEstimates.cls ≠ "java/lang/invoke/VarHandle" := by decide +kernel
theorem pn_X1_swingsOf : (parseMethodDescriptor yX1_swingsOf.desc).map (fun z => z.parameters.length) = some 1 := by decide +kernel
theorem mh_X1_swingsOf : yX1_swingsOf.cls ≠ "java/lang/invoke/MethodHandle" ∧ yX1_swingsOf.cls ≠ "java/lang/invoke/VarHandle" := by decide +kernel
theorem pn_X1_recordOf : (parseMethodDescriptor yX1_recordOf.desc).map (fun z => z.parameters.length) = some 1 := by decide +kernel
theorem mh_X1_recordOf : yX1_recordOf.cls ≠ "java/lang/invoke/MethodHandle" ∧ yX1_recordOf.cls ≠ "java/lang/invoke/VarHandle" := by decide +kernel
theorem pn_X1_requireKind : (parseMethodDescriptor yX1_requireKind.desc).map (fun z => z.parameters.length) = some 1 := by decide +kernel
theorem mh_X1_requireKind : yX1_requireKind.cls ≠ "java/lang/invoke/MethodHandle" ∧ yX1_requireKind.cls ≠ "java/lang/invoke/VarHandle" := by decide +kernel
theorem pn_X1_holderOf : (parseMethodDescriptor yX1_holderOf.desc).map (fun z => z.parameters.length) = some 1 := by decide +kernel
theorem mh_X1_holderOf : yX1_holderOf.cls ≠ "java/lang/invoke/MethodHandle" ∧ yX1_holderOf.cls ≠ "java/lang/invoke/VarHandle" := by decide +kernel
theorem pn_X1_pendulumAtRank : (parseMethodDescriptor yX1_pendulumAtRank.desc).map (fun z => z.parameters.length) = some 1 := by decide +kernel
theorem mh_X1_pendulumAtRank : yX1_pendulumAtRank.cls ≠ "java/lang/invoke/MethodHandle" ∧ yX1_pendulumAtRank.cls ≠ "java/lang/invoke/VarHandle" := by decide +kernel
theorem pn_X1_swingsToRest : (parseMethodDescriptor yX1_swingsToRest.desc).map (fun z => z.parameters.length) = some 1 := by decide +kernel
theorem mh_X1_swingsToRest : yX1_swingsToRest.cls ≠ "java/lang/invoke/MethodHandle" ∧ yX1_swingsToRest.cls ≠ "java/lang/invoke/VarHandle" := by decide +kernel
theorem pn_X1_swingsToRestByTable : (parseMethodDescriptor yX1_swingsToRestByTable.desc).map (fun z => z.parameters.length) = some 1 := by decide +kernel
theorem mh_X1_swingsToRestByTable : yX1_swingsToRestByTable.cls ≠ "java/lang/invoke/MethodHandle" ∧ yX1_swingsToRestByTable.cls ≠ "java/lang/invoke/VarHandle" := by decide +kernel
theorem pn_X1_restTick : (parseMethodDescriptor yX1_restTick.desc).map (fun z => z.parameters.length) = some 1 := by decide +kernel
theorem mh_X1_restTick : yX1_restTick.cls ≠ "java/lang/invoke/MethodHandle" ∧ yX1_restTick.cls ≠ "java/lang/invoke/VarHandle" := by decide +kernel
theorem pn_X1_amplitudeAfter : (parseMethodDescriptor yX1_amplitudeAfter.desc).map (fun z => z.parameters.length) = some 2 := by decide +kernel
theorem mh_X1_amplitudeAfter : yX1_amplitudeAfter.cls ≠ "java/lang/invoke/MethodHandle" ∧ yX1_amplitudeAfter.cls ≠ "java/lang/invoke/VarHandle" := by decide +kernel
theorem pn_X1_meeting : (parseMethodDescriptor yX1_meeting.desc).map (fun z => z.parameters.length) = some 2 := by decide +kernel
theorem mh_X1_meeting : yX1_meeting.cls ≠ "java/lang/invoke/MethodHandle" ∧ yX1_meeting.cls ≠ "java/lang/invoke/VarHandle" := by decide +kernel
theorem pn_X1_isSwingTick : (parseMethodDescriptor yX1_isSwingTick.desc).map (fun z => z.parameters.length) = some 3 := by decide +kernel
theorem mh_X1_isSwingTick : yX1_isSwingTick.cls ≠ "java/lang/invoke/MethodHandle" ∧ yX1_isSwingTick.cls ≠ "java/lang/invoke/VarHandle" := by decide +kernel
theorem pn_X1_meetingByDivisors : (parseMethodDescriptor yX1_meetingByDivisors.desc).map (fun z => z.parameters.length) = some 2 := by decide +kernel
theorem mh_X1_meetingByDivisors : yX1_meetingByDivisors.cls ≠ "java/lang/invoke/MethodHandle" ∧ yX1_meetingByDivisors.cls ≠ "java/lang/invoke/VarHandle" := by decide +kernel
theorem pn_X1_commonMultiple : (parseMethodDescriptor yX1_commonMultiple.desc).map (fun z => z.parameters.length) = some 2 := by decide +kernel
theorem mh_X1_commonMultiple : yX1_commonMultiple.cls ≠ "java/lang/invoke/MethodHandle" ∧ yX1_commonMultiple.cls ≠ "java/lang/invoke/VarHandle" := by decide +kernel
theorem pn_X1_cycleOf : (parseMethodDescriptor yX1_cycleOf.desc).map (fun z => z.parameters.length) = some 2 := by decide +kernel
theorem mh_X1_cycleOf : yX1_cycleOf.cls ≠ "java/lang/invoke/MethodHandle" ∧ yX1_cycleOf.cls ≠ "java/lang/invoke/VarHandle" := by decide +kernel
theorem pn_X1_addLeg : (parseMethodDescriptor yX1_addLeg.desc).map (fun z => z.parameters.length) = some 1 := by decide +kernel
theorem mh_X1_addLeg : yX1_addLeg.cls ≠ "java/lang/invoke/MethodHandle" ∧ yX1_addLeg.cls ≠ "java/lang/invoke/VarHandle" := by decide +kernel
theorem pn_X1_lambda_addLeg_5 : (parseMethodDescriptor yX1_lambda_addLeg_5.desc).map (fun z => z.parameters.length) = some 2 := by decide +kernel
theorem mh_X1_lambda_addLeg_5 : yX1_lambda_addLeg_5.cls ≠ "java/lang/invoke/MethodHandle" ∧ yX1_lambda_addLeg_5.cls ≠ "java/lang/invoke/VarHandle" := by decide +kernel
theorem pn_X1_removeLeg : (parseMethodDescriptor yX1_removeLeg.desc).map (fun z => z.parameters.length) = some 1 := by decide +kernel
theorem mh_X1_removeLeg : yX1_removeLeg.cls ≠ "java/lang/invoke/MethodHandle" ∧ yX1_removeLeg.cls ≠ "java/lang/invoke/VarHandle" := by decide +kernel
theorem pn_X1_lambda_removeLeg_6 : (parseMethodDescriptor yX1_lambda_removeLeg_6.desc).map (fun z => z.parameters.length) = some 2 := by decide +kernel
theorem mh_X1_lambda_removeLeg_6 : yX1_lambda_removeLeg_6.cls ≠ "java/lang/invoke/MethodHandle" ∧ yX1_lambda_removeLeg_6.cls ≠ "java/lang/invoke/VarHandle" := by decide +kernel
theorem pn_X1_wishOf : (parseMethodDescriptor yX1_wishOf.desc).map (fun z => z.parameters.length) = some 1 := by decide +kernel
theorem mh_X1_wishOf : yX1_wishOf.cls ≠ "java/lang/invoke/MethodHandle" ∧ yX1_wishOf.cls ≠ "java/lang/invoke/VarHandle" := by decide +kernel
theorem pn_X1_leastRelay : (parseMethodDescriptor yX1_leastRelay.desc).map (fun z => z.parameters.length) = some 0 := by decide +kernel
theorem mh_X1_leastRelay : yX1_leastRelay.cls ≠ "java/lang/invoke/MethodHandle" ∧ yX1_leastRelay.cls ≠ "java/lang/invoke/VarHandle" := by decide +kernel
theorem pn_X1_requireRelay : (parseMethodDescriptor yX1_requireRelay.desc).map (fun z => z.parameters.length) = some 0 := by decide +kernel
theorem mh_X1_requireRelay : yX1_requireRelay.cls ≠ "java/lang/invoke/MethodHandle" ∧ yX1_requireRelay.cls ≠ "java/lang/invoke/VarHandle" := by decide +kernel
theorem pn_X1_relayTable : (parseMethodDescriptor yX1_relayTable.desc).map (fun z => z.parameters.length) = some 0 := by decide +kernel
theorem mh_X1_relayTable : yX1_relayTable.cls ≠ "java/lang/invoke/MethodHandle" ∧ yX1_relayTable.cls ≠ "java/lang/invoke/VarHandle" := by decide +kernel
theorem pn_X1_legCost : (parseMethodDescriptor yX1_legCost.desc).map (fun z => z.parameters.length) = some 0 := by decide +kernel
theorem mh_X1_legCost : yX1_legCost.cls ≠ "java/lang/invoke/MethodHandle" ∧ yX1_legCost.cls ≠ "java/lang/invoke/VarHandle" := by decide +kernel
theorem pn_X1_lambda_legCost_7 : (parseMethodDescriptor yX1_lambda_legCost_7.desc).map (fun z => z.parameters.length) = some 4 := by decide +kernel
theorem mh_X1_lambda_legCost_7 : yX1_lambda_legCost_7.cls ≠ "java/lang/invoke/MethodHandle" ∧ yX1_lambda_legCost_7.cls ≠ "java/lang/invoke/VarHandle" := by decide +kernel
theorem pn_X1_leastRelayByTrying : (parseMethodDescriptor yX1_leastRelayByTrying.desc).map (fun z => z.parameters.length) = some 0 := by decide +kernel
theorem mh_X1_leastRelayByTrying : yX1_leastRelayByTrying.cls ≠ "java/lang/invoke/MethodHandle" ∧ yX1_leastRelayByTrying.cls ≠ "java/lang/invoke/VarHandle" := by decide +kernel
theorem pn_X1_runnerOf : (parseMethodDescriptor yX1_runnerOf.desc).map (fun z => z.parameters.length) = some 1 := by decide +kernel
theorem mh_X1_runnerOf : yX1_runnerOf.cls ≠ "java/lang/invoke/MethodHandle" ∧ yX1_runnerOf.cls ≠ "java/lang/invoke/VarHandle" := by decide +kernel
theorem pn_X1_runner : (parseMethodDescriptor yX1_runner.desc).map (fun z => z.parameters.length) = some 5 := by decide +kernel
theorem mh_X1_runner : yX1_runner.cls ≠ "java/lang/invoke/MethodHandle" ∧ yX1_runner.cls ≠ "java/lang/invoke/VarHandle" := by decide +kernel
theorem pn_X1_fewestFor : (parseMethodDescriptor yX1_fewestFor.desc).map (fun z => z.parameters.length) = some 1 := by decide +kernel
theorem mh_X1_fewestFor : yX1_fewestFor.cls ≠ "java/lang/invoke/MethodHandle" ∧ yX1_fewestFor.cls ≠ "java/lang/invoke/VarHandle" := by decide +kernel
theorem pn_X1_requireSwings : (parseMethodDescriptor yX1_requireSwings.desc).map (fun z => z.parameters.length) = some 2 := by decide +kernel
theorem mh_X1_requireSwings : yX1_requireSwings.cls ≠ "java/lang/invoke/MethodHandle" ∧ yX1_requireSwings.cls ≠ "java/lang/invoke/VarHandle" := by decide +kernel
theorem pn_X1_weekSwings : (parseMethodDescriptor yX1_weekSwings.desc).map (fun z => z.parameters.length) = some 0 := by decide +kernel
theorem mh_X1_weekSwings : yX1_weekSwings.cls ≠ "java/lang/invoke/MethodHandle" ∧ yX1_weekSwings.cls ≠ "java/lang/invoke/VarHandle" := by decide +kernel
theorem pn_X1_fewestForBySets : (parseMethodDescriptor yX1_fewestForBySets.desc).map (fun z => z.parameters.length) = some 1 := by decide +kernel
theorem mh_X1_fewestForBySets : yX1_fewestForBySets.cls ≠ "java/lang/invoke/MethodHandle" ∧ yX1_fewestForBySets.cls ≠ "java/lang/invoke/VarHandle" := by decide +kernel
theorem pn_X1_lambda_fewestForBySets_8 : (parseMethodDescriptor yX1_lambda_fewestForBySets_8.desc).map (fun z => z.parameters.length) = some 2 := by decide +kernel
theorem mh_X1_lambda_fewestForBySets_8 : yX1_lambda_fewestForBySets_8.cls ≠ "java/lang/invoke/MethodHandle" ∧ yX1_lambda_fewestForBySets_8.cls ≠ "java/lang/invoke/VarHandle" := by decide +kernel
theorem pn_X1_sum : (parseMethodDescriptor yX1_sum.desc).map (fun z => z.parameters.length) = some 2 := by decide +kernel
theorem mh_X1_sum : yX1_sum.cls ≠ "java/lang/invoke/MethodHandle" ∧ yX1_sum.cls ≠ "java/lang/invoke/VarHandle" := by decide +kernel
theorem pn_X1_exactSets : (parseMethodDescriptor yX1_exactSets.desc).map (fun z => z.parameters.length) = some 1 := by decide +kernel
theorem mh_X1_exactSets : yX1_exactSets.cls ≠ "java/lang/invoke/MethodHandle" ∧ yX1_exactSets.cls ≠ "java/lang/invoke/VarHandle" := by decide +kernel
theorem pn_X1_lambda_exactSets_9 : (parseMethodDescriptor yX1_lambda_exactSets_9.desc).map (fun z => z.parameters.length) = some 2 := by decide +kernel
theorem mh_X1_lambda_exactSets_9 : yX1_lambda_exactSets_9.cls ≠ "java/lang/invoke/MethodHandle" ∧ yX1_lambda_exactSets_9.cls ≠ "java/lang/invoke/VarHandle" := by decide +kernel
theorem pn_X1_meanAmplitude : (parseMethodDescriptor yX1_meanAmplitude.desc).map (fun z => z.parameters.length) = some 0 := by decide +kernel
theorem mh_X1_meanAmplitude : yX1_meanAmplitude.cls ≠ "java/lang/invoke/MethodHandle" ∧ yX1_meanAmplitude.cls ≠ "java/lang/invoke/VarHandle" := by decide +kernel
theorem pn_X1_writeCard : (parseMethodDescriptor yX1_writeCard.desc).map (fun z => z.parameters.length) = some 1 := by decide +kernel
theorem mh_X1_writeCard : yX1_writeCard.cls ≠ "java/lang/invoke/MethodHandle" ∧ yX1_writeCard.cls ≠ "java/lang/invoke/VarHandle" := by decide +kernel
theorem pn_X1_cardAt : (parseMethodDescriptor yX1_cardAt.desc).map (fun z => z.parameters.length) = some 1 := by decide +kernel
theorem mh_X1_cardAt : yX1_cardAt.cls ≠ "java/lang/invoke/MethodHandle" ∧ yX1_cardAt.cls ≠ "java/lang/invoke/VarHandle" := by decide +kernel
theorem pn_X1_type : (parseMethodDescriptor yX1_type.desc).map (fun z => z.parameters.length) = some 1 := by decide +kernel
theorem mh_X1_type : yX1_type.cls ≠ "java/lang/invoke/MethodHandle" ∧ yX1_type.cls ≠ "java/lang/invoke/VarHandle" := by decide +kernel
theorem pn_X1_execute : (parseMethodDescriptor yX1_execute.desc).map (fun z => z.parameters.length) = some 0 := by decide +kernel
theorem mh_X1_execute : yX1_execute.cls ≠ "java/lang/invoke/MethodHandle" ∧ yX1_execute.cls ≠ "java/lang/invoke/VarHandle" := by decide +kernel
theorem pn_X1_lambda_execute_10 : (parseMethodDescriptor yX1_lambda_execute_10.desc).map (fun z => z.parameters.length) = some 2 := by decide +kernel
theorem mh_X1_lambda_execute_10 : yX1_lambda_execute_10.cls ≠ "java/lang/invoke/MethodHandle" ∧ yX1_lambda_execute_10.cls ≠ "java/lang/invoke/VarHandle" := by decide +kernel
theorem pn_X1_applyAll : (parseMethodDescriptor yX1_applyAll.desc).map (fun z => z.parameters.length) = some 2 := by decide +kernel
theorem mh_X1_applyAll : yX1_applyAll.cls ≠ "java/lang/invoke/MethodHandle" ∧ yX1_applyAll.cls ≠ "java/lang/invoke/VarHandle" := by decide +kernel
theorem pn_X1_applies : (parseMethodDescriptor yX1_applies.desc).map (fun z => z.parameters.length) = some 2 := by decide +kernel
theorem mh_X1_applies : yX1_applies.cls ≠ "java/lang/invoke/MethodHandle" ∧ yX1_applies.cls ≠ "java/lang/invoke/VarHandle" := by decide +kernel
theorem pn_X1_errorPosition : (parseMethodDescriptor yX1_errorPosition.desc).map (fun z => z.parameters.length) = some 0 := by decide +kernel
theorem mh_X1_errorPosition : yX1_errorPosition.cls ≠ "java/lang/invoke/MethodHandle" ∧ yX1_errorPosition.cls ≠ "java/lang/invoke/VarHandle" := by decide +kernel
theorem pn_X1_failedCommand : (parseMethodDescriptor yX1_failedCommand.desc).map (fun z => z.parameters.length) = some 0 := by decide +kernel
theorem mh_X1_failedCommand : yX1_failedCommand.cls ≠ "java/lang/invoke/MethodHandle" ∧ yX1_failedCommand.cls ≠ "java/lang/invoke/VarHandle" := by decide +kernel
theorem pn_X1_undo : (parseMethodDescriptor yX1_undo.desc).map (fun z => z.parameters.length) = some 0 := by decide +kernel
theorem mh_X1_undo : yX1_undo.cls ≠ "java/lang/invoke/MethodHandle" ∧ yX1_undo.cls ≠ "java/lang/invoke/VarHandle" := by decide +kernel
theorem pn_X1_restore : (parseMethodDescriptor yX1_restore.desc).map (fun z => z.parameters.length) = some 0 := by decide +kernel
theorem mh_X1_restore : yX1_restore.cls ≠ "java/lang/invoke/MethodHandle" ∧ yX1_restore.cls ≠ "java/lang/invoke/VarHandle" := by decide +kernel
theorem pn_X2_init : (parseMethodDescriptor yX2_init.desc).map (fun z => z.parameters.length) = some 0 := by decide +kernel
theorem mh_X2_init : yX2_init.cls ≠ "java/lang/invoke/MethodHandle" ∧ yX2_init.cls ≠ "java/lang/invoke/VarHandle" := by decide +kernel
theorem pn_X2_pendulum : (parseMethodDescriptor yX2_pendulum.desc).map (fun z => z.parameters.length) = some 1 := by decide +kernel
theorem mh_X2_pendulum : yX2_pendulum.cls ≠ "java/lang/invoke/MethodHandle" ∧ yX2_pendulum.cls ≠ "java/lang/invoke/VarHandle" := by decide +kernel
theorem pn_X2_swinging : (parseMethodDescriptor yX2_swinging.desc).map (fun z => z.parameters.length) = some 1 := by decide +kernel
theorem mh_X2_swinging : yX2_swinging.cls ≠ "java/lang/invoke/MethodHandle" ∧ yX2_swinging.cls ≠ "java/lang/invoke/VarHandle" := by decide +kernel
theorem pn_X2_copy : (parseMethodDescriptor yX2_copy.desc).map (fun z => z.parameters.length) = some 0 := by decide +kernel
theorem mh_X2_copy : yX2_copy.cls ≠ "java/lang/invoke/MethodHandle" ∧ yX2_copy.cls ≠ "java/lang/invoke/VarHandle" := by decide +kernel
theorem pn_X2_addPendulum : (parseMethodDescriptor yX2_addPendulum.desc).map (fun z => z.parameters.length) = some 1 := by decide +kernel
theorem mh_X2_addPendulum : yX2_addPendulum.cls ≠ "java/lang/invoke/MethodHandle" ∧ yX2_addPendulum.cls ≠ "java/lang/invoke/VarHandle" := by decide +kernel
theorem pn_X2_push : (parseMethodDescriptor yX2_push.desc).map (fun z => z.parameters.length) = some 2 := by decide +kernel
theorem mh_X2_push : yX2_push.cls ≠ "java/lang/invoke/MethodHandle" ∧ yX2_push.cls ≠ "java/lang/invoke/VarHandle" := by decide +kernel
theorem pn_X2_catchPendulum : (parseMethodDescriptor yX2_catchPendulum.desc).map (fun z => z.parameters.length) = some 1 := by decide +kernel
theorem mh_X2_catchPendulum : yX2_catchPendulum.cls ≠ "java/lang/invoke/MethodHandle" ∧ yX2_catchPendulum.cls ≠ "java/lang/invoke/VarHandle" := by decide +kernel
theorem pn_X2_setFriction : (parseMethodDescriptor yX2_setFriction.desc).map (fun z => z.parameters.length) = some 1 := by decide +kernel
theorem mh_X2_setFriction : yX2_setFriction.cls ≠ "java/lang/invoke/MethodHandle" ∧ yX2_setFriction.cls ≠ "java/lang/invoke/VarHandle" := by decide +kernel
theorem pn_X2_pass : (parseMethodDescriptor yX2_pass.desc).map (fun z => z.parameters.length) = some 1 := by decide +kernel
theorem mh_X2_pass : yX2_pass.cls ≠ "java/lang/invoke/MethodHandle" ∧ yX2_pass.cls ≠ "java/lang/invoke/VarHandle" := by decide +kernel
theorem pn_X2_addLeg : (parseMethodDescriptor yX2_addLeg.desc).map (fun z => z.parameters.length) = some 1 := by decide +kernel
theorem mh_X2_addLeg : yX2_addLeg.cls ≠ "java/lang/invoke/MethodHandle" ∧ yX2_addLeg.cls ≠ "java/lang/invoke/VarHandle" := by decide +kernel
theorem pn_X2_removeLeg : (parseMethodDescriptor yX2_removeLeg.desc).map (fun z => z.parameters.length) = some 1 := by decide +kernel
theorem mh_X2_removeLeg : yX2_removeLeg.cls ≠ "java/lang/invoke/MethodHandle" ∧ yX2_removeLeg.cls ≠ "java/lang/invoke/VarHandle" := by decide +kernel
theorem pn_X4_period : (parseMethodDescriptor yX4_period.desc).map (fun z => z.parameters.length) = some 0 := by decide +kernel
theorem mh_X4_period : yX4_period.cls ≠ "java/lang/invoke/MethodHandle" ∧ yX4_period.cls ≠ "java/lang/invoke/VarHandle" := by decide +kernel
theorem pn_X4_copy : (parseMethodDescriptor yX4_copy.desc).map (fun z => z.parameters.length) = some 0 := by decide +kernel
theorem mh_X4_copy : yX4_copy.cls ≠ "java/lang/invoke/MethodHandle" ∧ yX4_copy.cls ≠ "java/lang/invoke/VarHandle" := by decide +kernel
theorem pn_X4_init : (parseMethodDescriptor yX4_init.desc).map (fun z => z.parameters.length) = some 2 := by decide +kernel
theorem mh_X4_init : yX4_init.cls ≠ "java/lang/invoke/MethodHandle" ∧ yX4_init.cls ≠ "java/lang/invoke/VarHandle" := by decide +kernel
theorem pn_X4_amplitude : (parseMethodDescriptor yX4_amplitude.desc).map (fun z => z.parameters.length) = some 0 := by decide +kernel
theorem mh_X4_amplitude : yX4_amplitude.cls ≠ "java/lang/invoke/MethodHandle" ∧ yX4_amplitude.cls ≠ "java/lang/invoke/VarHandle" := by decide +kernel
theorem pn_X4_tick : (parseMethodDescriptor yX4_tick.desc).map (fun z => z.parameters.length) = some 2 := by decide +kernel
theorem mh_X4_tick : yX4_tick.cls ≠ "java/lang/invoke/MethodHandle" ∧ yX4_tick.cls ≠ "java/lang/invoke/VarHandle" := by decide +kernel
theorem pn_X4_periodByEstimates : (parseMethodDescriptor yX4_periodByEstimates.desc).map (fun z => z.parameters.length) = some 0 := by decide +kernel
theorem mh_X4_periodByEstimates : yX4_periodByEstimates.cls ≠ "java/lang/invoke/MethodHandle" ∧ yX4_periodByEstimates.cls ≠ "java/lang/invoke/VarHandle" := by decide +kernel
theorem pn_X4_isAheadOf : (parseMethodDescriptor yX4_isAheadOf.desc).map (fun z => z.parameters.length) = some 1 := by decide +kernel
theorem mh_X4_isAheadOf : yX4_isAheadOf.cls ≠ "java/lang/invoke/MethodHandle" ∧ yX4_isAheadOf.cls ≠ "java/lang/invoke/VarHandle" := by decide +kernel
theorem pn_X4_weekSwings : (parseMethodDescriptor yX4_weekSwings.desc).map (fun z => z.parameters.length) = some 0 := by decide +kernel
theorem mh_X4_weekSwings : yX4_weekSwings.cls ≠ "java/lang/invoke/MethodHandle" ∧ yX4_weekSwings.cls ≠ "java/lang/invoke/VarHandle" := by decide +kernel
theorem pn_X5_init : (parseMethodDescriptor yX5_init.desc).map (fun z => z.parameters.length) = some 0 := by decide +kernel
theorem mh_X5_init : yX5_init.cls ≠ "java/lang/invoke/MethodHandle" ∧ yX5_init.cls ≠ "java/lang/invoke/VarHandle" := by decide +kernel
theorem pn_X6_of : (parseMethodDescriptor yX6_of.desc).map (fun z => z.parameters.length) = some 1 := by decide +kernel
theorem mh_X6_of : yX6_of.cls ≠ "java/lang/invoke/MethodHandle" ∧ yX6_of.cls ≠ "java/lang/invoke/VarHandle" := by decide +kernel
theorem pn_X7_init : (parseMethodDescriptor yX7_init.desc).map (fun z => z.parameters.length) = some 2 := by decide +kernel
theorem mh_X7_init : yX7_init.cls ≠ "java/lang/invoke/MethodHandle" ∧ yX7_init.cls ≠ "java/lang/invoke/VarHandle" := by decide +kernel
theorem pn_X8_init : (parseMethodDescriptor yX8_init.desc).map (fun z => z.parameters.length) = some 3 := by decide +kernel
theorem mh_X8_init : yX8_init.cls ≠ "java/lang/invoke/MethodHandle" ∧ yX8_init.cls ≠ "java/lang/invoke/VarHandle" := by decide +kernel
theorem pn_X8_leastOf : (parseMethodDescriptor yX8_leastOf.desc).map (fun z => z.parameters.length) = some 2 := by decide +kernel
theorem mh_X8_leastOf : yX8_leastOf.cls ≠ "java/lang/invoke/MethodHandle" ∧ yX8_leastOf.cls ≠ "java/lang/invoke/VarHandle" := by decide +kernel
theorem pn_X8_without : (parseMethodDescriptor yX8_without.desc).map (fun z => z.parameters.length) = some 2 := by decide +kernel
theorem mh_X8_without : yX8_without.cls ≠ "java/lang/invoke/MethodHandle" ∧ yX8_without.cls ≠ "java/lang/invoke/VarHandle" := by decide +kernel
theorem pn_X9_init : (parseMethodDescriptor yX9_init.desc).map (fun z => z.parameters.length) = some 3 := by decide +kernel
theorem mh_X9_init : yX9_init.cls ≠ "java/lang/invoke/MethodHandle" ∧ yX9_init.cls ≠ "java/lang/invoke/VarHandle" := by decide +kernel
theorem pn_X9_search : (parseMethodDescriptor yX9_search.desc).map (fun z => z.parameters.length) = some 3 := by decide +kernel
theorem mh_X9_search : yX9_search.cls ≠ "java/lang/invoke/MethodHandle" ∧ yX9_search.cls ≠ "java/lang/invoke/VarHandle" := by decide +kernel
theorem pn_X10_init : (parseMethodDescriptor yX10_init.desc).map (fun z => z.parameters.length) = some 1 := by decide +kernel
theorem mh_X10_init : yX10_init.cls ≠ "java/lang/invoke/MethodHandle" ∧ yX10_init.cls ≠ "java/lang/invoke/VarHandle" := by decide +kernel
theorem pn_X10_program : (parseMethodDescriptor yX10_program.desc).map (fun z => z.parameters.length) = some 0 := by decide +kernel
theorem mh_X10_program : yX10_program.cls ≠ "java/lang/invoke/MethodHandle" ∧ yX10_program.cls ≠ "java/lang/invoke/VarHandle" := by decide +kernel
theorem pn_X10_command : (parseMethodDescriptor yX10_command.desc).map (fun z => z.parameters.length) = some 0 := by decide +kernel
theorem mh_X10_command : yX10_command.cls ≠ "java/lang/invoke/MethodHandle" ∧ yX10_command.cls ≠ "java/lang/invoke/VarHandle" := by decide +kernel
theorem pn_X10_peek : (parseMethodDescriptor yX10_peek.desc).map (fun z => z.parameters.length) = some 0 := by decide +kernel
theorem mh_X10_peek : yX10_peek.cls ≠ "java/lang/invoke/MethodHandle" ∧ yX10_peek.cls ≠ "java/lang/invoke/VarHandle" := by decide +kernel
theorem pn_X10_hanging : (parseMethodDescriptor yX10_hanging.desc).map (fun z => z.parameters.length) = some 0 := by decide +kernel
theorem mh_X10_hanging : yX10_hanging.cls ≠ "java/lang/invoke/MethodHandle" ∧ yX10_hanging.cls ≠ "java/lang/invoke/VarHandle" := by decide +kernel
theorem pn_X10_number : (parseMethodDescriptor yX10_number.desc).map (fun z => z.parameters.length) = some 2 := by decide +kernel
theorem mh_X10_number : yX10_number.cls ≠ "java/lang/invoke/MethodHandle" ∧ yX10_number.cls ≠ "java/lang/invoke/VarHandle" := by decide +kernel
theorem pn_X10_expect : (parseMethodDescriptor yX10_expect.desc).map (fun z => z.parameters.length) = some 1 := by decide +kernel
theorem mh_X10_expect : yX10_expect.cls ≠ "java/lang/invoke/MethodHandle" ∧ yX10_expect.cls ≠ "java/lang/invoke/VarHandle" := by decide +kernel
theorem pn_X10_lambda_hanging_0 : (parseMethodDescriptor yX10_lambda_hanging_0.desc).map (fun z => z.parameters.length) = some 2 := by decide +kernel
theorem mh_X10_lambda_hanging_0 : yX10_lambda_hanging_0.cls ≠ "java/lang/invoke/MethodHandle" ∧ yX10_lambda_hanging_0.cls ≠ "java/lang/invoke/VarHandle" := by decide +kernel
theorem pn_X10_pushing : (parseMethodDescriptor yX10_pushing.desc).map (fun z => z.parameters.length) = some 0 := by decide +kernel
theorem mh_X10_pushing : yX10_pushing.cls ≠ "java/lang/invoke/MethodHandle" ∧ yX10_pushing.cls ≠ "java/lang/invoke/VarHandle" := by decide +kernel
theorem pn_X10_lambda_pushing_1 : (parseMethodDescriptor yX10_lambda_pushing_1.desc).map (fun z => z.parameters.length) = some 3 := by decide +kernel
theorem mh_X10_lambda_pushing_1 : yX10_lambda_pushing_1.cls ≠ "java/lang/invoke/MethodHandle" ∧ yX10_lambda_pushing_1.cls ≠ "java/lang/invoke/VarHandle" := by decide +kernel
theorem pn_X10_catchingOrCutting : (parseMethodDescriptor yX10_catchingOrCutting.desc).map (fun z => z.parameters.length) = some 0 := by decide +kernel
theorem mh_X10_catchingOrCutting : yX10_catchingOrCutting.cls ≠ "java/lang/invoke/MethodHandle" ∧ yX10_catchingOrCutting.cls ≠ "java/lang/invoke/VarHandle" := by decide +kernel
theorem pn_X10_lambda_catchingOrCutting_2 : (parseMethodDescriptor yX10_lambda_catchingOrCutting_2.desc).map (fun z => z.parameters.length) = some 2 := by decide +kernel
theorem mh_X10_lambda_catchingOrCutting_2 : yX10_lambda_catchingOrCutting_2.cls ≠ "java/lang/invoke/MethodHandle" ∧ yX10_lambda_catchingOrCutting_2.cls ≠ "java/lang/invoke/VarHandle" := by decide +kernel
theorem pn_X10_lambda_catchingOrCutting_3 : (parseMethodDescriptor yX10_lambda_catchingOrCutting_3.desc).map (fun z => z.parameters.length) = some 2 := by decide +kernel
theorem mh_X10_lambda_catchingOrCutting_3 : yX10_lambda_catchingOrCutting_3.cls ≠ "java/lang/invoke/MethodHandle" ∧ yX10_lambda_catchingOrCutting_3.cls ≠ "java/lang/invoke/VarHandle" := by decide +kernel
theorem pn_X10_rubbing : (parseMethodDescriptor yX10_rubbing.desc).map (fun z => z.parameters.length) = some 0 := by decide +kernel
theorem mh_X10_rubbing : yX10_rubbing.cls ≠ "java/lang/invoke/MethodHandle" ∧ yX10_rubbing.cls ≠ "java/lang/invoke/VarHandle" := by decide +kernel
theorem pn_X10_lambda_rubbing_4 : (parseMethodDescriptor yX10_lambda_rubbing_4.desc).map (fun z => z.parameters.length) = some 2 := by decide +kernel
theorem mh_X10_lambda_rubbing_4 : yX10_lambda_rubbing_4.cls ≠ "java/lang/invoke/MethodHandle" ∧ yX10_lambda_rubbing_4.cls ≠ "java/lang/invoke/VarHandle" := by decide +kernel
theorem pn_X10_addingLeg : (parseMethodDescriptor yX10_addingLeg.desc).map (fun z => z.parameters.length) = some 0 := by decide +kernel
theorem mh_X10_addingLeg : yX10_addingLeg.cls ≠ "java/lang/invoke/MethodHandle" ∧ yX10_addingLeg.cls ≠ "java/lang/invoke/VarHandle" := by decide +kernel
theorem pn_X10_lambda_addingLeg_5 : (parseMethodDescriptor yX10_lambda_addingLeg_5.desc).map (fun z => z.parameters.length) = some 2 := by decide +kernel
theorem mh_X10_lambda_addingLeg_5 : yX10_lambda_addingLeg_5.cls ≠ "java/lang/invoke/MethodHandle" ∧ yX10_lambda_addingLeg_5.cls ≠ "java/lang/invoke/VarHandle" := by decide +kernel
theorem pn_X10_ticking : (parseMethodDescriptor yX10_ticking.desc).map (fun z => z.parameters.length) = some 0 := by decide +kernel
theorem mh_X10_ticking : yX10_ticking.cls ≠ "java/lang/invoke/MethodHandle" ∧ yX10_ticking.cls ≠ "java/lang/invoke/VarHandle" := by decide +kernel
theorem pn_X10_lambda_ticking_6 : (parseMethodDescriptor yX10_lambda_ticking_6.desc).map (fun z => z.parameters.length) = some 2 := by decide +kernel
theorem mh_X10_lambda_ticking_6 : yX10_lambda_ticking_6.cls ≠ "java/lang/invoke/MethodHandle" ∧ yX10_lambda_ticking_6.cls ≠ "java/lang/invoke/VarHandle" := by decide +kernel
theorem pn_X11_init : (parseMethodDescriptor yX11_init.desc).map (fun z => z.parameters.length) = some 1 := by decide +kernel
theorem mh_X11_init : yX11_init.cls ≠ "java/lang/invoke/MethodHandle" ∧ yX11_init.cls ≠ "java/lang/invoke/VarHandle" := by decide +kernel
theorem pn_X12_contains : (parseMethodDescriptor yX12_contains.desc).map (fun z => z.parameters.length) = some 1 := by decide +kernel
theorem mh_X12_contains : yX12_contains.cls ≠ "java/lang/invoke/MethodHandle" ∧ yX12_contains.cls ≠ "java/lang/invoke/VarHandle" := by decide +kernel
theorem pn_X13_contains : (parseMethodDescriptor yX13_contains.desc).map (fun z => z.parameters.length) = some 1 := by decide +kernel
theorem mh_X13_contains : yX13_contains.cls ≠ "java/lang/invoke/MethodHandle" ∧ yX13_contains.cls ≠ "java/lang/invoke/VarHandle" := by decide +kernel
theorem pn_X14_contains : (parseMethodDescriptor yX14_contains.desc).map (fun z => z.parameters.length) = some 1 := by decide +kernel
theorem mh_X14_contains : yX14_contains.cls ≠ "java/lang/invoke/MethodHandle" ∧ yX14_contains.cls ≠ "java/lang/invoke/VarHandle" := by decide +kernel
theorem pn_X3_init : (parseMethodDescriptor yX3_init.desc).map (fun z => z.parameters.length) = some 0 := by decide +kernel
theorem mh_X3_init : yX3_init.cls ≠ "java/lang/invoke/MethodHandle" ∧ yX3_init.cls ≠ "java/lang/invoke/VarHandle" := by decide +kernel
theorem pn_X3_thrown : (parseMethodDescriptor yX3_thrown.desc).map (fun z => z.parameters.length) = some 0 := by decide +kernel
theorem mh_X3_thrown : yX3_thrown.cls ≠ "java/lang/invoke/MethodHandle" ∧ yX3_thrown.cls ≠ "java/lang/invoke/VarHandle" := by decide +kernel
theorem pn_X3_addPendulum : (parseMethodDescriptor yX3_addPendulum.desc).map (fun z => z.parameters.length) = some 1 := by decide +kernel
theorem mh_X3_addPendulum : yX3_addPendulum.cls ≠ "java/lang/invoke/MethodHandle" ∧ yX3_addPendulum.cls ≠ "java/lang/invoke/VarHandle" := by decide +kernel
theorem pn_X3_begin : (parseMethodDescriptor yX3_begin.desc).map (fun z => z.parameters.length) = some 0 := by decide +kernel
theorem mh_X3_begin : yX3_begin.cls ≠ "java/lang/invoke/MethodHandle" ∧ yX3_begin.cls ≠ "java/lang/invoke/VarHandle" := by decide +kernel
theorem pn_X3_copy : (parseMethodDescriptor yX3_copy.desc).map (fun z => z.parameters.length) = some 4 := by decide +kernel
theorem mh_X3_copy : yX3_copy.cls ≠ "java/lang/invoke/MethodHandle" ∧ yX3_copy.cls ≠ "java/lang/invoke/VarHandle" := by decide +kernel
theorem pn_X3_adds : (parseMethodDescriptor yX3_adds.desc).map (fun z => z.parameters.length) = some 1 := by decide +kernel
theorem mh_X3_adds : yX3_adds.cls ≠ "java/lang/invoke/MethodHandle" ∧ yX3_adds.cls ≠ "java/lang/invoke/VarHandle" := by decide +kernel
theorem pn_X3_in : (parseMethodDescriptor yX3_in.desc).map (fun z => z.parameters.length) = some 3 := by decide +kernel
theorem mh_X3_in : yX3_in.cls ≠ "java/lang/invoke/MethodHandle" ∧ yX3_in.cls ≠ "java/lang/invoke/VarHandle" := by decide +kernel
theorem pn_X3_fails : (parseMethodDescriptor yX3_fails.desc).map (fun z => z.parameters.length) = some 1 := by decide +kernel
theorem mh_X3_fails : yX3_fails.cls ≠ "java/lang/invoke/MethodHandle" ∧ yX3_fails.cls ≠ "java/lang/invoke/VarHandle" := by decide +kernel
theorem pn_X3_done : (parseMethodDescriptor yX3_done.desc).map (fun z => z.parameters.length) = some 1 := by decide +kernel
theorem mh_X3_done : yX3_done.cls ≠ "java/lang/invoke/MethodHandle" ∧ yX3_done.cls ≠ "java/lang/invoke/VarHandle" := by decide +kernel
theorem pn_X3_kept : (parseMethodDescriptor yX3_kept.desc).map (fun z => z.parameters.length) = some 1 := by decide +kernel
theorem mh_X3_kept : yX3_kept.cls ≠ "java/lang/invoke/MethodHandle" ∧ yX3_kept.cls ≠ "java/lang/invoke/VarHandle" := by decide +kernel
theorem pn_X3_push : (parseMethodDescriptor yX3_push.desc).map (fun z => z.parameters.length) = some 2 := by decide +kernel
theorem mh_X3_push : yX3_push.cls ≠ "java/lang/invoke/MethodHandle" ∧ yX3_push.cls ≠ "java/lang/invoke/VarHandle" := by decide +kernel
theorem pn_X3_pushes : (parseMethodDescriptor yX3_pushes.desc).map (fun z => z.parameters.length) = some 2 := by decide +kernel
theorem mh_X3_pushes : yX3_pushes.cls ≠ "java/lang/invoke/MethodHandle" ∧ yX3_pushes.cls ≠ "java/lang/invoke/VarHandle" := by decide +kernel
theorem pn_X3_isPendulum : (parseMethodDescriptor yX3_isPendulum.desc).map (fun z => z.parameters.length) = some 1 := by decide +kernel
theorem mh_X3_isPendulum : yX3_isPendulum.cls ≠ "java/lang/invoke/MethodHandle" ∧ yX3_isPendulum.cls ≠ "java/lang/invoke/VarHandle" := by decide +kernel
theorem pn_X3_rests : (parseMethodDescriptor yX3_rests.desc).map (fun z => z.parameters.length) = some 1 := by decide +kernel
theorem mh_X3_rests : yX3_rests.cls ≠ "java/lang/invoke/MethodHandle" ∧ yX3_rests.cls ≠ "java/lang/invoke/VarHandle" := by decide +kernel
theorem pn_X3_kind : (parseMethodDescriptor yX3_kind.desc).map (fun z => z.parameters.length) = some 1 := by decide +kernel
theorem mh_X3_kind : yX3_kind.cls ≠ "java/lang/invoke/MethodHandle" ∧ yX3_kind.cls ≠ "java/lang/invoke/VarHandle" := by decide +kernel
theorem pn_X3_catchPendulum : (parseMethodDescriptor yX3_catchPendulum.desc).map (fun z => z.parameters.length) = some 1 := by decide +kernel
theorem mh_X3_catchPendulum : yX3_catchPendulum.cls ≠ "java/lang/invoke/MethodHandle" ∧ yX3_catchPendulum.cls ≠ "java/lang/invoke/VarHandle" := by decide +kernel
theorem pn_X3_catches : (parseMethodDescriptor yX3_catches.desc).map (fun z => z.parameters.length) = some 1 := by decide +kernel
theorem mh_X3_catches : yX3_catches.cls ≠ "java/lang/invoke/MethodHandle" ∧ yX3_catches.cls ≠ "java/lang/invoke/VarHandle" := by decide +kernel
theorem pn_X3_setFriction : (parseMethodDescriptor yX3_setFriction.desc).map (fun z => z.parameters.length) = some 1 := by decide +kernel
theorem mh_X3_setFriction : yX3_setFriction.cls ≠ "java/lang/invoke/MethodHandle" ∧ yX3_setFriction.cls ≠ "java/lang/invoke/VarHandle" := by decide +kernel
theorem pn_X3_rubs : (parseMethodDescriptor yX3_rubs.desc).map (fun z => z.parameters.length) = some 1 := by decide +kernel
theorem mh_X3_rubs : yX3_rubs.cls ≠ "java/lang/invoke/MethodHandle" ∧ yX3_rubs.cls ≠ "java/lang/invoke/VarHandle" := by decide +kernel
theorem pn_X3_pass : (parseMethodDescriptor yX3_pass.desc).map (fun z => z.parameters.length) = some 1 := by decide +kernel
theorem mh_X3_pass : yX3_pass.cls ≠ "java/lang/invoke/MethodHandle" ∧ yX3_pass.cls ≠ "java/lang/invoke/VarHandle" := by decide +kernel
theorem pn_X3_passes : (parseMethodDescriptor yX3_passes.desc).map (fun z => z.parameters.length) = some 1 := by decide +kernel
theorem mh_X3_passes : yX3_passes.cls ≠ "java/lang/invoke/MethodHandle" ∧ yX3_passes.cls ≠ "java/lang/invoke/VarHandle" := by decide +kernel
theorem pn_X3_passesTick : (parseMethodDescriptor yX3_passesTick.desc).map (fun z => z.parameters.length) = some 0 := by decide +kernel
theorem mh_X3_passesTick : yX3_passesTick.cls ≠ "java/lang/invoke/MethodHandle" ∧ yX3_passesTick.cls ≠ "java/lang/invoke/VarHandle" := by decide +kernel
theorem pn_X3_period : (parseMethodDescriptor yX3_period.desc).map (fun z => z.parameters.length) = some 1 := by decide +kernel
theorem mh_X3_period : yX3_period.cls ≠ "java/lang/invoke/MethodHandle" ∧ yX3_period.cls ≠ "java/lang/invoke/VarHandle" := by decide +kernel
theorem pn_X3_behindSwing : (parseMethodDescriptor yX3_behindSwing.desc).map (fun z => z.parameters.length) = some 1 := by decide +kernel
theorem mh_X3_behindSwing : yX3_behindSwing.cls ≠ "java/lang/invoke/MethodHandle" ∧ yX3_behindSwing.cls ≠ "java/lang/invoke/VarHandle" := by decide +kernel
theorem pn_X3_pendulumCount : (parseMethodDescriptor yX3_pendulumCount.desc).map (fun z => z.parameters.length) = some 0 := by decide +kernel
theorem mh_X3_pendulumCount : yX3_pendulumCount.cls ≠ "java/lang/invoke/MethodHandle" ∧ yX3_pendulumCount.cls ≠ "java/lang/invoke/VarHandle" := by decide +kernel
theorem pn_X3_lengthOf : (parseMethodDescriptor yX3_lengthOf.desc).map (fun z => z.parameters.length) = some 1 := by decide +kernel
theorem mh_X3_lengthOf : yX3_lengthOf.cls ≠ "java/lang/invoke/MethodHandle" ∧ yX3_lengthOf.cls ≠ "java/lang/invoke/VarHandle" := by decide +kernel
theorem pn_X3_pendulumNumber : (parseMethodDescriptor yX3_pendulumNumber.desc).map (fun z => z.parameters.length) = some 2 := by decide +kernel
theorem mh_X3_pendulumNumber : yX3_pendulumNumber.cls ≠ "java/lang/invoke/MethodHandle" ∧ yX3_pendulumNumber.cls ≠ "java/lang/invoke/VarHandle" := by decide +kernel
theorem pn_X3_classOf : (parseMethodDescriptor yX3_classOf.desc).map (fun z => z.parameters.length) = some 1 := by decide +kernel
theorem mh_X3_classOf : yX3_classOf.cls ≠ "java/lang/invoke/MethodHandle" ∧ yX3_classOf.cls ≠ "java/lang/invoke/VarHandle" := by decide +kernel
theorem pn_X3_amplitudeOf : (parseMethodDescriptor yX3_amplitudeOf.desc).map (fun z => z.parameters.length) = some 1 := by decide +kernel
theorem mh_X3_amplitudeOf : yX3_amplitudeOf.cls ≠ "java/lang/invoke/MethodHandle" ∧ yX3_amplitudeOf.cls ≠ "java/lang/invoke/VarHandle" := by decide +kernel
theorem pn_X3_startOf : (parseMethodDescriptor yX3_startOf.desc).map (fun z => z.parameters.length) = some 1 := by decide +kernel
theorem mh_X3_startOf : yX3_startOf.cls ≠ "java/lang/invoke/MethodHandle" ∧ yX3_startOf.cls ≠ "java/lang/invoke/VarHandle" := by decide +kernel
theorem pn_X3_periodOf : (parseMethodDescriptor yX3_periodOf.desc).map (fun z => z.parameters.length) = some 1 := by decide +kernel
theorem mh_X3_periodOf : yX3_periodOf.cls ≠ "java/lang/invoke/MethodHandle" ∧ yX3_periodOf.cls ≠ "java/lang/invoke/VarHandle" := by decide +kernel
theorem pn_X3_periodByEstimates : (parseMethodDescriptor yX3_periodByEstimates.desc).map (fun z => z.parameters.length) = some 1 := by decide +kernel
theorem mh_X3_periodByEstimates : yX3_periodByEstimates.cls ≠ "java/lang/invoke/MethodHandle" ∧ yX3_periodByEstimates.cls ≠ "java/lang/invoke/VarHandle" := by decide +kernel
theorem pn_X3_swingsOf : (parseMethodDescriptor yX3_swingsOf.desc).map (fun z => z.parameters.length) = some 1 := by decide +kernel
theorem mh_X3_swingsOf : yX3_swingsOf.cls ≠ "java/lang/invoke/MethodHandle" ∧ yX3_swingsOf.cls ≠ "java/lang/invoke/VarHandle" := by decide +kernel
theorem pn_X3_clock : (parseMethodDescriptor yX3_clock.desc).map (fun z => z.parameters.length) = some 0 := by decide +kernel
theorem mh_X3_clock : yX3_clock.cls ≠ "java/lang/invoke/MethodHandle" ∧ yX3_clock.cls ≠ "java/lang/invoke/VarHandle" := by decide +kernel
theorem pn_X3_friction : (parseMethodDescriptor yX3_friction.desc).map (fun z => z.parameters.length) = some 0 := by decide +kernel
theorem mh_X3_friction : yX3_friction.cls ≠ "java/lang/invoke/MethodHandle" ∧ yX3_friction.cls ≠ "java/lang/invoke/VarHandle" := by decide +kernel
theorem pn_X3_recordOf : (parseMethodDescriptor yX3_recordOf.desc).map (fun z => z.parameters.length) = some 1 := by decide +kernel
theorem mh_X3_recordOf : yX3_recordOf.cls ≠ "java/lang/invoke/MethodHandle" ∧ yX3_recordOf.cls ≠ "java/lang/invoke/VarHandle" := by decide +kernel
theorem pn_X3_whyNoRecord : (parseMethodDescriptor yX3_whyNoRecord.desc).map (fun z => z.parameters.length) = some 1 := by decide +kernel
theorem mh_X3_whyNoRecord : yX3_whyNoRecord.cls ≠ "java/lang/invoke/MethodHandle" ∧ yX3_whyNoRecord.cls ≠ "java/lang/invoke/VarHandle" := by decide +kernel
theorem pn_X3_holderOf : (parseMethodDescriptor yX3_holderOf.desc).map (fun z => z.parameters.length) = some 1 := by decide +kernel
theorem mh_X3_holderOf : yX3_holderOf.cls ≠ "java/lang/invoke/MethodHandle" ∧ yX3_holderOf.cls ≠ "java/lang/invoke/VarHandle" := by decide +kernel
theorem pn_X3_pendulumAtRank : (parseMethodDescriptor yX3_pendulumAtRank.desc).map (fun z => z.parameters.length) = some 1 := by decide +kernel
theorem mh_X3_pendulumAtRank : yX3_pendulumAtRank.cls ≠ "java/lang/invoke/MethodHandle" ∧ yX3_pendulumAtRank.cls ≠ "java/lang/invoke/VarHandle" := by decide +kernel
theorem pn_X3_isAhead : (parseMethodDescriptor yX3_isAhead.desc).map (fun z => z.parameters.length) = some 2 := by decide +kernel
theorem mh_X3_isAhead : yX3_isAhead.cls ≠ "java/lang/invoke/MethodHandle" ∧ yX3_isAhead.cls ≠ "java/lang/invoke/VarHandle" := by decide +kernel
theorem pn_X3_swingsToRest : (parseMethodDescriptor yX3_swingsToRest.desc).map (fun z => z.parameters.length) = some 1 := by decide +kernel
theorem mh_X3_swingsToRest : yX3_swingsToRest.cls ≠ "java/lang/invoke/MethodHandle" ∧ yX3_swingsToRest.cls ≠ "java/lang/invoke/VarHandle" := by decide +kernel
theorem pn_X3_swingsLeft : (parseMethodDescriptor yX3_swingsLeft.desc).map (fun z => z.parameters.length) = some 1 := by decide +kernel
theorem mh_X3_swingsLeft : yX3_swingsLeft.cls ≠ "java/lang/invoke/MethodHandle" ∧ yX3_swingsLeft.cls ≠ "java/lang/invoke/VarHandle" := by decide +kernel
theorem pn_X3_swingsToRestByTable : (parseMethodDescriptor yX3_swingsToRestByTable.desc).map (fun z => z.parameters.length) = some 1 := by decide +kernel
theorem mh_X3_swingsToRestByTable : yX3_swingsToRestByTable.cls ≠ "java/lang/invoke/MethodHandle" ∧ yX3_swingsToRestByTable.cls ≠ "java/lang/invoke/VarHandle" := by decide +kernel
theorem pn_X3_restTick : (parseMethodDescriptor yX3_restTick.desc).map (fun z => z.parameters.length) = some 1 := by decide +kernel
theorem mh_X3_restTick : yX3_restTick.cls ≠ "java/lang/invoke/MethodHandle" ∧ yX3_restTick.cls ≠ "java/lang/invoke/VarHandle" := by decide +kernel
theorem pn_X3_swingsUntil : (parseMethodDescriptor yX3_swingsUntil.desc).map (fun z => z.parameters.length) = some 2 := by decide +kernel
theorem mh_X3_swingsUntil : yX3_swingsUntil.cls ≠ "java/lang/invoke/MethodHandle" ∧ yX3_swingsUntil.cls ≠ "java/lang/invoke/VarHandle" := by decide +kernel
theorem pn_X3_amplitudeAfter : (parseMethodDescriptor yX3_amplitudeAfter.desc).map (fun z => z.parameters.length) = some 2 := by decide +kernel
theorem mh_X3_amplitudeAfter : yX3_amplitudeAfter.cls ≠ "java/lang/invoke/MethodHandle" ∧ yX3_amplitudeAfter.cls ≠ "java/lang/invoke/VarHandle" := by decide +kernel
theorem pn_X3_meeting : (parseMethodDescriptor yX3_meeting.desc).map (fun z => z.parameters.length) = some 2 := by decide +kernel
theorem mh_X3_meeting : yX3_meeting.cls ≠ "java/lang/invoke/MethodHandle" ∧ yX3_meeting.cls ≠ "java/lang/invoke/VarHandle" := by decide +kernel
theorem pn_X3_meets : (parseMethodDescriptor yX3_meets.desc).map (fun z => z.parameters.length) = some 2 := by decide +kernel
theorem mh_X3_meets : yX3_meets.cls ≠ "java/lang/invoke/MethodHandle" ∧ yX3_meets.cls ≠ "java/lang/invoke/VarHandle" := by decide +kernel
theorem pn_X3_cycle : (parseMethodDescriptor yX3_cycle.desc).map (fun z => z.parameters.length) = some 2 := by decide +kernel
theorem mh_X3_cycle : yX3_cycle.cls ≠ "java/lang/invoke/MethodHandle" ∧ yX3_cycle.cls ≠ "java/lang/invoke/VarHandle" := by decide +kernel
theorem pn_X3_divisor : (parseMethodDescriptor yX3_divisor.desc).map (fun z => z.parameters.length) = some 2 := by decide +kernel
theorem mh_X3_divisor : yX3_divisor.cls ≠ "java/lang/invoke/MethodHandle" ∧ yX3_divisor.cls ≠ "java/lang/invoke/VarHandle" := by decide +kernel
theorem pn_X3_meetingByDivisors : (parseMethodDescriptor yX3_meetingByDivisors.desc).map (fun z => z.parameters.length) = some 2 := by decide +kernel
theorem mh_X3_meetingByDivisors : yX3_meetingByDivisors.cls ≠ "java/lang/invoke/MethodHandle" ∧ yX3_meetingByDivisors.cls ≠ "java/lang/invoke/VarHandle" := by decide +kernel
theorem pn_X3_meetingPairs : (parseMethodDescriptor yX3_meetingPairs.desc).map (fun z => z.parameters.length) = some 0 := by decide +kernel
theorem mh_X3_meetingPairs : yX3_meetingPairs.cls ≠ "java/lang/invoke/MethodHandle" ∧ yX3_meetingPairs.cls ≠ "java/lang/invoke/VarHandle" := by decide +kernel
theorem pn_X3_size : (parseMethodDescriptor yX3_size.desc).map (fun z => z.parameters.length) = some 1 := by decide +kernel
theorem mh_X3_size : yX3_size.cls ≠ "java/lang/invoke/MethodHandle" ∧ yX3_size.cls ≠ "java/lang/invoke/VarHandle" := by decide +kernel
theorem pn_X3_cycleOf : (parseMethodDescriptor yX3_cycleOf.desc).map (fun z => z.parameters.length) = some 2 := by decide +kernel
theorem mh_X3_cycleOf : yX3_cycleOf.cls ≠ "java/lang/invoke/MethodHandle" ∧ yX3_cycleOf.cls ≠ "java/lang/invoke/VarHandle" := by decide +kernel
theorem pn_X3_addLeg : (parseMethodDescriptor yX3_addLeg.desc).map (fun z => z.parameters.length) = some 1 := by decide +kernel
theorem mh_X3_addLeg : yX3_addLeg.cls ≠ "java/lang/invoke/MethodHandle" ∧ yX3_addLeg.cls ≠ "java/lang/invoke/VarHandle" := by decide +kernel
theorem pn_X3_addsLeg : (parseMethodDescriptor yX3_addsLeg.desc).map (fun z => z.parameters.length) = some 1 := by decide +kernel
theorem mh_X3_addsLeg : yX3_addsLeg.cls ≠ "java/lang/invoke/MethodHandle" ∧ yX3_addsLeg.cls ≠ "java/lang/invoke/VarHandle" := by decide +kernel
theorem pn_X3_removeLeg : (parseMethodDescriptor yX3_removeLeg.desc).map (fun z => z.parameters.length) = some 1 := by decide +kernel
theorem mh_X3_removeLeg : yX3_removeLeg.cls ≠ "java/lang/invoke/MethodHandle" ∧ yX3_removeLeg.cls ≠ "java/lang/invoke/VarHandle" := by decide +kernel
theorem pn_X3_cuts : (parseMethodDescriptor yX3_cuts.desc).map (fun z => z.parameters.length) = some 1 := by decide +kernel
theorem mh_X3_cuts : yX3_cuts.cls ≠ "java/lang/invoke/MethodHandle" ∧ yX3_cuts.cls ≠ "java/lang/invoke/VarHandle" := by decide +kernel
theorem pn_X3_isLeg : (parseMethodDescriptor yX3_isLeg.desc).map (fun z => z.parameters.length) = some 1 := by decide +kernel
theorem mh_X3_isLeg : yX3_isLeg.cls ≠ "java/lang/invoke/MethodHandle" ∧ yX3_isLeg.cls ≠ "java/lang/invoke/VarHandle" := by decide +kernel
theorem pn_X3_legCount : (parseMethodDescriptor yX3_legCount.desc).map (fun z => z.parameters.length) = some 0 := by decide +kernel
theorem mh_X3_legCount : yX3_legCount.cls ≠ "java/lang/invoke/MethodHandle" ∧ yX3_legCount.cls ≠ "java/lang/invoke/VarHandle" := by decide +kernel
theorem pn_X3_wishOf : (parseMethodDescriptor yX3_wishOf.desc).map (fun z => z.parameters.length) = some 1 := by decide +kernel
theorem mh_X3_wishOf : yX3_wishOf.cls ≠ "java/lang/invoke/MethodHandle" ∧ yX3_wishOf.cls ≠ "java/lang/invoke/VarHandle" := by decide +kernel
theorem pn_X3_leastRelay : (parseMethodDescriptor yX3_leastRelay.desc).map (fun z => z.parameters.length) = some 0 := by decide +kernel
theorem mh_X3_leastRelay : yX3_leastRelay.cls ≠ "java/lang/invoke/MethodHandle" ∧ yX3_leastRelay.cls ≠ "java/lang/invoke/VarHandle" := by decide +kernel
theorem pn_X3_finds : (parseMethodDescriptor yX3_finds.desc).map (fun z => z.parameters.length) = some 0 := by decide +kernel
theorem mh_X3_finds : yX3_finds.cls ≠ "java/lang/invoke/MethodHandle" ∧ yX3_finds.cls ≠ "java/lang/invoke/VarHandle" := by decide +kernel
theorem pn_X3_members : (parseMethodDescriptor yX3_members.desc).map (fun z => z.parameters.length) = some 1 := by decide +kernel
theorem mh_X3_members : yX3_members.cls ≠ "java/lang/invoke/MethodHandle" ∧ yX3_members.cls ≠ "java/lang/invoke/VarHandle" := by decide +kernel
theorem pn_X3_costWith : (parseMethodDescriptor yX3_costWith.desc).map (fun z => z.parameters.length) = some 3 := by decide +kernel
theorem mh_X3_costWith : yX3_costWith.cls ≠ "java/lang/invoke/MethodHandle" ∧ yX3_costWith.cls ≠ "java/lang/invoke/VarHandle" := by decide +kernel
theorem pn_X3_leastRelayByTrying : (parseMethodDescriptor yX3_leastRelayByTrying.desc).map (fun z => z.parameters.length) = some 0 := by decide +kernel
theorem mh_X3_leastRelayByTrying : yX3_leastRelayByTrying.cls ≠ "java/lang/invoke/MethodHandle" ∧ yX3_leastRelayByTrying.cls ≠ "java/lang/invoke/VarHandle" := by decide +kernel
theorem pn_X3_runnerOf : (parseMethodDescriptor yX3_runnerOf.desc).map (fun z => z.parameters.length) = some 1 := by decide +kernel
theorem mh_X3_runnerOf : yX3_runnerOf.cls ≠ "java/lang/invoke/MethodHandle" ∧ yX3_runnerOf.cls ≠ "java/lang/invoke/VarHandle" := by decide +kernel
theorem pn_X3_fewestFor : (parseMethodDescriptor yX3_fewestFor.desc).map (fun z => z.parameters.length) = some 1 := by decide +kernel
theorem mh_X3_fewestFor : yX3_fewestFor.cls ≠ "java/lang/invoke/MethodHandle" ∧ yX3_fewestFor.cls ≠ "java/lang/invoke/VarHandle" := by decide +kernel
theorem pn_X3_together : (parseMethodDescriptor yX3_together.desc).map (fun z => z.parameters.length) = some 1 := by decide +kernel
theorem mh_X3_together : yX3_together.cls ≠ "java/lang/invoke/MethodHandle" ∧ yX3_together.cls ≠ "java/lang/invoke/VarHandle" := by decide +kernel
theorem pn_X3_fewestForBySets : (parseMethodDescriptor yX3_fewestForBySets.desc).map (fun z => z.parameters.length) = some 1 := by decide +kernel
theorem mh_X3_fewestForBySets : yX3_fewestForBySets.cls ≠ "java/lang/invoke/MethodHandle" ∧ yX3_fewestForBySets.cls ≠ "java/lang/invoke/VarHandle" := by decide +kernel
theorem pn_X3_exactSets : (parseMethodDescriptor yX3_exactSets.desc).map (fun z => z.parameters.length) = some 1 := by decide +kernel
theorem mh_X3_exactSets : yX3_exactSets.cls ≠ "java/lang/invoke/MethodHandle" ∧ yX3_exactSets.cls ≠ "java/lang/invoke/VarHandle" := by decide +kernel
theorem pn_X3_meanAmplitude : (parseMethodDescriptor yX3_meanAmplitude.desc).map (fun z => z.parameters.length) = some 0 := by decide +kernel
theorem mh_X3_meanAmplitude : yX3_meanAmplitude.cls ≠ "java/lang/invoke/MethodHandle" ∧ yX3_meanAmplitude.cls ≠ "java/lang/invoke/VarHandle" := by decide +kernel
theorem pn_X3_writeCard : (parseMethodDescriptor yX3_writeCard.desc).map (fun z => z.parameters.length) = some 1 := by decide +kernel
theorem mh_X3_writeCard : yX3_writeCard.cls ≠ "java/lang/invoke/MethodHandle" ∧ yX3_writeCard.cls ≠ "java/lang/invoke/VarHandle" := by decide +kernel
theorem pn_X3_writesNumber : (parseMethodDescriptor yX3_writesNumber.desc).map (fun z => z.parameters.length) = some 1 := by decide +kernel
theorem mh_X3_writesNumber : yX3_writesNumber.cls ≠ "java/lang/invoke/MethodHandle" ∧ yX3_writesNumber.cls ≠ "java/lang/invoke/VarHandle" := by decide +kernel
theorem pn_X3_writes : (parseMethodDescriptor yX3_writes.desc).map (fun z => z.parameters.length) = some 1 := by decide +kernel
theorem mh_X3_writes : yX3_writes.cls ≠ "java/lang/invoke/MethodHandle" ∧ yX3_writes.cls ≠ "java/lang/invoke/VarHandle" := by decide +kernel
theorem pn_X3_writesRest : (parseMethodDescriptor yX3_writesRest.desc).map (fun z => z.parameters.length) = some 0 := by decide +kernel
theorem mh_X3_writesRest : yX3_writesRest.cls ≠ "java/lang/invoke/MethodHandle" ∧ yX3_writesRest.cls ≠ "java/lang/invoke/VarHandle" := by decide +kernel
theorem pn_X3_cardAt : (parseMethodDescriptor yX3_cardAt.desc).map (fun z => z.parameters.length) = some 1 := by decide +kernel
theorem mh_X3_cardAt : yX3_cardAt.cls ≠ "java/lang/invoke/MethodHandle" ∧ yX3_cardAt.cls ≠ "java/lang/invoke/VarHandle" := by decide +kernel
theorem pn_X3_type : (parseMethodDescriptor yX3_type.desc).map (fun z => z.parameters.length) = some 1 := by decide +kernel
theorem mh_X3_type : yX3_type.cls ≠ "java/lang/invoke/MethodHandle" ∧ yX3_type.cls ≠ "java/lang/invoke/VarHandle" := by decide +kernel
theorem pn_X3_execute : (parseMethodDescriptor yX3_execute.desc).map (fun z => z.parameters.length) = some 0 := by decide +kernel
theorem mh_X3_execute : yX3_execute.cls ≠ "java/lang/invoke/MethodHandle" ∧ yX3_execute.cls ≠ "java/lang/invoke/VarHandle" := by decide +kernel
theorem pn_X3_parsesCommand : (parseMethodDescriptor yX3_parsesCommand.desc).map (fun z => z.parameters.length) = some 1 := by decide +kernel
theorem mh_X3_parsesCommand : yX3_parsesCommand.cls ≠ "java/lang/invoke/MethodHandle" ∧ yX3_parsesCommand.cls ≠ "java/lang/invoke/VarHandle" := by decide +kernel
theorem pn_X3_here : (parseMethodDescriptor yX3_here.desc).map (fun z => z.parameters.length) = some 0 := by decide +kernel
theorem mh_X3_here : yX3_here.cls ≠ "java/lang/invoke/MethodHandle" ∧ yX3_here.cls ≠ "java/lang/invoke/VarHandle" := by decide +kernel
theorem pn_X3_needsThree : (parseMethodDescriptor yX3_needsThree.desc).map (fun z => z.parameters.length) = some 3 := by decide +kernel
theorem mh_X3_needsThree : yX3_needsThree.cls ≠ "java/lang/invoke/MethodHandle" ∧ yX3_needsThree.cls ≠ "java/lang/invoke/VarHandle" := by decide +kernel
theorem pn_X3_needs : (parseMethodDescriptor yX3_needs.desc).map (fun z => z.parameters.length) = some 1 := by decide +kernel
theorem mh_X3_needs : yX3_needs.cls ≠ "java/lang/invoke/MethodHandle" ∧ yX3_needs.cls ≠ "java/lang/invoke/VarHandle" := by decide +kernel
theorem pn_X3_digits : (parseMethodDescriptor yX3_digits.desc).map (fun z => z.parameters.length) = some 1 := by decide +kernel
theorem mh_X3_digits : yX3_digits.cls ≠ "java/lang/invoke/MethodHandle" ∧ yX3_digits.cls ≠ "java/lang/invoke/VarHandle" := by decide +kernel
theorem pn_X3_parsesC : (parseMethodDescriptor yX3_parsesC.desc).map (fun z => z.parameters.length) = some 1 := by decide +kernel
theorem mh_X3_parsesC : yX3_parsesC.cls ≠ "java/lang/invoke/MethodHandle" ∧ yX3_parsesC.cls ≠ "java/lang/invoke/VarHandle" := by decide +kernel
theorem pn_X3_carriesOut : (parseMethodDescriptor yX3_carriesOut.desc).map (fun z => z.parameters.length) = some 1 := by decide +kernel
theorem mh_X3_carriesOut : yX3_carriesOut.cls ≠ "java/lang/invoke/MethodHandle" ∧ yX3_carriesOut.cls ≠ "java/lang/invoke/VarHandle" := by decide +kernel
theorem pn_X3_errorPosition : (parseMethodDescriptor yX3_errorPosition.desc).map (fun z => z.parameters.length) = some 0 := by decide +kernel
theorem mh_X3_errorPosition : yX3_errorPosition.cls ≠ "java/lang/invoke/MethodHandle" ∧ yX3_errorPosition.cls ≠ "java/lang/invoke/VarHandle" := by decide +kernel
theorem pn_X3_failedCommand : (parseMethodDescriptor yX3_failedCommand.desc).map (fun z => z.parameters.length) = some 0 := by decide +kernel
theorem mh_X3_failedCommand : yX3_failedCommand.cls ≠ "java/lang/invoke/MethodHandle" ∧ yX3_failedCommand.cls ≠ "java/lang/invoke/VarHandle" := by decide +kernel
theorem pn_X3_undo : (parseMethodDescriptor yX3_undo.desc).map (fun z => z.parameters.length) = some 0 := by decide +kernel
theorem mh_X3_undo : yX3_undo.cls ≠ "java/lang/invoke/MethodHandle" ∧ yX3_undo.cls ≠ "java/lang/invoke/VarHandle" := by decide +kernel
theorem pn_X3_save : (parseMethodDescriptor yX3_save.desc).map (fun z => z.parameters.length) = some 0 := by decide +kernel
theorem mh_X3_save : yX3_save.cls ≠ "java/lang/invoke/MethodHandle" ∧ yX3_save.cls ≠ "java/lang/invoke/VarHandle" := by decide +kernel
theorem pn_X3_restore : (parseMethodDescriptor yX3_restore.desc).map (fun z => z.parameters.length) = some 0 := by decide +kernel
theorem mh_X3_restore : yX3_restore.cls ≠ "java/lang/invoke/MethodHandle" ∧ yX3_restore.cls ≠ "java/lang/invoke/VarHandle" := by decide +kernel
theorem pn_X0_addPendulum : (parseMethodDescriptor yX0_addPendulum.desc).map (fun z => z.parameters.length) = some 3 := by decide +kernel
theorem mh_X0_addPendulum : yX0_addPendulum.cls ≠ "java/lang/invoke/MethodHandle" ∧ yX0_addPendulum.cls ≠ "java/lang/invoke/VarHandle" := by decide +kernel
theorem pn_X0_push : (parseMethodDescriptor yX0_push.desc).map (fun z => z.parameters.length) = some 4 := by decide +kernel
theorem mh_X0_push : yX0_push.cls ≠ "java/lang/invoke/MethodHandle" ∧ yX0_push.cls ≠ "java/lang/invoke/VarHandle" := by decide +kernel
theorem pn_X0_catchPendulum : (parseMethodDescriptor yX0_catchPendulum.desc).map (fun z => z.parameters.length) = some 3 := by decide +kernel
theorem mh_X0_catchPendulum : yX0_catchPendulum.cls ≠ "java/lang/invoke/MethodHandle" ∧ yX0_catchPendulum.cls ≠ "java/lang/invoke/VarHandle" := by decide +kernel
theorem pn_X0_setFriction : (parseMethodDescriptor yX0_setFriction.desc).map (fun z => z.parameters.length) = some 3 := by decide +kernel
theorem mh_X0_setFriction : yX0_setFriction.cls ≠ "java/lang/invoke/MethodHandle" ∧ yX0_setFriction.cls ≠ "java/lang/invoke/VarHandle" := by decide +kernel
theorem pn_X0_pass : (parseMethodDescriptor yX0_pass.desc).map (fun z => z.parameters.length) = some 3 := by decide +kernel
theorem mh_X0_pass : yX0_pass.cls ≠ "java/lang/invoke/MethodHandle" ∧ yX0_pass.cls ≠ "java/lang/invoke/VarHandle" := by decide +kernel
theorem pn_X0_lengthOf : (parseMethodDescriptor yX0_lengthOf.desc).map (fun z => z.parameters.length) = some 3 := by decide +kernel
theorem mh_X0_lengthOf : yX0_lengthOf.cls ≠ "java/lang/invoke/MethodHandle" ∧ yX0_lengthOf.cls ≠ "java/lang/invoke/VarHandle" := by decide +kernel
theorem pn_X0_classOf : (parseMethodDescriptor yX0_classOf.desc).map (fun z => z.parameters.length) = some 3 := by decide +kernel
theorem mh_X0_classOf : yX0_classOf.cls ≠ "java/lang/invoke/MethodHandle" ∧ yX0_classOf.cls ≠ "java/lang/invoke/VarHandle" := by decide +kernel
theorem pn_X0_amplitudeOf : (parseMethodDescriptor yX0_amplitudeOf.desc).map (fun z => z.parameters.length) = some 3 := by decide +kernel
theorem mh_X0_amplitudeOf : yX0_amplitudeOf.cls ≠ "java/lang/invoke/MethodHandle" ∧ yX0_amplitudeOf.cls ≠ "java/lang/invoke/VarHandle" := by decide +kernel
theorem pn_X0_startOf : (parseMethodDescriptor yX0_startOf.desc).map (fun z => z.parameters.length) = some 3 := by decide +kernel
theorem mh_X0_startOf : yX0_startOf.cls ≠ "java/lang/invoke/MethodHandle" ∧ yX0_startOf.cls ≠ "java/lang/invoke/VarHandle" := by decide +kernel
theorem pn_X0_periodOf : (parseMethodDescriptor yX0_periodOf.desc).map (fun z => z.parameters.length) = some 3 := by decide +kernel
theorem mh_X0_periodOf : yX0_periodOf.cls ≠ "java/lang/invoke/MethodHandle" ∧ yX0_periodOf.cls ≠ "java/lang/invoke/VarHandle" := by decide +kernel
theorem pn_X0_periodByEstimates : (parseMethodDescriptor yX0_periodByEstimates.desc).map (fun z => z.parameters.length) = some 3 := by decide +kernel
theorem mh_X0_periodByEstimates : yX0_periodByEstimates.cls ≠ "java/lang/invoke/MethodHandle" ∧ yX0_periodByEstimates.cls ≠ "java/lang/invoke/VarHandle" := by decide +kernel
theorem pn_X0_swingsOf : (parseMethodDescriptor yX0_swingsOf.desc).map (fun z => z.parameters.length) = some 3 := by decide +kernel
theorem mh_X0_swingsOf : yX0_swingsOf.cls ≠ "java/lang/invoke/MethodHandle" ∧ yX0_swingsOf.cls ≠ "java/lang/invoke/VarHandle" := by decide +kernel
theorem pn_X0_recordOf : (parseMethodDescriptor yX0_recordOf.desc).map (fun z => z.parameters.length) = some 3 := by decide +kernel
theorem mh_X0_recordOf : yX0_recordOf.cls ≠ "java/lang/invoke/MethodHandle" ∧ yX0_recordOf.cls ≠ "java/lang/invoke/VarHandle" := by decide +kernel
theorem pn_X0_holderOf : (parseMethodDescriptor yX0_holderOf.desc).map (fun z => z.parameters.length) = some 3 := by decide +kernel
theorem mh_X0_holderOf : yX0_holderOf.cls ≠ "java/lang/invoke/MethodHandle" ∧ yX0_holderOf.cls ≠ "java/lang/invoke/VarHandle" := by decide +kernel
theorem pn_X0_pendulumAtRank : (parseMethodDescriptor yX0_pendulumAtRank.desc).map (fun z => z.parameters.length) = some 3 := by decide +kernel
theorem mh_X0_pendulumAtRank : yX0_pendulumAtRank.cls ≠ "java/lang/invoke/MethodHandle" ∧ yX0_pendulumAtRank.cls ≠ "java/lang/invoke/VarHandle" := by decide +kernel
theorem pn_X0_swingsToRest : (parseMethodDescriptor yX0_swingsToRest.desc).map (fun z => z.parameters.length) = some 3 := by decide +kernel
theorem mh_X0_swingsToRest : yX0_swingsToRest.cls ≠ "java/lang/invoke/MethodHandle" ∧ yX0_swingsToRest.cls ≠ "java/lang/invoke/VarHandle" := by decide +kernel
theorem pn_X0_swingsToRestByTable : (parseMethodDescriptor yX0_swingsToRestByTable.desc).map (fun z => z.parameters.length) = some 3 := by decide +kernel
theorem mh_X0_swingsToRestByTable : yX0_swingsToRestByTable.cls ≠ "java/lang/invoke/MethodHandle" ∧ yX0_swingsToRestByTable.cls ≠ "java/lang/invoke/VarHandle" := by decide +kernel
theorem pn_X0_restTick : (parseMethodDescriptor yX0_restTick.desc).map (fun z => z.parameters.length) = some 3 := by decide +kernel
theorem mh_X0_restTick : yX0_restTick.cls ≠ "java/lang/invoke/MethodHandle" ∧ yX0_restTick.cls ≠ "java/lang/invoke/VarHandle" := by decide +kernel
theorem pn_X0_amplitudeAfter : (parseMethodDescriptor yX0_amplitudeAfter.desc).map (fun z => z.parameters.length) = some 4 := by decide +kernel
theorem mh_X0_amplitudeAfter : yX0_amplitudeAfter.cls ≠ "java/lang/invoke/MethodHandle" ∧ yX0_amplitudeAfter.cls ≠ "java/lang/invoke/VarHandle" := by decide +kernel
theorem pn_X0_meeting : (parseMethodDescriptor yX0_meeting.desc).map (fun z => z.parameters.length) = some 4 := by decide +kernel
theorem mh_X0_meeting : yX0_meeting.cls ≠ "java/lang/invoke/MethodHandle" ∧ yX0_meeting.cls ≠ "java/lang/invoke/VarHandle" := by decide +kernel
theorem pn_X0_meetingByDivisors : (parseMethodDescriptor yX0_meetingByDivisors.desc).map (fun z => z.parameters.length) = some 4 := by decide +kernel
theorem mh_X0_meetingByDivisors : yX0_meetingByDivisors.cls ≠ "java/lang/invoke/MethodHandle" ∧ yX0_meetingByDivisors.cls ≠ "java/lang/invoke/VarHandle" := by decide +kernel
theorem pn_X0_cycleOf : (parseMethodDescriptor yX0_cycleOf.desc).map (fun z => z.parameters.length) = some 4 := by decide +kernel
theorem mh_X0_cycleOf : yX0_cycleOf.cls ≠ "java/lang/invoke/MethodHandle" ∧ yX0_cycleOf.cls ≠ "java/lang/invoke/VarHandle" := by decide +kernel
theorem pn_X0_addLeg : (parseMethodDescriptor yX0_addLeg.desc).map (fun z => z.parameters.length) = some 3 := by decide +kernel
theorem mh_X0_addLeg : yX0_addLeg.cls ≠ "java/lang/invoke/MethodHandle" ∧ yX0_addLeg.cls ≠ "java/lang/invoke/VarHandle" := by decide +kernel
theorem pn_X0_removeLeg : (parseMethodDescriptor yX0_removeLeg.desc).map (fun z => z.parameters.length) = some 3 := by decide +kernel
theorem mh_X0_removeLeg : yX0_removeLeg.cls ≠ "java/lang/invoke/MethodHandle" ∧ yX0_removeLeg.cls ≠ "java/lang/invoke/VarHandle" := by decide +kernel
theorem pn_X0_wishOf : (parseMethodDescriptor yX0_wishOf.desc).map (fun z => z.parameters.length) = some 3 := by decide +kernel
theorem mh_X0_wishOf : yX0_wishOf.cls ≠ "java/lang/invoke/MethodHandle" ∧ yX0_wishOf.cls ≠ "java/lang/invoke/VarHandle" := by decide +kernel
theorem pn_X0_leastRelay : (parseMethodDescriptor yX0_leastRelay.desc).map (fun z => z.parameters.length) = some 2 := by decide +kernel
theorem mh_X0_leastRelay : yX0_leastRelay.cls ≠ "java/lang/invoke/MethodHandle" ∧ yX0_leastRelay.cls ≠ "java/lang/invoke/VarHandle" := by decide +kernel
theorem pn_X0_leastRelayByTrying : (parseMethodDescriptor yX0_leastRelayByTrying.desc).map (fun z => z.parameters.length) = some 2 := by decide +kernel
theorem mh_X0_leastRelayByTrying : yX0_leastRelayByTrying.cls ≠ "java/lang/invoke/MethodHandle" ∧ yX0_leastRelayByTrying.cls ≠ "java/lang/invoke/VarHandle" := by decide +kernel
theorem pn_X0_runnerOf : (parseMethodDescriptor yX0_runnerOf.desc).map (fun z => z.parameters.length) = some 3 := by decide +kernel
theorem mh_X0_runnerOf : yX0_runnerOf.cls ≠ "java/lang/invoke/MethodHandle" ∧ yX0_runnerOf.cls ≠ "java/lang/invoke/VarHandle" := by decide +kernel
theorem pn_X0_fewestFor : (parseMethodDescriptor yX0_fewestFor.desc).map (fun z => z.parameters.length) = some 3 := by decide +kernel
theorem mh_X0_fewestFor : yX0_fewestFor.cls ≠ "java/lang/invoke/MethodHandle" ∧ yX0_fewestFor.cls ≠ "java/lang/invoke/VarHandle" := by decide +kernel
theorem pn_X0_fewestForBySets : (parseMethodDescriptor yX0_fewestForBySets.desc).map (fun z => z.parameters.length) = some 3 := by decide +kernel
theorem mh_X0_fewestForBySets : yX0_fewestForBySets.cls ≠ "java/lang/invoke/MethodHandle" ∧ yX0_fewestForBySets.cls ≠ "java/lang/invoke/VarHandle" := by decide +kernel
theorem pn_X0_exactSets : (parseMethodDescriptor yX0_exactSets.desc).map (fun z => z.parameters.length) = some 3 := by decide +kernel
theorem mh_X0_exactSets : yX0_exactSets.cls ≠ "java/lang/invoke/MethodHandle" ∧ yX0_exactSets.cls ≠ "java/lang/invoke/VarHandle" := by decide +kernel
theorem pn_X0_meanAmplitude : (parseMethodDescriptor yX0_meanAmplitude.desc).map (fun z => z.parameters.length) = some 2 := by decide +kernel
theorem mh_X0_meanAmplitude : yX0_meanAmplitude.cls ≠ "java/lang/invoke/MethodHandle" ∧ yX0_meanAmplitude.cls ≠ "java/lang/invoke/VarHandle" := by decide +kernel
theorem pn_X0_writeCard : (parseMethodDescriptor yX0_writeCard.desc).map (fun z => z.parameters.length) = some 3 := by decide +kernel
theorem mh_X0_writeCard : yX0_writeCard.cls ≠ "java/lang/invoke/MethodHandle" ∧ yX0_writeCard.cls ≠ "java/lang/invoke/VarHandle" := by decide +kernel
theorem pn_X0_cardAt : (parseMethodDescriptor yX0_cardAt.desc).map (fun z => z.parameters.length) = some 3 := by decide +kernel
theorem mh_X0_cardAt : yX0_cardAt.cls ≠ "java/lang/invoke/MethodHandle" ∧ yX0_cardAt.cls ≠ "java/lang/invoke/VarHandle" := by decide +kernel
theorem pn_X0_type : (parseMethodDescriptor yX0_type.desc).map (fun z => z.parameters.length) = some 3 := by decide +kernel
theorem mh_X0_type : yX0_type.cls ≠ "java/lang/invoke/MethodHandle" ∧ yX0_type.cls ≠ "java/lang/invoke/VarHandle" := by decide +kernel
theorem pn_X0_execute : (parseMethodDescriptor yX0_execute.desc).map (fun z => z.parameters.length) = some 2 := by decide +kernel
theorem mh_X0_execute : yX0_execute.cls ≠ "java/lang/invoke/MethodHandle" ∧ yX0_execute.cls ≠ "java/lang/invoke/VarHandle" := by decide +kernel
theorem pn_X0_errorPosition : (parseMethodDescriptor yX0_errorPosition.desc).map (fun z => z.parameters.length) = some 2 := by decide +kernel
theorem mh_X0_errorPosition : yX0_errorPosition.cls ≠ "java/lang/invoke/MethodHandle" ∧ yX0_errorPosition.cls ≠ "java/lang/invoke/VarHandle" := by decide +kernel
theorem pn_X0_failedCommand : (parseMethodDescriptor yX0_failedCommand.desc).map (fun z => z.parameters.length) = some 2 := by decide +kernel
theorem mh_X0_failedCommand : yX0_failedCommand.cls ≠ "java/lang/invoke/MethodHandle" ∧ yX0_failedCommand.cls ≠ "java/lang/invoke/VarHandle" := by decide +kernel
theorem pn_X0_undo : (parseMethodDescriptor yX0_undo.desc).map (fun z => z.parameters.length) = some 2 := by decide +kernel
theorem mh_X0_undo : yX0_undo.cls ≠ "java/lang/invoke/MethodHandle" ∧ yX0_undo.cls ≠ "java/lang/invoke/VarHandle" := by decide +kernel
theorem pn_X0_restore : (parseMethodDescriptor yX0_restore.desc).map (fun z => z.parameters.length) = some 2 := by decide +kernel
theorem mh_X0_restore : yX0_restore.cls ≠ "java/lang/invoke/MethodHandle" ∧ yX0_restore.cls ≠ "java/lang/invoke/VarHandle" := by decide +kernel
theorem st_SHORT {E : EV} : ("PendulumGym$Kind", "SHORT", "LPendulumGym$Kind;", (.ref 1 : Value)) ∈ stl E := List.mem_of_getElem? (i := 0) rfl
theorem st_MIDDLE {E : EV} : ("PendulumGym$Kind", "MIDDLE", "LPendulumGym$Kind;", (.ref 2 : Value)) ∈ stl E := List.mem_of_getElem? (i := 1) rfl
theorem st_LONG {E : EV} : ("PendulumGym$Kind", "LONG", "LPendulumGym$Kind;", (.ref 3 : Value)) ∈ stl E := List.mem_of_getElem? (i := 2) rfl
theorem st_DEFAULTCAPACITY_EMPTY_ELEMENTDATA {E : EV} : ("java/util/ArrayList", "DEFAULTCAPACITY_EMPTY_ELEMENTDATA", "[Ljava/lang/Object;", (.ref 4 : Value)) ∈ stl E := List.mem_of_getElem? (i := 3) rfl
theorem st_cache {E : EV} : ("java/lang/Integer$IntegerCache", "cache", "[Ljava/lang/Integer;", (.ref 5 : Value)) ∈ stl E := List.mem_of_getElem? (i := 4) rfl
theorem st_high {E : EV} : ("java/lang/Integer$IntegerCache", "high", "I", (.int 127 : Value)) ∈ stl E := List.mem_of_getElem? (i := 5) rfl
theorem st_DigitTens {E : EV} : ("java/lang/Integer", "DigitTens", "[B", (.ref 6 : Value)) ∈ stl E := List.mem_of_getElem? (i := 6) rfl
theorem st_DigitOnes {E : EV} : ("java/lang/Integer", "DigitOnes", "[B", (.ref 7 : Value)) ∈ stl E := List.mem_of_getElem? (i := 7) rfl
theorem st_COMPACT_STRINGS {E : EV} : ("java/lang/String", "COMPACT_STRINGS", "Z", (.int 1 : Value)) ∈ stl E := List.mem_of_getElem? (i := 8) rfl
