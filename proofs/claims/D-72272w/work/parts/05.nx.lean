/-! TurnEstimatorLaw -/
set_option maxRecDepth 100000
def RX0 : String := "TurnEstimatorLaw"
abbrev cX0_setArms : ByteArray := method_3_code
def yX0_setArms : MethodName := ⟨RX0, "setArms", "(LTurnEstimator;I[J)I"⟩
def dkwX0_setArms_0 : List UInt8 := [44, 3, 42, 27, 182, 0, 7, 133, 80, 167, 0, 6, 78, 4, 172, 3, 172]
abbrev dktX0_setArms_0 : List UInt8 := dkwX0_setArms_0 ++ []
theorem dksX0_setArms_0 : cX0_setArms.data.toList.drop 0 = dktX0_setArms_0 := by decide +kernel
theorem dX0_setArms_0 : decode cX0_setArms 0 = .ok (.aload_n 2, 1) := dk_44 (dk_at dksX0_setArms_0 0 rfl rfl)
theorem dX0_setArms_1 : decode cX0_setArms 1 = .ok (.iconst 0, 1) := dk_3 (dk_at dksX0_setArms_0 1 rfl rfl)
theorem dX0_setArms_2 : decode cX0_setArms 2 = .ok (.aload_n 0, 1) := dk_42 (dk_at dksX0_setArms_0 2 rfl rfl)
theorem dX0_setArms_3 : decode cX0_setArms 3 = .ok (.iload_n 1, 1) := dk_27 (dk_at dksX0_setArms_0 3 rfl rfl)
theorem dX0_setArms_4 : decode cX0_setArms 4 = .ok (.invokevirtual 7, 3) := dk_182 0 7 (dk_at dksX0_setArms_0 4 rfl rfl)
theorem dX0_setArms_7 : decode cX0_setArms 7 = .ok (.i2l, 1) := dk_133 (dk_at dksX0_setArms_0 7 rfl rfl)
theorem dX0_setArms_8 : decode cX0_setArms 8 = .ok (.lastore, 1) := dk_80 (dk_at dksX0_setArms_0 8 rfl rfl)
theorem dX0_setArms_9 : decode cX0_setArms 9 = .ok (.goto 6, 3) := dk_167 0 6 (dk_at dksX0_setArms_0 9 rfl rfl)
theorem dX0_setArms_12 : decode cX0_setArms 12 = .ok (.astore_n 3, 1) := dk_78 (dk_at dksX0_setArms_0 12 rfl rfl)
theorem dX0_setArms_13 : decode cX0_setArms 13 = .ok (.iconst 1, 1) := dk_4 (dk_at dksX0_setArms_0 13 rfl rfl)
theorem dX0_setArms_14 : decode cX0_setArms 14 = .ok (.ireturn, 1) := dk_172 (dk_at dksX0_setArms_0 14 rfl rfl)
theorem dX0_setArms_15 : decode cX0_setArms 15 = .ok (.iconst 0, 1) := dk_3 (dk_at dksX0_setArms_0 15 rfl rfl)
theorem dX0_setArms_16 : decode cX0_setArms 16 = .ok (.ireturn, 1) := dk_172 (dk_at dksX0_setArms_0 16 rfl rfl)
abbrev cX0_setInflow : ByteArray := method_4_code
def yX0_setInflow : MethodName := ⟨RX0, "setInflow", "(LTurnEstimator;II[J)I"⟩
def dkwX0_setInflow_0 : List UInt8 := [45, 3, 42, 27, 28, 182, 0, 15, 133, 80, 167, 0, 11, 58, 4, 4, 172, 58, 4, 5, 172, 3, 172]
abbrev dktX0_setInflow_0 : List UInt8 := dkwX0_setInflow_0 ++ []
theorem dksX0_setInflow_0 : cX0_setInflow.data.toList.drop 0 = dktX0_setInflow_0 := by decide +kernel
theorem dX0_setInflow_0 : decode cX0_setInflow 0 = .ok (.aload_n 3, 1) := dk_45 (dk_at dksX0_setInflow_0 0 rfl rfl)
theorem dX0_setInflow_1 : decode cX0_setInflow 1 = .ok (.iconst 0, 1) := dk_3 (dk_at dksX0_setInflow_0 1 rfl rfl)
theorem dX0_setInflow_2 : decode cX0_setInflow 2 = .ok (.aload_n 0, 1) := dk_42 (dk_at dksX0_setInflow_0 2 rfl rfl)
theorem dX0_setInflow_3 : decode cX0_setInflow 3 = .ok (.iload_n 1, 1) := dk_27 (dk_at dksX0_setInflow_0 3 rfl rfl)
theorem dX0_setInflow_4 : decode cX0_setInflow 4 = .ok (.iload_n 2, 1) := dk_28 (dk_at dksX0_setInflow_0 4 rfl rfl)
theorem dX0_setInflow_5 : decode cX0_setInflow 5 = .ok (.invokevirtual 15, 3) := dk_182 0 15 (dk_at dksX0_setInflow_0 5 rfl rfl)
theorem dX0_setInflow_8 : decode cX0_setInflow 8 = .ok (.i2l, 1) := dk_133 (dk_at dksX0_setInflow_0 8 rfl rfl)
theorem dX0_setInflow_9 : decode cX0_setInflow 9 = .ok (.lastore, 1) := dk_80 (dk_at dksX0_setInflow_0 9 rfl rfl)
theorem dX0_setInflow_10 : decode cX0_setInflow 10 = .ok (.goto 11, 3) := dk_167 0 11 (dk_at dksX0_setInflow_0 10 rfl rfl)
theorem dX0_setInflow_13 : decode cX0_setInflow 13 = .ok (.astore 4, 2) := dk_58 4 (dk_at dksX0_setInflow_0 13 rfl rfl)
theorem dX0_setInflow_15 : decode cX0_setInflow 15 = .ok (.iconst 1, 1) := dk_4 (dk_at dksX0_setInflow_0 15 rfl rfl)
theorem dX0_setInflow_16 : decode cX0_setInflow 16 = .ok (.ireturn, 1) := dk_172 (dk_at dksX0_setInflow_0 16 rfl rfl)
theorem dX0_setInflow_17 : decode cX0_setInflow 17 = .ok (.astore 4, 2) := dk_58 4 (dk_at dksX0_setInflow_0 17 rfl rfl)
theorem dX0_setInflow_19 : decode cX0_setInflow 19 = .ok (.iconst 2, 1) := dk_5 (dk_at dksX0_setInflow_0 19 rfl rfl)
theorem dX0_setInflow_20 : decode cX0_setInflow 20 = .ok (.ireturn, 1) := dk_172 (dk_at dksX0_setInflow_0 20 rfl rfl)
theorem dX0_setInflow_21 : decode cX0_setInflow 21 = .ok (.iconst 0, 1) := dk_3 (dk_at dksX0_setInflow_0 21 rfl rfl)
theorem dX0_setInflow_22 : decode cX0_setInflow 22 = .ok (.ireturn, 1) := dk_172 (dk_at dksX0_setInflow_0 22 rfl rfl)
abbrev cX0_setOutflow : ByteArray := method_5_code
def yX0_setOutflow : MethodName := ⟨RX0, "setOutflow", "(LTurnEstimator;II[J)I"⟩
def dkwX0_setOutflow_0 : List UInt8 := [45, 3, 42, 27, 28, 182, 0, 21, 133, 80, 167, 0, 11, 58, 4, 4, 172, 58, 4, 5, 172, 3, 172]
abbrev dktX0_setOutflow_0 : List UInt8 := dkwX0_setOutflow_0 ++ []
theorem dksX0_setOutflow_0 : cX0_setOutflow.data.toList.drop 0 = dktX0_setOutflow_0 := by decide +kernel
theorem dX0_setOutflow_0 : decode cX0_setOutflow 0 = .ok (.aload_n 3, 1) := dk_45 (dk_at dksX0_setOutflow_0 0 rfl rfl)
theorem dX0_setOutflow_1 : decode cX0_setOutflow 1 = .ok (.iconst 0, 1) := dk_3 (dk_at dksX0_setOutflow_0 1 rfl rfl)
theorem dX0_setOutflow_2 : decode cX0_setOutflow 2 = .ok (.aload_n 0, 1) := dk_42 (dk_at dksX0_setOutflow_0 2 rfl rfl)
theorem dX0_setOutflow_3 : decode cX0_setOutflow 3 = .ok (.iload_n 1, 1) := dk_27 (dk_at dksX0_setOutflow_0 3 rfl rfl)
theorem dX0_setOutflow_4 : decode cX0_setOutflow 4 = .ok (.iload_n 2, 1) := dk_28 (dk_at dksX0_setOutflow_0 4 rfl rfl)
theorem dX0_setOutflow_5 : decode cX0_setOutflow 5 = .ok (.invokevirtual 21, 3) := dk_182 0 21 (dk_at dksX0_setOutflow_0 5 rfl rfl)
theorem dX0_setOutflow_8 : decode cX0_setOutflow 8 = .ok (.i2l, 1) := dk_133 (dk_at dksX0_setOutflow_0 8 rfl rfl)
theorem dX0_setOutflow_9 : decode cX0_setOutflow 9 = .ok (.lastore, 1) := dk_80 (dk_at dksX0_setOutflow_0 9 rfl rfl)
theorem dX0_setOutflow_10 : decode cX0_setOutflow 10 = .ok (.goto 11, 3) := dk_167 0 11 (dk_at dksX0_setOutflow_0 10 rfl rfl)
theorem dX0_setOutflow_13 : decode cX0_setOutflow 13 = .ok (.astore 4, 2) := dk_58 4 (dk_at dksX0_setOutflow_0 13 rfl rfl)
theorem dX0_setOutflow_15 : decode cX0_setOutflow 15 = .ok (.iconst 1, 1) := dk_4 (dk_at dksX0_setOutflow_0 15 rfl rfl)
theorem dX0_setOutflow_16 : decode cX0_setOutflow 16 = .ok (.ireturn, 1) := dk_172 (dk_at dksX0_setOutflow_0 16 rfl rfl)
theorem dX0_setOutflow_17 : decode cX0_setOutflow 17 = .ok (.astore 4, 2) := dk_58 4 (dk_at dksX0_setOutflow_0 17 rfl rfl)
theorem dX0_setOutflow_19 : decode cX0_setOutflow 19 = .ok (.iconst 2, 1) := dk_5 (dk_at dksX0_setOutflow_0 19 rfl rfl)
theorem dX0_setOutflow_20 : decode cX0_setOutflow 20 = .ok (.ireturn, 1) := dk_172 (dk_at dksX0_setOutflow_0 20 rfl rfl)
theorem dX0_setOutflow_21 : decode cX0_setOutflow 21 = .ok (.iconst 0, 1) := dk_3 (dk_at dksX0_setOutflow_0 21 rfl rfl)
theorem dX0_setOutflow_22 : decode cX0_setOutflow 22 = .ok (.ireturn, 1) := dk_172 (dk_at dksX0_setOutflow_0 22 rfl rfl)
abbrev cX0_setWeight : ByteArray := method_6_code
def yX0_setWeight : MethodName := ⟨RX0, "setWeight", "(LTurnEstimator;III[J)I"⟩
def dkwX0_setWeight_1 : List UInt8 := [172]
abbrev dktX0_setWeight_1 : List UInt8 := dkwX0_setWeight_1 ++ []
def dkwX0_setWeight_0 : List UInt8 := [25, 4, 3, 42, 27, 28, 29, 182, 0, 24, 133, 80, 167, 0, 11, 58, 5, 4, 172, 58, 5, 5, 172, 3]
abbrev dktX0_setWeight_0 : List UInt8 := dkwX0_setWeight_0 ++ dktX0_setWeight_1
theorem dksX0_setWeight_0 : cX0_setWeight.data.toList.drop 0 = dktX0_setWeight_0 := by decide +kernel
theorem dksX0_setWeight_1 : cX0_setWeight.data.toList.drop 24 = dktX0_setWeight_1 := dk_seg dksX0_setWeight_0 24 rfl rfl
theorem dX0_setWeight_0 : decode cX0_setWeight 0 = .ok (.aload 4, 2) := dk_25 4 (dk_at dksX0_setWeight_0 0 rfl rfl)
theorem dX0_setWeight_2 : decode cX0_setWeight 2 = .ok (.iconst 0, 1) := dk_3 (dk_at dksX0_setWeight_0 2 rfl rfl)
theorem dX0_setWeight_3 : decode cX0_setWeight 3 = .ok (.aload_n 0, 1) := dk_42 (dk_at dksX0_setWeight_0 3 rfl rfl)
theorem dX0_setWeight_4 : decode cX0_setWeight 4 = .ok (.iload_n 1, 1) := dk_27 (dk_at dksX0_setWeight_0 4 rfl rfl)
theorem dX0_setWeight_5 : decode cX0_setWeight 5 = .ok (.iload_n 2, 1) := dk_28 (dk_at dksX0_setWeight_0 5 rfl rfl)
theorem dX0_setWeight_6 : decode cX0_setWeight 6 = .ok (.iload_n 3, 1) := dk_29 (dk_at dksX0_setWeight_0 6 rfl rfl)
theorem dX0_setWeight_7 : decode cX0_setWeight 7 = .ok (.invokevirtual 24, 3) := dk_182 0 24 (dk_at dksX0_setWeight_0 7 rfl rfl)
theorem dX0_setWeight_10 : decode cX0_setWeight 10 = .ok (.i2l, 1) := dk_133 (dk_at dksX0_setWeight_0 10 rfl rfl)
theorem dX0_setWeight_11 : decode cX0_setWeight 11 = .ok (.lastore, 1) := dk_80 (dk_at dksX0_setWeight_0 11 rfl rfl)
theorem dX0_setWeight_12 : decode cX0_setWeight 12 = .ok (.goto 11, 3) := dk_167 0 11 (dk_at dksX0_setWeight_0 12 rfl rfl)
theorem dX0_setWeight_15 : decode cX0_setWeight 15 = .ok (.astore 5, 2) := dk_58 5 (dk_at dksX0_setWeight_0 15 rfl rfl)
theorem dX0_setWeight_17 : decode cX0_setWeight 17 = .ok (.iconst 1, 1) := dk_4 (dk_at dksX0_setWeight_0 17 rfl rfl)
theorem dX0_setWeight_18 : decode cX0_setWeight 18 = .ok (.ireturn, 1) := dk_172 (dk_at dksX0_setWeight_0 18 rfl rfl)
theorem dX0_setWeight_19 : decode cX0_setWeight 19 = .ok (.astore 5, 2) := dk_58 5 (dk_at dksX0_setWeight_0 19 rfl rfl)
theorem dX0_setWeight_21 : decode cX0_setWeight 21 = .ok (.iconst 2, 1) := dk_5 (dk_at dksX0_setWeight_0 21 rfl rfl)
theorem dX0_setWeight_22 : decode cX0_setWeight 22 = .ok (.ireturn, 1) := dk_172 (dk_at dksX0_setWeight_0 22 rfl rfl)
theorem dX0_setWeight_23 : decode cX0_setWeight 23 = .ok (.iconst 0, 1) := dk_3 (dk_at dksX0_setWeight_0 23 rfl rfl)
theorem dX0_setWeight_24 : decode cX0_setWeight 24 = .ok (.ireturn, 1) := dk_172 (dk_at dksX0_setWeight_1 0 rfl rfl)
abbrev cX0_scale : ByteArray := method_7_code
def yX0_scale : MethodName := ⟨RX0, "scale", "(LTurnEstimator;I[J)I"⟩
def dkwX0_scale_0 : List UInt8 := [44, 3, 42, 27, 182, 0, 28, 133, 80, 167, 0, 9, 78, 4, 172, 78, 5, 172, 3, 172]
abbrev dktX0_scale_0 : List UInt8 := dkwX0_scale_0 ++ []
theorem dksX0_scale_0 : cX0_scale.data.toList.drop 0 = dktX0_scale_0 := by decide +kernel
theorem dX0_scale_0 : decode cX0_scale 0 = .ok (.aload_n 2, 1) := dk_44 (dk_at dksX0_scale_0 0 rfl rfl)
theorem dX0_scale_1 : decode cX0_scale 1 = .ok (.iconst 0, 1) := dk_3 (dk_at dksX0_scale_0 1 rfl rfl)
theorem dX0_scale_2 : decode cX0_scale 2 = .ok (.aload_n 0, 1) := dk_42 (dk_at dksX0_scale_0 2 rfl rfl)
theorem dX0_scale_3 : decode cX0_scale 3 = .ok (.iload_n 1, 1) := dk_27 (dk_at dksX0_scale_0 3 rfl rfl)
theorem dX0_scale_4 : decode cX0_scale 4 = .ok (.invokevirtual 28, 3) := dk_182 0 28 (dk_at dksX0_scale_0 4 rfl rfl)
theorem dX0_scale_7 : decode cX0_scale 7 = .ok (.i2l, 1) := dk_133 (dk_at dksX0_scale_0 7 rfl rfl)
theorem dX0_scale_8 : decode cX0_scale 8 = .ok (.lastore, 1) := dk_80 (dk_at dksX0_scale_0 8 rfl rfl)
theorem dX0_scale_9 : decode cX0_scale 9 = .ok (.goto 9, 3) := dk_167 0 9 (dk_at dksX0_scale_0 9 rfl rfl)
theorem dX0_scale_12 : decode cX0_scale 12 = .ok (.astore_n 3, 1) := dk_78 (dk_at dksX0_scale_0 12 rfl rfl)
theorem dX0_scale_13 : decode cX0_scale 13 = .ok (.iconst 1, 1) := dk_4 (dk_at dksX0_scale_0 13 rfl rfl)
theorem dX0_scale_14 : decode cX0_scale 14 = .ok (.ireturn, 1) := dk_172 (dk_at dksX0_scale_0 14 rfl rfl)
theorem dX0_scale_15 : decode cX0_scale 15 = .ok (.astore_n 3, 1) := dk_78 (dk_at dksX0_scale_0 15 rfl rfl)
theorem dX0_scale_16 : decode cX0_scale 16 = .ok (.iconst 2, 1) := dk_5 (dk_at dksX0_scale_0 16 rfl rfl)
theorem dX0_scale_17 : decode cX0_scale 17 = .ok (.ireturn, 1) := dk_172 (dk_at dksX0_scale_0 17 rfl rfl)
theorem dX0_scale_18 : decode cX0_scale 18 = .ok (.iconst 0, 1) := dk_3 (dk_at dksX0_scale_0 18 rfl rfl)
theorem dX0_scale_19 : decode cX0_scale 19 = .ok (.ireturn, 1) := dk_172 (dk_at dksX0_scale_0 19 rfl rfl)
abbrev cX0_excess : ByteArray := method_8_code
def yX0_excess : MethodName := ⟨RX0, "excess", "(LTurnEstimator;I[J)I"⟩
def dkwX0_excess_0 : List UInt8 := [44, 3, 42, 27, 182, 0, 33, 133, 80, 167, 0, 6, 78, 4, 172, 3, 172]
abbrev dktX0_excess_0 : List UInt8 := dkwX0_excess_0 ++ []
theorem dksX0_excess_0 : cX0_excess.data.toList.drop 0 = dktX0_excess_0 := by decide +kernel
theorem dX0_excess_0 : decode cX0_excess 0 = .ok (.aload_n 2, 1) := dk_44 (dk_at dksX0_excess_0 0 rfl rfl)
theorem dX0_excess_1 : decode cX0_excess 1 = .ok (.iconst 0, 1) := dk_3 (dk_at dksX0_excess_0 1 rfl rfl)
theorem dX0_excess_2 : decode cX0_excess 2 = .ok (.aload_n 0, 1) := dk_42 (dk_at dksX0_excess_0 2 rfl rfl)
theorem dX0_excess_3 : decode cX0_excess 3 = .ok (.iload_n 1, 1) := dk_27 (dk_at dksX0_excess_0 3 rfl rfl)
theorem dX0_excess_4 : decode cX0_excess 4 = .ok (.invokevirtual 33, 3) := dk_182 0 33 (dk_at dksX0_excess_0 4 rfl rfl)
theorem dX0_excess_7 : decode cX0_excess 7 = .ok (.i2l, 1) := dk_133 (dk_at dksX0_excess_0 7 rfl rfl)
theorem dX0_excess_8 : decode cX0_excess 8 = .ok (.lastore, 1) := dk_80 (dk_at dksX0_excess_0 8 rfl rfl)
theorem dX0_excess_9 : decode cX0_excess 9 = .ok (.goto 6, 3) := dk_167 0 6 (dk_at dksX0_excess_0 9 rfl rfl)
theorem dX0_excess_12 : decode cX0_excess 12 = .ok (.astore_n 3, 1) := dk_78 (dk_at dksX0_excess_0 12 rfl rfl)
theorem dX0_excess_13 : decode cX0_excess 13 = .ok (.iconst 1, 1) := dk_4 (dk_at dksX0_excess_0 13 rfl rfl)
theorem dX0_excess_14 : decode cX0_excess 14 = .ok (.ireturn, 1) := dk_172 (dk_at dksX0_excess_0 14 rfl rfl)
theorem dX0_excess_15 : decode cX0_excess 15 = .ok (.iconst 0, 1) := dk_3 (dk_at dksX0_excess_0 15 rfl rfl)
theorem dX0_excess_16 : decode cX0_excess 16 = .ok (.ireturn, 1) := dk_172 (dk_at dksX0_excess_0 16 rfl rfl)
abbrev cX0_iterate : ByteArray := method_9_code
def yX0_iterate : MethodName := ⟨RX0, "iterate", "(LTurnEstimator;I[J)I"⟩
def dkwX0_iterate_0 : List UInt8 := [44, 3, 42, 27, 182, 0, 36, 133, 80, 167, 0, 6, 78, 4, 172, 3, 172]
abbrev dktX0_iterate_0 : List UInt8 := dkwX0_iterate_0 ++ []
theorem dksX0_iterate_0 : cX0_iterate.data.toList.drop 0 = dktX0_iterate_0 := by decide +kernel
theorem dX0_iterate_0 : decode cX0_iterate 0 = .ok (.aload_n 2, 1) := dk_44 (dk_at dksX0_iterate_0 0 rfl rfl)
theorem dX0_iterate_1 : decode cX0_iterate 1 = .ok (.iconst 0, 1) := dk_3 (dk_at dksX0_iterate_0 1 rfl rfl)
theorem dX0_iterate_2 : decode cX0_iterate 2 = .ok (.aload_n 0, 1) := dk_42 (dk_at dksX0_iterate_0 2 rfl rfl)
theorem dX0_iterate_3 : decode cX0_iterate 3 = .ok (.iload_n 1, 1) := dk_27 (dk_at dksX0_iterate_0 3 rfl rfl)
theorem dX0_iterate_4 : decode cX0_iterate 4 = .ok (.invokevirtual 36, 3) := dk_182 0 36 (dk_at dksX0_iterate_0 4 rfl rfl)
theorem dX0_iterate_7 : decode cX0_iterate 7 = .ok (.i2l, 1) := dk_133 (dk_at dksX0_iterate_0 7 rfl rfl)
theorem dX0_iterate_8 : decode cX0_iterate 8 = .ok (.lastore, 1) := dk_80 (dk_at dksX0_iterate_0 8 rfl rfl)
theorem dX0_iterate_9 : decode cX0_iterate 9 = .ok (.goto 6, 3) := dk_167 0 6 (dk_at dksX0_iterate_0 9 rfl rfl)
theorem dX0_iterate_12 : decode cX0_iterate 12 = .ok (.astore_n 3, 1) := dk_78 (dk_at dksX0_iterate_0 12 rfl rfl)
theorem dX0_iterate_13 : decode cX0_iterate 13 = .ok (.iconst 1, 1) := dk_4 (dk_at dksX0_iterate_0 13 rfl rfl)
theorem dX0_iterate_14 : decode cX0_iterate 14 = .ok (.ireturn, 1) := dk_172 (dk_at dksX0_iterate_0 14 rfl rfl)
theorem dX0_iterate_15 : decode cX0_iterate 15 = .ok (.iconst 0, 1) := dk_3 (dk_at dksX0_iterate_0 15 rfl rfl)
theorem dX0_iterate_16 : decode cX0_iterate 16 = .ok (.ireturn, 1) := dk_172 (dk_at dksX0_iterate_0 16 rfl rfl)
abbrev cX0_fit : ByteArray := method_10_code
def yX0_fit : MethodName := ⟨RX0, "fit", "(LTurnEstimator;II[J)I"⟩
def dkwX0_fit_0 : List UInt8 := [45, 3, 42, 27, 28, 182, 0, 39, 133, 80, 167, 0, 7, 58, 4, 4, 172, 3, 172]
abbrev dktX0_fit_0 : List UInt8 := dkwX0_fit_0 ++ []
theorem dksX0_fit_0 : cX0_fit.data.toList.drop 0 = dktX0_fit_0 := by decide +kernel
theorem dX0_fit_0 : decode cX0_fit 0 = .ok (.aload_n 3, 1) := dk_45 (dk_at dksX0_fit_0 0 rfl rfl)
theorem dX0_fit_1 : decode cX0_fit 1 = .ok (.iconst 0, 1) := dk_3 (dk_at dksX0_fit_0 1 rfl rfl)
theorem dX0_fit_2 : decode cX0_fit 2 = .ok (.aload_n 0, 1) := dk_42 (dk_at dksX0_fit_0 2 rfl rfl)
theorem dX0_fit_3 : decode cX0_fit 3 = .ok (.iload_n 1, 1) := dk_27 (dk_at dksX0_fit_0 3 rfl rfl)
theorem dX0_fit_4 : decode cX0_fit 4 = .ok (.iload_n 2, 1) := dk_28 (dk_at dksX0_fit_0 4 rfl rfl)
theorem dX0_fit_5 : decode cX0_fit 5 = .ok (.invokevirtual 39, 3) := dk_182 0 39 (dk_at dksX0_fit_0 5 rfl rfl)
theorem dX0_fit_8 : decode cX0_fit 8 = .ok (.i2l, 1) := dk_133 (dk_at dksX0_fit_0 8 rfl rfl)
theorem dX0_fit_9 : decode cX0_fit 9 = .ok (.lastore, 1) := dk_80 (dk_at dksX0_fit_0 9 rfl rfl)
theorem dX0_fit_10 : decode cX0_fit 10 = .ok (.goto 7, 3) := dk_167 0 7 (dk_at dksX0_fit_0 10 rfl rfl)
theorem dX0_fit_13 : decode cX0_fit 13 = .ok (.astore 4, 2) := dk_58 4 (dk_at dksX0_fit_0 13 rfl rfl)
theorem dX0_fit_15 : decode cX0_fit 15 = .ok (.iconst 1, 1) := dk_4 (dk_at dksX0_fit_0 15 rfl rfl)
theorem dX0_fit_16 : decode cX0_fit 16 = .ok (.ireturn, 1) := dk_172 (dk_at dksX0_fit_0 16 rfl rfl)
theorem dX0_fit_17 : decode cX0_fit 17 = .ok (.iconst 0, 1) := dk_3 (dk_at dksX0_fit_0 17 rfl rfl)
theorem dX0_fit_18 : decode cX0_fit 18 = .ok (.ireturn, 1) := dk_172 (dk_at dksX0_fit_0 18 rfl rfl)
abbrev cX0_estimate : ByteArray := method_11_code
def yX0_estimate : MethodName := ⟨RX0, "estimate", "(LTurnEstimator;II[D)I"⟩
def dkwX0_estimate_0 : List UInt8 := [45, 3, 42, 27, 28, 182, 0, 42, 82, 167, 0, 7, 58, 4, 4, 172, 3, 172]
abbrev dktX0_estimate_0 : List UInt8 := dkwX0_estimate_0 ++ []
theorem dksX0_estimate_0 : cX0_estimate.data.toList.drop 0 = dktX0_estimate_0 := by decide +kernel
theorem dX0_estimate_0 : decode cX0_estimate 0 = .ok (.aload_n 3, 1) := dk_45 (dk_at dksX0_estimate_0 0 rfl rfl)
theorem dX0_estimate_1 : decode cX0_estimate 1 = .ok (.iconst 0, 1) := dk_3 (dk_at dksX0_estimate_0 1 rfl rfl)
theorem dX0_estimate_2 : decode cX0_estimate 2 = .ok (.aload_n 0, 1) := dk_42 (dk_at dksX0_estimate_0 2 rfl rfl)
theorem dX0_estimate_3 : decode cX0_estimate 3 = .ok (.iload_n 1, 1) := dk_27 (dk_at dksX0_estimate_0 3 rfl rfl)
theorem dX0_estimate_4 : decode cX0_estimate 4 = .ok (.iload_n 2, 1) := dk_28 (dk_at dksX0_estimate_0 4 rfl rfl)
theorem dX0_estimate_5 : decode cX0_estimate 5 = .ok (.invokevirtual 42, 3) := dk_182 0 42 (dk_at dksX0_estimate_0 5 rfl rfl)
theorem dX0_estimate_8 : decode cX0_estimate 8 = .ok (.dastore, 1) := dk_82 (dk_at dksX0_estimate_0 8 rfl rfl)
theorem dX0_estimate_9 : decode cX0_estimate 9 = .ok (.goto 7, 3) := dk_167 0 7 (dk_at dksX0_estimate_0 9 rfl rfl)
theorem dX0_estimate_12 : decode cX0_estimate 12 = .ok (.astore 4, 2) := dk_58 4 (dk_at dksX0_estimate_0 12 rfl rfl)
theorem dX0_estimate_14 : decode cX0_estimate 14 = .ok (.iconst 1, 1) := dk_4 (dk_at dksX0_estimate_0 14 rfl rfl)
theorem dX0_estimate_15 : decode cX0_estimate 15 = .ok (.ireturn, 1) := dk_172 (dk_at dksX0_estimate_0 15 rfl rfl)
theorem dX0_estimate_16 : decode cX0_estimate 16 = .ok (.iconst 0, 1) := dk_3 (dk_at dksX0_estimate_0 16 rfl rfl)
theorem dX0_estimate_17 : decode cX0_estimate 17 = .ok (.ireturn, 1) := dk_172 (dk_at dksX0_estimate_0 17 rfl rfl)
abbrev cX0_sum : ByteArray := method_12_code
def yX0_sum : MethodName := ⟨RX0, "sum", "(LTurnEstimator;IZ[D)I"⟩
def dkwX0_sum_0 : List UInt8 := [45, 3, 42, 27, 28, 182, 0, 46, 82, 167, 0, 7, 58, 4, 4, 172, 3, 172]
abbrev dktX0_sum_0 : List UInt8 := dkwX0_sum_0 ++ []
theorem dksX0_sum_0 : cX0_sum.data.toList.drop 0 = dktX0_sum_0 := by decide +kernel
theorem dX0_sum_0 : decode cX0_sum 0 = .ok (.aload_n 3, 1) := dk_45 (dk_at dksX0_sum_0 0 rfl rfl)
theorem dX0_sum_1 : decode cX0_sum 1 = .ok (.iconst 0, 1) := dk_3 (dk_at dksX0_sum_0 1 rfl rfl)
theorem dX0_sum_2 : decode cX0_sum 2 = .ok (.aload_n 0, 1) := dk_42 (dk_at dksX0_sum_0 2 rfl rfl)
theorem dX0_sum_3 : decode cX0_sum 3 = .ok (.iload_n 1, 1) := dk_27 (dk_at dksX0_sum_0 3 rfl rfl)
theorem dX0_sum_4 : decode cX0_sum 4 = .ok (.iload_n 2, 1) := dk_28 (dk_at dksX0_sum_0 4 rfl rfl)
theorem dX0_sum_5 : decode cX0_sum 5 = .ok (.invokevirtual 46, 3) := dk_182 0 46 (dk_at dksX0_sum_0 5 rfl rfl)
theorem dX0_sum_8 : decode cX0_sum 8 = .ok (.dastore, 1) := dk_82 (dk_at dksX0_sum_0 8 rfl rfl)
theorem dX0_sum_9 : decode cX0_sum 9 = .ok (.goto 7, 3) := dk_167 0 7 (dk_at dksX0_sum_0 9 rfl rfl)
theorem dX0_sum_12 : decode cX0_sum 12 = .ok (.astore 4, 2) := dk_58 4 (dk_at dksX0_sum_0 12 rfl rfl)
theorem dX0_sum_14 : decode cX0_sum 14 = .ok (.iconst 1, 1) := dk_4 (dk_at dksX0_sum_0 14 rfl rfl)
theorem dX0_sum_15 : decode cX0_sum 15 = .ok (.ireturn, 1) := dk_172 (dk_at dksX0_sum_0 15 rfl rfl)
theorem dX0_sum_16 : decode cX0_sum 16 = .ok (.iconst 0, 1) := dk_3 (dk_at dksX0_sum_0 16 rfl rfl)
theorem dX0_sum_17 : decode cX0_sum 17 = .ok (.ireturn, 1) := dk_172 (dk_at dksX0_sum_0 17 rfl rfl)
abbrev cX0_share : ByteArray := method_13_code
def yX0_share : MethodName := ⟨RX0, "share", "(LTurnEstimator;II[D)I"⟩
def dkwX0_share_0 : List UInt8 := [45, 3, 42, 27, 28, 182, 0, 50, 82, 167, 0, 7, 58, 4, 4, 172, 3, 172]
abbrev dktX0_share_0 : List UInt8 := dkwX0_share_0 ++ []
theorem dksX0_share_0 : cX0_share.data.toList.drop 0 = dktX0_share_0 := by decide +kernel
theorem dX0_share_0 : decode cX0_share 0 = .ok (.aload_n 3, 1) := dk_45 (dk_at dksX0_share_0 0 rfl rfl)
theorem dX0_share_1 : decode cX0_share 1 = .ok (.iconst 0, 1) := dk_3 (dk_at dksX0_share_0 1 rfl rfl)
theorem dX0_share_2 : decode cX0_share 2 = .ok (.aload_n 0, 1) := dk_42 (dk_at dksX0_share_0 2 rfl rfl)
theorem dX0_share_3 : decode cX0_share 3 = .ok (.iload_n 1, 1) := dk_27 (dk_at dksX0_share_0 3 rfl rfl)
theorem dX0_share_4 : decode cX0_share 4 = .ok (.iload_n 2, 1) := dk_28 (dk_at dksX0_share_0 4 rfl rfl)
theorem dX0_share_5 : decode cX0_share 5 = .ok (.invokevirtual 50, 3) := dk_182 0 50 (dk_at dksX0_share_0 5 rfl rfl)
theorem dX0_share_8 : decode cX0_share 8 = .ok (.dastore, 1) := dk_82 (dk_at dksX0_share_0 8 rfl rfl)
theorem dX0_share_9 : decode cX0_share 9 = .ok (.goto 7, 3) := dk_167 0 7 (dk_at dksX0_share_0 9 rfl rfl)
theorem dX0_share_12 : decode cX0_share 12 = .ok (.astore 4, 2) := dk_58 4 (dk_at dksX0_share_0 12 rfl rfl)
theorem dX0_share_14 : decode cX0_share 14 = .ok (.iconst 1, 1) := dk_4 (dk_at dksX0_share_0 14 rfl rfl)
theorem dX0_share_15 : decode cX0_share 15 = .ok (.ireturn, 1) := dk_172 (dk_at dksX0_share_0 15 rfl rfl)
theorem dX0_share_16 : decode cX0_share 16 = .ok (.iconst 0, 1) := dk_3 (dk_at dksX0_share_0 16 rfl rfl)
theorem dX0_share_17 : decode cX0_share 17 = .ok (.ireturn, 1) := dk_172 (dk_at dksX0_share_0 17 rfl rfl)
abbrev cX0_crossRatio : ByteArray := method_14_code
def yX0_crossRatio : MethodName := ⟨RX0, "crossRatio", "(LTurnEstimator;IIII[D)I"⟩
def dkwX0_crossRatio_1 : List UInt8 := [3, 172]
abbrev dktX0_crossRatio_1 : List UInt8 := dkwX0_crossRatio_1 ++ []
def dkwX0_crossRatio_0 : List UInt8 := [25, 5, 3, 42, 27, 28, 29, 21, 4, 182, 0, 53, 82, 167, 0, 11, 58, 6, 4, 172, 58, 6, 5, 172]
abbrev dktX0_crossRatio_0 : List UInt8 := dkwX0_crossRatio_0 ++ dktX0_crossRatio_1
theorem dksX0_crossRatio_0 : cX0_crossRatio.data.toList.drop 0 = dktX0_crossRatio_0 := by decide +kernel
theorem dksX0_crossRatio_1 : cX0_crossRatio.data.toList.drop 24 = dktX0_crossRatio_1 := dk_seg dksX0_crossRatio_0 24 rfl rfl
theorem dX0_crossRatio_0 : decode cX0_crossRatio 0 = .ok (.aload 5, 2) := dk_25 5 (dk_at dksX0_crossRatio_0 0 rfl rfl)
theorem dX0_crossRatio_2 : decode cX0_crossRatio 2 = .ok (.iconst 0, 1) := dk_3 (dk_at dksX0_crossRatio_0 2 rfl rfl)
theorem dX0_crossRatio_3 : decode cX0_crossRatio 3 = .ok (.aload_n 0, 1) := dk_42 (dk_at dksX0_crossRatio_0 3 rfl rfl)
theorem dX0_crossRatio_4 : decode cX0_crossRatio 4 = .ok (.iload_n 1, 1) := dk_27 (dk_at dksX0_crossRatio_0 4 rfl rfl)
theorem dX0_crossRatio_5 : decode cX0_crossRatio 5 = .ok (.iload_n 2, 1) := dk_28 (dk_at dksX0_crossRatio_0 5 rfl rfl)
theorem dX0_crossRatio_6 : decode cX0_crossRatio 6 = .ok (.iload_n 3, 1) := dk_29 (dk_at dksX0_crossRatio_0 6 rfl rfl)
theorem dX0_crossRatio_7 : decode cX0_crossRatio 7 = .ok (.iload 4, 2) := dk_21 4 (dk_at dksX0_crossRatio_0 7 rfl rfl)
theorem dX0_crossRatio_9 : decode cX0_crossRatio 9 = .ok (.invokevirtual 53, 3) := dk_182 0 53 (dk_at dksX0_crossRatio_0 9 rfl rfl)
theorem dX0_crossRatio_12 : decode cX0_crossRatio 12 = .ok (.dastore, 1) := dk_82 (dk_at dksX0_crossRatio_0 12 rfl rfl)
theorem dX0_crossRatio_13 : decode cX0_crossRatio 13 = .ok (.goto 11, 3) := dk_167 0 11 (dk_at dksX0_crossRatio_0 13 rfl rfl)
theorem dX0_crossRatio_16 : decode cX0_crossRatio 16 = .ok (.astore 6, 2) := dk_58 6 (dk_at dksX0_crossRatio_0 16 rfl rfl)
theorem dX0_crossRatio_18 : decode cX0_crossRatio 18 = .ok (.iconst 1, 1) := dk_4 (dk_at dksX0_crossRatio_0 18 rfl rfl)
theorem dX0_crossRatio_19 : decode cX0_crossRatio 19 = .ok (.ireturn, 1) := dk_172 (dk_at dksX0_crossRatio_0 19 rfl rfl)
theorem dX0_crossRatio_20 : decode cX0_crossRatio 20 = .ok (.astore 6, 2) := dk_58 6 (dk_at dksX0_crossRatio_0 20 rfl rfl)
theorem dX0_crossRatio_22 : decode cX0_crossRatio 22 = .ok (.iconst 2, 1) := dk_5 (dk_at dksX0_crossRatio_0 22 rfl rfl)
theorem dX0_crossRatio_23 : decode cX0_crossRatio 23 = .ok (.ireturn, 1) := dk_172 (dk_at dksX0_crossRatio_0 23 rfl rfl)
theorem dX0_crossRatio_24 : decode cX0_crossRatio 24 = .ok (.iconst 0, 1) := dk_3 (dk_at dksX0_crossRatio_1 0 rfl rfl)
theorem dX0_crossRatio_25 : decode cX0_crossRatio 25 = .ok (.ireturn, 1) := dk_172 (dk_at dksX0_crossRatio_1 1 rfl rfl)
abbrev cX0_rounded : ByteArray := method_15_code
def yX0_rounded : MethodName := ⟨RX0, "rounded", "(LTurnEstimator;II[J)I"⟩
def dkwX0_rounded_0 : List UInt8 := [45, 3, 42, 27, 28, 182, 0, 59, 133, 80, 167, 0, 7, 58, 4, 4, 172, 3, 172]
abbrev dktX0_rounded_0 : List UInt8 := dkwX0_rounded_0 ++ []
theorem dksX0_rounded_0 : cX0_rounded.data.toList.drop 0 = dktX0_rounded_0 := by decide +kernel
theorem dX0_rounded_0 : decode cX0_rounded 0 = .ok (.aload_n 3, 1) := dk_45 (dk_at dksX0_rounded_0 0 rfl rfl)
theorem dX0_rounded_1 : decode cX0_rounded 1 = .ok (.iconst 0, 1) := dk_3 (dk_at dksX0_rounded_0 1 rfl rfl)
theorem dX0_rounded_2 : decode cX0_rounded 2 = .ok (.aload_n 0, 1) := dk_42 (dk_at dksX0_rounded_0 2 rfl rfl)
theorem dX0_rounded_3 : decode cX0_rounded 3 = .ok (.iload_n 1, 1) := dk_27 (dk_at dksX0_rounded_0 3 rfl rfl)
theorem dX0_rounded_4 : decode cX0_rounded 4 = .ok (.iload_n 2, 1) := dk_28 (dk_at dksX0_rounded_0 4 rfl rfl)
theorem dX0_rounded_5 : decode cX0_rounded 5 = .ok (.invokevirtual 59, 3) := dk_182 0 59 (dk_at dksX0_rounded_0 5 rfl rfl)
theorem dX0_rounded_8 : decode cX0_rounded 8 = .ok (.i2l, 1) := dk_133 (dk_at dksX0_rounded_0 8 rfl rfl)
theorem dX0_rounded_9 : decode cX0_rounded 9 = .ok (.lastore, 1) := dk_80 (dk_at dksX0_rounded_0 9 rfl rfl)
theorem dX0_rounded_10 : decode cX0_rounded 10 = .ok (.goto 7, 3) := dk_167 0 7 (dk_at dksX0_rounded_0 10 rfl rfl)
theorem dX0_rounded_13 : decode cX0_rounded 13 = .ok (.astore 4, 2) := dk_58 4 (dk_at dksX0_rounded_0 13 rfl rfl)
theorem dX0_rounded_15 : decode cX0_rounded 15 = .ok (.iconst 1, 1) := dk_4 (dk_at dksX0_rounded_0 15 rfl rfl)
theorem dX0_rounded_16 : decode cX0_rounded 16 = .ok (.ireturn, 1) := dk_172 (dk_at dksX0_rounded_0 16 rfl rfl)
theorem dX0_rounded_17 : decode cX0_rounded 17 = .ok (.iconst 0, 1) := dk_3 (dk_at dksX0_rounded_0 17 rfl rfl)
theorem dX0_rounded_18 : decode cX0_rounded 18 = .ok (.ireturn, 1) := dk_172 (dk_at dksX0_rounded_0 18 rfl rfl)
abbrev cX0_possible : ByteArray := method_16_code
def yX0_possible : MethodName := ⟨RX0, "possible", "(LTurnEstimator;II[J)I"⟩
def dkwX0_possible_0 : List UInt8 := [45, 3, 42, 27, 28, 182, 0, 62, 133, 80, 167, 0, 7, 58, 4, 4, 172, 3, 172]
abbrev dktX0_possible_0 : List UInt8 := dkwX0_possible_0 ++ []
theorem dksX0_possible_0 : cX0_possible.data.toList.drop 0 = dktX0_possible_0 := by decide +kernel
theorem dX0_possible_0 : decode cX0_possible 0 = .ok (.aload_n 3, 1) := dk_45 (dk_at dksX0_possible_0 0 rfl rfl)
theorem dX0_possible_1 : decode cX0_possible 1 = .ok (.iconst 0, 1) := dk_3 (dk_at dksX0_possible_0 1 rfl rfl)
theorem dX0_possible_2 : decode cX0_possible 2 = .ok (.aload_n 0, 1) := dk_42 (dk_at dksX0_possible_0 2 rfl rfl)
theorem dX0_possible_3 : decode cX0_possible 3 = .ok (.iload_n 1, 1) := dk_27 (dk_at dksX0_possible_0 3 rfl rfl)
theorem dX0_possible_4 : decode cX0_possible 4 = .ok (.iload_n 2, 1) := dk_28 (dk_at dksX0_possible_0 4 rfl rfl)
theorem dX0_possible_5 : decode cX0_possible 5 = .ok (.invokevirtual 62, 3) := dk_182 0 62 (dk_at dksX0_possible_0 5 rfl rfl)
theorem dX0_possible_8 : decode cX0_possible 8 = .ok (.i2l, 1) := dk_133 (dk_at dksX0_possible_0 8 rfl rfl)
theorem dX0_possible_9 : decode cX0_possible 9 = .ok (.lastore, 1) := dk_80 (dk_at dksX0_possible_0 9 rfl rfl)
theorem dX0_possible_10 : decode cX0_possible 10 = .ok (.goto 7, 3) := dk_167 0 7 (dk_at dksX0_possible_0 10 rfl rfl)
theorem dX0_possible_13 : decode cX0_possible 13 = .ok (.astore 4, 2) := dk_58 4 (dk_at dksX0_possible_0 13 rfl rfl)
theorem dX0_possible_15 : decode cX0_possible 15 = .ok (.iconst 1, 1) := dk_4 (dk_at dksX0_possible_0 15 rfl rfl)
theorem dX0_possible_16 : decode cX0_possible 16 = .ok (.ireturn, 1) := dk_172 (dk_at dksX0_possible_0 16 rfl rfl)
theorem dX0_possible_17 : decode cX0_possible 17 = .ok (.iconst 0, 1) := dk_3 (dk_at dksX0_possible_0 17 rfl rfl)
theorem dX0_possible_18 : decode cX0_possible 18 = .ok (.ireturn, 1) := dk_172 (dk_at dksX0_possible_0 18 rfl rfl)
theorem q49 : (Jvm.Cond.initialized "TurnEstimatorLaw") ∈ lw_all := lw_g (lw_at lw_m1 0 rfl) rfl
theorem q68 : (Jvm.Cond.classLink "TurnEstimatorLaw" (8 : Nat) "TurnEstimator") ∈ lw_all := lw_g (lw_at lw_m1 19 rfl) rfl
theorem q70 : (Jvm.Cond.methodLink "TurnEstimatorLaw" (65 : Nat) ({ cls := "TurnEstimator", name := "<init>", desc := "()V" } : Jvm.MethodName)) ∈ lw_all := lw_g (lw_at lw_m1 21 rfl) rfl
theorem q140 : (Jvm.Cond.methodLink "TurnEstimatorLaw" (79 : Nat) ({ cls := "TurnEstimator", name := "arms", desc := "()I" } : Jvm.MethodName)) ∈ lw_all := lw_g (lw_at lw_m1 91 rfl) rfl
theorem q144 : (Jvm.Cond.methodLink "TurnEstimatorLaw" (97 : Nat) ({ cls := "TurnEstimator", name := "imbalance", desc := "()I" } : Jvm.MethodName)) ∈ lw_all := lw_g (lw_at lw_m1 95 rfl) rfl
theorem q155 : (Jvm.Cond.methodLink "TurnEstimatorLaw" (101 : Nat) ({ cls := "TurnEstimator", name := "isPossible", desc := "()Z" } : Jvm.MethodName)) ∈ lw_all := lw_g (lw_at lw_m1 106 rfl) rfl
theorem q174 : (Jvm.Cond.methodLink "TurnEstimatorLaw" (106 : Nat) ({ cls := "TurnEstimator", name := "crowdedSet", desc := "()I" } : Jvm.MethodName)) ∈ lw_all := lw_g (lw_at lw_m1 125 rfl) rfl
theorem q178 : (Jvm.Cond.methodLink "TurnEstimatorLaw" (119 : Nat) ({ cls := "TurnEstimator", name := "reset", desc := "()I" } : Jvm.MethodName)) ∈ lw_all := lw_g (lw_at lw_m1 129 rfl) rfl
theorem q182 : (Jvm.Cond.methodLink "TurnEstimatorLaw" (123 : Nat) ({ cls := "TurnEstimator", name := "rounds", desc := "()I" } : Jvm.MethodName)) ∈ lw_all := lw_g (lw_at lw_m1 133 rfl) rfl
theorem q186 : (Jvm.Cond.methodLink "TurnEstimatorLaw" (135 : Nat) ({ cls := "TurnEstimator", name := "misfit", desc := "()D" } : Jvm.MethodName)) ∈ lw_all := lw_g (lw_at lw_m1 137 rfl) rfl
theorem q216 : (Jvm.Cond.methodLink "TurnEstimatorLaw" (147 : Nat) ({ cls := "TurnEstimator", name := "busiestTurn", desc := "()I" } : Jvm.MethodName)) ∈ lw_all := lw_g (lw_at lw_m1 167 rfl) rfl
theorem q224 : (Jvm.Cond.methodLink "TurnEstimatorLaw" (154 : Nat) ({ cls := "TurnEstimator", name := "roundedMisfit", desc := "()I" } : Jvm.MethodName)) ∈ lw_all := lw_g (lw_at lw_m1 175 rfl) rfl
theorem q266 : (Jvm.Cond.methodLink "TurnEstimatorLaw" (161 : Nat) ({ cls := "TurnEstimator", name := "digest", desc := "()J" } : Jvm.MethodName)) ∈ lw_all := lw_g (lw_at lw_m1 217 rfl) rfl
theorem q322 : (Jvm.Cond.methodLink "TurnEstimatorLaw" (69 : Nat) ({ cls := "TurnEstimatorLaw", name := "setArms", desc := "(LTurnEstimator;I[J)I" } : Jvm.MethodName)) ∈ lw_all := lw_g (lw_at lw_m2 33 rfl) rfl
theorem q323 : (Jvm.Cond.static ({ cls := "TurnEstimatorLaw", name := "setArms", desc := "(LTurnEstimator;I[J)I" } : Jvm.MethodName)) ∈ lw_all := lw_g (lw_at lw_m2 34 rfl) rfl
theorem q324 : (Jvm.Cond.codeWith ({ cls := "TurnEstimatorLaw", name := "setArms", desc := "(LTurnEstimator;I[J)I" } : Jvm.MethodName) method_3_code (4 : Nat) (Option.some Jvm.ClassFile.FieldType.int) [((0 : Nat), (9 : Nat), (12 : Nat), (13 : Nat))]) ∈ lw_all := lw_g (lw_at lw_m2 35 rfl) rfl
theorem q325 : (Jvm.Cond.classLink "TurnEstimatorLaw" (13 : Nat) "java/lang/IllegalArgumentException") ∈ lw_all := lw_g (lw_at lw_m2 36 rfl) rfl
theorem q326 : (Jvm.Cond.methodLink "TurnEstimatorLaw" (7 : Nat) ({ cls := "TurnEstimator", name := "setArms", desc := "(I)I" } : Jvm.MethodName)) ∈ lw_all := lw_g (lw_at lw_m2 37 rfl) rfl
theorem q402 : (Jvm.Cond.methodLink "TurnEstimatorLaw" (83 : Nat) ({ cls := "TurnEstimatorLaw", name := "setInflow", desc := "(LTurnEstimator;II[J)I" } : Jvm.MethodName)) ∈ lw_all := lw_g (lw_at lw_m2 113 rfl) rfl
theorem q403 : (Jvm.Cond.static ({ cls := "TurnEstimatorLaw", name := "setInflow", desc := "(LTurnEstimator;II[J)I" } : Jvm.MethodName)) ∈ lw_all := lw_g (lw_at lw_m2 114 rfl) rfl
theorem q404 : (Jvm.Cond.codeWith ({ cls := "TurnEstimatorLaw", name := "setInflow", desc := "(LTurnEstimator;II[J)I" } : Jvm.MethodName) method_4_code (5 : Nat) (Option.some Jvm.ClassFile.FieldType.int) [((0 : Nat), (10 : Nat), (13 : Nat), (19 : Nat)), ((0 : Nat), (10 : Nat), (17 : Nat), (13 : Nat))]) ∈ lw_all := lw_g (lw_at lw_m2 115 rfl) rfl
theorem q405 : (Jvm.Cond.classLink "TurnEstimatorLaw" (19 : Nat) "java/lang/IndexOutOfBoundsException") ∈ lw_all := lw_g (lw_at lw_m2 116 rfl) rfl
theorem q438 : (Jvm.Cond.methodLink "TurnEstimatorLaw" (15 : Nat) ({ cls := "TurnEstimator", name := "setInflow", desc := "(II)I" } : Jvm.MethodName)) ∈ lw_all := lw_g (lw_at lw_m2 149 rfl) rfl
theorem q465 : (Jvm.Cond.methodLink "TurnEstimatorLaw" (87 : Nat) ({ cls := "TurnEstimatorLaw", name := "setOutflow", desc := "(LTurnEstimator;II[J)I" } : Jvm.MethodName)) ∈ lw_all := lw_g (lw_at lw_m2 176 rfl) rfl
theorem q466 : (Jvm.Cond.static ({ cls := "TurnEstimatorLaw", name := "setOutflow", desc := "(LTurnEstimator;II[J)I" } : Jvm.MethodName)) ∈ lw_all := lw_g (lw_at lw_m2 177 rfl) rfl
theorem q467 : (Jvm.Cond.codeWith ({ cls := "TurnEstimatorLaw", name := "setOutflow", desc := "(LTurnEstimator;II[J)I" } : Jvm.MethodName) method_5_code (5 : Nat) (Option.some Jvm.ClassFile.FieldType.int) [((0 : Nat), (10 : Nat), (13 : Nat), (19 : Nat)), ((0 : Nat), (10 : Nat), (17 : Nat), (13 : Nat))]) ∈ lw_all := lw_g (lw_at lw_m2 178 rfl) rfl
theorem q468 : (Jvm.Cond.methodLink "TurnEstimatorLaw" (21 : Nat) ({ cls := "TurnEstimator", name := "setOutflow", desc := "(II)I" } : Jvm.MethodName)) ∈ lw_all := lw_g (lw_at lw_m2 179 rfl) rfl
theorem q472 : (Jvm.Cond.methodLink "TurnEstimatorLaw" (90 : Nat) ({ cls := "TurnEstimatorLaw", name := "setWeight", desc := "(LTurnEstimator;III[J)I" } : Jvm.MethodName)) ∈ lw_all := lw_g (lw_at lw_m2 183 rfl) rfl
theorem q473 : (Jvm.Cond.static ({ cls := "TurnEstimatorLaw", name := "setWeight", desc := "(LTurnEstimator;III[J)I" } : Jvm.MethodName)) ∈ lw_all := lw_g (lw_at lw_m2 184 rfl) rfl
theorem q474 : (Jvm.Cond.codeWith ({ cls := "TurnEstimatorLaw", name := "setWeight", desc := "(LTurnEstimator;III[J)I" } : Jvm.MethodName) method_6_code (6 : Nat) (Option.some Jvm.ClassFile.FieldType.int) [((0 : Nat), (12 : Nat), (15 : Nat), (19 : Nat)), ((0 : Nat), (12 : Nat), (19 : Nat), (13 : Nat))]) ∈ lw_all := lw_g (lw_at lw_m2 185 rfl) rfl
theorem q475 : (Jvm.Cond.methodLink "TurnEstimatorLaw" (24 : Nat) ({ cls := "TurnEstimator", name := "setWeight", desc := "(III)I" } : Jvm.MethodName)) ∈ lw_all := lw_g (lw_at lw_m2 186 rfl) rfl
theorem q483 : (Jvm.Cond.methodLink "TurnEstimatorLaw" (94 : Nat) ({ cls := "TurnEstimatorLaw", name := "scale", desc := "(LTurnEstimator;I[J)I" } : Jvm.MethodName)) ∈ lw_all := lw_g (lw_at lw_m2 194 rfl) rfl
theorem q484 : (Jvm.Cond.static ({ cls := "TurnEstimatorLaw", name := "scale", desc := "(LTurnEstimator;I[J)I" } : Jvm.MethodName)) ∈ lw_all := lw_g (lw_at lw_m2 195 rfl) rfl
theorem q485 : (Jvm.Cond.codeWith ({ cls := "TurnEstimatorLaw", name := "scale", desc := "(LTurnEstimator;I[J)I" } : Jvm.MethodName) method_7_code (4 : Nat) (Option.some Jvm.ClassFile.FieldType.int) [((0 : Nat), (9 : Nat), (12 : Nat), (13 : Nat)), ((0 : Nat), (9 : Nat), (15 : Nat), (31 : Nat))]) ∈ lw_all := lw_g (lw_at lw_m2 196 rfl) rfl
theorem q486 : (Jvm.Cond.classLink "TurnEstimatorLaw" (31 : Nat) "java/lang/IllegalStateException") ∈ lw_all := lw_g (lw_at lw_m2 197 rfl) rfl
theorem q487 : (Jvm.Cond.methodLink "TurnEstimatorLaw" (28 : Nat) ({ cls := "TurnEstimator", name := "scale", desc := "(I)I" } : Jvm.MethodName)) ∈ lw_all := lw_g (lw_at lw_m2 198 rfl) rfl
theorem q515 : (Jvm.Cond.methodLink "TurnEstimatorLaw" (110 : Nat) ({ cls := "TurnEstimatorLaw", name := "excess", desc := "(LTurnEstimator;I[J)I" } : Jvm.MethodName)) ∈ lw_all := lw_g (lw_at lw_m2 226 rfl) rfl
theorem q516 : (Jvm.Cond.static ({ cls := "TurnEstimatorLaw", name := "excess", desc := "(LTurnEstimator;I[J)I" } : Jvm.MethodName)) ∈ lw_all := lw_g (lw_at lw_m2 227 rfl) rfl
theorem q517 : (Jvm.Cond.codeWith ({ cls := "TurnEstimatorLaw", name := "excess", desc := "(LTurnEstimator;I[J)I" } : Jvm.MethodName) method_8_code (4 : Nat) (Option.some Jvm.ClassFile.FieldType.int) [((0 : Nat), (9 : Nat), (12 : Nat), (13 : Nat))]) ∈ lw_all := lw_g (lw_at lw_m2 228 rfl) rfl
theorem q518 : (Jvm.Cond.methodLink "TurnEstimatorLaw" (33 : Nat) ({ cls := "TurnEstimator", name := "excess", desc := "(I)I" } : Jvm.MethodName)) ∈ lw_all := lw_g (lw_at lw_m2 229 rfl) rfl
theorem q522 : (Jvm.Cond.methodLink "TurnEstimatorLaw" (113 : Nat) ({ cls := "TurnEstimatorLaw", name := "iterate", desc := "(LTurnEstimator;I[J)I" } : Jvm.MethodName)) ∈ lw_all := lw_g (lw_at lw_m2 233 rfl) rfl
theorem q523 : (Jvm.Cond.static ({ cls := "TurnEstimatorLaw", name := "iterate", desc := "(LTurnEstimator;I[J)I" } : Jvm.MethodName)) ∈ lw_all := lw_g (lw_at lw_m2 234 rfl) rfl
theorem q524 : (Jvm.Cond.codeWith ({ cls := "TurnEstimatorLaw", name := "iterate", desc := "(LTurnEstimator;I[J)I" } : Jvm.MethodName) method_9_code (4 : Nat) (Option.some Jvm.ClassFile.FieldType.int) [((0 : Nat), (9 : Nat), (12 : Nat), (13 : Nat))]) ∈ lw_all := lw_g (lw_at lw_m2 235 rfl) rfl
theorem q525 : (Jvm.Cond.methodLink "TurnEstimatorLaw" (36 : Nat) ({ cls := "TurnEstimator", name := "iterate", desc := "(I)I" } : Jvm.MethodName)) ∈ lw_all := lw_g (lw_at lw_m2 236 rfl) rfl
theorem q576 : (Jvm.Cond.methodLink "TurnEstimatorLaw" (116 : Nat) ({ cls := "TurnEstimatorLaw", name := "fit", desc := "(LTurnEstimator;II[J)I" } : Jvm.MethodName)) ∈ lw_all := lw_g (lw_at lw_m3 47 rfl) rfl
theorem q577 : (Jvm.Cond.static ({ cls := "TurnEstimatorLaw", name := "fit", desc := "(LTurnEstimator;II[J)I" } : Jvm.MethodName)) ∈ lw_all := lw_g (lw_at lw_m3 48 rfl) rfl
theorem q578 : (Jvm.Cond.codeWith ({ cls := "TurnEstimatorLaw", name := "fit", desc := "(LTurnEstimator;II[J)I" } : Jvm.MethodName) method_10_code (5 : Nat) (Option.some Jvm.ClassFile.FieldType.int) [((0 : Nat), (10 : Nat), (13 : Nat), (13 : Nat))]) ∈ lw_all := lw_g (lw_at lw_m3 49 rfl) rfl
theorem q579 : (Jvm.Cond.methodLink "TurnEstimatorLaw" (39 : Nat) ({ cls := "TurnEstimator", name := "fit", desc := "(II)I" } : Jvm.MethodName)) ∈ lw_all := lw_g (lw_at lw_m3 50 rfl) rfl
theorem q584 : (Jvm.Cond.methodLink "TurnEstimatorLaw" (127 : Nat) ({ cls := "TurnEstimatorLaw", name := "estimate", desc := "(LTurnEstimator;II[D)I" } : Jvm.MethodName)) ∈ lw_all := lw_g (lw_at lw_m3 55 rfl) rfl
theorem q585 : (Jvm.Cond.static ({ cls := "TurnEstimatorLaw", name := "estimate", desc := "(LTurnEstimator;II[D)I" } : Jvm.MethodName)) ∈ lw_all := lw_g (lw_at lw_m3 56 rfl) rfl
theorem q586 : (Jvm.Cond.codeWith ({ cls := "TurnEstimatorLaw", name := "estimate", desc := "(LTurnEstimator;II[D)I" } : Jvm.MethodName) method_11_code (5 : Nat) (Option.some Jvm.ClassFile.FieldType.int) [((0 : Nat), (9 : Nat), (12 : Nat), (19 : Nat))]) ∈ lw_all := lw_g (lw_at lw_m3 57 rfl) rfl
theorem q587 : (Jvm.Cond.methodLink "TurnEstimatorLaw" (42 : Nat) ({ cls := "TurnEstimator", name := "estimate", desc := "(II)D" } : Jvm.MethodName)) ∈ lw_all := lw_g (lw_at lw_m3 58 rfl) rfl
theorem q591 : (Jvm.Cond.methodLink "TurnEstimatorLaw" (131 : Nat) ({ cls := "TurnEstimatorLaw", name := "sum", desc := "(LTurnEstimator;IZ[D)I" } : Jvm.MethodName)) ∈ lw_all := lw_g (lw_at lw_m3 62 rfl) rfl
theorem q592 : (Jvm.Cond.static ({ cls := "TurnEstimatorLaw", name := "sum", desc := "(LTurnEstimator;IZ[D)I" } : Jvm.MethodName)) ∈ lw_all := lw_g (lw_at lw_m3 63 rfl) rfl
theorem q593 : (Jvm.Cond.codeWith ({ cls := "TurnEstimatorLaw", name := "sum", desc := "(LTurnEstimator;IZ[D)I" } : Jvm.MethodName) method_12_code (5 : Nat) (Option.some Jvm.ClassFile.FieldType.int) [((0 : Nat), (9 : Nat), (12 : Nat), (19 : Nat))]) ∈ lw_all := lw_g (lw_at lw_m3 64 rfl) rfl
theorem q594 : (Jvm.Cond.methodLink "TurnEstimatorLaw" (46 : Nat) ({ cls := "TurnEstimator", name := "sum", desc := "(IZ)D" } : Jvm.MethodName)) ∈ lw_all := lw_g (lw_at lw_m3 65 rfl) rfl
theorem q598 : (Jvm.Cond.methodLink "TurnEstimatorLaw" (140 : Nat) ({ cls := "TurnEstimatorLaw", name := "share", desc := "(LTurnEstimator;II[D)I" } : Jvm.MethodName)) ∈ lw_all := lw_g (lw_at lw_m3 69 rfl) rfl
theorem q599 : (Jvm.Cond.static ({ cls := "TurnEstimatorLaw", name := "share", desc := "(LTurnEstimator;II[D)I" } : Jvm.MethodName)) ∈ lw_all := lw_g (lw_at lw_m3 70 rfl) rfl
theorem q600 : (Jvm.Cond.codeWith ({ cls := "TurnEstimatorLaw", name := "share", desc := "(LTurnEstimator;II[D)I" } : Jvm.MethodName) method_13_code (5 : Nat) (Option.some Jvm.ClassFile.FieldType.int) [((0 : Nat), (9 : Nat), (12 : Nat), (19 : Nat))]) ∈ lw_all := lw_g (lw_at lw_m3 71 rfl) rfl
theorem q601 : (Jvm.Cond.methodLink "TurnEstimatorLaw" (50 : Nat) ({ cls := "TurnEstimator", name := "share", desc := "(II)D" } : Jvm.MethodName)) ∈ lw_all := lw_g (lw_at lw_m3 72 rfl) rfl
theorem q605 : (Jvm.Cond.methodLink "TurnEstimatorLaw" (143 : Nat) ({ cls := "TurnEstimatorLaw", name := "crossRatio", desc := "(LTurnEstimator;IIII[D)I" } : Jvm.MethodName)) ∈ lw_all := lw_g (lw_at lw_m3 76 rfl) rfl
theorem q606 : (Jvm.Cond.static ({ cls := "TurnEstimatorLaw", name := "crossRatio", desc := "(LTurnEstimator;IIII[D)I" } : Jvm.MethodName)) ∈ lw_all := lw_g (lw_at lw_m3 77 rfl) rfl
theorem q607 : (Jvm.Cond.codeWith ({ cls := "TurnEstimatorLaw", name := "crossRatio", desc := "(LTurnEstimator;IIII[D)I" } : Jvm.MethodName) method_14_code (7 : Nat) (Option.some Jvm.ClassFile.FieldType.int) [((0 : Nat), (13 : Nat), (16 : Nat), (19 : Nat)), ((0 : Nat), (13 : Nat), (20 : Nat), (57 : Nat))]) ∈ lw_all := lw_g (lw_at lw_m3 78 rfl) rfl
theorem q608 : (Jvm.Cond.classLink "TurnEstimatorLaw" (57 : Nat) "java/lang/ArithmeticException") ∈ lw_all := lw_g (lw_at lw_m3 79 rfl) rfl
theorem q622 : (Jvm.Cond.methodLink "TurnEstimatorLaw" (53 : Nat) ({ cls := "TurnEstimator", name := "crossRatio", desc := "(IIII)D" } : Jvm.MethodName)) ∈ lw_all := lw_g (lw_at lw_m3 93 rfl) rfl
theorem q635 : (Jvm.Cond.methodLink "TurnEstimatorLaw" (151 : Nat) ({ cls := "TurnEstimatorLaw", name := "rounded", desc := "(LTurnEstimator;II[J)I" } : Jvm.MethodName)) ∈ lw_all := lw_g (lw_at lw_m3 106 rfl) rfl
theorem q636 : (Jvm.Cond.static ({ cls := "TurnEstimatorLaw", name := "rounded", desc := "(LTurnEstimator;II[J)I" } : Jvm.MethodName)) ∈ lw_all := lw_g (lw_at lw_m3 107 rfl) rfl
theorem q637 : (Jvm.Cond.codeWith ({ cls := "TurnEstimatorLaw", name := "rounded", desc := "(LTurnEstimator;II[J)I" } : Jvm.MethodName) method_15_code (5 : Nat) (Option.some Jvm.ClassFile.FieldType.int) [((0 : Nat), (10 : Nat), (13 : Nat), (19 : Nat))]) ∈ lw_all := lw_g (lw_at lw_m3 108 rfl) rfl
theorem q638 : (Jvm.Cond.methodLink "TurnEstimatorLaw" (59 : Nat) ({ cls := "TurnEstimator", name := "rounded", desc := "(II)I" } : Jvm.MethodName)) ∈ lw_all := lw_g (lw_at lw_m3 109 rfl) rfl
theorem q642 : (Jvm.Cond.methodLink "TurnEstimatorLaw" (158 : Nat) ({ cls := "TurnEstimatorLaw", name := "possible", desc := "(LTurnEstimator;II[J)I" } : Jvm.MethodName)) ∈ lw_all := lw_g (lw_at lw_m3 113 rfl) rfl
theorem q643 : (Jvm.Cond.static ({ cls := "TurnEstimatorLaw", name := "possible", desc := "(LTurnEstimator;II[J)I" } : Jvm.MethodName)) ∈ lw_all := lw_g (lw_at lw_m3 114 rfl) rfl
theorem q644 : (Jvm.Cond.codeWith ({ cls := "TurnEstimatorLaw", name := "possible", desc := "(LTurnEstimator;II[J)I" } : Jvm.MethodName) method_16_code (5 : Nat) (Option.some Jvm.ClassFile.FieldType.int) [((0 : Nat), (10 : Nat), (13 : Nat), (19 : Nat))]) ∈ lw_all := lw_g (lw_at lw_m3 115 rfl) rfl
theorem q645 : (Jvm.Cond.methodLink "TurnEstimatorLaw" (62 : Nat) ({ cls := "TurnEstimator", name := "possible", desc := "(II)I" } : Jvm.MethodName)) ∈ lw_all := lw_g (lw_at lw_m3 116 rfl) rfl
theorem q649 : (Jvm.Cond.classLink "TurnEstimatorLaw" (66 : Nat) "TurnEstimatorModel") ∈ lw_all := lw_g (lw_at lw_m3 120 rfl) rfl
theorem q651 : (Jvm.Cond.methodLink "TurnEstimatorLaw" (68 : Nat) ({ cls := "TurnEstimatorModel", name := "<init>", desc := "()V" } : Jvm.MethodName)) ∈ lw_all := lw_g (lw_at lw_m3 122 rfl) rfl
theorem q703 : (Jvm.Cond.methodLink "TurnEstimatorLaw" (75 : Nat) ({ cls := "TurnEstimatorModel", name := "thrown", desc := "()I" } : Jvm.MethodName)) ∈ lw_all := lw_g (lw_at lw_m3 174 rfl) rfl
theorem q707 : (Jvm.Cond.methodLink "TurnEstimatorLaw" (74 : Nat) ({ cls := "TurnEstimatorModel", name := "setArms", desc := "(I)I" } : Jvm.MethodName)) ∈ lw_all := lw_g (lw_at lw_m3 178 rfl) rfl
theorem q714 : (Jvm.Cond.methodLink "TurnEstimatorLaw" (82 : Nat) ({ cls := "TurnEstimatorModel", name := "arms", desc := "()I" } : Jvm.MethodName)) ∈ lw_all := lw_g (lw_at lw_m3 185 rfl) rfl
theorem q718 : (Jvm.Cond.methodLink "TurnEstimatorLaw" (86 : Nat) ({ cls := "TurnEstimatorModel", name := "setInflow", desc := "(II)I" } : Jvm.MethodName)) ∈ lw_all := lw_g (lw_at lw_m3 189 rfl) rfl
theorem q726 : (Jvm.Cond.methodLink "TurnEstimatorLaw" (89 : Nat) ({ cls := "TurnEstimatorModel", name := "setOutflow", desc := "(II)I" } : Jvm.MethodName)) ∈ lw_all := lw_g (lw_at lw_m3 197 rfl) rfl
theorem q730 : (Jvm.Cond.methodLink "TurnEstimatorLaw" (93 : Nat) ({ cls := "TurnEstimatorModel", name := "setWeight", desc := "(III)I" } : Jvm.MethodName)) ∈ lw_all := lw_g (lw_at lw_m3 201 rfl) rfl
theorem q734 : (Jvm.Cond.methodLink "TurnEstimatorLaw" (96 : Nat) ({ cls := "TurnEstimatorModel", name := "scale", desc := "(I)I" } : Jvm.MethodName)) ∈ lw_all := lw_g (lw_at lw_m3 205 rfl) rfl
theorem q745 : (Jvm.Cond.methodLink "TurnEstimatorLaw" (100 : Nat) ({ cls := "TurnEstimatorModel", name := "imbalance", desc := "()I" } : Jvm.MethodName)) ∈ lw_all := lw_g (lw_at lw_m3 216 rfl) rfl
theorem q753 : (Jvm.Cond.methodLink "TurnEstimatorLaw" (105 : Nat) ({ cls := "TurnEstimatorModel", name := "isPossible", desc := "()Z" } : Jvm.MethodName)) ∈ lw_all := lw_g (lw_at lw_m3 224 rfl) rfl
theorem q769 : (Jvm.Cond.methodLink "TurnEstimatorLaw" (109 : Nat) ({ cls := "TurnEstimatorModel", name := "crowdedSet", desc := "()I" } : Jvm.MethodName)) ∈ lw_all := lw_g (lw_at lw_m4 0 rfl) rfl
theorem q773 : (Jvm.Cond.methodLink "TurnEstimatorLaw" (112 : Nat) ({ cls := "TurnEstimatorModel", name := "excess", desc := "(I)I" } : Jvm.MethodName)) ∈ lw_all := lw_g (lw_at lw_m4 4 rfl) rfl
theorem q777 : (Jvm.Cond.methodLink "TurnEstimatorLaw" (115 : Nat) ({ cls := "TurnEstimatorModel", name := "iterate", desc := "(I)I" } : Jvm.MethodName)) ∈ lw_all := lw_g (lw_at lw_m4 8 rfl) rfl
theorem q801 : (Jvm.Cond.methodLink "TurnEstimatorLaw" (118 : Nat) ({ cls := "TurnEstimatorModel", name := "fit", desc := "(II)I" } : Jvm.MethodName)) ∈ lw_all := lw_g (lw_at lw_m4 32 rfl) rfl
theorem q814 : (Jvm.Cond.methodLink "TurnEstimatorLaw" (122 : Nat) ({ cls := "TurnEstimatorModel", name := "reset", desc := "()I" } : Jvm.MethodName)) ∈ lw_all := lw_g (lw_at lw_m4 45 rfl) rfl
theorem q818 : (Jvm.Cond.methodLink "TurnEstimatorLaw" (126 : Nat) ({ cls := "TurnEstimatorModel", name := "rounds", desc := "()I" } : Jvm.MethodName)) ∈ lw_all := lw_g (lw_at lw_m4 49 rfl) rfl
theorem q822 : (Jvm.Cond.methodLink "TurnEstimatorLaw" (130 : Nat) ({ cls := "TurnEstimatorModel", name := "estimate", desc := "(II)D" } : Jvm.MethodName)) ∈ lw_all := lw_g (lw_at lw_m4 53 rfl) rfl
theorem q830 : (Jvm.Cond.methodLink "TurnEstimatorLaw" (134 : Nat) ({ cls := "TurnEstimatorModel", name := "sum", desc := "(IZ)D" } : Jvm.MethodName)) ∈ lw_all := lw_g (lw_at lw_m4 61 rfl) rfl
theorem q834 : (Jvm.Cond.methodLink "TurnEstimatorLaw" (139 : Nat) ({ cls := "TurnEstimatorModel", name := "misfit", desc := "()D" } : Jvm.MethodName)) ∈ lw_all := lw_g (lw_at lw_m4 65 rfl) rfl
theorem q838 : (Jvm.Cond.methodLink "TurnEstimatorLaw" (142 : Nat) ({ cls := "TurnEstimatorModel", name := "share", desc := "(II)D" } : Jvm.MethodName)) ∈ lw_all := lw_g (lw_at lw_m4 69 rfl) rfl
theorem q842 : (Jvm.Cond.methodLink "TurnEstimatorLaw" (146 : Nat) ({ cls := "TurnEstimatorModel", name := "crossRatio", desc := "(IIII)D" } : Jvm.MethodName)) ∈ lw_all := lw_g (lw_at lw_m4 73 rfl) rfl
theorem q846 : (Jvm.Cond.methodLink "TurnEstimatorLaw" (150 : Nat) ({ cls := "TurnEstimatorModel", name := "busiestTurn", desc := "()I" } : Jvm.MethodName)) ∈ lw_all := lw_g (lw_at lw_m4 77 rfl) rfl
theorem q854 : (Jvm.Cond.methodLink "TurnEstimatorLaw" (153 : Nat) ({ cls := "TurnEstimatorModel", name := "rounded", desc := "(II)I" } : Jvm.MethodName)) ∈ lw_all := lw_g (lw_at lw_m4 85 rfl) rfl
theorem q867 : (Jvm.Cond.methodLink "TurnEstimatorLaw" (157 : Nat) ({ cls := "TurnEstimatorModel", name := "roundedMisfit", desc := "()I" } : Jvm.MethodName)) ∈ lw_all := lw_g (lw_at lw_m4 98 rfl) rfl
theorem q879 : (Jvm.Cond.methodLink "TurnEstimatorLaw" (160 : Nat) ({ cls := "TurnEstimatorModel", name := "possible", desc := "(II)I" } : Jvm.MethodName)) ∈ lw_all := lw_g (lw_at lw_m4 110 rfl) rfl
theorem q899 : (Jvm.Cond.methodLink "TurnEstimatorLaw" (165 : Nat) ({ cls := "TurnEstimatorModel", name := "digest", desc := "()J" } : Jvm.MethodName)) ∈ lw_all := lw_g (lw_at lw_m4 130 rfl) rfl
/-! TurnEstimator$RowStep -/
set_option maxRecDepth 100000
def RX2 : String := "TurnEstimator$RowStep"
abbrev cX2_init : ByteArray := prog_4_method_1_code
def yX2_init : MethodName := ⟨RX2, "<init>", "()V"⟩
theorem dX2_init_0 : decode cX2_init 0 = .ok (.aload_n 0, 1) := by decide +kernel
theorem dX2_init_1 : decode cX2_init 1 = .ok (.invokespecial 1, 3) := by decide +kernel
theorem dX2_init_4 : decode cX2_init 4 = .ok (.return_, 1) := by decide +kernel
abbrev cX2_side : ByteArray := prog_4_method_2_code
def yX2_side : MethodName := ⟨RX2, "side", "()LTurnEstimator$Side;"⟩
theorem dX2_side_0 : decode cX2_side 0 = .ok (.getstatic 7, 3) := by decide +kernel
theorem dX2_side_3 : decode cX2_side 3 = .ok (.areturn, 1) := by decide +kernel
abbrev cX2_counts : ByteArray := prog_4_method_3_code
def yX2_counts : MethodName := ⟨RX2, "counts", "(LTurnEstimator;)[I"⟩
theorem dX2_counts_0 : decode cX2_counts 0 = .ok (.aload_n 1, 1) := by decide +kernel
theorem dX2_counts_1 : decode cX2_counts 1 = .ok (.getfield 13, 3) := by decide +kernel
theorem dX2_counts_4 : decode cX2_counts 4 = .ok (.areturn, 1) := by decide +kernel
theorem q51 : (Jvm.Cond.initialized "TurnEstimator$RowStep") ∈ lw_all := lw_g (lw_at lw_m1 2 rfl) rfl
theorem q77 : (Jvm.Cond.instantiable "TurnEstimator$RowStep" (0 : Nat)) ∈ lw_all := lw_g (lw_at lw_m1 28 rfl) rfl
theorem q79 : (Jvm.Cond.instanceMethod ({ cls := "TurnEstimator$RowStep", name := "<init>", desc := "()V" } : Jvm.MethodName)) ∈ lw_all := lw_g (lw_at lw_m1 30 rfl) rfl
theorem q80 : (Jvm.Cond.code ({ cls := "TurnEstimator$RowStep", name := "<init>", desc := "()V" } : Jvm.MethodName) prog_4_method_1_code (1 : Nat) (Option.none : Option Jvm.ClassFile.FieldType)) ∈ lw_all := lw_g (lw_at lw_m1 31 rfl) rfl
theorem q81 : (Jvm.Cond.methodLink "TurnEstimator$RowStep" (1 : Nat) ({ cls := "java/lang/Object", name := "<init>", desc := "()V" } : Jvm.MethodName)) ∈ lw_all := lw_g (lw_at lw_m1 32 rfl) rfl
theorem q82 : (Jvm.Cond.superclass "TurnEstimator$RowStep" "java/lang/Object") ∈ lw_all := lw_g (lw_at lw_m1 33 rfl) rfl
theorem q106 : (Jvm.Cond.fieldLinkNest "TurnEstimator$RowStep" (13 : Nat) "TurnEstimator" "inflows" "[I" "TurnEstimator") ∈ lw_tbl := lw_at lw_m1 57 rfl
theorem q552 : (Jvm.Cond.castable "TurnEstimator$RowStep" "TurnEstimator$Step") ∈ lw_tbl := lw_at lw_m3 23 rfl
theorem q553 : (Jvm.Cond.selects "TurnEstimator$RowStep" ({ cls := "TurnEstimator$Step", name := "side", desc := "()LTurnEstimator$Side;" } : Jvm.MethodName) ({ cls := "TurnEstimator$RowStep", name := "side", desc := "()LTurnEstimator$Side;" } : Jvm.MethodName)) ∈ lw_all := lw_g (lw_at lw_m3 24 rfl) rfl
theorem q554 : (Jvm.Cond.unhidden "TurnEstimator$RowStep" "side" "()LTurnEstimator$Side;") ∈ lw_tbl := lw_at lw_m3 25 rfl
theorem q555 : (Jvm.Cond.instanceMethod ({ cls := "TurnEstimator$RowStep", name := "side", desc := "()LTurnEstimator$Side;" } : Jvm.MethodName)) ∈ lw_all := lw_g (lw_at lw_m3 26 rfl) rfl
theorem q556 : (Jvm.Cond.publicMethod ({ cls := "TurnEstimator$RowStep", name := "side", desc := "()LTurnEstimator$Side;" } : Jvm.MethodName)) ∈ lw_tbl := lw_at lw_m3 27 rfl
theorem q557 : (Jvm.Cond.code ({ cls := "TurnEstimator$RowStep", name := "side", desc := "()LTurnEstimator$Side;" } : Jvm.MethodName) prog_4_method_2_code (1 : Nat) (Option.some (Jvm.ClassFile.FieldType.object "TurnEstimator$Side"))) ∈ lw_all := lw_g (lw_at lw_m3 28 rfl) rfl
theorem q558 : (Jvm.Cond.fieldLink "TurnEstimator$RowStep" (7 : Nat) "TurnEstimator$Side" "ROW" "LTurnEstimator$Side;") ∈ lw_all := lw_g (lw_at lw_m3 29 rfl) rfl
theorem q569 : (Jvm.Cond.selects "TurnEstimator$RowStep" ({ cls := "TurnEstimator$Step", name := "counts", desc := "(LTurnEstimator;)[I" } : Jvm.MethodName) ({ cls := "TurnEstimator$RowStep", name := "counts", desc := "(LTurnEstimator;)[I" } : Jvm.MethodName)) ∈ lw_all := lw_g (lw_at lw_m3 40 rfl) rfl
theorem q570 : (Jvm.Cond.unhidden "TurnEstimator$RowStep" "counts" "(LTurnEstimator;)[I") ∈ lw_tbl := lw_at lw_m3 41 rfl
theorem q571 : (Jvm.Cond.instanceMethod ({ cls := "TurnEstimator$RowStep", name := "counts", desc := "(LTurnEstimator;)[I" } : Jvm.MethodName)) ∈ lw_all := lw_g (lw_at lw_m3 42 rfl) rfl
theorem q572 : (Jvm.Cond.publicMethod ({ cls := "TurnEstimator$RowStep", name := "counts", desc := "(LTurnEstimator;)[I" } : Jvm.MethodName)) ∈ lw_tbl := lw_at lw_m3 43 rfl
theorem q573 : (Jvm.Cond.code ({ cls := "TurnEstimator$RowStep", name := "counts", desc := "(LTurnEstimator;)[I" } : Jvm.MethodName) prog_4_method_3_code (2 : Nat) (Option.some (Jvm.ClassFile.FieldType.array Jvm.ClassFile.FieldType.int))) ∈ lw_all := lw_g (lw_at lw_m3 44 rfl) rfl
theorem q575 : (Jvm.Cond.unhidden "TurnEstimator$RowStep" "apply" "(LTurnEstimator;I)V") ∈ lw_tbl := lw_at lw_m3 46 rfl
/-! TurnEstimator$ColumnStep -/
set_option maxRecDepth 100000
def RX3 : String := "TurnEstimator$ColumnStep"
abbrev cX3_init : ByteArray := prog_2_method_1_code
def yX3_init : MethodName := ⟨RX3, "<init>", "()V"⟩
theorem dX3_init_0 : decode cX3_init 0 = .ok (.aload_n 0, 1) := by decide +kernel
theorem dX3_init_1 : decode cX3_init 1 = .ok (.invokespecial 1, 3) := by decide +kernel
theorem dX3_init_4 : decode cX3_init 4 = .ok (.return_, 1) := by decide +kernel
abbrev cX3_side : ByteArray := prog_2_method_2_code
def yX3_side : MethodName := ⟨RX3, "side", "()LTurnEstimator$Side;"⟩
theorem dX3_side_0 : decode cX3_side 0 = .ok (.getstatic 7, 3) := by decide +kernel
theorem dX3_side_3 : decode cX3_side 3 = .ok (.areturn, 1) := by decide +kernel
abbrev cX3_counts : ByteArray := prog_2_method_3_code
def yX3_counts : MethodName := ⟨RX3, "counts", "(LTurnEstimator;)[I"⟩
theorem dX3_counts_0 : decode cX3_counts 0 = .ok (.aload_n 1, 1) := by decide +kernel
theorem dX3_counts_1 : decode cX3_counts 1 = .ok (.getfield 13, 3) := by decide +kernel
theorem dX3_counts_4 : decode cX3_counts 4 = .ok (.areturn, 1) := by decide +kernel
theorem q52 : (Jvm.Cond.initialized "TurnEstimator$ColumnStep") ∈ lw_all := lw_g (lw_at lw_m1 3 rfl) rfl
theorem q84 : (Jvm.Cond.instantiable "TurnEstimator$ColumnStep" (0 : Nat)) ∈ lw_all := lw_g (lw_at lw_m1 35 rfl) rfl
theorem q86 : (Jvm.Cond.instanceMethod ({ cls := "TurnEstimator$ColumnStep", name := "<init>", desc := "()V" } : Jvm.MethodName)) ∈ lw_all := lw_g (lw_at lw_m1 37 rfl) rfl
theorem q87 : (Jvm.Cond.code ({ cls := "TurnEstimator$ColumnStep", name := "<init>", desc := "()V" } : Jvm.MethodName) prog_2_method_1_code (1 : Nat) (Option.none : Option Jvm.ClassFile.FieldType)) ∈ lw_all := lw_g (lw_at lw_m1 38 rfl) rfl
theorem q88 : (Jvm.Cond.methodLink "TurnEstimator$ColumnStep" (1 : Nat) ({ cls := "java/lang/Object", name := "<init>", desc := "()V" } : Jvm.MethodName)) ∈ lw_all := lw_g (lw_at lw_m1 39 rfl) rfl
theorem q89 : (Jvm.Cond.superclass "TurnEstimator$ColumnStep" "java/lang/Object") ∈ lw_all := lw_g (lw_at lw_m1 40 rfl) rfl
theorem q109 : (Jvm.Cond.fieldLinkNest "TurnEstimator$ColumnStep" (13 : Nat) "TurnEstimator" "outflows" "[I" "TurnEstimator") ∈ lw_tbl := lw_at lw_m1 60 rfl
theorem q537 : (Jvm.Cond.castable "TurnEstimator$ColumnStep" "TurnEstimator$Step") ∈ lw_tbl := lw_at lw_m3 8 rfl
theorem q538 : (Jvm.Cond.unhidden "TurnEstimator$ColumnStep" "apply" "(LTurnEstimator;I)V") ∈ lw_tbl := lw_at lw_m3 9 rfl
theorem q546 : (Jvm.Cond.selects "TurnEstimator$ColumnStep" ({ cls := "TurnEstimator$Step", name := "side", desc := "()LTurnEstimator$Side;" } : Jvm.MethodName) ({ cls := "TurnEstimator$ColumnStep", name := "side", desc := "()LTurnEstimator$Side;" } : Jvm.MethodName)) ∈ lw_all := lw_g (lw_at lw_m3 17 rfl) rfl
theorem q547 : (Jvm.Cond.unhidden "TurnEstimator$ColumnStep" "side" "()LTurnEstimator$Side;") ∈ lw_tbl := lw_at lw_m3 18 rfl
theorem q548 : (Jvm.Cond.instanceMethod ({ cls := "TurnEstimator$ColumnStep", name := "side", desc := "()LTurnEstimator$Side;" } : Jvm.MethodName)) ∈ lw_all := lw_g (lw_at lw_m3 19 rfl) rfl
theorem q549 : (Jvm.Cond.publicMethod ({ cls := "TurnEstimator$ColumnStep", name := "side", desc := "()LTurnEstimator$Side;" } : Jvm.MethodName)) ∈ lw_tbl := lw_at lw_m3 20 rfl
theorem q550 : (Jvm.Cond.code ({ cls := "TurnEstimator$ColumnStep", name := "side", desc := "()LTurnEstimator$Side;" } : Jvm.MethodName) prog_2_method_2_code (1 : Nat) (Option.some (Jvm.ClassFile.FieldType.object "TurnEstimator$Side"))) ∈ lw_all := lw_g (lw_at lw_m3 21 rfl) rfl
theorem q551 : (Jvm.Cond.fieldLink "TurnEstimator$ColumnStep" (7 : Nat) "TurnEstimator$Side" "COLUMN" "LTurnEstimator$Side;") ∈ lw_all := lw_g (lw_at lw_m3 22 rfl) rfl
theorem q564 : (Jvm.Cond.selects "TurnEstimator$ColumnStep" ({ cls := "TurnEstimator$Step", name := "counts", desc := "(LTurnEstimator;)[I" } : Jvm.MethodName) ({ cls := "TurnEstimator$ColumnStep", name := "counts", desc := "(LTurnEstimator;)[I" } : Jvm.MethodName)) ∈ lw_all := lw_g (lw_at lw_m3 35 rfl) rfl
theorem q565 : (Jvm.Cond.unhidden "TurnEstimator$ColumnStep" "counts" "(LTurnEstimator;)[I") ∈ lw_tbl := lw_at lw_m3 36 rfl
theorem q566 : (Jvm.Cond.instanceMethod ({ cls := "TurnEstimator$ColumnStep", name := "counts", desc := "(LTurnEstimator;)[I" } : Jvm.MethodName)) ∈ lw_all := lw_g (lw_at lw_m3 37 rfl) rfl
theorem q567 : (Jvm.Cond.publicMethod ({ cls := "TurnEstimator$ColumnStep", name := "counts", desc := "(LTurnEstimator;)[I" } : Jvm.MethodName)) ∈ lw_tbl := lw_at lw_m3 38 rfl
theorem q568 : (Jvm.Cond.code ({ cls := "TurnEstimator$ColumnStep", name := "counts", desc := "(LTurnEstimator;)[I" } : Jvm.MethodName) prog_2_method_3_code (2 : Nat) (Option.some (Jvm.ClassFile.FieldType.array Jvm.ClassFile.FieldType.int))) ∈ lw_all := lw_g (lw_at lw_m3 39 rfl) rfl
/-! TurnEstimator$Side -/
set_option maxRecDepth 100000
def RX5 : String := "TurnEstimator$Side"
abbrev cX5_sum : ByteArray := prog_5_method_5_code
def yX5_sum : MethodName := ⟨RX5, "sum", "([DII)D"⟩
def dkwX5_sum_1 : List UInt8 := [57, 4, 132, 6, 1, 167, 255, 233, 24, 4, 175]
abbrev dktX5_sum_1 : List UInt8 := dkwX5_sum_1 ++ []
def dkwX5_sum_0 : List UInt8 := [14, 57, 4, 3, 54, 6, 21, 6, 29, 162, 0, 23, 24, 4, 43, 42, 28, 21, 6, 182, 0, 29, 49, 99]
abbrev dktX5_sum_0 : List UInt8 := dkwX5_sum_0 ++ dktX5_sum_1
theorem dksX5_sum_0 : cX5_sum.data.toList.drop 0 = dktX5_sum_0 := by decide +kernel
theorem dksX5_sum_1 : cX5_sum.data.toList.drop 24 = dktX5_sum_1 := dk_seg dksX5_sum_0 24 rfl rfl
theorem dX5_sum_0 : decode cX5_sum 0 = .ok (.dconst 0, 1) := dk_14 (dk_at dksX5_sum_0 0 rfl rfl)
theorem dX5_sum_1 : decode cX5_sum 1 = .ok (.dstore 4, 2) := dk_57 4 (dk_at dksX5_sum_0 1 rfl rfl)
theorem dX5_sum_3 : decode cX5_sum 3 = .ok (.iconst 0, 1) := dk_3 (dk_at dksX5_sum_0 3 rfl rfl)
theorem dX5_sum_4 : decode cX5_sum 4 = .ok (.istore 6, 2) := dk_54 6 (dk_at dksX5_sum_0 4 rfl rfl)
theorem dX5_sum_6 : decode cX5_sum 6 = .ok (.iload 6, 2) := dk_21 6 (dk_at dksX5_sum_0 6 rfl rfl)
theorem dX5_sum_8 : decode cX5_sum 8 = .ok (.iload_n 3, 1) := dk_29 (dk_at dksX5_sum_0 8 rfl rfl)
theorem dX5_sum_9 : decode cX5_sum 9 = .ok (.if_icmp .ge 23, 3) := dk_162 0 23 (dk_at dksX5_sum_0 9 rfl rfl)
theorem dX5_sum_12 : decode cX5_sum 12 = .ok (.dload 4, 2) := dk_24 4 (dk_at dksX5_sum_0 12 rfl rfl)
theorem dX5_sum_14 : decode cX5_sum 14 = .ok (.aload_n 1, 1) := dk_43 (dk_at dksX5_sum_0 14 rfl rfl)
theorem dX5_sum_15 : decode cX5_sum 15 = .ok (.aload_n 0, 1) := dk_42 (dk_at dksX5_sum_0 15 rfl rfl)
theorem dX5_sum_16 : decode cX5_sum 16 = .ok (.iload_n 2, 1) := dk_28 (dk_at dksX5_sum_0 16 rfl rfl)
theorem dX5_sum_17 : decode cX5_sum 17 = .ok (.iload 6, 2) := dk_21 6 (dk_at dksX5_sum_0 17 rfl rfl)
theorem dX5_sum_19 : decode cX5_sum 19 = .ok (.invokevirtual 29, 3) := dk_182 0 29 (dk_at dksX5_sum_0 19 rfl rfl)
theorem dX5_sum_22 : decode cX5_sum 22 = .ok (.daload, 1) := dk_49 (dk_at dksX5_sum_0 22 rfl rfl)
theorem dX5_sum_23 : decode cX5_sum 23 = .ok (.dadd, 1) := dk_99 (dk_at dksX5_sum_0 23 rfl rfl)
theorem dX5_sum_24 : decode cX5_sum 24 = .ok (.dstore 4, 2) := dk_57 4 (dk_at dksX5_sum_1 0 rfl rfl)
theorem dX5_sum_26 : decode cX5_sum 26 = .ok (.iinc 6 1, 3) := dk_132 6 1 (dk_at dksX5_sum_1 2 rfl rfl)
theorem dX5_sum_29 : decode cX5_sum 29 = .ok (.goto (-23), 3) := dk_167 255 233 (dk_at dksX5_sum_1 5 rfl rfl)
theorem dX5_sum_32 : decode cX5_sum 32 = .ok (.dload 4, 2) := dk_24 4 (dk_at dksX5_sum_1 8 rfl rfl)
theorem dX5_sum_34 : decode cX5_sum 34 = .ok (.dreturn, 1) := dk_175 (dk_at dksX5_sum_1 10 rfl rfl)
theorem q63 : (Jvm.Cond.initialized "TurnEstimator$Side") ∈ lw_all := lw_g (lw_at lw_m1 14 rfl) rfl
theorem q195 : (Jvm.Cond.laysStatic "TurnEstimator$Side" "ROW" "LTurnEstimator$Side;") ∈ lw_tbl := lw_at lw_m1 146 rfl
theorem q197 : (Jvm.Cond.instanceMethod ({ cls := "TurnEstimator$Side", name := "sum", desc := "([DII)D" } : Jvm.MethodName)) ∈ lw_all := lw_g (lw_at lw_m1 148 rfl) rfl
theorem q198 : (Jvm.Cond.sameMethod "TurnEstimator$Side" "TurnEstimator$Side" "sum" "([DII)D") ∈ lw_all := lw_g (lw_at lw_m1 149 rfl) rfl
theorem q201 : (Jvm.Cond.code ({ cls := "TurnEstimator$Side", name := "sum", desc := "([DII)D" } : Jvm.MethodName) prog_5_method_5_code (7 : Nat) (Option.some Jvm.ClassFile.FieldType.double)) ∈ lw_all := lw_g (lw_at lw_m1 152 rfl) rfl
theorem q202 : (Jvm.Cond.methodLink "TurnEstimator$Side" (29 : Nat) ({ cls := "TurnEstimator$Side", name := "place", desc := "(II)I" } : Jvm.MethodName)) ∈ lw_all := lw_g (lw_at lw_m1 153 rfl) rfl
theorem q203 : (Jvm.Cond.declares ({ cls := "TurnEstimator$Side", name := "place", desc := "(II)I" } : Jvm.MethodName)) ∈ lw_tbl := lw_at lw_m1 154 rfl
theorem q204 : (Jvm.Cond.sameMethod "TurnEstimator$Side" "TurnEstimator$Side" "place" "(II)I") ∈ lw_all := lw_g (lw_at lw_m1 155 rfl) rfl
theorem q215 : (Jvm.Cond.laysStatic "TurnEstimator$Side" "COLUMN" "LTurnEstimator$Side;") ∈ lw_tbl := lw_at lw_m1 166 rfl
/-! TurnEstimator$Rounding -/
set_option maxRecDepth 100000
def RX6 : String := "TurnEstimator$Rounding"
def TX6 : u_T := fun k => match k with
  | 0 => ("TurnEstimator$Rounding", "wholes", "[I", true)
  | 1 => ("TurnEstimator$Rounding", "fractions", "[D", true)
  | 2 => ("TurnEstimator$Rounding", "from", "I", true)
  | _ => ("TurnEstimator$Rounding", "this$0", "LTurnEstimator;", true)
def tyX6 : Nat → FieldType := fun k => match k with
  | 0 => .array .int
  | 1 => .array .double
  | 2 => .int
  | _ => .object "TurnEstimator"
abbrev wsX60 : List Cond := u_ws RX6 TX6 4
theorem nmX6 : ∀ a, a < 4 → ∀ b, b < 4 → a ≠ b → (TX6 a).2.1 ≠ (TX6 b).2.1 := by decide +kernel
theorem tyX6_ok : ∀ k, k < 4 → parseFieldDescriptor (TX6 k).2.2.1 = some (tyX6 k) := by decide +kernel
abbrev cX6_init : ByteArray := prog_3_method_1_code
def yX6_init : MethodName := ⟨RX6, "<init>", "(LTurnEstimator;I)V"⟩
def dkwX6_init_5 : List UInt8 := [158, 0, 10, 42, 182, 0, 50, 167, 0, 4, 2, 54, 6, 167, 255, 211, 177]
abbrev dktX6_init_5 : List UInt8 := dkwX6_init_5 ++ []
def dkwX6_init_4 : List UInt8 := [21, 6, 92, 46, 4, 96, 79, 42, 180, 0, 19, 21, 6, 20, 0, 54, 82, 132, 5, 255, 21, 5]
abbrev dktX6_init_4 : List UInt8 := dkwX6_init_4 ++ dktX6_init_5
def dkwX6_init_3 : List UInt8 := [158, 0, 10, 42, 182, 0, 50, 167, 0, 4, 2, 54, 6, 21, 6, 2, 159, 0, 45, 42, 180, 0, 15]
abbrev dktX6_init_3 : List UInt8 := dkwX6_init_3 ++ dktX6_init_4
def dkwX6_init_2 : List UInt8 := [41, 14, 151, 158, 0, 80, 43, 180, 0, 43, 28, 46, 42, 41, 182, 0, 46, 100, 54, 5, 21, 5]
abbrev dktX6_init_2 : List UInt8 := dkwX6_init_2 ++ dktX6_init_3
def dkwX6_init_1 : List UInt8 := [181, 0, 19, 42, 28, 181, 0, 23, 178, 0, 27, 43, 180, 0, 33, 28, 43, 180, 0, 36, 182, 0, 39, 74]
abbrev dktX6_init_1 : List UInt8 := dkwX6_init_1 ++ dktX6_init_2
def dkwX6_init_0 : List UInt8 := [42, 43, 181, 0, 3, 42, 183, 0, 9, 42, 16, 6, 188, 10, 181, 0, 15, 42, 16, 6, 188, 7]
abbrev dktX6_init_0 : List UInt8 := dkwX6_init_0 ++ dktX6_init_1
theorem dksX6_init_0 : cX6_init.data.toList.drop 0 = dktX6_init_0 := by decide +kernel
theorem dksX6_init_1 : cX6_init.data.toList.drop 22 = dktX6_init_1 := dk_seg dksX6_init_0 22 rfl rfl
theorem dksX6_init_2 : cX6_init.data.toList.drop 46 = dktX6_init_2 := dk_seg dksX6_init_1 24 rfl rfl
theorem dksX6_init_3 : cX6_init.data.toList.drop 68 = dktX6_init_3 := dk_seg dksX6_init_2 22 rfl rfl
theorem dksX6_init_4 : cX6_init.data.toList.drop 91 = dktX6_init_4 := dk_seg dksX6_init_3 23 rfl rfl
theorem dksX6_init_5 : cX6_init.data.toList.drop 113 = dktX6_init_5 := dk_seg dksX6_init_4 22 rfl rfl
theorem dX6_init_0 : decode cX6_init 0 = .ok (.aload_n 0, 1) := dk_42 (dk_at dksX6_init_0 0 rfl rfl)
theorem dX6_init_1 : decode cX6_init 1 = .ok (.aload_n 1, 1) := dk_43 (dk_at dksX6_init_0 1 rfl rfl)
theorem dX6_init_2 : decode cX6_init 2 = .ok (.putfield 3, 3) := dk_181 0 3 (dk_at dksX6_init_0 2 rfl rfl)
theorem dX6_init_5 : decode cX6_init 5 = .ok (.aload_n 0, 1) := dk_42 (dk_at dksX6_init_0 5 rfl rfl)
theorem dX6_init_6 : decode cX6_init 6 = .ok (.invokespecial 9, 3) := dk_183 0 9 (dk_at dksX6_init_0 6 rfl rfl)
theorem dX6_init_9 : decode cX6_init 9 = .ok (.aload_n 0, 1) := dk_42 (dk_at dksX6_init_0 9 rfl rfl)
theorem dX6_init_10 : decode cX6_init 10 = .ok (.bipush 6, 2) := dk_16 6 (dk_at dksX6_init_0 10 rfl rfl)
theorem dX6_init_12 : decode cX6_init 12 = .ok (.newarray .int, 2) := dk_188_10 (dk_at dksX6_init_0 12 rfl rfl)
theorem dX6_init_14 : decode cX6_init 14 = .ok (.putfield 15, 3) := dk_181 0 15 (dk_at dksX6_init_0 14 rfl rfl)
theorem dX6_init_17 : decode cX6_init 17 = .ok (.aload_n 0, 1) := dk_42 (dk_at dksX6_init_0 17 rfl rfl)
theorem dX6_init_18 : decode cX6_init 18 = .ok (.bipush 6, 2) := dk_16 6 (dk_at dksX6_init_0 18 rfl rfl)
theorem dX6_init_20 : decode cX6_init 20 = .ok (.newarray .double, 2) := dk_188_7 (dk_at dksX6_init_0 20 rfl rfl)
theorem dX6_init_22 : decode cX6_init 22 = .ok (.putfield 19, 3) := dk_181 0 19 (dk_at dksX6_init_1 0 rfl rfl)
theorem dX6_init_25 : decode cX6_init 25 = .ok (.aload_n 0, 1) := dk_42 (dk_at dksX6_init_1 3 rfl rfl)
theorem dX6_init_26 : decode cX6_init 26 = .ok (.iload_n 2, 1) := dk_28 (dk_at dksX6_init_1 4 rfl rfl)
theorem dX6_init_27 : decode cX6_init 27 = .ok (.putfield 23, 3) := dk_181 0 23 (dk_at dksX6_init_1 5 rfl rfl)
theorem dX6_init_30 : decode cX6_init 30 = .ok (.getstatic 27, 3) := dk_178 0 27 (dk_at dksX6_init_1 8 rfl rfl)
theorem dX6_init_33 : decode cX6_init 33 = .ok (.aload_n 1, 1) := dk_43 (dk_at dksX6_init_1 11 rfl rfl)
theorem dX6_init_34 : decode cX6_init 34 = .ok (.getfield 33, 3) := dk_180 0 33 (dk_at dksX6_init_1 12 rfl rfl)
theorem dX6_init_37 : decode cX6_init 37 = .ok (.iload_n 2, 1) := dk_28 (dk_at dksX6_init_1 15 rfl rfl)
theorem dX6_init_38 : decode cX6_init 38 = .ok (.aload_n 1, 1) := dk_43 (dk_at dksX6_init_1 16 rfl rfl)
theorem dX6_init_39 : decode cX6_init 39 = .ok (.getfield 36, 3) := dk_180 0 36 (dk_at dksX6_init_1 17 rfl rfl)
theorem dX6_init_42 : decode cX6_init 42 = .ok (.invokevirtual 39, 3) := dk_182 0 39 (dk_at dksX6_init_1 20 rfl rfl)
theorem dX6_init_45 : decode cX6_init 45 = .ok (.dstore_n 3, 1) := dk_74 (dk_at dksX6_init_1 23 rfl rfl)
theorem dX6_init_46 : decode cX6_init 46 = .ok (.dload_n 3, 1) := dk_41 (dk_at dksX6_init_2 0 rfl rfl)
theorem dX6_init_47 : decode cX6_init 47 = .ok (.dconst 0, 1) := dk_14 (dk_at dksX6_init_2 1 rfl rfl)
theorem dX6_init_48 : decode cX6_init 48 = .ok (.dcmp .l, 1) := dk_151 (dk_at dksX6_init_2 2 rfl rfl)
theorem dX6_init_49 : decode cX6_init 49 = .ok (.ifCond .le 80, 3) := dk_158 0 80 (dk_at dksX6_init_2 3 rfl rfl)
theorem dX6_init_52 : decode cX6_init 52 = .ok (.aload_n 1, 1) := dk_43 (dk_at dksX6_init_2 6 rfl rfl)
theorem dX6_init_53 : decode cX6_init 53 = .ok (.getfield 43, 3) := dk_180 0 43 (dk_at dksX6_init_2 7 rfl rfl)
theorem dX6_init_56 : decode cX6_init 56 = .ok (.iload_n 2, 1) := dk_28 (dk_at dksX6_init_2 10 rfl rfl)
theorem dX6_init_57 : decode cX6_init 57 = .ok (.iaload, 1) := dk_46 (dk_at dksX6_init_2 11 rfl rfl)
theorem dX6_init_58 : decode cX6_init 58 = .ok (.aload_n 0, 1) := dk_42 (dk_at dksX6_init_2 12 rfl rfl)
theorem dX6_init_59 : decode cX6_init 59 = .ok (.dload_n 3, 1) := dk_41 (dk_at dksX6_init_2 13 rfl rfl)
theorem dX6_init_60 : decode cX6_init 60 = .ok (.invokevirtual 46, 3) := dk_182 0 46 (dk_at dksX6_init_2 14 rfl rfl)
theorem dX6_init_63 : decode cX6_init 63 = .ok (.isub, 1) := dk_100 (dk_at dksX6_init_2 17 rfl rfl)
theorem dX6_init_64 : decode cX6_init 64 = .ok (.istore 5, 2) := dk_54 5 (dk_at dksX6_init_2 18 rfl rfl)
theorem dX6_init_66 : decode cX6_init 66 = .ok (.iload 5, 2) := dk_21 5 (dk_at dksX6_init_2 20 rfl rfl)
theorem dX6_init_68 : decode cX6_init 68 = .ok (.ifCond .le 10, 3) := dk_158 0 10 (dk_at dksX6_init_3 0 rfl rfl)
theorem dX6_init_71 : decode cX6_init 71 = .ok (.aload_n 0, 1) := dk_42 (dk_at dksX6_init_3 3 rfl rfl)
theorem dX6_init_72 : decode cX6_init 72 = .ok (.invokevirtual 50, 3) := dk_182 0 50 (dk_at dksX6_init_3 4 rfl rfl)
theorem dX6_init_75 : decode cX6_init 75 = .ok (.goto 4, 3) := dk_167 0 4 (dk_at dksX6_init_3 7 rfl rfl)
theorem dX6_init_78 : decode cX6_init 78 = .ok (.iconst (-1), 1) := dk_2 (dk_at dksX6_init_3 10 rfl rfl)
theorem dX6_init_79 : decode cX6_init 79 = .ok (.istore 6, 2) := dk_54 6 (dk_at dksX6_init_3 11 rfl rfl)
theorem dX6_init_81 : decode cX6_init 81 = .ok (.iload 6, 2) := dk_21 6 (dk_at dksX6_init_3 13 rfl rfl)
theorem dX6_init_83 : decode cX6_init 83 = .ok (.iconst (-1), 1) := dk_2 (dk_at dksX6_init_3 15 rfl rfl)
theorem dX6_init_84 : decode cX6_init 84 = .ok (.if_icmp .eq 45, 3) := dk_159 0 45 (dk_at dksX6_init_3 16 rfl rfl)
theorem dX6_init_87 : decode cX6_init 87 = .ok (.aload_n 0, 1) := dk_42 (dk_at dksX6_init_3 19 rfl rfl)
theorem dX6_init_88 : decode cX6_init 88 = .ok (.getfield 15, 3) := dk_180 0 15 (dk_at dksX6_init_3 20 rfl rfl)
theorem dX6_init_91 : decode cX6_init 91 = .ok (.iload 6, 2) := dk_21 6 (dk_at dksX6_init_4 0 rfl rfl)
theorem dX6_init_93 : decode cX6_init 93 = .ok (.dup2, 1) := dk_92 (dk_at dksX6_init_4 2 rfl rfl)
theorem dX6_init_94 : decode cX6_init 94 = .ok (.iaload, 1) := dk_46 (dk_at dksX6_init_4 3 rfl rfl)
theorem dX6_init_95 : decode cX6_init 95 = .ok (.iconst 1, 1) := dk_4 (dk_at dksX6_init_4 4 rfl rfl)
theorem dX6_init_96 : decode cX6_init 96 = .ok (.iadd, 1) := dk_96 (dk_at dksX6_init_4 5 rfl rfl)
theorem dX6_init_97 : decode cX6_init 97 = .ok (.iastore, 1) := dk_79 (dk_at dksX6_init_4 6 rfl rfl)
theorem dX6_init_98 : decode cX6_init 98 = .ok (.aload_n 0, 1) := dk_42 (dk_at dksX6_init_4 7 rfl rfl)
theorem dX6_init_99 : decode cX6_init 99 = .ok (.getfield 19, 3) := dk_180 0 19 (dk_at dksX6_init_4 8 rfl rfl)
theorem dX6_init_102 : decode cX6_init 102 = .ok (.iload 6, 2) := dk_21 6 (dk_at dksX6_init_4 11 rfl rfl)
theorem dX6_init_104 : decode cX6_init 104 = .ok (.ldc2_w 54, 3) := dk_20 0 54 (dk_at dksX6_init_4 13 rfl rfl)
theorem dX6_init_107 : decode cX6_init 107 = .ok (.dastore, 1) := dk_82 (dk_at dksX6_init_4 16 rfl rfl)
theorem dX6_init_108 : decode cX6_init 108 = .ok (.iinc 5 (-1), 3) := dk_132 5 255 (dk_at dksX6_init_4 17 rfl rfl)
theorem dX6_init_111 : decode cX6_init 111 = .ok (.iload 5, 2) := dk_21 5 (dk_at dksX6_init_4 20 rfl rfl)
theorem dX6_init_113 : decode cX6_init 113 = .ok (.ifCond .le 10, 3) := dk_158 0 10 (dk_at dksX6_init_5 0 rfl rfl)
theorem dX6_init_116 : decode cX6_init 116 = .ok (.aload_n 0, 1) := dk_42 (dk_at dksX6_init_5 3 rfl rfl)
theorem dX6_init_117 : decode cX6_init 117 = .ok (.invokevirtual 50, 3) := dk_182 0 50 (dk_at dksX6_init_5 4 rfl rfl)
theorem dX6_init_120 : decode cX6_init 120 = .ok (.goto 4, 3) := dk_167 0 4 (dk_at dksX6_init_5 7 rfl rfl)
theorem dX6_init_123 : decode cX6_init 123 = .ok (.iconst (-1), 1) := dk_2 (dk_at dksX6_init_5 10 rfl rfl)
theorem dX6_init_124 : decode cX6_init 124 = .ok (.istore 6, 2) := dk_54 6 (dk_at dksX6_init_5 11 rfl rfl)
theorem dX6_init_126 : decode cX6_init 126 = .ok (.goto (-45), 3) := dk_167 255 211 (dk_at dksX6_init_5 13 rfl rfl)
theorem dX6_init_129 : decode cX6_init 129 = .ok (.return_, 1) := dk_177 (dk_at dksX6_init_5 16 rfl rfl)
abbrev cX6_roundDown : ByteArray := prog_3_method_2_code
def yX6_roundDown : MethodName := ⟨RX6, "roundDown", "(D)I"⟩
def dkwX6_roundDown_5 : List UInt8 := [62, 132, 4, 1, 167, 255, 140, 29, 172]
abbrev dktX6_roundDown_5 : List UInt8 := dkwX6_roundDown_5 ++ []
def dkwX6_roundDown_4 : List UInt8 := [180, 0, 15, 21, 4, 46, 135, 103, 167, 0, 6, 20, 0, 54, 82, 29, 42, 180, 0, 15, 21, 4, 46, 96]
abbrev dktX6_roundDown_4 : List UInt8 := dkwX6_roundDown_4 ++ dktX6_roundDown_5
def dkwX6_roundDown_3 : List UInt8 := [180, 0, 3, 180, 0, 56, 16, 6, 42, 180, 0, 23, 104, 21, 4, 96, 46, 158, 0, 17, 24, 5, 42]
abbrev dktX6_roundDown_3 : List UInt8 := dkwX6_roundDown_3 ++ dktX6_roundDown_4
def dkwX6_roundDown_2 : List UInt8 := [107, 39, 111, 57, 5, 42, 180, 0, 15, 21, 4, 24, 5, 142, 79, 42, 180, 0, 19, 21, 4, 42]
abbrev dktX6_roundDown_2 : List UInt8 := dkwX6_roundDown_2 ++ dktX6_roundDown_3
def dkwX6_roundDown_1 : List UInt8 := [16, 6, 42, 180, 0, 23, 104, 21, 4, 96, 49, 42, 180, 0, 3, 180, 0, 43, 42, 180, 0, 23, 46, 135]
abbrev dktX6_roundDown_1 : List UInt8 := dkwX6_roundDown_1 ++ dktX6_roundDown_2
def dkwX6_roundDown_0 : List UInt8 := [3, 62, 3, 54, 4, 21, 4, 42, 180, 0, 3, 180, 0, 36, 162, 0, 110, 42, 180, 0, 3, 180, 0, 33]
abbrev dktX6_roundDown_0 : List UInt8 := dkwX6_roundDown_0 ++ dktX6_roundDown_1
theorem dksX6_roundDown_0 : cX6_roundDown.data.toList.drop 0 = dktX6_roundDown_0 := by decide +kernel
theorem dksX6_roundDown_1 : cX6_roundDown.data.toList.drop 24 = dktX6_roundDown_1 := dk_seg dksX6_roundDown_0 24 rfl rfl
theorem dksX6_roundDown_2 : cX6_roundDown.data.toList.drop 48 = dktX6_roundDown_2 := dk_seg dksX6_roundDown_1 24 rfl rfl
theorem dksX6_roundDown_3 : cX6_roundDown.data.toList.drop 70 = dktX6_roundDown_3 := dk_seg dksX6_roundDown_2 22 rfl rfl
theorem dksX6_roundDown_4 : cX6_roundDown.data.toList.drop 93 = dktX6_roundDown_4 := dk_seg dksX6_roundDown_3 23 rfl rfl
theorem dksX6_roundDown_5 : cX6_roundDown.data.toList.drop 117 = dktX6_roundDown_5 := dk_seg dksX6_roundDown_4 24 rfl rfl
theorem dX6_roundDown_0 : decode cX6_roundDown 0 = .ok (.iconst 0, 1) := dk_3 (dk_at dksX6_roundDown_0 0 rfl rfl)
theorem dX6_roundDown_1 : decode cX6_roundDown 1 = .ok (.istore_n 3, 1) := dk_62 (dk_at dksX6_roundDown_0 1 rfl rfl)
theorem dX6_roundDown_2 : decode cX6_roundDown 2 = .ok (.iconst 0, 1) := dk_3 (dk_at dksX6_roundDown_0 2 rfl rfl)
theorem dX6_roundDown_3 : decode cX6_roundDown 3 = .ok (.istore 4, 2) := dk_54 4 (dk_at dksX6_roundDown_0 3 rfl rfl)
theorem dX6_roundDown_5 : decode cX6_roundDown 5 = .ok (.iload 4, 2) := dk_21 4 (dk_at dksX6_roundDown_0 5 rfl rfl)
theorem dX6_roundDown_7 : decode cX6_roundDown 7 = .ok (.aload_n 0, 1) := dk_42 (dk_at dksX6_roundDown_0 7 rfl rfl)
theorem dX6_roundDown_8 : decode cX6_roundDown 8 = .ok (.getfield 3, 3) := dk_180 0 3 (dk_at dksX6_roundDown_0 8 rfl rfl)
theorem dX6_roundDown_11 : decode cX6_roundDown 11 = .ok (.getfield 36, 3) := dk_180 0 36 (dk_at dksX6_roundDown_0 11 rfl rfl)
theorem dX6_roundDown_14 : decode cX6_roundDown 14 = .ok (.if_icmp .ge 110, 3) := dk_162 0 110 (dk_at dksX6_roundDown_0 14 rfl rfl)
theorem dX6_roundDown_17 : decode cX6_roundDown 17 = .ok (.aload_n 0, 1) := dk_42 (dk_at dksX6_roundDown_0 17 rfl rfl)
theorem dX6_roundDown_18 : decode cX6_roundDown 18 = .ok (.getfield 3, 3) := dk_180 0 3 (dk_at dksX6_roundDown_0 18 rfl rfl)
theorem dX6_roundDown_21 : decode cX6_roundDown 21 = .ok (.getfield 33, 3) := dk_180 0 33 (dk_at dksX6_roundDown_0 21 rfl rfl)
theorem dX6_roundDown_24 : decode cX6_roundDown 24 = .ok (.bipush 6, 2) := dk_16 6 (dk_at dksX6_roundDown_1 0 rfl rfl)
theorem dX6_roundDown_26 : decode cX6_roundDown 26 = .ok (.aload_n 0, 1) := dk_42 (dk_at dksX6_roundDown_1 2 rfl rfl)
theorem dX6_roundDown_27 : decode cX6_roundDown 27 = .ok (.getfield 23, 3) := dk_180 0 23 (dk_at dksX6_roundDown_1 3 rfl rfl)
theorem dX6_roundDown_30 : decode cX6_roundDown 30 = .ok (.imul, 1) := dk_104 (dk_at dksX6_roundDown_1 6 rfl rfl)
theorem dX6_roundDown_31 : decode cX6_roundDown 31 = .ok (.iload 4, 2) := dk_21 4 (dk_at dksX6_roundDown_1 7 rfl rfl)
theorem dX6_roundDown_33 : decode cX6_roundDown 33 = .ok (.iadd, 1) := dk_96 (dk_at dksX6_roundDown_1 9 rfl rfl)
theorem dX6_roundDown_34 : decode cX6_roundDown 34 = .ok (.daload, 1) := dk_49 (dk_at dksX6_roundDown_1 10 rfl rfl)
theorem dX6_roundDown_35 : decode cX6_roundDown 35 = .ok (.aload_n 0, 1) := dk_42 (dk_at dksX6_roundDown_1 11 rfl rfl)
theorem dX6_roundDown_36 : decode cX6_roundDown 36 = .ok (.getfield 3, 3) := dk_180 0 3 (dk_at dksX6_roundDown_1 12 rfl rfl)
theorem dX6_roundDown_39 : decode cX6_roundDown 39 = .ok (.getfield 43, 3) := dk_180 0 43 (dk_at dksX6_roundDown_1 15 rfl rfl)
theorem dX6_roundDown_42 : decode cX6_roundDown 42 = .ok (.aload_n 0, 1) := dk_42 (dk_at dksX6_roundDown_1 18 rfl rfl)
theorem dX6_roundDown_43 : decode cX6_roundDown 43 = .ok (.getfield 23, 3) := dk_180 0 23 (dk_at dksX6_roundDown_1 19 rfl rfl)
theorem dX6_roundDown_46 : decode cX6_roundDown 46 = .ok (.iaload, 1) := dk_46 (dk_at dksX6_roundDown_1 22 rfl rfl)
theorem dX6_roundDown_47 : decode cX6_roundDown 47 = .ok (.i2d, 1) := dk_135 (dk_at dksX6_roundDown_1 23 rfl rfl)
theorem dX6_roundDown_48 : decode cX6_roundDown 48 = .ok (.dmul, 1) := dk_107 (dk_at dksX6_roundDown_2 0 rfl rfl)
theorem dX6_roundDown_49 : decode cX6_roundDown 49 = .ok (.dload_n 1, 1) := dk_39 (dk_at dksX6_roundDown_2 1 rfl rfl)
theorem dX6_roundDown_50 : decode cX6_roundDown 50 = .ok (.ddiv, 1) := dk_111 (dk_at dksX6_roundDown_2 2 rfl rfl)
theorem dX6_roundDown_51 : decode cX6_roundDown 51 = .ok (.dstore 5, 2) := dk_57 5 (dk_at dksX6_roundDown_2 3 rfl rfl)
theorem dX6_roundDown_53 : decode cX6_roundDown 53 = .ok (.aload_n 0, 1) := dk_42 (dk_at dksX6_roundDown_2 5 rfl rfl)
theorem dX6_roundDown_54 : decode cX6_roundDown 54 = .ok (.getfield 15, 3) := dk_180 0 15 (dk_at dksX6_roundDown_2 6 rfl rfl)
theorem dX6_roundDown_57 : decode cX6_roundDown 57 = .ok (.iload 4, 2) := dk_21 4 (dk_at dksX6_roundDown_2 9 rfl rfl)
theorem dX6_roundDown_59 : decode cX6_roundDown 59 = .ok (.dload 5, 2) := dk_24 5 (dk_at dksX6_roundDown_2 11 rfl rfl)
theorem dX6_roundDown_61 : decode cX6_roundDown 61 = .ok (.d2i, 1) := dk_142 (dk_at dksX6_roundDown_2 13 rfl rfl)
theorem dX6_roundDown_62 : decode cX6_roundDown 62 = .ok (.iastore, 1) := dk_79 (dk_at dksX6_roundDown_2 14 rfl rfl)
theorem dX6_roundDown_63 : decode cX6_roundDown 63 = .ok (.aload_n 0, 1) := dk_42 (dk_at dksX6_roundDown_2 15 rfl rfl)
theorem dX6_roundDown_64 : decode cX6_roundDown 64 = .ok (.getfield 19, 3) := dk_180 0 19 (dk_at dksX6_roundDown_2 16 rfl rfl)
theorem dX6_roundDown_67 : decode cX6_roundDown 67 = .ok (.iload 4, 2) := dk_21 4 (dk_at dksX6_roundDown_2 19 rfl rfl)
theorem dX6_roundDown_69 : decode cX6_roundDown 69 = .ok (.aload_n 0, 1) := dk_42 (dk_at dksX6_roundDown_2 21 rfl rfl)
theorem dX6_roundDown_70 : decode cX6_roundDown 70 = .ok (.getfield 3, 3) := dk_180 0 3 (dk_at dksX6_roundDown_3 0 rfl rfl)
theorem dX6_roundDown_73 : decode cX6_roundDown 73 = .ok (.getfield 56, 3) := dk_180 0 56 (dk_at dksX6_roundDown_3 3 rfl rfl)
theorem dX6_roundDown_76 : decode cX6_roundDown 76 = .ok (.bipush 6, 2) := dk_16 6 (dk_at dksX6_roundDown_3 6 rfl rfl)
theorem dX6_roundDown_78 : decode cX6_roundDown 78 = .ok (.aload_n 0, 1) := dk_42 (dk_at dksX6_roundDown_3 8 rfl rfl)
theorem dX6_roundDown_79 : decode cX6_roundDown 79 = .ok (.getfield 23, 3) := dk_180 0 23 (dk_at dksX6_roundDown_3 9 rfl rfl)
theorem dX6_roundDown_82 : decode cX6_roundDown 82 = .ok (.imul, 1) := dk_104 (dk_at dksX6_roundDown_3 12 rfl rfl)
theorem dX6_roundDown_83 : decode cX6_roundDown 83 = .ok (.iload 4, 2) := dk_21 4 (dk_at dksX6_roundDown_3 13 rfl rfl)
theorem dX6_roundDown_85 : decode cX6_roundDown 85 = .ok (.iadd, 1) := dk_96 (dk_at dksX6_roundDown_3 15 rfl rfl)
theorem dX6_roundDown_86 : decode cX6_roundDown 86 = .ok (.iaload, 1) := dk_46 (dk_at dksX6_roundDown_3 16 rfl rfl)
theorem dX6_roundDown_87 : decode cX6_roundDown 87 = .ok (.ifCond .le 17, 3) := dk_158 0 17 (dk_at dksX6_roundDown_3 17 rfl rfl)
theorem dX6_roundDown_90 : decode cX6_roundDown 90 = .ok (.dload 5, 2) := dk_24 5 (dk_at dksX6_roundDown_3 20 rfl rfl)
theorem dX6_roundDown_92 : decode cX6_roundDown 92 = .ok (.aload_n 0, 1) := dk_42 (dk_at dksX6_roundDown_3 22 rfl rfl)
theorem dX6_roundDown_93 : decode cX6_roundDown 93 = .ok (.getfield 15, 3) := dk_180 0 15 (dk_at dksX6_roundDown_4 0 rfl rfl)
theorem dX6_roundDown_96 : decode cX6_roundDown 96 = .ok (.iload 4, 2) := dk_21 4 (dk_at dksX6_roundDown_4 3 rfl rfl)
theorem dX6_roundDown_98 : decode cX6_roundDown 98 = .ok (.iaload, 1) := dk_46 (dk_at dksX6_roundDown_4 5 rfl rfl)
theorem dX6_roundDown_99 : decode cX6_roundDown 99 = .ok (.i2d, 1) := dk_135 (dk_at dksX6_roundDown_4 6 rfl rfl)
theorem dX6_roundDown_100 : decode cX6_roundDown 100 = .ok (.dsub, 1) := dk_103 (dk_at dksX6_roundDown_4 7 rfl rfl)
theorem dX6_roundDown_101 : decode cX6_roundDown 101 = .ok (.goto 6, 3) := dk_167 0 6 (dk_at dksX6_roundDown_4 8 rfl rfl)
theorem dX6_roundDown_104 : decode cX6_roundDown 104 = .ok (.ldc2_w 54, 3) := dk_20 0 54 (dk_at dksX6_roundDown_4 11 rfl rfl)
theorem dX6_roundDown_107 : decode cX6_roundDown 107 = .ok (.dastore, 1) := dk_82 (dk_at dksX6_roundDown_4 14 rfl rfl)
theorem dX6_roundDown_108 : decode cX6_roundDown 108 = .ok (.iload_n 3, 1) := dk_29 (dk_at dksX6_roundDown_4 15 rfl rfl)
theorem dX6_roundDown_109 : decode cX6_roundDown 109 = .ok (.aload_n 0, 1) := dk_42 (dk_at dksX6_roundDown_4 16 rfl rfl)
theorem dX6_roundDown_110 : decode cX6_roundDown 110 = .ok (.getfield 15, 3) := dk_180 0 15 (dk_at dksX6_roundDown_4 17 rfl rfl)
theorem dX6_roundDown_113 : decode cX6_roundDown 113 = .ok (.iload 4, 2) := dk_21 4 (dk_at dksX6_roundDown_4 20 rfl rfl)
theorem dX6_roundDown_115 : decode cX6_roundDown 115 = .ok (.iaload, 1) := dk_46 (dk_at dksX6_roundDown_4 22 rfl rfl)
theorem dX6_roundDown_116 : decode cX6_roundDown 116 = .ok (.iadd, 1) := dk_96 (dk_at dksX6_roundDown_4 23 rfl rfl)
theorem dX6_roundDown_117 : decode cX6_roundDown 117 = .ok (.istore_n 3, 1) := dk_62 (dk_at dksX6_roundDown_5 0 rfl rfl)
theorem dX6_roundDown_118 : decode cX6_roundDown 118 = .ok (.iinc 4 1, 3) := dk_132 4 1 (dk_at dksX6_roundDown_5 1 rfl rfl)
theorem dX6_roundDown_121 : decode cX6_roundDown 121 = .ok (.goto (-116), 3) := dk_167 255 140 (dk_at dksX6_roundDown_5 4 rfl rfl)
theorem dX6_roundDown_124 : decode cX6_roundDown 124 = .ok (.iload_n 3, 1) := dk_29 (dk_at dksX6_roundDown_5 7 rfl rfl)
theorem dX6_roundDown_125 : decode cX6_roundDown 125 = .ok (.ireturn, 1) := dk_172 (dk_at dksX6_roundDown_5 8 rfl rfl)
abbrev cX6_next : ByteArray := prog_3_method_3_code
def yX6_next : MethodName := ⟨RX6, "next", "()I"⟩
def dkwX6_next_2 : List UInt8 := [42, 180, 0, 19, 27, 49, 151, 158, 0, 7, 28, 167, 0, 4, 27, 60, 132, 2, 1, 167, 255, 194, 27, 172]
abbrev dktX6_next_2 : List UInt8 := dkwX6_next_2 ++ []
def dkwX6_next_1 : List UInt8 := [155, 0, 7, 4, 167, 0, 4, 3, 62, 29, 153, 0, 28, 27, 2, 159, 0, 19, 42, 180, 0, 19, 28, 49]
abbrev dktX6_next_1 : List UInt8 := dkwX6_next_1 ++ dktX6_next_2
def dkwX6_next_0 : List UInt8 := [2, 60, 3, 61, 28, 42, 180, 0, 3, 180, 0, 36, 162, 0, 57, 42, 180, 0, 19, 28, 49, 14, 151]
abbrev dktX6_next_0 : List UInt8 := dkwX6_next_0 ++ dktX6_next_1
theorem dksX6_next_0 : cX6_next.data.toList.drop 0 = dktX6_next_0 := by decide +kernel
theorem dksX6_next_1 : cX6_next.data.toList.drop 23 = dktX6_next_1 := dk_seg dksX6_next_0 23 rfl rfl
theorem dksX6_next_2 : cX6_next.data.toList.drop 47 = dktX6_next_2 := dk_seg dksX6_next_1 24 rfl rfl
theorem dX6_next_0 : decode cX6_next 0 = .ok (.iconst (-1), 1) := dk_2 (dk_at dksX6_next_0 0 rfl rfl)
theorem dX6_next_1 : decode cX6_next 1 = .ok (.istore_n 1, 1) := dk_60 (dk_at dksX6_next_0 1 rfl rfl)
theorem dX6_next_2 : decode cX6_next 2 = .ok (.iconst 0, 1) := dk_3 (dk_at dksX6_next_0 2 rfl rfl)
theorem dX6_next_3 : decode cX6_next 3 = .ok (.istore_n 2, 1) := dk_61 (dk_at dksX6_next_0 3 rfl rfl)
theorem dX6_next_4 : decode cX6_next 4 = .ok (.iload_n 2, 1) := dk_28 (dk_at dksX6_next_0 4 rfl rfl)
theorem dX6_next_5 : decode cX6_next 5 = .ok (.aload_n 0, 1) := dk_42 (dk_at dksX6_next_0 5 rfl rfl)
theorem dX6_next_6 : decode cX6_next 6 = .ok (.getfield 3, 3) := dk_180 0 3 (dk_at dksX6_next_0 6 rfl rfl)
theorem dX6_next_9 : decode cX6_next 9 = .ok (.getfield 36, 3) := dk_180 0 36 (dk_at dksX6_next_0 9 rfl rfl)
theorem dX6_next_12 : decode cX6_next 12 = .ok (.if_icmp .ge 57, 3) := dk_162 0 57 (dk_at dksX6_next_0 12 rfl rfl)
theorem dX6_next_15 : decode cX6_next 15 = .ok (.aload_n 0, 1) := dk_42 (dk_at dksX6_next_0 15 rfl rfl)
theorem dX6_next_16 : decode cX6_next 16 = .ok (.getfield 19, 3) := dk_180 0 19 (dk_at dksX6_next_0 16 rfl rfl)
theorem dX6_next_19 : decode cX6_next 19 = .ok (.iload_n 2, 1) := dk_28 (dk_at dksX6_next_0 19 rfl rfl)
theorem dX6_next_20 : decode cX6_next 20 = .ok (.daload, 1) := dk_49 (dk_at dksX6_next_0 20 rfl rfl)
theorem dX6_next_21 : decode cX6_next 21 = .ok (.dconst 0, 1) := dk_14 (dk_at dksX6_next_0 21 rfl rfl)
theorem dX6_next_22 : decode cX6_next 22 = .ok (.dcmp .l, 1) := dk_151 (dk_at dksX6_next_0 22 rfl rfl)
theorem dX6_next_23 : decode cX6_next 23 = .ok (.ifCond .lt 7, 3) := dk_155 0 7 (dk_at dksX6_next_1 0 rfl rfl)
theorem dX6_next_26 : decode cX6_next 26 = .ok (.iconst 1, 1) := dk_4 (dk_at dksX6_next_1 3 rfl rfl)
theorem dX6_next_27 : decode cX6_next 27 = .ok (.goto 4, 3) := dk_167 0 4 (dk_at dksX6_next_1 4 rfl rfl)
theorem dX6_next_30 : decode cX6_next 30 = .ok (.iconst 0, 1) := dk_3 (dk_at dksX6_next_1 7 rfl rfl)
theorem dX6_next_31 : decode cX6_next 31 = .ok (.istore_n 3, 1) := dk_62 (dk_at dksX6_next_1 8 rfl rfl)
theorem dX6_next_32 : decode cX6_next 32 = .ok (.iload_n 3, 1) := dk_29 (dk_at dksX6_next_1 9 rfl rfl)
theorem dX6_next_33 : decode cX6_next 33 = .ok (.ifCond .eq 28, 3) := dk_153 0 28 (dk_at dksX6_next_1 10 rfl rfl)
theorem dX6_next_36 : decode cX6_next 36 = .ok (.iload_n 1, 1) := dk_27 (dk_at dksX6_next_1 13 rfl rfl)
theorem dX6_next_37 : decode cX6_next 37 = .ok (.iconst (-1), 1) := dk_2 (dk_at dksX6_next_1 14 rfl rfl)
theorem dX6_next_38 : decode cX6_next 38 = .ok (.if_icmp .eq 19, 3) := dk_159 0 19 (dk_at dksX6_next_1 15 rfl rfl)
theorem dX6_next_41 : decode cX6_next 41 = .ok (.aload_n 0, 1) := dk_42 (dk_at dksX6_next_1 18 rfl rfl)
theorem dX6_next_42 : decode cX6_next 42 = .ok (.getfield 19, 3) := dk_180 0 19 (dk_at dksX6_next_1 19 rfl rfl)
theorem dX6_next_45 : decode cX6_next 45 = .ok (.iload_n 2, 1) := dk_28 (dk_at dksX6_next_1 22 rfl rfl)
theorem dX6_next_46 : decode cX6_next 46 = .ok (.daload, 1) := dk_49 (dk_at dksX6_next_1 23 rfl rfl)
theorem dX6_next_47 : decode cX6_next 47 = .ok (.aload_n 0, 1) := dk_42 (dk_at dksX6_next_2 0 rfl rfl)
theorem dX6_next_48 : decode cX6_next 48 = .ok (.getfield 19, 3) := dk_180 0 19 (dk_at dksX6_next_2 1 rfl rfl)
theorem dX6_next_51 : decode cX6_next 51 = .ok (.iload_n 1, 1) := dk_27 (dk_at dksX6_next_2 4 rfl rfl)
theorem dX6_next_52 : decode cX6_next 52 = .ok (.daload, 1) := dk_49 (dk_at dksX6_next_2 5 rfl rfl)
theorem dX6_next_53 : decode cX6_next 53 = .ok (.dcmp .l, 1) := dk_151 (dk_at dksX6_next_2 6 rfl rfl)
theorem dX6_next_54 : decode cX6_next 54 = .ok (.ifCond .le 7, 3) := dk_158 0 7 (dk_at dksX6_next_2 7 rfl rfl)
theorem dX6_next_57 : decode cX6_next 57 = .ok (.iload_n 2, 1) := dk_28 (dk_at dksX6_next_2 10 rfl rfl)
theorem dX6_next_58 : decode cX6_next 58 = .ok (.goto 4, 3) := dk_167 0 4 (dk_at dksX6_next_2 11 rfl rfl)
theorem dX6_next_61 : decode cX6_next 61 = .ok (.iload_n 1, 1) := dk_27 (dk_at dksX6_next_2 14 rfl rfl)
theorem dX6_next_62 : decode cX6_next 62 = .ok (.istore_n 1, 1) := dk_60 (dk_at dksX6_next_2 15 rfl rfl)
theorem dX6_next_63 : decode cX6_next 63 = .ok (.iinc 2 1, 3) := dk_132 2 1 (dk_at dksX6_next_2 16 rfl rfl)
theorem dX6_next_66 : decode cX6_next 66 = .ok (.goto (-62), 3) := dk_167 255 194 (dk_at dksX6_next_2 19 rfl rfl)
theorem dX6_next_69 : decode cX6_next 69 = .ok (.iload_n 1, 1) := dk_27 (dk_at dksX6_next_2 22 rfl rfl)
theorem dX6_next_70 : decode cX6_next 70 = .ok (.ireturn, 1) := dk_172 (dk_at dksX6_next_2 23 rfl rfl)
theorem q65 : (Jvm.Cond.initialized "TurnEstimator$Rounding") ∈ lw_all := lw_g (lw_at lw_m1 16 rfl) rfl
theorem q101 : (Jvm.Cond.fieldLinkNest "TurnEstimator$Rounding" (36 : Nat) "TurnEstimator" "many" "I" "TurnEstimator") ∈ lw_tbl := lw_at lw_m1 52 rfl
theorem q105 : (Jvm.Cond.fieldLinkNest "TurnEstimator$Rounding" (43 : Nat) "TurnEstimator" "inflows" "[I" "TurnEstimator") ∈ lw_tbl := lw_at lw_m1 56 rfl
theorem q112 : (Jvm.Cond.fieldLinkNest "TurnEstimator$Rounding" (56 : Nat) "TurnEstimator" "weights" "[I" "TurnEstimator") ∈ lw_tbl := lw_at lw_m1 63 rfl
theorem q114 : (Jvm.Cond.fieldLinkNest "TurnEstimator$Rounding" (33 : Nat) "TurnEstimator" "estimates" "[D" "TurnEstimator") ∈ lw_tbl := lw_at lw_m1 65 rfl
theorem q233 : (Jvm.Cond.instantiable "TurnEstimator$Rounding" (4 : Nat)) ∈ lw_all := lw_g (lw_at lw_m1 184 rfl) rfl
theorem q235 : (Jvm.Cond.instanceMethod ({ cls := "TurnEstimator$Rounding", name := "<init>", desc := "(LTurnEstimator;I)V" } : Jvm.MethodName)) ∈ lw_all := lw_g (lw_at lw_m1 186 rfl) rfl
theorem q236 : (Jvm.Cond.code ({ cls := "TurnEstimator$Rounding", name := "<init>", desc := "(LTurnEstimator;I)V" } : Jvm.MethodName) prog_3_method_1_code (7 : Nat) (Option.none : Option Jvm.ClassFile.FieldType)) ∈ lw_all := lw_g (lw_at lw_m1 187 rfl) rfl
theorem q237 : (Jvm.Cond.methodLink "TurnEstimator$Rounding" (9 : Nat) ({ cls := "java/lang/Object", name := "<init>", desc := "()V" } : Jvm.MethodName)) ∈ lw_all := lw_g (lw_at lw_m1 188 rfl) rfl
theorem q238 : (Jvm.Cond.fieldLink "TurnEstimator$Rounding" (27 : Nat) "TurnEstimator$Side" "ROW" "LTurnEstimator$Side;") ∈ lw_all := lw_g (lw_at lw_m1 189 rfl) rfl
theorem q239 : (Jvm.Cond.methodLink "TurnEstimator$Rounding" (39 : Nat) ({ cls := "TurnEstimator$Side", name := "sum", desc := "([DII)D" } : Jvm.MethodName)) ∈ lw_all := lw_g (lw_at lw_m1 190 rfl) rfl
theorem q240 : (Jvm.Cond.methodLink "TurnEstimator$Rounding" (46 : Nat) ({ cls := "TurnEstimator$Rounding", name := "roundDown", desc := "(D)I" } : Jvm.MethodName)) ∈ lw_all := lw_g (lw_at lw_m1 191 rfl) rfl
theorem q241 : (Jvm.Cond.privateMethod ({ cls := "TurnEstimator$Rounding", name := "roundDown", desc := "(D)I" } : Jvm.MethodName)) ∈ lw_tbl := lw_at lw_m1 192 rfl
theorem q242 : (Jvm.Cond.instanceMethod ({ cls := "TurnEstimator$Rounding", name := "roundDown", desc := "(D)I" } : Jvm.MethodName)) ∈ lw_all := lw_g (lw_at lw_m1 193 rfl) rfl
theorem q243 : (Jvm.Cond.code ({ cls := "TurnEstimator$Rounding", name := "roundDown", desc := "(D)I" } : Jvm.MethodName) prog_3_method_2_code (7 : Nat) (Option.some Jvm.ClassFile.FieldType.int)) ∈ lw_all := lw_g (lw_at lw_m1 194 rfl) rfl
theorem q244 : (Jvm.Cond.constantDouble "TurnEstimator$Rounding" (54 : Nat) (13830554455654793216 : UInt64)) ∈ lw_all := lw_g (lw_at lw_m1 195 rfl) rfl
theorem q245 : (Jvm.Cond.methodLink "TurnEstimator$Rounding" (50 : Nat) ({ cls := "TurnEstimator$Rounding", name := "next", desc := "()I" } : Jvm.MethodName)) ∈ lw_all := lw_g (lw_at lw_m1 196 rfl) rfl
theorem q246 : (Jvm.Cond.privateMethod ({ cls := "TurnEstimator$Rounding", name := "next", desc := "()I" } : Jvm.MethodName)) ∈ lw_tbl := lw_at lw_m1 197 rfl
theorem q247 : (Jvm.Cond.instanceMethod ({ cls := "TurnEstimator$Rounding", name := "next", desc := "()I" } : Jvm.MethodName)) ∈ lw_all := lw_g (lw_at lw_m1 198 rfl) rfl
theorem q248 : (Jvm.Cond.code ({ cls := "TurnEstimator$Rounding", name := "next", desc := "()I" } : Jvm.MethodName) prog_3_method_3_code (4 : Nat) (Option.some Jvm.ClassFile.FieldType.int)) ∈ lw_all := lw_g (lw_at lw_m1 199 rfl) rfl
theorem q249 : (Jvm.Cond.fieldLink "TurnEstimator$Rounding" (15 : Nat) "TurnEstimator$Rounding" "wholes" "[I") ∈ lw_all := lw_g (lw_at lw_m1 200 rfl) rfl
theorem q251 : (Jvm.Cond.fieldLink "TurnEstimator$Rounding" (19 : Nat) "TurnEstimator$Rounding" "fractions" "[D") ∈ lw_all := lw_g (lw_at lw_m1 202 rfl) rfl
theorem q252 : (Jvm.Cond.fieldLink "TurnEstimator$Rounding" (23 : Nat) "TurnEstimator$Rounding" "from" "I") ∈ lw_all := lw_g (lw_at lw_m1 203 rfl) rfl
theorem q253 : (Jvm.Cond.fieldLink "TurnEstimator$Rounding" (3 : Nat) "TurnEstimator$Rounding" "this$0" "LTurnEstimator;") ∈ lw_all := lw_g (lw_at lw_m1 204 rfl) rfl
theorem q254 : (Jvm.Cond.laysFinal "TurnEstimator$Rounding" "TurnEstimator$Rounding" "wholes" "[I") ∈ lw_all := lw_g (lw_at lw_m1 205 rfl) rfl
theorem q255 : (Jvm.Cond.soleField "TurnEstimator$Rounding" "wholes") ∈ lw_all := lw_g (lw_at lw_m1 206 rfl) rfl
theorem q256 : (Jvm.Cond.laysFinal "TurnEstimator$Rounding" "TurnEstimator$Rounding" "fractions" "[D") ∈ lw_all := lw_g (lw_at lw_m1 207 rfl) rfl
theorem q257 : (Jvm.Cond.soleField "TurnEstimator$Rounding" "fractions") ∈ lw_all := lw_g (lw_at lw_m1 208 rfl) rfl
theorem q258 : (Jvm.Cond.laysFinal "TurnEstimator$Rounding" "TurnEstimator$Rounding" "from" "I") ∈ lw_all := lw_g (lw_at lw_m1 209 rfl) rfl
theorem q259 : (Jvm.Cond.soleField "TurnEstimator$Rounding" "from") ∈ lw_all := lw_g (lw_at lw_m1 210 rfl) rfl
theorem q260 : (Jvm.Cond.laysFinal "TurnEstimator$Rounding" "TurnEstimator$Rounding" "this$0" "LTurnEstimator;") ∈ lw_all := lw_g (lw_at lw_m1 211 rfl) rfl
theorem q261 : (Jvm.Cond.soleField "TurnEstimator$Rounding" "this$0") ∈ lw_all := lw_g (lw_at lw_m1 212 rfl) rfl
theorem q262 : (Jvm.Cond.superclass "TurnEstimator$Rounding" "java/lang/Object") ∈ lw_all := lw_g (lw_at lw_m1 213 rfl) rfl
theorem in_X6 : ∀ w ∈ wsX60, w ∈ lw_all := lw_in wsX60 [254, 256, 258, 260] (by decide +kernel) (by decide +kernel)
/-! TurnEstimator$Whole -/
set_option maxRecDepth 100000
def RX7 : String := "TurnEstimator$Whole"
def TX7 : u_T := fun k => match k with
  | 0 => ("TurnEstimator$Whole", "table", "[I", true)
  | 1 => ("TurnEstimator$Whole", "lefts", "[I", true)
  | 2 => ("TurnEstimator$Whole", "rooms", "[I", true)
  | _ => ("TurnEstimator$Whole", "this$0", "LTurnEstimator;", true)
def tyX7 : Nat → FieldType := fun k => match k with
  | 0 => .array .int
  | 1 => .array .int
  | 2 => .array .int
  | _ => .object "TurnEstimator"
abbrev wsX70 : List Cond := u_ws RX7 TX7 4
theorem nmX7 : ∀ a, a < 4 → ∀ b, b < 4 → a ≠ b → (TX7 a).2.1 ≠ (TX7 b).2.1 := by decide +kernel
theorem tyX7_ok : ∀ k, k < 4 → parseFieldDescriptor (TX7 k).2.2.1 = some (tyX7 k) := by decide +kernel
abbrev cX7_init : ByteArray := prog_9_method_1_code
def yX7_init : MethodName := ⟨RX7, "<init>", "(LTurnEstimator;)V"⟩
def dkwX7_init_4 : List UInt8 := [162, 0, 15, 42, 28, 29, 182, 0, 35, 132, 3, 1, 167, 255, 239, 132, 2, 1, 167, 255, 223, 177]
abbrev dktX7_init_4 : List UInt8 := dkwX7_init_4 ++ []
def dkwX7_init_3 : List UInt8 := [132, 2, 1, 167, 255, 221, 3, 61, 28, 43, 180, 0, 25, 162, 0, 31, 3, 62, 29, 43, 180, 0, 25]
abbrev dktX7_init_3 : List UInt8 := dkwX7_init_3 ++ dktX7_init_4
def dkwX7_init_2 : List UInt8 := [180, 0, 19, 28, 43, 180, 0, 29, 28, 46, 79, 42, 180, 0, 22, 28, 43, 180, 0, 32, 28, 46, 79]
abbrev dktX7_init_2 : List UInt8 := dkwX7_init_2 ++ dktX7_init_3
def dkwX7_init_1 : List UInt8 := [181, 0, 19, 42, 16, 6, 188, 10, 181, 0, 22, 3, 61, 28, 43, 180, 0, 25, 162, 0, 33, 42]
abbrev dktX7_init_1 : List UInt8 := dkwX7_init_1 ++ dktX7_init_2
def dkwX7_init_0 : List UInt8 := [42, 43, 181, 0, 3, 42, 183, 0, 9, 42, 16, 36, 188, 10, 181, 0, 15, 42, 16, 6, 188, 10]
abbrev dktX7_init_0 : List UInt8 := dkwX7_init_0 ++ dktX7_init_1
theorem dksX7_init_0 : cX7_init.data.toList.drop 0 = dktX7_init_0 := by decide +kernel
theorem dksX7_init_1 : cX7_init.data.toList.drop 22 = dktX7_init_1 := dk_seg dksX7_init_0 22 rfl rfl
theorem dksX7_init_2 : cX7_init.data.toList.drop 44 = dktX7_init_2 := dk_seg dksX7_init_1 22 rfl rfl
theorem dksX7_init_3 : cX7_init.data.toList.drop 67 = dktX7_init_3 := dk_seg dksX7_init_2 23 rfl rfl
theorem dksX7_init_4 : cX7_init.data.toList.drop 90 = dktX7_init_4 := dk_seg dksX7_init_3 23 rfl rfl
theorem dX7_init_0 : decode cX7_init 0 = .ok (.aload_n 0, 1) := dk_42 (dk_at dksX7_init_0 0 rfl rfl)
theorem dX7_init_1 : decode cX7_init 1 = .ok (.aload_n 1, 1) := dk_43 (dk_at dksX7_init_0 1 rfl rfl)
theorem dX7_init_2 : decode cX7_init 2 = .ok (.putfield 3, 3) := dk_181 0 3 (dk_at dksX7_init_0 2 rfl rfl)
theorem dX7_init_5 : decode cX7_init 5 = .ok (.aload_n 0, 1) := dk_42 (dk_at dksX7_init_0 5 rfl rfl)
theorem dX7_init_6 : decode cX7_init 6 = .ok (.invokespecial 9, 3) := dk_183 0 9 (dk_at dksX7_init_0 6 rfl rfl)
theorem dX7_init_9 : decode cX7_init 9 = .ok (.aload_n 0, 1) := dk_42 (dk_at dksX7_init_0 9 rfl rfl)
theorem dX7_init_10 : decode cX7_init 10 = .ok (.bipush 36, 2) := dk_16 36 (dk_at dksX7_init_0 10 rfl rfl)
theorem dX7_init_12 : decode cX7_init 12 = .ok (.newarray .int, 2) := dk_188_10 (dk_at dksX7_init_0 12 rfl rfl)
theorem dX7_init_14 : decode cX7_init 14 = .ok (.putfield 15, 3) := dk_181 0 15 (dk_at dksX7_init_0 14 rfl rfl)
theorem dX7_init_17 : decode cX7_init 17 = .ok (.aload_n 0, 1) := dk_42 (dk_at dksX7_init_0 17 rfl rfl)
theorem dX7_init_18 : decode cX7_init 18 = .ok (.bipush 6, 2) := dk_16 6 (dk_at dksX7_init_0 18 rfl rfl)
theorem dX7_init_20 : decode cX7_init 20 = .ok (.newarray .int, 2) := dk_188_10 (dk_at dksX7_init_0 20 rfl rfl)
theorem dX7_init_22 : decode cX7_init 22 = .ok (.putfield 19, 3) := dk_181 0 19 (dk_at dksX7_init_1 0 rfl rfl)
theorem dX7_init_25 : decode cX7_init 25 = .ok (.aload_n 0, 1) := dk_42 (dk_at dksX7_init_1 3 rfl rfl)
theorem dX7_init_26 : decode cX7_init 26 = .ok (.bipush 6, 2) := dk_16 6 (dk_at dksX7_init_1 4 rfl rfl)
theorem dX7_init_28 : decode cX7_init 28 = .ok (.newarray .int, 2) := dk_188_10 (dk_at dksX7_init_1 6 rfl rfl)
theorem dX7_init_30 : decode cX7_init 30 = .ok (.putfield 22, 3) := dk_181 0 22 (dk_at dksX7_init_1 8 rfl rfl)
theorem dX7_init_33 : decode cX7_init 33 = .ok (.iconst 0, 1) := dk_3 (dk_at dksX7_init_1 11 rfl rfl)
theorem dX7_init_34 : decode cX7_init 34 = .ok (.istore_n 2, 1) := dk_61 (dk_at dksX7_init_1 12 rfl rfl)
theorem dX7_init_35 : decode cX7_init 35 = .ok (.iload_n 2, 1) := dk_28 (dk_at dksX7_init_1 13 rfl rfl)
theorem dX7_init_36 : decode cX7_init 36 = .ok (.aload_n 1, 1) := dk_43 (dk_at dksX7_init_1 14 rfl rfl)
theorem dX7_init_37 : decode cX7_init 37 = .ok (.getfield 25, 3) := dk_180 0 25 (dk_at dksX7_init_1 15 rfl rfl)
theorem dX7_init_40 : decode cX7_init 40 = .ok (.if_icmp .ge 33, 3) := dk_162 0 33 (dk_at dksX7_init_1 18 rfl rfl)
theorem dX7_init_43 : decode cX7_init 43 = .ok (.aload_n 0, 1) := dk_42 (dk_at dksX7_init_1 21 rfl rfl)
theorem dX7_init_44 : decode cX7_init 44 = .ok (.getfield 19, 3) := dk_180 0 19 (dk_at dksX7_init_2 0 rfl rfl)
theorem dX7_init_47 : decode cX7_init 47 = .ok (.iload_n 2, 1) := dk_28 (dk_at dksX7_init_2 3 rfl rfl)
theorem dX7_init_48 : decode cX7_init 48 = .ok (.aload_n 1, 1) := dk_43 (dk_at dksX7_init_2 4 rfl rfl)
theorem dX7_init_49 : decode cX7_init 49 = .ok (.getfield 29, 3) := dk_180 0 29 (dk_at dksX7_init_2 5 rfl rfl)
theorem dX7_init_52 : decode cX7_init 52 = .ok (.iload_n 2, 1) := dk_28 (dk_at dksX7_init_2 8 rfl rfl)
theorem dX7_init_53 : decode cX7_init 53 = .ok (.iaload, 1) := dk_46 (dk_at dksX7_init_2 9 rfl rfl)
theorem dX7_init_54 : decode cX7_init 54 = .ok (.iastore, 1) := dk_79 (dk_at dksX7_init_2 10 rfl rfl)
theorem dX7_init_55 : decode cX7_init 55 = .ok (.aload_n 0, 1) := dk_42 (dk_at dksX7_init_2 11 rfl rfl)
theorem dX7_init_56 : decode cX7_init 56 = .ok (.getfield 22, 3) := dk_180 0 22 (dk_at dksX7_init_2 12 rfl rfl)
theorem dX7_init_59 : decode cX7_init 59 = .ok (.iload_n 2, 1) := dk_28 (dk_at dksX7_init_2 15 rfl rfl)
theorem dX7_init_60 : decode cX7_init 60 = .ok (.aload_n 1, 1) := dk_43 (dk_at dksX7_init_2 16 rfl rfl)
theorem dX7_init_61 : decode cX7_init 61 = .ok (.getfield 32, 3) := dk_180 0 32 (dk_at dksX7_init_2 17 rfl rfl)
theorem dX7_init_64 : decode cX7_init 64 = .ok (.iload_n 2, 1) := dk_28 (dk_at dksX7_init_2 20 rfl rfl)
theorem dX7_init_65 : decode cX7_init 65 = .ok (.iaload, 1) := dk_46 (dk_at dksX7_init_2 21 rfl rfl)
theorem dX7_init_66 : decode cX7_init 66 = .ok (.iastore, 1) := dk_79 (dk_at dksX7_init_2 22 rfl rfl)
theorem dX7_init_67 : decode cX7_init 67 = .ok (.iinc 2 1, 3) := dk_132 2 1 (dk_at dksX7_init_3 0 rfl rfl)
theorem dX7_init_70 : decode cX7_init 70 = .ok (.goto (-35), 3) := dk_167 255 221 (dk_at dksX7_init_3 3 rfl rfl)
theorem dX7_init_73 : decode cX7_init 73 = .ok (.iconst 0, 1) := dk_3 (dk_at dksX7_init_3 6 rfl rfl)
theorem dX7_init_74 : decode cX7_init 74 = .ok (.istore_n 2, 1) := dk_61 (dk_at dksX7_init_3 7 rfl rfl)
theorem dX7_init_75 : decode cX7_init 75 = .ok (.iload_n 2, 1) := dk_28 (dk_at dksX7_init_3 8 rfl rfl)
theorem dX7_init_76 : decode cX7_init 76 = .ok (.aload_n 1, 1) := dk_43 (dk_at dksX7_init_3 9 rfl rfl)
theorem dX7_init_77 : decode cX7_init 77 = .ok (.getfield 25, 3) := dk_180 0 25 (dk_at dksX7_init_3 10 rfl rfl)
theorem dX7_init_80 : decode cX7_init 80 = .ok (.if_icmp .ge 31, 3) := dk_162 0 31 (dk_at dksX7_init_3 13 rfl rfl)
theorem dX7_init_83 : decode cX7_init 83 = .ok (.iconst 0, 1) := dk_3 (dk_at dksX7_init_3 16 rfl rfl)
theorem dX7_init_84 : decode cX7_init 84 = .ok (.istore_n 3, 1) := dk_62 (dk_at dksX7_init_3 17 rfl rfl)
theorem dX7_init_85 : decode cX7_init 85 = .ok (.iload_n 3, 1) := dk_29 (dk_at dksX7_init_3 18 rfl rfl)
theorem dX7_init_86 : decode cX7_init 86 = .ok (.aload_n 1, 1) := dk_43 (dk_at dksX7_init_3 19 rfl rfl)
theorem dX7_init_87 : decode cX7_init 87 = .ok (.getfield 25, 3) := dk_180 0 25 (dk_at dksX7_init_3 20 rfl rfl)
theorem dX7_init_90 : decode cX7_init 90 = .ok (.if_icmp .ge 15, 3) := dk_162 0 15 (dk_at dksX7_init_4 0 rfl rfl)
theorem dX7_init_93 : decode cX7_init 93 = .ok (.aload_n 0, 1) := dk_42 (dk_at dksX7_init_4 3 rfl rfl)
theorem dX7_init_94 : decode cX7_init 94 = .ok (.iload_n 2, 1) := dk_28 (dk_at dksX7_init_4 4 rfl rfl)
theorem dX7_init_95 : decode cX7_init 95 = .ok (.iload_n 3, 1) := dk_29 (dk_at dksX7_init_4 5 rfl rfl)
theorem dX7_init_96 : decode cX7_init 96 = .ok (.invokevirtual 35, 3) := dk_182 0 35 (dk_at dksX7_init_4 6 rfl rfl)
theorem dX7_init_99 : decode cX7_init 99 = .ok (.iinc 3 1, 3) := dk_132 3 1 (dk_at dksX7_init_4 9 rfl rfl)
theorem dX7_init_102 : decode cX7_init 102 = .ok (.goto (-17), 3) := dk_167 255 239 (dk_at dksX7_init_4 12 rfl rfl)
theorem dX7_init_105 : decode cX7_init 105 = .ok (.iinc 2 1, 3) := dk_132 2 1 (dk_at dksX7_init_4 15 rfl rfl)
theorem dX7_init_108 : decode cX7_init 108 = .ok (.goto (-33), 3) := dk_167 255 223 (dk_at dksX7_init_4 18 rfl rfl)
theorem dX7_init_111 : decode cX7_init 111 = .ok (.return_, 1) := dk_177 (dk_at dksX7_init_4 21 rfl rfl)
abbrev cX7_fix : ByteArray := prog_9_method_4_code
def yX7_fix : MethodName := ⟨RX7, "fix", "(II)V"⟩
def dkwX7_fix_5 : List UInt8 := [29, 79, 42, 180, 0, 19, 27, 92, 46, 29, 100, 79, 42, 180, 0, 22, 28, 92, 46, 29, 100, 79, 177]
abbrev dktX7_fix_5 : List UInt8 := dkwX7_fix_5 ++ []
def dkwX7_fix_4 : List UInt8 := [184, 0, 50, 167, 0, 4, 29, 62, 132, 4, 1, 167, 255, 190, 42, 180, 0, 15, 16, 6, 27, 104, 28, 96]
abbrev dktX7_fix_4 : List UInt8 := dkwX7_fix_4 ++ dktX7_fix_5
def dkwX7_fix_3 : List UInt8 := [153, 0, 7, 4, 167, 0, 4, 3, 54, 5, 21, 5, 153, 0, 18, 29, 42, 21, 4, 27, 28, 182, 0, 60]
abbrev dktX7_fix_3 : List UInt8 := dkwX7_fix_3 ++ dktX7_fix_4
def dkwX7_fix_2 : List UInt8 := [180, 0, 25, 120, 162, 0, 58, 21, 4, 27, 184, 0, 42, 154, 0, 18, 42, 21, 4, 27, 28, 182, 0, 56]
abbrev dktX7_fix_2 : List UInt8 := dkwX7_fix_2 ++ dktX7_fix_3
def dkwX7_fix_1 : List UInt8 := [180, 0, 22, 28, 46, 184, 0, 50, 167, 0, 4, 3, 62, 3, 54, 4, 21, 4, 4, 42, 180, 0, 3]
abbrev dktX7_fix_1 : List UInt8 := dkwX7_fix_1 ++ dktX7_fix_2
def dkwX7_fix_0 : List UInt8 := [42, 180, 0, 3, 180, 0, 39, 16, 6, 27, 104, 28, 96, 46, 158, 0, 21, 42, 180, 0, 19, 27, 46, 42]
abbrev dktX7_fix_0 : List UInt8 := dkwX7_fix_0 ++ dktX7_fix_1
theorem dksX7_fix_0 : cX7_fix.data.toList.drop 0 = dktX7_fix_0 := by decide +kernel
theorem dksX7_fix_1 : cX7_fix.data.toList.drop 24 = dktX7_fix_1 := dk_seg dksX7_fix_0 24 rfl rfl
theorem dksX7_fix_2 : cX7_fix.data.toList.drop 47 = dktX7_fix_2 := dk_seg dksX7_fix_1 23 rfl rfl
theorem dksX7_fix_3 : cX7_fix.data.toList.drop 71 = dktX7_fix_3 := dk_seg dksX7_fix_2 24 rfl rfl
theorem dksX7_fix_4 : cX7_fix.data.toList.drop 95 = dktX7_fix_4 := dk_seg dksX7_fix_3 24 rfl rfl
theorem dksX7_fix_5 : cX7_fix.data.toList.drop 119 = dktX7_fix_5 := dk_seg dksX7_fix_4 24 rfl rfl
theorem dX7_fix_0 : decode cX7_fix 0 = .ok (.aload_n 0, 1) := dk_42 (dk_at dksX7_fix_0 0 rfl rfl)
theorem dX7_fix_1 : decode cX7_fix 1 = .ok (.getfield 3, 3) := dk_180 0 3 (dk_at dksX7_fix_0 1 rfl rfl)
theorem dX7_fix_4 : decode cX7_fix 4 = .ok (.getfield 39, 3) := dk_180 0 39 (dk_at dksX7_fix_0 4 rfl rfl)
theorem dX7_fix_7 : decode cX7_fix 7 = .ok (.bipush 6, 2) := dk_16 6 (dk_at dksX7_fix_0 7 rfl rfl)
theorem dX7_fix_9 : decode cX7_fix 9 = .ok (.iload_n 1, 1) := dk_27 (dk_at dksX7_fix_0 9 rfl rfl)
theorem dX7_fix_10 : decode cX7_fix 10 = .ok (.imul, 1) := dk_104 (dk_at dksX7_fix_0 10 rfl rfl)
theorem dX7_fix_11 : decode cX7_fix 11 = .ok (.iload_n 2, 1) := dk_28 (dk_at dksX7_fix_0 11 rfl rfl)
theorem dX7_fix_12 : decode cX7_fix 12 = .ok (.iadd, 1) := dk_96 (dk_at dksX7_fix_0 12 rfl rfl)
theorem dX7_fix_13 : decode cX7_fix 13 = .ok (.iaload, 1) := dk_46 (dk_at dksX7_fix_0 13 rfl rfl)
theorem dX7_fix_14 : decode cX7_fix 14 = .ok (.ifCond .le 21, 3) := dk_158 0 21 (dk_at dksX7_fix_0 14 rfl rfl)
theorem dX7_fix_17 : decode cX7_fix 17 = .ok (.aload_n 0, 1) := dk_42 (dk_at dksX7_fix_0 17 rfl rfl)
theorem dX7_fix_18 : decode cX7_fix 18 = .ok (.getfield 19, 3) := dk_180 0 19 (dk_at dksX7_fix_0 18 rfl rfl)
theorem dX7_fix_21 : decode cX7_fix 21 = .ok (.iload_n 1, 1) := dk_27 (dk_at dksX7_fix_0 21 rfl rfl)
theorem dX7_fix_22 : decode cX7_fix 22 = .ok (.iaload, 1) := dk_46 (dk_at dksX7_fix_0 22 rfl rfl)
theorem dX7_fix_23 : decode cX7_fix 23 = .ok (.aload_n 0, 1) := dk_42 (dk_at dksX7_fix_0 23 rfl rfl)
theorem dX7_fix_24 : decode cX7_fix 24 = .ok (.getfield 22, 3) := dk_180 0 22 (dk_at dksX7_fix_1 0 rfl rfl)
theorem dX7_fix_27 : decode cX7_fix 27 = .ok (.iload_n 2, 1) := dk_28 (dk_at dksX7_fix_1 3 rfl rfl)
theorem dX7_fix_28 : decode cX7_fix 28 = .ok (.iaload, 1) := dk_46 (dk_at dksX7_fix_1 4 rfl rfl)
theorem dX7_fix_29 : decode cX7_fix 29 = .ok (.invokestatic 50, 3) := dk_184 0 50 (dk_at dksX7_fix_1 5 rfl rfl)
theorem dX7_fix_32 : decode cX7_fix 32 = .ok (.goto 4, 3) := dk_167 0 4 (dk_at dksX7_fix_1 8 rfl rfl)
theorem dX7_fix_35 : decode cX7_fix 35 = .ok (.iconst 0, 1) := dk_3 (dk_at dksX7_fix_1 11 rfl rfl)
theorem dX7_fix_36 : decode cX7_fix 36 = .ok (.istore_n 3, 1) := dk_62 (dk_at dksX7_fix_1 12 rfl rfl)
theorem dX7_fix_37 : decode cX7_fix 37 = .ok (.iconst 0, 1) := dk_3 (dk_at dksX7_fix_1 13 rfl rfl)
theorem dX7_fix_38 : decode cX7_fix 38 = .ok (.istore 4, 2) := dk_54 4 (dk_at dksX7_fix_1 14 rfl rfl)
theorem dX7_fix_40 : decode cX7_fix 40 = .ok (.iload 4, 2) := dk_21 4 (dk_at dksX7_fix_1 16 rfl rfl)
theorem dX7_fix_42 : decode cX7_fix 42 = .ok (.iconst 1, 1) := dk_4 (dk_at dksX7_fix_1 18 rfl rfl)
theorem dX7_fix_43 : decode cX7_fix 43 = .ok (.aload_n 0, 1) := dk_42 (dk_at dksX7_fix_1 19 rfl rfl)
theorem dX7_fix_44 : decode cX7_fix 44 = .ok (.getfield 3, 3) := dk_180 0 3 (dk_at dksX7_fix_1 20 rfl rfl)
theorem dX7_fix_47 : decode cX7_fix 47 = .ok (.getfield 25, 3) := dk_180 0 25 (dk_at dksX7_fix_2 0 rfl rfl)
theorem dX7_fix_50 : decode cX7_fix 50 = .ok (.ishl, 1) := dk_120 (dk_at dksX7_fix_2 3 rfl rfl)
theorem dX7_fix_51 : decode cX7_fix 51 = .ok (.if_icmp .ge 58, 3) := dk_162 0 58 (dk_at dksX7_fix_2 4 rfl rfl)
theorem dX7_fix_54 : decode cX7_fix 54 = .ok (.iload 4, 2) := dk_21 4 (dk_at dksX7_fix_2 7 rfl rfl)
theorem dX7_fix_56 : decode cX7_fix 56 = .ok (.iload_n 1, 1) := dk_27 (dk_at dksX7_fix_2 9 rfl rfl)
theorem dX7_fix_57 : decode cX7_fix 57 = .ok (.invokestatic 42, 3) := dk_184 0 42 (dk_at dksX7_fix_2 10 rfl rfl)
theorem dX7_fix_60 : decode cX7_fix 60 = .ok (.ifCond .ne 18, 3) := dk_154 0 18 (dk_at dksX7_fix_2 13 rfl rfl)
theorem dX7_fix_63 : decode cX7_fix 63 = .ok (.aload_n 0, 1) := dk_42 (dk_at dksX7_fix_2 16 rfl rfl)
theorem dX7_fix_64 : decode cX7_fix 64 = .ok (.iload 4, 2) := dk_21 4 (dk_at dksX7_fix_2 17 rfl rfl)
theorem dX7_fix_66 : decode cX7_fix 66 = .ok (.iload_n 1, 1) := dk_27 (dk_at dksX7_fix_2 19 rfl rfl)
theorem dX7_fix_67 : decode cX7_fix 67 = .ok (.iload_n 2, 1) := dk_28 (dk_at dksX7_fix_2 20 rfl rfl)
theorem dX7_fix_68 : decode cX7_fix 68 = .ok (.invokevirtual 56, 3) := dk_182 0 56 (dk_at dksX7_fix_2 21 rfl rfl)
theorem dX7_fix_71 : decode cX7_fix 71 = .ok (.ifCond .eq 7, 3) := dk_153 0 7 (dk_at dksX7_fix_3 0 rfl rfl)
theorem dX7_fix_74 : decode cX7_fix 74 = .ok (.iconst 1, 1) := dk_4 (dk_at dksX7_fix_3 3 rfl rfl)
theorem dX7_fix_75 : decode cX7_fix 75 = .ok (.goto 4, 3) := dk_167 0 4 (dk_at dksX7_fix_3 4 rfl rfl)
theorem dX7_fix_78 : decode cX7_fix 78 = .ok (.iconst 0, 1) := dk_3 (dk_at dksX7_fix_3 7 rfl rfl)
theorem dX7_fix_79 : decode cX7_fix 79 = .ok (.istore 5, 2) := dk_54 5 (dk_at dksX7_fix_3 8 rfl rfl)
theorem dX7_fix_81 : decode cX7_fix 81 = .ok (.iload 5, 2) := dk_21 5 (dk_at dksX7_fix_3 10 rfl rfl)
theorem dX7_fix_83 : decode cX7_fix 83 = .ok (.ifCond .eq 18, 3) := dk_153 0 18 (dk_at dksX7_fix_3 12 rfl rfl)
theorem dX7_fix_86 : decode cX7_fix 86 = .ok (.iload_n 3, 1) := dk_29 (dk_at dksX7_fix_3 15 rfl rfl)
theorem dX7_fix_87 : decode cX7_fix 87 = .ok (.aload_n 0, 1) := dk_42 (dk_at dksX7_fix_3 16 rfl rfl)
theorem dX7_fix_88 : decode cX7_fix 88 = .ok (.iload 4, 2) := dk_21 4 (dk_at dksX7_fix_3 17 rfl rfl)
theorem dX7_fix_90 : decode cX7_fix 90 = .ok (.iload_n 1, 1) := dk_27 (dk_at dksX7_fix_3 19 rfl rfl)
theorem dX7_fix_91 : decode cX7_fix 91 = .ok (.iload_n 2, 1) := dk_28 (dk_at dksX7_fix_3 20 rfl rfl)
theorem dX7_fix_92 : decode cX7_fix 92 = .ok (.invokevirtual 60, 3) := dk_182 0 60 (dk_at dksX7_fix_3 21 rfl rfl)
theorem dX7_fix_95 : decode cX7_fix 95 = .ok (.invokestatic 50, 3) := dk_184 0 50 (dk_at dksX7_fix_4 0 rfl rfl)
theorem dX7_fix_98 : decode cX7_fix 98 = .ok (.goto 4, 3) := dk_167 0 4 (dk_at dksX7_fix_4 3 rfl rfl)
theorem dX7_fix_101 : decode cX7_fix 101 = .ok (.iload_n 3, 1) := dk_29 (dk_at dksX7_fix_4 6 rfl rfl)
theorem dX7_fix_102 : decode cX7_fix 102 = .ok (.istore_n 3, 1) := dk_62 (dk_at dksX7_fix_4 7 rfl rfl)
theorem dX7_fix_103 : decode cX7_fix 103 = .ok (.iinc 4 1, 3) := dk_132 4 1 (dk_at dksX7_fix_4 8 rfl rfl)
theorem dX7_fix_106 : decode cX7_fix 106 = .ok (.goto (-66), 3) := dk_167 255 190 (dk_at dksX7_fix_4 11 rfl rfl)
theorem dX7_fix_109 : decode cX7_fix 109 = .ok (.aload_n 0, 1) := dk_42 (dk_at dksX7_fix_4 14 rfl rfl)
theorem dX7_fix_110 : decode cX7_fix 110 = .ok (.getfield 15, 3) := dk_180 0 15 (dk_at dksX7_fix_4 15 rfl rfl)
theorem dX7_fix_113 : decode cX7_fix 113 = .ok (.bipush 6, 2) := dk_16 6 (dk_at dksX7_fix_4 18 rfl rfl)
theorem dX7_fix_115 : decode cX7_fix 115 = .ok (.iload_n 1, 1) := dk_27 (dk_at dksX7_fix_4 20 rfl rfl)
theorem dX7_fix_116 : decode cX7_fix 116 = .ok (.imul, 1) := dk_104 (dk_at dksX7_fix_4 21 rfl rfl)
theorem dX7_fix_117 : decode cX7_fix 117 = .ok (.iload_n 2, 1) := dk_28 (dk_at dksX7_fix_4 22 rfl rfl)
theorem dX7_fix_118 : decode cX7_fix 118 = .ok (.iadd, 1) := dk_96 (dk_at dksX7_fix_4 23 rfl rfl)
theorem dX7_fix_119 : decode cX7_fix 119 = .ok (.iload_n 3, 1) := dk_29 (dk_at dksX7_fix_5 0 rfl rfl)
theorem dX7_fix_120 : decode cX7_fix 120 = .ok (.iastore, 1) := dk_79 (dk_at dksX7_fix_5 1 rfl rfl)
theorem dX7_fix_121 : decode cX7_fix 121 = .ok (.aload_n 0, 1) := dk_42 (dk_at dksX7_fix_5 2 rfl rfl)
theorem dX7_fix_122 : decode cX7_fix 122 = .ok (.getfield 19, 3) := dk_180 0 19 (dk_at dksX7_fix_5 3 rfl rfl)
theorem dX7_fix_125 : decode cX7_fix 125 = .ok (.iload_n 1, 1) := dk_27 (dk_at dksX7_fix_5 6 rfl rfl)
theorem dX7_fix_126 : decode cX7_fix 126 = .ok (.dup2, 1) := dk_92 (dk_at dksX7_fix_5 7 rfl rfl)
theorem dX7_fix_127 : decode cX7_fix 127 = .ok (.iaload, 1) := dk_46 (dk_at dksX7_fix_5 8 rfl rfl)
theorem dX7_fix_128 : decode cX7_fix 128 = .ok (.iload_n 3, 1) := dk_29 (dk_at dksX7_fix_5 9 rfl rfl)
theorem dX7_fix_129 : decode cX7_fix 129 = .ok (.isub, 1) := dk_100 (dk_at dksX7_fix_5 10 rfl rfl)
theorem dX7_fix_130 : decode cX7_fix 130 = .ok (.iastore, 1) := dk_79 (dk_at dksX7_fix_5 11 rfl rfl)
theorem dX7_fix_131 : decode cX7_fix 131 = .ok (.aload_n 0, 1) := dk_42 (dk_at dksX7_fix_5 12 rfl rfl)
theorem dX7_fix_132 : decode cX7_fix 132 = .ok (.getfield 22, 3) := dk_180 0 22 (dk_at dksX7_fix_5 13 rfl rfl)
theorem dX7_fix_135 : decode cX7_fix 135 = .ok (.iload_n 2, 1) := dk_28 (dk_at dksX7_fix_5 16 rfl rfl)
theorem dX7_fix_136 : decode cX7_fix 136 = .ok (.dup2, 1) := dk_92 (dk_at dksX7_fix_5 17 rfl rfl)
theorem dX7_fix_137 : decode cX7_fix 137 = .ok (.iaload, 1) := dk_46 (dk_at dksX7_fix_5 18 rfl rfl)
theorem dX7_fix_138 : decode cX7_fix 138 = .ok (.iload_n 3, 1) := dk_29 (dk_at dksX7_fix_5 19 rfl rfl)
theorem dX7_fix_139 : decode cX7_fix 139 = .ok (.isub, 1) := dk_100 (dk_at dksX7_fix_5 20 rfl rfl)
theorem dX7_fix_140 : decode cX7_fix 140 = .ok (.iastore, 1) := dk_79 (dk_at dksX7_fix_5 21 rfl rfl)
theorem dX7_fix_141 : decode cX7_fix 141 = .ok (.return_, 1) := dk_177 (dk_at dksX7_fix_5 22 rfl rfl)
abbrev cX7_needs : ByteArray := prog_9_method_5_code
def yX7_needs : MethodName := ⟨RX7, "needs", "(III)Z"⟩
def dkwX7_needs_2 : List UInt8 := [167, 0, 4, 3, 128, 54, 4, 132, 5, 1, 167, 255, 207, 21, 4, 172]
abbrev dktX7_needs_2 : List UInt8 := dkwX7_needs_2 ++ []
def dkwX7_needs_1 : List UInt8 := [184, 0, 42, 153, 0, 22, 42, 21, 5, 28, 29, 182, 0, 46, 29, 184, 0, 42, 153, 0, 7, 4]
abbrev dktX7_needs_1 : List UInt8 := dkwX7_needs_1 ++ dktX7_needs_2
def dkwX7_needs_0 : List UInt8 := [3, 54, 4, 3, 54, 5, 21, 5, 42, 180, 0, 3, 180, 0, 25, 162, 0, 43, 21, 4, 27, 21, 5]
abbrev dktX7_needs_0 : List UInt8 := dkwX7_needs_0 ++ dktX7_needs_1
theorem dksX7_needs_0 : cX7_needs.data.toList.drop 0 = dktX7_needs_0 := by decide +kernel
theorem dksX7_needs_1 : cX7_needs.data.toList.drop 23 = dktX7_needs_1 := dk_seg dksX7_needs_0 23 rfl rfl
theorem dksX7_needs_2 : cX7_needs.data.toList.drop 45 = dktX7_needs_2 := dk_seg dksX7_needs_1 22 rfl rfl
theorem dX7_needs_0 : decode cX7_needs 0 = .ok (.iconst 0, 1) := dk_3 (dk_at dksX7_needs_0 0 rfl rfl)
theorem dX7_needs_1 : decode cX7_needs 1 = .ok (.istore 4, 2) := dk_54 4 (dk_at dksX7_needs_0 1 rfl rfl)
theorem dX7_needs_3 : decode cX7_needs 3 = .ok (.iconst 0, 1) := dk_3 (dk_at dksX7_needs_0 3 rfl rfl)
theorem dX7_needs_4 : decode cX7_needs 4 = .ok (.istore 5, 2) := dk_54 5 (dk_at dksX7_needs_0 4 rfl rfl)
theorem dX7_needs_6 : decode cX7_needs 6 = .ok (.iload 5, 2) := dk_21 5 (dk_at dksX7_needs_0 6 rfl rfl)
theorem dX7_needs_8 : decode cX7_needs 8 = .ok (.aload_n 0, 1) := dk_42 (dk_at dksX7_needs_0 8 rfl rfl)
theorem dX7_needs_9 : decode cX7_needs 9 = .ok (.getfield 3, 3) := dk_180 0 3 (dk_at dksX7_needs_0 9 rfl rfl)
theorem dX7_needs_12 : decode cX7_needs 12 = .ok (.getfield 25, 3) := dk_180 0 25 (dk_at dksX7_needs_0 12 rfl rfl)
theorem dX7_needs_15 : decode cX7_needs 15 = .ok (.if_icmp .ge 43, 3) := dk_162 0 43 (dk_at dksX7_needs_0 15 rfl rfl)
theorem dX7_needs_18 : decode cX7_needs 18 = .ok (.iload 4, 2) := dk_21 4 (dk_at dksX7_needs_0 18 rfl rfl)
theorem dX7_needs_20 : decode cX7_needs 20 = .ok (.iload_n 1, 1) := dk_27 (dk_at dksX7_needs_0 20 rfl rfl)
theorem dX7_needs_21 : decode cX7_needs 21 = .ok (.iload 5, 2) := dk_21 5 (dk_at dksX7_needs_0 21 rfl rfl)
theorem dX7_needs_23 : decode cX7_needs 23 = .ok (.invokestatic 42, 3) := dk_184 0 42 (dk_at dksX7_needs_1 0 rfl rfl)
theorem dX7_needs_26 : decode cX7_needs 26 = .ok (.ifCond .eq 22, 3) := dk_153 0 22 (dk_at dksX7_needs_1 3 rfl rfl)
theorem dX7_needs_29 : decode cX7_needs 29 = .ok (.aload_n 0, 1) := dk_42 (dk_at dksX7_needs_1 6 rfl rfl)
theorem dX7_needs_30 : decode cX7_needs 30 = .ok (.iload 5, 2) := dk_21 5 (dk_at dksX7_needs_1 7 rfl rfl)
theorem dX7_needs_32 : decode cX7_needs 32 = .ok (.iload_n 2, 1) := dk_28 (dk_at dksX7_needs_1 9 rfl rfl)
theorem dX7_needs_33 : decode cX7_needs 33 = .ok (.iload_n 3, 1) := dk_29 (dk_at dksX7_needs_1 10 rfl rfl)
theorem dX7_needs_34 : decode cX7_needs 34 = .ok (.invokevirtual 46, 3) := dk_182 0 46 (dk_at dksX7_needs_1 11 rfl rfl)
theorem dX7_needs_37 : decode cX7_needs 37 = .ok (.iload_n 3, 1) := dk_29 (dk_at dksX7_needs_1 14 rfl rfl)
theorem dX7_needs_38 : decode cX7_needs 38 = .ok (.invokestatic 42, 3) := dk_184 0 42 (dk_at dksX7_needs_1 15 rfl rfl)
theorem dX7_needs_41 : decode cX7_needs 41 = .ok (.ifCond .eq 7, 3) := dk_153 0 7 (dk_at dksX7_needs_1 18 rfl rfl)
theorem dX7_needs_44 : decode cX7_needs 44 = .ok (.iconst 1, 1) := dk_4 (dk_at dksX7_needs_1 21 rfl rfl)
theorem dX7_needs_45 : decode cX7_needs 45 = .ok (.goto 4, 3) := dk_167 0 4 (dk_at dksX7_needs_2 0 rfl rfl)
theorem dX7_needs_48 : decode cX7_needs 48 = .ok (.iconst 0, 1) := dk_3 (dk_at dksX7_needs_2 3 rfl rfl)
theorem dX7_needs_49 : decode cX7_needs 49 = .ok (.ior, 1) := dk_128 (dk_at dksX7_needs_2 4 rfl rfl)
theorem dX7_needs_50 : decode cX7_needs 50 = .ok (.istore 4, 2) := dk_54 4 (dk_at dksX7_needs_2 5 rfl rfl)
theorem dX7_needs_52 : decode cX7_needs 52 = .ok (.iinc 5 1, 3) := dk_132 5 1 (dk_at dksX7_needs_2 7 rfl rfl)
theorem dX7_needs_55 : decode cX7_needs 55 = .ok (.goto (-49), 3) := dk_167 255 207 (dk_at dksX7_needs_2 10 rfl rfl)
theorem dX7_needs_58 : decode cX7_needs 58 = .ok (.iload 4, 2) := dk_21 4 (dk_at dksX7_needs_2 13 rfl rfl)
theorem dX7_needs_60 : decode cX7_needs 60 = .ok (.ireturn, 1) := dk_172 (dk_at dksX7_needs_2 15 rfl rfl)
abbrev cX7_reached : ByteArray := prog_9_method_2_code
def yX7_reached : MethodName := ⟨RX7, "reached", "(III)I"⟩
def dkwX7_reached_3 : List UInt8 := [167, 0, 4, 3, 128, 54, 4, 132, 5, 1, 167, 255, 182, 21, 4, 172]
abbrev dktX7_reached_3 : List UInt8 := dkwX7_reached_3 ++ []
def dkwX7_reached_2 : List UInt8 := [42, 180, 0, 3, 180, 0, 39, 16, 6, 27, 104, 21, 5, 96, 46, 158, 0, 10, 4, 21, 5, 120]
abbrev dktX7_reached_2 : List UInt8 := dkwX7_reached_2 ++ dktX7_reached_3
def dkwX7_reached_1 : List UInt8 := [28, 160, 0, 13, 21, 5, 29, 164, 0, 7, 4, 167, 0, 4, 3, 54, 6, 21, 4, 21, 6, 153, 0, 28]
abbrev dktX7_reached_1 : List UInt8 := dkwX7_reached_1 ++ dktX7_reached_2
def dkwX7_reached_0 : List UInt8 := [3, 54, 4, 3, 54, 5, 21, 5, 42, 180, 0, 3, 180, 0, 25, 162, 0, 68, 27, 28, 163, 0, 14, 27]
abbrev dktX7_reached_0 : List UInt8 := dkwX7_reached_0 ++ dktX7_reached_1
theorem dksX7_reached_0 : cX7_reached.data.toList.drop 0 = dktX7_reached_0 := by decide +kernel
theorem dksX7_reached_1 : cX7_reached.data.toList.drop 24 = dktX7_reached_1 := dk_seg dksX7_reached_0 24 rfl rfl
theorem dksX7_reached_2 : cX7_reached.data.toList.drop 48 = dktX7_reached_2 := dk_seg dksX7_reached_1 24 rfl rfl
theorem dksX7_reached_3 : cX7_reached.data.toList.drop 70 = dktX7_reached_3 := dk_seg dksX7_reached_2 22 rfl rfl
theorem dX7_reached_0 : decode cX7_reached 0 = .ok (.iconst 0, 1) := dk_3 (dk_at dksX7_reached_0 0 rfl rfl)
theorem dX7_reached_1 : decode cX7_reached 1 = .ok (.istore 4, 2) := dk_54 4 (dk_at dksX7_reached_0 1 rfl rfl)
theorem dX7_reached_3 : decode cX7_reached 3 = .ok (.iconst 0, 1) := dk_3 (dk_at dksX7_reached_0 3 rfl rfl)
theorem dX7_reached_4 : decode cX7_reached 4 = .ok (.istore 5, 2) := dk_54 5 (dk_at dksX7_reached_0 4 rfl rfl)
theorem dX7_reached_6 : decode cX7_reached 6 = .ok (.iload 5, 2) := dk_21 5 (dk_at dksX7_reached_0 6 rfl rfl)
theorem dX7_reached_8 : decode cX7_reached 8 = .ok (.aload_n 0, 1) := dk_42 (dk_at dksX7_reached_0 8 rfl rfl)
theorem dX7_reached_9 : decode cX7_reached 9 = .ok (.getfield 3, 3) := dk_180 0 3 (dk_at dksX7_reached_0 9 rfl rfl)
theorem dX7_reached_12 : decode cX7_reached 12 = .ok (.getfield 25, 3) := dk_180 0 25 (dk_at dksX7_reached_0 12 rfl rfl)
theorem dX7_reached_15 : decode cX7_reached 15 = .ok (.if_icmp .ge 68, 3) := dk_162 0 68 (dk_at dksX7_reached_0 15 rfl rfl)
theorem dX7_reached_18 : decode cX7_reached 18 = .ok (.iload_n 1, 1) := dk_27 (dk_at dksX7_reached_0 18 rfl rfl)
theorem dX7_reached_19 : decode cX7_reached 19 = .ok (.iload_n 2, 1) := dk_28 (dk_at dksX7_reached_0 19 rfl rfl)
theorem dX7_reached_20 : decode cX7_reached 20 = .ok (.if_icmp .gt 14, 3) := dk_163 0 14 (dk_at dksX7_reached_0 20 rfl rfl)
theorem dX7_reached_23 : decode cX7_reached 23 = .ok (.iload_n 1, 1) := dk_27 (dk_at dksX7_reached_0 23 rfl rfl)
theorem dX7_reached_24 : decode cX7_reached 24 = .ok (.iload_n 2, 1) := dk_28 (dk_at dksX7_reached_1 0 rfl rfl)
theorem dX7_reached_25 : decode cX7_reached 25 = .ok (.if_icmp .ne 13, 3) := dk_160 0 13 (dk_at dksX7_reached_1 1 rfl rfl)
theorem dX7_reached_28 : decode cX7_reached 28 = .ok (.iload 5, 2) := dk_21 5 (dk_at dksX7_reached_1 4 rfl rfl)
theorem dX7_reached_30 : decode cX7_reached 30 = .ok (.iload_n 3, 1) := dk_29 (dk_at dksX7_reached_1 6 rfl rfl)
theorem dX7_reached_31 : decode cX7_reached 31 = .ok (.if_icmp .le 7, 3) := dk_164 0 7 (dk_at dksX7_reached_1 7 rfl rfl)
theorem dX7_reached_34 : decode cX7_reached 34 = .ok (.iconst 1, 1) := dk_4 (dk_at dksX7_reached_1 10 rfl rfl)
theorem dX7_reached_35 : decode cX7_reached 35 = .ok (.goto 4, 3) := dk_167 0 4 (dk_at dksX7_reached_1 11 rfl rfl)
theorem dX7_reached_38 : decode cX7_reached 38 = .ok (.iconst 0, 1) := dk_3 (dk_at dksX7_reached_1 14 rfl rfl)
theorem dX7_reached_39 : decode cX7_reached 39 = .ok (.istore 6, 2) := dk_54 6 (dk_at dksX7_reached_1 15 rfl rfl)
theorem dX7_reached_41 : decode cX7_reached 41 = .ok (.iload 4, 2) := dk_21 4 (dk_at dksX7_reached_1 17 rfl rfl)
theorem dX7_reached_43 : decode cX7_reached 43 = .ok (.iload 6, 2) := dk_21 6 (dk_at dksX7_reached_1 19 rfl rfl)
theorem dX7_reached_45 : decode cX7_reached 45 = .ok (.ifCond .eq 28, 3) := dk_153 0 28 (dk_at dksX7_reached_1 21 rfl rfl)
theorem dX7_reached_48 : decode cX7_reached 48 = .ok (.aload_n 0, 1) := dk_42 (dk_at dksX7_reached_2 0 rfl rfl)
theorem dX7_reached_49 : decode cX7_reached 49 = .ok (.getfield 3, 3) := dk_180 0 3 (dk_at dksX7_reached_2 1 rfl rfl)
theorem dX7_reached_52 : decode cX7_reached 52 = .ok (.getfield 39, 3) := dk_180 0 39 (dk_at dksX7_reached_2 4 rfl rfl)
theorem dX7_reached_55 : decode cX7_reached 55 = .ok (.bipush 6, 2) := dk_16 6 (dk_at dksX7_reached_2 7 rfl rfl)
theorem dX7_reached_57 : decode cX7_reached 57 = .ok (.iload_n 1, 1) := dk_27 (dk_at dksX7_reached_2 9 rfl rfl)
theorem dX7_reached_58 : decode cX7_reached 58 = .ok (.imul, 1) := dk_104 (dk_at dksX7_reached_2 10 rfl rfl)
theorem dX7_reached_59 : decode cX7_reached 59 = .ok (.iload 5, 2) := dk_21 5 (dk_at dksX7_reached_2 11 rfl rfl)
theorem dX7_reached_61 : decode cX7_reached 61 = .ok (.iadd, 1) := dk_96 (dk_at dksX7_reached_2 13 rfl rfl)
theorem dX7_reached_62 : decode cX7_reached 62 = .ok (.iaload, 1) := dk_46 (dk_at dksX7_reached_2 14 rfl rfl)
theorem dX7_reached_63 : decode cX7_reached 63 = .ok (.ifCond .le 10, 3) := dk_158 0 10 (dk_at dksX7_reached_2 15 rfl rfl)
theorem dX7_reached_66 : decode cX7_reached 66 = .ok (.iconst 1, 1) := dk_4 (dk_at dksX7_reached_2 18 rfl rfl)
theorem dX7_reached_67 : decode cX7_reached 67 = .ok (.iload 5, 2) := dk_21 5 (dk_at dksX7_reached_2 19 rfl rfl)
theorem dX7_reached_69 : decode cX7_reached 69 = .ok (.ishl, 1) := dk_120 (dk_at dksX7_reached_2 21 rfl rfl)
theorem dX7_reached_70 : decode cX7_reached 70 = .ok (.goto 4, 3) := dk_167 0 4 (dk_at dksX7_reached_3 0 rfl rfl)
theorem dX7_reached_73 : decode cX7_reached 73 = .ok (.iconst 0, 1) := dk_3 (dk_at dksX7_reached_3 3 rfl rfl)
theorem dX7_reached_74 : decode cX7_reached 74 = .ok (.ior, 1) := dk_128 (dk_at dksX7_reached_3 4 rfl rfl)
theorem dX7_reached_75 : decode cX7_reached 75 = .ok (.istore 4, 2) := dk_54 4 (dk_at dksX7_reached_3 5 rfl rfl)
theorem dX7_reached_77 : decode cX7_reached 77 = .ok (.iinc 5 1, 3) := dk_132 5 1 (dk_at dksX7_reached_3 7 rfl rfl)
theorem dX7_reached_80 : decode cX7_reached 80 = .ok (.goto (-74), 3) := dk_167 255 182 (dk_at dksX7_reached_3 10 rfl rfl)
theorem dX7_reached_83 : decode cX7_reached 83 = .ok (.iload 4, 2) := dk_21 4 (dk_at dksX7_reached_3 13 rfl rfl)
theorem dX7_reached_85 : decode cX7_reached 85 = .ok (.ireturn, 1) := dk_172 (dk_at dksX7_reached_3 15 rfl rfl)
abbrev cX7_slack : ByteArray := prog_9_method_3_code
def yX7_slack : MethodName := ⟨RX7, "slack", "(III)I"⟩
def dkwX7_slack_4 : List UInt8 := [46, 167, 0, 4, 3, 96, 54, 5, 132, 6, 1, 167, 255, 215, 21, 5, 172]
abbrev dktX7_slack_4 : List UInt8 := dkwX7_slack_4 ++ []
def dkwX7_slack_3 : List UInt8 := [180, 0, 25, 162, 0, 35, 21, 5, 21, 4, 21, 6, 184, 0, 42, 153, 0, 13, 42, 180, 0, 22, 21, 6]
abbrev dktX7_slack_3 : List UInt8 := dkwX7_slack_3 ++ dktX7_slack_4
def dkwX7_slack_2 : List UInt8 := [180, 0, 19, 21, 6, 46, 100, 54, 5, 132, 6, 1, 167, 255, 207, 3, 54, 6, 21, 6, 42, 180, 0, 3]
abbrev dktX7_slack_2 : List UInt8 := dkwX7_slack_2 ++ dktX7_slack_3
def dkwX7_slack_1 : List UInt8 := [184, 0, 42, 153, 0, 28, 21, 4, 42, 21, 6, 28, 29, 182, 0, 46, 128, 54, 4, 21, 5, 42]
abbrev dktX7_slack_1 : List UInt8 := dkwX7_slack_1 ++ dktX7_slack_2
def dkwX7_slack_0 : List UInt8 := [3, 54, 4, 3, 54, 5, 3, 54, 6, 21, 6, 42, 180, 0, 3, 180, 0, 25, 162, 0, 43, 27, 21, 6]
abbrev dktX7_slack_0 : List UInt8 := dkwX7_slack_0 ++ dktX7_slack_1
theorem dksX7_slack_0 : cX7_slack.data.toList.drop 0 = dktX7_slack_0 := by decide +kernel
theorem dksX7_slack_1 : cX7_slack.data.toList.drop 24 = dktX7_slack_1 := dk_seg dksX7_slack_0 24 rfl rfl
theorem dksX7_slack_2 : cX7_slack.data.toList.drop 46 = dktX7_slack_2 := dk_seg dksX7_slack_1 22 rfl rfl
theorem dksX7_slack_3 : cX7_slack.data.toList.drop 70 = dktX7_slack_3 := dk_seg dksX7_slack_2 24 rfl rfl
theorem dksX7_slack_4 : cX7_slack.data.toList.drop 94 = dktX7_slack_4 := dk_seg dksX7_slack_3 24 rfl rfl
theorem dX7_slack_0 : decode cX7_slack 0 = .ok (.iconst 0, 1) := dk_3 (dk_at dksX7_slack_0 0 rfl rfl)
theorem dX7_slack_1 : decode cX7_slack 1 = .ok (.istore 4, 2) := dk_54 4 (dk_at dksX7_slack_0 1 rfl rfl)
theorem dX7_slack_3 : decode cX7_slack 3 = .ok (.iconst 0, 1) := dk_3 (dk_at dksX7_slack_0 3 rfl rfl)
theorem dX7_slack_4 : decode cX7_slack 4 = .ok (.istore 5, 2) := dk_54 5 (dk_at dksX7_slack_0 4 rfl rfl)
theorem dX7_slack_6 : decode cX7_slack 6 = .ok (.iconst 0, 1) := dk_3 (dk_at dksX7_slack_0 6 rfl rfl)
theorem dX7_slack_7 : decode cX7_slack 7 = .ok (.istore 6, 2) := dk_54 6 (dk_at dksX7_slack_0 7 rfl rfl)
theorem dX7_slack_9 : decode cX7_slack 9 = .ok (.iload 6, 2) := dk_21 6 (dk_at dksX7_slack_0 9 rfl rfl)
theorem dX7_slack_11 : decode cX7_slack 11 = .ok (.aload_n 0, 1) := dk_42 (dk_at dksX7_slack_0 11 rfl rfl)
theorem dX7_slack_12 : decode cX7_slack 12 = .ok (.getfield 3, 3) := dk_180 0 3 (dk_at dksX7_slack_0 12 rfl rfl)
theorem dX7_slack_15 : decode cX7_slack 15 = .ok (.getfield 25, 3) := dk_180 0 25 (dk_at dksX7_slack_0 15 rfl rfl)
theorem dX7_slack_18 : decode cX7_slack 18 = .ok (.if_icmp .ge 43, 3) := dk_162 0 43 (dk_at dksX7_slack_0 18 rfl rfl)
theorem dX7_slack_21 : decode cX7_slack 21 = .ok (.iload_n 1, 1) := dk_27 (dk_at dksX7_slack_0 21 rfl rfl)
theorem dX7_slack_22 : decode cX7_slack 22 = .ok (.iload 6, 2) := dk_21 6 (dk_at dksX7_slack_0 22 rfl rfl)
theorem dX7_slack_24 : decode cX7_slack 24 = .ok (.invokestatic 42, 3) := dk_184 0 42 (dk_at dksX7_slack_1 0 rfl rfl)
theorem dX7_slack_27 : decode cX7_slack 27 = .ok (.ifCond .eq 28, 3) := dk_153 0 28 (dk_at dksX7_slack_1 3 rfl rfl)
theorem dX7_slack_30 : decode cX7_slack 30 = .ok (.iload 4, 2) := dk_21 4 (dk_at dksX7_slack_1 6 rfl rfl)
theorem dX7_slack_32 : decode cX7_slack 32 = .ok (.aload_n 0, 1) := dk_42 (dk_at dksX7_slack_1 8 rfl rfl)
theorem dX7_slack_33 : decode cX7_slack 33 = .ok (.iload 6, 2) := dk_21 6 (dk_at dksX7_slack_1 9 rfl rfl)
theorem dX7_slack_35 : decode cX7_slack 35 = .ok (.iload_n 2, 1) := dk_28 (dk_at dksX7_slack_1 11 rfl rfl)
theorem dX7_slack_36 : decode cX7_slack 36 = .ok (.iload_n 3, 1) := dk_29 (dk_at dksX7_slack_1 12 rfl rfl)
theorem dX7_slack_37 : decode cX7_slack 37 = .ok (.invokevirtual 46, 3) := dk_182 0 46 (dk_at dksX7_slack_1 13 rfl rfl)
theorem dX7_slack_40 : decode cX7_slack 40 = .ok (.ior, 1) := dk_128 (dk_at dksX7_slack_1 16 rfl rfl)
theorem dX7_slack_41 : decode cX7_slack 41 = .ok (.istore 4, 2) := dk_54 4 (dk_at dksX7_slack_1 17 rfl rfl)
theorem dX7_slack_43 : decode cX7_slack 43 = .ok (.iload 5, 2) := dk_21 5 (dk_at dksX7_slack_1 19 rfl rfl)
theorem dX7_slack_45 : decode cX7_slack 45 = .ok (.aload_n 0, 1) := dk_42 (dk_at dksX7_slack_1 21 rfl rfl)
theorem dX7_slack_46 : decode cX7_slack 46 = .ok (.getfield 19, 3) := dk_180 0 19 (dk_at dksX7_slack_2 0 rfl rfl)
theorem dX7_slack_49 : decode cX7_slack 49 = .ok (.iload 6, 2) := dk_21 6 (dk_at dksX7_slack_2 3 rfl rfl)
theorem dX7_slack_51 : decode cX7_slack 51 = .ok (.iaload, 1) := dk_46 (dk_at dksX7_slack_2 5 rfl rfl)
theorem dX7_slack_52 : decode cX7_slack 52 = .ok (.isub, 1) := dk_100 (dk_at dksX7_slack_2 6 rfl rfl)
theorem dX7_slack_53 : decode cX7_slack 53 = .ok (.istore 5, 2) := dk_54 5 (dk_at dksX7_slack_2 7 rfl rfl)
theorem dX7_slack_55 : decode cX7_slack 55 = .ok (.iinc 6 1, 3) := dk_132 6 1 (dk_at dksX7_slack_2 9 rfl rfl)
theorem dX7_slack_58 : decode cX7_slack 58 = .ok (.goto (-49), 3) := dk_167 255 207 (dk_at dksX7_slack_2 12 rfl rfl)
theorem dX7_slack_61 : decode cX7_slack 61 = .ok (.iconst 0, 1) := dk_3 (dk_at dksX7_slack_2 15 rfl rfl)
theorem dX7_slack_62 : decode cX7_slack 62 = .ok (.istore 6, 2) := dk_54 6 (dk_at dksX7_slack_2 16 rfl rfl)
theorem dX7_slack_64 : decode cX7_slack 64 = .ok (.iload 6, 2) := dk_21 6 (dk_at dksX7_slack_2 18 rfl rfl)
theorem dX7_slack_66 : decode cX7_slack 66 = .ok (.aload_n 0, 1) := dk_42 (dk_at dksX7_slack_2 20 rfl rfl)
theorem dX7_slack_67 : decode cX7_slack 67 = .ok (.getfield 3, 3) := dk_180 0 3 (dk_at dksX7_slack_2 21 rfl rfl)
theorem dX7_slack_70 : decode cX7_slack 70 = .ok (.getfield 25, 3) := dk_180 0 25 (dk_at dksX7_slack_3 0 rfl rfl)
theorem dX7_slack_73 : decode cX7_slack 73 = .ok (.if_icmp .ge 35, 3) := dk_162 0 35 (dk_at dksX7_slack_3 3 rfl rfl)
theorem dX7_slack_76 : decode cX7_slack 76 = .ok (.iload 5, 2) := dk_21 5 (dk_at dksX7_slack_3 6 rfl rfl)
theorem dX7_slack_78 : decode cX7_slack 78 = .ok (.iload 4, 2) := dk_21 4 (dk_at dksX7_slack_3 8 rfl rfl)
theorem dX7_slack_80 : decode cX7_slack 80 = .ok (.iload 6, 2) := dk_21 6 (dk_at dksX7_slack_3 10 rfl rfl)
theorem dX7_slack_82 : decode cX7_slack 82 = .ok (.invokestatic 42, 3) := dk_184 0 42 (dk_at dksX7_slack_3 12 rfl rfl)
theorem dX7_slack_85 : decode cX7_slack 85 = .ok (.ifCond .eq 13, 3) := dk_153 0 13 (dk_at dksX7_slack_3 15 rfl rfl)
theorem dX7_slack_88 : decode cX7_slack 88 = .ok (.aload_n 0, 1) := dk_42 (dk_at dksX7_slack_3 18 rfl rfl)
theorem dX7_slack_89 : decode cX7_slack 89 = .ok (.getfield 22, 3) := dk_180 0 22 (dk_at dksX7_slack_3 19 rfl rfl)
theorem dX7_slack_92 : decode cX7_slack 92 = .ok (.iload 6, 2) := dk_21 6 (dk_at dksX7_slack_3 22 rfl rfl)
theorem dX7_slack_94 : decode cX7_slack 94 = .ok (.iaload, 1) := dk_46 (dk_at dksX7_slack_4 0 rfl rfl)
theorem dX7_slack_95 : decode cX7_slack 95 = .ok (.goto 4, 3) := dk_167 0 4 (dk_at dksX7_slack_4 1 rfl rfl)
theorem dX7_slack_98 : decode cX7_slack 98 = .ok (.iconst 0, 1) := dk_3 (dk_at dksX7_slack_4 4 rfl rfl)
theorem dX7_slack_99 : decode cX7_slack 99 = .ok (.iadd, 1) := dk_96 (dk_at dksX7_slack_4 5 rfl rfl)
theorem dX7_slack_100 : decode cX7_slack 100 = .ok (.istore 5, 2) := dk_54 5 (dk_at dksX7_slack_4 6 rfl rfl)
theorem dX7_slack_102 : decode cX7_slack 102 = .ok (.iinc 6 1, 3) := dk_132 6 1 (dk_at dksX7_slack_4 8 rfl rfl)
theorem dX7_slack_105 : decode cX7_slack 105 = .ok (.goto (-41), 3) := dk_167 255 215 (dk_at dksX7_slack_4 11 rfl rfl)
theorem dX7_slack_108 : decode cX7_slack 108 = .ok (.iload 5, 2) := dk_21 5 (dk_at dksX7_slack_4 14 rfl rfl)
theorem dX7_slack_110 : decode cX7_slack 110 = .ok (.ireturn, 1) := dk_172 (dk_at dksX7_slack_4 16 rfl rfl)
theorem q67 : (Jvm.Cond.initialized "TurnEstimator$Whole") ∈ lw_all := lw_g (lw_at lw_m1 18 rfl) rfl
theorem q100 : (Jvm.Cond.fieldLinkNest "TurnEstimator$Whole" (25 : Nat) "TurnEstimator" "many" "I" "TurnEstimator") ∈ lw_tbl := lw_at lw_m1 51 rfl
theorem q104 : (Jvm.Cond.fieldLinkNest "TurnEstimator$Whole" (29 : Nat) "TurnEstimator" "inflows" "[I" "TurnEstimator") ∈ lw_tbl := lw_at lw_m1 55 rfl
theorem q108 : (Jvm.Cond.fieldLinkNest "TurnEstimator$Whole" (32 : Nat) "TurnEstimator" "outflows" "[I" "TurnEstimator") ∈ lw_tbl := lw_at lw_m1 59 rfl
theorem q111 : (Jvm.Cond.fieldLinkNest "TurnEstimator$Whole" (39 : Nat) "TurnEstimator" "weights" "[I" "TurnEstimator") ∈ lw_tbl := lw_at lw_m1 62 rfl
theorem q281 : (Jvm.Cond.instantiable "TurnEstimator$Whole" (4 : Nat)) ∈ lw_all := lw_g (lw_at lw_m1 232 rfl) rfl
theorem q283 : (Jvm.Cond.instanceMethod ({ cls := "TurnEstimator$Whole", name := "<init>", desc := "(LTurnEstimator;)V" } : Jvm.MethodName)) ∈ lw_all := lw_g (lw_at lw_m1 234 rfl) rfl
theorem q284 : (Jvm.Cond.code ({ cls := "TurnEstimator$Whole", name := "<init>", desc := "(LTurnEstimator;)V" } : Jvm.MethodName) prog_9_method_1_code (4 : Nat) (Option.none : Option Jvm.ClassFile.FieldType)) ∈ lw_all := lw_g (lw_at lw_m1 235 rfl) rfl
theorem q285 : (Jvm.Cond.methodLink "TurnEstimator$Whole" (9 : Nat) ({ cls := "java/lang/Object", name := "<init>", desc := "()V" } : Jvm.MethodName)) ∈ lw_all := lw_g (lw_at lw_m1 236 rfl) rfl
theorem q286 : (Jvm.Cond.methodLink "TurnEstimator$Whole" (35 : Nat) ({ cls := "TurnEstimator$Whole", name := "fix", desc := "(II)V" } : Jvm.MethodName)) ∈ lw_all := lw_g (lw_at lw_m1 237 rfl) rfl
theorem q287 : (Jvm.Cond.privateMethod ({ cls := "TurnEstimator$Whole", name := "fix", desc := "(II)V" } : Jvm.MethodName)) ∈ lw_tbl := lw_at lw_m1 238 rfl
theorem q288 : (Jvm.Cond.instanceMethod ({ cls := "TurnEstimator$Whole", name := "fix", desc := "(II)V" } : Jvm.MethodName)) ∈ lw_all := lw_g (lw_at lw_m1 239 rfl) rfl
theorem q289 : (Jvm.Cond.code ({ cls := "TurnEstimator$Whole", name := "fix", desc := "(II)V" } : Jvm.MethodName) prog_9_method_4_code (6 : Nat) (Option.none : Option Jvm.ClassFile.FieldType)) ∈ lw_all := lw_g (lw_at lw_m2 0 rfl) rfl
theorem q290 : (Jvm.Cond.methodLink "TurnEstimator$Whole" (50 : Nat) ({ cls := "java/lang/Math", name := "min", desc := "(II)I" } : Jvm.MethodName)) ∈ lw_all := lw_g (lw_at lw_m2 1 rfl) rfl
theorem q293 : (Jvm.Cond.methodLinkNest "TurnEstimator$Whole" (42 : Nat) ({ cls := "TurnEstimator", name := "has", desc := "(II)Z" } : Jvm.MethodName) "TurnEstimator") ∈ lw_tbl := lw_at lw_m2 4 rfl
theorem q294 : (Jvm.Cond.methodLink "TurnEstimator$Whole" (56 : Nat) ({ cls := "TurnEstimator$Whole", name := "needs", desc := "(III)Z" } : Jvm.MethodName)) ∈ lw_all := lw_g (lw_at lw_m2 5 rfl) rfl
theorem q295 : (Jvm.Cond.privateMethod ({ cls := "TurnEstimator$Whole", name := "needs", desc := "(III)Z" } : Jvm.MethodName)) ∈ lw_tbl := lw_at lw_m2 6 rfl
theorem q296 : (Jvm.Cond.instanceMethod ({ cls := "TurnEstimator$Whole", name := "needs", desc := "(III)Z" } : Jvm.MethodName)) ∈ lw_all := lw_g (lw_at lw_m2 7 rfl) rfl
theorem q297 : (Jvm.Cond.code ({ cls := "TurnEstimator$Whole", name := "needs", desc := "(III)Z" } : Jvm.MethodName) prog_9_method_5_code (6 : Nat) (Option.some Jvm.ClassFile.FieldType.boolean)) ∈ lw_all := lw_g (lw_at lw_m2 8 rfl) rfl
theorem q298 : (Jvm.Cond.methodLink "TurnEstimator$Whole" (46 : Nat) ({ cls := "TurnEstimator$Whole", name := "reached", desc := "(III)I" } : Jvm.MethodName)) ∈ lw_all := lw_g (lw_at lw_m2 9 rfl) rfl
theorem q299 : (Jvm.Cond.privateMethod ({ cls := "TurnEstimator$Whole", name := "reached", desc := "(III)I" } : Jvm.MethodName)) ∈ lw_tbl := lw_at lw_m2 10 rfl
theorem q300 : (Jvm.Cond.instanceMethod ({ cls := "TurnEstimator$Whole", name := "reached", desc := "(III)I" } : Jvm.MethodName)) ∈ lw_all := lw_g (lw_at lw_m2 11 rfl) rfl
theorem q301 : (Jvm.Cond.code ({ cls := "TurnEstimator$Whole", name := "reached", desc := "(III)I" } : Jvm.MethodName) prog_9_method_2_code (7 : Nat) (Option.some Jvm.ClassFile.FieldType.int)) ∈ lw_all := lw_g (lw_at lw_m2 12 rfl) rfl
theorem q302 : (Jvm.Cond.methodLink "TurnEstimator$Whole" (60 : Nat) ({ cls := "TurnEstimator$Whole", name := "slack", desc := "(III)I" } : Jvm.MethodName)) ∈ lw_all := lw_g (lw_at lw_m2 13 rfl) rfl
theorem q303 : (Jvm.Cond.privateMethod ({ cls := "TurnEstimator$Whole", name := "slack", desc := "(III)I" } : Jvm.MethodName)) ∈ lw_tbl := lw_at lw_m2 14 rfl
theorem q304 : (Jvm.Cond.instanceMethod ({ cls := "TurnEstimator$Whole", name := "slack", desc := "(III)I" } : Jvm.MethodName)) ∈ lw_all := lw_g (lw_at lw_m2 15 rfl) rfl
theorem q305 : (Jvm.Cond.code ({ cls := "TurnEstimator$Whole", name := "slack", desc := "(III)I" } : Jvm.MethodName) prog_9_method_3_code (7 : Nat) (Option.some Jvm.ClassFile.FieldType.int)) ∈ lw_all := lw_g (lw_at lw_m2 16 rfl) rfl
theorem q306 : (Jvm.Cond.fieldLink "TurnEstimator$Whole" (15 : Nat) "TurnEstimator$Whole" "table" "[I") ∈ lw_all := lw_g (lw_at lw_m2 17 rfl) rfl
theorem q308 : (Jvm.Cond.fieldLink "TurnEstimator$Whole" (19 : Nat) "TurnEstimator$Whole" "lefts" "[I") ∈ lw_all := lw_g (lw_at lw_m2 19 rfl) rfl
theorem q309 : (Jvm.Cond.fieldLink "TurnEstimator$Whole" (22 : Nat) "TurnEstimator$Whole" "rooms" "[I") ∈ lw_all := lw_g (lw_at lw_m2 20 rfl) rfl
theorem q310 : (Jvm.Cond.fieldLink "TurnEstimator$Whole" (3 : Nat) "TurnEstimator$Whole" "this$0" "LTurnEstimator;") ∈ lw_all := lw_g (lw_at lw_m2 21 rfl) rfl
theorem q311 : (Jvm.Cond.laysFinal "TurnEstimator$Whole" "TurnEstimator$Whole" "table" "[I") ∈ lw_all := lw_g (lw_at lw_m2 22 rfl) rfl
theorem q312 : (Jvm.Cond.soleField "TurnEstimator$Whole" "table") ∈ lw_all := lw_g (lw_at lw_m2 23 rfl) rfl
theorem q313 : (Jvm.Cond.laysFinal "TurnEstimator$Whole" "TurnEstimator$Whole" "lefts" "[I") ∈ lw_all := lw_g (lw_at lw_m2 24 rfl) rfl
theorem q314 : (Jvm.Cond.soleField "TurnEstimator$Whole" "lefts") ∈ lw_all := lw_g (lw_at lw_m2 25 rfl) rfl
theorem q315 : (Jvm.Cond.laysFinal "TurnEstimator$Whole" "TurnEstimator$Whole" "rooms" "[I") ∈ lw_all := lw_g (lw_at lw_m2 26 rfl) rfl
theorem q316 : (Jvm.Cond.soleField "TurnEstimator$Whole" "rooms") ∈ lw_all := lw_g (lw_at lw_m2 27 rfl) rfl
theorem q317 : (Jvm.Cond.laysFinal "TurnEstimator$Whole" "TurnEstimator$Whole" "this$0" "LTurnEstimator;") ∈ lw_all := lw_g (lw_at lw_m2 28 rfl) rfl
theorem q318 : (Jvm.Cond.soleField "TurnEstimator$Whole" "this$0") ∈ lw_all := lw_g (lw_at lw_m2 29 rfl) rfl
theorem q319 : (Jvm.Cond.superclass "TurnEstimator$Whole" "java/lang/Object") ∈ lw_all := lw_g (lw_at lw_m2 30 rfl) rfl
theorem in_X7 : ∀ w ∈ wsX70, w ∈ lw_all := lw_in wsX70 [311, 313, 315, 317] (by decide +kernel) (by decide +kernel)
/-! TurnEstimator$Step -/
set_option maxRecDepth 100000
def RX8 : String := "TurnEstimator$Step"
abbrev cX8_apply : ByteArray := prog_8_method_3_code
def yX8_apply : MethodName := ⟨RX8, "apply", "(LTurnEstimator;I)V"⟩
def dkwX8_apply_3 : List UInt8 := [24, 5, 107, 82, 132, 7, 1, 167, 255, 222, 177]
abbrev dktX8_apply_3 : List UInt8 := dkwX8_apply_3 ++ []
def dkwX8_apply_2 : List UInt8 := [180, 0, 13, 162, 0, 31, 43, 180, 0, 7, 42, 185, 0, 1, 1, 0, 28, 21, 7, 182, 0, 27, 92, 49]
abbrev dktX8_apply_2 : List UInt8 := dkwX8_apply_2 ++ dktX8_apply_3
def dkwX8_apply_1 : List UInt8 := [158, 0, 57, 42, 43, 185, 0, 23, 2, 0, 28, 46, 135, 41, 111, 57, 5, 3, 54, 7, 21, 7, 43]
abbrev dktX8_apply_1 : List UInt8 := dkwX8_apply_1 ++ dktX8_apply_2
def dkwX8_apply_0 : List UInt8 := [42, 185, 0, 1, 1, 0, 43, 180, 0, 7, 28, 43, 180, 0, 13, 182, 0, 17, 74, 41, 14, 151]
abbrev dktX8_apply_0 : List UInt8 := dkwX8_apply_0 ++ dktX8_apply_1
theorem dksX8_apply_0 : cX8_apply.data.toList.drop 0 = dktX8_apply_0 := by decide +kernel
theorem dksX8_apply_1 : cX8_apply.data.toList.drop 22 = dktX8_apply_1 := dk_seg dksX8_apply_0 22 rfl rfl
theorem dksX8_apply_2 : cX8_apply.data.toList.drop 45 = dktX8_apply_2 := dk_seg dksX8_apply_1 23 rfl rfl
theorem dksX8_apply_3 : cX8_apply.data.toList.drop 69 = dktX8_apply_3 := dk_seg dksX8_apply_2 24 rfl rfl
theorem dX8_apply_0 : decode cX8_apply 0 = .ok (.aload_n 0, 1) := dk_42 (dk_at dksX8_apply_0 0 rfl rfl)
theorem dX8_apply_1 : decode cX8_apply 1 = .ok (.invokeinterface 1 1, 5) := by decide +kernel
theorem dX8_apply_6 : decode cX8_apply 6 = .ok (.aload_n 1, 1) := dk_43 (dk_at dksX8_apply_0 6 rfl rfl)
theorem dX8_apply_7 : decode cX8_apply 7 = .ok (.getfield 7, 3) := dk_180 0 7 (dk_at dksX8_apply_0 7 rfl rfl)
theorem dX8_apply_10 : decode cX8_apply 10 = .ok (.iload_n 2, 1) := dk_28 (dk_at dksX8_apply_0 10 rfl rfl)
theorem dX8_apply_11 : decode cX8_apply 11 = .ok (.aload_n 1, 1) := dk_43 (dk_at dksX8_apply_0 11 rfl rfl)
theorem dX8_apply_12 : decode cX8_apply 12 = .ok (.getfield 13, 3) := dk_180 0 13 (dk_at dksX8_apply_0 12 rfl rfl)
theorem dX8_apply_15 : decode cX8_apply 15 = .ok (.invokevirtual 17, 3) := dk_182 0 17 (dk_at dksX8_apply_0 15 rfl rfl)
theorem dX8_apply_18 : decode cX8_apply 18 = .ok (.dstore_n 3, 1) := dk_74 (dk_at dksX8_apply_0 18 rfl rfl)
theorem dX8_apply_19 : decode cX8_apply 19 = .ok (.dload_n 3, 1) := dk_41 (dk_at dksX8_apply_0 19 rfl rfl)
theorem dX8_apply_20 : decode cX8_apply 20 = .ok (.dconst 0, 1) := dk_14 (dk_at dksX8_apply_0 20 rfl rfl)
theorem dX8_apply_21 : decode cX8_apply 21 = .ok (.dcmp .l, 1) := dk_151 (dk_at dksX8_apply_0 21 rfl rfl)
theorem dX8_apply_22 : decode cX8_apply 22 = .ok (.ifCond .le 57, 3) := dk_158 0 57 (dk_at dksX8_apply_1 0 rfl rfl)
theorem dX8_apply_25 : decode cX8_apply 25 = .ok (.aload_n 0, 1) := dk_42 (dk_at dksX8_apply_1 3 rfl rfl)
theorem dX8_apply_26 : decode cX8_apply 26 = .ok (.aload_n 1, 1) := dk_43 (dk_at dksX8_apply_1 4 rfl rfl)
theorem dX8_apply_27 : decode cX8_apply 27 = .ok (.invokeinterface 23 2, 5) := by decide +kernel
theorem dX8_apply_32 : decode cX8_apply 32 = .ok (.iload_n 2, 1) := dk_28 (dk_at dksX8_apply_1 10 rfl rfl)
theorem dX8_apply_33 : decode cX8_apply 33 = .ok (.iaload, 1) := dk_46 (dk_at dksX8_apply_1 11 rfl rfl)
theorem dX8_apply_34 : decode cX8_apply 34 = .ok (.i2d, 1) := dk_135 (dk_at dksX8_apply_1 12 rfl rfl)
theorem dX8_apply_35 : decode cX8_apply 35 = .ok (.dload_n 3, 1) := dk_41 (dk_at dksX8_apply_1 13 rfl rfl)
theorem dX8_apply_36 : decode cX8_apply 36 = .ok (.ddiv, 1) := dk_111 (dk_at dksX8_apply_1 14 rfl rfl)
theorem dX8_apply_37 : decode cX8_apply 37 = .ok (.dstore 5, 2) := dk_57 5 (dk_at dksX8_apply_1 15 rfl rfl)
theorem dX8_apply_39 : decode cX8_apply 39 = .ok (.iconst 0, 1) := dk_3 (dk_at dksX8_apply_1 17 rfl rfl)
theorem dX8_apply_40 : decode cX8_apply 40 = .ok (.istore 7, 2) := dk_54 7 (dk_at dksX8_apply_1 18 rfl rfl)
theorem dX8_apply_42 : decode cX8_apply 42 = .ok (.iload 7, 2) := dk_21 7 (dk_at dksX8_apply_1 20 rfl rfl)
theorem dX8_apply_44 : decode cX8_apply 44 = .ok (.aload_n 1, 1) := dk_43 (dk_at dksX8_apply_1 22 rfl rfl)
theorem dX8_apply_45 : decode cX8_apply 45 = .ok (.getfield 13, 3) := dk_180 0 13 (dk_at dksX8_apply_2 0 rfl rfl)
theorem dX8_apply_48 : decode cX8_apply 48 = .ok (.if_icmp .ge 31, 3) := dk_162 0 31 (dk_at dksX8_apply_2 3 rfl rfl)
theorem dX8_apply_51 : decode cX8_apply 51 = .ok (.aload_n 1, 1) := dk_43 (dk_at dksX8_apply_2 6 rfl rfl)
theorem dX8_apply_52 : decode cX8_apply 52 = .ok (.getfield 7, 3) := dk_180 0 7 (dk_at dksX8_apply_2 7 rfl rfl)
theorem dX8_apply_55 : decode cX8_apply 55 = .ok (.aload_n 0, 1) := dk_42 (dk_at dksX8_apply_2 10 rfl rfl)
theorem dX8_apply_56 : decode cX8_apply 56 = .ok (.invokeinterface 1 1, 5) := by decide +kernel
theorem dX8_apply_61 : decode cX8_apply 61 = .ok (.iload_n 2, 1) := dk_28 (dk_at dksX8_apply_2 16 rfl rfl)
theorem dX8_apply_62 : decode cX8_apply 62 = .ok (.iload 7, 2) := dk_21 7 (dk_at dksX8_apply_2 17 rfl rfl)
theorem dX8_apply_64 : decode cX8_apply 64 = .ok (.invokevirtual 27, 3) := dk_182 0 27 (dk_at dksX8_apply_2 19 rfl rfl)
theorem dX8_apply_67 : decode cX8_apply 67 = .ok (.dup2, 1) := dk_92 (dk_at dksX8_apply_2 22 rfl rfl)
theorem dX8_apply_68 : decode cX8_apply 68 = .ok (.daload, 1) := dk_49 (dk_at dksX8_apply_2 23 rfl rfl)
theorem dX8_apply_69 : decode cX8_apply 69 = .ok (.dload 5, 2) := dk_24 5 (dk_at dksX8_apply_3 0 rfl rfl)
theorem dX8_apply_71 : decode cX8_apply 71 = .ok (.dmul, 1) := dk_107 (dk_at dksX8_apply_3 2 rfl rfl)
theorem dX8_apply_72 : decode cX8_apply 72 = .ok (.dastore, 1) := dk_82 (dk_at dksX8_apply_3 3 rfl rfl)
theorem dX8_apply_73 : decode cX8_apply 73 = .ok (.iinc 7 1, 3) := dk_132 7 1 (dk_at dksX8_apply_3 4 rfl rfl)
theorem dX8_apply_76 : decode cX8_apply 76 = .ok (.goto (-34), 3) := dk_167 255 222 (dk_at dksX8_apply_3 7 rfl rfl)
theorem dX8_apply_79 : decode cX8_apply 79 = .ok (.return_, 1) := dk_177 (dk_at dksX8_apply_3 10 rfl rfl)
theorem q102 : (Jvm.Cond.fieldLinkNest "TurnEstimator$Step" (13 : Nat) "TurnEstimator" "many" "I" "TurnEstimator") ∈ lw_tbl := lw_at lw_m1 53 rfl
theorem q115 : (Jvm.Cond.fieldLinkNest "TurnEstimator$Step" (7 : Nat) "TurnEstimator" "estimates" "[D" "TurnEstimator") ∈ lw_tbl := lw_at lw_m1 66 rfl
theorem q535 : (Jvm.Cond.interfaceMethod "TurnEstimator$Step" "TurnEstimator$Step" "apply" "(LTurnEstimator;I)V") ∈ lw_tbl := lw_at lw_m3 6 rfl
theorem q536 : (Jvm.Cond.declares ({ cls := "TurnEstimator$Step", name := "apply", desc := "(LTurnEstimator;I)V" } : Jvm.MethodName)) ∈ lw_tbl := lw_at lw_m3 7 rfl
theorem q539 : (Jvm.Cond.instanceMethod ({ cls := "TurnEstimator$Step", name := "apply", desc := "(LTurnEstimator;I)V" } : Jvm.MethodName)) ∈ lw_all := lw_g (lw_at lw_m3 10 rfl) rfl
theorem q540 : (Jvm.Cond.publicMethod ({ cls := "TurnEstimator$Step", name := "apply", desc := "(LTurnEstimator;I)V" } : Jvm.MethodName)) ∈ lw_tbl := lw_at lw_m3 11 rfl
theorem q541 : (Jvm.Cond.code ({ cls := "TurnEstimator$Step", name := "apply", desc := "(LTurnEstimator;I)V" } : Jvm.MethodName) prog_8_method_3_code (8 : Nat) (Option.none : Option Jvm.ClassFile.FieldType)) ∈ lw_all := lw_g (lw_at lw_m3 12 rfl) rfl
theorem q542 : (Jvm.Cond.interfaceEntry "TurnEstimator$Step" (1 : Nat)) ∈ lw_tbl := lw_at lw_m3 13 rfl
theorem q543 : (Jvm.Cond.methodLink "TurnEstimator$Step" (1 : Nat) ({ cls := "TurnEstimator$Step", name := "side", desc := "()LTurnEstimator$Side;" } : Jvm.MethodName)) ∈ lw_all := lw_g (lw_at lw_m3 14 rfl) rfl
theorem q544 : (Jvm.Cond.interfaceMethod "TurnEstimator$Step" "TurnEstimator$Step" "side" "()LTurnEstimator$Side;") ∈ lw_tbl := lw_at lw_m3 15 rfl
theorem q545 : (Jvm.Cond.declares ({ cls := "TurnEstimator$Step", name := "side", desc := "()LTurnEstimator$Side;" } : Jvm.MethodName)) ∈ lw_tbl := lw_at lw_m3 16 rfl
theorem q559 : (Jvm.Cond.methodLink "TurnEstimator$Step" (17 : Nat) ({ cls := "TurnEstimator$Side", name := "sum", desc := "([DII)D" } : Jvm.MethodName)) ∈ lw_all := lw_g (lw_at lw_m3 30 rfl) rfl
theorem q560 : (Jvm.Cond.interfaceEntry "TurnEstimator$Step" (23 : Nat)) ∈ lw_tbl := lw_at lw_m3 31 rfl
theorem q561 : (Jvm.Cond.methodLink "TurnEstimator$Step" (23 : Nat) ({ cls := "TurnEstimator$Step", name := "counts", desc := "(LTurnEstimator;)[I" } : Jvm.MethodName)) ∈ lw_all := lw_g (lw_at lw_m3 32 rfl) rfl
theorem q562 : (Jvm.Cond.interfaceMethod "TurnEstimator$Step" "TurnEstimator$Step" "counts" "(LTurnEstimator;)[I") ∈ lw_tbl := lw_at lw_m3 33 rfl
theorem q563 : (Jvm.Cond.declares ({ cls := "TurnEstimator$Step", name := "counts", desc := "(LTurnEstimator;)[I" } : Jvm.MethodName)) ∈ lw_tbl := lw_at lw_m3 34 rfl
theorem q574 : (Jvm.Cond.methodLink "TurnEstimator$Step" (27 : Nat) ({ cls := "TurnEstimator$Side", name := "place", desc := "(II)I" } : Jvm.MethodName)) ∈ lw_all := lw_g (lw_at lw_m3 45 rfl) rfl
theorem q916 : (Jvm.Cond.initialized "TurnEstimator$Step") ∈ lw_all := lw_g (lw_at lw_m4 147 rfl) rfl
/-! TurnEstimator$Side$1 -/
set_option maxRecDepth 100000
def RX9 : String := "TurnEstimator$Side$1"
abbrev cX9_place : ByteArray := prog_6_method_2_code
def yX9_place : MethodName := ⟨RX9, "place", "(II)I"⟩
def dkwX9_place_0 : List UInt8 := [16, 6, 27, 104, 28, 96, 172]
abbrev dktX9_place_0 : List UInt8 := dkwX9_place_0 ++ []
theorem dksX9_place_0 : cX9_place.data.toList.drop 0 = dktX9_place_0 := by decide +kernel
theorem dX9_place_0 : decode cX9_place 0 = .ok (.bipush 6, 2) := dk_16 6 (dk_at dksX9_place_0 0 rfl rfl)
theorem dX9_place_2 : decode cX9_place 2 = .ok (.iload_n 1, 1) := dk_27 (dk_at dksX9_place_0 2 rfl rfl)
theorem dX9_place_3 : decode cX9_place 3 = .ok (.imul, 1) := dk_104 (dk_at dksX9_place_0 3 rfl rfl)
theorem dX9_place_4 : decode cX9_place 4 = .ok (.iload_n 2, 1) := dk_28 (dk_at dksX9_place_0 4 rfl rfl)
theorem dX9_place_5 : decode cX9_place 5 = .ok (.iadd, 1) := dk_96 (dk_at dksX9_place_0 5 rfl rfl)
theorem dX9_place_6 : decode cX9_place 6 = .ok (.ireturn, 1) := dk_172 (dk_at dksX9_place_0 6 rfl rfl)
theorem q199 : (Jvm.Cond.selects "TurnEstimator$Side$1" ({ cls := "TurnEstimator$Side", name := "sum", desc := "([DII)D" } : Jvm.MethodName) ({ cls := "TurnEstimator$Side", name := "sum", desc := "([DII)D" } : Jvm.MethodName)) ∈ lw_all := lw_g (lw_at lw_m1 150 rfl) rfl
theorem q205 : (Jvm.Cond.selects "TurnEstimator$Side$1" ({ cls := "TurnEstimator$Side", name := "place", desc := "(II)I" } : Jvm.MethodName) ({ cls := "TurnEstimator$Side$1", name := "place", desc := "(II)I" } : Jvm.MethodName)) ∈ lw_all := lw_g (lw_at lw_m1 156 rfl) rfl
theorem q206 : (Jvm.Cond.instanceMethod ({ cls := "TurnEstimator$Side$1", name := "place", desc := "(II)I" } : Jvm.MethodName)) ∈ lw_all := lw_g (lw_at lw_m1 157 rfl) rfl
theorem q207 : (Jvm.Cond.code ({ cls := "TurnEstimator$Side$1", name := "place", desc := "(II)I" } : Jvm.MethodName) prog_6_method_2_code (3 : Nat) (Option.some Jvm.ClassFile.FieldType.int)) ∈ lw_all := lw_g (lw_at lw_m1 158 rfl) rfl
/-! TurnEstimator$Side$2 -/
set_option maxRecDepth 100000
def RX10 : String := "TurnEstimator$Side$2"
abbrev cX10_place : ByteArray := prog_7_method_2_code
def yX10_place : MethodName := ⟨RX10, "place", "(II)I"⟩
def dkwX10_place_0 : List UInt8 := [16, 6, 28, 104, 27, 96, 172]
abbrev dktX10_place_0 : List UInt8 := dkwX10_place_0 ++ []
theorem dksX10_place_0 : cX10_place.data.toList.drop 0 = dktX10_place_0 := by decide +kernel
theorem dX10_place_0 : decode cX10_place 0 = .ok (.bipush 6, 2) := dk_16 6 (dk_at dksX10_place_0 0 rfl rfl)
theorem dX10_place_2 : decode cX10_place 2 = .ok (.iload_n 2, 1) := dk_28 (dk_at dksX10_place_0 2 rfl rfl)
theorem dX10_place_3 : decode cX10_place 3 = .ok (.imul, 1) := dk_104 (dk_at dksX10_place_0 3 rfl rfl)
theorem dX10_place_4 : decode cX10_place 4 = .ok (.iload_n 1, 1) := dk_27 (dk_at dksX10_place_0 4 rfl rfl)
theorem dX10_place_5 : decode cX10_place 5 = .ok (.iadd, 1) := dk_96 (dk_at dksX10_place_0 5 rfl rfl)
theorem dX10_place_6 : decode cX10_place 6 = .ok (.ireturn, 1) := dk_172 (dk_at dksX10_place_0 6 rfl rfl)
theorem q200 : (Jvm.Cond.selects "TurnEstimator$Side$2" ({ cls := "TurnEstimator$Side", name := "sum", desc := "([DII)D" } : Jvm.MethodName) ({ cls := "TurnEstimator$Side", name := "sum", desc := "([DII)D" } : Jvm.MethodName)) ∈ lw_all := lw_g (lw_at lw_m1 151 rfl) rfl
theorem q208 : (Jvm.Cond.selects "TurnEstimator$Side$2" ({ cls := "TurnEstimator$Side", name := "place", desc := "(II)I" } : Jvm.MethodName) ({ cls := "TurnEstimator$Side$2", name := "place", desc := "(II)I" } : Jvm.MethodName)) ∈ lw_all := lw_g (lw_at lw_m1 159 rfl) rfl
theorem q209 : (Jvm.Cond.instanceMethod ({ cls := "TurnEstimator$Side$2", name := "place", desc := "(II)I" } : Jvm.MethodName)) ∈ lw_all := lw_g (lw_at lw_m1 160 rfl) rfl
theorem q210 : (Jvm.Cond.code ({ cls := "TurnEstimator$Side$2", name := "place", desc := "(II)I" } : Jvm.MethodName) prog_7_method_2_code (3 : Nat) (Option.some Jvm.ClassFile.FieldType.int)) ∈ lw_all := lw_g (lw_at lw_m1 161 rfl) rfl
theorem q62 : (Jvm.Cond.initialized "java/lang/Enum") ∈ lw_all := lw_g (lw_at lw_m1 13 rfl) rfl
set_option maxRecDepth 100000
theorem q138 : (Jvm.Cond.arrayClass Jvm.ClassFile.FieldType.int) ∈ lw_all := lw_g (lw_at lw_m1 89 rfl) rfl
set_option maxRecDepth 100000
theorem q139 : (Jvm.Cond.arrayClass Jvm.ClassFile.FieldType.double) ∈ lw_all := lw_g (lw_at lw_m1 90 rfl) rfl
theorem q433 : (Jvm.Cond.arrayClass Jvm.ClassFile.FieldType.byte) ∈ lw_all := lw_g (lw_at lw_m2 144 rfl) rfl
theorem q914 : (Jvm.Cond.arrayClass Jvm.ClassFile.FieldType.long) ∈ lw_all := lw_g (lw_at lw_m4 145 rfl) rfl
