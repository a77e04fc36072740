/-! CostStudioLaw -/
set_option maxRecDepth 100000
def RX0 : String := "CostStudioLaw"
abbrev cX0_addDriver : ByteArray := method_3_code
def yX0_addDriver : MethodName := ⟨RX0, "addDriver", "(LCostStudio;I[J)I"⟩
def dkwX0_addDriver_0 : List UInt8 := [44, 3, 42, 27, 182, 0, 7, 133, 80, 167, 0, 9, 78, 4, 172, 78, 5, 172, 3, 172]
abbrev dktX0_addDriver_0 : List UInt8 := dkwX0_addDriver_0 ++ []
theorem dksX0_addDriver_0 : cX0_addDriver.data.toList.drop 0 = dktX0_addDriver_0 := by decide +kernel
theorem dX0_addDriver_0 : decode cX0_addDriver 0 = .ok (.aload_n 2, 1) := dk_44 (dk_at dksX0_addDriver_0 0 rfl rfl)
theorem dX0_addDriver_1 : decode cX0_addDriver 1 = .ok (.iconst 0, 1) := dk_3 (dk_at dksX0_addDriver_0 1 rfl rfl)
theorem dX0_addDriver_2 : decode cX0_addDriver 2 = .ok (.aload_n 0, 1) := dk_42 (dk_at dksX0_addDriver_0 2 rfl rfl)
theorem dX0_addDriver_3 : decode cX0_addDriver 3 = .ok (.iload_n 1, 1) := dk_27 (dk_at dksX0_addDriver_0 3 rfl rfl)
theorem dX0_addDriver_4 : decode cX0_addDriver 4 = .ok (.invokevirtual 7, 3) := dk_182 0 7 (dk_at dksX0_addDriver_0 4 rfl rfl)
theorem dX0_addDriver_7 : decode cX0_addDriver 7 = .ok (.i2l, 1) := dk_133 (dk_at dksX0_addDriver_0 7 rfl rfl)
theorem dX0_addDriver_8 : decode cX0_addDriver 8 = .ok (.lastore, 1) := dk_80 (dk_at dksX0_addDriver_0 8 rfl rfl)
theorem dX0_addDriver_9 : decode cX0_addDriver 9 = .ok (.goto 9, 3) := dk_167 0 9 (dk_at dksX0_addDriver_0 9 rfl rfl)
theorem dX0_addDriver_12 : decode cX0_addDriver 12 = .ok (.astore_n 3, 1) := dk_78 (dk_at dksX0_addDriver_0 12 rfl rfl)
theorem dX0_addDriver_13 : decode cX0_addDriver 13 = .ok (.iconst 1, 1) := dk_4 (dk_at dksX0_addDriver_0 13 rfl rfl)
theorem dX0_addDriver_14 : decode cX0_addDriver 14 = .ok (.ireturn, 1) := dk_172 (dk_at dksX0_addDriver_0 14 rfl rfl)
theorem dX0_addDriver_15 : decode cX0_addDriver 15 = .ok (.astore_n 3, 1) := dk_78 (dk_at dksX0_addDriver_0 15 rfl rfl)
theorem dX0_addDriver_16 : decode cX0_addDriver 16 = .ok (.iconst 2, 1) := dk_5 (dk_at dksX0_addDriver_0 16 rfl rfl)
theorem dX0_addDriver_17 : decode cX0_addDriver 17 = .ok (.ireturn, 1) := dk_172 (dk_at dksX0_addDriver_0 17 rfl rfl)
theorem dX0_addDriver_18 : decode cX0_addDriver 18 = .ok (.iconst 0, 1) := dk_3 (dk_at dksX0_addDriver_0 18 rfl rfl)
theorem dX0_addDriver_19 : decode cX0_addDriver 19 = .ok (.ireturn, 1) := dk_172 (dk_at dksX0_addDriver_0 19 rfl rfl)
abbrev cX0_setDriver : ByteArray := method_4_code
def yX0_setDriver : MethodName := ⟨RX0, "setDriver", "(LCostStudio;II[J)I"⟩
def dkwX0_setDriver_0 : List UInt8 := [45, 3, 42, 27, 28, 182, 0, 17, 133, 80, 167, 0, 11, 58, 4, 4, 172, 58, 4, 5, 172, 3, 172]
abbrev dktX0_setDriver_0 : List UInt8 := dkwX0_setDriver_0 ++ []
theorem dksX0_setDriver_0 : cX0_setDriver.data.toList.drop 0 = dktX0_setDriver_0 := by decide +kernel
theorem dX0_setDriver_0 : decode cX0_setDriver 0 = .ok (.aload_n 3, 1) := dk_45 (dk_at dksX0_setDriver_0 0 rfl rfl)
theorem dX0_setDriver_1 : decode cX0_setDriver 1 = .ok (.iconst 0, 1) := dk_3 (dk_at dksX0_setDriver_0 1 rfl rfl)
theorem dX0_setDriver_2 : decode cX0_setDriver 2 = .ok (.aload_n 0, 1) := dk_42 (dk_at dksX0_setDriver_0 2 rfl rfl)
theorem dX0_setDriver_3 : decode cX0_setDriver 3 = .ok (.iload_n 1, 1) := dk_27 (dk_at dksX0_setDriver_0 3 rfl rfl)
theorem dX0_setDriver_4 : decode cX0_setDriver 4 = .ok (.iload_n 2, 1) := dk_28 (dk_at dksX0_setDriver_0 4 rfl rfl)
theorem dX0_setDriver_5 : decode cX0_setDriver 5 = .ok (.invokevirtual 17, 3) := dk_182 0 17 (dk_at dksX0_setDriver_0 5 rfl rfl)
theorem dX0_setDriver_8 : decode cX0_setDriver 8 = .ok (.i2l, 1) := dk_133 (dk_at dksX0_setDriver_0 8 rfl rfl)
theorem dX0_setDriver_9 : decode cX0_setDriver 9 = .ok (.lastore, 1) := dk_80 (dk_at dksX0_setDriver_0 9 rfl rfl)
theorem dX0_setDriver_10 : decode cX0_setDriver 10 = .ok (.goto 11, 3) := dk_167 0 11 (dk_at dksX0_setDriver_0 10 rfl rfl)
theorem dX0_setDriver_13 : decode cX0_setDriver 13 = .ok (.astore 4, 2) := dk_58 4 (dk_at dksX0_setDriver_0 13 rfl rfl)
theorem dX0_setDriver_15 : decode cX0_setDriver 15 = .ok (.iconst 1, 1) := dk_4 (dk_at dksX0_setDriver_0 15 rfl rfl)
theorem dX0_setDriver_16 : decode cX0_setDriver 16 = .ok (.ireturn, 1) := dk_172 (dk_at dksX0_setDriver_0 16 rfl rfl)
theorem dX0_setDriver_17 : decode cX0_setDriver 17 = .ok (.astore 4, 2) := dk_58 4 (dk_at dksX0_setDriver_0 17 rfl rfl)
theorem dX0_setDriver_19 : decode cX0_setDriver 19 = .ok (.iconst 2, 1) := dk_5 (dk_at dksX0_setDriver_0 19 rfl rfl)
theorem dX0_setDriver_20 : decode cX0_setDriver 20 = .ok (.ireturn, 1) := dk_172 (dk_at dksX0_setDriver_0 20 rfl rfl)
theorem dX0_setDriver_21 : decode cX0_setDriver 21 = .ok (.iconst 0, 1) := dk_3 (dk_at dksX0_setDriver_0 21 rfl rfl)
theorem dX0_setDriver_22 : decode cX0_setDriver 22 = .ok (.ireturn, 1) := dk_172 (dk_at dksX0_setDriver_0 22 rfl rfl)
abbrev cX0_driver : ByteArray := method_5_code
def yX0_driver : MethodName := ⟨RX0, "driver", "(LCostStudio;III[J)I"⟩
def dkwX0_driver_0 : List UInt8 := [25, 4, 3, 42, 27, 28, 29, 182, 0, 23, 133, 80, 167, 0, 7, 58, 5, 4, 172, 3, 172]
abbrev dktX0_driver_0 : List UInt8 := dkwX0_driver_0 ++ []
theorem dksX0_driver_0 : cX0_driver.data.toList.drop 0 = dktX0_driver_0 := by decide +kernel
theorem dX0_driver_0 : decode cX0_driver 0 = .ok (.aload 4, 2) := dk_25 4 (dk_at dksX0_driver_0 0 rfl rfl)
theorem dX0_driver_2 : decode cX0_driver 2 = .ok (.iconst 0, 1) := dk_3 (dk_at dksX0_driver_0 2 rfl rfl)
theorem dX0_driver_3 : decode cX0_driver 3 = .ok (.aload_n 0, 1) := dk_42 (dk_at dksX0_driver_0 3 rfl rfl)
theorem dX0_driver_4 : decode cX0_driver 4 = .ok (.iload_n 1, 1) := dk_27 (dk_at dksX0_driver_0 4 rfl rfl)
theorem dX0_driver_5 : decode cX0_driver 5 = .ok (.iload_n 2, 1) := dk_28 (dk_at dksX0_driver_0 5 rfl rfl)
theorem dX0_driver_6 : decode cX0_driver 6 = .ok (.iload_n 3, 1) := dk_29 (dk_at dksX0_driver_0 6 rfl rfl)
theorem dX0_driver_7 : decode cX0_driver 7 = .ok (.invokevirtual 23, 3) := dk_182 0 23 (dk_at dksX0_driver_0 7 rfl rfl)
theorem dX0_driver_10 : decode cX0_driver 10 = .ok (.i2l, 1) := dk_133 (dk_at dksX0_driver_0 10 rfl rfl)
theorem dX0_driver_11 : decode cX0_driver 11 = .ok (.lastore, 1) := dk_80 (dk_at dksX0_driver_0 11 rfl rfl)
theorem dX0_driver_12 : decode cX0_driver 12 = .ok (.goto 7, 3) := dk_167 0 7 (dk_at dksX0_driver_0 12 rfl rfl)
theorem dX0_driver_15 : decode cX0_driver 15 = .ok (.astore 5, 2) := dk_58 5 (dk_at dksX0_driver_0 15 rfl rfl)
theorem dX0_driver_17 : decode cX0_driver 17 = .ok (.iconst 1, 1) := dk_4 (dk_at dksX0_driver_0 17 rfl rfl)
theorem dX0_driver_18 : decode cX0_driver 18 = .ok (.ireturn, 1) := dk_172 (dk_at dksX0_driver_0 18 rfl rfl)
theorem dX0_driver_19 : decode cX0_driver 19 = .ok (.iconst 0, 1) := dk_3 (dk_at dksX0_driver_0 19 rfl rfl)
theorem dX0_driver_20 : decode cX0_driver 20 = .ok (.ireturn, 1) := dk_172 (dk_at dksX0_driver_0 20 rfl rfl)
abbrev cX0_addLine : ByteArray := method_6_code
def yX0_addLine : MethodName := ⟨RX0, "addLine", "(LCostStudio;CII[J)I"⟩
def dkwX0_addLine_1 : List UInt8 := [58, 5, 6, 172, 3, 172]
abbrev dktX0_addLine_1 : List UInt8 := dkwX0_addLine_1 ++ []
def dkwX0_addLine_0 : List UInt8 := [25, 4, 3, 42, 27, 28, 29, 182, 0, 27, 133, 80, 167, 0, 15, 58, 5, 4, 172, 58, 5, 5, 172]
abbrev dktX0_addLine_0 : List UInt8 := dkwX0_addLine_0 ++ dktX0_addLine_1
theorem dksX0_addLine_0 : cX0_addLine.data.toList.drop 0 = dktX0_addLine_0 := by decide +kernel
theorem dksX0_addLine_1 : cX0_addLine.data.toList.drop 23 = dktX0_addLine_1 := dk_seg dksX0_addLine_0 23 rfl rfl
theorem dX0_addLine_0 : decode cX0_addLine 0 = .ok (.aload 4, 2) := dk_25 4 (dk_at dksX0_addLine_0 0 rfl rfl)
theorem dX0_addLine_2 : decode cX0_addLine 2 = .ok (.iconst 0, 1) := dk_3 (dk_at dksX0_addLine_0 2 rfl rfl)
theorem dX0_addLine_3 : decode cX0_addLine 3 = .ok (.aload_n 0, 1) := dk_42 (dk_at dksX0_addLine_0 3 rfl rfl)
theorem dX0_addLine_4 : decode cX0_addLine 4 = .ok (.iload_n 1, 1) := dk_27 (dk_at dksX0_addLine_0 4 rfl rfl)
theorem dX0_addLine_5 : decode cX0_addLine 5 = .ok (.iload_n 2, 1) := dk_28 (dk_at dksX0_addLine_0 5 rfl rfl)
theorem dX0_addLine_6 : decode cX0_addLine 6 = .ok (.iload_n 3, 1) := dk_29 (dk_at dksX0_addLine_0 6 rfl rfl)
theorem dX0_addLine_7 : decode cX0_addLine 7 = .ok (.invokevirtual 27, 3) := dk_182 0 27 (dk_at dksX0_addLine_0 7 rfl rfl)
theorem dX0_addLine_10 : decode cX0_addLine 10 = .ok (.i2l, 1) := dk_133 (dk_at dksX0_addLine_0 10 rfl rfl)
theorem dX0_addLine_11 : decode cX0_addLine 11 = .ok (.lastore, 1) := dk_80 (dk_at dksX0_addLine_0 11 rfl rfl)
theorem dX0_addLine_12 : decode cX0_addLine 12 = .ok (.goto 15, 3) := dk_167 0 15 (dk_at dksX0_addLine_0 12 rfl rfl)
theorem dX0_addLine_15 : decode cX0_addLine 15 = .ok (.astore 5, 2) := dk_58 5 (dk_at dksX0_addLine_0 15 rfl rfl)
theorem dX0_addLine_17 : decode cX0_addLine 17 = .ok (.iconst 1, 1) := dk_4 (dk_at dksX0_addLine_0 17 rfl rfl)
theorem dX0_addLine_18 : decode cX0_addLine 18 = .ok (.ireturn, 1) := dk_172 (dk_at dksX0_addLine_0 18 rfl rfl)
theorem dX0_addLine_19 : decode cX0_addLine 19 = .ok (.astore 5, 2) := dk_58 5 (dk_at dksX0_addLine_0 19 rfl rfl)
theorem dX0_addLine_21 : decode cX0_addLine 21 = .ok (.iconst 2, 1) := dk_5 (dk_at dksX0_addLine_0 21 rfl rfl)
theorem dX0_addLine_22 : decode cX0_addLine 22 = .ok (.ireturn, 1) := dk_172 (dk_at dksX0_addLine_0 22 rfl rfl)
theorem dX0_addLine_23 : decode cX0_addLine 23 = .ok (.astore 5, 2) := dk_58 5 (dk_at dksX0_addLine_1 0 rfl rfl)
theorem dX0_addLine_25 : decode cX0_addLine 25 = .ok (.iconst 3, 1) := dk_6 (dk_at dksX0_addLine_1 2 rfl rfl)
theorem dX0_addLine_26 : decode cX0_addLine 26 = .ok (.ireturn, 1) := dk_172 (dk_at dksX0_addLine_1 3 rfl rfl)
theorem dX0_addLine_27 : decode cX0_addLine 27 = .ok (.iconst 0, 1) := dk_3 (dk_at dksX0_addLine_1 4 rfl rfl)
theorem dX0_addLine_28 : decode cX0_addLine 28 = .ok (.ireturn, 1) := dk_172 (dk_at dksX0_addLine_1 5 rfl rfl)
abbrev cX0_addScenario : ByteArray := method_7_code
def yX0_addScenario : MethodName := ⟨RX0, "addScenario", "(LCostStudio;I[J)I"⟩
def dkwX0_addScenario_0 : List UInt8 := [44, 3, 42, 27, 182, 0, 31, 133, 80, 167, 0, 9, 78, 4, 172, 78, 5, 172, 3, 172]
abbrev dktX0_addScenario_0 : List UInt8 := dkwX0_addScenario_0 ++ []
theorem dksX0_addScenario_0 : cX0_addScenario.data.toList.drop 0 = dktX0_addScenario_0 := by decide +kernel
theorem dX0_addScenario_0 : decode cX0_addScenario 0 = .ok (.aload_n 2, 1) := dk_44 (dk_at dksX0_addScenario_0 0 rfl rfl)
theorem dX0_addScenario_1 : decode cX0_addScenario 1 = .ok (.iconst 0, 1) := dk_3 (dk_at dksX0_addScenario_0 1 rfl rfl)
theorem dX0_addScenario_2 : decode cX0_addScenario 2 = .ok (.aload_n 0, 1) := dk_42 (dk_at dksX0_addScenario_0 2 rfl rfl)
theorem dX0_addScenario_3 : decode cX0_addScenario 3 = .ok (.iload_n 1, 1) := dk_27 (dk_at dksX0_addScenario_0 3 rfl rfl)
theorem dX0_addScenario_4 : decode cX0_addScenario 4 = .ok (.invokevirtual 31, 3) := dk_182 0 31 (dk_at dksX0_addScenario_0 4 rfl rfl)
theorem dX0_addScenario_7 : decode cX0_addScenario 7 = .ok (.i2l, 1) := dk_133 (dk_at dksX0_addScenario_0 7 rfl rfl)
theorem dX0_addScenario_8 : decode cX0_addScenario 8 = .ok (.lastore, 1) := dk_80 (dk_at dksX0_addScenario_0 8 rfl rfl)
theorem dX0_addScenario_9 : decode cX0_addScenario 9 = .ok (.goto 9, 3) := dk_167 0 9 (dk_at dksX0_addScenario_0 9 rfl rfl)
theorem dX0_addScenario_12 : decode cX0_addScenario 12 = .ok (.astore_n 3, 1) := dk_78 (dk_at dksX0_addScenario_0 12 rfl rfl)
theorem dX0_addScenario_13 : decode cX0_addScenario 13 = .ok (.iconst 1, 1) := dk_4 (dk_at dksX0_addScenario_0 13 rfl rfl)
theorem dX0_addScenario_14 : decode cX0_addScenario 14 = .ok (.ireturn, 1) := dk_172 (dk_at dksX0_addScenario_0 14 rfl rfl)
theorem dX0_addScenario_15 : decode cX0_addScenario 15 = .ok (.astore_n 3, 1) := dk_78 (dk_at dksX0_addScenario_0 15 rfl rfl)
theorem dX0_addScenario_16 : decode cX0_addScenario 16 = .ok (.iconst 2, 1) := dk_5 (dk_at dksX0_addScenario_0 16 rfl rfl)
theorem dX0_addScenario_17 : decode cX0_addScenario 17 = .ok (.ireturn, 1) := dk_172 (dk_at dksX0_addScenario_0 17 rfl rfl)
theorem dX0_addScenario_18 : decode cX0_addScenario 18 = .ok (.iconst 0, 1) := dk_3 (dk_at dksX0_addScenario_0 18 rfl rfl)
theorem dX0_addScenario_19 : decode cX0_addScenario 19 = .ok (.ireturn, 1) := dk_172 (dk_at dksX0_addScenario_0 19 rfl rfl)
abbrev cX0_differ : ByteArray := method_8_code
def yX0_differ : MethodName := ⟨RX0, "differ", "(LCostStudio;IIII[J)I"⟩
def dkwX0_differ_1 : List UInt8 := [172, 58, 6, 6, 172, 58, 6, 7, 172, 3, 172]
abbrev dktX0_differ_1 : List UInt8 := dkwX0_differ_1 ++ []
def dkwX0_differ_0 : List UInt8 := [25, 5, 3, 42, 27, 28, 29, 21, 4, 182, 0, 34, 133, 80, 167, 0, 19, 58, 6, 4, 172, 58, 6, 5]
abbrev dktX0_differ_0 : List UInt8 := dkwX0_differ_0 ++ dktX0_differ_1
theorem dksX0_differ_0 : cX0_differ.data.toList.drop 0 = dktX0_differ_0 := by decide +kernel
theorem dksX0_differ_1 : cX0_differ.data.toList.drop 24 = dktX0_differ_1 := dk_seg dksX0_differ_0 24 rfl rfl
theorem dX0_differ_0 : decode cX0_differ 0 = .ok (.aload 5, 2) := dk_25 5 (dk_at dksX0_differ_0 0 rfl rfl)
theorem dX0_differ_2 : decode cX0_differ 2 = .ok (.iconst 0, 1) := dk_3 (dk_at dksX0_differ_0 2 rfl rfl)
theorem dX0_differ_3 : decode cX0_differ 3 = .ok (.aload_n 0, 1) := dk_42 (dk_at dksX0_differ_0 3 rfl rfl)
theorem dX0_differ_4 : decode cX0_differ 4 = .ok (.iload_n 1, 1) := dk_27 (dk_at dksX0_differ_0 4 rfl rfl)
theorem dX0_differ_5 : decode cX0_differ 5 = .ok (.iload_n 2, 1) := dk_28 (dk_at dksX0_differ_0 5 rfl rfl)
theorem dX0_differ_6 : decode cX0_differ 6 = .ok (.iload_n 3, 1) := dk_29 (dk_at dksX0_differ_0 6 rfl rfl)
theorem dX0_differ_7 : decode cX0_differ 7 = .ok (.iload 4, 2) := dk_21 4 (dk_at dksX0_differ_0 7 rfl rfl)
theorem dX0_differ_9 : decode cX0_differ 9 = .ok (.invokevirtual 34, 3) := dk_182 0 34 (dk_at dksX0_differ_0 9 rfl rfl)
theorem dX0_differ_12 : decode cX0_differ 12 = .ok (.i2l, 1) := dk_133 (dk_at dksX0_differ_0 12 rfl rfl)
theorem dX0_differ_13 : decode cX0_differ 13 = .ok (.lastore, 1) := dk_80 (dk_at dksX0_differ_0 13 rfl rfl)
theorem dX0_differ_14 : decode cX0_differ 14 = .ok (.goto 19, 3) := dk_167 0 19 (dk_at dksX0_differ_0 14 rfl rfl)
theorem dX0_differ_17 : decode cX0_differ 17 = .ok (.astore 6, 2) := dk_58 6 (dk_at dksX0_differ_0 17 rfl rfl)
theorem dX0_differ_19 : decode cX0_differ 19 = .ok (.iconst 1, 1) := dk_4 (dk_at dksX0_differ_0 19 rfl rfl)
theorem dX0_differ_20 : decode cX0_differ 20 = .ok (.ireturn, 1) := dk_172 (dk_at dksX0_differ_0 20 rfl rfl)
theorem dX0_differ_21 : decode cX0_differ 21 = .ok (.astore 6, 2) := dk_58 6 (dk_at dksX0_differ_0 21 rfl rfl)
theorem dX0_differ_23 : decode cX0_differ 23 = .ok (.iconst 2, 1) := dk_5 (dk_at dksX0_differ_0 23 rfl rfl)
theorem dX0_differ_24 : decode cX0_differ 24 = .ok (.ireturn, 1) := dk_172 (dk_at dksX0_differ_1 0 rfl rfl)
theorem dX0_differ_25 : decode cX0_differ 25 = .ok (.astore 6, 2) := dk_58 6 (dk_at dksX0_differ_1 1 rfl rfl)
theorem dX0_differ_27 : decode cX0_differ 27 = .ok (.iconst 3, 1) := dk_6 (dk_at dksX0_differ_1 3 rfl rfl)
theorem dX0_differ_28 : decode cX0_differ 28 = .ok (.ireturn, 1) := dk_172 (dk_at dksX0_differ_1 4 rfl rfl)
theorem dX0_differ_29 : decode cX0_differ 29 = .ok (.astore 6, 2) := dk_58 6 (dk_at dksX0_differ_1 5 rfl rfl)
theorem dX0_differ_31 : decode cX0_differ 31 = .ok (.iconst 4, 1) := dk_7 (dk_at dksX0_differ_1 7 rfl rfl)
theorem dX0_differ_32 : decode cX0_differ 32 = .ok (.ireturn, 1) := dk_172 (dk_at dksX0_differ_1 8 rfl rfl)
theorem dX0_differ_33 : decode cX0_differ 33 = .ok (.iconst 0, 1) := dk_3 (dk_at dksX0_differ_1 9 rfl rfl)
theorem dX0_differ_34 : decode cX0_differ 34 = .ok (.ireturn, 1) := dk_172 (dk_at dksX0_differ_1 10 rfl rfl)
abbrev cX0_number : ByteArray := method_9_code
def yX0_number : MethodName := ⟨RX0, "number", "(LCostStudio;III[J)I"⟩
def dkwX0_number_1 : List UInt8 := [172]
abbrev dktX0_number_1 : List UInt8 := dkwX0_number_1 ++ []
def dkwX0_number_0 : List UInt8 := [25, 4, 3, 42, 27, 28, 29, 182, 0, 40, 133, 80, 167, 0, 11, 58, 5, 4, 172, 58, 5, 5, 172, 3]
abbrev dktX0_number_0 : List UInt8 := dkwX0_number_0 ++ dktX0_number_1
theorem dksX0_number_0 : cX0_number.data.toList.drop 0 = dktX0_number_0 := by decide +kernel
theorem dksX0_number_1 : cX0_number.data.toList.drop 24 = dktX0_number_1 := dk_seg dksX0_number_0 24 rfl rfl
theorem dX0_number_0 : decode cX0_number 0 = .ok (.aload 4, 2) := dk_25 4 (dk_at dksX0_number_0 0 rfl rfl)
theorem dX0_number_2 : decode cX0_number 2 = .ok (.iconst 0, 1) := dk_3 (dk_at dksX0_number_0 2 rfl rfl)
theorem dX0_number_3 : decode cX0_number 3 = .ok (.aload_n 0, 1) := dk_42 (dk_at dksX0_number_0 3 rfl rfl)
theorem dX0_number_4 : decode cX0_number 4 = .ok (.iload_n 1, 1) := dk_27 (dk_at dksX0_number_0 4 rfl rfl)
theorem dX0_number_5 : decode cX0_number 5 = .ok (.iload_n 2, 1) := dk_28 (dk_at dksX0_number_0 5 rfl rfl)
theorem dX0_number_6 : decode cX0_number 6 = .ok (.iload_n 3, 1) := dk_29 (dk_at dksX0_number_0 6 rfl rfl)
theorem dX0_number_7 : decode cX0_number 7 = .ok (.invokevirtual 40, 3) := dk_182 0 40 (dk_at dksX0_number_0 7 rfl rfl)
theorem dX0_number_10 : decode cX0_number 10 = .ok (.i2l, 1) := dk_133 (dk_at dksX0_number_0 10 rfl rfl)
theorem dX0_number_11 : decode cX0_number 11 = .ok (.lastore, 1) := dk_80 (dk_at dksX0_number_0 11 rfl rfl)
theorem dX0_number_12 : decode cX0_number 12 = .ok (.goto 11, 3) := dk_167 0 11 (dk_at dksX0_number_0 12 rfl rfl)
theorem dX0_number_15 : decode cX0_number 15 = .ok (.astore 5, 2) := dk_58 5 (dk_at dksX0_number_0 15 rfl rfl)
theorem dX0_number_17 : decode cX0_number 17 = .ok (.iconst 1, 1) := dk_4 (dk_at dksX0_number_0 17 rfl rfl)
theorem dX0_number_18 : decode cX0_number 18 = .ok (.ireturn, 1) := dk_172 (dk_at dksX0_number_0 18 rfl rfl)
theorem dX0_number_19 : decode cX0_number 19 = .ok (.astore 5, 2) := dk_58 5 (dk_at dksX0_number_0 19 rfl rfl)
theorem dX0_number_21 : decode cX0_number 21 = .ok (.iconst 2, 1) := dk_5 (dk_at dksX0_number_0 21 rfl rfl)
theorem dX0_number_22 : decode cX0_number 22 = .ok (.ireturn, 1) := dk_172 (dk_at dksX0_number_0 22 rfl rfl)
theorem dX0_number_23 : decode cX0_number 23 = .ok (.iconst 0, 1) := dk_3 (dk_at dksX0_number_0 23 rfl rfl)
theorem dX0_number_24 : decode cX0_number 24 = .ok (.ireturn, 1) := dk_172 (dk_at dksX0_number_1 0 rfl rfl)
abbrev cX0_numberByHand : ByteArray := method_10_code
def yX0_numberByHand : MethodName := ⟨RX0, "numberByHand", "(LCostStudio;III[J)I"⟩
def dkwX0_numberByHand_1 : List UInt8 := [172]
abbrev dktX0_numberByHand_1 : List UInt8 := dkwX0_numberByHand_1 ++ []
def dkwX0_numberByHand_0 : List UInt8 := [25, 4, 3, 42, 27, 28, 29, 182, 0, 43, 133, 80, 167, 0, 11, 58, 5, 4, 172, 58, 5, 5, 172, 3]
abbrev dktX0_numberByHand_0 : List UInt8 := dkwX0_numberByHand_0 ++ dktX0_numberByHand_1
theorem dksX0_numberByHand_0 : cX0_numberByHand.data.toList.drop 0 = dktX0_numberByHand_0 := by decide +kernel
theorem dksX0_numberByHand_1 : cX0_numberByHand.data.toList.drop 24 = dktX0_numberByHand_1 := dk_seg dksX0_numberByHand_0 24 rfl rfl
theorem dX0_numberByHand_0 : decode cX0_numberByHand 0 = .ok (.aload 4, 2) := dk_25 4 (dk_at dksX0_numberByHand_0 0 rfl rfl)
theorem dX0_numberByHand_2 : decode cX0_numberByHand 2 = .ok (.iconst 0, 1) := dk_3 (dk_at dksX0_numberByHand_0 2 rfl rfl)
theorem dX0_numberByHand_3 : decode cX0_numberByHand 3 = .ok (.aload_n 0, 1) := dk_42 (dk_at dksX0_numberByHand_0 3 rfl rfl)
theorem dX0_numberByHand_4 : decode cX0_numberByHand 4 = .ok (.iload_n 1, 1) := dk_27 (dk_at dksX0_numberByHand_0 4 rfl rfl)
theorem dX0_numberByHand_5 : decode cX0_numberByHand 5 = .ok (.iload_n 2, 1) := dk_28 (dk_at dksX0_numberByHand_0 5 rfl rfl)
theorem dX0_numberByHand_6 : decode cX0_numberByHand 6 = .ok (.iload_n 3, 1) := dk_29 (dk_at dksX0_numberByHand_0 6 rfl rfl)
theorem dX0_numberByHand_7 : decode cX0_numberByHand 7 = .ok (.invokevirtual 43, 3) := dk_182 0 43 (dk_at dksX0_numberByHand_0 7 rfl rfl)
theorem dX0_numberByHand_10 : decode cX0_numberByHand 10 = .ok (.i2l, 1) := dk_133 (dk_at dksX0_numberByHand_0 10 rfl rfl)
theorem dX0_numberByHand_11 : decode cX0_numberByHand 11 = .ok (.lastore, 1) := dk_80 (dk_at dksX0_numberByHand_0 11 rfl rfl)
theorem dX0_numberByHand_12 : decode cX0_numberByHand 12 = .ok (.goto 11, 3) := dk_167 0 11 (dk_at dksX0_numberByHand_0 12 rfl rfl)
theorem dX0_numberByHand_15 : decode cX0_numberByHand 15 = .ok (.astore 5, 2) := dk_58 5 (dk_at dksX0_numberByHand_0 15 rfl rfl)
theorem dX0_numberByHand_17 : decode cX0_numberByHand 17 = .ok (.iconst 1, 1) := dk_4 (dk_at dksX0_numberByHand_0 17 rfl rfl)
theorem dX0_numberByHand_18 : decode cX0_numberByHand 18 = .ok (.ireturn, 1) := dk_172 (dk_at dksX0_numberByHand_0 18 rfl rfl)
theorem dX0_numberByHand_19 : decode cX0_numberByHand 19 = .ok (.astore 5, 2) := dk_58 5 (dk_at dksX0_numberByHand_0 19 rfl rfl)
theorem dX0_numberByHand_21 : decode cX0_numberByHand 21 = .ok (.iconst 2, 1) := dk_5 (dk_at dksX0_numberByHand_0 21 rfl rfl)
theorem dX0_numberByHand_22 : decode cX0_numberByHand 22 = .ok (.ireturn, 1) := dk_172 (dk_at dksX0_numberByHand_0 22 rfl rfl)
theorem dX0_numberByHand_23 : decode cX0_numberByHand 23 = .ok (.iconst 0, 1) := dk_3 (dk_at dksX0_numberByHand_0 23 rfl rfl)
theorem dX0_numberByHand_24 : decode cX0_numberByHand 24 = .ok (.ireturn, 1) := dk_172 (dk_at dksX0_numberByHand_1 0 rfl rfl)
abbrev cX0_year : ByteArray := method_11_code
def yX0_year : MethodName := ⟨RX0, "year", "(LCostStudio;II[J)I"⟩
def dkwX0_year_0 : List UInt8 := [45, 3, 42, 27, 28, 182, 0, 46, 80, 167, 0, 11, 58, 4, 4, 172, 58, 4, 5, 172, 3, 172]
abbrev dktX0_year_0 : List UInt8 := dkwX0_year_0 ++ []
theorem dksX0_year_0 : cX0_year.data.toList.drop 0 = dktX0_year_0 := by decide +kernel
theorem dX0_year_0 : decode cX0_year 0 = .ok (.aload_n 3, 1) := dk_45 (dk_at dksX0_year_0 0 rfl rfl)
theorem dX0_year_1 : decode cX0_year 1 = .ok (.iconst 0, 1) := dk_3 (dk_at dksX0_year_0 1 rfl rfl)
theorem dX0_year_2 : decode cX0_year 2 = .ok (.aload_n 0, 1) := dk_42 (dk_at dksX0_year_0 2 rfl rfl)
theorem dX0_year_3 : decode cX0_year 3 = .ok (.iload_n 1, 1) := dk_27 (dk_at dksX0_year_0 3 rfl rfl)
theorem dX0_year_4 : decode cX0_year 4 = .ok (.iload_n 2, 1) := dk_28 (dk_at dksX0_year_0 4 rfl rfl)
theorem dX0_year_5 : decode cX0_year 5 = .ok (.invokevirtual 46, 3) := dk_182 0 46 (dk_at dksX0_year_0 5 rfl rfl)
theorem dX0_year_8 : decode cX0_year 8 = .ok (.lastore, 1) := dk_80 (dk_at dksX0_year_0 8 rfl rfl)
theorem dX0_year_9 : decode cX0_year 9 = .ok (.goto 11, 3) := dk_167 0 11 (dk_at dksX0_year_0 9 rfl rfl)
theorem dX0_year_12 : decode cX0_year 12 = .ok (.astore 4, 2) := dk_58 4 (dk_at dksX0_year_0 12 rfl rfl)
theorem dX0_year_14 : decode cX0_year 14 = .ok (.iconst 1, 1) := dk_4 (dk_at dksX0_year_0 14 rfl rfl)
theorem dX0_year_15 : decode cX0_year 15 = .ok (.ireturn, 1) := dk_172 (dk_at dksX0_year_0 15 rfl rfl)
theorem dX0_year_16 : decode cX0_year 16 = .ok (.astore 4, 2) := dk_58 4 (dk_at dksX0_year_0 16 rfl rfl)
theorem dX0_year_18 : decode cX0_year 18 = .ok (.iconst 2, 1) := dk_5 (dk_at dksX0_year_0 18 rfl rfl)
theorem dX0_year_19 : decode cX0_year 19 = .ok (.ireturn, 1) := dk_172 (dk_at dksX0_year_0 19 rfl rfl)
theorem dX0_year_20 : decode cX0_year 20 = .ok (.iconst 0, 1) := dk_3 (dk_at dksX0_year_0 20 rfl rfl)
theorem dX0_year_21 : decode cX0_year 21 = .ok (.ireturn, 1) := dk_172 (dk_at dksX0_year_0 21 rfl rfl)
abbrev cX0_effect : ByteArray := method_12_code
def yX0_effect : MethodName := ⟨RX0, "effect", "(LCostStudio;IIII[J)I"⟩
def dkwX0_effect_1 : List UInt8 := [172, 3, 172]
abbrev dktX0_effect_1 : List UInt8 := dkwX0_effect_1 ++ []
def dkwX0_effect_0 : List UInt8 := [25, 5, 3, 42, 27, 28, 29, 21, 4, 182, 0, 50, 133, 80, 167, 0, 11, 58, 6, 4, 172, 58, 6, 5]
abbrev dktX0_effect_0 : List UInt8 := dkwX0_effect_0 ++ dktX0_effect_1
theorem dksX0_effect_0 : cX0_effect.data.toList.drop 0 = dktX0_effect_0 := by decide +kernel
theorem dksX0_effect_1 : cX0_effect.data.toList.drop 24 = dktX0_effect_1 := dk_seg dksX0_effect_0 24 rfl rfl
theorem dX0_effect_0 : decode cX0_effect 0 = .ok (.aload 5, 2) := dk_25 5 (dk_at dksX0_effect_0 0 rfl rfl)
theorem dX0_effect_2 : decode cX0_effect 2 = .ok (.iconst 0, 1) := dk_3 (dk_at dksX0_effect_0 2 rfl rfl)
theorem dX0_effect_3 : decode cX0_effect 3 = .ok (.aload_n 0, 1) := dk_42 (dk_at dksX0_effect_0 3 rfl rfl)
theorem dX0_effect_4 : decode cX0_effect 4 = .ok (.iload_n 1, 1) := dk_27 (dk_at dksX0_effect_0 4 rfl rfl)
theorem dX0_effect_5 : decode cX0_effect 5 = .ok (.iload_n 2, 1) := dk_28 (dk_at dksX0_effect_0 5 rfl rfl)
theorem dX0_effect_6 : decode cX0_effect 6 = .ok (.iload_n 3, 1) := dk_29 (dk_at dksX0_effect_0 6 rfl rfl)
theorem dX0_effect_7 : decode cX0_effect 7 = .ok (.iload 4, 2) := dk_21 4 (dk_at dksX0_effect_0 7 rfl rfl)
theorem dX0_effect_9 : decode cX0_effect 9 = .ok (.invokevirtual 50, 3) := dk_182 0 50 (dk_at dksX0_effect_0 9 rfl rfl)
theorem dX0_effect_12 : decode cX0_effect 12 = .ok (.i2l, 1) := dk_133 (dk_at dksX0_effect_0 12 rfl rfl)
theorem dX0_effect_13 : decode cX0_effect 13 = .ok (.lastore, 1) := dk_80 (dk_at dksX0_effect_0 13 rfl rfl)
theorem dX0_effect_14 : decode cX0_effect 14 = .ok (.goto 11, 3) := dk_167 0 11 (dk_at dksX0_effect_0 14 rfl rfl)
theorem dX0_effect_17 : decode cX0_effect 17 = .ok (.astore 6, 2) := dk_58 6 (dk_at dksX0_effect_0 17 rfl rfl)
theorem dX0_effect_19 : decode cX0_effect 19 = .ok (.iconst 1, 1) := dk_4 (dk_at dksX0_effect_0 19 rfl rfl)
theorem dX0_effect_20 : decode cX0_effect 20 = .ok (.ireturn, 1) := dk_172 (dk_at dksX0_effect_0 20 rfl rfl)
theorem dX0_effect_21 : decode cX0_effect 21 = .ok (.astore 6, 2) := dk_58 6 (dk_at dksX0_effect_0 21 rfl rfl)
theorem dX0_effect_23 : decode cX0_effect 23 = .ok (.iconst 2, 1) := dk_5 (dk_at dksX0_effect_0 23 rfl rfl)
theorem dX0_effect_24 : decode cX0_effect 24 = .ok (.ireturn, 1) := dk_172 (dk_at dksX0_effect_1 0 rfl rfl)
theorem dX0_effect_25 : decode cX0_effect 25 = .ok (.iconst 0, 1) := dk_3 (dk_at dksX0_effect_1 1 rfl rfl)
theorem dX0_effect_26 : decode cX0_effect 26 = .ok (.ireturn, 1) := dk_172 (dk_at dksX0_effect_1 2 rfl rfl)
abbrev cX0_seek : ByteArray := method_13_code
def yX0_seek : MethodName := ⟨RX0, "seek", "(LCostStudio;IIII[J)I"⟩
def dkwX0_seek_1 : List UInt8 := [172, 3, 172]
abbrev dktX0_seek_1 : List UInt8 := dkwX0_seek_1 ++ []
def dkwX0_seek_0 : List UInt8 := [25, 5, 3, 42, 27, 28, 29, 21, 4, 182, 0, 53, 133, 80, 167, 0, 11, 58, 6, 4, 172, 58, 6, 5]
abbrev dktX0_seek_0 : List UInt8 := dkwX0_seek_0 ++ dktX0_seek_1
theorem dksX0_seek_0 : cX0_seek.data.toList.drop 0 = dktX0_seek_0 := by decide +kernel
theorem dksX0_seek_1 : cX0_seek.data.toList.drop 24 = dktX0_seek_1 := dk_seg dksX0_seek_0 24 rfl rfl
theorem dX0_seek_0 : decode cX0_seek 0 = .ok (.aload 5, 2) := dk_25 5 (dk_at dksX0_seek_0 0 rfl rfl)
theorem dX0_seek_2 : decode cX0_seek 2 = .ok (.iconst 0, 1) := dk_3 (dk_at dksX0_seek_0 2 rfl rfl)
theorem dX0_seek_3 : decode cX0_seek 3 = .ok (.aload_n 0, 1) := dk_42 (dk_at dksX0_seek_0 3 rfl rfl)
theorem dX0_seek_4 : decode cX0_seek 4 = .ok (.iload_n 1, 1) := dk_27 (dk_at dksX0_seek_0 4 rfl rfl)
theorem dX0_seek_5 : decode cX0_seek 5 = .ok (.iload_n 2, 1) := dk_28 (dk_at dksX0_seek_0 5 rfl rfl)
theorem dX0_seek_6 : decode cX0_seek 6 = .ok (.iload_n 3, 1) := dk_29 (dk_at dksX0_seek_0 6 rfl rfl)
theorem dX0_seek_7 : decode cX0_seek 7 = .ok (.iload 4, 2) := dk_21 4 (dk_at dksX0_seek_0 7 rfl rfl)
theorem dX0_seek_9 : decode cX0_seek 9 = .ok (.invokevirtual 53, 3) := dk_182 0 53 (dk_at dksX0_seek_0 9 rfl rfl)
theorem dX0_seek_12 : decode cX0_seek 12 = .ok (.i2l, 1) := dk_133 (dk_at dksX0_seek_0 12 rfl rfl)
theorem dX0_seek_13 : decode cX0_seek 13 = .ok (.lastore, 1) := dk_80 (dk_at dksX0_seek_0 13 rfl rfl)
theorem dX0_seek_14 : decode cX0_seek 14 = .ok (.goto 11, 3) := dk_167 0 11 (dk_at dksX0_seek_0 14 rfl rfl)
theorem dX0_seek_17 : decode cX0_seek 17 = .ok (.astore 6, 2) := dk_58 6 (dk_at dksX0_seek_0 17 rfl rfl)
theorem dX0_seek_19 : decode cX0_seek 19 = .ok (.iconst 1, 1) := dk_4 (dk_at dksX0_seek_0 19 rfl rfl)
theorem dX0_seek_20 : decode cX0_seek 20 = .ok (.ireturn, 1) := dk_172 (dk_at dksX0_seek_0 20 rfl rfl)
theorem dX0_seek_21 : decode cX0_seek 21 = .ok (.astore 6, 2) := dk_58 6 (dk_at dksX0_seek_0 21 rfl rfl)
theorem dX0_seek_23 : decode cX0_seek 23 = .ok (.iconst 2, 1) := dk_5 (dk_at dksX0_seek_0 23 rfl rfl)
theorem dX0_seek_24 : decode cX0_seek 24 = .ok (.ireturn, 1) := dk_172 (dk_at dksX0_seek_1 0 rfl rfl)
theorem dX0_seek_25 : decode cX0_seek 25 = .ok (.iconst 0, 1) := dk_3 (dk_at dksX0_seek_1 1 rfl rfl)
theorem dX0_seek_26 : decode cX0_seek 26 = .ok (.ireturn, 1) := dk_172 (dk_at dksX0_seek_1 2 rfl rfl)
abbrev cX0_actual : ByteArray := method_14_code
def yX0_actual : MethodName := ⟨RX0, "actual", "(LCostStudio;III[J)I"⟩
def dkwX0_actual_1 : List UInt8 := [172]
abbrev dktX0_actual_1 : List UInt8 := dkwX0_actual_1 ++ []
def dkwX0_actual_0 : List UInt8 := [25, 4, 3, 42, 27, 28, 29, 182, 0, 58, 133, 80, 167, 0, 11, 58, 5, 4, 172, 58, 5, 5, 172, 3]
abbrev dktX0_actual_0 : List UInt8 := dkwX0_actual_0 ++ dktX0_actual_1
theorem dksX0_actual_0 : cX0_actual.data.toList.drop 0 = dktX0_actual_0 := by decide +kernel
theorem dksX0_actual_1 : cX0_actual.data.toList.drop 24 = dktX0_actual_1 := dk_seg dksX0_actual_0 24 rfl rfl
theorem dX0_actual_0 : decode cX0_actual 0 = .ok (.aload 4, 2) := dk_25 4 (dk_at dksX0_actual_0 0 rfl rfl)
theorem dX0_actual_2 : decode cX0_actual 2 = .ok (.iconst 0, 1) := dk_3 (dk_at dksX0_actual_0 2 rfl rfl)
theorem dX0_actual_3 : decode cX0_actual 3 = .ok (.aload_n 0, 1) := dk_42 (dk_at dksX0_actual_0 3 rfl rfl)
theorem dX0_actual_4 : decode cX0_actual 4 = .ok (.iload_n 1, 1) := dk_27 (dk_at dksX0_actual_0 4 rfl rfl)
theorem dX0_actual_5 : decode cX0_actual 5 = .ok (.iload_n 2, 1) := dk_28 (dk_at dksX0_actual_0 5 rfl rfl)
theorem dX0_actual_6 : decode cX0_actual 6 = .ok (.iload_n 3, 1) := dk_29 (dk_at dksX0_actual_0 6 rfl rfl)
theorem dX0_actual_7 : decode cX0_actual 7 = .ok (.invokevirtual 58, 3) := dk_182 0 58 (dk_at dksX0_actual_0 7 rfl rfl)
theorem dX0_actual_10 : decode cX0_actual 10 = .ok (.i2l, 1) := dk_133 (dk_at dksX0_actual_0 10 rfl rfl)
theorem dX0_actual_11 : decode cX0_actual 11 = .ok (.lastore, 1) := dk_80 (dk_at dksX0_actual_0 11 rfl rfl)
theorem dX0_actual_12 : decode cX0_actual 12 = .ok (.goto 11, 3) := dk_167 0 11 (dk_at dksX0_actual_0 12 rfl rfl)
theorem dX0_actual_15 : decode cX0_actual 15 = .ok (.astore 5, 2) := dk_58 5 (dk_at dksX0_actual_0 15 rfl rfl)
theorem dX0_actual_17 : decode cX0_actual 17 = .ok (.iconst 1, 1) := dk_4 (dk_at dksX0_actual_0 17 rfl rfl)
theorem dX0_actual_18 : decode cX0_actual 18 = .ok (.ireturn, 1) := dk_172 (dk_at dksX0_actual_0 18 rfl rfl)
theorem dX0_actual_19 : decode cX0_actual 19 = .ok (.astore 5, 2) := dk_58 5 (dk_at dksX0_actual_0 19 rfl rfl)
theorem dX0_actual_21 : decode cX0_actual 21 = .ok (.iconst 2, 1) := dk_5 (dk_at dksX0_actual_0 21 rfl rfl)
theorem dX0_actual_22 : decode cX0_actual 22 = .ok (.ireturn, 1) := dk_172 (dk_at dksX0_actual_0 22 rfl rfl)
theorem dX0_actual_23 : decode cX0_actual 23 = .ok (.iconst 0, 1) := dk_3 (dk_at dksX0_actual_0 23 rfl rfl)
theorem dX0_actual_24 : decode cX0_actual 24 = .ok (.ireturn, 1) := dk_172 (dk_at dksX0_actual_1 0 rfl rfl)
abbrev cX0_takeActual : ByteArray := method_15_code
def yX0_takeActual : MethodName := ⟨RX0, "takeActual", "(LCostStudio;II[J)I"⟩
def dkwX0_takeActual_0 : List UInt8 := [45, 3, 42, 27, 28, 182, 0, 61, 133, 80, 167, 0, 11, 58, 4, 4, 172, 58, 4, 5, 172, 3, 172]
abbrev dktX0_takeActual_0 : List UInt8 := dkwX0_takeActual_0 ++ []
theorem dksX0_takeActual_0 : cX0_takeActual.data.toList.drop 0 = dktX0_takeActual_0 := by decide +kernel
theorem dX0_takeActual_0 : decode cX0_takeActual 0 = .ok (.aload_n 3, 1) := dk_45 (dk_at dksX0_takeActual_0 0 rfl rfl)
theorem dX0_takeActual_1 : decode cX0_takeActual 1 = .ok (.iconst 0, 1) := dk_3 (dk_at dksX0_takeActual_0 1 rfl rfl)
theorem dX0_takeActual_2 : decode cX0_takeActual 2 = .ok (.aload_n 0, 1) := dk_42 (dk_at dksX0_takeActual_0 2 rfl rfl)
theorem dX0_takeActual_3 : decode cX0_takeActual 3 = .ok (.iload_n 1, 1) := dk_27 (dk_at dksX0_takeActual_0 3 rfl rfl)
theorem dX0_takeActual_4 : decode cX0_takeActual 4 = .ok (.iload_n 2, 1) := dk_28 (dk_at dksX0_takeActual_0 4 rfl rfl)
theorem dX0_takeActual_5 : decode cX0_takeActual 5 = .ok (.invokevirtual 61, 3) := dk_182 0 61 (dk_at dksX0_takeActual_0 5 rfl rfl)
theorem dX0_takeActual_8 : decode cX0_takeActual 8 = .ok (.i2l, 1) := dk_133 (dk_at dksX0_takeActual_0 8 rfl rfl)
theorem dX0_takeActual_9 : decode cX0_takeActual 9 = .ok (.lastore, 1) := dk_80 (dk_at dksX0_takeActual_0 9 rfl rfl)
theorem dX0_takeActual_10 : decode cX0_takeActual 10 = .ok (.goto 11, 3) := dk_167 0 11 (dk_at dksX0_takeActual_0 10 rfl rfl)
theorem dX0_takeActual_13 : decode cX0_takeActual 13 = .ok (.astore 4, 2) := dk_58 4 (dk_at dksX0_takeActual_0 13 rfl rfl)
theorem dX0_takeActual_15 : decode cX0_takeActual 15 = .ok (.iconst 1, 1) := dk_4 (dk_at dksX0_takeActual_0 15 rfl rfl)
theorem dX0_takeActual_16 : decode cX0_takeActual 16 = .ok (.ireturn, 1) := dk_172 (dk_at dksX0_takeActual_0 16 rfl rfl)
theorem dX0_takeActual_17 : decode cX0_takeActual 17 = .ok (.astore 4, 2) := dk_58 4 (dk_at dksX0_takeActual_0 17 rfl rfl)
theorem dX0_takeActual_19 : decode cX0_takeActual 19 = .ok (.iconst 2, 1) := dk_5 (dk_at dksX0_takeActual_0 19 rfl rfl)
theorem dX0_takeActual_20 : decode cX0_takeActual 20 = .ok (.ireturn, 1) := dk_172 (dk_at dksX0_takeActual_0 20 rfl rfl)
theorem dX0_takeActual_21 : decode cX0_takeActual 21 = .ok (.iconst 0, 1) := dk_3 (dk_at dksX0_takeActual_0 21 rfl rfl)
theorem dX0_takeActual_22 : decode cX0_takeActual 22 = .ok (.ireturn, 1) := dk_172 (dk_at dksX0_takeActual_0 22 rfl rfl)
abbrev cX0_pass : ByteArray := method_16_code
def yX0_pass : MethodName := ⟨RX0, "pass", "(LCostStudio;[J)I"⟩
def dkwX0_pass_0 : List UInt8 := [43, 3, 42, 182, 0, 64, 133, 80, 167, 0, 6, 77, 4, 172, 3, 172]
abbrev dktX0_pass_0 : List UInt8 := dkwX0_pass_0 ++ []
theorem dksX0_pass_0 : cX0_pass.data.toList.drop 0 = dktX0_pass_0 := by decide +kernel
theorem dX0_pass_0 : decode cX0_pass 0 = .ok (.aload_n 1, 1) := dk_43 (dk_at dksX0_pass_0 0 rfl rfl)
theorem dX0_pass_1 : decode cX0_pass 1 = .ok (.iconst 0, 1) := dk_3 (dk_at dksX0_pass_0 1 rfl rfl)
theorem dX0_pass_2 : decode cX0_pass 2 = .ok (.aload_n 0, 1) := dk_42 (dk_at dksX0_pass_0 2 rfl rfl)
theorem dX0_pass_3 : decode cX0_pass 3 = .ok (.invokevirtual 64, 3) := dk_182 0 64 (dk_at dksX0_pass_0 3 rfl rfl)
theorem dX0_pass_6 : decode cX0_pass 6 = .ok (.i2l, 1) := dk_133 (dk_at dksX0_pass_0 6 rfl rfl)
theorem dX0_pass_7 : decode cX0_pass 7 = .ok (.lastore, 1) := dk_80 (dk_at dksX0_pass_0 7 rfl rfl)
theorem dX0_pass_8 : decode cX0_pass 8 = .ok (.goto 6, 3) := dk_167 0 6 (dk_at dksX0_pass_0 8 rfl rfl)
theorem dX0_pass_11 : decode cX0_pass 11 = .ok (.astore_n 2, 1) := dk_77 (dk_at dksX0_pass_0 11 rfl rfl)
theorem dX0_pass_12 : decode cX0_pass 12 = .ok (.iconst 1, 1) := dk_4 (dk_at dksX0_pass_0 12 rfl rfl)
theorem dX0_pass_13 : decode cX0_pass 13 = .ok (.ireturn, 1) := dk_172 (dk_at dksX0_pass_0 13 rfl rfl)
theorem dX0_pass_14 : decode cX0_pass 14 = .ok (.iconst 0, 1) := dk_3 (dk_at dksX0_pass_0 14 rfl rfl)
theorem dX0_pass_15 : decode cX0_pass 15 = .ok (.ireturn, 1) := dk_172 (dk_at dksX0_pass_0 15 rfl rfl)
abbrev cX0_approve : ByteArray := method_17_code
def yX0_approve : MethodName := ⟨RX0, "approve", "(LCostStudio;III[J)I"⟩
def dkwX0_approve_1 : List UInt8 := [58, 5, 6, 172, 3, 172]
abbrev dktX0_approve_1 : List UInt8 := dkwX0_approve_1 ++ []
def dkwX0_approve_0 : List UInt8 := [25, 4, 3, 42, 27, 28, 29, 182, 0, 68, 133, 80, 167, 0, 15, 58, 5, 4, 172, 58, 5, 5, 172]
abbrev dktX0_approve_0 : List UInt8 := dkwX0_approve_0 ++ dktX0_approve_1
theorem dksX0_approve_0 : cX0_approve.data.toList.drop 0 = dktX0_approve_0 := by decide +kernel
theorem dksX0_approve_1 : cX0_approve.data.toList.drop 23 = dktX0_approve_1 := dk_seg dksX0_approve_0 23 rfl rfl
theorem dX0_approve_0 : decode cX0_approve 0 = .ok (.aload 4, 2) := dk_25 4 (dk_at dksX0_approve_0 0 rfl rfl)
theorem dX0_approve_2 : decode cX0_approve 2 = .ok (.iconst 0, 1) := dk_3 (dk_at dksX0_approve_0 2 rfl rfl)
theorem dX0_approve_3 : decode cX0_approve 3 = .ok (.aload_n 0, 1) := dk_42 (dk_at dksX0_approve_0 3 rfl rfl)
theorem dX0_approve_4 : decode cX0_approve 4 = .ok (.iload_n 1, 1) := dk_27 (dk_at dksX0_approve_0 4 rfl rfl)
theorem dX0_approve_5 : decode cX0_approve 5 = .ok (.iload_n 2, 1) := dk_28 (dk_at dksX0_approve_0 5 rfl rfl)
theorem dX0_approve_6 : decode cX0_approve 6 = .ok (.iload_n 3, 1) := dk_29 (dk_at dksX0_approve_0 6 rfl rfl)
theorem dX0_approve_7 : decode cX0_approve 7 = .ok (.invokevirtual 68, 3) := dk_182 0 68 (dk_at dksX0_approve_0 7 rfl rfl)
theorem dX0_approve_10 : decode cX0_approve 10 = .ok (.i2l, 1) := dk_133 (dk_at dksX0_approve_0 10 rfl rfl)
theorem dX0_approve_11 : decode cX0_approve 11 = .ok (.lastore, 1) := dk_80 (dk_at dksX0_approve_0 11 rfl rfl)
theorem dX0_approve_12 : decode cX0_approve 12 = .ok (.goto 15, 3) := dk_167 0 15 (dk_at dksX0_approve_0 12 rfl rfl)
theorem dX0_approve_15 : decode cX0_approve 15 = .ok (.astore 5, 2) := dk_58 5 (dk_at dksX0_approve_0 15 rfl rfl)
theorem dX0_approve_17 : decode cX0_approve 17 = .ok (.iconst 1, 1) := dk_4 (dk_at dksX0_approve_0 17 rfl rfl)
theorem dX0_approve_18 : decode cX0_approve 18 = .ok (.ireturn, 1) := dk_172 (dk_at dksX0_approve_0 18 rfl rfl)
theorem dX0_approve_19 : decode cX0_approve 19 = .ok (.astore 5, 2) := dk_58 5 (dk_at dksX0_approve_0 19 rfl rfl)
theorem dX0_approve_21 : decode cX0_approve 21 = .ok (.iconst 2, 1) := dk_5 (dk_at dksX0_approve_0 21 rfl rfl)
theorem dX0_approve_22 : decode cX0_approve 22 = .ok (.ireturn, 1) := dk_172 (dk_at dksX0_approve_0 22 rfl rfl)
theorem dX0_approve_23 : decode cX0_approve 23 = .ok (.astore 5, 2) := dk_58 5 (dk_at dksX0_approve_1 0 rfl rfl)
theorem dX0_approve_25 : decode cX0_approve 25 = .ok (.iconst 3, 1) := dk_6 (dk_at dksX0_approve_1 2 rfl rfl)
theorem dX0_approve_26 : decode cX0_approve 26 = .ok (.ireturn, 1) := dk_172 (dk_at dksX0_approve_1 3 rfl rfl)
theorem dX0_approve_27 : decode cX0_approve 27 = .ok (.iconst 0, 1) := dk_3 (dk_at dksX0_approve_1 4 rfl rfl)
theorem dX0_approve_28 : decode cX0_approve 28 = .ok (.ireturn, 1) := dk_172 (dk_at dksX0_approve_1 5 rfl rfl)
abbrev cX0_state : ByteArray := method_18_code
def yX0_state : MethodName := ⟨RX0, "state", "(LCostStudio;II[J)I"⟩
def dkwX0_state_0 : List UInt8 := [45, 3, 42, 27, 28, 182, 0, 71, 133, 80, 167, 0, 7, 58, 4, 4, 172, 3, 172]
abbrev dktX0_state_0 : List UInt8 := dkwX0_state_0 ++ []
theorem dksX0_state_0 : cX0_state.data.toList.drop 0 = dktX0_state_0 := by decide +kernel
theorem dX0_state_0 : decode cX0_state 0 = .ok (.aload_n 3, 1) := dk_45 (dk_at dksX0_state_0 0 rfl rfl)
theorem dX0_state_1 : decode cX0_state 1 = .ok (.iconst 0, 1) := dk_3 (dk_at dksX0_state_0 1 rfl rfl)
theorem dX0_state_2 : decode cX0_state 2 = .ok (.aload_n 0, 1) := dk_42 (dk_at dksX0_state_0 2 rfl rfl)
theorem dX0_state_3 : decode cX0_state 3 = .ok (.iload_n 1, 1) := dk_27 (dk_at dksX0_state_0 3 rfl rfl)
theorem dX0_state_4 : decode cX0_state 4 = .ok (.iload_n 2, 1) := dk_28 (dk_at dksX0_state_0 4 rfl rfl)
theorem dX0_state_5 : decode cX0_state 5 = .ok (.invokevirtual 71, 3) := dk_182 0 71 (dk_at dksX0_state_0 5 rfl rfl)
theorem dX0_state_8 : decode cX0_state 8 = .ok (.i2l, 1) := dk_133 (dk_at dksX0_state_0 8 rfl rfl)
theorem dX0_state_9 : decode cX0_state 9 = .ok (.lastore, 1) := dk_80 (dk_at dksX0_state_0 9 rfl rfl)
theorem dX0_state_10 : decode cX0_state 10 = .ok (.goto 7, 3) := dk_167 0 7 (dk_at dksX0_state_0 10 rfl rfl)
theorem dX0_state_13 : decode cX0_state 13 = .ok (.astore 4, 2) := dk_58 4 (dk_at dksX0_state_0 13 rfl rfl)
theorem dX0_state_15 : decode cX0_state 15 = .ok (.iconst 1, 1) := dk_4 (dk_at dksX0_state_0 15 rfl rfl)
theorem dX0_state_16 : decode cX0_state 16 = .ok (.ireturn, 1) := dk_172 (dk_at dksX0_state_0 16 rfl rfl)
theorem dX0_state_17 : decode cX0_state 17 = .ok (.iconst 0, 1) := dk_3 (dk_at dksX0_state_0 17 rfl rfl)
theorem dX0_state_18 : decode cX0_state 18 = .ok (.ireturn, 1) := dk_172 (dk_at dksX0_state_0 18 rfl rfl)
abbrev cX0_drift : ByteArray := method_19_code
def yX0_drift : MethodName := ⟨RX0, "drift", "(LCostStudio;II[J)I"⟩
def dkwX0_drift_1 : List UInt8 := [172, 3, 172]
abbrev dktX0_drift_1 : List UInt8 := dkwX0_drift_1 ++ []
def dkwX0_drift_0 : List UInt8 := [45, 3, 42, 27, 28, 182, 0, 75, 133, 80, 167, 0, 15, 58, 4, 4, 172, 58, 4, 5, 172, 58, 4, 6]
abbrev dktX0_drift_0 : List UInt8 := dkwX0_drift_0 ++ dktX0_drift_1
theorem dksX0_drift_0 : cX0_drift.data.toList.drop 0 = dktX0_drift_0 := by decide +kernel
theorem dksX0_drift_1 : cX0_drift.data.toList.drop 24 = dktX0_drift_1 := dk_seg dksX0_drift_0 24 rfl rfl
theorem dX0_drift_0 : decode cX0_drift 0 = .ok (.aload_n 3, 1) := dk_45 (dk_at dksX0_drift_0 0 rfl rfl)
theorem dX0_drift_1 : decode cX0_drift 1 = .ok (.iconst 0, 1) := dk_3 (dk_at dksX0_drift_0 1 rfl rfl)
theorem dX0_drift_2 : decode cX0_drift 2 = .ok (.aload_n 0, 1) := dk_42 (dk_at dksX0_drift_0 2 rfl rfl)
theorem dX0_drift_3 : decode cX0_drift 3 = .ok (.iload_n 1, 1) := dk_27 (dk_at dksX0_drift_0 3 rfl rfl)
theorem dX0_drift_4 : decode cX0_drift 4 = .ok (.iload_n 2, 1) := dk_28 (dk_at dksX0_drift_0 4 rfl rfl)
theorem dX0_drift_5 : decode cX0_drift 5 = .ok (.invokevirtual 75, 3) := dk_182 0 75 (dk_at dksX0_drift_0 5 rfl rfl)
theorem dX0_drift_8 : decode cX0_drift 8 = .ok (.i2l, 1) := dk_133 (dk_at dksX0_drift_0 8 rfl rfl)
theorem dX0_drift_9 : decode cX0_drift 9 = .ok (.lastore, 1) := dk_80 (dk_at dksX0_drift_0 9 rfl rfl)
theorem dX0_drift_10 : decode cX0_drift 10 = .ok (.goto 15, 3) := dk_167 0 15 (dk_at dksX0_drift_0 10 rfl rfl)
theorem dX0_drift_13 : decode cX0_drift 13 = .ok (.astore 4, 2) := dk_58 4 (dk_at dksX0_drift_0 13 rfl rfl)
theorem dX0_drift_15 : decode cX0_drift 15 = .ok (.iconst 1, 1) := dk_4 (dk_at dksX0_drift_0 15 rfl rfl)
theorem dX0_drift_16 : decode cX0_drift 16 = .ok (.ireturn, 1) := dk_172 (dk_at dksX0_drift_0 16 rfl rfl)
theorem dX0_drift_17 : decode cX0_drift 17 = .ok (.astore 4, 2) := dk_58 4 (dk_at dksX0_drift_0 17 rfl rfl)
theorem dX0_drift_19 : decode cX0_drift 19 = .ok (.iconst 2, 1) := dk_5 (dk_at dksX0_drift_0 19 rfl rfl)
theorem dX0_drift_20 : decode cX0_drift 20 = .ok (.ireturn, 1) := dk_172 (dk_at dksX0_drift_0 20 rfl rfl)
theorem dX0_drift_21 : decode cX0_drift 21 = .ok (.astore 4, 2) := dk_58 4 (dk_at dksX0_drift_0 21 rfl rfl)
theorem dX0_drift_23 : decode cX0_drift 23 = .ok (.iconst 3, 1) := dk_6 (dk_at dksX0_drift_0 23 rfl rfl)
theorem dX0_drift_24 : decode cX0_drift 24 = .ok (.ireturn, 1) := dk_172 (dk_at dksX0_drift_1 0 rfl rfl)
theorem dX0_drift_25 : decode cX0_drift 25 = .ok (.iconst 0, 1) := dk_3 (dk_at dksX0_drift_1 1 rfl rfl)
theorem dX0_drift_26 : decode cX0_drift 26 = .ok (.ireturn, 1) := dk_172 (dk_at dksX0_drift_1 2 rfl rfl)
abbrev cX0_approvedShare : ByteArray := method_20_code
def yX0_approvedShare : MethodName := ⟨RX0, "approvedShare", "(LCostStudio;[D)I"⟩
def dkwX0_approvedShare_0 : List UInt8 := [43, 3, 42, 182, 0, 78, 141, 82, 167, 0, 6, 77, 4, 172, 3, 172]
abbrev dktX0_approvedShare_0 : List UInt8 := dkwX0_approvedShare_0 ++ []
theorem dksX0_approvedShare_0 : cX0_approvedShare.data.toList.drop 0 = dktX0_approvedShare_0 := by decide +kernel
theorem dX0_approvedShare_0 : decode cX0_approvedShare 0 = .ok (.aload_n 1, 1) := dk_43 (dk_at dksX0_approvedShare_0 0 rfl rfl)
theorem dX0_approvedShare_1 : decode cX0_approvedShare 1 = .ok (.iconst 0, 1) := dk_3 (dk_at dksX0_approvedShare_0 1 rfl rfl)
theorem dX0_approvedShare_2 : decode cX0_approvedShare 2 = .ok (.aload_n 0, 1) := dk_42 (dk_at dksX0_approvedShare_0 2 rfl rfl)
theorem dX0_approvedShare_3 : decode cX0_approvedShare 3 = .ok (.invokevirtual 78, 3) := dk_182 0 78 (dk_at dksX0_approvedShare_0 3 rfl rfl)
theorem dX0_approvedShare_6 : decode cX0_approvedShare 6 = .ok (.f2d, 1) := dk_141 (dk_at dksX0_approvedShare_0 6 rfl rfl)
theorem dX0_approvedShare_7 : decode cX0_approvedShare 7 = .ok (.dastore, 1) := dk_82 (dk_at dksX0_approvedShare_0 7 rfl rfl)
theorem dX0_approvedShare_8 : decode cX0_approvedShare 8 = .ok (.goto 6, 3) := dk_167 0 6 (dk_at dksX0_approvedShare_0 8 rfl rfl)
theorem dX0_approvedShare_11 : decode cX0_approvedShare 11 = .ok (.astore_n 2, 1) := dk_77 (dk_at dksX0_approvedShare_0 11 rfl rfl)
theorem dX0_approvedShare_12 : decode cX0_approvedShare 12 = .ok (.iconst 1, 1) := dk_4 (dk_at dksX0_approvedShare_0 12 rfl rfl)
theorem dX0_approvedShare_13 : decode cX0_approvedShare 13 = .ok (.ireturn, 1) := dk_172 (dk_at dksX0_approvedShare_0 13 rfl rfl)
theorem dX0_approvedShare_14 : decode cX0_approvedShare 14 = .ok (.iconst 0, 1) := dk_3 (dk_at dksX0_approvedShare_0 14 rfl rfl)
theorem dX0_approvedShare_15 : decode cX0_approvedShare 15 = .ok (.ireturn, 1) := dk_172 (dk_at dksX0_approvedShare_0 15 rfl rfl)
abbrev cX0_meanTolerance : ByteArray := method_21_code
def yX0_meanTolerance : MethodName := ⟨RX0, "meanTolerance", "(LCostStudio;[D)I"⟩
def dkwX0_meanTolerance_0 : List UInt8 := [43, 3, 42, 182, 0, 84, 82, 167, 0, 6, 77, 4, 172, 3, 172]
abbrev dktX0_meanTolerance_0 : List UInt8 := dkwX0_meanTolerance_0 ++ []
theorem dksX0_meanTolerance_0 : cX0_meanTolerance.data.toList.drop 0 = dktX0_meanTolerance_0 := by decide +kernel
theorem dX0_meanTolerance_0 : decode cX0_meanTolerance 0 = .ok (.aload_n 1, 1) := dk_43 (dk_at dksX0_meanTolerance_0 0 rfl rfl)
theorem dX0_meanTolerance_1 : decode cX0_meanTolerance 1 = .ok (.iconst 0, 1) := dk_3 (dk_at dksX0_meanTolerance_0 1 rfl rfl)
theorem dX0_meanTolerance_2 : decode cX0_meanTolerance 2 = .ok (.aload_n 0, 1) := dk_42 (dk_at dksX0_meanTolerance_0 2 rfl rfl)
theorem dX0_meanTolerance_3 : decode cX0_meanTolerance 3 = .ok (.invokevirtual 84, 3) := dk_182 0 84 (dk_at dksX0_meanTolerance_0 3 rfl rfl)
theorem dX0_meanTolerance_6 : decode cX0_meanTolerance 6 = .ok (.dastore, 1) := dk_82 (dk_at dksX0_meanTolerance_0 6 rfl rfl)
theorem dX0_meanTolerance_7 : decode cX0_meanTolerance 7 = .ok (.goto 6, 3) := dk_167 0 6 (dk_at dksX0_meanTolerance_0 7 rfl rfl)
theorem dX0_meanTolerance_10 : decode cX0_meanTolerance 10 = .ok (.astore_n 2, 1) := dk_77 (dk_at dksX0_meanTolerance_0 10 rfl rfl)
theorem dX0_meanTolerance_11 : decode cX0_meanTolerance 11 = .ok (.iconst 1, 1) := dk_4 (dk_at dksX0_meanTolerance_0 11 rfl rfl)
theorem dX0_meanTolerance_12 : decode cX0_meanTolerance 12 = .ok (.ireturn, 1) := dk_172 (dk_at dksX0_meanTolerance_0 12 rfl rfl)
theorem dX0_meanTolerance_13 : decode cX0_meanTolerance 13 = .ok (.iconst 0, 1) := dk_3 (dk_at dksX0_meanTolerance_0 13 rfl rfl)
theorem dX0_meanTolerance_14 : decode cX0_meanTolerance 14 = .ok (.ireturn, 1) := dk_172 (dk_at dksX0_meanTolerance_0 14 rfl rfl)
theorem q29 : (Jvm.Cond.initialized "CostStudioLaw") ∈ lw_all := lw_g (lw_at lw_m1 0 rfl) rfl
theorem q66 : (Jvm.Cond.classLink "CostStudioLaw" (8 : Nat) "CostStudio") ∈ lw_all := lw_g (lw_at lw_m1 37 rfl) rfl
theorem q68 : (Jvm.Cond.methodLink "CostStudioLaw" (88 : Nat) ({ cls := "CostStudio", name := "<init>", desc := "()V" } : Jvm.MethodName)) ∈ lw_all := lw_g (lw_at lw_m1 39 rfl) rfl
theorem q207 : (Jvm.Cond.methodLink "CostStudioLaw" (145 : Nat) ({ cls := "CostStudio", name := "month", desc := "()I" } : Jvm.MethodName)) ∈ lw_all := lw_g (lw_at lw_m1 178 rfl) rfl
theorem q211 : (Jvm.Cond.methodLink "CostStudioLaw" (158 : Nat) ({ cls := "CostStudio", name := "open", desc := "()I" } : Jvm.MethodName)) ∈ lw_all := lw_g (lw_at lw_m1 182 rfl) rfl
theorem q342 : (Jvm.Cond.methodLink "CostStudioLaw" (92 : Nat) ({ cls := "CostStudioLaw", name := "addDriver", desc := "(LCostStudio;I[J)I" } : Jvm.MethodName)) ∈ lw_all := lw_g (lw_at lw_m2 73 rfl) rfl
theorem q343 : (Jvm.Cond.static ({ cls := "CostStudioLaw", name := "addDriver", desc := "(LCostStudio;I[J)I" } : Jvm.MethodName)) ∈ lw_all := lw_g (lw_at lw_m2 74 rfl) rfl
theorem q344 : (Jvm.Cond.codeWith ({ cls := "CostStudioLaw", name := "addDriver", desc := "(LCostStudio;I[J)I" } : Jvm.MethodName) method_3_code (4 : Nat) (Option.some Jvm.ClassFile.FieldType.int) [((0 : Nat), (9 : Nat), (12 : Nat), (13 : Nat)), ((0 : Nat), (9 : Nat), (15 : Nat), (15 : Nat))]) ∈ lw_all := lw_g (lw_at lw_m2 75 rfl) rfl
theorem q345 : (Jvm.Cond.classLink "CostStudioLaw" (13 : Nat) "java/lang/IllegalArgumentException") ∈ lw_all := lw_g (lw_at lw_m2 76 rfl) rfl
theorem q346 : (Jvm.Cond.classLink "CostStudioLaw" (15 : Nat) "java/lang/IllegalStateException") ∈ lw_all := lw_g (lw_at lw_m2 77 rfl) rfl
theorem q347 : (Jvm.Cond.methodLink "CostStudioLaw" (7 : Nat) ({ cls := "CostStudio", name := "addDriver", desc := "(I)I" } : Jvm.MethodName)) ∈ lw_all := lw_g (lw_at lw_m2 78 rfl) rfl
theorem q416 : (Jvm.Cond.methodLink "CostStudioLaw" (101 : Nat) ({ cls := "CostStudioLaw", name := "setDriver", desc := "(LCostStudio;II[J)I" } : Jvm.MethodName)) ∈ lw_all := lw_g (lw_at lw_m2 147 rfl) rfl
theorem q417 : (Jvm.Cond.static ({ cls := "CostStudioLaw", name := "setDriver", desc := "(LCostStudio;II[J)I" } : Jvm.MethodName)) ∈ lw_all := lw_g (lw_at lw_m2 148 rfl) rfl
theorem q418 : (Jvm.Cond.codeWith ({ cls := "CostStudioLaw", name := "setDriver", desc := "(LCostStudio;II[J)I" } : Jvm.MethodName) method_4_code (5 : Nat) (Option.some Jvm.ClassFile.FieldType.int) [((0 : Nat), (10 : Nat), (13 : Nat), (21 : Nat)), ((0 : Nat), (10 : Nat), (17 : Nat), (13 : Nat))]) ∈ lw_all := lw_g (lw_at lw_m2 149 rfl) rfl
theorem q419 : (Jvm.Cond.classLink "CostStudioLaw" (21 : Nat) "java/lang/IndexOutOfBoundsException") ∈ lw_all := lw_g (lw_at lw_m2 150 rfl) rfl
theorem q452 : (Jvm.Cond.methodLink "CostStudioLaw" (17 : Nat) ({ cls := "CostStudio", name := "setDriver", desc := "(II)I" } : Jvm.MethodName)) ∈ lw_all := lw_g (lw_at lw_m2 183 rfl) rfl
theorem q602 : (Jvm.Cond.methodLink "CostStudioLaw" (105 : Nat) ({ cls := "CostStudioLaw", name := "driver", desc := "(LCostStudio;III[J)I" } : Jvm.MethodName)) ∈ lw_all := lw_g (lw_at lw_m3 93 rfl) rfl
theorem q603 : (Jvm.Cond.static ({ cls := "CostStudioLaw", name := "driver", desc := "(LCostStudio;III[J)I" } : Jvm.MethodName)) ∈ lw_all := lw_g (lw_at lw_m3 94 rfl) rfl
theorem q604 : (Jvm.Cond.codeWith ({ cls := "CostStudioLaw", name := "driver", desc := "(LCostStudio;III[J)I" } : Jvm.MethodName) method_5_code (6 : Nat) (Option.some Jvm.ClassFile.FieldType.int) [((0 : Nat), (12 : Nat), (15 : Nat), (21 : Nat))]) ∈ lw_all := lw_g (lw_at lw_m3 95 rfl) rfl
theorem q605 : (Jvm.Cond.methodLink "CostStudioLaw" (23 : Nat) ({ cls := "CostStudio", name := "driver", desc := "(III)I" } : Jvm.MethodName)) ∈ lw_all := lw_g (lw_at lw_m3 96 rfl) rfl
theorem q616 : (Jvm.Cond.methodLink "CostStudioLaw" (109 : Nat) ({ cls := "CostStudioLaw", name := "addLine", desc := "(LCostStudio;CII[J)I" } : Jvm.MethodName)) ∈ lw_all := lw_g (lw_at lw_m3 107 rfl) rfl
theorem q617 : (Jvm.Cond.static ({ cls := "CostStudioLaw", name := "addLine", desc := "(LCostStudio;CII[J)I" } : Jvm.MethodName)) ∈ lw_all := lw_g (lw_at lw_m3 108 rfl) rfl
theorem q618 : (Jvm.Cond.codeWith ({ cls := "CostStudioLaw", name := "addLine", desc := "(LCostStudio;CII[J)I" } : Jvm.MethodName) method_6_code (6 : Nat) (Option.some Jvm.ClassFile.FieldType.int) [((0 : Nat), (12 : Nat), (15 : Nat), (13 : Nat)), ((0 : Nat), (12 : Nat), (19 : Nat), (21 : Nat)), ((0 : Nat), (12 : Nat), (23 : Nat), (15 : Nat))]) ∈ lw_all := lw_g (lw_at lw_m3 109 rfl) rfl
theorem q619 : (Jvm.Cond.methodLink "CostStudioLaw" (27 : Nat) ({ cls := "CostStudio", name := "addLine", desc := "(CII)I" } : Jvm.MethodName)) ∈ lw_all := lw_g (lw_at lw_m3 110 rfl) rfl
theorem q755 : (Jvm.Cond.methodLink "CostStudioLaw" (113 : Nat) ({ cls := "CostStudioLaw", name := "addScenario", desc := "(LCostStudio;I[J)I" } : Jvm.MethodName)) ∈ lw_all := lw_g (lw_at lw_m4 6 rfl) rfl
theorem q756 : (Jvm.Cond.static ({ cls := "CostStudioLaw", name := "addScenario", desc := "(LCostStudio;I[J)I" } : Jvm.MethodName)) ∈ lw_all := lw_g (lw_at lw_m4 7 rfl) rfl
theorem q757 : (Jvm.Cond.codeWith ({ cls := "CostStudioLaw", name := "addScenario", desc := "(LCostStudio;I[J)I" } : Jvm.MethodName) method_7_code (4 : Nat) (Option.some Jvm.ClassFile.FieldType.int) [((0 : Nat), (9 : Nat), (12 : Nat), (21 : Nat)), ((0 : Nat), (9 : Nat), (15 : Nat), (15 : Nat))]) ∈ lw_all := lw_g (lw_at lw_m4 8 rfl) rfl
theorem q758 : (Jvm.Cond.methodLink "CostStudioLaw" (31 : Nat) ({ cls := "CostStudio", name := "addScenario", desc := "(I)I" } : Jvm.MethodName)) ∈ lw_all := lw_g (lw_at lw_m4 9 rfl) rfl
theorem q762 : (Jvm.Cond.methodLink "CostStudioLaw" (116 : Nat) ({ cls := "CostStudioLaw", name := "differ", desc := "(LCostStudio;IIII[J)I" } : Jvm.MethodName)) ∈ lw_all := lw_g (lw_at lw_m4 13 rfl) rfl
theorem q763 : (Jvm.Cond.static ({ cls := "CostStudioLaw", name := "differ", desc := "(LCostStudio;IIII[J)I" } : Jvm.MethodName)) ∈ lw_all := lw_g (lw_at lw_m4 14 rfl) rfl
theorem q764 : (Jvm.Cond.codeWith ({ cls := "CostStudioLaw", name := "differ", desc := "(LCostStudio;IIII[J)I" } : Jvm.MethodName) method_8_code (7 : Nat) (Option.some Jvm.ClassFile.FieldType.int) [((0 : Nat), (14 : Nat), (17 : Nat), (21 : Nat)), ((0 : Nat), (14 : Nat), (21 : Nat), (13 : Nat)), ((0 : Nat), (14 : Nat), (25 : Nat), (38 : Nat)), ((0 : Nat), (14 : Nat), (29 : Nat), (15 : Nat))]) ∈ lw_all := lw_g (lw_at lw_m4 15 rfl) rfl
theorem q765 : (Jvm.Cond.classLink "CostStudioLaw" (38 : Nat) "java/lang/UnsupportedOperationException") ∈ lw_all := lw_g (lw_at lw_m4 16 rfl) rfl
theorem q766 : (Jvm.Cond.methodLink "CostStudioLaw" (34 : Nat) ({ cls := "CostStudio", name := "differ", desc := "(IIII)I" } : Jvm.MethodName)) ∈ lw_all := lw_g (lw_at lw_m4 17 rfl) rfl
theorem q804 : (Jvm.Cond.methodLink "CostStudioLaw" (120 : Nat) ({ cls := "CostStudioLaw", name := "number", desc := "(LCostStudio;III[J)I" } : Jvm.MethodName)) ∈ lw_all := lw_g (lw_at lw_m4 55 rfl) rfl
theorem q805 : (Jvm.Cond.static ({ cls := "CostStudioLaw", name := "number", desc := "(LCostStudio;III[J)I" } : Jvm.MethodName)) ∈ lw_all := lw_g (lw_at lw_m4 56 rfl) rfl
theorem q806 : (Jvm.Cond.codeWith ({ cls := "CostStudioLaw", name := "number", desc := "(LCostStudio;III[J)I" } : Jvm.MethodName) method_9_code (6 : Nat) (Option.some Jvm.ClassFile.FieldType.int) [((0 : Nat), (12 : Nat), (15 : Nat), (21 : Nat)), ((0 : Nat), (12 : Nat), (19 : Nat), (38 : Nat))]) ∈ lw_all := lw_g (lw_at lw_m4 57 rfl) rfl
theorem q807 : (Jvm.Cond.methodLink "CostStudioLaw" (40 : Nat) ({ cls := "CostStudio", name := "number", desc := "(III)I" } : Jvm.MethodName)) ∈ lw_all := lw_g (lw_at lw_m4 58 rfl) rfl
theorem q835 : (Jvm.Cond.methodLink "CostStudioLaw" (123 : Nat) ({ cls := "CostStudioLaw", name := "numberByHand", desc := "(LCostStudio;III[J)I" } : Jvm.MethodName)) ∈ lw_all := lw_g (lw_at lw_m4 86 rfl) rfl
theorem q836 : (Jvm.Cond.static ({ cls := "CostStudioLaw", name := "numberByHand", desc := "(LCostStudio;III[J)I" } : Jvm.MethodName)) ∈ lw_all := lw_g (lw_at lw_m4 87 rfl) rfl
theorem q837 : (Jvm.Cond.codeWith ({ cls := "CostStudioLaw", name := "numberByHand", desc := "(LCostStudio;III[J)I" } : Jvm.MethodName) method_10_code (6 : Nat) (Option.some Jvm.ClassFile.FieldType.int) [((0 : Nat), (12 : Nat), (15 : Nat), (21 : Nat)), ((0 : Nat), (12 : Nat), (19 : Nat), (38 : Nat))]) ∈ lw_all := lw_g (lw_at lw_m4 88 rfl) rfl
theorem q838 : (Jvm.Cond.methodLink "CostStudioLaw" (43 : Nat) ({ cls := "CostStudio", name := "numberByHand", desc := "(III)I" } : Jvm.MethodName)) ∈ lw_all := lw_g (lw_at lw_m4 89 rfl) rfl
theorem q848 : (Jvm.Cond.methodLink "CostStudioLaw" (126 : Nat) ({ cls := "CostStudioLaw", name := "year", desc := "(LCostStudio;II[J)I" } : Jvm.MethodName)) ∈ lw_all := lw_g (lw_at lw_m4 99 rfl) rfl
theorem q849 : (Jvm.Cond.static ({ cls := "CostStudioLaw", name := "year", desc := "(LCostStudio;II[J)I" } : Jvm.MethodName)) ∈ lw_all := lw_g (lw_at lw_m4 100 rfl) rfl
theorem q850 : (Jvm.Cond.codeWith ({ cls := "CostStudioLaw", name := "year", desc := "(LCostStudio;II[J)I" } : Jvm.MethodName) method_11_code (5 : Nat) (Option.some Jvm.ClassFile.FieldType.int) [((0 : Nat), (9 : Nat), (12 : Nat), (21 : Nat)), ((0 : Nat), (9 : Nat), (16 : Nat), (38 : Nat))]) ∈ lw_all := lw_g (lw_at lw_m4 101 rfl) rfl
theorem q851 : (Jvm.Cond.methodLink "CostStudioLaw" (46 : Nat) ({ cls := "CostStudio", name := "year", desc := "(II)J" } : Jvm.MethodName)) ∈ lw_all := lw_g (lw_at lw_m4 102 rfl) rfl
theorem q855 : (Jvm.Cond.methodLink "CostStudioLaw" (129 : Nat) ({ cls := "CostStudioLaw", name := "effect", desc := "(LCostStudio;IIII[J)I" } : Jvm.MethodName)) ∈ lw_all := lw_g (lw_at lw_m4 106 rfl) rfl
theorem q856 : (Jvm.Cond.static ({ cls := "CostStudioLaw", name := "effect", desc := "(LCostStudio;IIII[J)I" } : Jvm.MethodName)) ∈ lw_all := lw_g (lw_at lw_m4 107 rfl) rfl
theorem q857 : (Jvm.Cond.codeWith ({ cls := "CostStudioLaw", name := "effect", desc := "(LCostStudio;IIII[J)I" } : Jvm.MethodName) method_12_code (7 : Nat) (Option.some Jvm.ClassFile.FieldType.int) [((0 : Nat), (14 : Nat), (17 : Nat), (21 : Nat)), ((0 : Nat), (14 : Nat), (21 : Nat), (38 : Nat))]) ∈ lw_all := lw_g (lw_at lw_m4 108 rfl) rfl
theorem q858 : (Jvm.Cond.methodLink "CostStudioLaw" (50 : Nat) ({ cls := "CostStudio", name := "effect", desc := "(IIII)I" } : Jvm.MethodName)) ∈ lw_all := lw_g (lw_at lw_m4 109 rfl) rfl
theorem q862 : (Jvm.Cond.methodLink "CostStudioLaw" (132 : Nat) ({ cls := "CostStudioLaw", name := "seek", desc := "(LCostStudio;IIII[J)I" } : Jvm.MethodName)) ∈ lw_all := lw_g (lw_at lw_m4 113 rfl) rfl
theorem q863 : (Jvm.Cond.static ({ cls := "CostStudioLaw", name := "seek", desc := "(LCostStudio;IIII[J)I" } : Jvm.MethodName)) ∈ lw_all := lw_g (lw_at lw_m4 114 rfl) rfl
theorem q864 : (Jvm.Cond.codeWith ({ cls := "CostStudioLaw", name := "seek", desc := "(LCostStudio;IIII[J)I" } : Jvm.MethodName) method_13_code (7 : Nat) (Option.some Jvm.ClassFile.FieldType.int) [((0 : Nat), (14 : Nat), (17 : Nat), (21 : Nat)), ((0 : Nat), (14 : Nat), (21 : Nat), (56 : Nat))]) ∈ lw_all := lw_g (lw_at lw_m4 115 rfl) rfl
theorem q865 : (Jvm.Cond.classLink "CostStudioLaw" (56 : Nat) "java/util/NoSuchElementException") ∈ lw_all := lw_g (lw_at lw_m4 116 rfl) rfl
theorem q866 : (Jvm.Cond.methodLink "CostStudioLaw" (53 : Nat) ({ cls := "CostStudio", name := "seek", desc := "(IIII)I" } : Jvm.MethodName)) ∈ lw_all := lw_g (lw_at lw_m4 117 rfl) rfl
theorem q880 : (Jvm.Cond.methodLink "CostStudioLaw" (135 : Nat) ({ cls := "CostStudioLaw", name := "actual", desc := "(LCostStudio;III[J)I" } : Jvm.MethodName)) ∈ lw_all := lw_g (lw_at lw_m4 131 rfl) rfl
theorem q881 : (Jvm.Cond.static ({ cls := "CostStudioLaw", name := "actual", desc := "(LCostStudio;III[J)I" } : Jvm.MethodName)) ∈ lw_all := lw_g (lw_at lw_m4 132 rfl) rfl
theorem q882 : (Jvm.Cond.codeWith ({ cls := "CostStudioLaw", name := "actual", desc := "(LCostStudio;III[J)I" } : Jvm.MethodName) method_14_code (6 : Nat) (Option.some Jvm.ClassFile.FieldType.int) [((0 : Nat), (12 : Nat), (15 : Nat), (21 : Nat)), ((0 : Nat), (12 : Nat), (19 : Nat), (13 : Nat))]) ∈ lw_all := lw_g (lw_at lw_m4 133 rfl) rfl
theorem q883 : (Jvm.Cond.methodLink "CostStudioLaw" (58 : Nat) ({ cls := "CostStudio", name := "actual", desc := "(III)I" } : Jvm.MethodName)) ∈ lw_all := lw_g (lw_at lw_m4 134 rfl) rfl
theorem q889 : (Jvm.Cond.methodLink "CostStudioLaw" (138 : Nat) ({ cls := "CostStudioLaw", name := "takeActual", desc := "(LCostStudio;II[J)I" } : Jvm.MethodName)) ∈ lw_all := lw_g (lw_at lw_m4 140 rfl) rfl
theorem q890 : (Jvm.Cond.static ({ cls := "CostStudioLaw", name := "takeActual", desc := "(LCostStudio;II[J)I" } : Jvm.MethodName)) ∈ lw_all := lw_g (lw_at lw_m4 141 rfl) rfl
theorem q891 : (Jvm.Cond.codeWith ({ cls := "CostStudioLaw", name := "takeActual", desc := "(LCostStudio;II[J)I" } : Jvm.MethodName) method_15_code (5 : Nat) (Option.some Jvm.ClassFile.FieldType.int) [((0 : Nat), (10 : Nat), (13 : Nat), (21 : Nat)), ((0 : Nat), (10 : Nat), (17 : Nat), (56 : Nat))]) ∈ lw_all := lw_g (lw_at lw_m4 142 rfl) rfl
theorem q892 : (Jvm.Cond.methodLink "CostStudioLaw" (61 : Nat) ({ cls := "CostStudio", name := "takeActual", desc := "(II)I" } : Jvm.MethodName)) ∈ lw_all := lw_g (lw_at lw_m4 143 rfl) rfl
theorem q896 : (Jvm.Cond.methodLink "CostStudioLaw" (141 : Nat) ({ cls := "CostStudioLaw", name := "pass", desc := "(LCostStudio;[J)I" } : Jvm.MethodName)) ∈ lw_all := lw_g (lw_at lw_m4 147 rfl) rfl
theorem q897 : (Jvm.Cond.static ({ cls := "CostStudioLaw", name := "pass", desc := "(LCostStudio;[J)I" } : Jvm.MethodName)) ∈ lw_all := lw_g (lw_at lw_m4 148 rfl) rfl
theorem q898 : (Jvm.Cond.codeWith ({ cls := "CostStudioLaw", name := "pass", desc := "(LCostStudio;[J)I" } : Jvm.MethodName) method_16_code (3 : Nat) (Option.some Jvm.ClassFile.FieldType.int) [((0 : Nat), (8 : Nat), (11 : Nat), (15 : Nat))]) ∈ lw_all := lw_g (lw_at lw_m4 149 rfl) rfl
theorem q899 : (Jvm.Cond.methodLink "CostStudioLaw" (64 : Nat) ({ cls := "CostStudio", name := "pass", desc := "()I" } : Jvm.MethodName)) ∈ lw_all := lw_g (lw_at lw_m4 150 rfl) rfl
theorem q903 : (Jvm.Cond.methodLink "CostStudioLaw" (149 : Nat) ({ cls := "CostStudioLaw", name := "approve", desc := "(LCostStudio;III[J)I" } : Jvm.MethodName)) ∈ lw_all := lw_g (lw_at lw_m4 154 rfl) rfl
theorem q904 : (Jvm.Cond.static ({ cls := "CostStudioLaw", name := "approve", desc := "(LCostStudio;III[J)I" } : Jvm.MethodName)) ∈ lw_all := lw_g (lw_at lw_m4 155 rfl) rfl
theorem q905 : (Jvm.Cond.codeWith ({ cls := "CostStudioLaw", name := "approve", desc := "(LCostStudio;III[J)I" } : Jvm.MethodName) method_17_code (6 : Nat) (Option.some Jvm.ClassFile.FieldType.int) [((0 : Nat), (12 : Nat), (15 : Nat), (21 : Nat)), ((0 : Nat), (12 : Nat), (19 : Nat), (13 : Nat)), ((0 : Nat), (12 : Nat), (23 : Nat), (38 : Nat))]) ∈ lw_all := lw_g (lw_at lw_m4 156 rfl) rfl
theorem q906 : (Jvm.Cond.methodLink "CostStudioLaw" (68 : Nat) ({ cls := "CostStudio", name := "approve", desc := "(III)I" } : Jvm.MethodName)) ∈ lw_all := lw_g (lw_at lw_m4 157 rfl) rfl
theorem q927 : (Jvm.Cond.methodLink "CostStudioLaw" (152 : Nat) ({ cls := "CostStudioLaw", name := "state", desc := "(LCostStudio;II[J)I" } : Jvm.MethodName)) ∈ lw_all := lw_g (lw_at lw_m4 178 rfl) rfl
theorem q928 : (Jvm.Cond.static ({ cls := "CostStudioLaw", name := "state", desc := "(LCostStudio;II[J)I" } : Jvm.MethodName)) ∈ lw_all := lw_g (lw_at lw_m4 179 rfl) rfl
theorem q929 : (Jvm.Cond.codeWith ({ cls := "CostStudioLaw", name := "state", desc := "(LCostStudio;II[J)I" } : Jvm.MethodName) method_18_code (5 : Nat) (Option.some Jvm.ClassFile.FieldType.int) [((0 : Nat), (10 : Nat), (13 : Nat), (21 : Nat))]) ∈ lw_all := lw_g (lw_at lw_m4 180 rfl) rfl
theorem q930 : (Jvm.Cond.methodLink "CostStudioLaw" (71 : Nat) ({ cls := "CostStudio", name := "state", desc := "(II)C" } : Jvm.MethodName)) ∈ lw_all := lw_g (lw_at lw_m4 181 rfl) rfl
theorem q934 : (Jvm.Cond.methodLink "CostStudioLaw" (155 : Nat) ({ cls := "CostStudioLaw", name := "drift", desc := "(LCostStudio;II[J)I" } : Jvm.MethodName)) ∈ lw_all := lw_g (lw_at lw_m4 185 rfl) rfl
theorem q935 : (Jvm.Cond.static ({ cls := "CostStudioLaw", name := "drift", desc := "(LCostStudio;II[J)I" } : Jvm.MethodName)) ∈ lw_all := lw_g (lw_at lw_m4 186 rfl) rfl
theorem q936 : (Jvm.Cond.codeWith ({ cls := "CostStudioLaw", name := "drift", desc := "(LCostStudio;II[J)I" } : Jvm.MethodName) method_19_code (5 : Nat) (Option.some Jvm.ClassFile.FieldType.int) [((0 : Nat), (10 : Nat), (13 : Nat), (21 : Nat)), ((0 : Nat), (10 : Nat), (17 : Nat), (56 : Nat)), ((0 : Nat), (10 : Nat), (21 : Nat), (38 : Nat))]) ∈ lw_all := lw_g (lw_at lw_m4 187 rfl) rfl
theorem q937 : (Jvm.Cond.methodLink "CostStudioLaw" (75 : Nat) ({ cls := "CostStudio", name := "drift", desc := "(II)I" } : Jvm.MethodName)) ∈ lw_all := lw_g (lw_at lw_m4 188 rfl) rfl
theorem q941 : (Jvm.Cond.methodLink "CostStudioLaw" (162 : Nat) ({ cls := "CostStudioLaw", name := "approvedShare", desc := "(LCostStudio;[D)I" } : Jvm.MethodName)) ∈ lw_all := lw_g (lw_at lw_m4 192 rfl) rfl
theorem q942 : (Jvm.Cond.static ({ cls := "CostStudioLaw", name := "approvedShare", desc := "(LCostStudio;[D)I" } : Jvm.MethodName)) ∈ lw_all := lw_g (lw_at lw_m4 193 rfl) rfl
theorem q943 : (Jvm.Cond.codeWith ({ cls := "CostStudioLaw", name := "approvedShare", desc := "(LCostStudio;[D)I" } : Jvm.MethodName) method_20_code (3 : Nat) (Option.some Jvm.ClassFile.FieldType.int) [((0 : Nat), (8 : Nat), (11 : Nat), (82 : Nat))]) ∈ lw_all := lw_g (lw_at lw_m4 194 rfl) rfl
theorem q944 : (Jvm.Cond.classLink "CostStudioLaw" (82 : Nat) "java/lang/ArithmeticException") ∈ lw_all := lw_g (lw_at lw_m4 195 rfl) rfl
theorem q958 : (Jvm.Cond.methodLink "CostStudioLaw" (78 : Nat) ({ cls := "CostStudio", name := "approvedShare", desc := "()F" } : Jvm.MethodName)) ∈ lw_all := lw_g (lw_at lw_m4 209 rfl) rfl
theorem q968 : (Jvm.Cond.methodLink "CostStudioLaw" (166 : Nat) ({ cls := "CostStudioLaw", name := "meanTolerance", desc := "(LCostStudio;[D)I" } : Jvm.MethodName)) ∈ lw_all := lw_g (lw_at lw_m4 219 rfl) rfl
theorem q969 : (Jvm.Cond.static ({ cls := "CostStudioLaw", name := "meanTolerance", desc := "(LCostStudio;[D)I" } : Jvm.MethodName)) ∈ lw_all := lw_g (lw_at lw_m4 220 rfl) rfl
theorem q970 : (Jvm.Cond.codeWith ({ cls := "CostStudioLaw", name := "meanTolerance", desc := "(LCostStudio;[D)I" } : Jvm.MethodName) method_21_code (3 : Nat) (Option.some Jvm.ClassFile.FieldType.int) [((0 : Nat), (7 : Nat), (10 : Nat), (82 : Nat))]) ∈ lw_all := lw_g (lw_at lw_m4 221 rfl) rfl
theorem q971 : (Jvm.Cond.methodLink "CostStudioLaw" (84 : Nat) ({ cls := "CostStudio", name := "meanTolerance", desc := "()D" } : Jvm.MethodName)) ∈ lw_all := lw_g (lw_at lw_m4 222 rfl) rfl
theorem q984 : (Jvm.Cond.classLink "CostStudioLaw" (89 : Nat) "CostStudioModel") ∈ lw_all := lw_g (lw_at lw_m4 235 rfl) rfl
theorem q986 : (Jvm.Cond.methodLink "CostStudioLaw" (91 : Nat) ({ cls := "CostStudioModel", name := "<init>", desc := "()V" } : Jvm.MethodName)) ∈ lw_all := lw_g (lw_at lw_m4 237 rfl) rfl
theorem q1059 : (Jvm.Cond.methodLink "CostStudioLaw" (98 : Nat) ({ cls := "CostStudioModel", name := "thrown", desc := "()I" } : Jvm.MethodName)) ∈ lw_all := lw_g (lw_at lw_m5 70 rfl) rfl
theorem q1063 : (Jvm.Cond.methodLink "CostStudioLaw" (97 : Nat) ({ cls := "CostStudioModel", name := "addDriver", desc := "(I)I" } : Jvm.MethodName)) ∈ lw_all := lw_g (lw_at lw_m5 74 rfl) rfl
theorem q1070 : (Jvm.Cond.methodLink "CostStudioLaw" (104 : Nat) ({ cls := "CostStudioModel", name := "setDriver", desc := "(II)I" } : Jvm.MethodName)) ∈ lw_all := lw_g (lw_at lw_m5 81 rfl) rfl
theorem q1104 : (Jvm.Cond.methodLink "CostStudioLaw" (108 : Nat) ({ cls := "CostStudioModel", name := "driver", desc := "(III)I" } : Jvm.MethodName)) ∈ lw_all := lw_g (lw_at lw_m5 115 rfl) rfl
theorem q1119 : (Jvm.Cond.methodLink "CostStudioLaw" (112 : Nat) ({ cls := "CostStudioModel", name := "addLine", desc := "(CII)I" } : Jvm.MethodName)) ∈ lw_all := lw_g (lw_at lw_m5 130 rfl) rfl
theorem q1127 : (Jvm.Cond.methodLink "CostStudioLaw" (115 : Nat) ({ cls := "CostStudioModel", name := "addScenario", desc := "(I)I" } : Jvm.MethodName)) ∈ lw_all := lw_g (lw_at lw_m5 138 rfl) rfl
theorem q1131 : (Jvm.Cond.methodLink "CostStudioLaw" (119 : Nat) ({ cls := "CostStudioModel", name := "differ", desc := "(IIII)I" } : Jvm.MethodName)) ∈ lw_all := lw_g (lw_at lw_m5 142 rfl) rfl
theorem q1135 : (Jvm.Cond.methodLink "CostStudioLaw" (122 : Nat) ({ cls := "CostStudioModel", name := "number", desc := "(III)I" } : Jvm.MethodName)) ∈ lw_all := lw_g (lw_at lw_m5 146 rfl) rfl
theorem q1139 : (Jvm.Cond.methodLink "CostStudioLaw" (125 : Nat) ({ cls := "CostStudioModel", name := "numberByHand", desc := "(III)I" } : Jvm.MethodName)) ∈ lw_all := lw_g (lw_at lw_m5 150 rfl) rfl
theorem q1144 : (Jvm.Cond.methodLink "CostStudioLaw" (128 : Nat) ({ cls := "CostStudioModel", name := "year", desc := "(II)J" } : Jvm.MethodName)) ∈ lw_all := lw_g (lw_at lw_m5 155 rfl) rfl
theorem q1148 : (Jvm.Cond.methodLink "CostStudioLaw" (131 : Nat) ({ cls := "CostStudioModel", name := "effect", desc := "(IIII)I" } : Jvm.MethodName)) ∈ lw_all := lw_g (lw_at lw_m5 159 rfl) rfl
theorem q1152 : (Jvm.Cond.methodLink "CostStudioLaw" (134 : Nat) ({ cls := "CostStudioModel", name := "seek", desc := "(IIII)I" } : Jvm.MethodName)) ∈ lw_all := lw_g (lw_at lw_m5 163 rfl) rfl
theorem q1156 : (Jvm.Cond.methodLink "CostStudioLaw" (137 : Nat) ({ cls := "CostStudioModel", name := "actual", desc := "(III)I" } : Jvm.MethodName)) ∈ lw_all := lw_g (lw_at lw_m5 167 rfl) rfl
theorem q1162 : (Jvm.Cond.methodLink "CostStudioLaw" (140 : Nat) ({ cls := "CostStudioModel", name := "takeActual", desc := "(II)I" } : Jvm.MethodName)) ∈ lw_all := lw_g (lw_at lw_m5 173 rfl) rfl
theorem q1166 : (Jvm.Cond.methodLink "CostStudioLaw" (144 : Nat) ({ cls := "CostStudioModel", name := "pass", desc := "()I" } : Jvm.MethodName)) ∈ lw_all := lw_g (lw_at lw_m5 177 rfl) rfl
theorem q1170 : (Jvm.Cond.methodLink "CostStudioLaw" (148 : Nat) ({ cls := "CostStudioModel", name := "month", desc := "()I" } : Jvm.MethodName)) ∈ lw_all := lw_g (lw_at lw_m5 181 rfl) rfl
theorem q1174 : (Jvm.Cond.methodLink "CostStudioLaw" (151 : Nat) ({ cls := "CostStudioModel", name := "approve", desc := "(III)I" } : Jvm.MethodName)) ∈ lw_all := lw_g (lw_at lw_m5 185 rfl) rfl
theorem q1178 : (Jvm.Cond.methodLink "CostStudioLaw" (154 : Nat) ({ cls := "CostStudioModel", name := "state", desc := "(II)C" } : Jvm.MethodName)) ∈ lw_all := lw_g (lw_at lw_m5 189 rfl) rfl
theorem q1182 : (Jvm.Cond.methodLink "CostStudioLaw" (157 : Nat) ({ cls := "CostStudioModel", name := "drift", desc := "(II)I" } : Jvm.MethodName)) ∈ lw_all := lw_g (lw_at lw_m5 193 rfl) rfl
theorem q1186 : (Jvm.Cond.methodLink "CostStudioLaw" (161 : Nat) ({ cls := "CostStudioModel", name := "open", desc := "()I" } : Jvm.MethodName)) ∈ lw_all := lw_g (lw_at lw_m5 197 rfl) rfl
theorem q1194 : (Jvm.Cond.methodLink "CostStudioLaw" (165 : Nat) ({ cls := "CostStudioModel", name := "approvedShare", desc := "()F" } : Jvm.MethodName)) ∈ lw_all := lw_g (lw_at lw_m5 205 rfl) rfl
theorem q1198 : (Jvm.Cond.methodLink "CostStudioLaw" (168 : Nat) ({ cls := "CostStudioModel", name := "meanTolerance", desc := "()D" } : Jvm.MethodName)) ∈ lw_all := lw_g (lw_at lw_m5 209 rfl) rfl
/-! CostStudio -/
set_option maxRecDepth 100000
def RX1 : String := "CostStudio"
def TX1 : u_T := fun k => match k with
  | 0 => ("CostStudio", "drivers", "Ljava/util/List;", true)
  | 1 => ("CostStudio", "scenarios", "Ljava/util/List;", true)
  | 2 => ("CostStudio", "lines", "Ljava/util/List;", true)
  | 3 => ("CostStudio", "differences", "I", false)
  | _ => ("CostStudio", "month", "I", false)
def tyX1 : Nat → FieldType := fun k => match k with
  | 0 => .object "java/util/List"
  | 1 => .object "java/util/List"
  | 2 => .object "java/util/List"
  | 3 => .int
  | _ => .int
abbrev wsX10 : List Cond := u_ws RX1 TX1 5
theorem nmX1 : ∀ a, a < 5 → ∀ b, b < 5 → a ≠ b → (TX1 a).2.1 ≠ (TX1 b).2.1 := by decide +kernel
theorem tyX1_ok : ∀ k, k < 5 → parseFieldDescriptor (TX1 k).2.2.1 = some (tyX1 k) := by decide +kernel
abbrev cX1_init : ByteArray := prog_1_method_9_code
def yX1_init : MethodName := ⟨RX1, "<init>", "()V"⟩
def dkwX1_init_2 : List UInt8 := [183, 0, 60, 185, 0, 63, 2, 0, 87, 177]
abbrev dktX1_init_2 : List UInt8 := dkwX1_init_2 ++ []
def dkwX1_init_1 : List UInt8 := [181, 0, 52, 42, 187, 0, 45, 89, 183, 0, 47, 181, 0, 55, 42, 180, 0, 52, 187, 0, 58, 89, 1]
abbrev dktX1_init_1 : List UInt8 := dkwX1_init_1 ++ dktX1_init_2
def dkwX1_init_0 : List UInt8 := [42, 183, 0, 42, 42, 187, 0, 45, 89, 183, 0, 47, 181, 0, 48, 42, 187, 0, 45, 89, 183, 0, 47]
abbrev dktX1_init_0 : List UInt8 := dkwX1_init_0 ++ dktX1_init_1
theorem dksX1_init_0 : cX1_init.data.toList.drop 0 = dktX1_init_0 := by decide +kernel
theorem dksX1_init_1 : cX1_init.data.toList.drop 23 = dktX1_init_1 := dk_seg dksX1_init_0 23 rfl rfl
theorem dksX1_init_2 : cX1_init.data.toList.drop 46 = dktX1_init_2 := dk_seg dksX1_init_1 23 rfl rfl
theorem dX1_init_0 : decode cX1_init 0 = .ok (.aload_n 0, 1) := dk_42 (dk_at dksX1_init_0 0 rfl rfl)
theorem dX1_init_1 : decode cX1_init 1 = .ok (.invokespecial 42, 3) := dk_183 0 42 (dk_at dksX1_init_0 1 rfl rfl)
theorem dX1_init_4 : decode cX1_init 4 = .ok (.aload_n 0, 1) := dk_42 (dk_at dksX1_init_0 4 rfl rfl)
theorem dX1_init_5 : decode cX1_init 5 = .ok (.new 45, 3) := dk_187 0 45 (dk_at dksX1_init_0 5 rfl rfl)
theorem dX1_init_8 : decode cX1_init 8 = .ok (.dup, 1) := dk_89 (dk_at dksX1_init_0 8 rfl rfl)
theorem dX1_init_9 : decode cX1_init 9 = .ok (.invokespecial 47, 3) := dk_183 0 47 (dk_at dksX1_init_0 9 rfl rfl)
theorem dX1_init_12 : decode cX1_init 12 = .ok (.putfield 48, 3) := dk_181 0 48 (dk_at dksX1_init_0 12 rfl rfl)
theorem dX1_init_15 : decode cX1_init 15 = .ok (.aload_n 0, 1) := dk_42 (dk_at dksX1_init_0 15 rfl rfl)
theorem dX1_init_16 : decode cX1_init 16 = .ok (.new 45, 3) := dk_187 0 45 (dk_at dksX1_init_0 16 rfl rfl)
theorem dX1_init_19 : decode cX1_init 19 = .ok (.dup, 1) := dk_89 (dk_at dksX1_init_0 19 rfl rfl)
theorem dX1_init_20 : decode cX1_init 20 = .ok (.invokespecial 47, 3) := dk_183 0 47 (dk_at dksX1_init_0 20 rfl rfl)
theorem dX1_init_23 : decode cX1_init 23 = .ok (.putfield 52, 3) := dk_181 0 52 (dk_at dksX1_init_1 0 rfl rfl)
theorem dX1_init_26 : decode cX1_init 26 = .ok (.aload_n 0, 1) := dk_42 (dk_at dksX1_init_1 3 rfl rfl)
theorem dX1_init_27 : decode cX1_init 27 = .ok (.new 45, 3) := dk_187 0 45 (dk_at dksX1_init_1 4 rfl rfl)
theorem dX1_init_30 : decode cX1_init 30 = .ok (.dup, 1) := dk_89 (dk_at dksX1_init_1 7 rfl rfl)
theorem dX1_init_31 : decode cX1_init 31 = .ok (.invokespecial 47, 3) := dk_183 0 47 (dk_at dksX1_init_1 8 rfl rfl)
theorem dX1_init_34 : decode cX1_init 34 = .ok (.putfield 55, 3) := dk_181 0 55 (dk_at dksX1_init_1 11 rfl rfl)
theorem dX1_init_37 : decode cX1_init 37 = .ok (.aload_n 0, 1) := dk_42 (dk_at dksX1_init_1 14 rfl rfl)
theorem dX1_init_38 : decode cX1_init 38 = .ok (.getfield 52, 3) := dk_180 0 52 (dk_at dksX1_init_1 15 rfl rfl)
theorem dX1_init_41 : decode cX1_init 41 = .ok (.new 58, 3) := dk_187 0 58 (dk_at dksX1_init_1 18 rfl rfl)
theorem dX1_init_44 : decode cX1_init 44 = .ok (.dup, 1) := dk_89 (dk_at dksX1_init_1 21 rfl rfl)
theorem dX1_init_45 : decode cX1_init 45 = .ok (.aconst_null, 1) := dk_1 (dk_at dksX1_init_1 22 rfl rfl)
theorem dX1_init_46 : decode cX1_init 46 = .ok (.invokespecial 60, 3) := dk_183 0 60 (dk_at dksX1_init_2 0 rfl rfl)
theorem dX1_init_49 : decode cX1_init 49 = .ok (.invokeinterface 63 2, 5) := by decide +kernel
theorem dX1_init_54 : decode cX1_init 54 = .ok (.pop, 1) := dk_87 (dk_at dksX1_init_2 8 rfl rfl)
theorem dX1_init_55 : decode cX1_init 55 = .ok (.return_, 1) := dk_177 (dk_at dksX1_init_2 9 rfl rfl)
abbrev cX1_month : ByteArray := prog_1_method_37_code
def yX1_month : MethodName := ⟨RX1, "month", "()I"⟩
theorem dX1_month_0 : decode cX1_month 0 = .ok (.aload_n 0, 1) := by decide +kernel
theorem dX1_month_1 : decode cX1_month 1 = .ok (.getfield 264, 3) := by decide +kernel
theorem dX1_month_4 : decode cX1_month 4 = .ok (.ireturn, 1) := by decide +kernel
abbrev cX1_open : ByteArray := prog_1_method_42_code
def yX1_open : MethodName := ⟨RX1, "open", "()I"⟩
def dkwX1_open_2 : List UInt8 := [167, 255, 222, 27, 172]
abbrev dktX1_open_2 : List UInt8 := dkwX1_open_2 ++ []
def dkwX1_open_1 : List UInt8 := [185, 0, 222, 1, 0, 192, 0, 207, 78, 27, 45, 180, 0, 226, 153, 0, 7, 4, 167, 0, 4, 3, 96, 60]
abbrev dktX1_open_1 : List UInt8 := dkwX1_open_1 ++ dktX1_open_2
def dkwX1_open_0 : List UInt8 := [3, 60, 42, 182, 1, 15, 185, 0, 212, 1, 0, 77, 44, 185, 0, 216, 1, 0, 153, 0, 31, 44]
abbrev dktX1_open_0 : List UInt8 := dkwX1_open_0 ++ dktX1_open_1
theorem dksX1_open_0 : cX1_open.data.toList.drop 0 = dktX1_open_0 := by decide +kernel
theorem dksX1_open_1 : cX1_open.data.toList.drop 22 = dktX1_open_1 := dk_seg dksX1_open_0 22 rfl rfl
theorem dksX1_open_2 : cX1_open.data.toList.drop 46 = dktX1_open_2 := dk_seg dksX1_open_1 24 rfl rfl
theorem dX1_open_0 : decode cX1_open 0 = .ok (.iconst 0, 1) := dk_3 (dk_at dksX1_open_0 0 rfl rfl)
theorem dX1_open_1 : decode cX1_open 1 = .ok (.istore_n 1, 1) := dk_60 (dk_at dksX1_open_0 1 rfl rfl)
theorem dX1_open_2 : decode cX1_open 2 = .ok (.aload_n 0, 1) := dk_42 (dk_at dksX1_open_0 2 rfl rfl)
theorem dX1_open_3 : decode cX1_open 3 = .ok (.invokevirtual 271, 3) := dk_182 1 15 (dk_at dksX1_open_0 3 rfl rfl)
theorem dX1_open_6 : decode cX1_open 6 = .ok (.invokeinterface 212 1, 5) := by decide +kernel
theorem dX1_open_11 : decode cX1_open 11 = .ok (.astore_n 2, 1) := dk_77 (dk_at dksX1_open_0 11 rfl rfl)
theorem dX1_open_12 : decode cX1_open 12 = .ok (.aload_n 2, 1) := dk_44 (dk_at dksX1_open_0 12 rfl rfl)
theorem dX1_open_13 : decode cX1_open 13 = .ok (.invokeinterface 216 1, 5) := by decide +kernel
theorem dX1_open_18 : decode cX1_open 18 = .ok (.ifCond .eq 31, 3) := dk_153 0 31 (dk_at dksX1_open_0 18 rfl rfl)
theorem dX1_open_21 : decode cX1_open 21 = .ok (.aload_n 2, 1) := dk_44 (dk_at dksX1_open_0 21 rfl rfl)
theorem dX1_open_22 : decode cX1_open 22 = .ok (.invokeinterface 222 1, 5) := by decide +kernel
theorem dX1_open_27 : decode cX1_open 27 = .ok (.checkcast 207, 3) := dk_192 0 207 (dk_at dksX1_open_1 5 rfl rfl)
theorem dX1_open_30 : decode cX1_open 30 = .ok (.astore_n 3, 1) := dk_78 (dk_at dksX1_open_1 8 rfl rfl)
theorem dX1_open_31 : decode cX1_open 31 = .ok (.iload_n 1, 1) := dk_27 (dk_at dksX1_open_1 9 rfl rfl)
theorem dX1_open_32 : decode cX1_open 32 = .ok (.aload_n 3, 1) := dk_45 (dk_at dksX1_open_1 10 rfl rfl)
theorem dX1_open_33 : decode cX1_open 33 = .ok (.getfield 226, 3) := dk_180 0 226 (dk_at dksX1_open_1 11 rfl rfl)
theorem dX1_open_36 : decode cX1_open 36 = .ok (.ifCond .eq 7, 3) := dk_153 0 7 (dk_at dksX1_open_1 14 rfl rfl)
theorem dX1_open_39 : decode cX1_open 39 = .ok (.iconst 1, 1) := dk_4 (dk_at dksX1_open_1 17 rfl rfl)
theorem dX1_open_40 : decode cX1_open 40 = .ok (.goto 4, 3) := dk_167 0 4 (dk_at dksX1_open_1 18 rfl rfl)
theorem dX1_open_43 : decode cX1_open 43 = .ok (.iconst 0, 1) := dk_3 (dk_at dksX1_open_1 21 rfl rfl)
theorem dX1_open_44 : decode cX1_open 44 = .ok (.iadd, 1) := dk_96 (dk_at dksX1_open_1 22 rfl rfl)
theorem dX1_open_45 : decode cX1_open 45 = .ok (.istore_n 1, 1) := dk_60 (dk_at dksX1_open_1 23 rfl rfl)
theorem dX1_open_46 : decode cX1_open 46 = .ok (.goto (-34), 3) := dk_167 255 222 (dk_at dksX1_open_2 0 rfl rfl)
theorem dX1_open_49 : decode cX1_open 49 = .ok (.iload_n 1, 1) := dk_27 (dk_at dksX1_open_2 3 rfl rfl)
theorem dX1_open_50 : decode cX1_open 50 = .ok (.ireturn, 1) := dk_172 (dk_at dksX1_open_2 4 rfl rfl)
abbrev cX1_approvals : ByteArray := prog_1_method_41_code
def yX1_approvals : MethodName := ⟨RX1, "approvals", "()Ljava/util/List;"⟩
def dkwX1_approvals_3 : List UInt8 := [25, 7, 185, 0, 63, 2, 0, 87, 132, 6, 1, 167, 255, 225, 167, 255, 189, 43, 176]
abbrev dktX1_approvals_3 : List UInt8 := dkwX1_approvals_3 ++ []
def dkwX1_approvals_2 : List UInt8 := [3, 54, 6, 21, 6, 21, 5, 162, 0, 30, 25, 4, 21, 6, 50, 58, 7, 25, 7, 198, 0, 12, 43]
abbrev dktX1_approvals_2 : List UInt8 := dkwX1_approvals_2 ++ dktX1_approvals_3
def dkwX1_approvals_1 : List UInt8 := [153, 0, 64, 44, 185, 0, 222, 1, 0, 192, 0, 77, 78, 45, 180, 0, 202, 58, 4, 25, 4, 190, 54, 5]
abbrev dktX1_approvals_1 : List UInt8 := dkwX1_approvals_1 ++ dktX1_approvals_2
def dkwX1_approvals_0 : List UInt8 := [187, 0, 45, 89, 183, 0, 47, 76, 42, 180, 0, 55, 185, 0, 212, 1, 0, 77, 44, 185, 0, 216, 1, 0]
abbrev dktX1_approvals_0 : List UInt8 := dkwX1_approvals_0 ++ dktX1_approvals_1
theorem dksX1_approvals_0 : cX1_approvals.data.toList.drop 0 = dktX1_approvals_0 := by decide +kernel
theorem dksX1_approvals_1 : cX1_approvals.data.toList.drop 24 = dktX1_approvals_1 := dk_seg dksX1_approvals_0 24 rfl rfl
theorem dksX1_approvals_2 : cX1_approvals.data.toList.drop 48 = dktX1_approvals_2 := dk_seg dksX1_approvals_1 24 rfl rfl
theorem dksX1_approvals_3 : cX1_approvals.data.toList.drop 71 = dktX1_approvals_3 := dk_seg dksX1_approvals_2 23 rfl rfl
theorem dX1_approvals_0 : decode cX1_approvals 0 = .ok (.new 45, 3) := dk_187 0 45 (dk_at dksX1_approvals_0 0 rfl rfl)
theorem dX1_approvals_3 : decode cX1_approvals 3 = .ok (.dup, 1) := dk_89 (dk_at dksX1_approvals_0 3 rfl rfl)
theorem dX1_approvals_4 : decode cX1_approvals 4 = .ok (.invokespecial 47, 3) := dk_183 0 47 (dk_at dksX1_approvals_0 4 rfl rfl)
theorem dX1_approvals_7 : decode cX1_approvals 7 = .ok (.astore_n 1, 1) := dk_76 (dk_at dksX1_approvals_0 7 rfl rfl)
theorem dX1_approvals_8 : decode cX1_approvals 8 = .ok (.aload_n 0, 1) := dk_42 (dk_at dksX1_approvals_0 8 rfl rfl)
theorem dX1_approvals_9 : decode cX1_approvals 9 = .ok (.getfield 55, 3) := dk_180 0 55 (dk_at dksX1_approvals_0 9 rfl rfl)
theorem dX1_approvals_12 : decode cX1_approvals 12 = .ok (.invokeinterface 212 1, 5) := by decide +kernel
theorem dX1_approvals_17 : decode cX1_approvals 17 = .ok (.astore_n 2, 1) := dk_77 (dk_at dksX1_approvals_0 17 rfl rfl)
theorem dX1_approvals_18 : decode cX1_approvals 18 = .ok (.aload_n 2, 1) := dk_44 (dk_at dksX1_approvals_0 18 rfl rfl)
theorem dX1_approvals_19 : decode cX1_approvals 19 = .ok (.invokeinterface 216 1, 5) := by decide +kernel
theorem dX1_approvals_24 : decode cX1_approvals 24 = .ok (.ifCond .eq 64, 3) := dk_153 0 64 (dk_at dksX1_approvals_1 0 rfl rfl)
theorem dX1_approvals_27 : decode cX1_approvals 27 = .ok (.aload_n 2, 1) := dk_44 (dk_at dksX1_approvals_1 3 rfl rfl)
theorem dX1_approvals_28 : decode cX1_approvals 28 = .ok (.invokeinterface 222 1, 5) := by decide +kernel
theorem dX1_approvals_33 : decode cX1_approvals 33 = .ok (.checkcast 77, 3) := dk_192 0 77 (dk_at dksX1_approvals_1 9 rfl rfl)
theorem dX1_approvals_36 : decode cX1_approvals 36 = .ok (.astore_n 3, 1) := dk_78 (dk_at dksX1_approvals_1 12 rfl rfl)
theorem dX1_approvals_37 : decode cX1_approvals 37 = .ok (.aload_n 3, 1) := dk_45 (dk_at dksX1_approvals_1 13 rfl rfl)
theorem dX1_approvals_38 : decode cX1_approvals 38 = .ok (.getfield 202, 3) := dk_180 0 202 (dk_at dksX1_approvals_1 14 rfl rfl)
theorem dX1_approvals_41 : decode cX1_approvals 41 = .ok (.astore 4, 2) := dk_58 4 (dk_at dksX1_approvals_1 17 rfl rfl)
theorem dX1_approvals_43 : decode cX1_approvals 43 = .ok (.aload 4, 2) := dk_25 4 (dk_at dksX1_approvals_1 19 rfl rfl)
theorem dX1_approvals_45 : decode cX1_approvals 45 = .ok (.arraylength, 1) := dk_190 (dk_at dksX1_approvals_1 21 rfl rfl)
theorem dX1_approvals_46 : decode cX1_approvals 46 = .ok (.istore 5, 2) := dk_54 5 (dk_at dksX1_approvals_1 22 rfl rfl)
theorem dX1_approvals_48 : decode cX1_approvals 48 = .ok (.iconst 0, 1) := dk_3 (dk_at dksX1_approvals_2 0 rfl rfl)
theorem dX1_approvals_49 : decode cX1_approvals 49 = .ok (.istore 6, 2) := dk_54 6 (dk_at dksX1_approvals_2 1 rfl rfl)
theorem dX1_approvals_51 : decode cX1_approvals 51 = .ok (.iload 6, 2) := dk_21 6 (dk_at dksX1_approvals_2 3 rfl rfl)
theorem dX1_approvals_53 : decode cX1_approvals 53 = .ok (.iload 5, 2) := dk_21 5 (dk_at dksX1_approvals_2 5 rfl rfl)
theorem dX1_approvals_55 : decode cX1_approvals 55 = .ok (.if_icmp .ge 30, 3) := dk_162 0 30 (dk_at dksX1_approvals_2 7 rfl rfl)
theorem dX1_approvals_58 : decode cX1_approvals 58 = .ok (.aload 4, 2) := dk_25 4 (dk_at dksX1_approvals_2 10 rfl rfl)
theorem dX1_approvals_60 : decode cX1_approvals 60 = .ok (.iload 6, 2) := dk_21 6 (dk_at dksX1_approvals_2 12 rfl rfl)
theorem dX1_approvals_62 : decode cX1_approvals 62 = .ok (.aaload, 1) := dk_50 (dk_at dksX1_approvals_2 14 rfl rfl)
theorem dX1_approvals_63 : decode cX1_approvals 63 = .ok (.astore 7, 2) := dk_58 7 (dk_at dksX1_approvals_2 15 rfl rfl)
theorem dX1_approvals_65 : decode cX1_approvals 65 = .ok (.aload 7, 2) := dk_25 7 (dk_at dksX1_approvals_2 17 rfl rfl)
theorem dX1_approvals_67 : decode cX1_approvals 67 = .ok (.ifnull 12, 3) := dk_198 0 12 (dk_at dksX1_approvals_2 19 rfl rfl)
theorem dX1_approvals_70 : decode cX1_approvals 70 = .ok (.aload_n 1, 1) := dk_43 (dk_at dksX1_approvals_2 22 rfl rfl)
theorem dX1_approvals_71 : decode cX1_approvals 71 = .ok (.aload 7, 2) := dk_25 7 (dk_at dksX1_approvals_3 0 rfl rfl)
theorem dX1_approvals_73 : decode cX1_approvals 73 = .ok (.invokeinterface 63 2, 5) := by decide +kernel
theorem dX1_approvals_78 : decode cX1_approvals 78 = .ok (.pop, 1) := dk_87 (dk_at dksX1_approvals_3 7 rfl rfl)
theorem dX1_approvals_79 : decode cX1_approvals 79 = .ok (.iinc 6 1, 3) := dk_132 6 1 (dk_at dksX1_approvals_3 8 rfl rfl)
theorem dX1_approvals_82 : decode cX1_approvals 82 = .ok (.goto (-31), 3) := dk_167 255 225 (dk_at dksX1_approvals_3 11 rfl rfl)
theorem dX1_approvals_85 : decode cX1_approvals 85 = .ok (.goto (-67), 3) := dk_167 255 189 (dk_at dksX1_approvals_3 14 rfl rfl)
theorem dX1_approvals_88 : decode cX1_approvals 88 = .ok (.aload_n 1, 1) := dk_43 (dk_at dksX1_approvals_3 17 rfl rfl)
theorem dX1_approvals_89 : decode cX1_approvals 89 = .ok (.areturn, 1) := dk_176 (dk_at dksX1_approvals_3 18 rfl rfl)
abbrev cX1_addDriver : ByteArray := prog_1_method_14_code
def yX1_addDriver : MethodName := ⟨RX1, "addDriver", "(I)I"⟩
def dkwX1_addDriver_2 : List UInt8 := [180, 0, 48, 185, 0, 69, 1, 0, 4, 100, 172]
abbrev dktX1_addDriver_2 : List UInt8 := dkwX1_addDriver_2 ++ []
def dkwX1_addDriver_1 : List UInt8 := [167, 0, 4, 3, 184, 0, 91, 42, 180, 0, 48, 27, 184, 0, 95, 185, 0, 63, 2, 0, 87, 42]
abbrev dktX1_addDriver_1 : List UInt8 := dkwX1_addDriver_1 ++ dktX1_addDriver_2
def dkwX1_addDriver_0 : List UInt8 := [27, 3, 17, 39, 15, 184, 0, 87, 42, 180, 0, 48, 185, 0, 69, 1, 0, 16, 6, 162, 0, 7, 4]
abbrev dktX1_addDriver_0 : List UInt8 := dkwX1_addDriver_0 ++ dktX1_addDriver_1
theorem dksX1_addDriver_0 : cX1_addDriver.data.toList.drop 0 = dktX1_addDriver_0 := by decide +kernel
theorem dksX1_addDriver_1 : cX1_addDriver.data.toList.drop 23 = dktX1_addDriver_1 := dk_seg dksX1_addDriver_0 23 rfl rfl
theorem dksX1_addDriver_2 : cX1_addDriver.data.toList.drop 45 = dktX1_addDriver_2 := dk_seg dksX1_addDriver_1 22 rfl rfl
theorem dX1_addDriver_0 : decode cX1_addDriver 0 = .ok (.iload_n 1, 1) := dk_27 (dk_at dksX1_addDriver_0 0 rfl rfl)
theorem dX1_addDriver_1 : decode cX1_addDriver 1 = .ok (.iconst 0, 1) := dk_3 (dk_at dksX1_addDriver_0 1 rfl rfl)
theorem dX1_addDriver_2 : decode cX1_addDriver 2 = .ok (.sipush 9999, 3) := dk_17 39 15 (dk_at dksX1_addDriver_0 2 rfl rfl)
theorem dX1_addDriver_5 : decode cX1_addDriver 5 = .ok (.invokestatic 87, 3) := dk_184 0 87 (dk_at dksX1_addDriver_0 5 rfl rfl)
theorem dX1_addDriver_8 : decode cX1_addDriver 8 = .ok (.aload_n 0, 1) := dk_42 (dk_at dksX1_addDriver_0 8 rfl rfl)
theorem dX1_addDriver_9 : decode cX1_addDriver 9 = .ok (.getfield 48, 3) := dk_180 0 48 (dk_at dksX1_addDriver_0 9 rfl rfl)
theorem dX1_addDriver_12 : decode cX1_addDriver 12 = .ok (.invokeinterface 69 1, 5) := by decide +kernel
theorem dX1_addDriver_17 : decode cX1_addDriver 17 = .ok (.bipush 6, 2) := dk_16 6 (dk_at dksX1_addDriver_0 17 rfl rfl)
theorem dX1_addDriver_19 : decode cX1_addDriver 19 = .ok (.if_icmp .ge 7, 3) := dk_162 0 7 (dk_at dksX1_addDriver_0 19 rfl rfl)
theorem dX1_addDriver_22 : decode cX1_addDriver 22 = .ok (.iconst 1, 1) := dk_4 (dk_at dksX1_addDriver_0 22 rfl rfl)
theorem dX1_addDriver_23 : decode cX1_addDriver 23 = .ok (.goto 4, 3) := dk_167 0 4 (dk_at dksX1_addDriver_1 0 rfl rfl)
theorem dX1_addDriver_26 : decode cX1_addDriver 26 = .ok (.iconst 0, 1) := dk_3 (dk_at dksX1_addDriver_1 3 rfl rfl)
theorem dX1_addDriver_27 : decode cX1_addDriver 27 = .ok (.invokestatic 91, 3) := dk_184 0 91 (dk_at dksX1_addDriver_1 4 rfl rfl)
theorem dX1_addDriver_30 : decode cX1_addDriver 30 = .ok (.aload_n 0, 1) := dk_42 (dk_at dksX1_addDriver_1 7 rfl rfl)
theorem dX1_addDriver_31 : decode cX1_addDriver 31 = .ok (.getfield 48, 3) := dk_180 0 48 (dk_at dksX1_addDriver_1 8 rfl rfl)
theorem dX1_addDriver_34 : decode cX1_addDriver 34 = .ok (.iload_n 1, 1) := dk_27 (dk_at dksX1_addDriver_1 11 rfl rfl)
theorem dX1_addDriver_35 : decode cX1_addDriver 35 = .ok (.invokestatic 95, 3) := dk_184 0 95 (dk_at dksX1_addDriver_1 12 rfl rfl)
theorem dX1_addDriver_38 : decode cX1_addDriver 38 = .ok (.invokeinterface 63 2, 5) := by decide +kernel
theorem dX1_addDriver_43 : decode cX1_addDriver 43 = .ok (.pop, 1) := dk_87 (dk_at dksX1_addDriver_1 20 rfl rfl)
theorem dX1_addDriver_44 : decode cX1_addDriver 44 = .ok (.aload_n 0, 1) := dk_42 (dk_at dksX1_addDriver_1 21 rfl rfl)
theorem dX1_addDriver_45 : decode cX1_addDriver 45 = .ok (.getfield 48, 3) := dk_180 0 48 (dk_at dksX1_addDriver_2 0 rfl rfl)
theorem dX1_addDriver_48 : decode cX1_addDriver 48 = .ok (.invokeinterface 69 1, 5) := by decide +kernel
theorem dX1_addDriver_53 : decode cX1_addDriver 53 = .ok (.iconst 1, 1) := dk_4 (dk_at dksX1_addDriver_2 8 rfl rfl)
theorem dX1_addDriver_54 : decode cX1_addDriver 54 = .ok (.isub, 1) := dk_100 (dk_at dksX1_addDriver_2 9 rfl rfl)
theorem dX1_addDriver_55 : decode cX1_addDriver 55 = .ok (.ireturn, 1) := dk_172 (dk_at dksX1_addDriver_2 10 rfl rfl)
abbrev cX1_requireIn : ByteArray := prog_1_method_3_code
def yX1_requireIn : MethodName := ⟨RX1, "requireIn", "(III)V"⟩
def dkwX1_requireIn_0 : List UInt8 := [26, 27, 161, 0, 8, 26, 28, 164, 0, 11, 187, 0, 13, 89, 183, 0, 15, 191, 177]
abbrev dktX1_requireIn_0 : List UInt8 := dkwX1_requireIn_0 ++ []
theorem dksX1_requireIn_0 : cX1_requireIn.data.toList.drop 0 = dktX1_requireIn_0 := by decide +kernel
theorem dX1_requireIn_0 : decode cX1_requireIn 0 = .ok (.iload_n 0, 1) := dk_26 (dk_at dksX1_requireIn_0 0 rfl rfl)
theorem dX1_requireIn_1 : decode cX1_requireIn 1 = .ok (.iload_n 1, 1) := dk_27 (dk_at dksX1_requireIn_0 1 rfl rfl)
theorem dX1_requireIn_2 : decode cX1_requireIn 2 = .ok (.if_icmp .lt 8, 3) := dk_161 0 8 (dk_at dksX1_requireIn_0 2 rfl rfl)
theorem dX1_requireIn_5 : decode cX1_requireIn 5 = .ok (.iload_n 0, 1) := dk_26 (dk_at dksX1_requireIn_0 5 rfl rfl)
theorem dX1_requireIn_6 : decode cX1_requireIn 6 = .ok (.iload_n 2, 1) := dk_28 (dk_at dksX1_requireIn_0 6 rfl rfl)
theorem dX1_requireIn_7 : decode cX1_requireIn 7 = .ok (.if_icmp .le 11, 3) := dk_164 0 11 (dk_at dksX1_requireIn_0 7 rfl rfl)
theorem dX1_requireIn_10 : decode cX1_requireIn 10 = .ok (.new 13, 3) := dk_187 0 13 (dk_at dksX1_requireIn_0 10 rfl rfl)
theorem dX1_requireIn_13 : decode cX1_requireIn 13 = .ok (.dup, 1) := dk_89 (dk_at dksX1_requireIn_0 13 rfl rfl)
theorem dX1_requireIn_14 : decode cX1_requireIn 14 = .ok (.invokespecial 15, 3) := dk_183 0 15 (dk_at dksX1_requireIn_0 14 rfl rfl)
theorem dX1_requireIn_17 : decode cX1_requireIn 17 = .ok (.athrow, 1) := dk_191 (dk_at dksX1_requireIn_0 17 rfl rfl)
theorem dX1_requireIn_18 : decode cX1_requireIn 18 = .ok (.return_, 1) := dk_177 (dk_at dksX1_requireIn_0 18 rfl rfl)
abbrev cX1_requireState : ByteArray := prog_1_method_4_code
def yX1_requireState : MethodName := ⟨RX1, "requireState", "(Z)V"⟩
def dkwX1_requireState_0 : List UInt8 := [26, 154, 0, 11, 187, 0, 16, 89, 183, 0, 18, 191, 177]
abbrev dktX1_requireState_0 : List UInt8 := dkwX1_requireState_0 ++ []
theorem dksX1_requireState_0 : cX1_requireState.data.toList.drop 0 = dktX1_requireState_0 := by decide +kernel
theorem dX1_requireState_0 : decode cX1_requireState 0 = .ok (.iload_n 0, 1) := dk_26 (dk_at dksX1_requireState_0 0 rfl rfl)
theorem dX1_requireState_1 : decode cX1_requireState 1 = .ok (.ifCond .ne 11, 3) := dk_154 0 11 (dk_at dksX1_requireState_0 1 rfl rfl)
theorem dX1_requireState_4 : decode cX1_requireState 4 = .ok (.new 16, 3) := dk_187 0 16 (dk_at dksX1_requireState_0 4 rfl rfl)
theorem dX1_requireState_7 : decode cX1_requireState 7 = .ok (.dup, 1) := dk_89 (dk_at dksX1_requireState_0 7 rfl rfl)
theorem dX1_requireState_8 : decode cX1_requireState 8 = .ok (.invokespecial 18, 3) := dk_183 0 18 (dk_at dksX1_requireState_0 8 rfl rfl)
theorem dX1_requireState_11 : decode cX1_requireState 11 = .ok (.athrow, 1) := dk_191 (dk_at dksX1_requireState_0 11 rfl rfl)
theorem dX1_requireState_12 : decode cX1_requireState 12 = .ok (.return_, 1) := dk_177 (dk_at dksX1_requireState_0 12 rfl rfl)
abbrev cX1_setDriver : ByteArray := prog_1_method_29_code
def yX1_setDriver : MethodName := ⟨RX1, "setDriver", "(II)I"⟩
def dkwX1_setDriver_1 : List UInt8 := [185, 0, 191, 3, 0, 87, 42, 182, 0, 234, 172]
abbrev dktX1_setDriver_1 : List UInt8 := dkwX1_setDriver_1 ++ []
def dkwX1_setDriver_0 : List UInt8 := [42, 27, 182, 0, 182, 28, 3, 17, 39, 15, 184, 0, 87, 42, 180, 0, 48, 27, 28, 184, 0, 95]
abbrev dktX1_setDriver_0 : List UInt8 := dkwX1_setDriver_0 ++ dktX1_setDriver_1
theorem dksX1_setDriver_0 : cX1_setDriver.data.toList.drop 0 = dktX1_setDriver_0 := by decide +kernel
theorem dksX1_setDriver_1 : cX1_setDriver.data.toList.drop 22 = dktX1_setDriver_1 := dk_seg dksX1_setDriver_0 22 rfl rfl
theorem dX1_setDriver_0 : decode cX1_setDriver 0 = .ok (.aload_n 0, 1) := dk_42 (dk_at dksX1_setDriver_0 0 rfl rfl)
theorem dX1_setDriver_1 : decode cX1_setDriver 1 = .ok (.iload_n 1, 1) := dk_27 (dk_at dksX1_setDriver_0 1 rfl rfl)
theorem dX1_setDriver_2 : decode cX1_setDriver 2 = .ok (.invokevirtual 182, 3) := dk_182 0 182 (dk_at dksX1_setDriver_0 2 rfl rfl)
theorem dX1_setDriver_5 : decode cX1_setDriver 5 = .ok (.iload_n 2, 1) := dk_28 (dk_at dksX1_setDriver_0 5 rfl rfl)
theorem dX1_setDriver_6 : decode cX1_setDriver 6 = .ok (.iconst 0, 1) := dk_3 (dk_at dksX1_setDriver_0 6 rfl rfl)
theorem dX1_setDriver_7 : decode cX1_setDriver 7 = .ok (.sipush 9999, 3) := dk_17 39 15 (dk_at dksX1_setDriver_0 7 rfl rfl)
theorem dX1_setDriver_10 : decode cX1_setDriver 10 = .ok (.invokestatic 87, 3) := dk_184 0 87 (dk_at dksX1_setDriver_0 10 rfl rfl)
theorem dX1_setDriver_13 : decode cX1_setDriver 13 = .ok (.aload_n 0, 1) := dk_42 (dk_at dksX1_setDriver_0 13 rfl rfl)
theorem dX1_setDriver_14 : decode cX1_setDriver 14 = .ok (.getfield 48, 3) := dk_180 0 48 (dk_at dksX1_setDriver_0 14 rfl rfl)
theorem dX1_setDriver_17 : decode cX1_setDriver 17 = .ok (.iload_n 1, 1) := dk_27 (dk_at dksX1_setDriver_0 17 rfl rfl)
theorem dX1_setDriver_18 : decode cX1_setDriver 18 = .ok (.iload_n 2, 1) := dk_28 (dk_at dksX1_setDriver_0 18 rfl rfl)
theorem dX1_setDriver_19 : decode cX1_setDriver 19 = .ok (.invokestatic 95, 3) := dk_184 0 95 (dk_at dksX1_setDriver_0 19 rfl rfl)
theorem dX1_setDriver_22 : decode cX1_setDriver 22 = .ok (.invokeinterface 191 3, 5) := by decide +kernel
theorem dX1_setDriver_27 : decode cX1_setDriver 27 = .ok (.pop, 1) := dk_87 (dk_at dksX1_setDriver_1 5 rfl rfl)
theorem dX1_setDriver_28 : decode cX1_setDriver 28 = .ok (.aload_n 0, 1) := dk_42 (dk_at dksX1_setDriver_1 6 rfl rfl)
theorem dX1_setDriver_29 : decode cX1_setDriver 29 = .ok (.invokevirtual 234, 3) := dk_182 0 234 (dk_at dksX1_setDriver_1 7 rfl rfl)
theorem dX1_setDriver_32 : decode cX1_setDriver 32 = .ok (.ireturn, 1) := dk_172 (dk_at dksX1_setDriver_1 10 rfl rfl)
abbrev cX1_requireDriver : ByteArray := prog_1_method_11_code
def yX1_requireDriver : MethodName := ⟨RX1, "requireDriver", "(I)V"⟩
def dkwX1_requireDriver_0 : List UInt8 := [27, 42, 180, 0, 48, 185, 0, 69, 1, 0, 184, 0, 9, 177]
abbrev dktX1_requireDriver_0 : List UInt8 := dkwX1_requireDriver_0 ++ []
theorem dksX1_requireDriver_0 : cX1_requireDriver.data.toList.drop 0 = dktX1_requireDriver_0 := by decide +kernel
theorem dX1_requireDriver_0 : decode cX1_requireDriver 0 = .ok (.iload_n 1, 1) := dk_27 (dk_at dksX1_requireDriver_0 0 rfl rfl)
theorem dX1_requireDriver_1 : decode cX1_requireDriver 1 = .ok (.aload_n 0, 1) := dk_42 (dk_at dksX1_requireDriver_0 1 rfl rfl)
theorem dX1_requireDriver_2 : decode cX1_requireDriver 2 = .ok (.getfield 48, 3) := dk_180 0 48 (dk_at dksX1_requireDriver_0 2 rfl rfl)
theorem dX1_requireDriver_5 : decode cX1_requireDriver 5 = .ok (.invokeinterface 69 1, 5) := by decide +kernel
theorem dX1_requireDriver_10 : decode cX1_requireDriver 10 = .ok (.invokestatic 9, 3) := dk_184 0 9 (dk_at dksX1_requireDriver_0 10 rfl rfl)
theorem dX1_requireDriver_13 : decode cX1_requireDriver 13 = .ok (.return_, 1) := dk_177 (dk_at dksX1_requireDriver_0 13 rfl rfl)
abbrev cX1_requireIndex : ByteArray := prog_1_method_1_code
def yX1_requireIndex : MethodName := ⟨RX1, "requireIndex", "(II)V"⟩
def dkwX1_requireIndex_0 : List UInt8 := [26, 155, 0, 8, 26, 27, 161, 0, 11, 187, 0, 1, 89, 183, 0, 3, 191, 177]
abbrev dktX1_requireIndex_0 : List UInt8 := dkwX1_requireIndex_0 ++ []
theorem dksX1_requireIndex_0 : cX1_requireIndex.data.toList.drop 0 = dktX1_requireIndex_0 := by decide +kernel
theorem dX1_requireIndex_0 : decode cX1_requireIndex 0 = .ok (.iload_n 0, 1) := dk_26 (dk_at dksX1_requireIndex_0 0 rfl rfl)
theorem dX1_requireIndex_1 : decode cX1_requireIndex 1 = .ok (.ifCond .lt 8, 3) := dk_155 0 8 (dk_at dksX1_requireIndex_0 1 rfl rfl)
theorem dX1_requireIndex_4 : decode cX1_requireIndex 4 = .ok (.iload_n 0, 1) := dk_26 (dk_at dksX1_requireIndex_0 4 rfl rfl)
theorem dX1_requireIndex_5 : decode cX1_requireIndex 5 = .ok (.iload_n 1, 1) := dk_27 (dk_at dksX1_requireIndex_0 5 rfl rfl)
theorem dX1_requireIndex_6 : decode cX1_requireIndex 6 = .ok (.if_icmp .lt 11, 3) := dk_161 0 11 (dk_at dksX1_requireIndex_0 6 rfl rfl)
theorem dX1_requireIndex_9 : decode cX1_requireIndex 9 = .ok (.new 1, 3) := dk_187 0 1 (dk_at dksX1_requireIndex_0 9 rfl rfl)
theorem dX1_requireIndex_12 : decode cX1_requireIndex 12 = .ok (.dup, 1) := dk_89 (dk_at dksX1_requireIndex_0 12 rfl rfl)
theorem dX1_requireIndex_13 : decode cX1_requireIndex 13 = .ok (.invokespecial 3, 3) := dk_183 0 3 (dk_at dksX1_requireIndex_0 13 rfl rfl)
theorem dX1_requireIndex_16 : decode cX1_requireIndex 16 = .ok (.athrow, 1) := dk_191 (dk_at dksX1_requireIndex_0 16 rfl rfl)
theorem dX1_requireIndex_17 : decode cX1_requireIndex 17 = .ok (.return_, 1) := dk_177 (dk_at dksX1_requireIndex_0 17 rfl rfl)
abbrev cX1_reopen : ByteArray := prog_1_method_28_code
def yX1_reopen : MethodName := ⟨RX1, "reopen", "()I"⟩
def dkwX1_reopen_4 : List UInt8 := [167, 255, 199, 167, 255, 174, 27, 172]
abbrev dktX1_reopen_4 : List UInt8 := dkwX1_reopen_4 ++ []
def dkwX1_reopen_3 : List UInt8 := [182, 0, 230, 153, 0, 17, 45, 180, 0, 202, 21, 4, 50, 4, 181, 0, 226, 132, 1, 1, 132, 4, 1]
abbrev dktX1_reopen_3 : List UInt8 := dkwX1_reopen_3 ++ dktX1_reopen_4
def dkwX1_reopen_2 : List UInt8 := [21, 4, 50, 198, 0, 40, 45, 180, 0, 202, 21, 4, 50, 180, 0, 226, 154, 0, 27, 42, 45, 21, 4]
abbrev dktX1_reopen_2 : List UInt8 := dkwX1_reopen_2 ++ dktX1_reopen_3
def dkwX1_reopen_1 : List UInt8 := [185, 0, 222, 1, 0, 192, 0, 77, 78, 3, 54, 4, 21, 4, 16, 12, 162, 0, 56, 45, 180, 0, 202]
abbrev dktX1_reopen_1 : List UInt8 := dkwX1_reopen_1 ++ dktX1_reopen_2
def dkwX1_reopen_0 : List UInt8 := [3, 60, 42, 180, 0, 55, 185, 0, 212, 1, 0, 77, 44, 185, 0, 216, 1, 0, 153, 0, 79, 44]
abbrev dktX1_reopen_0 : List UInt8 := dkwX1_reopen_0 ++ dktX1_reopen_1
theorem dksX1_reopen_0 : cX1_reopen.data.toList.drop 0 = dktX1_reopen_0 := by decide +kernel
theorem dksX1_reopen_1 : cX1_reopen.data.toList.drop 22 = dktX1_reopen_1 := dk_seg dksX1_reopen_0 22 rfl rfl
theorem dksX1_reopen_2 : cX1_reopen.data.toList.drop 45 = dktX1_reopen_2 := dk_seg dksX1_reopen_1 23 rfl rfl
theorem dksX1_reopen_3 : cX1_reopen.data.toList.drop 68 = dktX1_reopen_3 := dk_seg dksX1_reopen_2 23 rfl rfl
theorem dksX1_reopen_4 : cX1_reopen.data.toList.drop 91 = dktX1_reopen_4 := dk_seg dksX1_reopen_3 23 rfl rfl
theorem dX1_reopen_0 : decode cX1_reopen 0 = .ok (.iconst 0, 1) := dk_3 (dk_at dksX1_reopen_0 0 rfl rfl)
theorem dX1_reopen_1 : decode cX1_reopen 1 = .ok (.istore_n 1, 1) := dk_60 (dk_at dksX1_reopen_0 1 rfl rfl)
theorem dX1_reopen_2 : decode cX1_reopen 2 = .ok (.aload_n 0, 1) := dk_42 (dk_at dksX1_reopen_0 2 rfl rfl)
theorem dX1_reopen_3 : decode cX1_reopen 3 = .ok (.getfield 55, 3) := dk_180 0 55 (dk_at dksX1_reopen_0 3 rfl rfl)
theorem dX1_reopen_6 : decode cX1_reopen 6 = .ok (.invokeinterface 212 1, 5) := by decide +kernel
theorem dX1_reopen_11 : decode cX1_reopen 11 = .ok (.astore_n 2, 1) := dk_77 (dk_at dksX1_reopen_0 11 rfl rfl)
theorem dX1_reopen_12 : decode cX1_reopen 12 = .ok (.aload_n 2, 1) := dk_44 (dk_at dksX1_reopen_0 12 rfl rfl)
theorem dX1_reopen_13 : decode cX1_reopen 13 = .ok (.invokeinterface 216 1, 5) := by decide +kernel
theorem dX1_reopen_18 : decode cX1_reopen 18 = .ok (.ifCond .eq 79, 3) := dk_153 0 79 (dk_at dksX1_reopen_0 18 rfl rfl)
theorem dX1_reopen_21 : decode cX1_reopen 21 = .ok (.aload_n 2, 1) := dk_44 (dk_at dksX1_reopen_0 21 rfl rfl)
theorem dX1_reopen_22 : decode cX1_reopen 22 = .ok (.invokeinterface 222 1, 5) := by decide +kernel
theorem dX1_reopen_27 : decode cX1_reopen 27 = .ok (.checkcast 77, 3) := dk_192 0 77 (dk_at dksX1_reopen_1 5 rfl rfl)
theorem dX1_reopen_30 : decode cX1_reopen 30 = .ok (.astore_n 3, 1) := dk_78 (dk_at dksX1_reopen_1 8 rfl rfl)
theorem dX1_reopen_31 : decode cX1_reopen 31 = .ok (.iconst 0, 1) := dk_3 (dk_at dksX1_reopen_1 9 rfl rfl)
theorem dX1_reopen_32 : decode cX1_reopen 32 = .ok (.istore 4, 2) := dk_54 4 (dk_at dksX1_reopen_1 10 rfl rfl)
theorem dX1_reopen_34 : decode cX1_reopen 34 = .ok (.iload 4, 2) := dk_21 4 (dk_at dksX1_reopen_1 12 rfl rfl)
theorem dX1_reopen_36 : decode cX1_reopen 36 = .ok (.bipush 12, 2) := dk_16 12 (dk_at dksX1_reopen_1 14 rfl rfl)
theorem dX1_reopen_38 : decode cX1_reopen 38 = .ok (.if_icmp .ge 56, 3) := dk_162 0 56 (dk_at dksX1_reopen_1 16 rfl rfl)
theorem dX1_reopen_41 : decode cX1_reopen 41 = .ok (.aload_n 3, 1) := dk_45 (dk_at dksX1_reopen_1 19 rfl rfl)
theorem dX1_reopen_42 : decode cX1_reopen 42 = .ok (.getfield 202, 3) := dk_180 0 202 (dk_at dksX1_reopen_1 20 rfl rfl)
theorem dX1_reopen_45 : decode cX1_reopen 45 = .ok (.iload 4, 2) := dk_21 4 (dk_at dksX1_reopen_2 0 rfl rfl)
theorem dX1_reopen_47 : decode cX1_reopen 47 = .ok (.aaload, 1) := dk_50 (dk_at dksX1_reopen_2 2 rfl rfl)
theorem dX1_reopen_48 : decode cX1_reopen 48 = .ok (.ifnull 40, 3) := dk_198 0 40 (dk_at dksX1_reopen_2 3 rfl rfl)
theorem dX1_reopen_51 : decode cX1_reopen 51 = .ok (.aload_n 3, 1) := dk_45 (dk_at dksX1_reopen_2 6 rfl rfl)
theorem dX1_reopen_52 : decode cX1_reopen 52 = .ok (.getfield 202, 3) := dk_180 0 202 (dk_at dksX1_reopen_2 7 rfl rfl)
theorem dX1_reopen_55 : decode cX1_reopen 55 = .ok (.iload 4, 2) := dk_21 4 (dk_at dksX1_reopen_2 10 rfl rfl)
theorem dX1_reopen_57 : decode cX1_reopen 57 = .ok (.aaload, 1) := dk_50 (dk_at dksX1_reopen_2 12 rfl rfl)
theorem dX1_reopen_58 : decode cX1_reopen 58 = .ok (.getfield 226, 3) := dk_180 0 226 (dk_at dksX1_reopen_2 13 rfl rfl)
theorem dX1_reopen_61 : decode cX1_reopen 61 = .ok (.ifCond .ne 27, 3) := dk_154 0 27 (dk_at dksX1_reopen_2 16 rfl rfl)
theorem dX1_reopen_64 : decode cX1_reopen 64 = .ok (.aload_n 0, 1) := dk_42 (dk_at dksX1_reopen_2 19 rfl rfl)
theorem dX1_reopen_65 : decode cX1_reopen 65 = .ok (.aload_n 3, 1) := dk_45 (dk_at dksX1_reopen_2 20 rfl rfl)
theorem dX1_reopen_66 : decode cX1_reopen 66 = .ok (.iload 4, 2) := dk_21 4 (dk_at dksX1_reopen_2 21 rfl rfl)
theorem dX1_reopen_68 : decode cX1_reopen 68 = .ok (.invokevirtual 230, 3) := dk_182 0 230 (dk_at dksX1_reopen_3 0 rfl rfl)
theorem dX1_reopen_71 : decode cX1_reopen 71 = .ok (.ifCond .eq 17, 3) := dk_153 0 17 (dk_at dksX1_reopen_3 3 rfl rfl)
theorem dX1_reopen_74 : decode cX1_reopen 74 = .ok (.aload_n 3, 1) := dk_45 (dk_at dksX1_reopen_3 6 rfl rfl)
theorem dX1_reopen_75 : decode cX1_reopen 75 = .ok (.getfield 202, 3) := dk_180 0 202 (dk_at dksX1_reopen_3 7 rfl rfl)
theorem dX1_reopen_78 : decode cX1_reopen 78 = .ok (.iload 4, 2) := dk_21 4 (dk_at dksX1_reopen_3 10 rfl rfl)
theorem dX1_reopen_80 : decode cX1_reopen 80 = .ok (.aaload, 1) := dk_50 (dk_at dksX1_reopen_3 12 rfl rfl)
theorem dX1_reopen_81 : decode cX1_reopen 81 = .ok (.iconst 1, 1) := dk_4 (dk_at dksX1_reopen_3 13 rfl rfl)
theorem dX1_reopen_82 : decode cX1_reopen 82 = .ok (.putfield 226, 3) := dk_181 0 226 (dk_at dksX1_reopen_3 14 rfl rfl)
theorem dX1_reopen_85 : decode cX1_reopen 85 = .ok (.iinc 1 1, 3) := dk_132 1 1 (dk_at dksX1_reopen_3 17 rfl rfl)
theorem dX1_reopen_88 : decode cX1_reopen 88 = .ok (.iinc 4 1, 3) := dk_132 4 1 (dk_at dksX1_reopen_3 20 rfl rfl)
theorem dX1_reopen_91 : decode cX1_reopen 91 = .ok (.goto (-57), 3) := dk_167 255 199 (dk_at dksX1_reopen_4 0 rfl rfl)
theorem dX1_reopen_94 : decode cX1_reopen 94 = .ok (.goto (-82), 3) := dk_167 255 174 (dk_at dksX1_reopen_4 3 rfl rfl)
theorem dX1_reopen_97 : decode cX1_reopen 97 = .ok (.iload_n 1, 1) := dk_27 (dk_at dksX1_reopen_4 6 rfl rfl)
theorem dX1_reopen_98 : decode cX1_reopen 98 = .ok (.ireturn, 1) := dk_172 (dk_at dksX1_reopen_4 7 rfl rfl)
abbrev cX1_hasDrifted : ByteArray := prog_1_method_27_code
def yX1_hasDrifted : MethodName := ⟨RX1, "hasDrifted", "(LCostStudio$Line;I)Z"⟩
def dkwX1_hasDrifted_1 : List UInt8 := [184, 0, 171, 45, 180, 0, 209, 133, 148, 158, 0, 7, 4, 167, 0, 4, 3, 172, 58, 4, 4, 172]
abbrev dktX1_hasDrifted_1 : List UInt8 := dkwX1_hasDrifted_1 ++ []
def dkwX1_hasDrifted_0 : List UInt8 := [43, 180, 0, 202, 28, 50, 78, 42, 42, 182, 0, 187, 43, 28, 182, 0, 145, 133, 45, 180, 0, 206, 133, 101]
abbrev dktX1_hasDrifted_0 : List UInt8 := dkwX1_hasDrifted_0 ++ dktX1_hasDrifted_1
theorem dksX1_hasDrifted_0 : cX1_hasDrifted.data.toList.drop 0 = dktX1_hasDrifted_0 := by decide +kernel
theorem dksX1_hasDrifted_1 : cX1_hasDrifted.data.toList.drop 24 = dktX1_hasDrifted_1 := dk_seg dksX1_hasDrifted_0 24 rfl rfl
theorem dX1_hasDrifted_0 : decode cX1_hasDrifted 0 = .ok (.aload_n 1, 1) := dk_43 (dk_at dksX1_hasDrifted_0 0 rfl rfl)
theorem dX1_hasDrifted_1 : decode cX1_hasDrifted 1 = .ok (.getfield 202, 3) := dk_180 0 202 (dk_at dksX1_hasDrifted_0 1 rfl rfl)
theorem dX1_hasDrifted_4 : decode cX1_hasDrifted 4 = .ok (.iload_n 2, 1) := dk_28 (dk_at dksX1_hasDrifted_0 4 rfl rfl)
theorem dX1_hasDrifted_5 : decode cX1_hasDrifted 5 = .ok (.aaload, 1) := dk_50 (dk_at dksX1_hasDrifted_0 5 rfl rfl)
theorem dX1_hasDrifted_6 : decode cX1_hasDrifted 6 = .ok (.astore_n 3, 1) := dk_78 (dk_at dksX1_hasDrifted_0 6 rfl rfl)
theorem dX1_hasDrifted_7 : decode cX1_hasDrifted 7 = .ok (.aload_n 0, 1) := dk_42 (dk_at dksX1_hasDrifted_0 7 rfl rfl)
theorem dX1_hasDrifted_8 : decode cX1_hasDrifted 8 = .ok (.aload_n 0, 1) := dk_42 (dk_at dksX1_hasDrifted_0 8 rfl rfl)
theorem dX1_hasDrifted_9 : decode cX1_hasDrifted 9 = .ok (.invokevirtual 187, 3) := dk_182 0 187 (dk_at dksX1_hasDrifted_0 9 rfl rfl)
theorem dX1_hasDrifted_12 : decode cX1_hasDrifted 12 = .ok (.aload_n 1, 1) := dk_43 (dk_at dksX1_hasDrifted_0 12 rfl rfl)
theorem dX1_hasDrifted_13 : decode cX1_hasDrifted 13 = .ok (.iload_n 2, 1) := dk_28 (dk_at dksX1_hasDrifted_0 13 rfl rfl)
theorem dX1_hasDrifted_14 : decode cX1_hasDrifted 14 = .ok (.invokevirtual 145, 3) := dk_182 0 145 (dk_at dksX1_hasDrifted_0 14 rfl rfl)
theorem dX1_hasDrifted_17 : decode cX1_hasDrifted 17 = .ok (.i2l, 1) := dk_133 (dk_at dksX1_hasDrifted_0 17 rfl rfl)
theorem dX1_hasDrifted_18 : decode cX1_hasDrifted 18 = .ok (.aload_n 3, 1) := dk_45 (dk_at dksX1_hasDrifted_0 18 rfl rfl)
theorem dX1_hasDrifted_19 : decode cX1_hasDrifted 19 = .ok (.getfield 206, 3) := dk_180 0 206 (dk_at dksX1_hasDrifted_0 19 rfl rfl)
theorem dX1_hasDrifted_22 : decode cX1_hasDrifted 22 = .ok (.i2l, 1) := dk_133 (dk_at dksX1_hasDrifted_0 22 rfl rfl)
theorem dX1_hasDrifted_23 : decode cX1_hasDrifted 23 = .ok (.lsub, 1) := dk_101 (dk_at dksX1_hasDrifted_0 23 rfl rfl)
theorem dX1_hasDrifted_24 : decode cX1_hasDrifted 24 = .ok (.invokestatic 171, 3) := dk_184 0 171 (dk_at dksX1_hasDrifted_1 0 rfl rfl)
theorem dX1_hasDrifted_27 : decode cX1_hasDrifted 27 = .ok (.aload_n 3, 1) := dk_45 (dk_at dksX1_hasDrifted_1 3 rfl rfl)
theorem dX1_hasDrifted_28 : decode cX1_hasDrifted 28 = .ok (.getfield 209, 3) := dk_180 0 209 (dk_at dksX1_hasDrifted_1 4 rfl rfl)
theorem dX1_hasDrifted_31 : decode cX1_hasDrifted 31 = .ok (.i2l, 1) := dk_133 (dk_at dksX1_hasDrifted_1 7 rfl rfl)
theorem dX1_hasDrifted_32 : decode cX1_hasDrifted 32 = .ok (.lcmp, 1) := dk_148 (dk_at dksX1_hasDrifted_1 8 rfl rfl)
theorem dX1_hasDrifted_33 : decode cX1_hasDrifted 33 = .ok (.ifCond .le 7, 3) := dk_158 0 7 (dk_at dksX1_hasDrifted_1 9 rfl rfl)
theorem dX1_hasDrifted_36 : decode cX1_hasDrifted 36 = .ok (.iconst 1, 1) := dk_4 (dk_at dksX1_hasDrifted_1 12 rfl rfl)
theorem dX1_hasDrifted_37 : decode cX1_hasDrifted 37 = .ok (.goto 4, 3) := dk_167 0 4 (dk_at dksX1_hasDrifted_1 13 rfl rfl)
theorem dX1_hasDrifted_40 : decode cX1_hasDrifted 40 = .ok (.iconst 0, 1) := dk_3 (dk_at dksX1_hasDrifted_1 16 rfl rfl)
theorem dX1_hasDrifted_41 : decode cX1_hasDrifted 41 = .ok (.ireturn, 1) := dk_172 (dk_at dksX1_hasDrifted_1 17 rfl rfl)
theorem dX1_hasDrifted_42 : decode cX1_hasDrifted 42 = .ok (.astore 4, 2) := dk_58 4 (dk_at dksX1_hasDrifted_1 18 rfl rfl)
theorem dX1_hasDrifted_44 : decode cX1_hasDrifted 44 = .ok (.iconst 1, 1) := dk_4 (dk_at dksX1_hasDrifted_1 20 rfl rfl)
theorem dX1_hasDrifted_45 : decode cX1_hasDrifted 45 = .ok (.ireturn, 1) := dk_172 (dk_at dksX1_hasDrifted_1 21 rfl rfl)
abbrev cX1_base : ByteArray := prog_1_method_17_code
def yX1_base : MethodName := ⟨RX1, "base", "()LCostStudio$View;"⟩
def dkwX1_base_0 : List UInt8 := [42, 42, 180, 0, 52, 3, 185, 0, 73, 2, 0, 192, 0, 58, 182, 0, 109, 176]
abbrev dktX1_base_0 : List UInt8 := dkwX1_base_0 ++ []
theorem dksX1_base_0 : cX1_base.data.toList.drop 0 = dktX1_base_0 := by decide +kernel
theorem dX1_base_0 : decode cX1_base 0 = .ok (.aload_n 0, 1) := dk_42 (dk_at dksX1_base_0 0 rfl rfl)
theorem dX1_base_1 : decode cX1_base 1 = .ok (.aload_n 0, 1) := dk_42 (dk_at dksX1_base_0 1 rfl rfl)
theorem dX1_base_2 : decode cX1_base 2 = .ok (.getfield 52, 3) := dk_180 0 52 (dk_at dksX1_base_0 2 rfl rfl)
theorem dX1_base_5 : decode cX1_base 5 = .ok (.iconst 0, 1) := dk_3 (dk_at dksX1_base_0 5 rfl rfl)
theorem dX1_base_6 : decode cX1_base 6 = .ok (.invokeinterface 73 2, 5) := by decide +kernel
theorem dX1_base_11 : decode cX1_base 11 = .ok (.checkcast 58, 3) := dk_192 0 58 (dk_at dksX1_base_0 11 rfl rfl)
theorem dX1_base_14 : decode cX1_base 14 = .ok (.invokevirtual 109, 3) := dk_182 0 109 (dk_at dksX1_base_0 14 rfl rfl)
theorem dX1_base_17 : decode cX1_base 17 = .ok (.areturn, 1) := dk_176 (dk_at dksX1_base_0 17 rfl rfl)
abbrev cX1_view : ByteArray := prog_1_method_16_code
def yX1_view : MethodName := ⟨RX1, "view", "(LCostStudio$Scenario;)LCostStudio$View;"⟩
def dkwX1_view_0 : List UInt8 := [42, 43, 16, 6, 182, 0, 105, 176]
abbrev dktX1_view_0 : List UInt8 := dkwX1_view_0 ++ []
theorem dksX1_view_0 : cX1_view.data.toList.drop 0 = dktX1_view_0 := by decide +kernel
theorem dX1_view_0 : decode cX1_view 0 = .ok (.aload_n 0, 1) := dk_42 (dk_at dksX1_view_0 0 rfl rfl)
theorem dX1_view_1 : decode cX1_view 1 = .ok (.aload_n 1, 1) := dk_43 (dk_at dksX1_view_0 1 rfl rfl)
theorem dX1_view_2 : decode cX1_view 2 = .ok (.bipush 6, 2) := dk_16 6 (dk_at dksX1_view_0 2 rfl rfl)
theorem dX1_view_4 : decode cX1_view 4 = .ok (.invokevirtual 105, 3) := dk_182 0 105 (dk_at dksX1_view_0 4 rfl rfl)
theorem dX1_view_7 : decode cX1_view 7 = .ok (.areturn, 1) := dk_176 (dk_at dksX1_view_0 7 rfl rfl)
abbrev cX1_view_2 : ByteArray := prog_1_method_15_code
def yX1_view_2 : MethodName := ⟨RX1, "view", "(LCostStudio$Scenario;I)LCostStudio$View;"⟩
def dkwX1_view_2_0 : List UInt8 := [42, 28, 43, 186, 0, 101, 0, 0, 176]
abbrev dktX1_view_2_0 : List UInt8 := dkwX1_view_2_0 ++ []
theorem dksX1_view_2_0 : cX1_view_2.data.toList.drop 0 = dktX1_view_2_0 := by decide +kernel
theorem dX1_view_2_0 : decode cX1_view_2 0 = .ok (.aload_n 0, 1) := dk_42 (dk_at dksX1_view_2_0 0 rfl rfl)
theorem dX1_view_2_1 : decode cX1_view_2 1 = .ok (.iload_n 2, 1) := dk_28 (dk_at dksX1_view_2_0 1 rfl rfl)
theorem dX1_view_2_2 : decode cX1_view_2 2 = .ok (.aload_n 1, 1) := dk_43 (dk_at dksX1_view_2_0 2 rfl rfl)
theorem dX1_view_2_3 : decode cX1_view_2 3 = .ok (.invokedynamic 101, 5) := by decide +kernel
theorem dX1_view_2_8 : decode cX1_view_2 8 = .ok (.areturn, 1) := dk_176 (dk_at dksX1_view_2_0 8 rfl rfl)
abbrev cX1_lambda_view_2 : ByteArray := prog_1_method_45_code
def yX1_lambda_view_2 : MethodName := ⟨RX1, "lambda$view$2", "(ILCostStudio$Scenario;II)I"⟩
def dkwX1_lambda_view_2_1 : List UInt8 := [21, 4, 182, 1, 27, 167, 0, 4, 3, 96, 172]
abbrev dktX1_lambda_view_2_1 : List UInt8 := dkwX1_lambda_view_2_1 ++ []
def dkwX1_lambda_view_2_0 : List UInt8 := [42, 180, 0, 48, 29, 185, 0, 73, 2, 0, 192, 0, 96, 182, 0, 116, 29, 27, 163, 0, 13, 44, 29]
abbrev dktX1_lambda_view_2_0 : List UInt8 := dkwX1_lambda_view_2_0 ++ dktX1_lambda_view_2_1
theorem dksX1_lambda_view_2_0 : cX1_lambda_view_2.data.toList.drop 0 = dktX1_lambda_view_2_0 := by decide +kernel
theorem dksX1_lambda_view_2_1 : cX1_lambda_view_2.data.toList.drop 23 = dktX1_lambda_view_2_1 := dk_seg dksX1_lambda_view_2_0 23 rfl rfl
theorem dX1_lambda_view_2_0 : decode cX1_lambda_view_2 0 = .ok (.aload_n 0, 1) := dk_42 (dk_at dksX1_lambda_view_2_0 0 rfl rfl)
theorem dX1_lambda_view_2_1 : decode cX1_lambda_view_2 1 = .ok (.getfield 48, 3) := dk_180 0 48 (dk_at dksX1_lambda_view_2_0 1 rfl rfl)
theorem dX1_lambda_view_2_4 : decode cX1_lambda_view_2 4 = .ok (.iload_n 3, 1) := dk_29 (dk_at dksX1_lambda_view_2_0 4 rfl rfl)
theorem dX1_lambda_view_2_5 : decode cX1_lambda_view_2 5 = .ok (.invokeinterface 73 2, 5) := by decide +kernel
theorem dX1_lambda_view_2_10 : decode cX1_lambda_view_2 10 = .ok (.checkcast 96, 3) := dk_192 0 96 (dk_at dksX1_lambda_view_2_0 10 rfl rfl)
theorem dX1_lambda_view_2_13 : decode cX1_lambda_view_2 13 = .ok (.invokevirtual 116, 3) := dk_182 0 116 (dk_at dksX1_lambda_view_2_0 13 rfl rfl)
theorem dX1_lambda_view_2_16 : decode cX1_lambda_view_2 16 = .ok (.iload_n 3, 1) := dk_29 (dk_at dksX1_lambda_view_2_0 16 rfl rfl)
theorem dX1_lambda_view_2_17 : decode cX1_lambda_view_2 17 = .ok (.iload_n 1, 1) := dk_27 (dk_at dksX1_lambda_view_2_0 17 rfl rfl)
theorem dX1_lambda_view_2_18 : decode cX1_lambda_view_2 18 = .ok (.if_icmp .gt 13, 3) := dk_163 0 13 (dk_at dksX1_lambda_view_2_0 18 rfl rfl)
theorem dX1_lambda_view_2_21 : decode cX1_lambda_view_2 21 = .ok (.aload_n 2, 1) := dk_44 (dk_at dksX1_lambda_view_2_0 21 rfl rfl)
theorem dX1_lambda_view_2_22 : decode cX1_lambda_view_2 22 = .ok (.iload_n 3, 1) := dk_29 (dk_at dksX1_lambda_view_2_0 22 rfl rfl)
theorem dX1_lambda_view_2_23 : decode cX1_lambda_view_2 23 = .ok (.iload 4, 2) := dk_21 4 (dk_at dksX1_lambda_view_2_1 0 rfl rfl)
theorem dX1_lambda_view_2_25 : decode cX1_lambda_view_2 25 = .ok (.invokevirtual 283, 3) := dk_182 1 27 (dk_at dksX1_lambda_view_2_1 2 rfl rfl)
theorem dX1_lambda_view_2_28 : decode cX1_lambda_view_2 28 = .ok (.goto 4, 3) := dk_167 0 4 (dk_at dksX1_lambda_view_2_1 5 rfl rfl)
theorem dX1_lambda_view_2_31 : decode cX1_lambda_view_2 31 = .ok (.iconst 0, 1) := dk_3 (dk_at dksX1_lambda_view_2_1 8 rfl rfl)
theorem dX1_lambda_view_2_32 : decode cX1_lambda_view_2 32 = .ok (.iadd, 1) := dk_96 (dk_at dksX1_lambda_view_2_1 9 rfl rfl)
theorem dX1_lambda_view_2_33 : decode cX1_lambda_view_2 33 = .ok (.ireturn, 1) := dk_172 (dk_at dksX1_lambda_view_2_1 10 rfl rfl)
abbrev cX1_find : ByteArray := prog_1_method_18_code
def yX1_find : MethodName := ⟨RX1, "find", "(LCostStudio$View;LCostStudio$Line;I)I"⟩
def dkwX1_find_5 : List UInt8 := [172]
abbrev dktX1_find_5 : List UInt8 := dkwX1_find_5 ++ []
def dkwX1_find_4 : List UInt8 := [180, 0, 149, 185, 0, 73, 2, 0, 192, 0, 77, 29, 182, 0, 145, 133, 185, 0, 136, 5, 0, 184, 0, 141]
abbrev dktX1_find_4 : List UInt8 := dkwX1_find_4 ++ dktX1_find_5
def dkwX1_find_3 : List UInt8 := [192, 0, 77, 29, 182, 0, 145, 54, 4, 44, 180, 0, 123, 21, 4, 133, 42, 43, 42, 180, 0, 55, 44]
abbrev dktX1_find_3 : List UInt8 := dkwX1_find_3 ++ dktX1_find_4
def dkwX1_find_2 : List UInt8 := [185, 0, 136, 5, 0, 184, 0, 141, 172, 42, 43, 42, 180, 0, 55, 44, 180, 0, 127, 185, 0, 73, 2, 0]
abbrev dktX1_find_2 : List UInt8 := dkwX1_find_2 ++ dktX1_find_3
def dkwX1_find_1 : List UInt8 := [16, 100, 160, 0, 29, 44, 180, 0, 123, 43, 44, 180, 0, 127, 29, 185, 0, 131, 3, 0, 133, 9]
abbrev dktX1_find_1 : List UInt8 := dkwX1_find_1 ++ dktX1_find_2
def dkwX1_find_0 : List UInt8 := [44, 180, 0, 112, 29, 50, 198, 0, 13, 44, 180, 0, 112, 29, 50, 182, 0, 116, 172, 44, 180, 0, 119]
abbrev dktX1_find_0 : List UInt8 := dkwX1_find_0 ++ dktX1_find_1
theorem dksX1_find_0 : cX1_find.data.toList.drop 0 = dktX1_find_0 := by decide +kernel
theorem dksX1_find_1 : cX1_find.data.toList.drop 23 = dktX1_find_1 := dk_seg dksX1_find_0 23 rfl rfl
theorem dksX1_find_2 : cX1_find.data.toList.drop 45 = dktX1_find_2 := dk_seg dksX1_find_1 22 rfl rfl
theorem dksX1_find_3 : cX1_find.data.toList.drop 69 = dktX1_find_3 := dk_seg dksX1_find_2 24 rfl rfl
theorem dksX1_find_4 : cX1_find.data.toList.drop 92 = dktX1_find_4 := dk_seg dksX1_find_3 23 rfl rfl
theorem dksX1_find_5 : cX1_find.data.toList.drop 116 = dktX1_find_5 := dk_seg dksX1_find_4 24 rfl rfl
theorem dX1_find_0 : decode cX1_find 0 = .ok (.aload_n 2, 1) := dk_44 (dk_at dksX1_find_0 0 rfl rfl)
theorem dX1_find_1 : decode cX1_find 1 = .ok (.getfield 112, 3) := dk_180 0 112 (dk_at dksX1_find_0 1 rfl rfl)
theorem dX1_find_4 : decode cX1_find 4 = .ok (.iload_n 3, 1) := dk_29 (dk_at dksX1_find_0 4 rfl rfl)
theorem dX1_find_5 : decode cX1_find 5 = .ok (.aaload, 1) := dk_50 (dk_at dksX1_find_0 5 rfl rfl)
theorem dX1_find_6 : decode cX1_find 6 = .ok (.ifnull 13, 3) := dk_198 0 13 (dk_at dksX1_find_0 6 rfl rfl)
theorem dX1_find_9 : decode cX1_find 9 = .ok (.aload_n 2, 1) := dk_44 (dk_at dksX1_find_0 9 rfl rfl)
theorem dX1_find_10 : decode cX1_find 10 = .ok (.getfield 112, 3) := dk_180 0 112 (dk_at dksX1_find_0 10 rfl rfl)
theorem dX1_find_13 : decode cX1_find 13 = .ok (.iload_n 3, 1) := dk_29 (dk_at dksX1_find_0 13 rfl rfl)
theorem dX1_find_14 : decode cX1_find 14 = .ok (.aaload, 1) := dk_50 (dk_at dksX1_find_0 14 rfl rfl)
theorem dX1_find_15 : decode cX1_find 15 = .ok (.invokevirtual 116, 3) := dk_182 0 116 (dk_at dksX1_find_0 15 rfl rfl)
theorem dX1_find_18 : decode cX1_find 18 = .ok (.ireturn, 1) := dk_172 (dk_at dksX1_find_0 18 rfl rfl)
theorem dX1_find_19 : decode cX1_find 19 = .ok (.aload_n 2, 1) := dk_44 (dk_at dksX1_find_0 19 rfl rfl)
theorem dX1_find_20 : decode cX1_find 20 = .ok (.getfield 119, 3) := dk_180 0 119 (dk_at dksX1_find_0 20 rfl rfl)
theorem dX1_find_23 : decode cX1_find 23 = .ok (.bipush 100, 2) := dk_16 100 (dk_at dksX1_find_1 0 rfl rfl)
theorem dX1_find_25 : decode cX1_find 25 = .ok (.if_icmp .ne 29, 3) := dk_160 0 29 (dk_at dksX1_find_1 2 rfl rfl)
theorem dX1_find_28 : decode cX1_find 28 = .ok (.aload_n 2, 1) := dk_44 (dk_at dksX1_find_1 5 rfl rfl)
theorem dX1_find_29 : decode cX1_find 29 = .ok (.getfield 123, 3) := dk_180 0 123 (dk_at dksX1_find_1 6 rfl rfl)
theorem dX1_find_32 : decode cX1_find 32 = .ok (.aload_n 1, 1) := dk_43 (dk_at dksX1_find_1 9 rfl rfl)
theorem dX1_find_33 : decode cX1_find 33 = .ok (.aload_n 2, 1) := dk_44 (dk_at dksX1_find_1 10 rfl rfl)
theorem dX1_find_34 : decode cX1_find 34 = .ok (.getfield 127, 3) := dk_180 0 127 (dk_at dksX1_find_1 11 rfl rfl)
theorem dX1_find_37 : decode cX1_find 37 = .ok (.iload_n 3, 1) := dk_29 (dk_at dksX1_find_1 14 rfl rfl)
theorem dX1_find_38 : decode cX1_find 38 = .ok (.invokeinterface 131 3, 5) := by decide +kernel
theorem dX1_find_43 : decode cX1_find 43 = .ok (.i2l, 1) := dk_133 (dk_at dksX1_find_1 20 rfl rfl)
theorem dX1_find_44 : decode cX1_find 44 = .ok (.lconst 0, 1) := dk_9 (dk_at dksX1_find_1 21 rfl rfl)
theorem dX1_find_45 : decode cX1_find 45 = .ok (.invokeinterface 136 5, 5) := by decide +kernel
theorem dX1_find_50 : decode cX1_find 50 = .ok (.invokestatic 141, 3) := dk_184 0 141 (dk_at dksX1_find_2 5 rfl rfl)
theorem dX1_find_53 : decode cX1_find 53 = .ok (.ireturn, 1) := dk_172 (dk_at dksX1_find_2 8 rfl rfl)
theorem dX1_find_54 : decode cX1_find 54 = .ok (.aload_n 0, 1) := dk_42 (dk_at dksX1_find_2 9 rfl rfl)
theorem dX1_find_55 : decode cX1_find 55 = .ok (.aload_n 1, 1) := dk_43 (dk_at dksX1_find_2 10 rfl rfl)
theorem dX1_find_56 : decode cX1_find 56 = .ok (.aload_n 0, 1) := dk_42 (dk_at dksX1_find_2 11 rfl rfl)
theorem dX1_find_57 : decode cX1_find 57 = .ok (.getfield 55, 3) := dk_180 0 55 (dk_at dksX1_find_2 12 rfl rfl)
theorem dX1_find_60 : decode cX1_find 60 = .ok (.aload_n 2, 1) := dk_44 (dk_at dksX1_find_2 15 rfl rfl)
theorem dX1_find_61 : decode cX1_find 61 = .ok (.getfield 127, 3) := dk_180 0 127 (dk_at dksX1_find_2 16 rfl rfl)
theorem dX1_find_64 : decode cX1_find 64 = .ok (.invokeinterface 73 2, 5) := by decide +kernel
theorem dX1_find_69 : decode cX1_find 69 = .ok (.checkcast 77, 3) := dk_192 0 77 (dk_at dksX1_find_3 0 rfl rfl)
theorem dX1_find_72 : decode cX1_find 72 = .ok (.iload_n 3, 1) := dk_29 (dk_at dksX1_find_3 3 rfl rfl)
theorem dX1_find_73 : decode cX1_find 73 = .ok (.invokevirtual 145, 3) := dk_182 0 145 (dk_at dksX1_find_3 4 rfl rfl)
theorem dX1_find_76 : decode cX1_find 76 = .ok (.istore 4, 2) := dk_54 4 (dk_at dksX1_find_3 7 rfl rfl)
theorem dX1_find_78 : decode cX1_find 78 = .ok (.aload_n 2, 1) := dk_44 (dk_at dksX1_find_3 9 rfl rfl)
theorem dX1_find_79 : decode cX1_find 79 = .ok (.getfield 123, 3) := dk_180 0 123 (dk_at dksX1_find_3 10 rfl rfl)
theorem dX1_find_82 : decode cX1_find 82 = .ok (.iload 4, 2) := dk_21 4 (dk_at dksX1_find_3 13 rfl rfl)
theorem dX1_find_84 : decode cX1_find 84 = .ok (.i2l, 1) := dk_133 (dk_at dksX1_find_3 15 rfl rfl)
theorem dX1_find_85 : decode cX1_find 85 = .ok (.aload_n 0, 1) := dk_42 (dk_at dksX1_find_3 16 rfl rfl)
theorem dX1_find_86 : decode cX1_find 86 = .ok (.aload_n 1, 1) := dk_43 (dk_at dksX1_find_3 17 rfl rfl)
theorem dX1_find_87 : decode cX1_find 87 = .ok (.aload_n 0, 1) := dk_42 (dk_at dksX1_find_3 18 rfl rfl)
theorem dX1_find_88 : decode cX1_find 88 = .ok (.getfield 55, 3) := dk_180 0 55 (dk_at dksX1_find_3 19 rfl rfl)
theorem dX1_find_91 : decode cX1_find 91 = .ok (.aload_n 2, 1) := dk_44 (dk_at dksX1_find_3 22 rfl rfl)
theorem dX1_find_92 : decode cX1_find 92 = .ok (.getfield 149, 3) := dk_180 0 149 (dk_at dksX1_find_4 0 rfl rfl)
theorem dX1_find_95 : decode cX1_find 95 = .ok (.invokeinterface 73 2, 5) := by decide +kernel
theorem dX1_find_100 : decode cX1_find 100 = .ok (.checkcast 77, 3) := dk_192 0 77 (dk_at dksX1_find_4 8 rfl rfl)
theorem dX1_find_103 : decode cX1_find 103 = .ok (.iload_n 3, 1) := dk_29 (dk_at dksX1_find_4 11 rfl rfl)
theorem dX1_find_104 : decode cX1_find 104 = .ok (.invokevirtual 145, 3) := dk_182 0 145 (dk_at dksX1_find_4 12 rfl rfl)
theorem dX1_find_107 : decode cX1_find 107 = .ok (.i2l, 1) := dk_133 (dk_at dksX1_find_4 15 rfl rfl)
theorem dX1_find_108 : decode cX1_find 108 = .ok (.invokeinterface 136 5, 5) := by decide +kernel
theorem dX1_find_113 : decode cX1_find 113 = .ok (.invokestatic 141, 3) := dk_184 0 141 (dk_at dksX1_find_4 21 rfl rfl)
theorem dX1_find_116 : decode cX1_find 116 = .ok (.ireturn, 1) := dk_172 (dk_at dksX1_find_5 0 rfl rfl)
abbrev cX1_checked : ByteArray := prog_1_method_6_code
def yX1_checked : MethodName := ⟨RX1, "checked", "(J)I"⟩
def dkwX1_checked_1 : List UInt8 := [187, 0, 29, 89, 183, 0, 31, 191, 30, 136, 172]
abbrev dktX1_checked_1 : List UInt8 := dkwX1_checked_1 ++ []
def dkwX1_checked_0 : List UInt8 := [30, 20, 0, 22, 148, 158, 0, 11, 187, 0, 24, 89, 183, 0, 26, 191, 30, 20, 0, 27, 148, 156, 0, 11]
abbrev dktX1_checked_0 : List UInt8 := dkwX1_checked_0 ++ dktX1_checked_1
theorem dksX1_checked_0 : cX1_checked.data.toList.drop 0 = dktX1_checked_0 := by decide +kernel
theorem dksX1_checked_1 : cX1_checked.data.toList.drop 24 = dktX1_checked_1 := dk_seg dksX1_checked_0 24 rfl rfl
theorem dX1_checked_0 : decode cX1_checked 0 = .ok (.lload_n 0, 1) := dk_30 (dk_at dksX1_checked_0 0 rfl rfl)
theorem dX1_checked_1 : decode cX1_checked 1 = .ok (.ldc2_w 22, 3) := dk_20 0 22 (dk_at dksX1_checked_0 1 rfl rfl)
theorem dX1_checked_4 : decode cX1_checked 4 = .ok (.lcmp, 1) := dk_148 (dk_at dksX1_checked_0 4 rfl rfl)
theorem dX1_checked_5 : decode cX1_checked 5 = .ok (.ifCond .le 11, 3) := dk_158 0 11 (dk_at dksX1_checked_0 5 rfl rfl)
theorem dX1_checked_8 : decode cX1_checked 8 = .ok (.new 24, 3) := dk_187 0 24 (dk_at dksX1_checked_0 8 rfl rfl)
theorem dX1_checked_11 : decode cX1_checked 11 = .ok (.dup, 1) := dk_89 (dk_at dksX1_checked_0 11 rfl rfl)
theorem dX1_checked_12 : decode cX1_checked 12 = .ok (.invokespecial 26, 3) := dk_183 0 26 (dk_at dksX1_checked_0 12 rfl rfl)
theorem dX1_checked_15 : decode cX1_checked 15 = .ok (.athrow, 1) := dk_191 (dk_at dksX1_checked_0 15 rfl rfl)
theorem dX1_checked_16 : decode cX1_checked 16 = .ok (.lload_n 0, 1) := dk_30 (dk_at dksX1_checked_0 16 rfl rfl)
theorem dX1_checked_17 : decode cX1_checked 17 = .ok (.ldc2_w 27, 3) := dk_20 0 27 (dk_at dksX1_checked_0 17 rfl rfl)
theorem dX1_checked_20 : decode cX1_checked 20 = .ok (.lcmp, 1) := dk_148 (dk_at dksX1_checked_0 20 rfl rfl)
theorem dX1_checked_21 : decode cX1_checked 21 = .ok (.ifCond .ge 11, 3) := dk_156 0 11 (dk_at dksX1_checked_0 21 rfl rfl)
theorem dX1_checked_24 : decode cX1_checked 24 = .ok (.new 29, 3) := dk_187 0 29 (dk_at dksX1_checked_1 0 rfl rfl)
theorem dX1_checked_27 : decode cX1_checked 27 = .ok (.dup, 1) := dk_89 (dk_at dksX1_checked_1 3 rfl rfl)
theorem dX1_checked_28 : decode cX1_checked 28 = .ok (.invokespecial 31, 3) := dk_183 0 31 (dk_at dksX1_checked_1 4 rfl rfl)
theorem dX1_checked_31 : decode cX1_checked 31 = .ok (.athrow, 1) := dk_191 (dk_at dksX1_checked_1 7 rfl rfl)
theorem dX1_checked_32 : decode cX1_checked 32 = .ok (.lload_n 0, 1) := dk_30 (dk_at dksX1_checked_1 8 rfl rfl)
theorem dX1_checked_33 : decode cX1_checked 33 = .ok (.l2i, 1) := dk_136 (dk_at dksX1_checked_1 9 rfl rfl)
theorem dX1_checked_34 : decode cX1_checked 34 = .ok (.ireturn, 1) := dk_172 (dk_at dksX1_checked_1 10 rfl rfl)
abbrev cX1_driver : ByteArray := prog_1_method_30_code
def yX1_driver : MethodName := ⟨RX1, "driver", "(III)I"⟩
def dkwX1_driver_1 : List UInt8 := [185, 0, 131, 3, 0, 172]
abbrev dktX1_driver_1 : List UInt8 := dkwX1_driver_1 ++ []
def dkwX1_driver_0 : List UInt8 := [42, 27, 182, 0, 157, 58, 4, 42, 28, 182, 0, 182, 29, 184, 0, 83, 42, 25, 4, 182, 0, 109, 28, 29]
abbrev dktX1_driver_0 : List UInt8 := dkwX1_driver_0 ++ dktX1_driver_1
theorem dksX1_driver_0 : cX1_driver.data.toList.drop 0 = dktX1_driver_0 := by decide +kernel
theorem dksX1_driver_1 : cX1_driver.data.toList.drop 24 = dktX1_driver_1 := dk_seg dksX1_driver_0 24 rfl rfl
theorem dX1_driver_0 : decode cX1_driver 0 = .ok (.aload_n 0, 1) := dk_42 (dk_at dksX1_driver_0 0 rfl rfl)
theorem dX1_driver_1 : decode cX1_driver 1 = .ok (.iload_n 1, 1) := dk_27 (dk_at dksX1_driver_0 1 rfl rfl)
theorem dX1_driver_2 : decode cX1_driver 2 = .ok (.invokevirtual 157, 3) := dk_182 0 157 (dk_at dksX1_driver_0 2 rfl rfl)
theorem dX1_driver_5 : decode cX1_driver 5 = .ok (.astore 4, 2) := dk_58 4 (dk_at dksX1_driver_0 5 rfl rfl)
theorem dX1_driver_7 : decode cX1_driver 7 = .ok (.aload_n 0, 1) := dk_42 (dk_at dksX1_driver_0 7 rfl rfl)
theorem dX1_driver_8 : decode cX1_driver 8 = .ok (.iload_n 2, 1) := dk_28 (dk_at dksX1_driver_0 8 rfl rfl)
theorem dX1_driver_9 : decode cX1_driver 9 = .ok (.invokevirtual 182, 3) := dk_182 0 182 (dk_at dksX1_driver_0 9 rfl rfl)
theorem dX1_driver_12 : decode cX1_driver 12 = .ok (.iload_n 3, 1) := dk_29 (dk_at dksX1_driver_0 12 rfl rfl)
theorem dX1_driver_13 : decode cX1_driver 13 = .ok (.invokestatic 83, 3) := dk_184 0 83 (dk_at dksX1_driver_0 13 rfl rfl)
theorem dX1_driver_16 : decode cX1_driver 16 = .ok (.aload_n 0, 1) := dk_42 (dk_at dksX1_driver_0 16 rfl rfl)
theorem dX1_driver_17 : decode cX1_driver 17 = .ok (.aload 4, 2) := dk_25 4 (dk_at dksX1_driver_0 17 rfl rfl)
theorem dX1_driver_19 : decode cX1_driver 19 = .ok (.invokevirtual 109, 3) := dk_182 0 109 (dk_at dksX1_driver_0 19 rfl rfl)
theorem dX1_driver_22 : decode cX1_driver 22 = .ok (.iload_n 2, 1) := dk_28 (dk_at dksX1_driver_0 22 rfl rfl)
theorem dX1_driver_23 : decode cX1_driver 23 = .ok (.iload_n 3, 1) := dk_29 (dk_at dksX1_driver_0 23 rfl rfl)
theorem dX1_driver_24 : decode cX1_driver 24 = .ok (.invokeinterface 131 3, 5) := by decide +kernel
theorem dX1_driver_29 : decode cX1_driver 29 = .ok (.ireturn, 1) := dk_172 (dk_at dksX1_driver_1 5 rfl rfl)
abbrev cX1_scenarioAt : ByteArray := prog_1_method_10_code
def yX1_scenarioAt : MethodName := ⟨RX1, "scenarioAt", "(I)LCostStudio$Scenario;"⟩
def dkwX1_scenarioAt_1 : List UInt8 := [192, 0, 58, 176]
abbrev dktX1_scenarioAt_1 : List UInt8 := dkwX1_scenarioAt_1 ++ []
def dkwX1_scenarioAt_0 : List UInt8 := [27, 42, 180, 0, 52, 185, 0, 69, 1, 0, 184, 0, 9, 42, 180, 0, 52, 27, 185, 0, 73, 2, 0]
abbrev dktX1_scenarioAt_0 : List UInt8 := dkwX1_scenarioAt_0 ++ dktX1_scenarioAt_1
theorem dksX1_scenarioAt_0 : cX1_scenarioAt.data.toList.drop 0 = dktX1_scenarioAt_0 := by decide +kernel
theorem dksX1_scenarioAt_1 : cX1_scenarioAt.data.toList.drop 23 = dktX1_scenarioAt_1 := dk_seg dksX1_scenarioAt_0 23 rfl rfl
theorem dX1_scenarioAt_0 : decode cX1_scenarioAt 0 = .ok (.iload_n 1, 1) := dk_27 (dk_at dksX1_scenarioAt_0 0 rfl rfl)
theorem dX1_scenarioAt_1 : decode cX1_scenarioAt 1 = .ok (.aload_n 0, 1) := dk_42 (dk_at dksX1_scenarioAt_0 1 rfl rfl)
theorem dX1_scenarioAt_2 : decode cX1_scenarioAt 2 = .ok (.getfield 52, 3) := dk_180 0 52 (dk_at dksX1_scenarioAt_0 2 rfl rfl)
theorem dX1_scenarioAt_5 : decode cX1_scenarioAt 5 = .ok (.invokeinterface 69 1, 5) := by decide +kernel
theorem dX1_scenarioAt_10 : decode cX1_scenarioAt 10 = .ok (.invokestatic 9, 3) := dk_184 0 9 (dk_at dksX1_scenarioAt_0 10 rfl rfl)
theorem dX1_scenarioAt_13 : decode cX1_scenarioAt 13 = .ok (.aload_n 0, 1) := dk_42 (dk_at dksX1_scenarioAt_0 13 rfl rfl)
theorem dX1_scenarioAt_14 : decode cX1_scenarioAt 14 = .ok (.getfield 52, 3) := dk_180 0 52 (dk_at dksX1_scenarioAt_0 14 rfl rfl)
theorem dX1_scenarioAt_17 : decode cX1_scenarioAt 17 = .ok (.iload_n 1, 1) := dk_27 (dk_at dksX1_scenarioAt_0 17 rfl rfl)
theorem dX1_scenarioAt_18 : decode cX1_scenarioAt 18 = .ok (.invokeinterface 73 2, 5) := by decide +kernel
theorem dX1_scenarioAt_23 : decode cX1_scenarioAt 23 = .ok (.checkcast 58, 3) := dk_192 0 58 (dk_at dksX1_scenarioAt_1 0 rfl rfl)
theorem dX1_scenarioAt_26 : decode cX1_scenarioAt 26 = .ok (.areturn, 1) := dk_176 (dk_at dksX1_scenarioAt_1 3 rfl rfl)
abbrev cX1_requireMonth : ByteArray := prog_1_method_2_code
def yX1_requireMonth : MethodName := ⟨RX1, "requireMonth", "(I)V"⟩
def dkwX1_requireMonth_0 : List UInt8 := [26, 16, 12, 184, 0, 9, 177]
abbrev dktX1_requireMonth_0 : List UInt8 := dkwX1_requireMonth_0 ++ []
theorem dksX1_requireMonth_0 : cX1_requireMonth.data.toList.drop 0 = dktX1_requireMonth_0 := by decide +kernel
theorem dX1_requireMonth_0 : decode cX1_requireMonth 0 = .ok (.iload_n 0, 1) := dk_26 (dk_at dksX1_requireMonth_0 0 rfl rfl)
theorem dX1_requireMonth_1 : decode cX1_requireMonth 1 = .ok (.bipush 12, 2) := dk_16 12 (dk_at dksX1_requireMonth_0 1 rfl rfl)
theorem dX1_requireMonth_3 : decode cX1_requireMonth 3 = .ok (.invokestatic 9, 3) := dk_184 0 9 (dk_at dksX1_requireMonth_0 3 rfl rfl)
theorem dX1_requireMonth_6 : decode cX1_requireMonth 6 = .ok (.return_, 1) := dk_177 (dk_at dksX1_requireMonth_0 6 rfl rfl)
abbrev cX1_addLine : ByteArray := prog_1_method_31_code
def yX1_addLine : MethodName := ⟨RX1, "addLine", "(CII)I"⟩
def dkwX1_addLine_5 : List UInt8 := [185, 0, 69, 1, 0, 4, 100, 172]
abbrev dktX1_addLine_5 : List UInt8 := dkwX1_addLine_5 ++ []
def dkwX1_addLine_4 : List UInt8 := [185, 0, 69, 1, 0, 27, 28, 29, 183, 0, 248, 185, 0, 63, 2, 0, 87, 42, 180, 0, 55]
abbrev dktX1_addLine_4 : List UInt8 := dkwX1_addLine_4 ++ dktX1_addLine_5
def dkwX1_addLine_3 : List UInt8 := [162, 0, 7, 4, 167, 0, 4, 3, 184, 0, 91, 42, 180, 0, 55, 187, 0, 77, 89, 42, 180, 0, 55]
abbrev dktX1_addLine_3 : List UInt8 := dkwX1_addLine_3 ++ dktX1_addLine_4
def dkwX1_addLine_2 : List UInt8 := [180, 0, 55, 185, 0, 69, 1, 0, 184, 0, 9, 42, 180, 0, 55, 185, 0, 69, 1, 0, 16, 10]
abbrev dktX1_addLine_2 : List UInt8 := dkwX1_addLine_2 ++ dktX1_addLine_3
def dkwX1_addLine_1 : List UInt8 := [28, 182, 0, 182, 167, 0, 29, 28, 42, 180, 0, 55, 185, 0, 69, 1, 0, 184, 0, 9, 29, 42]
abbrev dktX1_addLine_1 : List UInt8 := dkwX1_addLine_1 ++ dktX1_addLine_2
def dkwX1_addLine_0 : List UInt8 := [18, 237, 27, 182, 0, 239, 3, 18, 237, 182, 0, 245, 4, 100, 184, 0, 87, 27, 16, 100, 160, 0, 11, 42]
abbrev dktX1_addLine_0 : List UInt8 := dkwX1_addLine_0 ++ dktX1_addLine_1
theorem dksX1_addLine_0 : cX1_addLine.data.toList.drop 0 = dktX1_addLine_0 := by decide +kernel
theorem dksX1_addLine_1 : cX1_addLine.data.toList.drop 24 = dktX1_addLine_1 := dk_seg dksX1_addLine_0 24 rfl rfl
theorem dksX1_addLine_2 : cX1_addLine.data.toList.drop 46 = dktX1_addLine_2 := dk_seg dksX1_addLine_1 22 rfl rfl
theorem dksX1_addLine_3 : cX1_addLine.data.toList.drop 68 = dktX1_addLine_3 := dk_seg dksX1_addLine_2 22 rfl rfl
theorem dksX1_addLine_4 : cX1_addLine.data.toList.drop 91 = dktX1_addLine_4 := dk_seg dksX1_addLine_3 23 rfl rfl
theorem dksX1_addLine_5 : cX1_addLine.data.toList.drop 112 = dktX1_addLine_5 := dk_seg dksX1_addLine_4 21 rfl rfl
theorem dX1_addLine_0 : decode cX1_addLine 0 = .ok (.ldc 237, 2) := dk_18 237 (dk_at dksX1_addLine_0 0 rfl rfl)
theorem dX1_addLine_2 : decode cX1_addLine 2 = .ok (.iload_n 1, 1) := dk_27 (dk_at dksX1_addLine_0 2 rfl rfl)
theorem dX1_addLine_3 : decode cX1_addLine 3 = .ok (.invokevirtual 239, 3) := dk_182 0 239 (dk_at dksX1_addLine_0 3 rfl rfl)
theorem dX1_addLine_6 : decode cX1_addLine 6 = .ok (.iconst 0, 1) := dk_3 (dk_at dksX1_addLine_0 6 rfl rfl)
theorem dX1_addLine_7 : decode cX1_addLine 7 = .ok (.ldc 237, 2) := dk_18 237 (dk_at dksX1_addLine_0 7 rfl rfl)
theorem dX1_addLine_9 : decode cX1_addLine 9 = .ok (.invokevirtual 245, 3) := dk_182 0 245 (dk_at dksX1_addLine_0 9 rfl rfl)
theorem dX1_addLine_12 : decode cX1_addLine 12 = .ok (.iconst 1, 1) := dk_4 (dk_at dksX1_addLine_0 12 rfl rfl)
theorem dX1_addLine_13 : decode cX1_addLine 13 = .ok (.isub, 1) := dk_100 (dk_at dksX1_addLine_0 13 rfl rfl)
theorem dX1_addLine_14 : decode cX1_addLine 14 = .ok (.invokestatic 87, 3) := dk_184 0 87 (dk_at dksX1_addLine_0 14 rfl rfl)
theorem dX1_addLine_17 : decode cX1_addLine 17 = .ok (.iload_n 1, 1) := dk_27 (dk_at dksX1_addLine_0 17 rfl rfl)
theorem dX1_addLine_18 : decode cX1_addLine 18 = .ok (.bipush 100, 2) := dk_16 100 (dk_at dksX1_addLine_0 18 rfl rfl)
theorem dX1_addLine_20 : decode cX1_addLine 20 = .ok (.if_icmp .ne 11, 3) := dk_160 0 11 (dk_at dksX1_addLine_0 20 rfl rfl)
theorem dX1_addLine_23 : decode cX1_addLine 23 = .ok (.aload_n 0, 1) := dk_42 (dk_at dksX1_addLine_0 23 rfl rfl)
theorem dX1_addLine_24 : decode cX1_addLine 24 = .ok (.iload_n 2, 1) := dk_28 (dk_at dksX1_addLine_1 0 rfl rfl)
theorem dX1_addLine_25 : decode cX1_addLine 25 = .ok (.invokevirtual 182, 3) := dk_182 0 182 (dk_at dksX1_addLine_1 1 rfl rfl)
theorem dX1_addLine_28 : decode cX1_addLine 28 = .ok (.goto 29, 3) := dk_167 0 29 (dk_at dksX1_addLine_1 4 rfl rfl)
theorem dX1_addLine_31 : decode cX1_addLine 31 = .ok (.iload_n 2, 1) := dk_28 (dk_at dksX1_addLine_1 7 rfl rfl)
theorem dX1_addLine_32 : decode cX1_addLine 32 = .ok (.aload_n 0, 1) := dk_42 (dk_at dksX1_addLine_1 8 rfl rfl)
theorem dX1_addLine_33 : decode cX1_addLine 33 = .ok (.getfield 55, 3) := dk_180 0 55 (dk_at dksX1_addLine_1 9 rfl rfl)
theorem dX1_addLine_36 : decode cX1_addLine 36 = .ok (.invokeinterface 69 1, 5) := by decide +kernel
theorem dX1_addLine_41 : decode cX1_addLine 41 = .ok (.invokestatic 9, 3) := dk_184 0 9 (dk_at dksX1_addLine_1 17 rfl rfl)
theorem dX1_addLine_44 : decode cX1_addLine 44 = .ok (.iload_n 3, 1) := dk_29 (dk_at dksX1_addLine_1 20 rfl rfl)
theorem dX1_addLine_45 : decode cX1_addLine 45 = .ok (.aload_n 0, 1) := dk_42 (dk_at dksX1_addLine_1 21 rfl rfl)
theorem dX1_addLine_46 : decode cX1_addLine 46 = .ok (.getfield 55, 3) := dk_180 0 55 (dk_at dksX1_addLine_2 0 rfl rfl)
theorem dX1_addLine_49 : decode cX1_addLine 49 = .ok (.invokeinterface 69 1, 5) := by decide +kernel
theorem dX1_addLine_54 : decode cX1_addLine 54 = .ok (.invokestatic 9, 3) := dk_184 0 9 (dk_at dksX1_addLine_2 8 rfl rfl)
theorem dX1_addLine_57 : decode cX1_addLine 57 = .ok (.aload_n 0, 1) := dk_42 (dk_at dksX1_addLine_2 11 rfl rfl)
theorem dX1_addLine_58 : decode cX1_addLine 58 = .ok (.getfield 55, 3) := dk_180 0 55 (dk_at dksX1_addLine_2 12 rfl rfl)
theorem dX1_addLine_61 : decode cX1_addLine 61 = .ok (.invokeinterface 69 1, 5) := by decide +kernel
theorem dX1_addLine_66 : decode cX1_addLine 66 = .ok (.bipush 10, 2) := dk_16 10 (dk_at dksX1_addLine_2 20 rfl rfl)
theorem dX1_addLine_68 : decode cX1_addLine 68 = .ok (.if_icmp .ge 7, 3) := dk_162 0 7 (dk_at dksX1_addLine_3 0 rfl rfl)
theorem dX1_addLine_71 : decode cX1_addLine 71 = .ok (.iconst 1, 1) := dk_4 (dk_at dksX1_addLine_3 3 rfl rfl)
theorem dX1_addLine_72 : decode cX1_addLine 72 = .ok (.goto 4, 3) := dk_167 0 4 (dk_at dksX1_addLine_3 4 rfl rfl)
theorem dX1_addLine_75 : decode cX1_addLine 75 = .ok (.iconst 0, 1) := dk_3 (dk_at dksX1_addLine_3 7 rfl rfl)
theorem dX1_addLine_76 : decode cX1_addLine 76 = .ok (.invokestatic 91, 3) := dk_184 0 91 (dk_at dksX1_addLine_3 8 rfl rfl)
theorem dX1_addLine_79 : decode cX1_addLine 79 = .ok (.aload_n 0, 1) := dk_42 (dk_at dksX1_addLine_3 11 rfl rfl)
theorem dX1_addLine_80 : decode cX1_addLine 80 = .ok (.getfield 55, 3) := dk_180 0 55 (dk_at dksX1_addLine_3 12 rfl rfl)
theorem dX1_addLine_83 : decode cX1_addLine 83 = .ok (.new 77, 3) := dk_187 0 77 (dk_at dksX1_addLine_3 15 rfl rfl)
theorem dX1_addLine_86 : decode cX1_addLine 86 = .ok (.dup, 1) := dk_89 (dk_at dksX1_addLine_3 18 rfl rfl)
theorem dX1_addLine_87 : decode cX1_addLine 87 = .ok (.aload_n 0, 1) := dk_42 (dk_at dksX1_addLine_3 19 rfl rfl)
theorem dX1_addLine_88 : decode cX1_addLine 88 = .ok (.getfield 55, 3) := dk_180 0 55 (dk_at dksX1_addLine_3 20 rfl rfl)
theorem dX1_addLine_91 : decode cX1_addLine 91 = .ok (.invokeinterface 69 1, 5) := by decide +kernel
theorem dX1_addLine_96 : decode cX1_addLine 96 = .ok (.iload_n 1, 1) := dk_27 (dk_at dksX1_addLine_4 5 rfl rfl)
theorem dX1_addLine_97 : decode cX1_addLine 97 = .ok (.iload_n 2, 1) := dk_28 (dk_at dksX1_addLine_4 6 rfl rfl)
theorem dX1_addLine_98 : decode cX1_addLine 98 = .ok (.iload_n 3, 1) := dk_29 (dk_at dksX1_addLine_4 7 rfl rfl)
theorem dX1_addLine_99 : decode cX1_addLine 99 = .ok (.invokespecial 248, 3) := dk_183 0 248 (dk_at dksX1_addLine_4 8 rfl rfl)
theorem dX1_addLine_102 : decode cX1_addLine 102 = .ok (.invokeinterface 63 2, 5) := by decide +kernel
theorem dX1_addLine_107 : decode cX1_addLine 107 = .ok (.pop, 1) := dk_87 (dk_at dksX1_addLine_4 16 rfl rfl)
theorem dX1_addLine_108 : decode cX1_addLine 108 = .ok (.aload_n 0, 1) := dk_42 (dk_at dksX1_addLine_4 17 rfl rfl)
theorem dX1_addLine_109 : decode cX1_addLine 109 = .ok (.getfield 55, 3) := dk_180 0 55 (dk_at dksX1_addLine_4 18 rfl rfl)
theorem dX1_addLine_112 : decode cX1_addLine 112 = .ok (.invokeinterface 69 1, 5) := by decide +kernel
theorem dX1_addLine_117 : decode cX1_addLine 117 = .ok (.iconst 1, 1) := dk_4 (dk_at dksX1_addLine_5 5 rfl rfl)
theorem dX1_addLine_118 : decode cX1_addLine 118 = .ok (.isub, 1) := dk_100 (dk_at dksX1_addLine_5 6 rfl rfl)
theorem dX1_addLine_119 : decode cX1_addLine 119 = .ok (.ireturn, 1) := dk_172 (dk_at dksX1_addLine_5 7 rfl rfl)
abbrev cX1_formula : ByteArray := prog_1_method_8_code
def yX1_formula : MethodName := ⟨RX1, "formula", "(C)LCostStudio$Formula;"⟩
def dkwX1_formula_2 : List UInt8 := [186, 0, 34, 0, 0, 176, 186, 0, 38, 0, 0, 176, 27, 186, 0, 39, 0, 0, 176]
abbrev dktX1_formula_2 : List UInt8 := dkwX1_formula_2 ++ []
def dkwX1_formula_1 : List UInt8 := [171, 0, 0, 0, 0, 0, 39, 0, 0, 0, 2, 0, 0, 0, 100, 0, 0, 0, 27, 0, 0, 0, 112, 0, 0, 0, 33]
abbrev dktX1_formula_1 : List UInt8 := dkwX1_formula_1 ++ dktX1_formula_2
def dkwX1_formula_0 : List UInt8 := [26, 16, 109, 160, 0, 7, 2, 167, 0, 4, 4, 60, 26]
abbrev dktX1_formula_0 : List UInt8 := dkwX1_formula_0 ++ dktX1_formula_1
theorem dksX1_formula_0 : cX1_formula.data.toList.drop 0 = dktX1_formula_0 := by decide +kernel
theorem dksX1_formula_1 : cX1_formula.data.toList.drop 13 = dktX1_formula_1 := dk_seg dksX1_formula_0 13 rfl rfl
theorem dksX1_formula_2 : cX1_formula.data.toList.drop 40 = dktX1_formula_2 := dk_seg dksX1_formula_1 27 rfl rfl
theorem dX1_formula_0 : decode cX1_formula 0 = .ok (.iload_n 0, 1) := dk_26 (dk_at dksX1_formula_0 0 rfl rfl)
theorem dX1_formula_1 : decode cX1_formula 1 = .ok (.bipush 109, 2) := dk_16 109 (dk_at dksX1_formula_0 1 rfl rfl)
theorem dX1_formula_3 : decode cX1_formula 3 = .ok (.if_icmp .ne 7, 3) := dk_160 0 7 (dk_at dksX1_formula_0 3 rfl rfl)
theorem dX1_formula_6 : decode cX1_formula 6 = .ok (.iconst (-1), 1) := dk_2 (dk_at dksX1_formula_0 6 rfl rfl)
theorem dX1_formula_7 : decode cX1_formula 7 = .ok (.goto 4, 3) := dk_167 0 4 (dk_at dksX1_formula_0 7 rfl rfl)
theorem dX1_formula_10 : decode cX1_formula 10 = .ok (.iconst 1, 1) := dk_4 (dk_at dksX1_formula_0 10 rfl rfl)
theorem dX1_formula_11 : decode cX1_formula 11 = .ok (.istore_n 1, 1) := dk_60 (dk_at dksX1_formula_0 11 rfl rfl)
theorem dX1_formula_12 : decode cX1_formula 12 = .ok (.iload_n 0, 1) := dk_26 (dk_at dksX1_formula_0 12 rfl rfl)
theorem dX1_formula_13 : decode cX1_formula 13 = .ok (.lookupswitch 39 #[(100, 27), (112, 33)], 27) := by decide +kernel
theorem dX1_formula_40 : decode cX1_formula 40 = .ok (.invokedynamic 34, 5) := by decide +kernel
theorem dX1_formula_45 : decode cX1_formula 45 = .ok (.areturn, 1) := dk_176 (dk_at dksX1_formula_2 5 rfl rfl)
theorem dX1_formula_46 : decode cX1_formula 46 = .ok (.invokedynamic 38, 5) := by decide +kernel
theorem dX1_formula_51 : decode cX1_formula 51 = .ok (.areturn, 1) := dk_176 (dk_at dksX1_formula_2 11 rfl rfl)
theorem dX1_formula_52 : decode cX1_formula 52 = .ok (.iload_n 1, 1) := dk_27 (dk_at dksX1_formula_2 12 rfl rfl)
theorem dX1_formula_53 : decode cX1_formula 53 = .ok (.invokedynamic 39, 5) := by decide +kernel
theorem dX1_formula_58 : decode cX1_formula 58 = .ok (.areturn, 1) := dk_176 (dk_at dksX1_formula_2 18 rfl rfl)
abbrev cX1_lambda_formula_0 : ByteArray := prog_1_method_47_code
def yX1_lambda_formula_0 : MethodName := ⟨RX1, "lambda$formula$0", "(JJ)J"⟩
theorem dX1_lambda_formula_0_0 : decode cX1_lambda_formula_0 0 = .ok (.lload_n 0, 1) := by decide +kernel
theorem dX1_lambda_formula_0_1 : decode cX1_lambda_formula_0 1 = .ok (.lreturn, 1) := by decide +kernel
abbrev cX1_product : ByteArray := prog_1_method_7_code
def yX1_product : MethodName := ⟨RX1, "product", "(JJ)J"⟩
def dkwX1_product_0 : List UInt8 := [30, 32, 105, 20, 0, 32, 109, 173]
abbrev dktX1_product_0 : List UInt8 := dkwX1_product_0 ++ []
theorem dksX1_product_0 : cX1_product.data.toList.drop 0 = dktX1_product_0 := by decide +kernel
theorem dX1_product_0 : decode cX1_product 0 = .ok (.lload_n 0, 1) := dk_30 (dk_at dksX1_product_0 0 rfl rfl)
theorem dX1_product_1 : decode cX1_product 1 = .ok (.lload_n 2, 1) := dk_32 (dk_at dksX1_product_0 1 rfl rfl)
theorem dX1_product_2 : decode cX1_product 2 = .ok (.lmul, 1) := dk_105 (dk_at dksX1_product_0 2 rfl rfl)
theorem dX1_product_3 : decode cX1_product 3 = .ok (.ldc2_w 32, 3) := dk_20 0 32 (dk_at dksX1_product_0 3 rfl rfl)
theorem dX1_product_6 : decode cX1_product 6 = .ok (.ldiv, 1) := dk_109 (dk_at dksX1_product_0 6 rfl rfl)
theorem dX1_product_7 : decode cX1_product 7 = .ok (.lreturn, 1) := dk_173 (dk_at dksX1_product_0 7 rfl rfl)
abbrev cX1_lambda_formula_1 : ByteArray := prog_1_method_46_code
def yX1_lambda_formula_1 : MethodName := ⟨RX1, "lambda$formula$1", "(IJJ)J"⟩
def dkwX1_lambda_formula_1_0 : List UInt8 := [31, 26, 133, 33, 105, 97, 173]
abbrev dktX1_lambda_formula_1_0 : List UInt8 := dkwX1_lambda_formula_1_0 ++ []
theorem dksX1_lambda_formula_1_0 : cX1_lambda_formula_1.data.toList.drop 0 = dktX1_lambda_formula_1_0 := by decide +kernel
theorem dX1_lambda_formula_1_0 : decode cX1_lambda_formula_1 0 = .ok (.lload_n 1, 1) := dk_31 (dk_at dksX1_lambda_formula_1_0 0 rfl rfl)
theorem dX1_lambda_formula_1_1 : decode cX1_lambda_formula_1 1 = .ok (.iload_n 0, 1) := dk_26 (dk_at dksX1_lambda_formula_1_0 1 rfl rfl)
theorem dX1_lambda_formula_1_2 : decode cX1_lambda_formula_1 2 = .ok (.i2l, 1) := dk_133 (dk_at dksX1_lambda_formula_1_0 2 rfl rfl)
theorem dX1_lambda_formula_1_3 : decode cX1_lambda_formula_1 3 = .ok (.lload_n 3, 1) := dk_33 (dk_at dksX1_lambda_formula_1_0 3 rfl rfl)
theorem dX1_lambda_formula_1_4 : decode cX1_lambda_formula_1 4 = .ok (.lmul, 1) := dk_105 (dk_at dksX1_lambda_formula_1_0 4 rfl rfl)
theorem dX1_lambda_formula_1_5 : decode cX1_lambda_formula_1 5 = .ok (.ladd, 1) := dk_97 (dk_at dksX1_lambda_formula_1_0 5 rfl rfl)
theorem dX1_lambda_formula_1_6 : decode cX1_lambda_formula_1 6 = .ok (.lreturn, 1) := dk_173 (dk_at dksX1_lambda_formula_1_0 6 rfl rfl)
abbrev cX1_addScenario : ByteArray := prog_1_method_32_code
def yX1_addScenario : MethodName := ⟨RX1, "addScenario", "(I)I"⟩
def dkwX1_addScenario_2 : List UInt8 := [180, 0, 52, 185, 0, 69, 1, 0, 4, 100, 172]
abbrev dktX1_addScenario_2 : List UInt8 := dkwX1_addScenario_2 ++ []
def dkwX1_addScenario_1 : List UInt8 := [184, 0, 91, 42, 180, 0, 52, 187, 0, 58, 89, 44, 183, 0, 60, 185, 0, 63, 2, 0, 87, 42]
abbrev dktX1_addScenario_1 : List UInt8 := dkwX1_addScenario_1 ++ dktX1_addScenario_2
def dkwX1_addScenario_0 : List UInt8 := [42, 27, 182, 0, 157, 77, 42, 180, 0, 52, 185, 0, 69, 1, 0, 7, 162, 0, 7, 4, 167, 0, 4, 3]
abbrev dktX1_addScenario_0 : List UInt8 := dkwX1_addScenario_0 ++ dktX1_addScenario_1
theorem dksX1_addScenario_0 : cX1_addScenario.data.toList.drop 0 = dktX1_addScenario_0 := by decide +kernel
theorem dksX1_addScenario_1 : cX1_addScenario.data.toList.drop 24 = dktX1_addScenario_1 := dk_seg dksX1_addScenario_0 24 rfl rfl
theorem dksX1_addScenario_2 : cX1_addScenario.data.toList.drop 46 = dktX1_addScenario_2 := dk_seg dksX1_addScenario_1 22 rfl rfl
theorem dX1_addScenario_0 : decode cX1_addScenario 0 = .ok (.aload_n 0, 1) := dk_42 (dk_at dksX1_addScenario_0 0 rfl rfl)
theorem dX1_addScenario_1 : decode cX1_addScenario 1 = .ok (.iload_n 1, 1) := dk_27 (dk_at dksX1_addScenario_0 1 rfl rfl)
theorem dX1_addScenario_2 : decode cX1_addScenario 2 = .ok (.invokevirtual 157, 3) := dk_182 0 157 (dk_at dksX1_addScenario_0 2 rfl rfl)
theorem dX1_addScenario_5 : decode cX1_addScenario 5 = .ok (.astore_n 2, 1) := dk_77 (dk_at dksX1_addScenario_0 5 rfl rfl)
theorem dX1_addScenario_6 : decode cX1_addScenario 6 = .ok (.aload_n 0, 1) := dk_42 (dk_at dksX1_addScenario_0 6 rfl rfl)
theorem dX1_addScenario_7 : decode cX1_addScenario 7 = .ok (.getfield 52, 3) := dk_180 0 52 (dk_at dksX1_addScenario_0 7 rfl rfl)
theorem dX1_addScenario_10 : decode cX1_addScenario 10 = .ok (.invokeinterface 69 1, 5) := by decide +kernel
theorem dX1_addScenario_15 : decode cX1_addScenario 15 = .ok (.iconst 4, 1) := dk_7 (dk_at dksX1_addScenario_0 15 rfl rfl)
theorem dX1_addScenario_16 : decode cX1_addScenario 16 = .ok (.if_icmp .ge 7, 3) := dk_162 0 7 (dk_at dksX1_addScenario_0 16 rfl rfl)
theorem dX1_addScenario_19 : decode cX1_addScenario 19 = .ok (.iconst 1, 1) := dk_4 (dk_at dksX1_addScenario_0 19 rfl rfl)
theorem dX1_addScenario_20 : decode cX1_addScenario 20 = .ok (.goto 4, 3) := dk_167 0 4 (dk_at dksX1_addScenario_0 20 rfl rfl)
theorem dX1_addScenario_23 : decode cX1_addScenario 23 = .ok (.iconst 0, 1) := dk_3 (dk_at dksX1_addScenario_0 23 rfl rfl)
theorem dX1_addScenario_24 : decode cX1_addScenario 24 = .ok (.invokestatic 91, 3) := dk_184 0 91 (dk_at dksX1_addScenario_1 0 rfl rfl)
theorem dX1_addScenario_27 : decode cX1_addScenario 27 = .ok (.aload_n 0, 1) := dk_42 (dk_at dksX1_addScenario_1 3 rfl rfl)
theorem dX1_addScenario_28 : decode cX1_addScenario 28 = .ok (.getfield 52, 3) := dk_180 0 52 (dk_at dksX1_addScenario_1 4 rfl rfl)
theorem dX1_addScenario_31 : decode cX1_addScenario 31 = .ok (.new 58, 3) := dk_187 0 58 (dk_at dksX1_addScenario_1 7 rfl rfl)
theorem dX1_addScenario_34 : decode cX1_addScenario 34 = .ok (.dup, 1) := dk_89 (dk_at dksX1_addScenario_1 10 rfl rfl)
theorem dX1_addScenario_35 : decode cX1_addScenario 35 = .ok (.aload_n 2, 1) := dk_44 (dk_at dksX1_addScenario_1 11 rfl rfl)
theorem dX1_addScenario_36 : decode cX1_addScenario 36 = .ok (.invokespecial 60, 3) := dk_183 0 60 (dk_at dksX1_addScenario_1 12 rfl rfl)
theorem dX1_addScenario_39 : decode cX1_addScenario 39 = .ok (.invokeinterface 63 2, 5) := by decide +kernel
theorem dX1_addScenario_44 : decode cX1_addScenario 44 = .ok (.pop, 1) := dk_87 (dk_at dksX1_addScenario_1 20 rfl rfl)
theorem dX1_addScenario_45 : decode cX1_addScenario 45 = .ok (.aload_n 0, 1) := dk_42 (dk_at dksX1_addScenario_1 21 rfl rfl)
theorem dX1_addScenario_46 : decode cX1_addScenario 46 = .ok (.getfield 52, 3) := dk_180 0 52 (dk_at dksX1_addScenario_2 0 rfl rfl)
theorem dX1_addScenario_49 : decode cX1_addScenario 49 = .ok (.invokeinterface 69 1, 5) := by decide +kernel
theorem dX1_addScenario_54 : decode cX1_addScenario 54 = .ok (.iconst 1, 1) := dk_4 (dk_at dksX1_addScenario_2 8 rfl rfl)
theorem dX1_addScenario_55 : decode cX1_addScenario 55 = .ok (.isub, 1) := dk_100 (dk_at dksX1_addScenario_2 9 rfl rfl)
theorem dX1_addScenario_56 : decode cX1_addScenario 56 = .ok (.ireturn, 1) := dk_172 (dk_at dksX1_addScenario_2 10 rfl rfl)
abbrev cX1_differ : ByteArray := prog_1_method_33_code
def yX1_differ : MethodName := ⟨RX1, "differ", "(IIII)I"⟩
def dkwX1_differ_4 : List UInt8 := [180, 1, 2, 185, 0, 69, 1, 0, 172]
abbrev dktX1_differ_4 : List UInt8 := dkwX1_differ_4 ++ []
def dkwX1_differ_3 : List UInt8 := [21, 4, 183, 1, 6, 185, 0, 63, 2, 0, 87, 42, 89, 180, 0, 255, 4, 96, 181, 0, 255, 25, 5]
abbrev dktX1_differ_3 : List UInt8 := dkwX1_differ_3 ++ dktX1_differ_4
def dkwX1_differ_2 : List UInt8 := [16, 12, 162, 0, 7, 4, 167, 0, 4, 3, 184, 0, 91, 25, 5, 180, 1, 2, 187, 1, 4, 89, 28, 29]
abbrev dktX1_differ_2 : List UInt8 := dkwX1_differ_2 ++ dktX1_differ_3
def dkwX1_differ_1 : List UInt8 := [184, 0, 87, 25, 5, 180, 0, 251, 199, 0, 11, 187, 0, 152, 89, 183, 0, 181, 191, 42, 180, 0, 255]
abbrev dktX1_differ_1 : List UInt8 := dkwX1_differ_1 ++ dktX1_differ_2
def dkwX1_differ_0 : List UInt8 := [42, 27, 182, 0, 157, 58, 5, 42, 28, 182, 0, 182, 29, 184, 0, 83, 21, 4, 17, 252, 25, 17, 3, 231]
abbrev dktX1_differ_0 : List UInt8 := dkwX1_differ_0 ++ dktX1_differ_1
theorem dksX1_differ_0 : cX1_differ.data.toList.drop 0 = dktX1_differ_0 := by decide +kernel
theorem dksX1_differ_1 : cX1_differ.data.toList.drop 24 = dktX1_differ_1 := dk_seg dksX1_differ_0 24 rfl rfl
theorem dksX1_differ_2 : cX1_differ.data.toList.drop 47 = dktX1_differ_2 := dk_seg dksX1_differ_1 23 rfl rfl
theorem dksX1_differ_3 : cX1_differ.data.toList.drop 71 = dktX1_differ_3 := dk_seg dksX1_differ_2 24 rfl rfl
theorem dksX1_differ_4 : cX1_differ.data.toList.drop 94 = dktX1_differ_4 := dk_seg dksX1_differ_3 23 rfl rfl
theorem dX1_differ_0 : decode cX1_differ 0 = .ok (.aload_n 0, 1) := dk_42 (dk_at dksX1_differ_0 0 rfl rfl)
theorem dX1_differ_1 : decode cX1_differ 1 = .ok (.iload_n 1, 1) := dk_27 (dk_at dksX1_differ_0 1 rfl rfl)
theorem dX1_differ_2 : decode cX1_differ 2 = .ok (.invokevirtual 157, 3) := dk_182 0 157 (dk_at dksX1_differ_0 2 rfl rfl)
theorem dX1_differ_5 : decode cX1_differ 5 = .ok (.astore 5, 2) := dk_58 5 (dk_at dksX1_differ_0 5 rfl rfl)
theorem dX1_differ_7 : decode cX1_differ 7 = .ok (.aload_n 0, 1) := dk_42 (dk_at dksX1_differ_0 7 rfl rfl)
theorem dX1_differ_8 : decode cX1_differ 8 = .ok (.iload_n 2, 1) := dk_28 (dk_at dksX1_differ_0 8 rfl rfl)
theorem dX1_differ_9 : decode cX1_differ 9 = .ok (.invokevirtual 182, 3) := dk_182 0 182 (dk_at dksX1_differ_0 9 rfl rfl)
theorem dX1_differ_12 : decode cX1_differ 12 = .ok (.iload_n 3, 1) := dk_29 (dk_at dksX1_differ_0 12 rfl rfl)
theorem dX1_differ_13 : decode cX1_differ 13 = .ok (.invokestatic 83, 3) := dk_184 0 83 (dk_at dksX1_differ_0 13 rfl rfl)
theorem dX1_differ_16 : decode cX1_differ 16 = .ok (.iload 4, 2) := dk_21 4 (dk_at dksX1_differ_0 16 rfl rfl)
theorem dX1_differ_18 : decode cX1_differ 18 = .ok (.sipush (-999), 3) := dk_17 252 25 (dk_at dksX1_differ_0 18 rfl rfl)
theorem dX1_differ_21 : decode cX1_differ 21 = .ok (.sipush 999, 3) := dk_17 3 231 (dk_at dksX1_differ_0 21 rfl rfl)
theorem dX1_differ_24 : decode cX1_differ 24 = .ok (.invokestatic 87, 3) := dk_184 0 87 (dk_at dksX1_differ_1 0 rfl rfl)
theorem dX1_differ_27 : decode cX1_differ 27 = .ok (.aload 5, 2) := dk_25 5 (dk_at dksX1_differ_1 3 rfl rfl)
theorem dX1_differ_29 : decode cX1_differ 29 = .ok (.getfield 251, 3) := dk_180 0 251 (dk_at dksX1_differ_1 5 rfl rfl)
theorem dX1_differ_32 : decode cX1_differ 32 = .ok (.ifnonnull 11, 3) := dk_199 0 11 (dk_at dksX1_differ_1 8 rfl rfl)
theorem dX1_differ_35 : decode cX1_differ 35 = .ok (.new 152, 3) := dk_187 0 152 (dk_at dksX1_differ_1 11 rfl rfl)
theorem dX1_differ_38 : decode cX1_differ 38 = .ok (.dup, 1) := dk_89 (dk_at dksX1_differ_1 14 rfl rfl)
theorem dX1_differ_39 : decode cX1_differ 39 = .ok (.invokespecial 181, 3) := dk_183 0 181 (dk_at dksX1_differ_1 15 rfl rfl)
theorem dX1_differ_42 : decode cX1_differ 42 = .ok (.athrow, 1) := dk_191 (dk_at dksX1_differ_1 18 rfl rfl)
theorem dX1_differ_43 : decode cX1_differ 43 = .ok (.aload_n 0, 1) := dk_42 (dk_at dksX1_differ_1 19 rfl rfl)
theorem dX1_differ_44 : decode cX1_differ 44 = .ok (.getfield 255, 3) := dk_180 0 255 (dk_at dksX1_differ_1 20 rfl rfl)
theorem dX1_differ_47 : decode cX1_differ 47 = .ok (.bipush 12, 2) := dk_16 12 (dk_at dksX1_differ_2 0 rfl rfl)
theorem dX1_differ_49 : decode cX1_differ 49 = .ok (.if_icmp .ge 7, 3) := dk_162 0 7 (dk_at dksX1_differ_2 2 rfl rfl)
theorem dX1_differ_52 : decode cX1_differ 52 = .ok (.iconst 1, 1) := dk_4 (dk_at dksX1_differ_2 5 rfl rfl)
theorem dX1_differ_53 : decode cX1_differ 53 = .ok (.goto 4, 3) := dk_167 0 4 (dk_at dksX1_differ_2 6 rfl rfl)
theorem dX1_differ_56 : decode cX1_differ 56 = .ok (.iconst 0, 1) := dk_3 (dk_at dksX1_differ_2 9 rfl rfl)
theorem dX1_differ_57 : decode cX1_differ 57 = .ok (.invokestatic 91, 3) := dk_184 0 91 (dk_at dksX1_differ_2 10 rfl rfl)
theorem dX1_differ_60 : decode cX1_differ 60 = .ok (.aload 5, 2) := dk_25 5 (dk_at dksX1_differ_2 13 rfl rfl)
theorem dX1_differ_62 : decode cX1_differ 62 = .ok (.getfield 258, 3) := dk_180 1 2 (dk_at dksX1_differ_2 15 rfl rfl)
theorem dX1_differ_65 : decode cX1_differ 65 = .ok (.new 260, 3) := dk_187 1 4 (dk_at dksX1_differ_2 18 rfl rfl)
theorem dX1_differ_68 : decode cX1_differ 68 = .ok (.dup, 1) := dk_89 (dk_at dksX1_differ_2 21 rfl rfl)
theorem dX1_differ_69 : decode cX1_differ 69 = .ok (.iload_n 2, 1) := dk_28 (dk_at dksX1_differ_2 22 rfl rfl)
theorem dX1_differ_70 : decode cX1_differ 70 = .ok (.iload_n 3, 1) := dk_29 (dk_at dksX1_differ_2 23 rfl rfl)
theorem dX1_differ_71 : decode cX1_differ 71 = .ok (.iload 4, 2) := dk_21 4 (dk_at dksX1_differ_3 0 rfl rfl)
theorem dX1_differ_73 : decode cX1_differ 73 = .ok (.invokespecial 262, 3) := dk_183 1 6 (dk_at dksX1_differ_3 2 rfl rfl)
theorem dX1_differ_76 : decode cX1_differ 76 = .ok (.invokeinterface 63 2, 5) := by decide +kernel
theorem dX1_differ_81 : decode cX1_differ 81 = .ok (.pop, 1) := dk_87 (dk_at dksX1_differ_3 10 rfl rfl)
theorem dX1_differ_82 : decode cX1_differ 82 = .ok (.aload_n 0, 1) := dk_42 (dk_at dksX1_differ_3 11 rfl rfl)
theorem dX1_differ_83 : decode cX1_differ 83 = .ok (.dup, 1) := dk_89 (dk_at dksX1_differ_3 12 rfl rfl)
theorem dX1_differ_84 : decode cX1_differ 84 = .ok (.getfield 255, 3) := dk_180 0 255 (dk_at dksX1_differ_3 13 rfl rfl)
theorem dX1_differ_87 : decode cX1_differ 87 = .ok (.iconst 1, 1) := dk_4 (dk_at dksX1_differ_3 16 rfl rfl)
theorem dX1_differ_88 : decode cX1_differ 88 = .ok (.iadd, 1) := dk_96 (dk_at dksX1_differ_3 17 rfl rfl)
theorem dX1_differ_89 : decode cX1_differ 89 = .ok (.putfield 255, 3) := dk_181 0 255 (dk_at dksX1_differ_3 18 rfl rfl)
theorem dX1_differ_92 : decode cX1_differ 92 = .ok (.aload 5, 2) := dk_25 5 (dk_at dksX1_differ_3 21 rfl rfl)
theorem dX1_differ_94 : decode cX1_differ 94 = .ok (.getfield 258, 3) := dk_180 1 2 (dk_at dksX1_differ_4 0 rfl rfl)
theorem dX1_differ_97 : decode cX1_differ 97 = .ok (.invokeinterface 69 1, 5) := by decide +kernel
theorem dX1_differ_102 : decode cX1_differ 102 = .ok (.ireturn, 1) := dk_172 (dk_at dksX1_differ_4 8 rfl rfl)
abbrev cX1_number : ByteArray := prog_1_method_20_code
def yX1_number : MethodName := ⟨RX1, "number", "(III)I"⟩
def dkwX1_number_1 : List UInt8 := [172]
abbrev dktX1_number_1 : List UInt8 := dkwX1_number_1 ++ []
def dkwX1_number_0 : List UInt8 := [42, 27, 182, 0, 157, 58, 4, 42, 42, 25, 4, 182, 0, 109, 42, 28, 29, 182, 0, 161, 29, 182, 0, 165]
abbrev dktX1_number_0 : List UInt8 := dkwX1_number_0 ++ dktX1_number_1
theorem dksX1_number_0 : cX1_number.data.toList.drop 0 = dktX1_number_0 := by decide +kernel
theorem dksX1_number_1 : cX1_number.data.toList.drop 24 = dktX1_number_1 := dk_seg dksX1_number_0 24 rfl rfl
theorem dX1_number_0 : decode cX1_number 0 = .ok (.aload_n 0, 1) := dk_42 (dk_at dksX1_number_0 0 rfl rfl)
theorem dX1_number_1 : decode cX1_number 1 = .ok (.iload_n 1, 1) := dk_27 (dk_at dksX1_number_0 1 rfl rfl)
theorem dX1_number_2 : decode cX1_number 2 = .ok (.invokevirtual 157, 3) := dk_182 0 157 (dk_at dksX1_number_0 2 rfl rfl)
theorem dX1_number_5 : decode cX1_number 5 = .ok (.astore 4, 2) := dk_58 4 (dk_at dksX1_number_0 5 rfl rfl)
theorem dX1_number_7 : decode cX1_number 7 = .ok (.aload_n 0, 1) := dk_42 (dk_at dksX1_number_0 7 rfl rfl)
theorem dX1_number_8 : decode cX1_number 8 = .ok (.aload_n 0, 1) := dk_42 (dk_at dksX1_number_0 8 rfl rfl)
theorem dX1_number_9 : decode cX1_number 9 = .ok (.aload 4, 2) := dk_25 4 (dk_at dksX1_number_0 9 rfl rfl)
theorem dX1_number_11 : decode cX1_number 11 = .ok (.invokevirtual 109, 3) := dk_182 0 109 (dk_at dksX1_number_0 11 rfl rfl)
theorem dX1_number_14 : decode cX1_number 14 = .ok (.aload_n 0, 1) := dk_42 (dk_at dksX1_number_0 14 rfl rfl)
theorem dX1_number_15 : decode cX1_number 15 = .ok (.iload_n 2, 1) := dk_28 (dk_at dksX1_number_0 15 rfl rfl)
theorem dX1_number_16 : decode cX1_number 16 = .ok (.iload_n 3, 1) := dk_29 (dk_at dksX1_number_0 16 rfl rfl)
theorem dX1_number_17 : decode cX1_number 17 = .ok (.invokevirtual 161, 3) := dk_182 0 161 (dk_at dksX1_number_0 17 rfl rfl)
theorem dX1_number_20 : decode cX1_number 20 = .ok (.iload_n 3, 1) := dk_29 (dk_at dksX1_number_0 20 rfl rfl)
theorem dX1_number_21 : decode cX1_number 21 = .ok (.invokevirtual 165, 3) := dk_182 0 165 (dk_at dksX1_number_0 21 rfl rfl)
theorem dX1_number_24 : decode cX1_number 24 = .ok (.ireturn, 1) := dk_172 (dk_at dksX1_number_1 0 rfl rfl)
abbrev cX1_lineFor : ByteArray := prog_1_method_13_code
def yX1_lineFor : MethodName := ⟨RX1, "lineFor", "(II)LCostStudio$Line;"⟩
def dkwX1_lineFor_0 : List UInt8 := [42, 27, 182, 0, 79, 78, 28, 184, 0, 83, 45, 176]
abbrev dktX1_lineFor_0 : List UInt8 := dkwX1_lineFor_0 ++ []
theorem dksX1_lineFor_0 : cX1_lineFor.data.toList.drop 0 = dktX1_lineFor_0 := by decide +kernel
theorem dX1_lineFor_0 : decode cX1_lineFor 0 = .ok (.aload_n 0, 1) := dk_42 (dk_at dksX1_lineFor_0 0 rfl rfl)
theorem dX1_lineFor_1 : decode cX1_lineFor 1 = .ok (.iload_n 1, 1) := dk_27 (dk_at dksX1_lineFor_0 1 rfl rfl)
theorem dX1_lineFor_2 : decode cX1_lineFor 2 = .ok (.invokevirtual 79, 3) := dk_182 0 79 (dk_at dksX1_lineFor_0 2 rfl rfl)
theorem dX1_lineFor_5 : decode cX1_lineFor 5 = .ok (.astore_n 3, 1) := dk_78 (dk_at dksX1_lineFor_0 5 rfl rfl)
theorem dX1_lineFor_6 : decode cX1_lineFor 6 = .ok (.iload_n 2, 1) := dk_28 (dk_at dksX1_lineFor_0 6 rfl rfl)
theorem dX1_lineFor_7 : decode cX1_lineFor 7 = .ok (.invokestatic 83, 3) := dk_184 0 83 (dk_at dksX1_lineFor_0 7 rfl rfl)
theorem dX1_lineFor_10 : decode cX1_lineFor 10 = .ok (.aload_n 3, 1) := dk_45 (dk_at dksX1_lineFor_0 10 rfl rfl)
theorem dX1_lineFor_11 : decode cX1_lineFor 11 = .ok (.areturn, 1) := dk_176 (dk_at dksX1_lineFor_0 11 rfl rfl)
abbrev cX1_lineAt : ByteArray := prog_1_method_12_code
def yX1_lineAt : MethodName := ⟨RX1, "lineAt", "(I)LCostStudio$Line;"⟩
def dkwX1_lineAt_1 : List UInt8 := [192, 0, 77, 176]
abbrev dktX1_lineAt_1 : List UInt8 := dkwX1_lineAt_1 ++ []
def dkwX1_lineAt_0 : List UInt8 := [27, 42, 180, 0, 55, 185, 0, 69, 1, 0, 184, 0, 9, 42, 180, 0, 55, 27, 185, 0, 73, 2, 0]
abbrev dktX1_lineAt_0 : List UInt8 := dkwX1_lineAt_0 ++ dktX1_lineAt_1
theorem dksX1_lineAt_0 : cX1_lineAt.data.toList.drop 0 = dktX1_lineAt_0 := by decide +kernel
theorem dksX1_lineAt_1 : cX1_lineAt.data.toList.drop 23 = dktX1_lineAt_1 := dk_seg dksX1_lineAt_0 23 rfl rfl
theorem dX1_lineAt_0 : decode cX1_lineAt 0 = .ok (.iload_n 1, 1) := dk_27 (dk_at dksX1_lineAt_0 0 rfl rfl)
theorem dX1_lineAt_1 : decode cX1_lineAt 1 = .ok (.aload_n 0, 1) := dk_42 (dk_at dksX1_lineAt_0 1 rfl rfl)
theorem dX1_lineAt_2 : decode cX1_lineAt 2 = .ok (.getfield 55, 3) := dk_180 0 55 (dk_at dksX1_lineAt_0 2 rfl rfl)
theorem dX1_lineAt_5 : decode cX1_lineAt 5 = .ok (.invokeinterface 69 1, 5) := by decide +kernel
theorem dX1_lineAt_10 : decode cX1_lineAt 10 = .ok (.invokestatic 9, 3) := dk_184 0 9 (dk_at dksX1_lineAt_0 10 rfl rfl)
theorem dX1_lineAt_13 : decode cX1_lineAt 13 = .ok (.aload_n 0, 1) := dk_42 (dk_at dksX1_lineAt_0 13 rfl rfl)
theorem dX1_lineAt_14 : decode cX1_lineAt 14 = .ok (.getfield 55, 3) := dk_180 0 55 (dk_at dksX1_lineAt_0 14 rfl rfl)
theorem dX1_lineAt_17 : decode cX1_lineAt 17 = .ok (.iload_n 1, 1) := dk_27 (dk_at dksX1_lineAt_0 17 rfl rfl)
theorem dX1_lineAt_18 : decode cX1_lineAt 18 = .ok (.invokeinterface 73 2, 5) := by decide +kernel
theorem dX1_lineAt_23 : decode cX1_lineAt 23 = .ok (.checkcast 77, 3) := dk_192 0 77 (dk_at dksX1_lineAt_1 0 rfl rfl)
theorem dX1_lineAt_26 : decode cX1_lineAt 26 = .ok (.areturn, 1) := dk_176 (dk_at dksX1_lineAt_1 3 rfl rfl)
abbrev cX1_require : ByteArray := prog_1_method_19_code
def yX1_require : MethodName := ⟨RX1, "require", "(LCostStudio$View;LCostStudio$Line;I)I"⟩
def dkwX1_require_0 : List UInt8 := [42, 43, 44, 29, 182, 0, 145, 172, 58, 4, 187, 0, 152, 89, 1, 25, 4, 183, 0, 154, 191]
abbrev dktX1_require_0 : List UInt8 := dkwX1_require_0 ++ []
theorem dksX1_require_0 : cX1_require.data.toList.drop 0 = dktX1_require_0 := by decide +kernel
theorem dX1_require_0 : decode cX1_require 0 = .ok (.aload_n 0, 1) := dk_42 (dk_at dksX1_require_0 0 rfl rfl)
theorem dX1_require_1 : decode cX1_require 1 = .ok (.aload_n 1, 1) := dk_43 (dk_at dksX1_require_0 1 rfl rfl)
theorem dX1_require_2 : decode cX1_require 2 = .ok (.aload_n 2, 1) := dk_44 (dk_at dksX1_require_0 2 rfl rfl)
theorem dX1_require_3 : decode cX1_require 3 = .ok (.iload_n 3, 1) := dk_29 (dk_at dksX1_require_0 3 rfl rfl)
theorem dX1_require_4 : decode cX1_require 4 = .ok (.invokevirtual 145, 3) := dk_182 0 145 (dk_at dksX1_require_0 4 rfl rfl)
theorem dX1_require_7 : decode cX1_require 7 = .ok (.ireturn, 1) := dk_172 (dk_at dksX1_require_0 7 rfl rfl)
theorem dX1_require_8 : decode cX1_require 8 = .ok (.astore 4, 2) := dk_58 4 (dk_at dksX1_require_0 8 rfl rfl)
theorem dX1_require_10 : decode cX1_require 10 = .ok (.new 152, 3) := dk_187 0 152 (dk_at dksX1_require_0 10 rfl rfl)
theorem dX1_require_13 : decode cX1_require 13 = .ok (.dup, 1) := dk_89 (dk_at dksX1_require_0 13 rfl rfl)
theorem dX1_require_14 : decode cX1_require 14 = .ok (.aconst_null, 1) := dk_1 (dk_at dksX1_require_0 14 rfl rfl)
theorem dX1_require_15 : decode cX1_require 15 = .ok (.aload 4, 2) := dk_25 4 (dk_at dksX1_require_0 15 rfl rfl)
theorem dX1_require_17 : decode cX1_require 17 = .ok (.invokespecial 154, 3) := dk_183 0 154 (dk_at dksX1_require_0 17 rfl rfl)
theorem dX1_require_20 : decode cX1_require 20 = .ok (.athrow, 1) := dk_191 (dk_at dksX1_require_0 20 rfl rfl)
abbrev cX1_numberByHand : ByteArray := prog_1_method_22_code
def yX1_numberByHand : MethodName := ⟨RX1, "numberByHand", "(III)I"⟩
def dkwX1_numberByHand_4 : List UInt8 := [154, 0, 11, 187, 0, 152, 89, 183, 0, 181, 191, 25, 6, 25, 5, 180, 0, 168, 47, 136, 172]
abbrev dktX1_numberByHand_4 : List UInt8 := dkwX1_numberByHand_4 ++ []
def dkwX1_numberByHand_3 : List UInt8 := [192, 0, 77, 25, 8, 29, 182, 0, 177, 84, 132, 9, 1, 167, 255, 213, 25, 7, 25, 5, 180, 0, 168, 51]
abbrev dktX1_numberByHand_3 : List UInt8 := dkwX1_numberByHand_3 ++ dktX1_numberByHand_4
def dkwX1_numberByHand_2 : List UInt8 := [163, 0, 39, 25, 7, 21, 9, 42, 25, 6, 25, 7, 42, 180, 0, 55, 21, 9, 185, 0, 73, 2, 0]
abbrev dktX1_numberByHand_2 : List UInt8 := dkwX1_numberByHand_2 ++ dktX1_numberByHand_3
def dkwX1_numberByHand_1 : List UInt8 := [188, 4, 58, 7, 42, 25, 4, 182, 0, 109, 58, 8, 3, 54, 9, 21, 9, 25, 5, 180, 0, 168]
abbrev dktX1_numberByHand_1 : List UInt8 := dkwX1_numberByHand_1 ++ dktX1_numberByHand_2
def dkwX1_numberByHand_0 : List UInt8 := [42, 27, 182, 0, 157, 58, 4, 42, 28, 29, 182, 0, 161, 58, 5, 16, 10, 188, 11, 58, 6, 16, 10]
abbrev dktX1_numberByHand_0 : List UInt8 := dkwX1_numberByHand_0 ++ dktX1_numberByHand_1
theorem dksX1_numberByHand_0 : cX1_numberByHand.data.toList.drop 0 = dktX1_numberByHand_0 := by decide +kernel
theorem dksX1_numberByHand_1 : cX1_numberByHand.data.toList.drop 23 = dktX1_numberByHand_1 := dk_seg dksX1_numberByHand_0 23 rfl rfl
theorem dksX1_numberByHand_2 : cX1_numberByHand.data.toList.drop 45 = dktX1_numberByHand_2 := dk_seg dksX1_numberByHand_1 22 rfl rfl
theorem dksX1_numberByHand_3 : cX1_numberByHand.data.toList.drop 68 = dktX1_numberByHand_3 := dk_seg dksX1_numberByHand_2 23 rfl rfl
theorem dksX1_numberByHand_4 : cX1_numberByHand.data.toList.drop 92 = dktX1_numberByHand_4 := dk_seg dksX1_numberByHand_3 24 rfl rfl
theorem dX1_numberByHand_0 : decode cX1_numberByHand 0 = .ok (.aload_n 0, 1) := dk_42 (dk_at dksX1_numberByHand_0 0 rfl rfl)
theorem dX1_numberByHand_1 : decode cX1_numberByHand 1 = .ok (.iload_n 1, 1) := dk_27 (dk_at dksX1_numberByHand_0 1 rfl rfl)
theorem dX1_numberByHand_2 : decode cX1_numberByHand 2 = .ok (.invokevirtual 157, 3) := dk_182 0 157 (dk_at dksX1_numberByHand_0 2 rfl rfl)
theorem dX1_numberByHand_5 : decode cX1_numberByHand 5 = .ok (.astore 4, 2) := dk_58 4 (dk_at dksX1_numberByHand_0 5 rfl rfl)
theorem dX1_numberByHand_7 : decode cX1_numberByHand 7 = .ok (.aload_n 0, 1) := dk_42 (dk_at dksX1_numberByHand_0 7 rfl rfl)
theorem dX1_numberByHand_8 : decode cX1_numberByHand 8 = .ok (.iload_n 2, 1) := dk_28 (dk_at dksX1_numberByHand_0 8 rfl rfl)
theorem dX1_numberByHand_9 : decode cX1_numberByHand 9 = .ok (.iload_n 3, 1) := dk_29 (dk_at dksX1_numberByHand_0 9 rfl rfl)
theorem dX1_numberByHand_10 : decode cX1_numberByHand 10 = .ok (.invokevirtual 161, 3) := dk_182 0 161 (dk_at dksX1_numberByHand_0 10 rfl rfl)
theorem dX1_numberByHand_13 : decode cX1_numberByHand 13 = .ok (.astore 5, 2) := dk_58 5 (dk_at dksX1_numberByHand_0 13 rfl rfl)
theorem dX1_numberByHand_15 : decode cX1_numberByHand 15 = .ok (.bipush 10, 2) := dk_16 10 (dk_at dksX1_numberByHand_0 15 rfl rfl)
theorem dX1_numberByHand_17 : decode cX1_numberByHand 17 = .ok (.newarray .long, 2) := dk_188_11 (dk_at dksX1_numberByHand_0 17 rfl rfl)
theorem dX1_numberByHand_19 : decode cX1_numberByHand 19 = .ok (.astore 6, 2) := dk_58 6 (dk_at dksX1_numberByHand_0 19 rfl rfl)
theorem dX1_numberByHand_21 : decode cX1_numberByHand 21 = .ok (.bipush 10, 2) := dk_16 10 (dk_at dksX1_numberByHand_0 21 rfl rfl)
theorem dX1_numberByHand_23 : decode cX1_numberByHand 23 = .ok (.newarray .boolean, 2) := dk_188_4 (dk_at dksX1_numberByHand_1 0 rfl rfl)
theorem dX1_numberByHand_25 : decode cX1_numberByHand 25 = .ok (.astore 7, 2) := dk_58 7 (dk_at dksX1_numberByHand_1 2 rfl rfl)
theorem dX1_numberByHand_27 : decode cX1_numberByHand 27 = .ok (.aload_n 0, 1) := dk_42 (dk_at dksX1_numberByHand_1 4 rfl rfl)
theorem dX1_numberByHand_28 : decode cX1_numberByHand 28 = .ok (.aload 4, 2) := dk_25 4 (dk_at dksX1_numberByHand_1 5 rfl rfl)
theorem dX1_numberByHand_30 : decode cX1_numberByHand 30 = .ok (.invokevirtual 109, 3) := dk_182 0 109 (dk_at dksX1_numberByHand_1 7 rfl rfl)
theorem dX1_numberByHand_33 : decode cX1_numberByHand 33 = .ok (.astore 8, 2) := dk_58 8 (dk_at dksX1_numberByHand_1 10 rfl rfl)
theorem dX1_numberByHand_35 : decode cX1_numberByHand 35 = .ok (.iconst 0, 1) := dk_3 (dk_at dksX1_numberByHand_1 12 rfl rfl)
theorem dX1_numberByHand_36 : decode cX1_numberByHand 36 = .ok (.istore 9, 2) := dk_54 9 (dk_at dksX1_numberByHand_1 13 rfl rfl)
theorem dX1_numberByHand_38 : decode cX1_numberByHand 38 = .ok (.iload 9, 2) := dk_21 9 (dk_at dksX1_numberByHand_1 15 rfl rfl)
theorem dX1_numberByHand_40 : decode cX1_numberByHand 40 = .ok (.aload 5, 2) := dk_25 5 (dk_at dksX1_numberByHand_1 17 rfl rfl)
theorem dX1_numberByHand_42 : decode cX1_numberByHand 42 = .ok (.getfield 168, 3) := dk_180 0 168 (dk_at dksX1_numberByHand_1 19 rfl rfl)
theorem dX1_numberByHand_45 : decode cX1_numberByHand 45 = .ok (.if_icmp .gt 39, 3) := dk_163 0 39 (dk_at dksX1_numberByHand_2 0 rfl rfl)
theorem dX1_numberByHand_48 : decode cX1_numberByHand 48 = .ok (.aload 7, 2) := dk_25 7 (dk_at dksX1_numberByHand_2 3 rfl rfl)
theorem dX1_numberByHand_50 : decode cX1_numberByHand 50 = .ok (.iload 9, 2) := dk_21 9 (dk_at dksX1_numberByHand_2 5 rfl rfl)
theorem dX1_numberByHand_52 : decode cX1_numberByHand 52 = .ok (.aload_n 0, 1) := dk_42 (dk_at dksX1_numberByHand_2 7 rfl rfl)
theorem dX1_numberByHand_53 : decode cX1_numberByHand 53 = .ok (.aload 6, 2) := dk_25 6 (dk_at dksX1_numberByHand_2 8 rfl rfl)
theorem dX1_numberByHand_55 : decode cX1_numberByHand 55 = .ok (.aload 7, 2) := dk_25 7 (dk_at dksX1_numberByHand_2 10 rfl rfl)
theorem dX1_numberByHand_57 : decode cX1_numberByHand 57 = .ok (.aload_n 0, 1) := dk_42 (dk_at dksX1_numberByHand_2 12 rfl rfl)
theorem dX1_numberByHand_58 : decode cX1_numberByHand 58 = .ok (.getfield 55, 3) := dk_180 0 55 (dk_at dksX1_numberByHand_2 13 rfl rfl)
theorem dX1_numberByHand_61 : decode cX1_numberByHand 61 = .ok (.iload 9, 2) := dk_21 9 (dk_at dksX1_numberByHand_2 16 rfl rfl)
theorem dX1_numberByHand_63 : decode cX1_numberByHand 63 = .ok (.invokeinterface 73 2, 5) := by decide +kernel
theorem dX1_numberByHand_68 : decode cX1_numberByHand 68 = .ok (.checkcast 77, 3) := dk_192 0 77 (dk_at dksX1_numberByHand_3 0 rfl rfl)
theorem dX1_numberByHand_71 : decode cX1_numberByHand 71 = .ok (.aload 8, 2) := dk_25 8 (dk_at dksX1_numberByHand_3 3 rfl rfl)
theorem dX1_numberByHand_73 : decode cX1_numberByHand 73 = .ok (.iload_n 3, 1) := dk_29 (dk_at dksX1_numberByHand_3 5 rfl rfl)
theorem dX1_numberByHand_74 : decode cX1_numberByHand 74 = .ok (.invokevirtual 177, 3) := dk_182 0 177 (dk_at dksX1_numberByHand_3 6 rfl rfl)
theorem dX1_numberByHand_77 : decode cX1_numberByHand 77 = .ok (.bastore, 1) := dk_84 (dk_at dksX1_numberByHand_3 9 rfl rfl)
theorem dX1_numberByHand_78 : decode cX1_numberByHand 78 = .ok (.iinc 9 1, 3) := dk_132 9 1 (dk_at dksX1_numberByHand_3 10 rfl rfl)
theorem dX1_numberByHand_81 : decode cX1_numberByHand 81 = .ok (.goto (-43), 3) := dk_167 255 213 (dk_at dksX1_numberByHand_3 13 rfl rfl)
theorem dX1_numberByHand_84 : decode cX1_numberByHand 84 = .ok (.aload 7, 2) := dk_25 7 (dk_at dksX1_numberByHand_3 16 rfl rfl)
theorem dX1_numberByHand_86 : decode cX1_numberByHand 86 = .ok (.aload 5, 2) := dk_25 5 (dk_at dksX1_numberByHand_3 18 rfl rfl)
theorem dX1_numberByHand_88 : decode cX1_numberByHand 88 = .ok (.getfield 168, 3) := dk_180 0 168 (dk_at dksX1_numberByHand_3 20 rfl rfl)
theorem dX1_numberByHand_91 : decode cX1_numberByHand 91 = .ok (.baload, 1) := dk_51 (dk_at dksX1_numberByHand_3 23 rfl rfl)
theorem dX1_numberByHand_92 : decode cX1_numberByHand 92 = .ok (.ifCond .ne 11, 3) := dk_154 0 11 (dk_at dksX1_numberByHand_4 0 rfl rfl)
theorem dX1_numberByHand_95 : decode cX1_numberByHand 95 = .ok (.new 152, 3) := dk_187 0 152 (dk_at dksX1_numberByHand_4 3 rfl rfl)
theorem dX1_numberByHand_98 : decode cX1_numberByHand 98 = .ok (.dup, 1) := dk_89 (dk_at dksX1_numberByHand_4 6 rfl rfl)
theorem dX1_numberByHand_99 : decode cX1_numberByHand 99 = .ok (.invokespecial 181, 3) := dk_183 0 181 (dk_at dksX1_numberByHand_4 7 rfl rfl)
theorem dX1_numberByHand_102 : decode cX1_numberByHand 102 = .ok (.athrow, 1) := dk_191 (dk_at dksX1_numberByHand_4 10 rfl rfl)
theorem dX1_numberByHand_103 : decode cX1_numberByHand 103 = .ok (.aload 6, 2) := dk_25 6 (dk_at dksX1_numberByHand_4 11 rfl rfl)
theorem dX1_numberByHand_105 : decode cX1_numberByHand 105 = .ok (.aload 5, 2) := dk_25 5 (dk_at dksX1_numberByHand_4 13 rfl rfl)
theorem dX1_numberByHand_107 : decode cX1_numberByHand 107 = .ok (.getfield 168, 3) := dk_180 0 168 (dk_at dksX1_numberByHand_4 15 rfl rfl)
theorem dX1_numberByHand_110 : decode cX1_numberByHand 110 = .ok (.laload, 1) := dk_47 (dk_at dksX1_numberByHand_4 18 rfl rfl)
theorem dX1_numberByHand_111 : decode cX1_numberByHand 111 = .ok (.l2i, 1) := dk_136 (dk_at dksX1_numberByHand_4 19 rfl rfl)
theorem dX1_numberByHand_112 : decode cX1_numberByHand 112 = .ok (.ireturn, 1) := dk_172 (dk_at dksX1_numberByHand_4 20 rfl rfl)
abbrev cX1_isComputed : ByteArray := prog_1_method_21_code
def yX1_isComputed : MethodName := ⟨RX1, "isComputed", "([J[ZLCostStudio$Line;LCostStudio$View;I)Z"⟩
def dkwX1_isComputed_5 : List UInt8 := [148, 157, 0, 7, 4, 167, 0, 4, 3, 172]
abbrev dktX1_isComputed_5 : List UInt8 := dkwX1_isComputed_5 ++ []
def dkwX1_isComputed_4 : List UInt8 := [153, 0, 32, 44, 45, 180, 0, 149, 51, 153, 0, 23, 43, 45, 180, 0, 168, 47, 184, 0, 171, 20, 0, 22]
abbrev dktX1_isComputed_4 : List UInt8 := dkwX1_isComputed_4 ++ dktX1_isComputed_5
def dkwX1_isComputed_3 : List UInt8 := [45, 180, 0, 127, 47, 43, 45, 180, 0, 149, 47, 185, 0, 136, 5, 0, 80, 44, 45, 180, 0, 127, 51]
abbrev dktX1_isComputed_3 : List UInt8 := dkwX1_isComputed_3 ++ dktX1_isComputed_4
def dkwX1_isComputed_2 : List UInt8 := [180, 0, 127, 21, 5, 185, 0, 131, 3, 0, 133, 80, 4, 172, 43, 45, 180, 0, 168, 45, 180, 0, 123, 43]
abbrev dktX1_isComputed_2 : List UInt8 := dkwX1_isComputed_2 ++ dktX1_isComputed_3
def dkwX1_isComputed_1 : List UInt8 := [182, 0, 116, 133, 80, 4, 172, 45, 180, 0, 119, 16, 100, 160, 0, 25, 43, 45, 180, 0, 168, 25, 4, 45]
abbrev dktX1_isComputed_1 : List UInt8 := dkwX1_isComputed_1 ++ dktX1_isComputed_2
def dkwX1_isComputed_0 : List UInt8 := [45, 180, 0, 112, 21, 5, 50, 198, 0, 22, 43, 45, 180, 0, 168, 45, 180, 0, 112, 21, 5, 50]
abbrev dktX1_isComputed_0 : List UInt8 := dkwX1_isComputed_0 ++ dktX1_isComputed_1
theorem dksX1_isComputed_0 : cX1_isComputed.data.toList.drop 0 = dktX1_isComputed_0 := by decide +kernel
theorem dksX1_isComputed_1 : cX1_isComputed.data.toList.drop 22 = dktX1_isComputed_1 := dk_seg dksX1_isComputed_0 22 rfl rfl
theorem dksX1_isComputed_2 : cX1_isComputed.data.toList.drop 46 = dktX1_isComputed_2 := dk_seg dksX1_isComputed_1 24 rfl rfl
theorem dksX1_isComputed_3 : cX1_isComputed.data.toList.drop 70 = dktX1_isComputed_3 := dk_seg dksX1_isComputed_2 24 rfl rfl
theorem dksX1_isComputed_4 : cX1_isComputed.data.toList.drop 93 = dktX1_isComputed_4 := dk_seg dksX1_isComputed_3 23 rfl rfl
theorem dksX1_isComputed_5 : cX1_isComputed.data.toList.drop 117 = dktX1_isComputed_5 := dk_seg dksX1_isComputed_4 24 rfl rfl
theorem dX1_isComputed_0 : decode cX1_isComputed 0 = .ok (.aload_n 3, 1) := dk_45 (dk_at dksX1_isComputed_0 0 rfl rfl)
theorem dX1_isComputed_1 : decode cX1_isComputed 1 = .ok (.getfield 112, 3) := dk_180 0 112 (dk_at dksX1_isComputed_0 1 rfl rfl)
theorem dX1_isComputed_4 : decode cX1_isComputed 4 = .ok (.iload 5, 2) := dk_21 5 (dk_at dksX1_isComputed_0 4 rfl rfl)
theorem dX1_isComputed_6 : decode cX1_isComputed 6 = .ok (.aaload, 1) := dk_50 (dk_at dksX1_isComputed_0 6 rfl rfl)
theorem dX1_isComputed_7 : decode cX1_isComputed 7 = .ok (.ifnull 22, 3) := dk_198 0 22 (dk_at dksX1_isComputed_0 7 rfl rfl)
theorem dX1_isComputed_10 : decode cX1_isComputed 10 = .ok (.aload_n 1, 1) := dk_43 (dk_at dksX1_isComputed_0 10 rfl rfl)
theorem dX1_isComputed_11 : decode cX1_isComputed 11 = .ok (.aload_n 3, 1) := dk_45 (dk_at dksX1_isComputed_0 11 rfl rfl)
theorem dX1_isComputed_12 : decode cX1_isComputed 12 = .ok (.getfield 168, 3) := dk_180 0 168 (dk_at dksX1_isComputed_0 12 rfl rfl)
theorem dX1_isComputed_15 : decode cX1_isComputed 15 = .ok (.aload_n 3, 1) := dk_45 (dk_at dksX1_isComputed_0 15 rfl rfl)
theorem dX1_isComputed_16 : decode cX1_isComputed 16 = .ok (.getfield 112, 3) := dk_180 0 112 (dk_at dksX1_isComputed_0 16 rfl rfl)
theorem dX1_isComputed_19 : decode cX1_isComputed 19 = .ok (.iload 5, 2) := dk_21 5 (dk_at dksX1_isComputed_0 19 rfl rfl)
theorem dX1_isComputed_21 : decode cX1_isComputed 21 = .ok (.aaload, 1) := dk_50 (dk_at dksX1_isComputed_0 21 rfl rfl)
theorem dX1_isComputed_22 : decode cX1_isComputed 22 = .ok (.invokevirtual 116, 3) := dk_182 0 116 (dk_at dksX1_isComputed_1 0 rfl rfl)
theorem dX1_isComputed_25 : decode cX1_isComputed 25 = .ok (.i2l, 1) := dk_133 (dk_at dksX1_isComputed_1 3 rfl rfl)
theorem dX1_isComputed_26 : decode cX1_isComputed 26 = .ok (.lastore, 1) := dk_80 (dk_at dksX1_isComputed_1 4 rfl rfl)
theorem dX1_isComputed_27 : decode cX1_isComputed 27 = .ok (.iconst 1, 1) := dk_4 (dk_at dksX1_isComputed_1 5 rfl rfl)
theorem dX1_isComputed_28 : decode cX1_isComputed 28 = .ok (.ireturn, 1) := dk_172 (dk_at dksX1_isComputed_1 6 rfl rfl)
theorem dX1_isComputed_29 : decode cX1_isComputed 29 = .ok (.aload_n 3, 1) := dk_45 (dk_at dksX1_isComputed_1 7 rfl rfl)
theorem dX1_isComputed_30 : decode cX1_isComputed 30 = .ok (.getfield 119, 3) := dk_180 0 119 (dk_at dksX1_isComputed_1 8 rfl rfl)
theorem dX1_isComputed_33 : decode cX1_isComputed 33 = .ok (.bipush 100, 2) := dk_16 100 (dk_at dksX1_isComputed_1 11 rfl rfl)
theorem dX1_isComputed_35 : decode cX1_isComputed 35 = .ok (.if_icmp .ne 25, 3) := dk_160 0 25 (dk_at dksX1_isComputed_1 13 rfl rfl)
theorem dX1_isComputed_38 : decode cX1_isComputed 38 = .ok (.aload_n 1, 1) := dk_43 (dk_at dksX1_isComputed_1 16 rfl rfl)
theorem dX1_isComputed_39 : decode cX1_isComputed 39 = .ok (.aload_n 3, 1) := dk_45 (dk_at dksX1_isComputed_1 17 rfl rfl)
theorem dX1_isComputed_40 : decode cX1_isComputed 40 = .ok (.getfield 168, 3) := dk_180 0 168 (dk_at dksX1_isComputed_1 18 rfl rfl)
theorem dX1_isComputed_43 : decode cX1_isComputed 43 = .ok (.aload 4, 2) := dk_25 4 (dk_at dksX1_isComputed_1 21 rfl rfl)
theorem dX1_isComputed_45 : decode cX1_isComputed 45 = .ok (.aload_n 3, 1) := dk_45 (dk_at dksX1_isComputed_1 23 rfl rfl)
theorem dX1_isComputed_46 : decode cX1_isComputed 46 = .ok (.getfield 127, 3) := dk_180 0 127 (dk_at dksX1_isComputed_2 0 rfl rfl)
theorem dX1_isComputed_49 : decode cX1_isComputed 49 = .ok (.iload 5, 2) := dk_21 5 (dk_at dksX1_isComputed_2 3 rfl rfl)
theorem dX1_isComputed_51 : decode cX1_isComputed 51 = .ok (.invokeinterface 131 3, 5) := by decide +kernel
theorem dX1_isComputed_56 : decode cX1_isComputed 56 = .ok (.i2l, 1) := dk_133 (dk_at dksX1_isComputed_2 10 rfl rfl)
theorem dX1_isComputed_57 : decode cX1_isComputed 57 = .ok (.lastore, 1) := dk_80 (dk_at dksX1_isComputed_2 11 rfl rfl)
theorem dX1_isComputed_58 : decode cX1_isComputed 58 = .ok (.iconst 1, 1) := dk_4 (dk_at dksX1_isComputed_2 12 rfl rfl)
theorem dX1_isComputed_59 : decode cX1_isComputed 59 = .ok (.ireturn, 1) := dk_172 (dk_at dksX1_isComputed_2 13 rfl rfl)
theorem dX1_isComputed_60 : decode cX1_isComputed 60 = .ok (.aload_n 1, 1) := dk_43 (dk_at dksX1_isComputed_2 14 rfl rfl)
theorem dX1_isComputed_61 : decode cX1_isComputed 61 = .ok (.aload_n 3, 1) := dk_45 (dk_at dksX1_isComputed_2 15 rfl rfl)
theorem dX1_isComputed_62 : decode cX1_isComputed 62 = .ok (.getfield 168, 3) := dk_180 0 168 (dk_at dksX1_isComputed_2 16 rfl rfl)
theorem dX1_isComputed_65 : decode cX1_isComputed 65 = .ok (.aload_n 3, 1) := dk_45 (dk_at dksX1_isComputed_2 19 rfl rfl)
theorem dX1_isComputed_66 : decode cX1_isComputed 66 = .ok (.getfield 123, 3) := dk_180 0 123 (dk_at dksX1_isComputed_2 20 rfl rfl)
theorem dX1_isComputed_69 : decode cX1_isComputed 69 = .ok (.aload_n 1, 1) := dk_43 (dk_at dksX1_isComputed_2 23 rfl rfl)
theorem dX1_isComputed_70 : decode cX1_isComputed 70 = .ok (.aload_n 3, 1) := dk_45 (dk_at dksX1_isComputed_3 0 rfl rfl)
theorem dX1_isComputed_71 : decode cX1_isComputed 71 = .ok (.getfield 127, 3) := dk_180 0 127 (dk_at dksX1_isComputed_3 1 rfl rfl)
theorem dX1_isComputed_74 : decode cX1_isComputed 74 = .ok (.laload, 1) := dk_47 (dk_at dksX1_isComputed_3 4 rfl rfl)
theorem dX1_isComputed_75 : decode cX1_isComputed 75 = .ok (.aload_n 1, 1) := dk_43 (dk_at dksX1_isComputed_3 5 rfl rfl)
theorem dX1_isComputed_76 : decode cX1_isComputed 76 = .ok (.aload_n 3, 1) := dk_45 (dk_at dksX1_isComputed_3 6 rfl rfl)
theorem dX1_isComputed_77 : decode cX1_isComputed 77 = .ok (.getfield 149, 3) := dk_180 0 149 (dk_at dksX1_isComputed_3 7 rfl rfl)
theorem dX1_isComputed_80 : decode cX1_isComputed 80 = .ok (.laload, 1) := dk_47 (dk_at dksX1_isComputed_3 10 rfl rfl)
theorem dX1_isComputed_81 : decode cX1_isComputed 81 = .ok (.invokeinterface 136 5, 5) := by decide +kernel
theorem dX1_isComputed_86 : decode cX1_isComputed 86 = .ok (.lastore, 1) := dk_80 (dk_at dksX1_isComputed_3 16 rfl rfl)
theorem dX1_isComputed_87 : decode cX1_isComputed 87 = .ok (.aload_n 2, 1) := dk_44 (dk_at dksX1_isComputed_3 17 rfl rfl)
theorem dX1_isComputed_88 : decode cX1_isComputed 88 = .ok (.aload_n 3, 1) := dk_45 (dk_at dksX1_isComputed_3 18 rfl rfl)
theorem dX1_isComputed_89 : decode cX1_isComputed 89 = .ok (.getfield 127, 3) := dk_180 0 127 (dk_at dksX1_isComputed_3 19 rfl rfl)
theorem dX1_isComputed_92 : decode cX1_isComputed 92 = .ok (.baload, 1) := dk_51 (dk_at dksX1_isComputed_3 22 rfl rfl)
theorem dX1_isComputed_93 : decode cX1_isComputed 93 = .ok (.ifCond .eq 32, 3) := dk_153 0 32 (dk_at dksX1_isComputed_4 0 rfl rfl)
theorem dX1_isComputed_96 : decode cX1_isComputed 96 = .ok (.aload_n 2, 1) := dk_44 (dk_at dksX1_isComputed_4 3 rfl rfl)
theorem dX1_isComputed_97 : decode cX1_isComputed 97 = .ok (.aload_n 3, 1) := dk_45 (dk_at dksX1_isComputed_4 4 rfl rfl)
theorem dX1_isComputed_98 : decode cX1_isComputed 98 = .ok (.getfield 149, 3) := dk_180 0 149 (dk_at dksX1_isComputed_4 5 rfl rfl)
theorem dX1_isComputed_101 : decode cX1_isComputed 101 = .ok (.baload, 1) := dk_51 (dk_at dksX1_isComputed_4 8 rfl rfl)
theorem dX1_isComputed_102 : decode cX1_isComputed 102 = .ok (.ifCond .eq 23, 3) := dk_153 0 23 (dk_at dksX1_isComputed_4 9 rfl rfl)
theorem dX1_isComputed_105 : decode cX1_isComputed 105 = .ok (.aload_n 1, 1) := dk_43 (dk_at dksX1_isComputed_4 12 rfl rfl)
theorem dX1_isComputed_106 : decode cX1_isComputed 106 = .ok (.aload_n 3, 1) := dk_45 (dk_at dksX1_isComputed_4 13 rfl rfl)
theorem dX1_isComputed_107 : decode cX1_isComputed 107 = .ok (.getfield 168, 3) := dk_180 0 168 (dk_at dksX1_isComputed_4 14 rfl rfl)
theorem dX1_isComputed_110 : decode cX1_isComputed 110 = .ok (.laload, 1) := dk_47 (dk_at dksX1_isComputed_4 17 rfl rfl)
theorem dX1_isComputed_111 : decode cX1_isComputed 111 = .ok (.invokestatic 171, 3) := dk_184 0 171 (dk_at dksX1_isComputed_4 18 rfl rfl)
theorem dX1_isComputed_114 : decode cX1_isComputed 114 = .ok (.ldc2_w 22, 3) := dk_20 0 22 (dk_at dksX1_isComputed_4 21 rfl rfl)
theorem dX1_isComputed_117 : decode cX1_isComputed 117 = .ok (.lcmp, 1) := dk_148 (dk_at dksX1_isComputed_5 0 rfl rfl)
theorem dX1_isComputed_118 : decode cX1_isComputed 118 = .ok (.ifCond .gt 7, 3) := dk_157 0 7 (dk_at dksX1_isComputed_5 1 rfl rfl)
theorem dX1_isComputed_121 : decode cX1_isComputed 121 = .ok (.iconst 1, 1) := dk_4 (dk_at dksX1_isComputed_5 4 rfl rfl)
theorem dX1_isComputed_122 : decode cX1_isComputed 122 = .ok (.goto 4, 3) := dk_167 0 4 (dk_at dksX1_isComputed_5 5 rfl rfl)
theorem dX1_isComputed_125 : decode cX1_isComputed 125 = .ok (.iconst 0, 1) := dk_3 (dk_at dksX1_isComputed_5 8 rfl rfl)
theorem dX1_isComputed_126 : decode cX1_isComputed 126 = .ok (.ireturn, 1) := dk_172 (dk_at dksX1_isComputed_5 9 rfl rfl)
abbrev cX1_year : ByteArray := prog_1_method_23_code
def yX1_year : MethodName := ⟨RX1, "year", "(II)J"⟩
def dkwX1_year_2 : List UInt8 := [132, 7, 1, 167, 255, 231, 22, 5, 173]
abbrev dktX1_year_2 : List UInt8 := dkwX1_year_2 ++ []
def dkwX1_year_1 : List UInt8 := [21, 7, 16, 12, 162, 0, 24, 22, 5, 42, 45, 25, 4, 21, 7, 182, 0, 165, 133, 97, 55, 5]
abbrev dktX1_year_1 : List UInt8 := dkwX1_year_1 ++ dktX1_year_2
def dkwX1_year_0 : List UInt8 := [42, 42, 27, 182, 0, 157, 182, 0, 109, 78, 42, 28, 182, 0, 79, 58, 4, 9, 55, 5, 3, 54, 7]
abbrev dktX1_year_0 : List UInt8 := dkwX1_year_0 ++ dktX1_year_1
theorem dksX1_year_0 : cX1_year.data.toList.drop 0 = dktX1_year_0 := by decide +kernel
theorem dksX1_year_1 : cX1_year.data.toList.drop 23 = dktX1_year_1 := dk_seg dksX1_year_0 23 rfl rfl
theorem dksX1_year_2 : cX1_year.data.toList.drop 45 = dktX1_year_2 := dk_seg dksX1_year_1 22 rfl rfl
theorem dX1_year_0 : decode cX1_year 0 = .ok (.aload_n 0, 1) := dk_42 (dk_at dksX1_year_0 0 rfl rfl)
theorem dX1_year_1 : decode cX1_year 1 = .ok (.aload_n 0, 1) := dk_42 (dk_at dksX1_year_0 1 rfl rfl)
theorem dX1_year_2 : decode cX1_year 2 = .ok (.iload_n 1, 1) := dk_27 (dk_at dksX1_year_0 2 rfl rfl)
theorem dX1_year_3 : decode cX1_year 3 = .ok (.invokevirtual 157, 3) := dk_182 0 157 (dk_at dksX1_year_0 3 rfl rfl)
theorem dX1_year_6 : decode cX1_year 6 = .ok (.invokevirtual 109, 3) := dk_182 0 109 (dk_at dksX1_year_0 6 rfl rfl)
theorem dX1_year_9 : decode cX1_year 9 = .ok (.astore_n 3, 1) := dk_78 (dk_at dksX1_year_0 9 rfl rfl)
theorem dX1_year_10 : decode cX1_year 10 = .ok (.aload_n 0, 1) := dk_42 (dk_at dksX1_year_0 10 rfl rfl)
theorem dX1_year_11 : decode cX1_year 11 = .ok (.iload_n 2, 1) := dk_28 (dk_at dksX1_year_0 11 rfl rfl)
theorem dX1_year_12 : decode cX1_year 12 = .ok (.invokevirtual 79, 3) := dk_182 0 79 (dk_at dksX1_year_0 12 rfl rfl)
theorem dX1_year_15 : decode cX1_year 15 = .ok (.astore 4, 2) := dk_58 4 (dk_at dksX1_year_0 15 rfl rfl)
theorem dX1_year_17 : decode cX1_year 17 = .ok (.lconst 0, 1) := dk_9 (dk_at dksX1_year_0 17 rfl rfl)
theorem dX1_year_18 : decode cX1_year 18 = .ok (.lstore 5, 2) := dk_55 5 (dk_at dksX1_year_0 18 rfl rfl)
theorem dX1_year_20 : decode cX1_year 20 = .ok (.iconst 0, 1) := dk_3 (dk_at dksX1_year_0 20 rfl rfl)
theorem dX1_year_21 : decode cX1_year 21 = .ok (.istore 7, 2) := dk_54 7 (dk_at dksX1_year_0 21 rfl rfl)
theorem dX1_year_23 : decode cX1_year 23 = .ok (.iload 7, 2) := dk_21 7 (dk_at dksX1_year_1 0 rfl rfl)
theorem dX1_year_25 : decode cX1_year 25 = .ok (.bipush 12, 2) := dk_16 12 (dk_at dksX1_year_1 2 rfl rfl)
theorem dX1_year_27 : decode cX1_year 27 = .ok (.if_icmp .ge 24, 3) := dk_162 0 24 (dk_at dksX1_year_1 4 rfl rfl)
theorem dX1_year_30 : decode cX1_year 30 = .ok (.lload 5, 2) := dk_22 5 (dk_at dksX1_year_1 7 rfl rfl)
theorem dX1_year_32 : decode cX1_year 32 = .ok (.aload_n 0, 1) := dk_42 (dk_at dksX1_year_1 9 rfl rfl)
theorem dX1_year_33 : decode cX1_year 33 = .ok (.aload_n 3, 1) := dk_45 (dk_at dksX1_year_1 10 rfl rfl)
theorem dX1_year_34 : decode cX1_year 34 = .ok (.aload 4, 2) := dk_25 4 (dk_at dksX1_year_1 11 rfl rfl)
theorem dX1_year_36 : decode cX1_year 36 = .ok (.iload 7, 2) := dk_21 7 (dk_at dksX1_year_1 13 rfl rfl)
theorem dX1_year_38 : decode cX1_year 38 = .ok (.invokevirtual 165, 3) := dk_182 0 165 (dk_at dksX1_year_1 15 rfl rfl)
theorem dX1_year_41 : decode cX1_year 41 = .ok (.i2l, 1) := dk_133 (dk_at dksX1_year_1 18 rfl rfl)
theorem dX1_year_42 : decode cX1_year 42 = .ok (.ladd, 1) := dk_97 (dk_at dksX1_year_1 19 rfl rfl)
theorem dX1_year_43 : decode cX1_year 43 = .ok (.lstore 5, 2) := dk_55 5 (dk_at dksX1_year_1 20 rfl rfl)
theorem dX1_year_45 : decode cX1_year 45 = .ok (.iinc 7 1, 3) := dk_132 7 1 (dk_at dksX1_year_2 0 rfl rfl)
theorem dX1_year_48 : decode cX1_year 48 = .ok (.goto (-25), 3) := dk_167 255 231 (dk_at dksX1_year_2 3 rfl rfl)
theorem dX1_year_51 : decode cX1_year 51 = .ok (.lload 5, 2) := dk_22 5 (dk_at dksX1_year_2 6 rfl rfl)
theorem dX1_year_53 : decode cX1_year 53 = .ok (.lreturn, 1) := dk_173 (dk_at dksX1_year_2 8 rfl rfl)
abbrev cX1_effect : ByteArray := prog_1_method_24_code
def yX1_effect : MethodName := ⟨RX1, "effect", "(IIII)I"⟩
def dkwX1_effect_2 : List UInt8 := [25, 6, 21, 4, 182, 0, 165, 100, 172]
abbrev dktX1_effect_2 : List UInt8 := dkwX1_effect_2 ++ []
def dkwX1_effect_1 : List UInt8 := [25, 5, 28, 182, 0, 105, 25, 6, 21, 4, 182, 0, 165, 42, 42, 25, 5, 28, 4, 100, 182, 0, 105]
abbrev dktX1_effect_1 : List UInt8 := dkwX1_effect_1 ++ dktX1_effect_2
def dkwX1_effect_0 : List UInt8 := [42, 27, 182, 0, 157, 58, 5, 42, 28, 182, 0, 182, 42, 29, 21, 4, 182, 0, 161, 58, 6, 42, 42]
abbrev dktX1_effect_0 : List UInt8 := dkwX1_effect_0 ++ dktX1_effect_1
theorem dksX1_effect_0 : cX1_effect.data.toList.drop 0 = dktX1_effect_0 := by decide +kernel
theorem dksX1_effect_1 : cX1_effect.data.toList.drop 23 = dktX1_effect_1 := dk_seg dksX1_effect_0 23 rfl rfl
theorem dksX1_effect_2 : cX1_effect.data.toList.drop 46 = dktX1_effect_2 := dk_seg dksX1_effect_1 23 rfl rfl
theorem dX1_effect_0 : decode cX1_effect 0 = .ok (.aload_n 0, 1) := dk_42 (dk_at dksX1_effect_0 0 rfl rfl)
theorem dX1_effect_1 : decode cX1_effect 1 = .ok (.iload_n 1, 1) := dk_27 (dk_at dksX1_effect_0 1 rfl rfl)
theorem dX1_effect_2 : decode cX1_effect 2 = .ok (.invokevirtual 157, 3) := dk_182 0 157 (dk_at dksX1_effect_0 2 rfl rfl)
theorem dX1_effect_5 : decode cX1_effect 5 = .ok (.astore 5, 2) := dk_58 5 (dk_at dksX1_effect_0 5 rfl rfl)
theorem dX1_effect_7 : decode cX1_effect 7 = .ok (.aload_n 0, 1) := dk_42 (dk_at dksX1_effect_0 7 rfl rfl)
theorem dX1_effect_8 : decode cX1_effect 8 = .ok (.iload_n 2, 1) := dk_28 (dk_at dksX1_effect_0 8 rfl rfl)
theorem dX1_effect_9 : decode cX1_effect 9 = .ok (.invokevirtual 182, 3) := dk_182 0 182 (dk_at dksX1_effect_0 9 rfl rfl)
theorem dX1_effect_12 : decode cX1_effect 12 = .ok (.aload_n 0, 1) := dk_42 (dk_at dksX1_effect_0 12 rfl rfl)
theorem dX1_effect_13 : decode cX1_effect 13 = .ok (.iload_n 3, 1) := dk_29 (dk_at dksX1_effect_0 13 rfl rfl)
theorem dX1_effect_14 : decode cX1_effect 14 = .ok (.iload 4, 2) := dk_21 4 (dk_at dksX1_effect_0 14 rfl rfl)
theorem dX1_effect_16 : decode cX1_effect 16 = .ok (.invokevirtual 161, 3) := dk_182 0 161 (dk_at dksX1_effect_0 16 rfl rfl)
theorem dX1_effect_19 : decode cX1_effect 19 = .ok (.astore 6, 2) := dk_58 6 (dk_at dksX1_effect_0 19 rfl rfl)
theorem dX1_effect_21 : decode cX1_effect 21 = .ok (.aload_n 0, 1) := dk_42 (dk_at dksX1_effect_0 21 rfl rfl)
theorem dX1_effect_22 : decode cX1_effect 22 = .ok (.aload_n 0, 1) := dk_42 (dk_at dksX1_effect_0 22 rfl rfl)
theorem dX1_effect_23 : decode cX1_effect 23 = .ok (.aload 5, 2) := dk_25 5 (dk_at dksX1_effect_1 0 rfl rfl)
theorem dX1_effect_25 : decode cX1_effect 25 = .ok (.iload_n 2, 1) := dk_28 (dk_at dksX1_effect_1 2 rfl rfl)
theorem dX1_effect_26 : decode cX1_effect 26 = .ok (.invokevirtual 105, 3) := dk_182 0 105 (dk_at dksX1_effect_1 3 rfl rfl)
theorem dX1_effect_29 : decode cX1_effect 29 = .ok (.aload 6, 2) := dk_25 6 (dk_at dksX1_effect_1 6 rfl rfl)
theorem dX1_effect_31 : decode cX1_effect 31 = .ok (.iload 4, 2) := dk_21 4 (dk_at dksX1_effect_1 8 rfl rfl)
theorem dX1_effect_33 : decode cX1_effect 33 = .ok (.invokevirtual 165, 3) := dk_182 0 165 (dk_at dksX1_effect_1 10 rfl rfl)
theorem dX1_effect_36 : decode cX1_effect 36 = .ok (.aload_n 0, 1) := dk_42 (dk_at dksX1_effect_1 13 rfl rfl)
theorem dX1_effect_37 : decode cX1_effect 37 = .ok (.aload_n 0, 1) := dk_42 (dk_at dksX1_effect_1 14 rfl rfl)
theorem dX1_effect_38 : decode cX1_effect 38 = .ok (.aload 5, 2) := dk_25 5 (dk_at dksX1_effect_1 15 rfl rfl)
theorem dX1_effect_40 : decode cX1_effect 40 = .ok (.iload_n 2, 1) := dk_28 (dk_at dksX1_effect_1 17 rfl rfl)
theorem dX1_effect_41 : decode cX1_effect 41 = .ok (.iconst 1, 1) := dk_4 (dk_at dksX1_effect_1 18 rfl rfl)
theorem dX1_effect_42 : decode cX1_effect 42 = .ok (.isub, 1) := dk_100 (dk_at dksX1_effect_1 19 rfl rfl)
theorem dX1_effect_43 : decode cX1_effect 43 = .ok (.invokevirtual 105, 3) := dk_182 0 105 (dk_at dksX1_effect_1 20 rfl rfl)
theorem dX1_effect_46 : decode cX1_effect 46 = .ok (.aload 6, 2) := dk_25 6 (dk_at dksX1_effect_2 0 rfl rfl)
theorem dX1_effect_48 : decode cX1_effect 48 = .ok (.iload 4, 2) := dk_21 4 (dk_at dksX1_effect_2 2 rfl rfl)
theorem dX1_effect_50 : decode cX1_effect 50 = .ok (.invokevirtual 165, 3) := dk_182 0 165 (dk_at dksX1_effect_2 4 rfl rfl)
theorem dX1_effect_53 : decode cX1_effect 53 = .ok (.isub, 1) := dk_100 (dk_at dksX1_effect_2 7 rfl rfl)
theorem dX1_effect_54 : decode cX1_effect 54 = .ok (.ireturn, 1) := dk_172 (dk_at dksX1_effect_2 8 rfl rfl)
abbrev cX1_seek : ByteArray := prog_1_method_26_code
def yX1_seek : MethodName := ⟨RX1, "seek", "(IIII)I"⟩
def dkwX1_seek_6 : List UInt8 := [21, 9, 172, 58, 10, 42, 180, 0, 48, 27, 21, 6, 184, 0, 95, 185, 0, 191, 3, 0, 87, 25, 10, 191]
abbrev dktX1_seek_6 : List UInt8 := dkwX1_seek_6 ++ []
def dkwX1_seek_5 : List UInt8 := [184, 0, 199, 21, 8, 54, 9, 42, 180, 0, 48, 27, 21, 6, 184, 0, 95, 185, 0, 191, 3, 0, 87]
abbrev dktX1_seek_5 : List UInt8 := dkwX1_seek_5 ++ dktX1_seek_6
def dkwX1_seek_4 : List UInt8 := [185, 0, 191, 3, 0, 87, 167, 255, 215, 21, 8, 17, 3, 232, 162, 0, 7, 4, 167, 0, 4, 3]
abbrev dktX1_seek_4 : List UInt8 := dkwX1_seek_4 ++ dktX1_seek_5
def dkwX1_seek_3 : List UInt8 := [21, 4, 182, 0, 195, 154, 0, 25, 132, 8, 1, 42, 180, 0, 48, 27, 21, 8, 184, 0, 95]
abbrev dktX1_seek_3 : List UInt8 := dkwX1_seek_3 ++ dktX1_seek_4
def dkwX1_seek_2 : List UInt8 := [184, 0, 95, 185, 0, 191, 3, 0, 87, 21, 8, 17, 3, 232, 162, 0, 39, 42, 25, 7, 25, 5, 29]
abbrev dktX1_seek_2 : List UInt8 := dkwX1_seek_2 ++ dktX1_seek_3
def dkwX1_seek_1 : List UInt8 := [192, 0, 96, 182, 0, 116, 54, 6, 42, 182, 0, 187, 58, 7, 3, 54, 8, 42, 180, 0, 48, 27, 21, 8]
abbrev dktX1_seek_1 : List UInt8 := dkwX1_seek_1 ++ dktX1_seek_2
def dkwX1_seek_0 : List UInt8 := [42, 27, 182, 0, 182, 42, 28, 29, 182, 0, 161, 58, 5, 42, 180, 0, 48, 27, 185, 0, 73, 2, 0]
abbrev dktX1_seek_0 : List UInt8 := dkwX1_seek_0 ++ dktX1_seek_1
theorem dksX1_seek_0 : cX1_seek.data.toList.drop 0 = dktX1_seek_0 := by decide +kernel
theorem dksX1_seek_1 : cX1_seek.data.toList.drop 23 = dktX1_seek_1 := dk_seg dksX1_seek_0 23 rfl rfl
theorem dksX1_seek_2 : cX1_seek.data.toList.drop 47 = dktX1_seek_2 := dk_seg dksX1_seek_1 24 rfl rfl
theorem dksX1_seek_3 : cX1_seek.data.toList.drop 70 = dktX1_seek_3 := dk_seg dksX1_seek_2 23 rfl rfl
theorem dksX1_seek_4 : cX1_seek.data.toList.drop 91 = dktX1_seek_4 := dk_seg dksX1_seek_3 21 rfl rfl
theorem dksX1_seek_5 : cX1_seek.data.toList.drop 113 = dktX1_seek_5 := dk_seg dksX1_seek_4 22 rfl rfl
theorem dksX1_seek_6 : cX1_seek.data.toList.drop 136 = dktX1_seek_6 := dk_seg dksX1_seek_5 23 rfl rfl
theorem dX1_seek_0 : decode cX1_seek 0 = .ok (.aload_n 0, 1) := dk_42 (dk_at dksX1_seek_0 0 rfl rfl)
theorem dX1_seek_1 : decode cX1_seek 1 = .ok (.iload_n 1, 1) := dk_27 (dk_at dksX1_seek_0 1 rfl rfl)
theorem dX1_seek_2 : decode cX1_seek 2 = .ok (.invokevirtual 182, 3) := dk_182 0 182 (dk_at dksX1_seek_0 2 rfl rfl)
theorem dX1_seek_5 : decode cX1_seek 5 = .ok (.aload_n 0, 1) := dk_42 (dk_at dksX1_seek_0 5 rfl rfl)
theorem dX1_seek_6 : decode cX1_seek 6 = .ok (.iload_n 2, 1) := dk_28 (dk_at dksX1_seek_0 6 rfl rfl)
theorem dX1_seek_7 : decode cX1_seek 7 = .ok (.iload_n 3, 1) := dk_29 (dk_at dksX1_seek_0 7 rfl rfl)
theorem dX1_seek_8 : decode cX1_seek 8 = .ok (.invokevirtual 161, 3) := dk_182 0 161 (dk_at dksX1_seek_0 8 rfl rfl)
theorem dX1_seek_11 : decode cX1_seek 11 = .ok (.astore 5, 2) := dk_58 5 (dk_at dksX1_seek_0 11 rfl rfl)
theorem dX1_seek_13 : decode cX1_seek 13 = .ok (.aload_n 0, 1) := dk_42 (dk_at dksX1_seek_0 13 rfl rfl)
theorem dX1_seek_14 : decode cX1_seek 14 = .ok (.getfield 48, 3) := dk_180 0 48 (dk_at dksX1_seek_0 14 rfl rfl)
theorem dX1_seek_17 : decode cX1_seek 17 = .ok (.iload_n 1, 1) := dk_27 (dk_at dksX1_seek_0 17 rfl rfl)
theorem dX1_seek_18 : decode cX1_seek 18 = .ok (.invokeinterface 73 2, 5) := by decide +kernel
theorem dX1_seek_23 : decode cX1_seek 23 = .ok (.checkcast 96, 3) := dk_192 0 96 (dk_at dksX1_seek_1 0 rfl rfl)
theorem dX1_seek_26 : decode cX1_seek 26 = .ok (.invokevirtual 116, 3) := dk_182 0 116 (dk_at dksX1_seek_1 3 rfl rfl)
theorem dX1_seek_29 : decode cX1_seek 29 = .ok (.istore 6, 2) := dk_54 6 (dk_at dksX1_seek_1 6 rfl rfl)
theorem dX1_seek_31 : decode cX1_seek 31 = .ok (.aload_n 0, 1) := dk_42 (dk_at dksX1_seek_1 8 rfl rfl)
theorem dX1_seek_32 : decode cX1_seek 32 = .ok (.invokevirtual 187, 3) := dk_182 0 187 (dk_at dksX1_seek_1 9 rfl rfl)
theorem dX1_seek_35 : decode cX1_seek 35 = .ok (.astore 7, 2) := dk_58 7 (dk_at dksX1_seek_1 12 rfl rfl)
theorem dX1_seek_37 : decode cX1_seek 37 = .ok (.iconst 0, 1) := dk_3 (dk_at dksX1_seek_1 14 rfl rfl)
theorem dX1_seek_38 : decode cX1_seek 38 = .ok (.istore 8, 2) := dk_54 8 (dk_at dksX1_seek_1 15 rfl rfl)
theorem dX1_seek_40 : decode cX1_seek 40 = .ok (.aload_n 0, 1) := dk_42 (dk_at dksX1_seek_1 17 rfl rfl)
theorem dX1_seek_41 : decode cX1_seek 41 = .ok (.getfield 48, 3) := dk_180 0 48 (dk_at dksX1_seek_1 18 rfl rfl)
theorem dX1_seek_44 : decode cX1_seek 44 = .ok (.iload_n 1, 1) := dk_27 (dk_at dksX1_seek_1 21 rfl rfl)
theorem dX1_seek_45 : decode cX1_seek 45 = .ok (.iload 8, 2) := dk_21 8 (dk_at dksX1_seek_1 22 rfl rfl)
theorem dX1_seek_47 : decode cX1_seek 47 = .ok (.invokestatic 95, 3) := dk_184 0 95 (dk_at dksX1_seek_2 0 rfl rfl)
theorem dX1_seek_50 : decode cX1_seek 50 = .ok (.invokeinterface 191 3, 5) := by decide +kernel
theorem dX1_seek_55 : decode cX1_seek 55 = .ok (.pop, 1) := dk_87 (dk_at dksX1_seek_2 8 rfl rfl)
theorem dX1_seek_56 : decode cX1_seek 56 = .ok (.iload 8, 2) := dk_21 8 (dk_at dksX1_seek_2 9 rfl rfl)
theorem dX1_seek_58 : decode cX1_seek 58 = .ok (.sipush 1000, 3) := dk_17 3 232 (dk_at dksX1_seek_2 11 rfl rfl)
theorem dX1_seek_61 : decode cX1_seek 61 = .ok (.if_icmp .ge 39, 3) := dk_162 0 39 (dk_at dksX1_seek_2 14 rfl rfl)
theorem dX1_seek_64 : decode cX1_seek 64 = .ok (.aload_n 0, 1) := dk_42 (dk_at dksX1_seek_2 17 rfl rfl)
theorem dX1_seek_65 : decode cX1_seek 65 = .ok (.aload 7, 2) := dk_25 7 (dk_at dksX1_seek_2 18 rfl rfl)
theorem dX1_seek_67 : decode cX1_seek 67 = .ok (.aload 5, 2) := dk_25 5 (dk_at dksX1_seek_2 20 rfl rfl)
theorem dX1_seek_69 : decode cX1_seek 69 = .ok (.iload_n 3, 1) := dk_29 (dk_at dksX1_seek_2 22 rfl rfl)
theorem dX1_seek_70 : decode cX1_seek 70 = .ok (.iload 4, 2) := dk_21 4 (dk_at dksX1_seek_3 0 rfl rfl)
theorem dX1_seek_72 : decode cX1_seek 72 = .ok (.invokevirtual 195, 3) := dk_182 0 195 (dk_at dksX1_seek_3 2 rfl rfl)
theorem dX1_seek_75 : decode cX1_seek 75 = .ok (.ifCond .ne 25, 3) := dk_154 0 25 (dk_at dksX1_seek_3 5 rfl rfl)
theorem dX1_seek_78 : decode cX1_seek 78 = .ok (.iinc 8 1, 3) := dk_132 8 1 (dk_at dksX1_seek_3 8 rfl rfl)
theorem dX1_seek_81 : decode cX1_seek 81 = .ok (.aload_n 0, 1) := dk_42 (dk_at dksX1_seek_3 11 rfl rfl)
theorem dX1_seek_82 : decode cX1_seek 82 = .ok (.getfield 48, 3) := dk_180 0 48 (dk_at dksX1_seek_3 12 rfl rfl)
theorem dX1_seek_85 : decode cX1_seek 85 = .ok (.iload_n 1, 1) := dk_27 (dk_at dksX1_seek_3 15 rfl rfl)
theorem dX1_seek_86 : decode cX1_seek 86 = .ok (.iload 8, 2) := dk_21 8 (dk_at dksX1_seek_3 16 rfl rfl)
theorem dX1_seek_88 : decode cX1_seek 88 = .ok (.invokestatic 95, 3) := dk_184 0 95 (dk_at dksX1_seek_3 18 rfl rfl)
theorem dX1_seek_91 : decode cX1_seek 91 = .ok (.invokeinterface 191 3, 5) := by decide +kernel
theorem dX1_seek_96 : decode cX1_seek 96 = .ok (.pop, 1) := dk_87 (dk_at dksX1_seek_4 5 rfl rfl)
theorem dX1_seek_97 : decode cX1_seek 97 = .ok (.goto (-41), 3) := dk_167 255 215 (dk_at dksX1_seek_4 6 rfl rfl)
theorem dX1_seek_100 : decode cX1_seek 100 = .ok (.iload 8, 2) := dk_21 8 (dk_at dksX1_seek_4 9 rfl rfl)
theorem dX1_seek_102 : decode cX1_seek 102 = .ok (.sipush 1000, 3) := dk_17 3 232 (dk_at dksX1_seek_4 11 rfl rfl)
theorem dX1_seek_105 : decode cX1_seek 105 = .ok (.if_icmp .ge 7, 3) := dk_162 0 7 (dk_at dksX1_seek_4 14 rfl rfl)
theorem dX1_seek_108 : decode cX1_seek 108 = .ok (.iconst 1, 1) := dk_4 (dk_at dksX1_seek_4 17 rfl rfl)
theorem dX1_seek_109 : decode cX1_seek 109 = .ok (.goto 4, 3) := dk_167 0 4 (dk_at dksX1_seek_4 18 rfl rfl)
theorem dX1_seek_112 : decode cX1_seek 112 = .ok (.iconst 0, 1) := dk_3 (dk_at dksX1_seek_4 21 rfl rfl)
theorem dX1_seek_113 : decode cX1_seek 113 = .ok (.invokestatic 199, 3) := dk_184 0 199 (dk_at dksX1_seek_5 0 rfl rfl)
theorem dX1_seek_116 : decode cX1_seek 116 = .ok (.iload 8, 2) := dk_21 8 (dk_at dksX1_seek_5 3 rfl rfl)
theorem dX1_seek_118 : decode cX1_seek 118 = .ok (.istore 9, 2) := dk_54 9 (dk_at dksX1_seek_5 5 rfl rfl)
theorem dX1_seek_120 : decode cX1_seek 120 = .ok (.aload_n 0, 1) := dk_42 (dk_at dksX1_seek_5 7 rfl rfl)
theorem dX1_seek_121 : decode cX1_seek 121 = .ok (.getfield 48, 3) := dk_180 0 48 (dk_at dksX1_seek_5 8 rfl rfl)
theorem dX1_seek_124 : decode cX1_seek 124 = .ok (.iload_n 1, 1) := dk_27 (dk_at dksX1_seek_5 11 rfl rfl)
theorem dX1_seek_125 : decode cX1_seek 125 = .ok (.iload 6, 2) := dk_21 6 (dk_at dksX1_seek_5 12 rfl rfl)
theorem dX1_seek_127 : decode cX1_seek 127 = .ok (.invokestatic 95, 3) := dk_184 0 95 (dk_at dksX1_seek_5 14 rfl rfl)
theorem dX1_seek_130 : decode cX1_seek 130 = .ok (.invokeinterface 191 3, 5) := by decide +kernel
theorem dX1_seek_135 : decode cX1_seek 135 = .ok (.pop, 1) := dk_87 (dk_at dksX1_seek_5 22 rfl rfl)
theorem dX1_seek_136 : decode cX1_seek 136 = .ok (.iload 9, 2) := dk_21 9 (dk_at dksX1_seek_6 0 rfl rfl)
theorem dX1_seek_138 : decode cX1_seek 138 = .ok (.ireturn, 1) := dk_172 (dk_at dksX1_seek_6 2 rfl rfl)
theorem dX1_seek_139 : decode cX1_seek 139 = .ok (.astore 10, 2) := dk_58 10 (dk_at dksX1_seek_6 3 rfl rfl)
theorem dX1_seek_141 : decode cX1_seek 141 = .ok (.aload_n 0, 1) := dk_42 (dk_at dksX1_seek_6 5 rfl rfl)
theorem dX1_seek_142 : decode cX1_seek 142 = .ok (.getfield 48, 3) := dk_180 0 48 (dk_at dksX1_seek_6 6 rfl rfl)
theorem dX1_seek_145 : decode cX1_seek 145 = .ok (.iload_n 1, 1) := dk_27 (dk_at dksX1_seek_6 9 rfl rfl)
theorem dX1_seek_146 : decode cX1_seek 146 = .ok (.iload 6, 2) := dk_21 6 (dk_at dksX1_seek_6 10 rfl rfl)
theorem dX1_seek_148 : decode cX1_seek 148 = .ok (.invokestatic 95, 3) := dk_184 0 95 (dk_at dksX1_seek_6 12 rfl rfl)
theorem dX1_seek_151 : decode cX1_seek 151 = .ok (.invokeinterface 191 3, 5) := by decide +kernel
theorem dX1_seek_156 : decode cX1_seek 156 = .ok (.pop, 1) := dk_87 (dk_at dksX1_seek_6 20 rfl rfl)
theorem dX1_seek_157 : decode cX1_seek 157 = .ok (.aload 10, 2) := dk_25 10 (dk_at dksX1_seek_6 21 rfl rfl)
theorem dX1_seek_159 : decode cX1_seek 159 = .ok (.athrow, 1) := dk_191 (dk_at dksX1_seek_6 23 rfl rfl)
abbrev cX1_reaches : ByteArray := prog_1_method_25_code
def yX1_reaches : MethodName := ⟨RX1, "reaches", "(LCostStudio$View;LCostStudio$Line;II)Z"⟩
def dkwX1_reaches_0 : List UInt8 := [42, 43, 44, 29, 182, 0, 145, 21, 4, 161, 0, 7, 4, 167, 0, 4, 3, 172, 58, 5, 3, 172]
abbrev dktX1_reaches_0 : List UInt8 := dkwX1_reaches_0 ++ []
theorem dksX1_reaches_0 : cX1_reaches.data.toList.drop 0 = dktX1_reaches_0 := by decide +kernel
theorem dX1_reaches_0 : decode cX1_reaches 0 = .ok (.aload_n 0, 1) := dk_42 (dk_at dksX1_reaches_0 0 rfl rfl)
theorem dX1_reaches_1 : decode cX1_reaches 1 = .ok (.aload_n 1, 1) := dk_43 (dk_at dksX1_reaches_0 1 rfl rfl)
theorem dX1_reaches_2 : decode cX1_reaches 2 = .ok (.aload_n 2, 1) := dk_44 (dk_at dksX1_reaches_0 2 rfl rfl)
theorem dX1_reaches_3 : decode cX1_reaches 3 = .ok (.iload_n 3, 1) := dk_29 (dk_at dksX1_reaches_0 3 rfl rfl)
theorem dX1_reaches_4 : decode cX1_reaches 4 = .ok (.invokevirtual 145, 3) := dk_182 0 145 (dk_at dksX1_reaches_0 4 rfl rfl)
theorem dX1_reaches_7 : decode cX1_reaches 7 = .ok (.iload 4, 2) := dk_21 4 (dk_at dksX1_reaches_0 7 rfl rfl)
theorem dX1_reaches_9 : decode cX1_reaches 9 = .ok (.if_icmp .lt 7, 3) := dk_161 0 7 (dk_at dksX1_reaches_0 9 rfl rfl)
theorem dX1_reaches_12 : decode cX1_reaches 12 = .ok (.iconst 1, 1) := dk_4 (dk_at dksX1_reaches_0 12 rfl rfl)
theorem dX1_reaches_13 : decode cX1_reaches 13 = .ok (.goto 4, 3) := dk_167 0 4 (dk_at dksX1_reaches_0 13 rfl rfl)
theorem dX1_reaches_16 : decode cX1_reaches 16 = .ok (.iconst 0, 1) := dk_3 (dk_at dksX1_reaches_0 16 rfl rfl)
theorem dX1_reaches_17 : decode cX1_reaches 17 = .ok (.ireturn, 1) := dk_172 (dk_at dksX1_reaches_0 17 rfl rfl)
theorem dX1_reaches_18 : decode cX1_reaches 18 = .ok (.astore 5, 2) := dk_58 5 (dk_at dksX1_reaches_0 18 rfl rfl)
theorem dX1_reaches_20 : decode cX1_reaches 20 = .ok (.iconst 0, 1) := dk_3 (dk_at dksX1_reaches_0 20 rfl rfl)
theorem dX1_reaches_21 : decode cX1_reaches 21 = .ok (.ireturn, 1) := dk_172 (dk_at dksX1_reaches_0 21 rfl rfl)
abbrev cX1_requireElement : ByteArray := prog_1_method_5_code
def yX1_requireElement : MethodName := ⟨RX1, "requireElement", "(Z)V"⟩
def dkwX1_requireElement_0 : List UInt8 := [26, 154, 0, 11, 187, 0, 19, 89, 183, 0, 21, 191, 177]
abbrev dktX1_requireElement_0 : List UInt8 := dkwX1_requireElement_0 ++ []
theorem dksX1_requireElement_0 : cX1_requireElement.data.toList.drop 0 = dktX1_requireElement_0 := by decide +kernel
theorem dX1_requireElement_0 : decode cX1_requireElement 0 = .ok (.iload_n 0, 1) := dk_26 (dk_at dksX1_requireElement_0 0 rfl rfl)
theorem dX1_requireElement_1 : decode cX1_requireElement 1 = .ok (.ifCond .ne 11, 3) := dk_154 0 11 (dk_at dksX1_requireElement_0 1 rfl rfl)
theorem dX1_requireElement_4 : decode cX1_requireElement 4 = .ok (.new 19, 3) := dk_187 0 19 (dk_at dksX1_requireElement_0 4 rfl rfl)
theorem dX1_requireElement_7 : decode cX1_requireElement 7 = .ok (.dup, 1) := dk_89 (dk_at dksX1_requireElement_0 7 rfl rfl)
theorem dX1_requireElement_8 : decode cX1_requireElement 8 = .ok (.invokespecial 21, 3) := dk_183 0 21 (dk_at dksX1_requireElement_0 8 rfl rfl)
theorem dX1_requireElement_11 : decode cX1_requireElement 11 = .ok (.athrow, 1) := dk_191 (dk_at dksX1_requireElement_0 11 rfl rfl)
theorem dX1_requireElement_12 : decode cX1_requireElement 12 = .ok (.return_, 1) := dk_177 (dk_at dksX1_requireElement_0 12 rfl rfl)
abbrev cX1_actual : ByteArray := prog_1_method_34_code
def yX1_actual : MethodName := ⟨RX1, "actual", "(III)I"⟩
def dkwX1_actual_1 : List UInt8 := [184, 0, 87, 25, 4, 180, 0, 112, 28, 29, 184, 0, 95, 83, 42, 182, 0, 234, 172]
abbrev dktX1_actual_1 : List UInt8 := dkwX1_actual_1 ++ []
def dkwX1_actual_0 : List UInt8 := [42, 27, 28, 182, 0, 161, 58, 4, 28, 3, 42, 180, 1, 8, 184, 0, 87, 29, 19, 1, 11, 19, 1, 12]
abbrev dktX1_actual_0 : List UInt8 := dkwX1_actual_0 ++ dktX1_actual_1
theorem dksX1_actual_0 : cX1_actual.data.toList.drop 0 = dktX1_actual_0 := by decide +kernel
theorem dksX1_actual_1 : cX1_actual.data.toList.drop 24 = dktX1_actual_1 := dk_seg dksX1_actual_0 24 rfl rfl
theorem dX1_actual_0 : decode cX1_actual 0 = .ok (.aload_n 0, 1) := dk_42 (dk_at dksX1_actual_0 0 rfl rfl)
theorem dX1_actual_1 : decode cX1_actual 1 = .ok (.iload_n 1, 1) := dk_27 (dk_at dksX1_actual_0 1 rfl rfl)
theorem dX1_actual_2 : decode cX1_actual 2 = .ok (.iload_n 2, 1) := dk_28 (dk_at dksX1_actual_0 2 rfl rfl)
theorem dX1_actual_3 : decode cX1_actual 3 = .ok (.invokevirtual 161, 3) := dk_182 0 161 (dk_at dksX1_actual_0 3 rfl rfl)
theorem dX1_actual_6 : decode cX1_actual 6 = .ok (.astore 4, 2) := dk_58 4 (dk_at dksX1_actual_0 6 rfl rfl)
theorem dX1_actual_8 : decode cX1_actual 8 = .ok (.iload_n 2, 1) := dk_28 (dk_at dksX1_actual_0 8 rfl rfl)
theorem dX1_actual_9 : decode cX1_actual 9 = .ok (.iconst 0, 1) := dk_3 (dk_at dksX1_actual_0 9 rfl rfl)
theorem dX1_actual_10 : decode cX1_actual 10 = .ok (.aload_n 0, 1) := dk_42 (dk_at dksX1_actual_0 10 rfl rfl)
theorem dX1_actual_11 : decode cX1_actual 11 = .ok (.getfield 264, 3) := dk_180 1 8 (dk_at dksX1_actual_0 11 rfl rfl)
theorem dX1_actual_14 : decode cX1_actual 14 = .ok (.invokestatic 87, 3) := dk_184 0 87 (dk_at dksX1_actual_0 14 rfl rfl)
theorem dX1_actual_17 : decode cX1_actual 17 = .ok (.iload_n 3, 1) := dk_29 (dk_at dksX1_actual_0 17 rfl rfl)
theorem dX1_actual_18 : decode cX1_actual 18 = .ok (.ldc_w 267, 3) := dk_19 1 11 (dk_at dksX1_actual_0 18 rfl rfl)
theorem dX1_actual_21 : decode cX1_actual 21 = .ok (.ldc_w 268, 3) := dk_19 1 12 (dk_at dksX1_actual_0 21 rfl rfl)
theorem dX1_actual_24 : decode cX1_actual 24 = .ok (.invokestatic 87, 3) := dk_184 0 87 (dk_at dksX1_actual_1 0 rfl rfl)
theorem dX1_actual_27 : decode cX1_actual 27 = .ok (.aload 4, 2) := dk_25 4 (dk_at dksX1_actual_1 3 rfl rfl)
theorem dX1_actual_29 : decode cX1_actual 29 = .ok (.getfield 112, 3) := dk_180 0 112 (dk_at dksX1_actual_1 5 rfl rfl)
theorem dX1_actual_32 : decode cX1_actual 32 = .ok (.iload_n 2, 1) := dk_28 (dk_at dksX1_actual_1 8 rfl rfl)
theorem dX1_actual_33 : decode cX1_actual 33 = .ok (.iload_n 3, 1) := dk_29 (dk_at dksX1_actual_1 9 rfl rfl)
theorem dX1_actual_34 : decode cX1_actual 34 = .ok (.invokestatic 95, 3) := dk_184 0 95 (dk_at dksX1_actual_1 10 rfl rfl)
theorem dX1_actual_37 : decode cX1_actual 37 = .ok (.aastore, 1) := dk_83 (dk_at dksX1_actual_1 13 rfl rfl)
theorem dX1_actual_38 : decode cX1_actual 38 = .ok (.aload_n 0, 1) := dk_42 (dk_at dksX1_actual_1 14 rfl rfl)
theorem dX1_actual_39 : decode cX1_actual 39 = .ok (.invokevirtual 234, 3) := dk_182 0 234 (dk_at dksX1_actual_1 15 rfl rfl)
theorem dX1_actual_42 : decode cX1_actual 42 = .ok (.ireturn, 1) := dk_172 (dk_at dksX1_actual_1 18 rfl rfl)
abbrev cX1_takeActual : ByteArray := prog_1_method_35_code
def yX1_takeActual : MethodName := ⟨RX1, "takeActual", "(II)I"⟩
def dkwX1_takeActual_1 : List UInt8 := [45, 180, 0, 112, 28, 1, 83, 42, 182, 0, 234, 172]
abbrev dktX1_takeActual_1 : List UInt8 := dkwX1_takeActual_1 ++ []
def dkwX1_takeActual_0 : List UInt8 := [42, 27, 28, 182, 0, 161, 78, 45, 180, 0, 112, 28, 50, 198, 0, 7, 4, 167, 0, 4, 3, 184, 0, 199]
abbrev dktX1_takeActual_0 : List UInt8 := dkwX1_takeActual_0 ++ dktX1_takeActual_1
theorem dksX1_takeActual_0 : cX1_takeActual.data.toList.drop 0 = dktX1_takeActual_0 := by decide +kernel
theorem dksX1_takeActual_1 : cX1_takeActual.data.toList.drop 24 = dktX1_takeActual_1 := dk_seg dksX1_takeActual_0 24 rfl rfl
theorem dX1_takeActual_0 : decode cX1_takeActual 0 = .ok (.aload_n 0, 1) := dk_42 (dk_at dksX1_takeActual_0 0 rfl rfl)
theorem dX1_takeActual_1 : decode cX1_takeActual 1 = .ok (.iload_n 1, 1) := dk_27 (dk_at dksX1_takeActual_0 1 rfl rfl)
theorem dX1_takeActual_2 : decode cX1_takeActual 2 = .ok (.iload_n 2, 1) := dk_28 (dk_at dksX1_takeActual_0 2 rfl rfl)
theorem dX1_takeActual_3 : decode cX1_takeActual 3 = .ok (.invokevirtual 161, 3) := dk_182 0 161 (dk_at dksX1_takeActual_0 3 rfl rfl)
theorem dX1_takeActual_6 : decode cX1_takeActual 6 = .ok (.astore_n 3, 1) := dk_78 (dk_at dksX1_takeActual_0 6 rfl rfl)
theorem dX1_takeActual_7 : decode cX1_takeActual 7 = .ok (.aload_n 3, 1) := dk_45 (dk_at dksX1_takeActual_0 7 rfl rfl)
theorem dX1_takeActual_8 : decode cX1_takeActual 8 = .ok (.getfield 112, 3) := dk_180 0 112 (dk_at dksX1_takeActual_0 8 rfl rfl)
theorem dX1_takeActual_11 : decode cX1_takeActual 11 = .ok (.iload_n 2, 1) := dk_28 (dk_at dksX1_takeActual_0 11 rfl rfl)
theorem dX1_takeActual_12 : decode cX1_takeActual 12 = .ok (.aaload, 1) := dk_50 (dk_at dksX1_takeActual_0 12 rfl rfl)
theorem dX1_takeActual_13 : decode cX1_takeActual 13 = .ok (.ifnull 7, 3) := dk_198 0 7 (dk_at dksX1_takeActual_0 13 rfl rfl)
theorem dX1_takeActual_16 : decode cX1_takeActual 16 = .ok (.iconst 1, 1) := dk_4 (dk_at dksX1_takeActual_0 16 rfl rfl)
theorem dX1_takeActual_17 : decode cX1_takeActual 17 = .ok (.goto 4, 3) := dk_167 0 4 (dk_at dksX1_takeActual_0 17 rfl rfl)
theorem dX1_takeActual_20 : decode cX1_takeActual 20 = .ok (.iconst 0, 1) := dk_3 (dk_at dksX1_takeActual_0 20 rfl rfl)
theorem dX1_takeActual_21 : decode cX1_takeActual 21 = .ok (.invokestatic 199, 3) := dk_184 0 199 (dk_at dksX1_takeActual_0 21 rfl rfl)
theorem dX1_takeActual_24 : decode cX1_takeActual 24 = .ok (.aload_n 3, 1) := dk_45 (dk_at dksX1_takeActual_1 0 rfl rfl)
theorem dX1_takeActual_25 : decode cX1_takeActual 25 = .ok (.getfield 112, 3) := dk_180 0 112 (dk_at dksX1_takeActual_1 1 rfl rfl)
theorem dX1_takeActual_28 : decode cX1_takeActual 28 = .ok (.iload_n 2, 1) := dk_28 (dk_at dksX1_takeActual_1 4 rfl rfl)
theorem dX1_takeActual_29 : decode cX1_takeActual 29 = .ok (.aconst_null, 1) := dk_1 (dk_at dksX1_takeActual_1 5 rfl rfl)
theorem dX1_takeActual_30 : decode cX1_takeActual 30 = .ok (.aastore, 1) := dk_83 (dk_at dksX1_takeActual_1 6 rfl rfl)
theorem dX1_takeActual_31 : decode cX1_takeActual 31 = .ok (.aload_n 0, 1) := dk_42 (dk_at dksX1_takeActual_1 7 rfl rfl)
theorem dX1_takeActual_32 : decode cX1_takeActual 32 = .ok (.invokevirtual 234, 3) := dk_182 0 234 (dk_at dksX1_takeActual_1 8 rfl rfl)
theorem dX1_takeActual_35 : decode cX1_takeActual 35 = .ok (.ireturn, 1) := dk_172 (dk_at dksX1_takeActual_1 11 rfl rfl)
abbrev cX1_pass : ByteArray := prog_1_method_36_code
def yX1_pass : MethodName := ⟨RX1, "pass", "()I"⟩
def dkwX1_pass_1 : List UInt8 := [181, 1, 8, 42, 180, 1, 8, 172]
abbrev dktX1_pass_1 : List UInt8 := dkwX1_pass_1 ++ []
def dkwX1_pass_0 : List UInt8 := [42, 180, 1, 8, 16, 11, 162, 0, 7, 4, 167, 0, 4, 3, 184, 0, 91, 42, 89, 180, 1, 8, 4, 96]
abbrev dktX1_pass_0 : List UInt8 := dkwX1_pass_0 ++ dktX1_pass_1
theorem dksX1_pass_0 : cX1_pass.data.toList.drop 0 = dktX1_pass_0 := by decide +kernel
theorem dksX1_pass_1 : cX1_pass.data.toList.drop 24 = dktX1_pass_1 := dk_seg dksX1_pass_0 24 rfl rfl
theorem dX1_pass_0 : decode cX1_pass 0 = .ok (.aload_n 0, 1) := dk_42 (dk_at dksX1_pass_0 0 rfl rfl)
theorem dX1_pass_1 : decode cX1_pass 1 = .ok (.getfield 264, 3) := dk_180 1 8 (dk_at dksX1_pass_0 1 rfl rfl)
theorem dX1_pass_4 : decode cX1_pass 4 = .ok (.bipush 11, 2) := dk_16 11 (dk_at dksX1_pass_0 4 rfl rfl)
theorem dX1_pass_6 : decode cX1_pass 6 = .ok (.if_icmp .ge 7, 3) := dk_162 0 7 (dk_at dksX1_pass_0 6 rfl rfl)
theorem dX1_pass_9 : decode cX1_pass 9 = .ok (.iconst 1, 1) := dk_4 (dk_at dksX1_pass_0 9 rfl rfl)
theorem dX1_pass_10 : decode cX1_pass 10 = .ok (.goto 4, 3) := dk_167 0 4 (dk_at dksX1_pass_0 10 rfl rfl)
theorem dX1_pass_13 : decode cX1_pass 13 = .ok (.iconst 0, 1) := dk_3 (dk_at dksX1_pass_0 13 rfl rfl)
theorem dX1_pass_14 : decode cX1_pass 14 = .ok (.invokestatic 91, 3) := dk_184 0 91 (dk_at dksX1_pass_0 14 rfl rfl)
theorem dX1_pass_17 : decode cX1_pass 17 = .ok (.aload_n 0, 1) := dk_42 (dk_at dksX1_pass_0 17 rfl rfl)
theorem dX1_pass_18 : decode cX1_pass 18 = .ok (.dup, 1) := dk_89 (dk_at dksX1_pass_0 18 rfl rfl)
theorem dX1_pass_19 : decode cX1_pass 19 = .ok (.getfield 264, 3) := dk_180 1 8 (dk_at dksX1_pass_0 19 rfl rfl)
theorem dX1_pass_22 : decode cX1_pass 22 = .ok (.iconst 1, 1) := dk_4 (dk_at dksX1_pass_0 22 rfl rfl)
theorem dX1_pass_23 : decode cX1_pass 23 = .ok (.iadd, 1) := dk_96 (dk_at dksX1_pass_0 23 rfl rfl)
theorem dX1_pass_24 : decode cX1_pass 24 = .ok (.putfield 264, 3) := dk_181 1 8 (dk_at dksX1_pass_1 0 rfl rfl)
theorem dX1_pass_27 : decode cX1_pass 27 = .ok (.aload_n 0, 1) := dk_42 (dk_at dksX1_pass_1 3 rfl rfl)
theorem dX1_pass_28 : decode cX1_pass 28 = .ok (.getfield 264, 3) := dk_180 1 8 (dk_at dksX1_pass_1 4 rfl rfl)
theorem dX1_pass_31 : decode cX1_pass 31 = .ok (.ireturn, 1) := dk_172 (dk_at dksX1_pass_1 7 rfl rfl)
abbrev cX1_approve : ByteArray := prog_1_method_38_code
def yX1_approve : MethodName := ⟨RX1, "approve", "(III)I"⟩
def dkwX1_approve_2 : List UInt8 := [172]
abbrev dktX1_approve_2 : List UInt8 := dkwX1_approve_2 ++ []
def dkwX1_approve_1 : List UInt8 := [182, 0, 165, 54, 5, 25, 4, 180, 0, 202, 28, 187, 0, 207, 89, 21, 5, 29, 183, 1, 13, 83, 21, 5]
abbrev dktX1_approve_1 : List UInt8 := dkwX1_approve_1 ++ dktX1_approve_2
def dkwX1_approve_0 : List UInt8 := [42, 27, 28, 182, 0, 161, 58, 4, 29, 3, 17, 39, 15, 184, 0, 87, 42, 42, 182, 0, 187, 25, 4, 28]
abbrev dktX1_approve_0 : List UInt8 := dkwX1_approve_0 ++ dktX1_approve_1
theorem dksX1_approve_0 : cX1_approve.data.toList.drop 0 = dktX1_approve_0 := by decide +kernel
theorem dksX1_approve_1 : cX1_approve.data.toList.drop 24 = dktX1_approve_1 := dk_seg dksX1_approve_0 24 rfl rfl
theorem dksX1_approve_2 : cX1_approve.data.toList.drop 48 = dktX1_approve_2 := dk_seg dksX1_approve_1 24 rfl rfl
theorem dX1_approve_0 : decode cX1_approve 0 = .ok (.aload_n 0, 1) := dk_42 (dk_at dksX1_approve_0 0 rfl rfl)
theorem dX1_approve_1 : decode cX1_approve 1 = .ok (.iload_n 1, 1) := dk_27 (dk_at dksX1_approve_0 1 rfl rfl)
theorem dX1_approve_2 : decode cX1_approve 2 = .ok (.iload_n 2, 1) := dk_28 (dk_at dksX1_approve_0 2 rfl rfl)
theorem dX1_approve_3 : decode cX1_approve 3 = .ok (.invokevirtual 161, 3) := dk_182 0 161 (dk_at dksX1_approve_0 3 rfl rfl)
theorem dX1_approve_6 : decode cX1_approve 6 = .ok (.astore 4, 2) := dk_58 4 (dk_at dksX1_approve_0 6 rfl rfl)
theorem dX1_approve_8 : decode cX1_approve 8 = .ok (.iload_n 3, 1) := dk_29 (dk_at dksX1_approve_0 8 rfl rfl)
theorem dX1_approve_9 : decode cX1_approve 9 = .ok (.iconst 0, 1) := dk_3 (dk_at dksX1_approve_0 9 rfl rfl)
theorem dX1_approve_10 : decode cX1_approve 10 = .ok (.sipush 9999, 3) := dk_17 39 15 (dk_at dksX1_approve_0 10 rfl rfl)
theorem dX1_approve_13 : decode cX1_approve 13 = .ok (.invokestatic 87, 3) := dk_184 0 87 (dk_at dksX1_approve_0 13 rfl rfl)
theorem dX1_approve_16 : decode cX1_approve 16 = .ok (.aload_n 0, 1) := dk_42 (dk_at dksX1_approve_0 16 rfl rfl)
theorem dX1_approve_17 : decode cX1_approve 17 = .ok (.aload_n 0, 1) := dk_42 (dk_at dksX1_approve_0 17 rfl rfl)
theorem dX1_approve_18 : decode cX1_approve 18 = .ok (.invokevirtual 187, 3) := dk_182 0 187 (dk_at dksX1_approve_0 18 rfl rfl)
theorem dX1_approve_21 : decode cX1_approve 21 = .ok (.aload 4, 2) := dk_25 4 (dk_at dksX1_approve_0 21 rfl rfl)
theorem dX1_approve_23 : decode cX1_approve 23 = .ok (.iload_n 2, 1) := dk_28 (dk_at dksX1_approve_0 23 rfl rfl)
theorem dX1_approve_24 : decode cX1_approve 24 = .ok (.invokevirtual 165, 3) := dk_182 0 165 (dk_at dksX1_approve_1 0 rfl rfl)
theorem dX1_approve_27 : decode cX1_approve 27 = .ok (.istore 5, 2) := dk_54 5 (dk_at dksX1_approve_1 3 rfl rfl)
theorem dX1_approve_29 : decode cX1_approve 29 = .ok (.aload 4, 2) := dk_25 4 (dk_at dksX1_approve_1 5 rfl rfl)
theorem dX1_approve_31 : decode cX1_approve 31 = .ok (.getfield 202, 3) := dk_180 0 202 (dk_at dksX1_approve_1 7 rfl rfl)
theorem dX1_approve_34 : decode cX1_approve 34 = .ok (.iload_n 2, 1) := dk_28 (dk_at dksX1_approve_1 10 rfl rfl)
theorem dX1_approve_35 : decode cX1_approve 35 = .ok (.new 207, 3) := dk_187 0 207 (dk_at dksX1_approve_1 11 rfl rfl)
theorem dX1_approve_38 : decode cX1_approve 38 = .ok (.dup, 1) := dk_89 (dk_at dksX1_approve_1 14 rfl rfl)
theorem dX1_approve_39 : decode cX1_approve 39 = .ok (.iload 5, 2) := dk_21 5 (dk_at dksX1_approve_1 15 rfl rfl)
theorem dX1_approve_41 : decode cX1_approve 41 = .ok (.iload_n 3, 1) := dk_29 (dk_at dksX1_approve_1 17 rfl rfl)
theorem dX1_approve_42 : decode cX1_approve 42 = .ok (.invokespecial 269, 3) := dk_183 1 13 (dk_at dksX1_approve_1 18 rfl rfl)
theorem dX1_approve_45 : decode cX1_approve 45 = .ok (.aastore, 1) := dk_83 (dk_at dksX1_approve_1 21 rfl rfl)
theorem dX1_approve_46 : decode cX1_approve 46 = .ok (.iload 5, 2) := dk_21 5 (dk_at dksX1_approve_1 22 rfl rfl)
theorem dX1_approve_48 : decode cX1_approve 48 = .ok (.ireturn, 1) := dk_172 (dk_at dksX1_approve_2 0 rfl rfl)
abbrev cX1_state : ByteArray := prog_1_method_39_code
def yX1_state : MethodName := ⟨RX1, "state", "(II)C"⟩
def dkwX1_state_1 : List UInt8 := [153, 0, 8, 16, 111, 167, 0, 5, 16, 97, 172]
abbrev dktX1_state_1 : List UInt8 := dkwX1_state_1 ++ []
def dkwX1_state_0 : List UInt8 := [42, 27, 28, 182, 0, 161, 180, 0, 202, 28, 50, 78, 45, 199, 0, 6, 16, 45, 172, 45, 180, 0, 226]
abbrev dktX1_state_0 : List UInt8 := dkwX1_state_0 ++ dktX1_state_1
theorem dksX1_state_0 : cX1_state.data.toList.drop 0 = dktX1_state_0 := by decide +kernel
theorem dksX1_state_1 : cX1_state.data.toList.drop 23 = dktX1_state_1 := dk_seg dksX1_state_0 23 rfl rfl
theorem dX1_state_0 : decode cX1_state 0 = .ok (.aload_n 0, 1) := dk_42 (dk_at dksX1_state_0 0 rfl rfl)
theorem dX1_state_1 : decode cX1_state 1 = .ok (.iload_n 1, 1) := dk_27 (dk_at dksX1_state_0 1 rfl rfl)
theorem dX1_state_2 : decode cX1_state 2 = .ok (.iload_n 2, 1) := dk_28 (dk_at dksX1_state_0 2 rfl rfl)
theorem dX1_state_3 : decode cX1_state 3 = .ok (.invokevirtual 161, 3) := dk_182 0 161 (dk_at dksX1_state_0 3 rfl rfl)
theorem dX1_state_6 : decode cX1_state 6 = .ok (.getfield 202, 3) := dk_180 0 202 (dk_at dksX1_state_0 6 rfl rfl)
theorem dX1_state_9 : decode cX1_state 9 = .ok (.iload_n 2, 1) := dk_28 (dk_at dksX1_state_0 9 rfl rfl)
theorem dX1_state_10 : decode cX1_state 10 = .ok (.aaload, 1) := dk_50 (dk_at dksX1_state_0 10 rfl rfl)
theorem dX1_state_11 : decode cX1_state 11 = .ok (.astore_n 3, 1) := dk_78 (dk_at dksX1_state_0 11 rfl rfl)
theorem dX1_state_12 : decode cX1_state 12 = .ok (.aload_n 3, 1) := dk_45 (dk_at dksX1_state_0 12 rfl rfl)
theorem dX1_state_13 : decode cX1_state 13 = .ok (.ifnonnull 6, 3) := dk_199 0 6 (dk_at dksX1_state_0 13 rfl rfl)
theorem dX1_state_16 : decode cX1_state 16 = .ok (.bipush 45, 2) := dk_16 45 (dk_at dksX1_state_0 16 rfl rfl)
theorem dX1_state_18 : decode cX1_state 18 = .ok (.ireturn, 1) := dk_172 (dk_at dksX1_state_0 18 rfl rfl)
theorem dX1_state_19 : decode cX1_state 19 = .ok (.aload_n 3, 1) := dk_45 (dk_at dksX1_state_0 19 rfl rfl)
theorem dX1_state_20 : decode cX1_state 20 = .ok (.getfield 226, 3) := dk_180 0 226 (dk_at dksX1_state_0 20 rfl rfl)
theorem dX1_state_23 : decode cX1_state 23 = .ok (.ifCond .eq 8, 3) := dk_153 0 8 (dk_at dksX1_state_1 0 rfl rfl)
theorem dX1_state_26 : decode cX1_state 26 = .ok (.bipush 111, 2) := dk_16 111 (dk_at dksX1_state_1 3 rfl rfl)
theorem dX1_state_28 : decode cX1_state 28 = .ok (.goto 5, 3) := dk_167 0 5 (dk_at dksX1_state_1 5 rfl rfl)
theorem dX1_state_31 : decode cX1_state 31 = .ok (.bipush 97, 2) := dk_16 97 (dk_at dksX1_state_1 8 rfl rfl)
theorem dX1_state_33 : decode cX1_state 33 = .ok (.ireturn, 1) := dk_172 (dk_at dksX1_state_1 10 rfl rfl)
abbrev cX1_drift : ByteArray := prog_1_method_40_code
def yX1_drift : MethodName := ⟨RX1, "drift", "(II)I"⟩
def dkwX1_drift_1 : List UInt8 := [42, 42, 182, 0, 187, 45, 28, 182, 0, 165, 45, 180, 0, 202, 28, 50, 180, 0, 206, 100, 172]
abbrev dktX1_drift_1 : List UInt8 := dkwX1_drift_1 ++ []
def dkwX1_drift_0 : List UInt8 := [42, 27, 28, 182, 0, 161, 78, 45, 180, 0, 202, 28, 50, 198, 0, 7, 4, 167, 0, 4, 3, 184, 0, 199]
abbrev dktX1_drift_0 : List UInt8 := dkwX1_drift_0 ++ dktX1_drift_1
theorem dksX1_drift_0 : cX1_drift.data.toList.drop 0 = dktX1_drift_0 := by decide +kernel
theorem dksX1_drift_1 : cX1_drift.data.toList.drop 24 = dktX1_drift_1 := dk_seg dksX1_drift_0 24 rfl rfl
theorem dX1_drift_0 : decode cX1_drift 0 = .ok (.aload_n 0, 1) := dk_42 (dk_at dksX1_drift_0 0 rfl rfl)
theorem dX1_drift_1 : decode cX1_drift 1 = .ok (.iload_n 1, 1) := dk_27 (dk_at dksX1_drift_0 1 rfl rfl)
theorem dX1_drift_2 : decode cX1_drift 2 = .ok (.iload_n 2, 1) := dk_28 (dk_at dksX1_drift_0 2 rfl rfl)
theorem dX1_drift_3 : decode cX1_drift 3 = .ok (.invokevirtual 161, 3) := dk_182 0 161 (dk_at dksX1_drift_0 3 rfl rfl)
theorem dX1_drift_6 : decode cX1_drift 6 = .ok (.astore_n 3, 1) := dk_78 (dk_at dksX1_drift_0 6 rfl rfl)
theorem dX1_drift_7 : decode cX1_drift 7 = .ok (.aload_n 3, 1) := dk_45 (dk_at dksX1_drift_0 7 rfl rfl)
theorem dX1_drift_8 : decode cX1_drift 8 = .ok (.getfield 202, 3) := dk_180 0 202 (dk_at dksX1_drift_0 8 rfl rfl)
theorem dX1_drift_11 : decode cX1_drift 11 = .ok (.iload_n 2, 1) := dk_28 (dk_at dksX1_drift_0 11 rfl rfl)
theorem dX1_drift_12 : decode cX1_drift 12 = .ok (.aaload, 1) := dk_50 (dk_at dksX1_drift_0 12 rfl rfl)
theorem dX1_drift_13 : decode cX1_drift 13 = .ok (.ifnull 7, 3) := dk_198 0 7 (dk_at dksX1_drift_0 13 rfl rfl)
theorem dX1_drift_16 : decode cX1_drift 16 = .ok (.iconst 1, 1) := dk_4 (dk_at dksX1_drift_0 16 rfl rfl)
theorem dX1_drift_17 : decode cX1_drift 17 = .ok (.goto 4, 3) := dk_167 0 4 (dk_at dksX1_drift_0 17 rfl rfl)
theorem dX1_drift_20 : decode cX1_drift 20 = .ok (.iconst 0, 1) := dk_3 (dk_at dksX1_drift_0 20 rfl rfl)
theorem dX1_drift_21 : decode cX1_drift 21 = .ok (.invokestatic 199, 3) := dk_184 0 199 (dk_at dksX1_drift_0 21 rfl rfl)
theorem dX1_drift_24 : decode cX1_drift 24 = .ok (.aload_n 0, 1) := dk_42 (dk_at dksX1_drift_1 0 rfl rfl)
theorem dX1_drift_25 : decode cX1_drift 25 = .ok (.aload_n 0, 1) := dk_42 (dk_at dksX1_drift_1 1 rfl rfl)
theorem dX1_drift_26 : decode cX1_drift 26 = .ok (.invokevirtual 187, 3) := dk_182 0 187 (dk_at dksX1_drift_1 2 rfl rfl)
theorem dX1_drift_29 : decode cX1_drift 29 = .ok (.aload_n 3, 1) := dk_45 (dk_at dksX1_drift_1 5 rfl rfl)
theorem dX1_drift_30 : decode cX1_drift 30 = .ok (.iload_n 2, 1) := dk_28 (dk_at dksX1_drift_1 6 rfl rfl)
theorem dX1_drift_31 : decode cX1_drift 31 = .ok (.invokevirtual 165, 3) := dk_182 0 165 (dk_at dksX1_drift_1 7 rfl rfl)
theorem dX1_drift_34 : decode cX1_drift 34 = .ok (.aload_n 3, 1) := dk_45 (dk_at dksX1_drift_1 10 rfl rfl)
theorem dX1_drift_35 : decode cX1_drift 35 = .ok (.getfield 202, 3) := dk_180 0 202 (dk_at dksX1_drift_1 11 rfl rfl)
theorem dX1_drift_38 : decode cX1_drift 38 = .ok (.iload_n 2, 1) := dk_28 (dk_at dksX1_drift_1 14 rfl rfl)
theorem dX1_drift_39 : decode cX1_drift 39 = .ok (.aaload, 1) := dk_50 (dk_at dksX1_drift_1 15 rfl rfl)
theorem dX1_drift_40 : decode cX1_drift 40 = .ok (.getfield 206, 3) := dk_180 0 206 (dk_at dksX1_drift_1 16 rfl rfl)
theorem dX1_drift_43 : decode cX1_drift 43 = .ok (.isub, 1) := dk_100 (dk_at dksX1_drift_1 19 rfl rfl)
theorem dX1_drift_44 : decode cX1_drift 44 = .ok (.ireturn, 1) := dk_172 (dk_at dksX1_drift_1 20 rfl rfl)
abbrev cX1_approvedShare : ByteArray := prog_1_method_43_code
def yX1_approvedShare : MethodName := ⟨RX1, "approvedShare", "()F"⟩
def dkwX1_approvedShare_1 : List UInt8 := [182, 1, 21, 100, 134, 27, 134, 110, 174]
abbrev dktX1_approvedShare_1 : List UInt8 := dkwX1_approvedShare_1 ++ []
def dkwX1_approvedShare_0 : List UInt8 := [42, 182, 1, 15, 185, 0, 69, 1, 0, 60, 27, 154, 0, 11, 187, 1, 18, 89, 183, 1, 20, 191, 27, 42]
abbrev dktX1_approvedShare_0 : List UInt8 := dkwX1_approvedShare_0 ++ dktX1_approvedShare_1
theorem dksX1_approvedShare_0 : cX1_approvedShare.data.toList.drop 0 = dktX1_approvedShare_0 := by decide +kernel
theorem dksX1_approvedShare_1 : cX1_approvedShare.data.toList.drop 24 = dktX1_approvedShare_1 := dk_seg dksX1_approvedShare_0 24 rfl rfl
theorem dX1_approvedShare_0 : decode cX1_approvedShare 0 = .ok (.aload_n 0, 1) := dk_42 (dk_at dksX1_approvedShare_0 0 rfl rfl)
theorem dX1_approvedShare_1 : decode cX1_approvedShare 1 = .ok (.invokevirtual 271, 3) := dk_182 1 15 (dk_at dksX1_approvedShare_0 1 rfl rfl)
theorem dX1_approvedShare_4 : decode cX1_approvedShare 4 = .ok (.invokeinterface 69 1, 5) := by decide +kernel
theorem dX1_approvedShare_9 : decode cX1_approvedShare 9 = .ok (.istore_n 1, 1) := dk_60 (dk_at dksX1_approvedShare_0 9 rfl rfl)
theorem dX1_approvedShare_10 : decode cX1_approvedShare 10 = .ok (.iload_n 1, 1) := dk_27 (dk_at dksX1_approvedShare_0 10 rfl rfl)
theorem dX1_approvedShare_11 : decode cX1_approvedShare 11 = .ok (.ifCond .ne 11, 3) := dk_154 0 11 (dk_at dksX1_approvedShare_0 11 rfl rfl)
theorem dX1_approvedShare_14 : decode cX1_approvedShare 14 = .ok (.new 274, 3) := dk_187 1 18 (dk_at dksX1_approvedShare_0 14 rfl rfl)
theorem dX1_approvedShare_17 : decode cX1_approvedShare 17 = .ok (.dup, 1) := dk_89 (dk_at dksX1_approvedShare_0 17 rfl rfl)
theorem dX1_approvedShare_18 : decode cX1_approvedShare 18 = .ok (.invokespecial 276, 3) := dk_183 1 20 (dk_at dksX1_approvedShare_0 18 rfl rfl)
theorem dX1_approvedShare_21 : decode cX1_approvedShare 21 = .ok (.athrow, 1) := dk_191 (dk_at dksX1_approvedShare_0 21 rfl rfl)
theorem dX1_approvedShare_22 : decode cX1_approvedShare 22 = .ok (.iload_n 1, 1) := dk_27 (dk_at dksX1_approvedShare_0 22 rfl rfl)
theorem dX1_approvedShare_23 : decode cX1_approvedShare 23 = .ok (.aload_n 0, 1) := dk_42 (dk_at dksX1_approvedShare_0 23 rfl rfl)
theorem dX1_approvedShare_24 : decode cX1_approvedShare 24 = .ok (.invokevirtual 277, 3) := dk_182 1 21 (dk_at dksX1_approvedShare_1 0 rfl rfl)
theorem dX1_approvedShare_27 : decode cX1_approvedShare 27 = .ok (.isub, 1) := dk_100 (dk_at dksX1_approvedShare_1 3 rfl rfl)
theorem dX1_approvedShare_28 : decode cX1_approvedShare 28 = .ok (.i2f, 1) := dk_134 (dk_at dksX1_approvedShare_1 4 rfl rfl)
theorem dX1_approvedShare_29 : decode cX1_approvedShare 29 = .ok (.iload_n 1, 1) := dk_27 (dk_at dksX1_approvedShare_1 5 rfl rfl)
theorem dX1_approvedShare_30 : decode cX1_approvedShare 30 = .ok (.i2f, 1) := dk_134 (dk_at dksX1_approvedShare_1 6 rfl rfl)
theorem dX1_approvedShare_31 : decode cX1_approvedShare 31 = .ok (.fdiv, 1) := dk_110 (dk_at dksX1_approvedShare_1 7 rfl rfl)
theorem dX1_approvedShare_32 : decode cX1_approvedShare 32 = .ok (.freturn, 1) := dk_174 (dk_at dksX1_approvedShare_1 8 rfl rfl)
abbrev cX1_meanTolerance : ByteArray := prog_1_method_44_code
def yX1_meanTolerance : MethodName := ⟨RX1, "meanTolerance", "()D"⟩
def dkwX1_meanTolerance_3 : List UInt8 := [135, 111, 175]
abbrev dktX1_meanTolerance_3 : List UInt8 := dkwX1_meanTolerance_3 ++ []
def dkwX1_meanTolerance_2 : List UInt8 := [192, 0, 207, 58, 4, 28, 25, 4, 180, 0, 209, 96, 61, 167, 255, 228, 28, 135, 43, 185, 0, 69, 1, 0]
abbrev dktX1_meanTolerance_2 : List UInt8 := dkwX1_meanTolerance_2 ++ dktX1_meanTolerance_3
def dkwX1_meanTolerance_1 : List UInt8 := [43, 185, 0, 212, 1, 0, 78, 45, 185, 0, 216, 1, 0, 153, 0, 25, 45, 185, 0, 222, 1, 0]
abbrev dktX1_meanTolerance_1 : List UInt8 := dkwX1_meanTolerance_1 ++ dktX1_meanTolerance_2
def dkwX1_meanTolerance_0 : List UInt8 := [42, 182, 1, 15, 76, 43, 185, 1, 24, 1, 0, 153, 0, 11, 187, 1, 18, 89, 183, 1, 20, 191, 3, 61]
abbrev dktX1_meanTolerance_0 : List UInt8 := dkwX1_meanTolerance_0 ++ dktX1_meanTolerance_1
theorem dksX1_meanTolerance_0 : cX1_meanTolerance.data.toList.drop 0 = dktX1_meanTolerance_0 := by decide +kernel
theorem dksX1_meanTolerance_1 : cX1_meanTolerance.data.toList.drop 24 = dktX1_meanTolerance_1 := dk_seg dksX1_meanTolerance_0 24 rfl rfl
theorem dksX1_meanTolerance_2 : cX1_meanTolerance.data.toList.drop 46 = dktX1_meanTolerance_2 := dk_seg dksX1_meanTolerance_1 22 rfl rfl
theorem dksX1_meanTolerance_3 : cX1_meanTolerance.data.toList.drop 70 = dktX1_meanTolerance_3 := dk_seg dksX1_meanTolerance_2 24 rfl rfl
theorem dX1_meanTolerance_0 : decode cX1_meanTolerance 0 = .ok (.aload_n 0, 1) := dk_42 (dk_at dksX1_meanTolerance_0 0 rfl rfl)
theorem dX1_meanTolerance_1 : decode cX1_meanTolerance 1 = .ok (.invokevirtual 271, 3) := dk_182 1 15 (dk_at dksX1_meanTolerance_0 1 rfl rfl)
theorem dX1_meanTolerance_4 : decode cX1_meanTolerance 4 = .ok (.astore_n 1, 1) := dk_76 (dk_at dksX1_meanTolerance_0 4 rfl rfl)
theorem dX1_meanTolerance_5 : decode cX1_meanTolerance 5 = .ok (.aload_n 1, 1) := dk_43 (dk_at dksX1_meanTolerance_0 5 rfl rfl)
theorem dX1_meanTolerance_6 : decode cX1_meanTolerance 6 = .ok (.invokeinterface 280 1, 5) := by decide +kernel
theorem dX1_meanTolerance_11 : decode cX1_meanTolerance 11 = .ok (.ifCond .eq 11, 3) := dk_153 0 11 (dk_at dksX1_meanTolerance_0 11 rfl rfl)
theorem dX1_meanTolerance_14 : decode cX1_meanTolerance 14 = .ok (.new 274, 3) := dk_187 1 18 (dk_at dksX1_meanTolerance_0 14 rfl rfl)
theorem dX1_meanTolerance_17 : decode cX1_meanTolerance 17 = .ok (.dup, 1) := dk_89 (dk_at dksX1_meanTolerance_0 17 rfl rfl)
theorem dX1_meanTolerance_18 : decode cX1_meanTolerance 18 = .ok (.invokespecial 276, 3) := dk_183 1 20 (dk_at dksX1_meanTolerance_0 18 rfl rfl)
theorem dX1_meanTolerance_21 : decode cX1_meanTolerance 21 = .ok (.athrow, 1) := dk_191 (dk_at dksX1_meanTolerance_0 21 rfl rfl)
theorem dX1_meanTolerance_22 : decode cX1_meanTolerance 22 = .ok (.iconst 0, 1) := dk_3 (dk_at dksX1_meanTolerance_0 22 rfl rfl)
theorem dX1_meanTolerance_23 : decode cX1_meanTolerance 23 = .ok (.istore_n 2, 1) := dk_61 (dk_at dksX1_meanTolerance_0 23 rfl rfl)
theorem dX1_meanTolerance_24 : decode cX1_meanTolerance 24 = .ok (.aload_n 1, 1) := dk_43 (dk_at dksX1_meanTolerance_1 0 rfl rfl)
theorem dX1_meanTolerance_25 : decode cX1_meanTolerance 25 = .ok (.invokeinterface 212 1, 5) := by decide +kernel
theorem dX1_meanTolerance_30 : decode cX1_meanTolerance 30 = .ok (.astore_n 3, 1) := dk_78 (dk_at dksX1_meanTolerance_1 6 rfl rfl)
theorem dX1_meanTolerance_31 : decode cX1_meanTolerance 31 = .ok (.aload_n 3, 1) := dk_45 (dk_at dksX1_meanTolerance_1 7 rfl rfl)
theorem dX1_meanTolerance_32 : decode cX1_meanTolerance 32 = .ok (.invokeinterface 216 1, 5) := by decide +kernel
theorem dX1_meanTolerance_37 : decode cX1_meanTolerance 37 = .ok (.ifCond .eq 25, 3) := dk_153 0 25 (dk_at dksX1_meanTolerance_1 13 rfl rfl)
theorem dX1_meanTolerance_40 : decode cX1_meanTolerance 40 = .ok (.aload_n 3, 1) := dk_45 (dk_at dksX1_meanTolerance_1 16 rfl rfl)
theorem dX1_meanTolerance_41 : decode cX1_meanTolerance 41 = .ok (.invokeinterface 222 1, 5) := by decide +kernel
theorem dX1_meanTolerance_46 : decode cX1_meanTolerance 46 = .ok (.checkcast 207, 3) := dk_192 0 207 (dk_at dksX1_meanTolerance_2 0 rfl rfl)
theorem dX1_meanTolerance_49 : decode cX1_meanTolerance 49 = .ok (.astore 4, 2) := dk_58 4 (dk_at dksX1_meanTolerance_2 3 rfl rfl)
theorem dX1_meanTolerance_51 : decode cX1_meanTolerance 51 = .ok (.iload_n 2, 1) := dk_28 (dk_at dksX1_meanTolerance_2 5 rfl rfl)
theorem dX1_meanTolerance_52 : decode cX1_meanTolerance 52 = .ok (.aload 4, 2) := dk_25 4 (dk_at dksX1_meanTolerance_2 6 rfl rfl)
theorem dX1_meanTolerance_54 : decode cX1_meanTolerance 54 = .ok (.getfield 209, 3) := dk_180 0 209 (dk_at dksX1_meanTolerance_2 8 rfl rfl)
theorem dX1_meanTolerance_57 : decode cX1_meanTolerance 57 = .ok (.iadd, 1) := dk_96 (dk_at dksX1_meanTolerance_2 11 rfl rfl)
theorem dX1_meanTolerance_58 : decode cX1_meanTolerance 58 = .ok (.istore_n 2, 1) := dk_61 (dk_at dksX1_meanTolerance_2 12 rfl rfl)
theorem dX1_meanTolerance_59 : decode cX1_meanTolerance 59 = .ok (.goto (-28), 3) := dk_167 255 228 (dk_at dksX1_meanTolerance_2 13 rfl rfl)
theorem dX1_meanTolerance_62 : decode cX1_meanTolerance 62 = .ok (.iload_n 2, 1) := dk_28 (dk_at dksX1_meanTolerance_2 16 rfl rfl)
theorem dX1_meanTolerance_63 : decode cX1_meanTolerance 63 = .ok (.i2d, 1) := dk_135 (dk_at dksX1_meanTolerance_2 17 rfl rfl)
theorem dX1_meanTolerance_64 : decode cX1_meanTolerance 64 = .ok (.aload_n 1, 1) := dk_43 (dk_at dksX1_meanTolerance_2 18 rfl rfl)
theorem dX1_meanTolerance_65 : decode cX1_meanTolerance 65 = .ok (.invokeinterface 69 1, 5) := by decide +kernel
theorem dX1_meanTolerance_70 : decode cX1_meanTolerance 70 = .ok (.i2d, 1) := dk_135 (dk_at dksX1_meanTolerance_3 0 rfl rfl)
theorem dX1_meanTolerance_71 : decode cX1_meanTolerance 71 = .ok (.ddiv, 1) := dk_111 (dk_at dksX1_meanTolerance_3 1 rfl rfl)
theorem dX1_meanTolerance_72 : decode cX1_meanTolerance 72 = .ok (.dreturn, 1) := dk_175 (dk_at dksX1_meanTolerance_3 2 rfl rfl)
theorem q30 : (Jvm.Cond.initialized "CostStudio") ∈ lw_all := lw_g (lw_at lw_m1 1 rfl) rfl
theorem q67 : (Jvm.Cond.instantiable "CostStudio" (5 : Nat)) ∈ lw_all := lw_g (lw_at lw_m1 38 rfl) rfl
theorem q69 : (Jvm.Cond.instanceMethod ({ cls := "CostStudio", name := "<init>", desc := "()V" } : Jvm.MethodName)) ∈ lw_all := lw_g (lw_at lw_m1 40 rfl) rfl
theorem q70 : (Jvm.Cond.code ({ cls := "CostStudio", name := "<init>", desc := "()V" } : Jvm.MethodName) prog_1_method_9_code (1 : Nat) (Option.none : Option Jvm.ClassFile.FieldType)) ∈ lw_all := lw_g (lw_at lw_m1 41 rfl) rfl
theorem q71 : (Jvm.Cond.methodLink "CostStudio" (42 : Nat) ({ cls := "java/lang/Object", name := "<init>", desc := "()V" } : Jvm.MethodName)) ∈ lw_all := lw_g (lw_at lw_m1 42 rfl) rfl
theorem q74 : (Jvm.Cond.classLink "CostStudio" (45 : Nat) "java/util/ArrayList") ∈ lw_all := lw_g (lw_at lw_m1 45 rfl) rfl
theorem q76 : (Jvm.Cond.methodLink "CostStudio" (47 : Nat) ({ cls := "java/util/ArrayList", name := "<init>", desc := "()V" } : Jvm.MethodName)) ∈ lw_all := lw_g (lw_at lw_m1 47 rfl) rfl
theorem q103 : (Jvm.Cond.classLink "CostStudio" (58 : Nat) "CostStudio$Scenario") ∈ lw_all := lw_g (lw_at lw_m1 74 rfl) rfl
theorem q105 : (Jvm.Cond.methodLink "CostStudio" (60 : Nat) ({ cls := "CostStudio$Scenario", name := "<init>", desc := "(LCostStudio$Scenario;)V" } : Jvm.MethodName)) ∈ lw_all := lw_g (lw_at lw_m1 76 rfl) rfl
theorem q112 : (Jvm.Cond.fieldLinkNest "CostStudio" (251 : Nat) "CostStudio$Scenario" "parent" "LCostStudio$Scenario;" "CostStudio") ∈ lw_tbl := lw_at lw_m1 83 rfl
theorem q114 : (Jvm.Cond.fieldLinkNest "CostStudio" (258 : Nat) "CostStudio$Scenario" "differences" "Ljava/util/List;" "CostStudio") ∈ lw_tbl := lw_at lw_m1 85 rfl
theorem q120 : (Jvm.Cond.interfaceEntry "CostStudio" (63 : Nat)) ∈ lw_tbl := lw_at lw_m1 91 rfl
theorem q121 : (Jvm.Cond.methodLink "CostStudio" (63 : Nat) ({ cls := "java/util/List", name := "add", desc := "(Ljava/lang/Object;)Z" } : Jvm.MethodName)) ∈ lw_all := lw_g (lw_at lw_m1 92 rfl) rfl
theorem q158 : (Jvm.Cond.selects "CostStudio" ({ cls := "java/lang/Object", name := "getClass", desc := "()Ljava/lang/Class;" } : Jvm.MethodName) ({ cls := "java/lang/Object", name := "getClass", desc := "()Ljava/lang/Class;" } : Jvm.MethodName)) ∈ lw_all := lw_g (lw_at lw_m1 129 rfl) rfl
theorem q191 : (Jvm.Cond.fieldLink "CostStudio" (48 : Nat) "CostStudio" "drivers" "Ljava/util/List;") ∈ lw_all := lw_g (lw_at lw_m1 162 rfl) rfl
theorem q192 : (Jvm.Cond.fieldLink "CostStudio" (52 : Nat) "CostStudio" "scenarios" "Ljava/util/List;") ∈ lw_all := lw_g (lw_at lw_m1 163 rfl) rfl
theorem q193 : (Jvm.Cond.fieldLink "CostStudio" (55 : Nat) "CostStudio" "lines" "Ljava/util/List;") ∈ lw_all := lw_g (lw_at lw_m1 164 rfl) rfl
theorem q194 : (Jvm.Cond.fieldLink "CostStudio" (255 : Nat) "CostStudio" "differences" "I") ∈ lw_all := lw_g (lw_at lw_m1 165 rfl) rfl
theorem q195 : (Jvm.Cond.fieldLink "CostStudio" (264 : Nat) "CostStudio" "month" "I") ∈ lw_all := lw_g (lw_at lw_m1 166 rfl) rfl
theorem q196 : (Jvm.Cond.laysFinal "CostStudio" "CostStudio" "drivers" "Ljava/util/List;") ∈ lw_all := lw_g (lw_at lw_m1 167 rfl) rfl
theorem q197 : (Jvm.Cond.soleField "CostStudio" "drivers") ∈ lw_all := lw_g (lw_at lw_m1 168 rfl) rfl
theorem q198 : (Jvm.Cond.laysFinal "CostStudio" "CostStudio" "scenarios" "Ljava/util/List;") ∈ lw_all := lw_g (lw_at lw_m1 169 rfl) rfl
theorem q199 : (Jvm.Cond.soleField "CostStudio" "scenarios") ∈ lw_all := lw_g (lw_at lw_m1 170 rfl) rfl
theorem q200 : (Jvm.Cond.laysFinal "CostStudio" "CostStudio" "lines" "Ljava/util/List;") ∈ lw_all := lw_g (lw_at lw_m1 171 rfl) rfl
theorem q201 : (Jvm.Cond.soleField "CostStudio" "lines") ∈ lw_all := lw_g (lw_at lw_m1 172 rfl) rfl
theorem q202 : (Jvm.Cond.lays "CostStudio" "CostStudio" "differences" "I") ∈ lw_all := lw_g (lw_at lw_m1 173 rfl) rfl
theorem q203 : (Jvm.Cond.soleField "CostStudio" "differences") ∈ lw_all := lw_g (lw_at lw_m1 174 rfl) rfl
theorem q204 : (Jvm.Cond.lays "CostStudio" "CostStudio" "month" "I") ∈ lw_all := lw_g (lw_at lw_m1 175 rfl) rfl
theorem q205 : (Jvm.Cond.soleField "CostStudio" "month") ∈ lw_all := lw_g (lw_at lw_m1 176 rfl) rfl
theorem q206 : (Jvm.Cond.superclass "CostStudio" "java/lang/Object") ∈ lw_all := lw_g (lw_at lw_m1 177 rfl) rfl
theorem q208 : (Jvm.Cond.instanceMethod ({ cls := "CostStudio", name := "month", desc := "()I" } : Jvm.MethodName)) ∈ lw_all := lw_g (lw_at lw_m1 179 rfl) rfl
theorem q209 : (Jvm.Cond.selects "CostStudio" ({ cls := "CostStudio", name := "month", desc := "()I" } : Jvm.MethodName) ({ cls := "CostStudio", name := "month", desc := "()I" } : Jvm.MethodName)) ∈ lw_all := lw_g (lw_at lw_m1 180 rfl) rfl
theorem q210 : (Jvm.Cond.code ({ cls := "CostStudio", name := "month", desc := "()I" } : Jvm.MethodName) prog_1_method_37_code (1 : Nat) (Option.some Jvm.ClassFile.FieldType.int)) ∈ lw_all := lw_g (lw_at lw_m1 181 rfl) rfl
theorem q212 : (Jvm.Cond.instanceMethod ({ cls := "CostStudio", name := "open", desc := "()I" } : Jvm.MethodName)) ∈ lw_all := lw_g (lw_at lw_m1 183 rfl) rfl
theorem q213 : (Jvm.Cond.selects "CostStudio" ({ cls := "CostStudio", name := "open", desc := "()I" } : Jvm.MethodName) ({ cls := "CostStudio", name := "open", desc := "()I" } : Jvm.MethodName)) ∈ lw_all := lw_g (lw_at lw_m1 184 rfl) rfl
theorem q214 : (Jvm.Cond.code ({ cls := "CostStudio", name := "open", desc := "()I" } : Jvm.MethodName) prog_1_method_42_code (4 : Nat) (Option.some Jvm.ClassFile.FieldType.int)) ∈ lw_all := lw_g (lw_at lw_m1 185 rfl) rfl
theorem q215 : (Jvm.Cond.methodLink "CostStudio" (271 : Nat) ({ cls := "CostStudio", name := "approvals", desc := "()Ljava/util/List;" } : Jvm.MethodName)) ∈ lw_all := lw_g (lw_at lw_m1 186 rfl) rfl
theorem q216 : (Jvm.Cond.privateMethod ({ cls := "CostStudio", name := "approvals", desc := "()Ljava/util/List;" } : Jvm.MethodName)) ∈ lw_tbl := lw_at lw_m1 187 rfl
theorem q217 : (Jvm.Cond.instanceMethod ({ cls := "CostStudio", name := "approvals", desc := "()Ljava/util/List;" } : Jvm.MethodName)) ∈ lw_all := lw_g (lw_at lw_m1 188 rfl) rfl
theorem q218 : (Jvm.Cond.code ({ cls := "CostStudio", name := "approvals", desc := "()Ljava/util/List;" } : Jvm.MethodName) prog_1_method_41_code (8 : Nat) (Option.some (Jvm.ClassFile.FieldType.object "java/util/List"))) ∈ lw_all := lw_g (lw_at lw_m1 189 rfl) rfl
theorem q219 : (Jvm.Cond.interfaceEntry "CostStudio" (212 : Nat)) ∈ lw_tbl := lw_at lw_m1 190 rfl
theorem q220 : (Jvm.Cond.methodLink "CostStudio" (212 : Nat) ({ cls := "java/util/List", name := "iterator", desc := "()Ljava/util/Iterator;" } : Jvm.MethodName)) ∈ lw_all := lw_g (lw_at lw_m1 191 rfl) rfl
theorem q247 : (Jvm.Cond.interfaceEntry "CostStudio" (216 : Nat)) ∈ lw_tbl := lw_at lw_m1 218 rfl
theorem q248 : (Jvm.Cond.methodLink "CostStudio" (216 : Nat) ({ cls := "java/util/Iterator", name := "hasNext", desc := "()Z" } : Jvm.MethodName)) ∈ lw_all := lw_g (lw_at lw_m1 219 rfl) rfl
theorem q257 : (Jvm.Cond.interfaceEntry "CostStudio" (222 : Nat)) ∈ lw_tbl := lw_at lw_m1 228 rfl
theorem q258 : (Jvm.Cond.methodLink "CostStudio" (222 : Nat) ({ cls := "java/util/Iterator", name := "next", desc := "()Ljava/lang/Object;" } : Jvm.MethodName)) ∈ lw_all := lw_g (lw_at lw_m1 229 rfl) rfl
theorem q340 : (Jvm.Cond.classLink "CostStudio" (77 : Nat) "CostStudio$Line") ∈ lw_all := lw_g (lw_at lw_m2 71 rfl) rfl
theorem q341 : (Jvm.Cond.classLink "CostStudio" (207 : Nat) "CostStudio$Approval") ∈ lw_all := lw_g (lw_at lw_m2 72 rfl) rfl
theorem q348 : (Jvm.Cond.instanceMethod ({ cls := "CostStudio", name := "addDriver", desc := "(I)I" } : Jvm.MethodName)) ∈ lw_all := lw_g (lw_at lw_m2 79 rfl) rfl
theorem q349 : (Jvm.Cond.selects "CostStudio" ({ cls := "CostStudio", name := "addDriver", desc := "(I)I" } : Jvm.MethodName) ({ cls := "CostStudio", name := "addDriver", desc := "(I)I" } : Jvm.MethodName)) ∈ lw_all := lw_g (lw_at lw_m2 80 rfl) rfl
theorem q350 : (Jvm.Cond.code ({ cls := "CostStudio", name := "addDriver", desc := "(I)I" } : Jvm.MethodName) prog_1_method_14_code (2 : Nat) (Option.some Jvm.ClassFile.FieldType.int)) ∈ lw_all := lw_g (lw_at lw_m2 81 rfl) rfl
theorem q351 : (Jvm.Cond.methodLink "CostStudio" (87 : Nat) ({ cls := "CostStudio", name := "requireIn", desc := "(III)V" } : Jvm.MethodName)) ∈ lw_all := lw_g (lw_at lw_m2 82 rfl) rfl
theorem q352 : (Jvm.Cond.static ({ cls := "CostStudio", name := "requireIn", desc := "(III)V" } : Jvm.MethodName)) ∈ lw_all := lw_g (lw_at lw_m2 83 rfl) rfl
theorem q353 : (Jvm.Cond.code ({ cls := "CostStudio", name := "requireIn", desc := "(III)V" } : Jvm.MethodName) prog_1_method_3_code (3 : Nat) (Option.none : Option Jvm.ClassFile.FieldType)) ∈ lw_all := lw_g (lw_at lw_m2 84 rfl) rfl
theorem q354 : (Jvm.Cond.classLink "CostStudio" (13 : Nat) "java/lang/IllegalArgumentException") ∈ lw_all := lw_g (lw_at lw_m2 85 rfl) rfl
theorem q363 : (Jvm.Cond.methodLink "CostStudio" (15 : Nat) ({ cls := "java/lang/IllegalArgumentException", name := "<init>", desc := "()V" } : Jvm.MethodName)) ∈ lw_all := lw_g (lw_at lw_m2 94 rfl) rfl
theorem q369 : (Jvm.Cond.interfaceEntry "CostStudio" (69 : Nat)) ∈ lw_tbl := lw_at lw_m2 100 rfl
theorem q370 : (Jvm.Cond.methodLink "CostStudio" (69 : Nat) ({ cls := "java/util/List", name := "size", desc := "()I" } : Jvm.MethodName)) ∈ lw_all := lw_g (lw_at lw_m2 101 rfl) rfl
theorem q378 : (Jvm.Cond.methodLink "CostStudio" (91 : Nat) ({ cls := "CostStudio", name := "requireState", desc := "(Z)V" } : Jvm.MethodName)) ∈ lw_all := lw_g (lw_at lw_m2 109 rfl) rfl
theorem q379 : (Jvm.Cond.static ({ cls := "CostStudio", name := "requireState", desc := "(Z)V" } : Jvm.MethodName)) ∈ lw_all := lw_g (lw_at lw_m2 110 rfl) rfl
theorem q380 : (Jvm.Cond.code ({ cls := "CostStudio", name := "requireState", desc := "(Z)V" } : Jvm.MethodName) prog_1_method_4_code (1 : Nat) (Option.none : Option Jvm.ClassFile.FieldType)) ∈ lw_all := lw_g (lw_at lw_m2 111 rfl) rfl
theorem q381 : (Jvm.Cond.classLink "CostStudio" (16 : Nat) "java/lang/IllegalStateException") ∈ lw_all := lw_g (lw_at lw_m2 112 rfl) rfl
theorem q390 : (Jvm.Cond.methodLink "CostStudio" (18 : Nat) ({ cls := "java/lang/IllegalStateException", name := "<init>", desc := "()V" } : Jvm.MethodName)) ∈ lw_all := lw_g (lw_at lw_m2 121 rfl) rfl
theorem q396 : (Jvm.Cond.methodLink "CostStudio" (95 : Nat) ({ cls := "java/lang/Integer", name := "valueOf", desc := "(I)Ljava/lang/Integer;" } : Jvm.MethodName)) ∈ lw_all := lw_g (lw_at lw_m2 127 rfl) rfl
theorem q453 : (Jvm.Cond.instanceMethod ({ cls := "CostStudio", name := "setDriver", desc := "(II)I" } : Jvm.MethodName)) ∈ lw_all := lw_g (lw_at lw_m2 184 rfl) rfl
theorem q454 : (Jvm.Cond.selects "CostStudio" ({ cls := "CostStudio", name := "setDriver", desc := "(II)I" } : Jvm.MethodName) ({ cls := "CostStudio", name := "setDriver", desc := "(II)I" } : Jvm.MethodName)) ∈ lw_all := lw_g (lw_at lw_m2 185 rfl) rfl
theorem q455 : (Jvm.Cond.code ({ cls := "CostStudio", name := "setDriver", desc := "(II)I" } : Jvm.MethodName) prog_1_method_29_code (3 : Nat) (Option.some Jvm.ClassFile.FieldType.int)) ∈ lw_all := lw_g (lw_at lw_m2 186 rfl) rfl
theorem q456 : (Jvm.Cond.methodLink "CostStudio" (182 : Nat) ({ cls := "CostStudio", name := "requireDriver", desc := "(I)V" } : Jvm.MethodName)) ∈ lw_all := lw_g (lw_at lw_m2 187 rfl) rfl
theorem q457 : (Jvm.Cond.privateMethod ({ cls := "CostStudio", name := "requireDriver", desc := "(I)V" } : Jvm.MethodName)) ∈ lw_tbl := lw_at lw_m2 188 rfl
theorem q458 : (Jvm.Cond.instanceMethod ({ cls := "CostStudio", name := "requireDriver", desc := "(I)V" } : Jvm.MethodName)) ∈ lw_all := lw_g (lw_at lw_m2 189 rfl) rfl
theorem q459 : (Jvm.Cond.code ({ cls := "CostStudio", name := "requireDriver", desc := "(I)V" } : Jvm.MethodName) prog_1_method_11_code (2 : Nat) (Option.none : Option Jvm.ClassFile.FieldType)) ∈ lw_all := lw_g (lw_at lw_m2 190 rfl) rfl
theorem q460 : (Jvm.Cond.methodLink "CostStudio" (9 : Nat) ({ cls := "CostStudio", name := "requireIndex", desc := "(II)V" } : Jvm.MethodName)) ∈ lw_all := lw_g (lw_at lw_m2 191 rfl) rfl
theorem q461 : (Jvm.Cond.static ({ cls := "CostStudio", name := "requireIndex", desc := "(II)V" } : Jvm.MethodName)) ∈ lw_all := lw_g (lw_at lw_m2 192 rfl) rfl
theorem q462 : (Jvm.Cond.code ({ cls := "CostStudio", name := "requireIndex", desc := "(II)V" } : Jvm.MethodName) prog_1_method_1_code (2 : Nat) (Option.none : Option Jvm.ClassFile.FieldType)) ∈ lw_all := lw_g (lw_at lw_m2 193 rfl) rfl
theorem q463 : (Jvm.Cond.classLink "CostStudio" (1 : Nat) "java/lang/IndexOutOfBoundsException") ∈ lw_all := lw_g (lw_at lw_m2 194 rfl) rfl
theorem q472 : (Jvm.Cond.methodLink "CostStudio" (3 : Nat) ({ cls := "java/lang/IndexOutOfBoundsException", name := "<init>", desc := "()V" } : Jvm.MethodName)) ∈ lw_all := lw_g (lw_at lw_m2 203 rfl) rfl
theorem q478 : (Jvm.Cond.interfaceEntry "CostStudio" (191 : Nat)) ∈ lw_tbl := lw_at lw_m2 209 rfl
theorem q479 : (Jvm.Cond.methodLink "CostStudio" (191 : Nat) ({ cls := "java/util/List", name := "set", desc := "(ILjava/lang/Object;)Ljava/lang/Object;" } : Jvm.MethodName)) ∈ lw_all := lw_g (lw_at lw_m2 210 rfl) rfl
theorem q497 : (Jvm.Cond.methodLink "CostStudio" (234 : Nat) ({ cls := "CostStudio", name := "reopen", desc := "()I" } : Jvm.MethodName)) ∈ lw_all := lw_g (lw_at lw_m2 228 rfl) rfl
theorem q498 : (Jvm.Cond.privateMethod ({ cls := "CostStudio", name := "reopen", desc := "()I" } : Jvm.MethodName)) ∈ lw_tbl := lw_at lw_m2 229 rfl
theorem q499 : (Jvm.Cond.instanceMethod ({ cls := "CostStudio", name := "reopen", desc := "()I" } : Jvm.MethodName)) ∈ lw_all := lw_g (lw_at lw_m2 230 rfl) rfl
theorem q500 : (Jvm.Cond.code ({ cls := "CostStudio", name := "reopen", desc := "()I" } : Jvm.MethodName) prog_1_method_28_code (5 : Nat) (Option.some Jvm.ClassFile.FieldType.int)) ∈ lw_all := lw_g (lw_at lw_m2 231 rfl) rfl
theorem q501 : (Jvm.Cond.methodLink "CostStudio" (230 : Nat) ({ cls := "CostStudio", name := "hasDrifted", desc := "(LCostStudio$Line;I)Z" } : Jvm.MethodName)) ∈ lw_all := lw_g (lw_at lw_m2 232 rfl) rfl
theorem q502 : (Jvm.Cond.privateMethod ({ cls := "CostStudio", name := "hasDrifted", desc := "(LCostStudio$Line;I)Z" } : Jvm.MethodName)) ∈ lw_tbl := lw_at lw_m2 233 rfl
theorem q503 : (Jvm.Cond.instanceMethod ({ cls := "CostStudio", name := "hasDrifted", desc := "(LCostStudio$Line;I)Z" } : Jvm.MethodName)) ∈ lw_all := lw_g (lw_at lw_m2 234 rfl) rfl
theorem q504 : (Jvm.Cond.codeWith ({ cls := "CostStudio", name := "hasDrifted", desc := "(LCostStudio$Line;I)Z" } : Jvm.MethodName) prog_1_method_27_code (5 : Nat) (Option.some Jvm.ClassFile.FieldType.boolean) [((7 : Nat), (41 : Nat), (42 : Nat), (24 : Nat)), ((7 : Nat), (41 : Nat), (42 : Nat), (29 : Nat))]) ∈ lw_all := lw_g (lw_at lw_m2 235 rfl) rfl
theorem q505 : (Jvm.Cond.classLink "CostStudio" (24 : Nat) "CostStudio$TooGreat") ∈ lw_all := lw_g (lw_at lw_m2 236 rfl) rfl
theorem q506 : (Jvm.Cond.classLink "CostStudio" (29 : Nat) "CostStudio$TooSmall") ∈ lw_all := lw_g (lw_at lw_m2 237 rfl) rfl
theorem q507 : (Jvm.Cond.methodLink "CostStudio" (187 : Nat) ({ cls := "CostStudio", name := "base", desc := "()LCostStudio$View;" } : Jvm.MethodName)) ∈ lw_all := lw_g (lw_at lw_m2 238 rfl) rfl
theorem q508 : (Jvm.Cond.privateMethod ({ cls := "CostStudio", name := "base", desc := "()LCostStudio$View;" } : Jvm.MethodName)) ∈ lw_tbl := lw_at lw_m2 239 rfl
theorem q509 : (Jvm.Cond.instanceMethod ({ cls := "CostStudio", name := "base", desc := "()LCostStudio$View;" } : Jvm.MethodName)) ∈ lw_all := lw_g (lw_at lw_m3 0 rfl) rfl
theorem q510 : (Jvm.Cond.code ({ cls := "CostStudio", name := "base", desc := "()LCostStudio$View;" } : Jvm.MethodName) prog_1_method_17_code (1 : Nat) (Option.some (Jvm.ClassFile.FieldType.object "CostStudio$View"))) ∈ lw_all := lw_g (lw_at lw_m3 1 rfl) rfl
theorem q511 : (Jvm.Cond.interfaceEntry "CostStudio" (73 : Nat)) ∈ lw_tbl := lw_at lw_m3 2 rfl
theorem q512 : (Jvm.Cond.methodLink "CostStudio" (73 : Nat) ({ cls := "java/util/List", name := "get", desc := "(I)Ljava/lang/Object;" } : Jvm.MethodName)) ∈ lw_all := lw_g (lw_at lw_m3 3 rfl) rfl
theorem q520 : (Jvm.Cond.methodLink "CostStudio" (109 : Nat) ({ cls := "CostStudio", name := "view", desc := "(LCostStudio$Scenario;)LCostStudio$View;" } : Jvm.MethodName)) ∈ lw_all := lw_g (lw_at lw_m3 11 rfl) rfl
theorem q521 : (Jvm.Cond.privateMethod ({ cls := "CostStudio", name := "view", desc := "(LCostStudio$Scenario;)LCostStudio$View;" } : Jvm.MethodName)) ∈ lw_tbl := lw_at lw_m3 12 rfl
theorem q522 : (Jvm.Cond.instanceMethod ({ cls := "CostStudio", name := "view", desc := "(LCostStudio$Scenario;)LCostStudio$View;" } : Jvm.MethodName)) ∈ lw_all := lw_g (lw_at lw_m3 13 rfl) rfl
theorem q523 : (Jvm.Cond.code ({ cls := "CostStudio", name := "view", desc := "(LCostStudio$Scenario;)LCostStudio$View;" } : Jvm.MethodName) prog_1_method_16_code (2 : Nat) (Option.some (Jvm.ClassFile.FieldType.object "CostStudio$View"))) ∈ lw_all := lw_g (lw_at lw_m3 14 rfl) rfl
theorem q524 : (Jvm.Cond.methodLink "CostStudio" (105 : Nat) ({ cls := "CostStudio", name := "view", desc := "(LCostStudio$Scenario;I)LCostStudio$View;" } : Jvm.MethodName)) ∈ lw_all := lw_g (lw_at lw_m3 15 rfl) rfl
theorem q525 : (Jvm.Cond.privateMethod ({ cls := "CostStudio", name := "view", desc := "(LCostStudio$Scenario;I)LCostStudio$View;" } : Jvm.MethodName)) ∈ lw_tbl := lw_at lw_m3 16 rfl
theorem q526 : (Jvm.Cond.instanceMethod ({ cls := "CostStudio", name := "view", desc := "(LCostStudio$Scenario;I)LCostStudio$View;" } : Jvm.MethodName)) ∈ lw_all := lw_g (lw_at lw_m3 17 rfl) rfl
theorem q527 : (Jvm.Cond.code ({ cls := "CostStudio", name := "view", desc := "(LCostStudio$Scenario;I)LCostStudio$View;" } : Jvm.MethodName) prog_1_method_15_code (3 : Nat) (Option.some (Jvm.ClassFile.FieldType.object "CostStudio$View"))) ∈ lw_all := lw_g (lw_at lw_m3 18 rfl) rfl
theorem q528 : (Jvm.Cond.privateMethod ({ cls := "CostStudio", name := "lambda$view$2", desc := "(ILCostStudio$Scenario;II)I" } : Jvm.MethodName)) ∈ lw_tbl := lw_at lw_m3 19 rfl
theorem q529 : (Jvm.Cond.instanceMethod ({ cls := "CostStudio", name := "lambda$view$2", desc := "(ILCostStudio$Scenario;II)I" } : Jvm.MethodName)) ∈ lw_all := lw_g (lw_at lw_m3 20 rfl) rfl
theorem q530 : (Jvm.Cond.code ({ cls := "CostStudio", name := "lambda$view$2", desc := "(ILCostStudio$Scenario;II)I" } : Jvm.MethodName) prog_1_method_45_code (5 : Nat) (Option.some Jvm.ClassFile.FieldType.int)) ∈ lw_all := lw_g (lw_at lw_m3 21 rfl) rfl
theorem q531 : (Jvm.Cond.classLink "CostStudio" (96 : Nat) "java/lang/Integer") ∈ lw_all := lw_g (lw_at lw_m3 22 rfl) rfl
theorem q532 : (Jvm.Cond.methodLink "CostStudio" (116 : Nat) ({ cls := "java/lang/Integer", name := "intValue", desc := "()I" } : Jvm.MethodName)) ∈ lw_all := lw_g (lw_at lw_m3 23 rfl) rfl
theorem q536 : (Jvm.Cond.methodLink "CostStudio" (283 : Nat) ({ cls := "CostStudio$Scenario", name := "added", desc := "(II)I" } : Jvm.MethodName)) ∈ lw_all := lw_g (lw_at lw_m3 27 rfl) rfl
theorem q545 : (Jvm.Cond.methodLink "CostStudio" (145 : Nat) ({ cls := "CostStudio", name := "find", desc := "(LCostStudio$View;LCostStudio$Line;I)I" } : Jvm.MethodName)) ∈ lw_all := lw_g (lw_at lw_m3 36 rfl) rfl
theorem q546 : (Jvm.Cond.privateMethod ({ cls := "CostStudio", name := "find", desc := "(LCostStudio$View;LCostStudio$Line;I)I" } : Jvm.MethodName)) ∈ lw_tbl := lw_at lw_m3 37 rfl
theorem q547 : (Jvm.Cond.instanceMethod ({ cls := "CostStudio", name := "find", desc := "(LCostStudio$View;LCostStudio$Line;I)I" } : Jvm.MethodName)) ∈ lw_all := lw_g (lw_at lw_m3 38 rfl) rfl
theorem q548 : (Jvm.Cond.code ({ cls := "CostStudio", name := "find", desc := "(LCostStudio$View;LCostStudio$Line;I)I" } : Jvm.MethodName) prog_1_method_18_code (5 : Nat) (Option.some Jvm.ClassFile.FieldType.int)) ∈ lw_all := lw_g (lw_at lw_m3 39 rfl) rfl
theorem q549 : (Jvm.Cond.interfaceEntry "CostStudio" (131 : Nat)) ∈ lw_tbl := lw_at lw_m3 40 rfl
theorem q550 : (Jvm.Cond.methodLink "CostStudio" (131 : Nat) ({ cls := "CostStudio$View", name := "value", desc := "(II)I" } : Jvm.MethodName)) ∈ lw_all := lw_g (lw_at lw_m3 41 rfl) rfl
theorem q553 : (Jvm.Cond.interfaceEntry "CostStudio" (136 : Nat)) ∈ lw_tbl := lw_at lw_m3 44 rfl
theorem q554 : (Jvm.Cond.methodLink "CostStudio" (136 : Nat) ({ cls := "CostStudio$Formula", name := "of", desc := "(JJ)J" } : Jvm.MethodName)) ∈ lw_all := lw_g (lw_at lw_m3 45 rfl) rfl
theorem q557 : (Jvm.Cond.methodLink "CostStudio" (141 : Nat) ({ cls := "CostStudio", name := "checked", desc := "(J)I" } : Jvm.MethodName)) ∈ lw_all := lw_g (lw_at lw_m3 48 rfl) rfl
theorem q558 : (Jvm.Cond.static ({ cls := "CostStudio", name := "checked", desc := "(J)I" } : Jvm.MethodName)) ∈ lw_all := lw_g (lw_at lw_m3 49 rfl) rfl
theorem q559 : (Jvm.Cond.code ({ cls := "CostStudio", name := "checked", desc := "(J)I" } : Jvm.MethodName) prog_1_method_6_code (2 : Nat) (Option.some Jvm.ClassFile.FieldType.int)) ∈ lw_all := lw_g (lw_at lw_m3 50 rfl) rfl
theorem q560 : (Jvm.Cond.constantLong "CostStudio" (22 : Nat) (99999999 : Int64)) ∈ lw_all := lw_g (lw_at lw_m3 51 rfl) rfl
theorem q570 : (Jvm.Cond.methodLinkNest "CostStudio" (26 : Nat) ({ cls := "CostStudio$TooGreat", name := "<init>", desc := "()V" } : Jvm.MethodName) "CostStudio") ∈ lw_tbl := lw_at lw_m3 61 rfl
theorem q584 : (Jvm.Cond.constantLong "CostStudio" (27 : Nat) (-99999999 : Int64)) ∈ lw_all := lw_g (lw_at lw_m3 75 rfl) rfl
theorem q593 : (Jvm.Cond.methodLinkNest "CostStudio" (31 : Nat) ({ cls := "CostStudio$TooSmall", name := "<init>", desc := "()V" } : Jvm.MethodName) "CostStudio") ∈ lw_tbl := lw_at lw_m3 84 rfl
theorem q599 : (Jvm.Cond.methodLink "CostStudio" (171 : Nat) ({ cls := "java/lang/Math", name := "abs", desc := "(J)J" } : Jvm.MethodName)) ∈ lw_all := lw_g (lw_at lw_m3 90 rfl) rfl
theorem q606 : (Jvm.Cond.instanceMethod ({ cls := "CostStudio", name := "driver", desc := "(III)I" } : Jvm.MethodName)) ∈ lw_all := lw_g (lw_at lw_m3 97 rfl) rfl
theorem q607 : (Jvm.Cond.selects "CostStudio" ({ cls := "CostStudio", name := "driver", desc := "(III)I" } : Jvm.MethodName) ({ cls := "CostStudio", name := "driver", desc := "(III)I" } : Jvm.MethodName)) ∈ lw_all := lw_g (lw_at lw_m3 98 rfl) rfl
theorem q608 : (Jvm.Cond.code ({ cls := "CostStudio", name := "driver", desc := "(III)I" } : Jvm.MethodName) prog_1_method_30_code (5 : Nat) (Option.some Jvm.ClassFile.FieldType.int)) ∈ lw_all := lw_g (lw_at lw_m3 99 rfl) rfl
theorem q609 : (Jvm.Cond.methodLink "CostStudio" (157 : Nat) ({ cls := "CostStudio", name := "scenarioAt", desc := "(I)LCostStudio$Scenario;" } : Jvm.MethodName)) ∈ lw_all := lw_g (lw_at lw_m3 100 rfl) rfl
theorem q610 : (Jvm.Cond.privateMethod ({ cls := "CostStudio", name := "scenarioAt", desc := "(I)LCostStudio$Scenario;" } : Jvm.MethodName)) ∈ lw_tbl := lw_at lw_m3 101 rfl
theorem q611 : (Jvm.Cond.instanceMethod ({ cls := "CostStudio", name := "scenarioAt", desc := "(I)LCostStudio$Scenario;" } : Jvm.MethodName)) ∈ lw_all := lw_g (lw_at lw_m3 102 rfl) rfl
theorem q612 : (Jvm.Cond.code ({ cls := "CostStudio", name := "scenarioAt", desc := "(I)LCostStudio$Scenario;" } : Jvm.MethodName) prog_1_method_10_code (2 : Nat) (Option.some (Jvm.ClassFile.FieldType.object "CostStudio$Scenario"))) ∈ lw_all := lw_g (lw_at lw_m3 103 rfl) rfl
theorem q613 : (Jvm.Cond.methodLink "CostStudio" (83 : Nat) ({ cls := "CostStudio", name := "requireMonth", desc := "(I)V" } : Jvm.MethodName)) ∈ lw_all := lw_g (lw_at lw_m3 104 rfl) rfl
theorem q614 : (Jvm.Cond.static ({ cls := "CostStudio", name := "requireMonth", desc := "(I)V" } : Jvm.MethodName)) ∈ lw_all := lw_g (lw_at lw_m3 105 rfl) rfl
theorem q615 : (Jvm.Cond.code ({ cls := "CostStudio", name := "requireMonth", desc := "(I)V" } : Jvm.MethodName) prog_1_method_2_code (1 : Nat) (Option.none : Option Jvm.ClassFile.FieldType)) ∈ lw_all := lw_g (lw_at lw_m3 106 rfl) rfl
theorem q620 : (Jvm.Cond.instanceMethod ({ cls := "CostStudio", name := "addLine", desc := "(CII)I" } : Jvm.MethodName)) ∈ lw_all := lw_g (lw_at lw_m3 111 rfl) rfl
theorem q621 : (Jvm.Cond.selects "CostStudio" ({ cls := "CostStudio", name := "addLine", desc := "(CII)I" } : Jvm.MethodName) ({ cls := "CostStudio", name := "addLine", desc := "(CII)I" } : Jvm.MethodName)) ∈ lw_all := lw_g (lw_at lw_m3 112 rfl) rfl
theorem q622 : (Jvm.Cond.code ({ cls := "CostStudio", name := "addLine", desc := "(CII)I" } : Jvm.MethodName) prog_1_method_31_code (4 : Nat) (Option.some Jvm.ClassFile.FieldType.int)) ∈ lw_all := lw_g (lw_at lw_m3 113 rfl) rfl
theorem q623 : (Jvm.Cond.stringRef "CostStudio" (237 : Nat) "dsmp") ∈ lw_tbl := lw_at lw_m3 114 rfl
theorem q624 : (Jvm.Cond.methodLink "CostStudio" (239 : Nat) ({ cls := "java/lang/String", name := "indexOf", desc := "(I)I" } : Jvm.MethodName)) ∈ lw_all := lw_g (lw_at lw_m3 115 rfl) rfl
theorem q706 : (Jvm.Cond.methodLink "CostStudio" (245 : Nat) ({ cls := "java/lang/String", name := "length", desc := "()I" } : Jvm.MethodName)) ∈ lw_all := lw_g (lw_at lw_m3 197 rfl) rfl
theorem q708 : (Jvm.Cond.methodLink "CostStudio" (248 : Nat) ({ cls := "CostStudio$Line", name := "<init>", desc := "(ICII)V" } : Jvm.MethodName)) ∈ lw_all := lw_g (lw_at lw_m3 199 rfl) rfl
theorem q717 : (Jvm.Cond.static ({ cls := "CostStudio", name := "formula", desc := "(C)LCostStudio$Formula;" } : Jvm.MethodName)) ∈ lw_all := lw_g (lw_at lw_m3 208 rfl) rfl
theorem q718 : (Jvm.Cond.code ({ cls := "CostStudio", name := "formula", desc := "(C)LCostStudio$Formula;" } : Jvm.MethodName) prog_1_method_8_code (2 : Nat) (Option.some (Jvm.ClassFile.FieldType.object "CostStudio$Formula"))) ∈ lw_all := lw_g (lw_at lw_m3 209 rfl) rfl
theorem q719 : (Jvm.Cond.static ({ cls := "CostStudio", name := "lambda$formula$0", desc := "(JJ)J" } : Jvm.MethodName)) ∈ lw_all := lw_g (lw_at lw_m3 210 rfl) rfl
theorem q720 : (Jvm.Cond.code ({ cls := "CostStudio", name := "lambda$formula$0", desc := "(JJ)J" } : Jvm.MethodName) prog_1_method_47_code (4 : Nat) (Option.some Jvm.ClassFile.FieldType.long)) ∈ lw_all := lw_g (lw_at lw_m3 211 rfl) rfl
theorem q721 : (Jvm.Cond.static ({ cls := "CostStudio", name := "product", desc := "(JJ)J" } : Jvm.MethodName)) ∈ lw_all := lw_g (lw_at lw_m3 212 rfl) rfl
theorem q722 : (Jvm.Cond.code ({ cls := "CostStudio", name := "product", desc := "(JJ)J" } : Jvm.MethodName) prog_1_method_7_code (4 : Nat) (Option.some Jvm.ClassFile.FieldType.long)) ∈ lw_all := lw_g (lw_at lw_m3 213 rfl) rfl
theorem q723 : (Jvm.Cond.constantLong "CostStudio" (32 : Nat) (100 : Int64)) ∈ lw_all := lw_g (lw_at lw_m3 214 rfl) rfl
theorem q724 : (Jvm.Cond.static ({ cls := "CostStudio", name := "lambda$formula$1", desc := "(IJJ)J" } : Jvm.MethodName)) ∈ lw_all := lw_g (lw_at lw_m3 215 rfl) rfl
theorem q725 : (Jvm.Cond.code ({ cls := "CostStudio", name := "lambda$formula$1", desc := "(IJJ)J" } : Jvm.MethodName) prog_1_method_46_code (5 : Nat) (Option.some Jvm.ClassFile.FieldType.long)) ∈ lw_all := lw_g (lw_at lw_m3 216 rfl) rfl
theorem q727 : (Jvm.Cond.fieldLinkNest "CostStudio" (168 : Nat) "CostStudio$Line" "number" "I" "CostStudio") ∈ lw_tbl := lw_at lw_m3 218 rfl
theorem q729 : (Jvm.Cond.fieldLinkNest "CostStudio" (119 : Nat) "CostStudio$Line" "kind" "C" "CostStudio") ∈ lw_tbl := lw_at lw_m3 220 rfl
theorem q731 : (Jvm.Cond.fieldLinkNest "CostStudio" (127 : Nat) "CostStudio$Line" "one" "I" "CostStudio") ∈ lw_tbl := lw_at lw_m3 222 rfl
theorem q733 : (Jvm.Cond.fieldLinkNest "CostStudio" (149 : Nat) "CostStudio$Line" "other" "I" "CostStudio") ∈ lw_tbl := lw_at lw_m3 224 rfl
theorem q735 : (Jvm.Cond.fieldLinkNest "CostStudio" (123 : Nat) "CostStudio$Line" "formula" "LCostStudio$Formula;" "CostStudio") ∈ lw_tbl := lw_at lw_m3 226 rfl
theorem q737 : (Jvm.Cond.fieldLinkNest "CostStudio" (112 : Nat) "CostStudio$Line" "actuals" "[Ljava/lang/Integer;" "CostStudio") ∈ lw_tbl := lw_at lw_m3 228 rfl
theorem q739 : (Jvm.Cond.fieldLinkNest "CostStudio" (202 : Nat) "CostStudio$Line" "approvals" "[LCostStudio$Approval;" "CostStudio") ∈ lw_tbl := lw_at lw_m3 230 rfl
theorem q759 : (Jvm.Cond.instanceMethod ({ cls := "CostStudio", name := "addScenario", desc := "(I)I" } : Jvm.MethodName)) ∈ lw_all := lw_g (lw_at lw_m4 10 rfl) rfl
theorem q760 : (Jvm.Cond.selects "CostStudio" ({ cls := "CostStudio", name := "addScenario", desc := "(I)I" } : Jvm.MethodName) ({ cls := "CostStudio", name := "addScenario", desc := "(I)I" } : Jvm.MethodName)) ∈ lw_all := lw_g (lw_at lw_m4 11 rfl) rfl
theorem q761 : (Jvm.Cond.code ({ cls := "CostStudio", name := "addScenario", desc := "(I)I" } : Jvm.MethodName) prog_1_method_32_code (3 : Nat) (Option.some Jvm.ClassFile.FieldType.int)) ∈ lw_all := lw_g (lw_at lw_m4 12 rfl) rfl
theorem q767 : (Jvm.Cond.instanceMethod ({ cls := "CostStudio", name := "differ", desc := "(IIII)I" } : Jvm.MethodName)) ∈ lw_all := lw_g (lw_at lw_m4 18 rfl) rfl
theorem q768 : (Jvm.Cond.selects "CostStudio" ({ cls := "CostStudio", name := "differ", desc := "(IIII)I" } : Jvm.MethodName) ({ cls := "CostStudio", name := "differ", desc := "(IIII)I" } : Jvm.MethodName)) ∈ lw_all := lw_g (lw_at lw_m4 19 rfl) rfl
theorem q769 : (Jvm.Cond.code ({ cls := "CostStudio", name := "differ", desc := "(IIII)I" } : Jvm.MethodName) prog_1_method_33_code (6 : Nat) (Option.some Jvm.ClassFile.FieldType.int)) ∈ lw_all := lw_g (lw_at lw_m4 20 rfl) rfl
theorem q770 : (Jvm.Cond.classLink "CostStudio" (152 : Nat) "java/lang/UnsupportedOperationException") ∈ lw_all := lw_g (lw_at lw_m4 21 rfl) rfl
theorem q779 : (Jvm.Cond.methodLink "CostStudio" (181 : Nat) ({ cls := "java/lang/UnsupportedOperationException", name := "<init>", desc := "()V" } : Jvm.MethodName)) ∈ lw_all := lw_g (lw_at lw_m4 30 rfl) rfl
theorem q785 : (Jvm.Cond.classLink "CostStudio" (260 : Nat) "CostStudio$Difference") ∈ lw_all := lw_g (lw_at lw_m4 36 rfl) rfl
theorem q787 : (Jvm.Cond.methodLink "CostStudio" (262 : Nat) ({ cls := "CostStudio$Difference", name := "<init>", desc := "(III)V" } : Jvm.MethodName)) ∈ lw_all := lw_g (lw_at lw_m4 38 rfl) rfl
theorem q808 : (Jvm.Cond.instanceMethod ({ cls := "CostStudio", name := "number", desc := "(III)I" } : Jvm.MethodName)) ∈ lw_all := lw_g (lw_at lw_m4 59 rfl) rfl
theorem q809 : (Jvm.Cond.selects "CostStudio" ({ cls := "CostStudio", name := "number", desc := "(III)I" } : Jvm.MethodName) ({ cls := "CostStudio", name := "number", desc := "(III)I" } : Jvm.MethodName)) ∈ lw_all := lw_g (lw_at lw_m4 60 rfl) rfl
theorem q810 : (Jvm.Cond.code ({ cls := "CostStudio", name := "number", desc := "(III)I" } : Jvm.MethodName) prog_1_method_20_code (5 : Nat) (Option.some Jvm.ClassFile.FieldType.int)) ∈ lw_all := lw_g (lw_at lw_m4 61 rfl) rfl
theorem q811 : (Jvm.Cond.methodLink "CostStudio" (161 : Nat) ({ cls := "CostStudio", name := "lineFor", desc := "(II)LCostStudio$Line;" } : Jvm.MethodName)) ∈ lw_all := lw_g (lw_at lw_m4 62 rfl) rfl
theorem q812 : (Jvm.Cond.privateMethod ({ cls := "CostStudio", name := "lineFor", desc := "(II)LCostStudio$Line;" } : Jvm.MethodName)) ∈ lw_tbl := lw_at lw_m4 63 rfl
theorem q813 : (Jvm.Cond.instanceMethod ({ cls := "CostStudio", name := "lineFor", desc := "(II)LCostStudio$Line;" } : Jvm.MethodName)) ∈ lw_all := lw_g (lw_at lw_m4 64 rfl) rfl
theorem q814 : (Jvm.Cond.code ({ cls := "CostStudio", name := "lineFor", desc := "(II)LCostStudio$Line;" } : Jvm.MethodName) prog_1_method_13_code (4 : Nat) (Option.some (Jvm.ClassFile.FieldType.object "CostStudio$Line"))) ∈ lw_all := lw_g (lw_at lw_m4 65 rfl) rfl
theorem q815 : (Jvm.Cond.methodLink "CostStudio" (79 : Nat) ({ cls := "CostStudio", name := "lineAt", desc := "(I)LCostStudio$Line;" } : Jvm.MethodName)) ∈ lw_all := lw_g (lw_at lw_m4 66 rfl) rfl
theorem q816 : (Jvm.Cond.privateMethod ({ cls := "CostStudio", name := "lineAt", desc := "(I)LCostStudio$Line;" } : Jvm.MethodName)) ∈ lw_tbl := lw_at lw_m4 67 rfl
theorem q817 : (Jvm.Cond.instanceMethod ({ cls := "CostStudio", name := "lineAt", desc := "(I)LCostStudio$Line;" } : Jvm.MethodName)) ∈ lw_all := lw_g (lw_at lw_m4 68 rfl) rfl
theorem q818 : (Jvm.Cond.code ({ cls := "CostStudio", name := "lineAt", desc := "(I)LCostStudio$Line;" } : Jvm.MethodName) prog_1_method_12_code (2 : Nat) (Option.some (Jvm.ClassFile.FieldType.object "CostStudio$Line"))) ∈ lw_all := lw_g (lw_at lw_m4 69 rfl) rfl
theorem q819 : (Jvm.Cond.methodLink "CostStudio" (165 : Nat) ({ cls := "CostStudio", name := "require", desc := "(LCostStudio$View;LCostStudio$Line;I)I" } : Jvm.MethodName)) ∈ lw_all := lw_g (lw_at lw_m4 70 rfl) rfl
theorem q820 : (Jvm.Cond.privateMethod ({ cls := "CostStudio", name := "require", desc := "(LCostStudio$View;LCostStudio$Line;I)I" } : Jvm.MethodName)) ∈ lw_tbl := lw_at lw_m4 71 rfl
theorem q821 : (Jvm.Cond.instanceMethod ({ cls := "CostStudio", name := "require", desc := "(LCostStudio$View;LCostStudio$Line;I)I" } : Jvm.MethodName)) ∈ lw_all := lw_g (lw_at lw_m4 72 rfl) rfl
theorem q822 : (Jvm.Cond.codeWith ({ cls := "CostStudio", name := "require", desc := "(LCostStudio$View;LCostStudio$Line;I)I" } : Jvm.MethodName) prog_1_method_19_code (5 : Nat) (Option.some Jvm.ClassFile.FieldType.int) [((0 : Nat), (7 : Nat), (8 : Nat), (24 : Nat)), ((0 : Nat), (7 : Nat), (8 : Nat), (29 : Nat))]) ∈ lw_all := lw_g (lw_at lw_m4 73 rfl) rfl
theorem q823 : (Jvm.Cond.methodLink "CostStudio" (154 : Nat) ({ cls := "java/lang/UnsupportedOperationException", name := "<init>", desc := "(Ljava/lang/String;Ljava/lang/Throwable;)V" } : Jvm.MethodName)) ∈ lw_all := lw_g (lw_at lw_m4 74 rfl) rfl
theorem q839 : (Jvm.Cond.instanceMethod ({ cls := "CostStudio", name := "numberByHand", desc := "(III)I" } : Jvm.MethodName)) ∈ lw_all := lw_g (lw_at lw_m4 90 rfl) rfl
theorem q840 : (Jvm.Cond.selects "CostStudio" ({ cls := "CostStudio", name := "numberByHand", desc := "(III)I" } : Jvm.MethodName) ({ cls := "CostStudio", name := "numberByHand", desc := "(III)I" } : Jvm.MethodName)) ∈ lw_all := lw_g (lw_at lw_m4 91 rfl) rfl
theorem q841 : (Jvm.Cond.code ({ cls := "CostStudio", name := "numberByHand", desc := "(III)I" } : Jvm.MethodName) prog_1_method_22_code (10 : Nat) (Option.some Jvm.ClassFile.FieldType.int)) ∈ lw_all := lw_g (lw_at lw_m4 92 rfl) rfl
theorem q842 : (Jvm.Cond.methodLink "CostStudio" (177 : Nat) ({ cls := "CostStudio", name := "isComputed", desc := "([J[ZLCostStudio$Line;LCostStudio$View;I)Z" } : Jvm.MethodName)) ∈ lw_all := lw_g (lw_at lw_m4 93 rfl) rfl
theorem q843 : (Jvm.Cond.privateMethod ({ cls := "CostStudio", name := "isComputed", desc := "([J[ZLCostStudio$Line;LCostStudio$View;I)Z" } : Jvm.MethodName)) ∈ lw_tbl := lw_at lw_m4 94 rfl
theorem q844 : (Jvm.Cond.instanceMethod ({ cls := "CostStudio", name := "isComputed", desc := "([J[ZLCostStudio$Line;LCostStudio$View;I)Z" } : Jvm.MethodName)) ∈ lw_all := lw_g (lw_at lw_m4 95 rfl) rfl
theorem q845 : (Jvm.Cond.code ({ cls := "CostStudio", name := "isComputed", desc := "([J[ZLCostStudio$Line;LCostStudio$View;I)Z" } : Jvm.MethodName) prog_1_method_21_code (6 : Nat) (Option.some Jvm.ClassFile.FieldType.boolean)) ∈ lw_all := lw_g (lw_at lw_m4 96 rfl) rfl
theorem q852 : (Jvm.Cond.instanceMethod ({ cls := "CostStudio", name := "year", desc := "(II)J" } : Jvm.MethodName)) ∈ lw_all := lw_g (lw_at lw_m4 103 rfl) rfl
theorem q853 : (Jvm.Cond.selects "CostStudio" ({ cls := "CostStudio", name := "year", desc := "(II)J" } : Jvm.MethodName) ({ cls := "CostStudio", name := "year", desc := "(II)J" } : Jvm.MethodName)) ∈ lw_all := lw_g (lw_at lw_m4 104 rfl) rfl
theorem q854 : (Jvm.Cond.code ({ cls := "CostStudio", name := "year", desc := "(II)J" } : Jvm.MethodName) prog_1_method_23_code (8 : Nat) (Option.some Jvm.ClassFile.FieldType.long)) ∈ lw_all := lw_g (lw_at lw_m4 105 rfl) rfl
theorem q859 : (Jvm.Cond.instanceMethod ({ cls := "CostStudio", name := "effect", desc := "(IIII)I" } : Jvm.MethodName)) ∈ lw_all := lw_g (lw_at lw_m4 110 rfl) rfl
theorem q860 : (Jvm.Cond.selects "CostStudio" ({ cls := "CostStudio", name := "effect", desc := "(IIII)I" } : Jvm.MethodName) ({ cls := "CostStudio", name := "effect", desc := "(IIII)I" } : Jvm.MethodName)) ∈ lw_all := lw_g (lw_at lw_m4 111 rfl) rfl
theorem q861 : (Jvm.Cond.code ({ cls := "CostStudio", name := "effect", desc := "(IIII)I" } : Jvm.MethodName) prog_1_method_24_code (7 : Nat) (Option.some Jvm.ClassFile.FieldType.int)) ∈ lw_all := lw_g (lw_at lw_m4 112 rfl) rfl
theorem q867 : (Jvm.Cond.instanceMethod ({ cls := "CostStudio", name := "seek", desc := "(IIII)I" } : Jvm.MethodName)) ∈ lw_all := lw_g (lw_at lw_m4 118 rfl) rfl
theorem q868 : (Jvm.Cond.selects "CostStudio" ({ cls := "CostStudio", name := "seek", desc := "(IIII)I" } : Jvm.MethodName) ({ cls := "CostStudio", name := "seek", desc := "(IIII)I" } : Jvm.MethodName)) ∈ lw_all := lw_g (lw_at lw_m4 119 rfl) rfl
theorem q869 : (Jvm.Cond.codeWith ({ cls := "CostStudio", name := "seek", desc := "(IIII)I" } : Jvm.MethodName) prog_1_method_26_code (11 : Nat) (Option.some Jvm.ClassFile.FieldType.int) [((37 : Nat), (120 : Nat), (139 : Nat), (0 : Nat)), ((139 : Nat), (141 : Nat), (139 : Nat), (0 : Nat))]) ∈ lw_all := lw_g (lw_at lw_m4 120 rfl) rfl
theorem q870 : (Jvm.Cond.methodLink "CostStudio" (195 : Nat) ({ cls := "CostStudio", name := "reaches", desc := "(LCostStudio$View;LCostStudio$Line;II)Z" } : Jvm.MethodName)) ∈ lw_all := lw_g (lw_at lw_m4 121 rfl) rfl
theorem q871 : (Jvm.Cond.privateMethod ({ cls := "CostStudio", name := "reaches", desc := "(LCostStudio$View;LCostStudio$Line;II)Z" } : Jvm.MethodName)) ∈ lw_tbl := lw_at lw_m4 122 rfl
theorem q872 : (Jvm.Cond.instanceMethod ({ cls := "CostStudio", name := "reaches", desc := "(LCostStudio$View;LCostStudio$Line;II)Z" } : Jvm.MethodName)) ∈ lw_all := lw_g (lw_at lw_m4 123 rfl) rfl
theorem q873 : (Jvm.Cond.codeWith ({ cls := "CostStudio", name := "reaches", desc := "(LCostStudio$View;LCostStudio$Line;II)Z" } : Jvm.MethodName) prog_1_method_25_code (6 : Nat) (Option.some Jvm.ClassFile.FieldType.boolean) [((0 : Nat), (17 : Nat), (18 : Nat), (185 : Nat))]) ∈ lw_all := lw_g (lw_at lw_m4 124 rfl) rfl
theorem q874 : (Jvm.Cond.classLink "CostStudio" (185 : Nat) "CostStudio$NoNumber") ∈ lw_all := lw_g (lw_at lw_m4 125 rfl) rfl
theorem q875 : (Jvm.Cond.methodLink "CostStudio" (199 : Nat) ({ cls := "CostStudio", name := "requireElement", desc := "(Z)V" } : Jvm.MethodName)) ∈ lw_all := lw_g (lw_at lw_m4 126 rfl) rfl
theorem q876 : (Jvm.Cond.static ({ cls := "CostStudio", name := "requireElement", desc := "(Z)V" } : Jvm.MethodName)) ∈ lw_all := lw_g (lw_at lw_m4 127 rfl) rfl
theorem q877 : (Jvm.Cond.code ({ cls := "CostStudio", name := "requireElement", desc := "(Z)V" } : Jvm.MethodName) prog_1_method_5_code (1 : Nat) (Option.none : Option Jvm.ClassFile.FieldType)) ∈ lw_all := lw_g (lw_at lw_m4 128 rfl) rfl
theorem q878 : (Jvm.Cond.classLink "CostStudio" (19 : Nat) "java/util/NoSuchElementException") ∈ lw_all := lw_g (lw_at lw_m4 129 rfl) rfl
theorem q879 : (Jvm.Cond.methodLink "CostStudio" (21 : Nat) ({ cls := "java/util/NoSuchElementException", name := "<init>", desc := "()V" } : Jvm.MethodName)) ∈ lw_all := lw_g (lw_at lw_m4 130 rfl) rfl
theorem q884 : (Jvm.Cond.instanceMethod ({ cls := "CostStudio", name := "actual", desc := "(III)I" } : Jvm.MethodName)) ∈ lw_all := lw_g (lw_at lw_m4 135 rfl) rfl
theorem q885 : (Jvm.Cond.selects "CostStudio" ({ cls := "CostStudio", name := "actual", desc := "(III)I" } : Jvm.MethodName) ({ cls := "CostStudio", name := "actual", desc := "(III)I" } : Jvm.MethodName)) ∈ lw_all := lw_g (lw_at lw_m4 136 rfl) rfl
theorem q886 : (Jvm.Cond.code ({ cls := "CostStudio", name := "actual", desc := "(III)I" } : Jvm.MethodName) prog_1_method_34_code (5 : Nat) (Option.some Jvm.ClassFile.FieldType.int)) ∈ lw_all := lw_g (lw_at lw_m4 137 rfl) rfl
theorem q887 : (Jvm.Cond.constant "CostStudio" (267 : Nat) (-9999999 : Int32)) ∈ lw_all := lw_g (lw_at lw_m4 138 rfl) rfl
theorem q888 : (Jvm.Cond.constant "CostStudio" (268 : Nat) (9999999 : Int32)) ∈ lw_all := lw_g (lw_at lw_m4 139 rfl) rfl
theorem q893 : (Jvm.Cond.instanceMethod ({ cls := "CostStudio", name := "takeActual", desc := "(II)I" } : Jvm.MethodName)) ∈ lw_all := lw_g (lw_at lw_m4 144 rfl) rfl
theorem q894 : (Jvm.Cond.selects "CostStudio" ({ cls := "CostStudio", name := "takeActual", desc := "(II)I" } : Jvm.MethodName) ({ cls := "CostStudio", name := "takeActual", desc := "(II)I" } : Jvm.MethodName)) ∈ lw_all := lw_g (lw_at lw_m4 145 rfl) rfl
theorem q895 : (Jvm.Cond.code ({ cls := "CostStudio", name := "takeActual", desc := "(II)I" } : Jvm.MethodName) prog_1_method_35_code (4 : Nat) (Option.some Jvm.ClassFile.FieldType.int)) ∈ lw_all := lw_g (lw_at lw_m4 146 rfl) rfl
theorem q900 : (Jvm.Cond.instanceMethod ({ cls := "CostStudio", name := "pass", desc := "()I" } : Jvm.MethodName)) ∈ lw_all := lw_g (lw_at lw_m4 151 rfl) rfl
theorem q901 : (Jvm.Cond.selects "CostStudio" ({ cls := "CostStudio", name := "pass", desc := "()I" } : Jvm.MethodName) ({ cls := "CostStudio", name := "pass", desc := "()I" } : Jvm.MethodName)) ∈ lw_all := lw_g (lw_at lw_m4 152 rfl) rfl
theorem q902 : (Jvm.Cond.code ({ cls := "CostStudio", name := "pass", desc := "()I" } : Jvm.MethodName) prog_1_method_36_code (1 : Nat) (Option.some Jvm.ClassFile.FieldType.int)) ∈ lw_all := lw_g (lw_at lw_m4 153 rfl) rfl
theorem q907 : (Jvm.Cond.instanceMethod ({ cls := "CostStudio", name := "approve", desc := "(III)I" } : Jvm.MethodName)) ∈ lw_all := lw_g (lw_at lw_m4 158 rfl) rfl
theorem q908 : (Jvm.Cond.selects "CostStudio" ({ cls := "CostStudio", name := "approve", desc := "(III)I" } : Jvm.MethodName) ({ cls := "CostStudio", name := "approve", desc := "(III)I" } : Jvm.MethodName)) ∈ lw_all := lw_g (lw_at lw_m4 159 rfl) rfl
theorem q909 : (Jvm.Cond.code ({ cls := "CostStudio", name := "approve", desc := "(III)I" } : Jvm.MethodName) prog_1_method_38_code (6 : Nat) (Option.some Jvm.ClassFile.FieldType.int)) ∈ lw_all := lw_g (lw_at lw_m4 160 rfl) rfl
theorem q911 : (Jvm.Cond.methodLink "CostStudio" (269 : Nat) ({ cls := "CostStudio$Approval", name := "<init>", desc := "(II)V" } : Jvm.MethodName)) ∈ lw_all := lw_g (lw_at lw_m4 162 rfl) rfl
theorem q916 : (Jvm.Cond.fieldLinkNest "CostStudio" (206 : Nat) "CostStudio$Approval" "number" "I" "CostStudio") ∈ lw_tbl := lw_at lw_m4 167 rfl
theorem q918 : (Jvm.Cond.fieldLinkNest "CostStudio" (209 : Nat) "CostStudio$Approval" "tolerance" "I" "CostStudio") ∈ lw_tbl := lw_at lw_m4 169 rfl
theorem q919 : (Jvm.Cond.fieldLinkNest "CostStudio" (226 : Nat) "CostStudio$Approval" "isOpen" "Z" "CostStudio") ∈ lw_tbl := lw_at lw_m4 170 rfl
theorem q931 : (Jvm.Cond.instanceMethod ({ cls := "CostStudio", name := "state", desc := "(II)C" } : Jvm.MethodName)) ∈ lw_all := lw_g (lw_at lw_m4 182 rfl) rfl
theorem q932 : (Jvm.Cond.selects "CostStudio" ({ cls := "CostStudio", name := "state", desc := "(II)C" } : Jvm.MethodName) ({ cls := "CostStudio", name := "state", desc := "(II)C" } : Jvm.MethodName)) ∈ lw_all := lw_g (lw_at lw_m4 183 rfl) rfl
theorem q933 : (Jvm.Cond.code ({ cls := "CostStudio", name := "state", desc := "(II)C" } : Jvm.MethodName) prog_1_method_39_code (4 : Nat) (Option.some Jvm.ClassFile.FieldType.char)) ∈ lw_all := lw_g (lw_at lw_m4 184 rfl) rfl
theorem q938 : (Jvm.Cond.instanceMethod ({ cls := "CostStudio", name := "drift", desc := "(II)I" } : Jvm.MethodName)) ∈ lw_all := lw_g (lw_at lw_m4 189 rfl) rfl
theorem q939 : (Jvm.Cond.selects "CostStudio" ({ cls := "CostStudio", name := "drift", desc := "(II)I" } : Jvm.MethodName) ({ cls := "CostStudio", name := "drift", desc := "(II)I" } : Jvm.MethodName)) ∈ lw_all := lw_g (lw_at lw_m4 190 rfl) rfl
theorem q940 : (Jvm.Cond.code ({ cls := "CostStudio", name := "drift", desc := "(II)I" } : Jvm.MethodName) prog_1_method_40_code (4 : Nat) (Option.some Jvm.ClassFile.FieldType.int)) ∈ lw_all := lw_g (lw_at lw_m4 191 rfl) rfl
theorem q959 : (Jvm.Cond.instanceMethod ({ cls := "CostStudio", name := "approvedShare", desc := "()F" } : Jvm.MethodName)) ∈ lw_all := lw_g (lw_at lw_m4 210 rfl) rfl
theorem q960 : (Jvm.Cond.selects "CostStudio" ({ cls := "CostStudio", name := "approvedShare", desc := "()F" } : Jvm.MethodName) ({ cls := "CostStudio", name := "approvedShare", desc := "()F" } : Jvm.MethodName)) ∈ lw_all := lw_g (lw_at lw_m4 211 rfl) rfl
theorem q961 : (Jvm.Cond.code ({ cls := "CostStudio", name := "approvedShare", desc := "()F" } : Jvm.MethodName) prog_1_method_43_code (2 : Nat) (Option.some Jvm.ClassFile.FieldType.float)) ∈ lw_all := lw_g (lw_at lw_m4 212 rfl) rfl
theorem q962 : (Jvm.Cond.classLink "CostStudio" (274 : Nat) "java/lang/ArithmeticException") ∈ lw_all := lw_g (lw_at lw_m4 213 rfl) rfl
theorem q963 : (Jvm.Cond.methodLink "CostStudio" (276 : Nat) ({ cls := "java/lang/ArithmeticException", name := "<init>", desc := "()V" } : Jvm.MethodName)) ∈ lw_all := lw_g (lw_at lw_m4 214 rfl) rfl
theorem q967 : (Jvm.Cond.methodLink "CostStudio" (277 : Nat) ({ cls := "CostStudio", name := "open", desc := "()I" } : Jvm.MethodName)) ∈ lw_all := lw_g (lw_at lw_m4 218 rfl) rfl
theorem q972 : (Jvm.Cond.instanceMethod ({ cls := "CostStudio", name := "meanTolerance", desc := "()D" } : Jvm.MethodName)) ∈ lw_all := lw_g (lw_at lw_m4 223 rfl) rfl
theorem q973 : (Jvm.Cond.selects "CostStudio" ({ cls := "CostStudio", name := "meanTolerance", desc := "()D" } : Jvm.MethodName) ({ cls := "CostStudio", name := "meanTolerance", desc := "()D" } : Jvm.MethodName)) ∈ lw_all := lw_g (lw_at lw_m4 224 rfl) rfl
theorem q974 : (Jvm.Cond.code ({ cls := "CostStudio", name := "meanTolerance", desc := "()D" } : Jvm.MethodName) prog_1_method_44_code (5 : Nat) (Option.some Jvm.ClassFile.FieldType.double)) ∈ lw_all := lw_g (lw_at lw_m4 225 rfl) rfl
theorem q975 : (Jvm.Cond.interfaceEntry "CostStudio" (280 : Nat)) ∈ lw_tbl := lw_at lw_m4 226 rfl
theorem q976 : (Jvm.Cond.methodLink "CostStudio" (280 : Nat) ({ cls := "java/util/List", name := "isEmpty", desc := "()Z" } : Jvm.MethodName)) ∈ lw_all := lw_g (lw_at lw_m4 227 rfl) rfl
theorem q1210 : (Jvm.Cond.castable "CostStudio" "java/lang/Object") ∈ lw_tbl := lw_at lw_m5 221 rfl
theorem in_X1 : ∀ w ∈ wsX10, w ∈ lw_all := lw_in wsX10 [196, 198, 200, 202, 204] (by decide +kernel) (by decide +kernel)
/-! CostStudio$Scenario -/
set_option maxRecDepth 100000
def RX2 : String := "CostStudio$Scenario"
def TX2 : u_T := fun k => match k with
  | 0 => ("CostStudio$Scenario", "parent", "LCostStudio$Scenario;", true)
  | _ => ("CostStudio$Scenario", "differences", "Ljava/util/List;", true)
def tyX2 : Nat → FieldType := fun k => match k with
  | 0 => .object "CostStudio$Scenario"
  | _ => .object "java/util/List"
abbrev wsX20 : List Cond := u_ws RX2 TX2 2
theorem nmX2 : ∀ a, a < 2 → ∀ b, b < 2 → a ≠ b → (TX2 a).2.1 ≠ (TX2 b).2.1 := by decide +kernel
theorem tyX2_ok : ∀ k, k < 2 → parseFieldDescriptor (TX2 k).2.2.1 = some (tyX2 k) := by decide +kernel
abbrev cX2_init : ByteArray := prog_7_method_1_code
def yX2_init : MethodName := ⟨RX2, "<init>", "(LCostStudio$Scenario;)V"⟩
def dkwX2_init_0 : List UInt8 := [42, 183, 0, 1, 42, 187, 0, 7, 89, 183, 0, 9, 181, 0, 10, 42, 43, 181, 0, 16, 177]
abbrev dktX2_init_0 : List UInt8 := dkwX2_init_0 ++ []
theorem dksX2_init_0 : cX2_init.data.toList.drop 0 = dktX2_init_0 := by decide +kernel
theorem dX2_init_0 : decode cX2_init 0 = .ok (.aload_n 0, 1) := dk_42 (dk_at dksX2_init_0 0 rfl rfl)
theorem dX2_init_1 : decode cX2_init 1 = .ok (.invokespecial 1, 3) := dk_183 0 1 (dk_at dksX2_init_0 1 rfl rfl)
theorem dX2_init_4 : decode cX2_init 4 = .ok (.aload_n 0, 1) := dk_42 (dk_at dksX2_init_0 4 rfl rfl)
theorem dX2_init_5 : decode cX2_init 5 = .ok (.new 7, 3) := dk_187 0 7 (dk_at dksX2_init_0 5 rfl rfl)
theorem dX2_init_8 : decode cX2_init 8 = .ok (.dup, 1) := dk_89 (dk_at dksX2_init_0 8 rfl rfl)
theorem dX2_init_9 : decode cX2_init 9 = .ok (.invokespecial 9, 3) := dk_183 0 9 (dk_at dksX2_init_0 9 rfl rfl)
theorem dX2_init_12 : decode cX2_init 12 = .ok (.putfield 10, 3) := dk_181 0 10 (dk_at dksX2_init_0 12 rfl rfl)
theorem dX2_init_15 : decode cX2_init 15 = .ok (.aload_n 0, 1) := dk_42 (dk_at dksX2_init_0 15 rfl rfl)
theorem dX2_init_16 : decode cX2_init 16 = .ok (.aload_n 1, 1) := dk_43 (dk_at dksX2_init_0 16 rfl rfl)
theorem dX2_init_17 : decode cX2_init 17 = .ok (.putfield 16, 3) := dk_181 0 16 (dk_at dksX2_init_0 17 rfl rfl)
theorem dX2_init_20 : decode cX2_init 20 = .ok (.return_, 1) := dk_177 (dk_at dksX2_init_0 20 rfl rfl)
abbrev cX2_added : ByteArray := prog_7_method_2_code
def yX2_added : MethodName := ⟨RX2, "added", "(II)I"⟩
def dkwX2_added_4 : List UInt8 := [167, 255, 173, 29, 172]
abbrev dktX2_added_4 : List UInt8 := dkwX2_added_4 ++ []
def dkwX2_added_3 : List UInt8 := [180, 0, 39, 167, 0, 4, 3, 96, 62, 132, 5, 1, 167, 255, 191, 25, 4, 180, 0, 16, 58, 4]
abbrev dktX2_added_3 : List UInt8 := dkwX2_added_3 ++ dktX2_added_4
def dkwX2_added_2 : List UInt8 := [58, 6, 29, 25, 6, 180, 0, 32, 27, 160, 0, 20, 25, 6, 180, 0, 36, 28, 163, 0, 11, 25, 6]
abbrev dktX2_added_2 : List UInt8 := dkwX2_added_2 ++ dktX2_added_3
def dkwX2_added_1 : List UInt8 := [185, 0, 20, 1, 0, 162, 0, 56, 25, 4, 180, 0, 10, 21, 5, 185, 0, 26, 2, 0, 192, 0, 30]
abbrev dktX2_added_1 : List UInt8 := dkwX2_added_1 ++ dktX2_added_2
def dkwX2_added_0 : List UInt8 := [3, 62, 42, 58, 4, 25, 4, 198, 0, 84, 3, 54, 5, 21, 5, 25, 4, 180, 0, 10]
abbrev dktX2_added_0 : List UInt8 := dkwX2_added_0 ++ dktX2_added_1
theorem dksX2_added_0 : cX2_added.data.toList.drop 0 = dktX2_added_0 := by decide +kernel
theorem dksX2_added_1 : cX2_added.data.toList.drop 20 = dktX2_added_1 := dk_seg dksX2_added_0 20 rfl rfl
theorem dksX2_added_2 : cX2_added.data.toList.drop 43 = dktX2_added_2 := dk_seg dksX2_added_1 23 rfl rfl
theorem dksX2_added_3 : cX2_added.data.toList.drop 66 = dktX2_added_3 := dk_seg dksX2_added_2 23 rfl rfl
theorem dksX2_added_4 : cX2_added.data.toList.drop 88 = dktX2_added_4 := dk_seg dksX2_added_3 22 rfl rfl
theorem dX2_added_0 : decode cX2_added 0 = .ok (.iconst 0, 1) := dk_3 (dk_at dksX2_added_0 0 rfl rfl)
theorem dX2_added_1 : decode cX2_added 1 = .ok (.istore_n 3, 1) := dk_62 (dk_at dksX2_added_0 1 rfl rfl)
theorem dX2_added_2 : decode cX2_added 2 = .ok (.aload_n 0, 1) := dk_42 (dk_at dksX2_added_0 2 rfl rfl)
theorem dX2_added_3 : decode cX2_added 3 = .ok (.astore 4, 2) := dk_58 4 (dk_at dksX2_added_0 3 rfl rfl)
theorem dX2_added_5 : decode cX2_added 5 = .ok (.aload 4, 2) := dk_25 4 (dk_at dksX2_added_0 5 rfl rfl)
theorem dX2_added_7 : decode cX2_added 7 = .ok (.ifnull 84, 3) := dk_198 0 84 (dk_at dksX2_added_0 7 rfl rfl)
theorem dX2_added_10 : decode cX2_added 10 = .ok (.iconst 0, 1) := dk_3 (dk_at dksX2_added_0 10 rfl rfl)
theorem dX2_added_11 : decode cX2_added 11 = .ok (.istore 5, 2) := dk_54 5 (dk_at dksX2_added_0 11 rfl rfl)
theorem dX2_added_13 : decode cX2_added 13 = .ok (.iload 5, 2) := dk_21 5 (dk_at dksX2_added_0 13 rfl rfl)
theorem dX2_added_15 : decode cX2_added 15 = .ok (.aload 4, 2) := dk_25 4 (dk_at dksX2_added_0 15 rfl rfl)
theorem dX2_added_17 : decode cX2_added 17 = .ok (.getfield 10, 3) := dk_180 0 10 (dk_at dksX2_added_0 17 rfl rfl)
theorem dX2_added_20 : decode cX2_added 20 = .ok (.invokeinterface 20 1, 5) := by decide +kernel
theorem dX2_added_25 : decode cX2_added 25 = .ok (.if_icmp .ge 56, 3) := dk_162 0 56 (dk_at dksX2_added_1 5 rfl rfl)
theorem dX2_added_28 : decode cX2_added 28 = .ok (.aload 4, 2) := dk_25 4 (dk_at dksX2_added_1 8 rfl rfl)
theorem dX2_added_30 : decode cX2_added 30 = .ok (.getfield 10, 3) := dk_180 0 10 (dk_at dksX2_added_1 10 rfl rfl)
theorem dX2_added_33 : decode cX2_added 33 = .ok (.iload 5, 2) := dk_21 5 (dk_at dksX2_added_1 13 rfl rfl)
theorem dX2_added_35 : decode cX2_added 35 = .ok (.invokeinterface 26 2, 5) := by decide +kernel
theorem dX2_added_40 : decode cX2_added 40 = .ok (.checkcast 30, 3) := dk_192 0 30 (dk_at dksX2_added_1 20 rfl rfl)
theorem dX2_added_43 : decode cX2_added 43 = .ok (.astore 6, 2) := dk_58 6 (dk_at dksX2_added_2 0 rfl rfl)
theorem dX2_added_45 : decode cX2_added 45 = .ok (.iload_n 3, 1) := dk_29 (dk_at dksX2_added_2 2 rfl rfl)
theorem dX2_added_46 : decode cX2_added 46 = .ok (.aload 6, 2) := dk_25 6 (dk_at dksX2_added_2 3 rfl rfl)
theorem dX2_added_48 : decode cX2_added 48 = .ok (.getfield 32, 3) := dk_180 0 32 (dk_at dksX2_added_2 5 rfl rfl)
theorem dX2_added_51 : decode cX2_added 51 = .ok (.iload_n 1, 1) := dk_27 (dk_at dksX2_added_2 8 rfl rfl)
theorem dX2_added_52 : decode cX2_added 52 = .ok (.if_icmp .ne 20, 3) := dk_160 0 20 (dk_at dksX2_added_2 9 rfl rfl)
theorem dX2_added_55 : decode cX2_added 55 = .ok (.aload 6, 2) := dk_25 6 (dk_at dksX2_added_2 12 rfl rfl)
theorem dX2_added_57 : decode cX2_added 57 = .ok (.getfield 36, 3) := dk_180 0 36 (dk_at dksX2_added_2 14 rfl rfl)
theorem dX2_added_60 : decode cX2_added 60 = .ok (.iload_n 2, 1) := dk_28 (dk_at dksX2_added_2 17 rfl rfl)
theorem dX2_added_61 : decode cX2_added 61 = .ok (.if_icmp .gt 11, 3) := dk_163 0 11 (dk_at dksX2_added_2 18 rfl rfl)
theorem dX2_added_64 : decode cX2_added 64 = .ok (.aload 6, 2) := dk_25 6 (dk_at dksX2_added_2 21 rfl rfl)
theorem dX2_added_66 : decode cX2_added 66 = .ok (.getfield 39, 3) := dk_180 0 39 (dk_at dksX2_added_3 0 rfl rfl)
theorem dX2_added_69 : decode cX2_added 69 = .ok (.goto 4, 3) := dk_167 0 4 (dk_at dksX2_added_3 3 rfl rfl)
theorem dX2_added_72 : decode cX2_added 72 = .ok (.iconst 0, 1) := dk_3 (dk_at dksX2_added_3 6 rfl rfl)
theorem dX2_added_73 : decode cX2_added 73 = .ok (.iadd, 1) := dk_96 (dk_at dksX2_added_3 7 rfl rfl)
theorem dX2_added_74 : decode cX2_added 74 = .ok (.istore_n 3, 1) := dk_62 (dk_at dksX2_added_3 8 rfl rfl)
theorem dX2_added_75 : decode cX2_added 75 = .ok (.iinc 5 1, 3) := dk_132 5 1 (dk_at dksX2_added_3 9 rfl rfl)
theorem dX2_added_78 : decode cX2_added 78 = .ok (.goto (-65), 3) := dk_167 255 191 (dk_at dksX2_added_3 12 rfl rfl)
theorem dX2_added_81 : decode cX2_added 81 = .ok (.aload 4, 2) := dk_25 4 (dk_at dksX2_added_3 15 rfl rfl)
theorem dX2_added_83 : decode cX2_added 83 = .ok (.getfield 16, 3) := dk_180 0 16 (dk_at dksX2_added_3 17 rfl rfl)
theorem dX2_added_86 : decode cX2_added 86 = .ok (.astore 4, 2) := dk_58 4 (dk_at dksX2_added_3 20 rfl rfl)
theorem dX2_added_88 : decode cX2_added 88 = .ok (.goto (-83), 3) := dk_167 255 173 (dk_at dksX2_added_4 0 rfl rfl)
theorem dX2_added_91 : decode cX2_added 91 = .ok (.iload_n 3, 1) := dk_29 (dk_at dksX2_added_4 3 rfl rfl)
theorem dX2_added_92 : decode cX2_added 92 = .ok (.ireturn, 1) := dk_172 (dk_at dksX2_added_4 4 rfl rfl)
theorem q34 : (Jvm.Cond.initialized "CostStudio$Scenario") ∈ lw_all := lw_g (lw_at lw_m1 5 rfl) rfl
theorem q104 : (Jvm.Cond.instantiable "CostStudio$Scenario" (2 : Nat)) ∈ lw_all := lw_g (lw_at lw_m1 75 rfl) rfl
theorem q106 : (Jvm.Cond.instanceMethod ({ cls := "CostStudio$Scenario", name := "<init>", desc := "(LCostStudio$Scenario;)V" } : Jvm.MethodName)) ∈ lw_all := lw_g (lw_at lw_m1 77 rfl) rfl
theorem q107 : (Jvm.Cond.code ({ cls := "CostStudio$Scenario", name := "<init>", desc := "(LCostStudio$Scenario;)V" } : Jvm.MethodName) prog_7_method_1_code (2 : Nat) (Option.none : Option Jvm.ClassFile.FieldType)) ∈ lw_all := lw_g (lw_at lw_m1 78 rfl) rfl
theorem q108 : (Jvm.Cond.methodLink "CostStudio$Scenario" (1 : Nat) ({ cls := "java/lang/Object", name := "<init>", desc := "()V" } : Jvm.MethodName)) ∈ lw_all := lw_g (lw_at lw_m1 79 rfl) rfl
theorem q109 : (Jvm.Cond.classLink "CostStudio$Scenario" (7 : Nat) "java/util/ArrayList") ∈ lw_all := lw_g (lw_at lw_m1 80 rfl) rfl
theorem q110 : (Jvm.Cond.methodLink "CostStudio$Scenario" (9 : Nat) ({ cls := "java/util/ArrayList", name := "<init>", desc := "()V" } : Jvm.MethodName)) ∈ lw_all := lw_g (lw_at lw_m1 81 rfl) rfl
theorem q111 : (Jvm.Cond.fieldLink "CostStudio$Scenario" (16 : Nat) "CostStudio$Scenario" "parent" "LCostStudio$Scenario;") ∈ lw_all := lw_g (lw_at lw_m1 82 rfl) rfl
theorem q113 : (Jvm.Cond.fieldLink "CostStudio$Scenario" (10 : Nat) "CostStudio$Scenario" "differences" "Ljava/util/List;") ∈ lw_all := lw_g (lw_at lw_m1 84 rfl) rfl
theorem q115 : (Jvm.Cond.laysFinal "CostStudio$Scenario" "CostStudio$Scenario" "parent" "LCostStudio$Scenario;") ∈ lw_all := lw_g (lw_at lw_m1 86 rfl) rfl
theorem q116 : (Jvm.Cond.soleField "CostStudio$Scenario" "parent") ∈ lw_all := lw_g (lw_at lw_m1 87 rfl) rfl
theorem q117 : (Jvm.Cond.laysFinal "CostStudio$Scenario" "CostStudio$Scenario" "differences" "Ljava/util/List;") ∈ lw_all := lw_g (lw_at lw_m1 88 rfl) rfl
theorem q118 : (Jvm.Cond.soleField "CostStudio$Scenario" "differences") ∈ lw_all := lw_g (lw_at lw_m1 89 rfl) rfl
theorem q119 : (Jvm.Cond.superclass "CostStudio$Scenario" "java/lang/Object") ∈ lw_all := lw_g (lw_at lw_m1 90 rfl) rfl
theorem q162 : (Jvm.Cond.selects "CostStudio$Scenario" ({ cls := "java/lang/Object", name := "getClass", desc := "()Ljava/lang/Class;" } : Jvm.MethodName) ({ cls := "java/lang/Object", name := "getClass", desc := "()Ljava/lang/Class;" } : Jvm.MethodName)) ∈ lw_all := lw_g (lw_at lw_m1 133 rfl) rfl
theorem q537 : (Jvm.Cond.instanceMethod ({ cls := "CostStudio$Scenario", name := "added", desc := "(II)I" } : Jvm.MethodName)) ∈ lw_all := lw_g (lw_at lw_m3 28 rfl) rfl
theorem q538 : (Jvm.Cond.selects "CostStudio$Scenario" ({ cls := "CostStudio$Scenario", name := "added", desc := "(II)I" } : Jvm.MethodName) ({ cls := "CostStudio$Scenario", name := "added", desc := "(II)I" } : Jvm.MethodName)) ∈ lw_all := lw_g (lw_at lw_m3 29 rfl) rfl
theorem q539 : (Jvm.Cond.code ({ cls := "CostStudio$Scenario", name := "added", desc := "(II)I" } : Jvm.MethodName) prog_7_method_2_code (7 : Nat) (Option.some Jvm.ClassFile.FieldType.int)) ∈ lw_all := lw_g (lw_at lw_m3 30 rfl) rfl
theorem q540 : (Jvm.Cond.interfaceEntry "CostStudio$Scenario" (20 : Nat)) ∈ lw_tbl := lw_at lw_m3 31 rfl
theorem q541 : (Jvm.Cond.methodLink "CostStudio$Scenario" (20 : Nat) ({ cls := "java/util/List", name := "size", desc := "()I" } : Jvm.MethodName)) ∈ lw_all := lw_g (lw_at lw_m3 32 rfl) rfl
theorem q542 : (Jvm.Cond.interfaceEntry "CostStudio$Scenario" (26 : Nat)) ∈ lw_tbl := lw_at lw_m3 33 rfl
theorem q543 : (Jvm.Cond.methodLink "CostStudio$Scenario" (26 : Nat) ({ cls := "java/util/List", name := "get", desc := "(I)Ljava/lang/Object;" } : Jvm.MethodName)) ∈ lw_all := lw_g (lw_at lw_m3 34 rfl) rfl
theorem q544 : (Jvm.Cond.classLink "CostStudio$Scenario" (30 : Nat) "CostStudio$Difference") ∈ lw_all := lw_g (lw_at lw_m3 35 rfl) rfl
theorem q792 : (Jvm.Cond.fieldLinkNest "CostStudio$Scenario" (32 : Nat) "CostStudio$Difference" "driver" "I" "CostStudio") ∈ lw_tbl := lw_at lw_m4 43 rfl
theorem q794 : (Jvm.Cond.fieldLinkNest "CostStudio$Scenario" (36 : Nat) "CostStudio$Difference" "from" "I" "CostStudio") ∈ lw_tbl := lw_at lw_m4 45 rfl
theorem q796 : (Jvm.Cond.fieldLinkNest "CostStudio$Scenario" (39 : Nat) "CostStudio$Difference" "number" "I" "CostStudio") ∈ lw_tbl := lw_at lw_m4 47 rfl
theorem q1212 : (Jvm.Cond.castable "CostStudio$Scenario" "java/lang/Object") ∈ lw_tbl := lw_at lw_m5 223 rfl
theorem in_X2 : ∀ w ∈ wsX20, w ∈ lw_all := lw_in wsX20 [115, 117] (by decide +kernel) (by decide +kernel)
/-! CostStudioModel -/
set_option maxRecDepth 100000
def RX3 : String := "CostStudioModel"
def TX3 : u_T := fun k => match k with
  | 0 => ("CostStudioModel", "values", "[I", true)
  | 1 => ("CostStudioModel", "kindsOf", "[I", true)
  | 2 => ("CostStudioModel", "ones", "[I", true)
  | 3 => ("CostStudioModel", "others", "[I", true)
  | 4 => ("CostStudioModel", "parents", "[I", true)
  | 5 => ("CostStudioModel", "scenarioOf", "[I", true)
  | 6 => ("CostStudioModel", "driverOf", "[I", true)
  | 7 => ("CostStudioModel", "fromOf", "[I", true)
  | 8 => ("CostStudioModel", "numberOf", "[I", true)
  | 9 => ("CostStudioModel", "actuals", "[I", true)
  | 10 => ("CostStudioModel", "kept", "[I", true)
  | 11 => ("CostStudioModel", "tolerances", "[I", true)
  | 12 => ("CostStudioModel", "hasActual", "[Z", true)
  | 13 => ("CostStudioModel", "isFound", "[Z", true)
  | 14 => ("CostStudioModel", "approvals", "[C", true)
  | 15 => ("CostStudioModel", "found", "[J", true)
  | 16 => ("CostStudioModel", "thrown", "I", false)
  | 17 => ("CostStudioModel", "drivers", "I", false)
  | 18 => ("CostStudioModel", "lines", "I", false)
  | 19 => ("CostStudioModel", "scenarios", "I", false)
  | 20 => ("CostStudioModel", "differences", "I", false)
  | _ => ("CostStudioModel", "month", "I", false)
def tyX3 : Nat → FieldType := fun k => match k with
  | 0 => .array .int
  | 1 => .array .int
  | 2 => .array .int
  | 3 => .array .int
  | 4 => .array .int
  | 5 => .array .int
  | 6 => .array .int
  | 7 => .array .int
  | 8 => .array .int
  | 9 => .array .int
  | 10 => .array .int
  | 11 => .array .int
  | 12 => .array .boolean
  | 13 => .array .boolean
  | 14 => .array .char
  | 15 => .array .long
  | 16 => .int
  | 17 => .int
  | 18 => .int
  | 19 => .int
  | 20 => .int
  | _ => .int
abbrev wsX30 : List Cond := u_ws RX3 TX3 22
set_option maxRecDepth 100000 in
theorem nmX3 : ∀ a, a < 22 → ∀ b, b < 22 → a ≠ b → (TX3 a).2.1 ≠ (TX3 b).2.1 := by decide +kernel
set_option maxRecDepth 100000 in
theorem tyX3_ok : ∀ k, k < 22 → parseFieldDescriptor (TX3 k).2.2.1 = some (tyX3 k) := by decide +kernel
abbrev cX3_init : ByteArray := prog_12_method_1_code
def yX3_init : MethodName := ⟨RX3, "<init>", "()V"⟩
def dkwX3_init_8 : List UInt8 := [177]
abbrev dktX3_init_8 : List UInt8 := dkwX3_init_8 ++ []
def dkwX3_init_7 : List UInt8 := [2, 79, 3, 60, 27, 16, 120, 162, 0, 17, 42, 180, 0, 53, 27, 16, 45, 85, 132, 1, 1, 167, 255, 239]
abbrev dktX3_init_7 : List UInt8 := dkwX3_init_7 ++ dktX3_init_8
def dkwX3_init_6 : List UInt8 := [3, 181, 0, 68, 42, 4, 181, 0, 71, 42, 3, 181, 0, 74, 42, 3, 181, 0, 77, 42, 180, 0, 22, 3]
abbrev dktX3_init_6 : List UInt8 := dkwX3_init_6 ++ dktX3_init_7
def dkwX3_init_5 : List UInt8 := [188, 5, 181, 0, 53, 42, 16, 10, 188, 11, 181, 0, 57, 42, 3, 181, 0, 61, 42, 3, 181, 0, 65, 42]
abbrev dktX3_init_5 : List UInt8 := dkwX3_init_5 ++ dktX3_init_6
def dkwX3_init_4 : List UInt8 := [188, 10, 181, 0, 43, 42, 16, 120, 188, 4, 181, 0, 46, 42, 16, 10, 188, 4, 181, 0, 50, 42, 16, 120]
abbrev dktX3_init_4 : List UInt8 := dkwX3_init_4 ++ dktX3_init_5
def dkwX3_init_3 : List UInt8 := [188, 10, 181, 0, 34, 42, 16, 120, 188, 10, 181, 0, 37, 42, 16, 120, 188, 10, 181, 0, 40, 42, 16, 120]
abbrev dktX3_init_3 : List UInt8 := dkwX3_init_3 ++ dktX3_init_4
def dkwX3_init_2 : List UInt8 := [188, 10, 181, 0, 25, 42, 16, 12, 188, 10, 181, 0, 28, 42, 16, 12, 188, 10, 181, 0, 31, 42, 16, 12]
abbrev dktX3_init_2 : List UInt8 := dkwX3_init_2 ++ dktX3_init_3
def dkwX3_init_1 : List UInt8 := [188, 10, 181, 0, 16, 42, 16, 10, 188, 10, 181, 0, 19, 42, 7, 188, 10, 181, 0, 22, 42, 16, 12]
abbrev dktX3_init_1 : List UInt8 := dkwX3_init_1 ++ dktX3_init_2
def dkwX3_init_0 : List UInt8 := [42, 183, 0, 1, 42, 16, 6, 188, 10, 181, 0, 7, 42, 16, 10, 188, 10, 181, 0, 13, 42, 16, 10]
abbrev dktX3_init_0 : List UInt8 := dkwX3_init_0 ++ dktX3_init_1
theorem dksX3_init_0 : cX3_init.data.toList.drop 0 = dktX3_init_0 := by decide +kernel
theorem dksX3_init_1 : cX3_init.data.toList.drop 23 = dktX3_init_1 := dk_seg dksX3_init_0 23 rfl rfl
theorem dksX3_init_2 : cX3_init.data.toList.drop 46 = dktX3_init_2 := dk_seg dksX3_init_1 23 rfl rfl
theorem dksX3_init_3 : cX3_init.data.toList.drop 70 = dktX3_init_3 := dk_seg dksX3_init_2 24 rfl rfl
theorem dksX3_init_4 : cX3_init.data.toList.drop 94 = dktX3_init_4 := dk_seg dksX3_init_3 24 rfl rfl
theorem dksX3_init_5 : cX3_init.data.toList.drop 118 = dktX3_init_5 := dk_seg dksX3_init_4 24 rfl rfl
theorem dksX3_init_6 : cX3_init.data.toList.drop 142 = dktX3_init_6 := dk_seg dksX3_init_5 24 rfl rfl
theorem dksX3_init_7 : cX3_init.data.toList.drop 166 = dktX3_init_7 := dk_seg dksX3_init_6 24 rfl rfl
theorem dksX3_init_8 : cX3_init.data.toList.drop 190 = dktX3_init_8 := dk_seg dksX3_init_7 24 rfl rfl
theorem dX3_init_0 : decode cX3_init 0 = .ok (.aload_n 0, 1) := dk_42 (dk_at dksX3_init_0 0 rfl rfl)
theorem dX3_init_1 : decode cX3_init 1 = .ok (.invokespecial 1, 3) := dk_183 0 1 (dk_at dksX3_init_0 1 rfl rfl)
theorem dX3_init_4 : decode cX3_init 4 = .ok (.aload_n 0, 1) := dk_42 (dk_at dksX3_init_0 4 rfl rfl)
theorem dX3_init_5 : decode cX3_init 5 = .ok (.bipush 6, 2) := dk_16 6 (dk_at dksX3_init_0 5 rfl rfl)
theorem dX3_init_7 : decode cX3_init 7 = .ok (.newarray .int, 2) := dk_188_10 (dk_at dksX3_init_0 7 rfl rfl)
theorem dX3_init_9 : decode cX3_init 9 = .ok (.putfield 7, 3) := dk_181 0 7 (dk_at dksX3_init_0 9 rfl rfl)
theorem dX3_init_12 : decode cX3_init 12 = .ok (.aload_n 0, 1) := dk_42 (dk_at dksX3_init_0 12 rfl rfl)
theorem dX3_init_13 : decode cX3_init 13 = .ok (.bipush 10, 2) := dk_16 10 (dk_at dksX3_init_0 13 rfl rfl)
theorem dX3_init_15 : decode cX3_init 15 = .ok (.newarray .int, 2) := dk_188_10 (dk_at dksX3_init_0 15 rfl rfl)
theorem dX3_init_17 : decode cX3_init 17 = .ok (.putfield 13, 3) := dk_181 0 13 (dk_at dksX3_init_0 17 rfl rfl)
theorem dX3_init_20 : decode cX3_init 20 = .ok (.aload_n 0, 1) := dk_42 (dk_at dksX3_init_0 20 rfl rfl)
theorem dX3_init_21 : decode cX3_init 21 = .ok (.bipush 10, 2) := dk_16 10 (dk_at dksX3_init_0 21 rfl rfl)
theorem dX3_init_23 : decode cX3_init 23 = .ok (.newarray .int, 2) := dk_188_10 (dk_at dksX3_init_1 0 rfl rfl)
theorem dX3_init_25 : decode cX3_init 25 = .ok (.putfield 16, 3) := dk_181 0 16 (dk_at dksX3_init_1 2 rfl rfl)
theorem dX3_init_28 : decode cX3_init 28 = .ok (.aload_n 0, 1) := dk_42 (dk_at dksX3_init_1 5 rfl rfl)
theorem dX3_init_29 : decode cX3_init 29 = .ok (.bipush 10, 2) := dk_16 10 (dk_at dksX3_init_1 6 rfl rfl)
theorem dX3_init_31 : decode cX3_init 31 = .ok (.newarray .int, 2) := dk_188_10 (dk_at dksX3_init_1 8 rfl rfl)
theorem dX3_init_33 : decode cX3_init 33 = .ok (.putfield 19, 3) := dk_181 0 19 (dk_at dksX3_init_1 10 rfl rfl)
theorem dX3_init_36 : decode cX3_init 36 = .ok (.aload_n 0, 1) := dk_42 (dk_at dksX3_init_1 13 rfl rfl)
theorem dX3_init_37 : decode cX3_init 37 = .ok (.iconst 4, 1) := dk_7 (dk_at dksX3_init_1 14 rfl rfl)
theorem dX3_init_38 : decode cX3_init 38 = .ok (.newarray .int, 2) := dk_188_10 (dk_at dksX3_init_1 15 rfl rfl)
theorem dX3_init_40 : decode cX3_init 40 = .ok (.putfield 22, 3) := dk_181 0 22 (dk_at dksX3_init_1 17 rfl rfl)
theorem dX3_init_43 : decode cX3_init 43 = .ok (.aload_n 0, 1) := dk_42 (dk_at dksX3_init_1 20 rfl rfl)
theorem dX3_init_44 : decode cX3_init 44 = .ok (.bipush 12, 2) := dk_16 12 (dk_at dksX3_init_1 21 rfl rfl)
theorem dX3_init_46 : decode cX3_init 46 = .ok (.newarray .int, 2) := dk_188_10 (dk_at dksX3_init_2 0 rfl rfl)
theorem dX3_init_48 : decode cX3_init 48 = .ok (.putfield 25, 3) := dk_181 0 25 (dk_at dksX3_init_2 2 rfl rfl)
theorem dX3_init_51 : decode cX3_init 51 = .ok (.aload_n 0, 1) := dk_42 (dk_at dksX3_init_2 5 rfl rfl)
theorem dX3_init_52 : decode cX3_init 52 = .ok (.bipush 12, 2) := dk_16 12 (dk_at dksX3_init_2 6 rfl rfl)
theorem dX3_init_54 : decode cX3_init 54 = .ok (.newarray .int, 2) := dk_188_10 (dk_at dksX3_init_2 8 rfl rfl)
theorem dX3_init_56 : decode cX3_init 56 = .ok (.putfield 28, 3) := dk_181 0 28 (dk_at dksX3_init_2 10 rfl rfl)
theorem dX3_init_59 : decode cX3_init 59 = .ok (.aload_n 0, 1) := dk_42 (dk_at dksX3_init_2 13 rfl rfl)
theorem dX3_init_60 : decode cX3_init 60 = .ok (.bipush 12, 2) := dk_16 12 (dk_at dksX3_init_2 14 rfl rfl)
theorem dX3_init_62 : decode cX3_init 62 = .ok (.newarray .int, 2) := dk_188_10 (dk_at dksX3_init_2 16 rfl rfl)
theorem dX3_init_64 : decode cX3_init 64 = .ok (.putfield 31, 3) := dk_181 0 31 (dk_at dksX3_init_2 18 rfl rfl)
theorem dX3_init_67 : decode cX3_init 67 = .ok (.aload_n 0, 1) := dk_42 (dk_at dksX3_init_2 21 rfl rfl)
theorem dX3_init_68 : decode cX3_init 68 = .ok (.bipush 12, 2) := dk_16 12 (dk_at dksX3_init_2 22 rfl rfl)
theorem dX3_init_70 : decode cX3_init 70 = .ok (.newarray .int, 2) := dk_188_10 (dk_at dksX3_init_3 0 rfl rfl)
theorem dX3_init_72 : decode cX3_init 72 = .ok (.putfield 34, 3) := dk_181 0 34 (dk_at dksX3_init_3 2 rfl rfl)
theorem dX3_init_75 : decode cX3_init 75 = .ok (.aload_n 0, 1) := dk_42 (dk_at dksX3_init_3 5 rfl rfl)
theorem dX3_init_76 : decode cX3_init 76 = .ok (.bipush 120, 2) := dk_16 120 (dk_at dksX3_init_3 6 rfl rfl)
theorem dX3_init_78 : decode cX3_init 78 = .ok (.newarray .int, 2) := dk_188_10 (dk_at dksX3_init_3 8 rfl rfl)
theorem dX3_init_80 : decode cX3_init 80 = .ok (.putfield 37, 3) := dk_181 0 37 (dk_at dksX3_init_3 10 rfl rfl)
theorem dX3_init_83 : decode cX3_init 83 = .ok (.aload_n 0, 1) := dk_42 (dk_at dksX3_init_3 13 rfl rfl)
theorem dX3_init_84 : decode cX3_init 84 = .ok (.bipush 120, 2) := dk_16 120 (dk_at dksX3_init_3 14 rfl rfl)
theorem dX3_init_86 : decode cX3_init 86 = .ok (.newarray .int, 2) := dk_188_10 (dk_at dksX3_init_3 16 rfl rfl)
theorem dX3_init_88 : decode cX3_init 88 = .ok (.putfield 40, 3) := dk_181 0 40 (dk_at dksX3_init_3 18 rfl rfl)
theorem dX3_init_91 : decode cX3_init 91 = .ok (.aload_n 0, 1) := dk_42 (dk_at dksX3_init_3 21 rfl rfl)
theorem dX3_init_92 : decode cX3_init 92 = .ok (.bipush 120, 2) := dk_16 120 (dk_at dksX3_init_3 22 rfl rfl)
theorem dX3_init_94 : decode cX3_init 94 = .ok (.newarray .int, 2) := dk_188_10 (dk_at dksX3_init_4 0 rfl rfl)
theorem dX3_init_96 : decode cX3_init 96 = .ok (.putfield 43, 3) := dk_181 0 43 (dk_at dksX3_init_4 2 rfl rfl)
theorem dX3_init_99 : decode cX3_init 99 = .ok (.aload_n 0, 1) := dk_42 (dk_at dksX3_init_4 5 rfl rfl)
theorem dX3_init_100 : decode cX3_init 100 = .ok (.bipush 120, 2) := dk_16 120 (dk_at dksX3_init_4 6 rfl rfl)
theorem dX3_init_102 : decode cX3_init 102 = .ok (.newarray .boolean, 2) := dk_188_4 (dk_at dksX3_init_4 8 rfl rfl)
theorem dX3_init_104 : decode cX3_init 104 = .ok (.putfield 46, 3) := dk_181 0 46 (dk_at dksX3_init_4 10 rfl rfl)
theorem dX3_init_107 : decode cX3_init 107 = .ok (.aload_n 0, 1) := dk_42 (dk_at dksX3_init_4 13 rfl rfl)
theorem dX3_init_108 : decode cX3_init 108 = .ok (.bipush 10, 2) := dk_16 10 (dk_at dksX3_init_4 14 rfl rfl)
theorem dX3_init_110 : decode cX3_init 110 = .ok (.newarray .boolean, 2) := dk_188_4 (dk_at dksX3_init_4 16 rfl rfl)
theorem dX3_init_112 : decode cX3_init 112 = .ok (.putfield 50, 3) := dk_181 0 50 (dk_at dksX3_init_4 18 rfl rfl)
theorem dX3_init_115 : decode cX3_init 115 = .ok (.aload_n 0, 1) := dk_42 (dk_at dksX3_init_4 21 rfl rfl)
theorem dX3_init_116 : decode cX3_init 116 = .ok (.bipush 120, 2) := dk_16 120 (dk_at dksX3_init_4 22 rfl rfl)
theorem dX3_init_118 : decode cX3_init 118 = .ok (.newarray .char, 2) := dk_188_5 (dk_at dksX3_init_5 0 rfl rfl)
theorem dX3_init_120 : decode cX3_init 120 = .ok (.putfield 53, 3) := dk_181 0 53 (dk_at dksX3_init_5 2 rfl rfl)
theorem dX3_init_123 : decode cX3_init 123 = .ok (.aload_n 0, 1) := dk_42 (dk_at dksX3_init_5 5 rfl rfl)
theorem dX3_init_124 : decode cX3_init 124 = .ok (.bipush 10, 2) := dk_16 10 (dk_at dksX3_init_5 6 rfl rfl)
theorem dX3_init_126 : decode cX3_init 126 = .ok (.newarray .long, 2) := dk_188_11 (dk_at dksX3_init_5 8 rfl rfl)
theorem dX3_init_128 : decode cX3_init 128 = .ok (.putfield 57, 3) := dk_181 0 57 (dk_at dksX3_init_5 10 rfl rfl)
theorem dX3_init_131 : decode cX3_init 131 = .ok (.aload_n 0, 1) := dk_42 (dk_at dksX3_init_5 13 rfl rfl)
theorem dX3_init_132 : decode cX3_init 132 = .ok (.iconst 0, 1) := dk_3 (dk_at dksX3_init_5 14 rfl rfl)
theorem dX3_init_133 : decode cX3_init 133 = .ok (.putfield 61, 3) := dk_181 0 61 (dk_at dksX3_init_5 15 rfl rfl)
theorem dX3_init_136 : decode cX3_init 136 = .ok (.aload_n 0, 1) := dk_42 (dk_at dksX3_init_5 18 rfl rfl)
theorem dX3_init_137 : decode cX3_init 137 = .ok (.iconst 0, 1) := dk_3 (dk_at dksX3_init_5 19 rfl rfl)
theorem dX3_init_138 : decode cX3_init 138 = .ok (.putfield 65, 3) := dk_181 0 65 (dk_at dksX3_init_5 20 rfl rfl)
theorem dX3_init_141 : decode cX3_init 141 = .ok (.aload_n 0, 1) := dk_42 (dk_at dksX3_init_5 23 rfl rfl)
theorem dX3_init_142 : decode cX3_init 142 = .ok (.iconst 0, 1) := dk_3 (dk_at dksX3_init_6 0 rfl rfl)
theorem dX3_init_143 : decode cX3_init 143 = .ok (.putfield 68, 3) := dk_181 0 68 (dk_at dksX3_init_6 1 rfl rfl)
theorem dX3_init_146 : decode cX3_init 146 = .ok (.aload_n 0, 1) := dk_42 (dk_at dksX3_init_6 4 rfl rfl)
theorem dX3_init_147 : decode cX3_init 147 = .ok (.iconst 1, 1) := dk_4 (dk_at dksX3_init_6 5 rfl rfl)
theorem dX3_init_148 : decode cX3_init 148 = .ok (.putfield 71, 3) := dk_181 0 71 (dk_at dksX3_init_6 6 rfl rfl)
theorem dX3_init_151 : decode cX3_init 151 = .ok (.aload_n 0, 1) := dk_42 (dk_at dksX3_init_6 9 rfl rfl)
theorem dX3_init_152 : decode cX3_init 152 = .ok (.iconst 0, 1) := dk_3 (dk_at dksX3_init_6 10 rfl rfl)
theorem dX3_init_153 : decode cX3_init 153 = .ok (.putfield 74, 3) := dk_181 0 74 (dk_at dksX3_init_6 11 rfl rfl)
theorem dX3_init_156 : decode cX3_init 156 = .ok (.aload_n 0, 1) := dk_42 (dk_at dksX3_init_6 14 rfl rfl)
theorem dX3_init_157 : decode cX3_init 157 = .ok (.iconst 0, 1) := dk_3 (dk_at dksX3_init_6 15 rfl rfl)
theorem dX3_init_158 : decode cX3_init 158 = .ok (.putfield 77, 3) := dk_181 0 77 (dk_at dksX3_init_6 16 rfl rfl)
theorem dX3_init_161 : decode cX3_init 161 = .ok (.aload_n 0, 1) := dk_42 (dk_at dksX3_init_6 19 rfl rfl)
theorem dX3_init_162 : decode cX3_init 162 = .ok (.getfield 22, 3) := dk_180 0 22 (dk_at dksX3_init_6 20 rfl rfl)
theorem dX3_init_165 : decode cX3_init 165 = .ok (.iconst 0, 1) := dk_3 (dk_at dksX3_init_6 23 rfl rfl)
theorem dX3_init_166 : decode cX3_init 166 = .ok (.iconst (-1), 1) := dk_2 (dk_at dksX3_init_7 0 rfl rfl)
theorem dX3_init_167 : decode cX3_init 167 = .ok (.iastore, 1) := dk_79 (dk_at dksX3_init_7 1 rfl rfl)
theorem dX3_init_168 : decode cX3_init 168 = .ok (.iconst 0, 1) := dk_3 (dk_at dksX3_init_7 2 rfl rfl)
theorem dX3_init_169 : decode cX3_init 169 = .ok (.istore_n 1, 1) := dk_60 (dk_at dksX3_init_7 3 rfl rfl)
theorem dX3_init_170 : decode cX3_init 170 = .ok (.iload_n 1, 1) := dk_27 (dk_at dksX3_init_7 4 rfl rfl)
theorem dX3_init_171 : decode cX3_init 171 = .ok (.bipush 120, 2) := dk_16 120 (dk_at dksX3_init_7 5 rfl rfl)
theorem dX3_init_173 : decode cX3_init 173 = .ok (.if_icmp .ge 17, 3) := dk_162 0 17 (dk_at dksX3_init_7 7 rfl rfl)
theorem dX3_init_176 : decode cX3_init 176 = .ok (.aload_n 0, 1) := dk_42 (dk_at dksX3_init_7 10 rfl rfl)
theorem dX3_init_177 : decode cX3_init 177 = .ok (.getfield 53, 3) := dk_180 0 53 (dk_at dksX3_init_7 11 rfl rfl)
theorem dX3_init_180 : decode cX3_init 180 = .ok (.iload_n 1, 1) := dk_27 (dk_at dksX3_init_7 14 rfl rfl)
theorem dX3_init_181 : decode cX3_init 181 = .ok (.bipush 45, 2) := dk_16 45 (dk_at dksX3_init_7 15 rfl rfl)
theorem dX3_init_183 : decode cX3_init 183 = .ok (.castore, 1) := dk_85 (dk_at dksX3_init_7 17 rfl rfl)
theorem dX3_init_184 : decode cX3_init 184 = .ok (.iinc 1 1, 3) := dk_132 1 1 (dk_at dksX3_init_7 18 rfl rfl)
theorem dX3_init_187 : decode cX3_init 187 = .ok (.goto (-17), 3) := dk_167 255 239 (dk_at dksX3_init_7 21 rfl rfl)
theorem dX3_init_190 : decode cX3_init 190 = .ok (.return_, 1) := dk_177 (dk_at dksX3_init_8 0 rfl rfl)
abbrev cX3_thrown : ByteArray := prog_12_method_2_code
def yX3_thrown : MethodName := ⟨RX3, "thrown", "()I"⟩
theorem dX3_thrown_0 : decode cX3_thrown 0 = .ok (.aload_n 0, 1) := by decide +kernel
theorem dX3_thrown_1 : decode cX3_thrown 1 = .ok (.getfield 61, 3) := by decide +kernel
theorem dX3_thrown_4 : decode cX3_thrown 4 = .ok (.ireturn, 1) := by decide +kernel
abbrev cX3_addDriver : ByteArray := prog_12_method_15_code
def yX3_addDriver : MethodName := ⟨RX3, "addDriver", "(I)I"⟩
def dkwX3_addDriver_2 : List UInt8 := [42, 180, 0, 65, 27, 79, 42, 89, 180, 0, 65, 4, 96, 181, 0, 65, 42, 180, 0, 65, 4, 100, 172]
abbrev dktX3_addDriver_2 : List UInt8 := dkwX3_addDriver_2 ++ []
def dkwX3_addDriver_1 : List UInt8 := [160, 0, 7, 5, 167, 0, 4, 3, 181, 0, 61, 42, 180, 0, 61, 158, 0, 5, 3, 172, 42, 180, 0, 7]
abbrev dktX3_addDriver_1 : List UInt8 := dkwX3_addDriver_1 ++ dktX3_addDriver_2
def dkwX3_addDriver_0 : List UInt8 := [42, 27, 3, 17, 39, 15, 184, 0, 80, 154, 0, 7, 4, 167, 0, 17, 42, 180, 0, 65, 16, 6]
abbrev dktX3_addDriver_0 : List UInt8 := dkwX3_addDriver_0 ++ dktX3_addDriver_1
theorem dksX3_addDriver_0 : cX3_addDriver.data.toList.drop 0 = dktX3_addDriver_0 := by decide +kernel
theorem dksX3_addDriver_1 : cX3_addDriver.data.toList.drop 22 = dktX3_addDriver_1 := dk_seg dksX3_addDriver_0 22 rfl rfl
theorem dksX3_addDriver_2 : cX3_addDriver.data.toList.drop 46 = dktX3_addDriver_2 := dk_seg dksX3_addDriver_1 24 rfl rfl
theorem dX3_addDriver_0 : decode cX3_addDriver 0 = .ok (.aload_n 0, 1) := dk_42 (dk_at dksX3_addDriver_0 0 rfl rfl)
theorem dX3_addDriver_1 : decode cX3_addDriver 1 = .ok (.iload_n 1, 1) := dk_27 (dk_at dksX3_addDriver_0 1 rfl rfl)
theorem dX3_addDriver_2 : decode cX3_addDriver 2 = .ok (.iconst 0, 1) := dk_3 (dk_at dksX3_addDriver_0 2 rfl rfl)
theorem dX3_addDriver_3 : decode cX3_addDriver 3 = .ok (.sipush 9999, 3) := dk_17 39 15 (dk_at dksX3_addDriver_0 3 rfl rfl)
theorem dX3_addDriver_6 : decode cX3_addDriver 6 = .ok (.invokestatic 80, 3) := dk_184 0 80 (dk_at dksX3_addDriver_0 6 rfl rfl)
theorem dX3_addDriver_9 : decode cX3_addDriver 9 = .ok (.ifCond .ne 7, 3) := dk_154 0 7 (dk_at dksX3_addDriver_0 9 rfl rfl)
theorem dX3_addDriver_12 : decode cX3_addDriver 12 = .ok (.iconst 1, 1) := dk_4 (dk_at dksX3_addDriver_0 12 rfl rfl)
theorem dX3_addDriver_13 : decode cX3_addDriver 13 = .ok (.goto 17, 3) := dk_167 0 17 (dk_at dksX3_addDriver_0 13 rfl rfl)
theorem dX3_addDriver_16 : decode cX3_addDriver 16 = .ok (.aload_n 0, 1) := dk_42 (dk_at dksX3_addDriver_0 16 rfl rfl)
theorem dX3_addDriver_17 : decode cX3_addDriver 17 = .ok (.getfield 65, 3) := dk_180 0 65 (dk_at dksX3_addDriver_0 17 rfl rfl)
theorem dX3_addDriver_20 : decode cX3_addDriver 20 = .ok (.bipush 6, 2) := dk_16 6 (dk_at dksX3_addDriver_0 20 rfl rfl)
theorem dX3_addDriver_22 : decode cX3_addDriver 22 = .ok (.if_icmp .ne 7, 3) := dk_160 0 7 (dk_at dksX3_addDriver_1 0 rfl rfl)
theorem dX3_addDriver_25 : decode cX3_addDriver 25 = .ok (.iconst 2, 1) := dk_5 (dk_at dksX3_addDriver_1 3 rfl rfl)
theorem dX3_addDriver_26 : decode cX3_addDriver 26 = .ok (.goto 4, 3) := dk_167 0 4 (dk_at dksX3_addDriver_1 4 rfl rfl)
theorem dX3_addDriver_29 : decode cX3_addDriver 29 = .ok (.iconst 0, 1) := dk_3 (dk_at dksX3_addDriver_1 7 rfl rfl)
theorem dX3_addDriver_30 : decode cX3_addDriver 30 = .ok (.putfield 61, 3) := dk_181 0 61 (dk_at dksX3_addDriver_1 8 rfl rfl)
theorem dX3_addDriver_33 : decode cX3_addDriver 33 = .ok (.aload_n 0, 1) := dk_42 (dk_at dksX3_addDriver_1 11 rfl rfl)
theorem dX3_addDriver_34 : decode cX3_addDriver 34 = .ok (.getfield 61, 3) := dk_180 0 61 (dk_at dksX3_addDriver_1 12 rfl rfl)
theorem dX3_addDriver_37 : decode cX3_addDriver 37 = .ok (.ifCond .le 5, 3) := dk_158 0 5 (dk_at dksX3_addDriver_1 15 rfl rfl)
theorem dX3_addDriver_40 : decode cX3_addDriver 40 = .ok (.iconst 0, 1) := dk_3 (dk_at dksX3_addDriver_1 18 rfl rfl)
theorem dX3_addDriver_41 : decode cX3_addDriver 41 = .ok (.ireturn, 1) := dk_172 (dk_at dksX3_addDriver_1 19 rfl rfl)
theorem dX3_addDriver_42 : decode cX3_addDriver 42 = .ok (.aload_n 0, 1) := dk_42 (dk_at dksX3_addDriver_1 20 rfl rfl)
theorem dX3_addDriver_43 : decode cX3_addDriver 43 = .ok (.getfield 7, 3) := dk_180 0 7 (dk_at dksX3_addDriver_1 21 rfl rfl)
theorem dX3_addDriver_46 : decode cX3_addDriver 46 = .ok (.aload_n 0, 1) := dk_42 (dk_at dksX3_addDriver_2 0 rfl rfl)
theorem dX3_addDriver_47 : decode cX3_addDriver 47 = .ok (.getfield 65, 3) := dk_180 0 65 (dk_at dksX3_addDriver_2 1 rfl rfl)
theorem dX3_addDriver_50 : decode cX3_addDriver 50 = .ok (.iload_n 1, 1) := dk_27 (dk_at dksX3_addDriver_2 4 rfl rfl)
theorem dX3_addDriver_51 : decode cX3_addDriver 51 = .ok (.iastore, 1) := dk_79 (dk_at dksX3_addDriver_2 5 rfl rfl)
theorem dX3_addDriver_52 : decode cX3_addDriver 52 = .ok (.aload_n 0, 1) := dk_42 (dk_at dksX3_addDriver_2 6 rfl rfl)
theorem dX3_addDriver_53 : decode cX3_addDriver 53 = .ok (.dup, 1) := dk_89 (dk_at dksX3_addDriver_2 7 rfl rfl)
theorem dX3_addDriver_54 : decode cX3_addDriver 54 = .ok (.getfield 65, 3) := dk_180 0 65 (dk_at dksX3_addDriver_2 8 rfl rfl)
theorem dX3_addDriver_57 : decode cX3_addDriver 57 = .ok (.iconst 1, 1) := dk_4 (dk_at dksX3_addDriver_2 11 rfl rfl)
theorem dX3_addDriver_58 : decode cX3_addDriver 58 = .ok (.iadd, 1) := dk_96 (dk_at dksX3_addDriver_2 12 rfl rfl)
theorem dX3_addDriver_59 : decode cX3_addDriver 59 = .ok (.putfield 65, 3) := dk_181 0 65 (dk_at dksX3_addDriver_2 13 rfl rfl)
theorem dX3_addDriver_62 : decode cX3_addDriver 62 = .ok (.aload_n 0, 1) := dk_42 (dk_at dksX3_addDriver_2 16 rfl rfl)
theorem dX3_addDriver_63 : decode cX3_addDriver 63 = .ok (.getfield 65, 3) := dk_180 0 65 (dk_at dksX3_addDriver_2 17 rfl rfl)
theorem dX3_addDriver_66 : decode cX3_addDriver 66 = .ok (.iconst 1, 1) := dk_4 (dk_at dksX3_addDriver_2 20 rfl rfl)
theorem dX3_addDriver_67 : decode cX3_addDriver 67 = .ok (.isub, 1) := dk_100 (dk_at dksX3_addDriver_2 21 rfl rfl)
theorem dX3_addDriver_68 : decode cX3_addDriver 68 = .ok (.ireturn, 1) := dk_172 (dk_at dksX3_addDriver_2 22 rfl rfl)
abbrev cX3_in : ByteArray := prog_12_method_3_code
def yX3_in : MethodName := ⟨RX3, "in", "(III)Z"⟩
def dkwX3_in_0 : List UInt8 := [26, 27, 161, 0, 12, 26, 28, 163, 0, 7, 4, 167, 0, 4, 3, 172]
abbrev dktX3_in_0 : List UInt8 := dkwX3_in_0 ++ []
theorem dksX3_in_0 : cX3_in.data.toList.drop 0 = dktX3_in_0 := by decide +kernel
theorem dX3_in_0 : decode cX3_in 0 = .ok (.iload_n 0, 1) := dk_26 (dk_at dksX3_in_0 0 rfl rfl)
theorem dX3_in_1 : decode cX3_in 1 = .ok (.iload_n 1, 1) := dk_27 (dk_at dksX3_in_0 1 rfl rfl)
theorem dX3_in_2 : decode cX3_in 2 = .ok (.if_icmp .lt 12, 3) := dk_161 0 12 (dk_at dksX3_in_0 2 rfl rfl)
theorem dX3_in_5 : decode cX3_in 5 = .ok (.iload_n 0, 1) := dk_26 (dk_at dksX3_in_0 5 rfl rfl)
theorem dX3_in_6 : decode cX3_in 6 = .ok (.iload_n 2, 1) := dk_28 (dk_at dksX3_in_0 6 rfl rfl)
theorem dX3_in_7 : decode cX3_in 7 = .ok (.if_icmp .gt 7, 3) := dk_163 0 7 (dk_at dksX3_in_0 7 rfl rfl)
theorem dX3_in_10 : decode cX3_in 10 = .ok (.iconst 1, 1) := dk_4 (dk_at dksX3_in_0 10 rfl rfl)
theorem dX3_in_11 : decode cX3_in 11 = .ok (.goto 4, 3) := dk_167 0 4 (dk_at dksX3_in_0 11 rfl rfl)
theorem dX3_in_14 : decode cX3_in 14 = .ok (.iconst 0, 1) := dk_3 (dk_at dksX3_in_0 14 rfl rfl)
theorem dX3_in_15 : decode cX3_in 15 = .ok (.ireturn, 1) := dk_172 (dk_at dksX3_in_0 15 rfl rfl)
abbrev cX3_setDriver : ByteArray := prog_12_method_16_code
def yX3_setDriver : MethodName := ⟨RX3, "setDriver", "(II)I"⟩
def dkwX3_setDriver_2 : List UInt8 := [42, 182, 0, 114, 172]
abbrev dktX3_setDriver_2 : List UInt8 := dkwX3_setDriver_2 ++ []
def dkwX3_setDriver_1 : List UInt8 := [5, 167, 0, 4, 3, 181, 0, 61, 42, 180, 0, 61, 158, 0, 5, 3, 172, 42, 180, 0, 7, 27, 28, 79]
abbrev dktX3_setDriver_1 : List UInt8 := dkwX3_setDriver_1 ++ dktX3_setDriver_2
def dkwX3_setDriver_0 : List UInt8 := [42, 42, 27, 182, 0, 110, 154, 0, 7, 4, 167, 0, 19, 28, 3, 17, 39, 15, 184, 0, 80, 154, 0, 7]
abbrev dktX3_setDriver_0 : List UInt8 := dkwX3_setDriver_0 ++ dktX3_setDriver_1
theorem dksX3_setDriver_0 : cX3_setDriver.data.toList.drop 0 = dktX3_setDriver_0 := by decide +kernel
theorem dksX3_setDriver_1 : cX3_setDriver.data.toList.drop 24 = dktX3_setDriver_1 := dk_seg dksX3_setDriver_0 24 rfl rfl
theorem dksX3_setDriver_2 : cX3_setDriver.data.toList.drop 48 = dktX3_setDriver_2 := dk_seg dksX3_setDriver_1 24 rfl rfl
theorem dX3_setDriver_0 : decode cX3_setDriver 0 = .ok (.aload_n 0, 1) := dk_42 (dk_at dksX3_setDriver_0 0 rfl rfl)
theorem dX3_setDriver_1 : decode cX3_setDriver 1 = .ok (.aload_n 0, 1) := dk_42 (dk_at dksX3_setDriver_0 1 rfl rfl)
theorem dX3_setDriver_2 : decode cX3_setDriver 2 = .ok (.iload_n 1, 1) := dk_27 (dk_at dksX3_setDriver_0 2 rfl rfl)
theorem dX3_setDriver_3 : decode cX3_setDriver 3 = .ok (.invokevirtual 110, 3) := dk_182 0 110 (dk_at dksX3_setDriver_0 3 rfl rfl)
theorem dX3_setDriver_6 : decode cX3_setDriver 6 = .ok (.ifCond .ne 7, 3) := dk_154 0 7 (dk_at dksX3_setDriver_0 6 rfl rfl)
theorem dX3_setDriver_9 : decode cX3_setDriver 9 = .ok (.iconst 1, 1) := dk_4 (dk_at dksX3_setDriver_0 9 rfl rfl)
theorem dX3_setDriver_10 : decode cX3_setDriver 10 = .ok (.goto 19, 3) := dk_167 0 19 (dk_at dksX3_setDriver_0 10 rfl rfl)
theorem dX3_setDriver_13 : decode cX3_setDriver 13 = .ok (.iload_n 2, 1) := dk_28 (dk_at dksX3_setDriver_0 13 rfl rfl)
theorem dX3_setDriver_14 : decode cX3_setDriver 14 = .ok (.iconst 0, 1) := dk_3 (dk_at dksX3_setDriver_0 14 rfl rfl)
theorem dX3_setDriver_15 : decode cX3_setDriver 15 = .ok (.sipush 9999, 3) := dk_17 39 15 (dk_at dksX3_setDriver_0 15 rfl rfl)
theorem dX3_setDriver_18 : decode cX3_setDriver 18 = .ok (.invokestatic 80, 3) := dk_184 0 80 (dk_at dksX3_setDriver_0 18 rfl rfl)
theorem dX3_setDriver_21 : decode cX3_setDriver 21 = .ok (.ifCond .ne 7, 3) := dk_154 0 7 (dk_at dksX3_setDriver_0 21 rfl rfl)
theorem dX3_setDriver_24 : decode cX3_setDriver 24 = .ok (.iconst 2, 1) := dk_5 (dk_at dksX3_setDriver_1 0 rfl rfl)
theorem dX3_setDriver_25 : decode cX3_setDriver 25 = .ok (.goto 4, 3) := dk_167 0 4 (dk_at dksX3_setDriver_1 1 rfl rfl)
theorem dX3_setDriver_28 : decode cX3_setDriver 28 = .ok (.iconst 0, 1) := dk_3 (dk_at dksX3_setDriver_1 4 rfl rfl)
theorem dX3_setDriver_29 : decode cX3_setDriver 29 = .ok (.putfield 61, 3) := dk_181 0 61 (dk_at dksX3_setDriver_1 5 rfl rfl)
theorem dX3_setDriver_32 : decode cX3_setDriver 32 = .ok (.aload_n 0, 1) := dk_42 (dk_at dksX3_setDriver_1 8 rfl rfl)
theorem dX3_setDriver_33 : decode cX3_setDriver 33 = .ok (.getfield 61, 3) := dk_180 0 61 (dk_at dksX3_setDriver_1 9 rfl rfl)
theorem dX3_setDriver_36 : decode cX3_setDriver 36 = .ok (.ifCond .le 5, 3) := dk_158 0 5 (dk_at dksX3_setDriver_1 12 rfl rfl)
theorem dX3_setDriver_39 : decode cX3_setDriver 39 = .ok (.iconst 0, 1) := dk_3 (dk_at dksX3_setDriver_1 15 rfl rfl)
theorem dX3_setDriver_40 : decode cX3_setDriver 40 = .ok (.ireturn, 1) := dk_172 (dk_at dksX3_setDriver_1 16 rfl rfl)
theorem dX3_setDriver_41 : decode cX3_setDriver 41 = .ok (.aload_n 0, 1) := dk_42 (dk_at dksX3_setDriver_1 17 rfl rfl)
theorem dX3_setDriver_42 : decode cX3_setDriver 42 = .ok (.getfield 7, 3) := dk_180 0 7 (dk_at dksX3_setDriver_1 18 rfl rfl)
theorem dX3_setDriver_45 : decode cX3_setDriver 45 = .ok (.iload_n 1, 1) := dk_27 (dk_at dksX3_setDriver_1 21 rfl rfl)
theorem dX3_setDriver_46 : decode cX3_setDriver 46 = .ok (.iload_n 2, 1) := dk_28 (dk_at dksX3_setDriver_1 22 rfl rfl)
theorem dX3_setDriver_47 : decode cX3_setDriver 47 = .ok (.iastore, 1) := dk_79 (dk_at dksX3_setDriver_1 23 rfl rfl)
theorem dX3_setDriver_48 : decode cX3_setDriver 48 = .ok (.aload_n 0, 1) := dk_42 (dk_at dksX3_setDriver_2 0 rfl rfl)
theorem dX3_setDriver_49 : decode cX3_setDriver 49 = .ok (.invokevirtual 114, 3) := dk_182 0 114 (dk_at dksX3_setDriver_2 1 rfl rfl)
theorem dX3_setDriver_52 : decode cX3_setDriver 52 = .ok (.ireturn, 1) := dk_172 (dk_at dksX3_setDriver_2 4 rfl rfl)
abbrev cX3_isDriver : ByteArray := prog_12_method_5_code
def yX3_isDriver : MethodName := ⟨RX3, "isDriver", "(I)Z"⟩
def dkwX3_isDriver_0 : List UInt8 := [27, 3, 42, 180, 0, 65, 4, 100, 184, 0, 80, 172]
abbrev dktX3_isDriver_0 : List UInt8 := dkwX3_isDriver_0 ++ []
theorem dksX3_isDriver_0 : cX3_isDriver.data.toList.drop 0 = dktX3_isDriver_0 := by decide +kernel
theorem dX3_isDriver_0 : decode cX3_isDriver 0 = .ok (.iload_n 1, 1) := dk_27 (dk_at dksX3_isDriver_0 0 rfl rfl)
theorem dX3_isDriver_1 : decode cX3_isDriver 1 = .ok (.iconst 0, 1) := dk_3 (dk_at dksX3_isDriver_0 1 rfl rfl)
theorem dX3_isDriver_2 : decode cX3_isDriver 2 = .ok (.aload_n 0, 1) := dk_42 (dk_at dksX3_isDriver_0 2 rfl rfl)
theorem dX3_isDriver_3 : decode cX3_isDriver 3 = .ok (.getfield 65, 3) := dk_180 0 65 (dk_at dksX3_isDriver_0 3 rfl rfl)
theorem dX3_isDriver_6 : decode cX3_isDriver 6 = .ok (.iconst 1, 1) := dk_4 (dk_at dksX3_isDriver_0 6 rfl rfl)
theorem dX3_isDriver_7 : decode cX3_isDriver 7 = .ok (.isub, 1) := dk_100 (dk_at dksX3_isDriver_0 7 rfl rfl)
theorem dX3_isDriver_8 : decode cX3_isDriver 8 = .ok (.invokestatic 80, 3) := dk_184 0 80 (dk_at dksX3_isDriver_0 8 rfl rfl)
theorem dX3_isDriver_11 : decode cX3_isDriver 11 = .ok (.ireturn, 1) := dk_172 (dk_at dksX3_isDriver_0 11 rfl rfl)
abbrev cX3_looks : ByteArray := prog_12_method_14_code
def yX3_looks : MethodName := ⟨RX3, "looks", "()I"⟩
def dkwX3_looks_5 : List UInt8 := [184, 0, 94, 16, 111, 85, 132, 1, 1, 132, 3, 1, 167, 255, 140, 132, 2, 1, 167, 255, 124, 27, 172]
abbrev dktX3_looks_5 : List UInt8 := dkwX3_looks_5 ++ []
def dkwX3_looks_4 : List UInt8 := [180, 0, 43, 28, 29, 184, 0, 94, 46, 133, 148, 157, 0, 6, 167, 0, 18, 42, 180, 0, 53, 28, 29]
abbrev dktX3_looks_4 : List UInt8 := dkwX3_looks_4 ++ dktX3_looks_5
def dkwX3_looks_3 : List UInt8 := [153, 0, 41, 22, 5, 42, 180, 0, 43, 28, 29, 184, 0, 94, 46, 133, 148, 157, 0, 24, 22, 5, 117, 42]
abbrev dktX3_looks_3 : List UInt8 := dkwX3_looks_3 ++ dktX3_looks_4
def dkwX3_looks_2 : List UInt8 := [54, 4, 42, 180, 0, 57, 28, 47, 42, 180, 0, 40, 28, 29, 184, 0, 94, 46, 133, 101, 55, 5, 21, 4]
abbrev dktX3_looks_2 : List UInt8 := dkwX3_looks_2 ++ dktX3_looks_3
def dkwX3_looks_1 : List UInt8 := [28, 29, 184, 0, 94, 52, 16, 97, 159, 0, 6, 167, 0, 92, 42, 3, 28, 29, 16, 6, 182, 0, 106]
abbrev dktX3_looks_1 : List UInt8 := dkwX3_looks_1 ++ dktX3_looks_2
def dkwX3_looks_0 : List UInt8 := [3, 60, 3, 61, 28, 42, 180, 0, 68, 162, 0, 130, 3, 62, 29, 16, 12, 162, 0, 116, 42, 180, 0, 53]
abbrev dktX3_looks_0 : List UInt8 := dkwX3_looks_0 ++ dktX3_looks_1
theorem dksX3_looks_0 : cX3_looks.data.toList.drop 0 = dktX3_looks_0 := by decide +kernel
theorem dksX3_looks_1 : cX3_looks.data.toList.drop 24 = dktX3_looks_1 := dk_seg dksX3_looks_0 24 rfl rfl
theorem dksX3_looks_2 : cX3_looks.data.toList.drop 47 = dktX3_looks_2 := dk_seg dksX3_looks_1 23 rfl rfl
theorem dksX3_looks_3 : cX3_looks.data.toList.drop 71 = dktX3_looks_3 := dk_seg dksX3_looks_2 24 rfl rfl
theorem dksX3_looks_4 : cX3_looks.data.toList.drop 95 = dktX3_looks_4 := dk_seg dksX3_looks_3 24 rfl rfl
theorem dksX3_looks_5 : cX3_looks.data.toList.drop 118 = dktX3_looks_5 := dk_seg dksX3_looks_4 23 rfl rfl
theorem dX3_looks_0 : decode cX3_looks 0 = .ok (.iconst 0, 1) := dk_3 (dk_at dksX3_looks_0 0 rfl rfl)
theorem dX3_looks_1 : decode cX3_looks 1 = .ok (.istore_n 1, 1) := dk_60 (dk_at dksX3_looks_0 1 rfl rfl)
theorem dX3_looks_2 : decode cX3_looks 2 = .ok (.iconst 0, 1) := dk_3 (dk_at dksX3_looks_0 2 rfl rfl)
theorem dX3_looks_3 : decode cX3_looks 3 = .ok (.istore_n 2, 1) := dk_61 (dk_at dksX3_looks_0 3 rfl rfl)
theorem dX3_looks_4 : decode cX3_looks 4 = .ok (.iload_n 2, 1) := dk_28 (dk_at dksX3_looks_0 4 rfl rfl)
theorem dX3_looks_5 : decode cX3_looks 5 = .ok (.aload_n 0, 1) := dk_42 (dk_at dksX3_looks_0 5 rfl rfl)
theorem dX3_looks_6 : decode cX3_looks 6 = .ok (.getfield 68, 3) := dk_180 0 68 (dk_at dksX3_looks_0 6 rfl rfl)
theorem dX3_looks_9 : decode cX3_looks 9 = .ok (.if_icmp .ge 130, 3) := dk_162 0 130 (dk_at dksX3_looks_0 9 rfl rfl)
theorem dX3_looks_12 : decode cX3_looks 12 = .ok (.iconst 0, 1) := dk_3 (dk_at dksX3_looks_0 12 rfl rfl)
theorem dX3_looks_13 : decode cX3_looks 13 = .ok (.istore_n 3, 1) := dk_62 (dk_at dksX3_looks_0 13 rfl rfl)
theorem dX3_looks_14 : decode cX3_looks 14 = .ok (.iload_n 3, 1) := dk_29 (dk_at dksX3_looks_0 14 rfl rfl)
theorem dX3_looks_15 : decode cX3_looks 15 = .ok (.bipush 12, 2) := dk_16 12 (dk_at dksX3_looks_0 15 rfl rfl)
theorem dX3_looks_17 : decode cX3_looks 17 = .ok (.if_icmp .ge 116, 3) := dk_162 0 116 (dk_at dksX3_looks_0 17 rfl rfl)
theorem dX3_looks_20 : decode cX3_looks 20 = .ok (.aload_n 0, 1) := dk_42 (dk_at dksX3_looks_0 20 rfl rfl)
theorem dX3_looks_21 : decode cX3_looks 21 = .ok (.getfield 53, 3) := dk_180 0 53 (dk_at dksX3_looks_0 21 rfl rfl)
theorem dX3_looks_24 : decode cX3_looks 24 = .ok (.iload_n 2, 1) := dk_28 (dk_at dksX3_looks_1 0 rfl rfl)
theorem dX3_looks_25 : decode cX3_looks 25 = .ok (.iload_n 3, 1) := dk_29 (dk_at dksX3_looks_1 1 rfl rfl)
theorem dX3_looks_26 : decode cX3_looks 26 = .ok (.invokestatic 94, 3) := dk_184 0 94 (dk_at dksX3_looks_1 2 rfl rfl)
theorem dX3_looks_29 : decode cX3_looks 29 = .ok (.caload, 1) := dk_52 (dk_at dksX3_looks_1 5 rfl rfl)
theorem dX3_looks_30 : decode cX3_looks 30 = .ok (.bipush 97, 2) := dk_16 97 (dk_at dksX3_looks_1 6 rfl rfl)
theorem dX3_looks_32 : decode cX3_looks 32 = .ok (.if_icmp .eq 6, 3) := dk_159 0 6 (dk_at dksX3_looks_1 8 rfl rfl)
theorem dX3_looks_35 : decode cX3_looks 35 = .ok (.goto 92, 3) := dk_167 0 92 (dk_at dksX3_looks_1 11 rfl rfl)
theorem dX3_looks_38 : decode cX3_looks 38 = .ok (.aload_n 0, 1) := dk_42 (dk_at dksX3_looks_1 14 rfl rfl)
theorem dX3_looks_39 : decode cX3_looks 39 = .ok (.iconst 0, 1) := dk_3 (dk_at dksX3_looks_1 15 rfl rfl)
theorem dX3_looks_40 : decode cX3_looks 40 = .ok (.iload_n 2, 1) := dk_28 (dk_at dksX3_looks_1 16 rfl rfl)
theorem dX3_looks_41 : decode cX3_looks 41 = .ok (.iload_n 3, 1) := dk_29 (dk_at dksX3_looks_1 17 rfl rfl)
theorem dX3_looks_42 : decode cX3_looks 42 = .ok (.bipush 6, 2) := dk_16 6 (dk_at dksX3_looks_1 18 rfl rfl)
theorem dX3_looks_44 : decode cX3_looks 44 = .ok (.invokevirtual 106, 3) := dk_182 0 106 (dk_at dksX3_looks_1 20 rfl rfl)
theorem dX3_looks_47 : decode cX3_looks 47 = .ok (.istore 4, 2) := dk_54 4 (dk_at dksX3_looks_2 0 rfl rfl)
theorem dX3_looks_49 : decode cX3_looks 49 = .ok (.aload_n 0, 1) := dk_42 (dk_at dksX3_looks_2 2 rfl rfl)
theorem dX3_looks_50 : decode cX3_looks 50 = .ok (.getfield 57, 3) := dk_180 0 57 (dk_at dksX3_looks_2 3 rfl rfl)
theorem dX3_looks_53 : decode cX3_looks 53 = .ok (.iload_n 2, 1) := dk_28 (dk_at dksX3_looks_2 6 rfl rfl)
theorem dX3_looks_54 : decode cX3_looks 54 = .ok (.laload, 1) := dk_47 (dk_at dksX3_looks_2 7 rfl rfl)
theorem dX3_looks_55 : decode cX3_looks 55 = .ok (.aload_n 0, 1) := dk_42 (dk_at dksX3_looks_2 8 rfl rfl)
theorem dX3_looks_56 : decode cX3_looks 56 = .ok (.getfield 40, 3) := dk_180 0 40 (dk_at dksX3_looks_2 9 rfl rfl)
theorem dX3_looks_59 : decode cX3_looks 59 = .ok (.iload_n 2, 1) := dk_28 (dk_at dksX3_looks_2 12 rfl rfl)
theorem dX3_looks_60 : decode cX3_looks 60 = .ok (.iload_n 3, 1) := dk_29 (dk_at dksX3_looks_2 13 rfl rfl)
theorem dX3_looks_61 : decode cX3_looks 61 = .ok (.invokestatic 94, 3) := dk_184 0 94 (dk_at dksX3_looks_2 14 rfl rfl)
theorem dX3_looks_64 : decode cX3_looks 64 = .ok (.iaload, 1) := dk_46 (dk_at dksX3_looks_2 17 rfl rfl)
theorem dX3_looks_65 : decode cX3_looks 65 = .ok (.i2l, 1) := dk_133 (dk_at dksX3_looks_2 18 rfl rfl)
theorem dX3_looks_66 : decode cX3_looks 66 = .ok (.lsub, 1) := dk_101 (dk_at dksX3_looks_2 19 rfl rfl)
theorem dX3_looks_67 : decode cX3_looks 67 = .ok (.lstore 5, 2) := dk_55 5 (dk_at dksX3_looks_2 20 rfl rfl)
theorem dX3_looks_69 : decode cX3_looks 69 = .ok (.iload 4, 2) := dk_21 4 (dk_at dksX3_looks_2 22 rfl rfl)
theorem dX3_looks_71 : decode cX3_looks 71 = .ok (.ifCond .eq 41, 3) := dk_153 0 41 (dk_at dksX3_looks_3 0 rfl rfl)
theorem dX3_looks_74 : decode cX3_looks 74 = .ok (.lload 5, 2) := dk_22 5 (dk_at dksX3_looks_3 3 rfl rfl)
theorem dX3_looks_76 : decode cX3_looks 76 = .ok (.aload_n 0, 1) := dk_42 (dk_at dksX3_looks_3 5 rfl rfl)
theorem dX3_looks_77 : decode cX3_looks 77 = .ok (.getfield 43, 3) := dk_180 0 43 (dk_at dksX3_looks_3 6 rfl rfl)
theorem dX3_looks_80 : decode cX3_looks 80 = .ok (.iload_n 2, 1) := dk_28 (dk_at dksX3_looks_3 9 rfl rfl)
theorem dX3_looks_81 : decode cX3_looks 81 = .ok (.iload_n 3, 1) := dk_29 (dk_at dksX3_looks_3 10 rfl rfl)
theorem dX3_looks_82 : decode cX3_looks 82 = .ok (.invokestatic 94, 3) := dk_184 0 94 (dk_at dksX3_looks_3 11 rfl rfl)
theorem dX3_looks_85 : decode cX3_looks 85 = .ok (.iaload, 1) := dk_46 (dk_at dksX3_looks_3 14 rfl rfl)
theorem dX3_looks_86 : decode cX3_looks 86 = .ok (.i2l, 1) := dk_133 (dk_at dksX3_looks_3 15 rfl rfl)
theorem dX3_looks_87 : decode cX3_looks 87 = .ok (.lcmp, 1) := dk_148 (dk_at dksX3_looks_3 16 rfl rfl)
theorem dX3_looks_88 : decode cX3_looks 88 = .ok (.ifCond .gt 24, 3) := dk_157 0 24 (dk_at dksX3_looks_3 17 rfl rfl)
theorem dX3_looks_91 : decode cX3_looks 91 = .ok (.lload 5, 2) := dk_22 5 (dk_at dksX3_looks_3 20 rfl rfl)
theorem dX3_looks_93 : decode cX3_looks 93 = .ok (.lneg, 1) := dk_117 (dk_at dksX3_looks_3 22 rfl rfl)
theorem dX3_looks_94 : decode cX3_looks 94 = .ok (.aload_n 0, 1) := dk_42 (dk_at dksX3_looks_3 23 rfl rfl)
theorem dX3_looks_95 : decode cX3_looks 95 = .ok (.getfield 43, 3) := dk_180 0 43 (dk_at dksX3_looks_4 0 rfl rfl)
theorem dX3_looks_98 : decode cX3_looks 98 = .ok (.iload_n 2, 1) := dk_28 (dk_at dksX3_looks_4 3 rfl rfl)
theorem dX3_looks_99 : decode cX3_looks 99 = .ok (.iload_n 3, 1) := dk_29 (dk_at dksX3_looks_4 4 rfl rfl)
theorem dX3_looks_100 : decode cX3_looks 100 = .ok (.invokestatic 94, 3) := dk_184 0 94 (dk_at dksX3_looks_4 5 rfl rfl)
theorem dX3_looks_103 : decode cX3_looks 103 = .ok (.iaload, 1) := dk_46 (dk_at dksX3_looks_4 8 rfl rfl)
theorem dX3_looks_104 : decode cX3_looks 104 = .ok (.i2l, 1) := dk_133 (dk_at dksX3_looks_4 9 rfl rfl)
theorem dX3_looks_105 : decode cX3_looks 105 = .ok (.lcmp, 1) := dk_148 (dk_at dksX3_looks_4 10 rfl rfl)
theorem dX3_looks_106 : decode cX3_looks 106 = .ok (.ifCond .gt 6, 3) := dk_157 0 6 (dk_at dksX3_looks_4 11 rfl rfl)
theorem dX3_looks_109 : decode cX3_looks 109 = .ok (.goto 18, 3) := dk_167 0 18 (dk_at dksX3_looks_4 14 rfl rfl)
theorem dX3_looks_112 : decode cX3_looks 112 = .ok (.aload_n 0, 1) := dk_42 (dk_at dksX3_looks_4 17 rfl rfl)
theorem dX3_looks_113 : decode cX3_looks 113 = .ok (.getfield 53, 3) := dk_180 0 53 (dk_at dksX3_looks_4 18 rfl rfl)
theorem dX3_looks_116 : decode cX3_looks 116 = .ok (.iload_n 2, 1) := dk_28 (dk_at dksX3_looks_4 21 rfl rfl)
theorem dX3_looks_117 : decode cX3_looks 117 = .ok (.iload_n 3, 1) := dk_29 (dk_at dksX3_looks_4 22 rfl rfl)
theorem dX3_looks_118 : decode cX3_looks 118 = .ok (.invokestatic 94, 3) := dk_184 0 94 (dk_at dksX3_looks_5 0 rfl rfl)
theorem dX3_looks_121 : decode cX3_looks 121 = .ok (.bipush 111, 2) := dk_16 111 (dk_at dksX3_looks_5 3 rfl rfl)
theorem dX3_looks_123 : decode cX3_looks 123 = .ok (.castore, 1) := dk_85 (dk_at dksX3_looks_5 5 rfl rfl)
theorem dX3_looks_124 : decode cX3_looks 124 = .ok (.iinc 1 1, 3) := dk_132 1 1 (dk_at dksX3_looks_5 6 rfl rfl)
theorem dX3_looks_127 : decode cX3_looks 127 = .ok (.iinc 3 1, 3) := dk_132 3 1 (dk_at dksX3_looks_5 9 rfl rfl)
theorem dX3_looks_130 : decode cX3_looks 130 = .ok (.goto (-116), 3) := dk_167 255 140 (dk_at dksX3_looks_5 12 rfl rfl)
theorem dX3_looks_133 : decode cX3_looks 133 = .ok (.iinc 2 1, 3) := dk_132 2 1 (dk_at dksX3_looks_5 15 rfl rfl)
theorem dX3_looks_136 : decode cX3_looks 136 = .ok (.goto (-132), 3) := dk_167 255 124 (dk_at dksX3_looks_5 18 rfl rfl)
theorem dX3_looks_139 : decode cX3_looks 139 = .ok (.iload_n 1, 1) := dk_27 (dk_at dksX3_looks_5 21 rfl rfl)
theorem dX3_looks_140 : decode cX3_looks 140 = .ok (.ireturn, 1) := dk_172 (dk_at dksX3_looks_5 22 rfl rfl)
abbrev cX3_at : ByteArray := prog_12_method_9_code
def yX3_at : MethodName := ⟨RX3, "at", "(II)I"⟩
def dkwX3_at_0 : List UInt8 := [16, 12, 26, 104, 27, 96, 172]
abbrev dktX3_at_0 : List UInt8 := dkwX3_at_0 ++ []
theorem dksX3_at_0 : cX3_at.data.toList.drop 0 = dktX3_at_0 := by decide +kernel
theorem dX3_at_0 : decode cX3_at 0 = .ok (.bipush 12, 2) := dk_16 12 (dk_at dksX3_at_0 0 rfl rfl)
theorem dX3_at_2 : decode cX3_at 2 = .ok (.iload_n 0, 1) := dk_26 (dk_at dksX3_at_0 2 rfl rfl)
theorem dX3_at_3 : decode cX3_at 3 = .ok (.imul, 1) := dk_104 (dk_at dksX3_at_0 3 rfl rfl)
theorem dX3_at_4 : decode cX3_at 4 = .ok (.iload_n 1, 1) := dk_27 (dk_at dksX3_at_0 4 rfl rfl)
theorem dX3_at_5 : decode cX3_at 5 = .ok (.iadd, 1) := dk_96 (dk_at dksX3_at_0 5 rfl rfl)
theorem dX3_at_6 : decode cX3_at 6 = .ok (.ireturn, 1) := dk_172 (dk_at dksX3_at_0 6 rfl rfl)
abbrev cX3_finds : ByteArray := prog_12_method_13_code
def yX3_finds : MethodName := ⟨RX3, "finds", "(IIII)Z"⟩
def dkwX3_finds_7 : List UInt8 := [167, 0, 4, 3, 84, 132, 5, 1, 167, 255, 89, 42, 180, 0, 50, 28, 51, 172]
abbrev dktX3_finds_7 : List UInt8 := dkwX3_finds_7 ++ []
def dkwX3_finds_6 : List UInt8 := [20, 0, 102, 148, 155, 0, 21, 42, 180, 0, 57, 21, 5, 47, 20, 0, 104, 148, 157, 0, 7, 4]
abbrev dktX3_finds_6 : List UInt8 := dkwX3_finds_6 ++ dktX3_finds_7
def dkwX3_finds_5 : List UInt8 := [167, 0, 4, 9, 80, 42, 180, 0, 50, 21, 5, 21, 7, 153, 0, 35, 42, 180, 0, 57, 21, 5, 47]
abbrev dktX3_finds_5 : List UInt8 := dkwX3_finds_5 ++ dktX3_finds_6
def dkwX3_finds_4 : List UInt8 := [184, 0, 94, 46, 133, 167, 0, 22, 21, 7, 153, 0, 16, 42, 21, 5, 27, 29, 21, 4, 182, 0, 98]
abbrev dktX3_finds_4 : List UInt8 := dkwX3_finds_4 ++ dktX3_finds_5
def dkwX3_finds_3 : List UInt8 := [167, 0, 4, 3, 54, 7, 42, 180, 0, 57, 21, 5, 21, 6, 153, 0, 18, 42, 180, 0, 37, 21, 5, 29]
abbrev dktX3_finds_3 : List UInt8 := dkwX3_finds_3 ++ dktX3_finds_4
def dkwX3_finds_2 : List UInt8 := [21, 5, 46, 51, 153, 0, 22, 42, 180, 0, 50, 42, 180, 0, 19, 21, 5, 46, 51, 153, 0, 7, 4]
abbrev dktX3_finds_2 : List UInt8 := dkwX3_finds_2 ++ dktX3_finds_3
def dkwX3_finds_1 : List UInt8 := [154, 0, 45, 42, 180, 0, 13, 21, 5, 46, 16, 100, 159, 0, 33, 42, 180, 0, 50, 42, 180, 0, 16]
abbrev dktX3_finds_1 : List UInt8 := dkwX3_finds_1 ++ dktX3_finds_2
def dkwX3_finds_0 : List UInt8 := [3, 54, 5, 21, 5, 28, 163, 0, 167, 42, 180, 0, 46, 21, 5, 29, 184, 0, 94, 51, 54, 6, 21, 6]
abbrev dktX3_finds_0 : List UInt8 := dkwX3_finds_0 ++ dktX3_finds_1
theorem dksX3_finds_0 : cX3_finds.data.toList.drop 0 = dktX3_finds_0 := by decide +kernel
theorem dksX3_finds_1 : cX3_finds.data.toList.drop 24 = dktX3_finds_1 := dk_seg dksX3_finds_0 24 rfl rfl
theorem dksX3_finds_2 : cX3_finds.data.toList.drop 47 = dktX3_finds_2 := dk_seg dksX3_finds_1 23 rfl rfl
theorem dksX3_finds_3 : cX3_finds.data.toList.drop 70 = dktX3_finds_3 := dk_seg dksX3_finds_2 23 rfl rfl
theorem dksX3_finds_4 : cX3_finds.data.toList.drop 94 = dktX3_finds_4 := dk_seg dksX3_finds_3 24 rfl rfl
theorem dksX3_finds_5 : cX3_finds.data.toList.drop 117 = dktX3_finds_5 := dk_seg dksX3_finds_4 23 rfl rfl
theorem dksX3_finds_6 : cX3_finds.data.toList.drop 140 = dktX3_finds_6 := dk_seg dksX3_finds_5 23 rfl rfl
theorem dksX3_finds_7 : cX3_finds.data.toList.drop 162 = dktX3_finds_7 := dk_seg dksX3_finds_6 22 rfl rfl
theorem dX3_finds_0 : decode cX3_finds 0 = .ok (.iconst 0, 1) := dk_3 (dk_at dksX3_finds_0 0 rfl rfl)
theorem dX3_finds_1 : decode cX3_finds 1 = .ok (.istore 5, 2) := dk_54 5 (dk_at dksX3_finds_0 1 rfl rfl)
theorem dX3_finds_3 : decode cX3_finds 3 = .ok (.iload 5, 2) := dk_21 5 (dk_at dksX3_finds_0 3 rfl rfl)
theorem dX3_finds_5 : decode cX3_finds 5 = .ok (.iload_n 2, 1) := dk_28 (dk_at dksX3_finds_0 5 rfl rfl)
theorem dX3_finds_6 : decode cX3_finds 6 = .ok (.if_icmp .gt 167, 3) := dk_163 0 167 (dk_at dksX3_finds_0 6 rfl rfl)
theorem dX3_finds_9 : decode cX3_finds 9 = .ok (.aload_n 0, 1) := dk_42 (dk_at dksX3_finds_0 9 rfl rfl)
theorem dX3_finds_10 : decode cX3_finds 10 = .ok (.getfield 46, 3) := dk_180 0 46 (dk_at dksX3_finds_0 10 rfl rfl)
theorem dX3_finds_13 : decode cX3_finds 13 = .ok (.iload 5, 2) := dk_21 5 (dk_at dksX3_finds_0 13 rfl rfl)
theorem dX3_finds_15 : decode cX3_finds 15 = .ok (.iload_n 3, 1) := dk_29 (dk_at dksX3_finds_0 15 rfl rfl)
theorem dX3_finds_16 : decode cX3_finds 16 = .ok (.invokestatic 94, 3) := dk_184 0 94 (dk_at dksX3_finds_0 16 rfl rfl)
theorem dX3_finds_19 : decode cX3_finds 19 = .ok (.baload, 1) := dk_51 (dk_at dksX3_finds_0 19 rfl rfl)
theorem dX3_finds_20 : decode cX3_finds 20 = .ok (.istore 6, 2) := dk_54 6 (dk_at dksX3_finds_0 20 rfl rfl)
theorem dX3_finds_22 : decode cX3_finds 22 = .ok (.iload 6, 2) := dk_21 6 (dk_at dksX3_finds_0 22 rfl rfl)
theorem dX3_finds_24 : decode cX3_finds 24 = .ok (.ifCond .ne 45, 3) := dk_154 0 45 (dk_at dksX3_finds_1 0 rfl rfl)
theorem dX3_finds_27 : decode cX3_finds 27 = .ok (.aload_n 0, 1) := dk_42 (dk_at dksX3_finds_1 3 rfl rfl)
theorem dX3_finds_28 : decode cX3_finds 28 = .ok (.getfield 13, 3) := dk_180 0 13 (dk_at dksX3_finds_1 4 rfl rfl)
theorem dX3_finds_31 : decode cX3_finds 31 = .ok (.iload 5, 2) := dk_21 5 (dk_at dksX3_finds_1 7 rfl rfl)
theorem dX3_finds_33 : decode cX3_finds 33 = .ok (.iaload, 1) := dk_46 (dk_at dksX3_finds_1 9 rfl rfl)
theorem dX3_finds_34 : decode cX3_finds 34 = .ok (.bipush 100, 2) := dk_16 100 (dk_at dksX3_finds_1 10 rfl rfl)
theorem dX3_finds_36 : decode cX3_finds 36 = .ok (.if_icmp .eq 33, 3) := dk_159 0 33 (dk_at dksX3_finds_1 12 rfl rfl)
theorem dX3_finds_39 : decode cX3_finds 39 = .ok (.aload_n 0, 1) := dk_42 (dk_at dksX3_finds_1 15 rfl rfl)
theorem dX3_finds_40 : decode cX3_finds 40 = .ok (.getfield 50, 3) := dk_180 0 50 (dk_at dksX3_finds_1 16 rfl rfl)
theorem dX3_finds_43 : decode cX3_finds 43 = .ok (.aload_n 0, 1) := dk_42 (dk_at dksX3_finds_1 19 rfl rfl)
theorem dX3_finds_44 : decode cX3_finds 44 = .ok (.getfield 16, 3) := dk_180 0 16 (dk_at dksX3_finds_1 20 rfl rfl)
theorem dX3_finds_47 : decode cX3_finds 47 = .ok (.iload 5, 2) := dk_21 5 (dk_at dksX3_finds_2 0 rfl rfl)
theorem dX3_finds_49 : decode cX3_finds 49 = .ok (.iaload, 1) := dk_46 (dk_at dksX3_finds_2 2 rfl rfl)
theorem dX3_finds_50 : decode cX3_finds 50 = .ok (.baload, 1) := dk_51 (dk_at dksX3_finds_2 3 rfl rfl)
theorem dX3_finds_51 : decode cX3_finds 51 = .ok (.ifCond .eq 22, 3) := dk_153 0 22 (dk_at dksX3_finds_2 4 rfl rfl)
theorem dX3_finds_54 : decode cX3_finds 54 = .ok (.aload_n 0, 1) := dk_42 (dk_at dksX3_finds_2 7 rfl rfl)
theorem dX3_finds_55 : decode cX3_finds 55 = .ok (.getfield 50, 3) := dk_180 0 50 (dk_at dksX3_finds_2 8 rfl rfl)
theorem dX3_finds_58 : decode cX3_finds 58 = .ok (.aload_n 0, 1) := dk_42 (dk_at dksX3_finds_2 11 rfl rfl)
theorem dX3_finds_59 : decode cX3_finds 59 = .ok (.getfield 19, 3) := dk_180 0 19 (dk_at dksX3_finds_2 12 rfl rfl)
theorem dX3_finds_62 : decode cX3_finds 62 = .ok (.iload 5, 2) := dk_21 5 (dk_at dksX3_finds_2 15 rfl rfl)
theorem dX3_finds_64 : decode cX3_finds 64 = .ok (.iaload, 1) := dk_46 (dk_at dksX3_finds_2 17 rfl rfl)
theorem dX3_finds_65 : decode cX3_finds 65 = .ok (.baload, 1) := dk_51 (dk_at dksX3_finds_2 18 rfl rfl)
theorem dX3_finds_66 : decode cX3_finds 66 = .ok (.ifCond .eq 7, 3) := dk_153 0 7 (dk_at dksX3_finds_2 19 rfl rfl)
theorem dX3_finds_69 : decode cX3_finds 69 = .ok (.iconst 1, 1) := dk_4 (dk_at dksX3_finds_2 22 rfl rfl)
theorem dX3_finds_70 : decode cX3_finds 70 = .ok (.goto 4, 3) := dk_167 0 4 (dk_at dksX3_finds_3 0 rfl rfl)
theorem dX3_finds_73 : decode cX3_finds 73 = .ok (.iconst 0, 1) := dk_3 (dk_at dksX3_finds_3 3 rfl rfl)
theorem dX3_finds_74 : decode cX3_finds 74 = .ok (.istore 7, 2) := dk_54 7 (dk_at dksX3_finds_3 4 rfl rfl)
theorem dX3_finds_76 : decode cX3_finds 76 = .ok (.aload_n 0, 1) := dk_42 (dk_at dksX3_finds_3 6 rfl rfl)
theorem dX3_finds_77 : decode cX3_finds 77 = .ok (.getfield 57, 3) := dk_180 0 57 (dk_at dksX3_finds_3 7 rfl rfl)
theorem dX3_finds_80 : decode cX3_finds 80 = .ok (.iload 5, 2) := dk_21 5 (dk_at dksX3_finds_3 10 rfl rfl)
theorem dX3_finds_82 : decode cX3_finds 82 = .ok (.iload 6, 2) := dk_21 6 (dk_at dksX3_finds_3 12 rfl rfl)
theorem dX3_finds_84 : decode cX3_finds 84 = .ok (.ifCond .eq 18, 3) := dk_153 0 18 (dk_at dksX3_finds_3 14 rfl rfl)
theorem dX3_finds_87 : decode cX3_finds 87 = .ok (.aload_n 0, 1) := dk_42 (dk_at dksX3_finds_3 17 rfl rfl)
theorem dX3_finds_88 : decode cX3_finds 88 = .ok (.getfield 37, 3) := dk_180 0 37 (dk_at dksX3_finds_3 18 rfl rfl)
theorem dX3_finds_91 : decode cX3_finds 91 = .ok (.iload 5, 2) := dk_21 5 (dk_at dksX3_finds_3 21 rfl rfl)
theorem dX3_finds_93 : decode cX3_finds 93 = .ok (.iload_n 3, 1) := dk_29 (dk_at dksX3_finds_3 23 rfl rfl)
theorem dX3_finds_94 : decode cX3_finds 94 = .ok (.invokestatic 94, 3) := dk_184 0 94 (dk_at dksX3_finds_4 0 rfl rfl)
theorem dX3_finds_97 : decode cX3_finds 97 = .ok (.iaload, 1) := dk_46 (dk_at dksX3_finds_4 3 rfl rfl)
theorem dX3_finds_98 : decode cX3_finds 98 = .ok (.i2l, 1) := dk_133 (dk_at dksX3_finds_4 4 rfl rfl)
theorem dX3_finds_99 : decode cX3_finds 99 = .ok (.goto 22, 3) := dk_167 0 22 (dk_at dksX3_finds_4 5 rfl rfl)
theorem dX3_finds_102 : decode cX3_finds 102 = .ok (.iload 7, 2) := dk_21 7 (dk_at dksX3_finds_4 8 rfl rfl)
theorem dX3_finds_104 : decode cX3_finds 104 = .ok (.ifCond .eq 16, 3) := dk_153 0 16 (dk_at dksX3_finds_4 10 rfl rfl)
theorem dX3_finds_107 : decode cX3_finds 107 = .ok (.aload_n 0, 1) := dk_42 (dk_at dksX3_finds_4 13 rfl rfl)
theorem dX3_finds_108 : decode cX3_finds 108 = .ok (.iload 5, 2) := dk_21 5 (dk_at dksX3_finds_4 14 rfl rfl)
theorem dX3_finds_110 : decode cX3_finds 110 = .ok (.iload_n 1, 1) := dk_27 (dk_at dksX3_finds_4 16 rfl rfl)
theorem dX3_finds_111 : decode cX3_finds 111 = .ok (.iload_n 3, 1) := dk_29 (dk_at dksX3_finds_4 17 rfl rfl)
theorem dX3_finds_112 : decode cX3_finds 112 = .ok (.iload 4, 2) := dk_21 4 (dk_at dksX3_finds_4 18 rfl rfl)
theorem dX3_finds_114 : decode cX3_finds 114 = .ok (.invokevirtual 98, 3) := dk_182 0 98 (dk_at dksX3_finds_4 20 rfl rfl)
theorem dX3_finds_117 : decode cX3_finds 117 = .ok (.goto 4, 3) := dk_167 0 4 (dk_at dksX3_finds_5 0 rfl rfl)
theorem dX3_finds_120 : decode cX3_finds 120 = .ok (.lconst 0, 1) := dk_9 (dk_at dksX3_finds_5 3 rfl rfl)
theorem dX3_finds_121 : decode cX3_finds 121 = .ok (.lastore, 1) := dk_80 (dk_at dksX3_finds_5 4 rfl rfl)
theorem dX3_finds_122 : decode cX3_finds 122 = .ok (.aload_n 0, 1) := dk_42 (dk_at dksX3_finds_5 5 rfl rfl)
theorem dX3_finds_123 : decode cX3_finds 123 = .ok (.getfield 50, 3) := dk_180 0 50 (dk_at dksX3_finds_5 6 rfl rfl)
theorem dX3_finds_126 : decode cX3_finds 126 = .ok (.iload 5, 2) := dk_21 5 (dk_at dksX3_finds_5 9 rfl rfl)
theorem dX3_finds_128 : decode cX3_finds 128 = .ok (.iload 7, 2) := dk_21 7 (dk_at dksX3_finds_5 11 rfl rfl)
theorem dX3_finds_130 : decode cX3_finds 130 = .ok (.ifCond .eq 35, 3) := dk_153 0 35 (dk_at dksX3_finds_5 13 rfl rfl)
theorem dX3_finds_133 : decode cX3_finds 133 = .ok (.aload_n 0, 1) := dk_42 (dk_at dksX3_finds_5 16 rfl rfl)
theorem dX3_finds_134 : decode cX3_finds 134 = .ok (.getfield 57, 3) := dk_180 0 57 (dk_at dksX3_finds_5 17 rfl rfl)
theorem dX3_finds_137 : decode cX3_finds 137 = .ok (.iload 5, 2) := dk_21 5 (dk_at dksX3_finds_5 20 rfl rfl)
theorem dX3_finds_139 : decode cX3_finds 139 = .ok (.laload, 1) := dk_47 (dk_at dksX3_finds_5 22 rfl rfl)
theorem dX3_finds_140 : decode cX3_finds 140 = .ok (.ldc2_w 102, 3) := dk_20 0 102 (dk_at dksX3_finds_6 0 rfl rfl)
theorem dX3_finds_143 : decode cX3_finds 143 = .ok (.lcmp, 1) := dk_148 (dk_at dksX3_finds_6 3 rfl rfl)
theorem dX3_finds_144 : decode cX3_finds 144 = .ok (.ifCond .lt 21, 3) := dk_155 0 21 (dk_at dksX3_finds_6 4 rfl rfl)
theorem dX3_finds_147 : decode cX3_finds 147 = .ok (.aload_n 0, 1) := dk_42 (dk_at dksX3_finds_6 7 rfl rfl)
theorem dX3_finds_148 : decode cX3_finds 148 = .ok (.getfield 57, 3) := dk_180 0 57 (dk_at dksX3_finds_6 8 rfl rfl)
theorem dX3_finds_151 : decode cX3_finds 151 = .ok (.iload 5, 2) := dk_21 5 (dk_at dksX3_finds_6 11 rfl rfl)
theorem dX3_finds_153 : decode cX3_finds 153 = .ok (.laload, 1) := dk_47 (dk_at dksX3_finds_6 13 rfl rfl)
theorem dX3_finds_154 : decode cX3_finds 154 = .ok (.ldc2_w 104, 3) := dk_20 0 104 (dk_at dksX3_finds_6 14 rfl rfl)
theorem dX3_finds_157 : decode cX3_finds 157 = .ok (.lcmp, 1) := dk_148 (dk_at dksX3_finds_6 17 rfl rfl)
theorem dX3_finds_158 : decode cX3_finds 158 = .ok (.ifCond .gt 7, 3) := dk_157 0 7 (dk_at dksX3_finds_6 18 rfl rfl)
theorem dX3_finds_161 : decode cX3_finds 161 = .ok (.iconst 1, 1) := dk_4 (dk_at dksX3_finds_6 21 rfl rfl)
theorem dX3_finds_162 : decode cX3_finds 162 = .ok (.goto 4, 3) := dk_167 0 4 (dk_at dksX3_finds_7 0 rfl rfl)
theorem dX3_finds_165 : decode cX3_finds 165 = .ok (.iconst 0, 1) := dk_3 (dk_at dksX3_finds_7 3 rfl rfl)
theorem dX3_finds_166 : decode cX3_finds 166 = .ok (.bastore, 1) := dk_84 (dk_at dksX3_finds_7 4 rfl rfl)
theorem dX3_finds_167 : decode cX3_finds 167 = .ok (.iinc 5 1, 3) := dk_132 5 1 (dk_at dksX3_finds_7 5 rfl rfl)
theorem dX3_finds_170 : decode cX3_finds 170 = .ok (.goto (-167), 3) := dk_167 255 89 (dk_at dksX3_finds_7 8 rfl rfl)
theorem dX3_finds_173 : decode cX3_finds 173 = .ok (.aload_n 0, 1) := dk_42 (dk_at dksX3_finds_7 11 rfl rfl)
theorem dX3_finds_174 : decode cX3_finds 174 = .ok (.getfield 50, 3) := dk_180 0 50 (dk_at dksX3_finds_7 12 rfl rfl)
theorem dX3_finds_177 : decode cX3_finds 177 = .ok (.iload_n 2, 1) := dk_28 (dk_at dksX3_finds_7 15 rfl rfl)
theorem dX3_finds_178 : decode cX3_finds 178 = .ok (.baload, 1) := dk_51 (dk_at dksX3_finds_7 16 rfl rfl)
theorem dX3_finds_179 : decode cX3_finds 179 = .ok (.ireturn, 1) := dk_172 (dk_at dksX3_finds_7 17 rfl rfl)
abbrev cX3_byKind : ByteArray := prog_12_method_12_code
def yX3_byKind : MethodName := ⟨RX3, "byKind", "(IIII)J"⟩
def dkwX3_byKind_4 : List UInt8 := [105, 20, 0, 92, 109, 173]
abbrev dktX3_byKind_4 : List UInt8 := dkwX3_byKind_4 ++ []
def dkwX3_byKind_3 : List UInt8 := [173, 42, 180, 0, 13, 27, 46, 16, 109, 160, 0, 11, 22, 5, 22, 7, 101, 167, 0, 12, 22, 5, 22, 7]
abbrev dktX3_byKind_3 : List UInt8 := dkwX3_byKind_3 ++ dktX3_byKind_4
def dkwX3_byKind_2 : List UInt8 := [180, 0, 19, 27, 46, 47, 55, 7, 42, 180, 0, 13, 27, 46, 16, 115, 160, 0, 9, 22, 5, 22, 7, 97]
abbrev dktX3_byKind_2 : List UInt8 := dkwX3_byKind_2 ++ dktX3_byKind_3
def dkwX3_byKind_1 : List UInt8 := [182, 0, 88, 133, 173, 42, 180, 0, 57, 42, 180, 0, 16, 27, 46, 47, 55, 5, 42, 180, 0, 57, 42]
abbrev dktX3_byKind_1 : List UInt8 := dkwX3_byKind_1 ++ dktX3_byKind_2
def dkwX3_byKind_0 : List UInt8 := [42, 180, 0, 13, 27, 46, 16, 100, 160, 0, 19, 42, 28, 42, 180, 0, 16, 27, 46, 29, 21, 4]
abbrev dktX3_byKind_0 : List UInt8 := dkwX3_byKind_0 ++ dktX3_byKind_1
theorem dksX3_byKind_0 : cX3_byKind.data.toList.drop 0 = dktX3_byKind_0 := by decide +kernel
theorem dksX3_byKind_1 : cX3_byKind.data.toList.drop 22 = dktX3_byKind_1 := dk_seg dksX3_byKind_0 22 rfl rfl
theorem dksX3_byKind_2 : cX3_byKind.data.toList.drop 45 = dktX3_byKind_2 := dk_seg dksX3_byKind_1 23 rfl rfl
theorem dksX3_byKind_3 : cX3_byKind.data.toList.drop 69 = dktX3_byKind_3 := dk_seg dksX3_byKind_2 24 rfl rfl
theorem dksX3_byKind_4 : cX3_byKind.data.toList.drop 93 = dktX3_byKind_4 := dk_seg dksX3_byKind_3 24 rfl rfl
theorem dX3_byKind_0 : decode cX3_byKind 0 = .ok (.aload_n 0, 1) := dk_42 (dk_at dksX3_byKind_0 0 rfl rfl)
theorem dX3_byKind_1 : decode cX3_byKind 1 = .ok (.getfield 13, 3) := dk_180 0 13 (dk_at dksX3_byKind_0 1 rfl rfl)
theorem dX3_byKind_4 : decode cX3_byKind 4 = .ok (.iload_n 1, 1) := dk_27 (dk_at dksX3_byKind_0 4 rfl rfl)
theorem dX3_byKind_5 : decode cX3_byKind 5 = .ok (.iaload, 1) := dk_46 (dk_at dksX3_byKind_0 5 rfl rfl)
theorem dX3_byKind_6 : decode cX3_byKind 6 = .ok (.bipush 100, 2) := dk_16 100 (dk_at dksX3_byKind_0 6 rfl rfl)
theorem dX3_byKind_8 : decode cX3_byKind 8 = .ok (.if_icmp .ne 19, 3) := dk_160 0 19 (dk_at dksX3_byKind_0 8 rfl rfl)
theorem dX3_byKind_11 : decode cX3_byKind 11 = .ok (.aload_n 0, 1) := dk_42 (dk_at dksX3_byKind_0 11 rfl rfl)
theorem dX3_byKind_12 : decode cX3_byKind 12 = .ok (.iload_n 2, 1) := dk_28 (dk_at dksX3_byKind_0 12 rfl rfl)
theorem dX3_byKind_13 : decode cX3_byKind 13 = .ok (.aload_n 0, 1) := dk_42 (dk_at dksX3_byKind_0 13 rfl rfl)
theorem dX3_byKind_14 : decode cX3_byKind 14 = .ok (.getfield 16, 3) := dk_180 0 16 (dk_at dksX3_byKind_0 14 rfl rfl)
theorem dX3_byKind_17 : decode cX3_byKind 17 = .ok (.iload_n 1, 1) := dk_27 (dk_at dksX3_byKind_0 17 rfl rfl)
theorem dX3_byKind_18 : decode cX3_byKind 18 = .ok (.iaload, 1) := dk_46 (dk_at dksX3_byKind_0 18 rfl rfl)
theorem dX3_byKind_19 : decode cX3_byKind 19 = .ok (.iload_n 3, 1) := dk_29 (dk_at dksX3_byKind_0 19 rfl rfl)
theorem dX3_byKind_20 : decode cX3_byKind 20 = .ok (.iload 4, 2) := dk_21 4 (dk_at dksX3_byKind_0 20 rfl rfl)
theorem dX3_byKind_22 : decode cX3_byKind 22 = .ok (.invokevirtual 88, 3) := dk_182 0 88 (dk_at dksX3_byKind_1 0 rfl rfl)
theorem dX3_byKind_25 : decode cX3_byKind 25 = .ok (.i2l, 1) := dk_133 (dk_at dksX3_byKind_1 3 rfl rfl)
theorem dX3_byKind_26 : decode cX3_byKind 26 = .ok (.lreturn, 1) := dk_173 (dk_at dksX3_byKind_1 4 rfl rfl)
theorem dX3_byKind_27 : decode cX3_byKind 27 = .ok (.aload_n 0, 1) := dk_42 (dk_at dksX3_byKind_1 5 rfl rfl)
theorem dX3_byKind_28 : decode cX3_byKind 28 = .ok (.getfield 57, 3) := dk_180 0 57 (dk_at dksX3_byKind_1 6 rfl rfl)
theorem dX3_byKind_31 : decode cX3_byKind 31 = .ok (.aload_n 0, 1) := dk_42 (dk_at dksX3_byKind_1 9 rfl rfl)
theorem dX3_byKind_32 : decode cX3_byKind 32 = .ok (.getfield 16, 3) := dk_180 0 16 (dk_at dksX3_byKind_1 10 rfl rfl)
theorem dX3_byKind_35 : decode cX3_byKind 35 = .ok (.iload_n 1, 1) := dk_27 (dk_at dksX3_byKind_1 13 rfl rfl)
theorem dX3_byKind_36 : decode cX3_byKind 36 = .ok (.iaload, 1) := dk_46 (dk_at dksX3_byKind_1 14 rfl rfl)
theorem dX3_byKind_37 : decode cX3_byKind 37 = .ok (.laload, 1) := dk_47 (dk_at dksX3_byKind_1 15 rfl rfl)
theorem dX3_byKind_38 : decode cX3_byKind 38 = .ok (.lstore 5, 2) := dk_55 5 (dk_at dksX3_byKind_1 16 rfl rfl)
theorem dX3_byKind_40 : decode cX3_byKind 40 = .ok (.aload_n 0, 1) := dk_42 (dk_at dksX3_byKind_1 18 rfl rfl)
theorem dX3_byKind_41 : decode cX3_byKind 41 = .ok (.getfield 57, 3) := dk_180 0 57 (dk_at dksX3_byKind_1 19 rfl rfl)
theorem dX3_byKind_44 : decode cX3_byKind 44 = .ok (.aload_n 0, 1) := dk_42 (dk_at dksX3_byKind_1 22 rfl rfl)
theorem dX3_byKind_45 : decode cX3_byKind 45 = .ok (.getfield 19, 3) := dk_180 0 19 (dk_at dksX3_byKind_2 0 rfl rfl)
theorem dX3_byKind_48 : decode cX3_byKind 48 = .ok (.iload_n 1, 1) := dk_27 (dk_at dksX3_byKind_2 3 rfl rfl)
theorem dX3_byKind_49 : decode cX3_byKind 49 = .ok (.iaload, 1) := dk_46 (dk_at dksX3_byKind_2 4 rfl rfl)
theorem dX3_byKind_50 : decode cX3_byKind 50 = .ok (.laload, 1) := dk_47 (dk_at dksX3_byKind_2 5 rfl rfl)
theorem dX3_byKind_51 : decode cX3_byKind 51 = .ok (.lstore 7, 2) := dk_55 7 (dk_at dksX3_byKind_2 6 rfl rfl)
theorem dX3_byKind_53 : decode cX3_byKind 53 = .ok (.aload_n 0, 1) := dk_42 (dk_at dksX3_byKind_2 8 rfl rfl)
theorem dX3_byKind_54 : decode cX3_byKind 54 = .ok (.getfield 13, 3) := dk_180 0 13 (dk_at dksX3_byKind_2 9 rfl rfl)
theorem dX3_byKind_57 : decode cX3_byKind 57 = .ok (.iload_n 1, 1) := dk_27 (dk_at dksX3_byKind_2 12 rfl rfl)
theorem dX3_byKind_58 : decode cX3_byKind 58 = .ok (.iaload, 1) := dk_46 (dk_at dksX3_byKind_2 13 rfl rfl)
theorem dX3_byKind_59 : decode cX3_byKind 59 = .ok (.bipush 115, 2) := dk_16 115 (dk_at dksX3_byKind_2 14 rfl rfl)
theorem dX3_byKind_61 : decode cX3_byKind 61 = .ok (.if_icmp .ne 9, 3) := dk_160 0 9 (dk_at dksX3_byKind_2 16 rfl rfl)
theorem dX3_byKind_64 : decode cX3_byKind 64 = .ok (.lload 5, 2) := dk_22 5 (dk_at dksX3_byKind_2 19 rfl rfl)
theorem dX3_byKind_66 : decode cX3_byKind 66 = .ok (.lload 7, 2) := dk_22 7 (dk_at dksX3_byKind_2 21 rfl rfl)
theorem dX3_byKind_68 : decode cX3_byKind 68 = .ok (.ladd, 1) := dk_97 (dk_at dksX3_byKind_2 23 rfl rfl)
theorem dX3_byKind_69 : decode cX3_byKind 69 = .ok (.lreturn, 1) := dk_173 (dk_at dksX3_byKind_3 0 rfl rfl)
theorem dX3_byKind_70 : decode cX3_byKind 70 = .ok (.aload_n 0, 1) := dk_42 (dk_at dksX3_byKind_3 1 rfl rfl)
theorem dX3_byKind_71 : decode cX3_byKind 71 = .ok (.getfield 13, 3) := dk_180 0 13 (dk_at dksX3_byKind_3 2 rfl rfl)
theorem dX3_byKind_74 : decode cX3_byKind 74 = .ok (.iload_n 1, 1) := dk_27 (dk_at dksX3_byKind_3 5 rfl rfl)
theorem dX3_byKind_75 : decode cX3_byKind 75 = .ok (.iaload, 1) := dk_46 (dk_at dksX3_byKind_3 6 rfl rfl)
theorem dX3_byKind_76 : decode cX3_byKind 76 = .ok (.bipush 109, 2) := dk_16 109 (dk_at dksX3_byKind_3 7 rfl rfl)
theorem dX3_byKind_78 : decode cX3_byKind 78 = .ok (.if_icmp .ne 11, 3) := dk_160 0 11 (dk_at dksX3_byKind_3 9 rfl rfl)
theorem dX3_byKind_81 : decode cX3_byKind 81 = .ok (.lload 5, 2) := dk_22 5 (dk_at dksX3_byKind_3 12 rfl rfl)
theorem dX3_byKind_83 : decode cX3_byKind 83 = .ok (.lload 7, 2) := dk_22 7 (dk_at dksX3_byKind_3 14 rfl rfl)
theorem dX3_byKind_85 : decode cX3_byKind 85 = .ok (.lsub, 1) := dk_101 (dk_at dksX3_byKind_3 16 rfl rfl)
theorem dX3_byKind_86 : decode cX3_byKind 86 = .ok (.goto 12, 3) := dk_167 0 12 (dk_at dksX3_byKind_3 17 rfl rfl)
theorem dX3_byKind_89 : decode cX3_byKind 89 = .ok (.lload 5, 2) := dk_22 5 (dk_at dksX3_byKind_3 20 rfl rfl)
theorem dX3_byKind_91 : decode cX3_byKind 91 = .ok (.lload 7, 2) := dk_22 7 (dk_at dksX3_byKind_3 22 rfl rfl)
theorem dX3_byKind_93 : decode cX3_byKind 93 = .ok (.lmul, 1) := dk_105 (dk_at dksX3_byKind_4 0 rfl rfl)
theorem dX3_byKind_94 : decode cX3_byKind 94 = .ok (.ldc2_w 92, 3) := dk_20 0 92 (dk_at dksX3_byKind_4 1 rfl rfl)
theorem dX3_byKind_97 : decode cX3_byKind 97 = .ok (.ldiv, 1) := dk_109 (dk_at dksX3_byKind_4 4 rfl rfl)
theorem dX3_byKind_98 : decode cX3_byKind 98 = .ok (.lreturn, 1) := dk_173 (dk_at dksX3_byKind_4 5 rfl rfl)
abbrev cX3_valueIn : ByteArray := prog_12_method_11_code
def yX3_valueIn : MethodName := ⟨RX3, "valueIn", "(IIII)I"⟩
def dkwX3_valueIn_3 : List UInt8 := [96, 54, 5, 132, 6, 1, 167, 255, 189, 21, 5, 172]
abbrev dktX3_valueIn_3 : List UInt8 := dkwX3_valueIn_3 ++ []
def dkwX3_valueIn_2 : List UInt8 := [42, 27, 42, 180, 0, 25, 21, 6, 46, 182, 0, 84, 153, 0, 15, 21, 5, 42, 180, 0, 34, 21, 6, 46]
abbrev dktX3_valueIn_2 : List UInt8 := dkwX3_valueIn_2 ++ dktX3_valueIn_3
def dkwX3_valueIn_1 : List UInt8 := [21, 6, 46, 28, 160, 0, 47, 28, 21, 4, 162, 0, 41, 42, 180, 0, 31, 21, 6, 46, 29, 163, 0, 30]
abbrev dktX3_valueIn_1 : List UInt8 := dkwX3_valueIn_1 ++ dktX3_valueIn_2
def dkwX3_valueIn_0 : List UInt8 := [42, 180, 0, 7, 28, 46, 54, 5, 3, 54, 6, 21, 6, 42, 180, 0, 74, 162, 0, 64, 42, 180, 0, 28]
abbrev dktX3_valueIn_0 : List UInt8 := dkwX3_valueIn_0 ++ dktX3_valueIn_1
theorem dksX3_valueIn_0 : cX3_valueIn.data.toList.drop 0 = dktX3_valueIn_0 := by decide +kernel
theorem dksX3_valueIn_1 : cX3_valueIn.data.toList.drop 24 = dktX3_valueIn_1 := dk_seg dksX3_valueIn_0 24 rfl rfl
theorem dksX3_valueIn_2 : cX3_valueIn.data.toList.drop 48 = dktX3_valueIn_2 := dk_seg dksX3_valueIn_1 24 rfl rfl
theorem dksX3_valueIn_3 : cX3_valueIn.data.toList.drop 72 = dktX3_valueIn_3 := dk_seg dksX3_valueIn_2 24 rfl rfl
theorem dX3_valueIn_0 : decode cX3_valueIn 0 = .ok (.aload_n 0, 1) := dk_42 (dk_at dksX3_valueIn_0 0 rfl rfl)
theorem dX3_valueIn_1 : decode cX3_valueIn 1 = .ok (.getfield 7, 3) := dk_180 0 7 (dk_at dksX3_valueIn_0 1 rfl rfl)
theorem dX3_valueIn_4 : decode cX3_valueIn 4 = .ok (.iload_n 2, 1) := dk_28 (dk_at dksX3_valueIn_0 4 rfl rfl)
theorem dX3_valueIn_5 : decode cX3_valueIn 5 = .ok (.iaload, 1) := dk_46 (dk_at dksX3_valueIn_0 5 rfl rfl)
theorem dX3_valueIn_6 : decode cX3_valueIn 6 = .ok (.istore 5, 2) := dk_54 5 (dk_at dksX3_valueIn_0 6 rfl rfl)
theorem dX3_valueIn_8 : decode cX3_valueIn 8 = .ok (.iconst 0, 1) := dk_3 (dk_at dksX3_valueIn_0 8 rfl rfl)
theorem dX3_valueIn_9 : decode cX3_valueIn 9 = .ok (.istore 6, 2) := dk_54 6 (dk_at dksX3_valueIn_0 9 rfl rfl)
theorem dX3_valueIn_11 : decode cX3_valueIn 11 = .ok (.iload 6, 2) := dk_21 6 (dk_at dksX3_valueIn_0 11 rfl rfl)
theorem dX3_valueIn_13 : decode cX3_valueIn 13 = .ok (.aload_n 0, 1) := dk_42 (dk_at dksX3_valueIn_0 13 rfl rfl)
theorem dX3_valueIn_14 : decode cX3_valueIn 14 = .ok (.getfield 74, 3) := dk_180 0 74 (dk_at dksX3_valueIn_0 14 rfl rfl)
theorem dX3_valueIn_17 : decode cX3_valueIn 17 = .ok (.if_icmp .ge 64, 3) := dk_162 0 64 (dk_at dksX3_valueIn_0 17 rfl rfl)
theorem dX3_valueIn_20 : decode cX3_valueIn 20 = .ok (.aload_n 0, 1) := dk_42 (dk_at dksX3_valueIn_0 20 rfl rfl)
theorem dX3_valueIn_21 : decode cX3_valueIn 21 = .ok (.getfield 28, 3) := dk_180 0 28 (dk_at dksX3_valueIn_0 21 rfl rfl)
theorem dX3_valueIn_24 : decode cX3_valueIn 24 = .ok (.iload 6, 2) := dk_21 6 (dk_at dksX3_valueIn_1 0 rfl rfl)
theorem dX3_valueIn_26 : decode cX3_valueIn 26 = .ok (.iaload, 1) := dk_46 (dk_at dksX3_valueIn_1 2 rfl rfl)
theorem dX3_valueIn_27 : decode cX3_valueIn 27 = .ok (.iload_n 2, 1) := dk_28 (dk_at dksX3_valueIn_1 3 rfl rfl)
theorem dX3_valueIn_28 : decode cX3_valueIn 28 = .ok (.if_icmp .ne 47, 3) := dk_160 0 47 (dk_at dksX3_valueIn_1 4 rfl rfl)
theorem dX3_valueIn_31 : decode cX3_valueIn 31 = .ok (.iload_n 2, 1) := dk_28 (dk_at dksX3_valueIn_1 7 rfl rfl)
theorem dX3_valueIn_32 : decode cX3_valueIn 32 = .ok (.iload 4, 2) := dk_21 4 (dk_at dksX3_valueIn_1 8 rfl rfl)
theorem dX3_valueIn_34 : decode cX3_valueIn 34 = .ok (.if_icmp .ge 41, 3) := dk_162 0 41 (dk_at dksX3_valueIn_1 10 rfl rfl)
theorem dX3_valueIn_37 : decode cX3_valueIn 37 = .ok (.aload_n 0, 1) := dk_42 (dk_at dksX3_valueIn_1 13 rfl rfl)
theorem dX3_valueIn_38 : decode cX3_valueIn 38 = .ok (.getfield 31, 3) := dk_180 0 31 (dk_at dksX3_valueIn_1 14 rfl rfl)
theorem dX3_valueIn_41 : decode cX3_valueIn 41 = .ok (.iload 6, 2) := dk_21 6 (dk_at dksX3_valueIn_1 17 rfl rfl)
theorem dX3_valueIn_43 : decode cX3_valueIn 43 = .ok (.iaload, 1) := dk_46 (dk_at dksX3_valueIn_1 19 rfl rfl)
theorem dX3_valueIn_44 : decode cX3_valueIn 44 = .ok (.iload_n 3, 1) := dk_29 (dk_at dksX3_valueIn_1 20 rfl rfl)
theorem dX3_valueIn_45 : decode cX3_valueIn 45 = .ok (.if_icmp .gt 30, 3) := dk_163 0 30 (dk_at dksX3_valueIn_1 21 rfl rfl)
theorem dX3_valueIn_48 : decode cX3_valueIn 48 = .ok (.aload_n 0, 1) := dk_42 (dk_at dksX3_valueIn_2 0 rfl rfl)
theorem dX3_valueIn_49 : decode cX3_valueIn 49 = .ok (.iload_n 1, 1) := dk_27 (dk_at dksX3_valueIn_2 1 rfl rfl)
theorem dX3_valueIn_50 : decode cX3_valueIn 50 = .ok (.aload_n 0, 1) := dk_42 (dk_at dksX3_valueIn_2 2 rfl rfl)
theorem dX3_valueIn_51 : decode cX3_valueIn 51 = .ok (.getfield 25, 3) := dk_180 0 25 (dk_at dksX3_valueIn_2 3 rfl rfl)
theorem dX3_valueIn_54 : decode cX3_valueIn 54 = .ok (.iload 6, 2) := dk_21 6 (dk_at dksX3_valueIn_2 6 rfl rfl)
theorem dX3_valueIn_56 : decode cX3_valueIn 56 = .ok (.iaload, 1) := dk_46 (dk_at dksX3_valueIn_2 8 rfl rfl)
theorem dX3_valueIn_57 : decode cX3_valueIn 57 = .ok (.invokevirtual 84, 3) := dk_182 0 84 (dk_at dksX3_valueIn_2 9 rfl rfl)
theorem dX3_valueIn_60 : decode cX3_valueIn 60 = .ok (.ifCond .eq 15, 3) := dk_153 0 15 (dk_at dksX3_valueIn_2 12 rfl rfl)
theorem dX3_valueIn_63 : decode cX3_valueIn 63 = .ok (.iload 5, 2) := dk_21 5 (dk_at dksX3_valueIn_2 15 rfl rfl)
theorem dX3_valueIn_65 : decode cX3_valueIn 65 = .ok (.aload_n 0, 1) := dk_42 (dk_at dksX3_valueIn_2 17 rfl rfl)
theorem dX3_valueIn_66 : decode cX3_valueIn 66 = .ok (.getfield 34, 3) := dk_180 0 34 (dk_at dksX3_valueIn_2 18 rfl rfl)
theorem dX3_valueIn_69 : decode cX3_valueIn 69 = .ok (.iload 6, 2) := dk_21 6 (dk_at dksX3_valueIn_2 21 rfl rfl)
theorem dX3_valueIn_71 : decode cX3_valueIn 71 = .ok (.iaload, 1) := dk_46 (dk_at dksX3_valueIn_2 23 rfl rfl)
theorem dX3_valueIn_72 : decode cX3_valueIn 72 = .ok (.iadd, 1) := dk_96 (dk_at dksX3_valueIn_3 0 rfl rfl)
theorem dX3_valueIn_73 : decode cX3_valueIn 73 = .ok (.istore 5, 2) := dk_54 5 (dk_at dksX3_valueIn_3 1 rfl rfl)
theorem dX3_valueIn_75 : decode cX3_valueIn 75 = .ok (.iinc 6 1, 3) := dk_132 6 1 (dk_at dksX3_valueIn_3 3 rfl rfl)
theorem dX3_valueIn_78 : decode cX3_valueIn 78 = .ok (.goto (-67), 3) := dk_167 255 189 (dk_at dksX3_valueIn_3 6 rfl rfl)
theorem dX3_valueIn_81 : decode cX3_valueIn 81 = .ok (.iload 5, 2) := dk_21 5 (dk_at dksX3_valueIn_3 9 rfl rfl)
theorem dX3_valueIn_83 : decode cX3_valueIn 83 = .ok (.ireturn, 1) := dk_172 (dk_at dksX3_valueIn_3 11 rfl rfl)
abbrev cX3_isUnder : ByteArray := prog_12_method_10_code
def yX3_isUnder : MethodName := ⟨RX3, "isUnder", "(II)Z"⟩
def dkwX3_isUnder_1 : List UInt8 := [160, 0, 7, 4, 167, 0, 4, 3, 172]
abbrev dktX3_isUnder_1 : List UInt8 := dkwX3_isUnder_1 ++ []
def dkwX3_isUnder_0 : List UInt8 := [27, 62, 29, 155, 0, 18, 29, 28, 159, 0, 13, 42, 180, 0, 22, 29, 46, 62, 167, 255, 240, 29, 28]
abbrev dktX3_isUnder_0 : List UInt8 := dkwX3_isUnder_0 ++ dktX3_isUnder_1
theorem dksX3_isUnder_0 : cX3_isUnder.data.toList.drop 0 = dktX3_isUnder_0 := by decide +kernel
theorem dksX3_isUnder_1 : cX3_isUnder.data.toList.drop 23 = dktX3_isUnder_1 := dk_seg dksX3_isUnder_0 23 rfl rfl
theorem dX3_isUnder_0 : decode cX3_isUnder 0 = .ok (.iload_n 1, 1) := dk_27 (dk_at dksX3_isUnder_0 0 rfl rfl)
theorem dX3_isUnder_1 : decode cX3_isUnder 1 = .ok (.istore_n 3, 1) := dk_62 (dk_at dksX3_isUnder_0 1 rfl rfl)
theorem dX3_isUnder_2 : decode cX3_isUnder 2 = .ok (.iload_n 3, 1) := dk_29 (dk_at dksX3_isUnder_0 2 rfl rfl)
theorem dX3_isUnder_3 : decode cX3_isUnder 3 = .ok (.ifCond .lt 18, 3) := dk_155 0 18 (dk_at dksX3_isUnder_0 3 rfl rfl)
theorem dX3_isUnder_6 : decode cX3_isUnder 6 = .ok (.iload_n 3, 1) := dk_29 (dk_at dksX3_isUnder_0 6 rfl rfl)
theorem dX3_isUnder_7 : decode cX3_isUnder 7 = .ok (.iload_n 2, 1) := dk_28 (dk_at dksX3_isUnder_0 7 rfl rfl)
theorem dX3_isUnder_8 : decode cX3_isUnder 8 = .ok (.if_icmp .eq 13, 3) := dk_159 0 13 (dk_at dksX3_isUnder_0 8 rfl rfl)
theorem dX3_isUnder_11 : decode cX3_isUnder 11 = .ok (.aload_n 0, 1) := dk_42 (dk_at dksX3_isUnder_0 11 rfl rfl)
theorem dX3_isUnder_12 : decode cX3_isUnder 12 = .ok (.getfield 22, 3) := dk_180 0 22 (dk_at dksX3_isUnder_0 12 rfl rfl)
theorem dX3_isUnder_15 : decode cX3_isUnder 15 = .ok (.iload_n 3, 1) := dk_29 (dk_at dksX3_isUnder_0 15 rfl rfl)
theorem dX3_isUnder_16 : decode cX3_isUnder 16 = .ok (.iaload, 1) := dk_46 (dk_at dksX3_isUnder_0 16 rfl rfl)
theorem dX3_isUnder_17 : decode cX3_isUnder 17 = .ok (.istore_n 3, 1) := dk_62 (dk_at dksX3_isUnder_0 17 rfl rfl)
theorem dX3_isUnder_18 : decode cX3_isUnder 18 = .ok (.goto (-16), 3) := dk_167 255 240 (dk_at dksX3_isUnder_0 18 rfl rfl)
theorem dX3_isUnder_21 : decode cX3_isUnder 21 = .ok (.iload_n 3, 1) := dk_29 (dk_at dksX3_isUnder_0 21 rfl rfl)
theorem dX3_isUnder_22 : decode cX3_isUnder 22 = .ok (.iload_n 2, 1) := dk_28 (dk_at dksX3_isUnder_0 22 rfl rfl)
theorem dX3_isUnder_23 : decode cX3_isUnder 23 = .ok (.if_icmp .ne 7, 3) := dk_160 0 7 (dk_at dksX3_isUnder_1 0 rfl rfl)
theorem dX3_isUnder_26 : decode cX3_isUnder 26 = .ok (.iconst 1, 1) := dk_4 (dk_at dksX3_isUnder_1 3 rfl rfl)
theorem dX3_isUnder_27 : decode cX3_isUnder 27 = .ok (.goto 4, 3) := dk_167 0 4 (dk_at dksX3_isUnder_1 4 rfl rfl)
theorem dX3_isUnder_30 : decode cX3_isUnder 30 = .ok (.iconst 0, 1) := dk_3 (dk_at dksX3_isUnder_1 7 rfl rfl)
theorem dX3_isUnder_31 : decode cX3_isUnder 31 = .ok (.ireturn, 1) := dk_172 (dk_at dksX3_isUnder_1 8 rfl rfl)
abbrev cX3_driver : ByteArray := prog_12_method_17_code
def yX3_driver : MethodName := ⟨RX3, "driver", "(III)I"⟩
def dkwX3_driver_2 : List UInt8 := [172]
abbrev dktX3_driver_2 : List UInt8 := dkwX3_driver_2 ++ []
def dkwX3_driver_1 : List UInt8 := [4, 167, 0, 4, 3, 182, 0, 124, 158, 0, 7, 3, 167, 0, 12, 42, 27, 28, 29, 16, 6, 182, 0, 88]
abbrev dktX3_driver_1 : List UInt8 := dkwX3_driver_1 ++ dktX3_driver_2
def dkwX3_driver_0 : List UInt8 := [42, 42, 27, 182, 0, 118, 153, 0, 22, 42, 28, 182, 0, 110, 153, 0, 14, 29, 184, 0, 121, 153, 0, 7]
abbrev dktX3_driver_0 : List UInt8 := dkwX3_driver_0 ++ dktX3_driver_1
theorem dksX3_driver_0 : cX3_driver.data.toList.drop 0 = dktX3_driver_0 := by decide +kernel
theorem dksX3_driver_1 : cX3_driver.data.toList.drop 24 = dktX3_driver_1 := dk_seg dksX3_driver_0 24 rfl rfl
theorem dksX3_driver_2 : cX3_driver.data.toList.drop 48 = dktX3_driver_2 := dk_seg dksX3_driver_1 24 rfl rfl
theorem dX3_driver_0 : decode cX3_driver 0 = .ok (.aload_n 0, 1) := dk_42 (dk_at dksX3_driver_0 0 rfl rfl)
theorem dX3_driver_1 : decode cX3_driver 1 = .ok (.aload_n 0, 1) := dk_42 (dk_at dksX3_driver_0 1 rfl rfl)
theorem dX3_driver_2 : decode cX3_driver 2 = .ok (.iload_n 1, 1) := dk_27 (dk_at dksX3_driver_0 2 rfl rfl)
theorem dX3_driver_3 : decode cX3_driver 3 = .ok (.invokevirtual 118, 3) := dk_182 0 118 (dk_at dksX3_driver_0 3 rfl rfl)
theorem dX3_driver_6 : decode cX3_driver 6 = .ok (.ifCond .eq 22, 3) := dk_153 0 22 (dk_at dksX3_driver_0 6 rfl rfl)
theorem dX3_driver_9 : decode cX3_driver 9 = .ok (.aload_n 0, 1) := dk_42 (dk_at dksX3_driver_0 9 rfl rfl)
theorem dX3_driver_10 : decode cX3_driver 10 = .ok (.iload_n 2, 1) := dk_28 (dk_at dksX3_driver_0 10 rfl rfl)
theorem dX3_driver_11 : decode cX3_driver 11 = .ok (.invokevirtual 110, 3) := dk_182 0 110 (dk_at dksX3_driver_0 11 rfl rfl)
theorem dX3_driver_14 : decode cX3_driver 14 = .ok (.ifCond .eq 14, 3) := dk_153 0 14 (dk_at dksX3_driver_0 14 rfl rfl)
theorem dX3_driver_17 : decode cX3_driver 17 = .ok (.iload_n 3, 1) := dk_29 (dk_at dksX3_driver_0 17 rfl rfl)
theorem dX3_driver_18 : decode cX3_driver 18 = .ok (.invokestatic 121, 3) := dk_184 0 121 (dk_at dksX3_driver_0 18 rfl rfl)
theorem dX3_driver_21 : decode cX3_driver 21 = .ok (.ifCond .eq 7, 3) := dk_153 0 7 (dk_at dksX3_driver_0 21 rfl rfl)
theorem dX3_driver_24 : decode cX3_driver 24 = .ok (.iconst 1, 1) := dk_4 (dk_at dksX3_driver_1 0 rfl rfl)
theorem dX3_driver_25 : decode cX3_driver 25 = .ok (.goto 4, 3) := dk_167 0 4 (dk_at dksX3_driver_1 1 rfl rfl)
theorem dX3_driver_28 : decode cX3_driver 28 = .ok (.iconst 0, 1) := dk_3 (dk_at dksX3_driver_1 4 rfl rfl)
theorem dX3_driver_29 : decode cX3_driver 29 = .ok (.invokevirtual 124, 3) := dk_182 0 124 (dk_at dksX3_driver_1 5 rfl rfl)
theorem dX3_driver_32 : decode cX3_driver 32 = .ok (.ifCond .le 7, 3) := dk_158 0 7 (dk_at dksX3_driver_1 8 rfl rfl)
theorem dX3_driver_35 : decode cX3_driver 35 = .ok (.iconst 0, 1) := dk_3 (dk_at dksX3_driver_1 11 rfl rfl)
theorem dX3_driver_36 : decode cX3_driver 36 = .ok (.goto 12, 3) := dk_167 0 12 (dk_at dksX3_driver_1 12 rfl rfl)
theorem dX3_driver_39 : decode cX3_driver 39 = .ok (.aload_n 0, 1) := dk_42 (dk_at dksX3_driver_1 15 rfl rfl)
theorem dX3_driver_40 : decode cX3_driver 40 = .ok (.iload_n 1, 1) := dk_27 (dk_at dksX3_driver_1 16 rfl rfl)
theorem dX3_driver_41 : decode cX3_driver 41 = .ok (.iload_n 2, 1) := dk_28 (dk_at dksX3_driver_1 17 rfl rfl)
theorem dX3_driver_42 : decode cX3_driver 42 = .ok (.iload_n 3, 1) := dk_29 (dk_at dksX3_driver_1 18 rfl rfl)
theorem dX3_driver_43 : decode cX3_driver 43 = .ok (.bipush 6, 2) := dk_16 6 (dk_at dksX3_driver_1 19 rfl rfl)
theorem dX3_driver_45 : decode cX3_driver 45 = .ok (.invokevirtual 88, 3) := dk_182 0 88 (dk_at dksX3_driver_1 21 rfl rfl)
theorem dX3_driver_48 : decode cX3_driver 48 = .ok (.ireturn, 1) := dk_172 (dk_at dksX3_driver_2 0 rfl rfl)
abbrev cX3_isScenario : ByteArray := prog_12_method_7_code
def yX3_isScenario : MethodName := ⟨RX3, "isScenario", "(I)Z"⟩
def dkwX3_isScenario_0 : List UInt8 := [27, 3, 42, 180, 0, 71, 4, 100, 184, 0, 80, 172]
abbrev dktX3_isScenario_0 : List UInt8 := dkwX3_isScenario_0 ++ []
theorem dksX3_isScenario_0 : cX3_isScenario.data.toList.drop 0 = dktX3_isScenario_0 := by decide +kernel
theorem dX3_isScenario_0 : decode cX3_isScenario 0 = .ok (.iload_n 1, 1) := dk_27 (dk_at dksX3_isScenario_0 0 rfl rfl)
theorem dX3_isScenario_1 : decode cX3_isScenario 1 = .ok (.iconst 0, 1) := dk_3 (dk_at dksX3_isScenario_0 1 rfl rfl)
theorem dX3_isScenario_2 : decode cX3_isScenario 2 = .ok (.aload_n 0, 1) := dk_42 (dk_at dksX3_isScenario_0 2 rfl rfl)
theorem dX3_isScenario_3 : decode cX3_isScenario 3 = .ok (.getfield 71, 3) := dk_180 0 71 (dk_at dksX3_isScenario_0 3 rfl rfl)
theorem dX3_isScenario_6 : decode cX3_isScenario 6 = .ok (.iconst 1, 1) := dk_4 (dk_at dksX3_isScenario_0 6 rfl rfl)
theorem dX3_isScenario_7 : decode cX3_isScenario 7 = .ok (.isub, 1) := dk_100 (dk_at dksX3_isScenario_0 7 rfl rfl)
theorem dX3_isScenario_8 : decode cX3_isScenario 8 = .ok (.invokestatic 80, 3) := dk_184 0 80 (dk_at dksX3_isScenario_0 8 rfl rfl)
theorem dX3_isScenario_11 : decode cX3_isScenario 11 = .ok (.ireturn, 1) := dk_172 (dk_at dksX3_isScenario_0 11 rfl rfl)
abbrev cX3_isMonth : ByteArray := prog_12_method_8_code
def yX3_isMonth : MethodName := ⟨RX3, "isMonth", "(I)Z"⟩
def dkwX3_isMonth_0 : List UInt8 := [26, 3, 16, 11, 184, 0, 80, 172]
abbrev dktX3_isMonth_0 : List UInt8 := dkwX3_isMonth_0 ++ []
theorem dksX3_isMonth_0 : cX3_isMonth.data.toList.drop 0 = dktX3_isMonth_0 := by decide +kernel
theorem dX3_isMonth_0 : decode cX3_isMonth 0 = .ok (.iload_n 0, 1) := dk_26 (dk_at dksX3_isMonth_0 0 rfl rfl)
theorem dX3_isMonth_1 : decode cX3_isMonth 1 = .ok (.iconst 0, 1) := dk_3 (dk_at dksX3_isMonth_0 1 rfl rfl)
theorem dX3_isMonth_2 : decode cX3_isMonth 2 = .ok (.bipush 11, 2) := dk_16 11 (dk_at dksX3_isMonth_0 2 rfl rfl)
theorem dX3_isMonth_4 : decode cX3_isMonth 4 = .ok (.invokestatic 80, 3) := dk_184 0 80 (dk_at dksX3_isMonth_0 4 rfl rfl)
theorem dX3_isMonth_7 : decode cX3_isMonth 7 = .ok (.ireturn, 1) := dk_172 (dk_at dksX3_isMonth_0 7 rfl rfl)
abbrev cX3_checked : ByteArray := prog_12_method_4_code
def yX3_checked : MethodName := ⟨RX3, "checked", "(Z)I"⟩
def dkwX3_checked_0 : List UInt8 := [42, 27, 153, 0, 7, 3, 167, 0, 4, 4, 181, 0, 61, 42, 180, 0, 61, 172]
abbrev dktX3_checked_0 : List UInt8 := dkwX3_checked_0 ++ []
theorem dksX3_checked_0 : cX3_checked.data.toList.drop 0 = dktX3_checked_0 := by decide +kernel
theorem dX3_checked_0 : decode cX3_checked 0 = .ok (.aload_n 0, 1) := dk_42 (dk_at dksX3_checked_0 0 rfl rfl)
theorem dX3_checked_1 : decode cX3_checked 1 = .ok (.iload_n 1, 1) := dk_27 (dk_at dksX3_checked_0 1 rfl rfl)
theorem dX3_checked_2 : decode cX3_checked 2 = .ok (.ifCond .eq 7, 3) := dk_153 0 7 (dk_at dksX3_checked_0 2 rfl rfl)
theorem dX3_checked_5 : decode cX3_checked 5 = .ok (.iconst 0, 1) := dk_3 (dk_at dksX3_checked_0 5 rfl rfl)
theorem dX3_checked_6 : decode cX3_checked 6 = .ok (.goto 4, 3) := dk_167 0 4 (dk_at dksX3_checked_0 6 rfl rfl)
theorem dX3_checked_9 : decode cX3_checked 9 = .ok (.iconst 1, 1) := dk_4 (dk_at dksX3_checked_0 9 rfl rfl)
theorem dX3_checked_10 : decode cX3_checked 10 = .ok (.putfield 61, 3) := dk_181 0 61 (dk_at dksX3_checked_0 10 rfl rfl)
theorem dX3_checked_13 : decode cX3_checked 13 = .ok (.aload_n 0, 1) := dk_42 (dk_at dksX3_checked_0 13 rfl rfl)
theorem dX3_checked_14 : decode cX3_checked 14 = .ok (.getfield 61, 3) := dk_180 0 61 (dk_at dksX3_checked_0 14 rfl rfl)
theorem dX3_checked_17 : decode cX3_checked 17 = .ok (.ireturn, 1) := dk_172 (dk_at dksX3_checked_0 17 rfl rfl)
abbrev cX3_addLine : ByteArray := prog_12_method_18_code
def yX3_addLine : MethodName := ⟨RX3, "addLine", "(CII)I"⟩
def dkwX3_addLine_6 : List UInt8 := [79, 42, 89, 180, 0, 68, 4, 96, 181, 0, 68, 42, 180, 0, 68, 4, 100, 172]
abbrev dktX3_addLine_6 : List UInt8 := dkwX3_addLine_6 ++ []
def dkwX3_addLine_5 : List UInt8 := [180, 0, 68, 28, 79, 42, 180, 0, 19, 42, 180, 0, 68, 27, 16, 100, 160, 0, 7, 3, 167, 0, 4, 29]
abbrev dktX3_addLine_5 : List UInt8 := dkwX3_addLine_5 ++ dktX3_addLine_6
def dkwX3_addLine_4 : List UInt8 := [180, 0, 61, 158, 0, 5, 3, 172, 42, 180, 0, 13, 42, 180, 0, 68, 27, 79, 42, 180, 0, 16, 42]
abbrev dktX3_addLine_4 : List UInt8 := dkwX3_addLine_4 ++ dktX3_addLine_5
def dkwX3_addLine_3 : List UInt8 := [5, 167, 0, 17, 42, 180, 0, 68, 16, 10, 160, 0, 7, 6, 167, 0, 4, 3, 181, 0, 61, 42]
abbrev dktX3_addLine_3 : List UInt8 := dkwX3_addLine_3 ++ dktX3_addLine_4
def dkwX3_addLine_2 : List UInt8 := [159, 0, 19, 27, 16, 109, 159, 0, 13, 27, 16, 112, 159, 0, 7, 4, 167, 0, 26, 21, 4, 154, 0, 7]
abbrev dktX3_addLine_2 : List UInt8 := dkwX3_addLine_2 ++ dktX3_addLine_3
def dkwX3_addLine_1 : List UInt8 := [182, 0, 128, 153, 0, 7, 4, 167, 0, 4, 3, 54, 4, 42, 27, 16, 100, 159, 0, 25, 27, 16, 115]
abbrev dktX3_addLine_1 : List UInt8 := dkwX3_addLine_1 ++ dktX3_addLine_2
def dkwX3_addLine_0 : List UInt8 := [27, 16, 100, 160, 0, 11, 42, 28, 182, 0, 110, 167, 0, 24, 42, 28, 182, 0, 128, 153, 0, 15, 42, 29]
abbrev dktX3_addLine_0 : List UInt8 := dkwX3_addLine_0 ++ dktX3_addLine_1
theorem dksX3_addLine_0 : cX3_addLine.data.toList.drop 0 = dktX3_addLine_0 := by decide +kernel
theorem dksX3_addLine_1 : cX3_addLine.data.toList.drop 24 = dktX3_addLine_1 := dk_seg dksX3_addLine_0 24 rfl rfl
theorem dksX3_addLine_2 : cX3_addLine.data.toList.drop 47 = dktX3_addLine_2 := dk_seg dksX3_addLine_1 23 rfl rfl
theorem dksX3_addLine_3 : cX3_addLine.data.toList.drop 71 = dktX3_addLine_3 := dk_seg dksX3_addLine_2 24 rfl rfl
theorem dksX3_addLine_4 : cX3_addLine.data.toList.drop 93 = dktX3_addLine_4 := dk_seg dksX3_addLine_3 22 rfl rfl
theorem dksX3_addLine_5 : cX3_addLine.data.toList.drop 116 = dktX3_addLine_5 := dk_seg dksX3_addLine_4 23 rfl rfl
theorem dksX3_addLine_6 : cX3_addLine.data.toList.drop 140 = dktX3_addLine_6 := dk_seg dksX3_addLine_5 24 rfl rfl
theorem dX3_addLine_0 : decode cX3_addLine 0 = .ok (.iload_n 1, 1) := dk_27 (dk_at dksX3_addLine_0 0 rfl rfl)
theorem dX3_addLine_1 : decode cX3_addLine 1 = .ok (.bipush 100, 2) := dk_16 100 (dk_at dksX3_addLine_0 1 rfl rfl)
theorem dX3_addLine_3 : decode cX3_addLine 3 = .ok (.if_icmp .ne 11, 3) := dk_160 0 11 (dk_at dksX3_addLine_0 3 rfl rfl)
theorem dX3_addLine_6 : decode cX3_addLine 6 = .ok (.aload_n 0, 1) := dk_42 (dk_at dksX3_addLine_0 6 rfl rfl)
theorem dX3_addLine_7 : decode cX3_addLine 7 = .ok (.iload_n 2, 1) := dk_28 (dk_at dksX3_addLine_0 7 rfl rfl)
theorem dX3_addLine_8 : decode cX3_addLine 8 = .ok (.invokevirtual 110, 3) := dk_182 0 110 (dk_at dksX3_addLine_0 8 rfl rfl)
theorem dX3_addLine_11 : decode cX3_addLine 11 = .ok (.goto 24, 3) := dk_167 0 24 (dk_at dksX3_addLine_0 11 rfl rfl)
theorem dX3_addLine_14 : decode cX3_addLine 14 = .ok (.aload_n 0, 1) := dk_42 (dk_at dksX3_addLine_0 14 rfl rfl)
theorem dX3_addLine_15 : decode cX3_addLine 15 = .ok (.iload_n 2, 1) := dk_28 (dk_at dksX3_addLine_0 15 rfl rfl)
theorem dX3_addLine_16 : decode cX3_addLine 16 = .ok (.invokevirtual 128, 3) := dk_182 0 128 (dk_at dksX3_addLine_0 16 rfl rfl)
theorem dX3_addLine_19 : decode cX3_addLine 19 = .ok (.ifCond .eq 15, 3) := dk_153 0 15 (dk_at dksX3_addLine_0 19 rfl rfl)
theorem dX3_addLine_22 : decode cX3_addLine 22 = .ok (.aload_n 0, 1) := dk_42 (dk_at dksX3_addLine_0 22 rfl rfl)
theorem dX3_addLine_23 : decode cX3_addLine 23 = .ok (.iload_n 3, 1) := dk_29 (dk_at dksX3_addLine_0 23 rfl rfl)
theorem dX3_addLine_24 : decode cX3_addLine 24 = .ok (.invokevirtual 128, 3) := dk_182 0 128 (dk_at dksX3_addLine_1 0 rfl rfl)
theorem dX3_addLine_27 : decode cX3_addLine 27 = .ok (.ifCond .eq 7, 3) := dk_153 0 7 (dk_at dksX3_addLine_1 3 rfl rfl)
theorem dX3_addLine_30 : decode cX3_addLine 30 = .ok (.iconst 1, 1) := dk_4 (dk_at dksX3_addLine_1 6 rfl rfl)
theorem dX3_addLine_31 : decode cX3_addLine 31 = .ok (.goto 4, 3) := dk_167 0 4 (dk_at dksX3_addLine_1 7 rfl rfl)
theorem dX3_addLine_34 : decode cX3_addLine 34 = .ok (.iconst 0, 1) := dk_3 (dk_at dksX3_addLine_1 10 rfl rfl)
theorem dX3_addLine_35 : decode cX3_addLine 35 = .ok (.istore 4, 2) := dk_54 4 (dk_at dksX3_addLine_1 11 rfl rfl)
theorem dX3_addLine_37 : decode cX3_addLine 37 = .ok (.aload_n 0, 1) := dk_42 (dk_at dksX3_addLine_1 13 rfl rfl)
theorem dX3_addLine_38 : decode cX3_addLine 38 = .ok (.iload_n 1, 1) := dk_27 (dk_at dksX3_addLine_1 14 rfl rfl)
theorem dX3_addLine_39 : decode cX3_addLine 39 = .ok (.bipush 100, 2) := dk_16 100 (dk_at dksX3_addLine_1 15 rfl rfl)
theorem dX3_addLine_41 : decode cX3_addLine 41 = .ok (.if_icmp .eq 25, 3) := dk_159 0 25 (dk_at dksX3_addLine_1 17 rfl rfl)
theorem dX3_addLine_44 : decode cX3_addLine 44 = .ok (.iload_n 1, 1) := dk_27 (dk_at dksX3_addLine_1 20 rfl rfl)
theorem dX3_addLine_45 : decode cX3_addLine 45 = .ok (.bipush 115, 2) := dk_16 115 (dk_at dksX3_addLine_1 21 rfl rfl)
theorem dX3_addLine_47 : decode cX3_addLine 47 = .ok (.if_icmp .eq 19, 3) := dk_159 0 19 (dk_at dksX3_addLine_2 0 rfl rfl)
theorem dX3_addLine_50 : decode cX3_addLine 50 = .ok (.iload_n 1, 1) := dk_27 (dk_at dksX3_addLine_2 3 rfl rfl)
theorem dX3_addLine_51 : decode cX3_addLine 51 = .ok (.bipush 109, 2) := dk_16 109 (dk_at dksX3_addLine_2 4 rfl rfl)
theorem dX3_addLine_53 : decode cX3_addLine 53 = .ok (.if_icmp .eq 13, 3) := dk_159 0 13 (dk_at dksX3_addLine_2 6 rfl rfl)
theorem dX3_addLine_56 : decode cX3_addLine 56 = .ok (.iload_n 1, 1) := dk_27 (dk_at dksX3_addLine_2 9 rfl rfl)
theorem dX3_addLine_57 : decode cX3_addLine 57 = .ok (.bipush 112, 2) := dk_16 112 (dk_at dksX3_addLine_2 10 rfl rfl)
theorem dX3_addLine_59 : decode cX3_addLine 59 = .ok (.if_icmp .eq 7, 3) := dk_159 0 7 (dk_at dksX3_addLine_2 12 rfl rfl)
theorem dX3_addLine_62 : decode cX3_addLine 62 = .ok (.iconst 1, 1) := dk_4 (dk_at dksX3_addLine_2 15 rfl rfl)
theorem dX3_addLine_63 : decode cX3_addLine 63 = .ok (.goto 26, 3) := dk_167 0 26 (dk_at dksX3_addLine_2 16 rfl rfl)
theorem dX3_addLine_66 : decode cX3_addLine 66 = .ok (.iload 4, 2) := dk_21 4 (dk_at dksX3_addLine_2 19 rfl rfl)
theorem dX3_addLine_68 : decode cX3_addLine 68 = .ok (.ifCond .ne 7, 3) := dk_154 0 7 (dk_at dksX3_addLine_2 21 rfl rfl)
theorem dX3_addLine_71 : decode cX3_addLine 71 = .ok (.iconst 2, 1) := dk_5 (dk_at dksX3_addLine_3 0 rfl rfl)
theorem dX3_addLine_72 : decode cX3_addLine 72 = .ok (.goto 17, 3) := dk_167 0 17 (dk_at dksX3_addLine_3 1 rfl rfl)
theorem dX3_addLine_75 : decode cX3_addLine 75 = .ok (.aload_n 0, 1) := dk_42 (dk_at dksX3_addLine_3 4 rfl rfl)
theorem dX3_addLine_76 : decode cX3_addLine 76 = .ok (.getfield 68, 3) := dk_180 0 68 (dk_at dksX3_addLine_3 5 rfl rfl)
theorem dX3_addLine_79 : decode cX3_addLine 79 = .ok (.bipush 10, 2) := dk_16 10 (dk_at dksX3_addLine_3 8 rfl rfl)
theorem dX3_addLine_81 : decode cX3_addLine 81 = .ok (.if_icmp .ne 7, 3) := dk_160 0 7 (dk_at dksX3_addLine_3 10 rfl rfl)
theorem dX3_addLine_84 : decode cX3_addLine 84 = .ok (.iconst 3, 1) := dk_6 (dk_at dksX3_addLine_3 13 rfl rfl)
theorem dX3_addLine_85 : decode cX3_addLine 85 = .ok (.goto 4, 3) := dk_167 0 4 (dk_at dksX3_addLine_3 14 rfl rfl)
theorem dX3_addLine_88 : decode cX3_addLine 88 = .ok (.iconst 0, 1) := dk_3 (dk_at dksX3_addLine_3 17 rfl rfl)
theorem dX3_addLine_89 : decode cX3_addLine 89 = .ok (.putfield 61, 3) := dk_181 0 61 (dk_at dksX3_addLine_3 18 rfl rfl)
theorem dX3_addLine_92 : decode cX3_addLine 92 = .ok (.aload_n 0, 1) := dk_42 (dk_at dksX3_addLine_3 21 rfl rfl)
theorem dX3_addLine_93 : decode cX3_addLine 93 = .ok (.getfield 61, 3) := dk_180 0 61 (dk_at dksX3_addLine_4 0 rfl rfl)
theorem dX3_addLine_96 : decode cX3_addLine 96 = .ok (.ifCond .le 5, 3) := dk_158 0 5 (dk_at dksX3_addLine_4 3 rfl rfl)
theorem dX3_addLine_99 : decode cX3_addLine 99 = .ok (.iconst 0, 1) := dk_3 (dk_at dksX3_addLine_4 6 rfl rfl)
theorem dX3_addLine_100 : decode cX3_addLine 100 = .ok (.ireturn, 1) := dk_172 (dk_at dksX3_addLine_4 7 rfl rfl)
theorem dX3_addLine_101 : decode cX3_addLine 101 = .ok (.aload_n 0, 1) := dk_42 (dk_at dksX3_addLine_4 8 rfl rfl)
theorem dX3_addLine_102 : decode cX3_addLine 102 = .ok (.getfield 13, 3) := dk_180 0 13 (dk_at dksX3_addLine_4 9 rfl rfl)
theorem dX3_addLine_105 : decode cX3_addLine 105 = .ok (.aload_n 0, 1) := dk_42 (dk_at dksX3_addLine_4 12 rfl rfl)
theorem dX3_addLine_106 : decode cX3_addLine 106 = .ok (.getfield 68, 3) := dk_180 0 68 (dk_at dksX3_addLine_4 13 rfl rfl)
theorem dX3_addLine_109 : decode cX3_addLine 109 = .ok (.iload_n 1, 1) := dk_27 (dk_at dksX3_addLine_4 16 rfl rfl)
theorem dX3_addLine_110 : decode cX3_addLine 110 = .ok (.iastore, 1) := dk_79 (dk_at dksX3_addLine_4 17 rfl rfl)
theorem dX3_addLine_111 : decode cX3_addLine 111 = .ok (.aload_n 0, 1) := dk_42 (dk_at dksX3_addLine_4 18 rfl rfl)
theorem dX3_addLine_112 : decode cX3_addLine 112 = .ok (.getfield 16, 3) := dk_180 0 16 (dk_at dksX3_addLine_4 19 rfl rfl)
theorem dX3_addLine_115 : decode cX3_addLine 115 = .ok (.aload_n 0, 1) := dk_42 (dk_at dksX3_addLine_4 22 rfl rfl)
theorem dX3_addLine_116 : decode cX3_addLine 116 = .ok (.getfield 68, 3) := dk_180 0 68 (dk_at dksX3_addLine_5 0 rfl rfl)
theorem dX3_addLine_119 : decode cX3_addLine 119 = .ok (.iload_n 2, 1) := dk_28 (dk_at dksX3_addLine_5 3 rfl rfl)
theorem dX3_addLine_120 : decode cX3_addLine 120 = .ok (.iastore, 1) := dk_79 (dk_at dksX3_addLine_5 4 rfl rfl)
theorem dX3_addLine_121 : decode cX3_addLine 121 = .ok (.aload_n 0, 1) := dk_42 (dk_at dksX3_addLine_5 5 rfl rfl)
theorem dX3_addLine_122 : decode cX3_addLine 122 = .ok (.getfield 19, 3) := dk_180 0 19 (dk_at dksX3_addLine_5 6 rfl rfl)
theorem dX3_addLine_125 : decode cX3_addLine 125 = .ok (.aload_n 0, 1) := dk_42 (dk_at dksX3_addLine_5 9 rfl rfl)
theorem dX3_addLine_126 : decode cX3_addLine 126 = .ok (.getfield 68, 3) := dk_180 0 68 (dk_at dksX3_addLine_5 10 rfl rfl)
theorem dX3_addLine_129 : decode cX3_addLine 129 = .ok (.iload_n 1, 1) := dk_27 (dk_at dksX3_addLine_5 13 rfl rfl)
theorem dX3_addLine_130 : decode cX3_addLine 130 = .ok (.bipush 100, 2) := dk_16 100 (dk_at dksX3_addLine_5 14 rfl rfl)
theorem dX3_addLine_132 : decode cX3_addLine 132 = .ok (.if_icmp .ne 7, 3) := dk_160 0 7 (dk_at dksX3_addLine_5 16 rfl rfl)
theorem dX3_addLine_135 : decode cX3_addLine 135 = .ok (.iconst 0, 1) := dk_3 (dk_at dksX3_addLine_5 19 rfl rfl)
theorem dX3_addLine_136 : decode cX3_addLine 136 = .ok (.goto 4, 3) := dk_167 0 4 (dk_at dksX3_addLine_5 20 rfl rfl)
theorem dX3_addLine_139 : decode cX3_addLine 139 = .ok (.iload_n 3, 1) := dk_29 (dk_at dksX3_addLine_5 23 rfl rfl)
theorem dX3_addLine_140 : decode cX3_addLine 140 = .ok (.iastore, 1) := dk_79 (dk_at dksX3_addLine_6 0 rfl rfl)
theorem dX3_addLine_141 : decode cX3_addLine 141 = .ok (.aload_n 0, 1) := dk_42 (dk_at dksX3_addLine_6 1 rfl rfl)
theorem dX3_addLine_142 : decode cX3_addLine 142 = .ok (.dup, 1) := dk_89 (dk_at dksX3_addLine_6 2 rfl rfl)
theorem dX3_addLine_143 : decode cX3_addLine 143 = .ok (.getfield 68, 3) := dk_180 0 68 (dk_at dksX3_addLine_6 3 rfl rfl)
theorem dX3_addLine_146 : decode cX3_addLine 146 = .ok (.iconst 1, 1) := dk_4 (dk_at dksX3_addLine_6 6 rfl rfl)
theorem dX3_addLine_147 : decode cX3_addLine 147 = .ok (.iadd, 1) := dk_96 (dk_at dksX3_addLine_6 7 rfl rfl)
theorem dX3_addLine_148 : decode cX3_addLine 148 = .ok (.putfield 68, 3) := dk_181 0 68 (dk_at dksX3_addLine_6 8 rfl rfl)
theorem dX3_addLine_151 : decode cX3_addLine 151 = .ok (.aload_n 0, 1) := dk_42 (dk_at dksX3_addLine_6 11 rfl rfl)
theorem dX3_addLine_152 : decode cX3_addLine 152 = .ok (.getfield 68, 3) := dk_180 0 68 (dk_at dksX3_addLine_6 12 rfl rfl)
theorem dX3_addLine_155 : decode cX3_addLine 155 = .ok (.iconst 1, 1) := dk_4 (dk_at dksX3_addLine_6 15 rfl rfl)
theorem dX3_addLine_156 : decode cX3_addLine 156 = .ok (.isub, 1) := dk_100 (dk_at dksX3_addLine_6 16 rfl rfl)
theorem dX3_addLine_157 : decode cX3_addLine 157 = .ok (.ireturn, 1) := dk_172 (dk_at dksX3_addLine_6 17 rfl rfl)
abbrev cX3_isLine : ByteArray := prog_12_method_6_code
def yX3_isLine : MethodName := ⟨RX3, "isLine", "(I)Z"⟩
def dkwX3_isLine_0 : List UInt8 := [27, 3, 42, 180, 0, 68, 4, 100, 184, 0, 80, 172]
abbrev dktX3_isLine_0 : List UInt8 := dkwX3_isLine_0 ++ []
theorem dksX3_isLine_0 : cX3_isLine.data.toList.drop 0 = dktX3_isLine_0 := by decide +kernel
theorem dX3_isLine_0 : decode cX3_isLine 0 = .ok (.iload_n 1, 1) := dk_27 (dk_at dksX3_isLine_0 0 rfl rfl)
theorem dX3_isLine_1 : decode cX3_isLine 1 = .ok (.iconst 0, 1) := dk_3 (dk_at dksX3_isLine_0 1 rfl rfl)
theorem dX3_isLine_2 : decode cX3_isLine 2 = .ok (.aload_n 0, 1) := dk_42 (dk_at dksX3_isLine_0 2 rfl rfl)
theorem dX3_isLine_3 : decode cX3_isLine 3 = .ok (.getfield 68, 3) := dk_180 0 68 (dk_at dksX3_isLine_0 3 rfl rfl)
theorem dX3_isLine_6 : decode cX3_isLine 6 = .ok (.iconst 1, 1) := dk_4 (dk_at dksX3_isLine_0 6 rfl rfl)
theorem dX3_isLine_7 : decode cX3_isLine 7 = .ok (.isub, 1) := dk_100 (dk_at dksX3_isLine_0 7 rfl rfl)
theorem dX3_isLine_8 : decode cX3_isLine 8 = .ok (.invokestatic 80, 3) := dk_184 0 80 (dk_at dksX3_isLine_0 8 rfl rfl)
theorem dX3_isLine_11 : decode cX3_isLine 11 = .ok (.ireturn, 1) := dk_172 (dk_at dksX3_isLine_0 11 rfl rfl)
abbrev cX3_addScenario : ByteArray := prog_12_method_19_code
def yX3_addScenario : MethodName := ⟨RX3, "addScenario", "(I)I"⟩
def dkwX3_addScenario_2 : List UInt8 := [27, 79, 42, 89, 180, 0, 71, 4, 96, 181, 0, 71, 42, 180, 0, 71, 4, 100, 172]
abbrev dktX3_addScenario_2 : List UInt8 := dkwX3_addScenario_2 ++ []
def dkwX3_addScenario_1 : List UInt8 := [167, 0, 4, 3, 181, 0, 61, 42, 180, 0, 61, 158, 0, 5, 3, 172, 42, 180, 0, 22, 42, 180, 0, 71]
abbrev dktX3_addScenario_1 : List UInt8 := dkwX3_addScenario_1 ++ dktX3_addScenario_2
def dkwX3_addScenario_0 : List UInt8 := [42, 42, 27, 182, 0, 118, 154, 0, 7, 4, 167, 0, 16, 42, 180, 0, 71, 7, 160, 0, 7, 5]
abbrev dktX3_addScenario_0 : List UInt8 := dkwX3_addScenario_0 ++ dktX3_addScenario_1
theorem dksX3_addScenario_0 : cX3_addScenario.data.toList.drop 0 = dktX3_addScenario_0 := by decide +kernel
theorem dksX3_addScenario_1 : cX3_addScenario.data.toList.drop 22 = dktX3_addScenario_1 := dk_seg dksX3_addScenario_0 22 rfl rfl
theorem dksX3_addScenario_2 : cX3_addScenario.data.toList.drop 46 = dktX3_addScenario_2 := dk_seg dksX3_addScenario_1 24 rfl rfl
theorem dX3_addScenario_0 : decode cX3_addScenario 0 = .ok (.aload_n 0, 1) := dk_42 (dk_at dksX3_addScenario_0 0 rfl rfl)
theorem dX3_addScenario_1 : decode cX3_addScenario 1 = .ok (.aload_n 0, 1) := dk_42 (dk_at dksX3_addScenario_0 1 rfl rfl)
theorem dX3_addScenario_2 : decode cX3_addScenario 2 = .ok (.iload_n 1, 1) := dk_27 (dk_at dksX3_addScenario_0 2 rfl rfl)
theorem dX3_addScenario_3 : decode cX3_addScenario 3 = .ok (.invokevirtual 118, 3) := dk_182 0 118 (dk_at dksX3_addScenario_0 3 rfl rfl)
theorem dX3_addScenario_6 : decode cX3_addScenario 6 = .ok (.ifCond .ne 7, 3) := dk_154 0 7 (dk_at dksX3_addScenario_0 6 rfl rfl)
theorem dX3_addScenario_9 : decode cX3_addScenario 9 = .ok (.iconst 1, 1) := dk_4 (dk_at dksX3_addScenario_0 9 rfl rfl)
theorem dX3_addScenario_10 : decode cX3_addScenario 10 = .ok (.goto 16, 3) := dk_167 0 16 (dk_at dksX3_addScenario_0 10 rfl rfl)
theorem dX3_addScenario_13 : decode cX3_addScenario 13 = .ok (.aload_n 0, 1) := dk_42 (dk_at dksX3_addScenario_0 13 rfl rfl)
theorem dX3_addScenario_14 : decode cX3_addScenario 14 = .ok (.getfield 71, 3) := dk_180 0 71 (dk_at dksX3_addScenario_0 14 rfl rfl)
theorem dX3_addScenario_17 : decode cX3_addScenario 17 = .ok (.iconst 4, 1) := dk_7 (dk_at dksX3_addScenario_0 17 rfl rfl)
theorem dX3_addScenario_18 : decode cX3_addScenario 18 = .ok (.if_icmp .ne 7, 3) := dk_160 0 7 (dk_at dksX3_addScenario_0 18 rfl rfl)
theorem dX3_addScenario_21 : decode cX3_addScenario 21 = .ok (.iconst 2, 1) := dk_5 (dk_at dksX3_addScenario_0 21 rfl rfl)
theorem dX3_addScenario_22 : decode cX3_addScenario 22 = .ok (.goto 4, 3) := dk_167 0 4 (dk_at dksX3_addScenario_1 0 rfl rfl)
theorem dX3_addScenario_25 : decode cX3_addScenario 25 = .ok (.iconst 0, 1) := dk_3 (dk_at dksX3_addScenario_1 3 rfl rfl)
theorem dX3_addScenario_26 : decode cX3_addScenario 26 = .ok (.putfield 61, 3) := dk_181 0 61 (dk_at dksX3_addScenario_1 4 rfl rfl)
theorem dX3_addScenario_29 : decode cX3_addScenario 29 = .ok (.aload_n 0, 1) := dk_42 (dk_at dksX3_addScenario_1 7 rfl rfl)
theorem dX3_addScenario_30 : decode cX3_addScenario 30 = .ok (.getfield 61, 3) := dk_180 0 61 (dk_at dksX3_addScenario_1 8 rfl rfl)
theorem dX3_addScenario_33 : decode cX3_addScenario 33 = .ok (.ifCond .le 5, 3) := dk_158 0 5 (dk_at dksX3_addScenario_1 11 rfl rfl)
theorem dX3_addScenario_36 : decode cX3_addScenario 36 = .ok (.iconst 0, 1) := dk_3 (dk_at dksX3_addScenario_1 14 rfl rfl)
theorem dX3_addScenario_37 : decode cX3_addScenario 37 = .ok (.ireturn, 1) := dk_172 (dk_at dksX3_addScenario_1 15 rfl rfl)
theorem dX3_addScenario_38 : decode cX3_addScenario 38 = .ok (.aload_n 0, 1) := dk_42 (dk_at dksX3_addScenario_1 16 rfl rfl)
theorem dX3_addScenario_39 : decode cX3_addScenario 39 = .ok (.getfield 22, 3) := dk_180 0 22 (dk_at dksX3_addScenario_1 17 rfl rfl)
theorem dX3_addScenario_42 : decode cX3_addScenario 42 = .ok (.aload_n 0, 1) := dk_42 (dk_at dksX3_addScenario_1 20 rfl rfl)
theorem dX3_addScenario_43 : decode cX3_addScenario 43 = .ok (.getfield 71, 3) := dk_180 0 71 (dk_at dksX3_addScenario_1 21 rfl rfl)
theorem dX3_addScenario_46 : decode cX3_addScenario 46 = .ok (.iload_n 1, 1) := dk_27 (dk_at dksX3_addScenario_2 0 rfl rfl)
theorem dX3_addScenario_47 : decode cX3_addScenario 47 = .ok (.iastore, 1) := dk_79 (dk_at dksX3_addScenario_2 1 rfl rfl)
theorem dX3_addScenario_48 : decode cX3_addScenario 48 = .ok (.aload_n 0, 1) := dk_42 (dk_at dksX3_addScenario_2 2 rfl rfl)
theorem dX3_addScenario_49 : decode cX3_addScenario 49 = .ok (.dup, 1) := dk_89 (dk_at dksX3_addScenario_2 3 rfl rfl)
theorem dX3_addScenario_50 : decode cX3_addScenario 50 = .ok (.getfield 71, 3) := dk_180 0 71 (dk_at dksX3_addScenario_2 4 rfl rfl)
theorem dX3_addScenario_53 : decode cX3_addScenario 53 = .ok (.iconst 1, 1) := dk_4 (dk_at dksX3_addScenario_2 7 rfl rfl)
theorem dX3_addScenario_54 : decode cX3_addScenario 54 = .ok (.iadd, 1) := dk_96 (dk_at dksX3_addScenario_2 8 rfl rfl)
theorem dX3_addScenario_55 : decode cX3_addScenario 55 = .ok (.putfield 71, 3) := dk_181 0 71 (dk_at dksX3_addScenario_2 9 rfl rfl)
theorem dX3_addScenario_58 : decode cX3_addScenario 58 = .ok (.aload_n 0, 1) := dk_42 (dk_at dksX3_addScenario_2 12 rfl rfl)
theorem dX3_addScenario_59 : decode cX3_addScenario 59 = .ok (.getfield 71, 3) := dk_180 0 71 (dk_at dksX3_addScenario_2 13 rfl rfl)
theorem dX3_addScenario_62 : decode cX3_addScenario 62 = .ok (.iconst 1, 1) := dk_4 (dk_at dksX3_addScenario_2 16 rfl rfl)
theorem dX3_addScenario_63 : decode cX3_addScenario 63 = .ok (.isub, 1) := dk_100 (dk_at dksX3_addScenario_2 17 rfl rfl)
theorem dX3_addScenario_64 : decode cX3_addScenario 64 = .ok (.ireturn, 1) := dk_172 (dk_at dksX3_addScenario_2 18 rfl rfl)
abbrev cX3_differ : ByteArray := prog_12_method_20_code
def yX3_differ : MethodName := ⟨RX3, "differ", "(IIII)I"⟩
def dkwX3_differ_7 : List UInt8 := [96, 54, 5, 132, 6, 1, 167, 255, 223, 21, 5, 172]
abbrev dktX3_differ_7 : List UInt8 := dkwX3_differ_7 ++ []
def dkwX3_differ_6 : List UInt8 := [180, 0, 74, 162, 0, 30, 21, 5, 42, 180, 0, 25, 21, 6, 46, 27, 160, 0, 7, 4, 167, 0, 4, 3]
abbrev dktX3_differ_6 : List UInt8 := dkwX3_differ_6 ++ dktX3_differ_7
def dkwX3_differ_5 : List UInt8 := [21, 4, 79, 42, 89, 180, 0, 74, 4, 96, 181, 0, 74, 3, 54, 5, 3, 54, 6, 21, 6, 42]
abbrev dktX3_differ_5 : List UInt8 := dkwX3_differ_5 ++ dktX3_differ_6
def dkwX3_differ_4 : List UInt8 := [180, 0, 74, 28, 79, 42, 180, 0, 31, 42, 180, 0, 74, 29, 79, 42, 180, 0, 34, 42, 180, 0, 74]
abbrev dktX3_differ_4 : List UInt8 := dkwX3_differ_4 ++ dktX3_differ_5
def dkwX3_differ_3 : List UInt8 := [42, 180, 0, 61, 158, 0, 5, 3, 172, 42, 180, 0, 25, 42, 180, 0, 74, 27, 79, 42, 180, 0, 28, 42]
abbrev dktX3_differ_3 : List UInt8 := dkwX3_differ_3 ++ dktX3_differ_4
def dkwX3_differ_2 : List UInt8 := [154, 0, 7, 6, 167, 0, 17, 42, 180, 0, 74, 16, 12, 160, 0, 7, 7, 167, 0, 4, 3, 181, 0, 61]
abbrev dktX3_differ_2 : List UInt8 := dkwX3_differ_2 ++ dktX3_differ_3
def dkwX3_differ_1 : List UInt8 := [4, 167, 0, 43, 21, 4, 17, 252, 25, 17, 3, 231, 184, 0, 80, 154, 0, 7, 5, 167, 0, 25, 27]
abbrev dktX3_differ_1 : List UInt8 := dkwX3_differ_1 ++ dktX3_differ_2
def dkwX3_differ_0 : List UInt8 := [42, 42, 27, 182, 0, 118, 153, 0, 18, 42, 28, 182, 0, 110, 153, 0, 10, 29, 184, 0, 121, 154, 0, 7]
abbrev dktX3_differ_0 : List UInt8 := dkwX3_differ_0 ++ dktX3_differ_1
theorem dksX3_differ_0 : cX3_differ.data.toList.drop 0 = dktX3_differ_0 := by decide +kernel
theorem dksX3_differ_1 : cX3_differ.data.toList.drop 24 = dktX3_differ_1 := dk_seg dksX3_differ_0 24 rfl rfl
theorem dksX3_differ_2 : cX3_differ.data.toList.drop 47 = dktX3_differ_2 := dk_seg dksX3_differ_1 23 rfl rfl
theorem dksX3_differ_3 : cX3_differ.data.toList.drop 71 = dktX3_differ_3 := dk_seg dksX3_differ_2 24 rfl rfl
theorem dksX3_differ_4 : cX3_differ.data.toList.drop 95 = dktX3_differ_4 := dk_seg dksX3_differ_3 24 rfl rfl
theorem dksX3_differ_5 : cX3_differ.data.toList.drop 118 = dktX3_differ_5 := dk_seg dksX3_differ_4 23 rfl rfl
theorem dksX3_differ_6 : cX3_differ.data.toList.drop 140 = dktX3_differ_6 := dk_seg dksX3_differ_5 22 rfl rfl
theorem dksX3_differ_7 : cX3_differ.data.toList.drop 164 = dktX3_differ_7 := dk_seg dksX3_differ_6 24 rfl rfl
theorem dX3_differ_0 : decode cX3_differ 0 = .ok (.aload_n 0, 1) := dk_42 (dk_at dksX3_differ_0 0 rfl rfl)
theorem dX3_differ_1 : decode cX3_differ 1 = .ok (.aload_n 0, 1) := dk_42 (dk_at dksX3_differ_0 1 rfl rfl)
theorem dX3_differ_2 : decode cX3_differ 2 = .ok (.iload_n 1, 1) := dk_27 (dk_at dksX3_differ_0 2 rfl rfl)
theorem dX3_differ_3 : decode cX3_differ 3 = .ok (.invokevirtual 118, 3) := dk_182 0 118 (dk_at dksX3_differ_0 3 rfl rfl)
theorem dX3_differ_6 : decode cX3_differ 6 = .ok (.ifCond .eq 18, 3) := dk_153 0 18 (dk_at dksX3_differ_0 6 rfl rfl)
theorem dX3_differ_9 : decode cX3_differ 9 = .ok (.aload_n 0, 1) := dk_42 (dk_at dksX3_differ_0 9 rfl rfl)
theorem dX3_differ_10 : decode cX3_differ 10 = .ok (.iload_n 2, 1) := dk_28 (dk_at dksX3_differ_0 10 rfl rfl)
theorem dX3_differ_11 : decode cX3_differ 11 = .ok (.invokevirtual 110, 3) := dk_182 0 110 (dk_at dksX3_differ_0 11 rfl rfl)
theorem dX3_differ_14 : decode cX3_differ 14 = .ok (.ifCond .eq 10, 3) := dk_153 0 10 (dk_at dksX3_differ_0 14 rfl rfl)
theorem dX3_differ_17 : decode cX3_differ 17 = .ok (.iload_n 3, 1) := dk_29 (dk_at dksX3_differ_0 17 rfl rfl)
theorem dX3_differ_18 : decode cX3_differ 18 = .ok (.invokestatic 121, 3) := dk_184 0 121 (dk_at dksX3_differ_0 18 rfl rfl)
theorem dX3_differ_21 : decode cX3_differ 21 = .ok (.ifCond .ne 7, 3) := dk_154 0 7 (dk_at dksX3_differ_0 21 rfl rfl)
theorem dX3_differ_24 : decode cX3_differ 24 = .ok (.iconst 1, 1) := dk_4 (dk_at dksX3_differ_1 0 rfl rfl)
theorem dX3_differ_25 : decode cX3_differ 25 = .ok (.goto 43, 3) := dk_167 0 43 (dk_at dksX3_differ_1 1 rfl rfl)
theorem dX3_differ_28 : decode cX3_differ 28 = .ok (.iload 4, 2) := dk_21 4 (dk_at dksX3_differ_1 4 rfl rfl)
theorem dX3_differ_30 : decode cX3_differ 30 = .ok (.sipush (-999), 3) := dk_17 252 25 (dk_at dksX3_differ_1 6 rfl rfl)
theorem dX3_differ_33 : decode cX3_differ 33 = .ok (.sipush 999, 3) := dk_17 3 231 (dk_at dksX3_differ_1 9 rfl rfl)
theorem dX3_differ_36 : decode cX3_differ 36 = .ok (.invokestatic 80, 3) := dk_184 0 80 (dk_at dksX3_differ_1 12 rfl rfl)
theorem dX3_differ_39 : decode cX3_differ 39 = .ok (.ifCond .ne 7, 3) := dk_154 0 7 (dk_at dksX3_differ_1 15 rfl rfl)
theorem dX3_differ_42 : decode cX3_differ 42 = .ok (.iconst 2, 1) := dk_5 (dk_at dksX3_differ_1 18 rfl rfl)
theorem dX3_differ_43 : decode cX3_differ 43 = .ok (.goto 25, 3) := dk_167 0 25 (dk_at dksX3_differ_1 19 rfl rfl)
theorem dX3_differ_46 : decode cX3_differ 46 = .ok (.iload_n 1, 1) := dk_27 (dk_at dksX3_differ_1 22 rfl rfl)
theorem dX3_differ_47 : decode cX3_differ 47 = .ok (.ifCond .ne 7, 3) := dk_154 0 7 (dk_at dksX3_differ_2 0 rfl rfl)
theorem dX3_differ_50 : decode cX3_differ 50 = .ok (.iconst 3, 1) := dk_6 (dk_at dksX3_differ_2 3 rfl rfl)
theorem dX3_differ_51 : decode cX3_differ 51 = .ok (.goto 17, 3) := dk_167 0 17 (dk_at dksX3_differ_2 4 rfl rfl)
theorem dX3_differ_54 : decode cX3_differ 54 = .ok (.aload_n 0, 1) := dk_42 (dk_at dksX3_differ_2 7 rfl rfl)
theorem dX3_differ_55 : decode cX3_differ 55 = .ok (.getfield 74, 3) := dk_180 0 74 (dk_at dksX3_differ_2 8 rfl rfl)
theorem dX3_differ_58 : decode cX3_differ 58 = .ok (.bipush 12, 2) := dk_16 12 (dk_at dksX3_differ_2 11 rfl rfl)
theorem dX3_differ_60 : decode cX3_differ 60 = .ok (.if_icmp .ne 7, 3) := dk_160 0 7 (dk_at dksX3_differ_2 13 rfl rfl)
theorem dX3_differ_63 : decode cX3_differ 63 = .ok (.iconst 4, 1) := dk_7 (dk_at dksX3_differ_2 16 rfl rfl)
theorem dX3_differ_64 : decode cX3_differ 64 = .ok (.goto 4, 3) := dk_167 0 4 (dk_at dksX3_differ_2 17 rfl rfl)
theorem dX3_differ_67 : decode cX3_differ 67 = .ok (.iconst 0, 1) := dk_3 (dk_at dksX3_differ_2 20 rfl rfl)
theorem dX3_differ_68 : decode cX3_differ 68 = .ok (.putfield 61, 3) := dk_181 0 61 (dk_at dksX3_differ_2 21 rfl rfl)
theorem dX3_differ_71 : decode cX3_differ 71 = .ok (.aload_n 0, 1) := dk_42 (dk_at dksX3_differ_3 0 rfl rfl)
theorem dX3_differ_72 : decode cX3_differ 72 = .ok (.getfield 61, 3) := dk_180 0 61 (dk_at dksX3_differ_3 1 rfl rfl)
theorem dX3_differ_75 : decode cX3_differ 75 = .ok (.ifCond .le 5, 3) := dk_158 0 5 (dk_at dksX3_differ_3 4 rfl rfl)
theorem dX3_differ_78 : decode cX3_differ 78 = .ok (.iconst 0, 1) := dk_3 (dk_at dksX3_differ_3 7 rfl rfl)
theorem dX3_differ_79 : decode cX3_differ 79 = .ok (.ireturn, 1) := dk_172 (dk_at dksX3_differ_3 8 rfl rfl)
theorem dX3_differ_80 : decode cX3_differ 80 = .ok (.aload_n 0, 1) := dk_42 (dk_at dksX3_differ_3 9 rfl rfl)
theorem dX3_differ_81 : decode cX3_differ 81 = .ok (.getfield 25, 3) := dk_180 0 25 (dk_at dksX3_differ_3 10 rfl rfl)
theorem dX3_differ_84 : decode cX3_differ 84 = .ok (.aload_n 0, 1) := dk_42 (dk_at dksX3_differ_3 13 rfl rfl)
theorem dX3_differ_85 : decode cX3_differ 85 = .ok (.getfield 74, 3) := dk_180 0 74 (dk_at dksX3_differ_3 14 rfl rfl)
theorem dX3_differ_88 : decode cX3_differ 88 = .ok (.iload_n 1, 1) := dk_27 (dk_at dksX3_differ_3 17 rfl rfl)
theorem dX3_differ_89 : decode cX3_differ 89 = .ok (.iastore, 1) := dk_79 (dk_at dksX3_differ_3 18 rfl rfl)
theorem dX3_differ_90 : decode cX3_differ 90 = .ok (.aload_n 0, 1) := dk_42 (dk_at dksX3_differ_3 19 rfl rfl)
theorem dX3_differ_91 : decode cX3_differ 91 = .ok (.getfield 28, 3) := dk_180 0 28 (dk_at dksX3_differ_3 20 rfl rfl)
theorem dX3_differ_94 : decode cX3_differ 94 = .ok (.aload_n 0, 1) := dk_42 (dk_at dksX3_differ_3 23 rfl rfl)
theorem dX3_differ_95 : decode cX3_differ 95 = .ok (.getfield 74, 3) := dk_180 0 74 (dk_at dksX3_differ_4 0 rfl rfl)
theorem dX3_differ_98 : decode cX3_differ 98 = .ok (.iload_n 2, 1) := dk_28 (dk_at dksX3_differ_4 3 rfl rfl)
theorem dX3_differ_99 : decode cX3_differ 99 = .ok (.iastore, 1) := dk_79 (dk_at dksX3_differ_4 4 rfl rfl)
theorem dX3_differ_100 : decode cX3_differ 100 = .ok (.aload_n 0, 1) := dk_42 (dk_at dksX3_differ_4 5 rfl rfl)
theorem dX3_differ_101 : decode cX3_differ 101 = .ok (.getfield 31, 3) := dk_180 0 31 (dk_at dksX3_differ_4 6 rfl rfl)
theorem dX3_differ_104 : decode cX3_differ 104 = .ok (.aload_n 0, 1) := dk_42 (dk_at dksX3_differ_4 9 rfl rfl)
theorem dX3_differ_105 : decode cX3_differ 105 = .ok (.getfield 74, 3) := dk_180 0 74 (dk_at dksX3_differ_4 10 rfl rfl)
theorem dX3_differ_108 : decode cX3_differ 108 = .ok (.iload_n 3, 1) := dk_29 (dk_at dksX3_differ_4 13 rfl rfl)
theorem dX3_differ_109 : decode cX3_differ 109 = .ok (.iastore, 1) := dk_79 (dk_at dksX3_differ_4 14 rfl rfl)
theorem dX3_differ_110 : decode cX3_differ 110 = .ok (.aload_n 0, 1) := dk_42 (dk_at dksX3_differ_4 15 rfl rfl)
theorem dX3_differ_111 : decode cX3_differ 111 = .ok (.getfield 34, 3) := dk_180 0 34 (dk_at dksX3_differ_4 16 rfl rfl)
theorem dX3_differ_114 : decode cX3_differ 114 = .ok (.aload_n 0, 1) := dk_42 (dk_at dksX3_differ_4 19 rfl rfl)
theorem dX3_differ_115 : decode cX3_differ 115 = .ok (.getfield 74, 3) := dk_180 0 74 (dk_at dksX3_differ_4 20 rfl rfl)
theorem dX3_differ_118 : decode cX3_differ 118 = .ok (.iload 4, 2) := dk_21 4 (dk_at dksX3_differ_5 0 rfl rfl)
theorem dX3_differ_120 : decode cX3_differ 120 = .ok (.iastore, 1) := dk_79 (dk_at dksX3_differ_5 2 rfl rfl)
theorem dX3_differ_121 : decode cX3_differ 121 = .ok (.aload_n 0, 1) := dk_42 (dk_at dksX3_differ_5 3 rfl rfl)
theorem dX3_differ_122 : decode cX3_differ 122 = .ok (.dup, 1) := dk_89 (dk_at dksX3_differ_5 4 rfl rfl)
theorem dX3_differ_123 : decode cX3_differ 123 = .ok (.getfield 74, 3) := dk_180 0 74 (dk_at dksX3_differ_5 5 rfl rfl)
theorem dX3_differ_126 : decode cX3_differ 126 = .ok (.iconst 1, 1) := dk_4 (dk_at dksX3_differ_5 8 rfl rfl)
theorem dX3_differ_127 : decode cX3_differ 127 = .ok (.iadd, 1) := dk_96 (dk_at dksX3_differ_5 9 rfl rfl)
theorem dX3_differ_128 : decode cX3_differ 128 = .ok (.putfield 74, 3) := dk_181 0 74 (dk_at dksX3_differ_5 10 rfl rfl)
theorem dX3_differ_131 : decode cX3_differ 131 = .ok (.iconst 0, 1) := dk_3 (dk_at dksX3_differ_5 13 rfl rfl)
theorem dX3_differ_132 : decode cX3_differ 132 = .ok (.istore 5, 2) := dk_54 5 (dk_at dksX3_differ_5 14 rfl rfl)
theorem dX3_differ_134 : decode cX3_differ 134 = .ok (.iconst 0, 1) := dk_3 (dk_at dksX3_differ_5 16 rfl rfl)
theorem dX3_differ_135 : decode cX3_differ 135 = .ok (.istore 6, 2) := dk_54 6 (dk_at dksX3_differ_5 17 rfl rfl)
theorem dX3_differ_137 : decode cX3_differ 137 = .ok (.iload 6, 2) := dk_21 6 (dk_at dksX3_differ_5 19 rfl rfl)
theorem dX3_differ_139 : decode cX3_differ 139 = .ok (.aload_n 0, 1) := dk_42 (dk_at dksX3_differ_5 21 rfl rfl)
theorem dX3_differ_140 : decode cX3_differ 140 = .ok (.getfield 74, 3) := dk_180 0 74 (dk_at dksX3_differ_6 0 rfl rfl)
theorem dX3_differ_143 : decode cX3_differ 143 = .ok (.if_icmp .ge 30, 3) := dk_162 0 30 (dk_at dksX3_differ_6 3 rfl rfl)
theorem dX3_differ_146 : decode cX3_differ 146 = .ok (.iload 5, 2) := dk_21 5 (dk_at dksX3_differ_6 6 rfl rfl)
theorem dX3_differ_148 : decode cX3_differ 148 = .ok (.aload_n 0, 1) := dk_42 (dk_at dksX3_differ_6 8 rfl rfl)
theorem dX3_differ_149 : decode cX3_differ 149 = .ok (.getfield 25, 3) := dk_180 0 25 (dk_at dksX3_differ_6 9 rfl rfl)
theorem dX3_differ_152 : decode cX3_differ 152 = .ok (.iload 6, 2) := dk_21 6 (dk_at dksX3_differ_6 12 rfl rfl)
theorem dX3_differ_154 : decode cX3_differ 154 = .ok (.iaload, 1) := dk_46 (dk_at dksX3_differ_6 14 rfl rfl)
theorem dX3_differ_155 : decode cX3_differ 155 = .ok (.iload_n 1, 1) := dk_27 (dk_at dksX3_differ_6 15 rfl rfl)
theorem dX3_differ_156 : decode cX3_differ 156 = .ok (.if_icmp .ne 7, 3) := dk_160 0 7 (dk_at dksX3_differ_6 16 rfl rfl)
theorem dX3_differ_159 : decode cX3_differ 159 = .ok (.iconst 1, 1) := dk_4 (dk_at dksX3_differ_6 19 rfl rfl)
theorem dX3_differ_160 : decode cX3_differ 160 = .ok (.goto 4, 3) := dk_167 0 4 (dk_at dksX3_differ_6 20 rfl rfl)
theorem dX3_differ_163 : decode cX3_differ 163 = .ok (.iconst 0, 1) := dk_3 (dk_at dksX3_differ_6 23 rfl rfl)
theorem dX3_differ_164 : decode cX3_differ 164 = .ok (.iadd, 1) := dk_96 (dk_at dksX3_differ_7 0 rfl rfl)
theorem dX3_differ_165 : decode cX3_differ 165 = .ok (.istore 5, 2) := dk_54 5 (dk_at dksX3_differ_7 1 rfl rfl)
theorem dX3_differ_167 : decode cX3_differ 167 = .ok (.iinc 6 1, 3) := dk_132 6 1 (dk_at dksX3_differ_7 3 rfl rfl)
theorem dX3_differ_170 : decode cX3_differ 170 = .ok (.goto (-33), 3) := dk_167 255 223 (dk_at dksX3_differ_7 6 rfl rfl)
theorem dX3_differ_173 : decode cX3_differ 173 = .ok (.iload 5, 2) := dk_21 5 (dk_at dksX3_differ_7 9 rfl rfl)
theorem dX3_differ_175 : decode cX3_differ 175 = .ok (.ireturn, 1) := dk_172 (dk_at dksX3_differ_7 11 rfl rfl)
abbrev cX3_number : ByteArray := prog_12_method_21_code
def yX3_number : MethodName := ⟨RX3, "number", "(III)I"⟩
def dkwX3_number_2 : List UInt8 := [42, 180, 0, 61, 158, 0, 7, 3, 167, 0, 10, 42, 180, 0, 57, 28, 47, 136, 172]
abbrev dktX3_number_2 : List UInt8 := dkwX3_number_2 ++ []
def dkwX3_number_1 : List UInt8 := [4, 167, 0, 20, 42, 27, 28, 29, 16, 6, 182, 0, 106, 154, 0, 7, 5, 167, 0, 4, 3, 181, 0, 61]
abbrev dktX3_number_1 : List UInt8 := dkwX3_number_1 ++ dktX3_number_2
def dkwX3_number_0 : List UInt8 := [42, 42, 27, 182, 0, 118, 153, 0, 18, 42, 28, 182, 0, 128, 153, 0, 10, 29, 184, 0, 121, 154, 0, 7]
abbrev dktX3_number_0 : List UInt8 := dkwX3_number_0 ++ dktX3_number_1
theorem dksX3_number_0 : cX3_number.data.toList.drop 0 = dktX3_number_0 := by decide +kernel
theorem dksX3_number_1 : cX3_number.data.toList.drop 24 = dktX3_number_1 := dk_seg dksX3_number_0 24 rfl rfl
theorem dksX3_number_2 : cX3_number.data.toList.drop 48 = dktX3_number_2 := dk_seg dksX3_number_1 24 rfl rfl
theorem dX3_number_0 : decode cX3_number 0 = .ok (.aload_n 0, 1) := dk_42 (dk_at dksX3_number_0 0 rfl rfl)
theorem dX3_number_1 : decode cX3_number 1 = .ok (.aload_n 0, 1) := dk_42 (dk_at dksX3_number_0 1 rfl rfl)
theorem dX3_number_2 : decode cX3_number 2 = .ok (.iload_n 1, 1) := dk_27 (dk_at dksX3_number_0 2 rfl rfl)
theorem dX3_number_3 : decode cX3_number 3 = .ok (.invokevirtual 118, 3) := dk_182 0 118 (dk_at dksX3_number_0 3 rfl rfl)
theorem dX3_number_6 : decode cX3_number 6 = .ok (.ifCond .eq 18, 3) := dk_153 0 18 (dk_at dksX3_number_0 6 rfl rfl)
theorem dX3_number_9 : decode cX3_number 9 = .ok (.aload_n 0, 1) := dk_42 (dk_at dksX3_number_0 9 rfl rfl)
theorem dX3_number_10 : decode cX3_number 10 = .ok (.iload_n 2, 1) := dk_28 (dk_at dksX3_number_0 10 rfl rfl)
theorem dX3_number_11 : decode cX3_number 11 = .ok (.invokevirtual 128, 3) := dk_182 0 128 (dk_at dksX3_number_0 11 rfl rfl)
theorem dX3_number_14 : decode cX3_number 14 = .ok (.ifCond .eq 10, 3) := dk_153 0 10 (dk_at dksX3_number_0 14 rfl rfl)
theorem dX3_number_17 : decode cX3_number 17 = .ok (.iload_n 3, 1) := dk_29 (dk_at dksX3_number_0 17 rfl rfl)
theorem dX3_number_18 : decode cX3_number 18 = .ok (.invokestatic 121, 3) := dk_184 0 121 (dk_at dksX3_number_0 18 rfl rfl)
theorem dX3_number_21 : decode cX3_number 21 = .ok (.ifCond .ne 7, 3) := dk_154 0 7 (dk_at dksX3_number_0 21 rfl rfl)
theorem dX3_number_24 : decode cX3_number 24 = .ok (.iconst 1, 1) := dk_4 (dk_at dksX3_number_1 0 rfl rfl)
theorem dX3_number_25 : decode cX3_number 25 = .ok (.goto 20, 3) := dk_167 0 20 (dk_at dksX3_number_1 1 rfl rfl)
theorem dX3_number_28 : decode cX3_number 28 = .ok (.aload_n 0, 1) := dk_42 (dk_at dksX3_number_1 4 rfl rfl)
theorem dX3_number_29 : decode cX3_number 29 = .ok (.iload_n 1, 1) := dk_27 (dk_at dksX3_number_1 5 rfl rfl)
theorem dX3_number_30 : decode cX3_number 30 = .ok (.iload_n 2, 1) := dk_28 (dk_at dksX3_number_1 6 rfl rfl)
theorem dX3_number_31 : decode cX3_number 31 = .ok (.iload_n 3, 1) := dk_29 (dk_at dksX3_number_1 7 rfl rfl)
theorem dX3_number_32 : decode cX3_number 32 = .ok (.bipush 6, 2) := dk_16 6 (dk_at dksX3_number_1 8 rfl rfl)
theorem dX3_number_34 : decode cX3_number 34 = .ok (.invokevirtual 106, 3) := dk_182 0 106 (dk_at dksX3_number_1 10 rfl rfl)
theorem dX3_number_37 : decode cX3_number 37 = .ok (.ifCond .ne 7, 3) := dk_154 0 7 (dk_at dksX3_number_1 13 rfl rfl)
theorem dX3_number_40 : decode cX3_number 40 = .ok (.iconst 2, 1) := dk_5 (dk_at dksX3_number_1 16 rfl rfl)
theorem dX3_number_41 : decode cX3_number 41 = .ok (.goto 4, 3) := dk_167 0 4 (dk_at dksX3_number_1 17 rfl rfl)
theorem dX3_number_44 : decode cX3_number 44 = .ok (.iconst 0, 1) := dk_3 (dk_at dksX3_number_1 20 rfl rfl)
theorem dX3_number_45 : decode cX3_number 45 = .ok (.putfield 61, 3) := dk_181 0 61 (dk_at dksX3_number_1 21 rfl rfl)
theorem dX3_number_48 : decode cX3_number 48 = .ok (.aload_n 0, 1) := dk_42 (dk_at dksX3_number_2 0 rfl rfl)
theorem dX3_number_49 : decode cX3_number 49 = .ok (.getfield 61, 3) := dk_180 0 61 (dk_at dksX3_number_2 1 rfl rfl)
theorem dX3_number_52 : decode cX3_number 52 = .ok (.ifCond .le 7, 3) := dk_158 0 7 (dk_at dksX3_number_2 4 rfl rfl)
theorem dX3_number_55 : decode cX3_number 55 = .ok (.iconst 0, 1) := dk_3 (dk_at dksX3_number_2 7 rfl rfl)
theorem dX3_number_56 : decode cX3_number 56 = .ok (.goto 10, 3) := dk_167 0 10 (dk_at dksX3_number_2 8 rfl rfl)
theorem dX3_number_59 : decode cX3_number 59 = .ok (.aload_n 0, 1) := dk_42 (dk_at dksX3_number_2 11 rfl rfl)
theorem dX3_number_60 : decode cX3_number 60 = .ok (.getfield 57, 3) := dk_180 0 57 (dk_at dksX3_number_2 12 rfl rfl)
theorem dX3_number_63 : decode cX3_number 63 = .ok (.iload_n 2, 1) := dk_28 (dk_at dksX3_number_2 15 rfl rfl)
theorem dX3_number_64 : decode cX3_number 64 = .ok (.laload, 1) := dk_47 (dk_at dksX3_number_2 16 rfl rfl)
theorem dX3_number_65 : decode cX3_number 65 = .ok (.l2i, 1) := dk_136 (dk_at dksX3_number_2 17 rfl rfl)
theorem dX3_number_66 : decode cX3_number 66 = .ok (.ireturn, 1) := dk_172 (dk_at dksX3_number_2 18 rfl rfl)
abbrev cX3_numberByHand : ByteArray := prog_12_method_22_code
def yX3_numberByHand : MethodName := ⟨RX3, "numberByHand", "(III)I"⟩
def dkwX3_numberByHand_0 : List UInt8 := [42, 27, 28, 29, 182, 0, 131, 172]
abbrev dktX3_numberByHand_0 : List UInt8 := dkwX3_numberByHand_0 ++ []
theorem dksX3_numberByHand_0 : cX3_numberByHand.data.toList.drop 0 = dktX3_numberByHand_0 := by decide +kernel
theorem dX3_numberByHand_0 : decode cX3_numberByHand 0 = .ok (.aload_n 0, 1) := dk_42 (dk_at dksX3_numberByHand_0 0 rfl rfl)
theorem dX3_numberByHand_1 : decode cX3_numberByHand 1 = .ok (.iload_n 1, 1) := dk_27 (dk_at dksX3_numberByHand_0 1 rfl rfl)
theorem dX3_numberByHand_2 : decode cX3_numberByHand 2 = .ok (.iload_n 2, 1) := dk_28 (dk_at dksX3_numberByHand_0 2 rfl rfl)
theorem dX3_numberByHand_3 : decode cX3_numberByHand 3 = .ok (.iload_n 3, 1) := dk_29 (dk_at dksX3_numberByHand_0 3 rfl rfl)
theorem dX3_numberByHand_4 : decode cX3_numberByHand 4 = .ok (.invokevirtual 131, 3) := dk_182 0 131 (dk_at dksX3_numberByHand_0 4 rfl rfl)
theorem dX3_numberByHand_7 : decode cX3_numberByHand 7 = .ok (.ireturn, 1) := dk_172 (dk_at dksX3_numberByHand_0 7 rfl rfl)
abbrev cX3_year : ByteArray := prog_12_method_23_code
def yX3_year : MethodName := ⟨RX3, "year", "(II)J"⟩
def dkwX3_year_3 : List UInt8 := [66, 132, 5, 1, 167, 255, 212, 42, 180, 0, 61, 158, 0, 7, 9, 167, 0, 4, 33, 173]
abbrev dktX3_year_3 : List UInt8 := dkwX3_year_3 ++ []
def dkwX3_year_2 : List UInt8 := [28, 21, 5, 16, 6, 182, 0, 106, 154, 0, 8, 42, 5, 181, 0, 61, 33, 42, 180, 0, 57, 28, 47, 97]
abbrev dktX3_year_2 : List UInt8 := dkwX3_year_2 ++ dktX3_year_3
def dkwX3_year_1 : List UInt8 := [181, 0, 61, 9, 66, 3, 54, 5, 21, 5, 16, 12, 162, 0, 43, 42, 180, 0, 61, 154, 0, 36, 42, 27]
abbrev dktX3_year_1 : List UInt8 := dkwX3_year_1 ++ dktX3_year_2
def dkwX3_year_0 : List UInt8 := [42, 42, 27, 182, 0, 118, 153, 0, 11, 42, 28, 182, 0, 128, 154, 0, 7, 4, 167, 0, 4, 3]
abbrev dktX3_year_0 : List UInt8 := dkwX3_year_0 ++ dktX3_year_1
theorem dksX3_year_0 : cX3_year.data.toList.drop 0 = dktX3_year_0 := by decide +kernel
theorem dksX3_year_1 : cX3_year.data.toList.drop 22 = dktX3_year_1 := dk_seg dksX3_year_0 22 rfl rfl
theorem dksX3_year_2 : cX3_year.data.toList.drop 46 = dktX3_year_2 := dk_seg dksX3_year_1 24 rfl rfl
theorem dksX3_year_3 : cX3_year.data.toList.drop 70 = dktX3_year_3 := dk_seg dksX3_year_2 24 rfl rfl
theorem dX3_year_0 : decode cX3_year 0 = .ok (.aload_n 0, 1) := dk_42 (dk_at dksX3_year_0 0 rfl rfl)
theorem dX3_year_1 : decode cX3_year 1 = .ok (.aload_n 0, 1) := dk_42 (dk_at dksX3_year_0 1 rfl rfl)
theorem dX3_year_2 : decode cX3_year 2 = .ok (.iload_n 1, 1) := dk_27 (dk_at dksX3_year_0 2 rfl rfl)
theorem dX3_year_3 : decode cX3_year 3 = .ok (.invokevirtual 118, 3) := dk_182 0 118 (dk_at dksX3_year_0 3 rfl rfl)
theorem dX3_year_6 : decode cX3_year 6 = .ok (.ifCond .eq 11, 3) := dk_153 0 11 (dk_at dksX3_year_0 6 rfl rfl)
theorem dX3_year_9 : decode cX3_year 9 = .ok (.aload_n 0, 1) := dk_42 (dk_at dksX3_year_0 9 rfl rfl)
theorem dX3_year_10 : decode cX3_year 10 = .ok (.iload_n 2, 1) := dk_28 (dk_at dksX3_year_0 10 rfl rfl)
theorem dX3_year_11 : decode cX3_year 11 = .ok (.invokevirtual 128, 3) := dk_182 0 128 (dk_at dksX3_year_0 11 rfl rfl)
theorem dX3_year_14 : decode cX3_year 14 = .ok (.ifCond .ne 7, 3) := dk_154 0 7 (dk_at dksX3_year_0 14 rfl rfl)
theorem dX3_year_17 : decode cX3_year 17 = .ok (.iconst 1, 1) := dk_4 (dk_at dksX3_year_0 17 rfl rfl)
theorem dX3_year_18 : decode cX3_year 18 = .ok (.goto 4, 3) := dk_167 0 4 (dk_at dksX3_year_0 18 rfl rfl)
theorem dX3_year_21 : decode cX3_year 21 = .ok (.iconst 0, 1) := dk_3 (dk_at dksX3_year_0 21 rfl rfl)
theorem dX3_year_22 : decode cX3_year 22 = .ok (.putfield 61, 3) := dk_181 0 61 (dk_at dksX3_year_1 0 rfl rfl)
theorem dX3_year_25 : decode cX3_year 25 = .ok (.lconst 0, 1) := dk_9 (dk_at dksX3_year_1 3 rfl rfl)
theorem dX3_year_26 : decode cX3_year 26 = .ok (.lstore_n 3, 1) := dk_66 (dk_at dksX3_year_1 4 rfl rfl)
theorem dX3_year_27 : decode cX3_year 27 = .ok (.iconst 0, 1) := dk_3 (dk_at dksX3_year_1 5 rfl rfl)
theorem dX3_year_28 : decode cX3_year 28 = .ok (.istore 5, 2) := dk_54 5 (dk_at dksX3_year_1 6 rfl rfl)
theorem dX3_year_30 : decode cX3_year 30 = .ok (.iload 5, 2) := dk_21 5 (dk_at dksX3_year_1 8 rfl rfl)
theorem dX3_year_32 : decode cX3_year 32 = .ok (.bipush 12, 2) := dk_16 12 (dk_at dksX3_year_1 10 rfl rfl)
theorem dX3_year_34 : decode cX3_year 34 = .ok (.if_icmp .ge 43, 3) := dk_162 0 43 (dk_at dksX3_year_1 12 rfl rfl)
theorem dX3_year_37 : decode cX3_year 37 = .ok (.aload_n 0, 1) := dk_42 (dk_at dksX3_year_1 15 rfl rfl)
theorem dX3_year_38 : decode cX3_year 38 = .ok (.getfield 61, 3) := dk_180 0 61 (dk_at dksX3_year_1 16 rfl rfl)
theorem dX3_year_41 : decode cX3_year 41 = .ok (.ifCond .ne 36, 3) := dk_154 0 36 (dk_at dksX3_year_1 19 rfl rfl)
theorem dX3_year_44 : decode cX3_year 44 = .ok (.aload_n 0, 1) := dk_42 (dk_at dksX3_year_1 22 rfl rfl)
theorem dX3_year_45 : decode cX3_year 45 = .ok (.iload_n 1, 1) := dk_27 (dk_at dksX3_year_1 23 rfl rfl)
theorem dX3_year_46 : decode cX3_year 46 = .ok (.iload_n 2, 1) := dk_28 (dk_at dksX3_year_2 0 rfl rfl)
theorem dX3_year_47 : decode cX3_year 47 = .ok (.iload 5, 2) := dk_21 5 (dk_at dksX3_year_2 1 rfl rfl)
theorem dX3_year_49 : decode cX3_year 49 = .ok (.bipush 6, 2) := dk_16 6 (dk_at dksX3_year_2 3 rfl rfl)
theorem dX3_year_51 : decode cX3_year 51 = .ok (.invokevirtual 106, 3) := dk_182 0 106 (dk_at dksX3_year_2 5 rfl rfl)
theorem dX3_year_54 : decode cX3_year 54 = .ok (.ifCond .ne 8, 3) := dk_154 0 8 (dk_at dksX3_year_2 8 rfl rfl)
theorem dX3_year_57 : decode cX3_year 57 = .ok (.aload_n 0, 1) := dk_42 (dk_at dksX3_year_2 11 rfl rfl)
theorem dX3_year_58 : decode cX3_year 58 = .ok (.iconst 2, 1) := dk_5 (dk_at dksX3_year_2 12 rfl rfl)
theorem dX3_year_59 : decode cX3_year 59 = .ok (.putfield 61, 3) := dk_181 0 61 (dk_at dksX3_year_2 13 rfl rfl)
theorem dX3_year_62 : decode cX3_year 62 = .ok (.lload_n 3, 1) := dk_33 (dk_at dksX3_year_2 16 rfl rfl)
theorem dX3_year_63 : decode cX3_year 63 = .ok (.aload_n 0, 1) := dk_42 (dk_at dksX3_year_2 17 rfl rfl)
theorem dX3_year_64 : decode cX3_year 64 = .ok (.getfield 57, 3) := dk_180 0 57 (dk_at dksX3_year_2 18 rfl rfl)
theorem dX3_year_67 : decode cX3_year 67 = .ok (.iload_n 2, 1) := dk_28 (dk_at dksX3_year_2 21 rfl rfl)
theorem dX3_year_68 : decode cX3_year 68 = .ok (.laload, 1) := dk_47 (dk_at dksX3_year_2 22 rfl rfl)
theorem dX3_year_69 : decode cX3_year 69 = .ok (.ladd, 1) := dk_97 (dk_at dksX3_year_2 23 rfl rfl)
theorem dX3_year_70 : decode cX3_year 70 = .ok (.lstore_n 3, 1) := dk_66 (dk_at dksX3_year_3 0 rfl rfl)
theorem dX3_year_71 : decode cX3_year 71 = .ok (.iinc 5 1, 3) := dk_132 5 1 (dk_at dksX3_year_3 1 rfl rfl)
theorem dX3_year_74 : decode cX3_year 74 = .ok (.goto (-44), 3) := dk_167 255 212 (dk_at dksX3_year_3 4 rfl rfl)
theorem dX3_year_77 : decode cX3_year 77 = .ok (.aload_n 0, 1) := dk_42 (dk_at dksX3_year_3 7 rfl rfl)
theorem dX3_year_78 : decode cX3_year 78 = .ok (.getfield 61, 3) := dk_180 0 61 (dk_at dksX3_year_3 8 rfl rfl)
theorem dX3_year_81 : decode cX3_year 81 = .ok (.ifCond .le 7, 3) := dk_158 0 7 (dk_at dksX3_year_3 11 rfl rfl)
theorem dX3_year_84 : decode cX3_year 84 = .ok (.lconst 0, 1) := dk_9 (dk_at dksX3_year_3 14 rfl rfl)
theorem dX3_year_85 : decode cX3_year 85 = .ok (.goto 4, 3) := dk_167 0 4 (dk_at dksX3_year_3 15 rfl rfl)
theorem dX3_year_88 : decode cX3_year 88 = .ok (.lload_n 3, 1) := dk_33 (dk_at dksX3_year_3 18 rfl rfl)
theorem dX3_year_89 : decode cX3_year 89 = .ok (.lreturn, 1) := dk_173 (dk_at dksX3_year_3 19 rfl rfl)
abbrev cX3_effect : ByteArray := prog_12_method_24_code
def yX3_effect : MethodName := ⟨RX3, "effect", "(IIII)I"⟩
def dkwX3_effect_5 : List UInt8 := [180, 0, 57, 29, 47, 101, 136, 172]
abbrev dktX3_effect_5 : List UInt8 := dkwX3_effect_5 ++ []
def dkwX3_effect_4 : List UInt8 := [3, 167, 0, 4, 5, 181, 0, 61, 42, 180, 0, 61, 158, 0, 7, 3, 167, 0, 13, 22, 6, 42]
abbrev dktX3_effect_4 : List UInt8 := dkwX3_effect_4 ++ dktX3_effect_5
def dkwX3_effect_3 : List UInt8 := [55, 6, 42, 27, 29, 21, 4, 28, 182, 0, 106, 54, 8, 42, 21, 5, 153, 0, 12, 21, 8, 153, 0, 7]
abbrev dktX3_effect_3 : List UInt8 := dkwX3_effect_3 ++ dktX3_effect_4
def dkwX3_effect_2 : List UInt8 := [158, 0, 5, 3, 172, 42, 27, 29, 21, 4, 28, 4, 96, 182, 0, 106, 54, 5, 42, 180, 0, 57, 29, 47]
abbrev dktX3_effect_2 : List UInt8 := dkwX3_effect_2 ++ dktX3_effect_3
def dkwX3_effect_1 : List UInt8 := [153, 0, 11, 21, 4, 184, 0, 121, 154, 0, 7, 4, 167, 0, 4, 3, 181, 0, 61, 42, 180, 0, 61]
abbrev dktX3_effect_1 : List UInt8 := dkwX3_effect_1 ++ dktX3_effect_2
def dkwX3_effect_0 : List UInt8 := [42, 42, 27, 182, 0, 118, 153, 0, 27, 42, 28, 182, 0, 110, 153, 0, 19, 42, 29, 182, 0, 128]
abbrev dktX3_effect_0 : List UInt8 := dkwX3_effect_0 ++ dktX3_effect_1
theorem dksX3_effect_0 : cX3_effect.data.toList.drop 0 = dktX3_effect_0 := by decide +kernel
theorem dksX3_effect_1 : cX3_effect.data.toList.drop 22 = dktX3_effect_1 := dk_seg dksX3_effect_0 22 rfl rfl
theorem dksX3_effect_2 : cX3_effect.data.toList.drop 45 = dktX3_effect_2 := dk_seg dksX3_effect_1 23 rfl rfl
theorem dksX3_effect_3 : cX3_effect.data.toList.drop 69 = dktX3_effect_3 := dk_seg dksX3_effect_2 24 rfl rfl
theorem dksX3_effect_4 : cX3_effect.data.toList.drop 93 = dktX3_effect_4 := dk_seg dksX3_effect_3 24 rfl rfl
theorem dksX3_effect_5 : cX3_effect.data.toList.drop 115 = dktX3_effect_5 := dk_seg dksX3_effect_4 22 rfl rfl
theorem dX3_effect_0 : decode cX3_effect 0 = .ok (.aload_n 0, 1) := dk_42 (dk_at dksX3_effect_0 0 rfl rfl)
theorem dX3_effect_1 : decode cX3_effect 1 = .ok (.aload_n 0, 1) := dk_42 (dk_at dksX3_effect_0 1 rfl rfl)
theorem dX3_effect_2 : decode cX3_effect 2 = .ok (.iload_n 1, 1) := dk_27 (dk_at dksX3_effect_0 2 rfl rfl)
theorem dX3_effect_3 : decode cX3_effect 3 = .ok (.invokevirtual 118, 3) := dk_182 0 118 (dk_at dksX3_effect_0 3 rfl rfl)
theorem dX3_effect_6 : decode cX3_effect 6 = .ok (.ifCond .eq 27, 3) := dk_153 0 27 (dk_at dksX3_effect_0 6 rfl rfl)
theorem dX3_effect_9 : decode cX3_effect 9 = .ok (.aload_n 0, 1) := dk_42 (dk_at dksX3_effect_0 9 rfl rfl)
theorem dX3_effect_10 : decode cX3_effect 10 = .ok (.iload_n 2, 1) := dk_28 (dk_at dksX3_effect_0 10 rfl rfl)
theorem dX3_effect_11 : decode cX3_effect 11 = .ok (.invokevirtual 110, 3) := dk_182 0 110 (dk_at dksX3_effect_0 11 rfl rfl)
theorem dX3_effect_14 : decode cX3_effect 14 = .ok (.ifCond .eq 19, 3) := dk_153 0 19 (dk_at dksX3_effect_0 14 rfl rfl)
theorem dX3_effect_17 : decode cX3_effect 17 = .ok (.aload_n 0, 1) := dk_42 (dk_at dksX3_effect_0 17 rfl rfl)
theorem dX3_effect_18 : decode cX3_effect 18 = .ok (.iload_n 3, 1) := dk_29 (dk_at dksX3_effect_0 18 rfl rfl)
theorem dX3_effect_19 : decode cX3_effect 19 = .ok (.invokevirtual 128, 3) := dk_182 0 128 (dk_at dksX3_effect_0 19 rfl rfl)
theorem dX3_effect_22 : decode cX3_effect 22 = .ok (.ifCond .eq 11, 3) := dk_153 0 11 (dk_at dksX3_effect_1 0 rfl rfl)
theorem dX3_effect_25 : decode cX3_effect 25 = .ok (.iload 4, 2) := dk_21 4 (dk_at dksX3_effect_1 3 rfl rfl)
theorem dX3_effect_27 : decode cX3_effect 27 = .ok (.invokestatic 121, 3) := dk_184 0 121 (dk_at dksX3_effect_1 5 rfl rfl)
theorem dX3_effect_30 : decode cX3_effect 30 = .ok (.ifCond .ne 7, 3) := dk_154 0 7 (dk_at dksX3_effect_1 8 rfl rfl)
theorem dX3_effect_33 : decode cX3_effect 33 = .ok (.iconst 1, 1) := dk_4 (dk_at dksX3_effect_1 11 rfl rfl)
theorem dX3_effect_34 : decode cX3_effect 34 = .ok (.goto 4, 3) := dk_167 0 4 (dk_at dksX3_effect_1 12 rfl rfl)
theorem dX3_effect_37 : decode cX3_effect 37 = .ok (.iconst 0, 1) := dk_3 (dk_at dksX3_effect_1 15 rfl rfl)
theorem dX3_effect_38 : decode cX3_effect 38 = .ok (.putfield 61, 3) := dk_181 0 61 (dk_at dksX3_effect_1 16 rfl rfl)
theorem dX3_effect_41 : decode cX3_effect 41 = .ok (.aload_n 0, 1) := dk_42 (dk_at dksX3_effect_1 19 rfl rfl)
theorem dX3_effect_42 : decode cX3_effect 42 = .ok (.getfield 61, 3) := dk_180 0 61 (dk_at dksX3_effect_1 20 rfl rfl)
theorem dX3_effect_45 : decode cX3_effect 45 = .ok (.ifCond .le 5, 3) := dk_158 0 5 (dk_at dksX3_effect_2 0 rfl rfl)
theorem dX3_effect_48 : decode cX3_effect 48 = .ok (.iconst 0, 1) := dk_3 (dk_at dksX3_effect_2 3 rfl rfl)
theorem dX3_effect_49 : decode cX3_effect 49 = .ok (.ireturn, 1) := dk_172 (dk_at dksX3_effect_2 4 rfl rfl)
theorem dX3_effect_50 : decode cX3_effect 50 = .ok (.aload_n 0, 1) := dk_42 (dk_at dksX3_effect_2 5 rfl rfl)
theorem dX3_effect_51 : decode cX3_effect 51 = .ok (.iload_n 1, 1) := dk_27 (dk_at dksX3_effect_2 6 rfl rfl)
theorem dX3_effect_52 : decode cX3_effect 52 = .ok (.iload_n 3, 1) := dk_29 (dk_at dksX3_effect_2 7 rfl rfl)
theorem dX3_effect_53 : decode cX3_effect 53 = .ok (.iload 4, 2) := dk_21 4 (dk_at dksX3_effect_2 8 rfl rfl)
theorem dX3_effect_55 : decode cX3_effect 55 = .ok (.iload_n 2, 1) := dk_28 (dk_at dksX3_effect_2 10 rfl rfl)
theorem dX3_effect_56 : decode cX3_effect 56 = .ok (.iconst 1, 1) := dk_4 (dk_at dksX3_effect_2 11 rfl rfl)
theorem dX3_effect_57 : decode cX3_effect 57 = .ok (.iadd, 1) := dk_96 (dk_at dksX3_effect_2 12 rfl rfl)
theorem dX3_effect_58 : decode cX3_effect 58 = .ok (.invokevirtual 106, 3) := dk_182 0 106 (dk_at dksX3_effect_2 13 rfl rfl)
theorem dX3_effect_61 : decode cX3_effect 61 = .ok (.istore 5, 2) := dk_54 5 (dk_at dksX3_effect_2 16 rfl rfl)
theorem dX3_effect_63 : decode cX3_effect 63 = .ok (.aload_n 0, 1) := dk_42 (dk_at dksX3_effect_2 18 rfl rfl)
theorem dX3_effect_64 : decode cX3_effect 64 = .ok (.getfield 57, 3) := dk_180 0 57 (dk_at dksX3_effect_2 19 rfl rfl)
theorem dX3_effect_67 : decode cX3_effect 67 = .ok (.iload_n 3, 1) := dk_29 (dk_at dksX3_effect_2 22 rfl rfl)
theorem dX3_effect_68 : decode cX3_effect 68 = .ok (.laload, 1) := dk_47 (dk_at dksX3_effect_2 23 rfl rfl)
theorem dX3_effect_69 : decode cX3_effect 69 = .ok (.lstore 6, 2) := dk_55 6 (dk_at dksX3_effect_3 0 rfl rfl)
theorem dX3_effect_71 : decode cX3_effect 71 = .ok (.aload_n 0, 1) := dk_42 (dk_at dksX3_effect_3 2 rfl rfl)
theorem dX3_effect_72 : decode cX3_effect 72 = .ok (.iload_n 1, 1) := dk_27 (dk_at dksX3_effect_3 3 rfl rfl)
theorem dX3_effect_73 : decode cX3_effect 73 = .ok (.iload_n 3, 1) := dk_29 (dk_at dksX3_effect_3 4 rfl rfl)
theorem dX3_effect_74 : decode cX3_effect 74 = .ok (.iload 4, 2) := dk_21 4 (dk_at dksX3_effect_3 5 rfl rfl)
theorem dX3_effect_76 : decode cX3_effect 76 = .ok (.iload_n 2, 1) := dk_28 (dk_at dksX3_effect_3 7 rfl rfl)
theorem dX3_effect_77 : decode cX3_effect 77 = .ok (.invokevirtual 106, 3) := dk_182 0 106 (dk_at dksX3_effect_3 8 rfl rfl)
theorem dX3_effect_80 : decode cX3_effect 80 = .ok (.istore 8, 2) := dk_54 8 (dk_at dksX3_effect_3 11 rfl rfl)
theorem dX3_effect_82 : decode cX3_effect 82 = .ok (.aload_n 0, 1) := dk_42 (dk_at dksX3_effect_3 13 rfl rfl)
theorem dX3_effect_83 : decode cX3_effect 83 = .ok (.iload 5, 2) := dk_21 5 (dk_at dksX3_effect_3 14 rfl rfl)
theorem dX3_effect_85 : decode cX3_effect 85 = .ok (.ifCond .eq 12, 3) := dk_153 0 12 (dk_at dksX3_effect_3 16 rfl rfl)
theorem dX3_effect_88 : decode cX3_effect 88 = .ok (.iload 8, 2) := dk_21 8 (dk_at dksX3_effect_3 19 rfl rfl)
theorem dX3_effect_90 : decode cX3_effect 90 = .ok (.ifCond .eq 7, 3) := dk_153 0 7 (dk_at dksX3_effect_3 21 rfl rfl)
theorem dX3_effect_93 : decode cX3_effect 93 = .ok (.iconst 0, 1) := dk_3 (dk_at dksX3_effect_4 0 rfl rfl)
theorem dX3_effect_94 : decode cX3_effect 94 = .ok (.goto 4, 3) := dk_167 0 4 (dk_at dksX3_effect_4 1 rfl rfl)
theorem dX3_effect_97 : decode cX3_effect 97 = .ok (.iconst 2, 1) := dk_5 (dk_at dksX3_effect_4 4 rfl rfl)
theorem dX3_effect_98 : decode cX3_effect 98 = .ok (.putfield 61, 3) := dk_181 0 61 (dk_at dksX3_effect_4 5 rfl rfl)
theorem dX3_effect_101 : decode cX3_effect 101 = .ok (.aload_n 0, 1) := dk_42 (dk_at dksX3_effect_4 8 rfl rfl)
theorem dX3_effect_102 : decode cX3_effect 102 = .ok (.getfield 61, 3) := dk_180 0 61 (dk_at dksX3_effect_4 9 rfl rfl)
theorem dX3_effect_105 : decode cX3_effect 105 = .ok (.ifCond .le 7, 3) := dk_158 0 7 (dk_at dksX3_effect_4 12 rfl rfl)
theorem dX3_effect_108 : decode cX3_effect 108 = .ok (.iconst 0, 1) := dk_3 (dk_at dksX3_effect_4 15 rfl rfl)
theorem dX3_effect_109 : decode cX3_effect 109 = .ok (.goto 13, 3) := dk_167 0 13 (dk_at dksX3_effect_4 16 rfl rfl)
theorem dX3_effect_112 : decode cX3_effect 112 = .ok (.lload 6, 2) := dk_22 6 (dk_at dksX3_effect_4 19 rfl rfl)
theorem dX3_effect_114 : decode cX3_effect 114 = .ok (.aload_n 0, 1) := dk_42 (dk_at dksX3_effect_4 21 rfl rfl)
theorem dX3_effect_115 : decode cX3_effect 115 = .ok (.getfield 57, 3) := dk_180 0 57 (dk_at dksX3_effect_5 0 rfl rfl)
theorem dX3_effect_118 : decode cX3_effect 118 = .ok (.iload_n 3, 1) := dk_29 (dk_at dksX3_effect_5 3 rfl rfl)
theorem dX3_effect_119 : decode cX3_effect 119 = .ok (.laload, 1) := dk_47 (dk_at dksX3_effect_5 4 rfl rfl)
theorem dX3_effect_120 : decode cX3_effect 120 = .ok (.lsub, 1) := dk_101 (dk_at dksX3_effect_5 5 rfl rfl)
theorem dX3_effect_121 : decode cX3_effect 121 = .ok (.l2i, 1) := dk_136 (dk_at dksX3_effect_5 6 rfl rfl)
theorem dX3_effect_122 : decode cX3_effect 122 = .ok (.ireturn, 1) := dk_172 (dk_at dksX3_effect_5 7 rfl rfl)
abbrev cX3_seek : ByteArray := prog_12_method_25_code
def yX3_seek : MethodName := ⟨RX3, "seek", "(IIII)I"⟩
def dkwX3_seek_5 : List UInt8 := [5, 167, 0, 4, 3, 181, 0, 61, 42, 180, 0, 61, 158, 0, 7, 3, 167, 0, 5, 21, 6, 172]
abbrev dktX3_seek_5 : List UInt8 := dkwX3_seek_5 ++ []
def dkwX3_seek_4 : List UInt8 := [21, 7, 54, 6, 132, 7, 255, 167, 255, 211, 42, 180, 0, 7, 27, 21, 5, 79, 42, 21, 6, 156, 0, 7]
abbrev dktX3_seek_4 : List UInt8 := dkwX3_seek_4 ++ dktX3_seek_5
def dkwX3_seek_3 : List UInt8 := [3, 28, 29, 16, 6, 182, 0, 106, 153, 0, 20, 42, 180, 0, 57, 28, 47, 21, 4, 133, 148, 155, 0, 7]
abbrev dktX3_seek_3 : List UInt8 := dkwX3_seek_3 ++ dktX3_seek_4
def dkwX3_seek_2 : List UInt8 := [54, 5, 2, 54, 6, 17, 3, 231, 54, 7, 21, 7, 155, 0, 46, 42, 180, 0, 7, 27, 21, 7, 79, 42]
abbrev dktX3_seek_2 : List UInt8 := dkwX3_seek_2 ++ dktX3_seek_3
def dkwX3_seek_1 : List UInt8 := [4, 167, 0, 4, 3, 181, 0, 61, 42, 180, 0, 61, 158, 0, 5, 3, 172, 42, 180, 0, 7, 27, 46]
abbrev dktX3_seek_1 : List UInt8 := dkwX3_seek_1 ++ dktX3_seek_2
def dkwX3_seek_0 : List UInt8 := [42, 42, 27, 182, 0, 110, 153, 0, 18, 42, 28, 182, 0, 128, 153, 0, 10, 29, 184, 0, 121, 154, 0, 7]
abbrev dktX3_seek_0 : List UInt8 := dkwX3_seek_0 ++ dktX3_seek_1
theorem dksX3_seek_0 : cX3_seek.data.toList.drop 0 = dktX3_seek_0 := by decide +kernel
theorem dksX3_seek_1 : cX3_seek.data.toList.drop 24 = dktX3_seek_1 := dk_seg dksX3_seek_0 24 rfl rfl
theorem dksX3_seek_2 : cX3_seek.data.toList.drop 47 = dktX3_seek_2 := dk_seg dksX3_seek_1 23 rfl rfl
theorem dksX3_seek_3 : cX3_seek.data.toList.drop 71 = dktX3_seek_3 := dk_seg dksX3_seek_2 24 rfl rfl
theorem dksX3_seek_4 : cX3_seek.data.toList.drop 95 = dktX3_seek_4 := dk_seg dksX3_seek_3 24 rfl rfl
theorem dksX3_seek_5 : cX3_seek.data.toList.drop 119 = dktX3_seek_5 := dk_seg dksX3_seek_4 24 rfl rfl
theorem dX3_seek_0 : decode cX3_seek 0 = .ok (.aload_n 0, 1) := dk_42 (dk_at dksX3_seek_0 0 rfl rfl)
theorem dX3_seek_1 : decode cX3_seek 1 = .ok (.aload_n 0, 1) := dk_42 (dk_at dksX3_seek_0 1 rfl rfl)
theorem dX3_seek_2 : decode cX3_seek 2 = .ok (.iload_n 1, 1) := dk_27 (dk_at dksX3_seek_0 2 rfl rfl)
theorem dX3_seek_3 : decode cX3_seek 3 = .ok (.invokevirtual 110, 3) := dk_182 0 110 (dk_at dksX3_seek_0 3 rfl rfl)
theorem dX3_seek_6 : decode cX3_seek 6 = .ok (.ifCond .eq 18, 3) := dk_153 0 18 (dk_at dksX3_seek_0 6 rfl rfl)
theorem dX3_seek_9 : decode cX3_seek 9 = .ok (.aload_n 0, 1) := dk_42 (dk_at dksX3_seek_0 9 rfl rfl)
theorem dX3_seek_10 : decode cX3_seek 10 = .ok (.iload_n 2, 1) := dk_28 (dk_at dksX3_seek_0 10 rfl rfl)
theorem dX3_seek_11 : decode cX3_seek 11 = .ok (.invokevirtual 128, 3) := dk_182 0 128 (dk_at dksX3_seek_0 11 rfl rfl)
theorem dX3_seek_14 : decode cX3_seek 14 = .ok (.ifCond .eq 10, 3) := dk_153 0 10 (dk_at dksX3_seek_0 14 rfl rfl)
theorem dX3_seek_17 : decode cX3_seek 17 = .ok (.iload_n 3, 1) := dk_29 (dk_at dksX3_seek_0 17 rfl rfl)
theorem dX3_seek_18 : decode cX3_seek 18 = .ok (.invokestatic 121, 3) := dk_184 0 121 (dk_at dksX3_seek_0 18 rfl rfl)
theorem dX3_seek_21 : decode cX3_seek 21 = .ok (.ifCond .ne 7, 3) := dk_154 0 7 (dk_at dksX3_seek_0 21 rfl rfl)
theorem dX3_seek_24 : decode cX3_seek 24 = .ok (.iconst 1, 1) := dk_4 (dk_at dksX3_seek_1 0 rfl rfl)
theorem dX3_seek_25 : decode cX3_seek 25 = .ok (.goto 4, 3) := dk_167 0 4 (dk_at dksX3_seek_1 1 rfl rfl)
theorem dX3_seek_28 : decode cX3_seek 28 = .ok (.iconst 0, 1) := dk_3 (dk_at dksX3_seek_1 4 rfl rfl)
theorem dX3_seek_29 : decode cX3_seek 29 = .ok (.putfield 61, 3) := dk_181 0 61 (dk_at dksX3_seek_1 5 rfl rfl)
theorem dX3_seek_32 : decode cX3_seek 32 = .ok (.aload_n 0, 1) := dk_42 (dk_at dksX3_seek_1 8 rfl rfl)
theorem dX3_seek_33 : decode cX3_seek 33 = .ok (.getfield 61, 3) := dk_180 0 61 (dk_at dksX3_seek_1 9 rfl rfl)
theorem dX3_seek_36 : decode cX3_seek 36 = .ok (.ifCond .le 5, 3) := dk_158 0 5 (dk_at dksX3_seek_1 12 rfl rfl)
theorem dX3_seek_39 : decode cX3_seek 39 = .ok (.iconst 0, 1) := dk_3 (dk_at dksX3_seek_1 15 rfl rfl)
theorem dX3_seek_40 : decode cX3_seek 40 = .ok (.ireturn, 1) := dk_172 (dk_at dksX3_seek_1 16 rfl rfl)
theorem dX3_seek_41 : decode cX3_seek 41 = .ok (.aload_n 0, 1) := dk_42 (dk_at dksX3_seek_1 17 rfl rfl)
theorem dX3_seek_42 : decode cX3_seek 42 = .ok (.getfield 7, 3) := dk_180 0 7 (dk_at dksX3_seek_1 18 rfl rfl)
theorem dX3_seek_45 : decode cX3_seek 45 = .ok (.iload_n 1, 1) := dk_27 (dk_at dksX3_seek_1 21 rfl rfl)
theorem dX3_seek_46 : decode cX3_seek 46 = .ok (.iaload, 1) := dk_46 (dk_at dksX3_seek_1 22 rfl rfl)
theorem dX3_seek_47 : decode cX3_seek 47 = .ok (.istore 5, 2) := dk_54 5 (dk_at dksX3_seek_2 0 rfl rfl)
theorem dX3_seek_49 : decode cX3_seek 49 = .ok (.iconst (-1), 1) := dk_2 (dk_at dksX3_seek_2 2 rfl rfl)
theorem dX3_seek_50 : decode cX3_seek 50 = .ok (.istore 6, 2) := dk_54 6 (dk_at dksX3_seek_2 3 rfl rfl)
theorem dX3_seek_52 : decode cX3_seek 52 = .ok (.sipush 999, 3) := dk_17 3 231 (dk_at dksX3_seek_2 5 rfl rfl)
theorem dX3_seek_55 : decode cX3_seek 55 = .ok (.istore 7, 2) := dk_54 7 (dk_at dksX3_seek_2 8 rfl rfl)
theorem dX3_seek_57 : decode cX3_seek 57 = .ok (.iload 7, 2) := dk_21 7 (dk_at dksX3_seek_2 10 rfl rfl)
theorem dX3_seek_59 : decode cX3_seek 59 = .ok (.ifCond .lt 46, 3) := dk_155 0 46 (dk_at dksX3_seek_2 12 rfl rfl)
theorem dX3_seek_62 : decode cX3_seek 62 = .ok (.aload_n 0, 1) := dk_42 (dk_at dksX3_seek_2 15 rfl rfl)
theorem dX3_seek_63 : decode cX3_seek 63 = .ok (.getfield 7, 3) := dk_180 0 7 (dk_at dksX3_seek_2 16 rfl rfl)
theorem dX3_seek_66 : decode cX3_seek 66 = .ok (.iload_n 1, 1) := dk_27 (dk_at dksX3_seek_2 19 rfl rfl)
theorem dX3_seek_67 : decode cX3_seek 67 = .ok (.iload 7, 2) := dk_21 7 (dk_at dksX3_seek_2 20 rfl rfl)
theorem dX3_seek_69 : decode cX3_seek 69 = .ok (.iastore, 1) := dk_79 (dk_at dksX3_seek_2 22 rfl rfl)
theorem dX3_seek_70 : decode cX3_seek 70 = .ok (.aload_n 0, 1) := dk_42 (dk_at dksX3_seek_2 23 rfl rfl)
theorem dX3_seek_71 : decode cX3_seek 71 = .ok (.iconst 0, 1) := dk_3 (dk_at dksX3_seek_3 0 rfl rfl)
theorem dX3_seek_72 : decode cX3_seek 72 = .ok (.iload_n 2, 1) := dk_28 (dk_at dksX3_seek_3 1 rfl rfl)
theorem dX3_seek_73 : decode cX3_seek 73 = .ok (.iload_n 3, 1) := dk_29 (dk_at dksX3_seek_3 2 rfl rfl)
theorem dX3_seek_74 : decode cX3_seek 74 = .ok (.bipush 6, 2) := dk_16 6 (dk_at dksX3_seek_3 3 rfl rfl)
theorem dX3_seek_76 : decode cX3_seek 76 = .ok (.invokevirtual 106, 3) := dk_182 0 106 (dk_at dksX3_seek_3 5 rfl rfl)
theorem dX3_seek_79 : decode cX3_seek 79 = .ok (.ifCond .eq 20, 3) := dk_153 0 20 (dk_at dksX3_seek_3 8 rfl rfl)
theorem dX3_seek_82 : decode cX3_seek 82 = .ok (.aload_n 0, 1) := dk_42 (dk_at dksX3_seek_3 11 rfl rfl)
theorem dX3_seek_83 : decode cX3_seek 83 = .ok (.getfield 57, 3) := dk_180 0 57 (dk_at dksX3_seek_3 12 rfl rfl)
theorem dX3_seek_86 : decode cX3_seek 86 = .ok (.iload_n 2, 1) := dk_28 (dk_at dksX3_seek_3 15 rfl rfl)
theorem dX3_seek_87 : decode cX3_seek 87 = .ok (.laload, 1) := dk_47 (dk_at dksX3_seek_3 16 rfl rfl)
theorem dX3_seek_88 : decode cX3_seek 88 = .ok (.iload 4, 2) := dk_21 4 (dk_at dksX3_seek_3 17 rfl rfl)
theorem dX3_seek_90 : decode cX3_seek 90 = .ok (.i2l, 1) := dk_133 (dk_at dksX3_seek_3 19 rfl rfl)
theorem dX3_seek_91 : decode cX3_seek 91 = .ok (.lcmp, 1) := dk_148 (dk_at dksX3_seek_3 20 rfl rfl)
theorem dX3_seek_92 : decode cX3_seek 92 = .ok (.ifCond .lt 7, 3) := dk_155 0 7 (dk_at dksX3_seek_3 21 rfl rfl)
theorem dX3_seek_95 : decode cX3_seek 95 = .ok (.iload 7, 2) := dk_21 7 (dk_at dksX3_seek_4 0 rfl rfl)
theorem dX3_seek_97 : decode cX3_seek 97 = .ok (.istore 6, 2) := dk_54 6 (dk_at dksX3_seek_4 2 rfl rfl)
theorem dX3_seek_99 : decode cX3_seek 99 = .ok (.iinc 7 (-1), 3) := dk_132 7 255 (dk_at dksX3_seek_4 4 rfl rfl)
theorem dX3_seek_102 : decode cX3_seek 102 = .ok (.goto (-45), 3) := dk_167 255 211 (dk_at dksX3_seek_4 7 rfl rfl)
theorem dX3_seek_105 : decode cX3_seek 105 = .ok (.aload_n 0, 1) := dk_42 (dk_at dksX3_seek_4 10 rfl rfl)
theorem dX3_seek_106 : decode cX3_seek 106 = .ok (.getfield 7, 3) := dk_180 0 7 (dk_at dksX3_seek_4 11 rfl rfl)
theorem dX3_seek_109 : decode cX3_seek 109 = .ok (.iload_n 1, 1) := dk_27 (dk_at dksX3_seek_4 14 rfl rfl)
theorem dX3_seek_110 : decode cX3_seek 110 = .ok (.iload 5, 2) := dk_21 5 (dk_at dksX3_seek_4 15 rfl rfl)
theorem dX3_seek_112 : decode cX3_seek 112 = .ok (.iastore, 1) := dk_79 (dk_at dksX3_seek_4 17 rfl rfl)
theorem dX3_seek_113 : decode cX3_seek 113 = .ok (.aload_n 0, 1) := dk_42 (dk_at dksX3_seek_4 18 rfl rfl)
theorem dX3_seek_114 : decode cX3_seek 114 = .ok (.iload 6, 2) := dk_21 6 (dk_at dksX3_seek_4 19 rfl rfl)
theorem dX3_seek_116 : decode cX3_seek 116 = .ok (.ifCond .ge 7, 3) := dk_156 0 7 (dk_at dksX3_seek_4 21 rfl rfl)
theorem dX3_seek_119 : decode cX3_seek 119 = .ok (.iconst 2, 1) := dk_5 (dk_at dksX3_seek_5 0 rfl rfl)
theorem dX3_seek_120 : decode cX3_seek 120 = .ok (.goto 4, 3) := dk_167 0 4 (dk_at dksX3_seek_5 1 rfl rfl)
theorem dX3_seek_123 : decode cX3_seek 123 = .ok (.iconst 0, 1) := dk_3 (dk_at dksX3_seek_5 4 rfl rfl)
theorem dX3_seek_124 : decode cX3_seek 124 = .ok (.putfield 61, 3) := dk_181 0 61 (dk_at dksX3_seek_5 5 rfl rfl)
theorem dX3_seek_127 : decode cX3_seek 127 = .ok (.aload_n 0, 1) := dk_42 (dk_at dksX3_seek_5 8 rfl rfl)
theorem dX3_seek_128 : decode cX3_seek 128 = .ok (.getfield 61, 3) := dk_180 0 61 (dk_at dksX3_seek_5 9 rfl rfl)
theorem dX3_seek_131 : decode cX3_seek 131 = .ok (.ifCond .le 7, 3) := dk_158 0 7 (dk_at dksX3_seek_5 12 rfl rfl)
theorem dX3_seek_134 : decode cX3_seek 134 = .ok (.iconst 0, 1) := dk_3 (dk_at dksX3_seek_5 15 rfl rfl)
theorem dX3_seek_135 : decode cX3_seek 135 = .ok (.goto 5, 3) := dk_167 0 5 (dk_at dksX3_seek_5 16 rfl rfl)
theorem dX3_seek_138 : decode cX3_seek 138 = .ok (.iload 6, 2) := dk_21 6 (dk_at dksX3_seek_5 19 rfl rfl)
theorem dX3_seek_140 : decode cX3_seek 140 = .ok (.ireturn, 1) := dk_172 (dk_at dksX3_seek_5 21 rfl rfl)
abbrev cX3_actual : ByteArray := prog_12_method_26_code
def yX3_actual : MethodName := ⟨RX3, "actual", "(III)I"⟩
def dkwX3_actual_3 : List UInt8 := [180, 0, 37, 27, 28, 184, 0, 94, 29, 79, 42, 182, 0, 114, 172]
abbrev dktX3_actual_3 : List UInt8 := dkwX3_actual_3 ++ []
def dkwX3_actual_2 : List UInt8 := [181, 0, 61, 42, 180, 0, 61, 158, 0, 5, 3, 172, 42, 180, 0, 46, 27, 28, 184, 0, 94, 4, 84, 42]
abbrev dktX3_actual_2 : List UInt8 := dkwX3_actual_2 ++ dktX3_actual_3
def dkwX3_actual_1 : List UInt8 := [180, 0, 77, 163, 0, 14, 29, 18, 135, 18, 136, 184, 0, 80, 154, 0, 7, 5, 167, 0, 4, 3]
abbrev dktX3_actual_1 : List UInt8 := dkwX3_actual_1 ++ dktX3_actual_2
def dkwX3_actual_0 : List UInt8 := [42, 42, 27, 182, 0, 128, 153, 0, 10, 28, 184, 0, 121, 154, 0, 7, 4, 167, 0, 27, 28, 42]
abbrev dktX3_actual_0 : List UInt8 := dkwX3_actual_0 ++ dktX3_actual_1
theorem dksX3_actual_0 : cX3_actual.data.toList.drop 0 = dktX3_actual_0 := by decide +kernel
theorem dksX3_actual_1 : cX3_actual.data.toList.drop 22 = dktX3_actual_1 := dk_seg dksX3_actual_0 22 rfl rfl
theorem dksX3_actual_2 : cX3_actual.data.toList.drop 44 = dktX3_actual_2 := dk_seg dksX3_actual_1 22 rfl rfl
theorem dksX3_actual_3 : cX3_actual.data.toList.drop 68 = dktX3_actual_3 := dk_seg dksX3_actual_2 24 rfl rfl
theorem dX3_actual_0 : decode cX3_actual 0 = .ok (.aload_n 0, 1) := dk_42 (dk_at dksX3_actual_0 0 rfl rfl)
theorem dX3_actual_1 : decode cX3_actual 1 = .ok (.aload_n 0, 1) := dk_42 (dk_at dksX3_actual_0 1 rfl rfl)
theorem dX3_actual_2 : decode cX3_actual 2 = .ok (.iload_n 1, 1) := dk_27 (dk_at dksX3_actual_0 2 rfl rfl)
theorem dX3_actual_3 : decode cX3_actual 3 = .ok (.invokevirtual 128, 3) := dk_182 0 128 (dk_at dksX3_actual_0 3 rfl rfl)
theorem dX3_actual_6 : decode cX3_actual 6 = .ok (.ifCond .eq 10, 3) := dk_153 0 10 (dk_at dksX3_actual_0 6 rfl rfl)
theorem dX3_actual_9 : decode cX3_actual 9 = .ok (.iload_n 2, 1) := dk_28 (dk_at dksX3_actual_0 9 rfl rfl)
theorem dX3_actual_10 : decode cX3_actual 10 = .ok (.invokestatic 121, 3) := dk_184 0 121 (dk_at dksX3_actual_0 10 rfl rfl)
theorem dX3_actual_13 : decode cX3_actual 13 = .ok (.ifCond .ne 7, 3) := dk_154 0 7 (dk_at dksX3_actual_0 13 rfl rfl)
theorem dX3_actual_16 : decode cX3_actual 16 = .ok (.iconst 1, 1) := dk_4 (dk_at dksX3_actual_0 16 rfl rfl)
theorem dX3_actual_17 : decode cX3_actual 17 = .ok (.goto 27, 3) := dk_167 0 27 (dk_at dksX3_actual_0 17 rfl rfl)
theorem dX3_actual_20 : decode cX3_actual 20 = .ok (.iload_n 2, 1) := dk_28 (dk_at dksX3_actual_0 20 rfl rfl)
theorem dX3_actual_21 : decode cX3_actual 21 = .ok (.aload_n 0, 1) := dk_42 (dk_at dksX3_actual_0 21 rfl rfl)
theorem dX3_actual_22 : decode cX3_actual 22 = .ok (.getfield 77, 3) := dk_180 0 77 (dk_at dksX3_actual_1 0 rfl rfl)
theorem dX3_actual_25 : decode cX3_actual 25 = .ok (.if_icmp .gt 14, 3) := dk_163 0 14 (dk_at dksX3_actual_1 3 rfl rfl)
theorem dX3_actual_28 : decode cX3_actual 28 = .ok (.iload_n 3, 1) := dk_29 (dk_at dksX3_actual_1 6 rfl rfl)
theorem dX3_actual_29 : decode cX3_actual 29 = .ok (.ldc 135, 2) := dk_18 135 (dk_at dksX3_actual_1 7 rfl rfl)
theorem dX3_actual_31 : decode cX3_actual 31 = .ok (.ldc 136, 2) := dk_18 136 (dk_at dksX3_actual_1 9 rfl rfl)
theorem dX3_actual_33 : decode cX3_actual 33 = .ok (.invokestatic 80, 3) := dk_184 0 80 (dk_at dksX3_actual_1 11 rfl rfl)
theorem dX3_actual_36 : decode cX3_actual 36 = .ok (.ifCond .ne 7, 3) := dk_154 0 7 (dk_at dksX3_actual_1 14 rfl rfl)
theorem dX3_actual_39 : decode cX3_actual 39 = .ok (.iconst 2, 1) := dk_5 (dk_at dksX3_actual_1 17 rfl rfl)
theorem dX3_actual_40 : decode cX3_actual 40 = .ok (.goto 4, 3) := dk_167 0 4 (dk_at dksX3_actual_1 18 rfl rfl)
theorem dX3_actual_43 : decode cX3_actual 43 = .ok (.iconst 0, 1) := dk_3 (dk_at dksX3_actual_1 21 rfl rfl)
theorem dX3_actual_44 : decode cX3_actual 44 = .ok (.putfield 61, 3) := dk_181 0 61 (dk_at dksX3_actual_2 0 rfl rfl)
theorem dX3_actual_47 : decode cX3_actual 47 = .ok (.aload_n 0, 1) := dk_42 (dk_at dksX3_actual_2 3 rfl rfl)
theorem dX3_actual_48 : decode cX3_actual 48 = .ok (.getfield 61, 3) := dk_180 0 61 (dk_at dksX3_actual_2 4 rfl rfl)
theorem dX3_actual_51 : decode cX3_actual 51 = .ok (.ifCond .le 5, 3) := dk_158 0 5 (dk_at dksX3_actual_2 7 rfl rfl)
theorem dX3_actual_54 : decode cX3_actual 54 = .ok (.iconst 0, 1) := dk_3 (dk_at dksX3_actual_2 10 rfl rfl)
theorem dX3_actual_55 : decode cX3_actual 55 = .ok (.ireturn, 1) := dk_172 (dk_at dksX3_actual_2 11 rfl rfl)
theorem dX3_actual_56 : decode cX3_actual 56 = .ok (.aload_n 0, 1) := dk_42 (dk_at dksX3_actual_2 12 rfl rfl)
theorem dX3_actual_57 : decode cX3_actual 57 = .ok (.getfield 46, 3) := dk_180 0 46 (dk_at dksX3_actual_2 13 rfl rfl)
theorem dX3_actual_60 : decode cX3_actual 60 = .ok (.iload_n 1, 1) := dk_27 (dk_at dksX3_actual_2 16 rfl rfl)
theorem dX3_actual_61 : decode cX3_actual 61 = .ok (.iload_n 2, 1) := dk_28 (dk_at dksX3_actual_2 17 rfl rfl)
theorem dX3_actual_62 : decode cX3_actual 62 = .ok (.invokestatic 94, 3) := dk_184 0 94 (dk_at dksX3_actual_2 18 rfl rfl)
theorem dX3_actual_65 : decode cX3_actual 65 = .ok (.iconst 1, 1) := dk_4 (dk_at dksX3_actual_2 21 rfl rfl)
theorem dX3_actual_66 : decode cX3_actual 66 = .ok (.bastore, 1) := dk_84 (dk_at dksX3_actual_2 22 rfl rfl)
theorem dX3_actual_67 : decode cX3_actual 67 = .ok (.aload_n 0, 1) := dk_42 (dk_at dksX3_actual_2 23 rfl rfl)
theorem dX3_actual_68 : decode cX3_actual 68 = .ok (.getfield 37, 3) := dk_180 0 37 (dk_at dksX3_actual_3 0 rfl rfl)
theorem dX3_actual_71 : decode cX3_actual 71 = .ok (.iload_n 1, 1) := dk_27 (dk_at dksX3_actual_3 3 rfl rfl)
theorem dX3_actual_72 : decode cX3_actual 72 = .ok (.iload_n 2, 1) := dk_28 (dk_at dksX3_actual_3 4 rfl rfl)
theorem dX3_actual_73 : decode cX3_actual 73 = .ok (.invokestatic 94, 3) := dk_184 0 94 (dk_at dksX3_actual_3 5 rfl rfl)
theorem dX3_actual_76 : decode cX3_actual 76 = .ok (.iload_n 3, 1) := dk_29 (dk_at dksX3_actual_3 8 rfl rfl)
theorem dX3_actual_77 : decode cX3_actual 77 = .ok (.iastore, 1) := dk_79 (dk_at dksX3_actual_3 9 rfl rfl)
theorem dX3_actual_78 : decode cX3_actual 78 = .ok (.aload_n 0, 1) := dk_42 (dk_at dksX3_actual_3 10 rfl rfl)
theorem dX3_actual_79 : decode cX3_actual 79 = .ok (.invokevirtual 114, 3) := dk_182 0 114 (dk_at dksX3_actual_3 11 rfl rfl)
theorem dX3_actual_82 : decode cX3_actual 82 = .ok (.ireturn, 1) := dk_172 (dk_at dksX3_actual_3 14 rfl rfl)
abbrev cX3_takeActual : ByteArray := prog_12_method_27_code
def yX3_takeActual : MethodName := ⟨RX3, "takeActual", "(II)I"⟩
def dkwX3_takeActual_2 : List UInt8 := [3, 172, 42, 180, 0, 46, 27, 28, 184, 0, 94, 3, 84, 42, 182, 0, 114, 172]
abbrev dktX3_takeActual_2 : List UInt8 := dkwX3_takeActual_2 ++ []
def dkwX3_takeActual_1 : List UInt8 := [27, 28, 184, 0, 94, 51, 154, 0, 7, 5, 167, 0, 4, 3, 181, 0, 61, 42, 180, 0, 61, 158, 0, 5]
abbrev dktX3_takeActual_1 : List UInt8 := dkwX3_takeActual_1 ++ dktX3_takeActual_2
def dkwX3_takeActual_0 : List UInt8 := [42, 42, 27, 182, 0, 128, 153, 0, 10, 28, 184, 0, 121, 154, 0, 7, 4, 167, 0, 21, 42, 180, 0, 46]
abbrev dktX3_takeActual_0 : List UInt8 := dkwX3_takeActual_0 ++ dktX3_takeActual_1
theorem dksX3_takeActual_0 : cX3_takeActual.data.toList.drop 0 = dktX3_takeActual_0 := by decide +kernel
theorem dksX3_takeActual_1 : cX3_takeActual.data.toList.drop 24 = dktX3_takeActual_1 := dk_seg dksX3_takeActual_0 24 rfl rfl
theorem dksX3_takeActual_2 : cX3_takeActual.data.toList.drop 48 = dktX3_takeActual_2 := dk_seg dksX3_takeActual_1 24 rfl rfl
theorem dX3_takeActual_0 : decode cX3_takeActual 0 = .ok (.aload_n 0, 1) := dk_42 (dk_at dksX3_takeActual_0 0 rfl rfl)
theorem dX3_takeActual_1 : decode cX3_takeActual 1 = .ok (.aload_n 0, 1) := dk_42 (dk_at dksX3_takeActual_0 1 rfl rfl)
theorem dX3_takeActual_2 : decode cX3_takeActual 2 = .ok (.iload_n 1, 1) := dk_27 (dk_at dksX3_takeActual_0 2 rfl rfl)
theorem dX3_takeActual_3 : decode cX3_takeActual 3 = .ok (.invokevirtual 128, 3) := dk_182 0 128 (dk_at dksX3_takeActual_0 3 rfl rfl)
theorem dX3_takeActual_6 : decode cX3_takeActual 6 = .ok (.ifCond .eq 10, 3) := dk_153 0 10 (dk_at dksX3_takeActual_0 6 rfl rfl)
theorem dX3_takeActual_9 : decode cX3_takeActual 9 = .ok (.iload_n 2, 1) := dk_28 (dk_at dksX3_takeActual_0 9 rfl rfl)
theorem dX3_takeActual_10 : decode cX3_takeActual 10 = .ok (.invokestatic 121, 3) := dk_184 0 121 (dk_at dksX3_takeActual_0 10 rfl rfl)
theorem dX3_takeActual_13 : decode cX3_takeActual 13 = .ok (.ifCond .ne 7, 3) := dk_154 0 7 (dk_at dksX3_takeActual_0 13 rfl rfl)
theorem dX3_takeActual_16 : decode cX3_takeActual 16 = .ok (.iconst 1, 1) := dk_4 (dk_at dksX3_takeActual_0 16 rfl rfl)
theorem dX3_takeActual_17 : decode cX3_takeActual 17 = .ok (.goto 21, 3) := dk_167 0 21 (dk_at dksX3_takeActual_0 17 rfl rfl)
theorem dX3_takeActual_20 : decode cX3_takeActual 20 = .ok (.aload_n 0, 1) := dk_42 (dk_at dksX3_takeActual_0 20 rfl rfl)
theorem dX3_takeActual_21 : decode cX3_takeActual 21 = .ok (.getfield 46, 3) := dk_180 0 46 (dk_at dksX3_takeActual_0 21 rfl rfl)
theorem dX3_takeActual_24 : decode cX3_takeActual 24 = .ok (.iload_n 1, 1) := dk_27 (dk_at dksX3_takeActual_1 0 rfl rfl)
theorem dX3_takeActual_25 : decode cX3_takeActual 25 = .ok (.iload_n 2, 1) := dk_28 (dk_at dksX3_takeActual_1 1 rfl rfl)
theorem dX3_takeActual_26 : decode cX3_takeActual 26 = .ok (.invokestatic 94, 3) := dk_184 0 94 (dk_at dksX3_takeActual_1 2 rfl rfl)
theorem dX3_takeActual_29 : decode cX3_takeActual 29 = .ok (.baload, 1) := dk_51 (dk_at dksX3_takeActual_1 5 rfl rfl)
theorem dX3_takeActual_30 : decode cX3_takeActual 30 = .ok (.ifCond .ne 7, 3) := dk_154 0 7 (dk_at dksX3_takeActual_1 6 rfl rfl)
theorem dX3_takeActual_33 : decode cX3_takeActual 33 = .ok (.iconst 2, 1) := dk_5 (dk_at dksX3_takeActual_1 9 rfl rfl)
theorem dX3_takeActual_34 : decode cX3_takeActual 34 = .ok (.goto 4, 3) := dk_167 0 4 (dk_at dksX3_takeActual_1 10 rfl rfl)
theorem dX3_takeActual_37 : decode cX3_takeActual 37 = .ok (.iconst 0, 1) := dk_3 (dk_at dksX3_takeActual_1 13 rfl rfl)
theorem dX3_takeActual_38 : decode cX3_takeActual 38 = .ok (.putfield 61, 3) := dk_181 0 61 (dk_at dksX3_takeActual_1 14 rfl rfl)
theorem dX3_takeActual_41 : decode cX3_takeActual 41 = .ok (.aload_n 0, 1) := dk_42 (dk_at dksX3_takeActual_1 17 rfl rfl)
theorem dX3_takeActual_42 : decode cX3_takeActual 42 = .ok (.getfield 61, 3) := dk_180 0 61 (dk_at dksX3_takeActual_1 18 rfl rfl)
theorem dX3_takeActual_45 : decode cX3_takeActual 45 = .ok (.ifCond .le 5, 3) := dk_158 0 5 (dk_at dksX3_takeActual_1 21 rfl rfl)
theorem dX3_takeActual_48 : decode cX3_takeActual 48 = .ok (.iconst 0, 1) := dk_3 (dk_at dksX3_takeActual_2 0 rfl rfl)
theorem dX3_takeActual_49 : decode cX3_takeActual 49 = .ok (.ireturn, 1) := dk_172 (dk_at dksX3_takeActual_2 1 rfl rfl)
theorem dX3_takeActual_50 : decode cX3_takeActual 50 = .ok (.aload_n 0, 1) := dk_42 (dk_at dksX3_takeActual_2 2 rfl rfl)
theorem dX3_takeActual_51 : decode cX3_takeActual 51 = .ok (.getfield 46, 3) := dk_180 0 46 (dk_at dksX3_takeActual_2 3 rfl rfl)
theorem dX3_takeActual_54 : decode cX3_takeActual 54 = .ok (.iload_n 1, 1) := dk_27 (dk_at dksX3_takeActual_2 6 rfl rfl)
theorem dX3_takeActual_55 : decode cX3_takeActual 55 = .ok (.iload_n 2, 1) := dk_28 (dk_at dksX3_takeActual_2 7 rfl rfl)
theorem dX3_takeActual_56 : decode cX3_takeActual 56 = .ok (.invokestatic 94, 3) := dk_184 0 94 (dk_at dksX3_takeActual_2 8 rfl rfl)
theorem dX3_takeActual_59 : decode cX3_takeActual 59 = .ok (.iconst 0, 1) := dk_3 (dk_at dksX3_takeActual_2 11 rfl rfl)
theorem dX3_takeActual_60 : decode cX3_takeActual 60 = .ok (.bastore, 1) := dk_84 (dk_at dksX3_takeActual_2 12 rfl rfl)
theorem dX3_takeActual_61 : decode cX3_takeActual 61 = .ok (.aload_n 0, 1) := dk_42 (dk_at dksX3_takeActual_2 13 rfl rfl)
theorem dX3_takeActual_62 : decode cX3_takeActual 62 = .ok (.invokevirtual 114, 3) := dk_182 0 114 (dk_at dksX3_takeActual_2 14 rfl rfl)
theorem dX3_takeActual_65 : decode cX3_takeActual 65 = .ok (.ireturn, 1) := dk_172 (dk_at dksX3_takeActual_2 17 rfl rfl)
abbrev cX3_pass : ByteArray := prog_12_method_28_code
def yX3_pass : MethodName := ⟨RX3, "pass", "()I"⟩
def dkwX3_pass_1 : List UInt8 := [89, 180, 0, 77, 4, 96, 181, 0, 77, 42, 180, 0, 77, 172]
abbrev dktX3_pass_1 : List UInt8 := dkwX3_pass_1 ++ []
def dkwX3_pass_0 : List UInt8 := [42, 42, 180, 0, 77, 16, 11, 162, 0, 7, 4, 167, 0, 4, 3, 182, 0, 124, 158, 0, 5, 3, 172, 42]
abbrev dktX3_pass_0 : List UInt8 := dkwX3_pass_0 ++ dktX3_pass_1
theorem dksX3_pass_0 : cX3_pass.data.toList.drop 0 = dktX3_pass_0 := by decide +kernel
theorem dksX3_pass_1 : cX3_pass.data.toList.drop 24 = dktX3_pass_1 := dk_seg dksX3_pass_0 24 rfl rfl
theorem dX3_pass_0 : decode cX3_pass 0 = .ok (.aload_n 0, 1) := dk_42 (dk_at dksX3_pass_0 0 rfl rfl)
theorem dX3_pass_1 : decode cX3_pass 1 = .ok (.aload_n 0, 1) := dk_42 (dk_at dksX3_pass_0 1 rfl rfl)
theorem dX3_pass_2 : decode cX3_pass 2 = .ok (.getfield 77, 3) := dk_180 0 77 (dk_at dksX3_pass_0 2 rfl rfl)
theorem dX3_pass_5 : decode cX3_pass 5 = .ok (.bipush 11, 2) := dk_16 11 (dk_at dksX3_pass_0 5 rfl rfl)
theorem dX3_pass_7 : decode cX3_pass 7 = .ok (.if_icmp .ge 7, 3) := dk_162 0 7 (dk_at dksX3_pass_0 7 rfl rfl)
theorem dX3_pass_10 : decode cX3_pass 10 = .ok (.iconst 1, 1) := dk_4 (dk_at dksX3_pass_0 10 rfl rfl)
theorem dX3_pass_11 : decode cX3_pass 11 = .ok (.goto 4, 3) := dk_167 0 4 (dk_at dksX3_pass_0 11 rfl rfl)
theorem dX3_pass_14 : decode cX3_pass 14 = .ok (.iconst 0, 1) := dk_3 (dk_at dksX3_pass_0 14 rfl rfl)
theorem dX3_pass_15 : decode cX3_pass 15 = .ok (.invokevirtual 124, 3) := dk_182 0 124 (dk_at dksX3_pass_0 15 rfl rfl)
theorem dX3_pass_18 : decode cX3_pass 18 = .ok (.ifCond .le 5, 3) := dk_158 0 5 (dk_at dksX3_pass_0 18 rfl rfl)
theorem dX3_pass_21 : decode cX3_pass 21 = .ok (.iconst 0, 1) := dk_3 (dk_at dksX3_pass_0 21 rfl rfl)
theorem dX3_pass_22 : decode cX3_pass 22 = .ok (.ireturn, 1) := dk_172 (dk_at dksX3_pass_0 22 rfl rfl)
theorem dX3_pass_23 : decode cX3_pass 23 = .ok (.aload_n 0, 1) := dk_42 (dk_at dksX3_pass_0 23 rfl rfl)
theorem dX3_pass_24 : decode cX3_pass 24 = .ok (.dup, 1) := dk_89 (dk_at dksX3_pass_1 0 rfl rfl)
theorem dX3_pass_25 : decode cX3_pass 25 = .ok (.getfield 77, 3) := dk_180 0 77 (dk_at dksX3_pass_1 1 rfl rfl)
theorem dX3_pass_28 : decode cX3_pass 28 = .ok (.iconst 1, 1) := dk_4 (dk_at dksX3_pass_1 4 rfl rfl)
theorem dX3_pass_29 : decode cX3_pass 29 = .ok (.iadd, 1) := dk_96 (dk_at dksX3_pass_1 5 rfl rfl)
theorem dX3_pass_30 : decode cX3_pass 30 = .ok (.putfield 77, 3) := dk_181 0 77 (dk_at dksX3_pass_1 6 rfl rfl)
theorem dX3_pass_33 : decode cX3_pass 33 = .ok (.aload_n 0, 1) := dk_42 (dk_at dksX3_pass_1 9 rfl rfl)
theorem dX3_pass_34 : decode cX3_pass 34 = .ok (.getfield 77, 3) := dk_180 0 77 (dk_at dksX3_pass_1 10 rfl rfl)
theorem dX3_pass_37 : decode cX3_pass 37 = .ok (.ireturn, 1) := dk_172 (dk_at dksX3_pass_1 13 rfl rfl)
abbrev cX3_month : ByteArray := prog_12_method_29_code
def yX3_month : MethodName := ⟨RX3, "month", "()I"⟩
def dkwX3_month_0 : List UInt8 := [42, 3, 181, 0, 61, 42, 180, 0, 77, 172]
abbrev dktX3_month_0 : List UInt8 := dkwX3_month_0 ++ []
theorem dksX3_month_0 : cX3_month.data.toList.drop 0 = dktX3_month_0 := by decide +kernel
theorem dX3_month_0 : decode cX3_month 0 = .ok (.aload_n 0, 1) := dk_42 (dk_at dksX3_month_0 0 rfl rfl)
theorem dX3_month_1 : decode cX3_month 1 = .ok (.iconst 0, 1) := dk_3 (dk_at dksX3_month_0 1 rfl rfl)
theorem dX3_month_2 : decode cX3_month 2 = .ok (.putfield 61, 3) := dk_181 0 61 (dk_at dksX3_month_0 2 rfl rfl)
theorem dX3_month_5 : decode cX3_month 5 = .ok (.aload_n 0, 1) := dk_42 (dk_at dksX3_month_0 5 rfl rfl)
theorem dX3_month_6 : decode cX3_month 6 = .ok (.getfield 77, 3) := dk_180 0 77 (dk_at dksX3_month_0 6 rfl rfl)
theorem dX3_month_9 : decode cX3_month 9 = .ok (.ireturn, 1) := dk_172 (dk_at dksX3_month_0 9 rfl rfl)
abbrev cX3_approve : ByteArray := prog_12_method_30_code
def yX3_approve : MethodName := ⟨RX3, "approve", "(III)I"⟩
def dkwX3_approve_4 : List UInt8 := [79, 42, 180, 0, 43, 27, 28, 184, 0, 94, 29, 79, 42, 180, 0, 57, 27, 47, 136, 172]
abbrev dktX3_approve_4 : List UInt8 := dkwX3_approve_4 ++ []
def dkwX3_approve_3 : List UInt8 := [27, 28, 184, 0, 94, 16, 97, 85, 42, 180, 0, 40, 27, 28, 184, 0, 94, 42, 180, 0, 57, 27, 47, 136]
abbrev dktX3_approve_3 : List UInt8 := dkwX3_approve_3 ++ dktX3_approve_4
def dkwX3_approve_2 : List UInt8 := [154, 0, 7, 6, 167, 0, 4, 3, 181, 0, 61, 42, 180, 0, 61, 158, 0, 5, 3, 172, 42, 180, 0, 53]
abbrev dktX3_approve_2 : List UInt8 := dkwX3_approve_2 ++ dktX3_approve_3
def dkwX3_approve_1 : List UInt8 := [17, 39, 15, 184, 0, 80, 154, 0, 7, 5, 167, 0, 20, 42, 3, 27, 28, 16, 6, 182, 0, 106]
abbrev dktX3_approve_1 : List UInt8 := dkwX3_approve_1 ++ dktX3_approve_2
def dkwX3_approve_0 : List UInt8 := [42, 42, 27, 182, 0, 128, 153, 0, 10, 28, 184, 0, 121, 154, 0, 7, 4, 167, 0, 35, 29, 3]
abbrev dktX3_approve_0 : List UInt8 := dkwX3_approve_0 ++ dktX3_approve_1
theorem dksX3_approve_0 : cX3_approve.data.toList.drop 0 = dktX3_approve_0 := by decide +kernel
theorem dksX3_approve_1 : cX3_approve.data.toList.drop 22 = dktX3_approve_1 := dk_seg dksX3_approve_0 22 rfl rfl
theorem dksX3_approve_2 : cX3_approve.data.toList.drop 44 = dktX3_approve_2 := dk_seg dksX3_approve_1 22 rfl rfl
theorem dksX3_approve_3 : cX3_approve.data.toList.drop 68 = dktX3_approve_3 := dk_seg dksX3_approve_2 24 rfl rfl
theorem dksX3_approve_4 : cX3_approve.data.toList.drop 92 = dktX3_approve_4 := dk_seg dksX3_approve_3 24 rfl rfl
theorem dX3_approve_0 : decode cX3_approve 0 = .ok (.aload_n 0, 1) := dk_42 (dk_at dksX3_approve_0 0 rfl rfl)
theorem dX3_approve_1 : decode cX3_approve 1 = .ok (.aload_n 0, 1) := dk_42 (dk_at dksX3_approve_0 1 rfl rfl)
theorem dX3_approve_2 : decode cX3_approve 2 = .ok (.iload_n 1, 1) := dk_27 (dk_at dksX3_approve_0 2 rfl rfl)
theorem dX3_approve_3 : decode cX3_approve 3 = .ok (.invokevirtual 128, 3) := dk_182 0 128 (dk_at dksX3_approve_0 3 rfl rfl)
theorem dX3_approve_6 : decode cX3_approve 6 = .ok (.ifCond .eq 10, 3) := dk_153 0 10 (dk_at dksX3_approve_0 6 rfl rfl)
theorem dX3_approve_9 : decode cX3_approve 9 = .ok (.iload_n 2, 1) := dk_28 (dk_at dksX3_approve_0 9 rfl rfl)
theorem dX3_approve_10 : decode cX3_approve 10 = .ok (.invokestatic 121, 3) := dk_184 0 121 (dk_at dksX3_approve_0 10 rfl rfl)
theorem dX3_approve_13 : decode cX3_approve 13 = .ok (.ifCond .ne 7, 3) := dk_154 0 7 (dk_at dksX3_approve_0 13 rfl rfl)
theorem dX3_approve_16 : decode cX3_approve 16 = .ok (.iconst 1, 1) := dk_4 (dk_at dksX3_approve_0 16 rfl rfl)
theorem dX3_approve_17 : decode cX3_approve 17 = .ok (.goto 35, 3) := dk_167 0 35 (dk_at dksX3_approve_0 17 rfl rfl)
theorem dX3_approve_20 : decode cX3_approve 20 = .ok (.iload_n 3, 1) := dk_29 (dk_at dksX3_approve_0 20 rfl rfl)
theorem dX3_approve_21 : decode cX3_approve 21 = .ok (.iconst 0, 1) := dk_3 (dk_at dksX3_approve_0 21 rfl rfl)
theorem dX3_approve_22 : decode cX3_approve 22 = .ok (.sipush 9999, 3) := dk_17 39 15 (dk_at dksX3_approve_1 0 rfl rfl)
theorem dX3_approve_25 : decode cX3_approve 25 = .ok (.invokestatic 80, 3) := dk_184 0 80 (dk_at dksX3_approve_1 3 rfl rfl)
theorem dX3_approve_28 : decode cX3_approve 28 = .ok (.ifCond .ne 7, 3) := dk_154 0 7 (dk_at dksX3_approve_1 6 rfl rfl)
theorem dX3_approve_31 : decode cX3_approve 31 = .ok (.iconst 2, 1) := dk_5 (dk_at dksX3_approve_1 9 rfl rfl)
theorem dX3_approve_32 : decode cX3_approve 32 = .ok (.goto 20, 3) := dk_167 0 20 (dk_at dksX3_approve_1 10 rfl rfl)
theorem dX3_approve_35 : decode cX3_approve 35 = .ok (.aload_n 0, 1) := dk_42 (dk_at dksX3_approve_1 13 rfl rfl)
theorem dX3_approve_36 : decode cX3_approve 36 = .ok (.iconst 0, 1) := dk_3 (dk_at dksX3_approve_1 14 rfl rfl)
theorem dX3_approve_37 : decode cX3_approve 37 = .ok (.iload_n 1, 1) := dk_27 (dk_at dksX3_approve_1 15 rfl rfl)
theorem dX3_approve_38 : decode cX3_approve 38 = .ok (.iload_n 2, 1) := dk_28 (dk_at dksX3_approve_1 16 rfl rfl)
theorem dX3_approve_39 : decode cX3_approve 39 = .ok (.bipush 6, 2) := dk_16 6 (dk_at dksX3_approve_1 17 rfl rfl)
theorem dX3_approve_41 : decode cX3_approve 41 = .ok (.invokevirtual 106, 3) := dk_182 0 106 (dk_at dksX3_approve_1 19 rfl rfl)
theorem dX3_approve_44 : decode cX3_approve 44 = .ok (.ifCond .ne 7, 3) := dk_154 0 7 (dk_at dksX3_approve_2 0 rfl rfl)
theorem dX3_approve_47 : decode cX3_approve 47 = .ok (.iconst 3, 1) := dk_6 (dk_at dksX3_approve_2 3 rfl rfl)
theorem dX3_approve_48 : decode cX3_approve 48 = .ok (.goto 4, 3) := dk_167 0 4 (dk_at dksX3_approve_2 4 rfl rfl)
theorem dX3_approve_51 : decode cX3_approve 51 = .ok (.iconst 0, 1) := dk_3 (dk_at dksX3_approve_2 7 rfl rfl)
theorem dX3_approve_52 : decode cX3_approve 52 = .ok (.putfield 61, 3) := dk_181 0 61 (dk_at dksX3_approve_2 8 rfl rfl)
theorem dX3_approve_55 : decode cX3_approve 55 = .ok (.aload_n 0, 1) := dk_42 (dk_at dksX3_approve_2 11 rfl rfl)
theorem dX3_approve_56 : decode cX3_approve 56 = .ok (.getfield 61, 3) := dk_180 0 61 (dk_at dksX3_approve_2 12 rfl rfl)
theorem dX3_approve_59 : decode cX3_approve 59 = .ok (.ifCond .le 5, 3) := dk_158 0 5 (dk_at dksX3_approve_2 15 rfl rfl)
theorem dX3_approve_62 : decode cX3_approve 62 = .ok (.iconst 0, 1) := dk_3 (dk_at dksX3_approve_2 18 rfl rfl)
theorem dX3_approve_63 : decode cX3_approve 63 = .ok (.ireturn, 1) := dk_172 (dk_at dksX3_approve_2 19 rfl rfl)
theorem dX3_approve_64 : decode cX3_approve 64 = .ok (.aload_n 0, 1) := dk_42 (dk_at dksX3_approve_2 20 rfl rfl)
theorem dX3_approve_65 : decode cX3_approve 65 = .ok (.getfield 53, 3) := dk_180 0 53 (dk_at dksX3_approve_2 21 rfl rfl)
theorem dX3_approve_68 : decode cX3_approve 68 = .ok (.iload_n 1, 1) := dk_27 (dk_at dksX3_approve_3 0 rfl rfl)
theorem dX3_approve_69 : decode cX3_approve 69 = .ok (.iload_n 2, 1) := dk_28 (dk_at dksX3_approve_3 1 rfl rfl)
theorem dX3_approve_70 : decode cX3_approve 70 = .ok (.invokestatic 94, 3) := dk_184 0 94 (dk_at dksX3_approve_3 2 rfl rfl)
theorem dX3_approve_73 : decode cX3_approve 73 = .ok (.bipush 97, 2) := dk_16 97 (dk_at dksX3_approve_3 5 rfl rfl)
theorem dX3_approve_75 : decode cX3_approve 75 = .ok (.castore, 1) := dk_85 (dk_at dksX3_approve_3 7 rfl rfl)
theorem dX3_approve_76 : decode cX3_approve 76 = .ok (.aload_n 0, 1) := dk_42 (dk_at dksX3_approve_3 8 rfl rfl)
theorem dX3_approve_77 : decode cX3_approve 77 = .ok (.getfield 40, 3) := dk_180 0 40 (dk_at dksX3_approve_3 9 rfl rfl)
theorem dX3_approve_80 : decode cX3_approve 80 = .ok (.iload_n 1, 1) := dk_27 (dk_at dksX3_approve_3 12 rfl rfl)
theorem dX3_approve_81 : decode cX3_approve 81 = .ok (.iload_n 2, 1) := dk_28 (dk_at dksX3_approve_3 13 rfl rfl)
theorem dX3_approve_82 : decode cX3_approve 82 = .ok (.invokestatic 94, 3) := dk_184 0 94 (dk_at dksX3_approve_3 14 rfl rfl)
theorem dX3_approve_85 : decode cX3_approve 85 = .ok (.aload_n 0, 1) := dk_42 (dk_at dksX3_approve_3 17 rfl rfl)
theorem dX3_approve_86 : decode cX3_approve 86 = .ok (.getfield 57, 3) := dk_180 0 57 (dk_at dksX3_approve_3 18 rfl rfl)
theorem dX3_approve_89 : decode cX3_approve 89 = .ok (.iload_n 1, 1) := dk_27 (dk_at dksX3_approve_3 21 rfl rfl)
theorem dX3_approve_90 : decode cX3_approve 90 = .ok (.laload, 1) := dk_47 (dk_at dksX3_approve_3 22 rfl rfl)
theorem dX3_approve_91 : decode cX3_approve 91 = .ok (.l2i, 1) := dk_136 (dk_at dksX3_approve_3 23 rfl rfl)
theorem dX3_approve_92 : decode cX3_approve 92 = .ok (.iastore, 1) := dk_79 (dk_at dksX3_approve_4 0 rfl rfl)
theorem dX3_approve_93 : decode cX3_approve 93 = .ok (.aload_n 0, 1) := dk_42 (dk_at dksX3_approve_4 1 rfl rfl)
theorem dX3_approve_94 : decode cX3_approve 94 = .ok (.getfield 43, 3) := dk_180 0 43 (dk_at dksX3_approve_4 2 rfl rfl)
theorem dX3_approve_97 : decode cX3_approve 97 = .ok (.iload_n 1, 1) := dk_27 (dk_at dksX3_approve_4 5 rfl rfl)
theorem dX3_approve_98 : decode cX3_approve 98 = .ok (.iload_n 2, 1) := dk_28 (dk_at dksX3_approve_4 6 rfl rfl)
theorem dX3_approve_99 : decode cX3_approve 99 = .ok (.invokestatic 94, 3) := dk_184 0 94 (dk_at dksX3_approve_4 7 rfl rfl)
theorem dX3_approve_102 : decode cX3_approve 102 = .ok (.iload_n 3, 1) := dk_29 (dk_at dksX3_approve_4 10 rfl rfl)
theorem dX3_approve_103 : decode cX3_approve 103 = .ok (.iastore, 1) := dk_79 (dk_at dksX3_approve_4 11 rfl rfl)
theorem dX3_approve_104 : decode cX3_approve 104 = .ok (.aload_n 0, 1) := dk_42 (dk_at dksX3_approve_4 12 rfl rfl)
theorem dX3_approve_105 : decode cX3_approve 105 = .ok (.getfield 57, 3) := dk_180 0 57 (dk_at dksX3_approve_4 13 rfl rfl)
theorem dX3_approve_108 : decode cX3_approve 108 = .ok (.iload_n 1, 1) := dk_27 (dk_at dksX3_approve_4 16 rfl rfl)
theorem dX3_approve_109 : decode cX3_approve 109 = .ok (.laload, 1) := dk_47 (dk_at dksX3_approve_4 17 rfl rfl)
theorem dX3_approve_110 : decode cX3_approve 110 = .ok (.l2i, 1) := dk_136 (dk_at dksX3_approve_4 18 rfl rfl)
theorem dX3_approve_111 : decode cX3_approve 111 = .ok (.ireturn, 1) := dk_172 (dk_at dksX3_approve_4 19 rfl rfl)
abbrev cX3_state : ByteArray := prog_12_method_31_code
def yX3_state : MethodName := ⟨RX3, "state", "(II)C"⟩
def dkwX3_state_1 : List UInt8 := [158, 0, 8, 16, 32, 167, 0, 13, 42, 180, 0, 53, 27, 28, 184, 0, 94, 52, 172]
abbrev dktX3_state_1 : List UInt8 := dkwX3_state_1 ++ []
def dkwX3_state_0 : List UInt8 := [42, 42, 27, 182, 0, 128, 153, 0, 14, 28, 184, 0, 121, 153, 0, 7, 4, 167, 0, 4, 3, 182, 0, 124]
abbrev dktX3_state_0 : List UInt8 := dkwX3_state_0 ++ dktX3_state_1
theorem dksX3_state_0 : cX3_state.data.toList.drop 0 = dktX3_state_0 := by decide +kernel
theorem dksX3_state_1 : cX3_state.data.toList.drop 24 = dktX3_state_1 := dk_seg dksX3_state_0 24 rfl rfl
theorem dX3_state_0 : decode cX3_state 0 = .ok (.aload_n 0, 1) := dk_42 (dk_at dksX3_state_0 0 rfl rfl)
theorem dX3_state_1 : decode cX3_state 1 = .ok (.aload_n 0, 1) := dk_42 (dk_at dksX3_state_0 1 rfl rfl)
theorem dX3_state_2 : decode cX3_state 2 = .ok (.iload_n 1, 1) := dk_27 (dk_at dksX3_state_0 2 rfl rfl)
theorem dX3_state_3 : decode cX3_state 3 = .ok (.invokevirtual 128, 3) := dk_182 0 128 (dk_at dksX3_state_0 3 rfl rfl)
theorem dX3_state_6 : decode cX3_state 6 = .ok (.ifCond .eq 14, 3) := dk_153 0 14 (dk_at dksX3_state_0 6 rfl rfl)
theorem dX3_state_9 : decode cX3_state 9 = .ok (.iload_n 2, 1) := dk_28 (dk_at dksX3_state_0 9 rfl rfl)
theorem dX3_state_10 : decode cX3_state 10 = .ok (.invokestatic 121, 3) := dk_184 0 121 (dk_at dksX3_state_0 10 rfl rfl)
theorem dX3_state_13 : decode cX3_state 13 = .ok (.ifCond .eq 7, 3) := dk_153 0 7 (dk_at dksX3_state_0 13 rfl rfl)
theorem dX3_state_16 : decode cX3_state 16 = .ok (.iconst 1, 1) := dk_4 (dk_at dksX3_state_0 16 rfl rfl)
theorem dX3_state_17 : decode cX3_state 17 = .ok (.goto 4, 3) := dk_167 0 4 (dk_at dksX3_state_0 17 rfl rfl)
theorem dX3_state_20 : decode cX3_state 20 = .ok (.iconst 0, 1) := dk_3 (dk_at dksX3_state_0 20 rfl rfl)
theorem dX3_state_21 : decode cX3_state 21 = .ok (.invokevirtual 124, 3) := dk_182 0 124 (dk_at dksX3_state_0 21 rfl rfl)
theorem dX3_state_24 : decode cX3_state 24 = .ok (.ifCond .le 8, 3) := dk_158 0 8 (dk_at dksX3_state_1 0 rfl rfl)
theorem dX3_state_27 : decode cX3_state 27 = .ok (.bipush 32, 2) := dk_16 32 (dk_at dksX3_state_1 3 rfl rfl)
theorem dX3_state_29 : decode cX3_state 29 = .ok (.goto 13, 3) := dk_167 0 13 (dk_at dksX3_state_1 5 rfl rfl)
theorem dX3_state_32 : decode cX3_state 32 = .ok (.aload_n 0, 1) := dk_42 (dk_at dksX3_state_1 8 rfl rfl)
theorem dX3_state_33 : decode cX3_state 33 = .ok (.getfield 53, 3) := dk_180 0 53 (dk_at dksX3_state_1 9 rfl rfl)
theorem dX3_state_36 : decode cX3_state 36 = .ok (.iload_n 1, 1) := dk_27 (dk_at dksX3_state_1 12 rfl rfl)
theorem dX3_state_37 : decode cX3_state 37 = .ok (.iload_n 2, 1) := dk_28 (dk_at dksX3_state_1 13 rfl rfl)
theorem dX3_state_38 : decode cX3_state 38 = .ok (.invokestatic 94, 3) := dk_184 0 94 (dk_at dksX3_state_1 14 rfl rfl)
theorem dX3_state_41 : decode cX3_state 41 = .ok (.caload, 1) := dk_52 (dk_at dksX3_state_1 17 rfl rfl)
theorem dX3_state_42 : decode cX3_state 42 = .ok (.ireturn, 1) := dk_172 (dk_at dksX3_state_1 18 rfl rfl)
abbrev cX3_drift : ByteArray := prog_12_method_32_code
def yX3_drift : MethodName := ⟨RX3, "drift", "(II)I"⟩
def dkwX3_drift_3 : List UInt8 := [180, 0, 57, 27, 47, 136, 42, 180, 0, 40, 27, 28, 184, 0, 94, 46, 100, 172]
abbrev dktX3_drift_3 : List UInt8 := dkwX3_drift_3 ++ []
def dkwX3_drift_2 : List UInt8 := [154, 0, 7, 6, 167, 0, 4, 3, 181, 0, 61, 42, 180, 0, 61, 158, 0, 7, 3, 167, 0, 21, 42]
abbrev dktX3_drift_2 : List UInt8 := dkwX3_drift_2 ++ dktX3_drift_3
def dkwX3_drift_1 : List UInt8 := [27, 28, 184, 0, 94, 52, 16, 45, 160, 0, 7, 5, 167, 0, 20, 42, 3, 27, 28, 16, 6, 182, 0, 106]
abbrev dktX3_drift_1 : List UInt8 := dkwX3_drift_1 ++ dktX3_drift_2
def dkwX3_drift_0 : List UInt8 := [42, 42, 27, 182, 0, 128, 153, 0, 10, 28, 184, 0, 121, 154, 0, 7, 4, 167, 0, 39, 42, 180, 0, 53]
abbrev dktX3_drift_0 : List UInt8 := dkwX3_drift_0 ++ dktX3_drift_1
theorem dksX3_drift_0 : cX3_drift.data.toList.drop 0 = dktX3_drift_0 := by decide +kernel
theorem dksX3_drift_1 : cX3_drift.data.toList.drop 24 = dktX3_drift_1 := dk_seg dksX3_drift_0 24 rfl rfl
theorem dksX3_drift_2 : cX3_drift.data.toList.drop 48 = dktX3_drift_2 := dk_seg dksX3_drift_1 24 rfl rfl
theorem dksX3_drift_3 : cX3_drift.data.toList.drop 71 = dktX3_drift_3 := dk_seg dksX3_drift_2 23 rfl rfl
theorem dX3_drift_0 : decode cX3_drift 0 = .ok (.aload_n 0, 1) := dk_42 (dk_at dksX3_drift_0 0 rfl rfl)
theorem dX3_drift_1 : decode cX3_drift 1 = .ok (.aload_n 0, 1) := dk_42 (dk_at dksX3_drift_0 1 rfl rfl)
theorem dX3_drift_2 : decode cX3_drift 2 = .ok (.iload_n 1, 1) := dk_27 (dk_at dksX3_drift_0 2 rfl rfl)
theorem dX3_drift_3 : decode cX3_drift 3 = .ok (.invokevirtual 128, 3) := dk_182 0 128 (dk_at dksX3_drift_0 3 rfl rfl)
theorem dX3_drift_6 : decode cX3_drift 6 = .ok (.ifCond .eq 10, 3) := dk_153 0 10 (dk_at dksX3_drift_0 6 rfl rfl)
theorem dX3_drift_9 : decode cX3_drift 9 = .ok (.iload_n 2, 1) := dk_28 (dk_at dksX3_drift_0 9 rfl rfl)
theorem dX3_drift_10 : decode cX3_drift 10 = .ok (.invokestatic 121, 3) := dk_184 0 121 (dk_at dksX3_drift_0 10 rfl rfl)
theorem dX3_drift_13 : decode cX3_drift 13 = .ok (.ifCond .ne 7, 3) := dk_154 0 7 (dk_at dksX3_drift_0 13 rfl rfl)
theorem dX3_drift_16 : decode cX3_drift 16 = .ok (.iconst 1, 1) := dk_4 (dk_at dksX3_drift_0 16 rfl rfl)
theorem dX3_drift_17 : decode cX3_drift 17 = .ok (.goto 39, 3) := dk_167 0 39 (dk_at dksX3_drift_0 17 rfl rfl)
theorem dX3_drift_20 : decode cX3_drift 20 = .ok (.aload_n 0, 1) := dk_42 (dk_at dksX3_drift_0 20 rfl rfl)
theorem dX3_drift_21 : decode cX3_drift 21 = .ok (.getfield 53, 3) := dk_180 0 53 (dk_at dksX3_drift_0 21 rfl rfl)
theorem dX3_drift_24 : decode cX3_drift 24 = .ok (.iload_n 1, 1) := dk_27 (dk_at dksX3_drift_1 0 rfl rfl)
theorem dX3_drift_25 : decode cX3_drift 25 = .ok (.iload_n 2, 1) := dk_28 (dk_at dksX3_drift_1 1 rfl rfl)
theorem dX3_drift_26 : decode cX3_drift 26 = .ok (.invokestatic 94, 3) := dk_184 0 94 (dk_at dksX3_drift_1 2 rfl rfl)
theorem dX3_drift_29 : decode cX3_drift 29 = .ok (.caload, 1) := dk_52 (dk_at dksX3_drift_1 5 rfl rfl)
theorem dX3_drift_30 : decode cX3_drift 30 = .ok (.bipush 45, 2) := dk_16 45 (dk_at dksX3_drift_1 6 rfl rfl)
theorem dX3_drift_32 : decode cX3_drift 32 = .ok (.if_icmp .ne 7, 3) := dk_160 0 7 (dk_at dksX3_drift_1 8 rfl rfl)
theorem dX3_drift_35 : decode cX3_drift 35 = .ok (.iconst 2, 1) := dk_5 (dk_at dksX3_drift_1 11 rfl rfl)
theorem dX3_drift_36 : decode cX3_drift 36 = .ok (.goto 20, 3) := dk_167 0 20 (dk_at dksX3_drift_1 12 rfl rfl)
theorem dX3_drift_39 : decode cX3_drift 39 = .ok (.aload_n 0, 1) := dk_42 (dk_at dksX3_drift_1 15 rfl rfl)
theorem dX3_drift_40 : decode cX3_drift 40 = .ok (.iconst 0, 1) := dk_3 (dk_at dksX3_drift_1 16 rfl rfl)
theorem dX3_drift_41 : decode cX3_drift 41 = .ok (.iload_n 1, 1) := dk_27 (dk_at dksX3_drift_1 17 rfl rfl)
theorem dX3_drift_42 : decode cX3_drift 42 = .ok (.iload_n 2, 1) := dk_28 (dk_at dksX3_drift_1 18 rfl rfl)
theorem dX3_drift_43 : decode cX3_drift 43 = .ok (.bipush 6, 2) := dk_16 6 (dk_at dksX3_drift_1 19 rfl rfl)
theorem dX3_drift_45 : decode cX3_drift 45 = .ok (.invokevirtual 106, 3) := dk_182 0 106 (dk_at dksX3_drift_1 21 rfl rfl)
theorem dX3_drift_48 : decode cX3_drift 48 = .ok (.ifCond .ne 7, 3) := dk_154 0 7 (dk_at dksX3_drift_2 0 rfl rfl)
theorem dX3_drift_51 : decode cX3_drift 51 = .ok (.iconst 3, 1) := dk_6 (dk_at dksX3_drift_2 3 rfl rfl)
theorem dX3_drift_52 : decode cX3_drift 52 = .ok (.goto 4, 3) := dk_167 0 4 (dk_at dksX3_drift_2 4 rfl rfl)
theorem dX3_drift_55 : decode cX3_drift 55 = .ok (.iconst 0, 1) := dk_3 (dk_at dksX3_drift_2 7 rfl rfl)
theorem dX3_drift_56 : decode cX3_drift 56 = .ok (.putfield 61, 3) := dk_181 0 61 (dk_at dksX3_drift_2 8 rfl rfl)
theorem dX3_drift_59 : decode cX3_drift 59 = .ok (.aload_n 0, 1) := dk_42 (dk_at dksX3_drift_2 11 rfl rfl)
theorem dX3_drift_60 : decode cX3_drift 60 = .ok (.getfield 61, 3) := dk_180 0 61 (dk_at dksX3_drift_2 12 rfl rfl)
theorem dX3_drift_63 : decode cX3_drift 63 = .ok (.ifCond .le 7, 3) := dk_158 0 7 (dk_at dksX3_drift_2 15 rfl rfl)
theorem dX3_drift_66 : decode cX3_drift 66 = .ok (.iconst 0, 1) := dk_3 (dk_at dksX3_drift_2 18 rfl rfl)
theorem dX3_drift_67 : decode cX3_drift 67 = .ok (.goto 21, 3) := dk_167 0 21 (dk_at dksX3_drift_2 19 rfl rfl)
theorem dX3_drift_70 : decode cX3_drift 70 = .ok (.aload_n 0, 1) := dk_42 (dk_at dksX3_drift_2 22 rfl rfl)
theorem dX3_drift_71 : decode cX3_drift 71 = .ok (.getfield 57, 3) := dk_180 0 57 (dk_at dksX3_drift_3 0 rfl rfl)
theorem dX3_drift_74 : decode cX3_drift 74 = .ok (.iload_n 1, 1) := dk_27 (dk_at dksX3_drift_3 3 rfl rfl)
theorem dX3_drift_75 : decode cX3_drift 75 = .ok (.laload, 1) := dk_47 (dk_at dksX3_drift_3 4 rfl rfl)
theorem dX3_drift_76 : decode cX3_drift 76 = .ok (.l2i, 1) := dk_136 (dk_at dksX3_drift_3 5 rfl rfl)
theorem dX3_drift_77 : decode cX3_drift 77 = .ok (.aload_n 0, 1) := dk_42 (dk_at dksX3_drift_3 6 rfl rfl)
theorem dX3_drift_78 : decode cX3_drift 78 = .ok (.getfield 40, 3) := dk_180 0 40 (dk_at dksX3_drift_3 7 rfl rfl)
theorem dX3_drift_81 : decode cX3_drift 81 = .ok (.iload_n 1, 1) := dk_27 (dk_at dksX3_drift_3 10 rfl rfl)
theorem dX3_drift_82 : decode cX3_drift 82 = .ok (.iload_n 2, 1) := dk_28 (dk_at dksX3_drift_3 11 rfl rfl)
theorem dX3_drift_83 : decode cX3_drift 83 = .ok (.invokestatic 94, 3) := dk_184 0 94 (dk_at dksX3_drift_3 12 rfl rfl)
theorem dX3_drift_86 : decode cX3_drift 86 = .ok (.iaload, 1) := dk_46 (dk_at dksX3_drift_3 15 rfl rfl)
theorem dX3_drift_87 : decode cX3_drift 87 = .ok (.isub, 1) := dk_100 (dk_at dksX3_drift_3 16 rfl rfl)
theorem dX3_drift_88 : decode cX3_drift 88 = .ok (.ireturn, 1) := dk_172 (dk_at dksX3_drift_3 17 rfl rfl)
abbrev cX3_open : ByteArray := prog_12_method_34_code
def yX3_open : MethodName := ⟨RX3, "open", "()I"⟩
def dkwX3_open_0 : List UInt8 := [42, 3, 181, 0, 61, 42, 16, 111, 182, 0, 137, 172]
abbrev dktX3_open_0 : List UInt8 := dkwX3_open_0 ++ []
theorem dksX3_open_0 : cX3_open.data.toList.drop 0 = dktX3_open_0 := by decide +kernel
theorem dX3_open_0 : decode cX3_open 0 = .ok (.aload_n 0, 1) := dk_42 (dk_at dksX3_open_0 0 rfl rfl)
theorem dX3_open_1 : decode cX3_open 1 = .ok (.iconst 0, 1) := dk_3 (dk_at dksX3_open_0 1 rfl rfl)
theorem dX3_open_2 : decode cX3_open 2 = .ok (.putfield 61, 3) := dk_181 0 61 (dk_at dksX3_open_0 2 rfl rfl)
theorem dX3_open_5 : decode cX3_open 5 = .ok (.aload_n 0, 1) := dk_42 (dk_at dksX3_open_0 5 rfl rfl)
theorem dX3_open_6 : decode cX3_open 6 = .ok (.bipush 111, 2) := dk_16 111 (dk_at dksX3_open_0 6 rfl rfl)
theorem dX3_open_8 : decode cX3_open 8 = .ok (.invokevirtual 137, 3) := dk_182 0 137 (dk_at dksX3_open_0 8 rfl rfl)
theorem dX3_open_11 : decode cX3_open 11 = .ok (.ireturn, 1) := dk_172 (dk_at dksX3_open_0 11 rfl rfl)
abbrev cX3_many : ByteArray := prog_12_method_33_code
def yX3_many : MethodName := ⟨RX3, "many", "(C)I"⟩
def dkwX3_many_1 : List UInt8 := [167, 0, 4, 3, 96, 61, 132, 3, 1, 167, 255, 229, 28, 172]
abbrev dktX3_many_1 : List UInt8 := dkwX3_many_1 ++ []
def dkwX3_many_0 : List UInt8 := [3, 61, 3, 62, 29, 16, 120, 162, 0, 27, 28, 42, 180, 0, 53, 29, 52, 27, 160, 0, 7, 4]
abbrev dktX3_many_0 : List UInt8 := dkwX3_many_0 ++ dktX3_many_1
theorem dksX3_many_0 : cX3_many.data.toList.drop 0 = dktX3_many_0 := by decide +kernel
theorem dksX3_many_1 : cX3_many.data.toList.drop 22 = dktX3_many_1 := dk_seg dksX3_many_0 22 rfl rfl
theorem dX3_many_0 : decode cX3_many 0 = .ok (.iconst 0, 1) := dk_3 (dk_at dksX3_many_0 0 rfl rfl)
theorem dX3_many_1 : decode cX3_many 1 = .ok (.istore_n 2, 1) := dk_61 (dk_at dksX3_many_0 1 rfl rfl)
theorem dX3_many_2 : decode cX3_many 2 = .ok (.iconst 0, 1) := dk_3 (dk_at dksX3_many_0 2 rfl rfl)
theorem dX3_many_3 : decode cX3_many 3 = .ok (.istore_n 3, 1) := dk_62 (dk_at dksX3_many_0 3 rfl rfl)
theorem dX3_many_4 : decode cX3_many 4 = .ok (.iload_n 3, 1) := dk_29 (dk_at dksX3_many_0 4 rfl rfl)
theorem dX3_many_5 : decode cX3_many 5 = .ok (.bipush 120, 2) := dk_16 120 (dk_at dksX3_many_0 5 rfl rfl)
theorem dX3_many_7 : decode cX3_many 7 = .ok (.if_icmp .ge 27, 3) := dk_162 0 27 (dk_at dksX3_many_0 7 rfl rfl)
theorem dX3_many_10 : decode cX3_many 10 = .ok (.iload_n 2, 1) := dk_28 (dk_at dksX3_many_0 10 rfl rfl)
theorem dX3_many_11 : decode cX3_many 11 = .ok (.aload_n 0, 1) := dk_42 (dk_at dksX3_many_0 11 rfl rfl)
theorem dX3_many_12 : decode cX3_many 12 = .ok (.getfield 53, 3) := dk_180 0 53 (dk_at dksX3_many_0 12 rfl rfl)
theorem dX3_many_15 : decode cX3_many 15 = .ok (.iload_n 3, 1) := dk_29 (dk_at dksX3_many_0 15 rfl rfl)
theorem dX3_many_16 : decode cX3_many 16 = .ok (.caload, 1) := dk_52 (dk_at dksX3_many_0 16 rfl rfl)
theorem dX3_many_17 : decode cX3_many 17 = .ok (.iload_n 1, 1) := dk_27 (dk_at dksX3_many_0 17 rfl rfl)
theorem dX3_many_18 : decode cX3_many 18 = .ok (.if_icmp .ne 7, 3) := dk_160 0 7 (dk_at dksX3_many_0 18 rfl rfl)
theorem dX3_many_21 : decode cX3_many 21 = .ok (.iconst 1, 1) := dk_4 (dk_at dksX3_many_0 21 rfl rfl)
theorem dX3_many_22 : decode cX3_many 22 = .ok (.goto 4, 3) := dk_167 0 4 (dk_at dksX3_many_1 0 rfl rfl)
theorem dX3_many_25 : decode cX3_many 25 = .ok (.iconst 0, 1) := dk_3 (dk_at dksX3_many_1 3 rfl rfl)
theorem dX3_many_26 : decode cX3_many 26 = .ok (.iadd, 1) := dk_96 (dk_at dksX3_many_1 4 rfl rfl)
theorem dX3_many_27 : decode cX3_many 27 = .ok (.istore_n 2, 1) := dk_61 (dk_at dksX3_many_1 5 rfl rfl)
theorem dX3_many_28 : decode cX3_many 28 = .ok (.iinc 3 1, 3) := dk_132 3 1 (dk_at dksX3_many_1 6 rfl rfl)
theorem dX3_many_31 : decode cX3_many 31 = .ok (.goto (-27), 3) := dk_167 255 229 (dk_at dksX3_many_1 9 rfl rfl)
theorem dX3_many_34 : decode cX3_many 34 = .ok (.iload_n 2, 1) := dk_28 (dk_at dksX3_many_1 12 rfl rfl)
theorem dX3_many_35 : decode cX3_many 35 = .ok (.ireturn, 1) := dk_172 (dk_at dksX3_many_1 13 rfl rfl)
abbrev cX3_approvedShare : ByteArray := prog_12_method_35_code
def yX3_approvedShare : MethodName := ⟨RX3, "approvedShare", "()F"⟩
def dkwX3_approvedShare_1 : List UInt8 := [182, 0, 124, 158, 0, 7, 11, 167, 0, 13, 42, 16, 97, 182, 0, 137, 134, 27, 134, 110, 174]
abbrev dktX3_approvedShare_1 : List UInt8 := dkwX3_approvedShare_1 ++ []
def dkwX3_approvedShare_0 : List UInt8 := [42, 16, 97, 182, 0, 137, 42, 16, 111, 182, 0, 137, 96, 60, 42, 27, 158, 0, 7, 4, 167, 0, 4, 3]
abbrev dktX3_approvedShare_0 : List UInt8 := dkwX3_approvedShare_0 ++ dktX3_approvedShare_1
theorem dksX3_approvedShare_0 : cX3_approvedShare.data.toList.drop 0 = dktX3_approvedShare_0 := by decide +kernel
theorem dksX3_approvedShare_1 : cX3_approvedShare.data.toList.drop 24 = dktX3_approvedShare_1 := dk_seg dksX3_approvedShare_0 24 rfl rfl
theorem dX3_approvedShare_0 : decode cX3_approvedShare 0 = .ok (.aload_n 0, 1) := dk_42 (dk_at dksX3_approvedShare_0 0 rfl rfl)
theorem dX3_approvedShare_1 : decode cX3_approvedShare 1 = .ok (.bipush 97, 2) := dk_16 97 (dk_at dksX3_approvedShare_0 1 rfl rfl)
theorem dX3_approvedShare_3 : decode cX3_approvedShare 3 = .ok (.invokevirtual 137, 3) := dk_182 0 137 (dk_at dksX3_approvedShare_0 3 rfl rfl)
theorem dX3_approvedShare_6 : decode cX3_approvedShare 6 = .ok (.aload_n 0, 1) := dk_42 (dk_at dksX3_approvedShare_0 6 rfl rfl)
theorem dX3_approvedShare_7 : decode cX3_approvedShare 7 = .ok (.bipush 111, 2) := dk_16 111 (dk_at dksX3_approvedShare_0 7 rfl rfl)
theorem dX3_approvedShare_9 : decode cX3_approvedShare 9 = .ok (.invokevirtual 137, 3) := dk_182 0 137 (dk_at dksX3_approvedShare_0 9 rfl rfl)
theorem dX3_approvedShare_12 : decode cX3_approvedShare 12 = .ok (.iadd, 1) := dk_96 (dk_at dksX3_approvedShare_0 12 rfl rfl)
theorem dX3_approvedShare_13 : decode cX3_approvedShare 13 = .ok (.istore_n 1, 1) := dk_60 (dk_at dksX3_approvedShare_0 13 rfl rfl)
theorem dX3_approvedShare_14 : decode cX3_approvedShare 14 = .ok (.aload_n 0, 1) := dk_42 (dk_at dksX3_approvedShare_0 14 rfl rfl)
theorem dX3_approvedShare_15 : decode cX3_approvedShare 15 = .ok (.iload_n 1, 1) := dk_27 (dk_at dksX3_approvedShare_0 15 rfl rfl)
theorem dX3_approvedShare_16 : decode cX3_approvedShare 16 = .ok (.ifCond .le 7, 3) := dk_158 0 7 (dk_at dksX3_approvedShare_0 16 rfl rfl)
theorem dX3_approvedShare_19 : decode cX3_approvedShare 19 = .ok (.iconst 1, 1) := dk_4 (dk_at dksX3_approvedShare_0 19 rfl rfl)
theorem dX3_approvedShare_20 : decode cX3_approvedShare 20 = .ok (.goto 4, 3) := dk_167 0 4 (dk_at dksX3_approvedShare_0 20 rfl rfl)
theorem dX3_approvedShare_23 : decode cX3_approvedShare 23 = .ok (.iconst 0, 1) := dk_3 (dk_at dksX3_approvedShare_0 23 rfl rfl)
theorem dX3_approvedShare_24 : decode cX3_approvedShare 24 = .ok (.invokevirtual 124, 3) := dk_182 0 124 (dk_at dksX3_approvedShare_1 0 rfl rfl)
theorem dX3_approvedShare_27 : decode cX3_approvedShare 27 = .ok (.ifCond .le 7, 3) := dk_158 0 7 (dk_at dksX3_approvedShare_1 3 rfl rfl)
theorem dX3_approvedShare_30 : decode cX3_approvedShare 30 = .ok (.fconst 0, 1) := dk_11 (dk_at dksX3_approvedShare_1 6 rfl rfl)
theorem dX3_approvedShare_31 : decode cX3_approvedShare 31 = .ok (.goto 13, 3) := dk_167 0 13 (dk_at dksX3_approvedShare_1 7 rfl rfl)
theorem dX3_approvedShare_34 : decode cX3_approvedShare 34 = .ok (.aload_n 0, 1) := dk_42 (dk_at dksX3_approvedShare_1 10 rfl rfl)
theorem dX3_approvedShare_35 : decode cX3_approvedShare 35 = .ok (.bipush 97, 2) := dk_16 97 (dk_at dksX3_approvedShare_1 11 rfl rfl)
theorem dX3_approvedShare_37 : decode cX3_approvedShare 37 = .ok (.invokevirtual 137, 3) := dk_182 0 137 (dk_at dksX3_approvedShare_1 13 rfl rfl)
theorem dX3_approvedShare_40 : decode cX3_approvedShare 40 = .ok (.i2f, 1) := dk_134 (dk_at dksX3_approvedShare_1 16 rfl rfl)
theorem dX3_approvedShare_41 : decode cX3_approvedShare 41 = .ok (.iload_n 1, 1) := dk_27 (dk_at dksX3_approvedShare_1 17 rfl rfl)
theorem dX3_approvedShare_42 : decode cX3_approvedShare 42 = .ok (.i2f, 1) := dk_134 (dk_at dksX3_approvedShare_1 18 rfl rfl)
theorem dX3_approvedShare_43 : decode cX3_approvedShare 43 = .ok (.fdiv, 1) := dk_110 (dk_at dksX3_approvedShare_1 19 rfl rfl)
theorem dX3_approvedShare_44 : decode cX3_approvedShare 44 = .ok (.freturn, 1) := dk_174 (dk_at dksX3_approvedShare_1 20 rfl rfl)
abbrev cX3_meanTolerance : ByteArray := prog_12_method_36_code
def yX3_meanTolerance : MethodName := ⟨RX3, "meanTolerance", "()D"⟩
def dkwX3_meanTolerance_3 : List UInt8 := [167, 0, 8, 27, 135, 28, 135, 111, 175]
abbrev dktX3_meanTolerance_3 : List UInt8 := dkwX3_meanTolerance_3 ++ []
def dkwX3_meanTolerance_2 : List UInt8 := [16, 111, 182, 0, 137, 96, 61, 42, 28, 158, 0, 7, 4, 167, 0, 4, 3, 182, 0, 124, 158, 0, 7, 14]
abbrev dktX3_meanTolerance_2 : List UInt8 := dkwX3_meanTolerance_2 ++ dktX3_meanTolerance_3
def dkwX3_meanTolerance_1 : List UInt8 := [167, 0, 9, 42, 180, 0, 43, 28, 46, 96, 60, 132, 2, 1, 167, 255, 223, 42, 16, 97, 182, 0, 137, 42]
abbrev dktX3_meanTolerance_1 : List UInt8 := dkwX3_meanTolerance_1 ++ dktX3_meanTolerance_2
def dkwX3_meanTolerance_0 : List UInt8 := [3, 60, 3, 61, 28, 16, 120, 162, 0, 33, 27, 42, 180, 0, 53, 28, 52, 16, 45, 160, 0, 7, 3]
abbrev dktX3_meanTolerance_0 : List UInt8 := dkwX3_meanTolerance_0 ++ dktX3_meanTolerance_1
theorem dksX3_meanTolerance_0 : cX3_meanTolerance.data.toList.drop 0 = dktX3_meanTolerance_0 := by decide +kernel
theorem dksX3_meanTolerance_1 : cX3_meanTolerance.data.toList.drop 23 = dktX3_meanTolerance_1 := dk_seg dksX3_meanTolerance_0 23 rfl rfl
theorem dksX3_meanTolerance_2 : cX3_meanTolerance.data.toList.drop 47 = dktX3_meanTolerance_2 := dk_seg dksX3_meanTolerance_1 24 rfl rfl
theorem dksX3_meanTolerance_3 : cX3_meanTolerance.data.toList.drop 71 = dktX3_meanTolerance_3 := dk_seg dksX3_meanTolerance_2 24 rfl rfl
theorem dX3_meanTolerance_0 : decode cX3_meanTolerance 0 = .ok (.iconst 0, 1) := dk_3 (dk_at dksX3_meanTolerance_0 0 rfl rfl)
theorem dX3_meanTolerance_1 : decode cX3_meanTolerance 1 = .ok (.istore_n 1, 1) := dk_60 (dk_at dksX3_meanTolerance_0 1 rfl rfl)
theorem dX3_meanTolerance_2 : decode cX3_meanTolerance 2 = .ok (.iconst 0, 1) := dk_3 (dk_at dksX3_meanTolerance_0 2 rfl rfl)
theorem dX3_meanTolerance_3 : decode cX3_meanTolerance 3 = .ok (.istore_n 2, 1) := dk_61 (dk_at dksX3_meanTolerance_0 3 rfl rfl)
theorem dX3_meanTolerance_4 : decode cX3_meanTolerance 4 = .ok (.iload_n 2, 1) := dk_28 (dk_at dksX3_meanTolerance_0 4 rfl rfl)
theorem dX3_meanTolerance_5 : decode cX3_meanTolerance 5 = .ok (.bipush 120, 2) := dk_16 120 (dk_at dksX3_meanTolerance_0 5 rfl rfl)
theorem dX3_meanTolerance_7 : decode cX3_meanTolerance 7 = .ok (.if_icmp .ge 33, 3) := dk_162 0 33 (dk_at dksX3_meanTolerance_0 7 rfl rfl)
theorem dX3_meanTolerance_10 : decode cX3_meanTolerance 10 = .ok (.iload_n 1, 1) := dk_27 (dk_at dksX3_meanTolerance_0 10 rfl rfl)
theorem dX3_meanTolerance_11 : decode cX3_meanTolerance 11 = .ok (.aload_n 0, 1) := dk_42 (dk_at dksX3_meanTolerance_0 11 rfl rfl)
theorem dX3_meanTolerance_12 : decode cX3_meanTolerance 12 = .ok (.getfield 53, 3) := dk_180 0 53 (dk_at dksX3_meanTolerance_0 12 rfl rfl)
theorem dX3_meanTolerance_15 : decode cX3_meanTolerance 15 = .ok (.iload_n 2, 1) := dk_28 (dk_at dksX3_meanTolerance_0 15 rfl rfl)
theorem dX3_meanTolerance_16 : decode cX3_meanTolerance 16 = .ok (.caload, 1) := dk_52 (dk_at dksX3_meanTolerance_0 16 rfl rfl)
theorem dX3_meanTolerance_17 : decode cX3_meanTolerance 17 = .ok (.bipush 45, 2) := dk_16 45 (dk_at dksX3_meanTolerance_0 17 rfl rfl)
theorem dX3_meanTolerance_19 : decode cX3_meanTolerance 19 = .ok (.if_icmp .ne 7, 3) := dk_160 0 7 (dk_at dksX3_meanTolerance_0 19 rfl rfl)
theorem dX3_meanTolerance_22 : decode cX3_meanTolerance 22 = .ok (.iconst 0, 1) := dk_3 (dk_at dksX3_meanTolerance_0 22 rfl rfl)
theorem dX3_meanTolerance_23 : decode cX3_meanTolerance 23 = .ok (.goto 9, 3) := dk_167 0 9 (dk_at dksX3_meanTolerance_1 0 rfl rfl)
theorem dX3_meanTolerance_26 : decode cX3_meanTolerance 26 = .ok (.aload_n 0, 1) := dk_42 (dk_at dksX3_meanTolerance_1 3 rfl rfl)
theorem dX3_meanTolerance_27 : decode cX3_meanTolerance 27 = .ok (.getfield 43, 3) := dk_180 0 43 (dk_at dksX3_meanTolerance_1 4 rfl rfl)
theorem dX3_meanTolerance_30 : decode cX3_meanTolerance 30 = .ok (.iload_n 2, 1) := dk_28 (dk_at dksX3_meanTolerance_1 7 rfl rfl)
theorem dX3_meanTolerance_31 : decode cX3_meanTolerance 31 = .ok (.iaload, 1) := dk_46 (dk_at dksX3_meanTolerance_1 8 rfl rfl)
theorem dX3_meanTolerance_32 : decode cX3_meanTolerance 32 = .ok (.iadd, 1) := dk_96 (dk_at dksX3_meanTolerance_1 9 rfl rfl)
theorem dX3_meanTolerance_33 : decode cX3_meanTolerance 33 = .ok (.istore_n 1, 1) := dk_60 (dk_at dksX3_meanTolerance_1 10 rfl rfl)
theorem dX3_meanTolerance_34 : decode cX3_meanTolerance 34 = .ok (.iinc 2 1, 3) := dk_132 2 1 (dk_at dksX3_meanTolerance_1 11 rfl rfl)
theorem dX3_meanTolerance_37 : decode cX3_meanTolerance 37 = .ok (.goto (-33), 3) := dk_167 255 223 (dk_at dksX3_meanTolerance_1 14 rfl rfl)
theorem dX3_meanTolerance_40 : decode cX3_meanTolerance 40 = .ok (.aload_n 0, 1) := dk_42 (dk_at dksX3_meanTolerance_1 17 rfl rfl)
theorem dX3_meanTolerance_41 : decode cX3_meanTolerance 41 = .ok (.bipush 97, 2) := dk_16 97 (dk_at dksX3_meanTolerance_1 18 rfl rfl)
theorem dX3_meanTolerance_43 : decode cX3_meanTolerance 43 = .ok (.invokevirtual 137, 3) := dk_182 0 137 (dk_at dksX3_meanTolerance_1 20 rfl rfl)
theorem dX3_meanTolerance_46 : decode cX3_meanTolerance 46 = .ok (.aload_n 0, 1) := dk_42 (dk_at dksX3_meanTolerance_1 23 rfl rfl)
theorem dX3_meanTolerance_47 : decode cX3_meanTolerance 47 = .ok (.bipush 111, 2) := dk_16 111 (dk_at dksX3_meanTolerance_2 0 rfl rfl)
theorem dX3_meanTolerance_49 : decode cX3_meanTolerance 49 = .ok (.invokevirtual 137, 3) := dk_182 0 137 (dk_at dksX3_meanTolerance_2 2 rfl rfl)
theorem dX3_meanTolerance_52 : decode cX3_meanTolerance 52 = .ok (.iadd, 1) := dk_96 (dk_at dksX3_meanTolerance_2 5 rfl rfl)
theorem dX3_meanTolerance_53 : decode cX3_meanTolerance 53 = .ok (.istore_n 2, 1) := dk_61 (dk_at dksX3_meanTolerance_2 6 rfl rfl)
theorem dX3_meanTolerance_54 : decode cX3_meanTolerance 54 = .ok (.aload_n 0, 1) := dk_42 (dk_at dksX3_meanTolerance_2 7 rfl rfl)
theorem dX3_meanTolerance_55 : decode cX3_meanTolerance 55 = .ok (.iload_n 2, 1) := dk_28 (dk_at dksX3_meanTolerance_2 8 rfl rfl)
theorem dX3_meanTolerance_56 : decode cX3_meanTolerance 56 = .ok (.ifCond .le 7, 3) := dk_158 0 7 (dk_at dksX3_meanTolerance_2 9 rfl rfl)
theorem dX3_meanTolerance_59 : decode cX3_meanTolerance 59 = .ok (.iconst 1, 1) := dk_4 (dk_at dksX3_meanTolerance_2 12 rfl rfl)
theorem dX3_meanTolerance_60 : decode cX3_meanTolerance 60 = .ok (.goto 4, 3) := dk_167 0 4 (dk_at dksX3_meanTolerance_2 13 rfl rfl)
theorem dX3_meanTolerance_63 : decode cX3_meanTolerance 63 = .ok (.iconst 0, 1) := dk_3 (dk_at dksX3_meanTolerance_2 16 rfl rfl)
theorem dX3_meanTolerance_64 : decode cX3_meanTolerance 64 = .ok (.invokevirtual 124, 3) := dk_182 0 124 (dk_at dksX3_meanTolerance_2 17 rfl rfl)
theorem dX3_meanTolerance_67 : decode cX3_meanTolerance 67 = .ok (.ifCond .le 7, 3) := dk_158 0 7 (dk_at dksX3_meanTolerance_2 20 rfl rfl)
theorem dX3_meanTolerance_70 : decode cX3_meanTolerance 70 = .ok (.dconst 0, 1) := dk_14 (dk_at dksX3_meanTolerance_2 23 rfl rfl)
theorem dX3_meanTolerance_71 : decode cX3_meanTolerance 71 = .ok (.goto 8, 3) := dk_167 0 8 (dk_at dksX3_meanTolerance_3 0 rfl rfl)
theorem dX3_meanTolerance_74 : decode cX3_meanTolerance 74 = .ok (.iload_n 1, 1) := dk_27 (dk_at dksX3_meanTolerance_3 3 rfl rfl)
theorem dX3_meanTolerance_75 : decode cX3_meanTolerance 75 = .ok (.i2d, 1) := dk_135 (dk_at dksX3_meanTolerance_3 4 rfl rfl)
theorem dX3_meanTolerance_76 : decode cX3_meanTolerance 76 = .ok (.iload_n 2, 1) := dk_28 (dk_at dksX3_meanTolerance_3 5 rfl rfl)
theorem dX3_meanTolerance_77 : decode cX3_meanTolerance 77 = .ok (.i2d, 1) := dk_135 (dk_at dksX3_meanTolerance_3 6 rfl rfl)
theorem dX3_meanTolerance_78 : decode cX3_meanTolerance 78 = .ok (.ddiv, 1) := dk_111 (dk_at dksX3_meanTolerance_3 7 rfl rfl)
theorem dX3_meanTolerance_79 : decode cX3_meanTolerance 79 = .ok (.dreturn, 1) := dk_175 (dk_at dksX3_meanTolerance_3 8 rfl rfl)
theorem q39 : (Jvm.Cond.initialized "CostStudioModel") ∈ lw_all := lw_g (lw_at lw_m1 10 rfl) rfl
theorem q165 : (Jvm.Cond.selects "CostStudioModel" ({ cls := "java/lang/Object", name := "getClass", desc := "()Ljava/lang/Class;" } : Jvm.MethodName) ({ cls := "java/lang/Object", name := "getClass", desc := "()Ljava/lang/Class;" } : Jvm.MethodName)) ∈ lw_all := lw_g (lw_at lw_m1 136 rfl) rfl
theorem q985 : (Jvm.Cond.instantiable "CostStudioModel" (22 : Nat)) ∈ lw_all := lw_g (lw_at lw_m4 236 rfl) rfl
theorem q987 : (Jvm.Cond.instanceMethod ({ cls := "CostStudioModel", name := "<init>", desc := "()V" } : Jvm.MethodName)) ∈ lw_all := lw_g (lw_at lw_m4 238 rfl) rfl
theorem q988 : (Jvm.Cond.code ({ cls := "CostStudioModel", name := "<init>", desc := "()V" } : Jvm.MethodName) prog_12_method_1_code (2 : Nat) (Option.none : Option Jvm.ClassFile.FieldType)) ∈ lw_all := lw_g (lw_at lw_m4 239 rfl) rfl
theorem q989 : (Jvm.Cond.methodLink "CostStudioModel" (1 : Nat) ({ cls := "java/lang/Object", name := "<init>", desc := "()V" } : Jvm.MethodName)) ∈ lw_all := lw_g (lw_at lw_m5 0 rfl) rfl
theorem q990 : (Jvm.Cond.fieldLink "CostStudioModel" (7 : Nat) "CostStudioModel" "values" "[I") ∈ lw_all := lw_g (lw_at lw_m5 1 rfl) rfl
theorem q991 : (Jvm.Cond.fieldLink "CostStudioModel" (13 : Nat) "CostStudioModel" "kindsOf" "[I") ∈ lw_all := lw_g (lw_at lw_m5 2 rfl) rfl
theorem q992 : (Jvm.Cond.fieldLink "CostStudioModel" (16 : Nat) "CostStudioModel" "ones" "[I") ∈ lw_all := lw_g (lw_at lw_m5 3 rfl) rfl
theorem q993 : (Jvm.Cond.fieldLink "CostStudioModel" (19 : Nat) "CostStudioModel" "others" "[I") ∈ lw_all := lw_g (lw_at lw_m5 4 rfl) rfl
theorem q994 : (Jvm.Cond.fieldLink "CostStudioModel" (22 : Nat) "CostStudioModel" "parents" "[I") ∈ lw_all := lw_g (lw_at lw_m5 5 rfl) rfl
theorem q995 : (Jvm.Cond.fieldLink "CostStudioModel" (25 : Nat) "CostStudioModel" "scenarioOf" "[I") ∈ lw_all := lw_g (lw_at lw_m5 6 rfl) rfl
theorem q996 : (Jvm.Cond.fieldLink "CostStudioModel" (28 : Nat) "CostStudioModel" "driverOf" "[I") ∈ lw_all := lw_g (lw_at lw_m5 7 rfl) rfl
theorem q997 : (Jvm.Cond.fieldLink "CostStudioModel" (31 : Nat) "CostStudioModel" "fromOf" "[I") ∈ lw_all := lw_g (lw_at lw_m5 8 rfl) rfl
theorem q998 : (Jvm.Cond.fieldLink "CostStudioModel" (34 : Nat) "CostStudioModel" "numberOf" "[I") ∈ lw_all := lw_g (lw_at lw_m5 9 rfl) rfl
theorem q999 : (Jvm.Cond.fieldLink "CostStudioModel" (37 : Nat) "CostStudioModel" "actuals" "[I") ∈ lw_all := lw_g (lw_at lw_m5 10 rfl) rfl
theorem q1000 : (Jvm.Cond.fieldLink "CostStudioModel" (40 : Nat) "CostStudioModel" "kept" "[I") ∈ lw_all := lw_g (lw_at lw_m5 11 rfl) rfl
theorem q1001 : (Jvm.Cond.fieldLink "CostStudioModel" (43 : Nat) "CostStudioModel" "tolerances" "[I") ∈ lw_all := lw_g (lw_at lw_m5 12 rfl) rfl
theorem q1002 : (Jvm.Cond.fieldLink "CostStudioModel" (46 : Nat) "CostStudioModel" "hasActual" "[Z") ∈ lw_all := lw_g (lw_at lw_m5 13 rfl) rfl
theorem q1003 : (Jvm.Cond.fieldLink "CostStudioModel" (50 : Nat) "CostStudioModel" "isFound" "[Z") ∈ lw_all := lw_g (lw_at lw_m5 14 rfl) rfl
theorem q1004 : (Jvm.Cond.fieldLink "CostStudioModel" (53 : Nat) "CostStudioModel" "approvals" "[C") ∈ lw_all := lw_g (lw_at lw_m5 15 rfl) rfl
theorem q1005 : (Jvm.Cond.fieldLink "CostStudioModel" (57 : Nat) "CostStudioModel" "found" "[J") ∈ lw_all := lw_g (lw_at lw_m5 16 rfl) rfl
theorem q1006 : (Jvm.Cond.fieldLink "CostStudioModel" (61 : Nat) "CostStudioModel" "thrown" "I") ∈ lw_all := lw_g (lw_at lw_m5 17 rfl) rfl
theorem q1007 : (Jvm.Cond.fieldLink "CostStudioModel" (65 : Nat) "CostStudioModel" "drivers" "I") ∈ lw_all := lw_g (lw_at lw_m5 18 rfl) rfl
theorem q1008 : (Jvm.Cond.fieldLink "CostStudioModel" (68 : Nat) "CostStudioModel" "lines" "I") ∈ lw_all := lw_g (lw_at lw_m5 19 rfl) rfl
theorem q1009 : (Jvm.Cond.fieldLink "CostStudioModel" (71 : Nat) "CostStudioModel" "scenarios" "I") ∈ lw_all := lw_g (lw_at lw_m5 20 rfl) rfl
theorem q1010 : (Jvm.Cond.fieldLink "CostStudioModel" (74 : Nat) "CostStudioModel" "differences" "I") ∈ lw_all := lw_g (lw_at lw_m5 21 rfl) rfl
theorem q1011 : (Jvm.Cond.fieldLink "CostStudioModel" (77 : Nat) "CostStudioModel" "month" "I") ∈ lw_all := lw_g (lw_at lw_m5 22 rfl) rfl
theorem q1012 : (Jvm.Cond.laysFinal "CostStudioModel" "CostStudioModel" "values" "[I") ∈ lw_all := lw_g (lw_at lw_m5 23 rfl) rfl
theorem q1013 : (Jvm.Cond.soleField "CostStudioModel" "values") ∈ lw_all := lw_g (lw_at lw_m5 24 rfl) rfl
theorem q1014 : (Jvm.Cond.laysFinal "CostStudioModel" "CostStudioModel" "kindsOf" "[I") ∈ lw_all := lw_g (lw_at lw_m5 25 rfl) rfl
theorem q1015 : (Jvm.Cond.soleField "CostStudioModel" "kindsOf") ∈ lw_all := lw_g (lw_at lw_m5 26 rfl) rfl
theorem q1016 : (Jvm.Cond.laysFinal "CostStudioModel" "CostStudioModel" "ones" "[I") ∈ lw_all := lw_g (lw_at lw_m5 27 rfl) rfl
theorem q1017 : (Jvm.Cond.soleField "CostStudioModel" "ones") ∈ lw_all := lw_g (lw_at lw_m5 28 rfl) rfl
theorem q1018 : (Jvm.Cond.laysFinal "CostStudioModel" "CostStudioModel" "others" "[I") ∈ lw_all := lw_g (lw_at lw_m5 29 rfl) rfl
theorem q1019 : (Jvm.Cond.soleField "CostStudioModel" "others") ∈ lw_all := lw_g (lw_at lw_m5 30 rfl) rfl
theorem q1020 : (Jvm.Cond.laysFinal "CostStudioModel" "CostStudioModel" "parents" "[I") ∈ lw_all := lw_g (lw_at lw_m5 31 rfl) rfl
theorem q1021 : (Jvm.Cond.soleField "CostStudioModel" "parents") ∈ lw_all := lw_g (lw_at lw_m5 32 rfl) rfl
theorem q1022 : (Jvm.Cond.laysFinal "CostStudioModel" "CostStudioModel" "scenarioOf" "[I") ∈ lw_all := lw_g (lw_at lw_m5 33 rfl) rfl
theorem q1023 : (Jvm.Cond.soleField "CostStudioModel" "scenarioOf") ∈ lw_all := lw_g (lw_at lw_m5 34 rfl) rfl
theorem q1024 : (Jvm.Cond.laysFinal "CostStudioModel" "CostStudioModel" "driverOf" "[I") ∈ lw_all := lw_g (lw_at lw_m5 35 rfl) rfl
theorem q1025 : (Jvm.Cond.soleField "CostStudioModel" "driverOf") ∈ lw_all := lw_g (lw_at lw_m5 36 rfl) rfl
theorem q1026 : (Jvm.Cond.laysFinal "CostStudioModel" "CostStudioModel" "fromOf" "[I") ∈ lw_all := lw_g (lw_at lw_m5 37 rfl) rfl
theorem q1027 : (Jvm.Cond.soleField "CostStudioModel" "fromOf") ∈ lw_all := lw_g (lw_at lw_m5 38 rfl) rfl
theorem q1028 : (Jvm.Cond.laysFinal "CostStudioModel" "CostStudioModel" "numberOf" "[I") ∈ lw_all := lw_g (lw_at lw_m5 39 rfl) rfl
theorem q1029 : (Jvm.Cond.soleField "CostStudioModel" "numberOf") ∈ lw_all := lw_g (lw_at lw_m5 40 rfl) rfl
theorem q1030 : (Jvm.Cond.laysFinal "CostStudioModel" "CostStudioModel" "actuals" "[I") ∈ lw_all := lw_g (lw_at lw_m5 41 rfl) rfl
theorem q1031 : (Jvm.Cond.soleField "CostStudioModel" "actuals") ∈ lw_all := lw_g (lw_at lw_m5 42 rfl) rfl
theorem q1032 : (Jvm.Cond.laysFinal "CostStudioModel" "CostStudioModel" "kept" "[I") ∈ lw_all := lw_g (lw_at lw_m5 43 rfl) rfl
theorem q1033 : (Jvm.Cond.soleField "CostStudioModel" "kept") ∈ lw_all := lw_g (lw_at lw_m5 44 rfl) rfl
theorem q1034 : (Jvm.Cond.laysFinal "CostStudioModel" "CostStudioModel" "tolerances" "[I") ∈ lw_all := lw_g (lw_at lw_m5 45 rfl) rfl
theorem q1035 : (Jvm.Cond.soleField "CostStudioModel" "tolerances") ∈ lw_all := lw_g (lw_at lw_m5 46 rfl) rfl
theorem q1036 : (Jvm.Cond.laysFinal "CostStudioModel" "CostStudioModel" "hasActual" "[Z") ∈ lw_all := lw_g (lw_at lw_m5 47 rfl) rfl
theorem q1037 : (Jvm.Cond.soleField "CostStudioModel" "hasActual") ∈ lw_all := lw_g (lw_at lw_m5 48 rfl) rfl
theorem q1038 : (Jvm.Cond.laysFinal "CostStudioModel" "CostStudioModel" "isFound" "[Z") ∈ lw_all := lw_g (lw_at lw_m5 49 rfl) rfl
theorem q1039 : (Jvm.Cond.soleField "CostStudioModel" "isFound") ∈ lw_all := lw_g (lw_at lw_m5 50 rfl) rfl
theorem q1040 : (Jvm.Cond.laysFinal "CostStudioModel" "CostStudioModel" "approvals" "[C") ∈ lw_all := lw_g (lw_at lw_m5 51 rfl) rfl
theorem q1041 : (Jvm.Cond.soleField "CostStudioModel" "approvals") ∈ lw_all := lw_g (lw_at lw_m5 52 rfl) rfl
theorem q1042 : (Jvm.Cond.laysFinal "CostStudioModel" "CostStudioModel" "found" "[J") ∈ lw_all := lw_g (lw_at lw_m5 53 rfl) rfl
theorem q1043 : (Jvm.Cond.soleField "CostStudioModel" "found") ∈ lw_all := lw_g (lw_at lw_m5 54 rfl) rfl
theorem q1044 : (Jvm.Cond.lays "CostStudioModel" "CostStudioModel" "thrown" "I") ∈ lw_all := lw_g (lw_at lw_m5 55 rfl) rfl
theorem q1045 : (Jvm.Cond.soleField "CostStudioModel" "thrown") ∈ lw_all := lw_g (lw_at lw_m5 56 rfl) rfl
theorem q1046 : (Jvm.Cond.lays "CostStudioModel" "CostStudioModel" "drivers" "I") ∈ lw_all := lw_g (lw_at lw_m5 57 rfl) rfl
theorem q1047 : (Jvm.Cond.soleField "CostStudioModel" "drivers") ∈ lw_all := lw_g (lw_at lw_m5 58 rfl) rfl
theorem q1048 : (Jvm.Cond.lays "CostStudioModel" "CostStudioModel" "lines" "I") ∈ lw_all := lw_g (lw_at lw_m5 59 rfl) rfl
theorem q1049 : (Jvm.Cond.soleField "CostStudioModel" "lines") ∈ lw_all := lw_g (lw_at lw_m5 60 rfl) rfl
theorem q1050 : (Jvm.Cond.lays "CostStudioModel" "CostStudioModel" "scenarios" "I") ∈ lw_all := lw_g (lw_at lw_m5 61 rfl) rfl
theorem q1051 : (Jvm.Cond.soleField "CostStudioModel" "scenarios") ∈ lw_all := lw_g (lw_at lw_m5 62 rfl) rfl
theorem q1052 : (Jvm.Cond.lays "CostStudioModel" "CostStudioModel" "differences" "I") ∈ lw_all := lw_g (lw_at lw_m5 63 rfl) rfl
theorem q1053 : (Jvm.Cond.soleField "CostStudioModel" "differences") ∈ lw_all := lw_g (lw_at lw_m5 64 rfl) rfl
theorem q1054 : (Jvm.Cond.lays "CostStudioModel" "CostStudioModel" "month" "I") ∈ lw_all := lw_g (lw_at lw_m5 65 rfl) rfl
theorem q1055 : (Jvm.Cond.soleField "CostStudioModel" "month") ∈ lw_all := lw_g (lw_at lw_m5 66 rfl) rfl
theorem q1056 : (Jvm.Cond.superclass "CostStudioModel" "java/lang/Object") ∈ lw_all := lw_g (lw_at lw_m5 67 rfl) rfl
theorem q1060 : (Jvm.Cond.instanceMethod ({ cls := "CostStudioModel", name := "thrown", desc := "()I" } : Jvm.MethodName)) ∈ lw_all := lw_g (lw_at lw_m5 71 rfl) rfl
theorem q1061 : (Jvm.Cond.selects "CostStudioModel" ({ cls := "CostStudioModel", name := "thrown", desc := "()I" } : Jvm.MethodName) ({ cls := "CostStudioModel", name := "thrown", desc := "()I" } : Jvm.MethodName)) ∈ lw_all := lw_g (lw_at lw_m5 72 rfl) rfl
theorem q1062 : (Jvm.Cond.code ({ cls := "CostStudioModel", name := "thrown", desc := "()I" } : Jvm.MethodName) prog_12_method_2_code (1 : Nat) (Option.some Jvm.ClassFile.FieldType.int)) ∈ lw_all := lw_g (lw_at lw_m5 73 rfl) rfl
theorem q1064 : (Jvm.Cond.instanceMethod ({ cls := "CostStudioModel", name := "addDriver", desc := "(I)I" } : Jvm.MethodName)) ∈ lw_all := lw_g (lw_at lw_m5 75 rfl) rfl
theorem q1065 : (Jvm.Cond.selects "CostStudioModel" ({ cls := "CostStudioModel", name := "addDriver", desc := "(I)I" } : Jvm.MethodName) ({ cls := "CostStudioModel", name := "addDriver", desc := "(I)I" } : Jvm.MethodName)) ∈ lw_all := lw_g (lw_at lw_m5 76 rfl) rfl
theorem q1066 : (Jvm.Cond.code ({ cls := "CostStudioModel", name := "addDriver", desc := "(I)I" } : Jvm.MethodName) prog_12_method_15_code (2 : Nat) (Option.some Jvm.ClassFile.FieldType.int)) ∈ lw_all := lw_g (lw_at lw_m5 77 rfl) rfl
theorem q1067 : (Jvm.Cond.methodLink "CostStudioModel" (80 : Nat) ({ cls := "CostStudioModel", name := "in", desc := "(III)Z" } : Jvm.MethodName)) ∈ lw_all := lw_g (lw_at lw_m5 78 rfl) rfl
theorem q1068 : (Jvm.Cond.static ({ cls := "CostStudioModel", name := "in", desc := "(III)Z" } : Jvm.MethodName)) ∈ lw_all := lw_g (lw_at lw_m5 79 rfl) rfl
theorem q1069 : (Jvm.Cond.code ({ cls := "CostStudioModel", name := "in", desc := "(III)Z" } : Jvm.MethodName) prog_12_method_3_code (3 : Nat) (Option.some Jvm.ClassFile.FieldType.boolean)) ∈ lw_all := lw_g (lw_at lw_m5 80 rfl) rfl
theorem q1071 : (Jvm.Cond.instanceMethod ({ cls := "CostStudioModel", name := "setDriver", desc := "(II)I" } : Jvm.MethodName)) ∈ lw_all := lw_g (lw_at lw_m5 82 rfl) rfl
theorem q1072 : (Jvm.Cond.selects "CostStudioModel" ({ cls := "CostStudioModel", name := "setDriver", desc := "(II)I" } : Jvm.MethodName) ({ cls := "CostStudioModel", name := "setDriver", desc := "(II)I" } : Jvm.MethodName)) ∈ lw_all := lw_g (lw_at lw_m5 83 rfl) rfl
theorem q1073 : (Jvm.Cond.code ({ cls := "CostStudioModel", name := "setDriver", desc := "(II)I" } : Jvm.MethodName) prog_12_method_16_code (3 : Nat) (Option.some Jvm.ClassFile.FieldType.int)) ∈ lw_all := lw_g (lw_at lw_m5 84 rfl) rfl
theorem q1074 : (Jvm.Cond.methodLink "CostStudioModel" (110 : Nat) ({ cls := "CostStudioModel", name := "isDriver", desc := "(I)Z" } : Jvm.MethodName)) ∈ lw_all := lw_g (lw_at lw_m5 85 rfl) rfl
theorem q1075 : (Jvm.Cond.privateMethod ({ cls := "CostStudioModel", name := "isDriver", desc := "(I)Z" } : Jvm.MethodName)) ∈ lw_tbl := lw_at lw_m5 86 rfl
theorem q1076 : (Jvm.Cond.instanceMethod ({ cls := "CostStudioModel", name := "isDriver", desc := "(I)Z" } : Jvm.MethodName)) ∈ lw_all := lw_g (lw_at lw_m5 87 rfl) rfl
theorem q1077 : (Jvm.Cond.code ({ cls := "CostStudioModel", name := "isDriver", desc := "(I)Z" } : Jvm.MethodName) prog_12_method_5_code (2 : Nat) (Option.some Jvm.ClassFile.FieldType.boolean)) ∈ lw_all := lw_g (lw_at lw_m5 88 rfl) rfl
theorem q1078 : (Jvm.Cond.methodLink "CostStudioModel" (114 : Nat) ({ cls := "CostStudioModel", name := "looks", desc := "()I" } : Jvm.MethodName)) ∈ lw_all := lw_g (lw_at lw_m5 89 rfl) rfl
theorem q1079 : (Jvm.Cond.privateMethod ({ cls := "CostStudioModel", name := "looks", desc := "()I" } : Jvm.MethodName)) ∈ lw_tbl := lw_at lw_m5 90 rfl
theorem q1080 : (Jvm.Cond.instanceMethod ({ cls := "CostStudioModel", name := "looks", desc := "()I" } : Jvm.MethodName)) ∈ lw_all := lw_g (lw_at lw_m5 91 rfl) rfl
theorem q1081 : (Jvm.Cond.code ({ cls := "CostStudioModel", name := "looks", desc := "()I" } : Jvm.MethodName) prog_12_method_14_code (7 : Nat) (Option.some Jvm.ClassFile.FieldType.int)) ∈ lw_all := lw_g (lw_at lw_m5 92 rfl) rfl
theorem q1082 : (Jvm.Cond.methodLink "CostStudioModel" (94 : Nat) ({ cls := "CostStudioModel", name := "at", desc := "(II)I" } : Jvm.MethodName)) ∈ lw_all := lw_g (lw_at lw_m5 93 rfl) rfl
theorem q1083 : (Jvm.Cond.static ({ cls := "CostStudioModel", name := "at", desc := "(II)I" } : Jvm.MethodName)) ∈ lw_all := lw_g (lw_at lw_m5 94 rfl) rfl
theorem q1084 : (Jvm.Cond.code ({ cls := "CostStudioModel", name := "at", desc := "(II)I" } : Jvm.MethodName) prog_12_method_9_code (2 : Nat) (Option.some Jvm.ClassFile.FieldType.int)) ∈ lw_all := lw_g (lw_at lw_m5 95 rfl) rfl
theorem q1085 : (Jvm.Cond.methodLink "CostStudioModel" (106 : Nat) ({ cls := "CostStudioModel", name := "finds", desc := "(IIII)Z" } : Jvm.MethodName)) ∈ lw_all := lw_g (lw_at lw_m5 96 rfl) rfl
theorem q1086 : (Jvm.Cond.privateMethod ({ cls := "CostStudioModel", name := "finds", desc := "(IIII)Z" } : Jvm.MethodName)) ∈ lw_tbl := lw_at lw_m5 97 rfl
theorem q1087 : (Jvm.Cond.instanceMethod ({ cls := "CostStudioModel", name := "finds", desc := "(IIII)Z" } : Jvm.MethodName)) ∈ lw_all := lw_g (lw_at lw_m5 98 rfl) rfl
theorem q1088 : (Jvm.Cond.code ({ cls := "CostStudioModel", name := "finds", desc := "(IIII)Z" } : Jvm.MethodName) prog_12_method_13_code (8 : Nat) (Option.some Jvm.ClassFile.FieldType.boolean)) ∈ lw_all := lw_g (lw_at lw_m5 99 rfl) rfl
theorem q1089 : (Jvm.Cond.methodLink "CostStudioModel" (98 : Nat) ({ cls := "CostStudioModel", name := "byKind", desc := "(IIII)J" } : Jvm.MethodName)) ∈ lw_all := lw_g (lw_at lw_m5 100 rfl) rfl
theorem q1090 : (Jvm.Cond.privateMethod ({ cls := "CostStudioModel", name := "byKind", desc := "(IIII)J" } : Jvm.MethodName)) ∈ lw_tbl := lw_at lw_m5 101 rfl
theorem q1091 : (Jvm.Cond.instanceMethod ({ cls := "CostStudioModel", name := "byKind", desc := "(IIII)J" } : Jvm.MethodName)) ∈ lw_all := lw_g (lw_at lw_m5 102 rfl) rfl
theorem q1092 : (Jvm.Cond.code ({ cls := "CostStudioModel", name := "byKind", desc := "(IIII)J" } : Jvm.MethodName) prog_12_method_12_code (9 : Nat) (Option.some Jvm.ClassFile.FieldType.long)) ∈ lw_all := lw_g (lw_at lw_m5 103 rfl) rfl
theorem q1093 : (Jvm.Cond.methodLink "CostStudioModel" (88 : Nat) ({ cls := "CostStudioModel", name := "valueIn", desc := "(IIII)I" } : Jvm.MethodName)) ∈ lw_all := lw_g (lw_at lw_m5 104 rfl) rfl
theorem q1094 : (Jvm.Cond.privateMethod ({ cls := "CostStudioModel", name := "valueIn", desc := "(IIII)I" } : Jvm.MethodName)) ∈ lw_tbl := lw_at lw_m5 105 rfl
theorem q1095 : (Jvm.Cond.instanceMethod ({ cls := "CostStudioModel", name := "valueIn", desc := "(IIII)I" } : Jvm.MethodName)) ∈ lw_all := lw_g (lw_at lw_m5 106 rfl) rfl
theorem q1096 : (Jvm.Cond.code ({ cls := "CostStudioModel", name := "valueIn", desc := "(IIII)I" } : Jvm.MethodName) prog_12_method_11_code (7 : Nat) (Option.some Jvm.ClassFile.FieldType.int)) ∈ lw_all := lw_g (lw_at lw_m5 107 rfl) rfl
theorem q1097 : (Jvm.Cond.methodLink "CostStudioModel" (84 : Nat) ({ cls := "CostStudioModel", name := "isUnder", desc := "(II)Z" } : Jvm.MethodName)) ∈ lw_all := lw_g (lw_at lw_m5 108 rfl) rfl
theorem q1098 : (Jvm.Cond.privateMethod ({ cls := "CostStudioModel", name := "isUnder", desc := "(II)Z" } : Jvm.MethodName)) ∈ lw_tbl := lw_at lw_m5 109 rfl
theorem q1099 : (Jvm.Cond.instanceMethod ({ cls := "CostStudioModel", name := "isUnder", desc := "(II)Z" } : Jvm.MethodName)) ∈ lw_all := lw_g (lw_at lw_m5 110 rfl) rfl
theorem q1100 : (Jvm.Cond.code ({ cls := "CostStudioModel", name := "isUnder", desc := "(II)Z" } : Jvm.MethodName) prog_12_method_10_code (4 : Nat) (Option.some Jvm.ClassFile.FieldType.boolean)) ∈ lw_all := lw_g (lw_at lw_m5 111 rfl) rfl
theorem q1101 : (Jvm.Cond.constantLong "CostStudioModel" (92 : Nat) (100 : Int64)) ∈ lw_all := lw_g (lw_at lw_m5 112 rfl) rfl
theorem q1102 : (Jvm.Cond.constantLong "CostStudioModel" (102 : Nat) (-99999999 : Int64)) ∈ lw_all := lw_g (lw_at lw_m5 113 rfl) rfl
theorem q1103 : (Jvm.Cond.constantLong "CostStudioModel" (104 : Nat) (99999999 : Int64)) ∈ lw_all := lw_g (lw_at lw_m5 114 rfl) rfl
theorem q1105 : (Jvm.Cond.instanceMethod ({ cls := "CostStudioModel", name := "driver", desc := "(III)I" } : Jvm.MethodName)) ∈ lw_all := lw_g (lw_at lw_m5 116 rfl) rfl
theorem q1106 : (Jvm.Cond.selects "CostStudioModel" ({ cls := "CostStudioModel", name := "driver", desc := "(III)I" } : Jvm.MethodName) ({ cls := "CostStudioModel", name := "driver", desc := "(III)I" } : Jvm.MethodName)) ∈ lw_all := lw_g (lw_at lw_m5 117 rfl) rfl
theorem q1107 : (Jvm.Cond.code ({ cls := "CostStudioModel", name := "driver", desc := "(III)I" } : Jvm.MethodName) prog_12_method_17_code (4 : Nat) (Option.some Jvm.ClassFile.FieldType.int)) ∈ lw_all := lw_g (lw_at lw_m5 118 rfl) rfl
theorem q1108 : (Jvm.Cond.methodLink "CostStudioModel" (118 : Nat) ({ cls := "CostStudioModel", name := "isScenario", desc := "(I)Z" } : Jvm.MethodName)) ∈ lw_all := lw_g (lw_at lw_m5 119 rfl) rfl
theorem q1109 : (Jvm.Cond.privateMethod ({ cls := "CostStudioModel", name := "isScenario", desc := "(I)Z" } : Jvm.MethodName)) ∈ lw_tbl := lw_at lw_m5 120 rfl
theorem q1110 : (Jvm.Cond.instanceMethod ({ cls := "CostStudioModel", name := "isScenario", desc := "(I)Z" } : Jvm.MethodName)) ∈ lw_all := lw_g (lw_at lw_m5 121 rfl) rfl
theorem q1111 : (Jvm.Cond.code ({ cls := "CostStudioModel", name := "isScenario", desc := "(I)Z" } : Jvm.MethodName) prog_12_method_7_code (2 : Nat) (Option.some Jvm.ClassFile.FieldType.boolean)) ∈ lw_all := lw_g (lw_at lw_m5 122 rfl) rfl
theorem q1112 : (Jvm.Cond.methodLink "CostStudioModel" (121 : Nat) ({ cls := "CostStudioModel", name := "isMonth", desc := "(I)Z" } : Jvm.MethodName)) ∈ lw_all := lw_g (lw_at lw_m5 123 rfl) rfl
theorem q1113 : (Jvm.Cond.static ({ cls := "CostStudioModel", name := "isMonth", desc := "(I)Z" } : Jvm.MethodName)) ∈ lw_all := lw_g (lw_at lw_m5 124 rfl) rfl
theorem q1114 : (Jvm.Cond.code ({ cls := "CostStudioModel", name := "isMonth", desc := "(I)Z" } : Jvm.MethodName) prog_12_method_8_code (1 : Nat) (Option.some Jvm.ClassFile.FieldType.boolean)) ∈ lw_all := lw_g (lw_at lw_m5 125 rfl) rfl
theorem q1115 : (Jvm.Cond.methodLink "CostStudioModel" (124 : Nat) ({ cls := "CostStudioModel", name := "checked", desc := "(Z)I" } : Jvm.MethodName)) ∈ lw_all := lw_g (lw_at lw_m5 126 rfl) rfl
theorem q1116 : (Jvm.Cond.privateMethod ({ cls := "CostStudioModel", name := "checked", desc := "(Z)I" } : Jvm.MethodName)) ∈ lw_tbl := lw_at lw_m5 127 rfl
theorem q1117 : (Jvm.Cond.instanceMethod ({ cls := "CostStudioModel", name := "checked", desc := "(Z)I" } : Jvm.MethodName)) ∈ lw_all := lw_g (lw_at lw_m5 128 rfl) rfl
theorem q1118 : (Jvm.Cond.code ({ cls := "CostStudioModel", name := "checked", desc := "(Z)I" } : Jvm.MethodName) prog_12_method_4_code (2 : Nat) (Option.some Jvm.ClassFile.FieldType.int)) ∈ lw_all := lw_g (lw_at lw_m5 129 rfl) rfl
theorem q1120 : (Jvm.Cond.instanceMethod ({ cls := "CostStudioModel", name := "addLine", desc := "(CII)I" } : Jvm.MethodName)) ∈ lw_all := lw_g (lw_at lw_m5 131 rfl) rfl
theorem q1121 : (Jvm.Cond.selects "CostStudioModel" ({ cls := "CostStudioModel", name := "addLine", desc := "(CII)I" } : Jvm.MethodName) ({ cls := "CostStudioModel", name := "addLine", desc := "(CII)I" } : Jvm.MethodName)) ∈ lw_all := lw_g (lw_at lw_m5 132 rfl) rfl
theorem q1122 : (Jvm.Cond.code ({ cls := "CostStudioModel", name := "addLine", desc := "(CII)I" } : Jvm.MethodName) prog_12_method_18_code (5 : Nat) (Option.some Jvm.ClassFile.FieldType.int)) ∈ lw_all := lw_g (lw_at lw_m5 133 rfl) rfl
theorem q1123 : (Jvm.Cond.methodLink "CostStudioModel" (128 : Nat) ({ cls := "CostStudioModel", name := "isLine", desc := "(I)Z" } : Jvm.MethodName)) ∈ lw_all := lw_g (lw_at lw_m5 134 rfl) rfl
theorem q1124 : (Jvm.Cond.privateMethod ({ cls := "CostStudioModel", name := "isLine", desc := "(I)Z" } : Jvm.MethodName)) ∈ lw_tbl := lw_at lw_m5 135 rfl
theorem q1125 : (Jvm.Cond.instanceMethod ({ cls := "CostStudioModel", name := "isLine", desc := "(I)Z" } : Jvm.MethodName)) ∈ lw_all := lw_g (lw_at lw_m5 136 rfl) rfl
theorem q1126 : (Jvm.Cond.code ({ cls := "CostStudioModel", name := "isLine", desc := "(I)Z" } : Jvm.MethodName) prog_12_method_6_code (2 : Nat) (Option.some Jvm.ClassFile.FieldType.boolean)) ∈ lw_all := lw_g (lw_at lw_m5 137 rfl) rfl
theorem q1128 : (Jvm.Cond.instanceMethod ({ cls := "CostStudioModel", name := "addScenario", desc := "(I)I" } : Jvm.MethodName)) ∈ lw_all := lw_g (lw_at lw_m5 139 rfl) rfl
theorem q1129 : (Jvm.Cond.selects "CostStudioModel" ({ cls := "CostStudioModel", name := "addScenario", desc := "(I)I" } : Jvm.MethodName) ({ cls := "CostStudioModel", name := "addScenario", desc := "(I)I" } : Jvm.MethodName)) ∈ lw_all := lw_g (lw_at lw_m5 140 rfl) rfl
theorem q1130 : (Jvm.Cond.code ({ cls := "CostStudioModel", name := "addScenario", desc := "(I)I" } : Jvm.MethodName) prog_12_method_19_code (2 : Nat) (Option.some Jvm.ClassFile.FieldType.int)) ∈ lw_all := lw_g (lw_at lw_m5 141 rfl) rfl
theorem q1132 : (Jvm.Cond.instanceMethod ({ cls := "CostStudioModel", name := "differ", desc := "(IIII)I" } : Jvm.MethodName)) ∈ lw_all := lw_g (lw_at lw_m5 143 rfl) rfl
theorem q1133 : (Jvm.Cond.selects "CostStudioModel" ({ cls := "CostStudioModel", name := "differ", desc := "(IIII)I" } : Jvm.MethodName) ({ cls := "CostStudioModel", name := "differ", desc := "(IIII)I" } : Jvm.MethodName)) ∈ lw_all := lw_g (lw_at lw_m5 144 rfl) rfl
theorem q1134 : (Jvm.Cond.code ({ cls := "CostStudioModel", name := "differ", desc := "(IIII)I" } : Jvm.MethodName) prog_12_method_20_code (7 : Nat) (Option.some Jvm.ClassFile.FieldType.int)) ∈ lw_all := lw_g (lw_at lw_m5 145 rfl) rfl
theorem q1136 : (Jvm.Cond.instanceMethod ({ cls := "CostStudioModel", name := "number", desc := "(III)I" } : Jvm.MethodName)) ∈ lw_all := lw_g (lw_at lw_m5 147 rfl) rfl
theorem q1137 : (Jvm.Cond.selects "CostStudioModel" ({ cls := "CostStudioModel", name := "number", desc := "(III)I" } : Jvm.MethodName) ({ cls := "CostStudioModel", name := "number", desc := "(III)I" } : Jvm.MethodName)) ∈ lw_all := lw_g (lw_at lw_m5 148 rfl) rfl
theorem q1138 : (Jvm.Cond.code ({ cls := "CostStudioModel", name := "number", desc := "(III)I" } : Jvm.MethodName) prog_12_method_21_code (4 : Nat) (Option.some Jvm.ClassFile.FieldType.int)) ∈ lw_all := lw_g (lw_at lw_m5 149 rfl) rfl
theorem q1140 : (Jvm.Cond.instanceMethod ({ cls := "CostStudioModel", name := "numberByHand", desc := "(III)I" } : Jvm.MethodName)) ∈ lw_all := lw_g (lw_at lw_m5 151 rfl) rfl
theorem q1141 : (Jvm.Cond.selects "CostStudioModel" ({ cls := "CostStudioModel", name := "numberByHand", desc := "(III)I" } : Jvm.MethodName) ({ cls := "CostStudioModel", name := "numberByHand", desc := "(III)I" } : Jvm.MethodName)) ∈ lw_all := lw_g (lw_at lw_m5 152 rfl) rfl
theorem q1142 : (Jvm.Cond.code ({ cls := "CostStudioModel", name := "numberByHand", desc := "(III)I" } : Jvm.MethodName) prog_12_method_22_code (4 : Nat) (Option.some Jvm.ClassFile.FieldType.int)) ∈ lw_all := lw_g (lw_at lw_m5 153 rfl) rfl
theorem q1143 : (Jvm.Cond.methodLink "CostStudioModel" (131 : Nat) ({ cls := "CostStudioModel", name := "number", desc := "(III)I" } : Jvm.MethodName)) ∈ lw_all := lw_g (lw_at lw_m5 154 rfl) rfl
theorem q1145 : (Jvm.Cond.instanceMethod ({ cls := "CostStudioModel", name := "year", desc := "(II)J" } : Jvm.MethodName)) ∈ lw_all := lw_g (lw_at lw_m5 156 rfl) rfl
theorem q1146 : (Jvm.Cond.selects "CostStudioModel" ({ cls := "CostStudioModel", name := "year", desc := "(II)J" } : Jvm.MethodName) ({ cls := "CostStudioModel", name := "year", desc := "(II)J" } : Jvm.MethodName)) ∈ lw_all := lw_g (lw_at lw_m5 157 rfl) rfl
theorem q1147 : (Jvm.Cond.code ({ cls := "CostStudioModel", name := "year", desc := "(II)J" } : Jvm.MethodName) prog_12_method_23_code (6 : Nat) (Option.some Jvm.ClassFile.FieldType.long)) ∈ lw_all := lw_g (lw_at lw_m5 158 rfl) rfl
theorem q1149 : (Jvm.Cond.instanceMethod ({ cls := "CostStudioModel", name := "effect", desc := "(IIII)I" } : Jvm.MethodName)) ∈ lw_all := lw_g (lw_at lw_m5 160 rfl) rfl
theorem q1150 : (Jvm.Cond.selects "CostStudioModel" ({ cls := "CostStudioModel", name := "effect", desc := "(IIII)I" } : Jvm.MethodName) ({ cls := "CostStudioModel", name := "effect", desc := "(IIII)I" } : Jvm.MethodName)) ∈ lw_all := lw_g (lw_at lw_m5 161 rfl) rfl
theorem q1151 : (Jvm.Cond.code ({ cls := "CostStudioModel", name := "effect", desc := "(IIII)I" } : Jvm.MethodName) prog_12_method_24_code (9 : Nat) (Option.some Jvm.ClassFile.FieldType.int)) ∈ lw_all := lw_g (lw_at lw_m5 162 rfl) rfl
theorem q1153 : (Jvm.Cond.instanceMethod ({ cls := "CostStudioModel", name := "seek", desc := "(IIII)I" } : Jvm.MethodName)) ∈ lw_all := lw_g (lw_at lw_m5 164 rfl) rfl
theorem q1154 : (Jvm.Cond.selects "CostStudioModel" ({ cls := "CostStudioModel", name := "seek", desc := "(IIII)I" } : Jvm.MethodName) ({ cls := "CostStudioModel", name := "seek", desc := "(IIII)I" } : Jvm.MethodName)) ∈ lw_all := lw_g (lw_at lw_m5 165 rfl) rfl
theorem q1155 : (Jvm.Cond.code ({ cls := "CostStudioModel", name := "seek", desc := "(IIII)I" } : Jvm.MethodName) prog_12_method_25_code (8 : Nat) (Option.some Jvm.ClassFile.FieldType.int)) ∈ lw_all := lw_g (lw_at lw_m5 166 rfl) rfl
theorem q1157 : (Jvm.Cond.instanceMethod ({ cls := "CostStudioModel", name := "actual", desc := "(III)I" } : Jvm.MethodName)) ∈ lw_all := lw_g (lw_at lw_m5 168 rfl) rfl
theorem q1158 : (Jvm.Cond.selects "CostStudioModel" ({ cls := "CostStudioModel", name := "actual", desc := "(III)I" } : Jvm.MethodName) ({ cls := "CostStudioModel", name := "actual", desc := "(III)I" } : Jvm.MethodName)) ∈ lw_all := lw_g (lw_at lw_m5 169 rfl) rfl
theorem q1159 : (Jvm.Cond.code ({ cls := "CostStudioModel", name := "actual", desc := "(III)I" } : Jvm.MethodName) prog_12_method_26_code (4 : Nat) (Option.some Jvm.ClassFile.FieldType.int)) ∈ lw_all := lw_g (lw_at lw_m5 170 rfl) rfl
theorem q1160 : (Jvm.Cond.constant "CostStudioModel" (135 : Nat) (-9999999 : Int32)) ∈ lw_all := lw_g (lw_at lw_m5 171 rfl) rfl
theorem q1161 : (Jvm.Cond.constant "CostStudioModel" (136 : Nat) (9999999 : Int32)) ∈ lw_all := lw_g (lw_at lw_m5 172 rfl) rfl
theorem q1163 : (Jvm.Cond.instanceMethod ({ cls := "CostStudioModel", name := "takeActual", desc := "(II)I" } : Jvm.MethodName)) ∈ lw_all := lw_g (lw_at lw_m5 174 rfl) rfl
theorem q1164 : (Jvm.Cond.selects "CostStudioModel" ({ cls := "CostStudioModel", name := "takeActual", desc := "(II)I" } : Jvm.MethodName) ({ cls := "CostStudioModel", name := "takeActual", desc := "(II)I" } : Jvm.MethodName)) ∈ lw_all := lw_g (lw_at lw_m5 175 rfl) rfl
theorem q1165 : (Jvm.Cond.code ({ cls := "CostStudioModel", name := "takeActual", desc := "(II)I" } : Jvm.MethodName) prog_12_method_27_code (3 : Nat) (Option.some Jvm.ClassFile.FieldType.int)) ∈ lw_all := lw_g (lw_at lw_m5 176 rfl) rfl
theorem q1167 : (Jvm.Cond.instanceMethod ({ cls := "CostStudioModel", name := "pass", desc := "()I" } : Jvm.MethodName)) ∈ lw_all := lw_g (lw_at lw_m5 178 rfl) rfl
theorem q1168 : (Jvm.Cond.selects "CostStudioModel" ({ cls := "CostStudioModel", name := "pass", desc := "()I" } : Jvm.MethodName) ({ cls := "CostStudioModel", name := "pass", desc := "()I" } : Jvm.MethodName)) ∈ lw_all := lw_g (lw_at lw_m5 179 rfl) rfl
theorem q1169 : (Jvm.Cond.code ({ cls := "CostStudioModel", name := "pass", desc := "()I" } : Jvm.MethodName) prog_12_method_28_code (1 : Nat) (Option.some Jvm.ClassFile.FieldType.int)) ∈ lw_all := lw_g (lw_at lw_m5 180 rfl) rfl
theorem q1171 : (Jvm.Cond.instanceMethod ({ cls := "CostStudioModel", name := "month", desc := "()I" } : Jvm.MethodName)) ∈ lw_all := lw_g (lw_at lw_m5 182 rfl) rfl
theorem q1172 : (Jvm.Cond.selects "CostStudioModel" ({ cls := "CostStudioModel", name := "month", desc := "()I" } : Jvm.MethodName) ({ cls := "CostStudioModel", name := "month", desc := "()I" } : Jvm.MethodName)) ∈ lw_all := lw_g (lw_at lw_m5 183 rfl) rfl
theorem q1173 : (Jvm.Cond.code ({ cls := "CostStudioModel", name := "month", desc := "()I" } : Jvm.MethodName) prog_12_method_29_code (1 : Nat) (Option.some Jvm.ClassFile.FieldType.int)) ∈ lw_all := lw_g (lw_at lw_m5 184 rfl) rfl
theorem q1175 : (Jvm.Cond.instanceMethod ({ cls := "CostStudioModel", name := "approve", desc := "(III)I" } : Jvm.MethodName)) ∈ lw_all := lw_g (lw_at lw_m5 186 rfl) rfl
theorem q1176 : (Jvm.Cond.selects "CostStudioModel" ({ cls := "CostStudioModel", name := "approve", desc := "(III)I" } : Jvm.MethodName) ({ cls := "CostStudioModel", name := "approve", desc := "(III)I" } : Jvm.MethodName)) ∈ lw_all := lw_g (lw_at lw_m5 187 rfl) rfl
theorem q1177 : (Jvm.Cond.code ({ cls := "CostStudioModel", name := "approve", desc := "(III)I" } : Jvm.MethodName) prog_12_method_30_code (4 : Nat) (Option.some Jvm.ClassFile.FieldType.int)) ∈ lw_all := lw_g (lw_at lw_m5 188 rfl) rfl
theorem q1179 : (Jvm.Cond.instanceMethod ({ cls := "CostStudioModel", name := "state", desc := "(II)C" } : Jvm.MethodName)) ∈ lw_all := lw_g (lw_at lw_m5 190 rfl) rfl
theorem q1180 : (Jvm.Cond.selects "CostStudioModel" ({ cls := "CostStudioModel", name := "state", desc := "(II)C" } : Jvm.MethodName) ({ cls := "CostStudioModel", name := "state", desc := "(II)C" } : Jvm.MethodName)) ∈ lw_all := lw_g (lw_at lw_m5 191 rfl) rfl
theorem q1181 : (Jvm.Cond.code ({ cls := "CostStudioModel", name := "state", desc := "(II)C" } : Jvm.MethodName) prog_12_method_31_code (3 : Nat) (Option.some Jvm.ClassFile.FieldType.char)) ∈ lw_all := lw_g (lw_at lw_m5 192 rfl) rfl
theorem q1183 : (Jvm.Cond.instanceMethod ({ cls := "CostStudioModel", name := "drift", desc := "(II)I" } : Jvm.MethodName)) ∈ lw_all := lw_g (lw_at lw_m5 194 rfl) rfl
theorem q1184 : (Jvm.Cond.selects "CostStudioModel" ({ cls := "CostStudioModel", name := "drift", desc := "(II)I" } : Jvm.MethodName) ({ cls := "CostStudioModel", name := "drift", desc := "(II)I" } : Jvm.MethodName)) ∈ lw_all := lw_g (lw_at lw_m5 195 rfl) rfl
theorem q1185 : (Jvm.Cond.code ({ cls := "CostStudioModel", name := "drift", desc := "(II)I" } : Jvm.MethodName) prog_12_method_32_code (3 : Nat) (Option.some Jvm.ClassFile.FieldType.int)) ∈ lw_all := lw_g (lw_at lw_m5 196 rfl) rfl
theorem q1187 : (Jvm.Cond.instanceMethod ({ cls := "CostStudioModel", name := "open", desc := "()I" } : Jvm.MethodName)) ∈ lw_all := lw_g (lw_at lw_m5 198 rfl) rfl
theorem q1188 : (Jvm.Cond.selects "CostStudioModel" ({ cls := "CostStudioModel", name := "open", desc := "()I" } : Jvm.MethodName) ({ cls := "CostStudioModel", name := "open", desc := "()I" } : Jvm.MethodName)) ∈ lw_all := lw_g (lw_at lw_m5 199 rfl) rfl
theorem q1189 : (Jvm.Cond.code ({ cls := "CostStudioModel", name := "open", desc := "()I" } : Jvm.MethodName) prog_12_method_34_code (1 : Nat) (Option.some Jvm.ClassFile.FieldType.int)) ∈ lw_all := lw_g (lw_at lw_m5 200 rfl) rfl
theorem q1190 : (Jvm.Cond.methodLink "CostStudioModel" (137 : Nat) ({ cls := "CostStudioModel", name := "many", desc := "(C)I" } : Jvm.MethodName)) ∈ lw_all := lw_g (lw_at lw_m5 201 rfl) rfl
theorem q1191 : (Jvm.Cond.privateMethod ({ cls := "CostStudioModel", name := "many", desc := "(C)I" } : Jvm.MethodName)) ∈ lw_tbl := lw_at lw_m5 202 rfl
theorem q1192 : (Jvm.Cond.instanceMethod ({ cls := "CostStudioModel", name := "many", desc := "(C)I" } : Jvm.MethodName)) ∈ lw_all := lw_g (lw_at lw_m5 203 rfl) rfl
theorem q1193 : (Jvm.Cond.code ({ cls := "CostStudioModel", name := "many", desc := "(C)I" } : Jvm.MethodName) prog_12_method_33_code (4 : Nat) (Option.some Jvm.ClassFile.FieldType.int)) ∈ lw_all := lw_g (lw_at lw_m5 204 rfl) rfl
theorem q1195 : (Jvm.Cond.instanceMethod ({ cls := "CostStudioModel", name := "approvedShare", desc := "()F" } : Jvm.MethodName)) ∈ lw_all := lw_g (lw_at lw_m5 206 rfl) rfl
theorem q1196 : (Jvm.Cond.selects "CostStudioModel" ({ cls := "CostStudioModel", name := "approvedShare", desc := "()F" } : Jvm.MethodName) ({ cls := "CostStudioModel", name := "approvedShare", desc := "()F" } : Jvm.MethodName)) ∈ lw_all := lw_g (lw_at lw_m5 207 rfl) rfl
theorem q1197 : (Jvm.Cond.code ({ cls := "CostStudioModel", name := "approvedShare", desc := "()F" } : Jvm.MethodName) prog_12_method_35_code (2 : Nat) (Option.some Jvm.ClassFile.FieldType.float)) ∈ lw_all := lw_g (lw_at lw_m5 208 rfl) rfl
theorem q1199 : (Jvm.Cond.instanceMethod ({ cls := "CostStudioModel", name := "meanTolerance", desc := "()D" } : Jvm.MethodName)) ∈ lw_all := lw_g (lw_at lw_m5 210 rfl) rfl
theorem q1200 : (Jvm.Cond.selects "CostStudioModel" ({ cls := "CostStudioModel", name := "meanTolerance", desc := "()D" } : Jvm.MethodName) ({ cls := "CostStudioModel", name := "meanTolerance", desc := "()D" } : Jvm.MethodName)) ∈ lw_all := lw_g (lw_at lw_m5 211 rfl) rfl
theorem q1201 : (Jvm.Cond.code ({ cls := "CostStudioModel", name := "meanTolerance", desc := "()D" } : Jvm.MethodName) prog_12_method_36_code (3 : Nat) (Option.some Jvm.ClassFile.FieldType.double)) ∈ lw_all := lw_g (lw_at lw_m5 212 rfl) rfl
theorem q1213 : (Jvm.Cond.castable "CostStudioModel" "java/lang/Object") ∈ lw_tbl := lw_at lw_m5 224 rfl
theorem in_X3 : ∀ w ∈ wsX30, w ∈ lw_all := lw_in wsX30 [1012, 1014, 1016, 1018, 1020, 1022, 1024, 1026, 1028, 1030, 1032, 1034, 1036, 1038, 1040, 1042, 1044, 1046, 1048, 1050, 1052, 1054] (by decide +kernel) (by decide +kernel)
/-! CostStudio$NoNumber -/
set_option maxRecDepth 100000
def RX4 : String := "CostStudio$NoNumber"
abbrev cX4_init : ByteArray := prog_6_method_1_code
def yX4_init : MethodName := ⟨RX4, "<init>", "()V"⟩
def dkwX4_init_0 : List UInt8 := [42, 1, 1, 3, 3, 183, 0, 1, 177]
abbrev dktX4_init_0 : List UInt8 := dkwX4_init_0 ++ []
theorem dksX4_init_0 : cX4_init.data.toList.drop 0 = dktX4_init_0 := by decide +kernel
theorem dX4_init_0 : decode cX4_init 0 = .ok (.aload_n 0, 1) := dk_42 (dk_at dksX4_init_0 0 rfl rfl)
theorem dX4_init_1 : decode cX4_init 1 = .ok (.aconst_null, 1) := dk_1 (dk_at dksX4_init_0 1 rfl rfl)
theorem dX4_init_2 : decode cX4_init 2 = .ok (.aconst_null, 1) := dk_1 (dk_at dksX4_init_0 2 rfl rfl)
theorem dX4_init_3 : decode cX4_init 3 = .ok (.iconst 0, 1) := dk_3 (dk_at dksX4_init_0 3 rfl rfl)
theorem dX4_init_4 : decode cX4_init 4 = .ok (.iconst 0, 1) := dk_3 (dk_at dksX4_init_0 4 rfl rfl)
theorem dX4_init_5 : decode cX4_init 5 = .ok (.invokespecial 1, 3) := dk_183 0 1 (dk_at dksX4_init_0 5 rfl rfl)
theorem dX4_init_8 : decode cX4_init 8 = .ok (.return_, 1) := dk_177 (dk_at dksX4_init_0 8 rfl rfl)
theorem q55 : (Jvm.Cond.initialized "CostStudio$NoNumber") ∈ lw_all := lw_g (lw_at lw_m1 26 rfl) rfl
theorem q563 : (Jvm.Cond.declares ({ cls := "CostStudio$NoNumber", name := "<init>", desc := "()V" } : Jvm.MethodName)) ∈ lw_tbl := lw_at lw_m3 54 rfl
theorem q574 : (Jvm.Cond.instanceMethod ({ cls := "CostStudio$NoNumber", name := "<init>", desc := "()V" } : Jvm.MethodName)) ∈ lw_all := lw_g (lw_at lw_m3 65 rfl) rfl
theorem q575 : (Jvm.Cond.code ({ cls := "CostStudio$NoNumber", name := "<init>", desc := "()V" } : Jvm.MethodName) prog_6_method_1_code (1 : Nat) (Option.none : Option Jvm.ClassFile.FieldType)) ∈ lw_all := lw_g (lw_at lw_m3 66 rfl) rfl
theorem q576 : (Jvm.Cond.methodLink "CostStudio$NoNumber" (1 : Nat) ({ cls := "java/lang/Exception", name := "<init>", desc := "(Ljava/lang/String;Ljava/lang/Throwable;ZZ)V" } : Jvm.MethodName)) ∈ lw_all := lw_g (lw_at lw_m3 67 rfl) rfl
/-! CostStudio$TooGreat -/
set_option maxRecDepth 100000
def RX5 : String := "CostStudio$TooGreat"
def TX5 : u_T := fun k => match k with
  | 0 => ("java/lang/Throwable", "cause", "Ljava/lang/Throwable;", false)
  | 1 => ("java/lang/Throwable", "stackTrace", "[Ljava/lang/StackTraceElement;", false)
  | 2 => ("java/lang/Throwable", "suppressedExceptions", "Ljava/util/List;", false)
  | 3 => ("java/lang/Throwable", "detailMessage", "Ljava/lang/String;", false)
  | 4 => ("java/lang/Throwable", "backtrace", "Ljava/lang/Object;", false)
  | _ => ("java/lang/Throwable", "depth", "I", false)
def tyX5 : Nat → FieldType := fun k => match k with
  | 0 => .object "java/lang/Throwable"
  | 1 => .array (.object "java/lang/StackTraceElement")
  | 2 => .object "java/util/List"
  | 3 => .object "java/lang/String"
  | 4 => .object "java/lang/Object"
  | _ => .int
abbrev wsX50 : List Cond := u_ws RX5 TX5 6
theorem nmX5 : ∀ a, a < 6 → ∀ b, b < 6 → a ≠ b → (TX5 a).2.1 ≠ (TX5 b).2.1 := by decide +kernel
theorem tyX5_ok : ∀ k, k < 6 → parseFieldDescriptor (TX5 k).2.2.1 = some (tyX5 k) := by decide +kernel
abbrev cX5_init : ByteArray := prog_8_method_1_code
def yX5_init : MethodName := ⟨RX5, "<init>", "()V"⟩
theorem dX5_init_0 : decode cX5_init 0 = .ok (.aload_n 0, 1) := by decide +kernel
theorem dX5_init_1 : decode cX5_init 1 = .ok (.invokespecial 1, 3) := by decide +kernel
theorem dX5_init_4 : decode cX5_init 4 = .ok (.return_, 1) := by decide +kernel
theorem q56 : (Jvm.Cond.initialized "CostStudio$TooGreat") ∈ lw_all := lw_g (lw_at lw_m1 27 rfl) rfl
theorem q163 : (Jvm.Cond.selects "CostStudio$TooGreat" ({ cls := "java/lang/Object", name := "getClass", desc := "()Ljava/lang/Class;" } : Jvm.MethodName) ({ cls := "java/lang/Object", name := "getClass", desc := "()Ljava/lang/Class;" } : Jvm.MethodName)) ∈ lw_all := lw_g (lw_at lw_m1 134 rfl) rfl
theorem q303 : (Jvm.Cond.selects "CostStudio$TooGreat" ({ cls := "java/lang/Throwable", name := "fillInStackTrace", desc := "()Ljava/lang/Throwable;" } : Jvm.MethodName) ({ cls := "java/lang/Throwable", name := "fillInStackTrace", desc := "()Ljava/lang/Throwable;" } : Jvm.MethodName)) ∈ lw_all := lw_g (lw_at lw_m2 34 rfl) rfl
theorem q561 : (Jvm.Cond.instantiable "CostStudio$TooGreat" (6 : Nat)) ∈ lw_all := lw_g (lw_at lw_m3 52 rfl) rfl
theorem q562 : (Jvm.Cond.castable "CostStudio$TooGreat" "CostStudio$TooGreat") ∈ lw_tbl := lw_at lw_m3 53 rfl
theorem q564 : (Jvm.Cond.selects "CostStudio$TooGreat" ({ cls := "java/lang/Throwable", name := "fillInStackTrace", desc := "(I)Ljava/lang/Throwable;" } : Jvm.MethodName) ({ cls := "java/lang/Throwable", name := "fillInStackTrace", desc := "(I)Ljava/lang/Throwable;" } : Jvm.MethodName)) ∈ lw_all := lw_g (lw_at lw_m3 55 rfl) rfl
theorem q565 : (Jvm.Cond.lays "CostStudio$TooGreat" "java/lang/Throwable" "cause" "Ljava/lang/Throwable;") ∈ lw_all := lw_g (lw_at lw_m3 56 rfl) rfl
theorem q566 : (Jvm.Cond.lays "CostStudio$TooGreat" "java/lang/Throwable" "stackTrace" "[Ljava/lang/StackTraceElement;") ∈ lw_all := lw_g (lw_at lw_m3 57 rfl) rfl
theorem q567 : (Jvm.Cond.lays "CostStudio$TooGreat" "java/lang/Throwable" "suppressedExceptions" "Ljava/util/List;") ∈ lw_all := lw_g (lw_at lw_m3 58 rfl) rfl
theorem q568 : (Jvm.Cond.lays "CostStudio$TooGreat" "java/lang/Throwable" "detailMessage" "Ljava/lang/String;") ∈ lw_all := lw_g (lw_at lw_m3 59 rfl) rfl
theorem q569 : (Jvm.Cond.lays "CostStudio$TooGreat" "java/lang/Throwable" "backtrace" "Ljava/lang/Object;") ∈ lw_all := lw_g (lw_at lw_m3 60 rfl) rfl
theorem q571 : (Jvm.Cond.instanceMethod ({ cls := "CostStudio$TooGreat", name := "<init>", desc := "()V" } : Jvm.MethodName)) ∈ lw_all := lw_g (lw_at lw_m3 62 rfl) rfl
theorem q572 : (Jvm.Cond.code ({ cls := "CostStudio$TooGreat", name := "<init>", desc := "()V" } : Jvm.MethodName) prog_8_method_1_code (1 : Nat) (Option.none : Option Jvm.ClassFile.FieldType)) ∈ lw_all := lw_g (lw_at lw_m3 63 rfl) rfl
theorem q573 : (Jvm.Cond.methodLink "CostStudio$TooGreat" (1 : Nat) ({ cls := "CostStudio$NoNumber", name := "<init>", desc := "()V" } : Jvm.MethodName)) ∈ lw_all := lw_g (lw_at lw_m3 64 rfl) rfl
theorem q582 : (Jvm.Cond.lays "CostStudio$TooGreat" "java/lang/Throwable" "depth" "I") ∈ lw_all := lw_g (lw_at lw_m3 73 rfl) rfl
theorem q583 : (Jvm.Cond.superclass "CostStudio$TooGreat" "CostStudio$NoNumber") ∈ lw_all := lw_g (lw_at lw_m3 74 rfl) rfl
theorem q1206 : (Jvm.Cond.castable "CostStudio$TooGreat" "CostStudio$NoNumber") ∈ lw_tbl := lw_at lw_m5 217 rfl
theorem q1220 : (Jvm.Cond.castable "CostStudio$TooGreat" "java/lang/Object") ∈ lw_tbl := lw_at lw_m5 231 rfl
theorem in_X5 : ∀ w ∈ wsX50, w ∈ lw_all := lw_in wsX50 [565, 566, 567, 568, 569, 582] (by decide +kernel) (by decide +kernel)
/-! CostStudio$TooSmall -/
set_option maxRecDepth 100000
def RX6 : String := "CostStudio$TooSmall"
def TX6 : u_T := fun k => match k with
  | 0 => ("java/lang/Throwable", "cause", "Ljava/lang/Throwable;", false)
  | 1 => ("java/lang/Throwable", "stackTrace", "[Ljava/lang/StackTraceElement;", false)
  | 2 => ("java/lang/Throwable", "suppressedExceptions", "Ljava/util/List;", false)
  | 3 => ("java/lang/Throwable", "detailMessage", "Ljava/lang/String;", false)
  | 4 => ("java/lang/Throwable", "backtrace", "Ljava/lang/Object;", false)
  | _ => ("java/lang/Throwable", "depth", "I", false)
def tyX6 : Nat → FieldType := fun k => match k with
  | 0 => .object "java/lang/Throwable"
  | 1 => .array (.object "java/lang/StackTraceElement")
  | 2 => .object "java/util/List"
  | 3 => .object "java/lang/String"
  | 4 => .object "java/lang/Object"
  | _ => .int
abbrev wsX60 : List Cond := u_ws RX6 TX6 6
theorem nmX6 : ∀ a, a < 6 → ∀ b, b < 6 → a ≠ b → (TX6 a).2.1 ≠ (TX6 b).2.1 := by decide +kernel
theorem tyX6_ok : ∀ k, k < 6 → parseFieldDescriptor (TX6 k).2.2.1 = some (tyX6 k) := by decide +kernel
abbrev cX6_init : ByteArray := prog_9_method_1_code
def yX6_init : MethodName := ⟨RX6, "<init>", "()V"⟩
theorem dX6_init_0 : decode cX6_init 0 = .ok (.aload_n 0, 1) := by decide +kernel
theorem dX6_init_1 : decode cX6_init 1 = .ok (.invokespecial 1, 3) := by decide +kernel
theorem dX6_init_4 : decode cX6_init 4 = .ok (.return_, 1) := by decide +kernel
theorem q57 : (Jvm.Cond.initialized "CostStudio$TooSmall") ∈ lw_all := lw_g (lw_at lw_m1 28 rfl) rfl
theorem q164 : (Jvm.Cond.selects "CostStudio$TooSmall" ({ cls := "java/lang/Object", name := "getClass", desc := "()Ljava/lang/Class;" } : Jvm.MethodName) ({ cls := "java/lang/Object", name := "getClass", desc := "()Ljava/lang/Class;" } : Jvm.MethodName)) ∈ lw_all := lw_g (lw_at lw_m1 135 rfl) rfl
theorem q304 : (Jvm.Cond.selects "CostStudio$TooSmall" ({ cls := "java/lang/Throwable", name := "fillInStackTrace", desc := "()Ljava/lang/Throwable;" } : Jvm.MethodName) ({ cls := "java/lang/Throwable", name := "fillInStackTrace", desc := "()Ljava/lang/Throwable;" } : Jvm.MethodName)) ∈ lw_all := lw_g (lw_at lw_m2 35 rfl) rfl
theorem q585 : (Jvm.Cond.instantiable "CostStudio$TooSmall" (6 : Nat)) ∈ lw_all := lw_g (lw_at lw_m3 76 rfl) rfl
theorem q586 : (Jvm.Cond.castable "CostStudio$TooSmall" "CostStudio$TooSmall") ∈ lw_tbl := lw_at lw_m3 77 rfl
theorem q587 : (Jvm.Cond.selects "CostStudio$TooSmall" ({ cls := "java/lang/Throwable", name := "fillInStackTrace", desc := "(I)Ljava/lang/Throwable;" } : Jvm.MethodName) ({ cls := "java/lang/Throwable", name := "fillInStackTrace", desc := "(I)Ljava/lang/Throwable;" } : Jvm.MethodName)) ∈ lw_all := lw_g (lw_at lw_m3 78 rfl) rfl
theorem q588 : (Jvm.Cond.lays "CostStudio$TooSmall" "java/lang/Throwable" "cause" "Ljava/lang/Throwable;") ∈ lw_all := lw_g (lw_at lw_m3 79 rfl) rfl
theorem q589 : (Jvm.Cond.lays "CostStudio$TooSmall" "java/lang/Throwable" "stackTrace" "[Ljava/lang/StackTraceElement;") ∈ lw_all := lw_g (lw_at lw_m3 80 rfl) rfl
theorem q590 : (Jvm.Cond.lays "CostStudio$TooSmall" "java/lang/Throwable" "suppressedExceptions" "Ljava/util/List;") ∈ lw_all := lw_g (lw_at lw_m3 81 rfl) rfl
theorem q591 : (Jvm.Cond.lays "CostStudio$TooSmall" "java/lang/Throwable" "detailMessage" "Ljava/lang/String;") ∈ lw_all := lw_g (lw_at lw_m3 82 rfl) rfl
theorem q592 : (Jvm.Cond.lays "CostStudio$TooSmall" "java/lang/Throwable" "backtrace" "Ljava/lang/Object;") ∈ lw_all := lw_g (lw_at lw_m3 83 rfl) rfl
theorem q594 : (Jvm.Cond.instanceMethod ({ cls := "CostStudio$TooSmall", name := "<init>", desc := "()V" } : Jvm.MethodName)) ∈ lw_all := lw_g (lw_at lw_m3 85 rfl) rfl
theorem q595 : (Jvm.Cond.code ({ cls := "CostStudio$TooSmall", name := "<init>", desc := "()V" } : Jvm.MethodName) prog_9_method_1_code (1 : Nat) (Option.none : Option Jvm.ClassFile.FieldType)) ∈ lw_all := lw_g (lw_at lw_m3 86 rfl) rfl
theorem q596 : (Jvm.Cond.methodLink "CostStudio$TooSmall" (1 : Nat) ({ cls := "CostStudio$NoNumber", name := "<init>", desc := "()V" } : Jvm.MethodName)) ∈ lw_all := lw_g (lw_at lw_m3 87 rfl) rfl
theorem q597 : (Jvm.Cond.lays "CostStudio$TooSmall" "java/lang/Throwable" "depth" "I") ∈ lw_all := lw_g (lw_at lw_m3 88 rfl) rfl
theorem q598 : (Jvm.Cond.superclass "CostStudio$TooSmall" "CostStudio$NoNumber") ∈ lw_all := lw_g (lw_at lw_m3 89 rfl) rfl
theorem q1207 : (Jvm.Cond.castable "CostStudio$TooSmall" "CostStudio$NoNumber") ∈ lw_tbl := lw_at lw_m5 218 rfl
theorem q1221 : (Jvm.Cond.castable "CostStudio$TooSmall" "java/lang/Object") ∈ lw_tbl := lw_at lw_m5 232 rfl
theorem in_X6 : ∀ w ∈ wsX60, w ∈ lw_all := lw_in wsX60 [588, 589, 590, 591, 592, 597] (by decide +kernel) (by decide +kernel)
/-! CostStudio$Line -/
set_option maxRecDepth 100000
def RX7 : String := "CostStudio$Line"
def TX7 : u_T := fun k => match k with
  | 0 => ("CostStudio$Line", "number", "I", true)
  | 1 => ("CostStudio$Line", "kind", "C", true)
  | 2 => ("CostStudio$Line", "one", "I", true)
  | 3 => ("CostStudio$Line", "other", "I", true)
  | 4 => ("CostStudio$Line", "formula", "LCostStudio$Formula;", true)
  | 5 => ("CostStudio$Line", "actuals", "[Ljava/lang/Integer;", true)
  | _ => ("CostStudio$Line", "approvals", "[LCostStudio$Approval;", true)
def tyX7 : Nat → FieldType := fun k => match k with
  | 0 => .int
  | 1 => .char
  | 2 => .int
  | 3 => .int
  | 4 => .object "CostStudio$Formula"
  | 5 => .array (.object "java/lang/Integer")
  | _ => .array (.object "CostStudio$Approval")
abbrev wsX70 : List Cond := u_ws RX7 TX7 7
theorem nmX7 : ∀ a, a < 7 → ∀ b, b < 7 → a ≠ b → (TX7 a).2.1 ≠ (TX7 b).2.1 := by decide +kernel
theorem tyX7_ok : ∀ k, k < 7 → parseFieldDescriptor (TX7 k).2.2.1 = some (tyX7 k) := by decide +kernel
abbrev cX7_init : ByteArray := prog_5_method_1_code
def yX7_init : MethodName := ⟨RX7, "<init>", "(ICII)V"⟩
def dkwX7_init_2 : List UInt8 := [181, 0, 41, 177]
abbrev dktX7_init_2 : List UInt8 := dkwX7_init_2 ++ []
def dkwX7_init_1 : List UInt8 := [181, 0, 23, 42, 28, 181, 0, 27, 42, 29, 181, 0, 31, 42, 21, 4, 181, 0, 34, 42, 28, 184, 0, 37]
abbrev dktX7_init_1 : List UInt8 := dkwX7_init_1 ++ dktX7_init_2
def dkwX7_init_0 : List UInt8 := [42, 183, 0, 3, 42, 16, 12, 189, 0, 9, 181, 0, 11, 42, 16, 12, 189, 0, 17, 181, 0, 19, 42, 27]
abbrev dktX7_init_0 : List UInt8 := dkwX7_init_0 ++ dktX7_init_1
theorem dksX7_init_0 : cX7_init.data.toList.drop 0 = dktX7_init_0 := by decide +kernel
theorem dksX7_init_1 : cX7_init.data.toList.drop 24 = dktX7_init_1 := dk_seg dksX7_init_0 24 rfl rfl
theorem dksX7_init_2 : cX7_init.data.toList.drop 48 = dktX7_init_2 := dk_seg dksX7_init_1 24 rfl rfl
theorem dX7_init_0 : decode cX7_init 0 = .ok (.aload_n 0, 1) := dk_42 (dk_at dksX7_init_0 0 rfl rfl)
theorem dX7_init_1 : decode cX7_init 1 = .ok (.invokespecial 3, 3) := dk_183 0 3 (dk_at dksX7_init_0 1 rfl rfl)
theorem dX7_init_4 : decode cX7_init 4 = .ok (.aload_n 0, 1) := dk_42 (dk_at dksX7_init_0 4 rfl rfl)
theorem dX7_init_5 : decode cX7_init 5 = .ok (.bipush 12, 2) := dk_16 12 (dk_at dksX7_init_0 5 rfl rfl)
theorem dX7_init_7 : decode cX7_init 7 = .ok (.anewarray 9, 3) := dk_189 0 9 (dk_at dksX7_init_0 7 rfl rfl)
theorem dX7_init_10 : decode cX7_init 10 = .ok (.putfield 11, 3) := dk_181 0 11 (dk_at dksX7_init_0 10 rfl rfl)
theorem dX7_init_13 : decode cX7_init 13 = .ok (.aload_n 0, 1) := dk_42 (dk_at dksX7_init_0 13 rfl rfl)
theorem dX7_init_14 : decode cX7_init 14 = .ok (.bipush 12, 2) := dk_16 12 (dk_at dksX7_init_0 14 rfl rfl)
theorem dX7_init_16 : decode cX7_init 16 = .ok (.anewarray 17, 3) := dk_189 0 17 (dk_at dksX7_init_0 16 rfl rfl)
theorem dX7_init_19 : decode cX7_init 19 = .ok (.putfield 19, 3) := dk_181 0 19 (dk_at dksX7_init_0 19 rfl rfl)
theorem dX7_init_22 : decode cX7_init 22 = .ok (.aload_n 0, 1) := dk_42 (dk_at dksX7_init_0 22 rfl rfl)
theorem dX7_init_23 : decode cX7_init 23 = .ok (.iload_n 1, 1) := dk_27 (dk_at dksX7_init_0 23 rfl rfl)
theorem dX7_init_24 : decode cX7_init 24 = .ok (.putfield 23, 3) := dk_181 0 23 (dk_at dksX7_init_1 0 rfl rfl)
theorem dX7_init_27 : decode cX7_init 27 = .ok (.aload_n 0, 1) := dk_42 (dk_at dksX7_init_1 3 rfl rfl)
theorem dX7_init_28 : decode cX7_init 28 = .ok (.iload_n 2, 1) := dk_28 (dk_at dksX7_init_1 4 rfl rfl)
theorem dX7_init_29 : decode cX7_init 29 = .ok (.putfield 27, 3) := dk_181 0 27 (dk_at dksX7_init_1 5 rfl rfl)
theorem dX7_init_32 : decode cX7_init 32 = .ok (.aload_n 0, 1) := dk_42 (dk_at dksX7_init_1 8 rfl rfl)
theorem dX7_init_33 : decode cX7_init 33 = .ok (.iload_n 3, 1) := dk_29 (dk_at dksX7_init_1 9 rfl rfl)
theorem dX7_init_34 : decode cX7_init 34 = .ok (.putfield 31, 3) := dk_181 0 31 (dk_at dksX7_init_1 10 rfl rfl)
theorem dX7_init_37 : decode cX7_init 37 = .ok (.aload_n 0, 1) := dk_42 (dk_at dksX7_init_1 13 rfl rfl)
theorem dX7_init_38 : decode cX7_init 38 = .ok (.iload 4, 2) := dk_21 4 (dk_at dksX7_init_1 14 rfl rfl)
theorem dX7_init_40 : decode cX7_init 40 = .ok (.putfield 34, 3) := dk_181 0 34 (dk_at dksX7_init_1 16 rfl rfl)
theorem dX7_init_43 : decode cX7_init 43 = .ok (.aload_n 0, 1) := dk_42 (dk_at dksX7_init_1 19 rfl rfl)
theorem dX7_init_44 : decode cX7_init 44 = .ok (.iload_n 2, 1) := dk_28 (dk_at dksX7_init_1 20 rfl rfl)
theorem dX7_init_45 : decode cX7_init 45 = .ok (.invokestatic 37, 3) := dk_184 0 37 (dk_at dksX7_init_1 21 rfl rfl)
theorem dX7_init_48 : decode cX7_init 48 = .ok (.putfield 41, 3) := dk_181 0 41 (dk_at dksX7_init_2 0 rfl rfl)
theorem dX7_init_51 : decode cX7_init 51 = .ok (.return_, 1) := dk_177 (dk_at dksX7_init_2 3 rfl rfl)
theorem q61 : (Jvm.Cond.initialized "CostStudio$Line") ∈ lw_all := lw_g (lw_at lw_m1 32 rfl) rfl
theorem q161 : (Jvm.Cond.selects "CostStudio$Line" ({ cls := "java/lang/Object", name := "getClass", desc := "()Ljava/lang/Class;" } : Jvm.MethodName) ({ cls := "java/lang/Object", name := "getClass", desc := "()Ljava/lang/Class;" } : Jvm.MethodName)) ∈ lw_all := lw_g (lw_at lw_m1 132 rfl) rfl
theorem q707 : (Jvm.Cond.instantiable "CostStudio$Line" (7 : Nat)) ∈ lw_all := lw_g (lw_at lw_m3 198 rfl) rfl
theorem q709 : (Jvm.Cond.instanceMethod ({ cls := "CostStudio$Line", name := "<init>", desc := "(ICII)V" } : Jvm.MethodName)) ∈ lw_all := lw_g (lw_at lw_m3 200 rfl) rfl
theorem q710 : (Jvm.Cond.code ({ cls := "CostStudio$Line", name := "<init>", desc := "(ICII)V" } : Jvm.MethodName) prog_5_method_1_code (5 : Nat) (Option.none : Option Jvm.ClassFile.FieldType)) ∈ lw_all := lw_g (lw_at lw_m3 201 rfl) rfl
theorem q711 : (Jvm.Cond.methodLink "CostStudio$Line" (3 : Nat) ({ cls := "java/lang/Object", name := "<init>", desc := "()V" } : Jvm.MethodName)) ∈ lw_all := lw_g (lw_at lw_m3 202 rfl) rfl
theorem q712 : (Jvm.Cond.classLink "CostStudio$Line" (9 : Nat) "java/lang/Integer") ∈ lw_all := lw_g (lw_at lw_m3 203 rfl) rfl
theorem q714 : (Jvm.Cond.classLink "CostStudio$Line" (17 : Nat) "CostStudio$Approval") ∈ lw_all := lw_g (lw_at lw_m3 205 rfl) rfl
theorem q716 : (Jvm.Cond.methodLinkNest "CostStudio$Line" (37 : Nat) ({ cls := "CostStudio", name := "formula", desc := "(C)LCostStudio$Formula;" } : Jvm.MethodName) "CostStudio") ∈ lw_tbl := lw_at lw_m3 207 rfl
theorem q726 : (Jvm.Cond.fieldLink "CostStudio$Line" (23 : Nat) "CostStudio$Line" "number" "I") ∈ lw_all := lw_g (lw_at lw_m3 217 rfl) rfl
theorem q728 : (Jvm.Cond.fieldLink "CostStudio$Line" (27 : Nat) "CostStudio$Line" "kind" "C") ∈ lw_all := lw_g (lw_at lw_m3 219 rfl) rfl
theorem q730 : (Jvm.Cond.fieldLink "CostStudio$Line" (31 : Nat) "CostStudio$Line" "one" "I") ∈ lw_all := lw_g (lw_at lw_m3 221 rfl) rfl
theorem q732 : (Jvm.Cond.fieldLink "CostStudio$Line" (34 : Nat) "CostStudio$Line" "other" "I") ∈ lw_all := lw_g (lw_at lw_m3 223 rfl) rfl
theorem q734 : (Jvm.Cond.fieldLink "CostStudio$Line" (41 : Nat) "CostStudio$Line" "formula" "LCostStudio$Formula;") ∈ lw_all := lw_g (lw_at lw_m3 225 rfl) rfl
theorem q736 : (Jvm.Cond.fieldLink "CostStudio$Line" (11 : Nat) "CostStudio$Line" "actuals" "[Ljava/lang/Integer;") ∈ lw_all := lw_g (lw_at lw_m3 227 rfl) rfl
theorem q738 : (Jvm.Cond.fieldLink "CostStudio$Line" (19 : Nat) "CostStudio$Line" "approvals" "[LCostStudio$Approval;") ∈ lw_all := lw_g (lw_at lw_m3 229 rfl) rfl
theorem q740 : (Jvm.Cond.laysFinal "CostStudio$Line" "CostStudio$Line" "number" "I") ∈ lw_all := lw_g (lw_at lw_m3 231 rfl) rfl
theorem q741 : (Jvm.Cond.soleField "CostStudio$Line" "number") ∈ lw_all := lw_g (lw_at lw_m3 232 rfl) rfl
theorem q742 : (Jvm.Cond.laysFinal "CostStudio$Line" "CostStudio$Line" "kind" "C") ∈ lw_all := lw_g (lw_at lw_m3 233 rfl) rfl
theorem q743 : (Jvm.Cond.soleField "CostStudio$Line" "kind") ∈ lw_all := lw_g (lw_at lw_m3 234 rfl) rfl
theorem q744 : (Jvm.Cond.laysFinal "CostStudio$Line" "CostStudio$Line" "one" "I") ∈ lw_all := lw_g (lw_at lw_m3 235 rfl) rfl
theorem q745 : (Jvm.Cond.soleField "CostStudio$Line" "one") ∈ lw_all := lw_g (lw_at lw_m3 236 rfl) rfl
theorem q746 : (Jvm.Cond.laysFinal "CostStudio$Line" "CostStudio$Line" "other" "I") ∈ lw_all := lw_g (lw_at lw_m3 237 rfl) rfl
theorem q747 : (Jvm.Cond.soleField "CostStudio$Line" "other") ∈ lw_all := lw_g (lw_at lw_m3 238 rfl) rfl
theorem q748 : (Jvm.Cond.laysFinal "CostStudio$Line" "CostStudio$Line" "formula" "LCostStudio$Formula;") ∈ lw_all := lw_g (lw_at lw_m3 239 rfl) rfl
theorem q749 : (Jvm.Cond.soleField "CostStudio$Line" "formula") ∈ lw_all := lw_g (lw_at lw_m4 0 rfl) rfl
theorem q750 : (Jvm.Cond.laysFinal "CostStudio$Line" "CostStudio$Line" "actuals" "[Ljava/lang/Integer;") ∈ lw_all := lw_g (lw_at lw_m4 1 rfl) rfl
theorem q751 : (Jvm.Cond.soleField "CostStudio$Line" "actuals") ∈ lw_all := lw_g (lw_at lw_m4 2 rfl) rfl
theorem q752 : (Jvm.Cond.laysFinal "CostStudio$Line" "CostStudio$Line" "approvals" "[LCostStudio$Approval;") ∈ lw_all := lw_g (lw_at lw_m4 3 rfl) rfl
theorem q753 : (Jvm.Cond.soleField "CostStudio$Line" "approvals") ∈ lw_all := lw_g (lw_at lw_m4 4 rfl) rfl
theorem q754 : (Jvm.Cond.superclass "CostStudio$Line" "java/lang/Object") ∈ lw_all := lw_g (lw_at lw_m4 5 rfl) rfl
theorem q1222 : (Jvm.Cond.castable "CostStudio$Line" "java/lang/Object") ∈ lw_tbl := lw_at lw_m5 233 rfl
theorem in_X7 : ∀ w ∈ wsX70, w ∈ lw_all := lw_in wsX70 [740, 742, 744, 746, 748, 750, 752] (by decide +kernel) (by decide +kernel)
/-! CostStudio$Difference -/
set_option maxRecDepth 100000
def RX8 : String := "CostStudio$Difference"
def TX8 : u_T := fun k => match k with
  | 0 => ("CostStudio$Difference", "driver", "I", true)
  | 1 => ("CostStudio$Difference", "from", "I", true)
  | _ => ("CostStudio$Difference", "number", "I", true)
def tyX8 : Nat → FieldType := fun k => match k with
  | 0 => .int
  | 1 => .int
  | _ => .int
abbrev wsX80 : List Cond := u_ws RX8 TX8 3
theorem nmX8 : ∀ a, a < 3 → ∀ b, b < 3 → a ≠ b → (TX8 a).2.1 ≠ (TX8 b).2.1 := by decide +kernel
theorem tyX8_ok : ∀ k, k < 3 → parseFieldDescriptor (TX8 k).2.2.1 = some (tyX8 k) := by decide +kernel
abbrev cX8_init : ByteArray := prog_3_method_1_code
def yX8_init : MethodName := ⟨RX8, "<init>", "(III)V"⟩
def dkwX8_init_0 : List UInt8 := [42, 183, 0, 1, 42, 27, 181, 0, 7, 42, 28, 181, 0, 13, 42, 29, 181, 0, 16, 177]
abbrev dktX8_init_0 : List UInt8 := dkwX8_init_0 ++ []
theorem dksX8_init_0 : cX8_init.data.toList.drop 0 = dktX8_init_0 := by decide +kernel
theorem dX8_init_0 : decode cX8_init 0 = .ok (.aload_n 0, 1) := dk_42 (dk_at dksX8_init_0 0 rfl rfl)
theorem dX8_init_1 : decode cX8_init 1 = .ok (.invokespecial 1, 3) := dk_183 0 1 (dk_at dksX8_init_0 1 rfl rfl)
theorem dX8_init_4 : decode cX8_init 4 = .ok (.aload_n 0, 1) := dk_42 (dk_at dksX8_init_0 4 rfl rfl)
theorem dX8_init_5 : decode cX8_init 5 = .ok (.iload_n 1, 1) := dk_27 (dk_at dksX8_init_0 5 rfl rfl)
theorem dX8_init_6 : decode cX8_init 6 = .ok (.putfield 7, 3) := dk_181 0 7 (dk_at dksX8_init_0 6 rfl rfl)
theorem dX8_init_9 : decode cX8_init 9 = .ok (.aload_n 0, 1) := dk_42 (dk_at dksX8_init_0 9 rfl rfl)
theorem dX8_init_10 : decode cX8_init 10 = .ok (.iload_n 2, 1) := dk_28 (dk_at dksX8_init_0 10 rfl rfl)
theorem dX8_init_11 : decode cX8_init 11 = .ok (.putfield 13, 3) := dk_181 0 13 (dk_at dksX8_init_0 11 rfl rfl)
theorem dX8_init_14 : decode cX8_init 14 = .ok (.aload_n 0, 1) := dk_42 (dk_at dksX8_init_0 14 rfl rfl)
theorem dX8_init_15 : decode cX8_init 15 = .ok (.iload_n 3, 1) := dk_29 (dk_at dksX8_init_0 15 rfl rfl)
theorem dX8_init_16 : decode cX8_init 16 = .ok (.putfield 16, 3) := dk_181 0 16 (dk_at dksX8_init_0 16 rfl rfl)
theorem dX8_init_19 : decode cX8_init 19 = .ok (.return_, 1) := dk_177 (dk_at dksX8_init_0 19 rfl rfl)
theorem q63 : (Jvm.Cond.initialized "CostStudio$Difference") ∈ lw_all := lw_g (lw_at lw_m1 34 rfl) rfl
theorem q160 : (Jvm.Cond.selects "CostStudio$Difference" ({ cls := "java/lang/Object", name := "getClass", desc := "()Ljava/lang/Class;" } : Jvm.MethodName) ({ cls := "java/lang/Object", name := "getClass", desc := "()Ljava/lang/Class;" } : Jvm.MethodName)) ∈ lw_all := lw_g (lw_at lw_m1 131 rfl) rfl
theorem q786 : (Jvm.Cond.instantiable "CostStudio$Difference" (3 : Nat)) ∈ lw_all := lw_g (lw_at lw_m4 37 rfl) rfl
theorem q788 : (Jvm.Cond.instanceMethod ({ cls := "CostStudio$Difference", name := "<init>", desc := "(III)V" } : Jvm.MethodName)) ∈ lw_all := lw_g (lw_at lw_m4 39 rfl) rfl
theorem q789 : (Jvm.Cond.code ({ cls := "CostStudio$Difference", name := "<init>", desc := "(III)V" } : Jvm.MethodName) prog_3_method_1_code (4 : Nat) (Option.none : Option Jvm.ClassFile.FieldType)) ∈ lw_all := lw_g (lw_at lw_m4 40 rfl) rfl
theorem q790 : (Jvm.Cond.methodLink "CostStudio$Difference" (1 : Nat) ({ cls := "java/lang/Object", name := "<init>", desc := "()V" } : Jvm.MethodName)) ∈ lw_all := lw_g (lw_at lw_m4 41 rfl) rfl
theorem q791 : (Jvm.Cond.fieldLink "CostStudio$Difference" (7 : Nat) "CostStudio$Difference" "driver" "I") ∈ lw_all := lw_g (lw_at lw_m4 42 rfl) rfl
theorem q793 : (Jvm.Cond.fieldLink "CostStudio$Difference" (13 : Nat) "CostStudio$Difference" "from" "I") ∈ lw_all := lw_g (lw_at lw_m4 44 rfl) rfl
theorem q795 : (Jvm.Cond.fieldLink "CostStudio$Difference" (16 : Nat) "CostStudio$Difference" "number" "I") ∈ lw_all := lw_g (lw_at lw_m4 46 rfl) rfl
theorem q797 : (Jvm.Cond.laysFinal "CostStudio$Difference" "CostStudio$Difference" "driver" "I") ∈ lw_all := lw_g (lw_at lw_m4 48 rfl) rfl
theorem q798 : (Jvm.Cond.soleField "CostStudio$Difference" "driver") ∈ lw_all := lw_g (lw_at lw_m4 49 rfl) rfl
theorem q799 : (Jvm.Cond.laysFinal "CostStudio$Difference" "CostStudio$Difference" "from" "I") ∈ lw_all := lw_g (lw_at lw_m4 50 rfl) rfl
theorem q800 : (Jvm.Cond.soleField "CostStudio$Difference" "from") ∈ lw_all := lw_g (lw_at lw_m4 51 rfl) rfl
theorem q801 : (Jvm.Cond.laysFinal "CostStudio$Difference" "CostStudio$Difference" "number" "I") ∈ lw_all := lw_g (lw_at lw_m4 52 rfl) rfl
theorem q802 : (Jvm.Cond.soleField "CostStudio$Difference" "number") ∈ lw_all := lw_g (lw_at lw_m4 53 rfl) rfl
theorem q803 : (Jvm.Cond.superclass "CostStudio$Difference" "java/lang/Object") ∈ lw_all := lw_g (lw_at lw_m4 54 rfl) rfl
theorem q1224 : (Jvm.Cond.castable "CostStudio$Difference" "java/lang/Object") ∈ lw_tbl := lw_at lw_m5 235 rfl
theorem in_X8 : ∀ w ∈ wsX80, w ∈ lw_all := lw_in wsX80 [797, 799, 801] (by decide +kernel) (by decide +kernel)
/-! CostStudio$Approval -/
set_option maxRecDepth 100000
def RX9 : String := "CostStudio$Approval"
def TX9 : u_T := fun k => match k with
  | 0 => ("CostStudio$Approval", "number", "I", true)
  | 1 => ("CostStudio$Approval", "tolerance", "I", true)
  | _ => ("CostStudio$Approval", "isOpen", "Z", false)
def tyX9 : Nat → FieldType := fun k => match k with
  | 0 => .int
  | 1 => .int
  | _ => .boolean
abbrev wsX90 : List Cond := u_ws RX9 TX9 3
theorem nmX9 : ∀ a, a < 3 → ∀ b, b < 3 → a ≠ b → (TX9 a).2.1 ≠ (TX9 b).2.1 := by decide +kernel
theorem tyX9_ok : ∀ k, k < 3 → parseFieldDescriptor (TX9 k).2.2.1 = some (tyX9 k) := by decide +kernel
abbrev cX9_init : ByteArray := prog_2_method_1_code
def yX9_init : MethodName := ⟨RX9, "<init>", "(II)V"⟩
def dkwX9_init_0 : List UInt8 := [42, 183, 0, 1, 42, 27, 181, 0, 7, 42, 28, 181, 0, 13, 177]
abbrev dktX9_init_0 : List UInt8 := dkwX9_init_0 ++ []
theorem dksX9_init_0 : cX9_init.data.toList.drop 0 = dktX9_init_0 := by decide +kernel
theorem dX9_init_0 : decode cX9_init 0 = .ok (.aload_n 0, 1) := dk_42 (dk_at dksX9_init_0 0 rfl rfl)
theorem dX9_init_1 : decode cX9_init 1 = .ok (.invokespecial 1, 3) := dk_183 0 1 (dk_at dksX9_init_0 1 rfl rfl)
theorem dX9_init_4 : decode cX9_init 4 = .ok (.aload_n 0, 1) := dk_42 (dk_at dksX9_init_0 4 rfl rfl)
theorem dX9_init_5 : decode cX9_init 5 = .ok (.iload_n 1, 1) := dk_27 (dk_at dksX9_init_0 5 rfl rfl)
theorem dX9_init_6 : decode cX9_init 6 = .ok (.putfield 7, 3) := dk_181 0 7 (dk_at dksX9_init_0 6 rfl rfl)
theorem dX9_init_9 : decode cX9_init 9 = .ok (.aload_n 0, 1) := dk_42 (dk_at dksX9_init_0 9 rfl rfl)
theorem dX9_init_10 : decode cX9_init 10 = .ok (.iload_n 2, 1) := dk_28 (dk_at dksX9_init_0 10 rfl rfl)
theorem dX9_init_11 : decode cX9_init 11 = .ok (.putfield 13, 3) := dk_181 0 13 (dk_at dksX9_init_0 11 rfl rfl)
theorem dX9_init_14 : decode cX9_init 14 = .ok (.return_, 1) := dk_177 (dk_at dksX9_init_0 14 rfl rfl)
theorem q64 : (Jvm.Cond.initialized "CostStudio$Approval") ∈ lw_all := lw_g (lw_at lw_m1 35 rfl) rfl
theorem q159 : (Jvm.Cond.selects "CostStudio$Approval" ({ cls := "java/lang/Object", name := "getClass", desc := "()Ljava/lang/Class;" } : Jvm.MethodName) ({ cls := "java/lang/Object", name := "getClass", desc := "()Ljava/lang/Class;" } : Jvm.MethodName)) ∈ lw_all := lw_g (lw_at lw_m1 130 rfl) rfl
theorem q910 : (Jvm.Cond.instantiable "CostStudio$Approval" (3 : Nat)) ∈ lw_all := lw_g (lw_at lw_m4 161 rfl) rfl
theorem q912 : (Jvm.Cond.instanceMethod ({ cls := "CostStudio$Approval", name := "<init>", desc := "(II)V" } : Jvm.MethodName)) ∈ lw_all := lw_g (lw_at lw_m4 163 rfl) rfl
theorem q913 : (Jvm.Cond.code ({ cls := "CostStudio$Approval", name := "<init>", desc := "(II)V" } : Jvm.MethodName) prog_2_method_1_code (3 : Nat) (Option.none : Option Jvm.ClassFile.FieldType)) ∈ lw_all := lw_g (lw_at lw_m4 164 rfl) rfl
theorem q914 : (Jvm.Cond.methodLink "CostStudio$Approval" (1 : Nat) ({ cls := "java/lang/Object", name := "<init>", desc := "()V" } : Jvm.MethodName)) ∈ lw_all := lw_g (lw_at lw_m4 165 rfl) rfl
theorem q915 : (Jvm.Cond.fieldLink "CostStudio$Approval" (7 : Nat) "CostStudio$Approval" "number" "I") ∈ lw_all := lw_g (lw_at lw_m4 166 rfl) rfl
theorem q917 : (Jvm.Cond.fieldLink "CostStudio$Approval" (13 : Nat) "CostStudio$Approval" "tolerance" "I") ∈ lw_all := lw_g (lw_at lw_m4 168 rfl) rfl
theorem q920 : (Jvm.Cond.laysFinal "CostStudio$Approval" "CostStudio$Approval" "number" "I") ∈ lw_all := lw_g (lw_at lw_m4 171 rfl) rfl
theorem q921 : (Jvm.Cond.soleField "CostStudio$Approval" "number") ∈ lw_all := lw_g (lw_at lw_m4 172 rfl) rfl
theorem q922 : (Jvm.Cond.laysFinal "CostStudio$Approval" "CostStudio$Approval" "tolerance" "I") ∈ lw_all := lw_g (lw_at lw_m4 173 rfl) rfl
theorem q923 : (Jvm.Cond.soleField "CostStudio$Approval" "tolerance") ∈ lw_all := lw_g (lw_at lw_m4 174 rfl) rfl
theorem q924 : (Jvm.Cond.lays "CostStudio$Approval" "CostStudio$Approval" "isOpen" "Z") ∈ lw_all := lw_g (lw_at lw_m4 175 rfl) rfl
theorem q925 : (Jvm.Cond.soleField "CostStudio$Approval" "isOpen") ∈ lw_all := lw_g (lw_at lw_m4 176 rfl) rfl
theorem q926 : (Jvm.Cond.superclass "CostStudio$Approval" "java/lang/Object") ∈ lw_all := lw_g (lw_at lw_m4 177 rfl) rfl
theorem q1209 : (Jvm.Cond.castable "CostStudio$Approval" "java/lang/Object") ∈ lw_tbl := lw_at lw_m5 220 rfl
theorem in_X9 : ∀ w ∈ wsX90, w ∈ lw_all := lw_in wsX90 [920, 922, 924] (by decide +kernel) (by decide +kernel)
/-! the law's own entry -/
set_option maxRecDepth 100000
abbrev cL_law : ByteArray := code
def dkwL_law_63 : List UInt8 := [151, 154, 0, 5, 3, 172, 167, 0, 3, 132, 5, 5, 167, 250, 7, 4, 172]
abbrev dktL_law_63 : List UInt8 := dkwL_law_63 ++ []
def dkwL_law_62 : List UInt8 := [3, 49, 24, 7, 151, 153, 0, 25, 25, 4, 3, 49, 25, 4, 3, 49, 151, 153, 0, 11, 24, 7, 24, 7]
abbrev dktL_law_62 : List UInt8 := dkwL_law_62 ++ dktL_law_63
def dkwL_law_61 : List UInt8 := [44, 182, 0, 168, 57, 7, 44, 182, 0, 98, 21, 6, 159, 0, 5, 3, 172, 21, 6, 154, 0, 35, 25, 4]
abbrev dktL_law_61 : List UInt8 := dkwL_law_61 ++ dktL_law_62
def dkwL_law_60 : List UInt8 := [153, 0, 11, 23, 7, 23, 7, 149, 154, 0, 5, 3, 172, 167, 0, 68, 43, 25, 4, 184, 0, 166, 54, 6]
abbrev dktL_law_60 : List UInt8 := dkwL_law_60 ++ dktL_law_61
def dkwL_law_59 : List UInt8 := [154, 0, 36, 25, 4, 3, 49, 23, 7, 141, 151, 153, 0, 25, 25, 4, 3, 49, 25, 4, 3, 49, 151]
abbrev dktL_law_59 : List UInt8 := dkwL_law_59 ++ dktL_law_60
def dkwL_law_58 : List UInt8 := [184, 0, 162, 54, 6, 44, 182, 0, 165, 56, 7, 44, 182, 0, 98, 21, 6, 159, 0, 5, 3, 172, 21, 6]
abbrev dktL_law_58 : List UInt8 := dkwL_law_58 ++ dktL_law_59
def dkwL_law_57 : List UInt8 := [153, 0, 5, 3, 172, 167, 0, 147, 43, 182, 0, 158, 44, 182, 0, 161, 159, 0, 136, 3, 172, 43, 25, 4]
abbrev dktL_law_57 : List UInt8 := dkwL_law_57 ++ dktL_law_58
def dkwL_law_56 : List UInt8 := [182, 0, 98, 21, 6, 159, 0, 5, 3, 172, 21, 6, 154, 0, 15, 45, 3, 47, 21, 7, 133, 148]
abbrev dktL_law_56 : List UInt8 := dkwL_law_56 ++ dktL_law_57
def dkwL_law_55 : List UInt8 := [184, 0, 155, 54, 6, 44, 42, 21, 5, 4, 96, 46, 42, 21, 5, 5, 96, 46, 182, 0, 157, 54, 7, 44]
abbrev dktL_law_55 : List UInt8 := dkwL_law_55 ++ dktL_law_56
def dkwL_law_54 : List UInt8 := [153, 0, 5, 3, 172, 167, 0, 215, 43, 42, 21, 5, 4, 96, 46, 42, 21, 5, 5, 96, 46, 45]
abbrev dktL_law_54 : List UInt8 := dkwL_law_54 ++ dktL_law_55
def dkwL_law_53 : List UInt8 := [182, 0, 98, 21, 6, 159, 0, 5, 3, 172, 21, 6, 154, 0, 15, 45, 3, 47, 21, 7, 133, 148]
abbrev dktL_law_53 : List UInt8 := dkwL_law_53 ++ dktL_law_54
def dkwL_law_52 : List UInt8 := [184, 0, 152, 54, 6, 44, 42, 21, 5, 4, 96, 46, 42, 21, 5, 5, 96, 46, 182, 0, 154, 54, 7, 44]
abbrev dktL_law_52 : List UInt8 := dkwL_law_52 ++ dktL_law_53
def dkwL_law_51 : List UInt8 := [148, 153, 0, 5, 3, 172, 167, 1, 27, 43, 42, 21, 5, 4, 96, 46, 42, 21, 5, 5, 96, 46, 45]
abbrev dktL_law_51 : List UInt8 := dkwL_law_51 ++ dktL_law_52
def dkwL_law_50 : List UInt8 := [54, 7, 44, 182, 0, 98, 21, 6, 159, 0, 5, 3, 172, 21, 6, 154, 0, 15, 45, 3, 47, 21, 7, 133]
abbrev dktL_law_50 : List UInt8 := dkwL_law_50 ++ dktL_law_51
def dkwL_law_49 : List UInt8 := [54, 6, 44, 42, 21, 5, 4, 96, 46, 42, 21, 5, 5, 96, 46, 42, 21, 5, 6, 96, 46, 182, 0, 151]
abbrev dktL_law_49 : List UInt8 := dkwL_law_49 ++ dktL_law_50
def dkwL_law_48 : List UInt8 := [172, 43, 42, 21, 5, 4, 96, 46, 42, 21, 5, 5, 96, 46, 42, 21, 5, 6, 96, 46, 45, 184, 0, 149]
abbrev dktL_law_48 : List UInt8 := dkwL_law_48 ++ dktL_law_49
def dkwL_law_47 : List UInt8 := [21, 7, 133, 148, 153, 0, 5, 3, 172, 167, 1, 120, 43, 182, 0, 145, 44, 182, 0, 148, 159, 1, 109, 3]
abbrev dktL_law_47 : List UInt8 := dkwL_law_47 ++ dktL_law_48
def dkwL_law_46 : List UInt8 := [182, 0, 144, 54, 7, 44, 182, 0, 98, 21, 6, 159, 0, 5, 3, 172, 21, 6, 154, 0, 15, 45, 3, 47]
abbrev dktL_law_46 : List UInt8 := dkwL_law_46 ++ dktL_law_47
def dkwL_law_45 : List UInt8 := [3, 47, 21, 7, 133, 148, 153, 0, 5, 3, 172, 167, 1, 164, 43, 45, 184, 0, 141, 54, 6, 44]
abbrev dktL_law_45 : List UInt8 := dkwL_law_45 ++ dktL_law_46
def dkwL_law_44 : List UInt8 := [96, 46, 182, 0, 140, 54, 7, 44, 182, 0, 98, 21, 6, 159, 0, 5, 3, 172, 21, 6, 154, 0, 15, 45]
abbrev dktL_law_44 : List UInt8 := dkwL_law_44 ++ dktL_law_45
def dkwL_law_43 : List UInt8 := [46, 42, 21, 5, 5, 96, 46, 45, 184, 0, 138, 54, 6, 44, 42, 21, 5, 4, 96, 46, 42, 21, 5, 5]
abbrev dktL_law_43 : List UInt8 := dkwL_law_43 ++ dktL_law_44
def dkwL_law_42 : List UInt8 := [154, 0, 15, 45, 3, 47, 21, 7, 133, 148, 153, 0, 5, 3, 172, 167, 1, 232, 43, 42, 21, 5, 4, 96]
abbrev dktL_law_42 : List UInt8 := dkwL_law_42 ++ dktL_law_43
def dkwL_law_41 : List UInt8 := [21, 5, 6, 96, 46, 182, 0, 137, 54, 7, 44, 182, 0, 98, 21, 6, 159, 0, 5, 3, 172, 21, 6]
abbrev dktL_law_41 : List UInt8 := dkwL_law_41 ++ dktL_law_42
def dkwL_law_40 : List UInt8 := [6, 96, 46, 45, 184, 0, 135, 54, 6, 44, 42, 21, 5, 4, 96, 46, 42, 21, 5, 5, 96, 46, 42]
abbrev dktL_law_40 : List UInt8 := dkwL_law_40 ++ dktL_law_41
def dkwL_law_39 : List UInt8 := [153, 0, 5, 3, 172, 167, 2, 56, 43, 42, 21, 5, 4, 96, 46, 42, 21, 5, 5, 96, 46, 42, 21, 5]
abbrev dktL_law_39 : List UInt8 := dkwL_law_39 ++ dktL_law_40
def dkwL_law_38 : List UInt8 := [182, 0, 98, 21, 6, 159, 0, 5, 3, 172, 21, 6, 154, 0, 15, 45, 3, 47, 21, 7, 133, 148]
abbrev dktL_law_38 : List UInt8 := dkwL_law_38 ++ dktL_law_39
def dkwL_law_37 : List UInt8 := [21, 5, 5, 96, 46, 42, 21, 5, 6, 96, 46, 42, 21, 5, 7, 96, 46, 182, 0, 134, 54, 7, 44]
abbrev dktL_law_37 : List UInt8 := dkwL_law_37 ++ dktL_law_38
def dkwL_law_36 : List UInt8 := [6, 96, 46, 42, 21, 5, 7, 96, 46, 45, 184, 0, 132, 54, 6, 44, 42, 21, 5, 4, 96, 46, 42]
abbrev dktL_law_36 : List UInt8 := dkwL_law_36 ++ dktL_law_37
def dkwL_law_35 : List UInt8 := [153, 0, 5, 3, 172, 167, 2, 148, 43, 42, 21, 5, 4, 96, 46, 42, 21, 5, 5, 96, 46, 42, 21, 5]
abbrev dktL_law_35 : List UInt8 := dkwL_law_35 ++ dktL_law_36
def dkwL_law_34 : List UInt8 := [182, 0, 98, 21, 6, 159, 0, 5, 3, 172, 21, 6, 154, 0, 15, 45, 3, 47, 21, 7, 133, 148]
abbrev dktL_law_34 : List UInt8 := dkwL_law_34 ++ dktL_law_35
def dkwL_law_33 : List UInt8 := [21, 5, 5, 96, 46, 42, 21, 5, 6, 96, 46, 42, 21, 5, 7, 96, 46, 182, 0, 131, 54, 7, 44]
abbrev dktL_law_33 : List UInt8 := dkwL_law_33 ++ dktL_law_34
def dkwL_law_32 : List UInt8 := [6, 96, 46, 42, 21, 5, 7, 96, 46, 45, 184, 0, 129, 54, 6, 44, 42, 21, 5, 4, 96, 46, 42]
abbrev dktL_law_32 : List UInt8 := dkwL_law_32 ++ dktL_law_33
def dkwL_law_31 : List UInt8 := [153, 0, 5, 3, 172, 167, 2, 240, 43, 42, 21, 5, 4, 96, 46, 42, 21, 5, 5, 96, 46, 42, 21, 5]
abbrev dktL_law_31 : List UInt8 := dkwL_law_31 ++ dktL_law_32
def dkwL_law_30 : List UInt8 := [55, 7, 44, 182, 0, 98, 21, 6, 159, 0, 5, 3, 172, 21, 6, 154, 0, 14, 45, 3, 47, 22, 7, 148]
abbrev dktL_law_30 : List UInt8 := dkwL_law_30 ++ dktL_law_31
def dkwL_law_29 : List UInt8 := [46, 45, 184, 0, 126, 54, 6, 44, 42, 21, 5, 4, 96, 46, 42, 21, 5, 5, 96, 46, 182, 0, 128]
abbrev dktL_law_29 : List UInt8 := dkwL_law_29 ++ dktL_law_30
def dkwL_law_28 : List UInt8 := [21, 7, 133, 148, 153, 0, 5, 3, 172, 167, 3, 51, 43, 42, 21, 5, 4, 96, 46, 42, 21, 5, 5, 96]
abbrev dktL_law_28 : List UInt8 := dkwL_law_28 ++ dktL_law_29
def dkwL_law_27 : List UInt8 := [182, 0, 125, 54, 7, 44, 182, 0, 98, 21, 6, 159, 0, 5, 3, 172, 21, 6, 154, 0, 15, 45, 3, 47]
abbrev dktL_law_27 : List UInt8 := dkwL_law_27 ++ dktL_law_28
def dkwL_law_26 : List UInt8 := [184, 0, 123, 54, 6, 44, 42, 21, 5, 4, 96, 46, 42, 21, 5, 5, 96, 46, 42, 21, 5, 6, 96, 46]
abbrev dktL_law_26 : List UInt8 := dkwL_law_26 ++ dktL_law_27
def dkwL_law_25 : List UInt8 := [167, 3, 131, 43, 42, 21, 5, 4, 96, 46, 42, 21, 5, 5, 96, 46, 42, 21, 5, 6, 96, 46, 45]
abbrev dktL_law_25 : List UInt8 := dkwL_law_25 ++ dktL_law_26
def dkwL_law_24 : List UInt8 := [159, 0, 5, 3, 172, 21, 6, 154, 0, 15, 45, 3, 47, 21, 7, 133, 148, 153, 0, 5, 3, 172]
abbrev dktL_law_24 : List UInt8 := dkwL_law_24 ++ dktL_law_25
def dkwL_law_23 : List UInt8 := [42, 21, 5, 5, 96, 46, 42, 21, 5, 6, 96, 46, 182, 0, 122, 54, 7, 44, 182, 0, 98, 21, 6]
abbrev dktL_law_23 : List UInt8 := dkwL_law_23 ++ dktL_law_24
def dkwL_law_22 : List UInt8 := [21, 5, 5, 96, 46, 42, 21, 5, 6, 96, 46, 45, 184, 0, 120, 54, 6, 44, 42, 21, 5, 4, 96, 46]
abbrev dktL_law_22 : List UInt8 := dkwL_law_22 ++ dktL_law_23
def dkwL_law_21 : List UInt8 := [45, 3, 47, 21, 7, 133, 148, 153, 0, 5, 3, 172, 167, 3, 211, 43, 42, 21, 5, 4, 96, 46, 42]
abbrev dktL_law_21 : List UInt8 := dkwL_law_21 ++ dktL_law_22
def dkwL_law_20 : List UInt8 := [7, 96, 46, 182, 0, 119, 54, 7, 44, 182, 0, 98, 21, 6, 159, 0, 5, 3, 172, 21, 6, 154, 0, 15]
abbrev dktL_law_20 : List UInt8 := dkwL_law_20 ++ dktL_law_21
def dkwL_law_19 : List UInt8 := [54, 6, 44, 42, 21, 5, 4, 96, 46, 42, 21, 5, 5, 96, 46, 42, 21, 5, 6, 96, 46, 42, 21, 5]
abbrev dktL_law_19 : List UInt8 := dkwL_law_19 ++ dktL_law_20
def dkwL_law_18 : List UInt8 := [46, 42, 21, 5, 5, 96, 46, 42, 21, 5, 6, 96, 46, 42, 21, 5, 7, 96, 46, 45, 184, 0, 116]
abbrev dktL_law_18 : List UInt8 := dkwL_law_18 ++ dktL_law_19
def dkwL_law_17 : List UInt8 := [154, 0, 15, 45, 3, 47, 21, 7, 133, 148, 153, 0, 5, 3, 172, 167, 4, 47, 43, 42, 21, 5, 4, 96]
abbrev dktL_law_17 : List UInt8 := dkwL_law_17 ++ dktL_law_18
def dkwL_law_16 : List UInt8 := [21, 5, 4, 96, 46, 182, 0, 115, 54, 7, 44, 182, 0, 98, 21, 6, 159, 0, 5, 3, 172, 21, 6]
abbrev dktL_law_16 : List UInt8 := dkwL_law_16 ++ dktL_law_17
def dkwL_law_15 : List UInt8 := [153, 0, 5, 3, 172, 167, 4, 103, 43, 42, 21, 5, 4, 96, 46, 45, 184, 0, 113, 54, 6, 44, 42]
abbrev dktL_law_15 : List UInt8 := dkwL_law_15 ++ dktL_law_16
def dkwL_law_14 : List UInt8 := [182, 0, 98, 21, 6, 159, 0, 5, 3, 172, 21, 6, 154, 0, 15, 45, 3, 47, 21, 7, 133, 148]
abbrev dktL_law_14 : List UInt8 := dkwL_law_14 ++ dktL_law_15
def dkwL_law_13 : List UInt8 := [4, 96, 46, 146, 42, 21, 5, 5, 96, 46, 42, 21, 5, 6, 96, 46, 182, 0, 112, 54, 7, 44]
abbrev dktL_law_13 : List UInt8 := dkwL_law_13 ++ dktL_law_14
def dkwL_law_12 : List UInt8 := [46, 146, 42, 21, 5, 5, 96, 46, 42, 21, 5, 6, 96, 46, 45, 184, 0, 109, 54, 6, 44, 42, 21, 5]
abbrev dktL_law_12 : List UInt8 := dkwL_law_12 ++ dktL_law_13
def dkwL_law_11 : List UInt8 := [154, 0, 15, 45, 3, 47, 21, 7, 133, 148, 153, 0, 5, 3, 172, 167, 4, 185, 43, 42, 21, 5, 4, 96]
abbrev dktL_law_11 : List UInt8 := dkwL_law_11 ++ dktL_law_12
def dkwL_law_10 : List UInt8 := [21, 5, 6, 96, 46, 182, 0, 108, 54, 7, 44, 182, 0, 98, 21, 6, 159, 0, 5, 3, 172, 21, 6]
abbrev dktL_law_10 : List UInt8 := dkwL_law_10 ++ dktL_law_11
def dkwL_law_9 : List UInt8 := [6, 96, 46, 45, 184, 0, 105, 54, 6, 44, 42, 21, 5, 4, 96, 46, 42, 21, 5, 5, 96, 46, 42]
abbrev dktL_law_9 : List UInt8 := dkwL_law_9 ++ dktL_law_10
def dkwL_law_8 : List UInt8 := [153, 0, 5, 3, 172, 167, 5, 9, 43, 42, 21, 5, 4, 96, 46, 42, 21, 5, 5, 96, 46, 42, 21, 5]
abbrev dktL_law_8 : List UInt8 := dkwL_law_8 ++ dktL_law_9
def dkwL_law_7 : List UInt8 := [182, 0, 98, 21, 6, 159, 0, 5, 3, 172, 21, 6, 154, 0, 15, 45, 3, 47, 21, 7, 133, 148]
abbrev dktL_law_7 : List UInt8 := dkwL_law_7 ++ dktL_law_8
def dkwL_law_6 : List UInt8 := [184, 0, 101, 54, 6, 44, 42, 21, 5, 4, 96, 46, 42, 21, 5, 5, 96, 46, 182, 0, 104, 54, 7, 44]
abbrev dktL_law_6 : List UInt8 := dkwL_law_6 ++ dktL_law_7
def dkwL_law_5 : List UInt8 := [148, 153, 0, 5, 3, 172, 167, 5, 77, 43, 42, 21, 5, 4, 96, 46, 42, 21, 5, 5, 96, 46, 45]
abbrev dktL_law_5 : List UInt8 := dkwL_law_5 ++ dktL_law_6
def dkwL_law_4 : List UInt8 := [54, 7, 44, 182, 0, 98, 21, 6, 159, 0, 5, 3, 172, 21, 6, 154, 0, 15, 45, 3, 47, 21, 7, 133]
abbrev dktL_law_4 : List UInt8 := dkwL_law_4 ++ dktL_law_5
def dkwL_law_3 : List UInt8 := [43, 42, 21, 5, 4, 96, 46, 45, 184, 0, 92, 54, 6, 44, 42, 21, 5, 4, 96, 46, 182, 0, 97]
abbrev dktL_law_3 : List UInt8 := dkwL_law_3 ++ dktL_law_4
def dkwL_law_2 : List UInt8 := [170, 0, 0, 0, 0, 0, 5, 230, 0, 0, 0, 0, 0, 0, 0, 20, 0, 0, 0, 100, 0, 0, 0, 156, 0, 0, 0, 224, 0, 0, 1, 48, 0, 0, 1, 130, 0, 0, 1, 186, 0, 0, 2, 22, 0, 0, 2, 102, 0, 0, 2, 182, 0, 0, 2, 249, 0, 0, 3, 85, 0, 0, 3, 177, 0, 0, 4, 1, 0, 0, 4, 69, 0, 0, 4, 113, 0, 0, 4, 126, 0, 0, 4, 206, 0, 0, 5, 18, 0, 0, 5, 86, 0, 0, 5, 99, 0, 0, 5, 165]
abbrev dktL_law_2 : List UInt8 := dkwL_law_2 ++ dktL_law_3
def dkwL_law_1 : List UInt8 := [58, 4, 3, 54, 5, 21, 5, 42, 190, 8, 100, 163, 5, 246, 42, 21, 5, 46, 16, 31, 126]
abbrev dktL_law_1 : List UInt8 := dkwL_law_1 ++ dktL_law_2
def dkwL_law_0 : List UInt8 := [187, 0, 8, 89, 183, 0, 88, 76, 187, 0, 89, 89, 183, 0, 91, 77, 4, 188, 11, 78, 4, 188, 7]
abbrev dktL_law_0 : List UInt8 := dkwL_law_0 ++ dktL_law_1
theorem dksL_law_0 : cL_law.data.toList.drop 0 = dktL_law_0 := by decide +kernel
theorem dksL_law_1 : cL_law.data.toList.drop 23 = dktL_law_1 := dk_seg dksL_law_0 23 rfl rfl
theorem dksL_law_2 : cL_law.data.toList.drop 44 = dktL_law_2 := dk_seg dksL_law_1 21 rfl rfl
theorem dksL_law_3 : cL_law.data.toList.drop 144 = dktL_law_3 := dk_seg dksL_law_2 100 rfl rfl
theorem dksL_law_4 : cL_law.data.toList.drop 167 = dktL_law_4 := dk_seg dksL_law_3 23 rfl rfl
theorem dksL_law_5 : cL_law.data.toList.drop 191 = dktL_law_5 := dk_seg dksL_law_4 24 rfl rfl
theorem dksL_law_6 : cL_law.data.toList.drop 214 = dktL_law_6 := dk_seg dksL_law_5 23 rfl rfl
theorem dksL_law_7 : cL_law.data.toList.drop 238 = dktL_law_7 := dk_seg dksL_law_6 24 rfl rfl
theorem dksL_law_8 : cL_law.data.toList.drop 260 = dktL_law_8 := dk_seg dksL_law_7 22 rfl rfl
theorem dksL_law_9 : cL_law.data.toList.drop 284 = dktL_law_9 := dk_seg dksL_law_8 24 rfl rfl
theorem dksL_law_10 : cL_law.data.toList.drop 307 = dktL_law_10 := dk_seg dksL_law_9 23 rfl rfl
theorem dksL_law_11 : cL_law.data.toList.drop 330 = dktL_law_11 := dk_seg dksL_law_10 23 rfl rfl
theorem dksL_law_12 : cL_law.data.toList.drop 354 = dktL_law_12 := dk_seg dksL_law_11 24 rfl rfl
theorem dksL_law_13 : cL_law.data.toList.drop 378 = dktL_law_13 := dk_seg dksL_law_12 24 rfl rfl
theorem dksL_law_14 : cL_law.data.toList.drop 400 = dktL_law_14 := dk_seg dksL_law_13 22 rfl rfl
theorem dksL_law_15 : cL_law.data.toList.drop 422 = dktL_law_15 := dk_seg dksL_law_14 22 rfl rfl
theorem dksL_law_16 : cL_law.data.toList.drop 445 = dktL_law_16 := dk_seg dksL_law_15 23 rfl rfl
theorem dksL_law_17 : cL_law.data.toList.drop 468 = dktL_law_17 := dk_seg dksL_law_16 23 rfl rfl
theorem dksL_law_18 : cL_law.data.toList.drop 492 = dktL_law_18 := dk_seg dksL_law_17 24 rfl rfl
theorem dksL_law_19 : cL_law.data.toList.drop 515 = dktL_law_19 := dk_seg dksL_law_18 23 rfl rfl
theorem dksL_law_20 : cL_law.data.toList.drop 539 = dktL_law_20 := dk_seg dksL_law_19 24 rfl rfl
theorem dksL_law_21 : cL_law.data.toList.drop 563 = dktL_law_21 := dk_seg dksL_law_20 24 rfl rfl
theorem dksL_law_22 : cL_law.data.toList.drop 586 = dktL_law_22 := dk_seg dksL_law_21 23 rfl rfl
theorem dksL_law_23 : cL_law.data.toList.drop 610 = dktL_law_23 := dk_seg dksL_law_22 24 rfl rfl
theorem dksL_law_24 : cL_law.data.toList.drop 633 = dktL_law_24 := dk_seg dksL_law_23 23 rfl rfl
theorem dksL_law_25 : cL_law.data.toList.drop 655 = dktL_law_25 := dk_seg dksL_law_24 22 rfl rfl
theorem dksL_law_26 : cL_law.data.toList.drop 678 = dktL_law_26 := dk_seg dksL_law_25 23 rfl rfl
theorem dksL_law_27 : cL_law.data.toList.drop 702 = dktL_law_27 := dk_seg dksL_law_26 24 rfl rfl
theorem dksL_law_28 : cL_law.data.toList.drop 726 = dktL_law_28 := dk_seg dksL_law_27 24 rfl rfl
theorem dksL_law_29 : cL_law.data.toList.drop 750 = dktL_law_29 := dk_seg dksL_law_28 24 rfl rfl
theorem dksL_law_30 : cL_law.data.toList.drop 773 = dktL_law_30 := dk_seg dksL_law_29 23 rfl rfl
theorem dksL_law_31 : cL_law.data.toList.drop 797 = dktL_law_31 := dk_seg dksL_law_30 24 rfl rfl
theorem dksL_law_32 : cL_law.data.toList.drop 821 = dktL_law_32 := dk_seg dksL_law_31 24 rfl rfl
theorem dksL_law_33 : cL_law.data.toList.drop 844 = dktL_law_33 := dk_seg dksL_law_32 23 rfl rfl
theorem dksL_law_34 : cL_law.data.toList.drop 867 = dktL_law_34 := dk_seg dksL_law_33 23 rfl rfl
theorem dksL_law_35 : cL_law.data.toList.drop 889 = dktL_law_35 := dk_seg dksL_law_34 22 rfl rfl
theorem dksL_law_36 : cL_law.data.toList.drop 913 = dktL_law_36 := dk_seg dksL_law_35 24 rfl rfl
theorem dksL_law_37 : cL_law.data.toList.drop 936 = dktL_law_37 := dk_seg dksL_law_36 23 rfl rfl
theorem dksL_law_38 : cL_law.data.toList.drop 959 = dktL_law_38 := dk_seg dksL_law_37 23 rfl rfl
theorem dksL_law_39 : cL_law.data.toList.drop 981 = dktL_law_39 := dk_seg dksL_law_38 22 rfl rfl
theorem dksL_law_40 : cL_law.data.toList.drop 1005 = dktL_law_40 := dk_seg dksL_law_39 24 rfl rfl
theorem dksL_law_41 : cL_law.data.toList.drop 1028 = dktL_law_41 := dk_seg dksL_law_40 23 rfl rfl
theorem dksL_law_42 : cL_law.data.toList.drop 1051 = dktL_law_42 := dk_seg dksL_law_41 23 rfl rfl
theorem dksL_law_43 : cL_law.data.toList.drop 1075 = dktL_law_43 := dk_seg dksL_law_42 24 rfl rfl
theorem dksL_law_44 : cL_law.data.toList.drop 1099 = dktL_law_44 := dk_seg dksL_law_43 24 rfl rfl
theorem dksL_law_45 : cL_law.data.toList.drop 1123 = dktL_law_45 := dk_seg dksL_law_44 24 rfl rfl
theorem dksL_law_46 : cL_law.data.toList.drop 1145 = dktL_law_46 := dk_seg dksL_law_45 22 rfl rfl
theorem dksL_law_47 : cL_law.data.toList.drop 1169 = dktL_law_47 := dk_seg dksL_law_46 24 rfl rfl
theorem dksL_law_48 : cL_law.data.toList.drop 1193 = dktL_law_48 := dk_seg dksL_law_47 24 rfl rfl
theorem dksL_law_49 : cL_law.data.toList.drop 1217 = dktL_law_49 := dk_seg dksL_law_48 24 rfl rfl
theorem dksL_law_50 : cL_law.data.toList.drop 1241 = dktL_law_50 := dk_seg dksL_law_49 24 rfl rfl
theorem dksL_law_51 : cL_law.data.toList.drop 1265 = dktL_law_51 := dk_seg dksL_law_50 24 rfl rfl
theorem dksL_law_52 : cL_law.data.toList.drop 1288 = dktL_law_52 := dk_seg dksL_law_51 23 rfl rfl
theorem dksL_law_53 : cL_law.data.toList.drop 1312 = dktL_law_53 := dk_seg dksL_law_52 24 rfl rfl
theorem dksL_law_54 : cL_law.data.toList.drop 1334 = dktL_law_54 := dk_seg dksL_law_53 22 rfl rfl
theorem dksL_law_55 : cL_law.data.toList.drop 1356 = dktL_law_55 := dk_seg dksL_law_54 22 rfl rfl
theorem dksL_law_56 : cL_law.data.toList.drop 1380 = dktL_law_56 := dk_seg dksL_law_55 24 rfl rfl
theorem dksL_law_57 : cL_law.data.toList.drop 1402 = dktL_law_57 := dk_seg dksL_law_56 22 rfl rfl
theorem dksL_law_58 : cL_law.data.toList.drop 1426 = dktL_law_58 := dk_seg dksL_law_57 24 rfl rfl
theorem dksL_law_59 : cL_law.data.toList.drop 1450 = dktL_law_59 := dk_seg dksL_law_58 24 rfl rfl
theorem dksL_law_60 : cL_law.data.toList.drop 1473 = dktL_law_60 := dk_seg dksL_law_59 23 rfl rfl
theorem dksL_law_61 : cL_law.data.toList.drop 1497 = dktL_law_61 := dk_seg dksL_law_60 24 rfl rfl
theorem dksL_law_62 : cL_law.data.toList.drop 1521 = dktL_law_62 := dk_seg dksL_law_61 24 rfl rfl
theorem dksL_law_63 : cL_law.data.toList.drop 1545 = dktL_law_63 := dk_seg dksL_law_62 24 rfl rfl
theorem dL_law_0 : decode cL_law 0 = .ok (.new 8, 3) := dk_187 0 8 (dk_at dksL_law_0 0 rfl rfl)
theorem dL_law_3 : decode cL_law 3 = .ok (.dup, 1) := dk_89 (dk_at dksL_law_0 3 rfl rfl)
theorem dL_law_4 : decode cL_law 4 = .ok (.invokespecial 88, 3) := dk_183 0 88 (dk_at dksL_law_0 4 rfl rfl)
theorem dL_law_7 : decode cL_law 7 = .ok (.astore_n 1, 1) := dk_76 (dk_at dksL_law_0 7 rfl rfl)
theorem dL_law_8 : decode cL_law 8 = .ok (.new 89, 3) := dk_187 0 89 (dk_at dksL_law_0 8 rfl rfl)
theorem dL_law_11 : decode cL_law 11 = .ok (.dup, 1) := dk_89 (dk_at dksL_law_0 11 rfl rfl)
theorem dL_law_12 : decode cL_law 12 = .ok (.invokespecial 91, 3) := dk_183 0 91 (dk_at dksL_law_0 12 rfl rfl)
theorem dL_law_15 : decode cL_law 15 = .ok (.astore_n 2, 1) := dk_77 (dk_at dksL_law_0 15 rfl rfl)
theorem dL_law_16 : decode cL_law 16 = .ok (.iconst 1, 1) := dk_4 (dk_at dksL_law_0 16 rfl rfl)
theorem dL_law_17 : decode cL_law 17 = .ok (.newarray .long, 2) := dk_188_11 (dk_at dksL_law_0 17 rfl rfl)
theorem dL_law_19 : decode cL_law 19 = .ok (.astore_n 3, 1) := dk_78 (dk_at dksL_law_0 19 rfl rfl)
theorem dL_law_20 : decode cL_law 20 = .ok (.iconst 1, 1) := dk_4 (dk_at dksL_law_0 20 rfl rfl)
theorem dL_law_21 : decode cL_law 21 = .ok (.newarray .double, 2) := dk_188_7 (dk_at dksL_law_0 21 rfl rfl)
theorem dL_law_23 : decode cL_law 23 = .ok (.astore 4, 2) := dk_58 4 (dk_at dksL_law_1 0 rfl rfl)
theorem dL_law_25 : decode cL_law 25 = .ok (.iconst 0, 1) := dk_3 (dk_at dksL_law_1 2 rfl rfl)
theorem dL_law_26 : decode cL_law 26 = .ok (.istore 5, 2) := dk_54 5 (dk_at dksL_law_1 3 rfl rfl)
theorem dL_law_28 : decode cL_law 28 = .ok (.iload 5, 2) := dk_21 5 (dk_at dksL_law_1 5 rfl rfl)
theorem dL_law_30 : decode cL_law 30 = .ok (.aload_n 0, 1) := dk_42 (dk_at dksL_law_1 7 rfl rfl)
theorem dL_law_31 : decode cL_law 31 = .ok (.arraylength, 1) := dk_190 (dk_at dksL_law_1 8 rfl rfl)
theorem dL_law_32 : decode cL_law 32 = .ok (.iconst 5, 1) := dk_8 (dk_at dksL_law_1 9 rfl rfl)
theorem dL_law_33 : decode cL_law 33 = .ok (.isub, 1) := dk_100 (dk_at dksL_law_1 10 rfl rfl)
theorem dL_law_34 : decode cL_law 34 = .ok (.if_icmp .gt 1526, 3) := dk_163 5 246 (dk_at dksL_law_1 11 rfl rfl)
theorem dL_law_37 : decode cL_law 37 = .ok (.aload_n 0, 1) := dk_42 (dk_at dksL_law_1 14 rfl rfl)
theorem dL_law_38 : decode cL_law 38 = .ok (.iload 5, 2) := dk_21 5 (dk_at dksL_law_1 15 rfl rfl)
theorem dL_law_40 : decode cL_law 40 = .ok (.iaload, 1) := dk_46 (dk_at dksL_law_1 17 rfl rfl)
theorem dL_law_41 : decode cL_law 41 = .ok (.bipush 31, 2) := dk_16 31 (dk_at dksL_law_1 18 rfl rfl)
theorem dL_law_43 : decode cL_law 43 = .ok (.iand, 1) := dk_126 (dk_at dksL_law_1 20 rfl rfl)
theorem dL_law_44 : decode cL_law 44 = .ok (.tableswitch 1510 0 20 #[100, 156, 224, 304, 386, 442, 534, 614, 694, 761, 853, 945, 1025, 1093, 1137, 1150, 1230, 1298, 1366, 1379, 1445], 100) := by decide +kernel
theorem dL_law_144 : decode cL_law 144 = .ok (.aload_n 1, 1) := dk_43 (dk_at dksL_law_3 0 rfl rfl)
theorem dL_law_145 : decode cL_law 145 = .ok (.aload_n 0, 1) := dk_42 (dk_at dksL_law_3 1 rfl rfl)
theorem dL_law_146 : decode cL_law 146 = .ok (.iload 5, 2) := dk_21 5 (dk_at dksL_law_3 2 rfl rfl)
theorem dL_law_148 : decode cL_law 148 = .ok (.iconst 1, 1) := dk_4 (dk_at dksL_law_3 4 rfl rfl)
theorem dL_law_149 : decode cL_law 149 = .ok (.iadd, 1) := dk_96 (dk_at dksL_law_3 5 rfl rfl)
theorem dL_law_150 : decode cL_law 150 = .ok (.iaload, 1) := dk_46 (dk_at dksL_law_3 6 rfl rfl)
theorem dL_law_151 : decode cL_law 151 = .ok (.aload_n 3, 1) := dk_45 (dk_at dksL_law_3 7 rfl rfl)
theorem dL_law_152 : decode cL_law 152 = .ok (.invokestatic 92, 3) := dk_184 0 92 (dk_at dksL_law_3 8 rfl rfl)
theorem dL_law_155 : decode cL_law 155 = .ok (.istore 6, 2) := dk_54 6 (dk_at dksL_law_3 11 rfl rfl)
theorem dL_law_157 : decode cL_law 157 = .ok (.aload_n 2, 1) := dk_44 (dk_at dksL_law_3 13 rfl rfl)
theorem dL_law_158 : decode cL_law 158 = .ok (.aload_n 0, 1) := dk_42 (dk_at dksL_law_3 14 rfl rfl)
theorem dL_law_159 : decode cL_law 159 = .ok (.iload 5, 2) := dk_21 5 (dk_at dksL_law_3 15 rfl rfl)
theorem dL_law_161 : decode cL_law 161 = .ok (.iconst 1, 1) := dk_4 (dk_at dksL_law_3 17 rfl rfl)
theorem dL_law_162 : decode cL_law 162 = .ok (.iadd, 1) := dk_96 (dk_at dksL_law_3 18 rfl rfl)
theorem dL_law_163 : decode cL_law 163 = .ok (.iaload, 1) := dk_46 (dk_at dksL_law_3 19 rfl rfl)
theorem dL_law_164 : decode cL_law 164 = .ok (.invokevirtual 97, 3) := dk_182 0 97 (dk_at dksL_law_3 20 rfl rfl)
theorem dL_law_167 : decode cL_law 167 = .ok (.istore 7, 2) := dk_54 7 (dk_at dksL_law_4 0 rfl rfl)
theorem dL_law_169 : decode cL_law 169 = .ok (.aload_n 2, 1) := dk_44 (dk_at dksL_law_4 2 rfl rfl)
theorem dL_law_170 : decode cL_law 170 = .ok (.invokevirtual 98, 3) := dk_182 0 98 (dk_at dksL_law_4 3 rfl rfl)
theorem dL_law_173 : decode cL_law 173 = .ok (.iload 6, 2) := dk_21 6 (dk_at dksL_law_4 6 rfl rfl)
theorem dL_law_175 : decode cL_law 175 = .ok (.if_icmp .eq 5, 3) := dk_159 0 5 (dk_at dksL_law_4 8 rfl rfl)
theorem dL_law_178 : decode cL_law 178 = .ok (.iconst 0, 1) := dk_3 (dk_at dksL_law_4 11 rfl rfl)
theorem dL_law_179 : decode cL_law 179 = .ok (.ireturn, 1) := dk_172 (dk_at dksL_law_4 12 rfl rfl)
theorem dL_law_180 : decode cL_law 180 = .ok (.iload 6, 2) := dk_21 6 (dk_at dksL_law_4 13 rfl rfl)
theorem dL_law_182 : decode cL_law 182 = .ok (.ifCond .ne 15, 3) := dk_154 0 15 (dk_at dksL_law_4 15 rfl rfl)
theorem dL_law_185 : decode cL_law 185 = .ok (.aload_n 3, 1) := dk_45 (dk_at dksL_law_4 18 rfl rfl)
theorem dL_law_186 : decode cL_law 186 = .ok (.iconst 0, 1) := dk_3 (dk_at dksL_law_4 19 rfl rfl)
theorem dL_law_187 : decode cL_law 187 = .ok (.laload, 1) := dk_47 (dk_at dksL_law_4 20 rfl rfl)
theorem dL_law_188 : decode cL_law 188 = .ok (.iload 7, 2) := dk_21 7 (dk_at dksL_law_4 21 rfl rfl)
theorem dL_law_190 : decode cL_law 190 = .ok (.i2l, 1) := dk_133 (dk_at dksL_law_4 23 rfl rfl)
theorem dL_law_191 : decode cL_law 191 = .ok (.lcmp, 1) := dk_148 (dk_at dksL_law_5 0 rfl rfl)
theorem dL_law_192 : decode cL_law 192 = .ok (.ifCond .eq 5, 3) := dk_153 0 5 (dk_at dksL_law_5 1 rfl rfl)
theorem dL_law_195 : decode cL_law 195 = .ok (.iconst 0, 1) := dk_3 (dk_at dksL_law_5 4 rfl rfl)
theorem dL_law_196 : decode cL_law 196 = .ok (.ireturn, 1) := dk_172 (dk_at dksL_law_5 5 rfl rfl)
theorem dL_law_197 : decode cL_law 197 = .ok (.goto 1357, 3) := dk_167 5 77 (dk_at dksL_law_5 6 rfl rfl)
theorem dL_law_200 : decode cL_law 200 = .ok (.aload_n 1, 1) := dk_43 (dk_at dksL_law_5 9 rfl rfl)
theorem dL_law_201 : decode cL_law 201 = .ok (.aload_n 0, 1) := dk_42 (dk_at dksL_law_5 10 rfl rfl)
theorem dL_law_202 : decode cL_law 202 = .ok (.iload 5, 2) := dk_21 5 (dk_at dksL_law_5 11 rfl rfl)
theorem dL_law_204 : decode cL_law 204 = .ok (.iconst 1, 1) := dk_4 (dk_at dksL_law_5 13 rfl rfl)
theorem dL_law_205 : decode cL_law 205 = .ok (.iadd, 1) := dk_96 (dk_at dksL_law_5 14 rfl rfl)
theorem dL_law_206 : decode cL_law 206 = .ok (.iaload, 1) := dk_46 (dk_at dksL_law_5 15 rfl rfl)
theorem dL_law_207 : decode cL_law 207 = .ok (.aload_n 0, 1) := dk_42 (dk_at dksL_law_5 16 rfl rfl)
theorem dL_law_208 : decode cL_law 208 = .ok (.iload 5, 2) := dk_21 5 (dk_at dksL_law_5 17 rfl rfl)
theorem dL_law_210 : decode cL_law 210 = .ok (.iconst 2, 1) := dk_5 (dk_at dksL_law_5 19 rfl rfl)
theorem dL_law_211 : decode cL_law 211 = .ok (.iadd, 1) := dk_96 (dk_at dksL_law_5 20 rfl rfl)
theorem dL_law_212 : decode cL_law 212 = .ok (.iaload, 1) := dk_46 (dk_at dksL_law_5 21 rfl rfl)
theorem dL_law_213 : decode cL_law 213 = .ok (.aload_n 3, 1) := dk_45 (dk_at dksL_law_5 22 rfl rfl)
theorem dL_law_214 : decode cL_law 214 = .ok (.invokestatic 101, 3) := dk_184 0 101 (dk_at dksL_law_6 0 rfl rfl)
theorem dL_law_217 : decode cL_law 217 = .ok (.istore 6, 2) := dk_54 6 (dk_at dksL_law_6 3 rfl rfl)
theorem dL_law_219 : decode cL_law 219 = .ok (.aload_n 2, 1) := dk_44 (dk_at dksL_law_6 5 rfl rfl)
theorem dL_law_220 : decode cL_law 220 = .ok (.aload_n 0, 1) := dk_42 (dk_at dksL_law_6 6 rfl rfl)
theorem dL_law_221 : decode cL_law 221 = .ok (.iload 5, 2) := dk_21 5 (dk_at dksL_law_6 7 rfl rfl)
theorem dL_law_223 : decode cL_law 223 = .ok (.iconst 1, 1) := dk_4 (dk_at dksL_law_6 9 rfl rfl)
theorem dL_law_224 : decode cL_law 224 = .ok (.iadd, 1) := dk_96 (dk_at dksL_law_6 10 rfl rfl)
theorem dL_law_225 : decode cL_law 225 = .ok (.iaload, 1) := dk_46 (dk_at dksL_law_6 11 rfl rfl)
theorem dL_law_226 : decode cL_law 226 = .ok (.aload_n 0, 1) := dk_42 (dk_at dksL_law_6 12 rfl rfl)
theorem dL_law_227 : decode cL_law 227 = .ok (.iload 5, 2) := dk_21 5 (dk_at dksL_law_6 13 rfl rfl)
theorem dL_law_229 : decode cL_law 229 = .ok (.iconst 2, 1) := dk_5 (dk_at dksL_law_6 15 rfl rfl)
theorem dL_law_230 : decode cL_law 230 = .ok (.iadd, 1) := dk_96 (dk_at dksL_law_6 16 rfl rfl)
theorem dL_law_231 : decode cL_law 231 = .ok (.iaload, 1) := dk_46 (dk_at dksL_law_6 17 rfl rfl)
theorem dL_law_232 : decode cL_law 232 = .ok (.invokevirtual 104, 3) := dk_182 0 104 (dk_at dksL_law_6 18 rfl rfl)
theorem dL_law_235 : decode cL_law 235 = .ok (.istore 7, 2) := dk_54 7 (dk_at dksL_law_6 21 rfl rfl)
theorem dL_law_237 : decode cL_law 237 = .ok (.aload_n 2, 1) := dk_44 (dk_at dksL_law_6 23 rfl rfl)
theorem dL_law_238 : decode cL_law 238 = .ok (.invokevirtual 98, 3) := dk_182 0 98 (dk_at dksL_law_7 0 rfl rfl)
theorem dL_law_241 : decode cL_law 241 = .ok (.iload 6, 2) := dk_21 6 (dk_at dksL_law_7 3 rfl rfl)
theorem dL_law_243 : decode cL_law 243 = .ok (.if_icmp .eq 5, 3) := dk_159 0 5 (dk_at dksL_law_7 5 rfl rfl)
theorem dL_law_246 : decode cL_law 246 = .ok (.iconst 0, 1) := dk_3 (dk_at dksL_law_7 8 rfl rfl)
theorem dL_law_247 : decode cL_law 247 = .ok (.ireturn, 1) := dk_172 (dk_at dksL_law_7 9 rfl rfl)
theorem dL_law_248 : decode cL_law 248 = .ok (.iload 6, 2) := dk_21 6 (dk_at dksL_law_7 10 rfl rfl)
theorem dL_law_250 : decode cL_law 250 = .ok (.ifCond .ne 15, 3) := dk_154 0 15 (dk_at dksL_law_7 12 rfl rfl)
theorem dL_law_253 : decode cL_law 253 = .ok (.aload_n 3, 1) := dk_45 (dk_at dksL_law_7 15 rfl rfl)
theorem dL_law_254 : decode cL_law 254 = .ok (.iconst 0, 1) := dk_3 (dk_at dksL_law_7 16 rfl rfl)
theorem dL_law_255 : decode cL_law 255 = .ok (.laload, 1) := dk_47 (dk_at dksL_law_7 17 rfl rfl)
theorem dL_law_256 : decode cL_law 256 = .ok (.iload 7, 2) := dk_21 7 (dk_at dksL_law_7 18 rfl rfl)
theorem dL_law_258 : decode cL_law 258 = .ok (.i2l, 1) := dk_133 (dk_at dksL_law_7 20 rfl rfl)
theorem dL_law_259 : decode cL_law 259 = .ok (.lcmp, 1) := dk_148 (dk_at dksL_law_7 21 rfl rfl)
theorem dL_law_260 : decode cL_law 260 = .ok (.ifCond .eq 5, 3) := dk_153 0 5 (dk_at dksL_law_8 0 rfl rfl)
theorem dL_law_263 : decode cL_law 263 = .ok (.iconst 0, 1) := dk_3 (dk_at dksL_law_8 3 rfl rfl)
theorem dL_law_264 : decode cL_law 264 = .ok (.ireturn, 1) := dk_172 (dk_at dksL_law_8 4 rfl rfl)
theorem dL_law_265 : decode cL_law 265 = .ok (.goto 1289, 3) := dk_167 5 9 (dk_at dksL_law_8 5 rfl rfl)
theorem dL_law_268 : decode cL_law 268 = .ok (.aload_n 1, 1) := dk_43 (dk_at dksL_law_8 8 rfl rfl)
theorem dL_law_269 : decode cL_law 269 = .ok (.aload_n 0, 1) := dk_42 (dk_at dksL_law_8 9 rfl rfl)
theorem dL_law_270 : decode cL_law 270 = .ok (.iload 5, 2) := dk_21 5 (dk_at dksL_law_8 10 rfl rfl)
theorem dL_law_272 : decode cL_law 272 = .ok (.iconst 1, 1) := dk_4 (dk_at dksL_law_8 12 rfl rfl)
theorem dL_law_273 : decode cL_law 273 = .ok (.iadd, 1) := dk_96 (dk_at dksL_law_8 13 rfl rfl)
theorem dL_law_274 : decode cL_law 274 = .ok (.iaload, 1) := dk_46 (dk_at dksL_law_8 14 rfl rfl)
theorem dL_law_275 : decode cL_law 275 = .ok (.aload_n 0, 1) := dk_42 (dk_at dksL_law_8 15 rfl rfl)
theorem dL_law_276 : decode cL_law 276 = .ok (.iload 5, 2) := dk_21 5 (dk_at dksL_law_8 16 rfl rfl)
theorem dL_law_278 : decode cL_law 278 = .ok (.iconst 2, 1) := dk_5 (dk_at dksL_law_8 18 rfl rfl)
theorem dL_law_279 : decode cL_law 279 = .ok (.iadd, 1) := dk_96 (dk_at dksL_law_8 19 rfl rfl)
theorem dL_law_280 : decode cL_law 280 = .ok (.iaload, 1) := dk_46 (dk_at dksL_law_8 20 rfl rfl)
theorem dL_law_281 : decode cL_law 281 = .ok (.aload_n 0, 1) := dk_42 (dk_at dksL_law_8 21 rfl rfl)
theorem dL_law_282 : decode cL_law 282 = .ok (.iload 5, 2) := dk_21 5 (dk_at dksL_law_8 22 rfl rfl)
theorem dL_law_284 : decode cL_law 284 = .ok (.iconst 3, 1) := dk_6 (dk_at dksL_law_9 0 rfl rfl)
theorem dL_law_285 : decode cL_law 285 = .ok (.iadd, 1) := dk_96 (dk_at dksL_law_9 1 rfl rfl)
theorem dL_law_286 : decode cL_law 286 = .ok (.iaload, 1) := dk_46 (dk_at dksL_law_9 2 rfl rfl)
theorem dL_law_287 : decode cL_law 287 = .ok (.aload_n 3, 1) := dk_45 (dk_at dksL_law_9 3 rfl rfl)
theorem dL_law_288 : decode cL_law 288 = .ok (.invokestatic 105, 3) := dk_184 0 105 (dk_at dksL_law_9 4 rfl rfl)
theorem dL_law_291 : decode cL_law 291 = .ok (.istore 6, 2) := dk_54 6 (dk_at dksL_law_9 7 rfl rfl)
theorem dL_law_293 : decode cL_law 293 = .ok (.aload_n 2, 1) := dk_44 (dk_at dksL_law_9 9 rfl rfl)
theorem dL_law_294 : decode cL_law 294 = .ok (.aload_n 0, 1) := dk_42 (dk_at dksL_law_9 10 rfl rfl)
theorem dL_law_295 : decode cL_law 295 = .ok (.iload 5, 2) := dk_21 5 (dk_at dksL_law_9 11 rfl rfl)
theorem dL_law_297 : decode cL_law 297 = .ok (.iconst 1, 1) := dk_4 (dk_at dksL_law_9 13 rfl rfl)
theorem dL_law_298 : decode cL_law 298 = .ok (.iadd, 1) := dk_96 (dk_at dksL_law_9 14 rfl rfl)
theorem dL_law_299 : decode cL_law 299 = .ok (.iaload, 1) := dk_46 (dk_at dksL_law_9 15 rfl rfl)
theorem dL_law_300 : decode cL_law 300 = .ok (.aload_n 0, 1) := dk_42 (dk_at dksL_law_9 16 rfl rfl)
theorem dL_law_301 : decode cL_law 301 = .ok (.iload 5, 2) := dk_21 5 (dk_at dksL_law_9 17 rfl rfl)
theorem dL_law_303 : decode cL_law 303 = .ok (.iconst 2, 1) := dk_5 (dk_at dksL_law_9 19 rfl rfl)
theorem dL_law_304 : decode cL_law 304 = .ok (.iadd, 1) := dk_96 (dk_at dksL_law_9 20 rfl rfl)
theorem dL_law_305 : decode cL_law 305 = .ok (.iaload, 1) := dk_46 (dk_at dksL_law_9 21 rfl rfl)
theorem dL_law_306 : decode cL_law 306 = .ok (.aload_n 0, 1) := dk_42 (dk_at dksL_law_9 22 rfl rfl)
theorem dL_law_307 : decode cL_law 307 = .ok (.iload 5, 2) := dk_21 5 (dk_at dksL_law_10 0 rfl rfl)
theorem dL_law_309 : decode cL_law 309 = .ok (.iconst 3, 1) := dk_6 (dk_at dksL_law_10 2 rfl rfl)
theorem dL_law_310 : decode cL_law 310 = .ok (.iadd, 1) := dk_96 (dk_at dksL_law_10 3 rfl rfl)
theorem dL_law_311 : decode cL_law 311 = .ok (.iaload, 1) := dk_46 (dk_at dksL_law_10 4 rfl rfl)
theorem dL_law_312 : decode cL_law 312 = .ok (.invokevirtual 108, 3) := dk_182 0 108 (dk_at dksL_law_10 5 rfl rfl)
theorem dL_law_315 : decode cL_law 315 = .ok (.istore 7, 2) := dk_54 7 (dk_at dksL_law_10 8 rfl rfl)
theorem dL_law_317 : decode cL_law 317 = .ok (.aload_n 2, 1) := dk_44 (dk_at dksL_law_10 10 rfl rfl)
theorem dL_law_318 : decode cL_law 318 = .ok (.invokevirtual 98, 3) := dk_182 0 98 (dk_at dksL_law_10 11 rfl rfl)
theorem dL_law_321 : decode cL_law 321 = .ok (.iload 6, 2) := dk_21 6 (dk_at dksL_law_10 14 rfl rfl)
theorem dL_law_323 : decode cL_law 323 = .ok (.if_icmp .eq 5, 3) := dk_159 0 5 (dk_at dksL_law_10 16 rfl rfl)
theorem dL_law_326 : decode cL_law 326 = .ok (.iconst 0, 1) := dk_3 (dk_at dksL_law_10 19 rfl rfl)
theorem dL_law_327 : decode cL_law 327 = .ok (.ireturn, 1) := dk_172 (dk_at dksL_law_10 20 rfl rfl)
theorem dL_law_328 : decode cL_law 328 = .ok (.iload 6, 2) := dk_21 6 (dk_at dksL_law_10 21 rfl rfl)
theorem dL_law_330 : decode cL_law 330 = .ok (.ifCond .ne 15, 3) := dk_154 0 15 (dk_at dksL_law_11 0 rfl rfl)
theorem dL_law_333 : decode cL_law 333 = .ok (.aload_n 3, 1) := dk_45 (dk_at dksL_law_11 3 rfl rfl)
theorem dL_law_334 : decode cL_law 334 = .ok (.iconst 0, 1) := dk_3 (dk_at dksL_law_11 4 rfl rfl)
theorem dL_law_335 : decode cL_law 335 = .ok (.laload, 1) := dk_47 (dk_at dksL_law_11 5 rfl rfl)
theorem dL_law_336 : decode cL_law 336 = .ok (.iload 7, 2) := dk_21 7 (dk_at dksL_law_11 6 rfl rfl)
theorem dL_law_338 : decode cL_law 338 = .ok (.i2l, 1) := dk_133 (dk_at dksL_law_11 8 rfl rfl)
theorem dL_law_339 : decode cL_law 339 = .ok (.lcmp, 1) := dk_148 (dk_at dksL_law_11 9 rfl rfl)
theorem dL_law_340 : decode cL_law 340 = .ok (.ifCond .eq 5, 3) := dk_153 0 5 (dk_at dksL_law_11 10 rfl rfl)
theorem dL_law_343 : decode cL_law 343 = .ok (.iconst 0, 1) := dk_3 (dk_at dksL_law_11 13 rfl rfl)
theorem dL_law_344 : decode cL_law 344 = .ok (.ireturn, 1) := dk_172 (dk_at dksL_law_11 14 rfl rfl)
theorem dL_law_345 : decode cL_law 345 = .ok (.goto 1209, 3) := dk_167 4 185 (dk_at dksL_law_11 15 rfl rfl)
theorem dL_law_348 : decode cL_law 348 = .ok (.aload_n 1, 1) := dk_43 (dk_at dksL_law_11 18 rfl rfl)
theorem dL_law_349 : decode cL_law 349 = .ok (.aload_n 0, 1) := dk_42 (dk_at dksL_law_11 19 rfl rfl)
theorem dL_law_350 : decode cL_law 350 = .ok (.iload 5, 2) := dk_21 5 (dk_at dksL_law_11 20 rfl rfl)
theorem dL_law_352 : decode cL_law 352 = .ok (.iconst 1, 1) := dk_4 (dk_at dksL_law_11 22 rfl rfl)
theorem dL_law_353 : decode cL_law 353 = .ok (.iadd, 1) := dk_96 (dk_at dksL_law_11 23 rfl rfl)
theorem dL_law_354 : decode cL_law 354 = .ok (.iaload, 1) := dk_46 (dk_at dksL_law_12 0 rfl rfl)
theorem dL_law_355 : decode cL_law 355 = .ok (.i2c, 1) := dk_146 (dk_at dksL_law_12 1 rfl rfl)
theorem dL_law_356 : decode cL_law 356 = .ok (.aload_n 0, 1) := dk_42 (dk_at dksL_law_12 2 rfl rfl)
theorem dL_law_357 : decode cL_law 357 = .ok (.iload 5, 2) := dk_21 5 (dk_at dksL_law_12 3 rfl rfl)
theorem dL_law_359 : decode cL_law 359 = .ok (.iconst 2, 1) := dk_5 (dk_at dksL_law_12 5 rfl rfl)
theorem dL_law_360 : decode cL_law 360 = .ok (.iadd, 1) := dk_96 (dk_at dksL_law_12 6 rfl rfl)
theorem dL_law_361 : decode cL_law 361 = .ok (.iaload, 1) := dk_46 (dk_at dksL_law_12 7 rfl rfl)
theorem dL_law_362 : decode cL_law 362 = .ok (.aload_n 0, 1) := dk_42 (dk_at dksL_law_12 8 rfl rfl)
theorem dL_law_363 : decode cL_law 363 = .ok (.iload 5, 2) := dk_21 5 (dk_at dksL_law_12 9 rfl rfl)
theorem dL_law_365 : decode cL_law 365 = .ok (.iconst 3, 1) := dk_6 (dk_at dksL_law_12 11 rfl rfl)
theorem dL_law_366 : decode cL_law 366 = .ok (.iadd, 1) := dk_96 (dk_at dksL_law_12 12 rfl rfl)
theorem dL_law_367 : decode cL_law 367 = .ok (.iaload, 1) := dk_46 (dk_at dksL_law_12 13 rfl rfl)
theorem dL_law_368 : decode cL_law 368 = .ok (.aload_n 3, 1) := dk_45 (dk_at dksL_law_12 14 rfl rfl)
theorem dL_law_369 : decode cL_law 369 = .ok (.invokestatic 109, 3) := dk_184 0 109 (dk_at dksL_law_12 15 rfl rfl)
theorem dL_law_372 : decode cL_law 372 = .ok (.istore 6, 2) := dk_54 6 (dk_at dksL_law_12 18 rfl rfl)
theorem dL_law_374 : decode cL_law 374 = .ok (.aload_n 2, 1) := dk_44 (dk_at dksL_law_12 20 rfl rfl)
theorem dL_law_375 : decode cL_law 375 = .ok (.aload_n 0, 1) := dk_42 (dk_at dksL_law_12 21 rfl rfl)
theorem dL_law_376 : decode cL_law 376 = .ok (.iload 5, 2) := dk_21 5 (dk_at dksL_law_12 22 rfl rfl)
theorem dL_law_378 : decode cL_law 378 = .ok (.iconst 1, 1) := dk_4 (dk_at dksL_law_13 0 rfl rfl)
theorem dL_law_379 : decode cL_law 379 = .ok (.iadd, 1) := dk_96 (dk_at dksL_law_13 1 rfl rfl)
theorem dL_law_380 : decode cL_law 380 = .ok (.iaload, 1) := dk_46 (dk_at dksL_law_13 2 rfl rfl)
theorem dL_law_381 : decode cL_law 381 = .ok (.i2c, 1) := dk_146 (dk_at dksL_law_13 3 rfl rfl)
theorem dL_law_382 : decode cL_law 382 = .ok (.aload_n 0, 1) := dk_42 (dk_at dksL_law_13 4 rfl rfl)
theorem dL_law_383 : decode cL_law 383 = .ok (.iload 5, 2) := dk_21 5 (dk_at dksL_law_13 5 rfl rfl)
theorem dL_law_385 : decode cL_law 385 = .ok (.iconst 2, 1) := dk_5 (dk_at dksL_law_13 7 rfl rfl)
theorem dL_law_386 : decode cL_law 386 = .ok (.iadd, 1) := dk_96 (dk_at dksL_law_13 8 rfl rfl)
theorem dL_law_387 : decode cL_law 387 = .ok (.iaload, 1) := dk_46 (dk_at dksL_law_13 9 rfl rfl)
theorem dL_law_388 : decode cL_law 388 = .ok (.aload_n 0, 1) := dk_42 (dk_at dksL_law_13 10 rfl rfl)
theorem dL_law_389 : decode cL_law 389 = .ok (.iload 5, 2) := dk_21 5 (dk_at dksL_law_13 11 rfl rfl)
theorem dL_law_391 : decode cL_law 391 = .ok (.iconst 3, 1) := dk_6 (dk_at dksL_law_13 13 rfl rfl)
theorem dL_law_392 : decode cL_law 392 = .ok (.iadd, 1) := dk_96 (dk_at dksL_law_13 14 rfl rfl)
theorem dL_law_393 : decode cL_law 393 = .ok (.iaload, 1) := dk_46 (dk_at dksL_law_13 15 rfl rfl)
theorem dL_law_394 : decode cL_law 394 = .ok (.invokevirtual 112, 3) := dk_182 0 112 (dk_at dksL_law_13 16 rfl rfl)
theorem dL_law_397 : decode cL_law 397 = .ok (.istore 7, 2) := dk_54 7 (dk_at dksL_law_13 19 rfl rfl)
theorem dL_law_399 : decode cL_law 399 = .ok (.aload_n 2, 1) := dk_44 (dk_at dksL_law_13 21 rfl rfl)
theorem dL_law_400 : decode cL_law 400 = .ok (.invokevirtual 98, 3) := dk_182 0 98 (dk_at dksL_law_14 0 rfl rfl)
theorem dL_law_403 : decode cL_law 403 = .ok (.iload 6, 2) := dk_21 6 (dk_at dksL_law_14 3 rfl rfl)
theorem dL_law_405 : decode cL_law 405 = .ok (.if_icmp .eq 5, 3) := dk_159 0 5 (dk_at dksL_law_14 5 rfl rfl)
theorem dL_law_408 : decode cL_law 408 = .ok (.iconst 0, 1) := dk_3 (dk_at dksL_law_14 8 rfl rfl)
theorem dL_law_409 : decode cL_law 409 = .ok (.ireturn, 1) := dk_172 (dk_at dksL_law_14 9 rfl rfl)
theorem dL_law_410 : decode cL_law 410 = .ok (.iload 6, 2) := dk_21 6 (dk_at dksL_law_14 10 rfl rfl)
theorem dL_law_412 : decode cL_law 412 = .ok (.ifCond .ne 15, 3) := dk_154 0 15 (dk_at dksL_law_14 12 rfl rfl)
theorem dL_law_415 : decode cL_law 415 = .ok (.aload_n 3, 1) := dk_45 (dk_at dksL_law_14 15 rfl rfl)
theorem dL_law_416 : decode cL_law 416 = .ok (.iconst 0, 1) := dk_3 (dk_at dksL_law_14 16 rfl rfl)
theorem dL_law_417 : decode cL_law 417 = .ok (.laload, 1) := dk_47 (dk_at dksL_law_14 17 rfl rfl)
theorem dL_law_418 : decode cL_law 418 = .ok (.iload 7, 2) := dk_21 7 (dk_at dksL_law_14 18 rfl rfl)
theorem dL_law_420 : decode cL_law 420 = .ok (.i2l, 1) := dk_133 (dk_at dksL_law_14 20 rfl rfl)
theorem dL_law_421 : decode cL_law 421 = .ok (.lcmp, 1) := dk_148 (dk_at dksL_law_14 21 rfl rfl)
theorem dL_law_422 : decode cL_law 422 = .ok (.ifCond .eq 5, 3) := dk_153 0 5 (dk_at dksL_law_15 0 rfl rfl)
theorem dL_law_425 : decode cL_law 425 = .ok (.iconst 0, 1) := dk_3 (dk_at dksL_law_15 3 rfl rfl)
theorem dL_law_426 : decode cL_law 426 = .ok (.ireturn, 1) := dk_172 (dk_at dksL_law_15 4 rfl rfl)
theorem dL_law_427 : decode cL_law 427 = .ok (.goto 1127, 3) := dk_167 4 103 (dk_at dksL_law_15 5 rfl rfl)
theorem dL_law_430 : decode cL_law 430 = .ok (.aload_n 1, 1) := dk_43 (dk_at dksL_law_15 8 rfl rfl)
theorem dL_law_431 : decode cL_law 431 = .ok (.aload_n 0, 1) := dk_42 (dk_at dksL_law_15 9 rfl rfl)
theorem dL_law_432 : decode cL_law 432 = .ok (.iload 5, 2) := dk_21 5 (dk_at dksL_law_15 10 rfl rfl)
theorem dL_law_434 : decode cL_law 434 = .ok (.iconst 1, 1) := dk_4 (dk_at dksL_law_15 12 rfl rfl)
theorem dL_law_435 : decode cL_law 435 = .ok (.iadd, 1) := dk_96 (dk_at dksL_law_15 13 rfl rfl)
theorem dL_law_436 : decode cL_law 436 = .ok (.iaload, 1) := dk_46 (dk_at dksL_law_15 14 rfl rfl)
theorem dL_law_437 : decode cL_law 437 = .ok (.aload_n 3, 1) := dk_45 (dk_at dksL_law_15 15 rfl rfl)
theorem dL_law_438 : decode cL_law 438 = .ok (.invokestatic 113, 3) := dk_184 0 113 (dk_at dksL_law_15 16 rfl rfl)
theorem dL_law_441 : decode cL_law 441 = .ok (.istore 6, 2) := dk_54 6 (dk_at dksL_law_15 19 rfl rfl)
theorem dL_law_443 : decode cL_law 443 = .ok (.aload_n 2, 1) := dk_44 (dk_at dksL_law_15 21 rfl rfl)
theorem dL_law_444 : decode cL_law 444 = .ok (.aload_n 0, 1) := dk_42 (dk_at dksL_law_15 22 rfl rfl)
theorem dL_law_445 : decode cL_law 445 = .ok (.iload 5, 2) := dk_21 5 (dk_at dksL_law_16 0 rfl rfl)
theorem dL_law_447 : decode cL_law 447 = .ok (.iconst 1, 1) := dk_4 (dk_at dksL_law_16 2 rfl rfl)
theorem dL_law_448 : decode cL_law 448 = .ok (.iadd, 1) := dk_96 (dk_at dksL_law_16 3 rfl rfl)
theorem dL_law_449 : decode cL_law 449 = .ok (.iaload, 1) := dk_46 (dk_at dksL_law_16 4 rfl rfl)
theorem dL_law_450 : decode cL_law 450 = .ok (.invokevirtual 115, 3) := dk_182 0 115 (dk_at dksL_law_16 5 rfl rfl)
theorem dL_law_453 : decode cL_law 453 = .ok (.istore 7, 2) := dk_54 7 (dk_at dksL_law_16 8 rfl rfl)
theorem dL_law_455 : decode cL_law 455 = .ok (.aload_n 2, 1) := dk_44 (dk_at dksL_law_16 10 rfl rfl)
theorem dL_law_456 : decode cL_law 456 = .ok (.invokevirtual 98, 3) := dk_182 0 98 (dk_at dksL_law_16 11 rfl rfl)
theorem dL_law_459 : decode cL_law 459 = .ok (.iload 6, 2) := dk_21 6 (dk_at dksL_law_16 14 rfl rfl)
theorem dL_law_461 : decode cL_law 461 = .ok (.if_icmp .eq 5, 3) := dk_159 0 5 (dk_at dksL_law_16 16 rfl rfl)
theorem dL_law_464 : decode cL_law 464 = .ok (.iconst 0, 1) := dk_3 (dk_at dksL_law_16 19 rfl rfl)
theorem dL_law_465 : decode cL_law 465 = .ok (.ireturn, 1) := dk_172 (dk_at dksL_law_16 20 rfl rfl)
theorem dL_law_466 : decode cL_law 466 = .ok (.iload 6, 2) := dk_21 6 (dk_at dksL_law_16 21 rfl rfl)
theorem dL_law_468 : decode cL_law 468 = .ok (.ifCond .ne 15, 3) := dk_154 0 15 (dk_at dksL_law_17 0 rfl rfl)
theorem dL_law_471 : decode cL_law 471 = .ok (.aload_n 3, 1) := dk_45 (dk_at dksL_law_17 3 rfl rfl)
theorem dL_law_472 : decode cL_law 472 = .ok (.iconst 0, 1) := dk_3 (dk_at dksL_law_17 4 rfl rfl)
theorem dL_law_473 : decode cL_law 473 = .ok (.laload, 1) := dk_47 (dk_at dksL_law_17 5 rfl rfl)
theorem dL_law_474 : decode cL_law 474 = .ok (.iload 7, 2) := dk_21 7 (dk_at dksL_law_17 6 rfl rfl)
theorem dL_law_476 : decode cL_law 476 = .ok (.i2l, 1) := dk_133 (dk_at dksL_law_17 8 rfl rfl)
theorem dL_law_477 : decode cL_law 477 = .ok (.lcmp, 1) := dk_148 (dk_at dksL_law_17 9 rfl rfl)
theorem dL_law_478 : decode cL_law 478 = .ok (.ifCond .eq 5, 3) := dk_153 0 5 (dk_at dksL_law_17 10 rfl rfl)
theorem dL_law_481 : decode cL_law 481 = .ok (.iconst 0, 1) := dk_3 (dk_at dksL_law_17 13 rfl rfl)
theorem dL_law_482 : decode cL_law 482 = .ok (.ireturn, 1) := dk_172 (dk_at dksL_law_17 14 rfl rfl)
theorem dL_law_483 : decode cL_law 483 = .ok (.goto 1071, 3) := dk_167 4 47 (dk_at dksL_law_17 15 rfl rfl)
theorem dL_law_486 : decode cL_law 486 = .ok (.aload_n 1, 1) := dk_43 (dk_at dksL_law_17 18 rfl rfl)
theorem dL_law_487 : decode cL_law 487 = .ok (.aload_n 0, 1) := dk_42 (dk_at dksL_law_17 19 rfl rfl)
theorem dL_law_488 : decode cL_law 488 = .ok (.iload 5, 2) := dk_21 5 (dk_at dksL_law_17 20 rfl rfl)
theorem dL_law_490 : decode cL_law 490 = .ok (.iconst 1, 1) := dk_4 (dk_at dksL_law_17 22 rfl rfl)
theorem dL_law_491 : decode cL_law 491 = .ok (.iadd, 1) := dk_96 (dk_at dksL_law_17 23 rfl rfl)
theorem dL_law_492 : decode cL_law 492 = .ok (.iaload, 1) := dk_46 (dk_at dksL_law_18 0 rfl rfl)
theorem dL_law_493 : decode cL_law 493 = .ok (.aload_n 0, 1) := dk_42 (dk_at dksL_law_18 1 rfl rfl)
theorem dL_law_494 : decode cL_law 494 = .ok (.iload 5, 2) := dk_21 5 (dk_at dksL_law_18 2 rfl rfl)
theorem dL_law_496 : decode cL_law 496 = .ok (.iconst 2, 1) := dk_5 (dk_at dksL_law_18 4 rfl rfl)
theorem dL_law_497 : decode cL_law 497 = .ok (.iadd, 1) := dk_96 (dk_at dksL_law_18 5 rfl rfl)
theorem dL_law_498 : decode cL_law 498 = .ok (.iaload, 1) := dk_46 (dk_at dksL_law_18 6 rfl rfl)
theorem dL_law_499 : decode cL_law 499 = .ok (.aload_n 0, 1) := dk_42 (dk_at dksL_law_18 7 rfl rfl)
theorem dL_law_500 : decode cL_law 500 = .ok (.iload 5, 2) := dk_21 5 (dk_at dksL_law_18 8 rfl rfl)
theorem dL_law_502 : decode cL_law 502 = .ok (.iconst 3, 1) := dk_6 (dk_at dksL_law_18 10 rfl rfl)
theorem dL_law_503 : decode cL_law 503 = .ok (.iadd, 1) := dk_96 (dk_at dksL_law_18 11 rfl rfl)
theorem dL_law_504 : decode cL_law 504 = .ok (.iaload, 1) := dk_46 (dk_at dksL_law_18 12 rfl rfl)
theorem dL_law_505 : decode cL_law 505 = .ok (.aload_n 0, 1) := dk_42 (dk_at dksL_law_18 13 rfl rfl)
theorem dL_law_506 : decode cL_law 506 = .ok (.iload 5, 2) := dk_21 5 (dk_at dksL_law_18 14 rfl rfl)
theorem dL_law_508 : decode cL_law 508 = .ok (.iconst 4, 1) := dk_7 (dk_at dksL_law_18 16 rfl rfl)
theorem dL_law_509 : decode cL_law 509 = .ok (.iadd, 1) := dk_96 (dk_at dksL_law_18 17 rfl rfl)
theorem dL_law_510 : decode cL_law 510 = .ok (.iaload, 1) := dk_46 (dk_at dksL_law_18 18 rfl rfl)
theorem dL_law_511 : decode cL_law 511 = .ok (.aload_n 3, 1) := dk_45 (dk_at dksL_law_18 19 rfl rfl)
theorem dL_law_512 : decode cL_law 512 = .ok (.invokestatic 116, 3) := dk_184 0 116 (dk_at dksL_law_18 20 rfl rfl)
theorem dL_law_515 : decode cL_law 515 = .ok (.istore 6, 2) := dk_54 6 (dk_at dksL_law_19 0 rfl rfl)
theorem dL_law_517 : decode cL_law 517 = .ok (.aload_n 2, 1) := dk_44 (dk_at dksL_law_19 2 rfl rfl)
theorem dL_law_518 : decode cL_law 518 = .ok (.aload_n 0, 1) := dk_42 (dk_at dksL_law_19 3 rfl rfl)
theorem dL_law_519 : decode cL_law 519 = .ok (.iload 5, 2) := dk_21 5 (dk_at dksL_law_19 4 rfl rfl)
theorem dL_law_521 : decode cL_law 521 = .ok (.iconst 1, 1) := dk_4 (dk_at dksL_law_19 6 rfl rfl)
theorem dL_law_522 : decode cL_law 522 = .ok (.iadd, 1) := dk_96 (dk_at dksL_law_19 7 rfl rfl)
theorem dL_law_523 : decode cL_law 523 = .ok (.iaload, 1) := dk_46 (dk_at dksL_law_19 8 rfl rfl)
theorem dL_law_524 : decode cL_law 524 = .ok (.aload_n 0, 1) := dk_42 (dk_at dksL_law_19 9 rfl rfl)
theorem dL_law_525 : decode cL_law 525 = .ok (.iload 5, 2) := dk_21 5 (dk_at dksL_law_19 10 rfl rfl)
theorem dL_law_527 : decode cL_law 527 = .ok (.iconst 2, 1) := dk_5 (dk_at dksL_law_19 12 rfl rfl)
theorem dL_law_528 : decode cL_law 528 = .ok (.iadd, 1) := dk_96 (dk_at dksL_law_19 13 rfl rfl)
theorem dL_law_529 : decode cL_law 529 = .ok (.iaload, 1) := dk_46 (dk_at dksL_law_19 14 rfl rfl)
theorem dL_law_530 : decode cL_law 530 = .ok (.aload_n 0, 1) := dk_42 (dk_at dksL_law_19 15 rfl rfl)
theorem dL_law_531 : decode cL_law 531 = .ok (.iload 5, 2) := dk_21 5 (dk_at dksL_law_19 16 rfl rfl)
theorem dL_law_533 : decode cL_law 533 = .ok (.iconst 3, 1) := dk_6 (dk_at dksL_law_19 18 rfl rfl)
theorem dL_law_534 : decode cL_law 534 = .ok (.iadd, 1) := dk_96 (dk_at dksL_law_19 19 rfl rfl)
theorem dL_law_535 : decode cL_law 535 = .ok (.iaload, 1) := dk_46 (dk_at dksL_law_19 20 rfl rfl)
theorem dL_law_536 : decode cL_law 536 = .ok (.aload_n 0, 1) := dk_42 (dk_at dksL_law_19 21 rfl rfl)
theorem dL_law_537 : decode cL_law 537 = .ok (.iload 5, 2) := dk_21 5 (dk_at dksL_law_19 22 rfl rfl)
theorem dL_law_539 : decode cL_law 539 = .ok (.iconst 4, 1) := dk_7 (dk_at dksL_law_20 0 rfl rfl)
theorem dL_law_540 : decode cL_law 540 = .ok (.iadd, 1) := dk_96 (dk_at dksL_law_20 1 rfl rfl)
theorem dL_law_541 : decode cL_law 541 = .ok (.iaload, 1) := dk_46 (dk_at dksL_law_20 2 rfl rfl)
theorem dL_law_542 : decode cL_law 542 = .ok (.invokevirtual 119, 3) := dk_182 0 119 (dk_at dksL_law_20 3 rfl rfl)
theorem dL_law_545 : decode cL_law 545 = .ok (.istore 7, 2) := dk_54 7 (dk_at dksL_law_20 6 rfl rfl)
theorem dL_law_547 : decode cL_law 547 = .ok (.aload_n 2, 1) := dk_44 (dk_at dksL_law_20 8 rfl rfl)
theorem dL_law_548 : decode cL_law 548 = .ok (.invokevirtual 98, 3) := dk_182 0 98 (dk_at dksL_law_20 9 rfl rfl)
theorem dL_law_551 : decode cL_law 551 = .ok (.iload 6, 2) := dk_21 6 (dk_at dksL_law_20 12 rfl rfl)
theorem dL_law_553 : decode cL_law 553 = .ok (.if_icmp .eq 5, 3) := dk_159 0 5 (dk_at dksL_law_20 14 rfl rfl)
theorem dL_law_556 : decode cL_law 556 = .ok (.iconst 0, 1) := dk_3 (dk_at dksL_law_20 17 rfl rfl)
theorem dL_law_557 : decode cL_law 557 = .ok (.ireturn, 1) := dk_172 (dk_at dksL_law_20 18 rfl rfl)
theorem dL_law_558 : decode cL_law 558 = .ok (.iload 6, 2) := dk_21 6 (dk_at dksL_law_20 19 rfl rfl)
theorem dL_law_560 : decode cL_law 560 = .ok (.ifCond .ne 15, 3) := dk_154 0 15 (dk_at dksL_law_20 21 rfl rfl)
theorem dL_law_563 : decode cL_law 563 = .ok (.aload_n 3, 1) := dk_45 (dk_at dksL_law_21 0 rfl rfl)
theorem dL_law_564 : decode cL_law 564 = .ok (.iconst 0, 1) := dk_3 (dk_at dksL_law_21 1 rfl rfl)
theorem dL_law_565 : decode cL_law 565 = .ok (.laload, 1) := dk_47 (dk_at dksL_law_21 2 rfl rfl)
theorem dL_law_566 : decode cL_law 566 = .ok (.iload 7, 2) := dk_21 7 (dk_at dksL_law_21 3 rfl rfl)
theorem dL_law_568 : decode cL_law 568 = .ok (.i2l, 1) := dk_133 (dk_at dksL_law_21 5 rfl rfl)
theorem dL_law_569 : decode cL_law 569 = .ok (.lcmp, 1) := dk_148 (dk_at dksL_law_21 6 rfl rfl)
theorem dL_law_570 : decode cL_law 570 = .ok (.ifCond .eq 5, 3) := dk_153 0 5 (dk_at dksL_law_21 7 rfl rfl)
theorem dL_law_573 : decode cL_law 573 = .ok (.iconst 0, 1) := dk_3 (dk_at dksL_law_21 10 rfl rfl)
theorem dL_law_574 : decode cL_law 574 = .ok (.ireturn, 1) := dk_172 (dk_at dksL_law_21 11 rfl rfl)
theorem dL_law_575 : decode cL_law 575 = .ok (.goto 979, 3) := dk_167 3 211 (dk_at dksL_law_21 12 rfl rfl)
theorem dL_law_578 : decode cL_law 578 = .ok (.aload_n 1, 1) := dk_43 (dk_at dksL_law_21 15 rfl rfl)
theorem dL_law_579 : decode cL_law 579 = .ok (.aload_n 0, 1) := dk_42 (dk_at dksL_law_21 16 rfl rfl)
theorem dL_law_580 : decode cL_law 580 = .ok (.iload 5, 2) := dk_21 5 (dk_at dksL_law_21 17 rfl rfl)
theorem dL_law_582 : decode cL_law 582 = .ok (.iconst 1, 1) := dk_4 (dk_at dksL_law_21 19 rfl rfl)
theorem dL_law_583 : decode cL_law 583 = .ok (.iadd, 1) := dk_96 (dk_at dksL_law_21 20 rfl rfl)
theorem dL_law_584 : decode cL_law 584 = .ok (.iaload, 1) := dk_46 (dk_at dksL_law_21 21 rfl rfl)
theorem dL_law_585 : decode cL_law 585 = .ok (.aload_n 0, 1) := dk_42 (dk_at dksL_law_21 22 rfl rfl)
theorem dL_law_586 : decode cL_law 586 = .ok (.iload 5, 2) := dk_21 5 (dk_at dksL_law_22 0 rfl rfl)
theorem dL_law_588 : decode cL_law 588 = .ok (.iconst 2, 1) := dk_5 (dk_at dksL_law_22 2 rfl rfl)
theorem dL_law_589 : decode cL_law 589 = .ok (.iadd, 1) := dk_96 (dk_at dksL_law_22 3 rfl rfl)
theorem dL_law_590 : decode cL_law 590 = .ok (.iaload, 1) := dk_46 (dk_at dksL_law_22 4 rfl rfl)
theorem dL_law_591 : decode cL_law 591 = .ok (.aload_n 0, 1) := dk_42 (dk_at dksL_law_22 5 rfl rfl)
theorem dL_law_592 : decode cL_law 592 = .ok (.iload 5, 2) := dk_21 5 (dk_at dksL_law_22 6 rfl rfl)
theorem dL_law_594 : decode cL_law 594 = .ok (.iconst 3, 1) := dk_6 (dk_at dksL_law_22 8 rfl rfl)
theorem dL_law_595 : decode cL_law 595 = .ok (.iadd, 1) := dk_96 (dk_at dksL_law_22 9 rfl rfl)
theorem dL_law_596 : decode cL_law 596 = .ok (.iaload, 1) := dk_46 (dk_at dksL_law_22 10 rfl rfl)
theorem dL_law_597 : decode cL_law 597 = .ok (.aload_n 3, 1) := dk_45 (dk_at dksL_law_22 11 rfl rfl)
theorem dL_law_598 : decode cL_law 598 = .ok (.invokestatic 120, 3) := dk_184 0 120 (dk_at dksL_law_22 12 rfl rfl)
theorem dL_law_601 : decode cL_law 601 = .ok (.istore 6, 2) := dk_54 6 (dk_at dksL_law_22 15 rfl rfl)
theorem dL_law_603 : decode cL_law 603 = .ok (.aload_n 2, 1) := dk_44 (dk_at dksL_law_22 17 rfl rfl)
theorem dL_law_604 : decode cL_law 604 = .ok (.aload_n 0, 1) := dk_42 (dk_at dksL_law_22 18 rfl rfl)
theorem dL_law_605 : decode cL_law 605 = .ok (.iload 5, 2) := dk_21 5 (dk_at dksL_law_22 19 rfl rfl)
theorem dL_law_607 : decode cL_law 607 = .ok (.iconst 1, 1) := dk_4 (dk_at dksL_law_22 21 rfl rfl)
theorem dL_law_608 : decode cL_law 608 = .ok (.iadd, 1) := dk_96 (dk_at dksL_law_22 22 rfl rfl)
theorem dL_law_609 : decode cL_law 609 = .ok (.iaload, 1) := dk_46 (dk_at dksL_law_22 23 rfl rfl)
theorem dL_law_610 : decode cL_law 610 = .ok (.aload_n 0, 1) := dk_42 (dk_at dksL_law_23 0 rfl rfl)
theorem dL_law_611 : decode cL_law 611 = .ok (.iload 5, 2) := dk_21 5 (dk_at dksL_law_23 1 rfl rfl)
theorem dL_law_613 : decode cL_law 613 = .ok (.iconst 2, 1) := dk_5 (dk_at dksL_law_23 3 rfl rfl)
theorem dL_law_614 : decode cL_law 614 = .ok (.iadd, 1) := dk_96 (dk_at dksL_law_23 4 rfl rfl)
theorem dL_law_615 : decode cL_law 615 = .ok (.iaload, 1) := dk_46 (dk_at dksL_law_23 5 rfl rfl)
theorem dL_law_616 : decode cL_law 616 = .ok (.aload_n 0, 1) := dk_42 (dk_at dksL_law_23 6 rfl rfl)
theorem dL_law_617 : decode cL_law 617 = .ok (.iload 5, 2) := dk_21 5 (dk_at dksL_law_23 7 rfl rfl)
theorem dL_law_619 : decode cL_law 619 = .ok (.iconst 3, 1) := dk_6 (dk_at dksL_law_23 9 rfl rfl)
theorem dL_law_620 : decode cL_law 620 = .ok (.iadd, 1) := dk_96 (dk_at dksL_law_23 10 rfl rfl)
theorem dL_law_621 : decode cL_law 621 = .ok (.iaload, 1) := dk_46 (dk_at dksL_law_23 11 rfl rfl)
theorem dL_law_622 : decode cL_law 622 = .ok (.invokevirtual 122, 3) := dk_182 0 122 (dk_at dksL_law_23 12 rfl rfl)
theorem dL_law_625 : decode cL_law 625 = .ok (.istore 7, 2) := dk_54 7 (dk_at dksL_law_23 15 rfl rfl)
theorem dL_law_627 : decode cL_law 627 = .ok (.aload_n 2, 1) := dk_44 (dk_at dksL_law_23 17 rfl rfl)
theorem dL_law_628 : decode cL_law 628 = .ok (.invokevirtual 98, 3) := dk_182 0 98 (dk_at dksL_law_23 18 rfl rfl)
theorem dL_law_631 : decode cL_law 631 = .ok (.iload 6, 2) := dk_21 6 (dk_at dksL_law_23 21 rfl rfl)
theorem dL_law_633 : decode cL_law 633 = .ok (.if_icmp .eq 5, 3) := dk_159 0 5 (dk_at dksL_law_24 0 rfl rfl)
theorem dL_law_636 : decode cL_law 636 = .ok (.iconst 0, 1) := dk_3 (dk_at dksL_law_24 3 rfl rfl)
theorem dL_law_637 : decode cL_law 637 = .ok (.ireturn, 1) := dk_172 (dk_at dksL_law_24 4 rfl rfl)
theorem dL_law_638 : decode cL_law 638 = .ok (.iload 6, 2) := dk_21 6 (dk_at dksL_law_24 5 rfl rfl)
theorem dL_law_640 : decode cL_law 640 = .ok (.ifCond .ne 15, 3) := dk_154 0 15 (dk_at dksL_law_24 7 rfl rfl)
theorem dL_law_643 : decode cL_law 643 = .ok (.aload_n 3, 1) := dk_45 (dk_at dksL_law_24 10 rfl rfl)
theorem dL_law_644 : decode cL_law 644 = .ok (.iconst 0, 1) := dk_3 (dk_at dksL_law_24 11 rfl rfl)
theorem dL_law_645 : decode cL_law 645 = .ok (.laload, 1) := dk_47 (dk_at dksL_law_24 12 rfl rfl)
theorem dL_law_646 : decode cL_law 646 = .ok (.iload 7, 2) := dk_21 7 (dk_at dksL_law_24 13 rfl rfl)
theorem dL_law_648 : decode cL_law 648 = .ok (.i2l, 1) := dk_133 (dk_at dksL_law_24 15 rfl rfl)
theorem dL_law_649 : decode cL_law 649 = .ok (.lcmp, 1) := dk_148 (dk_at dksL_law_24 16 rfl rfl)
theorem dL_law_650 : decode cL_law 650 = .ok (.ifCond .eq 5, 3) := dk_153 0 5 (dk_at dksL_law_24 17 rfl rfl)
theorem dL_law_653 : decode cL_law 653 = .ok (.iconst 0, 1) := dk_3 (dk_at dksL_law_24 20 rfl rfl)
theorem dL_law_654 : decode cL_law 654 = .ok (.ireturn, 1) := dk_172 (dk_at dksL_law_24 21 rfl rfl)
theorem dL_law_655 : decode cL_law 655 = .ok (.goto 899, 3) := dk_167 3 131 (dk_at dksL_law_25 0 rfl rfl)
theorem dL_law_658 : decode cL_law 658 = .ok (.aload_n 1, 1) := dk_43 (dk_at dksL_law_25 3 rfl rfl)
theorem dL_law_659 : decode cL_law 659 = .ok (.aload_n 0, 1) := dk_42 (dk_at dksL_law_25 4 rfl rfl)
theorem dL_law_660 : decode cL_law 660 = .ok (.iload 5, 2) := dk_21 5 (dk_at dksL_law_25 5 rfl rfl)
theorem dL_law_662 : decode cL_law 662 = .ok (.iconst 1, 1) := dk_4 (dk_at dksL_law_25 7 rfl rfl)
theorem dL_law_663 : decode cL_law 663 = .ok (.iadd, 1) := dk_96 (dk_at dksL_law_25 8 rfl rfl)
theorem dL_law_664 : decode cL_law 664 = .ok (.iaload, 1) := dk_46 (dk_at dksL_law_25 9 rfl rfl)
theorem dL_law_665 : decode cL_law 665 = .ok (.aload_n 0, 1) := dk_42 (dk_at dksL_law_25 10 rfl rfl)
theorem dL_law_666 : decode cL_law 666 = .ok (.iload 5, 2) := dk_21 5 (dk_at dksL_law_25 11 rfl rfl)
theorem dL_law_668 : decode cL_law 668 = .ok (.iconst 2, 1) := dk_5 (dk_at dksL_law_25 13 rfl rfl)
theorem dL_law_669 : decode cL_law 669 = .ok (.iadd, 1) := dk_96 (dk_at dksL_law_25 14 rfl rfl)
theorem dL_law_670 : decode cL_law 670 = .ok (.iaload, 1) := dk_46 (dk_at dksL_law_25 15 rfl rfl)
theorem dL_law_671 : decode cL_law 671 = .ok (.aload_n 0, 1) := dk_42 (dk_at dksL_law_25 16 rfl rfl)
theorem dL_law_672 : decode cL_law 672 = .ok (.iload 5, 2) := dk_21 5 (dk_at dksL_law_25 17 rfl rfl)
theorem dL_law_674 : decode cL_law 674 = .ok (.iconst 3, 1) := dk_6 (dk_at dksL_law_25 19 rfl rfl)
theorem dL_law_675 : decode cL_law 675 = .ok (.iadd, 1) := dk_96 (dk_at dksL_law_25 20 rfl rfl)
theorem dL_law_676 : decode cL_law 676 = .ok (.iaload, 1) := dk_46 (dk_at dksL_law_25 21 rfl rfl)
theorem dL_law_677 : decode cL_law 677 = .ok (.aload_n 3, 1) := dk_45 (dk_at dksL_law_25 22 rfl rfl)
theorem dL_law_678 : decode cL_law 678 = .ok (.invokestatic 123, 3) := dk_184 0 123 (dk_at dksL_law_26 0 rfl rfl)
theorem dL_law_681 : decode cL_law 681 = .ok (.istore 6, 2) := dk_54 6 (dk_at dksL_law_26 3 rfl rfl)
theorem dL_law_683 : decode cL_law 683 = .ok (.aload_n 2, 1) := dk_44 (dk_at dksL_law_26 5 rfl rfl)
theorem dL_law_684 : decode cL_law 684 = .ok (.aload_n 0, 1) := dk_42 (dk_at dksL_law_26 6 rfl rfl)
theorem dL_law_685 : decode cL_law 685 = .ok (.iload 5, 2) := dk_21 5 (dk_at dksL_law_26 7 rfl rfl)
theorem dL_law_687 : decode cL_law 687 = .ok (.iconst 1, 1) := dk_4 (dk_at dksL_law_26 9 rfl rfl)
theorem dL_law_688 : decode cL_law 688 = .ok (.iadd, 1) := dk_96 (dk_at dksL_law_26 10 rfl rfl)
theorem dL_law_689 : decode cL_law 689 = .ok (.iaload, 1) := dk_46 (dk_at dksL_law_26 11 rfl rfl)
theorem dL_law_690 : decode cL_law 690 = .ok (.aload_n 0, 1) := dk_42 (dk_at dksL_law_26 12 rfl rfl)
theorem dL_law_691 : decode cL_law 691 = .ok (.iload 5, 2) := dk_21 5 (dk_at dksL_law_26 13 rfl rfl)
theorem dL_law_693 : decode cL_law 693 = .ok (.iconst 2, 1) := dk_5 (dk_at dksL_law_26 15 rfl rfl)
theorem dL_law_694 : decode cL_law 694 = .ok (.iadd, 1) := dk_96 (dk_at dksL_law_26 16 rfl rfl)
theorem dL_law_695 : decode cL_law 695 = .ok (.iaload, 1) := dk_46 (dk_at dksL_law_26 17 rfl rfl)
theorem dL_law_696 : decode cL_law 696 = .ok (.aload_n 0, 1) := dk_42 (dk_at dksL_law_26 18 rfl rfl)
theorem dL_law_697 : decode cL_law 697 = .ok (.iload 5, 2) := dk_21 5 (dk_at dksL_law_26 19 rfl rfl)
theorem dL_law_699 : decode cL_law 699 = .ok (.iconst 3, 1) := dk_6 (dk_at dksL_law_26 21 rfl rfl)
theorem dL_law_700 : decode cL_law 700 = .ok (.iadd, 1) := dk_96 (dk_at dksL_law_26 22 rfl rfl)
theorem dL_law_701 : decode cL_law 701 = .ok (.iaload, 1) := dk_46 (dk_at dksL_law_26 23 rfl rfl)
theorem dL_law_702 : decode cL_law 702 = .ok (.invokevirtual 125, 3) := dk_182 0 125 (dk_at dksL_law_27 0 rfl rfl)
theorem dL_law_705 : decode cL_law 705 = .ok (.istore 7, 2) := dk_54 7 (dk_at dksL_law_27 3 rfl rfl)
theorem dL_law_707 : decode cL_law 707 = .ok (.aload_n 2, 1) := dk_44 (dk_at dksL_law_27 5 rfl rfl)
theorem dL_law_708 : decode cL_law 708 = .ok (.invokevirtual 98, 3) := dk_182 0 98 (dk_at dksL_law_27 6 rfl rfl)
theorem dL_law_711 : decode cL_law 711 = .ok (.iload 6, 2) := dk_21 6 (dk_at dksL_law_27 9 rfl rfl)
theorem dL_law_713 : decode cL_law 713 = .ok (.if_icmp .eq 5, 3) := dk_159 0 5 (dk_at dksL_law_27 11 rfl rfl)
theorem dL_law_716 : decode cL_law 716 = .ok (.iconst 0, 1) := dk_3 (dk_at dksL_law_27 14 rfl rfl)
theorem dL_law_717 : decode cL_law 717 = .ok (.ireturn, 1) := dk_172 (dk_at dksL_law_27 15 rfl rfl)
theorem dL_law_718 : decode cL_law 718 = .ok (.iload 6, 2) := dk_21 6 (dk_at dksL_law_27 16 rfl rfl)
theorem dL_law_720 : decode cL_law 720 = .ok (.ifCond .ne 15, 3) := dk_154 0 15 (dk_at dksL_law_27 18 rfl rfl)
theorem dL_law_723 : decode cL_law 723 = .ok (.aload_n 3, 1) := dk_45 (dk_at dksL_law_27 21 rfl rfl)
theorem dL_law_724 : decode cL_law 724 = .ok (.iconst 0, 1) := dk_3 (dk_at dksL_law_27 22 rfl rfl)
theorem dL_law_725 : decode cL_law 725 = .ok (.laload, 1) := dk_47 (dk_at dksL_law_27 23 rfl rfl)
theorem dL_law_726 : decode cL_law 726 = .ok (.iload 7, 2) := dk_21 7 (dk_at dksL_law_28 0 rfl rfl)
theorem dL_law_728 : decode cL_law 728 = .ok (.i2l, 1) := dk_133 (dk_at dksL_law_28 2 rfl rfl)
theorem dL_law_729 : decode cL_law 729 = .ok (.lcmp, 1) := dk_148 (dk_at dksL_law_28 3 rfl rfl)
theorem dL_law_730 : decode cL_law 730 = .ok (.ifCond .eq 5, 3) := dk_153 0 5 (dk_at dksL_law_28 4 rfl rfl)
theorem dL_law_733 : decode cL_law 733 = .ok (.iconst 0, 1) := dk_3 (dk_at dksL_law_28 7 rfl rfl)
theorem dL_law_734 : decode cL_law 734 = .ok (.ireturn, 1) := dk_172 (dk_at dksL_law_28 8 rfl rfl)
theorem dL_law_735 : decode cL_law 735 = .ok (.goto 819, 3) := dk_167 3 51 (dk_at dksL_law_28 9 rfl rfl)
theorem dL_law_738 : decode cL_law 738 = .ok (.aload_n 1, 1) := dk_43 (dk_at dksL_law_28 12 rfl rfl)
theorem dL_law_739 : decode cL_law 739 = .ok (.aload_n 0, 1) := dk_42 (dk_at dksL_law_28 13 rfl rfl)
theorem dL_law_740 : decode cL_law 740 = .ok (.iload 5, 2) := dk_21 5 (dk_at dksL_law_28 14 rfl rfl)
theorem dL_law_742 : decode cL_law 742 = .ok (.iconst 1, 1) := dk_4 (dk_at dksL_law_28 16 rfl rfl)
theorem dL_law_743 : decode cL_law 743 = .ok (.iadd, 1) := dk_96 (dk_at dksL_law_28 17 rfl rfl)
theorem dL_law_744 : decode cL_law 744 = .ok (.iaload, 1) := dk_46 (dk_at dksL_law_28 18 rfl rfl)
theorem dL_law_745 : decode cL_law 745 = .ok (.aload_n 0, 1) := dk_42 (dk_at dksL_law_28 19 rfl rfl)
theorem dL_law_746 : decode cL_law 746 = .ok (.iload 5, 2) := dk_21 5 (dk_at dksL_law_28 20 rfl rfl)
theorem dL_law_748 : decode cL_law 748 = .ok (.iconst 2, 1) := dk_5 (dk_at dksL_law_28 22 rfl rfl)
theorem dL_law_749 : decode cL_law 749 = .ok (.iadd, 1) := dk_96 (dk_at dksL_law_28 23 rfl rfl)
theorem dL_law_750 : decode cL_law 750 = .ok (.iaload, 1) := dk_46 (dk_at dksL_law_29 0 rfl rfl)
theorem dL_law_751 : decode cL_law 751 = .ok (.aload_n 3, 1) := dk_45 (dk_at dksL_law_29 1 rfl rfl)
theorem dL_law_752 : decode cL_law 752 = .ok (.invokestatic 126, 3) := dk_184 0 126 (dk_at dksL_law_29 2 rfl rfl)
theorem dL_law_755 : decode cL_law 755 = .ok (.istore 6, 2) := dk_54 6 (dk_at dksL_law_29 5 rfl rfl)
theorem dL_law_757 : decode cL_law 757 = .ok (.aload_n 2, 1) := dk_44 (dk_at dksL_law_29 7 rfl rfl)
theorem dL_law_758 : decode cL_law 758 = .ok (.aload_n 0, 1) := dk_42 (dk_at dksL_law_29 8 rfl rfl)
theorem dL_law_759 : decode cL_law 759 = .ok (.iload 5, 2) := dk_21 5 (dk_at dksL_law_29 9 rfl rfl)
theorem dL_law_761 : decode cL_law 761 = .ok (.iconst 1, 1) := dk_4 (dk_at dksL_law_29 11 rfl rfl)
theorem dL_law_762 : decode cL_law 762 = .ok (.iadd, 1) := dk_96 (dk_at dksL_law_29 12 rfl rfl)
theorem dL_law_763 : decode cL_law 763 = .ok (.iaload, 1) := dk_46 (dk_at dksL_law_29 13 rfl rfl)
theorem dL_law_764 : decode cL_law 764 = .ok (.aload_n 0, 1) := dk_42 (dk_at dksL_law_29 14 rfl rfl)
theorem dL_law_765 : decode cL_law 765 = .ok (.iload 5, 2) := dk_21 5 (dk_at dksL_law_29 15 rfl rfl)
theorem dL_law_767 : decode cL_law 767 = .ok (.iconst 2, 1) := dk_5 (dk_at dksL_law_29 17 rfl rfl)
theorem dL_law_768 : decode cL_law 768 = .ok (.iadd, 1) := dk_96 (dk_at dksL_law_29 18 rfl rfl)
theorem dL_law_769 : decode cL_law 769 = .ok (.iaload, 1) := dk_46 (dk_at dksL_law_29 19 rfl rfl)
theorem dL_law_770 : decode cL_law 770 = .ok (.invokevirtual 128, 3) := dk_182 0 128 (dk_at dksL_law_29 20 rfl rfl)
theorem dL_law_773 : decode cL_law 773 = .ok (.lstore 7, 2) := dk_55 7 (dk_at dksL_law_30 0 rfl rfl)
theorem dL_law_775 : decode cL_law 775 = .ok (.aload_n 2, 1) := dk_44 (dk_at dksL_law_30 2 rfl rfl)
theorem dL_law_776 : decode cL_law 776 = .ok (.invokevirtual 98, 3) := dk_182 0 98 (dk_at dksL_law_30 3 rfl rfl)
theorem dL_law_779 : decode cL_law 779 = .ok (.iload 6, 2) := dk_21 6 (dk_at dksL_law_30 6 rfl rfl)
theorem dL_law_781 : decode cL_law 781 = .ok (.if_icmp .eq 5, 3) := dk_159 0 5 (dk_at dksL_law_30 8 rfl rfl)
theorem dL_law_784 : decode cL_law 784 = .ok (.iconst 0, 1) := dk_3 (dk_at dksL_law_30 11 rfl rfl)
theorem dL_law_785 : decode cL_law 785 = .ok (.ireturn, 1) := dk_172 (dk_at dksL_law_30 12 rfl rfl)
theorem dL_law_786 : decode cL_law 786 = .ok (.iload 6, 2) := dk_21 6 (dk_at dksL_law_30 13 rfl rfl)
theorem dL_law_788 : decode cL_law 788 = .ok (.ifCond .ne 14, 3) := dk_154 0 14 (dk_at dksL_law_30 15 rfl rfl)
theorem dL_law_791 : decode cL_law 791 = .ok (.aload_n 3, 1) := dk_45 (dk_at dksL_law_30 18 rfl rfl)
theorem dL_law_792 : decode cL_law 792 = .ok (.iconst 0, 1) := dk_3 (dk_at dksL_law_30 19 rfl rfl)
theorem dL_law_793 : decode cL_law 793 = .ok (.laload, 1) := dk_47 (dk_at dksL_law_30 20 rfl rfl)
theorem dL_law_794 : decode cL_law 794 = .ok (.lload 7, 2) := dk_22 7 (dk_at dksL_law_30 21 rfl rfl)
theorem dL_law_796 : decode cL_law 796 = .ok (.lcmp, 1) := dk_148 (dk_at dksL_law_30 23 rfl rfl)
theorem dL_law_797 : decode cL_law 797 = .ok (.ifCond .eq 5, 3) := dk_153 0 5 (dk_at dksL_law_31 0 rfl rfl)
theorem dL_law_800 : decode cL_law 800 = .ok (.iconst 0, 1) := dk_3 (dk_at dksL_law_31 3 rfl rfl)
theorem dL_law_801 : decode cL_law 801 = .ok (.ireturn, 1) := dk_172 (dk_at dksL_law_31 4 rfl rfl)
theorem dL_law_802 : decode cL_law 802 = .ok (.goto 752, 3) := dk_167 2 240 (dk_at dksL_law_31 5 rfl rfl)
theorem dL_law_805 : decode cL_law 805 = .ok (.aload_n 1, 1) := dk_43 (dk_at dksL_law_31 8 rfl rfl)
theorem dL_law_806 : decode cL_law 806 = .ok (.aload_n 0, 1) := dk_42 (dk_at dksL_law_31 9 rfl rfl)
theorem dL_law_807 : decode cL_law 807 = .ok (.iload 5, 2) := dk_21 5 (dk_at dksL_law_31 10 rfl rfl)
theorem dL_law_809 : decode cL_law 809 = .ok (.iconst 1, 1) := dk_4 (dk_at dksL_law_31 12 rfl rfl)
theorem dL_law_810 : decode cL_law 810 = .ok (.iadd, 1) := dk_96 (dk_at dksL_law_31 13 rfl rfl)
theorem dL_law_811 : decode cL_law 811 = .ok (.iaload, 1) := dk_46 (dk_at dksL_law_31 14 rfl rfl)
theorem dL_law_812 : decode cL_law 812 = .ok (.aload_n 0, 1) := dk_42 (dk_at dksL_law_31 15 rfl rfl)
theorem dL_law_813 : decode cL_law 813 = .ok (.iload 5, 2) := dk_21 5 (dk_at dksL_law_31 16 rfl rfl)
theorem dL_law_815 : decode cL_law 815 = .ok (.iconst 2, 1) := dk_5 (dk_at dksL_law_31 18 rfl rfl)
theorem dL_law_816 : decode cL_law 816 = .ok (.iadd, 1) := dk_96 (dk_at dksL_law_31 19 rfl rfl)
theorem dL_law_817 : decode cL_law 817 = .ok (.iaload, 1) := dk_46 (dk_at dksL_law_31 20 rfl rfl)
theorem dL_law_818 : decode cL_law 818 = .ok (.aload_n 0, 1) := dk_42 (dk_at dksL_law_31 21 rfl rfl)
theorem dL_law_819 : decode cL_law 819 = .ok (.iload 5, 2) := dk_21 5 (dk_at dksL_law_31 22 rfl rfl)
theorem dL_law_821 : decode cL_law 821 = .ok (.iconst 3, 1) := dk_6 (dk_at dksL_law_32 0 rfl rfl)
theorem dL_law_822 : decode cL_law 822 = .ok (.iadd, 1) := dk_96 (dk_at dksL_law_32 1 rfl rfl)
theorem dL_law_823 : decode cL_law 823 = .ok (.iaload, 1) := dk_46 (dk_at dksL_law_32 2 rfl rfl)
theorem dL_law_824 : decode cL_law 824 = .ok (.aload_n 0, 1) := dk_42 (dk_at dksL_law_32 3 rfl rfl)
theorem dL_law_825 : decode cL_law 825 = .ok (.iload 5, 2) := dk_21 5 (dk_at dksL_law_32 4 rfl rfl)
theorem dL_law_827 : decode cL_law 827 = .ok (.iconst 4, 1) := dk_7 (dk_at dksL_law_32 6 rfl rfl)
theorem dL_law_828 : decode cL_law 828 = .ok (.iadd, 1) := dk_96 (dk_at dksL_law_32 7 rfl rfl)
theorem dL_law_829 : decode cL_law 829 = .ok (.iaload, 1) := dk_46 (dk_at dksL_law_32 8 rfl rfl)
theorem dL_law_830 : decode cL_law 830 = .ok (.aload_n 3, 1) := dk_45 (dk_at dksL_law_32 9 rfl rfl)
theorem dL_law_831 : decode cL_law 831 = .ok (.invokestatic 129, 3) := dk_184 0 129 (dk_at dksL_law_32 10 rfl rfl)
theorem dL_law_834 : decode cL_law 834 = .ok (.istore 6, 2) := dk_54 6 (dk_at dksL_law_32 13 rfl rfl)
theorem dL_law_836 : decode cL_law 836 = .ok (.aload_n 2, 1) := dk_44 (dk_at dksL_law_32 15 rfl rfl)
theorem dL_law_837 : decode cL_law 837 = .ok (.aload_n 0, 1) := dk_42 (dk_at dksL_law_32 16 rfl rfl)
theorem dL_law_838 : decode cL_law 838 = .ok (.iload 5, 2) := dk_21 5 (dk_at dksL_law_32 17 rfl rfl)
theorem dL_law_840 : decode cL_law 840 = .ok (.iconst 1, 1) := dk_4 (dk_at dksL_law_32 19 rfl rfl)
theorem dL_law_841 : decode cL_law 841 = .ok (.iadd, 1) := dk_96 (dk_at dksL_law_32 20 rfl rfl)
theorem dL_law_842 : decode cL_law 842 = .ok (.iaload, 1) := dk_46 (dk_at dksL_law_32 21 rfl rfl)
theorem dL_law_843 : decode cL_law 843 = .ok (.aload_n 0, 1) := dk_42 (dk_at dksL_law_32 22 rfl rfl)
theorem dL_law_844 : decode cL_law 844 = .ok (.iload 5, 2) := dk_21 5 (dk_at dksL_law_33 0 rfl rfl)
theorem dL_law_846 : decode cL_law 846 = .ok (.iconst 2, 1) := dk_5 (dk_at dksL_law_33 2 rfl rfl)
theorem dL_law_847 : decode cL_law 847 = .ok (.iadd, 1) := dk_96 (dk_at dksL_law_33 3 rfl rfl)
theorem dL_law_848 : decode cL_law 848 = .ok (.iaload, 1) := dk_46 (dk_at dksL_law_33 4 rfl rfl)
theorem dL_law_849 : decode cL_law 849 = .ok (.aload_n 0, 1) := dk_42 (dk_at dksL_law_33 5 rfl rfl)
theorem dL_law_850 : decode cL_law 850 = .ok (.iload 5, 2) := dk_21 5 (dk_at dksL_law_33 6 rfl rfl)
theorem dL_law_852 : decode cL_law 852 = .ok (.iconst 3, 1) := dk_6 (dk_at dksL_law_33 8 rfl rfl)
theorem dL_law_853 : decode cL_law 853 = .ok (.iadd, 1) := dk_96 (dk_at dksL_law_33 9 rfl rfl)
theorem dL_law_854 : decode cL_law 854 = .ok (.iaload, 1) := dk_46 (dk_at dksL_law_33 10 rfl rfl)
theorem dL_law_855 : decode cL_law 855 = .ok (.aload_n 0, 1) := dk_42 (dk_at dksL_law_33 11 rfl rfl)
theorem dL_law_856 : decode cL_law 856 = .ok (.iload 5, 2) := dk_21 5 (dk_at dksL_law_33 12 rfl rfl)
theorem dL_law_858 : decode cL_law 858 = .ok (.iconst 4, 1) := dk_7 (dk_at dksL_law_33 14 rfl rfl)
theorem dL_law_859 : decode cL_law 859 = .ok (.iadd, 1) := dk_96 (dk_at dksL_law_33 15 rfl rfl)
theorem dL_law_860 : decode cL_law 860 = .ok (.iaload, 1) := dk_46 (dk_at dksL_law_33 16 rfl rfl)
theorem dL_law_861 : decode cL_law 861 = .ok (.invokevirtual 131, 3) := dk_182 0 131 (dk_at dksL_law_33 17 rfl rfl)
theorem dL_law_864 : decode cL_law 864 = .ok (.istore 7, 2) := dk_54 7 (dk_at dksL_law_33 20 rfl rfl)
theorem dL_law_866 : decode cL_law 866 = .ok (.aload_n 2, 1) := dk_44 (dk_at dksL_law_33 22 rfl rfl)
theorem dL_law_867 : decode cL_law 867 = .ok (.invokevirtual 98, 3) := dk_182 0 98 (dk_at dksL_law_34 0 rfl rfl)
theorem dL_law_870 : decode cL_law 870 = .ok (.iload 6, 2) := dk_21 6 (dk_at dksL_law_34 3 rfl rfl)
theorem dL_law_872 : decode cL_law 872 = .ok (.if_icmp .eq 5, 3) := dk_159 0 5 (dk_at dksL_law_34 5 rfl rfl)
theorem dL_law_875 : decode cL_law 875 = .ok (.iconst 0, 1) := dk_3 (dk_at dksL_law_34 8 rfl rfl)
theorem dL_law_876 : decode cL_law 876 = .ok (.ireturn, 1) := dk_172 (dk_at dksL_law_34 9 rfl rfl)
theorem dL_law_877 : decode cL_law 877 = .ok (.iload 6, 2) := dk_21 6 (dk_at dksL_law_34 10 rfl rfl)
theorem dL_law_879 : decode cL_law 879 = .ok (.ifCond .ne 15, 3) := dk_154 0 15 (dk_at dksL_law_34 12 rfl rfl)
theorem dL_law_882 : decode cL_law 882 = .ok (.aload_n 3, 1) := dk_45 (dk_at dksL_law_34 15 rfl rfl)
theorem dL_law_883 : decode cL_law 883 = .ok (.iconst 0, 1) := dk_3 (dk_at dksL_law_34 16 rfl rfl)
theorem dL_law_884 : decode cL_law 884 = .ok (.laload, 1) := dk_47 (dk_at dksL_law_34 17 rfl rfl)
theorem dL_law_885 : decode cL_law 885 = .ok (.iload 7, 2) := dk_21 7 (dk_at dksL_law_34 18 rfl rfl)
theorem dL_law_887 : decode cL_law 887 = .ok (.i2l, 1) := dk_133 (dk_at dksL_law_34 20 rfl rfl)
theorem dL_law_888 : decode cL_law 888 = .ok (.lcmp, 1) := dk_148 (dk_at dksL_law_34 21 rfl rfl)
theorem dL_law_889 : decode cL_law 889 = .ok (.ifCond .eq 5, 3) := dk_153 0 5 (dk_at dksL_law_35 0 rfl rfl)
theorem dL_law_892 : decode cL_law 892 = .ok (.iconst 0, 1) := dk_3 (dk_at dksL_law_35 3 rfl rfl)
theorem dL_law_893 : decode cL_law 893 = .ok (.ireturn, 1) := dk_172 (dk_at dksL_law_35 4 rfl rfl)
theorem dL_law_894 : decode cL_law 894 = .ok (.goto 660, 3) := dk_167 2 148 (dk_at dksL_law_35 5 rfl rfl)
theorem dL_law_897 : decode cL_law 897 = .ok (.aload_n 1, 1) := dk_43 (dk_at dksL_law_35 8 rfl rfl)
theorem dL_law_898 : decode cL_law 898 = .ok (.aload_n 0, 1) := dk_42 (dk_at dksL_law_35 9 rfl rfl)
theorem dL_law_899 : decode cL_law 899 = .ok (.iload 5, 2) := dk_21 5 (dk_at dksL_law_35 10 rfl rfl)
theorem dL_law_901 : decode cL_law 901 = .ok (.iconst 1, 1) := dk_4 (dk_at dksL_law_35 12 rfl rfl)
theorem dL_law_902 : decode cL_law 902 = .ok (.iadd, 1) := dk_96 (dk_at dksL_law_35 13 rfl rfl)
theorem dL_law_903 : decode cL_law 903 = .ok (.iaload, 1) := dk_46 (dk_at dksL_law_35 14 rfl rfl)
theorem dL_law_904 : decode cL_law 904 = .ok (.aload_n 0, 1) := dk_42 (dk_at dksL_law_35 15 rfl rfl)
theorem dL_law_905 : decode cL_law 905 = .ok (.iload 5, 2) := dk_21 5 (dk_at dksL_law_35 16 rfl rfl)
theorem dL_law_907 : decode cL_law 907 = .ok (.iconst 2, 1) := dk_5 (dk_at dksL_law_35 18 rfl rfl)
theorem dL_law_908 : decode cL_law 908 = .ok (.iadd, 1) := dk_96 (dk_at dksL_law_35 19 rfl rfl)
theorem dL_law_909 : decode cL_law 909 = .ok (.iaload, 1) := dk_46 (dk_at dksL_law_35 20 rfl rfl)
theorem dL_law_910 : decode cL_law 910 = .ok (.aload_n 0, 1) := dk_42 (dk_at dksL_law_35 21 rfl rfl)
theorem dL_law_911 : decode cL_law 911 = .ok (.iload 5, 2) := dk_21 5 (dk_at dksL_law_35 22 rfl rfl)
theorem dL_law_913 : decode cL_law 913 = .ok (.iconst 3, 1) := dk_6 (dk_at dksL_law_36 0 rfl rfl)
theorem dL_law_914 : decode cL_law 914 = .ok (.iadd, 1) := dk_96 (dk_at dksL_law_36 1 rfl rfl)
theorem dL_law_915 : decode cL_law 915 = .ok (.iaload, 1) := dk_46 (dk_at dksL_law_36 2 rfl rfl)
theorem dL_law_916 : decode cL_law 916 = .ok (.aload_n 0, 1) := dk_42 (dk_at dksL_law_36 3 rfl rfl)
theorem dL_law_917 : decode cL_law 917 = .ok (.iload 5, 2) := dk_21 5 (dk_at dksL_law_36 4 rfl rfl)
theorem dL_law_919 : decode cL_law 919 = .ok (.iconst 4, 1) := dk_7 (dk_at dksL_law_36 6 rfl rfl)
theorem dL_law_920 : decode cL_law 920 = .ok (.iadd, 1) := dk_96 (dk_at dksL_law_36 7 rfl rfl)
theorem dL_law_921 : decode cL_law 921 = .ok (.iaload, 1) := dk_46 (dk_at dksL_law_36 8 rfl rfl)
theorem dL_law_922 : decode cL_law 922 = .ok (.aload_n 3, 1) := dk_45 (dk_at dksL_law_36 9 rfl rfl)
theorem dL_law_923 : decode cL_law 923 = .ok (.invokestatic 132, 3) := dk_184 0 132 (dk_at dksL_law_36 10 rfl rfl)
theorem dL_law_926 : decode cL_law 926 = .ok (.istore 6, 2) := dk_54 6 (dk_at dksL_law_36 13 rfl rfl)
theorem dL_law_928 : decode cL_law 928 = .ok (.aload_n 2, 1) := dk_44 (dk_at dksL_law_36 15 rfl rfl)
theorem dL_law_929 : decode cL_law 929 = .ok (.aload_n 0, 1) := dk_42 (dk_at dksL_law_36 16 rfl rfl)
theorem dL_law_930 : decode cL_law 930 = .ok (.iload 5, 2) := dk_21 5 (dk_at dksL_law_36 17 rfl rfl)
theorem dL_law_932 : decode cL_law 932 = .ok (.iconst 1, 1) := dk_4 (dk_at dksL_law_36 19 rfl rfl)
theorem dL_law_933 : decode cL_law 933 = .ok (.iadd, 1) := dk_96 (dk_at dksL_law_36 20 rfl rfl)
theorem dL_law_934 : decode cL_law 934 = .ok (.iaload, 1) := dk_46 (dk_at dksL_law_36 21 rfl rfl)
theorem dL_law_935 : decode cL_law 935 = .ok (.aload_n 0, 1) := dk_42 (dk_at dksL_law_36 22 rfl rfl)
theorem dL_law_936 : decode cL_law 936 = .ok (.iload 5, 2) := dk_21 5 (dk_at dksL_law_37 0 rfl rfl)
theorem dL_law_938 : decode cL_law 938 = .ok (.iconst 2, 1) := dk_5 (dk_at dksL_law_37 2 rfl rfl)
theorem dL_law_939 : decode cL_law 939 = .ok (.iadd, 1) := dk_96 (dk_at dksL_law_37 3 rfl rfl)
theorem dL_law_940 : decode cL_law 940 = .ok (.iaload, 1) := dk_46 (dk_at dksL_law_37 4 rfl rfl)
theorem dL_law_941 : decode cL_law 941 = .ok (.aload_n 0, 1) := dk_42 (dk_at dksL_law_37 5 rfl rfl)
theorem dL_law_942 : decode cL_law 942 = .ok (.iload 5, 2) := dk_21 5 (dk_at dksL_law_37 6 rfl rfl)
theorem dL_law_944 : decode cL_law 944 = .ok (.iconst 3, 1) := dk_6 (dk_at dksL_law_37 8 rfl rfl)
theorem dL_law_945 : decode cL_law 945 = .ok (.iadd, 1) := dk_96 (dk_at dksL_law_37 9 rfl rfl)
theorem dL_law_946 : decode cL_law 946 = .ok (.iaload, 1) := dk_46 (dk_at dksL_law_37 10 rfl rfl)
theorem dL_law_947 : decode cL_law 947 = .ok (.aload_n 0, 1) := dk_42 (dk_at dksL_law_37 11 rfl rfl)
theorem dL_law_948 : decode cL_law 948 = .ok (.iload 5, 2) := dk_21 5 (dk_at dksL_law_37 12 rfl rfl)
theorem dL_law_950 : decode cL_law 950 = .ok (.iconst 4, 1) := dk_7 (dk_at dksL_law_37 14 rfl rfl)
theorem dL_law_951 : decode cL_law 951 = .ok (.iadd, 1) := dk_96 (dk_at dksL_law_37 15 rfl rfl)
theorem dL_law_952 : decode cL_law 952 = .ok (.iaload, 1) := dk_46 (dk_at dksL_law_37 16 rfl rfl)
theorem dL_law_953 : decode cL_law 953 = .ok (.invokevirtual 134, 3) := dk_182 0 134 (dk_at dksL_law_37 17 rfl rfl)
theorem dL_law_956 : decode cL_law 956 = .ok (.istore 7, 2) := dk_54 7 (dk_at dksL_law_37 20 rfl rfl)
theorem dL_law_958 : decode cL_law 958 = .ok (.aload_n 2, 1) := dk_44 (dk_at dksL_law_37 22 rfl rfl)
theorem dL_law_959 : decode cL_law 959 = .ok (.invokevirtual 98, 3) := dk_182 0 98 (dk_at dksL_law_38 0 rfl rfl)
theorem dL_law_962 : decode cL_law 962 = .ok (.iload 6, 2) := dk_21 6 (dk_at dksL_law_38 3 rfl rfl)
theorem dL_law_964 : decode cL_law 964 = .ok (.if_icmp .eq 5, 3) := dk_159 0 5 (dk_at dksL_law_38 5 rfl rfl)
theorem dL_law_967 : decode cL_law 967 = .ok (.iconst 0, 1) := dk_3 (dk_at dksL_law_38 8 rfl rfl)
theorem dL_law_968 : decode cL_law 968 = .ok (.ireturn, 1) := dk_172 (dk_at dksL_law_38 9 rfl rfl)
theorem dL_law_969 : decode cL_law 969 = .ok (.iload 6, 2) := dk_21 6 (dk_at dksL_law_38 10 rfl rfl)
theorem dL_law_971 : decode cL_law 971 = .ok (.ifCond .ne 15, 3) := dk_154 0 15 (dk_at dksL_law_38 12 rfl rfl)
theorem dL_law_974 : decode cL_law 974 = .ok (.aload_n 3, 1) := dk_45 (dk_at dksL_law_38 15 rfl rfl)
theorem dL_law_975 : decode cL_law 975 = .ok (.iconst 0, 1) := dk_3 (dk_at dksL_law_38 16 rfl rfl)
theorem dL_law_976 : decode cL_law 976 = .ok (.laload, 1) := dk_47 (dk_at dksL_law_38 17 rfl rfl)
theorem dL_law_977 : decode cL_law 977 = .ok (.iload 7, 2) := dk_21 7 (dk_at dksL_law_38 18 rfl rfl)
theorem dL_law_979 : decode cL_law 979 = .ok (.i2l, 1) := dk_133 (dk_at dksL_law_38 20 rfl rfl)
theorem dL_law_980 : decode cL_law 980 = .ok (.lcmp, 1) := dk_148 (dk_at dksL_law_38 21 rfl rfl)
theorem dL_law_981 : decode cL_law 981 = .ok (.ifCond .eq 5, 3) := dk_153 0 5 (dk_at dksL_law_39 0 rfl rfl)
theorem dL_law_984 : decode cL_law 984 = .ok (.iconst 0, 1) := dk_3 (dk_at dksL_law_39 3 rfl rfl)
theorem dL_law_985 : decode cL_law 985 = .ok (.ireturn, 1) := dk_172 (dk_at dksL_law_39 4 rfl rfl)
theorem dL_law_986 : decode cL_law 986 = .ok (.goto 568, 3) := dk_167 2 56 (dk_at dksL_law_39 5 rfl rfl)
theorem dL_law_989 : decode cL_law 989 = .ok (.aload_n 1, 1) := dk_43 (dk_at dksL_law_39 8 rfl rfl)
theorem dL_law_990 : decode cL_law 990 = .ok (.aload_n 0, 1) := dk_42 (dk_at dksL_law_39 9 rfl rfl)
theorem dL_law_991 : decode cL_law 991 = .ok (.iload 5, 2) := dk_21 5 (dk_at dksL_law_39 10 rfl rfl)
theorem dL_law_993 : decode cL_law 993 = .ok (.iconst 1, 1) := dk_4 (dk_at dksL_law_39 12 rfl rfl)
theorem dL_law_994 : decode cL_law 994 = .ok (.iadd, 1) := dk_96 (dk_at dksL_law_39 13 rfl rfl)
theorem dL_law_995 : decode cL_law 995 = .ok (.iaload, 1) := dk_46 (dk_at dksL_law_39 14 rfl rfl)
theorem dL_law_996 : decode cL_law 996 = .ok (.aload_n 0, 1) := dk_42 (dk_at dksL_law_39 15 rfl rfl)
theorem dL_law_997 : decode cL_law 997 = .ok (.iload 5, 2) := dk_21 5 (dk_at dksL_law_39 16 rfl rfl)
theorem dL_law_999 : decode cL_law 999 = .ok (.iconst 2, 1) := dk_5 (dk_at dksL_law_39 18 rfl rfl)
theorem dL_law_1000 : decode cL_law 1000 = .ok (.iadd, 1) := dk_96 (dk_at dksL_law_39 19 rfl rfl)
theorem dL_law_1001 : decode cL_law 1001 = .ok (.iaload, 1) := dk_46 (dk_at dksL_law_39 20 rfl rfl)
theorem dL_law_1002 : decode cL_law 1002 = .ok (.aload_n 0, 1) := dk_42 (dk_at dksL_law_39 21 rfl rfl)
theorem dL_law_1003 : decode cL_law 1003 = .ok (.iload 5, 2) := dk_21 5 (dk_at dksL_law_39 22 rfl rfl)
theorem dL_law_1005 : decode cL_law 1005 = .ok (.iconst 3, 1) := dk_6 (dk_at dksL_law_40 0 rfl rfl)
theorem dL_law_1006 : decode cL_law 1006 = .ok (.iadd, 1) := dk_96 (dk_at dksL_law_40 1 rfl rfl)
theorem dL_law_1007 : decode cL_law 1007 = .ok (.iaload, 1) := dk_46 (dk_at dksL_law_40 2 rfl rfl)
theorem dL_law_1008 : decode cL_law 1008 = .ok (.aload_n 3, 1) := dk_45 (dk_at dksL_law_40 3 rfl rfl)
theorem dL_law_1009 : decode cL_law 1009 = .ok (.invokestatic 135, 3) := dk_184 0 135 (dk_at dksL_law_40 4 rfl rfl)
theorem dL_law_1012 : decode cL_law 1012 = .ok (.istore 6, 2) := dk_54 6 (dk_at dksL_law_40 7 rfl rfl)
theorem dL_law_1014 : decode cL_law 1014 = .ok (.aload_n 2, 1) := dk_44 (dk_at dksL_law_40 9 rfl rfl)
theorem dL_law_1015 : decode cL_law 1015 = .ok (.aload_n 0, 1) := dk_42 (dk_at dksL_law_40 10 rfl rfl)
theorem dL_law_1016 : decode cL_law 1016 = .ok (.iload 5, 2) := dk_21 5 (dk_at dksL_law_40 11 rfl rfl)
theorem dL_law_1018 : decode cL_law 1018 = .ok (.iconst 1, 1) := dk_4 (dk_at dksL_law_40 13 rfl rfl)
theorem dL_law_1019 : decode cL_law 1019 = .ok (.iadd, 1) := dk_96 (dk_at dksL_law_40 14 rfl rfl)
theorem dL_law_1020 : decode cL_law 1020 = .ok (.iaload, 1) := dk_46 (dk_at dksL_law_40 15 rfl rfl)
theorem dL_law_1021 : decode cL_law 1021 = .ok (.aload_n 0, 1) := dk_42 (dk_at dksL_law_40 16 rfl rfl)
theorem dL_law_1022 : decode cL_law 1022 = .ok (.iload 5, 2) := dk_21 5 (dk_at dksL_law_40 17 rfl rfl)
theorem dL_law_1024 : decode cL_law 1024 = .ok (.iconst 2, 1) := dk_5 (dk_at dksL_law_40 19 rfl rfl)
theorem dL_law_1025 : decode cL_law 1025 = .ok (.iadd, 1) := dk_96 (dk_at dksL_law_40 20 rfl rfl)
theorem dL_law_1026 : decode cL_law 1026 = .ok (.iaload, 1) := dk_46 (dk_at dksL_law_40 21 rfl rfl)
theorem dL_law_1027 : decode cL_law 1027 = .ok (.aload_n 0, 1) := dk_42 (dk_at dksL_law_40 22 rfl rfl)
theorem dL_law_1028 : decode cL_law 1028 = .ok (.iload 5, 2) := dk_21 5 (dk_at dksL_law_41 0 rfl rfl)
theorem dL_law_1030 : decode cL_law 1030 = .ok (.iconst 3, 1) := dk_6 (dk_at dksL_law_41 2 rfl rfl)
theorem dL_law_1031 : decode cL_law 1031 = .ok (.iadd, 1) := dk_96 (dk_at dksL_law_41 3 rfl rfl)
theorem dL_law_1032 : decode cL_law 1032 = .ok (.iaload, 1) := dk_46 (dk_at dksL_law_41 4 rfl rfl)
theorem dL_law_1033 : decode cL_law 1033 = .ok (.invokevirtual 137, 3) := dk_182 0 137 (dk_at dksL_law_41 5 rfl rfl)
theorem dL_law_1036 : decode cL_law 1036 = .ok (.istore 7, 2) := dk_54 7 (dk_at dksL_law_41 8 rfl rfl)
theorem dL_law_1038 : decode cL_law 1038 = .ok (.aload_n 2, 1) := dk_44 (dk_at dksL_law_41 10 rfl rfl)
theorem dL_law_1039 : decode cL_law 1039 = .ok (.invokevirtual 98, 3) := dk_182 0 98 (dk_at dksL_law_41 11 rfl rfl)
theorem dL_law_1042 : decode cL_law 1042 = .ok (.iload 6, 2) := dk_21 6 (dk_at dksL_law_41 14 rfl rfl)
theorem dL_law_1044 : decode cL_law 1044 = .ok (.if_icmp .eq 5, 3) := dk_159 0 5 (dk_at dksL_law_41 16 rfl rfl)
theorem dL_law_1047 : decode cL_law 1047 = .ok (.iconst 0, 1) := dk_3 (dk_at dksL_law_41 19 rfl rfl)
theorem dL_law_1048 : decode cL_law 1048 = .ok (.ireturn, 1) := dk_172 (dk_at dksL_law_41 20 rfl rfl)
theorem dL_law_1049 : decode cL_law 1049 = .ok (.iload 6, 2) := dk_21 6 (dk_at dksL_law_41 21 rfl rfl)
theorem dL_law_1051 : decode cL_law 1051 = .ok (.ifCond .ne 15, 3) := dk_154 0 15 (dk_at dksL_law_42 0 rfl rfl)
theorem dL_law_1054 : decode cL_law 1054 = .ok (.aload_n 3, 1) := dk_45 (dk_at dksL_law_42 3 rfl rfl)
theorem dL_law_1055 : decode cL_law 1055 = .ok (.iconst 0, 1) := dk_3 (dk_at dksL_law_42 4 rfl rfl)
theorem dL_law_1056 : decode cL_law 1056 = .ok (.laload, 1) := dk_47 (dk_at dksL_law_42 5 rfl rfl)
theorem dL_law_1057 : decode cL_law 1057 = .ok (.iload 7, 2) := dk_21 7 (dk_at dksL_law_42 6 rfl rfl)
theorem dL_law_1059 : decode cL_law 1059 = .ok (.i2l, 1) := dk_133 (dk_at dksL_law_42 8 rfl rfl)
theorem dL_law_1060 : decode cL_law 1060 = .ok (.lcmp, 1) := dk_148 (dk_at dksL_law_42 9 rfl rfl)
theorem dL_law_1061 : decode cL_law 1061 = .ok (.ifCond .eq 5, 3) := dk_153 0 5 (dk_at dksL_law_42 10 rfl rfl)
theorem dL_law_1064 : decode cL_law 1064 = .ok (.iconst 0, 1) := dk_3 (dk_at dksL_law_42 13 rfl rfl)
theorem dL_law_1065 : decode cL_law 1065 = .ok (.ireturn, 1) := dk_172 (dk_at dksL_law_42 14 rfl rfl)
theorem dL_law_1066 : decode cL_law 1066 = .ok (.goto 488, 3) := dk_167 1 232 (dk_at dksL_law_42 15 rfl rfl)
theorem dL_law_1069 : decode cL_law 1069 = .ok (.aload_n 1, 1) := dk_43 (dk_at dksL_law_42 18 rfl rfl)
theorem dL_law_1070 : decode cL_law 1070 = .ok (.aload_n 0, 1) := dk_42 (dk_at dksL_law_42 19 rfl rfl)
theorem dL_law_1071 : decode cL_law 1071 = .ok (.iload 5, 2) := dk_21 5 (dk_at dksL_law_42 20 rfl rfl)
theorem dL_law_1073 : decode cL_law 1073 = .ok (.iconst 1, 1) := dk_4 (dk_at dksL_law_42 22 rfl rfl)
theorem dL_law_1074 : decode cL_law 1074 = .ok (.iadd, 1) := dk_96 (dk_at dksL_law_42 23 rfl rfl)
theorem dL_law_1075 : decode cL_law 1075 = .ok (.iaload, 1) := dk_46 (dk_at dksL_law_43 0 rfl rfl)
theorem dL_law_1076 : decode cL_law 1076 = .ok (.aload_n 0, 1) := dk_42 (dk_at dksL_law_43 1 rfl rfl)
theorem dL_law_1077 : decode cL_law 1077 = .ok (.iload 5, 2) := dk_21 5 (dk_at dksL_law_43 2 rfl rfl)
theorem dL_law_1079 : decode cL_law 1079 = .ok (.iconst 2, 1) := dk_5 (dk_at dksL_law_43 4 rfl rfl)
theorem dL_law_1080 : decode cL_law 1080 = .ok (.iadd, 1) := dk_96 (dk_at dksL_law_43 5 rfl rfl)
theorem dL_law_1081 : decode cL_law 1081 = .ok (.iaload, 1) := dk_46 (dk_at dksL_law_43 6 rfl rfl)
theorem dL_law_1082 : decode cL_law 1082 = .ok (.aload_n 3, 1) := dk_45 (dk_at dksL_law_43 7 rfl rfl)
theorem dL_law_1083 : decode cL_law 1083 = .ok (.invokestatic 138, 3) := dk_184 0 138 (dk_at dksL_law_43 8 rfl rfl)
theorem dL_law_1086 : decode cL_law 1086 = .ok (.istore 6, 2) := dk_54 6 (dk_at dksL_law_43 11 rfl rfl)
theorem dL_law_1088 : decode cL_law 1088 = .ok (.aload_n 2, 1) := dk_44 (dk_at dksL_law_43 13 rfl rfl)
theorem dL_law_1089 : decode cL_law 1089 = .ok (.aload_n 0, 1) := dk_42 (dk_at dksL_law_43 14 rfl rfl)
theorem dL_law_1090 : decode cL_law 1090 = .ok (.iload 5, 2) := dk_21 5 (dk_at dksL_law_43 15 rfl rfl)
theorem dL_law_1092 : decode cL_law 1092 = .ok (.iconst 1, 1) := dk_4 (dk_at dksL_law_43 17 rfl rfl)
theorem dL_law_1093 : decode cL_law 1093 = .ok (.iadd, 1) := dk_96 (dk_at dksL_law_43 18 rfl rfl)
theorem dL_law_1094 : decode cL_law 1094 = .ok (.iaload, 1) := dk_46 (dk_at dksL_law_43 19 rfl rfl)
theorem dL_law_1095 : decode cL_law 1095 = .ok (.aload_n 0, 1) := dk_42 (dk_at dksL_law_43 20 rfl rfl)
theorem dL_law_1096 : decode cL_law 1096 = .ok (.iload 5, 2) := dk_21 5 (dk_at dksL_law_43 21 rfl rfl)
theorem dL_law_1098 : decode cL_law 1098 = .ok (.iconst 2, 1) := dk_5 (dk_at dksL_law_43 23 rfl rfl)
theorem dL_law_1099 : decode cL_law 1099 = .ok (.iadd, 1) := dk_96 (dk_at dksL_law_44 0 rfl rfl)
theorem dL_law_1100 : decode cL_law 1100 = .ok (.iaload, 1) := dk_46 (dk_at dksL_law_44 1 rfl rfl)
theorem dL_law_1101 : decode cL_law 1101 = .ok (.invokevirtual 140, 3) := dk_182 0 140 (dk_at dksL_law_44 2 rfl rfl)
theorem dL_law_1104 : decode cL_law 1104 = .ok (.istore 7, 2) := dk_54 7 (dk_at dksL_law_44 5 rfl rfl)
theorem dL_law_1106 : decode cL_law 1106 = .ok (.aload_n 2, 1) := dk_44 (dk_at dksL_law_44 7 rfl rfl)
theorem dL_law_1107 : decode cL_law 1107 = .ok (.invokevirtual 98, 3) := dk_182 0 98 (dk_at dksL_law_44 8 rfl rfl)
theorem dL_law_1110 : decode cL_law 1110 = .ok (.iload 6, 2) := dk_21 6 (dk_at dksL_law_44 11 rfl rfl)
theorem dL_law_1112 : decode cL_law 1112 = .ok (.if_icmp .eq 5, 3) := dk_159 0 5 (dk_at dksL_law_44 13 rfl rfl)
theorem dL_law_1115 : decode cL_law 1115 = .ok (.iconst 0, 1) := dk_3 (dk_at dksL_law_44 16 rfl rfl)
theorem dL_law_1116 : decode cL_law 1116 = .ok (.ireturn, 1) := dk_172 (dk_at dksL_law_44 17 rfl rfl)
theorem dL_law_1117 : decode cL_law 1117 = .ok (.iload 6, 2) := dk_21 6 (dk_at dksL_law_44 18 rfl rfl)
theorem dL_law_1119 : decode cL_law 1119 = .ok (.ifCond .ne 15, 3) := dk_154 0 15 (dk_at dksL_law_44 20 rfl rfl)
theorem dL_law_1122 : decode cL_law 1122 = .ok (.aload_n 3, 1) := dk_45 (dk_at dksL_law_44 23 rfl rfl)
theorem dL_law_1123 : decode cL_law 1123 = .ok (.iconst 0, 1) := dk_3 (dk_at dksL_law_45 0 rfl rfl)
theorem dL_law_1124 : decode cL_law 1124 = .ok (.laload, 1) := dk_47 (dk_at dksL_law_45 1 rfl rfl)
theorem dL_law_1125 : decode cL_law 1125 = .ok (.iload 7, 2) := dk_21 7 (dk_at dksL_law_45 2 rfl rfl)
theorem dL_law_1127 : decode cL_law 1127 = .ok (.i2l, 1) := dk_133 (dk_at dksL_law_45 4 rfl rfl)
theorem dL_law_1128 : decode cL_law 1128 = .ok (.lcmp, 1) := dk_148 (dk_at dksL_law_45 5 rfl rfl)
theorem dL_law_1129 : decode cL_law 1129 = .ok (.ifCond .eq 5, 3) := dk_153 0 5 (dk_at dksL_law_45 6 rfl rfl)
theorem dL_law_1132 : decode cL_law 1132 = .ok (.iconst 0, 1) := dk_3 (dk_at dksL_law_45 9 rfl rfl)
theorem dL_law_1133 : decode cL_law 1133 = .ok (.ireturn, 1) := dk_172 (dk_at dksL_law_45 10 rfl rfl)
theorem dL_law_1134 : decode cL_law 1134 = .ok (.goto 420, 3) := dk_167 1 164 (dk_at dksL_law_45 11 rfl rfl)
theorem dL_law_1137 : decode cL_law 1137 = .ok (.aload_n 1, 1) := dk_43 (dk_at dksL_law_45 14 rfl rfl)
theorem dL_law_1138 : decode cL_law 1138 = .ok (.aload_n 3, 1) := dk_45 (dk_at dksL_law_45 15 rfl rfl)
theorem dL_law_1139 : decode cL_law 1139 = .ok (.invokestatic 141, 3) := dk_184 0 141 (dk_at dksL_law_45 16 rfl rfl)
theorem dL_law_1142 : decode cL_law 1142 = .ok (.istore 6, 2) := dk_54 6 (dk_at dksL_law_45 19 rfl rfl)
theorem dL_law_1144 : decode cL_law 1144 = .ok (.aload_n 2, 1) := dk_44 (dk_at dksL_law_45 21 rfl rfl)
theorem dL_law_1145 : decode cL_law 1145 = .ok (.invokevirtual 144, 3) := dk_182 0 144 (dk_at dksL_law_46 0 rfl rfl)
theorem dL_law_1148 : decode cL_law 1148 = .ok (.istore 7, 2) := dk_54 7 (dk_at dksL_law_46 3 rfl rfl)
theorem dL_law_1150 : decode cL_law 1150 = .ok (.aload_n 2, 1) := dk_44 (dk_at dksL_law_46 5 rfl rfl)
theorem dL_law_1151 : decode cL_law 1151 = .ok (.invokevirtual 98, 3) := dk_182 0 98 (dk_at dksL_law_46 6 rfl rfl)
theorem dL_law_1154 : decode cL_law 1154 = .ok (.iload 6, 2) := dk_21 6 (dk_at dksL_law_46 9 rfl rfl)
theorem dL_law_1156 : decode cL_law 1156 = .ok (.if_icmp .eq 5, 3) := dk_159 0 5 (dk_at dksL_law_46 11 rfl rfl)
theorem dL_law_1159 : decode cL_law 1159 = .ok (.iconst 0, 1) := dk_3 (dk_at dksL_law_46 14 rfl rfl)
theorem dL_law_1160 : decode cL_law 1160 = .ok (.ireturn, 1) := dk_172 (dk_at dksL_law_46 15 rfl rfl)
theorem dL_law_1161 : decode cL_law 1161 = .ok (.iload 6, 2) := dk_21 6 (dk_at dksL_law_46 16 rfl rfl)
theorem dL_law_1163 : decode cL_law 1163 = .ok (.ifCond .ne 15, 3) := dk_154 0 15 (dk_at dksL_law_46 18 rfl rfl)
theorem dL_law_1166 : decode cL_law 1166 = .ok (.aload_n 3, 1) := dk_45 (dk_at dksL_law_46 21 rfl rfl)
theorem dL_law_1167 : decode cL_law 1167 = .ok (.iconst 0, 1) := dk_3 (dk_at dksL_law_46 22 rfl rfl)
theorem dL_law_1168 : decode cL_law 1168 = .ok (.laload, 1) := dk_47 (dk_at dksL_law_46 23 rfl rfl)
theorem dL_law_1169 : decode cL_law 1169 = .ok (.iload 7, 2) := dk_21 7 (dk_at dksL_law_47 0 rfl rfl)
theorem dL_law_1171 : decode cL_law 1171 = .ok (.i2l, 1) := dk_133 (dk_at dksL_law_47 2 rfl rfl)
theorem dL_law_1172 : decode cL_law 1172 = .ok (.lcmp, 1) := dk_148 (dk_at dksL_law_47 3 rfl rfl)
theorem dL_law_1173 : decode cL_law 1173 = .ok (.ifCond .eq 5, 3) := dk_153 0 5 (dk_at dksL_law_47 4 rfl rfl)
theorem dL_law_1176 : decode cL_law 1176 = .ok (.iconst 0, 1) := dk_3 (dk_at dksL_law_47 7 rfl rfl)
theorem dL_law_1177 : decode cL_law 1177 = .ok (.ireturn, 1) := dk_172 (dk_at dksL_law_47 8 rfl rfl)
theorem dL_law_1178 : decode cL_law 1178 = .ok (.goto 376, 3) := dk_167 1 120 (dk_at dksL_law_47 9 rfl rfl)
theorem dL_law_1181 : decode cL_law 1181 = .ok (.aload_n 1, 1) := dk_43 (dk_at dksL_law_47 12 rfl rfl)
theorem dL_law_1182 : decode cL_law 1182 = .ok (.invokevirtual 145, 3) := dk_182 0 145 (dk_at dksL_law_47 13 rfl rfl)
theorem dL_law_1185 : decode cL_law 1185 = .ok (.aload_n 2, 1) := dk_44 (dk_at dksL_law_47 16 rfl rfl)
theorem dL_law_1186 : decode cL_law 1186 = .ok (.invokevirtual 148, 3) := dk_182 0 148 (dk_at dksL_law_47 17 rfl rfl)
theorem dL_law_1189 : decode cL_law 1189 = .ok (.if_icmp .eq 365, 3) := dk_159 1 109 (dk_at dksL_law_47 20 rfl rfl)
theorem dL_law_1192 : decode cL_law 1192 = .ok (.iconst 0, 1) := dk_3 (dk_at dksL_law_47 23 rfl rfl)
theorem dL_law_1193 : decode cL_law 1193 = .ok (.ireturn, 1) := dk_172 (dk_at dksL_law_48 0 rfl rfl)
theorem dL_law_1194 : decode cL_law 1194 = .ok (.aload_n 1, 1) := dk_43 (dk_at dksL_law_48 1 rfl rfl)
theorem dL_law_1195 : decode cL_law 1195 = .ok (.aload_n 0, 1) := dk_42 (dk_at dksL_law_48 2 rfl rfl)
theorem dL_law_1196 : decode cL_law 1196 = .ok (.iload 5, 2) := dk_21 5 (dk_at dksL_law_48 3 rfl rfl)
theorem dL_law_1198 : decode cL_law 1198 = .ok (.iconst 1, 1) := dk_4 (dk_at dksL_law_48 5 rfl rfl)
theorem dL_law_1199 : decode cL_law 1199 = .ok (.iadd, 1) := dk_96 (dk_at dksL_law_48 6 rfl rfl)
theorem dL_law_1200 : decode cL_law 1200 = .ok (.iaload, 1) := dk_46 (dk_at dksL_law_48 7 rfl rfl)
theorem dL_law_1201 : decode cL_law 1201 = .ok (.aload_n 0, 1) := dk_42 (dk_at dksL_law_48 8 rfl rfl)
theorem dL_law_1202 : decode cL_law 1202 = .ok (.iload 5, 2) := dk_21 5 (dk_at dksL_law_48 9 rfl rfl)
theorem dL_law_1204 : decode cL_law 1204 = .ok (.iconst 2, 1) := dk_5 (dk_at dksL_law_48 11 rfl rfl)
theorem dL_law_1205 : decode cL_law 1205 = .ok (.iadd, 1) := dk_96 (dk_at dksL_law_48 12 rfl rfl)
theorem dL_law_1206 : decode cL_law 1206 = .ok (.iaload, 1) := dk_46 (dk_at dksL_law_48 13 rfl rfl)
theorem dL_law_1207 : decode cL_law 1207 = .ok (.aload_n 0, 1) := dk_42 (dk_at dksL_law_48 14 rfl rfl)
theorem dL_law_1208 : decode cL_law 1208 = .ok (.iload 5, 2) := dk_21 5 (dk_at dksL_law_48 15 rfl rfl)
theorem dL_law_1210 : decode cL_law 1210 = .ok (.iconst 3, 1) := dk_6 (dk_at dksL_law_48 17 rfl rfl)
theorem dL_law_1211 : decode cL_law 1211 = .ok (.iadd, 1) := dk_96 (dk_at dksL_law_48 18 rfl rfl)
theorem dL_law_1212 : decode cL_law 1212 = .ok (.iaload, 1) := dk_46 (dk_at dksL_law_48 19 rfl rfl)
theorem dL_law_1213 : decode cL_law 1213 = .ok (.aload_n 3, 1) := dk_45 (dk_at dksL_law_48 20 rfl rfl)
theorem dL_law_1214 : decode cL_law 1214 = .ok (.invokestatic 149, 3) := dk_184 0 149 (dk_at dksL_law_48 21 rfl rfl)
theorem dL_law_1217 : decode cL_law 1217 = .ok (.istore 6, 2) := dk_54 6 (dk_at dksL_law_49 0 rfl rfl)
theorem dL_law_1219 : decode cL_law 1219 = .ok (.aload_n 2, 1) := dk_44 (dk_at dksL_law_49 2 rfl rfl)
theorem dL_law_1220 : decode cL_law 1220 = .ok (.aload_n 0, 1) := dk_42 (dk_at dksL_law_49 3 rfl rfl)
theorem dL_law_1221 : decode cL_law 1221 = .ok (.iload 5, 2) := dk_21 5 (dk_at dksL_law_49 4 rfl rfl)
theorem dL_law_1223 : decode cL_law 1223 = .ok (.iconst 1, 1) := dk_4 (dk_at dksL_law_49 6 rfl rfl)
theorem dL_law_1224 : decode cL_law 1224 = .ok (.iadd, 1) := dk_96 (dk_at dksL_law_49 7 rfl rfl)
theorem dL_law_1225 : decode cL_law 1225 = .ok (.iaload, 1) := dk_46 (dk_at dksL_law_49 8 rfl rfl)
theorem dL_law_1226 : decode cL_law 1226 = .ok (.aload_n 0, 1) := dk_42 (dk_at dksL_law_49 9 rfl rfl)
theorem dL_law_1227 : decode cL_law 1227 = .ok (.iload 5, 2) := dk_21 5 (dk_at dksL_law_49 10 rfl rfl)
theorem dL_law_1229 : decode cL_law 1229 = .ok (.iconst 2, 1) := dk_5 (dk_at dksL_law_49 12 rfl rfl)
theorem dL_law_1230 : decode cL_law 1230 = .ok (.iadd, 1) := dk_96 (dk_at dksL_law_49 13 rfl rfl)
theorem dL_law_1231 : decode cL_law 1231 = .ok (.iaload, 1) := dk_46 (dk_at dksL_law_49 14 rfl rfl)
theorem dL_law_1232 : decode cL_law 1232 = .ok (.aload_n 0, 1) := dk_42 (dk_at dksL_law_49 15 rfl rfl)
theorem dL_law_1233 : decode cL_law 1233 = .ok (.iload 5, 2) := dk_21 5 (dk_at dksL_law_49 16 rfl rfl)
theorem dL_law_1235 : decode cL_law 1235 = .ok (.iconst 3, 1) := dk_6 (dk_at dksL_law_49 18 rfl rfl)
theorem dL_law_1236 : decode cL_law 1236 = .ok (.iadd, 1) := dk_96 (dk_at dksL_law_49 19 rfl rfl)
theorem dL_law_1237 : decode cL_law 1237 = .ok (.iaload, 1) := dk_46 (dk_at dksL_law_49 20 rfl rfl)
theorem dL_law_1238 : decode cL_law 1238 = .ok (.invokevirtual 151, 3) := dk_182 0 151 (dk_at dksL_law_49 21 rfl rfl)
theorem dL_law_1241 : decode cL_law 1241 = .ok (.istore 7, 2) := dk_54 7 (dk_at dksL_law_50 0 rfl rfl)
theorem dL_law_1243 : decode cL_law 1243 = .ok (.aload_n 2, 1) := dk_44 (dk_at dksL_law_50 2 rfl rfl)
theorem dL_law_1244 : decode cL_law 1244 = .ok (.invokevirtual 98, 3) := dk_182 0 98 (dk_at dksL_law_50 3 rfl rfl)
theorem dL_law_1247 : decode cL_law 1247 = .ok (.iload 6, 2) := dk_21 6 (dk_at dksL_law_50 6 rfl rfl)
theorem dL_law_1249 : decode cL_law 1249 = .ok (.if_icmp .eq 5, 3) := dk_159 0 5 (dk_at dksL_law_50 8 rfl rfl)
theorem dL_law_1252 : decode cL_law 1252 = .ok (.iconst 0, 1) := dk_3 (dk_at dksL_law_50 11 rfl rfl)
theorem dL_law_1253 : decode cL_law 1253 = .ok (.ireturn, 1) := dk_172 (dk_at dksL_law_50 12 rfl rfl)
theorem dL_law_1254 : decode cL_law 1254 = .ok (.iload 6, 2) := dk_21 6 (dk_at dksL_law_50 13 rfl rfl)
theorem dL_law_1256 : decode cL_law 1256 = .ok (.ifCond .ne 15, 3) := dk_154 0 15 (dk_at dksL_law_50 15 rfl rfl)
theorem dL_law_1259 : decode cL_law 1259 = .ok (.aload_n 3, 1) := dk_45 (dk_at dksL_law_50 18 rfl rfl)
theorem dL_law_1260 : decode cL_law 1260 = .ok (.iconst 0, 1) := dk_3 (dk_at dksL_law_50 19 rfl rfl)
theorem dL_law_1261 : decode cL_law 1261 = .ok (.laload, 1) := dk_47 (dk_at dksL_law_50 20 rfl rfl)
theorem dL_law_1262 : decode cL_law 1262 = .ok (.iload 7, 2) := dk_21 7 (dk_at dksL_law_50 21 rfl rfl)
theorem dL_law_1264 : decode cL_law 1264 = .ok (.i2l, 1) := dk_133 (dk_at dksL_law_50 23 rfl rfl)
theorem dL_law_1265 : decode cL_law 1265 = .ok (.lcmp, 1) := dk_148 (dk_at dksL_law_51 0 rfl rfl)
theorem dL_law_1266 : decode cL_law 1266 = .ok (.ifCond .eq 5, 3) := dk_153 0 5 (dk_at dksL_law_51 1 rfl rfl)
theorem dL_law_1269 : decode cL_law 1269 = .ok (.iconst 0, 1) := dk_3 (dk_at dksL_law_51 4 rfl rfl)
theorem dL_law_1270 : decode cL_law 1270 = .ok (.ireturn, 1) := dk_172 (dk_at dksL_law_51 5 rfl rfl)
theorem dL_law_1271 : decode cL_law 1271 = .ok (.goto 283, 3) := dk_167 1 27 (dk_at dksL_law_51 6 rfl rfl)
theorem dL_law_1274 : decode cL_law 1274 = .ok (.aload_n 1, 1) := dk_43 (dk_at dksL_law_51 9 rfl rfl)
theorem dL_law_1275 : decode cL_law 1275 = .ok (.aload_n 0, 1) := dk_42 (dk_at dksL_law_51 10 rfl rfl)
theorem dL_law_1276 : decode cL_law 1276 = .ok (.iload 5, 2) := dk_21 5 (dk_at dksL_law_51 11 rfl rfl)
theorem dL_law_1278 : decode cL_law 1278 = .ok (.iconst 1, 1) := dk_4 (dk_at dksL_law_51 13 rfl rfl)
theorem dL_law_1279 : decode cL_law 1279 = .ok (.iadd, 1) := dk_96 (dk_at dksL_law_51 14 rfl rfl)
theorem dL_law_1280 : decode cL_law 1280 = .ok (.iaload, 1) := dk_46 (dk_at dksL_law_51 15 rfl rfl)
theorem dL_law_1281 : decode cL_law 1281 = .ok (.aload_n 0, 1) := dk_42 (dk_at dksL_law_51 16 rfl rfl)
theorem dL_law_1282 : decode cL_law 1282 = .ok (.iload 5, 2) := dk_21 5 (dk_at dksL_law_51 17 rfl rfl)
theorem dL_law_1284 : decode cL_law 1284 = .ok (.iconst 2, 1) := dk_5 (dk_at dksL_law_51 19 rfl rfl)
theorem dL_law_1285 : decode cL_law 1285 = .ok (.iadd, 1) := dk_96 (dk_at dksL_law_51 20 rfl rfl)
theorem dL_law_1286 : decode cL_law 1286 = .ok (.iaload, 1) := dk_46 (dk_at dksL_law_51 21 rfl rfl)
theorem dL_law_1287 : decode cL_law 1287 = .ok (.aload_n 3, 1) := dk_45 (dk_at dksL_law_51 22 rfl rfl)
theorem dL_law_1288 : decode cL_law 1288 = .ok (.invokestatic 152, 3) := dk_184 0 152 (dk_at dksL_law_52 0 rfl rfl)
theorem dL_law_1291 : decode cL_law 1291 = .ok (.istore 6, 2) := dk_54 6 (dk_at dksL_law_52 3 rfl rfl)
theorem dL_law_1293 : decode cL_law 1293 = .ok (.aload_n 2, 1) := dk_44 (dk_at dksL_law_52 5 rfl rfl)
theorem dL_law_1294 : decode cL_law 1294 = .ok (.aload_n 0, 1) := dk_42 (dk_at dksL_law_52 6 rfl rfl)
theorem dL_law_1295 : decode cL_law 1295 = .ok (.iload 5, 2) := dk_21 5 (dk_at dksL_law_52 7 rfl rfl)
theorem dL_law_1297 : decode cL_law 1297 = .ok (.iconst 1, 1) := dk_4 (dk_at dksL_law_52 9 rfl rfl)
theorem dL_law_1298 : decode cL_law 1298 = .ok (.iadd, 1) := dk_96 (dk_at dksL_law_52 10 rfl rfl)
theorem dL_law_1299 : decode cL_law 1299 = .ok (.iaload, 1) := dk_46 (dk_at dksL_law_52 11 rfl rfl)
theorem dL_law_1300 : decode cL_law 1300 = .ok (.aload_n 0, 1) := dk_42 (dk_at dksL_law_52 12 rfl rfl)
theorem dL_law_1301 : decode cL_law 1301 = .ok (.iload 5, 2) := dk_21 5 (dk_at dksL_law_52 13 rfl rfl)
theorem dL_law_1303 : decode cL_law 1303 = .ok (.iconst 2, 1) := dk_5 (dk_at dksL_law_52 15 rfl rfl)
theorem dL_law_1304 : decode cL_law 1304 = .ok (.iadd, 1) := dk_96 (dk_at dksL_law_52 16 rfl rfl)
theorem dL_law_1305 : decode cL_law 1305 = .ok (.iaload, 1) := dk_46 (dk_at dksL_law_52 17 rfl rfl)
theorem dL_law_1306 : decode cL_law 1306 = .ok (.invokevirtual 154, 3) := dk_182 0 154 (dk_at dksL_law_52 18 rfl rfl)
theorem dL_law_1309 : decode cL_law 1309 = .ok (.istore 7, 2) := dk_54 7 (dk_at dksL_law_52 21 rfl rfl)
theorem dL_law_1311 : decode cL_law 1311 = .ok (.aload_n 2, 1) := dk_44 (dk_at dksL_law_52 23 rfl rfl)
theorem dL_law_1312 : decode cL_law 1312 = .ok (.invokevirtual 98, 3) := dk_182 0 98 (dk_at dksL_law_53 0 rfl rfl)
theorem dL_law_1315 : decode cL_law 1315 = .ok (.iload 6, 2) := dk_21 6 (dk_at dksL_law_53 3 rfl rfl)
theorem dL_law_1317 : decode cL_law 1317 = .ok (.if_icmp .eq 5, 3) := dk_159 0 5 (dk_at dksL_law_53 5 rfl rfl)
theorem dL_law_1320 : decode cL_law 1320 = .ok (.iconst 0, 1) := dk_3 (dk_at dksL_law_53 8 rfl rfl)
theorem dL_law_1321 : decode cL_law 1321 = .ok (.ireturn, 1) := dk_172 (dk_at dksL_law_53 9 rfl rfl)
theorem dL_law_1322 : decode cL_law 1322 = .ok (.iload 6, 2) := dk_21 6 (dk_at dksL_law_53 10 rfl rfl)
theorem dL_law_1324 : decode cL_law 1324 = .ok (.ifCond .ne 15, 3) := dk_154 0 15 (dk_at dksL_law_53 12 rfl rfl)
theorem dL_law_1327 : decode cL_law 1327 = .ok (.aload_n 3, 1) := dk_45 (dk_at dksL_law_53 15 rfl rfl)
theorem dL_law_1328 : decode cL_law 1328 = .ok (.iconst 0, 1) := dk_3 (dk_at dksL_law_53 16 rfl rfl)
theorem dL_law_1329 : decode cL_law 1329 = .ok (.laload, 1) := dk_47 (dk_at dksL_law_53 17 rfl rfl)
theorem dL_law_1330 : decode cL_law 1330 = .ok (.iload 7, 2) := dk_21 7 (dk_at dksL_law_53 18 rfl rfl)
theorem dL_law_1332 : decode cL_law 1332 = .ok (.i2l, 1) := dk_133 (dk_at dksL_law_53 20 rfl rfl)
theorem dL_law_1333 : decode cL_law 1333 = .ok (.lcmp, 1) := dk_148 (dk_at dksL_law_53 21 rfl rfl)
theorem dL_law_1334 : decode cL_law 1334 = .ok (.ifCond .eq 5, 3) := dk_153 0 5 (dk_at dksL_law_54 0 rfl rfl)
theorem dL_law_1337 : decode cL_law 1337 = .ok (.iconst 0, 1) := dk_3 (dk_at dksL_law_54 3 rfl rfl)
theorem dL_law_1338 : decode cL_law 1338 = .ok (.ireturn, 1) := dk_172 (dk_at dksL_law_54 4 rfl rfl)
theorem dL_law_1339 : decode cL_law 1339 = .ok (.goto 215, 3) := dk_167 0 215 (dk_at dksL_law_54 5 rfl rfl)
theorem dL_law_1342 : decode cL_law 1342 = .ok (.aload_n 1, 1) := dk_43 (dk_at dksL_law_54 8 rfl rfl)
theorem dL_law_1343 : decode cL_law 1343 = .ok (.aload_n 0, 1) := dk_42 (dk_at dksL_law_54 9 rfl rfl)
theorem dL_law_1344 : decode cL_law 1344 = .ok (.iload 5, 2) := dk_21 5 (dk_at dksL_law_54 10 rfl rfl)
theorem dL_law_1346 : decode cL_law 1346 = .ok (.iconst 1, 1) := dk_4 (dk_at dksL_law_54 12 rfl rfl)
theorem dL_law_1347 : decode cL_law 1347 = .ok (.iadd, 1) := dk_96 (dk_at dksL_law_54 13 rfl rfl)
theorem dL_law_1348 : decode cL_law 1348 = .ok (.iaload, 1) := dk_46 (dk_at dksL_law_54 14 rfl rfl)
theorem dL_law_1349 : decode cL_law 1349 = .ok (.aload_n 0, 1) := dk_42 (dk_at dksL_law_54 15 rfl rfl)
theorem dL_law_1350 : decode cL_law 1350 = .ok (.iload 5, 2) := dk_21 5 (dk_at dksL_law_54 16 rfl rfl)
theorem dL_law_1352 : decode cL_law 1352 = .ok (.iconst 2, 1) := dk_5 (dk_at dksL_law_54 18 rfl rfl)
theorem dL_law_1353 : decode cL_law 1353 = .ok (.iadd, 1) := dk_96 (dk_at dksL_law_54 19 rfl rfl)
theorem dL_law_1354 : decode cL_law 1354 = .ok (.iaload, 1) := dk_46 (dk_at dksL_law_54 20 rfl rfl)
theorem dL_law_1355 : decode cL_law 1355 = .ok (.aload_n 3, 1) := dk_45 (dk_at dksL_law_54 21 rfl rfl)
theorem dL_law_1356 : decode cL_law 1356 = .ok (.invokestatic 155, 3) := dk_184 0 155 (dk_at dksL_law_55 0 rfl rfl)
theorem dL_law_1359 : decode cL_law 1359 = .ok (.istore 6, 2) := dk_54 6 (dk_at dksL_law_55 3 rfl rfl)
theorem dL_law_1361 : decode cL_law 1361 = .ok (.aload_n 2, 1) := dk_44 (dk_at dksL_law_55 5 rfl rfl)
theorem dL_law_1362 : decode cL_law 1362 = .ok (.aload_n 0, 1) := dk_42 (dk_at dksL_law_55 6 rfl rfl)
theorem dL_law_1363 : decode cL_law 1363 = .ok (.iload 5, 2) := dk_21 5 (dk_at dksL_law_55 7 rfl rfl)
theorem dL_law_1365 : decode cL_law 1365 = .ok (.iconst 1, 1) := dk_4 (dk_at dksL_law_55 9 rfl rfl)
theorem dL_law_1366 : decode cL_law 1366 = .ok (.iadd, 1) := dk_96 (dk_at dksL_law_55 10 rfl rfl)
theorem dL_law_1367 : decode cL_law 1367 = .ok (.iaload, 1) := dk_46 (dk_at dksL_law_55 11 rfl rfl)
theorem dL_law_1368 : decode cL_law 1368 = .ok (.aload_n 0, 1) := dk_42 (dk_at dksL_law_55 12 rfl rfl)
theorem dL_law_1369 : decode cL_law 1369 = .ok (.iload 5, 2) := dk_21 5 (dk_at dksL_law_55 13 rfl rfl)
theorem dL_law_1371 : decode cL_law 1371 = .ok (.iconst 2, 1) := dk_5 (dk_at dksL_law_55 15 rfl rfl)
theorem dL_law_1372 : decode cL_law 1372 = .ok (.iadd, 1) := dk_96 (dk_at dksL_law_55 16 rfl rfl)
theorem dL_law_1373 : decode cL_law 1373 = .ok (.iaload, 1) := dk_46 (dk_at dksL_law_55 17 rfl rfl)
theorem dL_law_1374 : decode cL_law 1374 = .ok (.invokevirtual 157, 3) := dk_182 0 157 (dk_at dksL_law_55 18 rfl rfl)
theorem dL_law_1377 : decode cL_law 1377 = .ok (.istore 7, 2) := dk_54 7 (dk_at dksL_law_55 21 rfl rfl)
theorem dL_law_1379 : decode cL_law 1379 = .ok (.aload_n 2, 1) := dk_44 (dk_at dksL_law_55 23 rfl rfl)
theorem dL_law_1380 : decode cL_law 1380 = .ok (.invokevirtual 98, 3) := dk_182 0 98 (dk_at dksL_law_56 0 rfl rfl)
theorem dL_law_1383 : decode cL_law 1383 = .ok (.iload 6, 2) := dk_21 6 (dk_at dksL_law_56 3 rfl rfl)
theorem dL_law_1385 : decode cL_law 1385 = .ok (.if_icmp .eq 5, 3) := dk_159 0 5 (dk_at dksL_law_56 5 rfl rfl)
theorem dL_law_1388 : decode cL_law 1388 = .ok (.iconst 0, 1) := dk_3 (dk_at dksL_law_56 8 rfl rfl)
theorem dL_law_1389 : decode cL_law 1389 = .ok (.ireturn, 1) := dk_172 (dk_at dksL_law_56 9 rfl rfl)
theorem dL_law_1390 : decode cL_law 1390 = .ok (.iload 6, 2) := dk_21 6 (dk_at dksL_law_56 10 rfl rfl)
theorem dL_law_1392 : decode cL_law 1392 = .ok (.ifCond .ne 15, 3) := dk_154 0 15 (dk_at dksL_law_56 12 rfl rfl)
theorem dL_law_1395 : decode cL_law 1395 = .ok (.aload_n 3, 1) := dk_45 (dk_at dksL_law_56 15 rfl rfl)
theorem dL_law_1396 : decode cL_law 1396 = .ok (.iconst 0, 1) := dk_3 (dk_at dksL_law_56 16 rfl rfl)
theorem dL_law_1397 : decode cL_law 1397 = .ok (.laload, 1) := dk_47 (dk_at dksL_law_56 17 rfl rfl)
theorem dL_law_1398 : decode cL_law 1398 = .ok (.iload 7, 2) := dk_21 7 (dk_at dksL_law_56 18 rfl rfl)
theorem dL_law_1400 : decode cL_law 1400 = .ok (.i2l, 1) := dk_133 (dk_at dksL_law_56 20 rfl rfl)
theorem dL_law_1401 : decode cL_law 1401 = .ok (.lcmp, 1) := dk_148 (dk_at dksL_law_56 21 rfl rfl)
theorem dL_law_1402 : decode cL_law 1402 = .ok (.ifCond .eq 5, 3) := dk_153 0 5 (dk_at dksL_law_57 0 rfl rfl)
theorem dL_law_1405 : decode cL_law 1405 = .ok (.iconst 0, 1) := dk_3 (dk_at dksL_law_57 3 rfl rfl)
theorem dL_law_1406 : decode cL_law 1406 = .ok (.ireturn, 1) := dk_172 (dk_at dksL_law_57 4 rfl rfl)
theorem dL_law_1407 : decode cL_law 1407 = .ok (.goto 147, 3) := dk_167 0 147 (dk_at dksL_law_57 5 rfl rfl)
theorem dL_law_1410 : decode cL_law 1410 = .ok (.aload_n 1, 1) := dk_43 (dk_at dksL_law_57 8 rfl rfl)
theorem dL_law_1411 : decode cL_law 1411 = .ok (.invokevirtual 158, 3) := dk_182 0 158 (dk_at dksL_law_57 9 rfl rfl)
theorem dL_law_1414 : decode cL_law 1414 = .ok (.aload_n 2, 1) := dk_44 (dk_at dksL_law_57 12 rfl rfl)
theorem dL_law_1415 : decode cL_law 1415 = .ok (.invokevirtual 161, 3) := dk_182 0 161 (dk_at dksL_law_57 13 rfl rfl)
theorem dL_law_1418 : decode cL_law 1418 = .ok (.if_icmp .eq 136, 3) := dk_159 0 136 (dk_at dksL_law_57 16 rfl rfl)
theorem dL_law_1421 : decode cL_law 1421 = .ok (.iconst 0, 1) := dk_3 (dk_at dksL_law_57 19 rfl rfl)
theorem dL_law_1422 : decode cL_law 1422 = .ok (.ireturn, 1) := dk_172 (dk_at dksL_law_57 20 rfl rfl)
theorem dL_law_1423 : decode cL_law 1423 = .ok (.aload_n 1, 1) := dk_43 (dk_at dksL_law_57 21 rfl rfl)
theorem dL_law_1424 : decode cL_law 1424 = .ok (.aload 4, 2) := dk_25 4 (dk_at dksL_law_57 22 rfl rfl)
theorem dL_law_1426 : decode cL_law 1426 = .ok (.invokestatic 162, 3) := dk_184 0 162 (dk_at dksL_law_58 0 rfl rfl)
theorem dL_law_1429 : decode cL_law 1429 = .ok (.istore 6, 2) := dk_54 6 (dk_at dksL_law_58 3 rfl rfl)
theorem dL_law_1431 : decode cL_law 1431 = .ok (.aload_n 2, 1) := dk_44 (dk_at dksL_law_58 5 rfl rfl)
theorem dL_law_1432 : decode cL_law 1432 = .ok (.invokevirtual 165, 3) := dk_182 0 165 (dk_at dksL_law_58 6 rfl rfl)
theorem dL_law_1435 : decode cL_law 1435 = .ok (.fstore 7, 2) := dk_56 7 (dk_at dksL_law_58 9 rfl rfl)
theorem dL_law_1437 : decode cL_law 1437 = .ok (.aload_n 2, 1) := dk_44 (dk_at dksL_law_58 11 rfl rfl)
theorem dL_law_1438 : decode cL_law 1438 = .ok (.invokevirtual 98, 3) := dk_182 0 98 (dk_at dksL_law_58 12 rfl rfl)
theorem dL_law_1441 : decode cL_law 1441 = .ok (.iload 6, 2) := dk_21 6 (dk_at dksL_law_58 15 rfl rfl)
theorem dL_law_1443 : decode cL_law 1443 = .ok (.if_icmp .eq 5, 3) := dk_159 0 5 (dk_at dksL_law_58 17 rfl rfl)
theorem dL_law_1446 : decode cL_law 1446 = .ok (.iconst 0, 1) := dk_3 (dk_at dksL_law_58 20 rfl rfl)
theorem dL_law_1447 : decode cL_law 1447 = .ok (.ireturn, 1) := dk_172 (dk_at dksL_law_58 21 rfl rfl)
theorem dL_law_1448 : decode cL_law 1448 = .ok (.iload 6, 2) := dk_21 6 (dk_at dksL_law_58 22 rfl rfl)
theorem dL_law_1450 : decode cL_law 1450 = .ok (.ifCond .ne 36, 3) := dk_154 0 36 (dk_at dksL_law_59 0 rfl rfl)
theorem dL_law_1453 : decode cL_law 1453 = .ok (.aload 4, 2) := dk_25 4 (dk_at dksL_law_59 3 rfl rfl)
theorem dL_law_1455 : decode cL_law 1455 = .ok (.iconst 0, 1) := dk_3 (dk_at dksL_law_59 5 rfl rfl)
theorem dL_law_1456 : decode cL_law 1456 = .ok (.daload, 1) := dk_49 (dk_at dksL_law_59 6 rfl rfl)
theorem dL_law_1457 : decode cL_law 1457 = .ok (.fload 7, 2) := dk_23 7 (dk_at dksL_law_59 7 rfl rfl)
theorem dL_law_1459 : decode cL_law 1459 = .ok (.f2d, 1) := dk_141 (dk_at dksL_law_59 9 rfl rfl)
theorem dL_law_1460 : decode cL_law 1460 = .ok (.dcmp .l, 1) := dk_151 (dk_at dksL_law_59 10 rfl rfl)
theorem dL_law_1461 : decode cL_law 1461 = .ok (.ifCond .eq 25, 3) := dk_153 0 25 (dk_at dksL_law_59 11 rfl rfl)
theorem dL_law_1464 : decode cL_law 1464 = .ok (.aload 4, 2) := dk_25 4 (dk_at dksL_law_59 14 rfl rfl)
theorem dL_law_1466 : decode cL_law 1466 = .ok (.iconst 0, 1) := dk_3 (dk_at dksL_law_59 16 rfl rfl)
theorem dL_law_1467 : decode cL_law 1467 = .ok (.daload, 1) := dk_49 (dk_at dksL_law_59 17 rfl rfl)
theorem dL_law_1468 : decode cL_law 1468 = .ok (.aload 4, 2) := dk_25 4 (dk_at dksL_law_59 18 rfl rfl)
theorem dL_law_1470 : decode cL_law 1470 = .ok (.iconst 0, 1) := dk_3 (dk_at dksL_law_59 20 rfl rfl)
theorem dL_law_1471 : decode cL_law 1471 = .ok (.daload, 1) := dk_49 (dk_at dksL_law_59 21 rfl rfl)
theorem dL_law_1472 : decode cL_law 1472 = .ok (.dcmp .l, 1) := dk_151 (dk_at dksL_law_59 22 rfl rfl)
theorem dL_law_1473 : decode cL_law 1473 = .ok (.ifCond .eq 11, 3) := dk_153 0 11 (dk_at dksL_law_60 0 rfl rfl)
theorem dL_law_1476 : decode cL_law 1476 = .ok (.fload 7, 2) := dk_23 7 (dk_at dksL_law_60 3 rfl rfl)
theorem dL_law_1478 : decode cL_law 1478 = .ok (.fload 7, 2) := dk_23 7 (dk_at dksL_law_60 5 rfl rfl)
theorem dL_law_1480 : decode cL_law 1480 = .ok (.fcmp .l, 1) := dk_149 (dk_at dksL_law_60 7 rfl rfl)
theorem dL_law_1481 : decode cL_law 1481 = .ok (.ifCond .ne 5, 3) := dk_154 0 5 (dk_at dksL_law_60 8 rfl rfl)
theorem dL_law_1484 : decode cL_law 1484 = .ok (.iconst 0, 1) := dk_3 (dk_at dksL_law_60 11 rfl rfl)
theorem dL_law_1485 : decode cL_law 1485 = .ok (.ireturn, 1) := dk_172 (dk_at dksL_law_60 12 rfl rfl)
theorem dL_law_1486 : decode cL_law 1486 = .ok (.goto 68, 3) := dk_167 0 68 (dk_at dksL_law_60 13 rfl rfl)
theorem dL_law_1489 : decode cL_law 1489 = .ok (.aload_n 1, 1) := dk_43 (dk_at dksL_law_60 16 rfl rfl)
theorem dL_law_1490 : decode cL_law 1490 = .ok (.aload 4, 2) := dk_25 4 (dk_at dksL_law_60 17 rfl rfl)
theorem dL_law_1492 : decode cL_law 1492 = .ok (.invokestatic 166, 3) := dk_184 0 166 (dk_at dksL_law_60 19 rfl rfl)
theorem dL_law_1495 : decode cL_law 1495 = .ok (.istore 6, 2) := dk_54 6 (dk_at dksL_law_60 22 rfl rfl)
theorem dL_law_1497 : decode cL_law 1497 = .ok (.aload_n 2, 1) := dk_44 (dk_at dksL_law_61 0 rfl rfl)
theorem dL_law_1498 : decode cL_law 1498 = .ok (.invokevirtual 168, 3) := dk_182 0 168 (dk_at dksL_law_61 1 rfl rfl)
theorem dL_law_1501 : decode cL_law 1501 = .ok (.dstore 7, 2) := dk_57 7 (dk_at dksL_law_61 4 rfl rfl)
theorem dL_law_1503 : decode cL_law 1503 = .ok (.aload_n 2, 1) := dk_44 (dk_at dksL_law_61 6 rfl rfl)
theorem dL_law_1504 : decode cL_law 1504 = .ok (.invokevirtual 98, 3) := dk_182 0 98 (dk_at dksL_law_61 7 rfl rfl)
theorem dL_law_1507 : decode cL_law 1507 = .ok (.iload 6, 2) := dk_21 6 (dk_at dksL_law_61 10 rfl rfl)
theorem dL_law_1509 : decode cL_law 1509 = .ok (.if_icmp .eq 5, 3) := dk_159 0 5 (dk_at dksL_law_61 12 rfl rfl)
theorem dL_law_1512 : decode cL_law 1512 = .ok (.iconst 0, 1) := dk_3 (dk_at dksL_law_61 15 rfl rfl)
theorem dL_law_1513 : decode cL_law 1513 = .ok (.ireturn, 1) := dk_172 (dk_at dksL_law_61 16 rfl rfl)
theorem dL_law_1514 : decode cL_law 1514 = .ok (.iload 6, 2) := dk_21 6 (dk_at dksL_law_61 17 rfl rfl)
theorem dL_law_1516 : decode cL_law 1516 = .ok (.ifCond .ne 35, 3) := dk_154 0 35 (dk_at dksL_law_61 19 rfl rfl)
theorem dL_law_1519 : decode cL_law 1519 = .ok (.aload 4, 2) := dk_25 4 (dk_at dksL_law_61 22 rfl rfl)
theorem dL_law_1521 : decode cL_law 1521 = .ok (.iconst 0, 1) := dk_3 (dk_at dksL_law_62 0 rfl rfl)
theorem dL_law_1522 : decode cL_law 1522 = .ok (.daload, 1) := dk_49 (dk_at dksL_law_62 1 rfl rfl)
theorem dL_law_1523 : decode cL_law 1523 = .ok (.dload 7, 2) := dk_24 7 (dk_at dksL_law_62 2 rfl rfl)
theorem dL_law_1525 : decode cL_law 1525 = .ok (.dcmp .l, 1) := dk_151 (dk_at dksL_law_62 4 rfl rfl)
theorem dL_law_1526 : decode cL_law 1526 = .ok (.ifCond .eq 25, 3) := dk_153 0 25 (dk_at dksL_law_62 5 rfl rfl)
theorem dL_law_1529 : decode cL_law 1529 = .ok (.aload 4, 2) := dk_25 4 (dk_at dksL_law_62 8 rfl rfl)
theorem dL_law_1531 : decode cL_law 1531 = .ok (.iconst 0, 1) := dk_3 (dk_at dksL_law_62 10 rfl rfl)
theorem dL_law_1532 : decode cL_law 1532 = .ok (.daload, 1) := dk_49 (dk_at dksL_law_62 11 rfl rfl)
theorem dL_law_1533 : decode cL_law 1533 = .ok (.aload 4, 2) := dk_25 4 (dk_at dksL_law_62 12 rfl rfl)
theorem dL_law_1535 : decode cL_law 1535 = .ok (.iconst 0, 1) := dk_3 (dk_at dksL_law_62 14 rfl rfl)
theorem dL_law_1536 : decode cL_law 1536 = .ok (.daload, 1) := dk_49 (dk_at dksL_law_62 15 rfl rfl)
theorem dL_law_1537 : decode cL_law 1537 = .ok (.dcmp .l, 1) := dk_151 (dk_at dksL_law_62 16 rfl rfl)
theorem dL_law_1538 : decode cL_law 1538 = .ok (.ifCond .eq 11, 3) := dk_153 0 11 (dk_at dksL_law_62 17 rfl rfl)
theorem dL_law_1541 : decode cL_law 1541 = .ok (.dload 7, 2) := dk_24 7 (dk_at dksL_law_62 20 rfl rfl)
theorem dL_law_1543 : decode cL_law 1543 = .ok (.dload 7, 2) := dk_24 7 (dk_at dksL_law_62 22 rfl rfl)
theorem dL_law_1545 : decode cL_law 1545 = .ok (.dcmp .l, 1) := dk_151 (dk_at dksL_law_63 0 rfl rfl)
theorem dL_law_1546 : decode cL_law 1546 = .ok (.ifCond .ne 5, 3) := dk_154 0 5 (dk_at dksL_law_63 1 rfl rfl)
theorem dL_law_1549 : decode cL_law 1549 = .ok (.iconst 0, 1) := dk_3 (dk_at dksL_law_63 4 rfl rfl)
theorem dL_law_1550 : decode cL_law 1550 = .ok (.ireturn, 1) := dk_172 (dk_at dksL_law_63 5 rfl rfl)
theorem dL_law_1551 : decode cL_law 1551 = .ok (.goto 3, 3) := dk_167 0 3 (dk_at dksL_law_63 6 rfl rfl)
theorem dL_law_1554 : decode cL_law 1554 = .ok (.iinc 5 5, 3) := dk_132 5 5 (dk_at dksL_law_63 9 rfl rfl)
theorem dL_law_1557 : decode cL_law 1557 = .ok (.goto (-1529), 3) := dk_167 250 7 (dk_at dksL_law_63 12 rfl rfl)
theorem dL_law_1560 : decode cL_law 1560 = .ok (.iconst 1, 1) := dk_4 (dk_at dksL_law_63 15 rfl rfl)
theorem dL_law_1561 : decode cL_law 1561 = .ok (.ireturn, 1) := dk_172 (dk_at dksL_law_63 16 rfl rfl)
