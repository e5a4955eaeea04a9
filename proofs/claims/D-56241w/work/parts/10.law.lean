/-! SleeperRailwayLaw -/
set_option maxRecDepth 100000
def RX0 : String := "SleeperRailwayLaw"
abbrev cX0_addStation : ByteArray := method_3_code
def yX0_addStation : MethodName := ⟨RX0, "addStation", "(LSleeperRailway;I[J)I"⟩
def dkwX0_addStation_0 : List UInt8 := [44, 3, 42, 27, 182, 0, 7, 133, 80, 167, 0, 9, 78, 4, 172, 78, 5, 172, 3, 172]
abbrev dktX0_addStation_0 : List UInt8 := dkwX0_addStation_0 ++ []
theorem dksX0_addStation_0 : cX0_addStation.data.toList.drop 0 = dktX0_addStation_0 := by decide +kernel
theorem dX0_addStation_0 : decode cX0_addStation 0 = .ok (.aload_n 2, 1) := dk_44 (dk_at dksX0_addStation_0 0 rfl rfl)
theorem dX0_addStation_1 : decode cX0_addStation 1 = .ok (.iconst 0, 1) := dk_3 (dk_at dksX0_addStation_0 1 rfl rfl)
theorem dX0_addStation_2 : decode cX0_addStation 2 = .ok (.aload_n 0, 1) := dk_42 (dk_at dksX0_addStation_0 2 rfl rfl)
theorem dX0_addStation_3 : decode cX0_addStation 3 = .ok (.iload_n 1, 1) := dk_27 (dk_at dksX0_addStation_0 3 rfl rfl)
theorem dX0_addStation_4 : decode cX0_addStation 4 = .ok (.invokevirtual 7, 3) := dk_182 0 7 (dk_at dksX0_addStation_0 4 rfl rfl)
theorem dX0_addStation_7 : decode cX0_addStation 7 = .ok (.i2l, 1) := dk_133 (dk_at dksX0_addStation_0 7 rfl rfl)
theorem dX0_addStation_8 : decode cX0_addStation 8 = .ok (.lastore, 1) := dk_80 (dk_at dksX0_addStation_0 8 rfl rfl)
theorem dX0_addStation_9 : decode cX0_addStation 9 = .ok (.goto 9, 3) := dk_167 0 9 (dk_at dksX0_addStation_0 9 rfl rfl)
theorem dX0_addStation_12 : decode cX0_addStation 12 = .ok (.astore_n 3, 1) := dk_78 (dk_at dksX0_addStation_0 12 rfl rfl)
theorem dX0_addStation_13 : decode cX0_addStation 13 = .ok (.iconst 1, 1) := dk_4 (dk_at dksX0_addStation_0 13 rfl rfl)
theorem dX0_addStation_14 : decode cX0_addStation 14 = .ok (.ireturn, 1) := dk_172 (dk_at dksX0_addStation_0 14 rfl rfl)
theorem dX0_addStation_15 : decode cX0_addStation 15 = .ok (.astore_n 3, 1) := dk_78 (dk_at dksX0_addStation_0 15 rfl rfl)
theorem dX0_addStation_16 : decode cX0_addStation 16 = .ok (.iconst 2, 1) := dk_5 (dk_at dksX0_addStation_0 16 rfl rfl)
theorem dX0_addStation_17 : decode cX0_addStation 17 = .ok (.ireturn, 1) := dk_172 (dk_at dksX0_addStation_0 17 rfl rfl)
theorem dX0_addStation_18 : decode cX0_addStation 18 = .ok (.iconst 0, 1) := dk_3 (dk_at dksX0_addStation_0 18 rfl rfl)
theorem dX0_addStation_19 : decode cX0_addStation 19 = .ok (.ireturn, 1) := dk_172 (dk_at dksX0_addStation_0 19 rfl rfl)
abbrev cX0_addTrain : ByteArray := method_4_code
def yX0_addTrain : MethodName := ⟨RX0, "addTrain", "(LSleeperRailway;III[J)I"⟩
def dkwX0_addTrain_1 : List UInt8 := [58, 5, 6, 172, 3, 172]
abbrev dktX0_addTrain_1 : List UInt8 := dkwX0_addTrain_1 ++ []
def dkwX0_addTrain_0 : List UInt8 := [25, 4, 3, 42, 27, 28, 29, 182, 0, 17, 133, 80, 167, 0, 15, 58, 5, 4, 172, 58, 5, 5, 172]
abbrev dktX0_addTrain_0 : List UInt8 := dkwX0_addTrain_0 ++ dktX0_addTrain_1
theorem dksX0_addTrain_0 : cX0_addTrain.data.toList.drop 0 = dktX0_addTrain_0 := by decide +kernel
theorem dksX0_addTrain_1 : cX0_addTrain.data.toList.drop 23 = dktX0_addTrain_1 := dk_seg dksX0_addTrain_0 23 rfl rfl
theorem dX0_addTrain_0 : decode cX0_addTrain 0 = .ok (.aload 4, 2) := dk_25 4 (dk_at dksX0_addTrain_0 0 rfl rfl)
theorem dX0_addTrain_2 : decode cX0_addTrain 2 = .ok (.iconst 0, 1) := dk_3 (dk_at dksX0_addTrain_0 2 rfl rfl)
theorem dX0_addTrain_3 : decode cX0_addTrain 3 = .ok (.aload_n 0, 1) := dk_42 (dk_at dksX0_addTrain_0 3 rfl rfl)
theorem dX0_addTrain_4 : decode cX0_addTrain 4 = .ok (.iload_n 1, 1) := dk_27 (dk_at dksX0_addTrain_0 4 rfl rfl)
theorem dX0_addTrain_5 : decode cX0_addTrain 5 = .ok (.iload_n 2, 1) := dk_28 (dk_at dksX0_addTrain_0 5 rfl rfl)
theorem dX0_addTrain_6 : decode cX0_addTrain 6 = .ok (.iload_n 3, 1) := dk_29 (dk_at dksX0_addTrain_0 6 rfl rfl)
theorem dX0_addTrain_7 : decode cX0_addTrain 7 = .ok (.invokevirtual 17, 3) := dk_182 0 17 (dk_at dksX0_addTrain_0 7 rfl rfl)
theorem dX0_addTrain_10 : decode cX0_addTrain 10 = .ok (.i2l, 1) := dk_133 (dk_at dksX0_addTrain_0 10 rfl rfl)
theorem dX0_addTrain_11 : decode cX0_addTrain 11 = .ok (.lastore, 1) := dk_80 (dk_at dksX0_addTrain_0 11 rfl rfl)
theorem dX0_addTrain_12 : decode cX0_addTrain 12 = .ok (.goto 15, 3) := dk_167 0 15 (dk_at dksX0_addTrain_0 12 rfl rfl)
theorem dX0_addTrain_15 : decode cX0_addTrain 15 = .ok (.astore 5, 2) := dk_58 5 (dk_at dksX0_addTrain_0 15 rfl rfl)
theorem dX0_addTrain_17 : decode cX0_addTrain 17 = .ok (.iconst 1, 1) := dk_4 (dk_at dksX0_addTrain_0 17 rfl rfl)
theorem dX0_addTrain_18 : decode cX0_addTrain 18 = .ok (.ireturn, 1) := dk_172 (dk_at dksX0_addTrain_0 18 rfl rfl)
theorem dX0_addTrain_19 : decode cX0_addTrain 19 = .ok (.astore 5, 2) := dk_58 5 (dk_at dksX0_addTrain_0 19 rfl rfl)
theorem dX0_addTrain_21 : decode cX0_addTrain 21 = .ok (.iconst 2, 1) := dk_5 (dk_at dksX0_addTrain_0 21 rfl rfl)
theorem dX0_addTrain_22 : decode cX0_addTrain 22 = .ok (.ireturn, 1) := dk_172 (dk_at dksX0_addTrain_0 22 rfl rfl)
theorem dX0_addTrain_23 : decode cX0_addTrain 23 = .ok (.astore 5, 2) := dk_58 5 (dk_at dksX0_addTrain_1 0 rfl rfl)
theorem dX0_addTrain_25 : decode cX0_addTrain 25 = .ok (.iconst 3, 1) := dk_6 (dk_at dksX0_addTrain_1 2 rfl rfl)
theorem dX0_addTrain_26 : decode cX0_addTrain 26 = .ok (.ireturn, 1) := dk_172 (dk_at dksX0_addTrain_1 3 rfl rfl)
theorem dX0_addTrain_27 : decode cX0_addTrain 27 = .ok (.iconst 0, 1) := dk_3 (dk_at dksX0_addTrain_1 4 rfl rfl)
theorem dX0_addTrain_28 : decode cX0_addTrain 28 = .ok (.ireturn, 1) := dk_172 (dk_at dksX0_addTrain_1 5 rfl rfl)
abbrev cX0_extendTrain : ByteArray := method_5_code
def yX0_extendTrain : MethodName := ⟨RX0, "extendTrain", "(LSleeperRailway;IIII[J)I"⟩
def dkwX0_extendTrain_1 : List UInt8 := [172, 58, 6, 6, 172, 3, 172]
abbrev dktX0_extendTrain_1 : List UInt8 := dkwX0_extendTrain_1 ++ []
def dkwX0_extendTrain_0 : List UInt8 := [25, 5, 3, 42, 27, 28, 29, 21, 4, 182, 0, 23, 133, 80, 167, 0, 15, 58, 6, 4, 172, 58, 6, 5]
abbrev dktX0_extendTrain_0 : List UInt8 := dkwX0_extendTrain_0 ++ dktX0_extendTrain_1
theorem dksX0_extendTrain_0 : cX0_extendTrain.data.toList.drop 0 = dktX0_extendTrain_0 := by decide +kernel
theorem dksX0_extendTrain_1 : cX0_extendTrain.data.toList.drop 24 = dktX0_extendTrain_1 := dk_seg dksX0_extendTrain_0 24 rfl rfl
theorem dX0_extendTrain_0 : decode cX0_extendTrain 0 = .ok (.aload 5, 2) := dk_25 5 (dk_at dksX0_extendTrain_0 0 rfl rfl)
theorem dX0_extendTrain_2 : decode cX0_extendTrain 2 = .ok (.iconst 0, 1) := dk_3 (dk_at dksX0_extendTrain_0 2 rfl rfl)
theorem dX0_extendTrain_3 : decode cX0_extendTrain 3 = .ok (.aload_n 0, 1) := dk_42 (dk_at dksX0_extendTrain_0 3 rfl rfl)
theorem dX0_extendTrain_4 : decode cX0_extendTrain 4 = .ok (.iload_n 1, 1) := dk_27 (dk_at dksX0_extendTrain_0 4 rfl rfl)
theorem dX0_extendTrain_5 : decode cX0_extendTrain 5 = .ok (.iload_n 2, 1) := dk_28 (dk_at dksX0_extendTrain_0 5 rfl rfl)
theorem dX0_extendTrain_6 : decode cX0_extendTrain 6 = .ok (.iload_n 3, 1) := dk_29 (dk_at dksX0_extendTrain_0 6 rfl rfl)
theorem dX0_extendTrain_7 : decode cX0_extendTrain 7 = .ok (.iload 4, 2) := dk_21 4 (dk_at dksX0_extendTrain_0 7 rfl rfl)
theorem dX0_extendTrain_9 : decode cX0_extendTrain 9 = .ok (.invokevirtual 23, 3) := dk_182 0 23 (dk_at dksX0_extendTrain_0 9 rfl rfl)
theorem dX0_extendTrain_12 : decode cX0_extendTrain 12 = .ok (.i2l, 1) := dk_133 (dk_at dksX0_extendTrain_0 12 rfl rfl)
theorem dX0_extendTrain_13 : decode cX0_extendTrain 13 = .ok (.lastore, 1) := dk_80 (dk_at dksX0_extendTrain_0 13 rfl rfl)
theorem dX0_extendTrain_14 : decode cX0_extendTrain 14 = .ok (.goto 15, 3) := dk_167 0 15 (dk_at dksX0_extendTrain_0 14 rfl rfl)
theorem dX0_extendTrain_17 : decode cX0_extendTrain 17 = .ok (.astore 6, 2) := dk_58 6 (dk_at dksX0_extendTrain_0 17 rfl rfl)
theorem dX0_extendTrain_19 : decode cX0_extendTrain 19 = .ok (.iconst 1, 1) := dk_4 (dk_at dksX0_extendTrain_0 19 rfl rfl)
theorem dX0_extendTrain_20 : decode cX0_extendTrain 20 = .ok (.ireturn, 1) := dk_172 (dk_at dksX0_extendTrain_0 20 rfl rfl)
theorem dX0_extendTrain_21 : decode cX0_extendTrain 21 = .ok (.astore 6, 2) := dk_58 6 (dk_at dksX0_extendTrain_0 21 rfl rfl)
theorem dX0_extendTrain_23 : decode cX0_extendTrain 23 = .ok (.iconst 2, 1) := dk_5 (dk_at dksX0_extendTrain_0 23 rfl rfl)
theorem dX0_extendTrain_24 : decode cX0_extendTrain 24 = .ok (.ireturn, 1) := dk_172 (dk_at dksX0_extendTrain_1 0 rfl rfl)
theorem dX0_extendTrain_25 : decode cX0_extendTrain 25 = .ok (.astore 6, 2) := dk_58 6 (dk_at dksX0_extendTrain_1 1 rfl rfl)
theorem dX0_extendTrain_27 : decode cX0_extendTrain 27 = .ok (.iconst 3, 1) := dk_6 (dk_at dksX0_extendTrain_1 3 rfl rfl)
theorem dX0_extendTrain_28 : decode cX0_extendTrain 28 = .ok (.ireturn, 1) := dk_172 (dk_at dksX0_extendTrain_1 4 rfl rfl)
theorem dX0_extendTrain_29 : decode cX0_extendTrain 29 = .ok (.iconst 0, 1) := dk_3 (dk_at dksX0_extendTrain_1 5 rfl rfl)
theorem dX0_extendTrain_30 : decode cX0_extendTrain 30 = .ok (.ireturn, 1) := dk_172 (dk_at dksX0_extendTrain_1 6 rfl rfl)
abbrev cX0_delayTrain : ByteArray := method_6_code
def yX0_delayTrain : MethodName := ⟨RX0, "delayTrain", "(LSleeperRailway;II[J)I"⟩
def dkwX0_delayTrain_0 : List UInt8 := [45, 3, 42, 27, 28, 182, 0, 27, 133, 80, 167, 0, 11, 58, 4, 4, 172, 58, 4, 5, 172, 3, 172]
abbrev dktX0_delayTrain_0 : List UInt8 := dkwX0_delayTrain_0 ++ []
theorem dksX0_delayTrain_0 : cX0_delayTrain.data.toList.drop 0 = dktX0_delayTrain_0 := by decide +kernel
theorem dX0_delayTrain_0 : decode cX0_delayTrain 0 = .ok (.aload_n 3, 1) := dk_45 (dk_at dksX0_delayTrain_0 0 rfl rfl)
theorem dX0_delayTrain_1 : decode cX0_delayTrain 1 = .ok (.iconst 0, 1) := dk_3 (dk_at dksX0_delayTrain_0 1 rfl rfl)
theorem dX0_delayTrain_2 : decode cX0_delayTrain 2 = .ok (.aload_n 0, 1) := dk_42 (dk_at dksX0_delayTrain_0 2 rfl rfl)
theorem dX0_delayTrain_3 : decode cX0_delayTrain 3 = .ok (.iload_n 1, 1) := dk_27 (dk_at dksX0_delayTrain_0 3 rfl rfl)
theorem dX0_delayTrain_4 : decode cX0_delayTrain 4 = .ok (.iload_n 2, 1) := dk_28 (dk_at dksX0_delayTrain_0 4 rfl rfl)
theorem dX0_delayTrain_5 : decode cX0_delayTrain 5 = .ok (.invokevirtual 27, 3) := dk_182 0 27 (dk_at dksX0_delayTrain_0 5 rfl rfl)
theorem dX0_delayTrain_8 : decode cX0_delayTrain 8 = .ok (.i2l, 1) := dk_133 (dk_at dksX0_delayTrain_0 8 rfl rfl)
theorem dX0_delayTrain_9 : decode cX0_delayTrain 9 = .ok (.lastore, 1) := dk_80 (dk_at dksX0_delayTrain_0 9 rfl rfl)
theorem dX0_delayTrain_10 : decode cX0_delayTrain 10 = .ok (.goto 11, 3) := dk_167 0 11 (dk_at dksX0_delayTrain_0 10 rfl rfl)
theorem dX0_delayTrain_13 : decode cX0_delayTrain 13 = .ok (.astore 4, 2) := dk_58 4 (dk_at dksX0_delayTrain_0 13 rfl rfl)
theorem dX0_delayTrain_15 : decode cX0_delayTrain 15 = .ok (.iconst 1, 1) := dk_4 (dk_at dksX0_delayTrain_0 15 rfl rfl)
theorem dX0_delayTrain_16 : decode cX0_delayTrain 16 = .ok (.ireturn, 1) := dk_172 (dk_at dksX0_delayTrain_0 16 rfl rfl)
theorem dX0_delayTrain_17 : decode cX0_delayTrain 17 = .ok (.astore 4, 2) := dk_58 4 (dk_at dksX0_delayTrain_0 17 rfl rfl)
theorem dX0_delayTrain_19 : decode cX0_delayTrain 19 = .ok (.iconst 2, 1) := dk_5 (dk_at dksX0_delayTrain_0 19 rfl rfl)
theorem dX0_delayTrain_20 : decode cX0_delayTrain 20 = .ok (.ireturn, 1) := dk_172 (dk_at dksX0_delayTrain_0 20 rfl rfl)
theorem dX0_delayTrain_21 : decode cX0_delayTrain 21 = .ok (.iconst 0, 1) := dk_3 (dk_at dksX0_delayTrain_0 21 rfl rfl)
theorem dX0_delayTrain_22 : decode cX0_delayTrain 22 = .ok (.ireturn, 1) := dk_172 (dk_at dksX0_delayTrain_0 22 rfl rfl)
abbrev cX0_addSuitcase : ByteArray := method_7_code
def yX0_addSuitcase : MethodName := ⟨RX0, "addSuitcase", "(LSleeperRailway;III[J)I"⟩
def dkwX0_addSuitcase_1 : List UInt8 := [58, 5, 6, 172, 3, 172]
abbrev dktX0_addSuitcase_1 : List UInt8 := dkwX0_addSuitcase_1 ++ []
def dkwX0_addSuitcase_0 : List UInt8 := [25, 4, 3, 42, 27, 28, 29, 182, 0, 31, 133, 80, 167, 0, 15, 58, 5, 4, 172, 58, 5, 5, 172]
abbrev dktX0_addSuitcase_0 : List UInt8 := dkwX0_addSuitcase_0 ++ dktX0_addSuitcase_1
theorem dksX0_addSuitcase_0 : cX0_addSuitcase.data.toList.drop 0 = dktX0_addSuitcase_0 := by decide +kernel
theorem dksX0_addSuitcase_1 : cX0_addSuitcase.data.toList.drop 23 = dktX0_addSuitcase_1 := dk_seg dksX0_addSuitcase_0 23 rfl rfl
theorem dX0_addSuitcase_0 : decode cX0_addSuitcase 0 = .ok (.aload 4, 2) := dk_25 4 (dk_at dksX0_addSuitcase_0 0 rfl rfl)
theorem dX0_addSuitcase_2 : decode cX0_addSuitcase 2 = .ok (.iconst 0, 1) := dk_3 (dk_at dksX0_addSuitcase_0 2 rfl rfl)
theorem dX0_addSuitcase_3 : decode cX0_addSuitcase 3 = .ok (.aload_n 0, 1) := dk_42 (dk_at dksX0_addSuitcase_0 3 rfl rfl)
theorem dX0_addSuitcase_4 : decode cX0_addSuitcase 4 = .ok (.iload_n 1, 1) := dk_27 (dk_at dksX0_addSuitcase_0 4 rfl rfl)
theorem dX0_addSuitcase_5 : decode cX0_addSuitcase 5 = .ok (.iload_n 2, 1) := dk_28 (dk_at dksX0_addSuitcase_0 5 rfl rfl)
theorem dX0_addSuitcase_6 : decode cX0_addSuitcase 6 = .ok (.iload_n 3, 1) := dk_29 (dk_at dksX0_addSuitcase_0 6 rfl rfl)
theorem dX0_addSuitcase_7 : decode cX0_addSuitcase 7 = .ok (.invokevirtual 31, 3) := dk_182 0 31 (dk_at dksX0_addSuitcase_0 7 rfl rfl)
theorem dX0_addSuitcase_10 : decode cX0_addSuitcase 10 = .ok (.i2l, 1) := dk_133 (dk_at dksX0_addSuitcase_0 10 rfl rfl)
theorem dX0_addSuitcase_11 : decode cX0_addSuitcase 11 = .ok (.lastore, 1) := dk_80 (dk_at dksX0_addSuitcase_0 11 rfl rfl)
theorem dX0_addSuitcase_12 : decode cX0_addSuitcase 12 = .ok (.goto 15, 3) := dk_167 0 15 (dk_at dksX0_addSuitcase_0 12 rfl rfl)
theorem dX0_addSuitcase_15 : decode cX0_addSuitcase 15 = .ok (.astore 5, 2) := dk_58 5 (dk_at dksX0_addSuitcase_0 15 rfl rfl)
theorem dX0_addSuitcase_17 : decode cX0_addSuitcase 17 = .ok (.iconst 1, 1) := dk_4 (dk_at dksX0_addSuitcase_0 17 rfl rfl)
theorem dX0_addSuitcase_18 : decode cX0_addSuitcase 18 = .ok (.ireturn, 1) := dk_172 (dk_at dksX0_addSuitcase_0 18 rfl rfl)
theorem dX0_addSuitcase_19 : decode cX0_addSuitcase 19 = .ok (.astore 5, 2) := dk_58 5 (dk_at dksX0_addSuitcase_0 19 rfl rfl)
theorem dX0_addSuitcase_21 : decode cX0_addSuitcase 21 = .ok (.iconst 2, 1) := dk_5 (dk_at dksX0_addSuitcase_0 21 rfl rfl)
theorem dX0_addSuitcase_22 : decode cX0_addSuitcase 22 = .ok (.ireturn, 1) := dk_172 (dk_at dksX0_addSuitcase_0 22 rfl rfl)
theorem dX0_addSuitcase_23 : decode cX0_addSuitcase 23 = .ok (.astore 5, 2) := dk_58 5 (dk_at dksX0_addSuitcase_1 0 rfl rfl)
theorem dX0_addSuitcase_25 : decode cX0_addSuitcase 25 = .ok (.iconst 3, 1) := dk_6 (dk_at dksX0_addSuitcase_1 2 rfl rfl)
theorem dX0_addSuitcase_26 : decode cX0_addSuitcase 26 = .ok (.ireturn, 1) := dk_172 (dk_at dksX0_addSuitcase_1 3 rfl rfl)
theorem dX0_addSuitcase_27 : decode cX0_addSuitcase 27 = .ok (.iconst 0, 1) := dk_3 (dk_at dksX0_addSuitcase_1 4 rfl rfl)
theorem dX0_addSuitcase_28 : decode cX0_addSuitcase 28 = .ok (.ireturn, 1) := dk_172 (dk_at dksX0_addSuitcase_1 5 rfl rfl)
abbrev cX0_relabel : ByteArray := method_8_code
def yX0_relabel : MethodName := ⟨RX0, "relabel", "(LSleeperRailway;II[J)I"⟩
def dkwX0_relabel_0 : List UInt8 := [45, 3, 42, 27, 28, 182, 0, 34, 133, 80, 167, 0, 11, 58, 4, 4, 172, 58, 4, 5, 172, 3, 172]
abbrev dktX0_relabel_0 : List UInt8 := dkwX0_relabel_0 ++ []
theorem dksX0_relabel_0 : cX0_relabel.data.toList.drop 0 = dktX0_relabel_0 := by decide +kernel
theorem dX0_relabel_0 : decode cX0_relabel 0 = .ok (.aload_n 3, 1) := dk_45 (dk_at dksX0_relabel_0 0 rfl rfl)
theorem dX0_relabel_1 : decode cX0_relabel 1 = .ok (.iconst 0, 1) := dk_3 (dk_at dksX0_relabel_0 1 rfl rfl)
theorem dX0_relabel_2 : decode cX0_relabel 2 = .ok (.aload_n 0, 1) := dk_42 (dk_at dksX0_relabel_0 2 rfl rfl)
theorem dX0_relabel_3 : decode cX0_relabel 3 = .ok (.iload_n 1, 1) := dk_27 (dk_at dksX0_relabel_0 3 rfl rfl)
theorem dX0_relabel_4 : decode cX0_relabel 4 = .ok (.iload_n 2, 1) := dk_28 (dk_at dksX0_relabel_0 4 rfl rfl)
theorem dX0_relabel_5 : decode cX0_relabel 5 = .ok (.invokevirtual 34, 3) := dk_182 0 34 (dk_at dksX0_relabel_0 5 rfl rfl)
theorem dX0_relabel_8 : decode cX0_relabel 8 = .ok (.i2l, 1) := dk_133 (dk_at dksX0_relabel_0 8 rfl rfl)
theorem dX0_relabel_9 : decode cX0_relabel 9 = .ok (.lastore, 1) := dk_80 (dk_at dksX0_relabel_0 9 rfl rfl)
theorem dX0_relabel_10 : decode cX0_relabel 10 = .ok (.goto 11, 3) := dk_167 0 11 (dk_at dksX0_relabel_0 10 rfl rfl)
theorem dX0_relabel_13 : decode cX0_relabel 13 = .ok (.astore 4, 2) := dk_58 4 (dk_at dksX0_relabel_0 13 rfl rfl)
theorem dX0_relabel_15 : decode cX0_relabel 15 = .ok (.iconst 1, 1) := dk_4 (dk_at dksX0_relabel_0 15 rfl rfl)
theorem dX0_relabel_16 : decode cX0_relabel 16 = .ok (.ireturn, 1) := dk_172 (dk_at dksX0_relabel_0 16 rfl rfl)
theorem dX0_relabel_17 : decode cX0_relabel 17 = .ok (.astore 4, 2) := dk_58 4 (dk_at dksX0_relabel_0 17 rfl rfl)
theorem dX0_relabel_19 : decode cX0_relabel 19 = .ok (.iconst 2, 1) := dk_5 (dk_at dksX0_relabel_0 19 rfl rfl)
theorem dX0_relabel_20 : decode cX0_relabel 20 = .ok (.ireturn, 1) := dk_172 (dk_at dksX0_relabel_0 20 rfl rfl)
theorem dX0_relabel_21 : decode cX0_relabel 21 = .ok (.iconst 0, 1) := dk_3 (dk_at dksX0_relabel_0 21 rfl rfl)
theorem dX0_relabel_22 : decode cX0_relabel 22 = .ok (.ireturn, 1) := dk_172 (dk_at dksX0_relabel_0 22 rfl rfl)
abbrev cX0_send : ByteArray := method_9_code
def yX0_send : MethodName := ⟨RX0, "send", "(LSleeperRailway;I[J)I"⟩
def dkwX0_send_0 : List UInt8 := [44, 3, 42, 27, 182, 0, 39, 133, 80, 167, 0, 9, 78, 4, 172, 78, 5, 172, 3, 172]
abbrev dktX0_send_0 : List UInt8 := dkwX0_send_0 ++ []
theorem dksX0_send_0 : cX0_send.data.toList.drop 0 = dktX0_send_0 := by decide +kernel
theorem dX0_send_0 : decode cX0_send 0 = .ok (.aload_n 2, 1) := dk_44 (dk_at dksX0_send_0 0 rfl rfl)
theorem dX0_send_1 : decode cX0_send 1 = .ok (.iconst 0, 1) := dk_3 (dk_at dksX0_send_0 1 rfl rfl)
theorem dX0_send_2 : decode cX0_send 2 = .ok (.aload_n 0, 1) := dk_42 (dk_at dksX0_send_0 2 rfl rfl)
theorem dX0_send_3 : decode cX0_send 3 = .ok (.iload_n 1, 1) := dk_27 (dk_at dksX0_send_0 3 rfl rfl)
theorem dX0_send_4 : decode cX0_send 4 = .ok (.invokevirtual 39, 3) := dk_182 0 39 (dk_at dksX0_send_0 4 rfl rfl)
theorem dX0_send_7 : decode cX0_send 7 = .ok (.i2l, 1) := dk_133 (dk_at dksX0_send_0 7 rfl rfl)
theorem dX0_send_8 : decode cX0_send 8 = .ok (.lastore, 1) := dk_80 (dk_at dksX0_send_0 8 rfl rfl)
theorem dX0_send_9 : decode cX0_send 9 = .ok (.goto 9, 3) := dk_167 0 9 (dk_at dksX0_send_0 9 rfl rfl)
theorem dX0_send_12 : decode cX0_send 12 = .ok (.astore_n 3, 1) := dk_78 (dk_at dksX0_send_0 12 rfl rfl)
theorem dX0_send_13 : decode cX0_send 13 = .ok (.iconst 1, 1) := dk_4 (dk_at dksX0_send_0 13 rfl rfl)
theorem dX0_send_14 : decode cX0_send 14 = .ok (.ireturn, 1) := dk_172 (dk_at dksX0_send_0 14 rfl rfl)
theorem dX0_send_15 : decode cX0_send 15 = .ok (.astore_n 3, 1) := dk_78 (dk_at dksX0_send_0 15 rfl rfl)
theorem dX0_send_16 : decode cX0_send 16 = .ok (.iconst 2, 1) := dk_5 (dk_at dksX0_send_0 16 rfl rfl)
theorem dX0_send_17 : decode cX0_send 17 = .ok (.ireturn, 1) := dk_172 (dk_at dksX0_send_0 17 rfl rfl)
theorem dX0_send_18 : decode cX0_send 18 = .ok (.iconst 0, 1) := dk_3 (dk_at dksX0_send_0 18 rfl rfl)
theorem dX0_send_19 : decode cX0_send 19 = .ok (.ireturn, 1) := dk_172 (dk_at dksX0_send_0 19 rfl rfl)
abbrev cX0_collect : ByteArray := method_10_code
def yX0_collect : MethodName := ⟨RX0, "collect", "(LSleeperRailway;I[J)I"⟩
def dkwX0_collect_0 : List UInt8 := [44, 3, 42, 27, 182, 0, 44, 133, 80, 167, 0, 9, 78, 4, 172, 78, 5, 172, 3, 172]
abbrev dktX0_collect_0 : List UInt8 := dkwX0_collect_0 ++ []
theorem dksX0_collect_0 : cX0_collect.data.toList.drop 0 = dktX0_collect_0 := by decide +kernel
theorem dX0_collect_0 : decode cX0_collect 0 = .ok (.aload_n 2, 1) := dk_44 (dk_at dksX0_collect_0 0 rfl rfl)
theorem dX0_collect_1 : decode cX0_collect 1 = .ok (.iconst 0, 1) := dk_3 (dk_at dksX0_collect_0 1 rfl rfl)
theorem dX0_collect_2 : decode cX0_collect 2 = .ok (.aload_n 0, 1) := dk_42 (dk_at dksX0_collect_0 2 rfl rfl)
theorem dX0_collect_3 : decode cX0_collect 3 = .ok (.iload_n 1, 1) := dk_27 (dk_at dksX0_collect_0 3 rfl rfl)
theorem dX0_collect_4 : decode cX0_collect 4 = .ok (.invokevirtual 44, 3) := dk_182 0 44 (dk_at dksX0_collect_0 4 rfl rfl)
theorem dX0_collect_7 : decode cX0_collect 7 = .ok (.i2l, 1) := dk_133 (dk_at dksX0_collect_0 7 rfl rfl)
theorem dX0_collect_8 : decode cX0_collect 8 = .ok (.lastore, 1) := dk_80 (dk_at dksX0_collect_0 8 rfl rfl)
theorem dX0_collect_9 : decode cX0_collect 9 = .ok (.goto 9, 3) := dk_167 0 9 (dk_at dksX0_collect_0 9 rfl rfl)
theorem dX0_collect_12 : decode cX0_collect 12 = .ok (.astore_n 3, 1) := dk_78 (dk_at dksX0_collect_0 12 rfl rfl)
theorem dX0_collect_13 : decode cX0_collect 13 = .ok (.iconst 1, 1) := dk_4 (dk_at dksX0_collect_0 13 rfl rfl)
theorem dX0_collect_14 : decode cX0_collect 14 = .ok (.ireturn, 1) := dk_172 (dk_at dksX0_collect_0 14 rfl rfl)
theorem dX0_collect_15 : decode cX0_collect 15 = .ok (.astore_n 3, 1) := dk_78 (dk_at dksX0_collect_0 15 rfl rfl)
theorem dX0_collect_16 : decode cX0_collect 16 = .ok (.iconst 2, 1) := dk_5 (dk_at dksX0_collect_0 16 rfl rfl)
theorem dX0_collect_17 : decode cX0_collect 17 = .ok (.ireturn, 1) := dk_172 (dk_at dksX0_collect_0 17 rfl rfl)
theorem dX0_collect_18 : decode cX0_collect 18 = .ok (.iconst 0, 1) := dk_3 (dk_at dksX0_collect_0 18 rfl rfl)
theorem dX0_collect_19 : decode cX0_collect 19 = .ok (.ireturn, 1) := dk_172 (dk_at dksX0_collect_0 19 rfl rfl)
abbrev cX0_book : ByteArray := method_11_code
def yX0_book : MethodName := ⟨RX0, "book", "(LSleeperRailway;III[J)I"⟩
def dkwX0_book_1 : List UInt8 := [58, 5, 6, 172, 58, 5, 7, 172, 3, 172]
abbrev dktX0_book_1 : List UInt8 := dkwX0_book_1 ++ []
def dkwX0_book_0 : List UInt8 := [25, 4, 3, 42, 27, 28, 29, 182, 0, 47, 133, 80, 167, 0, 19, 58, 5, 4, 172, 58, 5, 5, 172]
abbrev dktX0_book_0 : List UInt8 := dkwX0_book_0 ++ dktX0_book_1
theorem dksX0_book_0 : cX0_book.data.toList.drop 0 = dktX0_book_0 := by decide +kernel
theorem dksX0_book_1 : cX0_book.data.toList.drop 23 = dktX0_book_1 := dk_seg dksX0_book_0 23 rfl rfl
theorem dX0_book_0 : decode cX0_book 0 = .ok (.aload 4, 2) := dk_25 4 (dk_at dksX0_book_0 0 rfl rfl)
theorem dX0_book_2 : decode cX0_book 2 = .ok (.iconst 0, 1) := dk_3 (dk_at dksX0_book_0 2 rfl rfl)
theorem dX0_book_3 : decode cX0_book 3 = .ok (.aload_n 0, 1) := dk_42 (dk_at dksX0_book_0 3 rfl rfl)
theorem dX0_book_4 : decode cX0_book 4 = .ok (.iload_n 1, 1) := dk_27 (dk_at dksX0_book_0 4 rfl rfl)
theorem dX0_book_5 : decode cX0_book 5 = .ok (.iload_n 2, 1) := dk_28 (dk_at dksX0_book_0 5 rfl rfl)
theorem dX0_book_6 : decode cX0_book 6 = .ok (.iload_n 3, 1) := dk_29 (dk_at dksX0_book_0 6 rfl rfl)
theorem dX0_book_7 : decode cX0_book 7 = .ok (.invokevirtual 47, 3) := dk_182 0 47 (dk_at dksX0_book_0 7 rfl rfl)
theorem dX0_book_10 : decode cX0_book 10 = .ok (.i2l, 1) := dk_133 (dk_at dksX0_book_0 10 rfl rfl)
theorem dX0_book_11 : decode cX0_book 11 = .ok (.lastore, 1) := dk_80 (dk_at dksX0_book_0 11 rfl rfl)
theorem dX0_book_12 : decode cX0_book 12 = .ok (.goto 19, 3) := dk_167 0 19 (dk_at dksX0_book_0 12 rfl rfl)
theorem dX0_book_15 : decode cX0_book 15 = .ok (.astore 5, 2) := dk_58 5 (dk_at dksX0_book_0 15 rfl rfl)
theorem dX0_book_17 : decode cX0_book 17 = .ok (.iconst 1, 1) := dk_4 (dk_at dksX0_book_0 17 rfl rfl)
theorem dX0_book_18 : decode cX0_book 18 = .ok (.ireturn, 1) := dk_172 (dk_at dksX0_book_0 18 rfl rfl)
theorem dX0_book_19 : decode cX0_book 19 = .ok (.astore 5, 2) := dk_58 5 (dk_at dksX0_book_0 19 rfl rfl)
theorem dX0_book_21 : decode cX0_book 21 = .ok (.iconst 2, 1) := dk_5 (dk_at dksX0_book_0 21 rfl rfl)
theorem dX0_book_22 : decode cX0_book 22 = .ok (.ireturn, 1) := dk_172 (dk_at dksX0_book_0 22 rfl rfl)
theorem dX0_book_23 : decode cX0_book 23 = .ok (.astore 5, 2) := dk_58 5 (dk_at dksX0_book_1 0 rfl rfl)
theorem dX0_book_25 : decode cX0_book 25 = .ok (.iconst 3, 1) := dk_6 (dk_at dksX0_book_1 2 rfl rfl)
theorem dX0_book_26 : decode cX0_book 26 = .ok (.ireturn, 1) := dk_172 (dk_at dksX0_book_1 3 rfl rfl)
theorem dX0_book_27 : decode cX0_book 27 = .ok (.astore 5, 2) := dk_58 5 (dk_at dksX0_book_1 4 rfl rfl)
theorem dX0_book_29 : decode cX0_book 29 = .ok (.iconst 4, 1) := dk_7 (dk_at dksX0_book_1 6 rfl rfl)
theorem dX0_book_30 : decode cX0_book 30 = .ok (.ireturn, 1) := dk_172 (dk_at dksX0_book_1 7 rfl rfl)
theorem dX0_book_31 : decode cX0_book 31 = .ok (.iconst 0, 1) := dk_3 (dk_at dksX0_book_1 8 rfl rfl)
theorem dX0_book_32 : decode cX0_book 32 = .ok (.ireturn, 1) := dk_172 (dk_at dksX0_book_1 9 rfl rfl)
abbrev cX0_cancelBooking : ByteArray := method_12_code
def yX0_cancelBooking : MethodName := ⟨RX0, "cancelBooking", "(LSleeperRailway;I[J)I"⟩
def dkwX0_cancelBooking_0 : List UInt8 := [44, 3, 42, 27, 182, 0, 50, 133, 80, 167, 0, 6, 78, 4, 172, 3, 172]
abbrev dktX0_cancelBooking_0 : List UInt8 := dkwX0_cancelBooking_0 ++ []
theorem dksX0_cancelBooking_0 : cX0_cancelBooking.data.toList.drop 0 = dktX0_cancelBooking_0 := by decide +kernel
theorem dX0_cancelBooking_0 : decode cX0_cancelBooking 0 = .ok (.aload_n 2, 1) := dk_44 (dk_at dksX0_cancelBooking_0 0 rfl rfl)
theorem dX0_cancelBooking_1 : decode cX0_cancelBooking 1 = .ok (.iconst 0, 1) := dk_3 (dk_at dksX0_cancelBooking_0 1 rfl rfl)
theorem dX0_cancelBooking_2 : decode cX0_cancelBooking 2 = .ok (.aload_n 0, 1) := dk_42 (dk_at dksX0_cancelBooking_0 2 rfl rfl)
theorem dX0_cancelBooking_3 : decode cX0_cancelBooking 3 = .ok (.iload_n 1, 1) := dk_27 (dk_at dksX0_cancelBooking_0 3 rfl rfl)
theorem dX0_cancelBooking_4 : decode cX0_cancelBooking 4 = .ok (.invokevirtual 50, 3) := dk_182 0 50 (dk_at dksX0_cancelBooking_0 4 rfl rfl)
theorem dX0_cancelBooking_7 : decode cX0_cancelBooking 7 = .ok (.i2l, 1) := dk_133 (dk_at dksX0_cancelBooking_0 7 rfl rfl)
theorem dX0_cancelBooking_8 : decode cX0_cancelBooking 8 = .ok (.lastore, 1) := dk_80 (dk_at dksX0_cancelBooking_0 8 rfl rfl)
theorem dX0_cancelBooking_9 : decode cX0_cancelBooking 9 = .ok (.goto 6, 3) := dk_167 0 6 (dk_at dksX0_cancelBooking_0 9 rfl rfl)
theorem dX0_cancelBooking_12 : decode cX0_cancelBooking 12 = .ok (.astore_n 3, 1) := dk_78 (dk_at dksX0_cancelBooking_0 12 rfl rfl)
theorem dX0_cancelBooking_13 : decode cX0_cancelBooking 13 = .ok (.iconst 1, 1) := dk_4 (dk_at dksX0_cancelBooking_0 13 rfl rfl)
theorem dX0_cancelBooking_14 : decode cX0_cancelBooking 14 = .ok (.ireturn, 1) := dk_172 (dk_at dksX0_cancelBooking_0 14 rfl rfl)
theorem dX0_cancelBooking_15 : decode cX0_cancelBooking 15 = .ok (.iconst 0, 1) := dk_3 (dk_at dksX0_cancelBooking_0 15 rfl rfl)
theorem dX0_cancelBooking_16 : decode cX0_cancelBooking 16 = .ok (.ireturn, 1) := dk_172 (dk_at dksX0_cancelBooking_0 16 rfl rfl)
abbrev cX0_transferTime : ByteArray := method_13_code
def yX0_transferTime : MethodName := ⟨RX0, "transferTime", "(LSleeperRailway;I[J)I"⟩
def dkwX0_transferTime_0 : List UInt8 := [44, 3, 42, 27, 182, 0, 53, 133, 80, 167, 0, 6, 78, 4, 172, 3, 172]
abbrev dktX0_transferTime_0 : List UInt8 := dkwX0_transferTime_0 ++ []
theorem dksX0_transferTime_0 : cX0_transferTime.data.toList.drop 0 = dktX0_transferTime_0 := by decide +kernel
theorem dX0_transferTime_0 : decode cX0_transferTime 0 = .ok (.aload_n 2, 1) := dk_44 (dk_at dksX0_transferTime_0 0 rfl rfl)
theorem dX0_transferTime_1 : decode cX0_transferTime 1 = .ok (.iconst 0, 1) := dk_3 (dk_at dksX0_transferTime_0 1 rfl rfl)
theorem dX0_transferTime_2 : decode cX0_transferTime 2 = .ok (.aload_n 0, 1) := dk_42 (dk_at dksX0_transferTime_0 2 rfl rfl)
theorem dX0_transferTime_3 : decode cX0_transferTime 3 = .ok (.iload_n 1, 1) := dk_27 (dk_at dksX0_transferTime_0 3 rfl rfl)
theorem dX0_transferTime_4 : decode cX0_transferTime 4 = .ok (.invokevirtual 53, 3) := dk_182 0 53 (dk_at dksX0_transferTime_0 4 rfl rfl)
theorem dX0_transferTime_7 : decode cX0_transferTime 7 = .ok (.i2l, 1) := dk_133 (dk_at dksX0_transferTime_0 7 rfl rfl)
theorem dX0_transferTime_8 : decode cX0_transferTime 8 = .ok (.lastore, 1) := dk_80 (dk_at dksX0_transferTime_0 8 rfl rfl)
theorem dX0_transferTime_9 : decode cX0_transferTime 9 = .ok (.goto 6, 3) := dk_167 0 6 (dk_at dksX0_transferTime_0 9 rfl rfl)
theorem dX0_transferTime_12 : decode cX0_transferTime 12 = .ok (.astore_n 3, 1) := dk_78 (dk_at dksX0_transferTime_0 12 rfl rfl)
theorem dX0_transferTime_13 : decode cX0_transferTime 13 = .ok (.iconst 1, 1) := dk_4 (dk_at dksX0_transferTime_0 13 rfl rfl)
theorem dX0_transferTime_14 : decode cX0_transferTime 14 = .ok (.ireturn, 1) := dk_172 (dk_at dksX0_transferTime_0 14 rfl rfl)
theorem dX0_transferTime_15 : decode cX0_transferTime 15 = .ok (.iconst 0, 1) := dk_3 (dk_at dksX0_transferTime_0 15 rfl rfl)
theorem dX0_transferTime_16 : decode cX0_transferTime 16 = .ok (.ireturn, 1) := dk_172 (dk_at dksX0_transferTime_0 16 rfl rfl)
abbrev cX0_nextTrain : ByteArray := method_14_code
def yX0_nextTrain : MethodName := ⟨RX0, "nextTrain", "(LSleeperRailway;II[J)I"⟩
def dkwX0_nextTrain_1 : List UInt8 := [172, 3, 172]
abbrev dktX0_nextTrain_1 : List UInt8 := dkwX0_nextTrain_1 ++ []
def dkwX0_nextTrain_0 : List UInt8 := [45, 3, 42, 27, 28, 182, 0, 56, 133, 80, 167, 0, 15, 58, 4, 4, 172, 58, 4, 5, 172, 58, 4, 6]
abbrev dktX0_nextTrain_0 : List UInt8 := dkwX0_nextTrain_0 ++ dktX0_nextTrain_1
theorem dksX0_nextTrain_0 : cX0_nextTrain.data.toList.drop 0 = dktX0_nextTrain_0 := by decide +kernel
theorem dksX0_nextTrain_1 : cX0_nextTrain.data.toList.drop 24 = dktX0_nextTrain_1 := dk_seg dksX0_nextTrain_0 24 rfl rfl
theorem dX0_nextTrain_0 : decode cX0_nextTrain 0 = .ok (.aload_n 3, 1) := dk_45 (dk_at dksX0_nextTrain_0 0 rfl rfl)
theorem dX0_nextTrain_1 : decode cX0_nextTrain 1 = .ok (.iconst 0, 1) := dk_3 (dk_at dksX0_nextTrain_0 1 rfl rfl)
theorem dX0_nextTrain_2 : decode cX0_nextTrain 2 = .ok (.aload_n 0, 1) := dk_42 (dk_at dksX0_nextTrain_0 2 rfl rfl)
theorem dX0_nextTrain_3 : decode cX0_nextTrain 3 = .ok (.iload_n 1, 1) := dk_27 (dk_at dksX0_nextTrain_0 3 rfl rfl)
theorem dX0_nextTrain_4 : decode cX0_nextTrain 4 = .ok (.iload_n 2, 1) := dk_28 (dk_at dksX0_nextTrain_0 4 rfl rfl)
theorem dX0_nextTrain_5 : decode cX0_nextTrain 5 = .ok (.invokevirtual 56, 3) := dk_182 0 56 (dk_at dksX0_nextTrain_0 5 rfl rfl)
theorem dX0_nextTrain_8 : decode cX0_nextTrain 8 = .ok (.i2l, 1) := dk_133 (dk_at dksX0_nextTrain_0 8 rfl rfl)
theorem dX0_nextTrain_9 : decode cX0_nextTrain 9 = .ok (.lastore, 1) := dk_80 (dk_at dksX0_nextTrain_0 9 rfl rfl)
theorem dX0_nextTrain_10 : decode cX0_nextTrain 10 = .ok (.goto 15, 3) := dk_167 0 15 (dk_at dksX0_nextTrain_0 10 rfl rfl)
theorem dX0_nextTrain_13 : decode cX0_nextTrain 13 = .ok (.astore 4, 2) := dk_58 4 (dk_at dksX0_nextTrain_0 13 rfl rfl)
theorem dX0_nextTrain_15 : decode cX0_nextTrain 15 = .ok (.iconst 1, 1) := dk_4 (dk_at dksX0_nextTrain_0 15 rfl rfl)
theorem dX0_nextTrain_16 : decode cX0_nextTrain 16 = .ok (.ireturn, 1) := dk_172 (dk_at dksX0_nextTrain_0 16 rfl rfl)
theorem dX0_nextTrain_17 : decode cX0_nextTrain 17 = .ok (.astore 4, 2) := dk_58 4 (dk_at dksX0_nextTrain_0 17 rfl rfl)
theorem dX0_nextTrain_19 : decode cX0_nextTrain 19 = .ok (.iconst 2, 1) := dk_5 (dk_at dksX0_nextTrain_0 19 rfl rfl)
theorem dX0_nextTrain_20 : decode cX0_nextTrain 20 = .ok (.ireturn, 1) := dk_172 (dk_at dksX0_nextTrain_0 20 rfl rfl)
theorem dX0_nextTrain_21 : decode cX0_nextTrain 21 = .ok (.astore 4, 2) := dk_58 4 (dk_at dksX0_nextTrain_0 21 rfl rfl)
theorem dX0_nextTrain_23 : decode cX0_nextTrain 23 = .ok (.iconst 3, 1) := dk_6 (dk_at dksX0_nextTrain_0 23 rfl rfl)
theorem dX0_nextTrain_24 : decode cX0_nextTrain 24 = .ok (.ireturn, 1) := dk_172 (dk_at dksX0_nextTrain_1 0 rfl rfl)
theorem dX0_nextTrain_25 : decode cX0_nextTrain 25 = .ok (.iconst 0, 1) := dk_3 (dk_at dksX0_nextTrain_1 1 rfl rfl)
theorem dX0_nextTrain_26 : decode cX0_nextTrain 26 = .ok (.ireturn, 1) := dk_172 (dk_at dksX0_nextTrain_1 2 rfl rfl)
abbrev cX0_stopCount : ByteArray := method_15_code
def yX0_stopCount : MethodName := ⟨RX0, "stopCount", "(LSleeperRailway;I[J)I"⟩
def dkwX0_stopCount_0 : List UInt8 := [44, 3, 42, 27, 182, 0, 59, 133, 80, 167, 0, 6, 78, 4, 172, 3, 172]
abbrev dktX0_stopCount_0 : List UInt8 := dkwX0_stopCount_0 ++ []
theorem dksX0_stopCount_0 : cX0_stopCount.data.toList.drop 0 = dktX0_stopCount_0 := by decide +kernel
theorem dX0_stopCount_0 : decode cX0_stopCount 0 = .ok (.aload_n 2, 1) := dk_44 (dk_at dksX0_stopCount_0 0 rfl rfl)
theorem dX0_stopCount_1 : decode cX0_stopCount 1 = .ok (.iconst 0, 1) := dk_3 (dk_at dksX0_stopCount_0 1 rfl rfl)
theorem dX0_stopCount_2 : decode cX0_stopCount 2 = .ok (.aload_n 0, 1) := dk_42 (dk_at dksX0_stopCount_0 2 rfl rfl)
theorem dX0_stopCount_3 : decode cX0_stopCount 3 = .ok (.iload_n 1, 1) := dk_27 (dk_at dksX0_stopCount_0 3 rfl rfl)
theorem dX0_stopCount_4 : decode cX0_stopCount 4 = .ok (.invokevirtual 59, 3) := dk_182 0 59 (dk_at dksX0_stopCount_0 4 rfl rfl)
theorem dX0_stopCount_7 : decode cX0_stopCount 7 = .ok (.i2l, 1) := dk_133 (dk_at dksX0_stopCount_0 7 rfl rfl)
theorem dX0_stopCount_8 : decode cX0_stopCount 8 = .ok (.lastore, 1) := dk_80 (dk_at dksX0_stopCount_0 8 rfl rfl)
theorem dX0_stopCount_9 : decode cX0_stopCount 9 = .ok (.goto 6, 3) := dk_167 0 6 (dk_at dksX0_stopCount_0 9 rfl rfl)
theorem dX0_stopCount_12 : decode cX0_stopCount 12 = .ok (.astore_n 3, 1) := dk_78 (dk_at dksX0_stopCount_0 12 rfl rfl)
theorem dX0_stopCount_13 : decode cX0_stopCount 13 = .ok (.iconst 1, 1) := dk_4 (dk_at dksX0_stopCount_0 13 rfl rfl)
theorem dX0_stopCount_14 : decode cX0_stopCount 14 = .ok (.ireturn, 1) := dk_172 (dk_at dksX0_stopCount_0 14 rfl rfl)
theorem dX0_stopCount_15 : decode cX0_stopCount 15 = .ok (.iconst 0, 1) := dk_3 (dk_at dksX0_stopCount_0 15 rfl rfl)
theorem dX0_stopCount_16 : decode cX0_stopCount 16 = .ok (.ireturn, 1) := dk_172 (dk_at dksX0_stopCount_0 16 rfl rfl)
abbrev cX0_stationAt : ByteArray := method_16_code
def yX0_stationAt : MethodName := ⟨RX0, "stationAt", "(LSleeperRailway;II[J)I"⟩
def dkwX0_stationAt_0 : List UInt8 := [45, 3, 42, 27, 28, 182, 0, 62, 133, 80, 167, 0, 7, 58, 4, 4, 172, 3, 172]
abbrev dktX0_stationAt_0 : List UInt8 := dkwX0_stationAt_0 ++ []
theorem dksX0_stationAt_0 : cX0_stationAt.data.toList.drop 0 = dktX0_stationAt_0 := by decide +kernel
theorem dX0_stationAt_0 : decode cX0_stationAt 0 = .ok (.aload_n 3, 1) := dk_45 (dk_at dksX0_stationAt_0 0 rfl rfl)
theorem dX0_stationAt_1 : decode cX0_stationAt 1 = .ok (.iconst 0, 1) := dk_3 (dk_at dksX0_stationAt_0 1 rfl rfl)
theorem dX0_stationAt_2 : decode cX0_stationAt 2 = .ok (.aload_n 0, 1) := dk_42 (dk_at dksX0_stationAt_0 2 rfl rfl)
theorem dX0_stationAt_3 : decode cX0_stationAt 3 = .ok (.iload_n 1, 1) := dk_27 (dk_at dksX0_stationAt_0 3 rfl rfl)
theorem dX0_stationAt_4 : decode cX0_stationAt 4 = .ok (.iload_n 2, 1) := dk_28 (dk_at dksX0_stationAt_0 4 rfl rfl)
theorem dX0_stationAt_5 : decode cX0_stationAt 5 = .ok (.invokevirtual 62, 3) := dk_182 0 62 (dk_at dksX0_stationAt_0 5 rfl rfl)
theorem dX0_stationAt_8 : decode cX0_stationAt 8 = .ok (.i2l, 1) := dk_133 (dk_at dksX0_stationAt_0 8 rfl rfl)
theorem dX0_stationAt_9 : decode cX0_stationAt 9 = .ok (.lastore, 1) := dk_80 (dk_at dksX0_stationAt_0 9 rfl rfl)
theorem dX0_stationAt_10 : decode cX0_stationAt 10 = .ok (.goto 7, 3) := dk_167 0 7 (dk_at dksX0_stationAt_0 10 rfl rfl)
theorem dX0_stationAt_13 : decode cX0_stationAt 13 = .ok (.astore 4, 2) := dk_58 4 (dk_at dksX0_stationAt_0 13 rfl rfl)
theorem dX0_stationAt_15 : decode cX0_stationAt 15 = .ok (.iconst 1, 1) := dk_4 (dk_at dksX0_stationAt_0 15 rfl rfl)
theorem dX0_stationAt_16 : decode cX0_stationAt 16 = .ok (.ireturn, 1) := dk_172 (dk_at dksX0_stationAt_0 16 rfl rfl)
theorem dX0_stationAt_17 : decode cX0_stationAt 17 = .ok (.iconst 0, 1) := dk_3 (dk_at dksX0_stationAt_0 17 rfl rfl)
theorem dX0_stationAt_18 : decode cX0_stationAt 18 = .ok (.ireturn, 1) := dk_172 (dk_at dksX0_stationAt_0 18 rfl rfl)
abbrev cX0_arrivalAt : ByteArray := method_17_code
def yX0_arrivalAt : MethodName := ⟨RX0, "arrivalAt", "(LSleeperRailway;II[J)I"⟩
def dkwX0_arrivalAt_0 : List UInt8 := [45, 3, 42, 27, 28, 182, 0, 65, 133, 80, 167, 0, 11, 58, 4, 4, 172, 58, 4, 5, 172, 3, 172]
abbrev dktX0_arrivalAt_0 : List UInt8 := dkwX0_arrivalAt_0 ++ []
theorem dksX0_arrivalAt_0 : cX0_arrivalAt.data.toList.drop 0 = dktX0_arrivalAt_0 := by decide +kernel
theorem dX0_arrivalAt_0 : decode cX0_arrivalAt 0 = .ok (.aload_n 3, 1) := dk_45 (dk_at dksX0_arrivalAt_0 0 rfl rfl)
theorem dX0_arrivalAt_1 : decode cX0_arrivalAt 1 = .ok (.iconst 0, 1) := dk_3 (dk_at dksX0_arrivalAt_0 1 rfl rfl)
theorem dX0_arrivalAt_2 : decode cX0_arrivalAt 2 = .ok (.aload_n 0, 1) := dk_42 (dk_at dksX0_arrivalAt_0 2 rfl rfl)
theorem dX0_arrivalAt_3 : decode cX0_arrivalAt 3 = .ok (.iload_n 1, 1) := dk_27 (dk_at dksX0_arrivalAt_0 3 rfl rfl)
theorem dX0_arrivalAt_4 : decode cX0_arrivalAt 4 = .ok (.iload_n 2, 1) := dk_28 (dk_at dksX0_arrivalAt_0 4 rfl rfl)
theorem dX0_arrivalAt_5 : decode cX0_arrivalAt 5 = .ok (.invokevirtual 65, 3) := dk_182 0 65 (dk_at dksX0_arrivalAt_0 5 rfl rfl)
theorem dX0_arrivalAt_8 : decode cX0_arrivalAt 8 = .ok (.i2l, 1) := dk_133 (dk_at dksX0_arrivalAt_0 8 rfl rfl)
theorem dX0_arrivalAt_9 : decode cX0_arrivalAt 9 = .ok (.lastore, 1) := dk_80 (dk_at dksX0_arrivalAt_0 9 rfl rfl)
theorem dX0_arrivalAt_10 : decode cX0_arrivalAt 10 = .ok (.goto 11, 3) := dk_167 0 11 (dk_at dksX0_arrivalAt_0 10 rfl rfl)
theorem dX0_arrivalAt_13 : decode cX0_arrivalAt 13 = .ok (.astore 4, 2) := dk_58 4 (dk_at dksX0_arrivalAt_0 13 rfl rfl)
theorem dX0_arrivalAt_15 : decode cX0_arrivalAt 15 = .ok (.iconst 1, 1) := dk_4 (dk_at dksX0_arrivalAt_0 15 rfl rfl)
theorem dX0_arrivalAt_16 : decode cX0_arrivalAt 16 = .ok (.ireturn, 1) := dk_172 (dk_at dksX0_arrivalAt_0 16 rfl rfl)
theorem dX0_arrivalAt_17 : decode cX0_arrivalAt 17 = .ok (.astore 4, 2) := dk_58 4 (dk_at dksX0_arrivalAt_0 17 rfl rfl)
theorem dX0_arrivalAt_19 : decode cX0_arrivalAt 19 = .ok (.iconst 2, 1) := dk_5 (dk_at dksX0_arrivalAt_0 19 rfl rfl)
theorem dX0_arrivalAt_20 : decode cX0_arrivalAt 20 = .ok (.ireturn, 1) := dk_172 (dk_at dksX0_arrivalAt_0 20 rfl rfl)
theorem dX0_arrivalAt_21 : decode cX0_arrivalAt 21 = .ok (.iconst 0, 1) := dk_3 (dk_at dksX0_arrivalAt_0 21 rfl rfl)
theorem dX0_arrivalAt_22 : decode cX0_arrivalAt 22 = .ok (.ireturn, 1) := dk_172 (dk_at dksX0_arrivalAt_0 22 rfl rfl)
abbrev cX0_departureAt : ByteArray := method_18_code
def yX0_departureAt : MethodName := ⟨RX0, "departureAt", "(LSleeperRailway;II[J)I"⟩
def dkwX0_departureAt_0 : List UInt8 := [45, 3, 42, 27, 28, 182, 0, 68, 133, 80, 167, 0, 11, 58, 4, 4, 172, 58, 4, 5, 172, 3, 172]
abbrev dktX0_departureAt_0 : List UInt8 := dkwX0_departureAt_0 ++ []
theorem dksX0_departureAt_0 : cX0_departureAt.data.toList.drop 0 = dktX0_departureAt_0 := by decide +kernel
theorem dX0_departureAt_0 : decode cX0_departureAt 0 = .ok (.aload_n 3, 1) := dk_45 (dk_at dksX0_departureAt_0 0 rfl rfl)
theorem dX0_departureAt_1 : decode cX0_departureAt 1 = .ok (.iconst 0, 1) := dk_3 (dk_at dksX0_departureAt_0 1 rfl rfl)
theorem dX0_departureAt_2 : decode cX0_departureAt 2 = .ok (.aload_n 0, 1) := dk_42 (dk_at dksX0_departureAt_0 2 rfl rfl)
theorem dX0_departureAt_3 : decode cX0_departureAt 3 = .ok (.iload_n 1, 1) := dk_27 (dk_at dksX0_departureAt_0 3 rfl rfl)
theorem dX0_departureAt_4 : decode cX0_departureAt 4 = .ok (.iload_n 2, 1) := dk_28 (dk_at dksX0_departureAt_0 4 rfl rfl)
theorem dX0_departureAt_5 : decode cX0_departureAt 5 = .ok (.invokevirtual 68, 3) := dk_182 0 68 (dk_at dksX0_departureAt_0 5 rfl rfl)
theorem dX0_departureAt_8 : decode cX0_departureAt 8 = .ok (.i2l, 1) := dk_133 (dk_at dksX0_departureAt_0 8 rfl rfl)
theorem dX0_departureAt_9 : decode cX0_departureAt 9 = .ok (.lastore, 1) := dk_80 (dk_at dksX0_departureAt_0 9 rfl rfl)
theorem dX0_departureAt_10 : decode cX0_departureAt 10 = .ok (.goto 11, 3) := dk_167 0 11 (dk_at dksX0_departureAt_0 10 rfl rfl)
theorem dX0_departureAt_13 : decode cX0_departureAt 13 = .ok (.astore 4, 2) := dk_58 4 (dk_at dksX0_departureAt_0 13 rfl rfl)
theorem dX0_departureAt_15 : decode cX0_departureAt 15 = .ok (.iconst 1, 1) := dk_4 (dk_at dksX0_departureAt_0 15 rfl rfl)
theorem dX0_departureAt_16 : decode cX0_departureAt 16 = .ok (.ireturn, 1) := dk_172 (dk_at dksX0_departureAt_0 16 rfl rfl)
theorem dX0_departureAt_17 : decode cX0_departureAt 17 = .ok (.astore 4, 2) := dk_58 4 (dk_at dksX0_departureAt_0 17 rfl rfl)
theorem dX0_departureAt_19 : decode cX0_departureAt 19 = .ok (.iconst 2, 1) := dk_5 (dk_at dksX0_departureAt_0 19 rfl rfl)
theorem dX0_departureAt_20 : decode cX0_departureAt 20 = .ok (.ireturn, 1) := dk_172 (dk_at dksX0_departureAt_0 20 rfl rfl)
theorem dX0_departureAt_21 : decode cX0_departureAt 21 = .ok (.iconst 0, 1) := dk_3 (dk_at dksX0_departureAt_0 21 rfl rfl)
theorem dX0_departureAt_22 : decode cX0_departureAt 22 = .ok (.ireturn, 1) := dk_172 (dk_at dksX0_departureAt_0 22 rfl rfl)
abbrev cX0_capacity : ByteArray := method_19_code
def yX0_capacity : MethodName := ⟨RX0, "capacity", "(LSleeperRailway;I[J)I"⟩
def dkwX0_capacity_0 : List UInt8 := [44, 3, 42, 27, 182, 0, 71, 133, 80, 167, 0, 6, 78, 4, 172, 3, 172]
abbrev dktX0_capacity_0 : List UInt8 := dkwX0_capacity_0 ++ []
theorem dksX0_capacity_0 : cX0_capacity.data.toList.drop 0 = dktX0_capacity_0 := by decide +kernel
theorem dX0_capacity_0 : decode cX0_capacity 0 = .ok (.aload_n 2, 1) := dk_44 (dk_at dksX0_capacity_0 0 rfl rfl)
theorem dX0_capacity_1 : decode cX0_capacity 1 = .ok (.iconst 0, 1) := dk_3 (dk_at dksX0_capacity_0 1 rfl rfl)
theorem dX0_capacity_2 : decode cX0_capacity 2 = .ok (.aload_n 0, 1) := dk_42 (dk_at dksX0_capacity_0 2 rfl rfl)
theorem dX0_capacity_3 : decode cX0_capacity 3 = .ok (.iload_n 1, 1) := dk_27 (dk_at dksX0_capacity_0 3 rfl rfl)
theorem dX0_capacity_4 : decode cX0_capacity 4 = .ok (.invokevirtual 71, 3) := dk_182 0 71 (dk_at dksX0_capacity_0 4 rfl rfl)
theorem dX0_capacity_7 : decode cX0_capacity 7 = .ok (.i2l, 1) := dk_133 (dk_at dksX0_capacity_0 7 rfl rfl)
theorem dX0_capacity_8 : decode cX0_capacity 8 = .ok (.lastore, 1) := dk_80 (dk_at dksX0_capacity_0 8 rfl rfl)
theorem dX0_capacity_9 : decode cX0_capacity 9 = .ok (.goto 6, 3) := dk_167 0 6 (dk_at dksX0_capacity_0 9 rfl rfl)
theorem dX0_capacity_12 : decode cX0_capacity 12 = .ok (.astore_n 3, 1) := dk_78 (dk_at dksX0_capacity_0 12 rfl rfl)
theorem dX0_capacity_13 : decode cX0_capacity 13 = .ok (.iconst 1, 1) := dk_4 (dk_at dksX0_capacity_0 13 rfl rfl)
theorem dX0_capacity_14 : decode cX0_capacity 14 = .ok (.ireturn, 1) := dk_172 (dk_at dksX0_capacity_0 14 rfl rfl)
theorem dX0_capacity_15 : decode cX0_capacity 15 = .ok (.iconst 0, 1) := dk_3 (dk_at dksX0_capacity_0 15 rfl rfl)
theorem dX0_capacity_16 : decode cX0_capacity 16 = .ok (.ireturn, 1) := dk_172 (dk_at dksX0_capacity_0 16 rfl rfl)
abbrev cX0_delayOf : ByteArray := method_20_code
def yX0_delayOf : MethodName := ⟨RX0, "delayOf", "(LSleeperRailway;I[J)I"⟩
def dkwX0_delayOf_0 : List UInt8 := [44, 3, 42, 27, 182, 0, 74, 133, 80, 167, 0, 6, 78, 4, 172, 3, 172]
abbrev dktX0_delayOf_0 : List UInt8 := dkwX0_delayOf_0 ++ []
theorem dksX0_delayOf_0 : cX0_delayOf.data.toList.drop 0 = dktX0_delayOf_0 := by decide +kernel
theorem dX0_delayOf_0 : decode cX0_delayOf 0 = .ok (.aload_n 2, 1) := dk_44 (dk_at dksX0_delayOf_0 0 rfl rfl)
theorem dX0_delayOf_1 : decode cX0_delayOf 1 = .ok (.iconst 0, 1) := dk_3 (dk_at dksX0_delayOf_0 1 rfl rfl)
theorem dX0_delayOf_2 : decode cX0_delayOf 2 = .ok (.aload_n 0, 1) := dk_42 (dk_at dksX0_delayOf_0 2 rfl rfl)
theorem dX0_delayOf_3 : decode cX0_delayOf 3 = .ok (.iload_n 1, 1) := dk_27 (dk_at dksX0_delayOf_0 3 rfl rfl)
theorem dX0_delayOf_4 : decode cX0_delayOf 4 = .ok (.invokevirtual 74, 3) := dk_182 0 74 (dk_at dksX0_delayOf_0 4 rfl rfl)
theorem dX0_delayOf_7 : decode cX0_delayOf 7 = .ok (.i2l, 1) := dk_133 (dk_at dksX0_delayOf_0 7 rfl rfl)
theorem dX0_delayOf_8 : decode cX0_delayOf 8 = .ok (.lastore, 1) := dk_80 (dk_at dksX0_delayOf_0 8 rfl rfl)
theorem dX0_delayOf_9 : decode cX0_delayOf 9 = .ok (.goto 6, 3) := dk_167 0 6 (dk_at dksX0_delayOf_0 9 rfl rfl)
theorem dX0_delayOf_12 : decode cX0_delayOf 12 = .ok (.astore_n 3, 1) := dk_78 (dk_at dksX0_delayOf_0 12 rfl rfl)
theorem dX0_delayOf_13 : decode cX0_delayOf 13 = .ok (.iconst 1, 1) := dk_4 (dk_at dksX0_delayOf_0 13 rfl rfl)
theorem dX0_delayOf_14 : decode cX0_delayOf 14 = .ok (.ireturn, 1) := dk_172 (dk_at dksX0_delayOf_0 14 rfl rfl)
theorem dX0_delayOf_15 : decode cX0_delayOf 15 = .ok (.iconst 0, 1) := dk_3 (dk_at dksX0_delayOf_0 15 rfl rfl)
theorem dX0_delayOf_16 : decode cX0_delayOf 16 = .ok (.ireturn, 1) := dk_172 (dk_at dksX0_delayOf_0 16 rfl rfl)
abbrev cX0_load : ByteArray := method_21_code
def yX0_load : MethodName := ⟨RX0, "load", "(LSleeperRailway;II[J)I"⟩
def dkwX0_load_0 : List UInt8 := [45, 3, 42, 27, 28, 182, 0, 77, 133, 80, 167, 0, 7, 58, 4, 4, 172, 3, 172]
abbrev dktX0_load_0 : List UInt8 := dkwX0_load_0 ++ []
theorem dksX0_load_0 : cX0_load.data.toList.drop 0 = dktX0_load_0 := by decide +kernel
theorem dX0_load_0 : decode cX0_load 0 = .ok (.aload_n 3, 1) := dk_45 (dk_at dksX0_load_0 0 rfl rfl)
theorem dX0_load_1 : decode cX0_load 1 = .ok (.iconst 0, 1) := dk_3 (dk_at dksX0_load_0 1 rfl rfl)
theorem dX0_load_2 : decode cX0_load 2 = .ok (.aload_n 0, 1) := dk_42 (dk_at dksX0_load_0 2 rfl rfl)
theorem dX0_load_3 : decode cX0_load 3 = .ok (.iload_n 1, 1) := dk_27 (dk_at dksX0_load_0 3 rfl rfl)
theorem dX0_load_4 : decode cX0_load 4 = .ok (.iload_n 2, 1) := dk_28 (dk_at dksX0_load_0 4 rfl rfl)
theorem dX0_load_5 : decode cX0_load 5 = .ok (.invokevirtual 77, 3) := dk_182 0 77 (dk_at dksX0_load_0 5 rfl rfl)
theorem dX0_load_8 : decode cX0_load 8 = .ok (.i2l, 1) := dk_133 (dk_at dksX0_load_0 8 rfl rfl)
theorem dX0_load_9 : decode cX0_load 9 = .ok (.lastore, 1) := dk_80 (dk_at dksX0_load_0 9 rfl rfl)
theorem dX0_load_10 : decode cX0_load 10 = .ok (.goto 7, 3) := dk_167 0 7 (dk_at dksX0_load_0 10 rfl rfl)
theorem dX0_load_13 : decode cX0_load 13 = .ok (.astore 4, 2) := dk_58 4 (dk_at dksX0_load_0 13 rfl rfl)
theorem dX0_load_15 : decode cX0_load 15 = .ok (.iconst 1, 1) := dk_4 (dk_at dksX0_load_0 15 rfl rfl)
theorem dX0_load_16 : decode cX0_load 16 = .ok (.ireturn, 1) := dk_172 (dk_at dksX0_load_0 16 rfl rfl)
theorem dX0_load_17 : decode cX0_load 17 = .ok (.iconst 0, 1) := dk_3 (dk_at dksX0_load_0 17 rfl rfl)
theorem dX0_load_18 : decode cX0_load 18 = .ok (.ireturn, 1) := dk_172 (dk_at dksX0_load_0 18 rfl rfl)
abbrev cX0_isFull : ByteArray := method_22_code
def yX0_isFull : MethodName := ⟨RX0, "isFull", "(LSleeperRailway;II[J)I"⟩
def dkwX0_isFull_1 : List UInt8 := [3, 172]
abbrev dktX0_isFull_1 : List UInt8 := dkwX0_isFull_1 ++ []
def dkwX0_isFull_0 : List UInt8 := [45, 3, 42, 27, 28, 182, 0, 80, 153, 0, 7, 10, 167, 0, 4, 9, 80, 167, 0, 7, 58, 4, 4, 172]
abbrev dktX0_isFull_0 : List UInt8 := dkwX0_isFull_0 ++ dktX0_isFull_1
theorem dksX0_isFull_0 : cX0_isFull.data.toList.drop 0 = dktX0_isFull_0 := by decide +kernel
theorem dksX0_isFull_1 : cX0_isFull.data.toList.drop 24 = dktX0_isFull_1 := dk_seg dksX0_isFull_0 24 rfl rfl
theorem dX0_isFull_0 : decode cX0_isFull 0 = .ok (.aload_n 3, 1) := dk_45 (dk_at dksX0_isFull_0 0 rfl rfl)
theorem dX0_isFull_1 : decode cX0_isFull 1 = .ok (.iconst 0, 1) := dk_3 (dk_at dksX0_isFull_0 1 rfl rfl)
theorem dX0_isFull_2 : decode cX0_isFull 2 = .ok (.aload_n 0, 1) := dk_42 (dk_at dksX0_isFull_0 2 rfl rfl)
theorem dX0_isFull_3 : decode cX0_isFull 3 = .ok (.iload_n 1, 1) := dk_27 (dk_at dksX0_isFull_0 3 rfl rfl)
theorem dX0_isFull_4 : decode cX0_isFull 4 = .ok (.iload_n 2, 1) := dk_28 (dk_at dksX0_isFull_0 4 rfl rfl)
theorem dX0_isFull_5 : decode cX0_isFull 5 = .ok (.invokevirtual 80, 3) := dk_182 0 80 (dk_at dksX0_isFull_0 5 rfl rfl)
theorem dX0_isFull_8 : decode cX0_isFull 8 = .ok (.ifCond .eq 7, 3) := dk_153 0 7 (dk_at dksX0_isFull_0 8 rfl rfl)
theorem dX0_isFull_11 : decode cX0_isFull 11 = .ok (.lconst 1, 1) := dk_10 (dk_at dksX0_isFull_0 11 rfl rfl)
theorem dX0_isFull_12 : decode cX0_isFull 12 = .ok (.goto 4, 3) := dk_167 0 4 (dk_at dksX0_isFull_0 12 rfl rfl)
theorem dX0_isFull_15 : decode cX0_isFull 15 = .ok (.lconst 0, 1) := dk_9 (dk_at dksX0_isFull_0 15 rfl rfl)
theorem dX0_isFull_16 : decode cX0_isFull 16 = .ok (.lastore, 1) := dk_80 (dk_at dksX0_isFull_0 16 rfl rfl)
theorem dX0_isFull_17 : decode cX0_isFull 17 = .ok (.goto 7, 3) := dk_167 0 7 (dk_at dksX0_isFull_0 17 rfl rfl)
theorem dX0_isFull_20 : decode cX0_isFull 20 = .ok (.astore 4, 2) := dk_58 4 (dk_at dksX0_isFull_0 20 rfl rfl)
theorem dX0_isFull_22 : decode cX0_isFull 22 = .ok (.iconst 1, 1) := dk_4 (dk_at dksX0_isFull_0 22 rfl rfl)
theorem dX0_isFull_23 : decode cX0_isFull 23 = .ok (.ireturn, 1) := dk_172 (dk_at dksX0_isFull_0 23 rfl rfl)
theorem dX0_isFull_24 : decode cX0_isFull 24 = .ok (.iconst 0, 1) := dk_3 (dk_at dksX0_isFull_1 0 rfl rfl)
theorem dX0_isFull_25 : decode cX0_isFull 25 = .ok (.ireturn, 1) := dk_172 (dk_at dksX0_isFull_1 1 rfl rfl)
abbrev cX0_canReach : ByteArray := method_23_code
def yX0_canReach : MethodName := ⟨RX0, "canReach", "(LSleeperRailway;III[J)I"⟩
def dkwX0_canReach_1 : List UInt8 := [4, 172, 58, 5, 5, 172, 3, 172]
abbrev dktX0_canReach_1 : List UInt8 := dkwX0_canReach_1 ++ []
def dkwX0_canReach_0 : List UInt8 := [25, 4, 3, 42, 27, 28, 29, 182, 0, 84, 153, 0, 7, 10, 167, 0, 4, 9, 80, 167, 0, 11, 58, 5]
abbrev dktX0_canReach_0 : List UInt8 := dkwX0_canReach_0 ++ dktX0_canReach_1
theorem dksX0_canReach_0 : cX0_canReach.data.toList.drop 0 = dktX0_canReach_0 := by decide +kernel
theorem dksX0_canReach_1 : cX0_canReach.data.toList.drop 24 = dktX0_canReach_1 := dk_seg dksX0_canReach_0 24 rfl rfl
theorem dX0_canReach_0 : decode cX0_canReach 0 = .ok (.aload 4, 2) := dk_25 4 (dk_at dksX0_canReach_0 0 rfl rfl)
theorem dX0_canReach_2 : decode cX0_canReach 2 = .ok (.iconst 0, 1) := dk_3 (dk_at dksX0_canReach_0 2 rfl rfl)
theorem dX0_canReach_3 : decode cX0_canReach 3 = .ok (.aload_n 0, 1) := dk_42 (dk_at dksX0_canReach_0 3 rfl rfl)
theorem dX0_canReach_4 : decode cX0_canReach 4 = .ok (.iload_n 1, 1) := dk_27 (dk_at dksX0_canReach_0 4 rfl rfl)
theorem dX0_canReach_5 : decode cX0_canReach 5 = .ok (.iload_n 2, 1) := dk_28 (dk_at dksX0_canReach_0 5 rfl rfl)
theorem dX0_canReach_6 : decode cX0_canReach 6 = .ok (.iload_n 3, 1) := dk_29 (dk_at dksX0_canReach_0 6 rfl rfl)
theorem dX0_canReach_7 : decode cX0_canReach 7 = .ok (.invokevirtual 84, 3) := dk_182 0 84 (dk_at dksX0_canReach_0 7 rfl rfl)
theorem dX0_canReach_10 : decode cX0_canReach 10 = .ok (.ifCond .eq 7, 3) := dk_153 0 7 (dk_at dksX0_canReach_0 10 rfl rfl)
theorem dX0_canReach_13 : decode cX0_canReach 13 = .ok (.lconst 1, 1) := dk_10 (dk_at dksX0_canReach_0 13 rfl rfl)
theorem dX0_canReach_14 : decode cX0_canReach 14 = .ok (.goto 4, 3) := dk_167 0 4 (dk_at dksX0_canReach_0 14 rfl rfl)
theorem dX0_canReach_17 : decode cX0_canReach 17 = .ok (.lconst 0, 1) := dk_9 (dk_at dksX0_canReach_0 17 rfl rfl)
theorem dX0_canReach_18 : decode cX0_canReach 18 = .ok (.lastore, 1) := dk_80 (dk_at dksX0_canReach_0 18 rfl rfl)
theorem dX0_canReach_19 : decode cX0_canReach 19 = .ok (.goto 11, 3) := dk_167 0 11 (dk_at dksX0_canReach_0 19 rfl rfl)
theorem dX0_canReach_22 : decode cX0_canReach 22 = .ok (.astore 5, 2) := dk_58 5 (dk_at dksX0_canReach_0 22 rfl rfl)
theorem dX0_canReach_24 : decode cX0_canReach 24 = .ok (.iconst 1, 1) := dk_4 (dk_at dksX0_canReach_1 0 rfl rfl)
theorem dX0_canReach_25 : decode cX0_canReach 25 = .ok (.ireturn, 1) := dk_172 (dk_at dksX0_canReach_1 1 rfl rfl)
theorem dX0_canReach_26 : decode cX0_canReach 26 = .ok (.astore 5, 2) := dk_58 5 (dk_at dksX0_canReach_1 2 rfl rfl)
theorem dX0_canReach_28 : decode cX0_canReach 28 = .ok (.iconst 2, 1) := dk_5 (dk_at dksX0_canReach_1 4 rfl rfl)
theorem dX0_canReach_29 : decode cX0_canReach 29 = .ok (.ireturn, 1) := dk_172 (dk_at dksX0_canReach_1 5 rfl rfl)
theorem dX0_canReach_30 : decode cX0_canReach 30 = .ok (.iconst 0, 1) := dk_3 (dk_at dksX0_canReach_1 6 rfl rfl)
theorem dX0_canReach_31 : decode cX0_canReach 31 = .ok (.ireturn, 1) := dk_172 (dk_at dksX0_canReach_1 7 rfl rfl)
abbrev cX0_arrival : ByteArray := method_24_code
def yX0_arrival : MethodName := ⟨RX0, "arrival", "(LSleeperRailway;III[J)I"⟩
def dkwX0_arrival_1 : List UInt8 := [58, 5, 6, 172, 3, 172]
abbrev dktX0_arrival_1 : List UInt8 := dkwX0_arrival_1 ++ []
def dkwX0_arrival_0 : List UInt8 := [25, 4, 3, 42, 27, 28, 29, 182, 0, 88, 133, 80, 167, 0, 15, 58, 5, 4, 172, 58, 5, 5, 172]
abbrev dktX0_arrival_0 : List UInt8 := dkwX0_arrival_0 ++ dktX0_arrival_1
theorem dksX0_arrival_0 : cX0_arrival.data.toList.drop 0 = dktX0_arrival_0 := by decide +kernel
theorem dksX0_arrival_1 : cX0_arrival.data.toList.drop 23 = dktX0_arrival_1 := dk_seg dksX0_arrival_0 23 rfl rfl
theorem dX0_arrival_0 : decode cX0_arrival 0 = .ok (.aload 4, 2) := dk_25 4 (dk_at dksX0_arrival_0 0 rfl rfl)
theorem dX0_arrival_2 : decode cX0_arrival 2 = .ok (.iconst 0, 1) := dk_3 (dk_at dksX0_arrival_0 2 rfl rfl)
theorem dX0_arrival_3 : decode cX0_arrival 3 = .ok (.aload_n 0, 1) := dk_42 (dk_at dksX0_arrival_0 3 rfl rfl)
theorem dX0_arrival_4 : decode cX0_arrival 4 = .ok (.iload_n 1, 1) := dk_27 (dk_at dksX0_arrival_0 4 rfl rfl)
theorem dX0_arrival_5 : decode cX0_arrival 5 = .ok (.iload_n 2, 1) := dk_28 (dk_at dksX0_arrival_0 5 rfl rfl)
theorem dX0_arrival_6 : decode cX0_arrival 6 = .ok (.iload_n 3, 1) := dk_29 (dk_at dksX0_arrival_0 6 rfl rfl)
theorem dX0_arrival_7 : decode cX0_arrival 7 = .ok (.invokevirtual 88, 3) := dk_182 0 88 (dk_at dksX0_arrival_0 7 rfl rfl)
theorem dX0_arrival_10 : decode cX0_arrival 10 = .ok (.i2l, 1) := dk_133 (dk_at dksX0_arrival_0 10 rfl rfl)
theorem dX0_arrival_11 : decode cX0_arrival 11 = .ok (.lastore, 1) := dk_80 (dk_at dksX0_arrival_0 11 rfl rfl)
theorem dX0_arrival_12 : decode cX0_arrival 12 = .ok (.goto 15, 3) := dk_167 0 15 (dk_at dksX0_arrival_0 12 rfl rfl)
theorem dX0_arrival_15 : decode cX0_arrival 15 = .ok (.astore 5, 2) := dk_58 5 (dk_at dksX0_arrival_0 15 rfl rfl)
theorem dX0_arrival_17 : decode cX0_arrival 17 = .ok (.iconst 1, 1) := dk_4 (dk_at dksX0_arrival_0 17 rfl rfl)
theorem dX0_arrival_18 : decode cX0_arrival 18 = .ok (.ireturn, 1) := dk_172 (dk_at dksX0_arrival_0 18 rfl rfl)
theorem dX0_arrival_19 : decode cX0_arrival 19 = .ok (.astore 5, 2) := dk_58 5 (dk_at dksX0_arrival_0 19 rfl rfl)
theorem dX0_arrival_21 : decode cX0_arrival 21 = .ok (.iconst 2, 1) := dk_5 (dk_at dksX0_arrival_0 21 rfl rfl)
theorem dX0_arrival_22 : decode cX0_arrival 22 = .ok (.ireturn, 1) := dk_172 (dk_at dksX0_arrival_0 22 rfl rfl)
theorem dX0_arrival_23 : decode cX0_arrival 23 = .ok (.astore 5, 2) := dk_58 5 (dk_at dksX0_arrival_1 0 rfl rfl)
theorem dX0_arrival_25 : decode cX0_arrival 25 = .ok (.iconst 3, 1) := dk_6 (dk_at dksX0_arrival_1 2 rfl rfl)
theorem dX0_arrival_26 : decode cX0_arrival 26 = .ok (.ireturn, 1) := dk_172 (dk_at dksX0_arrival_1 3 rfl rfl)
theorem dX0_arrival_27 : decode cX0_arrival 27 = .ok (.iconst 0, 1) := dk_3 (dk_at dksX0_arrival_1 4 rfl rfl)
theorem dX0_arrival_28 : decode cX0_arrival 28 = .ok (.ireturn, 1) := dk_172 (dk_at dksX0_arrival_1 5 rfl rfl)
abbrev cX0_arrivalByScanning : ByteArray := method_25_code
def yX0_arrivalByScanning : MethodName := ⟨RX0, "arrivalByScanning", "(LSleeperRailway;III[J)I"⟩
def dkwX0_arrivalByScanning_1 : List UInt8 := [58, 5, 6, 172, 3, 172]
abbrev dktX0_arrivalByScanning_1 : List UInt8 := dkwX0_arrivalByScanning_1 ++ []
def dkwX0_arrivalByScanning_0 : List UInt8 := [25, 4, 3, 42, 27, 28, 29, 182, 0, 91, 133, 80, 167, 0, 15, 58, 5, 4, 172, 58, 5, 5, 172]
abbrev dktX0_arrivalByScanning_0 : List UInt8 := dkwX0_arrivalByScanning_0 ++ dktX0_arrivalByScanning_1
theorem dksX0_arrivalByScanning_0 : cX0_arrivalByScanning.data.toList.drop 0 = dktX0_arrivalByScanning_0 := by decide +kernel
theorem dksX0_arrivalByScanning_1 : cX0_arrivalByScanning.data.toList.drop 23 = dktX0_arrivalByScanning_1 := dk_seg dksX0_arrivalByScanning_0 23 rfl rfl
theorem dX0_arrivalByScanning_0 : decode cX0_arrivalByScanning 0 = .ok (.aload 4, 2) := dk_25 4 (dk_at dksX0_arrivalByScanning_0 0 rfl rfl)
theorem dX0_arrivalByScanning_2 : decode cX0_arrivalByScanning 2 = .ok (.iconst 0, 1) := dk_3 (dk_at dksX0_arrivalByScanning_0 2 rfl rfl)
theorem dX0_arrivalByScanning_3 : decode cX0_arrivalByScanning 3 = .ok (.aload_n 0, 1) := dk_42 (dk_at dksX0_arrivalByScanning_0 3 rfl rfl)
theorem dX0_arrivalByScanning_4 : decode cX0_arrivalByScanning 4 = .ok (.iload_n 1, 1) := dk_27 (dk_at dksX0_arrivalByScanning_0 4 rfl rfl)
theorem dX0_arrivalByScanning_5 : decode cX0_arrivalByScanning 5 = .ok (.iload_n 2, 1) := dk_28 (dk_at dksX0_arrivalByScanning_0 5 rfl rfl)
theorem dX0_arrivalByScanning_6 : decode cX0_arrivalByScanning 6 = .ok (.iload_n 3, 1) := dk_29 (dk_at dksX0_arrivalByScanning_0 6 rfl rfl)
theorem dX0_arrivalByScanning_7 : decode cX0_arrivalByScanning 7 = .ok (.invokevirtual 91, 3) := dk_182 0 91 (dk_at dksX0_arrivalByScanning_0 7 rfl rfl)
theorem dX0_arrivalByScanning_10 : decode cX0_arrivalByScanning 10 = .ok (.i2l, 1) := dk_133 (dk_at dksX0_arrivalByScanning_0 10 rfl rfl)
theorem dX0_arrivalByScanning_11 : decode cX0_arrivalByScanning 11 = .ok (.lastore, 1) := dk_80 (dk_at dksX0_arrivalByScanning_0 11 rfl rfl)
theorem dX0_arrivalByScanning_12 : decode cX0_arrivalByScanning 12 = .ok (.goto 15, 3) := dk_167 0 15 (dk_at dksX0_arrivalByScanning_0 12 rfl rfl)
theorem dX0_arrivalByScanning_15 : decode cX0_arrivalByScanning 15 = .ok (.astore 5, 2) := dk_58 5 (dk_at dksX0_arrivalByScanning_0 15 rfl rfl)
theorem dX0_arrivalByScanning_17 : decode cX0_arrivalByScanning 17 = .ok (.iconst 1, 1) := dk_4 (dk_at dksX0_arrivalByScanning_0 17 rfl rfl)
theorem dX0_arrivalByScanning_18 : decode cX0_arrivalByScanning 18 = .ok (.ireturn, 1) := dk_172 (dk_at dksX0_arrivalByScanning_0 18 rfl rfl)
theorem dX0_arrivalByScanning_19 : decode cX0_arrivalByScanning 19 = .ok (.astore 5, 2) := dk_58 5 (dk_at dksX0_arrivalByScanning_0 19 rfl rfl)
theorem dX0_arrivalByScanning_21 : decode cX0_arrivalByScanning 21 = .ok (.iconst 2, 1) := dk_5 (dk_at dksX0_arrivalByScanning_0 21 rfl rfl)
theorem dX0_arrivalByScanning_22 : decode cX0_arrivalByScanning 22 = .ok (.ireturn, 1) := dk_172 (dk_at dksX0_arrivalByScanning_0 22 rfl rfl)
theorem dX0_arrivalByScanning_23 : decode cX0_arrivalByScanning 23 = .ok (.astore 5, 2) := dk_58 5 (dk_at dksX0_arrivalByScanning_1 0 rfl rfl)
theorem dX0_arrivalByScanning_25 : decode cX0_arrivalByScanning 25 = .ok (.iconst 3, 1) := dk_6 (dk_at dksX0_arrivalByScanning_1 2 rfl rfl)
theorem dX0_arrivalByScanning_26 : decode cX0_arrivalByScanning 26 = .ok (.ireturn, 1) := dk_172 (dk_at dksX0_arrivalByScanning_1 3 rfl rfl)
theorem dX0_arrivalByScanning_27 : decode cX0_arrivalByScanning 27 = .ok (.iconst 0, 1) := dk_3 (dk_at dksX0_arrivalByScanning_1 4 rfl rfl)
theorem dX0_arrivalByScanning_28 : decode cX0_arrivalByScanning 28 = .ok (.ireturn, 1) := dk_172 (dk_at dksX0_arrivalByScanning_1 5 rfl rfl)
abbrev cX0_boardings : ByteArray := method_26_code
def yX0_boardings : MethodName := ⟨RX0, "boardings", "(LSleeperRailway;III[J)I"⟩
def dkwX0_boardings_1 : List UInt8 := [58, 5, 6, 172, 3, 172]
abbrev dktX0_boardings_1 : List UInt8 := dkwX0_boardings_1 ++ []
def dkwX0_boardings_0 : List UInt8 := [25, 4, 3, 42, 27, 28, 29, 182, 0, 94, 133, 80, 167, 0, 15, 58, 5, 4, 172, 58, 5, 5, 172]
abbrev dktX0_boardings_0 : List UInt8 := dkwX0_boardings_0 ++ dktX0_boardings_1
theorem dksX0_boardings_0 : cX0_boardings.data.toList.drop 0 = dktX0_boardings_0 := by decide +kernel
theorem dksX0_boardings_1 : cX0_boardings.data.toList.drop 23 = dktX0_boardings_1 := dk_seg dksX0_boardings_0 23 rfl rfl
theorem dX0_boardings_0 : decode cX0_boardings 0 = .ok (.aload 4, 2) := dk_25 4 (dk_at dksX0_boardings_0 0 rfl rfl)
theorem dX0_boardings_2 : decode cX0_boardings 2 = .ok (.iconst 0, 1) := dk_3 (dk_at dksX0_boardings_0 2 rfl rfl)
theorem dX0_boardings_3 : decode cX0_boardings 3 = .ok (.aload_n 0, 1) := dk_42 (dk_at dksX0_boardings_0 3 rfl rfl)
theorem dX0_boardings_4 : decode cX0_boardings 4 = .ok (.iload_n 1, 1) := dk_27 (dk_at dksX0_boardings_0 4 rfl rfl)
theorem dX0_boardings_5 : decode cX0_boardings 5 = .ok (.iload_n 2, 1) := dk_28 (dk_at dksX0_boardings_0 5 rfl rfl)
theorem dX0_boardings_6 : decode cX0_boardings 6 = .ok (.iload_n 3, 1) := dk_29 (dk_at dksX0_boardings_0 6 rfl rfl)
theorem dX0_boardings_7 : decode cX0_boardings 7 = .ok (.invokevirtual 94, 3) := dk_182 0 94 (dk_at dksX0_boardings_0 7 rfl rfl)
theorem dX0_boardings_10 : decode cX0_boardings 10 = .ok (.i2l, 1) := dk_133 (dk_at dksX0_boardings_0 10 rfl rfl)
theorem dX0_boardings_11 : decode cX0_boardings 11 = .ok (.lastore, 1) := dk_80 (dk_at dksX0_boardings_0 11 rfl rfl)
theorem dX0_boardings_12 : decode cX0_boardings 12 = .ok (.goto 15, 3) := dk_167 0 15 (dk_at dksX0_boardings_0 12 rfl rfl)
theorem dX0_boardings_15 : decode cX0_boardings 15 = .ok (.astore 5, 2) := dk_58 5 (dk_at dksX0_boardings_0 15 rfl rfl)
theorem dX0_boardings_17 : decode cX0_boardings 17 = .ok (.iconst 1, 1) := dk_4 (dk_at dksX0_boardings_0 17 rfl rfl)
theorem dX0_boardings_18 : decode cX0_boardings 18 = .ok (.ireturn, 1) := dk_172 (dk_at dksX0_boardings_0 18 rfl rfl)
theorem dX0_boardings_19 : decode cX0_boardings 19 = .ok (.astore 5, 2) := dk_58 5 (dk_at dksX0_boardings_0 19 rfl rfl)
theorem dX0_boardings_21 : decode cX0_boardings 21 = .ok (.iconst 2, 1) := dk_5 (dk_at dksX0_boardings_0 21 rfl rfl)
theorem dX0_boardings_22 : decode cX0_boardings 22 = .ok (.ireturn, 1) := dk_172 (dk_at dksX0_boardings_0 22 rfl rfl)
theorem dX0_boardings_23 : decode cX0_boardings 23 = .ok (.astore 5, 2) := dk_58 5 (dk_at dksX0_boardings_1 0 rfl rfl)
theorem dX0_boardings_25 : decode cX0_boardings 25 = .ok (.iconst 3, 1) := dk_6 (dk_at dksX0_boardings_1 2 rfl rfl)
theorem dX0_boardings_26 : decode cX0_boardings 26 = .ok (.ireturn, 1) := dk_172 (dk_at dksX0_boardings_1 3 rfl rfl)
theorem dX0_boardings_27 : decode cX0_boardings 27 = .ok (.iconst 0, 1) := dk_3 (dk_at dksX0_boardings_1 4 rfl rfl)
theorem dX0_boardings_28 : decode cX0_boardings 28 = .ok (.ireturn, 1) := dk_172 (dk_at dksX0_boardings_1 5 rfl rfl)
abbrev cX0_suitcaseAt : ByteArray := method_27_code
def yX0_suitcaseAt : MethodName := ⟨RX0, "suitcaseAt", "(LSleeperRailway;I[J)I"⟩
def dkwX0_suitcaseAt_0 : List UInt8 := [44, 3, 42, 27, 182, 0, 97, 133, 80, 167, 0, 6, 78, 4, 172, 3, 172]
abbrev dktX0_suitcaseAt_0 : List UInt8 := dkwX0_suitcaseAt_0 ++ []
theorem dksX0_suitcaseAt_0 : cX0_suitcaseAt.data.toList.drop 0 = dktX0_suitcaseAt_0 := by decide +kernel
theorem dX0_suitcaseAt_0 : decode cX0_suitcaseAt 0 = .ok (.aload_n 2, 1) := dk_44 (dk_at dksX0_suitcaseAt_0 0 rfl rfl)
theorem dX0_suitcaseAt_1 : decode cX0_suitcaseAt 1 = .ok (.iconst 0, 1) := dk_3 (dk_at dksX0_suitcaseAt_0 1 rfl rfl)
theorem dX0_suitcaseAt_2 : decode cX0_suitcaseAt 2 = .ok (.aload_n 0, 1) := dk_42 (dk_at dksX0_suitcaseAt_0 2 rfl rfl)
theorem dX0_suitcaseAt_3 : decode cX0_suitcaseAt 3 = .ok (.iload_n 1, 1) := dk_27 (dk_at dksX0_suitcaseAt_0 3 rfl rfl)
theorem dX0_suitcaseAt_4 : decode cX0_suitcaseAt 4 = .ok (.invokevirtual 97, 3) := dk_182 0 97 (dk_at dksX0_suitcaseAt_0 4 rfl rfl)
theorem dX0_suitcaseAt_7 : decode cX0_suitcaseAt 7 = .ok (.i2l, 1) := dk_133 (dk_at dksX0_suitcaseAt_0 7 rfl rfl)
theorem dX0_suitcaseAt_8 : decode cX0_suitcaseAt 8 = .ok (.lastore, 1) := dk_80 (dk_at dksX0_suitcaseAt_0 8 rfl rfl)
theorem dX0_suitcaseAt_9 : decode cX0_suitcaseAt 9 = .ok (.goto 6, 3) := dk_167 0 6 (dk_at dksX0_suitcaseAt_0 9 rfl rfl)
theorem dX0_suitcaseAt_12 : decode cX0_suitcaseAt 12 = .ok (.astore_n 3, 1) := dk_78 (dk_at dksX0_suitcaseAt_0 12 rfl rfl)
theorem dX0_suitcaseAt_13 : decode cX0_suitcaseAt 13 = .ok (.iconst 1, 1) := dk_4 (dk_at dksX0_suitcaseAt_0 13 rfl rfl)
theorem dX0_suitcaseAt_14 : decode cX0_suitcaseAt 14 = .ok (.ireturn, 1) := dk_172 (dk_at dksX0_suitcaseAt_0 14 rfl rfl)
theorem dX0_suitcaseAt_15 : decode cX0_suitcaseAt 15 = .ok (.iconst 0, 1) := dk_3 (dk_at dksX0_suitcaseAt_0 15 rfl rfl)
theorem dX0_suitcaseAt_16 : decode cX0_suitcaseAt 16 = .ok (.ireturn, 1) := dk_172 (dk_at dksX0_suitcaseAt_0 16 rfl rfl)
abbrev cX0_stationOf : ByteArray := method_28_code
def yX0_stationOf : MethodName := ⟨RX0, "stationOf", "(LSleeperRailway;I[J)I"⟩
def dkwX0_stationOf_0 : List UInt8 := [44, 3, 42, 27, 182, 0, 100, 133, 80, 167, 0, 6, 78, 4, 172, 3, 172]
abbrev dktX0_stationOf_0 : List UInt8 := dkwX0_stationOf_0 ++ []
theorem dksX0_stationOf_0 : cX0_stationOf.data.toList.drop 0 = dktX0_stationOf_0 := by decide +kernel
theorem dX0_stationOf_0 : decode cX0_stationOf 0 = .ok (.aload_n 2, 1) := dk_44 (dk_at dksX0_stationOf_0 0 rfl rfl)
theorem dX0_stationOf_1 : decode cX0_stationOf 1 = .ok (.iconst 0, 1) := dk_3 (dk_at dksX0_stationOf_0 1 rfl rfl)
theorem dX0_stationOf_2 : decode cX0_stationOf 2 = .ok (.aload_n 0, 1) := dk_42 (dk_at dksX0_stationOf_0 2 rfl rfl)
theorem dX0_stationOf_3 : decode cX0_stationOf 3 = .ok (.iload_n 1, 1) := dk_27 (dk_at dksX0_stationOf_0 3 rfl rfl)
theorem dX0_stationOf_4 : decode cX0_stationOf 4 = .ok (.invokevirtual 100, 3) := dk_182 0 100 (dk_at dksX0_stationOf_0 4 rfl rfl)
theorem dX0_stationOf_7 : decode cX0_stationOf 7 = .ok (.i2l, 1) := dk_133 (dk_at dksX0_stationOf_0 7 rfl rfl)
theorem dX0_stationOf_8 : decode cX0_stationOf 8 = .ok (.lastore, 1) := dk_80 (dk_at dksX0_stationOf_0 8 rfl rfl)
theorem dX0_stationOf_9 : decode cX0_stationOf 9 = .ok (.goto 6, 3) := dk_167 0 6 (dk_at dksX0_stationOf_0 9 rfl rfl)
theorem dX0_stationOf_12 : decode cX0_stationOf 12 = .ok (.astore_n 3, 1) := dk_78 (dk_at dksX0_stationOf_0 12 rfl rfl)
theorem dX0_stationOf_13 : decode cX0_stationOf 13 = .ok (.iconst 1, 1) := dk_4 (dk_at dksX0_stationOf_0 13 rfl rfl)
theorem dX0_stationOf_14 : decode cX0_stationOf 14 = .ok (.ireturn, 1) := dk_172 (dk_at dksX0_stationOf_0 14 rfl rfl)
theorem dX0_stationOf_15 : decode cX0_stationOf 15 = .ok (.iconst 0, 1) := dk_3 (dk_at dksX0_stationOf_0 15 rfl rfl)
theorem dX0_stationOf_16 : decode cX0_stationOf 16 = .ok (.ireturn, 1) := dk_172 (dk_at dksX0_stationOf_0 16 rfl rfl)
abbrev cX0_destinationOf : ByteArray := method_29_code
def yX0_destinationOf : MethodName := ⟨RX0, "destinationOf", "(LSleeperRailway;I[J)I"⟩
def dkwX0_destinationOf_0 : List UInt8 := [44, 3, 42, 27, 182, 0, 103, 133, 80, 167, 0, 6, 78, 4, 172, 3, 172]
abbrev dktX0_destinationOf_0 : List UInt8 := dkwX0_destinationOf_0 ++ []
theorem dksX0_destinationOf_0 : cX0_destinationOf.data.toList.drop 0 = dktX0_destinationOf_0 := by decide +kernel
theorem dX0_destinationOf_0 : decode cX0_destinationOf 0 = .ok (.aload_n 2, 1) := dk_44 (dk_at dksX0_destinationOf_0 0 rfl rfl)
theorem dX0_destinationOf_1 : decode cX0_destinationOf 1 = .ok (.iconst 0, 1) := dk_3 (dk_at dksX0_destinationOf_0 1 rfl rfl)
theorem dX0_destinationOf_2 : decode cX0_destinationOf 2 = .ok (.aload_n 0, 1) := dk_42 (dk_at dksX0_destinationOf_0 2 rfl rfl)
theorem dX0_destinationOf_3 : decode cX0_destinationOf 3 = .ok (.iload_n 1, 1) := dk_27 (dk_at dksX0_destinationOf_0 3 rfl rfl)
theorem dX0_destinationOf_4 : decode cX0_destinationOf 4 = .ok (.invokevirtual 103, 3) := dk_182 0 103 (dk_at dksX0_destinationOf_0 4 rfl rfl)
theorem dX0_destinationOf_7 : decode cX0_destinationOf 7 = .ok (.i2l, 1) := dk_133 (dk_at dksX0_destinationOf_0 7 rfl rfl)
theorem dX0_destinationOf_8 : decode cX0_destinationOf 8 = .ok (.lastore, 1) := dk_80 (dk_at dksX0_destinationOf_0 8 rfl rfl)
theorem dX0_destinationOf_9 : decode cX0_destinationOf 9 = .ok (.goto 6, 3) := dk_167 0 6 (dk_at dksX0_destinationOf_0 9 rfl rfl)
theorem dX0_destinationOf_12 : decode cX0_destinationOf 12 = .ok (.astore_n 3, 1) := dk_78 (dk_at dksX0_destinationOf_0 12 rfl rfl)
theorem dX0_destinationOf_13 : decode cX0_destinationOf 13 = .ok (.iconst 1, 1) := dk_4 (dk_at dksX0_destinationOf_0 13 rfl rfl)
theorem dX0_destinationOf_14 : decode cX0_destinationOf 14 = .ok (.ireturn, 1) := dk_172 (dk_at dksX0_destinationOf_0 14 rfl rfl)
theorem dX0_destinationOf_15 : decode cX0_destinationOf 15 = .ok (.iconst 0, 1) := dk_3 (dk_at dksX0_destinationOf_0 15 rfl rfl)
theorem dX0_destinationOf_16 : decode cX0_destinationOf 16 = .ok (.ireturn, 1) := dk_172 (dk_at dksX0_destinationOf_0 16 rfl rfl)
abbrev cX0_readyAt : ByteArray := method_30_code
def yX0_readyAt : MethodName := ⟨RX0, "readyAt", "(LSleeperRailway;I[J)I"⟩
def dkwX0_readyAt_0 : List UInt8 := [44, 3, 42, 27, 182, 0, 106, 133, 80, 167, 0, 6, 78, 4, 172, 3, 172]
abbrev dktX0_readyAt_0 : List UInt8 := dkwX0_readyAt_0 ++ []
theorem dksX0_readyAt_0 : cX0_readyAt.data.toList.drop 0 = dktX0_readyAt_0 := by decide +kernel
theorem dX0_readyAt_0 : decode cX0_readyAt 0 = .ok (.aload_n 2, 1) := dk_44 (dk_at dksX0_readyAt_0 0 rfl rfl)
theorem dX0_readyAt_1 : decode cX0_readyAt 1 = .ok (.iconst 0, 1) := dk_3 (dk_at dksX0_readyAt_0 1 rfl rfl)
theorem dX0_readyAt_2 : decode cX0_readyAt 2 = .ok (.aload_n 0, 1) := dk_42 (dk_at dksX0_readyAt_0 2 rfl rfl)
theorem dX0_readyAt_3 : decode cX0_readyAt 3 = .ok (.iload_n 1, 1) := dk_27 (dk_at dksX0_readyAt_0 3 rfl rfl)
theorem dX0_readyAt_4 : decode cX0_readyAt 4 = .ok (.invokevirtual 106, 3) := dk_182 0 106 (dk_at dksX0_readyAt_0 4 rfl rfl)
theorem dX0_readyAt_7 : decode cX0_readyAt 7 = .ok (.i2l, 1) := dk_133 (dk_at dksX0_readyAt_0 7 rfl rfl)
theorem dX0_readyAt_8 : decode cX0_readyAt 8 = .ok (.lastore, 1) := dk_80 (dk_at dksX0_readyAt_0 8 rfl rfl)
theorem dX0_readyAt_9 : decode cX0_readyAt 9 = .ok (.goto 6, 3) := dk_167 0 6 (dk_at dksX0_readyAt_0 9 rfl rfl)
theorem dX0_readyAt_12 : decode cX0_readyAt 12 = .ok (.astore_n 3, 1) := dk_78 (dk_at dksX0_readyAt_0 12 rfl rfl)
theorem dX0_readyAt_13 : decode cX0_readyAt 13 = .ok (.iconst 1, 1) := dk_4 (dk_at dksX0_readyAt_0 13 rfl rfl)
theorem dX0_readyAt_14 : decode cX0_readyAt 14 = .ok (.ireturn, 1) := dk_172 (dk_at dksX0_readyAt_0 14 rfl rfl)
theorem dX0_readyAt_15 : decode cX0_readyAt 15 = .ok (.iconst 0, 1) := dk_3 (dk_at dksX0_readyAt_0 15 rfl rfl)
theorem dX0_readyAt_16 : decode cX0_readyAt 16 = .ok (.ireturn, 1) := dk_172 (dk_at dksX0_readyAt_0 16 rfl rfl)
abbrev cX0_isThere : ByteArray := method_31_code
def yX0_isThere : MethodName := ⟨RX0, "isThere", "(LSleeperRailway;I[J)I"⟩
def dkwX0_isThere_0 : List UInt8 := [44, 3, 42, 27, 182, 0, 109, 153, 0, 7, 10, 167, 0, 4, 9, 80, 167, 0, 6, 78, 4, 172, 3, 172]
abbrev dktX0_isThere_0 : List UInt8 := dkwX0_isThere_0 ++ []
theorem dksX0_isThere_0 : cX0_isThere.data.toList.drop 0 = dktX0_isThere_0 := by decide +kernel
theorem dX0_isThere_0 : decode cX0_isThere 0 = .ok (.aload_n 2, 1) := dk_44 (dk_at dksX0_isThere_0 0 rfl rfl)
theorem dX0_isThere_1 : decode cX0_isThere 1 = .ok (.iconst 0, 1) := dk_3 (dk_at dksX0_isThere_0 1 rfl rfl)
theorem dX0_isThere_2 : decode cX0_isThere 2 = .ok (.aload_n 0, 1) := dk_42 (dk_at dksX0_isThere_0 2 rfl rfl)
theorem dX0_isThere_3 : decode cX0_isThere 3 = .ok (.iload_n 1, 1) := dk_27 (dk_at dksX0_isThere_0 3 rfl rfl)
theorem dX0_isThere_4 : decode cX0_isThere 4 = .ok (.invokevirtual 109, 3) := dk_182 0 109 (dk_at dksX0_isThere_0 4 rfl rfl)
theorem dX0_isThere_7 : decode cX0_isThere 7 = .ok (.ifCond .eq 7, 3) := dk_153 0 7 (dk_at dksX0_isThere_0 7 rfl rfl)
theorem dX0_isThere_10 : decode cX0_isThere 10 = .ok (.lconst 1, 1) := dk_10 (dk_at dksX0_isThere_0 10 rfl rfl)
theorem dX0_isThere_11 : decode cX0_isThere 11 = .ok (.goto 4, 3) := dk_167 0 4 (dk_at dksX0_isThere_0 11 rfl rfl)
theorem dX0_isThere_14 : decode cX0_isThere 14 = .ok (.lconst 0, 1) := dk_9 (dk_at dksX0_isThere_0 14 rfl rfl)
theorem dX0_isThere_15 : decode cX0_isThere 15 = .ok (.lastore, 1) := dk_80 (dk_at dksX0_isThere_0 15 rfl rfl)
theorem dX0_isThere_16 : decode cX0_isThere 16 = .ok (.goto 6, 3) := dk_167 0 6 (dk_at dksX0_isThere_0 16 rfl rfl)
theorem dX0_isThere_19 : decode cX0_isThere 19 = .ok (.astore_n 3, 1) := dk_78 (dk_at dksX0_isThere_0 19 rfl rfl)
theorem dX0_isThere_20 : decode cX0_isThere 20 = .ok (.iconst 1, 1) := dk_4 (dk_at dksX0_isThere_0 20 rfl rfl)
theorem dX0_isThere_21 : decode cX0_isThere 21 = .ok (.ireturn, 1) := dk_172 (dk_at dksX0_isThere_0 21 rfl rfl)
theorem dX0_isThere_22 : decode cX0_isThere 22 = .ok (.iconst 0, 1) := dk_3 (dk_at dksX0_isThere_0 22 rfl rfl)
theorem dX0_isThere_23 : decode cX0_isThere 23 = .ok (.ireturn, 1) := dk_172 (dk_at dksX0_isThere_0 23 rfl rfl)
abbrev cX0_suitcaseByReady : ByteArray := method_32_code
def yX0_suitcaseByReady : MethodName := ⟨RX0, "suitcaseByReady", "(LSleeperRailway;I[J)I"⟩
def dkwX0_suitcaseByReady_0 : List UInt8 := [44, 3, 42, 27, 182, 0, 113, 133, 80, 167, 0, 6, 78, 4, 172, 3, 172]
abbrev dktX0_suitcaseByReady_0 : List UInt8 := dkwX0_suitcaseByReady_0 ++ []
theorem dksX0_suitcaseByReady_0 : cX0_suitcaseByReady.data.toList.drop 0 = dktX0_suitcaseByReady_0 := by decide +kernel
theorem dX0_suitcaseByReady_0 : decode cX0_suitcaseByReady 0 = .ok (.aload_n 2, 1) := dk_44 (dk_at dksX0_suitcaseByReady_0 0 rfl rfl)
theorem dX0_suitcaseByReady_1 : decode cX0_suitcaseByReady 1 = .ok (.iconst 0, 1) := dk_3 (dk_at dksX0_suitcaseByReady_0 1 rfl rfl)
theorem dX0_suitcaseByReady_2 : decode cX0_suitcaseByReady 2 = .ok (.aload_n 0, 1) := dk_42 (dk_at dksX0_suitcaseByReady_0 2 rfl rfl)
theorem dX0_suitcaseByReady_3 : decode cX0_suitcaseByReady 3 = .ok (.iload_n 1, 1) := dk_27 (dk_at dksX0_suitcaseByReady_0 3 rfl rfl)
theorem dX0_suitcaseByReady_4 : decode cX0_suitcaseByReady 4 = .ok (.invokevirtual 113, 3) := dk_182 0 113 (dk_at dksX0_suitcaseByReady_0 4 rfl rfl)
theorem dX0_suitcaseByReady_7 : decode cX0_suitcaseByReady 7 = .ok (.i2l, 1) := dk_133 (dk_at dksX0_suitcaseByReady_0 7 rfl rfl)
theorem dX0_suitcaseByReady_8 : decode cX0_suitcaseByReady 8 = .ok (.lastore, 1) := dk_80 (dk_at dksX0_suitcaseByReady_0 8 rfl rfl)
theorem dX0_suitcaseByReady_9 : decode cX0_suitcaseByReady 9 = .ok (.goto 6, 3) := dk_167 0 6 (dk_at dksX0_suitcaseByReady_0 9 rfl rfl)
theorem dX0_suitcaseByReady_12 : decode cX0_suitcaseByReady 12 = .ok (.astore_n 3, 1) := dk_78 (dk_at dksX0_suitcaseByReady_0 12 rfl rfl)
theorem dX0_suitcaseByReady_13 : decode cX0_suitcaseByReady 13 = .ok (.iconst 1, 1) := dk_4 (dk_at dksX0_suitcaseByReady_0 13 rfl rfl)
theorem dX0_suitcaseByReady_14 : decode cX0_suitcaseByReady 14 = .ok (.ireturn, 1) := dk_172 (dk_at dksX0_suitcaseByReady_0 14 rfl rfl)
theorem dX0_suitcaseByReady_15 : decode cX0_suitcaseByReady 15 = .ok (.iconst 0, 1) := dk_3 (dk_at dksX0_suitcaseByReady_0 15 rfl rfl)
theorem dX0_suitcaseByReady_16 : decode cX0_suitcaseByReady 16 = .ok (.ireturn, 1) := dk_172 (dk_at dksX0_suitcaseByReady_0 16 rfl rfl)
abbrev cX0_bookingAt : ByteArray := method_33_code
def yX0_bookingAt : MethodName := ⟨RX0, "bookingAt", "(LSleeperRailway;I[J)I"⟩
def dkwX0_bookingAt_0 : List UInt8 := [44, 3, 42, 27, 182, 0, 116, 133, 80, 167, 0, 6, 78, 4, 172, 3, 172]
abbrev dktX0_bookingAt_0 : List UInt8 := dkwX0_bookingAt_0 ++ []
theorem dksX0_bookingAt_0 : cX0_bookingAt.data.toList.drop 0 = dktX0_bookingAt_0 := by decide +kernel
theorem dX0_bookingAt_0 : decode cX0_bookingAt 0 = .ok (.aload_n 2, 1) := dk_44 (dk_at dksX0_bookingAt_0 0 rfl rfl)
theorem dX0_bookingAt_1 : decode cX0_bookingAt 1 = .ok (.iconst 0, 1) := dk_3 (dk_at dksX0_bookingAt_0 1 rfl rfl)
theorem dX0_bookingAt_2 : decode cX0_bookingAt 2 = .ok (.aload_n 0, 1) := dk_42 (dk_at dksX0_bookingAt_0 2 rfl rfl)
theorem dX0_bookingAt_3 : decode cX0_bookingAt 3 = .ok (.iload_n 1, 1) := dk_27 (dk_at dksX0_bookingAt_0 3 rfl rfl)
theorem dX0_bookingAt_4 : decode cX0_bookingAt 4 = .ok (.invokevirtual 116, 3) := dk_182 0 116 (dk_at dksX0_bookingAt_0 4 rfl rfl)
theorem dX0_bookingAt_7 : decode cX0_bookingAt 7 = .ok (.i2l, 1) := dk_133 (dk_at dksX0_bookingAt_0 7 rfl rfl)
theorem dX0_bookingAt_8 : decode cX0_bookingAt 8 = .ok (.lastore, 1) := dk_80 (dk_at dksX0_bookingAt_0 8 rfl rfl)
theorem dX0_bookingAt_9 : decode cX0_bookingAt 9 = .ok (.goto 6, 3) := dk_167 0 6 (dk_at dksX0_bookingAt_0 9 rfl rfl)
theorem dX0_bookingAt_12 : decode cX0_bookingAt 12 = .ok (.astore_n 3, 1) := dk_78 (dk_at dksX0_bookingAt_0 12 rfl rfl)
theorem dX0_bookingAt_13 : decode cX0_bookingAt 13 = .ok (.iconst 1, 1) := dk_4 (dk_at dksX0_bookingAt_0 13 rfl rfl)
theorem dX0_bookingAt_14 : decode cX0_bookingAt 14 = .ok (.ireturn, 1) := dk_172 (dk_at dksX0_bookingAt_0 14 rfl rfl)
theorem dX0_bookingAt_15 : decode cX0_bookingAt 15 = .ok (.iconst 0, 1) := dk_3 (dk_at dksX0_bookingAt_0 15 rfl rfl)
theorem dX0_bookingAt_16 : decode cX0_bookingAt 16 = .ok (.ireturn, 1) := dk_172 (dk_at dksX0_bookingAt_0 16 rfl rfl)
abbrev cX0_berthsNeeded : ByteArray := method_34_code
def yX0_berthsNeeded : MethodName := ⟨RX0, "berthsNeeded", "(LSleeperRailway;I[J)I"⟩
def dkwX0_berthsNeeded_0 : List UInt8 := [44, 3, 42, 27, 182, 0, 119, 133, 80, 167, 0, 6, 78, 4, 172, 3, 172]
abbrev dktX0_berthsNeeded_0 : List UInt8 := dkwX0_berthsNeeded_0 ++ []
theorem dksX0_berthsNeeded_0 : cX0_berthsNeeded.data.toList.drop 0 = dktX0_berthsNeeded_0 := by decide +kernel
theorem dX0_berthsNeeded_0 : decode cX0_berthsNeeded 0 = .ok (.aload_n 2, 1) := dk_44 (dk_at dksX0_berthsNeeded_0 0 rfl rfl)
theorem dX0_berthsNeeded_1 : decode cX0_berthsNeeded 1 = .ok (.iconst 0, 1) := dk_3 (dk_at dksX0_berthsNeeded_0 1 rfl rfl)
theorem dX0_berthsNeeded_2 : decode cX0_berthsNeeded 2 = .ok (.aload_n 0, 1) := dk_42 (dk_at dksX0_berthsNeeded_0 2 rfl rfl)
theorem dX0_berthsNeeded_3 : decode cX0_berthsNeeded 3 = .ok (.iload_n 1, 1) := dk_27 (dk_at dksX0_berthsNeeded_0 3 rfl rfl)
theorem dX0_berthsNeeded_4 : decode cX0_berthsNeeded 4 = .ok (.invokevirtual 119, 3) := dk_182 0 119 (dk_at dksX0_berthsNeeded_0 4 rfl rfl)
theorem dX0_berthsNeeded_7 : decode cX0_berthsNeeded 7 = .ok (.i2l, 1) := dk_133 (dk_at dksX0_berthsNeeded_0 7 rfl rfl)
theorem dX0_berthsNeeded_8 : decode cX0_berthsNeeded 8 = .ok (.lastore, 1) := dk_80 (dk_at dksX0_berthsNeeded_0 8 rfl rfl)
theorem dX0_berthsNeeded_9 : decode cX0_berthsNeeded 9 = .ok (.goto 6, 3) := dk_167 0 6 (dk_at dksX0_berthsNeeded_0 9 rfl rfl)
theorem dX0_berthsNeeded_12 : decode cX0_berthsNeeded 12 = .ok (.astore_n 3, 1) := dk_78 (dk_at dksX0_berthsNeeded_0 12 rfl rfl)
theorem dX0_berthsNeeded_13 : decode cX0_berthsNeeded 13 = .ok (.iconst 1, 1) := dk_4 (dk_at dksX0_berthsNeeded_0 13 rfl rfl)
theorem dX0_berthsNeeded_14 : decode cX0_berthsNeeded 14 = .ok (.ireturn, 1) := dk_172 (dk_at dksX0_berthsNeeded_0 14 rfl rfl)
theorem dX0_berthsNeeded_15 : decode cX0_berthsNeeded 15 = .ok (.iconst 0, 1) := dk_3 (dk_at dksX0_berthsNeeded_0 15 rfl rfl)
theorem dX0_berthsNeeded_16 : decode cX0_berthsNeeded 16 = .ok (.ireturn, 1) := dk_172 (dk_at dksX0_berthsNeeded_0 16 rfl rfl)
abbrev cX0_berthsNeededByLegs : ByteArray := method_35_code
def yX0_berthsNeededByLegs : MethodName := ⟨RX0, "berthsNeededByLegs", "(LSleeperRailway;I[J)I"⟩
def dkwX0_berthsNeededByLegs_0 : List UInt8 := [44, 3, 42, 27, 182, 0, 122, 133, 80, 167, 0, 6, 78, 4, 172, 3, 172]
abbrev dktX0_berthsNeededByLegs_0 : List UInt8 := dkwX0_berthsNeededByLegs_0 ++ []
theorem dksX0_berthsNeededByLegs_0 : cX0_berthsNeededByLegs.data.toList.drop 0 = dktX0_berthsNeededByLegs_0 := by decide +kernel
theorem dX0_berthsNeededByLegs_0 : decode cX0_berthsNeededByLegs 0 = .ok (.aload_n 2, 1) := dk_44 (dk_at dksX0_berthsNeededByLegs_0 0 rfl rfl)
theorem dX0_berthsNeededByLegs_1 : decode cX0_berthsNeededByLegs 1 = .ok (.iconst 0, 1) := dk_3 (dk_at dksX0_berthsNeededByLegs_0 1 rfl rfl)
theorem dX0_berthsNeededByLegs_2 : decode cX0_berthsNeededByLegs 2 = .ok (.aload_n 0, 1) := dk_42 (dk_at dksX0_berthsNeededByLegs_0 2 rfl rfl)
theorem dX0_berthsNeededByLegs_3 : decode cX0_berthsNeededByLegs 3 = .ok (.iload_n 1, 1) := dk_27 (dk_at dksX0_berthsNeededByLegs_0 3 rfl rfl)
theorem dX0_berthsNeededByLegs_4 : decode cX0_berthsNeededByLegs 4 = .ok (.invokevirtual 122, 3) := dk_182 0 122 (dk_at dksX0_berthsNeededByLegs_0 4 rfl rfl)
theorem dX0_berthsNeededByLegs_7 : decode cX0_berthsNeededByLegs 7 = .ok (.i2l, 1) := dk_133 (dk_at dksX0_berthsNeededByLegs_0 7 rfl rfl)
theorem dX0_berthsNeededByLegs_8 : decode cX0_berthsNeededByLegs 8 = .ok (.lastore, 1) := dk_80 (dk_at dksX0_berthsNeededByLegs_0 8 rfl rfl)
theorem dX0_berthsNeededByLegs_9 : decode cX0_berthsNeededByLegs 9 = .ok (.goto 6, 3) := dk_167 0 6 (dk_at dksX0_berthsNeededByLegs_0 9 rfl rfl)
theorem dX0_berthsNeededByLegs_12 : decode cX0_berthsNeededByLegs 12 = .ok (.astore_n 3, 1) := dk_78 (dk_at dksX0_berthsNeededByLegs_0 12 rfl rfl)
theorem dX0_berthsNeededByLegs_13 : decode cX0_berthsNeededByLegs 13 = .ok (.iconst 1, 1) := dk_4 (dk_at dksX0_berthsNeededByLegs_0 13 rfl rfl)
theorem dX0_berthsNeededByLegs_14 : decode cX0_berthsNeededByLegs 14 = .ok (.ireturn, 1) := dk_172 (dk_at dksX0_berthsNeededByLegs_0 14 rfl rfl)
theorem dX0_berthsNeededByLegs_15 : decode cX0_berthsNeededByLegs 15 = .ok (.iconst 0, 1) := dk_3 (dk_at dksX0_berthsNeededByLegs_0 15 rfl rfl)
theorem dX0_berthsNeededByLegs_16 : decode cX0_berthsNeededByLegs 16 = .ok (.ireturn, 1) := dk_172 (dk_at dksX0_berthsNeededByLegs_0 16 rfl rfl)
abbrev cX0_berthOf : ByteArray := method_36_code
def yX0_berthOf : MethodName := ⟨RX0, "berthOf", "(LSleeperRailway;I[J)I"⟩
def dkwX0_berthOf_0 : List UInt8 := [44, 3, 42, 27, 182, 0, 125, 133, 80, 167, 0, 6, 78, 4, 172, 3, 172]
abbrev dktX0_berthOf_0 : List UInt8 := dkwX0_berthOf_0 ++ []
theorem dksX0_berthOf_0 : cX0_berthOf.data.toList.drop 0 = dktX0_berthOf_0 := by decide +kernel
theorem dX0_berthOf_0 : decode cX0_berthOf 0 = .ok (.aload_n 2, 1) := dk_44 (dk_at dksX0_berthOf_0 0 rfl rfl)
theorem dX0_berthOf_1 : decode cX0_berthOf 1 = .ok (.iconst 0, 1) := dk_3 (dk_at dksX0_berthOf_0 1 rfl rfl)
theorem dX0_berthOf_2 : decode cX0_berthOf 2 = .ok (.aload_n 0, 1) := dk_42 (dk_at dksX0_berthOf_0 2 rfl rfl)
theorem dX0_berthOf_3 : decode cX0_berthOf 3 = .ok (.iload_n 1, 1) := dk_27 (dk_at dksX0_berthOf_0 3 rfl rfl)
theorem dX0_berthOf_4 : decode cX0_berthOf 4 = .ok (.invokevirtual 125, 3) := dk_182 0 125 (dk_at dksX0_berthOf_0 4 rfl rfl)
theorem dX0_berthOf_7 : decode cX0_berthOf 7 = .ok (.i2l, 1) := dk_133 (dk_at dksX0_berthOf_0 7 rfl rfl)
theorem dX0_berthOf_8 : decode cX0_berthOf 8 = .ok (.lastore, 1) := dk_80 (dk_at dksX0_berthOf_0 8 rfl rfl)
theorem dX0_berthOf_9 : decode cX0_berthOf 9 = .ok (.goto 6, 3) := dk_167 0 6 (dk_at dksX0_berthOf_0 9 rfl rfl)
theorem dX0_berthOf_12 : decode cX0_berthOf 12 = .ok (.astore_n 3, 1) := dk_78 (dk_at dksX0_berthOf_0 12 rfl rfl)
theorem dX0_berthOf_13 : decode cX0_berthOf 13 = .ok (.iconst 1, 1) := dk_4 (dk_at dksX0_berthOf_0 13 rfl rfl)
theorem dX0_berthOf_14 : decode cX0_berthOf 14 = .ok (.ireturn, 1) := dk_172 (dk_at dksX0_berthOf_0 14 rfl rfl)
theorem dX0_berthOf_15 : decode cX0_berthOf 15 = .ok (.iconst 0, 1) := dk_3 (dk_at dksX0_berthOf_0 15 rfl rfl)
theorem dX0_berthOf_16 : decode cX0_berthOf 16 = .ok (.ireturn, 1) := dk_172 (dk_at dksX0_berthOf_0 16 rfl rfl)
abbrev cX0_meanLoad : ByteArray := method_37_code
def yX0_meanLoad : MethodName := ⟨RX0, "meanLoad", "(LSleeperRailway;[D)I"⟩
def dkwX0_meanLoad_0 : List UInt8 := [43, 3, 42, 182, 0, 128, 82, 167, 0, 6, 77, 4, 172, 3, 172]
abbrev dktX0_meanLoad_0 : List UInt8 := dkwX0_meanLoad_0 ++ []
theorem dksX0_meanLoad_0 : cX0_meanLoad.data.toList.drop 0 = dktX0_meanLoad_0 := by decide +kernel
theorem dX0_meanLoad_0 : decode cX0_meanLoad 0 = .ok (.aload_n 1, 1) := dk_43 (dk_at dksX0_meanLoad_0 0 rfl rfl)
theorem dX0_meanLoad_1 : decode cX0_meanLoad 1 = .ok (.iconst 0, 1) := dk_3 (dk_at dksX0_meanLoad_0 1 rfl rfl)
theorem dX0_meanLoad_2 : decode cX0_meanLoad 2 = .ok (.aload_n 0, 1) := dk_42 (dk_at dksX0_meanLoad_0 2 rfl rfl)
theorem dX0_meanLoad_3 : decode cX0_meanLoad 3 = .ok (.invokevirtual 128, 3) := dk_182 0 128 (dk_at dksX0_meanLoad_0 3 rfl rfl)
theorem dX0_meanLoad_6 : decode cX0_meanLoad 6 = .ok (.dastore, 1) := dk_82 (dk_at dksX0_meanLoad_0 6 rfl rfl)
theorem dX0_meanLoad_7 : decode cX0_meanLoad 7 = .ok (.goto 6, 3) := dk_167 0 6 (dk_at dksX0_meanLoad_0 7 rfl rfl)
theorem dX0_meanLoad_10 : decode cX0_meanLoad 10 = .ok (.astore_n 2, 1) := dk_77 (dk_at dksX0_meanLoad_0 10 rfl rfl)
theorem dX0_meanLoad_11 : decode cX0_meanLoad 11 = .ok (.iconst 1, 1) := dk_4 (dk_at dksX0_meanLoad_0 11 rfl rfl)
theorem dX0_meanLoad_12 : decode cX0_meanLoad 12 = .ok (.ireturn, 1) := dk_172 (dk_at dksX0_meanLoad_0 12 rfl rfl)
theorem dX0_meanLoad_13 : decode cX0_meanLoad 13 = .ok (.iconst 0, 1) := dk_3 (dk_at dksX0_meanLoad_0 13 rfl rfl)
theorem dX0_meanLoad_14 : decode cX0_meanLoad 14 = .ok (.ireturn, 1) := dk_172 (dk_at dksX0_meanLoad_0 14 rfl rfl)
abbrev cX0_fullShare : ByteArray := method_38_code
def yX0_fullShare : MethodName := ⟨RX0, "fullShare", "(LSleeperRailway;[D)I"⟩
def dkwX0_fullShare_0 : List UInt8 := [43, 3, 42, 182, 0, 134, 141, 82, 167, 0, 6, 77, 4, 172, 3, 172]
abbrev dktX0_fullShare_0 : List UInt8 := dkwX0_fullShare_0 ++ []
theorem dksX0_fullShare_0 : cX0_fullShare.data.toList.drop 0 = dktX0_fullShare_0 := by decide +kernel
theorem dX0_fullShare_0 : decode cX0_fullShare 0 = .ok (.aload_n 1, 1) := dk_43 (dk_at dksX0_fullShare_0 0 rfl rfl)
theorem dX0_fullShare_1 : decode cX0_fullShare 1 = .ok (.iconst 0, 1) := dk_3 (dk_at dksX0_fullShare_0 1 rfl rfl)
theorem dX0_fullShare_2 : decode cX0_fullShare 2 = .ok (.aload_n 0, 1) := dk_42 (dk_at dksX0_fullShare_0 2 rfl rfl)
theorem dX0_fullShare_3 : decode cX0_fullShare 3 = .ok (.invokevirtual 134, 3) := dk_182 0 134 (dk_at dksX0_fullShare_0 3 rfl rfl)
theorem dX0_fullShare_6 : decode cX0_fullShare 6 = .ok (.f2d, 1) := dk_141 (dk_at dksX0_fullShare_0 6 rfl rfl)
theorem dX0_fullShare_7 : decode cX0_fullShare 7 = .ok (.dastore, 1) := dk_82 (dk_at dksX0_fullShare_0 7 rfl rfl)
theorem dX0_fullShare_8 : decode cX0_fullShare 8 = .ok (.goto 6, 3) := dk_167 0 6 (dk_at dksX0_fullShare_0 8 rfl rfl)
theorem dX0_fullShare_11 : decode cX0_fullShare 11 = .ok (.astore_n 2, 1) := dk_77 (dk_at dksX0_fullShare_0 11 rfl rfl)
theorem dX0_fullShare_12 : decode cX0_fullShare 12 = .ok (.iconst 1, 1) := dk_4 (dk_at dksX0_fullShare_0 12 rfl rfl)
theorem dX0_fullShare_13 : decode cX0_fullShare 13 = .ok (.ireturn, 1) := dk_172 (dk_at dksX0_fullShare_0 13 rfl rfl)
theorem dX0_fullShare_14 : decode cX0_fullShare 14 = .ok (.iconst 0, 1) := dk_3 (dk_at dksX0_fullShare_0 14 rfl rfl)
theorem dX0_fullShare_15 : decode cX0_fullShare 15 = .ok (.ireturn, 1) := dk_172 (dk_at dksX0_fullShare_0 15 rfl rfl)
abbrev cX0_renderTrain : ByteArray := method_39_code
def yX0_renderTrain : MethodName := ⟨RX0, "renderTrain", "(LSleeperRailway;I[J)I"⟩
def dkwX0_renderTrain_0 : List UInt8 := [44, 3, 42, 27, 182, 0, 138, 133, 80, 167, 0, 6, 78, 4, 172, 3, 172]
abbrev dktX0_renderTrain_0 : List UInt8 := dkwX0_renderTrain_0 ++ []
theorem dksX0_renderTrain_0 : cX0_renderTrain.data.toList.drop 0 = dktX0_renderTrain_0 := by decide +kernel
theorem dX0_renderTrain_0 : decode cX0_renderTrain 0 = .ok (.aload_n 2, 1) := dk_44 (dk_at dksX0_renderTrain_0 0 rfl rfl)
theorem dX0_renderTrain_1 : decode cX0_renderTrain 1 = .ok (.iconst 0, 1) := dk_3 (dk_at dksX0_renderTrain_0 1 rfl rfl)
theorem dX0_renderTrain_2 : decode cX0_renderTrain 2 = .ok (.aload_n 0, 1) := dk_42 (dk_at dksX0_renderTrain_0 2 rfl rfl)
theorem dX0_renderTrain_3 : decode cX0_renderTrain 3 = .ok (.iload_n 1, 1) := dk_27 (dk_at dksX0_renderTrain_0 3 rfl rfl)
theorem dX0_renderTrain_4 : decode cX0_renderTrain 4 = .ok (.invokevirtual 138, 3) := dk_182 0 138 (dk_at dksX0_renderTrain_0 4 rfl rfl)
theorem dX0_renderTrain_7 : decode cX0_renderTrain 7 = .ok (.i2l, 1) := dk_133 (dk_at dksX0_renderTrain_0 7 rfl rfl)
theorem dX0_renderTrain_8 : decode cX0_renderTrain 8 = .ok (.lastore, 1) := dk_80 (dk_at dksX0_renderTrain_0 8 rfl rfl)
theorem dX0_renderTrain_9 : decode cX0_renderTrain 9 = .ok (.goto 6, 3) := dk_167 0 6 (dk_at dksX0_renderTrain_0 9 rfl rfl)
theorem dX0_renderTrain_12 : decode cX0_renderTrain 12 = .ok (.astore_n 3, 1) := dk_78 (dk_at dksX0_renderTrain_0 12 rfl rfl)
theorem dX0_renderTrain_13 : decode cX0_renderTrain 13 = .ok (.iconst 1, 1) := dk_4 (dk_at dksX0_renderTrain_0 13 rfl rfl)
theorem dX0_renderTrain_14 : decode cX0_renderTrain 14 = .ok (.ireturn, 1) := dk_172 (dk_at dksX0_renderTrain_0 14 rfl rfl)
theorem dX0_renderTrain_15 : decode cX0_renderTrain 15 = .ok (.iconst 0, 1) := dk_3 (dk_at dksX0_renderTrain_0 15 rfl rfl)
theorem dX0_renderTrain_16 : decode cX0_renderTrain 16 = .ok (.ireturn, 1) := dk_172 (dk_at dksX0_renderTrain_0 16 rfl rfl)
abbrev cX0_renderSuitcase : ByteArray := method_40_code
def yX0_renderSuitcase : MethodName := ⟨RX0, "renderSuitcase", "(LSleeperRailway;I[J)I"⟩
def dkwX0_renderSuitcase_0 : List UInt8 := [44, 3, 42, 27, 182, 0, 141, 133, 80, 167, 0, 6, 78, 4, 172, 3, 172]
abbrev dktX0_renderSuitcase_0 : List UInt8 := dkwX0_renderSuitcase_0 ++ []
theorem dksX0_renderSuitcase_0 : cX0_renderSuitcase.data.toList.drop 0 = dktX0_renderSuitcase_0 := by decide +kernel
theorem dX0_renderSuitcase_0 : decode cX0_renderSuitcase 0 = .ok (.aload_n 2, 1) := dk_44 (dk_at dksX0_renderSuitcase_0 0 rfl rfl)
theorem dX0_renderSuitcase_1 : decode cX0_renderSuitcase 1 = .ok (.iconst 0, 1) := dk_3 (dk_at dksX0_renderSuitcase_0 1 rfl rfl)
theorem dX0_renderSuitcase_2 : decode cX0_renderSuitcase 2 = .ok (.aload_n 0, 1) := dk_42 (dk_at dksX0_renderSuitcase_0 2 rfl rfl)
theorem dX0_renderSuitcase_3 : decode cX0_renderSuitcase 3 = .ok (.iload_n 1, 1) := dk_27 (dk_at dksX0_renderSuitcase_0 3 rfl rfl)
theorem dX0_renderSuitcase_4 : decode cX0_renderSuitcase 4 = .ok (.invokevirtual 141, 3) := dk_182 0 141 (dk_at dksX0_renderSuitcase_0 4 rfl rfl)
theorem dX0_renderSuitcase_7 : decode cX0_renderSuitcase 7 = .ok (.i2l, 1) := dk_133 (dk_at dksX0_renderSuitcase_0 7 rfl rfl)
theorem dX0_renderSuitcase_8 : decode cX0_renderSuitcase 8 = .ok (.lastore, 1) := dk_80 (dk_at dksX0_renderSuitcase_0 8 rfl rfl)
theorem dX0_renderSuitcase_9 : decode cX0_renderSuitcase 9 = .ok (.goto 6, 3) := dk_167 0 6 (dk_at dksX0_renderSuitcase_0 9 rfl rfl)
theorem dX0_renderSuitcase_12 : decode cX0_renderSuitcase 12 = .ok (.astore_n 3, 1) := dk_78 (dk_at dksX0_renderSuitcase_0 12 rfl rfl)
theorem dX0_renderSuitcase_13 : decode cX0_renderSuitcase 13 = .ok (.iconst 1, 1) := dk_4 (dk_at dksX0_renderSuitcase_0 13 rfl rfl)
theorem dX0_renderSuitcase_14 : decode cX0_renderSuitcase 14 = .ok (.ireturn, 1) := dk_172 (dk_at dksX0_renderSuitcase_0 14 rfl rfl)
theorem dX0_renderSuitcase_15 : decode cX0_renderSuitcase 15 = .ok (.iconst 0, 1) := dk_3 (dk_at dksX0_renderSuitcase_0 15 rfl rfl)
theorem dX0_renderSuitcase_16 : decode cX0_renderSuitcase 16 = .ok (.ireturn, 1) := dk_172 (dk_at dksX0_renderSuitcase_0 16 rfl rfl)
abbrev cX0_outputAt : ByteArray := method_41_code
def yX0_outputAt : MethodName := ⟨RX0, "outputAt", "(LSleeperRailway;I[J)I"⟩
def dkwX0_outputAt_0 : List UInt8 := [44, 3, 42, 27, 182, 0, 144, 133, 80, 167, 0, 6, 78, 4, 172, 3, 172]
abbrev dktX0_outputAt_0 : List UInt8 := dkwX0_outputAt_0 ++ []
theorem dksX0_outputAt_0 : cX0_outputAt.data.toList.drop 0 = dktX0_outputAt_0 := by decide +kernel
theorem dX0_outputAt_0 : decode cX0_outputAt 0 = .ok (.aload_n 2, 1) := dk_44 (dk_at dksX0_outputAt_0 0 rfl rfl)
theorem dX0_outputAt_1 : decode cX0_outputAt 1 = .ok (.iconst 0, 1) := dk_3 (dk_at dksX0_outputAt_0 1 rfl rfl)
theorem dX0_outputAt_2 : decode cX0_outputAt 2 = .ok (.aload_n 0, 1) := dk_42 (dk_at dksX0_outputAt_0 2 rfl rfl)
theorem dX0_outputAt_3 : decode cX0_outputAt 3 = .ok (.iload_n 1, 1) := dk_27 (dk_at dksX0_outputAt_0 3 rfl rfl)
theorem dX0_outputAt_4 : decode cX0_outputAt 4 = .ok (.invokevirtual 144, 3) := dk_182 0 144 (dk_at dksX0_outputAt_0 4 rfl rfl)
theorem dX0_outputAt_7 : decode cX0_outputAt 7 = .ok (.i2l, 1) := dk_133 (dk_at dksX0_outputAt_0 7 rfl rfl)
theorem dX0_outputAt_8 : decode cX0_outputAt 8 = .ok (.lastore, 1) := dk_80 (dk_at dksX0_outputAt_0 8 rfl rfl)
theorem dX0_outputAt_9 : decode cX0_outputAt 9 = .ok (.goto 6, 3) := dk_167 0 6 (dk_at dksX0_outputAt_0 9 rfl rfl)
theorem dX0_outputAt_12 : decode cX0_outputAt 12 = .ok (.astore_n 3, 1) := dk_78 (dk_at dksX0_outputAt_0 12 rfl rfl)
theorem dX0_outputAt_13 : decode cX0_outputAt 13 = .ok (.iconst 1, 1) := dk_4 (dk_at dksX0_outputAt_0 13 rfl rfl)
theorem dX0_outputAt_14 : decode cX0_outputAt 14 = .ok (.ireturn, 1) := dk_172 (dk_at dksX0_outputAt_0 14 rfl rfl)
theorem dX0_outputAt_15 : decode cX0_outputAt 15 = .ok (.iconst 0, 1) := dk_3 (dk_at dksX0_outputAt_0 15 rfl rfl)
theorem dX0_outputAt_16 : decode cX0_outputAt 16 = .ok (.ireturn, 1) := dk_172 (dk_at dksX0_outputAt_0 16 rfl rfl)
abbrev cX0_type : ByteArray := method_42_code
def yX0_type : MethodName := ⟨RX0, "type", "(LSleeperRailway;C[J)I"⟩
def dkwX0_type_0 : List UInt8 := [44, 3, 42, 27, 182, 0, 148, 133, 80, 167, 0, 9, 78, 4, 172, 78, 5, 172, 3, 172]
abbrev dktX0_type_0 : List UInt8 := dkwX0_type_0 ++ []
theorem dksX0_type_0 : cX0_type.data.toList.drop 0 = dktX0_type_0 := by decide +kernel
theorem dX0_type_0 : decode cX0_type 0 = .ok (.aload_n 2, 1) := dk_44 (dk_at dksX0_type_0 0 rfl rfl)
theorem dX0_type_1 : decode cX0_type 1 = .ok (.iconst 0, 1) := dk_3 (dk_at dksX0_type_0 1 rfl rfl)
theorem dX0_type_2 : decode cX0_type 2 = .ok (.aload_n 0, 1) := dk_42 (dk_at dksX0_type_0 2 rfl rfl)
theorem dX0_type_3 : decode cX0_type 3 = .ok (.iload_n 1, 1) := dk_27 (dk_at dksX0_type_0 3 rfl rfl)
theorem dX0_type_4 : decode cX0_type 4 = .ok (.invokevirtual 148, 3) := dk_182 0 148 (dk_at dksX0_type_0 4 rfl rfl)
theorem dX0_type_7 : decode cX0_type 7 = .ok (.i2l, 1) := dk_133 (dk_at dksX0_type_0 7 rfl rfl)
theorem dX0_type_8 : decode cX0_type 8 = .ok (.lastore, 1) := dk_80 (dk_at dksX0_type_0 8 rfl rfl)
theorem dX0_type_9 : decode cX0_type 9 = .ok (.goto 9, 3) := dk_167 0 9 (dk_at dksX0_type_0 9 rfl rfl)
theorem dX0_type_12 : decode cX0_type 12 = .ok (.astore_n 3, 1) := dk_78 (dk_at dksX0_type_0 12 rfl rfl)
theorem dX0_type_13 : decode cX0_type 13 = .ok (.iconst 1, 1) := dk_4 (dk_at dksX0_type_0 13 rfl rfl)
theorem dX0_type_14 : decode cX0_type 14 = .ok (.ireturn, 1) := dk_172 (dk_at dksX0_type_0 14 rfl rfl)
theorem dX0_type_15 : decode cX0_type 15 = .ok (.astore_n 3, 1) := dk_78 (dk_at dksX0_type_0 15 rfl rfl)
theorem dX0_type_16 : decode cX0_type 16 = .ok (.iconst 2, 1) := dk_5 (dk_at dksX0_type_0 16 rfl rfl)
theorem dX0_type_17 : decode cX0_type 17 = .ok (.ireturn, 1) := dk_172 (dk_at dksX0_type_0 17 rfl rfl)
theorem dX0_type_18 : decode cX0_type 18 = .ok (.iconst 0, 1) := dk_3 (dk_at dksX0_type_0 18 rfl rfl)
theorem dX0_type_19 : decode cX0_type 19 = .ok (.ireturn, 1) := dk_172 (dk_at dksX0_type_0 19 rfl rfl)
abbrev cX0_runScript : ByteArray := method_43_code
def yX0_runScript : MethodName := ⟨RX0, "runScript", "(LSleeperRailway;[J)I"⟩
def dkwX0_runScript_0 : List UInt8 := [43, 3, 42, 182, 0, 152, 133, 80, 167, 0, 9, 77, 4, 172, 77, 5, 172, 3, 172]
abbrev dktX0_runScript_0 : List UInt8 := dkwX0_runScript_0 ++ []
theorem dksX0_runScript_0 : cX0_runScript.data.toList.drop 0 = dktX0_runScript_0 := by decide +kernel
theorem dX0_runScript_0 : decode cX0_runScript 0 = .ok (.aload_n 1, 1) := dk_43 (dk_at dksX0_runScript_0 0 rfl rfl)
theorem dX0_runScript_1 : decode cX0_runScript 1 = .ok (.iconst 0, 1) := dk_3 (dk_at dksX0_runScript_0 1 rfl rfl)
theorem dX0_runScript_2 : decode cX0_runScript 2 = .ok (.aload_n 0, 1) := dk_42 (dk_at dksX0_runScript_0 2 rfl rfl)
theorem dX0_runScript_3 : decode cX0_runScript 3 = .ok (.invokevirtual 152, 3) := dk_182 0 152 (dk_at dksX0_runScript_0 3 rfl rfl)
theorem dX0_runScript_6 : decode cX0_runScript 6 = .ok (.i2l, 1) := dk_133 (dk_at dksX0_runScript_0 6 rfl rfl)
theorem dX0_runScript_7 : decode cX0_runScript 7 = .ok (.lastore, 1) := dk_80 (dk_at dksX0_runScript_0 7 rfl rfl)
theorem dX0_runScript_8 : decode cX0_runScript 8 = .ok (.goto 9, 3) := dk_167 0 9 (dk_at dksX0_runScript_0 8 rfl rfl)
theorem dX0_runScript_11 : decode cX0_runScript 11 = .ok (.astore_n 2, 1) := dk_77 (dk_at dksX0_runScript_0 11 rfl rfl)
theorem dX0_runScript_12 : decode cX0_runScript 12 = .ok (.iconst 1, 1) := dk_4 (dk_at dksX0_runScript_0 12 rfl rfl)
theorem dX0_runScript_13 : decode cX0_runScript 13 = .ok (.ireturn, 1) := dk_172 (dk_at dksX0_runScript_0 13 rfl rfl)
theorem dX0_runScript_14 : decode cX0_runScript 14 = .ok (.astore_n 2, 1) := dk_77 (dk_at dksX0_runScript_0 14 rfl rfl)
theorem dX0_runScript_15 : decode cX0_runScript 15 = .ok (.iconst 2, 1) := dk_5 (dk_at dksX0_runScript_0 15 rfl rfl)
theorem dX0_runScript_16 : decode cX0_runScript 16 = .ok (.ireturn, 1) := dk_172 (dk_at dksX0_runScript_0 16 rfl rfl)
theorem dX0_runScript_17 : decode cX0_runScript 17 = .ok (.iconst 0, 1) := dk_3 (dk_at dksX0_runScript_0 17 rfl rfl)
theorem dX0_runScript_18 : decode cX0_runScript 18 = .ok (.ireturn, 1) := dk_172 (dk_at dksX0_runScript_0 18 rfl rfl)
abbrev cX0_errorPosition : ByteArray := method_44_code
def yX0_errorPosition : MethodName := ⟨RX0, "errorPosition", "(LSleeperRailway;[J)I"⟩
def dkwX0_errorPosition_0 : List UInt8 := [43, 3, 42, 182, 0, 156, 133, 80, 167, 0, 6, 77, 4, 172, 3, 172]
abbrev dktX0_errorPosition_0 : List UInt8 := dkwX0_errorPosition_0 ++ []
theorem dksX0_errorPosition_0 : cX0_errorPosition.data.toList.drop 0 = dktX0_errorPosition_0 := by decide +kernel
theorem dX0_errorPosition_0 : decode cX0_errorPosition 0 = .ok (.aload_n 1, 1) := dk_43 (dk_at dksX0_errorPosition_0 0 rfl rfl)
theorem dX0_errorPosition_1 : decode cX0_errorPosition 1 = .ok (.iconst 0, 1) := dk_3 (dk_at dksX0_errorPosition_0 1 rfl rfl)
theorem dX0_errorPosition_2 : decode cX0_errorPosition 2 = .ok (.aload_n 0, 1) := dk_42 (dk_at dksX0_errorPosition_0 2 rfl rfl)
theorem dX0_errorPosition_3 : decode cX0_errorPosition 3 = .ok (.invokevirtual 156, 3) := dk_182 0 156 (dk_at dksX0_errorPosition_0 3 rfl rfl)
theorem dX0_errorPosition_6 : decode cX0_errorPosition 6 = .ok (.i2l, 1) := dk_133 (dk_at dksX0_errorPosition_0 6 rfl rfl)
theorem dX0_errorPosition_7 : decode cX0_errorPosition 7 = .ok (.lastore, 1) := dk_80 (dk_at dksX0_errorPosition_0 7 rfl rfl)
theorem dX0_errorPosition_8 : decode cX0_errorPosition 8 = .ok (.goto 6, 3) := dk_167 0 6 (dk_at dksX0_errorPosition_0 8 rfl rfl)
theorem dX0_errorPosition_11 : decode cX0_errorPosition 11 = .ok (.astore_n 2, 1) := dk_77 (dk_at dksX0_errorPosition_0 11 rfl rfl)
theorem dX0_errorPosition_12 : decode cX0_errorPosition 12 = .ok (.iconst 1, 1) := dk_4 (dk_at dksX0_errorPosition_0 12 rfl rfl)
theorem dX0_errorPosition_13 : decode cX0_errorPosition 13 = .ok (.ireturn, 1) := dk_172 (dk_at dksX0_errorPosition_0 13 rfl rfl)
theorem dX0_errorPosition_14 : decode cX0_errorPosition 14 = .ok (.iconst 0, 1) := dk_3 (dk_at dksX0_errorPosition_0 14 rfl rfl)
theorem dX0_errorPosition_15 : decode cX0_errorPosition 15 = .ok (.ireturn, 1) := dk_172 (dk_at dksX0_errorPosition_0 15 rfl rfl)
abbrev cX0_failedCommand : ByteArray := method_45_code
def yX0_failedCommand : MethodName := ⟨RX0, "failedCommand", "(LSleeperRailway;[J)I"⟩
def dkwX0_failedCommand_0 : List UInt8 := [43, 3, 42, 182, 0, 159, 133, 80, 167, 0, 6, 77, 4, 172, 3, 172]
abbrev dktX0_failedCommand_0 : List UInt8 := dkwX0_failedCommand_0 ++ []
theorem dksX0_failedCommand_0 : cX0_failedCommand.data.toList.drop 0 = dktX0_failedCommand_0 := by decide +kernel
theorem dX0_failedCommand_0 : decode cX0_failedCommand 0 = .ok (.aload_n 1, 1) := dk_43 (dk_at dksX0_failedCommand_0 0 rfl rfl)
theorem dX0_failedCommand_1 : decode cX0_failedCommand 1 = .ok (.iconst 0, 1) := dk_3 (dk_at dksX0_failedCommand_0 1 rfl rfl)
theorem dX0_failedCommand_2 : decode cX0_failedCommand 2 = .ok (.aload_n 0, 1) := dk_42 (dk_at dksX0_failedCommand_0 2 rfl rfl)
theorem dX0_failedCommand_3 : decode cX0_failedCommand 3 = .ok (.invokevirtual 159, 3) := dk_182 0 159 (dk_at dksX0_failedCommand_0 3 rfl rfl)
theorem dX0_failedCommand_6 : decode cX0_failedCommand 6 = .ok (.i2l, 1) := dk_133 (dk_at dksX0_failedCommand_0 6 rfl rfl)
theorem dX0_failedCommand_7 : decode cX0_failedCommand 7 = .ok (.lastore, 1) := dk_80 (dk_at dksX0_failedCommand_0 7 rfl rfl)
theorem dX0_failedCommand_8 : decode cX0_failedCommand 8 = .ok (.goto 6, 3) := dk_167 0 6 (dk_at dksX0_failedCommand_0 8 rfl rfl)
theorem dX0_failedCommand_11 : decode cX0_failedCommand 11 = .ok (.astore_n 2, 1) := dk_77 (dk_at dksX0_failedCommand_0 11 rfl rfl)
theorem dX0_failedCommand_12 : decode cX0_failedCommand 12 = .ok (.iconst 1, 1) := dk_4 (dk_at dksX0_failedCommand_0 12 rfl rfl)
theorem dX0_failedCommand_13 : decode cX0_failedCommand 13 = .ok (.ireturn, 1) := dk_172 (dk_at dksX0_failedCommand_0 13 rfl rfl)
theorem dX0_failedCommand_14 : decode cX0_failedCommand 14 = .ok (.iconst 0, 1) := dk_3 (dk_at dksX0_failedCommand_0 14 rfl rfl)
theorem dX0_failedCommand_15 : decode cX0_failedCommand 15 = .ok (.ireturn, 1) := dk_172 (dk_at dksX0_failedCommand_0 15 rfl rfl)
abbrev cX0_undo : ByteArray := method_46_code
def yX0_undo : MethodName := ⟨RX0, "undo", "(LSleeperRailway;[J)I"⟩
def dkwX0_undo_0 : List UInt8 := [43, 3, 42, 182, 0, 162, 133, 80, 167, 0, 6, 77, 4, 172, 3, 172]
abbrev dktX0_undo_0 : List UInt8 := dkwX0_undo_0 ++ []
theorem dksX0_undo_0 : cX0_undo.data.toList.drop 0 = dktX0_undo_0 := by decide +kernel
theorem dX0_undo_0 : decode cX0_undo 0 = .ok (.aload_n 1, 1) := dk_43 (dk_at dksX0_undo_0 0 rfl rfl)
theorem dX0_undo_1 : decode cX0_undo 1 = .ok (.iconst 0, 1) := dk_3 (dk_at dksX0_undo_0 1 rfl rfl)
theorem dX0_undo_2 : decode cX0_undo 2 = .ok (.aload_n 0, 1) := dk_42 (dk_at dksX0_undo_0 2 rfl rfl)
theorem dX0_undo_3 : decode cX0_undo 3 = .ok (.invokevirtual 162, 3) := dk_182 0 162 (dk_at dksX0_undo_0 3 rfl rfl)
theorem dX0_undo_6 : decode cX0_undo 6 = .ok (.i2l, 1) := dk_133 (dk_at dksX0_undo_0 6 rfl rfl)
theorem dX0_undo_7 : decode cX0_undo 7 = .ok (.lastore, 1) := dk_80 (dk_at dksX0_undo_0 7 rfl rfl)
theorem dX0_undo_8 : decode cX0_undo 8 = .ok (.goto 6, 3) := dk_167 0 6 (dk_at dksX0_undo_0 8 rfl rfl)
theorem dX0_undo_11 : decode cX0_undo 11 = .ok (.astore_n 2, 1) := dk_77 (dk_at dksX0_undo_0 11 rfl rfl)
theorem dX0_undo_12 : decode cX0_undo 12 = .ok (.iconst 1, 1) := dk_4 (dk_at dksX0_undo_0 12 rfl rfl)
theorem dX0_undo_13 : decode cX0_undo 13 = .ok (.ireturn, 1) := dk_172 (dk_at dksX0_undo_0 13 rfl rfl)
theorem dX0_undo_14 : decode cX0_undo 14 = .ok (.iconst 0, 1) := dk_3 (dk_at dksX0_undo_0 14 rfl rfl)
theorem dX0_undo_15 : decode cX0_undo 15 = .ok (.ireturn, 1) := dk_172 (dk_at dksX0_undo_0 15 rfl rfl)
abbrev cX0_restore : ByteArray := method_47_code
def yX0_restore : MethodName := ⟨RX0, "restore", "(LSleeperRailway;[J)I"⟩
def dkwX0_restore_0 : List UInt8 := [43, 3, 42, 182, 0, 165, 133, 80, 167, 0, 6, 77, 4, 172, 3, 172]
abbrev dktX0_restore_0 : List UInt8 := dkwX0_restore_0 ++ []
theorem dksX0_restore_0 : cX0_restore.data.toList.drop 0 = dktX0_restore_0 := by decide +kernel
theorem dX0_restore_0 : decode cX0_restore 0 = .ok (.aload_n 1, 1) := dk_43 (dk_at dksX0_restore_0 0 rfl rfl)
theorem dX0_restore_1 : decode cX0_restore 1 = .ok (.iconst 0, 1) := dk_3 (dk_at dksX0_restore_0 1 rfl rfl)
theorem dX0_restore_2 : decode cX0_restore 2 = .ok (.aload_n 0, 1) := dk_42 (dk_at dksX0_restore_0 2 rfl rfl)
theorem dX0_restore_3 : decode cX0_restore 3 = .ok (.invokevirtual 165, 3) := dk_182 0 165 (dk_at dksX0_restore_0 3 rfl rfl)
theorem dX0_restore_6 : decode cX0_restore 6 = .ok (.i2l, 1) := dk_133 (dk_at dksX0_restore_0 6 rfl rfl)
theorem dX0_restore_7 : decode cX0_restore 7 = .ok (.lastore, 1) := dk_80 (dk_at dksX0_restore_0 7 rfl rfl)
theorem dX0_restore_8 : decode cX0_restore 8 = .ok (.goto 6, 3) := dk_167 0 6 (dk_at dksX0_restore_0 8 rfl rfl)
theorem dX0_restore_11 : decode cX0_restore 11 = .ok (.astore_n 2, 1) := dk_77 (dk_at dksX0_restore_0 11 rfl rfl)
theorem dX0_restore_12 : decode cX0_restore 12 = .ok (.iconst 1, 1) := dk_4 (dk_at dksX0_restore_0 12 rfl rfl)
theorem dX0_restore_13 : decode cX0_restore 13 = .ok (.ireturn, 1) := dk_172 (dk_at dksX0_restore_0 13 rfl rfl)
theorem dX0_restore_14 : decode cX0_restore 14 = .ok (.iconst 0, 1) := dk_3 (dk_at dksX0_restore_0 14 rfl rfl)
theorem dX0_restore_15 : decode cX0_restore 15 = .ok (.ireturn, 1) := dk_172 (dk_at dksX0_restore_0 15 rfl rfl)
theorem q100 : (Jvm.Cond.initialized "SleeperRailwayLaw") ∈ lw_all := lw_g (lw_at lw_m1 0 rfl) rfl
theorem q174 : (Jvm.Cond.classLink "SleeperRailwayLaw" (8 : Nat) "SleeperRailway") ∈ lw_all := lw_g (lw_at lw_m1 74 rfl) rfl
theorem q176 : (Jvm.Cond.methodLink "SleeperRailwayLaw" (168 : Nat) ({ cls := "SleeperRailway", name := "<init>", desc := "()V" } : Jvm.MethodName)) ∈ lw_all := lw_g (lw_at lw_m1 76 rfl) rfl
theorem q379 : (Jvm.Cond.methodLink "SleeperRailwayLaw" (211 : Nat) ({ cls := "SleeperRailway", name := "stationCount", desc := "()I" } : Jvm.MethodName)) ∈ lw_all := lw_g (lw_at lw_m2 39 rfl) rfl
theorem q399 : (Jvm.Cond.methodLink "SleeperRailwayLaw" (221 : Nat) ({ cls := "SleeperRailway", name := "trainCount", desc := "()I" } : Jvm.MethodName)) ∈ lw_all := lw_g (lw_at lw_m2 59 rfl) rfl
theorem q409 : (Jvm.Cond.methodLink "SleeperRailwayLaw" (261 : Nat) ({ cls := "SleeperRailway", name := "suitcaseCount", desc := "()I" } : Jvm.MethodName)) ∈ lw_all := lw_g (lw_at lw_m2 69 rfl) rfl
theorem q417 : (Jvm.Cond.methodLink "SleeperRailwayLaw" (283 : Nat) ({ cls := "SleeperRailway", name := "bookingCount", desc := "()I" } : Jvm.MethodName)) ∈ lw_all := lw_g (lw_at lw_m2 77 rfl) rfl
theorem q421 : (Jvm.Cond.methodLink "SleeperRailwayLaw" (299 : Nat) ({ cls := "SleeperRailway", name := "coins", desc := "()I" } : Jvm.MethodName)) ∈ lw_all := lw_g (lw_at lw_m2 81 rfl) rfl
theorem q425 : (Jvm.Cond.methodLink "SleeperRailwayLaw" (303 : Nat) ({ cls := "SleeperRailway", name := "coinsByLoads", desc := "()I" } : Jvm.MethodName)) ∈ lw_all := lw_g (lw_at lw_m2 85 rfl) rfl
theorem q1152 : (Jvm.Cond.methodLink "SleeperRailwayLaw" (307 : Nat) ({ cls := "SleeperRailway", name := "collectedTotal", desc := "()I" } : Jvm.MethodName)) ∈ lw_all := lw_g (lw_at lw_m5 92 rfl) rfl
theorem q1156 : (Jvm.Cond.methodLink "SleeperRailwayLaw" (318 : Nat) ({ cls := "SleeperRailway", name := "isConsistent", desc := "()Z" } : Jvm.MethodName)) ∈ lw_all := lw_g (lw_at lw_m5 96 rfl) rfl
theorem q2249 : (Jvm.Cond.methodLink "SleeperRailwayLaw" (349 : Nat) ({ cls := "SleeperRailway", name := "save", desc := "()I" } : Jvm.MethodName)) ∈ lw_all := lw_g (lw_at lw_m9 229 rfl) rfl
theorem q2254 : (Jvm.Cond.methodLink "SleeperRailwayLaw" (172 : Nat) ({ cls := "SleeperRailwayLaw", name := "addStation", desc := "(LSleeperRailway;I[J)I" } : Jvm.MethodName)) ∈ lw_all := lw_g (lw_at lw_m9 234 rfl) rfl
theorem q2255 : (Jvm.Cond.static ({ cls := "SleeperRailwayLaw", name := "addStation", desc := "(LSleeperRailway;I[J)I" } : Jvm.MethodName)) ∈ lw_all := lw_g (lw_at lw_m9 235 rfl) rfl
theorem q2256 : (Jvm.Cond.codeWith ({ cls := "SleeperRailwayLaw", name := "addStation", desc := "(LSleeperRailway;I[J)I" } : Jvm.MethodName) method_3_code (4 : Nat) (Option.some Jvm.ClassFile.FieldType.int) [((0 : Nat), (9 : Nat), (12 : Nat), (13 : Nat)), ((0 : Nat), (9 : Nat), (15 : Nat), (15 : Nat))]) ∈ lw_all := lw_g (lw_at lw_m9 236 rfl) rfl
theorem q2257 : (Jvm.Cond.classLink "SleeperRailwayLaw" (13 : Nat) "java/lang/IllegalArgumentException") ∈ lw_all := lw_g (lw_at lw_m9 237 rfl) rfl
theorem q2258 : (Jvm.Cond.classLink "SleeperRailwayLaw" (15 : Nat) "java/lang/IllegalStateException") ∈ lw_all := lw_g (lw_at lw_m9 238 rfl) rfl
theorem q2259 : (Jvm.Cond.methodLink "SleeperRailwayLaw" (7 : Nat) ({ cls := "SleeperRailway", name := "addStation", desc := "(I)I" } : Jvm.MethodName)) ∈ lw_all := lw_g (lw_at lw_m9 239 rfl) rfl
theorem q2711 : (Jvm.Cond.methodLink "SleeperRailwayLaw" (181 : Nat) ({ cls := "SleeperRailwayLaw", name := "addTrain", desc := "(LSleeperRailway;III[J)I" } : Jvm.MethodName)) ∈ lw_all := lw_g (lw_at lw_m11 211 rfl) rfl
theorem q2712 : (Jvm.Cond.static ({ cls := "SleeperRailwayLaw", name := "addTrain", desc := "(LSleeperRailway;III[J)I" } : Jvm.MethodName)) ∈ lw_all := lw_g (lw_at lw_m11 212 rfl) rfl
theorem q2713 : (Jvm.Cond.codeWith ({ cls := "SleeperRailwayLaw", name := "addTrain", desc := "(LSleeperRailway;III[J)I" } : Jvm.MethodName) method_4_code (6 : Nat) (Option.some Jvm.ClassFile.FieldType.int) [((0 : Nat), (12 : Nat), (15 : Nat), (21 : Nat)), ((0 : Nat), (12 : Nat), (19 : Nat), (13 : Nat)), ((0 : Nat), (12 : Nat), (23 : Nat), (15 : Nat))]) ∈ lw_all := lw_g (lw_at lw_m11 213 rfl) rfl
theorem q2714 : (Jvm.Cond.classLink "SleeperRailwayLaw" (21 : Nat) "java/lang/IndexOutOfBoundsException") ∈ lw_all := lw_g (lw_at lw_m11 214 rfl) rfl
theorem q2730 : (Jvm.Cond.methodLink "SleeperRailwayLaw" (17 : Nat) ({ cls := "SleeperRailway", name := "addTrain", desc := "(III)I" } : Jvm.MethodName)) ∈ lw_all := lw_g (lw_at lw_m11 230 rfl) rfl
theorem q2735 : (Jvm.Cond.methodLink "SleeperRailwayLaw" (185 : Nat) ({ cls := "SleeperRailwayLaw", name := "extendTrain", desc := "(LSleeperRailway;IIII[J)I" } : Jvm.MethodName)) ∈ lw_all := lw_g (lw_at lw_m11 235 rfl) rfl
theorem q2736 : (Jvm.Cond.static ({ cls := "SleeperRailwayLaw", name := "extendTrain", desc := "(LSleeperRailway;IIII[J)I" } : Jvm.MethodName)) ∈ lw_all := lw_g (lw_at lw_m11 236 rfl) rfl
theorem q2737 : (Jvm.Cond.codeWith ({ cls := "SleeperRailwayLaw", name := "extendTrain", desc := "(LSleeperRailway;IIII[J)I" } : Jvm.MethodName) method_5_code (7 : Nat) (Option.some Jvm.ClassFile.FieldType.int) [((0 : Nat), (14 : Nat), (17 : Nat), (21 : Nat)), ((0 : Nat), (14 : Nat), (21 : Nat), (13 : Nat)), ((0 : Nat), (14 : Nat), (25 : Nat), (15 : Nat))]) ∈ lw_all := lw_g (lw_at lw_m11 237 rfl) rfl
theorem q2738 : (Jvm.Cond.methodLink "SleeperRailwayLaw" (23 : Nat) ({ cls := "SleeperRailway", name := "extendTrain", desc := "(IIII)I" } : Jvm.MethodName)) ∈ lw_all := lw_g (lw_at lw_m11 238 rfl) rfl
theorem q2743 : (Jvm.Cond.methodLink "SleeperRailwayLaw" (189 : Nat) ({ cls := "SleeperRailwayLaw", name := "delayTrain", desc := "(LSleeperRailway;II[J)I" } : Jvm.MethodName)) ∈ lw_all := lw_g (lw_at lw_m12 3 rfl) rfl
theorem q2744 : (Jvm.Cond.static ({ cls := "SleeperRailwayLaw", name := "delayTrain", desc := "(LSleeperRailway;II[J)I" } : Jvm.MethodName)) ∈ lw_all := lw_g (lw_at lw_m12 4 rfl) rfl
theorem q2745 : (Jvm.Cond.codeWith ({ cls := "SleeperRailwayLaw", name := "delayTrain", desc := "(LSleeperRailway;II[J)I" } : Jvm.MethodName) method_6_code (5 : Nat) (Option.some Jvm.ClassFile.FieldType.int) [((0 : Nat), (10 : Nat), (13 : Nat), (21 : Nat)), ((0 : Nat), (10 : Nat), (17 : Nat), (13 : Nat))]) ∈ lw_all := lw_g (lw_at lw_m12 5 rfl) rfl
theorem q2746 : (Jvm.Cond.methodLink "SleeperRailwayLaw" (27 : Nat) ({ cls := "SleeperRailway", name := "delayTrain", desc := "(II)I" } : Jvm.MethodName)) ∈ lw_all := lw_g (lw_at lw_m12 6 rfl) rfl
theorem q2751 : (Jvm.Cond.methodLink "SleeperRailwayLaw" (193 : Nat) ({ cls := "SleeperRailwayLaw", name := "addSuitcase", desc := "(LSleeperRailway;III[J)I" } : Jvm.MethodName)) ∈ lw_all := lw_g (lw_at lw_m12 11 rfl) rfl
theorem q2752 : (Jvm.Cond.static ({ cls := "SleeperRailwayLaw", name := "addSuitcase", desc := "(LSleeperRailway;III[J)I" } : Jvm.MethodName)) ∈ lw_all := lw_g (lw_at lw_m12 12 rfl) rfl
theorem q2753 : (Jvm.Cond.codeWith ({ cls := "SleeperRailwayLaw", name := "addSuitcase", desc := "(LSleeperRailway;III[J)I" } : Jvm.MethodName) method_7_code (6 : Nat) (Option.some Jvm.ClassFile.FieldType.int) [((0 : Nat), (12 : Nat), (15 : Nat), (21 : Nat)), ((0 : Nat), (12 : Nat), (19 : Nat), (13 : Nat)), ((0 : Nat), (12 : Nat), (23 : Nat), (15 : Nat))]) ∈ lw_all := lw_g (lw_at lw_m12 13 rfl) rfl
theorem q2754 : (Jvm.Cond.methodLink "SleeperRailwayLaw" (31 : Nat) ({ cls := "SleeperRailway", name := "addSuitcase", desc := "(III)I" } : Jvm.MethodName)) ∈ lw_all := lw_g (lw_at lw_m12 14 rfl) rfl
theorem q2759 : (Jvm.Cond.methodLink "SleeperRailwayLaw" (196 : Nat) ({ cls := "SleeperRailwayLaw", name := "relabel", desc := "(LSleeperRailway;II[J)I" } : Jvm.MethodName)) ∈ lw_all := lw_g (lw_at lw_m12 19 rfl) rfl
theorem q2760 : (Jvm.Cond.static ({ cls := "SleeperRailwayLaw", name := "relabel", desc := "(LSleeperRailway;II[J)I" } : Jvm.MethodName)) ∈ lw_all := lw_g (lw_at lw_m12 20 rfl) rfl
theorem q2761 : (Jvm.Cond.codeWith ({ cls := "SleeperRailwayLaw", name := "relabel", desc := "(LSleeperRailway;II[J)I" } : Jvm.MethodName) method_8_code (5 : Nat) (Option.some Jvm.ClassFile.FieldType.int) [((0 : Nat), (10 : Nat), (13 : Nat), (37 : Nat)), ((0 : Nat), (10 : Nat), (17 : Nat), (21 : Nat))]) ∈ lw_all := lw_g (lw_at lw_m12 21 rfl) rfl
theorem q2762 : (Jvm.Cond.classLink "SleeperRailwayLaw" (37 : Nat) "java/util/NoSuchElementException") ∈ lw_all := lw_g (lw_at lw_m12 22 rfl) rfl
theorem q2763 : (Jvm.Cond.methodLink "SleeperRailwayLaw" (34 : Nat) ({ cls := "SleeperRailway", name := "relabel", desc := "(II)I" } : Jvm.MethodName)) ∈ lw_all := lw_g (lw_at lw_m12 23 rfl) rfl
theorem q2768 : (Jvm.Cond.methodLink "SleeperRailwayLaw" (199 : Nat) ({ cls := "SleeperRailwayLaw", name := "send", desc := "(LSleeperRailway;I[J)I" } : Jvm.MethodName)) ∈ lw_all := lw_g (lw_at lw_m12 28 rfl) rfl
theorem q2769 : (Jvm.Cond.static ({ cls := "SleeperRailwayLaw", name := "send", desc := "(LSleeperRailway;I[J)I" } : Jvm.MethodName)) ∈ lw_all := lw_g (lw_at lw_m12 29 rfl) rfl
theorem q2770 : (Jvm.Cond.codeWith ({ cls := "SleeperRailwayLaw", name := "send", desc := "(LSleeperRailway;I[J)I" } : Jvm.MethodName) method_9_code (4 : Nat) (Option.some Jvm.ClassFile.FieldType.int) [((0 : Nat), (9 : Nat), (12 : Nat), (37 : Nat)), ((0 : Nat), (9 : Nat), (15 : Nat), (42 : Nat))]) ∈ lw_all := lw_g (lw_at lw_m12 30 rfl) rfl
theorem q2771 : (Jvm.Cond.classLink "SleeperRailwayLaw" (42 : Nat) "java/lang/UnsupportedOperationException") ∈ lw_all := lw_g (lw_at lw_m12 31 rfl) rfl
theorem q2772 : (Jvm.Cond.methodLink "SleeperRailwayLaw" (39 : Nat) ({ cls := "SleeperRailway", name := "send", desc := "(I)I" } : Jvm.MethodName)) ∈ lw_all := lw_g (lw_at lw_m12 32 rfl) rfl
theorem q2777 : (Jvm.Cond.methodLink "SleeperRailwayLaw" (202 : Nat) ({ cls := "SleeperRailwayLaw", name := "collect", desc := "(LSleeperRailway;I[J)I" } : Jvm.MethodName)) ∈ lw_all := lw_g (lw_at lw_m12 37 rfl) rfl
theorem q2778 : (Jvm.Cond.static ({ cls := "SleeperRailwayLaw", name := "collect", desc := "(LSleeperRailway;I[J)I" } : Jvm.MethodName)) ∈ lw_all := lw_g (lw_at lw_m12 38 rfl) rfl
theorem q2779 : (Jvm.Cond.codeWith ({ cls := "SleeperRailwayLaw", name := "collect", desc := "(LSleeperRailway;I[J)I" } : Jvm.MethodName) method_10_code (4 : Nat) (Option.some Jvm.ClassFile.FieldType.int) [((0 : Nat), (9 : Nat), (12 : Nat), (37 : Nat)), ((0 : Nat), (9 : Nat), (15 : Nat), (15 : Nat))]) ∈ lw_all := lw_g (lw_at lw_m12 39 rfl) rfl
theorem q2780 : (Jvm.Cond.methodLink "SleeperRailwayLaw" (44 : Nat) ({ cls := "SleeperRailway", name := "collect", desc := "(I)I" } : Jvm.MethodName)) ∈ lw_all := lw_g (lw_at lw_m12 40 rfl) rfl
theorem q2785 : (Jvm.Cond.methodLink "SleeperRailwayLaw" (205 : Nat) ({ cls := "SleeperRailwayLaw", name := "book", desc := "(LSleeperRailway;III[J)I" } : Jvm.MethodName)) ∈ lw_all := lw_g (lw_at lw_m12 45 rfl) rfl
theorem q2786 : (Jvm.Cond.static ({ cls := "SleeperRailwayLaw", name := "book", desc := "(LSleeperRailway;III[J)I" } : Jvm.MethodName)) ∈ lw_all := lw_g (lw_at lw_m12 46 rfl) rfl
theorem q2787 : (Jvm.Cond.codeWith ({ cls := "SleeperRailwayLaw", name := "book", desc := "(LSleeperRailway;III[J)I" } : Jvm.MethodName) method_11_code (6 : Nat) (Option.some Jvm.ClassFile.FieldType.int) [((0 : Nat), (12 : Nat), (15 : Nat), (21 : Nat)), ((0 : Nat), (12 : Nat), (19 : Nat), (13 : Nat)), ((0 : Nat), (12 : Nat), (23 : Nat), (15 : Nat)), ((0 : Nat), (12 : Nat), (27 : Nat), (42 : Nat))]) ∈ lw_all := lw_g (lw_at lw_m12 47 rfl) rfl
theorem q2788 : (Jvm.Cond.methodLink "SleeperRailwayLaw" (47 : Nat) ({ cls := "SleeperRailway", name := "book", desc := "(III)I" } : Jvm.MethodName)) ∈ lw_all := lw_g (lw_at lw_m12 48 rfl) rfl
theorem q2793 : (Jvm.Cond.methodLink "SleeperRailwayLaw" (208 : Nat) ({ cls := "SleeperRailwayLaw", name := "cancelBooking", desc := "(LSleeperRailway;I[J)I" } : Jvm.MethodName)) ∈ lw_all := lw_g (lw_at lw_m12 53 rfl) rfl
theorem q2794 : (Jvm.Cond.static ({ cls := "SleeperRailwayLaw", name := "cancelBooking", desc := "(LSleeperRailway;I[J)I" } : Jvm.MethodName)) ∈ lw_all := lw_g (lw_at lw_m12 54 rfl) rfl
theorem q2795 : (Jvm.Cond.codeWith ({ cls := "SleeperRailwayLaw", name := "cancelBooking", desc := "(LSleeperRailway;I[J)I" } : Jvm.MethodName) method_12_code (4 : Nat) (Option.some Jvm.ClassFile.FieldType.int) [((0 : Nat), (9 : Nat), (12 : Nat), (37 : Nat))]) ∈ lw_all := lw_g (lw_at lw_m12 55 rfl) rfl
theorem q2796 : (Jvm.Cond.methodLink "SleeperRailwayLaw" (50 : Nat) ({ cls := "SleeperRailway", name := "cancelBooking", desc := "(I)I" } : Jvm.MethodName)) ∈ lw_all := lw_g (lw_at lw_m12 56 rfl) rfl
theorem q2801 : (Jvm.Cond.methodLink "SleeperRailwayLaw" (215 : Nat) ({ cls := "SleeperRailwayLaw", name := "transferTime", desc := "(LSleeperRailway;I[J)I" } : Jvm.MethodName)) ∈ lw_all := lw_g (lw_at lw_m12 61 rfl) rfl
theorem q2802 : (Jvm.Cond.static ({ cls := "SleeperRailwayLaw", name := "transferTime", desc := "(LSleeperRailway;I[J)I" } : Jvm.MethodName)) ∈ lw_all := lw_g (lw_at lw_m12 62 rfl) rfl
theorem q2803 : (Jvm.Cond.codeWith ({ cls := "SleeperRailwayLaw", name := "transferTime", desc := "(LSleeperRailway;I[J)I" } : Jvm.MethodName) method_13_code (4 : Nat) (Option.some Jvm.ClassFile.FieldType.int) [((0 : Nat), (9 : Nat), (12 : Nat), (21 : Nat))]) ∈ lw_all := lw_g (lw_at lw_m12 63 rfl) rfl
theorem q2804 : (Jvm.Cond.methodLink "SleeperRailwayLaw" (53 : Nat) ({ cls := "SleeperRailway", name := "transferTime", desc := "(I)I" } : Jvm.MethodName)) ∈ lw_all := lw_g (lw_at lw_m12 64 rfl) rfl
theorem q2822 : (Jvm.Cond.methodLink "SleeperRailwayLaw" (218 : Nat) ({ cls := "SleeperRailwayLaw", name := "nextTrain", desc := "(LSleeperRailway;II[J)I" } : Jvm.MethodName)) ∈ lw_all := lw_g (lw_at lw_m12 82 rfl) rfl
theorem q2823 : (Jvm.Cond.static ({ cls := "SleeperRailwayLaw", name := "nextTrain", desc := "(LSleeperRailway;II[J)I" } : Jvm.MethodName)) ∈ lw_all := lw_g (lw_at lw_m12 83 rfl) rfl
theorem q2824 : (Jvm.Cond.codeWith ({ cls := "SleeperRailwayLaw", name := "nextTrain", desc := "(LSleeperRailway;II[J)I" } : Jvm.MethodName) method_14_code (5 : Nat) (Option.some Jvm.ClassFile.FieldType.int) [((0 : Nat), (10 : Nat), (13 : Nat), (21 : Nat)), ((0 : Nat), (10 : Nat), (17 : Nat), (13 : Nat)), ((0 : Nat), (10 : Nat), (21 : Nat), (37 : Nat))]) ∈ lw_all := lw_g (lw_at lw_m12 84 rfl) rfl
theorem q2825 : (Jvm.Cond.methodLink "SleeperRailwayLaw" (56 : Nat) ({ cls := "SleeperRailway", name := "nextTrain", desc := "(II)I" } : Jvm.MethodName)) ∈ lw_all := lw_g (lw_at lw_m12 85 rfl) rfl
theorem q2853 : (Jvm.Cond.methodLink "SleeperRailwayLaw" (225 : Nat) ({ cls := "SleeperRailwayLaw", name := "stopCount", desc := "(LSleeperRailway;I[J)I" } : Jvm.MethodName)) ∈ lw_all := lw_g (lw_at lw_m12 113 rfl) rfl
theorem q2854 : (Jvm.Cond.static ({ cls := "SleeperRailwayLaw", name := "stopCount", desc := "(LSleeperRailway;I[J)I" } : Jvm.MethodName)) ∈ lw_all := lw_g (lw_at lw_m12 114 rfl) rfl
theorem q2855 : (Jvm.Cond.codeWith ({ cls := "SleeperRailwayLaw", name := "stopCount", desc := "(LSleeperRailway;I[J)I" } : Jvm.MethodName) method_15_code (4 : Nat) (Option.some Jvm.ClassFile.FieldType.int) [((0 : Nat), (9 : Nat), (12 : Nat), (21 : Nat))]) ∈ lw_all := lw_g (lw_at lw_m12 115 rfl) rfl
theorem q2856 : (Jvm.Cond.methodLink "SleeperRailwayLaw" (59 : Nat) ({ cls := "SleeperRailway", name := "stopCount", desc := "(I)I" } : Jvm.MethodName)) ∈ lw_all := lw_g (lw_at lw_m12 116 rfl) rfl
theorem q2866 : (Jvm.Cond.methodLink "SleeperRailwayLaw" (228 : Nat) ({ cls := "SleeperRailwayLaw", name := "stationAt", desc := "(LSleeperRailway;II[J)I" } : Jvm.MethodName)) ∈ lw_all := lw_g (lw_at lw_m12 126 rfl) rfl
theorem q2867 : (Jvm.Cond.static ({ cls := "SleeperRailwayLaw", name := "stationAt", desc := "(LSleeperRailway;II[J)I" } : Jvm.MethodName)) ∈ lw_all := lw_g (lw_at lw_m12 127 rfl) rfl
theorem q2868 : (Jvm.Cond.codeWith ({ cls := "SleeperRailwayLaw", name := "stationAt", desc := "(LSleeperRailway;II[J)I" } : Jvm.MethodName) method_16_code (5 : Nat) (Option.some Jvm.ClassFile.FieldType.int) [((0 : Nat), (10 : Nat), (13 : Nat), (21 : Nat))]) ∈ lw_all := lw_g (lw_at lw_m12 128 rfl) rfl
theorem q2869 : (Jvm.Cond.methodLink "SleeperRailwayLaw" (62 : Nat) ({ cls := "SleeperRailway", name := "stationAt", desc := "(II)I" } : Jvm.MethodName)) ∈ lw_all := lw_g (lw_at lw_m12 129 rfl) rfl
theorem q2878 : (Jvm.Cond.methodLink "SleeperRailwayLaw" (231 : Nat) ({ cls := "SleeperRailwayLaw", name := "arrivalAt", desc := "(LSleeperRailway;II[J)I" } : Jvm.MethodName)) ∈ lw_all := lw_g (lw_at lw_m12 138 rfl) rfl
theorem q2879 : (Jvm.Cond.static ({ cls := "SleeperRailwayLaw", name := "arrivalAt", desc := "(LSleeperRailway;II[J)I" } : Jvm.MethodName)) ∈ lw_all := lw_g (lw_at lw_m12 139 rfl) rfl
theorem q2880 : (Jvm.Cond.codeWith ({ cls := "SleeperRailwayLaw", name := "arrivalAt", desc := "(LSleeperRailway;II[J)I" } : Jvm.MethodName) method_17_code (5 : Nat) (Option.some Jvm.ClassFile.FieldType.int) [((0 : Nat), (10 : Nat), (13 : Nat), (21 : Nat)), ((0 : Nat), (10 : Nat), (17 : Nat), (37 : Nat))]) ∈ lw_all := lw_g (lw_at lw_m12 140 rfl) rfl
theorem q2881 : (Jvm.Cond.methodLink "SleeperRailwayLaw" (65 : Nat) ({ cls := "SleeperRailway", name := "arrivalAt", desc := "(II)I" } : Jvm.MethodName)) ∈ lw_all := lw_g (lw_at lw_m12 141 rfl) rfl
theorem q2886 : (Jvm.Cond.methodLink "SleeperRailwayLaw" (234 : Nat) ({ cls := "SleeperRailwayLaw", name := "departureAt", desc := "(LSleeperRailway;II[J)I" } : Jvm.MethodName)) ∈ lw_all := lw_g (lw_at lw_m12 146 rfl) rfl
theorem q2887 : (Jvm.Cond.static ({ cls := "SleeperRailwayLaw", name := "departureAt", desc := "(LSleeperRailway;II[J)I" } : Jvm.MethodName)) ∈ lw_all := lw_g (lw_at lw_m12 147 rfl) rfl
theorem q2888 : (Jvm.Cond.codeWith ({ cls := "SleeperRailwayLaw", name := "departureAt", desc := "(LSleeperRailway;II[J)I" } : Jvm.MethodName) method_18_code (5 : Nat) (Option.some Jvm.ClassFile.FieldType.int) [((0 : Nat), (10 : Nat), (13 : Nat), (21 : Nat)), ((0 : Nat), (10 : Nat), (17 : Nat), (37 : Nat))]) ∈ lw_all := lw_g (lw_at lw_m12 148 rfl) rfl
theorem q2889 : (Jvm.Cond.methodLink "SleeperRailwayLaw" (68 : Nat) ({ cls := "SleeperRailway", name := "departureAt", desc := "(II)I" } : Jvm.MethodName)) ∈ lw_all := lw_g (lw_at lw_m12 149 rfl) rfl
theorem q2895 : (Jvm.Cond.methodLink "SleeperRailwayLaw" (237 : Nat) ({ cls := "SleeperRailwayLaw", name := "capacity", desc := "(LSleeperRailway;I[J)I" } : Jvm.MethodName)) ∈ lw_all := lw_g (lw_at lw_m12 155 rfl) rfl
theorem q2896 : (Jvm.Cond.static ({ cls := "SleeperRailwayLaw", name := "capacity", desc := "(LSleeperRailway;I[J)I" } : Jvm.MethodName)) ∈ lw_all := lw_g (lw_at lw_m12 156 rfl) rfl
theorem q2897 : (Jvm.Cond.codeWith ({ cls := "SleeperRailwayLaw", name := "capacity", desc := "(LSleeperRailway;I[J)I" } : Jvm.MethodName) method_19_code (4 : Nat) (Option.some Jvm.ClassFile.FieldType.int) [((0 : Nat), (9 : Nat), (12 : Nat), (21 : Nat))]) ∈ lw_all := lw_g (lw_at lw_m12 157 rfl) rfl
theorem q2898 : (Jvm.Cond.methodLink "SleeperRailwayLaw" (71 : Nat) ({ cls := "SleeperRailway", name := "capacity", desc := "(I)I" } : Jvm.MethodName)) ∈ lw_all := lw_g (lw_at lw_m12 158 rfl) rfl
theorem q2902 : (Jvm.Cond.methodLink "SleeperRailwayLaw" (240 : Nat) ({ cls := "SleeperRailwayLaw", name := "delayOf", desc := "(LSleeperRailway;I[J)I" } : Jvm.MethodName)) ∈ lw_all := lw_g (lw_at lw_m12 162 rfl) rfl
theorem q2903 : (Jvm.Cond.static ({ cls := "SleeperRailwayLaw", name := "delayOf", desc := "(LSleeperRailway;I[J)I" } : Jvm.MethodName)) ∈ lw_all := lw_g (lw_at lw_m12 163 rfl) rfl
theorem q2904 : (Jvm.Cond.codeWith ({ cls := "SleeperRailwayLaw", name := "delayOf", desc := "(LSleeperRailway;I[J)I" } : Jvm.MethodName) method_20_code (4 : Nat) (Option.some Jvm.ClassFile.FieldType.int) [((0 : Nat), (9 : Nat), (12 : Nat), (21 : Nat))]) ∈ lw_all := lw_g (lw_at lw_m12 164 rfl) rfl
theorem q2905 : (Jvm.Cond.methodLink "SleeperRailwayLaw" (74 : Nat) ({ cls := "SleeperRailway", name := "delayOf", desc := "(I)I" } : Jvm.MethodName)) ∈ lw_all := lw_g (lw_at lw_m12 165 rfl) rfl
theorem q2909 : (Jvm.Cond.methodLink "SleeperRailwayLaw" (243 : Nat) ({ cls := "SleeperRailwayLaw", name := "load", desc := "(LSleeperRailway;II[J)I" } : Jvm.MethodName)) ∈ lw_all := lw_g (lw_at lw_m12 169 rfl) rfl
theorem q2910 : (Jvm.Cond.static ({ cls := "SleeperRailwayLaw", name := "load", desc := "(LSleeperRailway;II[J)I" } : Jvm.MethodName)) ∈ lw_all := lw_g (lw_at lw_m12 170 rfl) rfl
theorem q2911 : (Jvm.Cond.codeWith ({ cls := "SleeperRailwayLaw", name := "load", desc := "(LSleeperRailway;II[J)I" } : Jvm.MethodName) method_21_code (5 : Nat) (Option.some Jvm.ClassFile.FieldType.int) [((0 : Nat), (10 : Nat), (13 : Nat), (21 : Nat))]) ∈ lw_all := lw_g (lw_at lw_m12 171 rfl) rfl
theorem q2912 : (Jvm.Cond.methodLink "SleeperRailwayLaw" (77 : Nat) ({ cls := "SleeperRailway", name := "load", desc := "(II)I" } : Jvm.MethodName)) ∈ lw_all := lw_g (lw_at lw_m12 172 rfl) rfl
theorem q2921 : (Jvm.Cond.methodLink "SleeperRailwayLaw" (246 : Nat) ({ cls := "SleeperRailwayLaw", name := "isFull", desc := "(LSleeperRailway;II[J)I" } : Jvm.MethodName)) ∈ lw_all := lw_g (lw_at lw_m12 181 rfl) rfl
theorem q2922 : (Jvm.Cond.static ({ cls := "SleeperRailwayLaw", name := "isFull", desc := "(LSleeperRailway;II[J)I" } : Jvm.MethodName)) ∈ lw_all := lw_g (lw_at lw_m12 182 rfl) rfl
theorem q2923 : (Jvm.Cond.codeWith ({ cls := "SleeperRailwayLaw", name := "isFull", desc := "(LSleeperRailway;II[J)I" } : Jvm.MethodName) method_22_code (5 : Nat) (Option.some Jvm.ClassFile.FieldType.int) [((0 : Nat), (17 : Nat), (20 : Nat), (21 : Nat))]) ∈ lw_all := lw_g (lw_at lw_m12 183 rfl) rfl
theorem q2924 : (Jvm.Cond.methodLink "SleeperRailwayLaw" (80 : Nat) ({ cls := "SleeperRailway", name := "isFull", desc := "(II)Z" } : Jvm.MethodName)) ∈ lw_all := lw_g (lw_at lw_m12 184 rfl) rfl
theorem q2929 : (Jvm.Cond.methodLink "SleeperRailwayLaw" (249 : Nat) ({ cls := "SleeperRailwayLaw", name := "canReach", desc := "(LSleeperRailway;III[J)I" } : Jvm.MethodName)) ∈ lw_all := lw_g (lw_at lw_m12 189 rfl) rfl
theorem q2930 : (Jvm.Cond.static ({ cls := "SleeperRailwayLaw", name := "canReach", desc := "(LSleeperRailway;III[J)I" } : Jvm.MethodName)) ∈ lw_all := lw_g (lw_at lw_m12 190 rfl) rfl
theorem q2931 : (Jvm.Cond.codeWith ({ cls := "SleeperRailwayLaw", name := "canReach", desc := "(LSleeperRailway;III[J)I" } : Jvm.MethodName) method_23_code (6 : Nat) (Option.some Jvm.ClassFile.FieldType.int) [((0 : Nat), (19 : Nat), (22 : Nat), (21 : Nat)), ((0 : Nat), (19 : Nat), (26 : Nat), (13 : Nat))]) ∈ lw_all := lw_g (lw_at lw_m12 191 rfl) rfl
theorem q2932 : (Jvm.Cond.methodLink "SleeperRailwayLaw" (84 : Nat) ({ cls := "SleeperRailway", name := "canReach", desc := "(III)Z" } : Jvm.MethodName)) ∈ lw_all := lw_g (lw_at lw_m12 192 rfl) rfl
theorem q2943 : (Jvm.Cond.methodLink "SleeperRailwayLaw" (252 : Nat) ({ cls := "SleeperRailwayLaw", name := "arrival", desc := "(LSleeperRailway;III[J)I" } : Jvm.MethodName)) ∈ lw_all := lw_g (lw_at lw_m12 203 rfl) rfl
theorem q2944 : (Jvm.Cond.static ({ cls := "SleeperRailwayLaw", name := "arrival", desc := "(LSleeperRailway;III[J)I" } : Jvm.MethodName)) ∈ lw_all := lw_g (lw_at lw_m12 204 rfl) rfl
theorem q2945 : (Jvm.Cond.codeWith ({ cls := "SleeperRailwayLaw", name := "arrival", desc := "(LSleeperRailway;III[J)I" } : Jvm.MethodName) method_24_code (6 : Nat) (Option.some Jvm.ClassFile.FieldType.int) [((0 : Nat), (12 : Nat), (15 : Nat), (21 : Nat)), ((0 : Nat), (12 : Nat), (19 : Nat), (13 : Nat)), ((0 : Nat), (12 : Nat), (23 : Nat), (37 : Nat))]) ∈ lw_all := lw_g (lw_at lw_m12 205 rfl) rfl
theorem q2946 : (Jvm.Cond.methodLink "SleeperRailwayLaw" (88 : Nat) ({ cls := "SleeperRailway", name := "arrival", desc := "(III)I" } : Jvm.MethodName)) ∈ lw_all := lw_g (lw_at lw_m12 206 rfl) rfl
theorem q2950 : (Jvm.Cond.methodLink "SleeperRailwayLaw" (255 : Nat) ({ cls := "SleeperRailwayLaw", name := "arrivalByScanning", desc := "(LSleeperRailway;III[J)I" } : Jvm.MethodName)) ∈ lw_all := lw_g (lw_at lw_m12 210 rfl) rfl
theorem q2951 : (Jvm.Cond.static ({ cls := "SleeperRailwayLaw", name := "arrivalByScanning", desc := "(LSleeperRailway;III[J)I" } : Jvm.MethodName)) ∈ lw_all := lw_g (lw_at lw_m12 211 rfl) rfl
theorem q2952 : (Jvm.Cond.codeWith ({ cls := "SleeperRailwayLaw", name := "arrivalByScanning", desc := "(LSleeperRailway;III[J)I" } : Jvm.MethodName) method_25_code (6 : Nat) (Option.some Jvm.ClassFile.FieldType.int) [((0 : Nat), (12 : Nat), (15 : Nat), (21 : Nat)), ((0 : Nat), (12 : Nat), (19 : Nat), (13 : Nat)), ((0 : Nat), (12 : Nat), (23 : Nat), (37 : Nat))]) ∈ lw_all := lw_g (lw_at lw_m12 212 rfl) rfl
theorem q2953 : (Jvm.Cond.methodLink "SleeperRailwayLaw" (91 : Nat) ({ cls := "SleeperRailway", name := "arrivalByScanning", desc := "(III)I" } : Jvm.MethodName)) ∈ lw_all := lw_g (lw_at lw_m12 213 rfl) rfl
theorem q2958 : (Jvm.Cond.methodLink "SleeperRailwayLaw" (258 : Nat) ({ cls := "SleeperRailwayLaw", name := "boardings", desc := "(LSleeperRailway;III[J)I" } : Jvm.MethodName)) ∈ lw_all := lw_g (lw_at lw_m12 218 rfl) rfl
theorem q2959 : (Jvm.Cond.static ({ cls := "SleeperRailwayLaw", name := "boardings", desc := "(LSleeperRailway;III[J)I" } : Jvm.MethodName)) ∈ lw_all := lw_g (lw_at lw_m12 219 rfl) rfl
theorem q2960 : (Jvm.Cond.codeWith ({ cls := "SleeperRailwayLaw", name := "boardings", desc := "(LSleeperRailway;III[J)I" } : Jvm.MethodName) method_26_code (6 : Nat) (Option.some Jvm.ClassFile.FieldType.int) [((0 : Nat), (12 : Nat), (15 : Nat), (21 : Nat)), ((0 : Nat), (12 : Nat), (19 : Nat), (13 : Nat)), ((0 : Nat), (12 : Nat), (23 : Nat), (37 : Nat))]) ∈ lw_all := lw_g (lw_at lw_m12 220 rfl) rfl
theorem q2961 : (Jvm.Cond.methodLink "SleeperRailwayLaw" (94 : Nat) ({ cls := "SleeperRailway", name := "boardings", desc := "(III)I" } : Jvm.MethodName)) ∈ lw_all := lw_g (lw_at lw_m12 221 rfl) rfl
theorem q2975 : (Jvm.Cond.methodLink "SleeperRailwayLaw" (265 : Nat) ({ cls := "SleeperRailwayLaw", name := "suitcaseAt", desc := "(LSleeperRailway;I[J)I" } : Jvm.MethodName)) ∈ lw_all := lw_g (lw_at lw_m12 235 rfl) rfl
theorem q2976 : (Jvm.Cond.static ({ cls := "SleeperRailwayLaw", name := "suitcaseAt", desc := "(LSleeperRailway;I[J)I" } : Jvm.MethodName)) ∈ lw_all := lw_g (lw_at lw_m12 236 rfl) rfl
theorem q2977 : (Jvm.Cond.codeWith ({ cls := "SleeperRailwayLaw", name := "suitcaseAt", desc := "(LSleeperRailway;I[J)I" } : Jvm.MethodName) method_27_code (4 : Nat) (Option.some Jvm.ClassFile.FieldType.int) [((0 : Nat), (9 : Nat), (12 : Nat), (37 : Nat))]) ∈ lw_all := lw_g (lw_at lw_m12 237 rfl) rfl
theorem q2978 : (Jvm.Cond.methodLink "SleeperRailwayLaw" (97 : Nat) ({ cls := "SleeperRailway", name := "suitcaseAt", desc := "(I)I" } : Jvm.MethodName)) ∈ lw_all := lw_g (lw_at lw_m12 238 rfl) rfl
theorem q3054 : (Jvm.Cond.methodLink "SleeperRailwayLaw" (268 : Nat) ({ cls := "SleeperRailwayLaw", name := "stationOf", desc := "(LSleeperRailway;I[J)I" } : Jvm.MethodName)) ∈ lw_all := lw_g (lw_at lw_m13 74 rfl) rfl
theorem q3055 : (Jvm.Cond.static ({ cls := "SleeperRailwayLaw", name := "stationOf", desc := "(LSleeperRailway;I[J)I" } : Jvm.MethodName)) ∈ lw_all := lw_g (lw_at lw_m13 75 rfl) rfl
theorem q3056 : (Jvm.Cond.codeWith ({ cls := "SleeperRailwayLaw", name := "stationOf", desc := "(LSleeperRailway;I[J)I" } : Jvm.MethodName) method_28_code (4 : Nat) (Option.some Jvm.ClassFile.FieldType.int) [((0 : Nat), (9 : Nat), (12 : Nat), (37 : Nat))]) ∈ lw_all := lw_g (lw_at lw_m13 76 rfl) rfl
theorem q3057 : (Jvm.Cond.methodLink "SleeperRailwayLaw" (100 : Nat) ({ cls := "SleeperRailway", name := "stationOf", desc := "(I)I" } : Jvm.MethodName)) ∈ lw_all := lw_g (lw_at lw_m13 77 rfl) rfl
theorem q3069 : (Jvm.Cond.methodLink "SleeperRailwayLaw" (271 : Nat) ({ cls := "SleeperRailwayLaw", name := "destinationOf", desc := "(LSleeperRailway;I[J)I" } : Jvm.MethodName)) ∈ lw_all := lw_g (lw_at lw_m13 89 rfl) rfl
theorem q3070 : (Jvm.Cond.static ({ cls := "SleeperRailwayLaw", name := "destinationOf", desc := "(LSleeperRailway;I[J)I" } : Jvm.MethodName)) ∈ lw_all := lw_g (lw_at lw_m13 90 rfl) rfl
theorem q3071 : (Jvm.Cond.codeWith ({ cls := "SleeperRailwayLaw", name := "destinationOf", desc := "(LSleeperRailway;I[J)I" } : Jvm.MethodName) method_29_code (4 : Nat) (Option.some Jvm.ClassFile.FieldType.int) [((0 : Nat), (9 : Nat), (12 : Nat), (37 : Nat))]) ∈ lw_all := lw_g (lw_at lw_m13 91 rfl) rfl
theorem q3072 : (Jvm.Cond.methodLink "SleeperRailwayLaw" (103 : Nat) ({ cls := "SleeperRailway", name := "destinationOf", desc := "(I)I" } : Jvm.MethodName)) ∈ lw_all := lw_g (lw_at lw_m13 92 rfl) rfl
theorem q3077 : (Jvm.Cond.methodLink "SleeperRailwayLaw" (274 : Nat) ({ cls := "SleeperRailwayLaw", name := "readyAt", desc := "(LSleeperRailway;I[J)I" } : Jvm.MethodName)) ∈ lw_all := lw_g (lw_at lw_m13 97 rfl) rfl
theorem q3078 : (Jvm.Cond.static ({ cls := "SleeperRailwayLaw", name := "readyAt", desc := "(LSleeperRailway;I[J)I" } : Jvm.MethodName)) ∈ lw_all := lw_g (lw_at lw_m13 98 rfl) rfl
theorem q3079 : (Jvm.Cond.codeWith ({ cls := "SleeperRailwayLaw", name := "readyAt", desc := "(LSleeperRailway;I[J)I" } : Jvm.MethodName) method_30_code (4 : Nat) (Option.some Jvm.ClassFile.FieldType.int) [((0 : Nat), (9 : Nat), (12 : Nat), (37 : Nat))]) ∈ lw_all := lw_g (lw_at lw_m13 99 rfl) rfl
theorem q3080 : (Jvm.Cond.methodLink "SleeperRailwayLaw" (106 : Nat) ({ cls := "SleeperRailway", name := "readyAt", desc := "(I)I" } : Jvm.MethodName)) ∈ lw_all := lw_g (lw_at lw_m13 100 rfl) rfl
theorem q3085 : (Jvm.Cond.methodLink "SleeperRailwayLaw" (277 : Nat) ({ cls := "SleeperRailwayLaw", name := "isThere", desc := "(LSleeperRailway;I[J)I" } : Jvm.MethodName)) ∈ lw_all := lw_g (lw_at lw_m13 105 rfl) rfl
theorem q3086 : (Jvm.Cond.static ({ cls := "SleeperRailwayLaw", name := "isThere", desc := "(LSleeperRailway;I[J)I" } : Jvm.MethodName)) ∈ lw_all := lw_g (lw_at lw_m13 106 rfl) rfl
theorem q3087 : (Jvm.Cond.codeWith ({ cls := "SleeperRailwayLaw", name := "isThere", desc := "(LSleeperRailway;I[J)I" } : Jvm.MethodName) method_31_code (4 : Nat) (Option.some Jvm.ClassFile.FieldType.int) [((0 : Nat), (16 : Nat), (19 : Nat), (37 : Nat))]) ∈ lw_all := lw_g (lw_at lw_m13 107 rfl) rfl
theorem q3088 : (Jvm.Cond.methodLink "SleeperRailwayLaw" (109 : Nat) ({ cls := "SleeperRailway", name := "isThere", desc := "(I)Z" } : Jvm.MethodName)) ∈ lw_all := lw_g (lw_at lw_m13 108 rfl) rfl
theorem q3093 : (Jvm.Cond.methodLink "SleeperRailwayLaw" (280 : Nat) ({ cls := "SleeperRailwayLaw", name := "suitcaseByReady", desc := "(LSleeperRailway;I[J)I" } : Jvm.MethodName)) ∈ lw_all := lw_g (lw_at lw_m13 113 rfl) rfl
theorem q3094 : (Jvm.Cond.static ({ cls := "SleeperRailwayLaw", name := "suitcaseByReady", desc := "(LSleeperRailway;I[J)I" } : Jvm.MethodName)) ∈ lw_all := lw_g (lw_at lw_m13 114 rfl) rfl
theorem q3095 : (Jvm.Cond.codeWith ({ cls := "SleeperRailwayLaw", name := "suitcaseByReady", desc := "(LSleeperRailway;I[J)I" } : Jvm.MethodName) method_32_code (4 : Nat) (Option.some Jvm.ClassFile.FieldType.int) [((0 : Nat), (9 : Nat), (12 : Nat), (37 : Nat))]) ∈ lw_all := lw_g (lw_at lw_m13 115 rfl) rfl
theorem q3096 : (Jvm.Cond.methodLink "SleeperRailwayLaw" (113 : Nat) ({ cls := "SleeperRailway", name := "suitcaseByReady", desc := "(I)I" } : Jvm.MethodName)) ∈ lw_all := lw_g (lw_at lw_m13 116 rfl) rfl
theorem q3108 : (Jvm.Cond.methodLink "SleeperRailwayLaw" (287 : Nat) ({ cls := "SleeperRailwayLaw", name := "bookingAt", desc := "(LSleeperRailway;I[J)I" } : Jvm.MethodName)) ∈ lw_all := lw_g (lw_at lw_m13 128 rfl) rfl
theorem q3109 : (Jvm.Cond.static ({ cls := "SleeperRailwayLaw", name := "bookingAt", desc := "(LSleeperRailway;I[J)I" } : Jvm.MethodName)) ∈ lw_all := lw_g (lw_at lw_m13 129 rfl) rfl
theorem q3110 : (Jvm.Cond.codeWith ({ cls := "SleeperRailwayLaw", name := "bookingAt", desc := "(LSleeperRailway;I[J)I" } : Jvm.MethodName) method_33_code (4 : Nat) (Option.some Jvm.ClassFile.FieldType.int) [((0 : Nat), (9 : Nat), (12 : Nat), (37 : Nat))]) ∈ lw_all := lw_g (lw_at lw_m13 130 rfl) rfl
theorem q3111 : (Jvm.Cond.methodLink "SleeperRailwayLaw" (116 : Nat) ({ cls := "SleeperRailway", name := "bookingAt", desc := "(I)I" } : Jvm.MethodName)) ∈ lw_all := lw_g (lw_at lw_m13 131 rfl) rfl
theorem q3117 : (Jvm.Cond.methodLink "SleeperRailwayLaw" (290 : Nat) ({ cls := "SleeperRailwayLaw", name := "berthsNeeded", desc := "(LSleeperRailway;I[J)I" } : Jvm.MethodName)) ∈ lw_all := lw_g (lw_at lw_m13 137 rfl) rfl
theorem q3118 : (Jvm.Cond.static ({ cls := "SleeperRailwayLaw", name := "berthsNeeded", desc := "(LSleeperRailway;I[J)I" } : Jvm.MethodName)) ∈ lw_all := lw_g (lw_at lw_m13 138 rfl) rfl
theorem q3119 : (Jvm.Cond.codeWith ({ cls := "SleeperRailwayLaw", name := "berthsNeeded", desc := "(LSleeperRailway;I[J)I" } : Jvm.MethodName) method_34_code (4 : Nat) (Option.some Jvm.ClassFile.FieldType.int) [((0 : Nat), (9 : Nat), (12 : Nat), (21 : Nat))]) ∈ lw_all := lw_g (lw_at lw_m13 139 rfl) rfl
theorem q3120 : (Jvm.Cond.methodLink "SleeperRailwayLaw" (119 : Nat) ({ cls := "SleeperRailway", name := "berthsNeeded", desc := "(I)I" } : Jvm.MethodName)) ∈ lw_all := lw_g (lw_at lw_m13 140 rfl) rfl
theorem q3125 : (Jvm.Cond.methodLink "SleeperRailwayLaw" (293 : Nat) ({ cls := "SleeperRailwayLaw", name := "berthsNeededByLegs", desc := "(LSleeperRailway;I[J)I" } : Jvm.MethodName)) ∈ lw_all := lw_g (lw_at lw_m13 145 rfl) rfl
theorem q3126 : (Jvm.Cond.static ({ cls := "SleeperRailwayLaw", name := "berthsNeededByLegs", desc := "(LSleeperRailway;I[J)I" } : Jvm.MethodName)) ∈ lw_all := lw_g (lw_at lw_m13 146 rfl) rfl
theorem q3127 : (Jvm.Cond.codeWith ({ cls := "SleeperRailwayLaw", name := "berthsNeededByLegs", desc := "(LSleeperRailway;I[J)I" } : Jvm.MethodName) method_35_code (4 : Nat) (Option.some Jvm.ClassFile.FieldType.int) [((0 : Nat), (9 : Nat), (12 : Nat), (21 : Nat))]) ∈ lw_all := lw_g (lw_at lw_m13 147 rfl) rfl
theorem q3128 : (Jvm.Cond.methodLink "SleeperRailwayLaw" (122 : Nat) ({ cls := "SleeperRailway", name := "berthsNeededByLegs", desc := "(I)I" } : Jvm.MethodName)) ∈ lw_all := lw_g (lw_at lw_m13 148 rfl) rfl
theorem q3133 : (Jvm.Cond.methodLink "SleeperRailwayLaw" (296 : Nat) ({ cls := "SleeperRailwayLaw", name := "berthOf", desc := "(LSleeperRailway;I[J)I" } : Jvm.MethodName)) ∈ lw_all := lw_g (lw_at lw_m13 153 rfl) rfl
theorem q3134 : (Jvm.Cond.static ({ cls := "SleeperRailwayLaw", name := "berthOf", desc := "(LSleeperRailway;I[J)I" } : Jvm.MethodName)) ∈ lw_all := lw_g (lw_at lw_m13 154 rfl) rfl
theorem q3135 : (Jvm.Cond.codeWith ({ cls := "SleeperRailwayLaw", name := "berthOf", desc := "(LSleeperRailway;I[J)I" } : Jvm.MethodName) method_36_code (4 : Nat) (Option.some Jvm.ClassFile.FieldType.int) [((0 : Nat), (9 : Nat), (12 : Nat), (37 : Nat))]) ∈ lw_all := lw_g (lw_at lw_m13 155 rfl) rfl
theorem q3136 : (Jvm.Cond.methodLink "SleeperRailwayLaw" (125 : Nat) ({ cls := "SleeperRailway", name := "berthOf", desc := "(I)I" } : Jvm.MethodName)) ∈ lw_all := lw_g (lw_at lw_m13 156 rfl) rfl
theorem q3210 : (Jvm.Cond.methodLink "SleeperRailwayLaw" (311 : Nat) ({ cls := "SleeperRailwayLaw", name := "meanLoad", desc := "(LSleeperRailway;[D)I" } : Jvm.MethodName)) ∈ lw_all := lw_g (lw_at lw_m13 230 rfl) rfl
theorem q3211 : (Jvm.Cond.static ({ cls := "SleeperRailwayLaw", name := "meanLoad", desc := "(LSleeperRailway;[D)I" } : Jvm.MethodName)) ∈ lw_all := lw_g (lw_at lw_m13 231 rfl) rfl
theorem q3212 : (Jvm.Cond.codeWith ({ cls := "SleeperRailwayLaw", name := "meanLoad", desc := "(LSleeperRailway;[D)I" } : Jvm.MethodName) method_37_code (3 : Nat) (Option.some Jvm.ClassFile.FieldType.int) [((0 : Nat), (7 : Nat), (10 : Nat), (132 : Nat))]) ∈ lw_all := lw_g (lw_at lw_m13 232 rfl) rfl
theorem q3213 : (Jvm.Cond.classLink "SleeperRailwayLaw" (132 : Nat) "java/lang/ArithmeticException") ∈ lw_all := lw_g (lw_at lw_m13 233 rfl) rfl
theorem q3227 : (Jvm.Cond.methodLink "SleeperRailwayLaw" (128 : Nat) ({ cls := "SleeperRailway", name := "meanLoad", desc := "()D" } : Jvm.MethodName)) ∈ lw_all := lw_g (lw_at lw_m14 7 rfl) rfl
theorem q3250 : (Jvm.Cond.methodLink "SleeperRailwayLaw" (315 : Nat) ({ cls := "SleeperRailwayLaw", name := "fullShare", desc := "(LSleeperRailway;[D)I" } : Jvm.MethodName)) ∈ lw_all := lw_g (lw_at lw_m14 30 rfl) rfl
theorem q3251 : (Jvm.Cond.static ({ cls := "SleeperRailwayLaw", name := "fullShare", desc := "(LSleeperRailway;[D)I" } : Jvm.MethodName)) ∈ lw_all := lw_g (lw_at lw_m14 31 rfl) rfl
theorem q3252 : (Jvm.Cond.codeWith ({ cls := "SleeperRailwayLaw", name := "fullShare", desc := "(LSleeperRailway;[D)I" } : Jvm.MethodName) method_38_code (3 : Nat) (Option.some Jvm.ClassFile.FieldType.int) [((0 : Nat), (8 : Nat), (11 : Nat), (132 : Nat))]) ∈ lw_all := lw_g (lw_at lw_m14 32 rfl) rfl
theorem q3253 : (Jvm.Cond.methodLink "SleeperRailwayLaw" (134 : Nat) ({ cls := "SleeperRailway", name := "fullShare", desc := "()F" } : Jvm.MethodName)) ∈ lw_all := lw_g (lw_at lw_m14 33 rfl) rfl
theorem q3261 : (Jvm.Cond.methodLink "SleeperRailwayLaw" (323 : Nat) ({ cls := "SleeperRailwayLaw", name := "renderTrain", desc := "(LSleeperRailway;I[J)I" } : Jvm.MethodName)) ∈ lw_all := lw_g (lw_at lw_m14 41 rfl) rfl
theorem q3262 : (Jvm.Cond.static ({ cls := "SleeperRailwayLaw", name := "renderTrain", desc := "(LSleeperRailway;I[J)I" } : Jvm.MethodName)) ∈ lw_all := lw_g (lw_at lw_m14 42 rfl) rfl
theorem q3263 : (Jvm.Cond.codeWith ({ cls := "SleeperRailwayLaw", name := "renderTrain", desc := "(LSleeperRailway;I[J)I" } : Jvm.MethodName) method_39_code (4 : Nat) (Option.some Jvm.ClassFile.FieldType.int) [((0 : Nat), (9 : Nat), (12 : Nat), (21 : Nat))]) ∈ lw_all := lw_g (lw_at lw_m14 43 rfl) rfl
theorem q3264 : (Jvm.Cond.methodLink "SleeperRailwayLaw" (138 : Nat) ({ cls := "SleeperRailway", name := "renderTrain", desc := "(I)I" } : Jvm.MethodName)) ∈ lw_all := lw_g (lw_at lw_m14 44 rfl) rfl
theorem q3289 : (Jvm.Cond.methodLink "SleeperRailwayLaw" (326 : Nat) ({ cls := "SleeperRailwayLaw", name := "renderSuitcase", desc := "(LSleeperRailway;I[J)I" } : Jvm.MethodName)) ∈ lw_all := lw_g (lw_at lw_m14 69 rfl) rfl
theorem q3290 : (Jvm.Cond.static ({ cls := "SleeperRailwayLaw", name := "renderSuitcase", desc := "(LSleeperRailway;I[J)I" } : Jvm.MethodName)) ∈ lw_all := lw_g (lw_at lw_m14 70 rfl) rfl
theorem q3291 : (Jvm.Cond.codeWith ({ cls := "SleeperRailwayLaw", name := "renderSuitcase", desc := "(LSleeperRailway;I[J)I" } : Jvm.MethodName) method_40_code (4 : Nat) (Option.some Jvm.ClassFile.FieldType.int) [((0 : Nat), (9 : Nat), (12 : Nat), (37 : Nat))]) ∈ lw_all := lw_g (lw_at lw_m14 71 rfl) rfl
theorem q3292 : (Jvm.Cond.methodLink "SleeperRailwayLaw" (141 : Nat) ({ cls := "SleeperRailway", name := "renderSuitcase", desc := "(I)I" } : Jvm.MethodName)) ∈ lw_all := lw_g (lw_at lw_m14 72 rfl) rfl
theorem q3308 : (Jvm.Cond.methodLink "SleeperRailwayLaw" (329 : Nat) ({ cls := "SleeperRailwayLaw", name := "outputAt", desc := "(LSleeperRailway;I[J)I" } : Jvm.MethodName)) ∈ lw_all := lw_g (lw_at lw_m14 88 rfl) rfl
theorem q3309 : (Jvm.Cond.static ({ cls := "SleeperRailwayLaw", name := "outputAt", desc := "(LSleeperRailway;I[J)I" } : Jvm.MethodName)) ∈ lw_all := lw_g (lw_at lw_m14 89 rfl) rfl
theorem q3310 : (Jvm.Cond.codeWith ({ cls := "SleeperRailwayLaw", name := "outputAt", desc := "(LSleeperRailway;I[J)I" } : Jvm.MethodName) method_41_code (4 : Nat) (Option.some Jvm.ClassFile.FieldType.int) [((0 : Nat), (9 : Nat), (12 : Nat), (21 : Nat))]) ∈ lw_all := lw_g (lw_at lw_m14 90 rfl) rfl
theorem q3311 : (Jvm.Cond.methodLink "SleeperRailwayLaw" (144 : Nat) ({ cls := "SleeperRailway", name := "outputAt", desc := "(I)C" } : Jvm.MethodName)) ∈ lw_all := lw_g (lw_at lw_m14 91 rfl) rfl
theorem q3333 : (Jvm.Cond.methodLink "SleeperRailwayLaw" (332 : Nat) ({ cls := "SleeperRailwayLaw", name := "type", desc := "(LSleeperRailway;C[J)I" } : Jvm.MethodName)) ∈ lw_all := lw_g (lw_at lw_m14 113 rfl) rfl
theorem q3334 : (Jvm.Cond.static ({ cls := "SleeperRailwayLaw", name := "type", desc := "(LSleeperRailway;C[J)I" } : Jvm.MethodName)) ∈ lw_all := lw_g (lw_at lw_m14 114 rfl) rfl
theorem q3335 : (Jvm.Cond.codeWith ({ cls := "SleeperRailwayLaw", name := "type", desc := "(LSleeperRailway;C[J)I" } : Jvm.MethodName) method_42_code (4 : Nat) (Option.some Jvm.ClassFile.FieldType.int) [((0 : Nat), (9 : Nat), (12 : Nat), (13 : Nat)), ((0 : Nat), (9 : Nat), (15 : Nat), (15 : Nat))]) ∈ lw_all := lw_g (lw_at lw_m14 115 rfl) rfl
theorem q3336 : (Jvm.Cond.methodLink "SleeperRailwayLaw" (148 : Nat) ({ cls := "SleeperRailway", name := "type", desc := "(C)I" } : Jvm.MethodName)) ∈ lw_all := lw_g (lw_at lw_m14 116 rfl) rfl
theorem q3359 : (Jvm.Cond.methodLink "SleeperRailwayLaw" (336 : Nat) ({ cls := "SleeperRailwayLaw", name := "runScript", desc := "(LSleeperRailway;[J)I" } : Jvm.MethodName)) ∈ lw_all := lw_g (lw_at lw_m14 139 rfl) rfl
theorem q3360 : (Jvm.Cond.static ({ cls := "SleeperRailwayLaw", name := "runScript", desc := "(LSleeperRailway;[J)I" } : Jvm.MethodName)) ∈ lw_all := lw_g (lw_at lw_m14 140 rfl) rfl
theorem q3361 : (Jvm.Cond.codeWith ({ cls := "SleeperRailwayLaw", name := "runScript", desc := "(LSleeperRailway;[J)I" } : Jvm.MethodName) method_43_code (3 : Nat) (Option.some Jvm.ClassFile.FieldType.int) [((0 : Nat), (8 : Nat), (11 : Nat), (13 : Nat)), ((0 : Nat), (8 : Nat), (14 : Nat), (15 : Nat))]) ∈ lw_all := lw_g (lw_at lw_m14 141 rfl) rfl
theorem q3362 : (Jvm.Cond.methodLink "SleeperRailwayLaw" (152 : Nat) ({ cls := "SleeperRailway", name := "runScript", desc := "()I" } : Jvm.MethodName)) ∈ lw_all := lw_g (lw_at lw_m14 142 rfl) rfl
theorem q3650 : (Jvm.Cond.methodLink "SleeperRailwayLaw" (340 : Nat) ({ cls := "SleeperRailwayLaw", name := "errorPosition", desc := "(LSleeperRailway;[J)I" } : Jvm.MethodName)) ∈ lw_all := lw_g (lw_at lw_m15 190 rfl) rfl
theorem q3651 : (Jvm.Cond.static ({ cls := "SleeperRailwayLaw", name := "errorPosition", desc := "(LSleeperRailway;[J)I" } : Jvm.MethodName)) ∈ lw_all := lw_g (lw_at lw_m15 191 rfl) rfl
theorem q3652 : (Jvm.Cond.codeWith ({ cls := "SleeperRailwayLaw", name := "errorPosition", desc := "(LSleeperRailway;[J)I" } : Jvm.MethodName) method_44_code (3 : Nat) (Option.some Jvm.ClassFile.FieldType.int) [((0 : Nat), (8 : Nat), (11 : Nat), (37 : Nat))]) ∈ lw_all := lw_g (lw_at lw_m15 192 rfl) rfl
theorem q3653 : (Jvm.Cond.methodLink "SleeperRailwayLaw" (156 : Nat) ({ cls := "SleeperRailway", name := "errorPosition", desc := "()I" } : Jvm.MethodName)) ∈ lw_all := lw_g (lw_at lw_m15 193 rfl) rfl
theorem q3657 : (Jvm.Cond.methodLink "SleeperRailwayLaw" (343 : Nat) ({ cls := "SleeperRailwayLaw", name := "failedCommand", desc := "(LSleeperRailway;[J)I" } : Jvm.MethodName)) ∈ lw_all := lw_g (lw_at lw_m15 197 rfl) rfl
theorem q3658 : (Jvm.Cond.static ({ cls := "SleeperRailwayLaw", name := "failedCommand", desc := "(LSleeperRailway;[J)I" } : Jvm.MethodName)) ∈ lw_all := lw_g (lw_at lw_m15 198 rfl) rfl
theorem q3659 : (Jvm.Cond.codeWith ({ cls := "SleeperRailwayLaw", name := "failedCommand", desc := "(LSleeperRailway;[J)I" } : Jvm.MethodName) method_45_code (3 : Nat) (Option.some Jvm.ClassFile.FieldType.int) [((0 : Nat), (8 : Nat), (11 : Nat), (37 : Nat))]) ∈ lw_all := lw_g (lw_at lw_m15 199 rfl) rfl
theorem q3660 : (Jvm.Cond.methodLink "SleeperRailwayLaw" (159 : Nat) ({ cls := "SleeperRailway", name := "failedCommand", desc := "()I" } : Jvm.MethodName)) ∈ lw_all := lw_g (lw_at lw_m15 200 rfl) rfl
theorem q3664 : (Jvm.Cond.methodLink "SleeperRailwayLaw" (346 : Nat) ({ cls := "SleeperRailwayLaw", name := "undo", desc := "(LSleeperRailway;[J)I" } : Jvm.MethodName)) ∈ lw_all := lw_g (lw_at lw_m15 204 rfl) rfl
theorem q3665 : (Jvm.Cond.static ({ cls := "SleeperRailwayLaw", name := "undo", desc := "(LSleeperRailway;[J)I" } : Jvm.MethodName)) ∈ lw_all := lw_g (lw_at lw_m15 205 rfl) rfl
theorem q3666 : (Jvm.Cond.codeWith ({ cls := "SleeperRailwayLaw", name := "undo", desc := "(LSleeperRailway;[J)I" } : Jvm.MethodName) method_46_code (3 : Nat) (Option.some Jvm.ClassFile.FieldType.int) [((0 : Nat), (8 : Nat), (11 : Nat), (37 : Nat))]) ∈ lw_all := lw_g (lw_at lw_m15 206 rfl) rfl
theorem q3667 : (Jvm.Cond.methodLink "SleeperRailwayLaw" (162 : Nat) ({ cls := "SleeperRailway", name := "undo", desc := "()I" } : Jvm.MethodName)) ∈ lw_all := lw_g (lw_at lw_m15 207 rfl) rfl
theorem q3682 : (Jvm.Cond.methodLink "SleeperRailwayLaw" (353 : Nat) ({ cls := "SleeperRailwayLaw", name := "restore", desc := "(LSleeperRailway;[J)I" } : Jvm.MethodName)) ∈ lw_all := lw_g (lw_at lw_m15 222 rfl) rfl
theorem q3683 : (Jvm.Cond.static ({ cls := "SleeperRailwayLaw", name := "restore", desc := "(LSleeperRailway;[J)I" } : Jvm.MethodName)) ∈ lw_all := lw_g (lw_at lw_m15 223 rfl) rfl
theorem q3684 : (Jvm.Cond.codeWith ({ cls := "SleeperRailwayLaw", name := "restore", desc := "(LSleeperRailway;[J)I" } : Jvm.MethodName) method_47_code (3 : Nat) (Option.some Jvm.ClassFile.FieldType.int) [((0 : Nat), (8 : Nat), (11 : Nat), (15 : Nat))]) ∈ lw_all := lw_g (lw_at lw_m15 224 rfl) rfl
theorem q3685 : (Jvm.Cond.methodLink "SleeperRailwayLaw" (165 : Nat) ({ cls := "SleeperRailway", name := "restore", desc := "()I" } : Jvm.MethodName)) ∈ lw_all := lw_g (lw_at lw_m15 225 rfl) rfl
theorem q3693 : (Jvm.Cond.classLink "SleeperRailwayLaw" (169 : Nat) "SleeperRailwayModel") ∈ lw_all := lw_g (lw_at lw_m15 233 rfl) rfl
theorem q3695 : (Jvm.Cond.methodLink "SleeperRailwayLaw" (171 : Nat) ({ cls := "SleeperRailwayModel", name := "<init>", desc := "()V" } : Jvm.MethodName)) ∈ lw_all := lw_g (lw_at lw_m15 235 rfl) rfl
theorem q3776 : (Jvm.Cond.methodLink "SleeperRailwayLaw" (178 : Nat) ({ cls := "SleeperRailwayModel", name := "thrown", desc := "()I" } : Jvm.MethodName)) ∈ lw_all := lw_g (lw_at lw_m16 76 rfl) rfl
theorem q3780 : (Jvm.Cond.methodLink "SleeperRailwayLaw" (177 : Nat) ({ cls := "SleeperRailwayModel", name := "addStation", desc := "(I)I" } : Jvm.MethodName)) ∈ lw_all := lw_g (lw_at lw_m16 80 rfl) rfl
theorem q3798 : (Jvm.Cond.methodLink "SleeperRailwayLaw" (184 : Nat) ({ cls := "SleeperRailwayModel", name := "addTrain", desc := "(III)I" } : Jvm.MethodName)) ∈ lw_all := lw_g (lw_at lw_m16 98 rfl) rfl
theorem q3806 : (Jvm.Cond.methodLink "SleeperRailwayLaw" (188 : Nat) ({ cls := "SleeperRailwayModel", name := "extendTrain", desc := "(IIII)I" } : Jvm.MethodName)) ∈ lw_all := lw_g (lw_at lw_m16 106 rfl) rfl
theorem q3822 : (Jvm.Cond.methodLink "SleeperRailwayLaw" (192 : Nat) ({ cls := "SleeperRailwayModel", name := "delayTrain", desc := "(II)I" } : Jvm.MethodName)) ∈ lw_all := lw_g (lw_at lw_m16 122 rfl) rfl
theorem q3826 : (Jvm.Cond.methodLink "SleeperRailwayLaw" (251 : Nat) ({ cls := "SleeperRailwayModel", name := "canReach", desc := "(III)Z" } : Jvm.MethodName)) ∈ lw_all := lw_g (lw_at lw_m16 126 rfl) rfl
theorem q3875 : (Jvm.Cond.methodLink "SleeperRailwayLaw" (254 : Nat) ({ cls := "SleeperRailwayModel", name := "arrival", desc := "(III)I" } : Jvm.MethodName)) ∈ lw_all := lw_g (lw_at lw_m16 175 rfl) rfl
theorem q3883 : (Jvm.Cond.methodLink "SleeperRailwayLaw" (257 : Nat) ({ cls := "SleeperRailwayModel", name := "arrivalByScanning", desc := "(III)I" } : Jvm.MethodName)) ∈ lw_all := lw_g (lw_at lw_m16 183 rfl) rfl
theorem q3887 : (Jvm.Cond.methodLink "SleeperRailwayLaw" (260 : Nat) ({ cls := "SleeperRailwayModel", name := "boardings", desc := "(III)I" } : Jvm.MethodName)) ∈ lw_all := lw_g (lw_at lw_m16 187 rfl) rfl
theorem q3891 : (Jvm.Cond.methodLink "SleeperRailwayLaw" (195 : Nat) ({ cls := "SleeperRailwayModel", name := "addSuitcase", desc := "(III)I" } : Jvm.MethodName)) ∈ lw_all := lw_g (lw_at lw_m16 191 rfl) rfl
theorem q3895 : (Jvm.Cond.methodLink "SleeperRailwayLaw" (198 : Nat) ({ cls := "SleeperRailwayModel", name := "relabel", desc := "(II)I" } : Jvm.MethodName)) ∈ lw_all := lw_g (lw_at lw_m16 195 rfl) rfl
theorem q3911 : (Jvm.Cond.methodLink "SleeperRailwayLaw" (201 : Nat) ({ cls := "SleeperRailwayModel", name := "send", desc := "(I)I" } : Jvm.MethodName)) ∈ lw_all := lw_g (lw_at lw_m16 211 rfl) rfl
theorem q3923 : (Jvm.Cond.methodLink "SleeperRailwayLaw" (204 : Nat) ({ cls := "SleeperRailwayModel", name := "collect", desc := "(I)I" } : Jvm.MethodName)) ∈ lw_all := lw_g (lw_at lw_m16 223 rfl) rfl
theorem q3931 : (Jvm.Cond.methodLink "SleeperRailwayLaw" (207 : Nat) ({ cls := "SleeperRailwayModel", name := "book", desc := "(III)I" } : Jvm.MethodName)) ∈ lw_all := lw_g (lw_at lw_m16 231 rfl) rfl
theorem q3939 : (Jvm.Cond.methodLink "SleeperRailwayLaw" (210 : Nat) ({ cls := "SleeperRailwayModel", name := "cancelBooking", desc := "(I)I" } : Jvm.MethodName)) ∈ lw_all := lw_g (lw_at lw_m16 239 rfl) rfl
theorem q3947 : (Jvm.Cond.methodLink "SleeperRailwayLaw" (214 : Nat) ({ cls := "SleeperRailwayModel", name := "stationCount", desc := "()I" } : Jvm.MethodName)) ∈ lw_all := lw_g (lw_at lw_m17 7 rfl) rfl
theorem q3951 : (Jvm.Cond.methodLink "SleeperRailwayLaw" (217 : Nat) ({ cls := "SleeperRailwayModel", name := "transferTime", desc := "(I)I" } : Jvm.MethodName)) ∈ lw_all := lw_g (lw_at lw_m17 11 rfl) rfl
theorem q3955 : (Jvm.Cond.methodLink "SleeperRailwayLaw" (220 : Nat) ({ cls := "SleeperRailwayModel", name := "nextTrain", desc := "(II)I" } : Jvm.MethodName)) ∈ lw_all := lw_g (lw_at lw_m17 15 rfl) rfl
theorem q3959 : (Jvm.Cond.methodLink "SleeperRailwayLaw" (224 : Nat) ({ cls := "SleeperRailwayModel", name := "trainCount", desc := "()I" } : Jvm.MethodName)) ∈ lw_all := lw_g (lw_at lw_m17 19 rfl) rfl
theorem q3963 : (Jvm.Cond.methodLink "SleeperRailwayLaw" (227 : Nat) ({ cls := "SleeperRailwayModel", name := "stopCount", desc := "(I)I" } : Jvm.MethodName)) ∈ lw_all := lw_g (lw_at lw_m17 23 rfl) rfl
theorem q3971 : (Jvm.Cond.methodLink "SleeperRailwayLaw" (230 : Nat) ({ cls := "SleeperRailwayModel", name := "stationAt", desc := "(II)I" } : Jvm.MethodName)) ∈ lw_all := lw_g (lw_at lw_m17 31 rfl) rfl
theorem q3975 : (Jvm.Cond.methodLink "SleeperRailwayLaw" (233 : Nat) ({ cls := "SleeperRailwayModel", name := "arrivalAt", desc := "(II)I" } : Jvm.MethodName)) ∈ lw_all := lw_g (lw_at lw_m17 35 rfl) rfl
theorem q3979 : (Jvm.Cond.methodLink "SleeperRailwayLaw" (236 : Nat) ({ cls := "SleeperRailwayModel", name := "departureAt", desc := "(II)I" } : Jvm.MethodName)) ∈ lw_all := lw_g (lw_at lw_m17 39 rfl) rfl
theorem q3983 : (Jvm.Cond.methodLink "SleeperRailwayLaw" (239 : Nat) ({ cls := "SleeperRailwayModel", name := "capacity", desc := "(I)I" } : Jvm.MethodName)) ∈ lw_all := lw_g (lw_at lw_m17 43 rfl) rfl
theorem q3987 : (Jvm.Cond.methodLink "SleeperRailwayLaw" (242 : Nat) ({ cls := "SleeperRailwayModel", name := "delayOf", desc := "(I)I" } : Jvm.MethodName)) ∈ lw_all := lw_g (lw_at lw_m17 47 rfl) rfl
theorem q3991 : (Jvm.Cond.methodLink "SleeperRailwayLaw" (245 : Nat) ({ cls := "SleeperRailwayModel", name := "load", desc := "(II)I" } : Jvm.MethodName)) ∈ lw_all := lw_g (lw_at lw_m17 51 rfl) rfl
theorem q3999 : (Jvm.Cond.methodLink "SleeperRailwayLaw" (248 : Nat) ({ cls := "SleeperRailwayModel", name := "isFull", desc := "(II)Z" } : Jvm.MethodName)) ∈ lw_all := lw_g (lw_at lw_m17 59 rfl) rfl
theorem q4003 : (Jvm.Cond.methodLink "SleeperRailwayLaw" (264 : Nat) ({ cls := "SleeperRailwayModel", name := "suitcaseCount", desc := "()I" } : Jvm.MethodName)) ∈ lw_all := lw_g (lw_at lw_m17 63 rfl) rfl
theorem q4007 : (Jvm.Cond.methodLink "SleeperRailwayLaw" (267 : Nat) ({ cls := "SleeperRailwayModel", name := "suitcaseAt", desc := "(I)I" } : Jvm.MethodName)) ∈ lw_all := lw_g (lw_at lw_m17 67 rfl) rfl
theorem q4011 : (Jvm.Cond.methodLink "SleeperRailwayLaw" (270 : Nat) ({ cls := "SleeperRailwayModel", name := "stationOf", desc := "(I)I" } : Jvm.MethodName)) ∈ lw_all := lw_g (lw_at lw_m17 71 rfl) rfl
theorem q4019 : (Jvm.Cond.methodLink "SleeperRailwayLaw" (273 : Nat) ({ cls := "SleeperRailwayModel", name := "destinationOf", desc := "(I)I" } : Jvm.MethodName)) ∈ lw_all := lw_g (lw_at lw_m17 79 rfl) rfl
theorem q4023 : (Jvm.Cond.methodLink "SleeperRailwayLaw" (276 : Nat) ({ cls := "SleeperRailwayModel", name := "readyAt", desc := "(I)I" } : Jvm.MethodName)) ∈ lw_all := lw_g (lw_at lw_m17 83 rfl) rfl
theorem q4027 : (Jvm.Cond.methodLink "SleeperRailwayLaw" (279 : Nat) ({ cls := "SleeperRailwayModel", name := "isThere", desc := "(I)Z" } : Jvm.MethodName)) ∈ lw_all := lw_g (lw_at lw_m17 87 rfl) rfl
theorem q4031 : (Jvm.Cond.methodLink "SleeperRailwayLaw" (282 : Nat) ({ cls := "SleeperRailwayModel", name := "suitcaseByReady", desc := "(I)I" } : Jvm.MethodName)) ∈ lw_all := lw_g (lw_at lw_m17 91 rfl) rfl
theorem q4035 : (Jvm.Cond.methodLink "SleeperRailwayLaw" (286 : Nat) ({ cls := "SleeperRailwayModel", name := "bookingCount", desc := "()I" } : Jvm.MethodName)) ∈ lw_all := lw_g (lw_at lw_m17 95 rfl) rfl
theorem q4039 : (Jvm.Cond.methodLink "SleeperRailwayLaw" (289 : Nat) ({ cls := "SleeperRailwayModel", name := "bookingAt", desc := "(I)I" } : Jvm.MethodName)) ∈ lw_all := lw_g (lw_at lw_m17 99 rfl) rfl
theorem q4043 : (Jvm.Cond.methodLink "SleeperRailwayLaw" (292 : Nat) ({ cls := "SleeperRailwayModel", name := "berthsNeeded", desc := "(I)I" } : Jvm.MethodName)) ∈ lw_all := lw_g (lw_at lw_m17 103 rfl) rfl
theorem q4051 : (Jvm.Cond.methodLink "SleeperRailwayLaw" (295 : Nat) ({ cls := "SleeperRailwayModel", name := "berthsNeededByLegs", desc := "(I)I" } : Jvm.MethodName)) ∈ lw_all := lw_g (lw_at lw_m17 111 rfl) rfl
theorem q4055 : (Jvm.Cond.methodLink "SleeperRailwayLaw" (298 : Nat) ({ cls := "SleeperRailwayModel", name := "berthOf", desc := "(I)I" } : Jvm.MethodName)) ∈ lw_all := lw_g (lw_at lw_m17 115 rfl) rfl
theorem q4063 : (Jvm.Cond.methodLink "SleeperRailwayLaw" (302 : Nat) ({ cls := "SleeperRailwayModel", name := "coins", desc := "()I" } : Jvm.MethodName)) ∈ lw_all := lw_g (lw_at lw_m17 123 rfl) rfl
theorem q4067 : (Jvm.Cond.methodLink "SleeperRailwayLaw" (306 : Nat) ({ cls := "SleeperRailwayModel", name := "coinsByLoads", desc := "()I" } : Jvm.MethodName)) ∈ lw_all := lw_g (lw_at lw_m17 127 rfl) rfl
theorem q4071 : (Jvm.Cond.methodLink "SleeperRailwayLaw" (310 : Nat) ({ cls := "SleeperRailwayModel", name := "collectedTotal", desc := "()I" } : Jvm.MethodName)) ∈ lw_all := lw_g (lw_at lw_m17 131 rfl) rfl
theorem q4075 : (Jvm.Cond.methodLink "SleeperRailwayLaw" (314 : Nat) ({ cls := "SleeperRailwayModel", name := "meanLoad", desc := "()D" } : Jvm.MethodName)) ∈ lw_all := lw_g (lw_at lw_m17 135 rfl) rfl
theorem q4083 : (Jvm.Cond.methodLink "SleeperRailwayLaw" (317 : Nat) ({ cls := "SleeperRailwayModel", name := "fullShare", desc := "()F" } : Jvm.MethodName)) ∈ lw_all := lw_g (lw_at lw_m17 143 rfl) rfl
theorem q4087 : (Jvm.Cond.methodLink "SleeperRailwayLaw" (322 : Nat) ({ cls := "SleeperRailwayModel", name := "isConsistent", desc := "()Z" } : Jvm.MethodName)) ∈ lw_all := lw_g (lw_at lw_m17 147 rfl) rfl
theorem q4091 : (Jvm.Cond.methodLink "SleeperRailwayLaw" (325 : Nat) ({ cls := "SleeperRailwayModel", name := "renderTrain", desc := "(I)I" } : Jvm.MethodName)) ∈ lw_all := lw_g (lw_at lw_m17 151 rfl) rfl
theorem q4107 : (Jvm.Cond.methodLink "SleeperRailwayLaw" (328 : Nat) ({ cls := "SleeperRailwayModel", name := "renderSuitcase", desc := "(I)I" } : Jvm.MethodName)) ∈ lw_all := lw_g (lw_at lw_m17 167 rfl) rfl
theorem q4111 : (Jvm.Cond.methodLink "SleeperRailwayLaw" (331 : Nat) ({ cls := "SleeperRailwayModel", name := "outputAt", desc := "(I)C" } : Jvm.MethodName)) ∈ lw_all := lw_g (lw_at lw_m17 171 rfl) rfl
theorem q4115 : (Jvm.Cond.methodLink "SleeperRailwayLaw" (335 : Nat) ({ cls := "SleeperRailwayModel", name := "type", desc := "(C)I" } : Jvm.MethodName)) ∈ lw_all := lw_g (lw_at lw_m17 175 rfl) rfl
theorem q4119 : (Jvm.Cond.methodLink "SleeperRailwayLaw" (339 : Nat) ({ cls := "SleeperRailwayModel", name := "runScript", desc := "()I" } : Jvm.MethodName)) ∈ lw_all := lw_g (lw_at lw_m17 179 rfl) rfl
theorem q4181 : (Jvm.Cond.methodLink "SleeperRailwayLaw" (342 : Nat) ({ cls := "SleeperRailwayModel", name := "errorPosition", desc := "()I" } : Jvm.MethodName)) ∈ lw_all := lw_g (lw_at lw_m18 1 rfl) rfl
theorem q4185 : (Jvm.Cond.methodLink "SleeperRailwayLaw" (345 : Nat) ({ cls := "SleeperRailwayModel", name := "failedCommand", desc := "()I" } : Jvm.MethodName)) ∈ lw_all := lw_g (lw_at lw_m18 5 rfl) rfl
theorem q4189 : (Jvm.Cond.methodLink "SleeperRailwayLaw" (348 : Nat) ({ cls := "SleeperRailwayModel", name := "undo", desc := "()I" } : Jvm.MethodName)) ∈ lw_all := lw_g (lw_at lw_m18 9 rfl) rfl
theorem q4193 : (Jvm.Cond.methodLink "SleeperRailwayLaw" (352 : Nat) ({ cls := "SleeperRailwayModel", name := "save", desc := "()I" } : Jvm.MethodName)) ∈ lw_all := lw_g (lw_at lw_m18 13 rfl) rfl
theorem q4197 : (Jvm.Cond.methodLink "SleeperRailwayLaw" (355 : Nat) ({ cls := "SleeperRailwayModel", name := "restore", desc := "()I" } : Jvm.MethodName)) ∈ lw_all := lw_g (lw_at lw_m18 17 rfl) rfl
/-! the law's own entry -/
set_option maxRecDepth 100000
abbrev cL_law : ByteArray := code
def dkwL_law_128 : List UInt8 := [4, 172]
abbrev dktL_law_128 : List UInt8 := dkwL_law_128 ++ []
def dkwL_law_127 : List UInt8 := [154, 0, 15, 45, 3, 47, 21, 7, 133, 148, 153, 0, 5, 3, 172, 167, 0, 3, 132, 5, 5, 167, 243, 158]
abbrev dktL_law_127 : List UInt8 := dkwL_law_127 ++ dktL_law_128
def dkwL_law_126 : List UInt8 := [184, 1, 97, 54, 6, 44, 182, 1, 99, 54, 7, 44, 182, 0, 178, 21, 6, 159, 0, 5, 3, 172, 21, 6]
abbrev dktL_law_126 : List UInt8 := dkwL_law_126 ++ dktL_law_127
def dkwL_law_125 : List UInt8 := [148, 153, 0, 5, 3, 172, 167, 0, 60, 43, 182, 1, 93, 44, 182, 1, 96, 159, 0, 49, 3, 172, 43, 45]
abbrev dktL_law_125 : List UInt8 := dkwL_law_125 ++ dktL_law_126
def dkwL_law_124 : List UInt8 := [54, 7, 44, 182, 0, 178, 21, 6, 159, 0, 5, 3, 172, 21, 6, 154, 0, 15, 45, 3, 47, 21, 7, 133]
abbrev dktL_law_124 : List UInt8 := dkwL_law_124 ++ dktL_law_125
def dkwL_law_123 : List UInt8 := [21, 7, 133, 148, 153, 0, 5, 3, 172, 167, 0, 104, 43, 45, 184, 1, 90, 54, 6, 44, 182, 1, 92]
abbrev dktL_law_123 : List UInt8 := dkwL_law_123 ++ dktL_law_124
def dkwL_law_122 : List UInt8 := [182, 1, 89, 54, 7, 44, 182, 0, 178, 21, 6, 159, 0, 5, 3, 172, 21, 6, 154, 0, 15, 45, 3, 47]
abbrev dktL_law_122 : List UInt8 := dkwL_law_122 ++ dktL_law_123
def dkwL_law_121 : List UInt8 := [45, 3, 47, 21, 7, 133, 148, 153, 0, 5, 3, 172, 167, 0, 148, 43, 45, 184, 1, 87, 54, 6, 44]
abbrev dktL_law_121 : List UInt8 := dkwL_law_121 ++ dktL_law_122
def dkwL_law_120 : List UInt8 := [54, 6, 44, 182, 1, 86, 54, 7, 44, 182, 0, 178, 21, 6, 159, 0, 5, 3, 172, 21, 6, 154, 0, 15]
abbrev dktL_law_120 : List UInt8 := dkwL_law_120 ++ dktL_law_121
def dkwL_law_119 : List UInt8 := [154, 0, 15, 45, 3, 47, 21, 7, 133, 148, 153, 0, 5, 3, 172, 167, 0, 192, 43, 45, 184, 1, 84]
abbrev dktL_law_119 : List UInt8 := dkwL_law_119 ++ dktL_law_120
def dkwL_law_118 : List UInt8 := [184, 1, 80, 54, 6, 44, 182, 1, 83, 54, 7, 44, 182, 0, 178, 21, 6, 159, 0, 5, 3, 172, 21, 6]
abbrev dktL_law_118 : List UInt8 := dkwL_law_118 ++ dktL_law_119
def dkwL_law_117 : List UInt8 := [3, 172, 21, 6, 154, 0, 15, 45, 3, 47, 21, 7, 133, 148, 153, 0, 5, 3, 172, 167, 0, 236, 43, 45]
abbrev dktL_law_117 : List UInt8 := dkwL_law_117 ++ dktL_law_118
def dkwL_law_116 : List UInt8 := [54, 6, 44, 42, 21, 5, 4, 96, 46, 146, 182, 1, 79, 54, 7, 44, 182, 0, 178, 21, 6, 159, 0, 5]
abbrev dktL_law_116 : List UInt8 := dkwL_law_116 ++ dktL_law_117
def dkwL_law_115 : List UInt8 := [21, 7, 133, 148, 153, 0, 5, 3, 172, 167, 1, 38, 43, 42, 21, 5, 4, 96, 46, 146, 45, 184, 1, 76]
abbrev dktL_law_115 : List UInt8 := dkwL_law_115 ++ dktL_law_116
def dkwL_law_114 : List UInt8 := [182, 1, 75, 54, 7, 44, 182, 0, 178, 21, 6, 159, 0, 5, 3, 172, 21, 6, 154, 0, 15, 45, 3, 47]
abbrev dktL_law_114 : List UInt8 := dkwL_law_114 ++ dktL_law_115
def dkwL_law_113 : List UInt8 := [167, 1, 94, 43, 42, 21, 5, 4, 96, 46, 45, 184, 1, 73, 54, 6, 44, 42, 21, 5, 4, 96, 46]
abbrev dktL_law_113 : List UInt8 := dkwL_law_113 ++ dktL_law_114
def dkwL_law_112 : List UInt8 := [21, 6, 159, 0, 5, 3, 172, 21, 6, 154, 0, 15, 45, 3, 47, 21, 7, 133, 148, 153, 0, 5, 3, 172]
abbrev dktL_law_112 : List UInt8 := dkwL_law_112 ++ dktL_law_113
def dkwL_law_111 : List UInt8 := [46, 45, 184, 1, 70, 54, 6, 44, 42, 21, 5, 4, 96, 46, 182, 1, 72, 54, 7, 44, 182, 0, 178]
abbrev dktL_law_111 : List UInt8 := dkwL_law_111 ++ dktL_law_112
def dkwL_law_110 : List UInt8 := [154, 0, 15, 45, 3, 47, 21, 7, 133, 148, 153, 0, 5, 3, 172, 167, 1, 150, 43, 42, 21, 5, 4, 96]
abbrev dktL_law_110 : List UInt8 := dkwL_law_110 ++ dktL_law_111
def dkwL_law_109 : List UInt8 := [21, 5, 4, 96, 46, 182, 1, 69, 54, 7, 44, 182, 0, 178, 21, 6, 159, 0, 5, 3, 172, 21, 6]
abbrev dktL_law_109 : List UInt8 := dkwL_law_109 ++ dktL_law_110
def dkwL_law_108 : List UInt8 := [182, 1, 66, 159, 1, 208, 3, 172, 43, 42, 21, 5, 4, 96, 46, 45, 184, 1, 67, 54, 6, 44, 42]
abbrev dktL_law_108 : List UInt8 := dkwL_law_108 ++ dktL_law_109
def dkwL_law_107 : List UInt8 := [151, 153, 0, 11, 23, 7, 23, 7, 149, 154, 0, 5, 3, 172, 167, 1, 219, 43, 182, 1, 62, 44]
abbrev dktL_law_107 : List UInt8 := dkwL_law_107 ++ dktL_law_108
def dkwL_law_106 : List UInt8 := [21, 6, 154, 0, 36, 25, 4, 3, 49, 23, 7, 141, 151, 153, 0, 25, 25, 4, 3, 49, 25, 4, 3, 49]
abbrev dktL_law_106 : List UInt8 := dkwL_law_106 ++ dktL_law_107
def dkwL_law_105 : List UInt8 := [25, 4, 184, 1, 59, 54, 6, 44, 182, 1, 61, 56, 7, 44, 182, 0, 178, 21, 6, 159, 0, 5, 3, 172]
abbrev dktL_law_105 : List UInt8 := dkwL_law_105 ++ dktL_law_106
def dkwL_law_104 : List UInt8 := [3, 49, 25, 4, 3, 49, 151, 153, 0, 11, 24, 7, 24, 7, 151, 154, 0, 5, 3, 172, 167, 2, 29, 43]
abbrev dktL_law_104 : List UInt8 := dkwL_law_104 ++ dktL_law_105
def dkwL_law_103 : List UInt8 := [21, 6, 159, 0, 5, 3, 172, 21, 6, 154, 0, 35, 25, 4, 3, 49, 24, 7, 151, 153, 0, 25, 25, 4]
abbrev dktL_law_103 : List UInt8 := dkwL_law_103 ++ dktL_law_104
def dkwL_law_102 : List UInt8 := [159, 2, 96, 3, 172, 43, 25, 4, 184, 1, 55, 54, 6, 44, 182, 1, 58, 57, 7, 44, 182, 0, 178]
abbrev dktL_law_102 : List UInt8 := dkwL_law_102 ++ dktL_law_103
def dkwL_law_101 : List UInt8 := [172, 43, 182, 1, 47, 44, 182, 1, 50, 159, 2, 109, 3, 172, 43, 182, 1, 51, 44, 182, 1, 54]
abbrev dktL_law_101 : List UInt8 := dkwL_law_101 ++ dktL_law_102
def dkwL_law_100 : List UInt8 := [21, 7, 133, 148, 153, 0, 5, 3, 172, 167, 2, 133, 43, 182, 1, 43, 44, 182, 1, 46, 159, 2, 122, 3]
abbrev dktL_law_100 : List UInt8 := dkwL_law_100 ++ dktL_law_101
def dkwL_law_99 : List UInt8 := [182, 1, 42, 54, 7, 44, 182, 0, 178, 21, 6, 159, 0, 5, 3, 172, 21, 6, 154, 0, 15, 45, 3, 47]
abbrev dktL_law_99 : List UInt8 := dkwL_law_99 ++ dktL_law_100
def dkwL_law_98 : List UInt8 := [167, 2, 189, 43, 42, 21, 5, 4, 96, 46, 45, 184, 1, 40, 54, 6, 44, 42, 21, 5, 4, 96, 46]
abbrev dktL_law_98 : List UInt8 := dkwL_law_98 ++ dktL_law_99
def dkwL_law_97 : List UInt8 := [21, 6, 159, 0, 5, 3, 172, 21, 6, 154, 0, 15, 45, 3, 47, 21, 7, 133, 148, 153, 0, 5, 3, 172]
abbrev dktL_law_97 : List UInt8 := dkwL_law_97 ++ dktL_law_98
def dkwL_law_96 : List UInt8 := [46, 45, 184, 1, 37, 54, 6, 44, 42, 21, 5, 4, 96, 46, 182, 1, 39, 54, 7, 44, 182, 0, 178]
abbrev dktL_law_96 : List UInt8 := dkwL_law_96 ++ dktL_law_97
def dkwL_law_95 : List UInt8 := [154, 0, 15, 45, 3, 47, 21, 7, 133, 148, 153, 0, 5, 3, 172, 167, 2, 245, 43, 42, 21, 5, 4, 96]
abbrev dktL_law_95 : List UInt8 := dkwL_law_95 ++ dktL_law_96
def dkwL_law_94 : List UInt8 := [21, 5, 4, 96, 46, 182, 1, 36, 54, 7, 44, 182, 0, 178, 21, 6, 159, 0, 5, 3, 172, 21, 6]
abbrev dktL_law_94 : List UInt8 := dkwL_law_94 ++ dktL_law_95
def dkwL_law_93 : List UInt8 := [148, 153, 0, 5, 3, 172, 167, 3, 45, 43, 42, 21, 5, 4, 96, 46, 45, 184, 1, 34, 54, 6, 44, 42]
abbrev dktL_law_93 : List UInt8 := dkwL_law_93 ++ dktL_law_94
def dkwL_law_92 : List UInt8 := [54, 7, 44, 182, 0, 178, 21, 6, 159, 0, 5, 3, 172, 21, 6, 154, 0, 15, 45, 3, 47, 21, 7, 133]
abbrev dktL_law_92 : List UInt8 := dkwL_law_92 ++ dktL_law_93
def dkwL_law_91 : List UInt8 := [172, 43, 42, 21, 5, 4, 96, 46, 45, 184, 1, 31, 54, 6, 44, 42, 21, 5, 4, 96, 46, 182, 1, 33]
abbrev dktL_law_91 : List UInt8 := dkwL_law_91 ++ dktL_law_92
def dkwL_law_90 : List UInt8 := [21, 7, 133, 148, 153, 0, 5, 3, 172, 167, 3, 114, 43, 182, 1, 27, 44, 182, 1, 30, 159, 3, 103, 3]
abbrev dktL_law_90 : List UInt8 := dkwL_law_90 ++ dktL_law_91
def dkwL_law_89 : List UInt8 := [182, 1, 26, 54, 7, 44, 182, 0, 178, 21, 6, 159, 0, 5, 3, 172, 21, 6, 154, 0, 15, 45, 3, 47]
abbrev dktL_law_89 : List UInt8 := dkwL_law_89 ++ dktL_law_90
def dkwL_law_88 : List UInt8 := [172, 167, 3, 170, 43, 42, 21, 5, 4, 96, 46, 45, 184, 1, 24, 54, 6, 44, 42, 21, 5, 4, 96, 46]
abbrev dktL_law_88 : List UInt8 := dkwL_law_88 ++ dktL_law_89
def dkwL_law_87 : List UInt8 := [172, 21, 6, 154, 0, 22, 45, 3, 47, 21, 7, 153, 0, 7, 10, 167, 0, 4, 9, 148, 153, 0, 5, 3]
abbrev dktL_law_87 : List UInt8 := dkwL_law_87 ++ dktL_law_88
def dkwL_law_86 : List UInt8 := [54, 6, 44, 42, 21, 5, 4, 96, 46, 182, 1, 23, 54, 7, 44, 182, 0, 178, 21, 6, 159, 0, 5, 3]
abbrev dktL_law_86 : List UInt8 := dkwL_law_86 ++ dktL_law_87
def dkwL_law_85 : List UInt8 := [21, 7, 133, 148, 153, 0, 5, 3, 172, 167, 3, 233, 43, 42, 21, 5, 4, 96, 46, 45, 184, 1, 21]
abbrev dktL_law_85 : List UInt8 := dkwL_law_85 ++ dktL_law_86
def dkwL_law_84 : List UInt8 := [182, 1, 20, 54, 7, 44, 182, 0, 178, 21, 6, 159, 0, 5, 3, 172, 21, 6, 154, 0, 15, 45, 3, 47]
abbrev dktL_law_84 : List UInt8 := dkwL_law_84 ++ dktL_law_85
def dkwL_law_83 : List UInt8 := [167, 4, 33, 43, 42, 21, 5, 4, 96, 46, 45, 184, 1, 18, 54, 6, 44, 42, 21, 5, 4, 96, 46]
abbrev dktL_law_83 : List UInt8 := dkwL_law_83 ++ dktL_law_84
def dkwL_law_82 : List UInt8 := [21, 6, 159, 0, 5, 3, 172, 21, 6, 154, 0, 15, 45, 3, 47, 21, 7, 133, 148, 153, 0, 5, 3, 172]
abbrev dktL_law_82 : List UInt8 := dkwL_law_82 ++ dktL_law_83
def dkwL_law_81 : List UInt8 := [46, 45, 184, 1, 15, 54, 6, 44, 42, 21, 5, 4, 96, 46, 182, 1, 17, 54, 7, 44, 182, 0, 178]
abbrev dktL_law_81 : List UInt8 := dkwL_law_81 ++ dktL_law_82
def dkwL_law_80 : List UInt8 := [154, 0, 15, 45, 3, 47, 21, 7, 133, 148, 153, 0, 5, 3, 172, 167, 4, 89, 43, 42, 21, 5, 4, 96]
abbrev dktL_law_80 : List UInt8 := dkwL_law_80 ++ dktL_law_81
def dkwL_law_79 : List UInt8 := [21, 5, 4, 96, 46, 182, 1, 14, 54, 7, 44, 182, 0, 178, 21, 6, 159, 0, 5, 3, 172, 21, 6]
abbrev dktL_law_79 : List UInt8 := dkwL_law_79 ++ dktL_law_80
def dkwL_law_78 : List UInt8 := [153, 0, 5, 3, 172, 167, 4, 145, 43, 42, 21, 5, 4, 96, 46, 45, 184, 1, 12, 54, 6, 44, 42]
abbrev dktL_law_78 : List UInt8 := dkwL_law_78 ++ dktL_law_79
def dkwL_law_77 : List UInt8 := [182, 0, 178, 21, 6, 159, 0, 5, 3, 172, 21, 6, 154, 0, 15, 45, 3, 47, 21, 7, 133, 148]
abbrev dktL_law_77 : List UInt8 := dkwL_law_77 ++ dktL_law_78
def dkwL_law_76 : List UInt8 := [21, 5, 4, 96, 46, 45, 184, 1, 9, 54, 6, 44, 42, 21, 5, 4, 96, 46, 182, 1, 11, 54, 7, 44]
abbrev dktL_law_76 : List UInt8 := dkwL_law_76 ++ dktL_law_77
def dkwL_law_75 : List UInt8 := [153, 0, 5, 3, 172, 167, 4, 214, 43, 182, 1, 5, 44, 182, 1, 8, 159, 4, 203, 3, 172, 43, 42]
abbrev dktL_law_75 : List UInt8 := dkwL_law_75 ++ dktL_law_76
def dkwL_law_74 : List UInt8 := [182, 0, 178, 21, 6, 159, 0, 5, 3, 172, 21, 6, 154, 0, 15, 45, 3, 47, 21, 7, 133, 148]
abbrev dktL_law_74 : List UInt8 := dkwL_law_74 ++ dktL_law_75
def dkwL_law_73 : List UInt8 := [21, 5, 4, 96, 46, 42, 21, 5, 5, 96, 46, 42, 21, 5, 6, 96, 46, 182, 1, 4, 54, 7, 44]
abbrev dktL_law_73 : List UInt8 := dkwL_law_73 ++ dktL_law_74
def dkwL_law_72 : List UInt8 := [4, 96, 46, 42, 21, 5, 5, 96, 46, 42, 21, 5, 6, 96, 46, 45, 184, 1, 2, 54, 6, 44, 42]
abbrev dktL_law_72 : List UInt8 := dkwL_law_72 ++ dktL_law_73
def dkwL_law_71 : List UInt8 := [21, 6, 154, 0, 15, 45, 3, 47, 21, 7, 133, 148, 153, 0, 5, 3, 172, 167, 5, 38, 43, 42, 21, 5]
abbrev dktL_law_71 : List UInt8 := dkwL_law_71 ++ dktL_law_72
def dkwL_law_70 : List UInt8 := [96, 46, 42, 21, 5, 6, 96, 46, 182, 1, 1, 54, 7, 44, 182, 0, 178, 21, 6, 159, 0, 5, 3, 172]
abbrev dktL_law_70 : List UInt8 := dkwL_law_70 ++ dktL_law_71
def dkwL_law_69 : List UInt8 := [46, 42, 21, 5, 6, 96, 46, 45, 184, 0, 255, 54, 6, 44, 42, 21, 5, 4, 96, 46, 42, 21, 5, 5]
abbrev dktL_law_69 : List UInt8 := dkwL_law_69 ++ dktL_law_70
def dkwL_law_68 : List UInt8 := [21, 7, 133, 148, 153, 0, 5, 3, 172, 167, 5, 118, 43, 42, 21, 5, 4, 96, 46, 42, 21, 5, 5, 96]
abbrev dktL_law_68 : List UInt8 := dkwL_law_68 ++ dktL_law_69
def dkwL_law_67 : List UInt8 := [182, 0, 254, 54, 7, 44, 182, 0, 178, 21, 6, 159, 0, 5, 3, 172, 21, 6, 154, 0, 15, 45, 3, 47]
abbrev dktL_law_67 : List UInt8 := dkwL_law_67 ++ dktL_law_68
def dkwL_law_66 : List UInt8 := [184, 0, 252, 54, 6, 44, 42, 21, 5, 4, 96, 46, 42, 21, 5, 5, 96, 46, 42, 21, 5, 6, 96, 46]
abbrev dktL_law_66 : List UInt8 := dkwL_law_66 ++ dktL_law_67
def dkwL_law_65 : List UInt8 := [167, 5, 198, 43, 42, 21, 5, 4, 96, 46, 42, 21, 5, 5, 96, 46, 42, 21, 5, 6, 96, 46, 45]
abbrev dktL_law_65 : List UInt8 := dkwL_law_65 ++ dktL_law_66
def dkwL_law_64 : List UInt8 := [154, 0, 22, 45, 3, 47, 21, 7, 153, 0, 7, 10, 167, 0, 4, 9, 148, 153, 0, 5, 3, 172]
abbrev dktL_law_64 : List UInt8 := dkwL_law_64 ++ dktL_law_65
def dkwL_law_63 : List UInt8 := [21, 5, 6, 96, 46, 182, 0, 251, 54, 7, 44, 182, 0, 178, 21, 6, 159, 0, 5, 3, 172, 21, 6]
abbrev dktL_law_63 : List UInt8 := dkwL_law_63 ++ dktL_law_64
def dkwL_law_62 : List UInt8 := [6, 96, 46, 45, 184, 0, 249, 54, 6, 44, 42, 21, 5, 4, 96, 46, 42, 21, 5, 5, 96, 46, 42]
abbrev dktL_law_62 : List UInt8 := dkwL_law_62 ++ dktL_law_63
def dkwL_law_61 : List UInt8 := [153, 0, 5, 3, 172, 167, 6, 29, 43, 42, 21, 5, 4, 96, 46, 42, 21, 5, 5, 96, 46, 42, 21, 5]
abbrev dktL_law_61 : List UInt8 := dkwL_law_61 ++ dktL_law_62
def dkwL_law_60 : List UInt8 := [159, 0, 5, 3, 172, 21, 6, 154, 0, 22, 45, 3, 47, 21, 7, 153, 0, 7, 10, 167, 0, 4, 9, 148]
abbrev dktL_law_60 : List UInt8 := dkwL_law_60 ++ dktL_law_61
def dkwL_law_59 : List UInt8 := [21, 5, 4, 96, 46, 42, 21, 5, 5, 96, 46, 182, 0, 248, 54, 7, 44, 182, 0, 178, 21, 6]
abbrev dktL_law_59 : List UInt8 := dkwL_law_59 ++ dktL_law_60
def dkwL_law_58 : List UInt8 := [167, 6, 104, 43, 42, 21, 5, 4, 96, 46, 42, 21, 5, 5, 96, 46, 45, 184, 0, 246, 54, 6, 44, 42]
abbrev dktL_law_58 : List UInt8 := dkwL_law_58 ++ dktL_law_59
def dkwL_law_57 : List UInt8 := [159, 0, 5, 3, 172, 21, 6, 154, 0, 15, 45, 3, 47, 21, 7, 133, 148, 153, 0, 5, 3, 172]
abbrev dktL_law_57 : List UInt8 := dkwL_law_57 ++ dktL_law_58
def dkwL_law_56 : List UInt8 := [21, 5, 4, 96, 46, 42, 21, 5, 5, 96, 46, 182, 0, 245, 54, 7, 44, 182, 0, 178, 21, 6]
abbrev dktL_law_56 : List UInt8 := dkwL_law_56 ++ dktL_law_57
def dkwL_law_55 : List UInt8 := [167, 6, 172, 43, 42, 21, 5, 4, 96, 46, 42, 21, 5, 5, 96, 46, 45, 184, 0, 243, 54, 6, 44, 42]
abbrev dktL_law_55 : List UInt8 := dkwL_law_55 ++ dktL_law_56
def dkwL_law_54 : List UInt8 := [21, 6, 159, 0, 5, 3, 172, 21, 6, 154, 0, 15, 45, 3, 47, 21, 7, 133, 148, 153, 0, 5, 3, 172]
abbrev dktL_law_54 : List UInt8 := dkwL_law_54 ++ dktL_law_55
def dkwL_law_53 : List UInt8 := [46, 45, 184, 0, 240, 54, 6, 44, 42, 21, 5, 4, 96, 46, 182, 0, 242, 54, 7, 44, 182, 0, 178]
abbrev dktL_law_53 : List UInt8 := dkwL_law_53 ++ dktL_law_54
def dkwL_law_52 : List UInt8 := [154, 0, 15, 45, 3, 47, 21, 7, 133, 148, 153, 0, 5, 3, 172, 167, 6, 228, 43, 42, 21, 5, 4, 96]
abbrev dktL_law_52 : List UInt8 := dkwL_law_52 ++ dktL_law_53
def dkwL_law_51 : List UInt8 := [21, 5, 4, 96, 46, 182, 0, 239, 54, 7, 44, 182, 0, 178, 21, 6, 159, 0, 5, 3, 172, 21, 6]
abbrev dktL_law_51 : List UInt8 := dkwL_law_51 ++ dktL_law_52
def dkwL_law_50 : List UInt8 := [153, 0, 5, 3, 172, 167, 7, 28, 43, 42, 21, 5, 4, 96, 46, 45, 184, 0, 237, 54, 6, 44, 42]
abbrev dktL_law_50 : List UInt8 := dkwL_law_50 ++ dktL_law_51
def dkwL_law_49 : List UInt8 := [182, 0, 178, 21, 6, 159, 0, 5, 3, 172, 21, 6, 154, 0, 15, 45, 3, 47, 21, 7, 133, 148]
abbrev dktL_law_49 : List UInt8 := dkwL_law_49 ++ dktL_law_50
def dkwL_law_48 : List UInt8 := [184, 0, 234, 54, 6, 44, 42, 21, 5, 4, 96, 46, 42, 21, 5, 5, 96, 46, 182, 0, 236, 54, 7, 44]
abbrev dktL_law_48 : List UInt8 := dkwL_law_48 ++ dktL_law_49
def dkwL_law_47 : List UInt8 := [153, 0, 5, 3, 172, 167, 7, 96, 43, 42, 21, 5, 4, 96, 46, 42, 21, 5, 5, 96, 46, 45]
abbrev dktL_law_47 : List UInt8 := dkwL_law_47 ++ dktL_law_48
def dkwL_law_46 : List UInt8 := [182, 0, 178, 21, 6, 159, 0, 5, 3, 172, 21, 6, 154, 0, 15, 45, 3, 47, 21, 7, 133, 148]
abbrev dktL_law_46 : List UInt8 := dkwL_law_46 ++ dktL_law_47
def dkwL_law_45 : List UInt8 := [184, 0, 231, 54, 6, 44, 42, 21, 5, 4, 96, 46, 42, 21, 5, 5, 96, 46, 182, 0, 233, 54, 7, 44]
abbrev dktL_law_45 : List UInt8 := dkwL_law_45 ++ dktL_law_46
def dkwL_law_44 : List UInt8 := [153, 0, 5, 3, 172, 167, 7, 164, 43, 42, 21, 5, 4, 96, 46, 42, 21, 5, 5, 96, 46, 45]
abbrev dktL_law_44 : List UInt8 := dkwL_law_44 ++ dktL_law_45
def dkwL_law_43 : List UInt8 := [182, 0, 178, 21, 6, 159, 0, 5, 3, 172, 21, 6, 154, 0, 15, 45, 3, 47, 21, 7, 133, 148]
abbrev dktL_law_43 : List UInt8 := dkwL_law_43 ++ dktL_law_44
def dkwL_law_42 : List UInt8 := [184, 0, 228, 54, 6, 44, 42, 21, 5, 4, 96, 46, 42, 21, 5, 5, 96, 46, 182, 0, 230, 54, 7, 44]
abbrev dktL_law_42 : List UInt8 := dkwL_law_42 ++ dktL_law_43
def dkwL_law_41 : List UInt8 := [153, 0, 5, 3, 172, 167, 7, 232, 43, 42, 21, 5, 4, 96, 46, 42, 21, 5, 5, 96, 46, 45]
abbrev dktL_law_41 : List UInt8 := dkwL_law_41 ++ dktL_law_42
def dkwL_law_40 : List UInt8 := [182, 0, 178, 21, 6, 159, 0, 5, 3, 172, 21, 6, 154, 0, 15, 45, 3, 47, 21, 7, 133, 148]
abbrev dktL_law_40 : List UInt8 := dkwL_law_40 ++ dktL_law_41
def dkwL_law_39 : List UInt8 := [21, 5, 4, 96, 46, 45, 184, 0, 225, 54, 6, 44, 42, 21, 5, 4, 96, 46, 182, 0, 227, 54, 7, 44]
abbrev dktL_law_39 : List UInt8 := dkwL_law_39 ++ dktL_law_40
def dkwL_law_38 : List UInt8 := [153, 0, 5, 3, 172, 167, 8, 45, 43, 182, 0, 221, 44, 182, 0, 224, 159, 8, 34, 3, 172, 43, 42]
abbrev dktL_law_38 : List UInt8 := dkwL_law_38 ++ dktL_law_39
def dkwL_law_37 : List UInt8 := [182, 0, 178, 21, 6, 159, 0, 5, 3, 172, 21, 6, 154, 0, 15, 45, 3, 47, 21, 7, 133, 148]
abbrev dktL_law_37 : List UInt8 := dkwL_law_37 ++ dktL_law_38
def dkwL_law_36 : List UInt8 := [184, 0, 218, 54, 6, 44, 42, 21, 5, 4, 96, 46, 42, 21, 5, 5, 96, 46, 182, 0, 220, 54, 7, 44]
abbrev dktL_law_36 : List UInt8 := dkwL_law_36 ++ dktL_law_37
def dkwL_law_35 : List UInt8 := [153, 0, 5, 3, 172, 167, 8, 113, 43, 42, 21, 5, 4, 96, 46, 42, 21, 5, 5, 96, 46, 45]
abbrev dktL_law_35 : List UInt8 := dkwL_law_35 ++ dktL_law_36
def dkwL_law_34 : List UInt8 := [182, 0, 178, 21, 6, 159, 0, 5, 3, 172, 21, 6, 154, 0, 15, 45, 3, 47, 21, 7, 133, 148]
abbrev dktL_law_34 : List UInt8 := dkwL_law_34 ++ dktL_law_35
def dkwL_law_33 : List UInt8 := [21, 5, 4, 96, 46, 45, 184, 0, 215, 54, 6, 44, 42, 21, 5, 4, 96, 46, 182, 0, 217, 54, 7, 44]
abbrev dktL_law_33 : List UInt8 := dkwL_law_33 ++ dktL_law_34
def dkwL_law_32 : List UInt8 := [153, 0, 5, 3, 172, 167, 8, 182, 43, 182, 0, 211, 44, 182, 0, 214, 159, 8, 171, 3, 172, 43, 42]
abbrev dktL_law_32 : List UInt8 := dkwL_law_32 ++ dktL_law_33
def dkwL_law_31 : List UInt8 := [182, 0, 178, 21, 6, 159, 0, 5, 3, 172, 21, 6, 154, 0, 15, 45, 3, 47, 21, 7, 133, 148]
abbrev dktL_law_31 : List UInt8 := dkwL_law_31 ++ dktL_law_32
def dkwL_law_30 : List UInt8 := [4, 96, 46, 45, 184, 0, 208, 54, 6, 44, 42, 21, 5, 4, 96, 46, 182, 0, 210, 54, 7, 44]
abbrev dktL_law_30 : List UInt8 := dkwL_law_30 ++ dktL_law_31
def dkwL_law_29 : List UInt8 := [21, 6, 154, 0, 15, 45, 3, 47, 21, 7, 133, 148, 153, 0, 5, 3, 172, 167, 8, 238, 43, 42, 21, 5]
abbrev dktL_law_29 : List UInt8 := dkwL_law_29 ++ dktL_law_30
def dkwL_law_28 : List UInt8 := [96, 46, 42, 21, 5, 6, 96, 46, 182, 0, 207, 54, 7, 44, 182, 0, 178, 21, 6, 159, 0, 5, 3, 172]
abbrev dktL_law_28 : List UInt8 := dkwL_law_28 ++ dktL_law_29
def dkwL_law_27 : List UInt8 := [46, 42, 21, 5, 6, 96, 46, 45, 184, 0, 205, 54, 6, 44, 42, 21, 5, 4, 96, 46, 42, 21, 5, 5]
abbrev dktL_law_27 : List UInt8 := dkwL_law_27 ++ dktL_law_28
def dkwL_law_26 : List UInt8 := [21, 7, 133, 148, 153, 0, 5, 3, 172, 167, 9, 62, 43, 42, 21, 5, 4, 96, 46, 42, 21, 5, 5, 96]
abbrev dktL_law_26 : List UInt8 := dkwL_law_26 ++ dktL_law_27
def dkwL_law_25 : List UInt8 := [182, 0, 204, 54, 7, 44, 182, 0, 178, 21, 6, 159, 0, 5, 3, 172, 21, 6, 154, 0, 15, 45, 3, 47]
abbrev dktL_law_25 : List UInt8 := dkwL_law_25 ++ dktL_law_26
def dkwL_law_24 : List UInt8 := [167, 9, 118, 43, 42, 21, 5, 4, 96, 46, 45, 184, 0, 202, 54, 6, 44, 42, 21, 5, 4, 96, 46]
abbrev dktL_law_24 : List UInt8 := dkwL_law_24 ++ dktL_law_25
def dkwL_law_23 : List UInt8 := [21, 6, 159, 0, 5, 3, 172, 21, 6, 154, 0, 15, 45, 3, 47, 21, 7, 133, 148, 153, 0, 5, 3, 172]
abbrev dktL_law_23 : List UInt8 := dkwL_law_23 ++ dktL_law_24
def dkwL_law_22 : List UInt8 := [46, 45, 184, 0, 199, 54, 6, 44, 42, 21, 5, 4, 96, 46, 182, 0, 201, 54, 7, 44, 182, 0, 178]
abbrev dktL_law_22 : List UInt8 := dkwL_law_22 ++ dktL_law_23
def dkwL_law_21 : List UInt8 := [154, 0, 15, 45, 3, 47, 21, 7, 133, 148, 153, 0, 5, 3, 172, 167, 9, 174, 43, 42, 21, 5, 4, 96]
abbrev dktL_law_21 : List UInt8 := dkwL_law_21 ++ dktL_law_22
def dkwL_law_20 : List UInt8 := [21, 5, 5, 96, 46, 182, 0, 198, 54, 7, 44, 182, 0, 178, 21, 6, 159, 0, 5, 3, 172, 21, 6]
abbrev dktL_law_20 : List UInt8 := dkwL_law_20 ++ dktL_law_21
def dkwL_law_19 : List UInt8 := [4, 96, 46, 42, 21, 5, 5, 96, 46, 45, 184, 0, 196, 54, 6, 44, 42, 21, 5, 4, 96, 46, 42]
abbrev dktL_law_19 : List UInt8 := dkwL_law_19 ++ dktL_law_20
def dkwL_law_18 : List UInt8 := [21, 6, 154, 0, 15, 45, 3, 47, 21, 7, 133, 148, 153, 0, 5, 3, 172, 167, 9, 242, 43, 42, 21, 5]
abbrev dktL_law_18 : List UInt8 := dkwL_law_18 ++ dktL_law_19
def dkwL_law_17 : List UInt8 := [96, 46, 42, 21, 5, 6, 96, 46, 182, 0, 195, 54, 7, 44, 182, 0, 178, 21, 6, 159, 0, 5, 3, 172]
abbrev dktL_law_17 : List UInt8 := dkwL_law_17 ++ dktL_law_18
def dkwL_law_16 : List UInt8 := [46, 42, 21, 5, 6, 96, 46, 45, 184, 0, 193, 54, 6, 44, 42, 21, 5, 4, 96, 46, 42, 21, 5, 5]
abbrev dktL_law_16 : List UInt8 := dkwL_law_16 ++ dktL_law_17
def dkwL_law_15 : List UInt8 := [21, 7, 133, 148, 153, 0, 5, 3, 172, 167, 10, 66, 43, 42, 21, 5, 4, 96, 46, 42, 21, 5, 5, 96]
abbrev dktL_law_15 : List UInt8 := dkwL_law_15 ++ dktL_law_16
def dkwL_law_14 : List UInt8 := [182, 0, 192, 54, 7, 44, 182, 0, 178, 21, 6, 159, 0, 5, 3, 172, 21, 6, 154, 0, 15, 45, 3, 47]
abbrev dktL_law_14 : List UInt8 := dkwL_law_14 ++ dktL_law_15
def dkwL_law_13 : List UInt8 := [21, 5, 5, 96, 46, 45, 184, 0, 189, 54, 6, 44, 42, 21, 5, 4, 96, 46, 42, 21, 5, 5, 96, 46]
abbrev dktL_law_13 : List UInt8 := dkwL_law_13 ++ dktL_law_14
def dkwL_law_12 : List UInt8 := [45, 3, 47, 21, 7, 133, 148, 153, 0, 5, 3, 172, 167, 10, 134, 43, 42, 21, 5, 4, 96, 46, 42]
abbrev dktL_law_12 : List UInt8 := dkwL_law_12 ++ dktL_law_13
def dkwL_law_11 : List UInt8 := [7, 96, 46, 182, 0, 188, 54, 7, 44, 182, 0, 178, 21, 6, 159, 0, 5, 3, 172, 21, 6, 154, 0, 15]
abbrev dktL_law_11 : List UInt8 := dkwL_law_11 ++ dktL_law_12
def dkwL_law_10 : List UInt8 := [54, 6, 44, 42, 21, 5, 4, 96, 46, 42, 21, 5, 5, 96, 46, 42, 21, 5, 6, 96, 46, 42, 21, 5]
abbrev dktL_law_10 : List UInt8 := dkwL_law_10 ++ dktL_law_11
def dkwL_law_9 : List UInt8 := [46, 42, 21, 5, 5, 96, 46, 42, 21, 5, 6, 96, 46, 42, 21, 5, 7, 96, 46, 45, 184, 0, 185]
abbrev dktL_law_9 : List UInt8 := dkwL_law_9 ++ dktL_law_10
def dkwL_law_8 : List UInt8 := [154, 0, 15, 45, 3, 47, 21, 7, 133, 148, 153, 0, 5, 3, 172, 167, 10, 226, 43, 42, 21, 5, 4, 96]
abbrev dktL_law_8 : List UInt8 := dkwL_law_8 ++ dktL_law_9
def dkwL_law_7 : List UInt8 := [42, 21, 5, 6, 96, 46, 182, 0, 184, 54, 7, 44, 182, 0, 178, 21, 6, 159, 0, 5, 3, 172, 21, 6]
abbrev dktL_law_7 : List UInt8 := dkwL_law_7 ++ dktL_law_8
def dkwL_law_6 : List UInt8 := [21, 5, 6, 96, 46, 45, 184, 0, 181, 54, 6, 44, 42, 21, 5, 4, 96, 46, 42, 21, 5, 5, 96, 46]
abbrev dktL_law_6 : List UInt8 := dkwL_law_6 ++ dktL_law_7
def dkwL_law_5 : List UInt8 := [148, 153, 0, 5, 3, 172, 167, 11, 50, 43, 42, 21, 5, 4, 96, 46, 42, 21, 5, 5, 96, 46, 42]
abbrev dktL_law_5 : List UInt8 := dkwL_law_5 ++ dktL_law_6
def dkwL_law_4 : List UInt8 := [54, 7, 44, 182, 0, 178, 21, 6, 159, 0, 5, 3, 172, 21, 6, 154, 0, 15, 45, 3, 47, 21, 7, 133]
abbrev dktL_law_4 : List UInt8 := dkwL_law_4 ++ dktL_law_5
def dkwL_law_3 : List UInt8 := [43, 42, 21, 5, 4, 96, 46, 45, 184, 0, 172, 54, 6, 44, 42, 21, 5, 4, 96, 46, 182, 0, 177]
abbrev dktL_law_3 : List UInt8 := dkwL_law_3 ++ dktL_law_4
def dkwL_law_2 : List UInt8 := [170, 0, 0, 0, 0, 0, 12, 79, 0, 0, 0, 0, 0, 0, 0, 53, 0, 0, 0, 232, 0, 0, 1, 32, 0, 0, 1, 112, 0, 0, 1, 204, 0, 0, 2, 16, 0, 0, 2, 96, 0, 0, 2, 164, 0, 0, 2, 220, 0, 0, 3, 20, 0, 0, 3, 100, 0, 0, 3, 156, 0, 0, 3, 169, 0, 0, 3, 225, 0, 0, 4, 37, 0, 0, 4, 50, 0, 0, 4, 106, 0, 0, 4, 174, 0, 0, 4, 242, 0, 0, 5, 54, 0, 0, 5, 110, 0, 0, 5, 166, 0, 0, 5, 234, 0, 0, 6, 53, 0, 0, 6, 140, 0, 0, 6, 220, 0, 0, 7, 44, 0, 0, 7, 124, 0, 0, 7, 137, 0, 0, 7, 193, 0, 0, 7, 249, 0, 0, 8, 49, 0, 0, 8, 105, 0, 0, 8, 168, 0, 0, 8, 224, 0, 0, 8, 237, 0, 0, 9, 37, 0, 0, 9, 93, 0, 0, 9, 149, 0, 0, 9, 205, 0, 0, 9, 218, 0, 0, 9, 231, 0, 0, 9, 244, 0, 0, 10, 53, 0, 0, 10, 119, 0, 0, 10, 132, 0, 0, 10, 188, 0, 0, 10, 244, 0, 0, 11, 44, 0, 0, 11, 102, 0, 0, 11, 146, 0, 0, 11, 190, 0, 0, 11, 234, 0, 0, 12, 22, 0, 0, 12, 35]
abbrev dktL_law_2 : List UInt8 := dkwL_law_2 ++ dktL_law_3
def dkwL_law_1 : List UInt8 := [58, 4, 3, 54, 5, 21, 5, 42, 190, 8, 100, 163, 12, 95, 42, 21, 5, 46, 16, 63, 126]
abbrev dktL_law_1 : List UInt8 := dkwL_law_1 ++ dktL_law_2
def dkwL_law_0 : List UInt8 := [187, 0, 8, 89, 183, 0, 168, 76, 187, 0, 169, 89, 183, 0, 171, 77, 4, 188, 11, 78, 4, 188, 7]
abbrev dktL_law_0 : List UInt8 := dkwL_law_0 ++ dktL_law_1
theorem dksL_law_0 : cL_law.data.toList.drop 0 = dktL_law_0 := by decide +kernel
theorem dksL_law_1 : cL_law.data.toList.drop 23 = dktL_law_1 := dk_seg dksL_law_0 23 rfl rfl
theorem dksL_law_2 : cL_law.data.toList.drop 44 = dktL_law_2 := dk_seg dksL_law_1 21 rfl rfl
theorem dksL_law_3 : cL_law.data.toList.drop 276 = dktL_law_3 := dk_seg dksL_law_2 232 rfl rfl
theorem dksL_law_4 : cL_law.data.toList.drop 299 = dktL_law_4 := dk_seg dksL_law_3 23 rfl rfl
theorem dksL_law_5 : cL_law.data.toList.drop 323 = dktL_law_5 := dk_seg dksL_law_4 24 rfl rfl
theorem dksL_law_6 : cL_law.data.toList.drop 346 = dktL_law_6 := dk_seg dksL_law_5 23 rfl rfl
theorem dksL_law_7 : cL_law.data.toList.drop 370 = dktL_law_7 := dk_seg dksL_law_6 24 rfl rfl
theorem dksL_law_8 : cL_law.data.toList.drop 394 = dktL_law_8 := dk_seg dksL_law_7 24 rfl rfl
theorem dksL_law_9 : cL_law.data.toList.drop 418 = dktL_law_9 := dk_seg dksL_law_8 24 rfl rfl
theorem dksL_law_10 : cL_law.data.toList.drop 441 = dktL_law_10 := dk_seg dksL_law_9 23 rfl rfl
theorem dksL_law_11 : cL_law.data.toList.drop 465 = dktL_law_11 := dk_seg dksL_law_10 24 rfl rfl
theorem dksL_law_12 : cL_law.data.toList.drop 489 = dktL_law_12 := dk_seg dksL_law_11 24 rfl rfl
theorem dksL_law_13 : cL_law.data.toList.drop 512 = dktL_law_13 := dk_seg dksL_law_12 23 rfl rfl
theorem dksL_law_14 : cL_law.data.toList.drop 536 = dktL_law_14 := dk_seg dksL_law_13 24 rfl rfl
theorem dksL_law_15 : cL_law.data.toList.drop 560 = dktL_law_15 := dk_seg dksL_law_14 24 rfl rfl
theorem dksL_law_16 : cL_law.data.toList.drop 584 = dktL_law_16 := dk_seg dksL_law_15 24 rfl rfl
theorem dksL_law_17 : cL_law.data.toList.drop 608 = dktL_law_17 := dk_seg dksL_law_16 24 rfl rfl
theorem dksL_law_18 : cL_law.data.toList.drop 632 = dktL_law_18 := dk_seg dksL_law_17 24 rfl rfl
theorem dksL_law_19 : cL_law.data.toList.drop 656 = dktL_law_19 := dk_seg dksL_law_18 24 rfl rfl
theorem dksL_law_20 : cL_law.data.toList.drop 679 = dktL_law_20 := dk_seg dksL_law_19 23 rfl rfl
theorem dksL_law_21 : cL_law.data.toList.drop 702 = dktL_law_21 := dk_seg dksL_law_20 23 rfl rfl
theorem dksL_law_22 : cL_law.data.toList.drop 726 = dktL_law_22 := dk_seg dksL_law_21 24 rfl rfl
theorem dksL_law_23 : cL_law.data.toList.drop 749 = dktL_law_23 := dk_seg dksL_law_22 23 rfl rfl
theorem dksL_law_24 : cL_law.data.toList.drop 773 = dktL_law_24 := dk_seg dksL_law_23 24 rfl rfl
theorem dksL_law_25 : cL_law.data.toList.drop 796 = dktL_law_25 := dk_seg dksL_law_24 23 rfl rfl
theorem dksL_law_26 : cL_law.data.toList.drop 820 = dktL_law_26 := dk_seg dksL_law_25 24 rfl rfl
theorem dksL_law_27 : cL_law.data.toList.drop 844 = dktL_law_27 := dk_seg dksL_law_26 24 rfl rfl
theorem dksL_law_28 : cL_law.data.toList.drop 868 = dktL_law_28 := dk_seg dksL_law_27 24 rfl rfl
theorem dksL_law_29 : cL_law.data.toList.drop 892 = dktL_law_29 := dk_seg dksL_law_28 24 rfl rfl
theorem dksL_law_30 : cL_law.data.toList.drop 916 = dktL_law_30 := dk_seg dksL_law_29 24 rfl rfl
theorem dksL_law_31 : cL_law.data.toList.drop 938 = dktL_law_31 := dk_seg dksL_law_30 22 rfl rfl
theorem dksL_law_32 : cL_law.data.toList.drop 960 = dktL_law_32 := dk_seg dksL_law_31 22 rfl rfl
theorem dksL_law_33 : cL_law.data.toList.drop 983 = dktL_law_33 := dk_seg dksL_law_32 23 rfl rfl
theorem dksL_law_34 : cL_law.data.toList.drop 1007 = dktL_law_34 := dk_seg dksL_law_33 24 rfl rfl
theorem dksL_law_35 : cL_law.data.toList.drop 1029 = dktL_law_35 := dk_seg dksL_law_34 22 rfl rfl
theorem dksL_law_36 : cL_law.data.toList.drop 1051 = dktL_law_36 := dk_seg dksL_law_35 22 rfl rfl
theorem dksL_law_37 : cL_law.data.toList.drop 1075 = dktL_law_37 := dk_seg dksL_law_36 24 rfl rfl
theorem dksL_law_38 : cL_law.data.toList.drop 1097 = dktL_law_38 := dk_seg dksL_law_37 22 rfl rfl
theorem dksL_law_39 : cL_law.data.toList.drop 1120 = dktL_law_39 := dk_seg dksL_law_38 23 rfl rfl
theorem dksL_law_40 : cL_law.data.toList.drop 1144 = dktL_law_40 := dk_seg dksL_law_39 24 rfl rfl
theorem dksL_law_41 : cL_law.data.toList.drop 1166 = dktL_law_41 := dk_seg dksL_law_40 22 rfl rfl
theorem dksL_law_42 : cL_law.data.toList.drop 1188 = dktL_law_42 := dk_seg dksL_law_41 22 rfl rfl
theorem dksL_law_43 : cL_law.data.toList.drop 1212 = dktL_law_43 := dk_seg dksL_law_42 24 rfl rfl
theorem dksL_law_44 : cL_law.data.toList.drop 1234 = dktL_law_44 := dk_seg dksL_law_43 22 rfl rfl
theorem dksL_law_45 : cL_law.data.toList.drop 1256 = dktL_law_45 := dk_seg dksL_law_44 22 rfl rfl
theorem dksL_law_46 : cL_law.data.toList.drop 1280 = dktL_law_46 := dk_seg dksL_law_45 24 rfl rfl
theorem dksL_law_47 : cL_law.data.toList.drop 1302 = dktL_law_47 := dk_seg dksL_law_46 22 rfl rfl
theorem dksL_law_48 : cL_law.data.toList.drop 1324 = dktL_law_48 := dk_seg dksL_law_47 22 rfl rfl
theorem dksL_law_49 : cL_law.data.toList.drop 1348 = dktL_law_49 := dk_seg dksL_law_48 24 rfl rfl
theorem dksL_law_50 : cL_law.data.toList.drop 1370 = dktL_law_50 := dk_seg dksL_law_49 22 rfl rfl
theorem dksL_law_51 : cL_law.data.toList.drop 1393 = dktL_law_51 := dk_seg dksL_law_50 23 rfl rfl
theorem dksL_law_52 : cL_law.data.toList.drop 1416 = dktL_law_52 := dk_seg dksL_law_51 23 rfl rfl
theorem dksL_law_53 : cL_law.data.toList.drop 1440 = dktL_law_53 := dk_seg dksL_law_52 24 rfl rfl
theorem dksL_law_54 : cL_law.data.toList.drop 1463 = dktL_law_54 := dk_seg dksL_law_53 23 rfl rfl
theorem dksL_law_55 : cL_law.data.toList.drop 1487 = dktL_law_55 := dk_seg dksL_law_54 24 rfl rfl
theorem dksL_law_56 : cL_law.data.toList.drop 1511 = dktL_law_56 := dk_seg dksL_law_55 24 rfl rfl
theorem dksL_law_57 : cL_law.data.toList.drop 1533 = dktL_law_57 := dk_seg dksL_law_56 22 rfl rfl
theorem dksL_law_58 : cL_law.data.toList.drop 1555 = dktL_law_58 := dk_seg dksL_law_57 22 rfl rfl
theorem dksL_law_59 : cL_law.data.toList.drop 1579 = dktL_law_59 := dk_seg dksL_law_58 24 rfl rfl
theorem dksL_law_60 : cL_law.data.toList.drop 1601 = dktL_law_60 := dk_seg dksL_law_59 22 rfl rfl
theorem dksL_law_61 : cL_law.data.toList.drop 1625 = dktL_law_61 := dk_seg dksL_law_60 24 rfl rfl
theorem dksL_law_62 : cL_law.data.toList.drop 1649 = dktL_law_62 := dk_seg dksL_law_61 24 rfl rfl
theorem dksL_law_63 : cL_law.data.toList.drop 1672 = dktL_law_63 := dk_seg dksL_law_62 23 rfl rfl
theorem dksL_law_64 : cL_law.data.toList.drop 1695 = dktL_law_64 := dk_seg dksL_law_63 23 rfl rfl
theorem dksL_law_65 : cL_law.data.toList.drop 1717 = dktL_law_65 := dk_seg dksL_law_64 22 rfl rfl
theorem dksL_law_66 : cL_law.data.toList.drop 1740 = dktL_law_66 := dk_seg dksL_law_65 23 rfl rfl
theorem dksL_law_67 : cL_law.data.toList.drop 1764 = dktL_law_67 := dk_seg dksL_law_66 24 rfl rfl
theorem dksL_law_68 : cL_law.data.toList.drop 1788 = dktL_law_68 := dk_seg dksL_law_67 24 rfl rfl
theorem dksL_law_69 : cL_law.data.toList.drop 1812 = dktL_law_69 := dk_seg dksL_law_68 24 rfl rfl
theorem dksL_law_70 : cL_law.data.toList.drop 1836 = dktL_law_70 := dk_seg dksL_law_69 24 rfl rfl
theorem dksL_law_71 : cL_law.data.toList.drop 1860 = dktL_law_71 := dk_seg dksL_law_70 24 rfl rfl
theorem dksL_law_72 : cL_law.data.toList.drop 1884 = dktL_law_72 := dk_seg dksL_law_71 24 rfl rfl
theorem dksL_law_73 : cL_law.data.toList.drop 1907 = dktL_law_73 := dk_seg dksL_law_72 23 rfl rfl
theorem dksL_law_74 : cL_law.data.toList.drop 1930 = dktL_law_74 := dk_seg dksL_law_73 23 rfl rfl
theorem dksL_law_75 : cL_law.data.toList.drop 1952 = dktL_law_75 := dk_seg dksL_law_74 22 rfl rfl
theorem dksL_law_76 : cL_law.data.toList.drop 1975 = dktL_law_76 := dk_seg dksL_law_75 23 rfl rfl
theorem dksL_law_77 : cL_law.data.toList.drop 1999 = dktL_law_77 := dk_seg dksL_law_76 24 rfl rfl
theorem dksL_law_78 : cL_law.data.toList.drop 2021 = dktL_law_78 := dk_seg dksL_law_77 22 rfl rfl
theorem dksL_law_79 : cL_law.data.toList.drop 2044 = dktL_law_79 := dk_seg dksL_law_78 23 rfl rfl
theorem dksL_law_80 : cL_law.data.toList.drop 2067 = dktL_law_80 := dk_seg dksL_law_79 23 rfl rfl
theorem dksL_law_81 : cL_law.data.toList.drop 2091 = dktL_law_81 := dk_seg dksL_law_80 24 rfl rfl
theorem dksL_law_82 : cL_law.data.toList.drop 2114 = dktL_law_82 := dk_seg dksL_law_81 23 rfl rfl
theorem dksL_law_83 : cL_law.data.toList.drop 2138 = dktL_law_83 := dk_seg dksL_law_82 24 rfl rfl
theorem dksL_law_84 : cL_law.data.toList.drop 2161 = dktL_law_84 := dk_seg dksL_law_83 23 rfl rfl
theorem dksL_law_85 : cL_law.data.toList.drop 2185 = dktL_law_85 := dk_seg dksL_law_84 24 rfl rfl
theorem dksL_law_86 : cL_law.data.toList.drop 2208 = dktL_law_86 := dk_seg dksL_law_85 23 rfl rfl
theorem dksL_law_87 : cL_law.data.toList.drop 2232 = dktL_law_87 := dk_seg dksL_law_86 24 rfl rfl
theorem dksL_law_88 : cL_law.data.toList.drop 2256 = dktL_law_88 := dk_seg dksL_law_87 24 rfl rfl
theorem dksL_law_89 : cL_law.data.toList.drop 2280 = dktL_law_89 := dk_seg dksL_law_88 24 rfl rfl
theorem dksL_law_90 : cL_law.data.toList.drop 2304 = dktL_law_90 := dk_seg dksL_law_89 24 rfl rfl
theorem dksL_law_91 : cL_law.data.toList.drop 2328 = dktL_law_91 := dk_seg dksL_law_90 24 rfl rfl
theorem dksL_law_92 : cL_law.data.toList.drop 2352 = dktL_law_92 := dk_seg dksL_law_91 24 rfl rfl
theorem dksL_law_93 : cL_law.data.toList.drop 2376 = dktL_law_93 := dk_seg dksL_law_92 24 rfl rfl
theorem dksL_law_94 : cL_law.data.toList.drop 2400 = dktL_law_94 := dk_seg dksL_law_93 24 rfl rfl
theorem dksL_law_95 : cL_law.data.toList.drop 2423 = dktL_law_95 := dk_seg dksL_law_94 23 rfl rfl
theorem dksL_law_96 : cL_law.data.toList.drop 2447 = dktL_law_96 := dk_seg dksL_law_95 24 rfl rfl
theorem dksL_law_97 : cL_law.data.toList.drop 2470 = dktL_law_97 := dk_seg dksL_law_96 23 rfl rfl
theorem dksL_law_98 : cL_law.data.toList.drop 2494 = dktL_law_98 := dk_seg dksL_law_97 24 rfl rfl
theorem dksL_law_99 : cL_law.data.toList.drop 2517 = dktL_law_99 := dk_seg dksL_law_98 23 rfl rfl
theorem dksL_law_100 : cL_law.data.toList.drop 2541 = dktL_law_100 := dk_seg dksL_law_99 24 rfl rfl
theorem dksL_law_101 : cL_law.data.toList.drop 2565 = dktL_law_101 := dk_seg dksL_law_100 24 rfl rfl
theorem dksL_law_102 : cL_law.data.toList.drop 2587 = dktL_law_102 := dk_seg dksL_law_101 22 rfl rfl
theorem dksL_law_103 : cL_law.data.toList.drop 2610 = dktL_law_103 := dk_seg dksL_law_102 23 rfl rfl
theorem dksL_law_104 : cL_law.data.toList.drop 2634 = dktL_law_104 := dk_seg dksL_law_103 24 rfl rfl
theorem dksL_law_105 : cL_law.data.toList.drop 2658 = dktL_law_105 := dk_seg dksL_law_104 24 rfl rfl
theorem dksL_law_106 : cL_law.data.toList.drop 2682 = dktL_law_106 := dk_seg dksL_law_105 24 rfl rfl
theorem dksL_law_107 : cL_law.data.toList.drop 2706 = dktL_law_107 := dk_seg dksL_law_106 24 rfl rfl
theorem dksL_law_108 : cL_law.data.toList.drop 2728 = dktL_law_108 := dk_seg dksL_law_107 22 rfl rfl
theorem dksL_law_109 : cL_law.data.toList.drop 2751 = dktL_law_109 := dk_seg dksL_law_108 23 rfl rfl
theorem dksL_law_110 : cL_law.data.toList.drop 2774 = dktL_law_110 := dk_seg dksL_law_109 23 rfl rfl
theorem dksL_law_111 : cL_law.data.toList.drop 2798 = dktL_law_111 := dk_seg dksL_law_110 24 rfl rfl
theorem dksL_law_112 : cL_law.data.toList.drop 2821 = dktL_law_112 := dk_seg dksL_law_111 23 rfl rfl
theorem dksL_law_113 : cL_law.data.toList.drop 2845 = dktL_law_113 := dk_seg dksL_law_112 24 rfl rfl
theorem dksL_law_114 : cL_law.data.toList.drop 2868 = dktL_law_114 := dk_seg dksL_law_113 23 rfl rfl
theorem dksL_law_115 : cL_law.data.toList.drop 2892 = dktL_law_115 := dk_seg dksL_law_114 24 rfl rfl
theorem dksL_law_116 : cL_law.data.toList.drop 2916 = dktL_law_116 := dk_seg dksL_law_115 24 rfl rfl
theorem dksL_law_117 : cL_law.data.toList.drop 2940 = dktL_law_117 := dk_seg dksL_law_116 24 rfl rfl
theorem dksL_law_118 : cL_law.data.toList.drop 2964 = dktL_law_118 := dk_seg dksL_law_117 24 rfl rfl
theorem dksL_law_119 : cL_law.data.toList.drop 2988 = dktL_law_119 := dk_seg dksL_law_118 24 rfl rfl
theorem dksL_law_120 : cL_law.data.toList.drop 3011 = dktL_law_120 := dk_seg dksL_law_119 23 rfl rfl
theorem dksL_law_121 : cL_law.data.toList.drop 3035 = dktL_law_121 := dk_seg dksL_law_120 24 rfl rfl
theorem dksL_law_122 : cL_law.data.toList.drop 3058 = dktL_law_122 := dk_seg dksL_law_121 23 rfl rfl
theorem dksL_law_123 : cL_law.data.toList.drop 3082 = dktL_law_123 := dk_seg dksL_law_122 24 rfl rfl
theorem dksL_law_124 : cL_law.data.toList.drop 3105 = dktL_law_124 := dk_seg dksL_law_123 23 rfl rfl
theorem dksL_law_125 : cL_law.data.toList.drop 3129 = dktL_law_125 := dk_seg dksL_law_124 24 rfl rfl
theorem dksL_law_126 : cL_law.data.toList.drop 3153 = dktL_law_126 := dk_seg dksL_law_125 24 rfl rfl
theorem dksL_law_127 : cL_law.data.toList.drop 3177 = dktL_law_127 := dk_seg dksL_law_126 24 rfl rfl
theorem dksL_law_128 : cL_law.data.toList.drop 3201 = dktL_law_128 := dk_seg dksL_law_127 24 rfl rfl
theorem dL_law_0 : decode cL_law 0 = .ok (.new 8, 3) := dk_187 0 8 (dk_at dksL_law_0 0 rfl rfl)
theorem dL_law_3 : decode cL_law 3 = .ok (.dup, 1) := dk_89 (dk_at dksL_law_0 3 rfl rfl)
theorem dL_law_4 : decode cL_law 4 = .ok (.invokespecial 168, 3) := dk_183 0 168 (dk_at dksL_law_0 4 rfl rfl)
theorem dL_law_7 : decode cL_law 7 = .ok (.astore_n 1, 1) := dk_76 (dk_at dksL_law_0 7 rfl rfl)
theorem dL_law_8 : decode cL_law 8 = .ok (.new 169, 3) := dk_187 0 169 (dk_at dksL_law_0 8 rfl rfl)
theorem dL_law_11 : decode cL_law 11 = .ok (.dup, 1) := dk_89 (dk_at dksL_law_0 11 rfl rfl)
theorem dL_law_12 : decode cL_law 12 = .ok (.invokespecial 171, 3) := dk_183 0 171 (dk_at dksL_law_0 12 rfl rfl)
theorem dL_law_15 : decode cL_law 15 = .ok (.astore_n 2, 1) := dk_77 (dk_at dksL_law_0 15 rfl rfl)
theorem dL_law_16 : decode cL_law 16 = .ok (.iconst 1, 1) := dk_4 (dk_at dksL_law_0 16 rfl rfl)
theorem dL_law_17 : decode cL_law 17 = .ok (.newarray .long, 2) := dk_188_11 (dk_at dksL_law_0 17 rfl rfl)
theorem dL_law_19 : decode cL_law 19 = .ok (.astore_n 3, 1) := dk_78 (dk_at dksL_law_0 19 rfl rfl)
theorem dL_law_20 : decode cL_law 20 = .ok (.iconst 1, 1) := dk_4 (dk_at dksL_law_0 20 rfl rfl)
theorem dL_law_21 : decode cL_law 21 = .ok (.newarray .double, 2) := dk_188_7 (dk_at dksL_law_0 21 rfl rfl)
theorem dL_law_23 : decode cL_law 23 = .ok (.astore 4, 2) := dk_58 4 (dk_at dksL_law_1 0 rfl rfl)
theorem dL_law_25 : decode cL_law 25 = .ok (.iconst 0, 1) := dk_3 (dk_at dksL_law_1 2 rfl rfl)
theorem dL_law_26 : decode cL_law 26 = .ok (.istore 5, 2) := dk_54 5 (dk_at dksL_law_1 3 rfl rfl)
theorem dL_law_28 : decode cL_law 28 = .ok (.iload 5, 2) := dk_21 5 (dk_at dksL_law_1 5 rfl rfl)
theorem dL_law_30 : decode cL_law 30 = .ok (.aload_n 0, 1) := dk_42 (dk_at dksL_law_1 7 rfl rfl)
theorem dL_law_31 : decode cL_law 31 = .ok (.arraylength, 1) := dk_190 (dk_at dksL_law_1 8 rfl rfl)
theorem dL_law_32 : decode cL_law 32 = .ok (.iconst 5, 1) := dk_8 (dk_at dksL_law_1 9 rfl rfl)
theorem dL_law_33 : decode cL_law 33 = .ok (.isub, 1) := dk_100 (dk_at dksL_law_1 10 rfl rfl)
theorem dL_law_34 : decode cL_law 34 = .ok (.if_icmp .gt 3167, 3) := dk_163 12 95 (dk_at dksL_law_1 11 rfl rfl)
theorem dL_law_37 : decode cL_law 37 = .ok (.aload_n 0, 1) := dk_42 (dk_at dksL_law_1 14 rfl rfl)
theorem dL_law_38 : decode cL_law 38 = .ok (.iload 5, 2) := dk_21 5 (dk_at dksL_law_1 15 rfl rfl)
theorem dL_law_40 : decode cL_law 40 = .ok (.iaload, 1) := dk_46 (dk_at dksL_law_1 17 rfl rfl)
theorem dL_law_41 : decode cL_law 41 = .ok (.bipush 63, 2) := dk_16 63 (dk_at dksL_law_1 18 rfl rfl)
theorem dL_law_43 : decode cL_law 43 = .ok (.iand, 1) := dk_126 (dk_at dksL_law_1 20 rfl rfl)
theorem dL_law_44 : decode cL_law 44 = .ok (.tableswitch 3151 0 53 #[232, 288, 368, 460, 528, 608, 676, 732, 788, 868, 924, 937, 993, 1061, 1074, 1130, 1198, 1266, 1334, 1390, 1446, 1514, 1589, 1676, 1756, 1836, 1916, 1929, 1985, 2041, 2097, 2153, 2216, 2272, 2285, 2341, 2397, 2453, 2509, 2522, 2535, 2548, 2613, 2679, 2692, 2748, 2804, 2860, 2918, 2962, 3006, 3050, 3094, 3107], 232) := by decide +kernel
theorem dL_law_276 : decode cL_law 276 = .ok (.aload_n 1, 1) := dk_43 (dk_at dksL_law_3 0 rfl rfl)
theorem dL_law_277 : decode cL_law 277 = .ok (.aload_n 0, 1) := dk_42 (dk_at dksL_law_3 1 rfl rfl)
theorem dL_law_278 : decode cL_law 278 = .ok (.iload 5, 2) := dk_21 5 (dk_at dksL_law_3 2 rfl rfl)
theorem dL_law_280 : decode cL_law 280 = .ok (.iconst 1, 1) := dk_4 (dk_at dksL_law_3 4 rfl rfl)
theorem dL_law_281 : decode cL_law 281 = .ok (.iadd, 1) := dk_96 (dk_at dksL_law_3 5 rfl rfl)
theorem dL_law_282 : decode cL_law 282 = .ok (.iaload, 1) := dk_46 (dk_at dksL_law_3 6 rfl rfl)
theorem dL_law_283 : decode cL_law 283 = .ok (.aload_n 3, 1) := dk_45 (dk_at dksL_law_3 7 rfl rfl)
theorem dL_law_284 : decode cL_law 284 = .ok (.invokestatic 172, 3) := dk_184 0 172 (dk_at dksL_law_3 8 rfl rfl)
theorem dL_law_287 : decode cL_law 287 = .ok (.istore 6, 2) := dk_54 6 (dk_at dksL_law_3 11 rfl rfl)
theorem dL_law_289 : decode cL_law 289 = .ok (.aload_n 2, 1) := dk_44 (dk_at dksL_law_3 13 rfl rfl)
theorem dL_law_290 : decode cL_law 290 = .ok (.aload_n 0, 1) := dk_42 (dk_at dksL_law_3 14 rfl rfl)
theorem dL_law_291 : decode cL_law 291 = .ok (.iload 5, 2) := dk_21 5 (dk_at dksL_law_3 15 rfl rfl)
theorem dL_law_293 : decode cL_law 293 = .ok (.iconst 1, 1) := dk_4 (dk_at dksL_law_3 17 rfl rfl)
theorem dL_law_294 : decode cL_law 294 = .ok (.iadd, 1) := dk_96 (dk_at dksL_law_3 18 rfl rfl)
theorem dL_law_295 : decode cL_law 295 = .ok (.iaload, 1) := dk_46 (dk_at dksL_law_3 19 rfl rfl)
theorem dL_law_296 : decode cL_law 296 = .ok (.invokevirtual 177, 3) := dk_182 0 177 (dk_at dksL_law_3 20 rfl rfl)
theorem dL_law_299 : decode cL_law 299 = .ok (.istore 7, 2) := dk_54 7 (dk_at dksL_law_4 0 rfl rfl)
theorem dL_law_301 : decode cL_law 301 = .ok (.aload_n 2, 1) := dk_44 (dk_at dksL_law_4 2 rfl rfl)
theorem dL_law_302 : decode cL_law 302 = .ok (.invokevirtual 178, 3) := dk_182 0 178 (dk_at dksL_law_4 3 rfl rfl)
theorem dL_law_305 : decode cL_law 305 = .ok (.iload 6, 2) := dk_21 6 (dk_at dksL_law_4 6 rfl rfl)
theorem dL_law_307 : decode cL_law 307 = .ok (.if_icmp .eq 5, 3) := dk_159 0 5 (dk_at dksL_law_4 8 rfl rfl)
theorem dL_law_310 : decode cL_law 310 = .ok (.iconst 0, 1) := dk_3 (dk_at dksL_law_4 11 rfl rfl)
theorem dL_law_311 : decode cL_law 311 = .ok (.ireturn, 1) := dk_172 (dk_at dksL_law_4 12 rfl rfl)
theorem dL_law_312 : decode cL_law 312 = .ok (.iload 6, 2) := dk_21 6 (dk_at dksL_law_4 13 rfl rfl)
theorem dL_law_314 : decode cL_law 314 = .ok (.ifCond .ne 15, 3) := dk_154 0 15 (dk_at dksL_law_4 15 rfl rfl)
theorem dL_law_317 : decode cL_law 317 = .ok (.aload_n 3, 1) := dk_45 (dk_at dksL_law_4 18 rfl rfl)
theorem dL_law_318 : decode cL_law 318 = .ok (.iconst 0, 1) := dk_3 (dk_at dksL_law_4 19 rfl rfl)
theorem dL_law_319 : decode cL_law 319 = .ok (.laload, 1) := dk_47 (dk_at dksL_law_4 20 rfl rfl)
theorem dL_law_320 : decode cL_law 320 = .ok (.iload 7, 2) := dk_21 7 (dk_at dksL_law_4 21 rfl rfl)
theorem dL_law_322 : decode cL_law 322 = .ok (.i2l, 1) := dk_133 (dk_at dksL_law_4 23 rfl rfl)
theorem dL_law_323 : decode cL_law 323 = .ok (.lcmp, 1) := dk_148 (dk_at dksL_law_5 0 rfl rfl)
theorem dL_law_324 : decode cL_law 324 = .ok (.ifCond .eq 5, 3) := dk_153 0 5 (dk_at dksL_law_5 1 rfl rfl)
theorem dL_law_327 : decode cL_law 327 = .ok (.iconst 0, 1) := dk_3 (dk_at dksL_law_5 4 rfl rfl)
theorem dL_law_328 : decode cL_law 328 = .ok (.ireturn, 1) := dk_172 (dk_at dksL_law_5 5 rfl rfl)
theorem dL_law_329 : decode cL_law 329 = .ok (.goto 2866, 3) := dk_167 11 50 (dk_at dksL_law_5 6 rfl rfl)
theorem dL_law_332 : decode cL_law 332 = .ok (.aload_n 1, 1) := dk_43 (dk_at dksL_law_5 9 rfl rfl)
theorem dL_law_333 : decode cL_law 333 = .ok (.aload_n 0, 1) := dk_42 (dk_at dksL_law_5 10 rfl rfl)
theorem dL_law_334 : decode cL_law 334 = .ok (.iload 5, 2) := dk_21 5 (dk_at dksL_law_5 11 rfl rfl)
theorem dL_law_336 : decode cL_law 336 = .ok (.iconst 1, 1) := dk_4 (dk_at dksL_law_5 13 rfl rfl)
theorem dL_law_337 : decode cL_law 337 = .ok (.iadd, 1) := dk_96 (dk_at dksL_law_5 14 rfl rfl)
theorem dL_law_338 : decode cL_law 338 = .ok (.iaload, 1) := dk_46 (dk_at dksL_law_5 15 rfl rfl)
theorem dL_law_339 : decode cL_law 339 = .ok (.aload_n 0, 1) := dk_42 (dk_at dksL_law_5 16 rfl rfl)
theorem dL_law_340 : decode cL_law 340 = .ok (.iload 5, 2) := dk_21 5 (dk_at dksL_law_5 17 rfl rfl)
theorem dL_law_342 : decode cL_law 342 = .ok (.iconst 2, 1) := dk_5 (dk_at dksL_law_5 19 rfl rfl)
theorem dL_law_343 : decode cL_law 343 = .ok (.iadd, 1) := dk_96 (dk_at dksL_law_5 20 rfl rfl)
theorem dL_law_344 : decode cL_law 344 = .ok (.iaload, 1) := dk_46 (dk_at dksL_law_5 21 rfl rfl)
theorem dL_law_345 : decode cL_law 345 = .ok (.aload_n 0, 1) := dk_42 (dk_at dksL_law_5 22 rfl rfl)
theorem dL_law_346 : decode cL_law 346 = .ok (.iload 5, 2) := dk_21 5 (dk_at dksL_law_6 0 rfl rfl)
theorem dL_law_348 : decode cL_law 348 = .ok (.iconst 3, 1) := dk_6 (dk_at dksL_law_6 2 rfl rfl)
theorem dL_law_349 : decode cL_law 349 = .ok (.iadd, 1) := dk_96 (dk_at dksL_law_6 3 rfl rfl)
theorem dL_law_350 : decode cL_law 350 = .ok (.iaload, 1) := dk_46 (dk_at dksL_law_6 4 rfl rfl)
theorem dL_law_351 : decode cL_law 351 = .ok (.aload_n 3, 1) := dk_45 (dk_at dksL_law_6 5 rfl rfl)
theorem dL_law_352 : decode cL_law 352 = .ok (.invokestatic 181, 3) := dk_184 0 181 (dk_at dksL_law_6 6 rfl rfl)
theorem dL_law_355 : decode cL_law 355 = .ok (.istore 6, 2) := dk_54 6 (dk_at dksL_law_6 9 rfl rfl)
theorem dL_law_357 : decode cL_law 357 = .ok (.aload_n 2, 1) := dk_44 (dk_at dksL_law_6 11 rfl rfl)
theorem dL_law_358 : decode cL_law 358 = .ok (.aload_n 0, 1) := dk_42 (dk_at dksL_law_6 12 rfl rfl)
theorem dL_law_359 : decode cL_law 359 = .ok (.iload 5, 2) := dk_21 5 (dk_at dksL_law_6 13 rfl rfl)
theorem dL_law_361 : decode cL_law 361 = .ok (.iconst 1, 1) := dk_4 (dk_at dksL_law_6 15 rfl rfl)
theorem dL_law_362 : decode cL_law 362 = .ok (.iadd, 1) := dk_96 (dk_at dksL_law_6 16 rfl rfl)
theorem dL_law_363 : decode cL_law 363 = .ok (.iaload, 1) := dk_46 (dk_at dksL_law_6 17 rfl rfl)
theorem dL_law_364 : decode cL_law 364 = .ok (.aload_n 0, 1) := dk_42 (dk_at dksL_law_6 18 rfl rfl)
theorem dL_law_365 : decode cL_law 365 = .ok (.iload 5, 2) := dk_21 5 (dk_at dksL_law_6 19 rfl rfl)
theorem dL_law_367 : decode cL_law 367 = .ok (.iconst 2, 1) := dk_5 (dk_at dksL_law_6 21 rfl rfl)
theorem dL_law_368 : decode cL_law 368 = .ok (.iadd, 1) := dk_96 (dk_at dksL_law_6 22 rfl rfl)
theorem dL_law_369 : decode cL_law 369 = .ok (.iaload, 1) := dk_46 (dk_at dksL_law_6 23 rfl rfl)
theorem dL_law_370 : decode cL_law 370 = .ok (.aload_n 0, 1) := dk_42 (dk_at dksL_law_7 0 rfl rfl)
theorem dL_law_371 : decode cL_law 371 = .ok (.iload 5, 2) := dk_21 5 (dk_at dksL_law_7 1 rfl rfl)
theorem dL_law_373 : decode cL_law 373 = .ok (.iconst 3, 1) := dk_6 (dk_at dksL_law_7 3 rfl rfl)
theorem dL_law_374 : decode cL_law 374 = .ok (.iadd, 1) := dk_96 (dk_at dksL_law_7 4 rfl rfl)
theorem dL_law_375 : decode cL_law 375 = .ok (.iaload, 1) := dk_46 (dk_at dksL_law_7 5 rfl rfl)
theorem dL_law_376 : decode cL_law 376 = .ok (.invokevirtual 184, 3) := dk_182 0 184 (dk_at dksL_law_7 6 rfl rfl)
theorem dL_law_379 : decode cL_law 379 = .ok (.istore 7, 2) := dk_54 7 (dk_at dksL_law_7 9 rfl rfl)
theorem dL_law_381 : decode cL_law 381 = .ok (.aload_n 2, 1) := dk_44 (dk_at dksL_law_7 11 rfl rfl)
theorem dL_law_382 : decode cL_law 382 = .ok (.invokevirtual 178, 3) := dk_182 0 178 (dk_at dksL_law_7 12 rfl rfl)
theorem dL_law_385 : decode cL_law 385 = .ok (.iload 6, 2) := dk_21 6 (dk_at dksL_law_7 15 rfl rfl)
theorem dL_law_387 : decode cL_law 387 = .ok (.if_icmp .eq 5, 3) := dk_159 0 5 (dk_at dksL_law_7 17 rfl rfl)
theorem dL_law_390 : decode cL_law 390 = .ok (.iconst 0, 1) := dk_3 (dk_at dksL_law_7 20 rfl rfl)
theorem dL_law_391 : decode cL_law 391 = .ok (.ireturn, 1) := dk_172 (dk_at dksL_law_7 21 rfl rfl)
theorem dL_law_392 : decode cL_law 392 = .ok (.iload 6, 2) := dk_21 6 (dk_at dksL_law_7 22 rfl rfl)
theorem dL_law_394 : decode cL_law 394 = .ok (.ifCond .ne 15, 3) := dk_154 0 15 (dk_at dksL_law_8 0 rfl rfl)
theorem dL_law_397 : decode cL_law 397 = .ok (.aload_n 3, 1) := dk_45 (dk_at dksL_law_8 3 rfl rfl)
theorem dL_law_398 : decode cL_law 398 = .ok (.iconst 0, 1) := dk_3 (dk_at dksL_law_8 4 rfl rfl)
theorem dL_law_399 : decode cL_law 399 = .ok (.laload, 1) := dk_47 (dk_at dksL_law_8 5 rfl rfl)
theorem dL_law_400 : decode cL_law 400 = .ok (.iload 7, 2) := dk_21 7 (dk_at dksL_law_8 6 rfl rfl)
theorem dL_law_402 : decode cL_law 402 = .ok (.i2l, 1) := dk_133 (dk_at dksL_law_8 8 rfl rfl)
theorem dL_law_403 : decode cL_law 403 = .ok (.lcmp, 1) := dk_148 (dk_at dksL_law_8 9 rfl rfl)
theorem dL_law_404 : decode cL_law 404 = .ok (.ifCond .eq 5, 3) := dk_153 0 5 (dk_at dksL_law_8 10 rfl rfl)
theorem dL_law_407 : decode cL_law 407 = .ok (.iconst 0, 1) := dk_3 (dk_at dksL_law_8 13 rfl rfl)
theorem dL_law_408 : decode cL_law 408 = .ok (.ireturn, 1) := dk_172 (dk_at dksL_law_8 14 rfl rfl)
theorem dL_law_409 : decode cL_law 409 = .ok (.goto 2786, 3) := dk_167 10 226 (dk_at dksL_law_8 15 rfl rfl)
theorem dL_law_412 : decode cL_law 412 = .ok (.aload_n 1, 1) := dk_43 (dk_at dksL_law_8 18 rfl rfl)
theorem dL_law_413 : decode cL_law 413 = .ok (.aload_n 0, 1) := dk_42 (dk_at dksL_law_8 19 rfl rfl)
theorem dL_law_414 : decode cL_law 414 = .ok (.iload 5, 2) := dk_21 5 (dk_at dksL_law_8 20 rfl rfl)
theorem dL_law_416 : decode cL_law 416 = .ok (.iconst 1, 1) := dk_4 (dk_at dksL_law_8 22 rfl rfl)
theorem dL_law_417 : decode cL_law 417 = .ok (.iadd, 1) := dk_96 (dk_at dksL_law_8 23 rfl rfl)
theorem dL_law_418 : decode cL_law 418 = .ok (.iaload, 1) := dk_46 (dk_at dksL_law_9 0 rfl rfl)
theorem dL_law_419 : decode cL_law 419 = .ok (.aload_n 0, 1) := dk_42 (dk_at dksL_law_9 1 rfl rfl)
theorem dL_law_420 : decode cL_law 420 = .ok (.iload 5, 2) := dk_21 5 (dk_at dksL_law_9 2 rfl rfl)
theorem dL_law_422 : decode cL_law 422 = .ok (.iconst 2, 1) := dk_5 (dk_at dksL_law_9 4 rfl rfl)
theorem dL_law_423 : decode cL_law 423 = .ok (.iadd, 1) := dk_96 (dk_at dksL_law_9 5 rfl rfl)
theorem dL_law_424 : decode cL_law 424 = .ok (.iaload, 1) := dk_46 (dk_at dksL_law_9 6 rfl rfl)
theorem dL_law_425 : decode cL_law 425 = .ok (.aload_n 0, 1) := dk_42 (dk_at dksL_law_9 7 rfl rfl)
theorem dL_law_426 : decode cL_law 426 = .ok (.iload 5, 2) := dk_21 5 (dk_at dksL_law_9 8 rfl rfl)
theorem dL_law_428 : decode cL_law 428 = .ok (.iconst 3, 1) := dk_6 (dk_at dksL_law_9 10 rfl rfl)
theorem dL_law_429 : decode cL_law 429 = .ok (.iadd, 1) := dk_96 (dk_at dksL_law_9 11 rfl rfl)
theorem dL_law_430 : decode cL_law 430 = .ok (.iaload, 1) := dk_46 (dk_at dksL_law_9 12 rfl rfl)
theorem dL_law_431 : decode cL_law 431 = .ok (.aload_n 0, 1) := dk_42 (dk_at dksL_law_9 13 rfl rfl)
theorem dL_law_432 : decode cL_law 432 = .ok (.iload 5, 2) := dk_21 5 (dk_at dksL_law_9 14 rfl rfl)
theorem dL_law_434 : decode cL_law 434 = .ok (.iconst 4, 1) := dk_7 (dk_at dksL_law_9 16 rfl rfl)
theorem dL_law_435 : decode cL_law 435 = .ok (.iadd, 1) := dk_96 (dk_at dksL_law_9 17 rfl rfl)
theorem dL_law_436 : decode cL_law 436 = .ok (.iaload, 1) := dk_46 (dk_at dksL_law_9 18 rfl rfl)
theorem dL_law_437 : decode cL_law 437 = .ok (.aload_n 3, 1) := dk_45 (dk_at dksL_law_9 19 rfl rfl)
theorem dL_law_438 : decode cL_law 438 = .ok (.invokestatic 185, 3) := dk_184 0 185 (dk_at dksL_law_9 20 rfl rfl)
theorem dL_law_441 : decode cL_law 441 = .ok (.istore 6, 2) := dk_54 6 (dk_at dksL_law_10 0 rfl rfl)
theorem dL_law_443 : decode cL_law 443 = .ok (.aload_n 2, 1) := dk_44 (dk_at dksL_law_10 2 rfl rfl)
theorem dL_law_444 : decode cL_law 444 = .ok (.aload_n 0, 1) := dk_42 (dk_at dksL_law_10 3 rfl rfl)
theorem dL_law_445 : decode cL_law 445 = .ok (.iload 5, 2) := dk_21 5 (dk_at dksL_law_10 4 rfl rfl)
theorem dL_law_447 : decode cL_law 447 = .ok (.iconst 1, 1) := dk_4 (dk_at dksL_law_10 6 rfl rfl)
theorem dL_law_448 : decode cL_law 448 = .ok (.iadd, 1) := dk_96 (dk_at dksL_law_10 7 rfl rfl)
theorem dL_law_449 : decode cL_law 449 = .ok (.iaload, 1) := dk_46 (dk_at dksL_law_10 8 rfl rfl)
theorem dL_law_450 : decode cL_law 450 = .ok (.aload_n 0, 1) := dk_42 (dk_at dksL_law_10 9 rfl rfl)
theorem dL_law_451 : decode cL_law 451 = .ok (.iload 5, 2) := dk_21 5 (dk_at dksL_law_10 10 rfl rfl)
theorem dL_law_453 : decode cL_law 453 = .ok (.iconst 2, 1) := dk_5 (dk_at dksL_law_10 12 rfl rfl)
theorem dL_law_454 : decode cL_law 454 = .ok (.iadd, 1) := dk_96 (dk_at dksL_law_10 13 rfl rfl)
theorem dL_law_455 : decode cL_law 455 = .ok (.iaload, 1) := dk_46 (dk_at dksL_law_10 14 rfl rfl)
theorem dL_law_456 : decode cL_law 456 = .ok (.aload_n 0, 1) := dk_42 (dk_at dksL_law_10 15 rfl rfl)
theorem dL_law_457 : decode cL_law 457 = .ok (.iload 5, 2) := dk_21 5 (dk_at dksL_law_10 16 rfl rfl)
theorem dL_law_459 : decode cL_law 459 = .ok (.iconst 3, 1) := dk_6 (dk_at dksL_law_10 18 rfl rfl)
theorem dL_law_460 : decode cL_law 460 = .ok (.iadd, 1) := dk_96 (dk_at dksL_law_10 19 rfl rfl)
theorem dL_law_461 : decode cL_law 461 = .ok (.iaload, 1) := dk_46 (dk_at dksL_law_10 20 rfl rfl)
theorem dL_law_462 : decode cL_law 462 = .ok (.aload_n 0, 1) := dk_42 (dk_at dksL_law_10 21 rfl rfl)
theorem dL_law_463 : decode cL_law 463 = .ok (.iload 5, 2) := dk_21 5 (dk_at dksL_law_10 22 rfl rfl)
theorem dL_law_465 : decode cL_law 465 = .ok (.iconst 4, 1) := dk_7 (dk_at dksL_law_11 0 rfl rfl)
theorem dL_law_466 : decode cL_law 466 = .ok (.iadd, 1) := dk_96 (dk_at dksL_law_11 1 rfl rfl)
theorem dL_law_467 : decode cL_law 467 = .ok (.iaload, 1) := dk_46 (dk_at dksL_law_11 2 rfl rfl)
theorem dL_law_468 : decode cL_law 468 = .ok (.invokevirtual 188, 3) := dk_182 0 188 (dk_at dksL_law_11 3 rfl rfl)
theorem dL_law_471 : decode cL_law 471 = .ok (.istore 7, 2) := dk_54 7 (dk_at dksL_law_11 6 rfl rfl)
theorem dL_law_473 : decode cL_law 473 = .ok (.aload_n 2, 1) := dk_44 (dk_at dksL_law_11 8 rfl rfl)
theorem dL_law_474 : decode cL_law 474 = .ok (.invokevirtual 178, 3) := dk_182 0 178 (dk_at dksL_law_11 9 rfl rfl)
theorem dL_law_477 : decode cL_law 477 = .ok (.iload 6, 2) := dk_21 6 (dk_at dksL_law_11 12 rfl rfl)
theorem dL_law_479 : decode cL_law 479 = .ok (.if_icmp .eq 5, 3) := dk_159 0 5 (dk_at dksL_law_11 14 rfl rfl)
theorem dL_law_482 : decode cL_law 482 = .ok (.iconst 0, 1) := dk_3 (dk_at dksL_law_11 17 rfl rfl)
theorem dL_law_483 : decode cL_law 483 = .ok (.ireturn, 1) := dk_172 (dk_at dksL_law_11 18 rfl rfl)
theorem dL_law_484 : decode cL_law 484 = .ok (.iload 6, 2) := dk_21 6 (dk_at dksL_law_11 19 rfl rfl)
theorem dL_law_486 : decode cL_law 486 = .ok (.ifCond .ne 15, 3) := dk_154 0 15 (dk_at dksL_law_11 21 rfl rfl)
theorem dL_law_489 : decode cL_law 489 = .ok (.aload_n 3, 1) := dk_45 (dk_at dksL_law_12 0 rfl rfl)
theorem dL_law_490 : decode cL_law 490 = .ok (.iconst 0, 1) := dk_3 (dk_at dksL_law_12 1 rfl rfl)
theorem dL_law_491 : decode cL_law 491 = .ok (.laload, 1) := dk_47 (dk_at dksL_law_12 2 rfl rfl)
theorem dL_law_492 : decode cL_law 492 = .ok (.iload 7, 2) := dk_21 7 (dk_at dksL_law_12 3 rfl rfl)
theorem dL_law_494 : decode cL_law 494 = .ok (.i2l, 1) := dk_133 (dk_at dksL_law_12 5 rfl rfl)
theorem dL_law_495 : decode cL_law 495 = .ok (.lcmp, 1) := dk_148 (dk_at dksL_law_12 6 rfl rfl)
theorem dL_law_496 : decode cL_law 496 = .ok (.ifCond .eq 5, 3) := dk_153 0 5 (dk_at dksL_law_12 7 rfl rfl)
theorem dL_law_499 : decode cL_law 499 = .ok (.iconst 0, 1) := dk_3 (dk_at dksL_law_12 10 rfl rfl)
theorem dL_law_500 : decode cL_law 500 = .ok (.ireturn, 1) := dk_172 (dk_at dksL_law_12 11 rfl rfl)
theorem dL_law_501 : decode cL_law 501 = .ok (.goto 2694, 3) := dk_167 10 134 (dk_at dksL_law_12 12 rfl rfl)
theorem dL_law_504 : decode cL_law 504 = .ok (.aload_n 1, 1) := dk_43 (dk_at dksL_law_12 15 rfl rfl)
theorem dL_law_505 : decode cL_law 505 = .ok (.aload_n 0, 1) := dk_42 (dk_at dksL_law_12 16 rfl rfl)
theorem dL_law_506 : decode cL_law 506 = .ok (.iload 5, 2) := dk_21 5 (dk_at dksL_law_12 17 rfl rfl)
theorem dL_law_508 : decode cL_law 508 = .ok (.iconst 1, 1) := dk_4 (dk_at dksL_law_12 19 rfl rfl)
theorem dL_law_509 : decode cL_law 509 = .ok (.iadd, 1) := dk_96 (dk_at dksL_law_12 20 rfl rfl)
theorem dL_law_510 : decode cL_law 510 = .ok (.iaload, 1) := dk_46 (dk_at dksL_law_12 21 rfl rfl)
theorem dL_law_511 : decode cL_law 511 = .ok (.aload_n 0, 1) := dk_42 (dk_at dksL_law_12 22 rfl rfl)
theorem dL_law_512 : decode cL_law 512 = .ok (.iload 5, 2) := dk_21 5 (dk_at dksL_law_13 0 rfl rfl)
theorem dL_law_514 : decode cL_law 514 = .ok (.iconst 2, 1) := dk_5 (dk_at dksL_law_13 2 rfl rfl)
theorem dL_law_515 : decode cL_law 515 = .ok (.iadd, 1) := dk_96 (dk_at dksL_law_13 3 rfl rfl)
theorem dL_law_516 : decode cL_law 516 = .ok (.iaload, 1) := dk_46 (dk_at dksL_law_13 4 rfl rfl)
theorem dL_law_517 : decode cL_law 517 = .ok (.aload_n 3, 1) := dk_45 (dk_at dksL_law_13 5 rfl rfl)
theorem dL_law_518 : decode cL_law 518 = .ok (.invokestatic 189, 3) := dk_184 0 189 (dk_at dksL_law_13 6 rfl rfl)
theorem dL_law_521 : decode cL_law 521 = .ok (.istore 6, 2) := dk_54 6 (dk_at dksL_law_13 9 rfl rfl)
theorem dL_law_523 : decode cL_law 523 = .ok (.aload_n 2, 1) := dk_44 (dk_at dksL_law_13 11 rfl rfl)
theorem dL_law_524 : decode cL_law 524 = .ok (.aload_n 0, 1) := dk_42 (dk_at dksL_law_13 12 rfl rfl)
theorem dL_law_525 : decode cL_law 525 = .ok (.iload 5, 2) := dk_21 5 (dk_at dksL_law_13 13 rfl rfl)
theorem dL_law_527 : decode cL_law 527 = .ok (.iconst 1, 1) := dk_4 (dk_at dksL_law_13 15 rfl rfl)
theorem dL_law_528 : decode cL_law 528 = .ok (.iadd, 1) := dk_96 (dk_at dksL_law_13 16 rfl rfl)
theorem dL_law_529 : decode cL_law 529 = .ok (.iaload, 1) := dk_46 (dk_at dksL_law_13 17 rfl rfl)
theorem dL_law_530 : decode cL_law 530 = .ok (.aload_n 0, 1) := dk_42 (dk_at dksL_law_13 18 rfl rfl)
theorem dL_law_531 : decode cL_law 531 = .ok (.iload 5, 2) := dk_21 5 (dk_at dksL_law_13 19 rfl rfl)
theorem dL_law_533 : decode cL_law 533 = .ok (.iconst 2, 1) := dk_5 (dk_at dksL_law_13 21 rfl rfl)
theorem dL_law_534 : decode cL_law 534 = .ok (.iadd, 1) := dk_96 (dk_at dksL_law_13 22 rfl rfl)
theorem dL_law_535 : decode cL_law 535 = .ok (.iaload, 1) := dk_46 (dk_at dksL_law_13 23 rfl rfl)
theorem dL_law_536 : decode cL_law 536 = .ok (.invokevirtual 192, 3) := dk_182 0 192 (dk_at dksL_law_14 0 rfl rfl)
theorem dL_law_539 : decode cL_law 539 = .ok (.istore 7, 2) := dk_54 7 (dk_at dksL_law_14 3 rfl rfl)
theorem dL_law_541 : decode cL_law 541 = .ok (.aload_n 2, 1) := dk_44 (dk_at dksL_law_14 5 rfl rfl)
theorem dL_law_542 : decode cL_law 542 = .ok (.invokevirtual 178, 3) := dk_182 0 178 (dk_at dksL_law_14 6 rfl rfl)
theorem dL_law_545 : decode cL_law 545 = .ok (.iload 6, 2) := dk_21 6 (dk_at dksL_law_14 9 rfl rfl)
theorem dL_law_547 : decode cL_law 547 = .ok (.if_icmp .eq 5, 3) := dk_159 0 5 (dk_at dksL_law_14 11 rfl rfl)
theorem dL_law_550 : decode cL_law 550 = .ok (.iconst 0, 1) := dk_3 (dk_at dksL_law_14 14 rfl rfl)
theorem dL_law_551 : decode cL_law 551 = .ok (.ireturn, 1) := dk_172 (dk_at dksL_law_14 15 rfl rfl)
theorem dL_law_552 : decode cL_law 552 = .ok (.iload 6, 2) := dk_21 6 (dk_at dksL_law_14 16 rfl rfl)
theorem dL_law_554 : decode cL_law 554 = .ok (.ifCond .ne 15, 3) := dk_154 0 15 (dk_at dksL_law_14 18 rfl rfl)
theorem dL_law_557 : decode cL_law 557 = .ok (.aload_n 3, 1) := dk_45 (dk_at dksL_law_14 21 rfl rfl)
theorem dL_law_558 : decode cL_law 558 = .ok (.iconst 0, 1) := dk_3 (dk_at dksL_law_14 22 rfl rfl)
theorem dL_law_559 : decode cL_law 559 = .ok (.laload, 1) := dk_47 (dk_at dksL_law_14 23 rfl rfl)
theorem dL_law_560 : decode cL_law 560 = .ok (.iload 7, 2) := dk_21 7 (dk_at dksL_law_15 0 rfl rfl)
theorem dL_law_562 : decode cL_law 562 = .ok (.i2l, 1) := dk_133 (dk_at dksL_law_15 2 rfl rfl)
theorem dL_law_563 : decode cL_law 563 = .ok (.lcmp, 1) := dk_148 (dk_at dksL_law_15 3 rfl rfl)
theorem dL_law_564 : decode cL_law 564 = .ok (.ifCond .eq 5, 3) := dk_153 0 5 (dk_at dksL_law_15 4 rfl rfl)
theorem dL_law_567 : decode cL_law 567 = .ok (.iconst 0, 1) := dk_3 (dk_at dksL_law_15 7 rfl rfl)
theorem dL_law_568 : decode cL_law 568 = .ok (.ireturn, 1) := dk_172 (dk_at dksL_law_15 8 rfl rfl)
theorem dL_law_569 : decode cL_law 569 = .ok (.goto 2626, 3) := dk_167 10 66 (dk_at dksL_law_15 9 rfl rfl)
theorem dL_law_572 : decode cL_law 572 = .ok (.aload_n 1, 1) := dk_43 (dk_at dksL_law_15 12 rfl rfl)
theorem dL_law_573 : decode cL_law 573 = .ok (.aload_n 0, 1) := dk_42 (dk_at dksL_law_15 13 rfl rfl)
theorem dL_law_574 : decode cL_law 574 = .ok (.iload 5, 2) := dk_21 5 (dk_at dksL_law_15 14 rfl rfl)
theorem dL_law_576 : decode cL_law 576 = .ok (.iconst 1, 1) := dk_4 (dk_at dksL_law_15 16 rfl rfl)
theorem dL_law_577 : decode cL_law 577 = .ok (.iadd, 1) := dk_96 (dk_at dksL_law_15 17 rfl rfl)
theorem dL_law_578 : decode cL_law 578 = .ok (.iaload, 1) := dk_46 (dk_at dksL_law_15 18 rfl rfl)
theorem dL_law_579 : decode cL_law 579 = .ok (.aload_n 0, 1) := dk_42 (dk_at dksL_law_15 19 rfl rfl)
theorem dL_law_580 : decode cL_law 580 = .ok (.iload 5, 2) := dk_21 5 (dk_at dksL_law_15 20 rfl rfl)
theorem dL_law_582 : decode cL_law 582 = .ok (.iconst 2, 1) := dk_5 (dk_at dksL_law_15 22 rfl rfl)
theorem dL_law_583 : decode cL_law 583 = .ok (.iadd, 1) := dk_96 (dk_at dksL_law_15 23 rfl rfl)
theorem dL_law_584 : decode cL_law 584 = .ok (.iaload, 1) := dk_46 (dk_at dksL_law_16 0 rfl rfl)
theorem dL_law_585 : decode cL_law 585 = .ok (.aload_n 0, 1) := dk_42 (dk_at dksL_law_16 1 rfl rfl)
theorem dL_law_586 : decode cL_law 586 = .ok (.iload 5, 2) := dk_21 5 (dk_at dksL_law_16 2 rfl rfl)
theorem dL_law_588 : decode cL_law 588 = .ok (.iconst 3, 1) := dk_6 (dk_at dksL_law_16 4 rfl rfl)
theorem dL_law_589 : decode cL_law 589 = .ok (.iadd, 1) := dk_96 (dk_at dksL_law_16 5 rfl rfl)
theorem dL_law_590 : decode cL_law 590 = .ok (.iaload, 1) := dk_46 (dk_at dksL_law_16 6 rfl rfl)
theorem dL_law_591 : decode cL_law 591 = .ok (.aload_n 3, 1) := dk_45 (dk_at dksL_law_16 7 rfl rfl)
theorem dL_law_592 : decode cL_law 592 = .ok (.invokestatic 193, 3) := dk_184 0 193 (dk_at dksL_law_16 8 rfl rfl)
theorem dL_law_595 : decode cL_law 595 = .ok (.istore 6, 2) := dk_54 6 (dk_at dksL_law_16 11 rfl rfl)
theorem dL_law_597 : decode cL_law 597 = .ok (.aload_n 2, 1) := dk_44 (dk_at dksL_law_16 13 rfl rfl)
theorem dL_law_598 : decode cL_law 598 = .ok (.aload_n 0, 1) := dk_42 (dk_at dksL_law_16 14 rfl rfl)
theorem dL_law_599 : decode cL_law 599 = .ok (.iload 5, 2) := dk_21 5 (dk_at dksL_law_16 15 rfl rfl)
theorem dL_law_601 : decode cL_law 601 = .ok (.iconst 1, 1) := dk_4 (dk_at dksL_law_16 17 rfl rfl)
theorem dL_law_602 : decode cL_law 602 = .ok (.iadd, 1) := dk_96 (dk_at dksL_law_16 18 rfl rfl)
theorem dL_law_603 : decode cL_law 603 = .ok (.iaload, 1) := dk_46 (dk_at dksL_law_16 19 rfl rfl)
theorem dL_law_604 : decode cL_law 604 = .ok (.aload_n 0, 1) := dk_42 (dk_at dksL_law_16 20 rfl rfl)
theorem dL_law_605 : decode cL_law 605 = .ok (.iload 5, 2) := dk_21 5 (dk_at dksL_law_16 21 rfl rfl)
theorem dL_law_607 : decode cL_law 607 = .ok (.iconst 2, 1) := dk_5 (dk_at dksL_law_16 23 rfl rfl)
theorem dL_law_608 : decode cL_law 608 = .ok (.iadd, 1) := dk_96 (dk_at dksL_law_17 0 rfl rfl)
theorem dL_law_609 : decode cL_law 609 = .ok (.iaload, 1) := dk_46 (dk_at dksL_law_17 1 rfl rfl)
theorem dL_law_610 : decode cL_law 610 = .ok (.aload_n 0, 1) := dk_42 (dk_at dksL_law_17 2 rfl rfl)
theorem dL_law_611 : decode cL_law 611 = .ok (.iload 5, 2) := dk_21 5 (dk_at dksL_law_17 3 rfl rfl)
theorem dL_law_613 : decode cL_law 613 = .ok (.iconst 3, 1) := dk_6 (dk_at dksL_law_17 5 rfl rfl)
theorem dL_law_614 : decode cL_law 614 = .ok (.iadd, 1) := dk_96 (dk_at dksL_law_17 6 rfl rfl)
theorem dL_law_615 : decode cL_law 615 = .ok (.iaload, 1) := dk_46 (dk_at dksL_law_17 7 rfl rfl)
theorem dL_law_616 : decode cL_law 616 = .ok (.invokevirtual 195, 3) := dk_182 0 195 (dk_at dksL_law_17 8 rfl rfl)
theorem dL_law_619 : decode cL_law 619 = .ok (.istore 7, 2) := dk_54 7 (dk_at dksL_law_17 11 rfl rfl)
theorem dL_law_621 : decode cL_law 621 = .ok (.aload_n 2, 1) := dk_44 (dk_at dksL_law_17 13 rfl rfl)
theorem dL_law_622 : decode cL_law 622 = .ok (.invokevirtual 178, 3) := dk_182 0 178 (dk_at dksL_law_17 14 rfl rfl)
theorem dL_law_625 : decode cL_law 625 = .ok (.iload 6, 2) := dk_21 6 (dk_at dksL_law_17 17 rfl rfl)
theorem dL_law_627 : decode cL_law 627 = .ok (.if_icmp .eq 5, 3) := dk_159 0 5 (dk_at dksL_law_17 19 rfl rfl)
theorem dL_law_630 : decode cL_law 630 = .ok (.iconst 0, 1) := dk_3 (dk_at dksL_law_17 22 rfl rfl)
theorem dL_law_631 : decode cL_law 631 = .ok (.ireturn, 1) := dk_172 (dk_at dksL_law_17 23 rfl rfl)
theorem dL_law_632 : decode cL_law 632 = .ok (.iload 6, 2) := dk_21 6 (dk_at dksL_law_18 0 rfl rfl)
theorem dL_law_634 : decode cL_law 634 = .ok (.ifCond .ne 15, 3) := dk_154 0 15 (dk_at dksL_law_18 2 rfl rfl)
theorem dL_law_637 : decode cL_law 637 = .ok (.aload_n 3, 1) := dk_45 (dk_at dksL_law_18 5 rfl rfl)
theorem dL_law_638 : decode cL_law 638 = .ok (.iconst 0, 1) := dk_3 (dk_at dksL_law_18 6 rfl rfl)
theorem dL_law_639 : decode cL_law 639 = .ok (.laload, 1) := dk_47 (dk_at dksL_law_18 7 rfl rfl)
theorem dL_law_640 : decode cL_law 640 = .ok (.iload 7, 2) := dk_21 7 (dk_at dksL_law_18 8 rfl rfl)
theorem dL_law_642 : decode cL_law 642 = .ok (.i2l, 1) := dk_133 (dk_at dksL_law_18 10 rfl rfl)
theorem dL_law_643 : decode cL_law 643 = .ok (.lcmp, 1) := dk_148 (dk_at dksL_law_18 11 rfl rfl)
theorem dL_law_644 : decode cL_law 644 = .ok (.ifCond .eq 5, 3) := dk_153 0 5 (dk_at dksL_law_18 12 rfl rfl)
theorem dL_law_647 : decode cL_law 647 = .ok (.iconst 0, 1) := dk_3 (dk_at dksL_law_18 15 rfl rfl)
theorem dL_law_648 : decode cL_law 648 = .ok (.ireturn, 1) := dk_172 (dk_at dksL_law_18 16 rfl rfl)
theorem dL_law_649 : decode cL_law 649 = .ok (.goto 2546, 3) := dk_167 9 242 (dk_at dksL_law_18 17 rfl rfl)
theorem dL_law_652 : decode cL_law 652 = .ok (.aload_n 1, 1) := dk_43 (dk_at dksL_law_18 20 rfl rfl)
theorem dL_law_653 : decode cL_law 653 = .ok (.aload_n 0, 1) := dk_42 (dk_at dksL_law_18 21 rfl rfl)
theorem dL_law_654 : decode cL_law 654 = .ok (.iload 5, 2) := dk_21 5 (dk_at dksL_law_18 22 rfl rfl)
theorem dL_law_656 : decode cL_law 656 = .ok (.iconst 1, 1) := dk_4 (dk_at dksL_law_19 0 rfl rfl)
theorem dL_law_657 : decode cL_law 657 = .ok (.iadd, 1) := dk_96 (dk_at dksL_law_19 1 rfl rfl)
theorem dL_law_658 : decode cL_law 658 = .ok (.iaload, 1) := dk_46 (dk_at dksL_law_19 2 rfl rfl)
theorem dL_law_659 : decode cL_law 659 = .ok (.aload_n 0, 1) := dk_42 (dk_at dksL_law_19 3 rfl rfl)
theorem dL_law_660 : decode cL_law 660 = .ok (.iload 5, 2) := dk_21 5 (dk_at dksL_law_19 4 rfl rfl)
theorem dL_law_662 : decode cL_law 662 = .ok (.iconst 2, 1) := dk_5 (dk_at dksL_law_19 6 rfl rfl)
theorem dL_law_663 : decode cL_law 663 = .ok (.iadd, 1) := dk_96 (dk_at dksL_law_19 7 rfl rfl)
theorem dL_law_664 : decode cL_law 664 = .ok (.iaload, 1) := dk_46 (dk_at dksL_law_19 8 rfl rfl)
theorem dL_law_665 : decode cL_law 665 = .ok (.aload_n 3, 1) := dk_45 (dk_at dksL_law_19 9 rfl rfl)
theorem dL_law_666 : decode cL_law 666 = .ok (.invokestatic 196, 3) := dk_184 0 196 (dk_at dksL_law_19 10 rfl rfl)
theorem dL_law_669 : decode cL_law 669 = .ok (.istore 6, 2) := dk_54 6 (dk_at dksL_law_19 13 rfl rfl)
theorem dL_law_671 : decode cL_law 671 = .ok (.aload_n 2, 1) := dk_44 (dk_at dksL_law_19 15 rfl rfl)
theorem dL_law_672 : decode cL_law 672 = .ok (.aload_n 0, 1) := dk_42 (dk_at dksL_law_19 16 rfl rfl)
theorem dL_law_673 : decode cL_law 673 = .ok (.iload 5, 2) := dk_21 5 (dk_at dksL_law_19 17 rfl rfl)
theorem dL_law_675 : decode cL_law 675 = .ok (.iconst 1, 1) := dk_4 (dk_at dksL_law_19 19 rfl rfl)
theorem dL_law_676 : decode cL_law 676 = .ok (.iadd, 1) := dk_96 (dk_at dksL_law_19 20 rfl rfl)
theorem dL_law_677 : decode cL_law 677 = .ok (.iaload, 1) := dk_46 (dk_at dksL_law_19 21 rfl rfl)
theorem dL_law_678 : decode cL_law 678 = .ok (.aload_n 0, 1) := dk_42 (dk_at dksL_law_19 22 rfl rfl)
theorem dL_law_679 : decode cL_law 679 = .ok (.iload 5, 2) := dk_21 5 (dk_at dksL_law_20 0 rfl rfl)
theorem dL_law_681 : decode cL_law 681 = .ok (.iconst 2, 1) := dk_5 (dk_at dksL_law_20 2 rfl rfl)
theorem dL_law_682 : decode cL_law 682 = .ok (.iadd, 1) := dk_96 (dk_at dksL_law_20 3 rfl rfl)
theorem dL_law_683 : decode cL_law 683 = .ok (.iaload, 1) := dk_46 (dk_at dksL_law_20 4 rfl rfl)
theorem dL_law_684 : decode cL_law 684 = .ok (.invokevirtual 198, 3) := dk_182 0 198 (dk_at dksL_law_20 5 rfl rfl)
theorem dL_law_687 : decode cL_law 687 = .ok (.istore 7, 2) := dk_54 7 (dk_at dksL_law_20 8 rfl rfl)
theorem dL_law_689 : decode cL_law 689 = .ok (.aload_n 2, 1) := dk_44 (dk_at dksL_law_20 10 rfl rfl)
theorem dL_law_690 : decode cL_law 690 = .ok (.invokevirtual 178, 3) := dk_182 0 178 (dk_at dksL_law_20 11 rfl rfl)
theorem dL_law_693 : decode cL_law 693 = .ok (.iload 6, 2) := dk_21 6 (dk_at dksL_law_20 14 rfl rfl)
theorem dL_law_695 : decode cL_law 695 = .ok (.if_icmp .eq 5, 3) := dk_159 0 5 (dk_at dksL_law_20 16 rfl rfl)
theorem dL_law_698 : decode cL_law 698 = .ok (.iconst 0, 1) := dk_3 (dk_at dksL_law_20 19 rfl rfl)
theorem dL_law_699 : decode cL_law 699 = .ok (.ireturn, 1) := dk_172 (dk_at dksL_law_20 20 rfl rfl)
theorem dL_law_700 : decode cL_law 700 = .ok (.iload 6, 2) := dk_21 6 (dk_at dksL_law_20 21 rfl rfl)
theorem dL_law_702 : decode cL_law 702 = .ok (.ifCond .ne 15, 3) := dk_154 0 15 (dk_at dksL_law_21 0 rfl rfl)
theorem dL_law_705 : decode cL_law 705 = .ok (.aload_n 3, 1) := dk_45 (dk_at dksL_law_21 3 rfl rfl)
theorem dL_law_706 : decode cL_law 706 = .ok (.iconst 0, 1) := dk_3 (dk_at dksL_law_21 4 rfl rfl)
theorem dL_law_707 : decode cL_law 707 = .ok (.laload, 1) := dk_47 (dk_at dksL_law_21 5 rfl rfl)
theorem dL_law_708 : decode cL_law 708 = .ok (.iload 7, 2) := dk_21 7 (dk_at dksL_law_21 6 rfl rfl)
theorem dL_law_710 : decode cL_law 710 = .ok (.i2l, 1) := dk_133 (dk_at dksL_law_21 8 rfl rfl)
theorem dL_law_711 : decode cL_law 711 = .ok (.lcmp, 1) := dk_148 (dk_at dksL_law_21 9 rfl rfl)
theorem dL_law_712 : decode cL_law 712 = .ok (.ifCond .eq 5, 3) := dk_153 0 5 (dk_at dksL_law_21 10 rfl rfl)
theorem dL_law_715 : decode cL_law 715 = .ok (.iconst 0, 1) := dk_3 (dk_at dksL_law_21 13 rfl rfl)
theorem dL_law_716 : decode cL_law 716 = .ok (.ireturn, 1) := dk_172 (dk_at dksL_law_21 14 rfl rfl)
theorem dL_law_717 : decode cL_law 717 = .ok (.goto 2478, 3) := dk_167 9 174 (dk_at dksL_law_21 15 rfl rfl)
theorem dL_law_720 : decode cL_law 720 = .ok (.aload_n 1, 1) := dk_43 (dk_at dksL_law_21 18 rfl rfl)
theorem dL_law_721 : decode cL_law 721 = .ok (.aload_n 0, 1) := dk_42 (dk_at dksL_law_21 19 rfl rfl)
theorem dL_law_722 : decode cL_law 722 = .ok (.iload 5, 2) := dk_21 5 (dk_at dksL_law_21 20 rfl rfl)
theorem dL_law_724 : decode cL_law 724 = .ok (.iconst 1, 1) := dk_4 (dk_at dksL_law_21 22 rfl rfl)
theorem dL_law_725 : decode cL_law 725 = .ok (.iadd, 1) := dk_96 (dk_at dksL_law_21 23 rfl rfl)
theorem dL_law_726 : decode cL_law 726 = .ok (.iaload, 1) := dk_46 (dk_at dksL_law_22 0 rfl rfl)
theorem dL_law_727 : decode cL_law 727 = .ok (.aload_n 3, 1) := dk_45 (dk_at dksL_law_22 1 rfl rfl)
theorem dL_law_728 : decode cL_law 728 = .ok (.invokestatic 199, 3) := dk_184 0 199 (dk_at dksL_law_22 2 rfl rfl)
theorem dL_law_731 : decode cL_law 731 = .ok (.istore 6, 2) := dk_54 6 (dk_at dksL_law_22 5 rfl rfl)
theorem dL_law_733 : decode cL_law 733 = .ok (.aload_n 2, 1) := dk_44 (dk_at dksL_law_22 7 rfl rfl)
theorem dL_law_734 : decode cL_law 734 = .ok (.aload_n 0, 1) := dk_42 (dk_at dksL_law_22 8 rfl rfl)
theorem dL_law_735 : decode cL_law 735 = .ok (.iload 5, 2) := dk_21 5 (dk_at dksL_law_22 9 rfl rfl)
theorem dL_law_737 : decode cL_law 737 = .ok (.iconst 1, 1) := dk_4 (dk_at dksL_law_22 11 rfl rfl)
theorem dL_law_738 : decode cL_law 738 = .ok (.iadd, 1) := dk_96 (dk_at dksL_law_22 12 rfl rfl)
theorem dL_law_739 : decode cL_law 739 = .ok (.iaload, 1) := dk_46 (dk_at dksL_law_22 13 rfl rfl)
theorem dL_law_740 : decode cL_law 740 = .ok (.invokevirtual 201, 3) := dk_182 0 201 (dk_at dksL_law_22 14 rfl rfl)
theorem dL_law_743 : decode cL_law 743 = .ok (.istore 7, 2) := dk_54 7 (dk_at dksL_law_22 17 rfl rfl)
theorem dL_law_745 : decode cL_law 745 = .ok (.aload_n 2, 1) := dk_44 (dk_at dksL_law_22 19 rfl rfl)
theorem dL_law_746 : decode cL_law 746 = .ok (.invokevirtual 178, 3) := dk_182 0 178 (dk_at dksL_law_22 20 rfl rfl)
theorem dL_law_749 : decode cL_law 749 = .ok (.iload 6, 2) := dk_21 6 (dk_at dksL_law_23 0 rfl rfl)
theorem dL_law_751 : decode cL_law 751 = .ok (.if_icmp .eq 5, 3) := dk_159 0 5 (dk_at dksL_law_23 2 rfl rfl)
theorem dL_law_754 : decode cL_law 754 = .ok (.iconst 0, 1) := dk_3 (dk_at dksL_law_23 5 rfl rfl)
theorem dL_law_755 : decode cL_law 755 = .ok (.ireturn, 1) := dk_172 (dk_at dksL_law_23 6 rfl rfl)
theorem dL_law_756 : decode cL_law 756 = .ok (.iload 6, 2) := dk_21 6 (dk_at dksL_law_23 7 rfl rfl)
theorem dL_law_758 : decode cL_law 758 = .ok (.ifCond .ne 15, 3) := dk_154 0 15 (dk_at dksL_law_23 9 rfl rfl)
theorem dL_law_761 : decode cL_law 761 = .ok (.aload_n 3, 1) := dk_45 (dk_at dksL_law_23 12 rfl rfl)
theorem dL_law_762 : decode cL_law 762 = .ok (.iconst 0, 1) := dk_3 (dk_at dksL_law_23 13 rfl rfl)
theorem dL_law_763 : decode cL_law 763 = .ok (.laload, 1) := dk_47 (dk_at dksL_law_23 14 rfl rfl)
theorem dL_law_764 : decode cL_law 764 = .ok (.iload 7, 2) := dk_21 7 (dk_at dksL_law_23 15 rfl rfl)
theorem dL_law_766 : decode cL_law 766 = .ok (.i2l, 1) := dk_133 (dk_at dksL_law_23 17 rfl rfl)
theorem dL_law_767 : decode cL_law 767 = .ok (.lcmp, 1) := dk_148 (dk_at dksL_law_23 18 rfl rfl)
theorem dL_law_768 : decode cL_law 768 = .ok (.ifCond .eq 5, 3) := dk_153 0 5 (dk_at dksL_law_23 19 rfl rfl)
theorem dL_law_771 : decode cL_law 771 = .ok (.iconst 0, 1) := dk_3 (dk_at dksL_law_23 22 rfl rfl)
theorem dL_law_772 : decode cL_law 772 = .ok (.ireturn, 1) := dk_172 (dk_at dksL_law_23 23 rfl rfl)
theorem dL_law_773 : decode cL_law 773 = .ok (.goto 2422, 3) := dk_167 9 118 (dk_at dksL_law_24 0 rfl rfl)
theorem dL_law_776 : decode cL_law 776 = .ok (.aload_n 1, 1) := dk_43 (dk_at dksL_law_24 3 rfl rfl)
theorem dL_law_777 : decode cL_law 777 = .ok (.aload_n 0, 1) := dk_42 (dk_at dksL_law_24 4 rfl rfl)
theorem dL_law_778 : decode cL_law 778 = .ok (.iload 5, 2) := dk_21 5 (dk_at dksL_law_24 5 rfl rfl)
theorem dL_law_780 : decode cL_law 780 = .ok (.iconst 1, 1) := dk_4 (dk_at dksL_law_24 7 rfl rfl)
theorem dL_law_781 : decode cL_law 781 = .ok (.iadd, 1) := dk_96 (dk_at dksL_law_24 8 rfl rfl)
theorem dL_law_782 : decode cL_law 782 = .ok (.iaload, 1) := dk_46 (dk_at dksL_law_24 9 rfl rfl)
theorem dL_law_783 : decode cL_law 783 = .ok (.aload_n 3, 1) := dk_45 (dk_at dksL_law_24 10 rfl rfl)
theorem dL_law_784 : decode cL_law 784 = .ok (.invokestatic 202, 3) := dk_184 0 202 (dk_at dksL_law_24 11 rfl rfl)
theorem dL_law_787 : decode cL_law 787 = .ok (.istore 6, 2) := dk_54 6 (dk_at dksL_law_24 14 rfl rfl)
theorem dL_law_789 : decode cL_law 789 = .ok (.aload_n 2, 1) := dk_44 (dk_at dksL_law_24 16 rfl rfl)
theorem dL_law_790 : decode cL_law 790 = .ok (.aload_n 0, 1) := dk_42 (dk_at dksL_law_24 17 rfl rfl)
theorem dL_law_791 : decode cL_law 791 = .ok (.iload 5, 2) := dk_21 5 (dk_at dksL_law_24 18 rfl rfl)
theorem dL_law_793 : decode cL_law 793 = .ok (.iconst 1, 1) := dk_4 (dk_at dksL_law_24 20 rfl rfl)
theorem dL_law_794 : decode cL_law 794 = .ok (.iadd, 1) := dk_96 (dk_at dksL_law_24 21 rfl rfl)
theorem dL_law_795 : decode cL_law 795 = .ok (.iaload, 1) := dk_46 (dk_at dksL_law_24 22 rfl rfl)
theorem dL_law_796 : decode cL_law 796 = .ok (.invokevirtual 204, 3) := dk_182 0 204 (dk_at dksL_law_25 0 rfl rfl)
theorem dL_law_799 : decode cL_law 799 = .ok (.istore 7, 2) := dk_54 7 (dk_at dksL_law_25 3 rfl rfl)
theorem dL_law_801 : decode cL_law 801 = .ok (.aload_n 2, 1) := dk_44 (dk_at dksL_law_25 5 rfl rfl)
theorem dL_law_802 : decode cL_law 802 = .ok (.invokevirtual 178, 3) := dk_182 0 178 (dk_at dksL_law_25 6 rfl rfl)
theorem dL_law_805 : decode cL_law 805 = .ok (.iload 6, 2) := dk_21 6 (dk_at dksL_law_25 9 rfl rfl)
theorem dL_law_807 : decode cL_law 807 = .ok (.if_icmp .eq 5, 3) := dk_159 0 5 (dk_at dksL_law_25 11 rfl rfl)
theorem dL_law_810 : decode cL_law 810 = .ok (.iconst 0, 1) := dk_3 (dk_at dksL_law_25 14 rfl rfl)
theorem dL_law_811 : decode cL_law 811 = .ok (.ireturn, 1) := dk_172 (dk_at dksL_law_25 15 rfl rfl)
theorem dL_law_812 : decode cL_law 812 = .ok (.iload 6, 2) := dk_21 6 (dk_at dksL_law_25 16 rfl rfl)
theorem dL_law_814 : decode cL_law 814 = .ok (.ifCond .ne 15, 3) := dk_154 0 15 (dk_at dksL_law_25 18 rfl rfl)
theorem dL_law_817 : decode cL_law 817 = .ok (.aload_n 3, 1) := dk_45 (dk_at dksL_law_25 21 rfl rfl)
theorem dL_law_818 : decode cL_law 818 = .ok (.iconst 0, 1) := dk_3 (dk_at dksL_law_25 22 rfl rfl)
theorem dL_law_819 : decode cL_law 819 = .ok (.laload, 1) := dk_47 (dk_at dksL_law_25 23 rfl rfl)
theorem dL_law_820 : decode cL_law 820 = .ok (.iload 7, 2) := dk_21 7 (dk_at dksL_law_26 0 rfl rfl)
theorem dL_law_822 : decode cL_law 822 = .ok (.i2l, 1) := dk_133 (dk_at dksL_law_26 2 rfl rfl)
theorem dL_law_823 : decode cL_law 823 = .ok (.lcmp, 1) := dk_148 (dk_at dksL_law_26 3 rfl rfl)
theorem dL_law_824 : decode cL_law 824 = .ok (.ifCond .eq 5, 3) := dk_153 0 5 (dk_at dksL_law_26 4 rfl rfl)
theorem dL_law_827 : decode cL_law 827 = .ok (.iconst 0, 1) := dk_3 (dk_at dksL_law_26 7 rfl rfl)
theorem dL_law_828 : decode cL_law 828 = .ok (.ireturn, 1) := dk_172 (dk_at dksL_law_26 8 rfl rfl)
theorem dL_law_829 : decode cL_law 829 = .ok (.goto 2366, 3) := dk_167 9 62 (dk_at dksL_law_26 9 rfl rfl)
theorem dL_law_832 : decode cL_law 832 = .ok (.aload_n 1, 1) := dk_43 (dk_at dksL_law_26 12 rfl rfl)
theorem dL_law_833 : decode cL_law 833 = .ok (.aload_n 0, 1) := dk_42 (dk_at dksL_law_26 13 rfl rfl)
theorem dL_law_834 : decode cL_law 834 = .ok (.iload 5, 2) := dk_21 5 (dk_at dksL_law_26 14 rfl rfl)
theorem dL_law_836 : decode cL_law 836 = .ok (.iconst 1, 1) := dk_4 (dk_at dksL_law_26 16 rfl rfl)
theorem dL_law_837 : decode cL_law 837 = .ok (.iadd, 1) := dk_96 (dk_at dksL_law_26 17 rfl rfl)
theorem dL_law_838 : decode cL_law 838 = .ok (.iaload, 1) := dk_46 (dk_at dksL_law_26 18 rfl rfl)
theorem dL_law_839 : decode cL_law 839 = .ok (.aload_n 0, 1) := dk_42 (dk_at dksL_law_26 19 rfl rfl)
theorem dL_law_840 : decode cL_law 840 = .ok (.iload 5, 2) := dk_21 5 (dk_at dksL_law_26 20 rfl rfl)
theorem dL_law_842 : decode cL_law 842 = .ok (.iconst 2, 1) := dk_5 (dk_at dksL_law_26 22 rfl rfl)
theorem dL_law_843 : decode cL_law 843 = .ok (.iadd, 1) := dk_96 (dk_at dksL_law_26 23 rfl rfl)
theorem dL_law_844 : decode cL_law 844 = .ok (.iaload, 1) := dk_46 (dk_at dksL_law_27 0 rfl rfl)
theorem dL_law_845 : decode cL_law 845 = .ok (.aload_n 0, 1) := dk_42 (dk_at dksL_law_27 1 rfl rfl)
theorem dL_law_846 : decode cL_law 846 = .ok (.iload 5, 2) := dk_21 5 (dk_at dksL_law_27 2 rfl rfl)
theorem dL_law_848 : decode cL_law 848 = .ok (.iconst 3, 1) := dk_6 (dk_at dksL_law_27 4 rfl rfl)
theorem dL_law_849 : decode cL_law 849 = .ok (.iadd, 1) := dk_96 (dk_at dksL_law_27 5 rfl rfl)
theorem dL_law_850 : decode cL_law 850 = .ok (.iaload, 1) := dk_46 (dk_at dksL_law_27 6 rfl rfl)
theorem dL_law_851 : decode cL_law 851 = .ok (.aload_n 3, 1) := dk_45 (dk_at dksL_law_27 7 rfl rfl)
theorem dL_law_852 : decode cL_law 852 = .ok (.invokestatic 205, 3) := dk_184 0 205 (dk_at dksL_law_27 8 rfl rfl)
theorem dL_law_855 : decode cL_law 855 = .ok (.istore 6, 2) := dk_54 6 (dk_at dksL_law_27 11 rfl rfl)
theorem dL_law_857 : decode cL_law 857 = .ok (.aload_n 2, 1) := dk_44 (dk_at dksL_law_27 13 rfl rfl)
theorem dL_law_858 : decode cL_law 858 = .ok (.aload_n 0, 1) := dk_42 (dk_at dksL_law_27 14 rfl rfl)
theorem dL_law_859 : decode cL_law 859 = .ok (.iload 5, 2) := dk_21 5 (dk_at dksL_law_27 15 rfl rfl)
theorem dL_law_861 : decode cL_law 861 = .ok (.iconst 1, 1) := dk_4 (dk_at dksL_law_27 17 rfl rfl)
theorem dL_law_862 : decode cL_law 862 = .ok (.iadd, 1) := dk_96 (dk_at dksL_law_27 18 rfl rfl)
theorem dL_law_863 : decode cL_law 863 = .ok (.iaload, 1) := dk_46 (dk_at dksL_law_27 19 rfl rfl)
theorem dL_law_864 : decode cL_law 864 = .ok (.aload_n 0, 1) := dk_42 (dk_at dksL_law_27 20 rfl rfl)
theorem dL_law_865 : decode cL_law 865 = .ok (.iload 5, 2) := dk_21 5 (dk_at dksL_law_27 21 rfl rfl)
theorem dL_law_867 : decode cL_law 867 = .ok (.iconst 2, 1) := dk_5 (dk_at dksL_law_27 23 rfl rfl)
theorem dL_law_868 : decode cL_law 868 = .ok (.iadd, 1) := dk_96 (dk_at dksL_law_28 0 rfl rfl)
theorem dL_law_869 : decode cL_law 869 = .ok (.iaload, 1) := dk_46 (dk_at dksL_law_28 1 rfl rfl)
theorem dL_law_870 : decode cL_law 870 = .ok (.aload_n 0, 1) := dk_42 (dk_at dksL_law_28 2 rfl rfl)
theorem dL_law_871 : decode cL_law 871 = .ok (.iload 5, 2) := dk_21 5 (dk_at dksL_law_28 3 rfl rfl)
theorem dL_law_873 : decode cL_law 873 = .ok (.iconst 3, 1) := dk_6 (dk_at dksL_law_28 5 rfl rfl)
theorem dL_law_874 : decode cL_law 874 = .ok (.iadd, 1) := dk_96 (dk_at dksL_law_28 6 rfl rfl)
theorem dL_law_875 : decode cL_law 875 = .ok (.iaload, 1) := dk_46 (dk_at dksL_law_28 7 rfl rfl)
theorem dL_law_876 : decode cL_law 876 = .ok (.invokevirtual 207, 3) := dk_182 0 207 (dk_at dksL_law_28 8 rfl rfl)
theorem dL_law_879 : decode cL_law 879 = .ok (.istore 7, 2) := dk_54 7 (dk_at dksL_law_28 11 rfl rfl)
theorem dL_law_881 : decode cL_law 881 = .ok (.aload_n 2, 1) := dk_44 (dk_at dksL_law_28 13 rfl rfl)
theorem dL_law_882 : decode cL_law 882 = .ok (.invokevirtual 178, 3) := dk_182 0 178 (dk_at dksL_law_28 14 rfl rfl)
theorem dL_law_885 : decode cL_law 885 = .ok (.iload 6, 2) := dk_21 6 (dk_at dksL_law_28 17 rfl rfl)
theorem dL_law_887 : decode cL_law 887 = .ok (.if_icmp .eq 5, 3) := dk_159 0 5 (dk_at dksL_law_28 19 rfl rfl)
theorem dL_law_890 : decode cL_law 890 = .ok (.iconst 0, 1) := dk_3 (dk_at dksL_law_28 22 rfl rfl)
theorem dL_law_891 : decode cL_law 891 = .ok (.ireturn, 1) := dk_172 (dk_at dksL_law_28 23 rfl rfl)
theorem dL_law_892 : decode cL_law 892 = .ok (.iload 6, 2) := dk_21 6 (dk_at dksL_law_29 0 rfl rfl)
theorem dL_law_894 : decode cL_law 894 = .ok (.ifCond .ne 15, 3) := dk_154 0 15 (dk_at dksL_law_29 2 rfl rfl)
theorem dL_law_897 : decode cL_law 897 = .ok (.aload_n 3, 1) := dk_45 (dk_at dksL_law_29 5 rfl rfl)
theorem dL_law_898 : decode cL_law 898 = .ok (.iconst 0, 1) := dk_3 (dk_at dksL_law_29 6 rfl rfl)
theorem dL_law_899 : decode cL_law 899 = .ok (.laload, 1) := dk_47 (dk_at dksL_law_29 7 rfl rfl)
theorem dL_law_900 : decode cL_law 900 = .ok (.iload 7, 2) := dk_21 7 (dk_at dksL_law_29 8 rfl rfl)
theorem dL_law_902 : decode cL_law 902 = .ok (.i2l, 1) := dk_133 (dk_at dksL_law_29 10 rfl rfl)
theorem dL_law_903 : decode cL_law 903 = .ok (.lcmp, 1) := dk_148 (dk_at dksL_law_29 11 rfl rfl)
theorem dL_law_904 : decode cL_law 904 = .ok (.ifCond .eq 5, 3) := dk_153 0 5 (dk_at dksL_law_29 12 rfl rfl)
theorem dL_law_907 : decode cL_law 907 = .ok (.iconst 0, 1) := dk_3 (dk_at dksL_law_29 15 rfl rfl)
theorem dL_law_908 : decode cL_law 908 = .ok (.ireturn, 1) := dk_172 (dk_at dksL_law_29 16 rfl rfl)
theorem dL_law_909 : decode cL_law 909 = .ok (.goto 2286, 3) := dk_167 8 238 (dk_at dksL_law_29 17 rfl rfl)
theorem dL_law_912 : decode cL_law 912 = .ok (.aload_n 1, 1) := dk_43 (dk_at dksL_law_29 20 rfl rfl)
theorem dL_law_913 : decode cL_law 913 = .ok (.aload_n 0, 1) := dk_42 (dk_at dksL_law_29 21 rfl rfl)
theorem dL_law_914 : decode cL_law 914 = .ok (.iload 5, 2) := dk_21 5 (dk_at dksL_law_29 22 rfl rfl)
theorem dL_law_916 : decode cL_law 916 = .ok (.iconst 1, 1) := dk_4 (dk_at dksL_law_30 0 rfl rfl)
theorem dL_law_917 : decode cL_law 917 = .ok (.iadd, 1) := dk_96 (dk_at dksL_law_30 1 rfl rfl)
theorem dL_law_918 : decode cL_law 918 = .ok (.iaload, 1) := dk_46 (dk_at dksL_law_30 2 rfl rfl)
theorem dL_law_919 : decode cL_law 919 = .ok (.aload_n 3, 1) := dk_45 (dk_at dksL_law_30 3 rfl rfl)
theorem dL_law_920 : decode cL_law 920 = .ok (.invokestatic 208, 3) := dk_184 0 208 (dk_at dksL_law_30 4 rfl rfl)
theorem dL_law_923 : decode cL_law 923 = .ok (.istore 6, 2) := dk_54 6 (dk_at dksL_law_30 7 rfl rfl)
theorem dL_law_925 : decode cL_law 925 = .ok (.aload_n 2, 1) := dk_44 (dk_at dksL_law_30 9 rfl rfl)
theorem dL_law_926 : decode cL_law 926 = .ok (.aload_n 0, 1) := dk_42 (dk_at dksL_law_30 10 rfl rfl)
theorem dL_law_927 : decode cL_law 927 = .ok (.iload 5, 2) := dk_21 5 (dk_at dksL_law_30 11 rfl rfl)
theorem dL_law_929 : decode cL_law 929 = .ok (.iconst 1, 1) := dk_4 (dk_at dksL_law_30 13 rfl rfl)
theorem dL_law_930 : decode cL_law 930 = .ok (.iadd, 1) := dk_96 (dk_at dksL_law_30 14 rfl rfl)
theorem dL_law_931 : decode cL_law 931 = .ok (.iaload, 1) := dk_46 (dk_at dksL_law_30 15 rfl rfl)
theorem dL_law_932 : decode cL_law 932 = .ok (.invokevirtual 210, 3) := dk_182 0 210 (dk_at dksL_law_30 16 rfl rfl)
theorem dL_law_935 : decode cL_law 935 = .ok (.istore 7, 2) := dk_54 7 (dk_at dksL_law_30 19 rfl rfl)
theorem dL_law_937 : decode cL_law 937 = .ok (.aload_n 2, 1) := dk_44 (dk_at dksL_law_30 21 rfl rfl)
theorem dL_law_938 : decode cL_law 938 = .ok (.invokevirtual 178, 3) := dk_182 0 178 (dk_at dksL_law_31 0 rfl rfl)
theorem dL_law_941 : decode cL_law 941 = .ok (.iload 6, 2) := dk_21 6 (dk_at dksL_law_31 3 rfl rfl)
theorem dL_law_943 : decode cL_law 943 = .ok (.if_icmp .eq 5, 3) := dk_159 0 5 (dk_at dksL_law_31 5 rfl rfl)
theorem dL_law_946 : decode cL_law 946 = .ok (.iconst 0, 1) := dk_3 (dk_at dksL_law_31 8 rfl rfl)
theorem dL_law_947 : decode cL_law 947 = .ok (.ireturn, 1) := dk_172 (dk_at dksL_law_31 9 rfl rfl)
theorem dL_law_948 : decode cL_law 948 = .ok (.iload 6, 2) := dk_21 6 (dk_at dksL_law_31 10 rfl rfl)
theorem dL_law_950 : decode cL_law 950 = .ok (.ifCond .ne 15, 3) := dk_154 0 15 (dk_at dksL_law_31 12 rfl rfl)
theorem dL_law_953 : decode cL_law 953 = .ok (.aload_n 3, 1) := dk_45 (dk_at dksL_law_31 15 rfl rfl)
theorem dL_law_954 : decode cL_law 954 = .ok (.iconst 0, 1) := dk_3 (dk_at dksL_law_31 16 rfl rfl)
theorem dL_law_955 : decode cL_law 955 = .ok (.laload, 1) := dk_47 (dk_at dksL_law_31 17 rfl rfl)
theorem dL_law_956 : decode cL_law 956 = .ok (.iload 7, 2) := dk_21 7 (dk_at dksL_law_31 18 rfl rfl)
theorem dL_law_958 : decode cL_law 958 = .ok (.i2l, 1) := dk_133 (dk_at dksL_law_31 20 rfl rfl)
theorem dL_law_959 : decode cL_law 959 = .ok (.lcmp, 1) := dk_148 (dk_at dksL_law_31 21 rfl rfl)
theorem dL_law_960 : decode cL_law 960 = .ok (.ifCond .eq 5, 3) := dk_153 0 5 (dk_at dksL_law_32 0 rfl rfl)
theorem dL_law_963 : decode cL_law 963 = .ok (.iconst 0, 1) := dk_3 (dk_at dksL_law_32 3 rfl rfl)
theorem dL_law_964 : decode cL_law 964 = .ok (.ireturn, 1) := dk_172 (dk_at dksL_law_32 4 rfl rfl)
theorem dL_law_965 : decode cL_law 965 = .ok (.goto 2230, 3) := dk_167 8 182 (dk_at dksL_law_32 5 rfl rfl)
theorem dL_law_968 : decode cL_law 968 = .ok (.aload_n 1, 1) := dk_43 (dk_at dksL_law_32 8 rfl rfl)
theorem dL_law_969 : decode cL_law 969 = .ok (.invokevirtual 211, 3) := dk_182 0 211 (dk_at dksL_law_32 9 rfl rfl)
theorem dL_law_972 : decode cL_law 972 = .ok (.aload_n 2, 1) := dk_44 (dk_at dksL_law_32 12 rfl rfl)
theorem dL_law_973 : decode cL_law 973 = .ok (.invokevirtual 214, 3) := dk_182 0 214 (dk_at dksL_law_32 13 rfl rfl)
theorem dL_law_976 : decode cL_law 976 = .ok (.if_icmp .eq 2219, 3) := dk_159 8 171 (dk_at dksL_law_32 16 rfl rfl)
theorem dL_law_979 : decode cL_law 979 = .ok (.iconst 0, 1) := dk_3 (dk_at dksL_law_32 19 rfl rfl)
theorem dL_law_980 : decode cL_law 980 = .ok (.ireturn, 1) := dk_172 (dk_at dksL_law_32 20 rfl rfl)
theorem dL_law_981 : decode cL_law 981 = .ok (.aload_n 1, 1) := dk_43 (dk_at dksL_law_32 21 rfl rfl)
theorem dL_law_982 : decode cL_law 982 = .ok (.aload_n 0, 1) := dk_42 (dk_at dksL_law_32 22 rfl rfl)
theorem dL_law_983 : decode cL_law 983 = .ok (.iload 5, 2) := dk_21 5 (dk_at dksL_law_33 0 rfl rfl)
theorem dL_law_985 : decode cL_law 985 = .ok (.iconst 1, 1) := dk_4 (dk_at dksL_law_33 2 rfl rfl)
theorem dL_law_986 : decode cL_law 986 = .ok (.iadd, 1) := dk_96 (dk_at dksL_law_33 3 rfl rfl)
theorem dL_law_987 : decode cL_law 987 = .ok (.iaload, 1) := dk_46 (dk_at dksL_law_33 4 rfl rfl)
theorem dL_law_988 : decode cL_law 988 = .ok (.aload_n 3, 1) := dk_45 (dk_at dksL_law_33 5 rfl rfl)
theorem dL_law_989 : decode cL_law 989 = .ok (.invokestatic 215, 3) := dk_184 0 215 (dk_at dksL_law_33 6 rfl rfl)
theorem dL_law_992 : decode cL_law 992 = .ok (.istore 6, 2) := dk_54 6 (dk_at dksL_law_33 9 rfl rfl)
theorem dL_law_994 : decode cL_law 994 = .ok (.aload_n 2, 1) := dk_44 (dk_at dksL_law_33 11 rfl rfl)
theorem dL_law_995 : decode cL_law 995 = .ok (.aload_n 0, 1) := dk_42 (dk_at dksL_law_33 12 rfl rfl)
theorem dL_law_996 : decode cL_law 996 = .ok (.iload 5, 2) := dk_21 5 (dk_at dksL_law_33 13 rfl rfl)
theorem dL_law_998 : decode cL_law 998 = .ok (.iconst 1, 1) := dk_4 (dk_at dksL_law_33 15 rfl rfl)
theorem dL_law_999 : decode cL_law 999 = .ok (.iadd, 1) := dk_96 (dk_at dksL_law_33 16 rfl rfl)
theorem dL_law_1000 : decode cL_law 1000 = .ok (.iaload, 1) := dk_46 (dk_at dksL_law_33 17 rfl rfl)
theorem dL_law_1001 : decode cL_law 1001 = .ok (.invokevirtual 217, 3) := dk_182 0 217 (dk_at dksL_law_33 18 rfl rfl)
theorem dL_law_1004 : decode cL_law 1004 = .ok (.istore 7, 2) := dk_54 7 (dk_at dksL_law_33 21 rfl rfl)
theorem dL_law_1006 : decode cL_law 1006 = .ok (.aload_n 2, 1) := dk_44 (dk_at dksL_law_33 23 rfl rfl)
theorem dL_law_1007 : decode cL_law 1007 = .ok (.invokevirtual 178, 3) := dk_182 0 178 (dk_at dksL_law_34 0 rfl rfl)
theorem dL_law_1010 : decode cL_law 1010 = .ok (.iload 6, 2) := dk_21 6 (dk_at dksL_law_34 3 rfl rfl)
theorem dL_law_1012 : decode cL_law 1012 = .ok (.if_icmp .eq 5, 3) := dk_159 0 5 (dk_at dksL_law_34 5 rfl rfl)
theorem dL_law_1015 : decode cL_law 1015 = .ok (.iconst 0, 1) := dk_3 (dk_at dksL_law_34 8 rfl rfl)
theorem dL_law_1016 : decode cL_law 1016 = .ok (.ireturn, 1) := dk_172 (dk_at dksL_law_34 9 rfl rfl)
theorem dL_law_1017 : decode cL_law 1017 = .ok (.iload 6, 2) := dk_21 6 (dk_at dksL_law_34 10 rfl rfl)
theorem dL_law_1019 : decode cL_law 1019 = .ok (.ifCond .ne 15, 3) := dk_154 0 15 (dk_at dksL_law_34 12 rfl rfl)
theorem dL_law_1022 : decode cL_law 1022 = .ok (.aload_n 3, 1) := dk_45 (dk_at dksL_law_34 15 rfl rfl)
theorem dL_law_1023 : decode cL_law 1023 = .ok (.iconst 0, 1) := dk_3 (dk_at dksL_law_34 16 rfl rfl)
theorem dL_law_1024 : decode cL_law 1024 = .ok (.laload, 1) := dk_47 (dk_at dksL_law_34 17 rfl rfl)
theorem dL_law_1025 : decode cL_law 1025 = .ok (.iload 7, 2) := dk_21 7 (dk_at dksL_law_34 18 rfl rfl)
theorem dL_law_1027 : decode cL_law 1027 = .ok (.i2l, 1) := dk_133 (dk_at dksL_law_34 20 rfl rfl)
theorem dL_law_1028 : decode cL_law 1028 = .ok (.lcmp, 1) := dk_148 (dk_at dksL_law_34 21 rfl rfl)
theorem dL_law_1029 : decode cL_law 1029 = .ok (.ifCond .eq 5, 3) := dk_153 0 5 (dk_at dksL_law_35 0 rfl rfl)
theorem dL_law_1032 : decode cL_law 1032 = .ok (.iconst 0, 1) := dk_3 (dk_at dksL_law_35 3 rfl rfl)
theorem dL_law_1033 : decode cL_law 1033 = .ok (.ireturn, 1) := dk_172 (dk_at dksL_law_35 4 rfl rfl)
theorem dL_law_1034 : decode cL_law 1034 = .ok (.goto 2161, 3) := dk_167 8 113 (dk_at dksL_law_35 5 rfl rfl)
theorem dL_law_1037 : decode cL_law 1037 = .ok (.aload_n 1, 1) := dk_43 (dk_at dksL_law_35 8 rfl rfl)
theorem dL_law_1038 : decode cL_law 1038 = .ok (.aload_n 0, 1) := dk_42 (dk_at dksL_law_35 9 rfl rfl)
theorem dL_law_1039 : decode cL_law 1039 = .ok (.iload 5, 2) := dk_21 5 (dk_at dksL_law_35 10 rfl rfl)
theorem dL_law_1041 : decode cL_law 1041 = .ok (.iconst 1, 1) := dk_4 (dk_at dksL_law_35 12 rfl rfl)
theorem dL_law_1042 : decode cL_law 1042 = .ok (.iadd, 1) := dk_96 (dk_at dksL_law_35 13 rfl rfl)
theorem dL_law_1043 : decode cL_law 1043 = .ok (.iaload, 1) := dk_46 (dk_at dksL_law_35 14 rfl rfl)
theorem dL_law_1044 : decode cL_law 1044 = .ok (.aload_n 0, 1) := dk_42 (dk_at dksL_law_35 15 rfl rfl)
theorem dL_law_1045 : decode cL_law 1045 = .ok (.iload 5, 2) := dk_21 5 (dk_at dksL_law_35 16 rfl rfl)
theorem dL_law_1047 : decode cL_law 1047 = .ok (.iconst 2, 1) := dk_5 (dk_at dksL_law_35 18 rfl rfl)
theorem dL_law_1048 : decode cL_law 1048 = .ok (.iadd, 1) := dk_96 (dk_at dksL_law_35 19 rfl rfl)
theorem dL_law_1049 : decode cL_law 1049 = .ok (.iaload, 1) := dk_46 (dk_at dksL_law_35 20 rfl rfl)
theorem dL_law_1050 : decode cL_law 1050 = .ok (.aload_n 3, 1) := dk_45 (dk_at dksL_law_35 21 rfl rfl)
theorem dL_law_1051 : decode cL_law 1051 = .ok (.invokestatic 218, 3) := dk_184 0 218 (dk_at dksL_law_36 0 rfl rfl)
theorem dL_law_1054 : decode cL_law 1054 = .ok (.istore 6, 2) := dk_54 6 (dk_at dksL_law_36 3 rfl rfl)
theorem dL_law_1056 : decode cL_law 1056 = .ok (.aload_n 2, 1) := dk_44 (dk_at dksL_law_36 5 rfl rfl)
theorem dL_law_1057 : decode cL_law 1057 = .ok (.aload_n 0, 1) := dk_42 (dk_at dksL_law_36 6 rfl rfl)
theorem dL_law_1058 : decode cL_law 1058 = .ok (.iload 5, 2) := dk_21 5 (dk_at dksL_law_36 7 rfl rfl)
theorem dL_law_1060 : decode cL_law 1060 = .ok (.iconst 1, 1) := dk_4 (dk_at dksL_law_36 9 rfl rfl)
theorem dL_law_1061 : decode cL_law 1061 = .ok (.iadd, 1) := dk_96 (dk_at dksL_law_36 10 rfl rfl)
theorem dL_law_1062 : decode cL_law 1062 = .ok (.iaload, 1) := dk_46 (dk_at dksL_law_36 11 rfl rfl)
theorem dL_law_1063 : decode cL_law 1063 = .ok (.aload_n 0, 1) := dk_42 (dk_at dksL_law_36 12 rfl rfl)
theorem dL_law_1064 : decode cL_law 1064 = .ok (.iload 5, 2) := dk_21 5 (dk_at dksL_law_36 13 rfl rfl)
theorem dL_law_1066 : decode cL_law 1066 = .ok (.iconst 2, 1) := dk_5 (dk_at dksL_law_36 15 rfl rfl)
theorem dL_law_1067 : decode cL_law 1067 = .ok (.iadd, 1) := dk_96 (dk_at dksL_law_36 16 rfl rfl)
theorem dL_law_1068 : decode cL_law 1068 = .ok (.iaload, 1) := dk_46 (dk_at dksL_law_36 17 rfl rfl)
theorem dL_law_1069 : decode cL_law 1069 = .ok (.invokevirtual 220, 3) := dk_182 0 220 (dk_at dksL_law_36 18 rfl rfl)
theorem dL_law_1072 : decode cL_law 1072 = .ok (.istore 7, 2) := dk_54 7 (dk_at dksL_law_36 21 rfl rfl)
theorem dL_law_1074 : decode cL_law 1074 = .ok (.aload_n 2, 1) := dk_44 (dk_at dksL_law_36 23 rfl rfl)
theorem dL_law_1075 : decode cL_law 1075 = .ok (.invokevirtual 178, 3) := dk_182 0 178 (dk_at dksL_law_37 0 rfl rfl)
theorem dL_law_1078 : decode cL_law 1078 = .ok (.iload 6, 2) := dk_21 6 (dk_at dksL_law_37 3 rfl rfl)
theorem dL_law_1080 : decode cL_law 1080 = .ok (.if_icmp .eq 5, 3) := dk_159 0 5 (dk_at dksL_law_37 5 rfl rfl)
theorem dL_law_1083 : decode cL_law 1083 = .ok (.iconst 0, 1) := dk_3 (dk_at dksL_law_37 8 rfl rfl)
theorem dL_law_1084 : decode cL_law 1084 = .ok (.ireturn, 1) := dk_172 (dk_at dksL_law_37 9 rfl rfl)
theorem dL_law_1085 : decode cL_law 1085 = .ok (.iload 6, 2) := dk_21 6 (dk_at dksL_law_37 10 rfl rfl)
theorem dL_law_1087 : decode cL_law 1087 = .ok (.ifCond .ne 15, 3) := dk_154 0 15 (dk_at dksL_law_37 12 rfl rfl)
theorem dL_law_1090 : decode cL_law 1090 = .ok (.aload_n 3, 1) := dk_45 (dk_at dksL_law_37 15 rfl rfl)
theorem dL_law_1091 : decode cL_law 1091 = .ok (.iconst 0, 1) := dk_3 (dk_at dksL_law_37 16 rfl rfl)
theorem dL_law_1092 : decode cL_law 1092 = .ok (.laload, 1) := dk_47 (dk_at dksL_law_37 17 rfl rfl)
theorem dL_law_1093 : decode cL_law 1093 = .ok (.iload 7, 2) := dk_21 7 (dk_at dksL_law_37 18 rfl rfl)
theorem dL_law_1095 : decode cL_law 1095 = .ok (.i2l, 1) := dk_133 (dk_at dksL_law_37 20 rfl rfl)
theorem dL_law_1096 : decode cL_law 1096 = .ok (.lcmp, 1) := dk_148 (dk_at dksL_law_37 21 rfl rfl)
theorem dL_law_1097 : decode cL_law 1097 = .ok (.ifCond .eq 5, 3) := dk_153 0 5 (dk_at dksL_law_38 0 rfl rfl)
theorem dL_law_1100 : decode cL_law 1100 = .ok (.iconst 0, 1) := dk_3 (dk_at dksL_law_38 3 rfl rfl)
theorem dL_law_1101 : decode cL_law 1101 = .ok (.ireturn, 1) := dk_172 (dk_at dksL_law_38 4 rfl rfl)
theorem dL_law_1102 : decode cL_law 1102 = .ok (.goto 2093, 3) := dk_167 8 45 (dk_at dksL_law_38 5 rfl rfl)
theorem dL_law_1105 : decode cL_law 1105 = .ok (.aload_n 1, 1) := dk_43 (dk_at dksL_law_38 8 rfl rfl)
theorem dL_law_1106 : decode cL_law 1106 = .ok (.invokevirtual 221, 3) := dk_182 0 221 (dk_at dksL_law_38 9 rfl rfl)
theorem dL_law_1109 : decode cL_law 1109 = .ok (.aload_n 2, 1) := dk_44 (dk_at dksL_law_38 12 rfl rfl)
theorem dL_law_1110 : decode cL_law 1110 = .ok (.invokevirtual 224, 3) := dk_182 0 224 (dk_at dksL_law_38 13 rfl rfl)
theorem dL_law_1113 : decode cL_law 1113 = .ok (.if_icmp .eq 2082, 3) := dk_159 8 34 (dk_at dksL_law_38 16 rfl rfl)
theorem dL_law_1116 : decode cL_law 1116 = .ok (.iconst 0, 1) := dk_3 (dk_at dksL_law_38 19 rfl rfl)
theorem dL_law_1117 : decode cL_law 1117 = .ok (.ireturn, 1) := dk_172 (dk_at dksL_law_38 20 rfl rfl)
theorem dL_law_1118 : decode cL_law 1118 = .ok (.aload_n 1, 1) := dk_43 (dk_at dksL_law_38 21 rfl rfl)
theorem dL_law_1119 : decode cL_law 1119 = .ok (.aload_n 0, 1) := dk_42 (dk_at dksL_law_38 22 rfl rfl)
theorem dL_law_1120 : decode cL_law 1120 = .ok (.iload 5, 2) := dk_21 5 (dk_at dksL_law_39 0 rfl rfl)
theorem dL_law_1122 : decode cL_law 1122 = .ok (.iconst 1, 1) := dk_4 (dk_at dksL_law_39 2 rfl rfl)
theorem dL_law_1123 : decode cL_law 1123 = .ok (.iadd, 1) := dk_96 (dk_at dksL_law_39 3 rfl rfl)
theorem dL_law_1124 : decode cL_law 1124 = .ok (.iaload, 1) := dk_46 (dk_at dksL_law_39 4 rfl rfl)
theorem dL_law_1125 : decode cL_law 1125 = .ok (.aload_n 3, 1) := dk_45 (dk_at dksL_law_39 5 rfl rfl)
theorem dL_law_1126 : decode cL_law 1126 = .ok (.invokestatic 225, 3) := dk_184 0 225 (dk_at dksL_law_39 6 rfl rfl)
theorem dL_law_1129 : decode cL_law 1129 = .ok (.istore 6, 2) := dk_54 6 (dk_at dksL_law_39 9 rfl rfl)
theorem dL_law_1131 : decode cL_law 1131 = .ok (.aload_n 2, 1) := dk_44 (dk_at dksL_law_39 11 rfl rfl)
theorem dL_law_1132 : decode cL_law 1132 = .ok (.aload_n 0, 1) := dk_42 (dk_at dksL_law_39 12 rfl rfl)
theorem dL_law_1133 : decode cL_law 1133 = .ok (.iload 5, 2) := dk_21 5 (dk_at dksL_law_39 13 rfl rfl)
theorem dL_law_1135 : decode cL_law 1135 = .ok (.iconst 1, 1) := dk_4 (dk_at dksL_law_39 15 rfl rfl)
theorem dL_law_1136 : decode cL_law 1136 = .ok (.iadd, 1) := dk_96 (dk_at dksL_law_39 16 rfl rfl)
theorem dL_law_1137 : decode cL_law 1137 = .ok (.iaload, 1) := dk_46 (dk_at dksL_law_39 17 rfl rfl)
theorem dL_law_1138 : decode cL_law 1138 = .ok (.invokevirtual 227, 3) := dk_182 0 227 (dk_at dksL_law_39 18 rfl rfl)
theorem dL_law_1141 : decode cL_law 1141 = .ok (.istore 7, 2) := dk_54 7 (dk_at dksL_law_39 21 rfl rfl)
theorem dL_law_1143 : decode cL_law 1143 = .ok (.aload_n 2, 1) := dk_44 (dk_at dksL_law_39 23 rfl rfl)
theorem dL_law_1144 : decode cL_law 1144 = .ok (.invokevirtual 178, 3) := dk_182 0 178 (dk_at dksL_law_40 0 rfl rfl)
theorem dL_law_1147 : decode cL_law 1147 = .ok (.iload 6, 2) := dk_21 6 (dk_at dksL_law_40 3 rfl rfl)
theorem dL_law_1149 : decode cL_law 1149 = .ok (.if_icmp .eq 5, 3) := dk_159 0 5 (dk_at dksL_law_40 5 rfl rfl)
theorem dL_law_1152 : decode cL_law 1152 = .ok (.iconst 0, 1) := dk_3 (dk_at dksL_law_40 8 rfl rfl)
theorem dL_law_1153 : decode cL_law 1153 = .ok (.ireturn, 1) := dk_172 (dk_at dksL_law_40 9 rfl rfl)
theorem dL_law_1154 : decode cL_law 1154 = .ok (.iload 6, 2) := dk_21 6 (dk_at dksL_law_40 10 rfl rfl)
theorem dL_law_1156 : decode cL_law 1156 = .ok (.ifCond .ne 15, 3) := dk_154 0 15 (dk_at dksL_law_40 12 rfl rfl)
theorem dL_law_1159 : decode cL_law 1159 = .ok (.aload_n 3, 1) := dk_45 (dk_at dksL_law_40 15 rfl rfl)
theorem dL_law_1160 : decode cL_law 1160 = .ok (.iconst 0, 1) := dk_3 (dk_at dksL_law_40 16 rfl rfl)
theorem dL_law_1161 : decode cL_law 1161 = .ok (.laload, 1) := dk_47 (dk_at dksL_law_40 17 rfl rfl)
theorem dL_law_1162 : decode cL_law 1162 = .ok (.iload 7, 2) := dk_21 7 (dk_at dksL_law_40 18 rfl rfl)
theorem dL_law_1164 : decode cL_law 1164 = .ok (.i2l, 1) := dk_133 (dk_at dksL_law_40 20 rfl rfl)
theorem dL_law_1165 : decode cL_law 1165 = .ok (.lcmp, 1) := dk_148 (dk_at dksL_law_40 21 rfl rfl)
theorem dL_law_1166 : decode cL_law 1166 = .ok (.ifCond .eq 5, 3) := dk_153 0 5 (dk_at dksL_law_41 0 rfl rfl)
theorem dL_law_1169 : decode cL_law 1169 = .ok (.iconst 0, 1) := dk_3 (dk_at dksL_law_41 3 rfl rfl)
theorem dL_law_1170 : decode cL_law 1170 = .ok (.ireturn, 1) := dk_172 (dk_at dksL_law_41 4 rfl rfl)
theorem dL_law_1171 : decode cL_law 1171 = .ok (.goto 2024, 3) := dk_167 7 232 (dk_at dksL_law_41 5 rfl rfl)
theorem dL_law_1174 : decode cL_law 1174 = .ok (.aload_n 1, 1) := dk_43 (dk_at dksL_law_41 8 rfl rfl)
theorem dL_law_1175 : decode cL_law 1175 = .ok (.aload_n 0, 1) := dk_42 (dk_at dksL_law_41 9 rfl rfl)
theorem dL_law_1176 : decode cL_law 1176 = .ok (.iload 5, 2) := dk_21 5 (dk_at dksL_law_41 10 rfl rfl)
theorem dL_law_1178 : decode cL_law 1178 = .ok (.iconst 1, 1) := dk_4 (dk_at dksL_law_41 12 rfl rfl)
theorem dL_law_1179 : decode cL_law 1179 = .ok (.iadd, 1) := dk_96 (dk_at dksL_law_41 13 rfl rfl)
theorem dL_law_1180 : decode cL_law 1180 = .ok (.iaload, 1) := dk_46 (dk_at dksL_law_41 14 rfl rfl)
theorem dL_law_1181 : decode cL_law 1181 = .ok (.aload_n 0, 1) := dk_42 (dk_at dksL_law_41 15 rfl rfl)
theorem dL_law_1182 : decode cL_law 1182 = .ok (.iload 5, 2) := dk_21 5 (dk_at dksL_law_41 16 rfl rfl)
theorem dL_law_1184 : decode cL_law 1184 = .ok (.iconst 2, 1) := dk_5 (dk_at dksL_law_41 18 rfl rfl)
theorem dL_law_1185 : decode cL_law 1185 = .ok (.iadd, 1) := dk_96 (dk_at dksL_law_41 19 rfl rfl)
theorem dL_law_1186 : decode cL_law 1186 = .ok (.iaload, 1) := dk_46 (dk_at dksL_law_41 20 rfl rfl)
theorem dL_law_1187 : decode cL_law 1187 = .ok (.aload_n 3, 1) := dk_45 (dk_at dksL_law_41 21 rfl rfl)
theorem dL_law_1188 : decode cL_law 1188 = .ok (.invokestatic 228, 3) := dk_184 0 228 (dk_at dksL_law_42 0 rfl rfl)
theorem dL_law_1191 : decode cL_law 1191 = .ok (.istore 6, 2) := dk_54 6 (dk_at dksL_law_42 3 rfl rfl)
theorem dL_law_1193 : decode cL_law 1193 = .ok (.aload_n 2, 1) := dk_44 (dk_at dksL_law_42 5 rfl rfl)
theorem dL_law_1194 : decode cL_law 1194 = .ok (.aload_n 0, 1) := dk_42 (dk_at dksL_law_42 6 rfl rfl)
theorem dL_law_1195 : decode cL_law 1195 = .ok (.iload 5, 2) := dk_21 5 (dk_at dksL_law_42 7 rfl rfl)
theorem dL_law_1197 : decode cL_law 1197 = .ok (.iconst 1, 1) := dk_4 (dk_at dksL_law_42 9 rfl rfl)
theorem dL_law_1198 : decode cL_law 1198 = .ok (.iadd, 1) := dk_96 (dk_at dksL_law_42 10 rfl rfl)
theorem dL_law_1199 : decode cL_law 1199 = .ok (.iaload, 1) := dk_46 (dk_at dksL_law_42 11 rfl rfl)
theorem dL_law_1200 : decode cL_law 1200 = .ok (.aload_n 0, 1) := dk_42 (dk_at dksL_law_42 12 rfl rfl)
theorem dL_law_1201 : decode cL_law 1201 = .ok (.iload 5, 2) := dk_21 5 (dk_at dksL_law_42 13 rfl rfl)
theorem dL_law_1203 : decode cL_law 1203 = .ok (.iconst 2, 1) := dk_5 (dk_at dksL_law_42 15 rfl rfl)
theorem dL_law_1204 : decode cL_law 1204 = .ok (.iadd, 1) := dk_96 (dk_at dksL_law_42 16 rfl rfl)
theorem dL_law_1205 : decode cL_law 1205 = .ok (.iaload, 1) := dk_46 (dk_at dksL_law_42 17 rfl rfl)
theorem dL_law_1206 : decode cL_law 1206 = .ok (.invokevirtual 230, 3) := dk_182 0 230 (dk_at dksL_law_42 18 rfl rfl)
theorem dL_law_1209 : decode cL_law 1209 = .ok (.istore 7, 2) := dk_54 7 (dk_at dksL_law_42 21 rfl rfl)
theorem dL_law_1211 : decode cL_law 1211 = .ok (.aload_n 2, 1) := dk_44 (dk_at dksL_law_42 23 rfl rfl)
theorem dL_law_1212 : decode cL_law 1212 = .ok (.invokevirtual 178, 3) := dk_182 0 178 (dk_at dksL_law_43 0 rfl rfl)
theorem dL_law_1215 : decode cL_law 1215 = .ok (.iload 6, 2) := dk_21 6 (dk_at dksL_law_43 3 rfl rfl)
theorem dL_law_1217 : decode cL_law 1217 = .ok (.if_icmp .eq 5, 3) := dk_159 0 5 (dk_at dksL_law_43 5 rfl rfl)
theorem dL_law_1220 : decode cL_law 1220 = .ok (.iconst 0, 1) := dk_3 (dk_at dksL_law_43 8 rfl rfl)
theorem dL_law_1221 : decode cL_law 1221 = .ok (.ireturn, 1) := dk_172 (dk_at dksL_law_43 9 rfl rfl)
theorem dL_law_1222 : decode cL_law 1222 = .ok (.iload 6, 2) := dk_21 6 (dk_at dksL_law_43 10 rfl rfl)
theorem dL_law_1224 : decode cL_law 1224 = .ok (.ifCond .ne 15, 3) := dk_154 0 15 (dk_at dksL_law_43 12 rfl rfl)
theorem dL_law_1227 : decode cL_law 1227 = .ok (.aload_n 3, 1) := dk_45 (dk_at dksL_law_43 15 rfl rfl)
theorem dL_law_1228 : decode cL_law 1228 = .ok (.iconst 0, 1) := dk_3 (dk_at dksL_law_43 16 rfl rfl)
theorem dL_law_1229 : decode cL_law 1229 = .ok (.laload, 1) := dk_47 (dk_at dksL_law_43 17 rfl rfl)
theorem dL_law_1230 : decode cL_law 1230 = .ok (.iload 7, 2) := dk_21 7 (dk_at dksL_law_43 18 rfl rfl)
theorem dL_law_1232 : decode cL_law 1232 = .ok (.i2l, 1) := dk_133 (dk_at dksL_law_43 20 rfl rfl)
theorem dL_law_1233 : decode cL_law 1233 = .ok (.lcmp, 1) := dk_148 (dk_at dksL_law_43 21 rfl rfl)
theorem dL_law_1234 : decode cL_law 1234 = .ok (.ifCond .eq 5, 3) := dk_153 0 5 (dk_at dksL_law_44 0 rfl rfl)
theorem dL_law_1237 : decode cL_law 1237 = .ok (.iconst 0, 1) := dk_3 (dk_at dksL_law_44 3 rfl rfl)
theorem dL_law_1238 : decode cL_law 1238 = .ok (.ireturn, 1) := dk_172 (dk_at dksL_law_44 4 rfl rfl)
theorem dL_law_1239 : decode cL_law 1239 = .ok (.goto 1956, 3) := dk_167 7 164 (dk_at dksL_law_44 5 rfl rfl)
theorem dL_law_1242 : decode cL_law 1242 = .ok (.aload_n 1, 1) := dk_43 (dk_at dksL_law_44 8 rfl rfl)
theorem dL_law_1243 : decode cL_law 1243 = .ok (.aload_n 0, 1) := dk_42 (dk_at dksL_law_44 9 rfl rfl)
theorem dL_law_1244 : decode cL_law 1244 = .ok (.iload 5, 2) := dk_21 5 (dk_at dksL_law_44 10 rfl rfl)
theorem dL_law_1246 : decode cL_law 1246 = .ok (.iconst 1, 1) := dk_4 (dk_at dksL_law_44 12 rfl rfl)
theorem dL_law_1247 : decode cL_law 1247 = .ok (.iadd, 1) := dk_96 (dk_at dksL_law_44 13 rfl rfl)
theorem dL_law_1248 : decode cL_law 1248 = .ok (.iaload, 1) := dk_46 (dk_at dksL_law_44 14 rfl rfl)
theorem dL_law_1249 : decode cL_law 1249 = .ok (.aload_n 0, 1) := dk_42 (dk_at dksL_law_44 15 rfl rfl)
theorem dL_law_1250 : decode cL_law 1250 = .ok (.iload 5, 2) := dk_21 5 (dk_at dksL_law_44 16 rfl rfl)
theorem dL_law_1252 : decode cL_law 1252 = .ok (.iconst 2, 1) := dk_5 (dk_at dksL_law_44 18 rfl rfl)
theorem dL_law_1253 : decode cL_law 1253 = .ok (.iadd, 1) := dk_96 (dk_at dksL_law_44 19 rfl rfl)
theorem dL_law_1254 : decode cL_law 1254 = .ok (.iaload, 1) := dk_46 (dk_at dksL_law_44 20 rfl rfl)
theorem dL_law_1255 : decode cL_law 1255 = .ok (.aload_n 3, 1) := dk_45 (dk_at dksL_law_44 21 rfl rfl)
theorem dL_law_1256 : decode cL_law 1256 = .ok (.invokestatic 231, 3) := dk_184 0 231 (dk_at dksL_law_45 0 rfl rfl)
theorem dL_law_1259 : decode cL_law 1259 = .ok (.istore 6, 2) := dk_54 6 (dk_at dksL_law_45 3 rfl rfl)
theorem dL_law_1261 : decode cL_law 1261 = .ok (.aload_n 2, 1) := dk_44 (dk_at dksL_law_45 5 rfl rfl)
theorem dL_law_1262 : decode cL_law 1262 = .ok (.aload_n 0, 1) := dk_42 (dk_at dksL_law_45 6 rfl rfl)
theorem dL_law_1263 : decode cL_law 1263 = .ok (.iload 5, 2) := dk_21 5 (dk_at dksL_law_45 7 rfl rfl)
theorem dL_law_1265 : decode cL_law 1265 = .ok (.iconst 1, 1) := dk_4 (dk_at dksL_law_45 9 rfl rfl)
theorem dL_law_1266 : decode cL_law 1266 = .ok (.iadd, 1) := dk_96 (dk_at dksL_law_45 10 rfl rfl)
theorem dL_law_1267 : decode cL_law 1267 = .ok (.iaload, 1) := dk_46 (dk_at dksL_law_45 11 rfl rfl)
theorem dL_law_1268 : decode cL_law 1268 = .ok (.aload_n 0, 1) := dk_42 (dk_at dksL_law_45 12 rfl rfl)
theorem dL_law_1269 : decode cL_law 1269 = .ok (.iload 5, 2) := dk_21 5 (dk_at dksL_law_45 13 rfl rfl)
theorem dL_law_1271 : decode cL_law 1271 = .ok (.iconst 2, 1) := dk_5 (dk_at dksL_law_45 15 rfl rfl)
theorem dL_law_1272 : decode cL_law 1272 = .ok (.iadd, 1) := dk_96 (dk_at dksL_law_45 16 rfl rfl)
theorem dL_law_1273 : decode cL_law 1273 = .ok (.iaload, 1) := dk_46 (dk_at dksL_law_45 17 rfl rfl)
theorem dL_law_1274 : decode cL_law 1274 = .ok (.invokevirtual 233, 3) := dk_182 0 233 (dk_at dksL_law_45 18 rfl rfl)
theorem dL_law_1277 : decode cL_law 1277 = .ok (.istore 7, 2) := dk_54 7 (dk_at dksL_law_45 21 rfl rfl)
theorem dL_law_1279 : decode cL_law 1279 = .ok (.aload_n 2, 1) := dk_44 (dk_at dksL_law_45 23 rfl rfl)
theorem dL_law_1280 : decode cL_law 1280 = .ok (.invokevirtual 178, 3) := dk_182 0 178 (dk_at dksL_law_46 0 rfl rfl)
theorem dL_law_1283 : decode cL_law 1283 = .ok (.iload 6, 2) := dk_21 6 (dk_at dksL_law_46 3 rfl rfl)
theorem dL_law_1285 : decode cL_law 1285 = .ok (.if_icmp .eq 5, 3) := dk_159 0 5 (dk_at dksL_law_46 5 rfl rfl)
theorem dL_law_1288 : decode cL_law 1288 = .ok (.iconst 0, 1) := dk_3 (dk_at dksL_law_46 8 rfl rfl)
theorem dL_law_1289 : decode cL_law 1289 = .ok (.ireturn, 1) := dk_172 (dk_at dksL_law_46 9 rfl rfl)
theorem dL_law_1290 : decode cL_law 1290 = .ok (.iload 6, 2) := dk_21 6 (dk_at dksL_law_46 10 rfl rfl)
theorem dL_law_1292 : decode cL_law 1292 = .ok (.ifCond .ne 15, 3) := dk_154 0 15 (dk_at dksL_law_46 12 rfl rfl)
theorem dL_law_1295 : decode cL_law 1295 = .ok (.aload_n 3, 1) := dk_45 (dk_at dksL_law_46 15 rfl rfl)
theorem dL_law_1296 : decode cL_law 1296 = .ok (.iconst 0, 1) := dk_3 (dk_at dksL_law_46 16 rfl rfl)
theorem dL_law_1297 : decode cL_law 1297 = .ok (.laload, 1) := dk_47 (dk_at dksL_law_46 17 rfl rfl)
theorem dL_law_1298 : decode cL_law 1298 = .ok (.iload 7, 2) := dk_21 7 (dk_at dksL_law_46 18 rfl rfl)
theorem dL_law_1300 : decode cL_law 1300 = .ok (.i2l, 1) := dk_133 (dk_at dksL_law_46 20 rfl rfl)
theorem dL_law_1301 : decode cL_law 1301 = .ok (.lcmp, 1) := dk_148 (dk_at dksL_law_46 21 rfl rfl)
theorem dL_law_1302 : decode cL_law 1302 = .ok (.ifCond .eq 5, 3) := dk_153 0 5 (dk_at dksL_law_47 0 rfl rfl)
theorem dL_law_1305 : decode cL_law 1305 = .ok (.iconst 0, 1) := dk_3 (dk_at dksL_law_47 3 rfl rfl)
theorem dL_law_1306 : decode cL_law 1306 = .ok (.ireturn, 1) := dk_172 (dk_at dksL_law_47 4 rfl rfl)
theorem dL_law_1307 : decode cL_law 1307 = .ok (.goto 1888, 3) := dk_167 7 96 (dk_at dksL_law_47 5 rfl rfl)
theorem dL_law_1310 : decode cL_law 1310 = .ok (.aload_n 1, 1) := dk_43 (dk_at dksL_law_47 8 rfl rfl)
theorem dL_law_1311 : decode cL_law 1311 = .ok (.aload_n 0, 1) := dk_42 (dk_at dksL_law_47 9 rfl rfl)
theorem dL_law_1312 : decode cL_law 1312 = .ok (.iload 5, 2) := dk_21 5 (dk_at dksL_law_47 10 rfl rfl)
theorem dL_law_1314 : decode cL_law 1314 = .ok (.iconst 1, 1) := dk_4 (dk_at dksL_law_47 12 rfl rfl)
theorem dL_law_1315 : decode cL_law 1315 = .ok (.iadd, 1) := dk_96 (dk_at dksL_law_47 13 rfl rfl)
theorem dL_law_1316 : decode cL_law 1316 = .ok (.iaload, 1) := dk_46 (dk_at dksL_law_47 14 rfl rfl)
theorem dL_law_1317 : decode cL_law 1317 = .ok (.aload_n 0, 1) := dk_42 (dk_at dksL_law_47 15 rfl rfl)
theorem dL_law_1318 : decode cL_law 1318 = .ok (.iload 5, 2) := dk_21 5 (dk_at dksL_law_47 16 rfl rfl)
theorem dL_law_1320 : decode cL_law 1320 = .ok (.iconst 2, 1) := dk_5 (dk_at dksL_law_47 18 rfl rfl)
theorem dL_law_1321 : decode cL_law 1321 = .ok (.iadd, 1) := dk_96 (dk_at dksL_law_47 19 rfl rfl)
theorem dL_law_1322 : decode cL_law 1322 = .ok (.iaload, 1) := dk_46 (dk_at dksL_law_47 20 rfl rfl)
theorem dL_law_1323 : decode cL_law 1323 = .ok (.aload_n 3, 1) := dk_45 (dk_at dksL_law_47 21 rfl rfl)
theorem dL_law_1324 : decode cL_law 1324 = .ok (.invokestatic 234, 3) := dk_184 0 234 (dk_at dksL_law_48 0 rfl rfl)
theorem dL_law_1327 : decode cL_law 1327 = .ok (.istore 6, 2) := dk_54 6 (dk_at dksL_law_48 3 rfl rfl)
theorem dL_law_1329 : decode cL_law 1329 = .ok (.aload_n 2, 1) := dk_44 (dk_at dksL_law_48 5 rfl rfl)
theorem dL_law_1330 : decode cL_law 1330 = .ok (.aload_n 0, 1) := dk_42 (dk_at dksL_law_48 6 rfl rfl)
theorem dL_law_1331 : decode cL_law 1331 = .ok (.iload 5, 2) := dk_21 5 (dk_at dksL_law_48 7 rfl rfl)
theorem dL_law_1333 : decode cL_law 1333 = .ok (.iconst 1, 1) := dk_4 (dk_at dksL_law_48 9 rfl rfl)
theorem dL_law_1334 : decode cL_law 1334 = .ok (.iadd, 1) := dk_96 (dk_at dksL_law_48 10 rfl rfl)
theorem dL_law_1335 : decode cL_law 1335 = .ok (.iaload, 1) := dk_46 (dk_at dksL_law_48 11 rfl rfl)
theorem dL_law_1336 : decode cL_law 1336 = .ok (.aload_n 0, 1) := dk_42 (dk_at dksL_law_48 12 rfl rfl)
theorem dL_law_1337 : decode cL_law 1337 = .ok (.iload 5, 2) := dk_21 5 (dk_at dksL_law_48 13 rfl rfl)
theorem dL_law_1339 : decode cL_law 1339 = .ok (.iconst 2, 1) := dk_5 (dk_at dksL_law_48 15 rfl rfl)
theorem dL_law_1340 : decode cL_law 1340 = .ok (.iadd, 1) := dk_96 (dk_at dksL_law_48 16 rfl rfl)
theorem dL_law_1341 : decode cL_law 1341 = .ok (.iaload, 1) := dk_46 (dk_at dksL_law_48 17 rfl rfl)
theorem dL_law_1342 : decode cL_law 1342 = .ok (.invokevirtual 236, 3) := dk_182 0 236 (dk_at dksL_law_48 18 rfl rfl)
theorem dL_law_1345 : decode cL_law 1345 = .ok (.istore 7, 2) := dk_54 7 (dk_at dksL_law_48 21 rfl rfl)
theorem dL_law_1347 : decode cL_law 1347 = .ok (.aload_n 2, 1) := dk_44 (dk_at dksL_law_48 23 rfl rfl)
theorem dL_law_1348 : decode cL_law 1348 = .ok (.invokevirtual 178, 3) := dk_182 0 178 (dk_at dksL_law_49 0 rfl rfl)
theorem dL_law_1351 : decode cL_law 1351 = .ok (.iload 6, 2) := dk_21 6 (dk_at dksL_law_49 3 rfl rfl)
theorem dL_law_1353 : decode cL_law 1353 = .ok (.if_icmp .eq 5, 3) := dk_159 0 5 (dk_at dksL_law_49 5 rfl rfl)
theorem dL_law_1356 : decode cL_law 1356 = .ok (.iconst 0, 1) := dk_3 (dk_at dksL_law_49 8 rfl rfl)
theorem dL_law_1357 : decode cL_law 1357 = .ok (.ireturn, 1) := dk_172 (dk_at dksL_law_49 9 rfl rfl)
theorem dL_law_1358 : decode cL_law 1358 = .ok (.iload 6, 2) := dk_21 6 (dk_at dksL_law_49 10 rfl rfl)
theorem dL_law_1360 : decode cL_law 1360 = .ok (.ifCond .ne 15, 3) := dk_154 0 15 (dk_at dksL_law_49 12 rfl rfl)
theorem dL_law_1363 : decode cL_law 1363 = .ok (.aload_n 3, 1) := dk_45 (dk_at dksL_law_49 15 rfl rfl)
theorem dL_law_1364 : decode cL_law 1364 = .ok (.iconst 0, 1) := dk_3 (dk_at dksL_law_49 16 rfl rfl)
theorem dL_law_1365 : decode cL_law 1365 = .ok (.laload, 1) := dk_47 (dk_at dksL_law_49 17 rfl rfl)
theorem dL_law_1366 : decode cL_law 1366 = .ok (.iload 7, 2) := dk_21 7 (dk_at dksL_law_49 18 rfl rfl)
theorem dL_law_1368 : decode cL_law 1368 = .ok (.i2l, 1) := dk_133 (dk_at dksL_law_49 20 rfl rfl)
theorem dL_law_1369 : decode cL_law 1369 = .ok (.lcmp, 1) := dk_148 (dk_at dksL_law_49 21 rfl rfl)
theorem dL_law_1370 : decode cL_law 1370 = .ok (.ifCond .eq 5, 3) := dk_153 0 5 (dk_at dksL_law_50 0 rfl rfl)
theorem dL_law_1373 : decode cL_law 1373 = .ok (.iconst 0, 1) := dk_3 (dk_at dksL_law_50 3 rfl rfl)
theorem dL_law_1374 : decode cL_law 1374 = .ok (.ireturn, 1) := dk_172 (dk_at dksL_law_50 4 rfl rfl)
theorem dL_law_1375 : decode cL_law 1375 = .ok (.goto 1820, 3) := dk_167 7 28 (dk_at dksL_law_50 5 rfl rfl)
theorem dL_law_1378 : decode cL_law 1378 = .ok (.aload_n 1, 1) := dk_43 (dk_at dksL_law_50 8 rfl rfl)
theorem dL_law_1379 : decode cL_law 1379 = .ok (.aload_n 0, 1) := dk_42 (dk_at dksL_law_50 9 rfl rfl)
theorem dL_law_1380 : decode cL_law 1380 = .ok (.iload 5, 2) := dk_21 5 (dk_at dksL_law_50 10 rfl rfl)
theorem dL_law_1382 : decode cL_law 1382 = .ok (.iconst 1, 1) := dk_4 (dk_at dksL_law_50 12 rfl rfl)
theorem dL_law_1383 : decode cL_law 1383 = .ok (.iadd, 1) := dk_96 (dk_at dksL_law_50 13 rfl rfl)
theorem dL_law_1384 : decode cL_law 1384 = .ok (.iaload, 1) := dk_46 (dk_at dksL_law_50 14 rfl rfl)
theorem dL_law_1385 : decode cL_law 1385 = .ok (.aload_n 3, 1) := dk_45 (dk_at dksL_law_50 15 rfl rfl)
theorem dL_law_1386 : decode cL_law 1386 = .ok (.invokestatic 237, 3) := dk_184 0 237 (dk_at dksL_law_50 16 rfl rfl)
theorem dL_law_1389 : decode cL_law 1389 = .ok (.istore 6, 2) := dk_54 6 (dk_at dksL_law_50 19 rfl rfl)
theorem dL_law_1391 : decode cL_law 1391 = .ok (.aload_n 2, 1) := dk_44 (dk_at dksL_law_50 21 rfl rfl)
theorem dL_law_1392 : decode cL_law 1392 = .ok (.aload_n 0, 1) := dk_42 (dk_at dksL_law_50 22 rfl rfl)
theorem dL_law_1393 : decode cL_law 1393 = .ok (.iload 5, 2) := dk_21 5 (dk_at dksL_law_51 0 rfl rfl)
theorem dL_law_1395 : decode cL_law 1395 = .ok (.iconst 1, 1) := dk_4 (dk_at dksL_law_51 2 rfl rfl)
theorem dL_law_1396 : decode cL_law 1396 = .ok (.iadd, 1) := dk_96 (dk_at dksL_law_51 3 rfl rfl)
theorem dL_law_1397 : decode cL_law 1397 = .ok (.iaload, 1) := dk_46 (dk_at dksL_law_51 4 rfl rfl)
theorem dL_law_1398 : decode cL_law 1398 = .ok (.invokevirtual 239, 3) := dk_182 0 239 (dk_at dksL_law_51 5 rfl rfl)
theorem dL_law_1401 : decode cL_law 1401 = .ok (.istore 7, 2) := dk_54 7 (dk_at dksL_law_51 8 rfl rfl)
theorem dL_law_1403 : decode cL_law 1403 = .ok (.aload_n 2, 1) := dk_44 (dk_at dksL_law_51 10 rfl rfl)
theorem dL_law_1404 : decode cL_law 1404 = .ok (.invokevirtual 178, 3) := dk_182 0 178 (dk_at dksL_law_51 11 rfl rfl)
theorem dL_law_1407 : decode cL_law 1407 = .ok (.iload 6, 2) := dk_21 6 (dk_at dksL_law_51 14 rfl rfl)
theorem dL_law_1409 : decode cL_law 1409 = .ok (.if_icmp .eq 5, 3) := dk_159 0 5 (dk_at dksL_law_51 16 rfl rfl)
theorem dL_law_1412 : decode cL_law 1412 = .ok (.iconst 0, 1) := dk_3 (dk_at dksL_law_51 19 rfl rfl)
theorem dL_law_1413 : decode cL_law 1413 = .ok (.ireturn, 1) := dk_172 (dk_at dksL_law_51 20 rfl rfl)
theorem dL_law_1414 : decode cL_law 1414 = .ok (.iload 6, 2) := dk_21 6 (dk_at dksL_law_51 21 rfl rfl)
theorem dL_law_1416 : decode cL_law 1416 = .ok (.ifCond .ne 15, 3) := dk_154 0 15 (dk_at dksL_law_52 0 rfl rfl)
theorem dL_law_1419 : decode cL_law 1419 = .ok (.aload_n 3, 1) := dk_45 (dk_at dksL_law_52 3 rfl rfl)
theorem dL_law_1420 : decode cL_law 1420 = .ok (.iconst 0, 1) := dk_3 (dk_at dksL_law_52 4 rfl rfl)
theorem dL_law_1421 : decode cL_law 1421 = .ok (.laload, 1) := dk_47 (dk_at dksL_law_52 5 rfl rfl)
theorem dL_law_1422 : decode cL_law 1422 = .ok (.iload 7, 2) := dk_21 7 (dk_at dksL_law_52 6 rfl rfl)
theorem dL_law_1424 : decode cL_law 1424 = .ok (.i2l, 1) := dk_133 (dk_at dksL_law_52 8 rfl rfl)
theorem dL_law_1425 : decode cL_law 1425 = .ok (.lcmp, 1) := dk_148 (dk_at dksL_law_52 9 rfl rfl)
theorem dL_law_1426 : decode cL_law 1426 = .ok (.ifCond .eq 5, 3) := dk_153 0 5 (dk_at dksL_law_52 10 rfl rfl)
theorem dL_law_1429 : decode cL_law 1429 = .ok (.iconst 0, 1) := dk_3 (dk_at dksL_law_52 13 rfl rfl)
theorem dL_law_1430 : decode cL_law 1430 = .ok (.ireturn, 1) := dk_172 (dk_at dksL_law_52 14 rfl rfl)
theorem dL_law_1431 : decode cL_law 1431 = .ok (.goto 1764, 3) := dk_167 6 228 (dk_at dksL_law_52 15 rfl rfl)
theorem dL_law_1434 : decode cL_law 1434 = .ok (.aload_n 1, 1) := dk_43 (dk_at dksL_law_52 18 rfl rfl)
theorem dL_law_1435 : decode cL_law 1435 = .ok (.aload_n 0, 1) := dk_42 (dk_at dksL_law_52 19 rfl rfl)
theorem dL_law_1436 : decode cL_law 1436 = .ok (.iload 5, 2) := dk_21 5 (dk_at dksL_law_52 20 rfl rfl)
theorem dL_law_1438 : decode cL_law 1438 = .ok (.iconst 1, 1) := dk_4 (dk_at dksL_law_52 22 rfl rfl)
theorem dL_law_1439 : decode cL_law 1439 = .ok (.iadd, 1) := dk_96 (dk_at dksL_law_52 23 rfl rfl)
theorem dL_law_1440 : decode cL_law 1440 = .ok (.iaload, 1) := dk_46 (dk_at dksL_law_53 0 rfl rfl)
theorem dL_law_1441 : decode cL_law 1441 = .ok (.aload_n 3, 1) := dk_45 (dk_at dksL_law_53 1 rfl rfl)
theorem dL_law_1442 : decode cL_law 1442 = .ok (.invokestatic 240, 3) := dk_184 0 240 (dk_at dksL_law_53 2 rfl rfl)
theorem dL_law_1445 : decode cL_law 1445 = .ok (.istore 6, 2) := dk_54 6 (dk_at dksL_law_53 5 rfl rfl)
theorem dL_law_1447 : decode cL_law 1447 = .ok (.aload_n 2, 1) := dk_44 (dk_at dksL_law_53 7 rfl rfl)
theorem dL_law_1448 : decode cL_law 1448 = .ok (.aload_n 0, 1) := dk_42 (dk_at dksL_law_53 8 rfl rfl)
theorem dL_law_1449 : decode cL_law 1449 = .ok (.iload 5, 2) := dk_21 5 (dk_at dksL_law_53 9 rfl rfl)
theorem dL_law_1451 : decode cL_law 1451 = .ok (.iconst 1, 1) := dk_4 (dk_at dksL_law_53 11 rfl rfl)
theorem dL_law_1452 : decode cL_law 1452 = .ok (.iadd, 1) := dk_96 (dk_at dksL_law_53 12 rfl rfl)
theorem dL_law_1453 : decode cL_law 1453 = .ok (.iaload, 1) := dk_46 (dk_at dksL_law_53 13 rfl rfl)
theorem dL_law_1454 : decode cL_law 1454 = .ok (.invokevirtual 242, 3) := dk_182 0 242 (dk_at dksL_law_53 14 rfl rfl)
theorem dL_law_1457 : decode cL_law 1457 = .ok (.istore 7, 2) := dk_54 7 (dk_at dksL_law_53 17 rfl rfl)
theorem dL_law_1459 : decode cL_law 1459 = .ok (.aload_n 2, 1) := dk_44 (dk_at dksL_law_53 19 rfl rfl)
theorem dL_law_1460 : decode cL_law 1460 = .ok (.invokevirtual 178, 3) := dk_182 0 178 (dk_at dksL_law_53 20 rfl rfl)
theorem dL_law_1463 : decode cL_law 1463 = .ok (.iload 6, 2) := dk_21 6 (dk_at dksL_law_54 0 rfl rfl)
theorem dL_law_1465 : decode cL_law 1465 = .ok (.if_icmp .eq 5, 3) := dk_159 0 5 (dk_at dksL_law_54 2 rfl rfl)
theorem dL_law_1468 : decode cL_law 1468 = .ok (.iconst 0, 1) := dk_3 (dk_at dksL_law_54 5 rfl rfl)
theorem dL_law_1469 : decode cL_law 1469 = .ok (.ireturn, 1) := dk_172 (dk_at dksL_law_54 6 rfl rfl)
theorem dL_law_1470 : decode cL_law 1470 = .ok (.iload 6, 2) := dk_21 6 (dk_at dksL_law_54 7 rfl rfl)
theorem dL_law_1472 : decode cL_law 1472 = .ok (.ifCond .ne 15, 3) := dk_154 0 15 (dk_at dksL_law_54 9 rfl rfl)
theorem dL_law_1475 : decode cL_law 1475 = .ok (.aload_n 3, 1) := dk_45 (dk_at dksL_law_54 12 rfl rfl)
theorem dL_law_1476 : decode cL_law 1476 = .ok (.iconst 0, 1) := dk_3 (dk_at dksL_law_54 13 rfl rfl)
theorem dL_law_1477 : decode cL_law 1477 = .ok (.laload, 1) := dk_47 (dk_at dksL_law_54 14 rfl rfl)
theorem dL_law_1478 : decode cL_law 1478 = .ok (.iload 7, 2) := dk_21 7 (dk_at dksL_law_54 15 rfl rfl)
theorem dL_law_1480 : decode cL_law 1480 = .ok (.i2l, 1) := dk_133 (dk_at dksL_law_54 17 rfl rfl)
theorem dL_law_1481 : decode cL_law 1481 = .ok (.lcmp, 1) := dk_148 (dk_at dksL_law_54 18 rfl rfl)
theorem dL_law_1482 : decode cL_law 1482 = .ok (.ifCond .eq 5, 3) := dk_153 0 5 (dk_at dksL_law_54 19 rfl rfl)
theorem dL_law_1485 : decode cL_law 1485 = .ok (.iconst 0, 1) := dk_3 (dk_at dksL_law_54 22 rfl rfl)
theorem dL_law_1486 : decode cL_law 1486 = .ok (.ireturn, 1) := dk_172 (dk_at dksL_law_54 23 rfl rfl)
theorem dL_law_1487 : decode cL_law 1487 = .ok (.goto 1708, 3) := dk_167 6 172 (dk_at dksL_law_55 0 rfl rfl)
theorem dL_law_1490 : decode cL_law 1490 = .ok (.aload_n 1, 1) := dk_43 (dk_at dksL_law_55 3 rfl rfl)
theorem dL_law_1491 : decode cL_law 1491 = .ok (.aload_n 0, 1) := dk_42 (dk_at dksL_law_55 4 rfl rfl)
theorem dL_law_1492 : decode cL_law 1492 = .ok (.iload 5, 2) := dk_21 5 (dk_at dksL_law_55 5 rfl rfl)
theorem dL_law_1494 : decode cL_law 1494 = .ok (.iconst 1, 1) := dk_4 (dk_at dksL_law_55 7 rfl rfl)
theorem dL_law_1495 : decode cL_law 1495 = .ok (.iadd, 1) := dk_96 (dk_at dksL_law_55 8 rfl rfl)
theorem dL_law_1496 : decode cL_law 1496 = .ok (.iaload, 1) := dk_46 (dk_at dksL_law_55 9 rfl rfl)
theorem dL_law_1497 : decode cL_law 1497 = .ok (.aload_n 0, 1) := dk_42 (dk_at dksL_law_55 10 rfl rfl)
theorem dL_law_1498 : decode cL_law 1498 = .ok (.iload 5, 2) := dk_21 5 (dk_at dksL_law_55 11 rfl rfl)
theorem dL_law_1500 : decode cL_law 1500 = .ok (.iconst 2, 1) := dk_5 (dk_at dksL_law_55 13 rfl rfl)
theorem dL_law_1501 : decode cL_law 1501 = .ok (.iadd, 1) := dk_96 (dk_at dksL_law_55 14 rfl rfl)
theorem dL_law_1502 : decode cL_law 1502 = .ok (.iaload, 1) := dk_46 (dk_at dksL_law_55 15 rfl rfl)
theorem dL_law_1503 : decode cL_law 1503 = .ok (.aload_n 3, 1) := dk_45 (dk_at dksL_law_55 16 rfl rfl)
theorem dL_law_1504 : decode cL_law 1504 = .ok (.invokestatic 243, 3) := dk_184 0 243 (dk_at dksL_law_55 17 rfl rfl)
theorem dL_law_1507 : decode cL_law 1507 = .ok (.istore 6, 2) := dk_54 6 (dk_at dksL_law_55 20 rfl rfl)
theorem dL_law_1509 : decode cL_law 1509 = .ok (.aload_n 2, 1) := dk_44 (dk_at dksL_law_55 22 rfl rfl)
theorem dL_law_1510 : decode cL_law 1510 = .ok (.aload_n 0, 1) := dk_42 (dk_at dksL_law_55 23 rfl rfl)
theorem dL_law_1511 : decode cL_law 1511 = .ok (.iload 5, 2) := dk_21 5 (dk_at dksL_law_56 0 rfl rfl)
theorem dL_law_1513 : decode cL_law 1513 = .ok (.iconst 1, 1) := dk_4 (dk_at dksL_law_56 2 rfl rfl)
theorem dL_law_1514 : decode cL_law 1514 = .ok (.iadd, 1) := dk_96 (dk_at dksL_law_56 3 rfl rfl)
theorem dL_law_1515 : decode cL_law 1515 = .ok (.iaload, 1) := dk_46 (dk_at dksL_law_56 4 rfl rfl)
theorem dL_law_1516 : decode cL_law 1516 = .ok (.aload_n 0, 1) := dk_42 (dk_at dksL_law_56 5 rfl rfl)
theorem dL_law_1517 : decode cL_law 1517 = .ok (.iload 5, 2) := dk_21 5 (dk_at dksL_law_56 6 rfl rfl)
theorem dL_law_1519 : decode cL_law 1519 = .ok (.iconst 2, 1) := dk_5 (dk_at dksL_law_56 8 rfl rfl)
theorem dL_law_1520 : decode cL_law 1520 = .ok (.iadd, 1) := dk_96 (dk_at dksL_law_56 9 rfl rfl)
theorem dL_law_1521 : decode cL_law 1521 = .ok (.iaload, 1) := dk_46 (dk_at dksL_law_56 10 rfl rfl)
theorem dL_law_1522 : decode cL_law 1522 = .ok (.invokevirtual 245, 3) := dk_182 0 245 (dk_at dksL_law_56 11 rfl rfl)
theorem dL_law_1525 : decode cL_law 1525 = .ok (.istore 7, 2) := dk_54 7 (dk_at dksL_law_56 14 rfl rfl)
theorem dL_law_1527 : decode cL_law 1527 = .ok (.aload_n 2, 1) := dk_44 (dk_at dksL_law_56 16 rfl rfl)
theorem dL_law_1528 : decode cL_law 1528 = .ok (.invokevirtual 178, 3) := dk_182 0 178 (dk_at dksL_law_56 17 rfl rfl)
theorem dL_law_1531 : decode cL_law 1531 = .ok (.iload 6, 2) := dk_21 6 (dk_at dksL_law_56 20 rfl rfl)
theorem dL_law_1533 : decode cL_law 1533 = .ok (.if_icmp .eq 5, 3) := dk_159 0 5 (dk_at dksL_law_57 0 rfl rfl)
theorem dL_law_1536 : decode cL_law 1536 = .ok (.iconst 0, 1) := dk_3 (dk_at dksL_law_57 3 rfl rfl)
theorem dL_law_1537 : decode cL_law 1537 = .ok (.ireturn, 1) := dk_172 (dk_at dksL_law_57 4 rfl rfl)
theorem dL_law_1538 : decode cL_law 1538 = .ok (.iload 6, 2) := dk_21 6 (dk_at dksL_law_57 5 rfl rfl)
theorem dL_law_1540 : decode cL_law 1540 = .ok (.ifCond .ne 15, 3) := dk_154 0 15 (dk_at dksL_law_57 7 rfl rfl)
theorem dL_law_1543 : decode cL_law 1543 = .ok (.aload_n 3, 1) := dk_45 (dk_at dksL_law_57 10 rfl rfl)
theorem dL_law_1544 : decode cL_law 1544 = .ok (.iconst 0, 1) := dk_3 (dk_at dksL_law_57 11 rfl rfl)
theorem dL_law_1545 : decode cL_law 1545 = .ok (.laload, 1) := dk_47 (dk_at dksL_law_57 12 rfl rfl)
theorem dL_law_1546 : decode cL_law 1546 = .ok (.iload 7, 2) := dk_21 7 (dk_at dksL_law_57 13 rfl rfl)
theorem dL_law_1548 : decode cL_law 1548 = .ok (.i2l, 1) := dk_133 (dk_at dksL_law_57 15 rfl rfl)
theorem dL_law_1549 : decode cL_law 1549 = .ok (.lcmp, 1) := dk_148 (dk_at dksL_law_57 16 rfl rfl)
theorem dL_law_1550 : decode cL_law 1550 = .ok (.ifCond .eq 5, 3) := dk_153 0 5 (dk_at dksL_law_57 17 rfl rfl)
theorem dL_law_1553 : decode cL_law 1553 = .ok (.iconst 0, 1) := dk_3 (dk_at dksL_law_57 20 rfl rfl)
theorem dL_law_1554 : decode cL_law 1554 = .ok (.ireturn, 1) := dk_172 (dk_at dksL_law_57 21 rfl rfl)
theorem dL_law_1555 : decode cL_law 1555 = .ok (.goto 1640, 3) := dk_167 6 104 (dk_at dksL_law_58 0 rfl rfl)
theorem dL_law_1558 : decode cL_law 1558 = .ok (.aload_n 1, 1) := dk_43 (dk_at dksL_law_58 3 rfl rfl)
theorem dL_law_1559 : decode cL_law 1559 = .ok (.aload_n 0, 1) := dk_42 (dk_at dksL_law_58 4 rfl rfl)
theorem dL_law_1560 : decode cL_law 1560 = .ok (.iload 5, 2) := dk_21 5 (dk_at dksL_law_58 5 rfl rfl)
theorem dL_law_1562 : decode cL_law 1562 = .ok (.iconst 1, 1) := dk_4 (dk_at dksL_law_58 7 rfl rfl)
theorem dL_law_1563 : decode cL_law 1563 = .ok (.iadd, 1) := dk_96 (dk_at dksL_law_58 8 rfl rfl)
theorem dL_law_1564 : decode cL_law 1564 = .ok (.iaload, 1) := dk_46 (dk_at dksL_law_58 9 rfl rfl)
theorem dL_law_1565 : decode cL_law 1565 = .ok (.aload_n 0, 1) := dk_42 (dk_at dksL_law_58 10 rfl rfl)
theorem dL_law_1566 : decode cL_law 1566 = .ok (.iload 5, 2) := dk_21 5 (dk_at dksL_law_58 11 rfl rfl)
theorem dL_law_1568 : decode cL_law 1568 = .ok (.iconst 2, 1) := dk_5 (dk_at dksL_law_58 13 rfl rfl)
theorem dL_law_1569 : decode cL_law 1569 = .ok (.iadd, 1) := dk_96 (dk_at dksL_law_58 14 rfl rfl)
theorem dL_law_1570 : decode cL_law 1570 = .ok (.iaload, 1) := dk_46 (dk_at dksL_law_58 15 rfl rfl)
theorem dL_law_1571 : decode cL_law 1571 = .ok (.aload_n 3, 1) := dk_45 (dk_at dksL_law_58 16 rfl rfl)
theorem dL_law_1572 : decode cL_law 1572 = .ok (.invokestatic 246, 3) := dk_184 0 246 (dk_at dksL_law_58 17 rfl rfl)
theorem dL_law_1575 : decode cL_law 1575 = .ok (.istore 6, 2) := dk_54 6 (dk_at dksL_law_58 20 rfl rfl)
theorem dL_law_1577 : decode cL_law 1577 = .ok (.aload_n 2, 1) := dk_44 (dk_at dksL_law_58 22 rfl rfl)
theorem dL_law_1578 : decode cL_law 1578 = .ok (.aload_n 0, 1) := dk_42 (dk_at dksL_law_58 23 rfl rfl)
theorem dL_law_1579 : decode cL_law 1579 = .ok (.iload 5, 2) := dk_21 5 (dk_at dksL_law_59 0 rfl rfl)
theorem dL_law_1581 : decode cL_law 1581 = .ok (.iconst 1, 1) := dk_4 (dk_at dksL_law_59 2 rfl rfl)
theorem dL_law_1582 : decode cL_law 1582 = .ok (.iadd, 1) := dk_96 (dk_at dksL_law_59 3 rfl rfl)
theorem dL_law_1583 : decode cL_law 1583 = .ok (.iaload, 1) := dk_46 (dk_at dksL_law_59 4 rfl rfl)
theorem dL_law_1584 : decode cL_law 1584 = .ok (.aload_n 0, 1) := dk_42 (dk_at dksL_law_59 5 rfl rfl)
theorem dL_law_1585 : decode cL_law 1585 = .ok (.iload 5, 2) := dk_21 5 (dk_at dksL_law_59 6 rfl rfl)
theorem dL_law_1587 : decode cL_law 1587 = .ok (.iconst 2, 1) := dk_5 (dk_at dksL_law_59 8 rfl rfl)
theorem dL_law_1588 : decode cL_law 1588 = .ok (.iadd, 1) := dk_96 (dk_at dksL_law_59 9 rfl rfl)
theorem dL_law_1589 : decode cL_law 1589 = .ok (.iaload, 1) := dk_46 (dk_at dksL_law_59 10 rfl rfl)
theorem dL_law_1590 : decode cL_law 1590 = .ok (.invokevirtual 248, 3) := dk_182 0 248 (dk_at dksL_law_59 11 rfl rfl)
theorem dL_law_1593 : decode cL_law 1593 = .ok (.istore 7, 2) := dk_54 7 (dk_at dksL_law_59 14 rfl rfl)
theorem dL_law_1595 : decode cL_law 1595 = .ok (.aload_n 2, 1) := dk_44 (dk_at dksL_law_59 16 rfl rfl)
theorem dL_law_1596 : decode cL_law 1596 = .ok (.invokevirtual 178, 3) := dk_182 0 178 (dk_at dksL_law_59 17 rfl rfl)
theorem dL_law_1599 : decode cL_law 1599 = .ok (.iload 6, 2) := dk_21 6 (dk_at dksL_law_59 20 rfl rfl)
theorem dL_law_1601 : decode cL_law 1601 = .ok (.if_icmp .eq 5, 3) := dk_159 0 5 (dk_at dksL_law_60 0 rfl rfl)
theorem dL_law_1604 : decode cL_law 1604 = .ok (.iconst 0, 1) := dk_3 (dk_at dksL_law_60 3 rfl rfl)
theorem dL_law_1605 : decode cL_law 1605 = .ok (.ireturn, 1) := dk_172 (dk_at dksL_law_60 4 rfl rfl)
theorem dL_law_1606 : decode cL_law 1606 = .ok (.iload 6, 2) := dk_21 6 (dk_at dksL_law_60 5 rfl rfl)
theorem dL_law_1608 : decode cL_law 1608 = .ok (.ifCond .ne 22, 3) := dk_154 0 22 (dk_at dksL_law_60 7 rfl rfl)
theorem dL_law_1611 : decode cL_law 1611 = .ok (.aload_n 3, 1) := dk_45 (dk_at dksL_law_60 10 rfl rfl)
theorem dL_law_1612 : decode cL_law 1612 = .ok (.iconst 0, 1) := dk_3 (dk_at dksL_law_60 11 rfl rfl)
theorem dL_law_1613 : decode cL_law 1613 = .ok (.laload, 1) := dk_47 (dk_at dksL_law_60 12 rfl rfl)
theorem dL_law_1614 : decode cL_law 1614 = .ok (.iload 7, 2) := dk_21 7 (dk_at dksL_law_60 13 rfl rfl)
theorem dL_law_1616 : decode cL_law 1616 = .ok (.ifCond .eq 7, 3) := dk_153 0 7 (dk_at dksL_law_60 15 rfl rfl)
theorem dL_law_1619 : decode cL_law 1619 = .ok (.lconst 1, 1) := dk_10 (dk_at dksL_law_60 18 rfl rfl)
theorem dL_law_1620 : decode cL_law 1620 = .ok (.goto 4, 3) := dk_167 0 4 (dk_at dksL_law_60 19 rfl rfl)
theorem dL_law_1623 : decode cL_law 1623 = .ok (.lconst 0, 1) := dk_9 (dk_at dksL_law_60 22 rfl rfl)
theorem dL_law_1624 : decode cL_law 1624 = .ok (.lcmp, 1) := dk_148 (dk_at dksL_law_60 23 rfl rfl)
theorem dL_law_1625 : decode cL_law 1625 = .ok (.ifCond .eq 5, 3) := dk_153 0 5 (dk_at dksL_law_61 0 rfl rfl)
theorem dL_law_1628 : decode cL_law 1628 = .ok (.iconst 0, 1) := dk_3 (dk_at dksL_law_61 3 rfl rfl)
theorem dL_law_1629 : decode cL_law 1629 = .ok (.ireturn, 1) := dk_172 (dk_at dksL_law_61 4 rfl rfl)
theorem dL_law_1630 : decode cL_law 1630 = .ok (.goto 1565, 3) := dk_167 6 29 (dk_at dksL_law_61 5 rfl rfl)
theorem dL_law_1633 : decode cL_law 1633 = .ok (.aload_n 1, 1) := dk_43 (dk_at dksL_law_61 8 rfl rfl)
theorem dL_law_1634 : decode cL_law 1634 = .ok (.aload_n 0, 1) := dk_42 (dk_at dksL_law_61 9 rfl rfl)
theorem dL_law_1635 : decode cL_law 1635 = .ok (.iload 5, 2) := dk_21 5 (dk_at dksL_law_61 10 rfl rfl)
theorem dL_law_1637 : decode cL_law 1637 = .ok (.iconst 1, 1) := dk_4 (dk_at dksL_law_61 12 rfl rfl)
theorem dL_law_1638 : decode cL_law 1638 = .ok (.iadd, 1) := dk_96 (dk_at dksL_law_61 13 rfl rfl)
theorem dL_law_1639 : decode cL_law 1639 = .ok (.iaload, 1) := dk_46 (dk_at dksL_law_61 14 rfl rfl)
theorem dL_law_1640 : decode cL_law 1640 = .ok (.aload_n 0, 1) := dk_42 (dk_at dksL_law_61 15 rfl rfl)
theorem dL_law_1641 : decode cL_law 1641 = .ok (.iload 5, 2) := dk_21 5 (dk_at dksL_law_61 16 rfl rfl)
theorem dL_law_1643 : decode cL_law 1643 = .ok (.iconst 2, 1) := dk_5 (dk_at dksL_law_61 18 rfl rfl)
theorem dL_law_1644 : decode cL_law 1644 = .ok (.iadd, 1) := dk_96 (dk_at dksL_law_61 19 rfl rfl)
theorem dL_law_1645 : decode cL_law 1645 = .ok (.iaload, 1) := dk_46 (dk_at dksL_law_61 20 rfl rfl)
theorem dL_law_1646 : decode cL_law 1646 = .ok (.aload_n 0, 1) := dk_42 (dk_at dksL_law_61 21 rfl rfl)
theorem dL_law_1647 : decode cL_law 1647 = .ok (.iload 5, 2) := dk_21 5 (dk_at dksL_law_61 22 rfl rfl)
theorem dL_law_1649 : decode cL_law 1649 = .ok (.iconst 3, 1) := dk_6 (dk_at dksL_law_62 0 rfl rfl)
theorem dL_law_1650 : decode cL_law 1650 = .ok (.iadd, 1) := dk_96 (dk_at dksL_law_62 1 rfl rfl)
theorem dL_law_1651 : decode cL_law 1651 = .ok (.iaload, 1) := dk_46 (dk_at dksL_law_62 2 rfl rfl)
theorem dL_law_1652 : decode cL_law 1652 = .ok (.aload_n 3, 1) := dk_45 (dk_at dksL_law_62 3 rfl rfl)
theorem dL_law_1653 : decode cL_law 1653 = .ok (.invokestatic 249, 3) := dk_184 0 249 (dk_at dksL_law_62 4 rfl rfl)
theorem dL_law_1656 : decode cL_law 1656 = .ok (.istore 6, 2) := dk_54 6 (dk_at dksL_law_62 7 rfl rfl)
theorem dL_law_1658 : decode cL_law 1658 = .ok (.aload_n 2, 1) := dk_44 (dk_at dksL_law_62 9 rfl rfl)
theorem dL_law_1659 : decode cL_law 1659 = .ok (.aload_n 0, 1) := dk_42 (dk_at dksL_law_62 10 rfl rfl)
theorem dL_law_1660 : decode cL_law 1660 = .ok (.iload 5, 2) := dk_21 5 (dk_at dksL_law_62 11 rfl rfl)
theorem dL_law_1662 : decode cL_law 1662 = .ok (.iconst 1, 1) := dk_4 (dk_at dksL_law_62 13 rfl rfl)
theorem dL_law_1663 : decode cL_law 1663 = .ok (.iadd, 1) := dk_96 (dk_at dksL_law_62 14 rfl rfl)
theorem dL_law_1664 : decode cL_law 1664 = .ok (.iaload, 1) := dk_46 (dk_at dksL_law_62 15 rfl rfl)
theorem dL_law_1665 : decode cL_law 1665 = .ok (.aload_n 0, 1) := dk_42 (dk_at dksL_law_62 16 rfl rfl)
theorem dL_law_1666 : decode cL_law 1666 = .ok (.iload 5, 2) := dk_21 5 (dk_at dksL_law_62 17 rfl rfl)
theorem dL_law_1668 : decode cL_law 1668 = .ok (.iconst 2, 1) := dk_5 (dk_at dksL_law_62 19 rfl rfl)
theorem dL_law_1669 : decode cL_law 1669 = .ok (.iadd, 1) := dk_96 (dk_at dksL_law_62 20 rfl rfl)
theorem dL_law_1670 : decode cL_law 1670 = .ok (.iaload, 1) := dk_46 (dk_at dksL_law_62 21 rfl rfl)
theorem dL_law_1671 : decode cL_law 1671 = .ok (.aload_n 0, 1) := dk_42 (dk_at dksL_law_62 22 rfl rfl)
theorem dL_law_1672 : decode cL_law 1672 = .ok (.iload 5, 2) := dk_21 5 (dk_at dksL_law_63 0 rfl rfl)
theorem dL_law_1674 : decode cL_law 1674 = .ok (.iconst 3, 1) := dk_6 (dk_at dksL_law_63 2 rfl rfl)
theorem dL_law_1675 : decode cL_law 1675 = .ok (.iadd, 1) := dk_96 (dk_at dksL_law_63 3 rfl rfl)
theorem dL_law_1676 : decode cL_law 1676 = .ok (.iaload, 1) := dk_46 (dk_at dksL_law_63 4 rfl rfl)
theorem dL_law_1677 : decode cL_law 1677 = .ok (.invokevirtual 251, 3) := dk_182 0 251 (dk_at dksL_law_63 5 rfl rfl)
theorem dL_law_1680 : decode cL_law 1680 = .ok (.istore 7, 2) := dk_54 7 (dk_at dksL_law_63 8 rfl rfl)
theorem dL_law_1682 : decode cL_law 1682 = .ok (.aload_n 2, 1) := dk_44 (dk_at dksL_law_63 10 rfl rfl)
theorem dL_law_1683 : decode cL_law 1683 = .ok (.invokevirtual 178, 3) := dk_182 0 178 (dk_at dksL_law_63 11 rfl rfl)
theorem dL_law_1686 : decode cL_law 1686 = .ok (.iload 6, 2) := dk_21 6 (dk_at dksL_law_63 14 rfl rfl)
theorem dL_law_1688 : decode cL_law 1688 = .ok (.if_icmp .eq 5, 3) := dk_159 0 5 (dk_at dksL_law_63 16 rfl rfl)
theorem dL_law_1691 : decode cL_law 1691 = .ok (.iconst 0, 1) := dk_3 (dk_at dksL_law_63 19 rfl rfl)
theorem dL_law_1692 : decode cL_law 1692 = .ok (.ireturn, 1) := dk_172 (dk_at dksL_law_63 20 rfl rfl)
theorem dL_law_1693 : decode cL_law 1693 = .ok (.iload 6, 2) := dk_21 6 (dk_at dksL_law_63 21 rfl rfl)
theorem dL_law_1695 : decode cL_law 1695 = .ok (.ifCond .ne 22, 3) := dk_154 0 22 (dk_at dksL_law_64 0 rfl rfl)
theorem dL_law_1698 : decode cL_law 1698 = .ok (.aload_n 3, 1) := dk_45 (dk_at dksL_law_64 3 rfl rfl)
theorem dL_law_1699 : decode cL_law 1699 = .ok (.iconst 0, 1) := dk_3 (dk_at dksL_law_64 4 rfl rfl)
theorem dL_law_1700 : decode cL_law 1700 = .ok (.laload, 1) := dk_47 (dk_at dksL_law_64 5 rfl rfl)
theorem dL_law_1701 : decode cL_law 1701 = .ok (.iload 7, 2) := dk_21 7 (dk_at dksL_law_64 6 rfl rfl)
theorem dL_law_1703 : decode cL_law 1703 = .ok (.ifCond .eq 7, 3) := dk_153 0 7 (dk_at dksL_law_64 8 rfl rfl)
theorem dL_law_1706 : decode cL_law 1706 = .ok (.lconst 1, 1) := dk_10 (dk_at dksL_law_64 11 rfl rfl)
theorem dL_law_1707 : decode cL_law 1707 = .ok (.goto 4, 3) := dk_167 0 4 (dk_at dksL_law_64 12 rfl rfl)
theorem dL_law_1710 : decode cL_law 1710 = .ok (.lconst 0, 1) := dk_9 (dk_at dksL_law_64 15 rfl rfl)
theorem dL_law_1711 : decode cL_law 1711 = .ok (.lcmp, 1) := dk_148 (dk_at dksL_law_64 16 rfl rfl)
theorem dL_law_1712 : decode cL_law 1712 = .ok (.ifCond .eq 5, 3) := dk_153 0 5 (dk_at dksL_law_64 17 rfl rfl)
theorem dL_law_1715 : decode cL_law 1715 = .ok (.iconst 0, 1) := dk_3 (dk_at dksL_law_64 20 rfl rfl)
theorem dL_law_1716 : decode cL_law 1716 = .ok (.ireturn, 1) := dk_172 (dk_at dksL_law_64 21 rfl rfl)
theorem dL_law_1717 : decode cL_law 1717 = .ok (.goto 1478, 3) := dk_167 5 198 (dk_at dksL_law_65 0 rfl rfl)
theorem dL_law_1720 : decode cL_law 1720 = .ok (.aload_n 1, 1) := dk_43 (dk_at dksL_law_65 3 rfl rfl)
theorem dL_law_1721 : decode cL_law 1721 = .ok (.aload_n 0, 1) := dk_42 (dk_at dksL_law_65 4 rfl rfl)
theorem dL_law_1722 : decode cL_law 1722 = .ok (.iload 5, 2) := dk_21 5 (dk_at dksL_law_65 5 rfl rfl)
theorem dL_law_1724 : decode cL_law 1724 = .ok (.iconst 1, 1) := dk_4 (dk_at dksL_law_65 7 rfl rfl)
theorem dL_law_1725 : decode cL_law 1725 = .ok (.iadd, 1) := dk_96 (dk_at dksL_law_65 8 rfl rfl)
theorem dL_law_1726 : decode cL_law 1726 = .ok (.iaload, 1) := dk_46 (dk_at dksL_law_65 9 rfl rfl)
theorem dL_law_1727 : decode cL_law 1727 = .ok (.aload_n 0, 1) := dk_42 (dk_at dksL_law_65 10 rfl rfl)
theorem dL_law_1728 : decode cL_law 1728 = .ok (.iload 5, 2) := dk_21 5 (dk_at dksL_law_65 11 rfl rfl)
theorem dL_law_1730 : decode cL_law 1730 = .ok (.iconst 2, 1) := dk_5 (dk_at dksL_law_65 13 rfl rfl)
theorem dL_law_1731 : decode cL_law 1731 = .ok (.iadd, 1) := dk_96 (dk_at dksL_law_65 14 rfl rfl)
theorem dL_law_1732 : decode cL_law 1732 = .ok (.iaload, 1) := dk_46 (dk_at dksL_law_65 15 rfl rfl)
theorem dL_law_1733 : decode cL_law 1733 = .ok (.aload_n 0, 1) := dk_42 (dk_at dksL_law_65 16 rfl rfl)
theorem dL_law_1734 : decode cL_law 1734 = .ok (.iload 5, 2) := dk_21 5 (dk_at dksL_law_65 17 rfl rfl)
theorem dL_law_1736 : decode cL_law 1736 = .ok (.iconst 3, 1) := dk_6 (dk_at dksL_law_65 19 rfl rfl)
theorem dL_law_1737 : decode cL_law 1737 = .ok (.iadd, 1) := dk_96 (dk_at dksL_law_65 20 rfl rfl)
theorem dL_law_1738 : decode cL_law 1738 = .ok (.iaload, 1) := dk_46 (dk_at dksL_law_65 21 rfl rfl)
theorem dL_law_1739 : decode cL_law 1739 = .ok (.aload_n 3, 1) := dk_45 (dk_at dksL_law_65 22 rfl rfl)
theorem dL_law_1740 : decode cL_law 1740 = .ok (.invokestatic 252, 3) := dk_184 0 252 (dk_at dksL_law_66 0 rfl rfl)
theorem dL_law_1743 : decode cL_law 1743 = .ok (.istore 6, 2) := dk_54 6 (dk_at dksL_law_66 3 rfl rfl)
theorem dL_law_1745 : decode cL_law 1745 = .ok (.aload_n 2, 1) := dk_44 (dk_at dksL_law_66 5 rfl rfl)
theorem dL_law_1746 : decode cL_law 1746 = .ok (.aload_n 0, 1) := dk_42 (dk_at dksL_law_66 6 rfl rfl)
theorem dL_law_1747 : decode cL_law 1747 = .ok (.iload 5, 2) := dk_21 5 (dk_at dksL_law_66 7 rfl rfl)
theorem dL_law_1749 : decode cL_law 1749 = .ok (.iconst 1, 1) := dk_4 (dk_at dksL_law_66 9 rfl rfl)
theorem dL_law_1750 : decode cL_law 1750 = .ok (.iadd, 1) := dk_96 (dk_at dksL_law_66 10 rfl rfl)
theorem dL_law_1751 : decode cL_law 1751 = .ok (.iaload, 1) := dk_46 (dk_at dksL_law_66 11 rfl rfl)
theorem dL_law_1752 : decode cL_law 1752 = .ok (.aload_n 0, 1) := dk_42 (dk_at dksL_law_66 12 rfl rfl)
theorem dL_law_1753 : decode cL_law 1753 = .ok (.iload 5, 2) := dk_21 5 (dk_at dksL_law_66 13 rfl rfl)
theorem dL_law_1755 : decode cL_law 1755 = .ok (.iconst 2, 1) := dk_5 (dk_at dksL_law_66 15 rfl rfl)
theorem dL_law_1756 : decode cL_law 1756 = .ok (.iadd, 1) := dk_96 (dk_at dksL_law_66 16 rfl rfl)
theorem dL_law_1757 : decode cL_law 1757 = .ok (.iaload, 1) := dk_46 (dk_at dksL_law_66 17 rfl rfl)
theorem dL_law_1758 : decode cL_law 1758 = .ok (.aload_n 0, 1) := dk_42 (dk_at dksL_law_66 18 rfl rfl)
theorem dL_law_1759 : decode cL_law 1759 = .ok (.iload 5, 2) := dk_21 5 (dk_at dksL_law_66 19 rfl rfl)
theorem dL_law_1761 : decode cL_law 1761 = .ok (.iconst 3, 1) := dk_6 (dk_at dksL_law_66 21 rfl rfl)
theorem dL_law_1762 : decode cL_law 1762 = .ok (.iadd, 1) := dk_96 (dk_at dksL_law_66 22 rfl rfl)
theorem dL_law_1763 : decode cL_law 1763 = .ok (.iaload, 1) := dk_46 (dk_at dksL_law_66 23 rfl rfl)
theorem dL_law_1764 : decode cL_law 1764 = .ok (.invokevirtual 254, 3) := dk_182 0 254 (dk_at dksL_law_67 0 rfl rfl)
theorem dL_law_1767 : decode cL_law 1767 = .ok (.istore 7, 2) := dk_54 7 (dk_at dksL_law_67 3 rfl rfl)
theorem dL_law_1769 : decode cL_law 1769 = .ok (.aload_n 2, 1) := dk_44 (dk_at dksL_law_67 5 rfl rfl)
theorem dL_law_1770 : decode cL_law 1770 = .ok (.invokevirtual 178, 3) := dk_182 0 178 (dk_at dksL_law_67 6 rfl rfl)
theorem dL_law_1773 : decode cL_law 1773 = .ok (.iload 6, 2) := dk_21 6 (dk_at dksL_law_67 9 rfl rfl)
theorem dL_law_1775 : decode cL_law 1775 = .ok (.if_icmp .eq 5, 3) := dk_159 0 5 (dk_at dksL_law_67 11 rfl rfl)
theorem dL_law_1778 : decode cL_law 1778 = .ok (.iconst 0, 1) := dk_3 (dk_at dksL_law_67 14 rfl rfl)
theorem dL_law_1779 : decode cL_law 1779 = .ok (.ireturn, 1) := dk_172 (dk_at dksL_law_67 15 rfl rfl)
theorem dL_law_1780 : decode cL_law 1780 = .ok (.iload 6, 2) := dk_21 6 (dk_at dksL_law_67 16 rfl rfl)
theorem dL_law_1782 : decode cL_law 1782 = .ok (.ifCond .ne 15, 3) := dk_154 0 15 (dk_at dksL_law_67 18 rfl rfl)
theorem dL_law_1785 : decode cL_law 1785 = .ok (.aload_n 3, 1) := dk_45 (dk_at dksL_law_67 21 rfl rfl)
theorem dL_law_1786 : decode cL_law 1786 = .ok (.iconst 0, 1) := dk_3 (dk_at dksL_law_67 22 rfl rfl)
theorem dL_law_1787 : decode cL_law 1787 = .ok (.laload, 1) := dk_47 (dk_at dksL_law_67 23 rfl rfl)
theorem dL_law_1788 : decode cL_law 1788 = .ok (.iload 7, 2) := dk_21 7 (dk_at dksL_law_68 0 rfl rfl)
theorem dL_law_1790 : decode cL_law 1790 = .ok (.i2l, 1) := dk_133 (dk_at dksL_law_68 2 rfl rfl)
theorem dL_law_1791 : decode cL_law 1791 = .ok (.lcmp, 1) := dk_148 (dk_at dksL_law_68 3 rfl rfl)
theorem dL_law_1792 : decode cL_law 1792 = .ok (.ifCond .eq 5, 3) := dk_153 0 5 (dk_at dksL_law_68 4 rfl rfl)
theorem dL_law_1795 : decode cL_law 1795 = .ok (.iconst 0, 1) := dk_3 (dk_at dksL_law_68 7 rfl rfl)
theorem dL_law_1796 : decode cL_law 1796 = .ok (.ireturn, 1) := dk_172 (dk_at dksL_law_68 8 rfl rfl)
theorem dL_law_1797 : decode cL_law 1797 = .ok (.goto 1398, 3) := dk_167 5 118 (dk_at dksL_law_68 9 rfl rfl)
theorem dL_law_1800 : decode cL_law 1800 = .ok (.aload_n 1, 1) := dk_43 (dk_at dksL_law_68 12 rfl rfl)
theorem dL_law_1801 : decode cL_law 1801 = .ok (.aload_n 0, 1) := dk_42 (dk_at dksL_law_68 13 rfl rfl)
theorem dL_law_1802 : decode cL_law 1802 = .ok (.iload 5, 2) := dk_21 5 (dk_at dksL_law_68 14 rfl rfl)
theorem dL_law_1804 : decode cL_law 1804 = .ok (.iconst 1, 1) := dk_4 (dk_at dksL_law_68 16 rfl rfl)
theorem dL_law_1805 : decode cL_law 1805 = .ok (.iadd, 1) := dk_96 (dk_at dksL_law_68 17 rfl rfl)
theorem dL_law_1806 : decode cL_law 1806 = .ok (.iaload, 1) := dk_46 (dk_at dksL_law_68 18 rfl rfl)
theorem dL_law_1807 : decode cL_law 1807 = .ok (.aload_n 0, 1) := dk_42 (dk_at dksL_law_68 19 rfl rfl)
theorem dL_law_1808 : decode cL_law 1808 = .ok (.iload 5, 2) := dk_21 5 (dk_at dksL_law_68 20 rfl rfl)
theorem dL_law_1810 : decode cL_law 1810 = .ok (.iconst 2, 1) := dk_5 (dk_at dksL_law_68 22 rfl rfl)
theorem dL_law_1811 : decode cL_law 1811 = .ok (.iadd, 1) := dk_96 (dk_at dksL_law_68 23 rfl rfl)
theorem dL_law_1812 : decode cL_law 1812 = .ok (.iaload, 1) := dk_46 (dk_at dksL_law_69 0 rfl rfl)
theorem dL_law_1813 : decode cL_law 1813 = .ok (.aload_n 0, 1) := dk_42 (dk_at dksL_law_69 1 rfl rfl)
theorem dL_law_1814 : decode cL_law 1814 = .ok (.iload 5, 2) := dk_21 5 (dk_at dksL_law_69 2 rfl rfl)
theorem dL_law_1816 : decode cL_law 1816 = .ok (.iconst 3, 1) := dk_6 (dk_at dksL_law_69 4 rfl rfl)
theorem dL_law_1817 : decode cL_law 1817 = .ok (.iadd, 1) := dk_96 (dk_at dksL_law_69 5 rfl rfl)
theorem dL_law_1818 : decode cL_law 1818 = .ok (.iaload, 1) := dk_46 (dk_at dksL_law_69 6 rfl rfl)
theorem dL_law_1819 : decode cL_law 1819 = .ok (.aload_n 3, 1) := dk_45 (dk_at dksL_law_69 7 rfl rfl)
theorem dL_law_1820 : decode cL_law 1820 = .ok (.invokestatic 255, 3) := dk_184 0 255 (dk_at dksL_law_69 8 rfl rfl)
theorem dL_law_1823 : decode cL_law 1823 = .ok (.istore 6, 2) := dk_54 6 (dk_at dksL_law_69 11 rfl rfl)
theorem dL_law_1825 : decode cL_law 1825 = .ok (.aload_n 2, 1) := dk_44 (dk_at dksL_law_69 13 rfl rfl)
theorem dL_law_1826 : decode cL_law 1826 = .ok (.aload_n 0, 1) := dk_42 (dk_at dksL_law_69 14 rfl rfl)
theorem dL_law_1827 : decode cL_law 1827 = .ok (.iload 5, 2) := dk_21 5 (dk_at dksL_law_69 15 rfl rfl)
theorem dL_law_1829 : decode cL_law 1829 = .ok (.iconst 1, 1) := dk_4 (dk_at dksL_law_69 17 rfl rfl)
theorem dL_law_1830 : decode cL_law 1830 = .ok (.iadd, 1) := dk_96 (dk_at dksL_law_69 18 rfl rfl)
theorem dL_law_1831 : decode cL_law 1831 = .ok (.iaload, 1) := dk_46 (dk_at dksL_law_69 19 rfl rfl)
theorem dL_law_1832 : decode cL_law 1832 = .ok (.aload_n 0, 1) := dk_42 (dk_at dksL_law_69 20 rfl rfl)
theorem dL_law_1833 : decode cL_law 1833 = .ok (.iload 5, 2) := dk_21 5 (dk_at dksL_law_69 21 rfl rfl)
theorem dL_law_1835 : decode cL_law 1835 = .ok (.iconst 2, 1) := dk_5 (dk_at dksL_law_69 23 rfl rfl)
theorem dL_law_1836 : decode cL_law 1836 = .ok (.iadd, 1) := dk_96 (dk_at dksL_law_70 0 rfl rfl)
theorem dL_law_1837 : decode cL_law 1837 = .ok (.iaload, 1) := dk_46 (dk_at dksL_law_70 1 rfl rfl)
theorem dL_law_1838 : decode cL_law 1838 = .ok (.aload_n 0, 1) := dk_42 (dk_at dksL_law_70 2 rfl rfl)
theorem dL_law_1839 : decode cL_law 1839 = .ok (.iload 5, 2) := dk_21 5 (dk_at dksL_law_70 3 rfl rfl)
theorem dL_law_1841 : decode cL_law 1841 = .ok (.iconst 3, 1) := dk_6 (dk_at dksL_law_70 5 rfl rfl)
theorem dL_law_1842 : decode cL_law 1842 = .ok (.iadd, 1) := dk_96 (dk_at dksL_law_70 6 rfl rfl)
theorem dL_law_1843 : decode cL_law 1843 = .ok (.iaload, 1) := dk_46 (dk_at dksL_law_70 7 rfl rfl)
theorem dL_law_1844 : decode cL_law 1844 = .ok (.invokevirtual 257, 3) := dk_182 1 1 (dk_at dksL_law_70 8 rfl rfl)
theorem dL_law_1847 : decode cL_law 1847 = .ok (.istore 7, 2) := dk_54 7 (dk_at dksL_law_70 11 rfl rfl)
theorem dL_law_1849 : decode cL_law 1849 = .ok (.aload_n 2, 1) := dk_44 (dk_at dksL_law_70 13 rfl rfl)
theorem dL_law_1850 : decode cL_law 1850 = .ok (.invokevirtual 178, 3) := dk_182 0 178 (dk_at dksL_law_70 14 rfl rfl)
theorem dL_law_1853 : decode cL_law 1853 = .ok (.iload 6, 2) := dk_21 6 (dk_at dksL_law_70 17 rfl rfl)
theorem dL_law_1855 : decode cL_law 1855 = .ok (.if_icmp .eq 5, 3) := dk_159 0 5 (dk_at dksL_law_70 19 rfl rfl)
theorem dL_law_1858 : decode cL_law 1858 = .ok (.iconst 0, 1) := dk_3 (dk_at dksL_law_70 22 rfl rfl)
theorem dL_law_1859 : decode cL_law 1859 = .ok (.ireturn, 1) := dk_172 (dk_at dksL_law_70 23 rfl rfl)
theorem dL_law_1860 : decode cL_law 1860 = .ok (.iload 6, 2) := dk_21 6 (dk_at dksL_law_71 0 rfl rfl)
theorem dL_law_1862 : decode cL_law 1862 = .ok (.ifCond .ne 15, 3) := dk_154 0 15 (dk_at dksL_law_71 2 rfl rfl)
theorem dL_law_1865 : decode cL_law 1865 = .ok (.aload_n 3, 1) := dk_45 (dk_at dksL_law_71 5 rfl rfl)
theorem dL_law_1866 : decode cL_law 1866 = .ok (.iconst 0, 1) := dk_3 (dk_at dksL_law_71 6 rfl rfl)
theorem dL_law_1867 : decode cL_law 1867 = .ok (.laload, 1) := dk_47 (dk_at dksL_law_71 7 rfl rfl)
theorem dL_law_1868 : decode cL_law 1868 = .ok (.iload 7, 2) := dk_21 7 (dk_at dksL_law_71 8 rfl rfl)
theorem dL_law_1870 : decode cL_law 1870 = .ok (.i2l, 1) := dk_133 (dk_at dksL_law_71 10 rfl rfl)
theorem dL_law_1871 : decode cL_law 1871 = .ok (.lcmp, 1) := dk_148 (dk_at dksL_law_71 11 rfl rfl)
theorem dL_law_1872 : decode cL_law 1872 = .ok (.ifCond .eq 5, 3) := dk_153 0 5 (dk_at dksL_law_71 12 rfl rfl)
theorem dL_law_1875 : decode cL_law 1875 = .ok (.iconst 0, 1) := dk_3 (dk_at dksL_law_71 15 rfl rfl)
theorem dL_law_1876 : decode cL_law 1876 = .ok (.ireturn, 1) := dk_172 (dk_at dksL_law_71 16 rfl rfl)
theorem dL_law_1877 : decode cL_law 1877 = .ok (.goto 1318, 3) := dk_167 5 38 (dk_at dksL_law_71 17 rfl rfl)
theorem dL_law_1880 : decode cL_law 1880 = .ok (.aload_n 1, 1) := dk_43 (dk_at dksL_law_71 20 rfl rfl)
theorem dL_law_1881 : decode cL_law 1881 = .ok (.aload_n 0, 1) := dk_42 (dk_at dksL_law_71 21 rfl rfl)
theorem dL_law_1882 : decode cL_law 1882 = .ok (.iload 5, 2) := dk_21 5 (dk_at dksL_law_71 22 rfl rfl)
theorem dL_law_1884 : decode cL_law 1884 = .ok (.iconst 1, 1) := dk_4 (dk_at dksL_law_72 0 rfl rfl)
theorem dL_law_1885 : decode cL_law 1885 = .ok (.iadd, 1) := dk_96 (dk_at dksL_law_72 1 rfl rfl)
theorem dL_law_1886 : decode cL_law 1886 = .ok (.iaload, 1) := dk_46 (dk_at dksL_law_72 2 rfl rfl)
theorem dL_law_1887 : decode cL_law 1887 = .ok (.aload_n 0, 1) := dk_42 (dk_at dksL_law_72 3 rfl rfl)
theorem dL_law_1888 : decode cL_law 1888 = .ok (.iload 5, 2) := dk_21 5 (dk_at dksL_law_72 4 rfl rfl)
theorem dL_law_1890 : decode cL_law 1890 = .ok (.iconst 2, 1) := dk_5 (dk_at dksL_law_72 6 rfl rfl)
theorem dL_law_1891 : decode cL_law 1891 = .ok (.iadd, 1) := dk_96 (dk_at dksL_law_72 7 rfl rfl)
theorem dL_law_1892 : decode cL_law 1892 = .ok (.iaload, 1) := dk_46 (dk_at dksL_law_72 8 rfl rfl)
theorem dL_law_1893 : decode cL_law 1893 = .ok (.aload_n 0, 1) := dk_42 (dk_at dksL_law_72 9 rfl rfl)
theorem dL_law_1894 : decode cL_law 1894 = .ok (.iload 5, 2) := dk_21 5 (dk_at dksL_law_72 10 rfl rfl)
theorem dL_law_1896 : decode cL_law 1896 = .ok (.iconst 3, 1) := dk_6 (dk_at dksL_law_72 12 rfl rfl)
theorem dL_law_1897 : decode cL_law 1897 = .ok (.iadd, 1) := dk_96 (dk_at dksL_law_72 13 rfl rfl)
theorem dL_law_1898 : decode cL_law 1898 = .ok (.iaload, 1) := dk_46 (dk_at dksL_law_72 14 rfl rfl)
theorem dL_law_1899 : decode cL_law 1899 = .ok (.aload_n 3, 1) := dk_45 (dk_at dksL_law_72 15 rfl rfl)
theorem dL_law_1900 : decode cL_law 1900 = .ok (.invokestatic 258, 3) := dk_184 1 2 (dk_at dksL_law_72 16 rfl rfl)
theorem dL_law_1903 : decode cL_law 1903 = .ok (.istore 6, 2) := dk_54 6 (dk_at dksL_law_72 19 rfl rfl)
theorem dL_law_1905 : decode cL_law 1905 = .ok (.aload_n 2, 1) := dk_44 (dk_at dksL_law_72 21 rfl rfl)
theorem dL_law_1906 : decode cL_law 1906 = .ok (.aload_n 0, 1) := dk_42 (dk_at dksL_law_72 22 rfl rfl)
theorem dL_law_1907 : decode cL_law 1907 = .ok (.iload 5, 2) := dk_21 5 (dk_at dksL_law_73 0 rfl rfl)
theorem dL_law_1909 : decode cL_law 1909 = .ok (.iconst 1, 1) := dk_4 (dk_at dksL_law_73 2 rfl rfl)
theorem dL_law_1910 : decode cL_law 1910 = .ok (.iadd, 1) := dk_96 (dk_at dksL_law_73 3 rfl rfl)
theorem dL_law_1911 : decode cL_law 1911 = .ok (.iaload, 1) := dk_46 (dk_at dksL_law_73 4 rfl rfl)
theorem dL_law_1912 : decode cL_law 1912 = .ok (.aload_n 0, 1) := dk_42 (dk_at dksL_law_73 5 rfl rfl)
theorem dL_law_1913 : decode cL_law 1913 = .ok (.iload 5, 2) := dk_21 5 (dk_at dksL_law_73 6 rfl rfl)
theorem dL_law_1915 : decode cL_law 1915 = .ok (.iconst 2, 1) := dk_5 (dk_at dksL_law_73 8 rfl rfl)
theorem dL_law_1916 : decode cL_law 1916 = .ok (.iadd, 1) := dk_96 (dk_at dksL_law_73 9 rfl rfl)
theorem dL_law_1917 : decode cL_law 1917 = .ok (.iaload, 1) := dk_46 (dk_at dksL_law_73 10 rfl rfl)
theorem dL_law_1918 : decode cL_law 1918 = .ok (.aload_n 0, 1) := dk_42 (dk_at dksL_law_73 11 rfl rfl)
theorem dL_law_1919 : decode cL_law 1919 = .ok (.iload 5, 2) := dk_21 5 (dk_at dksL_law_73 12 rfl rfl)
theorem dL_law_1921 : decode cL_law 1921 = .ok (.iconst 3, 1) := dk_6 (dk_at dksL_law_73 14 rfl rfl)
theorem dL_law_1922 : decode cL_law 1922 = .ok (.iadd, 1) := dk_96 (dk_at dksL_law_73 15 rfl rfl)
theorem dL_law_1923 : decode cL_law 1923 = .ok (.iaload, 1) := dk_46 (dk_at dksL_law_73 16 rfl rfl)
theorem dL_law_1924 : decode cL_law 1924 = .ok (.invokevirtual 260, 3) := dk_182 1 4 (dk_at dksL_law_73 17 rfl rfl)
theorem dL_law_1927 : decode cL_law 1927 = .ok (.istore 7, 2) := dk_54 7 (dk_at dksL_law_73 20 rfl rfl)
theorem dL_law_1929 : decode cL_law 1929 = .ok (.aload_n 2, 1) := dk_44 (dk_at dksL_law_73 22 rfl rfl)
theorem dL_law_1930 : decode cL_law 1930 = .ok (.invokevirtual 178, 3) := dk_182 0 178 (dk_at dksL_law_74 0 rfl rfl)
theorem dL_law_1933 : decode cL_law 1933 = .ok (.iload 6, 2) := dk_21 6 (dk_at dksL_law_74 3 rfl rfl)
theorem dL_law_1935 : decode cL_law 1935 = .ok (.if_icmp .eq 5, 3) := dk_159 0 5 (dk_at dksL_law_74 5 rfl rfl)
theorem dL_law_1938 : decode cL_law 1938 = .ok (.iconst 0, 1) := dk_3 (dk_at dksL_law_74 8 rfl rfl)
theorem dL_law_1939 : decode cL_law 1939 = .ok (.ireturn, 1) := dk_172 (dk_at dksL_law_74 9 rfl rfl)
theorem dL_law_1940 : decode cL_law 1940 = .ok (.iload 6, 2) := dk_21 6 (dk_at dksL_law_74 10 rfl rfl)
theorem dL_law_1942 : decode cL_law 1942 = .ok (.ifCond .ne 15, 3) := dk_154 0 15 (dk_at dksL_law_74 12 rfl rfl)
theorem dL_law_1945 : decode cL_law 1945 = .ok (.aload_n 3, 1) := dk_45 (dk_at dksL_law_74 15 rfl rfl)
theorem dL_law_1946 : decode cL_law 1946 = .ok (.iconst 0, 1) := dk_3 (dk_at dksL_law_74 16 rfl rfl)
theorem dL_law_1947 : decode cL_law 1947 = .ok (.laload, 1) := dk_47 (dk_at dksL_law_74 17 rfl rfl)
theorem dL_law_1948 : decode cL_law 1948 = .ok (.iload 7, 2) := dk_21 7 (dk_at dksL_law_74 18 rfl rfl)
theorem dL_law_1950 : decode cL_law 1950 = .ok (.i2l, 1) := dk_133 (dk_at dksL_law_74 20 rfl rfl)
theorem dL_law_1951 : decode cL_law 1951 = .ok (.lcmp, 1) := dk_148 (dk_at dksL_law_74 21 rfl rfl)
theorem dL_law_1952 : decode cL_law 1952 = .ok (.ifCond .eq 5, 3) := dk_153 0 5 (dk_at dksL_law_75 0 rfl rfl)
theorem dL_law_1955 : decode cL_law 1955 = .ok (.iconst 0, 1) := dk_3 (dk_at dksL_law_75 3 rfl rfl)
theorem dL_law_1956 : decode cL_law 1956 = .ok (.ireturn, 1) := dk_172 (dk_at dksL_law_75 4 rfl rfl)
theorem dL_law_1957 : decode cL_law 1957 = .ok (.goto 1238, 3) := dk_167 4 214 (dk_at dksL_law_75 5 rfl rfl)
theorem dL_law_1960 : decode cL_law 1960 = .ok (.aload_n 1, 1) := dk_43 (dk_at dksL_law_75 8 rfl rfl)
theorem dL_law_1961 : decode cL_law 1961 = .ok (.invokevirtual 261, 3) := dk_182 1 5 (dk_at dksL_law_75 9 rfl rfl)
theorem dL_law_1964 : decode cL_law 1964 = .ok (.aload_n 2, 1) := dk_44 (dk_at dksL_law_75 12 rfl rfl)
theorem dL_law_1965 : decode cL_law 1965 = .ok (.invokevirtual 264, 3) := dk_182 1 8 (dk_at dksL_law_75 13 rfl rfl)
theorem dL_law_1968 : decode cL_law 1968 = .ok (.if_icmp .eq 1227, 3) := dk_159 4 203 (dk_at dksL_law_75 16 rfl rfl)
theorem dL_law_1971 : decode cL_law 1971 = .ok (.iconst 0, 1) := dk_3 (dk_at dksL_law_75 19 rfl rfl)
theorem dL_law_1972 : decode cL_law 1972 = .ok (.ireturn, 1) := dk_172 (dk_at dksL_law_75 20 rfl rfl)
theorem dL_law_1973 : decode cL_law 1973 = .ok (.aload_n 1, 1) := dk_43 (dk_at dksL_law_75 21 rfl rfl)
theorem dL_law_1974 : decode cL_law 1974 = .ok (.aload_n 0, 1) := dk_42 (dk_at dksL_law_75 22 rfl rfl)
theorem dL_law_1975 : decode cL_law 1975 = .ok (.iload 5, 2) := dk_21 5 (dk_at dksL_law_76 0 rfl rfl)
theorem dL_law_1977 : decode cL_law 1977 = .ok (.iconst 1, 1) := dk_4 (dk_at dksL_law_76 2 rfl rfl)
theorem dL_law_1978 : decode cL_law 1978 = .ok (.iadd, 1) := dk_96 (dk_at dksL_law_76 3 rfl rfl)
theorem dL_law_1979 : decode cL_law 1979 = .ok (.iaload, 1) := dk_46 (dk_at dksL_law_76 4 rfl rfl)
theorem dL_law_1980 : decode cL_law 1980 = .ok (.aload_n 3, 1) := dk_45 (dk_at dksL_law_76 5 rfl rfl)
theorem dL_law_1981 : decode cL_law 1981 = .ok (.invokestatic 265, 3) := dk_184 1 9 (dk_at dksL_law_76 6 rfl rfl)
theorem dL_law_1984 : decode cL_law 1984 = .ok (.istore 6, 2) := dk_54 6 (dk_at dksL_law_76 9 rfl rfl)
theorem dL_law_1986 : decode cL_law 1986 = .ok (.aload_n 2, 1) := dk_44 (dk_at dksL_law_76 11 rfl rfl)
theorem dL_law_1987 : decode cL_law 1987 = .ok (.aload_n 0, 1) := dk_42 (dk_at dksL_law_76 12 rfl rfl)
theorem dL_law_1988 : decode cL_law 1988 = .ok (.iload 5, 2) := dk_21 5 (dk_at dksL_law_76 13 rfl rfl)
theorem dL_law_1990 : decode cL_law 1990 = .ok (.iconst 1, 1) := dk_4 (dk_at dksL_law_76 15 rfl rfl)
theorem dL_law_1991 : decode cL_law 1991 = .ok (.iadd, 1) := dk_96 (dk_at dksL_law_76 16 rfl rfl)
theorem dL_law_1992 : decode cL_law 1992 = .ok (.iaload, 1) := dk_46 (dk_at dksL_law_76 17 rfl rfl)
theorem dL_law_1993 : decode cL_law 1993 = .ok (.invokevirtual 267, 3) := dk_182 1 11 (dk_at dksL_law_76 18 rfl rfl)
theorem dL_law_1996 : decode cL_law 1996 = .ok (.istore 7, 2) := dk_54 7 (dk_at dksL_law_76 21 rfl rfl)
theorem dL_law_1998 : decode cL_law 1998 = .ok (.aload_n 2, 1) := dk_44 (dk_at dksL_law_76 23 rfl rfl)
theorem dL_law_1999 : decode cL_law 1999 = .ok (.invokevirtual 178, 3) := dk_182 0 178 (dk_at dksL_law_77 0 rfl rfl)
theorem dL_law_2002 : decode cL_law 2002 = .ok (.iload 6, 2) := dk_21 6 (dk_at dksL_law_77 3 rfl rfl)
theorem dL_law_2004 : decode cL_law 2004 = .ok (.if_icmp .eq 5, 3) := dk_159 0 5 (dk_at dksL_law_77 5 rfl rfl)
theorem dL_law_2007 : decode cL_law 2007 = .ok (.iconst 0, 1) := dk_3 (dk_at dksL_law_77 8 rfl rfl)
theorem dL_law_2008 : decode cL_law 2008 = .ok (.ireturn, 1) := dk_172 (dk_at dksL_law_77 9 rfl rfl)
theorem dL_law_2009 : decode cL_law 2009 = .ok (.iload 6, 2) := dk_21 6 (dk_at dksL_law_77 10 rfl rfl)
theorem dL_law_2011 : decode cL_law 2011 = .ok (.ifCond .ne 15, 3) := dk_154 0 15 (dk_at dksL_law_77 12 rfl rfl)
theorem dL_law_2014 : decode cL_law 2014 = .ok (.aload_n 3, 1) := dk_45 (dk_at dksL_law_77 15 rfl rfl)
theorem dL_law_2015 : decode cL_law 2015 = .ok (.iconst 0, 1) := dk_3 (dk_at dksL_law_77 16 rfl rfl)
theorem dL_law_2016 : decode cL_law 2016 = .ok (.laload, 1) := dk_47 (dk_at dksL_law_77 17 rfl rfl)
theorem dL_law_2017 : decode cL_law 2017 = .ok (.iload 7, 2) := dk_21 7 (dk_at dksL_law_77 18 rfl rfl)
theorem dL_law_2019 : decode cL_law 2019 = .ok (.i2l, 1) := dk_133 (dk_at dksL_law_77 20 rfl rfl)
theorem dL_law_2020 : decode cL_law 2020 = .ok (.lcmp, 1) := dk_148 (dk_at dksL_law_77 21 rfl rfl)
theorem dL_law_2021 : decode cL_law 2021 = .ok (.ifCond .eq 5, 3) := dk_153 0 5 (dk_at dksL_law_78 0 rfl rfl)
theorem dL_law_2024 : decode cL_law 2024 = .ok (.iconst 0, 1) := dk_3 (dk_at dksL_law_78 3 rfl rfl)
theorem dL_law_2025 : decode cL_law 2025 = .ok (.ireturn, 1) := dk_172 (dk_at dksL_law_78 4 rfl rfl)
theorem dL_law_2026 : decode cL_law 2026 = .ok (.goto 1169, 3) := dk_167 4 145 (dk_at dksL_law_78 5 rfl rfl)
theorem dL_law_2029 : decode cL_law 2029 = .ok (.aload_n 1, 1) := dk_43 (dk_at dksL_law_78 8 rfl rfl)
theorem dL_law_2030 : decode cL_law 2030 = .ok (.aload_n 0, 1) := dk_42 (dk_at dksL_law_78 9 rfl rfl)
theorem dL_law_2031 : decode cL_law 2031 = .ok (.iload 5, 2) := dk_21 5 (dk_at dksL_law_78 10 rfl rfl)
theorem dL_law_2033 : decode cL_law 2033 = .ok (.iconst 1, 1) := dk_4 (dk_at dksL_law_78 12 rfl rfl)
theorem dL_law_2034 : decode cL_law 2034 = .ok (.iadd, 1) := dk_96 (dk_at dksL_law_78 13 rfl rfl)
theorem dL_law_2035 : decode cL_law 2035 = .ok (.iaload, 1) := dk_46 (dk_at dksL_law_78 14 rfl rfl)
theorem dL_law_2036 : decode cL_law 2036 = .ok (.aload_n 3, 1) := dk_45 (dk_at dksL_law_78 15 rfl rfl)
theorem dL_law_2037 : decode cL_law 2037 = .ok (.invokestatic 268, 3) := dk_184 1 12 (dk_at dksL_law_78 16 rfl rfl)
theorem dL_law_2040 : decode cL_law 2040 = .ok (.istore 6, 2) := dk_54 6 (dk_at dksL_law_78 19 rfl rfl)
theorem dL_law_2042 : decode cL_law 2042 = .ok (.aload_n 2, 1) := dk_44 (dk_at dksL_law_78 21 rfl rfl)
theorem dL_law_2043 : decode cL_law 2043 = .ok (.aload_n 0, 1) := dk_42 (dk_at dksL_law_78 22 rfl rfl)
theorem dL_law_2044 : decode cL_law 2044 = .ok (.iload 5, 2) := dk_21 5 (dk_at dksL_law_79 0 rfl rfl)
theorem dL_law_2046 : decode cL_law 2046 = .ok (.iconst 1, 1) := dk_4 (dk_at dksL_law_79 2 rfl rfl)
theorem dL_law_2047 : decode cL_law 2047 = .ok (.iadd, 1) := dk_96 (dk_at dksL_law_79 3 rfl rfl)
theorem dL_law_2048 : decode cL_law 2048 = .ok (.iaload, 1) := dk_46 (dk_at dksL_law_79 4 rfl rfl)
theorem dL_law_2049 : decode cL_law 2049 = .ok (.invokevirtual 270, 3) := dk_182 1 14 (dk_at dksL_law_79 5 rfl rfl)
theorem dL_law_2052 : decode cL_law 2052 = .ok (.istore 7, 2) := dk_54 7 (dk_at dksL_law_79 8 rfl rfl)
theorem dL_law_2054 : decode cL_law 2054 = .ok (.aload_n 2, 1) := dk_44 (dk_at dksL_law_79 10 rfl rfl)
theorem dL_law_2055 : decode cL_law 2055 = .ok (.invokevirtual 178, 3) := dk_182 0 178 (dk_at dksL_law_79 11 rfl rfl)
theorem dL_law_2058 : decode cL_law 2058 = .ok (.iload 6, 2) := dk_21 6 (dk_at dksL_law_79 14 rfl rfl)
theorem dL_law_2060 : decode cL_law 2060 = .ok (.if_icmp .eq 5, 3) := dk_159 0 5 (dk_at dksL_law_79 16 rfl rfl)
theorem dL_law_2063 : decode cL_law 2063 = .ok (.iconst 0, 1) := dk_3 (dk_at dksL_law_79 19 rfl rfl)
theorem dL_law_2064 : decode cL_law 2064 = .ok (.ireturn, 1) := dk_172 (dk_at dksL_law_79 20 rfl rfl)
theorem dL_law_2065 : decode cL_law 2065 = .ok (.iload 6, 2) := dk_21 6 (dk_at dksL_law_79 21 rfl rfl)
theorem dL_law_2067 : decode cL_law 2067 = .ok (.ifCond .ne 15, 3) := dk_154 0 15 (dk_at dksL_law_80 0 rfl rfl)
theorem dL_law_2070 : decode cL_law 2070 = .ok (.aload_n 3, 1) := dk_45 (dk_at dksL_law_80 3 rfl rfl)
theorem dL_law_2071 : decode cL_law 2071 = .ok (.iconst 0, 1) := dk_3 (dk_at dksL_law_80 4 rfl rfl)
theorem dL_law_2072 : decode cL_law 2072 = .ok (.laload, 1) := dk_47 (dk_at dksL_law_80 5 rfl rfl)
theorem dL_law_2073 : decode cL_law 2073 = .ok (.iload 7, 2) := dk_21 7 (dk_at dksL_law_80 6 rfl rfl)
theorem dL_law_2075 : decode cL_law 2075 = .ok (.i2l, 1) := dk_133 (dk_at dksL_law_80 8 rfl rfl)
theorem dL_law_2076 : decode cL_law 2076 = .ok (.lcmp, 1) := dk_148 (dk_at dksL_law_80 9 rfl rfl)
theorem dL_law_2077 : decode cL_law 2077 = .ok (.ifCond .eq 5, 3) := dk_153 0 5 (dk_at dksL_law_80 10 rfl rfl)
theorem dL_law_2080 : decode cL_law 2080 = .ok (.iconst 0, 1) := dk_3 (dk_at dksL_law_80 13 rfl rfl)
theorem dL_law_2081 : decode cL_law 2081 = .ok (.ireturn, 1) := dk_172 (dk_at dksL_law_80 14 rfl rfl)
theorem dL_law_2082 : decode cL_law 2082 = .ok (.goto 1113, 3) := dk_167 4 89 (dk_at dksL_law_80 15 rfl rfl)
theorem dL_law_2085 : decode cL_law 2085 = .ok (.aload_n 1, 1) := dk_43 (dk_at dksL_law_80 18 rfl rfl)
theorem dL_law_2086 : decode cL_law 2086 = .ok (.aload_n 0, 1) := dk_42 (dk_at dksL_law_80 19 rfl rfl)
theorem dL_law_2087 : decode cL_law 2087 = .ok (.iload 5, 2) := dk_21 5 (dk_at dksL_law_80 20 rfl rfl)
theorem dL_law_2089 : decode cL_law 2089 = .ok (.iconst 1, 1) := dk_4 (dk_at dksL_law_80 22 rfl rfl)
theorem dL_law_2090 : decode cL_law 2090 = .ok (.iadd, 1) := dk_96 (dk_at dksL_law_80 23 rfl rfl)
theorem dL_law_2091 : decode cL_law 2091 = .ok (.iaload, 1) := dk_46 (dk_at dksL_law_81 0 rfl rfl)
theorem dL_law_2092 : decode cL_law 2092 = .ok (.aload_n 3, 1) := dk_45 (dk_at dksL_law_81 1 rfl rfl)
theorem dL_law_2093 : decode cL_law 2093 = .ok (.invokestatic 271, 3) := dk_184 1 15 (dk_at dksL_law_81 2 rfl rfl)
theorem dL_law_2096 : decode cL_law 2096 = .ok (.istore 6, 2) := dk_54 6 (dk_at dksL_law_81 5 rfl rfl)
theorem dL_law_2098 : decode cL_law 2098 = .ok (.aload_n 2, 1) := dk_44 (dk_at dksL_law_81 7 rfl rfl)
theorem dL_law_2099 : decode cL_law 2099 = .ok (.aload_n 0, 1) := dk_42 (dk_at dksL_law_81 8 rfl rfl)
theorem dL_law_2100 : decode cL_law 2100 = .ok (.iload 5, 2) := dk_21 5 (dk_at dksL_law_81 9 rfl rfl)
theorem dL_law_2102 : decode cL_law 2102 = .ok (.iconst 1, 1) := dk_4 (dk_at dksL_law_81 11 rfl rfl)
theorem dL_law_2103 : decode cL_law 2103 = .ok (.iadd, 1) := dk_96 (dk_at dksL_law_81 12 rfl rfl)
theorem dL_law_2104 : decode cL_law 2104 = .ok (.iaload, 1) := dk_46 (dk_at dksL_law_81 13 rfl rfl)
theorem dL_law_2105 : decode cL_law 2105 = .ok (.invokevirtual 273, 3) := dk_182 1 17 (dk_at dksL_law_81 14 rfl rfl)
theorem dL_law_2108 : decode cL_law 2108 = .ok (.istore 7, 2) := dk_54 7 (dk_at dksL_law_81 17 rfl rfl)
theorem dL_law_2110 : decode cL_law 2110 = .ok (.aload_n 2, 1) := dk_44 (dk_at dksL_law_81 19 rfl rfl)
theorem dL_law_2111 : decode cL_law 2111 = .ok (.invokevirtual 178, 3) := dk_182 0 178 (dk_at dksL_law_81 20 rfl rfl)
theorem dL_law_2114 : decode cL_law 2114 = .ok (.iload 6, 2) := dk_21 6 (dk_at dksL_law_82 0 rfl rfl)
theorem dL_law_2116 : decode cL_law 2116 = .ok (.if_icmp .eq 5, 3) := dk_159 0 5 (dk_at dksL_law_82 2 rfl rfl)
theorem dL_law_2119 : decode cL_law 2119 = .ok (.iconst 0, 1) := dk_3 (dk_at dksL_law_82 5 rfl rfl)
theorem dL_law_2120 : decode cL_law 2120 = .ok (.ireturn, 1) := dk_172 (dk_at dksL_law_82 6 rfl rfl)
theorem dL_law_2121 : decode cL_law 2121 = .ok (.iload 6, 2) := dk_21 6 (dk_at dksL_law_82 7 rfl rfl)
theorem dL_law_2123 : decode cL_law 2123 = .ok (.ifCond .ne 15, 3) := dk_154 0 15 (dk_at dksL_law_82 9 rfl rfl)
theorem dL_law_2126 : decode cL_law 2126 = .ok (.aload_n 3, 1) := dk_45 (dk_at dksL_law_82 12 rfl rfl)
theorem dL_law_2127 : decode cL_law 2127 = .ok (.iconst 0, 1) := dk_3 (dk_at dksL_law_82 13 rfl rfl)
theorem dL_law_2128 : decode cL_law 2128 = .ok (.laload, 1) := dk_47 (dk_at dksL_law_82 14 rfl rfl)
theorem dL_law_2129 : decode cL_law 2129 = .ok (.iload 7, 2) := dk_21 7 (dk_at dksL_law_82 15 rfl rfl)
theorem dL_law_2131 : decode cL_law 2131 = .ok (.i2l, 1) := dk_133 (dk_at dksL_law_82 17 rfl rfl)
theorem dL_law_2132 : decode cL_law 2132 = .ok (.lcmp, 1) := dk_148 (dk_at dksL_law_82 18 rfl rfl)
theorem dL_law_2133 : decode cL_law 2133 = .ok (.ifCond .eq 5, 3) := dk_153 0 5 (dk_at dksL_law_82 19 rfl rfl)
theorem dL_law_2136 : decode cL_law 2136 = .ok (.iconst 0, 1) := dk_3 (dk_at dksL_law_82 22 rfl rfl)
theorem dL_law_2137 : decode cL_law 2137 = .ok (.ireturn, 1) := dk_172 (dk_at dksL_law_82 23 rfl rfl)
theorem dL_law_2138 : decode cL_law 2138 = .ok (.goto 1057, 3) := dk_167 4 33 (dk_at dksL_law_83 0 rfl rfl)
theorem dL_law_2141 : decode cL_law 2141 = .ok (.aload_n 1, 1) := dk_43 (dk_at dksL_law_83 3 rfl rfl)
theorem dL_law_2142 : decode cL_law 2142 = .ok (.aload_n 0, 1) := dk_42 (dk_at dksL_law_83 4 rfl rfl)
theorem dL_law_2143 : decode cL_law 2143 = .ok (.iload 5, 2) := dk_21 5 (dk_at dksL_law_83 5 rfl rfl)
theorem dL_law_2145 : decode cL_law 2145 = .ok (.iconst 1, 1) := dk_4 (dk_at dksL_law_83 7 rfl rfl)
theorem dL_law_2146 : decode cL_law 2146 = .ok (.iadd, 1) := dk_96 (dk_at dksL_law_83 8 rfl rfl)
theorem dL_law_2147 : decode cL_law 2147 = .ok (.iaload, 1) := dk_46 (dk_at dksL_law_83 9 rfl rfl)
theorem dL_law_2148 : decode cL_law 2148 = .ok (.aload_n 3, 1) := dk_45 (dk_at dksL_law_83 10 rfl rfl)
theorem dL_law_2149 : decode cL_law 2149 = .ok (.invokestatic 274, 3) := dk_184 1 18 (dk_at dksL_law_83 11 rfl rfl)
theorem dL_law_2152 : decode cL_law 2152 = .ok (.istore 6, 2) := dk_54 6 (dk_at dksL_law_83 14 rfl rfl)
theorem dL_law_2154 : decode cL_law 2154 = .ok (.aload_n 2, 1) := dk_44 (dk_at dksL_law_83 16 rfl rfl)
theorem dL_law_2155 : decode cL_law 2155 = .ok (.aload_n 0, 1) := dk_42 (dk_at dksL_law_83 17 rfl rfl)
theorem dL_law_2156 : decode cL_law 2156 = .ok (.iload 5, 2) := dk_21 5 (dk_at dksL_law_83 18 rfl rfl)
theorem dL_law_2158 : decode cL_law 2158 = .ok (.iconst 1, 1) := dk_4 (dk_at dksL_law_83 20 rfl rfl)
theorem dL_law_2159 : decode cL_law 2159 = .ok (.iadd, 1) := dk_96 (dk_at dksL_law_83 21 rfl rfl)
theorem dL_law_2160 : decode cL_law 2160 = .ok (.iaload, 1) := dk_46 (dk_at dksL_law_83 22 rfl rfl)
theorem dL_law_2161 : decode cL_law 2161 = .ok (.invokevirtual 276, 3) := dk_182 1 20 (dk_at dksL_law_84 0 rfl rfl)
theorem dL_law_2164 : decode cL_law 2164 = .ok (.istore 7, 2) := dk_54 7 (dk_at dksL_law_84 3 rfl rfl)
theorem dL_law_2166 : decode cL_law 2166 = .ok (.aload_n 2, 1) := dk_44 (dk_at dksL_law_84 5 rfl rfl)
theorem dL_law_2167 : decode cL_law 2167 = .ok (.invokevirtual 178, 3) := dk_182 0 178 (dk_at dksL_law_84 6 rfl rfl)
theorem dL_law_2170 : decode cL_law 2170 = .ok (.iload 6, 2) := dk_21 6 (dk_at dksL_law_84 9 rfl rfl)
theorem dL_law_2172 : decode cL_law 2172 = .ok (.if_icmp .eq 5, 3) := dk_159 0 5 (dk_at dksL_law_84 11 rfl rfl)
theorem dL_law_2175 : decode cL_law 2175 = .ok (.iconst 0, 1) := dk_3 (dk_at dksL_law_84 14 rfl rfl)
theorem dL_law_2176 : decode cL_law 2176 = .ok (.ireturn, 1) := dk_172 (dk_at dksL_law_84 15 rfl rfl)
theorem dL_law_2177 : decode cL_law 2177 = .ok (.iload 6, 2) := dk_21 6 (dk_at dksL_law_84 16 rfl rfl)
theorem dL_law_2179 : decode cL_law 2179 = .ok (.ifCond .ne 15, 3) := dk_154 0 15 (dk_at dksL_law_84 18 rfl rfl)
theorem dL_law_2182 : decode cL_law 2182 = .ok (.aload_n 3, 1) := dk_45 (dk_at dksL_law_84 21 rfl rfl)
theorem dL_law_2183 : decode cL_law 2183 = .ok (.iconst 0, 1) := dk_3 (dk_at dksL_law_84 22 rfl rfl)
theorem dL_law_2184 : decode cL_law 2184 = .ok (.laload, 1) := dk_47 (dk_at dksL_law_84 23 rfl rfl)
theorem dL_law_2185 : decode cL_law 2185 = .ok (.iload 7, 2) := dk_21 7 (dk_at dksL_law_85 0 rfl rfl)
theorem dL_law_2187 : decode cL_law 2187 = .ok (.i2l, 1) := dk_133 (dk_at dksL_law_85 2 rfl rfl)
theorem dL_law_2188 : decode cL_law 2188 = .ok (.lcmp, 1) := dk_148 (dk_at dksL_law_85 3 rfl rfl)
theorem dL_law_2189 : decode cL_law 2189 = .ok (.ifCond .eq 5, 3) := dk_153 0 5 (dk_at dksL_law_85 4 rfl rfl)
theorem dL_law_2192 : decode cL_law 2192 = .ok (.iconst 0, 1) := dk_3 (dk_at dksL_law_85 7 rfl rfl)
theorem dL_law_2193 : decode cL_law 2193 = .ok (.ireturn, 1) := dk_172 (dk_at dksL_law_85 8 rfl rfl)
theorem dL_law_2194 : decode cL_law 2194 = .ok (.goto 1001, 3) := dk_167 3 233 (dk_at dksL_law_85 9 rfl rfl)
theorem dL_law_2197 : decode cL_law 2197 = .ok (.aload_n 1, 1) := dk_43 (dk_at dksL_law_85 12 rfl rfl)
theorem dL_law_2198 : decode cL_law 2198 = .ok (.aload_n 0, 1) := dk_42 (dk_at dksL_law_85 13 rfl rfl)
theorem dL_law_2199 : decode cL_law 2199 = .ok (.iload 5, 2) := dk_21 5 (dk_at dksL_law_85 14 rfl rfl)
theorem dL_law_2201 : decode cL_law 2201 = .ok (.iconst 1, 1) := dk_4 (dk_at dksL_law_85 16 rfl rfl)
theorem dL_law_2202 : decode cL_law 2202 = .ok (.iadd, 1) := dk_96 (dk_at dksL_law_85 17 rfl rfl)
theorem dL_law_2203 : decode cL_law 2203 = .ok (.iaload, 1) := dk_46 (dk_at dksL_law_85 18 rfl rfl)
theorem dL_law_2204 : decode cL_law 2204 = .ok (.aload_n 3, 1) := dk_45 (dk_at dksL_law_85 19 rfl rfl)
theorem dL_law_2205 : decode cL_law 2205 = .ok (.invokestatic 277, 3) := dk_184 1 21 (dk_at dksL_law_85 20 rfl rfl)
theorem dL_law_2208 : decode cL_law 2208 = .ok (.istore 6, 2) := dk_54 6 (dk_at dksL_law_86 0 rfl rfl)
theorem dL_law_2210 : decode cL_law 2210 = .ok (.aload_n 2, 1) := dk_44 (dk_at dksL_law_86 2 rfl rfl)
theorem dL_law_2211 : decode cL_law 2211 = .ok (.aload_n 0, 1) := dk_42 (dk_at dksL_law_86 3 rfl rfl)
theorem dL_law_2212 : decode cL_law 2212 = .ok (.iload 5, 2) := dk_21 5 (dk_at dksL_law_86 4 rfl rfl)
theorem dL_law_2214 : decode cL_law 2214 = .ok (.iconst 1, 1) := dk_4 (dk_at dksL_law_86 6 rfl rfl)
theorem dL_law_2215 : decode cL_law 2215 = .ok (.iadd, 1) := dk_96 (dk_at dksL_law_86 7 rfl rfl)
theorem dL_law_2216 : decode cL_law 2216 = .ok (.iaload, 1) := dk_46 (dk_at dksL_law_86 8 rfl rfl)
theorem dL_law_2217 : decode cL_law 2217 = .ok (.invokevirtual 279, 3) := dk_182 1 23 (dk_at dksL_law_86 9 rfl rfl)
theorem dL_law_2220 : decode cL_law 2220 = .ok (.istore 7, 2) := dk_54 7 (dk_at dksL_law_86 12 rfl rfl)
theorem dL_law_2222 : decode cL_law 2222 = .ok (.aload_n 2, 1) := dk_44 (dk_at dksL_law_86 14 rfl rfl)
theorem dL_law_2223 : decode cL_law 2223 = .ok (.invokevirtual 178, 3) := dk_182 0 178 (dk_at dksL_law_86 15 rfl rfl)
theorem dL_law_2226 : decode cL_law 2226 = .ok (.iload 6, 2) := dk_21 6 (dk_at dksL_law_86 18 rfl rfl)
theorem dL_law_2228 : decode cL_law 2228 = .ok (.if_icmp .eq 5, 3) := dk_159 0 5 (dk_at dksL_law_86 20 rfl rfl)
theorem dL_law_2231 : decode cL_law 2231 = .ok (.iconst 0, 1) := dk_3 (dk_at dksL_law_86 23 rfl rfl)
theorem dL_law_2232 : decode cL_law 2232 = .ok (.ireturn, 1) := dk_172 (dk_at dksL_law_87 0 rfl rfl)
theorem dL_law_2233 : decode cL_law 2233 = .ok (.iload 6, 2) := dk_21 6 (dk_at dksL_law_87 1 rfl rfl)
theorem dL_law_2235 : decode cL_law 2235 = .ok (.ifCond .ne 22, 3) := dk_154 0 22 (dk_at dksL_law_87 3 rfl rfl)
theorem dL_law_2238 : decode cL_law 2238 = .ok (.aload_n 3, 1) := dk_45 (dk_at dksL_law_87 6 rfl rfl)
theorem dL_law_2239 : decode cL_law 2239 = .ok (.iconst 0, 1) := dk_3 (dk_at dksL_law_87 7 rfl rfl)
theorem dL_law_2240 : decode cL_law 2240 = .ok (.laload, 1) := dk_47 (dk_at dksL_law_87 8 rfl rfl)
theorem dL_law_2241 : decode cL_law 2241 = .ok (.iload 7, 2) := dk_21 7 (dk_at dksL_law_87 9 rfl rfl)
theorem dL_law_2243 : decode cL_law 2243 = .ok (.ifCond .eq 7, 3) := dk_153 0 7 (dk_at dksL_law_87 11 rfl rfl)
theorem dL_law_2246 : decode cL_law 2246 = .ok (.lconst 1, 1) := dk_10 (dk_at dksL_law_87 14 rfl rfl)
theorem dL_law_2247 : decode cL_law 2247 = .ok (.goto 4, 3) := dk_167 0 4 (dk_at dksL_law_87 15 rfl rfl)
theorem dL_law_2250 : decode cL_law 2250 = .ok (.lconst 0, 1) := dk_9 (dk_at dksL_law_87 18 rfl rfl)
theorem dL_law_2251 : decode cL_law 2251 = .ok (.lcmp, 1) := dk_148 (dk_at dksL_law_87 19 rfl rfl)
theorem dL_law_2252 : decode cL_law 2252 = .ok (.ifCond .eq 5, 3) := dk_153 0 5 (dk_at dksL_law_87 20 rfl rfl)
theorem dL_law_2255 : decode cL_law 2255 = .ok (.iconst 0, 1) := dk_3 (dk_at dksL_law_87 23 rfl rfl)
theorem dL_law_2256 : decode cL_law 2256 = .ok (.ireturn, 1) := dk_172 (dk_at dksL_law_88 0 rfl rfl)
theorem dL_law_2257 : decode cL_law 2257 = .ok (.goto 938, 3) := dk_167 3 170 (dk_at dksL_law_88 1 rfl rfl)
theorem dL_law_2260 : decode cL_law 2260 = .ok (.aload_n 1, 1) := dk_43 (dk_at dksL_law_88 4 rfl rfl)
theorem dL_law_2261 : decode cL_law 2261 = .ok (.aload_n 0, 1) := dk_42 (dk_at dksL_law_88 5 rfl rfl)
theorem dL_law_2262 : decode cL_law 2262 = .ok (.iload 5, 2) := dk_21 5 (dk_at dksL_law_88 6 rfl rfl)
theorem dL_law_2264 : decode cL_law 2264 = .ok (.iconst 1, 1) := dk_4 (dk_at dksL_law_88 8 rfl rfl)
theorem dL_law_2265 : decode cL_law 2265 = .ok (.iadd, 1) := dk_96 (dk_at dksL_law_88 9 rfl rfl)
theorem dL_law_2266 : decode cL_law 2266 = .ok (.iaload, 1) := dk_46 (dk_at dksL_law_88 10 rfl rfl)
theorem dL_law_2267 : decode cL_law 2267 = .ok (.aload_n 3, 1) := dk_45 (dk_at dksL_law_88 11 rfl rfl)
theorem dL_law_2268 : decode cL_law 2268 = .ok (.invokestatic 280, 3) := dk_184 1 24 (dk_at dksL_law_88 12 rfl rfl)
theorem dL_law_2271 : decode cL_law 2271 = .ok (.istore 6, 2) := dk_54 6 (dk_at dksL_law_88 15 rfl rfl)
theorem dL_law_2273 : decode cL_law 2273 = .ok (.aload_n 2, 1) := dk_44 (dk_at dksL_law_88 17 rfl rfl)
theorem dL_law_2274 : decode cL_law 2274 = .ok (.aload_n 0, 1) := dk_42 (dk_at dksL_law_88 18 rfl rfl)
theorem dL_law_2275 : decode cL_law 2275 = .ok (.iload 5, 2) := dk_21 5 (dk_at dksL_law_88 19 rfl rfl)
theorem dL_law_2277 : decode cL_law 2277 = .ok (.iconst 1, 1) := dk_4 (dk_at dksL_law_88 21 rfl rfl)
theorem dL_law_2278 : decode cL_law 2278 = .ok (.iadd, 1) := dk_96 (dk_at dksL_law_88 22 rfl rfl)
theorem dL_law_2279 : decode cL_law 2279 = .ok (.iaload, 1) := dk_46 (dk_at dksL_law_88 23 rfl rfl)
theorem dL_law_2280 : decode cL_law 2280 = .ok (.invokevirtual 282, 3) := dk_182 1 26 (dk_at dksL_law_89 0 rfl rfl)
theorem dL_law_2283 : decode cL_law 2283 = .ok (.istore 7, 2) := dk_54 7 (dk_at dksL_law_89 3 rfl rfl)
theorem dL_law_2285 : decode cL_law 2285 = .ok (.aload_n 2, 1) := dk_44 (dk_at dksL_law_89 5 rfl rfl)
theorem dL_law_2286 : decode cL_law 2286 = .ok (.invokevirtual 178, 3) := dk_182 0 178 (dk_at dksL_law_89 6 rfl rfl)
theorem dL_law_2289 : decode cL_law 2289 = .ok (.iload 6, 2) := dk_21 6 (dk_at dksL_law_89 9 rfl rfl)
theorem dL_law_2291 : decode cL_law 2291 = .ok (.if_icmp .eq 5, 3) := dk_159 0 5 (dk_at dksL_law_89 11 rfl rfl)
theorem dL_law_2294 : decode cL_law 2294 = .ok (.iconst 0, 1) := dk_3 (dk_at dksL_law_89 14 rfl rfl)
theorem dL_law_2295 : decode cL_law 2295 = .ok (.ireturn, 1) := dk_172 (dk_at dksL_law_89 15 rfl rfl)
theorem dL_law_2296 : decode cL_law 2296 = .ok (.iload 6, 2) := dk_21 6 (dk_at dksL_law_89 16 rfl rfl)
theorem dL_law_2298 : decode cL_law 2298 = .ok (.ifCond .ne 15, 3) := dk_154 0 15 (dk_at dksL_law_89 18 rfl rfl)
theorem dL_law_2301 : decode cL_law 2301 = .ok (.aload_n 3, 1) := dk_45 (dk_at dksL_law_89 21 rfl rfl)
theorem dL_law_2302 : decode cL_law 2302 = .ok (.iconst 0, 1) := dk_3 (dk_at dksL_law_89 22 rfl rfl)
theorem dL_law_2303 : decode cL_law 2303 = .ok (.laload, 1) := dk_47 (dk_at dksL_law_89 23 rfl rfl)
theorem dL_law_2304 : decode cL_law 2304 = .ok (.iload 7, 2) := dk_21 7 (dk_at dksL_law_90 0 rfl rfl)
theorem dL_law_2306 : decode cL_law 2306 = .ok (.i2l, 1) := dk_133 (dk_at dksL_law_90 2 rfl rfl)
theorem dL_law_2307 : decode cL_law 2307 = .ok (.lcmp, 1) := dk_148 (dk_at dksL_law_90 3 rfl rfl)
theorem dL_law_2308 : decode cL_law 2308 = .ok (.ifCond .eq 5, 3) := dk_153 0 5 (dk_at dksL_law_90 4 rfl rfl)
theorem dL_law_2311 : decode cL_law 2311 = .ok (.iconst 0, 1) := dk_3 (dk_at dksL_law_90 7 rfl rfl)
theorem dL_law_2312 : decode cL_law 2312 = .ok (.ireturn, 1) := dk_172 (dk_at dksL_law_90 8 rfl rfl)
theorem dL_law_2313 : decode cL_law 2313 = .ok (.goto 882, 3) := dk_167 3 114 (dk_at dksL_law_90 9 rfl rfl)
theorem dL_law_2316 : decode cL_law 2316 = .ok (.aload_n 1, 1) := dk_43 (dk_at dksL_law_90 12 rfl rfl)
theorem dL_law_2317 : decode cL_law 2317 = .ok (.invokevirtual 283, 3) := dk_182 1 27 (dk_at dksL_law_90 13 rfl rfl)
theorem dL_law_2320 : decode cL_law 2320 = .ok (.aload_n 2, 1) := dk_44 (dk_at dksL_law_90 16 rfl rfl)
theorem dL_law_2321 : decode cL_law 2321 = .ok (.invokevirtual 286, 3) := dk_182 1 30 (dk_at dksL_law_90 17 rfl rfl)
theorem dL_law_2324 : decode cL_law 2324 = .ok (.if_icmp .eq 871, 3) := dk_159 3 103 (dk_at dksL_law_90 20 rfl rfl)
theorem dL_law_2327 : decode cL_law 2327 = .ok (.iconst 0, 1) := dk_3 (dk_at dksL_law_90 23 rfl rfl)
theorem dL_law_2328 : decode cL_law 2328 = .ok (.ireturn, 1) := dk_172 (dk_at dksL_law_91 0 rfl rfl)
theorem dL_law_2329 : decode cL_law 2329 = .ok (.aload_n 1, 1) := dk_43 (dk_at dksL_law_91 1 rfl rfl)
theorem dL_law_2330 : decode cL_law 2330 = .ok (.aload_n 0, 1) := dk_42 (dk_at dksL_law_91 2 rfl rfl)
theorem dL_law_2331 : decode cL_law 2331 = .ok (.iload 5, 2) := dk_21 5 (dk_at dksL_law_91 3 rfl rfl)
theorem dL_law_2333 : decode cL_law 2333 = .ok (.iconst 1, 1) := dk_4 (dk_at dksL_law_91 5 rfl rfl)
theorem dL_law_2334 : decode cL_law 2334 = .ok (.iadd, 1) := dk_96 (dk_at dksL_law_91 6 rfl rfl)
theorem dL_law_2335 : decode cL_law 2335 = .ok (.iaload, 1) := dk_46 (dk_at dksL_law_91 7 rfl rfl)
theorem dL_law_2336 : decode cL_law 2336 = .ok (.aload_n 3, 1) := dk_45 (dk_at dksL_law_91 8 rfl rfl)
theorem dL_law_2337 : decode cL_law 2337 = .ok (.invokestatic 287, 3) := dk_184 1 31 (dk_at dksL_law_91 9 rfl rfl)
theorem dL_law_2340 : decode cL_law 2340 = .ok (.istore 6, 2) := dk_54 6 (dk_at dksL_law_91 12 rfl rfl)
theorem dL_law_2342 : decode cL_law 2342 = .ok (.aload_n 2, 1) := dk_44 (dk_at dksL_law_91 14 rfl rfl)
theorem dL_law_2343 : decode cL_law 2343 = .ok (.aload_n 0, 1) := dk_42 (dk_at dksL_law_91 15 rfl rfl)
theorem dL_law_2344 : decode cL_law 2344 = .ok (.iload 5, 2) := dk_21 5 (dk_at dksL_law_91 16 rfl rfl)
theorem dL_law_2346 : decode cL_law 2346 = .ok (.iconst 1, 1) := dk_4 (dk_at dksL_law_91 18 rfl rfl)
theorem dL_law_2347 : decode cL_law 2347 = .ok (.iadd, 1) := dk_96 (dk_at dksL_law_91 19 rfl rfl)
theorem dL_law_2348 : decode cL_law 2348 = .ok (.iaload, 1) := dk_46 (dk_at dksL_law_91 20 rfl rfl)
theorem dL_law_2349 : decode cL_law 2349 = .ok (.invokevirtual 289, 3) := dk_182 1 33 (dk_at dksL_law_91 21 rfl rfl)
theorem dL_law_2352 : decode cL_law 2352 = .ok (.istore 7, 2) := dk_54 7 (dk_at dksL_law_92 0 rfl rfl)
theorem dL_law_2354 : decode cL_law 2354 = .ok (.aload_n 2, 1) := dk_44 (dk_at dksL_law_92 2 rfl rfl)
theorem dL_law_2355 : decode cL_law 2355 = .ok (.invokevirtual 178, 3) := dk_182 0 178 (dk_at dksL_law_92 3 rfl rfl)
theorem dL_law_2358 : decode cL_law 2358 = .ok (.iload 6, 2) := dk_21 6 (dk_at dksL_law_92 6 rfl rfl)
theorem dL_law_2360 : decode cL_law 2360 = .ok (.if_icmp .eq 5, 3) := dk_159 0 5 (dk_at dksL_law_92 8 rfl rfl)
theorem dL_law_2363 : decode cL_law 2363 = .ok (.iconst 0, 1) := dk_3 (dk_at dksL_law_92 11 rfl rfl)
theorem dL_law_2364 : decode cL_law 2364 = .ok (.ireturn, 1) := dk_172 (dk_at dksL_law_92 12 rfl rfl)
theorem dL_law_2365 : decode cL_law 2365 = .ok (.iload 6, 2) := dk_21 6 (dk_at dksL_law_92 13 rfl rfl)
theorem dL_law_2367 : decode cL_law 2367 = .ok (.ifCond .ne 15, 3) := dk_154 0 15 (dk_at dksL_law_92 15 rfl rfl)
theorem dL_law_2370 : decode cL_law 2370 = .ok (.aload_n 3, 1) := dk_45 (dk_at dksL_law_92 18 rfl rfl)
theorem dL_law_2371 : decode cL_law 2371 = .ok (.iconst 0, 1) := dk_3 (dk_at dksL_law_92 19 rfl rfl)
theorem dL_law_2372 : decode cL_law 2372 = .ok (.laload, 1) := dk_47 (dk_at dksL_law_92 20 rfl rfl)
theorem dL_law_2373 : decode cL_law 2373 = .ok (.iload 7, 2) := dk_21 7 (dk_at dksL_law_92 21 rfl rfl)
theorem dL_law_2375 : decode cL_law 2375 = .ok (.i2l, 1) := dk_133 (dk_at dksL_law_92 23 rfl rfl)
theorem dL_law_2376 : decode cL_law 2376 = .ok (.lcmp, 1) := dk_148 (dk_at dksL_law_93 0 rfl rfl)
theorem dL_law_2377 : decode cL_law 2377 = .ok (.ifCond .eq 5, 3) := dk_153 0 5 (dk_at dksL_law_93 1 rfl rfl)
theorem dL_law_2380 : decode cL_law 2380 = .ok (.iconst 0, 1) := dk_3 (dk_at dksL_law_93 4 rfl rfl)
theorem dL_law_2381 : decode cL_law 2381 = .ok (.ireturn, 1) := dk_172 (dk_at dksL_law_93 5 rfl rfl)
theorem dL_law_2382 : decode cL_law 2382 = .ok (.goto 813, 3) := dk_167 3 45 (dk_at dksL_law_93 6 rfl rfl)
theorem dL_law_2385 : decode cL_law 2385 = .ok (.aload_n 1, 1) := dk_43 (dk_at dksL_law_93 9 rfl rfl)
theorem dL_law_2386 : decode cL_law 2386 = .ok (.aload_n 0, 1) := dk_42 (dk_at dksL_law_93 10 rfl rfl)
theorem dL_law_2387 : decode cL_law 2387 = .ok (.iload 5, 2) := dk_21 5 (dk_at dksL_law_93 11 rfl rfl)
theorem dL_law_2389 : decode cL_law 2389 = .ok (.iconst 1, 1) := dk_4 (dk_at dksL_law_93 13 rfl rfl)
theorem dL_law_2390 : decode cL_law 2390 = .ok (.iadd, 1) := dk_96 (dk_at dksL_law_93 14 rfl rfl)
theorem dL_law_2391 : decode cL_law 2391 = .ok (.iaload, 1) := dk_46 (dk_at dksL_law_93 15 rfl rfl)
theorem dL_law_2392 : decode cL_law 2392 = .ok (.aload_n 3, 1) := dk_45 (dk_at dksL_law_93 16 rfl rfl)
theorem dL_law_2393 : decode cL_law 2393 = .ok (.invokestatic 290, 3) := dk_184 1 34 (dk_at dksL_law_93 17 rfl rfl)
theorem dL_law_2396 : decode cL_law 2396 = .ok (.istore 6, 2) := dk_54 6 (dk_at dksL_law_93 20 rfl rfl)
theorem dL_law_2398 : decode cL_law 2398 = .ok (.aload_n 2, 1) := dk_44 (dk_at dksL_law_93 22 rfl rfl)
theorem dL_law_2399 : decode cL_law 2399 = .ok (.aload_n 0, 1) := dk_42 (dk_at dksL_law_93 23 rfl rfl)
theorem dL_law_2400 : decode cL_law 2400 = .ok (.iload 5, 2) := dk_21 5 (dk_at dksL_law_94 0 rfl rfl)
theorem dL_law_2402 : decode cL_law 2402 = .ok (.iconst 1, 1) := dk_4 (dk_at dksL_law_94 2 rfl rfl)
theorem dL_law_2403 : decode cL_law 2403 = .ok (.iadd, 1) := dk_96 (dk_at dksL_law_94 3 rfl rfl)
theorem dL_law_2404 : decode cL_law 2404 = .ok (.iaload, 1) := dk_46 (dk_at dksL_law_94 4 rfl rfl)
theorem dL_law_2405 : decode cL_law 2405 = .ok (.invokevirtual 292, 3) := dk_182 1 36 (dk_at dksL_law_94 5 rfl rfl)
theorem dL_law_2408 : decode cL_law 2408 = .ok (.istore 7, 2) := dk_54 7 (dk_at dksL_law_94 8 rfl rfl)
theorem dL_law_2410 : decode cL_law 2410 = .ok (.aload_n 2, 1) := dk_44 (dk_at dksL_law_94 10 rfl rfl)
theorem dL_law_2411 : decode cL_law 2411 = .ok (.invokevirtual 178, 3) := dk_182 0 178 (dk_at dksL_law_94 11 rfl rfl)
theorem dL_law_2414 : decode cL_law 2414 = .ok (.iload 6, 2) := dk_21 6 (dk_at dksL_law_94 14 rfl rfl)
theorem dL_law_2416 : decode cL_law 2416 = .ok (.if_icmp .eq 5, 3) := dk_159 0 5 (dk_at dksL_law_94 16 rfl rfl)
theorem dL_law_2419 : decode cL_law 2419 = .ok (.iconst 0, 1) := dk_3 (dk_at dksL_law_94 19 rfl rfl)
theorem dL_law_2420 : decode cL_law 2420 = .ok (.ireturn, 1) := dk_172 (dk_at dksL_law_94 20 rfl rfl)
theorem dL_law_2421 : decode cL_law 2421 = .ok (.iload 6, 2) := dk_21 6 (dk_at dksL_law_94 21 rfl rfl)
theorem dL_law_2423 : decode cL_law 2423 = .ok (.ifCond .ne 15, 3) := dk_154 0 15 (dk_at dksL_law_95 0 rfl rfl)
theorem dL_law_2426 : decode cL_law 2426 = .ok (.aload_n 3, 1) := dk_45 (dk_at dksL_law_95 3 rfl rfl)
theorem dL_law_2427 : decode cL_law 2427 = .ok (.iconst 0, 1) := dk_3 (dk_at dksL_law_95 4 rfl rfl)
theorem dL_law_2428 : decode cL_law 2428 = .ok (.laload, 1) := dk_47 (dk_at dksL_law_95 5 rfl rfl)
theorem dL_law_2429 : decode cL_law 2429 = .ok (.iload 7, 2) := dk_21 7 (dk_at dksL_law_95 6 rfl rfl)
theorem dL_law_2431 : decode cL_law 2431 = .ok (.i2l, 1) := dk_133 (dk_at dksL_law_95 8 rfl rfl)
theorem dL_law_2432 : decode cL_law 2432 = .ok (.lcmp, 1) := dk_148 (dk_at dksL_law_95 9 rfl rfl)
theorem dL_law_2433 : decode cL_law 2433 = .ok (.ifCond .eq 5, 3) := dk_153 0 5 (dk_at dksL_law_95 10 rfl rfl)
theorem dL_law_2436 : decode cL_law 2436 = .ok (.iconst 0, 1) := dk_3 (dk_at dksL_law_95 13 rfl rfl)
theorem dL_law_2437 : decode cL_law 2437 = .ok (.ireturn, 1) := dk_172 (dk_at dksL_law_95 14 rfl rfl)
theorem dL_law_2438 : decode cL_law 2438 = .ok (.goto 757, 3) := dk_167 2 245 (dk_at dksL_law_95 15 rfl rfl)
theorem dL_law_2441 : decode cL_law 2441 = .ok (.aload_n 1, 1) := dk_43 (dk_at dksL_law_95 18 rfl rfl)
theorem dL_law_2442 : decode cL_law 2442 = .ok (.aload_n 0, 1) := dk_42 (dk_at dksL_law_95 19 rfl rfl)
theorem dL_law_2443 : decode cL_law 2443 = .ok (.iload 5, 2) := dk_21 5 (dk_at dksL_law_95 20 rfl rfl)
theorem dL_law_2445 : decode cL_law 2445 = .ok (.iconst 1, 1) := dk_4 (dk_at dksL_law_95 22 rfl rfl)
theorem dL_law_2446 : decode cL_law 2446 = .ok (.iadd, 1) := dk_96 (dk_at dksL_law_95 23 rfl rfl)
theorem dL_law_2447 : decode cL_law 2447 = .ok (.iaload, 1) := dk_46 (dk_at dksL_law_96 0 rfl rfl)
theorem dL_law_2448 : decode cL_law 2448 = .ok (.aload_n 3, 1) := dk_45 (dk_at dksL_law_96 1 rfl rfl)
theorem dL_law_2449 : decode cL_law 2449 = .ok (.invokestatic 293, 3) := dk_184 1 37 (dk_at dksL_law_96 2 rfl rfl)
theorem dL_law_2452 : decode cL_law 2452 = .ok (.istore 6, 2) := dk_54 6 (dk_at dksL_law_96 5 rfl rfl)
theorem dL_law_2454 : decode cL_law 2454 = .ok (.aload_n 2, 1) := dk_44 (dk_at dksL_law_96 7 rfl rfl)
theorem dL_law_2455 : decode cL_law 2455 = .ok (.aload_n 0, 1) := dk_42 (dk_at dksL_law_96 8 rfl rfl)
theorem dL_law_2456 : decode cL_law 2456 = .ok (.iload 5, 2) := dk_21 5 (dk_at dksL_law_96 9 rfl rfl)
theorem dL_law_2458 : decode cL_law 2458 = .ok (.iconst 1, 1) := dk_4 (dk_at dksL_law_96 11 rfl rfl)
theorem dL_law_2459 : decode cL_law 2459 = .ok (.iadd, 1) := dk_96 (dk_at dksL_law_96 12 rfl rfl)
theorem dL_law_2460 : decode cL_law 2460 = .ok (.iaload, 1) := dk_46 (dk_at dksL_law_96 13 rfl rfl)
theorem dL_law_2461 : decode cL_law 2461 = .ok (.invokevirtual 295, 3) := dk_182 1 39 (dk_at dksL_law_96 14 rfl rfl)
theorem dL_law_2464 : decode cL_law 2464 = .ok (.istore 7, 2) := dk_54 7 (dk_at dksL_law_96 17 rfl rfl)
theorem dL_law_2466 : decode cL_law 2466 = .ok (.aload_n 2, 1) := dk_44 (dk_at dksL_law_96 19 rfl rfl)
theorem dL_law_2467 : decode cL_law 2467 = .ok (.invokevirtual 178, 3) := dk_182 0 178 (dk_at dksL_law_96 20 rfl rfl)
theorem dL_law_2470 : decode cL_law 2470 = .ok (.iload 6, 2) := dk_21 6 (dk_at dksL_law_97 0 rfl rfl)
theorem dL_law_2472 : decode cL_law 2472 = .ok (.if_icmp .eq 5, 3) := dk_159 0 5 (dk_at dksL_law_97 2 rfl rfl)
theorem dL_law_2475 : decode cL_law 2475 = .ok (.iconst 0, 1) := dk_3 (dk_at dksL_law_97 5 rfl rfl)
theorem dL_law_2476 : decode cL_law 2476 = .ok (.ireturn, 1) := dk_172 (dk_at dksL_law_97 6 rfl rfl)
theorem dL_law_2477 : decode cL_law 2477 = .ok (.iload 6, 2) := dk_21 6 (dk_at dksL_law_97 7 rfl rfl)
theorem dL_law_2479 : decode cL_law 2479 = .ok (.ifCond .ne 15, 3) := dk_154 0 15 (dk_at dksL_law_97 9 rfl rfl)
theorem dL_law_2482 : decode cL_law 2482 = .ok (.aload_n 3, 1) := dk_45 (dk_at dksL_law_97 12 rfl rfl)
theorem dL_law_2483 : decode cL_law 2483 = .ok (.iconst 0, 1) := dk_3 (dk_at dksL_law_97 13 rfl rfl)
theorem dL_law_2484 : decode cL_law 2484 = .ok (.laload, 1) := dk_47 (dk_at dksL_law_97 14 rfl rfl)
theorem dL_law_2485 : decode cL_law 2485 = .ok (.iload 7, 2) := dk_21 7 (dk_at dksL_law_97 15 rfl rfl)
theorem dL_law_2487 : decode cL_law 2487 = .ok (.i2l, 1) := dk_133 (dk_at dksL_law_97 17 rfl rfl)
theorem dL_law_2488 : decode cL_law 2488 = .ok (.lcmp, 1) := dk_148 (dk_at dksL_law_97 18 rfl rfl)
theorem dL_law_2489 : decode cL_law 2489 = .ok (.ifCond .eq 5, 3) := dk_153 0 5 (dk_at dksL_law_97 19 rfl rfl)
theorem dL_law_2492 : decode cL_law 2492 = .ok (.iconst 0, 1) := dk_3 (dk_at dksL_law_97 22 rfl rfl)
theorem dL_law_2493 : decode cL_law 2493 = .ok (.ireturn, 1) := dk_172 (dk_at dksL_law_97 23 rfl rfl)
theorem dL_law_2494 : decode cL_law 2494 = .ok (.goto 701, 3) := dk_167 2 189 (dk_at dksL_law_98 0 rfl rfl)
theorem dL_law_2497 : decode cL_law 2497 = .ok (.aload_n 1, 1) := dk_43 (dk_at dksL_law_98 3 rfl rfl)
theorem dL_law_2498 : decode cL_law 2498 = .ok (.aload_n 0, 1) := dk_42 (dk_at dksL_law_98 4 rfl rfl)
theorem dL_law_2499 : decode cL_law 2499 = .ok (.iload 5, 2) := dk_21 5 (dk_at dksL_law_98 5 rfl rfl)
theorem dL_law_2501 : decode cL_law 2501 = .ok (.iconst 1, 1) := dk_4 (dk_at dksL_law_98 7 rfl rfl)
theorem dL_law_2502 : decode cL_law 2502 = .ok (.iadd, 1) := dk_96 (dk_at dksL_law_98 8 rfl rfl)
theorem dL_law_2503 : decode cL_law 2503 = .ok (.iaload, 1) := dk_46 (dk_at dksL_law_98 9 rfl rfl)
theorem dL_law_2504 : decode cL_law 2504 = .ok (.aload_n 3, 1) := dk_45 (dk_at dksL_law_98 10 rfl rfl)
theorem dL_law_2505 : decode cL_law 2505 = .ok (.invokestatic 296, 3) := dk_184 1 40 (dk_at dksL_law_98 11 rfl rfl)
theorem dL_law_2508 : decode cL_law 2508 = .ok (.istore 6, 2) := dk_54 6 (dk_at dksL_law_98 14 rfl rfl)
theorem dL_law_2510 : decode cL_law 2510 = .ok (.aload_n 2, 1) := dk_44 (dk_at dksL_law_98 16 rfl rfl)
theorem dL_law_2511 : decode cL_law 2511 = .ok (.aload_n 0, 1) := dk_42 (dk_at dksL_law_98 17 rfl rfl)
theorem dL_law_2512 : decode cL_law 2512 = .ok (.iload 5, 2) := dk_21 5 (dk_at dksL_law_98 18 rfl rfl)
theorem dL_law_2514 : decode cL_law 2514 = .ok (.iconst 1, 1) := dk_4 (dk_at dksL_law_98 20 rfl rfl)
theorem dL_law_2515 : decode cL_law 2515 = .ok (.iadd, 1) := dk_96 (dk_at dksL_law_98 21 rfl rfl)
theorem dL_law_2516 : decode cL_law 2516 = .ok (.iaload, 1) := dk_46 (dk_at dksL_law_98 22 rfl rfl)
theorem dL_law_2517 : decode cL_law 2517 = .ok (.invokevirtual 298, 3) := dk_182 1 42 (dk_at dksL_law_99 0 rfl rfl)
theorem dL_law_2520 : decode cL_law 2520 = .ok (.istore 7, 2) := dk_54 7 (dk_at dksL_law_99 3 rfl rfl)
theorem dL_law_2522 : decode cL_law 2522 = .ok (.aload_n 2, 1) := dk_44 (dk_at dksL_law_99 5 rfl rfl)
theorem dL_law_2523 : decode cL_law 2523 = .ok (.invokevirtual 178, 3) := dk_182 0 178 (dk_at dksL_law_99 6 rfl rfl)
theorem dL_law_2526 : decode cL_law 2526 = .ok (.iload 6, 2) := dk_21 6 (dk_at dksL_law_99 9 rfl rfl)
theorem dL_law_2528 : decode cL_law 2528 = .ok (.if_icmp .eq 5, 3) := dk_159 0 5 (dk_at dksL_law_99 11 rfl rfl)
theorem dL_law_2531 : decode cL_law 2531 = .ok (.iconst 0, 1) := dk_3 (dk_at dksL_law_99 14 rfl rfl)
theorem dL_law_2532 : decode cL_law 2532 = .ok (.ireturn, 1) := dk_172 (dk_at dksL_law_99 15 rfl rfl)
theorem dL_law_2533 : decode cL_law 2533 = .ok (.iload 6, 2) := dk_21 6 (dk_at dksL_law_99 16 rfl rfl)
theorem dL_law_2535 : decode cL_law 2535 = .ok (.ifCond .ne 15, 3) := dk_154 0 15 (dk_at dksL_law_99 18 rfl rfl)
theorem dL_law_2538 : decode cL_law 2538 = .ok (.aload_n 3, 1) := dk_45 (dk_at dksL_law_99 21 rfl rfl)
theorem dL_law_2539 : decode cL_law 2539 = .ok (.iconst 0, 1) := dk_3 (dk_at dksL_law_99 22 rfl rfl)
theorem dL_law_2540 : decode cL_law 2540 = .ok (.laload, 1) := dk_47 (dk_at dksL_law_99 23 rfl rfl)
theorem dL_law_2541 : decode cL_law 2541 = .ok (.iload 7, 2) := dk_21 7 (dk_at dksL_law_100 0 rfl rfl)
theorem dL_law_2543 : decode cL_law 2543 = .ok (.i2l, 1) := dk_133 (dk_at dksL_law_100 2 rfl rfl)
theorem dL_law_2544 : decode cL_law 2544 = .ok (.lcmp, 1) := dk_148 (dk_at dksL_law_100 3 rfl rfl)
theorem dL_law_2545 : decode cL_law 2545 = .ok (.ifCond .eq 5, 3) := dk_153 0 5 (dk_at dksL_law_100 4 rfl rfl)
theorem dL_law_2548 : decode cL_law 2548 = .ok (.iconst 0, 1) := dk_3 (dk_at dksL_law_100 7 rfl rfl)
theorem dL_law_2549 : decode cL_law 2549 = .ok (.ireturn, 1) := dk_172 (dk_at dksL_law_100 8 rfl rfl)
theorem dL_law_2550 : decode cL_law 2550 = .ok (.goto 645, 3) := dk_167 2 133 (dk_at dksL_law_100 9 rfl rfl)
theorem dL_law_2553 : decode cL_law 2553 = .ok (.aload_n 1, 1) := dk_43 (dk_at dksL_law_100 12 rfl rfl)
theorem dL_law_2554 : decode cL_law 2554 = .ok (.invokevirtual 299, 3) := dk_182 1 43 (dk_at dksL_law_100 13 rfl rfl)
theorem dL_law_2557 : decode cL_law 2557 = .ok (.aload_n 2, 1) := dk_44 (dk_at dksL_law_100 16 rfl rfl)
theorem dL_law_2558 : decode cL_law 2558 = .ok (.invokevirtual 302, 3) := dk_182 1 46 (dk_at dksL_law_100 17 rfl rfl)
theorem dL_law_2561 : decode cL_law 2561 = .ok (.if_icmp .eq 634, 3) := dk_159 2 122 (dk_at dksL_law_100 20 rfl rfl)
theorem dL_law_2564 : decode cL_law 2564 = .ok (.iconst 0, 1) := dk_3 (dk_at dksL_law_100 23 rfl rfl)
theorem dL_law_2565 : decode cL_law 2565 = .ok (.ireturn, 1) := dk_172 (dk_at dksL_law_101 0 rfl rfl)
theorem dL_law_2566 : decode cL_law 2566 = .ok (.aload_n 1, 1) := dk_43 (dk_at dksL_law_101 1 rfl rfl)
theorem dL_law_2567 : decode cL_law 2567 = .ok (.invokevirtual 303, 3) := dk_182 1 47 (dk_at dksL_law_101 2 rfl rfl)
theorem dL_law_2570 : decode cL_law 2570 = .ok (.aload_n 2, 1) := dk_44 (dk_at dksL_law_101 5 rfl rfl)
theorem dL_law_2571 : decode cL_law 2571 = .ok (.invokevirtual 306, 3) := dk_182 1 50 (dk_at dksL_law_101 6 rfl rfl)
theorem dL_law_2574 : decode cL_law 2574 = .ok (.if_icmp .eq 621, 3) := dk_159 2 109 (dk_at dksL_law_101 9 rfl rfl)
theorem dL_law_2577 : decode cL_law 2577 = .ok (.iconst 0, 1) := dk_3 (dk_at dksL_law_101 12 rfl rfl)
theorem dL_law_2578 : decode cL_law 2578 = .ok (.ireturn, 1) := dk_172 (dk_at dksL_law_101 13 rfl rfl)
theorem dL_law_2579 : decode cL_law 2579 = .ok (.aload_n 1, 1) := dk_43 (dk_at dksL_law_101 14 rfl rfl)
theorem dL_law_2580 : decode cL_law 2580 = .ok (.invokevirtual 307, 3) := dk_182 1 51 (dk_at dksL_law_101 15 rfl rfl)
theorem dL_law_2583 : decode cL_law 2583 = .ok (.aload_n 2, 1) := dk_44 (dk_at dksL_law_101 18 rfl rfl)
theorem dL_law_2584 : decode cL_law 2584 = .ok (.invokevirtual 310, 3) := dk_182 1 54 (dk_at dksL_law_101 19 rfl rfl)
theorem dL_law_2587 : decode cL_law 2587 = .ok (.if_icmp .eq 608, 3) := dk_159 2 96 (dk_at dksL_law_102 0 rfl rfl)
theorem dL_law_2590 : decode cL_law 2590 = .ok (.iconst 0, 1) := dk_3 (dk_at dksL_law_102 3 rfl rfl)
theorem dL_law_2591 : decode cL_law 2591 = .ok (.ireturn, 1) := dk_172 (dk_at dksL_law_102 4 rfl rfl)
theorem dL_law_2592 : decode cL_law 2592 = .ok (.aload_n 1, 1) := dk_43 (dk_at dksL_law_102 5 rfl rfl)
theorem dL_law_2593 : decode cL_law 2593 = .ok (.aload 4, 2) := dk_25 4 (dk_at dksL_law_102 6 rfl rfl)
theorem dL_law_2595 : decode cL_law 2595 = .ok (.invokestatic 311, 3) := dk_184 1 55 (dk_at dksL_law_102 8 rfl rfl)
theorem dL_law_2598 : decode cL_law 2598 = .ok (.istore 6, 2) := dk_54 6 (dk_at dksL_law_102 11 rfl rfl)
theorem dL_law_2600 : decode cL_law 2600 = .ok (.aload_n 2, 1) := dk_44 (dk_at dksL_law_102 13 rfl rfl)
theorem dL_law_2601 : decode cL_law 2601 = .ok (.invokevirtual 314, 3) := dk_182 1 58 (dk_at dksL_law_102 14 rfl rfl)
theorem dL_law_2604 : decode cL_law 2604 = .ok (.dstore 7, 2) := dk_57 7 (dk_at dksL_law_102 17 rfl rfl)
theorem dL_law_2606 : decode cL_law 2606 = .ok (.aload_n 2, 1) := dk_44 (dk_at dksL_law_102 19 rfl rfl)
theorem dL_law_2607 : decode cL_law 2607 = .ok (.invokevirtual 178, 3) := dk_182 0 178 (dk_at dksL_law_102 20 rfl rfl)
theorem dL_law_2610 : decode cL_law 2610 = .ok (.iload 6, 2) := dk_21 6 (dk_at dksL_law_103 0 rfl rfl)
theorem dL_law_2612 : decode cL_law 2612 = .ok (.if_icmp .eq 5, 3) := dk_159 0 5 (dk_at dksL_law_103 2 rfl rfl)
theorem dL_law_2615 : decode cL_law 2615 = .ok (.iconst 0, 1) := dk_3 (dk_at dksL_law_103 5 rfl rfl)
theorem dL_law_2616 : decode cL_law 2616 = .ok (.ireturn, 1) := dk_172 (dk_at dksL_law_103 6 rfl rfl)
theorem dL_law_2617 : decode cL_law 2617 = .ok (.iload 6, 2) := dk_21 6 (dk_at dksL_law_103 7 rfl rfl)
theorem dL_law_2619 : decode cL_law 2619 = .ok (.ifCond .ne 35, 3) := dk_154 0 35 (dk_at dksL_law_103 9 rfl rfl)
theorem dL_law_2622 : decode cL_law 2622 = .ok (.aload 4, 2) := dk_25 4 (dk_at dksL_law_103 12 rfl rfl)
theorem dL_law_2624 : decode cL_law 2624 = .ok (.iconst 0, 1) := dk_3 (dk_at dksL_law_103 14 rfl rfl)
theorem dL_law_2625 : decode cL_law 2625 = .ok (.daload, 1) := dk_49 (dk_at dksL_law_103 15 rfl rfl)
theorem dL_law_2626 : decode cL_law 2626 = .ok (.dload 7, 2) := dk_24 7 (dk_at dksL_law_103 16 rfl rfl)
theorem dL_law_2628 : decode cL_law 2628 = .ok (.dcmp .l, 1) := dk_151 (dk_at dksL_law_103 18 rfl rfl)
theorem dL_law_2629 : decode cL_law 2629 = .ok (.ifCond .eq 25, 3) := dk_153 0 25 (dk_at dksL_law_103 19 rfl rfl)
theorem dL_law_2632 : decode cL_law 2632 = .ok (.aload 4, 2) := dk_25 4 (dk_at dksL_law_103 22 rfl rfl)
theorem dL_law_2634 : decode cL_law 2634 = .ok (.iconst 0, 1) := dk_3 (dk_at dksL_law_104 0 rfl rfl)
theorem dL_law_2635 : decode cL_law 2635 = .ok (.daload, 1) := dk_49 (dk_at dksL_law_104 1 rfl rfl)
theorem dL_law_2636 : decode cL_law 2636 = .ok (.aload 4, 2) := dk_25 4 (dk_at dksL_law_104 2 rfl rfl)
theorem dL_law_2638 : decode cL_law 2638 = .ok (.iconst 0, 1) := dk_3 (dk_at dksL_law_104 4 rfl rfl)
theorem dL_law_2639 : decode cL_law 2639 = .ok (.daload, 1) := dk_49 (dk_at dksL_law_104 5 rfl rfl)
theorem dL_law_2640 : decode cL_law 2640 = .ok (.dcmp .l, 1) := dk_151 (dk_at dksL_law_104 6 rfl rfl)
theorem dL_law_2641 : decode cL_law 2641 = .ok (.ifCond .eq 11, 3) := dk_153 0 11 (dk_at dksL_law_104 7 rfl rfl)
theorem dL_law_2644 : decode cL_law 2644 = .ok (.dload 7, 2) := dk_24 7 (dk_at dksL_law_104 10 rfl rfl)
theorem dL_law_2646 : decode cL_law 2646 = .ok (.dload 7, 2) := dk_24 7 (dk_at dksL_law_104 12 rfl rfl)
theorem dL_law_2648 : decode cL_law 2648 = .ok (.dcmp .l, 1) := dk_151 (dk_at dksL_law_104 14 rfl rfl)
theorem dL_law_2649 : decode cL_law 2649 = .ok (.ifCond .ne 5, 3) := dk_154 0 5 (dk_at dksL_law_104 15 rfl rfl)
theorem dL_law_2652 : decode cL_law 2652 = .ok (.iconst 0, 1) := dk_3 (dk_at dksL_law_104 18 rfl rfl)
theorem dL_law_2653 : decode cL_law 2653 = .ok (.ireturn, 1) := dk_172 (dk_at dksL_law_104 19 rfl rfl)
theorem dL_law_2654 : decode cL_law 2654 = .ok (.goto 541, 3) := dk_167 2 29 (dk_at dksL_law_104 20 rfl rfl)
theorem dL_law_2657 : decode cL_law 2657 = .ok (.aload_n 1, 1) := dk_43 (dk_at dksL_law_104 23 rfl rfl)
theorem dL_law_2658 : decode cL_law 2658 = .ok (.aload 4, 2) := dk_25 4 (dk_at dksL_law_105 0 rfl rfl)
theorem dL_law_2660 : decode cL_law 2660 = .ok (.invokestatic 315, 3) := dk_184 1 59 (dk_at dksL_law_105 2 rfl rfl)
theorem dL_law_2663 : decode cL_law 2663 = .ok (.istore 6, 2) := dk_54 6 (dk_at dksL_law_105 5 rfl rfl)
theorem dL_law_2665 : decode cL_law 2665 = .ok (.aload_n 2, 1) := dk_44 (dk_at dksL_law_105 7 rfl rfl)
theorem dL_law_2666 : decode cL_law 2666 = .ok (.invokevirtual 317, 3) := dk_182 1 61 (dk_at dksL_law_105 8 rfl rfl)
theorem dL_law_2669 : decode cL_law 2669 = .ok (.fstore 7, 2) := dk_56 7 (dk_at dksL_law_105 11 rfl rfl)
theorem dL_law_2671 : decode cL_law 2671 = .ok (.aload_n 2, 1) := dk_44 (dk_at dksL_law_105 13 rfl rfl)
theorem dL_law_2672 : decode cL_law 2672 = .ok (.invokevirtual 178, 3) := dk_182 0 178 (dk_at dksL_law_105 14 rfl rfl)
theorem dL_law_2675 : decode cL_law 2675 = .ok (.iload 6, 2) := dk_21 6 (dk_at dksL_law_105 17 rfl rfl)
theorem dL_law_2677 : decode cL_law 2677 = .ok (.if_icmp .eq 5, 3) := dk_159 0 5 (dk_at dksL_law_105 19 rfl rfl)
theorem dL_law_2680 : decode cL_law 2680 = .ok (.iconst 0, 1) := dk_3 (dk_at dksL_law_105 22 rfl rfl)
theorem dL_law_2681 : decode cL_law 2681 = .ok (.ireturn, 1) := dk_172 (dk_at dksL_law_105 23 rfl rfl)
theorem dL_law_2682 : decode cL_law 2682 = .ok (.iload 6, 2) := dk_21 6 (dk_at dksL_law_106 0 rfl rfl)
theorem dL_law_2684 : decode cL_law 2684 = .ok (.ifCond .ne 36, 3) := dk_154 0 36 (dk_at dksL_law_106 2 rfl rfl)
theorem dL_law_2687 : decode cL_law 2687 = .ok (.aload 4, 2) := dk_25 4 (dk_at dksL_law_106 5 rfl rfl)
theorem dL_law_2689 : decode cL_law 2689 = .ok (.iconst 0, 1) := dk_3 (dk_at dksL_law_106 7 rfl rfl)
theorem dL_law_2690 : decode cL_law 2690 = .ok (.daload, 1) := dk_49 (dk_at dksL_law_106 8 rfl rfl)
theorem dL_law_2691 : decode cL_law 2691 = .ok (.fload 7, 2) := dk_23 7 (dk_at dksL_law_106 9 rfl rfl)
theorem dL_law_2693 : decode cL_law 2693 = .ok (.f2d, 1) := dk_141 (dk_at dksL_law_106 11 rfl rfl)
theorem dL_law_2694 : decode cL_law 2694 = .ok (.dcmp .l, 1) := dk_151 (dk_at dksL_law_106 12 rfl rfl)
theorem dL_law_2695 : decode cL_law 2695 = .ok (.ifCond .eq 25, 3) := dk_153 0 25 (dk_at dksL_law_106 13 rfl rfl)
theorem dL_law_2698 : decode cL_law 2698 = .ok (.aload 4, 2) := dk_25 4 (dk_at dksL_law_106 16 rfl rfl)
theorem dL_law_2700 : decode cL_law 2700 = .ok (.iconst 0, 1) := dk_3 (dk_at dksL_law_106 18 rfl rfl)
theorem dL_law_2701 : decode cL_law 2701 = .ok (.daload, 1) := dk_49 (dk_at dksL_law_106 19 rfl rfl)
theorem dL_law_2702 : decode cL_law 2702 = .ok (.aload 4, 2) := dk_25 4 (dk_at dksL_law_106 20 rfl rfl)
theorem dL_law_2704 : decode cL_law 2704 = .ok (.iconst 0, 1) := dk_3 (dk_at dksL_law_106 22 rfl rfl)
theorem dL_law_2705 : decode cL_law 2705 = .ok (.daload, 1) := dk_49 (dk_at dksL_law_106 23 rfl rfl)
theorem dL_law_2706 : decode cL_law 2706 = .ok (.dcmp .l, 1) := dk_151 (dk_at dksL_law_107 0 rfl rfl)
theorem dL_law_2707 : decode cL_law 2707 = .ok (.ifCond .eq 11, 3) := dk_153 0 11 (dk_at dksL_law_107 1 rfl rfl)
theorem dL_law_2710 : decode cL_law 2710 = .ok (.fload 7, 2) := dk_23 7 (dk_at dksL_law_107 4 rfl rfl)
theorem dL_law_2712 : decode cL_law 2712 = .ok (.fload 7, 2) := dk_23 7 (dk_at dksL_law_107 6 rfl rfl)
theorem dL_law_2714 : decode cL_law 2714 = .ok (.fcmp .l, 1) := dk_149 (dk_at dksL_law_107 8 rfl rfl)
theorem dL_law_2715 : decode cL_law 2715 = .ok (.ifCond .ne 5, 3) := dk_154 0 5 (dk_at dksL_law_107 9 rfl rfl)
theorem dL_law_2718 : decode cL_law 2718 = .ok (.iconst 0, 1) := dk_3 (dk_at dksL_law_107 12 rfl rfl)
theorem dL_law_2719 : decode cL_law 2719 = .ok (.ireturn, 1) := dk_172 (dk_at dksL_law_107 13 rfl rfl)
theorem dL_law_2720 : decode cL_law 2720 = .ok (.goto 475, 3) := dk_167 1 219 (dk_at dksL_law_107 14 rfl rfl)
theorem dL_law_2723 : decode cL_law 2723 = .ok (.aload_n 1, 1) := dk_43 (dk_at dksL_law_107 17 rfl rfl)
theorem dL_law_2724 : decode cL_law 2724 = .ok (.invokevirtual 318, 3) := dk_182 1 62 (dk_at dksL_law_107 18 rfl rfl)
theorem dL_law_2727 : decode cL_law 2727 = .ok (.aload_n 2, 1) := dk_44 (dk_at dksL_law_107 21 rfl rfl)
theorem dL_law_2728 : decode cL_law 2728 = .ok (.invokevirtual 322, 3) := dk_182 1 66 (dk_at dksL_law_108 0 rfl rfl)
theorem dL_law_2731 : decode cL_law 2731 = .ok (.if_icmp .eq 464, 3) := dk_159 1 208 (dk_at dksL_law_108 3 rfl rfl)
theorem dL_law_2734 : decode cL_law 2734 = .ok (.iconst 0, 1) := dk_3 (dk_at dksL_law_108 6 rfl rfl)
theorem dL_law_2735 : decode cL_law 2735 = .ok (.ireturn, 1) := dk_172 (dk_at dksL_law_108 7 rfl rfl)
theorem dL_law_2736 : decode cL_law 2736 = .ok (.aload_n 1, 1) := dk_43 (dk_at dksL_law_108 8 rfl rfl)
theorem dL_law_2737 : decode cL_law 2737 = .ok (.aload_n 0, 1) := dk_42 (dk_at dksL_law_108 9 rfl rfl)
theorem dL_law_2738 : decode cL_law 2738 = .ok (.iload 5, 2) := dk_21 5 (dk_at dksL_law_108 10 rfl rfl)
theorem dL_law_2740 : decode cL_law 2740 = .ok (.iconst 1, 1) := dk_4 (dk_at dksL_law_108 12 rfl rfl)
theorem dL_law_2741 : decode cL_law 2741 = .ok (.iadd, 1) := dk_96 (dk_at dksL_law_108 13 rfl rfl)
theorem dL_law_2742 : decode cL_law 2742 = .ok (.iaload, 1) := dk_46 (dk_at dksL_law_108 14 rfl rfl)
theorem dL_law_2743 : decode cL_law 2743 = .ok (.aload_n 3, 1) := dk_45 (dk_at dksL_law_108 15 rfl rfl)
theorem dL_law_2744 : decode cL_law 2744 = .ok (.invokestatic 323, 3) := dk_184 1 67 (dk_at dksL_law_108 16 rfl rfl)
theorem dL_law_2747 : decode cL_law 2747 = .ok (.istore 6, 2) := dk_54 6 (dk_at dksL_law_108 19 rfl rfl)
theorem dL_law_2749 : decode cL_law 2749 = .ok (.aload_n 2, 1) := dk_44 (dk_at dksL_law_108 21 rfl rfl)
theorem dL_law_2750 : decode cL_law 2750 = .ok (.aload_n 0, 1) := dk_42 (dk_at dksL_law_108 22 rfl rfl)
theorem dL_law_2751 : decode cL_law 2751 = .ok (.iload 5, 2) := dk_21 5 (dk_at dksL_law_109 0 rfl rfl)
theorem dL_law_2753 : decode cL_law 2753 = .ok (.iconst 1, 1) := dk_4 (dk_at dksL_law_109 2 rfl rfl)
theorem dL_law_2754 : decode cL_law 2754 = .ok (.iadd, 1) := dk_96 (dk_at dksL_law_109 3 rfl rfl)
theorem dL_law_2755 : decode cL_law 2755 = .ok (.iaload, 1) := dk_46 (dk_at dksL_law_109 4 rfl rfl)
theorem dL_law_2756 : decode cL_law 2756 = .ok (.invokevirtual 325, 3) := dk_182 1 69 (dk_at dksL_law_109 5 rfl rfl)
theorem dL_law_2759 : decode cL_law 2759 = .ok (.istore 7, 2) := dk_54 7 (dk_at dksL_law_109 8 rfl rfl)
theorem dL_law_2761 : decode cL_law 2761 = .ok (.aload_n 2, 1) := dk_44 (dk_at dksL_law_109 10 rfl rfl)
theorem dL_law_2762 : decode cL_law 2762 = .ok (.invokevirtual 178, 3) := dk_182 0 178 (dk_at dksL_law_109 11 rfl rfl)
theorem dL_law_2765 : decode cL_law 2765 = .ok (.iload 6, 2) := dk_21 6 (dk_at dksL_law_109 14 rfl rfl)
theorem dL_law_2767 : decode cL_law 2767 = .ok (.if_icmp .eq 5, 3) := dk_159 0 5 (dk_at dksL_law_109 16 rfl rfl)
theorem dL_law_2770 : decode cL_law 2770 = .ok (.iconst 0, 1) := dk_3 (dk_at dksL_law_109 19 rfl rfl)
theorem dL_law_2771 : decode cL_law 2771 = .ok (.ireturn, 1) := dk_172 (dk_at dksL_law_109 20 rfl rfl)
theorem dL_law_2772 : decode cL_law 2772 = .ok (.iload 6, 2) := dk_21 6 (dk_at dksL_law_109 21 rfl rfl)
theorem dL_law_2774 : decode cL_law 2774 = .ok (.ifCond .ne 15, 3) := dk_154 0 15 (dk_at dksL_law_110 0 rfl rfl)
theorem dL_law_2777 : decode cL_law 2777 = .ok (.aload_n 3, 1) := dk_45 (dk_at dksL_law_110 3 rfl rfl)
theorem dL_law_2778 : decode cL_law 2778 = .ok (.iconst 0, 1) := dk_3 (dk_at dksL_law_110 4 rfl rfl)
theorem dL_law_2779 : decode cL_law 2779 = .ok (.laload, 1) := dk_47 (dk_at dksL_law_110 5 rfl rfl)
theorem dL_law_2780 : decode cL_law 2780 = .ok (.iload 7, 2) := dk_21 7 (dk_at dksL_law_110 6 rfl rfl)
theorem dL_law_2782 : decode cL_law 2782 = .ok (.i2l, 1) := dk_133 (dk_at dksL_law_110 8 rfl rfl)
theorem dL_law_2783 : decode cL_law 2783 = .ok (.lcmp, 1) := dk_148 (dk_at dksL_law_110 9 rfl rfl)
theorem dL_law_2784 : decode cL_law 2784 = .ok (.ifCond .eq 5, 3) := dk_153 0 5 (dk_at dksL_law_110 10 rfl rfl)
theorem dL_law_2787 : decode cL_law 2787 = .ok (.iconst 0, 1) := dk_3 (dk_at dksL_law_110 13 rfl rfl)
theorem dL_law_2788 : decode cL_law 2788 = .ok (.ireturn, 1) := dk_172 (dk_at dksL_law_110 14 rfl rfl)
theorem dL_law_2789 : decode cL_law 2789 = .ok (.goto 406, 3) := dk_167 1 150 (dk_at dksL_law_110 15 rfl rfl)
theorem dL_law_2792 : decode cL_law 2792 = .ok (.aload_n 1, 1) := dk_43 (dk_at dksL_law_110 18 rfl rfl)
theorem dL_law_2793 : decode cL_law 2793 = .ok (.aload_n 0, 1) := dk_42 (dk_at dksL_law_110 19 rfl rfl)
theorem dL_law_2794 : decode cL_law 2794 = .ok (.iload 5, 2) := dk_21 5 (dk_at dksL_law_110 20 rfl rfl)
theorem dL_law_2796 : decode cL_law 2796 = .ok (.iconst 1, 1) := dk_4 (dk_at dksL_law_110 22 rfl rfl)
theorem dL_law_2797 : decode cL_law 2797 = .ok (.iadd, 1) := dk_96 (dk_at dksL_law_110 23 rfl rfl)
theorem dL_law_2798 : decode cL_law 2798 = .ok (.iaload, 1) := dk_46 (dk_at dksL_law_111 0 rfl rfl)
theorem dL_law_2799 : decode cL_law 2799 = .ok (.aload_n 3, 1) := dk_45 (dk_at dksL_law_111 1 rfl rfl)
theorem dL_law_2800 : decode cL_law 2800 = .ok (.invokestatic 326, 3) := dk_184 1 70 (dk_at dksL_law_111 2 rfl rfl)
theorem dL_law_2803 : decode cL_law 2803 = .ok (.istore 6, 2) := dk_54 6 (dk_at dksL_law_111 5 rfl rfl)
theorem dL_law_2805 : decode cL_law 2805 = .ok (.aload_n 2, 1) := dk_44 (dk_at dksL_law_111 7 rfl rfl)
theorem dL_law_2806 : decode cL_law 2806 = .ok (.aload_n 0, 1) := dk_42 (dk_at dksL_law_111 8 rfl rfl)
theorem dL_law_2807 : decode cL_law 2807 = .ok (.iload 5, 2) := dk_21 5 (dk_at dksL_law_111 9 rfl rfl)
theorem dL_law_2809 : decode cL_law 2809 = .ok (.iconst 1, 1) := dk_4 (dk_at dksL_law_111 11 rfl rfl)
theorem dL_law_2810 : decode cL_law 2810 = .ok (.iadd, 1) := dk_96 (dk_at dksL_law_111 12 rfl rfl)
theorem dL_law_2811 : decode cL_law 2811 = .ok (.iaload, 1) := dk_46 (dk_at dksL_law_111 13 rfl rfl)
theorem dL_law_2812 : decode cL_law 2812 = .ok (.invokevirtual 328, 3) := dk_182 1 72 (dk_at dksL_law_111 14 rfl rfl)
theorem dL_law_2815 : decode cL_law 2815 = .ok (.istore 7, 2) := dk_54 7 (dk_at dksL_law_111 17 rfl rfl)
theorem dL_law_2817 : decode cL_law 2817 = .ok (.aload_n 2, 1) := dk_44 (dk_at dksL_law_111 19 rfl rfl)
theorem dL_law_2818 : decode cL_law 2818 = .ok (.invokevirtual 178, 3) := dk_182 0 178 (dk_at dksL_law_111 20 rfl rfl)
theorem dL_law_2821 : decode cL_law 2821 = .ok (.iload 6, 2) := dk_21 6 (dk_at dksL_law_112 0 rfl rfl)
theorem dL_law_2823 : decode cL_law 2823 = .ok (.if_icmp .eq 5, 3) := dk_159 0 5 (dk_at dksL_law_112 2 rfl rfl)
theorem dL_law_2826 : decode cL_law 2826 = .ok (.iconst 0, 1) := dk_3 (dk_at dksL_law_112 5 rfl rfl)
theorem dL_law_2827 : decode cL_law 2827 = .ok (.ireturn, 1) := dk_172 (dk_at dksL_law_112 6 rfl rfl)
theorem dL_law_2828 : decode cL_law 2828 = .ok (.iload 6, 2) := dk_21 6 (dk_at dksL_law_112 7 rfl rfl)
theorem dL_law_2830 : decode cL_law 2830 = .ok (.ifCond .ne 15, 3) := dk_154 0 15 (dk_at dksL_law_112 9 rfl rfl)
theorem dL_law_2833 : decode cL_law 2833 = .ok (.aload_n 3, 1) := dk_45 (dk_at dksL_law_112 12 rfl rfl)
theorem dL_law_2834 : decode cL_law 2834 = .ok (.iconst 0, 1) := dk_3 (dk_at dksL_law_112 13 rfl rfl)
theorem dL_law_2835 : decode cL_law 2835 = .ok (.laload, 1) := dk_47 (dk_at dksL_law_112 14 rfl rfl)
theorem dL_law_2836 : decode cL_law 2836 = .ok (.iload 7, 2) := dk_21 7 (dk_at dksL_law_112 15 rfl rfl)
theorem dL_law_2838 : decode cL_law 2838 = .ok (.i2l, 1) := dk_133 (dk_at dksL_law_112 17 rfl rfl)
theorem dL_law_2839 : decode cL_law 2839 = .ok (.lcmp, 1) := dk_148 (dk_at dksL_law_112 18 rfl rfl)
theorem dL_law_2840 : decode cL_law 2840 = .ok (.ifCond .eq 5, 3) := dk_153 0 5 (dk_at dksL_law_112 19 rfl rfl)
theorem dL_law_2843 : decode cL_law 2843 = .ok (.iconst 0, 1) := dk_3 (dk_at dksL_law_112 22 rfl rfl)
theorem dL_law_2844 : decode cL_law 2844 = .ok (.ireturn, 1) := dk_172 (dk_at dksL_law_112 23 rfl rfl)
theorem dL_law_2845 : decode cL_law 2845 = .ok (.goto 350, 3) := dk_167 1 94 (dk_at dksL_law_113 0 rfl rfl)
theorem dL_law_2848 : decode cL_law 2848 = .ok (.aload_n 1, 1) := dk_43 (dk_at dksL_law_113 3 rfl rfl)
theorem dL_law_2849 : decode cL_law 2849 = .ok (.aload_n 0, 1) := dk_42 (dk_at dksL_law_113 4 rfl rfl)
theorem dL_law_2850 : decode cL_law 2850 = .ok (.iload 5, 2) := dk_21 5 (dk_at dksL_law_113 5 rfl rfl)
theorem dL_law_2852 : decode cL_law 2852 = .ok (.iconst 1, 1) := dk_4 (dk_at dksL_law_113 7 rfl rfl)
theorem dL_law_2853 : decode cL_law 2853 = .ok (.iadd, 1) := dk_96 (dk_at dksL_law_113 8 rfl rfl)
theorem dL_law_2854 : decode cL_law 2854 = .ok (.iaload, 1) := dk_46 (dk_at dksL_law_113 9 rfl rfl)
theorem dL_law_2855 : decode cL_law 2855 = .ok (.aload_n 3, 1) := dk_45 (dk_at dksL_law_113 10 rfl rfl)
theorem dL_law_2856 : decode cL_law 2856 = .ok (.invokestatic 329, 3) := dk_184 1 73 (dk_at dksL_law_113 11 rfl rfl)
theorem dL_law_2859 : decode cL_law 2859 = .ok (.istore 6, 2) := dk_54 6 (dk_at dksL_law_113 14 rfl rfl)
theorem dL_law_2861 : decode cL_law 2861 = .ok (.aload_n 2, 1) := dk_44 (dk_at dksL_law_113 16 rfl rfl)
theorem dL_law_2862 : decode cL_law 2862 = .ok (.aload_n 0, 1) := dk_42 (dk_at dksL_law_113 17 rfl rfl)
theorem dL_law_2863 : decode cL_law 2863 = .ok (.iload 5, 2) := dk_21 5 (dk_at dksL_law_113 18 rfl rfl)
theorem dL_law_2865 : decode cL_law 2865 = .ok (.iconst 1, 1) := dk_4 (dk_at dksL_law_113 20 rfl rfl)
theorem dL_law_2866 : decode cL_law 2866 = .ok (.iadd, 1) := dk_96 (dk_at dksL_law_113 21 rfl rfl)
theorem dL_law_2867 : decode cL_law 2867 = .ok (.iaload, 1) := dk_46 (dk_at dksL_law_113 22 rfl rfl)
theorem dL_law_2868 : decode cL_law 2868 = .ok (.invokevirtual 331, 3) := dk_182 1 75 (dk_at dksL_law_114 0 rfl rfl)
theorem dL_law_2871 : decode cL_law 2871 = .ok (.istore 7, 2) := dk_54 7 (dk_at dksL_law_114 3 rfl rfl)
theorem dL_law_2873 : decode cL_law 2873 = .ok (.aload_n 2, 1) := dk_44 (dk_at dksL_law_114 5 rfl rfl)
theorem dL_law_2874 : decode cL_law 2874 = .ok (.invokevirtual 178, 3) := dk_182 0 178 (dk_at dksL_law_114 6 rfl rfl)
theorem dL_law_2877 : decode cL_law 2877 = .ok (.iload 6, 2) := dk_21 6 (dk_at dksL_law_114 9 rfl rfl)
theorem dL_law_2879 : decode cL_law 2879 = .ok (.if_icmp .eq 5, 3) := dk_159 0 5 (dk_at dksL_law_114 11 rfl rfl)
theorem dL_law_2882 : decode cL_law 2882 = .ok (.iconst 0, 1) := dk_3 (dk_at dksL_law_114 14 rfl rfl)
theorem dL_law_2883 : decode cL_law 2883 = .ok (.ireturn, 1) := dk_172 (dk_at dksL_law_114 15 rfl rfl)
theorem dL_law_2884 : decode cL_law 2884 = .ok (.iload 6, 2) := dk_21 6 (dk_at dksL_law_114 16 rfl rfl)
theorem dL_law_2886 : decode cL_law 2886 = .ok (.ifCond .ne 15, 3) := dk_154 0 15 (dk_at dksL_law_114 18 rfl rfl)
theorem dL_law_2889 : decode cL_law 2889 = .ok (.aload_n 3, 1) := dk_45 (dk_at dksL_law_114 21 rfl rfl)
theorem dL_law_2890 : decode cL_law 2890 = .ok (.iconst 0, 1) := dk_3 (dk_at dksL_law_114 22 rfl rfl)
theorem dL_law_2891 : decode cL_law 2891 = .ok (.laload, 1) := dk_47 (dk_at dksL_law_114 23 rfl rfl)
theorem dL_law_2892 : decode cL_law 2892 = .ok (.iload 7, 2) := dk_21 7 (dk_at dksL_law_115 0 rfl rfl)
theorem dL_law_2894 : decode cL_law 2894 = .ok (.i2l, 1) := dk_133 (dk_at dksL_law_115 2 rfl rfl)
theorem dL_law_2895 : decode cL_law 2895 = .ok (.lcmp, 1) := dk_148 (dk_at dksL_law_115 3 rfl rfl)
theorem dL_law_2896 : decode cL_law 2896 = .ok (.ifCond .eq 5, 3) := dk_153 0 5 (dk_at dksL_law_115 4 rfl rfl)
theorem dL_law_2899 : decode cL_law 2899 = .ok (.iconst 0, 1) := dk_3 (dk_at dksL_law_115 7 rfl rfl)
theorem dL_law_2900 : decode cL_law 2900 = .ok (.ireturn, 1) := dk_172 (dk_at dksL_law_115 8 rfl rfl)
theorem dL_law_2901 : decode cL_law 2901 = .ok (.goto 294, 3) := dk_167 1 38 (dk_at dksL_law_115 9 rfl rfl)
theorem dL_law_2904 : decode cL_law 2904 = .ok (.aload_n 1, 1) := dk_43 (dk_at dksL_law_115 12 rfl rfl)
theorem dL_law_2905 : decode cL_law 2905 = .ok (.aload_n 0, 1) := dk_42 (dk_at dksL_law_115 13 rfl rfl)
theorem dL_law_2906 : decode cL_law 2906 = .ok (.iload 5, 2) := dk_21 5 (dk_at dksL_law_115 14 rfl rfl)
theorem dL_law_2908 : decode cL_law 2908 = .ok (.iconst 1, 1) := dk_4 (dk_at dksL_law_115 16 rfl rfl)
theorem dL_law_2909 : decode cL_law 2909 = .ok (.iadd, 1) := dk_96 (dk_at dksL_law_115 17 rfl rfl)
theorem dL_law_2910 : decode cL_law 2910 = .ok (.iaload, 1) := dk_46 (dk_at dksL_law_115 18 rfl rfl)
theorem dL_law_2911 : decode cL_law 2911 = .ok (.i2c, 1) := dk_146 (dk_at dksL_law_115 19 rfl rfl)
theorem dL_law_2912 : decode cL_law 2912 = .ok (.aload_n 3, 1) := dk_45 (dk_at dksL_law_115 20 rfl rfl)
theorem dL_law_2913 : decode cL_law 2913 = .ok (.invokestatic 332, 3) := dk_184 1 76 (dk_at dksL_law_115 21 rfl rfl)
theorem dL_law_2916 : decode cL_law 2916 = .ok (.istore 6, 2) := dk_54 6 (dk_at dksL_law_116 0 rfl rfl)
theorem dL_law_2918 : decode cL_law 2918 = .ok (.aload_n 2, 1) := dk_44 (dk_at dksL_law_116 2 rfl rfl)
theorem dL_law_2919 : decode cL_law 2919 = .ok (.aload_n 0, 1) := dk_42 (dk_at dksL_law_116 3 rfl rfl)
theorem dL_law_2920 : decode cL_law 2920 = .ok (.iload 5, 2) := dk_21 5 (dk_at dksL_law_116 4 rfl rfl)
theorem dL_law_2922 : decode cL_law 2922 = .ok (.iconst 1, 1) := dk_4 (dk_at dksL_law_116 6 rfl rfl)
theorem dL_law_2923 : decode cL_law 2923 = .ok (.iadd, 1) := dk_96 (dk_at dksL_law_116 7 rfl rfl)
theorem dL_law_2924 : decode cL_law 2924 = .ok (.iaload, 1) := dk_46 (dk_at dksL_law_116 8 rfl rfl)
theorem dL_law_2925 : decode cL_law 2925 = .ok (.i2c, 1) := dk_146 (dk_at dksL_law_116 9 rfl rfl)
theorem dL_law_2926 : decode cL_law 2926 = .ok (.invokevirtual 335, 3) := dk_182 1 79 (dk_at dksL_law_116 10 rfl rfl)
theorem dL_law_2929 : decode cL_law 2929 = .ok (.istore 7, 2) := dk_54 7 (dk_at dksL_law_116 13 rfl rfl)
theorem dL_law_2931 : decode cL_law 2931 = .ok (.aload_n 2, 1) := dk_44 (dk_at dksL_law_116 15 rfl rfl)
theorem dL_law_2932 : decode cL_law 2932 = .ok (.invokevirtual 178, 3) := dk_182 0 178 (dk_at dksL_law_116 16 rfl rfl)
theorem dL_law_2935 : decode cL_law 2935 = .ok (.iload 6, 2) := dk_21 6 (dk_at dksL_law_116 19 rfl rfl)
theorem dL_law_2937 : decode cL_law 2937 = .ok (.if_icmp .eq 5, 3) := dk_159 0 5 (dk_at dksL_law_116 21 rfl rfl)
theorem dL_law_2940 : decode cL_law 2940 = .ok (.iconst 0, 1) := dk_3 (dk_at dksL_law_117 0 rfl rfl)
theorem dL_law_2941 : decode cL_law 2941 = .ok (.ireturn, 1) := dk_172 (dk_at dksL_law_117 1 rfl rfl)
theorem dL_law_2942 : decode cL_law 2942 = .ok (.iload 6, 2) := dk_21 6 (dk_at dksL_law_117 2 rfl rfl)
theorem dL_law_2944 : decode cL_law 2944 = .ok (.ifCond .ne 15, 3) := dk_154 0 15 (dk_at dksL_law_117 4 rfl rfl)
theorem dL_law_2947 : decode cL_law 2947 = .ok (.aload_n 3, 1) := dk_45 (dk_at dksL_law_117 7 rfl rfl)
theorem dL_law_2948 : decode cL_law 2948 = .ok (.iconst 0, 1) := dk_3 (dk_at dksL_law_117 8 rfl rfl)
theorem dL_law_2949 : decode cL_law 2949 = .ok (.laload, 1) := dk_47 (dk_at dksL_law_117 9 rfl rfl)
theorem dL_law_2950 : decode cL_law 2950 = .ok (.iload 7, 2) := dk_21 7 (dk_at dksL_law_117 10 rfl rfl)
theorem dL_law_2952 : decode cL_law 2952 = .ok (.i2l, 1) := dk_133 (dk_at dksL_law_117 12 rfl rfl)
theorem dL_law_2953 : decode cL_law 2953 = .ok (.lcmp, 1) := dk_148 (dk_at dksL_law_117 13 rfl rfl)
theorem dL_law_2954 : decode cL_law 2954 = .ok (.ifCond .eq 5, 3) := dk_153 0 5 (dk_at dksL_law_117 14 rfl rfl)
theorem dL_law_2957 : decode cL_law 2957 = .ok (.iconst 0, 1) := dk_3 (dk_at dksL_law_117 17 rfl rfl)
theorem dL_law_2958 : decode cL_law 2958 = .ok (.ireturn, 1) := dk_172 (dk_at dksL_law_117 18 rfl rfl)
theorem dL_law_2959 : decode cL_law 2959 = .ok (.goto 236, 3) := dk_167 0 236 (dk_at dksL_law_117 19 rfl rfl)
theorem dL_law_2962 : decode cL_law 2962 = .ok (.aload_n 1, 1) := dk_43 (dk_at dksL_law_117 22 rfl rfl)
theorem dL_law_2963 : decode cL_law 2963 = .ok (.aload_n 3, 1) := dk_45 (dk_at dksL_law_117 23 rfl rfl)
theorem dL_law_2964 : decode cL_law 2964 = .ok (.invokestatic 336, 3) := dk_184 1 80 (dk_at dksL_law_118 0 rfl rfl)
theorem dL_law_2967 : decode cL_law 2967 = .ok (.istore 6, 2) := dk_54 6 (dk_at dksL_law_118 3 rfl rfl)
theorem dL_law_2969 : decode cL_law 2969 = .ok (.aload_n 2, 1) := dk_44 (dk_at dksL_law_118 5 rfl rfl)
theorem dL_law_2970 : decode cL_law 2970 = .ok (.invokevirtual 339, 3) := dk_182 1 83 (dk_at dksL_law_118 6 rfl rfl)
theorem dL_law_2973 : decode cL_law 2973 = .ok (.istore 7, 2) := dk_54 7 (dk_at dksL_law_118 9 rfl rfl)
theorem dL_law_2975 : decode cL_law 2975 = .ok (.aload_n 2, 1) := dk_44 (dk_at dksL_law_118 11 rfl rfl)
theorem dL_law_2976 : decode cL_law 2976 = .ok (.invokevirtual 178, 3) := dk_182 0 178 (dk_at dksL_law_118 12 rfl rfl)
theorem dL_law_2979 : decode cL_law 2979 = .ok (.iload 6, 2) := dk_21 6 (dk_at dksL_law_118 15 rfl rfl)
theorem dL_law_2981 : decode cL_law 2981 = .ok (.if_icmp .eq 5, 3) := dk_159 0 5 (dk_at dksL_law_118 17 rfl rfl)
theorem dL_law_2984 : decode cL_law 2984 = .ok (.iconst 0, 1) := dk_3 (dk_at dksL_law_118 20 rfl rfl)
theorem dL_law_2985 : decode cL_law 2985 = .ok (.ireturn, 1) := dk_172 (dk_at dksL_law_118 21 rfl rfl)
theorem dL_law_2986 : decode cL_law 2986 = .ok (.iload 6, 2) := dk_21 6 (dk_at dksL_law_118 22 rfl rfl)
theorem dL_law_2988 : decode cL_law 2988 = .ok (.ifCond .ne 15, 3) := dk_154 0 15 (dk_at dksL_law_119 0 rfl rfl)
theorem dL_law_2991 : decode cL_law 2991 = .ok (.aload_n 3, 1) := dk_45 (dk_at dksL_law_119 3 rfl rfl)
theorem dL_law_2992 : decode cL_law 2992 = .ok (.iconst 0, 1) := dk_3 (dk_at dksL_law_119 4 rfl rfl)
theorem dL_law_2993 : decode cL_law 2993 = .ok (.laload, 1) := dk_47 (dk_at dksL_law_119 5 rfl rfl)
theorem dL_law_2994 : decode cL_law 2994 = .ok (.iload 7, 2) := dk_21 7 (dk_at dksL_law_119 6 rfl rfl)
theorem dL_law_2996 : decode cL_law 2996 = .ok (.i2l, 1) := dk_133 (dk_at dksL_law_119 8 rfl rfl)
theorem dL_law_2997 : decode cL_law 2997 = .ok (.lcmp, 1) := dk_148 (dk_at dksL_law_119 9 rfl rfl)
theorem dL_law_2998 : decode cL_law 2998 = .ok (.ifCond .eq 5, 3) := dk_153 0 5 (dk_at dksL_law_119 10 rfl rfl)
theorem dL_law_3001 : decode cL_law 3001 = .ok (.iconst 0, 1) := dk_3 (dk_at dksL_law_119 13 rfl rfl)
theorem dL_law_3002 : decode cL_law 3002 = .ok (.ireturn, 1) := dk_172 (dk_at dksL_law_119 14 rfl rfl)
theorem dL_law_3003 : decode cL_law 3003 = .ok (.goto 192, 3) := dk_167 0 192 (dk_at dksL_law_119 15 rfl rfl)
theorem dL_law_3006 : decode cL_law 3006 = .ok (.aload_n 1, 1) := dk_43 (dk_at dksL_law_119 18 rfl rfl)
theorem dL_law_3007 : decode cL_law 3007 = .ok (.aload_n 3, 1) := dk_45 (dk_at dksL_law_119 19 rfl rfl)
theorem dL_law_3008 : decode cL_law 3008 = .ok (.invokestatic 340, 3) := dk_184 1 84 (dk_at dksL_law_119 20 rfl rfl)
theorem dL_law_3011 : decode cL_law 3011 = .ok (.istore 6, 2) := dk_54 6 (dk_at dksL_law_120 0 rfl rfl)
theorem dL_law_3013 : decode cL_law 3013 = .ok (.aload_n 2, 1) := dk_44 (dk_at dksL_law_120 2 rfl rfl)
theorem dL_law_3014 : decode cL_law 3014 = .ok (.invokevirtual 342, 3) := dk_182 1 86 (dk_at dksL_law_120 3 rfl rfl)
theorem dL_law_3017 : decode cL_law 3017 = .ok (.istore 7, 2) := dk_54 7 (dk_at dksL_law_120 6 rfl rfl)
theorem dL_law_3019 : decode cL_law 3019 = .ok (.aload_n 2, 1) := dk_44 (dk_at dksL_law_120 8 rfl rfl)
theorem dL_law_3020 : decode cL_law 3020 = .ok (.invokevirtual 178, 3) := dk_182 0 178 (dk_at dksL_law_120 9 rfl rfl)
theorem dL_law_3023 : decode cL_law 3023 = .ok (.iload 6, 2) := dk_21 6 (dk_at dksL_law_120 12 rfl rfl)
theorem dL_law_3025 : decode cL_law 3025 = .ok (.if_icmp .eq 5, 3) := dk_159 0 5 (dk_at dksL_law_120 14 rfl rfl)
theorem dL_law_3028 : decode cL_law 3028 = .ok (.iconst 0, 1) := dk_3 (dk_at dksL_law_120 17 rfl rfl)
theorem dL_law_3029 : decode cL_law 3029 = .ok (.ireturn, 1) := dk_172 (dk_at dksL_law_120 18 rfl rfl)
theorem dL_law_3030 : decode cL_law 3030 = .ok (.iload 6, 2) := dk_21 6 (dk_at dksL_law_120 19 rfl rfl)
theorem dL_law_3032 : decode cL_law 3032 = .ok (.ifCond .ne 15, 3) := dk_154 0 15 (dk_at dksL_law_120 21 rfl rfl)
theorem dL_law_3035 : decode cL_law 3035 = .ok (.aload_n 3, 1) := dk_45 (dk_at dksL_law_121 0 rfl rfl)
theorem dL_law_3036 : decode cL_law 3036 = .ok (.iconst 0, 1) := dk_3 (dk_at dksL_law_121 1 rfl rfl)
theorem dL_law_3037 : decode cL_law 3037 = .ok (.laload, 1) := dk_47 (dk_at dksL_law_121 2 rfl rfl)
theorem dL_law_3038 : decode cL_law 3038 = .ok (.iload 7, 2) := dk_21 7 (dk_at dksL_law_121 3 rfl rfl)
theorem dL_law_3040 : decode cL_law 3040 = .ok (.i2l, 1) := dk_133 (dk_at dksL_law_121 5 rfl rfl)
theorem dL_law_3041 : decode cL_law 3041 = .ok (.lcmp, 1) := dk_148 (dk_at dksL_law_121 6 rfl rfl)
theorem dL_law_3042 : decode cL_law 3042 = .ok (.ifCond .eq 5, 3) := dk_153 0 5 (dk_at dksL_law_121 7 rfl rfl)
theorem dL_law_3045 : decode cL_law 3045 = .ok (.iconst 0, 1) := dk_3 (dk_at dksL_law_121 10 rfl rfl)
theorem dL_law_3046 : decode cL_law 3046 = .ok (.ireturn, 1) := dk_172 (dk_at dksL_law_121 11 rfl rfl)
theorem dL_law_3047 : decode cL_law 3047 = .ok (.goto 148, 3) := dk_167 0 148 (dk_at dksL_law_121 12 rfl rfl)
theorem dL_law_3050 : decode cL_law 3050 = .ok (.aload_n 1, 1) := dk_43 (dk_at dksL_law_121 15 rfl rfl)
theorem dL_law_3051 : decode cL_law 3051 = .ok (.aload_n 3, 1) := dk_45 (dk_at dksL_law_121 16 rfl rfl)
theorem dL_law_3052 : decode cL_law 3052 = .ok (.invokestatic 343, 3) := dk_184 1 87 (dk_at dksL_law_121 17 rfl rfl)
theorem dL_law_3055 : decode cL_law 3055 = .ok (.istore 6, 2) := dk_54 6 (dk_at dksL_law_121 20 rfl rfl)
theorem dL_law_3057 : decode cL_law 3057 = .ok (.aload_n 2, 1) := dk_44 (dk_at dksL_law_121 22 rfl rfl)
theorem dL_law_3058 : decode cL_law 3058 = .ok (.invokevirtual 345, 3) := dk_182 1 89 (dk_at dksL_law_122 0 rfl rfl)
theorem dL_law_3061 : decode cL_law 3061 = .ok (.istore 7, 2) := dk_54 7 (dk_at dksL_law_122 3 rfl rfl)
theorem dL_law_3063 : decode cL_law 3063 = .ok (.aload_n 2, 1) := dk_44 (dk_at dksL_law_122 5 rfl rfl)
theorem dL_law_3064 : decode cL_law 3064 = .ok (.invokevirtual 178, 3) := dk_182 0 178 (dk_at dksL_law_122 6 rfl rfl)
theorem dL_law_3067 : decode cL_law 3067 = .ok (.iload 6, 2) := dk_21 6 (dk_at dksL_law_122 9 rfl rfl)
theorem dL_law_3069 : decode cL_law 3069 = .ok (.if_icmp .eq 5, 3) := dk_159 0 5 (dk_at dksL_law_122 11 rfl rfl)
theorem dL_law_3072 : decode cL_law 3072 = .ok (.iconst 0, 1) := dk_3 (dk_at dksL_law_122 14 rfl rfl)
theorem dL_law_3073 : decode cL_law 3073 = .ok (.ireturn, 1) := dk_172 (dk_at dksL_law_122 15 rfl rfl)
theorem dL_law_3074 : decode cL_law 3074 = .ok (.iload 6, 2) := dk_21 6 (dk_at dksL_law_122 16 rfl rfl)
theorem dL_law_3076 : decode cL_law 3076 = .ok (.ifCond .ne 15, 3) := dk_154 0 15 (dk_at dksL_law_122 18 rfl rfl)
theorem dL_law_3079 : decode cL_law 3079 = .ok (.aload_n 3, 1) := dk_45 (dk_at dksL_law_122 21 rfl rfl)
theorem dL_law_3080 : decode cL_law 3080 = .ok (.iconst 0, 1) := dk_3 (dk_at dksL_law_122 22 rfl rfl)
theorem dL_law_3081 : decode cL_law 3081 = .ok (.laload, 1) := dk_47 (dk_at dksL_law_122 23 rfl rfl)
theorem dL_law_3082 : decode cL_law 3082 = .ok (.iload 7, 2) := dk_21 7 (dk_at dksL_law_123 0 rfl rfl)
theorem dL_law_3084 : decode cL_law 3084 = .ok (.i2l, 1) := dk_133 (dk_at dksL_law_123 2 rfl rfl)
theorem dL_law_3085 : decode cL_law 3085 = .ok (.lcmp, 1) := dk_148 (dk_at dksL_law_123 3 rfl rfl)
theorem dL_law_3086 : decode cL_law 3086 = .ok (.ifCond .eq 5, 3) := dk_153 0 5 (dk_at dksL_law_123 4 rfl rfl)
theorem dL_law_3089 : decode cL_law 3089 = .ok (.iconst 0, 1) := dk_3 (dk_at dksL_law_123 7 rfl rfl)
theorem dL_law_3090 : decode cL_law 3090 = .ok (.ireturn, 1) := dk_172 (dk_at dksL_law_123 8 rfl rfl)
theorem dL_law_3091 : decode cL_law 3091 = .ok (.goto 104, 3) := dk_167 0 104 (dk_at dksL_law_123 9 rfl rfl)
theorem dL_law_3094 : decode cL_law 3094 = .ok (.aload_n 1, 1) := dk_43 (dk_at dksL_law_123 12 rfl rfl)
theorem dL_law_3095 : decode cL_law 3095 = .ok (.aload_n 3, 1) := dk_45 (dk_at dksL_law_123 13 rfl rfl)
theorem dL_law_3096 : decode cL_law 3096 = .ok (.invokestatic 346, 3) := dk_184 1 90 (dk_at dksL_law_123 14 rfl rfl)
theorem dL_law_3099 : decode cL_law 3099 = .ok (.istore 6, 2) := dk_54 6 (dk_at dksL_law_123 17 rfl rfl)
theorem dL_law_3101 : decode cL_law 3101 = .ok (.aload_n 2, 1) := dk_44 (dk_at dksL_law_123 19 rfl rfl)
theorem dL_law_3102 : decode cL_law 3102 = .ok (.invokevirtual 348, 3) := dk_182 1 92 (dk_at dksL_law_123 20 rfl rfl)
theorem dL_law_3105 : decode cL_law 3105 = .ok (.istore 7, 2) := dk_54 7 (dk_at dksL_law_124 0 rfl rfl)
theorem dL_law_3107 : decode cL_law 3107 = .ok (.aload_n 2, 1) := dk_44 (dk_at dksL_law_124 2 rfl rfl)
theorem dL_law_3108 : decode cL_law 3108 = .ok (.invokevirtual 178, 3) := dk_182 0 178 (dk_at dksL_law_124 3 rfl rfl)
theorem dL_law_3111 : decode cL_law 3111 = .ok (.iload 6, 2) := dk_21 6 (dk_at dksL_law_124 6 rfl rfl)
theorem dL_law_3113 : decode cL_law 3113 = .ok (.if_icmp .eq 5, 3) := dk_159 0 5 (dk_at dksL_law_124 8 rfl rfl)
theorem dL_law_3116 : decode cL_law 3116 = .ok (.iconst 0, 1) := dk_3 (dk_at dksL_law_124 11 rfl rfl)
theorem dL_law_3117 : decode cL_law 3117 = .ok (.ireturn, 1) := dk_172 (dk_at dksL_law_124 12 rfl rfl)
theorem dL_law_3118 : decode cL_law 3118 = .ok (.iload 6, 2) := dk_21 6 (dk_at dksL_law_124 13 rfl rfl)
theorem dL_law_3120 : decode cL_law 3120 = .ok (.ifCond .ne 15, 3) := dk_154 0 15 (dk_at dksL_law_124 15 rfl rfl)
theorem dL_law_3123 : decode cL_law 3123 = .ok (.aload_n 3, 1) := dk_45 (dk_at dksL_law_124 18 rfl rfl)
theorem dL_law_3124 : decode cL_law 3124 = .ok (.iconst 0, 1) := dk_3 (dk_at dksL_law_124 19 rfl rfl)
theorem dL_law_3125 : decode cL_law 3125 = .ok (.laload, 1) := dk_47 (dk_at dksL_law_124 20 rfl rfl)
theorem dL_law_3126 : decode cL_law 3126 = .ok (.iload 7, 2) := dk_21 7 (dk_at dksL_law_124 21 rfl rfl)
theorem dL_law_3128 : decode cL_law 3128 = .ok (.i2l, 1) := dk_133 (dk_at dksL_law_124 23 rfl rfl)
theorem dL_law_3129 : decode cL_law 3129 = .ok (.lcmp, 1) := dk_148 (dk_at dksL_law_125 0 rfl rfl)
theorem dL_law_3130 : decode cL_law 3130 = .ok (.ifCond .eq 5, 3) := dk_153 0 5 (dk_at dksL_law_125 1 rfl rfl)
theorem dL_law_3133 : decode cL_law 3133 = .ok (.iconst 0, 1) := dk_3 (dk_at dksL_law_125 4 rfl rfl)
theorem dL_law_3134 : decode cL_law 3134 = .ok (.ireturn, 1) := dk_172 (dk_at dksL_law_125 5 rfl rfl)
theorem dL_law_3135 : decode cL_law 3135 = .ok (.goto 60, 3) := dk_167 0 60 (dk_at dksL_law_125 6 rfl rfl)
theorem dL_law_3138 : decode cL_law 3138 = .ok (.aload_n 1, 1) := dk_43 (dk_at dksL_law_125 9 rfl rfl)
theorem dL_law_3139 : decode cL_law 3139 = .ok (.invokevirtual 349, 3) := dk_182 1 93 (dk_at dksL_law_125 10 rfl rfl)
theorem dL_law_3142 : decode cL_law 3142 = .ok (.aload_n 2, 1) := dk_44 (dk_at dksL_law_125 13 rfl rfl)
theorem dL_law_3143 : decode cL_law 3143 = .ok (.invokevirtual 352, 3) := dk_182 1 96 (dk_at dksL_law_125 14 rfl rfl)
theorem dL_law_3146 : decode cL_law 3146 = .ok (.if_icmp .eq 49, 3) := dk_159 0 49 (dk_at dksL_law_125 17 rfl rfl)
theorem dL_law_3149 : decode cL_law 3149 = .ok (.iconst 0, 1) := dk_3 (dk_at dksL_law_125 20 rfl rfl)
theorem dL_law_3150 : decode cL_law 3150 = .ok (.ireturn, 1) := dk_172 (dk_at dksL_law_125 21 rfl rfl)
theorem dL_law_3151 : decode cL_law 3151 = .ok (.aload_n 1, 1) := dk_43 (dk_at dksL_law_125 22 rfl rfl)
theorem dL_law_3152 : decode cL_law 3152 = .ok (.aload_n 3, 1) := dk_45 (dk_at dksL_law_125 23 rfl rfl)
theorem dL_law_3153 : decode cL_law 3153 = .ok (.invokestatic 353, 3) := dk_184 1 97 (dk_at dksL_law_126 0 rfl rfl)
theorem dL_law_3156 : decode cL_law 3156 = .ok (.istore 6, 2) := dk_54 6 (dk_at dksL_law_126 3 rfl rfl)
theorem dL_law_3158 : decode cL_law 3158 = .ok (.aload_n 2, 1) := dk_44 (dk_at dksL_law_126 5 rfl rfl)
theorem dL_law_3159 : decode cL_law 3159 = .ok (.invokevirtual 355, 3) := dk_182 1 99 (dk_at dksL_law_126 6 rfl rfl)
theorem dL_law_3162 : decode cL_law 3162 = .ok (.istore 7, 2) := dk_54 7 (dk_at dksL_law_126 9 rfl rfl)
theorem dL_law_3164 : decode cL_law 3164 = .ok (.aload_n 2, 1) := dk_44 (dk_at dksL_law_126 11 rfl rfl)
theorem dL_law_3165 : decode cL_law 3165 = .ok (.invokevirtual 178, 3) := dk_182 0 178 (dk_at dksL_law_126 12 rfl rfl)
theorem dL_law_3168 : decode cL_law 3168 = .ok (.iload 6, 2) := dk_21 6 (dk_at dksL_law_126 15 rfl rfl)
theorem dL_law_3170 : decode cL_law 3170 = .ok (.if_icmp .eq 5, 3) := dk_159 0 5 (dk_at dksL_law_126 17 rfl rfl)
theorem dL_law_3173 : decode cL_law 3173 = .ok (.iconst 0, 1) := dk_3 (dk_at dksL_law_126 20 rfl rfl)
theorem dL_law_3174 : decode cL_law 3174 = .ok (.ireturn, 1) := dk_172 (dk_at dksL_law_126 21 rfl rfl)
theorem dL_law_3175 : decode cL_law 3175 = .ok (.iload 6, 2) := dk_21 6 (dk_at dksL_law_126 22 rfl rfl)
theorem dL_law_3177 : decode cL_law 3177 = .ok (.ifCond .ne 15, 3) := dk_154 0 15 (dk_at dksL_law_127 0 rfl rfl)
theorem dL_law_3180 : decode cL_law 3180 = .ok (.aload_n 3, 1) := dk_45 (dk_at dksL_law_127 3 rfl rfl)
theorem dL_law_3181 : decode cL_law 3181 = .ok (.iconst 0, 1) := dk_3 (dk_at dksL_law_127 4 rfl rfl)
theorem dL_law_3182 : decode cL_law 3182 = .ok (.laload, 1) := dk_47 (dk_at dksL_law_127 5 rfl rfl)
theorem dL_law_3183 : decode cL_law 3183 = .ok (.iload 7, 2) := dk_21 7 (dk_at dksL_law_127 6 rfl rfl)
theorem dL_law_3185 : decode cL_law 3185 = .ok (.i2l, 1) := dk_133 (dk_at dksL_law_127 8 rfl rfl)
theorem dL_law_3186 : decode cL_law 3186 = .ok (.lcmp, 1) := dk_148 (dk_at dksL_law_127 9 rfl rfl)
theorem dL_law_3187 : decode cL_law 3187 = .ok (.ifCond .eq 5, 3) := dk_153 0 5 (dk_at dksL_law_127 10 rfl rfl)
theorem dL_law_3190 : decode cL_law 3190 = .ok (.iconst 0, 1) := dk_3 (dk_at dksL_law_127 13 rfl rfl)
theorem dL_law_3191 : decode cL_law 3191 = .ok (.ireturn, 1) := dk_172 (dk_at dksL_law_127 14 rfl rfl)
theorem dL_law_3192 : decode cL_law 3192 = .ok (.goto 3, 3) := dk_167 0 3 (dk_at dksL_law_127 15 rfl rfl)
theorem dL_law_3195 : decode cL_law 3195 = .ok (.iinc 5 5, 3) := dk_132 5 5 (dk_at dksL_law_127 18 rfl rfl)
theorem dL_law_3198 : decode cL_law 3198 = .ok (.goto (-3170), 3) := dk_167 243 158 (dk_at dksL_law_127 21 rfl rfl)
theorem dL_law_3201 : decode cL_law 3201 = .ok (.iconst 1, 1) := dk_4 (dk_at dksL_law_128 0 rfl rfl)
theorem dL_law_3202 : decode cL_law 3202 = .ok (.ireturn, 1) := dk_172 (dk_at dksL_law_128 1 rfl rfl)
