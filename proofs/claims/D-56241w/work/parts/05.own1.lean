/-! SleeperRailway -/
set_option maxRecDepth 100000
def RX1 : String := "SleeperRailway"
def TX1 : u_T := fun k => match k with
  | 0 => ("SleeperRailway", "railway", "LSleeperRailway$Railway;", false)
  | 1 => ("SleeperRailway", "snapshot", "LSleeperRailway$Railway;", false)
  | 2 => ("SleeperRailway", "history", "Ljava/util/LinkedList;", true)
  | 3 => ("SleeperRailway", "script", "Ljava/lang/StringBuilder;", true)
  | 4 => ("SleeperRailway", "errorPosition", "I", false)
  | 5 => ("SleeperRailway", "failedCommand", "I", false)
  | _ => ("SleeperRailway", "output", "Ljava/lang/String;", false)
def tyX1 : Nat → FieldType := fun k => match k with
  | 0 => .object "SleeperRailway$Railway"
  | 1 => .object "SleeperRailway$Railway"
  | 2 => .object "java/util/LinkedList"
  | 3 => .object "java/lang/StringBuilder"
  | 4 => .int
  | 5 => .int
  | _ => .object "java/lang/String"
abbrev wsX10 : List Cond := u_ws RX1 TX1 7
theorem nmX1 : ∀ a, a < 7 → ∀ b, b < 7 → a ≠ b → (TX1 a).2.1 ≠ (TX1 b).2.1 := by decide +kernel
theorem tyX1_ok : ∀ k, k < 7 → parseFieldDescriptor (TX1 k).2.2.1 = some (tyX1 k) := by decide +kernel
abbrev cX1_init : ByteArray := prog_1_method_3_code
def yX1_init : MethodName := ⟨RX1, "<init>", "()V"⟩
def dkwX1_init_2 : List UInt8 := [183, 0, 43, 181, 0, 44, 177]
abbrev dktX1_init_2 : List UInt8 := dkwX1_init_2 ++ []
def dkwX1_init_1 : List UInt8 := [181, 0, 24, 42, 2, 181, 0, 28, 42, 2, 181, 0, 32, 42, 18, 35, 181, 0, 37, 42, 187, 0, 41, 89]
abbrev dktX1_init_1 : List UInt8 := dkwX1_init_1 ++ dktX1_init_2
def dkwX1_init_0 : List UInt8 := [42, 183, 0, 7, 42, 187, 0, 12, 89, 183, 0, 14, 181, 0, 15, 42, 187, 0, 21, 89, 183, 0, 23]
abbrev dktX1_init_0 : List UInt8 := dkwX1_init_0 ++ dktX1_init_1
theorem dksX1_init_0 : cX1_init.data.toList.drop 0 = dktX1_init_0 := by decide +kernel
theorem dksX1_init_1 : cX1_init.data.toList.drop 23 = dktX1_init_1 := dk_seg dksX1_init_0 23 rfl rfl
theorem dksX1_init_2 : cX1_init.data.toList.drop 47 = dktX1_init_2 := dk_seg dksX1_init_1 24 rfl rfl
theorem dX1_init_0 : decode cX1_init 0 = .ok (.aload_n 0, 1) := dk_42 (dk_at dksX1_init_0 0 rfl rfl)
theorem dX1_init_1 : decode cX1_init 1 = .ok (.invokespecial 7, 3) := dk_183 0 7 (dk_at dksX1_init_0 1 rfl rfl)
theorem dX1_init_4 : decode cX1_init 4 = .ok (.aload_n 0, 1) := dk_42 (dk_at dksX1_init_0 4 rfl rfl)
theorem dX1_init_5 : decode cX1_init 5 = .ok (.new 12, 3) := dk_187 0 12 (dk_at dksX1_init_0 5 rfl rfl)
theorem dX1_init_8 : decode cX1_init 8 = .ok (.dup, 1) := dk_89 (dk_at dksX1_init_0 8 rfl rfl)
theorem dX1_init_9 : decode cX1_init 9 = .ok (.invokespecial 14, 3) := dk_183 0 14 (dk_at dksX1_init_0 9 rfl rfl)
theorem dX1_init_12 : decode cX1_init 12 = .ok (.putfield 15, 3) := dk_181 0 15 (dk_at dksX1_init_0 12 rfl rfl)
theorem dX1_init_15 : decode cX1_init 15 = .ok (.aload_n 0, 1) := dk_42 (dk_at dksX1_init_0 15 rfl rfl)
theorem dX1_init_16 : decode cX1_init 16 = .ok (.new 21, 3) := dk_187 0 21 (dk_at dksX1_init_0 16 rfl rfl)
theorem dX1_init_19 : decode cX1_init 19 = .ok (.dup, 1) := dk_89 (dk_at dksX1_init_0 19 rfl rfl)
theorem dX1_init_20 : decode cX1_init 20 = .ok (.invokespecial 23, 3) := dk_183 0 23 (dk_at dksX1_init_0 20 rfl rfl)
theorem dX1_init_23 : decode cX1_init 23 = .ok (.putfield 24, 3) := dk_181 0 24 (dk_at dksX1_init_1 0 rfl rfl)
theorem dX1_init_26 : decode cX1_init 26 = .ok (.aload_n 0, 1) := dk_42 (dk_at dksX1_init_1 3 rfl rfl)
theorem dX1_init_27 : decode cX1_init 27 = .ok (.iconst (-1), 1) := dk_2 (dk_at dksX1_init_1 4 rfl rfl)
theorem dX1_init_28 : decode cX1_init 28 = .ok (.putfield 28, 3) := dk_181 0 28 (dk_at dksX1_init_1 5 rfl rfl)
theorem dX1_init_31 : decode cX1_init 31 = .ok (.aload_n 0, 1) := dk_42 (dk_at dksX1_init_1 8 rfl rfl)
theorem dX1_init_32 : decode cX1_init 32 = .ok (.iconst (-1), 1) := dk_2 (dk_at dksX1_init_1 9 rfl rfl)
theorem dX1_init_33 : decode cX1_init 33 = .ok (.putfield 32, 3) := dk_181 0 32 (dk_at dksX1_init_1 10 rfl rfl)
theorem dX1_init_36 : decode cX1_init 36 = .ok (.aload_n 0, 1) := dk_42 (dk_at dksX1_init_1 13 rfl rfl)
theorem dX1_init_37 : decode cX1_init 37 = .ok (.ldc 35, 2) := dk_18 35 (dk_at dksX1_init_1 14 rfl rfl)
theorem dX1_init_39 : decode cX1_init 39 = .ok (.putfield 37, 3) := dk_181 0 37 (dk_at dksX1_init_1 16 rfl rfl)
theorem dX1_init_42 : decode cX1_init 42 = .ok (.aload_n 0, 1) := dk_42 (dk_at dksX1_init_1 19 rfl rfl)
theorem dX1_init_43 : decode cX1_init 43 = .ok (.new 41, 3) := dk_187 0 41 (dk_at dksX1_init_1 20 rfl rfl)
theorem dX1_init_46 : decode cX1_init 46 = .ok (.dup, 1) := dk_89 (dk_at dksX1_init_1 23 rfl rfl)
theorem dX1_init_47 : decode cX1_init 47 = .ok (.invokespecial 43, 3) := dk_183 0 43 (dk_at dksX1_init_2 0 rfl rfl)
theorem dX1_init_50 : decode cX1_init 50 = .ok (.putfield 44, 3) := dk_181 0 44 (dk_at dksX1_init_2 3 rfl rfl)
theorem dX1_init_53 : decode cX1_init 53 = .ok (.return_, 1) := dk_177 (dk_at dksX1_init_2 6 rfl rfl)
abbrev cX1_stationCount : ByteArray := prog_1_method_26_code
def yX1_stationCount : MethodName := ⟨RX1, "stationCount", "()I"⟩
def dkwX1_stationCount_0 : List UInt8 := [42, 180, 0, 44, 180, 0, 161, 185, 0, 165, 1, 0, 172]
abbrev dktX1_stationCount_0 : List UInt8 := dkwX1_stationCount_0 ++ []
theorem dksX1_stationCount_0 : cX1_stationCount.data.toList.drop 0 = dktX1_stationCount_0 := by decide +kernel
theorem dX1_stationCount_0 : decode cX1_stationCount 0 = .ok (.aload_n 0, 1) := dk_42 (dk_at dksX1_stationCount_0 0 rfl rfl)
theorem dX1_stationCount_1 : decode cX1_stationCount 1 = .ok (.getfield 44, 3) := dk_180 0 44 (dk_at dksX1_stationCount_0 1 rfl rfl)
theorem dX1_stationCount_4 : decode cX1_stationCount 4 = .ok (.getfield 161, 3) := dk_180 0 161 (dk_at dksX1_stationCount_0 4 rfl rfl)
theorem dX1_stationCount_7 : decode cX1_stationCount 7 = .ok (.invokeinterface 165 1, 5) := by decide +kernel
theorem dX1_stationCount_12 : decode cX1_stationCount 12 = .ok (.ireturn, 1) := dk_172 (dk_at dksX1_stationCount_0 12 rfl rfl)
abbrev cX1_trainCount : ByteArray := prog_1_method_29_code
def yX1_trainCount : MethodName := ⟨RX1, "trainCount", "()I"⟩
def dkwX1_trainCount_0 : List UInt8 := [42, 180, 0, 44, 180, 0, 137, 182, 0, 191, 172]
abbrev dktX1_trainCount_0 : List UInt8 := dkwX1_trainCount_0 ++ []
theorem dksX1_trainCount_0 : cX1_trainCount.data.toList.drop 0 = dktX1_trainCount_0 := by decide +kernel
theorem dX1_trainCount_0 : decode cX1_trainCount 0 = .ok (.aload_n 0, 1) := dk_42 (dk_at dksX1_trainCount_0 0 rfl rfl)
theorem dX1_trainCount_1 : decode cX1_trainCount 1 = .ok (.getfield 44, 3) := dk_180 0 44 (dk_at dksX1_trainCount_0 1 rfl rfl)
theorem dX1_trainCount_4 : decode cX1_trainCount 4 = .ok (.getfield 137, 3) := dk_180 0 137 (dk_at dksX1_trainCount_0 4 rfl rfl)
theorem dX1_trainCount_7 : decode cX1_trainCount 7 = .ok (.invokevirtual 191, 3) := dk_182 0 191 (dk_at dksX1_trainCount_0 7 rfl rfl)
theorem dX1_trainCount_10 : decode cX1_trainCount 10 = .ok (.ireturn, 1) := dk_172 (dk_at dksX1_trainCount_0 10 rfl rfl)
abbrev cX1_suitcaseCount : ByteArray := prog_1_method_44_code
def yX1_suitcaseCount : MethodName := ⟨RX1, "suitcaseCount", "()I"⟩
def dkwX1_suitcaseCount_0 : List UInt8 := [42, 180, 0, 44, 180, 0, 248, 182, 1, 11, 172]
abbrev dktX1_suitcaseCount_0 : List UInt8 := dkwX1_suitcaseCount_0 ++ []
theorem dksX1_suitcaseCount_0 : cX1_suitcaseCount.data.toList.drop 0 = dktX1_suitcaseCount_0 := by decide +kernel
theorem dX1_suitcaseCount_0 : decode cX1_suitcaseCount 0 = .ok (.aload_n 0, 1) := dk_42 (dk_at dksX1_suitcaseCount_0 0 rfl rfl)
theorem dX1_suitcaseCount_1 : decode cX1_suitcaseCount 1 = .ok (.getfield 44, 3) := dk_180 0 44 (dk_at dksX1_suitcaseCount_0 1 rfl rfl)
theorem dX1_suitcaseCount_4 : decode cX1_suitcaseCount 4 = .ok (.getfield 248, 3) := dk_180 0 248 (dk_at dksX1_suitcaseCount_0 4 rfl rfl)
theorem dX1_suitcaseCount_7 : decode cX1_suitcaseCount 7 = .ok (.invokevirtual 267, 3) := dk_182 1 11 (dk_at dksX1_suitcaseCount_0 7 rfl rfl)
theorem dX1_suitcaseCount_10 : decode cX1_suitcaseCount 10 = .ok (.ireturn, 1) := dk_172 (dk_at dksX1_suitcaseCount_0 10 rfl rfl)
abbrev cX1_bookingCount : ByteArray := prog_1_method_52_code
def yX1_bookingCount : MethodName := ⟨RX1, "bookingCount", "()I"⟩
def dkwX1_bookingCount_0 : List UInt8 := [42, 180, 0, 44, 180, 1, 47, 182, 1, 11, 172]
abbrev dktX1_bookingCount_0 : List UInt8 := dkwX1_bookingCount_0 ++ []
theorem dksX1_bookingCount_0 : cX1_bookingCount.data.toList.drop 0 = dktX1_bookingCount_0 := by decide +kernel
theorem dX1_bookingCount_0 : decode cX1_bookingCount 0 = .ok (.aload_n 0, 1) := dk_42 (dk_at dksX1_bookingCount_0 0 rfl rfl)
theorem dX1_bookingCount_1 : decode cX1_bookingCount 1 = .ok (.getfield 44, 3) := dk_180 0 44 (dk_at dksX1_bookingCount_0 1 rfl rfl)
theorem dX1_bookingCount_4 : decode cX1_bookingCount 4 = .ok (.getfield 303, 3) := dk_180 1 47 (dk_at dksX1_bookingCount_0 4 rfl rfl)
theorem dX1_bookingCount_7 : decode cX1_bookingCount 7 = .ok (.invokevirtual 267, 3) := dk_182 1 11 (dk_at dksX1_bookingCount_0 7 rfl rfl)
theorem dX1_bookingCount_10 : decode cX1_bookingCount 10 = .ok (.ireturn, 1) := dk_172 (dk_at dksX1_bookingCount_0 10 rfl rfl)
abbrev cX1_coins : ByteArray := prog_1_method_57_code
def yX1_coins : MethodName := ⟨RX1, "coins", "()I"⟩
def dkwX1_coins_0 : List UInt8 := [42, 180, 0, 44, 180, 1, 79, 172]
abbrev dktX1_coins_0 : List UInt8 := dkwX1_coins_0 ++ []
theorem dksX1_coins_0 : cX1_coins.data.toList.drop 0 = dktX1_coins_0 := by decide +kernel
theorem dX1_coins_0 : decode cX1_coins 0 = .ok (.aload_n 0, 1) := dk_42 (dk_at dksX1_coins_0 0 rfl rfl)
theorem dX1_coins_1 : decode cX1_coins 1 = .ok (.getfield 44, 3) := dk_180 0 44 (dk_at dksX1_coins_0 1 rfl rfl)
theorem dX1_coins_4 : decode cX1_coins 4 = .ok (.getfield 335, 3) := dk_180 1 79 (dk_at dksX1_coins_0 4 rfl rfl)
theorem dX1_coins_7 : decode cX1_coins 7 = .ok (.ireturn, 1) := dk_172 (dk_at dksX1_coins_0 7 rfl rfl)
abbrev cX1_coinsByLoads : ByteArray := prog_1_method_58_code
def yX1_coinsByLoads : MethodName := ⟨RX1, "coinsByLoads", "()I"⟩
def dkwX1_coinsByLoads_0 : List UInt8 := [42, 180, 0, 44, 182, 1, 82, 172]
abbrev dktX1_coinsByLoads_0 : List UInt8 := dkwX1_coinsByLoads_0 ++ []
theorem dksX1_coinsByLoads_0 : cX1_coinsByLoads.data.toList.drop 0 = dktX1_coinsByLoads_0 := by decide +kernel
theorem dX1_coinsByLoads_0 : decode cX1_coinsByLoads 0 = .ok (.aload_n 0, 1) := dk_42 (dk_at dksX1_coinsByLoads_0 0 rfl rfl)
theorem dX1_coinsByLoads_1 : decode cX1_coinsByLoads 1 = .ok (.getfield 44, 3) := dk_180 0 44 (dk_at dksX1_coinsByLoads_0 1 rfl rfl)
theorem dX1_coinsByLoads_4 : decode cX1_coinsByLoads 4 = .ok (.invokevirtual 338, 3) := dk_182 1 82 (dk_at dksX1_coinsByLoads_0 4 rfl rfl)
theorem dX1_coinsByLoads_7 : decode cX1_coinsByLoads 7 = .ok (.ireturn, 1) := dk_172 (dk_at dksX1_coinsByLoads_0 7 rfl rfl)
abbrev cX1_collectedTotal : ByteArray := prog_1_method_59_code
def yX1_collectedTotal : MethodName := ⟨RX1, "collectedTotal", "()I"⟩
def dkwX1_collectedTotal_0 : List UInt8 := [42, 180, 0, 44, 180, 1, 85, 172]
abbrev dktX1_collectedTotal_0 : List UInt8 := dkwX1_collectedTotal_0 ++ []
theorem dksX1_collectedTotal_0 : cX1_collectedTotal.data.toList.drop 0 = dktX1_collectedTotal_0 := by decide +kernel
theorem dX1_collectedTotal_0 : decode cX1_collectedTotal 0 = .ok (.aload_n 0, 1) := dk_42 (dk_at dksX1_collectedTotal_0 0 rfl rfl)
theorem dX1_collectedTotal_1 : decode cX1_collectedTotal 1 = .ok (.getfield 44, 3) := dk_180 0 44 (dk_at dksX1_collectedTotal_0 1 rfl rfl)
theorem dX1_collectedTotal_4 : decode cX1_collectedTotal 4 = .ok (.getfield 341, 3) := dk_180 1 85 (dk_at dksX1_collectedTotal_0 4 rfl rfl)
theorem dX1_collectedTotal_7 : decode cX1_collectedTotal 7 = .ok (.ireturn, 1) := dk_172 (dk_at dksX1_collectedTotal_0 7 rfl rfl)
abbrev cX1_isConsistent : ByteArray := prog_1_method_63_code
def yX1_isConsistent : MethodName := ⟨RX1, "isConsistent", "()Z"⟩
def dkwX1_isConsistent_0 : List UInt8 := [42, 180, 0, 44, 182, 1, 103, 172]
abbrev dktX1_isConsistent_0 : List UInt8 := dkwX1_isConsistent_0 ++ []
theorem dksX1_isConsistent_0 : cX1_isConsistent.data.toList.drop 0 = dktX1_isConsistent_0 := by decide +kernel
theorem dX1_isConsistent_0 : decode cX1_isConsistent 0 = .ok (.aload_n 0, 1) := dk_42 (dk_at dksX1_isConsistent_0 0 rfl rfl)
theorem dX1_isConsistent_1 : decode cX1_isConsistent 1 = .ok (.getfield 44, 3) := dk_180 0 44 (dk_at dksX1_isConsistent_0 1 rfl rfl)
theorem dX1_isConsistent_4 : decode cX1_isConsistent 4 = .ok (.invokevirtual 359, 3) := dk_182 1 103 (dk_at dksX1_isConsistent_0 4 rfl rfl)
theorem dX1_isConsistent_7 : decode cX1_isConsistent 7 = .ok (.ireturn, 1) := dk_172 (dk_at dksX1_isConsistent_0 7 rfl rfl)
abbrev cX1_isBetween : ByteArray := prog_1_method_2_code
def yX1_isBetween : MethodName := ⟨RX1, "isBetween", "(III)Z"⟩
def dkwX1_isBetween_0 : List UInt8 := [26, 27, 161, 0, 12, 26, 28, 163, 0, 7, 4, 167, 0, 4, 3, 172]
abbrev dktX1_isBetween_0 : List UInt8 := dkwX1_isBetween_0 ++ []
theorem dksX1_isBetween_0 : cX1_isBetween.data.toList.drop 0 = dktX1_isBetween_0 := by decide +kernel
theorem dX1_isBetween_0 : decode cX1_isBetween 0 = .ok (.iload_n 0, 1) := dk_26 (dk_at dksX1_isBetween_0 0 rfl rfl)
theorem dX1_isBetween_1 : decode cX1_isBetween 1 = .ok (.iload_n 1, 1) := dk_27 (dk_at dksX1_isBetween_0 1 rfl rfl)
theorem dX1_isBetween_2 : decode cX1_isBetween 2 = .ok (.if_icmp .lt 12, 3) := dk_161 0 12 (dk_at dksX1_isBetween_0 2 rfl rfl)
theorem dX1_isBetween_5 : decode cX1_isBetween 5 = .ok (.iload_n 0, 1) := dk_26 (dk_at dksX1_isBetween_0 5 rfl rfl)
theorem dX1_isBetween_6 : decode cX1_isBetween 6 = .ok (.iload_n 2, 1) := dk_28 (dk_at dksX1_isBetween_0 6 rfl rfl)
theorem dX1_isBetween_7 : decode cX1_isBetween 7 = .ok (.if_icmp .gt 7, 3) := dk_163 0 7 (dk_at dksX1_isBetween_0 7 rfl rfl)
theorem dX1_isBetween_10 : decode cX1_isBetween 10 = .ok (.iconst 1, 1) := dk_4 (dk_at dksX1_isBetween_0 10 rfl rfl)
theorem dX1_isBetween_11 : decode cX1_isBetween 11 = .ok (.goto 4, 3) := dk_167 0 4 (dk_at dksX1_isBetween_0 11 rfl rfl)
theorem dX1_isBetween_14 : decode cX1_isBetween 14 = .ok (.iconst 0, 1) := dk_3 (dk_at dksX1_isBetween_0 14 rfl rfl)
theorem dX1_isBetween_15 : decode cX1_isBetween 15 = .ok (.ireturn, 1) := dk_172 (dk_at dksX1_isBetween_0 15 rfl rfl)
abbrev cX1_save : ByteArray := prog_1_method_74_code
def yX1_save : MethodName := ⟨RX1, "save", "()I"⟩
def dkwX1_save_0 : List UInt8 := [42, 42, 180, 0, 44, 181, 1, 176, 42, 182, 1, 12, 172]
abbrev dktX1_save_0 : List UInt8 := dkwX1_save_0 ++ []
theorem dksX1_save_0 : cX1_save.data.toList.drop 0 = dktX1_save_0 := by decide +kernel
theorem dX1_save_0 : decode cX1_save 0 = .ok (.aload_n 0, 1) := dk_42 (dk_at dksX1_save_0 0 rfl rfl)
theorem dX1_save_1 : decode cX1_save 1 = .ok (.aload_n 0, 1) := dk_42 (dk_at dksX1_save_0 1 rfl rfl)
theorem dX1_save_2 : decode cX1_save 2 = .ok (.getfield 44, 3) := dk_180 0 44 (dk_at dksX1_save_0 2 rfl rfl)
theorem dX1_save_5 : decode cX1_save 5 = .ok (.putfield 432, 3) := dk_181 1 176 (dk_at dksX1_save_0 5 rfl rfl)
theorem dX1_save_8 : decode cX1_save 8 = .ok (.aload_n 0, 1) := dk_42 (dk_at dksX1_save_0 8 rfl rfl)
theorem dX1_save_9 : decode cX1_save 9 = .ok (.invokevirtual 268, 3) := dk_182 1 12 (dk_at dksX1_save_0 9 rfl rfl)
theorem dX1_save_12 : decode cX1_save 12 = .ok (.ireturn, 1) := dk_172 (dk_at dksX1_save_0 12 rfl rfl)
abbrev cX1_addStation : ByteArray := prog_1_method_6_code
def yX1_addStation : MethodName := ⟨RX1, "addStation", "(I)I"⟩
def dkwX1_addStation_0 : List UInt8 := [42, 18, 83, 4, 188, 10, 89, 3, 27, 79, 182, 0, 85, 172]
abbrev dktX1_addStation_0 : List UInt8 := dkwX1_addStation_0 ++ []
theorem dksX1_addStation_0 : cX1_addStation.data.toList.drop 0 = dktX1_addStation_0 := by decide +kernel
theorem dX1_addStation_0 : decode cX1_addStation 0 = .ok (.aload_n 0, 1) := dk_42 (dk_at dksX1_addStation_0 0 rfl rfl)
theorem dX1_addStation_1 : decode cX1_addStation 1 = .ok (.ldc 83, 2) := dk_18 83 (dk_at dksX1_addStation_0 1 rfl rfl)
theorem dX1_addStation_3 : decode cX1_addStation 3 = .ok (.iconst 1, 1) := dk_4 (dk_at dksX1_addStation_0 3 rfl rfl)
theorem dX1_addStation_4 : decode cX1_addStation 4 = .ok (.newarray .int, 2) := dk_188_10 (dk_at dksX1_addStation_0 4 rfl rfl)
theorem dX1_addStation_6 : decode cX1_addStation 6 = .ok (.dup, 1) := dk_89 (dk_at dksX1_addStation_0 6 rfl rfl)
theorem dX1_addStation_7 : decode cX1_addStation 7 = .ok (.iconst 0, 1) := dk_3 (dk_at dksX1_addStation_0 7 rfl rfl)
theorem dX1_addStation_8 : decode cX1_addStation 8 = .ok (.iload_n 1, 1) := dk_27 (dk_at dksX1_addStation_0 8 rfl rfl)
theorem dX1_addStation_9 : decode cX1_addStation 9 = .ok (.iastore, 1) := dk_79 (dk_at dksX1_addStation_0 9 rfl rfl)
theorem dX1_addStation_10 : decode cX1_addStation 10 = .ok (.invokevirtual 85, 3) := dk_182 0 85 (dk_at dksX1_addStation_0 10 rfl rfl)
theorem dX1_addStation_13 : decode cX1_addStation 13 = .ok (.ireturn, 1) := dk_172 (dk_at dksX1_addStation_0 13 rfl rfl)
abbrev cX1_change : ByteArray := prog_1_method_5_code
def yX1_change : MethodName := ⟨RX1, "change", "(Ljava/lang/String;[I)I"⟩
def dkwX1_change_1 : List UInt8 := [182, 0, 73, 172, 58, 4, 25, 4, 182, 0, 79, 191]
abbrev dktX1_change_1 : List UInt8 := dkwX1_change_1 ++ []
def dkwX1_change_0 : List UInt8 := [42, 180, 0, 44, 182, 0, 60, 78, 42, 45, 187, 0, 64, 89, 43, 44, 183, 0, 66, 45, 182, 0, 69]
abbrev dktX1_change_0 : List UInt8 := dkwX1_change_0 ++ dktX1_change_1
theorem dksX1_change_0 : cX1_change.data.toList.drop 0 = dktX1_change_0 := by decide +kernel
theorem dksX1_change_1 : cX1_change.data.toList.drop 23 = dktX1_change_1 := dk_seg dksX1_change_0 23 rfl rfl
theorem dX1_change_0 : decode cX1_change 0 = .ok (.aload_n 0, 1) := dk_42 (dk_at dksX1_change_0 0 rfl rfl)
theorem dX1_change_1 : decode cX1_change 1 = .ok (.getfield 44, 3) := dk_180 0 44 (dk_at dksX1_change_0 1 rfl rfl)
theorem dX1_change_4 : decode cX1_change 4 = .ok (.invokevirtual 60, 3) := dk_182 0 60 (dk_at dksX1_change_0 4 rfl rfl)
theorem dX1_change_7 : decode cX1_change 7 = .ok (.astore_n 3, 1) := dk_78 (dk_at dksX1_change_0 7 rfl rfl)
theorem dX1_change_8 : decode cX1_change 8 = .ok (.aload_n 0, 1) := dk_42 (dk_at dksX1_change_0 8 rfl rfl)
theorem dX1_change_9 : decode cX1_change 9 = .ok (.aload_n 3, 1) := dk_45 (dk_at dksX1_change_0 9 rfl rfl)
theorem dX1_change_10 : decode cX1_change 10 = .ok (.new 64, 3) := dk_187 0 64 (dk_at dksX1_change_0 10 rfl rfl)
theorem dX1_change_13 : decode cX1_change 13 = .ok (.dup, 1) := dk_89 (dk_at dksX1_change_0 13 rfl rfl)
theorem dX1_change_14 : decode cX1_change 14 = .ok (.aload_n 1, 1) := dk_43 (dk_at dksX1_change_0 14 rfl rfl)
theorem dX1_change_15 : decode cX1_change 15 = .ok (.aload_n 2, 1) := dk_44 (dk_at dksX1_change_0 15 rfl rfl)
theorem dX1_change_16 : decode cX1_change 16 = .ok (.invokespecial 66, 3) := dk_183 0 66 (dk_at dksX1_change_0 16 rfl rfl)
theorem dX1_change_19 : decode cX1_change 19 = .ok (.aload_n 3, 1) := dk_45 (dk_at dksX1_change_0 19 rfl rfl)
theorem dX1_change_20 : decode cX1_change 20 = .ok (.invokevirtual 69, 3) := dk_182 0 69 (dk_at dksX1_change_0 20 rfl rfl)
theorem dX1_change_23 : decode cX1_change 23 = .ok (.invokevirtual 73, 3) := dk_182 0 73 (dk_at dksX1_change_1 0 rfl rfl)
theorem dX1_change_26 : decode cX1_change 26 = .ok (.ireturn, 1) := dk_172 (dk_at dksX1_change_1 3 rfl rfl)
theorem dX1_change_27 : decode cX1_change 27 = .ok (.astore 4, 2) := dk_58 4 (dk_at dksX1_change_1 4 rfl rfl)
theorem dX1_change_29 : decode cX1_change 29 = .ok (.aload 4, 2) := dk_25 4 (dk_at dksX1_change_1 6 rfl rfl)
theorem dX1_change_31 : decode cX1_change 31 = .ok (.invokevirtual 79, 3) := dk_182 0 79 (dk_at dksX1_change_1 8 rfl rfl)
theorem dX1_change_34 : decode cX1_change 34 = .ok (.athrow, 1) := dk_191 (dk_at dksX1_change_1 11 rfl rfl)
abbrev cX1_demand : ByteArray := prog_1_method_1_code
def yX1_demand : MethodName := ⟨RX1, "demand", "(ZLjava/lang/String;)V"⟩
def dkwX1_demand_0 : List UInt8 := [26, 154, 0, 12, 187, 0, 1, 89, 43, 183, 0, 3, 191, 177]
abbrev dktX1_demand_0 : List UInt8 := dkwX1_demand_0 ++ []
theorem dksX1_demand_0 : cX1_demand.data.toList.drop 0 = dktX1_demand_0 := by decide +kernel
theorem dX1_demand_0 : decode cX1_demand 0 = .ok (.iload_n 0, 1) := dk_26 (dk_at dksX1_demand_0 0 rfl rfl)
theorem dX1_demand_1 : decode cX1_demand 1 = .ok (.ifCond .ne 12, 3) := dk_154 0 12 (dk_at dksX1_demand_0 1 rfl rfl)
theorem dX1_demand_4 : decode cX1_demand 4 = .ok (.new 1, 3) := dk_187 0 1 (dk_at dksX1_demand_0 4 rfl rfl)
theorem dX1_demand_7 : decode cX1_demand 7 = .ok (.dup, 1) := dk_89 (dk_at dksX1_demand_0 7 rfl rfl)
theorem dX1_demand_8 : decode cX1_demand 8 = .ok (.aload_n 1, 1) := dk_43 (dk_at dksX1_demand_0 8 rfl rfl)
theorem dX1_demand_9 : decode cX1_demand 9 = .ok (.invokespecial 3, 3) := dk_183 0 3 (dk_at dksX1_demand_0 9 rfl rfl)
theorem dX1_demand_12 : decode cX1_demand 12 = .ok (.athrow, 1) := dk_191 (dk_at dksX1_demand_0 12 rfl rfl)
theorem dX1_demand_13 : decode cX1_demand 13 = .ok (.return_, 1) := dk_177 (dk_at dksX1_demand_0 13 rfl rfl)
abbrev cX1_commit : ByteArray := prog_1_method_4_code
def yX1_commit : MethodName := ⟨RX1, "commit", "(LSleeperRailway$Railway;I)I"⟩
def dkwX1_commit_1 : List UInt8 := [42, 180, 0, 44, 182, 0, 56, 42, 43, 181, 0, 44, 28, 172]
abbrev dktX1_commit_1 : List UInt8 := dkwX1_commit_1 ++ []
def dkwX1_commit_0 : List UInt8 := [42, 180, 0, 15, 182, 0, 48, 16, 8, 160, 0, 11, 42, 180, 0, 15, 182, 0, 52, 87, 42, 180, 0, 15]
abbrev dktX1_commit_0 : List UInt8 := dkwX1_commit_0 ++ dktX1_commit_1
theorem dksX1_commit_0 : cX1_commit.data.toList.drop 0 = dktX1_commit_0 := by decide +kernel
theorem dksX1_commit_1 : cX1_commit.data.toList.drop 24 = dktX1_commit_1 := dk_seg dksX1_commit_0 24 rfl rfl
theorem dX1_commit_0 : decode cX1_commit 0 = .ok (.aload_n 0, 1) := dk_42 (dk_at dksX1_commit_0 0 rfl rfl)
theorem dX1_commit_1 : decode cX1_commit 1 = .ok (.getfield 15, 3) := dk_180 0 15 (dk_at dksX1_commit_0 1 rfl rfl)
theorem dX1_commit_4 : decode cX1_commit 4 = .ok (.invokevirtual 48, 3) := dk_182 0 48 (dk_at dksX1_commit_0 4 rfl rfl)
theorem dX1_commit_7 : decode cX1_commit 7 = .ok (.bipush 8, 2) := dk_16 8 (dk_at dksX1_commit_0 7 rfl rfl)
theorem dX1_commit_9 : decode cX1_commit 9 = .ok (.if_icmp .ne 11, 3) := dk_160 0 11 (dk_at dksX1_commit_0 9 rfl rfl)
theorem dX1_commit_12 : decode cX1_commit 12 = .ok (.aload_n 0, 1) := dk_42 (dk_at dksX1_commit_0 12 rfl rfl)
theorem dX1_commit_13 : decode cX1_commit 13 = .ok (.getfield 15, 3) := dk_180 0 15 (dk_at dksX1_commit_0 13 rfl rfl)
theorem dX1_commit_16 : decode cX1_commit 16 = .ok (.invokevirtual 52, 3) := dk_182 0 52 (dk_at dksX1_commit_0 16 rfl rfl)
theorem dX1_commit_19 : decode cX1_commit 19 = .ok (.pop, 1) := dk_87 (dk_at dksX1_commit_0 19 rfl rfl)
theorem dX1_commit_20 : decode cX1_commit 20 = .ok (.aload_n 0, 1) := dk_42 (dk_at dksX1_commit_0 20 rfl rfl)
theorem dX1_commit_21 : decode cX1_commit 21 = .ok (.getfield 15, 3) := dk_180 0 15 (dk_at dksX1_commit_0 21 rfl rfl)
theorem dX1_commit_24 : decode cX1_commit 24 = .ok (.aload_n 0, 1) := dk_42 (dk_at dksX1_commit_1 0 rfl rfl)
theorem dX1_commit_25 : decode cX1_commit 25 = .ok (.getfield 44, 3) := dk_180 0 44 (dk_at dksX1_commit_1 1 rfl rfl)
theorem dX1_commit_28 : decode cX1_commit 28 = .ok (.invokevirtual 56, 3) := dk_182 0 56 (dk_at dksX1_commit_1 4 rfl rfl)
theorem dX1_commit_31 : decode cX1_commit 31 = .ok (.aload_n 0, 1) := dk_42 (dk_at dksX1_commit_1 7 rfl rfl)
theorem dX1_commit_32 : decode cX1_commit 32 = .ok (.aload_n 1, 1) := dk_43 (dk_at dksX1_commit_1 8 rfl rfl)
theorem dX1_commit_33 : decode cX1_commit 33 = .ok (.putfield 44, 3) := dk_181 0 44 (dk_at dksX1_commit_1 9 rfl rfl)
theorem dX1_commit_36 : decode cX1_commit 36 = .ok (.iload_n 2, 1) := dk_28 (dk_at dksX1_commit_1 12 rfl rfl)
theorem dX1_commit_37 : decode cX1_commit 37 = .ok (.ireturn, 1) := dk_172 (dk_at dksX1_commit_1 13 rfl rfl)
abbrev cX1_addTrain : ByteArray := prog_1_method_7_code
def yX1_addTrain : MethodName := ⟨RX1, "addTrain", "(III)I"⟩
def dkwX1_addTrain_0 : List UInt8 := [42, 18, 89, 6, 188, 10, 89, 3, 27, 79, 89, 4, 28, 79, 89, 5, 29, 79, 182, 0, 85, 172]
abbrev dktX1_addTrain_0 : List UInt8 := dkwX1_addTrain_0 ++ []
theorem dksX1_addTrain_0 : cX1_addTrain.data.toList.drop 0 = dktX1_addTrain_0 := by decide +kernel
theorem dX1_addTrain_0 : decode cX1_addTrain 0 = .ok (.aload_n 0, 1) := dk_42 (dk_at dksX1_addTrain_0 0 rfl rfl)
theorem dX1_addTrain_1 : decode cX1_addTrain 1 = .ok (.ldc 89, 2) := dk_18 89 (dk_at dksX1_addTrain_0 1 rfl rfl)
theorem dX1_addTrain_3 : decode cX1_addTrain 3 = .ok (.iconst 3, 1) := dk_6 (dk_at dksX1_addTrain_0 3 rfl rfl)
theorem dX1_addTrain_4 : decode cX1_addTrain 4 = .ok (.newarray .int, 2) := dk_188_10 (dk_at dksX1_addTrain_0 4 rfl rfl)
theorem dX1_addTrain_6 : decode cX1_addTrain 6 = .ok (.dup, 1) := dk_89 (dk_at dksX1_addTrain_0 6 rfl rfl)
theorem dX1_addTrain_7 : decode cX1_addTrain 7 = .ok (.iconst 0, 1) := dk_3 (dk_at dksX1_addTrain_0 7 rfl rfl)
theorem dX1_addTrain_8 : decode cX1_addTrain 8 = .ok (.iload_n 1, 1) := dk_27 (dk_at dksX1_addTrain_0 8 rfl rfl)
theorem dX1_addTrain_9 : decode cX1_addTrain 9 = .ok (.iastore, 1) := dk_79 (dk_at dksX1_addTrain_0 9 rfl rfl)
theorem dX1_addTrain_10 : decode cX1_addTrain 10 = .ok (.dup, 1) := dk_89 (dk_at dksX1_addTrain_0 10 rfl rfl)
theorem dX1_addTrain_11 : decode cX1_addTrain 11 = .ok (.iconst 1, 1) := dk_4 (dk_at dksX1_addTrain_0 11 rfl rfl)
theorem dX1_addTrain_12 : decode cX1_addTrain 12 = .ok (.iload_n 2, 1) := dk_28 (dk_at dksX1_addTrain_0 12 rfl rfl)
theorem dX1_addTrain_13 : decode cX1_addTrain 13 = .ok (.iastore, 1) := dk_79 (dk_at dksX1_addTrain_0 13 rfl rfl)
theorem dX1_addTrain_14 : decode cX1_addTrain 14 = .ok (.dup, 1) := dk_89 (dk_at dksX1_addTrain_0 14 rfl rfl)
theorem dX1_addTrain_15 : decode cX1_addTrain 15 = .ok (.iconst 2, 1) := dk_5 (dk_at dksX1_addTrain_0 15 rfl rfl)
theorem dX1_addTrain_16 : decode cX1_addTrain 16 = .ok (.iload_n 3, 1) := dk_29 (dk_at dksX1_addTrain_0 16 rfl rfl)
theorem dX1_addTrain_17 : decode cX1_addTrain 17 = .ok (.iastore, 1) := dk_79 (dk_at dksX1_addTrain_0 17 rfl rfl)
theorem dX1_addTrain_18 : decode cX1_addTrain 18 = .ok (.invokevirtual 85, 3) := dk_182 0 85 (dk_at dksX1_addTrain_0 18 rfl rfl)
theorem dX1_addTrain_21 : decode cX1_addTrain 21 = .ok (.ireturn, 1) := dk_172 (dk_at dksX1_addTrain_0 21 rfl rfl)
abbrev cX1_extendTrain : ByteArray := prog_1_method_8_code
def yX1_extendTrain : MethodName := ⟨RX1, "extendTrain", "(IIII)I"⟩
def dkwX1_extendTrain_1 : List UInt8 := [182, 0, 85, 172]
abbrev dktX1_extendTrain_1 : List UInt8 := dkwX1_extendTrain_1 ++ []
def dkwX1_extendTrain_0 : List UInt8 := [42, 18, 91, 7, 188, 10, 89, 3, 27, 79, 89, 4, 28, 79, 89, 5, 29, 79, 89, 6, 21, 4, 79]
abbrev dktX1_extendTrain_0 : List UInt8 := dkwX1_extendTrain_0 ++ dktX1_extendTrain_1
theorem dksX1_extendTrain_0 : cX1_extendTrain.data.toList.drop 0 = dktX1_extendTrain_0 := by decide +kernel
theorem dksX1_extendTrain_1 : cX1_extendTrain.data.toList.drop 23 = dktX1_extendTrain_1 := dk_seg dksX1_extendTrain_0 23 rfl rfl
theorem dX1_extendTrain_0 : decode cX1_extendTrain 0 = .ok (.aload_n 0, 1) := dk_42 (dk_at dksX1_extendTrain_0 0 rfl rfl)
theorem dX1_extendTrain_1 : decode cX1_extendTrain 1 = .ok (.ldc 91, 2) := dk_18 91 (dk_at dksX1_extendTrain_0 1 rfl rfl)
theorem dX1_extendTrain_3 : decode cX1_extendTrain 3 = .ok (.iconst 4, 1) := dk_7 (dk_at dksX1_extendTrain_0 3 rfl rfl)
theorem dX1_extendTrain_4 : decode cX1_extendTrain 4 = .ok (.newarray .int, 2) := dk_188_10 (dk_at dksX1_extendTrain_0 4 rfl rfl)
theorem dX1_extendTrain_6 : decode cX1_extendTrain 6 = .ok (.dup, 1) := dk_89 (dk_at dksX1_extendTrain_0 6 rfl rfl)
theorem dX1_extendTrain_7 : decode cX1_extendTrain 7 = .ok (.iconst 0, 1) := dk_3 (dk_at dksX1_extendTrain_0 7 rfl rfl)
theorem dX1_extendTrain_8 : decode cX1_extendTrain 8 = .ok (.iload_n 1, 1) := dk_27 (dk_at dksX1_extendTrain_0 8 rfl rfl)
theorem dX1_extendTrain_9 : decode cX1_extendTrain 9 = .ok (.iastore, 1) := dk_79 (dk_at dksX1_extendTrain_0 9 rfl rfl)
theorem dX1_extendTrain_10 : decode cX1_extendTrain 10 = .ok (.dup, 1) := dk_89 (dk_at dksX1_extendTrain_0 10 rfl rfl)
theorem dX1_extendTrain_11 : decode cX1_extendTrain 11 = .ok (.iconst 1, 1) := dk_4 (dk_at dksX1_extendTrain_0 11 rfl rfl)
theorem dX1_extendTrain_12 : decode cX1_extendTrain 12 = .ok (.iload_n 2, 1) := dk_28 (dk_at dksX1_extendTrain_0 12 rfl rfl)
theorem dX1_extendTrain_13 : decode cX1_extendTrain 13 = .ok (.iastore, 1) := dk_79 (dk_at dksX1_extendTrain_0 13 rfl rfl)
theorem dX1_extendTrain_14 : decode cX1_extendTrain 14 = .ok (.dup, 1) := dk_89 (dk_at dksX1_extendTrain_0 14 rfl rfl)
theorem dX1_extendTrain_15 : decode cX1_extendTrain 15 = .ok (.iconst 2, 1) := dk_5 (dk_at dksX1_extendTrain_0 15 rfl rfl)
theorem dX1_extendTrain_16 : decode cX1_extendTrain 16 = .ok (.iload_n 3, 1) := dk_29 (dk_at dksX1_extendTrain_0 16 rfl rfl)
theorem dX1_extendTrain_17 : decode cX1_extendTrain 17 = .ok (.iastore, 1) := dk_79 (dk_at dksX1_extendTrain_0 17 rfl rfl)
theorem dX1_extendTrain_18 : decode cX1_extendTrain 18 = .ok (.dup, 1) := dk_89 (dk_at dksX1_extendTrain_0 18 rfl rfl)
theorem dX1_extendTrain_19 : decode cX1_extendTrain 19 = .ok (.iconst 3, 1) := dk_6 (dk_at dksX1_extendTrain_0 19 rfl rfl)
theorem dX1_extendTrain_20 : decode cX1_extendTrain 20 = .ok (.iload 4, 2) := dk_21 4 (dk_at dksX1_extendTrain_0 20 rfl rfl)
theorem dX1_extendTrain_22 : decode cX1_extendTrain 22 = .ok (.iastore, 1) := dk_79 (dk_at dksX1_extendTrain_0 22 rfl rfl)
theorem dX1_extendTrain_23 : decode cX1_extendTrain 23 = .ok (.invokevirtual 85, 3) := dk_182 0 85 (dk_at dksX1_extendTrain_1 0 rfl rfl)
theorem dX1_extendTrain_26 : decode cX1_extendTrain 26 = .ok (.ireturn, 1) := dk_172 (dk_at dksX1_extendTrain_1 3 rfl rfl)
abbrev cX1_delayTrain : ByteArray := prog_1_method_9_code
def yX1_delayTrain : MethodName := ⟨RX1, "delayTrain", "(II)I"⟩
def dkwX1_delayTrain_0 : List UInt8 := [42, 18, 93, 5, 188, 10, 89, 3, 27, 79, 89, 4, 28, 79, 182, 0, 85, 172]
abbrev dktX1_delayTrain_0 : List UInt8 := dkwX1_delayTrain_0 ++ []
theorem dksX1_delayTrain_0 : cX1_delayTrain.data.toList.drop 0 = dktX1_delayTrain_0 := by decide +kernel
theorem dX1_delayTrain_0 : decode cX1_delayTrain 0 = .ok (.aload_n 0, 1) := dk_42 (dk_at dksX1_delayTrain_0 0 rfl rfl)
theorem dX1_delayTrain_1 : decode cX1_delayTrain 1 = .ok (.ldc 93, 2) := dk_18 93 (dk_at dksX1_delayTrain_0 1 rfl rfl)
theorem dX1_delayTrain_3 : decode cX1_delayTrain 3 = .ok (.iconst 2, 1) := dk_5 (dk_at dksX1_delayTrain_0 3 rfl rfl)
theorem dX1_delayTrain_4 : decode cX1_delayTrain 4 = .ok (.newarray .int, 2) := dk_188_10 (dk_at dksX1_delayTrain_0 4 rfl rfl)
theorem dX1_delayTrain_6 : decode cX1_delayTrain 6 = .ok (.dup, 1) := dk_89 (dk_at dksX1_delayTrain_0 6 rfl rfl)
theorem dX1_delayTrain_7 : decode cX1_delayTrain 7 = .ok (.iconst 0, 1) := dk_3 (dk_at dksX1_delayTrain_0 7 rfl rfl)
theorem dX1_delayTrain_8 : decode cX1_delayTrain 8 = .ok (.iload_n 1, 1) := dk_27 (dk_at dksX1_delayTrain_0 8 rfl rfl)
theorem dX1_delayTrain_9 : decode cX1_delayTrain 9 = .ok (.iastore, 1) := dk_79 (dk_at dksX1_delayTrain_0 9 rfl rfl)
theorem dX1_delayTrain_10 : decode cX1_delayTrain 10 = .ok (.dup, 1) := dk_89 (dk_at dksX1_delayTrain_0 10 rfl rfl)
theorem dX1_delayTrain_11 : decode cX1_delayTrain 11 = .ok (.iconst 1, 1) := dk_4 (dk_at dksX1_delayTrain_0 11 rfl rfl)
theorem dX1_delayTrain_12 : decode cX1_delayTrain 12 = .ok (.iload_n 2, 1) := dk_28 (dk_at dksX1_delayTrain_0 12 rfl rfl)
theorem dX1_delayTrain_13 : decode cX1_delayTrain 13 = .ok (.iastore, 1) := dk_79 (dk_at dksX1_delayTrain_0 13 rfl rfl)
theorem dX1_delayTrain_14 : decode cX1_delayTrain 14 = .ok (.invokevirtual 85, 3) := dk_182 0 85 (dk_at dksX1_delayTrain_0 14 rfl rfl)
theorem dX1_delayTrain_17 : decode cX1_delayTrain 17 = .ok (.ireturn, 1) := dk_172 (dk_at dksX1_delayTrain_0 17 rfl rfl)
abbrev cX1_addSuitcase : ByteArray := prog_1_method_10_code
def yX1_addSuitcase : MethodName := ⟨RX1, "addSuitcase", "(III)I"⟩
def dkwX1_addSuitcase_0 : List UInt8 := [42, 18, 95, 6, 188, 10, 89, 3, 27, 79, 89, 4, 28, 79, 89, 5, 29, 79, 182, 0, 85, 172]
abbrev dktX1_addSuitcase_0 : List UInt8 := dkwX1_addSuitcase_0 ++ []
theorem dksX1_addSuitcase_0 : cX1_addSuitcase.data.toList.drop 0 = dktX1_addSuitcase_0 := by decide +kernel
theorem dX1_addSuitcase_0 : decode cX1_addSuitcase 0 = .ok (.aload_n 0, 1) := dk_42 (dk_at dksX1_addSuitcase_0 0 rfl rfl)
theorem dX1_addSuitcase_1 : decode cX1_addSuitcase 1 = .ok (.ldc 95, 2) := dk_18 95 (dk_at dksX1_addSuitcase_0 1 rfl rfl)
theorem dX1_addSuitcase_3 : decode cX1_addSuitcase 3 = .ok (.iconst 3, 1) := dk_6 (dk_at dksX1_addSuitcase_0 3 rfl rfl)
theorem dX1_addSuitcase_4 : decode cX1_addSuitcase 4 = .ok (.newarray .int, 2) := dk_188_10 (dk_at dksX1_addSuitcase_0 4 rfl rfl)
theorem dX1_addSuitcase_6 : decode cX1_addSuitcase 6 = .ok (.dup, 1) := dk_89 (dk_at dksX1_addSuitcase_0 6 rfl rfl)
theorem dX1_addSuitcase_7 : decode cX1_addSuitcase 7 = .ok (.iconst 0, 1) := dk_3 (dk_at dksX1_addSuitcase_0 7 rfl rfl)
theorem dX1_addSuitcase_8 : decode cX1_addSuitcase 8 = .ok (.iload_n 1, 1) := dk_27 (dk_at dksX1_addSuitcase_0 8 rfl rfl)
theorem dX1_addSuitcase_9 : decode cX1_addSuitcase 9 = .ok (.iastore, 1) := dk_79 (dk_at dksX1_addSuitcase_0 9 rfl rfl)
theorem dX1_addSuitcase_10 : decode cX1_addSuitcase 10 = .ok (.dup, 1) := dk_89 (dk_at dksX1_addSuitcase_0 10 rfl rfl)
theorem dX1_addSuitcase_11 : decode cX1_addSuitcase 11 = .ok (.iconst 1, 1) := dk_4 (dk_at dksX1_addSuitcase_0 11 rfl rfl)
theorem dX1_addSuitcase_12 : decode cX1_addSuitcase 12 = .ok (.iload_n 2, 1) := dk_28 (dk_at dksX1_addSuitcase_0 12 rfl rfl)
theorem dX1_addSuitcase_13 : decode cX1_addSuitcase 13 = .ok (.iastore, 1) := dk_79 (dk_at dksX1_addSuitcase_0 13 rfl rfl)
theorem dX1_addSuitcase_14 : decode cX1_addSuitcase 14 = .ok (.dup, 1) := dk_89 (dk_at dksX1_addSuitcase_0 14 rfl rfl)
theorem dX1_addSuitcase_15 : decode cX1_addSuitcase 15 = .ok (.iconst 2, 1) := dk_5 (dk_at dksX1_addSuitcase_0 15 rfl rfl)
theorem dX1_addSuitcase_16 : decode cX1_addSuitcase 16 = .ok (.iload_n 3, 1) := dk_29 (dk_at dksX1_addSuitcase_0 16 rfl rfl)
theorem dX1_addSuitcase_17 : decode cX1_addSuitcase 17 = .ok (.iastore, 1) := dk_79 (dk_at dksX1_addSuitcase_0 17 rfl rfl)
theorem dX1_addSuitcase_18 : decode cX1_addSuitcase 18 = .ok (.invokevirtual 85, 3) := dk_182 0 85 (dk_at dksX1_addSuitcase_0 18 rfl rfl)
theorem dX1_addSuitcase_21 : decode cX1_addSuitcase 21 = .ok (.ireturn, 1) := dk_172 (dk_at dksX1_addSuitcase_0 21 rfl rfl)
abbrev cX1_relabel : ByteArray := prog_1_method_11_code
def yX1_relabel : MethodName := ⟨RX1, "relabel", "(II)I"⟩
def dkwX1_relabel_0 : List UInt8 := [42, 18, 97, 5, 188, 10, 89, 3, 27, 79, 89, 4, 28, 79, 182, 0, 85, 172]
abbrev dktX1_relabel_0 : List UInt8 := dkwX1_relabel_0 ++ []
theorem dksX1_relabel_0 : cX1_relabel.data.toList.drop 0 = dktX1_relabel_0 := by decide +kernel
theorem dX1_relabel_0 : decode cX1_relabel 0 = .ok (.aload_n 0, 1) := dk_42 (dk_at dksX1_relabel_0 0 rfl rfl)
theorem dX1_relabel_1 : decode cX1_relabel 1 = .ok (.ldc 97, 2) := dk_18 97 (dk_at dksX1_relabel_0 1 rfl rfl)
theorem dX1_relabel_3 : decode cX1_relabel 3 = .ok (.iconst 2, 1) := dk_5 (dk_at dksX1_relabel_0 3 rfl rfl)
theorem dX1_relabel_4 : decode cX1_relabel 4 = .ok (.newarray .int, 2) := dk_188_10 (dk_at dksX1_relabel_0 4 rfl rfl)
theorem dX1_relabel_6 : decode cX1_relabel 6 = .ok (.dup, 1) := dk_89 (dk_at dksX1_relabel_0 6 rfl rfl)
theorem dX1_relabel_7 : decode cX1_relabel 7 = .ok (.iconst 0, 1) := dk_3 (dk_at dksX1_relabel_0 7 rfl rfl)
theorem dX1_relabel_8 : decode cX1_relabel 8 = .ok (.iload_n 1, 1) := dk_27 (dk_at dksX1_relabel_0 8 rfl rfl)
theorem dX1_relabel_9 : decode cX1_relabel 9 = .ok (.iastore, 1) := dk_79 (dk_at dksX1_relabel_0 9 rfl rfl)
theorem dX1_relabel_10 : decode cX1_relabel 10 = .ok (.dup, 1) := dk_89 (dk_at dksX1_relabel_0 10 rfl rfl)
theorem dX1_relabel_11 : decode cX1_relabel 11 = .ok (.iconst 1, 1) := dk_4 (dk_at dksX1_relabel_0 11 rfl rfl)
theorem dX1_relabel_12 : decode cX1_relabel 12 = .ok (.iload_n 2, 1) := dk_28 (dk_at dksX1_relabel_0 12 rfl rfl)
theorem dX1_relabel_13 : decode cX1_relabel 13 = .ok (.iastore, 1) := dk_79 (dk_at dksX1_relabel_0 13 rfl rfl)
theorem dX1_relabel_14 : decode cX1_relabel 14 = .ok (.invokevirtual 85, 3) := dk_182 0 85 (dk_at dksX1_relabel_0 14 rfl rfl)
theorem dX1_relabel_17 : decode cX1_relabel 17 = .ok (.ireturn, 1) := dk_172 (dk_at dksX1_relabel_0 17 rfl rfl)
abbrev cX1_send : ByteArray := prog_1_method_12_code
def yX1_send : MethodName := ⟨RX1, "send", "(I)I"⟩
def dkwX1_send_0 : List UInt8 := [42, 18, 99, 4, 188, 10, 89, 3, 27, 79, 182, 0, 85, 172]
abbrev dktX1_send_0 : List UInt8 := dkwX1_send_0 ++ []
theorem dksX1_send_0 : cX1_send.data.toList.drop 0 = dktX1_send_0 := by decide +kernel
theorem dX1_send_0 : decode cX1_send 0 = .ok (.aload_n 0, 1) := dk_42 (dk_at dksX1_send_0 0 rfl rfl)
theorem dX1_send_1 : decode cX1_send 1 = .ok (.ldc 99, 2) := dk_18 99 (dk_at dksX1_send_0 1 rfl rfl)
theorem dX1_send_3 : decode cX1_send 3 = .ok (.iconst 1, 1) := dk_4 (dk_at dksX1_send_0 3 rfl rfl)
theorem dX1_send_4 : decode cX1_send 4 = .ok (.newarray .int, 2) := dk_188_10 (dk_at dksX1_send_0 4 rfl rfl)
theorem dX1_send_6 : decode cX1_send 6 = .ok (.dup, 1) := dk_89 (dk_at dksX1_send_0 6 rfl rfl)
theorem dX1_send_7 : decode cX1_send 7 = .ok (.iconst 0, 1) := dk_3 (dk_at dksX1_send_0 7 rfl rfl)
theorem dX1_send_8 : decode cX1_send 8 = .ok (.iload_n 1, 1) := dk_27 (dk_at dksX1_send_0 8 rfl rfl)
theorem dX1_send_9 : decode cX1_send 9 = .ok (.iastore, 1) := dk_79 (dk_at dksX1_send_0 9 rfl rfl)
theorem dX1_send_10 : decode cX1_send 10 = .ok (.invokevirtual 85, 3) := dk_182 0 85 (dk_at dksX1_send_0 10 rfl rfl)
theorem dX1_send_13 : decode cX1_send 13 = .ok (.ireturn, 1) := dk_172 (dk_at dksX1_send_0 13 rfl rfl)
abbrev cX1_collect : ByteArray := prog_1_method_13_code
def yX1_collect : MethodName := ⟨RX1, "collect", "(I)I"⟩
def dkwX1_collect_0 : List UInt8 := [42, 18, 101, 4, 188, 10, 89, 3, 27, 79, 182, 0, 85, 172]
abbrev dktX1_collect_0 : List UInt8 := dkwX1_collect_0 ++ []
theorem dksX1_collect_0 : cX1_collect.data.toList.drop 0 = dktX1_collect_0 := by decide +kernel
theorem dX1_collect_0 : decode cX1_collect 0 = .ok (.aload_n 0, 1) := dk_42 (dk_at dksX1_collect_0 0 rfl rfl)
theorem dX1_collect_1 : decode cX1_collect 1 = .ok (.ldc 101, 2) := dk_18 101 (dk_at dksX1_collect_0 1 rfl rfl)
theorem dX1_collect_3 : decode cX1_collect 3 = .ok (.iconst 1, 1) := dk_4 (dk_at dksX1_collect_0 3 rfl rfl)
theorem dX1_collect_4 : decode cX1_collect 4 = .ok (.newarray .int, 2) := dk_188_10 (dk_at dksX1_collect_0 4 rfl rfl)
theorem dX1_collect_6 : decode cX1_collect 6 = .ok (.dup, 1) := dk_89 (dk_at dksX1_collect_0 6 rfl rfl)
theorem dX1_collect_7 : decode cX1_collect 7 = .ok (.iconst 0, 1) := dk_3 (dk_at dksX1_collect_0 7 rfl rfl)
theorem dX1_collect_8 : decode cX1_collect 8 = .ok (.iload_n 1, 1) := dk_27 (dk_at dksX1_collect_0 8 rfl rfl)
theorem dX1_collect_9 : decode cX1_collect 9 = .ok (.iastore, 1) := dk_79 (dk_at dksX1_collect_0 9 rfl rfl)
theorem dX1_collect_10 : decode cX1_collect 10 = .ok (.invokevirtual 85, 3) := dk_182 0 85 (dk_at dksX1_collect_0 10 rfl rfl)
theorem dX1_collect_13 : decode cX1_collect 13 = .ok (.ireturn, 1) := dk_172 (dk_at dksX1_collect_0 13 rfl rfl)
abbrev cX1_book : ByteArray := prog_1_method_14_code
def yX1_book : MethodName := ⟨RX1, "book", "(III)I"⟩
def dkwX1_book_0 : List UInt8 := [42, 18, 103, 6, 188, 10, 89, 3, 27, 79, 89, 4, 28, 79, 89, 5, 29, 79, 182, 0, 85, 172]
abbrev dktX1_book_0 : List UInt8 := dkwX1_book_0 ++ []
theorem dksX1_book_0 : cX1_book.data.toList.drop 0 = dktX1_book_0 := by decide +kernel
theorem dX1_book_0 : decode cX1_book 0 = .ok (.aload_n 0, 1) := dk_42 (dk_at dksX1_book_0 0 rfl rfl)
theorem dX1_book_1 : decode cX1_book 1 = .ok (.ldc 103, 2) := dk_18 103 (dk_at dksX1_book_0 1 rfl rfl)
theorem dX1_book_3 : decode cX1_book 3 = .ok (.iconst 3, 1) := dk_6 (dk_at dksX1_book_0 3 rfl rfl)
theorem dX1_book_4 : decode cX1_book 4 = .ok (.newarray .int, 2) := dk_188_10 (dk_at dksX1_book_0 4 rfl rfl)
theorem dX1_book_6 : decode cX1_book 6 = .ok (.dup, 1) := dk_89 (dk_at dksX1_book_0 6 rfl rfl)
theorem dX1_book_7 : decode cX1_book 7 = .ok (.iconst 0, 1) := dk_3 (dk_at dksX1_book_0 7 rfl rfl)
theorem dX1_book_8 : decode cX1_book 8 = .ok (.iload_n 1, 1) := dk_27 (dk_at dksX1_book_0 8 rfl rfl)
theorem dX1_book_9 : decode cX1_book 9 = .ok (.iastore, 1) := dk_79 (dk_at dksX1_book_0 9 rfl rfl)
theorem dX1_book_10 : decode cX1_book 10 = .ok (.dup, 1) := dk_89 (dk_at dksX1_book_0 10 rfl rfl)
theorem dX1_book_11 : decode cX1_book 11 = .ok (.iconst 1, 1) := dk_4 (dk_at dksX1_book_0 11 rfl rfl)
theorem dX1_book_12 : decode cX1_book 12 = .ok (.iload_n 2, 1) := dk_28 (dk_at dksX1_book_0 12 rfl rfl)
theorem dX1_book_13 : decode cX1_book 13 = .ok (.iastore, 1) := dk_79 (dk_at dksX1_book_0 13 rfl rfl)
theorem dX1_book_14 : decode cX1_book 14 = .ok (.dup, 1) := dk_89 (dk_at dksX1_book_0 14 rfl rfl)
theorem dX1_book_15 : decode cX1_book 15 = .ok (.iconst 2, 1) := dk_5 (dk_at dksX1_book_0 15 rfl rfl)
theorem dX1_book_16 : decode cX1_book 16 = .ok (.iload_n 3, 1) := dk_29 (dk_at dksX1_book_0 16 rfl rfl)
theorem dX1_book_17 : decode cX1_book 17 = .ok (.iastore, 1) := dk_79 (dk_at dksX1_book_0 17 rfl rfl)
theorem dX1_book_18 : decode cX1_book 18 = .ok (.invokevirtual 85, 3) := dk_182 0 85 (dk_at dksX1_book_0 18 rfl rfl)
theorem dX1_book_21 : decode cX1_book 21 = .ok (.ireturn, 1) := dk_172 (dk_at dksX1_book_0 21 rfl rfl)
abbrev cX1_cancelBooking : ByteArray := prog_1_method_15_code
def yX1_cancelBooking : MethodName := ⟨RX1, "cancelBooking", "(I)I"⟩
def dkwX1_cancelBooking_0 : List UInt8 := [42, 18, 105, 4, 188, 10, 89, 3, 27, 79, 182, 0, 85, 172]
abbrev dktX1_cancelBooking_0 : List UInt8 := dkwX1_cancelBooking_0 ++ []
theorem dksX1_cancelBooking_0 : cX1_cancelBooking.data.toList.drop 0 = dktX1_cancelBooking_0 := by decide +kernel
theorem dX1_cancelBooking_0 : decode cX1_cancelBooking 0 = .ok (.aload_n 0, 1) := dk_42 (dk_at dksX1_cancelBooking_0 0 rfl rfl)
theorem dX1_cancelBooking_1 : decode cX1_cancelBooking 1 = .ok (.ldc 105, 2) := dk_18 105 (dk_at dksX1_cancelBooking_0 1 rfl rfl)
theorem dX1_cancelBooking_3 : decode cX1_cancelBooking 3 = .ok (.iconst 1, 1) := dk_4 (dk_at dksX1_cancelBooking_0 3 rfl rfl)
theorem dX1_cancelBooking_4 : decode cX1_cancelBooking 4 = .ok (.newarray .int, 2) := dk_188_10 (dk_at dksX1_cancelBooking_0 4 rfl rfl)
theorem dX1_cancelBooking_6 : decode cX1_cancelBooking 6 = .ok (.dup, 1) := dk_89 (dk_at dksX1_cancelBooking_0 6 rfl rfl)
theorem dX1_cancelBooking_7 : decode cX1_cancelBooking 7 = .ok (.iconst 0, 1) := dk_3 (dk_at dksX1_cancelBooking_0 7 rfl rfl)
theorem dX1_cancelBooking_8 : decode cX1_cancelBooking 8 = .ok (.iload_n 1, 1) := dk_27 (dk_at dksX1_cancelBooking_0 8 rfl rfl)
theorem dX1_cancelBooking_9 : decode cX1_cancelBooking 9 = .ok (.iastore, 1) := dk_79 (dk_at dksX1_cancelBooking_0 9 rfl rfl)
theorem dX1_cancelBooking_10 : decode cX1_cancelBooking 10 = .ok (.invokevirtual 85, 3) := dk_182 0 85 (dk_at dksX1_cancelBooking_0 10 rfl rfl)
theorem dX1_cancelBooking_13 : decode cX1_cancelBooking 13 = .ok (.ireturn, 1) := dk_172 (dk_at dksX1_cancelBooking_0 13 rfl rfl)
abbrev cX1_transferTime : ByteArray := prog_1_method_27_code
def yX1_transferTime : MethodName := ⟨RX1, "transferTime", "(I)I"⟩
def dkwX1_transferTime_1 : List UInt8 := [172]
abbrev dktX1_transferTime_1 : List UInt8 := dkwX1_transferTime_1 ++ []
def dkwX1_transferTime_0 : List UInt8 := [42, 27, 182, 0, 168, 42, 180, 0, 44, 180, 0, 161, 27, 185, 0, 172, 2, 0, 192, 0, 175, 182, 0, 177]
abbrev dktX1_transferTime_0 : List UInt8 := dkwX1_transferTime_0 ++ dktX1_transferTime_1
theorem dksX1_transferTime_0 : cX1_transferTime.data.toList.drop 0 = dktX1_transferTime_0 := by decide +kernel
theorem dksX1_transferTime_1 : cX1_transferTime.data.toList.drop 24 = dktX1_transferTime_1 := dk_seg dksX1_transferTime_0 24 rfl rfl
theorem dX1_transferTime_0 : decode cX1_transferTime 0 = .ok (.aload_n 0, 1) := dk_42 (dk_at dksX1_transferTime_0 0 rfl rfl)
theorem dX1_transferTime_1 : decode cX1_transferTime 1 = .ok (.iload_n 1, 1) := dk_27 (dk_at dksX1_transferTime_0 1 rfl rfl)
theorem dX1_transferTime_2 : decode cX1_transferTime 2 = .ok (.invokevirtual 168, 3) := dk_182 0 168 (dk_at dksX1_transferTime_0 2 rfl rfl)
theorem dX1_transferTime_5 : decode cX1_transferTime 5 = .ok (.aload_n 0, 1) := dk_42 (dk_at dksX1_transferTime_0 5 rfl rfl)
theorem dX1_transferTime_6 : decode cX1_transferTime 6 = .ok (.getfield 44, 3) := dk_180 0 44 (dk_at dksX1_transferTime_0 6 rfl rfl)
theorem dX1_transferTime_9 : decode cX1_transferTime 9 = .ok (.getfield 161, 3) := dk_180 0 161 (dk_at dksX1_transferTime_0 9 rfl rfl)
theorem dX1_transferTime_12 : decode cX1_transferTime 12 = .ok (.iload_n 1, 1) := dk_27 (dk_at dksX1_transferTime_0 12 rfl rfl)
theorem dX1_transferTime_13 : decode cX1_transferTime 13 = .ok (.invokeinterface 172 2, 5) := by decide +kernel
theorem dX1_transferTime_18 : decode cX1_transferTime 18 = .ok (.checkcast 175, 3) := dk_192 0 175 (dk_at dksX1_transferTime_0 18 rfl rfl)
theorem dX1_transferTime_21 : decode cX1_transferTime 21 = .ok (.invokevirtual 177, 3) := dk_182 0 177 (dk_at dksX1_transferTime_0 21 rfl rfl)
theorem dX1_transferTime_24 : decode cX1_transferTime 24 = .ok (.ireturn, 1) := dk_172 (dk_at dksX1_transferTime_1 0 rfl rfl)
abbrev cX1_checkStation : ByteArray := prog_1_method_21_code
def yX1_checkStation : MethodName := ⟨RX1, "checkStation", "(I)V"⟩
def dkwX1_checkStation_0 : List UInt8 := [42, 180, 0, 44, 27, 182, 0, 123, 184, 0, 127, 177]
abbrev dktX1_checkStation_0 : List UInt8 := dkwX1_checkStation_0 ++ []
theorem dksX1_checkStation_0 : cX1_checkStation.data.toList.drop 0 = dktX1_checkStation_0 := by decide +kernel
theorem dX1_checkStation_0 : decode cX1_checkStation 0 = .ok (.aload_n 0, 1) := dk_42 (dk_at dksX1_checkStation_0 0 rfl rfl)
theorem dX1_checkStation_1 : decode cX1_checkStation 1 = .ok (.getfield 44, 3) := dk_180 0 44 (dk_at dksX1_checkStation_0 1 rfl rfl)
theorem dX1_checkStation_4 : decode cX1_checkStation 4 = .ok (.iload_n 1, 1) := dk_27 (dk_at dksX1_checkStation_0 4 rfl rfl)
theorem dX1_checkStation_5 : decode cX1_checkStation 5 = .ok (.invokevirtual 123, 3) := dk_182 0 123 (dk_at dksX1_checkStation_0 5 rfl rfl)
theorem dX1_checkStation_8 : decode cX1_checkStation 8 = .ok (.invokestatic 127, 3) := dk_184 0 127 (dk_at dksX1_checkStation_0 8 rfl rfl)
theorem dX1_checkStation_11 : decode cX1_checkStation 11 = .ok (.return_, 1) := dk_177 (dk_at dksX1_checkStation_0 11 rfl rfl)
abbrev cX1_checkIndex : ByteArray := prog_1_method_16_code
def yX1_checkIndex : MethodName := ⟨RX1, "checkIndex", "(Z)V"⟩
def dkwX1_checkIndex_0 : List UInt8 := [26, 154, 0, 11, 187, 0, 107, 89, 183, 0, 109, 191, 177]
abbrev dktX1_checkIndex_0 : List UInt8 := dkwX1_checkIndex_0 ++ []
theorem dksX1_checkIndex_0 : cX1_checkIndex.data.toList.drop 0 = dktX1_checkIndex_0 := by decide +kernel
theorem dX1_checkIndex_0 : decode cX1_checkIndex 0 = .ok (.iload_n 0, 1) := dk_26 (dk_at dksX1_checkIndex_0 0 rfl rfl)
theorem dX1_checkIndex_1 : decode cX1_checkIndex 1 = .ok (.ifCond .ne 11, 3) := dk_154 0 11 (dk_at dksX1_checkIndex_0 1 rfl rfl)
theorem dX1_checkIndex_4 : decode cX1_checkIndex 4 = .ok (.new 107, 3) := dk_187 0 107 (dk_at dksX1_checkIndex_0 4 rfl rfl)
theorem dX1_checkIndex_7 : decode cX1_checkIndex 7 = .ok (.dup, 1) := dk_89 (dk_at dksX1_checkIndex_0 7 rfl rfl)
theorem dX1_checkIndex_8 : decode cX1_checkIndex 8 = .ok (.invokespecial 109, 3) := dk_183 0 109 (dk_at dksX1_checkIndex_0 8 rfl rfl)
theorem dX1_checkIndex_11 : decode cX1_checkIndex 11 = .ok (.athrow, 1) := dk_191 (dk_at dksX1_checkIndex_0 11 rfl rfl)
theorem dX1_checkIndex_12 : decode cX1_checkIndex 12 = .ok (.return_, 1) := dk_177 (dk_at dksX1_checkIndex_0 12 rfl rfl)
abbrev cX1_nextTrain : ByteArray := prog_1_method_28_code
def yX1_nextTrain : MethodName := ⟨RX1, "nextTrain", "(II)I"⟩
def dkwX1_nextTrain_1 : List UInt8 := [172]
abbrev dktX1_nextTrain_1 : List UInt8 := dkwX1_nextTrain_1 ++ []
def dkwX1_nextTrain_0 : List UInt8 := [42, 27, 182, 0, 168, 28, 184, 0, 180, 42, 180, 0, 44, 180, 0, 137, 27, 28, 182, 0, 183, 184, 0, 187]
abbrev dktX1_nextTrain_0 : List UInt8 := dkwX1_nextTrain_0 ++ dktX1_nextTrain_1
theorem dksX1_nextTrain_0 : cX1_nextTrain.data.toList.drop 0 = dktX1_nextTrain_0 := by decide +kernel
theorem dksX1_nextTrain_1 : cX1_nextTrain.data.toList.drop 24 = dktX1_nextTrain_1 := dk_seg dksX1_nextTrain_0 24 rfl rfl
theorem dX1_nextTrain_0 : decode cX1_nextTrain 0 = .ok (.aload_n 0, 1) := dk_42 (dk_at dksX1_nextTrain_0 0 rfl rfl)
theorem dX1_nextTrain_1 : decode cX1_nextTrain 1 = .ok (.iload_n 1, 1) := dk_27 (dk_at dksX1_nextTrain_0 1 rfl rfl)
theorem dX1_nextTrain_2 : decode cX1_nextTrain 2 = .ok (.invokevirtual 168, 3) := dk_182 0 168 (dk_at dksX1_nextTrain_0 2 rfl rfl)
theorem dX1_nextTrain_5 : decode cX1_nextTrain 5 = .ok (.iload_n 2, 1) := dk_28 (dk_at dksX1_nextTrain_0 5 rfl rfl)
theorem dX1_nextTrain_6 : decode cX1_nextTrain 6 = .ok (.invokestatic 180, 3) := dk_184 0 180 (dk_at dksX1_nextTrain_0 6 rfl rfl)
theorem dX1_nextTrain_9 : decode cX1_nextTrain 9 = .ok (.aload_n 0, 1) := dk_42 (dk_at dksX1_nextTrain_0 9 rfl rfl)
theorem dX1_nextTrain_10 : decode cX1_nextTrain 10 = .ok (.getfield 44, 3) := dk_180 0 44 (dk_at dksX1_nextTrain_0 10 rfl rfl)
theorem dX1_nextTrain_13 : decode cX1_nextTrain 13 = .ok (.getfield 137, 3) := dk_180 0 137 (dk_at dksX1_nextTrain_0 13 rfl rfl)
theorem dX1_nextTrain_16 : decode cX1_nextTrain 16 = .ok (.iload_n 1, 1) := dk_27 (dk_at dksX1_nextTrain_0 16 rfl rfl)
theorem dX1_nextTrain_17 : decode cX1_nextTrain 17 = .ok (.iload_n 2, 1) := dk_28 (dk_at dksX1_nextTrain_0 17 rfl rfl)
theorem dX1_nextTrain_18 : decode cX1_nextTrain 18 = .ok (.invokevirtual 183, 3) := dk_182 0 183 (dk_at dksX1_nextTrain_0 18 rfl rfl)
theorem dX1_nextTrain_21 : decode cX1_nextTrain 21 = .ok (.invokestatic 187, 3) := dk_184 0 187 (dk_at dksX1_nextTrain_0 21 rfl rfl)
theorem dX1_nextTrain_24 : decode cX1_nextTrain 24 = .ok (.ireturn, 1) := dk_172 (dk_at dksX1_nextTrain_1 0 rfl rfl)
abbrev cX1_checkMinute : ByteArray := prog_1_method_22_code
def yX1_checkMinute : MethodName := ⟨RX1, "checkMinute", "(I)V"⟩
def dkwX1_checkMinute_0 : List UInt8 := [26, 3, 17, 39, 15, 184, 0, 130, 184, 0, 134, 177]
abbrev dktX1_checkMinute_0 : List UInt8 := dkwX1_checkMinute_0 ++ []
theorem dksX1_checkMinute_0 : cX1_checkMinute.data.toList.drop 0 = dktX1_checkMinute_0 := by decide +kernel
theorem dX1_checkMinute_0 : decode cX1_checkMinute 0 = .ok (.iload_n 0, 1) := dk_26 (dk_at dksX1_checkMinute_0 0 rfl rfl)
theorem dX1_checkMinute_1 : decode cX1_checkMinute 1 = .ok (.iconst 0, 1) := dk_3 (dk_at dksX1_checkMinute_0 1 rfl rfl)
theorem dX1_checkMinute_2 : decode cX1_checkMinute 2 = .ok (.sipush 9999, 3) := dk_17 39 15 (dk_at dksX1_checkMinute_0 2 rfl rfl)
theorem dX1_checkMinute_5 : decode cX1_checkMinute 5 = .ok (.invokestatic 130, 3) := dk_184 0 130 (dk_at dksX1_checkMinute_0 5 rfl rfl)
theorem dX1_checkMinute_8 : decode cX1_checkMinute 8 = .ok (.invokestatic 134, 3) := dk_184 0 134 (dk_at dksX1_checkMinute_0 8 rfl rfl)
theorem dX1_checkMinute_11 : decode cX1_checkMinute 11 = .ok (.return_, 1) := dk_177 (dk_at dksX1_checkMinute_0 11 rfl rfl)
abbrev cX1_checkArgument : ByteArray := prog_1_method_17_code
def yX1_checkArgument : MethodName := ⟨RX1, "checkArgument", "(Z)V"⟩
def dkwX1_checkArgument_0 : List UInt8 := [26, 154, 0, 11, 187, 0, 110, 89, 183, 0, 112, 191, 177]
abbrev dktX1_checkArgument_0 : List UInt8 := dkwX1_checkArgument_0 ++ []
theorem dksX1_checkArgument_0 : cX1_checkArgument.data.toList.drop 0 = dktX1_checkArgument_0 := by decide +kernel
theorem dX1_checkArgument_0 : decode cX1_checkArgument 0 = .ok (.iload_n 0, 1) := dk_26 (dk_at dksX1_checkArgument_0 0 rfl rfl)
theorem dX1_checkArgument_1 : decode cX1_checkArgument 1 = .ok (.ifCond .ne 11, 3) := dk_154 0 11 (dk_at dksX1_checkArgument_0 1 rfl rfl)
theorem dX1_checkArgument_4 : decode cX1_checkArgument 4 = .ok (.new 110, 3) := dk_187 0 110 (dk_at dksX1_checkArgument_0 4 rfl rfl)
theorem dX1_checkArgument_7 : decode cX1_checkArgument 7 = .ok (.dup, 1) := dk_89 (dk_at dksX1_checkArgument_0 7 rfl rfl)
theorem dX1_checkArgument_8 : decode cX1_checkArgument 8 = .ok (.invokespecial 112, 3) := dk_183 0 112 (dk_at dksX1_checkArgument_0 8 rfl rfl)
theorem dX1_checkArgument_11 : decode cX1_checkArgument 11 = .ok (.athrow, 1) := dk_191 (dk_at dksX1_checkArgument_0 11 rfl rfl)
theorem dX1_checkArgument_12 : decode cX1_checkArgument 12 = .ok (.return_, 1) := dk_177 (dk_at dksX1_checkArgument_0 12 rfl rfl)
abbrev cX1_found : ByteArray := prog_1_method_20_code
def yX1_found : MethodName := ⟨RX1, "found", "(I)I"⟩
def dkwX1_found_0 : List UInt8 := [26, 2, 159, 0, 7, 4, 167, 0, 4, 3, 184, 0, 119, 26, 172]
abbrev dktX1_found_0 : List UInt8 := dkwX1_found_0 ++ []
theorem dksX1_found_0 : cX1_found.data.toList.drop 0 = dktX1_found_0 := by decide +kernel
theorem dX1_found_0 : decode cX1_found 0 = .ok (.iload_n 0, 1) := dk_26 (dk_at dksX1_found_0 0 rfl rfl)
theorem dX1_found_1 : decode cX1_found 1 = .ok (.iconst (-1), 1) := dk_2 (dk_at dksX1_found_0 1 rfl rfl)
theorem dX1_found_2 : decode cX1_found 2 = .ok (.if_icmp .eq 7, 3) := dk_159 0 7 (dk_at dksX1_found_0 2 rfl rfl)
theorem dX1_found_5 : decode cX1_found 5 = .ok (.iconst 1, 1) := dk_4 (dk_at dksX1_found_0 5 rfl rfl)
theorem dX1_found_6 : decode cX1_found 6 = .ok (.goto 4, 3) := dk_167 0 4 (dk_at dksX1_found_0 6 rfl rfl)
theorem dX1_found_9 : decode cX1_found 9 = .ok (.iconst 0, 1) := dk_3 (dk_at dksX1_found_0 9 rfl rfl)
theorem dX1_found_10 : decode cX1_found 10 = .ok (.invokestatic 119, 3) := dk_184 0 119 (dk_at dksX1_found_0 10 rfl rfl)
theorem dX1_found_13 : decode cX1_found 13 = .ok (.iload_n 0, 1) := dk_26 (dk_at dksX1_found_0 13 rfl rfl)
theorem dX1_found_14 : decode cX1_found 14 = .ok (.ireturn, 1) := dk_172 (dk_at dksX1_found_0 14 rfl rfl)
abbrev cX1_checkElement : ByteArray := prog_1_method_18_code
def yX1_checkElement : MethodName := ⟨RX1, "checkElement", "(Z)V"⟩
def dkwX1_checkElement_0 : List UInt8 := [26, 154, 0, 11, 187, 0, 113, 89, 183, 0, 115, 191, 177]
abbrev dktX1_checkElement_0 : List UInt8 := dkwX1_checkElement_0 ++ []
theorem dksX1_checkElement_0 : cX1_checkElement.data.toList.drop 0 = dktX1_checkElement_0 := by decide +kernel
theorem dX1_checkElement_0 : decode cX1_checkElement 0 = .ok (.iload_n 0, 1) := dk_26 (dk_at dksX1_checkElement_0 0 rfl rfl)
theorem dX1_checkElement_1 : decode cX1_checkElement 1 = .ok (.ifCond .ne 11, 3) := dk_154 0 11 (dk_at dksX1_checkElement_0 1 rfl rfl)
theorem dX1_checkElement_4 : decode cX1_checkElement 4 = .ok (.new 113, 3) := dk_187 0 113 (dk_at dksX1_checkElement_0 4 rfl rfl)
theorem dX1_checkElement_7 : decode cX1_checkElement 7 = .ok (.dup, 1) := dk_89 (dk_at dksX1_checkElement_0 7 rfl rfl)
theorem dX1_checkElement_8 : decode cX1_checkElement 8 = .ok (.invokespecial 115, 3) := dk_183 0 115 (dk_at dksX1_checkElement_0 8 rfl rfl)
theorem dX1_checkElement_11 : decode cX1_checkElement 11 = .ok (.athrow, 1) := dk_191 (dk_at dksX1_checkElement_0 11 rfl rfl)
theorem dX1_checkElement_12 : decode cX1_checkElement 12 = .ok (.return_, 1) := dk_177 (dk_at dksX1_checkElement_0 12 rfl rfl)
abbrev cX1_stopCount : ByteArray := prog_1_method_30_code
def yX1_stopCount : MethodName := ⟨RX1, "stopCount", "(I)I"⟩
def dkwX1_stopCount_0 : List UInt8 := [42, 27, 182, 0, 150, 180, 0, 194, 172]
abbrev dktX1_stopCount_0 : List UInt8 := dkwX1_stopCount_0 ++ []
theorem dksX1_stopCount_0 : cX1_stopCount.data.toList.drop 0 = dktX1_stopCount_0 := by decide +kernel
theorem dX1_stopCount_0 : decode cX1_stopCount 0 = .ok (.aload_n 0, 1) := dk_42 (dk_at dksX1_stopCount_0 0 rfl rfl)
theorem dX1_stopCount_1 : decode cX1_stopCount 1 = .ok (.iload_n 1, 1) := dk_27 (dk_at dksX1_stopCount_0 1 rfl rfl)
theorem dX1_stopCount_2 : decode cX1_stopCount 2 = .ok (.invokevirtual 150, 3) := dk_182 0 150 (dk_at dksX1_stopCount_0 2 rfl rfl)
theorem dX1_stopCount_5 : decode cX1_stopCount 5 = .ok (.getfield 194, 3) := dk_180 0 194 (dk_at dksX1_stopCount_0 5 rfl rfl)
theorem dX1_stopCount_8 : decode cX1_stopCount 8 = .ok (.ireturn, 1) := dk_172 (dk_at dksX1_stopCount_0 8 rfl rfl)
abbrev cX1_trainWith : ByteArray := prog_1_method_23_code
def yX1_trainWith : MethodName := ⟨RX1, "trainWith", "(I)LSleeperRailway$Train;"⟩
def dkwX1_trainWith_1 : List UInt8 := [182, 0, 146, 176]
abbrev dktX1_trainWith_1 : List UInt8 := dkwX1_trainWith_1 ++ []
def dkwX1_trainWith_0 : List UInt8 := [42, 180, 0, 44, 180, 0, 137, 27, 182, 0, 141, 184, 0, 127, 42, 180, 0, 44, 180, 0, 137, 27]
abbrev dktX1_trainWith_0 : List UInt8 := dkwX1_trainWith_0 ++ dktX1_trainWith_1
theorem dksX1_trainWith_0 : cX1_trainWith.data.toList.drop 0 = dktX1_trainWith_0 := by decide +kernel
theorem dksX1_trainWith_1 : cX1_trainWith.data.toList.drop 22 = dktX1_trainWith_1 := dk_seg dksX1_trainWith_0 22 rfl rfl
theorem dX1_trainWith_0 : decode cX1_trainWith 0 = .ok (.aload_n 0, 1) := dk_42 (dk_at dksX1_trainWith_0 0 rfl rfl)
theorem dX1_trainWith_1 : decode cX1_trainWith 1 = .ok (.getfield 44, 3) := dk_180 0 44 (dk_at dksX1_trainWith_0 1 rfl rfl)
theorem dX1_trainWith_4 : decode cX1_trainWith 4 = .ok (.getfield 137, 3) := dk_180 0 137 (dk_at dksX1_trainWith_0 4 rfl rfl)
theorem dX1_trainWith_7 : decode cX1_trainWith 7 = .ok (.iload_n 1, 1) := dk_27 (dk_at dksX1_trainWith_0 7 rfl rfl)
theorem dX1_trainWith_8 : decode cX1_trainWith 8 = .ok (.invokevirtual 141, 3) := dk_182 0 141 (dk_at dksX1_trainWith_0 8 rfl rfl)
theorem dX1_trainWith_11 : decode cX1_trainWith 11 = .ok (.invokestatic 127, 3) := dk_184 0 127 (dk_at dksX1_trainWith_0 11 rfl rfl)
theorem dX1_trainWith_14 : decode cX1_trainWith 14 = .ok (.aload_n 0, 1) := dk_42 (dk_at dksX1_trainWith_0 14 rfl rfl)
theorem dX1_trainWith_15 : decode cX1_trainWith 15 = .ok (.getfield 44, 3) := dk_180 0 44 (dk_at dksX1_trainWith_0 15 rfl rfl)
theorem dX1_trainWith_18 : decode cX1_trainWith 18 = .ok (.getfield 137, 3) := dk_180 0 137 (dk_at dksX1_trainWith_0 18 rfl rfl)
theorem dX1_trainWith_21 : decode cX1_trainWith 21 = .ok (.iload_n 1, 1) := dk_27 (dk_at dksX1_trainWith_0 21 rfl rfl)
theorem dX1_trainWith_22 : decode cX1_trainWith 22 = .ok (.invokevirtual 146, 3) := dk_182 0 146 (dk_at dksX1_trainWith_1 0 rfl rfl)
theorem dX1_trainWith_25 : decode cX1_trainWith 25 = .ok (.areturn, 1) := dk_176 (dk_at dksX1_trainWith_1 3 rfl rfl)
abbrev cX1_stationAt : ByteArray := prog_1_method_31_code
def yX1_stationAt : MethodName := ⟨RX1, "stationAt", "(II)I"⟩
def dkwX1_stationAt_0 : List UInt8 := [42, 27, 28, 182, 0, 197, 180, 0, 201, 28, 46, 172]
abbrev dktX1_stationAt_0 : List UInt8 := dkwX1_stationAt_0 ++ []
theorem dksX1_stationAt_0 : cX1_stationAt.data.toList.drop 0 = dktX1_stationAt_0 := by decide +kernel
theorem dX1_stationAt_0 : decode cX1_stationAt 0 = .ok (.aload_n 0, 1) := dk_42 (dk_at dksX1_stationAt_0 0 rfl rfl)
theorem dX1_stationAt_1 : decode cX1_stationAt 1 = .ok (.iload_n 1, 1) := dk_27 (dk_at dksX1_stationAt_0 1 rfl rfl)
theorem dX1_stationAt_2 : decode cX1_stationAt 2 = .ok (.iload_n 2, 1) := dk_28 (dk_at dksX1_stationAt_0 2 rfl rfl)
theorem dX1_stationAt_3 : decode cX1_stationAt 3 = .ok (.invokevirtual 197, 3) := dk_182 0 197 (dk_at dksX1_stationAt_0 3 rfl rfl)
theorem dX1_stationAt_6 : decode cX1_stationAt 6 = .ok (.getfield 201, 3) := dk_180 0 201 (dk_at dksX1_stationAt_0 6 rfl rfl)
theorem dX1_stationAt_9 : decode cX1_stationAt 9 = .ok (.iload_n 2, 1) := dk_28 (dk_at dksX1_stationAt_0 9 rfl rfl)
theorem dX1_stationAt_10 : decode cX1_stationAt 10 = .ok (.iaload, 1) := dk_46 (dk_at dksX1_stationAt_0 10 rfl rfl)
theorem dX1_stationAt_11 : decode cX1_stationAt 11 = .ok (.ireturn, 1) := dk_172 (dk_at dksX1_stationAt_0 11 rfl rfl)
abbrev cX1_trainWithStop : ByteArray := prog_1_method_24_code
def yX1_trainWithStop : MethodName := ⟨RX1, "trainWithStop", "(II)LSleeperRailway$Train;"⟩
def dkwX1_trainWithStop_0 : List UInt8 := [42, 27, 182, 0, 150, 78, 45, 28, 182, 0, 153, 184, 0, 127, 45, 176]
abbrev dktX1_trainWithStop_0 : List UInt8 := dkwX1_trainWithStop_0 ++ []
theorem dksX1_trainWithStop_0 : cX1_trainWithStop.data.toList.drop 0 = dktX1_trainWithStop_0 := by decide +kernel
theorem dX1_trainWithStop_0 : decode cX1_trainWithStop 0 = .ok (.aload_n 0, 1) := dk_42 (dk_at dksX1_trainWithStop_0 0 rfl rfl)
theorem dX1_trainWithStop_1 : decode cX1_trainWithStop 1 = .ok (.iload_n 1, 1) := dk_27 (dk_at dksX1_trainWithStop_0 1 rfl rfl)
theorem dX1_trainWithStop_2 : decode cX1_trainWithStop 2 = .ok (.invokevirtual 150, 3) := dk_182 0 150 (dk_at dksX1_trainWithStop_0 2 rfl rfl)
theorem dX1_trainWithStop_5 : decode cX1_trainWithStop 5 = .ok (.astore_n 3, 1) := dk_78 (dk_at dksX1_trainWithStop_0 5 rfl rfl)
theorem dX1_trainWithStop_6 : decode cX1_trainWithStop 6 = .ok (.aload_n 3, 1) := dk_45 (dk_at dksX1_trainWithStop_0 6 rfl rfl)
theorem dX1_trainWithStop_7 : decode cX1_trainWithStop 7 = .ok (.iload_n 2, 1) := dk_28 (dk_at dksX1_trainWithStop_0 7 rfl rfl)
theorem dX1_trainWithStop_8 : decode cX1_trainWithStop 8 = .ok (.invokevirtual 153, 3) := dk_182 0 153 (dk_at dksX1_trainWithStop_0 8 rfl rfl)
theorem dX1_trainWithStop_11 : decode cX1_trainWithStop 11 = .ok (.invokestatic 127, 3) := dk_184 0 127 (dk_at dksX1_trainWithStop_0 11 rfl rfl)
theorem dX1_trainWithStop_14 : decode cX1_trainWithStop 14 = .ok (.aload_n 3, 1) := dk_45 (dk_at dksX1_trainWithStop_0 14 rfl rfl)
theorem dX1_trainWithStop_15 : decode cX1_trainWithStop 15 = .ok (.areturn, 1) := dk_176 (dk_at dksX1_trainWithStop_0 15 rfl rfl)
abbrev cX1_arrivalAt : ByteArray := prog_1_method_32_code
def yX1_arrivalAt : MethodName := ⟨RX1, "arrivalAt", "(II)I"⟩
def dkwX1_arrivalAt_1 : List UInt8 := [172]
abbrev dktX1_arrivalAt_1 : List UInt8 := dkwX1_arrivalAt_1 ++ []
def dkwX1_arrivalAt_0 : List UInt8 := [42, 27, 28, 182, 0, 197, 78, 28, 158, 0, 7, 4, 167, 0, 4, 3, 184, 0, 119, 45, 28, 182, 0, 205]
abbrev dktX1_arrivalAt_0 : List UInt8 := dkwX1_arrivalAt_0 ++ dktX1_arrivalAt_1
theorem dksX1_arrivalAt_0 : cX1_arrivalAt.data.toList.drop 0 = dktX1_arrivalAt_0 := by decide +kernel
theorem dksX1_arrivalAt_1 : cX1_arrivalAt.data.toList.drop 24 = dktX1_arrivalAt_1 := dk_seg dksX1_arrivalAt_0 24 rfl rfl
theorem dX1_arrivalAt_0 : decode cX1_arrivalAt 0 = .ok (.aload_n 0, 1) := dk_42 (dk_at dksX1_arrivalAt_0 0 rfl rfl)
theorem dX1_arrivalAt_1 : decode cX1_arrivalAt 1 = .ok (.iload_n 1, 1) := dk_27 (dk_at dksX1_arrivalAt_0 1 rfl rfl)
theorem dX1_arrivalAt_2 : decode cX1_arrivalAt 2 = .ok (.iload_n 2, 1) := dk_28 (dk_at dksX1_arrivalAt_0 2 rfl rfl)
theorem dX1_arrivalAt_3 : decode cX1_arrivalAt 3 = .ok (.invokevirtual 197, 3) := dk_182 0 197 (dk_at dksX1_arrivalAt_0 3 rfl rfl)
theorem dX1_arrivalAt_6 : decode cX1_arrivalAt 6 = .ok (.astore_n 3, 1) := dk_78 (dk_at dksX1_arrivalAt_0 6 rfl rfl)
theorem dX1_arrivalAt_7 : decode cX1_arrivalAt 7 = .ok (.iload_n 2, 1) := dk_28 (dk_at dksX1_arrivalAt_0 7 rfl rfl)
theorem dX1_arrivalAt_8 : decode cX1_arrivalAt 8 = .ok (.ifCond .le 7, 3) := dk_158 0 7 (dk_at dksX1_arrivalAt_0 8 rfl rfl)
theorem dX1_arrivalAt_11 : decode cX1_arrivalAt 11 = .ok (.iconst 1, 1) := dk_4 (dk_at dksX1_arrivalAt_0 11 rfl rfl)
theorem dX1_arrivalAt_12 : decode cX1_arrivalAt 12 = .ok (.goto 4, 3) := dk_167 0 4 (dk_at dksX1_arrivalAt_0 12 rfl rfl)
theorem dX1_arrivalAt_15 : decode cX1_arrivalAt 15 = .ok (.iconst 0, 1) := dk_3 (dk_at dksX1_arrivalAt_0 15 rfl rfl)
theorem dX1_arrivalAt_16 : decode cX1_arrivalAt 16 = .ok (.invokestatic 119, 3) := dk_184 0 119 (dk_at dksX1_arrivalAt_0 16 rfl rfl)
theorem dX1_arrivalAt_19 : decode cX1_arrivalAt 19 = .ok (.aload_n 3, 1) := dk_45 (dk_at dksX1_arrivalAt_0 19 rfl rfl)
theorem dX1_arrivalAt_20 : decode cX1_arrivalAt 20 = .ok (.iload_n 2, 1) := dk_28 (dk_at dksX1_arrivalAt_0 20 rfl rfl)
theorem dX1_arrivalAt_21 : decode cX1_arrivalAt 21 = .ok (.invokevirtual 205, 3) := dk_182 0 205 (dk_at dksX1_arrivalAt_0 21 rfl rfl)
theorem dX1_arrivalAt_24 : decode cX1_arrivalAt 24 = .ok (.ireturn, 1) := dk_172 (dk_at dksX1_arrivalAt_1 0 rfl rfl)
abbrev cX1_departureAt : ByteArray := prog_1_method_33_code
def yX1_departureAt : MethodName := ⟨RX1, "departureAt", "(II)I"⟩
def dkwX1_departureAt_0 : List UInt8 := [42, 27, 28, 182, 0, 197, 78, 45, 28, 182, 0, 158, 184, 0, 119, 45, 28, 182, 0, 208, 172]
abbrev dktX1_departureAt_0 : List UInt8 := dkwX1_departureAt_0 ++ []
theorem dksX1_departureAt_0 : cX1_departureAt.data.toList.drop 0 = dktX1_departureAt_0 := by decide +kernel
theorem dX1_departureAt_0 : decode cX1_departureAt 0 = .ok (.aload_n 0, 1) := dk_42 (dk_at dksX1_departureAt_0 0 rfl rfl)
theorem dX1_departureAt_1 : decode cX1_departureAt 1 = .ok (.iload_n 1, 1) := dk_27 (dk_at dksX1_departureAt_0 1 rfl rfl)
theorem dX1_departureAt_2 : decode cX1_departureAt 2 = .ok (.iload_n 2, 1) := dk_28 (dk_at dksX1_departureAt_0 2 rfl rfl)
theorem dX1_departureAt_3 : decode cX1_departureAt 3 = .ok (.invokevirtual 197, 3) := dk_182 0 197 (dk_at dksX1_departureAt_0 3 rfl rfl)
theorem dX1_departureAt_6 : decode cX1_departureAt 6 = .ok (.astore_n 3, 1) := dk_78 (dk_at dksX1_departureAt_0 6 rfl rfl)
theorem dX1_departureAt_7 : decode cX1_departureAt 7 = .ok (.aload_n 3, 1) := dk_45 (dk_at dksX1_departureAt_0 7 rfl rfl)
theorem dX1_departureAt_8 : decode cX1_departureAt 8 = .ok (.iload_n 2, 1) := dk_28 (dk_at dksX1_departureAt_0 8 rfl rfl)
theorem dX1_departureAt_9 : decode cX1_departureAt 9 = .ok (.invokevirtual 158, 3) := dk_182 0 158 (dk_at dksX1_departureAt_0 9 rfl rfl)
theorem dX1_departureAt_12 : decode cX1_departureAt 12 = .ok (.invokestatic 119, 3) := dk_184 0 119 (dk_at dksX1_departureAt_0 12 rfl rfl)
theorem dX1_departureAt_15 : decode cX1_departureAt 15 = .ok (.aload_n 3, 1) := dk_45 (dk_at dksX1_departureAt_0 15 rfl rfl)
theorem dX1_departureAt_16 : decode cX1_departureAt 16 = .ok (.iload_n 2, 1) := dk_28 (dk_at dksX1_departureAt_0 16 rfl rfl)
theorem dX1_departureAt_17 : decode cX1_departureAt 17 = .ok (.invokevirtual 208, 3) := dk_182 0 208 (dk_at dksX1_departureAt_0 17 rfl rfl)
theorem dX1_departureAt_20 : decode cX1_departureAt 20 = .ok (.ireturn, 1) := dk_172 (dk_at dksX1_departureAt_0 20 rfl rfl)
abbrev cX1_capacity : ByteArray := prog_1_method_34_code
def yX1_capacity : MethodName := ⟨RX1, "capacity", "(I)I"⟩
def dkwX1_capacity_0 : List UInt8 := [42, 27, 182, 0, 150, 180, 0, 211, 172]
abbrev dktX1_capacity_0 : List UInt8 := dkwX1_capacity_0 ++ []
theorem dksX1_capacity_0 : cX1_capacity.data.toList.drop 0 = dktX1_capacity_0 := by decide +kernel
theorem dX1_capacity_0 : decode cX1_capacity 0 = .ok (.aload_n 0, 1) := dk_42 (dk_at dksX1_capacity_0 0 rfl rfl)
theorem dX1_capacity_1 : decode cX1_capacity 1 = .ok (.iload_n 1, 1) := dk_27 (dk_at dksX1_capacity_0 1 rfl rfl)
theorem dX1_capacity_2 : decode cX1_capacity 2 = .ok (.invokevirtual 150, 3) := dk_182 0 150 (dk_at dksX1_capacity_0 2 rfl rfl)
theorem dX1_capacity_5 : decode cX1_capacity 5 = .ok (.getfield 211, 3) := dk_180 0 211 (dk_at dksX1_capacity_0 5 rfl rfl)
theorem dX1_capacity_8 : decode cX1_capacity 8 = .ok (.ireturn, 1) := dk_172 (dk_at dksX1_capacity_0 8 rfl rfl)
abbrev cX1_delayOf : ByteArray := prog_1_method_35_code
def yX1_delayOf : MethodName := ⟨RX1, "delayOf", "(I)I"⟩
def dkwX1_delayOf_0 : List UInt8 := [42, 27, 182, 0, 150, 180, 0, 214, 172]
abbrev dktX1_delayOf_0 : List UInt8 := dkwX1_delayOf_0 ++ []
theorem dksX1_delayOf_0 : cX1_delayOf.data.toList.drop 0 = dktX1_delayOf_0 := by decide +kernel
theorem dX1_delayOf_0 : decode cX1_delayOf 0 = .ok (.aload_n 0, 1) := dk_42 (dk_at dksX1_delayOf_0 0 rfl rfl)
theorem dX1_delayOf_1 : decode cX1_delayOf 1 = .ok (.iload_n 1, 1) := dk_27 (dk_at dksX1_delayOf_0 1 rfl rfl)
theorem dX1_delayOf_2 : decode cX1_delayOf 2 = .ok (.invokevirtual 150, 3) := dk_182 0 150 (dk_at dksX1_delayOf_0 2 rfl rfl)
theorem dX1_delayOf_5 : decode cX1_delayOf 5 = .ok (.getfield 214, 3) := dk_180 0 214 (dk_at dksX1_delayOf_0 5 rfl rfl)
theorem dX1_delayOf_8 : decode cX1_delayOf 8 = .ok (.ireturn, 1) := dk_172 (dk_at dksX1_delayOf_0 8 rfl rfl)
abbrev cX1_load : ByteArray := prog_1_method_36_code
def yX1_load : MethodName := ⟨RX1, "load", "(II)I"⟩
def dkwX1_load_0 : List UInt8 := [42, 27, 28, 182, 0, 217, 28, 182, 0, 220, 172]
abbrev dktX1_load_0 : List UInt8 := dkwX1_load_0 ++ []
theorem dksX1_load_0 : cX1_load.data.toList.drop 0 = dktX1_load_0 := by decide +kernel
theorem dX1_load_0 : decode cX1_load 0 = .ok (.aload_n 0, 1) := dk_42 (dk_at dksX1_load_0 0 rfl rfl)
theorem dX1_load_1 : decode cX1_load 1 = .ok (.iload_n 1, 1) := dk_27 (dk_at dksX1_load_0 1 rfl rfl)
theorem dX1_load_2 : decode cX1_load 2 = .ok (.iload_n 2, 1) := dk_28 (dk_at dksX1_load_0 2 rfl rfl)
theorem dX1_load_3 : decode cX1_load 3 = .ok (.invokevirtual 217, 3) := dk_182 0 217 (dk_at dksX1_load_0 3 rfl rfl)
theorem dX1_load_6 : decode cX1_load 6 = .ok (.iload_n 2, 1) := dk_28 (dk_at dksX1_load_0 6 rfl rfl)
theorem dX1_load_7 : decode cX1_load 7 = .ok (.invokevirtual 220, 3) := dk_182 0 220 (dk_at dksX1_load_0 7 rfl rfl)
theorem dX1_load_10 : decode cX1_load 10 = .ok (.ireturn, 1) := dk_172 (dk_at dksX1_load_0 10 rfl rfl)
abbrev cX1_trainWithLeg : ByteArray := prog_1_method_25_code
def yX1_trainWithLeg : MethodName := ⟨RX1, "trainWithLeg", "(II)LSleeperRailway$Train;"⟩
def dkwX1_trainWithLeg_0 : List UInt8 := [42, 27, 182, 0, 150, 78, 45, 28, 182, 0, 158, 184, 0, 127, 45, 176]
abbrev dktX1_trainWithLeg_0 : List UInt8 := dkwX1_trainWithLeg_0 ++ []
theorem dksX1_trainWithLeg_0 : cX1_trainWithLeg.data.toList.drop 0 = dktX1_trainWithLeg_0 := by decide +kernel
theorem dX1_trainWithLeg_0 : decode cX1_trainWithLeg 0 = .ok (.aload_n 0, 1) := dk_42 (dk_at dksX1_trainWithLeg_0 0 rfl rfl)
theorem dX1_trainWithLeg_1 : decode cX1_trainWithLeg 1 = .ok (.iload_n 1, 1) := dk_27 (dk_at dksX1_trainWithLeg_0 1 rfl rfl)
theorem dX1_trainWithLeg_2 : decode cX1_trainWithLeg 2 = .ok (.invokevirtual 150, 3) := dk_182 0 150 (dk_at dksX1_trainWithLeg_0 2 rfl rfl)
theorem dX1_trainWithLeg_5 : decode cX1_trainWithLeg 5 = .ok (.astore_n 3, 1) := dk_78 (dk_at dksX1_trainWithLeg_0 5 rfl rfl)
theorem dX1_trainWithLeg_6 : decode cX1_trainWithLeg 6 = .ok (.aload_n 3, 1) := dk_45 (dk_at dksX1_trainWithLeg_0 6 rfl rfl)
theorem dX1_trainWithLeg_7 : decode cX1_trainWithLeg 7 = .ok (.iload_n 2, 1) := dk_28 (dk_at dksX1_trainWithLeg_0 7 rfl rfl)
theorem dX1_trainWithLeg_8 : decode cX1_trainWithLeg 8 = .ok (.invokevirtual 158, 3) := dk_182 0 158 (dk_at dksX1_trainWithLeg_0 8 rfl rfl)
theorem dX1_trainWithLeg_11 : decode cX1_trainWithLeg 11 = .ok (.invokestatic 127, 3) := dk_184 0 127 (dk_at dksX1_trainWithLeg_0 11 rfl rfl)
theorem dX1_trainWithLeg_14 : decode cX1_trainWithLeg 14 = .ok (.aload_n 3, 1) := dk_45 (dk_at dksX1_trainWithLeg_0 14 rfl rfl)
theorem dX1_trainWithLeg_15 : decode cX1_trainWithLeg 15 = .ok (.areturn, 1) := dk_176 (dk_at dksX1_trainWithLeg_0 15 rfl rfl)
abbrev cX1_isFull : ByteArray := prog_1_method_37_code
def yX1_isFull : MethodName := ⟨RX1, "isFull", "(II)Z"⟩
def dkwX1_isFull_0 : List UInt8 := [42, 27, 28, 182, 0, 217, 28, 182, 0, 223, 172]
abbrev dktX1_isFull_0 : List UInt8 := dkwX1_isFull_0 ++ []
theorem dksX1_isFull_0 : cX1_isFull.data.toList.drop 0 = dktX1_isFull_0 := by decide +kernel
theorem dX1_isFull_0 : decode cX1_isFull 0 = .ok (.aload_n 0, 1) := dk_42 (dk_at dksX1_isFull_0 0 rfl rfl)
theorem dX1_isFull_1 : decode cX1_isFull 1 = .ok (.iload_n 1, 1) := dk_27 (dk_at dksX1_isFull_0 1 rfl rfl)
theorem dX1_isFull_2 : decode cX1_isFull 2 = .ok (.iload_n 2, 1) := dk_28 (dk_at dksX1_isFull_0 2 rfl rfl)
theorem dX1_isFull_3 : decode cX1_isFull 3 = .ok (.invokevirtual 217, 3) := dk_182 0 217 (dk_at dksX1_isFull_0 3 rfl rfl)
theorem dX1_isFull_6 : decode cX1_isFull 6 = .ok (.iload_n 2, 1) := dk_28 (dk_at dksX1_isFull_0 6 rfl rfl)
theorem dX1_isFull_7 : decode cX1_isFull 7 = .ok (.invokevirtual 223, 3) := dk_182 0 223 (dk_at dksX1_isFull_0 7 rfl rfl)
theorem dX1_isFull_10 : decode cX1_isFull 10 = .ok (.ireturn, 1) := dk_172 (dk_at dksX1_isFull_0 10 rfl rfl)
abbrev cX1_canReach : ByteArray := prog_1_method_39_code
def yX1_canReach : MethodName := ⟨RX1, "canReach", "(III)Z"⟩
def dkwX1_canReach_0 : List UInt8 := [42, 27, 28, 29, 182, 0, 230, 182, 0, 233, 28, 182, 0, 239, 2, 159, 0, 7, 4, 167, 0, 4, 3, 172]
abbrev dktX1_canReach_0 : List UInt8 := dkwX1_canReach_0 ++ []
theorem dksX1_canReach_0 : cX1_canReach.data.toList.drop 0 = dktX1_canReach_0 := by decide +kernel
theorem dX1_canReach_0 : decode cX1_canReach 0 = .ok (.aload_n 0, 1) := dk_42 (dk_at dksX1_canReach_0 0 rfl rfl)
theorem dX1_canReach_1 : decode cX1_canReach 1 = .ok (.iload_n 1, 1) := dk_27 (dk_at dksX1_canReach_0 1 rfl rfl)
theorem dX1_canReach_2 : decode cX1_canReach 2 = .ok (.iload_n 2, 1) := dk_28 (dk_at dksX1_canReach_0 2 rfl rfl)
theorem dX1_canReach_3 : decode cX1_canReach 3 = .ok (.iload_n 3, 1) := dk_29 (dk_at dksX1_canReach_0 3 rfl rfl)
theorem dX1_canReach_4 : decode cX1_canReach 4 = .ok (.invokevirtual 230, 3) := dk_182 0 230 (dk_at dksX1_canReach_0 4 rfl rfl)
theorem dX1_canReach_7 : decode cX1_canReach 7 = .ok (.invokevirtual 233, 3) := dk_182 0 233 (dk_at dksX1_canReach_0 7 rfl rfl)
theorem dX1_canReach_10 : decode cX1_canReach 10 = .ok (.iload_n 2, 1) := dk_28 (dk_at dksX1_canReach_0 10 rfl rfl)
theorem dX1_canReach_11 : decode cX1_canReach 11 = .ok (.invokevirtual 239, 3) := dk_182 0 239 (dk_at dksX1_canReach_0 11 rfl rfl)
theorem dX1_canReach_14 : decode cX1_canReach 14 = .ok (.iconst (-1), 1) := dk_2 (dk_at dksX1_canReach_0 14 rfl rfl)
theorem dX1_canReach_15 : decode cX1_canReach 15 = .ok (.if_icmp .eq 7, 3) := dk_159 0 7 (dk_at dksX1_canReach_0 15 rfl rfl)
theorem dX1_canReach_18 : decode cX1_canReach 18 = .ok (.iconst 1, 1) := dk_4 (dk_at dksX1_canReach_0 18 rfl rfl)
theorem dX1_canReach_19 : decode cX1_canReach 19 = .ok (.goto 4, 3) := dk_167 0 4 (dk_at dksX1_canReach_0 19 rfl rfl)
theorem dX1_canReach_22 : decode cX1_canReach 22 = .ok (.iconst 0, 1) := dk_3 (dk_at dksX1_canReach_0 22 rfl rfl)
theorem dX1_canReach_23 : decode cX1_canReach 23 = .ok (.ireturn, 1) := dk_172 (dk_at dksX1_canReach_0 23 rfl rfl)
abbrev cX1_journeys : ByteArray := prog_1_method_38_code
def yX1_journeys : MethodName := ⟨RX1, "journeys", "(III)LSleeperRailway$Journeys;"⟩
def dkwX1_journeys_1 : List UInt8 := [167, 0, 4, 3, 184, 0, 127, 29, 184, 0, 180, 42, 180, 0, 44, 27, 29, 182, 0, 226, 176]
abbrev dktX1_journeys_1 : List UInt8 := dkwX1_journeys_1 ++ []
def dkwX1_journeys_0 : List UInt8 := [42, 180, 0, 44, 27, 182, 0, 123, 153, 0, 18, 42, 180, 0, 44, 28, 182, 0, 123, 153, 0, 7, 4]
abbrev dktX1_journeys_0 : List UInt8 := dkwX1_journeys_0 ++ dktX1_journeys_1
theorem dksX1_journeys_0 : cX1_journeys.data.toList.drop 0 = dktX1_journeys_0 := by decide +kernel
theorem dksX1_journeys_1 : cX1_journeys.data.toList.drop 23 = dktX1_journeys_1 := dk_seg dksX1_journeys_0 23 rfl rfl
theorem dX1_journeys_0 : decode cX1_journeys 0 = .ok (.aload_n 0, 1) := dk_42 (dk_at dksX1_journeys_0 0 rfl rfl)
theorem dX1_journeys_1 : decode cX1_journeys 1 = .ok (.getfield 44, 3) := dk_180 0 44 (dk_at dksX1_journeys_0 1 rfl rfl)
theorem dX1_journeys_4 : decode cX1_journeys 4 = .ok (.iload_n 1, 1) := dk_27 (dk_at dksX1_journeys_0 4 rfl rfl)
theorem dX1_journeys_5 : decode cX1_journeys 5 = .ok (.invokevirtual 123, 3) := dk_182 0 123 (dk_at dksX1_journeys_0 5 rfl rfl)
theorem dX1_journeys_8 : decode cX1_journeys 8 = .ok (.ifCond .eq 18, 3) := dk_153 0 18 (dk_at dksX1_journeys_0 8 rfl rfl)
theorem dX1_journeys_11 : decode cX1_journeys 11 = .ok (.aload_n 0, 1) := dk_42 (dk_at dksX1_journeys_0 11 rfl rfl)
theorem dX1_journeys_12 : decode cX1_journeys 12 = .ok (.getfield 44, 3) := dk_180 0 44 (dk_at dksX1_journeys_0 12 rfl rfl)
theorem dX1_journeys_15 : decode cX1_journeys 15 = .ok (.iload_n 2, 1) := dk_28 (dk_at dksX1_journeys_0 15 rfl rfl)
theorem dX1_journeys_16 : decode cX1_journeys 16 = .ok (.invokevirtual 123, 3) := dk_182 0 123 (dk_at dksX1_journeys_0 16 rfl rfl)
theorem dX1_journeys_19 : decode cX1_journeys 19 = .ok (.ifCond .eq 7, 3) := dk_153 0 7 (dk_at dksX1_journeys_0 19 rfl rfl)
theorem dX1_journeys_22 : decode cX1_journeys 22 = .ok (.iconst 1, 1) := dk_4 (dk_at dksX1_journeys_0 22 rfl rfl)
theorem dX1_journeys_23 : decode cX1_journeys 23 = .ok (.goto 4, 3) := dk_167 0 4 (dk_at dksX1_journeys_1 0 rfl rfl)
theorem dX1_journeys_26 : decode cX1_journeys 26 = .ok (.iconst 0, 1) := dk_3 (dk_at dksX1_journeys_1 3 rfl rfl)
theorem dX1_journeys_27 : decode cX1_journeys 27 = .ok (.invokestatic 127, 3) := dk_184 0 127 (dk_at dksX1_journeys_1 4 rfl rfl)
theorem dX1_journeys_30 : decode cX1_journeys 30 = .ok (.iload_n 3, 1) := dk_29 (dk_at dksX1_journeys_1 7 rfl rfl)
theorem dX1_journeys_31 : decode cX1_journeys 31 = .ok (.invokestatic 180, 3) := dk_184 0 180 (dk_at dksX1_journeys_1 8 rfl rfl)
theorem dX1_journeys_34 : decode cX1_journeys 34 = .ok (.aload_n 0, 1) := dk_42 (dk_at dksX1_journeys_1 11 rfl rfl)
theorem dX1_journeys_35 : decode cX1_journeys 35 = .ok (.getfield 44, 3) := dk_180 0 44 (dk_at dksX1_journeys_1 12 rfl rfl)
theorem dX1_journeys_38 : decode cX1_journeys 38 = .ok (.iload_n 1, 1) := dk_27 (dk_at dksX1_journeys_1 15 rfl rfl)
theorem dX1_journeys_39 : decode cX1_journeys 39 = .ok (.iload_n 3, 1) := dk_29 (dk_at dksX1_journeys_1 16 rfl rfl)
theorem dX1_journeys_40 : decode cX1_journeys 40 = .ok (.invokevirtual 226, 3) := dk_182 0 226 (dk_at dksX1_journeys_1 17 rfl rfl)
theorem dX1_journeys_43 : decode cX1_journeys 43 = .ok (.areturn, 1) := dk_176 (dk_at dksX1_journeys_1 20 rfl rfl)
abbrev cX1_arrival : ByteArray := prog_1_method_40_code
def yX1_arrival : MethodName := ⟨RX1, "arrival", "(III)I"⟩
def dkwX1_arrival_0 : List UInt8 := [42, 27, 28, 29, 182, 0, 230, 182, 0, 233, 28, 182, 0, 239, 184, 0, 187, 172]
abbrev dktX1_arrival_0 : List UInt8 := dkwX1_arrival_0 ++ []
theorem dksX1_arrival_0 : cX1_arrival.data.toList.drop 0 = dktX1_arrival_0 := by decide +kernel
theorem dX1_arrival_0 : decode cX1_arrival 0 = .ok (.aload_n 0, 1) := dk_42 (dk_at dksX1_arrival_0 0 rfl rfl)
theorem dX1_arrival_1 : decode cX1_arrival 1 = .ok (.iload_n 1, 1) := dk_27 (dk_at dksX1_arrival_0 1 rfl rfl)
theorem dX1_arrival_2 : decode cX1_arrival 2 = .ok (.iload_n 2, 1) := dk_28 (dk_at dksX1_arrival_0 2 rfl rfl)
theorem dX1_arrival_3 : decode cX1_arrival 3 = .ok (.iload_n 3, 1) := dk_29 (dk_at dksX1_arrival_0 3 rfl rfl)
theorem dX1_arrival_4 : decode cX1_arrival 4 = .ok (.invokevirtual 230, 3) := dk_182 0 230 (dk_at dksX1_arrival_0 4 rfl rfl)
theorem dX1_arrival_7 : decode cX1_arrival 7 = .ok (.invokevirtual 233, 3) := dk_182 0 233 (dk_at dksX1_arrival_0 7 rfl rfl)
theorem dX1_arrival_10 : decode cX1_arrival 10 = .ok (.iload_n 2, 1) := dk_28 (dk_at dksX1_arrival_0 10 rfl rfl)
theorem dX1_arrival_11 : decode cX1_arrival 11 = .ok (.invokevirtual 239, 3) := dk_182 0 239 (dk_at dksX1_arrival_0 11 rfl rfl)
theorem dX1_arrival_14 : decode cX1_arrival 14 = .ok (.invokestatic 187, 3) := dk_184 0 187 (dk_at dksX1_arrival_0 14 rfl rfl)
theorem dX1_arrival_17 : decode cX1_arrival 17 = .ok (.ireturn, 1) := dk_172 (dk_at dksX1_arrival_0 17 rfl rfl)
abbrev cX1_arrivalByScanning : ByteArray := prog_1_method_41_code
def yX1_arrivalByScanning : MethodName := ⟨RX1, "arrivalByScanning", "(III)I"⟩
def dkwX1_arrivalByScanning_0 : List UInt8 := [42, 27, 28, 29, 182, 0, 230, 182, 0, 242, 28, 182, 0, 239, 184, 0, 187, 172]
abbrev dktX1_arrivalByScanning_0 : List UInt8 := dkwX1_arrivalByScanning_0 ++ []
theorem dksX1_arrivalByScanning_0 : cX1_arrivalByScanning.data.toList.drop 0 = dktX1_arrivalByScanning_0 := by decide +kernel
theorem dX1_arrivalByScanning_0 : decode cX1_arrivalByScanning 0 = .ok (.aload_n 0, 1) := dk_42 (dk_at dksX1_arrivalByScanning_0 0 rfl rfl)
theorem dX1_arrivalByScanning_1 : decode cX1_arrivalByScanning 1 = .ok (.iload_n 1, 1) := dk_27 (dk_at dksX1_arrivalByScanning_0 1 rfl rfl)
theorem dX1_arrivalByScanning_2 : decode cX1_arrivalByScanning 2 = .ok (.iload_n 2, 1) := dk_28 (dk_at dksX1_arrivalByScanning_0 2 rfl rfl)
theorem dX1_arrivalByScanning_3 : decode cX1_arrivalByScanning 3 = .ok (.iload_n 3, 1) := dk_29 (dk_at dksX1_arrivalByScanning_0 3 rfl rfl)
theorem dX1_arrivalByScanning_4 : decode cX1_arrivalByScanning 4 = .ok (.invokevirtual 230, 3) := dk_182 0 230 (dk_at dksX1_arrivalByScanning_0 4 rfl rfl)
theorem dX1_arrivalByScanning_7 : decode cX1_arrivalByScanning 7 = .ok (.invokevirtual 242, 3) := dk_182 0 242 (dk_at dksX1_arrivalByScanning_0 7 rfl rfl)
theorem dX1_arrivalByScanning_10 : decode cX1_arrivalByScanning 10 = .ok (.iload_n 2, 1) := dk_28 (dk_at dksX1_arrivalByScanning_0 10 rfl rfl)
theorem dX1_arrivalByScanning_11 : decode cX1_arrivalByScanning 11 = .ok (.invokevirtual 239, 3) := dk_182 0 239 (dk_at dksX1_arrivalByScanning_0 11 rfl rfl)
theorem dX1_arrivalByScanning_14 : decode cX1_arrivalByScanning 14 = .ok (.invokestatic 187, 3) := dk_184 0 187 (dk_at dksX1_arrivalByScanning_0 14 rfl rfl)
theorem dX1_arrivalByScanning_17 : decode cX1_arrivalByScanning 17 = .ok (.ireturn, 1) := dk_172 (dk_at dksX1_arrivalByScanning_0 17 rfl rfl)
abbrev cX1_boardings : ByteArray := prog_1_method_42_code
def yX1_boardings : MethodName := ⟨RX1, "boardings", "(III)I"⟩
def dkwX1_boardings_0 : List UInt8 := [42, 27, 28, 29, 182, 0, 230, 28, 182, 0, 245, 184, 0, 187, 172]
abbrev dktX1_boardings_0 : List UInt8 := dkwX1_boardings_0 ++ []
theorem dksX1_boardings_0 : cX1_boardings.data.toList.drop 0 = dktX1_boardings_0 := by decide +kernel
theorem dX1_boardings_0 : decode cX1_boardings 0 = .ok (.aload_n 0, 1) := dk_42 (dk_at dksX1_boardings_0 0 rfl rfl)
theorem dX1_boardings_1 : decode cX1_boardings 1 = .ok (.iload_n 1, 1) := dk_27 (dk_at dksX1_boardings_0 1 rfl rfl)
theorem dX1_boardings_2 : decode cX1_boardings 2 = .ok (.iload_n 2, 1) := dk_28 (dk_at dksX1_boardings_0 2 rfl rfl)
theorem dX1_boardings_3 : decode cX1_boardings 3 = .ok (.iload_n 3, 1) := dk_29 (dk_at dksX1_boardings_0 3 rfl rfl)
theorem dX1_boardings_4 : decode cX1_boardings 4 = .ok (.invokevirtual 230, 3) := dk_182 0 230 (dk_at dksX1_boardings_0 4 rfl rfl)
theorem dX1_boardings_7 : decode cX1_boardings 7 = .ok (.iload_n 2, 1) := dk_28 (dk_at dksX1_boardings_0 7 rfl rfl)
theorem dX1_boardings_8 : decode cX1_boardings 8 = .ok (.invokevirtual 245, 3) := dk_182 0 245 (dk_at dksX1_boardings_0 8 rfl rfl)
theorem dX1_boardings_11 : decode cX1_boardings 11 = .ok (.invokestatic 187, 3) := dk_184 0 187 (dk_at dksX1_boardings_0 11 rfl rfl)
theorem dX1_boardings_14 : decode cX1_boardings 14 = .ok (.ireturn, 1) := dk_172 (dk_at dksX1_boardings_0 14 rfl rfl)
abbrev cX1_suitcaseAt : ByteArray := prog_1_method_45_code
def yX1_suitcaseAt : MethodName := ⟨RX1, "suitcaseAt", "(I)I"⟩
def dkwX1_suitcaseAt_1 : List UInt8 := [180, 0, 248, 182, 1, 17, 183, 1, 21, 27, 182, 1, 24, 192, 1, 9, 182, 1, 25, 172]
abbrev dktX1_suitcaseAt_1 : List UInt8 := dkwX1_suitcaseAt_1 ++ []
def dkwX1_suitcaseAt_0 : List UInt8 := [27, 3, 42, 182, 1, 12, 4, 100, 184, 0, 130, 184, 0, 119, 187, 1, 15, 89, 42, 180, 0, 44]
abbrev dktX1_suitcaseAt_0 : List UInt8 := dkwX1_suitcaseAt_0 ++ dktX1_suitcaseAt_1
theorem dksX1_suitcaseAt_0 : cX1_suitcaseAt.data.toList.drop 0 = dktX1_suitcaseAt_0 := by decide +kernel
theorem dksX1_suitcaseAt_1 : cX1_suitcaseAt.data.toList.drop 22 = dktX1_suitcaseAt_1 := dk_seg dksX1_suitcaseAt_0 22 rfl rfl
theorem dX1_suitcaseAt_0 : decode cX1_suitcaseAt 0 = .ok (.iload_n 1, 1) := dk_27 (dk_at dksX1_suitcaseAt_0 0 rfl rfl)
theorem dX1_suitcaseAt_1 : decode cX1_suitcaseAt 1 = .ok (.iconst 0, 1) := dk_3 (dk_at dksX1_suitcaseAt_0 1 rfl rfl)
theorem dX1_suitcaseAt_2 : decode cX1_suitcaseAt 2 = .ok (.aload_n 0, 1) := dk_42 (dk_at dksX1_suitcaseAt_0 2 rfl rfl)
theorem dX1_suitcaseAt_3 : decode cX1_suitcaseAt 3 = .ok (.invokevirtual 268, 3) := dk_182 1 12 (dk_at dksX1_suitcaseAt_0 3 rfl rfl)
theorem dX1_suitcaseAt_6 : decode cX1_suitcaseAt 6 = .ok (.iconst 1, 1) := dk_4 (dk_at dksX1_suitcaseAt_0 6 rfl rfl)
theorem dX1_suitcaseAt_7 : decode cX1_suitcaseAt 7 = .ok (.isub, 1) := dk_100 (dk_at dksX1_suitcaseAt_0 7 rfl rfl)
theorem dX1_suitcaseAt_8 : decode cX1_suitcaseAt 8 = .ok (.invokestatic 130, 3) := dk_184 0 130 (dk_at dksX1_suitcaseAt_0 8 rfl rfl)
theorem dX1_suitcaseAt_11 : decode cX1_suitcaseAt 11 = .ok (.invokestatic 119, 3) := dk_184 0 119 (dk_at dksX1_suitcaseAt_0 11 rfl rfl)
theorem dX1_suitcaseAt_14 : decode cX1_suitcaseAt 14 = .ok (.new 271, 3) := dk_187 1 15 (dk_at dksX1_suitcaseAt_0 14 rfl rfl)
theorem dX1_suitcaseAt_17 : decode cX1_suitcaseAt 17 = .ok (.dup, 1) := dk_89 (dk_at dksX1_suitcaseAt_0 17 rfl rfl)
theorem dX1_suitcaseAt_18 : decode cX1_suitcaseAt 18 = .ok (.aload_n 0, 1) := dk_42 (dk_at dksX1_suitcaseAt_0 18 rfl rfl)
theorem dX1_suitcaseAt_19 : decode cX1_suitcaseAt 19 = .ok (.getfield 44, 3) := dk_180 0 44 (dk_at dksX1_suitcaseAt_0 19 rfl rfl)
theorem dX1_suitcaseAt_22 : decode cX1_suitcaseAt 22 = .ok (.getfield 248, 3) := dk_180 0 248 (dk_at dksX1_suitcaseAt_1 0 rfl rfl)
theorem dX1_suitcaseAt_25 : decode cX1_suitcaseAt 25 = .ok (.invokevirtual 273, 3) := dk_182 1 17 (dk_at dksX1_suitcaseAt_1 3 rfl rfl)
theorem dX1_suitcaseAt_28 : decode cX1_suitcaseAt 28 = .ok (.invokespecial 277, 3) := dk_183 1 21 (dk_at dksX1_suitcaseAt_1 6 rfl rfl)
theorem dX1_suitcaseAt_31 : decode cX1_suitcaseAt 31 = .ok (.iload_n 1, 1) := dk_27 (dk_at dksX1_suitcaseAt_1 9 rfl rfl)
theorem dX1_suitcaseAt_32 : decode cX1_suitcaseAt 32 = .ok (.invokevirtual 280, 3) := dk_182 1 24 (dk_at dksX1_suitcaseAt_1 10 rfl rfl)
theorem dX1_suitcaseAt_35 : decode cX1_suitcaseAt 35 = .ok (.checkcast 265, 3) := dk_192 1 9 (dk_at dksX1_suitcaseAt_1 13 rfl rfl)
theorem dX1_suitcaseAt_38 : decode cX1_suitcaseAt 38 = .ok (.invokevirtual 281, 3) := dk_182 1 25 (dk_at dksX1_suitcaseAt_1 16 rfl rfl)
theorem dX1_suitcaseAt_41 : decode cX1_suitcaseAt 41 = .ok (.ireturn, 1) := dk_172 (dk_at dksX1_suitcaseAt_1 19 rfl rfl)
abbrev cX1_stationOf : ByteArray := prog_1_method_46_code
def yX1_stationOf : MethodName := ⟨RX1, "stationOf", "(I)I"⟩
def dkwX1_stationOf_0 : List UInt8 := [42, 27, 182, 1, 28, 182, 1, 32, 172]
abbrev dktX1_stationOf_0 : List UInt8 := dkwX1_stationOf_0 ++ []
theorem dksX1_stationOf_0 : cX1_stationOf.data.toList.drop 0 = dktX1_stationOf_0 := by decide +kernel
theorem dX1_stationOf_0 : decode cX1_stationOf 0 = .ok (.aload_n 0, 1) := dk_42 (dk_at dksX1_stationOf_0 0 rfl rfl)
theorem dX1_stationOf_1 : decode cX1_stationOf 1 = .ok (.iload_n 1, 1) := dk_27 (dk_at dksX1_stationOf_0 1 rfl rfl)
theorem dX1_stationOf_2 : decode cX1_stationOf 2 = .ok (.invokevirtual 284, 3) := dk_182 1 28 (dk_at dksX1_stationOf_0 2 rfl rfl)
theorem dX1_stationOf_5 : decode cX1_stationOf 5 = .ok (.invokevirtual 288, 3) := dk_182 1 32 (dk_at dksX1_stationOf_0 5 rfl rfl)
theorem dX1_stationOf_8 : decode cX1_stationOf 8 = .ok (.ireturn, 1) := dk_172 (dk_at dksX1_stationOf_0 8 rfl rfl)
abbrev cX1_suitcaseWith : ByteArray := prog_1_method_43_code
def yX1_suitcaseWith : MethodName := ⟨RX1, "suitcaseWith", "(I)LSleeperRailway$Suitcase;"⟩
def dkwX1_suitcaseWith_1 : List UInt8 := [27, 184, 0, 252, 182, 1, 6, 192, 1, 9, 176]
abbrev dktX1_suitcaseWith_1 : List UInt8 := dkwX1_suitcaseWith_1 ++ []
def dkwX1_suitcaseWith_0 : List UInt8 := [42, 180, 0, 44, 180, 0, 248, 27, 184, 0, 252, 182, 1, 0, 184, 0, 119, 42, 180, 0, 44, 180, 0, 248]
abbrev dktX1_suitcaseWith_0 : List UInt8 := dkwX1_suitcaseWith_0 ++ dktX1_suitcaseWith_1
theorem dksX1_suitcaseWith_0 : cX1_suitcaseWith.data.toList.drop 0 = dktX1_suitcaseWith_0 := by decide +kernel
theorem dksX1_suitcaseWith_1 : cX1_suitcaseWith.data.toList.drop 24 = dktX1_suitcaseWith_1 := dk_seg dksX1_suitcaseWith_0 24 rfl rfl
theorem dX1_suitcaseWith_0 : decode cX1_suitcaseWith 0 = .ok (.aload_n 0, 1) := dk_42 (dk_at dksX1_suitcaseWith_0 0 rfl rfl)
theorem dX1_suitcaseWith_1 : decode cX1_suitcaseWith 1 = .ok (.getfield 44, 3) := dk_180 0 44 (dk_at dksX1_suitcaseWith_0 1 rfl rfl)
theorem dX1_suitcaseWith_4 : decode cX1_suitcaseWith 4 = .ok (.getfield 248, 3) := dk_180 0 248 (dk_at dksX1_suitcaseWith_0 4 rfl rfl)
theorem dX1_suitcaseWith_7 : decode cX1_suitcaseWith 7 = .ok (.iload_n 1, 1) := dk_27 (dk_at dksX1_suitcaseWith_0 7 rfl rfl)
theorem dX1_suitcaseWith_8 : decode cX1_suitcaseWith 8 = .ok (.invokestatic 252, 3) := dk_184 0 252 (dk_at dksX1_suitcaseWith_0 8 rfl rfl)
theorem dX1_suitcaseWith_11 : decode cX1_suitcaseWith 11 = .ok (.invokevirtual 256, 3) := dk_182 1 0 (dk_at dksX1_suitcaseWith_0 11 rfl rfl)
theorem dX1_suitcaseWith_14 : decode cX1_suitcaseWith 14 = .ok (.invokestatic 119, 3) := dk_184 0 119 (dk_at dksX1_suitcaseWith_0 14 rfl rfl)
theorem dX1_suitcaseWith_17 : decode cX1_suitcaseWith 17 = .ok (.aload_n 0, 1) := dk_42 (dk_at dksX1_suitcaseWith_0 17 rfl rfl)
theorem dX1_suitcaseWith_18 : decode cX1_suitcaseWith 18 = .ok (.getfield 44, 3) := dk_180 0 44 (dk_at dksX1_suitcaseWith_0 18 rfl rfl)
theorem dX1_suitcaseWith_21 : decode cX1_suitcaseWith 21 = .ok (.getfield 248, 3) := dk_180 0 248 (dk_at dksX1_suitcaseWith_0 21 rfl rfl)
theorem dX1_suitcaseWith_24 : decode cX1_suitcaseWith 24 = .ok (.iload_n 1, 1) := dk_27 (dk_at dksX1_suitcaseWith_1 0 rfl rfl)
theorem dX1_suitcaseWith_25 : decode cX1_suitcaseWith 25 = .ok (.invokestatic 252, 3) := dk_184 0 252 (dk_at dksX1_suitcaseWith_1 1 rfl rfl)
theorem dX1_suitcaseWith_28 : decode cX1_suitcaseWith 28 = .ok (.invokevirtual 262, 3) := dk_182 1 6 (dk_at dksX1_suitcaseWith_1 4 rfl rfl)
theorem dX1_suitcaseWith_31 : decode cX1_suitcaseWith 31 = .ok (.checkcast 265, 3) := dk_192 1 9 (dk_at dksX1_suitcaseWith_1 7 rfl rfl)
theorem dX1_suitcaseWith_34 : decode cX1_suitcaseWith 34 = .ok (.areturn, 1) := dk_176 (dk_at dksX1_suitcaseWith_1 10 rfl rfl)
abbrev cX1_destinationOf : ByteArray := prog_1_method_47_code
def yX1_destinationOf : MethodName := ⟨RX1, "destinationOf", "(I)I"⟩
def dkwX1_destinationOf_0 : List UInt8 := [42, 27, 182, 1, 28, 182, 1, 34, 172]
abbrev dktX1_destinationOf_0 : List UInt8 := dkwX1_destinationOf_0 ++ []
theorem dksX1_destinationOf_0 : cX1_destinationOf.data.toList.drop 0 = dktX1_destinationOf_0 := by decide +kernel
theorem dX1_destinationOf_0 : decode cX1_destinationOf 0 = .ok (.aload_n 0, 1) := dk_42 (dk_at dksX1_destinationOf_0 0 rfl rfl)
theorem dX1_destinationOf_1 : decode cX1_destinationOf 1 = .ok (.iload_n 1, 1) := dk_27 (dk_at dksX1_destinationOf_0 1 rfl rfl)
theorem dX1_destinationOf_2 : decode cX1_destinationOf 2 = .ok (.invokevirtual 284, 3) := dk_182 1 28 (dk_at dksX1_destinationOf_0 2 rfl rfl)
theorem dX1_destinationOf_5 : decode cX1_destinationOf 5 = .ok (.invokevirtual 290, 3) := dk_182 1 34 (dk_at dksX1_destinationOf_0 5 rfl rfl)
theorem dX1_destinationOf_8 : decode cX1_destinationOf 8 = .ok (.ireturn, 1) := dk_172 (dk_at dksX1_destinationOf_0 8 rfl rfl)
abbrev cX1_readyAt : ByteArray := prog_1_method_48_code
def yX1_readyAt : MethodName := ⟨RX1, "readyAt", "(I)I"⟩
def dkwX1_readyAt_0 : List UInt8 := [42, 27, 182, 1, 28, 182, 1, 37, 172]
abbrev dktX1_readyAt_0 : List UInt8 := dkwX1_readyAt_0 ++ []
theorem dksX1_readyAt_0 : cX1_readyAt.data.toList.drop 0 = dktX1_readyAt_0 := by decide +kernel
theorem dX1_readyAt_0 : decode cX1_readyAt 0 = .ok (.aload_n 0, 1) := dk_42 (dk_at dksX1_readyAt_0 0 rfl rfl)
theorem dX1_readyAt_1 : decode cX1_readyAt 1 = .ok (.iload_n 1, 1) := dk_27 (dk_at dksX1_readyAt_0 1 rfl rfl)
theorem dX1_readyAt_2 : decode cX1_readyAt 2 = .ok (.invokevirtual 284, 3) := dk_182 1 28 (dk_at dksX1_readyAt_0 2 rfl rfl)
theorem dX1_readyAt_5 : decode cX1_readyAt 5 = .ok (.invokevirtual 293, 3) := dk_182 1 37 (dk_at dksX1_readyAt_0 5 rfl rfl)
theorem dX1_readyAt_8 : decode cX1_readyAt 8 = .ok (.ireturn, 1) := dk_172 (dk_at dksX1_readyAt_0 8 rfl rfl)
abbrev cX1_isThere : ByteArray := prog_1_method_49_code
def yX1_isThere : MethodName := ⟨RX1, "isThere", "(I)Z"⟩
def dkwX1_isThere_0 : List UInt8 := [42, 27, 182, 1, 28, 182, 1, 40, 172]
abbrev dktX1_isThere_0 : List UInt8 := dkwX1_isThere_0 ++ []
theorem dksX1_isThere_0 : cX1_isThere.data.toList.drop 0 = dktX1_isThere_0 := by decide +kernel
theorem dX1_isThere_0 : decode cX1_isThere 0 = .ok (.aload_n 0, 1) := dk_42 (dk_at dksX1_isThere_0 0 rfl rfl)
theorem dX1_isThere_1 : decode cX1_isThere 1 = .ok (.iload_n 1, 1) := dk_27 (dk_at dksX1_isThere_0 1 rfl rfl)
theorem dX1_isThere_2 : decode cX1_isThere 2 = .ok (.invokevirtual 284, 3) := dk_182 1 28 (dk_at dksX1_isThere_0 2 rfl rfl)
theorem dX1_isThere_5 : decode cX1_isThere 5 = .ok (.invokevirtual 296, 3) := dk_182 1 40 (dk_at dksX1_isThere_0 5 rfl rfl)
theorem dX1_isThere_8 : decode cX1_isThere 8 = .ok (.ireturn, 1) := dk_172 (dk_at dksX1_isThere_0 8 rfl rfl)
abbrev cX1_suitcaseByReady : ByteArray := prog_1_method_50_code
def yX1_suitcaseByReady : MethodName := ⟨RX1, "suitcaseByReady", "(I)I"⟩
def dkwX1_suitcaseByReady_0 : List UInt8 := [42, 180, 0, 44, 27, 182, 1, 44, 184, 0, 187, 172]
abbrev dktX1_suitcaseByReady_0 : List UInt8 := dkwX1_suitcaseByReady_0 ++ []
theorem dksX1_suitcaseByReady_0 : cX1_suitcaseByReady.data.toList.drop 0 = dktX1_suitcaseByReady_0 := by decide +kernel
theorem dX1_suitcaseByReady_0 : decode cX1_suitcaseByReady 0 = .ok (.aload_n 0, 1) := dk_42 (dk_at dksX1_suitcaseByReady_0 0 rfl rfl)
theorem dX1_suitcaseByReady_1 : decode cX1_suitcaseByReady 1 = .ok (.getfield 44, 3) := dk_180 0 44 (dk_at dksX1_suitcaseByReady_0 1 rfl rfl)
theorem dX1_suitcaseByReady_4 : decode cX1_suitcaseByReady 4 = .ok (.iload_n 1, 1) := dk_27 (dk_at dksX1_suitcaseByReady_0 4 rfl rfl)
theorem dX1_suitcaseByReady_5 : decode cX1_suitcaseByReady 5 = .ok (.invokevirtual 300, 3) := dk_182 1 44 (dk_at dksX1_suitcaseByReady_0 5 rfl rfl)
theorem dX1_suitcaseByReady_8 : decode cX1_suitcaseByReady 8 = .ok (.invokestatic 187, 3) := dk_184 0 187 (dk_at dksX1_suitcaseByReady_0 8 rfl rfl)
theorem dX1_suitcaseByReady_11 : decode cX1_suitcaseByReady 11 = .ok (.ireturn, 1) := dk_172 (dk_at dksX1_suitcaseByReady_0 11 rfl rfl)
abbrev cX1_bookingAt : ByteArray := prog_1_method_53_code
def yX1_bookingAt : MethodName := ⟨RX1, "bookingAt", "(I)I"⟩
def dkwX1_bookingAt_1 : List UInt8 := [180, 1, 47, 182, 1, 17, 183, 1, 21, 27, 182, 1, 24, 192, 1, 50, 180, 1, 55, 172]
abbrev dktX1_bookingAt_1 : List UInt8 := dkwX1_bookingAt_1 ++ []
def dkwX1_bookingAt_0 : List UInt8 := [27, 3, 42, 182, 1, 52, 4, 100, 184, 0, 130, 184, 0, 119, 187, 1, 15, 89, 42, 180, 0, 44]
abbrev dktX1_bookingAt_0 : List UInt8 := dkwX1_bookingAt_0 ++ dktX1_bookingAt_1
theorem dksX1_bookingAt_0 : cX1_bookingAt.data.toList.drop 0 = dktX1_bookingAt_0 := by decide +kernel
theorem dksX1_bookingAt_1 : cX1_bookingAt.data.toList.drop 22 = dktX1_bookingAt_1 := dk_seg dksX1_bookingAt_0 22 rfl rfl
theorem dX1_bookingAt_0 : decode cX1_bookingAt 0 = .ok (.iload_n 1, 1) := dk_27 (dk_at dksX1_bookingAt_0 0 rfl rfl)
theorem dX1_bookingAt_1 : decode cX1_bookingAt 1 = .ok (.iconst 0, 1) := dk_3 (dk_at dksX1_bookingAt_0 1 rfl rfl)
theorem dX1_bookingAt_2 : decode cX1_bookingAt 2 = .ok (.aload_n 0, 1) := dk_42 (dk_at dksX1_bookingAt_0 2 rfl rfl)
theorem dX1_bookingAt_3 : decode cX1_bookingAt 3 = .ok (.invokevirtual 308, 3) := dk_182 1 52 (dk_at dksX1_bookingAt_0 3 rfl rfl)
theorem dX1_bookingAt_6 : decode cX1_bookingAt 6 = .ok (.iconst 1, 1) := dk_4 (dk_at dksX1_bookingAt_0 6 rfl rfl)
theorem dX1_bookingAt_7 : decode cX1_bookingAt 7 = .ok (.isub, 1) := dk_100 (dk_at dksX1_bookingAt_0 7 rfl rfl)
theorem dX1_bookingAt_8 : decode cX1_bookingAt 8 = .ok (.invokestatic 130, 3) := dk_184 0 130 (dk_at dksX1_bookingAt_0 8 rfl rfl)
theorem dX1_bookingAt_11 : decode cX1_bookingAt 11 = .ok (.invokestatic 119, 3) := dk_184 0 119 (dk_at dksX1_bookingAt_0 11 rfl rfl)
theorem dX1_bookingAt_14 : decode cX1_bookingAt 14 = .ok (.new 271, 3) := dk_187 1 15 (dk_at dksX1_bookingAt_0 14 rfl rfl)
theorem dX1_bookingAt_17 : decode cX1_bookingAt 17 = .ok (.dup, 1) := dk_89 (dk_at dksX1_bookingAt_0 17 rfl rfl)
theorem dX1_bookingAt_18 : decode cX1_bookingAt 18 = .ok (.aload_n 0, 1) := dk_42 (dk_at dksX1_bookingAt_0 18 rfl rfl)
theorem dX1_bookingAt_19 : decode cX1_bookingAt 19 = .ok (.getfield 44, 3) := dk_180 0 44 (dk_at dksX1_bookingAt_0 19 rfl rfl)
theorem dX1_bookingAt_22 : decode cX1_bookingAt 22 = .ok (.getfield 303, 3) := dk_180 1 47 (dk_at dksX1_bookingAt_1 0 rfl rfl)
theorem dX1_bookingAt_25 : decode cX1_bookingAt 25 = .ok (.invokevirtual 273, 3) := dk_182 1 17 (dk_at dksX1_bookingAt_1 3 rfl rfl)
theorem dX1_bookingAt_28 : decode cX1_bookingAt 28 = .ok (.invokespecial 277, 3) := dk_183 1 21 (dk_at dksX1_bookingAt_1 6 rfl rfl)
theorem dX1_bookingAt_31 : decode cX1_bookingAt 31 = .ok (.iload_n 1, 1) := dk_27 (dk_at dksX1_bookingAt_1 9 rfl rfl)
theorem dX1_bookingAt_32 : decode cX1_bookingAt 32 = .ok (.invokevirtual 280, 3) := dk_182 1 24 (dk_at dksX1_bookingAt_1 10 rfl rfl)
theorem dX1_bookingAt_35 : decode cX1_bookingAt 35 = .ok (.checkcast 306, 3) := dk_192 1 50 (dk_at dksX1_bookingAt_1 13 rfl rfl)
theorem dX1_bookingAt_38 : decode cX1_bookingAt 38 = .ok (.getfield 311, 3) := dk_180 1 55 (dk_at dksX1_bookingAt_1 16 rfl rfl)
theorem dX1_bookingAt_41 : decode cX1_bookingAt 41 = .ok (.ireturn, 1) := dk_172 (dk_at dksX1_bookingAt_1 19 rfl rfl)
abbrev cX1_berthsNeeded : ByteArray := prog_1_method_54_code
def yX1_berthsNeeded : MethodName := ⟨RX1, "berthsNeeded", "(I)I"⟩
def dkwX1_berthsNeeded_0 : List UInt8 := [42, 27, 182, 0, 150, 87, 42, 180, 0, 44, 27, 182, 1, 57, 180, 1, 61, 172]
abbrev dktX1_berthsNeeded_0 : List UInt8 := dkwX1_berthsNeeded_0 ++ []
theorem dksX1_berthsNeeded_0 : cX1_berthsNeeded.data.toList.drop 0 = dktX1_berthsNeeded_0 := by decide +kernel
theorem dX1_berthsNeeded_0 : decode cX1_berthsNeeded 0 = .ok (.aload_n 0, 1) := dk_42 (dk_at dksX1_berthsNeeded_0 0 rfl rfl)
theorem dX1_berthsNeeded_1 : decode cX1_berthsNeeded 1 = .ok (.iload_n 1, 1) := dk_27 (dk_at dksX1_berthsNeeded_0 1 rfl rfl)
theorem dX1_berthsNeeded_2 : decode cX1_berthsNeeded 2 = .ok (.invokevirtual 150, 3) := dk_182 0 150 (dk_at dksX1_berthsNeeded_0 2 rfl rfl)
theorem dX1_berthsNeeded_5 : decode cX1_berthsNeeded 5 = .ok (.pop, 1) := dk_87 (dk_at dksX1_berthsNeeded_0 5 rfl rfl)
theorem dX1_berthsNeeded_6 : decode cX1_berthsNeeded 6 = .ok (.aload_n 0, 1) := dk_42 (dk_at dksX1_berthsNeeded_0 6 rfl rfl)
theorem dX1_berthsNeeded_7 : decode cX1_berthsNeeded 7 = .ok (.getfield 44, 3) := dk_180 0 44 (dk_at dksX1_berthsNeeded_0 7 rfl rfl)
theorem dX1_berthsNeeded_10 : decode cX1_berthsNeeded 10 = .ok (.iload_n 1, 1) := dk_27 (dk_at dksX1_berthsNeeded_0 10 rfl rfl)
theorem dX1_berthsNeeded_11 : decode cX1_berthsNeeded 11 = .ok (.invokevirtual 313, 3) := dk_182 1 57 (dk_at dksX1_berthsNeeded_0 11 rfl rfl)
theorem dX1_berthsNeeded_14 : decode cX1_berthsNeeded 14 = .ok (.getfield 317, 3) := dk_180 1 61 (dk_at dksX1_berthsNeeded_0 14 rfl rfl)
theorem dX1_berthsNeeded_17 : decode cX1_berthsNeeded 17 = .ok (.ireturn, 1) := dk_172 (dk_at dksX1_berthsNeeded_0 17 rfl rfl)
abbrev cX1_berthsNeededByLegs : ByteArray := prog_1_method_55_code
def yX1_berthsNeededByLegs : MethodName := ⟨RX1, "berthsNeededByLegs", "(I)I"⟩
def dkwX1_berthsNeededByLegs_0 : List UInt8 := [42, 27, 182, 0, 150, 87, 42, 180, 0, 44, 27, 182, 1, 66, 172]
abbrev dktX1_berthsNeededByLegs_0 : List UInt8 := dkwX1_berthsNeededByLegs_0 ++ []
theorem dksX1_berthsNeededByLegs_0 : cX1_berthsNeededByLegs.data.toList.drop 0 = dktX1_berthsNeededByLegs_0 := by decide +kernel
theorem dX1_berthsNeededByLegs_0 : decode cX1_berthsNeededByLegs 0 = .ok (.aload_n 0, 1) := dk_42 (dk_at dksX1_berthsNeededByLegs_0 0 rfl rfl)
theorem dX1_berthsNeededByLegs_1 : decode cX1_berthsNeededByLegs 1 = .ok (.iload_n 1, 1) := dk_27 (dk_at dksX1_berthsNeededByLegs_0 1 rfl rfl)
theorem dX1_berthsNeededByLegs_2 : decode cX1_berthsNeededByLegs 2 = .ok (.invokevirtual 150, 3) := dk_182 0 150 (dk_at dksX1_berthsNeededByLegs_0 2 rfl rfl)
theorem dX1_berthsNeededByLegs_5 : decode cX1_berthsNeededByLegs 5 = .ok (.pop, 1) := dk_87 (dk_at dksX1_berthsNeededByLegs_0 5 rfl rfl)
theorem dX1_berthsNeededByLegs_6 : decode cX1_berthsNeededByLegs 6 = .ok (.aload_n 0, 1) := dk_42 (dk_at dksX1_berthsNeededByLegs_0 6 rfl rfl)
theorem dX1_berthsNeededByLegs_7 : decode cX1_berthsNeededByLegs 7 = .ok (.getfield 44, 3) := dk_180 0 44 (dk_at dksX1_berthsNeededByLegs_0 7 rfl rfl)
theorem dX1_berthsNeededByLegs_10 : decode cX1_berthsNeededByLegs 10 = .ok (.iload_n 1, 1) := dk_27 (dk_at dksX1_berthsNeededByLegs_0 10 rfl rfl)
theorem dX1_berthsNeededByLegs_11 : decode cX1_berthsNeededByLegs 11 = .ok (.invokevirtual 322, 3) := dk_182 1 66 (dk_at dksX1_berthsNeededByLegs_0 11 rfl rfl)
theorem dX1_berthsNeededByLegs_14 : decode cX1_berthsNeededByLegs 14 = .ok (.ireturn, 1) := dk_172 (dk_at dksX1_berthsNeededByLegs_0 14 rfl rfl)
abbrev cX1_berthOf : ByteArray := prog_1_method_56_code
def yX1_berthOf : MethodName := ⟨RX1, "berthOf", "(I)I"⟩
def dkwX1_berthOf_0 : List UInt8 := [42, 27, 182, 1, 69, 77, 42, 180, 0, 44, 44, 180, 1, 73, 182, 1, 57, 44, 182, 1, 75, 172]
abbrev dktX1_berthOf_0 : List UInt8 := dkwX1_berthOf_0 ++ []
theorem dksX1_berthOf_0 : cX1_berthOf.data.toList.drop 0 = dktX1_berthOf_0 := by decide +kernel
theorem dX1_berthOf_0 : decode cX1_berthOf 0 = .ok (.aload_n 0, 1) := dk_42 (dk_at dksX1_berthOf_0 0 rfl rfl)
theorem dX1_berthOf_1 : decode cX1_berthOf 1 = .ok (.iload_n 1, 1) := dk_27 (dk_at dksX1_berthOf_0 1 rfl rfl)
theorem dX1_berthOf_2 : decode cX1_berthOf 2 = .ok (.invokevirtual 325, 3) := dk_182 1 69 (dk_at dksX1_berthOf_0 2 rfl rfl)
theorem dX1_berthOf_5 : decode cX1_berthOf 5 = .ok (.astore_n 2, 1) := dk_77 (dk_at dksX1_berthOf_0 5 rfl rfl)
theorem dX1_berthOf_6 : decode cX1_berthOf 6 = .ok (.aload_n 0, 1) := dk_42 (dk_at dksX1_berthOf_0 6 rfl rfl)
theorem dX1_berthOf_7 : decode cX1_berthOf 7 = .ok (.getfield 44, 3) := dk_180 0 44 (dk_at dksX1_berthOf_0 7 rfl rfl)
theorem dX1_berthOf_10 : decode cX1_berthOf 10 = .ok (.aload_n 2, 1) := dk_44 (dk_at dksX1_berthOf_0 10 rfl rfl)
theorem dX1_berthOf_11 : decode cX1_berthOf 11 = .ok (.getfield 329, 3) := dk_180 1 73 (dk_at dksX1_berthOf_0 11 rfl rfl)
theorem dX1_berthOf_14 : decode cX1_berthOf 14 = .ok (.invokevirtual 313, 3) := dk_182 1 57 (dk_at dksX1_berthOf_0 14 rfl rfl)
theorem dX1_berthOf_17 : decode cX1_berthOf 17 = .ok (.aload_n 2, 1) := dk_44 (dk_at dksX1_berthOf_0 17 rfl rfl)
theorem dX1_berthOf_18 : decode cX1_berthOf 18 = .ok (.invokevirtual 331, 3) := dk_182 1 75 (dk_at dksX1_berthOf_0 18 rfl rfl)
theorem dX1_berthOf_21 : decode cX1_berthOf 21 = .ok (.ireturn, 1) := dk_172 (dk_at dksX1_berthOf_0 21 rfl rfl)
abbrev cX1_bookingWith : ByteArray := prog_1_method_51_code
def yX1_bookingWith : MethodName := ⟨RX1, "bookingWith", "(I)LSleeperRailway$Booking;"⟩
def dkwX1_bookingWith_1 : List UInt8 := [27, 184, 0, 252, 182, 1, 6, 192, 1, 50, 176]
abbrev dktX1_bookingWith_1 : List UInt8 := dkwX1_bookingWith_1 ++ []
def dkwX1_bookingWith_0 : List UInt8 := [42, 180, 0, 44, 180, 1, 47, 27, 184, 0, 252, 182, 1, 0, 184, 0, 119, 42, 180, 0, 44, 180, 1, 47]
abbrev dktX1_bookingWith_0 : List UInt8 := dkwX1_bookingWith_0 ++ dktX1_bookingWith_1
theorem dksX1_bookingWith_0 : cX1_bookingWith.data.toList.drop 0 = dktX1_bookingWith_0 := by decide +kernel
theorem dksX1_bookingWith_1 : cX1_bookingWith.data.toList.drop 24 = dktX1_bookingWith_1 := dk_seg dksX1_bookingWith_0 24 rfl rfl
theorem dX1_bookingWith_0 : decode cX1_bookingWith 0 = .ok (.aload_n 0, 1) := dk_42 (dk_at dksX1_bookingWith_0 0 rfl rfl)
theorem dX1_bookingWith_1 : decode cX1_bookingWith 1 = .ok (.getfield 44, 3) := dk_180 0 44 (dk_at dksX1_bookingWith_0 1 rfl rfl)
theorem dX1_bookingWith_4 : decode cX1_bookingWith 4 = .ok (.getfield 303, 3) := dk_180 1 47 (dk_at dksX1_bookingWith_0 4 rfl rfl)
theorem dX1_bookingWith_7 : decode cX1_bookingWith 7 = .ok (.iload_n 1, 1) := dk_27 (dk_at dksX1_bookingWith_0 7 rfl rfl)
theorem dX1_bookingWith_8 : decode cX1_bookingWith 8 = .ok (.invokestatic 252, 3) := dk_184 0 252 (dk_at dksX1_bookingWith_0 8 rfl rfl)
theorem dX1_bookingWith_11 : decode cX1_bookingWith 11 = .ok (.invokevirtual 256, 3) := dk_182 1 0 (dk_at dksX1_bookingWith_0 11 rfl rfl)
theorem dX1_bookingWith_14 : decode cX1_bookingWith 14 = .ok (.invokestatic 119, 3) := dk_184 0 119 (dk_at dksX1_bookingWith_0 14 rfl rfl)
theorem dX1_bookingWith_17 : decode cX1_bookingWith 17 = .ok (.aload_n 0, 1) := dk_42 (dk_at dksX1_bookingWith_0 17 rfl rfl)
theorem dX1_bookingWith_18 : decode cX1_bookingWith 18 = .ok (.getfield 44, 3) := dk_180 0 44 (dk_at dksX1_bookingWith_0 18 rfl rfl)
theorem dX1_bookingWith_21 : decode cX1_bookingWith 21 = .ok (.getfield 303, 3) := dk_180 1 47 (dk_at dksX1_bookingWith_0 21 rfl rfl)
theorem dX1_bookingWith_24 : decode cX1_bookingWith 24 = .ok (.iload_n 1, 1) := dk_27 (dk_at dksX1_bookingWith_1 0 rfl rfl)
theorem dX1_bookingWith_25 : decode cX1_bookingWith 25 = .ok (.invokestatic 252, 3) := dk_184 0 252 (dk_at dksX1_bookingWith_1 1 rfl rfl)
theorem dX1_bookingWith_28 : decode cX1_bookingWith 28 = .ok (.invokevirtual 262, 3) := dk_182 1 6 (dk_at dksX1_bookingWith_1 4 rfl rfl)
theorem dX1_bookingWith_31 : decode cX1_bookingWith 31 = .ok (.checkcast 306, 3) := dk_192 1 50 (dk_at dksX1_bookingWith_1 7 rfl rfl)
theorem dX1_bookingWith_34 : decode cX1_bookingWith 34 = .ok (.areturn, 1) := dk_176 (dk_at dksX1_bookingWith_1 10 rfl rfl)
abbrev cX1_meanLoad : ByteArray := prog_1_method_61_code
def yX1_meanLoad : MethodName := ⟨RX1, "meanLoad", "()D"⟩
def dkwX1_meanLoad_0 : List UInt8 := [42, 182, 1, 94, 60, 42, 180, 0, 44, 180, 0, 137, 182, 1, 97, 135, 27, 135, 111, 175]
abbrev dktX1_meanLoad_0 : List UInt8 := dkwX1_meanLoad_0 ++ []
theorem dksX1_meanLoad_0 : cX1_meanLoad.data.toList.drop 0 = dktX1_meanLoad_0 := by decide +kernel
theorem dX1_meanLoad_0 : decode cX1_meanLoad 0 = .ok (.aload_n 0, 1) := dk_42 (dk_at dksX1_meanLoad_0 0 rfl rfl)
theorem dX1_meanLoad_1 : decode cX1_meanLoad 1 = .ok (.invokevirtual 350, 3) := dk_182 1 94 (dk_at dksX1_meanLoad_0 1 rfl rfl)
theorem dX1_meanLoad_4 : decode cX1_meanLoad 4 = .ok (.istore_n 1, 1) := dk_60 (dk_at dksX1_meanLoad_0 4 rfl rfl)
theorem dX1_meanLoad_5 : decode cX1_meanLoad 5 = .ok (.aload_n 0, 1) := dk_42 (dk_at dksX1_meanLoad_0 5 rfl rfl)
theorem dX1_meanLoad_6 : decode cX1_meanLoad 6 = .ok (.getfield 44, 3) := dk_180 0 44 (dk_at dksX1_meanLoad_0 6 rfl rfl)
theorem dX1_meanLoad_9 : decode cX1_meanLoad 9 = .ok (.getfield 137, 3) := dk_180 0 137 (dk_at dksX1_meanLoad_0 9 rfl rfl)
theorem dX1_meanLoad_12 : decode cX1_meanLoad 12 = .ok (.invokevirtual 353, 3) := dk_182 1 97 (dk_at dksX1_meanLoad_0 12 rfl rfl)
theorem dX1_meanLoad_15 : decode cX1_meanLoad 15 = .ok (.i2d, 1) := dk_135 (dk_at dksX1_meanLoad_0 15 rfl rfl)
theorem dX1_meanLoad_16 : decode cX1_meanLoad 16 = .ok (.iload_n 1, 1) := dk_27 (dk_at dksX1_meanLoad_0 16 rfl rfl)
theorem dX1_meanLoad_17 : decode cX1_meanLoad 17 = .ok (.i2d, 1) := dk_135 (dk_at dksX1_meanLoad_0 17 rfl rfl)
theorem dX1_meanLoad_18 : decode cX1_meanLoad 18 = .ok (.ddiv, 1) := dk_111 (dk_at dksX1_meanLoad_0 18 rfl rfl)
theorem dX1_meanLoad_19 : decode cX1_meanLoad 19 = .ok (.dreturn, 1) := dk_175 (dk_at dksX1_meanLoad_0 19 rfl rfl)
abbrev cX1_legsAsDivisor : ByteArray := prog_1_method_60_code
def yX1_legsAsDivisor : MethodName := ⟨RX1, "legsAsDivisor", "()I"⟩
def dkwX1_legsAsDivisor_1 : List UInt8 := [172]
abbrev dktX1_legsAsDivisor_1 : List UInt8 := dkwX1_legsAsDivisor_1 ++ []
def dkwX1_legsAsDivisor_0 : List UInt8 := [42, 180, 0, 44, 180, 0, 137, 182, 1, 88, 60, 27, 154, 0, 11, 187, 1, 91, 89, 183, 1, 93, 191, 27]
abbrev dktX1_legsAsDivisor_0 : List UInt8 := dkwX1_legsAsDivisor_0 ++ dktX1_legsAsDivisor_1
theorem dksX1_legsAsDivisor_0 : cX1_legsAsDivisor.data.toList.drop 0 = dktX1_legsAsDivisor_0 := by decide +kernel
theorem dksX1_legsAsDivisor_1 : cX1_legsAsDivisor.data.toList.drop 24 = dktX1_legsAsDivisor_1 := dk_seg dksX1_legsAsDivisor_0 24 rfl rfl
theorem dX1_legsAsDivisor_0 : decode cX1_legsAsDivisor 0 = .ok (.aload_n 0, 1) := dk_42 (dk_at dksX1_legsAsDivisor_0 0 rfl rfl)
theorem dX1_legsAsDivisor_1 : decode cX1_legsAsDivisor 1 = .ok (.getfield 44, 3) := dk_180 0 44 (dk_at dksX1_legsAsDivisor_0 1 rfl rfl)
theorem dX1_legsAsDivisor_4 : decode cX1_legsAsDivisor 4 = .ok (.getfield 137, 3) := dk_180 0 137 (dk_at dksX1_legsAsDivisor_0 4 rfl rfl)
theorem dX1_legsAsDivisor_7 : decode cX1_legsAsDivisor 7 = .ok (.invokevirtual 344, 3) := dk_182 1 88 (dk_at dksX1_legsAsDivisor_0 7 rfl rfl)
theorem dX1_legsAsDivisor_10 : decode cX1_legsAsDivisor 10 = .ok (.istore_n 1, 1) := dk_60 (dk_at dksX1_legsAsDivisor_0 10 rfl rfl)
theorem dX1_legsAsDivisor_11 : decode cX1_legsAsDivisor 11 = .ok (.iload_n 1, 1) := dk_27 (dk_at dksX1_legsAsDivisor_0 11 rfl rfl)
theorem dX1_legsAsDivisor_12 : decode cX1_legsAsDivisor 12 = .ok (.ifCond .ne 11, 3) := dk_154 0 11 (dk_at dksX1_legsAsDivisor_0 12 rfl rfl)
theorem dX1_legsAsDivisor_15 : decode cX1_legsAsDivisor 15 = .ok (.new 347, 3) := dk_187 1 91 (dk_at dksX1_legsAsDivisor_0 15 rfl rfl)
theorem dX1_legsAsDivisor_18 : decode cX1_legsAsDivisor 18 = .ok (.dup, 1) := dk_89 (dk_at dksX1_legsAsDivisor_0 18 rfl rfl)
theorem dX1_legsAsDivisor_19 : decode cX1_legsAsDivisor 19 = .ok (.invokespecial 349, 3) := dk_183 1 93 (dk_at dksX1_legsAsDivisor_0 19 rfl rfl)
theorem dX1_legsAsDivisor_22 : decode cX1_legsAsDivisor 22 = .ok (.athrow, 1) := dk_191 (dk_at dksX1_legsAsDivisor_0 22 rfl rfl)
theorem dX1_legsAsDivisor_23 : decode cX1_legsAsDivisor 23 = .ok (.iload_n 1, 1) := dk_27 (dk_at dksX1_legsAsDivisor_0 23 rfl rfl)
theorem dX1_legsAsDivisor_24 : decode cX1_legsAsDivisor 24 = .ok (.ireturn, 1) := dk_172 (dk_at dksX1_legsAsDivisor_1 0 rfl rfl)
abbrev cX1_fullShare : ByteArray := prog_1_method_62_code
def yX1_fullShare : MethodName := ⟨RX1, "fullShare", "()F"⟩
def dkwX1_fullShare_0 : List UInt8 := [42, 182, 1, 94, 60, 42, 180, 0, 44, 180, 0, 137, 182, 1, 100, 134, 27, 134, 110, 174]
abbrev dktX1_fullShare_0 : List UInt8 := dkwX1_fullShare_0 ++ []
theorem dksX1_fullShare_0 : cX1_fullShare.data.toList.drop 0 = dktX1_fullShare_0 := by decide +kernel
theorem dX1_fullShare_0 : decode cX1_fullShare 0 = .ok (.aload_n 0, 1) := dk_42 (dk_at dksX1_fullShare_0 0 rfl rfl)
theorem dX1_fullShare_1 : decode cX1_fullShare 1 = .ok (.invokevirtual 350, 3) := dk_182 1 94 (dk_at dksX1_fullShare_0 1 rfl rfl)
theorem dX1_fullShare_4 : decode cX1_fullShare 4 = .ok (.istore_n 1, 1) := dk_60 (dk_at dksX1_fullShare_0 4 rfl rfl)
theorem dX1_fullShare_5 : decode cX1_fullShare 5 = .ok (.aload_n 0, 1) := dk_42 (dk_at dksX1_fullShare_0 5 rfl rfl)
theorem dX1_fullShare_6 : decode cX1_fullShare 6 = .ok (.getfield 44, 3) := dk_180 0 44 (dk_at dksX1_fullShare_0 6 rfl rfl)
theorem dX1_fullShare_9 : decode cX1_fullShare 9 = .ok (.getfield 137, 3) := dk_180 0 137 (dk_at dksX1_fullShare_0 9 rfl rfl)
theorem dX1_fullShare_12 : decode cX1_fullShare 12 = .ok (.invokevirtual 356, 3) := dk_182 1 100 (dk_at dksX1_fullShare_0 12 rfl rfl)
theorem dX1_fullShare_15 : decode cX1_fullShare 15 = .ok (.i2f, 1) := dk_134 (dk_at dksX1_fullShare_0 15 rfl rfl)
theorem dX1_fullShare_16 : decode cX1_fullShare 16 = .ok (.iload_n 1, 1) := dk_27 (dk_at dksX1_fullShare_0 16 rfl rfl)
theorem dX1_fullShare_17 : decode cX1_fullShare 17 = .ok (.i2f, 1) := dk_134 (dk_at dksX1_fullShare_0 17 rfl rfl)
theorem dX1_fullShare_18 : decode cX1_fullShare 18 = .ok (.fdiv, 1) := dk_110 (dk_at dksX1_fullShare_0 18 rfl rfl)
theorem dX1_fullShare_19 : decode cX1_fullShare 19 = .ok (.freturn, 1) := dk_174 (dk_at dksX1_fullShare_0 19 rfl rfl)
abbrev cX1_renderTrain : ByteArray := prog_1_method_65_code
def yX1_renderTrain : MethodName := ⟨RX1, "renderTrain", "(I)I"⟩
def dkwX1_renderTrain_1 : List UInt8 := [182, 1, 120, 182, 1, 117, 182, 1, 124, 182, 1, 125, 172]
abbrev dktX1_renderTrain_1 : List UInt8 := dkwX1_renderTrain_1 ++ []
def dkwX1_renderTrain_0 : List UInt8 := [42, 187, 0, 21, 89, 183, 0, 23, 27, 182, 1, 111, 19, 1, 115, 182, 1, 117, 42, 27, 182, 0, 150]
abbrev dktX1_renderTrain_0 : List UInt8 := dkwX1_renderTrain_0 ++ dktX1_renderTrain_1
theorem dksX1_renderTrain_0 : cX1_renderTrain.data.toList.drop 0 = dktX1_renderTrain_0 := by decide +kernel
theorem dksX1_renderTrain_1 : cX1_renderTrain.data.toList.drop 23 = dktX1_renderTrain_1 := dk_seg dksX1_renderTrain_0 23 rfl rfl
theorem dX1_renderTrain_0 : decode cX1_renderTrain 0 = .ok (.aload_n 0, 1) := dk_42 (dk_at dksX1_renderTrain_0 0 rfl rfl)
theorem dX1_renderTrain_1 : decode cX1_renderTrain 1 = .ok (.new 21, 3) := dk_187 0 21 (dk_at dksX1_renderTrain_0 1 rfl rfl)
theorem dX1_renderTrain_4 : decode cX1_renderTrain 4 = .ok (.dup, 1) := dk_89 (dk_at dksX1_renderTrain_0 4 rfl rfl)
theorem dX1_renderTrain_5 : decode cX1_renderTrain 5 = .ok (.invokespecial 23, 3) := dk_183 0 23 (dk_at dksX1_renderTrain_0 5 rfl rfl)
theorem dX1_renderTrain_8 : decode cX1_renderTrain 8 = .ok (.iload_n 1, 1) := dk_27 (dk_at dksX1_renderTrain_0 8 rfl rfl)
theorem dX1_renderTrain_9 : decode cX1_renderTrain 9 = .ok (.invokevirtual 367, 3) := dk_182 1 111 (dk_at dksX1_renderTrain_0 9 rfl rfl)
theorem dX1_renderTrain_12 : decode cX1_renderTrain 12 = .ok (.ldc_w 371, 3) := dk_19 1 115 (dk_at dksX1_renderTrain_0 12 rfl rfl)
theorem dX1_renderTrain_15 : decode cX1_renderTrain 15 = .ok (.invokevirtual 373, 3) := dk_182 1 117 (dk_at dksX1_renderTrain_0 15 rfl rfl)
theorem dX1_renderTrain_18 : decode cX1_renderTrain 18 = .ok (.aload_n 0, 1) := dk_42 (dk_at dksX1_renderTrain_0 18 rfl rfl)
theorem dX1_renderTrain_19 : decode cX1_renderTrain 19 = .ok (.iload_n 1, 1) := dk_27 (dk_at dksX1_renderTrain_0 19 rfl rfl)
theorem dX1_renderTrain_20 : decode cX1_renderTrain 20 = .ok (.invokevirtual 150, 3) := dk_182 0 150 (dk_at dksX1_renderTrain_0 20 rfl rfl)
theorem dX1_renderTrain_23 : decode cX1_renderTrain 23 = .ok (.invokevirtual 376, 3) := dk_182 1 120 (dk_at dksX1_renderTrain_1 0 rfl rfl)
theorem dX1_renderTrain_26 : decode cX1_renderTrain 26 = .ok (.invokevirtual 373, 3) := dk_182 1 117 (dk_at dksX1_renderTrain_1 3 rfl rfl)
theorem dX1_renderTrain_29 : decode cX1_renderTrain 29 = .ok (.invokevirtual 380, 3) := dk_182 1 124 (dk_at dksX1_renderTrain_1 6 rfl rfl)
theorem dX1_renderTrain_32 : decode cX1_renderTrain 32 = .ok (.invokevirtual 381, 3) := dk_182 1 125 (dk_at dksX1_renderTrain_1 9 rfl rfl)
theorem dX1_renderTrain_35 : decode cX1_renderTrain 35 = .ok (.ireturn, 1) := dk_172 (dk_at dksX1_renderTrain_1 12 rfl rfl)
abbrev cX1_write : ByteArray := prog_1_method_64_code
def yX1_write : MethodName := ⟨RX1, "write", "(Ljava/lang/String;)I"⟩
def dkwX1_write_0 : List UInt8 := [42, 43, 181, 0, 37, 42, 180, 0, 37, 182, 1, 106, 172]
abbrev dktX1_write_0 : List UInt8 := dkwX1_write_0 ++ []
theorem dksX1_write_0 : cX1_write.data.toList.drop 0 = dktX1_write_0 := by decide +kernel
theorem dX1_write_0 : decode cX1_write 0 = .ok (.aload_n 0, 1) := dk_42 (dk_at dksX1_write_0 0 rfl rfl)
theorem dX1_write_1 : decode cX1_write 1 = .ok (.aload_n 1, 1) := dk_43 (dk_at dksX1_write_0 1 rfl rfl)
theorem dX1_write_2 : decode cX1_write 2 = .ok (.putfield 37, 3) := dk_181 0 37 (dk_at dksX1_write_0 2 rfl rfl)
theorem dX1_write_5 : decode cX1_write 5 = .ok (.aload_n 0, 1) := dk_42 (dk_at dksX1_write_0 5 rfl rfl)
theorem dX1_write_6 : decode cX1_write 6 = .ok (.getfield 37, 3) := dk_180 0 37 (dk_at dksX1_write_0 6 rfl rfl)
theorem dX1_write_9 : decode cX1_write 9 = .ok (.invokevirtual 362, 3) := dk_182 1 106 (dk_at dksX1_write_0 9 rfl rfl)
theorem dX1_write_12 : decode cX1_write 12 = .ok (.ireturn, 1) := dk_172 (dk_at dksX1_write_0 12 rfl rfl)
abbrev cX1_renderSuitcase : ByteArray := prog_1_method_66_code
def yX1_renderSuitcase : MethodName := ⟨RX1, "renderSuitcase", "(I)I"⟩
def dkwX1_renderSuitcase_0 : List UInt8 := [42, 42, 27, 182, 1, 28, 182, 1, 129, 182, 1, 125, 172]
abbrev dktX1_renderSuitcase_0 : List UInt8 := dkwX1_renderSuitcase_0 ++ []
theorem dksX1_renderSuitcase_0 : cX1_renderSuitcase.data.toList.drop 0 = dktX1_renderSuitcase_0 := by decide +kernel
theorem dX1_renderSuitcase_0 : decode cX1_renderSuitcase 0 = .ok (.aload_n 0, 1) := dk_42 (dk_at dksX1_renderSuitcase_0 0 rfl rfl)
theorem dX1_renderSuitcase_1 : decode cX1_renderSuitcase 1 = .ok (.aload_n 0, 1) := dk_42 (dk_at dksX1_renderSuitcase_0 1 rfl rfl)
theorem dX1_renderSuitcase_2 : decode cX1_renderSuitcase 2 = .ok (.iload_n 1, 1) := dk_27 (dk_at dksX1_renderSuitcase_0 2 rfl rfl)
theorem dX1_renderSuitcase_3 : decode cX1_renderSuitcase 3 = .ok (.invokevirtual 284, 3) := dk_182 1 28 (dk_at dksX1_renderSuitcase_0 3 rfl rfl)
theorem dX1_renderSuitcase_6 : decode cX1_renderSuitcase 6 = .ok (.invokevirtual 385, 3) := dk_182 1 129 (dk_at dksX1_renderSuitcase_0 6 rfl rfl)
theorem dX1_renderSuitcase_9 : decode cX1_renderSuitcase 9 = .ok (.invokevirtual 381, 3) := dk_182 1 125 (dk_at dksX1_renderSuitcase_0 9 rfl rfl)
theorem dX1_renderSuitcase_12 : decode cX1_renderSuitcase 12 = .ok (.ireturn, 1) := dk_172 (dk_at dksX1_renderSuitcase_0 12 rfl rfl)
abbrev cX1_outputAt : ByteArray := prog_1_method_67_code
def yX1_outputAt : MethodName := ⟨RX1, "outputAt", "(I)C"⟩
def dkwX1_outputAt_1 : List UInt8 := [182, 1, 130, 172]
abbrev dktX1_outputAt_1 : List UInt8 := dkwX1_outputAt_1 ++ []
def dkwX1_outputAt_0 : List UInt8 := [27, 3, 42, 180, 0, 37, 182, 1, 106, 4, 100, 184, 0, 130, 184, 0, 127, 42, 180, 0, 37, 27]
abbrev dktX1_outputAt_0 : List UInt8 := dkwX1_outputAt_0 ++ dktX1_outputAt_1
theorem dksX1_outputAt_0 : cX1_outputAt.data.toList.drop 0 = dktX1_outputAt_0 := by decide +kernel
theorem dksX1_outputAt_1 : cX1_outputAt.data.toList.drop 22 = dktX1_outputAt_1 := dk_seg dksX1_outputAt_0 22 rfl rfl
theorem dX1_outputAt_0 : decode cX1_outputAt 0 = .ok (.iload_n 1, 1) := dk_27 (dk_at dksX1_outputAt_0 0 rfl rfl)
theorem dX1_outputAt_1 : decode cX1_outputAt 1 = .ok (.iconst 0, 1) := dk_3 (dk_at dksX1_outputAt_0 1 rfl rfl)
theorem dX1_outputAt_2 : decode cX1_outputAt 2 = .ok (.aload_n 0, 1) := dk_42 (dk_at dksX1_outputAt_0 2 rfl rfl)
theorem dX1_outputAt_3 : decode cX1_outputAt 3 = .ok (.getfield 37, 3) := dk_180 0 37 (dk_at dksX1_outputAt_0 3 rfl rfl)
theorem dX1_outputAt_6 : decode cX1_outputAt 6 = .ok (.invokevirtual 362, 3) := dk_182 1 106 (dk_at dksX1_outputAt_0 6 rfl rfl)
theorem dX1_outputAt_9 : decode cX1_outputAt 9 = .ok (.iconst 1, 1) := dk_4 (dk_at dksX1_outputAt_0 9 rfl rfl)
theorem dX1_outputAt_10 : decode cX1_outputAt 10 = .ok (.isub, 1) := dk_100 (dk_at dksX1_outputAt_0 10 rfl rfl)
theorem dX1_outputAt_11 : decode cX1_outputAt 11 = .ok (.invokestatic 130, 3) := dk_184 0 130 (dk_at dksX1_outputAt_0 11 rfl rfl)
theorem dX1_outputAt_14 : decode cX1_outputAt 14 = .ok (.invokestatic 127, 3) := dk_184 0 127 (dk_at dksX1_outputAt_0 14 rfl rfl)
theorem dX1_outputAt_17 : decode cX1_outputAt 17 = .ok (.aload_n 0, 1) := dk_42 (dk_at dksX1_outputAt_0 17 rfl rfl)
theorem dX1_outputAt_18 : decode cX1_outputAt 18 = .ok (.getfield 37, 3) := dk_180 0 37 (dk_at dksX1_outputAt_0 18 rfl rfl)
theorem dX1_outputAt_21 : decode cX1_outputAt 21 = .ok (.iload_n 1, 1) := dk_27 (dk_at dksX1_outputAt_0 21 rfl rfl)
theorem dX1_outputAt_22 : decode cX1_outputAt 22 = .ok (.invokevirtual 386, 3) := dk_182 1 130 (dk_at dksX1_outputAt_1 0 rfl rfl)
theorem dX1_outputAt_25 : decode cX1_outputAt 25 = .ok (.ireturn, 1) := dk_172 (dk_at dksX1_outputAt_1 3 rfl rfl)
abbrev cX1_type : ByteArray := prog_1_method_68_code
def yX1_type : MethodName := ⟨RX1, "type", "(C)I"⟩
def dkwX1_type_1 : List UInt8 := [167, 0, 4, 3, 184, 1, 135, 42, 180, 0, 24, 27, 182, 1, 138, 87, 42, 180, 0, 24, 182, 1, 134, 172]
abbrev dktX1_type_1 : List UInt8 := dkwX1_type_1 ++ []
def dkwX1_type_0 : List UInt8 := [27, 16, 32, 16, 126, 184, 0, 130, 184, 0, 134, 42, 180, 0, 24, 182, 1, 134, 16, 60, 162, 0, 7, 4]
abbrev dktX1_type_0 : List UInt8 := dkwX1_type_0 ++ dktX1_type_1
theorem dksX1_type_0 : cX1_type.data.toList.drop 0 = dktX1_type_0 := by decide +kernel
theorem dksX1_type_1 : cX1_type.data.toList.drop 24 = dktX1_type_1 := dk_seg dksX1_type_0 24 rfl rfl
theorem dX1_type_0 : decode cX1_type 0 = .ok (.iload_n 1, 1) := dk_27 (dk_at dksX1_type_0 0 rfl rfl)
theorem dX1_type_1 : decode cX1_type 1 = .ok (.bipush 32, 2) := dk_16 32 (dk_at dksX1_type_0 1 rfl rfl)
theorem dX1_type_3 : decode cX1_type 3 = .ok (.bipush 126, 2) := dk_16 126 (dk_at dksX1_type_0 3 rfl rfl)
theorem dX1_type_5 : decode cX1_type 5 = .ok (.invokestatic 130, 3) := dk_184 0 130 (dk_at dksX1_type_0 5 rfl rfl)
theorem dX1_type_8 : decode cX1_type 8 = .ok (.invokestatic 134, 3) := dk_184 0 134 (dk_at dksX1_type_0 8 rfl rfl)
theorem dX1_type_11 : decode cX1_type 11 = .ok (.aload_n 0, 1) := dk_42 (dk_at dksX1_type_0 11 rfl rfl)
theorem dX1_type_12 : decode cX1_type 12 = .ok (.getfield 24, 3) := dk_180 0 24 (dk_at dksX1_type_0 12 rfl rfl)
theorem dX1_type_15 : decode cX1_type 15 = .ok (.invokevirtual 390, 3) := dk_182 1 134 (dk_at dksX1_type_0 15 rfl rfl)
theorem dX1_type_18 : decode cX1_type 18 = .ok (.bipush 60, 2) := dk_16 60 (dk_at dksX1_type_0 18 rfl rfl)
theorem dX1_type_20 : decode cX1_type 20 = .ok (.if_icmp .ge 7, 3) := dk_162 0 7 (dk_at dksX1_type_0 20 rfl rfl)
theorem dX1_type_23 : decode cX1_type 23 = .ok (.iconst 1, 1) := dk_4 (dk_at dksX1_type_0 23 rfl rfl)
theorem dX1_type_24 : decode cX1_type 24 = .ok (.goto 4, 3) := dk_167 0 4 (dk_at dksX1_type_1 0 rfl rfl)
theorem dX1_type_27 : decode cX1_type 27 = .ok (.iconst 0, 1) := dk_3 (dk_at dksX1_type_1 3 rfl rfl)
theorem dX1_type_28 : decode cX1_type 28 = .ok (.invokestatic 391, 3) := dk_184 1 135 (dk_at dksX1_type_1 4 rfl rfl)
theorem dX1_type_31 : decode cX1_type 31 = .ok (.aload_n 0, 1) := dk_42 (dk_at dksX1_type_1 7 rfl rfl)
theorem dX1_type_32 : decode cX1_type 32 = .ok (.getfield 24, 3) := dk_180 0 24 (dk_at dksX1_type_1 8 rfl rfl)
theorem dX1_type_35 : decode cX1_type 35 = .ok (.iload_n 1, 1) := dk_27 (dk_at dksX1_type_1 11 rfl rfl)
theorem dX1_type_36 : decode cX1_type 36 = .ok (.invokevirtual 394, 3) := dk_182 1 138 (dk_at dksX1_type_1 12 rfl rfl)
theorem dX1_type_39 : decode cX1_type 39 = .ok (.pop, 1) := dk_87 (dk_at dksX1_type_1 15 rfl rfl)
theorem dX1_type_40 : decode cX1_type 40 = .ok (.aload_n 0, 1) := dk_42 (dk_at dksX1_type_1 16 rfl rfl)
theorem dX1_type_41 : decode cX1_type 41 = .ok (.getfield 24, 3) := dk_180 0 24 (dk_at dksX1_type_1 17 rfl rfl)
theorem dX1_type_44 : decode cX1_type 44 = .ok (.invokevirtual 390, 3) := dk_182 1 134 (dk_at dksX1_type_1 20 rfl rfl)
theorem dX1_type_47 : decode cX1_type 47 = .ok (.ireturn, 1) := dk_172 (dk_at dksX1_type_1 23 rfl rfl)
abbrev cX1_checkState : ByteArray := prog_1_method_19_code
def yX1_checkState : MethodName := ⟨RX1, "checkState", "(Z)V"⟩
def dkwX1_checkState_0 : List UInt8 := [26, 154, 0, 11, 187, 0, 116, 89, 183, 0, 118, 191, 177]
abbrev dktX1_checkState_0 : List UInt8 := dkwX1_checkState_0 ++ []
theorem dksX1_checkState_0 : cX1_checkState.data.toList.drop 0 = dktX1_checkState_0 := by decide +kernel
theorem dX1_checkState_0 : decode cX1_checkState 0 = .ok (.iload_n 0, 1) := dk_26 (dk_at dksX1_checkState_0 0 rfl rfl)
theorem dX1_checkState_1 : decode cX1_checkState 1 = .ok (.ifCond .ne 11, 3) := dk_154 0 11 (dk_at dksX1_checkState_0 1 rfl rfl)
theorem dX1_checkState_4 : decode cX1_checkState 4 = .ok (.new 116, 3) := dk_187 0 116 (dk_at dksX1_checkState_0 4 rfl rfl)
theorem dX1_checkState_7 : decode cX1_checkState 7 = .ok (.dup, 1) := dk_89 (dk_at dksX1_checkState_0 7 rfl rfl)
theorem dX1_checkState_8 : decode cX1_checkState 8 = .ok (.invokespecial 118, 3) := dk_183 0 118 (dk_at dksX1_checkState_0 8 rfl rfl)
theorem dX1_checkState_11 : decode cX1_checkState 11 = .ok (.athrow, 1) := dk_191 (dk_at dksX1_checkState_0 11 rfl rfl)
theorem dX1_checkState_12 : decode cX1_checkState 12 = .ok (.return_, 1) := dk_177 (dk_at dksX1_checkState_0 12 rfl rfl)
abbrev cX1_runScript : ByteArray := prog_1_method_70_code
def yX1_runScript : MethodName := ⟨RX1, "runScript", "()I"⟩
def dkwX1_runScript_2 : List UInt8 := [77, 42, 44, 182, 1, 166, 181, 0, 32, 44, 182, 1, 169, 191]
abbrev dktX1_runScript_2 : List UInt8 := dkwX1_runScript_2 ++ []
def dkwX1_runScript_1 : List UInt8 := [183, 1, 151, 182, 1, 152, 182, 1, 156, 172, 77, 42, 44, 182, 1, 162, 181, 0, 28, 44, 182, 1, 165, 191]
abbrev dktX1_runScript_1 : List UInt8 := dkwX1_runScript_1 ++ dktX1_runScript_2
def dkwX1_runScript_0 : List UInt8 := [42, 180, 0, 24, 182, 1, 124, 76, 42, 180, 0, 24, 3, 182, 1, 146, 42, 187, 1, 149, 89, 43]
abbrev dktX1_runScript_0 : List UInt8 := dkwX1_runScript_0 ++ dktX1_runScript_1
theorem dksX1_runScript_0 : cX1_runScript.data.toList.drop 0 = dktX1_runScript_0 := by decide +kernel
theorem dksX1_runScript_1 : cX1_runScript.data.toList.drop 22 = dktX1_runScript_1 := dk_seg dksX1_runScript_0 22 rfl rfl
theorem dksX1_runScript_2 : cX1_runScript.data.toList.drop 46 = dktX1_runScript_2 := dk_seg dksX1_runScript_1 24 rfl rfl
theorem dX1_runScript_0 : decode cX1_runScript 0 = .ok (.aload_n 0, 1) := dk_42 (dk_at dksX1_runScript_0 0 rfl rfl)
theorem dX1_runScript_1 : decode cX1_runScript 1 = .ok (.getfield 24, 3) := dk_180 0 24 (dk_at dksX1_runScript_0 1 rfl rfl)
theorem dX1_runScript_4 : decode cX1_runScript 4 = .ok (.invokevirtual 380, 3) := dk_182 1 124 (dk_at dksX1_runScript_0 4 rfl rfl)
theorem dX1_runScript_7 : decode cX1_runScript 7 = .ok (.astore_n 1, 1) := dk_76 (dk_at dksX1_runScript_0 7 rfl rfl)
theorem dX1_runScript_8 : decode cX1_runScript 8 = .ok (.aload_n 0, 1) := dk_42 (dk_at dksX1_runScript_0 8 rfl rfl)
theorem dX1_runScript_9 : decode cX1_runScript 9 = .ok (.getfield 24, 3) := dk_180 0 24 (dk_at dksX1_runScript_0 9 rfl rfl)
theorem dX1_runScript_12 : decode cX1_runScript 12 = .ok (.iconst 0, 1) := dk_3 (dk_at dksX1_runScript_0 12 rfl rfl)
theorem dX1_runScript_13 : decode cX1_runScript 13 = .ok (.invokevirtual 402, 3) := dk_182 1 146 (dk_at dksX1_runScript_0 13 rfl rfl)
theorem dX1_runScript_16 : decode cX1_runScript 16 = .ok (.aload_n 0, 1) := dk_42 (dk_at dksX1_runScript_0 16 rfl rfl)
theorem dX1_runScript_17 : decode cX1_runScript 17 = .ok (.new 405, 3) := dk_187 1 149 (dk_at dksX1_runScript_0 17 rfl rfl)
theorem dX1_runScript_20 : decode cX1_runScript 20 = .ok (.dup, 1) := dk_89 (dk_at dksX1_runScript_0 20 rfl rfl)
theorem dX1_runScript_21 : decode cX1_runScript 21 = .ok (.aload_n 1, 1) := dk_43 (dk_at dksX1_runScript_0 21 rfl rfl)
theorem dX1_runScript_22 : decode cX1_runScript 22 = .ok (.invokespecial 407, 3) := dk_183 1 151 (dk_at dksX1_runScript_1 0 rfl rfl)
theorem dX1_runScript_25 : decode cX1_runScript 25 = .ok (.invokevirtual 408, 3) := dk_182 1 152 (dk_at dksX1_runScript_1 3 rfl rfl)
theorem dX1_runScript_28 : decode cX1_runScript 28 = .ok (.invokevirtual 412, 3) := dk_182 1 156 (dk_at dksX1_runScript_1 6 rfl rfl)
theorem dX1_runScript_31 : decode cX1_runScript 31 = .ok (.ireturn, 1) := dk_172 (dk_at dksX1_runScript_1 9 rfl rfl)
theorem dX1_runScript_32 : decode cX1_runScript 32 = .ok (.astore_n 2, 1) := dk_77 (dk_at dksX1_runScript_1 10 rfl rfl)
theorem dX1_runScript_33 : decode cX1_runScript 33 = .ok (.aload_n 0, 1) := dk_42 (dk_at dksX1_runScript_1 11 rfl rfl)
theorem dX1_runScript_34 : decode cX1_runScript 34 = .ok (.aload_n 2, 1) := dk_44 (dk_at dksX1_runScript_1 12 rfl rfl)
theorem dX1_runScript_35 : decode cX1_runScript 35 = .ok (.invokevirtual 418, 3) := dk_182 1 162 (dk_at dksX1_runScript_1 13 rfl rfl)
theorem dX1_runScript_38 : decode cX1_runScript 38 = .ok (.putfield 28, 3) := dk_181 0 28 (dk_at dksX1_runScript_1 16 rfl rfl)
theorem dX1_runScript_41 : decode cX1_runScript 41 = .ok (.aload_n 2, 1) := dk_44 (dk_at dksX1_runScript_1 19 rfl rfl)
theorem dX1_runScript_42 : decode cX1_runScript 42 = .ok (.invokevirtual 421, 3) := dk_182 1 165 (dk_at dksX1_runScript_1 20 rfl rfl)
theorem dX1_runScript_45 : decode cX1_runScript 45 = .ok (.athrow, 1) := dk_191 (dk_at dksX1_runScript_1 23 rfl rfl)
theorem dX1_runScript_46 : decode cX1_runScript 46 = .ok (.astore_n 2, 1) := dk_77 (dk_at dksX1_runScript_2 0 rfl rfl)
theorem dX1_runScript_47 : decode cX1_runScript 47 = .ok (.aload_n 0, 1) := dk_42 (dk_at dksX1_runScript_2 1 rfl rfl)
theorem dX1_runScript_48 : decode cX1_runScript 48 = .ok (.aload_n 2, 1) := dk_44 (dk_at dksX1_runScript_2 2 rfl rfl)
theorem dX1_runScript_49 : decode cX1_runScript 49 = .ok (.invokevirtual 422, 3) := dk_182 1 166 (dk_at dksX1_runScript_2 3 rfl rfl)
theorem dX1_runScript_52 : decode cX1_runScript 52 = .ok (.putfield 32, 3) := dk_181 0 32 (dk_at dksX1_runScript_2 6 rfl rfl)
theorem dX1_runScript_55 : decode cX1_runScript 55 = .ok (.aload_n 2, 1) := dk_44 (dk_at dksX1_runScript_2 9 rfl rfl)
theorem dX1_runScript_56 : decode cX1_runScript 56 = .ok (.invokevirtual 425, 3) := dk_182 1 169 (dk_at dksX1_runScript_2 10 rfl rfl)
theorem dX1_runScript_59 : decode cX1_runScript 59 = .ok (.athrow, 1) := dk_191 (dk_at dksX1_runScript_2 13 rfl rfl)
abbrev cX1_execute : ByteArray := prog_1_method_69_code
def yX1_execute : MethodName := ⟨RX1, "execute", "(Ljava/util/List;)I"⟩
def dkwX1_execute_2 : List UInt8 := [25, 4, 183, 1, 143, 191, 132, 3, 1, 167, 255, 212, 42, 44, 43, 185, 0, 165, 1, 0, 182, 0, 73, 172]
abbrev dktX1_execute_2 : List UInt8 := dkwX1_execute_2 ++ []
def dkwX1_execute_1 : List UInt8 := [185, 0, 172, 2, 0, 192, 0, 64, 44, 182, 0, 69, 87, 167, 0, 16, 58, 4, 187, 1, 141, 89, 29]
abbrev dktX1_execute_1 : List UInt8 := dkwX1_execute_1 ++ dktX1_execute_2
def dkwX1_execute_0 : List UInt8 := [42, 180, 0, 44, 182, 0, 60, 77, 3, 62, 29, 43, 185, 0, 165, 1, 0, 162, 0, 40, 43, 29]
abbrev dktX1_execute_0 : List UInt8 := dkwX1_execute_0 ++ dktX1_execute_1
theorem dksX1_execute_0 : cX1_execute.data.toList.drop 0 = dktX1_execute_0 := by decide +kernel
theorem dksX1_execute_1 : cX1_execute.data.toList.drop 22 = dktX1_execute_1 := dk_seg dksX1_execute_0 22 rfl rfl
theorem dksX1_execute_2 : cX1_execute.data.toList.drop 45 = dktX1_execute_2 := dk_seg dksX1_execute_1 23 rfl rfl
theorem dX1_execute_0 : decode cX1_execute 0 = .ok (.aload_n 0, 1) := dk_42 (dk_at dksX1_execute_0 0 rfl rfl)
theorem dX1_execute_1 : decode cX1_execute 1 = .ok (.getfield 44, 3) := dk_180 0 44 (dk_at dksX1_execute_0 1 rfl rfl)
theorem dX1_execute_4 : decode cX1_execute 4 = .ok (.invokevirtual 60, 3) := dk_182 0 60 (dk_at dksX1_execute_0 4 rfl rfl)
theorem dX1_execute_7 : decode cX1_execute 7 = .ok (.astore_n 2, 1) := dk_77 (dk_at dksX1_execute_0 7 rfl rfl)
theorem dX1_execute_8 : decode cX1_execute 8 = .ok (.iconst 0, 1) := dk_3 (dk_at dksX1_execute_0 8 rfl rfl)
theorem dX1_execute_9 : decode cX1_execute 9 = .ok (.istore_n 3, 1) := dk_62 (dk_at dksX1_execute_0 9 rfl rfl)
theorem dX1_execute_10 : decode cX1_execute 10 = .ok (.iload_n 3, 1) := dk_29 (dk_at dksX1_execute_0 10 rfl rfl)
theorem dX1_execute_11 : decode cX1_execute 11 = .ok (.aload_n 1, 1) := dk_43 (dk_at dksX1_execute_0 11 rfl rfl)
theorem dX1_execute_12 : decode cX1_execute 12 = .ok (.invokeinterface 165 1, 5) := by decide +kernel
theorem dX1_execute_17 : decode cX1_execute 17 = .ok (.if_icmp .ge 40, 3) := dk_162 0 40 (dk_at dksX1_execute_0 17 rfl rfl)
theorem dX1_execute_20 : decode cX1_execute 20 = .ok (.aload_n 1, 1) := dk_43 (dk_at dksX1_execute_0 20 rfl rfl)
theorem dX1_execute_21 : decode cX1_execute 21 = .ok (.iload_n 3, 1) := dk_29 (dk_at dksX1_execute_0 21 rfl rfl)
theorem dX1_execute_22 : decode cX1_execute 22 = .ok (.invokeinterface 172 2, 5) := by decide +kernel
theorem dX1_execute_27 : decode cX1_execute 27 = .ok (.checkcast 64, 3) := dk_192 0 64 (dk_at dksX1_execute_1 5 rfl rfl)
theorem dX1_execute_30 : decode cX1_execute 30 = .ok (.aload_n 2, 1) := dk_44 (dk_at dksX1_execute_1 8 rfl rfl)
theorem dX1_execute_31 : decode cX1_execute 31 = .ok (.invokevirtual 69, 3) := dk_182 0 69 (dk_at dksX1_execute_1 9 rfl rfl)
theorem dX1_execute_34 : decode cX1_execute 34 = .ok (.pop, 1) := dk_87 (dk_at dksX1_execute_1 12 rfl rfl)
theorem dX1_execute_35 : decode cX1_execute 35 = .ok (.goto 16, 3) := dk_167 0 16 (dk_at dksX1_execute_1 13 rfl rfl)
theorem dX1_execute_38 : decode cX1_execute 38 = .ok (.astore 4, 2) := dk_58 4 (dk_at dksX1_execute_1 16 rfl rfl)
theorem dX1_execute_40 : decode cX1_execute 40 = .ok (.new 397, 3) := dk_187 1 141 (dk_at dksX1_execute_1 18 rfl rfl)
theorem dX1_execute_43 : decode cX1_execute 43 = .ok (.dup, 1) := dk_89 (dk_at dksX1_execute_1 21 rfl rfl)
theorem dX1_execute_44 : decode cX1_execute 44 = .ok (.iload_n 3, 1) := dk_29 (dk_at dksX1_execute_1 22 rfl rfl)
theorem dX1_execute_45 : decode cX1_execute 45 = .ok (.aload 4, 2) := dk_25 4 (dk_at dksX1_execute_2 0 rfl rfl)
theorem dX1_execute_47 : decode cX1_execute 47 = .ok (.invokespecial 399, 3) := dk_183 1 143 (dk_at dksX1_execute_2 2 rfl rfl)
theorem dX1_execute_50 : decode cX1_execute 50 = .ok (.athrow, 1) := dk_191 (dk_at dksX1_execute_2 5 rfl rfl)
theorem dX1_execute_51 : decode cX1_execute 51 = .ok (.iinc 3 1, 3) := dk_132 3 1 (dk_at dksX1_execute_2 6 rfl rfl)
theorem dX1_execute_54 : decode cX1_execute 54 = .ok (.goto (-44), 3) := dk_167 255 212 (dk_at dksX1_execute_2 9 rfl rfl)
theorem dX1_execute_57 : decode cX1_execute 57 = .ok (.aload_n 0, 1) := dk_42 (dk_at dksX1_execute_2 12 rfl rfl)
theorem dX1_execute_58 : decode cX1_execute 58 = .ok (.aload_n 2, 1) := dk_44 (dk_at dksX1_execute_2 13 rfl rfl)
theorem dX1_execute_59 : decode cX1_execute 59 = .ok (.aload_n 1, 1) := dk_43 (dk_at dksX1_execute_2 14 rfl rfl)
theorem dX1_execute_60 : decode cX1_execute 60 = .ok (.invokeinterface 165 1, 5) := by decide +kernel
theorem dX1_execute_65 : decode cX1_execute 65 = .ok (.invokevirtual 73, 3) := dk_182 0 73 (dk_at dksX1_execute_2 20 rfl rfl)
theorem dX1_execute_68 : decode cX1_execute 68 = .ok (.ireturn, 1) := dk_172 (dk_at dksX1_execute_2 23 rfl rfl)
abbrev cX1_errorPosition : ByteArray := prog_1_method_71_code
def yX1_errorPosition : MethodName := ⟨RX1, "errorPosition", "()I"⟩
def dkwX1_errorPosition_0 : List UInt8 := [42, 180, 0, 28, 184, 0, 187, 172]
abbrev dktX1_errorPosition_0 : List UInt8 := dkwX1_errorPosition_0 ++ []
theorem dksX1_errorPosition_0 : cX1_errorPosition.data.toList.drop 0 = dktX1_errorPosition_0 := by decide +kernel
theorem dX1_errorPosition_0 : decode cX1_errorPosition 0 = .ok (.aload_n 0, 1) := dk_42 (dk_at dksX1_errorPosition_0 0 rfl rfl)
theorem dX1_errorPosition_1 : decode cX1_errorPosition 1 = .ok (.getfield 28, 3) := dk_180 0 28 (dk_at dksX1_errorPosition_0 1 rfl rfl)
theorem dX1_errorPosition_4 : decode cX1_errorPosition 4 = .ok (.invokestatic 187, 3) := dk_184 0 187 (dk_at dksX1_errorPosition_0 4 rfl rfl)
theorem dX1_errorPosition_7 : decode cX1_errorPosition 7 = .ok (.ireturn, 1) := dk_172 (dk_at dksX1_errorPosition_0 7 rfl rfl)
abbrev cX1_failedCommand : ByteArray := prog_1_method_72_code
def yX1_failedCommand : MethodName := ⟨RX1, "failedCommand", "()I"⟩
def dkwX1_failedCommand_0 : List UInt8 := [42, 180, 0, 32, 184, 0, 187, 172]
abbrev dktX1_failedCommand_0 : List UInt8 := dkwX1_failedCommand_0 ++ []
theorem dksX1_failedCommand_0 : cX1_failedCommand.data.toList.drop 0 = dktX1_failedCommand_0 := by decide +kernel
theorem dX1_failedCommand_0 : decode cX1_failedCommand 0 = .ok (.aload_n 0, 1) := dk_42 (dk_at dksX1_failedCommand_0 0 rfl rfl)
theorem dX1_failedCommand_1 : decode cX1_failedCommand 1 = .ok (.getfield 32, 3) := dk_180 0 32 (dk_at dksX1_failedCommand_0 1 rfl rfl)
theorem dX1_failedCommand_4 : decode cX1_failedCommand 4 = .ok (.invokestatic 187, 3) := dk_184 0 187 (dk_at dksX1_failedCommand_0 4 rfl rfl)
theorem dX1_failedCommand_7 : decode cX1_failedCommand 7 = .ok (.ireturn, 1) := dk_172 (dk_at dksX1_failedCommand_0 7 rfl rfl)
abbrev cX1_undo : ByteArray := prog_1_method_73_code
def yX1_undo : MethodName := ⟨RX1, "undo", "()I"⟩
def dkwX1_undo_1 : List UInt8 := [182, 1, 173, 192, 0, 41, 181, 0, 44, 42, 180, 0, 15, 182, 0, 48, 172]
abbrev dktX1_undo_1 : List UInt8 := dkwX1_undo_1 ++ []
def dkwX1_undo_0 : List UInt8 := [42, 180, 0, 15, 182, 1, 170, 154, 0, 7, 4, 167, 0, 4, 3, 184, 0, 119, 42, 42, 180, 0, 15]
abbrev dktX1_undo_0 : List UInt8 := dkwX1_undo_0 ++ dktX1_undo_1
theorem dksX1_undo_0 : cX1_undo.data.toList.drop 0 = dktX1_undo_0 := by decide +kernel
theorem dksX1_undo_1 : cX1_undo.data.toList.drop 23 = dktX1_undo_1 := dk_seg dksX1_undo_0 23 rfl rfl
theorem dX1_undo_0 : decode cX1_undo 0 = .ok (.aload_n 0, 1) := dk_42 (dk_at dksX1_undo_0 0 rfl rfl)
theorem dX1_undo_1 : decode cX1_undo 1 = .ok (.getfield 15, 3) := dk_180 0 15 (dk_at dksX1_undo_0 1 rfl rfl)
theorem dX1_undo_4 : decode cX1_undo 4 = .ok (.invokevirtual 426, 3) := dk_182 1 170 (dk_at dksX1_undo_0 4 rfl rfl)
theorem dX1_undo_7 : decode cX1_undo 7 = .ok (.ifCond .ne 7, 3) := dk_154 0 7 (dk_at dksX1_undo_0 7 rfl rfl)
theorem dX1_undo_10 : decode cX1_undo 10 = .ok (.iconst 1, 1) := dk_4 (dk_at dksX1_undo_0 10 rfl rfl)
theorem dX1_undo_11 : decode cX1_undo 11 = .ok (.goto 4, 3) := dk_167 0 4 (dk_at dksX1_undo_0 11 rfl rfl)
theorem dX1_undo_14 : decode cX1_undo 14 = .ok (.iconst 0, 1) := dk_3 (dk_at dksX1_undo_0 14 rfl rfl)
theorem dX1_undo_15 : decode cX1_undo 15 = .ok (.invokestatic 119, 3) := dk_184 0 119 (dk_at dksX1_undo_0 15 rfl rfl)
theorem dX1_undo_18 : decode cX1_undo 18 = .ok (.aload_n 0, 1) := dk_42 (dk_at dksX1_undo_0 18 rfl rfl)
theorem dX1_undo_19 : decode cX1_undo 19 = .ok (.aload_n 0, 1) := dk_42 (dk_at dksX1_undo_0 19 rfl rfl)
theorem dX1_undo_20 : decode cX1_undo 20 = .ok (.getfield 15, 3) := dk_180 0 15 (dk_at dksX1_undo_0 20 rfl rfl)
theorem dX1_undo_23 : decode cX1_undo 23 = .ok (.invokevirtual 429, 3) := dk_182 1 173 (dk_at dksX1_undo_1 0 rfl rfl)
theorem dX1_undo_26 : decode cX1_undo 26 = .ok (.checkcast 41, 3) := dk_192 0 41 (dk_at dksX1_undo_1 3 rfl rfl)
theorem dX1_undo_29 : decode cX1_undo 29 = .ok (.putfield 44, 3) := dk_181 0 44 (dk_at dksX1_undo_1 6 rfl rfl)
theorem dX1_undo_32 : decode cX1_undo 32 = .ok (.aload_n 0, 1) := dk_42 (dk_at dksX1_undo_1 9 rfl rfl)
theorem dX1_undo_33 : decode cX1_undo 33 = .ok (.getfield 15, 3) := dk_180 0 15 (dk_at dksX1_undo_1 10 rfl rfl)
theorem dX1_undo_36 : decode cX1_undo 36 = .ok (.invokevirtual 48, 3) := dk_182 0 48 (dk_at dksX1_undo_1 13 rfl rfl)
theorem dX1_undo_39 : decode cX1_undo 39 = .ok (.ireturn, 1) := dk_172 (dk_at dksX1_undo_1 16 rfl rfl)
abbrev cX1_restore : ByteArray := prog_1_method_75_code
def yX1_restore : MethodName := ⟨RX1, "restore", "()I"⟩
def dkwX1_restore_1 : List UInt8 := [180, 0, 15, 182, 1, 179, 42, 182, 1, 12, 172]
abbrev dktX1_restore_1 : List UInt8 := dkwX1_restore_1 ++ []
def dkwX1_restore_0 : List UInt8 := [42, 180, 1, 176, 198, 0, 7, 4, 167, 0, 4, 3, 184, 1, 135, 42, 42, 180, 1, 176, 181, 0, 44, 42]
abbrev dktX1_restore_0 : List UInt8 := dkwX1_restore_0 ++ dktX1_restore_1
theorem dksX1_restore_0 : cX1_restore.data.toList.drop 0 = dktX1_restore_0 := by decide +kernel
theorem dksX1_restore_1 : cX1_restore.data.toList.drop 24 = dktX1_restore_1 := dk_seg dksX1_restore_0 24 rfl rfl
theorem dX1_restore_0 : decode cX1_restore 0 = .ok (.aload_n 0, 1) := dk_42 (dk_at dksX1_restore_0 0 rfl rfl)
theorem dX1_restore_1 : decode cX1_restore 1 = .ok (.getfield 432, 3) := dk_180 1 176 (dk_at dksX1_restore_0 1 rfl rfl)
theorem dX1_restore_4 : decode cX1_restore 4 = .ok (.ifnull 7, 3) := dk_198 0 7 (dk_at dksX1_restore_0 4 rfl rfl)
theorem dX1_restore_7 : decode cX1_restore 7 = .ok (.iconst 1, 1) := dk_4 (dk_at dksX1_restore_0 7 rfl rfl)
theorem dX1_restore_8 : decode cX1_restore 8 = .ok (.goto 4, 3) := dk_167 0 4 (dk_at dksX1_restore_0 8 rfl rfl)
theorem dX1_restore_11 : decode cX1_restore 11 = .ok (.iconst 0, 1) := dk_3 (dk_at dksX1_restore_0 11 rfl rfl)
theorem dX1_restore_12 : decode cX1_restore 12 = .ok (.invokestatic 391, 3) := dk_184 1 135 (dk_at dksX1_restore_0 12 rfl rfl)
theorem dX1_restore_15 : decode cX1_restore 15 = .ok (.aload_n 0, 1) := dk_42 (dk_at dksX1_restore_0 15 rfl rfl)
theorem dX1_restore_16 : decode cX1_restore 16 = .ok (.aload_n 0, 1) := dk_42 (dk_at dksX1_restore_0 16 rfl rfl)
theorem dX1_restore_17 : decode cX1_restore 17 = .ok (.getfield 432, 3) := dk_180 1 176 (dk_at dksX1_restore_0 17 rfl rfl)
theorem dX1_restore_20 : decode cX1_restore 20 = .ok (.putfield 44, 3) := dk_181 0 44 (dk_at dksX1_restore_0 20 rfl rfl)
theorem dX1_restore_23 : decode cX1_restore 23 = .ok (.aload_n 0, 1) := dk_42 (dk_at dksX1_restore_0 23 rfl rfl)
theorem dX1_restore_24 : decode cX1_restore 24 = .ok (.getfield 15, 3) := dk_180 0 15 (dk_at dksX1_restore_1 0 rfl rfl)
theorem dX1_restore_27 : decode cX1_restore 27 = .ok (.invokevirtual 435, 3) := dk_182 1 179 (dk_at dksX1_restore_1 3 rfl rfl)
theorem dX1_restore_30 : decode cX1_restore 30 = .ok (.aload_n 0, 1) := dk_42 (dk_at dksX1_restore_1 6 rfl rfl)
theorem dX1_restore_31 : decode cX1_restore 31 = .ok (.invokevirtual 268, 3) := dk_182 1 12 (dk_at dksX1_restore_1 7 rfl rfl)
theorem dX1_restore_34 : decode cX1_restore 34 = .ok (.ireturn, 1) := dk_172 (dk_at dksX1_restore_1 10 rfl rfl)
theorem q101 : (Jvm.Cond.initialized "SleeperRailway") ∈ lw_all := lw_g (lw_at lw_m1 1 rfl) rfl
theorem q175 : (Jvm.Cond.instantiable "SleeperRailway" (7 : Nat)) ∈ lw_all := lw_g (lw_at lw_m1 75 rfl) rfl
theorem q177 : (Jvm.Cond.instanceMethod ({ cls := "SleeperRailway", name := "<init>", desc := "()V" } : Jvm.MethodName)) ∈ lw_all := lw_g (lw_at lw_m1 77 rfl) rfl
theorem q178 : (Jvm.Cond.code ({ cls := "SleeperRailway", name := "<init>", desc := "()V" } : Jvm.MethodName) prog_1_method_3_code (1 : Nat) (Option.none : Option Jvm.ClassFile.FieldType)) ∈ lw_all := lw_g (lw_at lw_m1 78 rfl) rfl
theorem q179 : (Jvm.Cond.methodLink "SleeperRailway" (7 : Nat) ({ cls := "java/lang/Object", name := "<init>", desc := "()V" } : Jvm.MethodName)) ∈ lw_all := lw_g (lw_at lw_m1 79 rfl) rfl
theorem q182 : (Jvm.Cond.classLink "SleeperRailway" (12 : Nat) "java/util/LinkedList") ∈ lw_all := lw_g (lw_at lw_m1 82 rfl) rfl
theorem q184 : (Jvm.Cond.methodLink "SleeperRailway" (14 : Nat) ({ cls := "java/util/LinkedList", name := "<init>", desc := "()V" } : Jvm.MethodName)) ∈ lw_all := lw_g (lw_at lw_m1 84 rfl) rfl
theorem q218 : (Jvm.Cond.classLink "SleeperRailway" (21 : Nat) "java/lang/StringBuilder") ∈ lw_all := lw_g (lw_at lw_m1 118 rfl) rfl
theorem q220 : (Jvm.Cond.methodLink "SleeperRailway" (23 : Nat) ({ cls := "java/lang/StringBuilder", name := "<init>", desc := "()V" } : Jvm.MethodName)) ∈ lw_all := lw_g (lw_at lw_m1 120 rfl) rfl
theorem q251 : (Jvm.Cond.stringRef "SleeperRailway" (35 : Nat) "") ∈ lw_tbl := lw_at lw_m1 151 rfl
theorem q252 : (Jvm.Cond.classLink "SleeperRailway" (41 : Nat) "SleeperRailway$Railway") ∈ lw_all := lw_g (lw_at lw_m1 152 rfl) rfl
theorem q254 : (Jvm.Cond.methodLinkNest "SleeperRailway" (43 : Nat) ({ cls := "SleeperRailway$Railway", name := "<init>", desc := "()V" } : Jvm.MethodName) "SleeperRailway") ∈ lw_tbl := lw_at lw_m1 154 rfl
theorem q327 : (Jvm.Cond.fieldLinkNest "SleeperRailway" (161 : Nat) "SleeperRailway$Railway" "transfers" "Ljava/util/List;" "SleeperRailway") ∈ lw_tbl := lw_at lw_m1 227 rfl
theorem q329 : (Jvm.Cond.fieldLinkNest "SleeperRailway" (137 : Nat) "SleeperRailway$Railway" "timetable" "LSleeperRailway$Timetable;" "SleeperRailway") ∈ lw_tbl := lw_at lw_m1 229 rfl
theorem q331 : (Jvm.Cond.fieldLinkNest "SleeperRailway" (248 : Nat) "SleeperRailway$Railway" "suitcases" "Ljava/util/TreeMap;" "SleeperRailway") ∈ lw_tbl := lw_at lw_m1 231 rfl
theorem q333 : (Jvm.Cond.fieldLinkNest "SleeperRailway" (303 : Nat) "SleeperRailway$Railway" "bookings" "Ljava/util/TreeMap;" "SleeperRailway") ∈ lw_tbl := lw_at lw_m1 233 rfl
theorem q337 : (Jvm.Cond.fieldLinkNest "SleeperRailway" (335 : Nat) "SleeperRailway$Railway" "coins" "I" "SleeperRailway") ∈ lw_tbl := lw_at lw_m1 237 rfl
theorem q339 : (Jvm.Cond.fieldLinkNest "SleeperRailway" (341 : Nat) "SleeperRailway$Railway" "collected" "I" "SleeperRailway") ∈ lw_tbl := lw_at lw_m1 239 rfl
theorem q357 : (Jvm.Cond.fieldLink "SleeperRailway" (44 : Nat) "SleeperRailway" "railway" "LSleeperRailway$Railway;") ∈ lw_all := lw_g (lw_at lw_m2 17 rfl) rfl
theorem q358 : (Jvm.Cond.fieldLink "SleeperRailway" (432 : Nat) "SleeperRailway" "snapshot" "LSleeperRailway$Railway;") ∈ lw_all := lw_g (lw_at lw_m2 18 rfl) rfl
theorem q359 : (Jvm.Cond.fieldLink "SleeperRailway" (15 : Nat) "SleeperRailway" "history" "Ljava/util/LinkedList;") ∈ lw_all := lw_g (lw_at lw_m2 19 rfl) rfl
theorem q360 : (Jvm.Cond.fieldLink "SleeperRailway" (24 : Nat) "SleeperRailway" "script" "Ljava/lang/StringBuilder;") ∈ lw_all := lw_g (lw_at lw_m2 20 rfl) rfl
theorem q361 : (Jvm.Cond.fieldLink "SleeperRailway" (28 : Nat) "SleeperRailway" "errorPosition" "I") ∈ lw_all := lw_g (lw_at lw_m2 21 rfl) rfl
theorem q362 : (Jvm.Cond.fieldLink "SleeperRailway" (32 : Nat) "SleeperRailway" "failedCommand" "I") ∈ lw_all := lw_g (lw_at lw_m2 22 rfl) rfl
theorem q363 : (Jvm.Cond.fieldLink "SleeperRailway" (37 : Nat) "SleeperRailway" "output" "Ljava/lang/String;") ∈ lw_all := lw_g (lw_at lw_m2 23 rfl) rfl
theorem q364 : (Jvm.Cond.lays "SleeperRailway" "SleeperRailway" "railway" "LSleeperRailway$Railway;") ∈ lw_all := lw_g (lw_at lw_m2 24 rfl) rfl
theorem q365 : (Jvm.Cond.soleField "SleeperRailway" "railway") ∈ lw_all := lw_g (lw_at lw_m2 25 rfl) rfl
theorem q366 : (Jvm.Cond.lays "SleeperRailway" "SleeperRailway" "snapshot" "LSleeperRailway$Railway;") ∈ lw_all := lw_g (lw_at lw_m2 26 rfl) rfl
theorem q367 : (Jvm.Cond.soleField "SleeperRailway" "snapshot") ∈ lw_all := lw_g (lw_at lw_m2 27 rfl) rfl
theorem q368 : (Jvm.Cond.laysFinal "SleeperRailway" "SleeperRailway" "history" "Ljava/util/LinkedList;") ∈ lw_all := lw_g (lw_at lw_m2 28 rfl) rfl
theorem q369 : (Jvm.Cond.soleField "SleeperRailway" "history") ∈ lw_all := lw_g (lw_at lw_m2 29 rfl) rfl
theorem q370 : (Jvm.Cond.laysFinal "SleeperRailway" "SleeperRailway" "script" "Ljava/lang/StringBuilder;") ∈ lw_all := lw_g (lw_at lw_m2 30 rfl) rfl
theorem q371 : (Jvm.Cond.soleField "SleeperRailway" "script") ∈ lw_all := lw_g (lw_at lw_m2 31 rfl) rfl
theorem q372 : (Jvm.Cond.lays "SleeperRailway" "SleeperRailway" "errorPosition" "I") ∈ lw_all := lw_g (lw_at lw_m2 32 rfl) rfl
theorem q373 : (Jvm.Cond.soleField "SleeperRailway" "errorPosition") ∈ lw_all := lw_g (lw_at lw_m2 33 rfl) rfl
theorem q374 : (Jvm.Cond.lays "SleeperRailway" "SleeperRailway" "failedCommand" "I") ∈ lw_all := lw_g (lw_at lw_m2 34 rfl) rfl
theorem q375 : (Jvm.Cond.soleField "SleeperRailway" "failedCommand") ∈ lw_all := lw_g (lw_at lw_m2 35 rfl) rfl
theorem q376 : (Jvm.Cond.lays "SleeperRailway" "SleeperRailway" "output" "Ljava/lang/String;") ∈ lw_all := lw_g (lw_at lw_m2 36 rfl) rfl
theorem q377 : (Jvm.Cond.soleField "SleeperRailway" "output") ∈ lw_all := lw_g (lw_at lw_m2 37 rfl) rfl
theorem q378 : (Jvm.Cond.superclass "SleeperRailway" "java/lang/Object") ∈ lw_all := lw_g (lw_at lw_m2 38 rfl) rfl
theorem q380 : (Jvm.Cond.instanceMethod ({ cls := "SleeperRailway", name := "stationCount", desc := "()I" } : Jvm.MethodName)) ∈ lw_all := lw_g (lw_at lw_m2 40 rfl) rfl
theorem q381 : (Jvm.Cond.selects "SleeperRailway" ({ cls := "SleeperRailway", name := "stationCount", desc := "()I" } : Jvm.MethodName) ({ cls := "SleeperRailway", name := "stationCount", desc := "()I" } : Jvm.MethodName)) ∈ lw_all := lw_g (lw_at lw_m2 41 rfl) rfl
theorem q382 : (Jvm.Cond.code ({ cls := "SleeperRailway", name := "stationCount", desc := "()I" } : Jvm.MethodName) prog_1_method_26_code (1 : Nat) (Option.some Jvm.ClassFile.FieldType.int)) ∈ lw_all := lw_g (lw_at lw_m2 42 rfl) rfl
theorem q383 : (Jvm.Cond.interfaceEntry "SleeperRailway" (165 : Nat)) ∈ lw_tbl := lw_at lw_m2 43 rfl
theorem q384 : (Jvm.Cond.methodLink "SleeperRailway" (165 : Nat) ({ cls := "java/util/List", name := "size", desc := "()I" } : Jvm.MethodName)) ∈ lw_all := lw_g (lw_at lw_m2 44 rfl) rfl
theorem q400 : (Jvm.Cond.instanceMethod ({ cls := "SleeperRailway", name := "trainCount", desc := "()I" } : Jvm.MethodName)) ∈ lw_all := lw_g (lw_at lw_m2 60 rfl) rfl
theorem q401 : (Jvm.Cond.selects "SleeperRailway" ({ cls := "SleeperRailway", name := "trainCount", desc := "()I" } : Jvm.MethodName) ({ cls := "SleeperRailway", name := "trainCount", desc := "()I" } : Jvm.MethodName)) ∈ lw_all := lw_g (lw_at lw_m2 61 rfl) rfl
theorem q402 : (Jvm.Cond.code ({ cls := "SleeperRailway", name := "trainCount", desc := "()I" } : Jvm.MethodName) prog_1_method_29_code (1 : Nat) (Option.some Jvm.ClassFile.FieldType.int)) ∈ lw_all := lw_g (lw_at lw_m2 62 rfl) rfl
theorem q403 : (Jvm.Cond.methodLink "SleeperRailway" (191 : Nat) ({ cls := "SleeperRailway$Timetable", name := "count", desc := "()I" } : Jvm.MethodName)) ∈ lw_all := lw_g (lw_at lw_m2 63 rfl) rfl
theorem q410 : (Jvm.Cond.instanceMethod ({ cls := "SleeperRailway", name := "suitcaseCount", desc := "()I" } : Jvm.MethodName)) ∈ lw_all := lw_g (lw_at lw_m2 70 rfl) rfl
theorem q411 : (Jvm.Cond.selects "SleeperRailway" ({ cls := "SleeperRailway", name := "suitcaseCount", desc := "()I" } : Jvm.MethodName) ({ cls := "SleeperRailway", name := "suitcaseCount", desc := "()I" } : Jvm.MethodName)) ∈ lw_all := lw_g (lw_at lw_m2 71 rfl) rfl
theorem q412 : (Jvm.Cond.code ({ cls := "SleeperRailway", name := "suitcaseCount", desc := "()I" } : Jvm.MethodName) prog_1_method_44_code (1 : Nat) (Option.some Jvm.ClassFile.FieldType.int)) ∈ lw_all := lw_g (lw_at lw_m2 72 rfl) rfl
theorem q413 : (Jvm.Cond.methodLink "SleeperRailway" (267 : Nat) ({ cls := "java/util/TreeMap", name := "size", desc := "()I" } : Jvm.MethodName)) ∈ lw_all := lw_g (lw_at lw_m2 73 rfl) rfl
theorem q418 : (Jvm.Cond.instanceMethod ({ cls := "SleeperRailway", name := "bookingCount", desc := "()I" } : Jvm.MethodName)) ∈ lw_all := lw_g (lw_at lw_m2 78 rfl) rfl
theorem q419 : (Jvm.Cond.selects "SleeperRailway" ({ cls := "SleeperRailway", name := "bookingCount", desc := "()I" } : Jvm.MethodName) ({ cls := "SleeperRailway", name := "bookingCount", desc := "()I" } : Jvm.MethodName)) ∈ lw_all := lw_g (lw_at lw_m2 79 rfl) rfl
theorem q420 : (Jvm.Cond.code ({ cls := "SleeperRailway", name := "bookingCount", desc := "()I" } : Jvm.MethodName) prog_1_method_52_code (1 : Nat) (Option.some Jvm.ClassFile.FieldType.int)) ∈ lw_all := lw_g (lw_at lw_m2 80 rfl) rfl
theorem q422 : (Jvm.Cond.instanceMethod ({ cls := "SleeperRailway", name := "coins", desc := "()I" } : Jvm.MethodName)) ∈ lw_all := lw_g (lw_at lw_m2 82 rfl) rfl
theorem q423 : (Jvm.Cond.selects "SleeperRailway" ({ cls := "SleeperRailway", name := "coins", desc := "()I" } : Jvm.MethodName) ({ cls := "SleeperRailway", name := "coins", desc := "()I" } : Jvm.MethodName)) ∈ lw_all := lw_g (lw_at lw_m2 83 rfl) rfl
theorem q424 : (Jvm.Cond.code ({ cls := "SleeperRailway", name := "coins", desc := "()I" } : Jvm.MethodName) prog_1_method_57_code (1 : Nat) (Option.some Jvm.ClassFile.FieldType.int)) ∈ lw_all := lw_g (lw_at lw_m2 84 rfl) rfl
theorem q426 : (Jvm.Cond.instanceMethod ({ cls := "SleeperRailway", name := "coinsByLoads", desc := "()I" } : Jvm.MethodName)) ∈ lw_all := lw_g (lw_at lw_m2 86 rfl) rfl
theorem q427 : (Jvm.Cond.selects "SleeperRailway" ({ cls := "SleeperRailway", name := "coinsByLoads", desc := "()I" } : Jvm.MethodName) ({ cls := "SleeperRailway", name := "coinsByLoads", desc := "()I" } : Jvm.MethodName)) ∈ lw_all := lw_g (lw_at lw_m2 87 rfl) rfl
theorem q428 : (Jvm.Cond.code ({ cls := "SleeperRailway", name := "coinsByLoads", desc := "()I" } : Jvm.MethodName) prog_1_method_58_code (1 : Nat) (Option.some Jvm.ClassFile.FieldType.int)) ∈ lw_all := lw_g (lw_at lw_m2 88 rfl) rfl
theorem q429 : (Jvm.Cond.methodLink "SleeperRailway" (338 : Nat) ({ cls := "SleeperRailway$Railway", name := "coinsByLoads", desc := "()I" } : Jvm.MethodName)) ∈ lw_all := lw_g (lw_at lw_m2 89 rfl) rfl
theorem q989 : (Jvm.Cond.selects "SleeperRailway" ({ cls := "java/lang/Object", name := "getClass", desc := "()Ljava/lang/Class;" } : Jvm.MethodName) ({ cls := "java/lang/Object", name := "getClass", desc := "()Ljava/lang/Class;" } : Jvm.MethodName)) ∈ lw_all := lw_g (lw_at lw_m4 169 rfl) rfl
theorem q1153 : (Jvm.Cond.instanceMethod ({ cls := "SleeperRailway", name := "collectedTotal", desc := "()I" } : Jvm.MethodName)) ∈ lw_all := lw_g (lw_at lw_m5 93 rfl) rfl
theorem q1154 : (Jvm.Cond.selects "SleeperRailway" ({ cls := "SleeperRailway", name := "collectedTotal", desc := "()I" } : Jvm.MethodName) ({ cls := "SleeperRailway", name := "collectedTotal", desc := "()I" } : Jvm.MethodName)) ∈ lw_all := lw_g (lw_at lw_m5 94 rfl) rfl
theorem q1155 : (Jvm.Cond.code ({ cls := "SleeperRailway", name := "collectedTotal", desc := "()I" } : Jvm.MethodName) prog_1_method_59_code (1 : Nat) (Option.some Jvm.ClassFile.FieldType.int)) ∈ lw_all := lw_g (lw_at lw_m5 95 rfl) rfl
theorem q1157 : (Jvm.Cond.instanceMethod ({ cls := "SleeperRailway", name := "isConsistent", desc := "()Z" } : Jvm.MethodName)) ∈ lw_all := lw_g (lw_at lw_m5 97 rfl) rfl
theorem q1158 : (Jvm.Cond.selects "SleeperRailway" ({ cls := "SleeperRailway", name := "isConsistent", desc := "()Z" } : Jvm.MethodName) ({ cls := "SleeperRailway", name := "isConsistent", desc := "()Z" } : Jvm.MethodName)) ∈ lw_all := lw_g (lw_at lw_m5 98 rfl) rfl
theorem q1159 : (Jvm.Cond.code ({ cls := "SleeperRailway", name := "isConsistent", desc := "()Z" } : Jvm.MethodName) prog_1_method_63_code (1 : Nat) (Option.some Jvm.ClassFile.FieldType.boolean)) ∈ lw_all := lw_g (lw_at lw_m5 99 rfl) rfl
theorem q1160 : (Jvm.Cond.methodLink "SleeperRailway" (359 : Nat) ({ cls := "SleeperRailway$Railway", name := "isConsistent", desc := "()Z" } : Jvm.MethodName)) ∈ lw_all := lw_g (lw_at lw_m5 100 rfl) rfl
theorem q1796 : (Jvm.Cond.static ({ cls := "SleeperRailway", name := "isBetween", desc := "(III)Z" } : Jvm.MethodName)) ∈ lw_all := lw_g (lw_at lw_m8 16 rfl) rfl
theorem q1797 : (Jvm.Cond.code ({ cls := "SleeperRailway", name := "isBetween", desc := "(III)Z" } : Jvm.MethodName) prog_1_method_2_code (3 : Nat) (Option.some Jvm.ClassFile.FieldType.boolean)) ∈ lw_all := lw_g (lw_at lw_m8 17 rfl) rfl
theorem q1871 : (Jvm.Cond.fieldLinkNest "SleeperRailway" (317 : Nat) "SleeperRailway$Berths" "needed" "I" "SleeperRailway") ∈ lw_tbl := lw_at lw_m8 91 rfl
theorem q2250 : (Jvm.Cond.instanceMethod ({ cls := "SleeperRailway", name := "save", desc := "()I" } : Jvm.MethodName)) ∈ lw_all := lw_g (lw_at lw_m9 230 rfl) rfl
theorem q2251 : (Jvm.Cond.selects "SleeperRailway" ({ cls := "SleeperRailway", name := "save", desc := "()I" } : Jvm.MethodName) ({ cls := "SleeperRailway", name := "save", desc := "()I" } : Jvm.MethodName)) ∈ lw_all := lw_g (lw_at lw_m9 231 rfl) rfl
theorem q2252 : (Jvm.Cond.code ({ cls := "SleeperRailway", name := "save", desc := "()I" } : Jvm.MethodName) prog_1_method_74_code (1 : Nat) (Option.some Jvm.ClassFile.FieldType.int)) ∈ lw_all := lw_g (lw_at lw_m9 232 rfl) rfl
theorem q2253 : (Jvm.Cond.methodLink "SleeperRailway" (268 : Nat) ({ cls := "SleeperRailway", name := "suitcaseCount", desc := "()I" } : Jvm.MethodName)) ∈ lw_all := lw_g (lw_at lw_m9 233 rfl) rfl
theorem q2260 : (Jvm.Cond.instanceMethod ({ cls := "SleeperRailway", name := "addStation", desc := "(I)I" } : Jvm.MethodName)) ∈ lw_all := lw_g (lw_at lw_m10 0 rfl) rfl
theorem q2261 : (Jvm.Cond.selects "SleeperRailway" ({ cls := "SleeperRailway", name := "addStation", desc := "(I)I" } : Jvm.MethodName) ({ cls := "SleeperRailway", name := "addStation", desc := "(I)I" } : Jvm.MethodName)) ∈ lw_all := lw_g (lw_at lw_m10 1 rfl) rfl
theorem q2262 : (Jvm.Cond.code ({ cls := "SleeperRailway", name := "addStation", desc := "(I)I" } : Jvm.MethodName) prog_1_method_6_code (2 : Nat) (Option.some Jvm.ClassFile.FieldType.int)) ∈ lw_all := lw_g (lw_at lw_m10 2 rfl) rfl
theorem q2263 : (Jvm.Cond.stringRef "SleeperRailway" (83 : Nat) "station") ∈ lw_tbl := lw_at lw_m10 3 rfl
theorem q2264 : (Jvm.Cond.methodLink "SleeperRailway" (85 : Nat) ({ cls := "SleeperRailway", name := "change", desc := "(Ljava/lang/String;[I)I" } : Jvm.MethodName)) ∈ lw_all := lw_g (lw_at lw_m10 4 rfl) rfl
theorem q2265 : (Jvm.Cond.privateMethod ({ cls := "SleeperRailway", name := "change", desc := "(Ljava/lang/String;[I)I" } : Jvm.MethodName)) ∈ lw_tbl := lw_at lw_m10 5 rfl
theorem q2266 : (Jvm.Cond.instanceMethod ({ cls := "SleeperRailway", name := "change", desc := "(Ljava/lang/String;[I)I" } : Jvm.MethodName)) ∈ lw_all := lw_g (lw_at lw_m10 6 rfl) rfl
theorem q2267 : (Jvm.Cond.codeWith ({ cls := "SleeperRailway", name := "change", desc := "(Ljava/lang/String;[I)I" } : Jvm.MethodName) prog_1_method_5_code (5 : Nat) (Option.some Jvm.ClassFile.FieldType.int) [((8 : Nat), (26 : Nat), (27 : Nat), (77 : Nat))]) ∈ lw_all := lw_g (lw_at lw_m10 7 rfl) rfl
theorem q2268 : (Jvm.Cond.classLink "SleeperRailway" (77 : Nat) "SleeperRailway$Failure") ∈ lw_all := lw_g (lw_at lw_m10 8 rfl) rfl
theorem q2269 : (Jvm.Cond.methodLink "SleeperRailway" (60 : Nat) ({ cls := "SleeperRailway$Railway", name := "copy", desc := "()LSleeperRailway$Railway;" } : Jvm.MethodName)) ∈ lw_all := lw_g (lw_at lw_m10 9 rfl) rfl
theorem q2301 : (Jvm.Cond.fieldLinkNest "SleeperRailway" (211 : Nat) "SleeperRailway$Train" "capacity" "I" "SleeperRailway") ∈ lw_tbl := lw_at lw_m10 41 rfl
theorem q2305 : (Jvm.Cond.fieldLinkNest "SleeperRailway" (201 : Nat) "SleeperRailway$Train" "stations" "[I" "SleeperRailway") ∈ lw_tbl := lw_at lw_m10 45 rfl
theorem q2315 : (Jvm.Cond.fieldLinkNest "SleeperRailway" (194 : Nat) "SleeperRailway$Train" "stops" "I" "SleeperRailway") ∈ lw_tbl := lw_at lw_m10 55 rfl
theorem q2318 : (Jvm.Cond.fieldLinkNest "SleeperRailway" (214 : Nat) "SleeperRailway$Train" "delay" "I" "SleeperRailway") ∈ lw_tbl := lw_at lw_m10 58 rfl
theorem q2343 : (Jvm.Cond.classLink "SleeperRailway" (64 : Nat) "SleeperRailway$Command") ∈ lw_all := lw_g (lw_at lw_m10 83 rfl) rfl
theorem q2345 : (Jvm.Cond.methodLink "SleeperRailway" (66 : Nat) ({ cls := "SleeperRailway$Command", name := "<init>", desc := "(Ljava/lang/String;[I)V" } : Jvm.MethodName)) ∈ lw_all := lw_g (lw_at lw_m10 85 rfl) rfl
theorem q2356 : (Jvm.Cond.methodLink "SleeperRailway" (69 : Nat) ({ cls := "SleeperRailway$Command", name := "applyTo", desc := "(LSleeperRailway$Railway;)I" } : Jvm.MethodName)) ∈ lw_all := lw_g (lw_at lw_m10 96 rfl) rfl
theorem q2448 : (Jvm.Cond.static ({ cls := "SleeperRailway", name := "demand", desc := "(ZLjava/lang/String;)V" } : Jvm.MethodName)) ∈ lw_all := lw_g (lw_at lw_m10 188 rfl) rfl
theorem q2449 : (Jvm.Cond.code ({ cls := "SleeperRailway", name := "demand", desc := "(ZLjava/lang/String;)V" } : Jvm.MethodName) prog_1_method_1_code (2 : Nat) (Option.none : Option Jvm.ClassFile.FieldType)) ∈ lw_all := lw_g (lw_at lw_m10 189 rfl) rfl
theorem q2450 : (Jvm.Cond.classLink "SleeperRailway" (1 : Nat) "SleeperRailway$ConditionFailure") ∈ lw_all := lw_g (lw_at lw_m10 190 rfl) rfl
theorem q2459 : (Jvm.Cond.methodLink "SleeperRailway" (3 : Nat) ({ cls := "SleeperRailway$ConditionFailure", name := "<init>", desc := "(Ljava/lang/String;)V" } : Jvm.MethodName)) ∈ lw_all := lw_g (lw_at lw_m10 199 rfl) rfl
theorem q2608 : (Jvm.Cond.fieldLinkNest "SleeperRailway" (311 : Nat) "SleeperRailway$Booking" "id" "I" "SleeperRailway") ∈ lw_tbl := lw_at lw_m11 108 rfl
theorem q2611 : (Jvm.Cond.fieldLinkNest "SleeperRailway" (329 : Nat) "SleeperRailway$Booking" "train" "I" "SleeperRailway") ∈ lw_tbl := lw_at lw_m11 111 rfl
theorem q2631 : (Jvm.Cond.methodLink "SleeperRailway" (73 : Nat) ({ cls := "SleeperRailway", name := "commit", desc := "(LSleeperRailway$Railway;I)I" } : Jvm.MethodName)) ∈ lw_all := lw_g (lw_at lw_m11 131 rfl) rfl
theorem q2632 : (Jvm.Cond.privateMethod ({ cls := "SleeperRailway", name := "commit", desc := "(LSleeperRailway$Railway;I)I" } : Jvm.MethodName)) ∈ lw_tbl := lw_at lw_m11 132 rfl
theorem q2633 : (Jvm.Cond.instanceMethod ({ cls := "SleeperRailway", name := "commit", desc := "(LSleeperRailway$Railway;I)I" } : Jvm.MethodName)) ∈ lw_all := lw_g (lw_at lw_m11 133 rfl) rfl
theorem q2634 : (Jvm.Cond.code ({ cls := "SleeperRailway", name := "commit", desc := "(LSleeperRailway$Railway;I)I" } : Jvm.MethodName) prog_1_method_4_code (3 : Nat) (Option.some Jvm.ClassFile.FieldType.int)) ∈ lw_all := lw_g (lw_at lw_m11 134 rfl) rfl
theorem q2635 : (Jvm.Cond.methodLink "SleeperRailway" (48 : Nat) ({ cls := "java/util/LinkedList", name := "size", desc := "()I" } : Jvm.MethodName)) ∈ lw_all := lw_g (lw_at lw_m11 135 rfl) rfl
theorem q2636 : (Jvm.Cond.methodLink "SleeperRailway" (52 : Nat) ({ cls := "java/util/LinkedList", name := "removeFirst", desc := "()Ljava/lang/Object;" } : Jvm.MethodName)) ∈ lw_all := lw_g (lw_at lw_m11 136 rfl) rfl
theorem q2646 : (Jvm.Cond.methodLink "SleeperRailway" (56 : Nat) ({ cls := "java/util/LinkedList", name := "addLast", desc := "(Ljava/lang/Object;)V" } : Jvm.MethodName)) ∈ lw_all := lw_g (lw_at lw_m11 146 rfl) rfl
theorem q2650 : (Jvm.Cond.methodLink "SleeperRailway" (79 : Nat) ({ cls := "SleeperRailway$Failure", name := "asPublicException", desc := "()Ljava/lang/RuntimeException;" } : Jvm.MethodName)) ∈ lw_all := lw_g (lw_at lw_m11 150 rfl) rfl
theorem q2731 : (Jvm.Cond.instanceMethod ({ cls := "SleeperRailway", name := "addTrain", desc := "(III)I" } : Jvm.MethodName)) ∈ lw_all := lw_g (lw_at lw_m11 231 rfl) rfl
theorem q2732 : (Jvm.Cond.selects "SleeperRailway" ({ cls := "SleeperRailway", name := "addTrain", desc := "(III)I" } : Jvm.MethodName) ({ cls := "SleeperRailway", name := "addTrain", desc := "(III)I" } : Jvm.MethodName)) ∈ lw_all := lw_g (lw_at lw_m11 232 rfl) rfl
theorem q2733 : (Jvm.Cond.code ({ cls := "SleeperRailway", name := "addTrain", desc := "(III)I" } : Jvm.MethodName) prog_1_method_7_code (4 : Nat) (Option.some Jvm.ClassFile.FieldType.int)) ∈ lw_all := lw_g (lw_at lw_m11 233 rfl) rfl
theorem q2734 : (Jvm.Cond.stringRef "SleeperRailway" (89 : Nat) "train") ∈ lw_tbl := lw_at lw_m11 234 rfl
theorem q2739 : (Jvm.Cond.instanceMethod ({ cls := "SleeperRailway", name := "extendTrain", desc := "(IIII)I" } : Jvm.MethodName)) ∈ lw_all := lw_g (lw_at lw_m11 239 rfl) rfl
theorem q2740 : (Jvm.Cond.selects "SleeperRailway" ({ cls := "SleeperRailway", name := "extendTrain", desc := "(IIII)I" } : Jvm.MethodName) ({ cls := "SleeperRailway", name := "extendTrain", desc := "(IIII)I" } : Jvm.MethodName)) ∈ lw_all := lw_g (lw_at lw_m12 0 rfl) rfl
theorem q2741 : (Jvm.Cond.code ({ cls := "SleeperRailway", name := "extendTrain", desc := "(IIII)I" } : Jvm.MethodName) prog_1_method_8_code (5 : Nat) (Option.some Jvm.ClassFile.FieldType.int)) ∈ lw_all := lw_g (lw_at lw_m12 1 rfl) rfl
theorem q2742 : (Jvm.Cond.stringRef "SleeperRailway" (91 : Nat) "stop") ∈ lw_tbl := lw_at lw_m12 2 rfl
theorem q2747 : (Jvm.Cond.instanceMethod ({ cls := "SleeperRailway", name := "delayTrain", desc := "(II)I" } : Jvm.MethodName)) ∈ lw_all := lw_g (lw_at lw_m12 7 rfl) rfl
theorem q2748 : (Jvm.Cond.selects "SleeperRailway" ({ cls := "SleeperRailway", name := "delayTrain", desc := "(II)I" } : Jvm.MethodName) ({ cls := "SleeperRailway", name := "delayTrain", desc := "(II)I" } : Jvm.MethodName)) ∈ lw_all := lw_g (lw_at lw_m12 8 rfl) rfl
theorem q2749 : (Jvm.Cond.code ({ cls := "SleeperRailway", name := "delayTrain", desc := "(II)I" } : Jvm.MethodName) prog_1_method_9_code (3 : Nat) (Option.some Jvm.ClassFile.FieldType.int)) ∈ lw_all := lw_g (lw_at lw_m12 9 rfl) rfl
theorem q2750 : (Jvm.Cond.stringRef "SleeperRailway" (93 : Nat) "late") ∈ lw_tbl := lw_at lw_m12 10 rfl
theorem q2755 : (Jvm.Cond.instanceMethod ({ cls := "SleeperRailway", name := "addSuitcase", desc := "(III)I" } : Jvm.MethodName)) ∈ lw_all := lw_g (lw_at lw_m12 15 rfl) rfl
theorem q2756 : (Jvm.Cond.selects "SleeperRailway" ({ cls := "SleeperRailway", name := "addSuitcase", desc := "(III)I" } : Jvm.MethodName) ({ cls := "SleeperRailway", name := "addSuitcase", desc := "(III)I" } : Jvm.MethodName)) ∈ lw_all := lw_g (lw_at lw_m12 16 rfl) rfl
theorem q2757 : (Jvm.Cond.code ({ cls := "SleeperRailway", name := "addSuitcase", desc := "(III)I" } : Jvm.MethodName) prog_1_method_10_code (4 : Nat) (Option.some Jvm.ClassFile.FieldType.int)) ∈ lw_all := lw_g (lw_at lw_m12 17 rfl) rfl
theorem q2758 : (Jvm.Cond.stringRef "SleeperRailway" (95 : Nat) "case") ∈ lw_tbl := lw_at lw_m12 18 rfl
theorem q2764 : (Jvm.Cond.instanceMethod ({ cls := "SleeperRailway", name := "relabel", desc := "(II)I" } : Jvm.MethodName)) ∈ lw_all := lw_g (lw_at lw_m12 24 rfl) rfl
theorem q2765 : (Jvm.Cond.selects "SleeperRailway" ({ cls := "SleeperRailway", name := "relabel", desc := "(II)I" } : Jvm.MethodName) ({ cls := "SleeperRailway", name := "relabel", desc := "(II)I" } : Jvm.MethodName)) ∈ lw_all := lw_g (lw_at lw_m12 25 rfl) rfl
theorem q2766 : (Jvm.Cond.code ({ cls := "SleeperRailway", name := "relabel", desc := "(II)I" } : Jvm.MethodName) prog_1_method_11_code (3 : Nat) (Option.some Jvm.ClassFile.FieldType.int)) ∈ lw_all := lw_g (lw_at lw_m12 26 rfl) rfl
theorem q2767 : (Jvm.Cond.stringRef "SleeperRailway" (97 : Nat) "label") ∈ lw_tbl := lw_at lw_m12 27 rfl
theorem q2773 : (Jvm.Cond.instanceMethod ({ cls := "SleeperRailway", name := "send", desc := "(I)I" } : Jvm.MethodName)) ∈ lw_all := lw_g (lw_at lw_m12 33 rfl) rfl
theorem q2774 : (Jvm.Cond.selects "SleeperRailway" ({ cls := "SleeperRailway", name := "send", desc := "(I)I" } : Jvm.MethodName) ({ cls := "SleeperRailway", name := "send", desc := "(I)I" } : Jvm.MethodName)) ∈ lw_all := lw_g (lw_at lw_m12 34 rfl) rfl
theorem q2775 : (Jvm.Cond.code ({ cls := "SleeperRailway", name := "send", desc := "(I)I" } : Jvm.MethodName) prog_1_method_12_code (2 : Nat) (Option.some Jvm.ClassFile.FieldType.int)) ∈ lw_all := lw_g (lw_at lw_m12 35 rfl) rfl
theorem q2776 : (Jvm.Cond.stringRef "SleeperRailway" (99 : Nat) "send") ∈ lw_tbl := lw_at lw_m12 36 rfl
theorem q2781 : (Jvm.Cond.instanceMethod ({ cls := "SleeperRailway", name := "collect", desc := "(I)I" } : Jvm.MethodName)) ∈ lw_all := lw_g (lw_at lw_m12 41 rfl) rfl
theorem q2782 : (Jvm.Cond.selects "SleeperRailway" ({ cls := "SleeperRailway", name := "collect", desc := "(I)I" } : Jvm.MethodName) ({ cls := "SleeperRailway", name := "collect", desc := "(I)I" } : Jvm.MethodName)) ∈ lw_all := lw_g (lw_at lw_m12 42 rfl) rfl
theorem q2783 : (Jvm.Cond.code ({ cls := "SleeperRailway", name := "collect", desc := "(I)I" } : Jvm.MethodName) prog_1_method_13_code (2 : Nat) (Option.some Jvm.ClassFile.FieldType.int)) ∈ lw_all := lw_g (lw_at lw_m12 43 rfl) rfl
theorem q2784 : (Jvm.Cond.stringRef "SleeperRailway" (101 : Nat) "take") ∈ lw_tbl := lw_at lw_m12 44 rfl
theorem q2789 : (Jvm.Cond.instanceMethod ({ cls := "SleeperRailway", name := "book", desc := "(III)I" } : Jvm.MethodName)) ∈ lw_all := lw_g (lw_at lw_m12 49 rfl) rfl
theorem q2790 : (Jvm.Cond.selects "SleeperRailway" ({ cls := "SleeperRailway", name := "book", desc := "(III)I" } : Jvm.MethodName) ({ cls := "SleeperRailway", name := "book", desc := "(III)I" } : Jvm.MethodName)) ∈ lw_all := lw_g (lw_at lw_m12 50 rfl) rfl
theorem q2791 : (Jvm.Cond.code ({ cls := "SleeperRailway", name := "book", desc := "(III)I" } : Jvm.MethodName) prog_1_method_14_code (4 : Nat) (Option.some Jvm.ClassFile.FieldType.int)) ∈ lw_all := lw_g (lw_at lw_m12 51 rfl) rfl
theorem q2792 : (Jvm.Cond.stringRef "SleeperRailway" (103 : Nat) "book") ∈ lw_tbl := lw_at lw_m12 52 rfl
theorem q2797 : (Jvm.Cond.instanceMethod ({ cls := "SleeperRailway", name := "cancelBooking", desc := "(I)I" } : Jvm.MethodName)) ∈ lw_all := lw_g (lw_at lw_m12 57 rfl) rfl
theorem q2798 : (Jvm.Cond.selects "SleeperRailway" ({ cls := "SleeperRailway", name := "cancelBooking", desc := "(I)I" } : Jvm.MethodName) ({ cls := "SleeperRailway", name := "cancelBooking", desc := "(I)I" } : Jvm.MethodName)) ∈ lw_all := lw_g (lw_at lw_m12 58 rfl) rfl
theorem q2799 : (Jvm.Cond.code ({ cls := "SleeperRailway", name := "cancelBooking", desc := "(I)I" } : Jvm.MethodName) prog_1_method_15_code (2 : Nat) (Option.some Jvm.ClassFile.FieldType.int)) ∈ lw_all := lw_g (lw_at lw_m12 59 rfl) rfl
theorem q2800 : (Jvm.Cond.stringRef "SleeperRailway" (105 : Nat) "drop") ∈ lw_tbl := lw_at lw_m12 60 rfl
theorem q2805 : (Jvm.Cond.instanceMethod ({ cls := "SleeperRailway", name := "transferTime", desc := "(I)I" } : Jvm.MethodName)) ∈ lw_all := lw_g (lw_at lw_m12 65 rfl) rfl
theorem q2806 : (Jvm.Cond.selects "SleeperRailway" ({ cls := "SleeperRailway", name := "transferTime", desc := "(I)I" } : Jvm.MethodName) ({ cls := "SleeperRailway", name := "transferTime", desc := "(I)I" } : Jvm.MethodName)) ∈ lw_all := lw_g (lw_at lw_m12 66 rfl) rfl
theorem q2807 : (Jvm.Cond.code ({ cls := "SleeperRailway", name := "transferTime", desc := "(I)I" } : Jvm.MethodName) prog_1_method_27_code (2 : Nat) (Option.some Jvm.ClassFile.FieldType.int)) ∈ lw_all := lw_g (lw_at lw_m12 67 rfl) rfl
theorem q2808 : (Jvm.Cond.methodLink "SleeperRailway" (168 : Nat) ({ cls := "SleeperRailway", name := "checkStation", desc := "(I)V" } : Jvm.MethodName)) ∈ lw_all := lw_g (lw_at lw_m12 68 rfl) rfl
theorem q2809 : (Jvm.Cond.privateMethod ({ cls := "SleeperRailway", name := "checkStation", desc := "(I)V" } : Jvm.MethodName)) ∈ lw_tbl := lw_at lw_m12 69 rfl
theorem q2810 : (Jvm.Cond.instanceMethod ({ cls := "SleeperRailway", name := "checkStation", desc := "(I)V" } : Jvm.MethodName)) ∈ lw_all := lw_g (lw_at lw_m12 70 rfl) rfl
theorem q2811 : (Jvm.Cond.code ({ cls := "SleeperRailway", name := "checkStation", desc := "(I)V" } : Jvm.MethodName) prog_1_method_21_code (2 : Nat) (Option.none : Option Jvm.ClassFile.FieldType)) ∈ lw_all := lw_g (lw_at lw_m12 71 rfl) rfl
theorem q2812 : (Jvm.Cond.methodLink "SleeperRailway" (123 : Nat) ({ cls := "SleeperRailway$Railway", name := "hasStation", desc := "(I)Z" } : Jvm.MethodName)) ∈ lw_all := lw_g (lw_at lw_m12 72 rfl) rfl
theorem q2813 : (Jvm.Cond.methodLink "SleeperRailway" (127 : Nat) ({ cls := "SleeperRailway", name := "checkIndex", desc := "(Z)V" } : Jvm.MethodName)) ∈ lw_all := lw_g (lw_at lw_m12 73 rfl) rfl
theorem q2814 : (Jvm.Cond.static ({ cls := "SleeperRailway", name := "checkIndex", desc := "(Z)V" } : Jvm.MethodName)) ∈ lw_all := lw_g (lw_at lw_m12 74 rfl) rfl
theorem q2815 : (Jvm.Cond.code ({ cls := "SleeperRailway", name := "checkIndex", desc := "(Z)V" } : Jvm.MethodName) prog_1_method_16_code (1 : Nat) (Option.none : Option Jvm.ClassFile.FieldType)) ∈ lw_all := lw_g (lw_at lw_m12 75 rfl) rfl
theorem q2816 : (Jvm.Cond.classLink "SleeperRailway" (107 : Nat) "java/lang/IndexOutOfBoundsException") ∈ lw_all := lw_g (lw_at lw_m12 76 rfl) rfl
theorem q2817 : (Jvm.Cond.methodLink "SleeperRailway" (109 : Nat) ({ cls := "java/lang/IndexOutOfBoundsException", name := "<init>", desc := "()V" } : Jvm.MethodName)) ∈ lw_all := lw_g (lw_at lw_m12 77 rfl) rfl
theorem q2818 : (Jvm.Cond.interfaceEntry "SleeperRailway" (172 : Nat)) ∈ lw_tbl := lw_at lw_m12 78 rfl
theorem q2819 : (Jvm.Cond.methodLink "SleeperRailway" (172 : Nat) ({ cls := "java/util/List", name := "get", desc := "(I)Ljava/lang/Object;" } : Jvm.MethodName)) ∈ lw_all := lw_g (lw_at lw_m12 79 rfl) rfl
theorem q2820 : (Jvm.Cond.classLink "SleeperRailway" (175 : Nat) "java/lang/Integer") ∈ lw_all := lw_g (lw_at lw_m12 80 rfl) rfl
theorem q2821 : (Jvm.Cond.methodLink "SleeperRailway" (177 : Nat) ({ cls := "java/lang/Integer", name := "intValue", desc := "()I" } : Jvm.MethodName)) ∈ lw_all := lw_g (lw_at lw_m12 81 rfl) rfl
theorem q2826 : (Jvm.Cond.instanceMethod ({ cls := "SleeperRailway", name := "nextTrain", desc := "(II)I" } : Jvm.MethodName)) ∈ lw_all := lw_g (lw_at lw_m12 86 rfl) rfl
theorem q2827 : (Jvm.Cond.selects "SleeperRailway" ({ cls := "SleeperRailway", name := "nextTrain", desc := "(II)I" } : Jvm.MethodName) ({ cls := "SleeperRailway", name := "nextTrain", desc := "(II)I" } : Jvm.MethodName)) ∈ lw_all := lw_g (lw_at lw_m12 87 rfl) rfl
theorem q2828 : (Jvm.Cond.code ({ cls := "SleeperRailway", name := "nextTrain", desc := "(II)I" } : Jvm.MethodName) prog_1_method_28_code (3 : Nat) (Option.some Jvm.ClassFile.FieldType.int)) ∈ lw_all := lw_g (lw_at lw_m12 88 rfl) rfl
theorem q2829 : (Jvm.Cond.methodLink "SleeperRailway" (180 : Nat) ({ cls := "SleeperRailway", name := "checkMinute", desc := "(I)V" } : Jvm.MethodName)) ∈ lw_all := lw_g (lw_at lw_m12 89 rfl) rfl
theorem q2830 : (Jvm.Cond.static ({ cls := "SleeperRailway", name := "checkMinute", desc := "(I)V" } : Jvm.MethodName)) ∈ lw_all := lw_g (lw_at lw_m12 90 rfl) rfl
theorem q2831 : (Jvm.Cond.code ({ cls := "SleeperRailway", name := "checkMinute", desc := "(I)V" } : Jvm.MethodName) prog_1_method_22_code (1 : Nat) (Option.none : Option Jvm.ClassFile.FieldType)) ∈ lw_all := lw_g (lw_at lw_m12 91 rfl) rfl
theorem q2832 : (Jvm.Cond.methodLink "SleeperRailway" (130 : Nat) ({ cls := "SleeperRailway", name := "isBetween", desc := "(III)Z" } : Jvm.MethodName)) ∈ lw_all := lw_g (lw_at lw_m12 92 rfl) rfl
theorem q2833 : (Jvm.Cond.methodLink "SleeperRailway" (134 : Nat) ({ cls := "SleeperRailway", name := "checkArgument", desc := "(Z)V" } : Jvm.MethodName)) ∈ lw_all := lw_g (lw_at lw_m12 93 rfl) rfl
theorem q2834 : (Jvm.Cond.static ({ cls := "SleeperRailway", name := "checkArgument", desc := "(Z)V" } : Jvm.MethodName)) ∈ lw_all := lw_g (lw_at lw_m12 94 rfl) rfl
theorem q2835 : (Jvm.Cond.code ({ cls := "SleeperRailway", name := "checkArgument", desc := "(Z)V" } : Jvm.MethodName) prog_1_method_17_code (1 : Nat) (Option.none : Option Jvm.ClassFile.FieldType)) ∈ lw_all := lw_g (lw_at lw_m12 95 rfl) rfl
theorem q2836 : (Jvm.Cond.classLink "SleeperRailway" (110 : Nat) "java/lang/IllegalArgumentException") ∈ lw_all := lw_g (lw_at lw_m12 96 rfl) rfl
theorem q2837 : (Jvm.Cond.methodLink "SleeperRailway" (112 : Nat) ({ cls := "java/lang/IllegalArgumentException", name := "<init>", desc := "()V" } : Jvm.MethodName)) ∈ lw_all := lw_g (lw_at lw_m12 97 rfl) rfl
theorem q2838 : (Jvm.Cond.methodLink "SleeperRailway" (183 : Nat) ({ cls := "SleeperRailway$Timetable", name := "nextTrain", desc := "(II)I" } : Jvm.MethodName)) ∈ lw_all := lw_g (lw_at lw_m12 98 rfl) rfl
theorem q2845 : (Jvm.Cond.methodLink "SleeperRailway" (187 : Nat) ({ cls := "SleeperRailway", name := "found", desc := "(I)I" } : Jvm.MethodName)) ∈ lw_all := lw_g (lw_at lw_m12 105 rfl) rfl
theorem q2846 : (Jvm.Cond.static ({ cls := "SleeperRailway", name := "found", desc := "(I)I" } : Jvm.MethodName)) ∈ lw_all := lw_g (lw_at lw_m12 106 rfl) rfl
theorem q2847 : (Jvm.Cond.code ({ cls := "SleeperRailway", name := "found", desc := "(I)I" } : Jvm.MethodName) prog_1_method_20_code (1 : Nat) (Option.some Jvm.ClassFile.FieldType.int)) ∈ lw_all := lw_g (lw_at lw_m12 107 rfl) rfl
theorem q2848 : (Jvm.Cond.methodLink "SleeperRailway" (119 : Nat) ({ cls := "SleeperRailway", name := "checkElement", desc := "(Z)V" } : Jvm.MethodName)) ∈ lw_all := lw_g (lw_at lw_m12 108 rfl) rfl
theorem q2849 : (Jvm.Cond.static ({ cls := "SleeperRailway", name := "checkElement", desc := "(Z)V" } : Jvm.MethodName)) ∈ lw_all := lw_g (lw_at lw_m12 109 rfl) rfl
theorem q2850 : (Jvm.Cond.code ({ cls := "SleeperRailway", name := "checkElement", desc := "(Z)V" } : Jvm.MethodName) prog_1_method_18_code (1 : Nat) (Option.none : Option Jvm.ClassFile.FieldType)) ∈ lw_all := lw_g (lw_at lw_m12 110 rfl) rfl
theorem q2851 : (Jvm.Cond.classLink "SleeperRailway" (113 : Nat) "java/util/NoSuchElementException") ∈ lw_all := lw_g (lw_at lw_m12 111 rfl) rfl
theorem q2852 : (Jvm.Cond.methodLink "SleeperRailway" (115 : Nat) ({ cls := "java/util/NoSuchElementException", name := "<init>", desc := "()V" } : Jvm.MethodName)) ∈ lw_all := lw_g (lw_at lw_m12 112 rfl) rfl
theorem q2857 : (Jvm.Cond.instanceMethod ({ cls := "SleeperRailway", name := "stopCount", desc := "(I)I" } : Jvm.MethodName)) ∈ lw_all := lw_g (lw_at lw_m12 117 rfl) rfl
theorem q2858 : (Jvm.Cond.selects "SleeperRailway" ({ cls := "SleeperRailway", name := "stopCount", desc := "(I)I" } : Jvm.MethodName) ({ cls := "SleeperRailway", name := "stopCount", desc := "(I)I" } : Jvm.MethodName)) ∈ lw_all := lw_g (lw_at lw_m12 118 rfl) rfl
theorem q2859 : (Jvm.Cond.code ({ cls := "SleeperRailway", name := "stopCount", desc := "(I)I" } : Jvm.MethodName) prog_1_method_30_code (2 : Nat) (Option.some Jvm.ClassFile.FieldType.int)) ∈ lw_all := lw_g (lw_at lw_m12 119 rfl) rfl
theorem q2860 : (Jvm.Cond.methodLink "SleeperRailway" (150 : Nat) ({ cls := "SleeperRailway", name := "trainWith", desc := "(I)LSleeperRailway$Train;" } : Jvm.MethodName)) ∈ lw_all := lw_g (lw_at lw_m12 120 rfl) rfl
theorem q2861 : (Jvm.Cond.privateMethod ({ cls := "SleeperRailway", name := "trainWith", desc := "(I)LSleeperRailway$Train;" } : Jvm.MethodName)) ∈ lw_tbl := lw_at lw_m12 121 rfl
theorem q2862 : (Jvm.Cond.instanceMethod ({ cls := "SleeperRailway", name := "trainWith", desc := "(I)LSleeperRailway$Train;" } : Jvm.MethodName)) ∈ lw_all := lw_g (lw_at lw_m12 122 rfl) rfl
theorem q2863 : (Jvm.Cond.code ({ cls := "SleeperRailway", name := "trainWith", desc := "(I)LSleeperRailway$Train;" } : Jvm.MethodName) prog_1_method_23_code (2 : Nat) (Option.some (Jvm.ClassFile.FieldType.object "SleeperRailway$Train"))) ∈ lw_all := lw_g (lw_at lw_m12 123 rfl) rfl
theorem q2864 : (Jvm.Cond.methodLink "SleeperRailway" (141 : Nat) ({ cls := "SleeperRailway$Timetable", name := "has", desc := "(I)Z" } : Jvm.MethodName)) ∈ lw_all := lw_g (lw_at lw_m12 124 rfl) rfl
theorem q2865 : (Jvm.Cond.methodLink "SleeperRailway" (146 : Nat) ({ cls := "SleeperRailway$Timetable", name := "get", desc := "(I)LSleeperRailway$Train;" } : Jvm.MethodName)) ∈ lw_all := lw_g (lw_at lw_m12 125 rfl) rfl
theorem q2870 : (Jvm.Cond.instanceMethod ({ cls := "SleeperRailway", name := "stationAt", desc := "(II)I" } : Jvm.MethodName)) ∈ lw_all := lw_g (lw_at lw_m12 130 rfl) rfl
theorem q2871 : (Jvm.Cond.selects "SleeperRailway" ({ cls := "SleeperRailway", name := "stationAt", desc := "(II)I" } : Jvm.MethodName) ({ cls := "SleeperRailway", name := "stationAt", desc := "(II)I" } : Jvm.MethodName)) ∈ lw_all := lw_g (lw_at lw_m12 131 rfl) rfl
theorem q2872 : (Jvm.Cond.code ({ cls := "SleeperRailway", name := "stationAt", desc := "(II)I" } : Jvm.MethodName) prog_1_method_31_code (3 : Nat) (Option.some Jvm.ClassFile.FieldType.int)) ∈ lw_all := lw_g (lw_at lw_m12 132 rfl) rfl
theorem q2873 : (Jvm.Cond.methodLink "SleeperRailway" (197 : Nat) ({ cls := "SleeperRailway", name := "trainWithStop", desc := "(II)LSleeperRailway$Train;" } : Jvm.MethodName)) ∈ lw_all := lw_g (lw_at lw_m12 133 rfl) rfl
theorem q2874 : (Jvm.Cond.privateMethod ({ cls := "SleeperRailway", name := "trainWithStop", desc := "(II)LSleeperRailway$Train;" } : Jvm.MethodName)) ∈ lw_tbl := lw_at lw_m12 134 rfl
theorem q2875 : (Jvm.Cond.instanceMethod ({ cls := "SleeperRailway", name := "trainWithStop", desc := "(II)LSleeperRailway$Train;" } : Jvm.MethodName)) ∈ lw_all := lw_g (lw_at lw_m12 135 rfl) rfl
theorem q2876 : (Jvm.Cond.code ({ cls := "SleeperRailway", name := "trainWithStop", desc := "(II)LSleeperRailway$Train;" } : Jvm.MethodName) prog_1_method_24_code (4 : Nat) (Option.some (Jvm.ClassFile.FieldType.object "SleeperRailway$Train"))) ∈ lw_all := lw_g (lw_at lw_m12 136 rfl) rfl
theorem q2877 : (Jvm.Cond.methodLink "SleeperRailway" (153 : Nat) ({ cls := "SleeperRailway$Train", name := "hasStop", desc := "(I)Z" } : Jvm.MethodName)) ∈ lw_all := lw_g (lw_at lw_m12 137 rfl) rfl
theorem q2882 : (Jvm.Cond.instanceMethod ({ cls := "SleeperRailway", name := "arrivalAt", desc := "(II)I" } : Jvm.MethodName)) ∈ lw_all := lw_g (lw_at lw_m12 142 rfl) rfl
theorem q2883 : (Jvm.Cond.selects "SleeperRailway" ({ cls := "SleeperRailway", name := "arrivalAt", desc := "(II)I" } : Jvm.MethodName) ({ cls := "SleeperRailway", name := "arrivalAt", desc := "(II)I" } : Jvm.MethodName)) ∈ lw_all := lw_g (lw_at lw_m12 143 rfl) rfl
theorem q2884 : (Jvm.Cond.code ({ cls := "SleeperRailway", name := "arrivalAt", desc := "(II)I" } : Jvm.MethodName) prog_1_method_32_code (4 : Nat) (Option.some Jvm.ClassFile.FieldType.int)) ∈ lw_all := lw_g (lw_at lw_m12 144 rfl) rfl
theorem q2885 : (Jvm.Cond.methodLink "SleeperRailway" (205 : Nat) ({ cls := "SleeperRailway$Train", name := "arrival", desc := "(I)I" } : Jvm.MethodName)) ∈ lw_all := lw_g (lw_at lw_m12 145 rfl) rfl
theorem q2890 : (Jvm.Cond.instanceMethod ({ cls := "SleeperRailway", name := "departureAt", desc := "(II)I" } : Jvm.MethodName)) ∈ lw_all := lw_g (lw_at lw_m12 150 rfl) rfl
theorem q2891 : (Jvm.Cond.selects "SleeperRailway" ({ cls := "SleeperRailway", name := "departureAt", desc := "(II)I" } : Jvm.MethodName) ({ cls := "SleeperRailway", name := "departureAt", desc := "(II)I" } : Jvm.MethodName)) ∈ lw_all := lw_g (lw_at lw_m12 151 rfl) rfl
theorem q2892 : (Jvm.Cond.code ({ cls := "SleeperRailway", name := "departureAt", desc := "(II)I" } : Jvm.MethodName) prog_1_method_33_code (4 : Nat) (Option.some Jvm.ClassFile.FieldType.int)) ∈ lw_all := lw_g (lw_at lw_m12 152 rfl) rfl
theorem q2893 : (Jvm.Cond.methodLink "SleeperRailway" (158 : Nat) ({ cls := "SleeperRailway$Train", name := "hasLeg", desc := "(I)Z" } : Jvm.MethodName)) ∈ lw_all := lw_g (lw_at lw_m12 153 rfl) rfl
theorem q2894 : (Jvm.Cond.methodLink "SleeperRailway" (208 : Nat) ({ cls := "SleeperRailway$Train", name := "departure", desc := "(I)I" } : Jvm.MethodName)) ∈ lw_all := lw_g (lw_at lw_m12 154 rfl) rfl
theorem q2899 : (Jvm.Cond.instanceMethod ({ cls := "SleeperRailway", name := "capacity", desc := "(I)I" } : Jvm.MethodName)) ∈ lw_all := lw_g (lw_at lw_m12 159 rfl) rfl
theorem q2900 : (Jvm.Cond.selects "SleeperRailway" ({ cls := "SleeperRailway", name := "capacity", desc := "(I)I" } : Jvm.MethodName) ({ cls := "SleeperRailway", name := "capacity", desc := "(I)I" } : Jvm.MethodName)) ∈ lw_all := lw_g (lw_at lw_m12 160 rfl) rfl
theorem q2901 : (Jvm.Cond.code ({ cls := "SleeperRailway", name := "capacity", desc := "(I)I" } : Jvm.MethodName) prog_1_method_34_code (2 : Nat) (Option.some Jvm.ClassFile.FieldType.int)) ∈ lw_all := lw_g (lw_at lw_m12 161 rfl) rfl
theorem q2906 : (Jvm.Cond.instanceMethod ({ cls := "SleeperRailway", name := "delayOf", desc := "(I)I" } : Jvm.MethodName)) ∈ lw_all := lw_g (lw_at lw_m12 166 rfl) rfl
theorem q2907 : (Jvm.Cond.selects "SleeperRailway" ({ cls := "SleeperRailway", name := "delayOf", desc := "(I)I" } : Jvm.MethodName) ({ cls := "SleeperRailway", name := "delayOf", desc := "(I)I" } : Jvm.MethodName)) ∈ lw_all := lw_g (lw_at lw_m12 167 rfl) rfl
theorem q2908 : (Jvm.Cond.code ({ cls := "SleeperRailway", name := "delayOf", desc := "(I)I" } : Jvm.MethodName) prog_1_method_35_code (2 : Nat) (Option.some Jvm.ClassFile.FieldType.int)) ∈ lw_all := lw_g (lw_at lw_m12 168 rfl) rfl
theorem q2913 : (Jvm.Cond.instanceMethod ({ cls := "SleeperRailway", name := "load", desc := "(II)I" } : Jvm.MethodName)) ∈ lw_all := lw_g (lw_at lw_m12 173 rfl) rfl
theorem q2914 : (Jvm.Cond.selects "SleeperRailway" ({ cls := "SleeperRailway", name := "load", desc := "(II)I" } : Jvm.MethodName) ({ cls := "SleeperRailway", name := "load", desc := "(II)I" } : Jvm.MethodName)) ∈ lw_all := lw_g (lw_at lw_m12 174 rfl) rfl
theorem q2915 : (Jvm.Cond.code ({ cls := "SleeperRailway", name := "load", desc := "(II)I" } : Jvm.MethodName) prog_1_method_36_code (3 : Nat) (Option.some Jvm.ClassFile.FieldType.int)) ∈ lw_all := lw_g (lw_at lw_m12 175 rfl) rfl
theorem q2916 : (Jvm.Cond.methodLink "SleeperRailway" (217 : Nat) ({ cls := "SleeperRailway", name := "trainWithLeg", desc := "(II)LSleeperRailway$Train;" } : Jvm.MethodName)) ∈ lw_all := lw_g (lw_at lw_m12 176 rfl) rfl
theorem q2917 : (Jvm.Cond.privateMethod ({ cls := "SleeperRailway", name := "trainWithLeg", desc := "(II)LSleeperRailway$Train;" } : Jvm.MethodName)) ∈ lw_tbl := lw_at lw_m12 177 rfl
theorem q2918 : (Jvm.Cond.instanceMethod ({ cls := "SleeperRailway", name := "trainWithLeg", desc := "(II)LSleeperRailway$Train;" } : Jvm.MethodName)) ∈ lw_all := lw_g (lw_at lw_m12 178 rfl) rfl
theorem q2919 : (Jvm.Cond.code ({ cls := "SleeperRailway", name := "trainWithLeg", desc := "(II)LSleeperRailway$Train;" } : Jvm.MethodName) prog_1_method_25_code (4 : Nat) (Option.some (Jvm.ClassFile.FieldType.object "SleeperRailway$Train"))) ∈ lw_all := lw_g (lw_at lw_m12 179 rfl) rfl
theorem q2920 : (Jvm.Cond.methodLink "SleeperRailway" (220 : Nat) ({ cls := "SleeperRailway$Train", name := "load", desc := "(I)I" } : Jvm.MethodName)) ∈ lw_all := lw_g (lw_at lw_m12 180 rfl) rfl
theorem q2925 : (Jvm.Cond.instanceMethod ({ cls := "SleeperRailway", name := "isFull", desc := "(II)Z" } : Jvm.MethodName)) ∈ lw_all := lw_g (lw_at lw_m12 185 rfl) rfl
theorem q2926 : (Jvm.Cond.selects "SleeperRailway" ({ cls := "SleeperRailway", name := "isFull", desc := "(II)Z" } : Jvm.MethodName) ({ cls := "SleeperRailway", name := "isFull", desc := "(II)Z" } : Jvm.MethodName)) ∈ lw_all := lw_g (lw_at lw_m12 186 rfl) rfl
theorem q2927 : (Jvm.Cond.code ({ cls := "SleeperRailway", name := "isFull", desc := "(II)Z" } : Jvm.MethodName) prog_1_method_37_code (3 : Nat) (Option.some Jvm.ClassFile.FieldType.boolean)) ∈ lw_all := lw_g (lw_at lw_m12 187 rfl) rfl
theorem q2928 : (Jvm.Cond.methodLink "SleeperRailway" (223 : Nat) ({ cls := "SleeperRailway$Train", name := "isFull", desc := "(I)Z" } : Jvm.MethodName)) ∈ lw_all := lw_g (lw_at lw_m12 188 rfl) rfl
theorem q2933 : (Jvm.Cond.instanceMethod ({ cls := "SleeperRailway", name := "canReach", desc := "(III)Z" } : Jvm.MethodName)) ∈ lw_all := lw_g (lw_at lw_m12 193 rfl) rfl
theorem q2934 : (Jvm.Cond.selects "SleeperRailway" ({ cls := "SleeperRailway", name := "canReach", desc := "(III)Z" } : Jvm.MethodName) ({ cls := "SleeperRailway", name := "canReach", desc := "(III)Z" } : Jvm.MethodName)) ∈ lw_all := lw_g (lw_at lw_m12 194 rfl) rfl
theorem q2935 : (Jvm.Cond.code ({ cls := "SleeperRailway", name := "canReach", desc := "(III)Z" } : Jvm.MethodName) prog_1_method_39_code (4 : Nat) (Option.some Jvm.ClassFile.FieldType.boolean)) ∈ lw_all := lw_g (lw_at lw_m12 195 rfl) rfl
theorem q2936 : (Jvm.Cond.methodLink "SleeperRailway" (230 : Nat) ({ cls := "SleeperRailway", name := "journeys", desc := "(III)LSleeperRailway$Journeys;" } : Jvm.MethodName)) ∈ lw_all := lw_g (lw_at lw_m12 196 rfl) rfl
theorem q2937 : (Jvm.Cond.privateMethod ({ cls := "SleeperRailway", name := "journeys", desc := "(III)LSleeperRailway$Journeys;" } : Jvm.MethodName)) ∈ lw_tbl := lw_at lw_m12 197 rfl
theorem q2938 : (Jvm.Cond.instanceMethod ({ cls := "SleeperRailway", name := "journeys", desc := "(III)LSleeperRailway$Journeys;" } : Jvm.MethodName)) ∈ lw_all := lw_g (lw_at lw_m12 198 rfl) rfl
theorem q2939 : (Jvm.Cond.code ({ cls := "SleeperRailway", name := "journeys", desc := "(III)LSleeperRailway$Journeys;" } : Jvm.MethodName) prog_1_method_38_code (4 : Nat) (Option.some (Jvm.ClassFile.FieldType.object "SleeperRailway$Journeys"))) ∈ lw_all := lw_g (lw_at lw_m12 199 rfl) rfl
theorem q2940 : (Jvm.Cond.methodLink "SleeperRailway" (226 : Nat) ({ cls := "SleeperRailway$Railway", name := "journeys", desc := "(II)LSleeperRailway$Journeys;" } : Jvm.MethodName)) ∈ lw_all := lw_g (lw_at lw_m12 200 rfl) rfl
theorem q2941 : (Jvm.Cond.methodLink "SleeperRailway" (233 : Nat) ({ cls := "SleeperRailway$Journeys", name := "search", desc := "()LSleeperRailway$Journeys;" } : Jvm.MethodName)) ∈ lw_all := lw_g (lw_at lw_m12 201 rfl) rfl
theorem q2942 : (Jvm.Cond.methodLink "SleeperRailway" (239 : Nat) ({ cls := "SleeperRailway$Journeys", name := "earliest", desc := "(I)I" } : Jvm.MethodName)) ∈ lw_all := lw_g (lw_at lw_m12 202 rfl) rfl
theorem q2947 : (Jvm.Cond.instanceMethod ({ cls := "SleeperRailway", name := "arrival", desc := "(III)I" } : Jvm.MethodName)) ∈ lw_all := lw_g (lw_at lw_m12 207 rfl) rfl
theorem q2948 : (Jvm.Cond.selects "SleeperRailway" ({ cls := "SleeperRailway", name := "arrival", desc := "(III)I" } : Jvm.MethodName) ({ cls := "SleeperRailway", name := "arrival", desc := "(III)I" } : Jvm.MethodName)) ∈ lw_all := lw_g (lw_at lw_m12 208 rfl) rfl
theorem q2949 : (Jvm.Cond.code ({ cls := "SleeperRailway", name := "arrival", desc := "(III)I" } : Jvm.MethodName) prog_1_method_40_code (4 : Nat) (Option.some Jvm.ClassFile.FieldType.int)) ∈ lw_all := lw_g (lw_at lw_m12 209 rfl) rfl
theorem q2954 : (Jvm.Cond.instanceMethod ({ cls := "SleeperRailway", name := "arrivalByScanning", desc := "(III)I" } : Jvm.MethodName)) ∈ lw_all := lw_g (lw_at lw_m12 214 rfl) rfl
theorem q2955 : (Jvm.Cond.selects "SleeperRailway" ({ cls := "SleeperRailway", name := "arrivalByScanning", desc := "(III)I" } : Jvm.MethodName) ({ cls := "SleeperRailway", name := "arrivalByScanning", desc := "(III)I" } : Jvm.MethodName)) ∈ lw_all := lw_g (lw_at lw_m12 215 rfl) rfl
theorem q2956 : (Jvm.Cond.code ({ cls := "SleeperRailway", name := "arrivalByScanning", desc := "(III)I" } : Jvm.MethodName) prog_1_method_41_code (4 : Nat) (Option.some Jvm.ClassFile.FieldType.int)) ∈ lw_all := lw_g (lw_at lw_m12 216 rfl) rfl
theorem q2957 : (Jvm.Cond.methodLink "SleeperRailway" (242 : Nat) ({ cls := "SleeperRailway$Journeys", name := "scan", desc := "()LSleeperRailway$Journeys;" } : Jvm.MethodName)) ∈ lw_all := lw_g (lw_at lw_m12 217 rfl) rfl
theorem q2962 : (Jvm.Cond.instanceMethod ({ cls := "SleeperRailway", name := "boardings", desc := "(III)I" } : Jvm.MethodName)) ∈ lw_all := lw_g (lw_at lw_m12 222 rfl) rfl
theorem q2963 : (Jvm.Cond.selects "SleeperRailway" ({ cls := "SleeperRailway", name := "boardings", desc := "(III)I" } : Jvm.MethodName) ({ cls := "SleeperRailway", name := "boardings", desc := "(III)I" } : Jvm.MethodName)) ∈ lw_all := lw_g (lw_at lw_m12 223 rfl) rfl
theorem q2964 : (Jvm.Cond.code ({ cls := "SleeperRailway", name := "boardings", desc := "(III)I" } : Jvm.MethodName) prog_1_method_42_code (4 : Nat) (Option.some Jvm.ClassFile.FieldType.int)) ∈ lw_all := lw_g (lw_at lw_m12 224 rfl) rfl
theorem q2965 : (Jvm.Cond.methodLink "SleeperRailway" (245 : Nat) ({ cls := "SleeperRailway$Journeys", name := "boardings", desc := "(I)I" } : Jvm.MethodName)) ∈ lw_all := lw_g (lw_at lw_m12 225 rfl) rfl
theorem q2979 : (Jvm.Cond.instanceMethod ({ cls := "SleeperRailway", name := "suitcaseAt", desc := "(I)I" } : Jvm.MethodName)) ∈ lw_all := lw_g (lw_at lw_m12 239 rfl) rfl
theorem q2980 : (Jvm.Cond.selects "SleeperRailway" ({ cls := "SleeperRailway", name := "suitcaseAt", desc := "(I)I" } : Jvm.MethodName) ({ cls := "SleeperRailway", name := "suitcaseAt", desc := "(I)I" } : Jvm.MethodName)) ∈ lw_all := lw_g (lw_at lw_m13 0 rfl) rfl
theorem q2981 : (Jvm.Cond.code ({ cls := "SleeperRailway", name := "suitcaseAt", desc := "(I)I" } : Jvm.MethodName) prog_1_method_45_code (2 : Nat) (Option.some Jvm.ClassFile.FieldType.int)) ∈ lw_all := lw_g (lw_at lw_m13 1 rfl) rfl
theorem q2982 : (Jvm.Cond.classLink "SleeperRailway" (271 : Nat) "java/util/ArrayList") ∈ lw_all := lw_g (lw_at lw_m13 2 rfl) rfl
theorem q2983 : (Jvm.Cond.methodLink "SleeperRailway" (273 : Nat) ({ cls := "java/util/TreeMap", name := "values", desc := "()Ljava/util/Collection;" } : Jvm.MethodName)) ∈ lw_all := lw_g (lw_at lw_m13 3 rfl) rfl
theorem q2984 : (Jvm.Cond.methodLink "SleeperRailway" (277 : Nat) ({ cls := "java/util/ArrayList", name := "<init>", desc := "(Ljava/util/Collection;)V" } : Jvm.MethodName)) ∈ lw_all := lw_g (lw_at lw_m13 4 rfl) rfl
theorem q3051 : (Jvm.Cond.methodLink "SleeperRailway" (280 : Nat) ({ cls := "java/util/ArrayList", name := "get", desc := "(I)Ljava/lang/Object;" } : Jvm.MethodName)) ∈ lw_all := lw_g (lw_at lw_m13 71 rfl) rfl
theorem q3052 : (Jvm.Cond.classLink "SleeperRailway" (265 : Nat) "SleeperRailway$Suitcase") ∈ lw_all := lw_g (lw_at lw_m13 72 rfl) rfl
theorem q3053 : (Jvm.Cond.methodLink "SleeperRailway" (281 : Nat) ({ cls := "SleeperRailway$Suitcase", name := "id", desc := "()I" } : Jvm.MethodName)) ∈ lw_all := lw_g (lw_at lw_m13 73 rfl) rfl
theorem q3058 : (Jvm.Cond.instanceMethod ({ cls := "SleeperRailway", name := "stationOf", desc := "(I)I" } : Jvm.MethodName)) ∈ lw_all := lw_g (lw_at lw_m13 78 rfl) rfl
theorem q3059 : (Jvm.Cond.selects "SleeperRailway" ({ cls := "SleeperRailway", name := "stationOf", desc := "(I)I" } : Jvm.MethodName) ({ cls := "SleeperRailway", name := "stationOf", desc := "(I)I" } : Jvm.MethodName)) ∈ lw_all := lw_g (lw_at lw_m13 79 rfl) rfl
theorem q3060 : (Jvm.Cond.code ({ cls := "SleeperRailway", name := "stationOf", desc := "(I)I" } : Jvm.MethodName) prog_1_method_46_code (2 : Nat) (Option.some Jvm.ClassFile.FieldType.int)) ∈ lw_all := lw_g (lw_at lw_m13 80 rfl) rfl
theorem q3061 : (Jvm.Cond.methodLink "SleeperRailway" (284 : Nat) ({ cls := "SleeperRailway", name := "suitcaseWith", desc := "(I)LSleeperRailway$Suitcase;" } : Jvm.MethodName)) ∈ lw_all := lw_g (lw_at lw_m13 81 rfl) rfl
theorem q3062 : (Jvm.Cond.privateMethod ({ cls := "SleeperRailway", name := "suitcaseWith", desc := "(I)LSleeperRailway$Suitcase;" } : Jvm.MethodName)) ∈ lw_tbl := lw_at lw_m13 82 rfl
theorem q3063 : (Jvm.Cond.instanceMethod ({ cls := "SleeperRailway", name := "suitcaseWith", desc := "(I)LSleeperRailway$Suitcase;" } : Jvm.MethodName)) ∈ lw_all := lw_g (lw_at lw_m13 83 rfl) rfl
theorem q3064 : (Jvm.Cond.code ({ cls := "SleeperRailway", name := "suitcaseWith", desc := "(I)LSleeperRailway$Suitcase;" } : Jvm.MethodName) prog_1_method_43_code (2 : Nat) (Option.some (Jvm.ClassFile.FieldType.object "SleeperRailway$Suitcase"))) ∈ lw_all := lw_g (lw_at lw_m13 84 rfl) rfl
theorem q3065 : (Jvm.Cond.methodLink "SleeperRailway" (252 : Nat) ({ cls := "java/lang/Integer", name := "valueOf", desc := "(I)Ljava/lang/Integer;" } : Jvm.MethodName)) ∈ lw_all := lw_g (lw_at lw_m13 85 rfl) rfl
theorem q3066 : (Jvm.Cond.methodLink "SleeperRailway" (256 : Nat) ({ cls := "java/util/TreeMap", name := "containsKey", desc := "(Ljava/lang/Object;)Z" } : Jvm.MethodName)) ∈ lw_all := lw_g (lw_at lw_m13 86 rfl) rfl
theorem q3067 : (Jvm.Cond.methodLink "SleeperRailway" (262 : Nat) ({ cls := "java/util/TreeMap", name := "get", desc := "(Ljava/lang/Object;)Ljava/lang/Object;" } : Jvm.MethodName)) ∈ lw_all := lw_g (lw_at lw_m13 87 rfl) rfl
theorem q3068 : (Jvm.Cond.methodLink "SleeperRailway" (288 : Nat) ({ cls := "SleeperRailway$Suitcase", name := "station", desc := "()I" } : Jvm.MethodName)) ∈ lw_all := lw_g (lw_at lw_m13 88 rfl) rfl
theorem q3073 : (Jvm.Cond.instanceMethod ({ cls := "SleeperRailway", name := "destinationOf", desc := "(I)I" } : Jvm.MethodName)) ∈ lw_all := lw_g (lw_at lw_m13 93 rfl) rfl
theorem q3074 : (Jvm.Cond.selects "SleeperRailway" ({ cls := "SleeperRailway", name := "destinationOf", desc := "(I)I" } : Jvm.MethodName) ({ cls := "SleeperRailway", name := "destinationOf", desc := "(I)I" } : Jvm.MethodName)) ∈ lw_all := lw_g (lw_at lw_m13 94 rfl) rfl
theorem q3075 : (Jvm.Cond.code ({ cls := "SleeperRailway", name := "destinationOf", desc := "(I)I" } : Jvm.MethodName) prog_1_method_47_code (2 : Nat) (Option.some Jvm.ClassFile.FieldType.int)) ∈ lw_all := lw_g (lw_at lw_m13 95 rfl) rfl
theorem q3076 : (Jvm.Cond.methodLink "SleeperRailway" (290 : Nat) ({ cls := "SleeperRailway$Suitcase", name := "destination", desc := "()I" } : Jvm.MethodName)) ∈ lw_all := lw_g (lw_at lw_m13 96 rfl) rfl
theorem q3081 : (Jvm.Cond.instanceMethod ({ cls := "SleeperRailway", name := "readyAt", desc := "(I)I" } : Jvm.MethodName)) ∈ lw_all := lw_g (lw_at lw_m13 101 rfl) rfl
theorem q3082 : (Jvm.Cond.selects "SleeperRailway" ({ cls := "SleeperRailway", name := "readyAt", desc := "(I)I" } : Jvm.MethodName) ({ cls := "SleeperRailway", name := "readyAt", desc := "(I)I" } : Jvm.MethodName)) ∈ lw_all := lw_g (lw_at lw_m13 102 rfl) rfl
theorem q3083 : (Jvm.Cond.code ({ cls := "SleeperRailway", name := "readyAt", desc := "(I)I" } : Jvm.MethodName) prog_1_method_48_code (2 : Nat) (Option.some Jvm.ClassFile.FieldType.int)) ∈ lw_all := lw_g (lw_at lw_m13 103 rfl) rfl
theorem q3084 : (Jvm.Cond.methodLink "SleeperRailway" (293 : Nat) ({ cls := "SleeperRailway$Suitcase", name := "ready", desc := "()I" } : Jvm.MethodName)) ∈ lw_all := lw_g (lw_at lw_m13 104 rfl) rfl
theorem q3089 : (Jvm.Cond.instanceMethod ({ cls := "SleeperRailway", name := "isThere", desc := "(I)Z" } : Jvm.MethodName)) ∈ lw_all := lw_g (lw_at lw_m13 109 rfl) rfl
theorem q3090 : (Jvm.Cond.selects "SleeperRailway" ({ cls := "SleeperRailway", name := "isThere", desc := "(I)Z" } : Jvm.MethodName) ({ cls := "SleeperRailway", name := "isThere", desc := "(I)Z" } : Jvm.MethodName)) ∈ lw_all := lw_g (lw_at lw_m13 110 rfl) rfl
theorem q3091 : (Jvm.Cond.code ({ cls := "SleeperRailway", name := "isThere", desc := "(I)Z" } : Jvm.MethodName) prog_1_method_49_code (2 : Nat) (Option.some Jvm.ClassFile.FieldType.boolean)) ∈ lw_all := lw_g (lw_at lw_m13 111 rfl) rfl
theorem q3092 : (Jvm.Cond.methodLink "SleeperRailway" (296 : Nat) ({ cls := "SleeperRailway$Suitcase", name := "isThere", desc := "()Z" } : Jvm.MethodName)) ∈ lw_all := lw_g (lw_at lw_m13 112 rfl) rfl
theorem q3097 : (Jvm.Cond.instanceMethod ({ cls := "SleeperRailway", name := "suitcaseByReady", desc := "(I)I" } : Jvm.MethodName)) ∈ lw_all := lw_g (lw_at lw_m13 117 rfl) rfl
theorem q3098 : (Jvm.Cond.selects "SleeperRailway" ({ cls := "SleeperRailway", name := "suitcaseByReady", desc := "(I)I" } : Jvm.MethodName) ({ cls := "SleeperRailway", name := "suitcaseByReady", desc := "(I)I" } : Jvm.MethodName)) ∈ lw_all := lw_g (lw_at lw_m13 118 rfl) rfl
theorem q3099 : (Jvm.Cond.code ({ cls := "SleeperRailway", name := "suitcaseByReady", desc := "(I)I" } : Jvm.MethodName) prog_1_method_50_code (2 : Nat) (Option.some Jvm.ClassFile.FieldType.int)) ∈ lw_all := lw_g (lw_at lw_m13 119 rfl) rfl
theorem q3100 : (Jvm.Cond.methodLink "SleeperRailway" (300 : Nat) ({ cls := "SleeperRailway$Railway", name := "suitcaseAt", desc := "(I)I" } : Jvm.MethodName)) ∈ lw_all := lw_g (lw_at lw_m13 120 rfl) rfl
theorem q3112 : (Jvm.Cond.instanceMethod ({ cls := "SleeperRailway", name := "bookingAt", desc := "(I)I" } : Jvm.MethodName)) ∈ lw_all := lw_g (lw_at lw_m13 132 rfl) rfl
theorem q3113 : (Jvm.Cond.selects "SleeperRailway" ({ cls := "SleeperRailway", name := "bookingAt", desc := "(I)I" } : Jvm.MethodName) ({ cls := "SleeperRailway", name := "bookingAt", desc := "(I)I" } : Jvm.MethodName)) ∈ lw_all := lw_g (lw_at lw_m13 133 rfl) rfl
theorem q3114 : (Jvm.Cond.code ({ cls := "SleeperRailway", name := "bookingAt", desc := "(I)I" } : Jvm.MethodName) prog_1_method_53_code (2 : Nat) (Option.some Jvm.ClassFile.FieldType.int)) ∈ lw_all := lw_g (lw_at lw_m13 134 rfl) rfl
theorem q3115 : (Jvm.Cond.methodLink "SleeperRailway" (308 : Nat) ({ cls := "SleeperRailway", name := "bookingCount", desc := "()I" } : Jvm.MethodName)) ∈ lw_all := lw_g (lw_at lw_m13 135 rfl) rfl
theorem q3116 : (Jvm.Cond.classLink "SleeperRailway" (306 : Nat) "SleeperRailway$Booking") ∈ lw_all := lw_g (lw_at lw_m13 136 rfl) rfl
theorem q3121 : (Jvm.Cond.instanceMethod ({ cls := "SleeperRailway", name := "berthsNeeded", desc := "(I)I" } : Jvm.MethodName)) ∈ lw_all := lw_g (lw_at lw_m13 141 rfl) rfl
theorem q3122 : (Jvm.Cond.selects "SleeperRailway" ({ cls := "SleeperRailway", name := "berthsNeeded", desc := "(I)I" } : Jvm.MethodName) ({ cls := "SleeperRailway", name := "berthsNeeded", desc := "(I)I" } : Jvm.MethodName)) ∈ lw_all := lw_g (lw_at lw_m13 142 rfl) rfl
theorem q3123 : (Jvm.Cond.code ({ cls := "SleeperRailway", name := "berthsNeeded", desc := "(I)I" } : Jvm.MethodName) prog_1_method_54_code (2 : Nat) (Option.some Jvm.ClassFile.FieldType.int)) ∈ lw_all := lw_g (lw_at lw_m13 143 rfl) rfl
theorem q3124 : (Jvm.Cond.methodLink "SleeperRailway" (313 : Nat) ({ cls := "SleeperRailway$Railway", name := "berths", desc := "(I)LSleeperRailway$Berths;" } : Jvm.MethodName)) ∈ lw_all := lw_g (lw_at lw_m13 144 rfl) rfl
theorem q3129 : (Jvm.Cond.instanceMethod ({ cls := "SleeperRailway", name := "berthsNeededByLegs", desc := "(I)I" } : Jvm.MethodName)) ∈ lw_all := lw_g (lw_at lw_m13 149 rfl) rfl
theorem q3130 : (Jvm.Cond.selects "SleeperRailway" ({ cls := "SleeperRailway", name := "berthsNeededByLegs", desc := "(I)I" } : Jvm.MethodName) ({ cls := "SleeperRailway", name := "berthsNeededByLegs", desc := "(I)I" } : Jvm.MethodName)) ∈ lw_all := lw_g (lw_at lw_m13 150 rfl) rfl
theorem q3131 : (Jvm.Cond.code ({ cls := "SleeperRailway", name := "berthsNeededByLegs", desc := "(I)I" } : Jvm.MethodName) prog_1_method_55_code (2 : Nat) (Option.some Jvm.ClassFile.FieldType.int)) ∈ lw_all := lw_g (lw_at lw_m13 151 rfl) rfl
theorem q3132 : (Jvm.Cond.methodLink "SleeperRailway" (322 : Nat) ({ cls := "SleeperRailway$Railway", name := "berthsByLegs", desc := "(I)I" } : Jvm.MethodName)) ∈ lw_all := lw_g (lw_at lw_m13 152 rfl) rfl
theorem q3137 : (Jvm.Cond.instanceMethod ({ cls := "SleeperRailway", name := "berthOf", desc := "(I)I" } : Jvm.MethodName)) ∈ lw_all := lw_g (lw_at lw_m13 157 rfl) rfl
theorem q3138 : (Jvm.Cond.selects "SleeperRailway" ({ cls := "SleeperRailway", name := "berthOf", desc := "(I)I" } : Jvm.MethodName) ({ cls := "SleeperRailway", name := "berthOf", desc := "(I)I" } : Jvm.MethodName)) ∈ lw_all := lw_g (lw_at lw_m13 158 rfl) rfl
theorem q3139 : (Jvm.Cond.code ({ cls := "SleeperRailway", name := "berthOf", desc := "(I)I" } : Jvm.MethodName) prog_1_method_56_code (3 : Nat) (Option.some Jvm.ClassFile.FieldType.int)) ∈ lw_all := lw_g (lw_at lw_m13 159 rfl) rfl
theorem q3140 : (Jvm.Cond.methodLink "SleeperRailway" (325 : Nat) ({ cls := "SleeperRailway", name := "bookingWith", desc := "(I)LSleeperRailway$Booking;" } : Jvm.MethodName)) ∈ lw_all := lw_g (lw_at lw_m13 160 rfl) rfl
theorem q3141 : (Jvm.Cond.privateMethod ({ cls := "SleeperRailway", name := "bookingWith", desc := "(I)LSleeperRailway$Booking;" } : Jvm.MethodName)) ∈ lw_tbl := lw_at lw_m13 161 rfl
theorem q3142 : (Jvm.Cond.instanceMethod ({ cls := "SleeperRailway", name := "bookingWith", desc := "(I)LSleeperRailway$Booking;" } : Jvm.MethodName)) ∈ lw_all := lw_g (lw_at lw_m13 162 rfl) rfl
theorem q3143 : (Jvm.Cond.code ({ cls := "SleeperRailway", name := "bookingWith", desc := "(I)LSleeperRailway$Booking;" } : Jvm.MethodName) prog_1_method_51_code (2 : Nat) (Option.some (Jvm.ClassFile.FieldType.object "SleeperRailway$Booking"))) ∈ lw_all := lw_g (lw_at lw_m13 163 rfl) rfl
theorem q3144 : (Jvm.Cond.methodLink "SleeperRailway" (331 : Nat) ({ cls := "SleeperRailway$Berths", name := "berthOf", desc := "(LSleeperRailway$Booking;)I" } : Jvm.MethodName)) ∈ lw_all := lw_g (lw_at lw_m13 164 rfl) rfl
theorem q3165 : (Jvm.Cond.selects "SleeperRailway" ({ cls := "java/lang/Object", name := "equals", desc := "(Ljava/lang/Object;)Z" } : Jvm.MethodName) ({ cls := "java/lang/Object", name := "equals", desc := "(Ljava/lang/Object;)Z" } : Jvm.MethodName)) ∈ lw_all := lw_g (lw_at lw_m13 185 rfl) rfl
theorem q3228 : (Jvm.Cond.instanceMethod ({ cls := "SleeperRailway", name := "meanLoad", desc := "()D" } : Jvm.MethodName)) ∈ lw_all := lw_g (lw_at lw_m14 8 rfl) rfl
theorem q3229 : (Jvm.Cond.selects "SleeperRailway" ({ cls := "SleeperRailway", name := "meanLoad", desc := "()D" } : Jvm.MethodName) ({ cls := "SleeperRailway", name := "meanLoad", desc := "()D" } : Jvm.MethodName)) ∈ lw_all := lw_g (lw_at lw_m14 9 rfl) rfl
theorem q3230 : (Jvm.Cond.code ({ cls := "SleeperRailway", name := "meanLoad", desc := "()D" } : Jvm.MethodName) prog_1_method_61_code (2 : Nat) (Option.some Jvm.ClassFile.FieldType.double)) ∈ lw_all := lw_g (lw_at lw_m14 10 rfl) rfl
theorem q3231 : (Jvm.Cond.methodLink "SleeperRailway" (350 : Nat) ({ cls := "SleeperRailway", name := "legsAsDivisor", desc := "()I" } : Jvm.MethodName)) ∈ lw_all := lw_g (lw_at lw_m14 11 rfl) rfl
theorem q3232 : (Jvm.Cond.privateMethod ({ cls := "SleeperRailway", name := "legsAsDivisor", desc := "()I" } : Jvm.MethodName)) ∈ lw_tbl := lw_at lw_m14 12 rfl
theorem q3233 : (Jvm.Cond.instanceMethod ({ cls := "SleeperRailway", name := "legsAsDivisor", desc := "()I" } : Jvm.MethodName)) ∈ lw_all := lw_g (lw_at lw_m14 13 rfl) rfl
theorem q3234 : (Jvm.Cond.code ({ cls := "SleeperRailway", name := "legsAsDivisor", desc := "()I" } : Jvm.MethodName) prog_1_method_60_code (2 : Nat) (Option.some Jvm.ClassFile.FieldType.int)) ∈ lw_all := lw_g (lw_at lw_m14 14 rfl) rfl
theorem q3235 : (Jvm.Cond.methodLink "SleeperRailway" (344 : Nat) ({ cls := "SleeperRailway$Timetable", name := "legCount", desc := "()I" } : Jvm.MethodName)) ∈ lw_all := lw_g (lw_at lw_m14 15 rfl) rfl
theorem q3240 : (Jvm.Cond.classLink "SleeperRailway" (347 : Nat) "java/lang/ArithmeticException") ∈ lw_all := lw_g (lw_at lw_m14 20 rfl) rfl
theorem q3241 : (Jvm.Cond.methodLink "SleeperRailway" (349 : Nat) ({ cls := "java/lang/ArithmeticException", name := "<init>", desc := "()V" } : Jvm.MethodName)) ∈ lw_all := lw_g (lw_at lw_m14 21 rfl) rfl
theorem q3245 : (Jvm.Cond.methodLink "SleeperRailway" (353 : Nat) ({ cls := "SleeperRailway$Timetable", name := "loadTotal", desc := "()I" } : Jvm.MethodName)) ∈ lw_all := lw_g (lw_at lw_m14 25 rfl) rfl
theorem q3254 : (Jvm.Cond.instanceMethod ({ cls := "SleeperRailway", name := "fullShare", desc := "()F" } : Jvm.MethodName)) ∈ lw_all := lw_g (lw_at lw_m14 34 rfl) rfl
theorem q3255 : (Jvm.Cond.selects "SleeperRailway" ({ cls := "SleeperRailway", name := "fullShare", desc := "()F" } : Jvm.MethodName) ({ cls := "SleeperRailway", name := "fullShare", desc := "()F" } : Jvm.MethodName)) ∈ lw_all := lw_g (lw_at lw_m14 35 rfl) rfl
theorem q3256 : (Jvm.Cond.code ({ cls := "SleeperRailway", name := "fullShare", desc := "()F" } : Jvm.MethodName) prog_1_method_62_code (2 : Nat) (Option.some Jvm.ClassFile.FieldType.float)) ∈ lw_all := lw_g (lw_at lw_m14 36 rfl) rfl
theorem q3257 : (Jvm.Cond.methodLink "SleeperRailway" (356 : Nat) ({ cls := "SleeperRailway$Timetable", name := "fullCount", desc := "()I" } : Jvm.MethodName)) ∈ lw_all := lw_g (lw_at lw_m14 37 rfl) rfl
theorem q3265 : (Jvm.Cond.instanceMethod ({ cls := "SleeperRailway", name := "renderTrain", desc := "(I)I" } : Jvm.MethodName)) ∈ lw_all := lw_g (lw_at lw_m14 45 rfl) rfl
theorem q3266 : (Jvm.Cond.selects "SleeperRailway" ({ cls := "SleeperRailway", name := "renderTrain", desc := "(I)I" } : Jvm.MethodName) ({ cls := "SleeperRailway", name := "renderTrain", desc := "(I)I" } : Jvm.MethodName)) ∈ lw_all := lw_g (lw_at lw_m14 46 rfl) rfl
theorem q3267 : (Jvm.Cond.code ({ cls := "SleeperRailway", name := "renderTrain", desc := "(I)I" } : Jvm.MethodName) prog_1_method_65_code (2 : Nat) (Option.some Jvm.ClassFile.FieldType.int)) ∈ lw_all := lw_g (lw_at lw_m14 47 rfl) rfl
theorem q3268 : (Jvm.Cond.methodLink "SleeperRailway" (367 : Nat) ({ cls := "java/lang/StringBuilder", name := "append", desc := "(I)Ljava/lang/StringBuilder;" } : Jvm.MethodName)) ∈ lw_all := lw_g (lw_at lw_m14 48 rfl) rfl
theorem q3269 : (Jvm.Cond.stringRef "SleeperRailway" (371 : Nat) ":") ∈ lw_tbl := lw_at lw_m14 49 rfl
theorem q3270 : (Jvm.Cond.methodLink "SleeperRailway" (373 : Nat) ({ cls := "java/lang/StringBuilder", name := "append", desc := "(Ljava/lang/String;)Ljava/lang/StringBuilder;" } : Jvm.MethodName)) ∈ lw_all := lw_g (lw_at lw_m14 50 rfl) rfl
theorem q3271 : (Jvm.Cond.methodLink "SleeperRailway" (376 : Nat) ({ cls := "SleeperRailway$Train", name := "toString", desc := "()Ljava/lang/String;" } : Jvm.MethodName)) ∈ lw_all := lw_g (lw_at lw_m14 51 rfl) rfl
theorem q3283 : (Jvm.Cond.methodLink "SleeperRailway" (380 : Nat) ({ cls := "java/lang/StringBuilder", name := "toString", desc := "()Ljava/lang/String;" } : Jvm.MethodName)) ∈ lw_all := lw_g (lw_at lw_m14 63 rfl) rfl
theorem q3284 : (Jvm.Cond.methodLink "SleeperRailway" (381 : Nat) ({ cls := "SleeperRailway", name := "write", desc := "(Ljava/lang/String;)I" } : Jvm.MethodName)) ∈ lw_all := lw_g (lw_at lw_m14 64 rfl) rfl
theorem q3285 : (Jvm.Cond.privateMethod ({ cls := "SleeperRailway", name := "write", desc := "(Ljava/lang/String;)I" } : Jvm.MethodName)) ∈ lw_tbl := lw_at lw_m14 65 rfl
theorem q3286 : (Jvm.Cond.instanceMethod ({ cls := "SleeperRailway", name := "write", desc := "(Ljava/lang/String;)I" } : Jvm.MethodName)) ∈ lw_all := lw_g (lw_at lw_m14 66 rfl) rfl
theorem q3287 : (Jvm.Cond.code ({ cls := "SleeperRailway", name := "write", desc := "(Ljava/lang/String;)I" } : Jvm.MethodName) prog_1_method_64_code (2 : Nat) (Option.some Jvm.ClassFile.FieldType.int)) ∈ lw_all := lw_g (lw_at lw_m14 67 rfl) rfl
theorem q3288 : (Jvm.Cond.methodLink "SleeperRailway" (362 : Nat) ({ cls := "java/lang/String", name := "length", desc := "()I" } : Jvm.MethodName)) ∈ lw_all := lw_g (lw_at lw_m14 68 rfl) rfl
theorem q3293 : (Jvm.Cond.instanceMethod ({ cls := "SleeperRailway", name := "renderSuitcase", desc := "(I)I" } : Jvm.MethodName)) ∈ lw_all := lw_g (lw_at lw_m14 73 rfl) rfl
theorem q3294 : (Jvm.Cond.selects "SleeperRailway" ({ cls := "SleeperRailway", name := "renderSuitcase", desc := "(I)I" } : Jvm.MethodName) ({ cls := "SleeperRailway", name := "renderSuitcase", desc := "(I)I" } : Jvm.MethodName)) ∈ lw_all := lw_g (lw_at lw_m14 74 rfl) rfl
theorem q3295 : (Jvm.Cond.code ({ cls := "SleeperRailway", name := "renderSuitcase", desc := "(I)I" } : Jvm.MethodName) prog_1_method_66_code (2 : Nat) (Option.some Jvm.ClassFile.FieldType.int)) ∈ lw_all := lw_g (lw_at lw_m14 75 rfl) rfl
theorem q3296 : (Jvm.Cond.methodLink "SleeperRailway" (385 : Nat) ({ cls := "SleeperRailway$Suitcase", name := "toString", desc := "()Ljava/lang/String;" } : Jvm.MethodName)) ∈ lw_all := lw_g (lw_at lw_m14 76 rfl) rfl
theorem q3312 : (Jvm.Cond.instanceMethod ({ cls := "SleeperRailway", name := "outputAt", desc := "(I)C" } : Jvm.MethodName)) ∈ lw_all := lw_g (lw_at lw_m14 92 rfl) rfl
theorem q3313 : (Jvm.Cond.selects "SleeperRailway" ({ cls := "SleeperRailway", name := "outputAt", desc := "(I)C" } : Jvm.MethodName) ({ cls := "SleeperRailway", name := "outputAt", desc := "(I)C" } : Jvm.MethodName)) ∈ lw_all := lw_g (lw_at lw_m14 93 rfl) rfl
theorem q3314 : (Jvm.Cond.code ({ cls := "SleeperRailway", name := "outputAt", desc := "(I)C" } : Jvm.MethodName) prog_1_method_67_code (2 : Nat) (Option.some Jvm.ClassFile.FieldType.char)) ∈ lw_all := lw_g (lw_at lw_m14 94 rfl) rfl
theorem q3315 : (Jvm.Cond.methodLink "SleeperRailway" (386 : Nat) ({ cls := "java/lang/String", name := "charAt", desc := "(I)C" } : Jvm.MethodName)) ∈ lw_all := lw_g (lw_at lw_m14 95 rfl) rfl
theorem q3337 : (Jvm.Cond.instanceMethod ({ cls := "SleeperRailway", name := "type", desc := "(C)I" } : Jvm.MethodName)) ∈ lw_all := lw_g (lw_at lw_m14 117 rfl) rfl
theorem q3338 : (Jvm.Cond.selects "SleeperRailway" ({ cls := "SleeperRailway", name := "type", desc := "(C)I" } : Jvm.MethodName) ({ cls := "SleeperRailway", name := "type", desc := "(C)I" } : Jvm.MethodName)) ∈ lw_all := lw_g (lw_at lw_m14 118 rfl) rfl
theorem q3339 : (Jvm.Cond.code ({ cls := "SleeperRailway", name := "type", desc := "(C)I" } : Jvm.MethodName) prog_1_method_68_code (2 : Nat) (Option.some Jvm.ClassFile.FieldType.int)) ∈ lw_all := lw_g (lw_at lw_m14 119 rfl) rfl
theorem q3340 : (Jvm.Cond.methodLink "SleeperRailway" (390 : Nat) ({ cls := "java/lang/StringBuilder", name := "length", desc := "()I" } : Jvm.MethodName)) ∈ lw_all := lw_g (lw_at lw_m14 120 rfl) rfl
theorem q3341 : (Jvm.Cond.methodLink "SleeperRailway" (391 : Nat) ({ cls := "SleeperRailway", name := "checkState", desc := "(Z)V" } : Jvm.MethodName)) ∈ lw_all := lw_g (lw_at lw_m14 121 rfl) rfl
theorem q3342 : (Jvm.Cond.static ({ cls := "SleeperRailway", name := "checkState", desc := "(Z)V" } : Jvm.MethodName)) ∈ lw_all := lw_g (lw_at lw_m14 122 rfl) rfl
theorem q3343 : (Jvm.Cond.code ({ cls := "SleeperRailway", name := "checkState", desc := "(Z)V" } : Jvm.MethodName) prog_1_method_19_code (1 : Nat) (Option.none : Option Jvm.ClassFile.FieldType)) ∈ lw_all := lw_g (lw_at lw_m14 123 rfl) rfl
theorem q3344 : (Jvm.Cond.classLink "SleeperRailway" (116 : Nat) "java/lang/IllegalStateException") ∈ lw_all := lw_g (lw_at lw_m14 124 rfl) rfl
theorem q3345 : (Jvm.Cond.methodLink "SleeperRailway" (118 : Nat) ({ cls := "java/lang/IllegalStateException", name := "<init>", desc := "()V" } : Jvm.MethodName)) ∈ lw_all := lw_g (lw_at lw_m14 125 rfl) rfl
theorem q3346 : (Jvm.Cond.methodLink "SleeperRailway" (394 : Nat) ({ cls := "java/lang/StringBuilder", name := "append", desc := "(C)Ljava/lang/StringBuilder;" } : Jvm.MethodName)) ∈ lw_all := lw_g (lw_at lw_m14 126 rfl) rfl
theorem q3363 : (Jvm.Cond.instanceMethod ({ cls := "SleeperRailway", name := "runScript", desc := "()I" } : Jvm.MethodName)) ∈ lw_all := lw_g (lw_at lw_m14 143 rfl) rfl
theorem q3364 : (Jvm.Cond.selects "SleeperRailway" ({ cls := "SleeperRailway", name := "runScript", desc := "()I" } : Jvm.MethodName) ({ cls := "SleeperRailway", name := "runScript", desc := "()I" } : Jvm.MethodName)) ∈ lw_all := lw_g (lw_at lw_m14 144 rfl) rfl
theorem q3365 : (Jvm.Cond.codeWith ({ cls := "SleeperRailway", name := "runScript", desc := "()I" } : Jvm.MethodName) prog_1_method_70_code (3 : Nat) (Option.some Jvm.ClassFile.FieldType.int) [((16 : Nat), (31 : Nat), (32 : Nat), (416 : Nat)), ((16 : Nat), (31 : Nat), (46 : Nat), (397 : Nat))]) ∈ lw_all := lw_g (lw_at lw_m14 145 rfl) rfl
theorem q3366 : (Jvm.Cond.classLink "SleeperRailway" (416 : Nat) "SleeperRailway$SyntaxFailure") ∈ lw_all := lw_g (lw_at lw_m14 146 rfl) rfl
theorem q3367 : (Jvm.Cond.classLink "SleeperRailway" (397 : Nat) "SleeperRailway$CommandFailure") ∈ lw_all := lw_g (lw_at lw_m14 147 rfl) rfl
theorem q3368 : (Jvm.Cond.methodLink "SleeperRailway" (402 : Nat) ({ cls := "java/lang/StringBuilder", name := "setLength", desc := "(I)V" } : Jvm.MethodName)) ∈ lw_all := lw_g (lw_at lw_m14 148 rfl) rfl
theorem q3420 : (Jvm.Cond.classLink "SleeperRailway" (405 : Nat) "SleeperRailway$Parser") ∈ lw_all := lw_g (lw_at lw_m14 200 rfl) rfl
theorem q3422 : (Jvm.Cond.methodLink "SleeperRailway" (407 : Nat) ({ cls := "SleeperRailway$Parser", name := "<init>", desc := "(Ljava/lang/String;)V" } : Jvm.MethodName)) ∈ lw_all := lw_g (lw_at lw_m14 202 rfl) rfl
theorem q3433 : (Jvm.Cond.methodLink "SleeperRailway" (408 : Nat) ({ cls := "SleeperRailway$Parser", name := "commands", desc := "()Ljava/util/List;" } : Jvm.MethodName)) ∈ lw_all := lw_g (lw_at lw_m14 213 rfl) rfl
theorem q3470 : (Jvm.Cond.selects "SleeperRailway" ({ cls := "java/lang/Object", name := "toString", desc := "()Ljava/lang/String;" } : Jvm.MethodName) ({ cls := "java/lang/Object", name := "toString", desc := "()Ljava/lang/String;" } : Jvm.MethodName)) ∈ lw_all := lw_g (lw_at lw_m15 10 rfl) rfl
theorem q3619 : (Jvm.Cond.methodLink "SleeperRailway" (412 : Nat) ({ cls := "SleeperRailway", name := "execute", desc := "(Ljava/util/List;)I" } : Jvm.MethodName)) ∈ lw_all := lw_g (lw_at lw_m15 159 rfl) rfl
theorem q3620 : (Jvm.Cond.privateMethod ({ cls := "SleeperRailway", name := "execute", desc := "(Ljava/util/List;)I" } : Jvm.MethodName)) ∈ lw_tbl := lw_at lw_m15 160 rfl
theorem q3621 : (Jvm.Cond.instanceMethod ({ cls := "SleeperRailway", name := "execute", desc := "(Ljava/util/List;)I" } : Jvm.MethodName)) ∈ lw_all := lw_g (lw_at lw_m15 161 rfl) rfl
theorem q3622 : (Jvm.Cond.codeWith ({ cls := "SleeperRailway", name := "execute", desc := "(Ljava/util/List;)I" } : Jvm.MethodName) prog_1_method_69_code (5 : Nat) (Option.some Jvm.ClassFile.FieldType.int) [((20 : Nat), (35 : Nat), (38 : Nat), (77 : Nat))]) ∈ lw_all := lw_g (lw_at lw_m15 162 rfl) rfl
theorem q3631 : (Jvm.Cond.methodLink "SleeperRailway" (399 : Nat) ({ cls := "SleeperRailway$CommandFailure", name := "<init>", desc := "(ILSleeperRailway$Failure;)V" } : Jvm.MethodName)) ∈ lw_all := lw_g (lw_at lw_m15 171 rfl) rfl
theorem q3640 : (Jvm.Cond.methodLink "SleeperRailway" (418 : Nat) ({ cls := "SleeperRailway$SyntaxFailure", name := "position", desc := "()I" } : Jvm.MethodName)) ∈ lw_all := lw_g (lw_at lw_m15 180 rfl) rfl
theorem q3644 : (Jvm.Cond.methodLink "SleeperRailway" (421 : Nat) ({ cls := "SleeperRailway$SyntaxFailure", name := "asPublicException", desc := "()Ljava/lang/RuntimeException;" } : Jvm.MethodName)) ∈ lw_all := lw_g (lw_at lw_m15 184 rfl) rfl
theorem q3645 : (Jvm.Cond.methodLink "SleeperRailway" (422 : Nat) ({ cls := "SleeperRailway$CommandFailure", name := "index", desc := "()I" } : Jvm.MethodName)) ∈ lw_all := lw_g (lw_at lw_m15 185 rfl) rfl
theorem q3649 : (Jvm.Cond.methodLink "SleeperRailway" (425 : Nat) ({ cls := "SleeperRailway$CommandFailure", name := "asPublicException", desc := "()Ljava/lang/RuntimeException;" } : Jvm.MethodName)) ∈ lw_all := lw_g (lw_at lw_m15 189 rfl) rfl
theorem q3654 : (Jvm.Cond.instanceMethod ({ cls := "SleeperRailway", name := "errorPosition", desc := "()I" } : Jvm.MethodName)) ∈ lw_all := lw_g (lw_at lw_m15 194 rfl) rfl
theorem q3655 : (Jvm.Cond.selects "SleeperRailway" ({ cls := "SleeperRailway", name := "errorPosition", desc := "()I" } : Jvm.MethodName) ({ cls := "SleeperRailway", name := "errorPosition", desc := "()I" } : Jvm.MethodName)) ∈ lw_all := lw_g (lw_at lw_m15 195 rfl) rfl
theorem q3656 : (Jvm.Cond.code ({ cls := "SleeperRailway", name := "errorPosition", desc := "()I" } : Jvm.MethodName) prog_1_method_71_code (1 : Nat) (Option.some Jvm.ClassFile.FieldType.int)) ∈ lw_all := lw_g (lw_at lw_m15 196 rfl) rfl
theorem q3661 : (Jvm.Cond.instanceMethod ({ cls := "SleeperRailway", name := "failedCommand", desc := "()I" } : Jvm.MethodName)) ∈ lw_all := lw_g (lw_at lw_m15 201 rfl) rfl
theorem q3662 : (Jvm.Cond.selects "SleeperRailway" ({ cls := "SleeperRailway", name := "failedCommand", desc := "()I" } : Jvm.MethodName) ({ cls := "SleeperRailway", name := "failedCommand", desc := "()I" } : Jvm.MethodName)) ∈ lw_all := lw_g (lw_at lw_m15 202 rfl) rfl
theorem q3663 : (Jvm.Cond.code ({ cls := "SleeperRailway", name := "failedCommand", desc := "()I" } : Jvm.MethodName) prog_1_method_72_code (1 : Nat) (Option.some Jvm.ClassFile.FieldType.int)) ∈ lw_all := lw_g (lw_at lw_m15 203 rfl) rfl
theorem q3668 : (Jvm.Cond.instanceMethod ({ cls := "SleeperRailway", name := "undo", desc := "()I" } : Jvm.MethodName)) ∈ lw_all := lw_g (lw_at lw_m15 208 rfl) rfl
theorem q3669 : (Jvm.Cond.selects "SleeperRailway" ({ cls := "SleeperRailway", name := "undo", desc := "()I" } : Jvm.MethodName) ({ cls := "SleeperRailway", name := "undo", desc := "()I" } : Jvm.MethodName)) ∈ lw_all := lw_g (lw_at lw_m15 209 rfl) rfl
theorem q3670 : (Jvm.Cond.code ({ cls := "SleeperRailway", name := "undo", desc := "()I" } : Jvm.MethodName) prog_1_method_73_code (1 : Nat) (Option.some Jvm.ClassFile.FieldType.int)) ∈ lw_all := lw_g (lw_at lw_m15 210 rfl) rfl
theorem q3671 : (Jvm.Cond.methodLink "SleeperRailway" (426 : Nat) ({ cls := "java/util/LinkedList", name := "isEmpty", desc := "()Z" } : Jvm.MethodName)) ∈ lw_all := lw_g (lw_at lw_m15 211 rfl) rfl
theorem q3674 : (Jvm.Cond.methodLink "SleeperRailway" (429 : Nat) ({ cls := "java/util/LinkedList", name := "removeLast", desc := "()Ljava/lang/Object;" } : Jvm.MethodName)) ∈ lw_all := lw_g (lw_at lw_m15 214 rfl) rfl
theorem q3686 : (Jvm.Cond.instanceMethod ({ cls := "SleeperRailway", name := "restore", desc := "()I" } : Jvm.MethodName)) ∈ lw_all := lw_g (lw_at lw_m15 226 rfl) rfl
theorem q3687 : (Jvm.Cond.selects "SleeperRailway" ({ cls := "SleeperRailway", name := "restore", desc := "()I" } : Jvm.MethodName) ({ cls := "SleeperRailway", name := "restore", desc := "()I" } : Jvm.MethodName)) ∈ lw_all := lw_g (lw_at lw_m15 227 rfl) rfl
theorem q3688 : (Jvm.Cond.code ({ cls := "SleeperRailway", name := "restore", desc := "()I" } : Jvm.MethodName) prog_1_method_75_code (1 : Nat) (Option.some Jvm.ClassFile.FieldType.int)) ∈ lw_all := lw_g (lw_at lw_m15 228 rfl) rfl
theorem q3689 : (Jvm.Cond.methodLink "SleeperRailway" (435 : Nat) ({ cls := "java/util/LinkedList", name := "clear", desc := "()V" } : Jvm.MethodName)) ∈ lw_all := lw_g (lw_at lw_m15 229 rfl) rfl
theorem q4238 : (Jvm.Cond.castable "SleeperRailway" "java/lang/Object") ∈ lw_tbl := lw_at lw_m18 58 rfl
theorem in_X1 : ∀ w ∈ wsX10, w ∈ lw_all := lw_in wsX10 [364, 366, 368, 370, 372, 374, 376] (by decide +kernel) (by decide +kernel)
/-! SleeperRailway$Railway -/
set_option maxRecDepth 100000
def RX2 : String := "SleeperRailway$Railway"
def TX2 : u_T := fun k => match k with
  | 0 => ("SleeperRailway$Railway", "transfers", "Ljava/util/List;", true)
  | 1 => ("SleeperRailway$Railway", "timetable", "LSleeperRailway$Timetable;", false)
  | 2 => ("SleeperRailway$Railway", "suitcases", "Ljava/util/TreeMap;", true)
  | 3 => ("SleeperRailway$Railway", "bookings", "Ljava/util/TreeMap;", true)
  | 4 => ("SleeperRailway$Railway", "nextSuitcase", "I", false)
  | 5 => ("SleeperRailway$Railway", "nextBooking", "I", false)
  | 6 => ("SleeperRailway$Railway", "coins", "I", false)
  | _ => ("SleeperRailway$Railway", "collected", "I", false)
def tyX2 : Nat → FieldType := fun k => match k with
  | 0 => .object "java/util/List"
  | 1 => .object "SleeperRailway$Timetable"
  | 2 => .object "java/util/TreeMap"
  | 3 => .object "java/util/TreeMap"
  | 4 => .int
  | 5 => .int
  | 6 => .int
  | _ => .int
abbrev wsX20 : List Cond := u_ws RX2 TX2 8
theorem nmX2 : ∀ a, a < 8 → ∀ b, b < 8 → a ≠ b → (TX2 a).2.1 ≠ (TX2 b).2.1 := by decide +kernel
theorem tyX2_ok : ∀ k, k < 8 → parseFieldDescriptor (TX2 k).2.2.1 = some (tyX2 k) := by decide +kernel
abbrev cX2_init : ByteArray := prog_13_method_1_code
def yX2_init : MethodName := ⟨RX2, "<init>", "()V"⟩
def dkwX2_init_2 : List UInt8 := [181, 0, 32, 177]
abbrev dktX2_init_2 : List UInt8 := dkwX2_init_2 ++ []
def dkwX2_init_1 : List UInt8 := [181, 0, 21, 42, 187, 0, 25, 89, 183, 0, 27, 181, 0, 28, 42, 187, 0, 25, 89, 183, 0, 27]
abbrev dktX2_init_1 : List UInt8 := dkwX2_init_1 ++ dktX2_init_2
def dkwX2_init_0 : List UInt8 := [42, 183, 0, 3, 42, 187, 0, 9, 89, 183, 0, 11, 181, 0, 12, 42, 187, 0, 18, 89, 183, 0, 20]
abbrev dktX2_init_0 : List UInt8 := dkwX2_init_0 ++ dktX2_init_1
theorem dksX2_init_0 : cX2_init.data.toList.drop 0 = dktX2_init_0 := by decide +kernel
theorem dksX2_init_1 : cX2_init.data.toList.drop 23 = dktX2_init_1 := dk_seg dksX2_init_0 23 rfl rfl
theorem dksX2_init_2 : cX2_init.data.toList.drop 45 = dktX2_init_2 := dk_seg dksX2_init_1 22 rfl rfl
theorem dX2_init_0 : decode cX2_init 0 = .ok (.aload_n 0, 1) := dk_42 (dk_at dksX2_init_0 0 rfl rfl)
theorem dX2_init_1 : decode cX2_init 1 = .ok (.invokespecial 3, 3) := dk_183 0 3 (dk_at dksX2_init_0 1 rfl rfl)
theorem dX2_init_4 : decode cX2_init 4 = .ok (.aload_n 0, 1) := dk_42 (dk_at dksX2_init_0 4 rfl rfl)
theorem dX2_init_5 : decode cX2_init 5 = .ok (.new 9, 3) := dk_187 0 9 (dk_at dksX2_init_0 5 rfl rfl)
theorem dX2_init_8 : decode cX2_init 8 = .ok (.dup, 1) := dk_89 (dk_at dksX2_init_0 8 rfl rfl)
theorem dX2_init_9 : decode cX2_init 9 = .ok (.invokespecial 11, 3) := dk_183 0 11 (dk_at dksX2_init_0 9 rfl rfl)
theorem dX2_init_12 : decode cX2_init 12 = .ok (.putfield 12, 3) := dk_181 0 12 (dk_at dksX2_init_0 12 rfl rfl)
theorem dX2_init_15 : decode cX2_init 15 = .ok (.aload_n 0, 1) := dk_42 (dk_at dksX2_init_0 15 rfl rfl)
theorem dX2_init_16 : decode cX2_init 16 = .ok (.new 18, 3) := dk_187 0 18 (dk_at dksX2_init_0 16 rfl rfl)
theorem dX2_init_19 : decode cX2_init 19 = .ok (.dup, 1) := dk_89 (dk_at dksX2_init_0 19 rfl rfl)
theorem dX2_init_20 : decode cX2_init 20 = .ok (.invokespecial 20, 3) := dk_183 0 20 (dk_at dksX2_init_0 20 rfl rfl)
theorem dX2_init_23 : decode cX2_init 23 = .ok (.putfield 21, 3) := dk_181 0 21 (dk_at dksX2_init_1 0 rfl rfl)
theorem dX2_init_26 : decode cX2_init 26 = .ok (.aload_n 0, 1) := dk_42 (dk_at dksX2_init_1 3 rfl rfl)
theorem dX2_init_27 : decode cX2_init 27 = .ok (.new 25, 3) := dk_187 0 25 (dk_at dksX2_init_1 4 rfl rfl)
theorem dX2_init_30 : decode cX2_init 30 = .ok (.dup, 1) := dk_89 (dk_at dksX2_init_1 7 rfl rfl)
theorem dX2_init_31 : decode cX2_init 31 = .ok (.invokespecial 27, 3) := dk_183 0 27 (dk_at dksX2_init_1 8 rfl rfl)
theorem dX2_init_34 : decode cX2_init 34 = .ok (.putfield 28, 3) := dk_181 0 28 (dk_at dksX2_init_1 11 rfl rfl)
theorem dX2_init_37 : decode cX2_init 37 = .ok (.aload_n 0, 1) := dk_42 (dk_at dksX2_init_1 14 rfl rfl)
theorem dX2_init_38 : decode cX2_init 38 = .ok (.new 25, 3) := dk_187 0 25 (dk_at dksX2_init_1 15 rfl rfl)
theorem dX2_init_41 : decode cX2_init 41 = .ok (.dup, 1) := dk_89 (dk_at dksX2_init_1 18 rfl rfl)
theorem dX2_init_42 : decode cX2_init 42 = .ok (.invokespecial 27, 3) := dk_183 0 27 (dk_at dksX2_init_1 19 rfl rfl)
theorem dX2_init_45 : decode cX2_init 45 = .ok (.putfield 32, 3) := dk_181 0 32 (dk_at dksX2_init_2 0 rfl rfl)
theorem dX2_init_48 : decode cX2_init 48 = .ok (.return_, 1) := dk_177 (dk_at dksX2_init_2 3 rfl rfl)
abbrev cX2_coinsByLoads : ByteArray := prog_13_method_20_code
def yX2_coinsByLoads : MethodName := ⟨RX2, "coinsByLoads", "()I"⟩
def dkwX2_coinsByLoads_0 : List UInt8 := [5, 42, 180, 0, 21, 182, 1, 14, 104, 172]
abbrev dktX2_coinsByLoads_0 : List UInt8 := dkwX2_coinsByLoads_0 ++ []
theorem dksX2_coinsByLoads_0 : cX2_coinsByLoads.data.toList.drop 0 = dktX2_coinsByLoads_0 := by decide +kernel
theorem dX2_coinsByLoads_0 : decode cX2_coinsByLoads 0 = .ok (.iconst 2, 1) := dk_5 (dk_at dksX2_coinsByLoads_0 0 rfl rfl)
theorem dX2_coinsByLoads_1 : decode cX2_coinsByLoads 1 = .ok (.aload_n 0, 1) := dk_42 (dk_at dksX2_coinsByLoads_0 1 rfl rfl)
theorem dX2_coinsByLoads_2 : decode cX2_coinsByLoads 2 = .ok (.getfield 21, 3) := dk_180 0 21 (dk_at dksX2_coinsByLoads_0 2 rfl rfl)
theorem dX2_coinsByLoads_5 : decode cX2_coinsByLoads 5 = .ok (.invokevirtual 270, 3) := dk_182 1 14 (dk_at dksX2_coinsByLoads_0 5 rfl rfl)
theorem dX2_coinsByLoads_8 : decode cX2_coinsByLoads 8 = .ok (.imul, 1) := dk_104 (dk_at dksX2_coinsByLoads_0 8 rfl rfl)
theorem dX2_coinsByLoads_9 : decode cX2_coinsByLoads 9 = .ok (.ireturn, 1) := dk_172 (dk_at dksX2_coinsByLoads_0 9 rfl rfl)
abbrev cX2_isConsistent : ByteArray := prog_13_method_23_code
def yX2_isConsistent : MethodName := ⟨RX2, "isConsistent", "()Z"⟩
def dkwX2_isConsistent_1 : List UInt8 := [153, 0, 18, 42, 180, 0, 100, 42, 182, 1, 43, 160, 0, 7, 4, 167, 0, 4, 3, 172]
abbrev dktX2_isConsistent_1 : List UInt8 := dkwX2_isConsistent_1 ++ []
def dkwX2_isConsistent_0 : List UInt8 := [42, 3, 182, 1, 37, 153, 0, 35, 42, 17, 2, 88, 182, 1, 37, 153, 0, 25, 42, 182, 1, 40]
abbrev dktX2_isConsistent_0 : List UInt8 := dkwX2_isConsistent_0 ++ dktX2_isConsistent_1
theorem dksX2_isConsistent_0 : cX2_isConsistent.data.toList.drop 0 = dktX2_isConsistent_0 := by decide +kernel
theorem dksX2_isConsistent_1 : cX2_isConsistent.data.toList.drop 22 = dktX2_isConsistent_1 := dk_seg dksX2_isConsistent_0 22 rfl rfl
theorem dX2_isConsistent_0 : decode cX2_isConsistent 0 = .ok (.aload_n 0, 1) := dk_42 (dk_at dksX2_isConsistent_0 0 rfl rfl)
theorem dX2_isConsistent_1 : decode cX2_isConsistent 1 = .ok (.iconst 0, 1) := dk_3 (dk_at dksX2_isConsistent_0 1 rfl rfl)
theorem dX2_isConsistent_2 : decode cX2_isConsistent 2 = .ok (.invokevirtual 293, 3) := dk_182 1 37 (dk_at dksX2_isConsistent_0 2 rfl rfl)
theorem dX2_isConsistent_5 : decode cX2_isConsistent 5 = .ok (.ifCond .eq 35, 3) := dk_153 0 35 (dk_at dksX2_isConsistent_0 5 rfl rfl)
theorem dX2_isConsistent_8 : decode cX2_isConsistent 8 = .ok (.aload_n 0, 1) := dk_42 (dk_at dksX2_isConsistent_0 8 rfl rfl)
theorem dX2_isConsistent_9 : decode cX2_isConsistent 9 = .ok (.sipush 600, 3) := dk_17 2 88 (dk_at dksX2_isConsistent_0 9 rfl rfl)
theorem dX2_isConsistent_12 : decode cX2_isConsistent 12 = .ok (.invokevirtual 293, 3) := dk_182 1 37 (dk_at dksX2_isConsistent_0 12 rfl rfl)
theorem dX2_isConsistent_15 : decode cX2_isConsistent 15 = .ok (.ifCond .eq 25, 3) := dk_153 0 25 (dk_at dksX2_isConsistent_0 15 rfl rfl)
theorem dX2_isConsistent_18 : decode cX2_isConsistent 18 = .ok (.aload_n 0, 1) := dk_42 (dk_at dksX2_isConsistent_0 18 rfl rfl)
theorem dX2_isConsistent_19 : decode cX2_isConsistent 19 = .ok (.invokevirtual 296, 3) := dk_182 1 40 (dk_at dksX2_isConsistent_0 19 rfl rfl)
theorem dX2_isConsistent_22 : decode cX2_isConsistent 22 = .ok (.ifCond .eq 18, 3) := dk_153 0 18 (dk_at dksX2_isConsistent_1 0 rfl rfl)
theorem dX2_isConsistent_25 : decode cX2_isConsistent 25 = .ok (.aload_n 0, 1) := dk_42 (dk_at dksX2_isConsistent_1 3 rfl rfl)
theorem dX2_isConsistent_26 : decode cX2_isConsistent 26 = .ok (.getfield 100, 3) := dk_180 0 100 (dk_at dksX2_isConsistent_1 4 rfl rfl)
theorem dX2_isConsistent_29 : decode cX2_isConsistent 29 = .ok (.aload_n 0, 1) := dk_42 (dk_at dksX2_isConsistent_1 7 rfl rfl)
theorem dX2_isConsistent_30 : decode cX2_isConsistent 30 = .ok (.invokevirtual 299, 3) := dk_182 1 43 (dk_at dksX2_isConsistent_1 8 rfl rfl)
theorem dX2_isConsistent_33 : decode cX2_isConsistent 33 = .ok (.if_icmp .ne 7, 3) := dk_160 0 7 (dk_at dksX2_isConsistent_1 11 rfl rfl)
theorem dX2_isConsistent_36 : decode cX2_isConsistent 36 = .ok (.iconst 1, 1) := dk_4 (dk_at dksX2_isConsistent_1 14 rfl rfl)
theorem dX2_isConsistent_37 : decode cX2_isConsistent 37 = .ok (.goto 4, 3) := dk_167 0 4 (dk_at dksX2_isConsistent_1 15 rfl rfl)
theorem dX2_isConsistent_40 : decode cX2_isConsistent 40 = .ok (.iconst 0, 1) := dk_3 (dk_at dksX2_isConsistent_1 18 rfl rfl)
theorem dX2_isConsistent_41 : decode cX2_isConsistent 41 = .ok (.ireturn, 1) := dk_172 (dk_at dksX2_isConsistent_1 19 rfl rfl)
abbrev cX2_areArrivalsAlike : ByteArray := prog_13_method_21_code
def yX2_areArrivalsAlike : MethodName := ⟨RX2, "areArrivalsAlike", "(I)Z"⟩
def dkwX2_areArrivalsAlike_4 : List UInt8 := [3, 61, 132, 7, 1, 167, 255, 212, 132, 4, 1, 167, 255, 163, 28, 172]
abbrev dktX2_areArrivalsAlike_4 : List UInt8 := dkwX2_areArrivalsAlike_4 ++ []
def dkwX2_areArrivalsAlike_3 : List UInt8 := [153, 0, 24, 25, 5, 21, 7, 182, 0, 199, 25, 6, 21, 7, 182, 0, 199, 160, 0, 7, 4, 167, 0, 4]
abbrev dktX2_areArrivalsAlike_3 : List UInt8 := dkwX2_areArrivalsAlike_3 ++ dktX2_areArrivalsAlike_4
def dkwX2_areArrivalsAlike_2 : List UInt8 := [182, 0, 195, 58, 6, 3, 54, 7, 21, 7, 42, 180, 0, 12, 185, 0, 36, 1, 0, 162, 0, 36, 28]
abbrev dktX2_areArrivalsAlike_2 : List UInt8 := dkwX2_areArrivalsAlike_2 ++ dktX2_areArrivalsAlike_3
def dkwX2_areArrivalsAlike_1 : List UInt8 := [162, 0, 85, 42, 45, 21, 4, 27, 182, 0, 114, 182, 1, 17, 58, 5, 42, 45, 21, 4, 27, 182, 0, 114]
abbrev dktX2_areArrivalsAlike_1 : List UInt8 := dkwX2_areArrivalsAlike_1 ++ dktX2_areArrivalsAlike_2
def dkwX2_areArrivalsAlike_0 : List UInt8 := [4, 61, 42, 180, 0, 21, 182, 0, 110, 78, 3, 54, 4, 21, 4, 42, 180, 0, 12, 185, 0, 36, 1, 0]
abbrev dktX2_areArrivalsAlike_0 : List UInt8 := dkwX2_areArrivalsAlike_0 ++ dktX2_areArrivalsAlike_1
theorem dksX2_areArrivalsAlike_0 : cX2_areArrivalsAlike.data.toList.drop 0 = dktX2_areArrivalsAlike_0 := by decide +kernel
theorem dksX2_areArrivalsAlike_1 : cX2_areArrivalsAlike.data.toList.drop 24 = dktX2_areArrivalsAlike_1 := dk_seg dksX2_areArrivalsAlike_0 24 rfl rfl
theorem dksX2_areArrivalsAlike_2 : cX2_areArrivalsAlike.data.toList.drop 48 = dktX2_areArrivalsAlike_2 := dk_seg dksX2_areArrivalsAlike_1 24 rfl rfl
theorem dksX2_areArrivalsAlike_3 : cX2_areArrivalsAlike.data.toList.drop 71 = dktX2_areArrivalsAlike_3 := dk_seg dksX2_areArrivalsAlike_2 23 rfl rfl
theorem dksX2_areArrivalsAlike_4 : cX2_areArrivalsAlike.data.toList.drop 95 = dktX2_areArrivalsAlike_4 := dk_seg dksX2_areArrivalsAlike_3 24 rfl rfl
theorem dX2_areArrivalsAlike_0 : decode cX2_areArrivalsAlike 0 = .ok (.iconst 1, 1) := dk_4 (dk_at dksX2_areArrivalsAlike_0 0 rfl rfl)
theorem dX2_areArrivalsAlike_1 : decode cX2_areArrivalsAlike 1 = .ok (.istore_n 2, 1) := dk_61 (dk_at dksX2_areArrivalsAlike_0 1 rfl rfl)
theorem dX2_areArrivalsAlike_2 : decode cX2_areArrivalsAlike 2 = .ok (.aload_n 0, 1) := dk_42 (dk_at dksX2_areArrivalsAlike_0 2 rfl rfl)
theorem dX2_areArrivalsAlike_3 : decode cX2_areArrivalsAlike 3 = .ok (.getfield 21, 3) := dk_180 0 21 (dk_at dksX2_areArrivalsAlike_0 3 rfl rfl)
theorem dX2_areArrivalsAlike_6 : decode cX2_areArrivalsAlike 6 = .ok (.invokevirtual 110, 3) := dk_182 0 110 (dk_at dksX2_areArrivalsAlike_0 6 rfl rfl)
theorem dX2_areArrivalsAlike_9 : decode cX2_areArrivalsAlike 9 = .ok (.astore_n 3, 1) := dk_78 (dk_at dksX2_areArrivalsAlike_0 9 rfl rfl)
theorem dX2_areArrivalsAlike_10 : decode cX2_areArrivalsAlike 10 = .ok (.iconst 0, 1) := dk_3 (dk_at dksX2_areArrivalsAlike_0 10 rfl rfl)
theorem dX2_areArrivalsAlike_11 : decode cX2_areArrivalsAlike 11 = .ok (.istore 4, 2) := dk_54 4 (dk_at dksX2_areArrivalsAlike_0 11 rfl rfl)
theorem dX2_areArrivalsAlike_13 : decode cX2_areArrivalsAlike 13 = .ok (.iload 4, 2) := dk_21 4 (dk_at dksX2_areArrivalsAlike_0 13 rfl rfl)
theorem dX2_areArrivalsAlike_15 : decode cX2_areArrivalsAlike 15 = .ok (.aload_n 0, 1) := dk_42 (dk_at dksX2_areArrivalsAlike_0 15 rfl rfl)
theorem dX2_areArrivalsAlike_16 : decode cX2_areArrivalsAlike 16 = .ok (.getfield 12, 3) := dk_180 0 12 (dk_at dksX2_areArrivalsAlike_0 16 rfl rfl)
theorem dX2_areArrivalsAlike_19 : decode cX2_areArrivalsAlike 19 = .ok (.invokeinterface 36 1, 5) := by decide +kernel
theorem dX2_areArrivalsAlike_24 : decode cX2_areArrivalsAlike 24 = .ok (.if_icmp .ge 85, 3) := dk_162 0 85 (dk_at dksX2_areArrivalsAlike_1 0 rfl rfl)
theorem dX2_areArrivalsAlike_27 : decode cX2_areArrivalsAlike 27 = .ok (.aload_n 0, 1) := dk_42 (dk_at dksX2_areArrivalsAlike_1 3 rfl rfl)
theorem dX2_areArrivalsAlike_28 : decode cX2_areArrivalsAlike 28 = .ok (.aload_n 3, 1) := dk_45 (dk_at dksX2_areArrivalsAlike_1 4 rfl rfl)
theorem dX2_areArrivalsAlike_29 : decode cX2_areArrivalsAlike 29 = .ok (.iload 4, 2) := dk_21 4 (dk_at dksX2_areArrivalsAlike_1 5 rfl rfl)
theorem dX2_areArrivalsAlike_31 : decode cX2_areArrivalsAlike 31 = .ok (.iload_n 1, 1) := dk_27 (dk_at dksX2_areArrivalsAlike_1 7 rfl rfl)
theorem dX2_areArrivalsAlike_32 : decode cX2_areArrivalsAlike 32 = .ok (.invokevirtual 114, 3) := dk_182 0 114 (dk_at dksX2_areArrivalsAlike_1 8 rfl rfl)
theorem dX2_areArrivalsAlike_35 : decode cX2_areArrivalsAlike 35 = .ok (.invokevirtual 273, 3) := dk_182 1 17 (dk_at dksX2_areArrivalsAlike_1 11 rfl rfl)
theorem dX2_areArrivalsAlike_38 : decode cX2_areArrivalsAlike 38 = .ok (.astore 5, 2) := dk_58 5 (dk_at dksX2_areArrivalsAlike_1 14 rfl rfl)
theorem dX2_areArrivalsAlike_40 : decode cX2_areArrivalsAlike 40 = .ok (.aload_n 0, 1) := dk_42 (dk_at dksX2_areArrivalsAlike_1 16 rfl rfl)
theorem dX2_areArrivalsAlike_41 : decode cX2_areArrivalsAlike 41 = .ok (.aload_n 3, 1) := dk_45 (dk_at dksX2_areArrivalsAlike_1 17 rfl rfl)
theorem dX2_areArrivalsAlike_42 : decode cX2_areArrivalsAlike 42 = .ok (.iload 4, 2) := dk_21 4 (dk_at dksX2_areArrivalsAlike_1 18 rfl rfl)
theorem dX2_areArrivalsAlike_44 : decode cX2_areArrivalsAlike 44 = .ok (.iload_n 1, 1) := dk_27 (dk_at dksX2_areArrivalsAlike_1 20 rfl rfl)
theorem dX2_areArrivalsAlike_45 : decode cX2_areArrivalsAlike 45 = .ok (.invokevirtual 114, 3) := dk_182 0 114 (dk_at dksX2_areArrivalsAlike_1 21 rfl rfl)
theorem dX2_areArrivalsAlike_48 : decode cX2_areArrivalsAlike 48 = .ok (.invokevirtual 195, 3) := dk_182 0 195 (dk_at dksX2_areArrivalsAlike_2 0 rfl rfl)
theorem dX2_areArrivalsAlike_51 : decode cX2_areArrivalsAlike 51 = .ok (.astore 6, 2) := dk_58 6 (dk_at dksX2_areArrivalsAlike_2 3 rfl rfl)
theorem dX2_areArrivalsAlike_53 : decode cX2_areArrivalsAlike 53 = .ok (.iconst 0, 1) := dk_3 (dk_at dksX2_areArrivalsAlike_2 5 rfl rfl)
theorem dX2_areArrivalsAlike_54 : decode cX2_areArrivalsAlike 54 = .ok (.istore 7, 2) := dk_54 7 (dk_at dksX2_areArrivalsAlike_2 6 rfl rfl)
theorem dX2_areArrivalsAlike_56 : decode cX2_areArrivalsAlike 56 = .ok (.iload 7, 2) := dk_21 7 (dk_at dksX2_areArrivalsAlike_2 8 rfl rfl)
theorem dX2_areArrivalsAlike_58 : decode cX2_areArrivalsAlike 58 = .ok (.aload_n 0, 1) := dk_42 (dk_at dksX2_areArrivalsAlike_2 10 rfl rfl)
theorem dX2_areArrivalsAlike_59 : decode cX2_areArrivalsAlike 59 = .ok (.getfield 12, 3) := dk_180 0 12 (dk_at dksX2_areArrivalsAlike_2 11 rfl rfl)
theorem dX2_areArrivalsAlike_62 : decode cX2_areArrivalsAlike 62 = .ok (.invokeinterface 36 1, 5) := by decide +kernel
theorem dX2_areArrivalsAlike_67 : decode cX2_areArrivalsAlike 67 = .ok (.if_icmp .ge 36, 3) := dk_162 0 36 (dk_at dksX2_areArrivalsAlike_2 19 rfl rfl)
theorem dX2_areArrivalsAlike_70 : decode cX2_areArrivalsAlike 70 = .ok (.iload_n 2, 1) := dk_28 (dk_at dksX2_areArrivalsAlike_2 22 rfl rfl)
theorem dX2_areArrivalsAlike_71 : decode cX2_areArrivalsAlike 71 = .ok (.ifCond .eq 24, 3) := dk_153 0 24 (dk_at dksX2_areArrivalsAlike_3 0 rfl rfl)
theorem dX2_areArrivalsAlike_74 : decode cX2_areArrivalsAlike 74 = .ok (.aload 5, 2) := dk_25 5 (dk_at dksX2_areArrivalsAlike_3 3 rfl rfl)
theorem dX2_areArrivalsAlike_76 : decode cX2_areArrivalsAlike 76 = .ok (.iload 7, 2) := dk_21 7 (dk_at dksX2_areArrivalsAlike_3 5 rfl rfl)
theorem dX2_areArrivalsAlike_78 : decode cX2_areArrivalsAlike 78 = .ok (.invokevirtual 199, 3) := dk_182 0 199 (dk_at dksX2_areArrivalsAlike_3 7 rfl rfl)
theorem dX2_areArrivalsAlike_81 : decode cX2_areArrivalsAlike 81 = .ok (.aload 6, 2) := dk_25 6 (dk_at dksX2_areArrivalsAlike_3 10 rfl rfl)
theorem dX2_areArrivalsAlike_83 : decode cX2_areArrivalsAlike 83 = .ok (.iload 7, 2) := dk_21 7 (dk_at dksX2_areArrivalsAlike_3 12 rfl rfl)
theorem dX2_areArrivalsAlike_85 : decode cX2_areArrivalsAlike 85 = .ok (.invokevirtual 199, 3) := dk_182 0 199 (dk_at dksX2_areArrivalsAlike_3 14 rfl rfl)
theorem dX2_areArrivalsAlike_88 : decode cX2_areArrivalsAlike 88 = .ok (.if_icmp .ne 7, 3) := dk_160 0 7 (dk_at dksX2_areArrivalsAlike_3 17 rfl rfl)
theorem dX2_areArrivalsAlike_91 : decode cX2_areArrivalsAlike 91 = .ok (.iconst 1, 1) := dk_4 (dk_at dksX2_areArrivalsAlike_3 20 rfl rfl)
theorem dX2_areArrivalsAlike_92 : decode cX2_areArrivalsAlike 92 = .ok (.goto 4, 3) := dk_167 0 4 (dk_at dksX2_areArrivalsAlike_3 21 rfl rfl)
theorem dX2_areArrivalsAlike_95 : decode cX2_areArrivalsAlike 95 = .ok (.iconst 0, 1) := dk_3 (dk_at dksX2_areArrivalsAlike_4 0 rfl rfl)
theorem dX2_areArrivalsAlike_96 : decode cX2_areArrivalsAlike 96 = .ok (.istore_n 2, 1) := dk_61 (dk_at dksX2_areArrivalsAlike_4 1 rfl rfl)
theorem dX2_areArrivalsAlike_97 : decode cX2_areArrivalsAlike 97 = .ok (.iinc 7 1, 3) := dk_132 7 1 (dk_at dksX2_areArrivalsAlike_4 2 rfl rfl)
theorem dX2_areArrivalsAlike_100 : decode cX2_areArrivalsAlike 100 = .ok (.goto (-44), 3) := dk_167 255 212 (dk_at dksX2_areArrivalsAlike_4 5 rfl rfl)
theorem dX2_areArrivalsAlike_103 : decode cX2_areArrivalsAlike 103 = .ok (.iinc 4 1, 3) := dk_132 4 1 (dk_at dksX2_areArrivalsAlike_4 8 rfl rfl)
theorem dX2_areArrivalsAlike_106 : decode cX2_areArrivalsAlike 106 = .ok (.goto (-93), 3) := dk_167 255 163 (dk_at dksX2_areArrivalsAlike_4 11 rfl rfl)
theorem dX2_areArrivalsAlike_109 : decode cX2_areArrivalsAlike 109 = .ok (.iload_n 2, 1) := dk_28 (dk_at dksX2_areArrivalsAlike_4 14 rfl rfl)
theorem dX2_areArrivalsAlike_110 : decode cX2_areArrivalsAlike 110 = .ok (.ireturn, 1) := dk_172 (dk_at dksX2_areArrivalsAlike_4 15 rfl rfl)
abbrev cX2_journeys : ByteArray := prog_13_method_5_code
def yX2_journeys : MethodName := ⟨RX2, "journeys", "(Ljava/util/List;II)LSleeperRailway$Journeys;"⟩
def dkwX2_journeys_2 : List UInt8 := [132, 5, 1, 167, 255, 223, 187, 0, 121, 89, 42, 180, 0, 21, 43, 25, 4, 28, 29, 183, 0, 123, 176]
abbrev dktX2_journeys_2 : List UInt8 := dkwX2_journeys_2 ++ []
def dkwX2_journeys_1 : List UInt8 := [25, 4, 21, 5, 42, 180, 0, 12, 21, 5, 185, 0, 42, 2, 0, 192, 0, 46, 182, 0, 118, 79]
abbrev dktX2_journeys_1 : List UInt8 := dkwX2_journeys_1 ++ dktX2_journeys_2
def dkwX2_journeys_0 : List UInt8 := [42, 180, 0, 12, 185, 0, 36, 1, 0, 188, 10, 58, 4, 3, 54, 5, 21, 5, 25, 4, 190, 162, 0, 31]
abbrev dktX2_journeys_0 : List UInt8 := dkwX2_journeys_0 ++ dktX2_journeys_1
theorem dksX2_journeys_0 : cX2_journeys.data.toList.drop 0 = dktX2_journeys_0 := by decide +kernel
theorem dksX2_journeys_1 : cX2_journeys.data.toList.drop 24 = dktX2_journeys_1 := dk_seg dksX2_journeys_0 24 rfl rfl
theorem dksX2_journeys_2 : cX2_journeys.data.toList.drop 46 = dktX2_journeys_2 := dk_seg dksX2_journeys_1 22 rfl rfl
theorem dX2_journeys_0 : decode cX2_journeys 0 = .ok (.aload_n 0, 1) := dk_42 (dk_at dksX2_journeys_0 0 rfl rfl)
theorem dX2_journeys_1 : decode cX2_journeys 1 = .ok (.getfield 12, 3) := dk_180 0 12 (dk_at dksX2_journeys_0 1 rfl rfl)
theorem dX2_journeys_4 : decode cX2_journeys 4 = .ok (.invokeinterface 36 1, 5) := by decide +kernel
theorem dX2_journeys_9 : decode cX2_journeys 9 = .ok (.newarray .int, 2) := dk_188_10 (dk_at dksX2_journeys_0 9 rfl rfl)
theorem dX2_journeys_11 : decode cX2_journeys 11 = .ok (.astore 4, 2) := dk_58 4 (dk_at dksX2_journeys_0 11 rfl rfl)
theorem dX2_journeys_13 : decode cX2_journeys 13 = .ok (.iconst 0, 1) := dk_3 (dk_at dksX2_journeys_0 13 rfl rfl)
theorem dX2_journeys_14 : decode cX2_journeys 14 = .ok (.istore 5, 2) := dk_54 5 (dk_at dksX2_journeys_0 14 rfl rfl)
theorem dX2_journeys_16 : decode cX2_journeys 16 = .ok (.iload 5, 2) := dk_21 5 (dk_at dksX2_journeys_0 16 rfl rfl)
theorem dX2_journeys_18 : decode cX2_journeys 18 = .ok (.aload 4, 2) := dk_25 4 (dk_at dksX2_journeys_0 18 rfl rfl)
theorem dX2_journeys_20 : decode cX2_journeys 20 = .ok (.arraylength, 1) := dk_190 (dk_at dksX2_journeys_0 20 rfl rfl)
theorem dX2_journeys_21 : decode cX2_journeys 21 = .ok (.if_icmp .ge 31, 3) := dk_162 0 31 (dk_at dksX2_journeys_0 21 rfl rfl)
theorem dX2_journeys_24 : decode cX2_journeys 24 = .ok (.aload 4, 2) := dk_25 4 (dk_at dksX2_journeys_1 0 rfl rfl)
theorem dX2_journeys_26 : decode cX2_journeys 26 = .ok (.iload 5, 2) := dk_21 5 (dk_at dksX2_journeys_1 2 rfl rfl)
theorem dX2_journeys_28 : decode cX2_journeys 28 = .ok (.aload_n 0, 1) := dk_42 (dk_at dksX2_journeys_1 4 rfl rfl)
theorem dX2_journeys_29 : decode cX2_journeys 29 = .ok (.getfield 12, 3) := dk_180 0 12 (dk_at dksX2_journeys_1 5 rfl rfl)
theorem dX2_journeys_32 : decode cX2_journeys 32 = .ok (.iload 5, 2) := dk_21 5 (dk_at dksX2_journeys_1 8 rfl rfl)
theorem dX2_journeys_34 : decode cX2_journeys 34 = .ok (.invokeinterface 42 2, 5) := by decide +kernel
theorem dX2_journeys_39 : decode cX2_journeys 39 = .ok (.checkcast 46, 3) := dk_192 0 46 (dk_at dksX2_journeys_1 15 rfl rfl)
theorem dX2_journeys_42 : decode cX2_journeys 42 = .ok (.invokevirtual 118, 3) := dk_182 0 118 (dk_at dksX2_journeys_1 18 rfl rfl)
theorem dX2_journeys_45 : decode cX2_journeys 45 = .ok (.iastore, 1) := dk_79 (dk_at dksX2_journeys_1 21 rfl rfl)
theorem dX2_journeys_46 : decode cX2_journeys 46 = .ok (.iinc 5 1, 3) := dk_132 5 1 (dk_at dksX2_journeys_2 0 rfl rfl)
theorem dX2_journeys_49 : decode cX2_journeys 49 = .ok (.goto (-33), 3) := dk_167 255 223 (dk_at dksX2_journeys_2 3 rfl rfl)
theorem dX2_journeys_52 : decode cX2_journeys 52 = .ok (.new 121, 3) := dk_187 0 121 (dk_at dksX2_journeys_2 6 rfl rfl)
theorem dX2_journeys_55 : decode cX2_journeys 55 = .ok (.dup, 1) := dk_89 (dk_at dksX2_journeys_2 9 rfl rfl)
theorem dX2_journeys_56 : decode cX2_journeys 56 = .ok (.aload_n 0, 1) := dk_42 (dk_at dksX2_journeys_2 10 rfl rfl)
theorem dX2_journeys_57 : decode cX2_journeys 57 = .ok (.getfield 21, 3) := dk_180 0 21 (dk_at dksX2_journeys_2 11 rfl rfl)
theorem dX2_journeys_60 : decode cX2_journeys 60 = .ok (.aload_n 1, 1) := dk_43 (dk_at dksX2_journeys_2 14 rfl rfl)
theorem dX2_journeys_61 : decode cX2_journeys 61 = .ok (.aload 4, 2) := dk_25 4 (dk_at dksX2_journeys_2 15 rfl rfl)
theorem dX2_journeys_63 : decode cX2_journeys 63 = .ok (.iload_n 2, 1) := dk_28 (dk_at dksX2_journeys_2 17 rfl rfl)
theorem dX2_journeys_64 : decode cX2_journeys 64 = .ok (.iload_n 3, 1) := dk_29 (dk_at dksX2_journeys_2 18 rfl rfl)
theorem dX2_journeys_65 : decode cX2_journeys 65 = .ok (.invokespecial 123, 3) := dk_183 0 123 (dk_at dksX2_journeys_2 19 rfl rfl)
theorem dX2_journeys_68 : decode cX2_journeys 68 = .ok (.areturn, 1) := dk_176 (dk_at dksX2_journeys_2 22 rfl rfl)
abbrev cX2_areTrainsGood : ByteArray := prog_13_method_22_code
def yX2_areTrainsGood : MethodName := ⟨RX2, "areTrainsGood", "()Z"⟩
def dkwX2_areTrainsGood_5 : List UInt8 := [172]
abbrev dktX2_areTrainsGood_5 : List UInt8 := dkwX2_areTrainsGood_5 ++ []
def dkwX2_areTrainsGood_4 : List UInt8 := [182, 0, 217, 182, 1, 31, 25, 4, 180, 1, 34, 163, 0, 7, 4, 167, 0, 4, 3, 60, 167, 255, 197, 27]
abbrev dktX2_areTrainsGood_4 : List UInt8 := dkwX2_areTrainsGood_4 ++ dktX2_areTrainsGood_5
def dkwX2_areTrainsGood_3 : List UInt8 := [192, 0, 210, 78, 42, 180, 0, 21, 45, 182, 0, 212, 182, 0, 154, 58, 4, 27, 153, 0, 24, 25, 4, 45]
abbrev dktX2_areTrainsGood_3 : List UInt8 := dkwX2_areTrainsGood_3 ++ dktX2_areTrainsGood_4
def dkwX2_areTrainsGood_2 : List UInt8 := [180, 0, 21, 182, 1, 30, 77, 44, 185, 0, 66, 1, 0, 153, 0, 56, 44, 185, 0, 72, 1, 0]
abbrev dktX2_areTrainsGood_2 : List UInt8 := dkwX2_areTrainsGood_2 ++ dktX2_areTrainsGood_3
def dkwX2_areTrainsGood_1 : List UInt8 := [180, 1, 24, 42, 28, 182, 1, 27, 160, 0, 7, 4, 167, 0, 4, 3, 60, 132, 2, 1, 167, 255, 216, 42]
abbrev dktX2_areTrainsGood_1 : List UInt8 := dkwX2_areTrainsGood_1 ++ dktX2_areTrainsGood_2
def dkwX2_areTrainsGood_0 : List UInt8 := [4, 60, 3, 61, 28, 42, 180, 0, 21, 182, 0, 140, 162, 0, 35, 27, 153, 0, 23, 42, 28, 182, 1, 20]
abbrev dktX2_areTrainsGood_0 : List UInt8 := dkwX2_areTrainsGood_0 ++ dktX2_areTrainsGood_1
theorem dksX2_areTrainsGood_0 : cX2_areTrainsGood.data.toList.drop 0 = dktX2_areTrainsGood_0 := by decide +kernel
theorem dksX2_areTrainsGood_1 : cX2_areTrainsGood.data.toList.drop 24 = dktX2_areTrainsGood_1 := dk_seg dksX2_areTrainsGood_0 24 rfl rfl
theorem dksX2_areTrainsGood_2 : cX2_areTrainsGood.data.toList.drop 48 = dktX2_areTrainsGood_2 := dk_seg dksX2_areTrainsGood_1 24 rfl rfl
theorem dksX2_areTrainsGood_3 : cX2_areTrainsGood.data.toList.drop 70 = dktX2_areTrainsGood_3 := dk_seg dksX2_areTrainsGood_2 22 rfl rfl
theorem dksX2_areTrainsGood_4 : cX2_areTrainsGood.data.toList.drop 94 = dktX2_areTrainsGood_4 := dk_seg dksX2_areTrainsGood_3 24 rfl rfl
theorem dksX2_areTrainsGood_5 : cX2_areTrainsGood.data.toList.drop 118 = dktX2_areTrainsGood_5 := dk_seg dksX2_areTrainsGood_4 24 rfl rfl
theorem dX2_areTrainsGood_0 : decode cX2_areTrainsGood 0 = .ok (.iconst 1, 1) := dk_4 (dk_at dksX2_areTrainsGood_0 0 rfl rfl)
theorem dX2_areTrainsGood_1 : decode cX2_areTrainsGood 1 = .ok (.istore_n 1, 1) := dk_60 (dk_at dksX2_areTrainsGood_0 1 rfl rfl)
theorem dX2_areTrainsGood_2 : decode cX2_areTrainsGood 2 = .ok (.iconst 0, 1) := dk_3 (dk_at dksX2_areTrainsGood_0 2 rfl rfl)
theorem dX2_areTrainsGood_3 : decode cX2_areTrainsGood 3 = .ok (.istore_n 2, 1) := dk_61 (dk_at dksX2_areTrainsGood_0 3 rfl rfl)
theorem dX2_areTrainsGood_4 : decode cX2_areTrainsGood 4 = .ok (.iload_n 2, 1) := dk_28 (dk_at dksX2_areTrainsGood_0 4 rfl rfl)
theorem dX2_areTrainsGood_5 : decode cX2_areTrainsGood 5 = .ok (.aload_n 0, 1) := dk_42 (dk_at dksX2_areTrainsGood_0 5 rfl rfl)
theorem dX2_areTrainsGood_6 : decode cX2_areTrainsGood 6 = .ok (.getfield 21, 3) := dk_180 0 21 (dk_at dksX2_areTrainsGood_0 6 rfl rfl)
theorem dX2_areTrainsGood_9 : decode cX2_areTrainsGood 9 = .ok (.invokevirtual 140, 3) := dk_182 0 140 (dk_at dksX2_areTrainsGood_0 9 rfl rfl)
theorem dX2_areTrainsGood_12 : decode cX2_areTrainsGood 12 = .ok (.if_icmp .ge 35, 3) := dk_162 0 35 (dk_at dksX2_areTrainsGood_0 12 rfl rfl)
theorem dX2_areTrainsGood_15 : decode cX2_areTrainsGood 15 = .ok (.iload_n 1, 1) := dk_27 (dk_at dksX2_areTrainsGood_0 15 rfl rfl)
theorem dX2_areTrainsGood_16 : decode cX2_areTrainsGood 16 = .ok (.ifCond .eq 23, 3) := dk_153 0 23 (dk_at dksX2_areTrainsGood_0 16 rfl rfl)
theorem dX2_areTrainsGood_19 : decode cX2_areTrainsGood 19 = .ok (.aload_n 0, 1) := dk_42 (dk_at dksX2_areTrainsGood_0 19 rfl rfl)
theorem dX2_areTrainsGood_20 : decode cX2_areTrainsGood 20 = .ok (.iload_n 2, 1) := dk_28 (dk_at dksX2_areTrainsGood_0 20 rfl rfl)
theorem dX2_areTrainsGood_21 : decode cX2_areTrainsGood 21 = .ok (.invokevirtual 276, 3) := dk_182 1 20 (dk_at dksX2_areTrainsGood_0 21 rfl rfl)
theorem dX2_areTrainsGood_24 : decode cX2_areTrainsGood 24 = .ok (.getfield 280, 3) := dk_180 1 24 (dk_at dksX2_areTrainsGood_1 0 rfl rfl)
theorem dX2_areTrainsGood_27 : decode cX2_areTrainsGood 27 = .ok (.aload_n 0, 1) := dk_42 (dk_at dksX2_areTrainsGood_1 3 rfl rfl)
theorem dX2_areTrainsGood_28 : decode cX2_areTrainsGood 28 = .ok (.iload_n 2, 1) := dk_28 (dk_at dksX2_areTrainsGood_1 4 rfl rfl)
theorem dX2_areTrainsGood_29 : decode cX2_areTrainsGood 29 = .ok (.invokevirtual 283, 3) := dk_182 1 27 (dk_at dksX2_areTrainsGood_1 5 rfl rfl)
theorem dX2_areTrainsGood_32 : decode cX2_areTrainsGood 32 = .ok (.if_icmp .ne 7, 3) := dk_160 0 7 (dk_at dksX2_areTrainsGood_1 8 rfl rfl)
theorem dX2_areTrainsGood_35 : decode cX2_areTrainsGood 35 = .ok (.iconst 1, 1) := dk_4 (dk_at dksX2_areTrainsGood_1 11 rfl rfl)
theorem dX2_areTrainsGood_36 : decode cX2_areTrainsGood 36 = .ok (.goto 4, 3) := dk_167 0 4 (dk_at dksX2_areTrainsGood_1 12 rfl rfl)
theorem dX2_areTrainsGood_39 : decode cX2_areTrainsGood 39 = .ok (.iconst 0, 1) := dk_3 (dk_at dksX2_areTrainsGood_1 15 rfl rfl)
theorem dX2_areTrainsGood_40 : decode cX2_areTrainsGood 40 = .ok (.istore_n 1, 1) := dk_60 (dk_at dksX2_areTrainsGood_1 16 rfl rfl)
theorem dX2_areTrainsGood_41 : decode cX2_areTrainsGood 41 = .ok (.iinc 2 1, 3) := dk_132 2 1 (dk_at dksX2_areTrainsGood_1 17 rfl rfl)
theorem dX2_areTrainsGood_44 : decode cX2_areTrainsGood 44 = .ok (.goto (-40), 3) := dk_167 255 216 (dk_at dksX2_areTrainsGood_1 20 rfl rfl)
theorem dX2_areTrainsGood_47 : decode cX2_areTrainsGood 47 = .ok (.aload_n 0, 1) := dk_42 (dk_at dksX2_areTrainsGood_1 23 rfl rfl)
theorem dX2_areTrainsGood_48 : decode cX2_areTrainsGood 48 = .ok (.getfield 21, 3) := dk_180 0 21 (dk_at dksX2_areTrainsGood_2 0 rfl rfl)
theorem dX2_areTrainsGood_51 : decode cX2_areTrainsGood 51 = .ok (.invokevirtual 286, 3) := dk_182 1 30 (dk_at dksX2_areTrainsGood_2 3 rfl rfl)
theorem dX2_areTrainsGood_54 : decode cX2_areTrainsGood 54 = .ok (.astore_n 2, 1) := dk_77 (dk_at dksX2_areTrainsGood_2 6 rfl rfl)
theorem dX2_areTrainsGood_55 : decode cX2_areTrainsGood 55 = .ok (.aload_n 2, 1) := dk_44 (dk_at dksX2_areTrainsGood_2 7 rfl rfl)
theorem dX2_areTrainsGood_56 : decode cX2_areTrainsGood 56 = .ok (.invokeinterface 66 1, 5) := by decide +kernel
theorem dX2_areTrainsGood_61 : decode cX2_areTrainsGood 61 = .ok (.ifCond .eq 56, 3) := dk_153 0 56 (dk_at dksX2_areTrainsGood_2 13 rfl rfl)
theorem dX2_areTrainsGood_64 : decode cX2_areTrainsGood 64 = .ok (.aload_n 2, 1) := dk_44 (dk_at dksX2_areTrainsGood_2 16 rfl rfl)
theorem dX2_areTrainsGood_65 : decode cX2_areTrainsGood 65 = .ok (.invokeinterface 72 1, 5) := by decide +kernel
theorem dX2_areTrainsGood_70 : decode cX2_areTrainsGood 70 = .ok (.checkcast 210, 3) := dk_192 0 210 (dk_at dksX2_areTrainsGood_3 0 rfl rfl)
theorem dX2_areTrainsGood_73 : decode cX2_areTrainsGood 73 = .ok (.astore_n 3, 1) := dk_78 (dk_at dksX2_areTrainsGood_3 3 rfl rfl)
theorem dX2_areTrainsGood_74 : decode cX2_areTrainsGood 74 = .ok (.aload_n 0, 1) := dk_42 (dk_at dksX2_areTrainsGood_3 4 rfl rfl)
theorem dX2_areTrainsGood_75 : decode cX2_areTrainsGood 75 = .ok (.getfield 21, 3) := dk_180 0 21 (dk_at dksX2_areTrainsGood_3 5 rfl rfl)
theorem dX2_areTrainsGood_78 : decode cX2_areTrainsGood 78 = .ok (.aload_n 3, 1) := dk_45 (dk_at dksX2_areTrainsGood_3 8 rfl rfl)
theorem dX2_areTrainsGood_79 : decode cX2_areTrainsGood 79 = .ok (.invokevirtual 212, 3) := dk_182 0 212 (dk_at dksX2_areTrainsGood_3 9 rfl rfl)
theorem dX2_areTrainsGood_82 : decode cX2_areTrainsGood 82 = .ok (.invokevirtual 154, 3) := dk_182 0 154 (dk_at dksX2_areTrainsGood_3 12 rfl rfl)
theorem dX2_areTrainsGood_85 : decode cX2_areTrainsGood 85 = .ok (.astore 4, 2) := dk_58 4 (dk_at dksX2_areTrainsGood_3 15 rfl rfl)
theorem dX2_areTrainsGood_87 : decode cX2_areTrainsGood 87 = .ok (.iload_n 1, 1) := dk_27 (dk_at dksX2_areTrainsGood_3 17 rfl rfl)
theorem dX2_areTrainsGood_88 : decode cX2_areTrainsGood 88 = .ok (.ifCond .eq 24, 3) := dk_153 0 24 (dk_at dksX2_areTrainsGood_3 18 rfl rfl)
theorem dX2_areTrainsGood_91 : decode cX2_areTrainsGood 91 = .ok (.aload 4, 2) := dk_25 4 (dk_at dksX2_areTrainsGood_3 21 rfl rfl)
theorem dX2_areTrainsGood_93 : decode cX2_areTrainsGood 93 = .ok (.aload_n 3, 1) := dk_45 (dk_at dksX2_areTrainsGood_3 23 rfl rfl)
theorem dX2_areTrainsGood_94 : decode cX2_areTrainsGood 94 = .ok (.invokevirtual 217, 3) := dk_182 0 217 (dk_at dksX2_areTrainsGood_4 0 rfl rfl)
theorem dX2_areTrainsGood_97 : decode cX2_areTrainsGood 97 = .ok (.invokevirtual 287, 3) := dk_182 1 31 (dk_at dksX2_areTrainsGood_4 3 rfl rfl)
theorem dX2_areTrainsGood_100 : decode cX2_areTrainsGood 100 = .ok (.aload 4, 2) := dk_25 4 (dk_at dksX2_areTrainsGood_4 6 rfl rfl)
theorem dX2_areTrainsGood_102 : decode cX2_areTrainsGood 102 = .ok (.getfield 290, 3) := dk_180 1 34 (dk_at dksX2_areTrainsGood_4 8 rfl rfl)
theorem dX2_areTrainsGood_105 : decode cX2_areTrainsGood 105 = .ok (.if_icmp .gt 7, 3) := dk_163 0 7 (dk_at dksX2_areTrainsGood_4 11 rfl rfl)
theorem dX2_areTrainsGood_108 : decode cX2_areTrainsGood 108 = .ok (.iconst 1, 1) := dk_4 (dk_at dksX2_areTrainsGood_4 14 rfl rfl)
theorem dX2_areTrainsGood_109 : decode cX2_areTrainsGood 109 = .ok (.goto 4, 3) := dk_167 0 4 (dk_at dksX2_areTrainsGood_4 15 rfl rfl)
theorem dX2_areTrainsGood_112 : decode cX2_areTrainsGood 112 = .ok (.iconst 0, 1) := dk_3 (dk_at dksX2_areTrainsGood_4 18 rfl rfl)
theorem dX2_areTrainsGood_113 : decode cX2_areTrainsGood 113 = .ok (.istore_n 1, 1) := dk_60 (dk_at dksX2_areTrainsGood_4 19 rfl rfl)
theorem dX2_areTrainsGood_114 : decode cX2_areTrainsGood 114 = .ok (.goto (-59), 3) := dk_167 255 197 (dk_at dksX2_areTrainsGood_4 20 rfl rfl)
theorem dX2_areTrainsGood_117 : decode cX2_areTrainsGood 117 = .ok (.iload_n 1, 1) := dk_27 (dk_at dksX2_areTrainsGood_4 23 rfl rfl)
theorem dX2_areTrainsGood_118 : decode cX2_areTrainsGood 118 = .ok (.ireturn, 1) := dk_172 (dk_at dksX2_areTrainsGood_5 0 rfl rfl)
abbrev cX2_berths : ByteArray := prog_13_method_17_code
def yX2_berths : MethodName := ⟨RX2, "berths", "(I)LSleeperRailway$Berths;"⟩
def dkwX2_berths_2 : List UInt8 := [27, 160, 0, 9, 44, 25, 4, 182, 0, 250, 167, 255, 221, 44, 182, 0, 253, 176]
abbrev dktX2_berths_2 : List UInt8 := dkwX2_berths_2 ++ []
def dkwX2_berths_1 : List UInt8 := [185, 0, 66, 1, 0, 153, 0, 32, 45, 185, 0, 72, 1, 0, 192, 0, 89, 58, 4, 25, 4, 180, 0, 239]
abbrev dktX2_berths_1 : List UInt8 := dkwX2_berths_1 ++ dktX2_berths_2
def dkwX2_berths_0 : List UInt8 := [187, 0, 247, 89, 183, 0, 249, 77, 42, 180, 0, 32, 182, 0, 56, 185, 0, 60, 1, 0, 78, 45]
abbrev dktX2_berths_0 : List UInt8 := dkwX2_berths_0 ++ dktX2_berths_1
theorem dksX2_berths_0 : cX2_berths.data.toList.drop 0 = dktX2_berths_0 := by decide +kernel
theorem dksX2_berths_1 : cX2_berths.data.toList.drop 22 = dktX2_berths_1 := dk_seg dksX2_berths_0 22 rfl rfl
theorem dksX2_berths_2 : cX2_berths.data.toList.drop 46 = dktX2_berths_2 := dk_seg dksX2_berths_1 24 rfl rfl
theorem dX2_berths_0 : decode cX2_berths 0 = .ok (.new 247, 3) := dk_187 0 247 (dk_at dksX2_berths_0 0 rfl rfl)
theorem dX2_berths_3 : decode cX2_berths 3 = .ok (.dup, 1) := dk_89 (dk_at dksX2_berths_0 3 rfl rfl)
theorem dX2_berths_4 : decode cX2_berths 4 = .ok (.invokespecial 249, 3) := dk_183 0 249 (dk_at dksX2_berths_0 4 rfl rfl)
theorem dX2_berths_7 : decode cX2_berths 7 = .ok (.astore_n 2, 1) := dk_77 (dk_at dksX2_berths_0 7 rfl rfl)
theorem dX2_berths_8 : decode cX2_berths 8 = .ok (.aload_n 0, 1) := dk_42 (dk_at dksX2_berths_0 8 rfl rfl)
theorem dX2_berths_9 : decode cX2_berths 9 = .ok (.getfield 32, 3) := dk_180 0 32 (dk_at dksX2_berths_0 9 rfl rfl)
theorem dX2_berths_12 : decode cX2_berths 12 = .ok (.invokevirtual 56, 3) := dk_182 0 56 (dk_at dksX2_berths_0 12 rfl rfl)
theorem dX2_berths_15 : decode cX2_berths 15 = .ok (.invokeinterface 60 1, 5) := by decide +kernel
theorem dX2_berths_20 : decode cX2_berths 20 = .ok (.astore_n 3, 1) := dk_78 (dk_at dksX2_berths_0 20 rfl rfl)
theorem dX2_berths_21 : decode cX2_berths 21 = .ok (.aload_n 3, 1) := dk_45 (dk_at dksX2_berths_0 21 rfl rfl)
theorem dX2_berths_22 : decode cX2_berths 22 = .ok (.invokeinterface 66 1, 5) := by decide +kernel
theorem dX2_berths_27 : decode cX2_berths 27 = .ok (.ifCond .eq 32, 3) := dk_153 0 32 (dk_at dksX2_berths_1 5 rfl rfl)
theorem dX2_berths_30 : decode cX2_berths 30 = .ok (.aload_n 3, 1) := dk_45 (dk_at dksX2_berths_1 8 rfl rfl)
theorem dX2_berths_31 : decode cX2_berths 31 = .ok (.invokeinterface 72 1, 5) := by decide +kernel
theorem dX2_berths_36 : decode cX2_berths 36 = .ok (.checkcast 89, 3) := dk_192 0 89 (dk_at dksX2_berths_1 14 rfl rfl)
theorem dX2_berths_39 : decode cX2_berths 39 = .ok (.astore 4, 2) := dk_58 4 (dk_at dksX2_berths_1 17 rfl rfl)
theorem dX2_berths_41 : decode cX2_berths 41 = .ok (.aload 4, 2) := dk_25 4 (dk_at dksX2_berths_1 19 rfl rfl)
theorem dX2_berths_43 : decode cX2_berths 43 = .ok (.getfield 239, 3) := dk_180 0 239 (dk_at dksX2_berths_1 21 rfl rfl)
theorem dX2_berths_46 : decode cX2_berths 46 = .ok (.iload_n 1, 1) := dk_27 (dk_at dksX2_berths_2 0 rfl rfl)
theorem dX2_berths_47 : decode cX2_berths 47 = .ok (.if_icmp .ne 9, 3) := dk_160 0 9 (dk_at dksX2_berths_2 1 rfl rfl)
theorem dX2_berths_50 : decode cX2_berths 50 = .ok (.aload_n 2, 1) := dk_44 (dk_at dksX2_berths_2 4 rfl rfl)
theorem dX2_berths_51 : decode cX2_berths 51 = .ok (.aload 4, 2) := dk_25 4 (dk_at dksX2_berths_2 5 rfl rfl)
theorem dX2_berths_53 : decode cX2_berths 53 = .ok (.invokevirtual 250, 3) := dk_182 0 250 (dk_at dksX2_berths_2 7 rfl rfl)
theorem dX2_berths_56 : decode cX2_berths 56 = .ok (.goto (-35), 3) := dk_167 255 221 (dk_at dksX2_berths_2 10 rfl rfl)
theorem dX2_berths_59 : decode cX2_berths 59 = .ok (.aload_n 2, 1) := dk_44 (dk_at dksX2_berths_2 13 rfl rfl)
theorem dX2_berths_60 : decode cX2_berths 60 = .ok (.invokevirtual 253, 3) := dk_182 0 253 (dk_at dksX2_berths_2 14 rfl rfl)
theorem dX2_berths_63 : decode cX2_berths 63 = .ok (.areturn, 1) := dk_176 (dk_at dksX2_berths_2 17 rfl rfl)
abbrev cX2_berthsByLegs : ByteArray := prog_13_method_18_code
def yX2_berthsByLegs : MethodName := ⟨RX2, "berthsByLegs", "(I)I"⟩
def dkwX2_berthsByLegs_1 : List UInt8 := [44, 180, 0, 237, 21, 4, 46, 184, 1, 3, 62, 132, 4, 1, 167, 255, 232, 29, 172]
abbrev dktX2_berthsByLegs_1 : List UInt8 := dkwX2_berthsByLegs_1 ++ []
def dkwX2_berthsByLegs_0 : List UInt8 := [42, 180, 0, 21, 27, 182, 0, 154, 77, 3, 62, 3, 54, 4, 21, 4, 44, 182, 1, 1, 162, 0, 21, 29]
abbrev dktX2_berthsByLegs_0 : List UInt8 := dkwX2_berthsByLegs_0 ++ dktX2_berthsByLegs_1
theorem dksX2_berthsByLegs_0 : cX2_berthsByLegs.data.toList.drop 0 = dktX2_berthsByLegs_0 := by decide +kernel
theorem dksX2_berthsByLegs_1 : cX2_berthsByLegs.data.toList.drop 24 = dktX2_berthsByLegs_1 := dk_seg dksX2_berthsByLegs_0 24 rfl rfl
theorem dX2_berthsByLegs_0 : decode cX2_berthsByLegs 0 = .ok (.aload_n 0, 1) := dk_42 (dk_at dksX2_berthsByLegs_0 0 rfl rfl)
theorem dX2_berthsByLegs_1 : decode cX2_berthsByLegs 1 = .ok (.getfield 21, 3) := dk_180 0 21 (dk_at dksX2_berthsByLegs_0 1 rfl rfl)
theorem dX2_berthsByLegs_4 : decode cX2_berthsByLegs 4 = .ok (.iload_n 1, 1) := dk_27 (dk_at dksX2_berthsByLegs_0 4 rfl rfl)
theorem dX2_berthsByLegs_5 : decode cX2_berthsByLegs 5 = .ok (.invokevirtual 154, 3) := dk_182 0 154 (dk_at dksX2_berthsByLegs_0 5 rfl rfl)
theorem dX2_berthsByLegs_8 : decode cX2_berthsByLegs 8 = .ok (.astore_n 2, 1) := dk_77 (dk_at dksX2_berthsByLegs_0 8 rfl rfl)
theorem dX2_berthsByLegs_9 : decode cX2_berthsByLegs 9 = .ok (.iconst 0, 1) := dk_3 (dk_at dksX2_berthsByLegs_0 9 rfl rfl)
theorem dX2_berthsByLegs_10 : decode cX2_berthsByLegs 10 = .ok (.istore_n 3, 1) := dk_62 (dk_at dksX2_berthsByLegs_0 10 rfl rfl)
theorem dX2_berthsByLegs_11 : decode cX2_berthsByLegs 11 = .ok (.iconst 0, 1) := dk_3 (dk_at dksX2_berthsByLegs_0 11 rfl rfl)
theorem dX2_berthsByLegs_12 : decode cX2_berthsByLegs 12 = .ok (.istore 4, 2) := dk_54 4 (dk_at dksX2_berthsByLegs_0 12 rfl rfl)
theorem dX2_berthsByLegs_14 : decode cX2_berthsByLegs 14 = .ok (.iload 4, 2) := dk_21 4 (dk_at dksX2_berthsByLegs_0 14 rfl rfl)
theorem dX2_berthsByLegs_16 : decode cX2_berthsByLegs 16 = .ok (.aload_n 2, 1) := dk_44 (dk_at dksX2_berthsByLegs_0 16 rfl rfl)
theorem dX2_berthsByLegs_17 : decode cX2_berthsByLegs 17 = .ok (.invokevirtual 257, 3) := dk_182 1 1 (dk_at dksX2_berthsByLegs_0 17 rfl rfl)
theorem dX2_berthsByLegs_20 : decode cX2_berthsByLegs 20 = .ok (.if_icmp .ge 21, 3) := dk_162 0 21 (dk_at dksX2_berthsByLegs_0 20 rfl rfl)
theorem dX2_berthsByLegs_23 : decode cX2_berthsByLegs 23 = .ok (.iload_n 3, 1) := dk_29 (dk_at dksX2_berthsByLegs_0 23 rfl rfl)
theorem dX2_berthsByLegs_24 : decode cX2_berthsByLegs 24 = .ok (.aload_n 2, 1) := dk_44 (dk_at dksX2_berthsByLegs_1 0 rfl rfl)
theorem dX2_berthsByLegs_25 : decode cX2_berthsByLegs 25 = .ok (.getfield 237, 3) := dk_180 0 237 (dk_at dksX2_berthsByLegs_1 1 rfl rfl)
theorem dX2_berthsByLegs_28 : decode cX2_berthsByLegs 28 = .ok (.iload 4, 2) := dk_21 4 (dk_at dksX2_berthsByLegs_1 4 rfl rfl)
theorem dX2_berthsByLegs_30 : decode cX2_berthsByLegs 30 = .ok (.iaload, 1) := dk_46 (dk_at dksX2_berthsByLegs_1 6 rfl rfl)
theorem dX2_berthsByLegs_31 : decode cX2_berthsByLegs 31 = .ok (.invokestatic 259, 3) := dk_184 1 3 (dk_at dksX2_berthsByLegs_1 7 rfl rfl)
theorem dX2_berthsByLegs_34 : decode cX2_berthsByLegs 34 = .ok (.istore_n 3, 1) := dk_62 (dk_at dksX2_berthsByLegs_1 10 rfl rfl)
theorem dX2_berthsByLegs_35 : decode cX2_berthsByLegs 35 = .ok (.iinc 4 1, 3) := dk_132 4 1 (dk_at dksX2_berthsByLegs_1 11 rfl rfl)
theorem dX2_berthsByLegs_38 : decode cX2_berthsByLegs 38 = .ok (.goto (-24), 3) := dk_167 255 232 (dk_at dksX2_berthsByLegs_1 14 rfl rfl)
theorem dX2_berthsByLegs_41 : decode cX2_berthsByLegs 41 = .ok (.iload_n 3, 1) := dk_29 (dk_at dksX2_berthsByLegs_1 17 rfl rfl)
theorem dX2_berthsByLegs_42 : decode cX2_berthsByLegs 42 = .ok (.ireturn, 1) := dk_172 (dk_at dksX2_berthsByLegs_1 18 rfl rfl)
abbrev cX2_copy : ByteArray := prog_13_method_2_code
def yX2_copy : MethodName := ⟨RX2, "copy", "()LSleeperRailway$Railway;"⟩
def dkwX2_copy_8 : List UInt8 := [42, 180, 0, 103, 181, 0, 103, 43, 176]
abbrev dktX2_copy_8 : List UInt8 := dkwX2_copy_8 ++ []
def dkwX2_copy_7 : List UInt8 := [42, 180, 0, 94, 181, 0, 94, 43, 42, 180, 0, 97, 181, 0, 97, 43, 42, 180, 0, 100, 181, 0, 100, 43]
abbrev dktX2_copy_7 : List UInt8 := dkwX2_copy_7 ++ dktX2_copy_8
def dkwX2_copy_6 : List UInt8 := [192, 0, 89, 78, 43, 180, 0, 32, 45, 180, 0, 91, 184, 0, 81, 45, 182, 0, 85, 87, 167, 255, 221, 43]
abbrev dktX2_copy_6 : List UInt8 := dkwX2_copy_6 ++ dktX2_copy_7
def dkwX2_copy_5 : List UInt8 := [182, 0, 56, 185, 0, 60, 1, 0, 77, 44, 185, 0, 66, 1, 0, 153, 0, 32, 44, 185, 0, 72, 1, 0]
abbrev dktX2_copy_5 : List UInt8 := dkwX2_copy_5 ++ dktX2_copy_6
def dkwX2_copy_4 : List UInt8 := [78, 43, 180, 0, 28, 45, 182, 0, 78, 184, 0, 81, 45, 182, 0, 85, 87, 167, 255, 221, 42, 180, 0, 32]
abbrev dktX2_copy_4 : List UInt8 := dkwX2_copy_4 ++ dktX2_copy_5
def dkwX2_copy_3 : List UInt8 := [185, 0, 60, 1, 0, 77, 44, 185, 0, 66, 1, 0, 153, 0, 32, 44, 185, 0, 72, 1, 0, 192, 0, 76]
abbrev dktX2_copy_3 : List UInt8 := dkwX2_copy_3 ++ dktX2_copy_4
def dkwX2_copy_2 : List UInt8 := [132, 2, 1, 167, 255, 217, 43, 42, 180, 0, 21, 182, 0, 52, 181, 0, 21, 42, 180, 0, 28, 182, 0, 56]
abbrev dktX2_copy_2 : List UInt8 := dkwX2_copy_2 ++ dktX2_copy_3
def dkwX2_copy_1 : List UInt8 := [180, 0, 12, 42, 180, 0, 12, 28, 185, 0, 42, 2, 0, 192, 0, 46, 185, 0, 48, 2, 0, 87]
abbrev dktX2_copy_1 : List UInt8 := dkwX2_copy_1 ++ dktX2_copy_2
def dkwX2_copy_0 : List UInt8 := [187, 0, 13, 89, 183, 0, 35, 76, 3, 61, 28, 42, 180, 0, 12, 185, 0, 36, 1, 0, 162, 0, 32, 43]
abbrev dktX2_copy_0 : List UInt8 := dkwX2_copy_0 ++ dktX2_copy_1
theorem dksX2_copy_0 : cX2_copy.data.toList.drop 0 = dktX2_copy_0 := by decide +kernel
theorem dksX2_copy_1 : cX2_copy.data.toList.drop 24 = dktX2_copy_1 := dk_seg dksX2_copy_0 24 rfl rfl
theorem dksX2_copy_2 : cX2_copy.data.toList.drop 46 = dktX2_copy_2 := dk_seg dksX2_copy_1 22 rfl rfl
theorem dksX2_copy_3 : cX2_copy.data.toList.drop 70 = dktX2_copy_3 := dk_seg dksX2_copy_2 24 rfl rfl
theorem dksX2_copy_4 : cX2_copy.data.toList.drop 94 = dktX2_copy_4 := dk_seg dksX2_copy_3 24 rfl rfl
theorem dksX2_copy_5 : cX2_copy.data.toList.drop 118 = dktX2_copy_5 := dk_seg dksX2_copy_4 24 rfl rfl
theorem dksX2_copy_6 : cX2_copy.data.toList.drop 142 = dktX2_copy_6 := dk_seg dksX2_copy_5 24 rfl rfl
theorem dksX2_copy_7 : cX2_copy.data.toList.drop 166 = dktX2_copy_7 := dk_seg dksX2_copy_6 24 rfl rfl
theorem dksX2_copy_8 : cX2_copy.data.toList.drop 190 = dktX2_copy_8 := dk_seg dksX2_copy_7 24 rfl rfl
theorem dX2_copy_0 : decode cX2_copy 0 = .ok (.new 13, 3) := dk_187 0 13 (dk_at dksX2_copy_0 0 rfl rfl)
theorem dX2_copy_3 : decode cX2_copy 3 = .ok (.dup, 1) := dk_89 (dk_at dksX2_copy_0 3 rfl rfl)
theorem dX2_copy_4 : decode cX2_copy 4 = .ok (.invokespecial 35, 3) := dk_183 0 35 (dk_at dksX2_copy_0 4 rfl rfl)
theorem dX2_copy_7 : decode cX2_copy 7 = .ok (.astore_n 1, 1) := dk_76 (dk_at dksX2_copy_0 7 rfl rfl)
theorem dX2_copy_8 : decode cX2_copy 8 = .ok (.iconst 0, 1) := dk_3 (dk_at dksX2_copy_0 8 rfl rfl)
theorem dX2_copy_9 : decode cX2_copy 9 = .ok (.istore_n 2, 1) := dk_61 (dk_at dksX2_copy_0 9 rfl rfl)
theorem dX2_copy_10 : decode cX2_copy 10 = .ok (.iload_n 2, 1) := dk_28 (dk_at dksX2_copy_0 10 rfl rfl)
theorem dX2_copy_11 : decode cX2_copy 11 = .ok (.aload_n 0, 1) := dk_42 (dk_at dksX2_copy_0 11 rfl rfl)
theorem dX2_copy_12 : decode cX2_copy 12 = .ok (.getfield 12, 3) := dk_180 0 12 (dk_at dksX2_copy_0 12 rfl rfl)
theorem dX2_copy_15 : decode cX2_copy 15 = .ok (.invokeinterface 36 1, 5) := by decide +kernel
theorem dX2_copy_20 : decode cX2_copy 20 = .ok (.if_icmp .ge 32, 3) := dk_162 0 32 (dk_at dksX2_copy_0 20 rfl rfl)
theorem dX2_copy_23 : decode cX2_copy 23 = .ok (.aload_n 1, 1) := dk_43 (dk_at dksX2_copy_0 23 rfl rfl)
theorem dX2_copy_24 : decode cX2_copy 24 = .ok (.getfield 12, 3) := dk_180 0 12 (dk_at dksX2_copy_1 0 rfl rfl)
theorem dX2_copy_27 : decode cX2_copy 27 = .ok (.aload_n 0, 1) := dk_42 (dk_at dksX2_copy_1 3 rfl rfl)
theorem dX2_copy_28 : decode cX2_copy 28 = .ok (.getfield 12, 3) := dk_180 0 12 (dk_at dksX2_copy_1 4 rfl rfl)
theorem dX2_copy_31 : decode cX2_copy 31 = .ok (.iload_n 2, 1) := dk_28 (dk_at dksX2_copy_1 7 rfl rfl)
theorem dX2_copy_32 : decode cX2_copy 32 = .ok (.invokeinterface 42 2, 5) := by decide +kernel
theorem dX2_copy_37 : decode cX2_copy 37 = .ok (.checkcast 46, 3) := dk_192 0 46 (dk_at dksX2_copy_1 13 rfl rfl)
theorem dX2_copy_40 : decode cX2_copy 40 = .ok (.invokeinterface 48 2, 5) := by decide +kernel
theorem dX2_copy_45 : decode cX2_copy 45 = .ok (.pop, 1) := dk_87 (dk_at dksX2_copy_1 21 rfl rfl)
theorem dX2_copy_46 : decode cX2_copy 46 = .ok (.iinc 2 1, 3) := dk_132 2 1 (dk_at dksX2_copy_2 0 rfl rfl)
theorem dX2_copy_49 : decode cX2_copy 49 = .ok (.goto (-39), 3) := dk_167 255 217 (dk_at dksX2_copy_2 3 rfl rfl)
theorem dX2_copy_52 : decode cX2_copy 52 = .ok (.aload_n 1, 1) := dk_43 (dk_at dksX2_copy_2 6 rfl rfl)
theorem dX2_copy_53 : decode cX2_copy 53 = .ok (.aload_n 0, 1) := dk_42 (dk_at dksX2_copy_2 7 rfl rfl)
theorem dX2_copy_54 : decode cX2_copy 54 = .ok (.getfield 21, 3) := dk_180 0 21 (dk_at dksX2_copy_2 8 rfl rfl)
theorem dX2_copy_57 : decode cX2_copy 57 = .ok (.invokevirtual 52, 3) := dk_182 0 52 (dk_at dksX2_copy_2 11 rfl rfl)
theorem dX2_copy_60 : decode cX2_copy 60 = .ok (.putfield 21, 3) := dk_181 0 21 (dk_at dksX2_copy_2 14 rfl rfl)
theorem dX2_copy_63 : decode cX2_copy 63 = .ok (.aload_n 0, 1) := dk_42 (dk_at dksX2_copy_2 17 rfl rfl)
theorem dX2_copy_64 : decode cX2_copy 64 = .ok (.getfield 28, 3) := dk_180 0 28 (dk_at dksX2_copy_2 18 rfl rfl)
theorem dX2_copy_67 : decode cX2_copy 67 = .ok (.invokevirtual 56, 3) := dk_182 0 56 (dk_at dksX2_copy_2 21 rfl rfl)
theorem dX2_copy_70 : decode cX2_copy 70 = .ok (.invokeinterface 60 1, 5) := by decide +kernel
theorem dX2_copy_75 : decode cX2_copy 75 = .ok (.astore_n 2, 1) := dk_77 (dk_at dksX2_copy_3 5 rfl rfl)
theorem dX2_copy_76 : decode cX2_copy 76 = .ok (.aload_n 2, 1) := dk_44 (dk_at dksX2_copy_3 6 rfl rfl)
theorem dX2_copy_77 : decode cX2_copy 77 = .ok (.invokeinterface 66 1, 5) := by decide +kernel
theorem dX2_copy_82 : decode cX2_copy 82 = .ok (.ifCond .eq 32, 3) := dk_153 0 32 (dk_at dksX2_copy_3 12 rfl rfl)
theorem dX2_copy_85 : decode cX2_copy 85 = .ok (.aload_n 2, 1) := dk_44 (dk_at dksX2_copy_3 15 rfl rfl)
theorem dX2_copy_86 : decode cX2_copy 86 = .ok (.invokeinterface 72 1, 5) := by decide +kernel
theorem dX2_copy_91 : decode cX2_copy 91 = .ok (.checkcast 76, 3) := dk_192 0 76 (dk_at dksX2_copy_3 21 rfl rfl)
theorem dX2_copy_94 : decode cX2_copy 94 = .ok (.astore_n 3, 1) := dk_78 (dk_at dksX2_copy_4 0 rfl rfl)
theorem dX2_copy_95 : decode cX2_copy 95 = .ok (.aload_n 1, 1) := dk_43 (dk_at dksX2_copy_4 1 rfl rfl)
theorem dX2_copy_96 : decode cX2_copy 96 = .ok (.getfield 28, 3) := dk_180 0 28 (dk_at dksX2_copy_4 2 rfl rfl)
theorem dX2_copy_99 : decode cX2_copy 99 = .ok (.aload_n 3, 1) := dk_45 (dk_at dksX2_copy_4 5 rfl rfl)
theorem dX2_copy_100 : decode cX2_copy 100 = .ok (.invokevirtual 78, 3) := dk_182 0 78 (dk_at dksX2_copy_4 6 rfl rfl)
theorem dX2_copy_103 : decode cX2_copy 103 = .ok (.invokestatic 81, 3) := dk_184 0 81 (dk_at dksX2_copy_4 9 rfl rfl)
theorem dX2_copy_106 : decode cX2_copy 106 = .ok (.aload_n 3, 1) := dk_45 (dk_at dksX2_copy_4 12 rfl rfl)
theorem dX2_copy_107 : decode cX2_copy 107 = .ok (.invokevirtual 85, 3) := dk_182 0 85 (dk_at dksX2_copy_4 13 rfl rfl)
theorem dX2_copy_110 : decode cX2_copy 110 = .ok (.pop, 1) := dk_87 (dk_at dksX2_copy_4 16 rfl rfl)
theorem dX2_copy_111 : decode cX2_copy 111 = .ok (.goto (-35), 3) := dk_167 255 221 (dk_at dksX2_copy_4 17 rfl rfl)
theorem dX2_copy_114 : decode cX2_copy 114 = .ok (.aload_n 0, 1) := dk_42 (dk_at dksX2_copy_4 20 rfl rfl)
theorem dX2_copy_115 : decode cX2_copy 115 = .ok (.getfield 32, 3) := dk_180 0 32 (dk_at dksX2_copy_4 21 rfl rfl)
theorem dX2_copy_118 : decode cX2_copy 118 = .ok (.invokevirtual 56, 3) := dk_182 0 56 (dk_at dksX2_copy_5 0 rfl rfl)
theorem dX2_copy_121 : decode cX2_copy 121 = .ok (.invokeinterface 60 1, 5) := by decide +kernel
theorem dX2_copy_126 : decode cX2_copy 126 = .ok (.astore_n 2, 1) := dk_77 (dk_at dksX2_copy_5 8 rfl rfl)
theorem dX2_copy_127 : decode cX2_copy 127 = .ok (.aload_n 2, 1) := dk_44 (dk_at dksX2_copy_5 9 rfl rfl)
theorem dX2_copy_128 : decode cX2_copy 128 = .ok (.invokeinterface 66 1, 5) := by decide +kernel
theorem dX2_copy_133 : decode cX2_copy 133 = .ok (.ifCond .eq 32, 3) := dk_153 0 32 (dk_at dksX2_copy_5 15 rfl rfl)
theorem dX2_copy_136 : decode cX2_copy 136 = .ok (.aload_n 2, 1) := dk_44 (dk_at dksX2_copy_5 18 rfl rfl)
theorem dX2_copy_137 : decode cX2_copy 137 = .ok (.invokeinterface 72 1, 5) := by decide +kernel
theorem dX2_copy_142 : decode cX2_copy 142 = .ok (.checkcast 89, 3) := dk_192 0 89 (dk_at dksX2_copy_6 0 rfl rfl)
theorem dX2_copy_145 : decode cX2_copy 145 = .ok (.astore_n 3, 1) := dk_78 (dk_at dksX2_copy_6 3 rfl rfl)
theorem dX2_copy_146 : decode cX2_copy 146 = .ok (.aload_n 1, 1) := dk_43 (dk_at dksX2_copy_6 4 rfl rfl)
theorem dX2_copy_147 : decode cX2_copy 147 = .ok (.getfield 32, 3) := dk_180 0 32 (dk_at dksX2_copy_6 5 rfl rfl)
theorem dX2_copy_150 : decode cX2_copy 150 = .ok (.aload_n 3, 1) := dk_45 (dk_at dksX2_copy_6 8 rfl rfl)
theorem dX2_copy_151 : decode cX2_copy 151 = .ok (.getfield 91, 3) := dk_180 0 91 (dk_at dksX2_copy_6 9 rfl rfl)
theorem dX2_copy_154 : decode cX2_copy 154 = .ok (.invokestatic 81, 3) := dk_184 0 81 (dk_at dksX2_copy_6 12 rfl rfl)
theorem dX2_copy_157 : decode cX2_copy 157 = .ok (.aload_n 3, 1) := dk_45 (dk_at dksX2_copy_6 15 rfl rfl)
theorem dX2_copy_158 : decode cX2_copy 158 = .ok (.invokevirtual 85, 3) := dk_182 0 85 (dk_at dksX2_copy_6 16 rfl rfl)
theorem dX2_copy_161 : decode cX2_copy 161 = .ok (.pop, 1) := dk_87 (dk_at dksX2_copy_6 19 rfl rfl)
theorem dX2_copy_162 : decode cX2_copy 162 = .ok (.goto (-35), 3) := dk_167 255 221 (dk_at dksX2_copy_6 20 rfl rfl)
theorem dX2_copy_165 : decode cX2_copy 165 = .ok (.aload_n 1, 1) := dk_43 (dk_at dksX2_copy_6 23 rfl rfl)
theorem dX2_copy_166 : decode cX2_copy 166 = .ok (.aload_n 0, 1) := dk_42 (dk_at dksX2_copy_7 0 rfl rfl)
theorem dX2_copy_167 : decode cX2_copy 167 = .ok (.getfield 94, 3) := dk_180 0 94 (dk_at dksX2_copy_7 1 rfl rfl)
theorem dX2_copy_170 : decode cX2_copy 170 = .ok (.putfield 94, 3) := dk_181 0 94 (dk_at dksX2_copy_7 4 rfl rfl)
theorem dX2_copy_173 : decode cX2_copy 173 = .ok (.aload_n 1, 1) := dk_43 (dk_at dksX2_copy_7 7 rfl rfl)
theorem dX2_copy_174 : decode cX2_copy 174 = .ok (.aload_n 0, 1) := dk_42 (dk_at dksX2_copy_7 8 rfl rfl)
theorem dX2_copy_175 : decode cX2_copy 175 = .ok (.getfield 97, 3) := dk_180 0 97 (dk_at dksX2_copy_7 9 rfl rfl)
theorem dX2_copy_178 : decode cX2_copy 178 = .ok (.putfield 97, 3) := dk_181 0 97 (dk_at dksX2_copy_7 12 rfl rfl)
theorem dX2_copy_181 : decode cX2_copy 181 = .ok (.aload_n 1, 1) := dk_43 (dk_at dksX2_copy_7 15 rfl rfl)
theorem dX2_copy_182 : decode cX2_copy 182 = .ok (.aload_n 0, 1) := dk_42 (dk_at dksX2_copy_7 16 rfl rfl)
theorem dX2_copy_183 : decode cX2_copy 183 = .ok (.getfield 100, 3) := dk_180 0 100 (dk_at dksX2_copy_7 17 rfl rfl)
theorem dX2_copy_186 : decode cX2_copy 186 = .ok (.putfield 100, 3) := dk_181 0 100 (dk_at dksX2_copy_7 20 rfl rfl)
theorem dX2_copy_189 : decode cX2_copy 189 = .ok (.aload_n 1, 1) := dk_43 (dk_at dksX2_copy_7 23 rfl rfl)
theorem dX2_copy_190 : decode cX2_copy 190 = .ok (.aload_n 0, 1) := dk_42 (dk_at dksX2_copy_8 0 rfl rfl)
theorem dX2_copy_191 : decode cX2_copy 191 = .ok (.getfield 103, 3) := dk_180 0 103 (dk_at dksX2_copy_8 1 rfl rfl)
theorem dX2_copy_194 : decode cX2_copy 194 = .ok (.putfield 103, 3) := dk_181 0 103 (dk_at dksX2_copy_8 4 rfl rfl)
theorem dX2_copy_197 : decode cX2_copy 197 = .ok (.aload_n 1, 1) := dk_43 (dk_at dksX2_copy_8 7 rfl rfl)
theorem dX2_copy_198 : decode cX2_copy 198 = .ok (.areturn, 1) := dk_176 (dk_at dksX2_copy_8 8 rfl rfl)
abbrev cX2_addStation : ByteArray := prog_13_method_6_code
def yX2_addStation : MethodName := ⟨RX2, "addStation", "(I)I"⟩
def dkwX2_addStation_2 : List UInt8 := [185, 0, 48, 2, 0, 87, 42, 180, 0, 12, 185, 0, 36, 1, 0, 4, 100, 172]
abbrev dktX2_addStation_2 : List UInt8 := dkwX2_addStation_2 ++ []
def dkwX2_addStation_1 : List UInt8 := [162, 0, 7, 4, 167, 0, 4, 3, 18, 132, 184, 0, 128, 42, 180, 0, 12, 27, 184, 0, 81]
abbrev dktX2_addStation_1 : List UInt8 := dkwX2_addStation_1 ++ dktX2_addStation_2
def dkwX2_addStation_0 : List UInt8 := [27, 4, 16, 30, 184, 0, 106, 18, 126, 184, 0, 128, 42, 180, 0, 12, 185, 0, 36, 1, 0, 16, 8]
abbrev dktX2_addStation_0 : List UInt8 := dkwX2_addStation_0 ++ dktX2_addStation_1
theorem dksX2_addStation_0 : cX2_addStation.data.toList.drop 0 = dktX2_addStation_0 := by decide +kernel
theorem dksX2_addStation_1 : cX2_addStation.data.toList.drop 23 = dktX2_addStation_1 := dk_seg dksX2_addStation_0 23 rfl rfl
theorem dksX2_addStation_2 : cX2_addStation.data.toList.drop 44 = dktX2_addStation_2 := dk_seg dksX2_addStation_1 21 rfl rfl
theorem dX2_addStation_0 : decode cX2_addStation 0 = .ok (.iload_n 1, 1) := dk_27 (dk_at dksX2_addStation_0 0 rfl rfl)
theorem dX2_addStation_1 : decode cX2_addStation 1 = .ok (.iconst 1, 1) := dk_4 (dk_at dksX2_addStation_0 1 rfl rfl)
theorem dX2_addStation_2 : decode cX2_addStation 2 = .ok (.bipush 30, 2) := dk_16 30 (dk_at dksX2_addStation_0 2 rfl rfl)
theorem dX2_addStation_4 : decode cX2_addStation 4 = .ok (.invokestatic 106, 3) := dk_184 0 106 (dk_at dksX2_addStation_0 4 rfl rfl)
theorem dX2_addStation_7 : decode cX2_addStation 7 = .ok (.ldc 126, 2) := dk_18 126 (dk_at dksX2_addStation_0 7 rfl rfl)
theorem dX2_addStation_9 : decode cX2_addStation 9 = .ok (.invokestatic 128, 3) := dk_184 0 128 (dk_at dksX2_addStation_0 9 rfl rfl)
theorem dX2_addStation_12 : decode cX2_addStation 12 = .ok (.aload_n 0, 1) := dk_42 (dk_at dksX2_addStation_0 12 rfl rfl)
theorem dX2_addStation_13 : decode cX2_addStation 13 = .ok (.getfield 12, 3) := dk_180 0 12 (dk_at dksX2_addStation_0 13 rfl rfl)
theorem dX2_addStation_16 : decode cX2_addStation 16 = .ok (.invokeinterface 36 1, 5) := by decide +kernel
theorem dX2_addStation_21 : decode cX2_addStation 21 = .ok (.bipush 8, 2) := dk_16 8 (dk_at dksX2_addStation_0 21 rfl rfl)
theorem dX2_addStation_23 : decode cX2_addStation 23 = .ok (.if_icmp .ge 7, 3) := dk_162 0 7 (dk_at dksX2_addStation_1 0 rfl rfl)
theorem dX2_addStation_26 : decode cX2_addStation 26 = .ok (.iconst 1, 1) := dk_4 (dk_at dksX2_addStation_1 3 rfl rfl)
theorem dX2_addStation_27 : decode cX2_addStation 27 = .ok (.goto 4, 3) := dk_167 0 4 (dk_at dksX2_addStation_1 4 rfl rfl)
theorem dX2_addStation_30 : decode cX2_addStation 30 = .ok (.iconst 0, 1) := dk_3 (dk_at dksX2_addStation_1 7 rfl rfl)
theorem dX2_addStation_31 : decode cX2_addStation 31 = .ok (.ldc 132, 2) := dk_18 132 (dk_at dksX2_addStation_1 8 rfl rfl)
theorem dX2_addStation_33 : decode cX2_addStation 33 = .ok (.invokestatic 128, 3) := dk_184 0 128 (dk_at dksX2_addStation_1 10 rfl rfl)
theorem dX2_addStation_36 : decode cX2_addStation 36 = .ok (.aload_n 0, 1) := dk_42 (dk_at dksX2_addStation_1 13 rfl rfl)
theorem dX2_addStation_37 : decode cX2_addStation 37 = .ok (.getfield 12, 3) := dk_180 0 12 (dk_at dksX2_addStation_1 14 rfl rfl)
theorem dX2_addStation_40 : decode cX2_addStation 40 = .ok (.iload_n 1, 1) := dk_27 (dk_at dksX2_addStation_1 17 rfl rfl)
theorem dX2_addStation_41 : decode cX2_addStation 41 = .ok (.invokestatic 81, 3) := dk_184 0 81 (dk_at dksX2_addStation_1 18 rfl rfl)
theorem dX2_addStation_44 : decode cX2_addStation 44 = .ok (.invokeinterface 48 2, 5) := by decide +kernel
theorem dX2_addStation_49 : decode cX2_addStation 49 = .ok (.pop, 1) := dk_87 (dk_at dksX2_addStation_2 5 rfl rfl)
theorem dX2_addStation_50 : decode cX2_addStation 50 = .ok (.aload_n 0, 1) := dk_42 (dk_at dksX2_addStation_2 6 rfl rfl)
theorem dX2_addStation_51 : decode cX2_addStation 51 = .ok (.getfield 12, 3) := dk_180 0 12 (dk_at dksX2_addStation_2 7 rfl rfl)
theorem dX2_addStation_54 : decode cX2_addStation 54 = .ok (.invokeinterface 36 1, 5) := by decide +kernel
theorem dX2_addStation_59 : decode cX2_addStation 59 = .ok (.iconst 1, 1) := dk_4 (dk_at dksX2_addStation_2 15 rfl rfl)
theorem dX2_addStation_60 : decode cX2_addStation 60 = .ok (.isub, 1) := dk_100 (dk_at dksX2_addStation_2 16 rfl rfl)
theorem dX2_addStation_61 : decode cX2_addStation 61 = .ok (.ireturn, 1) := dk_172 (dk_at dksX2_addStation_2 17 rfl rfl)
abbrev cX2_addTrain : ByteArray := prog_13_method_7_code
def yX2_addTrain : MethodName := ⟨RX2, "addTrain", "(III)I"⟩
def dkwX2_addTrain_4 : List UInt8 := [100, 172]
abbrev dktX2_addTrain_4 : List UInt8 := dkwX2_addTrain_4 ++ []
def dkwX2_addTrain_3 : List UInt8 := [187, 0, 146, 89, 27, 28, 29, 183, 0, 148, 185, 0, 48, 2, 0, 87, 42, 180, 0, 21, 182, 0, 140, 4]
abbrev dktX2_addTrain_3 : List UInt8 := dkwX2_addTrain_3 ++ dktX2_addTrain_4
def dkwX2_addTrain_2 : List UInt8 := [16, 6, 162, 0, 7, 4, 167, 0, 4, 3, 18, 132, 184, 0, 128, 42, 180, 0, 21, 180, 0, 143]
abbrev dktX2_addTrain_2 : List UInt8 := dkwX2_addTrain_2 ++ dktX2_addTrain_3
def dkwX2_addTrain_1 : List UInt8 := [184, 0, 106, 153, 0, 7, 4, 167, 0, 4, 3, 18, 126, 184, 0, 128, 42, 180, 0, 21, 182, 0, 140]
abbrev dktX2_addTrain_1 : List UInt8 := dkwX2_addTrain_1 ++ dktX2_addTrain_2
def dkwX2_addTrain_0 : List UInt8 := [42, 27, 182, 0, 134, 18, 138, 184, 0, 128, 28, 3, 17, 5, 159, 184, 0, 106, 153, 0, 16, 29, 4, 8]
abbrev dktX2_addTrain_0 : List UInt8 := dkwX2_addTrain_0 ++ dktX2_addTrain_1
theorem dksX2_addTrain_0 : cX2_addTrain.data.toList.drop 0 = dktX2_addTrain_0 := by decide +kernel
theorem dksX2_addTrain_1 : cX2_addTrain.data.toList.drop 24 = dktX2_addTrain_1 := dk_seg dksX2_addTrain_0 24 rfl rfl
theorem dksX2_addTrain_2 : cX2_addTrain.data.toList.drop 47 = dktX2_addTrain_2 := dk_seg dksX2_addTrain_1 23 rfl rfl
theorem dksX2_addTrain_3 : cX2_addTrain.data.toList.drop 69 = dktX2_addTrain_3 := dk_seg dksX2_addTrain_2 22 rfl rfl
theorem dksX2_addTrain_4 : cX2_addTrain.data.toList.drop 93 = dktX2_addTrain_4 := dk_seg dksX2_addTrain_3 24 rfl rfl
theorem dX2_addTrain_0 : decode cX2_addTrain 0 = .ok (.aload_n 0, 1) := dk_42 (dk_at dksX2_addTrain_0 0 rfl rfl)
theorem dX2_addTrain_1 : decode cX2_addTrain 1 = .ok (.iload_n 1, 1) := dk_27 (dk_at dksX2_addTrain_0 1 rfl rfl)
theorem dX2_addTrain_2 : decode cX2_addTrain 2 = .ok (.invokevirtual 134, 3) := dk_182 0 134 (dk_at dksX2_addTrain_0 2 rfl rfl)
theorem dX2_addTrain_5 : decode cX2_addTrain 5 = .ok (.ldc 138, 2) := dk_18 138 (dk_at dksX2_addTrain_0 5 rfl rfl)
theorem dX2_addTrain_7 : decode cX2_addTrain 7 = .ok (.invokestatic 128, 3) := dk_184 0 128 (dk_at dksX2_addTrain_0 7 rfl rfl)
theorem dX2_addTrain_10 : decode cX2_addTrain 10 = .ok (.iload_n 2, 1) := dk_28 (dk_at dksX2_addTrain_0 10 rfl rfl)
theorem dX2_addTrain_11 : decode cX2_addTrain 11 = .ok (.iconst 0, 1) := dk_3 (dk_at dksX2_addTrain_0 11 rfl rfl)
theorem dX2_addTrain_12 : decode cX2_addTrain 12 = .ok (.sipush 1439, 3) := dk_17 5 159 (dk_at dksX2_addTrain_0 12 rfl rfl)
theorem dX2_addTrain_15 : decode cX2_addTrain 15 = .ok (.invokestatic 106, 3) := dk_184 0 106 (dk_at dksX2_addTrain_0 15 rfl rfl)
theorem dX2_addTrain_18 : decode cX2_addTrain 18 = .ok (.ifCond .eq 16, 3) := dk_153 0 16 (dk_at dksX2_addTrain_0 18 rfl rfl)
theorem dX2_addTrain_21 : decode cX2_addTrain 21 = .ok (.iload_n 3, 1) := dk_29 (dk_at dksX2_addTrain_0 21 rfl rfl)
theorem dX2_addTrain_22 : decode cX2_addTrain 22 = .ok (.iconst 1, 1) := dk_4 (dk_at dksX2_addTrain_0 22 rfl rfl)
theorem dX2_addTrain_23 : decode cX2_addTrain 23 = .ok (.iconst 5, 1) := dk_8 (dk_at dksX2_addTrain_0 23 rfl rfl)
theorem dX2_addTrain_24 : decode cX2_addTrain 24 = .ok (.invokestatic 106, 3) := dk_184 0 106 (dk_at dksX2_addTrain_1 0 rfl rfl)
theorem dX2_addTrain_27 : decode cX2_addTrain 27 = .ok (.ifCond .eq 7, 3) := dk_153 0 7 (dk_at dksX2_addTrain_1 3 rfl rfl)
theorem dX2_addTrain_30 : decode cX2_addTrain 30 = .ok (.iconst 1, 1) := dk_4 (dk_at dksX2_addTrain_1 6 rfl rfl)
theorem dX2_addTrain_31 : decode cX2_addTrain 31 = .ok (.goto 4, 3) := dk_167 0 4 (dk_at dksX2_addTrain_1 7 rfl rfl)
theorem dX2_addTrain_34 : decode cX2_addTrain 34 = .ok (.iconst 0, 1) := dk_3 (dk_at dksX2_addTrain_1 10 rfl rfl)
theorem dX2_addTrain_35 : decode cX2_addTrain 35 = .ok (.ldc 126, 2) := dk_18 126 (dk_at dksX2_addTrain_1 11 rfl rfl)
theorem dX2_addTrain_37 : decode cX2_addTrain 37 = .ok (.invokestatic 128, 3) := dk_184 0 128 (dk_at dksX2_addTrain_1 13 rfl rfl)
theorem dX2_addTrain_40 : decode cX2_addTrain 40 = .ok (.aload_n 0, 1) := dk_42 (dk_at dksX2_addTrain_1 16 rfl rfl)
theorem dX2_addTrain_41 : decode cX2_addTrain 41 = .ok (.getfield 21, 3) := dk_180 0 21 (dk_at dksX2_addTrain_1 17 rfl rfl)
theorem dX2_addTrain_44 : decode cX2_addTrain 44 = .ok (.invokevirtual 140, 3) := dk_182 0 140 (dk_at dksX2_addTrain_1 20 rfl rfl)
theorem dX2_addTrain_47 : decode cX2_addTrain 47 = .ok (.bipush 6, 2) := dk_16 6 (dk_at dksX2_addTrain_2 0 rfl rfl)
theorem dX2_addTrain_49 : decode cX2_addTrain 49 = .ok (.if_icmp .ge 7, 3) := dk_162 0 7 (dk_at dksX2_addTrain_2 2 rfl rfl)
theorem dX2_addTrain_52 : decode cX2_addTrain 52 = .ok (.iconst 1, 1) := dk_4 (dk_at dksX2_addTrain_2 5 rfl rfl)
theorem dX2_addTrain_53 : decode cX2_addTrain 53 = .ok (.goto 4, 3) := dk_167 0 4 (dk_at dksX2_addTrain_2 6 rfl rfl)
theorem dX2_addTrain_56 : decode cX2_addTrain 56 = .ok (.iconst 0, 1) := dk_3 (dk_at dksX2_addTrain_2 9 rfl rfl)
theorem dX2_addTrain_57 : decode cX2_addTrain 57 = .ok (.ldc 132, 2) := dk_18 132 (dk_at dksX2_addTrain_2 10 rfl rfl)
theorem dX2_addTrain_59 : decode cX2_addTrain 59 = .ok (.invokestatic 128, 3) := dk_184 0 128 (dk_at dksX2_addTrain_2 12 rfl rfl)
theorem dX2_addTrain_62 : decode cX2_addTrain 62 = .ok (.aload_n 0, 1) := dk_42 (dk_at dksX2_addTrain_2 15 rfl rfl)
theorem dX2_addTrain_63 : decode cX2_addTrain 63 = .ok (.getfield 21, 3) := dk_180 0 21 (dk_at dksX2_addTrain_2 16 rfl rfl)
theorem dX2_addTrain_66 : decode cX2_addTrain 66 = .ok (.getfield 143, 3) := dk_180 0 143 (dk_at dksX2_addTrain_2 19 rfl rfl)
theorem dX2_addTrain_69 : decode cX2_addTrain 69 = .ok (.new 146, 3) := dk_187 0 146 (dk_at dksX2_addTrain_3 0 rfl rfl)
theorem dX2_addTrain_72 : decode cX2_addTrain 72 = .ok (.dup, 1) := dk_89 (dk_at dksX2_addTrain_3 3 rfl rfl)
theorem dX2_addTrain_73 : decode cX2_addTrain 73 = .ok (.iload_n 1, 1) := dk_27 (dk_at dksX2_addTrain_3 4 rfl rfl)
theorem dX2_addTrain_74 : decode cX2_addTrain 74 = .ok (.iload_n 2, 1) := dk_28 (dk_at dksX2_addTrain_3 5 rfl rfl)
theorem dX2_addTrain_75 : decode cX2_addTrain 75 = .ok (.iload_n 3, 1) := dk_29 (dk_at dksX2_addTrain_3 6 rfl rfl)
theorem dX2_addTrain_76 : decode cX2_addTrain 76 = .ok (.invokespecial 148, 3) := dk_183 0 148 (dk_at dksX2_addTrain_3 7 rfl rfl)
theorem dX2_addTrain_79 : decode cX2_addTrain 79 = .ok (.invokeinterface 48 2, 5) := by decide +kernel
theorem dX2_addTrain_84 : decode cX2_addTrain 84 = .ok (.pop, 1) := dk_87 (dk_at dksX2_addTrain_3 15 rfl rfl)
theorem dX2_addTrain_85 : decode cX2_addTrain 85 = .ok (.aload_n 0, 1) := dk_42 (dk_at dksX2_addTrain_3 16 rfl rfl)
theorem dX2_addTrain_86 : decode cX2_addTrain 86 = .ok (.getfield 21, 3) := dk_180 0 21 (dk_at dksX2_addTrain_3 17 rfl rfl)
theorem dX2_addTrain_89 : decode cX2_addTrain 89 = .ok (.invokevirtual 140, 3) := dk_182 0 140 (dk_at dksX2_addTrain_3 20 rfl rfl)
theorem dX2_addTrain_92 : decode cX2_addTrain 92 = .ok (.iconst 1, 1) := dk_4 (dk_at dksX2_addTrain_3 23 rfl rfl)
theorem dX2_addTrain_93 : decode cX2_addTrain 93 = .ok (.isub, 1) := dk_100 (dk_at dksX2_addTrain_4 0 rfl rfl)
theorem dX2_addTrain_94 : decode cX2_addTrain 94 = .ok (.ireturn, 1) := dk_172 (dk_at dksX2_addTrain_4 1 rfl rfl)
abbrev cX2_hasStation : ByteArray := prog_13_method_3_code
def yX2_hasStation : MethodName := ⟨RX2, "hasStation", "(I)Z"⟩
def dkwX2_hasStation_0 : List UInt8 := [27, 3, 42, 180, 0, 12, 185, 0, 36, 1, 0, 4, 100, 184, 0, 106, 172]
abbrev dktX2_hasStation_0 : List UInt8 := dkwX2_hasStation_0 ++ []
theorem dksX2_hasStation_0 : cX2_hasStation.data.toList.drop 0 = dktX2_hasStation_0 := by decide +kernel
theorem dX2_hasStation_0 : decode cX2_hasStation 0 = .ok (.iload_n 1, 1) := dk_27 (dk_at dksX2_hasStation_0 0 rfl rfl)
theorem dX2_hasStation_1 : decode cX2_hasStation 1 = .ok (.iconst 0, 1) := dk_3 (dk_at dksX2_hasStation_0 1 rfl rfl)
theorem dX2_hasStation_2 : decode cX2_hasStation 2 = .ok (.aload_n 0, 1) := dk_42 (dk_at dksX2_hasStation_0 2 rfl rfl)
theorem dX2_hasStation_3 : decode cX2_hasStation 3 = .ok (.getfield 12, 3) := dk_180 0 12 (dk_at dksX2_hasStation_0 3 rfl rfl)
theorem dX2_hasStation_6 : decode cX2_hasStation 6 = .ok (.invokeinterface 36 1, 5) := by decide +kernel
theorem dX2_hasStation_11 : decode cX2_hasStation 11 = .ok (.iconst 1, 1) := dk_4 (dk_at dksX2_hasStation_0 11 rfl rfl)
theorem dX2_hasStation_12 : decode cX2_hasStation 12 = .ok (.isub, 1) := dk_100 (dk_at dksX2_hasStation_0 12 rfl rfl)
theorem dX2_hasStation_13 : decode cX2_hasStation 13 = .ok (.invokestatic 106, 3) := dk_184 0 106 (dk_at dksX2_hasStation_0 13 rfl rfl)
theorem dX2_hasStation_16 : decode cX2_hasStation 16 = .ok (.ireturn, 1) := dk_172 (dk_at dksX2_hasStation_0 16 rfl rfl)
abbrev cX2_extendTrain : ByteArray := prog_13_method_8_code
def yX2_extendTrain : MethodName := ⟨RX2, "extendTrain", "(IIII)I"⟩
def dkwX2_extendTrain_4 : List UInt8 := [159, 0, 7, 4, 167, 0, 4, 3, 18, 132, 184, 0, 128, 25, 5, 28, 29, 21, 4, 182, 0, 164, 172]
abbrev dktX2_extendTrain_4 : List UInt8 := dkwX2_extendTrain_4 ++ []
def dkwX2_extendTrain_3 : List UInt8 := [25, 5, 180, 0, 157, 16, 8, 162, 0, 24, 25, 5, 180, 0, 160, 25, 5, 180, 0, 157, 4, 100, 46, 28]
abbrev dktX2_extendTrain_3 : List UInt8 := dkwX2_extendTrain_3 ++ dktX2_extendTrain_4
def dkwX2_extendTrain_2 : List UInt8 := [153, 0, 7, 4, 167, 0, 4, 3, 18, 126, 184, 0, 128, 42, 180, 0, 21, 27, 182, 0, 154, 58, 5]
abbrev dktX2_extendTrain_2 : List UInt8 := dkwX2_extendTrain_2 ++ dktX2_extendTrain_3
def dkwX2_extendTrain_1 : List UInt8 := [18, 138, 184, 0, 128, 29, 4, 17, 1, 44, 184, 0, 106, 153, 0, 18, 21, 4, 3, 16, 60, 184, 0, 106]
abbrev dktX2_extendTrain_1 : List UInt8 := dkwX2_extendTrain_1 ++ dktX2_extendTrain_2
def dkwX2_extendTrain_0 : List UInt8 := [42, 180, 0, 21, 27, 182, 0, 151, 153, 0, 15, 42, 28, 182, 0, 134, 153, 0, 7, 4, 167, 0, 4, 3]
abbrev dktX2_extendTrain_0 : List UInt8 := dkwX2_extendTrain_0 ++ dktX2_extendTrain_1
theorem dksX2_extendTrain_0 : cX2_extendTrain.data.toList.drop 0 = dktX2_extendTrain_0 := by decide +kernel
theorem dksX2_extendTrain_1 : cX2_extendTrain.data.toList.drop 24 = dktX2_extendTrain_1 := dk_seg dksX2_extendTrain_0 24 rfl rfl
theorem dksX2_extendTrain_2 : cX2_extendTrain.data.toList.drop 48 = dktX2_extendTrain_2 := dk_seg dksX2_extendTrain_1 24 rfl rfl
theorem dksX2_extendTrain_3 : cX2_extendTrain.data.toList.drop 71 = dktX2_extendTrain_3 := dk_seg dksX2_extendTrain_2 23 rfl rfl
theorem dksX2_extendTrain_4 : cX2_extendTrain.data.toList.drop 95 = dktX2_extendTrain_4 := dk_seg dksX2_extendTrain_3 24 rfl rfl
theorem dX2_extendTrain_0 : decode cX2_extendTrain 0 = .ok (.aload_n 0, 1) := dk_42 (dk_at dksX2_extendTrain_0 0 rfl rfl)
theorem dX2_extendTrain_1 : decode cX2_extendTrain 1 = .ok (.getfield 21, 3) := dk_180 0 21 (dk_at dksX2_extendTrain_0 1 rfl rfl)
theorem dX2_extendTrain_4 : decode cX2_extendTrain 4 = .ok (.iload_n 1, 1) := dk_27 (dk_at dksX2_extendTrain_0 4 rfl rfl)
theorem dX2_extendTrain_5 : decode cX2_extendTrain 5 = .ok (.invokevirtual 151, 3) := dk_182 0 151 (dk_at dksX2_extendTrain_0 5 rfl rfl)
theorem dX2_extendTrain_8 : decode cX2_extendTrain 8 = .ok (.ifCond .eq 15, 3) := dk_153 0 15 (dk_at dksX2_extendTrain_0 8 rfl rfl)
theorem dX2_extendTrain_11 : decode cX2_extendTrain 11 = .ok (.aload_n 0, 1) := dk_42 (dk_at dksX2_extendTrain_0 11 rfl rfl)
theorem dX2_extendTrain_12 : decode cX2_extendTrain 12 = .ok (.iload_n 2, 1) := dk_28 (dk_at dksX2_extendTrain_0 12 rfl rfl)
theorem dX2_extendTrain_13 : decode cX2_extendTrain 13 = .ok (.invokevirtual 134, 3) := dk_182 0 134 (dk_at dksX2_extendTrain_0 13 rfl rfl)
theorem dX2_extendTrain_16 : decode cX2_extendTrain 16 = .ok (.ifCond .eq 7, 3) := dk_153 0 7 (dk_at dksX2_extendTrain_0 16 rfl rfl)
theorem dX2_extendTrain_19 : decode cX2_extendTrain 19 = .ok (.iconst 1, 1) := dk_4 (dk_at dksX2_extendTrain_0 19 rfl rfl)
theorem dX2_extendTrain_20 : decode cX2_extendTrain 20 = .ok (.goto 4, 3) := dk_167 0 4 (dk_at dksX2_extendTrain_0 20 rfl rfl)
theorem dX2_extendTrain_23 : decode cX2_extendTrain 23 = .ok (.iconst 0, 1) := dk_3 (dk_at dksX2_extendTrain_0 23 rfl rfl)
theorem dX2_extendTrain_24 : decode cX2_extendTrain 24 = .ok (.ldc 138, 2) := dk_18 138 (dk_at dksX2_extendTrain_1 0 rfl rfl)
theorem dX2_extendTrain_26 : decode cX2_extendTrain 26 = .ok (.invokestatic 128, 3) := dk_184 0 128 (dk_at dksX2_extendTrain_1 2 rfl rfl)
theorem dX2_extendTrain_29 : decode cX2_extendTrain 29 = .ok (.iload_n 3, 1) := dk_29 (dk_at dksX2_extendTrain_1 5 rfl rfl)
theorem dX2_extendTrain_30 : decode cX2_extendTrain 30 = .ok (.iconst 1, 1) := dk_4 (dk_at dksX2_extendTrain_1 6 rfl rfl)
theorem dX2_extendTrain_31 : decode cX2_extendTrain 31 = .ok (.sipush 300, 3) := dk_17 1 44 (dk_at dksX2_extendTrain_1 7 rfl rfl)
theorem dX2_extendTrain_34 : decode cX2_extendTrain 34 = .ok (.invokestatic 106, 3) := dk_184 0 106 (dk_at dksX2_extendTrain_1 10 rfl rfl)
theorem dX2_extendTrain_37 : decode cX2_extendTrain 37 = .ok (.ifCond .eq 18, 3) := dk_153 0 18 (dk_at dksX2_extendTrain_1 13 rfl rfl)
theorem dX2_extendTrain_40 : decode cX2_extendTrain 40 = .ok (.iload 4, 2) := dk_21 4 (dk_at dksX2_extendTrain_1 16 rfl rfl)
theorem dX2_extendTrain_42 : decode cX2_extendTrain 42 = .ok (.iconst 0, 1) := dk_3 (dk_at dksX2_extendTrain_1 18 rfl rfl)
theorem dX2_extendTrain_43 : decode cX2_extendTrain 43 = .ok (.bipush 60, 2) := dk_16 60 (dk_at dksX2_extendTrain_1 19 rfl rfl)
theorem dX2_extendTrain_45 : decode cX2_extendTrain 45 = .ok (.invokestatic 106, 3) := dk_184 0 106 (dk_at dksX2_extendTrain_1 21 rfl rfl)
theorem dX2_extendTrain_48 : decode cX2_extendTrain 48 = .ok (.ifCond .eq 7, 3) := dk_153 0 7 (dk_at dksX2_extendTrain_2 0 rfl rfl)
theorem dX2_extendTrain_51 : decode cX2_extendTrain 51 = .ok (.iconst 1, 1) := dk_4 (dk_at dksX2_extendTrain_2 3 rfl rfl)
theorem dX2_extendTrain_52 : decode cX2_extendTrain 52 = .ok (.goto 4, 3) := dk_167 0 4 (dk_at dksX2_extendTrain_2 4 rfl rfl)
theorem dX2_extendTrain_55 : decode cX2_extendTrain 55 = .ok (.iconst 0, 1) := dk_3 (dk_at dksX2_extendTrain_2 7 rfl rfl)
theorem dX2_extendTrain_56 : decode cX2_extendTrain 56 = .ok (.ldc 126, 2) := dk_18 126 (dk_at dksX2_extendTrain_2 8 rfl rfl)
theorem dX2_extendTrain_58 : decode cX2_extendTrain 58 = .ok (.invokestatic 128, 3) := dk_184 0 128 (dk_at dksX2_extendTrain_2 10 rfl rfl)
theorem dX2_extendTrain_61 : decode cX2_extendTrain 61 = .ok (.aload_n 0, 1) := dk_42 (dk_at dksX2_extendTrain_2 13 rfl rfl)
theorem dX2_extendTrain_62 : decode cX2_extendTrain 62 = .ok (.getfield 21, 3) := dk_180 0 21 (dk_at dksX2_extendTrain_2 14 rfl rfl)
theorem dX2_extendTrain_65 : decode cX2_extendTrain 65 = .ok (.iload_n 1, 1) := dk_27 (dk_at dksX2_extendTrain_2 17 rfl rfl)
theorem dX2_extendTrain_66 : decode cX2_extendTrain 66 = .ok (.invokevirtual 154, 3) := dk_182 0 154 (dk_at dksX2_extendTrain_2 18 rfl rfl)
theorem dX2_extendTrain_69 : decode cX2_extendTrain 69 = .ok (.astore 5, 2) := dk_58 5 (dk_at dksX2_extendTrain_2 21 rfl rfl)
theorem dX2_extendTrain_71 : decode cX2_extendTrain 71 = .ok (.aload 5, 2) := dk_25 5 (dk_at dksX2_extendTrain_3 0 rfl rfl)
theorem dX2_extendTrain_73 : decode cX2_extendTrain 73 = .ok (.getfield 157, 3) := dk_180 0 157 (dk_at dksX2_extendTrain_3 2 rfl rfl)
theorem dX2_extendTrain_76 : decode cX2_extendTrain 76 = .ok (.bipush 8, 2) := dk_16 8 (dk_at dksX2_extendTrain_3 5 rfl rfl)
theorem dX2_extendTrain_78 : decode cX2_extendTrain 78 = .ok (.if_icmp .ge 24, 3) := dk_162 0 24 (dk_at dksX2_extendTrain_3 7 rfl rfl)
theorem dX2_extendTrain_81 : decode cX2_extendTrain 81 = .ok (.aload 5, 2) := dk_25 5 (dk_at dksX2_extendTrain_3 10 rfl rfl)
theorem dX2_extendTrain_83 : decode cX2_extendTrain 83 = .ok (.getfield 160, 3) := dk_180 0 160 (dk_at dksX2_extendTrain_3 12 rfl rfl)
theorem dX2_extendTrain_86 : decode cX2_extendTrain 86 = .ok (.aload 5, 2) := dk_25 5 (dk_at dksX2_extendTrain_3 15 rfl rfl)
theorem dX2_extendTrain_88 : decode cX2_extendTrain 88 = .ok (.getfield 157, 3) := dk_180 0 157 (dk_at dksX2_extendTrain_3 17 rfl rfl)
theorem dX2_extendTrain_91 : decode cX2_extendTrain 91 = .ok (.iconst 1, 1) := dk_4 (dk_at dksX2_extendTrain_3 20 rfl rfl)
theorem dX2_extendTrain_92 : decode cX2_extendTrain 92 = .ok (.isub, 1) := dk_100 (dk_at dksX2_extendTrain_3 21 rfl rfl)
theorem dX2_extendTrain_93 : decode cX2_extendTrain 93 = .ok (.iaload, 1) := dk_46 (dk_at dksX2_extendTrain_3 22 rfl rfl)
theorem dX2_extendTrain_94 : decode cX2_extendTrain 94 = .ok (.iload_n 2, 1) := dk_28 (dk_at dksX2_extendTrain_3 23 rfl rfl)
theorem dX2_extendTrain_95 : decode cX2_extendTrain 95 = .ok (.if_icmp .eq 7, 3) := dk_159 0 7 (dk_at dksX2_extendTrain_4 0 rfl rfl)
theorem dX2_extendTrain_98 : decode cX2_extendTrain 98 = .ok (.iconst 1, 1) := dk_4 (dk_at dksX2_extendTrain_4 3 rfl rfl)
theorem dX2_extendTrain_99 : decode cX2_extendTrain 99 = .ok (.goto 4, 3) := dk_167 0 4 (dk_at dksX2_extendTrain_4 4 rfl rfl)
theorem dX2_extendTrain_102 : decode cX2_extendTrain 102 = .ok (.iconst 0, 1) := dk_3 (dk_at dksX2_extendTrain_4 7 rfl rfl)
theorem dX2_extendTrain_103 : decode cX2_extendTrain 103 = .ok (.ldc 132, 2) := dk_18 132 (dk_at dksX2_extendTrain_4 8 rfl rfl)
theorem dX2_extendTrain_105 : decode cX2_extendTrain 105 = .ok (.invokestatic 128, 3) := dk_184 0 128 (dk_at dksX2_extendTrain_4 10 rfl rfl)
theorem dX2_extendTrain_108 : decode cX2_extendTrain 108 = .ok (.aload 5, 2) := dk_25 5 (dk_at dksX2_extendTrain_4 13 rfl rfl)
theorem dX2_extendTrain_110 : decode cX2_extendTrain 110 = .ok (.iload_n 2, 1) := dk_28 (dk_at dksX2_extendTrain_4 15 rfl rfl)
theorem dX2_extendTrain_111 : decode cX2_extendTrain 111 = .ok (.iload_n 3, 1) := dk_29 (dk_at dksX2_extendTrain_4 16 rfl rfl)
theorem dX2_extendTrain_112 : decode cX2_extendTrain 112 = .ok (.iload 4, 2) := dk_21 4 (dk_at dksX2_extendTrain_4 17 rfl rfl)
theorem dX2_extendTrain_114 : decode cX2_extendTrain 114 = .ok (.invokevirtual 164, 3) := dk_182 0 164 (dk_at dksX2_extendTrain_4 19 rfl rfl)
theorem dX2_extendTrain_117 : decode cX2_extendTrain 117 = .ok (.ireturn, 1) := dk_172 (dk_at dksX2_extendTrain_4 22 rfl rfl)
abbrev cX2_delayTrain : ByteArray := prog_13_method_9_code
def yX2_delayTrain : MethodName := ⟨RX2, "delayTrain", "(II)I"⟩
def dkwX2_delayTrain_2 : List UInt8 := [181, 0, 168, 29, 172]
abbrev dktX2_delayTrain_2 : List UInt8 := dkwX2_delayTrain_2 ++ []
def dkwX2_delayTrain_1 : List UInt8 := [184, 0, 128, 42, 180, 0, 21, 27, 182, 0, 154, 180, 0, 168, 62, 42, 180, 0, 21, 27, 182, 0, 154, 28]
abbrev dktX2_delayTrain_1 : List UInt8 := dkwX2_delayTrain_1 ++ dktX2_delayTrain_2
def dkwX2_delayTrain_0 : List UInt8 := [42, 180, 0, 21, 27, 182, 0, 151, 18, 138, 184, 0, 128, 28, 3, 16, 120, 184, 0, 106, 18, 126]
abbrev dktX2_delayTrain_0 : List UInt8 := dkwX2_delayTrain_0 ++ dktX2_delayTrain_1
theorem dksX2_delayTrain_0 : cX2_delayTrain.data.toList.drop 0 = dktX2_delayTrain_0 := by decide +kernel
theorem dksX2_delayTrain_1 : cX2_delayTrain.data.toList.drop 22 = dktX2_delayTrain_1 := dk_seg dksX2_delayTrain_0 22 rfl rfl
theorem dksX2_delayTrain_2 : cX2_delayTrain.data.toList.drop 46 = dktX2_delayTrain_2 := dk_seg dksX2_delayTrain_1 24 rfl rfl
theorem dX2_delayTrain_0 : decode cX2_delayTrain 0 = .ok (.aload_n 0, 1) := dk_42 (dk_at dksX2_delayTrain_0 0 rfl rfl)
theorem dX2_delayTrain_1 : decode cX2_delayTrain 1 = .ok (.getfield 21, 3) := dk_180 0 21 (dk_at dksX2_delayTrain_0 1 rfl rfl)
theorem dX2_delayTrain_4 : decode cX2_delayTrain 4 = .ok (.iload_n 1, 1) := dk_27 (dk_at dksX2_delayTrain_0 4 rfl rfl)
theorem dX2_delayTrain_5 : decode cX2_delayTrain 5 = .ok (.invokevirtual 151, 3) := dk_182 0 151 (dk_at dksX2_delayTrain_0 5 rfl rfl)
theorem dX2_delayTrain_8 : decode cX2_delayTrain 8 = .ok (.ldc 138, 2) := dk_18 138 (dk_at dksX2_delayTrain_0 8 rfl rfl)
theorem dX2_delayTrain_10 : decode cX2_delayTrain 10 = .ok (.invokestatic 128, 3) := dk_184 0 128 (dk_at dksX2_delayTrain_0 10 rfl rfl)
theorem dX2_delayTrain_13 : decode cX2_delayTrain 13 = .ok (.iload_n 2, 1) := dk_28 (dk_at dksX2_delayTrain_0 13 rfl rfl)
theorem dX2_delayTrain_14 : decode cX2_delayTrain 14 = .ok (.iconst 0, 1) := dk_3 (dk_at dksX2_delayTrain_0 14 rfl rfl)
theorem dX2_delayTrain_15 : decode cX2_delayTrain 15 = .ok (.bipush 120, 2) := dk_16 120 (dk_at dksX2_delayTrain_0 15 rfl rfl)
theorem dX2_delayTrain_17 : decode cX2_delayTrain 17 = .ok (.invokestatic 106, 3) := dk_184 0 106 (dk_at dksX2_delayTrain_0 17 rfl rfl)
theorem dX2_delayTrain_20 : decode cX2_delayTrain 20 = .ok (.ldc 126, 2) := dk_18 126 (dk_at dksX2_delayTrain_0 20 rfl rfl)
theorem dX2_delayTrain_22 : decode cX2_delayTrain 22 = .ok (.invokestatic 128, 3) := dk_184 0 128 (dk_at dksX2_delayTrain_1 0 rfl rfl)
theorem dX2_delayTrain_25 : decode cX2_delayTrain 25 = .ok (.aload_n 0, 1) := dk_42 (dk_at dksX2_delayTrain_1 3 rfl rfl)
theorem dX2_delayTrain_26 : decode cX2_delayTrain 26 = .ok (.getfield 21, 3) := dk_180 0 21 (dk_at dksX2_delayTrain_1 4 rfl rfl)
theorem dX2_delayTrain_29 : decode cX2_delayTrain 29 = .ok (.iload_n 1, 1) := dk_27 (dk_at dksX2_delayTrain_1 7 rfl rfl)
theorem dX2_delayTrain_30 : decode cX2_delayTrain 30 = .ok (.invokevirtual 154, 3) := dk_182 0 154 (dk_at dksX2_delayTrain_1 8 rfl rfl)
theorem dX2_delayTrain_33 : decode cX2_delayTrain 33 = .ok (.getfield 168, 3) := dk_180 0 168 (dk_at dksX2_delayTrain_1 11 rfl rfl)
theorem dX2_delayTrain_36 : decode cX2_delayTrain 36 = .ok (.istore_n 3, 1) := dk_62 (dk_at dksX2_delayTrain_1 14 rfl rfl)
theorem dX2_delayTrain_37 : decode cX2_delayTrain 37 = .ok (.aload_n 0, 1) := dk_42 (dk_at dksX2_delayTrain_1 15 rfl rfl)
theorem dX2_delayTrain_38 : decode cX2_delayTrain 38 = .ok (.getfield 21, 3) := dk_180 0 21 (dk_at dksX2_delayTrain_1 16 rfl rfl)
theorem dX2_delayTrain_41 : decode cX2_delayTrain 41 = .ok (.iload_n 1, 1) := dk_27 (dk_at dksX2_delayTrain_1 19 rfl rfl)
theorem dX2_delayTrain_42 : decode cX2_delayTrain 42 = .ok (.invokevirtual 154, 3) := dk_182 0 154 (dk_at dksX2_delayTrain_1 20 rfl rfl)
theorem dX2_delayTrain_45 : decode cX2_delayTrain 45 = .ok (.iload_n 2, 1) := dk_28 (dk_at dksX2_delayTrain_1 23 rfl rfl)
theorem dX2_delayTrain_46 : decode cX2_delayTrain 46 = .ok (.putfield 168, 3) := dk_181 0 168 (dk_at dksX2_delayTrain_2 0 rfl rfl)
theorem dX2_delayTrain_49 : decode cX2_delayTrain 49 = .ok (.iload_n 3, 1) := dk_29 (dk_at dksX2_delayTrain_2 3 rfl rfl)
theorem dX2_delayTrain_50 : decode cX2_delayTrain 50 = .ok (.ireturn, 1) := dk_172 (dk_at dksX2_delayTrain_2 4 rfl rfl)
abbrev cX2_addSuitcase : ByteArray := prog_13_method_10_code
def yX2_addSuitcase : MethodName := ⟨RX2, "addSuitcase", "(III)I"⟩
def dkwX2_addSuitcase_4 : List UInt8 := [180, 0, 94, 4, 96, 181, 0, 94, 42, 180, 0, 94, 4, 100, 172]
abbrev dktX2_addSuitcase_4 : List UInt8 := dkwX2_addSuitcase_4 ++ []
def dkwX2_addSuitcase_3 : List UInt8 := [184, 0, 81, 187, 0, 76, 89, 42, 180, 0, 94, 27, 28, 29, 183, 0, 172, 182, 0, 85, 87, 42, 89]
abbrev dktX2_addSuitcase_3 : List UInt8 := dkwX2_addSuitcase_3 ++ dktX2_addSuitcase_4
def dkwX2_addSuitcase_2 : List UInt8 := [16, 8, 162, 0, 7, 4, 167, 0, 4, 3, 18, 132, 184, 0, 128, 42, 180, 0, 28, 42, 180, 0, 94]
abbrev dktX2_addSuitcase_2 : List UInt8 := dkwX2_addSuitcase_2 ++ dktX2_addSuitcase_3
def dkwX2_addSuitcase_1 : List UInt8 := [184, 0, 128, 29, 3, 17, 39, 15, 184, 0, 106, 18, 126, 184, 0, 128, 42, 180, 0, 28, 182, 0, 171]
abbrev dktX2_addSuitcase_1 : List UInt8 := dkwX2_addSuitcase_1 ++ dktX2_addSuitcase_2
def dkwX2_addSuitcase_0 : List UInt8 := [42, 27, 182, 0, 134, 153, 0, 15, 42, 28, 182, 0, 134, 153, 0, 7, 4, 167, 0, 4, 3, 18, 138]
abbrev dktX2_addSuitcase_0 : List UInt8 := dkwX2_addSuitcase_0 ++ dktX2_addSuitcase_1
theorem dksX2_addSuitcase_0 : cX2_addSuitcase.data.toList.drop 0 = dktX2_addSuitcase_0 := by decide +kernel
theorem dksX2_addSuitcase_1 : cX2_addSuitcase.data.toList.drop 23 = dktX2_addSuitcase_1 := dk_seg dksX2_addSuitcase_0 23 rfl rfl
theorem dksX2_addSuitcase_2 : cX2_addSuitcase.data.toList.drop 46 = dktX2_addSuitcase_2 := dk_seg dksX2_addSuitcase_1 23 rfl rfl
theorem dksX2_addSuitcase_3 : cX2_addSuitcase.data.toList.drop 69 = dktX2_addSuitcase_3 := dk_seg dksX2_addSuitcase_2 23 rfl rfl
theorem dksX2_addSuitcase_4 : cX2_addSuitcase.data.toList.drop 92 = dktX2_addSuitcase_4 := dk_seg dksX2_addSuitcase_3 23 rfl rfl
theorem dX2_addSuitcase_0 : decode cX2_addSuitcase 0 = .ok (.aload_n 0, 1) := dk_42 (dk_at dksX2_addSuitcase_0 0 rfl rfl)
theorem dX2_addSuitcase_1 : decode cX2_addSuitcase 1 = .ok (.iload_n 1, 1) := dk_27 (dk_at dksX2_addSuitcase_0 1 rfl rfl)
theorem dX2_addSuitcase_2 : decode cX2_addSuitcase 2 = .ok (.invokevirtual 134, 3) := dk_182 0 134 (dk_at dksX2_addSuitcase_0 2 rfl rfl)
theorem dX2_addSuitcase_5 : decode cX2_addSuitcase 5 = .ok (.ifCond .eq 15, 3) := dk_153 0 15 (dk_at dksX2_addSuitcase_0 5 rfl rfl)
theorem dX2_addSuitcase_8 : decode cX2_addSuitcase 8 = .ok (.aload_n 0, 1) := dk_42 (dk_at dksX2_addSuitcase_0 8 rfl rfl)
theorem dX2_addSuitcase_9 : decode cX2_addSuitcase 9 = .ok (.iload_n 2, 1) := dk_28 (dk_at dksX2_addSuitcase_0 9 rfl rfl)
theorem dX2_addSuitcase_10 : decode cX2_addSuitcase 10 = .ok (.invokevirtual 134, 3) := dk_182 0 134 (dk_at dksX2_addSuitcase_0 10 rfl rfl)
theorem dX2_addSuitcase_13 : decode cX2_addSuitcase 13 = .ok (.ifCond .eq 7, 3) := dk_153 0 7 (dk_at dksX2_addSuitcase_0 13 rfl rfl)
theorem dX2_addSuitcase_16 : decode cX2_addSuitcase 16 = .ok (.iconst 1, 1) := dk_4 (dk_at dksX2_addSuitcase_0 16 rfl rfl)
theorem dX2_addSuitcase_17 : decode cX2_addSuitcase 17 = .ok (.goto 4, 3) := dk_167 0 4 (dk_at dksX2_addSuitcase_0 17 rfl rfl)
theorem dX2_addSuitcase_20 : decode cX2_addSuitcase 20 = .ok (.iconst 0, 1) := dk_3 (dk_at dksX2_addSuitcase_0 20 rfl rfl)
theorem dX2_addSuitcase_21 : decode cX2_addSuitcase 21 = .ok (.ldc 138, 2) := dk_18 138 (dk_at dksX2_addSuitcase_0 21 rfl rfl)
theorem dX2_addSuitcase_23 : decode cX2_addSuitcase 23 = .ok (.invokestatic 128, 3) := dk_184 0 128 (dk_at dksX2_addSuitcase_1 0 rfl rfl)
theorem dX2_addSuitcase_26 : decode cX2_addSuitcase 26 = .ok (.iload_n 3, 1) := dk_29 (dk_at dksX2_addSuitcase_1 3 rfl rfl)
theorem dX2_addSuitcase_27 : decode cX2_addSuitcase 27 = .ok (.iconst 0, 1) := dk_3 (dk_at dksX2_addSuitcase_1 4 rfl rfl)
theorem dX2_addSuitcase_28 : decode cX2_addSuitcase 28 = .ok (.sipush 9999, 3) := dk_17 39 15 (dk_at dksX2_addSuitcase_1 5 rfl rfl)
theorem dX2_addSuitcase_31 : decode cX2_addSuitcase 31 = .ok (.invokestatic 106, 3) := dk_184 0 106 (dk_at dksX2_addSuitcase_1 8 rfl rfl)
theorem dX2_addSuitcase_34 : decode cX2_addSuitcase 34 = .ok (.ldc 126, 2) := dk_18 126 (dk_at dksX2_addSuitcase_1 11 rfl rfl)
theorem dX2_addSuitcase_36 : decode cX2_addSuitcase 36 = .ok (.invokestatic 128, 3) := dk_184 0 128 (dk_at dksX2_addSuitcase_1 13 rfl rfl)
theorem dX2_addSuitcase_39 : decode cX2_addSuitcase 39 = .ok (.aload_n 0, 1) := dk_42 (dk_at dksX2_addSuitcase_1 16 rfl rfl)
theorem dX2_addSuitcase_40 : decode cX2_addSuitcase 40 = .ok (.getfield 28, 3) := dk_180 0 28 (dk_at dksX2_addSuitcase_1 17 rfl rfl)
theorem dX2_addSuitcase_43 : decode cX2_addSuitcase 43 = .ok (.invokevirtual 171, 3) := dk_182 0 171 (dk_at dksX2_addSuitcase_1 20 rfl rfl)
theorem dX2_addSuitcase_46 : decode cX2_addSuitcase 46 = .ok (.bipush 8, 2) := dk_16 8 (dk_at dksX2_addSuitcase_2 0 rfl rfl)
theorem dX2_addSuitcase_48 : decode cX2_addSuitcase 48 = .ok (.if_icmp .ge 7, 3) := dk_162 0 7 (dk_at dksX2_addSuitcase_2 2 rfl rfl)
theorem dX2_addSuitcase_51 : decode cX2_addSuitcase 51 = .ok (.iconst 1, 1) := dk_4 (dk_at dksX2_addSuitcase_2 5 rfl rfl)
theorem dX2_addSuitcase_52 : decode cX2_addSuitcase 52 = .ok (.goto 4, 3) := dk_167 0 4 (dk_at dksX2_addSuitcase_2 6 rfl rfl)
theorem dX2_addSuitcase_55 : decode cX2_addSuitcase 55 = .ok (.iconst 0, 1) := dk_3 (dk_at dksX2_addSuitcase_2 9 rfl rfl)
theorem dX2_addSuitcase_56 : decode cX2_addSuitcase 56 = .ok (.ldc 132, 2) := dk_18 132 (dk_at dksX2_addSuitcase_2 10 rfl rfl)
theorem dX2_addSuitcase_58 : decode cX2_addSuitcase 58 = .ok (.invokestatic 128, 3) := dk_184 0 128 (dk_at dksX2_addSuitcase_2 12 rfl rfl)
theorem dX2_addSuitcase_61 : decode cX2_addSuitcase 61 = .ok (.aload_n 0, 1) := dk_42 (dk_at dksX2_addSuitcase_2 15 rfl rfl)
theorem dX2_addSuitcase_62 : decode cX2_addSuitcase 62 = .ok (.getfield 28, 3) := dk_180 0 28 (dk_at dksX2_addSuitcase_2 16 rfl rfl)
theorem dX2_addSuitcase_65 : decode cX2_addSuitcase 65 = .ok (.aload_n 0, 1) := dk_42 (dk_at dksX2_addSuitcase_2 19 rfl rfl)
theorem dX2_addSuitcase_66 : decode cX2_addSuitcase 66 = .ok (.getfield 94, 3) := dk_180 0 94 (dk_at dksX2_addSuitcase_2 20 rfl rfl)
theorem dX2_addSuitcase_69 : decode cX2_addSuitcase 69 = .ok (.invokestatic 81, 3) := dk_184 0 81 (dk_at dksX2_addSuitcase_3 0 rfl rfl)
theorem dX2_addSuitcase_72 : decode cX2_addSuitcase 72 = .ok (.new 76, 3) := dk_187 0 76 (dk_at dksX2_addSuitcase_3 3 rfl rfl)
theorem dX2_addSuitcase_75 : decode cX2_addSuitcase 75 = .ok (.dup, 1) := dk_89 (dk_at dksX2_addSuitcase_3 6 rfl rfl)
theorem dX2_addSuitcase_76 : decode cX2_addSuitcase 76 = .ok (.aload_n 0, 1) := dk_42 (dk_at dksX2_addSuitcase_3 7 rfl rfl)
theorem dX2_addSuitcase_77 : decode cX2_addSuitcase 77 = .ok (.getfield 94, 3) := dk_180 0 94 (dk_at dksX2_addSuitcase_3 8 rfl rfl)
theorem dX2_addSuitcase_80 : decode cX2_addSuitcase 80 = .ok (.iload_n 1, 1) := dk_27 (dk_at dksX2_addSuitcase_3 11 rfl rfl)
theorem dX2_addSuitcase_81 : decode cX2_addSuitcase 81 = .ok (.iload_n 2, 1) := dk_28 (dk_at dksX2_addSuitcase_3 12 rfl rfl)
theorem dX2_addSuitcase_82 : decode cX2_addSuitcase 82 = .ok (.iload_n 3, 1) := dk_29 (dk_at dksX2_addSuitcase_3 13 rfl rfl)
theorem dX2_addSuitcase_83 : decode cX2_addSuitcase 83 = .ok (.invokespecial 172, 3) := dk_183 0 172 (dk_at dksX2_addSuitcase_3 14 rfl rfl)
theorem dX2_addSuitcase_86 : decode cX2_addSuitcase 86 = .ok (.invokevirtual 85, 3) := dk_182 0 85 (dk_at dksX2_addSuitcase_3 17 rfl rfl)
theorem dX2_addSuitcase_89 : decode cX2_addSuitcase 89 = .ok (.pop, 1) := dk_87 (dk_at dksX2_addSuitcase_3 20 rfl rfl)
theorem dX2_addSuitcase_90 : decode cX2_addSuitcase 90 = .ok (.aload_n 0, 1) := dk_42 (dk_at dksX2_addSuitcase_3 21 rfl rfl)
theorem dX2_addSuitcase_91 : decode cX2_addSuitcase 91 = .ok (.dup, 1) := dk_89 (dk_at dksX2_addSuitcase_3 22 rfl rfl)
theorem dX2_addSuitcase_92 : decode cX2_addSuitcase 92 = .ok (.getfield 94, 3) := dk_180 0 94 (dk_at dksX2_addSuitcase_4 0 rfl rfl)
theorem dX2_addSuitcase_95 : decode cX2_addSuitcase 95 = .ok (.iconst 1, 1) := dk_4 (dk_at dksX2_addSuitcase_4 3 rfl rfl)
theorem dX2_addSuitcase_96 : decode cX2_addSuitcase 96 = .ok (.iadd, 1) := dk_96 (dk_at dksX2_addSuitcase_4 4 rfl rfl)
theorem dX2_addSuitcase_97 : decode cX2_addSuitcase 97 = .ok (.putfield 94, 3) := dk_181 0 94 (dk_at dksX2_addSuitcase_4 5 rfl rfl)
theorem dX2_addSuitcase_100 : decode cX2_addSuitcase 100 = .ok (.aload_n 0, 1) := dk_42 (dk_at dksX2_addSuitcase_4 8 rfl rfl)
theorem dX2_addSuitcase_101 : decode cX2_addSuitcase 101 = .ok (.getfield 94, 3) := dk_180 0 94 (dk_at dksX2_addSuitcase_4 9 rfl rfl)
theorem dX2_addSuitcase_104 : decode cX2_addSuitcase 104 = .ok (.iconst 1, 1) := dk_4 (dk_at dksX2_addSuitcase_4 12 rfl rfl)
theorem dX2_addSuitcase_105 : decode cX2_addSuitcase 105 = .ok (.isub, 1) := dk_100 (dk_at dksX2_addSuitcase_4 13 rfl rfl)
theorem dX2_addSuitcase_106 : decode cX2_addSuitcase 106 = .ok (.ireturn, 1) := dk_172 (dk_at dksX2_addSuitcase_4 14 rfl rfl)
abbrev cX2_relabel : ByteArray := prog_13_method_11_code
def yX2_relabel : MethodName := ⟨RX2, "relabel", "(II)I"⟩
def dkwX2_relabel_3 : List UInt8 := [45, 182, 0, 189, 172]
abbrev dktX2_relabel_3 : List UInt8 := dkwX2_relabel_3 ++ []
def dkwX2_relabel_2 : List UInt8 := [184, 0, 81, 187, 0, 76, 89, 27, 45, 182, 0, 183, 28, 45, 182, 0, 186, 183, 0, 172, 182, 0, 85, 87]
abbrev dktX2_relabel_2 : List UInt8 := dkwX2_relabel_2 ++ dktX2_relabel_3
def dkwX2_relabel_1 : List UInt8 := [184, 0, 128, 42, 180, 0, 28, 27, 184, 0, 81, 182, 0, 180, 192, 0, 76, 78, 42, 180, 0, 28, 27]
abbrev dktX2_relabel_1 : List UInt8 := dkwX2_relabel_1 ++ dktX2_relabel_2
def dkwX2_relabel_0 : List UInt8 := [42, 180, 0, 28, 27, 184, 0, 81, 182, 0, 175, 18, 178, 184, 0, 128, 42, 28, 182, 0, 134, 18, 138]
abbrev dktX2_relabel_0 : List UInt8 := dkwX2_relabel_0 ++ dktX2_relabel_1
theorem dksX2_relabel_0 : cX2_relabel.data.toList.drop 0 = dktX2_relabel_0 := by decide +kernel
theorem dksX2_relabel_1 : cX2_relabel.data.toList.drop 23 = dktX2_relabel_1 := dk_seg dksX2_relabel_0 23 rfl rfl
theorem dksX2_relabel_2 : cX2_relabel.data.toList.drop 46 = dktX2_relabel_2 := dk_seg dksX2_relabel_1 23 rfl rfl
theorem dksX2_relabel_3 : cX2_relabel.data.toList.drop 70 = dktX2_relabel_3 := dk_seg dksX2_relabel_2 24 rfl rfl
theorem dX2_relabel_0 : decode cX2_relabel 0 = .ok (.aload_n 0, 1) := dk_42 (dk_at dksX2_relabel_0 0 rfl rfl)
theorem dX2_relabel_1 : decode cX2_relabel 1 = .ok (.getfield 28, 3) := dk_180 0 28 (dk_at dksX2_relabel_0 1 rfl rfl)
theorem dX2_relabel_4 : decode cX2_relabel 4 = .ok (.iload_n 1, 1) := dk_27 (dk_at dksX2_relabel_0 4 rfl rfl)
theorem dX2_relabel_5 : decode cX2_relabel 5 = .ok (.invokestatic 81, 3) := dk_184 0 81 (dk_at dksX2_relabel_0 5 rfl rfl)
theorem dX2_relabel_8 : decode cX2_relabel 8 = .ok (.invokevirtual 175, 3) := dk_182 0 175 (dk_at dksX2_relabel_0 8 rfl rfl)
theorem dX2_relabel_11 : decode cX2_relabel 11 = .ok (.ldc 178, 2) := dk_18 178 (dk_at dksX2_relabel_0 11 rfl rfl)
theorem dX2_relabel_13 : decode cX2_relabel 13 = .ok (.invokestatic 128, 3) := dk_184 0 128 (dk_at dksX2_relabel_0 13 rfl rfl)
theorem dX2_relabel_16 : decode cX2_relabel 16 = .ok (.aload_n 0, 1) := dk_42 (dk_at dksX2_relabel_0 16 rfl rfl)
theorem dX2_relabel_17 : decode cX2_relabel 17 = .ok (.iload_n 2, 1) := dk_28 (dk_at dksX2_relabel_0 17 rfl rfl)
theorem dX2_relabel_18 : decode cX2_relabel 18 = .ok (.invokevirtual 134, 3) := dk_182 0 134 (dk_at dksX2_relabel_0 18 rfl rfl)
theorem dX2_relabel_21 : decode cX2_relabel 21 = .ok (.ldc 138, 2) := dk_18 138 (dk_at dksX2_relabel_0 21 rfl rfl)
theorem dX2_relabel_23 : decode cX2_relabel 23 = .ok (.invokestatic 128, 3) := dk_184 0 128 (dk_at dksX2_relabel_1 0 rfl rfl)
theorem dX2_relabel_26 : decode cX2_relabel 26 = .ok (.aload_n 0, 1) := dk_42 (dk_at dksX2_relabel_1 3 rfl rfl)
theorem dX2_relabel_27 : decode cX2_relabel 27 = .ok (.getfield 28, 3) := dk_180 0 28 (dk_at dksX2_relabel_1 4 rfl rfl)
theorem dX2_relabel_30 : decode cX2_relabel 30 = .ok (.iload_n 1, 1) := dk_27 (dk_at dksX2_relabel_1 7 rfl rfl)
theorem dX2_relabel_31 : decode cX2_relabel 31 = .ok (.invokestatic 81, 3) := dk_184 0 81 (dk_at dksX2_relabel_1 8 rfl rfl)
theorem dX2_relabel_34 : decode cX2_relabel 34 = .ok (.invokevirtual 180, 3) := dk_182 0 180 (dk_at dksX2_relabel_1 11 rfl rfl)
theorem dX2_relabel_37 : decode cX2_relabel 37 = .ok (.checkcast 76, 3) := dk_192 0 76 (dk_at dksX2_relabel_1 14 rfl rfl)
theorem dX2_relabel_40 : decode cX2_relabel 40 = .ok (.astore_n 3, 1) := dk_78 (dk_at dksX2_relabel_1 17 rfl rfl)
theorem dX2_relabel_41 : decode cX2_relabel 41 = .ok (.aload_n 0, 1) := dk_42 (dk_at dksX2_relabel_1 18 rfl rfl)
theorem dX2_relabel_42 : decode cX2_relabel 42 = .ok (.getfield 28, 3) := dk_180 0 28 (dk_at dksX2_relabel_1 19 rfl rfl)
theorem dX2_relabel_45 : decode cX2_relabel 45 = .ok (.iload_n 1, 1) := dk_27 (dk_at dksX2_relabel_1 22 rfl rfl)
theorem dX2_relabel_46 : decode cX2_relabel 46 = .ok (.invokestatic 81, 3) := dk_184 0 81 (dk_at dksX2_relabel_2 0 rfl rfl)
theorem dX2_relabel_49 : decode cX2_relabel 49 = .ok (.new 76, 3) := dk_187 0 76 (dk_at dksX2_relabel_2 3 rfl rfl)
theorem dX2_relabel_52 : decode cX2_relabel 52 = .ok (.dup, 1) := dk_89 (dk_at dksX2_relabel_2 6 rfl rfl)
theorem dX2_relabel_53 : decode cX2_relabel 53 = .ok (.iload_n 1, 1) := dk_27 (dk_at dksX2_relabel_2 7 rfl rfl)
theorem dX2_relabel_54 : decode cX2_relabel 54 = .ok (.aload_n 3, 1) := dk_45 (dk_at dksX2_relabel_2 8 rfl rfl)
theorem dX2_relabel_55 : decode cX2_relabel 55 = .ok (.invokevirtual 183, 3) := dk_182 0 183 (dk_at dksX2_relabel_2 9 rfl rfl)
theorem dX2_relabel_58 : decode cX2_relabel 58 = .ok (.iload_n 2, 1) := dk_28 (dk_at dksX2_relabel_2 12 rfl rfl)
theorem dX2_relabel_59 : decode cX2_relabel 59 = .ok (.aload_n 3, 1) := dk_45 (dk_at dksX2_relabel_2 13 rfl rfl)
theorem dX2_relabel_60 : decode cX2_relabel 60 = .ok (.invokevirtual 186, 3) := dk_182 0 186 (dk_at dksX2_relabel_2 14 rfl rfl)
theorem dX2_relabel_63 : decode cX2_relabel 63 = .ok (.invokespecial 172, 3) := dk_183 0 172 (dk_at dksX2_relabel_2 17 rfl rfl)
theorem dX2_relabel_66 : decode cX2_relabel 66 = .ok (.invokevirtual 85, 3) := dk_182 0 85 (dk_at dksX2_relabel_2 20 rfl rfl)
theorem dX2_relabel_69 : decode cX2_relabel 69 = .ok (.pop, 1) := dk_87 (dk_at dksX2_relabel_2 23 rfl rfl)
theorem dX2_relabel_70 : decode cX2_relabel 70 = .ok (.aload_n 3, 1) := dk_45 (dk_at dksX2_relabel_3 0 rfl rfl)
theorem dX2_relabel_71 : decode cX2_relabel 71 = .ok (.invokevirtual 189, 3) := dk_182 0 189 (dk_at dksX2_relabel_3 1 rfl rfl)
theorem dX2_relabel_74 : decode cX2_relabel 74 = .ok (.ireturn, 1) := dk_172 (dk_at dksX2_relabel_3 4 rfl rfl)
abbrev cX2_send : ByteArray := prog_13_method_12_code
def yX2_send : MethodName := ⟨RX2, "send", "(I)I"⟩
def dkwX2_send_7 : List UInt8 := [29, 29, 25, 4, 29, 182, 0, 199, 183, 0, 172, 182, 0, 85, 87, 25, 5, 185, 0, 36, 1, 0, 172]
abbrev dktX2_send_7 : List UInt8 := dkwX2_send_7 ++ []
def dkwX2_send_6 : List UInt8 := [180, 0, 100, 5, 96, 181, 0, 100, 167, 255, 199, 42, 180, 0, 28, 27, 184, 0, 81, 187, 0, 76, 89, 27]
abbrev dktX2_send_6 : List UInt8 := dkwX2_send_6 ++ dktX2_send_7
def dkwX2_send_5 : List UInt8 := [25, 7, 182, 0, 212, 182, 0, 154, 180, 0, 215, 25, 7, 182, 0, 217, 92, 46, 4, 96, 79, 42, 89]
abbrev dktX2_send_5 : List UInt8 := dkwX2_send_5 ++ dktX2_send_6
def dkwX2_send_4 : List UInt8 := [185, 0, 66, 1, 0, 153, 0, 53, 25, 6, 185, 0, 72, 1, 0, 192, 0, 210, 58, 7, 42, 180, 0, 21]
abbrev dktX2_send_4 : List UInt8 := dkwX2_send_4 ++ dktX2_send_5
def dkwX2_send_3 : List UInt8 := [184, 0, 128, 25, 4, 29, 182, 0, 205, 58, 5, 25, 5, 185, 0, 209, 1, 0, 58, 6, 25, 6]
abbrev dktX2_send_3 : List UInt8 := dkwX2_send_3 ++ dktX2_send_4
def dkwX2_send_2 : List UInt8 := [182, 0, 195, 58, 4, 25, 4, 29, 182, 0, 199, 2, 159, 0, 7, 4, 167, 0, 4, 3, 18, 203]
abbrev dktX2_send_2 : List UInt8 := dkwX2_send_2 ++ dktX2_send_3
def dkwX2_send_1 : List UInt8 := [182, 0, 180, 192, 0, 76, 77, 44, 182, 0, 189, 62, 42, 44, 182, 0, 183, 44, 182, 0, 186, 182, 0, 192]
abbrev dktX2_send_1 : List UInt8 := dkwX2_send_1 ++ dktX2_send_2
def dkwX2_send_0 : List UInt8 := [42, 180, 0, 28, 27, 184, 0, 81, 182, 0, 175, 18, 178, 184, 0, 128, 42, 180, 0, 28, 27, 184, 0, 81]
abbrev dktX2_send_0 : List UInt8 := dkwX2_send_0 ++ dktX2_send_1
theorem dksX2_send_0 : cX2_send.data.toList.drop 0 = dktX2_send_0 := by decide +kernel
theorem dksX2_send_1 : cX2_send.data.toList.drop 24 = dktX2_send_1 := dk_seg dksX2_send_0 24 rfl rfl
theorem dksX2_send_2 : cX2_send.data.toList.drop 48 = dktX2_send_2 := dk_seg dksX2_send_1 24 rfl rfl
theorem dksX2_send_3 : cX2_send.data.toList.drop 70 = dktX2_send_3 := dk_seg dksX2_send_2 22 rfl rfl
theorem dksX2_send_4 : cX2_send.data.toList.drop 92 = dktX2_send_4 := dk_seg dksX2_send_3 22 rfl rfl
theorem dksX2_send_5 : cX2_send.data.toList.drop 116 = dktX2_send_5 := dk_seg dksX2_send_4 24 rfl rfl
theorem dksX2_send_6 : cX2_send.data.toList.drop 139 = dktX2_send_6 := dk_seg dksX2_send_5 23 rfl rfl
theorem dksX2_send_7 : cX2_send.data.toList.drop 163 = dktX2_send_7 := dk_seg dksX2_send_6 24 rfl rfl
theorem dX2_send_0 : decode cX2_send 0 = .ok (.aload_n 0, 1) := dk_42 (dk_at dksX2_send_0 0 rfl rfl)
theorem dX2_send_1 : decode cX2_send 1 = .ok (.getfield 28, 3) := dk_180 0 28 (dk_at dksX2_send_0 1 rfl rfl)
theorem dX2_send_4 : decode cX2_send 4 = .ok (.iload_n 1, 1) := dk_27 (dk_at dksX2_send_0 4 rfl rfl)
theorem dX2_send_5 : decode cX2_send 5 = .ok (.invokestatic 81, 3) := dk_184 0 81 (dk_at dksX2_send_0 5 rfl rfl)
theorem dX2_send_8 : decode cX2_send 8 = .ok (.invokevirtual 175, 3) := dk_182 0 175 (dk_at dksX2_send_0 8 rfl rfl)
theorem dX2_send_11 : decode cX2_send 11 = .ok (.ldc 178, 2) := dk_18 178 (dk_at dksX2_send_0 11 rfl rfl)
theorem dX2_send_13 : decode cX2_send 13 = .ok (.invokestatic 128, 3) := dk_184 0 128 (dk_at dksX2_send_0 13 rfl rfl)
theorem dX2_send_16 : decode cX2_send 16 = .ok (.aload_n 0, 1) := dk_42 (dk_at dksX2_send_0 16 rfl rfl)
theorem dX2_send_17 : decode cX2_send 17 = .ok (.getfield 28, 3) := dk_180 0 28 (dk_at dksX2_send_0 17 rfl rfl)
theorem dX2_send_20 : decode cX2_send 20 = .ok (.iload_n 1, 1) := dk_27 (dk_at dksX2_send_0 20 rfl rfl)
theorem dX2_send_21 : decode cX2_send 21 = .ok (.invokestatic 81, 3) := dk_184 0 81 (dk_at dksX2_send_0 21 rfl rfl)
theorem dX2_send_24 : decode cX2_send 24 = .ok (.invokevirtual 180, 3) := dk_182 0 180 (dk_at dksX2_send_1 0 rfl rfl)
theorem dX2_send_27 : decode cX2_send 27 = .ok (.checkcast 76, 3) := dk_192 0 76 (dk_at dksX2_send_1 3 rfl rfl)
theorem dX2_send_30 : decode cX2_send 30 = .ok (.astore_n 2, 1) := dk_77 (dk_at dksX2_send_1 6 rfl rfl)
theorem dX2_send_31 : decode cX2_send 31 = .ok (.aload_n 2, 1) := dk_44 (dk_at dksX2_send_1 7 rfl rfl)
theorem dX2_send_32 : decode cX2_send 32 = .ok (.invokevirtual 189, 3) := dk_182 0 189 (dk_at dksX2_send_1 8 rfl rfl)
theorem dX2_send_35 : decode cX2_send 35 = .ok (.istore_n 3, 1) := dk_62 (dk_at dksX2_send_1 11 rfl rfl)
theorem dX2_send_36 : decode cX2_send 36 = .ok (.aload_n 0, 1) := dk_42 (dk_at dksX2_send_1 12 rfl rfl)
theorem dX2_send_37 : decode cX2_send 37 = .ok (.aload_n 2, 1) := dk_44 (dk_at dksX2_send_1 13 rfl rfl)
theorem dX2_send_38 : decode cX2_send 38 = .ok (.invokevirtual 183, 3) := dk_182 0 183 (dk_at dksX2_send_1 14 rfl rfl)
theorem dX2_send_41 : decode cX2_send 41 = .ok (.aload_n 2, 1) := dk_44 (dk_at dksX2_send_1 17 rfl rfl)
theorem dX2_send_42 : decode cX2_send 42 = .ok (.invokevirtual 186, 3) := dk_182 0 186 (dk_at dksX2_send_1 18 rfl rfl)
theorem dX2_send_45 : decode cX2_send 45 = .ok (.invokevirtual 192, 3) := dk_182 0 192 (dk_at dksX2_send_1 21 rfl rfl)
theorem dX2_send_48 : decode cX2_send 48 = .ok (.invokevirtual 195, 3) := dk_182 0 195 (dk_at dksX2_send_2 0 rfl rfl)
theorem dX2_send_51 : decode cX2_send 51 = .ok (.astore 4, 2) := dk_58 4 (dk_at dksX2_send_2 3 rfl rfl)
theorem dX2_send_53 : decode cX2_send 53 = .ok (.aload 4, 2) := dk_25 4 (dk_at dksX2_send_2 5 rfl rfl)
theorem dX2_send_55 : decode cX2_send 55 = .ok (.iload_n 3, 1) := dk_29 (dk_at dksX2_send_2 7 rfl rfl)
theorem dX2_send_56 : decode cX2_send 56 = .ok (.invokevirtual 199, 3) := dk_182 0 199 (dk_at dksX2_send_2 8 rfl rfl)
theorem dX2_send_59 : decode cX2_send 59 = .ok (.iconst (-1), 1) := dk_2 (dk_at dksX2_send_2 11 rfl rfl)
theorem dX2_send_60 : decode cX2_send 60 = .ok (.if_icmp .eq 7, 3) := dk_159 0 7 (dk_at dksX2_send_2 12 rfl rfl)
theorem dX2_send_63 : decode cX2_send 63 = .ok (.iconst 1, 1) := dk_4 (dk_at dksX2_send_2 15 rfl rfl)
theorem dX2_send_64 : decode cX2_send 64 = .ok (.goto 4, 3) := dk_167 0 4 (dk_at dksX2_send_2 16 rfl rfl)
theorem dX2_send_67 : decode cX2_send 67 = .ok (.iconst 0, 1) := dk_3 (dk_at dksX2_send_2 19 rfl rfl)
theorem dX2_send_68 : decode cX2_send 68 = .ok (.ldc 203, 2) := dk_18 203 (dk_at dksX2_send_2 20 rfl rfl)
theorem dX2_send_70 : decode cX2_send 70 = .ok (.invokestatic 128, 3) := dk_184 0 128 (dk_at dksX2_send_3 0 rfl rfl)
theorem dX2_send_73 : decode cX2_send 73 = .ok (.aload 4, 2) := dk_25 4 (dk_at dksX2_send_3 3 rfl rfl)
theorem dX2_send_75 : decode cX2_send 75 = .ok (.iload_n 3, 1) := dk_29 (dk_at dksX2_send_3 5 rfl rfl)
theorem dX2_send_76 : decode cX2_send 76 = .ok (.invokevirtual 205, 3) := dk_182 0 205 (dk_at dksX2_send_3 6 rfl rfl)
theorem dX2_send_79 : decode cX2_send 79 = .ok (.astore 5, 2) := dk_58 5 (dk_at dksX2_send_3 9 rfl rfl)
theorem dX2_send_81 : decode cX2_send 81 = .ok (.aload 5, 2) := dk_25 5 (dk_at dksX2_send_3 11 rfl rfl)
theorem dX2_send_83 : decode cX2_send 83 = .ok (.invokeinterface 209 1, 5) := by decide +kernel
theorem dX2_send_88 : decode cX2_send 88 = .ok (.astore 6, 2) := dk_58 6 (dk_at dksX2_send_3 18 rfl rfl)
theorem dX2_send_90 : decode cX2_send 90 = .ok (.aload 6, 2) := dk_25 6 (dk_at dksX2_send_3 20 rfl rfl)
theorem dX2_send_92 : decode cX2_send 92 = .ok (.invokeinterface 66 1, 5) := by decide +kernel
theorem dX2_send_97 : decode cX2_send 97 = .ok (.ifCond .eq 53, 3) := dk_153 0 53 (dk_at dksX2_send_4 5 rfl rfl)
theorem dX2_send_100 : decode cX2_send 100 = .ok (.aload 6, 2) := dk_25 6 (dk_at dksX2_send_4 8 rfl rfl)
theorem dX2_send_102 : decode cX2_send 102 = .ok (.invokeinterface 72 1, 5) := by decide +kernel
theorem dX2_send_107 : decode cX2_send 107 = .ok (.checkcast 210, 3) := dk_192 0 210 (dk_at dksX2_send_4 15 rfl rfl)
theorem dX2_send_110 : decode cX2_send 110 = .ok (.astore 7, 2) := dk_58 7 (dk_at dksX2_send_4 18 rfl rfl)
theorem dX2_send_112 : decode cX2_send 112 = .ok (.aload_n 0, 1) := dk_42 (dk_at dksX2_send_4 20 rfl rfl)
theorem dX2_send_113 : decode cX2_send 113 = .ok (.getfield 21, 3) := dk_180 0 21 (dk_at dksX2_send_4 21 rfl rfl)
theorem dX2_send_116 : decode cX2_send 116 = .ok (.aload 7, 2) := dk_25 7 (dk_at dksX2_send_5 0 rfl rfl)
theorem dX2_send_118 : decode cX2_send 118 = .ok (.invokevirtual 212, 3) := dk_182 0 212 (dk_at dksX2_send_5 2 rfl rfl)
theorem dX2_send_121 : decode cX2_send 121 = .ok (.invokevirtual 154, 3) := dk_182 0 154 (dk_at dksX2_send_5 5 rfl rfl)
theorem dX2_send_124 : decode cX2_send 124 = .ok (.getfield 215, 3) := dk_180 0 215 (dk_at dksX2_send_5 8 rfl rfl)
theorem dX2_send_127 : decode cX2_send 127 = .ok (.aload 7, 2) := dk_25 7 (dk_at dksX2_send_5 11 rfl rfl)
theorem dX2_send_129 : decode cX2_send 129 = .ok (.invokevirtual 217, 3) := dk_182 0 217 (dk_at dksX2_send_5 13 rfl rfl)
theorem dX2_send_132 : decode cX2_send 132 = .ok (.dup2, 1) := dk_92 (dk_at dksX2_send_5 16 rfl rfl)
theorem dX2_send_133 : decode cX2_send 133 = .ok (.iaload, 1) := dk_46 (dk_at dksX2_send_5 17 rfl rfl)
theorem dX2_send_134 : decode cX2_send 134 = .ok (.iconst 1, 1) := dk_4 (dk_at dksX2_send_5 18 rfl rfl)
theorem dX2_send_135 : decode cX2_send 135 = .ok (.iadd, 1) := dk_96 (dk_at dksX2_send_5 19 rfl rfl)
theorem dX2_send_136 : decode cX2_send 136 = .ok (.iastore, 1) := dk_79 (dk_at dksX2_send_5 20 rfl rfl)
theorem dX2_send_137 : decode cX2_send 137 = .ok (.aload_n 0, 1) := dk_42 (dk_at dksX2_send_5 21 rfl rfl)
theorem dX2_send_138 : decode cX2_send 138 = .ok (.dup, 1) := dk_89 (dk_at dksX2_send_5 22 rfl rfl)
theorem dX2_send_139 : decode cX2_send 139 = .ok (.getfield 100, 3) := dk_180 0 100 (dk_at dksX2_send_6 0 rfl rfl)
theorem dX2_send_142 : decode cX2_send 142 = .ok (.iconst 2, 1) := dk_5 (dk_at dksX2_send_6 3 rfl rfl)
theorem dX2_send_143 : decode cX2_send 143 = .ok (.iadd, 1) := dk_96 (dk_at dksX2_send_6 4 rfl rfl)
theorem dX2_send_144 : decode cX2_send 144 = .ok (.putfield 100, 3) := dk_181 0 100 (dk_at dksX2_send_6 5 rfl rfl)
theorem dX2_send_147 : decode cX2_send 147 = .ok (.goto (-57), 3) := dk_167 255 199 (dk_at dksX2_send_6 8 rfl rfl)
theorem dX2_send_150 : decode cX2_send 150 = .ok (.aload_n 0, 1) := dk_42 (dk_at dksX2_send_6 11 rfl rfl)
theorem dX2_send_151 : decode cX2_send 151 = .ok (.getfield 28, 3) := dk_180 0 28 (dk_at dksX2_send_6 12 rfl rfl)
theorem dX2_send_154 : decode cX2_send 154 = .ok (.iload_n 1, 1) := dk_27 (dk_at dksX2_send_6 15 rfl rfl)
theorem dX2_send_155 : decode cX2_send 155 = .ok (.invokestatic 81, 3) := dk_184 0 81 (dk_at dksX2_send_6 16 rfl rfl)
theorem dX2_send_158 : decode cX2_send 158 = .ok (.new 76, 3) := dk_187 0 76 (dk_at dksX2_send_6 19 rfl rfl)
theorem dX2_send_161 : decode cX2_send 161 = .ok (.dup, 1) := dk_89 (dk_at dksX2_send_6 22 rfl rfl)
theorem dX2_send_162 : decode cX2_send 162 = .ok (.iload_n 1, 1) := dk_27 (dk_at dksX2_send_6 23 rfl rfl)
theorem dX2_send_163 : decode cX2_send 163 = .ok (.iload_n 3, 1) := dk_29 (dk_at dksX2_send_7 0 rfl rfl)
theorem dX2_send_164 : decode cX2_send 164 = .ok (.iload_n 3, 1) := dk_29 (dk_at dksX2_send_7 1 rfl rfl)
theorem dX2_send_165 : decode cX2_send 165 = .ok (.aload 4, 2) := dk_25 4 (dk_at dksX2_send_7 2 rfl rfl)
theorem dX2_send_167 : decode cX2_send 167 = .ok (.iload_n 3, 1) := dk_29 (dk_at dksX2_send_7 4 rfl rfl)
theorem dX2_send_168 : decode cX2_send 168 = .ok (.invokevirtual 199, 3) := dk_182 0 199 (dk_at dksX2_send_7 5 rfl rfl)
theorem dX2_send_171 : decode cX2_send 171 = .ok (.invokespecial 172, 3) := dk_183 0 172 (dk_at dksX2_send_7 8 rfl rfl)
theorem dX2_send_174 : decode cX2_send 174 = .ok (.invokevirtual 85, 3) := dk_182 0 85 (dk_at dksX2_send_7 11 rfl rfl)
theorem dX2_send_177 : decode cX2_send 177 = .ok (.pop, 1) := dk_87 (dk_at dksX2_send_7 14 rfl rfl)
theorem dX2_send_178 : decode cX2_send 178 = .ok (.aload 5, 2) := dk_25 5 (dk_at dksX2_send_7 15 rfl rfl)
theorem dX2_send_180 : decode cX2_send 180 = .ok (.invokeinterface 36 1, 5) := by decide +kernel
theorem dX2_send_185 : decode cX2_send 185 = .ok (.ireturn, 1) := dk_172 (dk_at dksX2_send_7 22 rfl rfl)
abbrev cX2_journeys_2 : ByteArray := prog_13_method_4_code
def yX2_journeys_2 : MethodName := ⟨RX2, "journeys", "(II)LSleeperRailway$Journeys;"⟩
def dkwX2_journeys_2_0 : List UInt8 := [42, 42, 180, 0, 21, 182, 0, 110, 27, 28, 182, 0, 114, 176]
abbrev dktX2_journeys_2_0 : List UInt8 := dkwX2_journeys_2_0 ++ []
theorem dksX2_journeys_2_0 : cX2_journeys_2.data.toList.drop 0 = dktX2_journeys_2_0 := by decide +kernel
theorem dX2_journeys_2_0 : decode cX2_journeys_2 0 = .ok (.aload_n 0, 1) := dk_42 (dk_at dksX2_journeys_2_0 0 rfl rfl)
theorem dX2_journeys_2_1 : decode cX2_journeys_2 1 = .ok (.aload_n 0, 1) := dk_42 (dk_at dksX2_journeys_2_0 1 rfl rfl)
theorem dX2_journeys_2_2 : decode cX2_journeys_2 2 = .ok (.getfield 21, 3) := dk_180 0 21 (dk_at dksX2_journeys_2_0 2 rfl rfl)
theorem dX2_journeys_2_5 : decode cX2_journeys_2 5 = .ok (.invokevirtual 110, 3) := dk_182 0 110 (dk_at dksX2_journeys_2_0 5 rfl rfl)
theorem dX2_journeys_2_8 : decode cX2_journeys_2 8 = .ok (.iload_n 1, 1) := dk_27 (dk_at dksX2_journeys_2_0 8 rfl rfl)
theorem dX2_journeys_2_9 : decode cX2_journeys_2 9 = .ok (.iload_n 2, 1) := dk_28 (dk_at dksX2_journeys_2_0 9 rfl rfl)
theorem dX2_journeys_2_10 : decode cX2_journeys_2 10 = .ok (.invokevirtual 114, 3) := dk_182 0 114 (dk_at dksX2_journeys_2_0 10 rfl rfl)
theorem dX2_journeys_2_13 : decode cX2_journeys_2 13 = .ok (.areturn, 1) := dk_176 (dk_at dksX2_journeys_2_0 13 rfl rfl)
abbrev cX2_collect : ByteArray := prog_13_method_13_code
def yX2_collect : MethodName := ⟨RX2, "collect", "(I)I"⟩
def dkwX2_collect_2 : List UInt8 := [182, 0, 223, 87, 42, 89, 180, 0, 103, 4, 96, 181, 0, 103, 42, 180, 0, 28, 182, 0, 171, 172]
abbrev dktX2_collect_2 : List UInt8 := dkwX2_collect_2 ++ []
def dkwX2_collect_1 : List UInt8 := [182, 0, 180, 192, 0, 76, 182, 0, 220, 18, 132, 184, 0, 128, 42, 180, 0, 28, 27, 184, 0, 81]
abbrev dktX2_collect_1 : List UInt8 := dkwX2_collect_1 ++ dktX2_collect_2
def dkwX2_collect_0 : List UInt8 := [42, 180, 0, 28, 27, 184, 0, 81, 182, 0, 175, 18, 178, 184, 0, 128, 42, 180, 0, 28, 27, 184, 0, 81]
abbrev dktX2_collect_0 : List UInt8 := dkwX2_collect_0 ++ dktX2_collect_1
theorem dksX2_collect_0 : cX2_collect.data.toList.drop 0 = dktX2_collect_0 := by decide +kernel
theorem dksX2_collect_1 : cX2_collect.data.toList.drop 24 = dktX2_collect_1 := dk_seg dksX2_collect_0 24 rfl rfl
theorem dksX2_collect_2 : cX2_collect.data.toList.drop 46 = dktX2_collect_2 := dk_seg dksX2_collect_1 22 rfl rfl
theorem dX2_collect_0 : decode cX2_collect 0 = .ok (.aload_n 0, 1) := dk_42 (dk_at dksX2_collect_0 0 rfl rfl)
theorem dX2_collect_1 : decode cX2_collect 1 = .ok (.getfield 28, 3) := dk_180 0 28 (dk_at dksX2_collect_0 1 rfl rfl)
theorem dX2_collect_4 : decode cX2_collect 4 = .ok (.iload_n 1, 1) := dk_27 (dk_at dksX2_collect_0 4 rfl rfl)
theorem dX2_collect_5 : decode cX2_collect 5 = .ok (.invokestatic 81, 3) := dk_184 0 81 (dk_at dksX2_collect_0 5 rfl rfl)
theorem dX2_collect_8 : decode cX2_collect 8 = .ok (.invokevirtual 175, 3) := dk_182 0 175 (dk_at dksX2_collect_0 8 rfl rfl)
theorem dX2_collect_11 : decode cX2_collect 11 = .ok (.ldc 178, 2) := dk_18 178 (dk_at dksX2_collect_0 11 rfl rfl)
theorem dX2_collect_13 : decode cX2_collect 13 = .ok (.invokestatic 128, 3) := dk_184 0 128 (dk_at dksX2_collect_0 13 rfl rfl)
theorem dX2_collect_16 : decode cX2_collect 16 = .ok (.aload_n 0, 1) := dk_42 (dk_at dksX2_collect_0 16 rfl rfl)
theorem dX2_collect_17 : decode cX2_collect 17 = .ok (.getfield 28, 3) := dk_180 0 28 (dk_at dksX2_collect_0 17 rfl rfl)
theorem dX2_collect_20 : decode cX2_collect 20 = .ok (.iload_n 1, 1) := dk_27 (dk_at dksX2_collect_0 20 rfl rfl)
theorem dX2_collect_21 : decode cX2_collect 21 = .ok (.invokestatic 81, 3) := dk_184 0 81 (dk_at dksX2_collect_0 21 rfl rfl)
theorem dX2_collect_24 : decode cX2_collect 24 = .ok (.invokevirtual 180, 3) := dk_182 0 180 (dk_at dksX2_collect_1 0 rfl rfl)
theorem dX2_collect_27 : decode cX2_collect 27 = .ok (.checkcast 76, 3) := dk_192 0 76 (dk_at dksX2_collect_1 3 rfl rfl)
theorem dX2_collect_30 : decode cX2_collect 30 = .ok (.invokevirtual 220, 3) := dk_182 0 220 (dk_at dksX2_collect_1 6 rfl rfl)
theorem dX2_collect_33 : decode cX2_collect 33 = .ok (.ldc 132, 2) := dk_18 132 (dk_at dksX2_collect_1 9 rfl rfl)
theorem dX2_collect_35 : decode cX2_collect 35 = .ok (.invokestatic 128, 3) := dk_184 0 128 (dk_at dksX2_collect_1 11 rfl rfl)
theorem dX2_collect_38 : decode cX2_collect 38 = .ok (.aload_n 0, 1) := dk_42 (dk_at dksX2_collect_1 14 rfl rfl)
theorem dX2_collect_39 : decode cX2_collect 39 = .ok (.getfield 28, 3) := dk_180 0 28 (dk_at dksX2_collect_1 15 rfl rfl)
theorem dX2_collect_42 : decode cX2_collect 42 = .ok (.iload_n 1, 1) := dk_27 (dk_at dksX2_collect_1 18 rfl rfl)
theorem dX2_collect_43 : decode cX2_collect 43 = .ok (.invokestatic 81, 3) := dk_184 0 81 (dk_at dksX2_collect_1 19 rfl rfl)
theorem dX2_collect_46 : decode cX2_collect 46 = .ok (.invokevirtual 223, 3) := dk_182 0 223 (dk_at dksX2_collect_2 0 rfl rfl)
theorem dX2_collect_49 : decode cX2_collect 49 = .ok (.pop, 1) := dk_87 (dk_at dksX2_collect_2 3 rfl rfl)
theorem dX2_collect_50 : decode cX2_collect 50 = .ok (.aload_n 0, 1) := dk_42 (dk_at dksX2_collect_2 4 rfl rfl)
theorem dX2_collect_51 : decode cX2_collect 51 = .ok (.dup, 1) := dk_89 (dk_at dksX2_collect_2 5 rfl rfl)
theorem dX2_collect_52 : decode cX2_collect 52 = .ok (.getfield 103, 3) := dk_180 0 103 (dk_at dksX2_collect_2 6 rfl rfl)
theorem dX2_collect_55 : decode cX2_collect 55 = .ok (.iconst 1, 1) := dk_4 (dk_at dksX2_collect_2 9 rfl rfl)
theorem dX2_collect_56 : decode cX2_collect 56 = .ok (.iadd, 1) := dk_96 (dk_at dksX2_collect_2 10 rfl rfl)
theorem dX2_collect_57 : decode cX2_collect 57 = .ok (.putfield 103, 3) := dk_181 0 103 (dk_at dksX2_collect_2 11 rfl rfl)
theorem dX2_collect_60 : decode cX2_collect 60 = .ok (.aload_n 0, 1) := dk_42 (dk_at dksX2_collect_2 14 rfl rfl)
theorem dX2_collect_61 : decode cX2_collect 61 = .ok (.getfield 28, 3) := dk_180 0 28 (dk_at dksX2_collect_2 15 rfl rfl)
theorem dX2_collect_64 : decode cX2_collect 64 = .ok (.invokevirtual 171, 3) := dk_182 0 171 (dk_at dksX2_collect_2 18 rfl rfl)
theorem dX2_collect_67 : decode cX2_collect 67 = .ok (.ireturn, 1) := dk_172 (dk_at dksX2_collect_2 21 rfl rfl)
abbrev cX2_book : ByteArray := prog_13_method_14_code
def yX2_book : MethodName := ⟨RX2, "book", "(III)I"⟩
def dkwX2_book_7 : List UInt8 := [180, 0, 97, 4, 96, 181, 0, 97, 42, 180, 0, 97, 4, 100, 172]
abbrev dktX2_book_7 : List UInt8 := dkwX2_book_7 ++ []
def dkwX2_book_6 : List UInt8 := [184, 0, 81, 187, 0, 89, 89, 42, 180, 0, 97, 27, 28, 29, 183, 0, 236, 182, 0, 85, 87, 42, 89]
abbrev dktX2_book_6 : List UInt8 := dkwX2_book_6 ++ dktX2_book_7
def dkwX2_book_5 : List UInt8 := [132, 5, 1, 167, 255, 227, 25, 4, 28, 29, 4, 184, 0, 232, 42, 180, 0, 32, 42, 180, 0, 97]
abbrev dktX2_book_5 : List UInt8 := dkwX2_book_5 ++ dktX2_book_6
def dkwX2_book_4 : List UInt8 := [162, 0, 29, 25, 4, 21, 5, 182, 0, 229, 154, 0, 7, 4, 167, 0, 4, 3, 18, 203, 184, 0, 128]
abbrev dktX2_book_4 : List UInt8 := dkwX2_book_4 ++ dktX2_book_5
def dkwX2_book_3 : List UInt8 := [182, 0, 171, 16, 10, 162, 0, 7, 4, 167, 0, 4, 3, 18, 132, 184, 0, 128, 28, 54, 5, 21, 5, 29]
abbrev dktX2_book_3 : List UInt8 := dkwX2_book_3 ++ dktX2_book_4
def dkwX2_book_2 : List UInt8 := [18, 138, 184, 0, 128, 28, 29, 162, 0, 7, 4, 167, 0, 4, 3, 18, 126, 184, 0, 128, 42, 180, 0, 32]
abbrev dktX2_book_2 : List UInt8 := dkwX2_book_2 ++ dktX2_book_3
def dkwX2_book_1 : List UInt8 := [25, 4, 28, 182, 0, 226, 153, 0, 16, 25, 4, 29, 182, 0, 226, 153, 0, 7, 4, 167, 0, 4, 3]
abbrev dktX2_book_1 : List UInt8 := dkwX2_book_1 ++ dktX2_book_2
def dkwX2_book_0 : List UInt8 := [42, 180, 0, 21, 27, 182, 0, 151, 18, 138, 184, 0, 128, 42, 180, 0, 21, 27, 182, 0, 154, 58, 4]
abbrev dktX2_book_0 : List UInt8 := dkwX2_book_0 ++ dktX2_book_1
theorem dksX2_book_0 : cX2_book.data.toList.drop 0 = dktX2_book_0 := by decide +kernel
theorem dksX2_book_1 : cX2_book.data.toList.drop 23 = dktX2_book_1 := dk_seg dksX2_book_0 23 rfl rfl
theorem dksX2_book_2 : cX2_book.data.toList.drop 46 = dktX2_book_2 := dk_seg dksX2_book_1 23 rfl rfl
theorem dksX2_book_3 : cX2_book.data.toList.drop 70 = dktX2_book_3 := dk_seg dksX2_book_2 24 rfl rfl
theorem dksX2_book_4 : cX2_book.data.toList.drop 94 = dktX2_book_4 := dk_seg dksX2_book_3 24 rfl rfl
theorem dksX2_book_5 : cX2_book.data.toList.drop 117 = dktX2_book_5 := dk_seg dksX2_book_4 23 rfl rfl
theorem dksX2_book_6 : cX2_book.data.toList.drop 139 = dktX2_book_6 := dk_seg dksX2_book_5 22 rfl rfl
theorem dksX2_book_7 : cX2_book.data.toList.drop 162 = dktX2_book_7 := dk_seg dksX2_book_6 23 rfl rfl
theorem dX2_book_0 : decode cX2_book 0 = .ok (.aload_n 0, 1) := dk_42 (dk_at dksX2_book_0 0 rfl rfl)
theorem dX2_book_1 : decode cX2_book 1 = .ok (.getfield 21, 3) := dk_180 0 21 (dk_at dksX2_book_0 1 rfl rfl)
theorem dX2_book_4 : decode cX2_book 4 = .ok (.iload_n 1, 1) := dk_27 (dk_at dksX2_book_0 4 rfl rfl)
theorem dX2_book_5 : decode cX2_book 5 = .ok (.invokevirtual 151, 3) := dk_182 0 151 (dk_at dksX2_book_0 5 rfl rfl)
theorem dX2_book_8 : decode cX2_book 8 = .ok (.ldc 138, 2) := dk_18 138 (dk_at dksX2_book_0 8 rfl rfl)
theorem dX2_book_10 : decode cX2_book 10 = .ok (.invokestatic 128, 3) := dk_184 0 128 (dk_at dksX2_book_0 10 rfl rfl)
theorem dX2_book_13 : decode cX2_book 13 = .ok (.aload_n 0, 1) := dk_42 (dk_at dksX2_book_0 13 rfl rfl)
theorem dX2_book_14 : decode cX2_book 14 = .ok (.getfield 21, 3) := dk_180 0 21 (dk_at dksX2_book_0 14 rfl rfl)
theorem dX2_book_17 : decode cX2_book 17 = .ok (.iload_n 1, 1) := dk_27 (dk_at dksX2_book_0 17 rfl rfl)
theorem dX2_book_18 : decode cX2_book 18 = .ok (.invokevirtual 154, 3) := dk_182 0 154 (dk_at dksX2_book_0 18 rfl rfl)
theorem dX2_book_21 : decode cX2_book 21 = .ok (.astore 4, 2) := dk_58 4 (dk_at dksX2_book_0 21 rfl rfl)
theorem dX2_book_23 : decode cX2_book 23 = .ok (.aload 4, 2) := dk_25 4 (dk_at dksX2_book_1 0 rfl rfl)
theorem dX2_book_25 : decode cX2_book 25 = .ok (.iload_n 2, 1) := dk_28 (dk_at dksX2_book_1 2 rfl rfl)
theorem dX2_book_26 : decode cX2_book 26 = .ok (.invokevirtual 226, 3) := dk_182 0 226 (dk_at dksX2_book_1 3 rfl rfl)
theorem dX2_book_29 : decode cX2_book 29 = .ok (.ifCond .eq 16, 3) := dk_153 0 16 (dk_at dksX2_book_1 6 rfl rfl)
theorem dX2_book_32 : decode cX2_book 32 = .ok (.aload 4, 2) := dk_25 4 (dk_at dksX2_book_1 9 rfl rfl)
theorem dX2_book_34 : decode cX2_book 34 = .ok (.iload_n 3, 1) := dk_29 (dk_at dksX2_book_1 11 rfl rfl)
theorem dX2_book_35 : decode cX2_book 35 = .ok (.invokevirtual 226, 3) := dk_182 0 226 (dk_at dksX2_book_1 12 rfl rfl)
theorem dX2_book_38 : decode cX2_book 38 = .ok (.ifCond .eq 7, 3) := dk_153 0 7 (dk_at dksX2_book_1 15 rfl rfl)
theorem dX2_book_41 : decode cX2_book 41 = .ok (.iconst 1, 1) := dk_4 (dk_at dksX2_book_1 18 rfl rfl)
theorem dX2_book_42 : decode cX2_book 42 = .ok (.goto 4, 3) := dk_167 0 4 (dk_at dksX2_book_1 19 rfl rfl)
theorem dX2_book_45 : decode cX2_book 45 = .ok (.iconst 0, 1) := dk_3 (dk_at dksX2_book_1 22 rfl rfl)
theorem dX2_book_46 : decode cX2_book 46 = .ok (.ldc 138, 2) := dk_18 138 (dk_at dksX2_book_2 0 rfl rfl)
theorem dX2_book_48 : decode cX2_book 48 = .ok (.invokestatic 128, 3) := dk_184 0 128 (dk_at dksX2_book_2 2 rfl rfl)
theorem dX2_book_51 : decode cX2_book 51 = .ok (.iload_n 2, 1) := dk_28 (dk_at dksX2_book_2 5 rfl rfl)
theorem dX2_book_52 : decode cX2_book 52 = .ok (.iload_n 3, 1) := dk_29 (dk_at dksX2_book_2 6 rfl rfl)
theorem dX2_book_53 : decode cX2_book 53 = .ok (.if_icmp .ge 7, 3) := dk_162 0 7 (dk_at dksX2_book_2 7 rfl rfl)
theorem dX2_book_56 : decode cX2_book 56 = .ok (.iconst 1, 1) := dk_4 (dk_at dksX2_book_2 10 rfl rfl)
theorem dX2_book_57 : decode cX2_book 57 = .ok (.goto 4, 3) := dk_167 0 4 (dk_at dksX2_book_2 11 rfl rfl)
theorem dX2_book_60 : decode cX2_book 60 = .ok (.iconst 0, 1) := dk_3 (dk_at dksX2_book_2 14 rfl rfl)
theorem dX2_book_61 : decode cX2_book 61 = .ok (.ldc 126, 2) := dk_18 126 (dk_at dksX2_book_2 15 rfl rfl)
theorem dX2_book_63 : decode cX2_book 63 = .ok (.invokestatic 128, 3) := dk_184 0 128 (dk_at dksX2_book_2 17 rfl rfl)
theorem dX2_book_66 : decode cX2_book 66 = .ok (.aload_n 0, 1) := dk_42 (dk_at dksX2_book_2 20 rfl rfl)
theorem dX2_book_67 : decode cX2_book 67 = .ok (.getfield 32, 3) := dk_180 0 32 (dk_at dksX2_book_2 21 rfl rfl)
theorem dX2_book_70 : decode cX2_book 70 = .ok (.invokevirtual 171, 3) := dk_182 0 171 (dk_at dksX2_book_3 0 rfl rfl)
theorem dX2_book_73 : decode cX2_book 73 = .ok (.bipush 10, 2) := dk_16 10 (dk_at dksX2_book_3 3 rfl rfl)
theorem dX2_book_75 : decode cX2_book 75 = .ok (.if_icmp .ge 7, 3) := dk_162 0 7 (dk_at dksX2_book_3 5 rfl rfl)
theorem dX2_book_78 : decode cX2_book 78 = .ok (.iconst 1, 1) := dk_4 (dk_at dksX2_book_3 8 rfl rfl)
theorem dX2_book_79 : decode cX2_book 79 = .ok (.goto 4, 3) := dk_167 0 4 (dk_at dksX2_book_3 9 rfl rfl)
theorem dX2_book_82 : decode cX2_book 82 = .ok (.iconst 0, 1) := dk_3 (dk_at dksX2_book_3 12 rfl rfl)
theorem dX2_book_83 : decode cX2_book 83 = .ok (.ldc 132, 2) := dk_18 132 (dk_at dksX2_book_3 13 rfl rfl)
theorem dX2_book_85 : decode cX2_book 85 = .ok (.invokestatic 128, 3) := dk_184 0 128 (dk_at dksX2_book_3 15 rfl rfl)
theorem dX2_book_88 : decode cX2_book 88 = .ok (.iload_n 2, 1) := dk_28 (dk_at dksX2_book_3 18 rfl rfl)
theorem dX2_book_89 : decode cX2_book 89 = .ok (.istore 5, 2) := dk_54 5 (dk_at dksX2_book_3 19 rfl rfl)
theorem dX2_book_91 : decode cX2_book 91 = .ok (.iload 5, 2) := dk_21 5 (dk_at dksX2_book_3 21 rfl rfl)
theorem dX2_book_93 : decode cX2_book 93 = .ok (.iload_n 3, 1) := dk_29 (dk_at dksX2_book_3 23 rfl rfl)
theorem dX2_book_94 : decode cX2_book 94 = .ok (.if_icmp .ge 29, 3) := dk_162 0 29 (dk_at dksX2_book_4 0 rfl rfl)
theorem dX2_book_97 : decode cX2_book 97 = .ok (.aload 4, 2) := dk_25 4 (dk_at dksX2_book_4 3 rfl rfl)
theorem dX2_book_99 : decode cX2_book 99 = .ok (.iload 5, 2) := dk_21 5 (dk_at dksX2_book_4 5 rfl rfl)
theorem dX2_book_101 : decode cX2_book 101 = .ok (.invokevirtual 229, 3) := dk_182 0 229 (dk_at dksX2_book_4 7 rfl rfl)
theorem dX2_book_104 : decode cX2_book 104 = .ok (.ifCond .ne 7, 3) := dk_154 0 7 (dk_at dksX2_book_4 10 rfl rfl)
theorem dX2_book_107 : decode cX2_book 107 = .ok (.iconst 1, 1) := dk_4 (dk_at dksX2_book_4 13 rfl rfl)
theorem dX2_book_108 : decode cX2_book 108 = .ok (.goto 4, 3) := dk_167 0 4 (dk_at dksX2_book_4 14 rfl rfl)
theorem dX2_book_111 : decode cX2_book 111 = .ok (.iconst 0, 1) := dk_3 (dk_at dksX2_book_4 17 rfl rfl)
theorem dX2_book_112 : decode cX2_book 112 = .ok (.ldc 203, 2) := dk_18 203 (dk_at dksX2_book_4 18 rfl rfl)
theorem dX2_book_114 : decode cX2_book 114 = .ok (.invokestatic 128, 3) := dk_184 0 128 (dk_at dksX2_book_4 20 rfl rfl)
theorem dX2_book_117 : decode cX2_book 117 = .ok (.iinc 5 1, 3) := dk_132 5 1 (dk_at dksX2_book_5 0 rfl rfl)
theorem dX2_book_120 : decode cX2_book 120 = .ok (.goto (-29), 3) := dk_167 255 227 (dk_at dksX2_book_5 3 rfl rfl)
theorem dX2_book_123 : decode cX2_book 123 = .ok (.aload 4, 2) := dk_25 4 (dk_at dksX2_book_5 6 rfl rfl)
theorem dX2_book_125 : decode cX2_book 125 = .ok (.iload_n 2, 1) := dk_28 (dk_at dksX2_book_5 8 rfl rfl)
theorem dX2_book_126 : decode cX2_book 126 = .ok (.iload_n 3, 1) := dk_29 (dk_at dksX2_book_5 9 rfl rfl)
theorem dX2_book_127 : decode cX2_book 127 = .ok (.iconst 1, 1) := dk_4 (dk_at dksX2_book_5 10 rfl rfl)
theorem dX2_book_128 : decode cX2_book 128 = .ok (.invokestatic 232, 3) := dk_184 0 232 (dk_at dksX2_book_5 11 rfl rfl)
theorem dX2_book_131 : decode cX2_book 131 = .ok (.aload_n 0, 1) := dk_42 (dk_at dksX2_book_5 14 rfl rfl)
theorem dX2_book_132 : decode cX2_book 132 = .ok (.getfield 32, 3) := dk_180 0 32 (dk_at dksX2_book_5 15 rfl rfl)
theorem dX2_book_135 : decode cX2_book 135 = .ok (.aload_n 0, 1) := dk_42 (dk_at dksX2_book_5 18 rfl rfl)
theorem dX2_book_136 : decode cX2_book 136 = .ok (.getfield 97, 3) := dk_180 0 97 (dk_at dksX2_book_5 19 rfl rfl)
theorem dX2_book_139 : decode cX2_book 139 = .ok (.invokestatic 81, 3) := dk_184 0 81 (dk_at dksX2_book_6 0 rfl rfl)
theorem dX2_book_142 : decode cX2_book 142 = .ok (.new 89, 3) := dk_187 0 89 (dk_at dksX2_book_6 3 rfl rfl)
theorem dX2_book_145 : decode cX2_book 145 = .ok (.dup, 1) := dk_89 (dk_at dksX2_book_6 6 rfl rfl)
theorem dX2_book_146 : decode cX2_book 146 = .ok (.aload_n 0, 1) := dk_42 (dk_at dksX2_book_6 7 rfl rfl)
theorem dX2_book_147 : decode cX2_book 147 = .ok (.getfield 97, 3) := dk_180 0 97 (dk_at dksX2_book_6 8 rfl rfl)
theorem dX2_book_150 : decode cX2_book 150 = .ok (.iload_n 1, 1) := dk_27 (dk_at dksX2_book_6 11 rfl rfl)
theorem dX2_book_151 : decode cX2_book 151 = .ok (.iload_n 2, 1) := dk_28 (dk_at dksX2_book_6 12 rfl rfl)
theorem dX2_book_152 : decode cX2_book 152 = .ok (.iload_n 3, 1) := dk_29 (dk_at dksX2_book_6 13 rfl rfl)
theorem dX2_book_153 : decode cX2_book 153 = .ok (.invokespecial 236, 3) := dk_183 0 236 (dk_at dksX2_book_6 14 rfl rfl)
theorem dX2_book_156 : decode cX2_book 156 = .ok (.invokevirtual 85, 3) := dk_182 0 85 (dk_at dksX2_book_6 17 rfl rfl)
theorem dX2_book_159 : decode cX2_book 159 = .ok (.pop, 1) := dk_87 (dk_at dksX2_book_6 20 rfl rfl)
theorem dX2_book_160 : decode cX2_book 160 = .ok (.aload_n 0, 1) := dk_42 (dk_at dksX2_book_6 21 rfl rfl)
theorem dX2_book_161 : decode cX2_book 161 = .ok (.dup, 1) := dk_89 (dk_at dksX2_book_6 22 rfl rfl)
theorem dX2_book_162 : decode cX2_book 162 = .ok (.getfield 97, 3) := dk_180 0 97 (dk_at dksX2_book_7 0 rfl rfl)
theorem dX2_book_165 : decode cX2_book 165 = .ok (.iconst 1, 1) := dk_4 (dk_at dksX2_book_7 3 rfl rfl)
theorem dX2_book_166 : decode cX2_book 166 = .ok (.iadd, 1) := dk_96 (dk_at dksX2_book_7 4 rfl rfl)
theorem dX2_book_167 : decode cX2_book 167 = .ok (.putfield 97, 3) := dk_181 0 97 (dk_at dksX2_book_7 5 rfl rfl)
theorem dX2_book_170 : decode cX2_book 170 = .ok (.aload_n 0, 1) := dk_42 (dk_at dksX2_book_7 8 rfl rfl)
theorem dX2_book_171 : decode cX2_book 171 = .ok (.getfield 97, 3) := dk_180 0 97 (dk_at dksX2_book_7 9 rfl rfl)
theorem dX2_book_174 : decode cX2_book 174 = .ok (.iconst 1, 1) := dk_4 (dk_at dksX2_book_7 12 rfl rfl)
theorem dX2_book_175 : decode cX2_book 175 = .ok (.isub, 1) := dk_100 (dk_at dksX2_book_7 13 rfl rfl)
theorem dX2_book_176 : decode cX2_book 176 = .ok (.ireturn, 1) := dk_172 (dk_at dksX2_book_7 14 rfl rfl)
abbrev cX2_takeLegs : ByteArray := prog_13_method_15_code
def yX2_takeLegs : MethodName := ⟨RX2, "takeLegs", "(LSleeperRailway$Train;III)V"⟩
def dkwX2_takeLegs_1 : List UInt8 := [167, 255, 236, 177]
abbrev dktX2_takeLegs_1 : List UInt8 := dkwX2_takeLegs_1 ++ []
def dkwX2_takeLegs_0 : List UInt8 := [27, 54, 4, 21, 4, 28, 162, 0, 20, 42, 180, 0, 237, 21, 4, 92, 46, 29, 96, 79, 132, 4, 1]
abbrev dktX2_takeLegs_0 : List UInt8 := dkwX2_takeLegs_0 ++ dktX2_takeLegs_1
theorem dksX2_takeLegs_0 : cX2_takeLegs.data.toList.drop 0 = dktX2_takeLegs_0 := by decide +kernel
theorem dksX2_takeLegs_1 : cX2_takeLegs.data.toList.drop 23 = dktX2_takeLegs_1 := dk_seg dksX2_takeLegs_0 23 rfl rfl
theorem dX2_takeLegs_0 : decode cX2_takeLegs 0 = .ok (.iload_n 1, 1) := dk_27 (dk_at dksX2_takeLegs_0 0 rfl rfl)
theorem dX2_takeLegs_1 : decode cX2_takeLegs 1 = .ok (.istore 4, 2) := dk_54 4 (dk_at dksX2_takeLegs_0 1 rfl rfl)
theorem dX2_takeLegs_3 : decode cX2_takeLegs 3 = .ok (.iload 4, 2) := dk_21 4 (dk_at dksX2_takeLegs_0 3 rfl rfl)
theorem dX2_takeLegs_5 : decode cX2_takeLegs 5 = .ok (.iload_n 2, 1) := dk_28 (dk_at dksX2_takeLegs_0 5 rfl rfl)
theorem dX2_takeLegs_6 : decode cX2_takeLegs 6 = .ok (.if_icmp .ge 20, 3) := dk_162 0 20 (dk_at dksX2_takeLegs_0 6 rfl rfl)
theorem dX2_takeLegs_9 : decode cX2_takeLegs 9 = .ok (.aload_n 0, 1) := dk_42 (dk_at dksX2_takeLegs_0 9 rfl rfl)
theorem dX2_takeLegs_10 : decode cX2_takeLegs 10 = .ok (.getfield 237, 3) := dk_180 0 237 (dk_at dksX2_takeLegs_0 10 rfl rfl)
theorem dX2_takeLegs_13 : decode cX2_takeLegs 13 = .ok (.iload 4, 2) := dk_21 4 (dk_at dksX2_takeLegs_0 13 rfl rfl)
theorem dX2_takeLegs_15 : decode cX2_takeLegs 15 = .ok (.dup2, 1) := dk_92 (dk_at dksX2_takeLegs_0 15 rfl rfl)
theorem dX2_takeLegs_16 : decode cX2_takeLegs 16 = .ok (.iaload, 1) := dk_46 (dk_at dksX2_takeLegs_0 16 rfl rfl)
theorem dX2_takeLegs_17 : decode cX2_takeLegs 17 = .ok (.iload_n 3, 1) := dk_29 (dk_at dksX2_takeLegs_0 17 rfl rfl)
theorem dX2_takeLegs_18 : decode cX2_takeLegs 18 = .ok (.iadd, 1) := dk_96 (dk_at dksX2_takeLegs_0 18 rfl rfl)
theorem dX2_takeLegs_19 : decode cX2_takeLegs 19 = .ok (.iastore, 1) := dk_79 (dk_at dksX2_takeLegs_0 19 rfl rfl)
theorem dX2_takeLegs_20 : decode cX2_takeLegs 20 = .ok (.iinc 4 1, 3) := dk_132 4 1 (dk_at dksX2_takeLegs_0 20 rfl rfl)
theorem dX2_takeLegs_23 : decode cX2_takeLegs 23 = .ok (.goto (-20), 3) := dk_167 255 236 (dk_at dksX2_takeLegs_1 0 rfl rfl)
theorem dX2_takeLegs_26 : decode cX2_takeLegs 26 = .ok (.return_, 1) := dk_177 (dk_at dksX2_takeLegs_1 3 rfl rfl)
abbrev cX2_cancelBooking : ByteArray := prog_13_method_16_code
def yX2_cancelBooking : MethodName := ⟨RX2, "cancelBooking", "(I)I"⟩
def dkwX2_cancelBooking_2 : List UInt8 := [180, 0, 244, 2, 184, 0, 232, 42, 180, 0, 32, 182, 0, 171, 172]
abbrev dktX2_cancelBooking_2 : List UInt8 := dkwX2_cancelBooking_2 ++ []
def dkwX2_cancelBooking_1 : List UInt8 := [182, 0, 223, 192, 0, 89, 77, 42, 180, 0, 21, 44, 180, 0, 239, 182, 0, 154, 44, 180, 0, 241, 44]
abbrev dktX2_cancelBooking_1 : List UInt8 := dkwX2_cancelBooking_1 ++ dktX2_cancelBooking_2
def dkwX2_cancelBooking_0 : List UInt8 := [42, 180, 0, 32, 27, 184, 0, 81, 182, 0, 175, 18, 178, 184, 0, 128, 42, 180, 0, 32, 27, 184, 0, 81]
abbrev dktX2_cancelBooking_0 : List UInt8 := dkwX2_cancelBooking_0 ++ dktX2_cancelBooking_1
theorem dksX2_cancelBooking_0 : cX2_cancelBooking.data.toList.drop 0 = dktX2_cancelBooking_0 := by decide +kernel
theorem dksX2_cancelBooking_1 : cX2_cancelBooking.data.toList.drop 24 = dktX2_cancelBooking_1 := dk_seg dksX2_cancelBooking_0 24 rfl rfl
theorem dksX2_cancelBooking_2 : cX2_cancelBooking.data.toList.drop 47 = dktX2_cancelBooking_2 := dk_seg dksX2_cancelBooking_1 23 rfl rfl
theorem dX2_cancelBooking_0 : decode cX2_cancelBooking 0 = .ok (.aload_n 0, 1) := dk_42 (dk_at dksX2_cancelBooking_0 0 rfl rfl)
theorem dX2_cancelBooking_1 : decode cX2_cancelBooking 1 = .ok (.getfield 32, 3) := dk_180 0 32 (dk_at dksX2_cancelBooking_0 1 rfl rfl)
theorem dX2_cancelBooking_4 : decode cX2_cancelBooking 4 = .ok (.iload_n 1, 1) := dk_27 (dk_at dksX2_cancelBooking_0 4 rfl rfl)
theorem dX2_cancelBooking_5 : decode cX2_cancelBooking 5 = .ok (.invokestatic 81, 3) := dk_184 0 81 (dk_at dksX2_cancelBooking_0 5 rfl rfl)
theorem dX2_cancelBooking_8 : decode cX2_cancelBooking 8 = .ok (.invokevirtual 175, 3) := dk_182 0 175 (dk_at dksX2_cancelBooking_0 8 rfl rfl)
theorem dX2_cancelBooking_11 : decode cX2_cancelBooking 11 = .ok (.ldc 178, 2) := dk_18 178 (dk_at dksX2_cancelBooking_0 11 rfl rfl)
theorem dX2_cancelBooking_13 : decode cX2_cancelBooking 13 = .ok (.invokestatic 128, 3) := dk_184 0 128 (dk_at dksX2_cancelBooking_0 13 rfl rfl)
theorem dX2_cancelBooking_16 : decode cX2_cancelBooking 16 = .ok (.aload_n 0, 1) := dk_42 (dk_at dksX2_cancelBooking_0 16 rfl rfl)
theorem dX2_cancelBooking_17 : decode cX2_cancelBooking 17 = .ok (.getfield 32, 3) := dk_180 0 32 (dk_at dksX2_cancelBooking_0 17 rfl rfl)
theorem dX2_cancelBooking_20 : decode cX2_cancelBooking 20 = .ok (.iload_n 1, 1) := dk_27 (dk_at dksX2_cancelBooking_0 20 rfl rfl)
theorem dX2_cancelBooking_21 : decode cX2_cancelBooking 21 = .ok (.invokestatic 81, 3) := dk_184 0 81 (dk_at dksX2_cancelBooking_0 21 rfl rfl)
theorem dX2_cancelBooking_24 : decode cX2_cancelBooking 24 = .ok (.invokevirtual 223, 3) := dk_182 0 223 (dk_at dksX2_cancelBooking_1 0 rfl rfl)
theorem dX2_cancelBooking_27 : decode cX2_cancelBooking 27 = .ok (.checkcast 89, 3) := dk_192 0 89 (dk_at dksX2_cancelBooking_1 3 rfl rfl)
theorem dX2_cancelBooking_30 : decode cX2_cancelBooking 30 = .ok (.astore_n 2, 1) := dk_77 (dk_at dksX2_cancelBooking_1 6 rfl rfl)
theorem dX2_cancelBooking_31 : decode cX2_cancelBooking 31 = .ok (.aload_n 0, 1) := dk_42 (dk_at dksX2_cancelBooking_1 7 rfl rfl)
theorem dX2_cancelBooking_32 : decode cX2_cancelBooking 32 = .ok (.getfield 21, 3) := dk_180 0 21 (dk_at dksX2_cancelBooking_1 8 rfl rfl)
theorem dX2_cancelBooking_35 : decode cX2_cancelBooking 35 = .ok (.aload_n 2, 1) := dk_44 (dk_at dksX2_cancelBooking_1 11 rfl rfl)
theorem dX2_cancelBooking_36 : decode cX2_cancelBooking 36 = .ok (.getfield 239, 3) := dk_180 0 239 (dk_at dksX2_cancelBooking_1 12 rfl rfl)
theorem dX2_cancelBooking_39 : decode cX2_cancelBooking 39 = .ok (.invokevirtual 154, 3) := dk_182 0 154 (dk_at dksX2_cancelBooking_1 15 rfl rfl)
theorem dX2_cancelBooking_42 : decode cX2_cancelBooking 42 = .ok (.aload_n 2, 1) := dk_44 (dk_at dksX2_cancelBooking_1 18 rfl rfl)
theorem dX2_cancelBooking_43 : decode cX2_cancelBooking 43 = .ok (.getfield 241, 3) := dk_180 0 241 (dk_at dksX2_cancelBooking_1 19 rfl rfl)
theorem dX2_cancelBooking_46 : decode cX2_cancelBooking 46 = .ok (.aload_n 2, 1) := dk_44 (dk_at dksX2_cancelBooking_1 22 rfl rfl)
theorem dX2_cancelBooking_47 : decode cX2_cancelBooking 47 = .ok (.getfield 244, 3) := dk_180 0 244 (dk_at dksX2_cancelBooking_2 0 rfl rfl)
theorem dX2_cancelBooking_50 : decode cX2_cancelBooking 50 = .ok (.iconst (-1), 1) := dk_2 (dk_at dksX2_cancelBooking_2 3 rfl rfl)
theorem dX2_cancelBooking_51 : decode cX2_cancelBooking 51 = .ok (.invokestatic 232, 3) := dk_184 0 232 (dk_at dksX2_cancelBooking_2 4 rfl rfl)
theorem dX2_cancelBooking_54 : decode cX2_cancelBooking 54 = .ok (.aload_n 0, 1) := dk_42 (dk_at dksX2_cancelBooking_2 7 rfl rfl)
theorem dX2_cancelBooking_55 : decode cX2_cancelBooking 55 = .ok (.getfield 32, 3) := dk_180 0 32 (dk_at dksX2_cancelBooking_2 8 rfl rfl)
theorem dX2_cancelBooking_58 : decode cX2_cancelBooking 58 = .ok (.invokevirtual 171, 3) := dk_182 0 171 (dk_at dksX2_cancelBooking_2 11 rfl rfl)
theorem dX2_cancelBooking_61 : decode cX2_cancelBooking 61 = .ok (.ireturn, 1) := dk_172 (dk_at dksX2_cancelBooking_2 14 rfl rfl)
abbrev cX2_suitcaseAt : ByteArray := prog_13_method_19_code
def yX2_suitcaseAt : MethodName := ⟨RX2, "suitcaseAt", "(I)I"⟩
def dkwX2_suitcaseAt_4 : List UInt8 := [182, 0, 78, 172, 132, 3, 1, 167, 255, 220, 2, 172]
abbrev dktX2_suitcaseAt_4 : List UInt8 := dkwX2_suitcaseAt_4 ++ []
def dkwX2_suitcaseAt_3 : List UInt8 := [153, 0, 32, 25, 4, 185, 0, 72, 1, 0, 192, 0, 76, 58, 5, 29, 27, 160, 0, 9, 25, 5]
abbrev dktX2_suitcaseAt_3 : List UInt8 := dkwX2_suitcaseAt_3 ++ dktX2_suitcaseAt_4
def dkwX2_suitcaseAt_2 : List UInt8 := [182, 1, 12, 87, 167, 255, 229, 3, 62, 44, 182, 1, 13, 58, 4, 25, 4, 185, 0, 66, 1, 0]
abbrev dktX2_suitcaseAt_2 : List UInt8 := dkwX2_suitcaseAt_2 ++ dktX2_suitcaseAt_3
def dkwX2_suitcaseAt_1 : List UInt8 := [185, 0, 66, 1, 0, 153, 0, 24, 45, 185, 0, 72, 1, 0, 192, 0, 76, 58, 4, 44, 25, 4]
abbrev dktX2_suitcaseAt_1 : List UInt8 := dkwX2_suitcaseAt_1 ++ dktX2_suitcaseAt_2
def dkwX2_suitcaseAt_0 : List UInt8 := [187, 1, 9, 89, 183, 1, 11, 77, 42, 180, 0, 28, 182, 0, 56, 185, 0, 60, 1, 0, 78, 45]
abbrev dktX2_suitcaseAt_0 : List UInt8 := dkwX2_suitcaseAt_0 ++ dktX2_suitcaseAt_1
theorem dksX2_suitcaseAt_0 : cX2_suitcaseAt.data.toList.drop 0 = dktX2_suitcaseAt_0 := by decide +kernel
theorem dksX2_suitcaseAt_1 : cX2_suitcaseAt.data.toList.drop 22 = dktX2_suitcaseAt_1 := dk_seg dksX2_suitcaseAt_0 22 rfl rfl
theorem dksX2_suitcaseAt_2 : cX2_suitcaseAt.data.toList.drop 44 = dktX2_suitcaseAt_2 := dk_seg dksX2_suitcaseAt_1 22 rfl rfl
theorem dksX2_suitcaseAt_3 : cX2_suitcaseAt.data.toList.drop 66 = dktX2_suitcaseAt_3 := dk_seg dksX2_suitcaseAt_2 22 rfl rfl
theorem dksX2_suitcaseAt_4 : cX2_suitcaseAt.data.toList.drop 88 = dktX2_suitcaseAt_4 := dk_seg dksX2_suitcaseAt_3 22 rfl rfl
theorem dX2_suitcaseAt_0 : decode cX2_suitcaseAt 0 = .ok (.new 265, 3) := dk_187 1 9 (dk_at dksX2_suitcaseAt_0 0 rfl rfl)
theorem dX2_suitcaseAt_3 : decode cX2_suitcaseAt 3 = .ok (.dup, 1) := dk_89 (dk_at dksX2_suitcaseAt_0 3 rfl rfl)
theorem dX2_suitcaseAt_4 : decode cX2_suitcaseAt 4 = .ok (.invokespecial 267, 3) := dk_183 1 11 (dk_at dksX2_suitcaseAt_0 4 rfl rfl)
theorem dX2_suitcaseAt_7 : decode cX2_suitcaseAt 7 = .ok (.astore_n 2, 1) := dk_77 (dk_at dksX2_suitcaseAt_0 7 rfl rfl)
theorem dX2_suitcaseAt_8 : decode cX2_suitcaseAt 8 = .ok (.aload_n 0, 1) := dk_42 (dk_at dksX2_suitcaseAt_0 8 rfl rfl)
theorem dX2_suitcaseAt_9 : decode cX2_suitcaseAt 9 = .ok (.getfield 28, 3) := dk_180 0 28 (dk_at dksX2_suitcaseAt_0 9 rfl rfl)
theorem dX2_suitcaseAt_12 : decode cX2_suitcaseAt 12 = .ok (.invokevirtual 56, 3) := dk_182 0 56 (dk_at dksX2_suitcaseAt_0 12 rfl rfl)
theorem dX2_suitcaseAt_15 : decode cX2_suitcaseAt 15 = .ok (.invokeinterface 60 1, 5) := by decide +kernel
theorem dX2_suitcaseAt_20 : decode cX2_suitcaseAt 20 = .ok (.astore_n 3, 1) := dk_78 (dk_at dksX2_suitcaseAt_0 20 rfl rfl)
theorem dX2_suitcaseAt_21 : decode cX2_suitcaseAt 21 = .ok (.aload_n 3, 1) := dk_45 (dk_at dksX2_suitcaseAt_0 21 rfl rfl)
theorem dX2_suitcaseAt_22 : decode cX2_suitcaseAt 22 = .ok (.invokeinterface 66 1, 5) := by decide +kernel
theorem dX2_suitcaseAt_27 : decode cX2_suitcaseAt 27 = .ok (.ifCond .eq 24, 3) := dk_153 0 24 (dk_at dksX2_suitcaseAt_1 5 rfl rfl)
theorem dX2_suitcaseAt_30 : decode cX2_suitcaseAt 30 = .ok (.aload_n 3, 1) := dk_45 (dk_at dksX2_suitcaseAt_1 8 rfl rfl)
theorem dX2_suitcaseAt_31 : decode cX2_suitcaseAt 31 = .ok (.invokeinterface 72 1, 5) := by decide +kernel
theorem dX2_suitcaseAt_36 : decode cX2_suitcaseAt 36 = .ok (.checkcast 76, 3) := dk_192 0 76 (dk_at dksX2_suitcaseAt_1 14 rfl rfl)
theorem dX2_suitcaseAt_39 : decode cX2_suitcaseAt 39 = .ok (.astore 4, 2) := dk_58 4 (dk_at dksX2_suitcaseAt_1 17 rfl rfl)
theorem dX2_suitcaseAt_41 : decode cX2_suitcaseAt 41 = .ok (.aload_n 2, 1) := dk_44 (dk_at dksX2_suitcaseAt_1 19 rfl rfl)
theorem dX2_suitcaseAt_42 : decode cX2_suitcaseAt 42 = .ok (.aload 4, 2) := dk_25 4 (dk_at dksX2_suitcaseAt_1 20 rfl rfl)
theorem dX2_suitcaseAt_44 : decode cX2_suitcaseAt 44 = .ok (.invokevirtual 268, 3) := dk_182 1 12 (dk_at dksX2_suitcaseAt_2 0 rfl rfl)
theorem dX2_suitcaseAt_47 : decode cX2_suitcaseAt 47 = .ok (.pop, 1) := dk_87 (dk_at dksX2_suitcaseAt_2 3 rfl rfl)
theorem dX2_suitcaseAt_48 : decode cX2_suitcaseAt 48 = .ok (.goto (-27), 3) := dk_167 255 229 (dk_at dksX2_suitcaseAt_2 4 rfl rfl)
theorem dX2_suitcaseAt_51 : decode cX2_suitcaseAt 51 = .ok (.iconst 0, 1) := dk_3 (dk_at dksX2_suitcaseAt_2 7 rfl rfl)
theorem dX2_suitcaseAt_52 : decode cX2_suitcaseAt 52 = .ok (.istore_n 3, 1) := dk_62 (dk_at dksX2_suitcaseAt_2 8 rfl rfl)
theorem dX2_suitcaseAt_53 : decode cX2_suitcaseAt 53 = .ok (.aload_n 2, 1) := dk_44 (dk_at dksX2_suitcaseAt_2 9 rfl rfl)
theorem dX2_suitcaseAt_54 : decode cX2_suitcaseAt 54 = .ok (.invokevirtual 269, 3) := dk_182 1 13 (dk_at dksX2_suitcaseAt_2 10 rfl rfl)
theorem dX2_suitcaseAt_57 : decode cX2_suitcaseAt 57 = .ok (.astore 4, 2) := dk_58 4 (dk_at dksX2_suitcaseAt_2 13 rfl rfl)
theorem dX2_suitcaseAt_59 : decode cX2_suitcaseAt 59 = .ok (.aload 4, 2) := dk_25 4 (dk_at dksX2_suitcaseAt_2 15 rfl rfl)
theorem dX2_suitcaseAt_61 : decode cX2_suitcaseAt 61 = .ok (.invokeinterface 66 1, 5) := by decide +kernel
theorem dX2_suitcaseAt_66 : decode cX2_suitcaseAt 66 = .ok (.ifCond .eq 32, 3) := dk_153 0 32 (dk_at dksX2_suitcaseAt_3 0 rfl rfl)
theorem dX2_suitcaseAt_69 : decode cX2_suitcaseAt 69 = .ok (.aload 4, 2) := dk_25 4 (dk_at dksX2_suitcaseAt_3 3 rfl rfl)
theorem dX2_suitcaseAt_71 : decode cX2_suitcaseAt 71 = .ok (.invokeinterface 72 1, 5) := by decide +kernel
theorem dX2_suitcaseAt_76 : decode cX2_suitcaseAt 76 = .ok (.checkcast 76, 3) := dk_192 0 76 (dk_at dksX2_suitcaseAt_3 10 rfl rfl)
theorem dX2_suitcaseAt_79 : decode cX2_suitcaseAt 79 = .ok (.astore 5, 2) := dk_58 5 (dk_at dksX2_suitcaseAt_3 13 rfl rfl)
theorem dX2_suitcaseAt_81 : decode cX2_suitcaseAt 81 = .ok (.iload_n 3, 1) := dk_29 (dk_at dksX2_suitcaseAt_3 15 rfl rfl)
theorem dX2_suitcaseAt_82 : decode cX2_suitcaseAt 82 = .ok (.iload_n 1, 1) := dk_27 (dk_at dksX2_suitcaseAt_3 16 rfl rfl)
theorem dX2_suitcaseAt_83 : decode cX2_suitcaseAt 83 = .ok (.if_icmp .ne 9, 3) := dk_160 0 9 (dk_at dksX2_suitcaseAt_3 17 rfl rfl)
theorem dX2_suitcaseAt_86 : decode cX2_suitcaseAt 86 = .ok (.aload 5, 2) := dk_25 5 (dk_at dksX2_suitcaseAt_3 20 rfl rfl)
theorem dX2_suitcaseAt_88 : decode cX2_suitcaseAt 88 = .ok (.invokevirtual 78, 3) := dk_182 0 78 (dk_at dksX2_suitcaseAt_4 0 rfl rfl)
theorem dX2_suitcaseAt_91 : decode cX2_suitcaseAt 91 = .ok (.ireturn, 1) := dk_172 (dk_at dksX2_suitcaseAt_4 3 rfl rfl)
theorem dX2_suitcaseAt_92 : decode cX2_suitcaseAt 92 = .ok (.iinc 3 1, 3) := dk_132 3 1 (dk_at dksX2_suitcaseAt_4 4 rfl rfl)
theorem dX2_suitcaseAt_95 : decode cX2_suitcaseAt 95 = .ok (.goto (-36), 3) := dk_167 255 220 (dk_at dksX2_suitcaseAt_4 7 rfl rfl)
theorem dX2_suitcaseAt_98 : decode cX2_suitcaseAt 98 = .ok (.iconst (-1), 1) := dk_2 (dk_at dksX2_suitcaseAt_4 10 rfl rfl)
theorem dX2_suitcaseAt_99 : decode cX2_suitcaseAt 99 = .ok (.ireturn, 1) := dk_172 (dk_at dksX2_suitcaseAt_4 11 rfl rfl)
theorem q110 : (Jvm.Cond.initialized "SleeperRailway$Railway") ∈ lw_all := lw_g (lw_at lw_m1 10 rfl) rfl
theorem q253 : (Jvm.Cond.instantiable "SleeperRailway$Railway" (8 : Nat)) ∈ lw_all := lw_g (lw_at lw_m1 153 rfl) rfl
theorem q255 : (Jvm.Cond.instanceMethod ({ cls := "SleeperRailway$Railway", name := "<init>", desc := "()V" } : Jvm.MethodName)) ∈ lw_all := lw_g (lw_at lw_m1 155 rfl) rfl
theorem q256 : (Jvm.Cond.code ({ cls := "SleeperRailway$Railway", name := "<init>", desc := "()V" } : Jvm.MethodName) prog_13_method_1_code (1 : Nat) (Option.none : Option Jvm.ClassFile.FieldType)) ∈ lw_all := lw_g (lw_at lw_m1 156 rfl) rfl
theorem q257 : (Jvm.Cond.methodLink "SleeperRailway$Railway" (3 : Nat) ({ cls := "java/lang/Object", name := "<init>", desc := "()V" } : Jvm.MethodName)) ∈ lw_all := lw_g (lw_at lw_m1 157 rfl) rfl
theorem q258 : (Jvm.Cond.classLink "SleeperRailway$Railway" (9 : Nat) "java/util/ArrayList") ∈ lw_all := lw_g (lw_at lw_m1 158 rfl) rfl
theorem q260 : (Jvm.Cond.methodLink "SleeperRailway$Railway" (11 : Nat) ({ cls := "java/util/ArrayList", name := "<init>", desc := "()V" } : Jvm.MethodName)) ∈ lw_all := lw_g (lw_at lw_m1 160 rfl) rfl
theorem q276 : (Jvm.Cond.classLink "SleeperRailway$Railway" (18 : Nat) "SleeperRailway$Timetable") ∈ lw_all := lw_g (lw_at lw_m1 176 rfl) rfl
theorem q278 : (Jvm.Cond.methodLinkNest "SleeperRailway$Railway" (20 : Nat) ({ cls := "SleeperRailway$Timetable", name := "<init>", desc := "()V" } : Jvm.MethodName) "SleeperRailway") ∈ lw_tbl := lw_at lw_m1 178 rfl
theorem q286 : (Jvm.Cond.fieldLinkNest "SleeperRailway$Railway" (143 : Nat) "SleeperRailway$Timetable" "trains" "Ljava/util/List;" "SleeperRailway") ∈ lw_tbl := lw_at lw_m1 186 rfl
theorem q290 : (Jvm.Cond.classLink "SleeperRailway$Railway" (25 : Nat) "java/util/TreeMap") ∈ lw_all := lw_g (lw_at lw_m1 190 rfl) rfl
theorem q292 : (Jvm.Cond.methodLink "SleeperRailway$Railway" (27 : Nat) ({ cls := "java/util/TreeMap", name := "<init>", desc := "()V" } : Jvm.MethodName)) ∈ lw_all := lw_g (lw_at lw_m1 192 rfl) rfl
theorem q326 : (Jvm.Cond.fieldLink "SleeperRailway$Railway" (12 : Nat) "SleeperRailway$Railway" "transfers" "Ljava/util/List;") ∈ lw_all := lw_g (lw_at lw_m1 226 rfl) rfl
theorem q328 : (Jvm.Cond.fieldLink "SleeperRailway$Railway" (21 : Nat) "SleeperRailway$Railway" "timetable" "LSleeperRailway$Timetable;") ∈ lw_all := lw_g (lw_at lw_m1 228 rfl) rfl
theorem q330 : (Jvm.Cond.fieldLink "SleeperRailway$Railway" (28 : Nat) "SleeperRailway$Railway" "suitcases" "Ljava/util/TreeMap;") ∈ lw_all := lw_g (lw_at lw_m1 230 rfl) rfl
theorem q332 : (Jvm.Cond.fieldLink "SleeperRailway$Railway" (32 : Nat) "SleeperRailway$Railway" "bookings" "Ljava/util/TreeMap;") ∈ lw_all := lw_g (lw_at lw_m1 232 rfl) rfl
theorem q334 : (Jvm.Cond.fieldLink "SleeperRailway$Railway" (94 : Nat) "SleeperRailway$Railway" "nextSuitcase" "I") ∈ lw_all := lw_g (lw_at lw_m1 234 rfl) rfl
theorem q335 : (Jvm.Cond.fieldLink "SleeperRailway$Railway" (97 : Nat) "SleeperRailway$Railway" "nextBooking" "I") ∈ lw_all := lw_g (lw_at lw_m1 235 rfl) rfl
theorem q336 : (Jvm.Cond.fieldLink "SleeperRailway$Railway" (100 : Nat) "SleeperRailway$Railway" "coins" "I") ∈ lw_all := lw_g (lw_at lw_m1 236 rfl) rfl
theorem q338 : (Jvm.Cond.fieldLink "SleeperRailway$Railway" (103 : Nat) "SleeperRailway$Railway" "collected" "I") ∈ lw_all := lw_g (lw_at lw_m1 238 rfl) rfl
theorem q340 : (Jvm.Cond.laysFinal "SleeperRailway$Railway" "SleeperRailway$Railway" "transfers" "Ljava/util/List;") ∈ lw_all := lw_g (lw_at lw_m2 0 rfl) rfl
theorem q341 : (Jvm.Cond.soleField "SleeperRailway$Railway" "transfers") ∈ lw_all := lw_g (lw_at lw_m2 1 rfl) rfl
theorem q342 : (Jvm.Cond.lays "SleeperRailway$Railway" "SleeperRailway$Railway" "timetable" "LSleeperRailway$Timetable;") ∈ lw_all := lw_g (lw_at lw_m2 2 rfl) rfl
theorem q343 : (Jvm.Cond.soleField "SleeperRailway$Railway" "timetable") ∈ lw_all := lw_g (lw_at lw_m2 3 rfl) rfl
theorem q344 : (Jvm.Cond.laysFinal "SleeperRailway$Railway" "SleeperRailway$Railway" "suitcases" "Ljava/util/TreeMap;") ∈ lw_all := lw_g (lw_at lw_m2 4 rfl) rfl
theorem q345 : (Jvm.Cond.soleField "SleeperRailway$Railway" "suitcases") ∈ lw_all := lw_g (lw_at lw_m2 5 rfl) rfl
theorem q346 : (Jvm.Cond.laysFinal "SleeperRailway$Railway" "SleeperRailway$Railway" "bookings" "Ljava/util/TreeMap;") ∈ lw_all := lw_g (lw_at lw_m2 6 rfl) rfl
theorem q347 : (Jvm.Cond.soleField "SleeperRailway$Railway" "bookings") ∈ lw_all := lw_g (lw_at lw_m2 7 rfl) rfl
theorem q348 : (Jvm.Cond.lays "SleeperRailway$Railway" "SleeperRailway$Railway" "nextSuitcase" "I") ∈ lw_all := lw_g (lw_at lw_m2 8 rfl) rfl
theorem q349 : (Jvm.Cond.soleField "SleeperRailway$Railway" "nextSuitcase") ∈ lw_all := lw_g (lw_at lw_m2 9 rfl) rfl
theorem q350 : (Jvm.Cond.lays "SleeperRailway$Railway" "SleeperRailway$Railway" "nextBooking" "I") ∈ lw_all := lw_g (lw_at lw_m2 10 rfl) rfl
theorem q351 : (Jvm.Cond.soleField "SleeperRailway$Railway" "nextBooking") ∈ lw_all := lw_g (lw_at lw_m2 11 rfl) rfl
theorem q352 : (Jvm.Cond.lays "SleeperRailway$Railway" "SleeperRailway$Railway" "coins" "I") ∈ lw_all := lw_g (lw_at lw_m2 12 rfl) rfl
theorem q353 : (Jvm.Cond.soleField "SleeperRailway$Railway" "coins") ∈ lw_all := lw_g (lw_at lw_m2 13 rfl) rfl
theorem q354 : (Jvm.Cond.lays "SleeperRailway$Railway" "SleeperRailway$Railway" "collected" "I") ∈ lw_all := lw_g (lw_at lw_m2 14 rfl) rfl
theorem q355 : (Jvm.Cond.soleField "SleeperRailway$Railway" "collected") ∈ lw_all := lw_g (lw_at lw_m2 15 rfl) rfl
theorem q356 : (Jvm.Cond.superclass "SleeperRailway$Railway" "java/lang/Object") ∈ lw_all := lw_g (lw_at lw_m2 16 rfl) rfl
theorem q430 : (Jvm.Cond.instanceMethod ({ cls := "SleeperRailway$Railway", name := "coinsByLoads", desc := "()I" } : Jvm.MethodName)) ∈ lw_all := lw_g (lw_at lw_m2 90 rfl) rfl
theorem q431 : (Jvm.Cond.selects "SleeperRailway$Railway" ({ cls := "SleeperRailway$Railway", name := "coinsByLoads", desc := "()I" } : Jvm.MethodName) ({ cls := "SleeperRailway$Railway", name := "coinsByLoads", desc := "()I" } : Jvm.MethodName)) ∈ lw_all := lw_g (lw_at lw_m2 91 rfl) rfl
theorem q432 : (Jvm.Cond.code ({ cls := "SleeperRailway$Railway", name := "coinsByLoads", desc := "()I" } : Jvm.MethodName) prog_13_method_20_code (1 : Nat) (Option.some Jvm.ClassFile.FieldType.int)) ∈ lw_all := lw_g (lw_at lw_m2 92 rfl) rfl
theorem q433 : (Jvm.Cond.methodLink "SleeperRailway$Railway" (270 : Nat) ({ cls := "SleeperRailway$Timetable", name := "suitcaseLegs", desc := "()I" } : Jvm.MethodName)) ∈ lw_all := lw_g (lw_at lw_m2 93 rfl) rfl
theorem q1000 : (Jvm.Cond.selects "SleeperRailway$Railway" ({ cls := "java/lang/Object", name := "getClass", desc := "()Ljava/lang/Class;" } : Jvm.MethodName) ({ cls := "java/lang/Object", name := "getClass", desc := "()Ljava/lang/Class;" } : Jvm.MethodName)) ∈ lw_all := lw_g (lw_at lw_m4 180 rfl) rfl
theorem q1161 : (Jvm.Cond.instanceMethod ({ cls := "SleeperRailway$Railway", name := "isConsistent", desc := "()Z" } : Jvm.MethodName)) ∈ lw_all := lw_g (lw_at lw_m5 101 rfl) rfl
theorem q1162 : (Jvm.Cond.selects "SleeperRailway$Railway" ({ cls := "SleeperRailway$Railway", name := "isConsistent", desc := "()Z" } : Jvm.MethodName) ({ cls := "SleeperRailway$Railway", name := "isConsistent", desc := "()Z" } : Jvm.MethodName)) ∈ lw_all := lw_g (lw_at lw_m5 102 rfl) rfl
theorem q1163 : (Jvm.Cond.code ({ cls := "SleeperRailway$Railway", name := "isConsistent", desc := "()Z" } : Jvm.MethodName) prog_13_method_23_code (1 : Nat) (Option.some Jvm.ClassFile.FieldType.boolean)) ∈ lw_all := lw_g (lw_at lw_m5 103 rfl) rfl
theorem q1164 : (Jvm.Cond.methodLink "SleeperRailway$Railway" (293 : Nat) ({ cls := "SleeperRailway$Railway", name := "areArrivalsAlike", desc := "(I)Z" } : Jvm.MethodName)) ∈ lw_all := lw_g (lw_at lw_m5 104 rfl) rfl
theorem q1165 : (Jvm.Cond.privateMethod ({ cls := "SleeperRailway$Railway", name := "areArrivalsAlike", desc := "(I)Z" } : Jvm.MethodName)) ∈ lw_tbl := lw_at lw_m5 105 rfl
theorem q1166 : (Jvm.Cond.instanceMethod ({ cls := "SleeperRailway$Railway", name := "areArrivalsAlike", desc := "(I)Z" } : Jvm.MethodName)) ∈ lw_all := lw_g (lw_at lw_m5 106 rfl) rfl
theorem q1167 : (Jvm.Cond.code ({ cls := "SleeperRailway$Railway", name := "areArrivalsAlike", desc := "(I)Z" } : Jvm.MethodName) prog_13_method_21_code (8 : Nat) (Option.some Jvm.ClassFile.FieldType.boolean)) ∈ lw_all := lw_g (lw_at lw_m5 107 rfl) rfl
theorem q1168 : (Jvm.Cond.methodLink "SleeperRailway$Railway" (110 : Nat) ({ cls := "SleeperRailway$Timetable", name := "legs", desc := "()Ljava/util/List;" } : Jvm.MethodName)) ∈ lw_all := lw_g (lw_at lw_m5 108 rfl) rfl
theorem q1236 : (Jvm.Cond.interfaceEntry "SleeperRailway$Railway" (36 : Nat)) ∈ lw_tbl := lw_at lw_m5 176 rfl
theorem q1237 : (Jvm.Cond.methodLink "SleeperRailway$Railway" (36 : Nat) ({ cls := "java/util/List", name := "size", desc := "()I" } : Jvm.MethodName)) ∈ lw_all := lw_g (lw_at lw_m5 177 rfl) rfl
theorem q1238 : (Jvm.Cond.methodLink "SleeperRailway$Railway" (114 : Nat) ({ cls := "SleeperRailway$Railway", name := "journeys", desc := "(Ljava/util/List;II)LSleeperRailway$Journeys;" } : Jvm.MethodName)) ∈ lw_all := lw_g (lw_at lw_m5 178 rfl) rfl
theorem q1239 : (Jvm.Cond.privateMethod ({ cls := "SleeperRailway$Railway", name := "journeys", desc := "(Ljava/util/List;II)LSleeperRailway$Journeys;" } : Jvm.MethodName)) ∈ lw_tbl := lw_at lw_m5 179 rfl
theorem q1240 : (Jvm.Cond.instanceMethod ({ cls := "SleeperRailway$Railway", name := "journeys", desc := "(Ljava/util/List;II)LSleeperRailway$Journeys;" } : Jvm.MethodName)) ∈ lw_all := lw_g (lw_at lw_m5 180 rfl) rfl
theorem q1241 : (Jvm.Cond.code ({ cls := "SleeperRailway$Railway", name := "journeys", desc := "(Ljava/util/List;II)LSleeperRailway$Journeys;" } : Jvm.MethodName) prog_13_method_5_code (6 : Nat) (Option.some (Jvm.ClassFile.FieldType.object "SleeperRailway$Journeys"))) ∈ lw_all := lw_g (lw_at lw_m5 181 rfl) rfl
theorem q1242 : (Jvm.Cond.interfaceEntry "SleeperRailway$Railway" (42 : Nat)) ∈ lw_tbl := lw_at lw_m5 182 rfl
theorem q1243 : (Jvm.Cond.methodLink "SleeperRailway$Railway" (42 : Nat) ({ cls := "java/util/List", name := "get", desc := "(I)Ljava/lang/Object;" } : Jvm.MethodName)) ∈ lw_all := lw_g (lw_at lw_m5 183 rfl) rfl
theorem q1244 : (Jvm.Cond.classLink "SleeperRailway$Railway" (46 : Nat) "java/lang/Integer") ∈ lw_all := lw_g (lw_at lw_m5 184 rfl) rfl
theorem q1245 : (Jvm.Cond.methodLink "SleeperRailway$Railway" (118 : Nat) ({ cls := "java/lang/Integer", name := "intValue", desc := "()I" } : Jvm.MethodName)) ∈ lw_all := lw_g (lw_at lw_m5 185 rfl) rfl
theorem q1249 : (Jvm.Cond.classLink "SleeperRailway$Railway" (121 : Nat) "SleeperRailway$Journeys") ∈ lw_all := lw_g (lw_at lw_m5 189 rfl) rfl
theorem q1251 : (Jvm.Cond.methodLink "SleeperRailway$Railway" (123 : Nat) ({ cls := "SleeperRailway$Journeys", name := "<init>", desc := "(LSleeperRailway$Timetable;Ljava/util/List;[III)V" } : Jvm.MethodName)) ∈ lw_all := lw_g (lw_at lw_m5 191 rfl) rfl
theorem q1280 : (Jvm.Cond.methodLink "SleeperRailway$Railway" (273 : Nat) ({ cls := "SleeperRailway$Journeys", name := "search", desc := "()LSleeperRailway$Journeys;" } : Jvm.MethodName)) ∈ lw_all := lw_g (lw_at lw_m5 220 rfl) rfl
theorem q1804 : (Jvm.Cond.methodLink "SleeperRailway$Railway" (195 : Nat) ({ cls := "SleeperRailway$Journeys", name := "scan", desc := "()LSleeperRailway$Journeys;" } : Jvm.MethodName)) ∈ lw_all := lw_g (lw_at lw_m8 24 rfl) rfl
theorem q1846 : (Jvm.Cond.methodLink "SleeperRailway$Railway" (199 : Nat) ({ cls := "SleeperRailway$Journeys", name := "earliest", desc := "(I)I" } : Jvm.MethodName)) ∈ lw_all := lw_g (lw_at lw_m8 66 rfl) rfl
theorem q1850 : (Jvm.Cond.methodLink "SleeperRailway$Railway" (296 : Nat) ({ cls := "SleeperRailway$Railway", name := "areTrainsGood", desc := "()Z" } : Jvm.MethodName)) ∈ lw_all := lw_g (lw_at lw_m8 70 rfl) rfl
theorem q1851 : (Jvm.Cond.privateMethod ({ cls := "SleeperRailway$Railway", name := "areTrainsGood", desc := "()Z" } : Jvm.MethodName)) ∈ lw_tbl := lw_at lw_m8 71 rfl
theorem q1852 : (Jvm.Cond.instanceMethod ({ cls := "SleeperRailway$Railway", name := "areTrainsGood", desc := "()Z" } : Jvm.MethodName)) ∈ lw_all := lw_g (lw_at lw_m8 72 rfl) rfl
theorem q1853 : (Jvm.Cond.code ({ cls := "SleeperRailway$Railway", name := "areTrainsGood", desc := "()Z" } : Jvm.MethodName) prog_13_method_22_code (5 : Nat) (Option.some Jvm.ClassFile.FieldType.boolean)) ∈ lw_all := lw_g (lw_at lw_m8 73 rfl) rfl
theorem q1854 : (Jvm.Cond.methodLink "SleeperRailway$Railway" (140 : Nat) ({ cls := "SleeperRailway$Timetable", name := "count", desc := "()I" } : Jvm.MethodName)) ∈ lw_all := lw_g (lw_at lw_m8 74 rfl) rfl
theorem q1855 : (Jvm.Cond.methodLink "SleeperRailway$Railway" (276 : Nat) ({ cls := "SleeperRailway$Railway", name := "berths", desc := "(I)LSleeperRailway$Berths;" } : Jvm.MethodName)) ∈ lw_all := lw_g (lw_at lw_m8 75 rfl) rfl
theorem q1856 : (Jvm.Cond.instanceMethod ({ cls := "SleeperRailway$Railway", name := "berths", desc := "(I)LSleeperRailway$Berths;" } : Jvm.MethodName)) ∈ lw_all := lw_g (lw_at lw_m8 76 rfl) rfl
theorem q1857 : (Jvm.Cond.selects "SleeperRailway$Railway" ({ cls := "SleeperRailway$Railway", name := "berths", desc := "(I)LSleeperRailway$Berths;" } : Jvm.MethodName) ({ cls := "SleeperRailway$Railway", name := "berths", desc := "(I)LSleeperRailway$Berths;" } : Jvm.MethodName)) ∈ lw_all := lw_g (lw_at lw_m8 77 rfl) rfl
theorem q1858 : (Jvm.Cond.code ({ cls := "SleeperRailway$Railway", name := "berths", desc := "(I)LSleeperRailway$Berths;" } : Jvm.MethodName) prog_13_method_17_code (5 : Nat) (Option.some (Jvm.ClassFile.FieldType.object "SleeperRailway$Berths"))) ∈ lw_all := lw_g (lw_at lw_m8 78 rfl) rfl
theorem q1859 : (Jvm.Cond.classLink "SleeperRailway$Railway" (247 : Nat) "SleeperRailway$Berths") ∈ lw_all := lw_g (lw_at lw_m8 79 rfl) rfl
theorem q1861 : (Jvm.Cond.methodLinkNest "SleeperRailway$Railway" (249 : Nat) ({ cls := "SleeperRailway$Berths", name := "<init>", desc := "()V" } : Jvm.MethodName) "SleeperRailway") ∈ lw_tbl := lw_at lw_m8 81 rfl
theorem q1870 : (Jvm.Cond.fieldLinkNest "SleeperRailway$Railway" (280 : Nat) "SleeperRailway$Berths" "needed" "I" "SleeperRailway") ∈ lw_tbl := lw_at lw_m8 90 rfl
theorem q1879 : (Jvm.Cond.methodLink "SleeperRailway$Railway" (56 : Nat) ({ cls := "java/util/TreeMap", name := "values", desc := "()Ljava/util/Collection;" } : Jvm.MethodName)) ∈ lw_all := lw_g (lw_at lw_m8 99 rfl) rfl
theorem q1893 : (Jvm.Cond.interfaceEntry "SleeperRailway$Railway" (60 : Nat)) ∈ lw_tbl := lw_at lw_m8 113 rfl
theorem q1894 : (Jvm.Cond.methodLink "SleeperRailway$Railway" (60 : Nat) ({ cls := "java/util/Collection", name := "iterator", desc := "()Ljava/util/Iterator;" } : Jvm.MethodName)) ∈ lw_all := lw_g (lw_at lw_m8 114 rfl) rfl
theorem q2027 : (Jvm.Cond.interfaceEntry "SleeperRailway$Railway" (66 : Nat)) ∈ lw_tbl := lw_at lw_m9 7 rfl
theorem q2028 : (Jvm.Cond.methodLink "SleeperRailway$Railway" (66 : Nat) ({ cls := "java/util/Iterator", name := "hasNext", desc := "()Z" } : Jvm.MethodName)) ∈ lw_all := lw_g (lw_at lw_m9 8 rfl) rfl
theorem q2029 : (Jvm.Cond.interfaceEntry "SleeperRailway$Railway" (72 : Nat)) ∈ lw_tbl := lw_at lw_m9 9 rfl
theorem q2030 : (Jvm.Cond.methodLink "SleeperRailway$Railway" (72 : Nat) ({ cls := "java/util/Iterator", name := "next", desc := "()Ljava/lang/Object;" } : Jvm.MethodName)) ∈ lw_all := lw_g (lw_at lw_m9 10 rfl) rfl
theorem q2031 : (Jvm.Cond.classLink "SleeperRailway$Railway" (89 : Nat) "SleeperRailway$Booking") ∈ lw_all := lw_g (lw_at lw_m9 11 rfl) rfl
theorem q2032 : (Jvm.Cond.methodLink "SleeperRailway$Railway" (250 : Nat) ({ cls := "SleeperRailway$Berths", name := "add", desc := "(LSleeperRailway$Booking;)V" } : Jvm.MethodName)) ∈ lw_all := lw_g (lw_at lw_m9 12 rfl) rfl
theorem q2047 : (Jvm.Cond.methodLink "SleeperRailway$Railway" (253 : Nat) ({ cls := "SleeperRailway$Berths", name := "give", desc := "()LSleeperRailway$Berths;" } : Jvm.MethodName)) ∈ lw_all := lw_g (lw_at lw_m9 27 rfl) rfl
theorem q2236 : (Jvm.Cond.methodLink "SleeperRailway$Railway" (283 : Nat) ({ cls := "SleeperRailway$Railway", name := "berthsByLegs", desc := "(I)I" } : Jvm.MethodName)) ∈ lw_all := lw_g (lw_at lw_m9 216 rfl) rfl
theorem q2237 : (Jvm.Cond.instanceMethod ({ cls := "SleeperRailway$Railway", name := "berthsByLegs", desc := "(I)I" } : Jvm.MethodName)) ∈ lw_all := lw_g (lw_at lw_m9 217 rfl) rfl
theorem q2238 : (Jvm.Cond.selects "SleeperRailway$Railway" ({ cls := "SleeperRailway$Railway", name := "berthsByLegs", desc := "(I)I" } : Jvm.MethodName) ({ cls := "SleeperRailway$Railway", name := "berthsByLegs", desc := "(I)I" } : Jvm.MethodName)) ∈ lw_all := lw_g (lw_at lw_m9 218 rfl) rfl
theorem q2239 : (Jvm.Cond.code ({ cls := "SleeperRailway$Railway", name := "berthsByLegs", desc := "(I)I" } : Jvm.MethodName) prog_13_method_18_code (5 : Nat) (Option.some Jvm.ClassFile.FieldType.int)) ∈ lw_all := lw_g (lw_at lw_m9 219 rfl) rfl
theorem q2240 : (Jvm.Cond.methodLink "SleeperRailway$Railway" (154 : Nat) ({ cls := "SleeperRailway$Timetable", name := "get", desc := "(I)LSleeperRailway$Train;" } : Jvm.MethodName)) ∈ lw_all := lw_g (lw_at lw_m9 220 rfl) rfl
theorem q2241 : (Jvm.Cond.methodLink "SleeperRailway$Railway" (257 : Nat) ({ cls := "SleeperRailway$Train", name := "legs", desc := "()I" } : Jvm.MethodName)) ∈ lw_all := lw_g (lw_at lw_m9 221 rfl) rfl
theorem q2242 : (Jvm.Cond.methodLink "SleeperRailway$Railway" (259 : Nat) ({ cls := "java/lang/Math", name := "max", desc := "(II)I" } : Jvm.MethodName)) ∈ lw_all := lw_g (lw_at lw_m9 222 rfl) rfl
theorem q2243 : (Jvm.Cond.methodLink "SleeperRailway$Railway" (286 : Nat) ({ cls := "SleeperRailway$Timetable", name := "iterator", desc := "()Ljava/util/Iterator;" } : Jvm.MethodName)) ∈ lw_all := lw_g (lw_at lw_m9 223 rfl) rfl
theorem q2244 : (Jvm.Cond.classLink "SleeperRailway$Railway" (210 : Nat) "SleeperRailway$Leg") ∈ lw_all := lw_g (lw_at lw_m9 224 rfl) rfl
theorem q2245 : (Jvm.Cond.methodLink "SleeperRailway$Railway" (212 : Nat) ({ cls := "SleeperRailway$Leg", name := "train", desc := "()I" } : Jvm.MethodName)) ∈ lw_all := lw_g (lw_at lw_m9 225 rfl) rfl
theorem q2246 : (Jvm.Cond.methodLink "SleeperRailway$Railway" (217 : Nat) ({ cls := "SleeperRailway$Leg", name := "number", desc := "()I" } : Jvm.MethodName)) ∈ lw_all := lw_g (lw_at lw_m9 226 rfl) rfl
theorem q2247 : (Jvm.Cond.methodLink "SleeperRailway$Railway" (287 : Nat) ({ cls := "SleeperRailway$Train", name := "load", desc := "(I)I" } : Jvm.MethodName)) ∈ lw_all := lw_g (lw_at lw_m9 227 rfl) rfl
theorem q2248 : (Jvm.Cond.methodLink "SleeperRailway$Railway" (299 : Nat) ({ cls := "SleeperRailway$Railway", name := "coinsByLoads", desc := "()I" } : Jvm.MethodName)) ∈ lw_all := lw_g (lw_at lw_m9 228 rfl) rfl
theorem q2270 : (Jvm.Cond.instanceMethod ({ cls := "SleeperRailway$Railway", name := "copy", desc := "()LSleeperRailway$Railway;" } : Jvm.MethodName)) ∈ lw_all := lw_g (lw_at lw_m10 10 rfl) rfl
theorem q2271 : (Jvm.Cond.selects "SleeperRailway$Railway" ({ cls := "SleeperRailway$Railway", name := "copy", desc := "()LSleeperRailway$Railway;" } : Jvm.MethodName) ({ cls := "SleeperRailway$Railway", name := "copy", desc := "()LSleeperRailway$Railway;" } : Jvm.MethodName)) ∈ lw_all := lw_g (lw_at lw_m10 11 rfl) rfl
theorem q2272 : (Jvm.Cond.code ({ cls := "SleeperRailway$Railway", name := "copy", desc := "()LSleeperRailway$Railway;" } : Jvm.MethodName) prog_13_method_2_code (4 : Nat) (Option.some (Jvm.ClassFile.FieldType.object "SleeperRailway$Railway"))) ∈ lw_all := lw_g (lw_at lw_m10 12 rfl) rfl
theorem q2273 : (Jvm.Cond.classLink "SleeperRailway$Railway" (13 : Nat) "SleeperRailway$Railway") ∈ lw_all := lw_g (lw_at lw_m10 13 rfl) rfl
theorem q2274 : (Jvm.Cond.methodLink "SleeperRailway$Railway" (35 : Nat) ({ cls := "SleeperRailway$Railway", name := "<init>", desc := "()V" } : Jvm.MethodName)) ∈ lw_all := lw_g (lw_at lw_m10 14 rfl) rfl
theorem q2275 : (Jvm.Cond.interfaceEntry "SleeperRailway$Railway" (48 : Nat)) ∈ lw_tbl := lw_at lw_m10 15 rfl
theorem q2276 : (Jvm.Cond.methodLink "SleeperRailway$Railway" (48 : Nat) ({ cls := "java/util/List", name := "add", desc := "(Ljava/lang/Object;)Z" } : Jvm.MethodName)) ∈ lw_all := lw_g (lw_at lw_m10 16 rfl) rfl
theorem q2277 : (Jvm.Cond.methodLink "SleeperRailway$Railway" (52 : Nat) ({ cls := "SleeperRailway$Timetable", name := "copy", desc := "()LSleeperRailway$Timetable;" } : Jvm.MethodName)) ∈ lw_all := lw_g (lw_at lw_m10 17 rfl) rfl
theorem q2300 : (Jvm.Cond.fieldLinkNest "SleeperRailway$Railway" (290 : Nat) "SleeperRailway$Train" "capacity" "I" "SleeperRailway") ∈ lw_tbl := lw_at lw_m10 40 rfl
theorem q2304 : (Jvm.Cond.fieldLinkNest "SleeperRailway$Railway" (160 : Nat) "SleeperRailway$Train" "stations" "[I" "SleeperRailway") ∈ lw_tbl := lw_at lw_m10 44 rfl
theorem q2309 : (Jvm.Cond.fieldLinkNest "SleeperRailway$Railway" (215 : Nat) "SleeperRailway$Train" "suitcases" "[I" "SleeperRailway") ∈ lw_tbl := lw_at lw_m10 49 rfl
theorem q2312 : (Jvm.Cond.fieldLinkNest "SleeperRailway$Railway" (237 : Nat) "SleeperRailway$Train" "bookings" "[I" "SleeperRailway") ∈ lw_tbl := lw_at lw_m10 52 rfl
theorem q2314 : (Jvm.Cond.fieldLinkNest "SleeperRailway$Railway" (157 : Nat) "SleeperRailway$Train" "stops" "I" "SleeperRailway") ∈ lw_tbl := lw_at lw_m10 54 rfl
theorem q2317 : (Jvm.Cond.fieldLinkNest "SleeperRailway$Railway" (168 : Nat) "SleeperRailway$Train" "delay" "I" "SleeperRailway") ∈ lw_tbl := lw_at lw_m10 57 rfl
theorem q2336 : (Jvm.Cond.classLink "SleeperRailway$Railway" (76 : Nat) "SleeperRailway$Suitcase") ∈ lw_all := lw_g (lw_at lw_m10 76 rfl) rfl
theorem q2337 : (Jvm.Cond.methodLink "SleeperRailway$Railway" (78 : Nat) ({ cls := "SleeperRailway$Suitcase", name := "id", desc := "()I" } : Jvm.MethodName)) ∈ lw_all := lw_g (lw_at lw_m10 77 rfl) rfl
theorem q2341 : (Jvm.Cond.methodLink "SleeperRailway$Railway" (81 : Nat) ({ cls := "java/lang/Integer", name := "valueOf", desc := "(I)Ljava/lang/Integer;" } : Jvm.MethodName)) ∈ lw_all := lw_g (lw_at lw_m10 81 rfl) rfl
theorem q2342 : (Jvm.Cond.methodLink "SleeperRailway$Railway" (85 : Nat) ({ cls := "java/util/TreeMap", name := "put", desc := "(Ljava/lang/Object;Ljava/lang/Object;)Ljava/lang/Object;" } : Jvm.MethodName)) ∈ lw_all := lw_g (lw_at lw_m10 82 rfl) rfl
theorem q2442 : (Jvm.Cond.instanceMethod ({ cls := "SleeperRailway$Railway", name := "addStation", desc := "(I)I" } : Jvm.MethodName)) ∈ lw_all := lw_g (lw_at lw_m10 182 rfl) rfl
theorem q2443 : (Jvm.Cond.selects "SleeperRailway$Railway" ({ cls := "SleeperRailway$Railway", name := "addStation", desc := "(I)I" } : Jvm.MethodName) ({ cls := "SleeperRailway$Railway", name := "addStation", desc := "(I)I" } : Jvm.MethodName)) ∈ lw_all := lw_g (lw_at lw_m10 183 rfl) rfl
theorem q2444 : (Jvm.Cond.code ({ cls := "SleeperRailway$Railway", name := "addStation", desc := "(I)I" } : Jvm.MethodName) prog_13_method_6_code (2 : Nat) (Option.some Jvm.ClassFile.FieldType.int)) ∈ lw_all := lw_g (lw_at lw_m10 184 rfl) rfl
theorem q2445 : (Jvm.Cond.methodLinkNest "SleeperRailway$Railway" (106 : Nat) ({ cls := "SleeperRailway", name := "isBetween", desc := "(III)Z" } : Jvm.MethodName) "SleeperRailway") ∈ lw_tbl := lw_at lw_m10 185 rfl
theorem q2446 : (Jvm.Cond.stringRef "SleeperRailway$Railway" (126 : Nat) "argument") ∈ lw_tbl := lw_at lw_m10 186 rfl
theorem q2447 : (Jvm.Cond.methodLinkNest "SleeperRailway$Railway" (128 : Nat) ({ cls := "SleeperRailway", name := "demand", desc := "(ZLjava/lang/String;)V" } : Jvm.MethodName) "SleeperRailway") ∈ lw_tbl := lw_at lw_m10 187 rfl
theorem q2476 : (Jvm.Cond.stringRef "SleeperRailway$Railway" (132 : Nat) "state") ∈ lw_tbl := lw_at lw_m10 216 rfl
theorem q2478 : (Jvm.Cond.instanceMethod ({ cls := "SleeperRailway$Railway", name := "addTrain", desc := "(III)I" } : Jvm.MethodName)) ∈ lw_all := lw_g (lw_at lw_m10 218 rfl) rfl
theorem q2479 : (Jvm.Cond.selects "SleeperRailway$Railway" ({ cls := "SleeperRailway$Railway", name := "addTrain", desc := "(III)I" } : Jvm.MethodName) ({ cls := "SleeperRailway$Railway", name := "addTrain", desc := "(III)I" } : Jvm.MethodName)) ∈ lw_all := lw_g (lw_at lw_m10 219 rfl) rfl
theorem q2480 : (Jvm.Cond.code ({ cls := "SleeperRailway$Railway", name := "addTrain", desc := "(III)I" } : Jvm.MethodName) prog_13_method_7_code (4 : Nat) (Option.some Jvm.ClassFile.FieldType.int)) ∈ lw_all := lw_g (lw_at lw_m10 220 rfl) rfl
theorem q2481 : (Jvm.Cond.methodLink "SleeperRailway$Railway" (134 : Nat) ({ cls := "SleeperRailway$Railway", name := "hasStation", desc := "(I)Z" } : Jvm.MethodName)) ∈ lw_all := lw_g (lw_at lw_m10 221 rfl) rfl
theorem q2482 : (Jvm.Cond.instanceMethod ({ cls := "SleeperRailway$Railway", name := "hasStation", desc := "(I)Z" } : Jvm.MethodName)) ∈ lw_all := lw_g (lw_at lw_m10 222 rfl) rfl
theorem q2483 : (Jvm.Cond.selects "SleeperRailway$Railway" ({ cls := "SleeperRailway$Railway", name := "hasStation", desc := "(I)Z" } : Jvm.MethodName) ({ cls := "SleeperRailway$Railway", name := "hasStation", desc := "(I)Z" } : Jvm.MethodName)) ∈ lw_all := lw_g (lw_at lw_m10 223 rfl) rfl
theorem q2484 : (Jvm.Cond.code ({ cls := "SleeperRailway$Railway", name := "hasStation", desc := "(I)Z" } : Jvm.MethodName) prog_13_method_3_code (2 : Nat) (Option.some Jvm.ClassFile.FieldType.boolean)) ∈ lw_all := lw_g (lw_at lw_m10 224 rfl) rfl
theorem q2485 : (Jvm.Cond.stringRef "SleeperRailway$Railway" (138 : Nat) "index") ∈ lw_tbl := lw_at lw_m10 225 rfl
theorem q2486 : (Jvm.Cond.classLink "SleeperRailway$Railway" (146 : Nat) "SleeperRailway$Train") ∈ lw_all := lw_g (lw_at lw_m10 226 rfl) rfl
theorem q2487 : (Jvm.Cond.methodLink "SleeperRailway$Railway" (148 : Nat) ({ cls := "SleeperRailway$Train", name := "<init>", desc := "(III)V" } : Jvm.MethodName)) ∈ lw_all := lw_g (lw_at lw_m10 227 rfl) rfl
theorem q2491 : (Jvm.Cond.instanceMethod ({ cls := "SleeperRailway$Railway", name := "extendTrain", desc := "(IIII)I" } : Jvm.MethodName)) ∈ lw_all := lw_g (lw_at lw_m10 231 rfl) rfl
theorem q2492 : (Jvm.Cond.selects "SleeperRailway$Railway" ({ cls := "SleeperRailway$Railway", name := "extendTrain", desc := "(IIII)I" } : Jvm.MethodName) ({ cls := "SleeperRailway$Railway", name := "extendTrain", desc := "(IIII)I" } : Jvm.MethodName)) ∈ lw_all := lw_g (lw_at lw_m10 232 rfl) rfl
theorem q2493 : (Jvm.Cond.code ({ cls := "SleeperRailway$Railway", name := "extendTrain", desc := "(IIII)I" } : Jvm.MethodName) prog_13_method_8_code (6 : Nat) (Option.some Jvm.ClassFile.FieldType.int)) ∈ lw_all := lw_g (lw_at lw_m10 233 rfl) rfl
theorem q2494 : (Jvm.Cond.methodLink "SleeperRailway$Railway" (151 : Nat) ({ cls := "SleeperRailway$Timetable", name := "has", desc := "(I)Z" } : Jvm.MethodName)) ∈ lw_all := lw_g (lw_at lw_m10 234 rfl) rfl
theorem q2499 : (Jvm.Cond.methodLink "SleeperRailway$Railway" (164 : Nat) ({ cls := "SleeperRailway$Train", name := "extend", desc := "(III)I" } : Jvm.MethodName)) ∈ lw_all := lw_g (lw_at lw_m10 239 rfl) rfl
theorem q2504 : (Jvm.Cond.instanceMethod ({ cls := "SleeperRailway$Railway", name := "delayTrain", desc := "(II)I" } : Jvm.MethodName)) ∈ lw_all := lw_g (lw_at lw_m11 4 rfl) rfl
theorem q2505 : (Jvm.Cond.selects "SleeperRailway$Railway" ({ cls := "SleeperRailway$Railway", name := "delayTrain", desc := "(II)I" } : Jvm.MethodName) ({ cls := "SleeperRailway$Railway", name := "delayTrain", desc := "(II)I" } : Jvm.MethodName)) ∈ lw_all := lw_g (lw_at lw_m11 5 rfl) rfl
theorem q2506 : (Jvm.Cond.code ({ cls := "SleeperRailway$Railway", name := "delayTrain", desc := "(II)I" } : Jvm.MethodName) prog_13_method_9_code (4 : Nat) (Option.some Jvm.ClassFile.FieldType.int)) ∈ lw_all := lw_g (lw_at lw_m11 6 rfl) rfl
theorem q2508 : (Jvm.Cond.instanceMethod ({ cls := "SleeperRailway$Railway", name := "addSuitcase", desc := "(III)I" } : Jvm.MethodName)) ∈ lw_all := lw_g (lw_at lw_m11 8 rfl) rfl
theorem q2509 : (Jvm.Cond.selects "SleeperRailway$Railway" ({ cls := "SleeperRailway$Railway", name := "addSuitcase", desc := "(III)I" } : Jvm.MethodName) ({ cls := "SleeperRailway$Railway", name := "addSuitcase", desc := "(III)I" } : Jvm.MethodName)) ∈ lw_all := lw_g (lw_at lw_m11 9 rfl) rfl
theorem q2510 : (Jvm.Cond.code ({ cls := "SleeperRailway$Railway", name := "addSuitcase", desc := "(III)I" } : Jvm.MethodName) prog_13_method_10_code (4 : Nat) (Option.some Jvm.ClassFile.FieldType.int)) ∈ lw_all := lw_g (lw_at lw_m11 10 rfl) rfl
theorem q2511 : (Jvm.Cond.methodLink "SleeperRailway$Railway" (171 : Nat) ({ cls := "java/util/TreeMap", name := "size", desc := "()I" } : Jvm.MethodName)) ∈ lw_all := lw_g (lw_at lw_m11 11 rfl) rfl
theorem q2513 : (Jvm.Cond.methodLinkNest "SleeperRailway$Railway" (172 : Nat) ({ cls := "SleeperRailway$Suitcase", name := "<init>", desc := "(IIII)V" } : Jvm.MethodName) "SleeperRailway") ∈ lw_tbl := lw_at lw_m11 13 rfl
theorem q2531 : (Jvm.Cond.instanceMethod ({ cls := "SleeperRailway$Railway", name := "relabel", desc := "(II)I" } : Jvm.MethodName)) ∈ lw_all := lw_g (lw_at lw_m11 31 rfl) rfl
theorem q2532 : (Jvm.Cond.selects "SleeperRailway$Railway" ({ cls := "SleeperRailway$Railway", name := "relabel", desc := "(II)I" } : Jvm.MethodName) ({ cls := "SleeperRailway$Railway", name := "relabel", desc := "(II)I" } : Jvm.MethodName)) ∈ lw_all := lw_g (lw_at lw_m11 32 rfl) rfl
theorem q2533 : (Jvm.Cond.code ({ cls := "SleeperRailway$Railway", name := "relabel", desc := "(II)I" } : Jvm.MethodName) prog_13_method_11_code (4 : Nat) (Option.some Jvm.ClassFile.FieldType.int)) ∈ lw_all := lw_g (lw_at lw_m11 33 rfl) rfl
theorem q2534 : (Jvm.Cond.methodLink "SleeperRailway$Railway" (175 : Nat) ({ cls := "java/util/TreeMap", name := "containsKey", desc := "(Ljava/lang/Object;)Z" } : Jvm.MethodName)) ∈ lw_all := lw_g (lw_at lw_m11 34 rfl) rfl
theorem q2538 : (Jvm.Cond.stringRef "SleeperRailway$Railway" (178 : Nat) "element") ∈ lw_tbl := lw_at lw_m11 38 rfl
theorem q2539 : (Jvm.Cond.methodLink "SleeperRailway$Railway" (180 : Nat) ({ cls := "java/util/TreeMap", name := "get", desc := "(Ljava/lang/Object;)Ljava/lang/Object;" } : Jvm.MethodName)) ∈ lw_all := lw_g (lw_at lw_m11 39 rfl) rfl
theorem q2543 : (Jvm.Cond.methodLink "SleeperRailway$Railway" (183 : Nat) ({ cls := "SleeperRailway$Suitcase", name := "station", desc := "()I" } : Jvm.MethodName)) ∈ lw_all := lw_g (lw_at lw_m11 43 rfl) rfl
theorem q2547 : (Jvm.Cond.methodLink "SleeperRailway$Railway" (186 : Nat) ({ cls := "SleeperRailway$Suitcase", name := "ready", desc := "()I" } : Jvm.MethodName)) ∈ lw_all := lw_g (lw_at lw_m11 47 rfl) rfl
theorem q2551 : (Jvm.Cond.methodLink "SleeperRailway$Railway" (189 : Nat) ({ cls := "SleeperRailway$Suitcase", name := "destination", desc := "()I" } : Jvm.MethodName)) ∈ lw_all := lw_g (lw_at lw_m11 51 rfl) rfl
theorem q2556 : (Jvm.Cond.instanceMethod ({ cls := "SleeperRailway$Railway", name := "send", desc := "(I)I" } : Jvm.MethodName)) ∈ lw_all := lw_g (lw_at lw_m11 56 rfl) rfl
theorem q2557 : (Jvm.Cond.selects "SleeperRailway$Railway" ({ cls := "SleeperRailway$Railway", name := "send", desc := "(I)I" } : Jvm.MethodName) ({ cls := "SleeperRailway$Railway", name := "send", desc := "(I)I" } : Jvm.MethodName)) ∈ lw_all := lw_g (lw_at lw_m11 57 rfl) rfl
theorem q2558 : (Jvm.Cond.code ({ cls := "SleeperRailway$Railway", name := "send", desc := "(I)I" } : Jvm.MethodName) prog_13_method_12_code (8 : Nat) (Option.some Jvm.ClassFile.FieldType.int)) ∈ lw_all := lw_g (lw_at lw_m11 58 rfl) rfl
theorem q2559 : (Jvm.Cond.methodLink "SleeperRailway$Railway" (192 : Nat) ({ cls := "SleeperRailway$Railway", name := "journeys", desc := "(II)LSleeperRailway$Journeys;" } : Jvm.MethodName)) ∈ lw_all := lw_g (lw_at lw_m11 59 rfl) rfl
theorem q2560 : (Jvm.Cond.instanceMethod ({ cls := "SleeperRailway$Railway", name := "journeys", desc := "(II)LSleeperRailway$Journeys;" } : Jvm.MethodName)) ∈ lw_all := lw_g (lw_at lw_m11 60 rfl) rfl
theorem q2561 : (Jvm.Cond.selects "SleeperRailway$Railway" ({ cls := "SleeperRailway$Railway", name := "journeys", desc := "(II)LSleeperRailway$Journeys;" } : Jvm.MethodName) ({ cls := "SleeperRailway$Railway", name := "journeys", desc := "(II)LSleeperRailway$Journeys;" } : Jvm.MethodName)) ∈ lw_all := lw_g (lw_at lw_m11 61 rfl) rfl
theorem q2562 : (Jvm.Cond.code ({ cls := "SleeperRailway$Railway", name := "journeys", desc := "(II)LSleeperRailway$Journeys;" } : Jvm.MethodName) prog_13_method_4_code (3 : Nat) (Option.some (Jvm.ClassFile.FieldType.object "SleeperRailway$Journeys"))) ∈ lw_all := lw_g (lw_at lw_m11 62 rfl) rfl
theorem q2563 : (Jvm.Cond.stringRef "SleeperRailway$Railway" (203 : Nat) "rule") ∈ lw_tbl := lw_at lw_m11 63 rfl
theorem q2564 : (Jvm.Cond.methodLink "SleeperRailway$Railway" (205 : Nat) ({ cls := "SleeperRailway$Journeys", name := "legsTo", desc := "(I)Ljava/util/List;" } : Jvm.MethodName)) ∈ lw_all := lw_g (lw_at lw_m11 64 rfl) rfl
theorem q2578 : (Jvm.Cond.interfaceEntry "SleeperRailway$Railway" (209 : Nat)) ∈ lw_tbl := lw_at lw_m11 78 rfl
theorem q2579 : (Jvm.Cond.methodLink "SleeperRailway$Railway" (209 : Nat) ({ cls := "java/util/List", name := "iterator", desc := "()Ljava/util/Iterator;" } : Jvm.MethodName)) ∈ lw_all := lw_g (lw_at lw_m11 79 rfl) rfl
theorem q2581 : (Jvm.Cond.instanceMethod ({ cls := "SleeperRailway$Railway", name := "collect", desc := "(I)I" } : Jvm.MethodName)) ∈ lw_all := lw_g (lw_at lw_m11 81 rfl) rfl
theorem q2582 : (Jvm.Cond.selects "SleeperRailway$Railway" ({ cls := "SleeperRailway$Railway", name := "collect", desc := "(I)I" } : Jvm.MethodName) ({ cls := "SleeperRailway$Railway", name := "collect", desc := "(I)I" } : Jvm.MethodName)) ∈ lw_all := lw_g (lw_at lw_m11 82 rfl) rfl
theorem q2583 : (Jvm.Cond.code ({ cls := "SleeperRailway$Railway", name := "collect", desc := "(I)I" } : Jvm.MethodName) prog_13_method_13_code (2 : Nat) (Option.some Jvm.ClassFile.FieldType.int)) ∈ lw_all := lw_g (lw_at lw_m11 83 rfl) rfl
theorem q2584 : (Jvm.Cond.methodLink "SleeperRailway$Railway" (220 : Nat) ({ cls := "SleeperRailway$Suitcase", name := "isThere", desc := "()Z" } : Jvm.MethodName)) ∈ lw_all := lw_g (lw_at lw_m11 84 rfl) rfl
theorem q2588 : (Jvm.Cond.methodLink "SleeperRailway$Railway" (223 : Nat) ({ cls := "java/util/TreeMap", name := "remove", desc := "(Ljava/lang/Object;)Ljava/lang/Object;" } : Jvm.MethodName)) ∈ lw_all := lw_g (lw_at lw_m11 88 rfl) rfl
theorem q2590 : (Jvm.Cond.instanceMethod ({ cls := "SleeperRailway$Railway", name := "book", desc := "(III)I" } : Jvm.MethodName)) ∈ lw_all := lw_g (lw_at lw_m11 90 rfl) rfl
theorem q2591 : (Jvm.Cond.selects "SleeperRailway$Railway" ({ cls := "SleeperRailway$Railway", name := "book", desc := "(III)I" } : Jvm.MethodName) ({ cls := "SleeperRailway$Railway", name := "book", desc := "(III)I" } : Jvm.MethodName)) ∈ lw_all := lw_g (lw_at lw_m11 91 rfl) rfl
theorem q2592 : (Jvm.Cond.code ({ cls := "SleeperRailway$Railway", name := "book", desc := "(III)I" } : Jvm.MethodName) prog_13_method_14_code (6 : Nat) (Option.some Jvm.ClassFile.FieldType.int)) ∈ lw_all := lw_g (lw_at lw_m11 92 rfl) rfl
theorem q2593 : (Jvm.Cond.methodLink "SleeperRailway$Railway" (226 : Nat) ({ cls := "SleeperRailway$Train", name := "hasStop", desc := "(I)Z" } : Jvm.MethodName)) ∈ lw_all := lw_g (lw_at lw_m11 93 rfl) rfl
theorem q2597 : (Jvm.Cond.methodLink "SleeperRailway$Railway" (229 : Nat) ({ cls := "SleeperRailway$Train", name := "isFull", desc := "(I)Z" } : Jvm.MethodName)) ∈ lw_all := lw_g (lw_at lw_m11 97 rfl) rfl
theorem q2598 : (Jvm.Cond.methodLink "SleeperRailway$Railway" (232 : Nat) ({ cls := "SleeperRailway$Railway", name := "takeLegs", desc := "(LSleeperRailway$Train;III)V" } : Jvm.MethodName)) ∈ lw_all := lw_g (lw_at lw_m11 98 rfl) rfl
theorem q2599 : (Jvm.Cond.static ({ cls := "SleeperRailway$Railway", name := "takeLegs", desc := "(LSleeperRailway$Train;III)V" } : Jvm.MethodName)) ∈ lw_all := lw_g (lw_at lw_m11 99 rfl) rfl
theorem q2600 : (Jvm.Cond.code ({ cls := "SleeperRailway$Railway", name := "takeLegs", desc := "(LSleeperRailway$Train;III)V" } : Jvm.MethodName) prog_13_method_15_code (5 : Nat) (Option.none : Option Jvm.ClassFile.FieldType)) ∈ lw_all := lw_g (lw_at lw_m11 100 rfl) rfl
theorem q2602 : (Jvm.Cond.methodLink "SleeperRailway$Railway" (236 : Nat) ({ cls := "SleeperRailway$Booking", name := "<init>", desc := "(IIII)V" } : Jvm.MethodName)) ∈ lw_all := lw_g (lw_at lw_m11 102 rfl) rfl
theorem q2607 : (Jvm.Cond.fieldLinkNest "SleeperRailway$Railway" (91 : Nat) "SleeperRailway$Booking" "id" "I" "SleeperRailway") ∈ lw_tbl := lw_at lw_m11 107 rfl
theorem q2610 : (Jvm.Cond.fieldLinkNest "SleeperRailway$Railway" (239 : Nat) "SleeperRailway$Booking" "train" "I" "SleeperRailway") ∈ lw_tbl := lw_at lw_m11 110 rfl
theorem q2614 : (Jvm.Cond.fieldLinkNest "SleeperRailway$Railway" (241 : Nat) "SleeperRailway$Booking" "first" "I" "SleeperRailway") ∈ lw_tbl := lw_at lw_m11 114 rfl
theorem q2617 : (Jvm.Cond.fieldLinkNest "SleeperRailway$Railway" (244 : Nat) "SleeperRailway$Booking" "last" "I" "SleeperRailway") ∈ lw_tbl := lw_at lw_m11 117 rfl
theorem q2628 : (Jvm.Cond.instanceMethod ({ cls := "SleeperRailway$Railway", name := "cancelBooking", desc := "(I)I" } : Jvm.MethodName)) ∈ lw_all := lw_g (lw_at lw_m11 128 rfl) rfl
theorem q2629 : (Jvm.Cond.selects "SleeperRailway$Railway" ({ cls := "SleeperRailway$Railway", name := "cancelBooking", desc := "(I)I" } : Jvm.MethodName) ({ cls := "SleeperRailway$Railway", name := "cancelBooking", desc := "(I)I" } : Jvm.MethodName)) ∈ lw_all := lw_g (lw_at lw_m11 129 rfl) rfl
theorem q2630 : (Jvm.Cond.code ({ cls := "SleeperRailway$Railway", name := "cancelBooking", desc := "(I)I" } : Jvm.MethodName) prog_13_method_16_code (3 : Nat) (Option.some Jvm.ClassFile.FieldType.int)) ∈ lw_all := lw_g (lw_at lw_m11 130 rfl) rfl
theorem q3101 : (Jvm.Cond.instanceMethod ({ cls := "SleeperRailway$Railway", name := "suitcaseAt", desc := "(I)I" } : Jvm.MethodName)) ∈ lw_all := lw_g (lw_at lw_m13 121 rfl) rfl
theorem q3102 : (Jvm.Cond.selects "SleeperRailway$Railway" ({ cls := "SleeperRailway$Railway", name := "suitcaseAt", desc := "(I)I" } : Jvm.MethodName) ({ cls := "SleeperRailway$Railway", name := "suitcaseAt", desc := "(I)I" } : Jvm.MethodName)) ∈ lw_all := lw_g (lw_at lw_m13 122 rfl) rfl
theorem q3103 : (Jvm.Cond.code ({ cls := "SleeperRailway$Railway", name := "suitcaseAt", desc := "(I)I" } : Jvm.MethodName) prog_13_method_19_code (6 : Nat) (Option.some Jvm.ClassFile.FieldType.int)) ∈ lw_all := lw_g (lw_at lw_m13 123 rfl) rfl
theorem q3104 : (Jvm.Cond.classLink "SleeperRailway$Railway" (265 : Nat) "java/util/TreeSet") ∈ lw_all := lw_g (lw_at lw_m13 124 rfl) rfl
theorem q3105 : (Jvm.Cond.methodLink "SleeperRailway$Railway" (267 : Nat) ({ cls := "java/util/TreeSet", name := "<init>", desc := "()V" } : Jvm.MethodName)) ∈ lw_all := lw_g (lw_at lw_m13 125 rfl) rfl
theorem q3106 : (Jvm.Cond.methodLink "SleeperRailway$Railway" (268 : Nat) ({ cls := "java/util/TreeSet", name := "add", desc := "(Ljava/lang/Object;)Z" } : Jvm.MethodName)) ∈ lw_all := lw_g (lw_at lw_m13 126 rfl) rfl
theorem q3107 : (Jvm.Cond.methodLink "SleeperRailway$Railway" (269 : Nat) ({ cls := "java/util/TreeSet", name := "iterator", desc := "()Ljava/util/Iterator;" } : Jvm.MethodName)) ∈ lw_all := lw_g (lw_at lw_m13 127 rfl) rfl
theorem q3179 : (Jvm.Cond.selects "SleeperRailway$Railway" ({ cls := "java/lang/Object", name := "equals", desc := "(Ljava/lang/Object;)Z" } : Jvm.MethodName) ({ cls := "java/lang/Object", name := "equals", desc := "(Ljava/lang/Object;)Z" } : Jvm.MethodName)) ∈ lw_all := lw_g (lw_at lw_m13 199 rfl) rfl
theorem q3489 : (Jvm.Cond.selects "SleeperRailway$Railway" ({ cls := "java/lang/Object", name := "toString", desc := "()Ljava/lang/String;" } : Jvm.MethodName) ({ cls := "java/lang/Object", name := "toString", desc := "()Ljava/lang/String;" } : Jvm.MethodName)) ∈ lw_all := lw_g (lw_at lw_m15 29 rfl) rfl
theorem q4241 : (Jvm.Cond.castable "SleeperRailway$Railway" "java/lang/Object") ∈ lw_tbl := lw_at lw_m18 61 rfl
theorem in_X2 : ∀ w ∈ wsX20, w ∈ lw_all := lw_in wsX20 [340, 342, 344, 346, 348, 350, 352, 354] (by decide +kernel) (by decide +kernel)
/-! SleeperRailway$Timetable -/
set_option maxRecDepth 100000
def RX3 : String := "SleeperRailway$Timetable"
def TX3 : u_T := fun k => match k with
  | _ => ("SleeperRailway$Timetable", "trains", "Ljava/util/List;", true)
def tyX3 : Nat → FieldType := fun k => match k with
  | _ => .object "java/util/List"
abbrev wsX30 : List Cond := u_ws RX3 TX3 1
theorem nmX3 : ∀ a, a < 1 → ∀ b, b < 1 → a ≠ b → (TX3 a).2.1 ≠ (TX3 b).2.1 := by decide +kernel
theorem tyX3_ok : ∀ k, k < 1 → parseFieldDescriptor (TX3 k).2.2.1 = some (tyX3 k) := by decide +kernel
abbrev cX3_init : ByteArray := prog_16_method_1_code
def yX3_init : MethodName := ⟨RX3, "<init>", "()V"⟩
def dkwX3_init_0 : List UInt8 := [42, 183, 0, 3, 42, 187, 0, 9, 89, 183, 0, 11, 181, 0, 12, 177]
abbrev dktX3_init_0 : List UInt8 := dkwX3_init_0 ++ []
theorem dksX3_init_0 : cX3_init.data.toList.drop 0 = dktX3_init_0 := by decide +kernel
theorem dX3_init_0 : decode cX3_init 0 = .ok (.aload_n 0, 1) := dk_42 (dk_at dksX3_init_0 0 rfl rfl)
theorem dX3_init_1 : decode cX3_init 1 = .ok (.invokespecial 3, 3) := dk_183 0 3 (dk_at dksX3_init_0 1 rfl rfl)
theorem dX3_init_4 : decode cX3_init 4 = .ok (.aload_n 0, 1) := dk_42 (dk_at dksX3_init_0 4 rfl rfl)
theorem dX3_init_5 : decode cX3_init 5 = .ok (.new 9, 3) := dk_187 0 9 (dk_at dksX3_init_0 5 rfl rfl)
theorem dX3_init_8 : decode cX3_init 8 = .ok (.dup, 1) := dk_89 (dk_at dksX3_init_0 8 rfl rfl)
theorem dX3_init_9 : decode cX3_init 9 = .ok (.invokespecial 11, 3) := dk_183 0 11 (dk_at dksX3_init_0 9 rfl rfl)
theorem dX3_init_12 : decode cX3_init 12 = .ok (.putfield 12, 3) := dk_181 0 12 (dk_at dksX3_init_0 12 rfl rfl)
theorem dX3_init_15 : decode cX3_init 15 = .ok (.return_, 1) := dk_177 (dk_at dksX3_init_0 15 rfl rfl)
abbrev cX3_count : ByteArray := prog_16_method_3_code
def yX3_count : MethodName := ⟨RX3, "count", "()I"⟩
def dkwX3_count_0 : List UInt8 := [42, 180, 0, 12, 185, 0, 19, 1, 0, 172]
abbrev dktX3_count_0 : List UInt8 := dkwX3_count_0 ++ []
theorem dksX3_count_0 : cX3_count.data.toList.drop 0 = dktX3_count_0 := by decide +kernel
theorem dX3_count_0 : decode cX3_count 0 = .ok (.aload_n 0, 1) := dk_42 (dk_at dksX3_count_0 0 rfl rfl)
theorem dX3_count_1 : decode cX3_count 1 = .ok (.getfield 12, 3) := dk_180 0 12 (dk_at dksX3_count_0 1 rfl rfl)
theorem dX3_count_4 : decode cX3_count 4 = .ok (.invokeinterface 19 1, 5) := by decide +kernel
theorem dX3_count_9 : decode cX3_count 9 = .ok (.ireturn, 1) := dk_172 (dk_at dksX3_count_0 9 rfl rfl)
abbrev cX3_suitcaseLegs : ByteArray := prog_16_method_13_code
def yX3_suitcaseLegs : MethodName := ⟨RX3, "suitcaseLegs", "()I"⟩
def dkwX3_suitcaseLegs_2 : List UInt8 := [45, 182, 0, 85, 46, 96, 60, 167, 255, 210, 27, 172]
abbrev dktX3_suitcaseLegs_2 : List UInt8 := dkwX3_suitcaseLegs_2 ++ []
def dkwX3_suitcaseLegs_1 : List UInt8 := [192, 0, 47, 78, 27, 42, 180, 0, 12, 45, 182, 0, 82, 185, 0, 25, 2, 0, 192, 0, 29, 180, 0, 105]
abbrev dktX3_suitcaseLegs_1 : List UInt8 := dkwX3_suitcaseLegs_1 ++ dktX3_suitcaseLegs_2
def dkwX3_suitcaseLegs_0 : List UInt8 := [3, 60, 42, 182, 0, 64, 77, 44, 185, 0, 68, 1, 0, 153, 0, 43, 44, 185, 0, 74, 1, 0]
abbrev dktX3_suitcaseLegs_0 : List UInt8 := dkwX3_suitcaseLegs_0 ++ dktX3_suitcaseLegs_1
theorem dksX3_suitcaseLegs_0 : cX3_suitcaseLegs.data.toList.drop 0 = dktX3_suitcaseLegs_0 := by decide +kernel
theorem dksX3_suitcaseLegs_1 : cX3_suitcaseLegs.data.toList.drop 22 = dktX3_suitcaseLegs_1 := dk_seg dksX3_suitcaseLegs_0 22 rfl rfl
theorem dksX3_suitcaseLegs_2 : cX3_suitcaseLegs.data.toList.drop 46 = dktX3_suitcaseLegs_2 := dk_seg dksX3_suitcaseLegs_1 24 rfl rfl
theorem dX3_suitcaseLegs_0 : decode cX3_suitcaseLegs 0 = .ok (.iconst 0, 1) := dk_3 (dk_at dksX3_suitcaseLegs_0 0 rfl rfl)
theorem dX3_suitcaseLegs_1 : decode cX3_suitcaseLegs 1 = .ok (.istore_n 1, 1) := dk_60 (dk_at dksX3_suitcaseLegs_0 1 rfl rfl)
theorem dX3_suitcaseLegs_2 : decode cX3_suitcaseLegs 2 = .ok (.aload_n 0, 1) := dk_42 (dk_at dksX3_suitcaseLegs_0 2 rfl rfl)
theorem dX3_suitcaseLegs_3 : decode cX3_suitcaseLegs 3 = .ok (.invokevirtual 64, 3) := dk_182 0 64 (dk_at dksX3_suitcaseLegs_0 3 rfl rfl)
theorem dX3_suitcaseLegs_6 : decode cX3_suitcaseLegs 6 = .ok (.astore_n 2, 1) := dk_77 (dk_at dksX3_suitcaseLegs_0 6 rfl rfl)
theorem dX3_suitcaseLegs_7 : decode cX3_suitcaseLegs 7 = .ok (.aload_n 2, 1) := dk_44 (dk_at dksX3_suitcaseLegs_0 7 rfl rfl)
theorem dX3_suitcaseLegs_8 : decode cX3_suitcaseLegs 8 = .ok (.invokeinterface 68 1, 5) := by decide +kernel
theorem dX3_suitcaseLegs_13 : decode cX3_suitcaseLegs 13 = .ok (.ifCond .eq 43, 3) := dk_153 0 43 (dk_at dksX3_suitcaseLegs_0 13 rfl rfl)
theorem dX3_suitcaseLegs_16 : decode cX3_suitcaseLegs 16 = .ok (.aload_n 2, 1) := dk_44 (dk_at dksX3_suitcaseLegs_0 16 rfl rfl)
theorem dX3_suitcaseLegs_17 : decode cX3_suitcaseLegs 17 = .ok (.invokeinterface 74 1, 5) := by decide +kernel
theorem dX3_suitcaseLegs_22 : decode cX3_suitcaseLegs 22 = .ok (.checkcast 47, 3) := dk_192 0 47 (dk_at dksX3_suitcaseLegs_1 0 rfl rfl)
theorem dX3_suitcaseLegs_25 : decode cX3_suitcaseLegs 25 = .ok (.astore_n 3, 1) := dk_78 (dk_at dksX3_suitcaseLegs_1 3 rfl rfl)
theorem dX3_suitcaseLegs_26 : decode cX3_suitcaseLegs 26 = .ok (.iload_n 1, 1) := dk_27 (dk_at dksX3_suitcaseLegs_1 4 rfl rfl)
theorem dX3_suitcaseLegs_27 : decode cX3_suitcaseLegs 27 = .ok (.aload_n 0, 1) := dk_42 (dk_at dksX3_suitcaseLegs_1 5 rfl rfl)
theorem dX3_suitcaseLegs_28 : decode cX3_suitcaseLegs 28 = .ok (.getfield 12, 3) := dk_180 0 12 (dk_at dksX3_suitcaseLegs_1 6 rfl rfl)
theorem dX3_suitcaseLegs_31 : decode cX3_suitcaseLegs 31 = .ok (.aload_n 3, 1) := dk_45 (dk_at dksX3_suitcaseLegs_1 9 rfl rfl)
theorem dX3_suitcaseLegs_32 : decode cX3_suitcaseLegs 32 = .ok (.invokevirtual 82, 3) := dk_182 0 82 (dk_at dksX3_suitcaseLegs_1 10 rfl rfl)
theorem dX3_suitcaseLegs_35 : decode cX3_suitcaseLegs 35 = .ok (.invokeinterface 25 2, 5) := by decide +kernel
theorem dX3_suitcaseLegs_40 : decode cX3_suitcaseLegs 40 = .ok (.checkcast 29, 3) := dk_192 0 29 (dk_at dksX3_suitcaseLegs_1 18 rfl rfl)
theorem dX3_suitcaseLegs_43 : decode cX3_suitcaseLegs 43 = .ok (.getfield 105, 3) := dk_180 0 105 (dk_at dksX3_suitcaseLegs_1 21 rfl rfl)
theorem dX3_suitcaseLegs_46 : decode cX3_suitcaseLegs 46 = .ok (.aload_n 3, 1) := dk_45 (dk_at dksX3_suitcaseLegs_2 0 rfl rfl)
theorem dX3_suitcaseLegs_47 : decode cX3_suitcaseLegs 47 = .ok (.invokevirtual 85, 3) := dk_182 0 85 (dk_at dksX3_suitcaseLegs_2 1 rfl rfl)
theorem dX3_suitcaseLegs_50 : decode cX3_suitcaseLegs 50 = .ok (.iaload, 1) := dk_46 (dk_at dksX3_suitcaseLegs_2 4 rfl rfl)
theorem dX3_suitcaseLegs_51 : decode cX3_suitcaseLegs 51 = .ok (.iadd, 1) := dk_96 (dk_at dksX3_suitcaseLegs_2 5 rfl rfl)
theorem dX3_suitcaseLegs_52 : decode cX3_suitcaseLegs 52 = .ok (.istore_n 1, 1) := dk_60 (dk_at dksX3_suitcaseLegs_2 6 rfl rfl)
theorem dX3_suitcaseLegs_53 : decode cX3_suitcaseLegs 53 = .ok (.goto (-46), 3) := dk_167 255 210 (dk_at dksX3_suitcaseLegs_2 7 rfl rfl)
theorem dX3_suitcaseLegs_56 : decode cX3_suitcaseLegs 56 = .ok (.iload_n 1, 1) := dk_27 (dk_at dksX3_suitcaseLegs_2 10 rfl rfl)
theorem dX3_suitcaseLegs_57 : decode cX3_suitcaseLegs 57 = .ok (.ireturn, 1) := dk_172 (dk_at dksX3_suitcaseLegs_2 11 rfl rfl)
abbrev cX3_iterator : ByteArray := prog_16_method_7_code
def yX3_iterator : MethodName := ⟨RX3, "iterator", "()Ljava/util/Iterator;"⟩
def dkwX3_iterator_0 : List UInt8 := [187, 0, 59, 89, 42, 183, 0, 61, 176]
abbrev dktX3_iterator_0 : List UInt8 := dkwX3_iterator_0 ++ []
theorem dksX3_iterator_0 : cX3_iterator.data.toList.drop 0 = dktX3_iterator_0 := by decide +kernel
theorem dX3_iterator_0 : decode cX3_iterator 0 = .ok (.new 59, 3) := dk_187 0 59 (dk_at dksX3_iterator_0 0 rfl rfl)
theorem dX3_iterator_3 : decode cX3_iterator 3 = .ok (.dup, 1) := dk_89 (dk_at dksX3_iterator_0 3 rfl rfl)
theorem dX3_iterator_4 : decode cX3_iterator 4 = .ok (.aload_n 0, 1) := dk_42 (dk_at dksX3_iterator_0 4 rfl rfl)
theorem dX3_iterator_5 : decode cX3_iterator 5 = .ok (.invokespecial 61, 3) := dk_183 0 61 (dk_at dksX3_iterator_0 5 rfl rfl)
theorem dX3_iterator_8 : decode cX3_iterator 8 = .ok (.areturn, 1) := dk_176 (dk_at dksX3_iterator_0 8 rfl rfl)
abbrev cX3_leg : ByteArray := prog_16_method_6_code
def yX3_leg : MethodName := ⟨RX3, "leg", "(II)LSleeperRailway$Leg;"⟩
def dkwX3_leg_2 : List UInt8 := [45, 28, 4, 96, 182, 0, 53, 183, 0, 56, 176]
abbrev dktX3_leg_2 : List UInt8 := dkwX3_leg_2 ++ []
def dkwX3_leg_1 : List UInt8 := [180, 0, 43, 28, 4, 96, 46, 54, 5, 187, 0, 47, 89, 27, 28, 21, 4, 21, 5, 45, 28, 182, 0, 49]
abbrev dktX3_leg_1 : List UInt8 := dkwX3_leg_1 ++ dktX3_leg_2
def dkwX3_leg_0 : List UInt8 := [42, 180, 0, 12, 27, 185, 0, 25, 2, 0, 192, 0, 29, 78, 45, 180, 0, 43, 28, 46, 54, 4, 45]
abbrev dktX3_leg_0 : List UInt8 := dkwX3_leg_0 ++ dktX3_leg_1
theorem dksX3_leg_0 : cX3_leg.data.toList.drop 0 = dktX3_leg_0 := by decide +kernel
theorem dksX3_leg_1 : cX3_leg.data.toList.drop 23 = dktX3_leg_1 := dk_seg dksX3_leg_0 23 rfl rfl
theorem dksX3_leg_2 : cX3_leg.data.toList.drop 47 = dktX3_leg_2 := dk_seg dksX3_leg_1 24 rfl rfl
theorem dX3_leg_0 : decode cX3_leg 0 = .ok (.aload_n 0, 1) := dk_42 (dk_at dksX3_leg_0 0 rfl rfl)
theorem dX3_leg_1 : decode cX3_leg 1 = .ok (.getfield 12, 3) := dk_180 0 12 (dk_at dksX3_leg_0 1 rfl rfl)
theorem dX3_leg_4 : decode cX3_leg 4 = .ok (.iload_n 1, 1) := dk_27 (dk_at dksX3_leg_0 4 rfl rfl)
theorem dX3_leg_5 : decode cX3_leg 5 = .ok (.invokeinterface 25 2, 5) := by decide +kernel
theorem dX3_leg_10 : decode cX3_leg 10 = .ok (.checkcast 29, 3) := dk_192 0 29 (dk_at dksX3_leg_0 10 rfl rfl)
theorem dX3_leg_13 : decode cX3_leg 13 = .ok (.astore_n 3, 1) := dk_78 (dk_at dksX3_leg_0 13 rfl rfl)
theorem dX3_leg_14 : decode cX3_leg 14 = .ok (.aload_n 3, 1) := dk_45 (dk_at dksX3_leg_0 14 rfl rfl)
theorem dX3_leg_15 : decode cX3_leg 15 = .ok (.getfield 43, 3) := dk_180 0 43 (dk_at dksX3_leg_0 15 rfl rfl)
theorem dX3_leg_18 : decode cX3_leg 18 = .ok (.iload_n 2, 1) := dk_28 (dk_at dksX3_leg_0 18 rfl rfl)
theorem dX3_leg_19 : decode cX3_leg 19 = .ok (.iaload, 1) := dk_46 (dk_at dksX3_leg_0 19 rfl rfl)
theorem dX3_leg_20 : decode cX3_leg 20 = .ok (.istore 4, 2) := dk_54 4 (dk_at dksX3_leg_0 20 rfl rfl)
theorem dX3_leg_22 : decode cX3_leg 22 = .ok (.aload_n 3, 1) := dk_45 (dk_at dksX3_leg_0 22 rfl rfl)
theorem dX3_leg_23 : decode cX3_leg 23 = .ok (.getfield 43, 3) := dk_180 0 43 (dk_at dksX3_leg_1 0 rfl rfl)
theorem dX3_leg_26 : decode cX3_leg 26 = .ok (.iload_n 2, 1) := dk_28 (dk_at dksX3_leg_1 3 rfl rfl)
theorem dX3_leg_27 : decode cX3_leg 27 = .ok (.iconst 1, 1) := dk_4 (dk_at dksX3_leg_1 4 rfl rfl)
theorem dX3_leg_28 : decode cX3_leg 28 = .ok (.iadd, 1) := dk_96 (dk_at dksX3_leg_1 5 rfl rfl)
theorem dX3_leg_29 : decode cX3_leg 29 = .ok (.iaload, 1) := dk_46 (dk_at dksX3_leg_1 6 rfl rfl)
theorem dX3_leg_30 : decode cX3_leg 30 = .ok (.istore 5, 2) := dk_54 5 (dk_at dksX3_leg_1 7 rfl rfl)
theorem dX3_leg_32 : decode cX3_leg 32 = .ok (.new 47, 3) := dk_187 0 47 (dk_at dksX3_leg_1 9 rfl rfl)
theorem dX3_leg_35 : decode cX3_leg 35 = .ok (.dup, 1) := dk_89 (dk_at dksX3_leg_1 12 rfl rfl)
theorem dX3_leg_36 : decode cX3_leg 36 = .ok (.iload_n 1, 1) := dk_27 (dk_at dksX3_leg_1 13 rfl rfl)
theorem dX3_leg_37 : decode cX3_leg 37 = .ok (.iload_n 2, 1) := dk_28 (dk_at dksX3_leg_1 14 rfl rfl)
theorem dX3_leg_38 : decode cX3_leg 38 = .ok (.iload 4, 2) := dk_21 4 (dk_at dksX3_leg_1 15 rfl rfl)
theorem dX3_leg_40 : decode cX3_leg 40 = .ok (.iload 5, 2) := dk_21 5 (dk_at dksX3_leg_1 17 rfl rfl)
theorem dX3_leg_42 : decode cX3_leg 42 = .ok (.aload_n 3, 1) := dk_45 (dk_at dksX3_leg_1 19 rfl rfl)
theorem dX3_leg_43 : decode cX3_leg 43 = .ok (.iload_n 2, 1) := dk_28 (dk_at dksX3_leg_1 20 rfl rfl)
theorem dX3_leg_44 : decode cX3_leg 44 = .ok (.invokevirtual 49, 3) := dk_182 0 49 (dk_at dksX3_leg_1 21 rfl rfl)
theorem dX3_leg_47 : decode cX3_leg 47 = .ok (.aload_n 3, 1) := dk_45 (dk_at dksX3_leg_2 0 rfl rfl)
theorem dX3_leg_48 : decode cX3_leg 48 = .ok (.iload_n 2, 1) := dk_28 (dk_at dksX3_leg_2 1 rfl rfl)
theorem dX3_leg_49 : decode cX3_leg 49 = .ok (.iconst 1, 1) := dk_4 (dk_at dksX3_leg_2 2 rfl rfl)
theorem dX3_leg_50 : decode cX3_leg 50 = .ok (.iadd, 1) := dk_96 (dk_at dksX3_leg_2 3 rfl rfl)
theorem dX3_leg_51 : decode cX3_leg 51 = .ok (.invokevirtual 53, 3) := dk_182 0 53 (dk_at dksX3_leg_2 4 rfl rfl)
theorem dX3_leg_54 : decode cX3_leg 54 = .ok (.invokespecial 56, 3) := dk_183 0 56 (dk_at dksX3_leg_2 7 rfl rfl)
theorem dX3_leg_57 : decode cX3_leg 57 = .ok (.areturn, 1) := dk_176 (dk_at dksX3_leg_2 10 rfl rfl)
abbrev cX3_legs : ByteArray := prog_16_method_8_code
def yX3_legs : MethodName := ⟨RX3, "legs", "()Ljava/util/List;"⟩
def dkwX3_legs_1 : List UInt8 := [185, 0, 74, 1, 0, 192, 0, 47, 78, 43, 45, 185, 0, 35, 2, 0, 87, 167, 255, 229, 43, 176]
abbrev dktX3_legs_1 : List UInt8 := dkwX3_legs_1 ++ []
def dkwX3_legs_0 : List UInt8 := [187, 0, 9, 89, 183, 0, 11, 76, 42, 182, 0, 64, 77, 44, 185, 0, 68, 1, 0, 153, 0, 24, 44]
abbrev dktX3_legs_0 : List UInt8 := dkwX3_legs_0 ++ dktX3_legs_1
theorem dksX3_legs_0 : cX3_legs.data.toList.drop 0 = dktX3_legs_0 := by decide +kernel
theorem dksX3_legs_1 : cX3_legs.data.toList.drop 23 = dktX3_legs_1 := dk_seg dksX3_legs_0 23 rfl rfl
theorem dX3_legs_0 : decode cX3_legs 0 = .ok (.new 9, 3) := dk_187 0 9 (dk_at dksX3_legs_0 0 rfl rfl)
theorem dX3_legs_3 : decode cX3_legs 3 = .ok (.dup, 1) := dk_89 (dk_at dksX3_legs_0 3 rfl rfl)
theorem dX3_legs_4 : decode cX3_legs 4 = .ok (.invokespecial 11, 3) := dk_183 0 11 (dk_at dksX3_legs_0 4 rfl rfl)
theorem dX3_legs_7 : decode cX3_legs 7 = .ok (.astore_n 1, 1) := dk_76 (dk_at dksX3_legs_0 7 rfl rfl)
theorem dX3_legs_8 : decode cX3_legs 8 = .ok (.aload_n 0, 1) := dk_42 (dk_at dksX3_legs_0 8 rfl rfl)
theorem dX3_legs_9 : decode cX3_legs 9 = .ok (.invokevirtual 64, 3) := dk_182 0 64 (dk_at dksX3_legs_0 9 rfl rfl)
theorem dX3_legs_12 : decode cX3_legs 12 = .ok (.astore_n 2, 1) := dk_77 (dk_at dksX3_legs_0 12 rfl rfl)
theorem dX3_legs_13 : decode cX3_legs 13 = .ok (.aload_n 2, 1) := dk_44 (dk_at dksX3_legs_0 13 rfl rfl)
theorem dX3_legs_14 : decode cX3_legs 14 = .ok (.invokeinterface 68 1, 5) := by decide +kernel
theorem dX3_legs_19 : decode cX3_legs 19 = .ok (.ifCond .eq 24, 3) := dk_153 0 24 (dk_at dksX3_legs_0 19 rfl rfl)
theorem dX3_legs_22 : decode cX3_legs 22 = .ok (.aload_n 2, 1) := dk_44 (dk_at dksX3_legs_0 22 rfl rfl)
theorem dX3_legs_23 : decode cX3_legs 23 = .ok (.invokeinterface 74 1, 5) := by decide +kernel
theorem dX3_legs_28 : decode cX3_legs 28 = .ok (.checkcast 47, 3) := dk_192 0 47 (dk_at dksX3_legs_1 5 rfl rfl)
theorem dX3_legs_31 : decode cX3_legs 31 = .ok (.astore_n 3, 1) := dk_78 (dk_at dksX3_legs_1 8 rfl rfl)
theorem dX3_legs_32 : decode cX3_legs 32 = .ok (.aload_n 1, 1) := dk_43 (dk_at dksX3_legs_1 9 rfl rfl)
theorem dX3_legs_33 : decode cX3_legs 33 = .ok (.aload_n 3, 1) := dk_45 (dk_at dksX3_legs_1 10 rfl rfl)
theorem dX3_legs_34 : decode cX3_legs 34 = .ok (.invokeinterface 35 2, 5) := by decide +kernel
theorem dX3_legs_39 : decode cX3_legs 39 = .ok (.pop, 1) := dk_87 (dk_at dksX3_legs_1 16 rfl rfl)
theorem dX3_legs_40 : decode cX3_legs 40 = .ok (.goto (-27), 3) := dk_167 255 229 (dk_at dksX3_legs_1 17 rfl rfl)
theorem dX3_legs_43 : decode cX3_legs 43 = .ok (.aload_n 1, 1) := dk_43 (dk_at dksX3_legs_1 20 rfl rfl)
theorem dX3_legs_44 : decode cX3_legs 44 = .ok (.areturn, 1) := dk_176 (dk_at dksX3_legs_1 21 rfl rfl)
abbrev cX3_get : ByteArray := prog_16_method_5_code
def yX3_get : MethodName := ⟨RX3, "get", "(I)LSleeperRailway$Train;"⟩
def dkwX3_get_0 : List UInt8 := [42, 180, 0, 12, 27, 185, 0, 25, 2, 0, 192, 0, 29, 176]
abbrev dktX3_get_0 : List UInt8 := dkwX3_get_0 ++ []
theorem dksX3_get_0 : cX3_get.data.toList.drop 0 = dktX3_get_0 := by decide +kernel
theorem dX3_get_0 : decode cX3_get 0 = .ok (.aload_n 0, 1) := dk_42 (dk_at dksX3_get_0 0 rfl rfl)
theorem dX3_get_1 : decode cX3_get 1 = .ok (.getfield 12, 3) := dk_180 0 12 (dk_at dksX3_get_0 1 rfl rfl)
theorem dX3_get_4 : decode cX3_get 4 = .ok (.iload_n 1, 1) := dk_27 (dk_at dksX3_get_0 4 rfl rfl)
theorem dX3_get_5 : decode cX3_get 5 = .ok (.invokeinterface 25 2, 5) := by decide +kernel
theorem dX3_get_10 : decode cX3_get 10 = .ok (.checkcast 29, 3) := dk_192 0 29 (dk_at dksX3_get_0 10 rfl rfl)
theorem dX3_get_13 : decode cX3_get 13 = .ok (.areturn, 1) := dk_176 (dk_at dksX3_get_0 13 rfl rfl)
abbrev cX3_free : ByteArray := prog_16_method_9_code
def yX3_free : MethodName := ⟨RX3, "free", "(Ljava/util/List;)Ljava/util/List;"⟩
def dkwX3_free_5 : List UInt8 := [21, 6, 25, 5, 185, 0, 96, 3, 0, 167, 255, 155, 44, 176]
abbrev dktX3_free_5 : List UInt8 := dkwX3_free_5 ++ []
def dkwX3_free_4 : List UInt8 := [185, 0, 25, 2, 0, 192, 0, 47, 25, 5, 182, 0, 92, 158, 0, 9, 132, 6, 255, 167, 255, 226, 44]
abbrev dktX3_free_4 : List UInt8 := dkwX3_free_4 ++ dktX3_free_5
def dkwX3_free_3 : List UInt8 := [154, 0, 54, 44, 185, 0, 19, 1, 0, 54, 6, 21, 6, 158, 0, 31, 45, 44, 21, 6, 4, 100]
abbrev dktX3_free_3 : List UInt8 := dkwX3_free_3 ++ dktX3_free_4
def dkwX3_free_2 : List UInt8 := [180, 0, 12, 25, 5, 182, 0, 82, 185, 0, 25, 2, 0, 192, 0, 29, 25, 5, 182, 0, 85, 182, 0, 88]
abbrev dktX3_free_2 : List UInt8 := dkwX3_free_2 ++ dktX3_free_3
def dkwX3_free_1 : List UInt8 := [25, 4, 185, 0, 68, 1, 0, 153, 0, 97, 25, 4, 185, 0, 74, 1, 0, 192, 0, 47, 58, 5, 42]
abbrev dktX3_free_1 : List UInt8 := dkwX3_free_1 ++ dktX3_free_2
def dkwX3_free_0 : List UInt8 := [187, 0, 9, 89, 183, 0, 11, 77, 187, 0, 78, 89, 183, 0, 80, 78, 43, 185, 0, 81, 1, 0, 58, 4]
abbrev dktX3_free_0 : List UInt8 := dkwX3_free_0 ++ dktX3_free_1
theorem dksX3_free_0 : cX3_free.data.toList.drop 0 = dktX3_free_0 := by decide +kernel
theorem dksX3_free_1 : cX3_free.data.toList.drop 24 = dktX3_free_1 := dk_seg dksX3_free_0 24 rfl rfl
theorem dksX3_free_2 : cX3_free.data.toList.drop 47 = dktX3_free_2 := dk_seg dksX3_free_1 23 rfl rfl
theorem dksX3_free_3 : cX3_free.data.toList.drop 71 = dktX3_free_3 := dk_seg dksX3_free_2 24 rfl rfl
theorem dksX3_free_4 : cX3_free.data.toList.drop 93 = dktX3_free_4 := dk_seg dksX3_free_3 22 rfl rfl
theorem dksX3_free_5 : cX3_free.data.toList.drop 116 = dktX3_free_5 := dk_seg dksX3_free_4 23 rfl rfl
theorem dX3_free_0 : decode cX3_free 0 = .ok (.new 9, 3) := dk_187 0 9 (dk_at dksX3_free_0 0 rfl rfl)
theorem dX3_free_3 : decode cX3_free 3 = .ok (.dup, 1) := dk_89 (dk_at dksX3_free_0 3 rfl rfl)
theorem dX3_free_4 : decode cX3_free 4 = .ok (.invokespecial 11, 3) := dk_183 0 11 (dk_at dksX3_free_0 4 rfl rfl)
theorem dX3_free_7 : decode cX3_free 7 = .ok (.astore_n 2, 1) := dk_77 (dk_at dksX3_free_0 7 rfl rfl)
theorem dX3_free_8 : decode cX3_free 8 = .ok (.new 78, 3) := dk_187 0 78 (dk_at dksX3_free_0 8 rfl rfl)
theorem dX3_free_11 : decode cX3_free 11 = .ok (.dup, 1) := dk_89 (dk_at dksX3_free_0 11 rfl rfl)
theorem dX3_free_12 : decode cX3_free 12 = .ok (.invokespecial 80, 3) := dk_183 0 80 (dk_at dksX3_free_0 12 rfl rfl)
theorem dX3_free_15 : decode cX3_free 15 = .ok (.astore_n 3, 1) := dk_78 (dk_at dksX3_free_0 15 rfl rfl)
theorem dX3_free_16 : decode cX3_free 16 = .ok (.aload_n 1, 1) := dk_43 (dk_at dksX3_free_0 16 rfl rfl)
theorem dX3_free_17 : decode cX3_free 17 = .ok (.invokeinterface 81 1, 5) := by decide +kernel
theorem dX3_free_22 : decode cX3_free 22 = .ok (.astore 4, 2) := dk_58 4 (dk_at dksX3_free_0 22 rfl rfl)
theorem dX3_free_24 : decode cX3_free 24 = .ok (.aload 4, 2) := dk_25 4 (dk_at dksX3_free_1 0 rfl rfl)
theorem dX3_free_26 : decode cX3_free 26 = .ok (.invokeinterface 68 1, 5) := by decide +kernel
theorem dX3_free_31 : decode cX3_free 31 = .ok (.ifCond .eq 97, 3) := dk_153 0 97 (dk_at dksX3_free_1 7 rfl rfl)
theorem dX3_free_34 : decode cX3_free 34 = .ok (.aload 4, 2) := dk_25 4 (dk_at dksX3_free_1 10 rfl rfl)
theorem dX3_free_36 : decode cX3_free 36 = .ok (.invokeinterface 74 1, 5) := by decide +kernel
theorem dX3_free_41 : decode cX3_free 41 = .ok (.checkcast 47, 3) := dk_192 0 47 (dk_at dksX3_free_1 17 rfl rfl)
theorem dX3_free_44 : decode cX3_free 44 = .ok (.astore 5, 2) := dk_58 5 (dk_at dksX3_free_1 20 rfl rfl)
theorem dX3_free_46 : decode cX3_free 46 = .ok (.aload_n 0, 1) := dk_42 (dk_at dksX3_free_1 22 rfl rfl)
theorem dX3_free_47 : decode cX3_free 47 = .ok (.getfield 12, 3) := dk_180 0 12 (dk_at dksX3_free_2 0 rfl rfl)
theorem dX3_free_50 : decode cX3_free 50 = .ok (.aload 5, 2) := dk_25 5 (dk_at dksX3_free_2 3 rfl rfl)
theorem dX3_free_52 : decode cX3_free 52 = .ok (.invokevirtual 82, 3) := dk_182 0 82 (dk_at dksX3_free_2 5 rfl rfl)
theorem dX3_free_55 : decode cX3_free 55 = .ok (.invokeinterface 25 2, 5) := by decide +kernel
theorem dX3_free_60 : decode cX3_free 60 = .ok (.checkcast 29, 3) := dk_192 0 29 (dk_at dksX3_free_2 13 rfl rfl)
theorem dX3_free_63 : decode cX3_free 63 = .ok (.aload 5, 2) := dk_25 5 (dk_at dksX3_free_2 16 rfl rfl)
theorem dX3_free_65 : decode cX3_free 65 = .ok (.invokevirtual 85, 3) := dk_182 0 85 (dk_at dksX3_free_2 18 rfl rfl)
theorem dX3_free_68 : decode cX3_free 68 = .ok (.invokevirtual 88, 3) := dk_182 0 88 (dk_at dksX3_free_2 21 rfl rfl)
theorem dX3_free_71 : decode cX3_free 71 = .ok (.ifCond .ne 54, 3) := dk_154 0 54 (dk_at dksX3_free_3 0 rfl rfl)
theorem dX3_free_74 : decode cX3_free 74 = .ok (.aload_n 2, 1) := dk_44 (dk_at dksX3_free_3 3 rfl rfl)
theorem dX3_free_75 : decode cX3_free 75 = .ok (.invokeinterface 19 1, 5) := by decide +kernel
theorem dX3_free_80 : decode cX3_free 80 = .ok (.istore 6, 2) := dk_54 6 (dk_at dksX3_free_3 9 rfl rfl)
theorem dX3_free_82 : decode cX3_free 82 = .ok (.iload 6, 2) := dk_21 6 (dk_at dksX3_free_3 11 rfl rfl)
theorem dX3_free_84 : decode cX3_free 84 = .ok (.ifCond .le 31, 3) := dk_158 0 31 (dk_at dksX3_free_3 13 rfl rfl)
theorem dX3_free_87 : decode cX3_free 87 = .ok (.aload_n 3, 1) := dk_45 (dk_at dksX3_free_3 16 rfl rfl)
theorem dX3_free_88 : decode cX3_free 88 = .ok (.aload_n 2, 1) := dk_44 (dk_at dksX3_free_3 17 rfl rfl)
theorem dX3_free_89 : decode cX3_free 89 = .ok (.iload 6, 2) := dk_21 6 (dk_at dksX3_free_3 18 rfl rfl)
theorem dX3_free_91 : decode cX3_free 91 = .ok (.iconst 1, 1) := dk_4 (dk_at dksX3_free_3 20 rfl rfl)
theorem dX3_free_92 : decode cX3_free 92 = .ok (.isub, 1) := dk_100 (dk_at dksX3_free_3 21 rfl rfl)
theorem dX3_free_93 : decode cX3_free 93 = .ok (.invokeinterface 25 2, 5) := by decide +kernel
theorem dX3_free_98 : decode cX3_free 98 = .ok (.checkcast 47, 3) := dk_192 0 47 (dk_at dksX3_free_4 5 rfl rfl)
theorem dX3_free_101 : decode cX3_free 101 = .ok (.aload 5, 2) := dk_25 5 (dk_at dksX3_free_4 8 rfl rfl)
theorem dX3_free_103 : decode cX3_free 103 = .ok (.invokevirtual 92, 3) := dk_182 0 92 (dk_at dksX3_free_4 10 rfl rfl)
theorem dX3_free_106 : decode cX3_free 106 = .ok (.ifCond .le 9, 3) := dk_158 0 9 (dk_at dksX3_free_4 13 rfl rfl)
theorem dX3_free_109 : decode cX3_free 109 = .ok (.iinc 6 (-1), 3) := dk_132 6 255 (dk_at dksX3_free_4 16 rfl rfl)
theorem dX3_free_112 : decode cX3_free 112 = .ok (.goto (-30), 3) := dk_167 255 226 (dk_at dksX3_free_4 19 rfl rfl)
theorem dX3_free_115 : decode cX3_free 115 = .ok (.aload_n 2, 1) := dk_44 (dk_at dksX3_free_4 22 rfl rfl)
theorem dX3_free_116 : decode cX3_free 116 = .ok (.iload 6, 2) := dk_21 6 (dk_at dksX3_free_5 0 rfl rfl)
theorem dX3_free_118 : decode cX3_free 118 = .ok (.aload 5, 2) := dk_25 5 (dk_at dksX3_free_5 2 rfl rfl)
theorem dX3_free_120 : decode cX3_free 120 = .ok (.invokeinterface 96 3, 5) := by decide +kernel
theorem dX3_free_125 : decode cX3_free 125 = .ok (.goto (-101), 3) := dk_167 255 155 (dk_at dksX3_free_5 9 rfl rfl)
theorem dX3_free_128 : decode cX3_free 128 = .ok (.aload_n 2, 1) := dk_44 (dk_at dksX3_free_5 12 rfl rfl)
theorem dX3_free_129 : decode cX3_free 129 = .ok (.areturn, 1) := dk_176 (dk_at dksX3_free_5 13 rfl rfl)
abbrev cX3_copy : ByteArray := prog_16_method_2_code
def yX3_copy : MethodName := ⟨RX3, "copy", "()LSleeperRailway$Timetable;"⟩
def dkwX3_copy_2 : List UInt8 := [87, 132, 2, 1, 167, 255, 214, 43, 176]
abbrev dktX3_copy_2 : List UInt8 := dkwX3_copy_2 ++ []
def dkwX3_copy_1 : List UInt8 := [180, 0, 12, 42, 180, 0, 12, 28, 185, 0, 25, 2, 0, 192, 0, 29, 182, 0, 31, 185, 0, 35, 2, 0]
abbrev dktX3_copy_1 : List UInt8 := dkwX3_copy_1 ++ dktX3_copy_2
def dkwX3_copy_0 : List UInt8 := [187, 0, 13, 89, 183, 0, 18, 76, 3, 61, 28, 42, 180, 0, 12, 185, 0, 19, 1, 0, 162, 0, 35, 43]
abbrev dktX3_copy_0 : List UInt8 := dkwX3_copy_0 ++ dktX3_copy_1
theorem dksX3_copy_0 : cX3_copy.data.toList.drop 0 = dktX3_copy_0 := by decide +kernel
theorem dksX3_copy_1 : cX3_copy.data.toList.drop 24 = dktX3_copy_1 := dk_seg dksX3_copy_0 24 rfl rfl
theorem dksX3_copy_2 : cX3_copy.data.toList.drop 48 = dktX3_copy_2 := dk_seg dksX3_copy_1 24 rfl rfl
theorem dX3_copy_0 : decode cX3_copy 0 = .ok (.new 13, 3) := dk_187 0 13 (dk_at dksX3_copy_0 0 rfl rfl)
theorem dX3_copy_3 : decode cX3_copy 3 = .ok (.dup, 1) := dk_89 (dk_at dksX3_copy_0 3 rfl rfl)
theorem dX3_copy_4 : decode cX3_copy 4 = .ok (.invokespecial 18, 3) := dk_183 0 18 (dk_at dksX3_copy_0 4 rfl rfl)
theorem dX3_copy_7 : decode cX3_copy 7 = .ok (.astore_n 1, 1) := dk_76 (dk_at dksX3_copy_0 7 rfl rfl)
theorem dX3_copy_8 : decode cX3_copy 8 = .ok (.iconst 0, 1) := dk_3 (dk_at dksX3_copy_0 8 rfl rfl)
theorem dX3_copy_9 : decode cX3_copy 9 = .ok (.istore_n 2, 1) := dk_61 (dk_at dksX3_copy_0 9 rfl rfl)
theorem dX3_copy_10 : decode cX3_copy 10 = .ok (.iload_n 2, 1) := dk_28 (dk_at dksX3_copy_0 10 rfl rfl)
theorem dX3_copy_11 : decode cX3_copy 11 = .ok (.aload_n 0, 1) := dk_42 (dk_at dksX3_copy_0 11 rfl rfl)
theorem dX3_copy_12 : decode cX3_copy 12 = .ok (.getfield 12, 3) := dk_180 0 12 (dk_at dksX3_copy_0 12 rfl rfl)
theorem dX3_copy_15 : decode cX3_copy 15 = .ok (.invokeinterface 19 1, 5) := by decide +kernel
theorem dX3_copy_20 : decode cX3_copy 20 = .ok (.if_icmp .ge 35, 3) := dk_162 0 35 (dk_at dksX3_copy_0 20 rfl rfl)
theorem dX3_copy_23 : decode cX3_copy 23 = .ok (.aload_n 1, 1) := dk_43 (dk_at dksX3_copy_0 23 rfl rfl)
theorem dX3_copy_24 : decode cX3_copy 24 = .ok (.getfield 12, 3) := dk_180 0 12 (dk_at dksX3_copy_1 0 rfl rfl)
theorem dX3_copy_27 : decode cX3_copy 27 = .ok (.aload_n 0, 1) := dk_42 (dk_at dksX3_copy_1 3 rfl rfl)
theorem dX3_copy_28 : decode cX3_copy 28 = .ok (.getfield 12, 3) := dk_180 0 12 (dk_at dksX3_copy_1 4 rfl rfl)
theorem dX3_copy_31 : decode cX3_copy 31 = .ok (.iload_n 2, 1) := dk_28 (dk_at dksX3_copy_1 7 rfl rfl)
theorem dX3_copy_32 : decode cX3_copy 32 = .ok (.invokeinterface 25 2, 5) := by decide +kernel
theorem dX3_copy_37 : decode cX3_copy 37 = .ok (.checkcast 29, 3) := dk_192 0 29 (dk_at dksX3_copy_1 13 rfl rfl)
theorem dX3_copy_40 : decode cX3_copy 40 = .ok (.invokevirtual 31, 3) := dk_182 0 31 (dk_at dksX3_copy_1 16 rfl rfl)
theorem dX3_copy_43 : decode cX3_copy 43 = .ok (.invokeinterface 35 2, 5) := by decide +kernel
theorem dX3_copy_48 : decode cX3_copy 48 = .ok (.pop, 1) := dk_87 (dk_at dksX3_copy_2 0 rfl rfl)
theorem dX3_copy_49 : decode cX3_copy 49 = .ok (.iinc 2 1, 3) := dk_132 2 1 (dk_at dksX3_copy_2 1 rfl rfl)
theorem dX3_copy_52 : decode cX3_copy 52 = .ok (.goto (-42), 3) := dk_167 255 214 (dk_at dksX3_copy_2 4 rfl rfl)
theorem dX3_copy_55 : decode cX3_copy 55 = .ok (.aload_n 1, 1) := dk_43 (dk_at dksX3_copy_2 7 rfl rfl)
theorem dX3_copy_56 : decode cX3_copy 56 = .ok (.areturn, 1) := dk_176 (dk_at dksX3_copy_2 8 rfl rfl)
abbrev cX3_has : ByteArray := prog_16_method_4_code
def yX3_has : MethodName := ⟨RX3, "has", "(I)Z"⟩
def dkwX3_has_0 : List UInt8 := [27, 3, 42, 180, 0, 12, 185, 0, 19, 1, 0, 4, 100, 184, 0, 39, 172]
abbrev dktX3_has_0 : List UInt8 := dkwX3_has_0 ++ []
theorem dksX3_has_0 : cX3_has.data.toList.drop 0 = dktX3_has_0 := by decide +kernel
theorem dX3_has_0 : decode cX3_has 0 = .ok (.iload_n 1, 1) := dk_27 (dk_at dksX3_has_0 0 rfl rfl)
theorem dX3_has_1 : decode cX3_has 1 = .ok (.iconst 0, 1) := dk_3 (dk_at dksX3_has_0 1 rfl rfl)
theorem dX3_has_2 : decode cX3_has 2 = .ok (.aload_n 0, 1) := dk_42 (dk_at dksX3_has_0 2 rfl rfl)
theorem dX3_has_3 : decode cX3_has 3 = .ok (.getfield 12, 3) := dk_180 0 12 (dk_at dksX3_has_0 3 rfl rfl)
theorem dX3_has_6 : decode cX3_has 6 = .ok (.invokeinterface 19 1, 5) := by decide +kernel
theorem dX3_has_11 : decode cX3_has 11 = .ok (.iconst 1, 1) := dk_4 (dk_at dksX3_has_0 11 rfl rfl)
theorem dX3_has_12 : decode cX3_has 12 = .ok (.isub, 1) := dk_100 (dk_at dksX3_has_0 12 rfl rfl)
theorem dX3_has_13 : decode cX3_has 13 = .ok (.invokestatic 39, 3) := dk_184 0 39 (dk_at dksX3_has_0 13 rfl rfl)
theorem dX3_has_16 : decode cX3_has 16 = .ok (.ireturn, 1) := dk_172 (dk_at dksX3_has_0 16 rfl rfl)
abbrev cX3_nextTrain : ByteArray := prog_16_method_14_code
def yX3_nextTrain : MethodName := ⟨RX3, "nextTrain", "(II)I"⟩
def dkwX3_nextTrain_3 : List UInt8 := [182, 0, 112, 54, 4, 167, 255, 193, 29, 172]
abbrev dktX3_nextTrain_3 : List UInt8 := dkwX3_nextTrain_3 ++ []
def dkwX3_nextTrain_2 : List UInt8 := [28, 161, 0, 26, 25, 6, 182, 0, 112, 21, 4, 162, 0, 16, 25, 6, 182, 0, 82, 62, 25, 6]
abbrev dktX3_nextTrain_2 : List UInt8 := dkwX3_nextTrain_2 ++ dktX3_nextTrain_3
def dkwX3_nextTrain_1 : List UInt8 := [185, 0, 74, 1, 0, 192, 0, 47, 58, 6, 25, 6, 182, 0, 109, 27, 160, 0, 35, 25, 6, 182, 0, 112]
abbrev dktX3_nextTrain_1 : List UInt8 := dkwX3_nextTrain_1 ++ dktX3_nextTrain_2
def dkwX3_nextTrain_0 : List UInt8 := [2, 62, 18, 108, 54, 4, 42, 182, 0, 64, 58, 5, 25, 5, 185, 0, 68, 1, 0, 153, 0, 59, 25, 5]
abbrev dktX3_nextTrain_0 : List UInt8 := dkwX3_nextTrain_0 ++ dktX3_nextTrain_1
theorem dksX3_nextTrain_0 : cX3_nextTrain.data.toList.drop 0 = dktX3_nextTrain_0 := by decide +kernel
theorem dksX3_nextTrain_1 : cX3_nextTrain.data.toList.drop 24 = dktX3_nextTrain_1 := dk_seg dksX3_nextTrain_0 24 rfl rfl
theorem dksX3_nextTrain_2 : cX3_nextTrain.data.toList.drop 48 = dktX3_nextTrain_2 := dk_seg dksX3_nextTrain_1 24 rfl rfl
theorem dksX3_nextTrain_3 : cX3_nextTrain.data.toList.drop 70 = dktX3_nextTrain_3 := dk_seg dksX3_nextTrain_2 22 rfl rfl
theorem dX3_nextTrain_0 : decode cX3_nextTrain 0 = .ok (.iconst (-1), 1) := dk_2 (dk_at dksX3_nextTrain_0 0 rfl rfl)
theorem dX3_nextTrain_1 : decode cX3_nextTrain 1 = .ok (.istore_n 3, 1) := dk_62 (dk_at dksX3_nextTrain_0 1 rfl rfl)
theorem dX3_nextTrain_2 : decode cX3_nextTrain 2 = .ok (.ldc 108, 2) := dk_18 108 (dk_at dksX3_nextTrain_0 2 rfl rfl)
theorem dX3_nextTrain_4 : decode cX3_nextTrain 4 = .ok (.istore 4, 2) := dk_54 4 (dk_at dksX3_nextTrain_0 4 rfl rfl)
theorem dX3_nextTrain_6 : decode cX3_nextTrain 6 = .ok (.aload_n 0, 1) := dk_42 (dk_at dksX3_nextTrain_0 6 rfl rfl)
theorem dX3_nextTrain_7 : decode cX3_nextTrain 7 = .ok (.invokevirtual 64, 3) := dk_182 0 64 (dk_at dksX3_nextTrain_0 7 rfl rfl)
theorem dX3_nextTrain_10 : decode cX3_nextTrain 10 = .ok (.astore 5, 2) := dk_58 5 (dk_at dksX3_nextTrain_0 10 rfl rfl)
theorem dX3_nextTrain_12 : decode cX3_nextTrain 12 = .ok (.aload 5, 2) := dk_25 5 (dk_at dksX3_nextTrain_0 12 rfl rfl)
theorem dX3_nextTrain_14 : decode cX3_nextTrain 14 = .ok (.invokeinterface 68 1, 5) := by decide +kernel
theorem dX3_nextTrain_19 : decode cX3_nextTrain 19 = .ok (.ifCond .eq 59, 3) := dk_153 0 59 (dk_at dksX3_nextTrain_0 19 rfl rfl)
theorem dX3_nextTrain_22 : decode cX3_nextTrain 22 = .ok (.aload 5, 2) := dk_25 5 (dk_at dksX3_nextTrain_0 22 rfl rfl)
theorem dX3_nextTrain_24 : decode cX3_nextTrain 24 = .ok (.invokeinterface 74 1, 5) := by decide +kernel
theorem dX3_nextTrain_29 : decode cX3_nextTrain 29 = .ok (.checkcast 47, 3) := dk_192 0 47 (dk_at dksX3_nextTrain_1 5 rfl rfl)
theorem dX3_nextTrain_32 : decode cX3_nextTrain 32 = .ok (.astore 6, 2) := dk_58 6 (dk_at dksX3_nextTrain_1 8 rfl rfl)
theorem dX3_nextTrain_34 : decode cX3_nextTrain 34 = .ok (.aload 6, 2) := dk_25 6 (dk_at dksX3_nextTrain_1 10 rfl rfl)
theorem dX3_nextTrain_36 : decode cX3_nextTrain 36 = .ok (.invokevirtual 109, 3) := dk_182 0 109 (dk_at dksX3_nextTrain_1 12 rfl rfl)
theorem dX3_nextTrain_39 : decode cX3_nextTrain 39 = .ok (.iload_n 1, 1) := dk_27 (dk_at dksX3_nextTrain_1 15 rfl rfl)
theorem dX3_nextTrain_40 : decode cX3_nextTrain 40 = .ok (.if_icmp .ne 35, 3) := dk_160 0 35 (dk_at dksX3_nextTrain_1 16 rfl rfl)
theorem dX3_nextTrain_43 : decode cX3_nextTrain 43 = .ok (.aload 6, 2) := dk_25 6 (dk_at dksX3_nextTrain_1 19 rfl rfl)
theorem dX3_nextTrain_45 : decode cX3_nextTrain 45 = .ok (.invokevirtual 112, 3) := dk_182 0 112 (dk_at dksX3_nextTrain_1 21 rfl rfl)
theorem dX3_nextTrain_48 : decode cX3_nextTrain 48 = .ok (.iload_n 2, 1) := dk_28 (dk_at dksX3_nextTrain_2 0 rfl rfl)
theorem dX3_nextTrain_49 : decode cX3_nextTrain 49 = .ok (.if_icmp .lt 26, 3) := dk_161 0 26 (dk_at dksX3_nextTrain_2 1 rfl rfl)
theorem dX3_nextTrain_52 : decode cX3_nextTrain 52 = .ok (.aload 6, 2) := dk_25 6 (dk_at dksX3_nextTrain_2 4 rfl rfl)
theorem dX3_nextTrain_54 : decode cX3_nextTrain 54 = .ok (.invokevirtual 112, 3) := dk_182 0 112 (dk_at dksX3_nextTrain_2 6 rfl rfl)
theorem dX3_nextTrain_57 : decode cX3_nextTrain 57 = .ok (.iload 4, 2) := dk_21 4 (dk_at dksX3_nextTrain_2 9 rfl rfl)
theorem dX3_nextTrain_59 : decode cX3_nextTrain 59 = .ok (.if_icmp .ge 16, 3) := dk_162 0 16 (dk_at dksX3_nextTrain_2 11 rfl rfl)
theorem dX3_nextTrain_62 : decode cX3_nextTrain 62 = .ok (.aload 6, 2) := dk_25 6 (dk_at dksX3_nextTrain_2 14 rfl rfl)
theorem dX3_nextTrain_64 : decode cX3_nextTrain 64 = .ok (.invokevirtual 82, 3) := dk_182 0 82 (dk_at dksX3_nextTrain_2 16 rfl rfl)
theorem dX3_nextTrain_67 : decode cX3_nextTrain 67 = .ok (.istore_n 3, 1) := dk_62 (dk_at dksX3_nextTrain_2 19 rfl rfl)
theorem dX3_nextTrain_68 : decode cX3_nextTrain 68 = .ok (.aload 6, 2) := dk_25 6 (dk_at dksX3_nextTrain_2 20 rfl rfl)
theorem dX3_nextTrain_70 : decode cX3_nextTrain 70 = .ok (.invokevirtual 112, 3) := dk_182 0 112 (dk_at dksX3_nextTrain_3 0 rfl rfl)
theorem dX3_nextTrain_73 : decode cX3_nextTrain 73 = .ok (.istore 4, 2) := dk_54 4 (dk_at dksX3_nextTrain_3 3 rfl rfl)
theorem dX3_nextTrain_75 : decode cX3_nextTrain 75 = .ok (.goto (-63), 3) := dk_167 255 193 (dk_at dksX3_nextTrain_3 5 rfl rfl)
theorem dX3_nextTrain_78 : decode cX3_nextTrain 78 = .ok (.iload_n 3, 1) := dk_29 (dk_at dksX3_nextTrain_3 8 rfl rfl)
theorem dX3_nextTrain_79 : decode cX3_nextTrain 79 = .ok (.ireturn, 1) := dk_172 (dk_at dksX3_nextTrain_3 9 rfl rfl)
abbrev cX3_legCount : ByteArray := prog_16_method_10_code
def yX3_legCount : MethodName := ⟨RX3, "legCount", "()I"⟩
def dkwX3_legCount_1 : List UInt8 := [185, 0, 74, 1, 0, 192, 0, 29, 78, 27, 45, 182, 0, 99, 96, 60, 167, 255, 230, 27, 172]
abbrev dktX3_legCount_1 : List UInt8 := dkwX3_legCount_1 ++ []
def dkwX3_legCount_0 : List UInt8 := [3, 60, 42, 180, 0, 12, 185, 0, 81, 1, 0, 77, 44, 185, 0, 68, 1, 0, 153, 0, 23, 44]
abbrev dktX3_legCount_0 : List UInt8 := dkwX3_legCount_0 ++ dktX3_legCount_1
theorem dksX3_legCount_0 : cX3_legCount.data.toList.drop 0 = dktX3_legCount_0 := by decide +kernel
theorem dksX3_legCount_1 : cX3_legCount.data.toList.drop 22 = dktX3_legCount_1 := dk_seg dksX3_legCount_0 22 rfl rfl
theorem dX3_legCount_0 : decode cX3_legCount 0 = .ok (.iconst 0, 1) := dk_3 (dk_at dksX3_legCount_0 0 rfl rfl)
theorem dX3_legCount_1 : decode cX3_legCount 1 = .ok (.istore_n 1, 1) := dk_60 (dk_at dksX3_legCount_0 1 rfl rfl)
theorem dX3_legCount_2 : decode cX3_legCount 2 = .ok (.aload_n 0, 1) := dk_42 (dk_at dksX3_legCount_0 2 rfl rfl)
theorem dX3_legCount_3 : decode cX3_legCount 3 = .ok (.getfield 12, 3) := dk_180 0 12 (dk_at dksX3_legCount_0 3 rfl rfl)
theorem dX3_legCount_6 : decode cX3_legCount 6 = .ok (.invokeinterface 81 1, 5) := by decide +kernel
theorem dX3_legCount_11 : decode cX3_legCount 11 = .ok (.astore_n 2, 1) := dk_77 (dk_at dksX3_legCount_0 11 rfl rfl)
theorem dX3_legCount_12 : decode cX3_legCount 12 = .ok (.aload_n 2, 1) := dk_44 (dk_at dksX3_legCount_0 12 rfl rfl)
theorem dX3_legCount_13 : decode cX3_legCount 13 = .ok (.invokeinterface 68 1, 5) := by decide +kernel
theorem dX3_legCount_18 : decode cX3_legCount 18 = .ok (.ifCond .eq 23, 3) := dk_153 0 23 (dk_at dksX3_legCount_0 18 rfl rfl)
theorem dX3_legCount_21 : decode cX3_legCount 21 = .ok (.aload_n 2, 1) := dk_44 (dk_at dksX3_legCount_0 21 rfl rfl)
theorem dX3_legCount_22 : decode cX3_legCount 22 = .ok (.invokeinterface 74 1, 5) := by decide +kernel
theorem dX3_legCount_27 : decode cX3_legCount 27 = .ok (.checkcast 29, 3) := dk_192 0 29 (dk_at dksX3_legCount_1 5 rfl rfl)
theorem dX3_legCount_30 : decode cX3_legCount 30 = .ok (.astore_n 3, 1) := dk_78 (dk_at dksX3_legCount_1 8 rfl rfl)
theorem dX3_legCount_31 : decode cX3_legCount 31 = .ok (.iload_n 1, 1) := dk_27 (dk_at dksX3_legCount_1 9 rfl rfl)
theorem dX3_legCount_32 : decode cX3_legCount 32 = .ok (.aload_n 3, 1) := dk_45 (dk_at dksX3_legCount_1 10 rfl rfl)
theorem dX3_legCount_33 : decode cX3_legCount 33 = .ok (.invokevirtual 99, 3) := dk_182 0 99 (dk_at dksX3_legCount_1 11 rfl rfl)
theorem dX3_legCount_36 : decode cX3_legCount 36 = .ok (.iadd, 1) := dk_96 (dk_at dksX3_legCount_1 14 rfl rfl)
theorem dX3_legCount_37 : decode cX3_legCount 37 = .ok (.istore_n 1, 1) := dk_60 (dk_at dksX3_legCount_1 15 rfl rfl)
theorem dX3_legCount_38 : decode cX3_legCount 38 = .ok (.goto (-26), 3) := dk_167 255 230 (dk_at dksX3_legCount_1 16 rfl rfl)
theorem dX3_legCount_41 : decode cX3_legCount 41 = .ok (.iload_n 1, 1) := dk_27 (dk_at dksX3_legCount_1 19 rfl rfl)
theorem dX3_legCount_42 : decode cX3_legCount 42 = .ok (.ireturn, 1) := dk_172 (dk_at dksX3_legCount_1 20 rfl rfl)
abbrev cX3_loadTotal : ByteArray := prog_16_method_11_code
def yX3_loadTotal : MethodName := ⟨RX3, "loadTotal", "()I"⟩
def dkwX3_loadTotal_2 : List UInt8 := [182, 0, 85, 182, 0, 102, 96, 60, 167, 255, 211, 27, 172]
abbrev dktX3_loadTotal_2 : List UInt8 := dkwX3_loadTotal_2 ++ []
def dkwX3_loadTotal_1 : List UInt8 := [192, 0, 47, 78, 27, 42, 180, 0, 12, 45, 182, 0, 82, 185, 0, 25, 2, 0, 192, 0, 29, 45]
abbrev dktX3_loadTotal_1 : List UInt8 := dkwX3_loadTotal_1 ++ dktX3_loadTotal_2
def dkwX3_loadTotal_0 : List UInt8 := [3, 60, 42, 182, 0, 64, 77, 44, 185, 0, 68, 1, 0, 153, 0, 42, 44, 185, 0, 74, 1, 0]
abbrev dktX3_loadTotal_0 : List UInt8 := dkwX3_loadTotal_0 ++ dktX3_loadTotal_1
theorem dksX3_loadTotal_0 : cX3_loadTotal.data.toList.drop 0 = dktX3_loadTotal_0 := by decide +kernel
theorem dksX3_loadTotal_1 : cX3_loadTotal.data.toList.drop 22 = dktX3_loadTotal_1 := dk_seg dksX3_loadTotal_0 22 rfl rfl
theorem dksX3_loadTotal_2 : cX3_loadTotal.data.toList.drop 44 = dktX3_loadTotal_2 := dk_seg dksX3_loadTotal_1 22 rfl rfl
theorem dX3_loadTotal_0 : decode cX3_loadTotal 0 = .ok (.iconst 0, 1) := dk_3 (dk_at dksX3_loadTotal_0 0 rfl rfl)
theorem dX3_loadTotal_1 : decode cX3_loadTotal 1 = .ok (.istore_n 1, 1) := dk_60 (dk_at dksX3_loadTotal_0 1 rfl rfl)
theorem dX3_loadTotal_2 : decode cX3_loadTotal 2 = .ok (.aload_n 0, 1) := dk_42 (dk_at dksX3_loadTotal_0 2 rfl rfl)
theorem dX3_loadTotal_3 : decode cX3_loadTotal 3 = .ok (.invokevirtual 64, 3) := dk_182 0 64 (dk_at dksX3_loadTotal_0 3 rfl rfl)
theorem dX3_loadTotal_6 : decode cX3_loadTotal 6 = .ok (.astore_n 2, 1) := dk_77 (dk_at dksX3_loadTotal_0 6 rfl rfl)
theorem dX3_loadTotal_7 : decode cX3_loadTotal 7 = .ok (.aload_n 2, 1) := dk_44 (dk_at dksX3_loadTotal_0 7 rfl rfl)
theorem dX3_loadTotal_8 : decode cX3_loadTotal 8 = .ok (.invokeinterface 68 1, 5) := by decide +kernel
theorem dX3_loadTotal_13 : decode cX3_loadTotal 13 = .ok (.ifCond .eq 42, 3) := dk_153 0 42 (dk_at dksX3_loadTotal_0 13 rfl rfl)
theorem dX3_loadTotal_16 : decode cX3_loadTotal 16 = .ok (.aload_n 2, 1) := dk_44 (dk_at dksX3_loadTotal_0 16 rfl rfl)
theorem dX3_loadTotal_17 : decode cX3_loadTotal 17 = .ok (.invokeinterface 74 1, 5) := by decide +kernel
theorem dX3_loadTotal_22 : decode cX3_loadTotal 22 = .ok (.checkcast 47, 3) := dk_192 0 47 (dk_at dksX3_loadTotal_1 0 rfl rfl)
theorem dX3_loadTotal_25 : decode cX3_loadTotal 25 = .ok (.astore_n 3, 1) := dk_78 (dk_at dksX3_loadTotal_1 3 rfl rfl)
theorem dX3_loadTotal_26 : decode cX3_loadTotal 26 = .ok (.iload_n 1, 1) := dk_27 (dk_at dksX3_loadTotal_1 4 rfl rfl)
theorem dX3_loadTotal_27 : decode cX3_loadTotal 27 = .ok (.aload_n 0, 1) := dk_42 (dk_at dksX3_loadTotal_1 5 rfl rfl)
theorem dX3_loadTotal_28 : decode cX3_loadTotal 28 = .ok (.getfield 12, 3) := dk_180 0 12 (dk_at dksX3_loadTotal_1 6 rfl rfl)
theorem dX3_loadTotal_31 : decode cX3_loadTotal 31 = .ok (.aload_n 3, 1) := dk_45 (dk_at dksX3_loadTotal_1 9 rfl rfl)
theorem dX3_loadTotal_32 : decode cX3_loadTotal 32 = .ok (.invokevirtual 82, 3) := dk_182 0 82 (dk_at dksX3_loadTotal_1 10 rfl rfl)
theorem dX3_loadTotal_35 : decode cX3_loadTotal 35 = .ok (.invokeinterface 25 2, 5) := by decide +kernel
theorem dX3_loadTotal_40 : decode cX3_loadTotal 40 = .ok (.checkcast 29, 3) := dk_192 0 29 (dk_at dksX3_loadTotal_1 18 rfl rfl)
theorem dX3_loadTotal_43 : decode cX3_loadTotal 43 = .ok (.aload_n 3, 1) := dk_45 (dk_at dksX3_loadTotal_1 21 rfl rfl)
theorem dX3_loadTotal_44 : decode cX3_loadTotal 44 = .ok (.invokevirtual 85, 3) := dk_182 0 85 (dk_at dksX3_loadTotal_2 0 rfl rfl)
theorem dX3_loadTotal_47 : decode cX3_loadTotal 47 = .ok (.invokevirtual 102, 3) := dk_182 0 102 (dk_at dksX3_loadTotal_2 3 rfl rfl)
theorem dX3_loadTotal_50 : decode cX3_loadTotal 50 = .ok (.iadd, 1) := dk_96 (dk_at dksX3_loadTotal_2 6 rfl rfl)
theorem dX3_loadTotal_51 : decode cX3_loadTotal 51 = .ok (.istore_n 1, 1) := dk_60 (dk_at dksX3_loadTotal_2 7 rfl rfl)
theorem dX3_loadTotal_52 : decode cX3_loadTotal 52 = .ok (.goto (-45), 3) := dk_167 255 211 (dk_at dksX3_loadTotal_2 8 rfl rfl)
theorem dX3_loadTotal_55 : decode cX3_loadTotal 55 = .ok (.iload_n 1, 1) := dk_27 (dk_at dksX3_loadTotal_2 11 rfl rfl)
theorem dX3_loadTotal_56 : decode cX3_loadTotal 56 = .ok (.ireturn, 1) := dk_172 (dk_at dksX3_loadTotal_2 12 rfl rfl)
abbrev cX3_fullCount : ByteArray := prog_16_method_12_code
def yX3_fullCount : MethodName := ⟨RX3, "fullCount", "()I"⟩
def dkwX3_fullCount_2 : List UInt8 := [182, 0, 85, 182, 0, 88, 153, 0, 7, 4, 167, 0, 4, 3, 96, 60, 167, 255, 203, 27, 172]
abbrev dktX3_fullCount_2 : List UInt8 := dkwX3_fullCount_2 ++ []
def dkwX3_fullCount_1 : List UInt8 := [192, 0, 47, 78, 27, 42, 180, 0, 12, 45, 182, 0, 82, 185, 0, 25, 2, 0, 192, 0, 29, 45]
abbrev dktX3_fullCount_1 : List UInt8 := dkwX3_fullCount_1 ++ dktX3_fullCount_2
def dkwX3_fullCount_0 : List UInt8 := [3, 60, 42, 182, 0, 64, 77, 44, 185, 0, 68, 1, 0, 153, 0, 50, 44, 185, 0, 74, 1, 0]
abbrev dktX3_fullCount_0 : List UInt8 := dkwX3_fullCount_0 ++ dktX3_fullCount_1
theorem dksX3_fullCount_0 : cX3_fullCount.data.toList.drop 0 = dktX3_fullCount_0 := by decide +kernel
theorem dksX3_fullCount_1 : cX3_fullCount.data.toList.drop 22 = dktX3_fullCount_1 := dk_seg dksX3_fullCount_0 22 rfl rfl
theorem dksX3_fullCount_2 : cX3_fullCount.data.toList.drop 44 = dktX3_fullCount_2 := dk_seg dksX3_fullCount_1 22 rfl rfl
theorem dX3_fullCount_0 : decode cX3_fullCount 0 = .ok (.iconst 0, 1) := dk_3 (dk_at dksX3_fullCount_0 0 rfl rfl)
theorem dX3_fullCount_1 : decode cX3_fullCount 1 = .ok (.istore_n 1, 1) := dk_60 (dk_at dksX3_fullCount_0 1 rfl rfl)
theorem dX3_fullCount_2 : decode cX3_fullCount 2 = .ok (.aload_n 0, 1) := dk_42 (dk_at dksX3_fullCount_0 2 rfl rfl)
theorem dX3_fullCount_3 : decode cX3_fullCount 3 = .ok (.invokevirtual 64, 3) := dk_182 0 64 (dk_at dksX3_fullCount_0 3 rfl rfl)
theorem dX3_fullCount_6 : decode cX3_fullCount 6 = .ok (.astore_n 2, 1) := dk_77 (dk_at dksX3_fullCount_0 6 rfl rfl)
theorem dX3_fullCount_7 : decode cX3_fullCount 7 = .ok (.aload_n 2, 1) := dk_44 (dk_at dksX3_fullCount_0 7 rfl rfl)
theorem dX3_fullCount_8 : decode cX3_fullCount 8 = .ok (.invokeinterface 68 1, 5) := by decide +kernel
theorem dX3_fullCount_13 : decode cX3_fullCount 13 = .ok (.ifCond .eq 50, 3) := dk_153 0 50 (dk_at dksX3_fullCount_0 13 rfl rfl)
theorem dX3_fullCount_16 : decode cX3_fullCount 16 = .ok (.aload_n 2, 1) := dk_44 (dk_at dksX3_fullCount_0 16 rfl rfl)
theorem dX3_fullCount_17 : decode cX3_fullCount 17 = .ok (.invokeinterface 74 1, 5) := by decide +kernel
theorem dX3_fullCount_22 : decode cX3_fullCount 22 = .ok (.checkcast 47, 3) := dk_192 0 47 (dk_at dksX3_fullCount_1 0 rfl rfl)
theorem dX3_fullCount_25 : decode cX3_fullCount 25 = .ok (.astore_n 3, 1) := dk_78 (dk_at dksX3_fullCount_1 3 rfl rfl)
theorem dX3_fullCount_26 : decode cX3_fullCount 26 = .ok (.iload_n 1, 1) := dk_27 (dk_at dksX3_fullCount_1 4 rfl rfl)
theorem dX3_fullCount_27 : decode cX3_fullCount 27 = .ok (.aload_n 0, 1) := dk_42 (dk_at dksX3_fullCount_1 5 rfl rfl)
theorem dX3_fullCount_28 : decode cX3_fullCount 28 = .ok (.getfield 12, 3) := dk_180 0 12 (dk_at dksX3_fullCount_1 6 rfl rfl)
theorem dX3_fullCount_31 : decode cX3_fullCount 31 = .ok (.aload_n 3, 1) := dk_45 (dk_at dksX3_fullCount_1 9 rfl rfl)
theorem dX3_fullCount_32 : decode cX3_fullCount 32 = .ok (.invokevirtual 82, 3) := dk_182 0 82 (dk_at dksX3_fullCount_1 10 rfl rfl)
theorem dX3_fullCount_35 : decode cX3_fullCount 35 = .ok (.invokeinterface 25 2, 5) := by decide +kernel
theorem dX3_fullCount_40 : decode cX3_fullCount 40 = .ok (.checkcast 29, 3) := dk_192 0 29 (dk_at dksX3_fullCount_1 18 rfl rfl)
theorem dX3_fullCount_43 : decode cX3_fullCount 43 = .ok (.aload_n 3, 1) := dk_45 (dk_at dksX3_fullCount_1 21 rfl rfl)
theorem dX3_fullCount_44 : decode cX3_fullCount 44 = .ok (.invokevirtual 85, 3) := dk_182 0 85 (dk_at dksX3_fullCount_2 0 rfl rfl)
theorem dX3_fullCount_47 : decode cX3_fullCount 47 = .ok (.invokevirtual 88, 3) := dk_182 0 88 (dk_at dksX3_fullCount_2 3 rfl rfl)
theorem dX3_fullCount_50 : decode cX3_fullCount 50 = .ok (.ifCond .eq 7, 3) := dk_153 0 7 (dk_at dksX3_fullCount_2 6 rfl rfl)
theorem dX3_fullCount_53 : decode cX3_fullCount 53 = .ok (.iconst 1, 1) := dk_4 (dk_at dksX3_fullCount_2 9 rfl rfl)
theorem dX3_fullCount_54 : decode cX3_fullCount 54 = .ok (.goto 4, 3) := dk_167 0 4 (dk_at dksX3_fullCount_2 10 rfl rfl)
theorem dX3_fullCount_57 : decode cX3_fullCount 57 = .ok (.iconst 0, 1) := dk_3 (dk_at dksX3_fullCount_2 13 rfl rfl)
theorem dX3_fullCount_58 : decode cX3_fullCount 58 = .ok (.iadd, 1) := dk_96 (dk_at dksX3_fullCount_2 14 rfl rfl)
theorem dX3_fullCount_59 : decode cX3_fullCount 59 = .ok (.istore_n 1, 1) := dk_60 (dk_at dksX3_fullCount_2 15 rfl rfl)
theorem dX3_fullCount_60 : decode cX3_fullCount 60 = .ok (.goto (-53), 3) := dk_167 255 203 (dk_at dksX3_fullCount_2 16 rfl rfl)
theorem dX3_fullCount_63 : decode cX3_fullCount 63 = .ok (.iload_n 1, 1) := dk_27 (dk_at dksX3_fullCount_2 19 rfl rfl)
theorem dX3_fullCount_64 : decode cX3_fullCount 64 = .ok (.ireturn, 1) := dk_172 (dk_at dksX3_fullCount_2 20 rfl rfl)
theorem q112 : (Jvm.Cond.initialized "SleeperRailway$Timetable") ∈ lw_all := lw_g (lw_at lw_m1 12 rfl) rfl
theorem q277 : (Jvm.Cond.instantiable "SleeperRailway$Timetable" (1 : Nat)) ∈ lw_all := lw_g (lw_at lw_m1 177 rfl) rfl
theorem q279 : (Jvm.Cond.instanceMethod ({ cls := "SleeperRailway$Timetable", name := "<init>", desc := "()V" } : Jvm.MethodName)) ∈ lw_all := lw_g (lw_at lw_m1 179 rfl) rfl
theorem q280 : (Jvm.Cond.code ({ cls := "SleeperRailway$Timetable", name := "<init>", desc := "()V" } : Jvm.MethodName) prog_16_method_1_code (1 : Nat) (Option.none : Option Jvm.ClassFile.FieldType)) ∈ lw_all := lw_g (lw_at lw_m1 180 rfl) rfl
theorem q281 : (Jvm.Cond.methodLink "SleeperRailway$Timetable" (3 : Nat) ({ cls := "java/lang/Object", name := "<init>", desc := "()V" } : Jvm.MethodName)) ∈ lw_all := lw_g (lw_at lw_m1 181 rfl) rfl
theorem q282 : (Jvm.Cond.classLink "SleeperRailway$Timetable" (9 : Nat) "java/util/ArrayList") ∈ lw_all := lw_g (lw_at lw_m1 182 rfl) rfl
theorem q283 : (Jvm.Cond.methodLink "SleeperRailway$Timetable" (11 : Nat) ({ cls := "java/util/ArrayList", name := "<init>", desc := "()V" } : Jvm.MethodName)) ∈ lw_all := lw_g (lw_at lw_m1 183 rfl) rfl
theorem q284 : (Jvm.Cond.fieldLink "SleeperRailway$Timetable" (12 : Nat) "SleeperRailway$Timetable" "trains" "Ljava/util/List;") ∈ lw_all := lw_g (lw_at lw_m1 184 rfl) rfl
theorem q287 : (Jvm.Cond.laysFinal "SleeperRailway$Timetable" "SleeperRailway$Timetable" "trains" "Ljava/util/List;") ∈ lw_all := lw_g (lw_at lw_m1 187 rfl) rfl
theorem q288 : (Jvm.Cond.soleField "SleeperRailway$Timetable" "trains") ∈ lw_all := lw_g (lw_at lw_m1 188 rfl) rfl
theorem q289 : (Jvm.Cond.superclass "SleeperRailway$Timetable" "java/lang/Object") ∈ lw_all := lw_g (lw_at lw_m1 189 rfl) rfl
theorem q404 : (Jvm.Cond.instanceMethod ({ cls := "SleeperRailway$Timetable", name := "count", desc := "()I" } : Jvm.MethodName)) ∈ lw_all := lw_g (lw_at lw_m2 64 rfl) rfl
theorem q405 : (Jvm.Cond.selects "SleeperRailway$Timetable" ({ cls := "SleeperRailway$Timetable", name := "count", desc := "()I" } : Jvm.MethodName) ({ cls := "SleeperRailway$Timetable", name := "count", desc := "()I" } : Jvm.MethodName)) ∈ lw_all := lw_g (lw_at lw_m2 65 rfl) rfl
theorem q406 : (Jvm.Cond.code ({ cls := "SleeperRailway$Timetable", name := "count", desc := "()I" } : Jvm.MethodName) prog_16_method_3_code (1 : Nat) (Option.some Jvm.ClassFile.FieldType.int)) ∈ lw_all := lw_g (lw_at lw_m2 66 rfl) rfl
theorem q407 : (Jvm.Cond.interfaceEntry "SleeperRailway$Timetable" (19 : Nat)) ∈ lw_tbl := lw_at lw_m2 67 rfl
theorem q408 : (Jvm.Cond.methodLink "SleeperRailway$Timetable" (19 : Nat) ({ cls := "java/util/List", name := "size", desc := "()I" } : Jvm.MethodName)) ∈ lw_all := lw_g (lw_at lw_m2 68 rfl) rfl
theorem q434 : (Jvm.Cond.instanceMethod ({ cls := "SleeperRailway$Timetable", name := "suitcaseLegs", desc := "()I" } : Jvm.MethodName)) ∈ lw_all := lw_g (lw_at lw_m2 94 rfl) rfl
theorem q435 : (Jvm.Cond.selects "SleeperRailway$Timetable" ({ cls := "SleeperRailway$Timetable", name := "suitcaseLegs", desc := "()I" } : Jvm.MethodName) ({ cls := "SleeperRailway$Timetable", name := "suitcaseLegs", desc := "()I" } : Jvm.MethodName)) ∈ lw_all := lw_g (lw_at lw_m2 95 rfl) rfl
theorem q436 : (Jvm.Cond.code ({ cls := "SleeperRailway$Timetable", name := "suitcaseLegs", desc := "()I" } : Jvm.MethodName) prog_16_method_13_code (4 : Nat) (Option.some Jvm.ClassFile.FieldType.int)) ∈ lw_all := lw_g (lw_at lw_m2 96 rfl) rfl
theorem q437 : (Jvm.Cond.methodLink "SleeperRailway$Timetable" (64 : Nat) ({ cls := "SleeperRailway$Timetable", name := "iterator", desc := "()Ljava/util/Iterator;" } : Jvm.MethodName)) ∈ lw_all := lw_g (lw_at lw_m2 97 rfl) rfl
theorem q438 : (Jvm.Cond.instanceMethod ({ cls := "SleeperRailway$Timetable", name := "iterator", desc := "()Ljava/util/Iterator;" } : Jvm.MethodName)) ∈ lw_all := lw_g (lw_at lw_m2 98 rfl) rfl
theorem q439 : (Jvm.Cond.selects "SleeperRailway$Timetable" ({ cls := "SleeperRailway$Timetable", name := "iterator", desc := "()Ljava/util/Iterator;" } : Jvm.MethodName) ({ cls := "SleeperRailway$Timetable", name := "iterator", desc := "()Ljava/util/Iterator;" } : Jvm.MethodName)) ∈ lw_all := lw_g (lw_at lw_m2 99 rfl) rfl
theorem q440 : (Jvm.Cond.code ({ cls := "SleeperRailway$Timetable", name := "iterator", desc := "()Ljava/util/Iterator;" } : Jvm.MethodName) prog_16_method_7_code (1 : Nat) (Option.some (Jvm.ClassFile.FieldType.object "java/util/Iterator"))) ∈ lw_all := lw_g (lw_at lw_m2 100 rfl) rfl
theorem q441 : (Jvm.Cond.classLink "SleeperRailway$Timetable" (59 : Nat) "SleeperRailway$Timetable$1") ∈ lw_all := lw_g (lw_at lw_m2 101 rfl) rfl
theorem q443 : (Jvm.Cond.methodLink "SleeperRailway$Timetable" (61 : Nat) ({ cls := "SleeperRailway$Timetable$1", name := "<init>", desc := "(LSleeperRailway$Timetable;)V" } : Jvm.MethodName)) ∈ lw_all := lw_g (lw_at lw_m2 103 rfl) rfl
theorem q457 : (Jvm.Cond.interfaceEntry "SleeperRailway$Timetable" (68 : Nat)) ∈ lw_tbl := lw_at lw_m2 117 rfl
theorem q458 : (Jvm.Cond.methodLink "SleeperRailway$Timetable" (68 : Nat) ({ cls := "java/util/Iterator", name := "hasNext", desc := "()Z" } : Jvm.MethodName)) ∈ lw_all := lw_g (lw_at lw_m2 118 rfl) rfl
theorem q865 : (Jvm.Cond.interfaceEntry "SleeperRailway$Timetable" (74 : Nat)) ∈ lw_tbl := lw_at lw_m4 45 rfl
theorem q866 : (Jvm.Cond.methodLink "SleeperRailway$Timetable" (74 : Nat) ({ cls := "java/util/Iterator", name := "next", desc := "()Ljava/lang/Object;" } : Jvm.MethodName)) ∈ lw_all := lw_g (lw_at lw_m4 46 rfl) rfl
theorem q901 : (Jvm.Cond.instanceMethod ({ cls := "SleeperRailway$Timetable", name := "leg", desc := "(II)LSleeperRailway$Leg;" } : Jvm.MethodName)) ∈ lw_all := lw_g (lw_at lw_m4 81 rfl) rfl
theorem q902 : (Jvm.Cond.selects "SleeperRailway$Timetable" ({ cls := "SleeperRailway$Timetable", name := "leg", desc := "(II)LSleeperRailway$Leg;" } : Jvm.MethodName) ({ cls := "SleeperRailway$Timetable", name := "leg", desc := "(II)LSleeperRailway$Leg;" } : Jvm.MethodName)) ∈ lw_all := lw_g (lw_at lw_m4 82 rfl) rfl
theorem q903 : (Jvm.Cond.code ({ cls := "SleeperRailway$Timetable", name := "leg", desc := "(II)LSleeperRailway$Leg;" } : Jvm.MethodName) prog_16_method_6_code (6 : Nat) (Option.some (Jvm.ClassFile.FieldType.object "SleeperRailway$Leg"))) ∈ lw_all := lw_g (lw_at lw_m4 83 rfl) rfl
theorem q904 : (Jvm.Cond.interfaceEntry "SleeperRailway$Timetable" (25 : Nat)) ∈ lw_tbl := lw_at lw_m4 84 rfl
theorem q905 : (Jvm.Cond.methodLink "SleeperRailway$Timetable" (25 : Nat) ({ cls := "java/util/List", name := "get", desc := "(I)Ljava/lang/Object;" } : Jvm.MethodName)) ∈ lw_all := lw_g (lw_at lw_m4 85 rfl) rfl
theorem q906 : (Jvm.Cond.classLink "SleeperRailway$Timetable" (29 : Nat) "SleeperRailway$Train") ∈ lw_all := lw_g (lw_at lw_m4 86 rfl) rfl
theorem q907 : (Jvm.Cond.classLink "SleeperRailway$Timetable" (47 : Nat) "SleeperRailway$Leg") ∈ lw_all := lw_g (lw_at lw_m4 87 rfl) rfl
theorem q909 : (Jvm.Cond.methodLink "SleeperRailway$Timetable" (49 : Nat) ({ cls := "SleeperRailway$Train", name := "departure", desc := "(I)I" } : Jvm.MethodName)) ∈ lw_all := lw_g (lw_at lw_m4 89 rfl) rfl
theorem q913 : (Jvm.Cond.methodLink "SleeperRailway$Timetable" (53 : Nat) ({ cls := "SleeperRailway$Train", name := "arrival", desc := "(I)I" } : Jvm.MethodName)) ∈ lw_all := lw_g (lw_at lw_m4 93 rfl) rfl
theorem q917 : (Jvm.Cond.methodLinkNest "SleeperRailway$Timetable" (56 : Nat) ({ cls := "SleeperRailway$Leg", name := "<init>", desc := "(IIIIII)V" } : Jvm.MethodName) "SleeperRailway") ∈ lw_tbl := lw_at lw_m4 97 rfl
theorem q1003 : (Jvm.Cond.selects "SleeperRailway$Timetable" ({ cls := "java/lang/Object", name := "getClass", desc := "()Ljava/lang/Class;" } : Jvm.MethodName) ({ cls := "java/lang/Object", name := "getClass", desc := "()Ljava/lang/Class;" } : Jvm.MethodName)) ∈ lw_all := lw_g (lw_at lw_m4 183 rfl) rfl
theorem q1144 : (Jvm.Cond.methodLink "SleeperRailway$Timetable" (82 : Nat) ({ cls := "SleeperRailway$Leg", name := "train", desc := "()I" } : Jvm.MethodName)) ∈ lw_all := lw_g (lw_at lw_m5 84 rfl) rfl
theorem q1148 : (Jvm.Cond.methodLink "SleeperRailway$Timetable" (85 : Nat) ({ cls := "SleeperRailway$Leg", name := "number", desc := "()I" } : Jvm.MethodName)) ∈ lw_all := lw_g (lw_at lw_m5 88 rfl) rfl
theorem q1169 : (Jvm.Cond.instanceMethod ({ cls := "SleeperRailway$Timetable", name := "legs", desc := "()Ljava/util/List;" } : Jvm.MethodName)) ∈ lw_all := lw_g (lw_at lw_m5 109 rfl) rfl
theorem q1170 : (Jvm.Cond.selects "SleeperRailway$Timetable" ({ cls := "SleeperRailway$Timetable", name := "legs", desc := "()Ljava/util/List;" } : Jvm.MethodName) ({ cls := "SleeperRailway$Timetable", name := "legs", desc := "()Ljava/util/List;" } : Jvm.MethodName)) ∈ lw_all := lw_g (lw_at lw_m5 110 rfl) rfl
theorem q1171 : (Jvm.Cond.code ({ cls := "SleeperRailway$Timetable", name := "legs", desc := "()Ljava/util/List;" } : Jvm.MethodName) prog_16_method_8_code (4 : Nat) (Option.some (Jvm.ClassFile.FieldType.object "java/util/List"))) ∈ lw_all := lw_g (lw_at lw_m5 111 rfl) rfl
theorem q1172 : (Jvm.Cond.interfaceEntry "SleeperRailway$Timetable" (35 : Nat)) ∈ lw_tbl := lw_at lw_m5 112 rfl
theorem q1173 : (Jvm.Cond.methodLink "SleeperRailway$Timetable" (35 : Nat) ({ cls := "java/util/List", name := "add", desc := "(Ljava/lang/Object;)Z" } : Jvm.MethodName)) ∈ lw_all := lw_g (lw_at lw_m5 113 rfl) rfl
theorem q1463 : (Jvm.Cond.instanceMethod ({ cls := "SleeperRailway$Timetable", name := "get", desc := "(I)LSleeperRailway$Train;" } : Jvm.MethodName)) ∈ lw_all := lw_g (lw_at lw_m6 163 rfl) rfl
theorem q1464 : (Jvm.Cond.selects "SleeperRailway$Timetable" ({ cls := "SleeperRailway$Timetable", name := "get", desc := "(I)LSleeperRailway$Train;" } : Jvm.MethodName) ({ cls := "SleeperRailway$Timetable", name := "get", desc := "(I)LSleeperRailway$Train;" } : Jvm.MethodName)) ∈ lw_all := lw_g (lw_at lw_m6 164 rfl) rfl
theorem q1465 : (Jvm.Cond.code ({ cls := "SleeperRailway$Timetable", name := "get", desc := "(I)LSleeperRailway$Train;" } : Jvm.MethodName) prog_16_method_5_code (2 : Nat) (Option.some (Jvm.ClassFile.FieldType.object "SleeperRailway$Train"))) ∈ lw_all := lw_g (lw_at lw_m6 165 rfl) rfl
theorem q1809 : (Jvm.Cond.instanceMethod ({ cls := "SleeperRailway$Timetable", name := "free", desc := "(Ljava/util/List;)Ljava/util/List;" } : Jvm.MethodName)) ∈ lw_all := lw_g (lw_at lw_m8 29 rfl) rfl
theorem q1810 : (Jvm.Cond.selects "SleeperRailway$Timetable" ({ cls := "SleeperRailway$Timetable", name := "free", desc := "(Ljava/util/List;)Ljava/util/List;" } : Jvm.MethodName) ({ cls := "SleeperRailway$Timetable", name := "free", desc := "(Ljava/util/List;)Ljava/util/List;" } : Jvm.MethodName)) ∈ lw_all := lw_g (lw_at lw_m8 30 rfl) rfl
theorem q1811 : (Jvm.Cond.code ({ cls := "SleeperRailway$Timetable", name := "free", desc := "(Ljava/util/List;)Ljava/util/List;" } : Jvm.MethodName) prog_16_method_9_code (7 : Nat) (Option.some (Jvm.ClassFile.FieldType.object "java/util/List"))) ∈ lw_all := lw_g (lw_at lw_m8 31 rfl) rfl
theorem q1812 : (Jvm.Cond.classLink "SleeperRailway$Timetable" (78 : Nat) "SleeperRailway$ByDeparture") ∈ lw_all := lw_g (lw_at lw_m8 32 rfl) rfl
theorem q1814 : (Jvm.Cond.methodLinkNest "SleeperRailway$Timetable" (80 : Nat) ({ cls := "SleeperRailway$ByDeparture", name := "<init>", desc := "()V" } : Jvm.MethodName) "SleeperRailway") ∈ lw_tbl := lw_at lw_m8 34 rfl
theorem q1819 : (Jvm.Cond.interfaceEntry "SleeperRailway$Timetable" (81 : Nat)) ∈ lw_tbl := lw_at lw_m8 39 rfl
theorem q1820 : (Jvm.Cond.methodLink "SleeperRailway$Timetable" (81 : Nat) ({ cls := "java/util/List", name := "iterator", desc := "()Ljava/util/Iterator;" } : Jvm.MethodName)) ∈ lw_all := lw_g (lw_at lw_m8 40 rfl) rfl
theorem q1821 : (Jvm.Cond.methodLink "SleeperRailway$Timetable" (88 : Nat) ({ cls := "SleeperRailway$Train", name := "isFull", desc := "(I)Z" } : Jvm.MethodName)) ∈ lw_all := lw_g (lw_at lw_m8 41 rfl) rfl
theorem q1822 : (Jvm.Cond.methodLink "SleeperRailway$Timetable" (92 : Nat) ({ cls := "SleeperRailway$ByDeparture", name := "compare", desc := "(LSleeperRailway$Leg;LSleeperRailway$Leg;)I" } : Jvm.MethodName)) ∈ lw_all := lw_g (lw_at lw_m8 42 rfl) rfl
theorem q1823 : (Jvm.Cond.interfaceEntry "SleeperRailway$Timetable" (96 : Nat)) ∈ lw_tbl := lw_at lw_m8 43 rfl
theorem q1824 : (Jvm.Cond.methodLink "SleeperRailway$Timetable" (96 : Nat) ({ cls := "java/util/List", name := "add", desc := "(ILjava/lang/Object;)V" } : Jvm.MethodName)) ∈ lw_all := lw_g (lw_at lw_m8 44 rfl) rfl
theorem q2278 : (Jvm.Cond.instanceMethod ({ cls := "SleeperRailway$Timetable", name := "copy", desc := "()LSleeperRailway$Timetable;" } : Jvm.MethodName)) ∈ lw_all := lw_g (lw_at lw_m10 18 rfl) rfl
theorem q2279 : (Jvm.Cond.selects "SleeperRailway$Timetable" ({ cls := "SleeperRailway$Timetable", name := "copy", desc := "()LSleeperRailway$Timetable;" } : Jvm.MethodName) ({ cls := "SleeperRailway$Timetable", name := "copy", desc := "()LSleeperRailway$Timetable;" } : Jvm.MethodName)) ∈ lw_all := lw_g (lw_at lw_m10 19 rfl) rfl
theorem q2280 : (Jvm.Cond.code ({ cls := "SleeperRailway$Timetable", name := "copy", desc := "()LSleeperRailway$Timetable;" } : Jvm.MethodName) prog_16_method_2_code (3 : Nat) (Option.some (Jvm.ClassFile.FieldType.object "SleeperRailway$Timetable"))) ∈ lw_all := lw_g (lw_at lw_m10 20 rfl) rfl
theorem q2281 : (Jvm.Cond.classLink "SleeperRailway$Timetable" (13 : Nat) "SleeperRailway$Timetable") ∈ lw_all := lw_g (lw_at lw_m10 21 rfl) rfl
theorem q2282 : (Jvm.Cond.methodLink "SleeperRailway$Timetable" (18 : Nat) ({ cls := "SleeperRailway$Timetable", name := "<init>", desc := "()V" } : Jvm.MethodName)) ∈ lw_all := lw_g (lw_at lw_m10 22 rfl) rfl
theorem q2283 : (Jvm.Cond.methodLink "SleeperRailway$Timetable" (31 : Nat) ({ cls := "SleeperRailway$Train", name := "copy", desc := "()LSleeperRailway$Train;" } : Jvm.MethodName)) ∈ lw_all := lw_g (lw_at lw_m10 23 rfl) rfl
theorem q2303 : (Jvm.Cond.fieldLinkNest "SleeperRailway$Timetable" (43 : Nat) "SleeperRailway$Train" "stations" "[I" "SleeperRailway") ∈ lw_tbl := lw_at lw_m10 43 rfl
theorem q2310 : (Jvm.Cond.fieldLinkNest "SleeperRailway$Timetable" (105 : Nat) "SleeperRailway$Train" "suitcases" "[I" "SleeperRailway") ∈ lw_tbl := lw_at lw_m10 50 rfl
theorem q2495 : (Jvm.Cond.instanceMethod ({ cls := "SleeperRailway$Timetable", name := "has", desc := "(I)Z" } : Jvm.MethodName)) ∈ lw_all := lw_g (lw_at lw_m10 235 rfl) rfl
theorem q2496 : (Jvm.Cond.selects "SleeperRailway$Timetable" ({ cls := "SleeperRailway$Timetable", name := "has", desc := "(I)Z" } : Jvm.MethodName) ({ cls := "SleeperRailway$Timetable", name := "has", desc := "(I)Z" } : Jvm.MethodName)) ∈ lw_all := lw_g (lw_at lw_m10 236 rfl) rfl
theorem q2497 : (Jvm.Cond.code ({ cls := "SleeperRailway$Timetable", name := "has", desc := "(I)Z" } : Jvm.MethodName) prog_16_method_4_code (2 : Nat) (Option.some Jvm.ClassFile.FieldType.boolean)) ∈ lw_all := lw_g (lw_at lw_m10 237 rfl) rfl
theorem q2498 : (Jvm.Cond.methodLinkNest "SleeperRailway$Timetable" (39 : Nat) ({ cls := "SleeperRailway", name := "isBetween", desc := "(III)Z" } : Jvm.MethodName) "SleeperRailway") ∈ lw_tbl := lw_at lw_m10 238 rfl
theorem q2839 : (Jvm.Cond.instanceMethod ({ cls := "SleeperRailway$Timetable", name := "nextTrain", desc := "(II)I" } : Jvm.MethodName)) ∈ lw_all := lw_g (lw_at lw_m12 99 rfl) rfl
theorem q2840 : (Jvm.Cond.selects "SleeperRailway$Timetable" ({ cls := "SleeperRailway$Timetable", name := "nextTrain", desc := "(II)I" } : Jvm.MethodName) ({ cls := "SleeperRailway$Timetable", name := "nextTrain", desc := "(II)I" } : Jvm.MethodName)) ∈ lw_all := lw_g (lw_at lw_m12 100 rfl) rfl
theorem q2841 : (Jvm.Cond.code ({ cls := "SleeperRailway$Timetable", name := "nextTrain", desc := "(II)I" } : Jvm.MethodName) prog_16_method_14_code (7 : Nat) (Option.some Jvm.ClassFile.FieldType.int)) ∈ lw_all := lw_g (lw_at lw_m12 101 rfl) rfl
theorem q2842 : (Jvm.Cond.constant "SleeperRailway$Timetable" (108 : Nat) (1000000 : Int32)) ∈ lw_all := lw_g (lw_at lw_m12 102 rfl) rfl
theorem q2843 : (Jvm.Cond.methodLink "SleeperRailway$Timetable" (109 : Nat) ({ cls := "SleeperRailway$Leg", name := "from", desc := "()I" } : Jvm.MethodName)) ∈ lw_all := lw_g (lw_at lw_m12 103 rfl) rfl
theorem q2844 : (Jvm.Cond.methodLink "SleeperRailway$Timetable" (112 : Nat) ({ cls := "SleeperRailway$Leg", name := "departure", desc := "()I" } : Jvm.MethodName)) ∈ lw_all := lw_g (lw_at lw_m12 104 rfl) rfl
theorem q3184 : (Jvm.Cond.selects "SleeperRailway$Timetable" ({ cls := "java/lang/Object", name := "equals", desc := "(Ljava/lang/Object;)Z" } : Jvm.MethodName) ({ cls := "java/lang/Object", name := "equals", desc := "(Ljava/lang/Object;)Z" } : Jvm.MethodName)) ∈ lw_all := lw_g (lw_at lw_m13 204 rfl) rfl
theorem q3236 : (Jvm.Cond.instanceMethod ({ cls := "SleeperRailway$Timetable", name := "legCount", desc := "()I" } : Jvm.MethodName)) ∈ lw_all := lw_g (lw_at lw_m14 16 rfl) rfl
theorem q3237 : (Jvm.Cond.selects "SleeperRailway$Timetable" ({ cls := "SleeperRailway$Timetable", name := "legCount", desc := "()I" } : Jvm.MethodName) ({ cls := "SleeperRailway$Timetable", name := "legCount", desc := "()I" } : Jvm.MethodName)) ∈ lw_all := lw_g (lw_at lw_m14 17 rfl) rfl
theorem q3238 : (Jvm.Cond.code ({ cls := "SleeperRailway$Timetable", name := "legCount", desc := "()I" } : Jvm.MethodName) prog_16_method_10_code (4 : Nat) (Option.some Jvm.ClassFile.FieldType.int)) ∈ lw_all := lw_g (lw_at lw_m14 18 rfl) rfl
theorem q3239 : (Jvm.Cond.methodLink "SleeperRailway$Timetable" (99 : Nat) ({ cls := "SleeperRailway$Train", name := "legs", desc := "()I" } : Jvm.MethodName)) ∈ lw_all := lw_g (lw_at lw_m14 19 rfl) rfl
theorem q3246 : (Jvm.Cond.instanceMethod ({ cls := "SleeperRailway$Timetable", name := "loadTotal", desc := "()I" } : Jvm.MethodName)) ∈ lw_all := lw_g (lw_at lw_m14 26 rfl) rfl
theorem q3247 : (Jvm.Cond.selects "SleeperRailway$Timetable" ({ cls := "SleeperRailway$Timetable", name := "loadTotal", desc := "()I" } : Jvm.MethodName) ({ cls := "SleeperRailway$Timetable", name := "loadTotal", desc := "()I" } : Jvm.MethodName)) ∈ lw_all := lw_g (lw_at lw_m14 27 rfl) rfl
theorem q3248 : (Jvm.Cond.code ({ cls := "SleeperRailway$Timetable", name := "loadTotal", desc := "()I" } : Jvm.MethodName) prog_16_method_11_code (4 : Nat) (Option.some Jvm.ClassFile.FieldType.int)) ∈ lw_all := lw_g (lw_at lw_m14 28 rfl) rfl
theorem q3249 : (Jvm.Cond.methodLink "SleeperRailway$Timetable" (102 : Nat) ({ cls := "SleeperRailway$Train", name := "load", desc := "(I)I" } : Jvm.MethodName)) ∈ lw_all := lw_g (lw_at lw_m14 29 rfl) rfl
theorem q3258 : (Jvm.Cond.instanceMethod ({ cls := "SleeperRailway$Timetable", name := "fullCount", desc := "()I" } : Jvm.MethodName)) ∈ lw_all := lw_g (lw_at lw_m14 38 rfl) rfl
theorem q3259 : (Jvm.Cond.selects "SleeperRailway$Timetable" ({ cls := "SleeperRailway$Timetable", name := "fullCount", desc := "()I" } : Jvm.MethodName) ({ cls := "SleeperRailway$Timetable", name := "fullCount", desc := "()I" } : Jvm.MethodName)) ∈ lw_all := lw_g (lw_at lw_m14 39 rfl) rfl
theorem q3260 : (Jvm.Cond.code ({ cls := "SleeperRailway$Timetable", name := "fullCount", desc := "()I" } : Jvm.MethodName) prog_16_method_12_code (4 : Nat) (Option.some Jvm.ClassFile.FieldType.int)) ∈ lw_all := lw_g (lw_at lw_m14 40 rfl) rfl
theorem q3492 : (Jvm.Cond.selects "SleeperRailway$Timetable" ({ cls := "java/lang/Object", name := "toString", desc := "()Ljava/lang/String;" } : Jvm.MethodName) ({ cls := "java/lang/Object", name := "toString", desc := "()Ljava/lang/String;" } : Jvm.MethodName)) ∈ lw_all := lw_g (lw_at lw_m15 32 rfl) rfl
theorem q4243 : (Jvm.Cond.castable "SleeperRailway$Timetable" "java/lang/Object") ∈ lw_tbl := lw_at lw_m18 63 rfl
theorem in_X3 : ∀ w ∈ wsX30, w ∈ lw_all := lw_in wsX30 [287] (by decide +kernel) (by decide +kernel)
/-! SleeperRailway$Train -/
set_option maxRecDepth 100000
def RX5 : String := "SleeperRailway$Train"
def TX5 : u_T := fun k => match k with
  | 0 => ("SleeperRailway$Train", "capacity", "I", true)
  | 1 => ("SleeperRailway$Train", "stations", "[I", true)
  | 2 => ("SleeperRailway$Train", "arrivals", "[I", true)
  | 3 => ("SleeperRailway$Train", "departures", "[I", true)
  | 4 => ("SleeperRailway$Train", "suitcases", "[I", true)
  | 5 => ("SleeperRailway$Train", "bookings", "[I", true)
  | 6 => ("SleeperRailway$Train", "stops", "I", false)
  | _ => ("SleeperRailway$Train", "delay", "I", false)
def tyX5 : Nat → FieldType := fun k => match k with
  | 0 => .int
  | 1 => .array .int
  | 2 => .array .int
  | 3 => .array .int
  | 4 => .array .int
  | 5 => .array .int
  | 6 => .int
  | _ => .int
abbrev wsX50 : List Cond := u_ws RX5 TX5 8
theorem nmX5 : ∀ a, a < 8 → ∀ b, b < 8 → a ≠ b → (TX5 a).2.1 ≠ (TX5 b).2.1 := by decide +kernel
theorem tyX5_ok : ∀ k, k < 8 → parseFieldDescriptor (TX5 k).2.2.1 = some (tyX5 k) := by decide +kernel
abbrev cX5_legs : ByteArray := prog_18_method_7_code
def yX5_legs : MethodName := ⟨RX5, "legs", "()I"⟩
def dkwX5_legs_0 : List UInt8 := [42, 180, 0, 17, 4, 100, 172]
abbrev dktX5_legs_0 : List UInt8 := dkwX5_legs_0 ++ []
theorem dksX5_legs_0 : cX5_legs.data.toList.drop 0 = dktX5_legs_0 := by decide +kernel
theorem dX5_legs_0 : decode cX5_legs 0 = .ok (.aload_n 0, 1) := dk_42 (dk_at dksX5_legs_0 0 rfl rfl)
theorem dX5_legs_1 : decode cX5_legs 1 = .ok (.getfield 17, 3) := dk_180 0 17 (dk_at dksX5_legs_0 1 rfl rfl)
theorem dX5_legs_4 : decode cX5_legs 4 = .ok (.iconst 1, 1) := dk_4 (dk_at dksX5_legs_0 4 rfl rfl)
theorem dX5_legs_5 : decode cX5_legs 5 = .ok (.isub, 1) := dk_100 (dk_at dksX5_legs_0 5 rfl rfl)
theorem dX5_legs_6 : decode cX5_legs 6 = .ok (.ireturn, 1) := dk_172 (dk_at dksX5_legs_0 6 rfl rfl)
abbrev cX5_departure : ByteArray := prog_18_method_9_code
def yX5_departure : MethodName := ⟨RX5, "departure", "(I)I"⟩
def dkwX5_departure_0 : List UInt8 := [42, 180, 0, 14, 27, 46, 42, 180, 0, 42, 96, 172]
abbrev dktX5_departure_0 : List UInt8 := dkwX5_departure_0 ++ []
theorem dksX5_departure_0 : cX5_departure.data.toList.drop 0 = dktX5_departure_0 := by decide +kernel
theorem dX5_departure_0 : decode cX5_departure 0 = .ok (.aload_n 0, 1) := dk_42 (dk_at dksX5_departure_0 0 rfl rfl)
theorem dX5_departure_1 : decode cX5_departure 1 = .ok (.getfield 14, 3) := dk_180 0 14 (dk_at dksX5_departure_0 1 rfl rfl)
theorem dX5_departure_4 : decode cX5_departure 4 = .ok (.iload_n 1, 1) := dk_27 (dk_at dksX5_departure_0 4 rfl rfl)
theorem dX5_departure_5 : decode cX5_departure 5 = .ok (.iaload, 1) := dk_46 (dk_at dksX5_departure_0 5 rfl rfl)
theorem dX5_departure_6 : decode cX5_departure 6 = .ok (.aload_n 0, 1) := dk_42 (dk_at dksX5_departure_0 6 rfl rfl)
theorem dX5_departure_7 : decode cX5_departure 7 = .ok (.getfield 42, 3) := dk_180 0 42 (dk_at dksX5_departure_0 7 rfl rfl)
theorem dX5_departure_10 : decode cX5_departure 10 = .ok (.iadd, 1) := dk_96 (dk_at dksX5_departure_0 10 rfl rfl)
theorem dX5_departure_11 : decode cX5_departure 11 = .ok (.ireturn, 1) := dk_172 (dk_at dksX5_departure_0 11 rfl rfl)
abbrev cX5_arrival : ByteArray := prog_18_method_8_code
def yX5_arrival : MethodName := ⟨RX5, "arrival", "(I)I"⟩
def dkwX5_arrival_0 : List UInt8 := [42, 180, 0, 29, 27, 46, 42, 180, 0, 42, 96, 172]
abbrev dktX5_arrival_0 : List UInt8 := dkwX5_arrival_0 ++ []
theorem dksX5_arrival_0 : cX5_arrival.data.toList.drop 0 = dktX5_arrival_0 := by decide +kernel
theorem dX5_arrival_0 : decode cX5_arrival 0 = .ok (.aload_n 0, 1) := dk_42 (dk_at dksX5_arrival_0 0 rfl rfl)
theorem dX5_arrival_1 : decode cX5_arrival 1 = .ok (.getfield 29, 3) := dk_180 0 29 (dk_at dksX5_arrival_0 1 rfl rfl)
theorem dX5_arrival_4 : decode cX5_arrival 4 = .ok (.iload_n 1, 1) := dk_27 (dk_at dksX5_arrival_0 4 rfl rfl)
theorem dX5_arrival_5 : decode cX5_arrival 5 = .ok (.iaload, 1) := dk_46 (dk_at dksX5_arrival_0 5 rfl rfl)
theorem dX5_arrival_6 : decode cX5_arrival 6 = .ok (.aload_n 0, 1) := dk_42 (dk_at dksX5_arrival_0 6 rfl rfl)
theorem dX5_arrival_7 : decode cX5_arrival 7 = .ok (.getfield 42, 3) := dk_180 0 42 (dk_at dksX5_arrival_0 7 rfl rfl)
theorem dX5_arrival_10 : decode cX5_arrival 10 = .ok (.iadd, 1) := dk_96 (dk_at dksX5_arrival_0 10 rfl rfl)
theorem dX5_arrival_11 : decode cX5_arrival 11 = .ok (.ireturn, 1) := dk_172 (dk_at dksX5_arrival_0 11 rfl rfl)
abbrev cX5_isFull : ByteArray := prog_18_method_11_code
def yX5_isFull : MethodName := ⟨RX5, "isFull", "(I)Z"⟩
def dkwX5_isFull_0 : List UInt8 := [42, 27, 182, 0, 49, 42, 180, 0, 26, 160, 0, 7, 4, 167, 0, 4, 3, 172]
abbrev dktX5_isFull_0 : List UInt8 := dkwX5_isFull_0 ++ []
theorem dksX5_isFull_0 : cX5_isFull.data.toList.drop 0 = dktX5_isFull_0 := by decide +kernel
theorem dX5_isFull_0 : decode cX5_isFull 0 = .ok (.aload_n 0, 1) := dk_42 (dk_at dksX5_isFull_0 0 rfl rfl)
theorem dX5_isFull_1 : decode cX5_isFull 1 = .ok (.iload_n 1, 1) := dk_27 (dk_at dksX5_isFull_0 1 rfl rfl)
theorem dX5_isFull_2 : decode cX5_isFull 2 = .ok (.invokevirtual 49, 3) := dk_182 0 49 (dk_at dksX5_isFull_0 2 rfl rfl)
theorem dX5_isFull_5 : decode cX5_isFull 5 = .ok (.aload_n 0, 1) := dk_42 (dk_at dksX5_isFull_0 5 rfl rfl)
theorem dX5_isFull_6 : decode cX5_isFull 6 = .ok (.getfield 26, 3) := dk_180 0 26 (dk_at dksX5_isFull_0 6 rfl rfl)
theorem dX5_isFull_9 : decode cX5_isFull 9 = .ok (.if_icmp .ne 7, 3) := dk_160 0 7 (dk_at dksX5_isFull_0 9 rfl rfl)
theorem dX5_isFull_12 : decode cX5_isFull 12 = .ok (.iconst 1, 1) := dk_4 (dk_at dksX5_isFull_0 12 rfl rfl)
theorem dX5_isFull_13 : decode cX5_isFull 13 = .ok (.goto 4, 3) := dk_167 0 4 (dk_at dksX5_isFull_0 13 rfl rfl)
theorem dX5_isFull_16 : decode cX5_isFull 16 = .ok (.iconst 0, 1) := dk_3 (dk_at dksX5_isFull_0 16 rfl rfl)
theorem dX5_isFull_17 : decode cX5_isFull 17 = .ok (.ireturn, 1) := dk_172 (dk_at dksX5_isFull_0 17 rfl rfl)
abbrev cX5_load : ByteArray := prog_18_method_10_code
def yX5_load : MethodName := ⟨RX5, "load", "(I)I"⟩
def dkwX5_load_0 : List UInt8 := [42, 180, 0, 32, 27, 46, 42, 180, 0, 35, 27, 46, 96, 172]
abbrev dktX5_load_0 : List UInt8 := dkwX5_load_0 ++ []
theorem dksX5_load_0 : cX5_load.data.toList.drop 0 = dktX5_load_0 := by decide +kernel
theorem dX5_load_0 : decode cX5_load 0 = .ok (.aload_n 0, 1) := dk_42 (dk_at dksX5_load_0 0 rfl rfl)
theorem dX5_load_1 : decode cX5_load 1 = .ok (.getfield 32, 3) := dk_180 0 32 (dk_at dksX5_load_0 1 rfl rfl)
theorem dX5_load_4 : decode cX5_load 4 = .ok (.iload_n 1, 1) := dk_27 (dk_at dksX5_load_0 4 rfl rfl)
theorem dX5_load_5 : decode cX5_load 5 = .ok (.iaload, 1) := dk_46 (dk_at dksX5_load_0 5 rfl rfl)
theorem dX5_load_6 : decode cX5_load 6 = .ok (.aload_n 0, 1) := dk_42 (dk_at dksX5_load_0 6 rfl rfl)
theorem dX5_load_7 : decode cX5_load 7 = .ok (.getfield 35, 3) := dk_180 0 35 (dk_at dksX5_load_0 7 rfl rfl)
theorem dX5_load_10 : decode cX5_load 10 = .ok (.iload_n 1, 1) := dk_27 (dk_at dksX5_load_0 10 rfl rfl)
theorem dX5_load_11 : decode cX5_load 11 = .ok (.iaload, 1) := dk_46 (dk_at dksX5_load_0 11 rfl rfl)
theorem dX5_load_12 : decode cX5_load 12 = .ok (.iadd, 1) := dk_96 (dk_at dksX5_load_0 12 rfl rfl)
theorem dX5_load_13 : decode cX5_load 13 = .ok (.ireturn, 1) := dk_172 (dk_at dksX5_load_0 13 rfl rfl)
abbrev cX5_hasLeg : ByteArray := prog_18_method_6_code
def yX5_hasLeg : MethodName := ⟨RX5, "hasLeg", "(I)Z"⟩
def dkwX5_hasLeg_0 : List UInt8 := [27, 3, 42, 180, 0, 17, 5, 100, 184, 0, 45, 172]
abbrev dktX5_hasLeg_0 : List UInt8 := dkwX5_hasLeg_0 ++ []
theorem dksX5_hasLeg_0 : cX5_hasLeg.data.toList.drop 0 = dktX5_hasLeg_0 := by decide +kernel
theorem dX5_hasLeg_0 : decode cX5_hasLeg 0 = .ok (.iload_n 1, 1) := dk_27 (dk_at dksX5_hasLeg_0 0 rfl rfl)
theorem dX5_hasLeg_1 : decode cX5_hasLeg 1 = .ok (.iconst 0, 1) := dk_3 (dk_at dksX5_hasLeg_0 1 rfl rfl)
theorem dX5_hasLeg_2 : decode cX5_hasLeg 2 = .ok (.aload_n 0, 1) := dk_42 (dk_at dksX5_hasLeg_0 2 rfl rfl)
theorem dX5_hasLeg_3 : decode cX5_hasLeg 3 = .ok (.getfield 17, 3) := dk_180 0 17 (dk_at dksX5_hasLeg_0 3 rfl rfl)
theorem dX5_hasLeg_6 : decode cX5_hasLeg 6 = .ok (.iconst 2, 1) := dk_5 (dk_at dksX5_hasLeg_0 6 rfl rfl)
theorem dX5_hasLeg_7 : decode cX5_hasLeg 7 = .ok (.isub, 1) := dk_100 (dk_at dksX5_hasLeg_0 7 rfl rfl)
theorem dX5_hasLeg_8 : decode cX5_hasLeg 8 = .ok (.invokestatic 45, 3) := dk_184 0 45 (dk_at dksX5_hasLeg_0 8 rfl rfl)
theorem dX5_hasLeg_11 : decode cX5_hasLeg 11 = .ok (.ireturn, 1) := dk_172 (dk_at dksX5_hasLeg_0 11 rfl rfl)
abbrev cX5_copy : ByteArray := prog_18_method_3_code
def yX5_copy : MethodName := ⟨RX5, "copy", "()LSleeperRailway$Train;"⟩
def dkwX5_copy_4 : List UInt8 := [181, 0, 42, 43, 176]
abbrev dktX5_copy_4 : List UInt8 := dkwX5_copy_4 ++ []
def dkwX5_copy_3 : List UInt8 := [182, 0, 38, 192, 0, 3, 83, 183, 0, 5, 76, 43, 42, 180, 0, 17, 181, 0, 17, 43, 42, 180, 0, 42]
abbrev dktX5_copy_3 : List UInt8 := dkwX5_copy_3 ++ dktX5_copy_4
def dkwX5_copy_2 : List UInt8 := [192, 0, 3, 83, 89, 6, 42, 180, 0, 32, 182, 0, 38, 192, 0, 3, 83, 89, 7, 42, 180, 0, 35]
abbrev dktX5_copy_2 : List UInt8 := dkwX5_copy_2 ++ dktX5_copy_3
def dkwX5_copy_1 : List UInt8 := [83, 89, 4, 42, 180, 0, 29, 182, 0, 38, 192, 0, 3, 83, 89, 5, 42, 180, 0, 14, 182, 0, 38]
abbrev dktX5_copy_1 : List UInt8 := dkwX5_copy_1 ++ dktX5_copy_2
def dkwX5_copy_0 : List UInt8 := [187, 0, 6, 89, 42, 180, 0, 26, 8, 189, 0, 3, 89, 3, 42, 180, 0, 11, 182, 0, 38, 192, 0, 3]
abbrev dktX5_copy_0 : List UInt8 := dkwX5_copy_0 ++ dktX5_copy_1
theorem dksX5_copy_0 : cX5_copy.data.toList.drop 0 = dktX5_copy_0 := by decide +kernel
theorem dksX5_copy_1 : cX5_copy.data.toList.drop 24 = dktX5_copy_1 := dk_seg dksX5_copy_0 24 rfl rfl
theorem dksX5_copy_2 : cX5_copy.data.toList.drop 47 = dktX5_copy_2 := dk_seg dksX5_copy_1 23 rfl rfl
theorem dksX5_copy_3 : cX5_copy.data.toList.drop 70 = dktX5_copy_3 := dk_seg dksX5_copy_2 23 rfl rfl
theorem dksX5_copy_4 : cX5_copy.data.toList.drop 94 = dktX5_copy_4 := dk_seg dksX5_copy_3 24 rfl rfl
theorem dX5_copy_0 : decode cX5_copy 0 = .ok (.new 6, 3) := dk_187 0 6 (dk_at dksX5_copy_0 0 rfl rfl)
theorem dX5_copy_3 : decode cX5_copy 3 = .ok (.dup, 1) := dk_89 (dk_at dksX5_copy_0 3 rfl rfl)
theorem dX5_copy_4 : decode cX5_copy 4 = .ok (.aload_n 0, 1) := dk_42 (dk_at dksX5_copy_0 4 rfl rfl)
theorem dX5_copy_5 : decode cX5_copy 5 = .ok (.getfield 26, 3) := dk_180 0 26 (dk_at dksX5_copy_0 5 rfl rfl)
theorem dX5_copy_8 : decode cX5_copy 8 = .ok (.iconst 5, 1) := dk_8 (dk_at dksX5_copy_0 8 rfl rfl)
theorem dX5_copy_9 : decode cX5_copy 9 = .ok (.anewarray 3, 3) := dk_189 0 3 (dk_at dksX5_copy_0 9 rfl rfl)
theorem dX5_copy_12 : decode cX5_copy 12 = .ok (.dup, 1) := dk_89 (dk_at dksX5_copy_0 12 rfl rfl)
theorem dX5_copy_13 : decode cX5_copy 13 = .ok (.iconst 0, 1) := dk_3 (dk_at dksX5_copy_0 13 rfl rfl)
theorem dX5_copy_14 : decode cX5_copy 14 = .ok (.aload_n 0, 1) := dk_42 (dk_at dksX5_copy_0 14 rfl rfl)
theorem dX5_copy_15 : decode cX5_copy 15 = .ok (.getfield 11, 3) := dk_180 0 11 (dk_at dksX5_copy_0 15 rfl rfl)
theorem dX5_copy_18 : decode cX5_copy 18 = .ok (.invokevirtual 38, 3) := dk_182 0 38 (dk_at dksX5_copy_0 18 rfl rfl)
theorem dX5_copy_21 : decode cX5_copy 21 = .ok (.checkcast 3, 3) := dk_192 0 3 (dk_at dksX5_copy_0 21 rfl rfl)
theorem dX5_copy_24 : decode cX5_copy 24 = .ok (.aastore, 1) := dk_83 (dk_at dksX5_copy_1 0 rfl rfl)
theorem dX5_copy_25 : decode cX5_copy 25 = .ok (.dup, 1) := dk_89 (dk_at dksX5_copy_1 1 rfl rfl)
theorem dX5_copy_26 : decode cX5_copy 26 = .ok (.iconst 1, 1) := dk_4 (dk_at dksX5_copy_1 2 rfl rfl)
theorem dX5_copy_27 : decode cX5_copy 27 = .ok (.aload_n 0, 1) := dk_42 (dk_at dksX5_copy_1 3 rfl rfl)
theorem dX5_copy_28 : decode cX5_copy 28 = .ok (.getfield 29, 3) := dk_180 0 29 (dk_at dksX5_copy_1 4 rfl rfl)
theorem dX5_copy_31 : decode cX5_copy 31 = .ok (.invokevirtual 38, 3) := dk_182 0 38 (dk_at dksX5_copy_1 7 rfl rfl)
theorem dX5_copy_34 : decode cX5_copy 34 = .ok (.checkcast 3, 3) := dk_192 0 3 (dk_at dksX5_copy_1 10 rfl rfl)
theorem dX5_copy_37 : decode cX5_copy 37 = .ok (.aastore, 1) := dk_83 (dk_at dksX5_copy_1 13 rfl rfl)
theorem dX5_copy_38 : decode cX5_copy 38 = .ok (.dup, 1) := dk_89 (dk_at dksX5_copy_1 14 rfl rfl)
theorem dX5_copy_39 : decode cX5_copy 39 = .ok (.iconst 2, 1) := dk_5 (dk_at dksX5_copy_1 15 rfl rfl)
theorem dX5_copy_40 : decode cX5_copy 40 = .ok (.aload_n 0, 1) := dk_42 (dk_at dksX5_copy_1 16 rfl rfl)
theorem dX5_copy_41 : decode cX5_copy 41 = .ok (.getfield 14, 3) := dk_180 0 14 (dk_at dksX5_copy_1 17 rfl rfl)
theorem dX5_copy_44 : decode cX5_copy 44 = .ok (.invokevirtual 38, 3) := dk_182 0 38 (dk_at dksX5_copy_1 20 rfl rfl)
theorem dX5_copy_47 : decode cX5_copy 47 = .ok (.checkcast 3, 3) := dk_192 0 3 (dk_at dksX5_copy_2 0 rfl rfl)
theorem dX5_copy_50 : decode cX5_copy 50 = .ok (.aastore, 1) := dk_83 (dk_at dksX5_copy_2 3 rfl rfl)
theorem dX5_copy_51 : decode cX5_copy 51 = .ok (.dup, 1) := dk_89 (dk_at dksX5_copy_2 4 rfl rfl)
theorem dX5_copy_52 : decode cX5_copy 52 = .ok (.iconst 3, 1) := dk_6 (dk_at dksX5_copy_2 5 rfl rfl)
theorem dX5_copy_53 : decode cX5_copy 53 = .ok (.aload_n 0, 1) := dk_42 (dk_at dksX5_copy_2 6 rfl rfl)
theorem dX5_copy_54 : decode cX5_copy 54 = .ok (.getfield 32, 3) := dk_180 0 32 (dk_at dksX5_copy_2 7 rfl rfl)
theorem dX5_copy_57 : decode cX5_copy 57 = .ok (.invokevirtual 38, 3) := dk_182 0 38 (dk_at dksX5_copy_2 10 rfl rfl)
theorem dX5_copy_60 : decode cX5_copy 60 = .ok (.checkcast 3, 3) := dk_192 0 3 (dk_at dksX5_copy_2 13 rfl rfl)
theorem dX5_copy_63 : decode cX5_copy 63 = .ok (.aastore, 1) := dk_83 (dk_at dksX5_copy_2 16 rfl rfl)
theorem dX5_copy_64 : decode cX5_copy 64 = .ok (.dup, 1) := dk_89 (dk_at dksX5_copy_2 17 rfl rfl)
theorem dX5_copy_65 : decode cX5_copy 65 = .ok (.iconst 4, 1) := dk_7 (dk_at dksX5_copy_2 18 rfl rfl)
theorem dX5_copy_66 : decode cX5_copy 66 = .ok (.aload_n 0, 1) := dk_42 (dk_at dksX5_copy_2 19 rfl rfl)
theorem dX5_copy_67 : decode cX5_copy 67 = .ok (.getfield 35, 3) := dk_180 0 35 (dk_at dksX5_copy_2 20 rfl rfl)
theorem dX5_copy_70 : decode cX5_copy 70 = .ok (.invokevirtual 38, 3) := dk_182 0 38 (dk_at dksX5_copy_3 0 rfl rfl)
theorem dX5_copy_73 : decode cX5_copy 73 = .ok (.checkcast 3, 3) := dk_192 0 3 (dk_at dksX5_copy_3 3 rfl rfl)
theorem dX5_copy_76 : decode cX5_copy 76 = .ok (.aastore, 1) := dk_83 (dk_at dksX5_copy_3 6 rfl rfl)
theorem dX5_copy_77 : decode cX5_copy 77 = .ok (.invokespecial 5, 3) := dk_183 0 5 (dk_at dksX5_copy_3 7 rfl rfl)
theorem dX5_copy_80 : decode cX5_copy 80 = .ok (.astore_n 1, 1) := dk_76 (dk_at dksX5_copy_3 10 rfl rfl)
theorem dX5_copy_81 : decode cX5_copy 81 = .ok (.aload_n 1, 1) := dk_43 (dk_at dksX5_copy_3 11 rfl rfl)
theorem dX5_copy_82 : decode cX5_copy 82 = .ok (.aload_n 0, 1) := dk_42 (dk_at dksX5_copy_3 12 rfl rfl)
theorem dX5_copy_83 : decode cX5_copy 83 = .ok (.getfield 17, 3) := dk_180 0 17 (dk_at dksX5_copy_3 13 rfl rfl)
theorem dX5_copy_86 : decode cX5_copy 86 = .ok (.putfield 17, 3) := dk_181 0 17 (dk_at dksX5_copy_3 16 rfl rfl)
theorem dX5_copy_89 : decode cX5_copy 89 = .ok (.aload_n 1, 1) := dk_43 (dk_at dksX5_copy_3 19 rfl rfl)
theorem dX5_copy_90 : decode cX5_copy 90 = .ok (.aload_n 0, 1) := dk_42 (dk_at dksX5_copy_3 20 rfl rfl)
theorem dX5_copy_91 : decode cX5_copy 91 = .ok (.getfield 42, 3) := dk_180 0 42 (dk_at dksX5_copy_3 21 rfl rfl)
theorem dX5_copy_94 : decode cX5_copy 94 = .ok (.putfield 42, 3) := dk_181 0 42 (dk_at dksX5_copy_4 0 rfl rfl)
theorem dX5_copy_97 : decode cX5_copy 97 = .ok (.aload_n 1, 1) := dk_43 (dk_at dksX5_copy_4 3 rfl rfl)
theorem dX5_copy_98 : decode cX5_copy 98 = .ok (.areturn, 1) := dk_176 (dk_at dksX5_copy_4 4 rfl rfl)
abbrev cX5_init : ByteArray := prog_18_method_2_code
def yX5_init : MethodName := ⟨RX5, "<init>", "(I[[I)V"⟩
def dkwX5_init_1 : List UInt8 := [44, 5, 50, 181, 0, 14, 42, 44, 6, 50, 181, 0, 32, 42, 44, 7, 50, 181, 0, 35, 177]
abbrev dktX5_init_1 : List UInt8 := dkwX5_init_1 ++ []
def dkwX5_init_0 : List UInt8 := [42, 183, 0, 21, 42, 27, 181, 0, 26, 42, 44, 3, 50, 181, 0, 11, 42, 44, 4, 50, 181, 0, 29, 42]
abbrev dktX5_init_0 : List UInt8 := dkwX5_init_0 ++ dktX5_init_1
theorem dksX5_init_0 : cX5_init.data.toList.drop 0 = dktX5_init_0 := by decide +kernel
theorem dksX5_init_1 : cX5_init.data.toList.drop 24 = dktX5_init_1 := dk_seg dksX5_init_0 24 rfl rfl
theorem dX5_init_0 : decode cX5_init 0 = .ok (.aload_n 0, 1) := dk_42 (dk_at dksX5_init_0 0 rfl rfl)
theorem dX5_init_1 : decode cX5_init 1 = .ok (.invokespecial 21, 3) := dk_183 0 21 (dk_at dksX5_init_0 1 rfl rfl)
theorem dX5_init_4 : decode cX5_init 4 = .ok (.aload_n 0, 1) := dk_42 (dk_at dksX5_init_0 4 rfl rfl)
theorem dX5_init_5 : decode cX5_init 5 = .ok (.iload_n 1, 1) := dk_27 (dk_at dksX5_init_0 5 rfl rfl)
theorem dX5_init_6 : decode cX5_init 6 = .ok (.putfield 26, 3) := dk_181 0 26 (dk_at dksX5_init_0 6 rfl rfl)
theorem dX5_init_9 : decode cX5_init 9 = .ok (.aload_n 0, 1) := dk_42 (dk_at dksX5_init_0 9 rfl rfl)
theorem dX5_init_10 : decode cX5_init 10 = .ok (.aload_n 2, 1) := dk_44 (dk_at dksX5_init_0 10 rfl rfl)
theorem dX5_init_11 : decode cX5_init 11 = .ok (.iconst 0, 1) := dk_3 (dk_at dksX5_init_0 11 rfl rfl)
theorem dX5_init_12 : decode cX5_init 12 = .ok (.aaload, 1) := dk_50 (dk_at dksX5_init_0 12 rfl rfl)
theorem dX5_init_13 : decode cX5_init 13 = .ok (.putfield 11, 3) := dk_181 0 11 (dk_at dksX5_init_0 13 rfl rfl)
theorem dX5_init_16 : decode cX5_init 16 = .ok (.aload_n 0, 1) := dk_42 (dk_at dksX5_init_0 16 rfl rfl)
theorem dX5_init_17 : decode cX5_init 17 = .ok (.aload_n 2, 1) := dk_44 (dk_at dksX5_init_0 17 rfl rfl)
theorem dX5_init_18 : decode cX5_init 18 = .ok (.iconst 1, 1) := dk_4 (dk_at dksX5_init_0 18 rfl rfl)
theorem dX5_init_19 : decode cX5_init 19 = .ok (.aaload, 1) := dk_50 (dk_at dksX5_init_0 19 rfl rfl)
theorem dX5_init_20 : decode cX5_init 20 = .ok (.putfield 29, 3) := dk_181 0 29 (dk_at dksX5_init_0 20 rfl rfl)
theorem dX5_init_23 : decode cX5_init 23 = .ok (.aload_n 0, 1) := dk_42 (dk_at dksX5_init_0 23 rfl rfl)
theorem dX5_init_24 : decode cX5_init 24 = .ok (.aload_n 2, 1) := dk_44 (dk_at dksX5_init_1 0 rfl rfl)
theorem dX5_init_25 : decode cX5_init 25 = .ok (.iconst 2, 1) := dk_5 (dk_at dksX5_init_1 1 rfl rfl)
theorem dX5_init_26 : decode cX5_init 26 = .ok (.aaload, 1) := dk_50 (dk_at dksX5_init_1 2 rfl rfl)
theorem dX5_init_27 : decode cX5_init 27 = .ok (.putfield 14, 3) := dk_181 0 14 (dk_at dksX5_init_1 3 rfl rfl)
theorem dX5_init_30 : decode cX5_init 30 = .ok (.aload_n 0, 1) := dk_42 (dk_at dksX5_init_1 6 rfl rfl)
theorem dX5_init_31 : decode cX5_init 31 = .ok (.aload_n 2, 1) := dk_44 (dk_at dksX5_init_1 7 rfl rfl)
theorem dX5_init_32 : decode cX5_init 32 = .ok (.iconst 3, 1) := dk_6 (dk_at dksX5_init_1 8 rfl rfl)
theorem dX5_init_33 : decode cX5_init 33 = .ok (.aaload, 1) := dk_50 (dk_at dksX5_init_1 9 rfl rfl)
theorem dX5_init_34 : decode cX5_init 34 = .ok (.putfield 32, 3) := dk_181 0 32 (dk_at dksX5_init_1 10 rfl rfl)
theorem dX5_init_37 : decode cX5_init 37 = .ok (.aload_n 0, 1) := dk_42 (dk_at dksX5_init_1 13 rfl rfl)
theorem dX5_init_38 : decode cX5_init 38 = .ok (.aload_n 2, 1) := dk_44 (dk_at dksX5_init_1 14 rfl rfl)
theorem dX5_init_39 : decode cX5_init 39 = .ok (.iconst 4, 1) := dk_7 (dk_at dksX5_init_1 15 rfl rfl)
theorem dX5_init_40 : decode cX5_init 40 = .ok (.aaload, 1) := dk_50 (dk_at dksX5_init_1 16 rfl rfl)
theorem dX5_init_41 : decode cX5_init 41 = .ok (.putfield 35, 3) := dk_181 0 35 (dk_at dksX5_init_1 17 rfl rfl)
theorem dX5_init_44 : decode cX5_init 44 = .ok (.return_, 1) := dk_177 (dk_at dksX5_init_1 20 rfl rfl)
abbrev cX5_init_2 : ByteArray := prog_18_method_1_code
def yX5_init_2 : MethodName := ⟨RX5, "<init>", "(III)V"⟩
def dkwX5_init_2_2 : List UInt8 := [3, 27, 79, 42, 180, 0, 14, 3, 28, 79, 42, 4, 181, 0, 17, 177]
abbrev dktX5_init_2_2 : List UInt8 := dkwX5_init_2_2 ++ []
def dkwX5_init_2_1 : List UInt8 := [188, 10, 83, 89, 6, 16, 8, 188, 10, 83, 89, 7, 16, 8, 188, 10, 83, 183, 0, 5, 42, 180, 0, 11]
abbrev dktX5_init_2_1 : List UInt8 := dkwX5_init_2_1 ++ dktX5_init_2_2
def dkwX5_init_2_0 : List UInt8 := [42, 29, 8, 189, 0, 3, 89, 3, 16, 8, 188, 10, 83, 89, 4, 16, 8, 188, 10, 83, 89, 5, 16, 8]
abbrev dktX5_init_2_0 : List UInt8 := dkwX5_init_2_0 ++ dktX5_init_2_1
theorem dksX5_init_2_0 : cX5_init_2.data.toList.drop 0 = dktX5_init_2_0 := by decide +kernel
theorem dksX5_init_2_1 : cX5_init_2.data.toList.drop 24 = dktX5_init_2_1 := dk_seg dksX5_init_2_0 24 rfl rfl
theorem dksX5_init_2_2 : cX5_init_2.data.toList.drop 48 = dktX5_init_2_2 := dk_seg dksX5_init_2_1 24 rfl rfl
theorem dX5_init_2_0 : decode cX5_init_2 0 = .ok (.aload_n 0, 1) := dk_42 (dk_at dksX5_init_2_0 0 rfl rfl)
theorem dX5_init_2_1 : decode cX5_init_2 1 = .ok (.iload_n 3, 1) := dk_29 (dk_at dksX5_init_2_0 1 rfl rfl)
theorem dX5_init_2_2 : decode cX5_init_2 2 = .ok (.iconst 5, 1) := dk_8 (dk_at dksX5_init_2_0 2 rfl rfl)
theorem dX5_init_2_3 : decode cX5_init_2 3 = .ok (.anewarray 3, 3) := dk_189 0 3 (dk_at dksX5_init_2_0 3 rfl rfl)
theorem dX5_init_2_6 : decode cX5_init_2 6 = .ok (.dup, 1) := dk_89 (dk_at dksX5_init_2_0 6 rfl rfl)
theorem dX5_init_2_7 : decode cX5_init_2 7 = .ok (.iconst 0, 1) := dk_3 (dk_at dksX5_init_2_0 7 rfl rfl)
theorem dX5_init_2_8 : decode cX5_init_2 8 = .ok (.bipush 8, 2) := dk_16 8 (dk_at dksX5_init_2_0 8 rfl rfl)
theorem dX5_init_2_10 : decode cX5_init_2 10 = .ok (.newarray .int, 2) := dk_188_10 (dk_at dksX5_init_2_0 10 rfl rfl)
theorem dX5_init_2_12 : decode cX5_init_2 12 = .ok (.aastore, 1) := dk_83 (dk_at dksX5_init_2_0 12 rfl rfl)
theorem dX5_init_2_13 : decode cX5_init_2 13 = .ok (.dup, 1) := dk_89 (dk_at dksX5_init_2_0 13 rfl rfl)
theorem dX5_init_2_14 : decode cX5_init_2 14 = .ok (.iconst 1, 1) := dk_4 (dk_at dksX5_init_2_0 14 rfl rfl)
theorem dX5_init_2_15 : decode cX5_init_2 15 = .ok (.bipush 8, 2) := dk_16 8 (dk_at dksX5_init_2_0 15 rfl rfl)
theorem dX5_init_2_17 : decode cX5_init_2 17 = .ok (.newarray .int, 2) := dk_188_10 (dk_at dksX5_init_2_0 17 rfl rfl)
theorem dX5_init_2_19 : decode cX5_init_2 19 = .ok (.aastore, 1) := dk_83 (dk_at dksX5_init_2_0 19 rfl rfl)
theorem dX5_init_2_20 : decode cX5_init_2 20 = .ok (.dup, 1) := dk_89 (dk_at dksX5_init_2_0 20 rfl rfl)
theorem dX5_init_2_21 : decode cX5_init_2 21 = .ok (.iconst 2, 1) := dk_5 (dk_at dksX5_init_2_0 21 rfl rfl)
theorem dX5_init_2_22 : decode cX5_init_2 22 = .ok (.bipush 8, 2) := dk_16 8 (dk_at dksX5_init_2_0 22 rfl rfl)
theorem dX5_init_2_24 : decode cX5_init_2 24 = .ok (.newarray .int, 2) := dk_188_10 (dk_at dksX5_init_2_1 0 rfl rfl)
theorem dX5_init_2_26 : decode cX5_init_2 26 = .ok (.aastore, 1) := dk_83 (dk_at dksX5_init_2_1 2 rfl rfl)
theorem dX5_init_2_27 : decode cX5_init_2 27 = .ok (.dup, 1) := dk_89 (dk_at dksX5_init_2_1 3 rfl rfl)
theorem dX5_init_2_28 : decode cX5_init_2 28 = .ok (.iconst 3, 1) := dk_6 (dk_at dksX5_init_2_1 4 rfl rfl)
theorem dX5_init_2_29 : decode cX5_init_2 29 = .ok (.bipush 8, 2) := dk_16 8 (dk_at dksX5_init_2_1 5 rfl rfl)
theorem dX5_init_2_31 : decode cX5_init_2 31 = .ok (.newarray .int, 2) := dk_188_10 (dk_at dksX5_init_2_1 7 rfl rfl)
theorem dX5_init_2_33 : decode cX5_init_2 33 = .ok (.aastore, 1) := dk_83 (dk_at dksX5_init_2_1 9 rfl rfl)
theorem dX5_init_2_34 : decode cX5_init_2 34 = .ok (.dup, 1) := dk_89 (dk_at dksX5_init_2_1 10 rfl rfl)
theorem dX5_init_2_35 : decode cX5_init_2 35 = .ok (.iconst 4, 1) := dk_7 (dk_at dksX5_init_2_1 11 rfl rfl)
theorem dX5_init_2_36 : decode cX5_init_2 36 = .ok (.bipush 8, 2) := dk_16 8 (dk_at dksX5_init_2_1 12 rfl rfl)
theorem dX5_init_2_38 : decode cX5_init_2 38 = .ok (.newarray .int, 2) := dk_188_10 (dk_at dksX5_init_2_1 14 rfl rfl)
theorem dX5_init_2_40 : decode cX5_init_2 40 = .ok (.aastore, 1) := dk_83 (dk_at dksX5_init_2_1 16 rfl rfl)
theorem dX5_init_2_41 : decode cX5_init_2 41 = .ok (.invokespecial 5, 3) := dk_183 0 5 (dk_at dksX5_init_2_1 17 rfl rfl)
theorem dX5_init_2_44 : decode cX5_init_2 44 = .ok (.aload_n 0, 1) := dk_42 (dk_at dksX5_init_2_1 20 rfl rfl)
theorem dX5_init_2_45 : decode cX5_init_2 45 = .ok (.getfield 11, 3) := dk_180 0 11 (dk_at dksX5_init_2_1 21 rfl rfl)
theorem dX5_init_2_48 : decode cX5_init_2 48 = .ok (.iconst 0, 1) := dk_3 (dk_at dksX5_init_2_2 0 rfl rfl)
theorem dX5_init_2_49 : decode cX5_init_2 49 = .ok (.iload_n 1, 1) := dk_27 (dk_at dksX5_init_2_2 1 rfl rfl)
theorem dX5_init_2_50 : decode cX5_init_2 50 = .ok (.iastore, 1) := dk_79 (dk_at dksX5_init_2_2 2 rfl rfl)
theorem dX5_init_2_51 : decode cX5_init_2 51 = .ok (.aload_n 0, 1) := dk_42 (dk_at dksX5_init_2_2 3 rfl rfl)
theorem dX5_init_2_52 : decode cX5_init_2 52 = .ok (.getfield 14, 3) := dk_180 0 14 (dk_at dksX5_init_2_2 4 rfl rfl)
theorem dX5_init_2_55 : decode cX5_init_2 55 = .ok (.iconst 0, 1) := dk_3 (dk_at dksX5_init_2_2 7 rfl rfl)
theorem dX5_init_2_56 : decode cX5_init_2 56 = .ok (.iload_n 2, 1) := dk_28 (dk_at dksX5_init_2_2 8 rfl rfl)
theorem dX5_init_2_57 : decode cX5_init_2 57 = .ok (.iastore, 1) := dk_79 (dk_at dksX5_init_2_2 9 rfl rfl)
theorem dX5_init_2_58 : decode cX5_init_2 58 = .ok (.aload_n 0, 1) := dk_42 (dk_at dksX5_init_2_2 10 rfl rfl)
theorem dX5_init_2_59 : decode cX5_init_2 59 = .ok (.iconst 1, 1) := dk_4 (dk_at dksX5_init_2_2 11 rfl rfl)
theorem dX5_init_2_60 : decode cX5_init_2 60 = .ok (.putfield 17, 3) := dk_181 0 17 (dk_at dksX5_init_2_2 12 rfl rfl)
theorem dX5_init_2_63 : decode cX5_init_2 63 = .ok (.return_, 1) := dk_177 (dk_at dksX5_init_2_2 15 rfl rfl)
abbrev cX5_extend : ByteArray := prog_18_method_4_code
def yX5_extend : MethodName := ⟨RX5, "extend", "(III)I"⟩
def dkwX5_extend_2 : List UInt8 := [180, 0, 17, 46, 29, 96, 79, 42, 89, 180, 0, 17, 4, 96, 181, 0, 17, 42, 180, 0, 17, 4, 100, 172]
abbrev dktX5_extend_2 : List UInt8 := dkwX5_extend_2 ++ []
def dkwX5_extend_1 : List UInt8 := [180, 0, 17, 4, 100, 46, 28, 96, 79, 42, 180, 0, 14, 42, 180, 0, 17, 42, 180, 0, 29, 42]
abbrev dktX5_extend_1 : List UInt8 := dkwX5_extend_1 ++ dktX5_extend_2
def dkwX5_extend_0 : List UInt8 := [42, 180, 0, 11, 42, 180, 0, 17, 27, 79, 42, 180, 0, 29, 42, 180, 0, 17, 42, 180, 0, 14, 42]
abbrev dktX5_extend_0 : List UInt8 := dkwX5_extend_0 ++ dktX5_extend_1
theorem dksX5_extend_0 : cX5_extend.data.toList.drop 0 = dktX5_extend_0 := by decide +kernel
theorem dksX5_extend_1 : cX5_extend.data.toList.drop 23 = dktX5_extend_1 := dk_seg dksX5_extend_0 23 rfl rfl
theorem dksX5_extend_2 : cX5_extend.data.toList.drop 45 = dktX5_extend_2 := dk_seg dksX5_extend_1 22 rfl rfl
theorem dX5_extend_0 : decode cX5_extend 0 = .ok (.aload_n 0, 1) := dk_42 (dk_at dksX5_extend_0 0 rfl rfl)
theorem dX5_extend_1 : decode cX5_extend 1 = .ok (.getfield 11, 3) := dk_180 0 11 (dk_at dksX5_extend_0 1 rfl rfl)
theorem dX5_extend_4 : decode cX5_extend 4 = .ok (.aload_n 0, 1) := dk_42 (dk_at dksX5_extend_0 4 rfl rfl)
theorem dX5_extend_5 : decode cX5_extend 5 = .ok (.getfield 17, 3) := dk_180 0 17 (dk_at dksX5_extend_0 5 rfl rfl)
theorem dX5_extend_8 : decode cX5_extend 8 = .ok (.iload_n 1, 1) := dk_27 (dk_at dksX5_extend_0 8 rfl rfl)
theorem dX5_extend_9 : decode cX5_extend 9 = .ok (.iastore, 1) := dk_79 (dk_at dksX5_extend_0 9 rfl rfl)
theorem dX5_extend_10 : decode cX5_extend 10 = .ok (.aload_n 0, 1) := dk_42 (dk_at dksX5_extend_0 10 rfl rfl)
theorem dX5_extend_11 : decode cX5_extend 11 = .ok (.getfield 29, 3) := dk_180 0 29 (dk_at dksX5_extend_0 11 rfl rfl)
theorem dX5_extend_14 : decode cX5_extend 14 = .ok (.aload_n 0, 1) := dk_42 (dk_at dksX5_extend_0 14 rfl rfl)
theorem dX5_extend_15 : decode cX5_extend 15 = .ok (.getfield 17, 3) := dk_180 0 17 (dk_at dksX5_extend_0 15 rfl rfl)
theorem dX5_extend_18 : decode cX5_extend 18 = .ok (.aload_n 0, 1) := dk_42 (dk_at dksX5_extend_0 18 rfl rfl)
theorem dX5_extend_19 : decode cX5_extend 19 = .ok (.getfield 14, 3) := dk_180 0 14 (dk_at dksX5_extend_0 19 rfl rfl)
theorem dX5_extend_22 : decode cX5_extend 22 = .ok (.aload_n 0, 1) := dk_42 (dk_at dksX5_extend_0 22 rfl rfl)
theorem dX5_extend_23 : decode cX5_extend 23 = .ok (.getfield 17, 3) := dk_180 0 17 (dk_at dksX5_extend_1 0 rfl rfl)
theorem dX5_extend_26 : decode cX5_extend 26 = .ok (.iconst 1, 1) := dk_4 (dk_at dksX5_extend_1 3 rfl rfl)
theorem dX5_extend_27 : decode cX5_extend 27 = .ok (.isub, 1) := dk_100 (dk_at dksX5_extend_1 4 rfl rfl)
theorem dX5_extend_28 : decode cX5_extend 28 = .ok (.iaload, 1) := dk_46 (dk_at dksX5_extend_1 5 rfl rfl)
theorem dX5_extend_29 : decode cX5_extend 29 = .ok (.iload_n 2, 1) := dk_28 (dk_at dksX5_extend_1 6 rfl rfl)
theorem dX5_extend_30 : decode cX5_extend 30 = .ok (.iadd, 1) := dk_96 (dk_at dksX5_extend_1 7 rfl rfl)
theorem dX5_extend_31 : decode cX5_extend 31 = .ok (.iastore, 1) := dk_79 (dk_at dksX5_extend_1 8 rfl rfl)
theorem dX5_extend_32 : decode cX5_extend 32 = .ok (.aload_n 0, 1) := dk_42 (dk_at dksX5_extend_1 9 rfl rfl)
theorem dX5_extend_33 : decode cX5_extend 33 = .ok (.getfield 14, 3) := dk_180 0 14 (dk_at dksX5_extend_1 10 rfl rfl)
theorem dX5_extend_36 : decode cX5_extend 36 = .ok (.aload_n 0, 1) := dk_42 (dk_at dksX5_extend_1 13 rfl rfl)
theorem dX5_extend_37 : decode cX5_extend 37 = .ok (.getfield 17, 3) := dk_180 0 17 (dk_at dksX5_extend_1 14 rfl rfl)
theorem dX5_extend_40 : decode cX5_extend 40 = .ok (.aload_n 0, 1) := dk_42 (dk_at dksX5_extend_1 17 rfl rfl)
theorem dX5_extend_41 : decode cX5_extend 41 = .ok (.getfield 29, 3) := dk_180 0 29 (dk_at dksX5_extend_1 18 rfl rfl)
theorem dX5_extend_44 : decode cX5_extend 44 = .ok (.aload_n 0, 1) := dk_42 (dk_at dksX5_extend_1 21 rfl rfl)
theorem dX5_extend_45 : decode cX5_extend 45 = .ok (.getfield 17, 3) := dk_180 0 17 (dk_at dksX5_extend_2 0 rfl rfl)
theorem dX5_extend_48 : decode cX5_extend 48 = .ok (.iaload, 1) := dk_46 (dk_at dksX5_extend_2 3 rfl rfl)
theorem dX5_extend_49 : decode cX5_extend 49 = .ok (.iload_n 3, 1) := dk_29 (dk_at dksX5_extend_2 4 rfl rfl)
theorem dX5_extend_50 : decode cX5_extend 50 = .ok (.iadd, 1) := dk_96 (dk_at dksX5_extend_2 5 rfl rfl)
theorem dX5_extend_51 : decode cX5_extend 51 = .ok (.iastore, 1) := dk_79 (dk_at dksX5_extend_2 6 rfl rfl)
theorem dX5_extend_52 : decode cX5_extend 52 = .ok (.aload_n 0, 1) := dk_42 (dk_at dksX5_extend_2 7 rfl rfl)
theorem dX5_extend_53 : decode cX5_extend 53 = .ok (.dup, 1) := dk_89 (dk_at dksX5_extend_2 8 rfl rfl)
theorem dX5_extend_54 : decode cX5_extend 54 = .ok (.getfield 17, 3) := dk_180 0 17 (dk_at dksX5_extend_2 9 rfl rfl)
theorem dX5_extend_57 : decode cX5_extend 57 = .ok (.iconst 1, 1) := dk_4 (dk_at dksX5_extend_2 12 rfl rfl)
theorem dX5_extend_58 : decode cX5_extend 58 = .ok (.iadd, 1) := dk_96 (dk_at dksX5_extend_2 13 rfl rfl)
theorem dX5_extend_59 : decode cX5_extend 59 = .ok (.putfield 17, 3) := dk_181 0 17 (dk_at dksX5_extend_2 14 rfl rfl)
theorem dX5_extend_62 : decode cX5_extend 62 = .ok (.aload_n 0, 1) := dk_42 (dk_at dksX5_extend_2 17 rfl rfl)
theorem dX5_extend_63 : decode cX5_extend 63 = .ok (.getfield 17, 3) := dk_180 0 17 (dk_at dksX5_extend_2 18 rfl rfl)
theorem dX5_extend_66 : decode cX5_extend 66 = .ok (.iconst 1, 1) := dk_4 (dk_at dksX5_extend_2 21 rfl rfl)
theorem dX5_extend_67 : decode cX5_extend 67 = .ok (.isub, 1) := dk_100 (dk_at dksX5_extend_2 22 rfl rfl)
theorem dX5_extend_68 : decode cX5_extend 68 = .ok (.ireturn, 1) := dk_172 (dk_at dksX5_extend_2 23 rfl rfl)
abbrev cX5_hasStop : ByteArray := prog_18_method_5_code
def yX5_hasStop : MethodName := ⟨RX5, "hasStop", "(I)Z"⟩
def dkwX5_hasStop_0 : List UInt8 := [27, 3, 42, 180, 0, 17, 4, 100, 184, 0, 45, 172]
abbrev dktX5_hasStop_0 : List UInt8 := dkwX5_hasStop_0 ++ []
theorem dksX5_hasStop_0 : cX5_hasStop.data.toList.drop 0 = dktX5_hasStop_0 := by decide +kernel
theorem dX5_hasStop_0 : decode cX5_hasStop 0 = .ok (.iload_n 1, 1) := dk_27 (dk_at dksX5_hasStop_0 0 rfl rfl)
theorem dX5_hasStop_1 : decode cX5_hasStop 1 = .ok (.iconst 0, 1) := dk_3 (dk_at dksX5_hasStop_0 1 rfl rfl)
theorem dX5_hasStop_2 : decode cX5_hasStop 2 = .ok (.aload_n 0, 1) := dk_42 (dk_at dksX5_hasStop_0 2 rfl rfl)
theorem dX5_hasStop_3 : decode cX5_hasStop 3 = .ok (.getfield 17, 3) := dk_180 0 17 (dk_at dksX5_hasStop_0 3 rfl rfl)
theorem dX5_hasStop_6 : decode cX5_hasStop 6 = .ok (.iconst 1, 1) := dk_4 (dk_at dksX5_hasStop_0 6 rfl rfl)
theorem dX5_hasStop_7 : decode cX5_hasStop 7 = .ok (.isub, 1) := dk_100 (dk_at dksX5_hasStop_0 7 rfl rfl)
theorem dX5_hasStop_8 : decode cX5_hasStop 8 = .ok (.invokestatic 45, 3) := dk_184 0 45 (dk_at dksX5_hasStop_0 8 rfl rfl)
theorem dX5_hasStop_11 : decode cX5_hasStop 11 = .ok (.ireturn, 1) := dk_172 (dk_at dksX5_hasStop_0 11 rfl rfl)
abbrev cX5_toString : ByteArray := prog_18_method_12_code
def yX5_toString : MethodName := ⟨RX5, "toString", "()Ljava/lang/String;"⟩
def dkwX5_toString_5 : List UInt8 := [176]
abbrev dktX5_toString_5 : List UInt8 := dkwX5_toString_5 ++ []
def dkwX5_toString_4 : List UInt8 := [183, 0, 55, 18, 71, 182, 0, 60, 42, 180, 0, 42, 182, 0, 64, 182, 0, 67, 182, 0, 60, 182, 0, 67]
abbrev dktX5_toString_4 : List UInt8 := dkwX5_toString_4 ++ dktX5_toString_5
def dkwX5_toString_3 : List UInt8 := [132, 2, 1, 167, 255, 192, 43, 42, 180, 0, 42, 154, 0, 8, 18, 56, 167, 0, 25, 187, 0, 53, 89]
abbrev dktX5_toString_3 : List UInt8 := dkwX5_toString_3 ++ dktX5_toString_4
def dkwX5_toString_2 : List UInt8 := [182, 0, 64, 18, 58, 182, 0, 60, 182, 0, 67, 182, 0, 60, 42, 180, 0, 11, 28, 46, 182, 0, 64, 87]
abbrev dktX5_toString_2 : List UInt8 := dkwX5_toString_2 ++ dktX5_toString_3
def dkwX5_toString_1 : List UInt8 := [18, 56, 167, 0, 33, 187, 0, 53, 89, 183, 0, 55, 18, 58, 182, 0, 60, 42, 28, 4, 100, 182, 0, 49]
abbrev dktX5_toString_1 : List UInt8 := dkwX5_toString_1 ++ dktX5_toString_2
def dkwX5_toString_0 : List UInt8 := [187, 0, 53, 89, 183, 0, 55, 76, 3, 61, 28, 42, 180, 0, 17, 162, 0, 62, 43, 28, 154, 0, 8]
abbrev dktX5_toString_0 : List UInt8 := dkwX5_toString_0 ++ dktX5_toString_1
theorem dksX5_toString_0 : cX5_toString.data.toList.drop 0 = dktX5_toString_0 := by decide +kernel
theorem dksX5_toString_1 : cX5_toString.data.toList.drop 23 = dktX5_toString_1 := dk_seg dksX5_toString_0 23 rfl rfl
theorem dksX5_toString_2 : cX5_toString.data.toList.drop 47 = dktX5_toString_2 := dk_seg dksX5_toString_1 24 rfl rfl
theorem dksX5_toString_3 : cX5_toString.data.toList.drop 71 = dktX5_toString_3 := dk_seg dksX5_toString_2 24 rfl rfl
theorem dksX5_toString_4 : cX5_toString.data.toList.drop 94 = dktX5_toString_4 := dk_seg dksX5_toString_3 23 rfl rfl
theorem dksX5_toString_5 : cX5_toString.data.toList.drop 118 = dktX5_toString_5 := dk_seg dksX5_toString_4 24 rfl rfl
theorem dX5_toString_0 : decode cX5_toString 0 = .ok (.new 53, 3) := dk_187 0 53 (dk_at dksX5_toString_0 0 rfl rfl)
theorem dX5_toString_3 : decode cX5_toString 3 = .ok (.dup, 1) := dk_89 (dk_at dksX5_toString_0 3 rfl rfl)
theorem dX5_toString_4 : decode cX5_toString 4 = .ok (.invokespecial 55, 3) := dk_183 0 55 (dk_at dksX5_toString_0 4 rfl rfl)
theorem dX5_toString_7 : decode cX5_toString 7 = .ok (.astore_n 1, 1) := dk_76 (dk_at dksX5_toString_0 7 rfl rfl)
theorem dX5_toString_8 : decode cX5_toString 8 = .ok (.iconst 0, 1) := dk_3 (dk_at dksX5_toString_0 8 rfl rfl)
theorem dX5_toString_9 : decode cX5_toString 9 = .ok (.istore_n 2, 1) := dk_61 (dk_at dksX5_toString_0 9 rfl rfl)
theorem dX5_toString_10 : decode cX5_toString 10 = .ok (.iload_n 2, 1) := dk_28 (dk_at dksX5_toString_0 10 rfl rfl)
theorem dX5_toString_11 : decode cX5_toString 11 = .ok (.aload_n 0, 1) := dk_42 (dk_at dksX5_toString_0 11 rfl rfl)
theorem dX5_toString_12 : decode cX5_toString 12 = .ok (.getfield 17, 3) := dk_180 0 17 (dk_at dksX5_toString_0 12 rfl rfl)
theorem dX5_toString_15 : decode cX5_toString 15 = .ok (.if_icmp .ge 62, 3) := dk_162 0 62 (dk_at dksX5_toString_0 15 rfl rfl)
theorem dX5_toString_18 : decode cX5_toString 18 = .ok (.aload_n 1, 1) := dk_43 (dk_at dksX5_toString_0 18 rfl rfl)
theorem dX5_toString_19 : decode cX5_toString 19 = .ok (.iload_n 2, 1) := dk_28 (dk_at dksX5_toString_0 19 rfl rfl)
theorem dX5_toString_20 : decode cX5_toString 20 = .ok (.ifCond .ne 8, 3) := dk_154 0 8 (dk_at dksX5_toString_0 20 rfl rfl)
theorem dX5_toString_23 : decode cX5_toString 23 = .ok (.ldc 56, 2) := dk_18 56 (dk_at dksX5_toString_1 0 rfl rfl)
theorem dX5_toString_25 : decode cX5_toString 25 = .ok (.goto 33, 3) := dk_167 0 33 (dk_at dksX5_toString_1 2 rfl rfl)
theorem dX5_toString_28 : decode cX5_toString 28 = .ok (.new 53, 3) := dk_187 0 53 (dk_at dksX5_toString_1 5 rfl rfl)
theorem dX5_toString_31 : decode cX5_toString 31 = .ok (.dup, 1) := dk_89 (dk_at dksX5_toString_1 8 rfl rfl)
theorem dX5_toString_32 : decode cX5_toString 32 = .ok (.invokespecial 55, 3) := dk_183 0 55 (dk_at dksX5_toString_1 9 rfl rfl)
theorem dX5_toString_35 : decode cX5_toString 35 = .ok (.ldc 58, 2) := dk_18 58 (dk_at dksX5_toString_1 12 rfl rfl)
theorem dX5_toString_37 : decode cX5_toString 37 = .ok (.invokevirtual 60, 3) := dk_182 0 60 (dk_at dksX5_toString_1 14 rfl rfl)
theorem dX5_toString_40 : decode cX5_toString 40 = .ok (.aload_n 0, 1) := dk_42 (dk_at dksX5_toString_1 17 rfl rfl)
theorem dX5_toString_41 : decode cX5_toString 41 = .ok (.iload_n 2, 1) := dk_28 (dk_at dksX5_toString_1 18 rfl rfl)
theorem dX5_toString_42 : decode cX5_toString 42 = .ok (.iconst 1, 1) := dk_4 (dk_at dksX5_toString_1 19 rfl rfl)
theorem dX5_toString_43 : decode cX5_toString 43 = .ok (.isub, 1) := dk_100 (dk_at dksX5_toString_1 20 rfl rfl)
theorem dX5_toString_44 : decode cX5_toString 44 = .ok (.invokevirtual 49, 3) := dk_182 0 49 (dk_at dksX5_toString_1 21 rfl rfl)
theorem dX5_toString_47 : decode cX5_toString 47 = .ok (.invokevirtual 64, 3) := dk_182 0 64 (dk_at dksX5_toString_2 0 rfl rfl)
theorem dX5_toString_50 : decode cX5_toString 50 = .ok (.ldc 58, 2) := dk_18 58 (dk_at dksX5_toString_2 3 rfl rfl)
theorem dX5_toString_52 : decode cX5_toString 52 = .ok (.invokevirtual 60, 3) := dk_182 0 60 (dk_at dksX5_toString_2 5 rfl rfl)
theorem dX5_toString_55 : decode cX5_toString 55 = .ok (.invokevirtual 67, 3) := dk_182 0 67 (dk_at dksX5_toString_2 8 rfl rfl)
theorem dX5_toString_58 : decode cX5_toString 58 = .ok (.invokevirtual 60, 3) := dk_182 0 60 (dk_at dksX5_toString_2 11 rfl rfl)
theorem dX5_toString_61 : decode cX5_toString 61 = .ok (.aload_n 0, 1) := dk_42 (dk_at dksX5_toString_2 14 rfl rfl)
theorem dX5_toString_62 : decode cX5_toString 62 = .ok (.getfield 11, 3) := dk_180 0 11 (dk_at dksX5_toString_2 15 rfl rfl)
theorem dX5_toString_65 : decode cX5_toString 65 = .ok (.iload_n 2, 1) := dk_28 (dk_at dksX5_toString_2 18 rfl rfl)
theorem dX5_toString_66 : decode cX5_toString 66 = .ok (.iaload, 1) := dk_46 (dk_at dksX5_toString_2 19 rfl rfl)
theorem dX5_toString_67 : decode cX5_toString 67 = .ok (.invokevirtual 64, 3) := dk_182 0 64 (dk_at dksX5_toString_2 20 rfl rfl)
theorem dX5_toString_70 : decode cX5_toString 70 = .ok (.pop, 1) := dk_87 (dk_at dksX5_toString_2 23 rfl rfl)
theorem dX5_toString_71 : decode cX5_toString 71 = .ok (.iinc 2 1, 3) := dk_132 2 1 (dk_at dksX5_toString_3 0 rfl rfl)
theorem dX5_toString_74 : decode cX5_toString 74 = .ok (.goto (-64), 3) := dk_167 255 192 (dk_at dksX5_toString_3 3 rfl rfl)
theorem dX5_toString_77 : decode cX5_toString 77 = .ok (.aload_n 1, 1) := dk_43 (dk_at dksX5_toString_3 6 rfl rfl)
theorem dX5_toString_78 : decode cX5_toString 78 = .ok (.aload_n 0, 1) := dk_42 (dk_at dksX5_toString_3 7 rfl rfl)
theorem dX5_toString_79 : decode cX5_toString 79 = .ok (.getfield 42, 3) := dk_180 0 42 (dk_at dksX5_toString_3 8 rfl rfl)
theorem dX5_toString_82 : decode cX5_toString 82 = .ok (.ifCond .ne 8, 3) := dk_154 0 8 (dk_at dksX5_toString_3 11 rfl rfl)
theorem dX5_toString_85 : decode cX5_toString 85 = .ok (.ldc 56, 2) := dk_18 56 (dk_at dksX5_toString_3 14 rfl rfl)
theorem dX5_toString_87 : decode cX5_toString 87 = .ok (.goto 25, 3) := dk_167 0 25 (dk_at dksX5_toString_3 16 rfl rfl)
theorem dX5_toString_90 : decode cX5_toString 90 = .ok (.new 53, 3) := dk_187 0 53 (dk_at dksX5_toString_3 19 rfl rfl)
theorem dX5_toString_93 : decode cX5_toString 93 = .ok (.dup, 1) := dk_89 (dk_at dksX5_toString_3 22 rfl rfl)
theorem dX5_toString_94 : decode cX5_toString 94 = .ok (.invokespecial 55, 3) := dk_183 0 55 (dk_at dksX5_toString_4 0 rfl rfl)
theorem dX5_toString_97 : decode cX5_toString 97 = .ok (.ldc 71, 2) := dk_18 71 (dk_at dksX5_toString_4 3 rfl rfl)
theorem dX5_toString_99 : decode cX5_toString 99 = .ok (.invokevirtual 60, 3) := dk_182 0 60 (dk_at dksX5_toString_4 5 rfl rfl)
theorem dX5_toString_102 : decode cX5_toString 102 = .ok (.aload_n 0, 1) := dk_42 (dk_at dksX5_toString_4 8 rfl rfl)
theorem dX5_toString_103 : decode cX5_toString 103 = .ok (.getfield 42, 3) := dk_180 0 42 (dk_at dksX5_toString_4 9 rfl rfl)
theorem dX5_toString_106 : decode cX5_toString 106 = .ok (.invokevirtual 64, 3) := dk_182 0 64 (dk_at dksX5_toString_4 12 rfl rfl)
theorem dX5_toString_109 : decode cX5_toString 109 = .ok (.invokevirtual 67, 3) := dk_182 0 67 (dk_at dksX5_toString_4 15 rfl rfl)
theorem dX5_toString_112 : decode cX5_toString 112 = .ok (.invokevirtual 60, 3) := dk_182 0 60 (dk_at dksX5_toString_4 18 rfl rfl)
theorem dX5_toString_115 : decode cX5_toString 115 = .ok (.invokevirtual 67, 3) := dk_182 0 67 (dk_at dksX5_toString_4 21 rfl rfl)
theorem dX5_toString_118 : decode cX5_toString 118 = .ok (.areturn, 1) := dk_176 (dk_at dksX5_toString_5 0 rfl rfl)
theorem q131 : (Jvm.Cond.initialized "SleeperRailway$Train") ∈ lw_all := lw_g (lw_at lw_m1 31 rfl) rfl
theorem q817 : (Jvm.Cond.instanceMethod ({ cls := "SleeperRailway$Train", name := "legs", desc := "()I" } : Jvm.MethodName)) ∈ lw_all := lw_g (lw_at lw_m3 237 rfl) rfl
theorem q818 : (Jvm.Cond.selects "SleeperRailway$Train" ({ cls := "SleeperRailway$Train", name := "legs", desc := "()I" } : Jvm.MethodName) ({ cls := "SleeperRailway$Train", name := "legs", desc := "()I" } : Jvm.MethodName)) ∈ lw_all := lw_g (lw_at lw_m3 238 rfl) rfl
theorem q819 : (Jvm.Cond.code ({ cls := "SleeperRailway$Train", name := "legs", desc := "()I" } : Jvm.MethodName) prog_18_method_7_code (1 : Nat) (Option.some Jvm.ClassFile.FieldType.int)) ∈ lw_all := lw_g (lw_at lw_m3 239 rfl) rfl
theorem q910 : (Jvm.Cond.instanceMethod ({ cls := "SleeperRailway$Train", name := "departure", desc := "(I)I" } : Jvm.MethodName)) ∈ lw_all := lw_g (lw_at lw_m4 90 rfl) rfl
theorem q911 : (Jvm.Cond.selects "SleeperRailway$Train" ({ cls := "SleeperRailway$Train", name := "departure", desc := "(I)I" } : Jvm.MethodName) ({ cls := "SleeperRailway$Train", name := "departure", desc := "(I)I" } : Jvm.MethodName)) ∈ lw_all := lw_g (lw_at lw_m4 91 rfl) rfl
theorem q912 : (Jvm.Cond.code ({ cls := "SleeperRailway$Train", name := "departure", desc := "(I)I" } : Jvm.MethodName) prog_18_method_9_code (2 : Nat) (Option.some Jvm.ClassFile.FieldType.int)) ∈ lw_all := lw_g (lw_at lw_m4 92 rfl) rfl
theorem q914 : (Jvm.Cond.instanceMethod ({ cls := "SleeperRailway$Train", name := "arrival", desc := "(I)I" } : Jvm.MethodName)) ∈ lw_all := lw_g (lw_at lw_m4 94 rfl) rfl
theorem q915 : (Jvm.Cond.selects "SleeperRailway$Train" ({ cls := "SleeperRailway$Train", name := "arrival", desc := "(I)I" } : Jvm.MethodName) ({ cls := "SleeperRailway$Train", name := "arrival", desc := "(I)I" } : Jvm.MethodName)) ∈ lw_all := lw_g (lw_at lw_m4 95 rfl) rfl
theorem q916 : (Jvm.Cond.code ({ cls := "SleeperRailway$Train", name := "arrival", desc := "(I)I" } : Jvm.MethodName) prog_18_method_8_code (2 : Nat) (Option.some Jvm.ClassFile.FieldType.int)) ∈ lw_all := lw_g (lw_at lw_m4 96 rfl) rfl
theorem q1005 : (Jvm.Cond.selects "SleeperRailway$Train" ({ cls := "java/lang/Object", name := "getClass", desc := "()Ljava/lang/Class;" } : Jvm.MethodName) ({ cls := "java/lang/Object", name := "getClass", desc := "()Ljava/lang/Class;" } : Jvm.MethodName)) ∈ lw_all := lw_g (lw_at lw_m4 185 rfl) rfl
theorem q1468 : (Jvm.Cond.instanceMethod ({ cls := "SleeperRailway$Train", name := "isFull", desc := "(I)Z" } : Jvm.MethodName)) ∈ lw_all := lw_g (lw_at lw_m6 168 rfl) rfl
theorem q1469 : (Jvm.Cond.selects "SleeperRailway$Train" ({ cls := "SleeperRailway$Train", name := "isFull", desc := "(I)Z" } : Jvm.MethodName) ({ cls := "SleeperRailway$Train", name := "isFull", desc := "(I)Z" } : Jvm.MethodName)) ∈ lw_all := lw_g (lw_at lw_m6 169 rfl) rfl
theorem q1470 : (Jvm.Cond.code ({ cls := "SleeperRailway$Train", name := "isFull", desc := "(I)Z" } : Jvm.MethodName) prog_18_method_11_code (2 : Nat) (Option.some Jvm.ClassFile.FieldType.boolean)) ∈ lw_all := lw_g (lw_at lw_m6 170 rfl) rfl
theorem q1471 : (Jvm.Cond.methodLink "SleeperRailway$Train" (49 : Nat) ({ cls := "SleeperRailway$Train", name := "load", desc := "(I)I" } : Jvm.MethodName)) ∈ lw_all := lw_g (lw_at lw_m6 171 rfl) rfl
theorem q1472 : (Jvm.Cond.instanceMethod ({ cls := "SleeperRailway$Train", name := "load", desc := "(I)I" } : Jvm.MethodName)) ∈ lw_all := lw_g (lw_at lw_m6 172 rfl) rfl
theorem q1473 : (Jvm.Cond.selects "SleeperRailway$Train" ({ cls := "SleeperRailway$Train", name := "load", desc := "(I)I" } : Jvm.MethodName) ({ cls := "SleeperRailway$Train", name := "load", desc := "(I)I" } : Jvm.MethodName)) ∈ lw_all := lw_g (lw_at lw_m6 173 rfl) rfl
theorem q1474 : (Jvm.Cond.code ({ cls := "SleeperRailway$Train", name := "load", desc := "(I)I" } : Jvm.MethodName) prog_18_method_10_code (2 : Nat) (Option.some Jvm.ClassFile.FieldType.int)) ∈ lw_all := lw_g (lw_at lw_m6 174 rfl) rfl
theorem q1792 : (Jvm.Cond.instanceMethod ({ cls := "SleeperRailway$Train", name := "hasLeg", desc := "(I)Z" } : Jvm.MethodName)) ∈ lw_all := lw_g (lw_at lw_m8 12 rfl) rfl
theorem q1793 : (Jvm.Cond.selects "SleeperRailway$Train" ({ cls := "SleeperRailway$Train", name := "hasLeg", desc := "(I)Z" } : Jvm.MethodName) ({ cls := "SleeperRailway$Train", name := "hasLeg", desc := "(I)Z" } : Jvm.MethodName)) ∈ lw_all := lw_g (lw_at lw_m8 13 rfl) rfl
theorem q1794 : (Jvm.Cond.code ({ cls := "SleeperRailway$Train", name := "hasLeg", desc := "(I)Z" } : Jvm.MethodName) prog_18_method_6_code (2 : Nat) (Option.some Jvm.ClassFile.FieldType.boolean)) ∈ lw_all := lw_g (lw_at lw_m8 14 rfl) rfl
theorem q1795 : (Jvm.Cond.methodLinkNest "SleeperRailway$Train" (45 : Nat) ({ cls := "SleeperRailway", name := "isBetween", desc := "(III)Z" } : Jvm.MethodName) "SleeperRailway") ∈ lw_tbl := lw_at lw_m8 15 rfl
theorem q2284 : (Jvm.Cond.instanceMethod ({ cls := "SleeperRailway$Train", name := "copy", desc := "()LSleeperRailway$Train;" } : Jvm.MethodName)) ∈ lw_all := lw_g (lw_at lw_m10 24 rfl) rfl
theorem q2285 : (Jvm.Cond.selects "SleeperRailway$Train" ({ cls := "SleeperRailway$Train", name := "copy", desc := "()LSleeperRailway$Train;" } : Jvm.MethodName) ({ cls := "SleeperRailway$Train", name := "copy", desc := "()LSleeperRailway$Train;" } : Jvm.MethodName)) ∈ lw_all := lw_g (lw_at lw_m10 25 rfl) rfl
theorem q2286 : (Jvm.Cond.code ({ cls := "SleeperRailway$Train", name := "copy", desc := "()LSleeperRailway$Train;" } : Jvm.MethodName) prog_18_method_3_code (2 : Nat) (Option.some (Jvm.ClassFile.FieldType.object "SleeperRailway$Train"))) ∈ lw_all := lw_g (lw_at lw_m10 26 rfl) rfl
theorem q2287 : (Jvm.Cond.classLink "SleeperRailway$Train" (6 : Nat) "SleeperRailway$Train") ∈ lw_all := lw_g (lw_at lw_m10 27 rfl) rfl
theorem q2288 : (Jvm.Cond.instantiable "SleeperRailway$Train" (8 : Nat)) ∈ lw_all := lw_g (lw_at lw_m10 28 rfl) rfl
theorem q2289 : (Jvm.Cond.classLink "SleeperRailway$Train" (3 : Nat) "[I") ∈ lw_all := lw_g (lw_at lw_m10 29 rfl) rfl
theorem q2291 : (Jvm.Cond.methodLink "SleeperRailway$Train" (38 : Nat) ({ cls := "[I", name := "clone", desc := "()Ljava/lang/Object;" } : Jvm.MethodName)) ∈ lw_all := lw_g (lw_at lw_m10 31 rfl) rfl
theorem q2295 : (Jvm.Cond.methodLink "SleeperRailway$Train" (5 : Nat) ({ cls := "SleeperRailway$Train", name := "<init>", desc := "(I[[I)V" } : Jvm.MethodName)) ∈ lw_all := lw_g (lw_at lw_m10 35 rfl) rfl
theorem q2296 : (Jvm.Cond.instanceMethod ({ cls := "SleeperRailway$Train", name := "<init>", desc := "(I[[I)V" } : Jvm.MethodName)) ∈ lw_all := lw_g (lw_at lw_m10 36 rfl) rfl
theorem q2297 : (Jvm.Cond.code ({ cls := "SleeperRailway$Train", name := "<init>", desc := "(I[[I)V" } : Jvm.MethodName) prog_18_method_2_code (3 : Nat) (Option.none : Option Jvm.ClassFile.FieldType)) ∈ lw_all := lw_g (lw_at lw_m10 37 rfl) rfl
theorem q2298 : (Jvm.Cond.methodLink "SleeperRailway$Train" (21 : Nat) ({ cls := "java/lang/Object", name := "<init>", desc := "()V" } : Jvm.MethodName)) ∈ lw_all := lw_g (lw_at lw_m10 38 rfl) rfl
theorem q2299 : (Jvm.Cond.fieldLink "SleeperRailway$Train" (26 : Nat) "SleeperRailway$Train" "capacity" "I") ∈ lw_all := lw_g (lw_at lw_m10 39 rfl) rfl
theorem q2302 : (Jvm.Cond.fieldLink "SleeperRailway$Train" (11 : Nat) "SleeperRailway$Train" "stations" "[I") ∈ lw_all := lw_g (lw_at lw_m10 42 rfl) rfl
theorem q2306 : (Jvm.Cond.fieldLink "SleeperRailway$Train" (29 : Nat) "SleeperRailway$Train" "arrivals" "[I") ∈ lw_all := lw_g (lw_at lw_m10 46 rfl) rfl
theorem q2307 : (Jvm.Cond.fieldLink "SleeperRailway$Train" (14 : Nat) "SleeperRailway$Train" "departures" "[I") ∈ lw_all := lw_g (lw_at lw_m10 47 rfl) rfl
theorem q2308 : (Jvm.Cond.fieldLink "SleeperRailway$Train" (32 : Nat) "SleeperRailway$Train" "suitcases" "[I") ∈ lw_all := lw_g (lw_at lw_m10 48 rfl) rfl
theorem q2311 : (Jvm.Cond.fieldLink "SleeperRailway$Train" (35 : Nat) "SleeperRailway$Train" "bookings" "[I") ∈ lw_all := lw_g (lw_at lw_m10 51 rfl) rfl
theorem q2313 : (Jvm.Cond.fieldLink "SleeperRailway$Train" (17 : Nat) "SleeperRailway$Train" "stops" "I") ∈ lw_all := lw_g (lw_at lw_m10 53 rfl) rfl
theorem q2316 : (Jvm.Cond.fieldLink "SleeperRailway$Train" (42 : Nat) "SleeperRailway$Train" "delay" "I") ∈ lw_all := lw_g (lw_at lw_m10 56 rfl) rfl
theorem q2319 : (Jvm.Cond.laysFinal "SleeperRailway$Train" "SleeperRailway$Train" "capacity" "I") ∈ lw_all := lw_g (lw_at lw_m10 59 rfl) rfl
theorem q2320 : (Jvm.Cond.soleField "SleeperRailway$Train" "capacity") ∈ lw_all := lw_g (lw_at lw_m10 60 rfl) rfl
theorem q2321 : (Jvm.Cond.laysFinal "SleeperRailway$Train" "SleeperRailway$Train" "stations" "[I") ∈ lw_all := lw_g (lw_at lw_m10 61 rfl) rfl
theorem q2322 : (Jvm.Cond.soleField "SleeperRailway$Train" "stations") ∈ lw_all := lw_g (lw_at lw_m10 62 rfl) rfl
theorem q2323 : (Jvm.Cond.laysFinal "SleeperRailway$Train" "SleeperRailway$Train" "arrivals" "[I") ∈ lw_all := lw_g (lw_at lw_m10 63 rfl) rfl
theorem q2324 : (Jvm.Cond.soleField "SleeperRailway$Train" "arrivals") ∈ lw_all := lw_g (lw_at lw_m10 64 rfl) rfl
theorem q2325 : (Jvm.Cond.laysFinal "SleeperRailway$Train" "SleeperRailway$Train" "departures" "[I") ∈ lw_all := lw_g (lw_at lw_m10 65 rfl) rfl
theorem q2326 : (Jvm.Cond.soleField "SleeperRailway$Train" "departures") ∈ lw_all := lw_g (lw_at lw_m10 66 rfl) rfl
theorem q2327 : (Jvm.Cond.laysFinal "SleeperRailway$Train" "SleeperRailway$Train" "suitcases" "[I") ∈ lw_all := lw_g (lw_at lw_m10 67 rfl) rfl
theorem q2328 : (Jvm.Cond.soleField "SleeperRailway$Train" "suitcases") ∈ lw_all := lw_g (lw_at lw_m10 68 rfl) rfl
theorem q2329 : (Jvm.Cond.laysFinal "SleeperRailway$Train" "SleeperRailway$Train" "bookings" "[I") ∈ lw_all := lw_g (lw_at lw_m10 69 rfl) rfl
theorem q2330 : (Jvm.Cond.soleField "SleeperRailway$Train" "bookings") ∈ lw_all := lw_g (lw_at lw_m10 70 rfl) rfl
theorem q2331 : (Jvm.Cond.lays "SleeperRailway$Train" "SleeperRailway$Train" "stops" "I") ∈ lw_all := lw_g (lw_at lw_m10 71 rfl) rfl
theorem q2332 : (Jvm.Cond.soleField "SleeperRailway$Train" "stops") ∈ lw_all := lw_g (lw_at lw_m10 72 rfl) rfl
theorem q2333 : (Jvm.Cond.lays "SleeperRailway$Train" "SleeperRailway$Train" "delay" "I") ∈ lw_all := lw_g (lw_at lw_m10 73 rfl) rfl
theorem q2334 : (Jvm.Cond.soleField "SleeperRailway$Train" "delay") ∈ lw_all := lw_g (lw_at lw_m10 74 rfl) rfl
theorem q2335 : (Jvm.Cond.superclass "SleeperRailway$Train" "java/lang/Object") ∈ lw_all := lw_g (lw_at lw_m10 75 rfl) rfl
theorem q2488 : (Jvm.Cond.instanceMethod ({ cls := "SleeperRailway$Train", name := "<init>", desc := "(III)V" } : Jvm.MethodName)) ∈ lw_all := lw_g (lw_at lw_m10 228 rfl) rfl
theorem q2489 : (Jvm.Cond.code ({ cls := "SleeperRailway$Train", name := "<init>", desc := "(III)V" } : Jvm.MethodName) prog_18_method_1_code (4 : Nat) (Option.none : Option Jvm.ClassFile.FieldType)) ∈ lw_all := lw_g (lw_at lw_m10 229 rfl) rfl
theorem q2500 : (Jvm.Cond.instanceMethod ({ cls := "SleeperRailway$Train", name := "extend", desc := "(III)I" } : Jvm.MethodName)) ∈ lw_all := lw_g (lw_at lw_m11 0 rfl) rfl
theorem q2501 : (Jvm.Cond.selects "SleeperRailway$Train" ({ cls := "SleeperRailway$Train", name := "extend", desc := "(III)I" } : Jvm.MethodName) ({ cls := "SleeperRailway$Train", name := "extend", desc := "(III)I" } : Jvm.MethodName)) ∈ lw_all := lw_g (lw_at lw_m11 1 rfl) rfl
theorem q2502 : (Jvm.Cond.code ({ cls := "SleeperRailway$Train", name := "extend", desc := "(III)I" } : Jvm.MethodName) prog_18_method_4_code (4 : Nat) (Option.some Jvm.ClassFile.FieldType.int)) ∈ lw_all := lw_g (lw_at lw_m11 2 rfl) rfl
theorem q2594 : (Jvm.Cond.instanceMethod ({ cls := "SleeperRailway$Train", name := "hasStop", desc := "(I)Z" } : Jvm.MethodName)) ∈ lw_all := lw_g (lw_at lw_m11 94 rfl) rfl
theorem q2595 : (Jvm.Cond.selects "SleeperRailway$Train" ({ cls := "SleeperRailway$Train", name := "hasStop", desc := "(I)Z" } : Jvm.MethodName) ({ cls := "SleeperRailway$Train", name := "hasStop", desc := "(I)Z" } : Jvm.MethodName)) ∈ lw_all := lw_g (lw_at lw_m11 95 rfl) rfl
theorem q2596 : (Jvm.Cond.code ({ cls := "SleeperRailway$Train", name := "hasStop", desc := "(I)Z" } : Jvm.MethodName) prog_18_method_5_code (2 : Nat) (Option.some Jvm.ClassFile.FieldType.boolean)) ∈ lw_all := lw_g (lw_at lw_m11 96 rfl) rfl
theorem q3186 : (Jvm.Cond.selects "SleeperRailway$Train" ({ cls := "java/lang/Object", name := "equals", desc := "(Ljava/lang/Object;)Z" } : Jvm.MethodName) ({ cls := "java/lang/Object", name := "equals", desc := "(Ljava/lang/Object;)Z" } : Jvm.MethodName)) ∈ lw_all := lw_g (lw_at lw_m13 206 rfl) rfl
theorem q3272 : (Jvm.Cond.instanceMethod ({ cls := "SleeperRailway$Train", name := "toString", desc := "()Ljava/lang/String;" } : Jvm.MethodName)) ∈ lw_all := lw_g (lw_at lw_m14 52 rfl) rfl
theorem q3273 : (Jvm.Cond.selects "SleeperRailway$Train" ({ cls := "SleeperRailway$Train", name := "toString", desc := "()Ljava/lang/String;" } : Jvm.MethodName) ({ cls := "SleeperRailway$Train", name := "toString", desc := "()Ljava/lang/String;" } : Jvm.MethodName)) ∈ lw_all := lw_g (lw_at lw_m14 53 rfl) rfl
theorem q3274 : (Jvm.Cond.code ({ cls := "SleeperRailway$Train", name := "toString", desc := "()Ljava/lang/String;" } : Jvm.MethodName) prog_18_method_12_code (3 : Nat) (Option.some (Jvm.ClassFile.FieldType.object "java/lang/String"))) ∈ lw_all := lw_g (lw_at lw_m14 54 rfl) rfl
theorem q3275 : (Jvm.Cond.classLink "SleeperRailway$Train" (53 : Nat) "java/lang/StringBuilder") ∈ lw_all := lw_g (lw_at lw_m14 55 rfl) rfl
theorem q3276 : (Jvm.Cond.methodLink "SleeperRailway$Train" (55 : Nat) ({ cls := "java/lang/StringBuilder", name := "<init>", desc := "()V" } : Jvm.MethodName)) ∈ lw_all := lw_g (lw_at lw_m14 56 rfl) rfl
theorem q3277 : (Jvm.Cond.stringRef "SleeperRailway$Train" (56 : Nat) "") ∈ lw_tbl := lw_at lw_m14 57 rfl
theorem q3278 : (Jvm.Cond.stringRef "SleeperRailway$Train" (58 : Nat) "-") ∈ lw_tbl := lw_at lw_m14 58 rfl
theorem q3279 : (Jvm.Cond.methodLink "SleeperRailway$Train" (60 : Nat) ({ cls := "java/lang/StringBuilder", name := "append", desc := "(Ljava/lang/String;)Ljava/lang/StringBuilder;" } : Jvm.MethodName)) ∈ lw_all := lw_g (lw_at lw_m14 59 rfl) rfl
theorem q3280 : (Jvm.Cond.methodLink "SleeperRailway$Train" (64 : Nat) ({ cls := "java/lang/StringBuilder", name := "append", desc := "(I)Ljava/lang/StringBuilder;" } : Jvm.MethodName)) ∈ lw_all := lw_g (lw_at lw_m14 60 rfl) rfl
theorem q3281 : (Jvm.Cond.methodLink "SleeperRailway$Train" (67 : Nat) ({ cls := "java/lang/StringBuilder", name := "toString", desc := "()Ljava/lang/String;" } : Jvm.MethodName)) ∈ lw_all := lw_g (lw_at lw_m14 61 rfl) rfl
theorem q3282 : (Jvm.Cond.stringRef "SleeperRailway$Train" (71 : Nat) "+") ∈ lw_tbl := lw_at lw_m14 62 rfl
theorem q3494 : (Jvm.Cond.selects "SleeperRailway$Train" ({ cls := "java/lang/Object", name := "toString", desc := "()Ljava/lang/String;" } : Jvm.MethodName) ({ cls := "SleeperRailway$Train", name := "toString", desc := "()Ljava/lang/String;" } : Jvm.MethodName)) ∈ lw_all := lw_g (lw_at lw_m15 34 rfl) rfl
theorem q4250 : (Jvm.Cond.castable "SleeperRailway$Train" "java/lang/Object") ∈ lw_tbl := lw_at lw_m18 70 rfl
theorem in_X5 : ∀ w ∈ wsX50, w ∈ lw_all := lw_in wsX50 [2319, 2321, 2323, 2325, 2327, 2329, 2331, 2333] (by decide +kernel) (by decide +kernel)
/-! SleeperRailway$Leg -/
set_option maxRecDepth 100000
def RX6 : String := "SleeperRailway$Leg"
def TX6 : u_T := fun k => match k with
  | 0 => ("SleeperRailway$Leg", "train", "I", true)
  | 1 => ("SleeperRailway$Leg", "number", "I", true)
  | 2 => ("SleeperRailway$Leg", "from", "I", true)
  | 3 => ("SleeperRailway$Leg", "to", "I", true)
  | 4 => ("SleeperRailway$Leg", "departure", "I", true)
  | _ => ("SleeperRailway$Leg", "arrival", "I", true)
def tyX6 : Nat → FieldType := fun k => match k with
  | 0 => .int
  | 1 => .int
  | 2 => .int
  | 3 => .int
  | 4 => .int
  | _ => .int
abbrev wsX60 : List Cond := u_ws RX6 TX6 6
theorem nmX6 : ∀ a, a < 6 → ∀ b, b < 6 → a ≠ b → (TX6 a).2.1 ≠ (TX6 b).2.1 := by decide +kernel
theorem tyX6_ok : ∀ k, k < 6 → parseFieldDescriptor (TX6 k).2.2.1 = some (tyX6 k) := by decide +kernel
abbrev cX6_init : ByteArray := prog_11_method_1_code
def yX6_init : MethodName := ⟨RX6, "<init>", "(IIIIII)V"⟩
def dkwX6_init_1 : List UInt8 := [181, 0, 21, 42, 21, 5, 181, 0, 24, 42, 21, 6, 181, 0, 27, 177]
abbrev dktX6_init_1 : List UInt8 := dkwX6_init_1 ++ []
def dkwX6_init_0 : List UInt8 := [42, 183, 0, 3, 42, 27, 181, 0, 9, 42, 28, 181, 0, 15, 42, 29, 181, 0, 18, 42, 21, 4]
abbrev dktX6_init_0 : List UInt8 := dkwX6_init_0 ++ dktX6_init_1
theorem dksX6_init_0 : cX6_init.data.toList.drop 0 = dktX6_init_0 := by decide +kernel
theorem dksX6_init_1 : cX6_init.data.toList.drop 22 = dktX6_init_1 := dk_seg dksX6_init_0 22 rfl rfl
theorem dX6_init_0 : decode cX6_init 0 = .ok (.aload_n 0, 1) := dk_42 (dk_at dksX6_init_0 0 rfl rfl)
theorem dX6_init_1 : decode cX6_init 1 = .ok (.invokespecial 3, 3) := dk_183 0 3 (dk_at dksX6_init_0 1 rfl rfl)
theorem dX6_init_4 : decode cX6_init 4 = .ok (.aload_n 0, 1) := dk_42 (dk_at dksX6_init_0 4 rfl rfl)
theorem dX6_init_5 : decode cX6_init 5 = .ok (.iload_n 1, 1) := dk_27 (dk_at dksX6_init_0 5 rfl rfl)
theorem dX6_init_6 : decode cX6_init 6 = .ok (.putfield 9, 3) := dk_181 0 9 (dk_at dksX6_init_0 6 rfl rfl)
theorem dX6_init_9 : decode cX6_init 9 = .ok (.aload_n 0, 1) := dk_42 (dk_at dksX6_init_0 9 rfl rfl)
theorem dX6_init_10 : decode cX6_init 10 = .ok (.iload_n 2, 1) := dk_28 (dk_at dksX6_init_0 10 rfl rfl)
theorem dX6_init_11 : decode cX6_init 11 = .ok (.putfield 15, 3) := dk_181 0 15 (dk_at dksX6_init_0 11 rfl rfl)
theorem dX6_init_14 : decode cX6_init 14 = .ok (.aload_n 0, 1) := dk_42 (dk_at dksX6_init_0 14 rfl rfl)
theorem dX6_init_15 : decode cX6_init 15 = .ok (.iload_n 3, 1) := dk_29 (dk_at dksX6_init_0 15 rfl rfl)
theorem dX6_init_16 : decode cX6_init 16 = .ok (.putfield 18, 3) := dk_181 0 18 (dk_at dksX6_init_0 16 rfl rfl)
theorem dX6_init_19 : decode cX6_init 19 = .ok (.aload_n 0, 1) := dk_42 (dk_at dksX6_init_0 19 rfl rfl)
theorem dX6_init_20 : decode cX6_init 20 = .ok (.iload 4, 2) := dk_21 4 (dk_at dksX6_init_0 20 rfl rfl)
theorem dX6_init_22 : decode cX6_init 22 = .ok (.putfield 21, 3) := dk_181 0 21 (dk_at dksX6_init_1 0 rfl rfl)
theorem dX6_init_25 : decode cX6_init 25 = .ok (.aload_n 0, 1) := dk_42 (dk_at dksX6_init_1 3 rfl rfl)
theorem dX6_init_26 : decode cX6_init 26 = .ok (.iload 5, 2) := dk_21 5 (dk_at dksX6_init_1 4 rfl rfl)
theorem dX6_init_28 : decode cX6_init 28 = .ok (.putfield 24, 3) := dk_181 0 24 (dk_at dksX6_init_1 6 rfl rfl)
theorem dX6_init_31 : decode cX6_init 31 = .ok (.aload_n 0, 1) := dk_42 (dk_at dksX6_init_1 9 rfl rfl)
theorem dX6_init_32 : decode cX6_init 32 = .ok (.iload 6, 2) := dk_21 6 (dk_at dksX6_init_1 10 rfl rfl)
theorem dX6_init_34 : decode cX6_init 34 = .ok (.putfield 27, 3) := dk_181 0 27 (dk_at dksX6_init_1 12 rfl rfl)
theorem dX6_init_37 : decode cX6_init 37 = .ok (.return_, 1) := dk_177 (dk_at dksX6_init_1 15 rfl rfl)
abbrev cX6_train : ByteArray := prog_11_method_5_code
def yX6_train : MethodName := ⟨RX6, "train", "()I"⟩
theorem dX6_train_0 : decode cX6_train 0 = .ok (.aload_n 0, 1) := by decide +kernel
theorem dX6_train_1 : decode cX6_train 1 = .ok (.getfield 9, 3) := by decide +kernel
theorem dX6_train_4 : decode cX6_train 4 = .ok (.ireturn, 1) := by decide +kernel
abbrev cX6_number : ByteArray := prog_11_method_6_code
def yX6_number : MethodName := ⟨RX6, "number", "()I"⟩
theorem dX6_number_0 : decode cX6_number 0 = .ok (.aload_n 0, 1) := by decide +kernel
theorem dX6_number_1 : decode cX6_number 1 = .ok (.getfield 15, 3) := by decide +kernel
theorem dX6_number_4 : decode cX6_number 4 = .ok (.ireturn, 1) := by decide +kernel
abbrev cX6_from : ByteArray := prog_11_method_7_code
def yX6_from : MethodName := ⟨RX6, "from", "()I"⟩
theorem dX6_from_0 : decode cX6_from 0 = .ok (.aload_n 0, 1) := by decide +kernel
theorem dX6_from_1 : decode cX6_from 1 = .ok (.getfield 18, 3) := by decide +kernel
theorem dX6_from_4 : decode cX6_from 4 = .ok (.ireturn, 1) := by decide +kernel
abbrev cX6_departure : ByteArray := prog_11_method_9_code
def yX6_departure : MethodName := ⟨RX6, "departure", "()I"⟩
theorem dX6_departure_0 : decode cX6_departure 0 = .ok (.aload_n 0, 1) := by decide +kernel
theorem dX6_departure_1 : decode cX6_departure 1 = .ok (.getfield 24, 3) := by decide +kernel
theorem dX6_departure_4 : decode cX6_departure 4 = .ok (.ireturn, 1) := by decide +kernel
abbrev cX6_hashCode : ByteArray := prog_11_method_3_code
def yX6_hashCode : MethodName := ⟨RX6, "hashCode", "()I"⟩
def dkwX6_hashCode_0 : List UInt8 := [16, 8, 42, 180, 0, 9, 104, 42, 180, 0, 15, 96, 172]
abbrev dktX6_hashCode_0 : List UInt8 := dkwX6_hashCode_0 ++ []
theorem dksX6_hashCode_0 : cX6_hashCode.data.toList.drop 0 = dktX6_hashCode_0 := by decide +kernel
theorem dX6_hashCode_0 : decode cX6_hashCode 0 = .ok (.bipush 8, 2) := dk_16 8 (dk_at dksX6_hashCode_0 0 rfl rfl)
theorem dX6_hashCode_2 : decode cX6_hashCode 2 = .ok (.aload_n 0, 1) := dk_42 (dk_at dksX6_hashCode_0 2 rfl rfl)
theorem dX6_hashCode_3 : decode cX6_hashCode 3 = .ok (.getfield 9, 3) := dk_180 0 9 (dk_at dksX6_hashCode_0 3 rfl rfl)
theorem dX6_hashCode_6 : decode cX6_hashCode 6 = .ok (.imul, 1) := dk_104 (dk_at dksX6_hashCode_0 6 rfl rfl)
theorem dX6_hashCode_7 : decode cX6_hashCode 7 = .ok (.aload_n 0, 1) := dk_42 (dk_at dksX6_hashCode_0 7 rfl rfl)
theorem dX6_hashCode_8 : decode cX6_hashCode 8 = .ok (.getfield 15, 3) := dk_180 0 15 (dk_at dksX6_hashCode_0 8 rfl rfl)
theorem dX6_hashCode_11 : decode cX6_hashCode 11 = .ok (.iadd, 1) := dk_96 (dk_at dksX6_hashCode_0 11 rfl rfl)
theorem dX6_hashCode_12 : decode cX6_hashCode 12 = .ok (.ireturn, 1) := dk_172 (dk_at dksX6_hashCode_0 12 rfl rfl)
abbrev cX6_arrival : ByteArray := prog_11_method_10_code
def yX6_arrival : MethodName := ⟨RX6, "arrival", "()I"⟩
theorem dX6_arrival_0 : decode cX6_arrival 0 = .ok (.aload_n 0, 1) := by decide +kernel
theorem dX6_arrival_1 : decode cX6_arrival 1 = .ok (.getfield 27, 3) := by decide +kernel
theorem dX6_arrival_4 : decode cX6_arrival 4 = .ok (.ireturn, 1) := by decide +kernel
abbrev cX6_to : ByteArray := prog_11_method_8_code
def yX6_to : MethodName := ⟨RX6, "to", "()I"⟩
theorem dX6_to_0 : decode cX6_to 0 = .ok (.aload_n 0, 1) := by decide +kernel
theorem dX6_to_1 : decode cX6_to 1 = .ok (.getfield 21, 3) := by decide +kernel
theorem dX6_to_4 : decode cX6_to 4 = .ok (.ireturn, 1) := by decide +kernel
abbrev cX6_equals : ByteArray := prog_11_method_2_code
def yX6_equals : MethodName := ⟨RX6, "equals", "(Ljava/lang/Object;)Z"⟩
def dkwX6_equals_1 : List UInt8 := [180, 0, 15, 42, 180, 0, 15, 160, 0, 7, 4, 167, 0, 4, 3, 172]
abbrev dktX6_equals_1 : List UInt8 := dkwX6_equals_1 ++ []
def dkwX6_equals_0 : List UInt8 := [43, 193, 0, 10, 153, 0, 34, 43, 192, 0, 10, 77, 44, 180, 0, 9, 42, 180, 0, 9, 160, 0, 18, 44]
abbrev dktX6_equals_0 : List UInt8 := dkwX6_equals_0 ++ dktX6_equals_1
theorem dksX6_equals_0 : cX6_equals.data.toList.drop 0 = dktX6_equals_0 := by decide +kernel
theorem dksX6_equals_1 : cX6_equals.data.toList.drop 24 = dktX6_equals_1 := dk_seg dksX6_equals_0 24 rfl rfl
theorem dX6_equals_0 : decode cX6_equals 0 = .ok (.aload_n 1, 1) := dk_43 (dk_at dksX6_equals_0 0 rfl rfl)
theorem dX6_equals_1 : decode cX6_equals 1 = .ok (.instanceof 10, 3) := dk_193 0 10 (dk_at dksX6_equals_0 1 rfl rfl)
theorem dX6_equals_4 : decode cX6_equals 4 = .ok (.ifCond .eq 34, 3) := dk_153 0 34 (dk_at dksX6_equals_0 4 rfl rfl)
theorem dX6_equals_7 : decode cX6_equals 7 = .ok (.aload_n 1, 1) := dk_43 (dk_at dksX6_equals_0 7 rfl rfl)
theorem dX6_equals_8 : decode cX6_equals 8 = .ok (.checkcast 10, 3) := dk_192 0 10 (dk_at dksX6_equals_0 8 rfl rfl)
theorem dX6_equals_11 : decode cX6_equals 11 = .ok (.astore_n 2, 1) := dk_77 (dk_at dksX6_equals_0 11 rfl rfl)
theorem dX6_equals_12 : decode cX6_equals 12 = .ok (.aload_n 2, 1) := dk_44 (dk_at dksX6_equals_0 12 rfl rfl)
theorem dX6_equals_13 : decode cX6_equals 13 = .ok (.getfield 9, 3) := dk_180 0 9 (dk_at dksX6_equals_0 13 rfl rfl)
theorem dX6_equals_16 : decode cX6_equals 16 = .ok (.aload_n 0, 1) := dk_42 (dk_at dksX6_equals_0 16 rfl rfl)
theorem dX6_equals_17 : decode cX6_equals 17 = .ok (.getfield 9, 3) := dk_180 0 9 (dk_at dksX6_equals_0 17 rfl rfl)
theorem dX6_equals_20 : decode cX6_equals 20 = .ok (.if_icmp .ne 18, 3) := dk_160 0 18 (dk_at dksX6_equals_0 20 rfl rfl)
theorem dX6_equals_23 : decode cX6_equals 23 = .ok (.aload_n 2, 1) := dk_44 (dk_at dksX6_equals_0 23 rfl rfl)
theorem dX6_equals_24 : decode cX6_equals 24 = .ok (.getfield 15, 3) := dk_180 0 15 (dk_at dksX6_equals_1 0 rfl rfl)
theorem dX6_equals_27 : decode cX6_equals 27 = .ok (.aload_n 0, 1) := dk_42 (dk_at dksX6_equals_1 3 rfl rfl)
theorem dX6_equals_28 : decode cX6_equals 28 = .ok (.getfield 15, 3) := dk_180 0 15 (dk_at dksX6_equals_1 4 rfl rfl)
theorem dX6_equals_31 : decode cX6_equals 31 = .ok (.if_icmp .ne 7, 3) := dk_160 0 7 (dk_at dksX6_equals_1 7 rfl rfl)
theorem dX6_equals_34 : decode cX6_equals 34 = .ok (.iconst 1, 1) := dk_4 (dk_at dksX6_equals_1 10 rfl rfl)
theorem dX6_equals_35 : decode cX6_equals 35 = .ok (.goto 4, 3) := dk_167 0 4 (dk_at dksX6_equals_1 11 rfl rfl)
theorem dX6_equals_38 : decode cX6_equals 38 = .ok (.iconst 0, 1) := dk_3 (dk_at dksX6_equals_1 14 rfl rfl)
theorem dX6_equals_39 : decode cX6_equals 39 = .ok (.ireturn, 1) := dk_172 (dk_at dksX6_equals_1 15 rfl rfl)
abbrev cX6_toString : ByteArray := prog_11_method_4_code
def yX6_toString : MethodName := ⟨RX6, "toString", "()Ljava/lang/String;"⟩
def dkwX6_toString_1 : List UInt8 := [182, 0, 33, 182, 0, 42, 176]
abbrev dktX6_toString_1 : List UInt8 := dkwX6_toString_1 ++ []
def dkwX6_toString_0 : List UInt8 := [187, 0, 30, 89, 183, 0, 32, 42, 180, 0, 9, 182, 0, 33, 18, 37, 182, 0, 39, 42, 180, 0, 15]
abbrev dktX6_toString_0 : List UInt8 := dkwX6_toString_0 ++ dktX6_toString_1
theorem dksX6_toString_0 : cX6_toString.data.toList.drop 0 = dktX6_toString_0 := by decide +kernel
theorem dksX6_toString_1 : cX6_toString.data.toList.drop 23 = dktX6_toString_1 := dk_seg dksX6_toString_0 23 rfl rfl
theorem dX6_toString_0 : decode cX6_toString 0 = .ok (.new 30, 3) := dk_187 0 30 (dk_at dksX6_toString_0 0 rfl rfl)
theorem dX6_toString_3 : decode cX6_toString 3 = .ok (.dup, 1) := dk_89 (dk_at dksX6_toString_0 3 rfl rfl)
theorem dX6_toString_4 : decode cX6_toString 4 = .ok (.invokespecial 32, 3) := dk_183 0 32 (dk_at dksX6_toString_0 4 rfl rfl)
theorem dX6_toString_7 : decode cX6_toString 7 = .ok (.aload_n 0, 1) := dk_42 (dk_at dksX6_toString_0 7 rfl rfl)
theorem dX6_toString_8 : decode cX6_toString 8 = .ok (.getfield 9, 3) := dk_180 0 9 (dk_at dksX6_toString_0 8 rfl rfl)
theorem dX6_toString_11 : decode cX6_toString 11 = .ok (.invokevirtual 33, 3) := dk_182 0 33 (dk_at dksX6_toString_0 11 rfl rfl)
theorem dX6_toString_14 : decode cX6_toString 14 = .ok (.ldc 37, 2) := dk_18 37 (dk_at dksX6_toString_0 14 rfl rfl)
theorem dX6_toString_16 : decode cX6_toString 16 = .ok (.invokevirtual 39, 3) := dk_182 0 39 (dk_at dksX6_toString_0 16 rfl rfl)
theorem dX6_toString_19 : decode cX6_toString 19 = .ok (.aload_n 0, 1) := dk_42 (dk_at dksX6_toString_0 19 rfl rfl)
theorem dX6_toString_20 : decode cX6_toString 20 = .ok (.getfield 15, 3) := dk_180 0 15 (dk_at dksX6_toString_0 20 rfl rfl)
theorem dX6_toString_23 : decode cX6_toString 23 = .ok (.invokevirtual 33, 3) := dk_182 0 33 (dk_at dksX6_toString_1 0 rfl rfl)
theorem dX6_toString_26 : decode cX6_toString 26 = .ok (.invokevirtual 42, 3) := dk_182 0 42 (dk_at dksX6_toString_1 3 rfl rfl)
theorem dX6_toString_29 : decode cX6_toString 29 = .ok (.areturn, 1) := dk_176 (dk_at dksX6_toString_1 6 rfl rfl)
theorem q146 : (Jvm.Cond.initialized "SleeperRailway$Leg") ∈ lw_all := lw_g (lw_at lw_m1 46 rfl) rfl
theorem q908 : (Jvm.Cond.instantiable "SleeperRailway$Leg" (6 : Nat)) ∈ lw_all := lw_g (lw_at lw_m4 88 rfl) rfl
theorem q918 : (Jvm.Cond.instanceMethod ({ cls := "SleeperRailway$Leg", name := "<init>", desc := "(IIIIII)V" } : Jvm.MethodName)) ∈ lw_all := lw_g (lw_at lw_m4 98 rfl) rfl
theorem q919 : (Jvm.Cond.code ({ cls := "SleeperRailway$Leg", name := "<init>", desc := "(IIIIII)V" } : Jvm.MethodName) prog_11_method_1_code (7 : Nat) (Option.none : Option Jvm.ClassFile.FieldType)) ∈ lw_all := lw_g (lw_at lw_m4 99 rfl) rfl
theorem q920 : (Jvm.Cond.methodLink "SleeperRailway$Leg" (3 : Nat) ({ cls := "java/lang/Record", name := "<init>", desc := "()V" } : Jvm.MethodName)) ∈ lw_all := lw_g (lw_at lw_m4 100 rfl) rfl
theorem q924 : (Jvm.Cond.fieldLink "SleeperRailway$Leg" (9 : Nat) "SleeperRailway$Leg" "train" "I") ∈ lw_all := lw_g (lw_at lw_m4 104 rfl) rfl
theorem q925 : (Jvm.Cond.fieldLink "SleeperRailway$Leg" (15 : Nat) "SleeperRailway$Leg" "number" "I") ∈ lw_all := lw_g (lw_at lw_m4 105 rfl) rfl
theorem q926 : (Jvm.Cond.fieldLink "SleeperRailway$Leg" (18 : Nat) "SleeperRailway$Leg" "from" "I") ∈ lw_all := lw_g (lw_at lw_m4 106 rfl) rfl
theorem q927 : (Jvm.Cond.fieldLink "SleeperRailway$Leg" (21 : Nat) "SleeperRailway$Leg" "to" "I") ∈ lw_all := lw_g (lw_at lw_m4 107 rfl) rfl
theorem q928 : (Jvm.Cond.fieldLink "SleeperRailway$Leg" (24 : Nat) "SleeperRailway$Leg" "departure" "I") ∈ lw_all := lw_g (lw_at lw_m4 108 rfl) rfl
theorem q929 : (Jvm.Cond.fieldLink "SleeperRailway$Leg" (27 : Nat) "SleeperRailway$Leg" "arrival" "I") ∈ lw_all := lw_g (lw_at lw_m4 109 rfl) rfl
theorem q930 : (Jvm.Cond.laysFinal "SleeperRailway$Leg" "SleeperRailway$Leg" "train" "I") ∈ lw_all := lw_g (lw_at lw_m4 110 rfl) rfl
theorem q931 : (Jvm.Cond.soleField "SleeperRailway$Leg" "train") ∈ lw_all := lw_g (lw_at lw_m4 111 rfl) rfl
theorem q932 : (Jvm.Cond.laysFinal "SleeperRailway$Leg" "SleeperRailway$Leg" "number" "I") ∈ lw_all := lw_g (lw_at lw_m4 112 rfl) rfl
theorem q933 : (Jvm.Cond.soleField "SleeperRailway$Leg" "number") ∈ lw_all := lw_g (lw_at lw_m4 113 rfl) rfl
theorem q934 : (Jvm.Cond.laysFinal "SleeperRailway$Leg" "SleeperRailway$Leg" "from" "I") ∈ lw_all := lw_g (lw_at lw_m4 114 rfl) rfl
theorem q935 : (Jvm.Cond.soleField "SleeperRailway$Leg" "from") ∈ lw_all := lw_g (lw_at lw_m4 115 rfl) rfl
theorem q936 : (Jvm.Cond.laysFinal "SleeperRailway$Leg" "SleeperRailway$Leg" "to" "I") ∈ lw_all := lw_g (lw_at lw_m4 116 rfl) rfl
theorem q937 : (Jvm.Cond.soleField "SleeperRailway$Leg" "to") ∈ lw_all := lw_g (lw_at lw_m4 117 rfl) rfl
theorem q938 : (Jvm.Cond.laysFinal "SleeperRailway$Leg" "SleeperRailway$Leg" "departure" "I") ∈ lw_all := lw_g (lw_at lw_m4 118 rfl) rfl
theorem q939 : (Jvm.Cond.soleField "SleeperRailway$Leg" "departure") ∈ lw_all := lw_g (lw_at lw_m4 119 rfl) rfl
theorem q940 : (Jvm.Cond.laysFinal "SleeperRailway$Leg" "SleeperRailway$Leg" "arrival" "I") ∈ lw_all := lw_g (lw_at lw_m4 120 rfl) rfl
theorem q941 : (Jvm.Cond.soleField "SleeperRailway$Leg" "arrival") ∈ lw_all := lw_g (lw_at lw_m4 121 rfl) rfl
theorem q942 : (Jvm.Cond.superclass "SleeperRailway$Leg" "java/lang/Record") ∈ lw_all := lw_g (lw_at lw_m4 122 rfl) rfl
theorem q998 : (Jvm.Cond.selects "SleeperRailway$Leg" ({ cls := "java/lang/Object", name := "getClass", desc := "()Ljava/lang/Class;" } : Jvm.MethodName) ({ cls := "java/lang/Object", name := "getClass", desc := "()Ljava/lang/Class;" } : Jvm.MethodName)) ∈ lw_all := lw_g (lw_at lw_m4 178 rfl) rfl
theorem q1145 : (Jvm.Cond.instanceMethod ({ cls := "SleeperRailway$Leg", name := "train", desc := "()I" } : Jvm.MethodName)) ∈ lw_all := lw_g (lw_at lw_m5 85 rfl) rfl
theorem q1146 : (Jvm.Cond.selects "SleeperRailway$Leg" ({ cls := "SleeperRailway$Leg", name := "train", desc := "()I" } : Jvm.MethodName) ({ cls := "SleeperRailway$Leg", name := "train", desc := "()I" } : Jvm.MethodName)) ∈ lw_all := lw_g (lw_at lw_m5 86 rfl) rfl
theorem q1147 : (Jvm.Cond.code ({ cls := "SleeperRailway$Leg", name := "train", desc := "()I" } : Jvm.MethodName) prog_11_method_5_code (1 : Nat) (Option.some Jvm.ClassFile.FieldType.int)) ∈ lw_all := lw_g (lw_at lw_m5 87 rfl) rfl
theorem q1149 : (Jvm.Cond.instanceMethod ({ cls := "SleeperRailway$Leg", name := "number", desc := "()I" } : Jvm.MethodName)) ∈ lw_all := lw_g (lw_at lw_m5 89 rfl) rfl
theorem q1150 : (Jvm.Cond.selects "SleeperRailway$Leg" ({ cls := "SleeperRailway$Leg", name := "number", desc := "()I" } : Jvm.MethodName) ({ cls := "SleeperRailway$Leg", name := "number", desc := "()I" } : Jvm.MethodName)) ∈ lw_all := lw_g (lw_at lw_m5 90 rfl) rfl
theorem q1151 : (Jvm.Cond.code ({ cls := "SleeperRailway$Leg", name := "number", desc := "()I" } : Jvm.MethodName) prog_11_method_6_code (1 : Nat) (Option.some Jvm.ClassFile.FieldType.int)) ∈ lw_all := lw_g (lw_at lw_m5 91 rfl) rfl
theorem q1441 : (Jvm.Cond.instanceMethod ({ cls := "SleeperRailway$Leg", name := "from", desc := "()I" } : Jvm.MethodName)) ∈ lw_all := lw_g (lw_at lw_m6 141 rfl) rfl
theorem q1442 : (Jvm.Cond.selects "SleeperRailway$Leg" ({ cls := "SleeperRailway$Leg", name := "from", desc := "()I" } : Jvm.MethodName) ({ cls := "SleeperRailway$Leg", name := "from", desc := "()I" } : Jvm.MethodName)) ∈ lw_all := lw_g (lw_at lw_m6 142 rfl) rfl
theorem q1443 : (Jvm.Cond.code ({ cls := "SleeperRailway$Leg", name := "from", desc := "()I" } : Jvm.MethodName) prog_11_method_7_code (1 : Nat) (Option.some Jvm.ClassFile.FieldType.int)) ∈ lw_all := lw_g (lw_at lw_m6 143 rfl) rfl
theorem q1449 : (Jvm.Cond.instanceMethod ({ cls := "SleeperRailway$Leg", name := "departure", desc := "()I" } : Jvm.MethodName)) ∈ lw_all := lw_g (lw_at lw_m6 149 rfl) rfl
theorem q1450 : (Jvm.Cond.selects "SleeperRailway$Leg" ({ cls := "SleeperRailway$Leg", name := "departure", desc := "()I" } : Jvm.MethodName) ({ cls := "SleeperRailway$Leg", name := "departure", desc := "()I" } : Jvm.MethodName)) ∈ lw_all := lw_g (lw_at lw_m6 150 rfl) rfl
theorem q1451 : (Jvm.Cond.code ({ cls := "SleeperRailway$Leg", name := "departure", desc := "()I" } : Jvm.MethodName) prog_11_method_9_code (1 : Nat) (Option.some Jvm.ClassFile.FieldType.int)) ∈ lw_all := lw_g (lw_at lw_m6 151 rfl) rfl
theorem q1476 : (Jvm.Cond.instanceMethod ({ cls := "SleeperRailway$Leg", name := "hashCode", desc := "()I" } : Jvm.MethodName)) ∈ lw_all := lw_g (lw_at lw_m6 176 rfl) rfl
theorem q1477 : (Jvm.Cond.selects "SleeperRailway$Leg" ({ cls := "SleeperRailway$Leg", name := "hashCode", desc := "()I" } : Jvm.MethodName) ({ cls := "SleeperRailway$Leg", name := "hashCode", desc := "()I" } : Jvm.MethodName)) ∈ lw_all := lw_g (lw_at lw_m6 177 rfl) rfl
theorem q1478 : (Jvm.Cond.code ({ cls := "SleeperRailway$Leg", name := "hashCode", desc := "()I" } : Jvm.MethodName) prog_11_method_3_code (1 : Nat) (Option.some Jvm.ClassFile.FieldType.int)) ∈ lw_all := lw_g (lw_at lw_m6 178 rfl) rfl
theorem q1549 : (Jvm.Cond.instanceMethod ({ cls := "SleeperRailway$Leg", name := "arrival", desc := "()I" } : Jvm.MethodName)) ∈ lw_all := lw_g (lw_at lw_m7 9 rfl) rfl
theorem q1550 : (Jvm.Cond.selects "SleeperRailway$Leg" ({ cls := "SleeperRailway$Leg", name := "arrival", desc := "()I" } : Jvm.MethodName) ({ cls := "SleeperRailway$Leg", name := "arrival", desc := "()I" } : Jvm.MethodName)) ∈ lw_all := lw_g (lw_at lw_m7 10 rfl) rfl
theorem q1551 : (Jvm.Cond.code ({ cls := "SleeperRailway$Leg", name := "arrival", desc := "()I" } : Jvm.MethodName) prog_11_method_10_code (1 : Nat) (Option.some Jvm.ClassFile.FieldType.int)) ∈ lw_all := lw_g (lw_at lw_m7 11 rfl) rfl
theorem q1801 : (Jvm.Cond.instanceMethod ({ cls := "SleeperRailway$Leg", name := "to", desc := "()I" } : Jvm.MethodName)) ∈ lw_all := lw_g (lw_at lw_m8 21 rfl) rfl
theorem q1802 : (Jvm.Cond.selects "SleeperRailway$Leg" ({ cls := "SleeperRailway$Leg", name := "to", desc := "()I" } : Jvm.MethodName) ({ cls := "SleeperRailway$Leg", name := "to", desc := "()I" } : Jvm.MethodName)) ∈ lw_all := lw_g (lw_at lw_m8 22 rfl) rfl
theorem q1803 : (Jvm.Cond.code ({ cls := "SleeperRailway$Leg", name := "to", desc := "()I" } : Jvm.MethodName) prog_11_method_8_code (1 : Nat) (Option.some Jvm.ClassFile.FieldType.int)) ∈ lw_all := lw_g (lw_at lw_m8 23 rfl) rfl
theorem q3174 : (Jvm.Cond.selects "SleeperRailway$Leg" ({ cls := "java/lang/Object", name := "equals", desc := "(Ljava/lang/Object;)Z" } : Jvm.MethodName) ({ cls := "SleeperRailway$Leg", name := "equals", desc := "(Ljava/lang/Object;)Z" } : Jvm.MethodName)) ∈ lw_all := lw_g (lw_at lw_m13 194 rfl) rfl
theorem q3175 : (Jvm.Cond.instanceMethod ({ cls := "SleeperRailway$Leg", name := "equals", desc := "(Ljava/lang/Object;)Z" } : Jvm.MethodName)) ∈ lw_all := lw_g (lw_at lw_m13 195 rfl) rfl
theorem q3176 : (Jvm.Cond.code ({ cls := "SleeperRailway$Leg", name := "equals", desc := "(Ljava/lang/Object;)Z" } : Jvm.MethodName) prog_11_method_2_code (3 : Nat) (Option.some Jvm.ClassFile.FieldType.boolean)) ∈ lw_all := lw_g (lw_at lw_m13 196 rfl) rfl
theorem q3177 : (Jvm.Cond.classLink "SleeperRailway$Leg" (10 : Nat) "SleeperRailway$Leg") ∈ lw_all := lw_g (lw_at lw_m13 197 rfl) rfl
theorem q3479 : (Jvm.Cond.selects "SleeperRailway$Leg" ({ cls := "java/lang/Object", name := "toString", desc := "()Ljava/lang/String;" } : Jvm.MethodName) ({ cls := "SleeperRailway$Leg", name := "toString", desc := "()Ljava/lang/String;" } : Jvm.MethodName)) ∈ lw_all := lw_g (lw_at lw_m15 19 rfl) rfl
theorem q3480 : (Jvm.Cond.instanceMethod ({ cls := "SleeperRailway$Leg", name := "toString", desc := "()Ljava/lang/String;" } : Jvm.MethodName)) ∈ lw_all := lw_g (lw_at lw_m15 20 rfl) rfl
theorem q3481 : (Jvm.Cond.code ({ cls := "SleeperRailway$Leg", name := "toString", desc := "()Ljava/lang/String;" } : Jvm.MethodName) prog_11_method_4_code (1 : Nat) (Option.some (Jvm.ClassFile.FieldType.object "java/lang/String"))) ∈ lw_all := lw_g (lw_at lw_m15 21 rfl) rfl
theorem q3482 : (Jvm.Cond.classLink "SleeperRailway$Leg" (30 : Nat) "java/lang/StringBuilder") ∈ lw_all := lw_g (lw_at lw_m15 22 rfl) rfl
theorem q3483 : (Jvm.Cond.methodLink "SleeperRailway$Leg" (32 : Nat) ({ cls := "java/lang/StringBuilder", name := "<init>", desc := "()V" } : Jvm.MethodName)) ∈ lw_all := lw_g (lw_at lw_m15 23 rfl) rfl
theorem q3484 : (Jvm.Cond.methodLink "SleeperRailway$Leg" (33 : Nat) ({ cls := "java/lang/StringBuilder", name := "append", desc := "(I)Ljava/lang/StringBuilder;" } : Jvm.MethodName)) ∈ lw_all := lw_g (lw_at lw_m15 24 rfl) rfl
theorem q3485 : (Jvm.Cond.stringRef "SleeperRailway$Leg" (37 : Nat) ".") ∈ lw_tbl := lw_at lw_m15 25 rfl
theorem q3486 : (Jvm.Cond.methodLink "SleeperRailway$Leg" (39 : Nat) ({ cls := "java/lang/StringBuilder", name := "append", desc := "(Ljava/lang/String;)Ljava/lang/StringBuilder;" } : Jvm.MethodName)) ∈ lw_all := lw_g (lw_at lw_m15 26 rfl) rfl
theorem q3487 : (Jvm.Cond.methodLink "SleeperRailway$Leg" (42 : Nat) ({ cls := "java/lang/StringBuilder", name := "toString", desc := "()Ljava/lang/String;" } : Jvm.MethodName)) ∈ lw_all := lw_g (lw_at lw_m15 27 rfl) rfl
theorem q4266 : (Jvm.Cond.castable "SleeperRailway$Leg" "java/lang/Object") ∈ lw_tbl := lw_at lw_m18 86 rfl
theorem in_X6 : ∀ w ∈ wsX60, w ∈ lw_all := lw_in wsX60 [930, 932, 934, 936, 938, 940] (by decide +kernel) (by decide +kernel)
/-! SleeperRailway$Command -/
set_option maxRecDepth 100000
def RX7 : String := "SleeperRailway$Command"
def TX7 : u_T := fun k => match k with
  | 0 => ("SleeperRailway$Command", "word", "Ljava/lang/String;", true)
  | _ => ("SleeperRailway$Command", "arguments", "[I", true)
def tyX7 : Nat → FieldType := fun k => match k with
  | 0 => .object "java/lang/String"
  | _ => .array .int
abbrev wsX70 : List Cond := u_ws RX7 TX7 2
theorem nmX7 : ∀ a, a < 2 → ∀ b, b < 2 → a ≠ b → (TX7 a).2.1 ≠ (TX7 b).2.1 := by decide +kernel
theorem tyX7_ok : ∀ k, k < 2 → parseFieldDescriptor (TX7 k).2.2.1 = some (tyX7 k) := by decide +kernel
abbrev cX7_init : ByteArray := prog_5_method_1_code
def yX7_init : MethodName := ⟨RX7, "<init>", "(Ljava/lang/String;[I)V"⟩
def dkwX7_init_0 : List UInt8 := [42, 183, 0, 1, 42, 43, 181, 0, 7, 42, 44, 181, 0, 13, 177]
abbrev dktX7_init_0 : List UInt8 := dkwX7_init_0 ++ []
theorem dksX7_init_0 : cX7_init.data.toList.drop 0 = dktX7_init_0 := by decide +kernel
theorem dX7_init_0 : decode cX7_init 0 = .ok (.aload_n 0, 1) := dk_42 (dk_at dksX7_init_0 0 rfl rfl)
theorem dX7_init_1 : decode cX7_init 1 = .ok (.invokespecial 1, 3) := dk_183 0 1 (dk_at dksX7_init_0 1 rfl rfl)
theorem dX7_init_4 : decode cX7_init 4 = .ok (.aload_n 0, 1) := dk_42 (dk_at dksX7_init_0 4 rfl rfl)
theorem dX7_init_5 : decode cX7_init 5 = .ok (.aload_n 1, 1) := dk_43 (dk_at dksX7_init_0 5 rfl rfl)
theorem dX7_init_6 : decode cX7_init 6 = .ok (.putfield 7, 3) := dk_181 0 7 (dk_at dksX7_init_0 6 rfl rfl)
theorem dX7_init_9 : decode cX7_init 9 = .ok (.aload_n 0, 1) := dk_42 (dk_at dksX7_init_0 9 rfl rfl)
theorem dX7_init_10 : decode cX7_init 10 = .ok (.aload_n 2, 1) := dk_44 (dk_at dksX7_init_0 10 rfl rfl)
theorem dX7_init_11 : decode cX7_init 11 = .ok (.putfield 13, 3) := dk_181 0 13 (dk_at dksX7_init_0 11 rfl rfl)
theorem dX7_init_14 : decode cX7_init 14 = .ok (.return_, 1) := dk_177 (dk_at dksX7_init_0 14 rfl rfl)
abbrev cX7_applyTo : ByteArray := prog_5_method_3_code
def yX7_applyTo : MethodName := ⟨RX7, "applyTo", "(LSleeperRailway$Railway;)I"⟩
def dkwX7_applyTo_15 : List UInt8 := [182, 0, 77, 172, 43, 42, 3, 182, 0, 45, 182, 0, 79, 172]
abbrev dktX7_applyTo_15 : List UInt8 := dkwX7_applyTo_15 ++ []
def dkwX7_applyTo_14 : List UInt8 := [3, 182, 0, 45, 182, 0, 74, 172, 43, 42, 3, 182, 0, 45, 42, 4, 182, 0, 45, 42, 5, 182, 0, 45]
abbrev dktX7_applyTo_14 : List UInt8 := dkwX7_applyTo_14 ++ dktX7_applyTo_15
def dkwX7_applyTo_13 : List UInt8 := [182, 0, 45, 42, 4, 182, 0, 45, 182, 0, 69, 172, 43, 42, 3, 182, 0, 45, 182, 0, 72, 172, 43, 42]
abbrev dktX7_applyTo_13 : List UInt8 := dkwX7_applyTo_13 ++ dktX7_applyTo_14
def dkwX7_applyTo_12 : List UInt8 := [42, 3, 182, 0, 45, 42, 4, 182, 0, 45, 42, 5, 182, 0, 45, 182, 0, 66, 172, 43, 42, 3]
abbrev dktX7_applyTo_12 : List UInt8 := dkwX7_applyTo_12 ++ dktX7_applyTo_13
def dkwX7_applyTo_11 : List UInt8 := [6, 182, 0, 45, 182, 0, 58, 172, 43, 42, 3, 182, 0, 45, 42, 4, 182, 0, 45, 182, 0, 62, 172, 43]
abbrev dktX7_applyTo_11 : List UInt8 := dkwX7_applyTo_11 ++ dktX7_applyTo_12
def dkwX7_applyTo_10 : List UInt8 := [182, 0, 45, 182, 0, 54, 172, 43, 42, 3, 182, 0, 45, 42, 4, 182, 0, 45, 42, 5, 182, 0, 45, 42]
abbrev dktX7_applyTo_10 : List UInt8 := dkwX7_applyTo_10 ++ dktX7_applyTo_11
def dkwX7_applyTo_9 : List UInt8 := [43, 42, 3, 182, 0, 45, 182, 0, 49, 172, 43, 42, 3, 182, 0, 45, 42, 4, 182, 0, 45, 42, 5]
abbrev dktX7_applyTo_9 : List UInt8 := dkwX7_applyTo_9 ++ dktX7_applyTo_10
def dkwX7_applyTo_8 : List UInt8 := [170, 0, 0, 0, 194, 0, 0, 0, 0, 0, 0, 0, 8, 0, 0, 0, 49, 0, 0, 0, 59, 0, 0, 0, 79, 0, 0, 0, 104, 0, 0, 0, 119, 0, 0, 0, 139, 0, 0, 0, 154, 0, 0, 0, 164, 0, 0, 0, 174]
abbrev dktX7_applyTo_8 : List UInt8 := dkwX7_applyTo_8 ++ dktX7_applyTo_9
def dkwX7_applyTo_7 : List UInt8 := [182, 0, 25, 153, 0, 6, 16, 8, 62, 29]
abbrev dktX7_applyTo_7 : List UInt8 := dkwX7_applyTo_7 ++ dktX7_applyTo_8
def dkwX7_applyTo_6 : List UInt8 := [62, 167, 0, 30, 44, 18, 41, 182, 0, 25, 153, 0, 21, 16, 7, 62, 167, 0, 15, 44, 18, 43]
abbrev dktX7_applyTo_6 : List UInt8 := dkwX7_applyTo_6 ++ dktX7_applyTo_7
def dkwX7_applyTo_5 : List UInt8 := [18, 37, 182, 0, 25, 153, 0, 50, 8, 62, 167, 0, 45, 44, 18, 39, 182, 0, 25, 153, 0, 36, 16, 6]
abbrev dktX7_applyTo_5 : List UInt8 := dkwX7_applyTo_5 ++ dktX7_applyTo_6
def dkwX7_applyTo_4 : List UInt8 := [153, 0, 78, 6, 62, 167, 0, 73, 44, 18, 35, 182, 0, 25, 153, 0, 64, 7, 62, 167, 0, 59, 44]
abbrev dktX7_applyTo_4 : List UInt8 := dkwX7_applyTo_4 ++ dktX7_applyTo_5
def dkwX7_applyTo_3 : List UInt8 := [62, 167, 0, 101, 44, 18, 31, 182, 0, 25, 153, 0, 92, 5, 62, 167, 0, 87, 44, 18, 33, 182, 0, 25]
abbrev dktX7_applyTo_3 : List UInt8 := dkwX7_applyTo_3 ++ dktX7_applyTo_4
def dkwX7_applyTo_2 : List UInt8 := [44, 18, 23, 182, 0, 25, 153, 0, 120, 3, 62, 167, 0, 115, 44, 18, 29, 182, 0, 25, 153, 0, 106, 4]
abbrev dktX7_applyTo_2 : List UInt8 := dkwX7_applyTo_2 ++ dktX7_applyTo_3
def dkwX7_applyTo_1 : List UInt8 := [171, 0, 0, 0, 207, 0, 0, 0, 9, 142, 236, 1, 52, 0, 0, 0, 81, 0, 46, 58, 233, 0, 0, 0, 195, 0, 46, 123, 48, 0, 0, 0, 137, 0, 50, 146, 166, 0, 0, 0, 123, 0, 53, 207, 136, 0, 0, 0, 165, 0, 54, 8, 2, 0, 0, 0, 109, 0, 54, 52, 135, 0, 0, 0, 180, 6, 31, 126, 244, 0, 0, 0, 151, 6, 151, 242, 8, 0, 0, 0, 95]
abbrev dktX7_applyTo_1 : List UInt8 := dkwX7_applyTo_1 ++ dktX7_applyTo_2
def dkwX7_applyTo_0 : List UInt8 := [42, 180, 0, 7, 77, 2, 62, 44, 182, 0, 17]
abbrev dktX7_applyTo_0 : List UInt8 := dkwX7_applyTo_0 ++ dktX7_applyTo_1
theorem dksX7_applyTo_0 : cX7_applyTo.data.toList.drop 0 = dktX7_applyTo_0 := by decide +kernel
theorem dksX7_applyTo_1 : cX7_applyTo.data.toList.drop 11 = dktX7_applyTo_1 := dk_seg dksX7_applyTo_0 11 rfl rfl
theorem dksX7_applyTo_2 : cX7_applyTo.data.toList.drop 92 = dktX7_applyTo_2 := dk_seg dksX7_applyTo_1 81 rfl rfl
theorem dksX7_applyTo_3 : cX7_applyTo.data.toList.drop 116 = dktX7_applyTo_3 := dk_seg dksX7_applyTo_2 24 rfl rfl
theorem dksX7_applyTo_4 : cX7_applyTo.data.toList.drop 140 = dktX7_applyTo_4 := dk_seg dksX7_applyTo_3 24 rfl rfl
theorem dksX7_applyTo_5 : cX7_applyTo.data.toList.drop 163 = dktX7_applyTo_5 := dk_seg dksX7_applyTo_4 23 rfl rfl
theorem dksX7_applyTo_6 : cX7_applyTo.data.toList.drop 187 = dktX7_applyTo_6 := dk_seg dksX7_applyTo_5 24 rfl rfl
theorem dksX7_applyTo_7 : cX7_applyTo.data.toList.drop 209 = dktX7_applyTo_7 := dk_seg dksX7_applyTo_6 22 rfl rfl
theorem dksX7_applyTo_8 : cX7_applyTo.data.toList.drop 219 = dktX7_applyTo_8 := dk_seg dksX7_applyTo_7 10 rfl rfl
theorem dksX7_applyTo_9 : cX7_applyTo.data.toList.drop 268 = dktX7_applyTo_9 := dk_seg dksX7_applyTo_8 49 rfl rfl
theorem dksX7_applyTo_10 : cX7_applyTo.data.toList.drop 291 = dktX7_applyTo_10 := dk_seg dksX7_applyTo_9 23 rfl rfl
theorem dksX7_applyTo_11 : cX7_applyTo.data.toList.drop 315 = dktX7_applyTo_11 := dk_seg dksX7_applyTo_10 24 rfl rfl
theorem dksX7_applyTo_12 : cX7_applyTo.data.toList.drop 339 = dktX7_applyTo_12 := dk_seg dksX7_applyTo_11 24 rfl rfl
theorem dksX7_applyTo_13 : cX7_applyTo.data.toList.drop 361 = dktX7_applyTo_13 := dk_seg dksX7_applyTo_12 22 rfl rfl
theorem dksX7_applyTo_14 : cX7_applyTo.data.toList.drop 385 = dktX7_applyTo_14 := dk_seg dksX7_applyTo_13 24 rfl rfl
theorem dksX7_applyTo_15 : cX7_applyTo.data.toList.drop 409 = dktX7_applyTo_15 := dk_seg dksX7_applyTo_14 24 rfl rfl
theorem dX7_applyTo_0 : decode cX7_applyTo 0 = .ok (.aload_n 0, 1) := dk_42 (dk_at dksX7_applyTo_0 0 rfl rfl)
theorem dX7_applyTo_1 : decode cX7_applyTo 1 = .ok (.getfield 7, 3) := dk_180 0 7 (dk_at dksX7_applyTo_0 1 rfl rfl)
theorem dX7_applyTo_4 : decode cX7_applyTo 4 = .ok (.astore_n 2, 1) := dk_77 (dk_at dksX7_applyTo_0 4 rfl rfl)
theorem dX7_applyTo_5 : decode cX7_applyTo 5 = .ok (.iconst (-1), 1) := dk_2 (dk_at dksX7_applyTo_0 5 rfl rfl)
theorem dX7_applyTo_6 : decode cX7_applyTo 6 = .ok (.istore_n 3, 1) := dk_62 (dk_at dksX7_applyTo_0 6 rfl rfl)
theorem dX7_applyTo_7 : decode cX7_applyTo 7 = .ok (.aload_n 2, 1) := dk_44 (dk_at dksX7_applyTo_0 7 rfl rfl)
theorem dX7_applyTo_8 : decode cX7_applyTo 8 = .ok (.invokevirtual 17, 3) := dk_182 0 17 (dk_at dksX7_applyTo_0 8 rfl rfl)
theorem dX7_applyTo_11 : decode cX7_applyTo 11 = .ok (.lookupswitch 207 #[(-1897135820, 81), (3029737, 195), (3046192, 137), (3314342, 123), (3526536, 165), (3540994, 109), (3552391, 180), (102727412, 151), (110621192, 95)], 81) := by decide +kernel
theorem dX7_applyTo_92 : decode cX7_applyTo 92 = .ok (.aload_n 2, 1) := dk_44 (dk_at dksX7_applyTo_2 0 rfl rfl)
theorem dX7_applyTo_93 : decode cX7_applyTo 93 = .ok (.ldc 23, 2) := dk_18 23 (dk_at dksX7_applyTo_2 1 rfl rfl)
theorem dX7_applyTo_95 : decode cX7_applyTo 95 = .ok (.invokevirtual 25, 3) := dk_182 0 25 (dk_at dksX7_applyTo_2 3 rfl rfl)
theorem dX7_applyTo_98 : decode cX7_applyTo 98 = .ok (.ifCond .eq 120, 3) := dk_153 0 120 (dk_at dksX7_applyTo_2 6 rfl rfl)
theorem dX7_applyTo_101 : decode cX7_applyTo 101 = .ok (.iconst 0, 1) := dk_3 (dk_at dksX7_applyTo_2 9 rfl rfl)
theorem dX7_applyTo_102 : decode cX7_applyTo 102 = .ok (.istore_n 3, 1) := dk_62 (dk_at dksX7_applyTo_2 10 rfl rfl)
theorem dX7_applyTo_103 : decode cX7_applyTo 103 = .ok (.goto 115, 3) := dk_167 0 115 (dk_at dksX7_applyTo_2 11 rfl rfl)
theorem dX7_applyTo_106 : decode cX7_applyTo 106 = .ok (.aload_n 2, 1) := dk_44 (dk_at dksX7_applyTo_2 14 rfl rfl)
theorem dX7_applyTo_107 : decode cX7_applyTo 107 = .ok (.ldc 29, 2) := dk_18 29 (dk_at dksX7_applyTo_2 15 rfl rfl)
theorem dX7_applyTo_109 : decode cX7_applyTo 109 = .ok (.invokevirtual 25, 3) := dk_182 0 25 (dk_at dksX7_applyTo_2 17 rfl rfl)
theorem dX7_applyTo_112 : decode cX7_applyTo 112 = .ok (.ifCond .eq 106, 3) := dk_153 0 106 (dk_at dksX7_applyTo_2 20 rfl rfl)
theorem dX7_applyTo_115 : decode cX7_applyTo 115 = .ok (.iconst 1, 1) := dk_4 (dk_at dksX7_applyTo_2 23 rfl rfl)
theorem dX7_applyTo_116 : decode cX7_applyTo 116 = .ok (.istore_n 3, 1) := dk_62 (dk_at dksX7_applyTo_3 0 rfl rfl)
theorem dX7_applyTo_117 : decode cX7_applyTo 117 = .ok (.goto 101, 3) := dk_167 0 101 (dk_at dksX7_applyTo_3 1 rfl rfl)
theorem dX7_applyTo_120 : decode cX7_applyTo 120 = .ok (.aload_n 2, 1) := dk_44 (dk_at dksX7_applyTo_3 4 rfl rfl)
theorem dX7_applyTo_121 : decode cX7_applyTo 121 = .ok (.ldc 31, 2) := dk_18 31 (dk_at dksX7_applyTo_3 5 rfl rfl)
theorem dX7_applyTo_123 : decode cX7_applyTo 123 = .ok (.invokevirtual 25, 3) := dk_182 0 25 (dk_at dksX7_applyTo_3 7 rfl rfl)
theorem dX7_applyTo_126 : decode cX7_applyTo 126 = .ok (.ifCond .eq 92, 3) := dk_153 0 92 (dk_at dksX7_applyTo_3 10 rfl rfl)
theorem dX7_applyTo_129 : decode cX7_applyTo 129 = .ok (.iconst 2, 1) := dk_5 (dk_at dksX7_applyTo_3 13 rfl rfl)
theorem dX7_applyTo_130 : decode cX7_applyTo 130 = .ok (.istore_n 3, 1) := dk_62 (dk_at dksX7_applyTo_3 14 rfl rfl)
theorem dX7_applyTo_131 : decode cX7_applyTo 131 = .ok (.goto 87, 3) := dk_167 0 87 (dk_at dksX7_applyTo_3 15 rfl rfl)
theorem dX7_applyTo_134 : decode cX7_applyTo 134 = .ok (.aload_n 2, 1) := dk_44 (dk_at dksX7_applyTo_3 18 rfl rfl)
theorem dX7_applyTo_135 : decode cX7_applyTo 135 = .ok (.ldc 33, 2) := dk_18 33 (dk_at dksX7_applyTo_3 19 rfl rfl)
theorem dX7_applyTo_137 : decode cX7_applyTo 137 = .ok (.invokevirtual 25, 3) := dk_182 0 25 (dk_at dksX7_applyTo_3 21 rfl rfl)
theorem dX7_applyTo_140 : decode cX7_applyTo 140 = .ok (.ifCond .eq 78, 3) := dk_153 0 78 (dk_at dksX7_applyTo_4 0 rfl rfl)
theorem dX7_applyTo_143 : decode cX7_applyTo 143 = .ok (.iconst 3, 1) := dk_6 (dk_at dksX7_applyTo_4 3 rfl rfl)
theorem dX7_applyTo_144 : decode cX7_applyTo 144 = .ok (.istore_n 3, 1) := dk_62 (dk_at dksX7_applyTo_4 4 rfl rfl)
theorem dX7_applyTo_145 : decode cX7_applyTo 145 = .ok (.goto 73, 3) := dk_167 0 73 (dk_at dksX7_applyTo_4 5 rfl rfl)
theorem dX7_applyTo_148 : decode cX7_applyTo 148 = .ok (.aload_n 2, 1) := dk_44 (dk_at dksX7_applyTo_4 8 rfl rfl)
theorem dX7_applyTo_149 : decode cX7_applyTo 149 = .ok (.ldc 35, 2) := dk_18 35 (dk_at dksX7_applyTo_4 9 rfl rfl)
theorem dX7_applyTo_151 : decode cX7_applyTo 151 = .ok (.invokevirtual 25, 3) := dk_182 0 25 (dk_at dksX7_applyTo_4 11 rfl rfl)
theorem dX7_applyTo_154 : decode cX7_applyTo 154 = .ok (.ifCond .eq 64, 3) := dk_153 0 64 (dk_at dksX7_applyTo_4 14 rfl rfl)
theorem dX7_applyTo_157 : decode cX7_applyTo 157 = .ok (.iconst 4, 1) := dk_7 (dk_at dksX7_applyTo_4 17 rfl rfl)
theorem dX7_applyTo_158 : decode cX7_applyTo 158 = .ok (.istore_n 3, 1) := dk_62 (dk_at dksX7_applyTo_4 18 rfl rfl)
theorem dX7_applyTo_159 : decode cX7_applyTo 159 = .ok (.goto 59, 3) := dk_167 0 59 (dk_at dksX7_applyTo_4 19 rfl rfl)
theorem dX7_applyTo_162 : decode cX7_applyTo 162 = .ok (.aload_n 2, 1) := dk_44 (dk_at dksX7_applyTo_4 22 rfl rfl)
theorem dX7_applyTo_163 : decode cX7_applyTo 163 = .ok (.ldc 37, 2) := dk_18 37 (dk_at dksX7_applyTo_5 0 rfl rfl)
theorem dX7_applyTo_165 : decode cX7_applyTo 165 = .ok (.invokevirtual 25, 3) := dk_182 0 25 (dk_at dksX7_applyTo_5 2 rfl rfl)
theorem dX7_applyTo_168 : decode cX7_applyTo 168 = .ok (.ifCond .eq 50, 3) := dk_153 0 50 (dk_at dksX7_applyTo_5 5 rfl rfl)
theorem dX7_applyTo_171 : decode cX7_applyTo 171 = .ok (.iconst 5, 1) := dk_8 (dk_at dksX7_applyTo_5 8 rfl rfl)
theorem dX7_applyTo_172 : decode cX7_applyTo 172 = .ok (.istore_n 3, 1) := dk_62 (dk_at dksX7_applyTo_5 9 rfl rfl)
theorem dX7_applyTo_173 : decode cX7_applyTo 173 = .ok (.goto 45, 3) := dk_167 0 45 (dk_at dksX7_applyTo_5 10 rfl rfl)
theorem dX7_applyTo_176 : decode cX7_applyTo 176 = .ok (.aload_n 2, 1) := dk_44 (dk_at dksX7_applyTo_5 13 rfl rfl)
theorem dX7_applyTo_177 : decode cX7_applyTo 177 = .ok (.ldc 39, 2) := dk_18 39 (dk_at dksX7_applyTo_5 14 rfl rfl)
theorem dX7_applyTo_179 : decode cX7_applyTo 179 = .ok (.invokevirtual 25, 3) := dk_182 0 25 (dk_at dksX7_applyTo_5 16 rfl rfl)
theorem dX7_applyTo_182 : decode cX7_applyTo 182 = .ok (.ifCond .eq 36, 3) := dk_153 0 36 (dk_at dksX7_applyTo_5 19 rfl rfl)
theorem dX7_applyTo_185 : decode cX7_applyTo 185 = .ok (.bipush 6, 2) := dk_16 6 (dk_at dksX7_applyTo_5 22 rfl rfl)
theorem dX7_applyTo_187 : decode cX7_applyTo 187 = .ok (.istore_n 3, 1) := dk_62 (dk_at dksX7_applyTo_6 0 rfl rfl)
theorem dX7_applyTo_188 : decode cX7_applyTo 188 = .ok (.goto 30, 3) := dk_167 0 30 (dk_at dksX7_applyTo_6 1 rfl rfl)
theorem dX7_applyTo_191 : decode cX7_applyTo 191 = .ok (.aload_n 2, 1) := dk_44 (dk_at dksX7_applyTo_6 4 rfl rfl)
theorem dX7_applyTo_192 : decode cX7_applyTo 192 = .ok (.ldc 41, 2) := dk_18 41 (dk_at dksX7_applyTo_6 5 rfl rfl)
theorem dX7_applyTo_194 : decode cX7_applyTo 194 = .ok (.invokevirtual 25, 3) := dk_182 0 25 (dk_at dksX7_applyTo_6 7 rfl rfl)
theorem dX7_applyTo_197 : decode cX7_applyTo 197 = .ok (.ifCond .eq 21, 3) := dk_153 0 21 (dk_at dksX7_applyTo_6 10 rfl rfl)
theorem dX7_applyTo_200 : decode cX7_applyTo 200 = .ok (.bipush 7, 2) := dk_16 7 (dk_at dksX7_applyTo_6 13 rfl rfl)
theorem dX7_applyTo_202 : decode cX7_applyTo 202 = .ok (.istore_n 3, 1) := dk_62 (dk_at dksX7_applyTo_6 15 rfl rfl)
theorem dX7_applyTo_203 : decode cX7_applyTo 203 = .ok (.goto 15, 3) := dk_167 0 15 (dk_at dksX7_applyTo_6 16 rfl rfl)
theorem dX7_applyTo_206 : decode cX7_applyTo 206 = .ok (.aload_n 2, 1) := dk_44 (dk_at dksX7_applyTo_6 19 rfl rfl)
theorem dX7_applyTo_207 : decode cX7_applyTo 207 = .ok (.ldc 43, 2) := dk_18 43 (dk_at dksX7_applyTo_6 20 rfl rfl)
theorem dX7_applyTo_209 : decode cX7_applyTo 209 = .ok (.invokevirtual 25, 3) := dk_182 0 25 (dk_at dksX7_applyTo_7 0 rfl rfl)
theorem dX7_applyTo_212 : decode cX7_applyTo 212 = .ok (.ifCond .eq 6, 3) := dk_153 0 6 (dk_at dksX7_applyTo_7 3 rfl rfl)
theorem dX7_applyTo_215 : decode cX7_applyTo 215 = .ok (.bipush 8, 2) := dk_16 8 (dk_at dksX7_applyTo_7 6 rfl rfl)
theorem dX7_applyTo_217 : decode cX7_applyTo 217 = .ok (.istore_n 3, 1) := dk_62 (dk_at dksX7_applyTo_7 8 rfl rfl)
theorem dX7_applyTo_218 : decode cX7_applyTo 218 = .ok (.iload_n 3, 1) := dk_29 (dk_at dksX7_applyTo_7 9 rfl rfl)
theorem dX7_applyTo_219 : decode cX7_applyTo 219 = .ok (.tableswitch 194 0 8 #[49, 59, 79, 104, 119, 139, 154, 164, 174], 49) := by decide +kernel
theorem dX7_applyTo_268 : decode cX7_applyTo 268 = .ok (.aload_n 1, 1) := dk_43 (dk_at dksX7_applyTo_9 0 rfl rfl)
theorem dX7_applyTo_269 : decode cX7_applyTo 269 = .ok (.aload_n 0, 1) := dk_42 (dk_at dksX7_applyTo_9 1 rfl rfl)
theorem dX7_applyTo_270 : decode cX7_applyTo 270 = .ok (.iconst 0, 1) := dk_3 (dk_at dksX7_applyTo_9 2 rfl rfl)
theorem dX7_applyTo_271 : decode cX7_applyTo 271 = .ok (.invokevirtual 45, 3) := dk_182 0 45 (dk_at dksX7_applyTo_9 3 rfl rfl)
theorem dX7_applyTo_274 : decode cX7_applyTo 274 = .ok (.invokevirtual 49, 3) := dk_182 0 49 (dk_at dksX7_applyTo_9 6 rfl rfl)
theorem dX7_applyTo_277 : decode cX7_applyTo 277 = .ok (.ireturn, 1) := dk_172 (dk_at dksX7_applyTo_9 9 rfl rfl)
theorem dX7_applyTo_278 : decode cX7_applyTo 278 = .ok (.aload_n 1, 1) := dk_43 (dk_at dksX7_applyTo_9 10 rfl rfl)
theorem dX7_applyTo_279 : decode cX7_applyTo 279 = .ok (.aload_n 0, 1) := dk_42 (dk_at dksX7_applyTo_9 11 rfl rfl)
theorem dX7_applyTo_280 : decode cX7_applyTo 280 = .ok (.iconst 0, 1) := dk_3 (dk_at dksX7_applyTo_9 12 rfl rfl)
theorem dX7_applyTo_281 : decode cX7_applyTo 281 = .ok (.invokevirtual 45, 3) := dk_182 0 45 (dk_at dksX7_applyTo_9 13 rfl rfl)
theorem dX7_applyTo_284 : decode cX7_applyTo 284 = .ok (.aload_n 0, 1) := dk_42 (dk_at dksX7_applyTo_9 16 rfl rfl)
theorem dX7_applyTo_285 : decode cX7_applyTo 285 = .ok (.iconst 1, 1) := dk_4 (dk_at dksX7_applyTo_9 17 rfl rfl)
theorem dX7_applyTo_286 : decode cX7_applyTo 286 = .ok (.invokevirtual 45, 3) := dk_182 0 45 (dk_at dksX7_applyTo_9 18 rfl rfl)
theorem dX7_applyTo_289 : decode cX7_applyTo 289 = .ok (.aload_n 0, 1) := dk_42 (dk_at dksX7_applyTo_9 21 rfl rfl)
theorem dX7_applyTo_290 : decode cX7_applyTo 290 = .ok (.iconst 2, 1) := dk_5 (dk_at dksX7_applyTo_9 22 rfl rfl)
theorem dX7_applyTo_291 : decode cX7_applyTo 291 = .ok (.invokevirtual 45, 3) := dk_182 0 45 (dk_at dksX7_applyTo_10 0 rfl rfl)
theorem dX7_applyTo_294 : decode cX7_applyTo 294 = .ok (.invokevirtual 54, 3) := dk_182 0 54 (dk_at dksX7_applyTo_10 3 rfl rfl)
theorem dX7_applyTo_297 : decode cX7_applyTo 297 = .ok (.ireturn, 1) := dk_172 (dk_at dksX7_applyTo_10 6 rfl rfl)
theorem dX7_applyTo_298 : decode cX7_applyTo 298 = .ok (.aload_n 1, 1) := dk_43 (dk_at dksX7_applyTo_10 7 rfl rfl)
theorem dX7_applyTo_299 : decode cX7_applyTo 299 = .ok (.aload_n 0, 1) := dk_42 (dk_at dksX7_applyTo_10 8 rfl rfl)
theorem dX7_applyTo_300 : decode cX7_applyTo 300 = .ok (.iconst 0, 1) := dk_3 (dk_at dksX7_applyTo_10 9 rfl rfl)
theorem dX7_applyTo_301 : decode cX7_applyTo 301 = .ok (.invokevirtual 45, 3) := dk_182 0 45 (dk_at dksX7_applyTo_10 10 rfl rfl)
theorem dX7_applyTo_304 : decode cX7_applyTo 304 = .ok (.aload_n 0, 1) := dk_42 (dk_at dksX7_applyTo_10 13 rfl rfl)
theorem dX7_applyTo_305 : decode cX7_applyTo 305 = .ok (.iconst 1, 1) := dk_4 (dk_at dksX7_applyTo_10 14 rfl rfl)
theorem dX7_applyTo_306 : decode cX7_applyTo 306 = .ok (.invokevirtual 45, 3) := dk_182 0 45 (dk_at dksX7_applyTo_10 15 rfl rfl)
theorem dX7_applyTo_309 : decode cX7_applyTo 309 = .ok (.aload_n 0, 1) := dk_42 (dk_at dksX7_applyTo_10 18 rfl rfl)
theorem dX7_applyTo_310 : decode cX7_applyTo 310 = .ok (.iconst 2, 1) := dk_5 (dk_at dksX7_applyTo_10 19 rfl rfl)
theorem dX7_applyTo_311 : decode cX7_applyTo 311 = .ok (.invokevirtual 45, 3) := dk_182 0 45 (dk_at dksX7_applyTo_10 20 rfl rfl)
theorem dX7_applyTo_314 : decode cX7_applyTo 314 = .ok (.aload_n 0, 1) := dk_42 (dk_at dksX7_applyTo_10 23 rfl rfl)
theorem dX7_applyTo_315 : decode cX7_applyTo 315 = .ok (.iconst 3, 1) := dk_6 (dk_at dksX7_applyTo_11 0 rfl rfl)
theorem dX7_applyTo_316 : decode cX7_applyTo 316 = .ok (.invokevirtual 45, 3) := dk_182 0 45 (dk_at dksX7_applyTo_11 1 rfl rfl)
theorem dX7_applyTo_319 : decode cX7_applyTo 319 = .ok (.invokevirtual 58, 3) := dk_182 0 58 (dk_at dksX7_applyTo_11 4 rfl rfl)
theorem dX7_applyTo_322 : decode cX7_applyTo 322 = .ok (.ireturn, 1) := dk_172 (dk_at dksX7_applyTo_11 7 rfl rfl)
theorem dX7_applyTo_323 : decode cX7_applyTo 323 = .ok (.aload_n 1, 1) := dk_43 (dk_at dksX7_applyTo_11 8 rfl rfl)
theorem dX7_applyTo_324 : decode cX7_applyTo 324 = .ok (.aload_n 0, 1) := dk_42 (dk_at dksX7_applyTo_11 9 rfl rfl)
theorem dX7_applyTo_325 : decode cX7_applyTo 325 = .ok (.iconst 0, 1) := dk_3 (dk_at dksX7_applyTo_11 10 rfl rfl)
theorem dX7_applyTo_326 : decode cX7_applyTo 326 = .ok (.invokevirtual 45, 3) := dk_182 0 45 (dk_at dksX7_applyTo_11 11 rfl rfl)
theorem dX7_applyTo_329 : decode cX7_applyTo 329 = .ok (.aload_n 0, 1) := dk_42 (dk_at dksX7_applyTo_11 14 rfl rfl)
theorem dX7_applyTo_330 : decode cX7_applyTo 330 = .ok (.iconst 1, 1) := dk_4 (dk_at dksX7_applyTo_11 15 rfl rfl)
theorem dX7_applyTo_331 : decode cX7_applyTo 331 = .ok (.invokevirtual 45, 3) := dk_182 0 45 (dk_at dksX7_applyTo_11 16 rfl rfl)
theorem dX7_applyTo_334 : decode cX7_applyTo 334 = .ok (.invokevirtual 62, 3) := dk_182 0 62 (dk_at dksX7_applyTo_11 19 rfl rfl)
theorem dX7_applyTo_337 : decode cX7_applyTo 337 = .ok (.ireturn, 1) := dk_172 (dk_at dksX7_applyTo_11 22 rfl rfl)
theorem dX7_applyTo_338 : decode cX7_applyTo 338 = .ok (.aload_n 1, 1) := dk_43 (dk_at dksX7_applyTo_11 23 rfl rfl)
theorem dX7_applyTo_339 : decode cX7_applyTo 339 = .ok (.aload_n 0, 1) := dk_42 (dk_at dksX7_applyTo_12 0 rfl rfl)
theorem dX7_applyTo_340 : decode cX7_applyTo 340 = .ok (.iconst 0, 1) := dk_3 (dk_at dksX7_applyTo_12 1 rfl rfl)
theorem dX7_applyTo_341 : decode cX7_applyTo 341 = .ok (.invokevirtual 45, 3) := dk_182 0 45 (dk_at dksX7_applyTo_12 2 rfl rfl)
theorem dX7_applyTo_344 : decode cX7_applyTo 344 = .ok (.aload_n 0, 1) := dk_42 (dk_at dksX7_applyTo_12 5 rfl rfl)
theorem dX7_applyTo_345 : decode cX7_applyTo 345 = .ok (.iconst 1, 1) := dk_4 (dk_at dksX7_applyTo_12 6 rfl rfl)
theorem dX7_applyTo_346 : decode cX7_applyTo 346 = .ok (.invokevirtual 45, 3) := dk_182 0 45 (dk_at dksX7_applyTo_12 7 rfl rfl)
theorem dX7_applyTo_349 : decode cX7_applyTo 349 = .ok (.aload_n 0, 1) := dk_42 (dk_at dksX7_applyTo_12 10 rfl rfl)
theorem dX7_applyTo_350 : decode cX7_applyTo 350 = .ok (.iconst 2, 1) := dk_5 (dk_at dksX7_applyTo_12 11 rfl rfl)
theorem dX7_applyTo_351 : decode cX7_applyTo 351 = .ok (.invokevirtual 45, 3) := dk_182 0 45 (dk_at dksX7_applyTo_12 12 rfl rfl)
theorem dX7_applyTo_354 : decode cX7_applyTo 354 = .ok (.invokevirtual 66, 3) := dk_182 0 66 (dk_at dksX7_applyTo_12 15 rfl rfl)
theorem dX7_applyTo_357 : decode cX7_applyTo 357 = .ok (.ireturn, 1) := dk_172 (dk_at dksX7_applyTo_12 18 rfl rfl)
theorem dX7_applyTo_358 : decode cX7_applyTo 358 = .ok (.aload_n 1, 1) := dk_43 (dk_at dksX7_applyTo_12 19 rfl rfl)
theorem dX7_applyTo_359 : decode cX7_applyTo 359 = .ok (.aload_n 0, 1) := dk_42 (dk_at dksX7_applyTo_12 20 rfl rfl)
theorem dX7_applyTo_360 : decode cX7_applyTo 360 = .ok (.iconst 0, 1) := dk_3 (dk_at dksX7_applyTo_12 21 rfl rfl)
theorem dX7_applyTo_361 : decode cX7_applyTo 361 = .ok (.invokevirtual 45, 3) := dk_182 0 45 (dk_at dksX7_applyTo_13 0 rfl rfl)
theorem dX7_applyTo_364 : decode cX7_applyTo 364 = .ok (.aload_n 0, 1) := dk_42 (dk_at dksX7_applyTo_13 3 rfl rfl)
theorem dX7_applyTo_365 : decode cX7_applyTo 365 = .ok (.iconst 1, 1) := dk_4 (dk_at dksX7_applyTo_13 4 rfl rfl)
theorem dX7_applyTo_366 : decode cX7_applyTo 366 = .ok (.invokevirtual 45, 3) := dk_182 0 45 (dk_at dksX7_applyTo_13 5 rfl rfl)
theorem dX7_applyTo_369 : decode cX7_applyTo 369 = .ok (.invokevirtual 69, 3) := dk_182 0 69 (dk_at dksX7_applyTo_13 8 rfl rfl)
theorem dX7_applyTo_372 : decode cX7_applyTo 372 = .ok (.ireturn, 1) := dk_172 (dk_at dksX7_applyTo_13 11 rfl rfl)
theorem dX7_applyTo_373 : decode cX7_applyTo 373 = .ok (.aload_n 1, 1) := dk_43 (dk_at dksX7_applyTo_13 12 rfl rfl)
theorem dX7_applyTo_374 : decode cX7_applyTo 374 = .ok (.aload_n 0, 1) := dk_42 (dk_at dksX7_applyTo_13 13 rfl rfl)
theorem dX7_applyTo_375 : decode cX7_applyTo 375 = .ok (.iconst 0, 1) := dk_3 (dk_at dksX7_applyTo_13 14 rfl rfl)
theorem dX7_applyTo_376 : decode cX7_applyTo 376 = .ok (.invokevirtual 45, 3) := dk_182 0 45 (dk_at dksX7_applyTo_13 15 rfl rfl)
theorem dX7_applyTo_379 : decode cX7_applyTo 379 = .ok (.invokevirtual 72, 3) := dk_182 0 72 (dk_at dksX7_applyTo_13 18 rfl rfl)
theorem dX7_applyTo_382 : decode cX7_applyTo 382 = .ok (.ireturn, 1) := dk_172 (dk_at dksX7_applyTo_13 21 rfl rfl)
theorem dX7_applyTo_383 : decode cX7_applyTo 383 = .ok (.aload_n 1, 1) := dk_43 (dk_at dksX7_applyTo_13 22 rfl rfl)
theorem dX7_applyTo_384 : decode cX7_applyTo 384 = .ok (.aload_n 0, 1) := dk_42 (dk_at dksX7_applyTo_13 23 rfl rfl)
theorem dX7_applyTo_385 : decode cX7_applyTo 385 = .ok (.iconst 0, 1) := dk_3 (dk_at dksX7_applyTo_14 0 rfl rfl)
theorem dX7_applyTo_386 : decode cX7_applyTo 386 = .ok (.invokevirtual 45, 3) := dk_182 0 45 (dk_at dksX7_applyTo_14 1 rfl rfl)
theorem dX7_applyTo_389 : decode cX7_applyTo 389 = .ok (.invokevirtual 74, 3) := dk_182 0 74 (dk_at dksX7_applyTo_14 4 rfl rfl)
theorem dX7_applyTo_392 : decode cX7_applyTo 392 = .ok (.ireturn, 1) := dk_172 (dk_at dksX7_applyTo_14 7 rfl rfl)
theorem dX7_applyTo_393 : decode cX7_applyTo 393 = .ok (.aload_n 1, 1) := dk_43 (dk_at dksX7_applyTo_14 8 rfl rfl)
theorem dX7_applyTo_394 : decode cX7_applyTo 394 = .ok (.aload_n 0, 1) := dk_42 (dk_at dksX7_applyTo_14 9 rfl rfl)
theorem dX7_applyTo_395 : decode cX7_applyTo 395 = .ok (.iconst 0, 1) := dk_3 (dk_at dksX7_applyTo_14 10 rfl rfl)
theorem dX7_applyTo_396 : decode cX7_applyTo 396 = .ok (.invokevirtual 45, 3) := dk_182 0 45 (dk_at dksX7_applyTo_14 11 rfl rfl)
theorem dX7_applyTo_399 : decode cX7_applyTo 399 = .ok (.aload_n 0, 1) := dk_42 (dk_at dksX7_applyTo_14 14 rfl rfl)
theorem dX7_applyTo_400 : decode cX7_applyTo 400 = .ok (.iconst 1, 1) := dk_4 (dk_at dksX7_applyTo_14 15 rfl rfl)
theorem dX7_applyTo_401 : decode cX7_applyTo 401 = .ok (.invokevirtual 45, 3) := dk_182 0 45 (dk_at dksX7_applyTo_14 16 rfl rfl)
theorem dX7_applyTo_404 : decode cX7_applyTo 404 = .ok (.aload_n 0, 1) := dk_42 (dk_at dksX7_applyTo_14 19 rfl rfl)
theorem dX7_applyTo_405 : decode cX7_applyTo 405 = .ok (.iconst 2, 1) := dk_5 (dk_at dksX7_applyTo_14 20 rfl rfl)
theorem dX7_applyTo_406 : decode cX7_applyTo 406 = .ok (.invokevirtual 45, 3) := dk_182 0 45 (dk_at dksX7_applyTo_14 21 rfl rfl)
theorem dX7_applyTo_409 : decode cX7_applyTo 409 = .ok (.invokevirtual 77, 3) := dk_182 0 77 (dk_at dksX7_applyTo_15 0 rfl rfl)
theorem dX7_applyTo_412 : decode cX7_applyTo 412 = .ok (.ireturn, 1) := dk_172 (dk_at dksX7_applyTo_15 3 rfl rfl)
theorem dX7_applyTo_413 : decode cX7_applyTo 413 = .ok (.aload_n 1, 1) := dk_43 (dk_at dksX7_applyTo_15 4 rfl rfl)
theorem dX7_applyTo_414 : decode cX7_applyTo 414 = .ok (.aload_n 0, 1) := dk_42 (dk_at dksX7_applyTo_15 5 rfl rfl)
theorem dX7_applyTo_415 : decode cX7_applyTo 415 = .ok (.iconst 0, 1) := dk_3 (dk_at dksX7_applyTo_15 6 rfl rfl)
theorem dX7_applyTo_416 : decode cX7_applyTo 416 = .ok (.invokevirtual 45, 3) := dk_182 0 45 (dk_at dksX7_applyTo_15 7 rfl rfl)
theorem dX7_applyTo_419 : decode cX7_applyTo 419 = .ok (.invokevirtual 79, 3) := dk_182 0 79 (dk_at dksX7_applyTo_15 10 rfl rfl)
theorem dX7_applyTo_422 : decode cX7_applyTo 422 = .ok (.ireturn, 1) := dk_172 (dk_at dksX7_applyTo_15 13 rfl rfl)
abbrev cX7_at : ByteArray := prog_5_method_2_code
def yX7_at : MethodName := ⟨RX7, "at", "(I)I"⟩
def dkwX7_at_0 : List UInt8 := [42, 180, 0, 13, 27, 46, 172]
abbrev dktX7_at_0 : List UInt8 := dkwX7_at_0 ++ []
theorem dksX7_at_0 : cX7_at.data.toList.drop 0 = dktX7_at_0 := by decide +kernel
theorem dX7_at_0 : decode cX7_at 0 = .ok (.aload_n 0, 1) := dk_42 (dk_at dksX7_at_0 0 rfl rfl)
theorem dX7_at_1 : decode cX7_at 1 = .ok (.getfield 13, 3) := dk_180 0 13 (dk_at dksX7_at_0 1 rfl rfl)
theorem dX7_at_4 : decode cX7_at 4 = .ok (.iload_n 1, 1) := dk_27 (dk_at dksX7_at_0 4 rfl rfl)
theorem dX7_at_5 : decode cX7_at 5 = .ok (.iaload, 1) := dk_46 (dk_at dksX7_at_0 5 rfl rfl)
theorem dX7_at_6 : decode cX7_at 6 = .ok (.ireturn, 1) := dk_172 (dk_at dksX7_at_0 6 rfl rfl)
theorem q153 : (Jvm.Cond.initialized "SleeperRailway$Command") ∈ lw_all := lw_g (lw_at lw_m1 53 rfl) rfl
theorem q993 : (Jvm.Cond.selects "SleeperRailway$Command" ({ cls := "java/lang/Object", name := "getClass", desc := "()Ljava/lang/Class;" } : Jvm.MethodName) ({ cls := "java/lang/Object", name := "getClass", desc := "()Ljava/lang/Class;" } : Jvm.MethodName)) ∈ lw_all := lw_g (lw_at lw_m4 173 rfl) rfl
theorem q2344 : (Jvm.Cond.instantiable "SleeperRailway$Command" (2 : Nat)) ∈ lw_all := lw_g (lw_at lw_m10 84 rfl) rfl
theorem q2346 : (Jvm.Cond.instanceMethod ({ cls := "SleeperRailway$Command", name := "<init>", desc := "(Ljava/lang/String;[I)V" } : Jvm.MethodName)) ∈ lw_all := lw_g (lw_at lw_m10 86 rfl) rfl
theorem q2347 : (Jvm.Cond.code ({ cls := "SleeperRailway$Command", name := "<init>", desc := "(Ljava/lang/String;[I)V" } : Jvm.MethodName) prog_5_method_1_code (3 : Nat) (Option.none : Option Jvm.ClassFile.FieldType)) ∈ lw_all := lw_g (lw_at lw_m10 87 rfl) rfl
theorem q2348 : (Jvm.Cond.methodLink "SleeperRailway$Command" (1 : Nat) ({ cls := "java/lang/Object", name := "<init>", desc := "()V" } : Jvm.MethodName)) ∈ lw_all := lw_g (lw_at lw_m10 88 rfl) rfl
theorem q2349 : (Jvm.Cond.fieldLink "SleeperRailway$Command" (7 : Nat) "SleeperRailway$Command" "word" "Ljava/lang/String;") ∈ lw_all := lw_g (lw_at lw_m10 89 rfl) rfl
theorem q2350 : (Jvm.Cond.fieldLink "SleeperRailway$Command" (13 : Nat) "SleeperRailway$Command" "arguments" "[I") ∈ lw_all := lw_g (lw_at lw_m10 90 rfl) rfl
theorem q2351 : (Jvm.Cond.laysFinal "SleeperRailway$Command" "SleeperRailway$Command" "word" "Ljava/lang/String;") ∈ lw_all := lw_g (lw_at lw_m10 91 rfl) rfl
theorem q2352 : (Jvm.Cond.soleField "SleeperRailway$Command" "word") ∈ lw_all := lw_g (lw_at lw_m10 92 rfl) rfl
theorem q2353 : (Jvm.Cond.laysFinal "SleeperRailway$Command" "SleeperRailway$Command" "arguments" "[I") ∈ lw_all := lw_g (lw_at lw_m10 93 rfl) rfl
theorem q2354 : (Jvm.Cond.soleField "SleeperRailway$Command" "arguments") ∈ lw_all := lw_g (lw_at lw_m10 94 rfl) rfl
theorem q2355 : (Jvm.Cond.superclass "SleeperRailway$Command" "java/lang/Object") ∈ lw_all := lw_g (lw_at lw_m10 95 rfl) rfl
theorem q2357 : (Jvm.Cond.instanceMethod ({ cls := "SleeperRailway$Command", name := "applyTo", desc := "(LSleeperRailway$Railway;)I" } : Jvm.MethodName)) ∈ lw_all := lw_g (lw_at lw_m10 97 rfl) rfl
theorem q2358 : (Jvm.Cond.selects "SleeperRailway$Command" ({ cls := "SleeperRailway$Command", name := "applyTo", desc := "(LSleeperRailway$Railway;)I" } : Jvm.MethodName) ({ cls := "SleeperRailway$Command", name := "applyTo", desc := "(LSleeperRailway$Railway;)I" } : Jvm.MethodName)) ∈ lw_all := lw_g (lw_at lw_m10 98 rfl) rfl
theorem q2359 : (Jvm.Cond.code ({ cls := "SleeperRailway$Command", name := "applyTo", desc := "(LSleeperRailway$Railway;)I" } : Jvm.MethodName) prog_5_method_3_code (4 : Nat) (Option.some Jvm.ClassFile.FieldType.int)) ∈ lw_all := lw_g (lw_at lw_m10 99 rfl) rfl
theorem q2360 : (Jvm.Cond.methodLink "SleeperRailway$Command" (17 : Nat) ({ cls := "java/lang/String", name := "hashCode", desc := "()I" } : Jvm.MethodName)) ∈ lw_all := lw_g (lw_at lw_m10 100 rfl) rfl
theorem q2421 : (Jvm.Cond.stringRef "SleeperRailway$Command" (23 : Nat) "station") ∈ lw_tbl := lw_at lw_m10 161 rfl
theorem q2422 : (Jvm.Cond.methodLink "SleeperRailway$Command" (25 : Nat) ({ cls := "java/lang/String", name := "equals", desc := "(Ljava/lang/Object;)Z" } : Jvm.MethodName)) ∈ lw_all := lw_g (lw_at lw_m10 162 rfl) rfl
theorem q2429 : (Jvm.Cond.stringRef "SleeperRailway$Command" (29 : Nat) "train") ∈ lw_tbl := lw_at lw_m10 169 rfl
theorem q2430 : (Jvm.Cond.stringRef "SleeperRailway$Command" (31 : Nat) "stop") ∈ lw_tbl := lw_at lw_m10 170 rfl
theorem q2431 : (Jvm.Cond.stringRef "SleeperRailway$Command" (33 : Nat) "late") ∈ lw_tbl := lw_at lw_m10 171 rfl
theorem q2432 : (Jvm.Cond.stringRef "SleeperRailway$Command" (35 : Nat) "case") ∈ lw_tbl := lw_at lw_m10 172 rfl
theorem q2433 : (Jvm.Cond.stringRef "SleeperRailway$Command" (37 : Nat) "label") ∈ lw_tbl := lw_at lw_m10 173 rfl
theorem q2434 : (Jvm.Cond.stringRef "SleeperRailway$Command" (39 : Nat) "send") ∈ lw_tbl := lw_at lw_m10 174 rfl
theorem q2435 : (Jvm.Cond.stringRef "SleeperRailway$Command" (41 : Nat) "take") ∈ lw_tbl := lw_at lw_m10 175 rfl
theorem q2436 : (Jvm.Cond.stringRef "SleeperRailway$Command" (43 : Nat) "book") ∈ lw_tbl := lw_at lw_m10 176 rfl
theorem q2437 : (Jvm.Cond.methodLink "SleeperRailway$Command" (45 : Nat) ({ cls := "SleeperRailway$Command", name := "at", desc := "(I)I" } : Jvm.MethodName)) ∈ lw_all := lw_g (lw_at lw_m10 177 rfl) rfl
theorem q2438 : (Jvm.Cond.privateMethod ({ cls := "SleeperRailway$Command", name := "at", desc := "(I)I" } : Jvm.MethodName)) ∈ lw_tbl := lw_at lw_m10 178 rfl
theorem q2439 : (Jvm.Cond.instanceMethod ({ cls := "SleeperRailway$Command", name := "at", desc := "(I)I" } : Jvm.MethodName)) ∈ lw_all := lw_g (lw_at lw_m10 179 rfl) rfl
theorem q2440 : (Jvm.Cond.code ({ cls := "SleeperRailway$Command", name := "at", desc := "(I)I" } : Jvm.MethodName) prog_5_method_2_code (2 : Nat) (Option.some Jvm.ClassFile.FieldType.int)) ∈ lw_all := lw_g (lw_at lw_m10 180 rfl) rfl
theorem q2441 : (Jvm.Cond.methodLink "SleeperRailway$Command" (49 : Nat) ({ cls := "SleeperRailway$Railway", name := "addStation", desc := "(I)I" } : Jvm.MethodName)) ∈ lw_all := lw_g (lw_at lw_m10 181 rfl) rfl
theorem q2477 : (Jvm.Cond.methodLink "SleeperRailway$Command" (54 : Nat) ({ cls := "SleeperRailway$Railway", name := "addTrain", desc := "(III)I" } : Jvm.MethodName)) ∈ lw_all := lw_g (lw_at lw_m10 217 rfl) rfl
theorem q2490 : (Jvm.Cond.methodLink "SleeperRailway$Command" (58 : Nat) ({ cls := "SleeperRailway$Railway", name := "extendTrain", desc := "(IIII)I" } : Jvm.MethodName)) ∈ lw_all := lw_g (lw_at lw_m10 230 rfl) rfl
theorem q2503 : (Jvm.Cond.methodLink "SleeperRailway$Command" (62 : Nat) ({ cls := "SleeperRailway$Railway", name := "delayTrain", desc := "(II)I" } : Jvm.MethodName)) ∈ lw_all := lw_g (lw_at lw_m11 3 rfl) rfl
theorem q2507 : (Jvm.Cond.methodLink "SleeperRailway$Command" (66 : Nat) ({ cls := "SleeperRailway$Railway", name := "addSuitcase", desc := "(III)I" } : Jvm.MethodName)) ∈ lw_all := lw_g (lw_at lw_m11 7 rfl) rfl
theorem q2530 : (Jvm.Cond.methodLink "SleeperRailway$Command" (69 : Nat) ({ cls := "SleeperRailway$Railway", name := "relabel", desc := "(II)I" } : Jvm.MethodName)) ∈ lw_all := lw_g (lw_at lw_m11 30 rfl) rfl
theorem q2555 : (Jvm.Cond.methodLink "SleeperRailway$Command" (72 : Nat) ({ cls := "SleeperRailway$Railway", name := "send", desc := "(I)I" } : Jvm.MethodName)) ∈ lw_all := lw_g (lw_at lw_m11 55 rfl) rfl
theorem q2580 : (Jvm.Cond.methodLink "SleeperRailway$Command" (74 : Nat) ({ cls := "SleeperRailway$Railway", name := "collect", desc := "(I)I" } : Jvm.MethodName)) ∈ lw_all := lw_g (lw_at lw_m11 80 rfl) rfl
theorem q2589 : (Jvm.Cond.methodLink "SleeperRailway$Command" (77 : Nat) ({ cls := "SleeperRailway$Railway", name := "book", desc := "(III)I" } : Jvm.MethodName)) ∈ lw_all := lw_g (lw_at lw_m11 89 rfl) rfl
theorem q2627 : (Jvm.Cond.methodLink "SleeperRailway$Command" (79 : Nat) ({ cls := "SleeperRailway$Railway", name := "cancelBooking", desc := "(I)I" } : Jvm.MethodName)) ∈ lw_all := lw_g (lw_at lw_m11 127 rfl) rfl
theorem q3169 : (Jvm.Cond.selects "SleeperRailway$Command" ({ cls := "java/lang/Object", name := "equals", desc := "(Ljava/lang/Object;)Z" } : Jvm.MethodName) ({ cls := "java/lang/Object", name := "equals", desc := "(Ljava/lang/Object;)Z" } : Jvm.MethodName)) ∈ lw_all := lw_g (lw_at lw_m13 189 rfl) rfl
theorem q3474 : (Jvm.Cond.selects "SleeperRailway$Command" ({ cls := "java/lang/Object", name := "toString", desc := "()Ljava/lang/String;" } : Jvm.MethodName) ({ cls := "java/lang/Object", name := "toString", desc := "()Ljava/lang/String;" } : Jvm.MethodName)) ∈ lw_all := lw_g (lw_at lw_m15 14 rfl) rfl
theorem q4261 : (Jvm.Cond.castable "SleeperRailway$Command" "java/lang/Object") ∈ lw_tbl := lw_at lw_m18 81 rfl
theorem in_X7 : ∀ w ∈ wsX70, w ∈ lw_all := lw_in wsX70 [2351, 2353] (by decide +kernel) (by decide +kernel)
/-! SleeperRailway$Failure -/
set_option maxRecDepth 100000
def RX8 : String := "SleeperRailway$Failure"
abbrev cX8_init : ByteArray := prog_9_method_1_code
def yX8_init : MethodName := ⟨RX8, "<init>", "(LSleeperRailway$Failure;)V"⟩
def dkwX8_init_0 : List UInt8 := [42, 1, 43, 183, 0, 1, 177]
abbrev dktX8_init_0 : List UInt8 := dkwX8_init_0 ++ []
theorem dksX8_init_0 : cX8_init.data.toList.drop 0 = dktX8_init_0 := by decide +kernel
theorem dX8_init_0 : decode cX8_init 0 = .ok (.aload_n 0, 1) := dk_42 (dk_at dksX8_init_0 0 rfl rfl)
theorem dX8_init_1 : decode cX8_init 1 = .ok (.aconst_null, 1) := dk_1 (dk_at dksX8_init_0 1 rfl rfl)
theorem dX8_init_2 : decode cX8_init 2 = .ok (.aload_n 1, 1) := dk_43 (dk_at dksX8_init_0 2 rfl rfl)
theorem dX8_init_3 : decode cX8_init 3 = .ok (.invokespecial 1, 3) := dk_183 0 1 (dk_at dksX8_init_0 3 rfl rfl)
theorem dX8_init_6 : decode cX8_init 6 = .ok (.return_, 1) := dk_177 (dk_at dksX8_init_0 6 rfl rfl)
theorem q154 : (Jvm.Cond.initialized "SleeperRailway$Failure") ∈ lw_all := lw_g (lw_at lw_m1 54 rfl) rfl
theorem q2463 : (Jvm.Cond.instanceMethod ({ cls := "SleeperRailway$Failure", name := "<init>", desc := "(LSleeperRailway$Failure;)V" } : Jvm.MethodName)) ∈ lw_all := lw_g (lw_at lw_m10 203 rfl) rfl
theorem q2464 : (Jvm.Cond.code ({ cls := "SleeperRailway$Failure", name := "<init>", desc := "(LSleeperRailway$Failure;)V" } : Jvm.MethodName) prog_9_method_1_code (2 : Nat) (Option.none : Option Jvm.ClassFile.FieldType)) ∈ lw_all := lw_g (lw_at lw_m10 204 rfl) rfl
theorem q2465 : (Jvm.Cond.methodLink "SleeperRailway$Failure" (1 : Nat) ({ cls := "java/lang/Exception", name := "<init>", desc := "(Ljava/lang/String;Ljava/lang/Throwable;)V" } : Jvm.MethodName)) ∈ lw_all := lw_g (lw_at lw_m10 205 rfl) rfl
theorem q2651 : (Jvm.Cond.declares ({ cls := "SleeperRailway$Failure", name := "asPublicException", desc := "()Ljava/lang/RuntimeException;" } : Jvm.MethodName)) ∈ lw_tbl := lw_at lw_m11 151 rfl
theorem q2652 : (Jvm.Cond.sameMethod "SleeperRailway$Failure" "SleeperRailway$Failure" "asPublicException" "()Ljava/lang/RuntimeException;") ∈ lw_all := lw_g (lw_at lw_m11 152 rfl) rfl
/-! SleeperRailway$ConditionFailure -/
set_option maxRecDepth 100000
def RX9 : String := "SleeperRailway$ConditionFailure"
def TX9 : u_T := fun k => match k with
  | 0 => ("java/lang/Throwable", "cause", "Ljava/lang/Throwable;", false)
  | 1 => ("java/lang/Throwable", "stackTrace", "[Ljava/lang/StackTraceElement;", false)
  | 2 => ("java/lang/Throwable", "suppressedExceptions", "Ljava/util/List;", false)
  | 3 => ("java/lang/Throwable", "detailMessage", "Ljava/lang/String;", false)
  | 4 => ("java/lang/Throwable", "backtrace", "Ljava/lang/Object;", false)
  | 5 => ("java/lang/Throwable", "depth", "I", false)
  | _ => ("SleeperRailway$ConditionFailure", "kind", "Ljava/lang/String;", true)
def tyX9 : Nat → FieldType := fun k => match k with
  | 0 => .object "java/lang/Throwable"
  | 1 => .array (.object "java/lang/StackTraceElement")
  | 2 => .object "java/util/List"
  | 3 => .object "java/lang/String"
  | 4 => .object "java/lang/Object"
  | 5 => .int
  | _ => .object "java/lang/String"
abbrev wsX90 : List Cond := u_ws RX9 TX9 7
theorem nmX9 : ∀ a, a < 7 → ∀ b, b < 7 → a ≠ b → (TX9 a).2.1 ≠ (TX9 b).2.1 := by decide +kernel
theorem tyX9_ok : ∀ k, k < 7 → parseFieldDescriptor (TX9 k).2.2.1 = some (tyX9 k) := by decide +kernel
abbrev cX9_init : ByteArray := prog_7_method_1_code
def yX9_init : MethodName := ⟨RX9, "<init>", "(Ljava/lang/String;)V"⟩
def dkwX9_init_0 : List UInt8 := [42, 1, 183, 0, 1, 42, 43, 181, 0, 7, 177]
abbrev dktX9_init_0 : List UInt8 := dkwX9_init_0 ++ []
theorem dksX9_init_0 : cX9_init.data.toList.drop 0 = dktX9_init_0 := by decide +kernel
theorem dX9_init_0 : decode cX9_init 0 = .ok (.aload_n 0, 1) := dk_42 (dk_at dksX9_init_0 0 rfl rfl)
theorem dX9_init_1 : decode cX9_init 1 = .ok (.aconst_null, 1) := dk_1 (dk_at dksX9_init_0 1 rfl rfl)
theorem dX9_init_2 : decode cX9_init 2 = .ok (.invokespecial 1, 3) := dk_183 0 1 (dk_at dksX9_init_0 2 rfl rfl)
theorem dX9_init_5 : decode cX9_init 5 = .ok (.aload_n 0, 1) := dk_42 (dk_at dksX9_init_0 5 rfl rfl)
theorem dX9_init_6 : decode cX9_init 6 = .ok (.aload_n 1, 1) := dk_43 (dk_at dksX9_init_0 6 rfl rfl)
theorem dX9_init_7 : decode cX9_init 7 = .ok (.putfield 7, 3) := dk_181 0 7 (dk_at dksX9_init_0 7 rfl rfl)
theorem dX9_init_10 : decode cX9_init 10 = .ok (.return_, 1) := dk_177 (dk_at dksX9_init_0 10 rfl rfl)
abbrev cX9_asPublicException : ByteArray := prog_7_method_2_code
def yX9_asPublicException : MethodName := ⟨RX9, "asPublicException", "()Ljava/lang/RuntimeException;"⟩
def dkwX9_asPublicException_7 : List UInt8 := [187, 0, 42, 89, 183, 0, 44, 176, 187, 0, 45, 89, 183, 0, 47, 176]
abbrev dktX9_asPublicException_7 : List UInt8 := dkwX9_asPublicException_7 ++ []
def dkwX9_asPublicException_6 : List UInt8 := [187, 0, 31, 89, 183, 0, 33, 176, 187, 0, 36, 89, 183, 0, 38, 176, 187, 0, 39, 89, 183, 0, 41, 176]
abbrev dktX9_asPublicException_6 : List UInt8 := dkwX9_asPublicException_6 ++ dktX9_asPublicException_7
def dkwX9_asPublicException_5 : List UInt8 := [170, 0, 0, 0, 0, 62, 0, 0, 0, 0, 0, 0, 0, 3, 0, 0, 0, 30, 0, 0, 0, 38, 0, 0, 0, 46, 0, 0, 0, 54]
abbrev dktX9_asPublicException_5 : List UInt8 := dkwX9_asPublicException_5 ++ dktX9_asPublicException_6
def dkwX9_asPublicException_4 : List UInt8 := [153, 0, 5, 6, 61, 28]
abbrev dktX9_asPublicException_4 : List UInt8 := dkwX9_asPublicException_4 ++ dktX9_asPublicException_5
def dkwX9_asPublicException_3 : List UInt8 := [61, 167, 0, 28, 43, 18, 27, 182, 0, 21, 153, 0, 19, 5, 61, 167, 0, 14, 43, 18, 29, 182, 0, 21]
abbrev dktX9_asPublicException_3 : List UInt8 := dkwX9_asPublicException_3 ++ dktX9_asPublicException_4
def dkwX9_asPublicException_2 : List UInt8 := [43, 18, 19, 182, 0, 21, 153, 0, 47, 3, 61, 167, 0, 42, 43, 18, 25, 182, 0, 21, 153, 0, 33, 4]
abbrev dktX9_asPublicException_2 : List UInt8 := dkwX9_asPublicException_2 ++ dktX9_asPublicException_3
def dkwX9_asPublicException_1 : List UInt8 := [171, 0, 0, 0, 94, 0, 0, 0, 4, 156, 227, 30, 252, 0, 0, 0, 83, 161, 63, 94, 189, 0, 0, 0, 55, 5, 251, 40, 210, 0, 0, 0, 41, 6, 138, 196, 145, 0, 0, 0, 69]
abbrev dktX9_asPublicException_1 : List UInt8 := dkwX9_asPublicException_1 ++ dktX9_asPublicException_2
def dkwX9_asPublicException_0 : List UInt8 := [42, 180, 0, 7, 76, 2, 61, 43, 182, 0, 13]
abbrev dktX9_asPublicException_0 : List UInt8 := dkwX9_asPublicException_0 ++ dktX9_asPublicException_1
theorem dksX9_asPublicException_0 : cX9_asPublicException.data.toList.drop 0 = dktX9_asPublicException_0 := by decide +kernel
theorem dksX9_asPublicException_1 : cX9_asPublicException.data.toList.drop 11 = dktX9_asPublicException_1 := dk_seg dksX9_asPublicException_0 11 rfl rfl
theorem dksX9_asPublicException_2 : cX9_asPublicException.data.toList.drop 52 = dktX9_asPublicException_2 := dk_seg dksX9_asPublicException_1 41 rfl rfl
theorem dksX9_asPublicException_3 : cX9_asPublicException.data.toList.drop 76 = dktX9_asPublicException_3 := dk_seg dksX9_asPublicException_2 24 rfl rfl
theorem dksX9_asPublicException_4 : cX9_asPublicException.data.toList.drop 100 = dktX9_asPublicException_4 := dk_seg dksX9_asPublicException_3 24 rfl rfl
theorem dksX9_asPublicException_5 : cX9_asPublicException.data.toList.drop 106 = dktX9_asPublicException_5 := dk_seg dksX9_asPublicException_4 6 rfl rfl
theorem dksX9_asPublicException_6 : cX9_asPublicException.data.toList.drop 136 = dktX9_asPublicException_6 := dk_seg dksX9_asPublicException_5 30 rfl rfl
theorem dksX9_asPublicException_7 : cX9_asPublicException.data.toList.drop 160 = dktX9_asPublicException_7 := dk_seg dksX9_asPublicException_6 24 rfl rfl
theorem dX9_asPublicException_0 : decode cX9_asPublicException 0 = .ok (.aload_n 0, 1) := dk_42 (dk_at dksX9_asPublicException_0 0 rfl rfl)
theorem dX9_asPublicException_1 : decode cX9_asPublicException 1 = .ok (.getfield 7, 3) := dk_180 0 7 (dk_at dksX9_asPublicException_0 1 rfl rfl)
theorem dX9_asPublicException_4 : decode cX9_asPublicException 4 = .ok (.astore_n 1, 1) := dk_76 (dk_at dksX9_asPublicException_0 4 rfl rfl)
theorem dX9_asPublicException_5 : decode cX9_asPublicException 5 = .ok (.iconst (-1), 1) := dk_2 (dk_at dksX9_asPublicException_0 5 rfl rfl)
theorem dX9_asPublicException_6 : decode cX9_asPublicException 6 = .ok (.istore_n 2, 1) := dk_61 (dk_at dksX9_asPublicException_0 6 rfl rfl)
theorem dX9_asPublicException_7 : decode cX9_asPublicException 7 = .ok (.aload_n 1, 1) := dk_43 (dk_at dksX9_asPublicException_0 7 rfl rfl)
theorem dX9_asPublicException_8 : decode cX9_asPublicException 8 = .ok (.invokevirtual 13, 3) := dk_182 0 13 (dk_at dksX9_asPublicException_0 8 rfl rfl)
theorem dX9_asPublicException_11 : decode cX9_asPublicException 11 = .ok (.lookupswitch 94 #[(-1662836996, 83), (-1589682499, 55), (100346066, 41), (109757585, 69)], 41) := by decide +kernel
theorem dX9_asPublicException_52 : decode cX9_asPublicException 52 = .ok (.aload_n 1, 1) := dk_43 (dk_at dksX9_asPublicException_2 0 rfl rfl)
theorem dX9_asPublicException_53 : decode cX9_asPublicException 53 = .ok (.ldc 19, 2) := dk_18 19 (dk_at dksX9_asPublicException_2 1 rfl rfl)
theorem dX9_asPublicException_55 : decode cX9_asPublicException 55 = .ok (.invokevirtual 21, 3) := dk_182 0 21 (dk_at dksX9_asPublicException_2 3 rfl rfl)
theorem dX9_asPublicException_58 : decode cX9_asPublicException 58 = .ok (.ifCond .eq 47, 3) := dk_153 0 47 (dk_at dksX9_asPublicException_2 6 rfl rfl)
theorem dX9_asPublicException_61 : decode cX9_asPublicException 61 = .ok (.iconst 0, 1) := dk_3 (dk_at dksX9_asPublicException_2 9 rfl rfl)
theorem dX9_asPublicException_62 : decode cX9_asPublicException 62 = .ok (.istore_n 2, 1) := dk_61 (dk_at dksX9_asPublicException_2 10 rfl rfl)
theorem dX9_asPublicException_63 : decode cX9_asPublicException 63 = .ok (.goto 42, 3) := dk_167 0 42 (dk_at dksX9_asPublicException_2 11 rfl rfl)
theorem dX9_asPublicException_66 : decode cX9_asPublicException 66 = .ok (.aload_n 1, 1) := dk_43 (dk_at dksX9_asPublicException_2 14 rfl rfl)
theorem dX9_asPublicException_67 : decode cX9_asPublicException 67 = .ok (.ldc 25, 2) := dk_18 25 (dk_at dksX9_asPublicException_2 15 rfl rfl)
theorem dX9_asPublicException_69 : decode cX9_asPublicException 69 = .ok (.invokevirtual 21, 3) := dk_182 0 21 (dk_at dksX9_asPublicException_2 17 rfl rfl)
theorem dX9_asPublicException_72 : decode cX9_asPublicException 72 = .ok (.ifCond .eq 33, 3) := dk_153 0 33 (dk_at dksX9_asPublicException_2 20 rfl rfl)
theorem dX9_asPublicException_75 : decode cX9_asPublicException 75 = .ok (.iconst 1, 1) := dk_4 (dk_at dksX9_asPublicException_2 23 rfl rfl)
theorem dX9_asPublicException_76 : decode cX9_asPublicException 76 = .ok (.istore_n 2, 1) := dk_61 (dk_at dksX9_asPublicException_3 0 rfl rfl)
theorem dX9_asPublicException_77 : decode cX9_asPublicException 77 = .ok (.goto 28, 3) := dk_167 0 28 (dk_at dksX9_asPublicException_3 1 rfl rfl)
theorem dX9_asPublicException_80 : decode cX9_asPublicException 80 = .ok (.aload_n 1, 1) := dk_43 (dk_at dksX9_asPublicException_3 4 rfl rfl)
theorem dX9_asPublicException_81 : decode cX9_asPublicException 81 = .ok (.ldc 27, 2) := dk_18 27 (dk_at dksX9_asPublicException_3 5 rfl rfl)
theorem dX9_asPublicException_83 : decode cX9_asPublicException 83 = .ok (.invokevirtual 21, 3) := dk_182 0 21 (dk_at dksX9_asPublicException_3 7 rfl rfl)
theorem dX9_asPublicException_86 : decode cX9_asPublicException 86 = .ok (.ifCond .eq 19, 3) := dk_153 0 19 (dk_at dksX9_asPublicException_3 10 rfl rfl)
theorem dX9_asPublicException_89 : decode cX9_asPublicException 89 = .ok (.iconst 2, 1) := dk_5 (dk_at dksX9_asPublicException_3 13 rfl rfl)
theorem dX9_asPublicException_90 : decode cX9_asPublicException 90 = .ok (.istore_n 2, 1) := dk_61 (dk_at dksX9_asPublicException_3 14 rfl rfl)
theorem dX9_asPublicException_91 : decode cX9_asPublicException 91 = .ok (.goto 14, 3) := dk_167 0 14 (dk_at dksX9_asPublicException_3 15 rfl rfl)
theorem dX9_asPublicException_94 : decode cX9_asPublicException 94 = .ok (.aload_n 1, 1) := dk_43 (dk_at dksX9_asPublicException_3 18 rfl rfl)
theorem dX9_asPublicException_95 : decode cX9_asPublicException 95 = .ok (.ldc 29, 2) := dk_18 29 (dk_at dksX9_asPublicException_3 19 rfl rfl)
theorem dX9_asPublicException_97 : decode cX9_asPublicException 97 = .ok (.invokevirtual 21, 3) := dk_182 0 21 (dk_at dksX9_asPublicException_3 21 rfl rfl)
theorem dX9_asPublicException_100 : decode cX9_asPublicException 100 = .ok (.ifCond .eq 5, 3) := dk_153 0 5 (dk_at dksX9_asPublicException_4 0 rfl rfl)
theorem dX9_asPublicException_103 : decode cX9_asPublicException 103 = .ok (.iconst 3, 1) := dk_6 (dk_at dksX9_asPublicException_4 3 rfl rfl)
theorem dX9_asPublicException_104 : decode cX9_asPublicException 104 = .ok (.istore_n 2, 1) := dk_61 (dk_at dksX9_asPublicException_4 4 rfl rfl)
theorem dX9_asPublicException_105 : decode cX9_asPublicException 105 = .ok (.iload_n 2, 1) := dk_28 (dk_at dksX9_asPublicException_4 5 rfl rfl)
theorem dX9_asPublicException_106 : decode cX9_asPublicException 106 = .ok (.tableswitch 62 0 3 #[30, 38, 46, 54], 30) := by decide +kernel
theorem dX9_asPublicException_136 : decode cX9_asPublicException 136 = .ok (.new 31, 3) := dk_187 0 31 (dk_at dksX9_asPublicException_6 0 rfl rfl)
theorem dX9_asPublicException_139 : decode cX9_asPublicException 139 = .ok (.dup, 1) := dk_89 (dk_at dksX9_asPublicException_6 3 rfl rfl)
theorem dX9_asPublicException_140 : decode cX9_asPublicException 140 = .ok (.invokespecial 33, 3) := dk_183 0 33 (dk_at dksX9_asPublicException_6 4 rfl rfl)
theorem dX9_asPublicException_143 : decode cX9_asPublicException 143 = .ok (.areturn, 1) := dk_176 (dk_at dksX9_asPublicException_6 7 rfl rfl)
theorem dX9_asPublicException_144 : decode cX9_asPublicException 144 = .ok (.new 36, 3) := dk_187 0 36 (dk_at dksX9_asPublicException_6 8 rfl rfl)
theorem dX9_asPublicException_147 : decode cX9_asPublicException 147 = .ok (.dup, 1) := dk_89 (dk_at dksX9_asPublicException_6 11 rfl rfl)
theorem dX9_asPublicException_148 : decode cX9_asPublicException 148 = .ok (.invokespecial 38, 3) := dk_183 0 38 (dk_at dksX9_asPublicException_6 12 rfl rfl)
theorem dX9_asPublicException_151 : decode cX9_asPublicException 151 = .ok (.areturn, 1) := dk_176 (dk_at dksX9_asPublicException_6 15 rfl rfl)
theorem dX9_asPublicException_152 : decode cX9_asPublicException 152 = .ok (.new 39, 3) := dk_187 0 39 (dk_at dksX9_asPublicException_6 16 rfl rfl)
theorem dX9_asPublicException_155 : decode cX9_asPublicException 155 = .ok (.dup, 1) := dk_89 (dk_at dksX9_asPublicException_6 19 rfl rfl)
theorem dX9_asPublicException_156 : decode cX9_asPublicException 156 = .ok (.invokespecial 41, 3) := dk_183 0 41 (dk_at dksX9_asPublicException_6 20 rfl rfl)
theorem dX9_asPublicException_159 : decode cX9_asPublicException 159 = .ok (.areturn, 1) := dk_176 (dk_at dksX9_asPublicException_6 23 rfl rfl)
theorem dX9_asPublicException_160 : decode cX9_asPublicException 160 = .ok (.new 42, 3) := dk_187 0 42 (dk_at dksX9_asPublicException_7 0 rfl rfl)
theorem dX9_asPublicException_163 : decode cX9_asPublicException 163 = .ok (.dup, 1) := dk_89 (dk_at dksX9_asPublicException_7 3 rfl rfl)
theorem dX9_asPublicException_164 : decode cX9_asPublicException 164 = .ok (.invokespecial 44, 3) := dk_183 0 44 (dk_at dksX9_asPublicException_7 4 rfl rfl)
theorem dX9_asPublicException_167 : decode cX9_asPublicException 167 = .ok (.areturn, 1) := dk_176 (dk_at dksX9_asPublicException_7 7 rfl rfl)
theorem dX9_asPublicException_168 : decode cX9_asPublicException 168 = .ok (.new 45, 3) := dk_187 0 45 (dk_at dksX9_asPublicException_7 8 rfl rfl)
theorem dX9_asPublicException_171 : decode cX9_asPublicException 171 = .ok (.dup, 1) := dk_89 (dk_at dksX9_asPublicException_7 11 rfl rfl)
theorem dX9_asPublicException_172 : decode cX9_asPublicException 172 = .ok (.invokespecial 47, 3) := dk_183 0 47 (dk_at dksX9_asPublicException_7 12 rfl rfl)
theorem dX9_asPublicException_175 : decode cX9_asPublicException 175 = .ok (.areturn, 1) := dk_176 (dk_at dksX9_asPublicException_7 15 rfl rfl)
theorem q155 : (Jvm.Cond.initialized "SleeperRailway$ConditionFailure") ∈ lw_all := lw_g (lw_at lw_m1 55 rfl) rfl
theorem q535 : (Jvm.Cond.selects "SleeperRailway$ConditionFailure" ({ cls := "java/lang/Throwable", name := "fillInStackTrace", desc := "()Ljava/lang/Throwable;" } : Jvm.MethodName) ({ cls := "java/lang/Throwable", name := "fillInStackTrace", desc := "()Ljava/lang/Throwable;" } : Jvm.MethodName)) ∈ lw_all := lw_g (lw_at lw_m2 195 rfl) rfl
theorem q975 : (Jvm.Cond.selects "SleeperRailway$ConditionFailure" ({ cls := "java/lang/Throwable", name := "toString", desc := "()Ljava/lang/String;" } : Jvm.MethodName) ({ cls := "java/lang/Throwable", name := "toString", desc := "()Ljava/lang/String;" } : Jvm.MethodName)) ∈ lw_all := lw_g (lw_at lw_m4 155 rfl) rfl
theorem q995 : (Jvm.Cond.selects "SleeperRailway$ConditionFailure" ({ cls := "java/lang/Object", name := "getClass", desc := "()Ljava/lang/Class;" } : Jvm.MethodName) ({ cls := "java/lang/Object", name := "getClass", desc := "()Ljava/lang/Class;" } : Jvm.MethodName)) ∈ lw_all := lw_g (lw_at lw_m4 175 rfl) rfl
theorem q1041 : (Jvm.Cond.selects "SleeperRailway$ConditionFailure" ({ cls := "java/lang/Throwable", name := "getLocalizedMessage", desc := "()Ljava/lang/String;" } : Jvm.MethodName) ({ cls := "java/lang/Throwable", name := "getLocalizedMessage", desc := "()Ljava/lang/String;" } : Jvm.MethodName)) ∈ lw_all := lw_g (lw_at lw_m4 221 rfl) rfl
theorem q1056 : (Jvm.Cond.selects "SleeperRailway$ConditionFailure" ({ cls := "java/lang/Throwable", name := "getMessage", desc := "()Ljava/lang/String;" } : Jvm.MethodName) ({ cls := "java/lang/Throwable", name := "getMessage", desc := "()Ljava/lang/String;" } : Jvm.MethodName)) ∈ lw_all := lw_g (lw_at lw_m4 236 rfl) rfl
theorem q2451 : (Jvm.Cond.instantiable "SleeperRailway$ConditionFailure" (7 : Nat)) ∈ lw_all := lw_g (lw_at lw_m10 191 rfl) rfl
theorem q2452 : (Jvm.Cond.castable "SleeperRailway$ConditionFailure" "SleeperRailway$ConditionFailure") ∈ lw_tbl := lw_at lw_m10 192 rfl
theorem q2453 : (Jvm.Cond.selects "SleeperRailway$ConditionFailure" ({ cls := "java/lang/Throwable", name := "fillInStackTrace", desc := "(I)Ljava/lang/Throwable;" } : Jvm.MethodName) ({ cls := "java/lang/Throwable", name := "fillInStackTrace", desc := "(I)Ljava/lang/Throwable;" } : Jvm.MethodName)) ∈ lw_all := lw_g (lw_at lw_m10 193 rfl) rfl
theorem q2454 : (Jvm.Cond.lays "SleeperRailway$ConditionFailure" "java/lang/Throwable" "cause" "Ljava/lang/Throwable;") ∈ lw_all := lw_g (lw_at lw_m10 194 rfl) rfl
theorem q2455 : (Jvm.Cond.lays "SleeperRailway$ConditionFailure" "java/lang/Throwable" "stackTrace" "[Ljava/lang/StackTraceElement;") ∈ lw_all := lw_g (lw_at lw_m10 195 rfl) rfl
theorem q2456 : (Jvm.Cond.lays "SleeperRailway$ConditionFailure" "java/lang/Throwable" "suppressedExceptions" "Ljava/util/List;") ∈ lw_all := lw_g (lw_at lw_m10 196 rfl) rfl
theorem q2457 : (Jvm.Cond.lays "SleeperRailway$ConditionFailure" "java/lang/Throwable" "detailMessage" "Ljava/lang/String;") ∈ lw_all := lw_g (lw_at lw_m10 197 rfl) rfl
theorem q2458 : (Jvm.Cond.lays "SleeperRailway$ConditionFailure" "java/lang/Throwable" "backtrace" "Ljava/lang/Object;") ∈ lw_all := lw_g (lw_at lw_m10 198 rfl) rfl
theorem q2460 : (Jvm.Cond.instanceMethod ({ cls := "SleeperRailway$ConditionFailure", name := "<init>", desc := "(Ljava/lang/String;)V" } : Jvm.MethodName)) ∈ lw_all := lw_g (lw_at lw_m10 200 rfl) rfl
theorem q2461 : (Jvm.Cond.code ({ cls := "SleeperRailway$ConditionFailure", name := "<init>", desc := "(Ljava/lang/String;)V" } : Jvm.MethodName) prog_7_method_1_code (2 : Nat) (Option.none : Option Jvm.ClassFile.FieldType)) ∈ lw_all := lw_g (lw_at lw_m10 201 rfl) rfl
theorem q2462 : (Jvm.Cond.methodLink "SleeperRailway$ConditionFailure" (1 : Nat) ({ cls := "SleeperRailway$Failure", name := "<init>", desc := "(LSleeperRailway$Failure;)V" } : Jvm.MethodName)) ∈ lw_all := lw_g (lw_at lw_m10 202 rfl) rfl
theorem q2471 : (Jvm.Cond.fieldLink "SleeperRailway$ConditionFailure" (7 : Nat) "SleeperRailway$ConditionFailure" "kind" "Ljava/lang/String;") ∈ lw_all := lw_g (lw_at lw_m10 211 rfl) rfl
theorem q2472 : (Jvm.Cond.laysFinal "SleeperRailway$ConditionFailure" "SleeperRailway$ConditionFailure" "kind" "Ljava/lang/String;") ∈ lw_all := lw_g (lw_at lw_m10 212 rfl) rfl
theorem q2473 : (Jvm.Cond.soleField "SleeperRailway$ConditionFailure" "kind") ∈ lw_all := lw_g (lw_at lw_m10 213 rfl) rfl
theorem q2474 : (Jvm.Cond.lays "SleeperRailway$ConditionFailure" "java/lang/Throwable" "depth" "I") ∈ lw_all := lw_g (lw_at lw_m10 214 rfl) rfl
theorem q2475 : (Jvm.Cond.superclass "SleeperRailway$ConditionFailure" "SleeperRailway$Failure") ∈ lw_all := lw_g (lw_at lw_m10 215 rfl) rfl
theorem q2671 : (Jvm.Cond.selects "SleeperRailway$ConditionFailure" ({ cls := "SleeperRailway$Failure", name := "asPublicException", desc := "()Ljava/lang/RuntimeException;" } : Jvm.MethodName) ({ cls := "SleeperRailway$ConditionFailure", name := "asPublicException", desc := "()Ljava/lang/RuntimeException;" } : Jvm.MethodName)) ∈ lw_all := lw_g (lw_at lw_m11 171 rfl) rfl
theorem q2672 : (Jvm.Cond.instanceMethod ({ cls := "SleeperRailway$ConditionFailure", name := "asPublicException", desc := "()Ljava/lang/RuntimeException;" } : Jvm.MethodName)) ∈ lw_all := lw_g (lw_at lw_m11 172 rfl) rfl
theorem q2673 : (Jvm.Cond.code ({ cls := "SleeperRailway$ConditionFailure", name := "asPublicException", desc := "()Ljava/lang/RuntimeException;" } : Jvm.MethodName) prog_7_method_2_code (3 : Nat) (Option.some (Jvm.ClassFile.FieldType.object "java/lang/RuntimeException"))) ∈ lw_all := lw_g (lw_at lw_m11 173 rfl) rfl
theorem q2674 : (Jvm.Cond.methodLink "SleeperRailway$ConditionFailure" (13 : Nat) ({ cls := "java/lang/String", name := "hashCode", desc := "()I" } : Jvm.MethodName)) ∈ lw_all := lw_g (lw_at lw_m11 174 rfl) rfl
theorem q2675 : (Jvm.Cond.stringRef "SleeperRailway$ConditionFailure" (19 : Nat) "index") ∈ lw_tbl := lw_at lw_m11 175 rfl
theorem q2676 : (Jvm.Cond.methodLink "SleeperRailway$ConditionFailure" (21 : Nat) ({ cls := "java/lang/String", name := "equals", desc := "(Ljava/lang/Object;)Z" } : Jvm.MethodName)) ∈ lw_all := lw_g (lw_at lw_m11 176 rfl) rfl
theorem q2677 : (Jvm.Cond.stringRef "SleeperRailway$ConditionFailure" (25 : Nat) "argument") ∈ lw_tbl := lw_at lw_m11 177 rfl
theorem q2678 : (Jvm.Cond.stringRef "SleeperRailway$ConditionFailure" (27 : Nat) "state") ∈ lw_tbl := lw_at lw_m11 178 rfl
theorem q2679 : (Jvm.Cond.stringRef "SleeperRailway$ConditionFailure" (29 : Nat) "element") ∈ lw_tbl := lw_at lw_m11 179 rfl
theorem q2680 : (Jvm.Cond.classLink "SleeperRailway$ConditionFailure" (31 : Nat) "java/lang/IndexOutOfBoundsException") ∈ lw_all := lw_g (lw_at lw_m11 180 rfl) rfl
theorem q2681 : (Jvm.Cond.methodLink "SleeperRailway$ConditionFailure" (33 : Nat) ({ cls := "java/lang/IndexOutOfBoundsException", name := "<init>", desc := "()V" } : Jvm.MethodName)) ∈ lw_all := lw_g (lw_at lw_m11 181 rfl) rfl
theorem q2685 : (Jvm.Cond.classLink "SleeperRailway$ConditionFailure" (36 : Nat) "java/lang/IllegalArgumentException") ∈ lw_all := lw_g (lw_at lw_m11 185 rfl) rfl
theorem q2686 : (Jvm.Cond.methodLink "SleeperRailway$ConditionFailure" (38 : Nat) ({ cls := "java/lang/IllegalArgumentException", name := "<init>", desc := "()V" } : Jvm.MethodName)) ∈ lw_all := lw_g (lw_at lw_m11 186 rfl) rfl
theorem q2687 : (Jvm.Cond.classLink "SleeperRailway$ConditionFailure" (39 : Nat) "java/lang/IllegalStateException") ∈ lw_all := lw_g (lw_at lw_m11 187 rfl) rfl
theorem q2688 : (Jvm.Cond.methodLink "SleeperRailway$ConditionFailure" (41 : Nat) ({ cls := "java/lang/IllegalStateException", name := "<init>", desc := "()V" } : Jvm.MethodName)) ∈ lw_all := lw_g (lw_at lw_m11 188 rfl) rfl
theorem q2689 : (Jvm.Cond.classLink "SleeperRailway$ConditionFailure" (42 : Nat) "java/util/NoSuchElementException") ∈ lw_all := lw_g (lw_at lw_m11 189 rfl) rfl
theorem q2690 : (Jvm.Cond.methodLink "SleeperRailway$ConditionFailure" (44 : Nat) ({ cls := "java/util/NoSuchElementException", name := "<init>", desc := "()V" } : Jvm.MethodName)) ∈ lw_all := lw_g (lw_at lw_m11 190 rfl) rfl
theorem q2691 : (Jvm.Cond.classLink "SleeperRailway$ConditionFailure" (45 : Nat) "java/lang/UnsupportedOperationException") ∈ lw_all := lw_g (lw_at lw_m11 191 rfl) rfl
theorem q2700 : (Jvm.Cond.methodLink "SleeperRailway$ConditionFailure" (47 : Nat) ({ cls := "java/lang/UnsupportedOperationException", name := "<init>", desc := "()V" } : Jvm.MethodName)) ∈ lw_all := lw_g (lw_at lw_m11 200 rfl) rfl
theorem q3171 : (Jvm.Cond.selects "SleeperRailway$ConditionFailure" ({ cls := "java/lang/Object", name := "equals", desc := "(Ljava/lang/Object;)Z" } : Jvm.MethodName) ({ cls := "java/lang/Object", name := "equals", desc := "(Ljava/lang/Object;)Z" } : Jvm.MethodName)) ∈ lw_all := lw_g (lw_at lw_m13 191 rfl) rfl
theorem q3476 : (Jvm.Cond.selects "SleeperRailway$ConditionFailure" ({ cls := "java/lang/Object", name := "toString", desc := "()Ljava/lang/String;" } : Jvm.MethodName) ({ cls := "java/lang/Throwable", name := "toString", desc := "()Ljava/lang/String;" } : Jvm.MethodName)) ∈ lw_all := lw_g (lw_at lw_m15 16 rfl) rfl
theorem q4234 : (Jvm.Cond.castable "SleeperRailway$ConditionFailure" "SleeperRailway$Failure") ∈ lw_tbl := lw_at lw_m18 54 rfl
theorem q4263 : (Jvm.Cond.castable "SleeperRailway$ConditionFailure" "java/lang/Object") ∈ lw_tbl := lw_at lw_m18 83 rfl
theorem in_X9 : ∀ w ∈ wsX90, w ∈ lw_all := lw_in wsX90 [2454, 2455, 2456, 2457, 2458, 2474, 2472] (by decide +kernel) (by decide +kernel)
