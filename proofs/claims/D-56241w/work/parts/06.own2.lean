/-! SleeperRailway$Suitcase -/
set_option maxRecDepth 100000
def RX10 : String := "SleeperRailway$Suitcase"
def TX10 : u_T := fun k => match k with
  | 0 => ("SleeperRailway$Suitcase", "id", "I", true)
  | 1 => ("SleeperRailway$Suitcase", "station", "I", true)
  | 2 => ("SleeperRailway$Suitcase", "destination", "I", true)
  | _ => ("SleeperRailway$Suitcase", "ready", "I", true)
def tyX10 : Nat → FieldType := fun k => match k with
  | 0 => .int
  | 1 => .int
  | 2 => .int
  | _ => .int
abbrev wsX100 : List Cond := u_ws RX10 TX10 4
theorem nmX10 : ∀ a, a < 4 → ∀ b, b < 4 → a ≠ b → (TX10 a).2.1 ≠ (TX10 b).2.1 := by decide +kernel
theorem tyX10_ok : ∀ k, k < 4 → parseFieldDescriptor (TX10 k).2.2.1 = some (tyX10 k) := by decide +kernel
abbrev cX10_compareTo : ByteArray := prog_14_method_11_code
def yX10_compareTo : MethodName := ⟨RX10, "compareTo", "(Ljava/lang/Object;)I"⟩
def dkwX10_compareTo_0 : List UInt8 := [42, 43, 192, 0, 8, 182, 0, 42, 172]
abbrev dktX10_compareTo_0 : List UInt8 := dkwX10_compareTo_0 ++ []
theorem dksX10_compareTo_0 : cX10_compareTo.data.toList.drop 0 = dktX10_compareTo_0 := by decide +kernel
theorem dX10_compareTo_0 : decode cX10_compareTo 0 = .ok (.aload_n 0, 1) := dk_42 (dk_at dksX10_compareTo_0 0 rfl rfl)
theorem dX10_compareTo_1 : decode cX10_compareTo 1 = .ok (.aload_n 1, 1) := dk_43 (dk_at dksX10_compareTo_0 1 rfl rfl)
theorem dX10_compareTo_2 : decode cX10_compareTo 2 = .ok (.checkcast 8, 3) := dk_192 0 8 (dk_at dksX10_compareTo_0 2 rfl rfl)
theorem dX10_compareTo_5 : decode cX10_compareTo 5 = .ok (.invokevirtual 42, 3) := dk_182 0 42 (dk_at dksX10_compareTo_0 5 rfl rfl)
theorem dX10_compareTo_8 : decode cX10_compareTo 8 = .ok (.ireturn, 1) := dk_172 (dk_at dksX10_compareTo_0 8 rfl rfl)
abbrev cX10_compareTo_2 : ByteArray := prog_14_method_3_code
def yX10_compareTo_2 : MethodName := ⟨RX10, "compareTo", "(LSleeperRailway$Suitcase;)I"⟩
def dkwX10_compareTo_2_1 : List UInt8 := [180, 0, 19, 43, 180, 0, 19, 100, 172]
abbrev dktX10_compareTo_2_1 : List UInt8 := dkwX10_compareTo_2_1 ++ []
def dkwX10_compareTo_2_0 : List UInt8 := [42, 180, 0, 19, 43, 180, 0, 19, 160, 0, 15, 42, 180, 0, 7, 43, 180, 0, 7, 100, 167, 0, 12, 42]
abbrev dktX10_compareTo_2_0 : List UInt8 := dkwX10_compareTo_2_0 ++ dktX10_compareTo_2_1
theorem dksX10_compareTo_2_0 : cX10_compareTo_2.data.toList.drop 0 = dktX10_compareTo_2_0 := by decide +kernel
theorem dksX10_compareTo_2_1 : cX10_compareTo_2.data.toList.drop 24 = dktX10_compareTo_2_1 := dk_seg dksX10_compareTo_2_0 24 rfl rfl
theorem dX10_compareTo_2_0 : decode cX10_compareTo_2 0 = .ok (.aload_n 0, 1) := dk_42 (dk_at dksX10_compareTo_2_0 0 rfl rfl)
theorem dX10_compareTo_2_1 : decode cX10_compareTo_2 1 = .ok (.getfield 19, 3) := dk_180 0 19 (dk_at dksX10_compareTo_2_0 1 rfl rfl)
theorem dX10_compareTo_2_4 : decode cX10_compareTo_2 4 = .ok (.aload_n 1, 1) := dk_43 (dk_at dksX10_compareTo_2_0 4 rfl rfl)
theorem dX10_compareTo_2_5 : decode cX10_compareTo_2 5 = .ok (.getfield 19, 3) := dk_180 0 19 (dk_at dksX10_compareTo_2_0 5 rfl rfl)
theorem dX10_compareTo_2_8 : decode cX10_compareTo_2 8 = .ok (.if_icmp .ne 15, 3) := dk_160 0 15 (dk_at dksX10_compareTo_2_0 8 rfl rfl)
theorem dX10_compareTo_2_11 : decode cX10_compareTo_2 11 = .ok (.aload_n 0, 1) := dk_42 (dk_at dksX10_compareTo_2_0 11 rfl rfl)
theorem dX10_compareTo_2_12 : decode cX10_compareTo_2 12 = .ok (.getfield 7, 3) := dk_180 0 7 (dk_at dksX10_compareTo_2_0 12 rfl rfl)
theorem dX10_compareTo_2_15 : decode cX10_compareTo_2 15 = .ok (.aload_n 1, 1) := dk_43 (dk_at dksX10_compareTo_2_0 15 rfl rfl)
theorem dX10_compareTo_2_16 : decode cX10_compareTo_2 16 = .ok (.getfield 7, 3) := dk_180 0 7 (dk_at dksX10_compareTo_2_0 16 rfl rfl)
theorem dX10_compareTo_2_19 : decode cX10_compareTo_2 19 = .ok (.isub, 1) := dk_100 (dk_at dksX10_compareTo_2_0 19 rfl rfl)
theorem dX10_compareTo_2_20 : decode cX10_compareTo_2 20 = .ok (.goto 12, 3) := dk_167 0 12 (dk_at dksX10_compareTo_2_0 20 rfl rfl)
theorem dX10_compareTo_2_23 : decode cX10_compareTo_2 23 = .ok (.aload_n 0, 1) := dk_42 (dk_at dksX10_compareTo_2_0 23 rfl rfl)
theorem dX10_compareTo_2_24 : decode cX10_compareTo_2 24 = .ok (.getfield 19, 3) := dk_180 0 19 (dk_at dksX10_compareTo_2_1 0 rfl rfl)
theorem dX10_compareTo_2_27 : decode cX10_compareTo_2 27 = .ok (.aload_n 1, 1) := dk_43 (dk_at dksX10_compareTo_2_1 3 rfl rfl)
theorem dX10_compareTo_2_28 : decode cX10_compareTo_2 28 = .ok (.getfield 19, 3) := dk_180 0 19 (dk_at dksX10_compareTo_2_1 4 rfl rfl)
theorem dX10_compareTo_2_31 : decode cX10_compareTo_2 31 = .ok (.isub, 1) := dk_100 (dk_at dksX10_compareTo_2_1 7 rfl rfl)
theorem dX10_compareTo_2_32 : decode cX10_compareTo_2 32 = .ok (.ireturn, 1) := dk_172 (dk_at dksX10_compareTo_2_1 8 rfl rfl)
abbrev cX10_id : ByteArray := prog_14_method_7_code
def yX10_id : MethodName := ⟨RX10, "id", "()I"⟩
theorem dX10_id_0 : decode cX10_id 0 = .ok (.aload_n 0, 1) := by decide +kernel
theorem dX10_id_1 : decode cX10_id 1 = .ok (.getfield 7, 3) := by decide +kernel
theorem dX10_id_4 : decode cX10_id 4 = .ok (.ireturn, 1) := by decide +kernel
abbrev cX10_init : ByteArray := prog_14_method_1_code
def yX10_init : MethodName := ⟨RX10, "<init>", "(IIII)V"⟩
def dkwX10_init_1 : List UInt8 := [181, 0, 19, 177]
abbrev dktX10_init_1 : List UInt8 := dkwX10_init_1 ++ []
def dkwX10_init_0 : List UInt8 := [42, 183, 0, 1, 42, 27, 181, 0, 7, 42, 28, 181, 0, 13, 42, 29, 181, 0, 16, 42, 21, 4]
abbrev dktX10_init_0 : List UInt8 := dkwX10_init_0 ++ dktX10_init_1
theorem dksX10_init_0 : cX10_init.data.toList.drop 0 = dktX10_init_0 := by decide +kernel
theorem dksX10_init_1 : cX10_init.data.toList.drop 22 = dktX10_init_1 := dk_seg dksX10_init_0 22 rfl rfl
theorem dX10_init_0 : decode cX10_init 0 = .ok (.aload_n 0, 1) := dk_42 (dk_at dksX10_init_0 0 rfl rfl)
theorem dX10_init_1 : decode cX10_init 1 = .ok (.invokespecial 1, 3) := dk_183 0 1 (dk_at dksX10_init_0 1 rfl rfl)
theorem dX10_init_4 : decode cX10_init 4 = .ok (.aload_n 0, 1) := dk_42 (dk_at dksX10_init_0 4 rfl rfl)
theorem dX10_init_5 : decode cX10_init 5 = .ok (.iload_n 1, 1) := dk_27 (dk_at dksX10_init_0 5 rfl rfl)
theorem dX10_init_6 : decode cX10_init 6 = .ok (.putfield 7, 3) := dk_181 0 7 (dk_at dksX10_init_0 6 rfl rfl)
theorem dX10_init_9 : decode cX10_init 9 = .ok (.aload_n 0, 1) := dk_42 (dk_at dksX10_init_0 9 rfl rfl)
theorem dX10_init_10 : decode cX10_init 10 = .ok (.iload_n 2, 1) := dk_28 (dk_at dksX10_init_0 10 rfl rfl)
theorem dX10_init_11 : decode cX10_init 11 = .ok (.putfield 13, 3) := dk_181 0 13 (dk_at dksX10_init_0 11 rfl rfl)
theorem dX10_init_14 : decode cX10_init 14 = .ok (.aload_n 0, 1) := dk_42 (dk_at dksX10_init_0 14 rfl rfl)
theorem dX10_init_15 : decode cX10_init 15 = .ok (.iload_n 3, 1) := dk_29 (dk_at dksX10_init_0 15 rfl rfl)
theorem dX10_init_16 : decode cX10_init 16 = .ok (.putfield 16, 3) := dk_181 0 16 (dk_at dksX10_init_0 16 rfl rfl)
theorem dX10_init_19 : decode cX10_init 19 = .ok (.aload_n 0, 1) := dk_42 (dk_at dksX10_init_0 19 rfl rfl)
theorem dX10_init_20 : decode cX10_init 20 = .ok (.iload 4, 2) := dk_21 4 (dk_at dksX10_init_0 20 rfl rfl)
theorem dX10_init_22 : decode cX10_init 22 = .ok (.putfield 19, 3) := dk_181 0 19 (dk_at dksX10_init_1 0 rfl rfl)
theorem dX10_init_25 : decode cX10_init 25 = .ok (.return_, 1) := dk_177 (dk_at dksX10_init_1 3 rfl rfl)
abbrev cX10_station : ByteArray := prog_14_method_8_code
def yX10_station : MethodName := ⟨RX10, "station", "()I"⟩
theorem dX10_station_0 : decode cX10_station 0 = .ok (.aload_n 0, 1) := by decide +kernel
theorem dX10_station_1 : decode cX10_station 1 = .ok (.getfield 13, 3) := by decide +kernel
theorem dX10_station_4 : decode cX10_station 4 = .ok (.ireturn, 1) := by decide +kernel
abbrev cX10_ready : ByteArray := prog_14_method_10_code
def yX10_ready : MethodName := ⟨RX10, "ready", "()I"⟩
theorem dX10_ready_0 : decode cX10_ready 0 = .ok (.aload_n 0, 1) := by decide +kernel
theorem dX10_ready_1 : decode cX10_ready 1 = .ok (.getfield 19, 3) := by decide +kernel
theorem dX10_ready_4 : decode cX10_ready 4 = .ok (.ireturn, 1) := by decide +kernel
abbrev cX10_destination : ByteArray := prog_14_method_9_code
def yX10_destination : MethodName := ⟨RX10, "destination", "()I"⟩
theorem dX10_destination_0 : decode cX10_destination 0 = .ok (.aload_n 0, 1) := by decide +kernel
theorem dX10_destination_1 : decode cX10_destination 1 = .ok (.getfield 16, 3) := by decide +kernel
theorem dX10_destination_4 : decode cX10_destination 4 = .ok (.ireturn, 1) := by decide +kernel
abbrev cX10_isThere : ByteArray := prog_14_method_2_code
def yX10_isThere : MethodName := ⟨RX10, "isThere", "()Z"⟩
def dkwX10_isThere_0 : List UInt8 := [42, 180, 0, 13, 42, 180, 0, 16, 160, 0, 7, 4, 167, 0, 4, 3, 172]
abbrev dktX10_isThere_0 : List UInt8 := dkwX10_isThere_0 ++ []
theorem dksX10_isThere_0 : cX10_isThere.data.toList.drop 0 = dktX10_isThere_0 := by decide +kernel
theorem dX10_isThere_0 : decode cX10_isThere 0 = .ok (.aload_n 0, 1) := dk_42 (dk_at dksX10_isThere_0 0 rfl rfl)
theorem dX10_isThere_1 : decode cX10_isThere 1 = .ok (.getfield 13, 3) := dk_180 0 13 (dk_at dksX10_isThere_0 1 rfl rfl)
theorem dX10_isThere_4 : decode cX10_isThere 4 = .ok (.aload_n 0, 1) := dk_42 (dk_at dksX10_isThere_0 4 rfl rfl)
theorem dX10_isThere_5 : decode cX10_isThere 5 = .ok (.getfield 16, 3) := dk_180 0 16 (dk_at dksX10_isThere_0 5 rfl rfl)
theorem dX10_isThere_8 : decode cX10_isThere 8 = .ok (.if_icmp .ne 7, 3) := dk_160 0 7 (dk_at dksX10_isThere_0 8 rfl rfl)
theorem dX10_isThere_11 : decode cX10_isThere 11 = .ok (.iconst 1, 1) := dk_4 (dk_at dksX10_isThere_0 11 rfl rfl)
theorem dX10_isThere_12 : decode cX10_isThere 12 = .ok (.goto 4, 3) := dk_167 0 4 (dk_at dksX10_isThere_0 12 rfl rfl)
theorem dX10_isThere_15 : decode cX10_isThere 15 = .ok (.iconst 0, 1) := dk_3 (dk_at dksX10_isThere_0 15 rfl rfl)
theorem dX10_isThere_16 : decode cX10_isThere 16 = .ok (.ireturn, 1) := dk_172 (dk_at dksX10_isThere_0 16 rfl rfl)
abbrev cX10_equals : ByteArray := prog_14_method_4_code
def yX10_equals : MethodName := ⟨RX10, "equals", "(Ljava/lang/Object;)Z"⟩
def dkwX10_equals_1 : List UInt8 := [167, 0, 4, 3, 172]
abbrev dktX10_equals_1 : List UInt8 := dkwX10_equals_1 ++ []
def dkwX10_equals_0 : List UInt8 := [43, 193, 0, 8, 153, 0, 23, 43, 192, 0, 8, 77, 44, 180, 0, 7, 42, 180, 0, 7, 160, 0, 7, 4]
abbrev dktX10_equals_0 : List UInt8 := dkwX10_equals_0 ++ dktX10_equals_1
theorem dksX10_equals_0 : cX10_equals.data.toList.drop 0 = dktX10_equals_0 := by decide +kernel
theorem dksX10_equals_1 : cX10_equals.data.toList.drop 24 = dktX10_equals_1 := dk_seg dksX10_equals_0 24 rfl rfl
theorem dX10_equals_0 : decode cX10_equals 0 = .ok (.aload_n 1, 1) := dk_43 (dk_at dksX10_equals_0 0 rfl rfl)
theorem dX10_equals_1 : decode cX10_equals 1 = .ok (.instanceof 8, 3) := dk_193 0 8 (dk_at dksX10_equals_0 1 rfl rfl)
theorem dX10_equals_4 : decode cX10_equals 4 = .ok (.ifCond .eq 23, 3) := dk_153 0 23 (dk_at dksX10_equals_0 4 rfl rfl)
theorem dX10_equals_7 : decode cX10_equals 7 = .ok (.aload_n 1, 1) := dk_43 (dk_at dksX10_equals_0 7 rfl rfl)
theorem dX10_equals_8 : decode cX10_equals 8 = .ok (.checkcast 8, 3) := dk_192 0 8 (dk_at dksX10_equals_0 8 rfl rfl)
theorem dX10_equals_11 : decode cX10_equals 11 = .ok (.astore_n 2, 1) := dk_77 (dk_at dksX10_equals_0 11 rfl rfl)
theorem dX10_equals_12 : decode cX10_equals 12 = .ok (.aload_n 2, 1) := dk_44 (dk_at dksX10_equals_0 12 rfl rfl)
theorem dX10_equals_13 : decode cX10_equals 13 = .ok (.getfield 7, 3) := dk_180 0 7 (dk_at dksX10_equals_0 13 rfl rfl)
theorem dX10_equals_16 : decode cX10_equals 16 = .ok (.aload_n 0, 1) := dk_42 (dk_at dksX10_equals_0 16 rfl rfl)
theorem dX10_equals_17 : decode cX10_equals 17 = .ok (.getfield 7, 3) := dk_180 0 7 (dk_at dksX10_equals_0 17 rfl rfl)
theorem dX10_equals_20 : decode cX10_equals 20 = .ok (.if_icmp .ne 7, 3) := dk_160 0 7 (dk_at dksX10_equals_0 20 rfl rfl)
theorem dX10_equals_23 : decode cX10_equals 23 = .ok (.iconst 1, 1) := dk_4 (dk_at dksX10_equals_0 23 rfl rfl)
theorem dX10_equals_24 : decode cX10_equals 24 = .ok (.goto 4, 3) := dk_167 0 4 (dk_at dksX10_equals_1 0 rfl rfl)
theorem dX10_equals_27 : decode cX10_equals 27 = .ok (.iconst 0, 1) := dk_3 (dk_at dksX10_equals_1 3 rfl rfl)
theorem dX10_equals_28 : decode cX10_equals 28 = .ok (.ireturn, 1) := dk_172 (dk_at dksX10_equals_1 4 rfl rfl)
abbrev cX10_toString : ByteArray := prog_14_method_6_code
def yX10_toString : MethodName := ⟨RX10, "toString", "()Ljava/lang/String;"⟩
def dkwX10_toString_2 : List UInt8 := [182, 0, 25, 182, 0, 38, 176]
abbrev dktX10_toString_2 : List UInt8 := dkwX10_toString_2 ++ []
def dkwX10_toString_1 : List UInt8 := [182, 0, 25, 18, 34, 182, 0, 31, 42, 180, 0, 16, 182, 0, 25, 18, 36, 182, 0, 31, 42, 180, 0, 19]
abbrev dktX10_toString_1 : List UInt8 := dkwX10_toString_1 ++ dktX10_toString_2
def dkwX10_toString_0 : List UInt8 := [187, 0, 22, 89, 183, 0, 24, 42, 180, 0, 7, 182, 0, 25, 18, 29, 182, 0, 31, 42, 180, 0, 13]
abbrev dktX10_toString_0 : List UInt8 := dkwX10_toString_0 ++ dktX10_toString_1
theorem dksX10_toString_0 : cX10_toString.data.toList.drop 0 = dktX10_toString_0 := by decide +kernel
theorem dksX10_toString_1 : cX10_toString.data.toList.drop 23 = dktX10_toString_1 := dk_seg dksX10_toString_0 23 rfl rfl
theorem dksX10_toString_2 : cX10_toString.data.toList.drop 47 = dktX10_toString_2 := dk_seg dksX10_toString_1 24 rfl rfl
theorem dX10_toString_0 : decode cX10_toString 0 = .ok (.new 22, 3) := dk_187 0 22 (dk_at dksX10_toString_0 0 rfl rfl)
theorem dX10_toString_3 : decode cX10_toString 3 = .ok (.dup, 1) := dk_89 (dk_at dksX10_toString_0 3 rfl rfl)
theorem dX10_toString_4 : decode cX10_toString 4 = .ok (.invokespecial 24, 3) := dk_183 0 24 (dk_at dksX10_toString_0 4 rfl rfl)
theorem dX10_toString_7 : decode cX10_toString 7 = .ok (.aload_n 0, 1) := dk_42 (dk_at dksX10_toString_0 7 rfl rfl)
theorem dX10_toString_8 : decode cX10_toString 8 = .ok (.getfield 7, 3) := dk_180 0 7 (dk_at dksX10_toString_0 8 rfl rfl)
theorem dX10_toString_11 : decode cX10_toString 11 = .ok (.invokevirtual 25, 3) := dk_182 0 25 (dk_at dksX10_toString_0 11 rfl rfl)
theorem dX10_toString_14 : decode cX10_toString 14 = .ok (.ldc 29, 2) := dk_18 29 (dk_at dksX10_toString_0 14 rfl rfl)
theorem dX10_toString_16 : decode cX10_toString 16 = .ok (.invokevirtual 31, 3) := dk_182 0 31 (dk_at dksX10_toString_0 16 rfl rfl)
theorem dX10_toString_19 : decode cX10_toString 19 = .ok (.aload_n 0, 1) := dk_42 (dk_at dksX10_toString_0 19 rfl rfl)
theorem dX10_toString_20 : decode cX10_toString 20 = .ok (.getfield 13, 3) := dk_180 0 13 (dk_at dksX10_toString_0 20 rfl rfl)
theorem dX10_toString_23 : decode cX10_toString 23 = .ok (.invokevirtual 25, 3) := dk_182 0 25 (dk_at dksX10_toString_1 0 rfl rfl)
theorem dX10_toString_26 : decode cX10_toString 26 = .ok (.ldc 34, 2) := dk_18 34 (dk_at dksX10_toString_1 3 rfl rfl)
theorem dX10_toString_28 : decode cX10_toString 28 = .ok (.invokevirtual 31, 3) := dk_182 0 31 (dk_at dksX10_toString_1 5 rfl rfl)
theorem dX10_toString_31 : decode cX10_toString 31 = .ok (.aload_n 0, 1) := dk_42 (dk_at dksX10_toString_1 8 rfl rfl)
theorem dX10_toString_32 : decode cX10_toString 32 = .ok (.getfield 16, 3) := dk_180 0 16 (dk_at dksX10_toString_1 9 rfl rfl)
theorem dX10_toString_35 : decode cX10_toString 35 = .ok (.invokevirtual 25, 3) := dk_182 0 25 (dk_at dksX10_toString_1 12 rfl rfl)
theorem dX10_toString_38 : decode cX10_toString 38 = .ok (.ldc 36, 2) := dk_18 36 (dk_at dksX10_toString_1 15 rfl rfl)
theorem dX10_toString_40 : decode cX10_toString 40 = .ok (.invokevirtual 31, 3) := dk_182 0 31 (dk_at dksX10_toString_1 17 rfl rfl)
theorem dX10_toString_43 : decode cX10_toString 43 = .ok (.aload_n 0, 1) := dk_42 (dk_at dksX10_toString_1 20 rfl rfl)
theorem dX10_toString_44 : decode cX10_toString 44 = .ok (.getfield 19, 3) := dk_180 0 19 (dk_at dksX10_toString_1 21 rfl rfl)
theorem dX10_toString_47 : decode cX10_toString 47 = .ok (.invokevirtual 25, 3) := dk_182 0 25 (dk_at dksX10_toString_2 0 rfl rfl)
theorem dX10_toString_50 : decode cX10_toString 50 = .ok (.invokevirtual 38, 3) := dk_182 0 38 (dk_at dksX10_toString_2 3 rfl rfl)
theorem dX10_toString_53 : decode cX10_toString 53 = .ok (.areturn, 1) := dk_176 (dk_at dksX10_toString_2 6 rfl rfl)
theorem q156 : (Jvm.Cond.initialized "SleeperRailway$Suitcase") ∈ lw_all := lw_g (lw_at lw_m1 56 rfl) rfl
theorem q1001 : (Jvm.Cond.selects "SleeperRailway$Suitcase" ({ cls := "java/lang/Object", name := "getClass", desc := "()Ljava/lang/Class;" } : Jvm.MethodName) ({ cls := "java/lang/Object", name := "getClass", desc := "()Ljava/lang/Class;" } : Jvm.MethodName)) ∈ lw_all := lw_g (lw_at lw_m4 181 rfl) rfl
theorem q1553 : (Jvm.Cond.castable "SleeperRailway$Suitcase" "java/lang/Comparable") ∈ lw_tbl := lw_at lw_m7 13 rfl
theorem q1554 : (Jvm.Cond.selects "SleeperRailway$Suitcase" ({ cls := "java/lang/Comparable", name := "compareTo", desc := "(Ljava/lang/Object;)I" } : Jvm.MethodName) ({ cls := "SleeperRailway$Suitcase", name := "compareTo", desc := "(Ljava/lang/Object;)I" } : Jvm.MethodName)) ∈ lw_all := lw_g (lw_at lw_m7 14 rfl) rfl
theorem q1555 : (Jvm.Cond.unhidden "SleeperRailway$Suitcase" "compareTo" "(Ljava/lang/Object;)I") ∈ lw_tbl := lw_at lw_m7 15 rfl
theorem q1556 : (Jvm.Cond.instanceMethod ({ cls := "SleeperRailway$Suitcase", name := "compareTo", desc := "(Ljava/lang/Object;)I" } : Jvm.MethodName)) ∈ lw_all := lw_g (lw_at lw_m7 16 rfl) rfl
theorem q1557 : (Jvm.Cond.publicMethod ({ cls := "SleeperRailway$Suitcase", name := "compareTo", desc := "(Ljava/lang/Object;)I" } : Jvm.MethodName)) ∈ lw_tbl := lw_at lw_m7 17 rfl
theorem q1558 : (Jvm.Cond.code ({ cls := "SleeperRailway$Suitcase", name := "compareTo", desc := "(Ljava/lang/Object;)I" } : Jvm.MethodName) prog_14_method_11_code (2 : Nat) (Option.some Jvm.ClassFile.FieldType.int)) ∈ lw_all := lw_g (lw_at lw_m7 18 rfl) rfl
theorem q1559 : (Jvm.Cond.classLink "SleeperRailway$Suitcase" (8 : Nat) "SleeperRailway$Suitcase") ∈ lw_all := lw_g (lw_at lw_m7 19 rfl) rfl
theorem q1560 : (Jvm.Cond.methodLink "SleeperRailway$Suitcase" (42 : Nat) ({ cls := "SleeperRailway$Suitcase", name := "compareTo", desc := "(LSleeperRailway$Suitcase;)I" } : Jvm.MethodName)) ∈ lw_all := lw_g (lw_at lw_m7 20 rfl) rfl
theorem q1561 : (Jvm.Cond.instanceMethod ({ cls := "SleeperRailway$Suitcase", name := "compareTo", desc := "(LSleeperRailway$Suitcase;)I" } : Jvm.MethodName)) ∈ lw_all := lw_g (lw_at lw_m7 21 rfl) rfl
theorem q1562 : (Jvm.Cond.selects "SleeperRailway$Suitcase" ({ cls := "SleeperRailway$Suitcase", name := "compareTo", desc := "(LSleeperRailway$Suitcase;)I" } : Jvm.MethodName) ({ cls := "SleeperRailway$Suitcase", name := "compareTo", desc := "(LSleeperRailway$Suitcase;)I" } : Jvm.MethodName)) ∈ lw_all := lw_g (lw_at lw_m7 22 rfl) rfl
theorem q1563 : (Jvm.Cond.code ({ cls := "SleeperRailway$Suitcase", name := "compareTo", desc := "(LSleeperRailway$Suitcase;)I" } : Jvm.MethodName) prog_14_method_3_code (2 : Nat) (Option.some Jvm.ClassFile.FieldType.int)) ∈ lw_all := lw_g (lw_at lw_m7 23 rfl) rfl
theorem q2338 : (Jvm.Cond.instanceMethod ({ cls := "SleeperRailway$Suitcase", name := "id", desc := "()I" } : Jvm.MethodName)) ∈ lw_all := lw_g (lw_at lw_m10 78 rfl) rfl
theorem q2339 : (Jvm.Cond.selects "SleeperRailway$Suitcase" ({ cls := "SleeperRailway$Suitcase", name := "id", desc := "()I" } : Jvm.MethodName) ({ cls := "SleeperRailway$Suitcase", name := "id", desc := "()I" } : Jvm.MethodName)) ∈ lw_all := lw_g (lw_at lw_m10 79 rfl) rfl
theorem q2340 : (Jvm.Cond.code ({ cls := "SleeperRailway$Suitcase", name := "id", desc := "()I" } : Jvm.MethodName) prog_14_method_7_code (1 : Nat) (Option.some Jvm.ClassFile.FieldType.int)) ∈ lw_all := lw_g (lw_at lw_m10 80 rfl) rfl
theorem q2512 : (Jvm.Cond.instantiable "SleeperRailway$Suitcase" (4 : Nat)) ∈ lw_all := lw_g (lw_at lw_m11 12 rfl) rfl
theorem q2514 : (Jvm.Cond.instanceMethod ({ cls := "SleeperRailway$Suitcase", name := "<init>", desc := "(IIII)V" } : Jvm.MethodName)) ∈ lw_all := lw_g (lw_at lw_m11 14 rfl) rfl
theorem q2515 : (Jvm.Cond.code ({ cls := "SleeperRailway$Suitcase", name := "<init>", desc := "(IIII)V" } : Jvm.MethodName) prog_14_method_1_code (5 : Nat) (Option.none : Option Jvm.ClassFile.FieldType)) ∈ lw_all := lw_g (lw_at lw_m11 15 rfl) rfl
theorem q2516 : (Jvm.Cond.methodLink "SleeperRailway$Suitcase" (1 : Nat) ({ cls := "java/lang/Record", name := "<init>", desc := "()V" } : Jvm.MethodName)) ∈ lw_all := lw_g (lw_at lw_m11 16 rfl) rfl
theorem q2517 : (Jvm.Cond.fieldLink "SleeperRailway$Suitcase" (7 : Nat) "SleeperRailway$Suitcase" "id" "I") ∈ lw_all := lw_g (lw_at lw_m11 17 rfl) rfl
theorem q2518 : (Jvm.Cond.fieldLink "SleeperRailway$Suitcase" (13 : Nat) "SleeperRailway$Suitcase" "station" "I") ∈ lw_all := lw_g (lw_at lw_m11 18 rfl) rfl
theorem q2519 : (Jvm.Cond.fieldLink "SleeperRailway$Suitcase" (16 : Nat) "SleeperRailway$Suitcase" "destination" "I") ∈ lw_all := lw_g (lw_at lw_m11 19 rfl) rfl
theorem q2520 : (Jvm.Cond.fieldLink "SleeperRailway$Suitcase" (19 : Nat) "SleeperRailway$Suitcase" "ready" "I") ∈ lw_all := lw_g (lw_at lw_m11 20 rfl) rfl
theorem q2521 : (Jvm.Cond.laysFinal "SleeperRailway$Suitcase" "SleeperRailway$Suitcase" "id" "I") ∈ lw_all := lw_g (lw_at lw_m11 21 rfl) rfl
theorem q2522 : (Jvm.Cond.soleField "SleeperRailway$Suitcase" "id") ∈ lw_all := lw_g (lw_at lw_m11 22 rfl) rfl
theorem q2523 : (Jvm.Cond.laysFinal "SleeperRailway$Suitcase" "SleeperRailway$Suitcase" "station" "I") ∈ lw_all := lw_g (lw_at lw_m11 23 rfl) rfl
theorem q2524 : (Jvm.Cond.soleField "SleeperRailway$Suitcase" "station") ∈ lw_all := lw_g (lw_at lw_m11 24 rfl) rfl
theorem q2525 : (Jvm.Cond.laysFinal "SleeperRailway$Suitcase" "SleeperRailway$Suitcase" "destination" "I") ∈ lw_all := lw_g (lw_at lw_m11 25 rfl) rfl
theorem q2526 : (Jvm.Cond.soleField "SleeperRailway$Suitcase" "destination") ∈ lw_all := lw_g (lw_at lw_m11 26 rfl) rfl
theorem q2527 : (Jvm.Cond.laysFinal "SleeperRailway$Suitcase" "SleeperRailway$Suitcase" "ready" "I") ∈ lw_all := lw_g (lw_at lw_m11 27 rfl) rfl
theorem q2528 : (Jvm.Cond.soleField "SleeperRailway$Suitcase" "ready") ∈ lw_all := lw_g (lw_at lw_m11 28 rfl) rfl
theorem q2529 : (Jvm.Cond.superclass "SleeperRailway$Suitcase" "java/lang/Record") ∈ lw_all := lw_g (lw_at lw_m11 29 rfl) rfl
theorem q2544 : (Jvm.Cond.instanceMethod ({ cls := "SleeperRailway$Suitcase", name := "station", desc := "()I" } : Jvm.MethodName)) ∈ lw_all := lw_g (lw_at lw_m11 44 rfl) rfl
theorem q2545 : (Jvm.Cond.selects "SleeperRailway$Suitcase" ({ cls := "SleeperRailway$Suitcase", name := "station", desc := "()I" } : Jvm.MethodName) ({ cls := "SleeperRailway$Suitcase", name := "station", desc := "()I" } : Jvm.MethodName)) ∈ lw_all := lw_g (lw_at lw_m11 45 rfl) rfl
theorem q2546 : (Jvm.Cond.code ({ cls := "SleeperRailway$Suitcase", name := "station", desc := "()I" } : Jvm.MethodName) prog_14_method_8_code (1 : Nat) (Option.some Jvm.ClassFile.FieldType.int)) ∈ lw_all := lw_g (lw_at lw_m11 46 rfl) rfl
theorem q2548 : (Jvm.Cond.instanceMethod ({ cls := "SleeperRailway$Suitcase", name := "ready", desc := "()I" } : Jvm.MethodName)) ∈ lw_all := lw_g (lw_at lw_m11 48 rfl) rfl
theorem q2549 : (Jvm.Cond.selects "SleeperRailway$Suitcase" ({ cls := "SleeperRailway$Suitcase", name := "ready", desc := "()I" } : Jvm.MethodName) ({ cls := "SleeperRailway$Suitcase", name := "ready", desc := "()I" } : Jvm.MethodName)) ∈ lw_all := lw_g (lw_at lw_m11 49 rfl) rfl
theorem q2550 : (Jvm.Cond.code ({ cls := "SleeperRailway$Suitcase", name := "ready", desc := "()I" } : Jvm.MethodName) prog_14_method_10_code (1 : Nat) (Option.some Jvm.ClassFile.FieldType.int)) ∈ lw_all := lw_g (lw_at lw_m11 50 rfl) rfl
theorem q2552 : (Jvm.Cond.instanceMethod ({ cls := "SleeperRailway$Suitcase", name := "destination", desc := "()I" } : Jvm.MethodName)) ∈ lw_all := lw_g (lw_at lw_m11 52 rfl) rfl
theorem q2553 : (Jvm.Cond.selects "SleeperRailway$Suitcase" ({ cls := "SleeperRailway$Suitcase", name := "destination", desc := "()I" } : Jvm.MethodName) ({ cls := "SleeperRailway$Suitcase", name := "destination", desc := "()I" } : Jvm.MethodName)) ∈ lw_all := lw_g (lw_at lw_m11 53 rfl) rfl
theorem q2554 : (Jvm.Cond.code ({ cls := "SleeperRailway$Suitcase", name := "destination", desc := "()I" } : Jvm.MethodName) prog_14_method_9_code (1 : Nat) (Option.some Jvm.ClassFile.FieldType.int)) ∈ lw_all := lw_g (lw_at lw_m11 54 rfl) rfl
theorem q2585 : (Jvm.Cond.instanceMethod ({ cls := "SleeperRailway$Suitcase", name := "isThere", desc := "()Z" } : Jvm.MethodName)) ∈ lw_all := lw_g (lw_at lw_m11 85 rfl) rfl
theorem q2586 : (Jvm.Cond.selects "SleeperRailway$Suitcase" ({ cls := "SleeperRailway$Suitcase", name := "isThere", desc := "()Z" } : Jvm.MethodName) ({ cls := "SleeperRailway$Suitcase", name := "isThere", desc := "()Z" } : Jvm.MethodName)) ∈ lw_all := lw_g (lw_at lw_m11 86 rfl) rfl
theorem q2587 : (Jvm.Cond.code ({ cls := "SleeperRailway$Suitcase", name := "isThere", desc := "()Z" } : Jvm.MethodName) prog_14_method_2_code (1 : Nat) (Option.some Jvm.ClassFile.FieldType.boolean)) ∈ lw_all := lw_g (lw_at lw_m11 87 rfl) rfl
theorem q3180 : (Jvm.Cond.selects "SleeperRailway$Suitcase" ({ cls := "java/lang/Object", name := "equals", desc := "(Ljava/lang/Object;)Z" } : Jvm.MethodName) ({ cls := "SleeperRailway$Suitcase", name := "equals", desc := "(Ljava/lang/Object;)Z" } : Jvm.MethodName)) ∈ lw_all := lw_g (lw_at lw_m13 200 rfl) rfl
theorem q3181 : (Jvm.Cond.instanceMethod ({ cls := "SleeperRailway$Suitcase", name := "equals", desc := "(Ljava/lang/Object;)Z" } : Jvm.MethodName)) ∈ lw_all := lw_g (lw_at lw_m13 201 rfl) rfl
theorem q3182 : (Jvm.Cond.code ({ cls := "SleeperRailway$Suitcase", name := "equals", desc := "(Ljava/lang/Object;)Z" } : Jvm.MethodName) prog_14_method_4_code (3 : Nat) (Option.some Jvm.ClassFile.FieldType.boolean)) ∈ lw_all := lw_g (lw_at lw_m13 202 rfl) rfl
theorem q3297 : (Jvm.Cond.instanceMethod ({ cls := "SleeperRailway$Suitcase", name := "toString", desc := "()Ljava/lang/String;" } : Jvm.MethodName)) ∈ lw_all := lw_g (lw_at lw_m14 77 rfl) rfl
theorem q3298 : (Jvm.Cond.selects "SleeperRailway$Suitcase" ({ cls := "SleeperRailway$Suitcase", name := "toString", desc := "()Ljava/lang/String;" } : Jvm.MethodName) ({ cls := "SleeperRailway$Suitcase", name := "toString", desc := "()Ljava/lang/String;" } : Jvm.MethodName)) ∈ lw_all := lw_g (lw_at lw_m14 78 rfl) rfl
theorem q3299 : (Jvm.Cond.code ({ cls := "SleeperRailway$Suitcase", name := "toString", desc := "()Ljava/lang/String;" } : Jvm.MethodName) prog_14_method_6_code (1 : Nat) (Option.some (Jvm.ClassFile.FieldType.object "java/lang/String"))) ∈ lw_all := lw_g (lw_at lw_m14 79 rfl) rfl
theorem q3300 : (Jvm.Cond.classLink "SleeperRailway$Suitcase" (22 : Nat) "java/lang/StringBuilder") ∈ lw_all := lw_g (lw_at lw_m14 80 rfl) rfl
theorem q3301 : (Jvm.Cond.methodLink "SleeperRailway$Suitcase" (24 : Nat) ({ cls := "java/lang/StringBuilder", name := "<init>", desc := "()V" } : Jvm.MethodName)) ∈ lw_all := lw_g (lw_at lw_m14 81 rfl) rfl
theorem q3302 : (Jvm.Cond.methodLink "SleeperRailway$Suitcase" (25 : Nat) ({ cls := "java/lang/StringBuilder", name := "append", desc := "(I)Ljava/lang/StringBuilder;" } : Jvm.MethodName)) ∈ lw_all := lw_g (lw_at lw_m14 82 rfl) rfl
theorem q3303 : (Jvm.Cond.stringRef "SleeperRailway$Suitcase" (29 : Nat) "@") ∈ lw_tbl := lw_at lw_m14 83 rfl
theorem q3304 : (Jvm.Cond.methodLink "SleeperRailway$Suitcase" (31 : Nat) ({ cls := "java/lang/StringBuilder", name := "append", desc := "(Ljava/lang/String;)Ljava/lang/StringBuilder;" } : Jvm.MethodName)) ∈ lw_all := lw_g (lw_at lw_m14 84 rfl) rfl
theorem q3305 : (Jvm.Cond.stringRef "SleeperRailway$Suitcase" (34 : Nat) ">") ∈ lw_tbl := lw_at lw_m14 85 rfl
theorem q3306 : (Jvm.Cond.stringRef "SleeperRailway$Suitcase" (36 : Nat) "t") ∈ lw_tbl := lw_at lw_m14 86 rfl
theorem q3307 : (Jvm.Cond.methodLink "SleeperRailway$Suitcase" (38 : Nat) ({ cls := "java/lang/StringBuilder", name := "toString", desc := "()Ljava/lang/String;" } : Jvm.MethodName)) ∈ lw_all := lw_g (lw_at lw_m14 87 rfl) rfl
theorem q3490 : (Jvm.Cond.selects "SleeperRailway$Suitcase" ({ cls := "java/lang/Object", name := "toString", desc := "()Ljava/lang/String;" } : Jvm.MethodName) ({ cls := "SleeperRailway$Suitcase", name := "toString", desc := "()Ljava/lang/String;" } : Jvm.MethodName)) ∈ lw_all := lw_g (lw_at lw_m15 30 rfl) rfl
theorem q4264 : (Jvm.Cond.castable "SleeperRailway$Suitcase" "java/lang/Object") ∈ lw_tbl := lw_at lw_m18 84 rfl
theorem in_X10 : ∀ w ∈ wsX100, w ∈ lw_all := lw_in wsX100 [2521, 2523, 2525, 2527] (by decide +kernel) (by decide +kernel)
/-! SleeperRailway$Timetable$1 -/
set_option maxRecDepth 100000
def RX11 : String := "SleeperRailway$Timetable$1"
def TX11 : u_T := fun k => match k with
  | 0 => ("SleeperRailway$Timetable$1", "train", "I", false)
  | 1 => ("SleeperRailway$Timetable$1", "number", "I", false)
  | _ => ("SleeperRailway$Timetable$1", "this$0", "LSleeperRailway$Timetable;", true)
def tyX11 : Nat → FieldType := fun k => match k with
  | 0 => .int
  | 1 => .int
  | _ => .object "SleeperRailway$Timetable"
abbrev wsX110 : List Cond := u_ws RX11 TX11 3
theorem nmX11 : ∀ a, a < 3 → ∀ b, b < 3 → a ≠ b → (TX11 a).2.1 ≠ (TX11 b).2.1 := by decide +kernel
theorem tyX11_ok : ∀ k, k < 3 → parseFieldDescriptor (TX11 k).2.2.1 = some (tyX11 k) := by decide +kernel
abbrev cX11_init : ByteArray := prog_17_method_1_code
def yX11_init : MethodName := ⟨RX11, "<init>", "(LSleeperRailway$Timetable;)V"⟩
def dkwX11_init_0 : List UInt8 := [42, 43, 181, 0, 1, 42, 183, 0, 7, 177]
abbrev dktX11_init_0 : List UInt8 := dkwX11_init_0 ++ []
theorem dksX11_init_0 : cX11_init.data.toList.drop 0 = dktX11_init_0 := by decide +kernel
theorem dX11_init_0 : decode cX11_init 0 = .ok (.aload_n 0, 1) := dk_42 (dk_at dksX11_init_0 0 rfl rfl)
theorem dX11_init_1 : decode cX11_init 1 = .ok (.aload_n 1, 1) := dk_43 (dk_at dksX11_init_0 1 rfl rfl)
theorem dX11_init_2 : decode cX11_init 2 = .ok (.putfield 1, 3) := dk_181 0 1 (dk_at dksX11_init_0 2 rfl rfl)
theorem dX11_init_5 : decode cX11_init 5 = .ok (.aload_n 0, 1) := dk_42 (dk_at dksX11_init_0 5 rfl rfl)
theorem dX11_init_6 : decode cX11_init 6 = .ok (.invokespecial 7, 3) := dk_183 0 7 (dk_at dksX11_init_0 6 rfl rfl)
theorem dX11_init_9 : decode cX11_init 9 = .ok (.return_, 1) := dk_177 (dk_at dksX11_init_0 9 rfl rfl)
abbrev cX11_hasNext : ByteArray := prog_17_method_2_code
def yX11_hasNext : MethodName := ⟨RX11, "hasNext", "()Z"⟩
def dkwX11_hasNext_3 : List UInt8 := [180, 0, 1, 180, 0, 17, 185, 0, 23, 1, 0, 162, 0, 7, 4, 167, 0, 4, 3, 172]
abbrev dktX11_hasNext_3 : List UInt8 := dkwX11_hasNext_3 ++ []
def dkwX11_hasNext_2 : List UInt8 := [42, 89, 180, 0, 13, 4, 96, 181, 0, 13, 42, 3, 181, 0, 29, 167, 255, 193, 42, 180, 0, 13, 42]
abbrev dktX11_hasNext_2 : List UInt8 := dkwX11_hasNext_2 ++ dktX11_hasNext_3
def dkwX11_hasNext_1 : List UInt8 := [180, 0, 1, 180, 0, 17, 42, 180, 0, 13, 185, 0, 32, 2, 0, 192, 0, 36, 182, 0, 38, 161, 0, 21]
abbrev dktX11_hasNext_1 : List UInt8 := dkwX11_hasNext_1 ++ dktX11_hasNext_2
def dkwX11_hasNext_0 : List UInt8 := [42, 180, 0, 13, 42, 180, 0, 1, 180, 0, 17, 185, 0, 23, 1, 0, 162, 0, 50, 42, 180, 0, 29, 42]
abbrev dktX11_hasNext_0 : List UInt8 := dkwX11_hasNext_0 ++ dktX11_hasNext_1
theorem dksX11_hasNext_0 : cX11_hasNext.data.toList.drop 0 = dktX11_hasNext_0 := by decide +kernel
theorem dksX11_hasNext_1 : cX11_hasNext.data.toList.drop 24 = dktX11_hasNext_1 := dk_seg dksX11_hasNext_0 24 rfl rfl
theorem dksX11_hasNext_2 : cX11_hasNext.data.toList.drop 48 = dktX11_hasNext_2 := dk_seg dksX11_hasNext_1 24 rfl rfl
theorem dksX11_hasNext_3 : cX11_hasNext.data.toList.drop 71 = dktX11_hasNext_3 := dk_seg dksX11_hasNext_2 23 rfl rfl
theorem dX11_hasNext_0 : decode cX11_hasNext 0 = .ok (.aload_n 0, 1) := dk_42 (dk_at dksX11_hasNext_0 0 rfl rfl)
theorem dX11_hasNext_1 : decode cX11_hasNext 1 = .ok (.getfield 13, 3) := dk_180 0 13 (dk_at dksX11_hasNext_0 1 rfl rfl)
theorem dX11_hasNext_4 : decode cX11_hasNext 4 = .ok (.aload_n 0, 1) := dk_42 (dk_at dksX11_hasNext_0 4 rfl rfl)
theorem dX11_hasNext_5 : decode cX11_hasNext 5 = .ok (.getfield 1, 3) := dk_180 0 1 (dk_at dksX11_hasNext_0 5 rfl rfl)
theorem dX11_hasNext_8 : decode cX11_hasNext 8 = .ok (.getfield 17, 3) := dk_180 0 17 (dk_at dksX11_hasNext_0 8 rfl rfl)
theorem dX11_hasNext_11 : decode cX11_hasNext 11 = .ok (.invokeinterface 23 1, 5) := by decide +kernel
theorem dX11_hasNext_16 : decode cX11_hasNext 16 = .ok (.if_icmp .ge 50, 3) := dk_162 0 50 (dk_at dksX11_hasNext_0 16 rfl rfl)
theorem dX11_hasNext_19 : decode cX11_hasNext 19 = .ok (.aload_n 0, 1) := dk_42 (dk_at dksX11_hasNext_0 19 rfl rfl)
theorem dX11_hasNext_20 : decode cX11_hasNext 20 = .ok (.getfield 29, 3) := dk_180 0 29 (dk_at dksX11_hasNext_0 20 rfl rfl)
theorem dX11_hasNext_23 : decode cX11_hasNext 23 = .ok (.aload_n 0, 1) := dk_42 (dk_at dksX11_hasNext_0 23 rfl rfl)
theorem dX11_hasNext_24 : decode cX11_hasNext 24 = .ok (.getfield 1, 3) := dk_180 0 1 (dk_at dksX11_hasNext_1 0 rfl rfl)
theorem dX11_hasNext_27 : decode cX11_hasNext 27 = .ok (.getfield 17, 3) := dk_180 0 17 (dk_at dksX11_hasNext_1 3 rfl rfl)
theorem dX11_hasNext_30 : decode cX11_hasNext 30 = .ok (.aload_n 0, 1) := dk_42 (dk_at dksX11_hasNext_1 6 rfl rfl)
theorem dX11_hasNext_31 : decode cX11_hasNext 31 = .ok (.getfield 13, 3) := dk_180 0 13 (dk_at dksX11_hasNext_1 7 rfl rfl)
theorem dX11_hasNext_34 : decode cX11_hasNext 34 = .ok (.invokeinterface 32 2, 5) := by decide +kernel
theorem dX11_hasNext_39 : decode cX11_hasNext 39 = .ok (.checkcast 36, 3) := dk_192 0 36 (dk_at dksX11_hasNext_1 15 rfl rfl)
theorem dX11_hasNext_42 : decode cX11_hasNext 42 = .ok (.invokevirtual 38, 3) := dk_182 0 38 (dk_at dksX11_hasNext_1 18 rfl rfl)
theorem dX11_hasNext_45 : decode cX11_hasNext 45 = .ok (.if_icmp .lt 21, 3) := dk_161 0 21 (dk_at dksX11_hasNext_1 21 rfl rfl)
theorem dX11_hasNext_48 : decode cX11_hasNext 48 = .ok (.aload_n 0, 1) := dk_42 (dk_at dksX11_hasNext_2 0 rfl rfl)
theorem dX11_hasNext_49 : decode cX11_hasNext 49 = .ok (.dup, 1) := dk_89 (dk_at dksX11_hasNext_2 1 rfl rfl)
theorem dX11_hasNext_50 : decode cX11_hasNext 50 = .ok (.getfield 13, 3) := dk_180 0 13 (dk_at dksX11_hasNext_2 2 rfl rfl)
theorem dX11_hasNext_53 : decode cX11_hasNext 53 = .ok (.iconst 1, 1) := dk_4 (dk_at dksX11_hasNext_2 5 rfl rfl)
theorem dX11_hasNext_54 : decode cX11_hasNext 54 = .ok (.iadd, 1) := dk_96 (dk_at dksX11_hasNext_2 6 rfl rfl)
theorem dX11_hasNext_55 : decode cX11_hasNext 55 = .ok (.putfield 13, 3) := dk_181 0 13 (dk_at dksX11_hasNext_2 7 rfl rfl)
theorem dX11_hasNext_58 : decode cX11_hasNext 58 = .ok (.aload_n 0, 1) := dk_42 (dk_at dksX11_hasNext_2 10 rfl rfl)
theorem dX11_hasNext_59 : decode cX11_hasNext 59 = .ok (.iconst 0, 1) := dk_3 (dk_at dksX11_hasNext_2 11 rfl rfl)
theorem dX11_hasNext_60 : decode cX11_hasNext 60 = .ok (.putfield 29, 3) := dk_181 0 29 (dk_at dksX11_hasNext_2 12 rfl rfl)
theorem dX11_hasNext_63 : decode cX11_hasNext 63 = .ok (.goto (-63), 3) := dk_167 255 193 (dk_at dksX11_hasNext_2 15 rfl rfl)
theorem dX11_hasNext_66 : decode cX11_hasNext 66 = .ok (.aload_n 0, 1) := dk_42 (dk_at dksX11_hasNext_2 18 rfl rfl)
theorem dX11_hasNext_67 : decode cX11_hasNext 67 = .ok (.getfield 13, 3) := dk_180 0 13 (dk_at dksX11_hasNext_2 19 rfl rfl)
theorem dX11_hasNext_70 : decode cX11_hasNext 70 = .ok (.aload_n 0, 1) := dk_42 (dk_at dksX11_hasNext_2 22 rfl rfl)
theorem dX11_hasNext_71 : decode cX11_hasNext 71 = .ok (.getfield 1, 3) := dk_180 0 1 (dk_at dksX11_hasNext_3 0 rfl rfl)
theorem dX11_hasNext_74 : decode cX11_hasNext 74 = .ok (.getfield 17, 3) := dk_180 0 17 (dk_at dksX11_hasNext_3 3 rfl rfl)
theorem dX11_hasNext_77 : decode cX11_hasNext 77 = .ok (.invokeinterface 23 1, 5) := by decide +kernel
theorem dX11_hasNext_82 : decode cX11_hasNext 82 = .ok (.if_icmp .ge 7, 3) := dk_162 0 7 (dk_at dksX11_hasNext_3 11 rfl rfl)
theorem dX11_hasNext_85 : decode cX11_hasNext 85 = .ok (.iconst 1, 1) := dk_4 (dk_at dksX11_hasNext_3 14 rfl rfl)
theorem dX11_hasNext_86 : decode cX11_hasNext 86 = .ok (.goto 4, 3) := dk_167 0 4 (dk_at dksX11_hasNext_3 15 rfl rfl)
theorem dX11_hasNext_89 : decode cX11_hasNext 89 = .ok (.iconst 0, 1) := dk_3 (dk_at dksX11_hasNext_3 18 rfl rfl)
theorem dX11_hasNext_90 : decode cX11_hasNext 90 = .ok (.ireturn, 1) := dk_172 (dk_at dksX11_hasNext_3 19 rfl rfl)
abbrev cX11_next : ByteArray := prog_17_method_4_code
def yX11_next : MethodName := ⟨RX11, "next", "()Ljava/lang/Object;"⟩
theorem dX11_next_0 : decode cX11_next 0 = .ok (.aload_n 0, 1) := by decide +kernel
theorem dX11_next_1 : decode cX11_next 1 = .ok (.invokevirtual 52, 3) := by decide +kernel
theorem dX11_next_4 : decode cX11_next 4 = .ok (.areturn, 1) := by decide +kernel
abbrev cX11_next_2 : ByteArray := prog_17_method_3_code
def yX11_next_2 : MethodName := ⟨RX11, "next", "()LSleeperRailway$Leg;"⟩
def dkwX11_next_2_1 : List UInt8 := [181, 0, 29, 42, 180, 0, 1, 42, 180, 0, 13, 42, 180, 0, 29, 4, 100, 182, 0, 48, 176]
abbrev dktX11_next_2_1 : List UInt8 := dkwX11_next_2_1 ++ []
def dkwX11_next_2_0 : List UInt8 := [42, 182, 0, 41, 154, 0, 11, 187, 0, 45, 89, 183, 0, 47, 191, 42, 89, 180, 0, 29, 4, 96]
abbrev dktX11_next_2_0 : List UInt8 := dkwX11_next_2_0 ++ dktX11_next_2_1
theorem dksX11_next_2_0 : cX11_next_2.data.toList.drop 0 = dktX11_next_2_0 := by decide +kernel
theorem dksX11_next_2_1 : cX11_next_2.data.toList.drop 22 = dktX11_next_2_1 := dk_seg dksX11_next_2_0 22 rfl rfl
theorem dX11_next_2_0 : decode cX11_next_2 0 = .ok (.aload_n 0, 1) := dk_42 (dk_at dksX11_next_2_0 0 rfl rfl)
theorem dX11_next_2_1 : decode cX11_next_2 1 = .ok (.invokevirtual 41, 3) := dk_182 0 41 (dk_at dksX11_next_2_0 1 rfl rfl)
theorem dX11_next_2_4 : decode cX11_next_2 4 = .ok (.ifCond .ne 11, 3) := dk_154 0 11 (dk_at dksX11_next_2_0 4 rfl rfl)
theorem dX11_next_2_7 : decode cX11_next_2 7 = .ok (.new 45, 3) := dk_187 0 45 (dk_at dksX11_next_2_0 7 rfl rfl)
theorem dX11_next_2_10 : decode cX11_next_2 10 = .ok (.dup, 1) := dk_89 (dk_at dksX11_next_2_0 10 rfl rfl)
theorem dX11_next_2_11 : decode cX11_next_2 11 = .ok (.invokespecial 47, 3) := dk_183 0 47 (dk_at dksX11_next_2_0 11 rfl rfl)
theorem dX11_next_2_14 : decode cX11_next_2 14 = .ok (.athrow, 1) := dk_191 (dk_at dksX11_next_2_0 14 rfl rfl)
theorem dX11_next_2_15 : decode cX11_next_2 15 = .ok (.aload_n 0, 1) := dk_42 (dk_at dksX11_next_2_0 15 rfl rfl)
theorem dX11_next_2_16 : decode cX11_next_2 16 = .ok (.dup, 1) := dk_89 (dk_at dksX11_next_2_0 16 rfl rfl)
theorem dX11_next_2_17 : decode cX11_next_2 17 = .ok (.getfield 29, 3) := dk_180 0 29 (dk_at dksX11_next_2_0 17 rfl rfl)
theorem dX11_next_2_20 : decode cX11_next_2 20 = .ok (.iconst 1, 1) := dk_4 (dk_at dksX11_next_2_0 20 rfl rfl)
theorem dX11_next_2_21 : decode cX11_next_2 21 = .ok (.iadd, 1) := dk_96 (dk_at dksX11_next_2_0 21 rfl rfl)
theorem dX11_next_2_22 : decode cX11_next_2 22 = .ok (.putfield 29, 3) := dk_181 0 29 (dk_at dksX11_next_2_1 0 rfl rfl)
theorem dX11_next_2_25 : decode cX11_next_2 25 = .ok (.aload_n 0, 1) := dk_42 (dk_at dksX11_next_2_1 3 rfl rfl)
theorem dX11_next_2_26 : decode cX11_next_2 26 = .ok (.getfield 1, 3) := dk_180 0 1 (dk_at dksX11_next_2_1 4 rfl rfl)
theorem dX11_next_2_29 : decode cX11_next_2 29 = .ok (.aload_n 0, 1) := dk_42 (dk_at dksX11_next_2_1 7 rfl rfl)
theorem dX11_next_2_30 : decode cX11_next_2 30 = .ok (.getfield 13, 3) := dk_180 0 13 (dk_at dksX11_next_2_1 8 rfl rfl)
theorem dX11_next_2_33 : decode cX11_next_2 33 = .ok (.aload_n 0, 1) := dk_42 (dk_at dksX11_next_2_1 11 rfl rfl)
theorem dX11_next_2_34 : decode cX11_next_2 34 = .ok (.getfield 29, 3) := dk_180 0 29 (dk_at dksX11_next_2_1 12 rfl rfl)
theorem dX11_next_2_37 : decode cX11_next_2 37 = .ok (.iconst 1, 1) := dk_4 (dk_at dksX11_next_2_1 15 rfl rfl)
theorem dX11_next_2_38 : decode cX11_next_2 38 = .ok (.isub, 1) := dk_100 (dk_at dksX11_next_2_1 16 rfl rfl)
theorem dX11_next_2_39 : decode cX11_next_2 39 = .ok (.invokevirtual 48, 3) := dk_182 0 48 (dk_at dksX11_next_2_1 17 rfl rfl)
theorem dX11_next_2_42 : decode cX11_next_2 42 = .ok (.areturn, 1) := dk_176 (dk_at dksX11_next_2_1 20 rfl rfl)
theorem q157 : (Jvm.Cond.initialized "SleeperRailway$Timetable$1") ∈ lw_all := lw_g (lw_at lw_m1 57 rfl) rfl
theorem q285 : (Jvm.Cond.fieldLinkNest "SleeperRailway$Timetable$1" (17 : Nat) "SleeperRailway$Timetable" "trains" "Ljava/util/List;" "SleeperRailway") ∈ lw_tbl := lw_at lw_m1 185 rfl
theorem q442 : (Jvm.Cond.instantiable "SleeperRailway$Timetable$1" (3 : Nat)) ∈ lw_all := lw_g (lw_at lw_m2 102 rfl) rfl
theorem q444 : (Jvm.Cond.instanceMethod ({ cls := "SleeperRailway$Timetable$1", name := "<init>", desc := "(LSleeperRailway$Timetable;)V" } : Jvm.MethodName)) ∈ lw_all := lw_g (lw_at lw_m2 104 rfl) rfl
theorem q445 : (Jvm.Cond.code ({ cls := "SleeperRailway$Timetable$1", name := "<init>", desc := "(LSleeperRailway$Timetable;)V" } : Jvm.MethodName) prog_17_method_1_code (2 : Nat) (Option.none : Option Jvm.ClassFile.FieldType)) ∈ lw_all := lw_g (lw_at lw_m2 105 rfl) rfl
theorem q446 : (Jvm.Cond.methodLink "SleeperRailway$Timetable$1" (7 : Nat) ({ cls := "java/lang/Object", name := "<init>", desc := "()V" } : Jvm.MethodName)) ∈ lw_all := lw_g (lw_at lw_m2 106 rfl) rfl
theorem q447 : (Jvm.Cond.fieldLink "SleeperRailway$Timetable$1" (13 : Nat) "SleeperRailway$Timetable$1" "train" "I") ∈ lw_all := lw_g (lw_at lw_m2 107 rfl) rfl
theorem q448 : (Jvm.Cond.fieldLink "SleeperRailway$Timetable$1" (29 : Nat) "SleeperRailway$Timetable$1" "number" "I") ∈ lw_all := lw_g (lw_at lw_m2 108 rfl) rfl
theorem q449 : (Jvm.Cond.fieldLink "SleeperRailway$Timetable$1" (1 : Nat) "SleeperRailway$Timetable$1" "this$0" "LSleeperRailway$Timetable;") ∈ lw_all := lw_g (lw_at lw_m2 109 rfl) rfl
theorem q450 : (Jvm.Cond.lays "SleeperRailway$Timetable$1" "SleeperRailway$Timetable$1" "train" "I") ∈ lw_all := lw_g (lw_at lw_m2 110 rfl) rfl
theorem q451 : (Jvm.Cond.soleField "SleeperRailway$Timetable$1" "train") ∈ lw_all := lw_g (lw_at lw_m2 111 rfl) rfl
theorem q452 : (Jvm.Cond.lays "SleeperRailway$Timetable$1" "SleeperRailway$Timetable$1" "number" "I") ∈ lw_all := lw_g (lw_at lw_m2 112 rfl) rfl
theorem q453 : (Jvm.Cond.soleField "SleeperRailway$Timetable$1" "number") ∈ lw_all := lw_g (lw_at lw_m2 113 rfl) rfl
theorem q454 : (Jvm.Cond.laysFinal "SleeperRailway$Timetable$1" "SleeperRailway$Timetable$1" "this$0" "LSleeperRailway$Timetable;") ∈ lw_all := lw_g (lw_at lw_m2 114 rfl) rfl
theorem q455 : (Jvm.Cond.soleField "SleeperRailway$Timetable$1" "this$0") ∈ lw_all := lw_g (lw_at lw_m2 115 rfl) rfl
theorem q456 : (Jvm.Cond.superclass "SleeperRailway$Timetable$1" "java/lang/Object") ∈ lw_all := lw_g (lw_at lw_m2 116 rfl) rfl
theorem q461 : (Jvm.Cond.castable "SleeperRailway$Timetable$1" "java/util/Iterator") ∈ lw_tbl := lw_at lw_m2 121 rfl
theorem q462 : (Jvm.Cond.selects "SleeperRailway$Timetable$1" ({ cls := "java/util/Iterator", name := "hasNext", desc := "()Z" } : Jvm.MethodName) ({ cls := "SleeperRailway$Timetable$1", name := "hasNext", desc := "()Z" } : Jvm.MethodName)) ∈ lw_all := lw_g (lw_at lw_m2 122 rfl) rfl
theorem q463 : (Jvm.Cond.unhidden "SleeperRailway$Timetable$1" "hasNext" "()Z") ∈ lw_tbl := lw_at lw_m2 123 rfl
theorem q464 : (Jvm.Cond.instanceMethod ({ cls := "SleeperRailway$Timetable$1", name := "hasNext", desc := "()Z" } : Jvm.MethodName)) ∈ lw_all := lw_g (lw_at lw_m2 124 rfl) rfl
theorem q465 : (Jvm.Cond.publicMethod ({ cls := "SleeperRailway$Timetable$1", name := "hasNext", desc := "()Z" } : Jvm.MethodName)) ∈ lw_tbl := lw_at lw_m2 125 rfl
theorem q466 : (Jvm.Cond.code ({ cls := "SleeperRailway$Timetable$1", name := "hasNext", desc := "()Z" } : Jvm.MethodName) prog_17_method_2_code (1 : Nat) (Option.some Jvm.ClassFile.FieldType.boolean)) ∈ lw_all := lw_g (lw_at lw_m2 126 rfl) rfl
theorem q467 : (Jvm.Cond.interfaceEntry "SleeperRailway$Timetable$1" (23 : Nat)) ∈ lw_tbl := lw_at lw_m2 127 rfl
theorem q468 : (Jvm.Cond.methodLink "SleeperRailway$Timetable$1" (23 : Nat) ({ cls := "java/util/List", name := "size", desc := "()I" } : Jvm.MethodName)) ∈ lw_all := lw_g (lw_at lw_m2 128 rfl) rfl
theorem q469 : (Jvm.Cond.interfaceEntry "SleeperRailway$Timetable$1" (32 : Nat)) ∈ lw_tbl := lw_at lw_m2 129 rfl
theorem q470 : (Jvm.Cond.methodLink "SleeperRailway$Timetable$1" (32 : Nat) ({ cls := "java/util/List", name := "get", desc := "(I)Ljava/lang/Object;" } : Jvm.MethodName)) ∈ lw_all := lw_g (lw_at lw_m2 130 rfl) rfl
theorem q815 : (Jvm.Cond.classLink "SleeperRailway$Timetable$1" (36 : Nat) "SleeperRailway$Train") ∈ lw_all := lw_g (lw_at lw_m3 235 rfl) rfl
theorem q816 : (Jvm.Cond.methodLink "SleeperRailway$Timetable$1" (38 : Nat) ({ cls := "SleeperRailway$Train", name := "legs", desc := "()I" } : Jvm.MethodName)) ∈ lw_all := lw_g (lw_at lw_m3 236 rfl) rfl
theorem q869 : (Jvm.Cond.selects "SleeperRailway$Timetable$1" ({ cls := "java/util/Iterator", name := "next", desc := "()Ljava/lang/Object;" } : Jvm.MethodName) ({ cls := "SleeperRailway$Timetable$1", name := "next", desc := "()Ljava/lang/Object;" } : Jvm.MethodName)) ∈ lw_all := lw_g (lw_at lw_m4 49 rfl) rfl
theorem q870 : (Jvm.Cond.unhidden "SleeperRailway$Timetable$1" "next" "()Ljava/lang/Object;") ∈ lw_tbl := lw_at lw_m4 50 rfl
theorem q871 : (Jvm.Cond.instanceMethod ({ cls := "SleeperRailway$Timetable$1", name := "next", desc := "()Ljava/lang/Object;" } : Jvm.MethodName)) ∈ lw_all := lw_g (lw_at lw_m4 51 rfl) rfl
theorem q872 : (Jvm.Cond.publicMethod ({ cls := "SleeperRailway$Timetable$1", name := "next", desc := "()Ljava/lang/Object;" } : Jvm.MethodName)) ∈ lw_tbl := lw_at lw_m4 52 rfl
theorem q873 : (Jvm.Cond.code ({ cls := "SleeperRailway$Timetable$1", name := "next", desc := "()Ljava/lang/Object;" } : Jvm.MethodName) prog_17_method_4_code (1 : Nat) (Option.some (Jvm.ClassFile.FieldType.object "java/lang/Object"))) ∈ lw_all := lw_g (lw_at lw_m4 53 rfl) rfl
theorem q874 : (Jvm.Cond.methodLink "SleeperRailway$Timetable$1" (52 : Nat) ({ cls := "SleeperRailway$Timetable$1", name := "next", desc := "()LSleeperRailway$Leg;" } : Jvm.MethodName)) ∈ lw_all := lw_g (lw_at lw_m4 54 rfl) rfl
theorem q875 : (Jvm.Cond.instanceMethod ({ cls := "SleeperRailway$Timetable$1", name := "next", desc := "()LSleeperRailway$Leg;" } : Jvm.MethodName)) ∈ lw_all := lw_g (lw_at lw_m4 55 rfl) rfl
theorem q876 : (Jvm.Cond.selects "SleeperRailway$Timetable$1" ({ cls := "SleeperRailway$Timetable$1", name := "next", desc := "()LSleeperRailway$Leg;" } : Jvm.MethodName) ({ cls := "SleeperRailway$Timetable$1", name := "next", desc := "()LSleeperRailway$Leg;" } : Jvm.MethodName)) ∈ lw_all := lw_g (lw_at lw_m4 56 rfl) rfl
theorem q877 : (Jvm.Cond.code ({ cls := "SleeperRailway$Timetable$1", name := "next", desc := "()LSleeperRailway$Leg;" } : Jvm.MethodName) prog_17_method_3_code (1 : Nat) (Option.some (Jvm.ClassFile.FieldType.object "SleeperRailway$Leg"))) ∈ lw_all := lw_g (lw_at lw_m4 57 rfl) rfl
theorem q878 : (Jvm.Cond.methodLink "SleeperRailway$Timetable$1" (41 : Nat) ({ cls := "SleeperRailway$Timetable$1", name := "hasNext", desc := "()Z" } : Jvm.MethodName)) ∈ lw_all := lw_g (lw_at lw_m4 58 rfl) rfl
theorem q879 : (Jvm.Cond.classLink "SleeperRailway$Timetable$1" (45 : Nat) "java/util/NoSuchElementException") ∈ lw_all := lw_g (lw_at lw_m4 59 rfl) rfl
theorem q888 : (Jvm.Cond.methodLink "SleeperRailway$Timetable$1" (47 : Nat) ({ cls := "java/util/NoSuchElementException", name := "<init>", desc := "()V" } : Jvm.MethodName)) ∈ lw_all := lw_g (lw_at lw_m4 68 rfl) rfl
theorem q900 : (Jvm.Cond.methodLink "SleeperRailway$Timetable$1" (48 : Nat) ({ cls := "SleeperRailway$Timetable", name := "leg", desc := "(II)LSleeperRailway$Leg;" } : Jvm.MethodName)) ∈ lw_all := lw_g (lw_at lw_m4 80 rfl) rfl
theorem q1004 : (Jvm.Cond.selects "SleeperRailway$Timetable$1" ({ cls := "java/lang/Object", name := "getClass", desc := "()Ljava/lang/Class;" } : Jvm.MethodName) ({ cls := "java/lang/Object", name := "getClass", desc := "()Ljava/lang/Class;" } : Jvm.MethodName)) ∈ lw_all := lw_g (lw_at lw_m4 184 rfl) rfl
theorem q3185 : (Jvm.Cond.selects "SleeperRailway$Timetable$1" ({ cls := "java/lang/Object", name := "equals", desc := "(Ljava/lang/Object;)Z" } : Jvm.MethodName) ({ cls := "java/lang/Object", name := "equals", desc := "(Ljava/lang/Object;)Z" } : Jvm.MethodName)) ∈ lw_all := lw_g (lw_at lw_m13 205 rfl) rfl
theorem q3493 : (Jvm.Cond.selects "SleeperRailway$Timetable$1" ({ cls := "java/lang/Object", name := "toString", desc := "()Ljava/lang/String;" } : Jvm.MethodName) ({ cls := "java/lang/Object", name := "toString", desc := "()Ljava/lang/String;" } : Jvm.MethodName)) ∈ lw_all := lw_g (lw_at lw_m15 33 rfl) rfl
theorem q4212 : (Jvm.Cond.selects "SleeperRailway$Timetable$1" ({ cls := "SleeperRailway$Timetable$1", name := "hasNext", desc := "()Z" } : Jvm.MethodName) ({ cls := "SleeperRailway$Timetable$1", name := "hasNext", desc := "()Z" } : Jvm.MethodName)) ∈ lw_all := lw_g (lw_at lw_m18 32 rfl) rfl
theorem q4265 : (Jvm.Cond.castable "SleeperRailway$Timetable$1" "java/lang/Object") ∈ lw_tbl := lw_at lw_m18 85 rfl
theorem in_X11 : ∀ w ∈ wsX110, w ∈ lw_all := lw_in wsX110 [450, 452, 454] (by decide +kernel) (by decide +kernel)
/-! SleeperRailway$Journeys -/
set_option maxRecDepth 100000
def RX12 : String := "SleeperRailway$Journeys"
def TX12 : u_T := fun k => match k with
  | 0 => ("SleeperRailway$Journeys", "timetable", "LSleeperRailway$Timetable;", true)
  | 1 => ("SleeperRailway$Journeys", "legs", "Ljava/util/List;", true)
  | 2 => ("SleeperRailway$Journeys", "transfers", "[I", true)
  | 3 => ("SleeperRailway$Journeys", "start", "I", true)
  | 4 => ("SleeperRailway$Journeys", "minute", "I", true)
  | 5 => ("SleeperRailway$Journeys", "earliest", "[I", true)
  | _ => ("SleeperRailway$Journeys", "isRidden", "[Z", true)
def tyX12 : Nat → FieldType := fun k => match k with
  | 0 => .object "SleeperRailway$Timetable"
  | 1 => .object "java/util/List"
  | 2 => .array .int
  | 3 => .int
  | 4 => .int
  | 5 => .array .int
  | _ => .array .boolean
abbrev wsX120 : List Cond := u_ws RX12 TX12 7
theorem nmX12 : ∀ a, a < 7 → ∀ b, b < 7 → a ≠ b → (TX12 a).2.1 ≠ (TX12 b).2.1 := by decide +kernel
theorem tyX12_ok : ∀ k, k < 7 → parseFieldDescriptor (TX12 k).2.2.1 = some (tyX12 k) := by decide +kernel
abbrev cX12_init : ByteArray := prog_10_method_1_code
def yX12_init : MethodName := ⟨RX12, "<init>", "(LSleeperRailway$Timetable;Ljava/util/List;[III)V"⟩
def dkwX12_init_3 : List UInt8 := [167, 0, 5, 18, 33, 79, 132, 6, 1, 167, 255, 222, 42, 16, 48, 188, 4, 181, 0, 34, 177]
abbrev dktX12_init_3 : List UInt8 := dkwX12_init_3 ++ []
def dkwX12_init_2 : List UInt8 := [180, 0, 30, 190, 162, 0, 30, 42, 180, 0, 30, 21, 6, 21, 6, 21, 4, 160, 0, 8, 21, 5]
abbrev dktX12_init_2 : List UInt8 := dkwX12_init_2 ++ dktX12_init_3
def dkwX12_init_1 : List UInt8 := [181, 0, 23, 42, 21, 5, 181, 0, 27, 42, 45, 190, 188, 10, 181, 0, 30, 3, 54, 6, 21, 6, 42]
abbrev dktX12_init_1 : List UInt8 := dkwX12_init_1 ++ dktX12_init_2
def dkwX12_init_0 : List UInt8 := [42, 183, 0, 3, 42, 43, 181, 0, 9, 42, 44, 181, 0, 15, 42, 45, 181, 0, 19, 42, 21, 4]
abbrev dktX12_init_0 : List UInt8 := dkwX12_init_0 ++ dktX12_init_1
theorem dksX12_init_0 : cX12_init.data.toList.drop 0 = dktX12_init_0 := by decide +kernel
theorem dksX12_init_1 : cX12_init.data.toList.drop 22 = dktX12_init_1 := dk_seg dksX12_init_0 22 rfl rfl
theorem dksX12_init_2 : cX12_init.data.toList.drop 45 = dktX12_init_2 := dk_seg dksX12_init_1 23 rfl rfl
theorem dksX12_init_3 : cX12_init.data.toList.drop 67 = dktX12_init_3 := dk_seg dksX12_init_2 22 rfl rfl
theorem dX12_init_0 : decode cX12_init 0 = .ok (.aload_n 0, 1) := dk_42 (dk_at dksX12_init_0 0 rfl rfl)
theorem dX12_init_1 : decode cX12_init 1 = .ok (.invokespecial 3, 3) := dk_183 0 3 (dk_at dksX12_init_0 1 rfl rfl)
theorem dX12_init_4 : decode cX12_init 4 = .ok (.aload_n 0, 1) := dk_42 (dk_at dksX12_init_0 4 rfl rfl)
theorem dX12_init_5 : decode cX12_init 5 = .ok (.aload_n 1, 1) := dk_43 (dk_at dksX12_init_0 5 rfl rfl)
theorem dX12_init_6 : decode cX12_init 6 = .ok (.putfield 9, 3) := dk_181 0 9 (dk_at dksX12_init_0 6 rfl rfl)
theorem dX12_init_9 : decode cX12_init 9 = .ok (.aload_n 0, 1) := dk_42 (dk_at dksX12_init_0 9 rfl rfl)
theorem dX12_init_10 : decode cX12_init 10 = .ok (.aload_n 2, 1) := dk_44 (dk_at dksX12_init_0 10 rfl rfl)
theorem dX12_init_11 : decode cX12_init 11 = .ok (.putfield 15, 3) := dk_181 0 15 (dk_at dksX12_init_0 11 rfl rfl)
theorem dX12_init_14 : decode cX12_init 14 = .ok (.aload_n 0, 1) := dk_42 (dk_at dksX12_init_0 14 rfl rfl)
theorem dX12_init_15 : decode cX12_init 15 = .ok (.aload_n 3, 1) := dk_45 (dk_at dksX12_init_0 15 rfl rfl)
theorem dX12_init_16 : decode cX12_init 16 = .ok (.putfield 19, 3) := dk_181 0 19 (dk_at dksX12_init_0 16 rfl rfl)
theorem dX12_init_19 : decode cX12_init 19 = .ok (.aload_n 0, 1) := dk_42 (dk_at dksX12_init_0 19 rfl rfl)
theorem dX12_init_20 : decode cX12_init 20 = .ok (.iload 4, 2) := dk_21 4 (dk_at dksX12_init_0 20 rfl rfl)
theorem dX12_init_22 : decode cX12_init 22 = .ok (.putfield 23, 3) := dk_181 0 23 (dk_at dksX12_init_1 0 rfl rfl)
theorem dX12_init_25 : decode cX12_init 25 = .ok (.aload_n 0, 1) := dk_42 (dk_at dksX12_init_1 3 rfl rfl)
theorem dX12_init_26 : decode cX12_init 26 = .ok (.iload 5, 2) := dk_21 5 (dk_at dksX12_init_1 4 rfl rfl)
theorem dX12_init_28 : decode cX12_init 28 = .ok (.putfield 27, 3) := dk_181 0 27 (dk_at dksX12_init_1 6 rfl rfl)
theorem dX12_init_31 : decode cX12_init 31 = .ok (.aload_n 0, 1) := dk_42 (dk_at dksX12_init_1 9 rfl rfl)
theorem dX12_init_32 : decode cX12_init 32 = .ok (.aload_n 3, 1) := dk_45 (dk_at dksX12_init_1 10 rfl rfl)
theorem dX12_init_33 : decode cX12_init 33 = .ok (.arraylength, 1) := dk_190 (dk_at dksX12_init_1 11 rfl rfl)
theorem dX12_init_34 : decode cX12_init 34 = .ok (.newarray .int, 2) := dk_188_10 (dk_at dksX12_init_1 12 rfl rfl)
theorem dX12_init_36 : decode cX12_init 36 = .ok (.putfield 30, 3) := dk_181 0 30 (dk_at dksX12_init_1 14 rfl rfl)
theorem dX12_init_39 : decode cX12_init 39 = .ok (.iconst 0, 1) := dk_3 (dk_at dksX12_init_1 17 rfl rfl)
theorem dX12_init_40 : decode cX12_init 40 = .ok (.istore 6, 2) := dk_54 6 (dk_at dksX12_init_1 18 rfl rfl)
theorem dX12_init_42 : decode cX12_init 42 = .ok (.iload 6, 2) := dk_21 6 (dk_at dksX12_init_1 20 rfl rfl)
theorem dX12_init_44 : decode cX12_init 44 = .ok (.aload_n 0, 1) := dk_42 (dk_at dksX12_init_1 22 rfl rfl)
theorem dX12_init_45 : decode cX12_init 45 = .ok (.getfield 30, 3) := dk_180 0 30 (dk_at dksX12_init_2 0 rfl rfl)
theorem dX12_init_48 : decode cX12_init 48 = .ok (.arraylength, 1) := dk_190 (dk_at dksX12_init_2 3 rfl rfl)
theorem dX12_init_49 : decode cX12_init 49 = .ok (.if_icmp .ge 30, 3) := dk_162 0 30 (dk_at dksX12_init_2 4 rfl rfl)
theorem dX12_init_52 : decode cX12_init 52 = .ok (.aload_n 0, 1) := dk_42 (dk_at dksX12_init_2 7 rfl rfl)
theorem dX12_init_53 : decode cX12_init 53 = .ok (.getfield 30, 3) := dk_180 0 30 (dk_at dksX12_init_2 8 rfl rfl)
theorem dX12_init_56 : decode cX12_init 56 = .ok (.iload 6, 2) := dk_21 6 (dk_at dksX12_init_2 11 rfl rfl)
theorem dX12_init_58 : decode cX12_init 58 = .ok (.iload 6, 2) := dk_21 6 (dk_at dksX12_init_2 13 rfl rfl)
theorem dX12_init_60 : decode cX12_init 60 = .ok (.iload 4, 2) := dk_21 4 (dk_at dksX12_init_2 15 rfl rfl)
theorem dX12_init_62 : decode cX12_init 62 = .ok (.if_icmp .ne 8, 3) := dk_160 0 8 (dk_at dksX12_init_2 17 rfl rfl)
theorem dX12_init_65 : decode cX12_init 65 = .ok (.iload 5, 2) := dk_21 5 (dk_at dksX12_init_2 20 rfl rfl)
theorem dX12_init_67 : decode cX12_init 67 = .ok (.goto 5, 3) := dk_167 0 5 (dk_at dksX12_init_3 0 rfl rfl)
theorem dX12_init_70 : decode cX12_init 70 = .ok (.ldc 33, 2) := dk_18 33 (dk_at dksX12_init_3 3 rfl rfl)
theorem dX12_init_72 : decode cX12_init 72 = .ok (.iastore, 1) := dk_79 (dk_at dksX12_init_3 5 rfl rfl)
theorem dX12_init_73 : decode cX12_init 73 = .ok (.iinc 6 1, 3) := dk_132 6 1 (dk_at dksX12_init_3 6 rfl rfl)
theorem dX12_init_76 : decode cX12_init 76 = .ok (.goto (-34), 3) := dk_167 255 222 (dk_at dksX12_init_3 9 rfl rfl)
theorem dX12_init_79 : decode cX12_init 79 = .ok (.aload_n 0, 1) := dk_42 (dk_at dksX12_init_3 12 rfl rfl)
theorem dX12_init_80 : decode cX12_init 80 = .ok (.bipush 48, 2) := dk_16 48 (dk_at dksX12_init_3 13 rfl rfl)
theorem dX12_init_82 : decode cX12_init 82 = .ok (.newarray .boolean, 2) := dk_188_4 (dk_at dksX12_init_3 15 rfl rfl)
theorem dX12_init_84 : decode cX12_init 84 = .ok (.putfield 34, 3) := dk_181 0 34 (dk_at dksX12_init_3 17 rfl rfl)
theorem dX12_init_87 : decode cX12_init 87 = .ok (.return_, 1) := dk_177 (dk_at dksX12_init_3 20 rfl rfl)
abbrev cX12_search : ByteArray := prog_10_method_6_code
def yX12_search : MethodName := ⟨RX12, "search", "()LSleeperRailway$Journeys;"⟩
def dkwX12_search_5 : List UInt8 := [182, 0, 105, 167, 255, 155, 42, 176]
abbrev dktX12_search_5 : List UInt8 := dkwX12_search_5 ++ []
def dkwX12_search_4 : List UInt8 := [162, 0, 25, 42, 180, 0, 30, 44, 182, 0, 96, 44, 182, 0, 99, 79, 42, 43, 44, 182, 0, 96]
abbrev dktX12_search_4 : List UInt8 := dkwX12_search_4 ++ dktX12_search_5
def dkwX12_search_3 : List UInt8 := [182, 0, 86, 4, 96, 182, 0, 131, 182, 0, 134, 44, 182, 0, 99, 42, 180, 0, 30, 44, 182, 0, 96, 46]
abbrev dktX12_search_3 : List UInt8 := dkwX12_search_3 ++ dktX12_search_4
def dkwX12_search_2 : List UInt8 := [182, 0, 86, 4, 96, 182, 0, 125, 153, 0, 25, 42, 43, 42, 180, 0, 9, 44, 182, 0, 83, 44]
abbrev dktX12_search_2 : List UInt8 := dkwX12_search_2 ++ dktX12_search_3
def dkwX12_search_1 : List UInt8 := [43, 182, 0, 112, 192, 0, 115, 180, 0, 117, 77, 42, 180, 0, 9, 44, 182, 0, 83, 182, 0, 121, 44]
abbrev dktX12_search_1 : List UInt8 := dkwX12_search_1 ++ dktX12_search_2
def dkwX12_search_0 : List UInt8 := [187, 0, 102, 89, 183, 0, 104, 76, 42, 43, 42, 180, 0, 23, 182, 0, 105, 43, 182, 0, 109, 154, 0, 100]
abbrev dktX12_search_0 : List UInt8 := dkwX12_search_0 ++ dktX12_search_1
theorem dksX12_search_0 : cX12_search.data.toList.drop 0 = dktX12_search_0 := by decide +kernel
theorem dksX12_search_1 : cX12_search.data.toList.drop 24 = dktX12_search_1 := dk_seg dksX12_search_0 24 rfl rfl
theorem dksX12_search_2 : cX12_search.data.toList.drop 47 = dktX12_search_2 := dk_seg dksX12_search_1 23 rfl rfl
theorem dksX12_search_3 : cX12_search.data.toList.drop 69 = dktX12_search_3 := dk_seg dksX12_search_2 22 rfl rfl
theorem dksX12_search_4 : cX12_search.data.toList.drop 93 = dktX12_search_4 := dk_seg dksX12_search_3 24 rfl rfl
theorem dksX12_search_5 : cX12_search.data.toList.drop 115 = dktX12_search_5 := dk_seg dksX12_search_4 22 rfl rfl
theorem dX12_search_0 : decode cX12_search 0 = .ok (.new 102, 3) := dk_187 0 102 (dk_at dksX12_search_0 0 rfl rfl)
theorem dX12_search_3 : decode cX12_search 3 = .ok (.dup, 1) := dk_89 (dk_at dksX12_search_0 3 rfl rfl)
theorem dX12_search_4 : decode cX12_search 4 = .ok (.invokespecial 104, 3) := dk_183 0 104 (dk_at dksX12_search_0 4 rfl rfl)
theorem dX12_search_7 : decode cX12_search 7 = .ok (.astore_n 1, 1) := dk_76 (dk_at dksX12_search_0 7 rfl rfl)
theorem dX12_search_8 : decode cX12_search 8 = .ok (.aload_n 0, 1) := dk_42 (dk_at dksX12_search_0 8 rfl rfl)
theorem dX12_search_9 : decode cX12_search 9 = .ok (.aload_n 1, 1) := dk_43 (dk_at dksX12_search_0 9 rfl rfl)
theorem dX12_search_10 : decode cX12_search 10 = .ok (.aload_n 0, 1) := dk_42 (dk_at dksX12_search_0 10 rfl rfl)
theorem dX12_search_11 : decode cX12_search 11 = .ok (.getfield 23, 3) := dk_180 0 23 (dk_at dksX12_search_0 11 rfl rfl)
theorem dX12_search_14 : decode cX12_search 14 = .ok (.invokevirtual 105, 3) := dk_182 0 105 (dk_at dksX12_search_0 14 rfl rfl)
theorem dX12_search_17 : decode cX12_search 17 = .ok (.aload_n 1, 1) := dk_43 (dk_at dksX12_search_0 17 rfl rfl)
theorem dX12_search_18 : decode cX12_search 18 = .ok (.invokevirtual 109, 3) := dk_182 0 109 (dk_at dksX12_search_0 18 rfl rfl)
theorem dX12_search_21 : decode cX12_search 21 = .ok (.ifCond .ne 100, 3) := dk_154 0 100 (dk_at dksX12_search_0 21 rfl rfl)
theorem dX12_search_24 : decode cX12_search 24 = .ok (.aload_n 1, 1) := dk_43 (dk_at dksX12_search_1 0 rfl rfl)
theorem dX12_search_25 : decode cX12_search 25 = .ok (.invokevirtual 112, 3) := dk_182 0 112 (dk_at dksX12_search_1 1 rfl rfl)
theorem dX12_search_28 : decode cX12_search 28 = .ok (.checkcast 115, 3) := dk_192 0 115 (dk_at dksX12_search_1 4 rfl rfl)
theorem dX12_search_31 : decode cX12_search 31 = .ok (.getfield 117, 3) := dk_180 0 117 (dk_at dksX12_search_1 7 rfl rfl)
theorem dX12_search_34 : decode cX12_search 34 = .ok (.astore_n 2, 1) := dk_77 (dk_at dksX12_search_1 10 rfl rfl)
theorem dX12_search_35 : decode cX12_search 35 = .ok (.aload_n 0, 1) := dk_42 (dk_at dksX12_search_1 11 rfl rfl)
theorem dX12_search_36 : decode cX12_search 36 = .ok (.getfield 9, 3) := dk_180 0 9 (dk_at dksX12_search_1 12 rfl rfl)
theorem dX12_search_39 : decode cX12_search 39 = .ok (.aload_n 2, 1) := dk_44 (dk_at dksX12_search_1 15 rfl rfl)
theorem dX12_search_40 : decode cX12_search 40 = .ok (.invokevirtual 83, 3) := dk_182 0 83 (dk_at dksX12_search_1 16 rfl rfl)
theorem dX12_search_43 : decode cX12_search 43 = .ok (.invokevirtual 121, 3) := dk_182 0 121 (dk_at dksX12_search_1 19 rfl rfl)
theorem dX12_search_46 : decode cX12_search 46 = .ok (.aload_n 2, 1) := dk_44 (dk_at dksX12_search_1 22 rfl rfl)
theorem dX12_search_47 : decode cX12_search 47 = .ok (.invokevirtual 86, 3) := dk_182 0 86 (dk_at dksX12_search_2 0 rfl rfl)
theorem dX12_search_50 : decode cX12_search 50 = .ok (.iconst 1, 1) := dk_4 (dk_at dksX12_search_2 3 rfl rfl)
theorem dX12_search_51 : decode cX12_search 51 = .ok (.iadd, 1) := dk_96 (dk_at dksX12_search_2 4 rfl rfl)
theorem dX12_search_52 : decode cX12_search 52 = .ok (.invokevirtual 125, 3) := dk_182 0 125 (dk_at dksX12_search_2 5 rfl rfl)
theorem dX12_search_55 : decode cX12_search 55 = .ok (.ifCond .eq 25, 3) := dk_153 0 25 (dk_at dksX12_search_2 8 rfl rfl)
theorem dX12_search_58 : decode cX12_search 58 = .ok (.aload_n 0, 1) := dk_42 (dk_at dksX12_search_2 11 rfl rfl)
theorem dX12_search_59 : decode cX12_search 59 = .ok (.aload_n 1, 1) := dk_43 (dk_at dksX12_search_2 12 rfl rfl)
theorem dX12_search_60 : decode cX12_search 60 = .ok (.aload_n 0, 1) := dk_42 (dk_at dksX12_search_2 13 rfl rfl)
theorem dX12_search_61 : decode cX12_search 61 = .ok (.getfield 9, 3) := dk_180 0 9 (dk_at dksX12_search_2 14 rfl rfl)
theorem dX12_search_64 : decode cX12_search 64 = .ok (.aload_n 2, 1) := dk_44 (dk_at dksX12_search_2 17 rfl rfl)
theorem dX12_search_65 : decode cX12_search 65 = .ok (.invokevirtual 83, 3) := dk_182 0 83 (dk_at dksX12_search_2 18 rfl rfl)
theorem dX12_search_68 : decode cX12_search 68 = .ok (.aload_n 2, 1) := dk_44 (dk_at dksX12_search_2 21 rfl rfl)
theorem dX12_search_69 : decode cX12_search 69 = .ok (.invokevirtual 86, 3) := dk_182 0 86 (dk_at dksX12_search_3 0 rfl rfl)
theorem dX12_search_72 : decode cX12_search 72 = .ok (.iconst 1, 1) := dk_4 (dk_at dksX12_search_3 3 rfl rfl)
theorem dX12_search_73 : decode cX12_search 73 = .ok (.iadd, 1) := dk_96 (dk_at dksX12_search_3 4 rfl rfl)
theorem dX12_search_74 : decode cX12_search 74 = .ok (.invokevirtual 131, 3) := dk_182 0 131 (dk_at dksX12_search_3 5 rfl rfl)
theorem dX12_search_77 : decode cX12_search 77 = .ok (.invokevirtual 134, 3) := dk_182 0 134 (dk_at dksX12_search_3 8 rfl rfl)
theorem dX12_search_80 : decode cX12_search 80 = .ok (.aload_n 2, 1) := dk_44 (dk_at dksX12_search_3 11 rfl rfl)
theorem dX12_search_81 : decode cX12_search 81 = .ok (.invokevirtual 99, 3) := dk_182 0 99 (dk_at dksX12_search_3 12 rfl rfl)
theorem dX12_search_84 : decode cX12_search 84 = .ok (.aload_n 0, 1) := dk_42 (dk_at dksX12_search_3 15 rfl rfl)
theorem dX12_search_85 : decode cX12_search 85 = .ok (.getfield 30, 3) := dk_180 0 30 (dk_at dksX12_search_3 16 rfl rfl)
theorem dX12_search_88 : decode cX12_search 88 = .ok (.aload_n 2, 1) := dk_44 (dk_at dksX12_search_3 19 rfl rfl)
theorem dX12_search_89 : decode cX12_search 89 = .ok (.invokevirtual 96, 3) := dk_182 0 96 (dk_at dksX12_search_3 20 rfl rfl)
theorem dX12_search_92 : decode cX12_search 92 = .ok (.iaload, 1) := dk_46 (dk_at dksX12_search_3 23 rfl rfl)
theorem dX12_search_93 : decode cX12_search 93 = .ok (.if_icmp .ge 25, 3) := dk_162 0 25 (dk_at dksX12_search_4 0 rfl rfl)
theorem dX12_search_96 : decode cX12_search 96 = .ok (.aload_n 0, 1) := dk_42 (dk_at dksX12_search_4 3 rfl rfl)
theorem dX12_search_97 : decode cX12_search 97 = .ok (.getfield 30, 3) := dk_180 0 30 (dk_at dksX12_search_4 4 rfl rfl)
theorem dX12_search_100 : decode cX12_search 100 = .ok (.aload_n 2, 1) := dk_44 (dk_at dksX12_search_4 7 rfl rfl)
theorem dX12_search_101 : decode cX12_search 101 = .ok (.invokevirtual 96, 3) := dk_182 0 96 (dk_at dksX12_search_4 8 rfl rfl)
theorem dX12_search_104 : decode cX12_search 104 = .ok (.aload_n 2, 1) := dk_44 (dk_at dksX12_search_4 11 rfl rfl)
theorem dX12_search_105 : decode cX12_search 105 = .ok (.invokevirtual 99, 3) := dk_182 0 99 (dk_at dksX12_search_4 12 rfl rfl)
theorem dX12_search_108 : decode cX12_search 108 = .ok (.iastore, 1) := dk_79 (dk_at dksX12_search_4 15 rfl rfl)
theorem dX12_search_109 : decode cX12_search 109 = .ok (.aload_n 0, 1) := dk_42 (dk_at dksX12_search_4 16 rfl rfl)
theorem dX12_search_110 : decode cX12_search 110 = .ok (.aload_n 1, 1) := dk_43 (dk_at dksX12_search_4 17 rfl rfl)
theorem dX12_search_111 : decode cX12_search 111 = .ok (.aload_n 2, 1) := dk_44 (dk_at dksX12_search_4 18 rfl rfl)
theorem dX12_search_112 : decode cX12_search 112 = .ok (.invokevirtual 96, 3) := dk_182 0 96 (dk_at dksX12_search_4 19 rfl rfl)
theorem dX12_search_115 : decode cX12_search 115 = .ok (.invokevirtual 105, 3) := dk_182 0 105 (dk_at dksX12_search_5 0 rfl rfl)
theorem dX12_search_118 : decode cX12_search 118 = .ok (.goto (-101), 3) := dk_167 255 155 (dk_at dksX12_search_5 3 rfl rfl)
theorem dX12_search_121 : decode cX12_search 121 = .ok (.aload_n 0, 1) := dk_42 (dk_at dksX12_search_5 6 rfl rfl)
theorem dX12_search_122 : decode cX12_search 122 = .ok (.areturn, 1) := dk_176 (dk_at dksX12_search_5 7 rfl rfl)
abbrev cX12_offerAll : ByteArray := prog_10_method_7_code
def yX12_offerAll : MethodName := ⟨RX12, "offerAll", "(Ljava/util/PriorityQueue;I)V"⟩
def dkwX12_offerAll_2 : List UInt8 := [182, 0, 79, 153, 0, 10, 42, 43, 25, 4, 182, 0, 134, 167, 255, 211, 177]
abbrev dktX12_offerAll_2 : List UInt8 := dkwX12_offerAll_2 ++ []
def dkwX12_offerAll_1 : List UInt8 := [185, 0, 75, 1, 0, 192, 0, 45, 58, 4, 25, 4, 182, 0, 50, 28, 160, 0, 19, 42, 25, 4]
abbrev dktX12_offerAll_1 : List UInt8 := dkwX12_offerAll_1 ++ dktX12_offerAll_2
def dkwX12_offerAll_0 : List UInt8 := [42, 180, 0, 15, 185, 0, 63, 1, 0, 78, 45, 185, 0, 69, 1, 0, 153, 0, 42, 45]
abbrev dktX12_offerAll_0 : List UInt8 := dkwX12_offerAll_0 ++ dktX12_offerAll_1
theorem dksX12_offerAll_0 : cX12_offerAll.data.toList.drop 0 = dktX12_offerAll_0 := by decide +kernel
theorem dksX12_offerAll_1 : cX12_offerAll.data.toList.drop 20 = dktX12_offerAll_1 := dk_seg dksX12_offerAll_0 20 rfl rfl
theorem dksX12_offerAll_2 : cX12_offerAll.data.toList.drop 42 = dktX12_offerAll_2 := dk_seg dksX12_offerAll_1 22 rfl rfl
theorem dX12_offerAll_0 : decode cX12_offerAll 0 = .ok (.aload_n 0, 1) := dk_42 (dk_at dksX12_offerAll_0 0 rfl rfl)
theorem dX12_offerAll_1 : decode cX12_offerAll 1 = .ok (.getfield 15, 3) := dk_180 0 15 (dk_at dksX12_offerAll_0 1 rfl rfl)
theorem dX12_offerAll_4 : decode cX12_offerAll 4 = .ok (.invokeinterface 63 1, 5) := by decide +kernel
theorem dX12_offerAll_9 : decode cX12_offerAll 9 = .ok (.astore_n 3, 1) := dk_78 (dk_at dksX12_offerAll_0 9 rfl rfl)
theorem dX12_offerAll_10 : decode cX12_offerAll 10 = .ok (.aload_n 3, 1) := dk_45 (dk_at dksX12_offerAll_0 10 rfl rfl)
theorem dX12_offerAll_11 : decode cX12_offerAll 11 = .ok (.invokeinterface 69 1, 5) := by decide +kernel
theorem dX12_offerAll_16 : decode cX12_offerAll 16 = .ok (.ifCond .eq 42, 3) := dk_153 0 42 (dk_at dksX12_offerAll_0 16 rfl rfl)
theorem dX12_offerAll_19 : decode cX12_offerAll 19 = .ok (.aload_n 3, 1) := dk_45 (dk_at dksX12_offerAll_0 19 rfl rfl)
theorem dX12_offerAll_20 : decode cX12_offerAll 20 = .ok (.invokeinterface 75 1, 5) := by decide +kernel
theorem dX12_offerAll_25 : decode cX12_offerAll 25 = .ok (.checkcast 45, 3) := dk_192 0 45 (dk_at dksX12_offerAll_1 5 rfl rfl)
theorem dX12_offerAll_28 : decode cX12_offerAll 28 = .ok (.astore 4, 2) := dk_58 4 (dk_at dksX12_offerAll_1 8 rfl rfl)
theorem dX12_offerAll_30 : decode cX12_offerAll 30 = .ok (.aload 4, 2) := dk_25 4 (dk_at dksX12_offerAll_1 10 rfl rfl)
theorem dX12_offerAll_32 : decode cX12_offerAll 32 = .ok (.invokevirtual 50, 3) := dk_182 0 50 (dk_at dksX12_offerAll_1 12 rfl rfl)
theorem dX12_offerAll_35 : decode cX12_offerAll 35 = .ok (.iload_n 2, 1) := dk_28 (dk_at dksX12_offerAll_1 15 rfl rfl)
theorem dX12_offerAll_36 : decode cX12_offerAll 36 = .ok (.if_icmp .ne 19, 3) := dk_160 0 19 (dk_at dksX12_offerAll_1 16 rfl rfl)
theorem dX12_offerAll_39 : decode cX12_offerAll 39 = .ok (.aload_n 0, 1) := dk_42 (dk_at dksX12_offerAll_1 19 rfl rfl)
theorem dX12_offerAll_40 : decode cX12_offerAll 40 = .ok (.aload 4, 2) := dk_25 4 (dk_at dksX12_offerAll_1 20 rfl rfl)
theorem dX12_offerAll_42 : decode cX12_offerAll 42 = .ok (.invokevirtual 79, 3) := dk_182 0 79 (dk_at dksX12_offerAll_2 0 rfl rfl)
theorem dX12_offerAll_45 : decode cX12_offerAll 45 = .ok (.ifCond .eq 10, 3) := dk_153 0 10 (dk_at dksX12_offerAll_2 3 rfl rfl)
theorem dX12_offerAll_48 : decode cX12_offerAll 48 = .ok (.aload_n 0, 1) := dk_42 (dk_at dksX12_offerAll_2 6 rfl rfl)
theorem dX12_offerAll_49 : decode cX12_offerAll 49 = .ok (.aload_n 1, 1) := dk_43 (dk_at dksX12_offerAll_2 7 rfl rfl)
theorem dX12_offerAll_50 : decode cX12_offerAll 50 = .ok (.aload 4, 2) := dk_25 4 (dk_at dksX12_offerAll_2 8 rfl rfl)
theorem dX12_offerAll_52 : decode cX12_offerAll 52 = .ok (.invokevirtual 134, 3) := dk_182 0 134 (dk_at dksX12_offerAll_2 10 rfl rfl)
theorem dX12_offerAll_55 : decode cX12_offerAll 55 = .ok (.goto (-45), 3) := dk_167 255 211 (dk_at dksX12_offerAll_2 13 rfl rfl)
theorem dX12_offerAll_58 : decode cX12_offerAll 58 = .ok (.return_, 1) := dk_177 (dk_at dksX12_offerAll_2 16 rfl rfl)
abbrev cX12_canBoard : ByteArray := prog_10_method_3_code
def yX12_canBoard : MethodName := ⟨RX12, "canBoard", "(LSleeperRailway$Leg;)Z"⟩
def dkwX12_canBoard_0 : List UInt8 := [43, 182, 0, 44, 42, 43, 182, 0, 50, 182, 0, 53, 161, 0, 7, 4, 167, 0, 4, 3, 172]
abbrev dktX12_canBoard_0 : List UInt8 := dkwX12_canBoard_0 ++ []
theorem dksX12_canBoard_0 : cX12_canBoard.data.toList.drop 0 = dktX12_canBoard_0 := by decide +kernel
theorem dX12_canBoard_0 : decode cX12_canBoard 0 = .ok (.aload_n 1, 1) := dk_43 (dk_at dksX12_canBoard_0 0 rfl rfl)
theorem dX12_canBoard_1 : decode cX12_canBoard 1 = .ok (.invokevirtual 44, 3) := dk_182 0 44 (dk_at dksX12_canBoard_0 1 rfl rfl)
theorem dX12_canBoard_4 : decode cX12_canBoard 4 = .ok (.aload_n 0, 1) := dk_42 (dk_at dksX12_canBoard_0 4 rfl rfl)
theorem dX12_canBoard_5 : decode cX12_canBoard 5 = .ok (.aload_n 1, 1) := dk_43 (dk_at dksX12_canBoard_0 5 rfl rfl)
theorem dX12_canBoard_6 : decode cX12_canBoard 6 = .ok (.invokevirtual 50, 3) := dk_182 0 50 (dk_at dksX12_canBoard_0 6 rfl rfl)
theorem dX12_canBoard_9 : decode cX12_canBoard 9 = .ok (.invokevirtual 53, 3) := dk_182 0 53 (dk_at dksX12_canBoard_0 9 rfl rfl)
theorem dX12_canBoard_12 : decode cX12_canBoard 12 = .ok (.if_icmp .lt 7, 3) := dk_161 0 7 (dk_at dksX12_canBoard_0 12 rfl rfl)
theorem dX12_canBoard_15 : decode cX12_canBoard 15 = .ok (.iconst 1, 1) := dk_4 (dk_at dksX12_canBoard_0 15 rfl rfl)
theorem dX12_canBoard_16 : decode cX12_canBoard 16 = .ok (.goto 4, 3) := dk_167 0 4 (dk_at dksX12_canBoard_0 16 rfl rfl)
theorem dX12_canBoard_19 : decode cX12_canBoard 19 = .ok (.iconst 0, 1) := dk_3 (dk_at dksX12_canBoard_0 19 rfl rfl)
theorem dX12_canBoard_20 : decode cX12_canBoard 20 = .ok (.ireturn, 1) := dk_172 (dk_at dksX12_canBoard_0 20 rfl rfl)
abbrev cX12_boarding : ByteArray := prog_10_method_2_code
def yX12_boarding : MethodName := ⟨RX12, "boarding", "(I)I"⟩
def dkwX12_boarding_1 : List UInt8 := [180, 0, 19, 27, 46, 96, 184, 0, 38, 172]
abbrev dktX12_boarding_1 : List UInt8 := dkwX12_boarding_1 ++ []
def dkwX12_boarding_0 : List UInt8 := [27, 42, 180, 0, 23, 160, 0, 10, 42, 180, 0, 27, 167, 0, 21, 18, 33, 42, 180, 0, 30, 27, 46, 42]
abbrev dktX12_boarding_0 : List UInt8 := dkwX12_boarding_0 ++ dktX12_boarding_1
theorem dksX12_boarding_0 : cX12_boarding.data.toList.drop 0 = dktX12_boarding_0 := by decide +kernel
theorem dksX12_boarding_1 : cX12_boarding.data.toList.drop 24 = dktX12_boarding_1 := dk_seg dksX12_boarding_0 24 rfl rfl
theorem dX12_boarding_0 : decode cX12_boarding 0 = .ok (.iload_n 1, 1) := dk_27 (dk_at dksX12_boarding_0 0 rfl rfl)
theorem dX12_boarding_1 : decode cX12_boarding 1 = .ok (.aload_n 0, 1) := dk_42 (dk_at dksX12_boarding_0 1 rfl rfl)
theorem dX12_boarding_2 : decode cX12_boarding 2 = .ok (.getfield 23, 3) := dk_180 0 23 (dk_at dksX12_boarding_0 2 rfl rfl)
theorem dX12_boarding_5 : decode cX12_boarding 5 = .ok (.if_icmp .ne 10, 3) := dk_160 0 10 (dk_at dksX12_boarding_0 5 rfl rfl)
theorem dX12_boarding_8 : decode cX12_boarding 8 = .ok (.aload_n 0, 1) := dk_42 (dk_at dksX12_boarding_0 8 rfl rfl)
theorem dX12_boarding_9 : decode cX12_boarding 9 = .ok (.getfield 27, 3) := dk_180 0 27 (dk_at dksX12_boarding_0 9 rfl rfl)
theorem dX12_boarding_12 : decode cX12_boarding 12 = .ok (.goto 21, 3) := dk_167 0 21 (dk_at dksX12_boarding_0 12 rfl rfl)
theorem dX12_boarding_15 : decode cX12_boarding 15 = .ok (.ldc 33, 2) := dk_18 33 (dk_at dksX12_boarding_0 15 rfl rfl)
theorem dX12_boarding_17 : decode cX12_boarding 17 = .ok (.aload_n 0, 1) := dk_42 (dk_at dksX12_boarding_0 17 rfl rfl)
theorem dX12_boarding_18 : decode cX12_boarding 18 = .ok (.getfield 30, 3) := dk_180 0 30 (dk_at dksX12_boarding_0 18 rfl rfl)
theorem dX12_boarding_21 : decode cX12_boarding 21 = .ok (.iload_n 1, 1) := dk_27 (dk_at dksX12_boarding_0 21 rfl rfl)
theorem dX12_boarding_22 : decode cX12_boarding 22 = .ok (.iaload, 1) := dk_46 (dk_at dksX12_boarding_0 22 rfl rfl)
theorem dX12_boarding_23 : decode cX12_boarding 23 = .ok (.aload_n 0, 1) := dk_42 (dk_at dksX12_boarding_0 23 rfl rfl)
theorem dX12_boarding_24 : decode cX12_boarding 24 = .ok (.getfield 19, 3) := dk_180 0 19 (dk_at dksX12_boarding_1 0 rfl rfl)
theorem dX12_boarding_27 : decode cX12_boarding 27 = .ok (.iload_n 1, 1) := dk_27 (dk_at dksX12_boarding_1 3 rfl rfl)
theorem dX12_boarding_28 : decode cX12_boarding 28 = .ok (.iaload, 1) := dk_46 (dk_at dksX12_boarding_1 4 rfl rfl)
theorem dX12_boarding_29 : decode cX12_boarding 29 = .ok (.iadd, 1) := dk_96 (dk_at dksX12_boarding_1 5 rfl rfl)
theorem dX12_boarding_30 : decode cX12_boarding 30 = .ok (.invokestatic 38, 3) := dk_184 0 38 (dk_at dksX12_boarding_1 6 rfl rfl)
theorem dX12_boarding_33 : decode cX12_boarding 33 = .ok (.ireturn, 1) := dk_172 (dk_at dksX12_boarding_1 9 rfl rfl)
abbrev cX12_offer : ByteArray := prog_10_method_8_code
def yX12_offer : MethodName := ⟨RX12, "offer", "(Ljava/util/PriorityQueue;LSleeperRailway$Leg;)V"⟩
def dkwX12_offer_2 : List UInt8 := [180, 0, 34, 44, 182, 0, 93, 4, 84, 43, 187, 0, 115, 89, 44, 183, 0, 141, 182, 0, 144, 87, 177]
abbrev dktX12_offer_2 : List UInt8 := dkwX12_offer_2 ++ []
def dkwX12_offer_1 : List UInt8 := [167, 0, 4, 3, 62, 29, 153, 0, 38, 42, 180, 0, 34, 44, 182, 0, 93, 51, 154, 0, 26, 42]
abbrev dktX12_offer_1 : List UInt8 := dkwX12_offer_1 ++ dktX12_offer_2
def dkwX12_offer_0 : List UInt8 := [42, 180, 0, 9, 44, 182, 0, 83, 182, 0, 121, 44, 182, 0, 86, 182, 0, 138, 154, 0, 7, 4]
abbrev dktX12_offer_0 : List UInt8 := dkwX12_offer_0 ++ dktX12_offer_1
theorem dksX12_offer_0 : cX12_offer.data.toList.drop 0 = dktX12_offer_0 := by decide +kernel
theorem dksX12_offer_1 : cX12_offer.data.toList.drop 22 = dktX12_offer_1 := dk_seg dksX12_offer_0 22 rfl rfl
theorem dksX12_offer_2 : cX12_offer.data.toList.drop 44 = dktX12_offer_2 := dk_seg dksX12_offer_1 22 rfl rfl
theorem dX12_offer_0 : decode cX12_offer 0 = .ok (.aload_n 0, 1) := dk_42 (dk_at dksX12_offer_0 0 rfl rfl)
theorem dX12_offer_1 : decode cX12_offer 1 = .ok (.getfield 9, 3) := dk_180 0 9 (dk_at dksX12_offer_0 1 rfl rfl)
theorem dX12_offer_4 : decode cX12_offer 4 = .ok (.aload_n 2, 1) := dk_44 (dk_at dksX12_offer_0 4 rfl rfl)
theorem dX12_offer_5 : decode cX12_offer 5 = .ok (.invokevirtual 83, 3) := dk_182 0 83 (dk_at dksX12_offer_0 5 rfl rfl)
theorem dX12_offer_8 : decode cX12_offer 8 = .ok (.invokevirtual 121, 3) := dk_182 0 121 (dk_at dksX12_offer_0 8 rfl rfl)
theorem dX12_offer_11 : decode cX12_offer 11 = .ok (.aload_n 2, 1) := dk_44 (dk_at dksX12_offer_0 11 rfl rfl)
theorem dX12_offer_12 : decode cX12_offer 12 = .ok (.invokevirtual 86, 3) := dk_182 0 86 (dk_at dksX12_offer_0 12 rfl rfl)
theorem dX12_offer_15 : decode cX12_offer 15 = .ok (.invokevirtual 138, 3) := dk_182 0 138 (dk_at dksX12_offer_0 15 rfl rfl)
theorem dX12_offer_18 : decode cX12_offer 18 = .ok (.ifCond .ne 7, 3) := dk_154 0 7 (dk_at dksX12_offer_0 18 rfl rfl)
theorem dX12_offer_21 : decode cX12_offer 21 = .ok (.iconst 1, 1) := dk_4 (dk_at dksX12_offer_0 21 rfl rfl)
theorem dX12_offer_22 : decode cX12_offer 22 = .ok (.goto 4, 3) := dk_167 0 4 (dk_at dksX12_offer_1 0 rfl rfl)
theorem dX12_offer_25 : decode cX12_offer 25 = .ok (.iconst 0, 1) := dk_3 (dk_at dksX12_offer_1 3 rfl rfl)
theorem dX12_offer_26 : decode cX12_offer 26 = .ok (.istore_n 3, 1) := dk_62 (dk_at dksX12_offer_1 4 rfl rfl)
theorem dX12_offer_27 : decode cX12_offer 27 = .ok (.iload_n 3, 1) := dk_29 (dk_at dksX12_offer_1 5 rfl rfl)
theorem dX12_offer_28 : decode cX12_offer 28 = .ok (.ifCond .eq 38, 3) := dk_153 0 38 (dk_at dksX12_offer_1 6 rfl rfl)
theorem dX12_offer_31 : decode cX12_offer 31 = .ok (.aload_n 0, 1) := dk_42 (dk_at dksX12_offer_1 9 rfl rfl)
theorem dX12_offer_32 : decode cX12_offer 32 = .ok (.getfield 34, 3) := dk_180 0 34 (dk_at dksX12_offer_1 10 rfl rfl)
theorem dX12_offer_35 : decode cX12_offer 35 = .ok (.aload_n 2, 1) := dk_44 (dk_at dksX12_offer_1 13 rfl rfl)
theorem dX12_offer_36 : decode cX12_offer 36 = .ok (.invokevirtual 93, 3) := dk_182 0 93 (dk_at dksX12_offer_1 14 rfl rfl)
theorem dX12_offer_39 : decode cX12_offer 39 = .ok (.baload, 1) := dk_51 (dk_at dksX12_offer_1 17 rfl rfl)
theorem dX12_offer_40 : decode cX12_offer 40 = .ok (.ifCond .ne 26, 3) := dk_154 0 26 (dk_at dksX12_offer_1 18 rfl rfl)
theorem dX12_offer_43 : decode cX12_offer 43 = .ok (.aload_n 0, 1) := dk_42 (dk_at dksX12_offer_1 21 rfl rfl)
theorem dX12_offer_44 : decode cX12_offer 44 = .ok (.getfield 34, 3) := dk_180 0 34 (dk_at dksX12_offer_2 0 rfl rfl)
theorem dX12_offer_47 : decode cX12_offer 47 = .ok (.aload_n 2, 1) := dk_44 (dk_at dksX12_offer_2 3 rfl rfl)
theorem dX12_offer_48 : decode cX12_offer 48 = .ok (.invokevirtual 93, 3) := dk_182 0 93 (dk_at dksX12_offer_2 4 rfl rfl)
theorem dX12_offer_51 : decode cX12_offer 51 = .ok (.iconst 1, 1) := dk_4 (dk_at dksX12_offer_2 7 rfl rfl)
theorem dX12_offer_52 : decode cX12_offer 52 = .ok (.bastore, 1) := dk_84 (dk_at dksX12_offer_2 8 rfl rfl)
theorem dX12_offer_53 : decode cX12_offer 53 = .ok (.aload_n 1, 1) := dk_43 (dk_at dksX12_offer_2 9 rfl rfl)
theorem dX12_offer_54 : decode cX12_offer 54 = .ok (.new 115, 3) := dk_187 0 115 (dk_at dksX12_offer_2 10 rfl rfl)
theorem dX12_offer_57 : decode cX12_offer 57 = .ok (.dup, 1) := dk_89 (dk_at dksX12_offer_2 13 rfl rfl)
theorem dX12_offer_58 : decode cX12_offer 58 = .ok (.aload_n 2, 1) := dk_44 (dk_at dksX12_offer_2 14 rfl rfl)
theorem dX12_offer_59 : decode cX12_offer 59 = .ok (.invokespecial 141, 3) := dk_183 0 141 (dk_at dksX12_offer_2 15 rfl rfl)
theorem dX12_offer_62 : decode cX12_offer 62 = .ok (.invokevirtual 144, 3) := dk_182 0 144 (dk_at dksX12_offer_2 18 rfl rfl)
theorem dX12_offer_65 : decode cX12_offer 65 = .ok (.pop, 1) := dk_87 (dk_at dksX12_offer_2 21 rfl rfl)
theorem dX12_offer_66 : decode cX12_offer 66 = .ok (.return_, 1) := dk_177 (dk_at dksX12_offer_2 22 rfl rfl)
abbrev cX12_scan : ByteArray := prog_10_method_5_code
def yX12_scan : MethodName := ⟨RX12, "scan", "()LSleeperRailway$Journeys;"⟩
def dkwX12_scan_4 : List UInt8 := [184, 0, 38, 79, 167, 255, 177, 42, 176]
abbrev dktX12_scan_4 : List UInt8 := dkwX12_scan_4 ++ []
def dkwX12_scan_3 : List UInt8 := [84, 42, 180, 0, 30, 44, 182, 0, 96, 42, 180, 0, 30, 44, 182, 0, 96, 46, 44, 182, 0, 99]
abbrev dktX12_scan_3 : List UInt8 := dkwX12_scan_3 ++ dktX12_scan_4
def dkwX12_scan_2 : List UInt8 := [182, 0, 83, 44, 182, 0, 86, 4, 100, 182, 0, 89, 153, 0, 38, 42, 180, 0, 34, 44, 182, 0, 93, 4]
abbrev dktX12_scan_2 : List UInt8 := dkwX12_scan_2 ++ dktX12_scan_3
def dkwX12_scan_1 : List UInt8 := [153, 0, 76, 43, 185, 0, 75, 1, 0, 192, 0, 45, 77, 42, 44, 182, 0, 79, 154, 0, 20, 42, 44]
abbrev dktX12_scan_1 : List UInt8 := dkwX12_scan_1 ++ dktX12_scan_2
def dkwX12_scan_0 : List UInt8 := [42, 180, 0, 9, 42, 180, 0, 15, 182, 0, 57, 185, 0, 63, 1, 0, 76, 43, 185, 0, 69, 1, 0]
abbrev dktX12_scan_0 : List UInt8 := dkwX12_scan_0 ++ dktX12_scan_1
theorem dksX12_scan_0 : cX12_scan.data.toList.drop 0 = dktX12_scan_0 := by decide +kernel
theorem dksX12_scan_1 : cX12_scan.data.toList.drop 23 = dktX12_scan_1 := dk_seg dksX12_scan_0 23 rfl rfl
theorem dksX12_scan_2 : cX12_scan.data.toList.drop 46 = dktX12_scan_2 := dk_seg dksX12_scan_1 23 rfl rfl
theorem dksX12_scan_3 : cX12_scan.data.toList.drop 70 = dktX12_scan_3 := dk_seg dksX12_scan_2 24 rfl rfl
theorem dksX12_scan_4 : cX12_scan.data.toList.drop 92 = dktX12_scan_4 := dk_seg dksX12_scan_3 22 rfl rfl
theorem dX12_scan_0 : decode cX12_scan 0 = .ok (.aload_n 0, 1) := dk_42 (dk_at dksX12_scan_0 0 rfl rfl)
theorem dX12_scan_1 : decode cX12_scan 1 = .ok (.getfield 9, 3) := dk_180 0 9 (dk_at dksX12_scan_0 1 rfl rfl)
theorem dX12_scan_4 : decode cX12_scan 4 = .ok (.aload_n 0, 1) := dk_42 (dk_at dksX12_scan_0 4 rfl rfl)
theorem dX12_scan_5 : decode cX12_scan 5 = .ok (.getfield 15, 3) := dk_180 0 15 (dk_at dksX12_scan_0 5 rfl rfl)
theorem dX12_scan_8 : decode cX12_scan 8 = .ok (.invokevirtual 57, 3) := dk_182 0 57 (dk_at dksX12_scan_0 8 rfl rfl)
theorem dX12_scan_11 : decode cX12_scan 11 = .ok (.invokeinterface 63 1, 5) := by decide +kernel
theorem dX12_scan_16 : decode cX12_scan 16 = .ok (.astore_n 1, 1) := dk_76 (dk_at dksX12_scan_0 16 rfl rfl)
theorem dX12_scan_17 : decode cX12_scan 17 = .ok (.aload_n 1, 1) := dk_43 (dk_at dksX12_scan_0 17 rfl rfl)
theorem dX12_scan_18 : decode cX12_scan 18 = .ok (.invokeinterface 69 1, 5) := by decide +kernel
theorem dX12_scan_23 : decode cX12_scan 23 = .ok (.ifCond .eq 76, 3) := dk_153 0 76 (dk_at dksX12_scan_1 0 rfl rfl)
theorem dX12_scan_26 : decode cX12_scan 26 = .ok (.aload_n 1, 1) := dk_43 (dk_at dksX12_scan_1 3 rfl rfl)
theorem dX12_scan_27 : decode cX12_scan 27 = .ok (.invokeinterface 75 1, 5) := by decide +kernel
theorem dX12_scan_32 : decode cX12_scan 32 = .ok (.checkcast 45, 3) := dk_192 0 45 (dk_at dksX12_scan_1 9 rfl rfl)
theorem dX12_scan_35 : decode cX12_scan 35 = .ok (.astore_n 2, 1) := dk_77 (dk_at dksX12_scan_1 12 rfl rfl)
theorem dX12_scan_36 : decode cX12_scan 36 = .ok (.aload_n 0, 1) := dk_42 (dk_at dksX12_scan_1 13 rfl rfl)
theorem dX12_scan_37 : decode cX12_scan 37 = .ok (.aload_n 2, 1) := dk_44 (dk_at dksX12_scan_1 14 rfl rfl)
theorem dX12_scan_38 : decode cX12_scan 38 = .ok (.invokevirtual 79, 3) := dk_182 0 79 (dk_at dksX12_scan_1 15 rfl rfl)
theorem dX12_scan_41 : decode cX12_scan 41 = .ok (.ifCond .ne 20, 3) := dk_154 0 20 (dk_at dksX12_scan_1 18 rfl rfl)
theorem dX12_scan_44 : decode cX12_scan 44 = .ok (.aload_n 0, 1) := dk_42 (dk_at dksX12_scan_1 21 rfl rfl)
theorem dX12_scan_45 : decode cX12_scan 45 = .ok (.aload_n 2, 1) := dk_44 (dk_at dksX12_scan_1 22 rfl rfl)
theorem dX12_scan_46 : decode cX12_scan 46 = .ok (.invokevirtual 83, 3) := dk_182 0 83 (dk_at dksX12_scan_2 0 rfl rfl)
theorem dX12_scan_49 : decode cX12_scan 49 = .ok (.aload_n 2, 1) := dk_44 (dk_at dksX12_scan_2 3 rfl rfl)
theorem dX12_scan_50 : decode cX12_scan 50 = .ok (.invokevirtual 86, 3) := dk_182 0 86 (dk_at dksX12_scan_2 4 rfl rfl)
theorem dX12_scan_53 : decode cX12_scan 53 = .ok (.iconst 1, 1) := dk_4 (dk_at dksX12_scan_2 7 rfl rfl)
theorem dX12_scan_54 : decode cX12_scan 54 = .ok (.isub, 1) := dk_100 (dk_at dksX12_scan_2 8 rfl rfl)
theorem dX12_scan_55 : decode cX12_scan 55 = .ok (.invokevirtual 89, 3) := dk_182 0 89 (dk_at dksX12_scan_2 9 rfl rfl)
theorem dX12_scan_58 : decode cX12_scan 58 = .ok (.ifCond .eq 38, 3) := dk_153 0 38 (dk_at dksX12_scan_2 12 rfl rfl)
theorem dX12_scan_61 : decode cX12_scan 61 = .ok (.aload_n 0, 1) := dk_42 (dk_at dksX12_scan_2 15 rfl rfl)
theorem dX12_scan_62 : decode cX12_scan 62 = .ok (.getfield 34, 3) := dk_180 0 34 (dk_at dksX12_scan_2 16 rfl rfl)
theorem dX12_scan_65 : decode cX12_scan 65 = .ok (.aload_n 2, 1) := dk_44 (dk_at dksX12_scan_2 19 rfl rfl)
theorem dX12_scan_66 : decode cX12_scan 66 = .ok (.invokevirtual 93, 3) := dk_182 0 93 (dk_at dksX12_scan_2 20 rfl rfl)
theorem dX12_scan_69 : decode cX12_scan 69 = .ok (.iconst 1, 1) := dk_4 (dk_at dksX12_scan_2 23 rfl rfl)
theorem dX12_scan_70 : decode cX12_scan 70 = .ok (.bastore, 1) := dk_84 (dk_at dksX12_scan_3 0 rfl rfl)
theorem dX12_scan_71 : decode cX12_scan 71 = .ok (.aload_n 0, 1) := dk_42 (dk_at dksX12_scan_3 1 rfl rfl)
theorem dX12_scan_72 : decode cX12_scan 72 = .ok (.getfield 30, 3) := dk_180 0 30 (dk_at dksX12_scan_3 2 rfl rfl)
theorem dX12_scan_75 : decode cX12_scan 75 = .ok (.aload_n 2, 1) := dk_44 (dk_at dksX12_scan_3 5 rfl rfl)
theorem dX12_scan_76 : decode cX12_scan 76 = .ok (.invokevirtual 96, 3) := dk_182 0 96 (dk_at dksX12_scan_3 6 rfl rfl)
theorem dX12_scan_79 : decode cX12_scan 79 = .ok (.aload_n 0, 1) := dk_42 (dk_at dksX12_scan_3 9 rfl rfl)
theorem dX12_scan_80 : decode cX12_scan 80 = .ok (.getfield 30, 3) := dk_180 0 30 (dk_at dksX12_scan_3 10 rfl rfl)
theorem dX12_scan_83 : decode cX12_scan 83 = .ok (.aload_n 2, 1) := dk_44 (dk_at dksX12_scan_3 13 rfl rfl)
theorem dX12_scan_84 : decode cX12_scan 84 = .ok (.invokevirtual 96, 3) := dk_182 0 96 (dk_at dksX12_scan_3 14 rfl rfl)
theorem dX12_scan_87 : decode cX12_scan 87 = .ok (.iaload, 1) := dk_46 (dk_at dksX12_scan_3 17 rfl rfl)
theorem dX12_scan_88 : decode cX12_scan 88 = .ok (.aload_n 2, 1) := dk_44 (dk_at dksX12_scan_3 18 rfl rfl)
theorem dX12_scan_89 : decode cX12_scan 89 = .ok (.invokevirtual 99, 3) := dk_182 0 99 (dk_at dksX12_scan_3 19 rfl rfl)
theorem dX12_scan_92 : decode cX12_scan 92 = .ok (.invokestatic 38, 3) := dk_184 0 38 (dk_at dksX12_scan_4 0 rfl rfl)
theorem dX12_scan_95 : decode cX12_scan 95 = .ok (.iastore, 1) := dk_79 (dk_at dksX12_scan_4 3 rfl rfl)
theorem dX12_scan_96 : decode cX12_scan 96 = .ok (.goto (-79), 3) := dk_167 255 177 (dk_at dksX12_scan_4 4 rfl rfl)
theorem dX12_scan_99 : decode cX12_scan 99 = .ok (.aload_n 0, 1) := dk_42 (dk_at dksX12_scan_4 7 rfl rfl)
theorem dX12_scan_100 : decode cX12_scan 100 = .ok (.areturn, 1) := dk_176 (dk_at dksX12_scan_4 8 rfl rfl)
abbrev cX12_isOn : ByteArray := prog_10_method_4_code
def yX12_isOn : MethodName := ⟨RX12, "isOn", "(II)Z"⟩
def dkwX12_isOn_0 : List UInt8 := [28, 155, 0, 21, 42, 180, 0, 34, 16, 8, 27, 104, 28, 96, 51, 153, 0, 7, 4, 167, 0, 4, 3, 172]
abbrev dktX12_isOn_0 : List UInt8 := dkwX12_isOn_0 ++ []
theorem dksX12_isOn_0 : cX12_isOn.data.toList.drop 0 = dktX12_isOn_0 := by decide +kernel
theorem dX12_isOn_0 : decode cX12_isOn 0 = .ok (.iload_n 2, 1) := dk_28 (dk_at dksX12_isOn_0 0 rfl rfl)
theorem dX12_isOn_1 : decode cX12_isOn 1 = .ok (.ifCond .lt 21, 3) := dk_155 0 21 (dk_at dksX12_isOn_0 1 rfl rfl)
theorem dX12_isOn_4 : decode cX12_isOn 4 = .ok (.aload_n 0, 1) := dk_42 (dk_at dksX12_isOn_0 4 rfl rfl)
theorem dX12_isOn_5 : decode cX12_isOn 5 = .ok (.getfield 34, 3) := dk_180 0 34 (dk_at dksX12_isOn_0 5 rfl rfl)
theorem dX12_isOn_8 : decode cX12_isOn 8 = .ok (.bipush 8, 2) := dk_16 8 (dk_at dksX12_isOn_0 8 rfl rfl)
theorem dX12_isOn_10 : decode cX12_isOn 10 = .ok (.iload_n 1, 1) := dk_27 (dk_at dksX12_isOn_0 10 rfl rfl)
theorem dX12_isOn_11 : decode cX12_isOn 11 = .ok (.imul, 1) := dk_104 (dk_at dksX12_isOn_0 11 rfl rfl)
theorem dX12_isOn_12 : decode cX12_isOn 12 = .ok (.iload_n 2, 1) := dk_28 (dk_at dksX12_isOn_0 12 rfl rfl)
theorem dX12_isOn_13 : decode cX12_isOn 13 = .ok (.iadd, 1) := dk_96 (dk_at dksX12_isOn_0 13 rfl rfl)
theorem dX12_isOn_14 : decode cX12_isOn 14 = .ok (.baload, 1) := dk_51 (dk_at dksX12_isOn_0 14 rfl rfl)
theorem dX12_isOn_15 : decode cX12_isOn 15 = .ok (.ifCond .eq 7, 3) := dk_153 0 7 (dk_at dksX12_isOn_0 15 rfl rfl)
theorem dX12_isOn_18 : decode cX12_isOn 18 = .ok (.iconst 1, 1) := dk_4 (dk_at dksX12_isOn_0 18 rfl rfl)
theorem dX12_isOn_19 : decode cX12_isOn 19 = .ok (.goto 4, 3) := dk_167 0 4 (dk_at dksX12_isOn_0 19 rfl rfl)
theorem dX12_isOn_22 : decode cX12_isOn 22 = .ok (.iconst 0, 1) := dk_3 (dk_at dksX12_isOn_0 22 rfl rfl)
theorem dX12_isOn_23 : decode cX12_isOn 23 = .ok (.ireturn, 1) := dk_172 (dk_at dksX12_isOn_0 23 rfl rfl)
abbrev cX12_earliest : ByteArray := prog_10_method_9_code
def yX12_earliest : MethodName := ⟨RX12, "earliest", "(I)I"⟩
def dkwX12_earliest_0 : List UInt8 := [42, 180, 0, 30, 27, 46, 18, 33, 162, 0, 12, 42, 180, 0, 30, 27, 46, 167, 0, 4, 2, 172]
abbrev dktX12_earliest_0 : List UInt8 := dkwX12_earliest_0 ++ []
theorem dksX12_earliest_0 : cX12_earliest.data.toList.drop 0 = dktX12_earliest_0 := by decide +kernel
theorem dX12_earliest_0 : decode cX12_earliest 0 = .ok (.aload_n 0, 1) := dk_42 (dk_at dksX12_earliest_0 0 rfl rfl)
theorem dX12_earliest_1 : decode cX12_earliest 1 = .ok (.getfield 30, 3) := dk_180 0 30 (dk_at dksX12_earliest_0 1 rfl rfl)
theorem dX12_earliest_4 : decode cX12_earliest 4 = .ok (.iload_n 1, 1) := dk_27 (dk_at dksX12_earliest_0 4 rfl rfl)
theorem dX12_earliest_5 : decode cX12_earliest 5 = .ok (.iaload, 1) := dk_46 (dk_at dksX12_earliest_0 5 rfl rfl)
theorem dX12_earliest_6 : decode cX12_earliest 6 = .ok (.ldc 33, 2) := dk_18 33 (dk_at dksX12_earliest_0 6 rfl rfl)
theorem dX12_earliest_8 : decode cX12_earliest 8 = .ok (.if_icmp .ge 12, 3) := dk_162 0 12 (dk_at dksX12_earliest_0 8 rfl rfl)
theorem dX12_earliest_11 : decode cX12_earliest 11 = .ok (.aload_n 0, 1) := dk_42 (dk_at dksX12_earliest_0 11 rfl rfl)
theorem dX12_earliest_12 : decode cX12_earliest 12 = .ok (.getfield 30, 3) := dk_180 0 30 (dk_at dksX12_earliest_0 12 rfl rfl)
theorem dX12_earliest_15 : decode cX12_earliest 15 = .ok (.iload_n 1, 1) := dk_27 (dk_at dksX12_earliest_0 15 rfl rfl)
theorem dX12_earliest_16 : decode cX12_earliest 16 = .ok (.iaload, 1) := dk_46 (dk_at dksX12_earliest_0 16 rfl rfl)
theorem dX12_earliest_17 : decode cX12_earliest 17 = .ok (.goto 4, 3) := dk_167 0 4 (dk_at dksX12_earliest_0 17 rfl rfl)
theorem dX12_earliest_20 : decode cX12_earliest 20 = .ok (.iconst (-1), 1) := dk_2 (dk_at dksX12_earliest_0 20 rfl rfl)
theorem dX12_earliest_21 : decode cX12_earliest 21 = .ok (.ireturn, 1) := dk_172 (dk_at dksX12_earliest_0 21 rfl rfl)
abbrev cX12_legsTo : ByteArray := prog_10_method_10_code
def yX12_legsTo : MethodName := ⟨RX12, "legsTo", "(I)Ljava/util/List;"⟩
def dkwX12_legsTo_3 : List UInt8 := [185, 0, 155, 2, 0, 87, 167, 255, 217, 25, 4, 182, 0, 50, 62, 167, 255, 184, 44, 176]
abbrev dktX12_legsTo_3 : List UInt8 := dkwX12_legsTo_3 ++ []
def dkwX12_legsTo_2 : List UInt8 := [25, 4, 182, 0, 83, 25, 4, 182, 0, 86, 4, 100, 182, 0, 131, 58, 4, 44, 25, 4]
abbrev dktX12_legsTo_2 : List UInt8 := dkwX12_legsTo_2 ++ dktX12_legsTo_3
def dkwX12_legsTo_1 : List UInt8 := [58, 4, 44, 25, 4, 185, 0, 155, 2, 0, 87, 42, 25, 4, 182, 0, 79, 154, 0, 36, 42, 180, 0, 9]
abbrev dktX12_legsTo_1 : List UInt8 := dkwX12_legsTo_1 ++ dktX12_legsTo_2
def dkwX12_legsTo_0 : List UInt8 := [187, 0, 148, 89, 183, 0, 150, 77, 27, 62, 29, 42, 180, 0, 23, 159, 0, 70, 42, 29, 182, 0, 151]
abbrev dktX12_legsTo_0 : List UInt8 := dkwX12_legsTo_0 ++ dktX12_legsTo_1
theorem dksX12_legsTo_0 : cX12_legsTo.data.toList.drop 0 = dktX12_legsTo_0 := by decide +kernel
theorem dksX12_legsTo_1 : cX12_legsTo.data.toList.drop 23 = dktX12_legsTo_1 := dk_seg dksX12_legsTo_0 23 rfl rfl
theorem dksX12_legsTo_2 : cX12_legsTo.data.toList.drop 47 = dktX12_legsTo_2 := dk_seg dksX12_legsTo_1 24 rfl rfl
theorem dksX12_legsTo_3 : cX12_legsTo.data.toList.drop 67 = dktX12_legsTo_3 := dk_seg dksX12_legsTo_2 20 rfl rfl
theorem dX12_legsTo_0 : decode cX12_legsTo 0 = .ok (.new 148, 3) := dk_187 0 148 (dk_at dksX12_legsTo_0 0 rfl rfl)
theorem dX12_legsTo_3 : decode cX12_legsTo 3 = .ok (.dup, 1) := dk_89 (dk_at dksX12_legsTo_0 3 rfl rfl)
theorem dX12_legsTo_4 : decode cX12_legsTo 4 = .ok (.invokespecial 150, 3) := dk_183 0 150 (dk_at dksX12_legsTo_0 4 rfl rfl)
theorem dX12_legsTo_7 : decode cX12_legsTo 7 = .ok (.astore_n 2, 1) := dk_77 (dk_at dksX12_legsTo_0 7 rfl rfl)
theorem dX12_legsTo_8 : decode cX12_legsTo 8 = .ok (.iload_n 1, 1) := dk_27 (dk_at dksX12_legsTo_0 8 rfl rfl)
theorem dX12_legsTo_9 : decode cX12_legsTo 9 = .ok (.istore_n 3, 1) := dk_62 (dk_at dksX12_legsTo_0 9 rfl rfl)
theorem dX12_legsTo_10 : decode cX12_legsTo 10 = .ok (.iload_n 3, 1) := dk_29 (dk_at dksX12_legsTo_0 10 rfl rfl)
theorem dX12_legsTo_11 : decode cX12_legsTo 11 = .ok (.aload_n 0, 1) := dk_42 (dk_at dksX12_legsTo_0 11 rfl rfl)
theorem dX12_legsTo_12 : decode cX12_legsTo 12 = .ok (.getfield 23, 3) := dk_180 0 23 (dk_at dksX12_legsTo_0 12 rfl rfl)
theorem dX12_legsTo_15 : decode cX12_legsTo 15 = .ok (.if_icmp .eq 70, 3) := dk_159 0 70 (dk_at dksX12_legsTo_0 15 rfl rfl)
theorem dX12_legsTo_18 : decode cX12_legsTo 18 = .ok (.aload_n 0, 1) := dk_42 (dk_at dksX12_legsTo_0 18 rfl rfl)
theorem dX12_legsTo_19 : decode cX12_legsTo 19 = .ok (.iload_n 3, 1) := dk_29 (dk_at dksX12_legsTo_0 19 rfl rfl)
theorem dX12_legsTo_20 : decode cX12_legsTo 20 = .ok (.invokevirtual 151, 3) := dk_182 0 151 (dk_at dksX12_legsTo_0 20 rfl rfl)
theorem dX12_legsTo_23 : decode cX12_legsTo 23 = .ok (.astore 4, 2) := dk_58 4 (dk_at dksX12_legsTo_1 0 rfl rfl)
theorem dX12_legsTo_25 : decode cX12_legsTo 25 = .ok (.aload_n 2, 1) := dk_44 (dk_at dksX12_legsTo_1 2 rfl rfl)
theorem dX12_legsTo_26 : decode cX12_legsTo 26 = .ok (.aload 4, 2) := dk_25 4 (dk_at dksX12_legsTo_1 3 rfl rfl)
theorem dX12_legsTo_28 : decode cX12_legsTo 28 = .ok (.invokeinterface 155 2, 5) := by decide +kernel
theorem dX12_legsTo_33 : decode cX12_legsTo 33 = .ok (.pop, 1) := dk_87 (dk_at dksX12_legsTo_1 10 rfl rfl)
theorem dX12_legsTo_34 : decode cX12_legsTo 34 = .ok (.aload_n 0, 1) := dk_42 (dk_at dksX12_legsTo_1 11 rfl rfl)
theorem dX12_legsTo_35 : decode cX12_legsTo 35 = .ok (.aload 4, 2) := dk_25 4 (dk_at dksX12_legsTo_1 12 rfl rfl)
theorem dX12_legsTo_37 : decode cX12_legsTo 37 = .ok (.invokevirtual 79, 3) := dk_182 0 79 (dk_at dksX12_legsTo_1 14 rfl rfl)
theorem dX12_legsTo_40 : decode cX12_legsTo 40 = .ok (.ifCond .ne 36, 3) := dk_154 0 36 (dk_at dksX12_legsTo_1 17 rfl rfl)
theorem dX12_legsTo_43 : decode cX12_legsTo 43 = .ok (.aload_n 0, 1) := dk_42 (dk_at dksX12_legsTo_1 20 rfl rfl)
theorem dX12_legsTo_44 : decode cX12_legsTo 44 = .ok (.getfield 9, 3) := dk_180 0 9 (dk_at dksX12_legsTo_1 21 rfl rfl)
theorem dX12_legsTo_47 : decode cX12_legsTo 47 = .ok (.aload 4, 2) := dk_25 4 (dk_at dksX12_legsTo_2 0 rfl rfl)
theorem dX12_legsTo_49 : decode cX12_legsTo 49 = .ok (.invokevirtual 83, 3) := dk_182 0 83 (dk_at dksX12_legsTo_2 2 rfl rfl)
theorem dX12_legsTo_52 : decode cX12_legsTo 52 = .ok (.aload 4, 2) := dk_25 4 (dk_at dksX12_legsTo_2 5 rfl rfl)
theorem dX12_legsTo_54 : decode cX12_legsTo 54 = .ok (.invokevirtual 86, 3) := dk_182 0 86 (dk_at dksX12_legsTo_2 7 rfl rfl)
theorem dX12_legsTo_57 : decode cX12_legsTo 57 = .ok (.iconst 1, 1) := dk_4 (dk_at dksX12_legsTo_2 10 rfl rfl)
theorem dX12_legsTo_58 : decode cX12_legsTo 58 = .ok (.isub, 1) := dk_100 (dk_at dksX12_legsTo_2 11 rfl rfl)
theorem dX12_legsTo_59 : decode cX12_legsTo 59 = .ok (.invokevirtual 131, 3) := dk_182 0 131 (dk_at dksX12_legsTo_2 12 rfl rfl)
theorem dX12_legsTo_62 : decode cX12_legsTo 62 = .ok (.astore 4, 2) := dk_58 4 (dk_at dksX12_legsTo_2 15 rfl rfl)
theorem dX12_legsTo_64 : decode cX12_legsTo 64 = .ok (.aload_n 2, 1) := dk_44 (dk_at dksX12_legsTo_2 17 rfl rfl)
theorem dX12_legsTo_65 : decode cX12_legsTo 65 = .ok (.aload 4, 2) := dk_25 4 (dk_at dksX12_legsTo_2 18 rfl rfl)
theorem dX12_legsTo_67 : decode cX12_legsTo 67 = .ok (.invokeinterface 155 2, 5) := by decide +kernel
theorem dX12_legsTo_72 : decode cX12_legsTo 72 = .ok (.pop, 1) := dk_87 (dk_at dksX12_legsTo_3 5 rfl rfl)
theorem dX12_legsTo_73 : decode cX12_legsTo 73 = .ok (.goto (-39), 3) := dk_167 255 217 (dk_at dksX12_legsTo_3 6 rfl rfl)
theorem dX12_legsTo_76 : decode cX12_legsTo 76 = .ok (.aload 4, 2) := dk_25 4 (dk_at dksX12_legsTo_3 9 rfl rfl)
theorem dX12_legsTo_78 : decode cX12_legsTo 78 = .ok (.invokevirtual 50, 3) := dk_182 0 50 (dk_at dksX12_legsTo_3 11 rfl rfl)
theorem dX12_legsTo_81 : decode cX12_legsTo 81 = .ok (.istore_n 3, 1) := dk_62 (dk_at dksX12_legsTo_3 14 rfl rfl)
theorem dX12_legsTo_82 : decode cX12_legsTo 82 = .ok (.goto (-72), 3) := dk_167 255 184 (dk_at dksX12_legsTo_3 15 rfl rfl)
theorem dX12_legsTo_85 : decode cX12_legsTo 85 = .ok (.aload_n 2, 1) := dk_44 (dk_at dksX12_legsTo_3 18 rfl rfl)
theorem dX12_legsTo_86 : decode cX12_legsTo 86 = .ok (.areturn, 1) := dk_176 (dk_at dksX12_legsTo_3 19 rfl rfl)
abbrev cX12_lastLeg : ByteArray := prog_10_method_11_code
def yX12_lastLeg : MethodName := ⟨RX12, "lastLeg", "(I)LSleeperRailway$Leg;"⟩
def dkwX12_lastLeg_3 : List UInt8 := [45, 182, 0, 93, 51, 153, 0, 5, 45, 176, 167, 255, 190, 187, 0, 156, 89, 183, 0, 158, 191]
abbrev dktX12_lastLeg_3 : List UInt8 := dkwX12_lastLeg_3 ++ []
def dkwX12_lastLeg_2 : List UInt8 := [180, 0, 30, 27, 46, 160, 0, 7, 4, 167, 0, 4, 3, 54, 4, 21, 4, 153, 0, 17, 42, 180, 0, 34]
abbrev dktX12_lastLeg_2 : List UInt8 := dkwX12_lastLeg_2 ++ dktX12_lastLeg_3
def dkwX12_lastLeg_1 : List UInt8 := [185, 0, 75, 1, 0, 192, 0, 45, 78, 45, 182, 0, 96, 27, 160, 0, 20, 45, 182, 0, 99, 42]
abbrev dktX12_lastLeg_1 : List UInt8 := dkwX12_lastLeg_1 ++ dktX12_lastLeg_2
def dkwX12_lastLeg_0 : List UInt8 := [42, 180, 0, 15, 185, 0, 63, 1, 0, 77, 44, 185, 0, 69, 1, 0, 153, 0, 63, 44]
abbrev dktX12_lastLeg_0 : List UInt8 := dkwX12_lastLeg_0 ++ dktX12_lastLeg_1
theorem dksX12_lastLeg_0 : cX12_lastLeg.data.toList.drop 0 = dktX12_lastLeg_0 := by decide +kernel
theorem dksX12_lastLeg_1 : cX12_lastLeg.data.toList.drop 20 = dktX12_lastLeg_1 := dk_seg dksX12_lastLeg_0 20 rfl rfl
theorem dksX12_lastLeg_2 : cX12_lastLeg.data.toList.drop 42 = dktX12_lastLeg_2 := dk_seg dksX12_lastLeg_1 22 rfl rfl
theorem dksX12_lastLeg_3 : cX12_lastLeg.data.toList.drop 66 = dktX12_lastLeg_3 := dk_seg dksX12_lastLeg_2 24 rfl rfl
theorem dX12_lastLeg_0 : decode cX12_lastLeg 0 = .ok (.aload_n 0, 1) := dk_42 (dk_at dksX12_lastLeg_0 0 rfl rfl)
theorem dX12_lastLeg_1 : decode cX12_lastLeg 1 = .ok (.getfield 15, 3) := dk_180 0 15 (dk_at dksX12_lastLeg_0 1 rfl rfl)
theorem dX12_lastLeg_4 : decode cX12_lastLeg 4 = .ok (.invokeinterface 63 1, 5) := by decide +kernel
theorem dX12_lastLeg_9 : decode cX12_lastLeg 9 = .ok (.astore_n 2, 1) := dk_77 (dk_at dksX12_lastLeg_0 9 rfl rfl)
theorem dX12_lastLeg_10 : decode cX12_lastLeg 10 = .ok (.aload_n 2, 1) := dk_44 (dk_at dksX12_lastLeg_0 10 rfl rfl)
theorem dX12_lastLeg_11 : decode cX12_lastLeg 11 = .ok (.invokeinterface 69 1, 5) := by decide +kernel
theorem dX12_lastLeg_16 : decode cX12_lastLeg 16 = .ok (.ifCond .eq 63, 3) := dk_153 0 63 (dk_at dksX12_lastLeg_0 16 rfl rfl)
theorem dX12_lastLeg_19 : decode cX12_lastLeg 19 = .ok (.aload_n 2, 1) := dk_44 (dk_at dksX12_lastLeg_0 19 rfl rfl)
theorem dX12_lastLeg_20 : decode cX12_lastLeg 20 = .ok (.invokeinterface 75 1, 5) := by decide +kernel
theorem dX12_lastLeg_25 : decode cX12_lastLeg 25 = .ok (.checkcast 45, 3) := dk_192 0 45 (dk_at dksX12_lastLeg_1 5 rfl rfl)
theorem dX12_lastLeg_28 : decode cX12_lastLeg 28 = .ok (.astore_n 3, 1) := dk_78 (dk_at dksX12_lastLeg_1 8 rfl rfl)
theorem dX12_lastLeg_29 : decode cX12_lastLeg 29 = .ok (.aload_n 3, 1) := dk_45 (dk_at dksX12_lastLeg_1 9 rfl rfl)
theorem dX12_lastLeg_30 : decode cX12_lastLeg 30 = .ok (.invokevirtual 96, 3) := dk_182 0 96 (dk_at dksX12_lastLeg_1 10 rfl rfl)
theorem dX12_lastLeg_33 : decode cX12_lastLeg 33 = .ok (.iload_n 1, 1) := dk_27 (dk_at dksX12_lastLeg_1 13 rfl rfl)
theorem dX12_lastLeg_34 : decode cX12_lastLeg 34 = .ok (.if_icmp .ne 20, 3) := dk_160 0 20 (dk_at dksX12_lastLeg_1 14 rfl rfl)
theorem dX12_lastLeg_37 : decode cX12_lastLeg 37 = .ok (.aload_n 3, 1) := dk_45 (dk_at dksX12_lastLeg_1 17 rfl rfl)
theorem dX12_lastLeg_38 : decode cX12_lastLeg 38 = .ok (.invokevirtual 99, 3) := dk_182 0 99 (dk_at dksX12_lastLeg_1 18 rfl rfl)
theorem dX12_lastLeg_41 : decode cX12_lastLeg 41 = .ok (.aload_n 0, 1) := dk_42 (dk_at dksX12_lastLeg_1 21 rfl rfl)
theorem dX12_lastLeg_42 : decode cX12_lastLeg 42 = .ok (.getfield 30, 3) := dk_180 0 30 (dk_at dksX12_lastLeg_2 0 rfl rfl)
theorem dX12_lastLeg_45 : decode cX12_lastLeg 45 = .ok (.iload_n 1, 1) := dk_27 (dk_at dksX12_lastLeg_2 3 rfl rfl)
theorem dX12_lastLeg_46 : decode cX12_lastLeg 46 = .ok (.iaload, 1) := dk_46 (dk_at dksX12_lastLeg_2 4 rfl rfl)
theorem dX12_lastLeg_47 : decode cX12_lastLeg 47 = .ok (.if_icmp .ne 7, 3) := dk_160 0 7 (dk_at dksX12_lastLeg_2 5 rfl rfl)
theorem dX12_lastLeg_50 : decode cX12_lastLeg 50 = .ok (.iconst 1, 1) := dk_4 (dk_at dksX12_lastLeg_2 8 rfl rfl)
theorem dX12_lastLeg_51 : decode cX12_lastLeg 51 = .ok (.goto 4, 3) := dk_167 0 4 (dk_at dksX12_lastLeg_2 9 rfl rfl)
theorem dX12_lastLeg_54 : decode cX12_lastLeg 54 = .ok (.iconst 0, 1) := dk_3 (dk_at dksX12_lastLeg_2 12 rfl rfl)
theorem dX12_lastLeg_55 : decode cX12_lastLeg 55 = .ok (.istore 4, 2) := dk_54 4 (dk_at dksX12_lastLeg_2 13 rfl rfl)
theorem dX12_lastLeg_57 : decode cX12_lastLeg 57 = .ok (.iload 4, 2) := dk_21 4 (dk_at dksX12_lastLeg_2 15 rfl rfl)
theorem dX12_lastLeg_59 : decode cX12_lastLeg 59 = .ok (.ifCond .eq 17, 3) := dk_153 0 17 (dk_at dksX12_lastLeg_2 17 rfl rfl)
theorem dX12_lastLeg_62 : decode cX12_lastLeg 62 = .ok (.aload_n 0, 1) := dk_42 (dk_at dksX12_lastLeg_2 20 rfl rfl)
theorem dX12_lastLeg_63 : decode cX12_lastLeg 63 = .ok (.getfield 34, 3) := dk_180 0 34 (dk_at dksX12_lastLeg_2 21 rfl rfl)
theorem dX12_lastLeg_66 : decode cX12_lastLeg 66 = .ok (.aload_n 3, 1) := dk_45 (dk_at dksX12_lastLeg_3 0 rfl rfl)
theorem dX12_lastLeg_67 : decode cX12_lastLeg 67 = .ok (.invokevirtual 93, 3) := dk_182 0 93 (dk_at dksX12_lastLeg_3 1 rfl rfl)
theorem dX12_lastLeg_70 : decode cX12_lastLeg 70 = .ok (.baload, 1) := dk_51 (dk_at dksX12_lastLeg_3 4 rfl rfl)
theorem dX12_lastLeg_71 : decode cX12_lastLeg 71 = .ok (.ifCond .eq 5, 3) := dk_153 0 5 (dk_at dksX12_lastLeg_3 5 rfl rfl)
theorem dX12_lastLeg_74 : decode cX12_lastLeg 74 = .ok (.aload_n 3, 1) := dk_45 (dk_at dksX12_lastLeg_3 8 rfl rfl)
theorem dX12_lastLeg_75 : decode cX12_lastLeg 75 = .ok (.areturn, 1) := dk_176 (dk_at dksX12_lastLeg_3 9 rfl rfl)
theorem dX12_lastLeg_76 : decode cX12_lastLeg 76 = .ok (.goto (-66), 3) := dk_167 255 190 (dk_at dksX12_lastLeg_3 10 rfl rfl)
theorem dX12_lastLeg_79 : decode cX12_lastLeg 79 = .ok (.new 156, 3) := dk_187 0 156 (dk_at dksX12_lastLeg_3 13 rfl rfl)
theorem dX12_lastLeg_82 : decode cX12_lastLeg 82 = .ok (.dup, 1) := dk_89 (dk_at dksX12_lastLeg_3 16 rfl rfl)
theorem dX12_lastLeg_83 : decode cX12_lastLeg 83 = .ok (.invokespecial 158, 3) := dk_183 0 158 (dk_at dksX12_lastLeg_3 17 rfl rfl)
theorem dX12_lastLeg_86 : decode cX12_lastLeg 86 = .ok (.athrow, 1) := dk_191 (dk_at dksX12_lastLeg_3 20 rfl rfl)
abbrev cX12_boardings : ByteArray := prog_10_method_12_code
def yX12_boardings : MethodName := ⟨RX12, "boardings", "(I)I"⟩
def dkwX12_boardings_3 : List UInt8 := [167, 255, 233, 44, 27, 46, 18, 33, 160, 0, 7, 2, 167, 0, 4, 29, 172]
abbrev dktX12_boardings_3 : List UInt8 := dkwX12_boardings_3 ++ []
def dkwX12_boardings_2 : List UInt8 := [44, 27, 46, 18, 33, 160, 0, 21, 29, 16, 48, 163, 0, 15, 42, 44, 182, 0, 163, 77, 132, 3, 1]
abbrev dktX12_boardings_2 : List UInt8 := dkwX12_boardings_2 ++ dktX12_boardings_3
def dkwX12_boardings_1 : List UInt8 := [180, 0, 23, 160, 0, 10, 42, 180, 0, 27, 167, 0, 5, 18, 33, 79, 132, 3, 1, 167, 255, 227, 3, 62]
abbrev dktX12_boardings_1 : List UInt8 := dkwX12_boardings_1 ++ dktX12_boardings_2
def dkwX12_boardings_0 : List UInt8 := [42, 180, 0, 30, 182, 0, 159, 192, 0, 160, 77, 3, 62, 29, 44, 190, 162, 0, 29, 44, 29, 29, 42]
abbrev dktX12_boardings_0 : List UInt8 := dkwX12_boardings_0 ++ dktX12_boardings_1
theorem dksX12_boardings_0 : cX12_boardings.data.toList.drop 0 = dktX12_boardings_0 := by decide +kernel
theorem dksX12_boardings_1 : cX12_boardings.data.toList.drop 23 = dktX12_boardings_1 := dk_seg dksX12_boardings_0 23 rfl rfl
theorem dksX12_boardings_2 : cX12_boardings.data.toList.drop 47 = dktX12_boardings_2 := dk_seg dksX12_boardings_1 24 rfl rfl
theorem dksX12_boardings_3 : cX12_boardings.data.toList.drop 70 = dktX12_boardings_3 := dk_seg dksX12_boardings_2 23 rfl rfl
theorem dX12_boardings_0 : decode cX12_boardings 0 = .ok (.aload_n 0, 1) := dk_42 (dk_at dksX12_boardings_0 0 rfl rfl)
theorem dX12_boardings_1 : decode cX12_boardings 1 = .ok (.getfield 30, 3) := dk_180 0 30 (dk_at dksX12_boardings_0 1 rfl rfl)
theorem dX12_boardings_4 : decode cX12_boardings 4 = .ok (.invokevirtual 159, 3) := dk_182 0 159 (dk_at dksX12_boardings_0 4 rfl rfl)
theorem dX12_boardings_7 : decode cX12_boardings 7 = .ok (.checkcast 160, 3) := dk_192 0 160 (dk_at dksX12_boardings_0 7 rfl rfl)
theorem dX12_boardings_10 : decode cX12_boardings 10 = .ok (.astore_n 2, 1) := dk_77 (dk_at dksX12_boardings_0 10 rfl rfl)
theorem dX12_boardings_11 : decode cX12_boardings 11 = .ok (.iconst 0, 1) := dk_3 (dk_at dksX12_boardings_0 11 rfl rfl)
theorem dX12_boardings_12 : decode cX12_boardings 12 = .ok (.istore_n 3, 1) := dk_62 (dk_at dksX12_boardings_0 12 rfl rfl)
theorem dX12_boardings_13 : decode cX12_boardings 13 = .ok (.iload_n 3, 1) := dk_29 (dk_at dksX12_boardings_0 13 rfl rfl)
theorem dX12_boardings_14 : decode cX12_boardings 14 = .ok (.aload_n 2, 1) := dk_44 (dk_at dksX12_boardings_0 14 rfl rfl)
theorem dX12_boardings_15 : decode cX12_boardings 15 = .ok (.arraylength, 1) := dk_190 (dk_at dksX12_boardings_0 15 rfl rfl)
theorem dX12_boardings_16 : decode cX12_boardings 16 = .ok (.if_icmp .ge 29, 3) := dk_162 0 29 (dk_at dksX12_boardings_0 16 rfl rfl)
theorem dX12_boardings_19 : decode cX12_boardings 19 = .ok (.aload_n 2, 1) := dk_44 (dk_at dksX12_boardings_0 19 rfl rfl)
theorem dX12_boardings_20 : decode cX12_boardings 20 = .ok (.iload_n 3, 1) := dk_29 (dk_at dksX12_boardings_0 20 rfl rfl)
theorem dX12_boardings_21 : decode cX12_boardings 21 = .ok (.iload_n 3, 1) := dk_29 (dk_at dksX12_boardings_0 21 rfl rfl)
theorem dX12_boardings_22 : decode cX12_boardings 22 = .ok (.aload_n 0, 1) := dk_42 (dk_at dksX12_boardings_0 22 rfl rfl)
theorem dX12_boardings_23 : decode cX12_boardings 23 = .ok (.getfield 23, 3) := dk_180 0 23 (dk_at dksX12_boardings_1 0 rfl rfl)
theorem dX12_boardings_26 : decode cX12_boardings 26 = .ok (.if_icmp .ne 10, 3) := dk_160 0 10 (dk_at dksX12_boardings_1 3 rfl rfl)
theorem dX12_boardings_29 : decode cX12_boardings 29 = .ok (.aload_n 0, 1) := dk_42 (dk_at dksX12_boardings_1 6 rfl rfl)
theorem dX12_boardings_30 : decode cX12_boardings 30 = .ok (.getfield 27, 3) := dk_180 0 27 (dk_at dksX12_boardings_1 7 rfl rfl)
theorem dX12_boardings_33 : decode cX12_boardings 33 = .ok (.goto 5, 3) := dk_167 0 5 (dk_at dksX12_boardings_1 10 rfl rfl)
theorem dX12_boardings_36 : decode cX12_boardings 36 = .ok (.ldc 33, 2) := dk_18 33 (dk_at dksX12_boardings_1 13 rfl rfl)
theorem dX12_boardings_38 : decode cX12_boardings 38 = .ok (.iastore, 1) := dk_79 (dk_at dksX12_boardings_1 15 rfl rfl)
theorem dX12_boardings_39 : decode cX12_boardings 39 = .ok (.iinc 3 1, 3) := dk_132 3 1 (dk_at dksX12_boardings_1 16 rfl rfl)
theorem dX12_boardings_42 : decode cX12_boardings 42 = .ok (.goto (-29), 3) := dk_167 255 227 (dk_at dksX12_boardings_1 19 rfl rfl)
theorem dX12_boardings_45 : decode cX12_boardings 45 = .ok (.iconst 0, 1) := dk_3 (dk_at dksX12_boardings_1 22 rfl rfl)
theorem dX12_boardings_46 : decode cX12_boardings 46 = .ok (.istore_n 3, 1) := dk_62 (dk_at dksX12_boardings_1 23 rfl rfl)
theorem dX12_boardings_47 : decode cX12_boardings 47 = .ok (.aload_n 2, 1) := dk_44 (dk_at dksX12_boardings_2 0 rfl rfl)
theorem dX12_boardings_48 : decode cX12_boardings 48 = .ok (.iload_n 1, 1) := dk_27 (dk_at dksX12_boardings_2 1 rfl rfl)
theorem dX12_boardings_49 : decode cX12_boardings 49 = .ok (.iaload, 1) := dk_46 (dk_at dksX12_boardings_2 2 rfl rfl)
theorem dX12_boardings_50 : decode cX12_boardings 50 = .ok (.ldc 33, 2) := dk_18 33 (dk_at dksX12_boardings_2 3 rfl rfl)
theorem dX12_boardings_52 : decode cX12_boardings 52 = .ok (.if_icmp .ne 21, 3) := dk_160 0 21 (dk_at dksX12_boardings_2 5 rfl rfl)
theorem dX12_boardings_55 : decode cX12_boardings 55 = .ok (.iload_n 3, 1) := dk_29 (dk_at dksX12_boardings_2 8 rfl rfl)
theorem dX12_boardings_56 : decode cX12_boardings 56 = .ok (.bipush 48, 2) := dk_16 48 (dk_at dksX12_boardings_2 9 rfl rfl)
theorem dX12_boardings_58 : decode cX12_boardings 58 = .ok (.if_icmp .gt 15, 3) := dk_163 0 15 (dk_at dksX12_boardings_2 11 rfl rfl)
theorem dX12_boardings_61 : decode cX12_boardings 61 = .ok (.aload_n 0, 1) := dk_42 (dk_at dksX12_boardings_2 14 rfl rfl)
theorem dX12_boardings_62 : decode cX12_boardings 62 = .ok (.aload_n 2, 1) := dk_44 (dk_at dksX12_boardings_2 15 rfl rfl)
theorem dX12_boardings_63 : decode cX12_boardings 63 = .ok (.invokevirtual 163, 3) := dk_182 0 163 (dk_at dksX12_boardings_2 16 rfl rfl)
theorem dX12_boardings_66 : decode cX12_boardings 66 = .ok (.astore_n 2, 1) := dk_77 (dk_at dksX12_boardings_2 19 rfl rfl)
theorem dX12_boardings_67 : decode cX12_boardings 67 = .ok (.iinc 3 1, 3) := dk_132 3 1 (dk_at dksX12_boardings_2 20 rfl rfl)
theorem dX12_boardings_70 : decode cX12_boardings 70 = .ok (.goto (-23), 3) := dk_167 255 233 (dk_at dksX12_boardings_3 0 rfl rfl)
theorem dX12_boardings_73 : decode cX12_boardings 73 = .ok (.aload_n 2, 1) := dk_44 (dk_at dksX12_boardings_3 3 rfl rfl)
theorem dX12_boardings_74 : decode cX12_boardings 74 = .ok (.iload_n 1, 1) := dk_27 (dk_at dksX12_boardings_3 4 rfl rfl)
theorem dX12_boardings_75 : decode cX12_boardings 75 = .ok (.iaload, 1) := dk_46 (dk_at dksX12_boardings_3 5 rfl rfl)
theorem dX12_boardings_76 : decode cX12_boardings 76 = .ok (.ldc 33, 2) := dk_18 33 (dk_at dksX12_boardings_3 6 rfl rfl)
theorem dX12_boardings_78 : decode cX12_boardings 78 = .ok (.if_icmp .ne 7, 3) := dk_160 0 7 (dk_at dksX12_boardings_3 8 rfl rfl)
theorem dX12_boardings_81 : decode cX12_boardings 81 = .ok (.iconst (-1), 1) := dk_2 (dk_at dksX12_boardings_3 11 rfl rfl)
theorem dX12_boardings_82 : decode cX12_boardings 82 = .ok (.goto 4, 3) := dk_167 0 4 (dk_at dksX12_boardings_3 12 rfl rfl)
theorem dX12_boardings_85 : decode cX12_boardings 85 = .ok (.iload_n 3, 1) := dk_29 (dk_at dksX12_boardings_3 15 rfl rfl)
theorem dX12_boardings_86 : decode cX12_boardings 86 = .ok (.ireturn, 1) := dk_172 (dk_at dksX12_boardings_3 16 rfl rfl)
abbrev cX12_boardOnce : ByteArray := prog_10_method_13_code
def yX12_boardOnce : MethodName := ⟨RX12, "boardOnce", "([I)[I"⟩
def dkwX12_boardOnce_7 : List UInt8 := [167, 0, 10, 44, 25, 5, 182, 0, 96, 46, 79, 167, 255, 101, 44, 176]
abbrev dktX12_boardOnce_7 : List UInt8 := dkwX12_boardOnce_7 ++ []
def dkwX12_boardOnce_6 : List UInt8 := [25, 5, 182, 0, 96, 29, 153, 0, 21, 44, 25, 5, 182, 0, 96, 46, 25, 5, 182, 0, 99, 184, 0, 38]
abbrev dktX12_boardOnce_6 : List UInt8 := dkwX12_boardOnce_6 ++ dktX12_boardOnce_7
def dkwX12_boardOnce_5 : List UInt8 := [182, 0, 83, 182, 0, 121, 25, 5, 182, 0, 86, 182, 0, 138, 154, 0, 7, 4, 167, 0, 4, 3, 62, 44]
abbrev dktX12_boardOnce_5 : List UInt8 := dkwX12_boardOnce_5 ++ dktX12_boardOnce_6
def dkwX12_boardOnce_4 : List UInt8 := [182, 0, 44, 21, 6, 161, 0, 7, 4, 167, 0, 4, 3, 62, 29, 153, 0, 30, 42, 180, 0, 9, 25, 5]
abbrev dktX12_boardOnce_4 : List UInt8 := dkwX12_boardOnce_4 ++ dktX12_boardOnce_5
def dkwX12_boardOnce_3 : List UInt8 := [25, 5, 182, 0, 50, 46, 96, 54, 6, 25, 5, 182, 0, 86, 158, 0, 7, 29, 154, 0, 13, 25, 5]
abbrev dktX12_boardOnce_3 : List UInt8 := dkwX12_boardOnce_3 ++ dktX12_boardOnce_4
def dkwX12_boardOnce_2 : List UInt8 := [182, 0, 50, 46, 25, 5, 182, 0, 50, 42, 180, 0, 23, 160, 0, 7, 3, 167, 0, 13, 42, 180, 0, 19]
abbrev dktX12_boardOnce_2 : List UInt8 := dkwX12_boardOnce_2 ++ dktX12_boardOnce_3
def dkwX12_boardOnce_1 : List UInt8 := [185, 0, 69, 1, 0, 153, 0, 151, 25, 4, 185, 0, 75, 1, 0, 192, 0, 45, 58, 5, 43, 25, 5]
abbrev dktX12_boardOnce_1 : List UInt8 := dkwX12_boardOnce_1 ++ dktX12_boardOnce_2
def dkwX12_boardOnce_0 : List UInt8 := [43, 182, 0, 159, 192, 0, 160, 77, 3, 62, 42, 180, 0, 15, 185, 0, 63, 1, 0, 58, 4, 25, 4]
abbrev dktX12_boardOnce_0 : List UInt8 := dkwX12_boardOnce_0 ++ dktX12_boardOnce_1
theorem dksX12_boardOnce_0 : cX12_boardOnce.data.toList.drop 0 = dktX12_boardOnce_0 := by decide +kernel
theorem dksX12_boardOnce_1 : cX12_boardOnce.data.toList.drop 23 = dktX12_boardOnce_1 := dk_seg dksX12_boardOnce_0 23 rfl rfl
theorem dksX12_boardOnce_2 : cX12_boardOnce.data.toList.drop 46 = dktX12_boardOnce_2 := dk_seg dksX12_boardOnce_1 23 rfl rfl
theorem dksX12_boardOnce_3 : cX12_boardOnce.data.toList.drop 70 = dktX12_boardOnce_3 := dk_seg dksX12_boardOnce_2 24 rfl rfl
theorem dksX12_boardOnce_4 : cX12_boardOnce.data.toList.drop 93 = dktX12_boardOnce_4 := dk_seg dksX12_boardOnce_3 23 rfl rfl
theorem dksX12_boardOnce_5 : cX12_boardOnce.data.toList.drop 117 = dktX12_boardOnce_5 := dk_seg dksX12_boardOnce_4 24 rfl rfl
theorem dksX12_boardOnce_6 : cX12_boardOnce.data.toList.drop 141 = dktX12_boardOnce_6 := dk_seg dksX12_boardOnce_5 24 rfl rfl
theorem dksX12_boardOnce_7 : cX12_boardOnce.data.toList.drop 165 = dktX12_boardOnce_7 := dk_seg dksX12_boardOnce_6 24 rfl rfl
theorem dX12_boardOnce_0 : decode cX12_boardOnce 0 = .ok (.aload_n 1, 1) := dk_43 (dk_at dksX12_boardOnce_0 0 rfl rfl)
theorem dX12_boardOnce_1 : decode cX12_boardOnce 1 = .ok (.invokevirtual 159, 3) := dk_182 0 159 (dk_at dksX12_boardOnce_0 1 rfl rfl)
theorem dX12_boardOnce_4 : decode cX12_boardOnce 4 = .ok (.checkcast 160, 3) := dk_192 0 160 (dk_at dksX12_boardOnce_0 4 rfl rfl)
theorem dX12_boardOnce_7 : decode cX12_boardOnce 7 = .ok (.astore_n 2, 1) := dk_77 (dk_at dksX12_boardOnce_0 7 rfl rfl)
theorem dX12_boardOnce_8 : decode cX12_boardOnce 8 = .ok (.iconst 0, 1) := dk_3 (dk_at dksX12_boardOnce_0 8 rfl rfl)
theorem dX12_boardOnce_9 : decode cX12_boardOnce 9 = .ok (.istore_n 3, 1) := dk_62 (dk_at dksX12_boardOnce_0 9 rfl rfl)
theorem dX12_boardOnce_10 : decode cX12_boardOnce 10 = .ok (.aload_n 0, 1) := dk_42 (dk_at dksX12_boardOnce_0 10 rfl rfl)
theorem dX12_boardOnce_11 : decode cX12_boardOnce 11 = .ok (.getfield 15, 3) := dk_180 0 15 (dk_at dksX12_boardOnce_0 11 rfl rfl)
theorem dX12_boardOnce_14 : decode cX12_boardOnce 14 = .ok (.invokeinterface 63 1, 5) := by decide +kernel
theorem dX12_boardOnce_19 : decode cX12_boardOnce 19 = .ok (.astore 4, 2) := dk_58 4 (dk_at dksX12_boardOnce_0 19 rfl rfl)
theorem dX12_boardOnce_21 : decode cX12_boardOnce 21 = .ok (.aload 4, 2) := dk_25 4 (dk_at dksX12_boardOnce_0 21 rfl rfl)
theorem dX12_boardOnce_23 : decode cX12_boardOnce 23 = .ok (.invokeinterface 69 1, 5) := by decide +kernel
theorem dX12_boardOnce_28 : decode cX12_boardOnce 28 = .ok (.ifCond .eq 151, 3) := dk_153 0 151 (dk_at dksX12_boardOnce_1 5 rfl rfl)
theorem dX12_boardOnce_31 : decode cX12_boardOnce 31 = .ok (.aload 4, 2) := dk_25 4 (dk_at dksX12_boardOnce_1 8 rfl rfl)
theorem dX12_boardOnce_33 : decode cX12_boardOnce 33 = .ok (.invokeinterface 75 1, 5) := by decide +kernel
theorem dX12_boardOnce_38 : decode cX12_boardOnce 38 = .ok (.checkcast 45, 3) := dk_192 0 45 (dk_at dksX12_boardOnce_1 15 rfl rfl)
theorem dX12_boardOnce_41 : decode cX12_boardOnce 41 = .ok (.astore 5, 2) := dk_58 5 (dk_at dksX12_boardOnce_1 18 rfl rfl)
theorem dX12_boardOnce_43 : decode cX12_boardOnce 43 = .ok (.aload_n 1, 1) := dk_43 (dk_at dksX12_boardOnce_1 20 rfl rfl)
theorem dX12_boardOnce_44 : decode cX12_boardOnce 44 = .ok (.aload 5, 2) := dk_25 5 (dk_at dksX12_boardOnce_1 21 rfl rfl)
theorem dX12_boardOnce_46 : decode cX12_boardOnce 46 = .ok (.invokevirtual 50, 3) := dk_182 0 50 (dk_at dksX12_boardOnce_2 0 rfl rfl)
theorem dX12_boardOnce_49 : decode cX12_boardOnce 49 = .ok (.iaload, 1) := dk_46 (dk_at dksX12_boardOnce_2 3 rfl rfl)
theorem dX12_boardOnce_50 : decode cX12_boardOnce 50 = .ok (.aload 5, 2) := dk_25 5 (dk_at dksX12_boardOnce_2 4 rfl rfl)
theorem dX12_boardOnce_52 : decode cX12_boardOnce 52 = .ok (.invokevirtual 50, 3) := dk_182 0 50 (dk_at dksX12_boardOnce_2 6 rfl rfl)
theorem dX12_boardOnce_55 : decode cX12_boardOnce 55 = .ok (.aload_n 0, 1) := dk_42 (dk_at dksX12_boardOnce_2 9 rfl rfl)
theorem dX12_boardOnce_56 : decode cX12_boardOnce 56 = .ok (.getfield 23, 3) := dk_180 0 23 (dk_at dksX12_boardOnce_2 10 rfl rfl)
theorem dX12_boardOnce_59 : decode cX12_boardOnce 59 = .ok (.if_icmp .ne 7, 3) := dk_160 0 7 (dk_at dksX12_boardOnce_2 13 rfl rfl)
theorem dX12_boardOnce_62 : decode cX12_boardOnce 62 = .ok (.iconst 0, 1) := dk_3 (dk_at dksX12_boardOnce_2 16 rfl rfl)
theorem dX12_boardOnce_63 : decode cX12_boardOnce 63 = .ok (.goto 13, 3) := dk_167 0 13 (dk_at dksX12_boardOnce_2 17 rfl rfl)
theorem dX12_boardOnce_66 : decode cX12_boardOnce 66 = .ok (.aload_n 0, 1) := dk_42 (dk_at dksX12_boardOnce_2 20 rfl rfl)
theorem dX12_boardOnce_67 : decode cX12_boardOnce 67 = .ok (.getfield 19, 3) := dk_180 0 19 (dk_at dksX12_boardOnce_2 21 rfl rfl)
theorem dX12_boardOnce_70 : decode cX12_boardOnce 70 = .ok (.aload 5, 2) := dk_25 5 (dk_at dksX12_boardOnce_3 0 rfl rfl)
theorem dX12_boardOnce_72 : decode cX12_boardOnce 72 = .ok (.invokevirtual 50, 3) := dk_182 0 50 (dk_at dksX12_boardOnce_3 2 rfl rfl)
theorem dX12_boardOnce_75 : decode cX12_boardOnce 75 = .ok (.iaload, 1) := dk_46 (dk_at dksX12_boardOnce_3 5 rfl rfl)
theorem dX12_boardOnce_76 : decode cX12_boardOnce 76 = .ok (.iadd, 1) := dk_96 (dk_at dksX12_boardOnce_3 6 rfl rfl)
theorem dX12_boardOnce_77 : decode cX12_boardOnce 77 = .ok (.istore 6, 2) := dk_54 6 (dk_at dksX12_boardOnce_3 7 rfl rfl)
theorem dX12_boardOnce_79 : decode cX12_boardOnce 79 = .ok (.aload 5, 2) := dk_25 5 (dk_at dksX12_boardOnce_3 9 rfl rfl)
theorem dX12_boardOnce_81 : decode cX12_boardOnce 81 = .ok (.invokevirtual 86, 3) := dk_182 0 86 (dk_at dksX12_boardOnce_3 11 rfl rfl)
theorem dX12_boardOnce_84 : decode cX12_boardOnce 84 = .ok (.ifCond .le 7, 3) := dk_158 0 7 (dk_at dksX12_boardOnce_3 14 rfl rfl)
theorem dX12_boardOnce_87 : decode cX12_boardOnce 87 = .ok (.iload_n 3, 1) := dk_29 (dk_at dksX12_boardOnce_3 17 rfl rfl)
theorem dX12_boardOnce_88 : decode cX12_boardOnce 88 = .ok (.ifCond .ne 13, 3) := dk_154 0 13 (dk_at dksX12_boardOnce_3 18 rfl rfl)
theorem dX12_boardOnce_91 : decode cX12_boardOnce 91 = .ok (.aload 5, 2) := dk_25 5 (dk_at dksX12_boardOnce_3 21 rfl rfl)
theorem dX12_boardOnce_93 : decode cX12_boardOnce 93 = .ok (.invokevirtual 44, 3) := dk_182 0 44 (dk_at dksX12_boardOnce_4 0 rfl rfl)
theorem dX12_boardOnce_96 : decode cX12_boardOnce 96 = .ok (.iload 6, 2) := dk_21 6 (dk_at dksX12_boardOnce_4 3 rfl rfl)
theorem dX12_boardOnce_98 : decode cX12_boardOnce 98 = .ok (.if_icmp .lt 7, 3) := dk_161 0 7 (dk_at dksX12_boardOnce_4 5 rfl rfl)
theorem dX12_boardOnce_101 : decode cX12_boardOnce 101 = .ok (.iconst 1, 1) := dk_4 (dk_at dksX12_boardOnce_4 8 rfl rfl)
theorem dX12_boardOnce_102 : decode cX12_boardOnce 102 = .ok (.goto 4, 3) := dk_167 0 4 (dk_at dksX12_boardOnce_4 9 rfl rfl)
theorem dX12_boardOnce_105 : decode cX12_boardOnce 105 = .ok (.iconst 0, 1) := dk_3 (dk_at dksX12_boardOnce_4 12 rfl rfl)
theorem dX12_boardOnce_106 : decode cX12_boardOnce 106 = .ok (.istore_n 3, 1) := dk_62 (dk_at dksX12_boardOnce_4 13 rfl rfl)
theorem dX12_boardOnce_107 : decode cX12_boardOnce 107 = .ok (.iload_n 3, 1) := dk_29 (dk_at dksX12_boardOnce_4 14 rfl rfl)
theorem dX12_boardOnce_108 : decode cX12_boardOnce 108 = .ok (.ifCond .eq 30, 3) := dk_153 0 30 (dk_at dksX12_boardOnce_4 15 rfl rfl)
theorem dX12_boardOnce_111 : decode cX12_boardOnce 111 = .ok (.aload_n 0, 1) := dk_42 (dk_at dksX12_boardOnce_4 18 rfl rfl)
theorem dX12_boardOnce_112 : decode cX12_boardOnce 112 = .ok (.getfield 9, 3) := dk_180 0 9 (dk_at dksX12_boardOnce_4 19 rfl rfl)
theorem dX12_boardOnce_115 : decode cX12_boardOnce 115 = .ok (.aload 5, 2) := dk_25 5 (dk_at dksX12_boardOnce_4 22 rfl rfl)
theorem dX12_boardOnce_117 : decode cX12_boardOnce 117 = .ok (.invokevirtual 83, 3) := dk_182 0 83 (dk_at dksX12_boardOnce_5 0 rfl rfl)
theorem dX12_boardOnce_120 : decode cX12_boardOnce 120 = .ok (.invokevirtual 121, 3) := dk_182 0 121 (dk_at dksX12_boardOnce_5 3 rfl rfl)
theorem dX12_boardOnce_123 : decode cX12_boardOnce 123 = .ok (.aload 5, 2) := dk_25 5 (dk_at dksX12_boardOnce_5 6 rfl rfl)
theorem dX12_boardOnce_125 : decode cX12_boardOnce 125 = .ok (.invokevirtual 86, 3) := dk_182 0 86 (dk_at dksX12_boardOnce_5 8 rfl rfl)
theorem dX12_boardOnce_128 : decode cX12_boardOnce 128 = .ok (.invokevirtual 138, 3) := dk_182 0 138 (dk_at dksX12_boardOnce_5 11 rfl rfl)
theorem dX12_boardOnce_131 : decode cX12_boardOnce 131 = .ok (.ifCond .ne 7, 3) := dk_154 0 7 (dk_at dksX12_boardOnce_5 14 rfl rfl)
theorem dX12_boardOnce_134 : decode cX12_boardOnce 134 = .ok (.iconst 1, 1) := dk_4 (dk_at dksX12_boardOnce_5 17 rfl rfl)
theorem dX12_boardOnce_135 : decode cX12_boardOnce 135 = .ok (.goto 4, 3) := dk_167 0 4 (dk_at dksX12_boardOnce_5 18 rfl rfl)
theorem dX12_boardOnce_138 : decode cX12_boardOnce 138 = .ok (.iconst 0, 1) := dk_3 (dk_at dksX12_boardOnce_5 21 rfl rfl)
theorem dX12_boardOnce_139 : decode cX12_boardOnce 139 = .ok (.istore_n 3, 1) := dk_62 (dk_at dksX12_boardOnce_5 22 rfl rfl)
theorem dX12_boardOnce_140 : decode cX12_boardOnce 140 = .ok (.aload_n 2, 1) := dk_44 (dk_at dksX12_boardOnce_5 23 rfl rfl)
theorem dX12_boardOnce_141 : decode cX12_boardOnce 141 = .ok (.aload 5, 2) := dk_25 5 (dk_at dksX12_boardOnce_6 0 rfl rfl)
theorem dX12_boardOnce_143 : decode cX12_boardOnce 143 = .ok (.invokevirtual 96, 3) := dk_182 0 96 (dk_at dksX12_boardOnce_6 2 rfl rfl)
theorem dX12_boardOnce_146 : decode cX12_boardOnce 146 = .ok (.iload_n 3, 1) := dk_29 (dk_at dksX12_boardOnce_6 5 rfl rfl)
theorem dX12_boardOnce_147 : decode cX12_boardOnce 147 = .ok (.ifCond .eq 21, 3) := dk_153 0 21 (dk_at dksX12_boardOnce_6 6 rfl rfl)
theorem dX12_boardOnce_150 : decode cX12_boardOnce 150 = .ok (.aload_n 2, 1) := dk_44 (dk_at dksX12_boardOnce_6 9 rfl rfl)
theorem dX12_boardOnce_151 : decode cX12_boardOnce 151 = .ok (.aload 5, 2) := dk_25 5 (dk_at dksX12_boardOnce_6 10 rfl rfl)
theorem dX12_boardOnce_153 : decode cX12_boardOnce 153 = .ok (.invokevirtual 96, 3) := dk_182 0 96 (dk_at dksX12_boardOnce_6 12 rfl rfl)
theorem dX12_boardOnce_156 : decode cX12_boardOnce 156 = .ok (.iaload, 1) := dk_46 (dk_at dksX12_boardOnce_6 15 rfl rfl)
theorem dX12_boardOnce_157 : decode cX12_boardOnce 157 = .ok (.aload 5, 2) := dk_25 5 (dk_at dksX12_boardOnce_6 16 rfl rfl)
theorem dX12_boardOnce_159 : decode cX12_boardOnce 159 = .ok (.invokevirtual 99, 3) := dk_182 0 99 (dk_at dksX12_boardOnce_6 18 rfl rfl)
theorem dX12_boardOnce_162 : decode cX12_boardOnce 162 = .ok (.invokestatic 38, 3) := dk_184 0 38 (dk_at dksX12_boardOnce_6 21 rfl rfl)
theorem dX12_boardOnce_165 : decode cX12_boardOnce 165 = .ok (.goto 10, 3) := dk_167 0 10 (dk_at dksX12_boardOnce_7 0 rfl rfl)
theorem dX12_boardOnce_168 : decode cX12_boardOnce 168 = .ok (.aload_n 2, 1) := dk_44 (dk_at dksX12_boardOnce_7 3 rfl rfl)
theorem dX12_boardOnce_169 : decode cX12_boardOnce 169 = .ok (.aload 5, 2) := dk_25 5 (dk_at dksX12_boardOnce_7 4 rfl rfl)
theorem dX12_boardOnce_171 : decode cX12_boardOnce 171 = .ok (.invokevirtual 96, 3) := dk_182 0 96 (dk_at dksX12_boardOnce_7 6 rfl rfl)
theorem dX12_boardOnce_174 : decode cX12_boardOnce 174 = .ok (.iaload, 1) := dk_46 (dk_at dksX12_boardOnce_7 9 rfl rfl)
theorem dX12_boardOnce_175 : decode cX12_boardOnce 175 = .ok (.iastore, 1) := dk_79 (dk_at dksX12_boardOnce_7 10 rfl rfl)
theorem dX12_boardOnce_176 : decode cX12_boardOnce 176 = .ok (.goto (-155), 3) := dk_167 255 101 (dk_at dksX12_boardOnce_7 11 rfl rfl)
theorem dX12_boardOnce_179 : decode cX12_boardOnce 179 = .ok (.aload_n 2, 1) := dk_44 (dk_at dksX12_boardOnce_7 14 rfl rfl)
theorem dX12_boardOnce_180 : decode cX12_boardOnce 180 = .ok (.areturn, 1) := dk_176 (dk_at dksX12_boardOnce_7 15 rfl rfl)
theorem q158 : (Jvm.Cond.initialized "SleeperRailway$Journeys") ∈ lw_all := lw_g (lw_at lw_m1 58 rfl) rfl
theorem q997 : (Jvm.Cond.selects "SleeperRailway$Journeys" ({ cls := "java/lang/Object", name := "getClass", desc := "()Ljava/lang/Class;" } : Jvm.MethodName) ({ cls := "java/lang/Object", name := "getClass", desc := "()Ljava/lang/Class;" } : Jvm.MethodName)) ∈ lw_all := lw_g (lw_at lw_m4 177 rfl) rfl
theorem q1250 : (Jvm.Cond.instantiable "SleeperRailway$Journeys" (7 : Nat)) ∈ lw_all := lw_g (lw_at lw_m5 190 rfl) rfl
theorem q1252 : (Jvm.Cond.instanceMethod ({ cls := "SleeperRailway$Journeys", name := "<init>", desc := "(LSleeperRailway$Timetable;Ljava/util/List;[III)V" } : Jvm.MethodName)) ∈ lw_all := lw_g (lw_at lw_m5 192 rfl) rfl
theorem q1253 : (Jvm.Cond.code ({ cls := "SleeperRailway$Journeys", name := "<init>", desc := "(LSleeperRailway$Timetable;Ljava/util/List;[III)V" } : Jvm.MethodName) prog_10_method_1_code (7 : Nat) (Option.none : Option Jvm.ClassFile.FieldType)) ∈ lw_all := lw_g (lw_at lw_m5 193 rfl) rfl
theorem q1254 : (Jvm.Cond.methodLink "SleeperRailway$Journeys" (3 : Nat) ({ cls := "java/lang/Object", name := "<init>", desc := "()V" } : Jvm.MethodName)) ∈ lw_all := lw_g (lw_at lw_m5 194 rfl) rfl
theorem q1255 : (Jvm.Cond.constant "SleeperRailway$Journeys" (33 : Nat) (1000000 : Int32)) ∈ lw_all := lw_g (lw_at lw_m5 195 rfl) rfl
theorem q1256 : (Jvm.Cond.fieldLink "SleeperRailway$Journeys" (9 : Nat) "SleeperRailway$Journeys" "timetable" "LSleeperRailway$Timetable;") ∈ lw_all := lw_g (lw_at lw_m5 196 rfl) rfl
theorem q1257 : (Jvm.Cond.fieldLink "SleeperRailway$Journeys" (15 : Nat) "SleeperRailway$Journeys" "legs" "Ljava/util/List;") ∈ lw_all := lw_g (lw_at lw_m5 197 rfl) rfl
theorem q1258 : (Jvm.Cond.fieldLink "SleeperRailway$Journeys" (19 : Nat) "SleeperRailway$Journeys" "transfers" "[I") ∈ lw_all := lw_g (lw_at lw_m5 198 rfl) rfl
theorem q1259 : (Jvm.Cond.fieldLink "SleeperRailway$Journeys" (23 : Nat) "SleeperRailway$Journeys" "start" "I") ∈ lw_all := lw_g (lw_at lw_m5 199 rfl) rfl
theorem q1260 : (Jvm.Cond.fieldLink "SleeperRailway$Journeys" (27 : Nat) "SleeperRailway$Journeys" "minute" "I") ∈ lw_all := lw_g (lw_at lw_m5 200 rfl) rfl
theorem q1261 : (Jvm.Cond.fieldLink "SleeperRailway$Journeys" (30 : Nat) "SleeperRailway$Journeys" "earliest" "[I") ∈ lw_all := lw_g (lw_at lw_m5 201 rfl) rfl
theorem q1262 : (Jvm.Cond.fieldLink "SleeperRailway$Journeys" (34 : Nat) "SleeperRailway$Journeys" "isRidden" "[Z") ∈ lw_all := lw_g (lw_at lw_m5 202 rfl) rfl
theorem q1263 : (Jvm.Cond.laysFinal "SleeperRailway$Journeys" "SleeperRailway$Journeys" "timetable" "LSleeperRailway$Timetable;") ∈ lw_all := lw_g (lw_at lw_m5 203 rfl) rfl
theorem q1264 : (Jvm.Cond.soleField "SleeperRailway$Journeys" "timetable") ∈ lw_all := lw_g (lw_at lw_m5 204 rfl) rfl
theorem q1265 : (Jvm.Cond.laysFinal "SleeperRailway$Journeys" "SleeperRailway$Journeys" "legs" "Ljava/util/List;") ∈ lw_all := lw_g (lw_at lw_m5 205 rfl) rfl
theorem q1266 : (Jvm.Cond.soleField "SleeperRailway$Journeys" "legs") ∈ lw_all := lw_g (lw_at lw_m5 206 rfl) rfl
theorem q1267 : (Jvm.Cond.laysFinal "SleeperRailway$Journeys" "SleeperRailway$Journeys" "transfers" "[I") ∈ lw_all := lw_g (lw_at lw_m5 207 rfl) rfl
theorem q1268 : (Jvm.Cond.soleField "SleeperRailway$Journeys" "transfers") ∈ lw_all := lw_g (lw_at lw_m5 208 rfl) rfl
theorem q1269 : (Jvm.Cond.laysFinal "SleeperRailway$Journeys" "SleeperRailway$Journeys" "start" "I") ∈ lw_all := lw_g (lw_at lw_m5 209 rfl) rfl
theorem q1270 : (Jvm.Cond.soleField "SleeperRailway$Journeys" "start") ∈ lw_all := lw_g (lw_at lw_m5 210 rfl) rfl
theorem q1271 : (Jvm.Cond.laysFinal "SleeperRailway$Journeys" "SleeperRailway$Journeys" "minute" "I") ∈ lw_all := lw_g (lw_at lw_m5 211 rfl) rfl
theorem q1272 : (Jvm.Cond.soleField "SleeperRailway$Journeys" "minute") ∈ lw_all := lw_g (lw_at lw_m5 212 rfl) rfl
theorem q1273 : (Jvm.Cond.laysFinal "SleeperRailway$Journeys" "SleeperRailway$Journeys" "earliest" "[I") ∈ lw_all := lw_g (lw_at lw_m5 213 rfl) rfl
theorem q1274 : (Jvm.Cond.soleField "SleeperRailway$Journeys" "earliest") ∈ lw_all := lw_g (lw_at lw_m5 214 rfl) rfl
theorem q1275 : (Jvm.Cond.laysFinal "SleeperRailway$Journeys" "SleeperRailway$Journeys" "isRidden" "[Z") ∈ lw_all := lw_g (lw_at lw_m5 215 rfl) rfl
theorem q1276 : (Jvm.Cond.soleField "SleeperRailway$Journeys" "isRidden") ∈ lw_all := lw_g (lw_at lw_m5 216 rfl) rfl
theorem q1277 : (Jvm.Cond.superclass "SleeperRailway$Journeys" "java/lang/Object") ∈ lw_all := lw_g (lw_at lw_m5 217 rfl) rfl
theorem q1281 : (Jvm.Cond.instanceMethod ({ cls := "SleeperRailway$Journeys", name := "search", desc := "()LSleeperRailway$Journeys;" } : Jvm.MethodName)) ∈ lw_all := lw_g (lw_at lw_m5 221 rfl) rfl
theorem q1282 : (Jvm.Cond.selects "SleeperRailway$Journeys" ({ cls := "SleeperRailway$Journeys", name := "search", desc := "()LSleeperRailway$Journeys;" } : Jvm.MethodName) ({ cls := "SleeperRailway$Journeys", name := "search", desc := "()LSleeperRailway$Journeys;" } : Jvm.MethodName)) ∈ lw_all := lw_g (lw_at lw_m5 222 rfl) rfl
theorem q1283 : (Jvm.Cond.code ({ cls := "SleeperRailway$Journeys", name := "search", desc := "()LSleeperRailway$Journeys;" } : Jvm.MethodName) prog_10_method_6_code (3 : Nat) (Option.some (Jvm.ClassFile.FieldType.object "SleeperRailway$Journeys"))) ∈ lw_all := lw_g (lw_at lw_m5 223 rfl) rfl
theorem q1284 : (Jvm.Cond.classLink "SleeperRailway$Journeys" (102 : Nat) "java/util/PriorityQueue") ∈ lw_all := lw_g (lw_at lw_m5 224 rfl) rfl
theorem q1286 : (Jvm.Cond.methodLink "SleeperRailway$Journeys" (104 : Nat) ({ cls := "java/util/PriorityQueue", name := "<init>", desc := "()V" } : Jvm.MethodName)) ∈ lw_all := lw_g (lw_at lw_m5 226 rfl) rfl
theorem q1318 : (Jvm.Cond.methodLink "SleeperRailway$Journeys" (105 : Nat) ({ cls := "SleeperRailway$Journeys", name := "offerAll", desc := "(Ljava/util/PriorityQueue;I)V" } : Jvm.MethodName)) ∈ lw_all := lw_g (lw_at lw_m6 18 rfl) rfl
theorem q1319 : (Jvm.Cond.privateMethod ({ cls := "SleeperRailway$Journeys", name := "offerAll", desc := "(Ljava/util/PriorityQueue;I)V" } : Jvm.MethodName)) ∈ lw_tbl := lw_at lw_m6 19 rfl
theorem q1320 : (Jvm.Cond.instanceMethod ({ cls := "SleeperRailway$Journeys", name := "offerAll", desc := "(Ljava/util/PriorityQueue;I)V" } : Jvm.MethodName)) ∈ lw_all := lw_g (lw_at lw_m6 20 rfl) rfl
theorem q1321 : (Jvm.Cond.code ({ cls := "SleeperRailway$Journeys", name := "offerAll", desc := "(Ljava/util/PriorityQueue;I)V" } : Jvm.MethodName) prog_10_method_7_code (5 : Nat) (Option.none : Option Jvm.ClassFile.FieldType)) ∈ lw_all := lw_g (lw_at lw_m6 21 rfl) rfl
theorem q1322 : (Jvm.Cond.interfaceEntry "SleeperRailway$Journeys" (63 : Nat)) ∈ lw_tbl := lw_at lw_m6 22 rfl
theorem q1323 : (Jvm.Cond.methodLink "SleeperRailway$Journeys" (63 : Nat) ({ cls := "java/util/List", name := "iterator", desc := "()Ljava/util/Iterator;" } : Jvm.MethodName)) ∈ lw_all := lw_g (lw_at lw_m6 23 rfl) rfl
theorem q1435 : (Jvm.Cond.interfaceEntry "SleeperRailway$Journeys" (69 : Nat)) ∈ lw_tbl := lw_at lw_m6 135 rfl
theorem q1436 : (Jvm.Cond.methodLink "SleeperRailway$Journeys" (69 : Nat) ({ cls := "java/util/Iterator", name := "hasNext", desc := "()Z" } : Jvm.MethodName)) ∈ lw_all := lw_g (lw_at lw_m6 136 rfl) rfl
theorem q1437 : (Jvm.Cond.interfaceEntry "SleeperRailway$Journeys" (75 : Nat)) ∈ lw_tbl := lw_at lw_m6 137 rfl
theorem q1438 : (Jvm.Cond.methodLink "SleeperRailway$Journeys" (75 : Nat) ({ cls := "java/util/Iterator", name := "next", desc := "()Ljava/lang/Object;" } : Jvm.MethodName)) ∈ lw_all := lw_g (lw_at lw_m6 138 rfl) rfl
theorem q1439 : (Jvm.Cond.classLink "SleeperRailway$Journeys" (45 : Nat) "SleeperRailway$Leg") ∈ lw_all := lw_g (lw_at lw_m6 139 rfl) rfl
theorem q1440 : (Jvm.Cond.methodLink "SleeperRailway$Journeys" (50 : Nat) ({ cls := "SleeperRailway$Leg", name := "from", desc := "()I" } : Jvm.MethodName)) ∈ lw_all := lw_g (lw_at lw_m6 140 rfl) rfl
theorem q1444 : (Jvm.Cond.methodLink "SleeperRailway$Journeys" (79 : Nat) ({ cls := "SleeperRailway$Journeys", name := "canBoard", desc := "(LSleeperRailway$Leg;)Z" } : Jvm.MethodName)) ∈ lw_all := lw_g (lw_at lw_m6 144 rfl) rfl
theorem q1445 : (Jvm.Cond.privateMethod ({ cls := "SleeperRailway$Journeys", name := "canBoard", desc := "(LSleeperRailway$Leg;)Z" } : Jvm.MethodName)) ∈ lw_tbl := lw_at lw_m6 145 rfl
theorem q1446 : (Jvm.Cond.instanceMethod ({ cls := "SleeperRailway$Journeys", name := "canBoard", desc := "(LSleeperRailway$Leg;)Z" } : Jvm.MethodName)) ∈ lw_all := lw_g (lw_at lw_m6 146 rfl) rfl
theorem q1447 : (Jvm.Cond.code ({ cls := "SleeperRailway$Journeys", name := "canBoard", desc := "(LSleeperRailway$Leg;)Z" } : Jvm.MethodName) prog_10_method_3_code (2 : Nat) (Option.some Jvm.ClassFile.FieldType.boolean)) ∈ lw_all := lw_g (lw_at lw_m6 147 rfl) rfl
theorem q1448 : (Jvm.Cond.methodLink "SleeperRailway$Journeys" (44 : Nat) ({ cls := "SleeperRailway$Leg", name := "departure", desc := "()I" } : Jvm.MethodName)) ∈ lw_all := lw_g (lw_at lw_m6 148 rfl) rfl
theorem q1452 : (Jvm.Cond.methodLink "SleeperRailway$Journeys" (53 : Nat) ({ cls := "SleeperRailway$Journeys", name := "boarding", desc := "(I)I" } : Jvm.MethodName)) ∈ lw_all := lw_g (lw_at lw_m6 152 rfl) rfl
theorem q1453 : (Jvm.Cond.privateMethod ({ cls := "SleeperRailway$Journeys", name := "boarding", desc := "(I)I" } : Jvm.MethodName)) ∈ lw_tbl := lw_at lw_m6 153 rfl
theorem q1454 : (Jvm.Cond.instanceMethod ({ cls := "SleeperRailway$Journeys", name := "boarding", desc := "(I)I" } : Jvm.MethodName)) ∈ lw_all := lw_g (lw_at lw_m6 154 rfl) rfl
theorem q1455 : (Jvm.Cond.code ({ cls := "SleeperRailway$Journeys", name := "boarding", desc := "(I)I" } : Jvm.MethodName) prog_10_method_2_code (2 : Nat) (Option.some Jvm.ClassFile.FieldType.int)) ∈ lw_all := lw_g (lw_at lw_m6 155 rfl) rfl
theorem q1456 : (Jvm.Cond.methodLink "SleeperRailway$Journeys" (38 : Nat) ({ cls := "java/lang/Math", name := "min", desc := "(II)I" } : Jvm.MethodName)) ∈ lw_all := lw_g (lw_at lw_m6 156 rfl) rfl
theorem q1457 : (Jvm.Cond.methodLink "SleeperRailway$Journeys" (134 : Nat) ({ cls := "SleeperRailway$Journeys", name := "offer", desc := "(Ljava/util/PriorityQueue;LSleeperRailway$Leg;)V" } : Jvm.MethodName)) ∈ lw_all := lw_g (lw_at lw_m6 157 rfl) rfl
theorem q1458 : (Jvm.Cond.privateMethod ({ cls := "SleeperRailway$Journeys", name := "offer", desc := "(Ljava/util/PriorityQueue;LSleeperRailway$Leg;)V" } : Jvm.MethodName)) ∈ lw_tbl := lw_at lw_m6 158 rfl
theorem q1459 : (Jvm.Cond.instanceMethod ({ cls := "SleeperRailway$Journeys", name := "offer", desc := "(Ljava/util/PriorityQueue;LSleeperRailway$Leg;)V" } : Jvm.MethodName)) ∈ lw_all := lw_g (lw_at lw_m6 159 rfl) rfl
theorem q1460 : (Jvm.Cond.code ({ cls := "SleeperRailway$Journeys", name := "offer", desc := "(Ljava/util/PriorityQueue;LSleeperRailway$Leg;)V" } : Jvm.MethodName) prog_10_method_8_code (4 : Nat) (Option.none : Option Jvm.ClassFile.FieldType)) ∈ lw_all := lw_g (lw_at lw_m6 160 rfl) rfl
theorem q1461 : (Jvm.Cond.methodLink "SleeperRailway$Journeys" (83 : Nat) ({ cls := "SleeperRailway$Leg", name := "train", desc := "()I" } : Jvm.MethodName)) ∈ lw_all := lw_g (lw_at lw_m6 161 rfl) rfl
theorem q1462 : (Jvm.Cond.methodLink "SleeperRailway$Journeys" (121 : Nat) ({ cls := "SleeperRailway$Timetable", name := "get", desc := "(I)LSleeperRailway$Train;" } : Jvm.MethodName)) ∈ lw_all := lw_g (lw_at lw_m6 162 rfl) rfl
theorem q1466 : (Jvm.Cond.methodLink "SleeperRailway$Journeys" (86 : Nat) ({ cls := "SleeperRailway$Leg", name := "number", desc := "()I" } : Jvm.MethodName)) ∈ lw_all := lw_g (lw_at lw_m6 166 rfl) rfl
theorem q1467 : (Jvm.Cond.methodLink "SleeperRailway$Journeys" (138 : Nat) ({ cls := "SleeperRailway$Train", name := "isFull", desc := "(I)Z" } : Jvm.MethodName)) ∈ lw_all := lw_g (lw_at lw_m6 167 rfl) rfl
theorem q1475 : (Jvm.Cond.methodLink "SleeperRailway$Journeys" (93 : Nat) ({ cls := "SleeperRailway$Leg", name := "hashCode", desc := "()I" } : Jvm.MethodName)) ∈ lw_all := lw_g (lw_at lw_m6 175 rfl) rfl
theorem q1479 : (Jvm.Cond.classLink "SleeperRailway$Journeys" (115 : Nat) "SleeperRailway$Event") ∈ lw_all := lw_g (lw_at lw_m6 179 rfl) rfl
theorem q1481 : (Jvm.Cond.methodLink "SleeperRailway$Journeys" (141 : Nat) ({ cls := "SleeperRailway$Event", name := "<init>", desc := "(LSleeperRailway$Leg;)V" } : Jvm.MethodName)) ∈ lw_all := lw_g (lw_at lw_m6 181 rfl) rfl
theorem q1486 : (Jvm.Cond.fieldLinkNest "SleeperRailway$Journeys" (117 : Nat) "SleeperRailway$Event" "leg" "LSleeperRailway$Leg;" "SleeperRailway") ∈ lw_tbl := lw_at lw_m6 186 rfl
theorem q1490 : (Jvm.Cond.methodLink "SleeperRailway$Journeys" (144 : Nat) ({ cls := "java/util/PriorityQueue", name := "add", desc := "(Ljava/lang/Object;)Z" } : Jvm.MethodName)) ∈ lw_all := lw_g (lw_at lw_m6 190 rfl) rfl
theorem q1757 : (Jvm.Cond.methodLink "SleeperRailway$Journeys" (109 : Nat) ({ cls := "java/util/PriorityQueue", name := "isEmpty", desc := "()Z" } : Jvm.MethodName)) ∈ lw_all := lw_g (lw_at lw_m7 217 rfl) rfl
theorem q1781 : (Jvm.Cond.methodLink "SleeperRailway$Journeys" (112 : Nat) ({ cls := "java/util/PriorityQueue", name := "poll", desc := "()Ljava/lang/Object;" } : Jvm.MethodName)) ∈ lw_all := lw_g (lw_at lw_m8 1 rfl) rfl
theorem q1791 : (Jvm.Cond.methodLink "SleeperRailway$Journeys" (125 : Nat) ({ cls := "SleeperRailway$Train", name := "hasLeg", desc := "(I)Z" } : Jvm.MethodName)) ∈ lw_all := lw_g (lw_at lw_m8 11 rfl) rfl
theorem q1798 : (Jvm.Cond.methodLink "SleeperRailway$Journeys" (131 : Nat) ({ cls := "SleeperRailway$Timetable", name := "leg", desc := "(II)LSleeperRailway$Leg;" } : Jvm.MethodName)) ∈ lw_all := lw_g (lw_at lw_m8 18 rfl) rfl
theorem q1799 : (Jvm.Cond.methodLink "SleeperRailway$Journeys" (99 : Nat) ({ cls := "SleeperRailway$Leg", name := "arrival", desc := "()I" } : Jvm.MethodName)) ∈ lw_all := lw_g (lw_at lw_m8 19 rfl) rfl
theorem q1800 : (Jvm.Cond.methodLink "SleeperRailway$Journeys" (96 : Nat) ({ cls := "SleeperRailway$Leg", name := "to", desc := "()I" } : Jvm.MethodName)) ∈ lw_all := lw_g (lw_at lw_m8 20 rfl) rfl
theorem q1805 : (Jvm.Cond.instanceMethod ({ cls := "SleeperRailway$Journeys", name := "scan", desc := "()LSleeperRailway$Journeys;" } : Jvm.MethodName)) ∈ lw_all := lw_g (lw_at lw_m8 25 rfl) rfl
theorem q1806 : (Jvm.Cond.selects "SleeperRailway$Journeys" ({ cls := "SleeperRailway$Journeys", name := "scan", desc := "()LSleeperRailway$Journeys;" } : Jvm.MethodName) ({ cls := "SleeperRailway$Journeys", name := "scan", desc := "()LSleeperRailway$Journeys;" } : Jvm.MethodName)) ∈ lw_all := lw_g (lw_at lw_m8 26 rfl) rfl
theorem q1807 : (Jvm.Cond.code ({ cls := "SleeperRailway$Journeys", name := "scan", desc := "()LSleeperRailway$Journeys;" } : Jvm.MethodName) prog_10_method_5_code (3 : Nat) (Option.some (Jvm.ClassFile.FieldType.object "SleeperRailway$Journeys"))) ∈ lw_all := lw_g (lw_at lw_m8 27 rfl) rfl
theorem q1808 : (Jvm.Cond.methodLink "SleeperRailway$Journeys" (57 : Nat) ({ cls := "SleeperRailway$Timetable", name := "free", desc := "(Ljava/util/List;)Ljava/util/List;" } : Jvm.MethodName)) ∈ lw_all := lw_g (lw_at lw_m8 28 rfl) rfl
theorem q1842 : (Jvm.Cond.methodLink "SleeperRailway$Journeys" (89 : Nat) ({ cls := "SleeperRailway$Journeys", name := "isOn", desc := "(II)Z" } : Jvm.MethodName)) ∈ lw_all := lw_g (lw_at lw_m8 62 rfl) rfl
theorem q1843 : (Jvm.Cond.privateMethod ({ cls := "SleeperRailway$Journeys", name := "isOn", desc := "(II)Z" } : Jvm.MethodName)) ∈ lw_tbl := lw_at lw_m8 63 rfl
theorem q1844 : (Jvm.Cond.instanceMethod ({ cls := "SleeperRailway$Journeys", name := "isOn", desc := "(II)Z" } : Jvm.MethodName)) ∈ lw_all := lw_g (lw_at lw_m8 64 rfl) rfl
theorem q1845 : (Jvm.Cond.code ({ cls := "SleeperRailway$Journeys", name := "isOn", desc := "(II)Z" } : Jvm.MethodName) prog_10_method_4_code (3 : Nat) (Option.some Jvm.ClassFile.FieldType.boolean)) ∈ lw_all := lw_g (lw_at lw_m8 65 rfl) rfl
theorem q1847 : (Jvm.Cond.instanceMethod ({ cls := "SleeperRailway$Journeys", name := "earliest", desc := "(I)I" } : Jvm.MethodName)) ∈ lw_all := lw_g (lw_at lw_m8 67 rfl) rfl
theorem q1848 : (Jvm.Cond.selects "SleeperRailway$Journeys" ({ cls := "SleeperRailway$Journeys", name := "earliest", desc := "(I)I" } : Jvm.MethodName) ({ cls := "SleeperRailway$Journeys", name := "earliest", desc := "(I)I" } : Jvm.MethodName)) ∈ lw_all := lw_g (lw_at lw_m8 68 rfl) rfl
theorem q1849 : (Jvm.Cond.code ({ cls := "SleeperRailway$Journeys", name := "earliest", desc := "(I)I" } : Jvm.MethodName) prog_10_method_9_code (2 : Nat) (Option.some Jvm.ClassFile.FieldType.int)) ∈ lw_all := lw_g (lw_at lw_m8 69 rfl) rfl
theorem q2565 : (Jvm.Cond.instanceMethod ({ cls := "SleeperRailway$Journeys", name := "legsTo", desc := "(I)Ljava/util/List;" } : Jvm.MethodName)) ∈ lw_all := lw_g (lw_at lw_m11 65 rfl) rfl
theorem q2566 : (Jvm.Cond.selects "SleeperRailway$Journeys" ({ cls := "SleeperRailway$Journeys", name := "legsTo", desc := "(I)Ljava/util/List;" } : Jvm.MethodName) ({ cls := "SleeperRailway$Journeys", name := "legsTo", desc := "(I)Ljava/util/List;" } : Jvm.MethodName)) ∈ lw_all := lw_g (lw_at lw_m11 66 rfl) rfl
theorem q2567 : (Jvm.Cond.code ({ cls := "SleeperRailway$Journeys", name := "legsTo", desc := "(I)Ljava/util/List;" } : Jvm.MethodName) prog_10_method_10_code (5 : Nat) (Option.some (Jvm.ClassFile.FieldType.object "java/util/List"))) ∈ lw_all := lw_g (lw_at lw_m11 67 rfl) rfl
theorem q2568 : (Jvm.Cond.classLink "SleeperRailway$Journeys" (148 : Nat) "java/util/ArrayList") ∈ lw_all := lw_g (lw_at lw_m11 68 rfl) rfl
theorem q2569 : (Jvm.Cond.methodLink "SleeperRailway$Journeys" (150 : Nat) ({ cls := "java/util/ArrayList", name := "<init>", desc := "()V" } : Jvm.MethodName)) ∈ lw_all := lw_g (lw_at lw_m11 69 rfl) rfl
theorem q2570 : (Jvm.Cond.methodLink "SleeperRailway$Journeys" (151 : Nat) ({ cls := "SleeperRailway$Journeys", name := "lastLeg", desc := "(I)LSleeperRailway$Leg;" } : Jvm.MethodName)) ∈ lw_all := lw_g (lw_at lw_m11 70 rfl) rfl
theorem q2571 : (Jvm.Cond.privateMethod ({ cls := "SleeperRailway$Journeys", name := "lastLeg", desc := "(I)LSleeperRailway$Leg;" } : Jvm.MethodName)) ∈ lw_tbl := lw_at lw_m11 71 rfl
theorem q2572 : (Jvm.Cond.instanceMethod ({ cls := "SleeperRailway$Journeys", name := "lastLeg", desc := "(I)LSleeperRailway$Leg;" } : Jvm.MethodName)) ∈ lw_all := lw_g (lw_at lw_m11 72 rfl) rfl
theorem q2573 : (Jvm.Cond.code ({ cls := "SleeperRailway$Journeys", name := "lastLeg", desc := "(I)LSleeperRailway$Leg;" } : Jvm.MethodName) prog_10_method_11_code (5 : Nat) (Option.some (Jvm.ClassFile.FieldType.object "SleeperRailway$Leg"))) ∈ lw_all := lw_g (lw_at lw_m11 73 rfl) rfl
theorem q2574 : (Jvm.Cond.classLink "SleeperRailway$Journeys" (156 : Nat) "java/util/NoSuchElementException") ∈ lw_all := lw_g (lw_at lw_m11 74 rfl) rfl
theorem q2575 : (Jvm.Cond.methodLink "SleeperRailway$Journeys" (158 : Nat) ({ cls := "java/util/NoSuchElementException", name := "<init>", desc := "()V" } : Jvm.MethodName)) ∈ lw_all := lw_g (lw_at lw_m11 75 rfl) rfl
theorem q2576 : (Jvm.Cond.interfaceEntry "SleeperRailway$Journeys" (155 : Nat)) ∈ lw_tbl := lw_at lw_m11 76 rfl
theorem q2577 : (Jvm.Cond.methodLink "SleeperRailway$Journeys" (155 : Nat) ({ cls := "java/util/List", name := "add", desc := "(Ljava/lang/Object;)Z" } : Jvm.MethodName)) ∈ lw_all := lw_g (lw_at lw_m11 77 rfl) rfl
theorem q2966 : (Jvm.Cond.instanceMethod ({ cls := "SleeperRailway$Journeys", name := "boardings", desc := "(I)I" } : Jvm.MethodName)) ∈ lw_all := lw_g (lw_at lw_m12 226 rfl) rfl
theorem q2967 : (Jvm.Cond.selects "SleeperRailway$Journeys" ({ cls := "SleeperRailway$Journeys", name := "boardings", desc := "(I)I" } : Jvm.MethodName) ({ cls := "SleeperRailway$Journeys", name := "boardings", desc := "(I)I" } : Jvm.MethodName)) ∈ lw_all := lw_g (lw_at lw_m12 227 rfl) rfl
theorem q2968 : (Jvm.Cond.code ({ cls := "SleeperRailway$Journeys", name := "boardings", desc := "(I)I" } : Jvm.MethodName) prog_10_method_12_code (4 : Nat) (Option.some Jvm.ClassFile.FieldType.int)) ∈ lw_all := lw_g (lw_at lw_m12 228 rfl) rfl
theorem q2969 : (Jvm.Cond.methodLink "SleeperRailway$Journeys" (159 : Nat) ({ cls := "[I", name := "clone", desc := "()Ljava/lang/Object;" } : Jvm.MethodName)) ∈ lw_all := lw_g (lw_at lw_m12 229 rfl) rfl
theorem q2970 : (Jvm.Cond.classLink "SleeperRailway$Journeys" (160 : Nat) "[I") ∈ lw_all := lw_g (lw_at lw_m12 230 rfl) rfl
theorem q2971 : (Jvm.Cond.methodLink "SleeperRailway$Journeys" (163 : Nat) ({ cls := "SleeperRailway$Journeys", name := "boardOnce", desc := "([I)[I" } : Jvm.MethodName)) ∈ lw_all := lw_g (lw_at lw_m12 231 rfl) rfl
theorem q2972 : (Jvm.Cond.privateMethod ({ cls := "SleeperRailway$Journeys", name := "boardOnce", desc := "([I)[I" } : Jvm.MethodName)) ∈ lw_tbl := lw_at lw_m12 232 rfl
theorem q2973 : (Jvm.Cond.instanceMethod ({ cls := "SleeperRailway$Journeys", name := "boardOnce", desc := "([I)[I" } : Jvm.MethodName)) ∈ lw_all := lw_g (lw_at lw_m12 233 rfl) rfl
theorem q2974 : (Jvm.Cond.code ({ cls := "SleeperRailway$Journeys", name := "boardOnce", desc := "([I)[I" } : Jvm.MethodName) prog_10_method_13_code (7 : Nat) (Option.some (Jvm.ClassFile.FieldType.array Jvm.ClassFile.FieldType.int))) ∈ lw_all := lw_g (lw_at lw_m12 234 rfl) rfl
theorem q3173 : (Jvm.Cond.selects "SleeperRailway$Journeys" ({ cls := "java/lang/Object", name := "equals", desc := "(Ljava/lang/Object;)Z" } : Jvm.MethodName) ({ cls := "java/lang/Object", name := "equals", desc := "(Ljava/lang/Object;)Z" } : Jvm.MethodName)) ∈ lw_all := lw_g (lw_at lw_m13 193 rfl) rfl
theorem q3478 : (Jvm.Cond.selects "SleeperRailway$Journeys" ({ cls := "java/lang/Object", name := "toString", desc := "()Ljava/lang/String;" } : Jvm.MethodName) ({ cls := "java/lang/Object", name := "toString", desc := "()Ljava/lang/String;" } : Jvm.MethodName)) ∈ lw_all := lw_g (lw_at lw_m15 18 rfl) rfl
theorem q4267 : (Jvm.Cond.castable "SleeperRailway$Journeys" "java/lang/Object") ∈ lw_tbl := lw_at lw_m18 87 rfl
theorem in_X12 : ∀ w ∈ wsX120, w ∈ lw_all := lw_in wsX120 [1263, 1265, 1267, 1269, 1271, 1273, 1275] (by decide +kernel) (by decide +kernel)
/-! SleeperRailway$ByDeparture -/
set_option maxRecDepth 100000
def RX13 : String := "SleeperRailway$ByDeparture"
abbrev cX13_compare : ByteArray := prog_4_method_3_code
def yX13_compare : MethodName := ⟨RX13, "compare", "(Ljava/lang/Object;Ljava/lang/Object;)I"⟩
def dkwX13_compare_0 : List UInt8 := [42, 43, 192, 0, 10, 44, 192, 0, 10, 182, 0, 21, 172]
abbrev dktX13_compare_0 : List UInt8 := dkwX13_compare_0 ++ []
theorem dksX13_compare_0 : cX13_compare.data.toList.drop 0 = dktX13_compare_0 := by decide +kernel
theorem dX13_compare_0 : decode cX13_compare 0 = .ok (.aload_n 0, 1) := dk_42 (dk_at dksX13_compare_0 0 rfl rfl)
theorem dX13_compare_1 : decode cX13_compare 1 = .ok (.aload_n 1, 1) := dk_43 (dk_at dksX13_compare_0 1 rfl rfl)
theorem dX13_compare_2 : decode cX13_compare 2 = .ok (.checkcast 10, 3) := dk_192 0 10 (dk_at dksX13_compare_0 2 rfl rfl)
theorem dX13_compare_5 : decode cX13_compare 5 = .ok (.aload_n 2, 1) := dk_44 (dk_at dksX13_compare_0 5 rfl rfl)
theorem dX13_compare_6 : decode cX13_compare 6 = .ok (.checkcast 10, 3) := dk_192 0 10 (dk_at dksX13_compare_0 6 rfl rfl)
theorem dX13_compare_9 : decode cX13_compare 9 = .ok (.invokevirtual 21, 3) := dk_182 0 21 (dk_at dksX13_compare_0 9 rfl rfl)
theorem dX13_compare_12 : decode cX13_compare 12 = .ok (.ireturn, 1) := dk_172 (dk_at dksX13_compare_0 12 rfl rfl)
abbrev cX13_compare_2 : ByteArray := prog_4_method_2_code
def yX13_compare_2 : MethodName := ⟨RX13, "compare", "(LSleeperRailway$Leg;LSleeperRailway$Leg;)I"⟩
def dkwX13_compare_2_1 : List UInt8 := [182, 0, 15, 44, 182, 0, 15, 100, 104, 43, 182, 0, 18, 96, 44, 182, 0, 18, 100, 172]
abbrev dktX13_compare_2_1 : List UInt8 := dkwX13_compare_2_1 ++ []
def dkwX13_compare_2_0 : List UInt8 := [43, 182, 0, 9, 44, 182, 0, 9, 159, 0, 13, 43, 182, 0, 9, 44, 182, 0, 9, 100, 172, 16, 8, 43]
abbrev dktX13_compare_2_0 : List UInt8 := dkwX13_compare_2_0 ++ dktX13_compare_2_1
theorem dksX13_compare_2_0 : cX13_compare_2.data.toList.drop 0 = dktX13_compare_2_0 := by decide +kernel
theorem dksX13_compare_2_1 : cX13_compare_2.data.toList.drop 24 = dktX13_compare_2_1 := dk_seg dksX13_compare_2_0 24 rfl rfl
theorem dX13_compare_2_0 : decode cX13_compare_2 0 = .ok (.aload_n 1, 1) := dk_43 (dk_at dksX13_compare_2_0 0 rfl rfl)
theorem dX13_compare_2_1 : decode cX13_compare_2 1 = .ok (.invokevirtual 9, 3) := dk_182 0 9 (dk_at dksX13_compare_2_0 1 rfl rfl)
theorem dX13_compare_2_4 : decode cX13_compare_2 4 = .ok (.aload_n 2, 1) := dk_44 (dk_at dksX13_compare_2_0 4 rfl rfl)
theorem dX13_compare_2_5 : decode cX13_compare_2 5 = .ok (.invokevirtual 9, 3) := dk_182 0 9 (dk_at dksX13_compare_2_0 5 rfl rfl)
theorem dX13_compare_2_8 : decode cX13_compare_2 8 = .ok (.if_icmp .eq 13, 3) := dk_159 0 13 (dk_at dksX13_compare_2_0 8 rfl rfl)
theorem dX13_compare_2_11 : decode cX13_compare_2 11 = .ok (.aload_n 1, 1) := dk_43 (dk_at dksX13_compare_2_0 11 rfl rfl)
theorem dX13_compare_2_12 : decode cX13_compare_2 12 = .ok (.invokevirtual 9, 3) := dk_182 0 9 (dk_at dksX13_compare_2_0 12 rfl rfl)
theorem dX13_compare_2_15 : decode cX13_compare_2 15 = .ok (.aload_n 2, 1) := dk_44 (dk_at dksX13_compare_2_0 15 rfl rfl)
theorem dX13_compare_2_16 : decode cX13_compare_2 16 = .ok (.invokevirtual 9, 3) := dk_182 0 9 (dk_at dksX13_compare_2_0 16 rfl rfl)
theorem dX13_compare_2_19 : decode cX13_compare_2 19 = .ok (.isub, 1) := dk_100 (dk_at dksX13_compare_2_0 19 rfl rfl)
theorem dX13_compare_2_20 : decode cX13_compare_2 20 = .ok (.ireturn, 1) := dk_172 (dk_at dksX13_compare_2_0 20 rfl rfl)
theorem dX13_compare_2_21 : decode cX13_compare_2 21 = .ok (.bipush 8, 2) := dk_16 8 (dk_at dksX13_compare_2_0 21 rfl rfl)
theorem dX13_compare_2_23 : decode cX13_compare_2 23 = .ok (.aload_n 1, 1) := dk_43 (dk_at dksX13_compare_2_0 23 rfl rfl)
theorem dX13_compare_2_24 : decode cX13_compare_2 24 = .ok (.invokevirtual 15, 3) := dk_182 0 15 (dk_at dksX13_compare_2_1 0 rfl rfl)
theorem dX13_compare_2_27 : decode cX13_compare_2 27 = .ok (.aload_n 2, 1) := dk_44 (dk_at dksX13_compare_2_1 3 rfl rfl)
theorem dX13_compare_2_28 : decode cX13_compare_2 28 = .ok (.invokevirtual 15, 3) := dk_182 0 15 (dk_at dksX13_compare_2_1 4 rfl rfl)
theorem dX13_compare_2_31 : decode cX13_compare_2 31 = .ok (.isub, 1) := dk_100 (dk_at dksX13_compare_2_1 7 rfl rfl)
theorem dX13_compare_2_32 : decode cX13_compare_2 32 = .ok (.imul, 1) := dk_104 (dk_at dksX13_compare_2_1 8 rfl rfl)
theorem dX13_compare_2_33 : decode cX13_compare_2 33 = .ok (.aload_n 1, 1) := dk_43 (dk_at dksX13_compare_2_1 9 rfl rfl)
theorem dX13_compare_2_34 : decode cX13_compare_2 34 = .ok (.invokevirtual 18, 3) := dk_182 0 18 (dk_at dksX13_compare_2_1 10 rfl rfl)
theorem dX13_compare_2_37 : decode cX13_compare_2 37 = .ok (.iadd, 1) := dk_96 (dk_at dksX13_compare_2_1 13 rfl rfl)
theorem dX13_compare_2_38 : decode cX13_compare_2 38 = .ok (.aload_n 2, 1) := dk_44 (dk_at dksX13_compare_2_1 14 rfl rfl)
theorem dX13_compare_2_39 : decode cX13_compare_2 39 = .ok (.invokevirtual 18, 3) := dk_182 0 18 (dk_at dksX13_compare_2_1 15 rfl rfl)
theorem dX13_compare_2_42 : decode cX13_compare_2 42 = .ok (.isub, 1) := dk_100 (dk_at dksX13_compare_2_1 18 rfl rfl)
theorem dX13_compare_2_43 : decode cX13_compare_2 43 = .ok (.ireturn, 1) := dk_172 (dk_at dksX13_compare_2_1 19 rfl rfl)
abbrev cX13_init : ByteArray := prog_4_method_1_code
def yX13_init : MethodName := ⟨RX13, "<init>", "()V"⟩
theorem dX13_init_0 : decode cX13_init 0 = .ok (.aload_n 0, 1) := by decide +kernel
theorem dX13_init_1 : decode cX13_init 1 = .ok (.invokespecial 3, 3) := by decide +kernel
theorem dX13_init_4 : decode cX13_init 4 = .ok (.return_, 1) := by decide +kernel
theorem q159 : (Jvm.Cond.initialized "SleeperRailway$ByDeparture") ∈ lw_all := lw_g (lw_at lw_m1 59 rfl) rfl
theorem q992 : (Jvm.Cond.selects "SleeperRailway$ByDeparture" ({ cls := "java/lang/Object", name := "getClass", desc := "()Ljava/lang/Class;" } : Jvm.MethodName) ({ cls := "java/lang/Object", name := "getClass", desc := "()Ljava/lang/Class;" } : Jvm.MethodName)) ∈ lw_all := lw_g (lw_at lw_m4 172 rfl) rfl
theorem q1515 : (Jvm.Cond.castable "SleeperRailway$ByDeparture" "java/util/Comparator") ∈ lw_tbl := lw_at lw_m6 215 rfl
theorem q1516 : (Jvm.Cond.selects "SleeperRailway$ByDeparture" ({ cls := "java/util/Comparator", name := "compare", desc := "(Ljava/lang/Object;Ljava/lang/Object;)I" } : Jvm.MethodName) ({ cls := "SleeperRailway$ByDeparture", name := "compare", desc := "(Ljava/lang/Object;Ljava/lang/Object;)I" } : Jvm.MethodName)) ∈ lw_all := lw_g (lw_at lw_m6 216 rfl) rfl
theorem q1517 : (Jvm.Cond.unhidden "SleeperRailway$ByDeparture" "compare" "(Ljava/lang/Object;Ljava/lang/Object;)I") ∈ lw_tbl := lw_at lw_m6 217 rfl
theorem q1518 : (Jvm.Cond.instanceMethod ({ cls := "SleeperRailway$ByDeparture", name := "compare", desc := "(Ljava/lang/Object;Ljava/lang/Object;)I" } : Jvm.MethodName)) ∈ lw_all := lw_g (lw_at lw_m6 218 rfl) rfl
theorem q1519 : (Jvm.Cond.publicMethod ({ cls := "SleeperRailway$ByDeparture", name := "compare", desc := "(Ljava/lang/Object;Ljava/lang/Object;)I" } : Jvm.MethodName)) ∈ lw_tbl := lw_at lw_m6 219 rfl
theorem q1520 : (Jvm.Cond.code ({ cls := "SleeperRailway$ByDeparture", name := "compare", desc := "(Ljava/lang/Object;Ljava/lang/Object;)I" } : Jvm.MethodName) prog_4_method_3_code (3 : Nat) (Option.some Jvm.ClassFile.FieldType.int)) ∈ lw_all := lw_g (lw_at lw_m6 220 rfl) rfl
theorem q1521 : (Jvm.Cond.classLink "SleeperRailway$ByDeparture" (10 : Nat) "SleeperRailway$Leg") ∈ lw_all := lw_g (lw_at lw_m6 221 rfl) rfl
theorem q1522 : (Jvm.Cond.methodLink "SleeperRailway$ByDeparture" (21 : Nat) ({ cls := "SleeperRailway$ByDeparture", name := "compare", desc := "(LSleeperRailway$Leg;LSleeperRailway$Leg;)I" } : Jvm.MethodName)) ∈ lw_all := lw_g (lw_at lw_m6 222 rfl) rfl
theorem q1523 : (Jvm.Cond.instanceMethod ({ cls := "SleeperRailway$ByDeparture", name := "compare", desc := "(LSleeperRailway$Leg;LSleeperRailway$Leg;)I" } : Jvm.MethodName)) ∈ lw_all := lw_g (lw_at lw_m6 223 rfl) rfl
theorem q1524 : (Jvm.Cond.selects "SleeperRailway$ByDeparture" ({ cls := "SleeperRailway$ByDeparture", name := "compare", desc := "(LSleeperRailway$Leg;LSleeperRailway$Leg;)I" } : Jvm.MethodName) ({ cls := "SleeperRailway$ByDeparture", name := "compare", desc := "(LSleeperRailway$Leg;LSleeperRailway$Leg;)I" } : Jvm.MethodName)) ∈ lw_all := lw_g (lw_at lw_m6 224 rfl) rfl
theorem q1525 : (Jvm.Cond.code ({ cls := "SleeperRailway$ByDeparture", name := "compare", desc := "(LSleeperRailway$Leg;LSleeperRailway$Leg;)I" } : Jvm.MethodName) prog_4_method_2_code (3 : Nat) (Option.some Jvm.ClassFile.FieldType.int)) ∈ lw_all := lw_g (lw_at lw_m6 225 rfl) rfl
theorem q1526 : (Jvm.Cond.methodLink "SleeperRailway$ByDeparture" (9 : Nat) ({ cls := "SleeperRailway$Leg", name := "departure", desc := "()I" } : Jvm.MethodName)) ∈ lw_all := lw_g (lw_at lw_m6 226 rfl) rfl
theorem q1527 : (Jvm.Cond.methodLink "SleeperRailway$ByDeparture" (15 : Nat) ({ cls := "SleeperRailway$Leg", name := "train", desc := "()I" } : Jvm.MethodName)) ∈ lw_all := lw_g (lw_at lw_m6 227 rfl) rfl
theorem q1528 : (Jvm.Cond.methodLink "SleeperRailway$ByDeparture" (18 : Nat) ({ cls := "SleeperRailway$Leg", name := "number", desc := "()I" } : Jvm.MethodName)) ∈ lw_all := lw_g (lw_at lw_m6 228 rfl) rfl
theorem q1813 : (Jvm.Cond.instantiable "SleeperRailway$ByDeparture" (0 : Nat)) ∈ lw_all := lw_g (lw_at lw_m8 33 rfl) rfl
theorem q1815 : (Jvm.Cond.instanceMethod ({ cls := "SleeperRailway$ByDeparture", name := "<init>", desc := "()V" } : Jvm.MethodName)) ∈ lw_all := lw_g (lw_at lw_m8 35 rfl) rfl
theorem q1816 : (Jvm.Cond.code ({ cls := "SleeperRailway$ByDeparture", name := "<init>", desc := "()V" } : Jvm.MethodName) prog_4_method_1_code (1 : Nat) (Option.none : Option Jvm.ClassFile.FieldType)) ∈ lw_all := lw_g (lw_at lw_m8 36 rfl) rfl
theorem q1817 : (Jvm.Cond.methodLink "SleeperRailway$ByDeparture" (3 : Nat) ({ cls := "java/lang/Object", name := "<init>", desc := "()V" } : Jvm.MethodName)) ∈ lw_all := lw_g (lw_at lw_m8 37 rfl) rfl
theorem q1818 : (Jvm.Cond.superclass "SleeperRailway$ByDeparture" "java/lang/Object") ∈ lw_all := lw_g (lw_at lw_m8 38 rfl) rfl
theorem q3168 : (Jvm.Cond.selects "SleeperRailway$ByDeparture" ({ cls := "java/lang/Object", name := "equals", desc := "(Ljava/lang/Object;)Z" } : Jvm.MethodName) ({ cls := "java/lang/Object", name := "equals", desc := "(Ljava/lang/Object;)Z" } : Jvm.MethodName)) ∈ lw_all := lw_g (lw_at lw_m13 188 rfl) rfl
theorem q3473 : (Jvm.Cond.selects "SleeperRailway$ByDeparture" ({ cls := "java/lang/Object", name := "toString", desc := "()Ljava/lang/String;" } : Jvm.MethodName) ({ cls := "java/lang/Object", name := "toString", desc := "()Ljava/lang/String;" } : Jvm.MethodName)) ∈ lw_all := lw_g (lw_at lw_m15 13 rfl) rfl
theorem q4268 : (Jvm.Cond.castable "SleeperRailway$ByDeparture" "java/lang/Object") ∈ lw_tbl := lw_at lw_m18 88 rfl
/-! SleeperRailway$Booking -/
set_option maxRecDepth 100000
def RX14 : String := "SleeperRailway$Booking"
def TX14 : u_T := fun k => match k with
  | 0 => ("SleeperRailway$Booking", "id", "I", true)
  | 1 => ("SleeperRailway$Booking", "train", "I", true)
  | 2 => ("SleeperRailway$Booking", "first", "I", true)
  | _ => ("SleeperRailway$Booking", "last", "I", true)
def tyX14 : Nat → FieldType := fun k => match k with
  | 0 => .int
  | 1 => .int
  | 2 => .int
  | _ => .int
abbrev wsX140 : List Cond := u_ws RX14 TX14 4
theorem nmX14 : ∀ a, a < 4 → ∀ b, b < 4 → a ≠ b → (TX14 a).2.1 ≠ (TX14 b).2.1 := by decide +kernel
theorem tyX14_ok : ∀ k, k < 4 → parseFieldDescriptor (TX14 k).2.2.1 = some (tyX14 k) := by decide +kernel
abbrev cX14_isAheadOf : ByteArray := prog_3_method_2_code
def yX14_isAheadOf : MethodName := ⟨RX14, "isAheadOf", "(LSleeperRailway$Booking;)Z"⟩
def dkwX14_isAheadOf_1 : List UInt8 := [180, 0, 7, 43, 180, 0, 7, 162, 0, 7, 4, 167, 0, 4, 3, 172]
abbrev dktX14_isAheadOf_1 : List UInt8 := dkwX14_isAheadOf_1 ++ []
def dkwX14_isAheadOf_0 : List UInt8 := [42, 180, 0, 16, 43, 180, 0, 16, 161, 0, 25, 42, 180, 0, 16, 43, 180, 0, 16, 160, 0, 18, 42]
abbrev dktX14_isAheadOf_0 : List UInt8 := dkwX14_isAheadOf_0 ++ dktX14_isAheadOf_1
theorem dksX14_isAheadOf_0 : cX14_isAheadOf.data.toList.drop 0 = dktX14_isAheadOf_0 := by decide +kernel
theorem dksX14_isAheadOf_1 : cX14_isAheadOf.data.toList.drop 23 = dktX14_isAheadOf_1 := dk_seg dksX14_isAheadOf_0 23 rfl rfl
theorem dX14_isAheadOf_0 : decode cX14_isAheadOf 0 = .ok (.aload_n 0, 1) := dk_42 (dk_at dksX14_isAheadOf_0 0 rfl rfl)
theorem dX14_isAheadOf_1 : decode cX14_isAheadOf 1 = .ok (.getfield 16, 3) := dk_180 0 16 (dk_at dksX14_isAheadOf_0 1 rfl rfl)
theorem dX14_isAheadOf_4 : decode cX14_isAheadOf 4 = .ok (.aload_n 1, 1) := dk_43 (dk_at dksX14_isAheadOf_0 4 rfl rfl)
theorem dX14_isAheadOf_5 : decode cX14_isAheadOf 5 = .ok (.getfield 16, 3) := dk_180 0 16 (dk_at dksX14_isAheadOf_0 5 rfl rfl)
theorem dX14_isAheadOf_8 : decode cX14_isAheadOf 8 = .ok (.if_icmp .lt 25, 3) := dk_161 0 25 (dk_at dksX14_isAheadOf_0 8 rfl rfl)
theorem dX14_isAheadOf_11 : decode cX14_isAheadOf 11 = .ok (.aload_n 0, 1) := dk_42 (dk_at dksX14_isAheadOf_0 11 rfl rfl)
theorem dX14_isAheadOf_12 : decode cX14_isAheadOf 12 = .ok (.getfield 16, 3) := dk_180 0 16 (dk_at dksX14_isAheadOf_0 12 rfl rfl)
theorem dX14_isAheadOf_15 : decode cX14_isAheadOf 15 = .ok (.aload_n 1, 1) := dk_43 (dk_at dksX14_isAheadOf_0 15 rfl rfl)
theorem dX14_isAheadOf_16 : decode cX14_isAheadOf 16 = .ok (.getfield 16, 3) := dk_180 0 16 (dk_at dksX14_isAheadOf_0 16 rfl rfl)
theorem dX14_isAheadOf_19 : decode cX14_isAheadOf 19 = .ok (.if_icmp .ne 18, 3) := dk_160 0 18 (dk_at dksX14_isAheadOf_0 19 rfl rfl)
theorem dX14_isAheadOf_22 : decode cX14_isAheadOf 22 = .ok (.aload_n 0, 1) := dk_42 (dk_at dksX14_isAheadOf_0 22 rfl rfl)
theorem dX14_isAheadOf_23 : decode cX14_isAheadOf 23 = .ok (.getfield 7, 3) := dk_180 0 7 (dk_at dksX14_isAheadOf_1 0 rfl rfl)
theorem dX14_isAheadOf_26 : decode cX14_isAheadOf 26 = .ok (.aload_n 1, 1) := dk_43 (dk_at dksX14_isAheadOf_1 3 rfl rfl)
theorem dX14_isAheadOf_27 : decode cX14_isAheadOf 27 = .ok (.getfield 7, 3) := dk_180 0 7 (dk_at dksX14_isAheadOf_1 4 rfl rfl)
theorem dX14_isAheadOf_30 : decode cX14_isAheadOf 30 = .ok (.if_icmp .ge 7, 3) := dk_162 0 7 (dk_at dksX14_isAheadOf_1 7 rfl rfl)
theorem dX14_isAheadOf_33 : decode cX14_isAheadOf 33 = .ok (.iconst 1, 1) := dk_4 (dk_at dksX14_isAheadOf_1 10 rfl rfl)
theorem dX14_isAheadOf_34 : decode cX14_isAheadOf 34 = .ok (.goto 4, 3) := dk_167 0 4 (dk_at dksX14_isAheadOf_1 11 rfl rfl)
theorem dX14_isAheadOf_37 : decode cX14_isAheadOf 37 = .ok (.iconst 0, 1) := dk_3 (dk_at dksX14_isAheadOf_1 14 rfl rfl)
theorem dX14_isAheadOf_38 : decode cX14_isAheadOf 38 = .ok (.ireturn, 1) := dk_172 (dk_at dksX14_isAheadOf_1 15 rfl rfl)
abbrev cX14_init : ByteArray := prog_3_method_1_code
def yX14_init : MethodName := ⟨RX14, "<init>", "(IIII)V"⟩
def dkwX14_init_1 : List UInt8 := [181, 0, 19, 177]
abbrev dktX14_init_1 : List UInt8 := dkwX14_init_1 ++ []
def dkwX14_init_0 : List UInt8 := [42, 183, 0, 1, 42, 27, 181, 0, 7, 42, 28, 181, 0, 13, 42, 29, 181, 0, 16, 42, 21, 4]
abbrev dktX14_init_0 : List UInt8 := dkwX14_init_0 ++ dktX14_init_1
theorem dksX14_init_0 : cX14_init.data.toList.drop 0 = dktX14_init_0 := by decide +kernel
theorem dksX14_init_1 : cX14_init.data.toList.drop 22 = dktX14_init_1 := dk_seg dksX14_init_0 22 rfl rfl
theorem dX14_init_0 : decode cX14_init 0 = .ok (.aload_n 0, 1) := dk_42 (dk_at dksX14_init_0 0 rfl rfl)
theorem dX14_init_1 : decode cX14_init 1 = .ok (.invokespecial 1, 3) := dk_183 0 1 (dk_at dksX14_init_0 1 rfl rfl)
theorem dX14_init_4 : decode cX14_init 4 = .ok (.aload_n 0, 1) := dk_42 (dk_at dksX14_init_0 4 rfl rfl)
theorem dX14_init_5 : decode cX14_init 5 = .ok (.iload_n 1, 1) := dk_27 (dk_at dksX14_init_0 5 rfl rfl)
theorem dX14_init_6 : decode cX14_init 6 = .ok (.putfield 7, 3) := dk_181 0 7 (dk_at dksX14_init_0 6 rfl rfl)
theorem dX14_init_9 : decode cX14_init 9 = .ok (.aload_n 0, 1) := dk_42 (dk_at dksX14_init_0 9 rfl rfl)
theorem dX14_init_10 : decode cX14_init 10 = .ok (.iload_n 2, 1) := dk_28 (dk_at dksX14_init_0 10 rfl rfl)
theorem dX14_init_11 : decode cX14_init 11 = .ok (.putfield 13, 3) := dk_181 0 13 (dk_at dksX14_init_0 11 rfl rfl)
theorem dX14_init_14 : decode cX14_init 14 = .ok (.aload_n 0, 1) := dk_42 (dk_at dksX14_init_0 14 rfl rfl)
theorem dX14_init_15 : decode cX14_init 15 = .ok (.iload_n 3, 1) := dk_29 (dk_at dksX14_init_0 15 rfl rfl)
theorem dX14_init_16 : decode cX14_init 16 = .ok (.putfield 16, 3) := dk_181 0 16 (dk_at dksX14_init_0 16 rfl rfl)
theorem dX14_init_19 : decode cX14_init 19 = .ok (.aload_n 0, 1) := dk_42 (dk_at dksX14_init_0 19 rfl rfl)
theorem dX14_init_20 : decode cX14_init 20 = .ok (.iload 4, 2) := dk_21 4 (dk_at dksX14_init_0 20 rfl rfl)
theorem dX14_init_22 : decode cX14_init 22 = .ok (.putfield 19, 3) := dk_181 0 19 (dk_at dksX14_init_1 0 rfl rfl)
theorem dX14_init_25 : decode cX14_init 25 = .ok (.return_, 1) := dk_177 (dk_at dksX14_init_1 3 rfl rfl)
theorem q160 : (Jvm.Cond.initialized "SleeperRailway$Booking") ∈ lw_all := lw_g (lw_at lw_m1 60 rfl) rfl
theorem q991 : (Jvm.Cond.selects "SleeperRailway$Booking" ({ cls := "java/lang/Object", name := "getClass", desc := "()Ljava/lang/Class;" } : Jvm.MethodName) ({ cls := "java/lang/Object", name := "getClass", desc := "()Ljava/lang/Class;" } : Jvm.MethodName)) ∈ lw_all := lw_g (lw_at lw_m4 171 rfl) rfl
theorem q2042 : (Jvm.Cond.instanceMethod ({ cls := "SleeperRailway$Booking", name := "isAheadOf", desc := "(LSleeperRailway$Booking;)Z" } : Jvm.MethodName)) ∈ lw_all := lw_g (lw_at lw_m9 22 rfl) rfl
theorem q2043 : (Jvm.Cond.selects "SleeperRailway$Booking" ({ cls := "SleeperRailway$Booking", name := "isAheadOf", desc := "(LSleeperRailway$Booking;)Z" } : Jvm.MethodName) ({ cls := "SleeperRailway$Booking", name := "isAheadOf", desc := "(LSleeperRailway$Booking;)Z" } : Jvm.MethodName)) ∈ lw_all := lw_g (lw_at lw_m9 23 rfl) rfl
theorem q2044 : (Jvm.Cond.code ({ cls := "SleeperRailway$Booking", name := "isAheadOf", desc := "(LSleeperRailway$Booking;)Z" } : Jvm.MethodName) prog_3_method_2_code (2 : Nat) (Option.some Jvm.ClassFile.FieldType.boolean)) ∈ lw_all := lw_g (lw_at lw_m9 24 rfl) rfl
theorem q2601 : (Jvm.Cond.instantiable "SleeperRailway$Booking" (4 : Nat)) ∈ lw_all := lw_g (lw_at lw_m11 101 rfl) rfl
theorem q2603 : (Jvm.Cond.instanceMethod ({ cls := "SleeperRailway$Booking", name := "<init>", desc := "(IIII)V" } : Jvm.MethodName)) ∈ lw_all := lw_g (lw_at lw_m11 103 rfl) rfl
theorem q2604 : (Jvm.Cond.code ({ cls := "SleeperRailway$Booking", name := "<init>", desc := "(IIII)V" } : Jvm.MethodName) prog_3_method_1_code (5 : Nat) (Option.none : Option Jvm.ClassFile.FieldType)) ∈ lw_all := lw_g (lw_at lw_m11 104 rfl) rfl
theorem q2605 : (Jvm.Cond.methodLink "SleeperRailway$Booking" (1 : Nat) ({ cls := "java/lang/Object", name := "<init>", desc := "()V" } : Jvm.MethodName)) ∈ lw_all := lw_g (lw_at lw_m11 105 rfl) rfl
theorem q2606 : (Jvm.Cond.fieldLink "SleeperRailway$Booking" (7 : Nat) "SleeperRailway$Booking" "id" "I") ∈ lw_all := lw_g (lw_at lw_m11 106 rfl) rfl
theorem q2609 : (Jvm.Cond.fieldLink "SleeperRailway$Booking" (13 : Nat) "SleeperRailway$Booking" "train" "I") ∈ lw_all := lw_g (lw_at lw_m11 109 rfl) rfl
theorem q2612 : (Jvm.Cond.fieldLink "SleeperRailway$Booking" (16 : Nat) "SleeperRailway$Booking" "first" "I") ∈ lw_all := lw_g (lw_at lw_m11 112 rfl) rfl
theorem q2615 : (Jvm.Cond.fieldLink "SleeperRailway$Booking" (19 : Nat) "SleeperRailway$Booking" "last" "I") ∈ lw_all := lw_g (lw_at lw_m11 115 rfl) rfl
theorem q2618 : (Jvm.Cond.laysFinal "SleeperRailway$Booking" "SleeperRailway$Booking" "id" "I") ∈ lw_all := lw_g (lw_at lw_m11 118 rfl) rfl
theorem q2619 : (Jvm.Cond.soleField "SleeperRailway$Booking" "id") ∈ lw_all := lw_g (lw_at lw_m11 119 rfl) rfl
theorem q2620 : (Jvm.Cond.laysFinal "SleeperRailway$Booking" "SleeperRailway$Booking" "train" "I") ∈ lw_all := lw_g (lw_at lw_m11 120 rfl) rfl
theorem q2621 : (Jvm.Cond.soleField "SleeperRailway$Booking" "train") ∈ lw_all := lw_g (lw_at lw_m11 121 rfl) rfl
theorem q2622 : (Jvm.Cond.laysFinal "SleeperRailway$Booking" "SleeperRailway$Booking" "first" "I") ∈ lw_all := lw_g (lw_at lw_m11 122 rfl) rfl
theorem q2623 : (Jvm.Cond.soleField "SleeperRailway$Booking" "first") ∈ lw_all := lw_g (lw_at lw_m11 123 rfl) rfl
theorem q2624 : (Jvm.Cond.laysFinal "SleeperRailway$Booking" "SleeperRailway$Booking" "last" "I") ∈ lw_all := lw_g (lw_at lw_m11 124 rfl) rfl
theorem q2625 : (Jvm.Cond.soleField "SleeperRailway$Booking" "last") ∈ lw_all := lw_g (lw_at lw_m11 125 rfl) rfl
theorem q2626 : (Jvm.Cond.superclass "SleeperRailway$Booking" "java/lang/Object") ∈ lw_all := lw_g (lw_at lw_m11 126 rfl) rfl
theorem q3167 : (Jvm.Cond.selects "SleeperRailway$Booking" ({ cls := "java/lang/Object", name := "equals", desc := "(Ljava/lang/Object;)Z" } : Jvm.MethodName) ({ cls := "java/lang/Object", name := "equals", desc := "(Ljava/lang/Object;)Z" } : Jvm.MethodName)) ∈ lw_all := lw_g (lw_at lw_m13 187 rfl) rfl
theorem q3472 : (Jvm.Cond.selects "SleeperRailway$Booking" ({ cls := "java/lang/Object", name := "toString", desc := "()Ljava/lang/String;" } : Jvm.MethodName) ({ cls := "java/lang/Object", name := "toString", desc := "()Ljava/lang/String;" } : Jvm.MethodName)) ∈ lw_all := lw_g (lw_at lw_m15 12 rfl) rfl
theorem q4269 : (Jvm.Cond.castable "SleeperRailway$Booking" "java/lang/Object") ∈ lw_tbl := lw_at lw_m18 89 rfl
theorem in_X14 : ∀ w ∈ wsX140, w ∈ lw_all := lw_in wsX140 [2618, 2620, 2622, 2624] (by decide +kernel) (by decide +kernel)
/-! SleeperRailway$Event -/
set_option maxRecDepth 100000
def RX15 : String := "SleeperRailway$Event"
def TX15 : u_T := fun k => match k with
  | _ => ("SleeperRailway$Event", "leg", "LSleeperRailway$Leg;", true)
def tyX15 : Nat → FieldType := fun k => match k with
  | _ => .object "SleeperRailway$Leg"
abbrev wsX150 : List Cond := u_ws RX15 TX15 1
theorem nmX15 : ∀ a, a < 1 → ∀ b, b < 1 → a ≠ b → (TX15 a).2.1 ≠ (TX15 b).2.1 := by decide +kernel
theorem tyX15_ok : ∀ k, k < 1 → parseFieldDescriptor (TX15 k).2.2.1 = some (tyX15 k) := by decide +kernel
abbrev cX15_init : ByteArray := prog_8_method_1_code
def yX15_init : MethodName := ⟨RX15, "<init>", "(LSleeperRailway$Leg;)V"⟩
def dkwX15_init_0 : List UInt8 := [42, 183, 0, 1, 42, 43, 181, 0, 7, 177]
abbrev dktX15_init_0 : List UInt8 := dkwX15_init_0 ++ []
theorem dksX15_init_0 : cX15_init.data.toList.drop 0 = dktX15_init_0 := by decide +kernel
theorem dX15_init_0 : decode cX15_init 0 = .ok (.aload_n 0, 1) := dk_42 (dk_at dksX15_init_0 0 rfl rfl)
theorem dX15_init_1 : decode cX15_init 1 = .ok (.invokespecial 1, 3) := dk_183 0 1 (dk_at dksX15_init_0 1 rfl rfl)
theorem dX15_init_4 : decode cX15_init 4 = .ok (.aload_n 0, 1) := dk_42 (dk_at dksX15_init_0 4 rfl rfl)
theorem dX15_init_5 : decode cX15_init 5 = .ok (.aload_n 1, 1) := dk_43 (dk_at dksX15_init_0 5 rfl rfl)
theorem dX15_init_6 : decode cX15_init 6 = .ok (.putfield 7, 3) := dk_181 0 7 (dk_at dksX15_init_0 6 rfl rfl)
theorem dX15_init_9 : decode cX15_init 9 = .ok (.return_, 1) := dk_177 (dk_at dksX15_init_0 9 rfl rfl)
abbrev cX15_compareTo : ByteArray := prog_8_method_3_code
def yX15_compareTo : MethodName := ⟨RX15, "compareTo", "(Ljava/lang/Object;)I"⟩
def dkwX15_compareTo_0 : List UInt8 := [42, 43, 192, 0, 8, 182, 0, 22, 172]
abbrev dktX15_compareTo_0 : List UInt8 := dkwX15_compareTo_0 ++ []
theorem dksX15_compareTo_0 : cX15_compareTo.data.toList.drop 0 = dktX15_compareTo_0 := by decide +kernel
theorem dX15_compareTo_0 : decode cX15_compareTo 0 = .ok (.aload_n 0, 1) := dk_42 (dk_at dksX15_compareTo_0 0 rfl rfl)
theorem dX15_compareTo_1 : decode cX15_compareTo 1 = .ok (.aload_n 1, 1) := dk_43 (dk_at dksX15_compareTo_0 1 rfl rfl)
theorem dX15_compareTo_2 : decode cX15_compareTo 2 = .ok (.checkcast 8, 3) := dk_192 0 8 (dk_at dksX15_compareTo_0 2 rfl rfl)
theorem dX15_compareTo_5 : decode cX15_compareTo 5 = .ok (.invokevirtual 22, 3) := dk_182 0 22 (dk_at dksX15_compareTo_0 5 rfl rfl)
theorem dX15_compareTo_8 : decode cX15_compareTo 8 = .ok (.ireturn, 1) := dk_172 (dk_at dksX15_compareTo_0 8 rfl rfl)
abbrev cX15_compareTo_2 : ByteArray := prog_8_method_2_code
def yX15_compareTo_2 : MethodName := ⟨RX15, "compareTo", "(LSleeperRailway$Event;)I"⟩
def dkwX15_compareTo_2_1 : List UInt8 := [182, 0, 19, 43, 180, 0, 7, 182, 0, 19, 100, 167, 0, 4, 28, 172]
abbrev dktX15_compareTo_2_1 : List UInt8 := dkwX15_compareTo_2_1 ++ []
def dkwX15_compareTo_2_0 : List UInt8 := [42, 180, 0, 7, 182, 0, 13, 43, 180, 0, 7, 182, 0, 13, 100, 61, 28, 154, 0, 21, 42, 180, 0, 7]
abbrev dktX15_compareTo_2_0 : List UInt8 := dkwX15_compareTo_2_0 ++ dktX15_compareTo_2_1
theorem dksX15_compareTo_2_0 : cX15_compareTo_2.data.toList.drop 0 = dktX15_compareTo_2_0 := by decide +kernel
theorem dksX15_compareTo_2_1 : cX15_compareTo_2.data.toList.drop 24 = dktX15_compareTo_2_1 := dk_seg dksX15_compareTo_2_0 24 rfl rfl
theorem dX15_compareTo_2_0 : decode cX15_compareTo_2 0 = .ok (.aload_n 0, 1) := dk_42 (dk_at dksX15_compareTo_2_0 0 rfl rfl)
theorem dX15_compareTo_2_1 : decode cX15_compareTo_2 1 = .ok (.getfield 7, 3) := dk_180 0 7 (dk_at dksX15_compareTo_2_0 1 rfl rfl)
theorem dX15_compareTo_2_4 : decode cX15_compareTo_2 4 = .ok (.invokevirtual 13, 3) := dk_182 0 13 (dk_at dksX15_compareTo_2_0 4 rfl rfl)
theorem dX15_compareTo_2_7 : decode cX15_compareTo_2 7 = .ok (.aload_n 1, 1) := dk_43 (dk_at dksX15_compareTo_2_0 7 rfl rfl)
theorem dX15_compareTo_2_8 : decode cX15_compareTo_2 8 = .ok (.getfield 7, 3) := dk_180 0 7 (dk_at dksX15_compareTo_2_0 8 rfl rfl)
theorem dX15_compareTo_2_11 : decode cX15_compareTo_2 11 = .ok (.invokevirtual 13, 3) := dk_182 0 13 (dk_at dksX15_compareTo_2_0 11 rfl rfl)
theorem dX15_compareTo_2_14 : decode cX15_compareTo_2 14 = .ok (.isub, 1) := dk_100 (dk_at dksX15_compareTo_2_0 14 rfl rfl)
theorem dX15_compareTo_2_15 : decode cX15_compareTo_2 15 = .ok (.istore_n 2, 1) := dk_61 (dk_at dksX15_compareTo_2_0 15 rfl rfl)
theorem dX15_compareTo_2_16 : decode cX15_compareTo_2 16 = .ok (.iload_n 2, 1) := dk_28 (dk_at dksX15_compareTo_2_0 16 rfl rfl)
theorem dX15_compareTo_2_17 : decode cX15_compareTo_2 17 = .ok (.ifCond .ne 21, 3) := dk_154 0 21 (dk_at dksX15_compareTo_2_0 17 rfl rfl)
theorem dX15_compareTo_2_20 : decode cX15_compareTo_2 20 = .ok (.aload_n 0, 1) := dk_42 (dk_at dksX15_compareTo_2_0 20 rfl rfl)
theorem dX15_compareTo_2_21 : decode cX15_compareTo_2 21 = .ok (.getfield 7, 3) := dk_180 0 7 (dk_at dksX15_compareTo_2_0 21 rfl rfl)
theorem dX15_compareTo_2_24 : decode cX15_compareTo_2 24 = .ok (.invokevirtual 19, 3) := dk_182 0 19 (dk_at dksX15_compareTo_2_1 0 rfl rfl)
theorem dX15_compareTo_2_27 : decode cX15_compareTo_2 27 = .ok (.aload_n 1, 1) := dk_43 (dk_at dksX15_compareTo_2_1 3 rfl rfl)
theorem dX15_compareTo_2_28 : decode cX15_compareTo_2 28 = .ok (.getfield 7, 3) := dk_180 0 7 (dk_at dksX15_compareTo_2_1 4 rfl rfl)
theorem dX15_compareTo_2_31 : decode cX15_compareTo_2 31 = .ok (.invokevirtual 19, 3) := dk_182 0 19 (dk_at dksX15_compareTo_2_1 7 rfl rfl)
theorem dX15_compareTo_2_34 : decode cX15_compareTo_2 34 = .ok (.isub, 1) := dk_100 (dk_at dksX15_compareTo_2_1 10 rfl rfl)
theorem dX15_compareTo_2_35 : decode cX15_compareTo_2 35 = .ok (.goto 4, 3) := dk_167 0 4 (dk_at dksX15_compareTo_2_1 11 rfl rfl)
theorem dX15_compareTo_2_38 : decode cX15_compareTo_2 38 = .ok (.iload_n 2, 1) := dk_28 (dk_at dksX15_compareTo_2_1 14 rfl rfl)
theorem dX15_compareTo_2_39 : decode cX15_compareTo_2 39 = .ok (.ireturn, 1) := dk_172 (dk_at dksX15_compareTo_2_1 15 rfl rfl)
theorem q166 : (Jvm.Cond.initialized "SleeperRailway$Event") ∈ lw_all := lw_g (lw_at lw_m1 66 rfl) rfl
theorem q996 : (Jvm.Cond.selects "SleeperRailway$Event" ({ cls := "java/lang/Object", name := "getClass", desc := "()Ljava/lang/Class;" } : Jvm.MethodName) ({ cls := "java/lang/Object", name := "getClass", desc := "()Ljava/lang/Class;" } : Jvm.MethodName)) ∈ lw_all := lw_g (lw_at lw_m4 176 rfl) rfl
theorem q1480 : (Jvm.Cond.instantiable "SleeperRailway$Event" (1 : Nat)) ∈ lw_all := lw_g (lw_at lw_m6 180 rfl) rfl
theorem q1482 : (Jvm.Cond.instanceMethod ({ cls := "SleeperRailway$Event", name := "<init>", desc := "(LSleeperRailway$Leg;)V" } : Jvm.MethodName)) ∈ lw_all := lw_g (lw_at lw_m6 182 rfl) rfl
theorem q1483 : (Jvm.Cond.code ({ cls := "SleeperRailway$Event", name := "<init>", desc := "(LSleeperRailway$Leg;)V" } : Jvm.MethodName) prog_8_method_1_code (2 : Nat) (Option.none : Option Jvm.ClassFile.FieldType)) ∈ lw_all := lw_g (lw_at lw_m6 183 rfl) rfl
theorem q1484 : (Jvm.Cond.methodLink "SleeperRailway$Event" (1 : Nat) ({ cls := "java/lang/Object", name := "<init>", desc := "()V" } : Jvm.MethodName)) ∈ lw_all := lw_g (lw_at lw_m6 184 rfl) rfl
theorem q1485 : (Jvm.Cond.fieldLink "SleeperRailway$Event" (7 : Nat) "SleeperRailway$Event" "leg" "LSleeperRailway$Leg;") ∈ lw_all := lw_g (lw_at lw_m6 185 rfl) rfl
theorem q1487 : (Jvm.Cond.laysFinal "SleeperRailway$Event" "SleeperRailway$Event" "leg" "LSleeperRailway$Leg;") ∈ lw_all := lw_g (lw_at lw_m6 187 rfl) rfl
theorem q1488 : (Jvm.Cond.soleField "SleeperRailway$Event" "leg") ∈ lw_all := lw_g (lw_at lw_m6 188 rfl) rfl
theorem q1489 : (Jvm.Cond.superclass "SleeperRailway$Event" "java/lang/Object") ∈ lw_all := lw_g (lw_at lw_m6 189 rfl) rfl
theorem q1537 : (Jvm.Cond.castable "SleeperRailway$Event" "java/lang/Comparable") ∈ lw_tbl := lw_at lw_m6 237 rfl
theorem q1538 : (Jvm.Cond.selects "SleeperRailway$Event" ({ cls := "java/lang/Comparable", name := "compareTo", desc := "(Ljava/lang/Object;)I" } : Jvm.MethodName) ({ cls := "SleeperRailway$Event", name := "compareTo", desc := "(Ljava/lang/Object;)I" } : Jvm.MethodName)) ∈ lw_all := lw_g (lw_at lw_m6 238 rfl) rfl
theorem q1539 : (Jvm.Cond.unhidden "SleeperRailway$Event" "compareTo" "(Ljava/lang/Object;)I") ∈ lw_tbl := lw_at lw_m6 239 rfl
theorem q1540 : (Jvm.Cond.instanceMethod ({ cls := "SleeperRailway$Event", name := "compareTo", desc := "(Ljava/lang/Object;)I" } : Jvm.MethodName)) ∈ lw_all := lw_g (lw_at lw_m7 0 rfl) rfl
theorem q1541 : (Jvm.Cond.publicMethod ({ cls := "SleeperRailway$Event", name := "compareTo", desc := "(Ljava/lang/Object;)I" } : Jvm.MethodName)) ∈ lw_tbl := lw_at lw_m7 1 rfl
theorem q1542 : (Jvm.Cond.code ({ cls := "SleeperRailway$Event", name := "compareTo", desc := "(Ljava/lang/Object;)I" } : Jvm.MethodName) prog_8_method_3_code (2 : Nat) (Option.some Jvm.ClassFile.FieldType.int)) ∈ lw_all := lw_g (lw_at lw_m7 2 rfl) rfl
theorem q1543 : (Jvm.Cond.classLink "SleeperRailway$Event" (8 : Nat) "SleeperRailway$Event") ∈ lw_all := lw_g (lw_at lw_m7 3 rfl) rfl
theorem q1544 : (Jvm.Cond.methodLink "SleeperRailway$Event" (22 : Nat) ({ cls := "SleeperRailway$Event", name := "compareTo", desc := "(LSleeperRailway$Event;)I" } : Jvm.MethodName)) ∈ lw_all := lw_g (lw_at lw_m7 4 rfl) rfl
theorem q1545 : (Jvm.Cond.instanceMethod ({ cls := "SleeperRailway$Event", name := "compareTo", desc := "(LSleeperRailway$Event;)I" } : Jvm.MethodName)) ∈ lw_all := lw_g (lw_at lw_m7 5 rfl) rfl
theorem q1546 : (Jvm.Cond.selects "SleeperRailway$Event" ({ cls := "SleeperRailway$Event", name := "compareTo", desc := "(LSleeperRailway$Event;)I" } : Jvm.MethodName) ({ cls := "SleeperRailway$Event", name := "compareTo", desc := "(LSleeperRailway$Event;)I" } : Jvm.MethodName)) ∈ lw_all := lw_g (lw_at lw_m7 6 rfl) rfl
theorem q1547 : (Jvm.Cond.code ({ cls := "SleeperRailway$Event", name := "compareTo", desc := "(LSleeperRailway$Event;)I" } : Jvm.MethodName) prog_8_method_2_code (3 : Nat) (Option.some Jvm.ClassFile.FieldType.int)) ∈ lw_all := lw_g (lw_at lw_m7 7 rfl) rfl
theorem q1548 : (Jvm.Cond.methodLink "SleeperRailway$Event" (13 : Nat) ({ cls := "SleeperRailway$Leg", name := "arrival", desc := "()I" } : Jvm.MethodName)) ∈ lw_all := lw_g (lw_at lw_m7 8 rfl) rfl
theorem q1552 : (Jvm.Cond.methodLink "SleeperRailway$Event" (19 : Nat) ({ cls := "SleeperRailway$Leg", name := "hashCode", desc := "()I" } : Jvm.MethodName)) ∈ lw_all := lw_g (lw_at lw_m7 12 rfl) rfl
theorem q3172 : (Jvm.Cond.selects "SleeperRailway$Event" ({ cls := "java/lang/Object", name := "equals", desc := "(Ljava/lang/Object;)Z" } : Jvm.MethodName) ({ cls := "java/lang/Object", name := "equals", desc := "(Ljava/lang/Object;)Z" } : Jvm.MethodName)) ∈ lw_all := lw_g (lw_at lw_m13 192 rfl) rfl
theorem q3477 : (Jvm.Cond.selects "SleeperRailway$Event" ({ cls := "java/lang/Object", name := "toString", desc := "()Ljava/lang/String;" } : Jvm.MethodName) ({ cls := "java/lang/Object", name := "toString", desc := "()Ljava/lang/String;" } : Jvm.MethodName)) ∈ lw_all := lw_g (lw_at lw_m15 17 rfl) rfl
theorem q4274 : (Jvm.Cond.castable "SleeperRailway$Event" "java/lang/Object") ∈ lw_tbl := lw_at lw_m18 94 rfl
theorem in_X15 : ∀ w ∈ wsX150, w ∈ lw_all := lw_in wsX150 [1487] (by decide +kernel) (by decide +kernel)
/-! SleeperRailway$Berths -/
set_option maxRecDepth 100000
def RX16 : String := "SleeperRailway$Berths"
def TX16 : u_T := fun k => match k with
  | 0 => ("SleeperRailway$Berths", "sorted", "Ljava/util/List;", true)
  | 1 => ("SleeperRailway$Berths", "numbers", "Ljava/util/List;", true)
  | _ => ("SleeperRailway$Berths", "needed", "I", false)
def tyX16 : Nat → FieldType := fun k => match k with
  | 0 => .object "java/util/List"
  | 1 => .object "java/util/List"
  | _ => .int
abbrev wsX160 : List Cond := u_ws RX16 TX16 3
theorem nmX16 : ∀ a, a < 3 → ∀ b, b < 3 → a ≠ b → (TX16 a).2.1 ≠ (TX16 b).2.1 := by decide +kernel
theorem tyX16_ok : ∀ k, k < 3 → parseFieldDescriptor (TX16 k).2.2.1 = some (tyX16 k) := by decide +kernel
abbrev cX16_init : ByteArray := prog_2_method_1_code
def yX16_init : MethodName := ⟨RX16, "<init>", "()V"⟩
def dkwX16_init_1 : List UInt8 := [181, 0, 16, 177]
abbrev dktX16_init_1 : List UInt8 := dkwX16_init_1 ++ []
def dkwX16_init_0 : List UInt8 := [42, 183, 0, 1, 42, 187, 0, 7, 89, 183, 0, 9, 181, 0, 10, 42, 187, 0, 7, 89, 183, 0, 9]
abbrev dktX16_init_0 : List UInt8 := dkwX16_init_0 ++ dktX16_init_1
theorem dksX16_init_0 : cX16_init.data.toList.drop 0 = dktX16_init_0 := by decide +kernel
theorem dksX16_init_1 : cX16_init.data.toList.drop 23 = dktX16_init_1 := dk_seg dksX16_init_0 23 rfl rfl
theorem dX16_init_0 : decode cX16_init 0 = .ok (.aload_n 0, 1) := dk_42 (dk_at dksX16_init_0 0 rfl rfl)
theorem dX16_init_1 : decode cX16_init 1 = .ok (.invokespecial 1, 3) := dk_183 0 1 (dk_at dksX16_init_0 1 rfl rfl)
theorem dX16_init_4 : decode cX16_init 4 = .ok (.aload_n 0, 1) := dk_42 (dk_at dksX16_init_0 4 rfl rfl)
theorem dX16_init_5 : decode cX16_init 5 = .ok (.new 7, 3) := dk_187 0 7 (dk_at dksX16_init_0 5 rfl rfl)
theorem dX16_init_8 : decode cX16_init 8 = .ok (.dup, 1) := dk_89 (dk_at dksX16_init_0 8 rfl rfl)
theorem dX16_init_9 : decode cX16_init 9 = .ok (.invokespecial 9, 3) := dk_183 0 9 (dk_at dksX16_init_0 9 rfl rfl)
theorem dX16_init_12 : decode cX16_init 12 = .ok (.putfield 10, 3) := dk_181 0 10 (dk_at dksX16_init_0 12 rfl rfl)
theorem dX16_init_15 : decode cX16_init 15 = .ok (.aload_n 0, 1) := dk_42 (dk_at dksX16_init_0 15 rfl rfl)
theorem dX16_init_16 : decode cX16_init 16 = .ok (.new 7, 3) := dk_187 0 7 (dk_at dksX16_init_0 16 rfl rfl)
theorem dX16_init_19 : decode cX16_init 19 = .ok (.dup, 1) := dk_89 (dk_at dksX16_init_0 19 rfl rfl)
theorem dX16_init_20 : decode cX16_init 20 = .ok (.invokespecial 9, 3) := dk_183 0 9 (dk_at dksX16_init_0 20 rfl rfl)
theorem dX16_init_23 : decode cX16_init 23 = .ok (.putfield 16, 3) := dk_181 0 16 (dk_at dksX16_init_1 0 rfl rfl)
theorem dX16_init_26 : decode cX16_init 26 = .ok (.return_, 1) := dk_177 (dk_at dksX16_init_1 3 rfl rfl)
abbrev cX16_add : ByteArray := prog_2_method_2_code
def yX16_add : MethodName := ⟨RX16, "add", "(LSleeperRailway$Booking;)V"⟩
def dkwX16_add_2 : List UInt8 := [28, 43, 185, 0, 35, 3, 0, 177]
abbrev dktX16_add_2 : List UInt8 := dkwX16_add_2 ++ []
def dkwX16_add_1 : List UInt8 := [185, 0, 25, 2, 0, 192, 0, 29, 182, 0, 31, 153, 0, 9, 132, 2, 255, 167, 255, 227, 42, 180, 0, 10]
abbrev dktX16_add_1 : List UInt8 := dkwX16_add_1 ++ dktX16_add_2
def dkwX16_add_0 : List UInt8 := [42, 180, 0, 10, 185, 0, 19, 1, 0, 61, 28, 158, 0, 31, 43, 42, 180, 0, 10, 28, 4, 100]
abbrev dktX16_add_0 : List UInt8 := dkwX16_add_0 ++ dktX16_add_1
theorem dksX16_add_0 : cX16_add.data.toList.drop 0 = dktX16_add_0 := by decide +kernel
theorem dksX16_add_1 : cX16_add.data.toList.drop 22 = dktX16_add_1 := dk_seg dksX16_add_0 22 rfl rfl
theorem dksX16_add_2 : cX16_add.data.toList.drop 46 = dktX16_add_2 := dk_seg dksX16_add_1 24 rfl rfl
theorem dX16_add_0 : decode cX16_add 0 = .ok (.aload_n 0, 1) := dk_42 (dk_at dksX16_add_0 0 rfl rfl)
theorem dX16_add_1 : decode cX16_add 1 = .ok (.getfield 10, 3) := dk_180 0 10 (dk_at dksX16_add_0 1 rfl rfl)
theorem dX16_add_4 : decode cX16_add 4 = .ok (.invokeinterface 19 1, 5) := by decide +kernel
theorem dX16_add_9 : decode cX16_add 9 = .ok (.istore_n 2, 1) := dk_61 (dk_at dksX16_add_0 9 rfl rfl)
theorem dX16_add_10 : decode cX16_add 10 = .ok (.iload_n 2, 1) := dk_28 (dk_at dksX16_add_0 10 rfl rfl)
theorem dX16_add_11 : decode cX16_add 11 = .ok (.ifCond .le 31, 3) := dk_158 0 31 (dk_at dksX16_add_0 11 rfl rfl)
theorem dX16_add_14 : decode cX16_add 14 = .ok (.aload_n 1, 1) := dk_43 (dk_at dksX16_add_0 14 rfl rfl)
theorem dX16_add_15 : decode cX16_add 15 = .ok (.aload_n 0, 1) := dk_42 (dk_at dksX16_add_0 15 rfl rfl)
theorem dX16_add_16 : decode cX16_add 16 = .ok (.getfield 10, 3) := dk_180 0 10 (dk_at dksX16_add_0 16 rfl rfl)
theorem dX16_add_19 : decode cX16_add 19 = .ok (.iload_n 2, 1) := dk_28 (dk_at dksX16_add_0 19 rfl rfl)
theorem dX16_add_20 : decode cX16_add 20 = .ok (.iconst 1, 1) := dk_4 (dk_at dksX16_add_0 20 rfl rfl)
theorem dX16_add_21 : decode cX16_add 21 = .ok (.isub, 1) := dk_100 (dk_at dksX16_add_0 21 rfl rfl)
theorem dX16_add_22 : decode cX16_add 22 = .ok (.invokeinterface 25 2, 5) := by decide +kernel
theorem dX16_add_27 : decode cX16_add 27 = .ok (.checkcast 29, 3) := dk_192 0 29 (dk_at dksX16_add_1 5 rfl rfl)
theorem dX16_add_30 : decode cX16_add 30 = .ok (.invokevirtual 31, 3) := dk_182 0 31 (dk_at dksX16_add_1 8 rfl rfl)
theorem dX16_add_33 : decode cX16_add 33 = .ok (.ifCond .eq 9, 3) := dk_153 0 9 (dk_at dksX16_add_1 11 rfl rfl)
theorem dX16_add_36 : decode cX16_add 36 = .ok (.iinc 2 (-1), 3) := dk_132 2 255 (dk_at dksX16_add_1 14 rfl rfl)
theorem dX16_add_39 : decode cX16_add 39 = .ok (.goto (-29), 3) := dk_167 255 227 (dk_at dksX16_add_1 17 rfl rfl)
theorem dX16_add_42 : decode cX16_add 42 = .ok (.aload_n 0, 1) := dk_42 (dk_at dksX16_add_1 20 rfl rfl)
theorem dX16_add_43 : decode cX16_add 43 = .ok (.getfield 10, 3) := dk_180 0 10 (dk_at dksX16_add_1 21 rfl rfl)
theorem dX16_add_46 : decode cX16_add 46 = .ok (.iload_n 2, 1) := dk_28 (dk_at dksX16_add_2 0 rfl rfl)
theorem dX16_add_47 : decode cX16_add 47 = .ok (.aload_n 1, 1) := dk_43 (dk_at dksX16_add_2 1 rfl rfl)
theorem dX16_add_48 : decode cX16_add 48 = .ok (.invokeinterface 35 3, 5) := by decide +kernel
theorem dX16_add_53 : decode cX16_add 53 = .ok (.return_, 1) := dk_177 (dk_at dksX16_add_2 7 rfl rfl)
abbrev cX16_give : ByteArray := prog_2_method_3_code
def yX16_give : MethodName := ⟨RX16, "give", "()LSleeperRailway$Berths;"⟩
def dkwX16_give_2 : List UInt8 := [180, 0, 61, 28, 4, 96, 184, 0, 65, 181, 0, 61, 132, 1, 1, 167, 255, 197, 42, 176]
abbrev dktX16_give_2 : List UInt8 := dkwX16_give_2 ++ []
def dkwX16_give_1 : List UInt8 := [192, 0, 49, 182, 0, 51, 61, 42, 180, 0, 16, 28, 184, 0, 54, 185, 0, 58, 2, 0, 87, 42, 42]
abbrev dktX16_give_1 : List UInt8 := dkwX16_give_1 ++ dktX16_give_2
def dkwX16_give_0 : List UInt8 := [3, 60, 27, 42, 180, 0, 10, 185, 0, 19, 1, 0, 162, 0, 52, 42, 27, 182, 0, 39, 182, 0, 43]
abbrev dktX16_give_0 : List UInt8 := dkwX16_give_0 ++ dktX16_give_1
theorem dksX16_give_0 : cX16_give.data.toList.drop 0 = dktX16_give_0 := by decide +kernel
theorem dksX16_give_1 : cX16_give.data.toList.drop 23 = dktX16_give_1 := dk_seg dksX16_give_0 23 rfl rfl
theorem dksX16_give_2 : cX16_give.data.toList.drop 46 = dktX16_give_2 := dk_seg dksX16_give_1 23 rfl rfl
theorem dX16_give_0 : decode cX16_give 0 = .ok (.iconst 0, 1) := dk_3 (dk_at dksX16_give_0 0 rfl rfl)
theorem dX16_give_1 : decode cX16_give 1 = .ok (.istore_n 1, 1) := dk_60 (dk_at dksX16_give_0 1 rfl rfl)
theorem dX16_give_2 : decode cX16_give 2 = .ok (.iload_n 1, 1) := dk_27 (dk_at dksX16_give_0 2 rfl rfl)
theorem dX16_give_3 : decode cX16_give 3 = .ok (.aload_n 0, 1) := dk_42 (dk_at dksX16_give_0 3 rfl rfl)
theorem dX16_give_4 : decode cX16_give 4 = .ok (.getfield 10, 3) := dk_180 0 10 (dk_at dksX16_give_0 4 rfl rfl)
theorem dX16_give_7 : decode cX16_give 7 = .ok (.invokeinterface 19 1, 5) := by decide +kernel
theorem dX16_give_12 : decode cX16_give 12 = .ok (.if_icmp .ge 52, 3) := dk_162 0 52 (dk_at dksX16_give_0 12 rfl rfl)
theorem dX16_give_15 : decode cX16_give 15 = .ok (.aload_n 0, 1) := dk_42 (dk_at dksX16_give_0 15 rfl rfl)
theorem dX16_give_16 : decode cX16_give 16 = .ok (.iload_n 1, 1) := dk_27 (dk_at dksX16_give_0 16 rfl rfl)
theorem dX16_give_17 : decode cX16_give 17 = .ok (.invokevirtual 39, 3) := dk_182 0 39 (dk_at dksX16_give_0 17 rfl rfl)
theorem dX16_give_20 : decode cX16_give 20 = .ok (.invokevirtual 43, 3) := dk_182 0 43 (dk_at dksX16_give_0 20 rfl rfl)
theorem dX16_give_23 : decode cX16_give 23 = .ok (.checkcast 49, 3) := dk_192 0 49 (dk_at dksX16_give_1 0 rfl rfl)
theorem dX16_give_26 : decode cX16_give 26 = .ok (.invokevirtual 51, 3) := dk_182 0 51 (dk_at dksX16_give_1 3 rfl rfl)
theorem dX16_give_29 : decode cX16_give 29 = .ok (.istore_n 2, 1) := dk_61 (dk_at dksX16_give_1 6 rfl rfl)
theorem dX16_give_30 : decode cX16_give 30 = .ok (.aload_n 0, 1) := dk_42 (dk_at dksX16_give_1 7 rfl rfl)
theorem dX16_give_31 : decode cX16_give 31 = .ok (.getfield 16, 3) := dk_180 0 16 (dk_at dksX16_give_1 8 rfl rfl)
theorem dX16_give_34 : decode cX16_give 34 = .ok (.iload_n 2, 1) := dk_28 (dk_at dksX16_give_1 11 rfl rfl)
theorem dX16_give_35 : decode cX16_give 35 = .ok (.invokestatic 54, 3) := dk_184 0 54 (dk_at dksX16_give_1 12 rfl rfl)
theorem dX16_give_38 : decode cX16_give 38 = .ok (.invokeinterface 58 2, 5) := by decide +kernel
theorem dX16_give_43 : decode cX16_give 43 = .ok (.pop, 1) := dk_87 (dk_at dksX16_give_1 20 rfl rfl)
theorem dX16_give_44 : decode cX16_give 44 = .ok (.aload_n 0, 1) := dk_42 (dk_at dksX16_give_1 21 rfl rfl)
theorem dX16_give_45 : decode cX16_give 45 = .ok (.aload_n 0, 1) := dk_42 (dk_at dksX16_give_1 22 rfl rfl)
theorem dX16_give_46 : decode cX16_give 46 = .ok (.getfield 61, 3) := dk_180 0 61 (dk_at dksX16_give_2 0 rfl rfl)
theorem dX16_give_49 : decode cX16_give 49 = .ok (.iload_n 2, 1) := dk_28 (dk_at dksX16_give_2 3 rfl rfl)
theorem dX16_give_50 : decode cX16_give 50 = .ok (.iconst 1, 1) := dk_4 (dk_at dksX16_give_2 4 rfl rfl)
theorem dX16_give_51 : decode cX16_give 51 = .ok (.iadd, 1) := dk_96 (dk_at dksX16_give_2 5 rfl rfl)
theorem dX16_give_52 : decode cX16_give 52 = .ok (.invokestatic 65, 3) := dk_184 0 65 (dk_at dksX16_give_2 6 rfl rfl)
theorem dX16_give_55 : decode cX16_give 55 = .ok (.putfield 61, 3) := dk_181 0 61 (dk_at dksX16_give_2 9 rfl rfl)
theorem dX16_give_58 : decode cX16_give 58 = .ok (.iinc 1 1, 3) := dk_132 1 1 (dk_at dksX16_give_2 12 rfl rfl)
theorem dX16_give_61 : decode cX16_give 61 = .ok (.goto (-59), 3) := dk_167 255 197 (dk_at dksX16_give_2 15 rfl rfl)
theorem dX16_give_64 : decode cX16_give 64 = .ok (.aload_n 0, 1) := dk_42 (dk_at dksX16_give_2 18 rfl rfl)
theorem dX16_give_65 : decode cX16_give 65 = .ok (.areturn, 1) := dk_176 (dk_at dksX16_give_2 19 rfl rfl)
abbrev cX16_free : ByteArray := prog_2_method_4_code
def yX16_free : MethodName := ⟨RX16, "free", "(I)Ljava/util/TreeSet;"⟩
def dkwX16_free_4 : List UInt8 := [44, 176]
abbrev dktX16_free_4 : List UInt8 := dkwX16_free_4 ++ []
def dkwX16_free_3 : List UInt8 := [164, 0, 18, 44, 42, 180, 0, 16, 29, 185, 0, 25, 2, 0, 182, 0, 78, 87, 132, 3, 1, 167, 255, 198]
abbrev dktX16_free_3 : List UInt8 := dkwX16_free_3 ++ dktX16_free_4
def dkwX16_free_2 : List UInt8 := [192, 0, 29, 180, 0, 73, 42, 180, 0, 10, 27, 185, 0, 25, 2, 0, 192, 0, 29, 180, 0, 76]
abbrev dktX16_free_2 : List UInt8 := dkwX16_free_2 ++ dktX16_free_3
def dkwX16_free_1 : List UInt8 := [132, 3, 1, 167, 255, 239, 3, 62, 29, 27, 162, 0, 59, 42, 180, 0, 10, 29, 185, 0, 25, 2, 0]
abbrev dktX16_free_1 : List UInt8 := dkwX16_free_1 ++ dktX16_free_2
def dkwX16_free_0 : List UInt8 := [187, 0, 44, 89, 183, 0, 71, 77, 3, 62, 29, 27, 163, 0, 18, 44, 29, 184, 0, 54, 182, 0, 72, 87]
abbrev dktX16_free_0 : List UInt8 := dkwX16_free_0 ++ dktX16_free_1
theorem dksX16_free_0 : cX16_free.data.toList.drop 0 = dktX16_free_0 := by decide +kernel
theorem dksX16_free_1 : cX16_free.data.toList.drop 24 = dktX16_free_1 := dk_seg dksX16_free_0 24 rfl rfl
theorem dksX16_free_2 : cX16_free.data.toList.drop 47 = dktX16_free_2 := dk_seg dksX16_free_1 23 rfl rfl
theorem dksX16_free_3 : cX16_free.data.toList.drop 69 = dktX16_free_3 := dk_seg dksX16_free_2 22 rfl rfl
theorem dksX16_free_4 : cX16_free.data.toList.drop 93 = dktX16_free_4 := dk_seg dksX16_free_3 24 rfl rfl
theorem dX16_free_0 : decode cX16_free 0 = .ok (.new 44, 3) := dk_187 0 44 (dk_at dksX16_free_0 0 rfl rfl)
theorem dX16_free_3 : decode cX16_free 3 = .ok (.dup, 1) := dk_89 (dk_at dksX16_free_0 3 rfl rfl)
theorem dX16_free_4 : decode cX16_free 4 = .ok (.invokespecial 71, 3) := dk_183 0 71 (dk_at dksX16_free_0 4 rfl rfl)
theorem dX16_free_7 : decode cX16_free 7 = .ok (.astore_n 2, 1) := dk_77 (dk_at dksX16_free_0 7 rfl rfl)
theorem dX16_free_8 : decode cX16_free 8 = .ok (.iconst 0, 1) := dk_3 (dk_at dksX16_free_0 8 rfl rfl)
theorem dX16_free_9 : decode cX16_free 9 = .ok (.istore_n 3, 1) := dk_62 (dk_at dksX16_free_0 9 rfl rfl)
theorem dX16_free_10 : decode cX16_free 10 = .ok (.iload_n 3, 1) := dk_29 (dk_at dksX16_free_0 10 rfl rfl)
theorem dX16_free_11 : decode cX16_free 11 = .ok (.iload_n 1, 1) := dk_27 (dk_at dksX16_free_0 11 rfl rfl)
theorem dX16_free_12 : decode cX16_free 12 = .ok (.if_icmp .gt 18, 3) := dk_163 0 18 (dk_at dksX16_free_0 12 rfl rfl)
theorem dX16_free_15 : decode cX16_free 15 = .ok (.aload_n 2, 1) := dk_44 (dk_at dksX16_free_0 15 rfl rfl)
theorem dX16_free_16 : decode cX16_free 16 = .ok (.iload_n 3, 1) := dk_29 (dk_at dksX16_free_0 16 rfl rfl)
theorem dX16_free_17 : decode cX16_free 17 = .ok (.invokestatic 54, 3) := dk_184 0 54 (dk_at dksX16_free_0 17 rfl rfl)
theorem dX16_free_20 : decode cX16_free 20 = .ok (.invokevirtual 72, 3) := dk_182 0 72 (dk_at dksX16_free_0 20 rfl rfl)
theorem dX16_free_23 : decode cX16_free 23 = .ok (.pop, 1) := dk_87 (dk_at dksX16_free_0 23 rfl rfl)
theorem dX16_free_24 : decode cX16_free 24 = .ok (.iinc 3 1, 3) := dk_132 3 1 (dk_at dksX16_free_1 0 rfl rfl)
theorem dX16_free_27 : decode cX16_free 27 = .ok (.goto (-17), 3) := dk_167 255 239 (dk_at dksX16_free_1 3 rfl rfl)
theorem dX16_free_30 : decode cX16_free 30 = .ok (.iconst 0, 1) := dk_3 (dk_at dksX16_free_1 6 rfl rfl)
theorem dX16_free_31 : decode cX16_free 31 = .ok (.istore_n 3, 1) := dk_62 (dk_at dksX16_free_1 7 rfl rfl)
theorem dX16_free_32 : decode cX16_free 32 = .ok (.iload_n 3, 1) := dk_29 (dk_at dksX16_free_1 8 rfl rfl)
theorem dX16_free_33 : decode cX16_free 33 = .ok (.iload_n 1, 1) := dk_27 (dk_at dksX16_free_1 9 rfl rfl)
theorem dX16_free_34 : decode cX16_free 34 = .ok (.if_icmp .ge 59, 3) := dk_162 0 59 (dk_at dksX16_free_1 10 rfl rfl)
theorem dX16_free_37 : decode cX16_free 37 = .ok (.aload_n 0, 1) := dk_42 (dk_at dksX16_free_1 13 rfl rfl)
theorem dX16_free_38 : decode cX16_free 38 = .ok (.getfield 10, 3) := dk_180 0 10 (dk_at dksX16_free_1 14 rfl rfl)
theorem dX16_free_41 : decode cX16_free 41 = .ok (.iload_n 3, 1) := dk_29 (dk_at dksX16_free_1 17 rfl rfl)
theorem dX16_free_42 : decode cX16_free 42 = .ok (.invokeinterface 25 2, 5) := by decide +kernel
theorem dX16_free_47 : decode cX16_free 47 = .ok (.checkcast 29, 3) := dk_192 0 29 (dk_at dksX16_free_2 0 rfl rfl)
theorem dX16_free_50 : decode cX16_free 50 = .ok (.getfield 73, 3) := dk_180 0 73 (dk_at dksX16_free_2 3 rfl rfl)
theorem dX16_free_53 : decode cX16_free 53 = .ok (.aload_n 0, 1) := dk_42 (dk_at dksX16_free_2 6 rfl rfl)
theorem dX16_free_54 : decode cX16_free 54 = .ok (.getfield 10, 3) := dk_180 0 10 (dk_at dksX16_free_2 7 rfl rfl)
theorem dX16_free_57 : decode cX16_free 57 = .ok (.iload_n 1, 1) := dk_27 (dk_at dksX16_free_2 10 rfl rfl)
theorem dX16_free_58 : decode cX16_free 58 = .ok (.invokeinterface 25 2, 5) := by decide +kernel
theorem dX16_free_63 : decode cX16_free 63 = .ok (.checkcast 29, 3) := dk_192 0 29 (dk_at dksX16_free_2 16 rfl rfl)
theorem dX16_free_66 : decode cX16_free 66 = .ok (.getfield 76, 3) := dk_180 0 76 (dk_at dksX16_free_2 19 rfl rfl)
theorem dX16_free_69 : decode cX16_free 69 = .ok (.if_icmp .le 18, 3) := dk_164 0 18 (dk_at dksX16_free_3 0 rfl rfl)
theorem dX16_free_72 : decode cX16_free 72 = .ok (.aload_n 2, 1) := dk_44 (dk_at dksX16_free_3 3 rfl rfl)
theorem dX16_free_73 : decode cX16_free 73 = .ok (.aload_n 0, 1) := dk_42 (dk_at dksX16_free_3 4 rfl rfl)
theorem dX16_free_74 : decode cX16_free 74 = .ok (.getfield 16, 3) := dk_180 0 16 (dk_at dksX16_free_3 5 rfl rfl)
theorem dX16_free_77 : decode cX16_free 77 = .ok (.iload_n 3, 1) := dk_29 (dk_at dksX16_free_3 8 rfl rfl)
theorem dX16_free_78 : decode cX16_free 78 = .ok (.invokeinterface 25 2, 5) := by decide +kernel
theorem dX16_free_83 : decode cX16_free 83 = .ok (.invokevirtual 78, 3) := dk_182 0 78 (dk_at dksX16_free_3 14 rfl rfl)
theorem dX16_free_86 : decode cX16_free 86 = .ok (.pop, 1) := dk_87 (dk_at dksX16_free_3 17 rfl rfl)
theorem dX16_free_87 : decode cX16_free 87 = .ok (.iinc 3 1, 3) := dk_132 3 1 (dk_at dksX16_free_3 18 rfl rfl)
theorem dX16_free_90 : decode cX16_free 90 = .ok (.goto (-58), 3) := dk_167 255 198 (dk_at dksX16_free_3 21 rfl rfl)
theorem dX16_free_93 : decode cX16_free 93 = .ok (.aload_n 2, 1) := dk_44 (dk_at dksX16_free_4 0 rfl rfl)
theorem dX16_free_94 : decode cX16_free 94 = .ok (.areturn, 1) := dk_176 (dk_at dksX16_free_4 1 rfl rfl)
abbrev cX16_berthOf : ByteArray := prog_2_method_5_code
def yX16_berthOf : MethodName := ⟨RX16, "berthOf", "(LSleeperRailway$Booking;)I"⟩
def dkwX16_berthOf_1 : List UInt8 := [182, 0, 51, 172]
abbrev dktX16_berthOf_1 : List UInt8 := dkwX16_berthOf_1 ++ []
def dkwX16_berthOf_0 : List UInt8 := [42, 180, 0, 16, 42, 180, 0, 10, 43, 185, 0, 81, 2, 0, 185, 0, 25, 2, 0, 192, 0, 49]
abbrev dktX16_berthOf_0 : List UInt8 := dkwX16_berthOf_0 ++ dktX16_berthOf_1
theorem dksX16_berthOf_0 : cX16_berthOf.data.toList.drop 0 = dktX16_berthOf_0 := by decide +kernel
theorem dksX16_berthOf_1 : cX16_berthOf.data.toList.drop 22 = dktX16_berthOf_1 := dk_seg dksX16_berthOf_0 22 rfl rfl
theorem dX16_berthOf_0 : decode cX16_berthOf 0 = .ok (.aload_n 0, 1) := dk_42 (dk_at dksX16_berthOf_0 0 rfl rfl)
theorem dX16_berthOf_1 : decode cX16_berthOf 1 = .ok (.getfield 16, 3) := dk_180 0 16 (dk_at dksX16_berthOf_0 1 rfl rfl)
theorem dX16_berthOf_4 : decode cX16_berthOf 4 = .ok (.aload_n 0, 1) := dk_42 (dk_at dksX16_berthOf_0 4 rfl rfl)
theorem dX16_berthOf_5 : decode cX16_berthOf 5 = .ok (.getfield 10, 3) := dk_180 0 10 (dk_at dksX16_berthOf_0 5 rfl rfl)
theorem dX16_berthOf_8 : decode cX16_berthOf 8 = .ok (.aload_n 1, 1) := dk_43 (dk_at dksX16_berthOf_0 8 rfl rfl)
theorem dX16_berthOf_9 : decode cX16_berthOf 9 = .ok (.invokeinterface 81 2, 5) := by decide +kernel
theorem dX16_berthOf_14 : decode cX16_berthOf 14 = .ok (.invokeinterface 25 2, 5) := by decide +kernel
theorem dX16_berthOf_19 : decode cX16_berthOf 19 = .ok (.checkcast 49, 3) := dk_192 0 49 (dk_at dksX16_berthOf_0 19 rfl rfl)
theorem dX16_berthOf_22 : decode cX16_berthOf 22 = .ok (.invokevirtual 51, 3) := dk_182 0 51 (dk_at dksX16_berthOf_1 0 rfl rfl)
theorem dX16_berthOf_25 : decode cX16_berthOf 25 = .ok (.ireturn, 1) := dk_172 (dk_at dksX16_berthOf_1 3 rfl rfl)
theorem q168 : (Jvm.Cond.initialized "SleeperRailway$Berths") ∈ lw_all := lw_g (lw_at lw_m1 68 rfl) rfl
theorem q990 : (Jvm.Cond.selects "SleeperRailway$Berths" ({ cls := "java/lang/Object", name := "getClass", desc := "()Ljava/lang/Class;" } : Jvm.MethodName) ({ cls := "java/lang/Object", name := "getClass", desc := "()Ljava/lang/Class;" } : Jvm.MethodName)) ∈ lw_all := lw_g (lw_at lw_m4 170 rfl) rfl
theorem q1860 : (Jvm.Cond.instantiable "SleeperRailway$Berths" (3 : Nat)) ∈ lw_all := lw_g (lw_at lw_m8 80 rfl) rfl
theorem q1862 : (Jvm.Cond.instanceMethod ({ cls := "SleeperRailway$Berths", name := "<init>", desc := "()V" } : Jvm.MethodName)) ∈ lw_all := lw_g (lw_at lw_m8 82 rfl) rfl
theorem q1863 : (Jvm.Cond.code ({ cls := "SleeperRailway$Berths", name := "<init>", desc := "()V" } : Jvm.MethodName) prog_2_method_1_code (1 : Nat) (Option.none : Option Jvm.ClassFile.FieldType)) ∈ lw_all := lw_g (lw_at lw_m8 83 rfl) rfl
theorem q1864 : (Jvm.Cond.methodLink "SleeperRailway$Berths" (1 : Nat) ({ cls := "java/lang/Object", name := "<init>", desc := "()V" } : Jvm.MethodName)) ∈ lw_all := lw_g (lw_at lw_m8 84 rfl) rfl
theorem q1865 : (Jvm.Cond.classLink "SleeperRailway$Berths" (7 : Nat) "java/util/ArrayList") ∈ lw_all := lw_g (lw_at lw_m8 85 rfl) rfl
theorem q1866 : (Jvm.Cond.methodLink "SleeperRailway$Berths" (9 : Nat) ({ cls := "java/util/ArrayList", name := "<init>", desc := "()V" } : Jvm.MethodName)) ∈ lw_all := lw_g (lw_at lw_m8 86 rfl) rfl
theorem q1867 : (Jvm.Cond.fieldLink "SleeperRailway$Berths" (10 : Nat) "SleeperRailway$Berths" "sorted" "Ljava/util/List;") ∈ lw_all := lw_g (lw_at lw_m8 87 rfl) rfl
theorem q1868 : (Jvm.Cond.fieldLink "SleeperRailway$Berths" (16 : Nat) "SleeperRailway$Berths" "numbers" "Ljava/util/List;") ∈ lw_all := lw_g (lw_at lw_m8 88 rfl) rfl
theorem q1869 : (Jvm.Cond.fieldLink "SleeperRailway$Berths" (61 : Nat) "SleeperRailway$Berths" "needed" "I") ∈ lw_all := lw_g (lw_at lw_m8 89 rfl) rfl
theorem q1872 : (Jvm.Cond.laysFinal "SleeperRailway$Berths" "SleeperRailway$Berths" "sorted" "Ljava/util/List;") ∈ lw_all := lw_g (lw_at lw_m8 92 rfl) rfl
theorem q1873 : (Jvm.Cond.soleField "SleeperRailway$Berths" "sorted") ∈ lw_all := lw_g (lw_at lw_m8 93 rfl) rfl
theorem q1874 : (Jvm.Cond.laysFinal "SleeperRailway$Berths" "SleeperRailway$Berths" "numbers" "Ljava/util/List;") ∈ lw_all := lw_g (lw_at lw_m8 94 rfl) rfl
theorem q1875 : (Jvm.Cond.soleField "SleeperRailway$Berths" "numbers") ∈ lw_all := lw_g (lw_at lw_m8 95 rfl) rfl
theorem q1876 : (Jvm.Cond.lays "SleeperRailway$Berths" "SleeperRailway$Berths" "needed" "I") ∈ lw_all := lw_g (lw_at lw_m8 96 rfl) rfl
theorem q1877 : (Jvm.Cond.soleField "SleeperRailway$Berths" "needed") ∈ lw_all := lw_g (lw_at lw_m8 97 rfl) rfl
theorem q1878 : (Jvm.Cond.superclass "SleeperRailway$Berths" "java/lang/Object") ∈ lw_all := lw_g (lw_at lw_m8 98 rfl) rfl
theorem q2033 : (Jvm.Cond.instanceMethod ({ cls := "SleeperRailway$Berths", name := "add", desc := "(LSleeperRailway$Booking;)V" } : Jvm.MethodName)) ∈ lw_all := lw_g (lw_at lw_m9 13 rfl) rfl
theorem q2034 : (Jvm.Cond.selects "SleeperRailway$Berths" ({ cls := "SleeperRailway$Berths", name := "add", desc := "(LSleeperRailway$Booking;)V" } : Jvm.MethodName) ({ cls := "SleeperRailway$Berths", name := "add", desc := "(LSleeperRailway$Booking;)V" } : Jvm.MethodName)) ∈ lw_all := lw_g (lw_at lw_m9 14 rfl) rfl
theorem q2035 : (Jvm.Cond.code ({ cls := "SleeperRailway$Berths", name := "add", desc := "(LSleeperRailway$Booking;)V" } : Jvm.MethodName) prog_2_method_2_code (3 : Nat) (Option.none : Option Jvm.ClassFile.FieldType)) ∈ lw_all := lw_g (lw_at lw_m9 15 rfl) rfl
theorem q2036 : (Jvm.Cond.interfaceEntry "SleeperRailway$Berths" (19 : Nat)) ∈ lw_tbl := lw_at lw_m9 16 rfl
theorem q2037 : (Jvm.Cond.methodLink "SleeperRailway$Berths" (19 : Nat) ({ cls := "java/util/List", name := "size", desc := "()I" } : Jvm.MethodName)) ∈ lw_all := lw_g (lw_at lw_m9 17 rfl) rfl
theorem q2038 : (Jvm.Cond.interfaceEntry "SleeperRailway$Berths" (25 : Nat)) ∈ lw_tbl := lw_at lw_m9 18 rfl
theorem q2039 : (Jvm.Cond.methodLink "SleeperRailway$Berths" (25 : Nat) ({ cls := "java/util/List", name := "get", desc := "(I)Ljava/lang/Object;" } : Jvm.MethodName)) ∈ lw_all := lw_g (lw_at lw_m9 19 rfl) rfl
theorem q2040 : (Jvm.Cond.classLink "SleeperRailway$Berths" (29 : Nat) "SleeperRailway$Booking") ∈ lw_all := lw_g (lw_at lw_m9 20 rfl) rfl
theorem q2041 : (Jvm.Cond.methodLink "SleeperRailway$Berths" (31 : Nat) ({ cls := "SleeperRailway$Booking", name := "isAheadOf", desc := "(LSleeperRailway$Booking;)Z" } : Jvm.MethodName)) ∈ lw_all := lw_g (lw_at lw_m9 21 rfl) rfl
theorem q2045 : (Jvm.Cond.interfaceEntry "SleeperRailway$Berths" (35 : Nat)) ∈ lw_tbl := lw_at lw_m9 25 rfl
theorem q2046 : (Jvm.Cond.methodLink "SleeperRailway$Berths" (35 : Nat) ({ cls := "java/util/List", name := "add", desc := "(ILjava/lang/Object;)V" } : Jvm.MethodName)) ∈ lw_all := lw_g (lw_at lw_m9 26 rfl) rfl
theorem q2048 : (Jvm.Cond.instanceMethod ({ cls := "SleeperRailway$Berths", name := "give", desc := "()LSleeperRailway$Berths;" } : Jvm.MethodName)) ∈ lw_all := lw_g (lw_at lw_m9 28 rfl) rfl
theorem q2049 : (Jvm.Cond.selects "SleeperRailway$Berths" ({ cls := "SleeperRailway$Berths", name := "give", desc := "()LSleeperRailway$Berths;" } : Jvm.MethodName) ({ cls := "SleeperRailway$Berths", name := "give", desc := "()LSleeperRailway$Berths;" } : Jvm.MethodName)) ∈ lw_all := lw_g (lw_at lw_m9 29 rfl) rfl
theorem q2050 : (Jvm.Cond.code ({ cls := "SleeperRailway$Berths", name := "give", desc := "()LSleeperRailway$Berths;" } : Jvm.MethodName) prog_2_method_3_code (3 : Nat) (Option.some (Jvm.ClassFile.FieldType.object "SleeperRailway$Berths"))) ∈ lw_all := lw_g (lw_at lw_m9 30 rfl) rfl
theorem q2051 : (Jvm.Cond.methodLink "SleeperRailway$Berths" (39 : Nat) ({ cls := "SleeperRailway$Berths", name := "free", desc := "(I)Ljava/util/TreeSet;" } : Jvm.MethodName)) ∈ lw_all := lw_g (lw_at lw_m9 31 rfl) rfl
theorem q2052 : (Jvm.Cond.privateMethod ({ cls := "SleeperRailway$Berths", name := "free", desc := "(I)Ljava/util/TreeSet;" } : Jvm.MethodName)) ∈ lw_tbl := lw_at lw_m9 32 rfl
theorem q2053 : (Jvm.Cond.instanceMethod ({ cls := "SleeperRailway$Berths", name := "free", desc := "(I)Ljava/util/TreeSet;" } : Jvm.MethodName)) ∈ lw_all := lw_g (lw_at lw_m9 33 rfl) rfl
theorem q2054 : (Jvm.Cond.code ({ cls := "SleeperRailway$Berths", name := "free", desc := "(I)Ljava/util/TreeSet;" } : Jvm.MethodName) prog_2_method_4_code (4 : Nat) (Option.some (Jvm.ClassFile.FieldType.object "java/util/TreeSet"))) ∈ lw_all := lw_g (lw_at lw_m9 34 rfl) rfl
theorem q2055 : (Jvm.Cond.classLink "SleeperRailway$Berths" (44 : Nat) "java/util/TreeSet") ∈ lw_all := lw_g (lw_at lw_m9 35 rfl) rfl
theorem q2057 : (Jvm.Cond.methodLink "SleeperRailway$Berths" (71 : Nat) ({ cls := "java/util/TreeSet", name := "<init>", desc := "()V" } : Jvm.MethodName)) ∈ lw_all := lw_g (lw_at lw_m9 37 rfl) rfl
theorem q2070 : (Jvm.Cond.methodLink "SleeperRailway$Berths" (54 : Nat) ({ cls := "java/lang/Integer", name := "valueOf", desc := "(I)Ljava/lang/Integer;" } : Jvm.MethodName)) ∈ lw_all := lw_g (lw_at lw_m9 50 rfl) rfl
theorem q2089 : (Jvm.Cond.methodLink "SleeperRailway$Berths" (72 : Nat) ({ cls := "java/util/TreeSet", name := "add", desc := "(Ljava/lang/Object;)Z" } : Jvm.MethodName)) ∈ lw_all := lw_g (lw_at lw_m9 69 rfl) rfl
theorem q2185 : (Jvm.Cond.methodLink "SleeperRailway$Berths" (78 : Nat) ({ cls := "java/util/TreeSet", name := "remove", desc := "(Ljava/lang/Object;)Z" } : Jvm.MethodName)) ∈ lw_all := lw_g (lw_at lw_m9 165 rfl) rfl
theorem q2214 : (Jvm.Cond.methodLink "SleeperRailway$Berths" (43 : Nat) ({ cls := "java/util/TreeSet", name := "first", desc := "()Ljava/lang/Object;" } : Jvm.MethodName)) ∈ lw_all := lw_g (lw_at lw_m9 194 rfl) rfl
theorem q2231 : (Jvm.Cond.classLink "SleeperRailway$Berths" (49 : Nat) "java/lang/Integer") ∈ lw_all := lw_g (lw_at lw_m9 211 rfl) rfl
theorem q2232 : (Jvm.Cond.methodLink "SleeperRailway$Berths" (51 : Nat) ({ cls := "java/lang/Integer", name := "intValue", desc := "()I" } : Jvm.MethodName)) ∈ lw_all := lw_g (lw_at lw_m9 212 rfl) rfl
theorem q2233 : (Jvm.Cond.interfaceEntry "SleeperRailway$Berths" (58 : Nat)) ∈ lw_tbl := lw_at lw_m9 213 rfl
theorem q2234 : (Jvm.Cond.methodLink "SleeperRailway$Berths" (58 : Nat) ({ cls := "java/util/List", name := "add", desc := "(Ljava/lang/Object;)Z" } : Jvm.MethodName)) ∈ lw_all := lw_g (lw_at lw_m9 214 rfl) rfl
theorem q2235 : (Jvm.Cond.methodLink "SleeperRailway$Berths" (65 : Nat) ({ cls := "java/lang/Math", name := "max", desc := "(II)I" } : Jvm.MethodName)) ∈ lw_all := lw_g (lw_at lw_m9 215 rfl) rfl
theorem q2613 : (Jvm.Cond.fieldLinkNest "SleeperRailway$Berths" (76 : Nat) "SleeperRailway$Booking" "first" "I" "SleeperRailway") ∈ lw_tbl := lw_at lw_m11 113 rfl
theorem q2616 : (Jvm.Cond.fieldLinkNest "SleeperRailway$Berths" (73 : Nat) "SleeperRailway$Booking" "last" "I" "SleeperRailway") ∈ lw_tbl := lw_at lw_m11 116 rfl
theorem q3145 : (Jvm.Cond.instanceMethod ({ cls := "SleeperRailway$Berths", name := "berthOf", desc := "(LSleeperRailway$Booking;)I" } : Jvm.MethodName)) ∈ lw_all := lw_g (lw_at lw_m13 165 rfl) rfl
theorem q3146 : (Jvm.Cond.selects "SleeperRailway$Berths" ({ cls := "SleeperRailway$Berths", name := "berthOf", desc := "(LSleeperRailway$Booking;)I" } : Jvm.MethodName) ({ cls := "SleeperRailway$Berths", name := "berthOf", desc := "(LSleeperRailway$Booking;)I" } : Jvm.MethodName)) ∈ lw_all := lw_g (lw_at lw_m13 166 rfl) rfl
theorem q3147 : (Jvm.Cond.code ({ cls := "SleeperRailway$Berths", name := "berthOf", desc := "(LSleeperRailway$Booking;)I" } : Jvm.MethodName) prog_2_method_5_code (2 : Nat) (Option.some Jvm.ClassFile.FieldType.int)) ∈ lw_all := lw_g (lw_at lw_m13 167 rfl) rfl
theorem q3148 : (Jvm.Cond.interfaceEntry "SleeperRailway$Berths" (81 : Nat)) ∈ lw_tbl := lw_at lw_m13 168 rfl
theorem q3149 : (Jvm.Cond.methodLink "SleeperRailway$Berths" (81 : Nat) ({ cls := "java/util/List", name := "indexOf", desc := "(Ljava/lang/Object;)I" } : Jvm.MethodName)) ∈ lw_all := lw_g (lw_at lw_m13 169 rfl) rfl
theorem q3166 : (Jvm.Cond.selects "SleeperRailway$Berths" ({ cls := "java/lang/Object", name := "equals", desc := "(Ljava/lang/Object;)Z" } : Jvm.MethodName) ({ cls := "java/lang/Object", name := "equals", desc := "(Ljava/lang/Object;)Z" } : Jvm.MethodName)) ∈ lw_all := lw_g (lw_at lw_m13 186 rfl) rfl
theorem q3471 : (Jvm.Cond.selects "SleeperRailway$Berths" ({ cls := "java/lang/Object", name := "toString", desc := "()Ljava/lang/String;" } : Jvm.MethodName) ({ cls := "java/lang/Object", name := "toString", desc := "()Ljava/lang/String;" } : Jvm.MethodName)) ∈ lw_all := lw_g (lw_at lw_m15 11 rfl) rfl
theorem q4279 : (Jvm.Cond.castable "SleeperRailway$Berths" "java/lang/Object") ∈ lw_tbl := lw_at lw_m18 99 rfl
theorem in_X16 : ∀ w ∈ wsX160, w ∈ lw_all := lw_in wsX160 [1872, 1874, 1876] (by decide +kernel) (by decide +kernel)
/-! SleeperRailway$Parser -/
set_option maxRecDepth 100000
def RX17 : String := "SleeperRailway$Parser"
def TX17 : u_T := fun k => match k with
  | 0 => ("SleeperRailway$Parser", "text", "Ljava/lang/String;", true)
  | _ => ("SleeperRailway$Parser", "at", "I", false)
def tyX17 : Nat → FieldType := fun k => match k with
  | 0 => .object "java/lang/String"
  | _ => .int
abbrev wsX170 : List Cond := u_ws RX17 TX17 2
theorem nmX17 : ∀ a, a < 2 → ∀ b, b < 2 → a ≠ b → (TX17 a).2.1 ≠ (TX17 b).2.1 := by decide +kernel
theorem tyX17_ok : ∀ k, k < 2 → parseFieldDescriptor (TX17 k).2.2.1 = some (tyX17 k) := by decide +kernel
abbrev cX17_init : ByteArray := prog_12_method_1_code
def yX17_init : MethodName := ⟨RX17, "<init>", "(Ljava/lang/String;)V"⟩
def dkwX17_init_0 : List UInt8 := [42, 183, 0, 1, 42, 43, 181, 0, 7, 177]
abbrev dktX17_init_0 : List UInt8 := dkwX17_init_0 ++ []
theorem dksX17_init_0 : cX17_init.data.toList.drop 0 = dktX17_init_0 := by decide +kernel
theorem dX17_init_0 : decode cX17_init 0 = .ok (.aload_n 0, 1) := dk_42 (dk_at dksX17_init_0 0 rfl rfl)
theorem dX17_init_1 : decode cX17_init 1 = .ok (.invokespecial 1, 3) := dk_183 0 1 (dk_at dksX17_init_0 1 rfl rfl)
theorem dX17_init_4 : decode cX17_init 4 = .ok (.aload_n 0, 1) := dk_42 (dk_at dksX17_init_0 4 rfl rfl)
theorem dX17_init_5 : decode cX17_init 5 = .ok (.aload_n 1, 1) := dk_43 (dk_at dksX17_init_0 5 rfl rfl)
theorem dX17_init_6 : decode cX17_init 6 = .ok (.putfield 7, 3) := dk_181 0 7 (dk_at dksX17_init_0 6 rfl rfl)
theorem dX17_init_9 : decode cX17_init 9 = .ok (.return_, 1) := dk_177 (dk_at dksX17_init_0 9 rfl rfl)
abbrev cX17_commands : ByteArray := prog_12_method_11_code
def yX17_commands : MethodName := ⟨RX17, "commands", "()Ljava/util/List;"⟩
def dkwX17_commands_2 : List UInt8 := [185, 0, 117, 2, 0, 87, 167, 255, 225, 43, 176]
abbrev dktX17_commands_2 : List UInt8 := dkwX17_commands_2 ++ []
def dkwX17_commands_1 : List UInt8 := [180, 0, 7, 182, 0, 17, 162, 0, 23, 42, 16, 59, 182, 0, 44, 43, 42, 182, 0, 113]
abbrev dktX17_commands_1 : List UInt8 := dkwX17_commands_1 ++ dktX17_commands_2
def dkwX17_commands_0 : List UInt8 := [187, 0, 110, 89, 183, 0, 112, 76, 43, 42, 182, 0, 113, 185, 0, 117, 2, 0, 87, 42, 180, 0, 13, 42]
abbrev dktX17_commands_0 : List UInt8 := dkwX17_commands_0 ++ dktX17_commands_1
theorem dksX17_commands_0 : cX17_commands.data.toList.drop 0 = dktX17_commands_0 := by decide +kernel
theorem dksX17_commands_1 : cX17_commands.data.toList.drop 24 = dktX17_commands_1 := dk_seg dksX17_commands_0 24 rfl rfl
theorem dksX17_commands_2 : cX17_commands.data.toList.drop 44 = dktX17_commands_2 := dk_seg dksX17_commands_1 20 rfl rfl
theorem dX17_commands_0 : decode cX17_commands 0 = .ok (.new 110, 3) := dk_187 0 110 (dk_at dksX17_commands_0 0 rfl rfl)
theorem dX17_commands_3 : decode cX17_commands 3 = .ok (.dup, 1) := dk_89 (dk_at dksX17_commands_0 3 rfl rfl)
theorem dX17_commands_4 : decode cX17_commands 4 = .ok (.invokespecial 112, 3) := dk_183 0 112 (dk_at dksX17_commands_0 4 rfl rfl)
theorem dX17_commands_7 : decode cX17_commands 7 = .ok (.astore_n 1, 1) := dk_76 (dk_at dksX17_commands_0 7 rfl rfl)
theorem dX17_commands_8 : decode cX17_commands 8 = .ok (.aload_n 1, 1) := dk_43 (dk_at dksX17_commands_0 8 rfl rfl)
theorem dX17_commands_9 : decode cX17_commands 9 = .ok (.aload_n 0, 1) := dk_42 (dk_at dksX17_commands_0 9 rfl rfl)
theorem dX17_commands_10 : decode cX17_commands 10 = .ok (.invokevirtual 113, 3) := dk_182 0 113 (dk_at dksX17_commands_0 10 rfl rfl)
theorem dX17_commands_13 : decode cX17_commands 13 = .ok (.invokeinterface 117 2, 5) := by decide +kernel
theorem dX17_commands_18 : decode cX17_commands 18 = .ok (.pop, 1) := dk_87 (dk_at dksX17_commands_0 18 rfl rfl)
theorem dX17_commands_19 : decode cX17_commands 19 = .ok (.aload_n 0, 1) := dk_42 (dk_at dksX17_commands_0 19 rfl rfl)
theorem dX17_commands_20 : decode cX17_commands 20 = .ok (.getfield 13, 3) := dk_180 0 13 (dk_at dksX17_commands_0 20 rfl rfl)
theorem dX17_commands_23 : decode cX17_commands 23 = .ok (.aload_n 0, 1) := dk_42 (dk_at dksX17_commands_0 23 rfl rfl)
theorem dX17_commands_24 : decode cX17_commands 24 = .ok (.getfield 7, 3) := dk_180 0 7 (dk_at dksX17_commands_1 0 rfl rfl)
theorem dX17_commands_27 : decode cX17_commands 27 = .ok (.invokevirtual 17, 3) := dk_182 0 17 (dk_at dksX17_commands_1 3 rfl rfl)
theorem dX17_commands_30 : decode cX17_commands 30 = .ok (.if_icmp .ge 23, 3) := dk_162 0 23 (dk_at dksX17_commands_1 6 rfl rfl)
theorem dX17_commands_33 : decode cX17_commands 33 = .ok (.aload_n 0, 1) := dk_42 (dk_at dksX17_commands_1 9 rfl rfl)
theorem dX17_commands_34 : decode cX17_commands 34 = .ok (.bipush 59, 2) := dk_16 59 (dk_at dksX17_commands_1 10 rfl rfl)
theorem dX17_commands_36 : decode cX17_commands 36 = .ok (.invokevirtual 44, 3) := dk_182 0 44 (dk_at dksX17_commands_1 12 rfl rfl)
theorem dX17_commands_39 : decode cX17_commands 39 = .ok (.aload_n 1, 1) := dk_43 (dk_at dksX17_commands_1 15 rfl rfl)
theorem dX17_commands_40 : decode cX17_commands 40 = .ok (.aload_n 0, 1) := dk_42 (dk_at dksX17_commands_1 16 rfl rfl)
theorem dX17_commands_41 : decode cX17_commands 41 = .ok (.invokevirtual 113, 3) := dk_182 0 113 (dk_at dksX17_commands_1 17 rfl rfl)
theorem dX17_commands_44 : decode cX17_commands 44 = .ok (.invokeinterface 117 2, 5) := by decide +kernel
theorem dX17_commands_49 : decode cX17_commands 49 = .ok (.pop, 1) := dk_87 (dk_at dksX17_commands_2 5 rfl rfl)
theorem dX17_commands_50 : decode cX17_commands 50 = .ok (.goto (-31), 3) := dk_167 255 225 (dk_at dksX17_commands_2 6 rfl rfl)
theorem dX17_commands_53 : decode cX17_commands 53 = .ok (.aload_n 1, 1) := dk_43 (dk_at dksX17_commands_2 9 rfl rfl)
theorem dX17_commands_54 : decode cX17_commands 54 = .ok (.areturn, 1) := dk_176 (dk_at dksX17_commands_2 10 rfl rfl)
abbrev cX17_command : ByteArray := prog_12_method_10_code
def yX17_command : MethodName := ⟨RX17, "command", "()LSleeperRailway$Command;"⟩
def dkwX17_command_17 : List UInt8 := [187, 0, 105, 89, 43, 4, 188, 10, 89, 3, 42, 182, 0, 102, 79, 183, 0, 107, 176]
abbrev dktX17_command_17 : List UInt8 := dkwX17_command_17 ++ []
def dkwX17_command_16 : List UInt8 := [188, 10, 89, 3, 21, 13, 79, 89, 4, 21, 14, 79, 89, 5, 42, 182, 0, 48, 79, 183, 0, 107, 176]
abbrev dktX17_command_16 : List UInt8 := dkwX17_command_16 ++ dktX17_command_17
def dkwX17_command_15 : List UInt8 := [79, 183, 0, 107, 176, 42, 182, 0, 51, 54, 13, 42, 182, 0, 51, 54, 14, 187, 0, 105, 89, 43, 6]
abbrev dktX17_command_15 : List UInt8 := dkwX17_command_15 ++ dktX17_command_16
def dkwX17_command_14 : List UInt8 := [182, 0, 102, 54, 12, 187, 0, 105, 89, 43, 5, 188, 10, 89, 3, 21, 12, 79, 89, 4, 42, 182, 0, 51]
abbrev dktX17_command_14 : List UInt8 := dkwX17_command_14 ++ dktX17_command_15
def dkwX17_command_13 : List UInt8 := [188, 10, 89, 3, 21, 10, 79, 89, 4, 21, 11, 79, 89, 5, 42, 182, 0, 102, 79, 183, 0, 107, 176, 42]
abbrev dktX17_command_13 : List UInt8 := dkwX17_command_13 ++ dktX17_command_14
def dkwX17_command_12 : List UInt8 := [79, 183, 0, 107, 176, 42, 182, 0, 51, 54, 10, 42, 182, 0, 48, 54, 11, 187, 0, 105, 89, 43, 6]
abbrev dktX17_command_12 : List UInt8 := dkwX17_command_12 ++ dktX17_command_13
def dkwX17_command_11 : List UInt8 := [182, 0, 51, 54, 9, 187, 0, 105, 89, 43, 5, 188, 10, 89, 3, 21, 9, 79, 89, 4, 42, 182, 0, 102]
abbrev dktX17_command_11 : List UInt8 := dkwX17_command_11 ++ dktX17_command_12
def dkwX17_command_10 : List UInt8 := [89, 4, 21, 7, 79, 89, 5, 21, 8, 79, 89, 6, 42, 182, 0, 102, 79, 183, 0, 107, 176, 42]
abbrev dktX17_command_10 : List UInt8 := dkwX17_command_10 ++ dktX17_command_11
def dkwX17_command_9 : List UInt8 := [182, 0, 48, 54, 7, 42, 182, 0, 102, 54, 8, 187, 0, 105, 89, 43, 7, 188, 10, 89, 3, 21, 6, 79]
abbrev dktX17_command_9 : List UInt8 := dkwX17_command_9 ++ dktX17_command_10
def dkwX17_command_8 : List UInt8 := [79, 89, 4, 21, 5, 79, 89, 5, 42, 182, 0, 51, 79, 183, 0, 107, 176, 42, 182, 0, 51, 54, 6, 42]
abbrev dktX17_command_8 : List UInt8 := dkwX17_command_8 ++ dktX17_command_9
def dkwX17_command_7 : List UInt8 := [42, 182, 0, 51, 54, 4, 42, 182, 0, 102, 54, 5, 187, 0, 105, 89, 43, 6, 188, 10, 89, 3, 21, 4]
abbrev dktX17_command_7 : List UInt8 := dkwX17_command_7 ++ dktX17_command_8
def dkwX17_command_6 : List UInt8 := [170, 0, 0, 0, 1, 17, 0, 0, 0, 0, 0, 0, 0, 5, 0, 0, 0, 38, 0, 0, 0, 79, 0, 0, 0, 131, 0, 0, 0, 161, 0, 0, 0, 202, 0, 0, 0, 232]
abbrev dktX17_command_6 : List UInt8 := dkwX17_command_6 ++ dktX17_command_7
def dkwX17_command_5 : List UInt8 := [18, 100, 182, 0, 88, 153, 0, 5, 8, 62, 29]
abbrev dktX17_command_5 : List UInt8 := dkwX17_command_5 ++ dktX17_command_6
def dkwX17_command_4 : List UInt8 := [153, 0, 33, 6, 62, 167, 0, 28, 44, 18, 98, 182, 0, 88, 153, 0, 19, 7, 62, 167, 0, 14, 44]
abbrev dktX17_command_4 : List UInt8 := dkwX17_command_4 ++ dktX17_command_5
def dkwX17_command_3 : List UInt8 := [62, 167, 0, 56, 44, 18, 94, 182, 0, 88, 153, 0, 47, 5, 62, 167, 0, 42, 44, 18, 96, 182, 0, 88]
abbrev dktX17_command_3 : List UInt8 := dkwX17_command_3 ++ dktX17_command_4
def dkwX17_command_2 : List UInt8 := [44, 18, 86, 182, 0, 88, 153, 0, 75, 3, 62, 167, 0, 70, 44, 18, 92, 182, 0, 88, 153, 0, 61, 4]
abbrev dktX17_command_2 : List UInt8 := dkwX17_command_2 ++ dktX17_command_3
def dkwX17_command_1 : List UInt8 := [171, 0, 0, 0, 0, 0, 140, 0, 0, 0, 6, 0, 46, 58, 233, 0, 0, 0, 129, 0, 46, 123, 48, 0, 0, 0, 101, 0, 50, 146, 166, 0, 0, 0, 87, 0, 54, 8, 2, 0, 0, 0, 73, 6, 31, 126, 244, 0, 0, 0, 115, 6, 151, 242, 8, 0, 0, 0, 59]
abbrev dktX17_command_1 : List UInt8 := dkwX17_command_1 ++ dktX17_command_2
def dkwX17_command_0 : List UInt8 := [42, 182, 0, 80, 76, 43, 77, 2, 62, 44, 182, 0, 83]
abbrev dktX17_command_0 : List UInt8 := dkwX17_command_0 ++ dktX17_command_1
theorem dksX17_command_0 : cX17_command.data.toList.drop 0 = dktX17_command_0 := by decide +kernel
theorem dksX17_command_1 : cX17_command.data.toList.drop 13 = dktX17_command_1 := dk_seg dksX17_command_0 13 rfl rfl
theorem dksX17_command_2 : cX17_command.data.toList.drop 72 = dktX17_command_2 := dk_seg dksX17_command_1 59 rfl rfl
theorem dksX17_command_3 : cX17_command.data.toList.drop 96 = dktX17_command_3 := dk_seg dksX17_command_2 24 rfl rfl
theorem dksX17_command_4 : cX17_command.data.toList.drop 120 = dktX17_command_4 := dk_seg dksX17_command_3 24 rfl rfl
theorem dksX17_command_5 : cX17_command.data.toList.drop 143 = dktX17_command_5 := dk_seg dksX17_command_4 23 rfl rfl
theorem dksX17_command_6 : cX17_command.data.toList.drop 154 = dktX17_command_6 := dk_seg dksX17_command_5 11 rfl rfl
theorem dksX17_command_7 : cX17_command.data.toList.drop 192 = dktX17_command_7 := dk_seg dksX17_command_6 38 rfl rfl
theorem dksX17_command_8 : cX17_command.data.toList.drop 216 = dktX17_command_8 := dk_seg dksX17_command_7 24 rfl rfl
theorem dksX17_command_9 : cX17_command.data.toList.drop 240 = dktX17_command_9 := dk_seg dksX17_command_8 24 rfl rfl
theorem dksX17_command_10 : cX17_command.data.toList.drop 264 = dktX17_command_10 := dk_seg dksX17_command_9 24 rfl rfl
theorem dksX17_command_11 : cX17_command.data.toList.drop 286 = dktX17_command_11 := dk_seg dksX17_command_10 22 rfl rfl
theorem dksX17_command_12 : cX17_command.data.toList.drop 310 = dktX17_command_12 := dk_seg dksX17_command_11 24 rfl rfl
theorem dksX17_command_13 : cX17_command.data.toList.drop 333 = dktX17_command_13 := dk_seg dksX17_command_12 23 rfl rfl
theorem dksX17_command_14 : cX17_command.data.toList.drop 357 = dktX17_command_14 := dk_seg dksX17_command_13 24 rfl rfl
theorem dksX17_command_15 : cX17_command.data.toList.drop 381 = dktX17_command_15 := dk_seg dksX17_command_14 24 rfl rfl
theorem dksX17_command_16 : cX17_command.data.toList.drop 404 = dktX17_command_16 := dk_seg dksX17_command_15 23 rfl rfl
theorem dksX17_command_17 : cX17_command.data.toList.drop 427 = dktX17_command_17 := dk_seg dksX17_command_16 23 rfl rfl
theorem dX17_command_0 : decode cX17_command 0 = .ok (.aload_n 0, 1) := dk_42 (dk_at dksX17_command_0 0 rfl rfl)
theorem dX17_command_1 : decode cX17_command 1 = .ok (.invokevirtual 80, 3) := dk_182 0 80 (dk_at dksX17_command_0 1 rfl rfl)
theorem dX17_command_4 : decode cX17_command 4 = .ok (.astore_n 1, 1) := dk_76 (dk_at dksX17_command_0 4 rfl rfl)
theorem dX17_command_5 : decode cX17_command 5 = .ok (.aload_n 1, 1) := dk_43 (dk_at dksX17_command_0 5 rfl rfl)
theorem dX17_command_6 : decode cX17_command 6 = .ok (.astore_n 2, 1) := dk_77 (dk_at dksX17_command_0 6 rfl rfl)
theorem dX17_command_7 : decode cX17_command 7 = .ok (.iconst (-1), 1) := dk_2 (dk_at dksX17_command_0 7 rfl rfl)
theorem dX17_command_8 : decode cX17_command 8 = .ok (.istore_n 3, 1) := dk_62 (dk_at dksX17_command_0 8 rfl rfl)
theorem dX17_command_9 : decode cX17_command 9 = .ok (.aload_n 2, 1) := dk_44 (dk_at dksX17_command_0 9 rfl rfl)
theorem dX17_command_10 : decode cX17_command 10 = .ok (.invokevirtual 83, 3) := dk_182 0 83 (dk_at dksX17_command_0 10 rfl rfl)
theorem dX17_command_13 : decode cX17_command 13 = .ok (.lookupswitch 140 #[(3029737, 129), (3046192, 101), (3314342, 87), (3540994, 73), (102727412, 115), (110621192, 59)], 59) := by decide +kernel
theorem dX17_command_72 : decode cX17_command 72 = .ok (.aload_n 2, 1) := dk_44 (dk_at dksX17_command_2 0 rfl rfl)
theorem dX17_command_73 : decode cX17_command 73 = .ok (.ldc 86, 2) := dk_18 86 (dk_at dksX17_command_2 1 rfl rfl)
theorem dX17_command_75 : decode cX17_command 75 = .ok (.invokevirtual 88, 3) := dk_182 0 88 (dk_at dksX17_command_2 3 rfl rfl)
theorem dX17_command_78 : decode cX17_command 78 = .ok (.ifCond .eq 75, 3) := dk_153 0 75 (dk_at dksX17_command_2 6 rfl rfl)
theorem dX17_command_81 : decode cX17_command 81 = .ok (.iconst 0, 1) := dk_3 (dk_at dksX17_command_2 9 rfl rfl)
theorem dX17_command_82 : decode cX17_command 82 = .ok (.istore_n 3, 1) := dk_62 (dk_at dksX17_command_2 10 rfl rfl)
theorem dX17_command_83 : decode cX17_command 83 = .ok (.goto 70, 3) := dk_167 0 70 (dk_at dksX17_command_2 11 rfl rfl)
theorem dX17_command_86 : decode cX17_command 86 = .ok (.aload_n 2, 1) := dk_44 (dk_at dksX17_command_2 14 rfl rfl)
theorem dX17_command_87 : decode cX17_command 87 = .ok (.ldc 92, 2) := dk_18 92 (dk_at dksX17_command_2 15 rfl rfl)
theorem dX17_command_89 : decode cX17_command 89 = .ok (.invokevirtual 88, 3) := dk_182 0 88 (dk_at dksX17_command_2 17 rfl rfl)
theorem dX17_command_92 : decode cX17_command 92 = .ok (.ifCond .eq 61, 3) := dk_153 0 61 (dk_at dksX17_command_2 20 rfl rfl)
theorem dX17_command_95 : decode cX17_command 95 = .ok (.iconst 1, 1) := dk_4 (dk_at dksX17_command_2 23 rfl rfl)
theorem dX17_command_96 : decode cX17_command 96 = .ok (.istore_n 3, 1) := dk_62 (dk_at dksX17_command_3 0 rfl rfl)
theorem dX17_command_97 : decode cX17_command 97 = .ok (.goto 56, 3) := dk_167 0 56 (dk_at dksX17_command_3 1 rfl rfl)
theorem dX17_command_100 : decode cX17_command 100 = .ok (.aload_n 2, 1) := dk_44 (dk_at dksX17_command_3 4 rfl rfl)
theorem dX17_command_101 : decode cX17_command 101 = .ok (.ldc 94, 2) := dk_18 94 (dk_at dksX17_command_3 5 rfl rfl)
theorem dX17_command_103 : decode cX17_command 103 = .ok (.invokevirtual 88, 3) := dk_182 0 88 (dk_at dksX17_command_3 7 rfl rfl)
theorem dX17_command_106 : decode cX17_command 106 = .ok (.ifCond .eq 47, 3) := dk_153 0 47 (dk_at dksX17_command_3 10 rfl rfl)
theorem dX17_command_109 : decode cX17_command 109 = .ok (.iconst 2, 1) := dk_5 (dk_at dksX17_command_3 13 rfl rfl)
theorem dX17_command_110 : decode cX17_command 110 = .ok (.istore_n 3, 1) := dk_62 (dk_at dksX17_command_3 14 rfl rfl)
theorem dX17_command_111 : decode cX17_command 111 = .ok (.goto 42, 3) := dk_167 0 42 (dk_at dksX17_command_3 15 rfl rfl)
theorem dX17_command_114 : decode cX17_command 114 = .ok (.aload_n 2, 1) := dk_44 (dk_at dksX17_command_3 18 rfl rfl)
theorem dX17_command_115 : decode cX17_command 115 = .ok (.ldc 96, 2) := dk_18 96 (dk_at dksX17_command_3 19 rfl rfl)
theorem dX17_command_117 : decode cX17_command 117 = .ok (.invokevirtual 88, 3) := dk_182 0 88 (dk_at dksX17_command_3 21 rfl rfl)
theorem dX17_command_120 : decode cX17_command 120 = .ok (.ifCond .eq 33, 3) := dk_153 0 33 (dk_at dksX17_command_4 0 rfl rfl)
theorem dX17_command_123 : decode cX17_command 123 = .ok (.iconst 3, 1) := dk_6 (dk_at dksX17_command_4 3 rfl rfl)
theorem dX17_command_124 : decode cX17_command 124 = .ok (.istore_n 3, 1) := dk_62 (dk_at dksX17_command_4 4 rfl rfl)
theorem dX17_command_125 : decode cX17_command 125 = .ok (.goto 28, 3) := dk_167 0 28 (dk_at dksX17_command_4 5 rfl rfl)
theorem dX17_command_128 : decode cX17_command 128 = .ok (.aload_n 2, 1) := dk_44 (dk_at dksX17_command_4 8 rfl rfl)
theorem dX17_command_129 : decode cX17_command 129 = .ok (.ldc 98, 2) := dk_18 98 (dk_at dksX17_command_4 9 rfl rfl)
theorem dX17_command_131 : decode cX17_command 131 = .ok (.invokevirtual 88, 3) := dk_182 0 88 (dk_at dksX17_command_4 11 rfl rfl)
theorem dX17_command_134 : decode cX17_command 134 = .ok (.ifCond .eq 19, 3) := dk_153 0 19 (dk_at dksX17_command_4 14 rfl rfl)
theorem dX17_command_137 : decode cX17_command 137 = .ok (.iconst 4, 1) := dk_7 (dk_at dksX17_command_4 17 rfl rfl)
theorem dX17_command_138 : decode cX17_command 138 = .ok (.istore_n 3, 1) := dk_62 (dk_at dksX17_command_4 18 rfl rfl)
theorem dX17_command_139 : decode cX17_command 139 = .ok (.goto 14, 3) := dk_167 0 14 (dk_at dksX17_command_4 19 rfl rfl)
theorem dX17_command_142 : decode cX17_command 142 = .ok (.aload_n 2, 1) := dk_44 (dk_at dksX17_command_4 22 rfl rfl)
theorem dX17_command_143 : decode cX17_command 143 = .ok (.ldc 100, 2) := dk_18 100 (dk_at dksX17_command_5 0 rfl rfl)
theorem dX17_command_145 : decode cX17_command 145 = .ok (.invokevirtual 88, 3) := dk_182 0 88 (dk_at dksX17_command_5 2 rfl rfl)
theorem dX17_command_148 : decode cX17_command 148 = .ok (.ifCond .eq 5, 3) := dk_153 0 5 (dk_at dksX17_command_5 5 rfl rfl)
theorem dX17_command_151 : decode cX17_command 151 = .ok (.iconst 5, 1) := dk_8 (dk_at dksX17_command_5 8 rfl rfl)
theorem dX17_command_152 : decode cX17_command 152 = .ok (.istore_n 3, 1) := dk_62 (dk_at dksX17_command_5 9 rfl rfl)
theorem dX17_command_153 : decode cX17_command 153 = .ok (.iload_n 3, 1) := dk_29 (dk_at dksX17_command_5 10 rfl rfl)
theorem dX17_command_154 : decode cX17_command 154 = .ok (.tableswitch 273 0 5 #[38, 79, 131, 161, 202, 232], 38) := by decide +kernel
theorem dX17_command_192 : decode cX17_command 192 = .ok (.aload_n 0, 1) := dk_42 (dk_at dksX17_command_7 0 rfl rfl)
theorem dX17_command_193 : decode cX17_command 193 = .ok (.invokevirtual 51, 3) := dk_182 0 51 (dk_at dksX17_command_7 1 rfl rfl)
theorem dX17_command_196 : decode cX17_command 196 = .ok (.istore 4, 2) := dk_54 4 (dk_at dksX17_command_7 4 rfl rfl)
theorem dX17_command_198 : decode cX17_command 198 = .ok (.aload_n 0, 1) := dk_42 (dk_at dksX17_command_7 6 rfl rfl)
theorem dX17_command_199 : decode cX17_command 199 = .ok (.invokevirtual 102, 3) := dk_182 0 102 (dk_at dksX17_command_7 7 rfl rfl)
theorem dX17_command_202 : decode cX17_command 202 = .ok (.istore 5, 2) := dk_54 5 (dk_at dksX17_command_7 10 rfl rfl)
theorem dX17_command_204 : decode cX17_command 204 = .ok (.new 105, 3) := dk_187 0 105 (dk_at dksX17_command_7 12 rfl rfl)
theorem dX17_command_207 : decode cX17_command 207 = .ok (.dup, 1) := dk_89 (dk_at dksX17_command_7 15 rfl rfl)
theorem dX17_command_208 : decode cX17_command 208 = .ok (.aload_n 1, 1) := dk_43 (dk_at dksX17_command_7 16 rfl rfl)
theorem dX17_command_209 : decode cX17_command 209 = .ok (.iconst 3, 1) := dk_6 (dk_at dksX17_command_7 17 rfl rfl)
theorem dX17_command_210 : decode cX17_command 210 = .ok (.newarray .int, 2) := dk_188_10 (dk_at dksX17_command_7 18 rfl rfl)
theorem dX17_command_212 : decode cX17_command 212 = .ok (.dup, 1) := dk_89 (dk_at dksX17_command_7 20 rfl rfl)
theorem dX17_command_213 : decode cX17_command 213 = .ok (.iconst 0, 1) := dk_3 (dk_at dksX17_command_7 21 rfl rfl)
theorem dX17_command_214 : decode cX17_command 214 = .ok (.iload 4, 2) := dk_21 4 (dk_at dksX17_command_7 22 rfl rfl)
theorem dX17_command_216 : decode cX17_command 216 = .ok (.iastore, 1) := dk_79 (dk_at dksX17_command_8 0 rfl rfl)
theorem dX17_command_217 : decode cX17_command 217 = .ok (.dup, 1) := dk_89 (dk_at dksX17_command_8 1 rfl rfl)
theorem dX17_command_218 : decode cX17_command 218 = .ok (.iconst 1, 1) := dk_4 (dk_at dksX17_command_8 2 rfl rfl)
theorem dX17_command_219 : decode cX17_command 219 = .ok (.iload 5, 2) := dk_21 5 (dk_at dksX17_command_8 3 rfl rfl)
theorem dX17_command_221 : decode cX17_command 221 = .ok (.iastore, 1) := dk_79 (dk_at dksX17_command_8 5 rfl rfl)
theorem dX17_command_222 : decode cX17_command 222 = .ok (.dup, 1) := dk_89 (dk_at dksX17_command_8 6 rfl rfl)
theorem dX17_command_223 : decode cX17_command 223 = .ok (.iconst 2, 1) := dk_5 (dk_at dksX17_command_8 7 rfl rfl)
theorem dX17_command_224 : decode cX17_command 224 = .ok (.aload_n 0, 1) := dk_42 (dk_at dksX17_command_8 8 rfl rfl)
theorem dX17_command_225 : decode cX17_command 225 = .ok (.invokevirtual 51, 3) := dk_182 0 51 (dk_at dksX17_command_8 9 rfl rfl)
theorem dX17_command_228 : decode cX17_command 228 = .ok (.iastore, 1) := dk_79 (dk_at dksX17_command_8 12 rfl rfl)
theorem dX17_command_229 : decode cX17_command 229 = .ok (.invokespecial 107, 3) := dk_183 0 107 (dk_at dksX17_command_8 13 rfl rfl)
theorem dX17_command_232 : decode cX17_command 232 = .ok (.areturn, 1) := dk_176 (dk_at dksX17_command_8 16 rfl rfl)
theorem dX17_command_233 : decode cX17_command 233 = .ok (.aload_n 0, 1) := dk_42 (dk_at dksX17_command_8 17 rfl rfl)
theorem dX17_command_234 : decode cX17_command 234 = .ok (.invokevirtual 51, 3) := dk_182 0 51 (dk_at dksX17_command_8 18 rfl rfl)
theorem dX17_command_237 : decode cX17_command 237 = .ok (.istore 6, 2) := dk_54 6 (dk_at dksX17_command_8 21 rfl rfl)
theorem dX17_command_239 : decode cX17_command 239 = .ok (.aload_n 0, 1) := dk_42 (dk_at dksX17_command_8 23 rfl rfl)
theorem dX17_command_240 : decode cX17_command 240 = .ok (.invokevirtual 48, 3) := dk_182 0 48 (dk_at dksX17_command_9 0 rfl rfl)
theorem dX17_command_243 : decode cX17_command 243 = .ok (.istore 7, 2) := dk_54 7 (dk_at dksX17_command_9 3 rfl rfl)
theorem dX17_command_245 : decode cX17_command 245 = .ok (.aload_n 0, 1) := dk_42 (dk_at dksX17_command_9 5 rfl rfl)
theorem dX17_command_246 : decode cX17_command 246 = .ok (.invokevirtual 102, 3) := dk_182 0 102 (dk_at dksX17_command_9 6 rfl rfl)
theorem dX17_command_249 : decode cX17_command 249 = .ok (.istore 8, 2) := dk_54 8 (dk_at dksX17_command_9 9 rfl rfl)
theorem dX17_command_251 : decode cX17_command 251 = .ok (.new 105, 3) := dk_187 0 105 (dk_at dksX17_command_9 11 rfl rfl)
theorem dX17_command_254 : decode cX17_command 254 = .ok (.dup, 1) := dk_89 (dk_at dksX17_command_9 14 rfl rfl)
theorem dX17_command_255 : decode cX17_command 255 = .ok (.aload_n 1, 1) := dk_43 (dk_at dksX17_command_9 15 rfl rfl)
theorem dX17_command_256 : decode cX17_command 256 = .ok (.iconst 4, 1) := dk_7 (dk_at dksX17_command_9 16 rfl rfl)
theorem dX17_command_257 : decode cX17_command 257 = .ok (.newarray .int, 2) := dk_188_10 (dk_at dksX17_command_9 17 rfl rfl)
theorem dX17_command_259 : decode cX17_command 259 = .ok (.dup, 1) := dk_89 (dk_at dksX17_command_9 19 rfl rfl)
theorem dX17_command_260 : decode cX17_command 260 = .ok (.iconst 0, 1) := dk_3 (dk_at dksX17_command_9 20 rfl rfl)
theorem dX17_command_261 : decode cX17_command 261 = .ok (.iload 6, 2) := dk_21 6 (dk_at dksX17_command_9 21 rfl rfl)
theorem dX17_command_263 : decode cX17_command 263 = .ok (.iastore, 1) := dk_79 (dk_at dksX17_command_9 23 rfl rfl)
theorem dX17_command_264 : decode cX17_command 264 = .ok (.dup, 1) := dk_89 (dk_at dksX17_command_10 0 rfl rfl)
theorem dX17_command_265 : decode cX17_command 265 = .ok (.iconst 1, 1) := dk_4 (dk_at dksX17_command_10 1 rfl rfl)
theorem dX17_command_266 : decode cX17_command 266 = .ok (.iload 7, 2) := dk_21 7 (dk_at dksX17_command_10 2 rfl rfl)
theorem dX17_command_268 : decode cX17_command 268 = .ok (.iastore, 1) := dk_79 (dk_at dksX17_command_10 4 rfl rfl)
theorem dX17_command_269 : decode cX17_command 269 = .ok (.dup, 1) := dk_89 (dk_at dksX17_command_10 5 rfl rfl)
theorem dX17_command_270 : decode cX17_command 270 = .ok (.iconst 2, 1) := dk_5 (dk_at dksX17_command_10 6 rfl rfl)
theorem dX17_command_271 : decode cX17_command 271 = .ok (.iload 8, 2) := dk_21 8 (dk_at dksX17_command_10 7 rfl rfl)
theorem dX17_command_273 : decode cX17_command 273 = .ok (.iastore, 1) := dk_79 (dk_at dksX17_command_10 9 rfl rfl)
theorem dX17_command_274 : decode cX17_command 274 = .ok (.dup, 1) := dk_89 (dk_at dksX17_command_10 10 rfl rfl)
theorem dX17_command_275 : decode cX17_command 275 = .ok (.iconst 3, 1) := dk_6 (dk_at dksX17_command_10 11 rfl rfl)
theorem dX17_command_276 : decode cX17_command 276 = .ok (.aload_n 0, 1) := dk_42 (dk_at dksX17_command_10 12 rfl rfl)
theorem dX17_command_277 : decode cX17_command 277 = .ok (.invokevirtual 102, 3) := dk_182 0 102 (dk_at dksX17_command_10 13 rfl rfl)
theorem dX17_command_280 : decode cX17_command 280 = .ok (.iastore, 1) := dk_79 (dk_at dksX17_command_10 16 rfl rfl)
theorem dX17_command_281 : decode cX17_command 281 = .ok (.invokespecial 107, 3) := dk_183 0 107 (dk_at dksX17_command_10 17 rfl rfl)
theorem dX17_command_284 : decode cX17_command 284 = .ok (.areturn, 1) := dk_176 (dk_at dksX17_command_10 20 rfl rfl)
theorem dX17_command_285 : decode cX17_command 285 = .ok (.aload_n 0, 1) := dk_42 (dk_at dksX17_command_10 21 rfl rfl)
theorem dX17_command_286 : decode cX17_command 286 = .ok (.invokevirtual 51, 3) := dk_182 0 51 (dk_at dksX17_command_11 0 rfl rfl)
theorem dX17_command_289 : decode cX17_command 289 = .ok (.istore 9, 2) := dk_54 9 (dk_at dksX17_command_11 3 rfl rfl)
theorem dX17_command_291 : decode cX17_command 291 = .ok (.new 105, 3) := dk_187 0 105 (dk_at dksX17_command_11 5 rfl rfl)
theorem dX17_command_294 : decode cX17_command 294 = .ok (.dup, 1) := dk_89 (dk_at dksX17_command_11 8 rfl rfl)
theorem dX17_command_295 : decode cX17_command 295 = .ok (.aload_n 1, 1) := dk_43 (dk_at dksX17_command_11 9 rfl rfl)
theorem dX17_command_296 : decode cX17_command 296 = .ok (.iconst 2, 1) := dk_5 (dk_at dksX17_command_11 10 rfl rfl)
theorem dX17_command_297 : decode cX17_command 297 = .ok (.newarray .int, 2) := dk_188_10 (dk_at dksX17_command_11 11 rfl rfl)
theorem dX17_command_299 : decode cX17_command 299 = .ok (.dup, 1) := dk_89 (dk_at dksX17_command_11 13 rfl rfl)
theorem dX17_command_300 : decode cX17_command 300 = .ok (.iconst 0, 1) := dk_3 (dk_at dksX17_command_11 14 rfl rfl)
theorem dX17_command_301 : decode cX17_command 301 = .ok (.iload 9, 2) := dk_21 9 (dk_at dksX17_command_11 15 rfl rfl)
theorem dX17_command_303 : decode cX17_command 303 = .ok (.iastore, 1) := dk_79 (dk_at dksX17_command_11 17 rfl rfl)
theorem dX17_command_304 : decode cX17_command 304 = .ok (.dup, 1) := dk_89 (dk_at dksX17_command_11 18 rfl rfl)
theorem dX17_command_305 : decode cX17_command 305 = .ok (.iconst 1, 1) := dk_4 (dk_at dksX17_command_11 19 rfl rfl)
theorem dX17_command_306 : decode cX17_command 306 = .ok (.aload_n 0, 1) := dk_42 (dk_at dksX17_command_11 20 rfl rfl)
theorem dX17_command_307 : decode cX17_command 307 = .ok (.invokevirtual 102, 3) := dk_182 0 102 (dk_at dksX17_command_11 21 rfl rfl)
theorem dX17_command_310 : decode cX17_command 310 = .ok (.iastore, 1) := dk_79 (dk_at dksX17_command_12 0 rfl rfl)
theorem dX17_command_311 : decode cX17_command 311 = .ok (.invokespecial 107, 3) := dk_183 0 107 (dk_at dksX17_command_12 1 rfl rfl)
theorem dX17_command_314 : decode cX17_command 314 = .ok (.areturn, 1) := dk_176 (dk_at dksX17_command_12 4 rfl rfl)
theorem dX17_command_315 : decode cX17_command 315 = .ok (.aload_n 0, 1) := dk_42 (dk_at dksX17_command_12 5 rfl rfl)
theorem dX17_command_316 : decode cX17_command 316 = .ok (.invokevirtual 51, 3) := dk_182 0 51 (dk_at dksX17_command_12 6 rfl rfl)
theorem dX17_command_319 : decode cX17_command 319 = .ok (.istore 10, 2) := dk_54 10 (dk_at dksX17_command_12 9 rfl rfl)
theorem dX17_command_321 : decode cX17_command 321 = .ok (.aload_n 0, 1) := dk_42 (dk_at dksX17_command_12 11 rfl rfl)
theorem dX17_command_322 : decode cX17_command 322 = .ok (.invokevirtual 48, 3) := dk_182 0 48 (dk_at dksX17_command_12 12 rfl rfl)
theorem dX17_command_325 : decode cX17_command 325 = .ok (.istore 11, 2) := dk_54 11 (dk_at dksX17_command_12 15 rfl rfl)
theorem dX17_command_327 : decode cX17_command 327 = .ok (.new 105, 3) := dk_187 0 105 (dk_at dksX17_command_12 17 rfl rfl)
theorem dX17_command_330 : decode cX17_command 330 = .ok (.dup, 1) := dk_89 (dk_at dksX17_command_12 20 rfl rfl)
theorem dX17_command_331 : decode cX17_command 331 = .ok (.aload_n 1, 1) := dk_43 (dk_at dksX17_command_12 21 rfl rfl)
theorem dX17_command_332 : decode cX17_command 332 = .ok (.iconst 3, 1) := dk_6 (dk_at dksX17_command_12 22 rfl rfl)
theorem dX17_command_333 : decode cX17_command 333 = .ok (.newarray .int, 2) := dk_188_10 (dk_at dksX17_command_13 0 rfl rfl)
theorem dX17_command_335 : decode cX17_command 335 = .ok (.dup, 1) := dk_89 (dk_at dksX17_command_13 2 rfl rfl)
theorem dX17_command_336 : decode cX17_command 336 = .ok (.iconst 0, 1) := dk_3 (dk_at dksX17_command_13 3 rfl rfl)
theorem dX17_command_337 : decode cX17_command 337 = .ok (.iload 10, 2) := dk_21 10 (dk_at dksX17_command_13 4 rfl rfl)
theorem dX17_command_339 : decode cX17_command 339 = .ok (.iastore, 1) := dk_79 (dk_at dksX17_command_13 6 rfl rfl)
theorem dX17_command_340 : decode cX17_command 340 = .ok (.dup, 1) := dk_89 (dk_at dksX17_command_13 7 rfl rfl)
theorem dX17_command_341 : decode cX17_command 341 = .ok (.iconst 1, 1) := dk_4 (dk_at dksX17_command_13 8 rfl rfl)
theorem dX17_command_342 : decode cX17_command 342 = .ok (.iload 11, 2) := dk_21 11 (dk_at dksX17_command_13 9 rfl rfl)
theorem dX17_command_344 : decode cX17_command 344 = .ok (.iastore, 1) := dk_79 (dk_at dksX17_command_13 11 rfl rfl)
theorem dX17_command_345 : decode cX17_command 345 = .ok (.dup, 1) := dk_89 (dk_at dksX17_command_13 12 rfl rfl)
theorem dX17_command_346 : decode cX17_command 346 = .ok (.iconst 2, 1) := dk_5 (dk_at dksX17_command_13 13 rfl rfl)
theorem dX17_command_347 : decode cX17_command 347 = .ok (.aload_n 0, 1) := dk_42 (dk_at dksX17_command_13 14 rfl rfl)
theorem dX17_command_348 : decode cX17_command 348 = .ok (.invokevirtual 102, 3) := dk_182 0 102 (dk_at dksX17_command_13 15 rfl rfl)
theorem dX17_command_351 : decode cX17_command 351 = .ok (.iastore, 1) := dk_79 (dk_at dksX17_command_13 18 rfl rfl)
theorem dX17_command_352 : decode cX17_command 352 = .ok (.invokespecial 107, 3) := dk_183 0 107 (dk_at dksX17_command_13 19 rfl rfl)
theorem dX17_command_355 : decode cX17_command 355 = .ok (.areturn, 1) := dk_176 (dk_at dksX17_command_13 22 rfl rfl)
theorem dX17_command_356 : decode cX17_command 356 = .ok (.aload_n 0, 1) := dk_42 (dk_at dksX17_command_13 23 rfl rfl)
theorem dX17_command_357 : decode cX17_command 357 = .ok (.invokevirtual 102, 3) := dk_182 0 102 (dk_at dksX17_command_14 0 rfl rfl)
theorem dX17_command_360 : decode cX17_command 360 = .ok (.istore 12, 2) := dk_54 12 (dk_at dksX17_command_14 3 rfl rfl)
theorem dX17_command_362 : decode cX17_command 362 = .ok (.new 105, 3) := dk_187 0 105 (dk_at dksX17_command_14 5 rfl rfl)
theorem dX17_command_365 : decode cX17_command 365 = .ok (.dup, 1) := dk_89 (dk_at dksX17_command_14 8 rfl rfl)
theorem dX17_command_366 : decode cX17_command 366 = .ok (.aload_n 1, 1) := dk_43 (dk_at dksX17_command_14 9 rfl rfl)
theorem dX17_command_367 : decode cX17_command 367 = .ok (.iconst 2, 1) := dk_5 (dk_at dksX17_command_14 10 rfl rfl)
theorem dX17_command_368 : decode cX17_command 368 = .ok (.newarray .int, 2) := dk_188_10 (dk_at dksX17_command_14 11 rfl rfl)
theorem dX17_command_370 : decode cX17_command 370 = .ok (.dup, 1) := dk_89 (dk_at dksX17_command_14 13 rfl rfl)
theorem dX17_command_371 : decode cX17_command 371 = .ok (.iconst 0, 1) := dk_3 (dk_at dksX17_command_14 14 rfl rfl)
theorem dX17_command_372 : decode cX17_command 372 = .ok (.iload 12, 2) := dk_21 12 (dk_at dksX17_command_14 15 rfl rfl)
theorem dX17_command_374 : decode cX17_command 374 = .ok (.iastore, 1) := dk_79 (dk_at dksX17_command_14 17 rfl rfl)
theorem dX17_command_375 : decode cX17_command 375 = .ok (.dup, 1) := dk_89 (dk_at dksX17_command_14 18 rfl rfl)
theorem dX17_command_376 : decode cX17_command 376 = .ok (.iconst 1, 1) := dk_4 (dk_at dksX17_command_14 19 rfl rfl)
theorem dX17_command_377 : decode cX17_command 377 = .ok (.aload_n 0, 1) := dk_42 (dk_at dksX17_command_14 20 rfl rfl)
theorem dX17_command_378 : decode cX17_command 378 = .ok (.invokevirtual 51, 3) := dk_182 0 51 (dk_at dksX17_command_14 21 rfl rfl)
theorem dX17_command_381 : decode cX17_command 381 = .ok (.iastore, 1) := dk_79 (dk_at dksX17_command_15 0 rfl rfl)
theorem dX17_command_382 : decode cX17_command 382 = .ok (.invokespecial 107, 3) := dk_183 0 107 (dk_at dksX17_command_15 1 rfl rfl)
theorem dX17_command_385 : decode cX17_command 385 = .ok (.areturn, 1) := dk_176 (dk_at dksX17_command_15 4 rfl rfl)
theorem dX17_command_386 : decode cX17_command 386 = .ok (.aload_n 0, 1) := dk_42 (dk_at dksX17_command_15 5 rfl rfl)
theorem dX17_command_387 : decode cX17_command 387 = .ok (.invokevirtual 51, 3) := dk_182 0 51 (dk_at dksX17_command_15 6 rfl rfl)
theorem dX17_command_390 : decode cX17_command 390 = .ok (.istore 13, 2) := dk_54 13 (dk_at dksX17_command_15 9 rfl rfl)
theorem dX17_command_392 : decode cX17_command 392 = .ok (.aload_n 0, 1) := dk_42 (dk_at dksX17_command_15 11 rfl rfl)
theorem dX17_command_393 : decode cX17_command 393 = .ok (.invokevirtual 51, 3) := dk_182 0 51 (dk_at dksX17_command_15 12 rfl rfl)
theorem dX17_command_396 : decode cX17_command 396 = .ok (.istore 14, 2) := dk_54 14 (dk_at dksX17_command_15 15 rfl rfl)
theorem dX17_command_398 : decode cX17_command 398 = .ok (.new 105, 3) := dk_187 0 105 (dk_at dksX17_command_15 17 rfl rfl)
theorem dX17_command_401 : decode cX17_command 401 = .ok (.dup, 1) := dk_89 (dk_at dksX17_command_15 20 rfl rfl)
theorem dX17_command_402 : decode cX17_command 402 = .ok (.aload_n 1, 1) := dk_43 (dk_at dksX17_command_15 21 rfl rfl)
theorem dX17_command_403 : decode cX17_command 403 = .ok (.iconst 3, 1) := dk_6 (dk_at dksX17_command_15 22 rfl rfl)
theorem dX17_command_404 : decode cX17_command 404 = .ok (.newarray .int, 2) := dk_188_10 (dk_at dksX17_command_16 0 rfl rfl)
theorem dX17_command_406 : decode cX17_command 406 = .ok (.dup, 1) := dk_89 (dk_at dksX17_command_16 2 rfl rfl)
theorem dX17_command_407 : decode cX17_command 407 = .ok (.iconst 0, 1) := dk_3 (dk_at dksX17_command_16 3 rfl rfl)
theorem dX17_command_408 : decode cX17_command 408 = .ok (.iload 13, 2) := dk_21 13 (dk_at dksX17_command_16 4 rfl rfl)
theorem dX17_command_410 : decode cX17_command 410 = .ok (.iastore, 1) := dk_79 (dk_at dksX17_command_16 6 rfl rfl)
theorem dX17_command_411 : decode cX17_command 411 = .ok (.dup, 1) := dk_89 (dk_at dksX17_command_16 7 rfl rfl)
theorem dX17_command_412 : decode cX17_command 412 = .ok (.iconst 1, 1) := dk_4 (dk_at dksX17_command_16 8 rfl rfl)
theorem dX17_command_413 : decode cX17_command 413 = .ok (.iload 14, 2) := dk_21 14 (dk_at dksX17_command_16 9 rfl rfl)
theorem dX17_command_415 : decode cX17_command 415 = .ok (.iastore, 1) := dk_79 (dk_at dksX17_command_16 11 rfl rfl)
theorem dX17_command_416 : decode cX17_command 416 = .ok (.dup, 1) := dk_89 (dk_at dksX17_command_16 12 rfl rfl)
theorem dX17_command_417 : decode cX17_command 417 = .ok (.iconst 2, 1) := dk_5 (dk_at dksX17_command_16 13 rfl rfl)
theorem dX17_command_418 : decode cX17_command 418 = .ok (.aload_n 0, 1) := dk_42 (dk_at dksX17_command_16 14 rfl rfl)
theorem dX17_command_419 : decode cX17_command 419 = .ok (.invokevirtual 48, 3) := dk_182 0 48 (dk_at dksX17_command_16 15 rfl rfl)
theorem dX17_command_422 : decode cX17_command 422 = .ok (.iastore, 1) := dk_79 (dk_at dksX17_command_16 18 rfl rfl)
theorem dX17_command_423 : decode cX17_command 423 = .ok (.invokespecial 107, 3) := dk_183 0 107 (dk_at dksX17_command_16 19 rfl rfl)
theorem dX17_command_426 : decode cX17_command 426 = .ok (.areturn, 1) := dk_176 (dk_at dksX17_command_16 22 rfl rfl)
theorem dX17_command_427 : decode cX17_command 427 = .ok (.new 105, 3) := dk_187 0 105 (dk_at dksX17_command_17 0 rfl rfl)
theorem dX17_command_430 : decode cX17_command 430 = .ok (.dup, 1) := dk_89 (dk_at dksX17_command_17 3 rfl rfl)
theorem dX17_command_431 : decode cX17_command 431 = .ok (.aload_n 1, 1) := dk_43 (dk_at dksX17_command_17 4 rfl rfl)
theorem dX17_command_432 : decode cX17_command 432 = .ok (.iconst 1, 1) := dk_4 (dk_at dksX17_command_17 5 rfl rfl)
theorem dX17_command_433 : decode cX17_command 433 = .ok (.newarray .int, 2) := dk_188_10 (dk_at dksX17_command_17 6 rfl rfl)
theorem dX17_command_435 : decode cX17_command 435 = .ok (.dup, 1) := dk_89 (dk_at dksX17_command_17 8 rfl rfl)
theorem dX17_command_436 : decode cX17_command 436 = .ok (.iconst 0, 1) := dk_3 (dk_at dksX17_command_17 9 rfl rfl)
theorem dX17_command_437 : decode cX17_command 437 = .ok (.aload_n 0, 1) := dk_42 (dk_at dksX17_command_17 10 rfl rfl)
theorem dX17_command_438 : decode cX17_command 438 = .ok (.invokevirtual 102, 3) := dk_182 0 102 (dk_at dksX17_command_17 11 rfl rfl)
theorem dX17_command_441 : decode cX17_command 441 = .ok (.iastore, 1) := dk_79 (dk_at dksX17_command_17 14 rfl rfl)
theorem dX17_command_442 : decode cX17_command 442 = .ok (.invokespecial 107, 3) := dk_183 0 107 (dk_at dksX17_command_17 15 rfl rfl)
theorem dX17_command_445 : decode cX17_command 445 = .ok (.areturn, 1) := dk_176 (dk_at dksX17_command_17 18 rfl rfl)
abbrev cX17_word : ByteArray := prog_12_method_9_code
def yX17_word : MethodName := ⟨RX17, "word", "()Ljava/lang/String;"⟩
def dkwX17_word_5 : List UInt8 := [182, 0, 75, 153, 0, 7, 4, 167, 0, 4, 3, 182, 0, 36, 43, 182, 0, 71, 176]
abbrev dktX17_word_5 : List UInt8 := dkwX17_word_5 ++ []
def dkwX17_word_4 : List UInt8 := [187, 0, 54, 89, 183, 0, 56, 18, 59, 182, 0, 61, 43, 182, 0, 65, 18, 59, 182, 0, 61, 182, 0, 71]
abbrev dktX17_word_4 : List UInt8 := dkwX17_word_4 ++ dktX17_word_5
def dkwX17_word_3 : List UInt8 := [42, 89, 180, 0, 13, 4, 96, 181, 0, 13, 167, 255, 184, 42, 43, 182, 0, 79, 158, 0, 39, 18, 57]
abbrev dktX17_word_3 : List UInt8 := dkwX17_word_3 ++ dktX17_word_4
def dkwX17_word_2 : List UInt8 := [182, 0, 32, 182, 0, 68, 182, 0, 71, 182, 0, 75, 182, 0, 36, 43, 42, 182, 0, 32, 182, 0, 68, 87]
abbrev dktX17_word_2 : List UInt8 := dkwX17_word_2 ++ dktX17_word_3
def dkwX17_word_1 : List UInt8 := [163, 0, 60, 42, 18, 57, 187, 0, 54, 89, 183, 0, 56, 18, 59, 182, 0, 61, 43, 182, 0, 65, 42]
abbrev dktX17_word_1 : List UInt8 := dkwX17_word_1 ++ dktX17_word_2
def dkwX17_word_0 : List UInt8 := [187, 0, 54, 89, 183, 0, 56, 76, 42, 182, 0, 32, 16, 97, 161, 0, 69, 42, 182, 0, 32, 16, 122]
abbrev dktX17_word_0 : List UInt8 := dkwX17_word_0 ++ dktX17_word_1
theorem dksX17_word_0 : cX17_word.data.toList.drop 0 = dktX17_word_0 := by decide +kernel
theorem dksX17_word_1 : cX17_word.data.toList.drop 23 = dktX17_word_1 := dk_seg dksX17_word_0 23 rfl rfl
theorem dksX17_word_2 : cX17_word.data.toList.drop 46 = dktX17_word_2 := dk_seg dksX17_word_1 23 rfl rfl
theorem dksX17_word_3 : cX17_word.data.toList.drop 70 = dktX17_word_3 := dk_seg dksX17_word_2 24 rfl rfl
theorem dksX17_word_4 : cX17_word.data.toList.drop 93 = dktX17_word_4 := dk_seg dksX17_word_3 23 rfl rfl
theorem dksX17_word_5 : cX17_word.data.toList.drop 117 = dktX17_word_5 := dk_seg dksX17_word_4 24 rfl rfl
theorem dX17_word_0 : decode cX17_word 0 = .ok (.new 54, 3) := dk_187 0 54 (dk_at dksX17_word_0 0 rfl rfl)
theorem dX17_word_3 : decode cX17_word 3 = .ok (.dup, 1) := dk_89 (dk_at dksX17_word_0 3 rfl rfl)
theorem dX17_word_4 : decode cX17_word 4 = .ok (.invokespecial 56, 3) := dk_183 0 56 (dk_at dksX17_word_0 4 rfl rfl)
theorem dX17_word_7 : decode cX17_word 7 = .ok (.astore_n 1, 1) := dk_76 (dk_at dksX17_word_0 7 rfl rfl)
theorem dX17_word_8 : decode cX17_word 8 = .ok (.aload_n 0, 1) := dk_42 (dk_at dksX17_word_0 8 rfl rfl)
theorem dX17_word_9 : decode cX17_word 9 = .ok (.invokevirtual 32, 3) := dk_182 0 32 (dk_at dksX17_word_0 9 rfl rfl)
theorem dX17_word_12 : decode cX17_word 12 = .ok (.bipush 97, 2) := dk_16 97 (dk_at dksX17_word_0 12 rfl rfl)
theorem dX17_word_14 : decode cX17_word 14 = .ok (.if_icmp .lt 69, 3) := dk_161 0 69 (dk_at dksX17_word_0 14 rfl rfl)
theorem dX17_word_17 : decode cX17_word 17 = .ok (.aload_n 0, 1) := dk_42 (dk_at dksX17_word_0 17 rfl rfl)
theorem dX17_word_18 : decode cX17_word 18 = .ok (.invokevirtual 32, 3) := dk_182 0 32 (dk_at dksX17_word_0 18 rfl rfl)
theorem dX17_word_21 : decode cX17_word 21 = .ok (.bipush 122, 2) := dk_16 122 (dk_at dksX17_word_0 21 rfl rfl)
theorem dX17_word_23 : decode cX17_word 23 = .ok (.if_icmp .gt 60, 3) := dk_163 0 60 (dk_at dksX17_word_1 0 rfl rfl)
theorem dX17_word_26 : decode cX17_word 26 = .ok (.aload_n 0, 1) := dk_42 (dk_at dksX17_word_1 3 rfl rfl)
theorem dX17_word_27 : decode cX17_word 27 = .ok (.ldc 57, 2) := dk_18 57 (dk_at dksX17_word_1 4 rfl rfl)
theorem dX17_word_29 : decode cX17_word 29 = .ok (.new 54, 3) := dk_187 0 54 (dk_at dksX17_word_1 6 rfl rfl)
theorem dX17_word_32 : decode cX17_word 32 = .ok (.dup, 1) := dk_89 (dk_at dksX17_word_1 9 rfl rfl)
theorem dX17_word_33 : decode cX17_word 33 = .ok (.invokespecial 56, 3) := dk_183 0 56 (dk_at dksX17_word_1 10 rfl rfl)
theorem dX17_word_36 : decode cX17_word 36 = .ok (.ldc 59, 2) := dk_18 59 (dk_at dksX17_word_1 13 rfl rfl)
theorem dX17_word_38 : decode cX17_word 38 = .ok (.invokevirtual 61, 3) := dk_182 0 61 (dk_at dksX17_word_1 15 rfl rfl)
theorem dX17_word_41 : decode cX17_word 41 = .ok (.aload_n 1, 1) := dk_43 (dk_at dksX17_word_1 18 rfl rfl)
theorem dX17_word_42 : decode cX17_word 42 = .ok (.invokevirtual 65, 3) := dk_182 0 65 (dk_at dksX17_word_1 19 rfl rfl)
theorem dX17_word_45 : decode cX17_word 45 = .ok (.aload_n 0, 1) := dk_42 (dk_at dksX17_word_1 22 rfl rfl)
theorem dX17_word_46 : decode cX17_word 46 = .ok (.invokevirtual 32, 3) := dk_182 0 32 (dk_at dksX17_word_2 0 rfl rfl)
theorem dX17_word_49 : decode cX17_word 49 = .ok (.invokevirtual 68, 3) := dk_182 0 68 (dk_at dksX17_word_2 3 rfl rfl)
theorem dX17_word_52 : decode cX17_word 52 = .ok (.invokevirtual 71, 3) := dk_182 0 71 (dk_at dksX17_word_2 6 rfl rfl)
theorem dX17_word_55 : decode cX17_word 55 = .ok (.invokevirtual 75, 3) := dk_182 0 75 (dk_at dksX17_word_2 9 rfl rfl)
theorem dX17_word_58 : decode cX17_word 58 = .ok (.invokevirtual 36, 3) := dk_182 0 36 (dk_at dksX17_word_2 12 rfl rfl)
theorem dX17_word_61 : decode cX17_word 61 = .ok (.aload_n 1, 1) := dk_43 (dk_at dksX17_word_2 15 rfl rfl)
theorem dX17_word_62 : decode cX17_word 62 = .ok (.aload_n 0, 1) := dk_42 (dk_at dksX17_word_2 16 rfl rfl)
theorem dX17_word_63 : decode cX17_word 63 = .ok (.invokevirtual 32, 3) := dk_182 0 32 (dk_at dksX17_word_2 17 rfl rfl)
theorem dX17_word_66 : decode cX17_word 66 = .ok (.invokevirtual 68, 3) := dk_182 0 68 (dk_at dksX17_word_2 20 rfl rfl)
theorem dX17_word_69 : decode cX17_word 69 = .ok (.pop, 1) := dk_87 (dk_at dksX17_word_2 23 rfl rfl)
theorem dX17_word_70 : decode cX17_word 70 = .ok (.aload_n 0, 1) := dk_42 (dk_at dksX17_word_3 0 rfl rfl)
theorem dX17_word_71 : decode cX17_word 71 = .ok (.dup, 1) := dk_89 (dk_at dksX17_word_3 1 rfl rfl)
theorem dX17_word_72 : decode cX17_word 72 = .ok (.getfield 13, 3) := dk_180 0 13 (dk_at dksX17_word_3 2 rfl rfl)
theorem dX17_word_75 : decode cX17_word 75 = .ok (.iconst 1, 1) := dk_4 (dk_at dksX17_word_3 5 rfl rfl)
theorem dX17_word_76 : decode cX17_word 76 = .ok (.iadd, 1) := dk_96 (dk_at dksX17_word_3 6 rfl rfl)
theorem dX17_word_77 : decode cX17_word 77 = .ok (.putfield 13, 3) := dk_181 0 13 (dk_at dksX17_word_3 7 rfl rfl)
theorem dX17_word_80 : decode cX17_word 80 = .ok (.goto (-72), 3) := dk_167 255 184 (dk_at dksX17_word_3 10 rfl rfl)
theorem dX17_word_83 : decode cX17_word 83 = .ok (.aload_n 0, 1) := dk_42 (dk_at dksX17_word_3 13 rfl rfl)
theorem dX17_word_84 : decode cX17_word 84 = .ok (.aload_n 1, 1) := dk_43 (dk_at dksX17_word_3 14 rfl rfl)
theorem dX17_word_85 : decode cX17_word 85 = .ok (.invokevirtual 79, 3) := dk_182 0 79 (dk_at dksX17_word_3 15 rfl rfl)
theorem dX17_word_88 : decode cX17_word 88 = .ok (.ifCond .le 39, 3) := dk_158 0 39 (dk_at dksX17_word_3 18 rfl rfl)
theorem dX17_word_91 : decode cX17_word 91 = .ok (.ldc 57, 2) := dk_18 57 (dk_at dksX17_word_3 21 rfl rfl)
theorem dX17_word_93 : decode cX17_word 93 = .ok (.new 54, 3) := dk_187 0 54 (dk_at dksX17_word_4 0 rfl rfl)
theorem dX17_word_96 : decode cX17_word 96 = .ok (.dup, 1) := dk_89 (dk_at dksX17_word_4 3 rfl rfl)
theorem dX17_word_97 : decode cX17_word 97 = .ok (.invokespecial 56, 3) := dk_183 0 56 (dk_at dksX17_word_4 4 rfl rfl)
theorem dX17_word_100 : decode cX17_word 100 = .ok (.ldc 59, 2) := dk_18 59 (dk_at dksX17_word_4 7 rfl rfl)
theorem dX17_word_102 : decode cX17_word 102 = .ok (.invokevirtual 61, 3) := dk_182 0 61 (dk_at dksX17_word_4 9 rfl rfl)
theorem dX17_word_105 : decode cX17_word 105 = .ok (.aload_n 1, 1) := dk_43 (dk_at dksX17_word_4 12 rfl rfl)
theorem dX17_word_106 : decode cX17_word 106 = .ok (.invokevirtual 65, 3) := dk_182 0 65 (dk_at dksX17_word_4 13 rfl rfl)
theorem dX17_word_109 : decode cX17_word 109 = .ok (.ldc 59, 2) := dk_18 59 (dk_at dksX17_word_4 16 rfl rfl)
theorem dX17_word_111 : decode cX17_word 111 = .ok (.invokevirtual 61, 3) := dk_182 0 61 (dk_at dksX17_word_4 18 rfl rfl)
theorem dX17_word_114 : decode cX17_word 114 = .ok (.invokevirtual 71, 3) := dk_182 0 71 (dk_at dksX17_word_4 21 rfl rfl)
theorem dX17_word_117 : decode cX17_word 117 = .ok (.invokevirtual 75, 3) := dk_182 0 75 (dk_at dksX17_word_5 0 rfl rfl)
theorem dX17_word_120 : decode cX17_word 120 = .ok (.ifCond .eq 7, 3) := dk_153 0 7 (dk_at dksX17_word_5 3 rfl rfl)
theorem dX17_word_123 : decode cX17_word 123 = .ok (.iconst 1, 1) := dk_4 (dk_at dksX17_word_5 6 rfl rfl)
theorem dX17_word_124 : decode cX17_word 124 = .ok (.goto 4, 3) := dk_167 0 4 (dk_at dksX17_word_5 7 rfl rfl)
theorem dX17_word_127 : decode cX17_word 127 = .ok (.iconst 0, 1) := dk_3 (dk_at dksX17_word_5 10 rfl rfl)
theorem dX17_word_128 : decode cX17_word 128 = .ok (.invokevirtual 36, 3) := dk_182 0 36 (dk_at dksX17_word_5 11 rfl rfl)
theorem dX17_word_131 : decode cX17_word 131 = .ok (.aload_n 1, 1) := dk_43 (dk_at dksX17_word_5 14 rfl rfl)
theorem dX17_word_132 : decode cX17_word 132 = .ok (.invokevirtual 71, 3) := dk_182 0 71 (dk_at dksX17_word_5 15 rfl rfl)
theorem dX17_word_135 : decode cX17_word 135 = .ok (.areturn, 1) := dk_176 (dk_at dksX17_word_5 18 rfl rfl)
abbrev cX17_current : ByteArray := prog_12_method_2_code
def yX17_current : MethodName := ⟨RX17, "current", "()C"⟩
def dkwX17_current_1 : List UInt8 := [182, 0, 23, 167, 0, 5, 16, 10, 172]
abbrev dktX17_current_1 : List UInt8 := dkwX17_current_1 ++ []
def dkwX17_current_0 : List UInt8 := [42, 180, 0, 13, 42, 180, 0, 7, 182, 0, 17, 162, 0, 17, 42, 180, 0, 7, 42, 180, 0, 13]
abbrev dktX17_current_0 : List UInt8 := dkwX17_current_0 ++ dktX17_current_1
theorem dksX17_current_0 : cX17_current.data.toList.drop 0 = dktX17_current_0 := by decide +kernel
theorem dksX17_current_1 : cX17_current.data.toList.drop 22 = dktX17_current_1 := dk_seg dksX17_current_0 22 rfl rfl
theorem dX17_current_0 : decode cX17_current 0 = .ok (.aload_n 0, 1) := dk_42 (dk_at dksX17_current_0 0 rfl rfl)
theorem dX17_current_1 : decode cX17_current 1 = .ok (.getfield 13, 3) := dk_180 0 13 (dk_at dksX17_current_0 1 rfl rfl)
theorem dX17_current_4 : decode cX17_current 4 = .ok (.aload_n 0, 1) := dk_42 (dk_at dksX17_current_0 4 rfl rfl)
theorem dX17_current_5 : decode cX17_current 5 = .ok (.getfield 7, 3) := dk_180 0 7 (dk_at dksX17_current_0 5 rfl rfl)
theorem dX17_current_8 : decode cX17_current 8 = .ok (.invokevirtual 17, 3) := dk_182 0 17 (dk_at dksX17_current_0 8 rfl rfl)
theorem dX17_current_11 : decode cX17_current 11 = .ok (.if_icmp .ge 17, 3) := dk_162 0 17 (dk_at dksX17_current_0 11 rfl rfl)
theorem dX17_current_14 : decode cX17_current 14 = .ok (.aload_n 0, 1) := dk_42 (dk_at dksX17_current_0 14 rfl rfl)
theorem dX17_current_15 : decode cX17_current 15 = .ok (.getfield 7, 3) := dk_180 0 7 (dk_at dksX17_current_0 15 rfl rfl)
theorem dX17_current_18 : decode cX17_current 18 = .ok (.aload_n 0, 1) := dk_42 (dk_at dksX17_current_0 18 rfl rfl)
theorem dX17_current_19 : decode cX17_current 19 = .ok (.getfield 13, 3) := dk_180 0 13 (dk_at dksX17_current_0 19 rfl rfl)
theorem dX17_current_22 : decode cX17_current 22 = .ok (.invokevirtual 23, 3) := dk_182 0 23 (dk_at dksX17_current_1 0 rfl rfl)
theorem dX17_current_25 : decode cX17_current 25 = .ok (.goto 5, 3) := dk_167 0 5 (dk_at dksX17_current_1 3 rfl rfl)
theorem dX17_current_28 : decode cX17_current 28 = .ok (.bipush 10, 2) := dk_16 10 (dk_at dksX17_current_1 6 rfl rfl)
theorem dX17_current_30 : decode cX17_current 30 = .ok (.ireturn, 1) := dk_172 (dk_at dksX17_current_1 8 rfl rfl)
abbrev cX17_require : ByteArray := prog_12_method_3_code
def yX17_require : MethodName := ⟨RX17, "require", "(Z)V"⟩
def dkwX17_require_0 : List UInt8 := [27, 154, 0, 15, 187, 0, 27, 89, 42, 180, 0, 13, 183, 0, 29, 191, 177]
abbrev dktX17_require_0 : List UInt8 := dkwX17_require_0 ++ []
theorem dksX17_require_0 : cX17_require.data.toList.drop 0 = dktX17_require_0 := by decide +kernel
theorem dX17_require_0 : decode cX17_require 0 = .ok (.iload_n 1, 1) := dk_27 (dk_at dksX17_require_0 0 rfl rfl)
theorem dX17_require_1 : decode cX17_require 1 = .ok (.ifCond .ne 15, 3) := dk_154 0 15 (dk_at dksX17_require_0 1 rfl rfl)
theorem dX17_require_4 : decode cX17_require 4 = .ok (.new 27, 3) := dk_187 0 27 (dk_at dksX17_require_0 4 rfl rfl)
theorem dX17_require_7 : decode cX17_require 7 = .ok (.dup, 1) := dk_89 (dk_at dksX17_require_0 7 rfl rfl)
theorem dX17_require_8 : decode cX17_require 8 = .ok (.aload_n 0, 1) := dk_42 (dk_at dksX17_require_0 8 rfl rfl)
theorem dX17_require_9 : decode cX17_require 9 = .ok (.getfield 13, 3) := dk_180 0 13 (dk_at dksX17_require_0 9 rfl rfl)
theorem dX17_require_12 : decode cX17_require 12 = .ok (.invokespecial 29, 3) := dk_183 0 29 (dk_at dksX17_require_0 12 rfl rfl)
theorem dX17_require_15 : decode cX17_require 15 = .ok (.athrow, 1) := dk_191 (dk_at dksX17_require_0 15 rfl rfl)
theorem dX17_require_16 : decode cX17_require 16 = .ok (.return_, 1) := dk_177 (dk_at dksX17_require_0 16 rfl rfl)
abbrev cX17_digitAfterSpace : ByteArray := prog_12_method_7_code
def yX17_digitAfterSpace : MethodName := ⟨RX17, "digitAfterSpace", "()I"⟩
def dkwX17_digitAfterSpace_0 : List UInt8 := [42, 16, 32, 182, 0, 44, 42, 182, 0, 48, 172]
abbrev dktX17_digitAfterSpace_0 : List UInt8 := dkwX17_digitAfterSpace_0 ++ []
theorem dksX17_digitAfterSpace_0 : cX17_digitAfterSpace.data.toList.drop 0 = dktX17_digitAfterSpace_0 := by decide +kernel
theorem dX17_digitAfterSpace_0 : decode cX17_digitAfterSpace 0 = .ok (.aload_n 0, 1) := dk_42 (dk_at dksX17_digitAfterSpace_0 0 rfl rfl)
theorem dX17_digitAfterSpace_1 : decode cX17_digitAfterSpace 1 = .ok (.bipush 32, 2) := dk_16 32 (dk_at dksX17_digitAfterSpace_0 1 rfl rfl)
theorem dX17_digitAfterSpace_3 : decode cX17_digitAfterSpace 3 = .ok (.invokevirtual 44, 3) := dk_182 0 44 (dk_at dksX17_digitAfterSpace_0 3 rfl rfl)
theorem dX17_digitAfterSpace_6 : decode cX17_digitAfterSpace 6 = .ok (.aload_n 0, 1) := dk_42 (dk_at dksX17_digitAfterSpace_0 6 rfl rfl)
theorem dX17_digitAfterSpace_7 : decode cX17_digitAfterSpace 7 = .ok (.invokevirtual 48, 3) := dk_182 0 48 (dk_at dksX17_digitAfterSpace_0 7 rfl rfl)
theorem dX17_digitAfterSpace_10 : decode cX17_digitAfterSpace 10 = .ok (.ireturn, 1) := dk_172 (dk_at dksX17_digitAfterSpace_0 10 rfl rfl)
abbrev cX17_take : ByteArray := prog_12_method_4_code
def yX17_take : MethodName := ⟨RX17, "take", "(C)V"⟩
def dkwX17_take_1 : List UInt8 := [181, 0, 13, 177]
abbrev dktX17_take_1 : List UInt8 := dkwX17_take_1 ++ []
def dkwX17_take_0 : List UInt8 := [42, 42, 182, 0, 32, 27, 160, 0, 7, 4, 167, 0, 4, 3, 182, 0, 36, 42, 89, 180, 0, 13, 4, 96]
abbrev dktX17_take_0 : List UInt8 := dkwX17_take_0 ++ dktX17_take_1
theorem dksX17_take_0 : cX17_take.data.toList.drop 0 = dktX17_take_0 := by decide +kernel
theorem dksX17_take_1 : cX17_take.data.toList.drop 24 = dktX17_take_1 := dk_seg dksX17_take_0 24 rfl rfl
theorem dX17_take_0 : decode cX17_take 0 = .ok (.aload_n 0, 1) := dk_42 (dk_at dksX17_take_0 0 rfl rfl)
theorem dX17_take_1 : decode cX17_take 1 = .ok (.aload_n 0, 1) := dk_42 (dk_at dksX17_take_0 1 rfl rfl)
theorem dX17_take_2 : decode cX17_take 2 = .ok (.invokevirtual 32, 3) := dk_182 0 32 (dk_at dksX17_take_0 2 rfl rfl)
theorem dX17_take_5 : decode cX17_take 5 = .ok (.iload_n 1, 1) := dk_27 (dk_at dksX17_take_0 5 rfl rfl)
theorem dX17_take_6 : decode cX17_take 6 = .ok (.if_icmp .ne 7, 3) := dk_160 0 7 (dk_at dksX17_take_0 6 rfl rfl)
theorem dX17_take_9 : decode cX17_take 9 = .ok (.iconst 1, 1) := dk_4 (dk_at dksX17_take_0 9 rfl rfl)
theorem dX17_take_10 : decode cX17_take 10 = .ok (.goto 4, 3) := dk_167 0 4 (dk_at dksX17_take_0 10 rfl rfl)
theorem dX17_take_13 : decode cX17_take 13 = .ok (.iconst 0, 1) := dk_3 (dk_at dksX17_take_0 13 rfl rfl)
theorem dX17_take_14 : decode cX17_take 14 = .ok (.invokevirtual 36, 3) := dk_182 0 36 (dk_at dksX17_take_0 14 rfl rfl)
theorem dX17_take_17 : decode cX17_take 17 = .ok (.aload_n 0, 1) := dk_42 (dk_at dksX17_take_0 17 rfl rfl)
theorem dX17_take_18 : decode cX17_take 18 = .ok (.dup, 1) := dk_89 (dk_at dksX17_take_0 18 rfl rfl)
theorem dX17_take_19 : decode cX17_take 19 = .ok (.getfield 13, 3) := dk_180 0 13 (dk_at dksX17_take_0 19 rfl rfl)
theorem dX17_take_22 : decode cX17_take 22 = .ok (.iconst 1, 1) := dk_4 (dk_at dksX17_take_0 22 rfl rfl)
theorem dX17_take_23 : decode cX17_take 23 = .ok (.iadd, 1) := dk_96 (dk_at dksX17_take_0 23 rfl rfl)
theorem dX17_take_24 : decode cX17_take 24 = .ok (.putfield 13, 3) := dk_181 0 13 (dk_at dksX17_take_1 0 rfl rfl)
theorem dX17_take_27 : decode cX17_take 27 = .ok (.return_, 1) := dk_177 (dk_at dksX17_take_1 3 rfl rfl)
abbrev cX17_digit : ByteArray := prog_12_method_6_code
def yX17_digit : MethodName := ⟨RX17, "digit", "()I"⟩
def dkwX17_digit_1 : List UInt8 := [180, 0, 13, 4, 100, 182, 0, 23, 16, 48, 100, 172]
abbrev dktX17_digit_1 : List UInt8 := dkwX17_digit_1 ++ []
def dkwX17_digit_0 : List UInt8 := [42, 42, 182, 0, 40, 182, 0, 36, 42, 89, 180, 0, 13, 4, 96, 181, 0, 13, 42, 180, 0, 7, 42]
abbrev dktX17_digit_0 : List UInt8 := dkwX17_digit_0 ++ dktX17_digit_1
theorem dksX17_digit_0 : cX17_digit.data.toList.drop 0 = dktX17_digit_0 := by decide +kernel
theorem dksX17_digit_1 : cX17_digit.data.toList.drop 23 = dktX17_digit_1 := dk_seg dksX17_digit_0 23 rfl rfl
theorem dX17_digit_0 : decode cX17_digit 0 = .ok (.aload_n 0, 1) := dk_42 (dk_at dksX17_digit_0 0 rfl rfl)
theorem dX17_digit_1 : decode cX17_digit 1 = .ok (.aload_n 0, 1) := dk_42 (dk_at dksX17_digit_0 1 rfl rfl)
theorem dX17_digit_2 : decode cX17_digit 2 = .ok (.invokevirtual 40, 3) := dk_182 0 40 (dk_at dksX17_digit_0 2 rfl rfl)
theorem dX17_digit_5 : decode cX17_digit 5 = .ok (.invokevirtual 36, 3) := dk_182 0 36 (dk_at dksX17_digit_0 5 rfl rfl)
theorem dX17_digit_8 : decode cX17_digit 8 = .ok (.aload_n 0, 1) := dk_42 (dk_at dksX17_digit_0 8 rfl rfl)
theorem dX17_digit_9 : decode cX17_digit 9 = .ok (.dup, 1) := dk_89 (dk_at dksX17_digit_0 9 rfl rfl)
theorem dX17_digit_10 : decode cX17_digit 10 = .ok (.getfield 13, 3) := dk_180 0 13 (dk_at dksX17_digit_0 10 rfl rfl)
theorem dX17_digit_13 : decode cX17_digit 13 = .ok (.iconst 1, 1) := dk_4 (dk_at dksX17_digit_0 13 rfl rfl)
theorem dX17_digit_14 : decode cX17_digit 14 = .ok (.iadd, 1) := dk_96 (dk_at dksX17_digit_0 14 rfl rfl)
theorem dX17_digit_15 : decode cX17_digit 15 = .ok (.putfield 13, 3) := dk_181 0 13 (dk_at dksX17_digit_0 15 rfl rfl)
theorem dX17_digit_18 : decode cX17_digit 18 = .ok (.aload_n 0, 1) := dk_42 (dk_at dksX17_digit_0 18 rfl rfl)
theorem dX17_digit_19 : decode cX17_digit 19 = .ok (.getfield 7, 3) := dk_180 0 7 (dk_at dksX17_digit_0 19 rfl rfl)
theorem dX17_digit_22 : decode cX17_digit 22 = .ok (.aload_n 0, 1) := dk_42 (dk_at dksX17_digit_0 22 rfl rfl)
theorem dX17_digit_23 : decode cX17_digit 23 = .ok (.getfield 13, 3) := dk_180 0 13 (dk_at dksX17_digit_1 0 rfl rfl)
theorem dX17_digit_26 : decode cX17_digit 26 = .ok (.iconst 1, 1) := dk_4 (dk_at dksX17_digit_1 3 rfl rfl)
theorem dX17_digit_27 : decode cX17_digit 27 = .ok (.isub, 1) := dk_100 (dk_at dksX17_digit_1 4 rfl rfl)
theorem dX17_digit_28 : decode cX17_digit 28 = .ok (.invokevirtual 23, 3) := dk_182 0 23 (dk_at dksX17_digit_1 5 rfl rfl)
theorem dX17_digit_31 : decode cX17_digit 31 = .ok (.bipush 48, 2) := dk_16 48 (dk_at dksX17_digit_1 8 rfl rfl)
theorem dX17_digit_33 : decode cX17_digit 33 = .ok (.isub, 1) := dk_100 (dk_at dksX17_digit_1 10 rfl rfl)
theorem dX17_digit_34 : decode cX17_digit 34 = .ok (.ireturn, 1) := dk_172 (dk_at dksX17_digit_1 11 rfl rfl)
abbrev cX17_isAtDigit : ByteArray := prog_12_method_5_code
def yX17_isAtDigit : MethodName := ⟨RX17, "isAtDigit", "()Z"⟩
def dkwX17_isAtDigit_0 : List UInt8 := [42, 182, 0, 32, 16, 48, 161, 0, 16, 42, 182, 0, 32, 16, 57, 163, 0, 7, 4, 167, 0, 4, 3, 172]
abbrev dktX17_isAtDigit_0 : List UInt8 := dkwX17_isAtDigit_0 ++ []
theorem dksX17_isAtDigit_0 : cX17_isAtDigit.data.toList.drop 0 = dktX17_isAtDigit_0 := by decide +kernel
theorem dX17_isAtDigit_0 : decode cX17_isAtDigit 0 = .ok (.aload_n 0, 1) := dk_42 (dk_at dksX17_isAtDigit_0 0 rfl rfl)
theorem dX17_isAtDigit_1 : decode cX17_isAtDigit 1 = .ok (.invokevirtual 32, 3) := dk_182 0 32 (dk_at dksX17_isAtDigit_0 1 rfl rfl)
theorem dX17_isAtDigit_4 : decode cX17_isAtDigit 4 = .ok (.bipush 48, 2) := dk_16 48 (dk_at dksX17_isAtDigit_0 4 rfl rfl)
theorem dX17_isAtDigit_6 : decode cX17_isAtDigit 6 = .ok (.if_icmp .lt 16, 3) := dk_161 0 16 (dk_at dksX17_isAtDigit_0 6 rfl rfl)
theorem dX17_isAtDigit_9 : decode cX17_isAtDigit 9 = .ok (.aload_n 0, 1) := dk_42 (dk_at dksX17_isAtDigit_0 9 rfl rfl)
theorem dX17_isAtDigit_10 : decode cX17_isAtDigit 10 = .ok (.invokevirtual 32, 3) := dk_182 0 32 (dk_at dksX17_isAtDigit_0 10 rfl rfl)
theorem dX17_isAtDigit_13 : decode cX17_isAtDigit 13 = .ok (.bipush 57, 2) := dk_16 57 (dk_at dksX17_isAtDigit_0 13 rfl rfl)
theorem dX17_isAtDigit_15 : decode cX17_isAtDigit 15 = .ok (.if_icmp .gt 7, 3) := dk_163 0 7 (dk_at dksX17_isAtDigit_0 15 rfl rfl)
theorem dX17_isAtDigit_18 : decode cX17_isAtDigit 18 = .ok (.iconst 1, 1) := dk_4 (dk_at dksX17_isAtDigit_0 18 rfl rfl)
theorem dX17_isAtDigit_19 : decode cX17_isAtDigit 19 = .ok (.goto 4, 3) := dk_167 0 4 (dk_at dksX17_isAtDigit_0 19 rfl rfl)
theorem dX17_isAtDigit_22 : decode cX17_isAtDigit 22 = .ok (.iconst 0, 1) := dk_3 (dk_at dksX17_isAtDigit_0 22 rfl rfl)
theorem dX17_isAtDigit_23 : decode cX17_isAtDigit 23 = .ok (.ireturn, 1) := dk_172 (dk_at dksX17_isAtDigit_0 23 rfl rfl)
abbrev cX17_number : ByteArray := prog_12_method_8_code
def yX17_number : MethodName := ⟨RX17, "number", "()I"⟩
def dkwX17_number_1 : List UInt8 := [182, 0, 48, 96, 60, 132, 2, 1, 167, 255, 231, 27, 172]
abbrev dktX17_number_1 : List UInt8 := dkwX17_number_1 ++ []
def dkwX17_number_0 : List UInt8 := [42, 182, 0, 51, 60, 4, 61, 28, 7, 162, 0, 26, 42, 182, 0, 40, 153, 0, 19, 16, 10, 27, 104, 42]
abbrev dktX17_number_0 : List UInt8 := dkwX17_number_0 ++ dktX17_number_1
theorem dksX17_number_0 : cX17_number.data.toList.drop 0 = dktX17_number_0 := by decide +kernel
theorem dksX17_number_1 : cX17_number.data.toList.drop 24 = dktX17_number_1 := dk_seg dksX17_number_0 24 rfl rfl
theorem dX17_number_0 : decode cX17_number 0 = .ok (.aload_n 0, 1) := dk_42 (dk_at dksX17_number_0 0 rfl rfl)
theorem dX17_number_1 : decode cX17_number 1 = .ok (.invokevirtual 51, 3) := dk_182 0 51 (dk_at dksX17_number_0 1 rfl rfl)
theorem dX17_number_4 : decode cX17_number 4 = .ok (.istore_n 1, 1) := dk_60 (dk_at dksX17_number_0 4 rfl rfl)
theorem dX17_number_5 : decode cX17_number 5 = .ok (.iconst 1, 1) := dk_4 (dk_at dksX17_number_0 5 rfl rfl)
theorem dX17_number_6 : decode cX17_number 6 = .ok (.istore_n 2, 1) := dk_61 (dk_at dksX17_number_0 6 rfl rfl)
theorem dX17_number_7 : decode cX17_number 7 = .ok (.iload_n 2, 1) := dk_28 (dk_at dksX17_number_0 7 rfl rfl)
theorem dX17_number_8 : decode cX17_number 8 = .ok (.iconst 4, 1) := dk_7 (dk_at dksX17_number_0 8 rfl rfl)
theorem dX17_number_9 : decode cX17_number 9 = .ok (.if_icmp .ge 26, 3) := dk_162 0 26 (dk_at dksX17_number_0 9 rfl rfl)
theorem dX17_number_12 : decode cX17_number 12 = .ok (.aload_n 0, 1) := dk_42 (dk_at dksX17_number_0 12 rfl rfl)
theorem dX17_number_13 : decode cX17_number 13 = .ok (.invokevirtual 40, 3) := dk_182 0 40 (dk_at dksX17_number_0 13 rfl rfl)
theorem dX17_number_16 : decode cX17_number 16 = .ok (.ifCond .eq 19, 3) := dk_153 0 19 (dk_at dksX17_number_0 16 rfl rfl)
theorem dX17_number_19 : decode cX17_number 19 = .ok (.bipush 10, 2) := dk_16 10 (dk_at dksX17_number_0 19 rfl rfl)
theorem dX17_number_21 : decode cX17_number 21 = .ok (.iload_n 1, 1) := dk_27 (dk_at dksX17_number_0 21 rfl rfl)
theorem dX17_number_22 : decode cX17_number 22 = .ok (.imul, 1) := dk_104 (dk_at dksX17_number_0 22 rfl rfl)
theorem dX17_number_23 : decode cX17_number 23 = .ok (.aload_n 0, 1) := dk_42 (dk_at dksX17_number_0 23 rfl rfl)
theorem dX17_number_24 : decode cX17_number 24 = .ok (.invokevirtual 48, 3) := dk_182 0 48 (dk_at dksX17_number_1 0 rfl rfl)
theorem dX17_number_27 : decode cX17_number 27 = .ok (.iadd, 1) := dk_96 (dk_at dksX17_number_1 3 rfl rfl)
theorem dX17_number_28 : decode cX17_number 28 = .ok (.istore_n 1, 1) := dk_60 (dk_at dksX17_number_1 4 rfl rfl)
theorem dX17_number_29 : decode cX17_number 29 = .ok (.iinc 2 1, 3) := dk_132 2 1 (dk_at dksX17_number_1 5 rfl rfl)
theorem dX17_number_32 : decode cX17_number 32 = .ok (.goto (-25), 3) := dk_167 255 231 (dk_at dksX17_number_1 8 rfl rfl)
theorem dX17_number_35 : decode cX17_number 35 = .ok (.iload_n 1, 1) := dk_27 (dk_at dksX17_number_1 11 rfl rfl)
theorem dX17_number_36 : decode cX17_number 36 = .ok (.ireturn, 1) := dk_172 (dk_at dksX17_number_1 12 rfl rfl)
theorem q171 : (Jvm.Cond.initialized "SleeperRailway$Parser") ∈ lw_all := lw_g (lw_at lw_m1 71 rfl) rfl
theorem q999 : (Jvm.Cond.selects "SleeperRailway$Parser" ({ cls := "java/lang/Object", name := "getClass", desc := "()Ljava/lang/Class;" } : Jvm.MethodName) ({ cls := "java/lang/Object", name := "getClass", desc := "()Ljava/lang/Class;" } : Jvm.MethodName)) ∈ lw_all := lw_g (lw_at lw_m4 179 rfl) rfl
theorem q3178 : (Jvm.Cond.selects "SleeperRailway$Parser" ({ cls := "java/lang/Object", name := "equals", desc := "(Ljava/lang/Object;)Z" } : Jvm.MethodName) ({ cls := "java/lang/Object", name := "equals", desc := "(Ljava/lang/Object;)Z" } : Jvm.MethodName)) ∈ lw_all := lw_g (lw_at lw_m13 198 rfl) rfl
theorem q3421 : (Jvm.Cond.instantiable "SleeperRailway$Parser" (2 : Nat)) ∈ lw_all := lw_g (lw_at lw_m14 201 rfl) rfl
theorem q3423 : (Jvm.Cond.instanceMethod ({ cls := "SleeperRailway$Parser", name := "<init>", desc := "(Ljava/lang/String;)V" } : Jvm.MethodName)) ∈ lw_all := lw_g (lw_at lw_m14 203 rfl) rfl
theorem q3424 : (Jvm.Cond.code ({ cls := "SleeperRailway$Parser", name := "<init>", desc := "(Ljava/lang/String;)V" } : Jvm.MethodName) prog_12_method_1_code (2 : Nat) (Option.none : Option Jvm.ClassFile.FieldType)) ∈ lw_all := lw_g (lw_at lw_m14 204 rfl) rfl
theorem q3425 : (Jvm.Cond.methodLink "SleeperRailway$Parser" (1 : Nat) ({ cls := "java/lang/Object", name := "<init>", desc := "()V" } : Jvm.MethodName)) ∈ lw_all := lw_g (lw_at lw_m14 205 rfl) rfl
theorem q3426 : (Jvm.Cond.fieldLink "SleeperRailway$Parser" (7 : Nat) "SleeperRailway$Parser" "text" "Ljava/lang/String;") ∈ lw_all := lw_g (lw_at lw_m14 206 rfl) rfl
theorem q3427 : (Jvm.Cond.fieldLink "SleeperRailway$Parser" (13 : Nat) "SleeperRailway$Parser" "at" "I") ∈ lw_all := lw_g (lw_at lw_m14 207 rfl) rfl
theorem q3428 : (Jvm.Cond.laysFinal "SleeperRailway$Parser" "SleeperRailway$Parser" "text" "Ljava/lang/String;") ∈ lw_all := lw_g (lw_at lw_m14 208 rfl) rfl
theorem q3429 : (Jvm.Cond.soleField "SleeperRailway$Parser" "text") ∈ lw_all := lw_g (lw_at lw_m14 209 rfl) rfl
theorem q3430 : (Jvm.Cond.lays "SleeperRailway$Parser" "SleeperRailway$Parser" "at" "I") ∈ lw_all := lw_g (lw_at lw_m14 210 rfl) rfl
theorem q3431 : (Jvm.Cond.soleField "SleeperRailway$Parser" "at") ∈ lw_all := lw_g (lw_at lw_m14 211 rfl) rfl
theorem q3432 : (Jvm.Cond.superclass "SleeperRailway$Parser" "java/lang/Object") ∈ lw_all := lw_g (lw_at lw_m14 212 rfl) rfl
theorem q3434 : (Jvm.Cond.instanceMethod ({ cls := "SleeperRailway$Parser", name := "commands", desc := "()Ljava/util/List;" } : Jvm.MethodName)) ∈ lw_all := lw_g (lw_at lw_m14 214 rfl) rfl
theorem q3435 : (Jvm.Cond.selects "SleeperRailway$Parser" ({ cls := "SleeperRailway$Parser", name := "commands", desc := "()Ljava/util/List;" } : Jvm.MethodName) ({ cls := "SleeperRailway$Parser", name := "commands", desc := "()Ljava/util/List;" } : Jvm.MethodName)) ∈ lw_all := lw_g (lw_at lw_m14 215 rfl) rfl
theorem q3436 : (Jvm.Cond.code ({ cls := "SleeperRailway$Parser", name := "commands", desc := "()Ljava/util/List;" } : Jvm.MethodName) prog_12_method_11_code (2 : Nat) (Option.some (Jvm.ClassFile.FieldType.object "java/util/List"))) ∈ lw_all := lw_g (lw_at lw_m14 216 rfl) rfl
theorem q3437 : (Jvm.Cond.classLink "SleeperRailway$Parser" (110 : Nat) "java/util/ArrayList") ∈ lw_all := lw_g (lw_at lw_m14 217 rfl) rfl
theorem q3438 : (Jvm.Cond.methodLink "SleeperRailway$Parser" (112 : Nat) ({ cls := "java/util/ArrayList", name := "<init>", desc := "()V" } : Jvm.MethodName)) ∈ lw_all := lw_g (lw_at lw_m14 218 rfl) rfl
theorem q3439 : (Jvm.Cond.methodLink "SleeperRailway$Parser" (113 : Nat) ({ cls := "SleeperRailway$Parser", name := "command", desc := "()LSleeperRailway$Command;" } : Jvm.MethodName)) ∈ lw_all := lw_g (lw_at lw_m14 219 rfl) rfl
theorem q3440 : (Jvm.Cond.privateMethod ({ cls := "SleeperRailway$Parser", name := "command", desc := "()LSleeperRailway$Command;" } : Jvm.MethodName)) ∈ lw_tbl := lw_at lw_m14 220 rfl
theorem q3441 : (Jvm.Cond.instanceMethod ({ cls := "SleeperRailway$Parser", name := "command", desc := "()LSleeperRailway$Command;" } : Jvm.MethodName)) ∈ lw_all := lw_g (lw_at lw_m14 221 rfl) rfl
theorem q3442 : (Jvm.Cond.code ({ cls := "SleeperRailway$Parser", name := "command", desc := "()LSleeperRailway$Command;" } : Jvm.MethodName) prog_12_method_10_code (15 : Nat) (Option.some (Jvm.ClassFile.FieldType.object "SleeperRailway$Command"))) ∈ lw_all := lw_g (lw_at lw_m14 222 rfl) rfl
theorem q3443 : (Jvm.Cond.methodLink "SleeperRailway$Parser" (80 : Nat) ({ cls := "SleeperRailway$Parser", name := "word", desc := "()Ljava/lang/String;" } : Jvm.MethodName)) ∈ lw_all := lw_g (lw_at lw_m14 223 rfl) rfl
theorem q3444 : (Jvm.Cond.privateMethod ({ cls := "SleeperRailway$Parser", name := "word", desc := "()Ljava/lang/String;" } : Jvm.MethodName)) ∈ lw_tbl := lw_at lw_m14 224 rfl
theorem q3445 : (Jvm.Cond.instanceMethod ({ cls := "SleeperRailway$Parser", name := "word", desc := "()Ljava/lang/String;" } : Jvm.MethodName)) ∈ lw_all := lw_g (lw_at lw_m14 225 rfl) rfl
theorem q3446 : (Jvm.Cond.code ({ cls := "SleeperRailway$Parser", name := "word", desc := "()Ljava/lang/String;" } : Jvm.MethodName) prog_12_method_9_code (2 : Nat) (Option.some (Jvm.ClassFile.FieldType.object "java/lang/String"))) ∈ lw_all := lw_g (lw_at lw_m14 226 rfl) rfl
theorem q3447 : (Jvm.Cond.classLink "SleeperRailway$Parser" (54 : Nat) "java/lang/StringBuilder") ∈ lw_all := lw_g (lw_at lw_m14 227 rfl) rfl
theorem q3448 : (Jvm.Cond.methodLink "SleeperRailway$Parser" (56 : Nat) ({ cls := "java/lang/StringBuilder", name := "<init>", desc := "()V" } : Jvm.MethodName)) ∈ lw_all := lw_g (lw_at lw_m14 228 rfl) rfl
theorem q3449 : (Jvm.Cond.methodLink "SleeperRailway$Parser" (32 : Nat) ({ cls := "SleeperRailway$Parser", name := "current", desc := "()C" } : Jvm.MethodName)) ∈ lw_all := lw_g (lw_at lw_m14 229 rfl) rfl
theorem q3450 : (Jvm.Cond.privateMethod ({ cls := "SleeperRailway$Parser", name := "current", desc := "()C" } : Jvm.MethodName)) ∈ lw_tbl := lw_at lw_m14 230 rfl
theorem q3451 : (Jvm.Cond.instanceMethod ({ cls := "SleeperRailway$Parser", name := "current", desc := "()C" } : Jvm.MethodName)) ∈ lw_all := lw_g (lw_at lw_m14 231 rfl) rfl
theorem q3452 : (Jvm.Cond.code ({ cls := "SleeperRailway$Parser", name := "current", desc := "()C" } : Jvm.MethodName) prog_12_method_2_code (1 : Nat) (Option.some Jvm.ClassFile.FieldType.char)) ∈ lw_all := lw_g (lw_at lw_m14 232 rfl) rfl
theorem q3453 : (Jvm.Cond.methodLink "SleeperRailway$Parser" (17 : Nat) ({ cls := "java/lang/String", name := "length", desc := "()I" } : Jvm.MethodName)) ∈ lw_all := lw_g (lw_at lw_m14 233 rfl) rfl
theorem q3454 : (Jvm.Cond.methodLink "SleeperRailway$Parser" (23 : Nat) ({ cls := "java/lang/String", name := "charAt", desc := "(I)C" } : Jvm.MethodName)) ∈ lw_all := lw_g (lw_at lw_m14 234 rfl) rfl
theorem q3455 : (Jvm.Cond.stringRef "SleeperRailway$Parser" (57 : Nat) " station train stop late case label send take book drop ") ∈ lw_tbl := lw_at lw_m14 235 rfl
theorem q3456 : (Jvm.Cond.stringRef "SleeperRailway$Parser" (59 : Nat) " ") ∈ lw_tbl := lw_at lw_m14 236 rfl
theorem q3457 : (Jvm.Cond.methodLink "SleeperRailway$Parser" (61 : Nat) ({ cls := "java/lang/StringBuilder", name := "append", desc := "(Ljava/lang/String;)Ljava/lang/StringBuilder;" } : Jvm.MethodName)) ∈ lw_all := lw_g (lw_at lw_m14 237 rfl) rfl
theorem q3458 : (Jvm.Cond.methodLink "SleeperRailway$Parser" (65 : Nat) ({ cls := "java/lang/StringBuilder", name := "append", desc := "(Ljava/lang/Object;)Ljava/lang/StringBuilder;" } : Jvm.MethodName)) ∈ lw_all := lw_g (lw_at lw_m14 238 rfl) rfl
theorem q3488 : (Jvm.Cond.selects "SleeperRailway$Parser" ({ cls := "java/lang/Object", name := "toString", desc := "()Ljava/lang/String;" } : Jvm.MethodName) ({ cls := "java/lang/Object", name := "toString", desc := "()Ljava/lang/String;" } : Jvm.MethodName)) ∈ lw_all := lw_g (lw_at lw_m15 28 rfl) rfl
theorem q3524 : (Jvm.Cond.methodLink "SleeperRailway$Parser" (68 : Nat) ({ cls := "java/lang/StringBuilder", name := "append", desc := "(C)Ljava/lang/StringBuilder;" } : Jvm.MethodName)) ∈ lw_all := lw_g (lw_at lw_m15 64 rfl) rfl
theorem q3525 : (Jvm.Cond.methodLink "SleeperRailway$Parser" (71 : Nat) ({ cls := "java/lang/StringBuilder", name := "toString", desc := "()Ljava/lang/String;" } : Jvm.MethodName)) ∈ lw_all := lw_g (lw_at lw_m15 65 rfl) rfl
theorem q3526 : (Jvm.Cond.methodLink "SleeperRailway$Parser" (75 : Nat) ({ cls := "java/lang/String", name := "contains", desc := "(Ljava/lang/CharSequence;)Z" } : Jvm.MethodName)) ∈ lw_all := lw_g (lw_at lw_m15 66 rfl) rfl
theorem q3564 : (Jvm.Cond.methodLink "SleeperRailway$Parser" (36 : Nat) ({ cls := "SleeperRailway$Parser", name := "require", desc := "(Z)V" } : Jvm.MethodName)) ∈ lw_all := lw_g (lw_at lw_m15 104 rfl) rfl
theorem q3565 : (Jvm.Cond.privateMethod ({ cls := "SleeperRailway$Parser", name := "require", desc := "(Z)V" } : Jvm.MethodName)) ∈ lw_tbl := lw_at lw_m15 105 rfl
theorem q3566 : (Jvm.Cond.instanceMethod ({ cls := "SleeperRailway$Parser", name := "require", desc := "(Z)V" } : Jvm.MethodName)) ∈ lw_all := lw_g (lw_at lw_m15 106 rfl) rfl
theorem q3567 : (Jvm.Cond.code ({ cls := "SleeperRailway$Parser", name := "require", desc := "(Z)V" } : Jvm.MethodName) prog_12_method_3_code (2 : Nat) (Option.none : Option Jvm.ClassFile.FieldType)) ∈ lw_all := lw_g (lw_at lw_m15 107 rfl) rfl
theorem q3568 : (Jvm.Cond.classLink "SleeperRailway$Parser" (27 : Nat) "SleeperRailway$SyntaxFailure") ∈ lw_all := lw_g (lw_at lw_m15 108 rfl) rfl
theorem q3577 : (Jvm.Cond.methodLink "SleeperRailway$Parser" (29 : Nat) ({ cls := "SleeperRailway$SyntaxFailure", name := "<init>", desc := "(I)V" } : Jvm.MethodName)) ∈ lw_all := lw_g (lw_at lw_m15 117 rfl) rfl
theorem q3586 : (Jvm.Cond.methodLink "SleeperRailway$Parser" (79 : Nat) ({ cls := "java/lang/StringBuilder", name := "length", desc := "()I" } : Jvm.MethodName)) ∈ lw_all := lw_g (lw_at lw_m15 126 rfl) rfl
theorem q3587 : (Jvm.Cond.methodLink "SleeperRailway$Parser" (83 : Nat) ({ cls := "java/lang/String", name := "hashCode", desc := "()I" } : Jvm.MethodName)) ∈ lw_all := lw_g (lw_at lw_m15 127 rfl) rfl
theorem q3588 : (Jvm.Cond.stringRef "SleeperRailway$Parser" (86 : Nat) "train") ∈ lw_tbl := lw_at lw_m15 128 rfl
theorem q3589 : (Jvm.Cond.methodLink "SleeperRailway$Parser" (88 : Nat) ({ cls := "java/lang/String", name := "equals", desc := "(Ljava/lang/Object;)Z" } : Jvm.MethodName)) ∈ lw_all := lw_g (lw_at lw_m15 129 rfl) rfl
theorem q3590 : (Jvm.Cond.stringRef "SleeperRailway$Parser" (92 : Nat) "stop") ∈ lw_tbl := lw_at lw_m15 130 rfl
theorem q3591 : (Jvm.Cond.stringRef "SleeperRailway$Parser" (94 : Nat) "late") ∈ lw_tbl := lw_at lw_m15 131 rfl
theorem q3592 : (Jvm.Cond.stringRef "SleeperRailway$Parser" (96 : Nat) "case") ∈ lw_tbl := lw_at lw_m15 132 rfl
theorem q3593 : (Jvm.Cond.stringRef "SleeperRailway$Parser" (98 : Nat) "label") ∈ lw_tbl := lw_at lw_m15 133 rfl
theorem q3594 : (Jvm.Cond.stringRef "SleeperRailway$Parser" (100 : Nat) "book") ∈ lw_tbl := lw_at lw_m15 134 rfl
theorem q3595 : (Jvm.Cond.methodLink "SleeperRailway$Parser" (51 : Nat) ({ cls := "SleeperRailway$Parser", name := "digitAfterSpace", desc := "()I" } : Jvm.MethodName)) ∈ lw_all := lw_g (lw_at lw_m15 135 rfl) rfl
theorem q3596 : (Jvm.Cond.privateMethod ({ cls := "SleeperRailway$Parser", name := "digitAfterSpace", desc := "()I" } : Jvm.MethodName)) ∈ lw_tbl := lw_at lw_m15 136 rfl
theorem q3597 : (Jvm.Cond.instanceMethod ({ cls := "SleeperRailway$Parser", name := "digitAfterSpace", desc := "()I" } : Jvm.MethodName)) ∈ lw_all := lw_g (lw_at lw_m15 137 rfl) rfl
theorem q3598 : (Jvm.Cond.code ({ cls := "SleeperRailway$Parser", name := "digitAfterSpace", desc := "()I" } : Jvm.MethodName) prog_12_method_7_code (1 : Nat) (Option.some Jvm.ClassFile.FieldType.int)) ∈ lw_all := lw_g (lw_at lw_m15 138 rfl) rfl
theorem q3599 : (Jvm.Cond.methodLink "SleeperRailway$Parser" (44 : Nat) ({ cls := "SleeperRailway$Parser", name := "take", desc := "(C)V" } : Jvm.MethodName)) ∈ lw_all := lw_g (lw_at lw_m15 139 rfl) rfl
theorem q3600 : (Jvm.Cond.privateMethod ({ cls := "SleeperRailway$Parser", name := "take", desc := "(C)V" } : Jvm.MethodName)) ∈ lw_tbl := lw_at lw_m15 140 rfl
theorem q3601 : (Jvm.Cond.instanceMethod ({ cls := "SleeperRailway$Parser", name := "take", desc := "(C)V" } : Jvm.MethodName)) ∈ lw_all := lw_g (lw_at lw_m15 141 rfl) rfl
theorem q3602 : (Jvm.Cond.code ({ cls := "SleeperRailway$Parser", name := "take", desc := "(C)V" } : Jvm.MethodName) prog_12_method_4_code (2 : Nat) (Option.none : Option Jvm.ClassFile.FieldType)) ∈ lw_all := lw_g (lw_at lw_m15 142 rfl) rfl
theorem q3603 : (Jvm.Cond.methodLink "SleeperRailway$Parser" (48 : Nat) ({ cls := "SleeperRailway$Parser", name := "digit", desc := "()I" } : Jvm.MethodName)) ∈ lw_all := lw_g (lw_at lw_m15 143 rfl) rfl
theorem q3604 : (Jvm.Cond.privateMethod ({ cls := "SleeperRailway$Parser", name := "digit", desc := "()I" } : Jvm.MethodName)) ∈ lw_tbl := lw_at lw_m15 144 rfl
theorem q3605 : (Jvm.Cond.instanceMethod ({ cls := "SleeperRailway$Parser", name := "digit", desc := "()I" } : Jvm.MethodName)) ∈ lw_all := lw_g (lw_at lw_m15 145 rfl) rfl
theorem q3606 : (Jvm.Cond.code ({ cls := "SleeperRailway$Parser", name := "digit", desc := "()I" } : Jvm.MethodName) prog_12_method_6_code (1 : Nat) (Option.some Jvm.ClassFile.FieldType.int)) ∈ lw_all := lw_g (lw_at lw_m15 146 rfl) rfl
theorem q3607 : (Jvm.Cond.methodLink "SleeperRailway$Parser" (40 : Nat) ({ cls := "SleeperRailway$Parser", name := "isAtDigit", desc := "()Z" } : Jvm.MethodName)) ∈ lw_all := lw_g (lw_at lw_m15 147 rfl) rfl
theorem q3608 : (Jvm.Cond.privateMethod ({ cls := "SleeperRailway$Parser", name := "isAtDigit", desc := "()Z" } : Jvm.MethodName)) ∈ lw_tbl := lw_at lw_m15 148 rfl
theorem q3609 : (Jvm.Cond.instanceMethod ({ cls := "SleeperRailway$Parser", name := "isAtDigit", desc := "()Z" } : Jvm.MethodName)) ∈ lw_all := lw_g (lw_at lw_m15 149 rfl) rfl
theorem q3610 : (Jvm.Cond.code ({ cls := "SleeperRailway$Parser", name := "isAtDigit", desc := "()Z" } : Jvm.MethodName) prog_12_method_5_code (1 : Nat) (Option.some Jvm.ClassFile.FieldType.boolean)) ∈ lw_all := lw_g (lw_at lw_m15 150 rfl) rfl
theorem q3611 : (Jvm.Cond.methodLink "SleeperRailway$Parser" (102 : Nat) ({ cls := "SleeperRailway$Parser", name := "number", desc := "()I" } : Jvm.MethodName)) ∈ lw_all := lw_g (lw_at lw_m15 151 rfl) rfl
theorem q3612 : (Jvm.Cond.privateMethod ({ cls := "SleeperRailway$Parser", name := "number", desc := "()I" } : Jvm.MethodName)) ∈ lw_tbl := lw_at lw_m15 152 rfl
theorem q3613 : (Jvm.Cond.instanceMethod ({ cls := "SleeperRailway$Parser", name := "number", desc := "()I" } : Jvm.MethodName)) ∈ lw_all := lw_g (lw_at lw_m15 153 rfl) rfl
theorem q3614 : (Jvm.Cond.code ({ cls := "SleeperRailway$Parser", name := "number", desc := "()I" } : Jvm.MethodName) prog_12_method_8_code (3 : Nat) (Option.some Jvm.ClassFile.FieldType.int)) ∈ lw_all := lw_g (lw_at lw_m15 154 rfl) rfl
theorem q3615 : (Jvm.Cond.classLink "SleeperRailway$Parser" (105 : Nat) "SleeperRailway$Command") ∈ lw_all := lw_g (lw_at lw_m15 155 rfl) rfl
theorem q3616 : (Jvm.Cond.methodLink "SleeperRailway$Parser" (107 : Nat) ({ cls := "SleeperRailway$Command", name := "<init>", desc := "(Ljava/lang/String;[I)V" } : Jvm.MethodName)) ∈ lw_all := lw_g (lw_at lw_m15 156 rfl) rfl
theorem q3617 : (Jvm.Cond.interfaceEntry "SleeperRailway$Parser" (117 : Nat)) ∈ lw_tbl := lw_at lw_m15 157 rfl
theorem q3618 : (Jvm.Cond.methodLink "SleeperRailway$Parser" (117 : Nat) ({ cls := "java/util/List", name := "add", desc := "(Ljava/lang/Object;)Z" } : Jvm.MethodName)) ∈ lw_all := lw_g (lw_at lw_m15 158 rfl) rfl
theorem q4282 : (Jvm.Cond.castable "SleeperRailway$Parser" "java/lang/Object") ∈ lw_tbl := lw_at lw_m18 102 rfl
theorem in_X17 : ∀ w ∈ wsX170, w ∈ lw_all := lw_in wsX170 [3428, 3430] (by decide +kernel) (by decide +kernel)
/-! SleeperRailway$SyntaxFailure -/
set_option maxRecDepth 100000
def RX18 : String := "SleeperRailway$SyntaxFailure"
def TX18 : u_T := fun k => match k with
  | 0 => ("java/lang/Throwable", "cause", "Ljava/lang/Throwable;", false)
  | 1 => ("java/lang/Throwable", "stackTrace", "[Ljava/lang/StackTraceElement;", false)
  | 2 => ("java/lang/Throwable", "suppressedExceptions", "Ljava/util/List;", false)
  | 3 => ("java/lang/Throwable", "detailMessage", "Ljava/lang/String;", false)
  | 4 => ("java/lang/Throwable", "backtrace", "Ljava/lang/Object;", false)
  | 5 => ("java/lang/Throwable", "depth", "I", false)
  | _ => ("SleeperRailway$SyntaxFailure", "position", "I", true)
def tyX18 : Nat → FieldType := fun k => match k with
  | 0 => .object "java/lang/Throwable"
  | 1 => .array (.object "java/lang/StackTraceElement")
  | 2 => .object "java/util/List"
  | 3 => .object "java/lang/String"
  | 4 => .object "java/lang/Object"
  | 5 => .int
  | _ => .int
abbrev wsX180 : List Cond := u_ws RX18 TX18 7
theorem nmX18 : ∀ a, a < 7 → ∀ b, b < 7 → a ≠ b → (TX18 a).2.1 ≠ (TX18 b).2.1 := by decide +kernel
theorem tyX18_ok : ∀ k, k < 7 → parseFieldDescriptor (TX18 k).2.2.1 = some (tyX18 k) := by decide +kernel
abbrev cX18_asPublicException : ByteArray := prog_15_method_3_code
def yX18_asPublicException : MethodName := ⟨RX18, "asPublicException", "()Ljava/lang/RuntimeException;"⟩
def dkwX18_asPublicException_0 : List UInt8 := [187, 0, 13, 89, 183, 0, 15, 176]
abbrev dktX18_asPublicException_0 : List UInt8 := dkwX18_asPublicException_0 ++ []
theorem dksX18_asPublicException_0 : cX18_asPublicException.data.toList.drop 0 = dktX18_asPublicException_0 := by decide +kernel
theorem dX18_asPublicException_0 : decode cX18_asPublicException 0 = .ok (.new 13, 3) := dk_187 0 13 (dk_at dksX18_asPublicException_0 0 rfl rfl)
theorem dX18_asPublicException_3 : decode cX18_asPublicException 3 = .ok (.dup, 1) := dk_89 (dk_at dksX18_asPublicException_0 3 rfl rfl)
theorem dX18_asPublicException_4 : decode cX18_asPublicException 4 = .ok (.invokespecial 15, 3) := dk_183 0 15 (dk_at dksX18_asPublicException_0 4 rfl rfl)
theorem dX18_asPublicException_7 : decode cX18_asPublicException 7 = .ok (.areturn, 1) := dk_176 (dk_at dksX18_asPublicException_0 7 rfl rfl)
abbrev cX18_init : ByteArray := prog_15_method_1_code
def yX18_init : MethodName := ⟨RX18, "<init>", "(I)V"⟩
def dkwX18_init_0 : List UInt8 := [42, 1, 183, 0, 1, 42, 27, 181, 0, 7, 177]
abbrev dktX18_init_0 : List UInt8 := dkwX18_init_0 ++ []
theorem dksX18_init_0 : cX18_init.data.toList.drop 0 = dktX18_init_0 := by decide +kernel
theorem dX18_init_0 : decode cX18_init 0 = .ok (.aload_n 0, 1) := dk_42 (dk_at dksX18_init_0 0 rfl rfl)
theorem dX18_init_1 : decode cX18_init 1 = .ok (.aconst_null, 1) := dk_1 (dk_at dksX18_init_0 1 rfl rfl)
theorem dX18_init_2 : decode cX18_init 2 = .ok (.invokespecial 1, 3) := dk_183 0 1 (dk_at dksX18_init_0 2 rfl rfl)
theorem dX18_init_5 : decode cX18_init 5 = .ok (.aload_n 0, 1) := dk_42 (dk_at dksX18_init_0 5 rfl rfl)
theorem dX18_init_6 : decode cX18_init 6 = .ok (.iload_n 1, 1) := dk_27 (dk_at dksX18_init_0 6 rfl rfl)
theorem dX18_init_7 : decode cX18_init 7 = .ok (.putfield 7, 3) := dk_181 0 7 (dk_at dksX18_init_0 7 rfl rfl)
theorem dX18_init_10 : decode cX18_init 10 = .ok (.return_, 1) := dk_177 (dk_at dksX18_init_0 10 rfl rfl)
abbrev cX18_position : ByteArray := prog_15_method_2_code
def yX18_position : MethodName := ⟨RX18, "position", "()I"⟩
theorem dX18_position_0 : decode cX18_position 0 = .ok (.aload_n 0, 1) := by decide +kernel
theorem dX18_position_1 : decode cX18_position 1 = .ok (.getfield 7, 3) := by decide +kernel
theorem dX18_position_4 : decode cX18_position 4 = .ok (.ireturn, 1) := by decide +kernel
theorem q172 : (Jvm.Cond.initialized "SleeperRailway$SyntaxFailure") ∈ lw_all := lw_g (lw_at lw_m1 72 rfl) rfl
theorem q536 : (Jvm.Cond.selects "SleeperRailway$SyntaxFailure" ({ cls := "java/lang/Throwable", name := "fillInStackTrace", desc := "()Ljava/lang/Throwable;" } : Jvm.MethodName) ({ cls := "java/lang/Throwable", name := "fillInStackTrace", desc := "()Ljava/lang/Throwable;" } : Jvm.MethodName)) ∈ lw_all := lw_g (lw_at lw_m2 196 rfl) rfl
theorem q976 : (Jvm.Cond.selects "SleeperRailway$SyntaxFailure" ({ cls := "java/lang/Throwable", name := "toString", desc := "()Ljava/lang/String;" } : Jvm.MethodName) ({ cls := "java/lang/Throwable", name := "toString", desc := "()Ljava/lang/String;" } : Jvm.MethodName)) ∈ lw_all := lw_g (lw_at lw_m4 156 rfl) rfl
theorem q1002 : (Jvm.Cond.selects "SleeperRailway$SyntaxFailure" ({ cls := "java/lang/Object", name := "getClass", desc := "()Ljava/lang/Class;" } : Jvm.MethodName) ({ cls := "java/lang/Object", name := "getClass", desc := "()Ljava/lang/Class;" } : Jvm.MethodName)) ∈ lw_all := lw_g (lw_at lw_m4 182 rfl) rfl
theorem q1042 : (Jvm.Cond.selects "SleeperRailway$SyntaxFailure" ({ cls := "java/lang/Throwable", name := "getLocalizedMessage", desc := "()Ljava/lang/String;" } : Jvm.MethodName) ({ cls := "java/lang/Throwable", name := "getLocalizedMessage", desc := "()Ljava/lang/String;" } : Jvm.MethodName)) ∈ lw_all := lw_g (lw_at lw_m4 222 rfl) rfl
theorem q1057 : (Jvm.Cond.selects "SleeperRailway$SyntaxFailure" ({ cls := "java/lang/Throwable", name := "getMessage", desc := "()Ljava/lang/String;" } : Jvm.MethodName) ({ cls := "java/lang/Throwable", name := "getMessage", desc := "()Ljava/lang/String;" } : Jvm.MethodName)) ∈ lw_all := lw_g (lw_at lw_m4 237 rfl) rfl
theorem q2706 : (Jvm.Cond.selects "SleeperRailway$SyntaxFailure" ({ cls := "SleeperRailway$Failure", name := "asPublicException", desc := "()Ljava/lang/RuntimeException;" } : Jvm.MethodName) ({ cls := "SleeperRailway$SyntaxFailure", name := "asPublicException", desc := "()Ljava/lang/RuntimeException;" } : Jvm.MethodName)) ∈ lw_all := lw_g (lw_at lw_m11 206 rfl) rfl
theorem q2707 : (Jvm.Cond.instanceMethod ({ cls := "SleeperRailway$SyntaxFailure", name := "asPublicException", desc := "()Ljava/lang/RuntimeException;" } : Jvm.MethodName)) ∈ lw_all := lw_g (lw_at lw_m11 207 rfl) rfl
theorem q2708 : (Jvm.Cond.code ({ cls := "SleeperRailway$SyntaxFailure", name := "asPublicException", desc := "()Ljava/lang/RuntimeException;" } : Jvm.MethodName) prog_15_method_3_code (1 : Nat) (Option.some (Jvm.ClassFile.FieldType.object "java/lang/RuntimeException"))) ∈ lw_all := lw_g (lw_at lw_m11 208 rfl) rfl
theorem q2709 : (Jvm.Cond.classLink "SleeperRailway$SyntaxFailure" (13 : Nat) "java/lang/IllegalArgumentException") ∈ lw_all := lw_g (lw_at lw_m11 209 rfl) rfl
theorem q2710 : (Jvm.Cond.methodLink "SleeperRailway$SyntaxFailure" (15 : Nat) ({ cls := "java/lang/IllegalArgumentException", name := "<init>", desc := "()V" } : Jvm.MethodName)) ∈ lw_all := lw_g (lw_at lw_m11 210 rfl) rfl
theorem q3183 : (Jvm.Cond.selects "SleeperRailway$SyntaxFailure" ({ cls := "java/lang/Object", name := "equals", desc := "(Ljava/lang/Object;)Z" } : Jvm.MethodName) ({ cls := "java/lang/Object", name := "equals", desc := "(Ljava/lang/Object;)Z" } : Jvm.MethodName)) ∈ lw_all := lw_g (lw_at lw_m13 203 rfl) rfl
theorem q3491 : (Jvm.Cond.selects "SleeperRailway$SyntaxFailure" ({ cls := "java/lang/Object", name := "toString", desc := "()Ljava/lang/String;" } : Jvm.MethodName) ({ cls := "java/lang/Throwable", name := "toString", desc := "()Ljava/lang/String;" } : Jvm.MethodName)) ∈ lw_all := lw_g (lw_at lw_m15 31 rfl) rfl
theorem q3569 : (Jvm.Cond.instantiable "SleeperRailway$SyntaxFailure" (7 : Nat)) ∈ lw_all := lw_g (lw_at lw_m15 109 rfl) rfl
theorem q3570 : (Jvm.Cond.castable "SleeperRailway$SyntaxFailure" "SleeperRailway$SyntaxFailure") ∈ lw_tbl := lw_at lw_m15 110 rfl
theorem q3571 : (Jvm.Cond.selects "SleeperRailway$SyntaxFailure" ({ cls := "java/lang/Throwable", name := "fillInStackTrace", desc := "(I)Ljava/lang/Throwable;" } : Jvm.MethodName) ({ cls := "java/lang/Throwable", name := "fillInStackTrace", desc := "(I)Ljava/lang/Throwable;" } : Jvm.MethodName)) ∈ lw_all := lw_g (lw_at lw_m15 111 rfl) rfl
theorem q3572 : (Jvm.Cond.lays "SleeperRailway$SyntaxFailure" "java/lang/Throwable" "cause" "Ljava/lang/Throwable;") ∈ lw_all := lw_g (lw_at lw_m15 112 rfl) rfl
theorem q3573 : (Jvm.Cond.lays "SleeperRailway$SyntaxFailure" "java/lang/Throwable" "stackTrace" "[Ljava/lang/StackTraceElement;") ∈ lw_all := lw_g (lw_at lw_m15 113 rfl) rfl
theorem q3574 : (Jvm.Cond.lays "SleeperRailway$SyntaxFailure" "java/lang/Throwable" "suppressedExceptions" "Ljava/util/List;") ∈ lw_all := lw_g (lw_at lw_m15 114 rfl) rfl
theorem q3575 : (Jvm.Cond.lays "SleeperRailway$SyntaxFailure" "java/lang/Throwable" "detailMessage" "Ljava/lang/String;") ∈ lw_all := lw_g (lw_at lw_m15 115 rfl) rfl
theorem q3576 : (Jvm.Cond.lays "SleeperRailway$SyntaxFailure" "java/lang/Throwable" "backtrace" "Ljava/lang/Object;") ∈ lw_all := lw_g (lw_at lw_m15 116 rfl) rfl
theorem q3578 : (Jvm.Cond.instanceMethod ({ cls := "SleeperRailway$SyntaxFailure", name := "<init>", desc := "(I)V" } : Jvm.MethodName)) ∈ lw_all := lw_g (lw_at lw_m15 118 rfl) rfl
theorem q3579 : (Jvm.Cond.code ({ cls := "SleeperRailway$SyntaxFailure", name := "<init>", desc := "(I)V" } : Jvm.MethodName) prog_15_method_1_code (2 : Nat) (Option.none : Option Jvm.ClassFile.FieldType)) ∈ lw_all := lw_g (lw_at lw_m15 119 rfl) rfl
theorem q3580 : (Jvm.Cond.methodLink "SleeperRailway$SyntaxFailure" (1 : Nat) ({ cls := "SleeperRailway$Failure", name := "<init>", desc := "(LSleeperRailway$Failure;)V" } : Jvm.MethodName)) ∈ lw_all := lw_g (lw_at lw_m15 120 rfl) rfl
theorem q3581 : (Jvm.Cond.fieldLink "SleeperRailway$SyntaxFailure" (7 : Nat) "SleeperRailway$SyntaxFailure" "position" "I") ∈ lw_all := lw_g (lw_at lw_m15 121 rfl) rfl
theorem q3582 : (Jvm.Cond.laysFinal "SleeperRailway$SyntaxFailure" "SleeperRailway$SyntaxFailure" "position" "I") ∈ lw_all := lw_g (lw_at lw_m15 122 rfl) rfl
theorem q3583 : (Jvm.Cond.soleField "SleeperRailway$SyntaxFailure" "position") ∈ lw_all := lw_g (lw_at lw_m15 123 rfl) rfl
theorem q3584 : (Jvm.Cond.lays "SleeperRailway$SyntaxFailure" "java/lang/Throwable" "depth" "I") ∈ lw_all := lw_g (lw_at lw_m15 124 rfl) rfl
theorem q3585 : (Jvm.Cond.superclass "SleeperRailway$SyntaxFailure" "SleeperRailway$Failure") ∈ lw_all := lw_g (lw_at lw_m15 125 rfl) rfl
theorem q3641 : (Jvm.Cond.instanceMethod ({ cls := "SleeperRailway$SyntaxFailure", name := "position", desc := "()I" } : Jvm.MethodName)) ∈ lw_all := lw_g (lw_at lw_m15 181 rfl) rfl
theorem q3642 : (Jvm.Cond.selects "SleeperRailway$SyntaxFailure" ({ cls := "SleeperRailway$SyntaxFailure", name := "position", desc := "()I" } : Jvm.MethodName) ({ cls := "SleeperRailway$SyntaxFailure", name := "position", desc := "()I" } : Jvm.MethodName)) ∈ lw_all := lw_g (lw_at lw_m15 182 rfl) rfl
theorem q3643 : (Jvm.Cond.code ({ cls := "SleeperRailway$SyntaxFailure", name := "position", desc := "()I" } : Jvm.MethodName) prog_15_method_2_code (1 : Nat) (Option.some Jvm.ClassFile.FieldType.int)) ∈ lw_all := lw_g (lw_at lw_m15 183 rfl) rfl
theorem q4230 : (Jvm.Cond.selects "SleeperRailway$SyntaxFailure" ({ cls := "SleeperRailway$SyntaxFailure", name := "asPublicException", desc := "()Ljava/lang/RuntimeException;" } : Jvm.MethodName) ({ cls := "SleeperRailway$SyntaxFailure", name := "asPublicException", desc := "()Ljava/lang/RuntimeException;" } : Jvm.MethodName)) ∈ lw_all := lw_g (lw_at lw_m18 50 rfl) rfl
theorem q4235 : (Jvm.Cond.castable "SleeperRailway$SyntaxFailure" "SleeperRailway$Failure") ∈ lw_tbl := lw_at lw_m18 55 rfl
theorem q4283 : (Jvm.Cond.castable "SleeperRailway$SyntaxFailure" "java/lang/Object") ∈ lw_tbl := lw_at lw_m18 103 rfl
theorem in_X18 : ∀ w ∈ wsX180, w ∈ lw_all := lw_in wsX180 [3572, 3573, 3574, 3575, 3576, 3584, 3582] (by decide +kernel) (by decide +kernel)
/-! SleeperRailway$CommandFailure -/
set_option maxRecDepth 100000
def RX19 : String := "SleeperRailway$CommandFailure"
def TX19 : u_T := fun k => match k with
  | 0 => ("java/lang/Throwable", "cause", "Ljava/lang/Throwable;", false)
  | 1 => ("java/lang/Throwable", "stackTrace", "[Ljava/lang/StackTraceElement;", false)
  | 2 => ("java/lang/Throwable", "suppressedExceptions", "Ljava/util/List;", false)
  | 3 => ("java/lang/Throwable", "detailMessage", "Ljava/lang/String;", false)
  | 4 => ("java/lang/Throwable", "backtrace", "Ljava/lang/Object;", false)
  | 5 => ("java/lang/Throwable", "depth", "I", false)
  | _ => ("SleeperRailway$CommandFailure", "index", "I", true)
def tyX19 : Nat → FieldType := fun k => match k with
  | 0 => .object "java/lang/Throwable"
  | 1 => .array (.object "java/lang/StackTraceElement")
  | 2 => .object "java/util/List"
  | 3 => .object "java/lang/String"
  | 4 => .object "java/lang/Object"
  | 5 => .int
  | _ => .int
abbrev wsX190 : List Cond := u_ws RX19 TX19 7
theorem nmX19 : ∀ a, a < 7 → ∀ b, b < 7 → a ≠ b → (TX19 a).2.1 ≠ (TX19 b).2.1 := by decide +kernel
theorem tyX19_ok : ∀ k, k < 7 → parseFieldDescriptor (TX19 k).2.2.1 = some (tyX19 k) := by decide +kernel
abbrev cX19_asPublicException : ByteArray := prog_6_method_3_code
def yX19_asPublicException : MethodName := ⟨RX19, "asPublicException", "()Ljava/lang/RuntimeException;"⟩
def dkwX19_asPublicException_0 : List UInt8 := [187, 0, 13, 89, 183, 0, 15, 176]
abbrev dktX19_asPublicException_0 : List UInt8 := dkwX19_asPublicException_0 ++ []
theorem dksX19_asPublicException_0 : cX19_asPublicException.data.toList.drop 0 = dktX19_asPublicException_0 := by decide +kernel
theorem dX19_asPublicException_0 : decode cX19_asPublicException 0 = .ok (.new 13, 3) := dk_187 0 13 (dk_at dksX19_asPublicException_0 0 rfl rfl)
theorem dX19_asPublicException_3 : decode cX19_asPublicException 3 = .ok (.dup, 1) := dk_89 (dk_at dksX19_asPublicException_0 3 rfl rfl)
theorem dX19_asPublicException_4 : decode cX19_asPublicException 4 = .ok (.invokespecial 15, 3) := dk_183 0 15 (dk_at dksX19_asPublicException_0 4 rfl rfl)
theorem dX19_asPublicException_7 : decode cX19_asPublicException 7 = .ok (.areturn, 1) := dk_176 (dk_at dksX19_asPublicException_0 7 rfl rfl)
abbrev cX19_init : ByteArray := prog_6_method_1_code
def yX19_init : MethodName := ⟨RX19, "<init>", "(ILSleeperRailway$Failure;)V"⟩
def dkwX19_init_0 : List UInt8 := [42, 44, 183, 0, 1, 42, 27, 181, 0, 7, 177]
abbrev dktX19_init_0 : List UInt8 := dkwX19_init_0 ++ []
theorem dksX19_init_0 : cX19_init.data.toList.drop 0 = dktX19_init_0 := by decide +kernel
theorem dX19_init_0 : decode cX19_init 0 = .ok (.aload_n 0, 1) := dk_42 (dk_at dksX19_init_0 0 rfl rfl)
theorem dX19_init_1 : decode cX19_init 1 = .ok (.aload_n 2, 1) := dk_44 (dk_at dksX19_init_0 1 rfl rfl)
theorem dX19_init_2 : decode cX19_init 2 = .ok (.invokespecial 1, 3) := dk_183 0 1 (dk_at dksX19_init_0 2 rfl rfl)
theorem dX19_init_5 : decode cX19_init 5 = .ok (.aload_n 0, 1) := dk_42 (dk_at dksX19_init_0 5 rfl rfl)
theorem dX19_init_6 : decode cX19_init 6 = .ok (.iload_n 1, 1) := dk_27 (dk_at dksX19_init_0 6 rfl rfl)
theorem dX19_init_7 : decode cX19_init 7 = .ok (.putfield 7, 3) := dk_181 0 7 (dk_at dksX19_init_0 7 rfl rfl)
theorem dX19_init_10 : decode cX19_init 10 = .ok (.return_, 1) := dk_177 (dk_at dksX19_init_0 10 rfl rfl)
abbrev cX19_index : ByteArray := prog_6_method_2_code
def yX19_index : MethodName := ⟨RX19, "index", "()I"⟩
theorem dX19_index_0 : decode cX19_index 0 = .ok (.aload_n 0, 1) := by decide +kernel
theorem dX19_index_1 : decode cX19_index 1 = .ok (.getfield 7, 3) := by decide +kernel
theorem dX19_index_4 : decode cX19_index 4 = .ok (.ireturn, 1) := by decide +kernel
theorem q173 : (Jvm.Cond.initialized "SleeperRailway$CommandFailure") ∈ lw_all := lw_g (lw_at lw_m1 73 rfl) rfl
theorem q534 : (Jvm.Cond.selects "SleeperRailway$CommandFailure" ({ cls := "java/lang/Throwable", name := "fillInStackTrace", desc := "()Ljava/lang/Throwable;" } : Jvm.MethodName) ({ cls := "java/lang/Throwable", name := "fillInStackTrace", desc := "()Ljava/lang/Throwable;" } : Jvm.MethodName)) ∈ lw_all := lw_g (lw_at lw_m2 194 rfl) rfl
theorem q974 : (Jvm.Cond.selects "SleeperRailway$CommandFailure" ({ cls := "java/lang/Throwable", name := "toString", desc := "()Ljava/lang/String;" } : Jvm.MethodName) ({ cls := "java/lang/Throwable", name := "toString", desc := "()Ljava/lang/String;" } : Jvm.MethodName)) ∈ lw_all := lw_g (lw_at lw_m4 154 rfl) rfl
theorem q994 : (Jvm.Cond.selects "SleeperRailway$CommandFailure" ({ cls := "java/lang/Object", name := "getClass", desc := "()Ljava/lang/Class;" } : Jvm.MethodName) ({ cls := "java/lang/Object", name := "getClass", desc := "()Ljava/lang/Class;" } : Jvm.MethodName)) ∈ lw_all := lw_g (lw_at lw_m4 174 rfl) rfl
theorem q1040 : (Jvm.Cond.selects "SleeperRailway$CommandFailure" ({ cls := "java/lang/Throwable", name := "getLocalizedMessage", desc := "()Ljava/lang/String;" } : Jvm.MethodName) ({ cls := "java/lang/Throwable", name := "getLocalizedMessage", desc := "()Ljava/lang/String;" } : Jvm.MethodName)) ∈ lw_all := lw_g (lw_at lw_m4 220 rfl) rfl
theorem q1055 : (Jvm.Cond.selects "SleeperRailway$CommandFailure" ({ cls := "java/lang/Throwable", name := "getMessage", desc := "()Ljava/lang/String;" } : Jvm.MethodName) ({ cls := "java/lang/Throwable", name := "getMessage", desc := "()Ljava/lang/String;" } : Jvm.MethodName)) ∈ lw_all := lw_g (lw_at lw_m4 235 rfl) rfl
theorem q2653 : (Jvm.Cond.selects "SleeperRailway$CommandFailure" ({ cls := "SleeperRailway$Failure", name := "asPublicException", desc := "()Ljava/lang/RuntimeException;" } : Jvm.MethodName) ({ cls := "SleeperRailway$CommandFailure", name := "asPublicException", desc := "()Ljava/lang/RuntimeException;" } : Jvm.MethodName)) ∈ lw_all := lw_g (lw_at lw_m11 153 rfl) rfl
theorem q2654 : (Jvm.Cond.instanceMethod ({ cls := "SleeperRailway$CommandFailure", name := "asPublicException", desc := "()Ljava/lang/RuntimeException;" } : Jvm.MethodName)) ∈ lw_all := lw_g (lw_at lw_m11 154 rfl) rfl
theorem q2655 : (Jvm.Cond.code ({ cls := "SleeperRailway$CommandFailure", name := "asPublicException", desc := "()Ljava/lang/RuntimeException;" } : Jvm.MethodName) prog_6_method_3_code (1 : Nat) (Option.some (Jvm.ClassFile.FieldType.object "java/lang/RuntimeException"))) ∈ lw_all := lw_g (lw_at lw_m11 155 rfl) rfl
theorem q2656 : (Jvm.Cond.classLink "SleeperRailway$CommandFailure" (13 : Nat) "java/lang/IllegalStateException") ∈ lw_all := lw_g (lw_at lw_m11 156 rfl) rfl
theorem q2665 : (Jvm.Cond.methodLink "SleeperRailway$CommandFailure" (15 : Nat) ({ cls := "java/lang/IllegalStateException", name := "<init>", desc := "()V" } : Jvm.MethodName)) ∈ lw_all := lw_g (lw_at lw_m11 165 rfl) rfl
theorem q3170 : (Jvm.Cond.selects "SleeperRailway$CommandFailure" ({ cls := "java/lang/Object", name := "equals", desc := "(Ljava/lang/Object;)Z" } : Jvm.MethodName) ({ cls := "java/lang/Object", name := "equals", desc := "(Ljava/lang/Object;)Z" } : Jvm.MethodName)) ∈ lw_all := lw_g (lw_at lw_m13 190 rfl) rfl
theorem q3475 : (Jvm.Cond.selects "SleeperRailway$CommandFailure" ({ cls := "java/lang/Object", name := "toString", desc := "()Ljava/lang/String;" } : Jvm.MethodName) ({ cls := "java/lang/Throwable", name := "toString", desc := "()Ljava/lang/String;" } : Jvm.MethodName)) ∈ lw_all := lw_g (lw_at lw_m15 15 rfl) rfl
theorem q3623 : (Jvm.Cond.instantiable "SleeperRailway$CommandFailure" (7 : Nat)) ∈ lw_all := lw_g (lw_at lw_m15 163 rfl) rfl
theorem q3624 : (Jvm.Cond.castable "SleeperRailway$CommandFailure" "SleeperRailway$CommandFailure") ∈ lw_tbl := lw_at lw_m15 164 rfl
theorem q3625 : (Jvm.Cond.selects "SleeperRailway$CommandFailure" ({ cls := "java/lang/Throwable", name := "fillInStackTrace", desc := "(I)Ljava/lang/Throwable;" } : Jvm.MethodName) ({ cls := "java/lang/Throwable", name := "fillInStackTrace", desc := "(I)Ljava/lang/Throwable;" } : Jvm.MethodName)) ∈ lw_all := lw_g (lw_at lw_m15 165 rfl) rfl
theorem q3626 : (Jvm.Cond.lays "SleeperRailway$CommandFailure" "java/lang/Throwable" "cause" "Ljava/lang/Throwable;") ∈ lw_all := lw_g (lw_at lw_m15 166 rfl) rfl
theorem q3627 : (Jvm.Cond.lays "SleeperRailway$CommandFailure" "java/lang/Throwable" "stackTrace" "[Ljava/lang/StackTraceElement;") ∈ lw_all := lw_g (lw_at lw_m15 167 rfl) rfl
theorem q3628 : (Jvm.Cond.lays "SleeperRailway$CommandFailure" "java/lang/Throwable" "suppressedExceptions" "Ljava/util/List;") ∈ lw_all := lw_g (lw_at lw_m15 168 rfl) rfl
theorem q3629 : (Jvm.Cond.lays "SleeperRailway$CommandFailure" "java/lang/Throwable" "detailMessage" "Ljava/lang/String;") ∈ lw_all := lw_g (lw_at lw_m15 169 rfl) rfl
theorem q3630 : (Jvm.Cond.lays "SleeperRailway$CommandFailure" "java/lang/Throwable" "backtrace" "Ljava/lang/Object;") ∈ lw_all := lw_g (lw_at lw_m15 170 rfl) rfl
theorem q3632 : (Jvm.Cond.instanceMethod ({ cls := "SleeperRailway$CommandFailure", name := "<init>", desc := "(ILSleeperRailway$Failure;)V" } : Jvm.MethodName)) ∈ lw_all := lw_g (lw_at lw_m15 172 rfl) rfl
theorem q3633 : (Jvm.Cond.code ({ cls := "SleeperRailway$CommandFailure", name := "<init>", desc := "(ILSleeperRailway$Failure;)V" } : Jvm.MethodName) prog_6_method_1_code (3 : Nat) (Option.none : Option Jvm.ClassFile.FieldType)) ∈ lw_all := lw_g (lw_at lw_m15 173 rfl) rfl
theorem q3634 : (Jvm.Cond.methodLink "SleeperRailway$CommandFailure" (1 : Nat) ({ cls := "SleeperRailway$Failure", name := "<init>", desc := "(LSleeperRailway$Failure;)V" } : Jvm.MethodName)) ∈ lw_all := lw_g (lw_at lw_m15 174 rfl) rfl
theorem q3635 : (Jvm.Cond.fieldLink "SleeperRailway$CommandFailure" (7 : Nat) "SleeperRailway$CommandFailure" "index" "I") ∈ lw_all := lw_g (lw_at lw_m15 175 rfl) rfl
theorem q3636 : (Jvm.Cond.laysFinal "SleeperRailway$CommandFailure" "SleeperRailway$CommandFailure" "index" "I") ∈ lw_all := lw_g (lw_at lw_m15 176 rfl) rfl
theorem q3637 : (Jvm.Cond.soleField "SleeperRailway$CommandFailure" "index") ∈ lw_all := lw_g (lw_at lw_m15 177 rfl) rfl
theorem q3638 : (Jvm.Cond.lays "SleeperRailway$CommandFailure" "java/lang/Throwable" "depth" "I") ∈ lw_all := lw_g (lw_at lw_m15 178 rfl) rfl
theorem q3639 : (Jvm.Cond.superclass "SleeperRailway$CommandFailure" "SleeperRailway$Failure") ∈ lw_all := lw_g (lw_at lw_m15 179 rfl) rfl
theorem q3646 : (Jvm.Cond.instanceMethod ({ cls := "SleeperRailway$CommandFailure", name := "index", desc := "()I" } : Jvm.MethodName)) ∈ lw_all := lw_g (lw_at lw_m15 186 rfl) rfl
theorem q3647 : (Jvm.Cond.selects "SleeperRailway$CommandFailure" ({ cls := "SleeperRailway$CommandFailure", name := "index", desc := "()I" } : Jvm.MethodName) ({ cls := "SleeperRailway$CommandFailure", name := "index", desc := "()I" } : Jvm.MethodName)) ∈ lw_all := lw_g (lw_at lw_m15 187 rfl) rfl
theorem q3648 : (Jvm.Cond.code ({ cls := "SleeperRailway$CommandFailure", name := "index", desc := "()I" } : Jvm.MethodName) prog_6_method_2_code (1 : Nat) (Option.some Jvm.ClassFile.FieldType.int)) ∈ lw_all := lw_g (lw_at lw_m15 188 rfl) rfl
theorem q4231 : (Jvm.Cond.selects "SleeperRailway$CommandFailure" ({ cls := "SleeperRailway$CommandFailure", name := "asPublicException", desc := "()Ljava/lang/RuntimeException;" } : Jvm.MethodName) ({ cls := "SleeperRailway$CommandFailure", name := "asPublicException", desc := "()Ljava/lang/RuntimeException;" } : Jvm.MethodName)) ∈ lw_all := lw_g (lw_at lw_m18 51 rfl) rfl
theorem q4233 : (Jvm.Cond.castable "SleeperRailway$CommandFailure" "SleeperRailway$Failure") ∈ lw_tbl := lw_at lw_m18 53 rfl
theorem q4284 : (Jvm.Cond.castable "SleeperRailway$CommandFailure" "java/lang/Object") ∈ lw_tbl := lw_at lw_m18 104 rfl
theorem in_X19 : ∀ w ∈ wsX190, w ∈ lw_all := lw_in wsX190 [3626, 3627, 3628, 3629, 3630, 3638, 3636] (by decide +kernel) (by decide +kernel)
