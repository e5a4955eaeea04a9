/-! SleeperRailwayModel -/
set_option maxRecDepth 100000
def RX4 : String := "SleeperRailwayModel"
def TX4 : u_T := fun k => match k with
  | 0 => ("SleeperRailwayModel", "g", "[I", true)
  | 1 => ("SleeperRailwayModel", "kept", "[I", true)
  | 2 => ("SleeperRailwayModel", "saved", "[I", true)
  | 3 => ("SleeperRailwayModel", "before", "[I", true)
  | 4 => ("SleeperRailwayModel", "isSaved", "Z", false)
  | 5 => ("SleeperRailwayModel", "changes", "I", false)
  | 6 => ("SleeperRailwayModel", "isWithin", "Z", false)
  | 7 => ("SleeperRailwayModel", "code", "I", false)
  | 8 => ("SleeperRailwayModel", "input", "[I", true)
  | 9 => ("SleeperRailwayModel", "length", "I", false)
  | 10 => ("SleeperRailwayModel", "fault", "I", false)
  | 11 => ("SleeperRailwayModel", "failed", "I", false)
  | 12 => ("SleeperRailwayModel", "signs", "[C", true)
  | 13 => ("SleeperRailwayModel", "signMany", "I", false)
  | 14 => ("SleeperRailwayModel", "early", "[I", true)
  | 15 => ("SleeperRailwayModel", "then", "[I", true)
  | 16 => ("SleeperRailwayModel", "start", "I", false)
  | 17 => ("SleeperRailwayModel", "starts", "I", false)
  | 18 => ("SleeperRailwayModel", "takenTrains", "[I", true)
  | 19 => ("SleeperRailwayModel", "takenLegs", "[I", true)
  | 20 => ("SleeperRailwayModel", "takenMany", "I", false)
  | 21 => ("SleeperRailwayModel", "berths", "[I", true)
  | 22 => ("SleeperRailwayModel", "at", "I", false)
  | 23 => ("SleeperRailwayModel", "told", "[I", true)
  | _ => ("SleeperRailwayModel", "toldMany", "I", false)
def tyX4 : Nat → FieldType := fun k => match k with
  | 0 => .array .int
  | 1 => .array .int
  | 2 => .array .int
  | 3 => .array .int
  | 4 => .boolean
  | 5 => .int
  | 6 => .boolean
  | 7 => .int
  | 8 => .array .int
  | 9 => .int
  | 10 => .int
  | 11 => .int
  | 12 => .array .char
  | 13 => .int
  | 14 => .array .int
  | 15 => .array .int
  | 16 => .int
  | 17 => .int
  | 18 => .array .int
  | 19 => .array .int
  | 20 => .int
  | 21 => .array .int
  | 22 => .int
  | 23 => .array .int
  | _ => .int
abbrev wsX40 : List Cond := u_ws RX4 TX4 25
set_option maxRecDepth 100000 in
theorem nmX4 : ∀ a, a < 25 → ∀ b, b < 25 → a ≠ b → (TX4 a).2.1 ≠ (TX4 b).2.1 := by decide +kernel
set_option maxRecDepth 100000 in
theorem tyX4_ok : ∀ k, k < 25 → parseFieldDescriptor (TX4 k).2.2.1 = some (tyX4 k) := by decide +kernel
abbrev cX4_init : ByteArray := prog_20_method_1_code
def yX4_init : MethodName := ⟨RX4, "<init>", "()V"⟩
def dkwX4_init_4 : List UInt8 := [188, 10, 181, 0, 45, 42, 16, 10, 188, 10, 181, 0, 48, 42, 17, 0, 155, 188, 10, 181, 0, 51, 177]
abbrev dktX4_init_4 : List UInt8 := dkwX4_init_4 ++ []
def dkwX4_init_3 : List UInt8 := [188, 10, 181, 0, 36, 42, 16, 8, 188, 10, 181, 0, 39, 42, 16, 60, 188, 10, 181, 0, 42, 42, 16, 60]
abbrev dktX4_init_3 : List UInt8 := dkwX4_init_3 ++ dktX4_init_4
def dkwX4_init_2 : List UInt8 := [181, 0, 22, 42, 2, 181, 0, 25, 42, 2, 181, 0, 29, 42, 16, 60, 188, 5, 181, 0, 32, 42, 16, 8]
abbrev dktX4_init_2 : List UInt8 := dkwX4_init_2 ++ dktX4_init_3
def dkwX4_init_1 : List UInt8 := [17, 1, 48, 188, 10, 181, 0, 16, 42, 17, 1, 48, 188, 10, 181, 0, 19, 42, 16, 60, 188, 10]
abbrev dktX4_init_1 : List UInt8 := dkwX4_init_1 ++ dktX4_init_2
def dkwX4_init_0 : List UInt8 := [42, 183, 0, 1, 42, 17, 1, 48, 188, 10, 181, 0, 7, 42, 17, 9, 128, 188, 10, 181, 0, 13, 42]
abbrev dktX4_init_0 : List UInt8 := dkwX4_init_0 ++ dktX4_init_1
theorem dksX4_init_0 : cX4_init.data.toList.drop 0 = dktX4_init_0 := by decide +kernel
theorem dksX4_init_1 : cX4_init.data.toList.drop 23 = dktX4_init_1 := dk_seg dksX4_init_0 23 rfl rfl
theorem dksX4_init_2 : cX4_init.data.toList.drop 45 = dktX4_init_2 := dk_seg dksX4_init_1 22 rfl rfl
theorem dksX4_init_3 : cX4_init.data.toList.drop 69 = dktX4_init_3 := dk_seg dksX4_init_2 24 rfl rfl
theorem dksX4_init_4 : cX4_init.data.toList.drop 93 = dktX4_init_4 := dk_seg dksX4_init_3 24 rfl rfl
theorem dX4_init_0 : decode cX4_init 0 = .ok (.aload_n 0, 1) := dk_42 (dk_at dksX4_init_0 0 rfl rfl)
theorem dX4_init_1 : decode cX4_init 1 = .ok (.invokespecial 1, 3) := dk_183 0 1 (dk_at dksX4_init_0 1 rfl rfl)
theorem dX4_init_4 : decode cX4_init 4 = .ok (.aload_n 0, 1) := dk_42 (dk_at dksX4_init_0 4 rfl rfl)
theorem dX4_init_5 : decode cX4_init 5 = .ok (.sipush 304, 3) := dk_17 1 48 (dk_at dksX4_init_0 5 rfl rfl)
theorem dX4_init_8 : decode cX4_init 8 = .ok (.newarray .int, 2) := dk_188_10 (dk_at dksX4_init_0 8 rfl rfl)
theorem dX4_init_10 : decode cX4_init 10 = .ok (.putfield 7, 3) := dk_181 0 7 (dk_at dksX4_init_0 10 rfl rfl)
theorem dX4_init_13 : decode cX4_init 13 = .ok (.aload_n 0, 1) := dk_42 (dk_at dksX4_init_0 13 rfl rfl)
theorem dX4_init_14 : decode cX4_init 14 = .ok (.sipush 2432, 3) := dk_17 9 128 (dk_at dksX4_init_0 14 rfl rfl)
theorem dX4_init_17 : decode cX4_init 17 = .ok (.newarray .int, 2) := dk_188_10 (dk_at dksX4_init_0 17 rfl rfl)
theorem dX4_init_19 : decode cX4_init 19 = .ok (.putfield 13, 3) := dk_181 0 13 (dk_at dksX4_init_0 19 rfl rfl)
theorem dX4_init_22 : decode cX4_init 22 = .ok (.aload_n 0, 1) := dk_42 (dk_at dksX4_init_0 22 rfl rfl)
theorem dX4_init_23 : decode cX4_init 23 = .ok (.sipush 304, 3) := dk_17 1 48 (dk_at dksX4_init_1 0 rfl rfl)
theorem dX4_init_26 : decode cX4_init 26 = .ok (.newarray .int, 2) := dk_188_10 (dk_at dksX4_init_1 3 rfl rfl)
theorem dX4_init_28 : decode cX4_init 28 = .ok (.putfield 16, 3) := dk_181 0 16 (dk_at dksX4_init_1 5 rfl rfl)
theorem dX4_init_31 : decode cX4_init 31 = .ok (.aload_n 0, 1) := dk_42 (dk_at dksX4_init_1 8 rfl rfl)
theorem dX4_init_32 : decode cX4_init 32 = .ok (.sipush 304, 3) := dk_17 1 48 (dk_at dksX4_init_1 9 rfl rfl)
theorem dX4_init_35 : decode cX4_init 35 = .ok (.newarray .int, 2) := dk_188_10 (dk_at dksX4_init_1 12 rfl rfl)
theorem dX4_init_37 : decode cX4_init 37 = .ok (.putfield 19, 3) := dk_181 0 19 (dk_at dksX4_init_1 14 rfl rfl)
theorem dX4_init_40 : decode cX4_init 40 = .ok (.aload_n 0, 1) := dk_42 (dk_at dksX4_init_1 17 rfl rfl)
theorem dX4_init_41 : decode cX4_init 41 = .ok (.bipush 60, 2) := dk_16 60 (dk_at dksX4_init_1 18 rfl rfl)
theorem dX4_init_43 : decode cX4_init 43 = .ok (.newarray .int, 2) := dk_188_10 (dk_at dksX4_init_1 20 rfl rfl)
theorem dX4_init_45 : decode cX4_init 45 = .ok (.putfield 22, 3) := dk_181 0 22 (dk_at dksX4_init_2 0 rfl rfl)
theorem dX4_init_48 : decode cX4_init 48 = .ok (.aload_n 0, 1) := dk_42 (dk_at dksX4_init_2 3 rfl rfl)
theorem dX4_init_49 : decode cX4_init 49 = .ok (.iconst (-1), 1) := dk_2 (dk_at dksX4_init_2 4 rfl rfl)
theorem dX4_init_50 : decode cX4_init 50 = .ok (.putfield 25, 3) := dk_181 0 25 (dk_at dksX4_init_2 5 rfl rfl)
theorem dX4_init_53 : decode cX4_init 53 = .ok (.aload_n 0, 1) := dk_42 (dk_at dksX4_init_2 8 rfl rfl)
theorem dX4_init_54 : decode cX4_init 54 = .ok (.iconst (-1), 1) := dk_2 (dk_at dksX4_init_2 9 rfl rfl)
theorem dX4_init_55 : decode cX4_init 55 = .ok (.putfield 29, 3) := dk_181 0 29 (dk_at dksX4_init_2 10 rfl rfl)
theorem dX4_init_58 : decode cX4_init 58 = .ok (.aload_n 0, 1) := dk_42 (dk_at dksX4_init_2 13 rfl rfl)
theorem dX4_init_59 : decode cX4_init 59 = .ok (.bipush 60, 2) := dk_16 60 (dk_at dksX4_init_2 14 rfl rfl)
theorem dX4_init_61 : decode cX4_init 61 = .ok (.newarray .char, 2) := dk_188_5 (dk_at dksX4_init_2 16 rfl rfl)
theorem dX4_init_63 : decode cX4_init 63 = .ok (.putfield 32, 3) := dk_181 0 32 (dk_at dksX4_init_2 18 rfl rfl)
theorem dX4_init_66 : decode cX4_init 66 = .ok (.aload_n 0, 1) := dk_42 (dk_at dksX4_init_2 21 rfl rfl)
theorem dX4_init_67 : decode cX4_init 67 = .ok (.bipush 8, 2) := dk_16 8 (dk_at dksX4_init_2 22 rfl rfl)
theorem dX4_init_69 : decode cX4_init 69 = .ok (.newarray .int, 2) := dk_188_10 (dk_at dksX4_init_3 0 rfl rfl)
theorem dX4_init_71 : decode cX4_init 71 = .ok (.putfield 36, 3) := dk_181 0 36 (dk_at dksX4_init_3 2 rfl rfl)
theorem dX4_init_74 : decode cX4_init 74 = .ok (.aload_n 0, 1) := dk_42 (dk_at dksX4_init_3 5 rfl rfl)
theorem dX4_init_75 : decode cX4_init 75 = .ok (.bipush 8, 2) := dk_16 8 (dk_at dksX4_init_3 6 rfl rfl)
theorem dX4_init_77 : decode cX4_init 77 = .ok (.newarray .int, 2) := dk_188_10 (dk_at dksX4_init_3 8 rfl rfl)
theorem dX4_init_79 : decode cX4_init 79 = .ok (.putfield 39, 3) := dk_181 0 39 (dk_at dksX4_init_3 10 rfl rfl)
theorem dX4_init_82 : decode cX4_init 82 = .ok (.aload_n 0, 1) := dk_42 (dk_at dksX4_init_3 13 rfl rfl)
theorem dX4_init_83 : decode cX4_init 83 = .ok (.bipush 60, 2) := dk_16 60 (dk_at dksX4_init_3 14 rfl rfl)
theorem dX4_init_85 : decode cX4_init 85 = .ok (.newarray .int, 2) := dk_188_10 (dk_at dksX4_init_3 16 rfl rfl)
theorem dX4_init_87 : decode cX4_init 87 = .ok (.putfield 42, 3) := dk_181 0 42 (dk_at dksX4_init_3 18 rfl rfl)
theorem dX4_init_90 : decode cX4_init 90 = .ok (.aload_n 0, 1) := dk_42 (dk_at dksX4_init_3 21 rfl rfl)
theorem dX4_init_91 : decode cX4_init 91 = .ok (.bipush 60, 2) := dk_16 60 (dk_at dksX4_init_3 22 rfl rfl)
theorem dX4_init_93 : decode cX4_init 93 = .ok (.newarray .int, 2) := dk_188_10 (dk_at dksX4_init_4 0 rfl rfl)
theorem dX4_init_95 : decode cX4_init 95 = .ok (.putfield 45, 3) := dk_181 0 45 (dk_at dksX4_init_4 2 rfl rfl)
theorem dX4_init_98 : decode cX4_init 98 = .ok (.aload_n 0, 1) := dk_42 (dk_at dksX4_init_4 5 rfl rfl)
theorem dX4_init_99 : decode cX4_init 99 = .ok (.bipush 10, 2) := dk_16 10 (dk_at dksX4_init_4 6 rfl rfl)
theorem dX4_init_101 : decode cX4_init 101 = .ok (.newarray .int, 2) := dk_188_10 (dk_at dksX4_init_4 8 rfl rfl)
theorem dX4_init_103 : decode cX4_init 103 = .ok (.putfield 48, 3) := dk_181 0 48 (dk_at dksX4_init_4 10 rfl rfl)
theorem dX4_init_106 : decode cX4_init 106 = .ok (.aload_n 0, 1) := dk_42 (dk_at dksX4_init_4 13 rfl rfl)
theorem dX4_init_107 : decode cX4_init 107 = .ok (.sipush 155, 3) := dk_17 0 155 (dk_at dksX4_init_4 14 rfl rfl)
theorem dX4_init_110 : decode cX4_init 110 = .ok (.newarray .int, 2) := dk_188_10 (dk_at dksX4_init_4 17 rfl rfl)
theorem dX4_init_112 : decode cX4_init 112 = .ok (.putfield 51, 3) := dk_181 0 51 (dk_at dksX4_init_4 19 rfl rfl)
theorem dX4_init_115 : decode cX4_init 115 = .ok (.return_, 1) := dk_177 (dk_at dksX4_init_4 22 rfl rfl)
abbrev cX4_thrown : ByteArray := prog_20_method_2_code
def yX4_thrown : MethodName := ⟨RX4, "thrown", "()I"⟩
theorem dX4_thrown_0 : decode cX4_thrown 0 = .ok (.aload_n 0, 1) := by decide +kernel
theorem dX4_thrown_1 : decode cX4_thrown 1 = .ok (.getfield 54, 3) := by decide +kernel
theorem dX4_thrown_4 : decode cX4_thrown 4 = .ok (.ireturn, 1) := by decide +kernel
abbrev cX4_addStation : ByteArray := prog_20_method_19_code
def yX4_addStation : MethodName := ⟨RX4, "addStation", "(I)I"⟩
def dkwX4_addStation_3 : List UInt8 := [79, 42, 180, 0, 7, 3, 46, 4, 100, 172]
abbrev dktX4_addStation_3 : List UInt8 := dkwX4_addStation_3 ++ []
def dkwX4_addStation_2 : List UInt8 := [42, 180, 0, 7, 16, 8, 42, 180, 0, 7, 3, 46, 96, 27, 79, 42, 180, 0, 7, 3, 92, 46, 4, 96]
abbrev dktX4_addStation_2 : List UInt8 := dkwX4_addStation_2 ++ dktX4_addStation_3
def dkwX4_addStation_1 : List UInt8 := [160, 0, 7, 5, 167, 0, 4, 3, 182, 0, 92, 153, 0, 5, 3, 172, 42, 42, 180, 0, 7, 182, 0, 95]
abbrev dktX4_addStation_1 : List UInt8 := dkwX4_addStation_1 ++ dktX4_addStation_2
def dkwX4_addStation_0 : List UInt8 := [42, 27, 4, 16, 30, 184, 0, 68, 154, 0, 7, 4, 167, 0, 19, 42, 180, 0, 7, 3, 46, 16, 8]
abbrev dktX4_addStation_0 : List UInt8 := dkwX4_addStation_0 ++ dktX4_addStation_1
theorem dksX4_addStation_0 : cX4_addStation.data.toList.drop 0 = dktX4_addStation_0 := by decide +kernel
theorem dksX4_addStation_1 : cX4_addStation.data.toList.drop 23 = dktX4_addStation_1 := dk_seg dksX4_addStation_0 23 rfl rfl
theorem dksX4_addStation_2 : cX4_addStation.data.toList.drop 47 = dktX4_addStation_2 := dk_seg dksX4_addStation_1 24 rfl rfl
theorem dksX4_addStation_3 : cX4_addStation.data.toList.drop 71 = dktX4_addStation_3 := dk_seg dksX4_addStation_2 24 rfl rfl
theorem dX4_addStation_0 : decode cX4_addStation 0 = .ok (.aload_n 0, 1) := dk_42 (dk_at dksX4_addStation_0 0 rfl rfl)
theorem dX4_addStation_1 : decode cX4_addStation 1 = .ok (.iload_n 1, 1) := dk_27 (dk_at dksX4_addStation_0 1 rfl rfl)
theorem dX4_addStation_2 : decode cX4_addStation 2 = .ok (.iconst 1, 1) := dk_4 (dk_at dksX4_addStation_0 2 rfl rfl)
theorem dX4_addStation_3 : decode cX4_addStation 3 = .ok (.bipush 30, 2) := dk_16 30 (dk_at dksX4_addStation_0 3 rfl rfl)
theorem dX4_addStation_5 : decode cX4_addStation 5 = .ok (.invokestatic 68, 3) := dk_184 0 68 (dk_at dksX4_addStation_0 5 rfl rfl)
theorem dX4_addStation_8 : decode cX4_addStation 8 = .ok (.ifCond .ne 7, 3) := dk_154 0 7 (dk_at dksX4_addStation_0 8 rfl rfl)
theorem dX4_addStation_11 : decode cX4_addStation 11 = .ok (.iconst 1, 1) := dk_4 (dk_at dksX4_addStation_0 11 rfl rfl)
theorem dX4_addStation_12 : decode cX4_addStation 12 = .ok (.goto 19, 3) := dk_167 0 19 (dk_at dksX4_addStation_0 12 rfl rfl)
theorem dX4_addStation_15 : decode cX4_addStation 15 = .ok (.aload_n 0, 1) := dk_42 (dk_at dksX4_addStation_0 15 rfl rfl)
theorem dX4_addStation_16 : decode cX4_addStation 16 = .ok (.getfield 7, 3) := dk_180 0 7 (dk_at dksX4_addStation_0 16 rfl rfl)
theorem dX4_addStation_19 : decode cX4_addStation 19 = .ok (.iconst 0, 1) := dk_3 (dk_at dksX4_addStation_0 19 rfl rfl)
theorem dX4_addStation_20 : decode cX4_addStation 20 = .ok (.iaload, 1) := dk_46 (dk_at dksX4_addStation_0 20 rfl rfl)
theorem dX4_addStation_21 : decode cX4_addStation 21 = .ok (.bipush 8, 2) := dk_16 8 (dk_at dksX4_addStation_0 21 rfl rfl)
theorem dX4_addStation_23 : decode cX4_addStation 23 = .ok (.if_icmp .ne 7, 3) := dk_160 0 7 (dk_at dksX4_addStation_1 0 rfl rfl)
theorem dX4_addStation_26 : decode cX4_addStation 26 = .ok (.iconst 2, 1) := dk_5 (dk_at dksX4_addStation_1 3 rfl rfl)
theorem dX4_addStation_27 : decode cX4_addStation 27 = .ok (.goto 4, 3) := dk_167 0 4 (dk_at dksX4_addStation_1 4 rfl rfl)
theorem dX4_addStation_30 : decode cX4_addStation 30 = .ok (.iconst 0, 1) := dk_3 (dk_at dksX4_addStation_1 7 rfl rfl)
theorem dX4_addStation_31 : decode cX4_addStation 31 = .ok (.invokevirtual 92, 3) := dk_182 0 92 (dk_at dksX4_addStation_1 8 rfl rfl)
theorem dX4_addStation_34 : decode cX4_addStation 34 = .ok (.ifCond .eq 5, 3) := dk_153 0 5 (dk_at dksX4_addStation_1 11 rfl rfl)
theorem dX4_addStation_37 : decode cX4_addStation 37 = .ok (.iconst 0, 1) := dk_3 (dk_at dksX4_addStation_1 14 rfl rfl)
theorem dX4_addStation_38 : decode cX4_addStation 38 = .ok (.ireturn, 1) := dk_172 (dk_at dksX4_addStation_1 15 rfl rfl)
theorem dX4_addStation_39 : decode cX4_addStation 39 = .ok (.aload_n 0, 1) := dk_42 (dk_at dksX4_addStation_1 16 rfl rfl)
theorem dX4_addStation_40 : decode cX4_addStation 40 = .ok (.aload_n 0, 1) := dk_42 (dk_at dksX4_addStation_1 17 rfl rfl)
theorem dX4_addStation_41 : decode cX4_addStation 41 = .ok (.getfield 7, 3) := dk_180 0 7 (dk_at dksX4_addStation_1 18 rfl rfl)
theorem dX4_addStation_44 : decode cX4_addStation 44 = .ok (.invokevirtual 95, 3) := dk_182 0 95 (dk_at dksX4_addStation_1 21 rfl rfl)
theorem dX4_addStation_47 : decode cX4_addStation 47 = .ok (.aload_n 0, 1) := dk_42 (dk_at dksX4_addStation_2 0 rfl rfl)
theorem dX4_addStation_48 : decode cX4_addStation 48 = .ok (.getfield 7, 3) := dk_180 0 7 (dk_at dksX4_addStation_2 1 rfl rfl)
theorem dX4_addStation_51 : decode cX4_addStation 51 = .ok (.bipush 8, 2) := dk_16 8 (dk_at dksX4_addStation_2 4 rfl rfl)
theorem dX4_addStation_53 : decode cX4_addStation 53 = .ok (.aload_n 0, 1) := dk_42 (dk_at dksX4_addStation_2 6 rfl rfl)
theorem dX4_addStation_54 : decode cX4_addStation 54 = .ok (.getfield 7, 3) := dk_180 0 7 (dk_at dksX4_addStation_2 7 rfl rfl)
theorem dX4_addStation_57 : decode cX4_addStation 57 = .ok (.iconst 0, 1) := dk_3 (dk_at dksX4_addStation_2 10 rfl rfl)
theorem dX4_addStation_58 : decode cX4_addStation 58 = .ok (.iaload, 1) := dk_46 (dk_at dksX4_addStation_2 11 rfl rfl)
theorem dX4_addStation_59 : decode cX4_addStation 59 = .ok (.iadd, 1) := dk_96 (dk_at dksX4_addStation_2 12 rfl rfl)
theorem dX4_addStation_60 : decode cX4_addStation 60 = .ok (.iload_n 1, 1) := dk_27 (dk_at dksX4_addStation_2 13 rfl rfl)
theorem dX4_addStation_61 : decode cX4_addStation 61 = .ok (.iastore, 1) := dk_79 (dk_at dksX4_addStation_2 14 rfl rfl)
theorem dX4_addStation_62 : decode cX4_addStation 62 = .ok (.aload_n 0, 1) := dk_42 (dk_at dksX4_addStation_2 15 rfl rfl)
theorem dX4_addStation_63 : decode cX4_addStation 63 = .ok (.getfield 7, 3) := dk_180 0 7 (dk_at dksX4_addStation_2 16 rfl rfl)
theorem dX4_addStation_66 : decode cX4_addStation 66 = .ok (.iconst 0, 1) := dk_3 (dk_at dksX4_addStation_2 19 rfl rfl)
theorem dX4_addStation_67 : decode cX4_addStation 67 = .ok (.dup2, 1) := dk_92 (dk_at dksX4_addStation_2 20 rfl rfl)
theorem dX4_addStation_68 : decode cX4_addStation 68 = .ok (.iaload, 1) := dk_46 (dk_at dksX4_addStation_2 21 rfl rfl)
theorem dX4_addStation_69 : decode cX4_addStation 69 = .ok (.iconst 1, 1) := dk_4 (dk_at dksX4_addStation_2 22 rfl rfl)
theorem dX4_addStation_70 : decode cX4_addStation 70 = .ok (.iadd, 1) := dk_96 (dk_at dksX4_addStation_2 23 rfl rfl)
theorem dX4_addStation_71 : decode cX4_addStation 71 = .ok (.iastore, 1) := dk_79 (dk_at dksX4_addStation_3 0 rfl rfl)
theorem dX4_addStation_72 : decode cX4_addStation 72 = .ok (.aload_n 0, 1) := dk_42 (dk_at dksX4_addStation_3 1 rfl rfl)
theorem dX4_addStation_73 : decode cX4_addStation 73 = .ok (.getfield 7, 3) := dk_180 0 7 (dk_at dksX4_addStation_3 2 rfl rfl)
theorem dX4_addStation_76 : decode cX4_addStation 76 = .ok (.iconst 0, 1) := dk_3 (dk_at dksX4_addStation_3 5 rfl rfl)
theorem dX4_addStation_77 : decode cX4_addStation 77 = .ok (.iaload, 1) := dk_46 (dk_at dksX4_addStation_3 6 rfl rfl)
theorem dX4_addStation_78 : decode cX4_addStation 78 = .ok (.iconst 1, 1) := dk_4 (dk_at dksX4_addStation_3 7 rfl rfl)
theorem dX4_addStation_79 : decode cX4_addStation 79 = .ok (.isub, 1) := dk_100 (dk_at dksX4_addStation_3 8 rfl rfl)
theorem dX4_addStation_80 : decode cX4_addStation 80 = .ok (.ireturn, 1) := dk_172 (dk_at dksX4_addStation_3 9 rfl rfl)
abbrev cX4_in : ByteArray := prog_20_method_4_code
def yX4_in : MethodName := ⟨RX4, "in", "(III)Z"⟩
def dkwX4_in_0 : List UInt8 := [26, 27, 161, 0, 12, 26, 28, 163, 0, 7, 4, 167, 0, 4, 3, 172]
abbrev dktX4_in_0 : List UInt8 := dkwX4_in_0 ++ []
theorem dksX4_in_0 : cX4_in.data.toList.drop 0 = dktX4_in_0 := by decide +kernel
theorem dX4_in_0 : decode cX4_in 0 = .ok (.iload_n 0, 1) := dk_26 (dk_at dksX4_in_0 0 rfl rfl)
theorem dX4_in_1 : decode cX4_in 1 = .ok (.iload_n 1, 1) := dk_27 (dk_at dksX4_in_0 1 rfl rfl)
theorem dX4_in_2 : decode cX4_in 2 = .ok (.if_icmp .lt 12, 3) := dk_161 0 12 (dk_at dksX4_in_0 2 rfl rfl)
theorem dX4_in_5 : decode cX4_in 5 = .ok (.iload_n 0, 1) := dk_26 (dk_at dksX4_in_0 5 rfl rfl)
theorem dX4_in_6 : decode cX4_in 6 = .ok (.iload_n 2, 1) := dk_28 (dk_at dksX4_in_0 6 rfl rfl)
theorem dX4_in_7 : decode cX4_in 7 = .ok (.if_icmp .gt 7, 3) := dk_163 0 7 (dk_at dksX4_in_0 7 rfl rfl)
theorem dX4_in_10 : decode cX4_in 10 = .ok (.iconst 1, 1) := dk_4 (dk_at dksX4_in_0 10 rfl rfl)
theorem dX4_in_11 : decode cX4_in 11 = .ok (.goto 4, 3) := dk_167 0 4 (dk_at dksX4_in_0 11 rfl rfl)
theorem dX4_in_14 : decode cX4_in 14 = .ok (.iconst 0, 1) := dk_3 (dk_at dksX4_in_0 14 rfl rfl)
theorem dX4_in_15 : decode cX4_in 15 = .ok (.ireturn, 1) := dk_172 (dk_at dksX4_in_0 15 rfl rfl)
abbrev cX4_fails : ByteArray := prog_20_method_3_code
def yX4_fails : MethodName := ⟨RX4, "fails", "(I)Z"⟩
def dkwX4_fails_0 : List UInt8 := [42, 27, 181, 0, 54, 27, 158, 0, 7, 4, 167, 0, 4, 3, 172]
abbrev dktX4_fails_0 : List UInt8 := dkwX4_fails_0 ++ []
theorem dksX4_fails_0 : cX4_fails.data.toList.drop 0 = dktX4_fails_0 := by decide +kernel
theorem dX4_fails_0 : decode cX4_fails 0 = .ok (.aload_n 0, 1) := dk_42 (dk_at dksX4_fails_0 0 rfl rfl)
theorem dX4_fails_1 : decode cX4_fails 1 = .ok (.iload_n 1, 1) := dk_27 (dk_at dksX4_fails_0 1 rfl rfl)
theorem dX4_fails_2 : decode cX4_fails 2 = .ok (.putfield 54, 3) := dk_181 0 54 (dk_at dksX4_fails_0 2 rfl rfl)
theorem dX4_fails_5 : decode cX4_fails 5 = .ok (.iload_n 1, 1) := dk_27 (dk_at dksX4_fails_0 5 rfl rfl)
theorem dX4_fails_6 : decode cX4_fails 6 = .ok (.ifCond .le 7, 3) := dk_158 0 7 (dk_at dksX4_fails_0 6 rfl rfl)
theorem dX4_fails_9 : decode cX4_fails 9 = .ok (.iconst 1, 1) := dk_4 (dk_at dksX4_fails_0 9 rfl rfl)
theorem dX4_fails_10 : decode cX4_fails 10 = .ok (.goto 4, 3) := dk_167 0 4 (dk_at dksX4_fails_0 10 rfl rfl)
theorem dX4_fails_13 : decode cX4_fails 13 = .ok (.iconst 0, 1) := dk_3 (dk_at dksX4_fails_0 13 rfl rfl)
theorem dX4_fails_14 : decode cX4_fails 14 = .ok (.ireturn, 1) := dk_172 (dk_at dksX4_fails_0 14 rfl rfl)
abbrev cX4_keeps : ByteArray := prog_20_method_6_code
def yX4_keeps : MethodName := ⟨RX4, "keeps", "([I)V"⟩
def dkwX4_keeps_3 : List UInt8 := [17, 1, 48, 42, 180, 0, 61, 104, 184, 0, 64, 42, 89, 180, 0, 61, 4, 96, 181, 0, 61, 177]
abbrev dktX4_keeps_3 : List UInt8 := dkwX4_keeps_3 ++ []
def dkwX4_keeps_2 : List UInt8 := [132, 2, 1, 167, 255, 230, 42, 89, 180, 0, 61, 4, 100, 181, 0, 61, 43, 3, 42, 180, 0, 13]
abbrev dktX4_keeps_2 : List UInt8 := dkwX4_keeps_2 ++ dktX4_keeps_3
def dkwX4_keeps_1 : List UInt8 := [28, 17, 8, 80, 162, 0, 25, 42, 180, 0, 13, 28, 42, 180, 0, 13, 28, 17, 1, 48, 96, 46, 79]
abbrev dktX4_keeps_1 : List UInt8 := dkwX4_keeps_1 ++ dktX4_keeps_2
def dkwX4_keeps_0 : List UInt8 := [42, 3, 181, 0, 54, 42, 180, 0, 57, 153, 0, 4, 177, 42, 180, 0, 61, 16, 8, 160, 0, 44, 3, 61]
abbrev dktX4_keeps_0 : List UInt8 := dkwX4_keeps_0 ++ dktX4_keeps_1
theorem dksX4_keeps_0 : cX4_keeps.data.toList.drop 0 = dktX4_keeps_0 := by decide +kernel
theorem dksX4_keeps_1 : cX4_keeps.data.toList.drop 24 = dktX4_keeps_1 := dk_seg dksX4_keeps_0 24 rfl rfl
theorem dksX4_keeps_2 : cX4_keeps.data.toList.drop 47 = dktX4_keeps_2 := dk_seg dksX4_keeps_1 23 rfl rfl
theorem dksX4_keeps_3 : cX4_keeps.data.toList.drop 69 = dktX4_keeps_3 := dk_seg dksX4_keeps_2 22 rfl rfl
theorem dX4_keeps_0 : decode cX4_keeps 0 = .ok (.aload_n 0, 1) := dk_42 (dk_at dksX4_keeps_0 0 rfl rfl)
theorem dX4_keeps_1 : decode cX4_keeps 1 = .ok (.iconst 0, 1) := dk_3 (dk_at dksX4_keeps_0 1 rfl rfl)
theorem dX4_keeps_2 : decode cX4_keeps 2 = .ok (.putfield 54, 3) := dk_181 0 54 (dk_at dksX4_keeps_0 2 rfl rfl)
theorem dX4_keeps_5 : decode cX4_keeps 5 = .ok (.aload_n 0, 1) := dk_42 (dk_at dksX4_keeps_0 5 rfl rfl)
theorem dX4_keeps_6 : decode cX4_keeps 6 = .ok (.getfield 57, 3) := dk_180 0 57 (dk_at dksX4_keeps_0 6 rfl rfl)
theorem dX4_keeps_9 : decode cX4_keeps 9 = .ok (.ifCond .eq 4, 3) := dk_153 0 4 (dk_at dksX4_keeps_0 9 rfl rfl)
theorem dX4_keeps_12 : decode cX4_keeps 12 = .ok (.return_, 1) := dk_177 (dk_at dksX4_keeps_0 12 rfl rfl)
theorem dX4_keeps_13 : decode cX4_keeps 13 = .ok (.aload_n 0, 1) := dk_42 (dk_at dksX4_keeps_0 13 rfl rfl)
theorem dX4_keeps_14 : decode cX4_keeps 14 = .ok (.getfield 61, 3) := dk_180 0 61 (dk_at dksX4_keeps_0 14 rfl rfl)
theorem dX4_keeps_17 : decode cX4_keeps 17 = .ok (.bipush 8, 2) := dk_16 8 (dk_at dksX4_keeps_0 17 rfl rfl)
theorem dX4_keeps_19 : decode cX4_keeps 19 = .ok (.if_icmp .ne 44, 3) := dk_160 0 44 (dk_at dksX4_keeps_0 19 rfl rfl)
theorem dX4_keeps_22 : decode cX4_keeps 22 = .ok (.iconst 0, 1) := dk_3 (dk_at dksX4_keeps_0 22 rfl rfl)
theorem dX4_keeps_23 : decode cX4_keeps 23 = .ok (.istore_n 2, 1) := dk_61 (dk_at dksX4_keeps_0 23 rfl rfl)
theorem dX4_keeps_24 : decode cX4_keeps 24 = .ok (.iload_n 2, 1) := dk_28 (dk_at dksX4_keeps_1 0 rfl rfl)
theorem dX4_keeps_25 : decode cX4_keeps 25 = .ok (.sipush 2128, 3) := dk_17 8 80 (dk_at dksX4_keeps_1 1 rfl rfl)
theorem dX4_keeps_28 : decode cX4_keeps 28 = .ok (.if_icmp .ge 25, 3) := dk_162 0 25 (dk_at dksX4_keeps_1 4 rfl rfl)
theorem dX4_keeps_31 : decode cX4_keeps 31 = .ok (.aload_n 0, 1) := dk_42 (dk_at dksX4_keeps_1 7 rfl rfl)
theorem dX4_keeps_32 : decode cX4_keeps 32 = .ok (.getfield 13, 3) := dk_180 0 13 (dk_at dksX4_keeps_1 8 rfl rfl)
theorem dX4_keeps_35 : decode cX4_keeps 35 = .ok (.iload_n 2, 1) := dk_28 (dk_at dksX4_keeps_1 11 rfl rfl)
theorem dX4_keeps_36 : decode cX4_keeps 36 = .ok (.aload_n 0, 1) := dk_42 (dk_at dksX4_keeps_1 12 rfl rfl)
theorem dX4_keeps_37 : decode cX4_keeps 37 = .ok (.getfield 13, 3) := dk_180 0 13 (dk_at dksX4_keeps_1 13 rfl rfl)
theorem dX4_keeps_40 : decode cX4_keeps 40 = .ok (.iload_n 2, 1) := dk_28 (dk_at dksX4_keeps_1 16 rfl rfl)
theorem dX4_keeps_41 : decode cX4_keeps 41 = .ok (.sipush 304, 3) := dk_17 1 48 (dk_at dksX4_keeps_1 17 rfl rfl)
theorem dX4_keeps_44 : decode cX4_keeps 44 = .ok (.iadd, 1) := dk_96 (dk_at dksX4_keeps_1 20 rfl rfl)
theorem dX4_keeps_45 : decode cX4_keeps 45 = .ok (.iaload, 1) := dk_46 (dk_at dksX4_keeps_1 21 rfl rfl)
theorem dX4_keeps_46 : decode cX4_keeps 46 = .ok (.iastore, 1) := dk_79 (dk_at dksX4_keeps_1 22 rfl rfl)
theorem dX4_keeps_47 : decode cX4_keeps 47 = .ok (.iinc 2 1, 3) := dk_132 2 1 (dk_at dksX4_keeps_2 0 rfl rfl)
theorem dX4_keeps_50 : decode cX4_keeps 50 = .ok (.goto (-26), 3) := dk_167 255 230 (dk_at dksX4_keeps_2 3 rfl rfl)
theorem dX4_keeps_53 : decode cX4_keeps 53 = .ok (.aload_n 0, 1) := dk_42 (dk_at dksX4_keeps_2 6 rfl rfl)
theorem dX4_keeps_54 : decode cX4_keeps 54 = .ok (.dup, 1) := dk_89 (dk_at dksX4_keeps_2 7 rfl rfl)
theorem dX4_keeps_55 : decode cX4_keeps 55 = .ok (.getfield 61, 3) := dk_180 0 61 (dk_at dksX4_keeps_2 8 rfl rfl)
theorem dX4_keeps_58 : decode cX4_keeps 58 = .ok (.iconst 1, 1) := dk_4 (dk_at dksX4_keeps_2 11 rfl rfl)
theorem dX4_keeps_59 : decode cX4_keeps 59 = .ok (.isub, 1) := dk_100 (dk_at dksX4_keeps_2 12 rfl rfl)
theorem dX4_keeps_60 : decode cX4_keeps 60 = .ok (.putfield 61, 3) := dk_181 0 61 (dk_at dksX4_keeps_2 13 rfl rfl)
theorem dX4_keeps_63 : decode cX4_keeps 63 = .ok (.aload_n 1, 1) := dk_43 (dk_at dksX4_keeps_2 16 rfl rfl)
theorem dX4_keeps_64 : decode cX4_keeps 64 = .ok (.iconst 0, 1) := dk_3 (dk_at dksX4_keeps_2 17 rfl rfl)
theorem dX4_keeps_65 : decode cX4_keeps 65 = .ok (.aload_n 0, 1) := dk_42 (dk_at dksX4_keeps_2 18 rfl rfl)
theorem dX4_keeps_66 : decode cX4_keeps 66 = .ok (.getfield 13, 3) := dk_180 0 13 (dk_at dksX4_keeps_2 19 rfl rfl)
theorem dX4_keeps_69 : decode cX4_keeps 69 = .ok (.sipush 304, 3) := dk_17 1 48 (dk_at dksX4_keeps_3 0 rfl rfl)
theorem dX4_keeps_72 : decode cX4_keeps 72 = .ok (.aload_n 0, 1) := dk_42 (dk_at dksX4_keeps_3 3 rfl rfl)
theorem dX4_keeps_73 : decode cX4_keeps 73 = .ok (.getfield 61, 3) := dk_180 0 61 (dk_at dksX4_keeps_3 4 rfl rfl)
theorem dX4_keeps_76 : decode cX4_keeps 76 = .ok (.imul, 1) := dk_104 (dk_at dksX4_keeps_3 7 rfl rfl)
theorem dX4_keeps_77 : decode cX4_keeps 77 = .ok (.invokestatic 64, 3) := dk_184 0 64 (dk_at dksX4_keeps_3 8 rfl rfl)
theorem dX4_keeps_80 : decode cX4_keeps 80 = .ok (.aload_n 0, 1) := dk_42 (dk_at dksX4_keeps_3 11 rfl rfl)
theorem dX4_keeps_81 : decode cX4_keeps 81 = .ok (.dup, 1) := dk_89 (dk_at dksX4_keeps_3 12 rfl rfl)
theorem dX4_keeps_82 : decode cX4_keeps 82 = .ok (.getfield 61, 3) := dk_180 0 61 (dk_at dksX4_keeps_3 13 rfl rfl)
theorem dX4_keeps_85 : decode cX4_keeps 85 = .ok (.iconst 1, 1) := dk_4 (dk_at dksX4_keeps_3 16 rfl rfl)
theorem dX4_keeps_86 : decode cX4_keeps 86 = .ok (.iadd, 1) := dk_96 (dk_at dksX4_keeps_3 17 rfl rfl)
theorem dX4_keeps_87 : decode cX4_keeps 87 = .ok (.putfield 61, 3) := dk_181 0 61 (dk_at dksX4_keeps_3 18 rfl rfl)
theorem dX4_keeps_90 : decode cX4_keeps 90 = .ok (.return_, 1) := dk_177 (dk_at dksX4_keeps_3 21 rfl rfl)
abbrev cX4_copies : ByteArray := prog_20_method_5_code
def yX4_copies : MethodName := ⟨RX4, "copies", "([II[II)V"⟩
def dkwX4_copies_1 : List UInt8 := [132, 4, 1, 167, 255, 233, 177]
abbrev dktX4_copies_1 : List UInt8 := dkwX4_copies_1 ++ []
def dkwX4_copies_0 : List UInt8 := [3, 54, 4, 21, 4, 17, 1, 48, 162, 0, 21, 44, 29, 21, 4, 96, 42, 27, 21, 4, 96, 46, 79]
abbrev dktX4_copies_0 : List UInt8 := dkwX4_copies_0 ++ dktX4_copies_1
theorem dksX4_copies_0 : cX4_copies.data.toList.drop 0 = dktX4_copies_0 := by decide +kernel
theorem dksX4_copies_1 : cX4_copies.data.toList.drop 23 = dktX4_copies_1 := dk_seg dksX4_copies_0 23 rfl rfl
theorem dX4_copies_0 : decode cX4_copies 0 = .ok (.iconst 0, 1) := dk_3 (dk_at dksX4_copies_0 0 rfl rfl)
theorem dX4_copies_1 : decode cX4_copies 1 = .ok (.istore 4, 2) := dk_54 4 (dk_at dksX4_copies_0 1 rfl rfl)
theorem dX4_copies_3 : decode cX4_copies 3 = .ok (.iload 4, 2) := dk_21 4 (dk_at dksX4_copies_0 3 rfl rfl)
theorem dX4_copies_5 : decode cX4_copies 5 = .ok (.sipush 304, 3) := dk_17 1 48 (dk_at dksX4_copies_0 5 rfl rfl)
theorem dX4_copies_8 : decode cX4_copies 8 = .ok (.if_icmp .ge 21, 3) := dk_162 0 21 (dk_at dksX4_copies_0 8 rfl rfl)
theorem dX4_copies_11 : decode cX4_copies 11 = .ok (.aload_n 2, 1) := dk_44 (dk_at dksX4_copies_0 11 rfl rfl)
theorem dX4_copies_12 : decode cX4_copies 12 = .ok (.iload_n 3, 1) := dk_29 (dk_at dksX4_copies_0 12 rfl rfl)
theorem dX4_copies_13 : decode cX4_copies 13 = .ok (.iload 4, 2) := dk_21 4 (dk_at dksX4_copies_0 13 rfl rfl)
theorem dX4_copies_15 : decode cX4_copies 15 = .ok (.iadd, 1) := dk_96 (dk_at dksX4_copies_0 15 rfl rfl)
theorem dX4_copies_16 : decode cX4_copies 16 = .ok (.aload_n 0, 1) := dk_42 (dk_at dksX4_copies_0 16 rfl rfl)
theorem dX4_copies_17 : decode cX4_copies 17 = .ok (.iload_n 1, 1) := dk_27 (dk_at dksX4_copies_0 17 rfl rfl)
theorem dX4_copies_18 : decode cX4_copies 18 = .ok (.iload 4, 2) := dk_21 4 (dk_at dksX4_copies_0 18 rfl rfl)
theorem dX4_copies_20 : decode cX4_copies 20 = .ok (.iadd, 1) := dk_96 (dk_at dksX4_copies_0 20 rfl rfl)
theorem dX4_copies_21 : decode cX4_copies 21 = .ok (.iaload, 1) := dk_46 (dk_at dksX4_copies_0 21 rfl rfl)
theorem dX4_copies_22 : decode cX4_copies 22 = .ok (.iastore, 1) := dk_79 (dk_at dksX4_copies_0 22 rfl rfl)
theorem dX4_copies_23 : decode cX4_copies 23 = .ok (.iinc 4 1, 3) := dk_132 4 1 (dk_at dksX4_copies_1 0 rfl rfl)
theorem dX4_copies_26 : decode cX4_copies 26 = .ok (.goto (-23), 3) := dk_167 255 233 (dk_at dksX4_copies_1 3 rfl rfl)
theorem dX4_copies_29 : decode cX4_copies 29 = .ok (.return_, 1) := dk_177 (dk_at dksX4_copies_1 6 rfl rfl)
abbrev cX4_addTrain : ByteArray := prog_20_method_20_code
def yX4_addTrain : MethodName := ⟨RX4, "addTrain", "(III)I"⟩
def dkwX4_addTrain_6 : List UInt8 := [172]
abbrev dktX4_addTrain_6 : List UInt8 := dkwX4_addTrain_6 ++ []
def dkwX4_addTrain_5 : List UInt8 := [21, 4, 7, 96, 27, 79, 42, 180, 0, 7, 4, 92, 46, 4, 96, 79, 42, 180, 0, 7, 4, 46, 4, 100]
abbrev dktX4_addTrain_5 : List UInt8 := dkwX4_addTrain_5 ++ dktX4_addTrain_6
def dkwX4_addTrain_4 : List UInt8 := [180, 0, 7, 21, 4, 4, 96, 28, 79, 42, 180, 0, 7, 21, 4, 6, 96, 4, 79, 42, 180, 0, 7]
abbrev dktX4_addTrain_4 : List UInt8 := dkwX4_addTrain_4 ++ dktX4_addTrain_5
def dkwX4_addTrain_3 : List UInt8 := [16, 36, 42, 180, 0, 7, 4, 46, 104, 96, 54, 4, 42, 180, 0, 7, 21, 4, 3, 96, 29, 79, 42]
abbrev dktX4_addTrain_3 : List UInt8 := dkwX4_addTrain_3 ++ dktX4_addTrain_4
def dkwX4_addTrain_2 : List UInt8 := [6, 167, 0, 4, 3, 182, 0, 92, 153, 0, 5, 3, 172, 42, 42, 180, 0, 7, 182, 0, 95, 16, 16]
abbrev dktX4_addTrain_2 : List UInt8 := dkwX4_addTrain_2 ++ dktX4_addTrain_3
def dkwX4_addTrain_1 : List UInt8 := [29, 4, 8, 184, 0, 68, 154, 0, 7, 5, 167, 0, 19, 42, 180, 0, 7, 4, 46, 16, 6, 160, 0, 7]
abbrev dktX4_addTrain_1 : List UInt8 := dkwX4_addTrain_1 ++ dktX4_addTrain_2
def dkwX4_addTrain_0 : List UInt8 := [42, 42, 27, 182, 0, 99, 154, 0, 7, 4, 167, 0, 43, 28, 3, 17, 5, 159, 184, 0, 68, 153, 0, 12]
abbrev dktX4_addTrain_0 : List UInt8 := dkwX4_addTrain_0 ++ dktX4_addTrain_1
theorem dksX4_addTrain_0 : cX4_addTrain.data.toList.drop 0 = dktX4_addTrain_0 := by decide +kernel
theorem dksX4_addTrain_1 : cX4_addTrain.data.toList.drop 24 = dktX4_addTrain_1 := dk_seg dksX4_addTrain_0 24 rfl rfl
theorem dksX4_addTrain_2 : cX4_addTrain.data.toList.drop 48 = dktX4_addTrain_2 := dk_seg dksX4_addTrain_1 24 rfl rfl
theorem dksX4_addTrain_3 : cX4_addTrain.data.toList.drop 71 = dktX4_addTrain_3 := dk_seg dksX4_addTrain_2 23 rfl rfl
theorem dksX4_addTrain_4 : cX4_addTrain.data.toList.drop 94 = dktX4_addTrain_4 := dk_seg dksX4_addTrain_3 23 rfl rfl
theorem dksX4_addTrain_5 : cX4_addTrain.data.toList.drop 117 = dktX4_addTrain_5 := dk_seg dksX4_addTrain_4 23 rfl rfl
theorem dksX4_addTrain_6 : cX4_addTrain.data.toList.drop 141 = dktX4_addTrain_6 := dk_seg dksX4_addTrain_5 24 rfl rfl
theorem dX4_addTrain_0 : decode cX4_addTrain 0 = .ok (.aload_n 0, 1) := dk_42 (dk_at dksX4_addTrain_0 0 rfl rfl)
theorem dX4_addTrain_1 : decode cX4_addTrain 1 = .ok (.aload_n 0, 1) := dk_42 (dk_at dksX4_addTrain_0 1 rfl rfl)
theorem dX4_addTrain_2 : decode cX4_addTrain 2 = .ok (.iload_n 1, 1) := dk_27 (dk_at dksX4_addTrain_0 2 rfl rfl)
theorem dX4_addTrain_3 : decode cX4_addTrain 3 = .ok (.invokevirtual 99, 3) := dk_182 0 99 (dk_at dksX4_addTrain_0 3 rfl rfl)
theorem dX4_addTrain_6 : decode cX4_addTrain 6 = .ok (.ifCond .ne 7, 3) := dk_154 0 7 (dk_at dksX4_addTrain_0 6 rfl rfl)
theorem dX4_addTrain_9 : decode cX4_addTrain 9 = .ok (.iconst 1, 1) := dk_4 (dk_at dksX4_addTrain_0 9 rfl rfl)
theorem dX4_addTrain_10 : decode cX4_addTrain 10 = .ok (.goto 43, 3) := dk_167 0 43 (dk_at dksX4_addTrain_0 10 rfl rfl)
theorem dX4_addTrain_13 : decode cX4_addTrain 13 = .ok (.iload_n 2, 1) := dk_28 (dk_at dksX4_addTrain_0 13 rfl rfl)
theorem dX4_addTrain_14 : decode cX4_addTrain 14 = .ok (.iconst 0, 1) := dk_3 (dk_at dksX4_addTrain_0 14 rfl rfl)
theorem dX4_addTrain_15 : decode cX4_addTrain 15 = .ok (.sipush 1439, 3) := dk_17 5 159 (dk_at dksX4_addTrain_0 15 rfl rfl)
theorem dX4_addTrain_18 : decode cX4_addTrain 18 = .ok (.invokestatic 68, 3) := dk_184 0 68 (dk_at dksX4_addTrain_0 18 rfl rfl)
theorem dX4_addTrain_21 : decode cX4_addTrain 21 = .ok (.ifCond .eq 12, 3) := dk_153 0 12 (dk_at dksX4_addTrain_0 21 rfl rfl)
theorem dX4_addTrain_24 : decode cX4_addTrain 24 = .ok (.iload_n 3, 1) := dk_29 (dk_at dksX4_addTrain_1 0 rfl rfl)
theorem dX4_addTrain_25 : decode cX4_addTrain 25 = .ok (.iconst 1, 1) := dk_4 (dk_at dksX4_addTrain_1 1 rfl rfl)
theorem dX4_addTrain_26 : decode cX4_addTrain 26 = .ok (.iconst 5, 1) := dk_8 (dk_at dksX4_addTrain_1 2 rfl rfl)
theorem dX4_addTrain_27 : decode cX4_addTrain 27 = .ok (.invokestatic 68, 3) := dk_184 0 68 (dk_at dksX4_addTrain_1 3 rfl rfl)
theorem dX4_addTrain_30 : decode cX4_addTrain 30 = .ok (.ifCond .ne 7, 3) := dk_154 0 7 (dk_at dksX4_addTrain_1 6 rfl rfl)
theorem dX4_addTrain_33 : decode cX4_addTrain 33 = .ok (.iconst 2, 1) := dk_5 (dk_at dksX4_addTrain_1 9 rfl rfl)
theorem dX4_addTrain_34 : decode cX4_addTrain 34 = .ok (.goto 19, 3) := dk_167 0 19 (dk_at dksX4_addTrain_1 10 rfl rfl)
theorem dX4_addTrain_37 : decode cX4_addTrain 37 = .ok (.aload_n 0, 1) := dk_42 (dk_at dksX4_addTrain_1 13 rfl rfl)
theorem dX4_addTrain_38 : decode cX4_addTrain 38 = .ok (.getfield 7, 3) := dk_180 0 7 (dk_at dksX4_addTrain_1 14 rfl rfl)
theorem dX4_addTrain_41 : decode cX4_addTrain 41 = .ok (.iconst 1, 1) := dk_4 (dk_at dksX4_addTrain_1 17 rfl rfl)
theorem dX4_addTrain_42 : decode cX4_addTrain 42 = .ok (.iaload, 1) := dk_46 (dk_at dksX4_addTrain_1 18 rfl rfl)
theorem dX4_addTrain_43 : decode cX4_addTrain 43 = .ok (.bipush 6, 2) := dk_16 6 (dk_at dksX4_addTrain_1 19 rfl rfl)
theorem dX4_addTrain_45 : decode cX4_addTrain 45 = .ok (.if_icmp .ne 7, 3) := dk_160 0 7 (dk_at dksX4_addTrain_1 21 rfl rfl)
theorem dX4_addTrain_48 : decode cX4_addTrain 48 = .ok (.iconst 3, 1) := dk_6 (dk_at dksX4_addTrain_2 0 rfl rfl)
theorem dX4_addTrain_49 : decode cX4_addTrain 49 = .ok (.goto 4, 3) := dk_167 0 4 (dk_at dksX4_addTrain_2 1 rfl rfl)
theorem dX4_addTrain_52 : decode cX4_addTrain 52 = .ok (.iconst 0, 1) := dk_3 (dk_at dksX4_addTrain_2 4 rfl rfl)
theorem dX4_addTrain_53 : decode cX4_addTrain 53 = .ok (.invokevirtual 92, 3) := dk_182 0 92 (dk_at dksX4_addTrain_2 5 rfl rfl)
theorem dX4_addTrain_56 : decode cX4_addTrain 56 = .ok (.ifCond .eq 5, 3) := dk_153 0 5 (dk_at dksX4_addTrain_2 8 rfl rfl)
theorem dX4_addTrain_59 : decode cX4_addTrain 59 = .ok (.iconst 0, 1) := dk_3 (dk_at dksX4_addTrain_2 11 rfl rfl)
theorem dX4_addTrain_60 : decode cX4_addTrain 60 = .ok (.ireturn, 1) := dk_172 (dk_at dksX4_addTrain_2 12 rfl rfl)
theorem dX4_addTrain_61 : decode cX4_addTrain 61 = .ok (.aload_n 0, 1) := dk_42 (dk_at dksX4_addTrain_2 13 rfl rfl)
theorem dX4_addTrain_62 : decode cX4_addTrain 62 = .ok (.aload_n 0, 1) := dk_42 (dk_at dksX4_addTrain_2 14 rfl rfl)
theorem dX4_addTrain_63 : decode cX4_addTrain 63 = .ok (.getfield 7, 3) := dk_180 0 7 (dk_at dksX4_addTrain_2 15 rfl rfl)
theorem dX4_addTrain_66 : decode cX4_addTrain 66 = .ok (.invokevirtual 95, 3) := dk_182 0 95 (dk_at dksX4_addTrain_2 18 rfl rfl)
theorem dX4_addTrain_69 : decode cX4_addTrain 69 = .ok (.bipush 16, 2) := dk_16 16 (dk_at dksX4_addTrain_2 21 rfl rfl)
theorem dX4_addTrain_71 : decode cX4_addTrain 71 = .ok (.bipush 36, 2) := dk_16 36 (dk_at dksX4_addTrain_3 0 rfl rfl)
theorem dX4_addTrain_73 : decode cX4_addTrain 73 = .ok (.aload_n 0, 1) := dk_42 (dk_at dksX4_addTrain_3 2 rfl rfl)
theorem dX4_addTrain_74 : decode cX4_addTrain 74 = .ok (.getfield 7, 3) := dk_180 0 7 (dk_at dksX4_addTrain_3 3 rfl rfl)
theorem dX4_addTrain_77 : decode cX4_addTrain 77 = .ok (.iconst 1, 1) := dk_4 (dk_at dksX4_addTrain_3 6 rfl rfl)
theorem dX4_addTrain_78 : decode cX4_addTrain 78 = .ok (.iaload, 1) := dk_46 (dk_at dksX4_addTrain_3 7 rfl rfl)
theorem dX4_addTrain_79 : decode cX4_addTrain 79 = .ok (.imul, 1) := dk_104 (dk_at dksX4_addTrain_3 8 rfl rfl)
theorem dX4_addTrain_80 : decode cX4_addTrain 80 = .ok (.iadd, 1) := dk_96 (dk_at dksX4_addTrain_3 9 rfl rfl)
theorem dX4_addTrain_81 : decode cX4_addTrain 81 = .ok (.istore 4, 2) := dk_54 4 (dk_at dksX4_addTrain_3 10 rfl rfl)
theorem dX4_addTrain_83 : decode cX4_addTrain 83 = .ok (.aload_n 0, 1) := dk_42 (dk_at dksX4_addTrain_3 12 rfl rfl)
theorem dX4_addTrain_84 : decode cX4_addTrain 84 = .ok (.getfield 7, 3) := dk_180 0 7 (dk_at dksX4_addTrain_3 13 rfl rfl)
theorem dX4_addTrain_87 : decode cX4_addTrain 87 = .ok (.iload 4, 2) := dk_21 4 (dk_at dksX4_addTrain_3 16 rfl rfl)
theorem dX4_addTrain_89 : decode cX4_addTrain 89 = .ok (.iconst 0, 1) := dk_3 (dk_at dksX4_addTrain_3 18 rfl rfl)
theorem dX4_addTrain_90 : decode cX4_addTrain 90 = .ok (.iadd, 1) := dk_96 (dk_at dksX4_addTrain_3 19 rfl rfl)
theorem dX4_addTrain_91 : decode cX4_addTrain 91 = .ok (.iload_n 3, 1) := dk_29 (dk_at dksX4_addTrain_3 20 rfl rfl)
theorem dX4_addTrain_92 : decode cX4_addTrain 92 = .ok (.iastore, 1) := dk_79 (dk_at dksX4_addTrain_3 21 rfl rfl)
theorem dX4_addTrain_93 : decode cX4_addTrain 93 = .ok (.aload_n 0, 1) := dk_42 (dk_at dksX4_addTrain_3 22 rfl rfl)
theorem dX4_addTrain_94 : decode cX4_addTrain 94 = .ok (.getfield 7, 3) := dk_180 0 7 (dk_at dksX4_addTrain_4 0 rfl rfl)
theorem dX4_addTrain_97 : decode cX4_addTrain 97 = .ok (.iload 4, 2) := dk_21 4 (dk_at dksX4_addTrain_4 3 rfl rfl)
theorem dX4_addTrain_99 : decode cX4_addTrain 99 = .ok (.iconst 1, 1) := dk_4 (dk_at dksX4_addTrain_4 5 rfl rfl)
theorem dX4_addTrain_100 : decode cX4_addTrain 100 = .ok (.iadd, 1) := dk_96 (dk_at dksX4_addTrain_4 6 rfl rfl)
theorem dX4_addTrain_101 : decode cX4_addTrain 101 = .ok (.iload_n 2, 1) := dk_28 (dk_at dksX4_addTrain_4 7 rfl rfl)
theorem dX4_addTrain_102 : decode cX4_addTrain 102 = .ok (.iastore, 1) := dk_79 (dk_at dksX4_addTrain_4 8 rfl rfl)
theorem dX4_addTrain_103 : decode cX4_addTrain 103 = .ok (.aload_n 0, 1) := dk_42 (dk_at dksX4_addTrain_4 9 rfl rfl)
theorem dX4_addTrain_104 : decode cX4_addTrain 104 = .ok (.getfield 7, 3) := dk_180 0 7 (dk_at dksX4_addTrain_4 10 rfl rfl)
theorem dX4_addTrain_107 : decode cX4_addTrain 107 = .ok (.iload 4, 2) := dk_21 4 (dk_at dksX4_addTrain_4 13 rfl rfl)
theorem dX4_addTrain_109 : decode cX4_addTrain 109 = .ok (.iconst 3, 1) := dk_6 (dk_at dksX4_addTrain_4 15 rfl rfl)
theorem dX4_addTrain_110 : decode cX4_addTrain 110 = .ok (.iadd, 1) := dk_96 (dk_at dksX4_addTrain_4 16 rfl rfl)
theorem dX4_addTrain_111 : decode cX4_addTrain 111 = .ok (.iconst 1, 1) := dk_4 (dk_at dksX4_addTrain_4 17 rfl rfl)
theorem dX4_addTrain_112 : decode cX4_addTrain 112 = .ok (.iastore, 1) := dk_79 (dk_at dksX4_addTrain_4 18 rfl rfl)
theorem dX4_addTrain_113 : decode cX4_addTrain 113 = .ok (.aload_n 0, 1) := dk_42 (dk_at dksX4_addTrain_4 19 rfl rfl)
theorem dX4_addTrain_114 : decode cX4_addTrain 114 = .ok (.getfield 7, 3) := dk_180 0 7 (dk_at dksX4_addTrain_4 20 rfl rfl)
theorem dX4_addTrain_117 : decode cX4_addTrain 117 = .ok (.iload 4, 2) := dk_21 4 (dk_at dksX4_addTrain_5 0 rfl rfl)
theorem dX4_addTrain_119 : decode cX4_addTrain 119 = .ok (.iconst 4, 1) := dk_7 (dk_at dksX4_addTrain_5 2 rfl rfl)
theorem dX4_addTrain_120 : decode cX4_addTrain 120 = .ok (.iadd, 1) := dk_96 (dk_at dksX4_addTrain_5 3 rfl rfl)
theorem dX4_addTrain_121 : decode cX4_addTrain 121 = .ok (.iload_n 1, 1) := dk_27 (dk_at dksX4_addTrain_5 4 rfl rfl)
theorem dX4_addTrain_122 : decode cX4_addTrain 122 = .ok (.iastore, 1) := dk_79 (dk_at dksX4_addTrain_5 5 rfl rfl)
theorem dX4_addTrain_123 : decode cX4_addTrain 123 = .ok (.aload_n 0, 1) := dk_42 (dk_at dksX4_addTrain_5 6 rfl rfl)
theorem dX4_addTrain_124 : decode cX4_addTrain 124 = .ok (.getfield 7, 3) := dk_180 0 7 (dk_at dksX4_addTrain_5 7 rfl rfl)
theorem dX4_addTrain_127 : decode cX4_addTrain 127 = .ok (.iconst 1, 1) := dk_4 (dk_at dksX4_addTrain_5 10 rfl rfl)
theorem dX4_addTrain_128 : decode cX4_addTrain 128 = .ok (.dup2, 1) := dk_92 (dk_at dksX4_addTrain_5 11 rfl rfl)
theorem dX4_addTrain_129 : decode cX4_addTrain 129 = .ok (.iaload, 1) := dk_46 (dk_at dksX4_addTrain_5 12 rfl rfl)
theorem dX4_addTrain_130 : decode cX4_addTrain 130 = .ok (.iconst 1, 1) := dk_4 (dk_at dksX4_addTrain_5 13 rfl rfl)
theorem dX4_addTrain_131 : decode cX4_addTrain 131 = .ok (.iadd, 1) := dk_96 (dk_at dksX4_addTrain_5 14 rfl rfl)
theorem dX4_addTrain_132 : decode cX4_addTrain 132 = .ok (.iastore, 1) := dk_79 (dk_at dksX4_addTrain_5 15 rfl rfl)
theorem dX4_addTrain_133 : decode cX4_addTrain 133 = .ok (.aload_n 0, 1) := dk_42 (dk_at dksX4_addTrain_5 16 rfl rfl)
theorem dX4_addTrain_134 : decode cX4_addTrain 134 = .ok (.getfield 7, 3) := dk_180 0 7 (dk_at dksX4_addTrain_5 17 rfl rfl)
theorem dX4_addTrain_137 : decode cX4_addTrain 137 = .ok (.iconst 1, 1) := dk_4 (dk_at dksX4_addTrain_5 20 rfl rfl)
theorem dX4_addTrain_138 : decode cX4_addTrain 138 = .ok (.iaload, 1) := dk_46 (dk_at dksX4_addTrain_5 21 rfl rfl)
theorem dX4_addTrain_139 : decode cX4_addTrain 139 = .ok (.iconst 1, 1) := dk_4 (dk_at dksX4_addTrain_5 22 rfl rfl)
theorem dX4_addTrain_140 : decode cX4_addTrain 140 = .ok (.isub, 1) := dk_100 (dk_at dksX4_addTrain_5 23 rfl rfl)
theorem dX4_addTrain_141 : decode cX4_addTrain 141 = .ok (.ireturn, 1) := dk_172 (dk_at dksX4_addTrain_6 0 rfl rfl)
abbrev cX4_isStation : ByteArray := prog_20_method_7_code
def yX4_isStation : MethodName := ⟨RX4, "isStation", "(I)Z"⟩
def dkwX4_isStation_0 : List UInt8 := [27, 3, 42, 180, 0, 7, 3, 46, 4, 100, 184, 0, 68, 172]
abbrev dktX4_isStation_0 : List UInt8 := dkwX4_isStation_0 ++ []
theorem dksX4_isStation_0 : cX4_isStation.data.toList.drop 0 = dktX4_isStation_0 := by decide +kernel
theorem dX4_isStation_0 : decode cX4_isStation 0 = .ok (.iload_n 1, 1) := dk_27 (dk_at dksX4_isStation_0 0 rfl rfl)
theorem dX4_isStation_1 : decode cX4_isStation 1 = .ok (.iconst 0, 1) := dk_3 (dk_at dksX4_isStation_0 1 rfl rfl)
theorem dX4_isStation_2 : decode cX4_isStation 2 = .ok (.aload_n 0, 1) := dk_42 (dk_at dksX4_isStation_0 2 rfl rfl)
theorem dX4_isStation_3 : decode cX4_isStation 3 = .ok (.getfield 7, 3) := dk_180 0 7 (dk_at dksX4_isStation_0 3 rfl rfl)
theorem dX4_isStation_6 : decode cX4_isStation 6 = .ok (.iconst 0, 1) := dk_3 (dk_at dksX4_isStation_0 6 rfl rfl)
theorem dX4_isStation_7 : decode cX4_isStation 7 = .ok (.iaload, 1) := dk_46 (dk_at dksX4_isStation_0 7 rfl rfl)
theorem dX4_isStation_8 : decode cX4_isStation 8 = .ok (.iconst 1, 1) := dk_4 (dk_at dksX4_isStation_0 8 rfl rfl)
theorem dX4_isStation_9 : decode cX4_isStation 9 = .ok (.isub, 1) := dk_100 (dk_at dksX4_isStation_0 9 rfl rfl)
theorem dX4_isStation_10 : decode cX4_isStation 10 = .ok (.invokestatic 68, 3) := dk_184 0 68 (dk_at dksX4_isStation_0 10 rfl rfl)
theorem dX4_isStation_13 : decode cX4_isStation 13 = .ok (.ireturn, 1) := dk_172 (dk_at dksX4_isStation_0 13 rfl rfl)
abbrev cX4_extendTrain : ByteArray := prog_20_method_21_code
def yX4_extendTrain : MethodName := ⟨RX4, "extendTrain", "(IIII)I"⟩
def dkwX4_extendTrain_7 : List UInt8 := [46, 4, 96, 79, 21, 5, 172]
abbrev dktX4_extendTrain_7 : List UInt8 := dkwX4_extendTrain_7 ++ []
def dkwX4_extendTrain_6 : List UInt8 := [180, 0, 7, 21, 6, 5, 96, 21, 4, 79, 42, 180, 0, 7, 16, 16, 16, 36, 27, 104, 96, 6, 96, 92]
abbrev dktX4_extendTrain_6 : List UInt8 := dkwX4_extendTrain_6 ++ dktX4_extendTrain_7
def dkwX4_extendTrain_5 : List UInt8 := [96, 54, 6, 42, 180, 0, 7, 21, 6, 28, 79, 42, 180, 0, 7, 21, 6, 4, 96, 29, 79, 42]
abbrev dktX4_extendTrain_5 : List UInt8 := dkwX4_extendTrain_5 ++ dktX4_extendTrain_6
def dkwX4_extendTrain_4 : List UInt8 := [182, 0, 95, 42, 27, 6, 182, 0, 76, 54, 5, 16, 16, 16, 36, 27, 104, 96, 7, 96, 6, 21, 5, 104]
abbrev dktX4_extendTrain_4 : List UInt8 := dkwX4_extendTrain_4 ++ dktX4_extendTrain_5
def dkwX4_extendTrain_3 : List UInt8 := [28, 160, 0, 7, 6, 167, 0, 4, 3, 182, 0, 92, 153, 0, 5, 3, 172, 42, 42, 180, 0, 7]
abbrev dktX4_extendTrain_3 : List UInt8 := dkwX4_extendTrain_3 ++ dktX4_extendTrain_4
def dkwX4_extendTrain_2 : List UInt8 := [42, 27, 6, 182, 0, 76, 16, 8, 159, 0, 20, 42, 27, 42, 27, 6, 182, 0, 76, 4, 100, 182, 0, 102]
abbrev dktX4_extendTrain_2 : List UInt8 := dkwX4_extendTrain_2 ++ dktX4_extendTrain_3
def dkwX4_extendTrain_1 : List UInt8 := [17, 1, 44, 184, 0, 68, 153, 0, 14, 21, 4, 3, 16, 60, 184, 0, 68, 154, 0, 7, 5, 167, 0, 36]
abbrev dktX4_extendTrain_1 : List UInt8 := dkwX4_extendTrain_1 ++ dktX4_extendTrain_2
def dkwX4_extendTrain_0 : List UInt8 := [42, 42, 27, 182, 0, 72, 153, 0, 11, 42, 28, 182, 0, 99, 154, 0, 7, 4, 167, 0, 62, 29, 4]
abbrev dktX4_extendTrain_0 : List UInt8 := dkwX4_extendTrain_0 ++ dktX4_extendTrain_1
theorem dksX4_extendTrain_0 : cX4_extendTrain.data.toList.drop 0 = dktX4_extendTrain_0 := by decide +kernel
theorem dksX4_extendTrain_1 : cX4_extendTrain.data.toList.drop 23 = dktX4_extendTrain_1 := dk_seg dksX4_extendTrain_0 23 rfl rfl
theorem dksX4_extendTrain_2 : cX4_extendTrain.data.toList.drop 47 = dktX4_extendTrain_2 := dk_seg dksX4_extendTrain_1 24 rfl rfl
theorem dksX4_extendTrain_3 : cX4_extendTrain.data.toList.drop 71 = dktX4_extendTrain_3 := dk_seg dksX4_extendTrain_2 24 rfl rfl
theorem dksX4_extendTrain_4 : cX4_extendTrain.data.toList.drop 93 = dktX4_extendTrain_4 := dk_seg dksX4_extendTrain_3 22 rfl rfl
theorem dksX4_extendTrain_5 : cX4_extendTrain.data.toList.drop 117 = dktX4_extendTrain_5 := dk_seg dksX4_extendTrain_4 24 rfl rfl
theorem dksX4_extendTrain_6 : cX4_extendTrain.data.toList.drop 139 = dktX4_extendTrain_6 := dk_seg dksX4_extendTrain_5 22 rfl rfl
theorem dksX4_extendTrain_7 : cX4_extendTrain.data.toList.drop 163 = dktX4_extendTrain_7 := dk_seg dksX4_extendTrain_6 24 rfl rfl
theorem dX4_extendTrain_0 : decode cX4_extendTrain 0 = .ok (.aload_n 0, 1) := dk_42 (dk_at dksX4_extendTrain_0 0 rfl rfl)
theorem dX4_extendTrain_1 : decode cX4_extendTrain 1 = .ok (.aload_n 0, 1) := dk_42 (dk_at dksX4_extendTrain_0 1 rfl rfl)
theorem dX4_extendTrain_2 : decode cX4_extendTrain 2 = .ok (.iload_n 1, 1) := dk_27 (dk_at dksX4_extendTrain_0 2 rfl rfl)
theorem dX4_extendTrain_3 : decode cX4_extendTrain 3 = .ok (.invokevirtual 72, 3) := dk_182 0 72 (dk_at dksX4_extendTrain_0 3 rfl rfl)
theorem dX4_extendTrain_6 : decode cX4_extendTrain 6 = .ok (.ifCond .eq 11, 3) := dk_153 0 11 (dk_at dksX4_extendTrain_0 6 rfl rfl)
theorem dX4_extendTrain_9 : decode cX4_extendTrain 9 = .ok (.aload_n 0, 1) := dk_42 (dk_at dksX4_extendTrain_0 9 rfl rfl)
theorem dX4_extendTrain_10 : decode cX4_extendTrain 10 = .ok (.iload_n 2, 1) := dk_28 (dk_at dksX4_extendTrain_0 10 rfl rfl)
theorem dX4_extendTrain_11 : decode cX4_extendTrain 11 = .ok (.invokevirtual 99, 3) := dk_182 0 99 (dk_at dksX4_extendTrain_0 11 rfl rfl)
theorem dX4_extendTrain_14 : decode cX4_extendTrain 14 = .ok (.ifCond .ne 7, 3) := dk_154 0 7 (dk_at dksX4_extendTrain_0 14 rfl rfl)
theorem dX4_extendTrain_17 : decode cX4_extendTrain 17 = .ok (.iconst 1, 1) := dk_4 (dk_at dksX4_extendTrain_0 17 rfl rfl)
theorem dX4_extendTrain_18 : decode cX4_extendTrain 18 = .ok (.goto 62, 3) := dk_167 0 62 (dk_at dksX4_extendTrain_0 18 rfl rfl)
theorem dX4_extendTrain_21 : decode cX4_extendTrain 21 = .ok (.iload_n 3, 1) := dk_29 (dk_at dksX4_extendTrain_0 21 rfl rfl)
theorem dX4_extendTrain_22 : decode cX4_extendTrain 22 = .ok (.iconst 1, 1) := dk_4 (dk_at dksX4_extendTrain_0 22 rfl rfl)
theorem dX4_extendTrain_23 : decode cX4_extendTrain 23 = .ok (.sipush 300, 3) := dk_17 1 44 (dk_at dksX4_extendTrain_1 0 rfl rfl)
theorem dX4_extendTrain_26 : decode cX4_extendTrain 26 = .ok (.invokestatic 68, 3) := dk_184 0 68 (dk_at dksX4_extendTrain_1 3 rfl rfl)
theorem dX4_extendTrain_29 : decode cX4_extendTrain 29 = .ok (.ifCond .eq 14, 3) := dk_153 0 14 (dk_at dksX4_extendTrain_1 6 rfl rfl)
theorem dX4_extendTrain_32 : decode cX4_extendTrain 32 = .ok (.iload 4, 2) := dk_21 4 (dk_at dksX4_extendTrain_1 9 rfl rfl)
theorem dX4_extendTrain_34 : decode cX4_extendTrain 34 = .ok (.iconst 0, 1) := dk_3 (dk_at dksX4_extendTrain_1 11 rfl rfl)
theorem dX4_extendTrain_35 : decode cX4_extendTrain 35 = .ok (.bipush 60, 2) := dk_16 60 (dk_at dksX4_extendTrain_1 12 rfl rfl)
theorem dX4_extendTrain_37 : decode cX4_extendTrain 37 = .ok (.invokestatic 68, 3) := dk_184 0 68 (dk_at dksX4_extendTrain_1 14 rfl rfl)
theorem dX4_extendTrain_40 : decode cX4_extendTrain 40 = .ok (.ifCond .ne 7, 3) := dk_154 0 7 (dk_at dksX4_extendTrain_1 17 rfl rfl)
theorem dX4_extendTrain_43 : decode cX4_extendTrain 43 = .ok (.iconst 2, 1) := dk_5 (dk_at dksX4_extendTrain_1 20 rfl rfl)
theorem dX4_extendTrain_44 : decode cX4_extendTrain 44 = .ok (.goto 36, 3) := dk_167 0 36 (dk_at dksX4_extendTrain_1 21 rfl rfl)
theorem dX4_extendTrain_47 : decode cX4_extendTrain 47 = .ok (.aload_n 0, 1) := dk_42 (dk_at dksX4_extendTrain_2 0 rfl rfl)
theorem dX4_extendTrain_48 : decode cX4_extendTrain 48 = .ok (.iload_n 1, 1) := dk_27 (dk_at dksX4_extendTrain_2 1 rfl rfl)
theorem dX4_extendTrain_49 : decode cX4_extendTrain 49 = .ok (.iconst 3, 1) := dk_6 (dk_at dksX4_extendTrain_2 2 rfl rfl)
theorem dX4_extendTrain_50 : decode cX4_extendTrain 50 = .ok (.invokevirtual 76, 3) := dk_182 0 76 (dk_at dksX4_extendTrain_2 3 rfl rfl)
theorem dX4_extendTrain_53 : decode cX4_extendTrain 53 = .ok (.bipush 8, 2) := dk_16 8 (dk_at dksX4_extendTrain_2 6 rfl rfl)
theorem dX4_extendTrain_55 : decode cX4_extendTrain 55 = .ok (.if_icmp .eq 20, 3) := dk_159 0 20 (dk_at dksX4_extendTrain_2 8 rfl rfl)
theorem dX4_extendTrain_58 : decode cX4_extendTrain 58 = .ok (.aload_n 0, 1) := dk_42 (dk_at dksX4_extendTrain_2 11 rfl rfl)
theorem dX4_extendTrain_59 : decode cX4_extendTrain 59 = .ok (.iload_n 1, 1) := dk_27 (dk_at dksX4_extendTrain_2 12 rfl rfl)
theorem dX4_extendTrain_60 : decode cX4_extendTrain 60 = .ok (.aload_n 0, 1) := dk_42 (dk_at dksX4_extendTrain_2 13 rfl rfl)
theorem dX4_extendTrain_61 : decode cX4_extendTrain 61 = .ok (.iload_n 1, 1) := dk_27 (dk_at dksX4_extendTrain_2 14 rfl rfl)
theorem dX4_extendTrain_62 : decode cX4_extendTrain 62 = .ok (.iconst 3, 1) := dk_6 (dk_at dksX4_extendTrain_2 15 rfl rfl)
theorem dX4_extendTrain_63 : decode cX4_extendTrain 63 = .ok (.invokevirtual 76, 3) := dk_182 0 76 (dk_at dksX4_extendTrain_2 16 rfl rfl)
theorem dX4_extendTrain_66 : decode cX4_extendTrain 66 = .ok (.iconst 1, 1) := dk_4 (dk_at dksX4_extendTrain_2 19 rfl rfl)
theorem dX4_extendTrain_67 : decode cX4_extendTrain 67 = .ok (.isub, 1) := dk_100 (dk_at dksX4_extendTrain_2 20 rfl rfl)
theorem dX4_extendTrain_68 : decode cX4_extendTrain 68 = .ok (.invokevirtual 102, 3) := dk_182 0 102 (dk_at dksX4_extendTrain_2 21 rfl rfl)
theorem dX4_extendTrain_71 : decode cX4_extendTrain 71 = .ok (.iload_n 2, 1) := dk_28 (dk_at dksX4_extendTrain_3 0 rfl rfl)
theorem dX4_extendTrain_72 : decode cX4_extendTrain 72 = .ok (.if_icmp .ne 7, 3) := dk_160 0 7 (dk_at dksX4_extendTrain_3 1 rfl rfl)
theorem dX4_extendTrain_75 : decode cX4_extendTrain 75 = .ok (.iconst 3, 1) := dk_6 (dk_at dksX4_extendTrain_3 4 rfl rfl)
theorem dX4_extendTrain_76 : decode cX4_extendTrain 76 = .ok (.goto 4, 3) := dk_167 0 4 (dk_at dksX4_extendTrain_3 5 rfl rfl)
theorem dX4_extendTrain_79 : decode cX4_extendTrain 79 = .ok (.iconst 0, 1) := dk_3 (dk_at dksX4_extendTrain_3 8 rfl rfl)
theorem dX4_extendTrain_80 : decode cX4_extendTrain 80 = .ok (.invokevirtual 92, 3) := dk_182 0 92 (dk_at dksX4_extendTrain_3 9 rfl rfl)
theorem dX4_extendTrain_83 : decode cX4_extendTrain 83 = .ok (.ifCond .eq 5, 3) := dk_153 0 5 (dk_at dksX4_extendTrain_3 12 rfl rfl)
theorem dX4_extendTrain_86 : decode cX4_extendTrain 86 = .ok (.iconst 0, 1) := dk_3 (dk_at dksX4_extendTrain_3 15 rfl rfl)
theorem dX4_extendTrain_87 : decode cX4_extendTrain 87 = .ok (.ireturn, 1) := dk_172 (dk_at dksX4_extendTrain_3 16 rfl rfl)
theorem dX4_extendTrain_88 : decode cX4_extendTrain 88 = .ok (.aload_n 0, 1) := dk_42 (dk_at dksX4_extendTrain_3 17 rfl rfl)
theorem dX4_extendTrain_89 : decode cX4_extendTrain 89 = .ok (.aload_n 0, 1) := dk_42 (dk_at dksX4_extendTrain_3 18 rfl rfl)
theorem dX4_extendTrain_90 : decode cX4_extendTrain 90 = .ok (.getfield 7, 3) := dk_180 0 7 (dk_at dksX4_extendTrain_3 19 rfl rfl)
theorem dX4_extendTrain_93 : decode cX4_extendTrain 93 = .ok (.invokevirtual 95, 3) := dk_182 0 95 (dk_at dksX4_extendTrain_4 0 rfl rfl)
theorem dX4_extendTrain_96 : decode cX4_extendTrain 96 = .ok (.aload_n 0, 1) := dk_42 (dk_at dksX4_extendTrain_4 3 rfl rfl)
theorem dX4_extendTrain_97 : decode cX4_extendTrain 97 = .ok (.iload_n 1, 1) := dk_27 (dk_at dksX4_extendTrain_4 4 rfl rfl)
theorem dX4_extendTrain_98 : decode cX4_extendTrain 98 = .ok (.iconst 3, 1) := dk_6 (dk_at dksX4_extendTrain_4 5 rfl rfl)
theorem dX4_extendTrain_99 : decode cX4_extendTrain 99 = .ok (.invokevirtual 76, 3) := dk_182 0 76 (dk_at dksX4_extendTrain_4 6 rfl rfl)
theorem dX4_extendTrain_102 : decode cX4_extendTrain 102 = .ok (.istore 5, 2) := dk_54 5 (dk_at dksX4_extendTrain_4 9 rfl rfl)
theorem dX4_extendTrain_104 : decode cX4_extendTrain 104 = .ok (.bipush 16, 2) := dk_16 16 (dk_at dksX4_extendTrain_4 11 rfl rfl)
theorem dX4_extendTrain_106 : decode cX4_extendTrain 106 = .ok (.bipush 36, 2) := dk_16 36 (dk_at dksX4_extendTrain_4 13 rfl rfl)
theorem dX4_extendTrain_108 : decode cX4_extendTrain 108 = .ok (.iload_n 1, 1) := dk_27 (dk_at dksX4_extendTrain_4 15 rfl rfl)
theorem dX4_extendTrain_109 : decode cX4_extendTrain 109 = .ok (.imul, 1) := dk_104 (dk_at dksX4_extendTrain_4 16 rfl rfl)
theorem dX4_extendTrain_110 : decode cX4_extendTrain 110 = .ok (.iadd, 1) := dk_96 (dk_at dksX4_extendTrain_4 17 rfl rfl)
theorem dX4_extendTrain_111 : decode cX4_extendTrain 111 = .ok (.iconst 4, 1) := dk_7 (dk_at dksX4_extendTrain_4 18 rfl rfl)
theorem dX4_extendTrain_112 : decode cX4_extendTrain 112 = .ok (.iadd, 1) := dk_96 (dk_at dksX4_extendTrain_4 19 rfl rfl)
theorem dX4_extendTrain_113 : decode cX4_extendTrain 113 = .ok (.iconst 3, 1) := dk_6 (dk_at dksX4_extendTrain_4 20 rfl rfl)
theorem dX4_extendTrain_114 : decode cX4_extendTrain 114 = .ok (.iload 5, 2) := dk_21 5 (dk_at dksX4_extendTrain_4 21 rfl rfl)
theorem dX4_extendTrain_116 : decode cX4_extendTrain 116 = .ok (.imul, 1) := dk_104 (dk_at dksX4_extendTrain_4 23 rfl rfl)
theorem dX4_extendTrain_117 : decode cX4_extendTrain 117 = .ok (.iadd, 1) := dk_96 (dk_at dksX4_extendTrain_5 0 rfl rfl)
theorem dX4_extendTrain_118 : decode cX4_extendTrain 118 = .ok (.istore 6, 2) := dk_54 6 (dk_at dksX4_extendTrain_5 1 rfl rfl)
theorem dX4_extendTrain_120 : decode cX4_extendTrain 120 = .ok (.aload_n 0, 1) := dk_42 (dk_at dksX4_extendTrain_5 3 rfl rfl)
theorem dX4_extendTrain_121 : decode cX4_extendTrain 121 = .ok (.getfield 7, 3) := dk_180 0 7 (dk_at dksX4_extendTrain_5 4 rfl rfl)
theorem dX4_extendTrain_124 : decode cX4_extendTrain 124 = .ok (.iload 6, 2) := dk_21 6 (dk_at dksX4_extendTrain_5 7 rfl rfl)
theorem dX4_extendTrain_126 : decode cX4_extendTrain 126 = .ok (.iload_n 2, 1) := dk_28 (dk_at dksX4_extendTrain_5 9 rfl rfl)
theorem dX4_extendTrain_127 : decode cX4_extendTrain 127 = .ok (.iastore, 1) := dk_79 (dk_at dksX4_extendTrain_5 10 rfl rfl)
theorem dX4_extendTrain_128 : decode cX4_extendTrain 128 = .ok (.aload_n 0, 1) := dk_42 (dk_at dksX4_extendTrain_5 11 rfl rfl)
theorem dX4_extendTrain_129 : decode cX4_extendTrain 129 = .ok (.getfield 7, 3) := dk_180 0 7 (dk_at dksX4_extendTrain_5 12 rfl rfl)
theorem dX4_extendTrain_132 : decode cX4_extendTrain 132 = .ok (.iload 6, 2) := dk_21 6 (dk_at dksX4_extendTrain_5 15 rfl rfl)
theorem dX4_extendTrain_134 : decode cX4_extendTrain 134 = .ok (.iconst 1, 1) := dk_4 (dk_at dksX4_extendTrain_5 17 rfl rfl)
theorem dX4_extendTrain_135 : decode cX4_extendTrain 135 = .ok (.iadd, 1) := dk_96 (dk_at dksX4_extendTrain_5 18 rfl rfl)
theorem dX4_extendTrain_136 : decode cX4_extendTrain 136 = .ok (.iload_n 3, 1) := dk_29 (dk_at dksX4_extendTrain_5 19 rfl rfl)
theorem dX4_extendTrain_137 : decode cX4_extendTrain 137 = .ok (.iastore, 1) := dk_79 (dk_at dksX4_extendTrain_5 20 rfl rfl)
theorem dX4_extendTrain_138 : decode cX4_extendTrain 138 = .ok (.aload_n 0, 1) := dk_42 (dk_at dksX4_extendTrain_5 21 rfl rfl)
theorem dX4_extendTrain_139 : decode cX4_extendTrain 139 = .ok (.getfield 7, 3) := dk_180 0 7 (dk_at dksX4_extendTrain_6 0 rfl rfl)
theorem dX4_extendTrain_142 : decode cX4_extendTrain 142 = .ok (.iload 6, 2) := dk_21 6 (dk_at dksX4_extendTrain_6 3 rfl rfl)
theorem dX4_extendTrain_144 : decode cX4_extendTrain 144 = .ok (.iconst 2, 1) := dk_5 (dk_at dksX4_extendTrain_6 5 rfl rfl)
theorem dX4_extendTrain_145 : decode cX4_extendTrain 145 = .ok (.iadd, 1) := dk_96 (dk_at dksX4_extendTrain_6 6 rfl rfl)
theorem dX4_extendTrain_146 : decode cX4_extendTrain 146 = .ok (.iload 4, 2) := dk_21 4 (dk_at dksX4_extendTrain_6 7 rfl rfl)
theorem dX4_extendTrain_148 : decode cX4_extendTrain 148 = .ok (.iastore, 1) := dk_79 (dk_at dksX4_extendTrain_6 9 rfl rfl)
theorem dX4_extendTrain_149 : decode cX4_extendTrain 149 = .ok (.aload_n 0, 1) := dk_42 (dk_at dksX4_extendTrain_6 10 rfl rfl)
theorem dX4_extendTrain_150 : decode cX4_extendTrain 150 = .ok (.getfield 7, 3) := dk_180 0 7 (dk_at dksX4_extendTrain_6 11 rfl rfl)
theorem dX4_extendTrain_153 : decode cX4_extendTrain 153 = .ok (.bipush 16, 2) := dk_16 16 (dk_at dksX4_extendTrain_6 14 rfl rfl)
theorem dX4_extendTrain_155 : decode cX4_extendTrain 155 = .ok (.bipush 36, 2) := dk_16 36 (dk_at dksX4_extendTrain_6 16 rfl rfl)
theorem dX4_extendTrain_157 : decode cX4_extendTrain 157 = .ok (.iload_n 1, 1) := dk_27 (dk_at dksX4_extendTrain_6 18 rfl rfl)
theorem dX4_extendTrain_158 : decode cX4_extendTrain 158 = .ok (.imul, 1) := dk_104 (dk_at dksX4_extendTrain_6 19 rfl rfl)
theorem dX4_extendTrain_159 : decode cX4_extendTrain 159 = .ok (.iadd, 1) := dk_96 (dk_at dksX4_extendTrain_6 20 rfl rfl)
theorem dX4_extendTrain_160 : decode cX4_extendTrain 160 = .ok (.iconst 3, 1) := dk_6 (dk_at dksX4_extendTrain_6 21 rfl rfl)
theorem dX4_extendTrain_161 : decode cX4_extendTrain 161 = .ok (.iadd, 1) := dk_96 (dk_at dksX4_extendTrain_6 22 rfl rfl)
theorem dX4_extendTrain_162 : decode cX4_extendTrain 162 = .ok (.dup2, 1) := dk_92 (dk_at dksX4_extendTrain_6 23 rfl rfl)
theorem dX4_extendTrain_163 : decode cX4_extendTrain 163 = .ok (.iaload, 1) := dk_46 (dk_at dksX4_extendTrain_7 0 rfl rfl)
theorem dX4_extendTrain_164 : decode cX4_extendTrain 164 = .ok (.iconst 1, 1) := dk_4 (dk_at dksX4_extendTrain_7 1 rfl rfl)
theorem dX4_extendTrain_165 : decode cX4_extendTrain 165 = .ok (.iadd, 1) := dk_96 (dk_at dksX4_extendTrain_7 2 rfl rfl)
theorem dX4_extendTrain_166 : decode cX4_extendTrain 166 = .ok (.iastore, 1) := dk_79 (dk_at dksX4_extendTrain_7 3 rfl rfl)
theorem dX4_extendTrain_167 : decode cX4_extendTrain 167 = .ok (.iload 5, 2) := dk_21 5 (dk_at dksX4_extendTrain_7 4 rfl rfl)
theorem dX4_extendTrain_169 : decode cX4_extendTrain 169 = .ok (.ireturn, 1) := dk_172 (dk_at dksX4_extendTrain_7 6 rfl rfl)
abbrev cX4_isTrain : ByteArray := prog_20_method_8_code
def yX4_isTrain : MethodName := ⟨RX4, "isTrain", "(I)Z"⟩
def dkwX4_isTrain_0 : List UInt8 := [27, 3, 42, 180, 0, 7, 4, 46, 4, 100, 184, 0, 68, 172]
abbrev dktX4_isTrain_0 : List UInt8 := dkwX4_isTrain_0 ++ []
theorem dksX4_isTrain_0 : cX4_isTrain.data.toList.drop 0 = dktX4_isTrain_0 := by decide +kernel
theorem dX4_isTrain_0 : decode cX4_isTrain 0 = .ok (.iload_n 1, 1) := dk_27 (dk_at dksX4_isTrain_0 0 rfl rfl)
theorem dX4_isTrain_1 : decode cX4_isTrain 1 = .ok (.iconst 0, 1) := dk_3 (dk_at dksX4_isTrain_0 1 rfl rfl)
theorem dX4_isTrain_2 : decode cX4_isTrain 2 = .ok (.aload_n 0, 1) := dk_42 (dk_at dksX4_isTrain_0 2 rfl rfl)
theorem dX4_isTrain_3 : decode cX4_isTrain 3 = .ok (.getfield 7, 3) := dk_180 0 7 (dk_at dksX4_isTrain_0 3 rfl rfl)
theorem dX4_isTrain_6 : decode cX4_isTrain 6 = .ok (.iconst 1, 1) := dk_4 (dk_at dksX4_isTrain_0 6 rfl rfl)
theorem dX4_isTrain_7 : decode cX4_isTrain 7 = .ok (.iaload, 1) := dk_46 (dk_at dksX4_isTrain_0 7 rfl rfl)
theorem dX4_isTrain_8 : decode cX4_isTrain 8 = .ok (.iconst 1, 1) := dk_4 (dk_at dksX4_isTrain_0 8 rfl rfl)
theorem dX4_isTrain_9 : decode cX4_isTrain 9 = .ok (.isub, 1) := dk_100 (dk_at dksX4_isTrain_0 9 rfl rfl)
theorem dX4_isTrain_10 : decode cX4_isTrain 10 = .ok (.invokestatic 68, 3) := dk_184 0 68 (dk_at dksX4_isTrain_0 10 rfl rfl)
theorem dX4_isTrain_13 : decode cX4_isTrain 13 = .ok (.ireturn, 1) := dk_172 (dk_at dksX4_isTrain_0 13 rfl rfl)
abbrev cX4_of : ByteArray := prog_20_method_9_code
def yX4_of : MethodName := ⟨RX4, "of", "(II)I"⟩
def dkwX4_of_0 : List UInt8 := [42, 180, 0, 7, 16, 16, 16, 36, 27, 104, 96, 28, 96, 46, 172]
abbrev dktX4_of_0 : List UInt8 := dkwX4_of_0 ++ []
theorem dksX4_of_0 : cX4_of.data.toList.drop 0 = dktX4_of_0 := by decide +kernel
theorem dX4_of_0 : decode cX4_of 0 = .ok (.aload_n 0, 1) := dk_42 (dk_at dksX4_of_0 0 rfl rfl)
theorem dX4_of_1 : decode cX4_of 1 = .ok (.getfield 7, 3) := dk_180 0 7 (dk_at dksX4_of_0 1 rfl rfl)
theorem dX4_of_4 : decode cX4_of 4 = .ok (.bipush 16, 2) := dk_16 16 (dk_at dksX4_of_0 4 rfl rfl)
theorem dX4_of_6 : decode cX4_of 6 = .ok (.bipush 36, 2) := dk_16 36 (dk_at dksX4_of_0 6 rfl rfl)
theorem dX4_of_8 : decode cX4_of 8 = .ok (.iload_n 1, 1) := dk_27 (dk_at dksX4_of_0 8 rfl rfl)
theorem dX4_of_9 : decode cX4_of 9 = .ok (.imul, 1) := dk_104 (dk_at dksX4_of_0 9 rfl rfl)
theorem dX4_of_10 : decode cX4_of 10 = .ok (.iadd, 1) := dk_96 (dk_at dksX4_of_0 10 rfl rfl)
theorem dX4_of_11 : decode cX4_of 11 = .ok (.iload_n 2, 1) := dk_28 (dk_at dksX4_of_0 11 rfl rfl)
theorem dX4_of_12 : decode cX4_of 12 = .ok (.iadd, 1) := dk_96 (dk_at dksX4_of_0 12 rfl rfl)
theorem dX4_of_13 : decode cX4_of 13 = .ok (.iaload, 1) := dk_46 (dk_at dksX4_of_0 13 rfl rfl)
theorem dX4_of_14 : decode cX4_of 14 = .ok (.ireturn, 1) := dk_172 (dk_at dksX4_of_0 14 rfl rfl)
abbrev cX4_place : ByteArray := prog_20_method_12_code
def yX4_place : MethodName := ⟨RX4, "place", "(II)I"⟩
def dkwX4_place_0 : List UInt8 := [42, 27, 7, 6, 28, 104, 96, 182, 0, 76, 172]
abbrev dktX4_place_0 : List UInt8 := dkwX4_place_0 ++ []
theorem dksX4_place_0 : cX4_place.data.toList.drop 0 = dktX4_place_0 := by decide +kernel
theorem dX4_place_0 : decode cX4_place 0 = .ok (.aload_n 0, 1) := dk_42 (dk_at dksX4_place_0 0 rfl rfl)
theorem dX4_place_1 : decode cX4_place 1 = .ok (.iload_n 1, 1) := dk_27 (dk_at dksX4_place_0 1 rfl rfl)
theorem dX4_place_2 : decode cX4_place 2 = .ok (.iconst 4, 1) := dk_7 (dk_at dksX4_place_0 2 rfl rfl)
theorem dX4_place_3 : decode cX4_place 3 = .ok (.iconst 3, 1) := dk_6 (dk_at dksX4_place_0 3 rfl rfl)
theorem dX4_place_4 : decode cX4_place 4 = .ok (.iload_n 2, 1) := dk_28 (dk_at dksX4_place_0 4 rfl rfl)
theorem dX4_place_5 : decode cX4_place 5 = .ok (.imul, 1) := dk_104 (dk_at dksX4_place_0 5 rfl rfl)
theorem dX4_place_6 : decode cX4_place 6 = .ok (.iadd, 1) := dk_96 (dk_at dksX4_place_0 6 rfl rfl)
theorem dX4_place_7 : decode cX4_place 7 = .ok (.invokevirtual 76, 3) := dk_182 0 76 (dk_at dksX4_place_0 7 rfl rfl)
theorem dX4_place_10 : decode cX4_place 10 = .ok (.ireturn, 1) := dk_172 (dk_at dksX4_place_0 10 rfl rfl)
abbrev cX4_delayTrain : ByteArray := prog_20_method_22_code
def yX4_delayTrain : MethodName := ⟨RX4, "delayTrain", "(II)I"⟩
def dkwX4_delayTrain_2 : List UInt8 := [182, 0, 95, 42, 180, 0, 7, 16, 16, 16, 36, 27, 104, 96, 5, 96, 28, 79, 29, 172]
abbrev dktX4_delayTrain_2 : List UInt8 := dkwX4_delayTrain_2 ++ []
def dkwX4_delayTrain_1 : List UInt8 := [167, 0, 4, 5, 182, 0, 92, 153, 0, 5, 3, 172, 42, 27, 5, 182, 0, 76, 62, 42, 42, 180, 0, 7]
abbrev dktX4_delayTrain_1 : List UInt8 := dkwX4_delayTrain_1 ++ dktX4_delayTrain_2
def dkwX4_delayTrain_0 : List UInt8 := [42, 42, 27, 182, 0, 72, 154, 0, 7, 4, 167, 0, 18, 28, 3, 16, 120, 184, 0, 68, 153, 0, 7, 3]
abbrev dktX4_delayTrain_0 : List UInt8 := dkwX4_delayTrain_0 ++ dktX4_delayTrain_1
theorem dksX4_delayTrain_0 : cX4_delayTrain.data.toList.drop 0 = dktX4_delayTrain_0 := by decide +kernel
theorem dksX4_delayTrain_1 : cX4_delayTrain.data.toList.drop 24 = dktX4_delayTrain_1 := dk_seg dksX4_delayTrain_0 24 rfl rfl
theorem dksX4_delayTrain_2 : cX4_delayTrain.data.toList.drop 48 = dktX4_delayTrain_2 := dk_seg dksX4_delayTrain_1 24 rfl rfl
theorem dX4_delayTrain_0 : decode cX4_delayTrain 0 = .ok (.aload_n 0, 1) := dk_42 (dk_at dksX4_delayTrain_0 0 rfl rfl)
theorem dX4_delayTrain_1 : decode cX4_delayTrain 1 = .ok (.aload_n 0, 1) := dk_42 (dk_at dksX4_delayTrain_0 1 rfl rfl)
theorem dX4_delayTrain_2 : decode cX4_delayTrain 2 = .ok (.iload_n 1, 1) := dk_27 (dk_at dksX4_delayTrain_0 2 rfl rfl)
theorem dX4_delayTrain_3 : decode cX4_delayTrain 3 = .ok (.invokevirtual 72, 3) := dk_182 0 72 (dk_at dksX4_delayTrain_0 3 rfl rfl)
theorem dX4_delayTrain_6 : decode cX4_delayTrain 6 = .ok (.ifCond .ne 7, 3) := dk_154 0 7 (dk_at dksX4_delayTrain_0 6 rfl rfl)
theorem dX4_delayTrain_9 : decode cX4_delayTrain 9 = .ok (.iconst 1, 1) := dk_4 (dk_at dksX4_delayTrain_0 9 rfl rfl)
theorem dX4_delayTrain_10 : decode cX4_delayTrain 10 = .ok (.goto 18, 3) := dk_167 0 18 (dk_at dksX4_delayTrain_0 10 rfl rfl)
theorem dX4_delayTrain_13 : decode cX4_delayTrain 13 = .ok (.iload_n 2, 1) := dk_28 (dk_at dksX4_delayTrain_0 13 rfl rfl)
theorem dX4_delayTrain_14 : decode cX4_delayTrain 14 = .ok (.iconst 0, 1) := dk_3 (dk_at dksX4_delayTrain_0 14 rfl rfl)
theorem dX4_delayTrain_15 : decode cX4_delayTrain 15 = .ok (.bipush 120, 2) := dk_16 120 (dk_at dksX4_delayTrain_0 15 rfl rfl)
theorem dX4_delayTrain_17 : decode cX4_delayTrain 17 = .ok (.invokestatic 68, 3) := dk_184 0 68 (dk_at dksX4_delayTrain_0 17 rfl rfl)
theorem dX4_delayTrain_20 : decode cX4_delayTrain 20 = .ok (.ifCond .eq 7, 3) := dk_153 0 7 (dk_at dksX4_delayTrain_0 20 rfl rfl)
theorem dX4_delayTrain_23 : decode cX4_delayTrain 23 = .ok (.iconst 0, 1) := dk_3 (dk_at dksX4_delayTrain_0 23 rfl rfl)
theorem dX4_delayTrain_24 : decode cX4_delayTrain 24 = .ok (.goto 4, 3) := dk_167 0 4 (dk_at dksX4_delayTrain_1 0 rfl rfl)
theorem dX4_delayTrain_27 : decode cX4_delayTrain 27 = .ok (.iconst 2, 1) := dk_5 (dk_at dksX4_delayTrain_1 3 rfl rfl)
theorem dX4_delayTrain_28 : decode cX4_delayTrain 28 = .ok (.invokevirtual 92, 3) := dk_182 0 92 (dk_at dksX4_delayTrain_1 4 rfl rfl)
theorem dX4_delayTrain_31 : decode cX4_delayTrain 31 = .ok (.ifCond .eq 5, 3) := dk_153 0 5 (dk_at dksX4_delayTrain_1 7 rfl rfl)
theorem dX4_delayTrain_34 : decode cX4_delayTrain 34 = .ok (.iconst 0, 1) := dk_3 (dk_at dksX4_delayTrain_1 10 rfl rfl)
theorem dX4_delayTrain_35 : decode cX4_delayTrain 35 = .ok (.ireturn, 1) := dk_172 (dk_at dksX4_delayTrain_1 11 rfl rfl)
theorem dX4_delayTrain_36 : decode cX4_delayTrain 36 = .ok (.aload_n 0, 1) := dk_42 (dk_at dksX4_delayTrain_1 12 rfl rfl)
theorem dX4_delayTrain_37 : decode cX4_delayTrain 37 = .ok (.iload_n 1, 1) := dk_27 (dk_at dksX4_delayTrain_1 13 rfl rfl)
theorem dX4_delayTrain_38 : decode cX4_delayTrain 38 = .ok (.iconst 2, 1) := dk_5 (dk_at dksX4_delayTrain_1 14 rfl rfl)
theorem dX4_delayTrain_39 : decode cX4_delayTrain 39 = .ok (.invokevirtual 76, 3) := dk_182 0 76 (dk_at dksX4_delayTrain_1 15 rfl rfl)
theorem dX4_delayTrain_42 : decode cX4_delayTrain 42 = .ok (.istore_n 3, 1) := dk_62 (dk_at dksX4_delayTrain_1 18 rfl rfl)
theorem dX4_delayTrain_43 : decode cX4_delayTrain 43 = .ok (.aload_n 0, 1) := dk_42 (dk_at dksX4_delayTrain_1 19 rfl rfl)
theorem dX4_delayTrain_44 : decode cX4_delayTrain 44 = .ok (.aload_n 0, 1) := dk_42 (dk_at dksX4_delayTrain_1 20 rfl rfl)
theorem dX4_delayTrain_45 : decode cX4_delayTrain 45 = .ok (.getfield 7, 3) := dk_180 0 7 (dk_at dksX4_delayTrain_1 21 rfl rfl)
theorem dX4_delayTrain_48 : decode cX4_delayTrain 48 = .ok (.invokevirtual 95, 3) := dk_182 0 95 (dk_at dksX4_delayTrain_2 0 rfl rfl)
theorem dX4_delayTrain_51 : decode cX4_delayTrain 51 = .ok (.aload_n 0, 1) := dk_42 (dk_at dksX4_delayTrain_2 3 rfl rfl)
theorem dX4_delayTrain_52 : decode cX4_delayTrain 52 = .ok (.getfield 7, 3) := dk_180 0 7 (dk_at dksX4_delayTrain_2 4 rfl rfl)
theorem dX4_delayTrain_55 : decode cX4_delayTrain 55 = .ok (.bipush 16, 2) := dk_16 16 (dk_at dksX4_delayTrain_2 7 rfl rfl)
theorem dX4_delayTrain_57 : decode cX4_delayTrain 57 = .ok (.bipush 36, 2) := dk_16 36 (dk_at dksX4_delayTrain_2 9 rfl rfl)
theorem dX4_delayTrain_59 : decode cX4_delayTrain 59 = .ok (.iload_n 1, 1) := dk_27 (dk_at dksX4_delayTrain_2 11 rfl rfl)
theorem dX4_delayTrain_60 : decode cX4_delayTrain 60 = .ok (.imul, 1) := dk_104 (dk_at dksX4_delayTrain_2 12 rfl rfl)
theorem dX4_delayTrain_61 : decode cX4_delayTrain 61 = .ok (.iadd, 1) := dk_96 (dk_at dksX4_delayTrain_2 13 rfl rfl)
theorem dX4_delayTrain_62 : decode cX4_delayTrain 62 = .ok (.iconst 2, 1) := dk_5 (dk_at dksX4_delayTrain_2 14 rfl rfl)
theorem dX4_delayTrain_63 : decode cX4_delayTrain 63 = .ok (.iadd, 1) := dk_96 (dk_at dksX4_delayTrain_2 15 rfl rfl)
theorem dX4_delayTrain_64 : decode cX4_delayTrain 64 = .ok (.iload_n 2, 1) := dk_28 (dk_at dksX4_delayTrain_2 16 rfl rfl)
theorem dX4_delayTrain_65 : decode cX4_delayTrain 65 = .ok (.iastore, 1) := dk_79 (dk_at dksX4_delayTrain_2 17 rfl rfl)
theorem dX4_delayTrain_66 : decode cX4_delayTrain 66 = .ok (.iload_n 3, 1) := dk_29 (dk_at dksX4_delayTrain_2 18 rfl rfl)
theorem dX4_delayTrain_67 : decode cX4_delayTrain 67 = .ok (.ireturn, 1) := dk_172 (dk_at dksX4_delayTrain_2 19 rfl rfl)
abbrev cX4_canReach : ByteArray := prog_20_method_28_code
def yX4_canReach : MethodName := ⟨RX4, "canReach", "(III)Z"⟩
def dkwX4_canReach_1 : List UInt8 := [18, 111, 162, 0, 7, 4, 167, 0, 4, 3, 172]
abbrev dktX4_canReach_1 : List UInt8 := dkwX4_canReach_1 ++ []
def dkwX4_canReach_0 : List UInt8 := [42, 27, 28, 29, 182, 0, 131, 154, 0, 5, 3, 172, 42, 27, 29, 182, 0, 134, 42, 180, 0, 36, 28, 46]
abbrev dktX4_canReach_0 : List UInt8 := dkwX4_canReach_0 ++ dktX4_canReach_1
theorem dksX4_canReach_0 : cX4_canReach.data.toList.drop 0 = dktX4_canReach_0 := by decide +kernel
theorem dksX4_canReach_1 : cX4_canReach.data.toList.drop 24 = dktX4_canReach_1 := dk_seg dksX4_canReach_0 24 rfl rfl
theorem dX4_canReach_0 : decode cX4_canReach 0 = .ok (.aload_n 0, 1) := dk_42 (dk_at dksX4_canReach_0 0 rfl rfl)
theorem dX4_canReach_1 : decode cX4_canReach 1 = .ok (.iload_n 1, 1) := dk_27 (dk_at dksX4_canReach_0 1 rfl rfl)
theorem dX4_canReach_2 : decode cX4_canReach 2 = .ok (.iload_n 2, 1) := dk_28 (dk_at dksX4_canReach_0 2 rfl rfl)
theorem dX4_canReach_3 : decode cX4_canReach 3 = .ok (.iload_n 3, 1) := dk_29 (dk_at dksX4_canReach_0 3 rfl rfl)
theorem dX4_canReach_4 : decode cX4_canReach 4 = .ok (.invokevirtual 131, 3) := dk_182 0 131 (dk_at dksX4_canReach_0 4 rfl rfl)
theorem dX4_canReach_7 : decode cX4_canReach 7 = .ok (.ifCond .ne 5, 3) := dk_154 0 5 (dk_at dksX4_canReach_0 7 rfl rfl)
theorem dX4_canReach_10 : decode cX4_canReach 10 = .ok (.iconst 0, 1) := dk_3 (dk_at dksX4_canReach_0 10 rfl rfl)
theorem dX4_canReach_11 : decode cX4_canReach 11 = .ok (.ireturn, 1) := dk_172 (dk_at dksX4_canReach_0 11 rfl rfl)
theorem dX4_canReach_12 : decode cX4_canReach 12 = .ok (.aload_n 0, 1) := dk_42 (dk_at dksX4_canReach_0 12 rfl rfl)
theorem dX4_canReach_13 : decode cX4_canReach 13 = .ok (.iload_n 1, 1) := dk_27 (dk_at dksX4_canReach_0 13 rfl rfl)
theorem dX4_canReach_14 : decode cX4_canReach 14 = .ok (.iload_n 3, 1) := dk_29 (dk_at dksX4_canReach_0 14 rfl rfl)
theorem dX4_canReach_15 : decode cX4_canReach 15 = .ok (.invokevirtual 134, 3) := dk_182 0 134 (dk_at dksX4_canReach_0 15 rfl rfl)
theorem dX4_canReach_18 : decode cX4_canReach 18 = .ok (.aload_n 0, 1) := dk_42 (dk_at dksX4_canReach_0 18 rfl rfl)
theorem dX4_canReach_19 : decode cX4_canReach 19 = .ok (.getfield 36, 3) := dk_180 0 36 (dk_at dksX4_canReach_0 19 rfl rfl)
theorem dX4_canReach_22 : decode cX4_canReach 22 = .ok (.iload_n 2, 1) := dk_28 (dk_at dksX4_canReach_0 22 rfl rfl)
theorem dX4_canReach_23 : decode cX4_canReach 23 = .ok (.iaload, 1) := dk_46 (dk_at dksX4_canReach_0 23 rfl rfl)
theorem dX4_canReach_24 : decode cX4_canReach 24 = .ok (.ldc 111, 2) := dk_18 111 (dk_at dksX4_canReach_1 0 rfl rfl)
theorem dX4_canReach_26 : decode cX4_canReach 26 = .ok (.if_icmp .ge 7, 3) := dk_162 0 7 (dk_at dksX4_canReach_1 2 rfl rfl)
theorem dX4_canReach_29 : decode cX4_canReach 29 = .ok (.iconst 1, 1) := dk_4 (dk_at dksX4_canReach_1 5 rfl rfl)
theorem dX4_canReach_30 : decode cX4_canReach 30 = .ok (.goto 4, 3) := dk_167 0 4 (dk_at dksX4_canReach_1 6 rfl rfl)
theorem dX4_canReach_33 : decode cX4_canReach 33 = .ok (.iconst 0, 1) := dk_3 (dk_at dksX4_canReach_1 9 rfl rfl)
theorem dX4_canReach_34 : decode cX4_canReach 34 = .ok (.ireturn, 1) := dk_172 (dk_at dksX4_canReach_1 10 rfl rfl)
abbrev cX4_isAsked : ByteArray := prog_20_method_27_code
def yX4_isAsked : MethodName := ⟨RX4, "isAsked", "(III)Z"⟩
def dkwX4_isAsked_2 : List UInt8 := [3, 172]
abbrev dktX4_isAsked_2 : List UInt8 := dkwX4_isAsked_2 ++ []
def dkwX4_isAsked_1 : List UInt8 := [17, 39, 15, 184, 0, 68, 153, 0, 7, 3, 167, 0, 4, 5, 182, 0, 92, 154, 0, 7, 4, 167, 0, 4]
abbrev dktX4_isAsked_1 : List UInt8 := dkwX4_isAsked_1 ++ dktX4_isAsked_2
def dkwX4_isAsked_0 : List UInt8 := [42, 42, 27, 182, 0, 99, 153, 0, 11, 42, 28, 182, 0, 99, 154, 0, 7, 4, 167, 0, 19, 29, 3]
abbrev dktX4_isAsked_0 : List UInt8 := dkwX4_isAsked_0 ++ dktX4_isAsked_1
theorem dksX4_isAsked_0 : cX4_isAsked.data.toList.drop 0 = dktX4_isAsked_0 := by decide +kernel
theorem dksX4_isAsked_1 : cX4_isAsked.data.toList.drop 23 = dktX4_isAsked_1 := dk_seg dksX4_isAsked_0 23 rfl rfl
theorem dksX4_isAsked_2 : cX4_isAsked.data.toList.drop 47 = dktX4_isAsked_2 := dk_seg dksX4_isAsked_1 24 rfl rfl
theorem dX4_isAsked_0 : decode cX4_isAsked 0 = .ok (.aload_n 0, 1) := dk_42 (dk_at dksX4_isAsked_0 0 rfl rfl)
theorem dX4_isAsked_1 : decode cX4_isAsked 1 = .ok (.aload_n 0, 1) := dk_42 (dk_at dksX4_isAsked_0 1 rfl rfl)
theorem dX4_isAsked_2 : decode cX4_isAsked 2 = .ok (.iload_n 1, 1) := dk_27 (dk_at dksX4_isAsked_0 2 rfl rfl)
theorem dX4_isAsked_3 : decode cX4_isAsked 3 = .ok (.invokevirtual 99, 3) := dk_182 0 99 (dk_at dksX4_isAsked_0 3 rfl rfl)
theorem dX4_isAsked_6 : decode cX4_isAsked 6 = .ok (.ifCond .eq 11, 3) := dk_153 0 11 (dk_at dksX4_isAsked_0 6 rfl rfl)
theorem dX4_isAsked_9 : decode cX4_isAsked 9 = .ok (.aload_n 0, 1) := dk_42 (dk_at dksX4_isAsked_0 9 rfl rfl)
theorem dX4_isAsked_10 : decode cX4_isAsked 10 = .ok (.iload_n 2, 1) := dk_28 (dk_at dksX4_isAsked_0 10 rfl rfl)
theorem dX4_isAsked_11 : decode cX4_isAsked 11 = .ok (.invokevirtual 99, 3) := dk_182 0 99 (dk_at dksX4_isAsked_0 11 rfl rfl)
theorem dX4_isAsked_14 : decode cX4_isAsked 14 = .ok (.ifCond .ne 7, 3) := dk_154 0 7 (dk_at dksX4_isAsked_0 14 rfl rfl)
theorem dX4_isAsked_17 : decode cX4_isAsked 17 = .ok (.iconst 1, 1) := dk_4 (dk_at dksX4_isAsked_0 17 rfl rfl)
theorem dX4_isAsked_18 : decode cX4_isAsked 18 = .ok (.goto 19, 3) := dk_167 0 19 (dk_at dksX4_isAsked_0 18 rfl rfl)
theorem dX4_isAsked_21 : decode cX4_isAsked 21 = .ok (.iload_n 3, 1) := dk_29 (dk_at dksX4_isAsked_0 21 rfl rfl)
theorem dX4_isAsked_22 : decode cX4_isAsked 22 = .ok (.iconst 0, 1) := dk_3 (dk_at dksX4_isAsked_0 22 rfl rfl)
theorem dX4_isAsked_23 : decode cX4_isAsked 23 = .ok (.sipush 9999, 3) := dk_17 39 15 (dk_at dksX4_isAsked_1 0 rfl rfl)
theorem dX4_isAsked_26 : decode cX4_isAsked 26 = .ok (.invokestatic 68, 3) := dk_184 0 68 (dk_at dksX4_isAsked_1 3 rfl rfl)
theorem dX4_isAsked_29 : decode cX4_isAsked 29 = .ok (.ifCond .eq 7, 3) := dk_153 0 7 (dk_at dksX4_isAsked_1 6 rfl rfl)
theorem dX4_isAsked_32 : decode cX4_isAsked 32 = .ok (.iconst 0, 1) := dk_3 (dk_at dksX4_isAsked_1 9 rfl rfl)
theorem dX4_isAsked_33 : decode cX4_isAsked 33 = .ok (.goto 4, 3) := dk_167 0 4 (dk_at dksX4_isAsked_1 10 rfl rfl)
theorem dX4_isAsked_36 : decode cX4_isAsked 36 = .ok (.iconst 2, 1) := dk_5 (dk_at dksX4_isAsked_1 13 rfl rfl)
theorem dX4_isAsked_37 : decode cX4_isAsked 37 = .ok (.invokevirtual 92, 3) := dk_182 0 92 (dk_at dksX4_isAsked_1 14 rfl rfl)
theorem dX4_isAsked_40 : decode cX4_isAsked 40 = .ok (.ifCond .ne 7, 3) := dk_154 0 7 (dk_at dksX4_isAsked_1 17 rfl rfl)
theorem dX4_isAsked_43 : decode cX4_isAsked 43 = .ok (.iconst 1, 1) := dk_4 (dk_at dksX4_isAsked_1 20 rfl rfl)
theorem dX4_isAsked_44 : decode cX4_isAsked 44 = .ok (.goto 4, 3) := dk_167 0 4 (dk_at dksX4_isAsked_1 21 rfl rfl)
theorem dX4_isAsked_47 : decode cX4_isAsked 47 = .ok (.iconst 0, 1) := dk_3 (dk_at dksX4_isAsked_2 0 rfl rfl)
theorem dX4_isAsked_48 : decode cX4_isAsked 48 = .ok (.ireturn, 1) := dk_172 (dk_at dksX4_isAsked_2 1 rfl rfl)
abbrev cX4_goes : ByteArray := prog_20_method_26_code
def yX4_goes : MethodName := ⟨RX4, "goes", "(II)V"⟩
def dkwX4_goes_1 : List UInt8 := [62, 167, 255, 239, 177]
abbrev dktX4_goes_1 : List UInt8 := dkwX4_goes_1 ++ []
def dkwX4_goes_0 : List UInt8 := [42, 27, 28, 182, 0, 123, 4, 62, 29, 153, 0, 19, 42, 42, 180, 0, 36, 42, 180, 0, 36, 182, 0, 127]
abbrev dktX4_goes_0 : List UInt8 := dkwX4_goes_0 ++ dktX4_goes_1
theorem dksX4_goes_0 : cX4_goes.data.toList.drop 0 = dktX4_goes_0 := by decide +kernel
theorem dksX4_goes_1 : cX4_goes.data.toList.drop 24 = dktX4_goes_1 := dk_seg dksX4_goes_0 24 rfl rfl
theorem dX4_goes_0 : decode cX4_goes 0 = .ok (.aload_n 0, 1) := dk_42 (dk_at dksX4_goes_0 0 rfl rfl)
theorem dX4_goes_1 : decode cX4_goes 1 = .ok (.iload_n 1, 1) := dk_27 (dk_at dksX4_goes_0 1 rfl rfl)
theorem dX4_goes_2 : decode cX4_goes 2 = .ok (.iload_n 2, 1) := dk_28 (dk_at dksX4_goes_0 2 rfl rfl)
theorem dX4_goes_3 : decode cX4_goes 3 = .ok (.invokevirtual 123, 3) := dk_182 0 123 (dk_at dksX4_goes_0 3 rfl rfl)
theorem dX4_goes_6 : decode cX4_goes 6 = .ok (.iconst 1, 1) := dk_4 (dk_at dksX4_goes_0 6 rfl rfl)
theorem dX4_goes_7 : decode cX4_goes 7 = .ok (.istore_n 3, 1) := dk_62 (dk_at dksX4_goes_0 7 rfl rfl)
theorem dX4_goes_8 : decode cX4_goes 8 = .ok (.iload_n 3, 1) := dk_29 (dk_at dksX4_goes_0 8 rfl rfl)
theorem dX4_goes_9 : decode cX4_goes 9 = .ok (.ifCond .eq 19, 3) := dk_153 0 19 (dk_at dksX4_goes_0 9 rfl rfl)
theorem dX4_goes_12 : decode cX4_goes 12 = .ok (.aload_n 0, 1) := dk_42 (dk_at dksX4_goes_0 12 rfl rfl)
theorem dX4_goes_13 : decode cX4_goes 13 = .ok (.aload_n 0, 1) := dk_42 (dk_at dksX4_goes_0 13 rfl rfl)
theorem dX4_goes_14 : decode cX4_goes 14 = .ok (.getfield 36, 3) := dk_180 0 36 (dk_at dksX4_goes_0 14 rfl rfl)
theorem dX4_goes_17 : decode cX4_goes 17 = .ok (.aload_n 0, 1) := dk_42 (dk_at dksX4_goes_0 17 rfl rfl)
theorem dX4_goes_18 : decode cX4_goes 18 = .ok (.getfield 36, 3) := dk_180 0 36 (dk_at dksX4_goes_0 18 rfl rfl)
theorem dX4_goes_21 : decode cX4_goes 21 = .ok (.invokevirtual 127, 3) := dk_182 0 127 (dk_at dksX4_goes_0 21 rfl rfl)
theorem dX4_goes_24 : decode cX4_goes 24 = .ok (.istore_n 3, 1) := dk_62 (dk_at dksX4_goes_1 0 rfl rfl)
theorem dX4_goes_25 : decode cX4_goes 25 = .ok (.goto (-17), 3) := dk_167 255 239 (dk_at dksX4_goes_1 1 rfl rfl)
theorem dX4_goes_28 : decode cX4_goes 28 = .ok (.return_, 1) := dk_177 (dk_at dksX4_goes_1 4 rfl rfl)
abbrev cX4_begins : ByteArray := prog_20_method_25_code
def yX4_begins : MethodName := ⟨RX4, "begins", "(II)V"⟩
def dkwX4_begins_1 : List UInt8 := [27, 160, 0, 7, 28, 167, 0, 5, 18, 111, 79, 132, 3, 1, 167, 255, 230, 177]
abbrev dktX4_begins_1 : List UInt8 := dkwX4_begins_1 ++ []
def dkwX4_begins_0 : List UInt8 := [42, 27, 181, 0, 105, 42, 28, 181, 0, 108, 3, 62, 29, 16, 8, 162, 0, 26, 42, 180, 0, 36, 29, 29]
abbrev dktX4_begins_0 : List UInt8 := dkwX4_begins_0 ++ dktX4_begins_1
theorem dksX4_begins_0 : cX4_begins.data.toList.drop 0 = dktX4_begins_0 := by decide +kernel
theorem dksX4_begins_1 : cX4_begins.data.toList.drop 24 = dktX4_begins_1 := dk_seg dksX4_begins_0 24 rfl rfl
theorem dX4_begins_0 : decode cX4_begins 0 = .ok (.aload_n 0, 1) := dk_42 (dk_at dksX4_begins_0 0 rfl rfl)
theorem dX4_begins_1 : decode cX4_begins 1 = .ok (.iload_n 1, 1) := dk_27 (dk_at dksX4_begins_0 1 rfl rfl)
theorem dX4_begins_2 : decode cX4_begins 2 = .ok (.putfield 105, 3) := dk_181 0 105 (dk_at dksX4_begins_0 2 rfl rfl)
theorem dX4_begins_5 : decode cX4_begins 5 = .ok (.aload_n 0, 1) := dk_42 (dk_at dksX4_begins_0 5 rfl rfl)
theorem dX4_begins_6 : decode cX4_begins 6 = .ok (.iload_n 2, 1) := dk_28 (dk_at dksX4_begins_0 6 rfl rfl)
theorem dX4_begins_7 : decode cX4_begins 7 = .ok (.putfield 108, 3) := dk_181 0 108 (dk_at dksX4_begins_0 7 rfl rfl)
theorem dX4_begins_10 : decode cX4_begins 10 = .ok (.iconst 0, 1) := dk_3 (dk_at dksX4_begins_0 10 rfl rfl)
theorem dX4_begins_11 : decode cX4_begins 11 = .ok (.istore_n 3, 1) := dk_62 (dk_at dksX4_begins_0 11 rfl rfl)
theorem dX4_begins_12 : decode cX4_begins 12 = .ok (.iload_n 3, 1) := dk_29 (dk_at dksX4_begins_0 12 rfl rfl)
theorem dX4_begins_13 : decode cX4_begins 13 = .ok (.bipush 8, 2) := dk_16 8 (dk_at dksX4_begins_0 13 rfl rfl)
theorem dX4_begins_15 : decode cX4_begins 15 = .ok (.if_icmp .ge 26, 3) := dk_162 0 26 (dk_at dksX4_begins_0 15 rfl rfl)
theorem dX4_begins_18 : decode cX4_begins 18 = .ok (.aload_n 0, 1) := dk_42 (dk_at dksX4_begins_0 18 rfl rfl)
theorem dX4_begins_19 : decode cX4_begins 19 = .ok (.getfield 36, 3) := dk_180 0 36 (dk_at dksX4_begins_0 19 rfl rfl)
theorem dX4_begins_22 : decode cX4_begins 22 = .ok (.iload_n 3, 1) := dk_29 (dk_at dksX4_begins_0 22 rfl rfl)
theorem dX4_begins_23 : decode cX4_begins 23 = .ok (.iload_n 3, 1) := dk_29 (dk_at dksX4_begins_0 23 rfl rfl)
theorem dX4_begins_24 : decode cX4_begins 24 = .ok (.iload_n 1, 1) := dk_27 (dk_at dksX4_begins_1 0 rfl rfl)
theorem dX4_begins_25 : decode cX4_begins 25 = .ok (.if_icmp .ne 7, 3) := dk_160 0 7 (dk_at dksX4_begins_1 1 rfl rfl)
theorem dX4_begins_28 : decode cX4_begins 28 = .ok (.iload_n 2, 1) := dk_28 (dk_at dksX4_begins_1 4 rfl rfl)
theorem dX4_begins_29 : decode cX4_begins 29 = .ok (.goto 5, 3) := dk_167 0 5 (dk_at dksX4_begins_1 5 rfl rfl)
theorem dX4_begins_32 : decode cX4_begins 32 = .ok (.ldc 111, 2) := dk_18 111 (dk_at dksX4_begins_1 8 rfl rfl)
theorem dX4_begins_34 : decode cX4_begins 34 = .ok (.iastore, 1) := dk_79 (dk_at dksX4_begins_1 10 rfl rfl)
theorem dX4_begins_35 : decode cX4_begins 35 = .ok (.iinc 3 1, 3) := dk_132 3 1 (dk_at dksX4_begins_1 11 rfl rfl)
theorem dX4_begins_38 : decode cX4_begins 38 = .ok (.goto (-26), 3) := dk_167 255 230 (dk_at dksX4_begins_1 14 rfl rfl)
theorem dX4_begins_41 : decode cX4_begins 41 = .ok (.return_, 1) := dk_177 (dk_at dksX4_begins_1 17 rfl rfl)
abbrev cX4_rides : ByteArray := prog_20_method_24_code
def yX4_rides : MethodName := ⟨RX4, "rides", "([I[I)Z"⟩
def dkwX4_rides_6 : List UInt8 := [29, 172]
abbrev dktX4_rides_6 : List UInt8 := dkwX4_rides_6 ++ []
def dkwX4_rides_5 : List UInt8 := [21, 4, 21, 6, 4, 96, 182, 0, 120, 79, 4, 62, 132, 6, 1, 167, 255, 144, 132, 4, 1, 167, 255, 121]
abbrev dktX4_rides_5 : List UInt8 := dkwX4_rides_5 ++ dktX4_rides_6
def dkwX4_rides_4 : List UInt8 := [4, 96, 182, 0, 102, 46, 161, 0, 6, 167, 0, 27, 44, 42, 21, 4, 21, 6, 4, 96, 182, 0, 102, 42]
abbrev dktX4_rides_4 : List UInt8 := dkwX4_rides_4 ++ dktX4_rides_5
def dkwX4_rides_3 : List UInt8 := [3, 54, 5, 21, 5, 153, 0, 55, 42, 21, 4, 21, 6, 4, 96, 182, 0, 120, 44, 42, 21, 4, 21, 6]
abbrev dktX4_rides_3 : List UInt8 := dkwX4_rides_3 ++ dktX4_rides_4
def dkwX4_rides_2 : List UInt8 := [182, 0, 112, 153, 0, 7, 4, 167, 0, 4, 3, 54, 5, 42, 21, 4, 21, 6, 182, 0, 116, 153, 0, 6]
abbrev dktX4_rides_2 : List UInt8 := dkwX4_rides_2 ++ dktX4_rides_3
def dkwX4_rides_1 : List UInt8 := [42, 21, 4, 6, 182, 0, 76, 4, 100, 162, 0, 104, 21, 5, 154, 0, 15, 42, 21, 4, 21, 6, 43]
abbrev dktX4_rides_1 : List UInt8 := dkwX4_rides_1 ++ dktX4_rides_2
def dkwX4_rides_0 : List UInt8 := [3, 62, 3, 54, 4, 21, 4, 42, 180, 0, 7, 4, 46, 162, 0, 130, 3, 54, 5, 3, 54, 6, 21, 6]
abbrev dktX4_rides_0 : List UInt8 := dkwX4_rides_0 ++ dktX4_rides_1
theorem dksX4_rides_0 : cX4_rides.data.toList.drop 0 = dktX4_rides_0 := by decide +kernel
theorem dksX4_rides_1 : cX4_rides.data.toList.drop 24 = dktX4_rides_1 := dk_seg dksX4_rides_0 24 rfl rfl
theorem dksX4_rides_2 : cX4_rides.data.toList.drop 47 = dktX4_rides_2 := dk_seg dksX4_rides_1 23 rfl rfl
theorem dksX4_rides_3 : cX4_rides.data.toList.drop 71 = dktX4_rides_3 := dk_seg dksX4_rides_2 24 rfl rfl
theorem dksX4_rides_4 : cX4_rides.data.toList.drop 95 = dktX4_rides_4 := dk_seg dksX4_rides_3 24 rfl rfl
theorem dksX4_rides_5 : cX4_rides.data.toList.drop 119 = dktX4_rides_5 := dk_seg dksX4_rides_4 24 rfl rfl
theorem dksX4_rides_6 : cX4_rides.data.toList.drop 143 = dktX4_rides_6 := dk_seg dksX4_rides_5 24 rfl rfl
theorem dX4_rides_0 : decode cX4_rides 0 = .ok (.iconst 0, 1) := dk_3 (dk_at dksX4_rides_0 0 rfl rfl)
theorem dX4_rides_1 : decode cX4_rides 1 = .ok (.istore_n 3, 1) := dk_62 (dk_at dksX4_rides_0 1 rfl rfl)
theorem dX4_rides_2 : decode cX4_rides 2 = .ok (.iconst 0, 1) := dk_3 (dk_at dksX4_rides_0 2 rfl rfl)
theorem dX4_rides_3 : decode cX4_rides 3 = .ok (.istore 4, 2) := dk_54 4 (dk_at dksX4_rides_0 3 rfl rfl)
theorem dX4_rides_5 : decode cX4_rides 5 = .ok (.iload 4, 2) := dk_21 4 (dk_at dksX4_rides_0 5 rfl rfl)
theorem dX4_rides_7 : decode cX4_rides 7 = .ok (.aload_n 0, 1) := dk_42 (dk_at dksX4_rides_0 7 rfl rfl)
theorem dX4_rides_8 : decode cX4_rides 8 = .ok (.getfield 7, 3) := dk_180 0 7 (dk_at dksX4_rides_0 8 rfl rfl)
theorem dX4_rides_11 : decode cX4_rides 11 = .ok (.iconst 1, 1) := dk_4 (dk_at dksX4_rides_0 11 rfl rfl)
theorem dX4_rides_12 : decode cX4_rides 12 = .ok (.iaload, 1) := dk_46 (dk_at dksX4_rides_0 12 rfl rfl)
theorem dX4_rides_13 : decode cX4_rides 13 = .ok (.if_icmp .ge 130, 3) := dk_162 0 130 (dk_at dksX4_rides_0 13 rfl rfl)
theorem dX4_rides_16 : decode cX4_rides 16 = .ok (.iconst 0, 1) := dk_3 (dk_at dksX4_rides_0 16 rfl rfl)
theorem dX4_rides_17 : decode cX4_rides 17 = .ok (.istore 5, 2) := dk_54 5 (dk_at dksX4_rides_0 17 rfl rfl)
theorem dX4_rides_19 : decode cX4_rides 19 = .ok (.iconst 0, 1) := dk_3 (dk_at dksX4_rides_0 19 rfl rfl)
theorem dX4_rides_20 : decode cX4_rides 20 = .ok (.istore 6, 2) := dk_54 6 (dk_at dksX4_rides_0 20 rfl rfl)
theorem dX4_rides_22 : decode cX4_rides 22 = .ok (.iload 6, 2) := dk_21 6 (dk_at dksX4_rides_0 22 rfl rfl)
theorem dX4_rides_24 : decode cX4_rides 24 = .ok (.aload_n 0, 1) := dk_42 (dk_at dksX4_rides_1 0 rfl rfl)
theorem dX4_rides_25 : decode cX4_rides 25 = .ok (.iload 4, 2) := dk_21 4 (dk_at dksX4_rides_1 1 rfl rfl)
theorem dX4_rides_27 : decode cX4_rides 27 = .ok (.iconst 3, 1) := dk_6 (dk_at dksX4_rides_1 3 rfl rfl)
theorem dX4_rides_28 : decode cX4_rides 28 = .ok (.invokevirtual 76, 3) := dk_182 0 76 (dk_at dksX4_rides_1 4 rfl rfl)
theorem dX4_rides_31 : decode cX4_rides 31 = .ok (.iconst 1, 1) := dk_4 (dk_at dksX4_rides_1 7 rfl rfl)
theorem dX4_rides_32 : decode cX4_rides 32 = .ok (.isub, 1) := dk_100 (dk_at dksX4_rides_1 8 rfl rfl)
theorem dX4_rides_33 : decode cX4_rides 33 = .ok (.if_icmp .ge 104, 3) := dk_162 0 104 (dk_at dksX4_rides_1 9 rfl rfl)
theorem dX4_rides_36 : decode cX4_rides 36 = .ok (.iload 5, 2) := dk_21 5 (dk_at dksX4_rides_1 12 rfl rfl)
theorem dX4_rides_38 : decode cX4_rides 38 = .ok (.ifCond .ne 15, 3) := dk_154 0 15 (dk_at dksX4_rides_1 14 rfl rfl)
theorem dX4_rides_41 : decode cX4_rides 41 = .ok (.aload_n 0, 1) := dk_42 (dk_at dksX4_rides_1 17 rfl rfl)
theorem dX4_rides_42 : decode cX4_rides 42 = .ok (.iload 4, 2) := dk_21 4 (dk_at dksX4_rides_1 18 rfl rfl)
theorem dX4_rides_44 : decode cX4_rides 44 = .ok (.iload 6, 2) := dk_21 6 (dk_at dksX4_rides_1 20 rfl rfl)
theorem dX4_rides_46 : decode cX4_rides 46 = .ok (.aload_n 1, 1) := dk_43 (dk_at dksX4_rides_1 22 rfl rfl)
theorem dX4_rides_47 : decode cX4_rides 47 = .ok (.invokevirtual 112, 3) := dk_182 0 112 (dk_at dksX4_rides_2 0 rfl rfl)
theorem dX4_rides_50 : decode cX4_rides 50 = .ok (.ifCond .eq 7, 3) := dk_153 0 7 (dk_at dksX4_rides_2 3 rfl rfl)
theorem dX4_rides_53 : decode cX4_rides 53 = .ok (.iconst 1, 1) := dk_4 (dk_at dksX4_rides_2 6 rfl rfl)
theorem dX4_rides_54 : decode cX4_rides 54 = .ok (.goto 4, 3) := dk_167 0 4 (dk_at dksX4_rides_2 7 rfl rfl)
theorem dX4_rides_57 : decode cX4_rides 57 = .ok (.iconst 0, 1) := dk_3 (dk_at dksX4_rides_2 10 rfl rfl)
theorem dX4_rides_58 : decode cX4_rides 58 = .ok (.istore 5, 2) := dk_54 5 (dk_at dksX4_rides_2 11 rfl rfl)
theorem dX4_rides_60 : decode cX4_rides 60 = .ok (.aload_n 0, 1) := dk_42 (dk_at dksX4_rides_2 13 rfl rfl)
theorem dX4_rides_61 : decode cX4_rides 61 = .ok (.iload 4, 2) := dk_21 4 (dk_at dksX4_rides_2 14 rfl rfl)
theorem dX4_rides_63 : decode cX4_rides 63 = .ok (.iload 6, 2) := dk_21 6 (dk_at dksX4_rides_2 16 rfl rfl)
theorem dX4_rides_65 : decode cX4_rides 65 = .ok (.invokevirtual 116, 3) := dk_182 0 116 (dk_at dksX4_rides_2 18 rfl rfl)
theorem dX4_rides_68 : decode cX4_rides 68 = .ok (.ifCond .eq 6, 3) := dk_153 0 6 (dk_at dksX4_rides_2 21 rfl rfl)
theorem dX4_rides_71 : decode cX4_rides 71 = .ok (.iconst 0, 1) := dk_3 (dk_at dksX4_rides_3 0 rfl rfl)
theorem dX4_rides_72 : decode cX4_rides 72 = .ok (.istore 5, 2) := dk_54 5 (dk_at dksX4_rides_3 1 rfl rfl)
theorem dX4_rides_74 : decode cX4_rides 74 = .ok (.iload 5, 2) := dk_21 5 (dk_at dksX4_rides_3 3 rfl rfl)
theorem dX4_rides_76 : decode cX4_rides 76 = .ok (.ifCond .eq 55, 3) := dk_153 0 55 (dk_at dksX4_rides_3 5 rfl rfl)
theorem dX4_rides_79 : decode cX4_rides 79 = .ok (.aload_n 0, 1) := dk_42 (dk_at dksX4_rides_3 8 rfl rfl)
theorem dX4_rides_80 : decode cX4_rides 80 = .ok (.iload 4, 2) := dk_21 4 (dk_at dksX4_rides_3 9 rfl rfl)
theorem dX4_rides_82 : decode cX4_rides 82 = .ok (.iload 6, 2) := dk_21 6 (dk_at dksX4_rides_3 11 rfl rfl)
theorem dX4_rides_84 : decode cX4_rides 84 = .ok (.iconst 1, 1) := dk_4 (dk_at dksX4_rides_3 13 rfl rfl)
theorem dX4_rides_85 : decode cX4_rides 85 = .ok (.iadd, 1) := dk_96 (dk_at dksX4_rides_3 14 rfl rfl)
theorem dX4_rides_86 : decode cX4_rides 86 = .ok (.invokevirtual 120, 3) := dk_182 0 120 (dk_at dksX4_rides_3 15 rfl rfl)
theorem dX4_rides_89 : decode cX4_rides 89 = .ok (.aload_n 2, 1) := dk_44 (dk_at dksX4_rides_3 18 rfl rfl)
theorem dX4_rides_90 : decode cX4_rides 90 = .ok (.aload_n 0, 1) := dk_42 (dk_at dksX4_rides_3 19 rfl rfl)
theorem dX4_rides_91 : decode cX4_rides 91 = .ok (.iload 4, 2) := dk_21 4 (dk_at dksX4_rides_3 20 rfl rfl)
theorem dX4_rides_93 : decode cX4_rides 93 = .ok (.iload 6, 2) := dk_21 6 (dk_at dksX4_rides_3 22 rfl rfl)
theorem dX4_rides_95 : decode cX4_rides 95 = .ok (.iconst 1, 1) := dk_4 (dk_at dksX4_rides_4 0 rfl rfl)
theorem dX4_rides_96 : decode cX4_rides 96 = .ok (.iadd, 1) := dk_96 (dk_at dksX4_rides_4 1 rfl rfl)
theorem dX4_rides_97 : decode cX4_rides 97 = .ok (.invokevirtual 102, 3) := dk_182 0 102 (dk_at dksX4_rides_4 2 rfl rfl)
theorem dX4_rides_100 : decode cX4_rides 100 = .ok (.iaload, 1) := dk_46 (dk_at dksX4_rides_4 5 rfl rfl)
theorem dX4_rides_101 : decode cX4_rides 101 = .ok (.if_icmp .lt 6, 3) := dk_161 0 6 (dk_at dksX4_rides_4 6 rfl rfl)
theorem dX4_rides_104 : decode cX4_rides 104 = .ok (.goto 27, 3) := dk_167 0 27 (dk_at dksX4_rides_4 9 rfl rfl)
theorem dX4_rides_107 : decode cX4_rides 107 = .ok (.aload_n 2, 1) := dk_44 (dk_at dksX4_rides_4 12 rfl rfl)
theorem dX4_rides_108 : decode cX4_rides 108 = .ok (.aload_n 0, 1) := dk_42 (dk_at dksX4_rides_4 13 rfl rfl)
theorem dX4_rides_109 : decode cX4_rides 109 = .ok (.iload 4, 2) := dk_21 4 (dk_at dksX4_rides_4 14 rfl rfl)
theorem dX4_rides_111 : decode cX4_rides 111 = .ok (.iload 6, 2) := dk_21 6 (dk_at dksX4_rides_4 16 rfl rfl)
theorem dX4_rides_113 : decode cX4_rides 113 = .ok (.iconst 1, 1) := dk_4 (dk_at dksX4_rides_4 18 rfl rfl)
theorem dX4_rides_114 : decode cX4_rides 114 = .ok (.iadd, 1) := dk_96 (dk_at dksX4_rides_4 19 rfl rfl)
theorem dX4_rides_115 : decode cX4_rides 115 = .ok (.invokevirtual 102, 3) := dk_182 0 102 (dk_at dksX4_rides_4 20 rfl rfl)
theorem dX4_rides_118 : decode cX4_rides 118 = .ok (.aload_n 0, 1) := dk_42 (dk_at dksX4_rides_4 23 rfl rfl)
theorem dX4_rides_119 : decode cX4_rides 119 = .ok (.iload 4, 2) := dk_21 4 (dk_at dksX4_rides_5 0 rfl rfl)
theorem dX4_rides_121 : decode cX4_rides 121 = .ok (.iload 6, 2) := dk_21 6 (dk_at dksX4_rides_5 2 rfl rfl)
theorem dX4_rides_123 : decode cX4_rides 123 = .ok (.iconst 1, 1) := dk_4 (dk_at dksX4_rides_5 4 rfl rfl)
theorem dX4_rides_124 : decode cX4_rides 124 = .ok (.iadd, 1) := dk_96 (dk_at dksX4_rides_5 5 rfl rfl)
theorem dX4_rides_125 : decode cX4_rides 125 = .ok (.invokevirtual 120, 3) := dk_182 0 120 (dk_at dksX4_rides_5 6 rfl rfl)
theorem dX4_rides_128 : decode cX4_rides 128 = .ok (.iastore, 1) := dk_79 (dk_at dksX4_rides_5 9 rfl rfl)
theorem dX4_rides_129 : decode cX4_rides 129 = .ok (.iconst 1, 1) := dk_4 (dk_at dksX4_rides_5 10 rfl rfl)
theorem dX4_rides_130 : decode cX4_rides 130 = .ok (.istore_n 3, 1) := dk_62 (dk_at dksX4_rides_5 11 rfl rfl)
theorem dX4_rides_131 : decode cX4_rides 131 = .ok (.iinc 6 1, 3) := dk_132 6 1 (dk_at dksX4_rides_5 12 rfl rfl)
theorem dX4_rides_134 : decode cX4_rides 134 = .ok (.goto (-112), 3) := dk_167 255 144 (dk_at dksX4_rides_5 15 rfl rfl)
theorem dX4_rides_137 : decode cX4_rides 137 = .ok (.iinc 4 1, 3) := dk_132 4 1 (dk_at dksX4_rides_5 18 rfl rfl)
theorem dX4_rides_140 : decode cX4_rides 140 = .ok (.goto (-135), 3) := dk_167 255 121 (dk_at dksX4_rides_5 21 rfl rfl)
theorem dX4_rides_143 : decode cX4_rides 143 = .ok (.iload_n 3, 1) := dk_29 (dk_at dksX4_rides_6 0 rfl rfl)
theorem dX4_rides_144 : decode cX4_rides 144 = .ok (.ireturn, 1) := dk_172 (dk_at dksX4_rides_6 1 rfl rfl)
abbrev cX4_isBoarded : ByteArray := prog_20_method_23_code
def yX4_isBoarded : MethodName := ⟨RX4, "isBoarded", "(II[I)Z"⟩
def dkwX4_isBoarded_3 : List UInt8 := [167, 0, 4, 3, 172]
abbrev dktX4_isBoarded_3 : List UInt8 := dkwX4_isBoarded_3 ++ []
def dkwX4_isBoarded_2 : List UInt8 := [182, 0, 80, 45, 21, 4, 46, 42, 180, 0, 7, 16, 8, 21, 4, 96, 46, 96, 161, 0, 7, 4]
abbrev dktX4_isBoarded_2 : List UInt8 := dkwX4_isBoarded_2 ++ dktX4_isBoarded_3
def dkwX4_isBoarded_1 : List UInt8 := [180, 0, 108, 161, 0, 7, 4, 167, 0, 4, 3, 172, 45, 21, 4, 46, 18, 111, 162, 0, 31, 42, 27, 28]
abbrev dktX4_isBoarded_1 : List UInt8 := dkwX4_isBoarded_1 ++ dktX4_isBoarded_2
def dkwX4_isBoarded_0 : List UInt8 := [42, 27, 28, 182, 0, 102, 54, 4, 21, 4, 42, 180, 0, 105, 160, 0, 22, 42, 27, 28, 182, 0, 80, 42]
abbrev dktX4_isBoarded_0 : List UInt8 := dkwX4_isBoarded_0 ++ dktX4_isBoarded_1
theorem dksX4_isBoarded_0 : cX4_isBoarded.data.toList.drop 0 = dktX4_isBoarded_0 := by decide +kernel
theorem dksX4_isBoarded_1 : cX4_isBoarded.data.toList.drop 24 = dktX4_isBoarded_1 := dk_seg dksX4_isBoarded_0 24 rfl rfl
theorem dksX4_isBoarded_2 : cX4_isBoarded.data.toList.drop 48 = dktX4_isBoarded_2 := dk_seg dksX4_isBoarded_1 24 rfl rfl
theorem dksX4_isBoarded_3 : cX4_isBoarded.data.toList.drop 70 = dktX4_isBoarded_3 := dk_seg dksX4_isBoarded_2 22 rfl rfl
theorem dX4_isBoarded_0 : decode cX4_isBoarded 0 = .ok (.aload_n 0, 1) := dk_42 (dk_at dksX4_isBoarded_0 0 rfl rfl)
theorem dX4_isBoarded_1 : decode cX4_isBoarded 1 = .ok (.iload_n 1, 1) := dk_27 (dk_at dksX4_isBoarded_0 1 rfl rfl)
theorem dX4_isBoarded_2 : decode cX4_isBoarded 2 = .ok (.iload_n 2, 1) := dk_28 (dk_at dksX4_isBoarded_0 2 rfl rfl)
theorem dX4_isBoarded_3 : decode cX4_isBoarded 3 = .ok (.invokevirtual 102, 3) := dk_182 0 102 (dk_at dksX4_isBoarded_0 3 rfl rfl)
theorem dX4_isBoarded_6 : decode cX4_isBoarded 6 = .ok (.istore 4, 2) := dk_54 4 (dk_at dksX4_isBoarded_0 6 rfl rfl)
theorem dX4_isBoarded_8 : decode cX4_isBoarded 8 = .ok (.iload 4, 2) := dk_21 4 (dk_at dksX4_isBoarded_0 8 rfl rfl)
theorem dX4_isBoarded_10 : decode cX4_isBoarded 10 = .ok (.aload_n 0, 1) := dk_42 (dk_at dksX4_isBoarded_0 10 rfl rfl)
theorem dX4_isBoarded_11 : decode cX4_isBoarded 11 = .ok (.getfield 105, 3) := dk_180 0 105 (dk_at dksX4_isBoarded_0 11 rfl rfl)
theorem dX4_isBoarded_14 : decode cX4_isBoarded 14 = .ok (.if_icmp .ne 22, 3) := dk_160 0 22 (dk_at dksX4_isBoarded_0 14 rfl rfl)
theorem dX4_isBoarded_17 : decode cX4_isBoarded 17 = .ok (.aload_n 0, 1) := dk_42 (dk_at dksX4_isBoarded_0 17 rfl rfl)
theorem dX4_isBoarded_18 : decode cX4_isBoarded 18 = .ok (.iload_n 1, 1) := dk_27 (dk_at dksX4_isBoarded_0 18 rfl rfl)
theorem dX4_isBoarded_19 : decode cX4_isBoarded 19 = .ok (.iload_n 2, 1) := dk_28 (dk_at dksX4_isBoarded_0 19 rfl rfl)
theorem dX4_isBoarded_20 : decode cX4_isBoarded 20 = .ok (.invokevirtual 80, 3) := dk_182 0 80 (dk_at dksX4_isBoarded_0 20 rfl rfl)
theorem dX4_isBoarded_23 : decode cX4_isBoarded 23 = .ok (.aload_n 0, 1) := dk_42 (dk_at dksX4_isBoarded_0 23 rfl rfl)
theorem dX4_isBoarded_24 : decode cX4_isBoarded 24 = .ok (.getfield 108, 3) := dk_180 0 108 (dk_at dksX4_isBoarded_1 0 rfl rfl)
theorem dX4_isBoarded_27 : decode cX4_isBoarded 27 = .ok (.if_icmp .lt 7, 3) := dk_161 0 7 (dk_at dksX4_isBoarded_1 3 rfl rfl)
theorem dX4_isBoarded_30 : decode cX4_isBoarded 30 = .ok (.iconst 1, 1) := dk_4 (dk_at dksX4_isBoarded_1 6 rfl rfl)
theorem dX4_isBoarded_31 : decode cX4_isBoarded 31 = .ok (.goto 4, 3) := dk_167 0 4 (dk_at dksX4_isBoarded_1 7 rfl rfl)
theorem dX4_isBoarded_34 : decode cX4_isBoarded 34 = .ok (.iconst 0, 1) := dk_3 (dk_at dksX4_isBoarded_1 10 rfl rfl)
theorem dX4_isBoarded_35 : decode cX4_isBoarded 35 = .ok (.ireturn, 1) := dk_172 (dk_at dksX4_isBoarded_1 11 rfl rfl)
theorem dX4_isBoarded_36 : decode cX4_isBoarded 36 = .ok (.aload_n 3, 1) := dk_45 (dk_at dksX4_isBoarded_1 12 rfl rfl)
theorem dX4_isBoarded_37 : decode cX4_isBoarded 37 = .ok (.iload 4, 2) := dk_21 4 (dk_at dksX4_isBoarded_1 13 rfl rfl)
theorem dX4_isBoarded_39 : decode cX4_isBoarded 39 = .ok (.iaload, 1) := dk_46 (dk_at dksX4_isBoarded_1 15 rfl rfl)
theorem dX4_isBoarded_40 : decode cX4_isBoarded 40 = .ok (.ldc 111, 2) := dk_18 111 (dk_at dksX4_isBoarded_1 16 rfl rfl)
theorem dX4_isBoarded_42 : decode cX4_isBoarded 42 = .ok (.if_icmp .ge 31, 3) := dk_162 0 31 (dk_at dksX4_isBoarded_1 18 rfl rfl)
theorem dX4_isBoarded_45 : decode cX4_isBoarded 45 = .ok (.aload_n 0, 1) := dk_42 (dk_at dksX4_isBoarded_1 21 rfl rfl)
theorem dX4_isBoarded_46 : decode cX4_isBoarded 46 = .ok (.iload_n 1, 1) := dk_27 (dk_at dksX4_isBoarded_1 22 rfl rfl)
theorem dX4_isBoarded_47 : decode cX4_isBoarded 47 = .ok (.iload_n 2, 1) := dk_28 (dk_at dksX4_isBoarded_1 23 rfl rfl)
theorem dX4_isBoarded_48 : decode cX4_isBoarded 48 = .ok (.invokevirtual 80, 3) := dk_182 0 80 (dk_at dksX4_isBoarded_2 0 rfl rfl)
theorem dX4_isBoarded_51 : decode cX4_isBoarded 51 = .ok (.aload_n 3, 1) := dk_45 (dk_at dksX4_isBoarded_2 3 rfl rfl)
theorem dX4_isBoarded_52 : decode cX4_isBoarded 52 = .ok (.iload 4, 2) := dk_21 4 (dk_at dksX4_isBoarded_2 4 rfl rfl)
theorem dX4_isBoarded_54 : decode cX4_isBoarded 54 = .ok (.iaload, 1) := dk_46 (dk_at dksX4_isBoarded_2 6 rfl rfl)
theorem dX4_isBoarded_55 : decode cX4_isBoarded 55 = .ok (.aload_n 0, 1) := dk_42 (dk_at dksX4_isBoarded_2 7 rfl rfl)
theorem dX4_isBoarded_56 : decode cX4_isBoarded 56 = .ok (.getfield 7, 3) := dk_180 0 7 (dk_at dksX4_isBoarded_2 8 rfl rfl)
theorem dX4_isBoarded_59 : decode cX4_isBoarded 59 = .ok (.bipush 8, 2) := dk_16 8 (dk_at dksX4_isBoarded_2 11 rfl rfl)
theorem dX4_isBoarded_61 : decode cX4_isBoarded 61 = .ok (.iload 4, 2) := dk_21 4 (dk_at dksX4_isBoarded_2 13 rfl rfl)
theorem dX4_isBoarded_63 : decode cX4_isBoarded 63 = .ok (.iadd, 1) := dk_96 (dk_at dksX4_isBoarded_2 15 rfl rfl)
theorem dX4_isBoarded_64 : decode cX4_isBoarded 64 = .ok (.iaload, 1) := dk_46 (dk_at dksX4_isBoarded_2 16 rfl rfl)
theorem dX4_isBoarded_65 : decode cX4_isBoarded 65 = .ok (.iadd, 1) := dk_96 (dk_at dksX4_isBoarded_2 17 rfl rfl)
theorem dX4_isBoarded_66 : decode cX4_isBoarded 66 = .ok (.if_icmp .lt 7, 3) := dk_161 0 7 (dk_at dksX4_isBoarded_2 18 rfl rfl)
theorem dX4_isBoarded_69 : decode cX4_isBoarded 69 = .ok (.iconst 1, 1) := dk_4 (dk_at dksX4_isBoarded_2 21 rfl rfl)
theorem dX4_isBoarded_70 : decode cX4_isBoarded 70 = .ok (.goto 4, 3) := dk_167 0 4 (dk_at dksX4_isBoarded_3 0 rfl rfl)
theorem dX4_isBoarded_73 : decode cX4_isBoarded 73 = .ok (.iconst 0, 1) := dk_3 (dk_at dksX4_isBoarded_3 3 rfl rfl)
theorem dX4_isBoarded_74 : decode cX4_isBoarded 74 = .ok (.ireturn, 1) := dk_172 (dk_at dksX4_isBoarded_3 4 rfl rfl)
abbrev cX4_leaves : ByteArray := prog_20_method_14_code
def yX4_leaves : MethodName := ⟨RX4, "leaves", "(II)I"⟩
def dkwX4_leaves_2 : List UInt8 := [182, 0, 76, 96, 96, 62, 132, 4, 1, 167, 255, 217, 29, 172]
abbrev dktX4_leaves_2 : List UInt8 := dkwX4_leaves_2 ++ []
def dkwX4_leaves_1 : List UInt8 := [42, 27, 7, 6, 21, 4, 104, 96, 4, 96, 182, 0, 76, 42, 27, 7, 6, 21, 4, 104, 96, 5, 96]
abbrev dktX4_leaves_1 : List UInt8 := dkwX4_leaves_1 ++ dktX4_leaves_2
def dkwX4_leaves_0 : List UInt8 := [42, 27, 4, 182, 0, 76, 42, 27, 5, 182, 0, 76, 96, 62, 4, 54, 4, 21, 4, 28, 163, 0, 39, 29]
abbrev dktX4_leaves_0 : List UInt8 := dkwX4_leaves_0 ++ dktX4_leaves_1
theorem dksX4_leaves_0 : cX4_leaves.data.toList.drop 0 = dktX4_leaves_0 := by decide +kernel
theorem dksX4_leaves_1 : cX4_leaves.data.toList.drop 24 = dktX4_leaves_1 := dk_seg dksX4_leaves_0 24 rfl rfl
theorem dksX4_leaves_2 : cX4_leaves.data.toList.drop 47 = dktX4_leaves_2 := dk_seg dksX4_leaves_1 23 rfl rfl
theorem dX4_leaves_0 : decode cX4_leaves 0 = .ok (.aload_n 0, 1) := dk_42 (dk_at dksX4_leaves_0 0 rfl rfl)
theorem dX4_leaves_1 : decode cX4_leaves 1 = .ok (.iload_n 1, 1) := dk_27 (dk_at dksX4_leaves_0 1 rfl rfl)
theorem dX4_leaves_2 : decode cX4_leaves 2 = .ok (.iconst 1, 1) := dk_4 (dk_at dksX4_leaves_0 2 rfl rfl)
theorem dX4_leaves_3 : decode cX4_leaves 3 = .ok (.invokevirtual 76, 3) := dk_182 0 76 (dk_at dksX4_leaves_0 3 rfl rfl)
theorem dX4_leaves_6 : decode cX4_leaves 6 = .ok (.aload_n 0, 1) := dk_42 (dk_at dksX4_leaves_0 6 rfl rfl)
theorem dX4_leaves_7 : decode cX4_leaves 7 = .ok (.iload_n 1, 1) := dk_27 (dk_at dksX4_leaves_0 7 rfl rfl)
theorem dX4_leaves_8 : decode cX4_leaves 8 = .ok (.iconst 2, 1) := dk_5 (dk_at dksX4_leaves_0 8 rfl rfl)
theorem dX4_leaves_9 : decode cX4_leaves 9 = .ok (.invokevirtual 76, 3) := dk_182 0 76 (dk_at dksX4_leaves_0 9 rfl rfl)
theorem dX4_leaves_12 : decode cX4_leaves 12 = .ok (.iadd, 1) := dk_96 (dk_at dksX4_leaves_0 12 rfl rfl)
theorem dX4_leaves_13 : decode cX4_leaves 13 = .ok (.istore_n 3, 1) := dk_62 (dk_at dksX4_leaves_0 13 rfl rfl)
theorem dX4_leaves_14 : decode cX4_leaves 14 = .ok (.iconst 1, 1) := dk_4 (dk_at dksX4_leaves_0 14 rfl rfl)
theorem dX4_leaves_15 : decode cX4_leaves 15 = .ok (.istore 4, 2) := dk_54 4 (dk_at dksX4_leaves_0 15 rfl rfl)
theorem dX4_leaves_17 : decode cX4_leaves 17 = .ok (.iload 4, 2) := dk_21 4 (dk_at dksX4_leaves_0 17 rfl rfl)
theorem dX4_leaves_19 : decode cX4_leaves 19 = .ok (.iload_n 2, 1) := dk_28 (dk_at dksX4_leaves_0 19 rfl rfl)
theorem dX4_leaves_20 : decode cX4_leaves 20 = .ok (.if_icmp .gt 39, 3) := dk_163 0 39 (dk_at dksX4_leaves_0 20 rfl rfl)
theorem dX4_leaves_23 : decode cX4_leaves 23 = .ok (.iload_n 3, 1) := dk_29 (dk_at dksX4_leaves_0 23 rfl rfl)
theorem dX4_leaves_24 : decode cX4_leaves 24 = .ok (.aload_n 0, 1) := dk_42 (dk_at dksX4_leaves_1 0 rfl rfl)
theorem dX4_leaves_25 : decode cX4_leaves 25 = .ok (.iload_n 1, 1) := dk_27 (dk_at dksX4_leaves_1 1 rfl rfl)
theorem dX4_leaves_26 : decode cX4_leaves 26 = .ok (.iconst 4, 1) := dk_7 (dk_at dksX4_leaves_1 2 rfl rfl)
theorem dX4_leaves_27 : decode cX4_leaves 27 = .ok (.iconst 3, 1) := dk_6 (dk_at dksX4_leaves_1 3 rfl rfl)
theorem dX4_leaves_28 : decode cX4_leaves 28 = .ok (.iload 4, 2) := dk_21 4 (dk_at dksX4_leaves_1 4 rfl rfl)
theorem dX4_leaves_30 : decode cX4_leaves 30 = .ok (.imul, 1) := dk_104 (dk_at dksX4_leaves_1 6 rfl rfl)
theorem dX4_leaves_31 : decode cX4_leaves 31 = .ok (.iadd, 1) := dk_96 (dk_at dksX4_leaves_1 7 rfl rfl)
theorem dX4_leaves_32 : decode cX4_leaves 32 = .ok (.iconst 1, 1) := dk_4 (dk_at dksX4_leaves_1 8 rfl rfl)
theorem dX4_leaves_33 : decode cX4_leaves 33 = .ok (.iadd, 1) := dk_96 (dk_at dksX4_leaves_1 9 rfl rfl)
theorem dX4_leaves_34 : decode cX4_leaves 34 = .ok (.invokevirtual 76, 3) := dk_182 0 76 (dk_at dksX4_leaves_1 10 rfl rfl)
theorem dX4_leaves_37 : decode cX4_leaves 37 = .ok (.aload_n 0, 1) := dk_42 (dk_at dksX4_leaves_1 13 rfl rfl)
theorem dX4_leaves_38 : decode cX4_leaves 38 = .ok (.iload_n 1, 1) := dk_27 (dk_at dksX4_leaves_1 14 rfl rfl)
theorem dX4_leaves_39 : decode cX4_leaves 39 = .ok (.iconst 4, 1) := dk_7 (dk_at dksX4_leaves_1 15 rfl rfl)
theorem dX4_leaves_40 : decode cX4_leaves 40 = .ok (.iconst 3, 1) := dk_6 (dk_at dksX4_leaves_1 16 rfl rfl)
theorem dX4_leaves_41 : decode cX4_leaves 41 = .ok (.iload 4, 2) := dk_21 4 (dk_at dksX4_leaves_1 17 rfl rfl)
theorem dX4_leaves_43 : decode cX4_leaves 43 = .ok (.imul, 1) := dk_104 (dk_at dksX4_leaves_1 19 rfl rfl)
theorem dX4_leaves_44 : decode cX4_leaves 44 = .ok (.iadd, 1) := dk_96 (dk_at dksX4_leaves_1 20 rfl rfl)
theorem dX4_leaves_45 : decode cX4_leaves 45 = .ok (.iconst 2, 1) := dk_5 (dk_at dksX4_leaves_1 21 rfl rfl)
theorem dX4_leaves_46 : decode cX4_leaves 46 = .ok (.iadd, 1) := dk_96 (dk_at dksX4_leaves_1 22 rfl rfl)
theorem dX4_leaves_47 : decode cX4_leaves 47 = .ok (.invokevirtual 76, 3) := dk_182 0 76 (dk_at dksX4_leaves_2 0 rfl rfl)
theorem dX4_leaves_50 : decode cX4_leaves 50 = .ok (.iadd, 1) := dk_96 (dk_at dksX4_leaves_2 3 rfl rfl)
theorem dX4_leaves_51 : decode cX4_leaves 51 = .ok (.iadd, 1) := dk_96 (dk_at dksX4_leaves_2 4 rfl rfl)
theorem dX4_leaves_52 : decode cX4_leaves 52 = .ok (.istore_n 3, 1) := dk_62 (dk_at dksX4_leaves_2 5 rfl rfl)
theorem dX4_leaves_53 : decode cX4_leaves 53 = .ok (.iinc 4 1, 3) := dk_132 4 1 (dk_at dksX4_leaves_2 6 rfl rfl)
theorem dX4_leaves_56 : decode cX4_leaves 56 = .ok (.goto (-39), 3) := dk_167 255 217 (dk_at dksX4_leaves_2 9 rfl rfl)
theorem dX4_leaves_59 : decode cX4_leaves 59 = .ok (.iload_n 3, 1) := dk_29 (dk_at dksX4_leaves_2 12 rfl rfl)
theorem dX4_leaves_60 : decode cX4_leaves 60 = .ok (.ireturn, 1) := dk_172 (dk_at dksX4_leaves_2 13 rfl rfl)
abbrev cX4_isTaken : ByteArray := prog_20_method_18_code
def yX4_isTaken : MethodName := ⟨RX4, "isTaken", "(II)Z"⟩
def dkwX4_isTaken_0 : List UInt8 := [42, 27, 28, 182, 0, 89, 42, 27, 3, 182, 0, 76, 161, 0, 7, 4, 167, 0, 4, 3, 172]
abbrev dktX4_isTaken_0 : List UInt8 := dkwX4_isTaken_0 ++ []
theorem dksX4_isTaken_0 : cX4_isTaken.data.toList.drop 0 = dktX4_isTaken_0 := by decide +kernel
theorem dX4_isTaken_0 : decode cX4_isTaken 0 = .ok (.aload_n 0, 1) := dk_42 (dk_at dksX4_isTaken_0 0 rfl rfl)
theorem dX4_isTaken_1 : decode cX4_isTaken 1 = .ok (.iload_n 1, 1) := dk_27 (dk_at dksX4_isTaken_0 1 rfl rfl)
theorem dX4_isTaken_2 : decode cX4_isTaken 2 = .ok (.iload_n 2, 1) := dk_28 (dk_at dksX4_isTaken_0 2 rfl rfl)
theorem dX4_isTaken_3 : decode cX4_isTaken 3 = .ok (.invokevirtual 89, 3) := dk_182 0 89 (dk_at dksX4_isTaken_0 3 rfl rfl)
theorem dX4_isTaken_6 : decode cX4_isTaken 6 = .ok (.aload_n 0, 1) := dk_42 (dk_at dksX4_isTaken_0 6 rfl rfl)
theorem dX4_isTaken_7 : decode cX4_isTaken 7 = .ok (.iload_n 1, 1) := dk_27 (dk_at dksX4_isTaken_0 7 rfl rfl)
theorem dX4_isTaken_8 : decode cX4_isTaken 8 = .ok (.iconst 0, 1) := dk_3 (dk_at dksX4_isTaken_0 8 rfl rfl)
theorem dX4_isTaken_9 : decode cX4_isTaken 9 = .ok (.invokevirtual 76, 3) := dk_182 0 76 (dk_at dksX4_isTaken_0 9 rfl rfl)
theorem dX4_isTaken_12 : decode cX4_isTaken 12 = .ok (.if_icmp .lt 7, 3) := dk_161 0 7 (dk_at dksX4_isTaken_0 12 rfl rfl)
theorem dX4_isTaken_15 : decode cX4_isTaken 15 = .ok (.iconst 1, 1) := dk_4 (dk_at dksX4_isTaken_0 15 rfl rfl)
theorem dX4_isTaken_16 : decode cX4_isTaken 16 = .ok (.goto 4, 3) := dk_167 0 4 (dk_at dksX4_isTaken_0 16 rfl rfl)
theorem dX4_isTaken_19 : decode cX4_isTaken 19 = .ok (.iconst 0, 1) := dk_3 (dk_at dksX4_isTaken_0 19 rfl rfl)
theorem dX4_isTaken_20 : decode cX4_isTaken 20 = .ok (.ireturn, 1) := dk_172 (dk_at dksX4_isTaken_0 20 rfl rfl)
abbrev cX4_carries : ByteArray := prog_20_method_17_code
def yX4_carries : MethodName := ⟨RX4, "carries", "(II)I"⟩
def dkwX4_carries_0 : List UInt8 := [42, 27, 28, 182, 0, 86, 42, 27, 16, 28, 28, 96, 182, 0, 76, 96, 172]
abbrev dktX4_carries_0 : List UInt8 := dkwX4_carries_0 ++ []
theorem dksX4_carries_0 : cX4_carries.data.toList.drop 0 = dktX4_carries_0 := by decide +kernel
theorem dX4_carries_0 : decode cX4_carries 0 = .ok (.aload_n 0, 1) := dk_42 (dk_at dksX4_carries_0 0 rfl rfl)
theorem dX4_carries_1 : decode cX4_carries 1 = .ok (.iload_n 1, 1) := dk_27 (dk_at dksX4_carries_0 1 rfl rfl)
theorem dX4_carries_2 : decode cX4_carries 2 = .ok (.iload_n 2, 1) := dk_28 (dk_at dksX4_carries_0 2 rfl rfl)
theorem dX4_carries_3 : decode cX4_carries 3 = .ok (.invokevirtual 86, 3) := dk_182 0 86 (dk_at dksX4_carries_0 3 rfl rfl)
theorem dX4_carries_6 : decode cX4_carries 6 = .ok (.aload_n 0, 1) := dk_42 (dk_at dksX4_carries_0 6 rfl rfl)
theorem dX4_carries_7 : decode cX4_carries 7 = .ok (.iload_n 1, 1) := dk_27 (dk_at dksX4_carries_0 7 rfl rfl)
theorem dX4_carries_8 : decode cX4_carries 8 = .ok (.bipush 28, 2) := dk_16 28 (dk_at dksX4_carries_0 8 rfl rfl)
theorem dX4_carries_10 : decode cX4_carries 10 = .ok (.iload_n 2, 1) := dk_28 (dk_at dksX4_carries_0 10 rfl rfl)
theorem dX4_carries_11 : decode cX4_carries 11 = .ok (.iadd, 1) := dk_96 (dk_at dksX4_carries_0 11 rfl rfl)
theorem dX4_carries_12 : decode cX4_carries 12 = .ok (.invokevirtual 76, 3) := dk_182 0 76 (dk_at dksX4_carries_0 12 rfl rfl)
theorem dX4_carries_15 : decode cX4_carries 15 = .ok (.iadd, 1) := dk_96 (dk_at dksX4_carries_0 15 rfl rfl)
theorem dX4_carries_16 : decode cX4_carries 16 = .ok (.ireturn, 1) := dk_172 (dk_at dksX4_carries_0 16 rfl rfl)
abbrev cX4_booked : ByteArray := prog_20_method_16_code
def yX4_booked : MethodName := ⟨RX4, "booked", "(II)I"⟩
def dkwX4_booked_2 : List UInt8 := [162, 0, 7, 4, 167, 0, 4, 3, 96, 62, 132, 4, 1, 167, 255, 201, 29, 172]
abbrev dktX4_booked_2 : List UInt8 := dkwX4_booked_2 ++ []
def dkwX4_booked_1 : List UInt8 := [27, 160, 0, 29, 42, 21, 4, 5, 182, 0, 83, 28, 163, 0, 18, 28, 42, 21, 4, 6, 182, 0, 83]
abbrev dktX4_booked_1 : List UInt8 := dkwX4_booked_1 ++ dktX4_booked_2
def dkwX4_booked_0 : List UInt8 := [3, 62, 3, 54, 4, 21, 4, 42, 180, 0, 7, 6, 46, 162, 0, 50, 29, 42, 21, 4, 4, 182, 0, 83]
abbrev dktX4_booked_0 : List UInt8 := dkwX4_booked_0 ++ dktX4_booked_1
theorem dksX4_booked_0 : cX4_booked.data.toList.drop 0 = dktX4_booked_0 := by decide +kernel
theorem dksX4_booked_1 : cX4_booked.data.toList.drop 24 = dktX4_booked_1 := dk_seg dksX4_booked_0 24 rfl rfl
theorem dksX4_booked_2 : cX4_booked.data.toList.drop 47 = dktX4_booked_2 := dk_seg dksX4_booked_1 23 rfl rfl
theorem dX4_booked_0 : decode cX4_booked 0 = .ok (.iconst 0, 1) := dk_3 (dk_at dksX4_booked_0 0 rfl rfl)
theorem dX4_booked_1 : decode cX4_booked 1 = .ok (.istore_n 3, 1) := dk_62 (dk_at dksX4_booked_0 1 rfl rfl)
theorem dX4_booked_2 : decode cX4_booked 2 = .ok (.iconst 0, 1) := dk_3 (dk_at dksX4_booked_0 2 rfl rfl)
theorem dX4_booked_3 : decode cX4_booked 3 = .ok (.istore 4, 2) := dk_54 4 (dk_at dksX4_booked_0 3 rfl rfl)
theorem dX4_booked_5 : decode cX4_booked 5 = .ok (.iload 4, 2) := dk_21 4 (dk_at dksX4_booked_0 5 rfl rfl)
theorem dX4_booked_7 : decode cX4_booked 7 = .ok (.aload_n 0, 1) := dk_42 (dk_at dksX4_booked_0 7 rfl rfl)
theorem dX4_booked_8 : decode cX4_booked 8 = .ok (.getfield 7, 3) := dk_180 0 7 (dk_at dksX4_booked_0 8 rfl rfl)
theorem dX4_booked_11 : decode cX4_booked 11 = .ok (.iconst 3, 1) := dk_6 (dk_at dksX4_booked_0 11 rfl rfl)
theorem dX4_booked_12 : decode cX4_booked 12 = .ok (.iaload, 1) := dk_46 (dk_at dksX4_booked_0 12 rfl rfl)
theorem dX4_booked_13 : decode cX4_booked 13 = .ok (.if_icmp .ge 50, 3) := dk_162 0 50 (dk_at dksX4_booked_0 13 rfl rfl)
theorem dX4_booked_16 : decode cX4_booked 16 = .ok (.iload_n 3, 1) := dk_29 (dk_at dksX4_booked_0 16 rfl rfl)
theorem dX4_booked_17 : decode cX4_booked 17 = .ok (.aload_n 0, 1) := dk_42 (dk_at dksX4_booked_0 17 rfl rfl)
theorem dX4_booked_18 : decode cX4_booked 18 = .ok (.iload 4, 2) := dk_21 4 (dk_at dksX4_booked_0 18 rfl rfl)
theorem dX4_booked_20 : decode cX4_booked 20 = .ok (.iconst 1, 1) := dk_4 (dk_at dksX4_booked_0 20 rfl rfl)
theorem dX4_booked_21 : decode cX4_booked 21 = .ok (.invokevirtual 83, 3) := dk_182 0 83 (dk_at dksX4_booked_0 21 rfl rfl)
theorem dX4_booked_24 : decode cX4_booked 24 = .ok (.iload_n 1, 1) := dk_27 (dk_at dksX4_booked_1 0 rfl rfl)
theorem dX4_booked_25 : decode cX4_booked 25 = .ok (.if_icmp .ne 29, 3) := dk_160 0 29 (dk_at dksX4_booked_1 1 rfl rfl)
theorem dX4_booked_28 : decode cX4_booked 28 = .ok (.aload_n 0, 1) := dk_42 (dk_at dksX4_booked_1 4 rfl rfl)
theorem dX4_booked_29 : decode cX4_booked 29 = .ok (.iload 4, 2) := dk_21 4 (dk_at dksX4_booked_1 5 rfl rfl)
theorem dX4_booked_31 : decode cX4_booked 31 = .ok (.iconst 2, 1) := dk_5 (dk_at dksX4_booked_1 7 rfl rfl)
theorem dX4_booked_32 : decode cX4_booked 32 = .ok (.invokevirtual 83, 3) := dk_182 0 83 (dk_at dksX4_booked_1 8 rfl rfl)
theorem dX4_booked_35 : decode cX4_booked 35 = .ok (.iload_n 2, 1) := dk_28 (dk_at dksX4_booked_1 11 rfl rfl)
theorem dX4_booked_36 : decode cX4_booked 36 = .ok (.if_icmp .gt 18, 3) := dk_163 0 18 (dk_at dksX4_booked_1 12 rfl rfl)
theorem dX4_booked_39 : decode cX4_booked 39 = .ok (.iload_n 2, 1) := dk_28 (dk_at dksX4_booked_1 15 rfl rfl)
theorem dX4_booked_40 : decode cX4_booked 40 = .ok (.aload_n 0, 1) := dk_42 (dk_at dksX4_booked_1 16 rfl rfl)
theorem dX4_booked_41 : decode cX4_booked 41 = .ok (.iload 4, 2) := dk_21 4 (dk_at dksX4_booked_1 17 rfl rfl)
theorem dX4_booked_43 : decode cX4_booked 43 = .ok (.iconst 3, 1) := dk_6 (dk_at dksX4_booked_1 19 rfl rfl)
theorem dX4_booked_44 : decode cX4_booked 44 = .ok (.invokevirtual 83, 3) := dk_182 0 83 (dk_at dksX4_booked_1 20 rfl rfl)
theorem dX4_booked_47 : decode cX4_booked 47 = .ok (.if_icmp .ge 7, 3) := dk_162 0 7 (dk_at dksX4_booked_2 0 rfl rfl)
theorem dX4_booked_50 : decode cX4_booked 50 = .ok (.iconst 1, 1) := dk_4 (dk_at dksX4_booked_2 3 rfl rfl)
theorem dX4_booked_51 : decode cX4_booked 51 = .ok (.goto 4, 3) := dk_167 0 4 (dk_at dksX4_booked_2 4 rfl rfl)
theorem dX4_booked_54 : decode cX4_booked 54 = .ok (.iconst 0, 1) := dk_3 (dk_at dksX4_booked_2 7 rfl rfl)
theorem dX4_booked_55 : decode cX4_booked 55 = .ok (.iadd, 1) := dk_96 (dk_at dksX4_booked_2 8 rfl rfl)
theorem dX4_booked_56 : decode cX4_booked 56 = .ok (.istore_n 3, 1) := dk_62 (dk_at dksX4_booked_2 9 rfl rfl)
theorem dX4_booked_57 : decode cX4_booked 57 = .ok (.iinc 4 1, 3) := dk_132 4 1 (dk_at dksX4_booked_2 10 rfl rfl)
theorem dX4_booked_60 : decode cX4_booked 60 = .ok (.goto (-55), 3) := dk_167 255 201 (dk_at dksX4_booked_2 13 rfl rfl)
theorem dX4_booked_63 : decode cX4_booked 63 = .ok (.iload_n 3, 1) := dk_29 (dk_at dksX4_booked_2 16 rfl rfl)
theorem dX4_booked_64 : decode cX4_booked 64 = .ok (.ireturn, 1) := dk_172 (dk_at dksX4_booked_2 17 rfl rfl)
abbrev cX4_by : ByteArray := prog_20_method_15_code
def yX4_by : MethodName := ⟨RX4, "by", "(II)I"⟩
def dkwX4_by_0 : List UInt8 := [42, 180, 0, 7, 17, 1, 8, 7, 27, 104, 96, 28, 96, 46, 172]
abbrev dktX4_by_0 : List UInt8 := dkwX4_by_0 ++ []
theorem dksX4_by_0 : cX4_by.data.toList.drop 0 = dktX4_by_0 := by decide +kernel
theorem dX4_by_0 : decode cX4_by 0 = .ok (.aload_n 0, 1) := dk_42 (dk_at dksX4_by_0 0 rfl rfl)
theorem dX4_by_1 : decode cX4_by 1 = .ok (.getfield 7, 3) := dk_180 0 7 (dk_at dksX4_by_0 1 rfl rfl)
theorem dX4_by_4 : decode cX4_by 4 = .ok (.sipush 264, 3) := dk_17 1 8 (dk_at dksX4_by_0 4 rfl rfl)
theorem dX4_by_7 : decode cX4_by 7 = .ok (.iconst 4, 1) := dk_7 (dk_at dksX4_by_0 7 rfl rfl)
theorem dX4_by_8 : decode cX4_by 8 = .ok (.iload_n 1, 1) := dk_27 (dk_at dksX4_by_0 8 rfl rfl)
theorem dX4_by_9 : decode cX4_by 9 = .ok (.imul, 1) := dk_104 (dk_at dksX4_by_0 9 rfl rfl)
theorem dX4_by_10 : decode cX4_by 10 = .ok (.iadd, 1) := dk_96 (dk_at dksX4_by_0 10 rfl rfl)
theorem dX4_by_11 : decode cX4_by 11 = .ok (.iload_n 2, 1) := dk_28 (dk_at dksX4_by_0 11 rfl rfl)
theorem dX4_by_12 : decode cX4_by 12 = .ok (.iadd, 1) := dk_96 (dk_at dksX4_by_0 12 rfl rfl)
theorem dX4_by_13 : decode cX4_by 13 = .ok (.iaload, 1) := dk_46 (dk_at dksX4_by_0 13 rfl rfl)
theorem dX4_by_14 : decode cX4_by 14 = .ok (.ireturn, 1) := dk_172 (dk_at dksX4_by_0 14 rfl rfl)
abbrev cX4_comes : ByteArray := prog_20_method_13_code
def yX4_comes : MethodName := ⟨RX4, "comes", "(II)I"⟩
def dkwX4_comes_0 : List UInt8 := [42, 27, 28, 4, 100, 182, 0, 80, 42, 27, 7, 6, 28, 104, 96, 4, 96, 182, 0, 76, 96, 172]
abbrev dktX4_comes_0 : List UInt8 := dkwX4_comes_0 ++ []
theorem dksX4_comes_0 : cX4_comes.data.toList.drop 0 = dktX4_comes_0 := by decide +kernel
theorem dX4_comes_0 : decode cX4_comes 0 = .ok (.aload_n 0, 1) := dk_42 (dk_at dksX4_comes_0 0 rfl rfl)
theorem dX4_comes_1 : decode cX4_comes 1 = .ok (.iload_n 1, 1) := dk_27 (dk_at dksX4_comes_0 1 rfl rfl)
theorem dX4_comes_2 : decode cX4_comes 2 = .ok (.iload_n 2, 1) := dk_28 (dk_at dksX4_comes_0 2 rfl rfl)
theorem dX4_comes_3 : decode cX4_comes 3 = .ok (.iconst 1, 1) := dk_4 (dk_at dksX4_comes_0 3 rfl rfl)
theorem dX4_comes_4 : decode cX4_comes 4 = .ok (.isub, 1) := dk_100 (dk_at dksX4_comes_0 4 rfl rfl)
theorem dX4_comes_5 : decode cX4_comes 5 = .ok (.invokevirtual 80, 3) := dk_182 0 80 (dk_at dksX4_comes_0 5 rfl rfl)
theorem dX4_comes_8 : decode cX4_comes 8 = .ok (.aload_n 0, 1) := dk_42 (dk_at dksX4_comes_0 8 rfl rfl)
theorem dX4_comes_9 : decode cX4_comes 9 = .ok (.iload_n 1, 1) := dk_27 (dk_at dksX4_comes_0 9 rfl rfl)
theorem dX4_comes_10 : decode cX4_comes 10 = .ok (.iconst 4, 1) := dk_7 (dk_at dksX4_comes_0 10 rfl rfl)
theorem dX4_comes_11 : decode cX4_comes 11 = .ok (.iconst 3, 1) := dk_6 (dk_at dksX4_comes_0 11 rfl rfl)
theorem dX4_comes_12 : decode cX4_comes 12 = .ok (.iload_n 2, 1) := dk_28 (dk_at dksX4_comes_0 12 rfl rfl)
theorem dX4_comes_13 : decode cX4_comes 13 = .ok (.imul, 1) := dk_104 (dk_at dksX4_comes_0 13 rfl rfl)
theorem dX4_comes_14 : decode cX4_comes 14 = .ok (.iadd, 1) := dk_96 (dk_at dksX4_comes_0 14 rfl rfl)
theorem dX4_comes_15 : decode cX4_comes 15 = .ok (.iconst 1, 1) := dk_4 (dk_at dksX4_comes_0 15 rfl rfl)
theorem dX4_comes_16 : decode cX4_comes 16 = .ok (.iadd, 1) := dk_96 (dk_at dksX4_comes_0 16 rfl rfl)
theorem dX4_comes_17 : decode cX4_comes 17 = .ok (.invokevirtual 76, 3) := dk_182 0 76 (dk_at dksX4_comes_0 17 rfl rfl)
theorem dX4_comes_20 : decode cX4_comes 20 = .ok (.iadd, 1) := dk_96 (dk_at dksX4_comes_0 20 rfl rfl)
theorem dX4_comes_21 : decode cX4_comes 21 = .ok (.ireturn, 1) := dk_172 (dk_at dksX4_comes_0 21 rfl rfl)
abbrev cX4_arrival : ByteArray := prog_20_method_30_code
def yX4_arrival : MethodName := ⟨RX4, "arrival", "(III)I"⟩
def dkwX4_arrival_0 : List UInt8 := [42, 27, 28, 29, 182, 0, 137, 172]
abbrev dktX4_arrival_0 : List UInt8 := dkwX4_arrival_0 ++ []
theorem dksX4_arrival_0 : cX4_arrival.data.toList.drop 0 = dktX4_arrival_0 := by decide +kernel
theorem dX4_arrival_0 : decode cX4_arrival 0 = .ok (.aload_n 0, 1) := dk_42 (dk_at dksX4_arrival_0 0 rfl rfl)
theorem dX4_arrival_1 : decode cX4_arrival 1 = .ok (.iload_n 1, 1) := dk_27 (dk_at dksX4_arrival_0 1 rfl rfl)
theorem dX4_arrival_2 : decode cX4_arrival 2 = .ok (.iload_n 2, 1) := dk_28 (dk_at dksX4_arrival_0 2 rfl rfl)
theorem dX4_arrival_3 : decode cX4_arrival 3 = .ok (.iload_n 3, 1) := dk_29 (dk_at dksX4_arrival_0 3 rfl rfl)
theorem dX4_arrival_4 : decode cX4_arrival 4 = .ok (.invokevirtual 137, 3) := dk_182 0 137 (dk_at dksX4_arrival_0 4 rfl rfl)
theorem dX4_arrival_7 : decode cX4_arrival 7 = .ok (.ireturn, 1) := dk_172 (dk_at dksX4_arrival_0 7 rfl rfl)
abbrev cX4_arrives : ByteArray := prog_20_method_29_code
def yX4_arrives : MethodName := ⟨RX4, "arrives", "(III)I"⟩
def dkwX4_arrives_2 : List UInt8 := [180, 0, 36, 28, 46, 172]
abbrev dktX4_arrives_2 : List UInt8 := dkwX4_arrives_2 ++ []
def dkwX4_arrives_1 : List UInt8 := [46, 18, 111, 160, 0, 7, 6, 167, 0, 4, 3, 182, 0, 92, 153, 0, 7, 3, 167, 0, 9, 42]
abbrev dktX4_arrives_1 : List UInt8 := dkwX4_arrives_1 ++ dktX4_arrives_2
def dkwX4_arrives_0 : List UInt8 := [42, 27, 28, 29, 182, 0, 131, 154, 0, 5, 3, 172, 42, 27, 29, 182, 0, 134, 42, 42, 180, 0, 36, 28]
abbrev dktX4_arrives_0 : List UInt8 := dkwX4_arrives_0 ++ dktX4_arrives_1
theorem dksX4_arrives_0 : cX4_arrives.data.toList.drop 0 = dktX4_arrives_0 := by decide +kernel
theorem dksX4_arrives_1 : cX4_arrives.data.toList.drop 24 = dktX4_arrives_1 := dk_seg dksX4_arrives_0 24 rfl rfl
theorem dksX4_arrives_2 : cX4_arrives.data.toList.drop 46 = dktX4_arrives_2 := dk_seg dksX4_arrives_1 22 rfl rfl
theorem dX4_arrives_0 : decode cX4_arrives 0 = .ok (.aload_n 0, 1) := dk_42 (dk_at dksX4_arrives_0 0 rfl rfl)
theorem dX4_arrives_1 : decode cX4_arrives 1 = .ok (.iload_n 1, 1) := dk_27 (dk_at dksX4_arrives_0 1 rfl rfl)
theorem dX4_arrives_2 : decode cX4_arrives 2 = .ok (.iload_n 2, 1) := dk_28 (dk_at dksX4_arrives_0 2 rfl rfl)
theorem dX4_arrives_3 : decode cX4_arrives 3 = .ok (.iload_n 3, 1) := dk_29 (dk_at dksX4_arrives_0 3 rfl rfl)
theorem dX4_arrives_4 : decode cX4_arrives 4 = .ok (.invokevirtual 131, 3) := dk_182 0 131 (dk_at dksX4_arrives_0 4 rfl rfl)
theorem dX4_arrives_7 : decode cX4_arrives 7 = .ok (.ifCond .ne 5, 3) := dk_154 0 5 (dk_at dksX4_arrives_0 7 rfl rfl)
theorem dX4_arrives_10 : decode cX4_arrives 10 = .ok (.iconst 0, 1) := dk_3 (dk_at dksX4_arrives_0 10 rfl rfl)
theorem dX4_arrives_11 : decode cX4_arrives 11 = .ok (.ireturn, 1) := dk_172 (dk_at dksX4_arrives_0 11 rfl rfl)
theorem dX4_arrives_12 : decode cX4_arrives 12 = .ok (.aload_n 0, 1) := dk_42 (dk_at dksX4_arrives_0 12 rfl rfl)
theorem dX4_arrives_13 : decode cX4_arrives 13 = .ok (.iload_n 1, 1) := dk_27 (dk_at dksX4_arrives_0 13 rfl rfl)
theorem dX4_arrives_14 : decode cX4_arrives 14 = .ok (.iload_n 3, 1) := dk_29 (dk_at dksX4_arrives_0 14 rfl rfl)
theorem dX4_arrives_15 : decode cX4_arrives 15 = .ok (.invokevirtual 134, 3) := dk_182 0 134 (dk_at dksX4_arrives_0 15 rfl rfl)
theorem dX4_arrives_18 : decode cX4_arrives 18 = .ok (.aload_n 0, 1) := dk_42 (dk_at dksX4_arrives_0 18 rfl rfl)
theorem dX4_arrives_19 : decode cX4_arrives 19 = .ok (.aload_n 0, 1) := dk_42 (dk_at dksX4_arrives_0 19 rfl rfl)
theorem dX4_arrives_20 : decode cX4_arrives 20 = .ok (.getfield 36, 3) := dk_180 0 36 (dk_at dksX4_arrives_0 20 rfl rfl)
theorem dX4_arrives_23 : decode cX4_arrives 23 = .ok (.iload_n 2, 1) := dk_28 (dk_at dksX4_arrives_0 23 rfl rfl)
theorem dX4_arrives_24 : decode cX4_arrives 24 = .ok (.iaload, 1) := dk_46 (dk_at dksX4_arrives_1 0 rfl rfl)
theorem dX4_arrives_25 : decode cX4_arrives 25 = .ok (.ldc 111, 2) := dk_18 111 (dk_at dksX4_arrives_1 1 rfl rfl)
theorem dX4_arrives_27 : decode cX4_arrives 27 = .ok (.if_icmp .ne 7, 3) := dk_160 0 7 (dk_at dksX4_arrives_1 3 rfl rfl)
theorem dX4_arrives_30 : decode cX4_arrives 30 = .ok (.iconst 3, 1) := dk_6 (dk_at dksX4_arrives_1 6 rfl rfl)
theorem dX4_arrives_31 : decode cX4_arrives 31 = .ok (.goto 4, 3) := dk_167 0 4 (dk_at dksX4_arrives_1 7 rfl rfl)
theorem dX4_arrives_34 : decode cX4_arrives 34 = .ok (.iconst 0, 1) := dk_3 (dk_at dksX4_arrives_1 10 rfl rfl)
theorem dX4_arrives_35 : decode cX4_arrives 35 = .ok (.invokevirtual 92, 3) := dk_182 0 92 (dk_at dksX4_arrives_1 11 rfl rfl)
theorem dX4_arrives_38 : decode cX4_arrives 38 = .ok (.ifCond .eq 7, 3) := dk_153 0 7 (dk_at dksX4_arrives_1 14 rfl rfl)
theorem dX4_arrives_41 : decode cX4_arrives 41 = .ok (.iconst 0, 1) := dk_3 (dk_at dksX4_arrives_1 17 rfl rfl)
theorem dX4_arrives_42 : decode cX4_arrives 42 = .ok (.goto 9, 3) := dk_167 0 9 (dk_at dksX4_arrives_1 18 rfl rfl)
theorem dX4_arrives_45 : decode cX4_arrives 45 = .ok (.aload_n 0, 1) := dk_42 (dk_at dksX4_arrives_1 21 rfl rfl)
theorem dX4_arrives_46 : decode cX4_arrives 46 = .ok (.getfield 36, 3) := dk_180 0 36 (dk_at dksX4_arrives_2 0 rfl rfl)
theorem dX4_arrives_49 : decode cX4_arrives 49 = .ok (.iload_n 2, 1) := dk_28 (dk_at dksX4_arrives_2 3 rfl rfl)
theorem dX4_arrives_50 : decode cX4_arrives 50 = .ok (.iaload, 1) := dk_46 (dk_at dksX4_arrives_2 4 rfl rfl)
theorem dX4_arrives_51 : decode cX4_arrives 51 = .ok (.ireturn, 1) := dk_172 (dk_at dksX4_arrives_2 5 rfl rfl)
abbrev cX4_arrivalByScanning : ByteArray := prog_20_method_31_code
def yX4_arrivalByScanning : MethodName := ⟨RX4, "arrivalByScanning", "(III)I"⟩
def dkwX4_arrivalByScanning_0 : List UInt8 := [42, 27, 28, 29, 182, 0, 137, 172]
abbrev dktX4_arrivalByScanning_0 : List UInt8 := dkwX4_arrivalByScanning_0 ++ []
theorem dksX4_arrivalByScanning_0 : cX4_arrivalByScanning.data.toList.drop 0 = dktX4_arrivalByScanning_0 := by decide +kernel
theorem dX4_arrivalByScanning_0 : decode cX4_arrivalByScanning 0 = .ok (.aload_n 0, 1) := dk_42 (dk_at dksX4_arrivalByScanning_0 0 rfl rfl)
theorem dX4_arrivalByScanning_1 : decode cX4_arrivalByScanning 1 = .ok (.iload_n 1, 1) := dk_27 (dk_at dksX4_arrivalByScanning_0 1 rfl rfl)
theorem dX4_arrivalByScanning_2 : decode cX4_arrivalByScanning 2 = .ok (.iload_n 2, 1) := dk_28 (dk_at dksX4_arrivalByScanning_0 2 rfl rfl)
theorem dX4_arrivalByScanning_3 : decode cX4_arrivalByScanning 3 = .ok (.iload_n 3, 1) := dk_29 (dk_at dksX4_arrivalByScanning_0 3 rfl rfl)
theorem dX4_arrivalByScanning_4 : decode cX4_arrivalByScanning 4 = .ok (.invokevirtual 137, 3) := dk_182 0 137 (dk_at dksX4_arrivalByScanning_0 4 rfl rfl)
theorem dX4_arrivalByScanning_7 : decode cX4_arrivalByScanning 7 = .ok (.ireturn, 1) := dk_172 (dk_at dksX4_arrivalByScanning_0 7 rfl rfl)
abbrev cX4_boardings : ByteArray := prog_20_method_32_code
def yX4_boardings : MethodName := ⟨RX4, "boardings", "(III)I"⟩
def dkwX4_boardings_6 : List UInt8 := [153, 0, 7, 3, 167, 0, 5, 21, 4, 172]
abbrev dktX4_boardings_6 : List UInt8 := dkwX4_boardings_6 ++ []
def dkwX4_boardings_5 : List UInt8 := [167, 255, 163, 42, 42, 180, 0, 36, 28, 46, 18, 111, 160, 0, 7, 6, 167, 0, 4, 3, 182, 0, 92]
abbrev dktX4_boardings_5 : List UInt8 := dkwX4_boardings_5 ++ dktX4_boardings_6
def dkwX4_boardings_4 : List UInt8 := [180, 0, 36, 21, 6, 42, 180, 0, 39, 21, 6, 46, 79, 132, 6, 1, 167, 255, 232, 132, 4, 1]
abbrev dktX4_boardings_4 : List UInt8 := dkwX4_boardings_4 ++ dktX4_boardings_5
def dkwX4_boardings_3 : List UInt8 := [42, 180, 0, 36, 42, 180, 0, 39, 182, 0, 127, 54, 5, 3, 54, 6, 21, 6, 16, 8, 162, 0, 23, 42]
abbrev dktX4_boardings_3 : List UInt8 := dkwX4_boardings_3 ++ dktX4_boardings_4
def dkwX4_boardings_2 : List UInt8 := [162, 0, 23, 42, 180, 0, 39, 21, 6, 42, 180, 0, 36, 21, 6, 46, 79, 132, 6, 1, 167, 255, 232, 42]
abbrev dktX4_boardings_2 : List UInt8 := dkwX4_boardings_2 ++ dktX4_boardings_3
def dkwX4_boardings_1 : List UInt8 := [21, 5, 153, 0, 94, 42, 180, 0, 36, 28, 46, 18, 111, 160, 0, 83, 3, 54, 6, 21, 6, 16, 8]
abbrev dktX4_boardings_1 : List UInt8 := dkwX4_boardings_1 ++ dktX4_boardings_2
def dkwX4_boardings_0 : List UInt8 := [42, 27, 28, 29, 182, 0, 131, 154, 0, 5, 3, 172, 42, 27, 29, 182, 0, 123, 3, 54, 4, 4, 54, 5]
abbrev dktX4_boardings_0 : List UInt8 := dkwX4_boardings_0 ++ dktX4_boardings_1
theorem dksX4_boardings_0 : cX4_boardings.data.toList.drop 0 = dktX4_boardings_0 := by decide +kernel
theorem dksX4_boardings_1 : cX4_boardings.data.toList.drop 24 = dktX4_boardings_1 := dk_seg dksX4_boardings_0 24 rfl rfl
theorem dksX4_boardings_2 : cX4_boardings.data.toList.drop 47 = dktX4_boardings_2 := dk_seg dksX4_boardings_1 23 rfl rfl
theorem dksX4_boardings_3 : cX4_boardings.data.toList.drop 71 = dktX4_boardings_3 := dk_seg dksX4_boardings_2 24 rfl rfl
theorem dksX4_boardings_4 : cX4_boardings.data.toList.drop 95 = dktX4_boardings_4 := dk_seg dksX4_boardings_3 24 rfl rfl
theorem dksX4_boardings_5 : cX4_boardings.data.toList.drop 117 = dktX4_boardings_5 := dk_seg dksX4_boardings_4 22 rfl rfl
theorem dksX4_boardings_6 : cX4_boardings.data.toList.drop 140 = dktX4_boardings_6 := dk_seg dksX4_boardings_5 23 rfl rfl
theorem dX4_boardings_0 : decode cX4_boardings 0 = .ok (.aload_n 0, 1) := dk_42 (dk_at dksX4_boardings_0 0 rfl rfl)
theorem dX4_boardings_1 : decode cX4_boardings 1 = .ok (.iload_n 1, 1) := dk_27 (dk_at dksX4_boardings_0 1 rfl rfl)
theorem dX4_boardings_2 : decode cX4_boardings 2 = .ok (.iload_n 2, 1) := dk_28 (dk_at dksX4_boardings_0 2 rfl rfl)
theorem dX4_boardings_3 : decode cX4_boardings 3 = .ok (.iload_n 3, 1) := dk_29 (dk_at dksX4_boardings_0 3 rfl rfl)
theorem dX4_boardings_4 : decode cX4_boardings 4 = .ok (.invokevirtual 131, 3) := dk_182 0 131 (dk_at dksX4_boardings_0 4 rfl rfl)
theorem dX4_boardings_7 : decode cX4_boardings 7 = .ok (.ifCond .ne 5, 3) := dk_154 0 5 (dk_at dksX4_boardings_0 7 rfl rfl)
theorem dX4_boardings_10 : decode cX4_boardings 10 = .ok (.iconst 0, 1) := dk_3 (dk_at dksX4_boardings_0 10 rfl rfl)
theorem dX4_boardings_11 : decode cX4_boardings 11 = .ok (.ireturn, 1) := dk_172 (dk_at dksX4_boardings_0 11 rfl rfl)
theorem dX4_boardings_12 : decode cX4_boardings 12 = .ok (.aload_n 0, 1) := dk_42 (dk_at dksX4_boardings_0 12 rfl rfl)
theorem dX4_boardings_13 : decode cX4_boardings 13 = .ok (.iload_n 1, 1) := dk_27 (dk_at dksX4_boardings_0 13 rfl rfl)
theorem dX4_boardings_14 : decode cX4_boardings 14 = .ok (.iload_n 3, 1) := dk_29 (dk_at dksX4_boardings_0 14 rfl rfl)
theorem dX4_boardings_15 : decode cX4_boardings 15 = .ok (.invokevirtual 123, 3) := dk_182 0 123 (dk_at dksX4_boardings_0 15 rfl rfl)
theorem dX4_boardings_18 : decode cX4_boardings 18 = .ok (.iconst 0, 1) := dk_3 (dk_at dksX4_boardings_0 18 rfl rfl)
theorem dX4_boardings_19 : decode cX4_boardings 19 = .ok (.istore 4, 2) := dk_54 4 (dk_at dksX4_boardings_0 19 rfl rfl)
theorem dX4_boardings_21 : decode cX4_boardings 21 = .ok (.iconst 1, 1) := dk_4 (dk_at dksX4_boardings_0 21 rfl rfl)
theorem dX4_boardings_22 : decode cX4_boardings 22 = .ok (.istore 5, 2) := dk_54 5 (dk_at dksX4_boardings_0 22 rfl rfl)
theorem dX4_boardings_24 : decode cX4_boardings 24 = .ok (.iload 5, 2) := dk_21 5 (dk_at dksX4_boardings_1 0 rfl rfl)
theorem dX4_boardings_26 : decode cX4_boardings 26 = .ok (.ifCond .eq 94, 3) := dk_153 0 94 (dk_at dksX4_boardings_1 2 rfl rfl)
theorem dX4_boardings_29 : decode cX4_boardings 29 = .ok (.aload_n 0, 1) := dk_42 (dk_at dksX4_boardings_1 5 rfl rfl)
theorem dX4_boardings_30 : decode cX4_boardings 30 = .ok (.getfield 36, 3) := dk_180 0 36 (dk_at dksX4_boardings_1 6 rfl rfl)
theorem dX4_boardings_33 : decode cX4_boardings 33 = .ok (.iload_n 2, 1) := dk_28 (dk_at dksX4_boardings_1 9 rfl rfl)
theorem dX4_boardings_34 : decode cX4_boardings 34 = .ok (.iaload, 1) := dk_46 (dk_at dksX4_boardings_1 10 rfl rfl)
theorem dX4_boardings_35 : decode cX4_boardings 35 = .ok (.ldc 111, 2) := dk_18 111 (dk_at dksX4_boardings_1 11 rfl rfl)
theorem dX4_boardings_37 : decode cX4_boardings 37 = .ok (.if_icmp .ne 83, 3) := dk_160 0 83 (dk_at dksX4_boardings_1 13 rfl rfl)
theorem dX4_boardings_40 : decode cX4_boardings 40 = .ok (.iconst 0, 1) := dk_3 (dk_at dksX4_boardings_1 16 rfl rfl)
theorem dX4_boardings_41 : decode cX4_boardings 41 = .ok (.istore 6, 2) := dk_54 6 (dk_at dksX4_boardings_1 17 rfl rfl)
theorem dX4_boardings_43 : decode cX4_boardings 43 = .ok (.iload 6, 2) := dk_21 6 (dk_at dksX4_boardings_1 19 rfl rfl)
theorem dX4_boardings_45 : decode cX4_boardings 45 = .ok (.bipush 8, 2) := dk_16 8 (dk_at dksX4_boardings_1 21 rfl rfl)
theorem dX4_boardings_47 : decode cX4_boardings 47 = .ok (.if_icmp .ge 23, 3) := dk_162 0 23 (dk_at dksX4_boardings_2 0 rfl rfl)
theorem dX4_boardings_50 : decode cX4_boardings 50 = .ok (.aload_n 0, 1) := dk_42 (dk_at dksX4_boardings_2 3 rfl rfl)
theorem dX4_boardings_51 : decode cX4_boardings 51 = .ok (.getfield 39, 3) := dk_180 0 39 (dk_at dksX4_boardings_2 4 rfl rfl)
theorem dX4_boardings_54 : decode cX4_boardings 54 = .ok (.iload 6, 2) := dk_21 6 (dk_at dksX4_boardings_2 7 rfl rfl)
theorem dX4_boardings_56 : decode cX4_boardings 56 = .ok (.aload_n 0, 1) := dk_42 (dk_at dksX4_boardings_2 9 rfl rfl)
theorem dX4_boardings_57 : decode cX4_boardings 57 = .ok (.getfield 36, 3) := dk_180 0 36 (dk_at dksX4_boardings_2 10 rfl rfl)
theorem dX4_boardings_60 : decode cX4_boardings 60 = .ok (.iload 6, 2) := dk_21 6 (dk_at dksX4_boardings_2 13 rfl rfl)
theorem dX4_boardings_62 : decode cX4_boardings 62 = .ok (.iaload, 1) := dk_46 (dk_at dksX4_boardings_2 15 rfl rfl)
theorem dX4_boardings_63 : decode cX4_boardings 63 = .ok (.iastore, 1) := dk_79 (dk_at dksX4_boardings_2 16 rfl rfl)
theorem dX4_boardings_64 : decode cX4_boardings 64 = .ok (.iinc 6 1, 3) := dk_132 6 1 (dk_at dksX4_boardings_2 17 rfl rfl)
theorem dX4_boardings_67 : decode cX4_boardings 67 = .ok (.goto (-24), 3) := dk_167 255 232 (dk_at dksX4_boardings_2 20 rfl rfl)
theorem dX4_boardings_70 : decode cX4_boardings 70 = .ok (.aload_n 0, 1) := dk_42 (dk_at dksX4_boardings_2 23 rfl rfl)
theorem dX4_boardings_71 : decode cX4_boardings 71 = .ok (.aload_n 0, 1) := dk_42 (dk_at dksX4_boardings_3 0 rfl rfl)
theorem dX4_boardings_72 : decode cX4_boardings 72 = .ok (.getfield 36, 3) := dk_180 0 36 (dk_at dksX4_boardings_3 1 rfl rfl)
theorem dX4_boardings_75 : decode cX4_boardings 75 = .ok (.aload_n 0, 1) := dk_42 (dk_at dksX4_boardings_3 4 rfl rfl)
theorem dX4_boardings_76 : decode cX4_boardings 76 = .ok (.getfield 39, 3) := dk_180 0 39 (dk_at dksX4_boardings_3 5 rfl rfl)
theorem dX4_boardings_79 : decode cX4_boardings 79 = .ok (.invokevirtual 127, 3) := dk_182 0 127 (dk_at dksX4_boardings_3 8 rfl rfl)
theorem dX4_boardings_82 : decode cX4_boardings 82 = .ok (.istore 5, 2) := dk_54 5 (dk_at dksX4_boardings_3 11 rfl rfl)
theorem dX4_boardings_84 : decode cX4_boardings 84 = .ok (.iconst 0, 1) := dk_3 (dk_at dksX4_boardings_3 13 rfl rfl)
theorem dX4_boardings_85 : decode cX4_boardings 85 = .ok (.istore 6, 2) := dk_54 6 (dk_at dksX4_boardings_3 14 rfl rfl)
theorem dX4_boardings_87 : decode cX4_boardings 87 = .ok (.iload 6, 2) := dk_21 6 (dk_at dksX4_boardings_3 16 rfl rfl)
theorem dX4_boardings_89 : decode cX4_boardings 89 = .ok (.bipush 8, 2) := dk_16 8 (dk_at dksX4_boardings_3 18 rfl rfl)
theorem dX4_boardings_91 : decode cX4_boardings 91 = .ok (.if_icmp .ge 23, 3) := dk_162 0 23 (dk_at dksX4_boardings_3 20 rfl rfl)
theorem dX4_boardings_94 : decode cX4_boardings 94 = .ok (.aload_n 0, 1) := dk_42 (dk_at dksX4_boardings_3 23 rfl rfl)
theorem dX4_boardings_95 : decode cX4_boardings 95 = .ok (.getfield 36, 3) := dk_180 0 36 (dk_at dksX4_boardings_4 0 rfl rfl)
theorem dX4_boardings_98 : decode cX4_boardings 98 = .ok (.iload 6, 2) := dk_21 6 (dk_at dksX4_boardings_4 3 rfl rfl)
theorem dX4_boardings_100 : decode cX4_boardings 100 = .ok (.aload_n 0, 1) := dk_42 (dk_at dksX4_boardings_4 5 rfl rfl)
theorem dX4_boardings_101 : decode cX4_boardings 101 = .ok (.getfield 39, 3) := dk_180 0 39 (dk_at dksX4_boardings_4 6 rfl rfl)
theorem dX4_boardings_104 : decode cX4_boardings 104 = .ok (.iload 6, 2) := dk_21 6 (dk_at dksX4_boardings_4 9 rfl rfl)
theorem dX4_boardings_106 : decode cX4_boardings 106 = .ok (.iaload, 1) := dk_46 (dk_at dksX4_boardings_4 11 rfl rfl)
theorem dX4_boardings_107 : decode cX4_boardings 107 = .ok (.iastore, 1) := dk_79 (dk_at dksX4_boardings_4 12 rfl rfl)
theorem dX4_boardings_108 : decode cX4_boardings 108 = .ok (.iinc 6 1, 3) := dk_132 6 1 (dk_at dksX4_boardings_4 13 rfl rfl)
theorem dX4_boardings_111 : decode cX4_boardings 111 = .ok (.goto (-24), 3) := dk_167 255 232 (dk_at dksX4_boardings_4 16 rfl rfl)
theorem dX4_boardings_114 : decode cX4_boardings 114 = .ok (.iinc 4 1, 3) := dk_132 4 1 (dk_at dksX4_boardings_4 19 rfl rfl)
theorem dX4_boardings_117 : decode cX4_boardings 117 = .ok (.goto (-93), 3) := dk_167 255 163 (dk_at dksX4_boardings_5 0 rfl rfl)
theorem dX4_boardings_120 : decode cX4_boardings 120 = .ok (.aload_n 0, 1) := dk_42 (dk_at dksX4_boardings_5 3 rfl rfl)
theorem dX4_boardings_121 : decode cX4_boardings 121 = .ok (.aload_n 0, 1) := dk_42 (dk_at dksX4_boardings_5 4 rfl rfl)
theorem dX4_boardings_122 : decode cX4_boardings 122 = .ok (.getfield 36, 3) := dk_180 0 36 (dk_at dksX4_boardings_5 5 rfl rfl)
theorem dX4_boardings_125 : decode cX4_boardings 125 = .ok (.iload_n 2, 1) := dk_28 (dk_at dksX4_boardings_5 8 rfl rfl)
theorem dX4_boardings_126 : decode cX4_boardings 126 = .ok (.iaload, 1) := dk_46 (dk_at dksX4_boardings_5 9 rfl rfl)
theorem dX4_boardings_127 : decode cX4_boardings 127 = .ok (.ldc 111, 2) := dk_18 111 (dk_at dksX4_boardings_5 10 rfl rfl)
theorem dX4_boardings_129 : decode cX4_boardings 129 = .ok (.if_icmp .ne 7, 3) := dk_160 0 7 (dk_at dksX4_boardings_5 12 rfl rfl)
theorem dX4_boardings_132 : decode cX4_boardings 132 = .ok (.iconst 3, 1) := dk_6 (dk_at dksX4_boardings_5 15 rfl rfl)
theorem dX4_boardings_133 : decode cX4_boardings 133 = .ok (.goto 4, 3) := dk_167 0 4 (dk_at dksX4_boardings_5 16 rfl rfl)
theorem dX4_boardings_136 : decode cX4_boardings 136 = .ok (.iconst 0, 1) := dk_3 (dk_at dksX4_boardings_5 19 rfl rfl)
theorem dX4_boardings_137 : decode cX4_boardings 137 = .ok (.invokevirtual 92, 3) := dk_182 0 92 (dk_at dksX4_boardings_5 20 rfl rfl)
theorem dX4_boardings_140 : decode cX4_boardings 140 = .ok (.ifCond .eq 7, 3) := dk_153 0 7 (dk_at dksX4_boardings_6 0 rfl rfl)
theorem dX4_boardings_143 : decode cX4_boardings 143 = .ok (.iconst 0, 1) := dk_3 (dk_at dksX4_boardings_6 3 rfl rfl)
theorem dX4_boardings_144 : decode cX4_boardings 144 = .ok (.goto 5, 3) := dk_167 0 5 (dk_at dksX4_boardings_6 4 rfl rfl)
theorem dX4_boardings_147 : decode cX4_boardings 147 = .ok (.iload 4, 2) := dk_21 4 (dk_at dksX4_boardings_6 7 rfl rfl)
theorem dX4_boardings_149 : decode cX4_boardings 149 = .ok (.ireturn, 1) := dk_172 (dk_at dksX4_boardings_6 9 rfl rfl)
abbrev cX4_addSuitcase : ByteArray := prog_20_method_36_code
def yX4_addSuitcase : MethodName := ⟨RX4, "addSuitcase", "(III)I"⟩
def dkwX4_addSuitcase_6 : List UInt8 := [92, 46, 4, 96, 79, 42, 180, 0, 7, 7, 46, 4, 100, 172]
abbrev dktX4_addSuitcase_6 : List UInt8 := dkwX4_addSuitcase_6 ++ []
def dkwX4_addSuitcase_5 : List UInt8 := [180, 0, 7, 21, 4, 6, 96, 29, 79, 42, 180, 0, 7, 5, 92, 46, 4, 96, 79, 42, 180, 0, 7, 7]
abbrev dktX4_addSuitcase_5 : List UInt8 := dkwX4_addSuitcase_5 ++ dktX4_addSuitcase_6
def dkwX4_addSuitcase_4 : List UInt8 := [46, 79, 42, 180, 0, 7, 21, 4, 4, 96, 27, 79, 42, 180, 0, 7, 21, 4, 5, 96, 28, 79, 42]
abbrev dktX4_addSuitcase_4 : List UInt8 := dkwX4_addSuitcase_4 ++ dktX4_addSuitcase_5
def dkwX4_addSuitcase_3 : List UInt8 := [7, 42, 180, 0, 7, 5, 46, 104, 96, 54, 4, 42, 180, 0, 7, 21, 4, 3, 96, 42, 180, 0, 7, 7]
abbrev dktX4_addSuitcase_3 : List UInt8 := dkwX4_addSuitcase_3 ++ dktX4_addSuitcase_4
def dkwX4_addSuitcase_2 : List UInt8 := [6, 167, 0, 4, 3, 182, 0, 92, 153, 0, 5, 3, 172, 42, 42, 180, 0, 7, 182, 0, 95, 17, 0, 232]
abbrev dktX4_addSuitcase_2 : List UInt8 := dkwX4_addSuitcase_2 ++ dktX4_addSuitcase_3
def dkwX4_addSuitcase_1 : List UInt8 := [17, 39, 15, 184, 0, 68, 154, 0, 7, 5, 167, 0, 19, 42, 180, 0, 7, 5, 46, 16, 8, 160, 0, 7]
abbrev dktX4_addSuitcase_1 : List UInt8 := dkwX4_addSuitcase_1 ++ dktX4_addSuitcase_2
def dkwX4_addSuitcase_0 : List UInt8 := [42, 42, 27, 182, 0, 99, 153, 0, 11, 42, 28, 182, 0, 99, 154, 0, 7, 4, 167, 0, 34, 29, 3]
abbrev dktX4_addSuitcase_0 : List UInt8 := dkwX4_addSuitcase_0 ++ dktX4_addSuitcase_1
theorem dksX4_addSuitcase_0 : cX4_addSuitcase.data.toList.drop 0 = dktX4_addSuitcase_0 := by decide +kernel
theorem dksX4_addSuitcase_1 : cX4_addSuitcase.data.toList.drop 23 = dktX4_addSuitcase_1 := dk_seg dksX4_addSuitcase_0 23 rfl rfl
theorem dksX4_addSuitcase_2 : cX4_addSuitcase.data.toList.drop 47 = dktX4_addSuitcase_2 := dk_seg dksX4_addSuitcase_1 24 rfl rfl
theorem dksX4_addSuitcase_3 : cX4_addSuitcase.data.toList.drop 71 = dktX4_addSuitcase_3 := dk_seg dksX4_addSuitcase_2 24 rfl rfl
theorem dksX4_addSuitcase_4 : cX4_addSuitcase.data.toList.drop 95 = dktX4_addSuitcase_4 := dk_seg dksX4_addSuitcase_3 24 rfl rfl
theorem dksX4_addSuitcase_5 : cX4_addSuitcase.data.toList.drop 118 = dktX4_addSuitcase_5 := dk_seg dksX4_addSuitcase_4 23 rfl rfl
theorem dksX4_addSuitcase_6 : cX4_addSuitcase.data.toList.drop 142 = dktX4_addSuitcase_6 := dk_seg dksX4_addSuitcase_5 24 rfl rfl
theorem dX4_addSuitcase_0 : decode cX4_addSuitcase 0 = .ok (.aload_n 0, 1) := dk_42 (dk_at dksX4_addSuitcase_0 0 rfl rfl)
theorem dX4_addSuitcase_1 : decode cX4_addSuitcase 1 = .ok (.aload_n 0, 1) := dk_42 (dk_at dksX4_addSuitcase_0 1 rfl rfl)
theorem dX4_addSuitcase_2 : decode cX4_addSuitcase 2 = .ok (.iload_n 1, 1) := dk_27 (dk_at dksX4_addSuitcase_0 2 rfl rfl)
theorem dX4_addSuitcase_3 : decode cX4_addSuitcase 3 = .ok (.invokevirtual 99, 3) := dk_182 0 99 (dk_at dksX4_addSuitcase_0 3 rfl rfl)
theorem dX4_addSuitcase_6 : decode cX4_addSuitcase 6 = .ok (.ifCond .eq 11, 3) := dk_153 0 11 (dk_at dksX4_addSuitcase_0 6 rfl rfl)
theorem dX4_addSuitcase_9 : decode cX4_addSuitcase 9 = .ok (.aload_n 0, 1) := dk_42 (dk_at dksX4_addSuitcase_0 9 rfl rfl)
theorem dX4_addSuitcase_10 : decode cX4_addSuitcase 10 = .ok (.iload_n 2, 1) := dk_28 (dk_at dksX4_addSuitcase_0 10 rfl rfl)
theorem dX4_addSuitcase_11 : decode cX4_addSuitcase 11 = .ok (.invokevirtual 99, 3) := dk_182 0 99 (dk_at dksX4_addSuitcase_0 11 rfl rfl)
theorem dX4_addSuitcase_14 : decode cX4_addSuitcase 14 = .ok (.ifCond .ne 7, 3) := dk_154 0 7 (dk_at dksX4_addSuitcase_0 14 rfl rfl)
theorem dX4_addSuitcase_17 : decode cX4_addSuitcase 17 = .ok (.iconst 1, 1) := dk_4 (dk_at dksX4_addSuitcase_0 17 rfl rfl)
theorem dX4_addSuitcase_18 : decode cX4_addSuitcase 18 = .ok (.goto 34, 3) := dk_167 0 34 (dk_at dksX4_addSuitcase_0 18 rfl rfl)
theorem dX4_addSuitcase_21 : decode cX4_addSuitcase 21 = .ok (.iload_n 3, 1) := dk_29 (dk_at dksX4_addSuitcase_0 21 rfl rfl)
theorem dX4_addSuitcase_22 : decode cX4_addSuitcase 22 = .ok (.iconst 0, 1) := dk_3 (dk_at dksX4_addSuitcase_0 22 rfl rfl)
theorem dX4_addSuitcase_23 : decode cX4_addSuitcase 23 = .ok (.sipush 9999, 3) := dk_17 39 15 (dk_at dksX4_addSuitcase_1 0 rfl rfl)
theorem dX4_addSuitcase_26 : decode cX4_addSuitcase 26 = .ok (.invokestatic 68, 3) := dk_184 0 68 (dk_at dksX4_addSuitcase_1 3 rfl rfl)
theorem dX4_addSuitcase_29 : decode cX4_addSuitcase 29 = .ok (.ifCond .ne 7, 3) := dk_154 0 7 (dk_at dksX4_addSuitcase_1 6 rfl rfl)
theorem dX4_addSuitcase_32 : decode cX4_addSuitcase 32 = .ok (.iconst 2, 1) := dk_5 (dk_at dksX4_addSuitcase_1 9 rfl rfl)
theorem dX4_addSuitcase_33 : decode cX4_addSuitcase 33 = .ok (.goto 19, 3) := dk_167 0 19 (dk_at dksX4_addSuitcase_1 10 rfl rfl)
theorem dX4_addSuitcase_36 : decode cX4_addSuitcase 36 = .ok (.aload_n 0, 1) := dk_42 (dk_at dksX4_addSuitcase_1 13 rfl rfl)
theorem dX4_addSuitcase_37 : decode cX4_addSuitcase 37 = .ok (.getfield 7, 3) := dk_180 0 7 (dk_at dksX4_addSuitcase_1 14 rfl rfl)
theorem dX4_addSuitcase_40 : decode cX4_addSuitcase 40 = .ok (.iconst 2, 1) := dk_5 (dk_at dksX4_addSuitcase_1 17 rfl rfl)
theorem dX4_addSuitcase_41 : decode cX4_addSuitcase 41 = .ok (.iaload, 1) := dk_46 (dk_at dksX4_addSuitcase_1 18 rfl rfl)
theorem dX4_addSuitcase_42 : decode cX4_addSuitcase 42 = .ok (.bipush 8, 2) := dk_16 8 (dk_at dksX4_addSuitcase_1 19 rfl rfl)
theorem dX4_addSuitcase_44 : decode cX4_addSuitcase 44 = .ok (.if_icmp .ne 7, 3) := dk_160 0 7 (dk_at dksX4_addSuitcase_1 21 rfl rfl)
theorem dX4_addSuitcase_47 : decode cX4_addSuitcase 47 = .ok (.iconst 3, 1) := dk_6 (dk_at dksX4_addSuitcase_2 0 rfl rfl)
theorem dX4_addSuitcase_48 : decode cX4_addSuitcase 48 = .ok (.goto 4, 3) := dk_167 0 4 (dk_at dksX4_addSuitcase_2 1 rfl rfl)
theorem dX4_addSuitcase_51 : decode cX4_addSuitcase 51 = .ok (.iconst 0, 1) := dk_3 (dk_at dksX4_addSuitcase_2 4 rfl rfl)
theorem dX4_addSuitcase_52 : decode cX4_addSuitcase 52 = .ok (.invokevirtual 92, 3) := dk_182 0 92 (dk_at dksX4_addSuitcase_2 5 rfl rfl)
theorem dX4_addSuitcase_55 : decode cX4_addSuitcase 55 = .ok (.ifCond .eq 5, 3) := dk_153 0 5 (dk_at dksX4_addSuitcase_2 8 rfl rfl)
theorem dX4_addSuitcase_58 : decode cX4_addSuitcase 58 = .ok (.iconst 0, 1) := dk_3 (dk_at dksX4_addSuitcase_2 11 rfl rfl)
theorem dX4_addSuitcase_59 : decode cX4_addSuitcase 59 = .ok (.ireturn, 1) := dk_172 (dk_at dksX4_addSuitcase_2 12 rfl rfl)
theorem dX4_addSuitcase_60 : decode cX4_addSuitcase 60 = .ok (.aload_n 0, 1) := dk_42 (dk_at dksX4_addSuitcase_2 13 rfl rfl)
theorem dX4_addSuitcase_61 : decode cX4_addSuitcase 61 = .ok (.aload_n 0, 1) := dk_42 (dk_at dksX4_addSuitcase_2 14 rfl rfl)
theorem dX4_addSuitcase_62 : decode cX4_addSuitcase 62 = .ok (.getfield 7, 3) := dk_180 0 7 (dk_at dksX4_addSuitcase_2 15 rfl rfl)
theorem dX4_addSuitcase_65 : decode cX4_addSuitcase 65 = .ok (.invokevirtual 95, 3) := dk_182 0 95 (dk_at dksX4_addSuitcase_2 18 rfl rfl)
theorem dX4_addSuitcase_68 : decode cX4_addSuitcase 68 = .ok (.sipush 232, 3) := dk_17 0 232 (dk_at dksX4_addSuitcase_2 21 rfl rfl)
theorem dX4_addSuitcase_71 : decode cX4_addSuitcase 71 = .ok (.iconst 4, 1) := dk_7 (dk_at dksX4_addSuitcase_3 0 rfl rfl)
theorem dX4_addSuitcase_72 : decode cX4_addSuitcase 72 = .ok (.aload_n 0, 1) := dk_42 (dk_at dksX4_addSuitcase_3 1 rfl rfl)
theorem dX4_addSuitcase_73 : decode cX4_addSuitcase 73 = .ok (.getfield 7, 3) := dk_180 0 7 (dk_at dksX4_addSuitcase_3 2 rfl rfl)
theorem dX4_addSuitcase_76 : decode cX4_addSuitcase 76 = .ok (.iconst 2, 1) := dk_5 (dk_at dksX4_addSuitcase_3 5 rfl rfl)
theorem dX4_addSuitcase_77 : decode cX4_addSuitcase 77 = .ok (.iaload, 1) := dk_46 (dk_at dksX4_addSuitcase_3 6 rfl rfl)
theorem dX4_addSuitcase_78 : decode cX4_addSuitcase 78 = .ok (.imul, 1) := dk_104 (dk_at dksX4_addSuitcase_3 7 rfl rfl)
theorem dX4_addSuitcase_79 : decode cX4_addSuitcase 79 = .ok (.iadd, 1) := dk_96 (dk_at dksX4_addSuitcase_3 8 rfl rfl)
theorem dX4_addSuitcase_80 : decode cX4_addSuitcase 80 = .ok (.istore 4, 2) := dk_54 4 (dk_at dksX4_addSuitcase_3 9 rfl rfl)
theorem dX4_addSuitcase_82 : decode cX4_addSuitcase 82 = .ok (.aload_n 0, 1) := dk_42 (dk_at dksX4_addSuitcase_3 11 rfl rfl)
theorem dX4_addSuitcase_83 : decode cX4_addSuitcase 83 = .ok (.getfield 7, 3) := dk_180 0 7 (dk_at dksX4_addSuitcase_3 12 rfl rfl)
theorem dX4_addSuitcase_86 : decode cX4_addSuitcase 86 = .ok (.iload 4, 2) := dk_21 4 (dk_at dksX4_addSuitcase_3 15 rfl rfl)
theorem dX4_addSuitcase_88 : decode cX4_addSuitcase 88 = .ok (.iconst 0, 1) := dk_3 (dk_at dksX4_addSuitcase_3 17 rfl rfl)
theorem dX4_addSuitcase_89 : decode cX4_addSuitcase 89 = .ok (.iadd, 1) := dk_96 (dk_at dksX4_addSuitcase_3 18 rfl rfl)
theorem dX4_addSuitcase_90 : decode cX4_addSuitcase 90 = .ok (.aload_n 0, 1) := dk_42 (dk_at dksX4_addSuitcase_3 19 rfl rfl)
theorem dX4_addSuitcase_91 : decode cX4_addSuitcase 91 = .ok (.getfield 7, 3) := dk_180 0 7 (dk_at dksX4_addSuitcase_3 20 rfl rfl)
theorem dX4_addSuitcase_94 : decode cX4_addSuitcase 94 = .ok (.iconst 4, 1) := dk_7 (dk_at dksX4_addSuitcase_3 23 rfl rfl)
theorem dX4_addSuitcase_95 : decode cX4_addSuitcase 95 = .ok (.iaload, 1) := dk_46 (dk_at dksX4_addSuitcase_4 0 rfl rfl)
theorem dX4_addSuitcase_96 : decode cX4_addSuitcase 96 = .ok (.iastore, 1) := dk_79 (dk_at dksX4_addSuitcase_4 1 rfl rfl)
theorem dX4_addSuitcase_97 : decode cX4_addSuitcase 97 = .ok (.aload_n 0, 1) := dk_42 (dk_at dksX4_addSuitcase_4 2 rfl rfl)
theorem dX4_addSuitcase_98 : decode cX4_addSuitcase 98 = .ok (.getfield 7, 3) := dk_180 0 7 (dk_at dksX4_addSuitcase_4 3 rfl rfl)
theorem dX4_addSuitcase_101 : decode cX4_addSuitcase 101 = .ok (.iload 4, 2) := dk_21 4 (dk_at dksX4_addSuitcase_4 6 rfl rfl)
theorem dX4_addSuitcase_103 : decode cX4_addSuitcase 103 = .ok (.iconst 1, 1) := dk_4 (dk_at dksX4_addSuitcase_4 8 rfl rfl)
theorem dX4_addSuitcase_104 : decode cX4_addSuitcase 104 = .ok (.iadd, 1) := dk_96 (dk_at dksX4_addSuitcase_4 9 rfl rfl)
theorem dX4_addSuitcase_105 : decode cX4_addSuitcase 105 = .ok (.iload_n 1, 1) := dk_27 (dk_at dksX4_addSuitcase_4 10 rfl rfl)
theorem dX4_addSuitcase_106 : decode cX4_addSuitcase 106 = .ok (.iastore, 1) := dk_79 (dk_at dksX4_addSuitcase_4 11 rfl rfl)
theorem dX4_addSuitcase_107 : decode cX4_addSuitcase 107 = .ok (.aload_n 0, 1) := dk_42 (dk_at dksX4_addSuitcase_4 12 rfl rfl)
theorem dX4_addSuitcase_108 : decode cX4_addSuitcase 108 = .ok (.getfield 7, 3) := dk_180 0 7 (dk_at dksX4_addSuitcase_4 13 rfl rfl)
theorem dX4_addSuitcase_111 : decode cX4_addSuitcase 111 = .ok (.iload 4, 2) := dk_21 4 (dk_at dksX4_addSuitcase_4 16 rfl rfl)
theorem dX4_addSuitcase_113 : decode cX4_addSuitcase 113 = .ok (.iconst 2, 1) := dk_5 (dk_at dksX4_addSuitcase_4 18 rfl rfl)
theorem dX4_addSuitcase_114 : decode cX4_addSuitcase 114 = .ok (.iadd, 1) := dk_96 (dk_at dksX4_addSuitcase_4 19 rfl rfl)
theorem dX4_addSuitcase_115 : decode cX4_addSuitcase 115 = .ok (.iload_n 2, 1) := dk_28 (dk_at dksX4_addSuitcase_4 20 rfl rfl)
theorem dX4_addSuitcase_116 : decode cX4_addSuitcase 116 = .ok (.iastore, 1) := dk_79 (dk_at dksX4_addSuitcase_4 21 rfl rfl)
theorem dX4_addSuitcase_117 : decode cX4_addSuitcase 117 = .ok (.aload_n 0, 1) := dk_42 (dk_at dksX4_addSuitcase_4 22 rfl rfl)
theorem dX4_addSuitcase_118 : decode cX4_addSuitcase 118 = .ok (.getfield 7, 3) := dk_180 0 7 (dk_at dksX4_addSuitcase_5 0 rfl rfl)
theorem dX4_addSuitcase_121 : decode cX4_addSuitcase 121 = .ok (.iload 4, 2) := dk_21 4 (dk_at dksX4_addSuitcase_5 3 rfl rfl)
theorem dX4_addSuitcase_123 : decode cX4_addSuitcase 123 = .ok (.iconst 3, 1) := dk_6 (dk_at dksX4_addSuitcase_5 5 rfl rfl)
theorem dX4_addSuitcase_124 : decode cX4_addSuitcase 124 = .ok (.iadd, 1) := dk_96 (dk_at dksX4_addSuitcase_5 6 rfl rfl)
theorem dX4_addSuitcase_125 : decode cX4_addSuitcase 125 = .ok (.iload_n 3, 1) := dk_29 (dk_at dksX4_addSuitcase_5 7 rfl rfl)
theorem dX4_addSuitcase_126 : decode cX4_addSuitcase 126 = .ok (.iastore, 1) := dk_79 (dk_at dksX4_addSuitcase_5 8 rfl rfl)
theorem dX4_addSuitcase_127 : decode cX4_addSuitcase 127 = .ok (.aload_n 0, 1) := dk_42 (dk_at dksX4_addSuitcase_5 9 rfl rfl)
theorem dX4_addSuitcase_128 : decode cX4_addSuitcase 128 = .ok (.getfield 7, 3) := dk_180 0 7 (dk_at dksX4_addSuitcase_5 10 rfl rfl)
theorem dX4_addSuitcase_131 : decode cX4_addSuitcase 131 = .ok (.iconst 2, 1) := dk_5 (dk_at dksX4_addSuitcase_5 13 rfl rfl)
theorem dX4_addSuitcase_132 : decode cX4_addSuitcase 132 = .ok (.dup2, 1) := dk_92 (dk_at dksX4_addSuitcase_5 14 rfl rfl)
theorem dX4_addSuitcase_133 : decode cX4_addSuitcase 133 = .ok (.iaload, 1) := dk_46 (dk_at dksX4_addSuitcase_5 15 rfl rfl)
theorem dX4_addSuitcase_134 : decode cX4_addSuitcase 134 = .ok (.iconst 1, 1) := dk_4 (dk_at dksX4_addSuitcase_5 16 rfl rfl)
theorem dX4_addSuitcase_135 : decode cX4_addSuitcase 135 = .ok (.iadd, 1) := dk_96 (dk_at dksX4_addSuitcase_5 17 rfl rfl)
theorem dX4_addSuitcase_136 : decode cX4_addSuitcase 136 = .ok (.iastore, 1) := dk_79 (dk_at dksX4_addSuitcase_5 18 rfl rfl)
theorem dX4_addSuitcase_137 : decode cX4_addSuitcase 137 = .ok (.aload_n 0, 1) := dk_42 (dk_at dksX4_addSuitcase_5 19 rfl rfl)
theorem dX4_addSuitcase_138 : decode cX4_addSuitcase 138 = .ok (.getfield 7, 3) := dk_180 0 7 (dk_at dksX4_addSuitcase_5 20 rfl rfl)
theorem dX4_addSuitcase_141 : decode cX4_addSuitcase 141 = .ok (.iconst 4, 1) := dk_7 (dk_at dksX4_addSuitcase_5 23 rfl rfl)
theorem dX4_addSuitcase_142 : decode cX4_addSuitcase 142 = .ok (.dup2, 1) := dk_92 (dk_at dksX4_addSuitcase_6 0 rfl rfl)
theorem dX4_addSuitcase_143 : decode cX4_addSuitcase 143 = .ok (.iaload, 1) := dk_46 (dk_at dksX4_addSuitcase_6 1 rfl rfl)
theorem dX4_addSuitcase_144 : decode cX4_addSuitcase 144 = .ok (.iconst 1, 1) := dk_4 (dk_at dksX4_addSuitcase_6 2 rfl rfl)
theorem dX4_addSuitcase_145 : decode cX4_addSuitcase 145 = .ok (.iadd, 1) := dk_96 (dk_at dksX4_addSuitcase_6 3 rfl rfl)
theorem dX4_addSuitcase_146 : decode cX4_addSuitcase 146 = .ok (.iastore, 1) := dk_79 (dk_at dksX4_addSuitcase_6 4 rfl rfl)
theorem dX4_addSuitcase_147 : decode cX4_addSuitcase 147 = .ok (.aload_n 0, 1) := dk_42 (dk_at dksX4_addSuitcase_6 5 rfl rfl)
theorem dX4_addSuitcase_148 : decode cX4_addSuitcase 148 = .ok (.getfield 7, 3) := dk_180 0 7 (dk_at dksX4_addSuitcase_6 6 rfl rfl)
theorem dX4_addSuitcase_151 : decode cX4_addSuitcase 151 = .ok (.iconst 4, 1) := dk_7 (dk_at dksX4_addSuitcase_6 9 rfl rfl)
theorem dX4_addSuitcase_152 : decode cX4_addSuitcase 152 = .ok (.iaload, 1) := dk_46 (dk_at dksX4_addSuitcase_6 10 rfl rfl)
theorem dX4_addSuitcase_153 : decode cX4_addSuitcase 153 = .ok (.iconst 1, 1) := dk_4 (dk_at dksX4_addSuitcase_6 11 rfl rfl)
theorem dX4_addSuitcase_154 : decode cX4_addSuitcase 154 = .ok (.isub, 1) := dk_100 (dk_at dksX4_addSuitcase_6 12 rfl rfl)
theorem dX4_addSuitcase_155 : decode cX4_addSuitcase 155 = .ok (.ireturn, 1) := dk_172 (dk_at dksX4_addSuitcase_6 13 rfl rfl)
abbrev cX4_relabel : ByteArray := prog_20_method_37_code
def yX4_relabel : MethodName := ⟨RX4, "relabel", "(II)I"⟩
def dkwX4_relabel_2 : List UInt8 := [180, 0, 7, 182, 0, 95, 42, 180, 0, 7, 17, 0, 232, 7, 29, 104, 96, 5, 96, 28, 79, 21, 4, 172]
abbrev dktX4_relabel_2 : List UInt8 := dkwX4_relabel_2 ++ []
def dkwX4_relabel_1 : List UInt8 := [182, 0, 92, 153, 0, 5, 3, 172, 42, 27, 182, 0, 144, 62, 42, 29, 5, 182, 0, 141, 54, 4, 42, 42]
abbrev dktX4_relabel_1 : List UInt8 := dkwX4_relabel_1 ++ dktX4_relabel_2
def dkwX4_relabel_0 : List UInt8 := [42, 27, 182, 0, 148, 154, 0, 23, 42, 42, 28, 182, 0, 99, 153, 0, 7, 3, 167, 0, 4, 5]
abbrev dktX4_relabel_0 : List UInt8 := dkwX4_relabel_0 ++ dktX4_relabel_1
theorem dksX4_relabel_0 : cX4_relabel.data.toList.drop 0 = dktX4_relabel_0 := by decide +kernel
theorem dksX4_relabel_1 : cX4_relabel.data.toList.drop 22 = dktX4_relabel_1 := dk_seg dksX4_relabel_0 22 rfl rfl
theorem dksX4_relabel_2 : cX4_relabel.data.toList.drop 46 = dktX4_relabel_2 := dk_seg dksX4_relabel_1 24 rfl rfl
theorem dX4_relabel_0 : decode cX4_relabel 0 = .ok (.aload_n 0, 1) := dk_42 (dk_at dksX4_relabel_0 0 rfl rfl)
theorem dX4_relabel_1 : decode cX4_relabel 1 = .ok (.iload_n 1, 1) := dk_27 (dk_at dksX4_relabel_0 1 rfl rfl)
theorem dX4_relabel_2 : decode cX4_relabel 2 = .ok (.invokevirtual 148, 3) := dk_182 0 148 (dk_at dksX4_relabel_0 2 rfl rfl)
theorem dX4_relabel_5 : decode cX4_relabel 5 = .ok (.ifCond .ne 23, 3) := dk_154 0 23 (dk_at dksX4_relabel_0 5 rfl rfl)
theorem dX4_relabel_8 : decode cX4_relabel 8 = .ok (.aload_n 0, 1) := dk_42 (dk_at dksX4_relabel_0 8 rfl rfl)
theorem dX4_relabel_9 : decode cX4_relabel 9 = .ok (.aload_n 0, 1) := dk_42 (dk_at dksX4_relabel_0 9 rfl rfl)
theorem dX4_relabel_10 : decode cX4_relabel 10 = .ok (.iload_n 2, 1) := dk_28 (dk_at dksX4_relabel_0 10 rfl rfl)
theorem dX4_relabel_11 : decode cX4_relabel 11 = .ok (.invokevirtual 99, 3) := dk_182 0 99 (dk_at dksX4_relabel_0 11 rfl rfl)
theorem dX4_relabel_14 : decode cX4_relabel 14 = .ok (.ifCond .eq 7, 3) := dk_153 0 7 (dk_at dksX4_relabel_0 14 rfl rfl)
theorem dX4_relabel_17 : decode cX4_relabel 17 = .ok (.iconst 0, 1) := dk_3 (dk_at dksX4_relabel_0 17 rfl rfl)
theorem dX4_relabel_18 : decode cX4_relabel 18 = .ok (.goto 4, 3) := dk_167 0 4 (dk_at dksX4_relabel_0 18 rfl rfl)
theorem dX4_relabel_21 : decode cX4_relabel 21 = .ok (.iconst 2, 1) := dk_5 (dk_at dksX4_relabel_0 21 rfl rfl)
theorem dX4_relabel_22 : decode cX4_relabel 22 = .ok (.invokevirtual 92, 3) := dk_182 0 92 (dk_at dksX4_relabel_1 0 rfl rfl)
theorem dX4_relabel_25 : decode cX4_relabel 25 = .ok (.ifCond .eq 5, 3) := dk_153 0 5 (dk_at dksX4_relabel_1 3 rfl rfl)
theorem dX4_relabel_28 : decode cX4_relabel 28 = .ok (.iconst 0, 1) := dk_3 (dk_at dksX4_relabel_1 6 rfl rfl)
theorem dX4_relabel_29 : decode cX4_relabel 29 = .ok (.ireturn, 1) := dk_172 (dk_at dksX4_relabel_1 7 rfl rfl)
theorem dX4_relabel_30 : decode cX4_relabel 30 = .ok (.aload_n 0, 1) := dk_42 (dk_at dksX4_relabel_1 8 rfl rfl)
theorem dX4_relabel_31 : decode cX4_relabel 31 = .ok (.iload_n 1, 1) := dk_27 (dk_at dksX4_relabel_1 9 rfl rfl)
theorem dX4_relabel_32 : decode cX4_relabel 32 = .ok (.invokevirtual 144, 3) := dk_182 0 144 (dk_at dksX4_relabel_1 10 rfl rfl)
theorem dX4_relabel_35 : decode cX4_relabel 35 = .ok (.istore_n 3, 1) := dk_62 (dk_at dksX4_relabel_1 13 rfl rfl)
theorem dX4_relabel_36 : decode cX4_relabel 36 = .ok (.aload_n 0, 1) := dk_42 (dk_at dksX4_relabel_1 14 rfl rfl)
theorem dX4_relabel_37 : decode cX4_relabel 37 = .ok (.iload_n 3, 1) := dk_29 (dk_at dksX4_relabel_1 15 rfl rfl)
theorem dX4_relabel_38 : decode cX4_relabel 38 = .ok (.iconst 2, 1) := dk_5 (dk_at dksX4_relabel_1 16 rfl rfl)
theorem dX4_relabel_39 : decode cX4_relabel 39 = .ok (.invokevirtual 141, 3) := dk_182 0 141 (dk_at dksX4_relabel_1 17 rfl rfl)
theorem dX4_relabel_42 : decode cX4_relabel 42 = .ok (.istore 4, 2) := dk_54 4 (dk_at dksX4_relabel_1 20 rfl rfl)
theorem dX4_relabel_44 : decode cX4_relabel 44 = .ok (.aload_n 0, 1) := dk_42 (dk_at dksX4_relabel_1 22 rfl rfl)
theorem dX4_relabel_45 : decode cX4_relabel 45 = .ok (.aload_n 0, 1) := dk_42 (dk_at dksX4_relabel_1 23 rfl rfl)
theorem dX4_relabel_46 : decode cX4_relabel 46 = .ok (.getfield 7, 3) := dk_180 0 7 (dk_at dksX4_relabel_2 0 rfl rfl)
theorem dX4_relabel_49 : decode cX4_relabel 49 = .ok (.invokevirtual 95, 3) := dk_182 0 95 (dk_at dksX4_relabel_2 3 rfl rfl)
theorem dX4_relabel_52 : decode cX4_relabel 52 = .ok (.aload_n 0, 1) := dk_42 (dk_at dksX4_relabel_2 6 rfl rfl)
theorem dX4_relabel_53 : decode cX4_relabel 53 = .ok (.getfield 7, 3) := dk_180 0 7 (dk_at dksX4_relabel_2 7 rfl rfl)
theorem dX4_relabel_56 : decode cX4_relabel 56 = .ok (.sipush 232, 3) := dk_17 0 232 (dk_at dksX4_relabel_2 10 rfl rfl)
theorem dX4_relabel_59 : decode cX4_relabel 59 = .ok (.iconst 4, 1) := dk_7 (dk_at dksX4_relabel_2 13 rfl rfl)
theorem dX4_relabel_60 : decode cX4_relabel 60 = .ok (.iload_n 3, 1) := dk_29 (dk_at dksX4_relabel_2 14 rfl rfl)
theorem dX4_relabel_61 : decode cX4_relabel 61 = .ok (.imul, 1) := dk_104 (dk_at dksX4_relabel_2 15 rfl rfl)
theorem dX4_relabel_62 : decode cX4_relabel 62 = .ok (.iadd, 1) := dk_96 (dk_at dksX4_relabel_2 16 rfl rfl)
theorem dX4_relabel_63 : decode cX4_relabel 63 = .ok (.iconst 2, 1) := dk_5 (dk_at dksX4_relabel_2 17 rfl rfl)
theorem dX4_relabel_64 : decode cX4_relabel 64 = .ok (.iadd, 1) := dk_96 (dk_at dksX4_relabel_2 18 rfl rfl)
theorem dX4_relabel_65 : decode cX4_relabel 65 = .ok (.iload_n 2, 1) := dk_28 (dk_at dksX4_relabel_2 19 rfl rfl)
theorem dX4_relabel_66 : decode cX4_relabel 66 = .ok (.iastore, 1) := dk_79 (dk_at dksX4_relabel_2 20 rfl rfl)
theorem dX4_relabel_67 : decode cX4_relabel 67 = .ok (.iload 4, 2) := dk_21 4 (dk_at dksX4_relabel_2 21 rfl rfl)
theorem dX4_relabel_69 : decode cX4_relabel 69 = .ok (.ireturn, 1) := dk_172 (dk_at dksX4_relabel_2 23 rfl rfl)
abbrev cX4_isLost : ByteArray := prog_20_method_35_code
def yX4_isLost : MethodName := ⟨RX4, "isLost", "(I)Z"⟩
def dkwX4_isLost_0 : List UInt8 := [42, 42, 27, 182, 0, 144, 156, 0, 7, 4, 167, 0, 4, 3, 182, 0, 92, 172]
abbrev dktX4_isLost_0 : List UInt8 := dkwX4_isLost_0 ++ []
theorem dksX4_isLost_0 : cX4_isLost.data.toList.drop 0 = dktX4_isLost_0 := by decide +kernel
theorem dX4_isLost_0 : decode cX4_isLost 0 = .ok (.aload_n 0, 1) := dk_42 (dk_at dksX4_isLost_0 0 rfl rfl)
theorem dX4_isLost_1 : decode cX4_isLost 1 = .ok (.aload_n 0, 1) := dk_42 (dk_at dksX4_isLost_0 1 rfl rfl)
theorem dX4_isLost_2 : decode cX4_isLost 2 = .ok (.iload_n 1, 1) := dk_27 (dk_at dksX4_isLost_0 2 rfl rfl)
theorem dX4_isLost_3 : decode cX4_isLost 3 = .ok (.invokevirtual 144, 3) := dk_182 0 144 (dk_at dksX4_isLost_0 3 rfl rfl)
theorem dX4_isLost_6 : decode cX4_isLost 6 = .ok (.ifCond .ge 7, 3) := dk_156 0 7 (dk_at dksX4_isLost_0 6 rfl rfl)
theorem dX4_isLost_9 : decode cX4_isLost 9 = .ok (.iconst 1, 1) := dk_4 (dk_at dksX4_isLost_0 9 rfl rfl)
theorem dX4_isLost_10 : decode cX4_isLost 10 = .ok (.goto 4, 3) := dk_167 0 4 (dk_at dksX4_isLost_0 10 rfl rfl)
theorem dX4_isLost_13 : decode cX4_isLost 13 = .ok (.iconst 0, 1) := dk_3 (dk_at dksX4_isLost_0 13 rfl rfl)
theorem dX4_isLost_14 : decode cX4_isLost 14 = .ok (.invokevirtual 92, 3) := dk_182 0 92 (dk_at dksX4_isLost_0 14 rfl rfl)
theorem dX4_isLost_17 : decode cX4_isLost 17 = .ok (.ireturn, 1) := dk_172 (dk_at dksX4_isLost_0 17 rfl rfl)
abbrev cX4_found : ByteArray := prog_20_method_34_code
def yX4_found : MethodName := ⟨RX4, "found", "(I)I"⟩
def dkwX4_found_1 : List UInt8 := [132, 2, 1, 167, 255, 231, 2, 172]
abbrev dktX4_found_1 : List UInt8 := dkwX4_found_1 ++ []
def dkwX4_found_0 : List UInt8 := [3, 61, 28, 42, 180, 0, 7, 5, 46, 162, 0, 21, 42, 28, 3, 182, 0, 141, 27, 160, 0, 5, 28, 172]
abbrev dktX4_found_0 : List UInt8 := dkwX4_found_0 ++ dktX4_found_1
theorem dksX4_found_0 : cX4_found.data.toList.drop 0 = dktX4_found_0 := by decide +kernel
theorem dksX4_found_1 : cX4_found.data.toList.drop 24 = dktX4_found_1 := dk_seg dksX4_found_0 24 rfl rfl
theorem dX4_found_0 : decode cX4_found 0 = .ok (.iconst 0, 1) := dk_3 (dk_at dksX4_found_0 0 rfl rfl)
theorem dX4_found_1 : decode cX4_found 1 = .ok (.istore_n 2, 1) := dk_61 (dk_at dksX4_found_0 1 rfl rfl)
theorem dX4_found_2 : decode cX4_found 2 = .ok (.iload_n 2, 1) := dk_28 (dk_at dksX4_found_0 2 rfl rfl)
theorem dX4_found_3 : decode cX4_found 3 = .ok (.aload_n 0, 1) := dk_42 (dk_at dksX4_found_0 3 rfl rfl)
theorem dX4_found_4 : decode cX4_found 4 = .ok (.getfield 7, 3) := dk_180 0 7 (dk_at dksX4_found_0 4 rfl rfl)
theorem dX4_found_7 : decode cX4_found 7 = .ok (.iconst 2, 1) := dk_5 (dk_at dksX4_found_0 7 rfl rfl)
theorem dX4_found_8 : decode cX4_found 8 = .ok (.iaload, 1) := dk_46 (dk_at dksX4_found_0 8 rfl rfl)
theorem dX4_found_9 : decode cX4_found 9 = .ok (.if_icmp .ge 21, 3) := dk_162 0 21 (dk_at dksX4_found_0 9 rfl rfl)
theorem dX4_found_12 : decode cX4_found 12 = .ok (.aload_n 0, 1) := dk_42 (dk_at dksX4_found_0 12 rfl rfl)
theorem dX4_found_13 : decode cX4_found 13 = .ok (.iload_n 2, 1) := dk_28 (dk_at dksX4_found_0 13 rfl rfl)
theorem dX4_found_14 : decode cX4_found 14 = .ok (.iconst 0, 1) := dk_3 (dk_at dksX4_found_0 14 rfl rfl)
theorem dX4_found_15 : decode cX4_found 15 = .ok (.invokevirtual 141, 3) := dk_182 0 141 (dk_at dksX4_found_0 15 rfl rfl)
theorem dX4_found_18 : decode cX4_found 18 = .ok (.iload_n 1, 1) := dk_27 (dk_at dksX4_found_0 18 rfl rfl)
theorem dX4_found_19 : decode cX4_found 19 = .ok (.if_icmp .ne 5, 3) := dk_160 0 5 (dk_at dksX4_found_0 19 rfl rfl)
theorem dX4_found_22 : decode cX4_found 22 = .ok (.iload_n 2, 1) := dk_28 (dk_at dksX4_found_0 22 rfl rfl)
theorem dX4_found_23 : decode cX4_found 23 = .ok (.ireturn, 1) := dk_172 (dk_at dksX4_found_0 23 rfl rfl)
theorem dX4_found_24 : decode cX4_found 24 = .ok (.iinc 2 1, 3) := dk_132 2 1 (dk_at dksX4_found_1 0 rfl rfl)
theorem dX4_found_27 : decode cX4_found 27 = .ok (.goto (-25), 3) := dk_167 255 231 (dk_at dksX4_found_1 3 rfl rfl)
theorem dX4_found_30 : decode cX4_found 30 = .ok (.iconst (-1), 1) := dk_2 (dk_at dksX4_found_1 6 rfl rfl)
theorem dX4_found_31 : decode cX4_found 31 = .ok (.ireturn, 1) := dk_172 (dk_at dksX4_found_1 7 rfl rfl)
abbrev cX4_the : ByteArray := prog_20_method_33_code
def yX4_the : MethodName := ⟨RX4, "the", "(II)I"⟩
def dkwX4_the_0 : List UInt8 := [42, 180, 0, 7, 17, 0, 232, 7, 27, 104, 96, 28, 96, 46, 172]
abbrev dktX4_the_0 : List UInt8 := dkwX4_the_0 ++ []
theorem dksX4_the_0 : cX4_the.data.toList.drop 0 = dktX4_the_0 := by decide +kernel
theorem dX4_the_0 : decode cX4_the 0 = .ok (.aload_n 0, 1) := dk_42 (dk_at dksX4_the_0 0 rfl rfl)
theorem dX4_the_1 : decode cX4_the 1 = .ok (.getfield 7, 3) := dk_180 0 7 (dk_at dksX4_the_0 1 rfl rfl)
theorem dX4_the_4 : decode cX4_the 4 = .ok (.sipush 232, 3) := dk_17 0 232 (dk_at dksX4_the_0 4 rfl rfl)
theorem dX4_the_7 : decode cX4_the 7 = .ok (.iconst 4, 1) := dk_7 (dk_at dksX4_the_0 7 rfl rfl)
theorem dX4_the_8 : decode cX4_the 8 = .ok (.iload_n 1, 1) := dk_27 (dk_at dksX4_the_0 8 rfl rfl)
theorem dX4_the_9 : decode cX4_the 9 = .ok (.imul, 1) := dk_104 (dk_at dksX4_the_0 9 rfl rfl)
theorem dX4_the_10 : decode cX4_the 10 = .ok (.iadd, 1) := dk_96 (dk_at dksX4_the_0 10 rfl rfl)
theorem dX4_the_11 : decode cX4_the 11 = .ok (.iload_n 2, 1) := dk_28 (dk_at dksX4_the_0 11 rfl rfl)
theorem dX4_the_12 : decode cX4_the 12 = .ok (.iadd, 1) := dk_96 (dk_at dksX4_the_0 12 rfl rfl)
theorem dX4_the_13 : decode cX4_the 13 = .ok (.iaload, 1) := dk_46 (dk_at dksX4_the_0 13 rfl rfl)
theorem dX4_the_14 : decode cX4_the 14 = .ok (.ireturn, 1) := dk_172 (dk_at dksX4_the_0 14 rfl rfl)
abbrev cX4_send : ByteArray := prog_20_method_40_code
def yX4_send : MethodName := ⟨RX4, "send", "(I)I"⟩
def dkwX4_send_8 : List UInt8 := [28, 104, 96, 6, 96, 42, 180, 0, 36, 29, 46, 79, 42, 180, 0, 154, 172]
abbrev dktX4_send_8 : List UInt8 := dkwX4_send_8 ++ []
def dkwX4_send_7 : List UInt8 := [79, 42, 180, 0, 7, 17, 0, 232, 7, 28, 104, 96, 4, 96, 29, 79, 42, 180, 0, 7, 17, 0, 232, 7]
abbrev dktX4_send_7 : List UInt8 := dkwX4_send_7 ++ dktX4_send_8
def dkwX4_send_6 : List UInt8 := [4, 96, 79, 132, 5, 1, 167, 255, 211, 42, 180, 0, 7, 16, 6, 92, 46, 5, 42, 180, 0, 154, 104, 96]
abbrev dktX4_send_6 : List UInt8 := dkwX4_send_6 ++ dktX4_send_7
def dkwX4_send_5 : List UInt8 := [16, 36, 42, 180, 0, 42, 21, 5, 46, 104, 96, 16, 28, 96, 42, 180, 0, 45, 21, 5, 46, 96, 92, 46]
abbrev dktX4_send_5 : List UInt8 := dkwX4_send_5 ++ dktX4_send_6
def dkwX4_send_4 : List UInt8 := [180, 0, 7, 182, 0, 95, 3, 54, 5, 21, 5, 42, 180, 0, 154, 162, 0, 42, 42, 180, 0, 7, 16, 16]
abbrev dktX4_send_4 : List UInt8 := dkwX4_send_4 ++ dktX4_send_5
def dkwX4_send_3 : List UInt8 := [21, 4, 42, 180, 0, 105, 159, 0, 14, 42, 21, 4, 182, 0, 157, 54, 4, 167, 255, 239, 42, 42]
abbrev dktX4_send_3 : List UInt8 := dkwX4_send_3 ++ dktX4_send_4
def dkwX4_send_2 : List UInt8 := [160, 0, 7, 5, 167, 0, 4, 3, 182, 0, 92, 153, 0, 5, 3, 172, 42, 3, 181, 0, 154, 29, 54, 4]
abbrev dktX4_send_2 : List UInt8 := dkwX4_send_2 ++ dktX4_send_3
def dkwX4_send_1 : List UInt8 := [42, 28, 4, 182, 0, 141, 42, 28, 6, 182, 0, 141, 182, 0, 134, 42, 42, 180, 0, 36, 29, 46, 18, 111]
abbrev dktX4_send_1 : List UInt8 := dkwX4_send_1 ++ dktX4_send_2
def dkwX4_send_0 : List UInt8 := [42, 27, 182, 0, 148, 153, 0, 5, 3, 172, 42, 27, 182, 0, 144, 61, 42, 28, 5, 182, 0, 141, 62, 42]
abbrev dktX4_send_0 : List UInt8 := dkwX4_send_0 ++ dktX4_send_1
theorem dksX4_send_0 : cX4_send.data.toList.drop 0 = dktX4_send_0 := by decide +kernel
theorem dksX4_send_1 : cX4_send.data.toList.drop 24 = dktX4_send_1 := dk_seg dksX4_send_0 24 rfl rfl
theorem dksX4_send_2 : cX4_send.data.toList.drop 48 = dktX4_send_2 := dk_seg dksX4_send_1 24 rfl rfl
theorem dksX4_send_3 : cX4_send.data.toList.drop 72 = dktX4_send_3 := dk_seg dksX4_send_2 24 rfl rfl
theorem dksX4_send_4 : cX4_send.data.toList.drop 94 = dktX4_send_4 := dk_seg dksX4_send_3 22 rfl rfl
theorem dksX4_send_5 : cX4_send.data.toList.drop 118 = dktX4_send_5 := dk_seg dksX4_send_4 24 rfl rfl
theorem dksX4_send_6 : cX4_send.data.toList.drop 142 = dktX4_send_6 := dk_seg dksX4_send_5 24 rfl rfl
theorem dksX4_send_7 : cX4_send.data.toList.drop 166 = dktX4_send_7 := dk_seg dksX4_send_6 24 rfl rfl
theorem dksX4_send_8 : cX4_send.data.toList.drop 190 = dktX4_send_8 := dk_seg dksX4_send_7 24 rfl rfl
theorem dX4_send_0 : decode cX4_send 0 = .ok (.aload_n 0, 1) := dk_42 (dk_at dksX4_send_0 0 rfl rfl)
theorem dX4_send_1 : decode cX4_send 1 = .ok (.iload_n 1, 1) := dk_27 (dk_at dksX4_send_0 1 rfl rfl)
theorem dX4_send_2 : decode cX4_send 2 = .ok (.invokevirtual 148, 3) := dk_182 0 148 (dk_at dksX4_send_0 2 rfl rfl)
theorem dX4_send_5 : decode cX4_send 5 = .ok (.ifCond .eq 5, 3) := dk_153 0 5 (dk_at dksX4_send_0 5 rfl rfl)
theorem dX4_send_8 : decode cX4_send 8 = .ok (.iconst 0, 1) := dk_3 (dk_at dksX4_send_0 8 rfl rfl)
theorem dX4_send_9 : decode cX4_send 9 = .ok (.ireturn, 1) := dk_172 (dk_at dksX4_send_0 9 rfl rfl)
theorem dX4_send_10 : decode cX4_send 10 = .ok (.aload_n 0, 1) := dk_42 (dk_at dksX4_send_0 10 rfl rfl)
theorem dX4_send_11 : decode cX4_send 11 = .ok (.iload_n 1, 1) := dk_27 (dk_at dksX4_send_0 11 rfl rfl)
theorem dX4_send_12 : decode cX4_send 12 = .ok (.invokevirtual 144, 3) := dk_182 0 144 (dk_at dksX4_send_0 12 rfl rfl)
theorem dX4_send_15 : decode cX4_send 15 = .ok (.istore_n 2, 1) := dk_61 (dk_at dksX4_send_0 15 rfl rfl)
theorem dX4_send_16 : decode cX4_send 16 = .ok (.aload_n 0, 1) := dk_42 (dk_at dksX4_send_0 16 rfl rfl)
theorem dX4_send_17 : decode cX4_send 17 = .ok (.iload_n 2, 1) := dk_28 (dk_at dksX4_send_0 17 rfl rfl)
theorem dX4_send_18 : decode cX4_send 18 = .ok (.iconst 2, 1) := dk_5 (dk_at dksX4_send_0 18 rfl rfl)
theorem dX4_send_19 : decode cX4_send 19 = .ok (.invokevirtual 141, 3) := dk_182 0 141 (dk_at dksX4_send_0 19 rfl rfl)
theorem dX4_send_22 : decode cX4_send 22 = .ok (.istore_n 3, 1) := dk_62 (dk_at dksX4_send_0 22 rfl rfl)
theorem dX4_send_23 : decode cX4_send 23 = .ok (.aload_n 0, 1) := dk_42 (dk_at dksX4_send_0 23 rfl rfl)
theorem dX4_send_24 : decode cX4_send 24 = .ok (.aload_n 0, 1) := dk_42 (dk_at dksX4_send_1 0 rfl rfl)
theorem dX4_send_25 : decode cX4_send 25 = .ok (.iload_n 2, 1) := dk_28 (dk_at dksX4_send_1 1 rfl rfl)
theorem dX4_send_26 : decode cX4_send 26 = .ok (.iconst 1, 1) := dk_4 (dk_at dksX4_send_1 2 rfl rfl)
theorem dX4_send_27 : decode cX4_send 27 = .ok (.invokevirtual 141, 3) := dk_182 0 141 (dk_at dksX4_send_1 3 rfl rfl)
theorem dX4_send_30 : decode cX4_send 30 = .ok (.aload_n 0, 1) := dk_42 (dk_at dksX4_send_1 6 rfl rfl)
theorem dX4_send_31 : decode cX4_send 31 = .ok (.iload_n 2, 1) := dk_28 (dk_at dksX4_send_1 7 rfl rfl)
theorem dX4_send_32 : decode cX4_send 32 = .ok (.iconst 3, 1) := dk_6 (dk_at dksX4_send_1 8 rfl rfl)
theorem dX4_send_33 : decode cX4_send 33 = .ok (.invokevirtual 141, 3) := dk_182 0 141 (dk_at dksX4_send_1 9 rfl rfl)
theorem dX4_send_36 : decode cX4_send 36 = .ok (.invokevirtual 134, 3) := dk_182 0 134 (dk_at dksX4_send_1 12 rfl rfl)
theorem dX4_send_39 : decode cX4_send 39 = .ok (.aload_n 0, 1) := dk_42 (dk_at dksX4_send_1 15 rfl rfl)
theorem dX4_send_40 : decode cX4_send 40 = .ok (.aload_n 0, 1) := dk_42 (dk_at dksX4_send_1 16 rfl rfl)
theorem dX4_send_41 : decode cX4_send 41 = .ok (.getfield 36, 3) := dk_180 0 36 (dk_at dksX4_send_1 17 rfl rfl)
theorem dX4_send_44 : decode cX4_send 44 = .ok (.iload_n 3, 1) := dk_29 (dk_at dksX4_send_1 20 rfl rfl)
theorem dX4_send_45 : decode cX4_send 45 = .ok (.iaload, 1) := dk_46 (dk_at dksX4_send_1 21 rfl rfl)
theorem dX4_send_46 : decode cX4_send 46 = .ok (.ldc 111, 2) := dk_18 111 (dk_at dksX4_send_1 22 rfl rfl)
theorem dX4_send_48 : decode cX4_send 48 = .ok (.if_icmp .ne 7, 3) := dk_160 0 7 (dk_at dksX4_send_2 0 rfl rfl)
theorem dX4_send_51 : decode cX4_send 51 = .ok (.iconst 2, 1) := dk_5 (dk_at dksX4_send_2 3 rfl rfl)
theorem dX4_send_52 : decode cX4_send 52 = .ok (.goto 4, 3) := dk_167 0 4 (dk_at dksX4_send_2 4 rfl rfl)
theorem dX4_send_55 : decode cX4_send 55 = .ok (.iconst 0, 1) := dk_3 (dk_at dksX4_send_2 7 rfl rfl)
theorem dX4_send_56 : decode cX4_send 56 = .ok (.invokevirtual 92, 3) := dk_182 0 92 (dk_at dksX4_send_2 8 rfl rfl)
theorem dX4_send_59 : decode cX4_send 59 = .ok (.ifCond .eq 5, 3) := dk_153 0 5 (dk_at dksX4_send_2 11 rfl rfl)
theorem dX4_send_62 : decode cX4_send 62 = .ok (.iconst 0, 1) := dk_3 (dk_at dksX4_send_2 14 rfl rfl)
theorem dX4_send_63 : decode cX4_send 63 = .ok (.ireturn, 1) := dk_172 (dk_at dksX4_send_2 15 rfl rfl)
theorem dX4_send_64 : decode cX4_send 64 = .ok (.aload_n 0, 1) := dk_42 (dk_at dksX4_send_2 16 rfl rfl)
theorem dX4_send_65 : decode cX4_send 65 = .ok (.iconst 0, 1) := dk_3 (dk_at dksX4_send_2 17 rfl rfl)
theorem dX4_send_66 : decode cX4_send 66 = .ok (.putfield 154, 3) := dk_181 0 154 (dk_at dksX4_send_2 18 rfl rfl)
theorem dX4_send_69 : decode cX4_send 69 = .ok (.iload_n 3, 1) := dk_29 (dk_at dksX4_send_2 21 rfl rfl)
theorem dX4_send_70 : decode cX4_send 70 = .ok (.istore 4, 2) := dk_54 4 (dk_at dksX4_send_2 22 rfl rfl)
theorem dX4_send_72 : decode cX4_send 72 = .ok (.iload 4, 2) := dk_21 4 (dk_at dksX4_send_3 0 rfl rfl)
theorem dX4_send_74 : decode cX4_send 74 = .ok (.aload_n 0, 1) := dk_42 (dk_at dksX4_send_3 2 rfl rfl)
theorem dX4_send_75 : decode cX4_send 75 = .ok (.getfield 105, 3) := dk_180 0 105 (dk_at dksX4_send_3 3 rfl rfl)
theorem dX4_send_78 : decode cX4_send 78 = .ok (.if_icmp .eq 14, 3) := dk_159 0 14 (dk_at dksX4_send_3 6 rfl rfl)
theorem dX4_send_81 : decode cX4_send 81 = .ok (.aload_n 0, 1) := dk_42 (dk_at dksX4_send_3 9 rfl rfl)
theorem dX4_send_82 : decode cX4_send 82 = .ok (.iload 4, 2) := dk_21 4 (dk_at dksX4_send_3 10 rfl rfl)
theorem dX4_send_84 : decode cX4_send 84 = .ok (.invokevirtual 157, 3) := dk_182 0 157 (dk_at dksX4_send_3 12 rfl rfl)
theorem dX4_send_87 : decode cX4_send 87 = .ok (.istore 4, 2) := dk_54 4 (dk_at dksX4_send_3 15 rfl rfl)
theorem dX4_send_89 : decode cX4_send 89 = .ok (.goto (-17), 3) := dk_167 255 239 (dk_at dksX4_send_3 17 rfl rfl)
theorem dX4_send_92 : decode cX4_send 92 = .ok (.aload_n 0, 1) := dk_42 (dk_at dksX4_send_3 20 rfl rfl)
theorem dX4_send_93 : decode cX4_send 93 = .ok (.aload_n 0, 1) := dk_42 (dk_at dksX4_send_3 21 rfl rfl)
theorem dX4_send_94 : decode cX4_send 94 = .ok (.getfield 7, 3) := dk_180 0 7 (dk_at dksX4_send_4 0 rfl rfl)
theorem dX4_send_97 : decode cX4_send 97 = .ok (.invokevirtual 95, 3) := dk_182 0 95 (dk_at dksX4_send_4 3 rfl rfl)
theorem dX4_send_100 : decode cX4_send 100 = .ok (.iconst 0, 1) := dk_3 (dk_at dksX4_send_4 6 rfl rfl)
theorem dX4_send_101 : decode cX4_send 101 = .ok (.istore 5, 2) := dk_54 5 (dk_at dksX4_send_4 7 rfl rfl)
theorem dX4_send_103 : decode cX4_send 103 = .ok (.iload 5, 2) := dk_21 5 (dk_at dksX4_send_4 9 rfl rfl)
theorem dX4_send_105 : decode cX4_send 105 = .ok (.aload_n 0, 1) := dk_42 (dk_at dksX4_send_4 11 rfl rfl)
theorem dX4_send_106 : decode cX4_send 106 = .ok (.getfield 154, 3) := dk_180 0 154 (dk_at dksX4_send_4 12 rfl rfl)
theorem dX4_send_109 : decode cX4_send 109 = .ok (.if_icmp .ge 42, 3) := dk_162 0 42 (dk_at dksX4_send_4 15 rfl rfl)
theorem dX4_send_112 : decode cX4_send 112 = .ok (.aload_n 0, 1) := dk_42 (dk_at dksX4_send_4 18 rfl rfl)
theorem dX4_send_113 : decode cX4_send 113 = .ok (.getfield 7, 3) := dk_180 0 7 (dk_at dksX4_send_4 19 rfl rfl)
theorem dX4_send_116 : decode cX4_send 116 = .ok (.bipush 16, 2) := dk_16 16 (dk_at dksX4_send_4 22 rfl rfl)
theorem dX4_send_118 : decode cX4_send 118 = .ok (.bipush 36, 2) := dk_16 36 (dk_at dksX4_send_5 0 rfl rfl)
theorem dX4_send_120 : decode cX4_send 120 = .ok (.aload_n 0, 1) := dk_42 (dk_at dksX4_send_5 2 rfl rfl)
theorem dX4_send_121 : decode cX4_send 121 = .ok (.getfield 42, 3) := dk_180 0 42 (dk_at dksX4_send_5 3 rfl rfl)
theorem dX4_send_124 : decode cX4_send 124 = .ok (.iload 5, 2) := dk_21 5 (dk_at dksX4_send_5 6 rfl rfl)
theorem dX4_send_126 : decode cX4_send 126 = .ok (.iaload, 1) := dk_46 (dk_at dksX4_send_5 8 rfl rfl)
theorem dX4_send_127 : decode cX4_send 127 = .ok (.imul, 1) := dk_104 (dk_at dksX4_send_5 9 rfl rfl)
theorem dX4_send_128 : decode cX4_send 128 = .ok (.iadd, 1) := dk_96 (dk_at dksX4_send_5 10 rfl rfl)
theorem dX4_send_129 : decode cX4_send 129 = .ok (.bipush 28, 2) := dk_16 28 (dk_at dksX4_send_5 11 rfl rfl)
theorem dX4_send_131 : decode cX4_send 131 = .ok (.iadd, 1) := dk_96 (dk_at dksX4_send_5 13 rfl rfl)
theorem dX4_send_132 : decode cX4_send 132 = .ok (.aload_n 0, 1) := dk_42 (dk_at dksX4_send_5 14 rfl rfl)
theorem dX4_send_133 : decode cX4_send 133 = .ok (.getfield 45, 3) := dk_180 0 45 (dk_at dksX4_send_5 15 rfl rfl)
theorem dX4_send_136 : decode cX4_send 136 = .ok (.iload 5, 2) := dk_21 5 (dk_at dksX4_send_5 18 rfl rfl)
theorem dX4_send_138 : decode cX4_send 138 = .ok (.iaload, 1) := dk_46 (dk_at dksX4_send_5 20 rfl rfl)
theorem dX4_send_139 : decode cX4_send 139 = .ok (.iadd, 1) := dk_96 (dk_at dksX4_send_5 21 rfl rfl)
theorem dX4_send_140 : decode cX4_send 140 = .ok (.dup2, 1) := dk_92 (dk_at dksX4_send_5 22 rfl rfl)
theorem dX4_send_141 : decode cX4_send 141 = .ok (.iaload, 1) := dk_46 (dk_at dksX4_send_5 23 rfl rfl)
theorem dX4_send_142 : decode cX4_send 142 = .ok (.iconst 1, 1) := dk_4 (dk_at dksX4_send_6 0 rfl rfl)
theorem dX4_send_143 : decode cX4_send 143 = .ok (.iadd, 1) := dk_96 (dk_at dksX4_send_6 1 rfl rfl)
theorem dX4_send_144 : decode cX4_send 144 = .ok (.iastore, 1) := dk_79 (dk_at dksX4_send_6 2 rfl rfl)
theorem dX4_send_145 : decode cX4_send 145 = .ok (.iinc 5 1, 3) := dk_132 5 1 (dk_at dksX4_send_6 3 rfl rfl)
theorem dX4_send_148 : decode cX4_send 148 = .ok (.goto (-45), 3) := dk_167 255 211 (dk_at dksX4_send_6 6 rfl rfl)
theorem dX4_send_151 : decode cX4_send 151 = .ok (.aload_n 0, 1) := dk_42 (dk_at dksX4_send_6 9 rfl rfl)
theorem dX4_send_152 : decode cX4_send 152 = .ok (.getfield 7, 3) := dk_180 0 7 (dk_at dksX4_send_6 10 rfl rfl)
theorem dX4_send_155 : decode cX4_send 155 = .ok (.bipush 6, 2) := dk_16 6 (dk_at dksX4_send_6 13 rfl rfl)
theorem dX4_send_157 : decode cX4_send 157 = .ok (.dup2, 1) := dk_92 (dk_at dksX4_send_6 15 rfl rfl)
theorem dX4_send_158 : decode cX4_send 158 = .ok (.iaload, 1) := dk_46 (dk_at dksX4_send_6 16 rfl rfl)
theorem dX4_send_159 : decode cX4_send 159 = .ok (.iconst 2, 1) := dk_5 (dk_at dksX4_send_6 17 rfl rfl)
theorem dX4_send_160 : decode cX4_send 160 = .ok (.aload_n 0, 1) := dk_42 (dk_at dksX4_send_6 18 rfl rfl)
theorem dX4_send_161 : decode cX4_send 161 = .ok (.getfield 154, 3) := dk_180 0 154 (dk_at dksX4_send_6 19 rfl rfl)
theorem dX4_send_164 : decode cX4_send 164 = .ok (.imul, 1) := dk_104 (dk_at dksX4_send_6 22 rfl rfl)
theorem dX4_send_165 : decode cX4_send 165 = .ok (.iadd, 1) := dk_96 (dk_at dksX4_send_6 23 rfl rfl)
theorem dX4_send_166 : decode cX4_send 166 = .ok (.iastore, 1) := dk_79 (dk_at dksX4_send_7 0 rfl rfl)
theorem dX4_send_167 : decode cX4_send 167 = .ok (.aload_n 0, 1) := dk_42 (dk_at dksX4_send_7 1 rfl rfl)
theorem dX4_send_168 : decode cX4_send 168 = .ok (.getfield 7, 3) := dk_180 0 7 (dk_at dksX4_send_7 2 rfl rfl)
theorem dX4_send_171 : decode cX4_send 171 = .ok (.sipush 232, 3) := dk_17 0 232 (dk_at dksX4_send_7 5 rfl rfl)
theorem dX4_send_174 : decode cX4_send 174 = .ok (.iconst 4, 1) := dk_7 (dk_at dksX4_send_7 8 rfl rfl)
theorem dX4_send_175 : decode cX4_send 175 = .ok (.iload_n 2, 1) := dk_28 (dk_at dksX4_send_7 9 rfl rfl)
theorem dX4_send_176 : decode cX4_send 176 = .ok (.imul, 1) := dk_104 (dk_at dksX4_send_7 10 rfl rfl)
theorem dX4_send_177 : decode cX4_send 177 = .ok (.iadd, 1) := dk_96 (dk_at dksX4_send_7 11 rfl rfl)
theorem dX4_send_178 : decode cX4_send 178 = .ok (.iconst 1, 1) := dk_4 (dk_at dksX4_send_7 12 rfl rfl)
theorem dX4_send_179 : decode cX4_send 179 = .ok (.iadd, 1) := dk_96 (dk_at dksX4_send_7 13 rfl rfl)
theorem dX4_send_180 : decode cX4_send 180 = .ok (.iload_n 3, 1) := dk_29 (dk_at dksX4_send_7 14 rfl rfl)
theorem dX4_send_181 : decode cX4_send 181 = .ok (.iastore, 1) := dk_79 (dk_at dksX4_send_7 15 rfl rfl)
theorem dX4_send_182 : decode cX4_send 182 = .ok (.aload_n 0, 1) := dk_42 (dk_at dksX4_send_7 16 rfl rfl)
theorem dX4_send_183 : decode cX4_send 183 = .ok (.getfield 7, 3) := dk_180 0 7 (dk_at dksX4_send_7 17 rfl rfl)
theorem dX4_send_186 : decode cX4_send 186 = .ok (.sipush 232, 3) := dk_17 0 232 (dk_at dksX4_send_7 20 rfl rfl)
theorem dX4_send_189 : decode cX4_send 189 = .ok (.iconst 4, 1) := dk_7 (dk_at dksX4_send_7 23 rfl rfl)
theorem dX4_send_190 : decode cX4_send 190 = .ok (.iload_n 2, 1) := dk_28 (dk_at dksX4_send_8 0 rfl rfl)
theorem dX4_send_191 : decode cX4_send 191 = .ok (.imul, 1) := dk_104 (dk_at dksX4_send_8 1 rfl rfl)
theorem dX4_send_192 : decode cX4_send 192 = .ok (.iadd, 1) := dk_96 (dk_at dksX4_send_8 2 rfl rfl)
theorem dX4_send_193 : decode cX4_send 193 = .ok (.iconst 3, 1) := dk_6 (dk_at dksX4_send_8 3 rfl rfl)
theorem dX4_send_194 : decode cX4_send 194 = .ok (.iadd, 1) := dk_96 (dk_at dksX4_send_8 4 rfl rfl)
theorem dX4_send_195 : decode cX4_send 195 = .ok (.aload_n 0, 1) := dk_42 (dk_at dksX4_send_8 5 rfl rfl)
theorem dX4_send_196 : decode cX4_send 196 = .ok (.getfield 36, 3) := dk_180 0 36 (dk_at dksX4_send_8 6 rfl rfl)
theorem dX4_send_199 : decode cX4_send 199 = .ok (.iload_n 3, 1) := dk_29 (dk_at dksX4_send_8 9 rfl rfl)
theorem dX4_send_200 : decode cX4_send 200 = .ok (.iaload, 1) := dk_46 (dk_at dksX4_send_8 10 rfl rfl)
theorem dX4_send_201 : decode cX4_send 201 = .ok (.iastore, 1) := dk_79 (dk_at dksX4_send_8 11 rfl rfl)
theorem dX4_send_202 : decode cX4_send 202 = .ok (.aload_n 0, 1) := dk_42 (dk_at dksX4_send_8 12 rfl rfl)
theorem dX4_send_203 : decode cX4_send 203 = .ok (.getfield 154, 3) := dk_180 0 154 (dk_at dksX4_send_8 13 rfl rfl)
theorem dX4_send_206 : decode cX4_send 206 = .ok (.ireturn, 1) := dk_172 (dk_at dksX4_send_8 16 rfl rfl)
abbrev cX4_goesBack : ByteArray := prog_20_method_39_code
def yX4_goesBack : MethodName := ⟨RX4, "goesBack", "(I)I"⟩
def dkwX4_goesBack_6 : List UInt8 := [167, 255, 119, 42, 180, 0, 105, 172]
abbrev dktX4_goesBack_6 : List UInt8 := dkwX4_goesBack_6 ++ []
def dkwX4_goesBack_5 : List UInt8 := [132, 5, 1, 167, 255, 216, 42, 28, 21, 4, 182, 0, 102, 172, 132, 3, 1, 167, 255, 137, 132, 2, 1]
abbrev dktX4_goesBack_5 : List UInt8 := dkwX4_goesBack_5 ++ dktX4_goesBack_6
def dkwX4_goesBack_4 : List UInt8 := [79, 42, 180, 0, 45, 42, 180, 0, 154, 21, 5, 79, 42, 89, 180, 0, 154, 4, 96, 181, 0, 154]
abbrev dktX4_goesBack_4 : List UInt8 := dkwX4_goesBack_4 ++ dktX4_goesBack_5
def dkwX4_goesBack_3 : List UInt8 := [182, 0, 151, 54, 4, 21, 4, 54, 5, 21, 5, 29, 163, 0, 40, 42, 180, 0, 42, 42, 180, 0, 154, 28]
abbrev dktX4_goesBack_3 : List UInt8 := dkwX4_goesBack_3 ++ dktX4_goesBack_4
def dkwX4_goesBack_2 : List UInt8 := [180, 0, 36, 27, 46, 160, 0, 78, 42, 28, 29, 182, 0, 151, 156, 0, 6, 167, 0, 66, 42, 28, 29]
abbrev dktX4_goesBack_2 : List UInt8 := dkwX4_goesBack_2 ++ dktX4_goesBack_3
def dkwX4_goesBack_1 : List UInt8 := [162, 0, 113, 42, 28, 29, 4, 96, 182, 0, 102, 27, 160, 0, 95, 42, 28, 29, 4, 96, 182, 0, 120, 42]
abbrev dktX4_goesBack_1 : List UInt8 := dkwX4_goesBack_1 ++ dktX4_goesBack_2
def dkwX4_goesBack_0 : List UInt8 := [3, 61, 28, 42, 180, 0, 7, 4, 46, 162, 0, 133, 3, 62, 29, 42, 28, 6, 182, 0, 76, 4, 100]
abbrev dktX4_goesBack_0 : List UInt8 := dkwX4_goesBack_0 ++ dktX4_goesBack_1
theorem dksX4_goesBack_0 : cX4_goesBack.data.toList.drop 0 = dktX4_goesBack_0 := by decide +kernel
theorem dksX4_goesBack_1 : cX4_goesBack.data.toList.drop 23 = dktX4_goesBack_1 := dk_seg dksX4_goesBack_0 23 rfl rfl
theorem dksX4_goesBack_2 : cX4_goesBack.data.toList.drop 47 = dktX4_goesBack_2 := dk_seg dksX4_goesBack_1 24 rfl rfl
theorem dksX4_goesBack_3 : cX4_goesBack.data.toList.drop 70 = dktX4_goesBack_3 := dk_seg dksX4_goesBack_2 23 rfl rfl
theorem dksX4_goesBack_4 : cX4_goesBack.data.toList.drop 94 = dktX4_goesBack_4 := dk_seg dksX4_goesBack_3 24 rfl rfl
theorem dksX4_goesBack_5 : cX4_goesBack.data.toList.drop 116 = dktX4_goesBack_5 := dk_seg dksX4_goesBack_4 22 rfl rfl
theorem dksX4_goesBack_6 : cX4_goesBack.data.toList.drop 139 = dktX4_goesBack_6 := dk_seg dksX4_goesBack_5 23 rfl rfl
theorem dX4_goesBack_0 : decode cX4_goesBack 0 = .ok (.iconst 0, 1) := dk_3 (dk_at dksX4_goesBack_0 0 rfl rfl)
theorem dX4_goesBack_1 : decode cX4_goesBack 1 = .ok (.istore_n 2, 1) := dk_61 (dk_at dksX4_goesBack_0 1 rfl rfl)
theorem dX4_goesBack_2 : decode cX4_goesBack 2 = .ok (.iload_n 2, 1) := dk_28 (dk_at dksX4_goesBack_0 2 rfl rfl)
theorem dX4_goesBack_3 : decode cX4_goesBack 3 = .ok (.aload_n 0, 1) := dk_42 (dk_at dksX4_goesBack_0 3 rfl rfl)
theorem dX4_goesBack_4 : decode cX4_goesBack 4 = .ok (.getfield 7, 3) := dk_180 0 7 (dk_at dksX4_goesBack_0 4 rfl rfl)
theorem dX4_goesBack_7 : decode cX4_goesBack 7 = .ok (.iconst 1, 1) := dk_4 (dk_at dksX4_goesBack_0 7 rfl rfl)
theorem dX4_goesBack_8 : decode cX4_goesBack 8 = .ok (.iaload, 1) := dk_46 (dk_at dksX4_goesBack_0 8 rfl rfl)
theorem dX4_goesBack_9 : decode cX4_goesBack 9 = .ok (.if_icmp .ge 133, 3) := dk_162 0 133 (dk_at dksX4_goesBack_0 9 rfl rfl)
theorem dX4_goesBack_12 : decode cX4_goesBack 12 = .ok (.iconst 0, 1) := dk_3 (dk_at dksX4_goesBack_0 12 rfl rfl)
theorem dX4_goesBack_13 : decode cX4_goesBack 13 = .ok (.istore_n 3, 1) := dk_62 (dk_at dksX4_goesBack_0 13 rfl rfl)
theorem dX4_goesBack_14 : decode cX4_goesBack 14 = .ok (.iload_n 3, 1) := dk_29 (dk_at dksX4_goesBack_0 14 rfl rfl)
theorem dX4_goesBack_15 : decode cX4_goesBack 15 = .ok (.aload_n 0, 1) := dk_42 (dk_at dksX4_goesBack_0 15 rfl rfl)
theorem dX4_goesBack_16 : decode cX4_goesBack 16 = .ok (.iload_n 2, 1) := dk_28 (dk_at dksX4_goesBack_0 16 rfl rfl)
theorem dX4_goesBack_17 : decode cX4_goesBack 17 = .ok (.iconst 3, 1) := dk_6 (dk_at dksX4_goesBack_0 17 rfl rfl)
theorem dX4_goesBack_18 : decode cX4_goesBack 18 = .ok (.invokevirtual 76, 3) := dk_182 0 76 (dk_at dksX4_goesBack_0 18 rfl rfl)
theorem dX4_goesBack_21 : decode cX4_goesBack 21 = .ok (.iconst 1, 1) := dk_4 (dk_at dksX4_goesBack_0 21 rfl rfl)
theorem dX4_goesBack_22 : decode cX4_goesBack 22 = .ok (.isub, 1) := dk_100 (dk_at dksX4_goesBack_0 22 rfl rfl)
theorem dX4_goesBack_23 : decode cX4_goesBack 23 = .ok (.if_icmp .ge 113, 3) := dk_162 0 113 (dk_at dksX4_goesBack_1 0 rfl rfl)
theorem dX4_goesBack_26 : decode cX4_goesBack 26 = .ok (.aload_n 0, 1) := dk_42 (dk_at dksX4_goesBack_1 3 rfl rfl)
theorem dX4_goesBack_27 : decode cX4_goesBack 27 = .ok (.iload_n 2, 1) := dk_28 (dk_at dksX4_goesBack_1 4 rfl rfl)
theorem dX4_goesBack_28 : decode cX4_goesBack 28 = .ok (.iload_n 3, 1) := dk_29 (dk_at dksX4_goesBack_1 5 rfl rfl)
theorem dX4_goesBack_29 : decode cX4_goesBack 29 = .ok (.iconst 1, 1) := dk_4 (dk_at dksX4_goesBack_1 6 rfl rfl)
theorem dX4_goesBack_30 : decode cX4_goesBack 30 = .ok (.iadd, 1) := dk_96 (dk_at dksX4_goesBack_1 7 rfl rfl)
theorem dX4_goesBack_31 : decode cX4_goesBack 31 = .ok (.invokevirtual 102, 3) := dk_182 0 102 (dk_at dksX4_goesBack_1 8 rfl rfl)
theorem dX4_goesBack_34 : decode cX4_goesBack 34 = .ok (.iload_n 1, 1) := dk_27 (dk_at dksX4_goesBack_1 11 rfl rfl)
theorem dX4_goesBack_35 : decode cX4_goesBack 35 = .ok (.if_icmp .ne 95, 3) := dk_160 0 95 (dk_at dksX4_goesBack_1 12 rfl rfl)
theorem dX4_goesBack_38 : decode cX4_goesBack 38 = .ok (.aload_n 0, 1) := dk_42 (dk_at dksX4_goesBack_1 15 rfl rfl)
theorem dX4_goesBack_39 : decode cX4_goesBack 39 = .ok (.iload_n 2, 1) := dk_28 (dk_at dksX4_goesBack_1 16 rfl rfl)
theorem dX4_goesBack_40 : decode cX4_goesBack 40 = .ok (.iload_n 3, 1) := dk_29 (dk_at dksX4_goesBack_1 17 rfl rfl)
theorem dX4_goesBack_41 : decode cX4_goesBack 41 = .ok (.iconst 1, 1) := dk_4 (dk_at dksX4_goesBack_1 18 rfl rfl)
theorem dX4_goesBack_42 : decode cX4_goesBack 42 = .ok (.iadd, 1) := dk_96 (dk_at dksX4_goesBack_1 19 rfl rfl)
theorem dX4_goesBack_43 : decode cX4_goesBack 43 = .ok (.invokevirtual 120, 3) := dk_182 0 120 (dk_at dksX4_goesBack_1 20 rfl rfl)
theorem dX4_goesBack_46 : decode cX4_goesBack 46 = .ok (.aload_n 0, 1) := dk_42 (dk_at dksX4_goesBack_1 23 rfl rfl)
theorem dX4_goesBack_47 : decode cX4_goesBack 47 = .ok (.getfield 36, 3) := dk_180 0 36 (dk_at dksX4_goesBack_2 0 rfl rfl)
theorem dX4_goesBack_50 : decode cX4_goesBack 50 = .ok (.iload_n 1, 1) := dk_27 (dk_at dksX4_goesBack_2 3 rfl rfl)
theorem dX4_goesBack_51 : decode cX4_goesBack 51 = .ok (.iaload, 1) := dk_46 (dk_at dksX4_goesBack_2 4 rfl rfl)
theorem dX4_goesBack_52 : decode cX4_goesBack 52 = .ok (.if_icmp .ne 78, 3) := dk_160 0 78 (dk_at dksX4_goesBack_2 5 rfl rfl)
theorem dX4_goesBack_55 : decode cX4_goesBack 55 = .ok (.aload_n 0, 1) := dk_42 (dk_at dksX4_goesBack_2 8 rfl rfl)
theorem dX4_goesBack_56 : decode cX4_goesBack 56 = .ok (.iload_n 2, 1) := dk_28 (dk_at dksX4_goesBack_2 9 rfl rfl)
theorem dX4_goesBack_57 : decode cX4_goesBack 57 = .ok (.iload_n 3, 1) := dk_29 (dk_at dksX4_goesBack_2 10 rfl rfl)
theorem dX4_goesBack_58 : decode cX4_goesBack 58 = .ok (.invokevirtual 151, 3) := dk_182 0 151 (dk_at dksX4_goesBack_2 11 rfl rfl)
theorem dX4_goesBack_61 : decode cX4_goesBack 61 = .ok (.ifCond .ge 6, 3) := dk_156 0 6 (dk_at dksX4_goesBack_2 14 rfl rfl)
theorem dX4_goesBack_64 : decode cX4_goesBack 64 = .ok (.goto 66, 3) := dk_167 0 66 (dk_at dksX4_goesBack_2 17 rfl rfl)
theorem dX4_goesBack_67 : decode cX4_goesBack 67 = .ok (.aload_n 0, 1) := dk_42 (dk_at dksX4_goesBack_2 20 rfl rfl)
theorem dX4_goesBack_68 : decode cX4_goesBack 68 = .ok (.iload_n 2, 1) := dk_28 (dk_at dksX4_goesBack_2 21 rfl rfl)
theorem dX4_goesBack_69 : decode cX4_goesBack 69 = .ok (.iload_n 3, 1) := dk_29 (dk_at dksX4_goesBack_2 22 rfl rfl)
theorem dX4_goesBack_70 : decode cX4_goesBack 70 = .ok (.invokevirtual 151, 3) := dk_182 0 151 (dk_at dksX4_goesBack_3 0 rfl rfl)
theorem dX4_goesBack_73 : decode cX4_goesBack 73 = .ok (.istore 4, 2) := dk_54 4 (dk_at dksX4_goesBack_3 3 rfl rfl)
theorem dX4_goesBack_75 : decode cX4_goesBack 75 = .ok (.iload 4, 2) := dk_21 4 (dk_at dksX4_goesBack_3 5 rfl rfl)
theorem dX4_goesBack_77 : decode cX4_goesBack 77 = .ok (.istore 5, 2) := dk_54 5 (dk_at dksX4_goesBack_3 7 rfl rfl)
theorem dX4_goesBack_79 : decode cX4_goesBack 79 = .ok (.iload 5, 2) := dk_21 5 (dk_at dksX4_goesBack_3 9 rfl rfl)
theorem dX4_goesBack_81 : decode cX4_goesBack 81 = .ok (.iload_n 3, 1) := dk_29 (dk_at dksX4_goesBack_3 11 rfl rfl)
theorem dX4_goesBack_82 : decode cX4_goesBack 82 = .ok (.if_icmp .gt 40, 3) := dk_163 0 40 (dk_at dksX4_goesBack_3 12 rfl rfl)
theorem dX4_goesBack_85 : decode cX4_goesBack 85 = .ok (.aload_n 0, 1) := dk_42 (dk_at dksX4_goesBack_3 15 rfl rfl)
theorem dX4_goesBack_86 : decode cX4_goesBack 86 = .ok (.getfield 42, 3) := dk_180 0 42 (dk_at dksX4_goesBack_3 16 rfl rfl)
theorem dX4_goesBack_89 : decode cX4_goesBack 89 = .ok (.aload_n 0, 1) := dk_42 (dk_at dksX4_goesBack_3 19 rfl rfl)
theorem dX4_goesBack_90 : decode cX4_goesBack 90 = .ok (.getfield 154, 3) := dk_180 0 154 (dk_at dksX4_goesBack_3 20 rfl rfl)
theorem dX4_goesBack_93 : decode cX4_goesBack 93 = .ok (.iload_n 2, 1) := dk_28 (dk_at dksX4_goesBack_3 23 rfl rfl)
theorem dX4_goesBack_94 : decode cX4_goesBack 94 = .ok (.iastore, 1) := dk_79 (dk_at dksX4_goesBack_4 0 rfl rfl)
theorem dX4_goesBack_95 : decode cX4_goesBack 95 = .ok (.aload_n 0, 1) := dk_42 (dk_at dksX4_goesBack_4 1 rfl rfl)
theorem dX4_goesBack_96 : decode cX4_goesBack 96 = .ok (.getfield 45, 3) := dk_180 0 45 (dk_at dksX4_goesBack_4 2 rfl rfl)
theorem dX4_goesBack_99 : decode cX4_goesBack 99 = .ok (.aload_n 0, 1) := dk_42 (dk_at dksX4_goesBack_4 5 rfl rfl)
theorem dX4_goesBack_100 : decode cX4_goesBack 100 = .ok (.getfield 154, 3) := dk_180 0 154 (dk_at dksX4_goesBack_4 6 rfl rfl)
theorem dX4_goesBack_103 : decode cX4_goesBack 103 = .ok (.iload 5, 2) := dk_21 5 (dk_at dksX4_goesBack_4 9 rfl rfl)
theorem dX4_goesBack_105 : decode cX4_goesBack 105 = .ok (.iastore, 1) := dk_79 (dk_at dksX4_goesBack_4 11 rfl rfl)
theorem dX4_goesBack_106 : decode cX4_goesBack 106 = .ok (.aload_n 0, 1) := dk_42 (dk_at dksX4_goesBack_4 12 rfl rfl)
theorem dX4_goesBack_107 : decode cX4_goesBack 107 = .ok (.dup, 1) := dk_89 (dk_at dksX4_goesBack_4 13 rfl rfl)
theorem dX4_goesBack_108 : decode cX4_goesBack 108 = .ok (.getfield 154, 3) := dk_180 0 154 (dk_at dksX4_goesBack_4 14 rfl rfl)
theorem dX4_goesBack_111 : decode cX4_goesBack 111 = .ok (.iconst 1, 1) := dk_4 (dk_at dksX4_goesBack_4 17 rfl rfl)
theorem dX4_goesBack_112 : decode cX4_goesBack 112 = .ok (.iadd, 1) := dk_96 (dk_at dksX4_goesBack_4 18 rfl rfl)
theorem dX4_goesBack_113 : decode cX4_goesBack 113 = .ok (.putfield 154, 3) := dk_181 0 154 (dk_at dksX4_goesBack_4 19 rfl rfl)
theorem dX4_goesBack_116 : decode cX4_goesBack 116 = .ok (.iinc 5 1, 3) := dk_132 5 1 (dk_at dksX4_goesBack_5 0 rfl rfl)
theorem dX4_goesBack_119 : decode cX4_goesBack 119 = .ok (.goto (-40), 3) := dk_167 255 216 (dk_at dksX4_goesBack_5 3 rfl rfl)
theorem dX4_goesBack_122 : decode cX4_goesBack 122 = .ok (.aload_n 0, 1) := dk_42 (dk_at dksX4_goesBack_5 6 rfl rfl)
theorem dX4_goesBack_123 : decode cX4_goesBack 123 = .ok (.iload_n 2, 1) := dk_28 (dk_at dksX4_goesBack_5 7 rfl rfl)
theorem dX4_goesBack_124 : decode cX4_goesBack 124 = .ok (.iload 4, 2) := dk_21 4 (dk_at dksX4_goesBack_5 8 rfl rfl)
theorem dX4_goesBack_126 : decode cX4_goesBack 126 = .ok (.invokevirtual 102, 3) := dk_182 0 102 (dk_at dksX4_goesBack_5 10 rfl rfl)
theorem dX4_goesBack_129 : decode cX4_goesBack 129 = .ok (.ireturn, 1) := dk_172 (dk_at dksX4_goesBack_5 13 rfl rfl)
theorem dX4_goesBack_130 : decode cX4_goesBack 130 = .ok (.iinc 3 1, 3) := dk_132 3 1 (dk_at dksX4_goesBack_5 14 rfl rfl)
theorem dX4_goesBack_133 : decode cX4_goesBack 133 = .ok (.goto (-119), 3) := dk_167 255 137 (dk_at dksX4_goesBack_5 17 rfl rfl)
theorem dX4_goesBack_136 : decode cX4_goesBack 136 = .ok (.iinc 2 1, 3) := dk_132 2 1 (dk_at dksX4_goesBack_5 20 rfl rfl)
theorem dX4_goesBack_139 : decode cX4_goesBack 139 = .ok (.goto (-137), 3) := dk_167 255 119 (dk_at dksX4_goesBack_6 0 rfl rfl)
theorem dX4_goesBack_142 : decode cX4_goesBack 142 = .ok (.aload_n 0, 1) := dk_42 (dk_at dksX4_goesBack_6 3 rfl rfl)
theorem dX4_goesBack_143 : decode cX4_goesBack 143 = .ok (.getfield 105, 3) := dk_180 0 105 (dk_at dksX4_goesBack_6 4 rfl rfl)
theorem dX4_goesBack_146 : decode cX4_goesBack 146 = .ok (.ireturn, 1) := dk_172 (dk_at dksX4_goesBack_6 7 rfl rfl)
abbrev cX4_boardedAt : ByteArray := prog_20_method_38_code
def yX4_boardedAt : MethodName := ⟨RX4, "boardedAt", "(II)I"⟩
def dkwX4_boardedAt_1 : List UInt8 := [182, 0, 112, 153, 0, 5, 29, 172, 132, 3, 255, 167, 255, 225, 2, 172]
abbrev dktX4_boardedAt_1 : List UInt8 := dkwX4_boardedAt_1 ++ []
def dkwX4_boardedAt_0 : List UInt8 := [28, 62, 29, 155, 0, 33, 42, 27, 29, 182, 0, 116, 154, 0, 24, 42, 27, 29, 42, 180, 0, 36]
abbrev dktX4_boardedAt_0 : List UInt8 := dkwX4_boardedAt_0 ++ dktX4_boardedAt_1
theorem dksX4_boardedAt_0 : cX4_boardedAt.data.toList.drop 0 = dktX4_boardedAt_0 := by decide +kernel
theorem dksX4_boardedAt_1 : cX4_boardedAt.data.toList.drop 22 = dktX4_boardedAt_1 := dk_seg dksX4_boardedAt_0 22 rfl rfl
theorem dX4_boardedAt_0 : decode cX4_boardedAt 0 = .ok (.iload_n 2, 1) := dk_28 (dk_at dksX4_boardedAt_0 0 rfl rfl)
theorem dX4_boardedAt_1 : decode cX4_boardedAt 1 = .ok (.istore_n 3, 1) := dk_62 (dk_at dksX4_boardedAt_0 1 rfl rfl)
theorem dX4_boardedAt_2 : decode cX4_boardedAt 2 = .ok (.iload_n 3, 1) := dk_29 (dk_at dksX4_boardedAt_0 2 rfl rfl)
theorem dX4_boardedAt_3 : decode cX4_boardedAt 3 = .ok (.ifCond .lt 33, 3) := dk_155 0 33 (dk_at dksX4_boardedAt_0 3 rfl rfl)
theorem dX4_boardedAt_6 : decode cX4_boardedAt 6 = .ok (.aload_n 0, 1) := dk_42 (dk_at dksX4_boardedAt_0 6 rfl rfl)
theorem dX4_boardedAt_7 : decode cX4_boardedAt 7 = .ok (.iload_n 1, 1) := dk_27 (dk_at dksX4_boardedAt_0 7 rfl rfl)
theorem dX4_boardedAt_8 : decode cX4_boardedAt 8 = .ok (.iload_n 3, 1) := dk_29 (dk_at dksX4_boardedAt_0 8 rfl rfl)
theorem dX4_boardedAt_9 : decode cX4_boardedAt 9 = .ok (.invokevirtual 116, 3) := dk_182 0 116 (dk_at dksX4_boardedAt_0 9 rfl rfl)
theorem dX4_boardedAt_12 : decode cX4_boardedAt 12 = .ok (.ifCond .ne 24, 3) := dk_154 0 24 (dk_at dksX4_boardedAt_0 12 rfl rfl)
theorem dX4_boardedAt_15 : decode cX4_boardedAt 15 = .ok (.aload_n 0, 1) := dk_42 (dk_at dksX4_boardedAt_0 15 rfl rfl)
theorem dX4_boardedAt_16 : decode cX4_boardedAt 16 = .ok (.iload_n 1, 1) := dk_27 (dk_at dksX4_boardedAt_0 16 rfl rfl)
theorem dX4_boardedAt_17 : decode cX4_boardedAt 17 = .ok (.iload_n 3, 1) := dk_29 (dk_at dksX4_boardedAt_0 17 rfl rfl)
theorem dX4_boardedAt_18 : decode cX4_boardedAt 18 = .ok (.aload_n 0, 1) := dk_42 (dk_at dksX4_boardedAt_0 18 rfl rfl)
theorem dX4_boardedAt_19 : decode cX4_boardedAt 19 = .ok (.getfield 36, 3) := dk_180 0 36 (dk_at dksX4_boardedAt_0 19 rfl rfl)
theorem dX4_boardedAt_22 : decode cX4_boardedAt 22 = .ok (.invokevirtual 112, 3) := dk_182 0 112 (dk_at dksX4_boardedAt_1 0 rfl rfl)
theorem dX4_boardedAt_25 : decode cX4_boardedAt 25 = .ok (.ifCond .eq 5, 3) := dk_153 0 5 (dk_at dksX4_boardedAt_1 3 rfl rfl)
theorem dX4_boardedAt_28 : decode cX4_boardedAt 28 = .ok (.iload_n 3, 1) := dk_29 (dk_at dksX4_boardedAt_1 6 rfl rfl)
theorem dX4_boardedAt_29 : decode cX4_boardedAt 29 = .ok (.ireturn, 1) := dk_172 (dk_at dksX4_boardedAt_1 7 rfl rfl)
theorem dX4_boardedAt_30 : decode cX4_boardedAt 30 = .ok (.iinc 3 (-1), 3) := dk_132 3 255 (dk_at dksX4_boardedAt_1 8 rfl rfl)
theorem dX4_boardedAt_33 : decode cX4_boardedAt 33 = .ok (.goto (-31), 3) := dk_167 255 225 (dk_at dksX4_boardedAt_1 11 rfl rfl)
theorem dX4_boardedAt_36 : decode cX4_boardedAt 36 = .ok (.iconst (-1), 1) := dk_2 (dk_at dksX4_boardedAt_1 14 rfl rfl)
theorem dX4_boardedAt_37 : decode cX4_boardedAt 37 = .ok (.ireturn, 1) := dk_172 (dk_at dksX4_boardedAt_1 15 rfl rfl)
abbrev cX4_collect : ByteArray := prog_20_method_42_code
def yX4_collect : MethodName := ⟨RX4, "collect", "(I)I"⟩
def dkwX4_collect_4 : List UInt8 := [46, 172]
abbrev dktX4_collect_4 : List UInt8 := dkwX4_collect_4 ++ []
def dkwX4_collect_3 : List UInt8 := [180, 0, 7, 5, 46, 182, 0, 160, 42, 180, 0, 7, 16, 7, 92, 46, 4, 96, 79, 42, 180, 0, 7, 5]
abbrev dktX4_collect_3 : List UInt8 := dkwX4_collect_3 ++ dktX4_collect_4
def dkwX4_collect_2 : List UInt8 := [180, 0, 7, 182, 0, 95, 42, 180, 0, 7, 5, 92, 46, 4, 100, 79, 42, 17, 0, 232, 28, 42]
abbrev dktX4_collect_2 : List UInt8 := dkwX4_collect_2 ++ dktX4_collect_3
def dkwX4_collect_1 : List UInt8 := [28, 5, 182, 0, 141, 160, 0, 7, 3, 167, 0, 4, 5, 182, 0, 92, 153, 0, 5, 3, 172, 42, 42]
abbrev dktX4_collect_1 : List UInt8 := dkwX4_collect_1 ++ dktX4_collect_2
def dkwX4_collect_0 : List UInt8 := [42, 27, 182, 0, 148, 153, 0, 5, 3, 172, 42, 27, 182, 0, 144, 61, 42, 42, 28, 4, 182, 0, 141, 42]
abbrev dktX4_collect_0 : List UInt8 := dkwX4_collect_0 ++ dktX4_collect_1
theorem dksX4_collect_0 : cX4_collect.data.toList.drop 0 = dktX4_collect_0 := by decide +kernel
theorem dksX4_collect_1 : cX4_collect.data.toList.drop 24 = dktX4_collect_1 := dk_seg dksX4_collect_0 24 rfl rfl
theorem dksX4_collect_2 : cX4_collect.data.toList.drop 47 = dktX4_collect_2 := dk_seg dksX4_collect_1 23 rfl rfl
theorem dksX4_collect_3 : cX4_collect.data.toList.drop 69 = dktX4_collect_3 := dk_seg dksX4_collect_2 22 rfl rfl
theorem dksX4_collect_4 : cX4_collect.data.toList.drop 93 = dktX4_collect_4 := dk_seg dksX4_collect_3 24 rfl rfl
theorem dX4_collect_0 : decode cX4_collect 0 = .ok (.aload_n 0, 1) := dk_42 (dk_at dksX4_collect_0 0 rfl rfl)
theorem dX4_collect_1 : decode cX4_collect 1 = .ok (.iload_n 1, 1) := dk_27 (dk_at dksX4_collect_0 1 rfl rfl)
theorem dX4_collect_2 : decode cX4_collect 2 = .ok (.invokevirtual 148, 3) := dk_182 0 148 (dk_at dksX4_collect_0 2 rfl rfl)
theorem dX4_collect_5 : decode cX4_collect 5 = .ok (.ifCond .eq 5, 3) := dk_153 0 5 (dk_at dksX4_collect_0 5 rfl rfl)
theorem dX4_collect_8 : decode cX4_collect 8 = .ok (.iconst 0, 1) := dk_3 (dk_at dksX4_collect_0 8 rfl rfl)
theorem dX4_collect_9 : decode cX4_collect 9 = .ok (.ireturn, 1) := dk_172 (dk_at dksX4_collect_0 9 rfl rfl)
theorem dX4_collect_10 : decode cX4_collect 10 = .ok (.aload_n 0, 1) := dk_42 (dk_at dksX4_collect_0 10 rfl rfl)
theorem dX4_collect_11 : decode cX4_collect 11 = .ok (.iload_n 1, 1) := dk_27 (dk_at dksX4_collect_0 11 rfl rfl)
theorem dX4_collect_12 : decode cX4_collect 12 = .ok (.invokevirtual 144, 3) := dk_182 0 144 (dk_at dksX4_collect_0 12 rfl rfl)
theorem dX4_collect_15 : decode cX4_collect 15 = .ok (.istore_n 2, 1) := dk_61 (dk_at dksX4_collect_0 15 rfl rfl)
theorem dX4_collect_16 : decode cX4_collect 16 = .ok (.aload_n 0, 1) := dk_42 (dk_at dksX4_collect_0 16 rfl rfl)
theorem dX4_collect_17 : decode cX4_collect 17 = .ok (.aload_n 0, 1) := dk_42 (dk_at dksX4_collect_0 17 rfl rfl)
theorem dX4_collect_18 : decode cX4_collect 18 = .ok (.iload_n 2, 1) := dk_28 (dk_at dksX4_collect_0 18 rfl rfl)
theorem dX4_collect_19 : decode cX4_collect 19 = .ok (.iconst 1, 1) := dk_4 (dk_at dksX4_collect_0 19 rfl rfl)
theorem dX4_collect_20 : decode cX4_collect 20 = .ok (.invokevirtual 141, 3) := dk_182 0 141 (dk_at dksX4_collect_0 20 rfl rfl)
theorem dX4_collect_23 : decode cX4_collect 23 = .ok (.aload_n 0, 1) := dk_42 (dk_at dksX4_collect_0 23 rfl rfl)
theorem dX4_collect_24 : decode cX4_collect 24 = .ok (.iload_n 2, 1) := dk_28 (dk_at dksX4_collect_1 0 rfl rfl)
theorem dX4_collect_25 : decode cX4_collect 25 = .ok (.iconst 2, 1) := dk_5 (dk_at dksX4_collect_1 1 rfl rfl)
theorem dX4_collect_26 : decode cX4_collect 26 = .ok (.invokevirtual 141, 3) := dk_182 0 141 (dk_at dksX4_collect_1 2 rfl rfl)
theorem dX4_collect_29 : decode cX4_collect 29 = .ok (.if_icmp .ne 7, 3) := dk_160 0 7 (dk_at dksX4_collect_1 5 rfl rfl)
theorem dX4_collect_32 : decode cX4_collect 32 = .ok (.iconst 0, 1) := dk_3 (dk_at dksX4_collect_1 8 rfl rfl)
theorem dX4_collect_33 : decode cX4_collect 33 = .ok (.goto 4, 3) := dk_167 0 4 (dk_at dksX4_collect_1 9 rfl rfl)
theorem dX4_collect_36 : decode cX4_collect 36 = .ok (.iconst 2, 1) := dk_5 (dk_at dksX4_collect_1 12 rfl rfl)
theorem dX4_collect_37 : decode cX4_collect 37 = .ok (.invokevirtual 92, 3) := dk_182 0 92 (dk_at dksX4_collect_1 13 rfl rfl)
theorem dX4_collect_40 : decode cX4_collect 40 = .ok (.ifCond .eq 5, 3) := dk_153 0 5 (dk_at dksX4_collect_1 16 rfl rfl)
theorem dX4_collect_43 : decode cX4_collect 43 = .ok (.iconst 0, 1) := dk_3 (dk_at dksX4_collect_1 19 rfl rfl)
theorem dX4_collect_44 : decode cX4_collect 44 = .ok (.ireturn, 1) := dk_172 (dk_at dksX4_collect_1 20 rfl rfl)
theorem dX4_collect_45 : decode cX4_collect 45 = .ok (.aload_n 0, 1) := dk_42 (dk_at dksX4_collect_1 21 rfl rfl)
theorem dX4_collect_46 : decode cX4_collect 46 = .ok (.aload_n 0, 1) := dk_42 (dk_at dksX4_collect_1 22 rfl rfl)
theorem dX4_collect_47 : decode cX4_collect 47 = .ok (.getfield 7, 3) := dk_180 0 7 (dk_at dksX4_collect_2 0 rfl rfl)
theorem dX4_collect_50 : decode cX4_collect 50 = .ok (.invokevirtual 95, 3) := dk_182 0 95 (dk_at dksX4_collect_2 3 rfl rfl)
theorem dX4_collect_53 : decode cX4_collect 53 = .ok (.aload_n 0, 1) := dk_42 (dk_at dksX4_collect_2 6 rfl rfl)
theorem dX4_collect_54 : decode cX4_collect 54 = .ok (.getfield 7, 3) := dk_180 0 7 (dk_at dksX4_collect_2 7 rfl rfl)
theorem dX4_collect_57 : decode cX4_collect 57 = .ok (.iconst 2, 1) := dk_5 (dk_at dksX4_collect_2 10 rfl rfl)
theorem dX4_collect_58 : decode cX4_collect 58 = .ok (.dup2, 1) := dk_92 (dk_at dksX4_collect_2 11 rfl rfl)
theorem dX4_collect_59 : decode cX4_collect 59 = .ok (.iaload, 1) := dk_46 (dk_at dksX4_collect_2 12 rfl rfl)
theorem dX4_collect_60 : decode cX4_collect 60 = .ok (.iconst 1, 1) := dk_4 (dk_at dksX4_collect_2 13 rfl rfl)
theorem dX4_collect_61 : decode cX4_collect 61 = .ok (.isub, 1) := dk_100 (dk_at dksX4_collect_2 14 rfl rfl)
theorem dX4_collect_62 : decode cX4_collect 62 = .ok (.iastore, 1) := dk_79 (dk_at dksX4_collect_2 15 rfl rfl)
theorem dX4_collect_63 : decode cX4_collect 63 = .ok (.aload_n 0, 1) := dk_42 (dk_at dksX4_collect_2 16 rfl rfl)
theorem dX4_collect_64 : decode cX4_collect 64 = .ok (.sipush 232, 3) := dk_17 0 232 (dk_at dksX4_collect_2 17 rfl rfl)
theorem dX4_collect_67 : decode cX4_collect 67 = .ok (.iload_n 2, 1) := dk_28 (dk_at dksX4_collect_2 20 rfl rfl)
theorem dX4_collect_68 : decode cX4_collect 68 = .ok (.aload_n 0, 1) := dk_42 (dk_at dksX4_collect_2 21 rfl rfl)
theorem dX4_collect_69 : decode cX4_collect 69 = .ok (.getfield 7, 3) := dk_180 0 7 (dk_at dksX4_collect_3 0 rfl rfl)
theorem dX4_collect_72 : decode cX4_collect 72 = .ok (.iconst 2, 1) := dk_5 (dk_at dksX4_collect_3 3 rfl rfl)
theorem dX4_collect_73 : decode cX4_collect 73 = .ok (.iaload, 1) := dk_46 (dk_at dksX4_collect_3 4 rfl rfl)
theorem dX4_collect_74 : decode cX4_collect 74 = .ok (.invokevirtual 160, 3) := dk_182 0 160 (dk_at dksX4_collect_3 5 rfl rfl)
theorem dX4_collect_77 : decode cX4_collect 77 = .ok (.aload_n 0, 1) := dk_42 (dk_at dksX4_collect_3 8 rfl rfl)
theorem dX4_collect_78 : decode cX4_collect 78 = .ok (.getfield 7, 3) := dk_180 0 7 (dk_at dksX4_collect_3 9 rfl rfl)
theorem dX4_collect_81 : decode cX4_collect 81 = .ok (.bipush 7, 2) := dk_16 7 (dk_at dksX4_collect_3 12 rfl rfl)
theorem dX4_collect_83 : decode cX4_collect 83 = .ok (.dup2, 1) := dk_92 (dk_at dksX4_collect_3 14 rfl rfl)
theorem dX4_collect_84 : decode cX4_collect 84 = .ok (.iaload, 1) := dk_46 (dk_at dksX4_collect_3 15 rfl rfl)
theorem dX4_collect_85 : decode cX4_collect 85 = .ok (.iconst 1, 1) := dk_4 (dk_at dksX4_collect_3 16 rfl rfl)
theorem dX4_collect_86 : decode cX4_collect 86 = .ok (.iadd, 1) := dk_96 (dk_at dksX4_collect_3 17 rfl rfl)
theorem dX4_collect_87 : decode cX4_collect 87 = .ok (.iastore, 1) := dk_79 (dk_at dksX4_collect_3 18 rfl rfl)
theorem dX4_collect_88 : decode cX4_collect 88 = .ok (.aload_n 0, 1) := dk_42 (dk_at dksX4_collect_3 19 rfl rfl)
theorem dX4_collect_89 : decode cX4_collect 89 = .ok (.getfield 7, 3) := dk_180 0 7 (dk_at dksX4_collect_3 20 rfl rfl)
theorem dX4_collect_92 : decode cX4_collect 92 = .ok (.iconst 2, 1) := dk_5 (dk_at dksX4_collect_3 23 rfl rfl)
theorem dX4_collect_93 : decode cX4_collect 93 = .ok (.iaload, 1) := dk_46 (dk_at dksX4_collect_4 0 rfl rfl)
theorem dX4_collect_94 : decode cX4_collect 94 = .ok (.ireturn, 1) := dk_172 (dk_at dksX4_collect_4 1 rfl rfl)
abbrev cX4_drops : ByteArray := prog_20_method_41_code
def yX4_drops : MethodName := ⟨RX4, "drops", "(III)V"⟩
def dkwX4_drops_2 : List UInt8 := [42, 180, 0, 7, 27, 7, 29, 104, 96, 21, 4, 96, 3, 79, 132, 4, 1, 167, 255, 233, 177]
abbrev dktX4_drops_2 : List UInt8 := dkwX4_drops_2 ++ []
def dkwX4_drops_1 : List UInt8 := [180, 0, 7, 21, 4, 7, 96, 46, 79, 132, 4, 1, 167, 255, 227, 3, 54, 4, 21, 4, 7, 162, 0, 23]
abbrev dktX4_drops_1 : List UInt8 := dkwX4_drops_1 ++ dktX4_drops_2
def dkwX4_drops_0 : List UInt8 := [27, 7, 28, 104, 96, 54, 4, 21, 4, 27, 7, 29, 104, 96, 162, 0, 25, 42, 180, 0, 7, 21, 4, 42]
abbrev dktX4_drops_0 : List UInt8 := dkwX4_drops_0 ++ dktX4_drops_1
theorem dksX4_drops_0 : cX4_drops.data.toList.drop 0 = dktX4_drops_0 := by decide +kernel
theorem dksX4_drops_1 : cX4_drops.data.toList.drop 24 = dktX4_drops_1 := dk_seg dksX4_drops_0 24 rfl rfl
theorem dksX4_drops_2 : cX4_drops.data.toList.drop 48 = dktX4_drops_2 := dk_seg dksX4_drops_1 24 rfl rfl
theorem dX4_drops_0 : decode cX4_drops 0 = .ok (.iload_n 1, 1) := dk_27 (dk_at dksX4_drops_0 0 rfl rfl)
theorem dX4_drops_1 : decode cX4_drops 1 = .ok (.iconst 4, 1) := dk_7 (dk_at dksX4_drops_0 1 rfl rfl)
theorem dX4_drops_2 : decode cX4_drops 2 = .ok (.iload_n 2, 1) := dk_28 (dk_at dksX4_drops_0 2 rfl rfl)
theorem dX4_drops_3 : decode cX4_drops 3 = .ok (.imul, 1) := dk_104 (dk_at dksX4_drops_0 3 rfl rfl)
theorem dX4_drops_4 : decode cX4_drops 4 = .ok (.iadd, 1) := dk_96 (dk_at dksX4_drops_0 4 rfl rfl)
theorem dX4_drops_5 : decode cX4_drops 5 = .ok (.istore 4, 2) := dk_54 4 (dk_at dksX4_drops_0 5 rfl rfl)
theorem dX4_drops_7 : decode cX4_drops 7 = .ok (.iload 4, 2) := dk_21 4 (dk_at dksX4_drops_0 7 rfl rfl)
theorem dX4_drops_9 : decode cX4_drops 9 = .ok (.iload_n 1, 1) := dk_27 (dk_at dksX4_drops_0 9 rfl rfl)
theorem dX4_drops_10 : decode cX4_drops 10 = .ok (.iconst 4, 1) := dk_7 (dk_at dksX4_drops_0 10 rfl rfl)
theorem dX4_drops_11 : decode cX4_drops 11 = .ok (.iload_n 3, 1) := dk_29 (dk_at dksX4_drops_0 11 rfl rfl)
theorem dX4_drops_12 : decode cX4_drops 12 = .ok (.imul, 1) := dk_104 (dk_at dksX4_drops_0 12 rfl rfl)
theorem dX4_drops_13 : decode cX4_drops 13 = .ok (.iadd, 1) := dk_96 (dk_at dksX4_drops_0 13 rfl rfl)
theorem dX4_drops_14 : decode cX4_drops 14 = .ok (.if_icmp .ge 25, 3) := dk_162 0 25 (dk_at dksX4_drops_0 14 rfl rfl)
theorem dX4_drops_17 : decode cX4_drops 17 = .ok (.aload_n 0, 1) := dk_42 (dk_at dksX4_drops_0 17 rfl rfl)
theorem dX4_drops_18 : decode cX4_drops 18 = .ok (.getfield 7, 3) := dk_180 0 7 (dk_at dksX4_drops_0 18 rfl rfl)
theorem dX4_drops_21 : decode cX4_drops 21 = .ok (.iload 4, 2) := dk_21 4 (dk_at dksX4_drops_0 21 rfl rfl)
theorem dX4_drops_23 : decode cX4_drops 23 = .ok (.aload_n 0, 1) := dk_42 (dk_at dksX4_drops_0 23 rfl rfl)
theorem dX4_drops_24 : decode cX4_drops 24 = .ok (.getfield 7, 3) := dk_180 0 7 (dk_at dksX4_drops_1 0 rfl rfl)
theorem dX4_drops_27 : decode cX4_drops 27 = .ok (.iload 4, 2) := dk_21 4 (dk_at dksX4_drops_1 3 rfl rfl)
theorem dX4_drops_29 : decode cX4_drops 29 = .ok (.iconst 4, 1) := dk_7 (dk_at dksX4_drops_1 5 rfl rfl)
theorem dX4_drops_30 : decode cX4_drops 30 = .ok (.iadd, 1) := dk_96 (dk_at dksX4_drops_1 6 rfl rfl)
theorem dX4_drops_31 : decode cX4_drops 31 = .ok (.iaload, 1) := dk_46 (dk_at dksX4_drops_1 7 rfl rfl)
theorem dX4_drops_32 : decode cX4_drops 32 = .ok (.iastore, 1) := dk_79 (dk_at dksX4_drops_1 8 rfl rfl)
theorem dX4_drops_33 : decode cX4_drops 33 = .ok (.iinc 4 1, 3) := dk_132 4 1 (dk_at dksX4_drops_1 9 rfl rfl)
theorem dX4_drops_36 : decode cX4_drops 36 = .ok (.goto (-29), 3) := dk_167 255 227 (dk_at dksX4_drops_1 12 rfl rfl)
theorem dX4_drops_39 : decode cX4_drops 39 = .ok (.iconst 0, 1) := dk_3 (dk_at dksX4_drops_1 15 rfl rfl)
theorem dX4_drops_40 : decode cX4_drops 40 = .ok (.istore 4, 2) := dk_54 4 (dk_at dksX4_drops_1 16 rfl rfl)
theorem dX4_drops_42 : decode cX4_drops 42 = .ok (.iload 4, 2) := dk_21 4 (dk_at dksX4_drops_1 18 rfl rfl)
theorem dX4_drops_44 : decode cX4_drops 44 = .ok (.iconst 4, 1) := dk_7 (dk_at dksX4_drops_1 20 rfl rfl)
theorem dX4_drops_45 : decode cX4_drops 45 = .ok (.if_icmp .ge 23, 3) := dk_162 0 23 (dk_at dksX4_drops_1 21 rfl rfl)
theorem dX4_drops_48 : decode cX4_drops 48 = .ok (.aload_n 0, 1) := dk_42 (dk_at dksX4_drops_2 0 rfl rfl)
theorem dX4_drops_49 : decode cX4_drops 49 = .ok (.getfield 7, 3) := dk_180 0 7 (dk_at dksX4_drops_2 1 rfl rfl)
theorem dX4_drops_52 : decode cX4_drops 52 = .ok (.iload_n 1, 1) := dk_27 (dk_at dksX4_drops_2 4 rfl rfl)
theorem dX4_drops_53 : decode cX4_drops 53 = .ok (.iconst 4, 1) := dk_7 (dk_at dksX4_drops_2 5 rfl rfl)
theorem dX4_drops_54 : decode cX4_drops 54 = .ok (.iload_n 3, 1) := dk_29 (dk_at dksX4_drops_2 6 rfl rfl)
theorem dX4_drops_55 : decode cX4_drops 55 = .ok (.imul, 1) := dk_104 (dk_at dksX4_drops_2 7 rfl rfl)
theorem dX4_drops_56 : decode cX4_drops 56 = .ok (.iadd, 1) := dk_96 (dk_at dksX4_drops_2 8 rfl rfl)
theorem dX4_drops_57 : decode cX4_drops 57 = .ok (.iload 4, 2) := dk_21 4 (dk_at dksX4_drops_2 9 rfl rfl)
theorem dX4_drops_59 : decode cX4_drops 59 = .ok (.iadd, 1) := dk_96 (dk_at dksX4_drops_2 11 rfl rfl)
theorem dX4_drops_60 : decode cX4_drops 60 = .ok (.iconst 0, 1) := dk_3 (dk_at dksX4_drops_2 12 rfl rfl)
theorem dX4_drops_61 : decode cX4_drops 61 = .ok (.iastore, 1) := dk_79 (dk_at dksX4_drops_2 13 rfl rfl)
theorem dX4_drops_62 : decode cX4_drops 62 = .ok (.iinc 4 1, 3) := dk_132 4 1 (dk_at dksX4_drops_2 14 rfl rfl)
theorem dX4_drops_65 : decode cX4_drops 65 = .ok (.goto (-23), 3) := dk_167 255 233 (dk_at dksX4_drops_2 17 rfl rfl)
theorem dX4_drops_68 : decode cX4_drops 68 = .ok (.return_, 1) := dk_177 (dk_at dksX4_drops_2 20 rfl rfl)
abbrev cX4_book : ByteArray := prog_20_method_43_code
def yX4_book : MethodName := ⟨RX4, "book", "(III)I"⟩
def dkwX4_book_8 : List UInt8 := [92, 46, 4, 96, 79, 42, 180, 0, 7, 8, 92, 46, 4, 96, 79, 42, 180, 0, 7, 8, 46, 4, 100, 172]
abbrev dktX4_book_8 : List UInt8 := dkwX4_book_8 ++ []
def dkwX4_book_7 : List UInt8 := [180, 0, 7, 21, 5, 5, 96, 28, 79, 42, 180, 0, 7, 21, 5, 6, 96, 29, 79, 42, 180, 0, 7, 6]
abbrev dktX4_book_7 : List UInt8 := dkwX4_book_7 ++ dktX4_book_8
def dkwX4_book_6 : List UInt8 := [21, 5, 3, 96, 42, 180, 0, 7, 8, 46, 79, 42, 180, 0, 7, 21, 5, 4, 96, 27, 79, 42]
abbrev dktX4_book_6 : List UInt8 := dkwX4_book_6 ++ dktX4_book_7
def dkwX4_book_5 : List UInt8 := [180, 0, 7, 182, 0, 95, 17, 1, 8, 7, 42, 180, 0, 7, 6, 46, 104, 96, 54, 5, 42, 180, 0, 7]
abbrev dktX4_book_5 : List UInt8 := dkwX4_book_5 ++ dktX4_book_6
def dkwX4_book_4 : List UInt8 := [167, 255, 225, 42, 21, 4, 153, 0, 7, 7, 167, 0, 4, 3, 182, 0, 92, 153, 0, 5, 3, 172, 42, 42]
abbrev dktX4_book_4 : List UInt8 := dkwX4_book_4 ++ dktX4_book_5
def dkwX4_book_3 : List UInt8 := [154, 0, 13, 42, 27, 21, 5, 182, 0, 116, 153, 0, 7, 4, 167, 0, 4, 3, 54, 4, 132, 5, 1]
abbrev dktX4_book_3 : List UInt8 := dkwX4_book_3 ++ dktX4_book_4
def dkwX4_book_2 : List UInt8 := [182, 0, 92, 153, 0, 5, 3, 172, 3, 54, 4, 28, 54, 5, 21, 5, 29, 162, 0, 31, 21, 4]
abbrev dktX4_book_2 : List UInt8 := dkwX4_book_2 ++ dktX4_book_3
def dkwX4_book_1 : List UInt8 := [29, 161, 0, 7, 5, 167, 0, 19, 42, 180, 0, 7, 6, 46, 16, 10, 160, 0, 7, 6, 167, 0, 4, 3]
abbrev dktX4_book_1 : List UInt8 := dkwX4_book_1 ++ dktX4_book_2
def dkwX4_book_0 : List UInt8 := [42, 42, 27, 28, 182, 0, 164, 153, 0, 12, 42, 27, 29, 182, 0, 164, 154, 0, 7, 4, 167, 0, 28, 28]
abbrev dktX4_book_0 : List UInt8 := dkwX4_book_0 ++ dktX4_book_1
theorem dksX4_book_0 : cX4_book.data.toList.drop 0 = dktX4_book_0 := by decide +kernel
theorem dksX4_book_1 : cX4_book.data.toList.drop 24 = dktX4_book_1 := dk_seg dksX4_book_0 24 rfl rfl
theorem dksX4_book_2 : cX4_book.data.toList.drop 48 = dktX4_book_2 := dk_seg dksX4_book_1 24 rfl rfl
theorem dksX4_book_3 : cX4_book.data.toList.drop 70 = dktX4_book_3 := dk_seg dksX4_book_2 22 rfl rfl
theorem dksX4_book_4 : cX4_book.data.toList.drop 93 = dktX4_book_4 := dk_seg dksX4_book_3 23 rfl rfl
theorem dksX4_book_5 : cX4_book.data.toList.drop 117 = dktX4_book_5 := dk_seg dksX4_book_4 24 rfl rfl
theorem dksX4_book_6 : cX4_book.data.toList.drop 141 = dktX4_book_6 := dk_seg dksX4_book_5 24 rfl rfl
theorem dksX4_book_7 : cX4_book.data.toList.drop 163 = dktX4_book_7 := dk_seg dksX4_book_6 22 rfl rfl
theorem dksX4_book_8 : cX4_book.data.toList.drop 187 = dktX4_book_8 := dk_seg dksX4_book_7 24 rfl rfl
theorem dX4_book_0 : decode cX4_book 0 = .ok (.aload_n 0, 1) := dk_42 (dk_at dksX4_book_0 0 rfl rfl)
theorem dX4_book_1 : decode cX4_book 1 = .ok (.aload_n 0, 1) := dk_42 (dk_at dksX4_book_0 1 rfl rfl)
theorem dX4_book_2 : decode cX4_book 2 = .ok (.iload_n 1, 1) := dk_27 (dk_at dksX4_book_0 2 rfl rfl)
theorem dX4_book_3 : decode cX4_book 3 = .ok (.iload_n 2, 1) := dk_28 (dk_at dksX4_book_0 3 rfl rfl)
theorem dX4_book_4 : decode cX4_book 4 = .ok (.invokevirtual 164, 3) := dk_182 0 164 (dk_at dksX4_book_0 4 rfl rfl)
theorem dX4_book_7 : decode cX4_book 7 = .ok (.ifCond .eq 12, 3) := dk_153 0 12 (dk_at dksX4_book_0 7 rfl rfl)
theorem dX4_book_10 : decode cX4_book 10 = .ok (.aload_n 0, 1) := dk_42 (dk_at dksX4_book_0 10 rfl rfl)
theorem dX4_book_11 : decode cX4_book 11 = .ok (.iload_n 1, 1) := dk_27 (dk_at dksX4_book_0 11 rfl rfl)
theorem dX4_book_12 : decode cX4_book 12 = .ok (.iload_n 3, 1) := dk_29 (dk_at dksX4_book_0 12 rfl rfl)
theorem dX4_book_13 : decode cX4_book 13 = .ok (.invokevirtual 164, 3) := dk_182 0 164 (dk_at dksX4_book_0 13 rfl rfl)
theorem dX4_book_16 : decode cX4_book 16 = .ok (.ifCond .ne 7, 3) := dk_154 0 7 (dk_at dksX4_book_0 16 rfl rfl)
theorem dX4_book_19 : decode cX4_book 19 = .ok (.iconst 1, 1) := dk_4 (dk_at dksX4_book_0 19 rfl rfl)
theorem dX4_book_20 : decode cX4_book 20 = .ok (.goto 28, 3) := dk_167 0 28 (dk_at dksX4_book_0 20 rfl rfl)
theorem dX4_book_23 : decode cX4_book 23 = .ok (.iload_n 2, 1) := dk_28 (dk_at dksX4_book_0 23 rfl rfl)
theorem dX4_book_24 : decode cX4_book 24 = .ok (.iload_n 3, 1) := dk_29 (dk_at dksX4_book_1 0 rfl rfl)
theorem dX4_book_25 : decode cX4_book 25 = .ok (.if_icmp .lt 7, 3) := dk_161 0 7 (dk_at dksX4_book_1 1 rfl rfl)
theorem dX4_book_28 : decode cX4_book 28 = .ok (.iconst 2, 1) := dk_5 (dk_at dksX4_book_1 4 rfl rfl)
theorem dX4_book_29 : decode cX4_book 29 = .ok (.goto 19, 3) := dk_167 0 19 (dk_at dksX4_book_1 5 rfl rfl)
theorem dX4_book_32 : decode cX4_book 32 = .ok (.aload_n 0, 1) := dk_42 (dk_at dksX4_book_1 8 rfl rfl)
theorem dX4_book_33 : decode cX4_book 33 = .ok (.getfield 7, 3) := dk_180 0 7 (dk_at dksX4_book_1 9 rfl rfl)
theorem dX4_book_36 : decode cX4_book 36 = .ok (.iconst 3, 1) := dk_6 (dk_at dksX4_book_1 12 rfl rfl)
theorem dX4_book_37 : decode cX4_book 37 = .ok (.iaload, 1) := dk_46 (dk_at dksX4_book_1 13 rfl rfl)
theorem dX4_book_38 : decode cX4_book 38 = .ok (.bipush 10, 2) := dk_16 10 (dk_at dksX4_book_1 14 rfl rfl)
theorem dX4_book_40 : decode cX4_book 40 = .ok (.if_icmp .ne 7, 3) := dk_160 0 7 (dk_at dksX4_book_1 16 rfl rfl)
theorem dX4_book_43 : decode cX4_book 43 = .ok (.iconst 3, 1) := dk_6 (dk_at dksX4_book_1 19 rfl rfl)
theorem dX4_book_44 : decode cX4_book 44 = .ok (.goto 4, 3) := dk_167 0 4 (dk_at dksX4_book_1 20 rfl rfl)
theorem dX4_book_47 : decode cX4_book 47 = .ok (.iconst 0, 1) := dk_3 (dk_at dksX4_book_1 23 rfl rfl)
theorem dX4_book_48 : decode cX4_book 48 = .ok (.invokevirtual 92, 3) := dk_182 0 92 (dk_at dksX4_book_2 0 rfl rfl)
theorem dX4_book_51 : decode cX4_book 51 = .ok (.ifCond .eq 5, 3) := dk_153 0 5 (dk_at dksX4_book_2 3 rfl rfl)
theorem dX4_book_54 : decode cX4_book 54 = .ok (.iconst 0, 1) := dk_3 (dk_at dksX4_book_2 6 rfl rfl)
theorem dX4_book_55 : decode cX4_book 55 = .ok (.ireturn, 1) := dk_172 (dk_at dksX4_book_2 7 rfl rfl)
theorem dX4_book_56 : decode cX4_book 56 = .ok (.iconst 0, 1) := dk_3 (dk_at dksX4_book_2 8 rfl rfl)
theorem dX4_book_57 : decode cX4_book 57 = .ok (.istore 4, 2) := dk_54 4 (dk_at dksX4_book_2 9 rfl rfl)
theorem dX4_book_59 : decode cX4_book 59 = .ok (.iload_n 2, 1) := dk_28 (dk_at dksX4_book_2 11 rfl rfl)
theorem dX4_book_60 : decode cX4_book 60 = .ok (.istore 5, 2) := dk_54 5 (dk_at dksX4_book_2 12 rfl rfl)
theorem dX4_book_62 : decode cX4_book 62 = .ok (.iload 5, 2) := dk_21 5 (dk_at dksX4_book_2 14 rfl rfl)
theorem dX4_book_64 : decode cX4_book 64 = .ok (.iload_n 3, 1) := dk_29 (dk_at dksX4_book_2 16 rfl rfl)
theorem dX4_book_65 : decode cX4_book 65 = .ok (.if_icmp .ge 31, 3) := dk_162 0 31 (dk_at dksX4_book_2 17 rfl rfl)
theorem dX4_book_68 : decode cX4_book 68 = .ok (.iload 4, 2) := dk_21 4 (dk_at dksX4_book_2 20 rfl rfl)
theorem dX4_book_70 : decode cX4_book 70 = .ok (.ifCond .ne 13, 3) := dk_154 0 13 (dk_at dksX4_book_3 0 rfl rfl)
theorem dX4_book_73 : decode cX4_book 73 = .ok (.aload_n 0, 1) := dk_42 (dk_at dksX4_book_3 3 rfl rfl)
theorem dX4_book_74 : decode cX4_book 74 = .ok (.iload_n 1, 1) := dk_27 (dk_at dksX4_book_3 4 rfl rfl)
theorem dX4_book_75 : decode cX4_book 75 = .ok (.iload 5, 2) := dk_21 5 (dk_at dksX4_book_3 5 rfl rfl)
theorem dX4_book_77 : decode cX4_book 77 = .ok (.invokevirtual 116, 3) := dk_182 0 116 (dk_at dksX4_book_3 7 rfl rfl)
theorem dX4_book_80 : decode cX4_book 80 = .ok (.ifCond .eq 7, 3) := dk_153 0 7 (dk_at dksX4_book_3 10 rfl rfl)
theorem dX4_book_83 : decode cX4_book 83 = .ok (.iconst 1, 1) := dk_4 (dk_at dksX4_book_3 13 rfl rfl)
theorem dX4_book_84 : decode cX4_book 84 = .ok (.goto 4, 3) := dk_167 0 4 (dk_at dksX4_book_3 14 rfl rfl)
theorem dX4_book_87 : decode cX4_book 87 = .ok (.iconst 0, 1) := dk_3 (dk_at dksX4_book_3 17 rfl rfl)
theorem dX4_book_88 : decode cX4_book 88 = .ok (.istore 4, 2) := dk_54 4 (dk_at dksX4_book_3 18 rfl rfl)
theorem dX4_book_90 : decode cX4_book 90 = .ok (.iinc 5 1, 3) := dk_132 5 1 (dk_at dksX4_book_3 20 rfl rfl)
theorem dX4_book_93 : decode cX4_book 93 = .ok (.goto (-31), 3) := dk_167 255 225 (dk_at dksX4_book_4 0 rfl rfl)
theorem dX4_book_96 : decode cX4_book 96 = .ok (.aload_n 0, 1) := dk_42 (dk_at dksX4_book_4 3 rfl rfl)
theorem dX4_book_97 : decode cX4_book 97 = .ok (.iload 4, 2) := dk_21 4 (dk_at dksX4_book_4 4 rfl rfl)
theorem dX4_book_99 : decode cX4_book 99 = .ok (.ifCond .eq 7, 3) := dk_153 0 7 (dk_at dksX4_book_4 6 rfl rfl)
theorem dX4_book_102 : decode cX4_book 102 = .ok (.iconst 4, 1) := dk_7 (dk_at dksX4_book_4 9 rfl rfl)
theorem dX4_book_103 : decode cX4_book 103 = .ok (.goto 4, 3) := dk_167 0 4 (dk_at dksX4_book_4 10 rfl rfl)
theorem dX4_book_106 : decode cX4_book 106 = .ok (.iconst 0, 1) := dk_3 (dk_at dksX4_book_4 13 rfl rfl)
theorem dX4_book_107 : decode cX4_book 107 = .ok (.invokevirtual 92, 3) := dk_182 0 92 (dk_at dksX4_book_4 14 rfl rfl)
theorem dX4_book_110 : decode cX4_book 110 = .ok (.ifCond .eq 5, 3) := dk_153 0 5 (dk_at dksX4_book_4 17 rfl rfl)
theorem dX4_book_113 : decode cX4_book 113 = .ok (.iconst 0, 1) := dk_3 (dk_at dksX4_book_4 20 rfl rfl)
theorem dX4_book_114 : decode cX4_book 114 = .ok (.ireturn, 1) := dk_172 (dk_at dksX4_book_4 21 rfl rfl)
theorem dX4_book_115 : decode cX4_book 115 = .ok (.aload_n 0, 1) := dk_42 (dk_at dksX4_book_4 22 rfl rfl)
theorem dX4_book_116 : decode cX4_book 116 = .ok (.aload_n 0, 1) := dk_42 (dk_at dksX4_book_4 23 rfl rfl)
theorem dX4_book_117 : decode cX4_book 117 = .ok (.getfield 7, 3) := dk_180 0 7 (dk_at dksX4_book_5 0 rfl rfl)
theorem dX4_book_120 : decode cX4_book 120 = .ok (.invokevirtual 95, 3) := dk_182 0 95 (dk_at dksX4_book_5 3 rfl rfl)
theorem dX4_book_123 : decode cX4_book 123 = .ok (.sipush 264, 3) := dk_17 1 8 (dk_at dksX4_book_5 6 rfl rfl)
theorem dX4_book_126 : decode cX4_book 126 = .ok (.iconst 4, 1) := dk_7 (dk_at dksX4_book_5 9 rfl rfl)
theorem dX4_book_127 : decode cX4_book 127 = .ok (.aload_n 0, 1) := dk_42 (dk_at dksX4_book_5 10 rfl rfl)
theorem dX4_book_128 : decode cX4_book 128 = .ok (.getfield 7, 3) := dk_180 0 7 (dk_at dksX4_book_5 11 rfl rfl)
theorem dX4_book_131 : decode cX4_book 131 = .ok (.iconst 3, 1) := dk_6 (dk_at dksX4_book_5 14 rfl rfl)
theorem dX4_book_132 : decode cX4_book 132 = .ok (.iaload, 1) := dk_46 (dk_at dksX4_book_5 15 rfl rfl)
theorem dX4_book_133 : decode cX4_book 133 = .ok (.imul, 1) := dk_104 (dk_at dksX4_book_5 16 rfl rfl)
theorem dX4_book_134 : decode cX4_book 134 = .ok (.iadd, 1) := dk_96 (dk_at dksX4_book_5 17 rfl rfl)
theorem dX4_book_135 : decode cX4_book 135 = .ok (.istore 5, 2) := dk_54 5 (dk_at dksX4_book_5 18 rfl rfl)
theorem dX4_book_137 : decode cX4_book 137 = .ok (.aload_n 0, 1) := dk_42 (dk_at dksX4_book_5 20 rfl rfl)
theorem dX4_book_138 : decode cX4_book 138 = .ok (.getfield 7, 3) := dk_180 0 7 (dk_at dksX4_book_5 21 rfl rfl)
theorem dX4_book_141 : decode cX4_book 141 = .ok (.iload 5, 2) := dk_21 5 (dk_at dksX4_book_6 0 rfl rfl)
theorem dX4_book_143 : decode cX4_book 143 = .ok (.iconst 0, 1) := dk_3 (dk_at dksX4_book_6 2 rfl rfl)
theorem dX4_book_144 : decode cX4_book 144 = .ok (.iadd, 1) := dk_96 (dk_at dksX4_book_6 3 rfl rfl)
theorem dX4_book_145 : decode cX4_book 145 = .ok (.aload_n 0, 1) := dk_42 (dk_at dksX4_book_6 4 rfl rfl)
theorem dX4_book_146 : decode cX4_book 146 = .ok (.getfield 7, 3) := dk_180 0 7 (dk_at dksX4_book_6 5 rfl rfl)
theorem dX4_book_149 : decode cX4_book 149 = .ok (.iconst 5, 1) := dk_8 (dk_at dksX4_book_6 8 rfl rfl)
theorem dX4_book_150 : decode cX4_book 150 = .ok (.iaload, 1) := dk_46 (dk_at dksX4_book_6 9 rfl rfl)
theorem dX4_book_151 : decode cX4_book 151 = .ok (.iastore, 1) := dk_79 (dk_at dksX4_book_6 10 rfl rfl)
theorem dX4_book_152 : decode cX4_book 152 = .ok (.aload_n 0, 1) := dk_42 (dk_at dksX4_book_6 11 rfl rfl)
theorem dX4_book_153 : decode cX4_book 153 = .ok (.getfield 7, 3) := dk_180 0 7 (dk_at dksX4_book_6 12 rfl rfl)
theorem dX4_book_156 : decode cX4_book 156 = .ok (.iload 5, 2) := dk_21 5 (dk_at dksX4_book_6 15 rfl rfl)
theorem dX4_book_158 : decode cX4_book 158 = .ok (.iconst 1, 1) := dk_4 (dk_at dksX4_book_6 17 rfl rfl)
theorem dX4_book_159 : decode cX4_book 159 = .ok (.iadd, 1) := dk_96 (dk_at dksX4_book_6 18 rfl rfl)
theorem dX4_book_160 : decode cX4_book 160 = .ok (.iload_n 1, 1) := dk_27 (dk_at dksX4_book_6 19 rfl rfl)
theorem dX4_book_161 : decode cX4_book 161 = .ok (.iastore, 1) := dk_79 (dk_at dksX4_book_6 20 rfl rfl)
theorem dX4_book_162 : decode cX4_book 162 = .ok (.aload_n 0, 1) := dk_42 (dk_at dksX4_book_6 21 rfl rfl)
theorem dX4_book_163 : decode cX4_book 163 = .ok (.getfield 7, 3) := dk_180 0 7 (dk_at dksX4_book_7 0 rfl rfl)
theorem dX4_book_166 : decode cX4_book 166 = .ok (.iload 5, 2) := dk_21 5 (dk_at dksX4_book_7 3 rfl rfl)
theorem dX4_book_168 : decode cX4_book 168 = .ok (.iconst 2, 1) := dk_5 (dk_at dksX4_book_7 5 rfl rfl)
theorem dX4_book_169 : decode cX4_book 169 = .ok (.iadd, 1) := dk_96 (dk_at dksX4_book_7 6 rfl rfl)
theorem dX4_book_170 : decode cX4_book 170 = .ok (.iload_n 2, 1) := dk_28 (dk_at dksX4_book_7 7 rfl rfl)
theorem dX4_book_171 : decode cX4_book 171 = .ok (.iastore, 1) := dk_79 (dk_at dksX4_book_7 8 rfl rfl)
theorem dX4_book_172 : decode cX4_book 172 = .ok (.aload_n 0, 1) := dk_42 (dk_at dksX4_book_7 9 rfl rfl)
theorem dX4_book_173 : decode cX4_book 173 = .ok (.getfield 7, 3) := dk_180 0 7 (dk_at dksX4_book_7 10 rfl rfl)
theorem dX4_book_176 : decode cX4_book 176 = .ok (.iload 5, 2) := dk_21 5 (dk_at dksX4_book_7 13 rfl rfl)
theorem dX4_book_178 : decode cX4_book 178 = .ok (.iconst 3, 1) := dk_6 (dk_at dksX4_book_7 15 rfl rfl)
theorem dX4_book_179 : decode cX4_book 179 = .ok (.iadd, 1) := dk_96 (dk_at dksX4_book_7 16 rfl rfl)
theorem dX4_book_180 : decode cX4_book 180 = .ok (.iload_n 3, 1) := dk_29 (dk_at dksX4_book_7 17 rfl rfl)
theorem dX4_book_181 : decode cX4_book 181 = .ok (.iastore, 1) := dk_79 (dk_at dksX4_book_7 18 rfl rfl)
theorem dX4_book_182 : decode cX4_book 182 = .ok (.aload_n 0, 1) := dk_42 (dk_at dksX4_book_7 19 rfl rfl)
theorem dX4_book_183 : decode cX4_book 183 = .ok (.getfield 7, 3) := dk_180 0 7 (dk_at dksX4_book_7 20 rfl rfl)
theorem dX4_book_186 : decode cX4_book 186 = .ok (.iconst 3, 1) := dk_6 (dk_at dksX4_book_7 23 rfl rfl)
theorem dX4_book_187 : decode cX4_book 187 = .ok (.dup2, 1) := dk_92 (dk_at dksX4_book_8 0 rfl rfl)
theorem dX4_book_188 : decode cX4_book 188 = .ok (.iaload, 1) := dk_46 (dk_at dksX4_book_8 1 rfl rfl)
theorem dX4_book_189 : decode cX4_book 189 = .ok (.iconst 1, 1) := dk_4 (dk_at dksX4_book_8 2 rfl rfl)
theorem dX4_book_190 : decode cX4_book 190 = .ok (.iadd, 1) := dk_96 (dk_at dksX4_book_8 3 rfl rfl)
theorem dX4_book_191 : decode cX4_book 191 = .ok (.iastore, 1) := dk_79 (dk_at dksX4_book_8 4 rfl rfl)
theorem dX4_book_192 : decode cX4_book 192 = .ok (.aload_n 0, 1) := dk_42 (dk_at dksX4_book_8 5 rfl rfl)
theorem dX4_book_193 : decode cX4_book 193 = .ok (.getfield 7, 3) := dk_180 0 7 (dk_at dksX4_book_8 6 rfl rfl)
theorem dX4_book_196 : decode cX4_book 196 = .ok (.iconst 5, 1) := dk_8 (dk_at dksX4_book_8 9 rfl rfl)
theorem dX4_book_197 : decode cX4_book 197 = .ok (.dup2, 1) := dk_92 (dk_at dksX4_book_8 10 rfl rfl)
theorem dX4_book_198 : decode cX4_book 198 = .ok (.iaload, 1) := dk_46 (dk_at dksX4_book_8 11 rfl rfl)
theorem dX4_book_199 : decode cX4_book 199 = .ok (.iconst 1, 1) := dk_4 (dk_at dksX4_book_8 12 rfl rfl)
theorem dX4_book_200 : decode cX4_book 200 = .ok (.iadd, 1) := dk_96 (dk_at dksX4_book_8 13 rfl rfl)
theorem dX4_book_201 : decode cX4_book 201 = .ok (.iastore, 1) := dk_79 (dk_at dksX4_book_8 14 rfl rfl)
theorem dX4_book_202 : decode cX4_book 202 = .ok (.aload_n 0, 1) := dk_42 (dk_at dksX4_book_8 15 rfl rfl)
theorem dX4_book_203 : decode cX4_book 203 = .ok (.getfield 7, 3) := dk_180 0 7 (dk_at dksX4_book_8 16 rfl rfl)
theorem dX4_book_206 : decode cX4_book 206 = .ok (.iconst 5, 1) := dk_8 (dk_at dksX4_book_8 19 rfl rfl)
theorem dX4_book_207 : decode cX4_book 207 = .ok (.iaload, 1) := dk_46 (dk_at dksX4_book_8 20 rfl rfl)
theorem dX4_book_208 : decode cX4_book 208 = .ok (.iconst 1, 1) := dk_4 (dk_at dksX4_book_8 21 rfl rfl)
theorem dX4_book_209 : decode cX4_book 209 = .ok (.isub, 1) := dk_100 (dk_at dksX4_book_8 22 rfl rfl)
theorem dX4_book_210 : decode cX4_book 210 = .ok (.ireturn, 1) := dk_172 (dk_at dksX4_book_8 23 rfl rfl)
abbrev cX4_isStop : ByteArray := prog_20_method_10_code
def yX4_isStop : MethodName := ⟨RX4, "isStop", "(II)Z"⟩
def dkwX4_isStop_1 : List UInt8 := [4, 167, 0, 4, 3, 172]
abbrev dktX4_isStop_1 : List UInt8 := dkwX4_isStop_1 ++ []
def dkwX4_isStop_0 : List UInt8 := [42, 27, 182, 0, 72, 153, 0, 23, 28, 3, 42, 27, 6, 182, 0, 76, 4, 100, 184, 0, 68, 153, 0, 7]
abbrev dktX4_isStop_0 : List UInt8 := dkwX4_isStop_0 ++ dktX4_isStop_1
theorem dksX4_isStop_0 : cX4_isStop.data.toList.drop 0 = dktX4_isStop_0 := by decide +kernel
theorem dksX4_isStop_1 : cX4_isStop.data.toList.drop 24 = dktX4_isStop_1 := dk_seg dksX4_isStop_0 24 rfl rfl
theorem dX4_isStop_0 : decode cX4_isStop 0 = .ok (.aload_n 0, 1) := dk_42 (dk_at dksX4_isStop_0 0 rfl rfl)
theorem dX4_isStop_1 : decode cX4_isStop 1 = .ok (.iload_n 1, 1) := dk_27 (dk_at dksX4_isStop_0 1 rfl rfl)
theorem dX4_isStop_2 : decode cX4_isStop 2 = .ok (.invokevirtual 72, 3) := dk_182 0 72 (dk_at dksX4_isStop_0 2 rfl rfl)
theorem dX4_isStop_5 : decode cX4_isStop 5 = .ok (.ifCond .eq 23, 3) := dk_153 0 23 (dk_at dksX4_isStop_0 5 rfl rfl)
theorem dX4_isStop_8 : decode cX4_isStop 8 = .ok (.iload_n 2, 1) := dk_28 (dk_at dksX4_isStop_0 8 rfl rfl)
theorem dX4_isStop_9 : decode cX4_isStop 9 = .ok (.iconst 0, 1) := dk_3 (dk_at dksX4_isStop_0 9 rfl rfl)
theorem dX4_isStop_10 : decode cX4_isStop 10 = .ok (.aload_n 0, 1) := dk_42 (dk_at dksX4_isStop_0 10 rfl rfl)
theorem dX4_isStop_11 : decode cX4_isStop 11 = .ok (.iload_n 1, 1) := dk_27 (dk_at dksX4_isStop_0 11 rfl rfl)
theorem dX4_isStop_12 : decode cX4_isStop 12 = .ok (.iconst 3, 1) := dk_6 (dk_at dksX4_isStop_0 12 rfl rfl)
theorem dX4_isStop_13 : decode cX4_isStop 13 = .ok (.invokevirtual 76, 3) := dk_182 0 76 (dk_at dksX4_isStop_0 13 rfl rfl)
theorem dX4_isStop_16 : decode cX4_isStop 16 = .ok (.iconst 1, 1) := dk_4 (dk_at dksX4_isStop_0 16 rfl rfl)
theorem dX4_isStop_17 : decode cX4_isStop 17 = .ok (.isub, 1) := dk_100 (dk_at dksX4_isStop_0 17 rfl rfl)
theorem dX4_isStop_18 : decode cX4_isStop 18 = .ok (.invokestatic 68, 3) := dk_184 0 68 (dk_at dksX4_isStop_0 18 rfl rfl)
theorem dX4_isStop_21 : decode cX4_isStop 21 = .ok (.ifCond .eq 7, 3) := dk_153 0 7 (dk_at dksX4_isStop_0 21 rfl rfl)
theorem dX4_isStop_24 : decode cX4_isStop 24 = .ok (.iconst 1, 1) := dk_4 (dk_at dksX4_isStop_1 0 rfl rfl)
theorem dX4_isStop_25 : decode cX4_isStop 25 = .ok (.goto 4, 3) := dk_167 0 4 (dk_at dksX4_isStop_1 1 rfl rfl)
theorem dX4_isStop_28 : decode cX4_isStop 28 = .ok (.iconst 0, 1) := dk_3 (dk_at dksX4_isStop_1 4 rfl rfl)
theorem dX4_isStop_29 : decode cX4_isStop 29 = .ok (.ireturn, 1) := dk_172 (dk_at dksX4_isStop_1 5 rfl rfl)
abbrev cX4_cancelBooking : ByteArray := prog_20_method_45_code
def yX4_cancelBooking : MethodName := ⟨RX4, "cancelBooking", "(I)I"⟩
def dkwX4_cancelBooking_2 : List UInt8 := [180, 0, 7, 6, 46, 182, 0, 160, 42, 180, 0, 7, 6, 46, 172]
abbrev dktX4_cancelBooking_2 : List UInt8 := dkwX4_cancelBooking_2 ++ []
def dkwX4_cancelBooking_1 : List UInt8 := [42, 42, 180, 0, 7, 182, 0, 95, 42, 180, 0, 7, 6, 92, 46, 4, 100, 79, 42, 17, 1, 8, 28, 42]
abbrev dktX4_cancelBooking_1 : List UInt8 := dkwX4_cancelBooking_1 ++ dktX4_cancelBooking_2
def dkwX4_cancelBooking_0 : List UInt8 := [42, 27, 182, 0, 167, 61, 42, 28, 156, 0, 7, 4, 167, 0, 4, 3, 182, 0, 92, 153, 0, 5, 3, 172]
abbrev dktX4_cancelBooking_0 : List UInt8 := dkwX4_cancelBooking_0 ++ dktX4_cancelBooking_1
theorem dksX4_cancelBooking_0 : cX4_cancelBooking.data.toList.drop 0 = dktX4_cancelBooking_0 := by decide +kernel
theorem dksX4_cancelBooking_1 : cX4_cancelBooking.data.toList.drop 24 = dktX4_cancelBooking_1 := dk_seg dksX4_cancelBooking_0 24 rfl rfl
theorem dksX4_cancelBooking_2 : cX4_cancelBooking.data.toList.drop 48 = dktX4_cancelBooking_2 := dk_seg dksX4_cancelBooking_1 24 rfl rfl
theorem dX4_cancelBooking_0 : decode cX4_cancelBooking 0 = .ok (.aload_n 0, 1) := dk_42 (dk_at dksX4_cancelBooking_0 0 rfl rfl)
theorem dX4_cancelBooking_1 : decode cX4_cancelBooking 1 = .ok (.iload_n 1, 1) := dk_27 (dk_at dksX4_cancelBooking_0 1 rfl rfl)
theorem dX4_cancelBooking_2 : decode cX4_cancelBooking 2 = .ok (.invokevirtual 167, 3) := dk_182 0 167 (dk_at dksX4_cancelBooking_0 2 rfl rfl)
theorem dX4_cancelBooking_5 : decode cX4_cancelBooking 5 = .ok (.istore_n 2, 1) := dk_61 (dk_at dksX4_cancelBooking_0 5 rfl rfl)
theorem dX4_cancelBooking_6 : decode cX4_cancelBooking 6 = .ok (.aload_n 0, 1) := dk_42 (dk_at dksX4_cancelBooking_0 6 rfl rfl)
theorem dX4_cancelBooking_7 : decode cX4_cancelBooking 7 = .ok (.iload_n 2, 1) := dk_28 (dk_at dksX4_cancelBooking_0 7 rfl rfl)
theorem dX4_cancelBooking_8 : decode cX4_cancelBooking 8 = .ok (.ifCond .ge 7, 3) := dk_156 0 7 (dk_at dksX4_cancelBooking_0 8 rfl rfl)
theorem dX4_cancelBooking_11 : decode cX4_cancelBooking 11 = .ok (.iconst 1, 1) := dk_4 (dk_at dksX4_cancelBooking_0 11 rfl rfl)
theorem dX4_cancelBooking_12 : decode cX4_cancelBooking 12 = .ok (.goto 4, 3) := dk_167 0 4 (dk_at dksX4_cancelBooking_0 12 rfl rfl)
theorem dX4_cancelBooking_15 : decode cX4_cancelBooking 15 = .ok (.iconst 0, 1) := dk_3 (dk_at dksX4_cancelBooking_0 15 rfl rfl)
theorem dX4_cancelBooking_16 : decode cX4_cancelBooking 16 = .ok (.invokevirtual 92, 3) := dk_182 0 92 (dk_at dksX4_cancelBooking_0 16 rfl rfl)
theorem dX4_cancelBooking_19 : decode cX4_cancelBooking 19 = .ok (.ifCond .eq 5, 3) := dk_153 0 5 (dk_at dksX4_cancelBooking_0 19 rfl rfl)
theorem dX4_cancelBooking_22 : decode cX4_cancelBooking 22 = .ok (.iconst 0, 1) := dk_3 (dk_at dksX4_cancelBooking_0 22 rfl rfl)
theorem dX4_cancelBooking_23 : decode cX4_cancelBooking 23 = .ok (.ireturn, 1) := dk_172 (dk_at dksX4_cancelBooking_0 23 rfl rfl)
theorem dX4_cancelBooking_24 : decode cX4_cancelBooking 24 = .ok (.aload_n 0, 1) := dk_42 (dk_at dksX4_cancelBooking_1 0 rfl rfl)
theorem dX4_cancelBooking_25 : decode cX4_cancelBooking 25 = .ok (.aload_n 0, 1) := dk_42 (dk_at dksX4_cancelBooking_1 1 rfl rfl)
theorem dX4_cancelBooking_26 : decode cX4_cancelBooking 26 = .ok (.getfield 7, 3) := dk_180 0 7 (dk_at dksX4_cancelBooking_1 2 rfl rfl)
theorem dX4_cancelBooking_29 : decode cX4_cancelBooking 29 = .ok (.invokevirtual 95, 3) := dk_182 0 95 (dk_at dksX4_cancelBooking_1 5 rfl rfl)
theorem dX4_cancelBooking_32 : decode cX4_cancelBooking 32 = .ok (.aload_n 0, 1) := dk_42 (dk_at dksX4_cancelBooking_1 8 rfl rfl)
theorem dX4_cancelBooking_33 : decode cX4_cancelBooking 33 = .ok (.getfield 7, 3) := dk_180 0 7 (dk_at dksX4_cancelBooking_1 9 rfl rfl)
theorem dX4_cancelBooking_36 : decode cX4_cancelBooking 36 = .ok (.iconst 3, 1) := dk_6 (dk_at dksX4_cancelBooking_1 12 rfl rfl)
theorem dX4_cancelBooking_37 : decode cX4_cancelBooking 37 = .ok (.dup2, 1) := dk_92 (dk_at dksX4_cancelBooking_1 13 rfl rfl)
theorem dX4_cancelBooking_38 : decode cX4_cancelBooking 38 = .ok (.iaload, 1) := dk_46 (dk_at dksX4_cancelBooking_1 14 rfl rfl)
theorem dX4_cancelBooking_39 : decode cX4_cancelBooking 39 = .ok (.iconst 1, 1) := dk_4 (dk_at dksX4_cancelBooking_1 15 rfl rfl)
theorem dX4_cancelBooking_40 : decode cX4_cancelBooking 40 = .ok (.isub, 1) := dk_100 (dk_at dksX4_cancelBooking_1 16 rfl rfl)
theorem dX4_cancelBooking_41 : decode cX4_cancelBooking 41 = .ok (.iastore, 1) := dk_79 (dk_at dksX4_cancelBooking_1 17 rfl rfl)
theorem dX4_cancelBooking_42 : decode cX4_cancelBooking 42 = .ok (.aload_n 0, 1) := dk_42 (dk_at dksX4_cancelBooking_1 18 rfl rfl)
theorem dX4_cancelBooking_43 : decode cX4_cancelBooking 43 = .ok (.sipush 264, 3) := dk_17 1 8 (dk_at dksX4_cancelBooking_1 19 rfl rfl)
theorem dX4_cancelBooking_46 : decode cX4_cancelBooking 46 = .ok (.iload_n 2, 1) := dk_28 (dk_at dksX4_cancelBooking_1 22 rfl rfl)
theorem dX4_cancelBooking_47 : decode cX4_cancelBooking 47 = .ok (.aload_n 0, 1) := dk_42 (dk_at dksX4_cancelBooking_1 23 rfl rfl)
theorem dX4_cancelBooking_48 : decode cX4_cancelBooking 48 = .ok (.getfield 7, 3) := dk_180 0 7 (dk_at dksX4_cancelBooking_2 0 rfl rfl)
theorem dX4_cancelBooking_51 : decode cX4_cancelBooking 51 = .ok (.iconst 3, 1) := dk_6 (dk_at dksX4_cancelBooking_2 3 rfl rfl)
theorem dX4_cancelBooking_52 : decode cX4_cancelBooking 52 = .ok (.iaload, 1) := dk_46 (dk_at dksX4_cancelBooking_2 4 rfl rfl)
theorem dX4_cancelBooking_53 : decode cX4_cancelBooking 53 = .ok (.invokevirtual 160, 3) := dk_182 0 160 (dk_at dksX4_cancelBooking_2 5 rfl rfl)
theorem dX4_cancelBooking_56 : decode cX4_cancelBooking 56 = .ok (.aload_n 0, 1) := dk_42 (dk_at dksX4_cancelBooking_2 8 rfl rfl)
theorem dX4_cancelBooking_57 : decode cX4_cancelBooking 57 = .ok (.getfield 7, 3) := dk_180 0 7 (dk_at dksX4_cancelBooking_2 9 rfl rfl)
theorem dX4_cancelBooking_60 : decode cX4_cancelBooking 60 = .ok (.iconst 3, 1) := dk_6 (dk_at dksX4_cancelBooking_2 12 rfl rfl)
theorem dX4_cancelBooking_61 : decode cX4_cancelBooking 61 = .ok (.iaload, 1) := dk_46 (dk_at dksX4_cancelBooking_2 13 rfl rfl)
theorem dX4_cancelBooking_62 : decode cX4_cancelBooking 62 = .ok (.ireturn, 1) := dk_172 (dk_at dksX4_cancelBooking_2 14 rfl rfl)
abbrev cX4_placed : ByteArray := prog_20_method_44_code
def yX4_placed : MethodName := ⟨RX4, "placed", "(I)I"⟩
def dkwX4_placed_1 : List UInt8 := [132, 2, 1, 167, 255, 231, 2, 172]
abbrev dktX4_placed_1 : List UInt8 := dkwX4_placed_1 ++ []
def dkwX4_placed_0 : List UInt8 := [3, 61, 28, 42, 180, 0, 7, 6, 46, 162, 0, 21, 42, 28, 3, 182, 0, 83, 27, 160, 0, 5, 28, 172]
abbrev dktX4_placed_0 : List UInt8 := dkwX4_placed_0 ++ dktX4_placed_1
theorem dksX4_placed_0 : cX4_placed.data.toList.drop 0 = dktX4_placed_0 := by decide +kernel
theorem dksX4_placed_1 : cX4_placed.data.toList.drop 24 = dktX4_placed_1 := dk_seg dksX4_placed_0 24 rfl rfl
theorem dX4_placed_0 : decode cX4_placed 0 = .ok (.iconst 0, 1) := dk_3 (dk_at dksX4_placed_0 0 rfl rfl)
theorem dX4_placed_1 : decode cX4_placed 1 = .ok (.istore_n 2, 1) := dk_61 (dk_at dksX4_placed_0 1 rfl rfl)
theorem dX4_placed_2 : decode cX4_placed 2 = .ok (.iload_n 2, 1) := dk_28 (dk_at dksX4_placed_0 2 rfl rfl)
theorem dX4_placed_3 : decode cX4_placed 3 = .ok (.aload_n 0, 1) := dk_42 (dk_at dksX4_placed_0 3 rfl rfl)
theorem dX4_placed_4 : decode cX4_placed 4 = .ok (.getfield 7, 3) := dk_180 0 7 (dk_at dksX4_placed_0 4 rfl rfl)
theorem dX4_placed_7 : decode cX4_placed 7 = .ok (.iconst 3, 1) := dk_6 (dk_at dksX4_placed_0 7 rfl rfl)
theorem dX4_placed_8 : decode cX4_placed 8 = .ok (.iaload, 1) := dk_46 (dk_at dksX4_placed_0 8 rfl rfl)
theorem dX4_placed_9 : decode cX4_placed 9 = .ok (.if_icmp .ge 21, 3) := dk_162 0 21 (dk_at dksX4_placed_0 9 rfl rfl)
theorem dX4_placed_12 : decode cX4_placed 12 = .ok (.aload_n 0, 1) := dk_42 (dk_at dksX4_placed_0 12 rfl rfl)
theorem dX4_placed_13 : decode cX4_placed 13 = .ok (.iload_n 2, 1) := dk_28 (dk_at dksX4_placed_0 13 rfl rfl)
theorem dX4_placed_14 : decode cX4_placed 14 = .ok (.iconst 0, 1) := dk_3 (dk_at dksX4_placed_0 14 rfl rfl)
theorem dX4_placed_15 : decode cX4_placed 15 = .ok (.invokevirtual 83, 3) := dk_182 0 83 (dk_at dksX4_placed_0 15 rfl rfl)
theorem dX4_placed_18 : decode cX4_placed 18 = .ok (.iload_n 1, 1) := dk_27 (dk_at dksX4_placed_0 18 rfl rfl)
theorem dX4_placed_19 : decode cX4_placed 19 = .ok (.if_icmp .ne 5, 3) := dk_160 0 5 (dk_at dksX4_placed_0 19 rfl rfl)
theorem dX4_placed_22 : decode cX4_placed 22 = .ok (.iload_n 2, 1) := dk_28 (dk_at dksX4_placed_0 22 rfl rfl)
theorem dX4_placed_23 : decode cX4_placed 23 = .ok (.ireturn, 1) := dk_172 (dk_at dksX4_placed_0 23 rfl rfl)
theorem dX4_placed_24 : decode cX4_placed 24 = .ok (.iinc 2 1, 3) := dk_132 2 1 (dk_at dksX4_placed_1 0 rfl rfl)
theorem dX4_placed_27 : decode cX4_placed 27 = .ok (.goto (-25), 3) := dk_167 255 231 (dk_at dksX4_placed_1 3 rfl rfl)
theorem dX4_placed_30 : decode cX4_placed 30 = .ok (.iconst (-1), 1) := dk_2 (dk_at dksX4_placed_1 6 rfl rfl)
theorem dX4_placed_31 : decode cX4_placed 31 = .ok (.ireturn, 1) := dk_172 (dk_at dksX4_placed_1 7 rfl rfl)
abbrev cX4_stationCount : ByteArray := prog_20_method_46_code
def yX4_stationCount : MethodName := ⟨RX4, "stationCount", "()I"⟩
def dkwX4_stationCount_0 : List UInt8 := [42, 3, 181, 0, 54, 42, 180, 0, 7, 3, 46, 172]
abbrev dktX4_stationCount_0 : List UInt8 := dkwX4_stationCount_0 ++ []
theorem dksX4_stationCount_0 : cX4_stationCount.data.toList.drop 0 = dktX4_stationCount_0 := by decide +kernel
theorem dX4_stationCount_0 : decode cX4_stationCount 0 = .ok (.aload_n 0, 1) := dk_42 (dk_at dksX4_stationCount_0 0 rfl rfl)
theorem dX4_stationCount_1 : decode cX4_stationCount 1 = .ok (.iconst 0, 1) := dk_3 (dk_at dksX4_stationCount_0 1 rfl rfl)
theorem dX4_stationCount_2 : decode cX4_stationCount 2 = .ok (.putfield 54, 3) := dk_181 0 54 (dk_at dksX4_stationCount_0 2 rfl rfl)
theorem dX4_stationCount_5 : decode cX4_stationCount 5 = .ok (.aload_n 0, 1) := dk_42 (dk_at dksX4_stationCount_0 5 rfl rfl)
theorem dX4_stationCount_6 : decode cX4_stationCount 6 = .ok (.getfield 7, 3) := dk_180 0 7 (dk_at dksX4_stationCount_0 6 rfl rfl)
theorem dX4_stationCount_9 : decode cX4_stationCount 9 = .ok (.iconst 0, 1) := dk_3 (dk_at dksX4_stationCount_0 9 rfl rfl)
theorem dX4_stationCount_10 : decode cX4_stationCount 10 = .ok (.iaload, 1) := dk_46 (dk_at dksX4_stationCount_0 10 rfl rfl)
theorem dX4_stationCount_11 : decode cX4_stationCount 11 = .ok (.ireturn, 1) := dk_172 (dk_at dksX4_stationCount_0 11 rfl rfl)
abbrev cX4_transferTime : ByteArray := prog_20_method_47_code
def yX4_transferTime : MethodName := ⟨RX4, "transferTime", "(I)I"⟩
def dkwX4_transferTime_1 : List UInt8 := [42, 180, 0, 7, 16, 8, 27, 96, 46, 172]
abbrev dktX4_transferTime_1 : List UInt8 := dkwX4_transferTime_1 ++ []
def dkwX4_transferTime_0 : List UInt8 := [42, 42, 27, 182, 0, 99, 153, 0, 7, 3, 167, 0, 4, 4, 182, 0, 92, 153, 0, 7, 3, 167, 0, 12]
abbrev dktX4_transferTime_0 : List UInt8 := dkwX4_transferTime_0 ++ dktX4_transferTime_1
theorem dksX4_transferTime_0 : cX4_transferTime.data.toList.drop 0 = dktX4_transferTime_0 := by decide +kernel
theorem dksX4_transferTime_1 : cX4_transferTime.data.toList.drop 24 = dktX4_transferTime_1 := dk_seg dksX4_transferTime_0 24 rfl rfl
theorem dX4_transferTime_0 : decode cX4_transferTime 0 = .ok (.aload_n 0, 1) := dk_42 (dk_at dksX4_transferTime_0 0 rfl rfl)
theorem dX4_transferTime_1 : decode cX4_transferTime 1 = .ok (.aload_n 0, 1) := dk_42 (dk_at dksX4_transferTime_0 1 rfl rfl)
theorem dX4_transferTime_2 : decode cX4_transferTime 2 = .ok (.iload_n 1, 1) := dk_27 (dk_at dksX4_transferTime_0 2 rfl rfl)
theorem dX4_transferTime_3 : decode cX4_transferTime 3 = .ok (.invokevirtual 99, 3) := dk_182 0 99 (dk_at dksX4_transferTime_0 3 rfl rfl)
theorem dX4_transferTime_6 : decode cX4_transferTime 6 = .ok (.ifCond .eq 7, 3) := dk_153 0 7 (dk_at dksX4_transferTime_0 6 rfl rfl)
theorem dX4_transferTime_9 : decode cX4_transferTime 9 = .ok (.iconst 0, 1) := dk_3 (dk_at dksX4_transferTime_0 9 rfl rfl)
theorem dX4_transferTime_10 : decode cX4_transferTime 10 = .ok (.goto 4, 3) := dk_167 0 4 (dk_at dksX4_transferTime_0 10 rfl rfl)
theorem dX4_transferTime_13 : decode cX4_transferTime 13 = .ok (.iconst 1, 1) := dk_4 (dk_at dksX4_transferTime_0 13 rfl rfl)
theorem dX4_transferTime_14 : decode cX4_transferTime 14 = .ok (.invokevirtual 92, 3) := dk_182 0 92 (dk_at dksX4_transferTime_0 14 rfl rfl)
theorem dX4_transferTime_17 : decode cX4_transferTime 17 = .ok (.ifCond .eq 7, 3) := dk_153 0 7 (dk_at dksX4_transferTime_0 17 rfl rfl)
theorem dX4_transferTime_20 : decode cX4_transferTime 20 = .ok (.iconst 0, 1) := dk_3 (dk_at dksX4_transferTime_0 20 rfl rfl)
theorem dX4_transferTime_21 : decode cX4_transferTime 21 = .ok (.goto 12, 3) := dk_167 0 12 (dk_at dksX4_transferTime_0 21 rfl rfl)
theorem dX4_transferTime_24 : decode cX4_transferTime 24 = .ok (.aload_n 0, 1) := dk_42 (dk_at dksX4_transferTime_1 0 rfl rfl)
theorem dX4_transferTime_25 : decode cX4_transferTime 25 = .ok (.getfield 7, 3) := dk_180 0 7 (dk_at dksX4_transferTime_1 1 rfl rfl)
theorem dX4_transferTime_28 : decode cX4_transferTime 28 = .ok (.bipush 8, 2) := dk_16 8 (dk_at dksX4_transferTime_1 4 rfl rfl)
theorem dX4_transferTime_30 : decode cX4_transferTime 30 = .ok (.iload_n 1, 1) := dk_27 (dk_at dksX4_transferTime_1 6 rfl rfl)
theorem dX4_transferTime_31 : decode cX4_transferTime 31 = .ok (.iadd, 1) := dk_96 (dk_at dksX4_transferTime_1 7 rfl rfl)
theorem dX4_transferTime_32 : decode cX4_transferTime 32 = .ok (.iaload, 1) := dk_46 (dk_at dksX4_transferTime_1 8 rfl rfl)
theorem dX4_transferTime_33 : decode cX4_transferTime 33 = .ok (.ireturn, 1) := dk_172 (dk_at dksX4_transferTime_1 9 rfl rfl)
abbrev cX4_nextTrain : ByteArray := prog_20_method_48_code
def yX4_nextTrain : MethodName := ⟨RX4, "nextTrain", "(II)I"⟩
def dkwX4_nextTrain_6 : List UInt8 := [156, 0, 7, 6, 167, 0, 4, 3, 182, 0, 92, 153, 0, 7, 3, 167, 0, 4, 29, 172]
abbrev dktX4_nextTrain_6 : List UInt8 := dkwX4_nextTrain_6 ++ []
def dkwX4_nextTrain_5 : List UInt8 := [182, 0, 80, 54, 4, 21, 5, 62, 132, 6, 1, 167, 255, 186, 132, 5, 1, 167, 255, 166, 42, 29]
abbrev dktX4_nextTrain_5 : List UInt8 := dkwX4_nextTrain_5 ++ dktX4_nextTrain_6
def dkwX4_nextTrain_4 : List UInt8 := [161, 0, 32, 42, 21, 5, 21, 6, 182, 0, 80, 21, 4, 161, 0, 6, 167, 0, 16, 42, 21, 5, 21, 6]
abbrev dktX4_nextTrain_4 : List UInt8 := dkwX4_nextTrain_4 ++ dktX4_nextTrain_5
def dkwX4_nextTrain_3 : List UInt8 := [162, 0, 62, 42, 21, 5, 21, 6, 182, 0, 102, 27, 160, 0, 44, 42, 21, 5, 21, 6, 182, 0, 80, 28]
abbrev dktX4_nextTrain_3 : List UInt8 := dkwX4_nextTrain_3 ++ dktX4_nextTrain_4
def dkwX4_nextTrain_2 : List UInt8 := [42, 180, 0, 7, 4, 46, 162, 0, 85, 3, 54, 6, 21, 6, 42, 21, 5, 6, 182, 0, 76, 4, 100]
abbrev dktX4_nextTrain_2 : List UInt8 := dkwX4_nextTrain_2 ++ dktX4_nextTrain_3
def dkwX4_nextTrain_1 : List UInt8 := [3, 167, 0, 4, 5, 182, 0, 92, 153, 0, 5, 3, 172, 2, 62, 18, 111, 54, 4, 3, 54, 5, 21, 5]
abbrev dktX4_nextTrain_1 : List UInt8 := dkwX4_nextTrain_1 ++ dktX4_nextTrain_2
def dkwX4_nextTrain_0 : List UInt8 := [42, 42, 27, 182, 0, 99, 154, 0, 7, 4, 167, 0, 19, 28, 3, 17, 39, 15, 184, 0, 68, 153, 0, 7]
abbrev dktX4_nextTrain_0 : List UInt8 := dkwX4_nextTrain_0 ++ dktX4_nextTrain_1
theorem dksX4_nextTrain_0 : cX4_nextTrain.data.toList.drop 0 = dktX4_nextTrain_0 := by decide +kernel
theorem dksX4_nextTrain_1 : cX4_nextTrain.data.toList.drop 24 = dktX4_nextTrain_1 := dk_seg dksX4_nextTrain_0 24 rfl rfl
theorem dksX4_nextTrain_2 : cX4_nextTrain.data.toList.drop 48 = dktX4_nextTrain_2 := dk_seg dksX4_nextTrain_1 24 rfl rfl
theorem dksX4_nextTrain_3 : cX4_nextTrain.data.toList.drop 71 = dktX4_nextTrain_3 := dk_seg dksX4_nextTrain_2 23 rfl rfl
theorem dksX4_nextTrain_4 : cX4_nextTrain.data.toList.drop 95 = dktX4_nextTrain_4 := dk_seg dksX4_nextTrain_3 24 rfl rfl
theorem dksX4_nextTrain_5 : cX4_nextTrain.data.toList.drop 119 = dktX4_nextTrain_5 := dk_seg dksX4_nextTrain_4 24 rfl rfl
theorem dksX4_nextTrain_6 : cX4_nextTrain.data.toList.drop 141 = dktX4_nextTrain_6 := dk_seg dksX4_nextTrain_5 22 rfl rfl
theorem dX4_nextTrain_0 : decode cX4_nextTrain 0 = .ok (.aload_n 0, 1) := dk_42 (dk_at dksX4_nextTrain_0 0 rfl rfl)
theorem dX4_nextTrain_1 : decode cX4_nextTrain 1 = .ok (.aload_n 0, 1) := dk_42 (dk_at dksX4_nextTrain_0 1 rfl rfl)
theorem dX4_nextTrain_2 : decode cX4_nextTrain 2 = .ok (.iload_n 1, 1) := dk_27 (dk_at dksX4_nextTrain_0 2 rfl rfl)
theorem dX4_nextTrain_3 : decode cX4_nextTrain 3 = .ok (.invokevirtual 99, 3) := dk_182 0 99 (dk_at dksX4_nextTrain_0 3 rfl rfl)
theorem dX4_nextTrain_6 : decode cX4_nextTrain 6 = .ok (.ifCond .ne 7, 3) := dk_154 0 7 (dk_at dksX4_nextTrain_0 6 rfl rfl)
theorem dX4_nextTrain_9 : decode cX4_nextTrain 9 = .ok (.iconst 1, 1) := dk_4 (dk_at dksX4_nextTrain_0 9 rfl rfl)
theorem dX4_nextTrain_10 : decode cX4_nextTrain 10 = .ok (.goto 19, 3) := dk_167 0 19 (dk_at dksX4_nextTrain_0 10 rfl rfl)
theorem dX4_nextTrain_13 : decode cX4_nextTrain 13 = .ok (.iload_n 2, 1) := dk_28 (dk_at dksX4_nextTrain_0 13 rfl rfl)
theorem dX4_nextTrain_14 : decode cX4_nextTrain 14 = .ok (.iconst 0, 1) := dk_3 (dk_at dksX4_nextTrain_0 14 rfl rfl)
theorem dX4_nextTrain_15 : decode cX4_nextTrain 15 = .ok (.sipush 9999, 3) := dk_17 39 15 (dk_at dksX4_nextTrain_0 15 rfl rfl)
theorem dX4_nextTrain_18 : decode cX4_nextTrain 18 = .ok (.invokestatic 68, 3) := dk_184 0 68 (dk_at dksX4_nextTrain_0 18 rfl rfl)
theorem dX4_nextTrain_21 : decode cX4_nextTrain 21 = .ok (.ifCond .eq 7, 3) := dk_153 0 7 (dk_at dksX4_nextTrain_0 21 rfl rfl)
theorem dX4_nextTrain_24 : decode cX4_nextTrain 24 = .ok (.iconst 0, 1) := dk_3 (dk_at dksX4_nextTrain_1 0 rfl rfl)
theorem dX4_nextTrain_25 : decode cX4_nextTrain 25 = .ok (.goto 4, 3) := dk_167 0 4 (dk_at dksX4_nextTrain_1 1 rfl rfl)
theorem dX4_nextTrain_28 : decode cX4_nextTrain 28 = .ok (.iconst 2, 1) := dk_5 (dk_at dksX4_nextTrain_1 4 rfl rfl)
theorem dX4_nextTrain_29 : decode cX4_nextTrain 29 = .ok (.invokevirtual 92, 3) := dk_182 0 92 (dk_at dksX4_nextTrain_1 5 rfl rfl)
theorem dX4_nextTrain_32 : decode cX4_nextTrain 32 = .ok (.ifCond .eq 5, 3) := dk_153 0 5 (dk_at dksX4_nextTrain_1 8 rfl rfl)
theorem dX4_nextTrain_35 : decode cX4_nextTrain 35 = .ok (.iconst 0, 1) := dk_3 (dk_at dksX4_nextTrain_1 11 rfl rfl)
theorem dX4_nextTrain_36 : decode cX4_nextTrain 36 = .ok (.ireturn, 1) := dk_172 (dk_at dksX4_nextTrain_1 12 rfl rfl)
theorem dX4_nextTrain_37 : decode cX4_nextTrain 37 = .ok (.iconst (-1), 1) := dk_2 (dk_at dksX4_nextTrain_1 13 rfl rfl)
theorem dX4_nextTrain_38 : decode cX4_nextTrain 38 = .ok (.istore_n 3, 1) := dk_62 (dk_at dksX4_nextTrain_1 14 rfl rfl)
theorem dX4_nextTrain_39 : decode cX4_nextTrain 39 = .ok (.ldc 111, 2) := dk_18 111 (dk_at dksX4_nextTrain_1 15 rfl rfl)
theorem dX4_nextTrain_41 : decode cX4_nextTrain 41 = .ok (.istore 4, 2) := dk_54 4 (dk_at dksX4_nextTrain_1 17 rfl rfl)
theorem dX4_nextTrain_43 : decode cX4_nextTrain 43 = .ok (.iconst 0, 1) := dk_3 (dk_at dksX4_nextTrain_1 19 rfl rfl)
theorem dX4_nextTrain_44 : decode cX4_nextTrain 44 = .ok (.istore 5, 2) := dk_54 5 (dk_at dksX4_nextTrain_1 20 rfl rfl)
theorem dX4_nextTrain_46 : decode cX4_nextTrain 46 = .ok (.iload 5, 2) := dk_21 5 (dk_at dksX4_nextTrain_1 22 rfl rfl)
theorem dX4_nextTrain_48 : decode cX4_nextTrain 48 = .ok (.aload_n 0, 1) := dk_42 (dk_at dksX4_nextTrain_2 0 rfl rfl)
theorem dX4_nextTrain_49 : decode cX4_nextTrain 49 = .ok (.getfield 7, 3) := dk_180 0 7 (dk_at dksX4_nextTrain_2 1 rfl rfl)
theorem dX4_nextTrain_52 : decode cX4_nextTrain 52 = .ok (.iconst 1, 1) := dk_4 (dk_at dksX4_nextTrain_2 4 rfl rfl)
theorem dX4_nextTrain_53 : decode cX4_nextTrain 53 = .ok (.iaload, 1) := dk_46 (dk_at dksX4_nextTrain_2 5 rfl rfl)
theorem dX4_nextTrain_54 : decode cX4_nextTrain 54 = .ok (.if_icmp .ge 85, 3) := dk_162 0 85 (dk_at dksX4_nextTrain_2 6 rfl rfl)
theorem dX4_nextTrain_57 : decode cX4_nextTrain 57 = .ok (.iconst 0, 1) := dk_3 (dk_at dksX4_nextTrain_2 9 rfl rfl)
theorem dX4_nextTrain_58 : decode cX4_nextTrain 58 = .ok (.istore 6, 2) := dk_54 6 (dk_at dksX4_nextTrain_2 10 rfl rfl)
theorem dX4_nextTrain_60 : decode cX4_nextTrain 60 = .ok (.iload 6, 2) := dk_21 6 (dk_at dksX4_nextTrain_2 12 rfl rfl)
theorem dX4_nextTrain_62 : decode cX4_nextTrain 62 = .ok (.aload_n 0, 1) := dk_42 (dk_at dksX4_nextTrain_2 14 rfl rfl)
theorem dX4_nextTrain_63 : decode cX4_nextTrain 63 = .ok (.iload 5, 2) := dk_21 5 (dk_at dksX4_nextTrain_2 15 rfl rfl)
theorem dX4_nextTrain_65 : decode cX4_nextTrain 65 = .ok (.iconst 3, 1) := dk_6 (dk_at dksX4_nextTrain_2 17 rfl rfl)
theorem dX4_nextTrain_66 : decode cX4_nextTrain 66 = .ok (.invokevirtual 76, 3) := dk_182 0 76 (dk_at dksX4_nextTrain_2 18 rfl rfl)
theorem dX4_nextTrain_69 : decode cX4_nextTrain 69 = .ok (.iconst 1, 1) := dk_4 (dk_at dksX4_nextTrain_2 21 rfl rfl)
theorem dX4_nextTrain_70 : decode cX4_nextTrain 70 = .ok (.isub, 1) := dk_100 (dk_at dksX4_nextTrain_2 22 rfl rfl)
theorem dX4_nextTrain_71 : decode cX4_nextTrain 71 = .ok (.if_icmp .ge 62, 3) := dk_162 0 62 (dk_at dksX4_nextTrain_3 0 rfl rfl)
theorem dX4_nextTrain_74 : decode cX4_nextTrain 74 = .ok (.aload_n 0, 1) := dk_42 (dk_at dksX4_nextTrain_3 3 rfl rfl)
theorem dX4_nextTrain_75 : decode cX4_nextTrain 75 = .ok (.iload 5, 2) := dk_21 5 (dk_at dksX4_nextTrain_3 4 rfl rfl)
theorem dX4_nextTrain_77 : decode cX4_nextTrain 77 = .ok (.iload 6, 2) := dk_21 6 (dk_at dksX4_nextTrain_3 6 rfl rfl)
theorem dX4_nextTrain_79 : decode cX4_nextTrain 79 = .ok (.invokevirtual 102, 3) := dk_182 0 102 (dk_at dksX4_nextTrain_3 8 rfl rfl)
theorem dX4_nextTrain_82 : decode cX4_nextTrain 82 = .ok (.iload_n 1, 1) := dk_27 (dk_at dksX4_nextTrain_3 11 rfl rfl)
theorem dX4_nextTrain_83 : decode cX4_nextTrain 83 = .ok (.if_icmp .ne 44, 3) := dk_160 0 44 (dk_at dksX4_nextTrain_3 12 rfl rfl)
theorem dX4_nextTrain_86 : decode cX4_nextTrain 86 = .ok (.aload_n 0, 1) := dk_42 (dk_at dksX4_nextTrain_3 15 rfl rfl)
theorem dX4_nextTrain_87 : decode cX4_nextTrain 87 = .ok (.iload 5, 2) := dk_21 5 (dk_at dksX4_nextTrain_3 16 rfl rfl)
theorem dX4_nextTrain_89 : decode cX4_nextTrain 89 = .ok (.iload 6, 2) := dk_21 6 (dk_at dksX4_nextTrain_3 18 rfl rfl)
theorem dX4_nextTrain_91 : decode cX4_nextTrain 91 = .ok (.invokevirtual 80, 3) := dk_182 0 80 (dk_at dksX4_nextTrain_3 20 rfl rfl)
theorem dX4_nextTrain_94 : decode cX4_nextTrain 94 = .ok (.iload_n 2, 1) := dk_28 (dk_at dksX4_nextTrain_3 23 rfl rfl)
theorem dX4_nextTrain_95 : decode cX4_nextTrain 95 = .ok (.if_icmp .lt 32, 3) := dk_161 0 32 (dk_at dksX4_nextTrain_4 0 rfl rfl)
theorem dX4_nextTrain_98 : decode cX4_nextTrain 98 = .ok (.aload_n 0, 1) := dk_42 (dk_at dksX4_nextTrain_4 3 rfl rfl)
theorem dX4_nextTrain_99 : decode cX4_nextTrain 99 = .ok (.iload 5, 2) := dk_21 5 (dk_at dksX4_nextTrain_4 4 rfl rfl)
theorem dX4_nextTrain_101 : decode cX4_nextTrain 101 = .ok (.iload 6, 2) := dk_21 6 (dk_at dksX4_nextTrain_4 6 rfl rfl)
theorem dX4_nextTrain_103 : decode cX4_nextTrain 103 = .ok (.invokevirtual 80, 3) := dk_182 0 80 (dk_at dksX4_nextTrain_4 8 rfl rfl)
theorem dX4_nextTrain_106 : decode cX4_nextTrain 106 = .ok (.iload 4, 2) := dk_21 4 (dk_at dksX4_nextTrain_4 11 rfl rfl)
theorem dX4_nextTrain_108 : decode cX4_nextTrain 108 = .ok (.if_icmp .lt 6, 3) := dk_161 0 6 (dk_at dksX4_nextTrain_4 13 rfl rfl)
theorem dX4_nextTrain_111 : decode cX4_nextTrain 111 = .ok (.goto 16, 3) := dk_167 0 16 (dk_at dksX4_nextTrain_4 16 rfl rfl)
theorem dX4_nextTrain_114 : decode cX4_nextTrain 114 = .ok (.aload_n 0, 1) := dk_42 (dk_at dksX4_nextTrain_4 19 rfl rfl)
theorem dX4_nextTrain_115 : decode cX4_nextTrain 115 = .ok (.iload 5, 2) := dk_21 5 (dk_at dksX4_nextTrain_4 20 rfl rfl)
theorem dX4_nextTrain_117 : decode cX4_nextTrain 117 = .ok (.iload 6, 2) := dk_21 6 (dk_at dksX4_nextTrain_4 22 rfl rfl)
theorem dX4_nextTrain_119 : decode cX4_nextTrain 119 = .ok (.invokevirtual 80, 3) := dk_182 0 80 (dk_at dksX4_nextTrain_5 0 rfl rfl)
theorem dX4_nextTrain_122 : decode cX4_nextTrain 122 = .ok (.istore 4, 2) := dk_54 4 (dk_at dksX4_nextTrain_5 3 rfl rfl)
theorem dX4_nextTrain_124 : decode cX4_nextTrain 124 = .ok (.iload 5, 2) := dk_21 5 (dk_at dksX4_nextTrain_5 5 rfl rfl)
theorem dX4_nextTrain_126 : decode cX4_nextTrain 126 = .ok (.istore_n 3, 1) := dk_62 (dk_at dksX4_nextTrain_5 7 rfl rfl)
theorem dX4_nextTrain_127 : decode cX4_nextTrain 127 = .ok (.iinc 6 1, 3) := dk_132 6 1 (dk_at dksX4_nextTrain_5 8 rfl rfl)
theorem dX4_nextTrain_130 : decode cX4_nextTrain 130 = .ok (.goto (-70), 3) := dk_167 255 186 (dk_at dksX4_nextTrain_5 11 rfl rfl)
theorem dX4_nextTrain_133 : decode cX4_nextTrain 133 = .ok (.iinc 5 1, 3) := dk_132 5 1 (dk_at dksX4_nextTrain_5 14 rfl rfl)
theorem dX4_nextTrain_136 : decode cX4_nextTrain 136 = .ok (.goto (-90), 3) := dk_167 255 166 (dk_at dksX4_nextTrain_5 17 rfl rfl)
theorem dX4_nextTrain_139 : decode cX4_nextTrain 139 = .ok (.aload_n 0, 1) := dk_42 (dk_at dksX4_nextTrain_5 20 rfl rfl)
theorem dX4_nextTrain_140 : decode cX4_nextTrain 140 = .ok (.iload_n 3, 1) := dk_29 (dk_at dksX4_nextTrain_5 21 rfl rfl)
theorem dX4_nextTrain_141 : decode cX4_nextTrain 141 = .ok (.ifCond .ge 7, 3) := dk_156 0 7 (dk_at dksX4_nextTrain_6 0 rfl rfl)
theorem dX4_nextTrain_144 : decode cX4_nextTrain 144 = .ok (.iconst 3, 1) := dk_6 (dk_at dksX4_nextTrain_6 3 rfl rfl)
theorem dX4_nextTrain_145 : decode cX4_nextTrain 145 = .ok (.goto 4, 3) := dk_167 0 4 (dk_at dksX4_nextTrain_6 4 rfl rfl)
theorem dX4_nextTrain_148 : decode cX4_nextTrain 148 = .ok (.iconst 0, 1) := dk_3 (dk_at dksX4_nextTrain_6 7 rfl rfl)
theorem dX4_nextTrain_149 : decode cX4_nextTrain 149 = .ok (.invokevirtual 92, 3) := dk_182 0 92 (dk_at dksX4_nextTrain_6 8 rfl rfl)
theorem dX4_nextTrain_152 : decode cX4_nextTrain 152 = .ok (.ifCond .eq 7, 3) := dk_153 0 7 (dk_at dksX4_nextTrain_6 11 rfl rfl)
theorem dX4_nextTrain_155 : decode cX4_nextTrain 155 = .ok (.iconst 0, 1) := dk_3 (dk_at dksX4_nextTrain_6 14 rfl rfl)
theorem dX4_nextTrain_156 : decode cX4_nextTrain 156 = .ok (.goto 4, 3) := dk_167 0 4 (dk_at dksX4_nextTrain_6 15 rfl rfl)
theorem dX4_nextTrain_159 : decode cX4_nextTrain 159 = .ok (.iload_n 3, 1) := dk_29 (dk_at dksX4_nextTrain_6 18 rfl rfl)
theorem dX4_nextTrain_160 : decode cX4_nextTrain 160 = .ok (.ireturn, 1) := dk_172 (dk_at dksX4_nextTrain_6 19 rfl rfl)
abbrev cX4_trainCount : ByteArray := prog_20_method_49_code
def yX4_trainCount : MethodName := ⟨RX4, "trainCount", "()I"⟩
def dkwX4_trainCount_0 : List UInt8 := [42, 3, 181, 0, 54, 42, 180, 0, 7, 4, 46, 172]
abbrev dktX4_trainCount_0 : List UInt8 := dkwX4_trainCount_0 ++ []
theorem dksX4_trainCount_0 : cX4_trainCount.data.toList.drop 0 = dktX4_trainCount_0 := by decide +kernel
theorem dX4_trainCount_0 : decode cX4_trainCount 0 = .ok (.aload_n 0, 1) := dk_42 (dk_at dksX4_trainCount_0 0 rfl rfl)
theorem dX4_trainCount_1 : decode cX4_trainCount 1 = .ok (.iconst 0, 1) := dk_3 (dk_at dksX4_trainCount_0 1 rfl rfl)
theorem dX4_trainCount_2 : decode cX4_trainCount 2 = .ok (.putfield 54, 3) := dk_181 0 54 (dk_at dksX4_trainCount_0 2 rfl rfl)
theorem dX4_trainCount_5 : decode cX4_trainCount 5 = .ok (.aload_n 0, 1) := dk_42 (dk_at dksX4_trainCount_0 5 rfl rfl)
theorem dX4_trainCount_6 : decode cX4_trainCount 6 = .ok (.getfield 7, 3) := dk_180 0 7 (dk_at dksX4_trainCount_0 6 rfl rfl)
theorem dX4_trainCount_9 : decode cX4_trainCount 9 = .ok (.iconst 1, 1) := dk_4 (dk_at dksX4_trainCount_0 9 rfl rfl)
theorem dX4_trainCount_10 : decode cX4_trainCount 10 = .ok (.iaload, 1) := dk_46 (dk_at dksX4_trainCount_0 10 rfl rfl)
theorem dX4_trainCount_11 : decode cX4_trainCount 11 = .ok (.ireturn, 1) := dk_172 (dk_at dksX4_trainCount_0 11 rfl rfl)
abbrev cX4_stopCount : ByteArray := prog_20_method_51_code
def yX4_stopCount : MethodName := ⟨RX4, "stopCount", "(I)I"⟩
def dkwX4_stopCount_0 : List UInt8 := [42, 27, 6, 182, 0, 170, 172]
abbrev dktX4_stopCount_0 : List UInt8 := dkwX4_stopCount_0 ++ []
theorem dksX4_stopCount_0 : cX4_stopCount.data.toList.drop 0 = dktX4_stopCount_0 := by decide +kernel
theorem dX4_stopCount_0 : decode cX4_stopCount 0 = .ok (.aload_n 0, 1) := dk_42 (dk_at dksX4_stopCount_0 0 rfl rfl)
theorem dX4_stopCount_1 : decode cX4_stopCount 1 = .ok (.iload_n 1, 1) := dk_27 (dk_at dksX4_stopCount_0 1 rfl rfl)
theorem dX4_stopCount_2 : decode cX4_stopCount 2 = .ok (.iconst 3, 1) := dk_6 (dk_at dksX4_stopCount_0 2 rfl rfl)
theorem dX4_stopCount_3 : decode cX4_stopCount 3 = .ok (.invokevirtual 170, 3) := dk_182 0 170 (dk_at dksX4_stopCount_0 3 rfl rfl)
theorem dX4_stopCount_6 : decode cX4_stopCount 6 = .ok (.ireturn, 1) := dk_172 (dk_at dksX4_stopCount_0 6 rfl rfl)
abbrev cX4_ofTrain : ByteArray := prog_20_method_50_code
def yX4_ofTrain : MethodName := ⟨RX4, "ofTrain", "(II)I"⟩
def dkwX4_ofTrain_1 : List UInt8 := [42, 27, 28, 182, 0, 76, 172]
abbrev dktX4_ofTrain_1 : List UInt8 := dkwX4_ofTrain_1 ++ []
def dkwX4_ofTrain_0 : List UInt8 := [42, 42, 27, 182, 0, 72, 153, 0, 7, 3, 167, 0, 4, 4, 182, 0, 92, 153, 0, 7, 3, 167, 0, 9]
abbrev dktX4_ofTrain_0 : List UInt8 := dkwX4_ofTrain_0 ++ dktX4_ofTrain_1
theorem dksX4_ofTrain_0 : cX4_ofTrain.data.toList.drop 0 = dktX4_ofTrain_0 := by decide +kernel
theorem dksX4_ofTrain_1 : cX4_ofTrain.data.toList.drop 24 = dktX4_ofTrain_1 := dk_seg dksX4_ofTrain_0 24 rfl rfl
theorem dX4_ofTrain_0 : decode cX4_ofTrain 0 = .ok (.aload_n 0, 1) := dk_42 (dk_at dksX4_ofTrain_0 0 rfl rfl)
theorem dX4_ofTrain_1 : decode cX4_ofTrain 1 = .ok (.aload_n 0, 1) := dk_42 (dk_at dksX4_ofTrain_0 1 rfl rfl)
theorem dX4_ofTrain_2 : decode cX4_ofTrain 2 = .ok (.iload_n 1, 1) := dk_27 (dk_at dksX4_ofTrain_0 2 rfl rfl)
theorem dX4_ofTrain_3 : decode cX4_ofTrain 3 = .ok (.invokevirtual 72, 3) := dk_182 0 72 (dk_at dksX4_ofTrain_0 3 rfl rfl)
theorem dX4_ofTrain_6 : decode cX4_ofTrain 6 = .ok (.ifCond .eq 7, 3) := dk_153 0 7 (dk_at dksX4_ofTrain_0 6 rfl rfl)
theorem dX4_ofTrain_9 : decode cX4_ofTrain 9 = .ok (.iconst 0, 1) := dk_3 (dk_at dksX4_ofTrain_0 9 rfl rfl)
theorem dX4_ofTrain_10 : decode cX4_ofTrain 10 = .ok (.goto 4, 3) := dk_167 0 4 (dk_at dksX4_ofTrain_0 10 rfl rfl)
theorem dX4_ofTrain_13 : decode cX4_ofTrain 13 = .ok (.iconst 1, 1) := dk_4 (dk_at dksX4_ofTrain_0 13 rfl rfl)
theorem dX4_ofTrain_14 : decode cX4_ofTrain 14 = .ok (.invokevirtual 92, 3) := dk_182 0 92 (dk_at dksX4_ofTrain_0 14 rfl rfl)
theorem dX4_ofTrain_17 : decode cX4_ofTrain 17 = .ok (.ifCond .eq 7, 3) := dk_153 0 7 (dk_at dksX4_ofTrain_0 17 rfl rfl)
theorem dX4_ofTrain_20 : decode cX4_ofTrain 20 = .ok (.iconst 0, 1) := dk_3 (dk_at dksX4_ofTrain_0 20 rfl rfl)
theorem dX4_ofTrain_21 : decode cX4_ofTrain 21 = .ok (.goto 9, 3) := dk_167 0 9 (dk_at dksX4_ofTrain_0 21 rfl rfl)
theorem dX4_ofTrain_24 : decode cX4_ofTrain 24 = .ok (.aload_n 0, 1) := dk_42 (dk_at dksX4_ofTrain_1 0 rfl rfl)
theorem dX4_ofTrain_25 : decode cX4_ofTrain 25 = .ok (.iload_n 1, 1) := dk_27 (dk_at dksX4_ofTrain_1 1 rfl rfl)
theorem dX4_ofTrain_26 : decode cX4_ofTrain 26 = .ok (.iload_n 2, 1) := dk_28 (dk_at dksX4_ofTrain_1 2 rfl rfl)
theorem dX4_ofTrain_27 : decode cX4_ofTrain 27 = .ok (.invokevirtual 76, 3) := dk_182 0 76 (dk_at dksX4_ofTrain_1 3 rfl rfl)
theorem dX4_ofTrain_30 : decode cX4_ofTrain 30 = .ok (.ireturn, 1) := dk_172 (dk_at dksX4_ofTrain_1 6 rfl rfl)
abbrev cX4_stationAt : ByteArray := prog_20_method_52_code
def yX4_stationAt : MethodName := ⟨RX4, "stationAt", "(II)I"⟩
def dkwX4_stationAt_1 : List UInt8 := [167, 0, 9, 42, 27, 28, 182, 0, 102, 172]
abbrev dktX4_stationAt_1 : List UInt8 := dkwX4_stationAt_1 ++ []
def dkwX4_stationAt_0 : List UInt8 := [42, 42, 27, 28, 182, 0, 164, 153, 0, 7, 3, 167, 0, 4, 4, 182, 0, 92, 153, 0, 7, 3]
abbrev dktX4_stationAt_0 : List UInt8 := dkwX4_stationAt_0 ++ dktX4_stationAt_1
theorem dksX4_stationAt_0 : cX4_stationAt.data.toList.drop 0 = dktX4_stationAt_0 := by decide +kernel
theorem dksX4_stationAt_1 : cX4_stationAt.data.toList.drop 22 = dktX4_stationAt_1 := dk_seg dksX4_stationAt_0 22 rfl rfl
theorem dX4_stationAt_0 : decode cX4_stationAt 0 = .ok (.aload_n 0, 1) := dk_42 (dk_at dksX4_stationAt_0 0 rfl rfl)
theorem dX4_stationAt_1 : decode cX4_stationAt 1 = .ok (.aload_n 0, 1) := dk_42 (dk_at dksX4_stationAt_0 1 rfl rfl)
theorem dX4_stationAt_2 : decode cX4_stationAt 2 = .ok (.iload_n 1, 1) := dk_27 (dk_at dksX4_stationAt_0 2 rfl rfl)
theorem dX4_stationAt_3 : decode cX4_stationAt 3 = .ok (.iload_n 2, 1) := dk_28 (dk_at dksX4_stationAt_0 3 rfl rfl)
theorem dX4_stationAt_4 : decode cX4_stationAt 4 = .ok (.invokevirtual 164, 3) := dk_182 0 164 (dk_at dksX4_stationAt_0 4 rfl rfl)
theorem dX4_stationAt_7 : decode cX4_stationAt 7 = .ok (.ifCond .eq 7, 3) := dk_153 0 7 (dk_at dksX4_stationAt_0 7 rfl rfl)
theorem dX4_stationAt_10 : decode cX4_stationAt 10 = .ok (.iconst 0, 1) := dk_3 (dk_at dksX4_stationAt_0 10 rfl rfl)
theorem dX4_stationAt_11 : decode cX4_stationAt 11 = .ok (.goto 4, 3) := dk_167 0 4 (dk_at dksX4_stationAt_0 11 rfl rfl)
theorem dX4_stationAt_14 : decode cX4_stationAt 14 = .ok (.iconst 1, 1) := dk_4 (dk_at dksX4_stationAt_0 14 rfl rfl)
theorem dX4_stationAt_15 : decode cX4_stationAt 15 = .ok (.invokevirtual 92, 3) := dk_182 0 92 (dk_at dksX4_stationAt_0 15 rfl rfl)
theorem dX4_stationAt_18 : decode cX4_stationAt 18 = .ok (.ifCond .eq 7, 3) := dk_153 0 7 (dk_at dksX4_stationAt_0 18 rfl rfl)
theorem dX4_stationAt_21 : decode cX4_stationAt 21 = .ok (.iconst 0, 1) := dk_3 (dk_at dksX4_stationAt_0 21 rfl rfl)
theorem dX4_stationAt_22 : decode cX4_stationAt 22 = .ok (.goto 9, 3) := dk_167 0 9 (dk_at dksX4_stationAt_1 0 rfl rfl)
theorem dX4_stationAt_25 : decode cX4_stationAt 25 = .ok (.aload_n 0, 1) := dk_42 (dk_at dksX4_stationAt_1 3 rfl rfl)
theorem dX4_stationAt_26 : decode cX4_stationAt 26 = .ok (.iload_n 1, 1) := dk_27 (dk_at dksX4_stationAt_1 4 rfl rfl)
theorem dX4_stationAt_27 : decode cX4_stationAt 27 = .ok (.iload_n 2, 1) := dk_28 (dk_at dksX4_stationAt_1 5 rfl rfl)
theorem dX4_stationAt_28 : decode cX4_stationAt 28 = .ok (.invokevirtual 102, 3) := dk_182 0 102 (dk_at dksX4_stationAt_1 6 rfl rfl)
theorem dX4_stationAt_31 : decode cX4_stationAt 31 = .ok (.ireturn, 1) := dk_172 (dk_at dksX4_stationAt_1 9 rfl rfl)
abbrev cX4_arrivalAt : ByteArray := prog_20_method_53_code
def yX4_arrivalAt : MethodName := ⟨RX4, "arrivalAt", "(II)I"⟩
def dkwX4_arrivalAt_1 : List UInt8 := [182, 0, 92, 153, 0, 7, 3, 167, 0, 9, 42, 27, 28, 182, 0, 120, 172]
abbrev dktX4_arrivalAt_1 : List UInt8 := dkwX4_arrivalAt_1 ++ []
def dkwX4_arrivalAt_0 : List UInt8 := [42, 42, 27, 28, 182, 0, 164, 154, 0, 7, 4, 167, 0, 12, 28, 154, 0, 7, 5, 167, 0, 4, 3]
abbrev dktX4_arrivalAt_0 : List UInt8 := dkwX4_arrivalAt_0 ++ dktX4_arrivalAt_1
theorem dksX4_arrivalAt_0 : cX4_arrivalAt.data.toList.drop 0 = dktX4_arrivalAt_0 := by decide +kernel
theorem dksX4_arrivalAt_1 : cX4_arrivalAt.data.toList.drop 23 = dktX4_arrivalAt_1 := dk_seg dksX4_arrivalAt_0 23 rfl rfl
theorem dX4_arrivalAt_0 : decode cX4_arrivalAt 0 = .ok (.aload_n 0, 1) := dk_42 (dk_at dksX4_arrivalAt_0 0 rfl rfl)
theorem dX4_arrivalAt_1 : decode cX4_arrivalAt 1 = .ok (.aload_n 0, 1) := dk_42 (dk_at dksX4_arrivalAt_0 1 rfl rfl)
theorem dX4_arrivalAt_2 : decode cX4_arrivalAt 2 = .ok (.iload_n 1, 1) := dk_27 (dk_at dksX4_arrivalAt_0 2 rfl rfl)
theorem dX4_arrivalAt_3 : decode cX4_arrivalAt 3 = .ok (.iload_n 2, 1) := dk_28 (dk_at dksX4_arrivalAt_0 3 rfl rfl)
theorem dX4_arrivalAt_4 : decode cX4_arrivalAt 4 = .ok (.invokevirtual 164, 3) := dk_182 0 164 (dk_at dksX4_arrivalAt_0 4 rfl rfl)
theorem dX4_arrivalAt_7 : decode cX4_arrivalAt 7 = .ok (.ifCond .ne 7, 3) := dk_154 0 7 (dk_at dksX4_arrivalAt_0 7 rfl rfl)
theorem dX4_arrivalAt_10 : decode cX4_arrivalAt 10 = .ok (.iconst 1, 1) := dk_4 (dk_at dksX4_arrivalAt_0 10 rfl rfl)
theorem dX4_arrivalAt_11 : decode cX4_arrivalAt 11 = .ok (.goto 12, 3) := dk_167 0 12 (dk_at dksX4_arrivalAt_0 11 rfl rfl)
theorem dX4_arrivalAt_14 : decode cX4_arrivalAt 14 = .ok (.iload_n 2, 1) := dk_28 (dk_at dksX4_arrivalAt_0 14 rfl rfl)
theorem dX4_arrivalAt_15 : decode cX4_arrivalAt 15 = .ok (.ifCond .ne 7, 3) := dk_154 0 7 (dk_at dksX4_arrivalAt_0 15 rfl rfl)
theorem dX4_arrivalAt_18 : decode cX4_arrivalAt 18 = .ok (.iconst 2, 1) := dk_5 (dk_at dksX4_arrivalAt_0 18 rfl rfl)
theorem dX4_arrivalAt_19 : decode cX4_arrivalAt 19 = .ok (.goto 4, 3) := dk_167 0 4 (dk_at dksX4_arrivalAt_0 19 rfl rfl)
theorem dX4_arrivalAt_22 : decode cX4_arrivalAt 22 = .ok (.iconst 0, 1) := dk_3 (dk_at dksX4_arrivalAt_0 22 rfl rfl)
theorem dX4_arrivalAt_23 : decode cX4_arrivalAt 23 = .ok (.invokevirtual 92, 3) := dk_182 0 92 (dk_at dksX4_arrivalAt_1 0 rfl rfl)
theorem dX4_arrivalAt_26 : decode cX4_arrivalAt 26 = .ok (.ifCond .eq 7, 3) := dk_153 0 7 (dk_at dksX4_arrivalAt_1 3 rfl rfl)
theorem dX4_arrivalAt_29 : decode cX4_arrivalAt 29 = .ok (.iconst 0, 1) := dk_3 (dk_at dksX4_arrivalAt_1 6 rfl rfl)
theorem dX4_arrivalAt_30 : decode cX4_arrivalAt 30 = .ok (.goto 9, 3) := dk_167 0 9 (dk_at dksX4_arrivalAt_1 7 rfl rfl)
theorem dX4_arrivalAt_33 : decode cX4_arrivalAt 33 = .ok (.aload_n 0, 1) := dk_42 (dk_at dksX4_arrivalAt_1 10 rfl rfl)
theorem dX4_arrivalAt_34 : decode cX4_arrivalAt 34 = .ok (.iload_n 1, 1) := dk_27 (dk_at dksX4_arrivalAt_1 11 rfl rfl)
theorem dX4_arrivalAt_35 : decode cX4_arrivalAt 35 = .ok (.iload_n 2, 1) := dk_28 (dk_at dksX4_arrivalAt_1 12 rfl rfl)
theorem dX4_arrivalAt_36 : decode cX4_arrivalAt 36 = .ok (.invokevirtual 120, 3) := dk_182 0 120 (dk_at dksX4_arrivalAt_1 13 rfl rfl)
theorem dX4_arrivalAt_39 : decode cX4_arrivalAt 39 = .ok (.ireturn, 1) := dk_172 (dk_at dksX4_arrivalAt_1 16 rfl rfl)
abbrev cX4_departureAt : ByteArray := prog_20_method_54_code
def yX4_departureAt : MethodName := ⟨RX4, "departureAt", "(II)I"⟩
def dkwX4_departureAt_2 : List UInt8 := [172]
abbrev dktX4_departureAt_2 : List UInt8 := dkwX4_departureAt_2 ++ []
def dkwX4_departureAt_1 : List UInt8 := [160, 0, 7, 5, 167, 0, 4, 3, 182, 0, 92, 153, 0, 7, 3, 167, 0, 9, 42, 27, 28, 182, 0, 80]
abbrev dktX4_departureAt_1 : List UInt8 := dkwX4_departureAt_1 ++ dktX4_departureAt_2
def dkwX4_departureAt_0 : List UInt8 := [42, 42, 27, 28, 182, 0, 164, 154, 0, 7, 4, 167, 0, 20, 28, 42, 27, 6, 182, 0, 76, 4, 100]
abbrev dktX4_departureAt_0 : List UInt8 := dkwX4_departureAt_0 ++ dktX4_departureAt_1
theorem dksX4_departureAt_0 : cX4_departureAt.data.toList.drop 0 = dktX4_departureAt_0 := by decide +kernel
theorem dksX4_departureAt_1 : cX4_departureAt.data.toList.drop 23 = dktX4_departureAt_1 := dk_seg dksX4_departureAt_0 23 rfl rfl
theorem dksX4_departureAt_2 : cX4_departureAt.data.toList.drop 47 = dktX4_departureAt_2 := dk_seg dksX4_departureAt_1 24 rfl rfl
theorem dX4_departureAt_0 : decode cX4_departureAt 0 = .ok (.aload_n 0, 1) := dk_42 (dk_at dksX4_departureAt_0 0 rfl rfl)
theorem dX4_departureAt_1 : decode cX4_departureAt 1 = .ok (.aload_n 0, 1) := dk_42 (dk_at dksX4_departureAt_0 1 rfl rfl)
theorem dX4_departureAt_2 : decode cX4_departureAt 2 = .ok (.iload_n 1, 1) := dk_27 (dk_at dksX4_departureAt_0 2 rfl rfl)
theorem dX4_departureAt_3 : decode cX4_departureAt 3 = .ok (.iload_n 2, 1) := dk_28 (dk_at dksX4_departureAt_0 3 rfl rfl)
theorem dX4_departureAt_4 : decode cX4_departureAt 4 = .ok (.invokevirtual 164, 3) := dk_182 0 164 (dk_at dksX4_departureAt_0 4 rfl rfl)
theorem dX4_departureAt_7 : decode cX4_departureAt 7 = .ok (.ifCond .ne 7, 3) := dk_154 0 7 (dk_at dksX4_departureAt_0 7 rfl rfl)
theorem dX4_departureAt_10 : decode cX4_departureAt 10 = .ok (.iconst 1, 1) := dk_4 (dk_at dksX4_departureAt_0 10 rfl rfl)
theorem dX4_departureAt_11 : decode cX4_departureAt 11 = .ok (.goto 20, 3) := dk_167 0 20 (dk_at dksX4_departureAt_0 11 rfl rfl)
theorem dX4_departureAt_14 : decode cX4_departureAt 14 = .ok (.iload_n 2, 1) := dk_28 (dk_at dksX4_departureAt_0 14 rfl rfl)
theorem dX4_departureAt_15 : decode cX4_departureAt 15 = .ok (.aload_n 0, 1) := dk_42 (dk_at dksX4_departureAt_0 15 rfl rfl)
theorem dX4_departureAt_16 : decode cX4_departureAt 16 = .ok (.iload_n 1, 1) := dk_27 (dk_at dksX4_departureAt_0 16 rfl rfl)
theorem dX4_departureAt_17 : decode cX4_departureAt 17 = .ok (.iconst 3, 1) := dk_6 (dk_at dksX4_departureAt_0 17 rfl rfl)
theorem dX4_departureAt_18 : decode cX4_departureAt 18 = .ok (.invokevirtual 76, 3) := dk_182 0 76 (dk_at dksX4_departureAt_0 18 rfl rfl)
theorem dX4_departureAt_21 : decode cX4_departureAt 21 = .ok (.iconst 1, 1) := dk_4 (dk_at dksX4_departureAt_0 21 rfl rfl)
theorem dX4_departureAt_22 : decode cX4_departureAt 22 = .ok (.isub, 1) := dk_100 (dk_at dksX4_departureAt_0 22 rfl rfl)
theorem dX4_departureAt_23 : decode cX4_departureAt 23 = .ok (.if_icmp .ne 7, 3) := dk_160 0 7 (dk_at dksX4_departureAt_1 0 rfl rfl)
theorem dX4_departureAt_26 : decode cX4_departureAt 26 = .ok (.iconst 2, 1) := dk_5 (dk_at dksX4_departureAt_1 3 rfl rfl)
theorem dX4_departureAt_27 : decode cX4_departureAt 27 = .ok (.goto 4, 3) := dk_167 0 4 (dk_at dksX4_departureAt_1 4 rfl rfl)
theorem dX4_departureAt_30 : decode cX4_departureAt 30 = .ok (.iconst 0, 1) := dk_3 (dk_at dksX4_departureAt_1 7 rfl rfl)
theorem dX4_departureAt_31 : decode cX4_departureAt 31 = .ok (.invokevirtual 92, 3) := dk_182 0 92 (dk_at dksX4_departureAt_1 8 rfl rfl)
theorem dX4_departureAt_34 : decode cX4_departureAt 34 = .ok (.ifCond .eq 7, 3) := dk_153 0 7 (dk_at dksX4_departureAt_1 11 rfl rfl)
theorem dX4_departureAt_37 : decode cX4_departureAt 37 = .ok (.iconst 0, 1) := dk_3 (dk_at dksX4_departureAt_1 14 rfl rfl)
theorem dX4_departureAt_38 : decode cX4_departureAt 38 = .ok (.goto 9, 3) := dk_167 0 9 (dk_at dksX4_departureAt_1 15 rfl rfl)
theorem dX4_departureAt_41 : decode cX4_departureAt 41 = .ok (.aload_n 0, 1) := dk_42 (dk_at dksX4_departureAt_1 18 rfl rfl)
theorem dX4_departureAt_42 : decode cX4_departureAt 42 = .ok (.iload_n 1, 1) := dk_27 (dk_at dksX4_departureAt_1 19 rfl rfl)
theorem dX4_departureAt_43 : decode cX4_departureAt 43 = .ok (.iload_n 2, 1) := dk_28 (dk_at dksX4_departureAt_1 20 rfl rfl)
theorem dX4_departureAt_44 : decode cX4_departureAt 44 = .ok (.invokevirtual 80, 3) := dk_182 0 80 (dk_at dksX4_departureAt_1 21 rfl rfl)
theorem dX4_departureAt_47 : decode cX4_departureAt 47 = .ok (.ireturn, 1) := dk_172 (dk_at dksX4_departureAt_2 0 rfl rfl)
abbrev cX4_capacity : ByteArray := prog_20_method_55_code
def yX4_capacity : MethodName := ⟨RX4, "capacity", "(I)I"⟩
def dkwX4_capacity_0 : List UInt8 := [42, 27, 3, 182, 0, 170, 172]
abbrev dktX4_capacity_0 : List UInt8 := dkwX4_capacity_0 ++ []
theorem dksX4_capacity_0 : cX4_capacity.data.toList.drop 0 = dktX4_capacity_0 := by decide +kernel
theorem dX4_capacity_0 : decode cX4_capacity 0 = .ok (.aload_n 0, 1) := dk_42 (dk_at dksX4_capacity_0 0 rfl rfl)
theorem dX4_capacity_1 : decode cX4_capacity 1 = .ok (.iload_n 1, 1) := dk_27 (dk_at dksX4_capacity_0 1 rfl rfl)
theorem dX4_capacity_2 : decode cX4_capacity 2 = .ok (.iconst 0, 1) := dk_3 (dk_at dksX4_capacity_0 2 rfl rfl)
theorem dX4_capacity_3 : decode cX4_capacity 3 = .ok (.invokevirtual 170, 3) := dk_182 0 170 (dk_at dksX4_capacity_0 3 rfl rfl)
theorem dX4_capacity_6 : decode cX4_capacity 6 = .ok (.ireturn, 1) := dk_172 (dk_at dksX4_capacity_0 6 rfl rfl)
abbrev cX4_delayOf : ByteArray := prog_20_method_56_code
def yX4_delayOf : MethodName := ⟨RX4, "delayOf", "(I)I"⟩
def dkwX4_delayOf_0 : List UInt8 := [42, 27, 5, 182, 0, 170, 172]
abbrev dktX4_delayOf_0 : List UInt8 := dkwX4_delayOf_0 ++ []
theorem dksX4_delayOf_0 : cX4_delayOf.data.toList.drop 0 = dktX4_delayOf_0 := by decide +kernel
theorem dX4_delayOf_0 : decode cX4_delayOf 0 = .ok (.aload_n 0, 1) := dk_42 (dk_at dksX4_delayOf_0 0 rfl rfl)
theorem dX4_delayOf_1 : decode cX4_delayOf 1 = .ok (.iload_n 1, 1) := dk_27 (dk_at dksX4_delayOf_0 1 rfl rfl)
theorem dX4_delayOf_2 : decode cX4_delayOf 2 = .ok (.iconst 2, 1) := dk_5 (dk_at dksX4_delayOf_0 2 rfl rfl)
theorem dX4_delayOf_3 : decode cX4_delayOf 3 = .ok (.invokevirtual 170, 3) := dk_182 0 170 (dk_at dksX4_delayOf_0 3 rfl rfl)
theorem dX4_delayOf_6 : decode cX4_delayOf 6 = .ok (.ireturn, 1) := dk_172 (dk_at dksX4_delayOf_0 6 rfl rfl)
abbrev cX4_load : ByteArray := prog_20_method_57_code
def yX4_load : MethodName := ⟨RX4, "load", "(II)I"⟩
def dkwX4_load_1 : List UInt8 := [167, 0, 9, 42, 27, 28, 182, 0, 89, 172]
abbrev dktX4_load_1 : List UInt8 := dkwX4_load_1 ++ []
def dkwX4_load_0 : List UInt8 := [42, 42, 27, 28, 182, 0, 173, 153, 0, 7, 3, 167, 0, 4, 4, 182, 0, 92, 153, 0, 7, 3]
abbrev dktX4_load_0 : List UInt8 := dkwX4_load_0 ++ dktX4_load_1
theorem dksX4_load_0 : cX4_load.data.toList.drop 0 = dktX4_load_0 := by decide +kernel
theorem dksX4_load_1 : cX4_load.data.toList.drop 22 = dktX4_load_1 := dk_seg dksX4_load_0 22 rfl rfl
theorem dX4_load_0 : decode cX4_load 0 = .ok (.aload_n 0, 1) := dk_42 (dk_at dksX4_load_0 0 rfl rfl)
theorem dX4_load_1 : decode cX4_load 1 = .ok (.aload_n 0, 1) := dk_42 (dk_at dksX4_load_0 1 rfl rfl)
theorem dX4_load_2 : decode cX4_load 2 = .ok (.iload_n 1, 1) := dk_27 (dk_at dksX4_load_0 2 rfl rfl)
theorem dX4_load_3 : decode cX4_load 3 = .ok (.iload_n 2, 1) := dk_28 (dk_at dksX4_load_0 3 rfl rfl)
theorem dX4_load_4 : decode cX4_load 4 = .ok (.invokevirtual 173, 3) := dk_182 0 173 (dk_at dksX4_load_0 4 rfl rfl)
theorem dX4_load_7 : decode cX4_load 7 = .ok (.ifCond .eq 7, 3) := dk_153 0 7 (dk_at dksX4_load_0 7 rfl rfl)
theorem dX4_load_10 : decode cX4_load 10 = .ok (.iconst 0, 1) := dk_3 (dk_at dksX4_load_0 10 rfl rfl)
theorem dX4_load_11 : decode cX4_load 11 = .ok (.goto 4, 3) := dk_167 0 4 (dk_at dksX4_load_0 11 rfl rfl)
theorem dX4_load_14 : decode cX4_load 14 = .ok (.iconst 1, 1) := dk_4 (dk_at dksX4_load_0 14 rfl rfl)
theorem dX4_load_15 : decode cX4_load 15 = .ok (.invokevirtual 92, 3) := dk_182 0 92 (dk_at dksX4_load_0 15 rfl rfl)
theorem dX4_load_18 : decode cX4_load 18 = .ok (.ifCond .eq 7, 3) := dk_153 0 7 (dk_at dksX4_load_0 18 rfl rfl)
theorem dX4_load_21 : decode cX4_load 21 = .ok (.iconst 0, 1) := dk_3 (dk_at dksX4_load_0 21 rfl rfl)
theorem dX4_load_22 : decode cX4_load 22 = .ok (.goto 9, 3) := dk_167 0 9 (dk_at dksX4_load_1 0 rfl rfl)
theorem dX4_load_25 : decode cX4_load 25 = .ok (.aload_n 0, 1) := dk_42 (dk_at dksX4_load_1 3 rfl rfl)
theorem dX4_load_26 : decode cX4_load 26 = .ok (.iload_n 1, 1) := dk_27 (dk_at dksX4_load_1 4 rfl rfl)
theorem dX4_load_27 : decode cX4_load 27 = .ok (.iload_n 2, 1) := dk_28 (dk_at dksX4_load_1 5 rfl rfl)
theorem dX4_load_28 : decode cX4_load 28 = .ok (.invokevirtual 89, 3) := dk_182 0 89 (dk_at dksX4_load_1 6 rfl rfl)
theorem dX4_load_31 : decode cX4_load 31 = .ok (.ireturn, 1) := dk_172 (dk_at dksX4_load_1 9 rfl rfl)
abbrev cX4_isLeg : ByteArray := prog_20_method_11_code
def yX4_isLeg : MethodName := ⟨RX4, "isLeg", "(II)Z"⟩
def dkwX4_isLeg_1 : List UInt8 := [4, 167, 0, 4, 3, 172]
abbrev dktX4_isLeg_1 : List UInt8 := dkwX4_isLeg_1 ++ []
def dkwX4_isLeg_0 : List UInt8 := [42, 27, 182, 0, 72, 153, 0, 23, 28, 3, 42, 27, 6, 182, 0, 76, 5, 100, 184, 0, 68, 153, 0, 7]
abbrev dktX4_isLeg_0 : List UInt8 := dkwX4_isLeg_0 ++ dktX4_isLeg_1
theorem dksX4_isLeg_0 : cX4_isLeg.data.toList.drop 0 = dktX4_isLeg_0 := by decide +kernel
theorem dksX4_isLeg_1 : cX4_isLeg.data.toList.drop 24 = dktX4_isLeg_1 := dk_seg dksX4_isLeg_0 24 rfl rfl
theorem dX4_isLeg_0 : decode cX4_isLeg 0 = .ok (.aload_n 0, 1) := dk_42 (dk_at dksX4_isLeg_0 0 rfl rfl)
theorem dX4_isLeg_1 : decode cX4_isLeg 1 = .ok (.iload_n 1, 1) := dk_27 (dk_at dksX4_isLeg_0 1 rfl rfl)
theorem dX4_isLeg_2 : decode cX4_isLeg 2 = .ok (.invokevirtual 72, 3) := dk_182 0 72 (dk_at dksX4_isLeg_0 2 rfl rfl)
theorem dX4_isLeg_5 : decode cX4_isLeg 5 = .ok (.ifCond .eq 23, 3) := dk_153 0 23 (dk_at dksX4_isLeg_0 5 rfl rfl)
theorem dX4_isLeg_8 : decode cX4_isLeg 8 = .ok (.iload_n 2, 1) := dk_28 (dk_at dksX4_isLeg_0 8 rfl rfl)
theorem dX4_isLeg_9 : decode cX4_isLeg 9 = .ok (.iconst 0, 1) := dk_3 (dk_at dksX4_isLeg_0 9 rfl rfl)
theorem dX4_isLeg_10 : decode cX4_isLeg 10 = .ok (.aload_n 0, 1) := dk_42 (dk_at dksX4_isLeg_0 10 rfl rfl)
theorem dX4_isLeg_11 : decode cX4_isLeg 11 = .ok (.iload_n 1, 1) := dk_27 (dk_at dksX4_isLeg_0 11 rfl rfl)
theorem dX4_isLeg_12 : decode cX4_isLeg 12 = .ok (.iconst 3, 1) := dk_6 (dk_at dksX4_isLeg_0 12 rfl rfl)
theorem dX4_isLeg_13 : decode cX4_isLeg 13 = .ok (.invokevirtual 76, 3) := dk_182 0 76 (dk_at dksX4_isLeg_0 13 rfl rfl)
theorem dX4_isLeg_16 : decode cX4_isLeg 16 = .ok (.iconst 2, 1) := dk_5 (dk_at dksX4_isLeg_0 16 rfl rfl)
theorem dX4_isLeg_17 : decode cX4_isLeg 17 = .ok (.isub, 1) := dk_100 (dk_at dksX4_isLeg_0 17 rfl rfl)
theorem dX4_isLeg_18 : decode cX4_isLeg 18 = .ok (.invokestatic 68, 3) := dk_184 0 68 (dk_at dksX4_isLeg_0 18 rfl rfl)
theorem dX4_isLeg_21 : decode cX4_isLeg 21 = .ok (.ifCond .eq 7, 3) := dk_153 0 7 (dk_at dksX4_isLeg_0 21 rfl rfl)
theorem dX4_isLeg_24 : decode cX4_isLeg 24 = .ok (.iconst 1, 1) := dk_4 (dk_at dksX4_isLeg_1 0 rfl rfl)
theorem dX4_isLeg_25 : decode cX4_isLeg 25 = .ok (.goto 4, 3) := dk_167 0 4 (dk_at dksX4_isLeg_1 1 rfl rfl)
theorem dX4_isLeg_28 : decode cX4_isLeg 28 = .ok (.iconst 0, 1) := dk_3 (dk_at dksX4_isLeg_1 4 rfl rfl)
theorem dX4_isLeg_29 : decode cX4_isLeg 29 = .ok (.ireturn, 1) := dk_172 (dk_at dksX4_isLeg_1 5 rfl rfl)
abbrev cX4_isFull : ByteArray := prog_20_method_58_code
def yX4_isFull : MethodName := ⟨RX4, "isFull", "(II)Z"⟩
def dkwX4_isFull_1 : List UInt8 := [182, 0, 116, 153, 0, 7, 4, 167, 0, 4, 3, 172]
abbrev dktX4_isFull_1 : List UInt8 := dkwX4_isFull_1 ++ []
def dkwX4_isFull_0 : List UInt8 := [42, 42, 27, 28, 182, 0, 173, 153, 0, 7, 3, 167, 0, 4, 4, 182, 0, 92, 154, 0, 16, 42, 27, 28]
abbrev dktX4_isFull_0 : List UInt8 := dkwX4_isFull_0 ++ dktX4_isFull_1
theorem dksX4_isFull_0 : cX4_isFull.data.toList.drop 0 = dktX4_isFull_0 := by decide +kernel
theorem dksX4_isFull_1 : cX4_isFull.data.toList.drop 24 = dktX4_isFull_1 := dk_seg dksX4_isFull_0 24 rfl rfl
theorem dX4_isFull_0 : decode cX4_isFull 0 = .ok (.aload_n 0, 1) := dk_42 (dk_at dksX4_isFull_0 0 rfl rfl)
theorem dX4_isFull_1 : decode cX4_isFull 1 = .ok (.aload_n 0, 1) := dk_42 (dk_at dksX4_isFull_0 1 rfl rfl)
theorem dX4_isFull_2 : decode cX4_isFull 2 = .ok (.iload_n 1, 1) := dk_27 (dk_at dksX4_isFull_0 2 rfl rfl)
theorem dX4_isFull_3 : decode cX4_isFull 3 = .ok (.iload_n 2, 1) := dk_28 (dk_at dksX4_isFull_0 3 rfl rfl)
theorem dX4_isFull_4 : decode cX4_isFull 4 = .ok (.invokevirtual 173, 3) := dk_182 0 173 (dk_at dksX4_isFull_0 4 rfl rfl)
theorem dX4_isFull_7 : decode cX4_isFull 7 = .ok (.ifCond .eq 7, 3) := dk_153 0 7 (dk_at dksX4_isFull_0 7 rfl rfl)
theorem dX4_isFull_10 : decode cX4_isFull 10 = .ok (.iconst 0, 1) := dk_3 (dk_at dksX4_isFull_0 10 rfl rfl)
theorem dX4_isFull_11 : decode cX4_isFull 11 = .ok (.goto 4, 3) := dk_167 0 4 (dk_at dksX4_isFull_0 11 rfl rfl)
theorem dX4_isFull_14 : decode cX4_isFull 14 = .ok (.iconst 1, 1) := dk_4 (dk_at dksX4_isFull_0 14 rfl rfl)
theorem dX4_isFull_15 : decode cX4_isFull 15 = .ok (.invokevirtual 92, 3) := dk_182 0 92 (dk_at dksX4_isFull_0 15 rfl rfl)
theorem dX4_isFull_18 : decode cX4_isFull 18 = .ok (.ifCond .ne 16, 3) := dk_154 0 16 (dk_at dksX4_isFull_0 18 rfl rfl)
theorem dX4_isFull_21 : decode cX4_isFull 21 = .ok (.aload_n 0, 1) := dk_42 (dk_at dksX4_isFull_0 21 rfl rfl)
theorem dX4_isFull_22 : decode cX4_isFull 22 = .ok (.iload_n 1, 1) := dk_27 (dk_at dksX4_isFull_0 22 rfl rfl)
theorem dX4_isFull_23 : decode cX4_isFull 23 = .ok (.iload_n 2, 1) := dk_28 (dk_at dksX4_isFull_0 23 rfl rfl)
theorem dX4_isFull_24 : decode cX4_isFull 24 = .ok (.invokevirtual 116, 3) := dk_182 0 116 (dk_at dksX4_isFull_1 0 rfl rfl)
theorem dX4_isFull_27 : decode cX4_isFull 27 = .ok (.ifCond .eq 7, 3) := dk_153 0 7 (dk_at dksX4_isFull_1 3 rfl rfl)
theorem dX4_isFull_30 : decode cX4_isFull 30 = .ok (.iconst 1, 1) := dk_4 (dk_at dksX4_isFull_1 6 rfl rfl)
theorem dX4_isFull_31 : decode cX4_isFull 31 = .ok (.goto 4, 3) := dk_167 0 4 (dk_at dksX4_isFull_1 7 rfl rfl)
theorem dX4_isFull_34 : decode cX4_isFull 34 = .ok (.iconst 0, 1) := dk_3 (dk_at dksX4_isFull_1 10 rfl rfl)
theorem dX4_isFull_35 : decode cX4_isFull 35 = .ok (.ireturn, 1) := dk_172 (dk_at dksX4_isFull_1 11 rfl rfl)
abbrev cX4_suitcaseCount : ByteArray := prog_20_method_59_code
def yX4_suitcaseCount : MethodName := ⟨RX4, "suitcaseCount", "()I"⟩
def dkwX4_suitcaseCount_0 : List UInt8 := [42, 3, 181, 0, 54, 42, 180, 0, 7, 5, 46, 172]
abbrev dktX4_suitcaseCount_0 : List UInt8 := dkwX4_suitcaseCount_0 ++ []
theorem dksX4_suitcaseCount_0 : cX4_suitcaseCount.data.toList.drop 0 = dktX4_suitcaseCount_0 := by decide +kernel
theorem dX4_suitcaseCount_0 : decode cX4_suitcaseCount 0 = .ok (.aload_n 0, 1) := dk_42 (dk_at dksX4_suitcaseCount_0 0 rfl rfl)
theorem dX4_suitcaseCount_1 : decode cX4_suitcaseCount 1 = .ok (.iconst 0, 1) := dk_3 (dk_at dksX4_suitcaseCount_0 1 rfl rfl)
theorem dX4_suitcaseCount_2 : decode cX4_suitcaseCount 2 = .ok (.putfield 54, 3) := dk_181 0 54 (dk_at dksX4_suitcaseCount_0 2 rfl rfl)
theorem dX4_suitcaseCount_5 : decode cX4_suitcaseCount 5 = .ok (.aload_n 0, 1) := dk_42 (dk_at dksX4_suitcaseCount_0 5 rfl rfl)
theorem dX4_suitcaseCount_6 : decode cX4_suitcaseCount 6 = .ok (.getfield 7, 3) := dk_180 0 7 (dk_at dksX4_suitcaseCount_0 6 rfl rfl)
theorem dX4_suitcaseCount_9 : decode cX4_suitcaseCount 9 = .ok (.iconst 2, 1) := dk_5 (dk_at dksX4_suitcaseCount_0 9 rfl rfl)
theorem dX4_suitcaseCount_10 : decode cX4_suitcaseCount 10 = .ok (.iaload, 1) := dk_46 (dk_at dksX4_suitcaseCount_0 10 rfl rfl)
theorem dX4_suitcaseCount_11 : decode cX4_suitcaseCount 11 = .ok (.ireturn, 1) := dk_172 (dk_at dksX4_suitcaseCount_0 11 rfl rfl)
abbrev cX4_suitcaseAt : ByteArray := prog_20_method_60_code
def yX4_suitcaseAt : MethodName := ⟨RX4, "suitcaseAt", "(I)I"⟩
def dkwX4_suitcaseAt_1 : List UInt8 := [182, 0, 92, 153, 0, 7, 3, 167, 0, 9, 42, 27, 3, 182, 0, 141, 172]
abbrev dktX4_suitcaseAt_1 : List UInt8 := dkwX4_suitcaseAt_1 ++ []
def dkwX4_suitcaseAt_0 : List UInt8 := [42, 27, 3, 42, 180, 0, 7, 5, 46, 4, 100, 184, 0, 68, 153, 0, 7, 3, 167, 0, 4, 4]
abbrev dktX4_suitcaseAt_0 : List UInt8 := dkwX4_suitcaseAt_0 ++ dktX4_suitcaseAt_1
theorem dksX4_suitcaseAt_0 : cX4_suitcaseAt.data.toList.drop 0 = dktX4_suitcaseAt_0 := by decide +kernel
theorem dksX4_suitcaseAt_1 : cX4_suitcaseAt.data.toList.drop 22 = dktX4_suitcaseAt_1 := dk_seg dksX4_suitcaseAt_0 22 rfl rfl
theorem dX4_suitcaseAt_0 : decode cX4_suitcaseAt 0 = .ok (.aload_n 0, 1) := dk_42 (dk_at dksX4_suitcaseAt_0 0 rfl rfl)
theorem dX4_suitcaseAt_1 : decode cX4_suitcaseAt 1 = .ok (.iload_n 1, 1) := dk_27 (dk_at dksX4_suitcaseAt_0 1 rfl rfl)
theorem dX4_suitcaseAt_2 : decode cX4_suitcaseAt 2 = .ok (.iconst 0, 1) := dk_3 (dk_at dksX4_suitcaseAt_0 2 rfl rfl)
theorem dX4_suitcaseAt_3 : decode cX4_suitcaseAt 3 = .ok (.aload_n 0, 1) := dk_42 (dk_at dksX4_suitcaseAt_0 3 rfl rfl)
theorem dX4_suitcaseAt_4 : decode cX4_suitcaseAt 4 = .ok (.getfield 7, 3) := dk_180 0 7 (dk_at dksX4_suitcaseAt_0 4 rfl rfl)
theorem dX4_suitcaseAt_7 : decode cX4_suitcaseAt 7 = .ok (.iconst 2, 1) := dk_5 (dk_at dksX4_suitcaseAt_0 7 rfl rfl)
theorem dX4_suitcaseAt_8 : decode cX4_suitcaseAt 8 = .ok (.iaload, 1) := dk_46 (dk_at dksX4_suitcaseAt_0 8 rfl rfl)
theorem dX4_suitcaseAt_9 : decode cX4_suitcaseAt 9 = .ok (.iconst 1, 1) := dk_4 (dk_at dksX4_suitcaseAt_0 9 rfl rfl)
theorem dX4_suitcaseAt_10 : decode cX4_suitcaseAt 10 = .ok (.isub, 1) := dk_100 (dk_at dksX4_suitcaseAt_0 10 rfl rfl)
theorem dX4_suitcaseAt_11 : decode cX4_suitcaseAt 11 = .ok (.invokestatic 68, 3) := dk_184 0 68 (dk_at dksX4_suitcaseAt_0 11 rfl rfl)
theorem dX4_suitcaseAt_14 : decode cX4_suitcaseAt 14 = .ok (.ifCond .eq 7, 3) := dk_153 0 7 (dk_at dksX4_suitcaseAt_0 14 rfl rfl)
theorem dX4_suitcaseAt_17 : decode cX4_suitcaseAt 17 = .ok (.iconst 0, 1) := dk_3 (dk_at dksX4_suitcaseAt_0 17 rfl rfl)
theorem dX4_suitcaseAt_18 : decode cX4_suitcaseAt 18 = .ok (.goto 4, 3) := dk_167 0 4 (dk_at dksX4_suitcaseAt_0 18 rfl rfl)
theorem dX4_suitcaseAt_21 : decode cX4_suitcaseAt 21 = .ok (.iconst 1, 1) := dk_4 (dk_at dksX4_suitcaseAt_0 21 rfl rfl)
theorem dX4_suitcaseAt_22 : decode cX4_suitcaseAt 22 = .ok (.invokevirtual 92, 3) := dk_182 0 92 (dk_at dksX4_suitcaseAt_1 0 rfl rfl)
theorem dX4_suitcaseAt_25 : decode cX4_suitcaseAt 25 = .ok (.ifCond .eq 7, 3) := dk_153 0 7 (dk_at dksX4_suitcaseAt_1 3 rfl rfl)
theorem dX4_suitcaseAt_28 : decode cX4_suitcaseAt 28 = .ok (.iconst 0, 1) := dk_3 (dk_at dksX4_suitcaseAt_1 6 rfl rfl)
theorem dX4_suitcaseAt_29 : decode cX4_suitcaseAt 29 = .ok (.goto 9, 3) := dk_167 0 9 (dk_at dksX4_suitcaseAt_1 7 rfl rfl)
theorem dX4_suitcaseAt_32 : decode cX4_suitcaseAt 32 = .ok (.aload_n 0, 1) := dk_42 (dk_at dksX4_suitcaseAt_1 10 rfl rfl)
theorem dX4_suitcaseAt_33 : decode cX4_suitcaseAt 33 = .ok (.iload_n 1, 1) := dk_27 (dk_at dksX4_suitcaseAt_1 11 rfl rfl)
theorem dX4_suitcaseAt_34 : decode cX4_suitcaseAt 34 = .ok (.iconst 0, 1) := dk_3 (dk_at dksX4_suitcaseAt_1 12 rfl rfl)
theorem dX4_suitcaseAt_35 : decode cX4_suitcaseAt 35 = .ok (.invokevirtual 141, 3) := dk_182 0 141 (dk_at dksX4_suitcaseAt_1 13 rfl rfl)
theorem dX4_suitcaseAt_38 : decode cX4_suitcaseAt 38 = .ok (.ireturn, 1) := dk_172 (dk_at dksX4_suitcaseAt_1 16 rfl rfl)
abbrev cX4_stationOf : ByteArray := prog_20_method_62_code
def yX4_stationOf : MethodName := ⟨RX4, "stationOf", "(I)I"⟩
def dkwX4_stationOf_0 : List UInt8 := [42, 27, 4, 182, 0, 176, 172]
abbrev dktX4_stationOf_0 : List UInt8 := dkwX4_stationOf_0 ++ []
theorem dksX4_stationOf_0 : cX4_stationOf.data.toList.drop 0 = dktX4_stationOf_0 := by decide +kernel
theorem dX4_stationOf_0 : decode cX4_stationOf 0 = .ok (.aload_n 0, 1) := dk_42 (dk_at dksX4_stationOf_0 0 rfl rfl)
theorem dX4_stationOf_1 : decode cX4_stationOf 1 = .ok (.iload_n 1, 1) := dk_27 (dk_at dksX4_stationOf_0 1 rfl rfl)
theorem dX4_stationOf_2 : decode cX4_stationOf 2 = .ok (.iconst 1, 1) := dk_4 (dk_at dksX4_stationOf_0 2 rfl rfl)
theorem dX4_stationOf_3 : decode cX4_stationOf 3 = .ok (.invokevirtual 176, 3) := dk_182 0 176 (dk_at dksX4_stationOf_0 3 rfl rfl)
theorem dX4_stationOf_6 : decode cX4_stationOf 6 = .ok (.ireturn, 1) := dk_172 (dk_at dksX4_stationOf_0 6 rfl rfl)
abbrev cX4_ofCase : ByteArray := prog_20_method_61_code
def yX4_ofCase : MethodName := ⟨RX4, "ofCase", "(II)I"⟩
def dkwX4_ofCase_0 : List UInt8 := [42, 27, 182, 0, 148, 153, 0, 7, 3, 167, 0, 13, 42, 42, 27, 182, 0, 144, 28, 182, 0, 141, 172]
abbrev dktX4_ofCase_0 : List UInt8 := dkwX4_ofCase_0 ++ []
theorem dksX4_ofCase_0 : cX4_ofCase.data.toList.drop 0 = dktX4_ofCase_0 := by decide +kernel
theorem dX4_ofCase_0 : decode cX4_ofCase 0 = .ok (.aload_n 0, 1) := dk_42 (dk_at dksX4_ofCase_0 0 rfl rfl)
theorem dX4_ofCase_1 : decode cX4_ofCase 1 = .ok (.iload_n 1, 1) := dk_27 (dk_at dksX4_ofCase_0 1 rfl rfl)
theorem dX4_ofCase_2 : decode cX4_ofCase 2 = .ok (.invokevirtual 148, 3) := dk_182 0 148 (dk_at dksX4_ofCase_0 2 rfl rfl)
theorem dX4_ofCase_5 : decode cX4_ofCase 5 = .ok (.ifCond .eq 7, 3) := dk_153 0 7 (dk_at dksX4_ofCase_0 5 rfl rfl)
theorem dX4_ofCase_8 : decode cX4_ofCase 8 = .ok (.iconst 0, 1) := dk_3 (dk_at dksX4_ofCase_0 8 rfl rfl)
theorem dX4_ofCase_9 : decode cX4_ofCase 9 = .ok (.goto 13, 3) := dk_167 0 13 (dk_at dksX4_ofCase_0 9 rfl rfl)
theorem dX4_ofCase_12 : decode cX4_ofCase 12 = .ok (.aload_n 0, 1) := dk_42 (dk_at dksX4_ofCase_0 12 rfl rfl)
theorem dX4_ofCase_13 : decode cX4_ofCase 13 = .ok (.aload_n 0, 1) := dk_42 (dk_at dksX4_ofCase_0 13 rfl rfl)
theorem dX4_ofCase_14 : decode cX4_ofCase 14 = .ok (.iload_n 1, 1) := dk_27 (dk_at dksX4_ofCase_0 14 rfl rfl)
theorem dX4_ofCase_15 : decode cX4_ofCase 15 = .ok (.invokevirtual 144, 3) := dk_182 0 144 (dk_at dksX4_ofCase_0 15 rfl rfl)
theorem dX4_ofCase_18 : decode cX4_ofCase 18 = .ok (.iload_n 2, 1) := dk_28 (dk_at dksX4_ofCase_0 18 rfl rfl)
theorem dX4_ofCase_19 : decode cX4_ofCase 19 = .ok (.invokevirtual 141, 3) := dk_182 0 141 (dk_at dksX4_ofCase_0 19 rfl rfl)
theorem dX4_ofCase_22 : decode cX4_ofCase 22 = .ok (.ireturn, 1) := dk_172 (dk_at dksX4_ofCase_0 22 rfl rfl)
abbrev cX4_destinationOf : ByteArray := prog_20_method_63_code
def yX4_destinationOf : MethodName := ⟨RX4, "destinationOf", "(I)I"⟩
def dkwX4_destinationOf_0 : List UInt8 := [42, 27, 5, 182, 0, 176, 172]
abbrev dktX4_destinationOf_0 : List UInt8 := dkwX4_destinationOf_0 ++ []
theorem dksX4_destinationOf_0 : cX4_destinationOf.data.toList.drop 0 = dktX4_destinationOf_0 := by decide +kernel
theorem dX4_destinationOf_0 : decode cX4_destinationOf 0 = .ok (.aload_n 0, 1) := dk_42 (dk_at dksX4_destinationOf_0 0 rfl rfl)
theorem dX4_destinationOf_1 : decode cX4_destinationOf 1 = .ok (.iload_n 1, 1) := dk_27 (dk_at dksX4_destinationOf_0 1 rfl rfl)
theorem dX4_destinationOf_2 : decode cX4_destinationOf 2 = .ok (.iconst 2, 1) := dk_5 (dk_at dksX4_destinationOf_0 2 rfl rfl)
theorem dX4_destinationOf_3 : decode cX4_destinationOf 3 = .ok (.invokevirtual 176, 3) := dk_182 0 176 (dk_at dksX4_destinationOf_0 3 rfl rfl)
theorem dX4_destinationOf_6 : decode cX4_destinationOf 6 = .ok (.ireturn, 1) := dk_172 (dk_at dksX4_destinationOf_0 6 rfl rfl)
abbrev cX4_readyAt : ByteArray := prog_20_method_64_code
def yX4_readyAt : MethodName := ⟨RX4, "readyAt", "(I)I"⟩
def dkwX4_readyAt_0 : List UInt8 := [42, 27, 6, 182, 0, 176, 172]
abbrev dktX4_readyAt_0 : List UInt8 := dkwX4_readyAt_0 ++ []
theorem dksX4_readyAt_0 : cX4_readyAt.data.toList.drop 0 = dktX4_readyAt_0 := by decide +kernel
theorem dX4_readyAt_0 : decode cX4_readyAt 0 = .ok (.aload_n 0, 1) := dk_42 (dk_at dksX4_readyAt_0 0 rfl rfl)
theorem dX4_readyAt_1 : decode cX4_readyAt 1 = .ok (.iload_n 1, 1) := dk_27 (dk_at dksX4_readyAt_0 1 rfl rfl)
theorem dX4_readyAt_2 : decode cX4_readyAt 2 = .ok (.iconst 3, 1) := dk_6 (dk_at dksX4_readyAt_0 2 rfl rfl)
theorem dX4_readyAt_3 : decode cX4_readyAt 3 = .ok (.invokevirtual 176, 3) := dk_182 0 176 (dk_at dksX4_readyAt_0 3 rfl rfl)
theorem dX4_readyAt_6 : decode cX4_readyAt 6 = .ok (.ireturn, 1) := dk_172 (dk_at dksX4_readyAt_0 6 rfl rfl)
abbrev cX4_isThere : ByteArray := prog_20_method_65_code
def yX4_isThere : MethodName := ⟨RX4, "isThere", "(I)Z"⟩
def dkwX4_isThere_1 : List UInt8 := [5, 182, 0, 141, 160, 0, 7, 4, 167, 0, 4, 3, 172]
abbrev dktX4_isThere_1 : List UInt8 := dkwX4_isThere_1 ++ []
def dkwX4_isThere_0 : List UInt8 := [42, 27, 182, 0, 148, 154, 0, 30, 42, 42, 27, 182, 0, 144, 4, 182, 0, 141, 42, 42, 27, 182, 0, 144]
abbrev dktX4_isThere_0 : List UInt8 := dkwX4_isThere_0 ++ dktX4_isThere_1
theorem dksX4_isThere_0 : cX4_isThere.data.toList.drop 0 = dktX4_isThere_0 := by decide +kernel
theorem dksX4_isThere_1 : cX4_isThere.data.toList.drop 24 = dktX4_isThere_1 := dk_seg dksX4_isThere_0 24 rfl rfl
theorem dX4_isThere_0 : decode cX4_isThere 0 = .ok (.aload_n 0, 1) := dk_42 (dk_at dksX4_isThere_0 0 rfl rfl)
theorem dX4_isThere_1 : decode cX4_isThere 1 = .ok (.iload_n 1, 1) := dk_27 (dk_at dksX4_isThere_0 1 rfl rfl)
theorem dX4_isThere_2 : decode cX4_isThere 2 = .ok (.invokevirtual 148, 3) := dk_182 0 148 (dk_at dksX4_isThere_0 2 rfl rfl)
theorem dX4_isThere_5 : decode cX4_isThere 5 = .ok (.ifCond .ne 30, 3) := dk_154 0 30 (dk_at dksX4_isThere_0 5 rfl rfl)
theorem dX4_isThere_8 : decode cX4_isThere 8 = .ok (.aload_n 0, 1) := dk_42 (dk_at dksX4_isThere_0 8 rfl rfl)
theorem dX4_isThere_9 : decode cX4_isThere 9 = .ok (.aload_n 0, 1) := dk_42 (dk_at dksX4_isThere_0 9 rfl rfl)
theorem dX4_isThere_10 : decode cX4_isThere 10 = .ok (.iload_n 1, 1) := dk_27 (dk_at dksX4_isThere_0 10 rfl rfl)
theorem dX4_isThere_11 : decode cX4_isThere 11 = .ok (.invokevirtual 144, 3) := dk_182 0 144 (dk_at dksX4_isThere_0 11 rfl rfl)
theorem dX4_isThere_14 : decode cX4_isThere 14 = .ok (.iconst 1, 1) := dk_4 (dk_at dksX4_isThere_0 14 rfl rfl)
theorem dX4_isThere_15 : decode cX4_isThere 15 = .ok (.invokevirtual 141, 3) := dk_182 0 141 (dk_at dksX4_isThere_0 15 rfl rfl)
theorem dX4_isThere_18 : decode cX4_isThere 18 = .ok (.aload_n 0, 1) := dk_42 (dk_at dksX4_isThere_0 18 rfl rfl)
theorem dX4_isThere_19 : decode cX4_isThere 19 = .ok (.aload_n 0, 1) := dk_42 (dk_at dksX4_isThere_0 19 rfl rfl)
theorem dX4_isThere_20 : decode cX4_isThere 20 = .ok (.iload_n 1, 1) := dk_27 (dk_at dksX4_isThere_0 20 rfl rfl)
theorem dX4_isThere_21 : decode cX4_isThere 21 = .ok (.invokevirtual 144, 3) := dk_182 0 144 (dk_at dksX4_isThere_0 21 rfl rfl)
theorem dX4_isThere_24 : decode cX4_isThere 24 = .ok (.iconst 2, 1) := dk_5 (dk_at dksX4_isThere_1 0 rfl rfl)
theorem dX4_isThere_25 : decode cX4_isThere 25 = .ok (.invokevirtual 141, 3) := dk_182 0 141 (dk_at dksX4_isThere_1 1 rfl rfl)
theorem dX4_isThere_28 : decode cX4_isThere 28 = .ok (.if_icmp .ne 7, 3) := dk_160 0 7 (dk_at dksX4_isThere_1 4 rfl rfl)
theorem dX4_isThere_31 : decode cX4_isThere 31 = .ok (.iconst 1, 1) := dk_4 (dk_at dksX4_isThere_1 7 rfl rfl)
theorem dX4_isThere_32 : decode cX4_isThere 32 = .ok (.goto 4, 3) := dk_167 0 4 (dk_at dksX4_isThere_1 8 rfl rfl)
theorem dX4_isThere_35 : decode cX4_isThere 35 = .ok (.iconst 0, 1) := dk_3 (dk_at dksX4_isThere_1 11 rfl rfl)
theorem dX4_isThere_36 : decode cX4_isThere 36 = .ok (.ireturn, 1) := dk_172 (dk_at dksX4_isThere_1 12 rfl rfl)
abbrev cX4_suitcaseByReady : ByteArray := prog_20_method_66_code
def yX4_suitcaseByReady : MethodName := ⟨RX4, "suitcaseByReady", "(I)I"⟩
def dkwX4_suitcaseByReady_4 : List UInt8 := [182, 0, 141, 172, 132, 2, 1, 167, 255, 155, 42, 4, 181, 0, 54, 3, 172]
abbrev dktX4_suitcaseByReady_4 : List UInt8 := dkwX4_suitcaseByReady_4 ++ []
def dkwX4_suitcaseByReady_3 : List UInt8 := [96, 62, 132, 4, 1, 167, 255, 196, 29, 27, 159, 0, 6, 167, 0, 15, 42, 3, 181, 0, 54, 42, 28, 3]
abbrev dktX4_suitcaseByReady_3 : List UInt8 := dkwX4_suitcaseByReady_3 ++ dktX4_suitcaseByReady_4
def dkwX4_suitcaseByReady_2 : List UInt8 := [6, 182, 0, 141, 42, 28, 6, 182, 0, 141, 160, 0, 13, 21, 4, 28, 162, 0, 7, 4, 167, 0, 4, 3]
abbrev dktX4_suitcaseByReady_2 : List UInt8 := dkwX4_suitcaseByReady_2 ++ dktX4_suitcaseByReady_3
def dkwX4_suitcaseByReady_1 : List UInt8 := [46, 162, 0, 55, 29, 42, 21, 4, 6, 182, 0, 141, 42, 28, 6, 182, 0, 141, 161, 0, 25, 42, 21, 4]
abbrev dktX4_suitcaseByReady_1 : List UInt8 := dkwX4_suitcaseByReady_1 ++ dktX4_suitcaseByReady_2
def dkwX4_suitcaseByReady_0 : List UInt8 := [3, 61, 28, 42, 180, 0, 7, 5, 46, 162, 0, 97, 3, 62, 3, 54, 4, 21, 4, 42, 180, 0, 7, 5]
abbrev dktX4_suitcaseByReady_0 : List UInt8 := dkwX4_suitcaseByReady_0 ++ dktX4_suitcaseByReady_1
theorem dksX4_suitcaseByReady_0 : cX4_suitcaseByReady.data.toList.drop 0 = dktX4_suitcaseByReady_0 := by decide +kernel
theorem dksX4_suitcaseByReady_1 : cX4_suitcaseByReady.data.toList.drop 24 = dktX4_suitcaseByReady_1 := dk_seg dksX4_suitcaseByReady_0 24 rfl rfl
theorem dksX4_suitcaseByReady_2 : cX4_suitcaseByReady.data.toList.drop 48 = dktX4_suitcaseByReady_2 := dk_seg dksX4_suitcaseByReady_1 24 rfl rfl
theorem dksX4_suitcaseByReady_3 : cX4_suitcaseByReady.data.toList.drop 72 = dktX4_suitcaseByReady_3 := dk_seg dksX4_suitcaseByReady_2 24 rfl rfl
theorem dksX4_suitcaseByReady_4 : cX4_suitcaseByReady.data.toList.drop 96 = dktX4_suitcaseByReady_4 := dk_seg dksX4_suitcaseByReady_3 24 rfl rfl
theorem dX4_suitcaseByReady_0 : decode cX4_suitcaseByReady 0 = .ok (.iconst 0, 1) := dk_3 (dk_at dksX4_suitcaseByReady_0 0 rfl rfl)
theorem dX4_suitcaseByReady_1 : decode cX4_suitcaseByReady 1 = .ok (.istore_n 2, 1) := dk_61 (dk_at dksX4_suitcaseByReady_0 1 rfl rfl)
theorem dX4_suitcaseByReady_2 : decode cX4_suitcaseByReady 2 = .ok (.iload_n 2, 1) := dk_28 (dk_at dksX4_suitcaseByReady_0 2 rfl rfl)
theorem dX4_suitcaseByReady_3 : decode cX4_suitcaseByReady 3 = .ok (.aload_n 0, 1) := dk_42 (dk_at dksX4_suitcaseByReady_0 3 rfl rfl)
theorem dX4_suitcaseByReady_4 : decode cX4_suitcaseByReady 4 = .ok (.getfield 7, 3) := dk_180 0 7 (dk_at dksX4_suitcaseByReady_0 4 rfl rfl)
theorem dX4_suitcaseByReady_7 : decode cX4_suitcaseByReady 7 = .ok (.iconst 2, 1) := dk_5 (dk_at dksX4_suitcaseByReady_0 7 rfl rfl)
theorem dX4_suitcaseByReady_8 : decode cX4_suitcaseByReady 8 = .ok (.iaload, 1) := dk_46 (dk_at dksX4_suitcaseByReady_0 8 rfl rfl)
theorem dX4_suitcaseByReady_9 : decode cX4_suitcaseByReady 9 = .ok (.if_icmp .ge 97, 3) := dk_162 0 97 (dk_at dksX4_suitcaseByReady_0 9 rfl rfl)
theorem dX4_suitcaseByReady_12 : decode cX4_suitcaseByReady 12 = .ok (.iconst 0, 1) := dk_3 (dk_at dksX4_suitcaseByReady_0 12 rfl rfl)
theorem dX4_suitcaseByReady_13 : decode cX4_suitcaseByReady 13 = .ok (.istore_n 3, 1) := dk_62 (dk_at dksX4_suitcaseByReady_0 13 rfl rfl)
theorem dX4_suitcaseByReady_14 : decode cX4_suitcaseByReady 14 = .ok (.iconst 0, 1) := dk_3 (dk_at dksX4_suitcaseByReady_0 14 rfl rfl)
theorem dX4_suitcaseByReady_15 : decode cX4_suitcaseByReady 15 = .ok (.istore 4, 2) := dk_54 4 (dk_at dksX4_suitcaseByReady_0 15 rfl rfl)
theorem dX4_suitcaseByReady_17 : decode cX4_suitcaseByReady 17 = .ok (.iload 4, 2) := dk_21 4 (dk_at dksX4_suitcaseByReady_0 17 rfl rfl)
theorem dX4_suitcaseByReady_19 : decode cX4_suitcaseByReady 19 = .ok (.aload_n 0, 1) := dk_42 (dk_at dksX4_suitcaseByReady_0 19 rfl rfl)
theorem dX4_suitcaseByReady_20 : decode cX4_suitcaseByReady 20 = .ok (.getfield 7, 3) := dk_180 0 7 (dk_at dksX4_suitcaseByReady_0 20 rfl rfl)
theorem dX4_suitcaseByReady_23 : decode cX4_suitcaseByReady 23 = .ok (.iconst 2, 1) := dk_5 (dk_at dksX4_suitcaseByReady_0 23 rfl rfl)
theorem dX4_suitcaseByReady_24 : decode cX4_suitcaseByReady 24 = .ok (.iaload, 1) := dk_46 (dk_at dksX4_suitcaseByReady_1 0 rfl rfl)
theorem dX4_suitcaseByReady_25 : decode cX4_suitcaseByReady 25 = .ok (.if_icmp .ge 55, 3) := dk_162 0 55 (dk_at dksX4_suitcaseByReady_1 1 rfl rfl)
theorem dX4_suitcaseByReady_28 : decode cX4_suitcaseByReady 28 = .ok (.iload_n 3, 1) := dk_29 (dk_at dksX4_suitcaseByReady_1 4 rfl rfl)
theorem dX4_suitcaseByReady_29 : decode cX4_suitcaseByReady 29 = .ok (.aload_n 0, 1) := dk_42 (dk_at dksX4_suitcaseByReady_1 5 rfl rfl)
theorem dX4_suitcaseByReady_30 : decode cX4_suitcaseByReady 30 = .ok (.iload 4, 2) := dk_21 4 (dk_at dksX4_suitcaseByReady_1 6 rfl rfl)
theorem dX4_suitcaseByReady_32 : decode cX4_suitcaseByReady 32 = .ok (.iconst 3, 1) := dk_6 (dk_at dksX4_suitcaseByReady_1 8 rfl rfl)
theorem dX4_suitcaseByReady_33 : decode cX4_suitcaseByReady 33 = .ok (.invokevirtual 141, 3) := dk_182 0 141 (dk_at dksX4_suitcaseByReady_1 9 rfl rfl)
theorem dX4_suitcaseByReady_36 : decode cX4_suitcaseByReady 36 = .ok (.aload_n 0, 1) := dk_42 (dk_at dksX4_suitcaseByReady_1 12 rfl rfl)
theorem dX4_suitcaseByReady_37 : decode cX4_suitcaseByReady 37 = .ok (.iload_n 2, 1) := dk_28 (dk_at dksX4_suitcaseByReady_1 13 rfl rfl)
theorem dX4_suitcaseByReady_38 : decode cX4_suitcaseByReady 38 = .ok (.iconst 3, 1) := dk_6 (dk_at dksX4_suitcaseByReady_1 14 rfl rfl)
theorem dX4_suitcaseByReady_39 : decode cX4_suitcaseByReady 39 = .ok (.invokevirtual 141, 3) := dk_182 0 141 (dk_at dksX4_suitcaseByReady_1 15 rfl rfl)
theorem dX4_suitcaseByReady_42 : decode cX4_suitcaseByReady 42 = .ok (.if_icmp .lt 25, 3) := dk_161 0 25 (dk_at dksX4_suitcaseByReady_1 18 rfl rfl)
theorem dX4_suitcaseByReady_45 : decode cX4_suitcaseByReady 45 = .ok (.aload_n 0, 1) := dk_42 (dk_at dksX4_suitcaseByReady_1 21 rfl rfl)
theorem dX4_suitcaseByReady_46 : decode cX4_suitcaseByReady 46 = .ok (.iload 4, 2) := dk_21 4 (dk_at dksX4_suitcaseByReady_1 22 rfl rfl)
theorem dX4_suitcaseByReady_48 : decode cX4_suitcaseByReady 48 = .ok (.iconst 3, 1) := dk_6 (dk_at dksX4_suitcaseByReady_2 0 rfl rfl)
theorem dX4_suitcaseByReady_49 : decode cX4_suitcaseByReady 49 = .ok (.invokevirtual 141, 3) := dk_182 0 141 (dk_at dksX4_suitcaseByReady_2 1 rfl rfl)
theorem dX4_suitcaseByReady_52 : decode cX4_suitcaseByReady 52 = .ok (.aload_n 0, 1) := dk_42 (dk_at dksX4_suitcaseByReady_2 4 rfl rfl)
theorem dX4_suitcaseByReady_53 : decode cX4_suitcaseByReady 53 = .ok (.iload_n 2, 1) := dk_28 (dk_at dksX4_suitcaseByReady_2 5 rfl rfl)
theorem dX4_suitcaseByReady_54 : decode cX4_suitcaseByReady 54 = .ok (.iconst 3, 1) := dk_6 (dk_at dksX4_suitcaseByReady_2 6 rfl rfl)
theorem dX4_suitcaseByReady_55 : decode cX4_suitcaseByReady 55 = .ok (.invokevirtual 141, 3) := dk_182 0 141 (dk_at dksX4_suitcaseByReady_2 7 rfl rfl)
theorem dX4_suitcaseByReady_58 : decode cX4_suitcaseByReady 58 = .ok (.if_icmp .ne 13, 3) := dk_160 0 13 (dk_at dksX4_suitcaseByReady_2 10 rfl rfl)
theorem dX4_suitcaseByReady_61 : decode cX4_suitcaseByReady 61 = .ok (.iload 4, 2) := dk_21 4 (dk_at dksX4_suitcaseByReady_2 13 rfl rfl)
theorem dX4_suitcaseByReady_63 : decode cX4_suitcaseByReady 63 = .ok (.iload_n 2, 1) := dk_28 (dk_at dksX4_suitcaseByReady_2 15 rfl rfl)
theorem dX4_suitcaseByReady_64 : decode cX4_suitcaseByReady 64 = .ok (.if_icmp .ge 7, 3) := dk_162 0 7 (dk_at dksX4_suitcaseByReady_2 16 rfl rfl)
theorem dX4_suitcaseByReady_67 : decode cX4_suitcaseByReady 67 = .ok (.iconst 1, 1) := dk_4 (dk_at dksX4_suitcaseByReady_2 19 rfl rfl)
theorem dX4_suitcaseByReady_68 : decode cX4_suitcaseByReady 68 = .ok (.goto 4, 3) := dk_167 0 4 (dk_at dksX4_suitcaseByReady_2 20 rfl rfl)
theorem dX4_suitcaseByReady_71 : decode cX4_suitcaseByReady 71 = .ok (.iconst 0, 1) := dk_3 (dk_at dksX4_suitcaseByReady_2 23 rfl rfl)
theorem dX4_suitcaseByReady_72 : decode cX4_suitcaseByReady 72 = .ok (.iadd, 1) := dk_96 (dk_at dksX4_suitcaseByReady_3 0 rfl rfl)
theorem dX4_suitcaseByReady_73 : decode cX4_suitcaseByReady 73 = .ok (.istore_n 3, 1) := dk_62 (dk_at dksX4_suitcaseByReady_3 1 rfl rfl)
theorem dX4_suitcaseByReady_74 : decode cX4_suitcaseByReady 74 = .ok (.iinc 4 1, 3) := dk_132 4 1 (dk_at dksX4_suitcaseByReady_3 2 rfl rfl)
theorem dX4_suitcaseByReady_77 : decode cX4_suitcaseByReady 77 = .ok (.goto (-60), 3) := dk_167 255 196 (dk_at dksX4_suitcaseByReady_3 5 rfl rfl)
theorem dX4_suitcaseByReady_80 : decode cX4_suitcaseByReady 80 = .ok (.iload_n 3, 1) := dk_29 (dk_at dksX4_suitcaseByReady_3 8 rfl rfl)
theorem dX4_suitcaseByReady_81 : decode cX4_suitcaseByReady 81 = .ok (.iload_n 1, 1) := dk_27 (dk_at dksX4_suitcaseByReady_3 9 rfl rfl)
theorem dX4_suitcaseByReady_82 : decode cX4_suitcaseByReady 82 = .ok (.if_icmp .eq 6, 3) := dk_159 0 6 (dk_at dksX4_suitcaseByReady_3 10 rfl rfl)
theorem dX4_suitcaseByReady_85 : decode cX4_suitcaseByReady 85 = .ok (.goto 15, 3) := dk_167 0 15 (dk_at dksX4_suitcaseByReady_3 13 rfl rfl)
theorem dX4_suitcaseByReady_88 : decode cX4_suitcaseByReady 88 = .ok (.aload_n 0, 1) := dk_42 (dk_at dksX4_suitcaseByReady_3 16 rfl rfl)
theorem dX4_suitcaseByReady_89 : decode cX4_suitcaseByReady 89 = .ok (.iconst 0, 1) := dk_3 (dk_at dksX4_suitcaseByReady_3 17 rfl rfl)
theorem dX4_suitcaseByReady_90 : decode cX4_suitcaseByReady 90 = .ok (.putfield 54, 3) := dk_181 0 54 (dk_at dksX4_suitcaseByReady_3 18 rfl rfl)
theorem dX4_suitcaseByReady_93 : decode cX4_suitcaseByReady 93 = .ok (.aload_n 0, 1) := dk_42 (dk_at dksX4_suitcaseByReady_3 21 rfl rfl)
theorem dX4_suitcaseByReady_94 : decode cX4_suitcaseByReady 94 = .ok (.iload_n 2, 1) := dk_28 (dk_at dksX4_suitcaseByReady_3 22 rfl rfl)
theorem dX4_suitcaseByReady_95 : decode cX4_suitcaseByReady 95 = .ok (.iconst 0, 1) := dk_3 (dk_at dksX4_suitcaseByReady_3 23 rfl rfl)
theorem dX4_suitcaseByReady_96 : decode cX4_suitcaseByReady 96 = .ok (.invokevirtual 141, 3) := dk_182 0 141 (dk_at dksX4_suitcaseByReady_4 0 rfl rfl)
theorem dX4_suitcaseByReady_99 : decode cX4_suitcaseByReady 99 = .ok (.ireturn, 1) := dk_172 (dk_at dksX4_suitcaseByReady_4 3 rfl rfl)
theorem dX4_suitcaseByReady_100 : decode cX4_suitcaseByReady 100 = .ok (.iinc 2 1, 3) := dk_132 2 1 (dk_at dksX4_suitcaseByReady_4 4 rfl rfl)
theorem dX4_suitcaseByReady_103 : decode cX4_suitcaseByReady 103 = .ok (.goto (-101), 3) := dk_167 255 155 (dk_at dksX4_suitcaseByReady_4 7 rfl rfl)
theorem dX4_suitcaseByReady_106 : decode cX4_suitcaseByReady 106 = .ok (.aload_n 0, 1) := dk_42 (dk_at dksX4_suitcaseByReady_4 10 rfl rfl)
theorem dX4_suitcaseByReady_107 : decode cX4_suitcaseByReady 107 = .ok (.iconst 1, 1) := dk_4 (dk_at dksX4_suitcaseByReady_4 11 rfl rfl)
theorem dX4_suitcaseByReady_108 : decode cX4_suitcaseByReady 108 = .ok (.putfield 54, 3) := dk_181 0 54 (dk_at dksX4_suitcaseByReady_4 12 rfl rfl)
theorem dX4_suitcaseByReady_111 : decode cX4_suitcaseByReady 111 = .ok (.iconst 0, 1) := dk_3 (dk_at dksX4_suitcaseByReady_4 15 rfl rfl)
theorem dX4_suitcaseByReady_112 : decode cX4_suitcaseByReady 112 = .ok (.ireturn, 1) := dk_172 (dk_at dksX4_suitcaseByReady_4 16 rfl rfl)
abbrev cX4_bookingCount : ByteArray := prog_20_method_67_code
def yX4_bookingCount : MethodName := ⟨RX4, "bookingCount", "()I"⟩
def dkwX4_bookingCount_0 : List UInt8 := [42, 3, 181, 0, 54, 42, 180, 0, 7, 6, 46, 172]
abbrev dktX4_bookingCount_0 : List UInt8 := dkwX4_bookingCount_0 ++ []
theorem dksX4_bookingCount_0 : cX4_bookingCount.data.toList.drop 0 = dktX4_bookingCount_0 := by decide +kernel
theorem dX4_bookingCount_0 : decode cX4_bookingCount 0 = .ok (.aload_n 0, 1) := dk_42 (dk_at dksX4_bookingCount_0 0 rfl rfl)
theorem dX4_bookingCount_1 : decode cX4_bookingCount 1 = .ok (.iconst 0, 1) := dk_3 (dk_at dksX4_bookingCount_0 1 rfl rfl)
theorem dX4_bookingCount_2 : decode cX4_bookingCount 2 = .ok (.putfield 54, 3) := dk_181 0 54 (dk_at dksX4_bookingCount_0 2 rfl rfl)
theorem dX4_bookingCount_5 : decode cX4_bookingCount 5 = .ok (.aload_n 0, 1) := dk_42 (dk_at dksX4_bookingCount_0 5 rfl rfl)
theorem dX4_bookingCount_6 : decode cX4_bookingCount 6 = .ok (.getfield 7, 3) := dk_180 0 7 (dk_at dksX4_bookingCount_0 6 rfl rfl)
theorem dX4_bookingCount_9 : decode cX4_bookingCount 9 = .ok (.iconst 3, 1) := dk_6 (dk_at dksX4_bookingCount_0 9 rfl rfl)
theorem dX4_bookingCount_10 : decode cX4_bookingCount 10 = .ok (.iaload, 1) := dk_46 (dk_at dksX4_bookingCount_0 10 rfl rfl)
theorem dX4_bookingCount_11 : decode cX4_bookingCount 11 = .ok (.ireturn, 1) := dk_172 (dk_at dksX4_bookingCount_0 11 rfl rfl)
abbrev cX4_bookingAt : ByteArray := prog_20_method_68_code
def yX4_bookingAt : MethodName := ⟨RX4, "bookingAt", "(I)I"⟩
def dkwX4_bookingAt_1 : List UInt8 := [182, 0, 92, 153, 0, 7, 3, 167, 0, 9, 42, 27, 3, 182, 0, 83, 172]
abbrev dktX4_bookingAt_1 : List UInt8 := dkwX4_bookingAt_1 ++ []
def dkwX4_bookingAt_0 : List UInt8 := [42, 27, 3, 42, 180, 0, 7, 6, 46, 4, 100, 184, 0, 68, 153, 0, 7, 3, 167, 0, 4, 4]
abbrev dktX4_bookingAt_0 : List UInt8 := dkwX4_bookingAt_0 ++ dktX4_bookingAt_1
theorem dksX4_bookingAt_0 : cX4_bookingAt.data.toList.drop 0 = dktX4_bookingAt_0 := by decide +kernel
theorem dksX4_bookingAt_1 : cX4_bookingAt.data.toList.drop 22 = dktX4_bookingAt_1 := dk_seg dksX4_bookingAt_0 22 rfl rfl
theorem dX4_bookingAt_0 : decode cX4_bookingAt 0 = .ok (.aload_n 0, 1) := dk_42 (dk_at dksX4_bookingAt_0 0 rfl rfl)
theorem dX4_bookingAt_1 : decode cX4_bookingAt 1 = .ok (.iload_n 1, 1) := dk_27 (dk_at dksX4_bookingAt_0 1 rfl rfl)
theorem dX4_bookingAt_2 : decode cX4_bookingAt 2 = .ok (.iconst 0, 1) := dk_3 (dk_at dksX4_bookingAt_0 2 rfl rfl)
theorem dX4_bookingAt_3 : decode cX4_bookingAt 3 = .ok (.aload_n 0, 1) := dk_42 (dk_at dksX4_bookingAt_0 3 rfl rfl)
theorem dX4_bookingAt_4 : decode cX4_bookingAt 4 = .ok (.getfield 7, 3) := dk_180 0 7 (dk_at dksX4_bookingAt_0 4 rfl rfl)
theorem dX4_bookingAt_7 : decode cX4_bookingAt 7 = .ok (.iconst 3, 1) := dk_6 (dk_at dksX4_bookingAt_0 7 rfl rfl)
theorem dX4_bookingAt_8 : decode cX4_bookingAt 8 = .ok (.iaload, 1) := dk_46 (dk_at dksX4_bookingAt_0 8 rfl rfl)
theorem dX4_bookingAt_9 : decode cX4_bookingAt 9 = .ok (.iconst 1, 1) := dk_4 (dk_at dksX4_bookingAt_0 9 rfl rfl)
theorem dX4_bookingAt_10 : decode cX4_bookingAt 10 = .ok (.isub, 1) := dk_100 (dk_at dksX4_bookingAt_0 10 rfl rfl)
theorem dX4_bookingAt_11 : decode cX4_bookingAt 11 = .ok (.invokestatic 68, 3) := dk_184 0 68 (dk_at dksX4_bookingAt_0 11 rfl rfl)
theorem dX4_bookingAt_14 : decode cX4_bookingAt 14 = .ok (.ifCond .eq 7, 3) := dk_153 0 7 (dk_at dksX4_bookingAt_0 14 rfl rfl)
theorem dX4_bookingAt_17 : decode cX4_bookingAt 17 = .ok (.iconst 0, 1) := dk_3 (dk_at dksX4_bookingAt_0 17 rfl rfl)
theorem dX4_bookingAt_18 : decode cX4_bookingAt 18 = .ok (.goto 4, 3) := dk_167 0 4 (dk_at dksX4_bookingAt_0 18 rfl rfl)
theorem dX4_bookingAt_21 : decode cX4_bookingAt 21 = .ok (.iconst 1, 1) := dk_4 (dk_at dksX4_bookingAt_0 21 rfl rfl)
theorem dX4_bookingAt_22 : decode cX4_bookingAt 22 = .ok (.invokevirtual 92, 3) := dk_182 0 92 (dk_at dksX4_bookingAt_1 0 rfl rfl)
theorem dX4_bookingAt_25 : decode cX4_bookingAt 25 = .ok (.ifCond .eq 7, 3) := dk_153 0 7 (dk_at dksX4_bookingAt_1 3 rfl rfl)
theorem dX4_bookingAt_28 : decode cX4_bookingAt 28 = .ok (.iconst 0, 1) := dk_3 (dk_at dksX4_bookingAt_1 6 rfl rfl)
theorem dX4_bookingAt_29 : decode cX4_bookingAt 29 = .ok (.goto 9, 3) := dk_167 0 9 (dk_at dksX4_bookingAt_1 7 rfl rfl)
theorem dX4_bookingAt_32 : decode cX4_bookingAt 32 = .ok (.aload_n 0, 1) := dk_42 (dk_at dksX4_bookingAt_1 10 rfl rfl)
theorem dX4_bookingAt_33 : decode cX4_bookingAt 33 = .ok (.iload_n 1, 1) := dk_27 (dk_at dksX4_bookingAt_1 11 rfl rfl)
theorem dX4_bookingAt_34 : decode cX4_bookingAt 34 = .ok (.iconst 0, 1) := dk_3 (dk_at dksX4_bookingAt_1 12 rfl rfl)
theorem dX4_bookingAt_35 : decode cX4_bookingAt 35 = .ok (.invokevirtual 83, 3) := dk_182 0 83 (dk_at dksX4_bookingAt_1 13 rfl rfl)
theorem dX4_bookingAt_38 : decode cX4_bookingAt 38 = .ok (.ireturn, 1) := dk_172 (dk_at dksX4_bookingAt_1 16 rfl rfl)
abbrev cX4_berthsNeeded : ByteArray := prog_20_method_70_code
def yX4_berthsNeeded : MethodName := ⟨RX4, "berthsNeeded", "(I)I"⟩
def dkwX4_berthsNeeded_0 : List UInt8 := [42, 27, 182, 0, 179, 172]
abbrev dktX4_berthsNeeded_0 : List UInt8 := dkwX4_berthsNeeded_0 ++ []
theorem dksX4_berthsNeeded_0 : cX4_berthsNeeded.data.toList.drop 0 = dktX4_berthsNeeded_0 := by decide +kernel
theorem dX4_berthsNeeded_0 : decode cX4_berthsNeeded 0 = .ok (.aload_n 0, 1) := dk_42 (dk_at dksX4_berthsNeeded_0 0 rfl rfl)
theorem dX4_berthsNeeded_1 : decode cX4_berthsNeeded 1 = .ok (.iload_n 1, 1) := dk_27 (dk_at dksX4_berthsNeeded_0 1 rfl rfl)
theorem dX4_berthsNeeded_2 : decode cX4_berthsNeeded 2 = .ok (.invokevirtual 179, 3) := dk_182 0 179 (dk_at dksX4_berthsNeeded_0 2 rfl rfl)
theorem dX4_berthsNeeded_5 : decode cX4_berthsNeeded 5 = .ok (.ireturn, 1) := dk_172 (dk_at dksX4_berthsNeeded_0 5 rfl rfl)
abbrev cX4_needs : ByteArray := prog_20_method_69_code
def yX4_needs : MethodName := ⟨RX4, "needs", "(I)I"⟩
def dkwX4_needs_2 : List UInt8 := [167, 0, 4, 28, 61, 132, 3, 1, 167, 255, 226, 28, 172]
abbrev dktX4_needs_2 : List UInt8 := dkwX4_needs_2 ++ []
def dkwX4_needs_1 : List UInt8 := [3, 62, 29, 16, 8, 162, 0, 30, 42, 27, 29, 182, 0, 86, 28, 164, 0, 12, 42, 27, 29, 182, 0, 86]
abbrev dktX4_needs_1 : List UInt8 := dkwX4_needs_1 ++ dktX4_needs_2
def dkwX4_needs_0 : List UInt8 := [42, 42, 27, 182, 0, 72, 153, 0, 7, 3, 167, 0, 4, 4, 182, 0, 92, 153, 0, 5, 3, 172, 3, 61]
abbrev dktX4_needs_0 : List UInt8 := dkwX4_needs_0 ++ dktX4_needs_1
theorem dksX4_needs_0 : cX4_needs.data.toList.drop 0 = dktX4_needs_0 := by decide +kernel
theorem dksX4_needs_1 : cX4_needs.data.toList.drop 24 = dktX4_needs_1 := dk_seg dksX4_needs_0 24 rfl rfl
theorem dksX4_needs_2 : cX4_needs.data.toList.drop 48 = dktX4_needs_2 := dk_seg dksX4_needs_1 24 rfl rfl
theorem dX4_needs_0 : decode cX4_needs 0 = .ok (.aload_n 0, 1) := dk_42 (dk_at dksX4_needs_0 0 rfl rfl)
theorem dX4_needs_1 : decode cX4_needs 1 = .ok (.aload_n 0, 1) := dk_42 (dk_at dksX4_needs_0 1 rfl rfl)
theorem dX4_needs_2 : decode cX4_needs 2 = .ok (.iload_n 1, 1) := dk_27 (dk_at dksX4_needs_0 2 rfl rfl)
theorem dX4_needs_3 : decode cX4_needs 3 = .ok (.invokevirtual 72, 3) := dk_182 0 72 (dk_at dksX4_needs_0 3 rfl rfl)
theorem dX4_needs_6 : decode cX4_needs 6 = .ok (.ifCond .eq 7, 3) := dk_153 0 7 (dk_at dksX4_needs_0 6 rfl rfl)
theorem dX4_needs_9 : decode cX4_needs 9 = .ok (.iconst 0, 1) := dk_3 (dk_at dksX4_needs_0 9 rfl rfl)
theorem dX4_needs_10 : decode cX4_needs 10 = .ok (.goto 4, 3) := dk_167 0 4 (dk_at dksX4_needs_0 10 rfl rfl)
theorem dX4_needs_13 : decode cX4_needs 13 = .ok (.iconst 1, 1) := dk_4 (dk_at dksX4_needs_0 13 rfl rfl)
theorem dX4_needs_14 : decode cX4_needs 14 = .ok (.invokevirtual 92, 3) := dk_182 0 92 (dk_at dksX4_needs_0 14 rfl rfl)
theorem dX4_needs_17 : decode cX4_needs 17 = .ok (.ifCond .eq 5, 3) := dk_153 0 5 (dk_at dksX4_needs_0 17 rfl rfl)
theorem dX4_needs_20 : decode cX4_needs 20 = .ok (.iconst 0, 1) := dk_3 (dk_at dksX4_needs_0 20 rfl rfl)
theorem dX4_needs_21 : decode cX4_needs 21 = .ok (.ireturn, 1) := dk_172 (dk_at dksX4_needs_0 21 rfl rfl)
theorem dX4_needs_22 : decode cX4_needs 22 = .ok (.iconst 0, 1) := dk_3 (dk_at dksX4_needs_0 22 rfl rfl)
theorem dX4_needs_23 : decode cX4_needs 23 = .ok (.istore_n 2, 1) := dk_61 (dk_at dksX4_needs_0 23 rfl rfl)
theorem dX4_needs_24 : decode cX4_needs 24 = .ok (.iconst 0, 1) := dk_3 (dk_at dksX4_needs_1 0 rfl rfl)
theorem dX4_needs_25 : decode cX4_needs 25 = .ok (.istore_n 3, 1) := dk_62 (dk_at dksX4_needs_1 1 rfl rfl)
theorem dX4_needs_26 : decode cX4_needs 26 = .ok (.iload_n 3, 1) := dk_29 (dk_at dksX4_needs_1 2 rfl rfl)
theorem dX4_needs_27 : decode cX4_needs 27 = .ok (.bipush 8, 2) := dk_16 8 (dk_at dksX4_needs_1 3 rfl rfl)
theorem dX4_needs_29 : decode cX4_needs 29 = .ok (.if_icmp .ge 30, 3) := dk_162 0 30 (dk_at dksX4_needs_1 5 rfl rfl)
theorem dX4_needs_32 : decode cX4_needs 32 = .ok (.aload_n 0, 1) := dk_42 (dk_at dksX4_needs_1 8 rfl rfl)
theorem dX4_needs_33 : decode cX4_needs 33 = .ok (.iload_n 1, 1) := dk_27 (dk_at dksX4_needs_1 9 rfl rfl)
theorem dX4_needs_34 : decode cX4_needs 34 = .ok (.iload_n 3, 1) := dk_29 (dk_at dksX4_needs_1 10 rfl rfl)
theorem dX4_needs_35 : decode cX4_needs 35 = .ok (.invokevirtual 86, 3) := dk_182 0 86 (dk_at dksX4_needs_1 11 rfl rfl)
theorem dX4_needs_38 : decode cX4_needs 38 = .ok (.iload_n 2, 1) := dk_28 (dk_at dksX4_needs_1 14 rfl rfl)
theorem dX4_needs_39 : decode cX4_needs 39 = .ok (.if_icmp .le 12, 3) := dk_164 0 12 (dk_at dksX4_needs_1 15 rfl rfl)
theorem dX4_needs_42 : decode cX4_needs 42 = .ok (.aload_n 0, 1) := dk_42 (dk_at dksX4_needs_1 18 rfl rfl)
theorem dX4_needs_43 : decode cX4_needs 43 = .ok (.iload_n 1, 1) := dk_27 (dk_at dksX4_needs_1 19 rfl rfl)
theorem dX4_needs_44 : decode cX4_needs 44 = .ok (.iload_n 3, 1) := dk_29 (dk_at dksX4_needs_1 20 rfl rfl)
theorem dX4_needs_45 : decode cX4_needs 45 = .ok (.invokevirtual 86, 3) := dk_182 0 86 (dk_at dksX4_needs_1 21 rfl rfl)
theorem dX4_needs_48 : decode cX4_needs 48 = .ok (.goto 4, 3) := dk_167 0 4 (dk_at dksX4_needs_2 0 rfl rfl)
theorem dX4_needs_51 : decode cX4_needs 51 = .ok (.iload_n 2, 1) := dk_28 (dk_at dksX4_needs_2 3 rfl rfl)
theorem dX4_needs_52 : decode cX4_needs 52 = .ok (.istore_n 2, 1) := dk_61 (dk_at dksX4_needs_2 4 rfl rfl)
theorem dX4_needs_53 : decode cX4_needs 53 = .ok (.iinc 3 1, 3) := dk_132 3 1 (dk_at dksX4_needs_2 5 rfl rfl)
theorem dX4_needs_56 : decode cX4_needs 56 = .ok (.goto (-30), 3) := dk_167 255 226 (dk_at dksX4_needs_2 8 rfl rfl)
theorem dX4_needs_59 : decode cX4_needs 59 = .ok (.iload_n 2, 1) := dk_28 (dk_at dksX4_needs_2 11 rfl rfl)
theorem dX4_needs_60 : decode cX4_needs 60 = .ok (.ireturn, 1) := dk_172 (dk_at dksX4_needs_2 12 rfl rfl)
abbrev cX4_berthsNeededByLegs : ByteArray := prog_20_method_71_code
def yX4_berthsNeededByLegs : MethodName := ⟨RX4, "berthsNeededByLegs", "(I)I"⟩
def dkwX4_berthsNeededByLegs_0 : List UInt8 := [42, 27, 182, 0, 179, 172]
abbrev dktX4_berthsNeededByLegs_0 : List UInt8 := dkwX4_berthsNeededByLegs_0 ++ []
theorem dksX4_berthsNeededByLegs_0 : cX4_berthsNeededByLegs.data.toList.drop 0 = dktX4_berthsNeededByLegs_0 := by decide +kernel
theorem dX4_berthsNeededByLegs_0 : decode cX4_berthsNeededByLegs 0 = .ok (.aload_n 0, 1) := dk_42 (dk_at dksX4_berthsNeededByLegs_0 0 rfl rfl)
theorem dX4_berthsNeededByLegs_1 : decode cX4_berthsNeededByLegs 1 = .ok (.iload_n 1, 1) := dk_27 (dk_at dksX4_berthsNeededByLegs_0 1 rfl rfl)
theorem dX4_berthsNeededByLegs_2 : decode cX4_berthsNeededByLegs 2 = .ok (.invokevirtual 179, 3) := dk_182 0 179 (dk_at dksX4_berthsNeededByLegs_0 2 rfl rfl)
theorem dX4_berthsNeededByLegs_5 : decode cX4_berthsNeededByLegs 5 = .ok (.ireturn, 1) := dk_172 (dk_at dksX4_berthsNeededByLegs_0 5 rfl rfl)
abbrev cX4_berthOf : ByteArray := prog_20_method_73_code
def yX4_berthOf : MethodName := ⟨RX4, "berthOf", "(I)I"⟩
def dkwX4_berthOf_1 : List UInt8 := [42, 42, 28, 4, 182, 0, 83, 182, 0, 182, 42, 180, 0, 48, 28, 46, 172]
abbrev dktX4_berthOf_1 : List UInt8 := dkwX4_berthOf_1 ++ []
def dkwX4_berthOf_0 : List UInt8 := [42, 27, 182, 0, 167, 61, 42, 28, 156, 0, 7, 4, 167, 0, 4, 3, 182, 0, 92, 153, 0, 5, 3, 172]
abbrev dktX4_berthOf_0 : List UInt8 := dkwX4_berthOf_0 ++ dktX4_berthOf_1
theorem dksX4_berthOf_0 : cX4_berthOf.data.toList.drop 0 = dktX4_berthOf_0 := by decide +kernel
theorem dksX4_berthOf_1 : cX4_berthOf.data.toList.drop 24 = dktX4_berthOf_1 := dk_seg dksX4_berthOf_0 24 rfl rfl
theorem dX4_berthOf_0 : decode cX4_berthOf 0 = .ok (.aload_n 0, 1) := dk_42 (dk_at dksX4_berthOf_0 0 rfl rfl)
theorem dX4_berthOf_1 : decode cX4_berthOf 1 = .ok (.iload_n 1, 1) := dk_27 (dk_at dksX4_berthOf_0 1 rfl rfl)
theorem dX4_berthOf_2 : decode cX4_berthOf 2 = .ok (.invokevirtual 167, 3) := dk_182 0 167 (dk_at dksX4_berthOf_0 2 rfl rfl)
theorem dX4_berthOf_5 : decode cX4_berthOf 5 = .ok (.istore_n 2, 1) := dk_61 (dk_at dksX4_berthOf_0 5 rfl rfl)
theorem dX4_berthOf_6 : decode cX4_berthOf 6 = .ok (.aload_n 0, 1) := dk_42 (dk_at dksX4_berthOf_0 6 rfl rfl)
theorem dX4_berthOf_7 : decode cX4_berthOf 7 = .ok (.iload_n 2, 1) := dk_28 (dk_at dksX4_berthOf_0 7 rfl rfl)
theorem dX4_berthOf_8 : decode cX4_berthOf 8 = .ok (.ifCond .ge 7, 3) := dk_156 0 7 (dk_at dksX4_berthOf_0 8 rfl rfl)
theorem dX4_berthOf_11 : decode cX4_berthOf 11 = .ok (.iconst 1, 1) := dk_4 (dk_at dksX4_berthOf_0 11 rfl rfl)
theorem dX4_berthOf_12 : decode cX4_berthOf 12 = .ok (.goto 4, 3) := dk_167 0 4 (dk_at dksX4_berthOf_0 12 rfl rfl)
theorem dX4_berthOf_15 : decode cX4_berthOf 15 = .ok (.iconst 0, 1) := dk_3 (dk_at dksX4_berthOf_0 15 rfl rfl)
theorem dX4_berthOf_16 : decode cX4_berthOf 16 = .ok (.invokevirtual 92, 3) := dk_182 0 92 (dk_at dksX4_berthOf_0 16 rfl rfl)
theorem dX4_berthOf_19 : decode cX4_berthOf 19 = .ok (.ifCond .eq 5, 3) := dk_153 0 5 (dk_at dksX4_berthOf_0 19 rfl rfl)
theorem dX4_berthOf_22 : decode cX4_berthOf 22 = .ok (.iconst 0, 1) := dk_3 (dk_at dksX4_berthOf_0 22 rfl rfl)
theorem dX4_berthOf_23 : decode cX4_berthOf 23 = .ok (.ireturn, 1) := dk_172 (dk_at dksX4_berthOf_0 23 rfl rfl)
theorem dX4_berthOf_24 : decode cX4_berthOf 24 = .ok (.aload_n 0, 1) := dk_42 (dk_at dksX4_berthOf_1 0 rfl rfl)
theorem dX4_berthOf_25 : decode cX4_berthOf 25 = .ok (.aload_n 0, 1) := dk_42 (dk_at dksX4_berthOf_1 1 rfl rfl)
theorem dX4_berthOf_26 : decode cX4_berthOf 26 = .ok (.iload_n 2, 1) := dk_28 (dk_at dksX4_berthOf_1 2 rfl rfl)
theorem dX4_berthOf_27 : decode cX4_berthOf 27 = .ok (.iconst 1, 1) := dk_4 (dk_at dksX4_berthOf_1 3 rfl rfl)
theorem dX4_berthOf_28 : decode cX4_berthOf 28 = .ok (.invokevirtual 83, 3) := dk_182 0 83 (dk_at dksX4_berthOf_1 4 rfl rfl)
theorem dX4_berthOf_31 : decode cX4_berthOf 31 = .ok (.invokevirtual 182, 3) := dk_182 0 182 (dk_at dksX4_berthOf_1 7 rfl rfl)
theorem dX4_berthOf_34 : decode cX4_berthOf 34 = .ok (.aload_n 0, 1) := dk_42 (dk_at dksX4_berthOf_1 10 rfl rfl)
theorem dX4_berthOf_35 : decode cX4_berthOf 35 = .ok (.getfield 48, 3) := dk_180 0 48 (dk_at dksX4_berthOf_1 11 rfl rfl)
theorem dX4_berthOf_38 : decode cX4_berthOf 38 = .ok (.iload_n 2, 1) := dk_28 (dk_at dksX4_berthOf_1 14 rfl rfl)
theorem dX4_berthOf_39 : decode cX4_berthOf 39 = .ok (.iaload, 1) := dk_46 (dk_at dksX4_berthOf_1 15 rfl rfl)
theorem dX4_berthOf_40 : decode cX4_berthOf 40 = .ok (.ireturn, 1) := dk_172 (dk_at dksX4_berthOf_1 16 rfl rfl)
abbrev cX4_gives : ByteArray := prog_20_method_72_code
def yX4_gives : MethodName := ⟨RX4, "gives", "(I)V"⟩
def dkwX4_gives_7 : List UInt8 := [167, 255, 120, 177]
abbrev dktX4_gives_7 : List UInt8 := dkwX4_gives_7 ++ []
def dkwX4_gives_6 : List UInt8 := [132, 5, 1, 167, 255, 242, 42, 180, 0, 48, 29, 21, 5, 79, 132, 3, 1, 167, 255, 134, 132, 2, 1]
abbrev dktX4_gives_6 : List UInt8 := dkwX4_gives_6 ++ dktX4_gives_7
def dkwX4_gives_5 : List UInt8 := [120, 128, 54, 4, 132, 5, 1, 167, 255, 207, 3, 54, 5, 21, 4, 21, 5, 122, 4, 126, 4, 160, 0, 9]
abbrev dktX4_gives_5 : List UInt8 := dkwX4_gives_5 ++ dktX4_gives_6
def dkwX4_gives_4 : List UInt8 := [155, 0, 28, 42, 21, 5, 6, 182, 0, 83, 28, 164, 0, 17, 21, 4, 4, 42, 180, 0, 48, 21, 5, 46]
abbrev dktX4_gives_4 : List UInt8 := dkwX4_gives_4 ++ dktX4_gives_5
def dkwX4_gives_3 : List UInt8 := [54, 4, 3, 54, 5, 21, 5, 42, 180, 0, 7, 6, 46, 162, 0, 44, 42, 180, 0, 48, 21, 5, 46]
abbrev dktX4_gives_3 : List UInt8 := dkwX4_gives_3 ++ dktX4_gives_4
def dkwX4_gives_2 : List UInt8 := [29, 4, 182, 0, 83, 27, 160, 0, 102, 42, 29, 5, 182, 0, 83, 28, 159, 0, 6, 167, 0, 89, 3]
abbrev dktX4_gives_2 : List UInt8 := dkwX4_gives_2 ++ dktX4_gives_3
def dkwX4_gives_1 : List UInt8 := [167, 255, 236, 3, 61, 28, 16, 8, 162, 0, 136, 3, 62, 29, 42, 180, 0, 7, 6, 46, 162, 0, 118, 42]
abbrev dktX4_gives_1 : List UInt8 := dkwX4_gives_1 ++ dktX4_gives_2
def dkwX4_gives_0 : List UInt8 := [3, 61, 28, 42, 180, 0, 7, 6, 46, 162, 0, 16, 42, 180, 0, 48, 28, 2, 79, 132, 2, 1]
abbrev dktX4_gives_0 : List UInt8 := dkwX4_gives_0 ++ dktX4_gives_1
theorem dksX4_gives_0 : cX4_gives.data.toList.drop 0 = dktX4_gives_0 := by decide +kernel
theorem dksX4_gives_1 : cX4_gives.data.toList.drop 22 = dktX4_gives_1 := dk_seg dksX4_gives_0 22 rfl rfl
theorem dksX4_gives_2 : cX4_gives.data.toList.drop 46 = dktX4_gives_2 := dk_seg dksX4_gives_1 24 rfl rfl
theorem dksX4_gives_3 : cX4_gives.data.toList.drop 69 = dktX4_gives_3 := dk_seg dksX4_gives_2 23 rfl rfl
theorem dksX4_gives_4 : cX4_gives.data.toList.drop 92 = dktX4_gives_4 := dk_seg dksX4_gives_3 23 rfl rfl
theorem dksX4_gives_5 : cX4_gives.data.toList.drop 116 = dktX4_gives_5 := dk_seg dksX4_gives_4 24 rfl rfl
theorem dksX4_gives_6 : cX4_gives.data.toList.drop 140 = dktX4_gives_6 := dk_seg dksX4_gives_5 24 rfl rfl
theorem dksX4_gives_7 : cX4_gives.data.toList.drop 163 = dktX4_gives_7 := dk_seg dksX4_gives_6 23 rfl rfl
theorem dX4_gives_0 : decode cX4_gives 0 = .ok (.iconst 0, 1) := dk_3 (dk_at dksX4_gives_0 0 rfl rfl)
theorem dX4_gives_1 : decode cX4_gives 1 = .ok (.istore_n 2, 1) := dk_61 (dk_at dksX4_gives_0 1 rfl rfl)
theorem dX4_gives_2 : decode cX4_gives 2 = .ok (.iload_n 2, 1) := dk_28 (dk_at dksX4_gives_0 2 rfl rfl)
theorem dX4_gives_3 : decode cX4_gives 3 = .ok (.aload_n 0, 1) := dk_42 (dk_at dksX4_gives_0 3 rfl rfl)
theorem dX4_gives_4 : decode cX4_gives 4 = .ok (.getfield 7, 3) := dk_180 0 7 (dk_at dksX4_gives_0 4 rfl rfl)
theorem dX4_gives_7 : decode cX4_gives 7 = .ok (.iconst 3, 1) := dk_6 (dk_at dksX4_gives_0 7 rfl rfl)
theorem dX4_gives_8 : decode cX4_gives 8 = .ok (.iaload, 1) := dk_46 (dk_at dksX4_gives_0 8 rfl rfl)
theorem dX4_gives_9 : decode cX4_gives 9 = .ok (.if_icmp .ge 16, 3) := dk_162 0 16 (dk_at dksX4_gives_0 9 rfl rfl)
theorem dX4_gives_12 : decode cX4_gives 12 = .ok (.aload_n 0, 1) := dk_42 (dk_at dksX4_gives_0 12 rfl rfl)
theorem dX4_gives_13 : decode cX4_gives 13 = .ok (.getfield 48, 3) := dk_180 0 48 (dk_at dksX4_gives_0 13 rfl rfl)
theorem dX4_gives_16 : decode cX4_gives 16 = .ok (.iload_n 2, 1) := dk_28 (dk_at dksX4_gives_0 16 rfl rfl)
theorem dX4_gives_17 : decode cX4_gives 17 = .ok (.iconst (-1), 1) := dk_2 (dk_at dksX4_gives_0 17 rfl rfl)
theorem dX4_gives_18 : decode cX4_gives 18 = .ok (.iastore, 1) := dk_79 (dk_at dksX4_gives_0 18 rfl rfl)
theorem dX4_gives_19 : decode cX4_gives 19 = .ok (.iinc 2 1, 3) := dk_132 2 1 (dk_at dksX4_gives_0 19 rfl rfl)
theorem dX4_gives_22 : decode cX4_gives 22 = .ok (.goto (-20), 3) := dk_167 255 236 (dk_at dksX4_gives_1 0 rfl rfl)
theorem dX4_gives_25 : decode cX4_gives 25 = .ok (.iconst 0, 1) := dk_3 (dk_at dksX4_gives_1 3 rfl rfl)
theorem dX4_gives_26 : decode cX4_gives 26 = .ok (.istore_n 2, 1) := dk_61 (dk_at dksX4_gives_1 4 rfl rfl)
theorem dX4_gives_27 : decode cX4_gives 27 = .ok (.iload_n 2, 1) := dk_28 (dk_at dksX4_gives_1 5 rfl rfl)
theorem dX4_gives_28 : decode cX4_gives 28 = .ok (.bipush 8, 2) := dk_16 8 (dk_at dksX4_gives_1 6 rfl rfl)
theorem dX4_gives_30 : decode cX4_gives 30 = .ok (.if_icmp .ge 136, 3) := dk_162 0 136 (dk_at dksX4_gives_1 8 rfl rfl)
theorem dX4_gives_33 : decode cX4_gives 33 = .ok (.iconst 0, 1) := dk_3 (dk_at dksX4_gives_1 11 rfl rfl)
theorem dX4_gives_34 : decode cX4_gives 34 = .ok (.istore_n 3, 1) := dk_62 (dk_at dksX4_gives_1 12 rfl rfl)
theorem dX4_gives_35 : decode cX4_gives 35 = .ok (.iload_n 3, 1) := dk_29 (dk_at dksX4_gives_1 13 rfl rfl)
theorem dX4_gives_36 : decode cX4_gives 36 = .ok (.aload_n 0, 1) := dk_42 (dk_at dksX4_gives_1 14 rfl rfl)
theorem dX4_gives_37 : decode cX4_gives 37 = .ok (.getfield 7, 3) := dk_180 0 7 (dk_at dksX4_gives_1 15 rfl rfl)
theorem dX4_gives_40 : decode cX4_gives 40 = .ok (.iconst 3, 1) := dk_6 (dk_at dksX4_gives_1 18 rfl rfl)
theorem dX4_gives_41 : decode cX4_gives 41 = .ok (.iaload, 1) := dk_46 (dk_at dksX4_gives_1 19 rfl rfl)
theorem dX4_gives_42 : decode cX4_gives 42 = .ok (.if_icmp .ge 118, 3) := dk_162 0 118 (dk_at dksX4_gives_1 20 rfl rfl)
theorem dX4_gives_45 : decode cX4_gives 45 = .ok (.aload_n 0, 1) := dk_42 (dk_at dksX4_gives_1 23 rfl rfl)
theorem dX4_gives_46 : decode cX4_gives 46 = .ok (.iload_n 3, 1) := dk_29 (dk_at dksX4_gives_2 0 rfl rfl)
theorem dX4_gives_47 : decode cX4_gives 47 = .ok (.iconst 1, 1) := dk_4 (dk_at dksX4_gives_2 1 rfl rfl)
theorem dX4_gives_48 : decode cX4_gives 48 = .ok (.invokevirtual 83, 3) := dk_182 0 83 (dk_at dksX4_gives_2 2 rfl rfl)
theorem dX4_gives_51 : decode cX4_gives 51 = .ok (.iload_n 1, 1) := dk_27 (dk_at dksX4_gives_2 5 rfl rfl)
theorem dX4_gives_52 : decode cX4_gives 52 = .ok (.if_icmp .ne 102, 3) := dk_160 0 102 (dk_at dksX4_gives_2 6 rfl rfl)
theorem dX4_gives_55 : decode cX4_gives 55 = .ok (.aload_n 0, 1) := dk_42 (dk_at dksX4_gives_2 9 rfl rfl)
theorem dX4_gives_56 : decode cX4_gives 56 = .ok (.iload_n 3, 1) := dk_29 (dk_at dksX4_gives_2 10 rfl rfl)
theorem dX4_gives_57 : decode cX4_gives 57 = .ok (.iconst 2, 1) := dk_5 (dk_at dksX4_gives_2 11 rfl rfl)
theorem dX4_gives_58 : decode cX4_gives 58 = .ok (.invokevirtual 83, 3) := dk_182 0 83 (dk_at dksX4_gives_2 12 rfl rfl)
theorem dX4_gives_61 : decode cX4_gives 61 = .ok (.iload_n 2, 1) := dk_28 (dk_at dksX4_gives_2 15 rfl rfl)
theorem dX4_gives_62 : decode cX4_gives 62 = .ok (.if_icmp .eq 6, 3) := dk_159 0 6 (dk_at dksX4_gives_2 16 rfl rfl)
theorem dX4_gives_65 : decode cX4_gives 65 = .ok (.goto 89, 3) := dk_167 0 89 (dk_at dksX4_gives_2 19 rfl rfl)
theorem dX4_gives_68 : decode cX4_gives 68 = .ok (.iconst 0, 1) := dk_3 (dk_at dksX4_gives_2 22 rfl rfl)
theorem dX4_gives_69 : decode cX4_gives 69 = .ok (.istore 4, 2) := dk_54 4 (dk_at dksX4_gives_3 0 rfl rfl)
theorem dX4_gives_71 : decode cX4_gives 71 = .ok (.iconst 0, 1) := dk_3 (dk_at dksX4_gives_3 2 rfl rfl)
theorem dX4_gives_72 : decode cX4_gives 72 = .ok (.istore 5, 2) := dk_54 5 (dk_at dksX4_gives_3 3 rfl rfl)
theorem dX4_gives_74 : decode cX4_gives 74 = .ok (.iload 5, 2) := dk_21 5 (dk_at dksX4_gives_3 5 rfl rfl)
theorem dX4_gives_76 : decode cX4_gives 76 = .ok (.aload_n 0, 1) := dk_42 (dk_at dksX4_gives_3 7 rfl rfl)
theorem dX4_gives_77 : decode cX4_gives 77 = .ok (.getfield 7, 3) := dk_180 0 7 (dk_at dksX4_gives_3 8 rfl rfl)
theorem dX4_gives_80 : decode cX4_gives 80 = .ok (.iconst 3, 1) := dk_6 (dk_at dksX4_gives_3 11 rfl rfl)
theorem dX4_gives_81 : decode cX4_gives 81 = .ok (.iaload, 1) := dk_46 (dk_at dksX4_gives_3 12 rfl rfl)
theorem dX4_gives_82 : decode cX4_gives 82 = .ok (.if_icmp .ge 44, 3) := dk_162 0 44 (dk_at dksX4_gives_3 13 rfl rfl)
theorem dX4_gives_85 : decode cX4_gives 85 = .ok (.aload_n 0, 1) := dk_42 (dk_at dksX4_gives_3 16 rfl rfl)
theorem dX4_gives_86 : decode cX4_gives 86 = .ok (.getfield 48, 3) := dk_180 0 48 (dk_at dksX4_gives_3 17 rfl rfl)
theorem dX4_gives_89 : decode cX4_gives 89 = .ok (.iload 5, 2) := dk_21 5 (dk_at dksX4_gives_3 20 rfl rfl)
theorem dX4_gives_91 : decode cX4_gives 91 = .ok (.iaload, 1) := dk_46 (dk_at dksX4_gives_3 22 rfl rfl)
theorem dX4_gives_92 : decode cX4_gives 92 = .ok (.ifCond .lt 28, 3) := dk_155 0 28 (dk_at dksX4_gives_4 0 rfl rfl)
theorem dX4_gives_95 : decode cX4_gives 95 = .ok (.aload_n 0, 1) := dk_42 (dk_at dksX4_gives_4 3 rfl rfl)
theorem dX4_gives_96 : decode cX4_gives 96 = .ok (.iload 5, 2) := dk_21 5 (dk_at dksX4_gives_4 4 rfl rfl)
theorem dX4_gives_98 : decode cX4_gives 98 = .ok (.iconst 3, 1) := dk_6 (dk_at dksX4_gives_4 6 rfl rfl)
theorem dX4_gives_99 : decode cX4_gives 99 = .ok (.invokevirtual 83, 3) := dk_182 0 83 (dk_at dksX4_gives_4 7 rfl rfl)
theorem dX4_gives_102 : decode cX4_gives 102 = .ok (.iload_n 2, 1) := dk_28 (dk_at dksX4_gives_4 10 rfl rfl)
theorem dX4_gives_103 : decode cX4_gives 103 = .ok (.if_icmp .le 17, 3) := dk_164 0 17 (dk_at dksX4_gives_4 11 rfl rfl)
theorem dX4_gives_106 : decode cX4_gives 106 = .ok (.iload 4, 2) := dk_21 4 (dk_at dksX4_gives_4 14 rfl rfl)
theorem dX4_gives_108 : decode cX4_gives 108 = .ok (.iconst 1, 1) := dk_4 (dk_at dksX4_gives_4 16 rfl rfl)
theorem dX4_gives_109 : decode cX4_gives 109 = .ok (.aload_n 0, 1) := dk_42 (dk_at dksX4_gives_4 17 rfl rfl)
theorem dX4_gives_110 : decode cX4_gives 110 = .ok (.getfield 48, 3) := dk_180 0 48 (dk_at dksX4_gives_4 18 rfl rfl)
theorem dX4_gives_113 : decode cX4_gives 113 = .ok (.iload 5, 2) := dk_21 5 (dk_at dksX4_gives_4 21 rfl rfl)
theorem dX4_gives_115 : decode cX4_gives 115 = .ok (.iaload, 1) := dk_46 (dk_at dksX4_gives_4 23 rfl rfl)
theorem dX4_gives_116 : decode cX4_gives 116 = .ok (.ishl, 1) := dk_120 (dk_at dksX4_gives_5 0 rfl rfl)
theorem dX4_gives_117 : decode cX4_gives 117 = .ok (.ior, 1) := dk_128 (dk_at dksX4_gives_5 1 rfl rfl)
theorem dX4_gives_118 : decode cX4_gives 118 = .ok (.istore 4, 2) := dk_54 4 (dk_at dksX4_gives_5 2 rfl rfl)
theorem dX4_gives_120 : decode cX4_gives 120 = .ok (.iinc 5 1, 3) := dk_132 5 1 (dk_at dksX4_gives_5 4 rfl rfl)
theorem dX4_gives_123 : decode cX4_gives 123 = .ok (.goto (-49), 3) := dk_167 255 207 (dk_at dksX4_gives_5 7 rfl rfl)
theorem dX4_gives_126 : decode cX4_gives 126 = .ok (.iconst 0, 1) := dk_3 (dk_at dksX4_gives_5 10 rfl rfl)
theorem dX4_gives_127 : decode cX4_gives 127 = .ok (.istore 5, 2) := dk_54 5 (dk_at dksX4_gives_5 11 rfl rfl)
theorem dX4_gives_129 : decode cX4_gives 129 = .ok (.iload 4, 2) := dk_21 4 (dk_at dksX4_gives_5 13 rfl rfl)
theorem dX4_gives_131 : decode cX4_gives 131 = .ok (.iload 5, 2) := dk_21 5 (dk_at dksX4_gives_5 15 rfl rfl)
theorem dX4_gives_133 : decode cX4_gives 133 = .ok (.ishr, 1) := dk_122 (dk_at dksX4_gives_5 17 rfl rfl)
theorem dX4_gives_134 : decode cX4_gives 134 = .ok (.iconst 1, 1) := dk_4 (dk_at dksX4_gives_5 18 rfl rfl)
theorem dX4_gives_135 : decode cX4_gives 135 = .ok (.iand, 1) := dk_126 (dk_at dksX4_gives_5 19 rfl rfl)
theorem dX4_gives_136 : decode cX4_gives 136 = .ok (.iconst 1, 1) := dk_4 (dk_at dksX4_gives_5 20 rfl rfl)
theorem dX4_gives_137 : decode cX4_gives 137 = .ok (.if_icmp .ne 9, 3) := dk_160 0 9 (dk_at dksX4_gives_5 21 rfl rfl)
theorem dX4_gives_140 : decode cX4_gives 140 = .ok (.iinc 5 1, 3) := dk_132 5 1 (dk_at dksX4_gives_6 0 rfl rfl)
theorem dX4_gives_143 : decode cX4_gives 143 = .ok (.goto (-14), 3) := dk_167 255 242 (dk_at dksX4_gives_6 3 rfl rfl)
theorem dX4_gives_146 : decode cX4_gives 146 = .ok (.aload_n 0, 1) := dk_42 (dk_at dksX4_gives_6 6 rfl rfl)
theorem dX4_gives_147 : decode cX4_gives 147 = .ok (.getfield 48, 3) := dk_180 0 48 (dk_at dksX4_gives_6 7 rfl rfl)
theorem dX4_gives_150 : decode cX4_gives 150 = .ok (.iload_n 3, 1) := dk_29 (dk_at dksX4_gives_6 10 rfl rfl)
theorem dX4_gives_151 : decode cX4_gives 151 = .ok (.iload 5, 2) := dk_21 5 (dk_at dksX4_gives_6 11 rfl rfl)
theorem dX4_gives_153 : decode cX4_gives 153 = .ok (.iastore, 1) := dk_79 (dk_at dksX4_gives_6 13 rfl rfl)
theorem dX4_gives_154 : decode cX4_gives 154 = .ok (.iinc 3 1, 3) := dk_132 3 1 (dk_at dksX4_gives_6 14 rfl rfl)
theorem dX4_gives_157 : decode cX4_gives 157 = .ok (.goto (-122), 3) := dk_167 255 134 (dk_at dksX4_gives_6 17 rfl rfl)
theorem dX4_gives_160 : decode cX4_gives 160 = .ok (.iinc 2 1, 3) := dk_132 2 1 (dk_at dksX4_gives_6 20 rfl rfl)
theorem dX4_gives_163 : decode cX4_gives 163 = .ok (.goto (-136), 3) := dk_167 255 120 (dk_at dksX4_gives_7 0 rfl rfl)
theorem dX4_gives_166 : decode cX4_gives 166 = .ok (.return_, 1) := dk_177 (dk_at dksX4_gives_7 3 rfl rfl)
abbrev cX4_coins : ByteArray := prog_20_method_74_code
def yX4_coins : MethodName := ⟨RX4, "coins", "()I"⟩
def dkwX4_coins_0 : List UInt8 := [42, 3, 181, 0, 54, 42, 180, 0, 7, 16, 6, 46, 172]
abbrev dktX4_coins_0 : List UInt8 := dkwX4_coins_0 ++ []
theorem dksX4_coins_0 : cX4_coins.data.toList.drop 0 = dktX4_coins_0 := by decide +kernel
theorem dX4_coins_0 : decode cX4_coins 0 = .ok (.aload_n 0, 1) := dk_42 (dk_at dksX4_coins_0 0 rfl rfl)
theorem dX4_coins_1 : decode cX4_coins 1 = .ok (.iconst 0, 1) := dk_3 (dk_at dksX4_coins_0 1 rfl rfl)
theorem dX4_coins_2 : decode cX4_coins 2 = .ok (.putfield 54, 3) := dk_181 0 54 (dk_at dksX4_coins_0 2 rfl rfl)
theorem dX4_coins_5 : decode cX4_coins 5 = .ok (.aload_n 0, 1) := dk_42 (dk_at dksX4_coins_0 5 rfl rfl)
theorem dX4_coins_6 : decode cX4_coins 6 = .ok (.getfield 7, 3) := dk_180 0 7 (dk_at dksX4_coins_0 6 rfl rfl)
theorem dX4_coins_9 : decode cX4_coins 9 = .ok (.bipush 6, 2) := dk_16 6 (dk_at dksX4_coins_0 9 rfl rfl)
theorem dX4_coins_11 : decode cX4_coins 11 = .ok (.iaload, 1) := dk_46 (dk_at dksX4_coins_0 11 rfl rfl)
theorem dX4_coins_12 : decode cX4_coins 12 = .ok (.ireturn, 1) := dk_172 (dk_at dksX4_coins_0 12 rfl rfl)
abbrev cX4_coinsByLoads : ByteArray := prog_20_method_76_code
def yX4_coinsByLoads : MethodName := ⟨RX4, "coinsByLoads", "()I"⟩
def dkwX4_coinsByLoads_2 : List UInt8 := [132, 3, 1, 167, 255, 227, 132, 2, 1, 167, 255, 209, 27, 172]
abbrev dktX4_coinsByLoads_2 : List UInt8 := dkwX4_coinsByLoads_2 ++ []
def dkwX4_coinsByLoads_1 : List UInt8 := [6, 182, 0, 76, 4, 100, 162, 0, 23, 27, 5, 42, 28, 16, 28, 29, 96, 182, 0, 76, 104, 96, 60]
abbrev dktX4_coinsByLoads_1 : List UInt8 := dkwX4_coinsByLoads_1 ++ dktX4_coinsByLoads_2
def dkwX4_coinsByLoads_0 : List UInt8 := [42, 3, 181, 0, 54, 3, 60, 3, 61, 28, 42, 180, 0, 7, 4, 46, 162, 0, 43, 3, 62, 29, 42, 28]
abbrev dktX4_coinsByLoads_0 : List UInt8 := dkwX4_coinsByLoads_0 ++ dktX4_coinsByLoads_1
theorem dksX4_coinsByLoads_0 : cX4_coinsByLoads.data.toList.drop 0 = dktX4_coinsByLoads_0 := by decide +kernel
theorem dksX4_coinsByLoads_1 : cX4_coinsByLoads.data.toList.drop 24 = dktX4_coinsByLoads_1 := dk_seg dksX4_coinsByLoads_0 24 rfl rfl
theorem dksX4_coinsByLoads_2 : cX4_coinsByLoads.data.toList.drop 47 = dktX4_coinsByLoads_2 := dk_seg dksX4_coinsByLoads_1 23 rfl rfl
theorem dX4_coinsByLoads_0 : decode cX4_coinsByLoads 0 = .ok (.aload_n 0, 1) := dk_42 (dk_at dksX4_coinsByLoads_0 0 rfl rfl)
theorem dX4_coinsByLoads_1 : decode cX4_coinsByLoads 1 = .ok (.iconst 0, 1) := dk_3 (dk_at dksX4_coinsByLoads_0 1 rfl rfl)
theorem dX4_coinsByLoads_2 : decode cX4_coinsByLoads 2 = .ok (.putfield 54, 3) := dk_181 0 54 (dk_at dksX4_coinsByLoads_0 2 rfl rfl)
theorem dX4_coinsByLoads_5 : decode cX4_coinsByLoads 5 = .ok (.iconst 0, 1) := dk_3 (dk_at dksX4_coinsByLoads_0 5 rfl rfl)
theorem dX4_coinsByLoads_6 : decode cX4_coinsByLoads 6 = .ok (.istore_n 1, 1) := dk_60 (dk_at dksX4_coinsByLoads_0 6 rfl rfl)
theorem dX4_coinsByLoads_7 : decode cX4_coinsByLoads 7 = .ok (.iconst 0, 1) := dk_3 (dk_at dksX4_coinsByLoads_0 7 rfl rfl)
theorem dX4_coinsByLoads_8 : decode cX4_coinsByLoads 8 = .ok (.istore_n 2, 1) := dk_61 (dk_at dksX4_coinsByLoads_0 8 rfl rfl)
theorem dX4_coinsByLoads_9 : decode cX4_coinsByLoads 9 = .ok (.iload_n 2, 1) := dk_28 (dk_at dksX4_coinsByLoads_0 9 rfl rfl)
theorem dX4_coinsByLoads_10 : decode cX4_coinsByLoads 10 = .ok (.aload_n 0, 1) := dk_42 (dk_at dksX4_coinsByLoads_0 10 rfl rfl)
theorem dX4_coinsByLoads_11 : decode cX4_coinsByLoads 11 = .ok (.getfield 7, 3) := dk_180 0 7 (dk_at dksX4_coinsByLoads_0 11 rfl rfl)
theorem dX4_coinsByLoads_14 : decode cX4_coinsByLoads 14 = .ok (.iconst 1, 1) := dk_4 (dk_at dksX4_coinsByLoads_0 14 rfl rfl)
theorem dX4_coinsByLoads_15 : decode cX4_coinsByLoads 15 = .ok (.iaload, 1) := dk_46 (dk_at dksX4_coinsByLoads_0 15 rfl rfl)
theorem dX4_coinsByLoads_16 : decode cX4_coinsByLoads 16 = .ok (.if_icmp .ge 43, 3) := dk_162 0 43 (dk_at dksX4_coinsByLoads_0 16 rfl rfl)
theorem dX4_coinsByLoads_19 : decode cX4_coinsByLoads 19 = .ok (.iconst 0, 1) := dk_3 (dk_at dksX4_coinsByLoads_0 19 rfl rfl)
theorem dX4_coinsByLoads_20 : decode cX4_coinsByLoads 20 = .ok (.istore_n 3, 1) := dk_62 (dk_at dksX4_coinsByLoads_0 20 rfl rfl)
theorem dX4_coinsByLoads_21 : decode cX4_coinsByLoads 21 = .ok (.iload_n 3, 1) := dk_29 (dk_at dksX4_coinsByLoads_0 21 rfl rfl)
theorem dX4_coinsByLoads_22 : decode cX4_coinsByLoads 22 = .ok (.aload_n 0, 1) := dk_42 (dk_at dksX4_coinsByLoads_0 22 rfl rfl)
theorem dX4_coinsByLoads_23 : decode cX4_coinsByLoads 23 = .ok (.iload_n 2, 1) := dk_28 (dk_at dksX4_coinsByLoads_0 23 rfl rfl)
theorem dX4_coinsByLoads_24 : decode cX4_coinsByLoads 24 = .ok (.iconst 3, 1) := dk_6 (dk_at dksX4_coinsByLoads_1 0 rfl rfl)
theorem dX4_coinsByLoads_25 : decode cX4_coinsByLoads 25 = .ok (.invokevirtual 76, 3) := dk_182 0 76 (dk_at dksX4_coinsByLoads_1 1 rfl rfl)
theorem dX4_coinsByLoads_28 : decode cX4_coinsByLoads 28 = .ok (.iconst 1, 1) := dk_4 (dk_at dksX4_coinsByLoads_1 4 rfl rfl)
theorem dX4_coinsByLoads_29 : decode cX4_coinsByLoads 29 = .ok (.isub, 1) := dk_100 (dk_at dksX4_coinsByLoads_1 5 rfl rfl)
theorem dX4_coinsByLoads_30 : decode cX4_coinsByLoads 30 = .ok (.if_icmp .ge 23, 3) := dk_162 0 23 (dk_at dksX4_coinsByLoads_1 6 rfl rfl)
theorem dX4_coinsByLoads_33 : decode cX4_coinsByLoads 33 = .ok (.iload_n 1, 1) := dk_27 (dk_at dksX4_coinsByLoads_1 9 rfl rfl)
theorem dX4_coinsByLoads_34 : decode cX4_coinsByLoads 34 = .ok (.iconst 2, 1) := dk_5 (dk_at dksX4_coinsByLoads_1 10 rfl rfl)
theorem dX4_coinsByLoads_35 : decode cX4_coinsByLoads 35 = .ok (.aload_n 0, 1) := dk_42 (dk_at dksX4_coinsByLoads_1 11 rfl rfl)
theorem dX4_coinsByLoads_36 : decode cX4_coinsByLoads 36 = .ok (.iload_n 2, 1) := dk_28 (dk_at dksX4_coinsByLoads_1 12 rfl rfl)
theorem dX4_coinsByLoads_37 : decode cX4_coinsByLoads 37 = .ok (.bipush 28, 2) := dk_16 28 (dk_at dksX4_coinsByLoads_1 13 rfl rfl)
theorem dX4_coinsByLoads_39 : decode cX4_coinsByLoads 39 = .ok (.iload_n 3, 1) := dk_29 (dk_at dksX4_coinsByLoads_1 15 rfl rfl)
theorem dX4_coinsByLoads_40 : decode cX4_coinsByLoads 40 = .ok (.iadd, 1) := dk_96 (dk_at dksX4_coinsByLoads_1 16 rfl rfl)
theorem dX4_coinsByLoads_41 : decode cX4_coinsByLoads 41 = .ok (.invokevirtual 76, 3) := dk_182 0 76 (dk_at dksX4_coinsByLoads_1 17 rfl rfl)
theorem dX4_coinsByLoads_44 : decode cX4_coinsByLoads 44 = .ok (.imul, 1) := dk_104 (dk_at dksX4_coinsByLoads_1 20 rfl rfl)
theorem dX4_coinsByLoads_45 : decode cX4_coinsByLoads 45 = .ok (.iadd, 1) := dk_96 (dk_at dksX4_coinsByLoads_1 21 rfl rfl)
theorem dX4_coinsByLoads_46 : decode cX4_coinsByLoads 46 = .ok (.istore_n 1, 1) := dk_60 (dk_at dksX4_coinsByLoads_1 22 rfl rfl)
theorem dX4_coinsByLoads_47 : decode cX4_coinsByLoads 47 = .ok (.iinc 3 1, 3) := dk_132 3 1 (dk_at dksX4_coinsByLoads_2 0 rfl rfl)
theorem dX4_coinsByLoads_50 : decode cX4_coinsByLoads 50 = .ok (.goto (-29), 3) := dk_167 255 227 (dk_at dksX4_coinsByLoads_2 3 rfl rfl)
theorem dX4_coinsByLoads_53 : decode cX4_coinsByLoads 53 = .ok (.iinc 2 1, 3) := dk_132 2 1 (dk_at dksX4_coinsByLoads_2 6 rfl rfl)
theorem dX4_coinsByLoads_56 : decode cX4_coinsByLoads 56 = .ok (.goto (-47), 3) := dk_167 255 209 (dk_at dksX4_coinsByLoads_2 9 rfl rfl)
theorem dX4_coinsByLoads_59 : decode cX4_coinsByLoads 59 = .ok (.iload_n 1, 1) := dk_27 (dk_at dksX4_coinsByLoads_2 12 rfl rfl)
theorem dX4_coinsByLoads_60 : decode cX4_coinsByLoads 60 = .ok (.ireturn, 1) := dk_172 (dk_at dksX4_coinsByLoads_2 13 rfl rfl)
abbrev cX4_collectedTotal : ByteArray := prog_20_method_77_code
def yX4_collectedTotal : MethodName := ⟨RX4, "collectedTotal", "()I"⟩
def dkwX4_collectedTotal_0 : List UInt8 := [42, 3, 181, 0, 54, 42, 180, 0, 7, 16, 7, 46, 172]
abbrev dktX4_collectedTotal_0 : List UInt8 := dkwX4_collectedTotal_0 ++ []
theorem dksX4_collectedTotal_0 : cX4_collectedTotal.data.toList.drop 0 = dktX4_collectedTotal_0 := by decide +kernel
theorem dX4_collectedTotal_0 : decode cX4_collectedTotal 0 = .ok (.aload_n 0, 1) := dk_42 (dk_at dksX4_collectedTotal_0 0 rfl rfl)
theorem dX4_collectedTotal_1 : decode cX4_collectedTotal 1 = .ok (.iconst 0, 1) := dk_3 (dk_at dksX4_collectedTotal_0 1 rfl rfl)
theorem dX4_collectedTotal_2 : decode cX4_collectedTotal 2 = .ok (.putfield 54, 3) := dk_181 0 54 (dk_at dksX4_collectedTotal_0 2 rfl rfl)
theorem dX4_collectedTotal_5 : decode cX4_collectedTotal 5 = .ok (.aload_n 0, 1) := dk_42 (dk_at dksX4_collectedTotal_0 5 rfl rfl)
theorem dX4_collectedTotal_6 : decode cX4_collectedTotal 6 = .ok (.getfield 7, 3) := dk_180 0 7 (dk_at dksX4_collectedTotal_0 6 rfl rfl)
theorem dX4_collectedTotal_9 : decode cX4_collectedTotal 9 = .ok (.bipush 7, 2) := dk_16 7 (dk_at dksX4_collectedTotal_0 9 rfl rfl)
theorem dX4_collectedTotal_11 : decode cX4_collectedTotal 11 = .ok (.iaload, 1) := dk_46 (dk_at dksX4_collectedTotal_0 11 rfl rfl)
theorem dX4_collectedTotal_12 : decode cX4_collectedTotal 12 = .ok (.ireturn, 1) := dk_172 (dk_at dksX4_collectedTotal_0 12 rfl rfl)
abbrev cX4_meanLoad : ByteArray := prog_20_method_78_code
def yX4_meanLoad : MethodName := ⟨RX4, "meanLoad", "()D"⟩
def dkwX4_meanLoad_3 : List UInt8 := [27, 135, 42, 182, 0, 186, 135, 111, 175]
abbrev dktX4_meanLoad_3 : List UInt8 := dkwX4_meanLoad_3 ++ []
def dkwX4_meanLoad_2 : List UInt8 := [162, 0, 18, 27, 42, 28, 29, 182, 0, 89, 96, 60, 132, 3, 1, 167, 255, 232, 132, 2, 1, 167, 255, 214]
abbrev dktX4_meanLoad_2 : List UInt8 := dkwX4_meanLoad_2 ++ dktX4_meanLoad_3
def dkwX4_meanLoad_1 : List UInt8 := [61, 28, 42, 180, 0, 7, 4, 46, 162, 0, 38, 3, 62, 29, 42, 28, 6, 182, 0, 76, 4, 100]
abbrev dktX4_meanLoad_1 : List UInt8 := dkwX4_meanLoad_1 ++ dktX4_meanLoad_2
def dkwX4_meanLoad_0 : List UInt8 := [42, 42, 182, 0, 186, 154, 0, 7, 4, 167, 0, 4, 3, 182, 0, 92, 153, 0, 5, 14, 175, 3, 60, 3]
abbrev dktX4_meanLoad_0 : List UInt8 := dkwX4_meanLoad_0 ++ dktX4_meanLoad_1
theorem dksX4_meanLoad_0 : cX4_meanLoad.data.toList.drop 0 = dktX4_meanLoad_0 := by decide +kernel
theorem dksX4_meanLoad_1 : cX4_meanLoad.data.toList.drop 24 = dktX4_meanLoad_1 := dk_seg dksX4_meanLoad_0 24 rfl rfl
theorem dksX4_meanLoad_2 : cX4_meanLoad.data.toList.drop 46 = dktX4_meanLoad_2 := dk_seg dksX4_meanLoad_1 22 rfl rfl
theorem dksX4_meanLoad_3 : cX4_meanLoad.data.toList.drop 70 = dktX4_meanLoad_3 := dk_seg dksX4_meanLoad_2 24 rfl rfl
theorem dX4_meanLoad_0 : decode cX4_meanLoad 0 = .ok (.aload_n 0, 1) := dk_42 (dk_at dksX4_meanLoad_0 0 rfl rfl)
theorem dX4_meanLoad_1 : decode cX4_meanLoad 1 = .ok (.aload_n 0, 1) := dk_42 (dk_at dksX4_meanLoad_0 1 rfl rfl)
theorem dX4_meanLoad_2 : decode cX4_meanLoad 2 = .ok (.invokevirtual 186, 3) := dk_182 0 186 (dk_at dksX4_meanLoad_0 2 rfl rfl)
theorem dX4_meanLoad_5 : decode cX4_meanLoad 5 = .ok (.ifCond .ne 7, 3) := dk_154 0 7 (dk_at dksX4_meanLoad_0 5 rfl rfl)
theorem dX4_meanLoad_8 : decode cX4_meanLoad 8 = .ok (.iconst 1, 1) := dk_4 (dk_at dksX4_meanLoad_0 8 rfl rfl)
theorem dX4_meanLoad_9 : decode cX4_meanLoad 9 = .ok (.goto 4, 3) := dk_167 0 4 (dk_at dksX4_meanLoad_0 9 rfl rfl)
theorem dX4_meanLoad_12 : decode cX4_meanLoad 12 = .ok (.iconst 0, 1) := dk_3 (dk_at dksX4_meanLoad_0 12 rfl rfl)
theorem dX4_meanLoad_13 : decode cX4_meanLoad 13 = .ok (.invokevirtual 92, 3) := dk_182 0 92 (dk_at dksX4_meanLoad_0 13 rfl rfl)
theorem dX4_meanLoad_16 : decode cX4_meanLoad 16 = .ok (.ifCond .eq 5, 3) := dk_153 0 5 (dk_at dksX4_meanLoad_0 16 rfl rfl)
theorem dX4_meanLoad_19 : decode cX4_meanLoad 19 = .ok (.dconst 0, 1) := dk_14 (dk_at dksX4_meanLoad_0 19 rfl rfl)
theorem dX4_meanLoad_20 : decode cX4_meanLoad 20 = .ok (.dreturn, 1) := dk_175 (dk_at dksX4_meanLoad_0 20 rfl rfl)
theorem dX4_meanLoad_21 : decode cX4_meanLoad 21 = .ok (.iconst 0, 1) := dk_3 (dk_at dksX4_meanLoad_0 21 rfl rfl)
theorem dX4_meanLoad_22 : decode cX4_meanLoad 22 = .ok (.istore_n 1, 1) := dk_60 (dk_at dksX4_meanLoad_0 22 rfl rfl)
theorem dX4_meanLoad_23 : decode cX4_meanLoad 23 = .ok (.iconst 0, 1) := dk_3 (dk_at dksX4_meanLoad_0 23 rfl rfl)
theorem dX4_meanLoad_24 : decode cX4_meanLoad 24 = .ok (.istore_n 2, 1) := dk_61 (dk_at dksX4_meanLoad_1 0 rfl rfl)
theorem dX4_meanLoad_25 : decode cX4_meanLoad 25 = .ok (.iload_n 2, 1) := dk_28 (dk_at dksX4_meanLoad_1 1 rfl rfl)
theorem dX4_meanLoad_26 : decode cX4_meanLoad 26 = .ok (.aload_n 0, 1) := dk_42 (dk_at dksX4_meanLoad_1 2 rfl rfl)
theorem dX4_meanLoad_27 : decode cX4_meanLoad 27 = .ok (.getfield 7, 3) := dk_180 0 7 (dk_at dksX4_meanLoad_1 3 rfl rfl)
theorem dX4_meanLoad_30 : decode cX4_meanLoad 30 = .ok (.iconst 1, 1) := dk_4 (dk_at dksX4_meanLoad_1 6 rfl rfl)
theorem dX4_meanLoad_31 : decode cX4_meanLoad 31 = .ok (.iaload, 1) := dk_46 (dk_at dksX4_meanLoad_1 7 rfl rfl)
theorem dX4_meanLoad_32 : decode cX4_meanLoad 32 = .ok (.if_icmp .ge 38, 3) := dk_162 0 38 (dk_at dksX4_meanLoad_1 8 rfl rfl)
theorem dX4_meanLoad_35 : decode cX4_meanLoad 35 = .ok (.iconst 0, 1) := dk_3 (dk_at dksX4_meanLoad_1 11 rfl rfl)
theorem dX4_meanLoad_36 : decode cX4_meanLoad 36 = .ok (.istore_n 3, 1) := dk_62 (dk_at dksX4_meanLoad_1 12 rfl rfl)
theorem dX4_meanLoad_37 : decode cX4_meanLoad 37 = .ok (.iload_n 3, 1) := dk_29 (dk_at dksX4_meanLoad_1 13 rfl rfl)
theorem dX4_meanLoad_38 : decode cX4_meanLoad 38 = .ok (.aload_n 0, 1) := dk_42 (dk_at dksX4_meanLoad_1 14 rfl rfl)
theorem dX4_meanLoad_39 : decode cX4_meanLoad 39 = .ok (.iload_n 2, 1) := dk_28 (dk_at dksX4_meanLoad_1 15 rfl rfl)
theorem dX4_meanLoad_40 : decode cX4_meanLoad 40 = .ok (.iconst 3, 1) := dk_6 (dk_at dksX4_meanLoad_1 16 rfl rfl)
theorem dX4_meanLoad_41 : decode cX4_meanLoad 41 = .ok (.invokevirtual 76, 3) := dk_182 0 76 (dk_at dksX4_meanLoad_1 17 rfl rfl)
theorem dX4_meanLoad_44 : decode cX4_meanLoad 44 = .ok (.iconst 1, 1) := dk_4 (dk_at dksX4_meanLoad_1 20 rfl rfl)
theorem dX4_meanLoad_45 : decode cX4_meanLoad 45 = .ok (.isub, 1) := dk_100 (dk_at dksX4_meanLoad_1 21 rfl rfl)
theorem dX4_meanLoad_46 : decode cX4_meanLoad 46 = .ok (.if_icmp .ge 18, 3) := dk_162 0 18 (dk_at dksX4_meanLoad_2 0 rfl rfl)
theorem dX4_meanLoad_49 : decode cX4_meanLoad 49 = .ok (.iload_n 1, 1) := dk_27 (dk_at dksX4_meanLoad_2 3 rfl rfl)
theorem dX4_meanLoad_50 : decode cX4_meanLoad 50 = .ok (.aload_n 0, 1) := dk_42 (dk_at dksX4_meanLoad_2 4 rfl rfl)
theorem dX4_meanLoad_51 : decode cX4_meanLoad 51 = .ok (.iload_n 2, 1) := dk_28 (dk_at dksX4_meanLoad_2 5 rfl rfl)
theorem dX4_meanLoad_52 : decode cX4_meanLoad 52 = .ok (.iload_n 3, 1) := dk_29 (dk_at dksX4_meanLoad_2 6 rfl rfl)
theorem dX4_meanLoad_53 : decode cX4_meanLoad 53 = .ok (.invokevirtual 89, 3) := dk_182 0 89 (dk_at dksX4_meanLoad_2 7 rfl rfl)
theorem dX4_meanLoad_56 : decode cX4_meanLoad 56 = .ok (.iadd, 1) := dk_96 (dk_at dksX4_meanLoad_2 10 rfl rfl)
theorem dX4_meanLoad_57 : decode cX4_meanLoad 57 = .ok (.istore_n 1, 1) := dk_60 (dk_at dksX4_meanLoad_2 11 rfl rfl)
theorem dX4_meanLoad_58 : decode cX4_meanLoad 58 = .ok (.iinc 3 1, 3) := dk_132 3 1 (dk_at dksX4_meanLoad_2 12 rfl rfl)
theorem dX4_meanLoad_61 : decode cX4_meanLoad 61 = .ok (.goto (-24), 3) := dk_167 255 232 (dk_at dksX4_meanLoad_2 15 rfl rfl)
theorem dX4_meanLoad_64 : decode cX4_meanLoad 64 = .ok (.iinc 2 1, 3) := dk_132 2 1 (dk_at dksX4_meanLoad_2 18 rfl rfl)
theorem dX4_meanLoad_67 : decode cX4_meanLoad 67 = .ok (.goto (-42), 3) := dk_167 255 214 (dk_at dksX4_meanLoad_2 21 rfl rfl)
theorem dX4_meanLoad_70 : decode cX4_meanLoad 70 = .ok (.iload_n 1, 1) := dk_27 (dk_at dksX4_meanLoad_3 0 rfl rfl)
theorem dX4_meanLoad_71 : decode cX4_meanLoad 71 = .ok (.i2d, 1) := dk_135 (dk_at dksX4_meanLoad_3 1 rfl rfl)
theorem dX4_meanLoad_72 : decode cX4_meanLoad 72 = .ok (.aload_n 0, 1) := dk_42 (dk_at dksX4_meanLoad_3 2 rfl rfl)
theorem dX4_meanLoad_73 : decode cX4_meanLoad 73 = .ok (.invokevirtual 186, 3) := dk_182 0 186 (dk_at dksX4_meanLoad_3 3 rfl rfl)
theorem dX4_meanLoad_76 : decode cX4_meanLoad 76 = .ok (.i2d, 1) := dk_135 (dk_at dksX4_meanLoad_3 6 rfl rfl)
theorem dX4_meanLoad_77 : decode cX4_meanLoad 77 = .ok (.ddiv, 1) := dk_111 (dk_at dksX4_meanLoad_3 7 rfl rfl)
theorem dX4_meanLoad_78 : decode cX4_meanLoad 78 = .ok (.dreturn, 1) := dk_175 (dk_at dksX4_meanLoad_3 8 rfl rfl)
abbrev cX4_legs : ByteArray := prog_20_method_75_code
def yX4_legs : MethodName := ⟨RX4, "legs", "()I"⟩
def dkwX4_legs_1 : List UInt8 := [60, 132, 2, 1, 167, 255, 232, 27, 172]
abbrev dktX4_legs_1 : List UInt8 := dkwX4_legs_1 ++ []
def dkwX4_legs_0 : List UInt8 := [3, 60, 3, 61, 28, 42, 180, 0, 7, 4, 46, 162, 0, 20, 27, 42, 28, 6, 182, 0, 76, 4, 100, 96]
abbrev dktX4_legs_0 : List UInt8 := dkwX4_legs_0 ++ dktX4_legs_1
theorem dksX4_legs_0 : cX4_legs.data.toList.drop 0 = dktX4_legs_0 := by decide +kernel
theorem dksX4_legs_1 : cX4_legs.data.toList.drop 24 = dktX4_legs_1 := dk_seg dksX4_legs_0 24 rfl rfl
theorem dX4_legs_0 : decode cX4_legs 0 = .ok (.iconst 0, 1) := dk_3 (dk_at dksX4_legs_0 0 rfl rfl)
theorem dX4_legs_1 : decode cX4_legs 1 = .ok (.istore_n 1, 1) := dk_60 (dk_at dksX4_legs_0 1 rfl rfl)
theorem dX4_legs_2 : decode cX4_legs 2 = .ok (.iconst 0, 1) := dk_3 (dk_at dksX4_legs_0 2 rfl rfl)
theorem dX4_legs_3 : decode cX4_legs 3 = .ok (.istore_n 2, 1) := dk_61 (dk_at dksX4_legs_0 3 rfl rfl)
theorem dX4_legs_4 : decode cX4_legs 4 = .ok (.iload_n 2, 1) := dk_28 (dk_at dksX4_legs_0 4 rfl rfl)
theorem dX4_legs_5 : decode cX4_legs 5 = .ok (.aload_n 0, 1) := dk_42 (dk_at dksX4_legs_0 5 rfl rfl)
theorem dX4_legs_6 : decode cX4_legs 6 = .ok (.getfield 7, 3) := dk_180 0 7 (dk_at dksX4_legs_0 6 rfl rfl)
theorem dX4_legs_9 : decode cX4_legs 9 = .ok (.iconst 1, 1) := dk_4 (dk_at dksX4_legs_0 9 rfl rfl)
theorem dX4_legs_10 : decode cX4_legs 10 = .ok (.iaload, 1) := dk_46 (dk_at dksX4_legs_0 10 rfl rfl)
theorem dX4_legs_11 : decode cX4_legs 11 = .ok (.if_icmp .ge 20, 3) := dk_162 0 20 (dk_at dksX4_legs_0 11 rfl rfl)
theorem dX4_legs_14 : decode cX4_legs 14 = .ok (.iload_n 1, 1) := dk_27 (dk_at dksX4_legs_0 14 rfl rfl)
theorem dX4_legs_15 : decode cX4_legs 15 = .ok (.aload_n 0, 1) := dk_42 (dk_at dksX4_legs_0 15 rfl rfl)
theorem dX4_legs_16 : decode cX4_legs 16 = .ok (.iload_n 2, 1) := dk_28 (dk_at dksX4_legs_0 16 rfl rfl)
theorem dX4_legs_17 : decode cX4_legs 17 = .ok (.iconst 3, 1) := dk_6 (dk_at dksX4_legs_0 17 rfl rfl)
theorem dX4_legs_18 : decode cX4_legs 18 = .ok (.invokevirtual 76, 3) := dk_182 0 76 (dk_at dksX4_legs_0 18 rfl rfl)
theorem dX4_legs_21 : decode cX4_legs 21 = .ok (.iconst 1, 1) := dk_4 (dk_at dksX4_legs_0 21 rfl rfl)
theorem dX4_legs_22 : decode cX4_legs 22 = .ok (.isub, 1) := dk_100 (dk_at dksX4_legs_0 22 rfl rfl)
theorem dX4_legs_23 : decode cX4_legs 23 = .ok (.iadd, 1) := dk_96 (dk_at dksX4_legs_0 23 rfl rfl)
theorem dX4_legs_24 : decode cX4_legs 24 = .ok (.istore_n 1, 1) := dk_60 (dk_at dksX4_legs_1 0 rfl rfl)
theorem dX4_legs_25 : decode cX4_legs 25 = .ok (.iinc 2 1, 3) := dk_132 2 1 (dk_at dksX4_legs_1 1 rfl rfl)
theorem dX4_legs_28 : decode cX4_legs 28 = .ok (.goto (-24), 3) := dk_167 255 232 (dk_at dksX4_legs_1 4 rfl rfl)
theorem dX4_legs_31 : decode cX4_legs 31 = .ok (.iload_n 1, 1) := dk_27 (dk_at dksX4_legs_1 7 rfl rfl)
theorem dX4_legs_32 : decode cX4_legs 32 = .ok (.ireturn, 1) := dk_172 (dk_at dksX4_legs_1 8 rfl rfl)
abbrev cX4_fullShare : ByteArray := prog_20_method_79_code
def yX4_fullShare : MethodName := ⟨RX4, "fullShare", "()F"⟩
def dkwX4_fullShare_3 : List UInt8 := [167, 255, 224, 132, 2, 1, 167, 255, 206, 27, 134, 42, 182, 0, 186, 134, 110, 174]
abbrev dktX4_fullShare_3 : List UInt8 := dkwX4_fullShare_3 ++ []
def dkwX4_fullShare_2 : List UInt8 := [162, 0, 26, 27, 42, 28, 29, 182, 0, 116, 153, 0, 7, 4, 167, 0, 4, 3, 96, 60, 132, 3, 1]
abbrev dktX4_fullShare_2 : List UInt8 := dkwX4_fullShare_2 ++ dktX4_fullShare_3
def dkwX4_fullShare_1 : List UInt8 := [61, 28, 42, 180, 0, 7, 4, 46, 162, 0, 46, 3, 62, 29, 42, 28, 6, 182, 0, 76, 4, 100]
abbrev dktX4_fullShare_1 : List UInt8 := dkwX4_fullShare_1 ++ dktX4_fullShare_2
def dkwX4_fullShare_0 : List UInt8 := [42, 42, 182, 0, 186, 154, 0, 7, 4, 167, 0, 4, 3, 182, 0, 92, 153, 0, 5, 11, 174, 3, 60, 3]
abbrev dktX4_fullShare_0 : List UInt8 := dkwX4_fullShare_0 ++ dktX4_fullShare_1
theorem dksX4_fullShare_0 : cX4_fullShare.data.toList.drop 0 = dktX4_fullShare_0 := by decide +kernel
theorem dksX4_fullShare_1 : cX4_fullShare.data.toList.drop 24 = dktX4_fullShare_1 := dk_seg dksX4_fullShare_0 24 rfl rfl
theorem dksX4_fullShare_2 : cX4_fullShare.data.toList.drop 46 = dktX4_fullShare_2 := dk_seg dksX4_fullShare_1 22 rfl rfl
theorem dksX4_fullShare_3 : cX4_fullShare.data.toList.drop 69 = dktX4_fullShare_3 := dk_seg dksX4_fullShare_2 23 rfl rfl
theorem dX4_fullShare_0 : decode cX4_fullShare 0 = .ok (.aload_n 0, 1) := dk_42 (dk_at dksX4_fullShare_0 0 rfl rfl)
theorem dX4_fullShare_1 : decode cX4_fullShare 1 = .ok (.aload_n 0, 1) := dk_42 (dk_at dksX4_fullShare_0 1 rfl rfl)
theorem dX4_fullShare_2 : decode cX4_fullShare 2 = .ok (.invokevirtual 186, 3) := dk_182 0 186 (dk_at dksX4_fullShare_0 2 rfl rfl)
theorem dX4_fullShare_5 : decode cX4_fullShare 5 = .ok (.ifCond .ne 7, 3) := dk_154 0 7 (dk_at dksX4_fullShare_0 5 rfl rfl)
theorem dX4_fullShare_8 : decode cX4_fullShare 8 = .ok (.iconst 1, 1) := dk_4 (dk_at dksX4_fullShare_0 8 rfl rfl)
theorem dX4_fullShare_9 : decode cX4_fullShare 9 = .ok (.goto 4, 3) := dk_167 0 4 (dk_at dksX4_fullShare_0 9 rfl rfl)
theorem dX4_fullShare_12 : decode cX4_fullShare 12 = .ok (.iconst 0, 1) := dk_3 (dk_at dksX4_fullShare_0 12 rfl rfl)
theorem dX4_fullShare_13 : decode cX4_fullShare 13 = .ok (.invokevirtual 92, 3) := dk_182 0 92 (dk_at dksX4_fullShare_0 13 rfl rfl)
theorem dX4_fullShare_16 : decode cX4_fullShare 16 = .ok (.ifCond .eq 5, 3) := dk_153 0 5 (dk_at dksX4_fullShare_0 16 rfl rfl)
theorem dX4_fullShare_19 : decode cX4_fullShare 19 = .ok (.fconst 0, 1) := dk_11 (dk_at dksX4_fullShare_0 19 rfl rfl)
theorem dX4_fullShare_20 : decode cX4_fullShare 20 = .ok (.freturn, 1) := dk_174 (dk_at dksX4_fullShare_0 20 rfl rfl)
theorem dX4_fullShare_21 : decode cX4_fullShare 21 = .ok (.iconst 0, 1) := dk_3 (dk_at dksX4_fullShare_0 21 rfl rfl)
theorem dX4_fullShare_22 : decode cX4_fullShare 22 = .ok (.istore_n 1, 1) := dk_60 (dk_at dksX4_fullShare_0 22 rfl rfl)
theorem dX4_fullShare_23 : decode cX4_fullShare 23 = .ok (.iconst 0, 1) := dk_3 (dk_at dksX4_fullShare_0 23 rfl rfl)
theorem dX4_fullShare_24 : decode cX4_fullShare 24 = .ok (.istore_n 2, 1) := dk_61 (dk_at dksX4_fullShare_1 0 rfl rfl)
theorem dX4_fullShare_25 : decode cX4_fullShare 25 = .ok (.iload_n 2, 1) := dk_28 (dk_at dksX4_fullShare_1 1 rfl rfl)
theorem dX4_fullShare_26 : decode cX4_fullShare 26 = .ok (.aload_n 0, 1) := dk_42 (dk_at dksX4_fullShare_1 2 rfl rfl)
theorem dX4_fullShare_27 : decode cX4_fullShare 27 = .ok (.getfield 7, 3) := dk_180 0 7 (dk_at dksX4_fullShare_1 3 rfl rfl)
theorem dX4_fullShare_30 : decode cX4_fullShare 30 = .ok (.iconst 1, 1) := dk_4 (dk_at dksX4_fullShare_1 6 rfl rfl)
theorem dX4_fullShare_31 : decode cX4_fullShare 31 = .ok (.iaload, 1) := dk_46 (dk_at dksX4_fullShare_1 7 rfl rfl)
theorem dX4_fullShare_32 : decode cX4_fullShare 32 = .ok (.if_icmp .ge 46, 3) := dk_162 0 46 (dk_at dksX4_fullShare_1 8 rfl rfl)
theorem dX4_fullShare_35 : decode cX4_fullShare 35 = .ok (.iconst 0, 1) := dk_3 (dk_at dksX4_fullShare_1 11 rfl rfl)
theorem dX4_fullShare_36 : decode cX4_fullShare 36 = .ok (.istore_n 3, 1) := dk_62 (dk_at dksX4_fullShare_1 12 rfl rfl)
theorem dX4_fullShare_37 : decode cX4_fullShare 37 = .ok (.iload_n 3, 1) := dk_29 (dk_at dksX4_fullShare_1 13 rfl rfl)
theorem dX4_fullShare_38 : decode cX4_fullShare 38 = .ok (.aload_n 0, 1) := dk_42 (dk_at dksX4_fullShare_1 14 rfl rfl)
theorem dX4_fullShare_39 : decode cX4_fullShare 39 = .ok (.iload_n 2, 1) := dk_28 (dk_at dksX4_fullShare_1 15 rfl rfl)
theorem dX4_fullShare_40 : decode cX4_fullShare 40 = .ok (.iconst 3, 1) := dk_6 (dk_at dksX4_fullShare_1 16 rfl rfl)
theorem dX4_fullShare_41 : decode cX4_fullShare 41 = .ok (.invokevirtual 76, 3) := dk_182 0 76 (dk_at dksX4_fullShare_1 17 rfl rfl)
theorem dX4_fullShare_44 : decode cX4_fullShare 44 = .ok (.iconst 1, 1) := dk_4 (dk_at dksX4_fullShare_1 20 rfl rfl)
theorem dX4_fullShare_45 : decode cX4_fullShare 45 = .ok (.isub, 1) := dk_100 (dk_at dksX4_fullShare_1 21 rfl rfl)
theorem dX4_fullShare_46 : decode cX4_fullShare 46 = .ok (.if_icmp .ge 26, 3) := dk_162 0 26 (dk_at dksX4_fullShare_2 0 rfl rfl)
theorem dX4_fullShare_49 : decode cX4_fullShare 49 = .ok (.iload_n 1, 1) := dk_27 (dk_at dksX4_fullShare_2 3 rfl rfl)
theorem dX4_fullShare_50 : decode cX4_fullShare 50 = .ok (.aload_n 0, 1) := dk_42 (dk_at dksX4_fullShare_2 4 rfl rfl)
theorem dX4_fullShare_51 : decode cX4_fullShare 51 = .ok (.iload_n 2, 1) := dk_28 (dk_at dksX4_fullShare_2 5 rfl rfl)
theorem dX4_fullShare_52 : decode cX4_fullShare 52 = .ok (.iload_n 3, 1) := dk_29 (dk_at dksX4_fullShare_2 6 rfl rfl)
theorem dX4_fullShare_53 : decode cX4_fullShare 53 = .ok (.invokevirtual 116, 3) := dk_182 0 116 (dk_at dksX4_fullShare_2 7 rfl rfl)
theorem dX4_fullShare_56 : decode cX4_fullShare 56 = .ok (.ifCond .eq 7, 3) := dk_153 0 7 (dk_at dksX4_fullShare_2 10 rfl rfl)
theorem dX4_fullShare_59 : decode cX4_fullShare 59 = .ok (.iconst 1, 1) := dk_4 (dk_at dksX4_fullShare_2 13 rfl rfl)
theorem dX4_fullShare_60 : decode cX4_fullShare 60 = .ok (.goto 4, 3) := dk_167 0 4 (dk_at dksX4_fullShare_2 14 rfl rfl)
theorem dX4_fullShare_63 : decode cX4_fullShare 63 = .ok (.iconst 0, 1) := dk_3 (dk_at dksX4_fullShare_2 17 rfl rfl)
theorem dX4_fullShare_64 : decode cX4_fullShare 64 = .ok (.iadd, 1) := dk_96 (dk_at dksX4_fullShare_2 18 rfl rfl)
theorem dX4_fullShare_65 : decode cX4_fullShare 65 = .ok (.istore_n 1, 1) := dk_60 (dk_at dksX4_fullShare_2 19 rfl rfl)
theorem dX4_fullShare_66 : decode cX4_fullShare 66 = .ok (.iinc 3 1, 3) := dk_132 3 1 (dk_at dksX4_fullShare_2 20 rfl rfl)
theorem dX4_fullShare_69 : decode cX4_fullShare 69 = .ok (.goto (-32), 3) := dk_167 255 224 (dk_at dksX4_fullShare_3 0 rfl rfl)
theorem dX4_fullShare_72 : decode cX4_fullShare 72 = .ok (.iinc 2 1, 3) := dk_132 2 1 (dk_at dksX4_fullShare_3 3 rfl rfl)
theorem dX4_fullShare_75 : decode cX4_fullShare 75 = .ok (.goto (-50), 3) := dk_167 255 206 (dk_at dksX4_fullShare_3 6 rfl rfl)
theorem dX4_fullShare_78 : decode cX4_fullShare 78 = .ok (.iload_n 1, 1) := dk_27 (dk_at dksX4_fullShare_3 9 rfl rfl)
theorem dX4_fullShare_79 : decode cX4_fullShare 79 = .ok (.i2f, 1) := dk_134 (dk_at dksX4_fullShare_3 10 rfl rfl)
theorem dX4_fullShare_80 : decode cX4_fullShare 80 = .ok (.aload_n 0, 1) := dk_42 (dk_at dksX4_fullShare_3 11 rfl rfl)
theorem dX4_fullShare_81 : decode cX4_fullShare 81 = .ok (.invokevirtual 186, 3) := dk_182 0 186 (dk_at dksX4_fullShare_3 12 rfl rfl)
theorem dX4_fullShare_84 : decode cX4_fullShare 84 = .ok (.i2f, 1) := dk_134 (dk_at dksX4_fullShare_3 15 rfl rfl)
theorem dX4_fullShare_85 : decode cX4_fullShare 85 = .ok (.fdiv, 1) := dk_110 (dk_at dksX4_fullShare_3 16 rfl rfl)
theorem dX4_fullShare_86 : decode cX4_fullShare 86 = .ok (.freturn, 1) := dk_174 (dk_at dksX4_fullShare_3 17 rfl rfl)
abbrev cX4_isConsistent : ByteArray := prog_20_method_80_code
def yX4_isConsistent : MethodName := ⟨RX4, "isConsistent", "()Z"⟩
def dkwX4_isConsistent_2 : List UInt8 := [172, 132, 2, 1, 167, 255, 224, 132, 1, 1, 167, 255, 206, 4, 172]
abbrev dktX4_isConsistent_2 : List UInt8 := dkwX4_isConsistent_2 ++ []
def dkwX4_isConsistent_1 : List UInt8 := [182, 0, 76, 4, 100, 162, 0, 26, 42, 27, 28, 182, 0, 89, 42, 27, 3, 182, 0, 76, 164, 0, 5, 3]
abbrev dktX4_isConsistent_1 : List UInt8 := dkwX4_isConsistent_1 ++ dktX4_isConsistent_2
def dkwX4_isConsistent_0 : List UInt8 := [42, 3, 181, 0, 54, 3, 60, 27, 42, 180, 0, 7, 4, 46, 162, 0, 46, 3, 61, 28, 42, 27, 6]
abbrev dktX4_isConsistent_0 : List UInt8 := dkwX4_isConsistent_0 ++ dktX4_isConsistent_1
theorem dksX4_isConsistent_0 : cX4_isConsistent.data.toList.drop 0 = dktX4_isConsistent_0 := by decide +kernel
theorem dksX4_isConsistent_1 : cX4_isConsistent.data.toList.drop 23 = dktX4_isConsistent_1 := dk_seg dksX4_isConsistent_0 23 rfl rfl
theorem dksX4_isConsistent_2 : cX4_isConsistent.data.toList.drop 47 = dktX4_isConsistent_2 := dk_seg dksX4_isConsistent_1 24 rfl rfl
theorem dX4_isConsistent_0 : decode cX4_isConsistent 0 = .ok (.aload_n 0, 1) := dk_42 (dk_at dksX4_isConsistent_0 0 rfl rfl)
theorem dX4_isConsistent_1 : decode cX4_isConsistent 1 = .ok (.iconst 0, 1) := dk_3 (dk_at dksX4_isConsistent_0 1 rfl rfl)
theorem dX4_isConsistent_2 : decode cX4_isConsistent 2 = .ok (.putfield 54, 3) := dk_181 0 54 (dk_at dksX4_isConsistent_0 2 rfl rfl)
theorem dX4_isConsistent_5 : decode cX4_isConsistent 5 = .ok (.iconst 0, 1) := dk_3 (dk_at dksX4_isConsistent_0 5 rfl rfl)
theorem dX4_isConsistent_6 : decode cX4_isConsistent 6 = .ok (.istore_n 1, 1) := dk_60 (dk_at dksX4_isConsistent_0 6 rfl rfl)
theorem dX4_isConsistent_7 : decode cX4_isConsistent 7 = .ok (.iload_n 1, 1) := dk_27 (dk_at dksX4_isConsistent_0 7 rfl rfl)
theorem dX4_isConsistent_8 : decode cX4_isConsistent 8 = .ok (.aload_n 0, 1) := dk_42 (dk_at dksX4_isConsistent_0 8 rfl rfl)
theorem dX4_isConsistent_9 : decode cX4_isConsistent 9 = .ok (.getfield 7, 3) := dk_180 0 7 (dk_at dksX4_isConsistent_0 9 rfl rfl)
theorem dX4_isConsistent_12 : decode cX4_isConsistent 12 = .ok (.iconst 1, 1) := dk_4 (dk_at dksX4_isConsistent_0 12 rfl rfl)
theorem dX4_isConsistent_13 : decode cX4_isConsistent 13 = .ok (.iaload, 1) := dk_46 (dk_at dksX4_isConsistent_0 13 rfl rfl)
theorem dX4_isConsistent_14 : decode cX4_isConsistent 14 = .ok (.if_icmp .ge 46, 3) := dk_162 0 46 (dk_at dksX4_isConsistent_0 14 rfl rfl)
theorem dX4_isConsistent_17 : decode cX4_isConsistent 17 = .ok (.iconst 0, 1) := dk_3 (dk_at dksX4_isConsistent_0 17 rfl rfl)
theorem dX4_isConsistent_18 : decode cX4_isConsistent 18 = .ok (.istore_n 2, 1) := dk_61 (dk_at dksX4_isConsistent_0 18 rfl rfl)
theorem dX4_isConsistent_19 : decode cX4_isConsistent 19 = .ok (.iload_n 2, 1) := dk_28 (dk_at dksX4_isConsistent_0 19 rfl rfl)
theorem dX4_isConsistent_20 : decode cX4_isConsistent 20 = .ok (.aload_n 0, 1) := dk_42 (dk_at dksX4_isConsistent_0 20 rfl rfl)
theorem dX4_isConsistent_21 : decode cX4_isConsistent 21 = .ok (.iload_n 1, 1) := dk_27 (dk_at dksX4_isConsistent_0 21 rfl rfl)
theorem dX4_isConsistent_22 : decode cX4_isConsistent 22 = .ok (.iconst 3, 1) := dk_6 (dk_at dksX4_isConsistent_0 22 rfl rfl)
theorem dX4_isConsistent_23 : decode cX4_isConsistent 23 = .ok (.invokevirtual 76, 3) := dk_182 0 76 (dk_at dksX4_isConsistent_1 0 rfl rfl)
theorem dX4_isConsistent_26 : decode cX4_isConsistent 26 = .ok (.iconst 1, 1) := dk_4 (dk_at dksX4_isConsistent_1 3 rfl rfl)
theorem dX4_isConsistent_27 : decode cX4_isConsistent 27 = .ok (.isub, 1) := dk_100 (dk_at dksX4_isConsistent_1 4 rfl rfl)
theorem dX4_isConsistent_28 : decode cX4_isConsistent 28 = .ok (.if_icmp .ge 26, 3) := dk_162 0 26 (dk_at dksX4_isConsistent_1 5 rfl rfl)
theorem dX4_isConsistent_31 : decode cX4_isConsistent 31 = .ok (.aload_n 0, 1) := dk_42 (dk_at dksX4_isConsistent_1 8 rfl rfl)
theorem dX4_isConsistent_32 : decode cX4_isConsistent 32 = .ok (.iload_n 1, 1) := dk_27 (dk_at dksX4_isConsistent_1 9 rfl rfl)
theorem dX4_isConsistent_33 : decode cX4_isConsistent 33 = .ok (.iload_n 2, 1) := dk_28 (dk_at dksX4_isConsistent_1 10 rfl rfl)
theorem dX4_isConsistent_34 : decode cX4_isConsistent 34 = .ok (.invokevirtual 89, 3) := dk_182 0 89 (dk_at dksX4_isConsistent_1 11 rfl rfl)
theorem dX4_isConsistent_37 : decode cX4_isConsistent 37 = .ok (.aload_n 0, 1) := dk_42 (dk_at dksX4_isConsistent_1 14 rfl rfl)
theorem dX4_isConsistent_38 : decode cX4_isConsistent 38 = .ok (.iload_n 1, 1) := dk_27 (dk_at dksX4_isConsistent_1 15 rfl rfl)
theorem dX4_isConsistent_39 : decode cX4_isConsistent 39 = .ok (.iconst 0, 1) := dk_3 (dk_at dksX4_isConsistent_1 16 rfl rfl)
theorem dX4_isConsistent_40 : decode cX4_isConsistent 40 = .ok (.invokevirtual 76, 3) := dk_182 0 76 (dk_at dksX4_isConsistent_1 17 rfl rfl)
theorem dX4_isConsistent_43 : decode cX4_isConsistent 43 = .ok (.if_icmp .le 5, 3) := dk_164 0 5 (dk_at dksX4_isConsistent_1 20 rfl rfl)
theorem dX4_isConsistent_46 : decode cX4_isConsistent 46 = .ok (.iconst 0, 1) := dk_3 (dk_at dksX4_isConsistent_1 23 rfl rfl)
theorem dX4_isConsistent_47 : decode cX4_isConsistent 47 = .ok (.ireturn, 1) := dk_172 (dk_at dksX4_isConsistent_2 0 rfl rfl)
theorem dX4_isConsistent_48 : decode cX4_isConsistent 48 = .ok (.iinc 2 1, 3) := dk_132 2 1 (dk_at dksX4_isConsistent_2 1 rfl rfl)
theorem dX4_isConsistent_51 : decode cX4_isConsistent 51 = .ok (.goto (-32), 3) := dk_167 255 224 (dk_at dksX4_isConsistent_2 4 rfl rfl)
theorem dX4_isConsistent_54 : decode cX4_isConsistent 54 = .ok (.iinc 1 1, 3) := dk_132 1 1 (dk_at dksX4_isConsistent_2 7 rfl rfl)
theorem dX4_isConsistent_57 : decode cX4_isConsistent 57 = .ok (.goto (-50), 3) := dk_167 255 206 (dk_at dksX4_isConsistent_2 10 rfl rfl)
theorem dX4_isConsistent_60 : decode cX4_isConsistent 60 = .ok (.iconst 1, 1) := dk_4 (dk_at dksX4_isConsistent_2 13 rfl rfl)
theorem dX4_isConsistent_61 : decode cX4_isConsistent 61 = .ok (.ireturn, 1) := dk_172 (dk_at dksX4_isConsistent_2 14 rfl rfl)
abbrev cX4_renderTrain : ByteArray := prog_20_method_84_code
def yX4_renderTrain : MethodName := ⟨RX4, "renderTrain", "(I)I"⟩
def dkwX4_renderTrain_4 : List UInt8 := [158, 0, 15, 42, 16, 43, 42, 27, 5, 182, 0, 76, 182, 0, 199, 42, 180, 0, 190, 172]
abbrev dktX4_renderTrain_4 : List UInt8 := dkwX4_renderTrain_4 ++ []
def dkwX4_renderTrain_3 : List UInt8 := [16, 45, 42, 27, 28, 182, 0, 102, 182, 0, 199, 132, 2, 1, 167, 255, 217, 42, 27, 5, 182, 0, 76]
abbrev dktX4_renderTrain_3 : List UInt8 := dkwX4_renderTrain_3 ++ dktX4_renderTrain_4
def dkwX4_renderTrain_2 : List UInt8 := [27, 6, 182, 0, 76, 162, 0, 35, 42, 16, 45, 42, 27, 28, 4, 100, 182, 0, 89, 182, 0, 199, 42]
abbrev dktX4_renderTrain_2 : List UInt8 := dkwX4_renderTrain_2 ++ dktX4_renderTrain_3
def dkwX4_renderTrain_1 : List UInt8 := [181, 0, 190, 42, 27, 182, 0, 193, 42, 16, 58, 42, 27, 3, 182, 0, 102, 182, 0, 199, 4, 61, 28, 42]
abbrev dktX4_renderTrain_1 : List UInt8 := dkwX4_renderTrain_1 ++ dktX4_renderTrain_2
def dkwX4_renderTrain_0 : List UInt8 := [42, 42, 27, 182, 0, 72, 153, 0, 7, 3, 167, 0, 4, 4, 182, 0, 92, 153, 0, 5, 3, 172, 42, 3]
abbrev dktX4_renderTrain_0 : List UInt8 := dkwX4_renderTrain_0 ++ dktX4_renderTrain_1
theorem dksX4_renderTrain_0 : cX4_renderTrain.data.toList.drop 0 = dktX4_renderTrain_0 := by decide +kernel
theorem dksX4_renderTrain_1 : cX4_renderTrain.data.toList.drop 24 = dktX4_renderTrain_1 := dk_seg dksX4_renderTrain_0 24 rfl rfl
theorem dksX4_renderTrain_2 : cX4_renderTrain.data.toList.drop 48 = dktX4_renderTrain_2 := dk_seg dksX4_renderTrain_1 24 rfl rfl
theorem dksX4_renderTrain_3 : cX4_renderTrain.data.toList.drop 71 = dktX4_renderTrain_3 := dk_seg dksX4_renderTrain_2 23 rfl rfl
theorem dksX4_renderTrain_4 : cX4_renderTrain.data.toList.drop 94 = dktX4_renderTrain_4 := dk_seg dksX4_renderTrain_3 23 rfl rfl
theorem dX4_renderTrain_0 : decode cX4_renderTrain 0 = .ok (.aload_n 0, 1) := dk_42 (dk_at dksX4_renderTrain_0 0 rfl rfl)
theorem dX4_renderTrain_1 : decode cX4_renderTrain 1 = .ok (.aload_n 0, 1) := dk_42 (dk_at dksX4_renderTrain_0 1 rfl rfl)
theorem dX4_renderTrain_2 : decode cX4_renderTrain 2 = .ok (.iload_n 1, 1) := dk_27 (dk_at dksX4_renderTrain_0 2 rfl rfl)
theorem dX4_renderTrain_3 : decode cX4_renderTrain 3 = .ok (.invokevirtual 72, 3) := dk_182 0 72 (dk_at dksX4_renderTrain_0 3 rfl rfl)
theorem dX4_renderTrain_6 : decode cX4_renderTrain 6 = .ok (.ifCond .eq 7, 3) := dk_153 0 7 (dk_at dksX4_renderTrain_0 6 rfl rfl)
theorem dX4_renderTrain_9 : decode cX4_renderTrain 9 = .ok (.iconst 0, 1) := dk_3 (dk_at dksX4_renderTrain_0 9 rfl rfl)
theorem dX4_renderTrain_10 : decode cX4_renderTrain 10 = .ok (.goto 4, 3) := dk_167 0 4 (dk_at dksX4_renderTrain_0 10 rfl rfl)
theorem dX4_renderTrain_13 : decode cX4_renderTrain 13 = .ok (.iconst 1, 1) := dk_4 (dk_at dksX4_renderTrain_0 13 rfl rfl)
theorem dX4_renderTrain_14 : decode cX4_renderTrain 14 = .ok (.invokevirtual 92, 3) := dk_182 0 92 (dk_at dksX4_renderTrain_0 14 rfl rfl)
theorem dX4_renderTrain_17 : decode cX4_renderTrain 17 = .ok (.ifCond .eq 5, 3) := dk_153 0 5 (dk_at dksX4_renderTrain_0 17 rfl rfl)
theorem dX4_renderTrain_20 : decode cX4_renderTrain 20 = .ok (.iconst 0, 1) := dk_3 (dk_at dksX4_renderTrain_0 20 rfl rfl)
theorem dX4_renderTrain_21 : decode cX4_renderTrain 21 = .ok (.ireturn, 1) := dk_172 (dk_at dksX4_renderTrain_0 21 rfl rfl)
theorem dX4_renderTrain_22 : decode cX4_renderTrain 22 = .ok (.aload_n 0, 1) := dk_42 (dk_at dksX4_renderTrain_0 22 rfl rfl)
theorem dX4_renderTrain_23 : decode cX4_renderTrain 23 = .ok (.iconst 0, 1) := dk_3 (dk_at dksX4_renderTrain_0 23 rfl rfl)
theorem dX4_renderTrain_24 : decode cX4_renderTrain 24 = .ok (.putfield 190, 3) := dk_181 0 190 (dk_at dksX4_renderTrain_1 0 rfl rfl)
theorem dX4_renderTrain_27 : decode cX4_renderTrain 27 = .ok (.aload_n 0, 1) := dk_42 (dk_at dksX4_renderTrain_1 3 rfl rfl)
theorem dX4_renderTrain_28 : decode cX4_renderTrain 28 = .ok (.iload_n 1, 1) := dk_27 (dk_at dksX4_renderTrain_1 4 rfl rfl)
theorem dX4_renderTrain_29 : decode cX4_renderTrain 29 = .ok (.invokevirtual 193, 3) := dk_182 0 193 (dk_at dksX4_renderTrain_1 5 rfl rfl)
theorem dX4_renderTrain_32 : decode cX4_renderTrain 32 = .ok (.aload_n 0, 1) := dk_42 (dk_at dksX4_renderTrain_1 8 rfl rfl)
theorem dX4_renderTrain_33 : decode cX4_renderTrain 33 = .ok (.bipush 58, 2) := dk_16 58 (dk_at dksX4_renderTrain_1 9 rfl rfl)
theorem dX4_renderTrain_35 : decode cX4_renderTrain 35 = .ok (.aload_n 0, 1) := dk_42 (dk_at dksX4_renderTrain_1 11 rfl rfl)
theorem dX4_renderTrain_36 : decode cX4_renderTrain 36 = .ok (.iload_n 1, 1) := dk_27 (dk_at dksX4_renderTrain_1 12 rfl rfl)
theorem dX4_renderTrain_37 : decode cX4_renderTrain 37 = .ok (.iconst 0, 1) := dk_3 (dk_at dksX4_renderTrain_1 13 rfl rfl)
theorem dX4_renderTrain_38 : decode cX4_renderTrain 38 = .ok (.invokevirtual 102, 3) := dk_182 0 102 (dk_at dksX4_renderTrain_1 14 rfl rfl)
theorem dX4_renderTrain_41 : decode cX4_renderTrain 41 = .ok (.invokevirtual 199, 3) := dk_182 0 199 (dk_at dksX4_renderTrain_1 17 rfl rfl)
theorem dX4_renderTrain_44 : decode cX4_renderTrain 44 = .ok (.iconst 1, 1) := dk_4 (dk_at dksX4_renderTrain_1 20 rfl rfl)
theorem dX4_renderTrain_45 : decode cX4_renderTrain 45 = .ok (.istore_n 2, 1) := dk_61 (dk_at dksX4_renderTrain_1 21 rfl rfl)
theorem dX4_renderTrain_46 : decode cX4_renderTrain 46 = .ok (.iload_n 2, 1) := dk_28 (dk_at dksX4_renderTrain_1 22 rfl rfl)
theorem dX4_renderTrain_47 : decode cX4_renderTrain 47 = .ok (.aload_n 0, 1) := dk_42 (dk_at dksX4_renderTrain_1 23 rfl rfl)
theorem dX4_renderTrain_48 : decode cX4_renderTrain 48 = .ok (.iload_n 1, 1) := dk_27 (dk_at dksX4_renderTrain_2 0 rfl rfl)
theorem dX4_renderTrain_49 : decode cX4_renderTrain 49 = .ok (.iconst 3, 1) := dk_6 (dk_at dksX4_renderTrain_2 1 rfl rfl)
theorem dX4_renderTrain_50 : decode cX4_renderTrain 50 = .ok (.invokevirtual 76, 3) := dk_182 0 76 (dk_at dksX4_renderTrain_2 2 rfl rfl)
theorem dX4_renderTrain_53 : decode cX4_renderTrain 53 = .ok (.if_icmp .ge 35, 3) := dk_162 0 35 (dk_at dksX4_renderTrain_2 5 rfl rfl)
theorem dX4_renderTrain_56 : decode cX4_renderTrain 56 = .ok (.aload_n 0, 1) := dk_42 (dk_at dksX4_renderTrain_2 8 rfl rfl)
theorem dX4_renderTrain_57 : decode cX4_renderTrain 57 = .ok (.bipush 45, 2) := dk_16 45 (dk_at dksX4_renderTrain_2 9 rfl rfl)
theorem dX4_renderTrain_59 : decode cX4_renderTrain 59 = .ok (.aload_n 0, 1) := dk_42 (dk_at dksX4_renderTrain_2 11 rfl rfl)
theorem dX4_renderTrain_60 : decode cX4_renderTrain 60 = .ok (.iload_n 1, 1) := dk_27 (dk_at dksX4_renderTrain_2 12 rfl rfl)
theorem dX4_renderTrain_61 : decode cX4_renderTrain 61 = .ok (.iload_n 2, 1) := dk_28 (dk_at dksX4_renderTrain_2 13 rfl rfl)
theorem dX4_renderTrain_62 : decode cX4_renderTrain 62 = .ok (.iconst 1, 1) := dk_4 (dk_at dksX4_renderTrain_2 14 rfl rfl)
theorem dX4_renderTrain_63 : decode cX4_renderTrain 63 = .ok (.isub, 1) := dk_100 (dk_at dksX4_renderTrain_2 15 rfl rfl)
theorem dX4_renderTrain_64 : decode cX4_renderTrain 64 = .ok (.invokevirtual 89, 3) := dk_182 0 89 (dk_at dksX4_renderTrain_2 16 rfl rfl)
theorem dX4_renderTrain_67 : decode cX4_renderTrain 67 = .ok (.invokevirtual 199, 3) := dk_182 0 199 (dk_at dksX4_renderTrain_2 19 rfl rfl)
theorem dX4_renderTrain_70 : decode cX4_renderTrain 70 = .ok (.aload_n 0, 1) := dk_42 (dk_at dksX4_renderTrain_2 22 rfl rfl)
theorem dX4_renderTrain_71 : decode cX4_renderTrain 71 = .ok (.bipush 45, 2) := dk_16 45 (dk_at dksX4_renderTrain_3 0 rfl rfl)
theorem dX4_renderTrain_73 : decode cX4_renderTrain 73 = .ok (.aload_n 0, 1) := dk_42 (dk_at dksX4_renderTrain_3 2 rfl rfl)
theorem dX4_renderTrain_74 : decode cX4_renderTrain 74 = .ok (.iload_n 1, 1) := dk_27 (dk_at dksX4_renderTrain_3 3 rfl rfl)
theorem dX4_renderTrain_75 : decode cX4_renderTrain 75 = .ok (.iload_n 2, 1) := dk_28 (dk_at dksX4_renderTrain_3 4 rfl rfl)
theorem dX4_renderTrain_76 : decode cX4_renderTrain 76 = .ok (.invokevirtual 102, 3) := dk_182 0 102 (dk_at dksX4_renderTrain_3 5 rfl rfl)
theorem dX4_renderTrain_79 : decode cX4_renderTrain 79 = .ok (.invokevirtual 199, 3) := dk_182 0 199 (dk_at dksX4_renderTrain_3 8 rfl rfl)
theorem dX4_renderTrain_82 : decode cX4_renderTrain 82 = .ok (.iinc 2 1, 3) := dk_132 2 1 (dk_at dksX4_renderTrain_3 11 rfl rfl)
theorem dX4_renderTrain_85 : decode cX4_renderTrain 85 = .ok (.goto (-39), 3) := dk_167 255 217 (dk_at dksX4_renderTrain_3 14 rfl rfl)
theorem dX4_renderTrain_88 : decode cX4_renderTrain 88 = .ok (.aload_n 0, 1) := dk_42 (dk_at dksX4_renderTrain_3 17 rfl rfl)
theorem dX4_renderTrain_89 : decode cX4_renderTrain 89 = .ok (.iload_n 1, 1) := dk_27 (dk_at dksX4_renderTrain_3 18 rfl rfl)
theorem dX4_renderTrain_90 : decode cX4_renderTrain 90 = .ok (.iconst 2, 1) := dk_5 (dk_at dksX4_renderTrain_3 19 rfl rfl)
theorem dX4_renderTrain_91 : decode cX4_renderTrain 91 = .ok (.invokevirtual 76, 3) := dk_182 0 76 (dk_at dksX4_renderTrain_3 20 rfl rfl)
theorem dX4_renderTrain_94 : decode cX4_renderTrain 94 = .ok (.ifCond .le 15, 3) := dk_158 0 15 (dk_at dksX4_renderTrain_4 0 rfl rfl)
theorem dX4_renderTrain_97 : decode cX4_renderTrain 97 = .ok (.aload_n 0, 1) := dk_42 (dk_at dksX4_renderTrain_4 3 rfl rfl)
theorem dX4_renderTrain_98 : decode cX4_renderTrain 98 = .ok (.bipush 43, 2) := dk_16 43 (dk_at dksX4_renderTrain_4 4 rfl rfl)
theorem dX4_renderTrain_100 : decode cX4_renderTrain 100 = .ok (.aload_n 0, 1) := dk_42 (dk_at dksX4_renderTrain_4 6 rfl rfl)
theorem dX4_renderTrain_101 : decode cX4_renderTrain 101 = .ok (.iload_n 1, 1) := dk_27 (dk_at dksX4_renderTrain_4 7 rfl rfl)
theorem dX4_renderTrain_102 : decode cX4_renderTrain 102 = .ok (.iconst 2, 1) := dk_5 (dk_at dksX4_renderTrain_4 8 rfl rfl)
theorem dX4_renderTrain_103 : decode cX4_renderTrain 103 = .ok (.invokevirtual 76, 3) := dk_182 0 76 (dk_at dksX4_renderTrain_4 9 rfl rfl)
theorem dX4_renderTrain_106 : decode cX4_renderTrain 106 = .ok (.invokevirtual 199, 3) := dk_182 0 199 (dk_at dksX4_renderTrain_4 12 rfl rfl)
theorem dX4_renderTrain_109 : decode cX4_renderTrain 109 = .ok (.aload_n 0, 1) := dk_42 (dk_at dksX4_renderTrain_4 15 rfl rfl)
theorem dX4_renderTrain_110 : decode cX4_renderTrain 110 = .ok (.getfield 190, 3) := dk_180 0 190 (dk_at dksX4_renderTrain_4 16 rfl rfl)
theorem dX4_renderTrain_113 : decode cX4_renderTrain 113 = .ok (.ireturn, 1) := dk_172 (dk_at dksX4_renderTrain_4 19 rfl rfl)
abbrev cX4_writesNumber : ByteArray := prog_20_method_82_code
def yX4_writesNumber : MethodName := ⟨RX4, "writesNumber", "(I)V"⟩
def dkwX4_writesNumber_1 : List UInt8 := [182, 0, 196, 177]
abbrev dktX4_writesNumber_1 : List UInt8 := dkwX4_writesNumber_1 ++ []
def dkwX4_writesNumber_0 : List UInt8 := [27, 16, 9, 164, 0, 11, 42, 27, 16, 10, 108, 182, 0, 193, 42, 16, 48, 27, 16, 10, 112, 96]
abbrev dktX4_writesNumber_0 : List UInt8 := dkwX4_writesNumber_0 ++ dktX4_writesNumber_1
theorem dksX4_writesNumber_0 : cX4_writesNumber.data.toList.drop 0 = dktX4_writesNumber_0 := by decide +kernel
theorem dksX4_writesNumber_1 : cX4_writesNumber.data.toList.drop 22 = dktX4_writesNumber_1 := dk_seg dksX4_writesNumber_0 22 rfl rfl
theorem dX4_writesNumber_0 : decode cX4_writesNumber 0 = .ok (.iload_n 1, 1) := dk_27 (dk_at dksX4_writesNumber_0 0 rfl rfl)
theorem dX4_writesNumber_1 : decode cX4_writesNumber 1 = .ok (.bipush 9, 2) := dk_16 9 (dk_at dksX4_writesNumber_0 1 rfl rfl)
theorem dX4_writesNumber_3 : decode cX4_writesNumber 3 = .ok (.if_icmp .le 11, 3) := dk_164 0 11 (dk_at dksX4_writesNumber_0 3 rfl rfl)
theorem dX4_writesNumber_6 : decode cX4_writesNumber 6 = .ok (.aload_n 0, 1) := dk_42 (dk_at dksX4_writesNumber_0 6 rfl rfl)
theorem dX4_writesNumber_7 : decode cX4_writesNumber 7 = .ok (.iload_n 1, 1) := dk_27 (dk_at dksX4_writesNumber_0 7 rfl rfl)
theorem dX4_writesNumber_8 : decode cX4_writesNumber 8 = .ok (.bipush 10, 2) := dk_16 10 (dk_at dksX4_writesNumber_0 8 rfl rfl)
theorem dX4_writesNumber_10 : decode cX4_writesNumber 10 = .ok (.idiv, 1) := dk_108 (dk_at dksX4_writesNumber_0 10 rfl rfl)
theorem dX4_writesNumber_11 : decode cX4_writesNumber 11 = .ok (.invokevirtual 193, 3) := dk_182 0 193 (dk_at dksX4_writesNumber_0 11 rfl rfl)
theorem dX4_writesNumber_14 : decode cX4_writesNumber 14 = .ok (.aload_n 0, 1) := dk_42 (dk_at dksX4_writesNumber_0 14 rfl rfl)
theorem dX4_writesNumber_15 : decode cX4_writesNumber 15 = .ok (.bipush 48, 2) := dk_16 48 (dk_at dksX4_writesNumber_0 15 rfl rfl)
theorem dX4_writesNumber_17 : decode cX4_writesNumber 17 = .ok (.iload_n 1, 1) := dk_27 (dk_at dksX4_writesNumber_0 17 rfl rfl)
theorem dX4_writesNumber_18 : decode cX4_writesNumber 18 = .ok (.bipush 10, 2) := dk_16 10 (dk_at dksX4_writesNumber_0 18 rfl rfl)
theorem dX4_writesNumber_20 : decode cX4_writesNumber 20 = .ok (.irem, 1) := dk_112 (dk_at dksX4_writesNumber_0 20 rfl rfl)
theorem dX4_writesNumber_21 : decode cX4_writesNumber 21 = .ok (.iadd, 1) := dk_96 (dk_at dksX4_writesNumber_0 21 rfl rfl)
theorem dX4_writesNumber_22 : decode cX4_writesNumber 22 = .ok (.invokevirtual 196, 3) := dk_182 0 196 (dk_at dksX4_writesNumber_1 0 rfl rfl)
theorem dX4_writesNumber_25 : decode cX4_writesNumber 25 = .ok (.return_, 1) := dk_177 (dk_at dksX4_writesNumber_1 3 rfl rfl)
abbrev cX4_writes : ByteArray := prog_20_method_81_code
def yX4_writes : MethodName := ⟨RX4, "writes", "(I)V"⟩
def dkwX4_writes_0 : List UInt8 := [42, 180, 0, 32, 42, 180, 0, 190, 27, 146, 85, 42, 89, 180, 0, 190, 4, 96, 181, 0, 190, 177]
abbrev dktX4_writes_0 : List UInt8 := dkwX4_writes_0 ++ []
theorem dksX4_writes_0 : cX4_writes.data.toList.drop 0 = dktX4_writes_0 := by decide +kernel
theorem dX4_writes_0 : decode cX4_writes 0 = .ok (.aload_n 0, 1) := dk_42 (dk_at dksX4_writes_0 0 rfl rfl)
theorem dX4_writes_1 : decode cX4_writes 1 = .ok (.getfield 32, 3) := dk_180 0 32 (dk_at dksX4_writes_0 1 rfl rfl)
theorem dX4_writes_4 : decode cX4_writes 4 = .ok (.aload_n 0, 1) := dk_42 (dk_at dksX4_writes_0 4 rfl rfl)
theorem dX4_writes_5 : decode cX4_writes 5 = .ok (.getfield 190, 3) := dk_180 0 190 (dk_at dksX4_writes_0 5 rfl rfl)
theorem dX4_writes_8 : decode cX4_writes 8 = .ok (.iload_n 1, 1) := dk_27 (dk_at dksX4_writes_0 8 rfl rfl)
theorem dX4_writes_9 : decode cX4_writes 9 = .ok (.i2c, 1) := dk_146 (dk_at dksX4_writes_0 9 rfl rfl)
theorem dX4_writes_10 : decode cX4_writes 10 = .ok (.castore, 1) := dk_85 (dk_at dksX4_writes_0 10 rfl rfl)
theorem dX4_writes_11 : decode cX4_writes 11 = .ok (.aload_n 0, 1) := dk_42 (dk_at dksX4_writes_0 11 rfl rfl)
theorem dX4_writes_12 : decode cX4_writes 12 = .ok (.dup, 1) := dk_89 (dk_at dksX4_writes_0 12 rfl rfl)
theorem dX4_writes_13 : decode cX4_writes 13 = .ok (.getfield 190, 3) := dk_180 0 190 (dk_at dksX4_writes_0 13 rfl rfl)
theorem dX4_writes_16 : decode cX4_writes 16 = .ok (.iconst 1, 1) := dk_4 (dk_at dksX4_writes_0 16 rfl rfl)
theorem dX4_writes_17 : decode cX4_writes 17 = .ok (.iadd, 1) := dk_96 (dk_at dksX4_writes_0 17 rfl rfl)
theorem dX4_writes_18 : decode cX4_writes 18 = .ok (.putfield 190, 3) := dk_181 0 190 (dk_at dksX4_writes_0 18 rfl rfl)
theorem dX4_writes_21 : decode cX4_writes 21 = .ok (.return_, 1) := dk_177 (dk_at dksX4_writes_0 21 rfl rfl)
abbrev cX4_writesBehind : ByteArray := prog_20_method_83_code
def yX4_writesBehind : MethodName := ⟨RX4, "writesBehind", "(II)V"⟩
def dkwX4_writesBehind_0 : List UInt8 := [42, 27, 182, 0, 196, 42, 28, 182, 0, 193, 177]
abbrev dktX4_writesBehind_0 : List UInt8 := dkwX4_writesBehind_0 ++ []
theorem dksX4_writesBehind_0 : cX4_writesBehind.data.toList.drop 0 = dktX4_writesBehind_0 := by decide +kernel
theorem dX4_writesBehind_0 : decode cX4_writesBehind 0 = .ok (.aload_n 0, 1) := dk_42 (dk_at dksX4_writesBehind_0 0 rfl rfl)
theorem dX4_writesBehind_1 : decode cX4_writesBehind 1 = .ok (.iload_n 1, 1) := dk_27 (dk_at dksX4_writesBehind_0 1 rfl rfl)
theorem dX4_writesBehind_2 : decode cX4_writesBehind 2 = .ok (.invokevirtual 196, 3) := dk_182 0 196 (dk_at dksX4_writesBehind_0 2 rfl rfl)
theorem dX4_writesBehind_5 : decode cX4_writesBehind 5 = .ok (.aload_n 0, 1) := dk_42 (dk_at dksX4_writesBehind_0 5 rfl rfl)
theorem dX4_writesBehind_6 : decode cX4_writesBehind 6 = .ok (.iload_n 2, 1) := dk_28 (dk_at dksX4_writesBehind_0 6 rfl rfl)
theorem dX4_writesBehind_7 : decode cX4_writesBehind 7 = .ok (.invokevirtual 193, 3) := dk_182 0 193 (dk_at dksX4_writesBehind_0 7 rfl rfl)
theorem dX4_writesBehind_10 : decode cX4_writesBehind 10 = .ok (.return_, 1) := dk_177 (dk_at dksX4_writesBehind_0 10 rfl rfl)
abbrev cX4_renderSuitcase : ByteArray := prog_20_method_85_code
def yX4_renderSuitcase : MethodName := ⟨RX4, "renderSuitcase", "(I)I"⟩
def dkwX4_renderSuitcase_2 : List UInt8 := [182, 0, 199, 42, 16, 116, 42, 28, 6, 182, 0, 141, 182, 0, 199, 42, 180, 0, 190, 172]
abbrev dktX4_renderSuitcase_2 : List UInt8 := dkwX4_renderSuitcase_2 ++ []
def dkwX4_renderSuitcase_1 : List UInt8 := [182, 0, 193, 42, 16, 64, 42, 28, 4, 182, 0, 141, 182, 0, 199, 42, 16, 62, 42, 28, 5, 182, 0, 141]
abbrev dktX4_renderSuitcase_1 : List UInt8 := dkwX4_renderSuitcase_1 ++ dktX4_renderSuitcase_2
def dkwX4_renderSuitcase_0 : List UInt8 := [42, 27, 182, 0, 148, 153, 0, 5, 3, 172, 42, 27, 182, 0, 144, 61, 42, 3, 181, 0, 190, 42, 27]
abbrev dktX4_renderSuitcase_0 : List UInt8 := dkwX4_renderSuitcase_0 ++ dktX4_renderSuitcase_1
theorem dksX4_renderSuitcase_0 : cX4_renderSuitcase.data.toList.drop 0 = dktX4_renderSuitcase_0 := by decide +kernel
theorem dksX4_renderSuitcase_1 : cX4_renderSuitcase.data.toList.drop 23 = dktX4_renderSuitcase_1 := dk_seg dksX4_renderSuitcase_0 23 rfl rfl
theorem dksX4_renderSuitcase_2 : cX4_renderSuitcase.data.toList.drop 47 = dktX4_renderSuitcase_2 := dk_seg dksX4_renderSuitcase_1 24 rfl rfl
theorem dX4_renderSuitcase_0 : decode cX4_renderSuitcase 0 = .ok (.aload_n 0, 1) := dk_42 (dk_at dksX4_renderSuitcase_0 0 rfl rfl)
theorem dX4_renderSuitcase_1 : decode cX4_renderSuitcase 1 = .ok (.iload_n 1, 1) := dk_27 (dk_at dksX4_renderSuitcase_0 1 rfl rfl)
theorem dX4_renderSuitcase_2 : decode cX4_renderSuitcase 2 = .ok (.invokevirtual 148, 3) := dk_182 0 148 (dk_at dksX4_renderSuitcase_0 2 rfl rfl)
theorem dX4_renderSuitcase_5 : decode cX4_renderSuitcase 5 = .ok (.ifCond .eq 5, 3) := dk_153 0 5 (dk_at dksX4_renderSuitcase_0 5 rfl rfl)
theorem dX4_renderSuitcase_8 : decode cX4_renderSuitcase 8 = .ok (.iconst 0, 1) := dk_3 (dk_at dksX4_renderSuitcase_0 8 rfl rfl)
theorem dX4_renderSuitcase_9 : decode cX4_renderSuitcase 9 = .ok (.ireturn, 1) := dk_172 (dk_at dksX4_renderSuitcase_0 9 rfl rfl)
theorem dX4_renderSuitcase_10 : decode cX4_renderSuitcase 10 = .ok (.aload_n 0, 1) := dk_42 (dk_at dksX4_renderSuitcase_0 10 rfl rfl)
theorem dX4_renderSuitcase_11 : decode cX4_renderSuitcase 11 = .ok (.iload_n 1, 1) := dk_27 (dk_at dksX4_renderSuitcase_0 11 rfl rfl)
theorem dX4_renderSuitcase_12 : decode cX4_renderSuitcase 12 = .ok (.invokevirtual 144, 3) := dk_182 0 144 (dk_at dksX4_renderSuitcase_0 12 rfl rfl)
theorem dX4_renderSuitcase_15 : decode cX4_renderSuitcase 15 = .ok (.istore_n 2, 1) := dk_61 (dk_at dksX4_renderSuitcase_0 15 rfl rfl)
theorem dX4_renderSuitcase_16 : decode cX4_renderSuitcase 16 = .ok (.aload_n 0, 1) := dk_42 (dk_at dksX4_renderSuitcase_0 16 rfl rfl)
theorem dX4_renderSuitcase_17 : decode cX4_renderSuitcase 17 = .ok (.iconst 0, 1) := dk_3 (dk_at dksX4_renderSuitcase_0 17 rfl rfl)
theorem dX4_renderSuitcase_18 : decode cX4_renderSuitcase 18 = .ok (.putfield 190, 3) := dk_181 0 190 (dk_at dksX4_renderSuitcase_0 18 rfl rfl)
theorem dX4_renderSuitcase_21 : decode cX4_renderSuitcase 21 = .ok (.aload_n 0, 1) := dk_42 (dk_at dksX4_renderSuitcase_0 21 rfl rfl)
theorem dX4_renderSuitcase_22 : decode cX4_renderSuitcase 22 = .ok (.iload_n 1, 1) := dk_27 (dk_at dksX4_renderSuitcase_0 22 rfl rfl)
theorem dX4_renderSuitcase_23 : decode cX4_renderSuitcase 23 = .ok (.invokevirtual 193, 3) := dk_182 0 193 (dk_at dksX4_renderSuitcase_1 0 rfl rfl)
theorem dX4_renderSuitcase_26 : decode cX4_renderSuitcase 26 = .ok (.aload_n 0, 1) := dk_42 (dk_at dksX4_renderSuitcase_1 3 rfl rfl)
theorem dX4_renderSuitcase_27 : decode cX4_renderSuitcase 27 = .ok (.bipush 64, 2) := dk_16 64 (dk_at dksX4_renderSuitcase_1 4 rfl rfl)
theorem dX4_renderSuitcase_29 : decode cX4_renderSuitcase 29 = .ok (.aload_n 0, 1) := dk_42 (dk_at dksX4_renderSuitcase_1 6 rfl rfl)
theorem dX4_renderSuitcase_30 : decode cX4_renderSuitcase 30 = .ok (.iload_n 2, 1) := dk_28 (dk_at dksX4_renderSuitcase_1 7 rfl rfl)
theorem dX4_renderSuitcase_31 : decode cX4_renderSuitcase 31 = .ok (.iconst 1, 1) := dk_4 (dk_at dksX4_renderSuitcase_1 8 rfl rfl)
theorem dX4_renderSuitcase_32 : decode cX4_renderSuitcase 32 = .ok (.invokevirtual 141, 3) := dk_182 0 141 (dk_at dksX4_renderSuitcase_1 9 rfl rfl)
theorem dX4_renderSuitcase_35 : decode cX4_renderSuitcase 35 = .ok (.invokevirtual 199, 3) := dk_182 0 199 (dk_at dksX4_renderSuitcase_1 12 rfl rfl)
theorem dX4_renderSuitcase_38 : decode cX4_renderSuitcase 38 = .ok (.aload_n 0, 1) := dk_42 (dk_at dksX4_renderSuitcase_1 15 rfl rfl)
theorem dX4_renderSuitcase_39 : decode cX4_renderSuitcase 39 = .ok (.bipush 62, 2) := dk_16 62 (dk_at dksX4_renderSuitcase_1 16 rfl rfl)
theorem dX4_renderSuitcase_41 : decode cX4_renderSuitcase 41 = .ok (.aload_n 0, 1) := dk_42 (dk_at dksX4_renderSuitcase_1 18 rfl rfl)
theorem dX4_renderSuitcase_42 : decode cX4_renderSuitcase 42 = .ok (.iload_n 2, 1) := dk_28 (dk_at dksX4_renderSuitcase_1 19 rfl rfl)
theorem dX4_renderSuitcase_43 : decode cX4_renderSuitcase 43 = .ok (.iconst 2, 1) := dk_5 (dk_at dksX4_renderSuitcase_1 20 rfl rfl)
theorem dX4_renderSuitcase_44 : decode cX4_renderSuitcase 44 = .ok (.invokevirtual 141, 3) := dk_182 0 141 (dk_at dksX4_renderSuitcase_1 21 rfl rfl)
theorem dX4_renderSuitcase_47 : decode cX4_renderSuitcase 47 = .ok (.invokevirtual 199, 3) := dk_182 0 199 (dk_at dksX4_renderSuitcase_2 0 rfl rfl)
theorem dX4_renderSuitcase_50 : decode cX4_renderSuitcase 50 = .ok (.aload_n 0, 1) := dk_42 (dk_at dksX4_renderSuitcase_2 3 rfl rfl)
theorem dX4_renderSuitcase_51 : decode cX4_renderSuitcase 51 = .ok (.bipush 116, 2) := dk_16 116 (dk_at dksX4_renderSuitcase_2 4 rfl rfl)
theorem dX4_renderSuitcase_53 : decode cX4_renderSuitcase 53 = .ok (.aload_n 0, 1) := dk_42 (dk_at dksX4_renderSuitcase_2 6 rfl rfl)
theorem dX4_renderSuitcase_54 : decode cX4_renderSuitcase 54 = .ok (.iload_n 2, 1) := dk_28 (dk_at dksX4_renderSuitcase_2 7 rfl rfl)
theorem dX4_renderSuitcase_55 : decode cX4_renderSuitcase 55 = .ok (.iconst 3, 1) := dk_6 (dk_at dksX4_renderSuitcase_2 8 rfl rfl)
theorem dX4_renderSuitcase_56 : decode cX4_renderSuitcase 56 = .ok (.invokevirtual 141, 3) := dk_182 0 141 (dk_at dksX4_renderSuitcase_2 9 rfl rfl)
theorem dX4_renderSuitcase_59 : decode cX4_renderSuitcase 59 = .ok (.invokevirtual 199, 3) := dk_182 0 199 (dk_at dksX4_renderSuitcase_2 12 rfl rfl)
theorem dX4_renderSuitcase_62 : decode cX4_renderSuitcase 62 = .ok (.aload_n 0, 1) := dk_42 (dk_at dksX4_renderSuitcase_2 15 rfl rfl)
theorem dX4_renderSuitcase_63 : decode cX4_renderSuitcase 63 = .ok (.getfield 190, 3) := dk_180 0 190 (dk_at dksX4_renderSuitcase_2 16 rfl rfl)
theorem dX4_renderSuitcase_66 : decode cX4_renderSuitcase 66 = .ok (.ireturn, 1) := dk_172 (dk_at dksX4_renderSuitcase_2 19 rfl rfl)
abbrev cX4_outputAt : ByteArray := prog_20_method_86_code
def yX4_outputAt : MethodName := ⟨RX4, "outputAt", "(I)C"⟩
def dkwX4_outputAt_1 : List UInt8 := [153, 0, 8, 16, 32, 167, 0, 9, 42, 180, 0, 32, 27, 52, 172]
abbrev dktX4_outputAt_1 : List UInt8 := dkwX4_outputAt_1 ++ []
def dkwX4_outputAt_0 : List UInt8 := [42, 27, 3, 42, 180, 0, 190, 4, 100, 184, 0, 68, 153, 0, 7, 3, 167, 0, 4, 4, 182, 0, 92]
abbrev dktX4_outputAt_0 : List UInt8 := dkwX4_outputAt_0 ++ dktX4_outputAt_1
theorem dksX4_outputAt_0 : cX4_outputAt.data.toList.drop 0 = dktX4_outputAt_0 := by decide +kernel
theorem dksX4_outputAt_1 : cX4_outputAt.data.toList.drop 23 = dktX4_outputAt_1 := dk_seg dksX4_outputAt_0 23 rfl rfl
theorem dX4_outputAt_0 : decode cX4_outputAt 0 = .ok (.aload_n 0, 1) := dk_42 (dk_at dksX4_outputAt_0 0 rfl rfl)
theorem dX4_outputAt_1 : decode cX4_outputAt 1 = .ok (.iload_n 1, 1) := dk_27 (dk_at dksX4_outputAt_0 1 rfl rfl)
theorem dX4_outputAt_2 : decode cX4_outputAt 2 = .ok (.iconst 0, 1) := dk_3 (dk_at dksX4_outputAt_0 2 rfl rfl)
theorem dX4_outputAt_3 : decode cX4_outputAt 3 = .ok (.aload_n 0, 1) := dk_42 (dk_at dksX4_outputAt_0 3 rfl rfl)
theorem dX4_outputAt_4 : decode cX4_outputAt 4 = .ok (.getfield 190, 3) := dk_180 0 190 (dk_at dksX4_outputAt_0 4 rfl rfl)
theorem dX4_outputAt_7 : decode cX4_outputAt 7 = .ok (.iconst 1, 1) := dk_4 (dk_at dksX4_outputAt_0 7 rfl rfl)
theorem dX4_outputAt_8 : decode cX4_outputAt 8 = .ok (.isub, 1) := dk_100 (dk_at dksX4_outputAt_0 8 rfl rfl)
theorem dX4_outputAt_9 : decode cX4_outputAt 9 = .ok (.invokestatic 68, 3) := dk_184 0 68 (dk_at dksX4_outputAt_0 9 rfl rfl)
theorem dX4_outputAt_12 : decode cX4_outputAt 12 = .ok (.ifCond .eq 7, 3) := dk_153 0 7 (dk_at dksX4_outputAt_0 12 rfl rfl)
theorem dX4_outputAt_15 : decode cX4_outputAt 15 = .ok (.iconst 0, 1) := dk_3 (dk_at dksX4_outputAt_0 15 rfl rfl)
theorem dX4_outputAt_16 : decode cX4_outputAt 16 = .ok (.goto 4, 3) := dk_167 0 4 (dk_at dksX4_outputAt_0 16 rfl rfl)
theorem dX4_outputAt_19 : decode cX4_outputAt 19 = .ok (.iconst 1, 1) := dk_4 (dk_at dksX4_outputAt_0 19 rfl rfl)
theorem dX4_outputAt_20 : decode cX4_outputAt 20 = .ok (.invokevirtual 92, 3) := dk_182 0 92 (dk_at dksX4_outputAt_0 20 rfl rfl)
theorem dX4_outputAt_23 : decode cX4_outputAt 23 = .ok (.ifCond .eq 8, 3) := dk_153 0 8 (dk_at dksX4_outputAt_1 0 rfl rfl)
theorem dX4_outputAt_26 : decode cX4_outputAt 26 = .ok (.bipush 32, 2) := dk_16 32 (dk_at dksX4_outputAt_1 3 rfl rfl)
theorem dX4_outputAt_28 : decode cX4_outputAt 28 = .ok (.goto 9, 3) := dk_167 0 9 (dk_at dksX4_outputAt_1 5 rfl rfl)
theorem dX4_outputAt_31 : decode cX4_outputAt 31 = .ok (.aload_n 0, 1) := dk_42 (dk_at dksX4_outputAt_1 8 rfl rfl)
theorem dX4_outputAt_32 : decode cX4_outputAt 32 = .ok (.getfield 32, 3) := dk_180 0 32 (dk_at dksX4_outputAt_1 9 rfl rfl)
theorem dX4_outputAt_35 : decode cX4_outputAt 35 = .ok (.iload_n 1, 1) := dk_27 (dk_at dksX4_outputAt_1 12 rfl rfl)
theorem dX4_outputAt_36 : decode cX4_outputAt 36 = .ok (.caload, 1) := dk_52 (dk_at dksX4_outputAt_1 13 rfl rfl)
theorem dX4_outputAt_37 : decode cX4_outputAt 37 = .ok (.ireturn, 1) := dk_172 (dk_at dksX4_outputAt_1 14 rfl rfl)
abbrev cX4_type : ByteArray := prog_20_method_87_code
def yX4_type : MethodName := ⟨RX4, "type", "(C)I"⟩
def dkwX4_type_2 : List UInt8 := [27, 79, 42, 89, 180, 0, 202, 4, 96, 181, 0, 202, 42, 180, 0, 202, 172]
abbrev dktX4_type_2 : List UInt8 := dkwX4_type_2 ++ []
def dkwX4_type_1 : List UInt8 := [160, 0, 7, 5, 167, 0, 4, 3, 182, 0, 92, 153, 0, 5, 3, 172, 42, 180, 0, 22, 42, 180, 0, 202]
abbrev dktX4_type_1 : List UInt8 := dkwX4_type_1 ++ dktX4_type_2
def dkwX4_type_0 : List UInt8 := [42, 27, 16, 32, 16, 126, 184, 0, 68, 154, 0, 7, 4, 167, 0, 17, 42, 180, 0, 202, 16, 60]
abbrev dktX4_type_0 : List UInt8 := dkwX4_type_0 ++ dktX4_type_1
theorem dksX4_type_0 : cX4_type.data.toList.drop 0 = dktX4_type_0 := by decide +kernel
theorem dksX4_type_1 : cX4_type.data.toList.drop 22 = dktX4_type_1 := dk_seg dksX4_type_0 22 rfl rfl
theorem dksX4_type_2 : cX4_type.data.toList.drop 46 = dktX4_type_2 := dk_seg dksX4_type_1 24 rfl rfl
theorem dX4_type_0 : decode cX4_type 0 = .ok (.aload_n 0, 1) := dk_42 (dk_at dksX4_type_0 0 rfl rfl)
theorem dX4_type_1 : decode cX4_type 1 = .ok (.iload_n 1, 1) := dk_27 (dk_at dksX4_type_0 1 rfl rfl)
theorem dX4_type_2 : decode cX4_type 2 = .ok (.bipush 32, 2) := dk_16 32 (dk_at dksX4_type_0 2 rfl rfl)
theorem dX4_type_4 : decode cX4_type 4 = .ok (.bipush 126, 2) := dk_16 126 (dk_at dksX4_type_0 4 rfl rfl)
theorem dX4_type_6 : decode cX4_type 6 = .ok (.invokestatic 68, 3) := dk_184 0 68 (dk_at dksX4_type_0 6 rfl rfl)
theorem dX4_type_9 : decode cX4_type 9 = .ok (.ifCond .ne 7, 3) := dk_154 0 7 (dk_at dksX4_type_0 9 rfl rfl)
theorem dX4_type_12 : decode cX4_type 12 = .ok (.iconst 1, 1) := dk_4 (dk_at dksX4_type_0 12 rfl rfl)
theorem dX4_type_13 : decode cX4_type 13 = .ok (.goto 17, 3) := dk_167 0 17 (dk_at dksX4_type_0 13 rfl rfl)
theorem dX4_type_16 : decode cX4_type 16 = .ok (.aload_n 0, 1) := dk_42 (dk_at dksX4_type_0 16 rfl rfl)
theorem dX4_type_17 : decode cX4_type 17 = .ok (.getfield 202, 3) := dk_180 0 202 (dk_at dksX4_type_0 17 rfl rfl)
theorem dX4_type_20 : decode cX4_type 20 = .ok (.bipush 60, 2) := dk_16 60 (dk_at dksX4_type_0 20 rfl rfl)
theorem dX4_type_22 : decode cX4_type 22 = .ok (.if_icmp .ne 7, 3) := dk_160 0 7 (dk_at dksX4_type_1 0 rfl rfl)
theorem dX4_type_25 : decode cX4_type 25 = .ok (.iconst 2, 1) := dk_5 (dk_at dksX4_type_1 3 rfl rfl)
theorem dX4_type_26 : decode cX4_type 26 = .ok (.goto 4, 3) := dk_167 0 4 (dk_at dksX4_type_1 4 rfl rfl)
theorem dX4_type_29 : decode cX4_type 29 = .ok (.iconst 0, 1) := dk_3 (dk_at dksX4_type_1 7 rfl rfl)
theorem dX4_type_30 : decode cX4_type 30 = .ok (.invokevirtual 92, 3) := dk_182 0 92 (dk_at dksX4_type_1 8 rfl rfl)
theorem dX4_type_33 : decode cX4_type 33 = .ok (.ifCond .eq 5, 3) := dk_153 0 5 (dk_at dksX4_type_1 11 rfl rfl)
theorem dX4_type_36 : decode cX4_type 36 = .ok (.iconst 0, 1) := dk_3 (dk_at dksX4_type_1 14 rfl rfl)
theorem dX4_type_37 : decode cX4_type 37 = .ok (.ireturn, 1) := dk_172 (dk_at dksX4_type_1 15 rfl rfl)
theorem dX4_type_38 : decode cX4_type 38 = .ok (.aload_n 0, 1) := dk_42 (dk_at dksX4_type_1 16 rfl rfl)
theorem dX4_type_39 : decode cX4_type 39 = .ok (.getfield 22, 3) := dk_180 0 22 (dk_at dksX4_type_1 17 rfl rfl)
theorem dX4_type_42 : decode cX4_type 42 = .ok (.aload_n 0, 1) := dk_42 (dk_at dksX4_type_1 20 rfl rfl)
theorem dX4_type_43 : decode cX4_type 43 = .ok (.getfield 202, 3) := dk_180 0 202 (dk_at dksX4_type_1 21 rfl rfl)
theorem dX4_type_46 : decode cX4_type 46 = .ok (.iload_n 1, 1) := dk_27 (dk_at dksX4_type_2 0 rfl rfl)
theorem dX4_type_47 : decode cX4_type 47 = .ok (.iastore, 1) := dk_79 (dk_at dksX4_type_2 1 rfl rfl)
theorem dX4_type_48 : decode cX4_type 48 = .ok (.aload_n 0, 1) := dk_42 (dk_at dksX4_type_2 2 rfl rfl)
theorem dX4_type_49 : decode cX4_type 49 = .ok (.dup, 1) := dk_89 (dk_at dksX4_type_2 3 rfl rfl)
theorem dX4_type_50 : decode cX4_type 50 = .ok (.getfield 202, 3) := dk_180 0 202 (dk_at dksX4_type_2 4 rfl rfl)
theorem dX4_type_53 : decode cX4_type 53 = .ok (.iconst 1, 1) := dk_4 (dk_at dksX4_type_2 7 rfl rfl)
theorem dX4_type_54 : decode cX4_type 54 = .ok (.iadd, 1) := dk_96 (dk_at dksX4_type_2 8 rfl rfl)
theorem dX4_type_55 : decode cX4_type 55 = .ok (.putfield 202, 3) := dk_181 0 202 (dk_at dksX4_type_2 9 rfl rfl)
theorem dX4_type_58 : decode cX4_type 58 = .ok (.aload_n 0, 1) := dk_42 (dk_at dksX4_type_2 12 rfl rfl)
theorem dX4_type_59 : decode cX4_type 59 = .ok (.getfield 202, 3) := dk_180 0 202 (dk_at dksX4_type_2 13 rfl rfl)
theorem dX4_type_62 : decode cX4_type 62 = .ok (.ireturn, 1) := dk_172 (dk_at dksX4_type_2 16 rfl rfl)
abbrev cX4_runScript : ByteArray := prog_20_method_97_code
def yX4_runScript : MethodName := ⟨RX4, "runScript", "()I"⟩
def dkwX4_runScript_6 : List UInt8 := [167, 0, 4, 29, 172, 42, 42, 180, 0, 19, 182, 0, 95, 42, 180, 0, 211, 172]
abbrev dktX4_runScript_6 : List UInt8 := dkwX4_runScript_6 ++ []
def dkwX4_runScript_5 : List UInt8 := [180, 0, 7, 3, 184, 0, 64, 42, 28, 181, 0, 29, 42, 5, 181, 0, 54, 29, 158, 0, 7, 3]
abbrev dktX4_runScript_5 : List UInt8 := dkwX4_runScript_5 ++ dktX4_runScript_6
def dkwX4_runScript_4 : List UInt8 := [132, 2, 1, 167, 255, 223, 42, 3, 181, 0, 57, 42, 180, 0, 54, 158, 0, 36, 42, 180, 0, 19, 3, 42]
abbrev dktX4_runScript_4 : List UInt8 := dkwX4_runScript_4 ++ dktX4_runScript_5
def dkwX4_runScript_3 : List UInt8 := [42, 180, 0, 54, 154, 0, 24, 42, 8, 28, 104, 182, 1, 40, 62, 42, 180, 0, 54, 154, 255, 229]
abbrev dktX4_runScript_3 : List UInt8 := dkwX4_runScript_3 ++ dktX4_runScript_4
def dkwX4_runScript_2 : List UInt8 := [180, 0, 19, 3, 184, 0, 64, 42, 4, 181, 0, 57, 3, 61, 3, 62, 28, 42, 180, 0, 211, 162, 0, 31]
abbrev dktX4_runScript_2 : List UInt8 := dkwX4_runScript_2 ++ dktX4_runScript_3
def dkwX4_runScript_1 : List UInt8 := [153, 0, 7, 3, 167, 0, 4, 4, 182, 0, 92, 153, 0, 5, 3, 172, 42, 180, 0, 7, 3, 42]
abbrev dktX4_runScript_1 : List UInt8 := dkwX4_runScript_1 ++ dktX4_runScript_2
def dkwX4_runScript_0 : List UInt8 := [42, 182, 1, 37, 60, 27, 154, 0, 11, 42, 42, 180, 0, 205, 181, 0, 25, 42, 3, 181, 0, 202, 42, 27]
abbrev dktX4_runScript_0 : List UInt8 := dkwX4_runScript_0 ++ dktX4_runScript_1
theorem dksX4_runScript_0 : cX4_runScript.data.toList.drop 0 = dktX4_runScript_0 := by decide +kernel
theorem dksX4_runScript_1 : cX4_runScript.data.toList.drop 24 = dktX4_runScript_1 := dk_seg dksX4_runScript_0 24 rfl rfl
theorem dksX4_runScript_2 : cX4_runScript.data.toList.drop 46 = dktX4_runScript_2 := dk_seg dksX4_runScript_1 22 rfl rfl
theorem dksX4_runScript_3 : cX4_runScript.data.toList.drop 70 = dktX4_runScript_3 := dk_seg dksX4_runScript_2 24 rfl rfl
theorem dksX4_runScript_4 : cX4_runScript.data.toList.drop 92 = dktX4_runScript_4 := dk_seg dksX4_runScript_3 22 rfl rfl
theorem dksX4_runScript_5 : cX4_runScript.data.toList.drop 116 = dktX4_runScript_5 := dk_seg dksX4_runScript_4 24 rfl rfl
theorem dksX4_runScript_6 : cX4_runScript.data.toList.drop 138 = dktX4_runScript_6 := dk_seg dksX4_runScript_5 22 rfl rfl
theorem dX4_runScript_0 : decode cX4_runScript 0 = .ok (.aload_n 0, 1) := dk_42 (dk_at dksX4_runScript_0 0 rfl rfl)
theorem dX4_runScript_1 : decode cX4_runScript 1 = .ok (.invokevirtual 293, 3) := dk_182 1 37 (dk_at dksX4_runScript_0 1 rfl rfl)
theorem dX4_runScript_4 : decode cX4_runScript 4 = .ok (.istore_n 1, 1) := dk_60 (dk_at dksX4_runScript_0 4 rfl rfl)
theorem dX4_runScript_5 : decode cX4_runScript 5 = .ok (.iload_n 1, 1) := dk_27 (dk_at dksX4_runScript_0 5 rfl rfl)
theorem dX4_runScript_6 : decode cX4_runScript 6 = .ok (.ifCond .ne 11, 3) := dk_154 0 11 (dk_at dksX4_runScript_0 6 rfl rfl)
theorem dX4_runScript_9 : decode cX4_runScript 9 = .ok (.aload_n 0, 1) := dk_42 (dk_at dksX4_runScript_0 9 rfl rfl)
theorem dX4_runScript_10 : decode cX4_runScript 10 = .ok (.aload_n 0, 1) := dk_42 (dk_at dksX4_runScript_0 10 rfl rfl)
theorem dX4_runScript_11 : decode cX4_runScript 11 = .ok (.getfield 205, 3) := dk_180 0 205 (dk_at dksX4_runScript_0 11 rfl rfl)
theorem dX4_runScript_14 : decode cX4_runScript 14 = .ok (.putfield 25, 3) := dk_181 0 25 (dk_at dksX4_runScript_0 14 rfl rfl)
theorem dX4_runScript_17 : decode cX4_runScript 17 = .ok (.aload_n 0, 1) := dk_42 (dk_at dksX4_runScript_0 17 rfl rfl)
theorem dX4_runScript_18 : decode cX4_runScript 18 = .ok (.iconst 0, 1) := dk_3 (dk_at dksX4_runScript_0 18 rfl rfl)
theorem dX4_runScript_19 : decode cX4_runScript 19 = .ok (.putfield 202, 3) := dk_181 0 202 (dk_at dksX4_runScript_0 19 rfl rfl)
theorem dX4_runScript_22 : decode cX4_runScript 22 = .ok (.aload_n 0, 1) := dk_42 (dk_at dksX4_runScript_0 22 rfl rfl)
theorem dX4_runScript_23 : decode cX4_runScript 23 = .ok (.iload_n 1, 1) := dk_27 (dk_at dksX4_runScript_0 23 rfl rfl)
theorem dX4_runScript_24 : decode cX4_runScript 24 = .ok (.ifCond .eq 7, 3) := dk_153 0 7 (dk_at dksX4_runScript_1 0 rfl rfl)
theorem dX4_runScript_27 : decode cX4_runScript 27 = .ok (.iconst 0, 1) := dk_3 (dk_at dksX4_runScript_1 3 rfl rfl)
theorem dX4_runScript_28 : decode cX4_runScript 28 = .ok (.goto 4, 3) := dk_167 0 4 (dk_at dksX4_runScript_1 4 rfl rfl)
theorem dX4_runScript_31 : decode cX4_runScript 31 = .ok (.iconst 1, 1) := dk_4 (dk_at dksX4_runScript_1 7 rfl rfl)
theorem dX4_runScript_32 : decode cX4_runScript 32 = .ok (.invokevirtual 92, 3) := dk_182 0 92 (dk_at dksX4_runScript_1 8 rfl rfl)
theorem dX4_runScript_35 : decode cX4_runScript 35 = .ok (.ifCond .eq 5, 3) := dk_153 0 5 (dk_at dksX4_runScript_1 11 rfl rfl)
theorem dX4_runScript_38 : decode cX4_runScript 38 = .ok (.iconst 0, 1) := dk_3 (dk_at dksX4_runScript_1 14 rfl rfl)
theorem dX4_runScript_39 : decode cX4_runScript 39 = .ok (.ireturn, 1) := dk_172 (dk_at dksX4_runScript_1 15 rfl rfl)
theorem dX4_runScript_40 : decode cX4_runScript 40 = .ok (.aload_n 0, 1) := dk_42 (dk_at dksX4_runScript_1 16 rfl rfl)
theorem dX4_runScript_41 : decode cX4_runScript 41 = .ok (.getfield 7, 3) := dk_180 0 7 (dk_at dksX4_runScript_1 17 rfl rfl)
theorem dX4_runScript_44 : decode cX4_runScript 44 = .ok (.iconst 0, 1) := dk_3 (dk_at dksX4_runScript_1 20 rfl rfl)
theorem dX4_runScript_45 : decode cX4_runScript 45 = .ok (.aload_n 0, 1) := dk_42 (dk_at dksX4_runScript_1 21 rfl rfl)
theorem dX4_runScript_46 : decode cX4_runScript 46 = .ok (.getfield 19, 3) := dk_180 0 19 (dk_at dksX4_runScript_2 0 rfl rfl)
theorem dX4_runScript_49 : decode cX4_runScript 49 = .ok (.iconst 0, 1) := dk_3 (dk_at dksX4_runScript_2 3 rfl rfl)
theorem dX4_runScript_50 : decode cX4_runScript 50 = .ok (.invokestatic 64, 3) := dk_184 0 64 (dk_at dksX4_runScript_2 4 rfl rfl)
theorem dX4_runScript_53 : decode cX4_runScript 53 = .ok (.aload_n 0, 1) := dk_42 (dk_at dksX4_runScript_2 7 rfl rfl)
theorem dX4_runScript_54 : decode cX4_runScript 54 = .ok (.iconst 1, 1) := dk_4 (dk_at dksX4_runScript_2 8 rfl rfl)
theorem dX4_runScript_55 : decode cX4_runScript 55 = .ok (.putfield 57, 3) := dk_181 0 57 (dk_at dksX4_runScript_2 9 rfl rfl)
theorem dX4_runScript_58 : decode cX4_runScript 58 = .ok (.iconst 0, 1) := dk_3 (dk_at dksX4_runScript_2 12 rfl rfl)
theorem dX4_runScript_59 : decode cX4_runScript 59 = .ok (.istore_n 2, 1) := dk_61 (dk_at dksX4_runScript_2 13 rfl rfl)
theorem dX4_runScript_60 : decode cX4_runScript 60 = .ok (.iconst 0, 1) := dk_3 (dk_at dksX4_runScript_2 14 rfl rfl)
theorem dX4_runScript_61 : decode cX4_runScript 61 = .ok (.istore_n 3, 1) := dk_62 (dk_at dksX4_runScript_2 15 rfl rfl)
theorem dX4_runScript_62 : decode cX4_runScript 62 = .ok (.iload_n 2, 1) := dk_28 (dk_at dksX4_runScript_2 16 rfl rfl)
theorem dX4_runScript_63 : decode cX4_runScript 63 = .ok (.aload_n 0, 1) := dk_42 (dk_at dksX4_runScript_2 17 rfl rfl)
theorem dX4_runScript_64 : decode cX4_runScript 64 = .ok (.getfield 211, 3) := dk_180 0 211 (dk_at dksX4_runScript_2 18 rfl rfl)
theorem dX4_runScript_67 : decode cX4_runScript 67 = .ok (.if_icmp .ge 31, 3) := dk_162 0 31 (dk_at dksX4_runScript_2 21 rfl rfl)
theorem dX4_runScript_70 : decode cX4_runScript 70 = .ok (.aload_n 0, 1) := dk_42 (dk_at dksX4_runScript_3 0 rfl rfl)
theorem dX4_runScript_71 : decode cX4_runScript 71 = .ok (.getfield 54, 3) := dk_180 0 54 (dk_at dksX4_runScript_3 1 rfl rfl)
theorem dX4_runScript_74 : decode cX4_runScript 74 = .ok (.ifCond .ne 24, 3) := dk_154 0 24 (dk_at dksX4_runScript_3 4 rfl rfl)
theorem dX4_runScript_77 : decode cX4_runScript 77 = .ok (.aload_n 0, 1) := dk_42 (dk_at dksX4_runScript_3 7 rfl rfl)
theorem dX4_runScript_78 : decode cX4_runScript 78 = .ok (.iconst 5, 1) := dk_8 (dk_at dksX4_runScript_3 8 rfl rfl)
theorem dX4_runScript_79 : decode cX4_runScript 79 = .ok (.iload_n 2, 1) := dk_28 (dk_at dksX4_runScript_3 9 rfl rfl)
theorem dX4_runScript_80 : decode cX4_runScript 80 = .ok (.imul, 1) := dk_104 (dk_at dksX4_runScript_3 10 rfl rfl)
theorem dX4_runScript_81 : decode cX4_runScript 81 = .ok (.invokevirtual 296, 3) := dk_182 1 40 (dk_at dksX4_runScript_3 11 rfl rfl)
theorem dX4_runScript_84 : decode cX4_runScript 84 = .ok (.istore_n 3, 1) := dk_62 (dk_at dksX4_runScript_3 14 rfl rfl)
theorem dX4_runScript_85 : decode cX4_runScript 85 = .ok (.aload_n 0, 1) := dk_42 (dk_at dksX4_runScript_3 15 rfl rfl)
theorem dX4_runScript_86 : decode cX4_runScript 86 = .ok (.getfield 54, 3) := dk_180 0 54 (dk_at dksX4_runScript_3 16 rfl rfl)
theorem dX4_runScript_89 : decode cX4_runScript 89 = .ok (.ifCond .ne (-27), 3) := dk_154 255 229 (dk_at dksX4_runScript_3 19 rfl rfl)
theorem dX4_runScript_92 : decode cX4_runScript 92 = .ok (.iinc 2 1, 3) := dk_132 2 1 (dk_at dksX4_runScript_4 0 rfl rfl)
theorem dX4_runScript_95 : decode cX4_runScript 95 = .ok (.goto (-33), 3) := dk_167 255 223 (dk_at dksX4_runScript_4 3 rfl rfl)
theorem dX4_runScript_98 : decode cX4_runScript 98 = .ok (.aload_n 0, 1) := dk_42 (dk_at dksX4_runScript_4 6 rfl rfl)
theorem dX4_runScript_99 : decode cX4_runScript 99 = .ok (.iconst 0, 1) := dk_3 (dk_at dksX4_runScript_4 7 rfl rfl)
theorem dX4_runScript_100 : decode cX4_runScript 100 = .ok (.putfield 57, 3) := dk_181 0 57 (dk_at dksX4_runScript_4 8 rfl rfl)
theorem dX4_runScript_103 : decode cX4_runScript 103 = .ok (.aload_n 0, 1) := dk_42 (dk_at dksX4_runScript_4 11 rfl rfl)
theorem dX4_runScript_104 : decode cX4_runScript 104 = .ok (.getfield 54, 3) := dk_180 0 54 (dk_at dksX4_runScript_4 12 rfl rfl)
theorem dX4_runScript_107 : decode cX4_runScript 107 = .ok (.ifCond .le 36, 3) := dk_158 0 36 (dk_at dksX4_runScript_4 15 rfl rfl)
theorem dX4_runScript_110 : decode cX4_runScript 110 = .ok (.aload_n 0, 1) := dk_42 (dk_at dksX4_runScript_4 18 rfl rfl)
theorem dX4_runScript_111 : decode cX4_runScript 111 = .ok (.getfield 19, 3) := dk_180 0 19 (dk_at dksX4_runScript_4 19 rfl rfl)
theorem dX4_runScript_114 : decode cX4_runScript 114 = .ok (.iconst 0, 1) := dk_3 (dk_at dksX4_runScript_4 22 rfl rfl)
theorem dX4_runScript_115 : decode cX4_runScript 115 = .ok (.aload_n 0, 1) := dk_42 (dk_at dksX4_runScript_4 23 rfl rfl)
theorem dX4_runScript_116 : decode cX4_runScript 116 = .ok (.getfield 7, 3) := dk_180 0 7 (dk_at dksX4_runScript_5 0 rfl rfl)
theorem dX4_runScript_119 : decode cX4_runScript 119 = .ok (.iconst 0, 1) := dk_3 (dk_at dksX4_runScript_5 3 rfl rfl)
theorem dX4_runScript_120 : decode cX4_runScript 120 = .ok (.invokestatic 64, 3) := dk_184 0 64 (dk_at dksX4_runScript_5 4 rfl rfl)
theorem dX4_runScript_123 : decode cX4_runScript 123 = .ok (.aload_n 0, 1) := dk_42 (dk_at dksX4_runScript_5 7 rfl rfl)
theorem dX4_runScript_124 : decode cX4_runScript 124 = .ok (.iload_n 2, 1) := dk_28 (dk_at dksX4_runScript_5 8 rfl rfl)
theorem dX4_runScript_125 : decode cX4_runScript 125 = .ok (.putfield 29, 3) := dk_181 0 29 (dk_at dksX4_runScript_5 9 rfl rfl)
theorem dX4_runScript_128 : decode cX4_runScript 128 = .ok (.aload_n 0, 1) := dk_42 (dk_at dksX4_runScript_5 12 rfl rfl)
theorem dX4_runScript_129 : decode cX4_runScript 129 = .ok (.iconst 2, 1) := dk_5 (dk_at dksX4_runScript_5 13 rfl rfl)
theorem dX4_runScript_130 : decode cX4_runScript 130 = .ok (.putfield 54, 3) := dk_181 0 54 (dk_at dksX4_runScript_5 14 rfl rfl)
theorem dX4_runScript_133 : decode cX4_runScript 133 = .ok (.iload_n 3, 1) := dk_29 (dk_at dksX4_runScript_5 17 rfl rfl)
theorem dX4_runScript_134 : decode cX4_runScript 134 = .ok (.ifCond .le 7, 3) := dk_158 0 7 (dk_at dksX4_runScript_5 18 rfl rfl)
theorem dX4_runScript_137 : decode cX4_runScript 137 = .ok (.iconst 0, 1) := dk_3 (dk_at dksX4_runScript_5 21 rfl rfl)
theorem dX4_runScript_138 : decode cX4_runScript 138 = .ok (.goto 4, 3) := dk_167 0 4 (dk_at dksX4_runScript_6 0 rfl rfl)
theorem dX4_runScript_141 : decode cX4_runScript 141 = .ok (.iload_n 3, 1) := dk_29 (dk_at dksX4_runScript_6 3 rfl rfl)
theorem dX4_runScript_142 : decode cX4_runScript 142 = .ok (.ireturn, 1) := dk_172 (dk_at dksX4_runScript_6 4 rfl rfl)
theorem dX4_runScript_143 : decode cX4_runScript 143 = .ok (.aload_n 0, 1) := dk_42 (dk_at dksX4_runScript_6 5 rfl rfl)
theorem dX4_runScript_144 : decode cX4_runScript 144 = .ok (.aload_n 0, 1) := dk_42 (dk_at dksX4_runScript_6 6 rfl rfl)
theorem dX4_runScript_145 : decode cX4_runScript 145 = .ok (.getfield 19, 3) := dk_180 0 19 (dk_at dksX4_runScript_6 7 rfl rfl)
theorem dX4_runScript_148 : decode cX4_runScript 148 = .ok (.invokevirtual 95, 3) := dk_182 0 95 (dk_at dksX4_runScript_6 10 rfl rfl)
theorem dX4_runScript_151 : decode cX4_runScript 151 = .ok (.aload_n 0, 1) := dk_42 (dk_at dksX4_runScript_6 13 rfl rfl)
theorem dX4_runScript_152 : decode cX4_runScript 152 = .ok (.getfield 211, 3) := dk_180 0 211 (dk_at dksX4_runScript_6 14 rfl rfl)
theorem dX4_runScript_155 : decode cX4_runScript 155 = .ok (.ireturn, 1) := dk_172 (dk_at dksX4_runScript_6 17 rfl rfl)
abbrev cX4_isScript : ByteArray := prog_20_method_95_code
def yX4_isScript : MethodName := ⟨RX4, "isScript", "()Z"⟩
def dkwX4_isScript_2 : List UInt8 := [160, 0, 7, 4, 167, 0, 4, 3, 172]
abbrev dktX4_isScript_2 : List UInt8 := dkwX4_isScript_2 ++ []
def dkwX4_isScript_1 : List UInt8 := [4, 96, 181, 0, 211, 42, 16, 59, 182, 0, 222, 154, 255, 231, 42, 180, 0, 205, 42, 180, 0, 202]
abbrev dktX4_isScript_1 : List UInt8 := dkwX4_isScript_1 ++ dktX4_isScript_2
def dkwX4_isScript_0 : List UInt8 := [42, 3, 181, 0, 205, 42, 3, 181, 0, 211, 42, 182, 1, 2, 154, 0, 5, 3, 172, 42, 89, 180, 0, 211]
abbrev dktX4_isScript_0 : List UInt8 := dkwX4_isScript_0 ++ dktX4_isScript_1
theorem dksX4_isScript_0 : cX4_isScript.data.toList.drop 0 = dktX4_isScript_0 := by decide +kernel
theorem dksX4_isScript_1 : cX4_isScript.data.toList.drop 24 = dktX4_isScript_1 := dk_seg dksX4_isScript_0 24 rfl rfl
theorem dksX4_isScript_2 : cX4_isScript.data.toList.drop 46 = dktX4_isScript_2 := dk_seg dksX4_isScript_1 22 rfl rfl
theorem dX4_isScript_0 : decode cX4_isScript 0 = .ok (.aload_n 0, 1) := dk_42 (dk_at dksX4_isScript_0 0 rfl rfl)
theorem dX4_isScript_1 : decode cX4_isScript 1 = .ok (.iconst 0, 1) := dk_3 (dk_at dksX4_isScript_0 1 rfl rfl)
theorem dX4_isScript_2 : decode cX4_isScript 2 = .ok (.putfield 205, 3) := dk_181 0 205 (dk_at dksX4_isScript_0 2 rfl rfl)
theorem dX4_isScript_5 : decode cX4_isScript 5 = .ok (.aload_n 0, 1) := dk_42 (dk_at dksX4_isScript_0 5 rfl rfl)
theorem dX4_isScript_6 : decode cX4_isScript 6 = .ok (.iconst 0, 1) := dk_3 (dk_at dksX4_isScript_0 6 rfl rfl)
theorem dX4_isScript_7 : decode cX4_isScript 7 = .ok (.putfield 211, 3) := dk_181 0 211 (dk_at dksX4_isScript_0 7 rfl rfl)
theorem dX4_isScript_10 : decode cX4_isScript 10 = .ok (.aload_n 0, 1) := dk_42 (dk_at dksX4_isScript_0 10 rfl rfl)
theorem dX4_isScript_11 : decode cX4_isScript 11 = .ok (.invokevirtual 258, 3) := dk_182 1 2 (dk_at dksX4_isScript_0 11 rfl rfl)
theorem dX4_isScript_14 : decode cX4_isScript 14 = .ok (.ifCond .ne 5, 3) := dk_154 0 5 (dk_at dksX4_isScript_0 14 rfl rfl)
theorem dX4_isScript_17 : decode cX4_isScript 17 = .ok (.iconst 0, 1) := dk_3 (dk_at dksX4_isScript_0 17 rfl rfl)
theorem dX4_isScript_18 : decode cX4_isScript 18 = .ok (.ireturn, 1) := dk_172 (dk_at dksX4_isScript_0 18 rfl rfl)
theorem dX4_isScript_19 : decode cX4_isScript 19 = .ok (.aload_n 0, 1) := dk_42 (dk_at dksX4_isScript_0 19 rfl rfl)
theorem dX4_isScript_20 : decode cX4_isScript 20 = .ok (.dup, 1) := dk_89 (dk_at dksX4_isScript_0 20 rfl rfl)
theorem dX4_isScript_21 : decode cX4_isScript 21 = .ok (.getfield 211, 3) := dk_180 0 211 (dk_at dksX4_isScript_0 21 rfl rfl)
theorem dX4_isScript_24 : decode cX4_isScript 24 = .ok (.iconst 1, 1) := dk_4 (dk_at dksX4_isScript_1 0 rfl rfl)
theorem dX4_isScript_25 : decode cX4_isScript 25 = .ok (.iadd, 1) := dk_96 (dk_at dksX4_isScript_1 1 rfl rfl)
theorem dX4_isScript_26 : decode cX4_isScript 26 = .ok (.putfield 211, 3) := dk_181 0 211 (dk_at dksX4_isScript_1 2 rfl rfl)
theorem dX4_isScript_29 : decode cX4_isScript 29 = .ok (.aload_n 0, 1) := dk_42 (dk_at dksX4_isScript_1 5 rfl rfl)
theorem dX4_isScript_30 : decode cX4_isScript 30 = .ok (.bipush 59, 2) := dk_16 59 (dk_at dksX4_isScript_1 6 rfl rfl)
theorem dX4_isScript_32 : decode cX4_isScript 32 = .ok (.invokevirtual 222, 3) := dk_182 0 222 (dk_at dksX4_isScript_1 8 rfl rfl)
theorem dX4_isScript_35 : decode cX4_isScript 35 = .ok (.ifCond .ne (-25), 3) := dk_154 255 231 (dk_at dksX4_isScript_1 11 rfl rfl)
theorem dX4_isScript_38 : decode cX4_isScript 38 = .ok (.aload_n 0, 1) := dk_42 (dk_at dksX4_isScript_1 14 rfl rfl)
theorem dX4_isScript_39 : decode cX4_isScript 39 = .ok (.getfield 205, 3) := dk_180 0 205 (dk_at dksX4_isScript_1 15 rfl rfl)
theorem dX4_isScript_42 : decode cX4_isScript 42 = .ok (.aload_n 0, 1) := dk_42 (dk_at dksX4_isScript_1 18 rfl rfl)
theorem dX4_isScript_43 : decode cX4_isScript 43 = .ok (.getfield 202, 3) := dk_180 0 202 (dk_at dksX4_isScript_1 19 rfl rfl)
theorem dX4_isScript_46 : decode cX4_isScript 46 = .ok (.if_icmp .ne 7, 3) := dk_160 0 7 (dk_at dksX4_isScript_2 0 rfl rfl)
theorem dX4_isScript_49 : decode cX4_isScript 49 = .ok (.iconst 1, 1) := dk_4 (dk_at dksX4_isScript_2 3 rfl rfl)
theorem dX4_isScript_50 : decode cX4_isScript 50 = .ok (.goto 4, 3) := dk_167 0 4 (dk_at dksX4_isScript_2 4 rfl rfl)
theorem dX4_isScript_53 : decode cX4_isScript 53 = .ok (.iconst 0, 1) := dk_3 (dk_at dksX4_isScript_2 7 rfl rfl)
theorem dX4_isScript_54 : decode cX4_isScript 54 = .ok (.ireturn, 1) := dk_172 (dk_at dksX4_isScript_2 8 rfl rfl)
abbrev cX4_commandHere : ByteArray := prog_20_method_94_code
def yX4_commandHere : MethodName := ⟨RX4, "commandHere", "()Z"⟩
def dkwX4_commandHere_15 : List UInt8 := [42, 27, 4, 96, 4, 182, 0, 234, 153, 0, 7, 4, 167, 0, 4, 3, 172]
abbrev dktX4_commandHere_15 : List UInt8 := dkwX4_commandHere_15 ++ []
def dkwX4_commandHere_14 : List UInt8 := [3, 167, 0, 39, 42, 8, 19, 1, 0, 182, 0, 230, 153, 0, 27, 42, 27, 7, 182, 0, 234, 153, 0, 18]
abbrev dktX4_commandHere_14 : List UInt8 := dkwX4_commandHere_14 ++ dktX4_commandHere_15
def dkwX4_commandHere_13 : List UInt8 := [42, 27, 4, 182, 0, 234, 153, 0, 18, 42, 27, 4, 96, 7, 182, 0, 234, 153, 0, 7, 4, 167, 0, 43]
abbrev dktX4_commandHere_13 : List UInt8 := dkwX4_commandHere_13 ++ dktX4_commandHere_14
def dkwX4_commandHere_12 : List UInt8 := [154, 0, 5, 3, 172, 42, 16, 116, 182, 0, 222, 153, 0, 41, 42, 6, 18, 254, 182, 0, 230, 153, 0, 27]
abbrev dktX4_commandHere_12 : List UInt8 := dkwX4_commandHere_12 ++ dktX4_commandHere_13
def dkwX4_commandHere_11 : List UInt8 := [153, 0, 7, 4, 167, 0, 4, 3, 172, 42, 16, 108, 182, 0, 222, 153, 0, 12, 42, 16, 97, 182, 0, 222]
abbrev dktX4_commandHere_11 : List UInt8 := dkwX4_commandHere_11 ++ dktX4_commandHere_12
def dkwX4_commandHere_10 : List UInt8 := [182, 0, 222, 153, 0, 29, 42, 16, 9, 18, 252, 182, 0, 230, 153, 0, 16, 42, 27, 7, 182, 0, 234]
abbrev dktX4_commandHere_10 : List UInt8 := dkwX4_commandHere_10 ++ dktX4_commandHere_11
def dkwX4_commandHere_9 : List UInt8 := [153, 0, 18, 42, 27, 5, 96, 4, 182, 0, 225, 153, 0, 7, 4, 167, 0, 4, 3, 172, 42, 16, 100]
abbrev dktX4_commandHere_9 : List UInt8 := dkwX4_commandHere_9 ++ dktX4_commandHere_10
def dkwX4_commandHere_8 : List UInt8 := [182, 0, 230, 153, 0, 38, 42, 27, 4, 182, 0, 234, 153, 0, 29, 42, 27, 4, 96, 4, 182, 0, 234]
abbrev dktX4_commandHere_8 : List UInt8 := dkwX4_commandHere_8 ++ dktX4_commandHere_9
def dkwX4_commandHere_7 : List UInt8 := [153, 0, 7, 4, 167, 0, 4, 3, 172, 42, 16, 98, 182, 0, 222, 153, 0, 51, 42, 16, 8, 18, 250]
abbrev dktX4_commandHere_7 : List UInt8 := dkwX4_commandHere_7 ++ dktX4_commandHere_8
def dkwX4_commandHere_6 : List UInt8 := [153, 0, 29, 42, 27, 4, 96, 4, 182, 0, 225, 153, 0, 18, 42, 27, 5, 96, 7, 182, 0, 234]
abbrev dktX4_commandHere_6 : List UInt8 := dkwX4_commandHere_6 ++ dktX4_commandHere_7
def dkwX4_commandHere_5 : List UInt8 := [16, 99, 182, 0, 222, 153, 0, 50, 42, 7, 18, 248, 182, 0, 230, 153, 0, 38, 42, 27, 4, 182, 0, 234]
abbrev dktX4_commandHere_5 : List UInt8 := dkwX4_commandHere_5 ++ dktX4_commandHere_6
def dkwX4_commandHere_4 : List UInt8 := [182, 0, 234, 153, 0, 18, 42, 27, 5, 96, 4, 182, 0, 234, 153, 0, 7, 4, 167, 0, 4, 3, 172, 42]
abbrev dktX4_commandHere_4 : List UInt8 := dkwX4_commandHere_4 ++ dktX4_commandHere_5
def dkwX4_commandHere_3 : List UInt8 := [4, 18, 246, 182, 0, 230, 153, 0, 38, 42, 27, 4, 182, 0, 234, 153, 0, 29, 42, 27, 4, 96, 7]
abbrev dktX4_commandHere_3 : List UInt8 := dkwX4_commandHere_3 ++ dktX4_commandHere_4
def dkwX4_commandHere_2 : List UInt8 := [182, 0, 230, 153, 0, 16, 42, 27, 7, 182, 0, 234, 153, 0, 7, 4, 167, 0, 53, 3, 167, 0, 49, 42]
abbrev dktX4_commandHere_2 : List UInt8 := dkwX4_commandHere_2 ++ dktX4_commandHere_3
def dkwX4_commandHere_1 : List UInt8 := [42, 16, 116, 182, 0, 222, 153, 0, 87, 42, 16, 97, 182, 0, 222, 153, 0, 31, 42, 16, 7, 18, 244]
abbrev dktX4_commandHere_1 : List UInt8 := dkwX4_commandHere_1 ++ dktX4_commandHere_2
def dkwX4_commandHere_0 : List UInt8 := [8, 42, 180, 0, 211, 104, 4, 96, 60, 42, 16, 115, 182, 0, 222, 153, 0, 9, 42, 27, 182, 0, 241, 172]
abbrev dktX4_commandHere_0 : List UInt8 := dkwX4_commandHere_0 ++ dktX4_commandHere_1
theorem dksX4_commandHere_0 : cX4_commandHere.data.toList.drop 0 = dktX4_commandHere_0 := by decide +kernel
theorem dksX4_commandHere_1 : cX4_commandHere.data.toList.drop 24 = dktX4_commandHere_1 := dk_seg dksX4_commandHere_0 24 rfl rfl
theorem dksX4_commandHere_2 : cX4_commandHere.data.toList.drop 47 = dktX4_commandHere_2 := dk_seg dksX4_commandHere_1 23 rfl rfl
theorem dksX4_commandHere_3 : cX4_commandHere.data.toList.drop 71 = dktX4_commandHere_3 := dk_seg dksX4_commandHere_2 24 rfl rfl
theorem dksX4_commandHere_4 : cX4_commandHere.data.toList.drop 94 = dktX4_commandHere_4 := dk_seg dksX4_commandHere_3 23 rfl rfl
theorem dksX4_commandHere_5 : cX4_commandHere.data.toList.drop 118 = dktX4_commandHere_5 := dk_seg dksX4_commandHere_4 24 rfl rfl
theorem dksX4_commandHere_6 : cX4_commandHere.data.toList.drop 142 = dktX4_commandHere_6 := dk_seg dksX4_commandHere_5 24 rfl rfl
theorem dksX4_commandHere_7 : cX4_commandHere.data.toList.drop 164 = dktX4_commandHere_7 := dk_seg dksX4_commandHere_6 22 rfl rfl
theorem dksX4_commandHere_8 : cX4_commandHere.data.toList.drop 187 = dktX4_commandHere_8 := dk_seg dksX4_commandHere_7 23 rfl rfl
theorem dksX4_commandHere_9 : cX4_commandHere.data.toList.drop 210 = dktX4_commandHere_9 := dk_seg dksX4_commandHere_8 23 rfl rfl
theorem dksX4_commandHere_10 : cX4_commandHere.data.toList.drop 233 = dktX4_commandHere_10 := dk_seg dksX4_commandHere_9 23 rfl rfl
theorem dksX4_commandHere_11 : cX4_commandHere.data.toList.drop 256 = dktX4_commandHere_11 := dk_seg dksX4_commandHere_10 23 rfl rfl
theorem dksX4_commandHere_12 : cX4_commandHere.data.toList.drop 280 = dktX4_commandHere_12 := dk_seg dksX4_commandHere_11 24 rfl rfl
theorem dksX4_commandHere_13 : cX4_commandHere.data.toList.drop 304 = dktX4_commandHere_13 := dk_seg dksX4_commandHere_12 24 rfl rfl
theorem dksX4_commandHere_14 : cX4_commandHere.data.toList.drop 328 = dktX4_commandHere_14 := dk_seg dksX4_commandHere_13 24 rfl rfl
theorem dksX4_commandHere_15 : cX4_commandHere.data.toList.drop 352 = dktX4_commandHere_15 := dk_seg dksX4_commandHere_14 24 rfl rfl
theorem dX4_commandHere_0 : decode cX4_commandHere 0 = .ok (.iconst 5, 1) := dk_8 (dk_at dksX4_commandHere_0 0 rfl rfl)
theorem dX4_commandHere_1 : decode cX4_commandHere 1 = .ok (.aload_n 0, 1) := dk_42 (dk_at dksX4_commandHere_0 1 rfl rfl)
theorem dX4_commandHere_2 : decode cX4_commandHere 2 = .ok (.getfield 211, 3) := dk_180 0 211 (dk_at dksX4_commandHere_0 2 rfl rfl)
theorem dX4_commandHere_5 : decode cX4_commandHere 5 = .ok (.imul, 1) := dk_104 (dk_at dksX4_commandHere_0 5 rfl rfl)
theorem dX4_commandHere_6 : decode cX4_commandHere 6 = .ok (.iconst 1, 1) := dk_4 (dk_at dksX4_commandHere_0 6 rfl rfl)
theorem dX4_commandHere_7 : decode cX4_commandHere 7 = .ok (.iadd, 1) := dk_96 (dk_at dksX4_commandHere_0 7 rfl rfl)
theorem dX4_commandHere_8 : decode cX4_commandHere 8 = .ok (.istore_n 1, 1) := dk_60 (dk_at dksX4_commandHere_0 8 rfl rfl)
theorem dX4_commandHere_9 : decode cX4_commandHere 9 = .ok (.aload_n 0, 1) := dk_42 (dk_at dksX4_commandHere_0 9 rfl rfl)
theorem dX4_commandHere_10 : decode cX4_commandHere 10 = .ok (.bipush 115, 2) := dk_16 115 (dk_at dksX4_commandHere_0 10 rfl rfl)
theorem dX4_commandHere_12 : decode cX4_commandHere 12 = .ok (.invokevirtual 222, 3) := dk_182 0 222 (dk_at dksX4_commandHere_0 12 rfl rfl)
theorem dX4_commandHere_15 : decode cX4_commandHere 15 = .ok (.ifCond .eq 9, 3) := dk_153 0 9 (dk_at dksX4_commandHere_0 15 rfl rfl)
theorem dX4_commandHere_18 : decode cX4_commandHere 18 = .ok (.aload_n 0, 1) := dk_42 (dk_at dksX4_commandHere_0 18 rfl rfl)
theorem dX4_commandHere_19 : decode cX4_commandHere 19 = .ok (.iload_n 1, 1) := dk_27 (dk_at dksX4_commandHere_0 19 rfl rfl)
theorem dX4_commandHere_20 : decode cX4_commandHere 20 = .ok (.invokevirtual 241, 3) := dk_182 0 241 (dk_at dksX4_commandHere_0 20 rfl rfl)
theorem dX4_commandHere_23 : decode cX4_commandHere 23 = .ok (.ireturn, 1) := dk_172 (dk_at dksX4_commandHere_0 23 rfl rfl)
theorem dX4_commandHere_24 : decode cX4_commandHere 24 = .ok (.aload_n 0, 1) := dk_42 (dk_at dksX4_commandHere_1 0 rfl rfl)
theorem dX4_commandHere_25 : decode cX4_commandHere 25 = .ok (.bipush 116, 2) := dk_16 116 (dk_at dksX4_commandHere_1 1 rfl rfl)
theorem dX4_commandHere_27 : decode cX4_commandHere 27 = .ok (.invokevirtual 222, 3) := dk_182 0 222 (dk_at dksX4_commandHere_1 3 rfl rfl)
theorem dX4_commandHere_30 : decode cX4_commandHere 30 = .ok (.ifCond .eq 87, 3) := dk_153 0 87 (dk_at dksX4_commandHere_1 6 rfl rfl)
theorem dX4_commandHere_33 : decode cX4_commandHere 33 = .ok (.aload_n 0, 1) := dk_42 (dk_at dksX4_commandHere_1 9 rfl rfl)
theorem dX4_commandHere_34 : decode cX4_commandHere 34 = .ok (.bipush 97, 2) := dk_16 97 (dk_at dksX4_commandHere_1 10 rfl rfl)
theorem dX4_commandHere_36 : decode cX4_commandHere 36 = .ok (.invokevirtual 222, 3) := dk_182 0 222 (dk_at dksX4_commandHere_1 12 rfl rfl)
theorem dX4_commandHere_39 : decode cX4_commandHere 39 = .ok (.ifCond .eq 31, 3) := dk_153 0 31 (dk_at dksX4_commandHere_1 15 rfl rfl)
theorem dX4_commandHere_42 : decode cX4_commandHere 42 = .ok (.aload_n 0, 1) := dk_42 (dk_at dksX4_commandHere_1 18 rfl rfl)
theorem dX4_commandHere_43 : decode cX4_commandHere 43 = .ok (.bipush 7, 2) := dk_16 7 (dk_at dksX4_commandHere_1 19 rfl rfl)
theorem dX4_commandHere_45 : decode cX4_commandHere 45 = .ok (.ldc 244, 2) := dk_18 244 (dk_at dksX4_commandHere_1 21 rfl rfl)
theorem dX4_commandHere_47 : decode cX4_commandHere 47 = .ok (.invokevirtual 230, 3) := dk_182 0 230 (dk_at dksX4_commandHere_2 0 rfl rfl)
theorem dX4_commandHere_50 : decode cX4_commandHere 50 = .ok (.ifCond .eq 16, 3) := dk_153 0 16 (dk_at dksX4_commandHere_2 3 rfl rfl)
theorem dX4_commandHere_53 : decode cX4_commandHere 53 = .ok (.aload_n 0, 1) := dk_42 (dk_at dksX4_commandHere_2 6 rfl rfl)
theorem dX4_commandHere_54 : decode cX4_commandHere 54 = .ok (.iload_n 1, 1) := dk_27 (dk_at dksX4_commandHere_2 7 rfl rfl)
theorem dX4_commandHere_55 : decode cX4_commandHere 55 = .ok (.iconst 4, 1) := dk_7 (dk_at dksX4_commandHere_2 8 rfl rfl)
theorem dX4_commandHere_56 : decode cX4_commandHere 56 = .ok (.invokevirtual 234, 3) := dk_182 0 234 (dk_at dksX4_commandHere_2 9 rfl rfl)
theorem dX4_commandHere_59 : decode cX4_commandHere 59 = .ok (.ifCond .eq 7, 3) := dk_153 0 7 (dk_at dksX4_commandHere_2 12 rfl rfl)
theorem dX4_commandHere_62 : decode cX4_commandHere 62 = .ok (.iconst 1, 1) := dk_4 (dk_at dksX4_commandHere_2 15 rfl rfl)
theorem dX4_commandHere_63 : decode cX4_commandHere 63 = .ok (.goto 53, 3) := dk_167 0 53 (dk_at dksX4_commandHere_2 16 rfl rfl)
theorem dX4_commandHere_66 : decode cX4_commandHere 66 = .ok (.iconst 0, 1) := dk_3 (dk_at dksX4_commandHere_2 19 rfl rfl)
theorem dX4_commandHere_67 : decode cX4_commandHere 67 = .ok (.goto 49, 3) := dk_167 0 49 (dk_at dksX4_commandHere_2 20 rfl rfl)
theorem dX4_commandHere_70 : decode cX4_commandHere 70 = .ok (.aload_n 0, 1) := dk_42 (dk_at dksX4_commandHere_2 23 rfl rfl)
theorem dX4_commandHere_71 : decode cX4_commandHere 71 = .ok (.iconst 1, 1) := dk_4 (dk_at dksX4_commandHere_3 0 rfl rfl)
theorem dX4_commandHere_72 : decode cX4_commandHere 72 = .ok (.ldc 246, 2) := dk_18 246 (dk_at dksX4_commandHere_3 1 rfl rfl)
theorem dX4_commandHere_74 : decode cX4_commandHere 74 = .ok (.invokevirtual 230, 3) := dk_182 0 230 (dk_at dksX4_commandHere_3 3 rfl rfl)
theorem dX4_commandHere_77 : decode cX4_commandHere 77 = .ok (.ifCond .eq 38, 3) := dk_153 0 38 (dk_at dksX4_commandHere_3 6 rfl rfl)
theorem dX4_commandHere_80 : decode cX4_commandHere 80 = .ok (.aload_n 0, 1) := dk_42 (dk_at dksX4_commandHere_3 9 rfl rfl)
theorem dX4_commandHere_81 : decode cX4_commandHere 81 = .ok (.iload_n 1, 1) := dk_27 (dk_at dksX4_commandHere_3 10 rfl rfl)
theorem dX4_commandHere_82 : decode cX4_commandHere 82 = .ok (.iconst 1, 1) := dk_4 (dk_at dksX4_commandHere_3 11 rfl rfl)
theorem dX4_commandHere_83 : decode cX4_commandHere 83 = .ok (.invokevirtual 234, 3) := dk_182 0 234 (dk_at dksX4_commandHere_3 12 rfl rfl)
theorem dX4_commandHere_86 : decode cX4_commandHere 86 = .ok (.ifCond .eq 29, 3) := dk_153 0 29 (dk_at dksX4_commandHere_3 15 rfl rfl)
theorem dX4_commandHere_89 : decode cX4_commandHere 89 = .ok (.aload_n 0, 1) := dk_42 (dk_at dksX4_commandHere_3 18 rfl rfl)
theorem dX4_commandHere_90 : decode cX4_commandHere 90 = .ok (.iload_n 1, 1) := dk_27 (dk_at dksX4_commandHere_3 19 rfl rfl)
theorem dX4_commandHere_91 : decode cX4_commandHere 91 = .ok (.iconst 1, 1) := dk_4 (dk_at dksX4_commandHere_3 20 rfl rfl)
theorem dX4_commandHere_92 : decode cX4_commandHere 92 = .ok (.iadd, 1) := dk_96 (dk_at dksX4_commandHere_3 21 rfl rfl)
theorem dX4_commandHere_93 : decode cX4_commandHere 93 = .ok (.iconst 4, 1) := dk_7 (dk_at dksX4_commandHere_3 22 rfl rfl)
theorem dX4_commandHere_94 : decode cX4_commandHere 94 = .ok (.invokevirtual 234, 3) := dk_182 0 234 (dk_at dksX4_commandHere_4 0 rfl rfl)
theorem dX4_commandHere_97 : decode cX4_commandHere 97 = .ok (.ifCond .eq 18, 3) := dk_153 0 18 (dk_at dksX4_commandHere_4 3 rfl rfl)
theorem dX4_commandHere_100 : decode cX4_commandHere 100 = .ok (.aload_n 0, 1) := dk_42 (dk_at dksX4_commandHere_4 6 rfl rfl)
theorem dX4_commandHere_101 : decode cX4_commandHere 101 = .ok (.iload_n 1, 1) := dk_27 (dk_at dksX4_commandHere_4 7 rfl rfl)
theorem dX4_commandHere_102 : decode cX4_commandHere 102 = .ok (.iconst 2, 1) := dk_5 (dk_at dksX4_commandHere_4 8 rfl rfl)
theorem dX4_commandHere_103 : decode cX4_commandHere 103 = .ok (.iadd, 1) := dk_96 (dk_at dksX4_commandHere_4 9 rfl rfl)
theorem dX4_commandHere_104 : decode cX4_commandHere 104 = .ok (.iconst 1, 1) := dk_4 (dk_at dksX4_commandHere_4 10 rfl rfl)
theorem dX4_commandHere_105 : decode cX4_commandHere 105 = .ok (.invokevirtual 234, 3) := dk_182 0 234 (dk_at dksX4_commandHere_4 11 rfl rfl)
theorem dX4_commandHere_108 : decode cX4_commandHere 108 = .ok (.ifCond .eq 7, 3) := dk_153 0 7 (dk_at dksX4_commandHere_4 14 rfl rfl)
theorem dX4_commandHere_111 : decode cX4_commandHere 111 = .ok (.iconst 1, 1) := dk_4 (dk_at dksX4_commandHere_4 17 rfl rfl)
theorem dX4_commandHere_112 : decode cX4_commandHere 112 = .ok (.goto 4, 3) := dk_167 0 4 (dk_at dksX4_commandHere_4 18 rfl rfl)
theorem dX4_commandHere_115 : decode cX4_commandHere 115 = .ok (.iconst 0, 1) := dk_3 (dk_at dksX4_commandHere_4 21 rfl rfl)
theorem dX4_commandHere_116 : decode cX4_commandHere 116 = .ok (.ireturn, 1) := dk_172 (dk_at dksX4_commandHere_4 22 rfl rfl)
theorem dX4_commandHere_117 : decode cX4_commandHere 117 = .ok (.aload_n 0, 1) := dk_42 (dk_at dksX4_commandHere_4 23 rfl rfl)
theorem dX4_commandHere_118 : decode cX4_commandHere 118 = .ok (.bipush 99, 2) := dk_16 99 (dk_at dksX4_commandHere_5 0 rfl rfl)
theorem dX4_commandHere_120 : decode cX4_commandHere 120 = .ok (.invokevirtual 222, 3) := dk_182 0 222 (dk_at dksX4_commandHere_5 2 rfl rfl)
theorem dX4_commandHere_123 : decode cX4_commandHere 123 = .ok (.ifCond .eq 50, 3) := dk_153 0 50 (dk_at dksX4_commandHere_5 5 rfl rfl)
theorem dX4_commandHere_126 : decode cX4_commandHere 126 = .ok (.aload_n 0, 1) := dk_42 (dk_at dksX4_commandHere_5 8 rfl rfl)
theorem dX4_commandHere_127 : decode cX4_commandHere 127 = .ok (.iconst 4, 1) := dk_7 (dk_at dksX4_commandHere_5 9 rfl rfl)
theorem dX4_commandHere_128 : decode cX4_commandHere 128 = .ok (.ldc 248, 2) := dk_18 248 (dk_at dksX4_commandHere_5 10 rfl rfl)
theorem dX4_commandHere_130 : decode cX4_commandHere 130 = .ok (.invokevirtual 230, 3) := dk_182 0 230 (dk_at dksX4_commandHere_5 12 rfl rfl)
theorem dX4_commandHere_133 : decode cX4_commandHere 133 = .ok (.ifCond .eq 38, 3) := dk_153 0 38 (dk_at dksX4_commandHere_5 15 rfl rfl)
theorem dX4_commandHere_136 : decode cX4_commandHere 136 = .ok (.aload_n 0, 1) := dk_42 (dk_at dksX4_commandHere_5 18 rfl rfl)
theorem dX4_commandHere_137 : decode cX4_commandHere 137 = .ok (.iload_n 1, 1) := dk_27 (dk_at dksX4_commandHere_5 19 rfl rfl)
theorem dX4_commandHere_138 : decode cX4_commandHere 138 = .ok (.iconst 1, 1) := dk_4 (dk_at dksX4_commandHere_5 20 rfl rfl)
theorem dX4_commandHere_139 : decode cX4_commandHere 139 = .ok (.invokevirtual 234, 3) := dk_182 0 234 (dk_at dksX4_commandHere_5 21 rfl rfl)
theorem dX4_commandHere_142 : decode cX4_commandHere 142 = .ok (.ifCond .eq 29, 3) := dk_153 0 29 (dk_at dksX4_commandHere_6 0 rfl rfl)
theorem dX4_commandHere_145 : decode cX4_commandHere 145 = .ok (.aload_n 0, 1) := dk_42 (dk_at dksX4_commandHere_6 3 rfl rfl)
theorem dX4_commandHere_146 : decode cX4_commandHere 146 = .ok (.iload_n 1, 1) := dk_27 (dk_at dksX4_commandHere_6 4 rfl rfl)
theorem dX4_commandHere_147 : decode cX4_commandHere 147 = .ok (.iconst 1, 1) := dk_4 (dk_at dksX4_commandHere_6 5 rfl rfl)
theorem dX4_commandHere_148 : decode cX4_commandHere 148 = .ok (.iadd, 1) := dk_96 (dk_at dksX4_commandHere_6 6 rfl rfl)
theorem dX4_commandHere_149 : decode cX4_commandHere 149 = .ok (.iconst 1, 1) := dk_4 (dk_at dksX4_commandHere_6 7 rfl rfl)
theorem dX4_commandHere_150 : decode cX4_commandHere 150 = .ok (.invokevirtual 225, 3) := dk_182 0 225 (dk_at dksX4_commandHere_6 8 rfl rfl)
theorem dX4_commandHere_153 : decode cX4_commandHere 153 = .ok (.ifCond .eq 18, 3) := dk_153 0 18 (dk_at dksX4_commandHere_6 11 rfl rfl)
theorem dX4_commandHere_156 : decode cX4_commandHere 156 = .ok (.aload_n 0, 1) := dk_42 (dk_at dksX4_commandHere_6 14 rfl rfl)
theorem dX4_commandHere_157 : decode cX4_commandHere 157 = .ok (.iload_n 1, 1) := dk_27 (dk_at dksX4_commandHere_6 15 rfl rfl)
theorem dX4_commandHere_158 : decode cX4_commandHere 158 = .ok (.iconst 2, 1) := dk_5 (dk_at dksX4_commandHere_6 16 rfl rfl)
theorem dX4_commandHere_159 : decode cX4_commandHere 159 = .ok (.iadd, 1) := dk_96 (dk_at dksX4_commandHere_6 17 rfl rfl)
theorem dX4_commandHere_160 : decode cX4_commandHere 160 = .ok (.iconst 4, 1) := dk_7 (dk_at dksX4_commandHere_6 18 rfl rfl)
theorem dX4_commandHere_161 : decode cX4_commandHere 161 = .ok (.invokevirtual 234, 3) := dk_182 0 234 (dk_at dksX4_commandHere_6 19 rfl rfl)
theorem dX4_commandHere_164 : decode cX4_commandHere 164 = .ok (.ifCond .eq 7, 3) := dk_153 0 7 (dk_at dksX4_commandHere_7 0 rfl rfl)
theorem dX4_commandHere_167 : decode cX4_commandHere 167 = .ok (.iconst 1, 1) := dk_4 (dk_at dksX4_commandHere_7 3 rfl rfl)
theorem dX4_commandHere_168 : decode cX4_commandHere 168 = .ok (.goto 4, 3) := dk_167 0 4 (dk_at dksX4_commandHere_7 4 rfl rfl)
theorem dX4_commandHere_171 : decode cX4_commandHere 171 = .ok (.iconst 0, 1) := dk_3 (dk_at dksX4_commandHere_7 7 rfl rfl)
theorem dX4_commandHere_172 : decode cX4_commandHere 172 = .ok (.ireturn, 1) := dk_172 (dk_at dksX4_commandHere_7 8 rfl rfl)
theorem dX4_commandHere_173 : decode cX4_commandHere 173 = .ok (.aload_n 0, 1) := dk_42 (dk_at dksX4_commandHere_7 9 rfl rfl)
theorem dX4_commandHere_174 : decode cX4_commandHere 174 = .ok (.bipush 98, 2) := dk_16 98 (dk_at dksX4_commandHere_7 10 rfl rfl)
theorem dX4_commandHere_176 : decode cX4_commandHere 176 = .ok (.invokevirtual 222, 3) := dk_182 0 222 (dk_at dksX4_commandHere_7 12 rfl rfl)
theorem dX4_commandHere_179 : decode cX4_commandHere 179 = .ok (.ifCond .eq 51, 3) := dk_153 0 51 (dk_at dksX4_commandHere_7 15 rfl rfl)
theorem dX4_commandHere_182 : decode cX4_commandHere 182 = .ok (.aload_n 0, 1) := dk_42 (dk_at dksX4_commandHere_7 18 rfl rfl)
theorem dX4_commandHere_183 : decode cX4_commandHere 183 = .ok (.bipush 8, 2) := dk_16 8 (dk_at dksX4_commandHere_7 19 rfl rfl)
theorem dX4_commandHere_185 : decode cX4_commandHere 185 = .ok (.ldc 250, 2) := dk_18 250 (dk_at dksX4_commandHere_7 21 rfl rfl)
theorem dX4_commandHere_187 : decode cX4_commandHere 187 = .ok (.invokevirtual 230, 3) := dk_182 0 230 (dk_at dksX4_commandHere_8 0 rfl rfl)
theorem dX4_commandHere_190 : decode cX4_commandHere 190 = .ok (.ifCond .eq 38, 3) := dk_153 0 38 (dk_at dksX4_commandHere_8 3 rfl rfl)
theorem dX4_commandHere_193 : decode cX4_commandHere 193 = .ok (.aload_n 0, 1) := dk_42 (dk_at dksX4_commandHere_8 6 rfl rfl)
theorem dX4_commandHere_194 : decode cX4_commandHere 194 = .ok (.iload_n 1, 1) := dk_27 (dk_at dksX4_commandHere_8 7 rfl rfl)
theorem dX4_commandHere_195 : decode cX4_commandHere 195 = .ok (.iconst 1, 1) := dk_4 (dk_at dksX4_commandHere_8 8 rfl rfl)
theorem dX4_commandHere_196 : decode cX4_commandHere 196 = .ok (.invokevirtual 234, 3) := dk_182 0 234 (dk_at dksX4_commandHere_8 9 rfl rfl)
theorem dX4_commandHere_199 : decode cX4_commandHere 199 = .ok (.ifCond .eq 29, 3) := dk_153 0 29 (dk_at dksX4_commandHere_8 12 rfl rfl)
theorem dX4_commandHere_202 : decode cX4_commandHere 202 = .ok (.aload_n 0, 1) := dk_42 (dk_at dksX4_commandHere_8 15 rfl rfl)
theorem dX4_commandHere_203 : decode cX4_commandHere 203 = .ok (.iload_n 1, 1) := dk_27 (dk_at dksX4_commandHere_8 16 rfl rfl)
theorem dX4_commandHere_204 : decode cX4_commandHere 204 = .ok (.iconst 1, 1) := dk_4 (dk_at dksX4_commandHere_8 17 rfl rfl)
theorem dX4_commandHere_205 : decode cX4_commandHere 205 = .ok (.iadd, 1) := dk_96 (dk_at dksX4_commandHere_8 18 rfl rfl)
theorem dX4_commandHere_206 : decode cX4_commandHere 206 = .ok (.iconst 1, 1) := dk_4 (dk_at dksX4_commandHere_8 19 rfl rfl)
theorem dX4_commandHere_207 : decode cX4_commandHere 207 = .ok (.invokevirtual 234, 3) := dk_182 0 234 (dk_at dksX4_commandHere_8 20 rfl rfl)
theorem dX4_commandHere_210 : decode cX4_commandHere 210 = .ok (.ifCond .eq 18, 3) := dk_153 0 18 (dk_at dksX4_commandHere_9 0 rfl rfl)
theorem dX4_commandHere_213 : decode cX4_commandHere 213 = .ok (.aload_n 0, 1) := dk_42 (dk_at dksX4_commandHere_9 3 rfl rfl)
theorem dX4_commandHere_214 : decode cX4_commandHere 214 = .ok (.iload_n 1, 1) := dk_27 (dk_at dksX4_commandHere_9 4 rfl rfl)
theorem dX4_commandHere_215 : decode cX4_commandHere 215 = .ok (.iconst 2, 1) := dk_5 (dk_at dksX4_commandHere_9 5 rfl rfl)
theorem dX4_commandHere_216 : decode cX4_commandHere 216 = .ok (.iadd, 1) := dk_96 (dk_at dksX4_commandHere_9 6 rfl rfl)
theorem dX4_commandHere_217 : decode cX4_commandHere 217 = .ok (.iconst 1, 1) := dk_4 (dk_at dksX4_commandHere_9 7 rfl rfl)
theorem dX4_commandHere_218 : decode cX4_commandHere 218 = .ok (.invokevirtual 225, 3) := dk_182 0 225 (dk_at dksX4_commandHere_9 8 rfl rfl)
theorem dX4_commandHere_221 : decode cX4_commandHere 221 = .ok (.ifCond .eq 7, 3) := dk_153 0 7 (dk_at dksX4_commandHere_9 11 rfl rfl)
theorem dX4_commandHere_224 : decode cX4_commandHere 224 = .ok (.iconst 1, 1) := dk_4 (dk_at dksX4_commandHere_9 14 rfl rfl)
theorem dX4_commandHere_225 : decode cX4_commandHere 225 = .ok (.goto 4, 3) := dk_167 0 4 (dk_at dksX4_commandHere_9 15 rfl rfl)
theorem dX4_commandHere_228 : decode cX4_commandHere 228 = .ok (.iconst 0, 1) := dk_3 (dk_at dksX4_commandHere_9 18 rfl rfl)
theorem dX4_commandHere_229 : decode cX4_commandHere 229 = .ok (.ireturn, 1) := dk_172 (dk_at dksX4_commandHere_9 19 rfl rfl)
theorem dX4_commandHere_230 : decode cX4_commandHere 230 = .ok (.aload_n 0, 1) := dk_42 (dk_at dksX4_commandHere_9 20 rfl rfl)
theorem dX4_commandHere_231 : decode cX4_commandHere 231 = .ok (.bipush 100, 2) := dk_16 100 (dk_at dksX4_commandHere_9 21 rfl rfl)
theorem dX4_commandHere_233 : decode cX4_commandHere 233 = .ok (.invokevirtual 222, 3) := dk_182 0 222 (dk_at dksX4_commandHere_10 0 rfl rfl)
theorem dX4_commandHere_236 : decode cX4_commandHere 236 = .ok (.ifCond .eq 29, 3) := dk_153 0 29 (dk_at dksX4_commandHere_10 3 rfl rfl)
theorem dX4_commandHere_239 : decode cX4_commandHere 239 = .ok (.aload_n 0, 1) := dk_42 (dk_at dksX4_commandHere_10 6 rfl rfl)
theorem dX4_commandHere_240 : decode cX4_commandHere 240 = .ok (.bipush 9, 2) := dk_16 9 (dk_at dksX4_commandHere_10 7 rfl rfl)
theorem dX4_commandHere_242 : decode cX4_commandHere 242 = .ok (.ldc 252, 2) := dk_18 252 (dk_at dksX4_commandHere_10 9 rfl rfl)
theorem dX4_commandHere_244 : decode cX4_commandHere 244 = .ok (.invokevirtual 230, 3) := dk_182 0 230 (dk_at dksX4_commandHere_10 11 rfl rfl)
theorem dX4_commandHere_247 : decode cX4_commandHere 247 = .ok (.ifCond .eq 16, 3) := dk_153 0 16 (dk_at dksX4_commandHere_10 14 rfl rfl)
theorem dX4_commandHere_250 : decode cX4_commandHere 250 = .ok (.aload_n 0, 1) := dk_42 (dk_at dksX4_commandHere_10 17 rfl rfl)
theorem dX4_commandHere_251 : decode cX4_commandHere 251 = .ok (.iload_n 1, 1) := dk_27 (dk_at dksX4_commandHere_10 18 rfl rfl)
theorem dX4_commandHere_252 : decode cX4_commandHere 252 = .ok (.iconst 4, 1) := dk_7 (dk_at dksX4_commandHere_10 19 rfl rfl)
theorem dX4_commandHere_253 : decode cX4_commandHere 253 = .ok (.invokevirtual 234, 3) := dk_182 0 234 (dk_at dksX4_commandHere_10 20 rfl rfl)
theorem dX4_commandHere_256 : decode cX4_commandHere 256 = .ok (.ifCond .eq 7, 3) := dk_153 0 7 (dk_at dksX4_commandHere_11 0 rfl rfl)
theorem dX4_commandHere_259 : decode cX4_commandHere 259 = .ok (.iconst 1, 1) := dk_4 (dk_at dksX4_commandHere_11 3 rfl rfl)
theorem dX4_commandHere_260 : decode cX4_commandHere 260 = .ok (.goto 4, 3) := dk_167 0 4 (dk_at dksX4_commandHere_11 4 rfl rfl)
theorem dX4_commandHere_263 : decode cX4_commandHere 263 = .ok (.iconst 0, 1) := dk_3 (dk_at dksX4_commandHere_11 7 rfl rfl)
theorem dX4_commandHere_264 : decode cX4_commandHere 264 = .ok (.ireturn, 1) := dk_172 (dk_at dksX4_commandHere_11 8 rfl rfl)
theorem dX4_commandHere_265 : decode cX4_commandHere 265 = .ok (.aload_n 0, 1) := dk_42 (dk_at dksX4_commandHere_11 9 rfl rfl)
theorem dX4_commandHere_266 : decode cX4_commandHere 266 = .ok (.bipush 108, 2) := dk_16 108 (dk_at dksX4_commandHere_11 10 rfl rfl)
theorem dX4_commandHere_268 : decode cX4_commandHere 268 = .ok (.invokevirtual 222, 3) := dk_182 0 222 (dk_at dksX4_commandHere_11 12 rfl rfl)
theorem dX4_commandHere_271 : decode cX4_commandHere 271 = .ok (.ifCond .eq 12, 3) := dk_153 0 12 (dk_at dksX4_commandHere_11 15 rfl rfl)
theorem dX4_commandHere_274 : decode cX4_commandHere 274 = .ok (.aload_n 0, 1) := dk_42 (dk_at dksX4_commandHere_11 18 rfl rfl)
theorem dX4_commandHere_275 : decode cX4_commandHere 275 = .ok (.bipush 97, 2) := dk_16 97 (dk_at dksX4_commandHere_11 19 rfl rfl)
theorem dX4_commandHere_277 : decode cX4_commandHere 277 = .ok (.invokevirtual 222, 3) := dk_182 0 222 (dk_at dksX4_commandHere_11 21 rfl rfl)
theorem dX4_commandHere_280 : decode cX4_commandHere 280 = .ok (.ifCond .ne 5, 3) := dk_154 0 5 (dk_at dksX4_commandHere_12 0 rfl rfl)
theorem dX4_commandHere_283 : decode cX4_commandHere 283 = .ok (.iconst 0, 1) := dk_3 (dk_at dksX4_commandHere_12 3 rfl rfl)
theorem dX4_commandHere_284 : decode cX4_commandHere 284 = .ok (.ireturn, 1) := dk_172 (dk_at dksX4_commandHere_12 4 rfl rfl)
theorem dX4_commandHere_285 : decode cX4_commandHere 285 = .ok (.aload_n 0, 1) := dk_42 (dk_at dksX4_commandHere_12 5 rfl rfl)
theorem dX4_commandHere_286 : decode cX4_commandHere 286 = .ok (.bipush 116, 2) := dk_16 116 (dk_at dksX4_commandHere_12 6 rfl rfl)
theorem dX4_commandHere_288 : decode cX4_commandHere 288 = .ok (.invokevirtual 222, 3) := dk_182 0 222 (dk_at dksX4_commandHere_12 8 rfl rfl)
theorem dX4_commandHere_291 : decode cX4_commandHere 291 = .ok (.ifCond .eq 41, 3) := dk_153 0 41 (dk_at dksX4_commandHere_12 11 rfl rfl)
theorem dX4_commandHere_294 : decode cX4_commandHere 294 = .ok (.aload_n 0, 1) := dk_42 (dk_at dksX4_commandHere_12 14 rfl rfl)
theorem dX4_commandHere_295 : decode cX4_commandHere 295 = .ok (.iconst 3, 1) := dk_6 (dk_at dksX4_commandHere_12 15 rfl rfl)
theorem dX4_commandHere_296 : decode cX4_commandHere 296 = .ok (.ldc 254, 2) := dk_18 254 (dk_at dksX4_commandHere_12 16 rfl rfl)
theorem dX4_commandHere_298 : decode cX4_commandHere 298 = .ok (.invokevirtual 230, 3) := dk_182 0 230 (dk_at dksX4_commandHere_12 18 rfl rfl)
theorem dX4_commandHere_301 : decode cX4_commandHere 301 = .ok (.ifCond .eq 27, 3) := dk_153 0 27 (dk_at dksX4_commandHere_12 21 rfl rfl)
theorem dX4_commandHere_304 : decode cX4_commandHere 304 = .ok (.aload_n 0, 1) := dk_42 (dk_at dksX4_commandHere_13 0 rfl rfl)
theorem dX4_commandHere_305 : decode cX4_commandHere 305 = .ok (.iload_n 1, 1) := dk_27 (dk_at dksX4_commandHere_13 1 rfl rfl)
theorem dX4_commandHere_306 : decode cX4_commandHere 306 = .ok (.iconst 1, 1) := dk_4 (dk_at dksX4_commandHere_13 2 rfl rfl)
theorem dX4_commandHere_307 : decode cX4_commandHere 307 = .ok (.invokevirtual 234, 3) := dk_182 0 234 (dk_at dksX4_commandHere_13 3 rfl rfl)
theorem dX4_commandHere_310 : decode cX4_commandHere 310 = .ok (.ifCond .eq 18, 3) := dk_153 0 18 (dk_at dksX4_commandHere_13 6 rfl rfl)
theorem dX4_commandHere_313 : decode cX4_commandHere 313 = .ok (.aload_n 0, 1) := dk_42 (dk_at dksX4_commandHere_13 9 rfl rfl)
theorem dX4_commandHere_314 : decode cX4_commandHere 314 = .ok (.iload_n 1, 1) := dk_27 (dk_at dksX4_commandHere_13 10 rfl rfl)
theorem dX4_commandHere_315 : decode cX4_commandHere 315 = .ok (.iconst 1, 1) := dk_4 (dk_at dksX4_commandHere_13 11 rfl rfl)
theorem dX4_commandHere_316 : decode cX4_commandHere 316 = .ok (.iadd, 1) := dk_96 (dk_at dksX4_commandHere_13 12 rfl rfl)
theorem dX4_commandHere_317 : decode cX4_commandHere 317 = .ok (.iconst 4, 1) := dk_7 (dk_at dksX4_commandHere_13 13 rfl rfl)
theorem dX4_commandHere_318 : decode cX4_commandHere 318 = .ok (.invokevirtual 234, 3) := dk_182 0 234 (dk_at dksX4_commandHere_13 14 rfl rfl)
theorem dX4_commandHere_321 : decode cX4_commandHere 321 = .ok (.ifCond .eq 7, 3) := dk_153 0 7 (dk_at dksX4_commandHere_13 17 rfl rfl)
theorem dX4_commandHere_324 : decode cX4_commandHere 324 = .ok (.iconst 1, 1) := dk_4 (dk_at dksX4_commandHere_13 20 rfl rfl)
theorem dX4_commandHere_325 : decode cX4_commandHere 325 = .ok (.goto 43, 3) := dk_167 0 43 (dk_at dksX4_commandHere_13 21 rfl rfl)
theorem dX4_commandHere_328 : decode cX4_commandHere 328 = .ok (.iconst 0, 1) := dk_3 (dk_at dksX4_commandHere_14 0 rfl rfl)
theorem dX4_commandHere_329 : decode cX4_commandHere 329 = .ok (.goto 39, 3) := dk_167 0 39 (dk_at dksX4_commandHere_14 1 rfl rfl)
theorem dX4_commandHere_332 : decode cX4_commandHere 332 = .ok (.aload_n 0, 1) := dk_42 (dk_at dksX4_commandHere_14 4 rfl rfl)
theorem dX4_commandHere_333 : decode cX4_commandHere 333 = .ok (.iconst 5, 1) := dk_8 (dk_at dksX4_commandHere_14 5 rfl rfl)
theorem dX4_commandHere_334 : decode cX4_commandHere 334 = .ok (.ldc_w 256, 3) := dk_19 1 0 (dk_at dksX4_commandHere_14 6 rfl rfl)
theorem dX4_commandHere_337 : decode cX4_commandHere 337 = .ok (.invokevirtual 230, 3) := dk_182 0 230 (dk_at dksX4_commandHere_14 9 rfl rfl)
theorem dX4_commandHere_340 : decode cX4_commandHere 340 = .ok (.ifCond .eq 27, 3) := dk_153 0 27 (dk_at dksX4_commandHere_14 12 rfl rfl)
theorem dX4_commandHere_343 : decode cX4_commandHere 343 = .ok (.aload_n 0, 1) := dk_42 (dk_at dksX4_commandHere_14 15 rfl rfl)
theorem dX4_commandHere_344 : decode cX4_commandHere 344 = .ok (.iload_n 1, 1) := dk_27 (dk_at dksX4_commandHere_14 16 rfl rfl)
theorem dX4_commandHere_345 : decode cX4_commandHere 345 = .ok (.iconst 4, 1) := dk_7 (dk_at dksX4_commandHere_14 17 rfl rfl)
theorem dX4_commandHere_346 : decode cX4_commandHere 346 = .ok (.invokevirtual 234, 3) := dk_182 0 234 (dk_at dksX4_commandHere_14 18 rfl rfl)
theorem dX4_commandHere_349 : decode cX4_commandHere 349 = .ok (.ifCond .eq 18, 3) := dk_153 0 18 (dk_at dksX4_commandHere_14 21 rfl rfl)
theorem dX4_commandHere_352 : decode cX4_commandHere 352 = .ok (.aload_n 0, 1) := dk_42 (dk_at dksX4_commandHere_15 0 rfl rfl)
theorem dX4_commandHere_353 : decode cX4_commandHere 353 = .ok (.iload_n 1, 1) := dk_27 (dk_at dksX4_commandHere_15 1 rfl rfl)
theorem dX4_commandHere_354 : decode cX4_commandHere 354 = .ok (.iconst 1, 1) := dk_4 (dk_at dksX4_commandHere_15 2 rfl rfl)
theorem dX4_commandHere_355 : decode cX4_commandHere 355 = .ok (.iadd, 1) := dk_96 (dk_at dksX4_commandHere_15 3 rfl rfl)
theorem dX4_commandHere_356 : decode cX4_commandHere 356 = .ok (.iconst 1, 1) := dk_4 (dk_at dksX4_commandHere_15 4 rfl rfl)
theorem dX4_commandHere_357 : decode cX4_commandHere 357 = .ok (.invokevirtual 234, 3) := dk_182 0 234 (dk_at dksX4_commandHere_15 5 rfl rfl)
theorem dX4_commandHere_360 : decode cX4_commandHere 360 = .ok (.ifCond .eq 7, 3) := dk_153 0 7 (dk_at dksX4_commandHere_15 8 rfl rfl)
theorem dX4_commandHere_363 : decode cX4_commandHere 363 = .ok (.iconst 1, 1) := dk_4 (dk_at dksX4_commandHere_15 11 rfl rfl)
theorem dX4_commandHere_364 : decode cX4_commandHere 364 = .ok (.goto 4, 3) := dk_167 0 4 (dk_at dksX4_commandHere_15 12 rfl rfl)
theorem dX4_commandHere_367 : decode cX4_commandHere 367 = .ok (.iconst 0, 1) := dk_3 (dk_at dksX4_commandHere_15 15 rfl rfl)
theorem dX4_commandHere_368 : decode cX4_commandHere 368 = .ok (.ireturn, 1) := dk_172 (dk_at dksX4_commandHere_15 16 rfl rfl)
abbrev cX4_skips : ByteArray := prog_20_method_89_code
def yX4_skips : MethodName := ⟨RX4, "skips", "(I)Z"⟩
def dkwX4_skips_0 : List UInt8 := [42, 182, 0, 208, 27, 159, 0, 5, 3, 172, 42, 89, 180, 0, 205, 4, 96, 181, 0, 205, 4, 172]
abbrev dktX4_skips_0 : List UInt8 := dkwX4_skips_0 ++ []
theorem dksX4_skips_0 : cX4_skips.data.toList.drop 0 = dktX4_skips_0 := by decide +kernel
theorem dX4_skips_0 : decode cX4_skips 0 = .ok (.aload_n 0, 1) := dk_42 (dk_at dksX4_skips_0 0 rfl rfl)
theorem dX4_skips_1 : decode cX4_skips 1 = .ok (.invokevirtual 208, 3) := dk_182 0 208 (dk_at dksX4_skips_0 1 rfl rfl)
theorem dX4_skips_4 : decode cX4_skips 4 = .ok (.iload_n 1, 1) := dk_27 (dk_at dksX4_skips_0 4 rfl rfl)
theorem dX4_skips_5 : decode cX4_skips 5 = .ok (.if_icmp .eq 5, 3) := dk_159 0 5 (dk_at dksX4_skips_0 5 rfl rfl)
theorem dX4_skips_8 : decode cX4_skips 8 = .ok (.iconst 0, 1) := dk_3 (dk_at dksX4_skips_0 8 rfl rfl)
theorem dX4_skips_9 : decode cX4_skips 9 = .ok (.ireturn, 1) := dk_172 (dk_at dksX4_skips_0 9 rfl rfl)
theorem dX4_skips_10 : decode cX4_skips 10 = .ok (.aload_n 0, 1) := dk_42 (dk_at dksX4_skips_0 10 rfl rfl)
theorem dX4_skips_11 : decode cX4_skips 11 = .ok (.dup, 1) := dk_89 (dk_at dksX4_skips_0 11 rfl rfl)
theorem dX4_skips_12 : decode cX4_skips 12 = .ok (.getfield 205, 3) := dk_180 0 205 (dk_at dksX4_skips_0 12 rfl rfl)
theorem dX4_skips_15 : decode cX4_skips 15 = .ok (.iconst 1, 1) := dk_4 (dk_at dksX4_skips_0 15 rfl rfl)
theorem dX4_skips_16 : decode cX4_skips 16 = .ok (.iadd, 1) := dk_96 (dk_at dksX4_skips_0 16 rfl rfl)
theorem dX4_skips_17 : decode cX4_skips 17 = .ok (.putfield 205, 3) := dk_181 0 205 (dk_at dksX4_skips_0 17 rfl rfl)
theorem dX4_skips_20 : decode cX4_skips 20 = .ok (.iconst 1, 1) := dk_4 (dk_at dksX4_skips_0 20 rfl rfl)
theorem dX4_skips_21 : decode cX4_skips 21 = .ok (.ireturn, 1) := dk_172 (dk_at dksX4_skips_0 21 rfl rfl)
abbrev cX4_here : ByteArray := prog_20_method_88_code
def yX4_here : MethodName := ⟨RX4, "here", "()I"⟩
def dkwX4_here_1 : List UInt8 := [172]
abbrev dktX4_here_1 : List UInt8 := dkwX4_here_1 ++ []
def dkwX4_here_0 : List UInt8 := [42, 180, 0, 205, 42, 180, 0, 202, 162, 0, 15, 42, 180, 0, 22, 42, 180, 0, 205, 46, 167, 0, 4, 2]
abbrev dktX4_here_0 : List UInt8 := dkwX4_here_0 ++ dktX4_here_1
theorem dksX4_here_0 : cX4_here.data.toList.drop 0 = dktX4_here_0 := by decide +kernel
theorem dksX4_here_1 : cX4_here.data.toList.drop 24 = dktX4_here_1 := dk_seg dksX4_here_0 24 rfl rfl
theorem dX4_here_0 : decode cX4_here 0 = .ok (.aload_n 0, 1) := dk_42 (dk_at dksX4_here_0 0 rfl rfl)
theorem dX4_here_1 : decode cX4_here 1 = .ok (.getfield 205, 3) := dk_180 0 205 (dk_at dksX4_here_0 1 rfl rfl)
theorem dX4_here_4 : decode cX4_here 4 = .ok (.aload_n 0, 1) := dk_42 (dk_at dksX4_here_0 4 rfl rfl)
theorem dX4_here_5 : decode cX4_here 5 = .ok (.getfield 202, 3) := dk_180 0 202 (dk_at dksX4_here_0 5 rfl rfl)
theorem dX4_here_8 : decode cX4_here 8 = .ok (.if_icmp .ge 15, 3) := dk_162 0 15 (dk_at dksX4_here_0 8 rfl rfl)
theorem dX4_here_11 : decode cX4_here 11 = .ok (.aload_n 0, 1) := dk_42 (dk_at dksX4_here_0 11 rfl rfl)
theorem dX4_here_12 : decode cX4_here 12 = .ok (.getfield 22, 3) := dk_180 0 22 (dk_at dksX4_here_0 12 rfl rfl)
theorem dX4_here_15 : decode cX4_here 15 = .ok (.aload_n 0, 1) := dk_42 (dk_at dksX4_here_0 15 rfl rfl)
theorem dX4_here_16 : decode cX4_here 16 = .ok (.getfield 205, 3) := dk_180 0 205 (dk_at dksX4_here_0 16 rfl rfl)
theorem dX4_here_19 : decode cX4_here 19 = .ok (.iaload, 1) := dk_46 (dk_at dksX4_here_0 19 rfl rfl)
theorem dX4_here_20 : decode cX4_here 20 = .ok (.goto 4, 3) := dk_167 0 4 (dk_at dksX4_here_0 20 rfl rfl)
theorem dX4_here_23 : decode cX4_here 23 = .ok (.iconst (-1), 1) := dk_2 (dk_at dksX4_here_0 23 rfl rfl)
theorem dX4_here_24 : decode cX4_here 24 = .ok (.ireturn, 1) := dk_172 (dk_at dksX4_here_1 0 rfl rfl)
abbrev cX4_withS : ByteArray := prog_20_method_93_code
def yX4_withS : MethodName := ⟨RX4, "withS", "(I)Z"⟩
def dkwX4_withS_5 : List UInt8 := [182, 0, 234, 153, 0, 18, 42, 27, 6, 96, 7, 182, 0, 234, 153, 0, 7, 4, 167, 0, 4, 3, 172]
abbrev dktX4_withS_5 : List UInt8 := dkwX4_withS_5 ++ []
def dkwX4_withS_4 : List UInt8 := [182, 0, 234, 153, 0, 40, 42, 27, 4, 96, 4, 182, 0, 225, 153, 0, 29, 42, 27, 5, 96, 7]
abbrev dktX4_withS_4 : List UInt8 := dkwX4_withS_4 ++ dktX4_withS_5
def dkwX4_withS_3 : List UInt8 := [153, 0, 7, 4, 167, 0, 4, 3, 172, 42, 5, 18, 239, 182, 0, 230, 153, 0, 49, 42, 27, 4]
abbrev dktX4_withS_3 : List UInt8 := dkwX4_withS_3 ++ dktX4_withS_4
def dkwX4_withS_2 : List UInt8 := [16, 97, 182, 0, 222, 153, 0, 28, 42, 3, 18, 237, 182, 0, 230, 153, 0, 16, 42, 27, 7, 182, 0, 234]
abbrev dktX4_withS_2 : List UInt8 := dkwX4_withS_2 ++ dktX4_withS_3
def dkwX4_withS_1 : List UInt8 := [182, 0, 234, 153, 0, 7, 4, 167, 0, 4, 3, 172, 42, 16, 116, 182, 0, 222, 154, 0, 5, 3, 172, 42]
abbrev dktX4_withS_1 : List UInt8 := dkwX4_withS_1 ++ dktX4_withS_2
def dkwX4_withS_0 : List UInt8 := [42, 16, 101, 182, 0, 222, 153, 0, 29, 42, 16, 6, 18, 228, 182, 0, 230, 153, 0, 16, 42, 27, 7]
abbrev dktX4_withS_0 : List UInt8 := dkwX4_withS_0 ++ dktX4_withS_1
theorem dksX4_withS_0 : cX4_withS.data.toList.drop 0 = dktX4_withS_0 := by decide +kernel
theorem dksX4_withS_1 : cX4_withS.data.toList.drop 23 = dktX4_withS_1 := dk_seg dksX4_withS_0 23 rfl rfl
theorem dksX4_withS_2 : cX4_withS.data.toList.drop 47 = dktX4_withS_2 := dk_seg dksX4_withS_1 24 rfl rfl
theorem dksX4_withS_3 : cX4_withS.data.toList.drop 71 = dktX4_withS_3 := dk_seg dksX4_withS_2 24 rfl rfl
theorem dksX4_withS_4 : cX4_withS.data.toList.drop 93 = dktX4_withS_4 := dk_seg dksX4_withS_3 22 rfl rfl
theorem dksX4_withS_5 : cX4_withS.data.toList.drop 115 = dktX4_withS_5 := dk_seg dksX4_withS_4 22 rfl rfl
theorem dX4_withS_0 : decode cX4_withS 0 = .ok (.aload_n 0, 1) := dk_42 (dk_at dksX4_withS_0 0 rfl rfl)
theorem dX4_withS_1 : decode cX4_withS 1 = .ok (.bipush 101, 2) := dk_16 101 (dk_at dksX4_withS_0 1 rfl rfl)
theorem dX4_withS_3 : decode cX4_withS 3 = .ok (.invokevirtual 222, 3) := dk_182 0 222 (dk_at dksX4_withS_0 3 rfl rfl)
theorem dX4_withS_6 : decode cX4_withS 6 = .ok (.ifCond .eq 29, 3) := dk_153 0 29 (dk_at dksX4_withS_0 6 rfl rfl)
theorem dX4_withS_9 : decode cX4_withS 9 = .ok (.aload_n 0, 1) := dk_42 (dk_at dksX4_withS_0 9 rfl rfl)
theorem dX4_withS_10 : decode cX4_withS 10 = .ok (.bipush 6, 2) := dk_16 6 (dk_at dksX4_withS_0 10 rfl rfl)
theorem dX4_withS_12 : decode cX4_withS 12 = .ok (.ldc 228, 2) := dk_18 228 (dk_at dksX4_withS_0 12 rfl rfl)
theorem dX4_withS_14 : decode cX4_withS 14 = .ok (.invokevirtual 230, 3) := dk_182 0 230 (dk_at dksX4_withS_0 14 rfl rfl)
theorem dX4_withS_17 : decode cX4_withS 17 = .ok (.ifCond .eq 16, 3) := dk_153 0 16 (dk_at dksX4_withS_0 17 rfl rfl)
theorem dX4_withS_20 : decode cX4_withS 20 = .ok (.aload_n 0, 1) := dk_42 (dk_at dksX4_withS_0 20 rfl rfl)
theorem dX4_withS_21 : decode cX4_withS 21 = .ok (.iload_n 1, 1) := dk_27 (dk_at dksX4_withS_0 21 rfl rfl)
theorem dX4_withS_22 : decode cX4_withS 22 = .ok (.iconst 4, 1) := dk_7 (dk_at dksX4_withS_0 22 rfl rfl)
theorem dX4_withS_23 : decode cX4_withS 23 = .ok (.invokevirtual 234, 3) := dk_182 0 234 (dk_at dksX4_withS_1 0 rfl rfl)
theorem dX4_withS_26 : decode cX4_withS 26 = .ok (.ifCond .eq 7, 3) := dk_153 0 7 (dk_at dksX4_withS_1 3 rfl rfl)
theorem dX4_withS_29 : decode cX4_withS 29 = .ok (.iconst 1, 1) := dk_4 (dk_at dksX4_withS_1 6 rfl rfl)
theorem dX4_withS_30 : decode cX4_withS 30 = .ok (.goto 4, 3) := dk_167 0 4 (dk_at dksX4_withS_1 7 rfl rfl)
theorem dX4_withS_33 : decode cX4_withS 33 = .ok (.iconst 0, 1) := dk_3 (dk_at dksX4_withS_1 10 rfl rfl)
theorem dX4_withS_34 : decode cX4_withS 34 = .ok (.ireturn, 1) := dk_172 (dk_at dksX4_withS_1 11 rfl rfl)
theorem dX4_withS_35 : decode cX4_withS 35 = .ok (.aload_n 0, 1) := dk_42 (dk_at dksX4_withS_1 12 rfl rfl)
theorem dX4_withS_36 : decode cX4_withS 36 = .ok (.bipush 116, 2) := dk_16 116 (dk_at dksX4_withS_1 13 rfl rfl)
theorem dX4_withS_38 : decode cX4_withS 38 = .ok (.invokevirtual 222, 3) := dk_182 0 222 (dk_at dksX4_withS_1 15 rfl rfl)
theorem dX4_withS_41 : decode cX4_withS 41 = .ok (.ifCond .ne 5, 3) := dk_154 0 5 (dk_at dksX4_withS_1 18 rfl rfl)
theorem dX4_withS_44 : decode cX4_withS 44 = .ok (.iconst 0, 1) := dk_3 (dk_at dksX4_withS_1 21 rfl rfl)
theorem dX4_withS_45 : decode cX4_withS 45 = .ok (.ireturn, 1) := dk_172 (dk_at dksX4_withS_1 22 rfl rfl)
theorem dX4_withS_46 : decode cX4_withS 46 = .ok (.aload_n 0, 1) := dk_42 (dk_at dksX4_withS_1 23 rfl rfl)
theorem dX4_withS_47 : decode cX4_withS 47 = .ok (.bipush 97, 2) := dk_16 97 (dk_at dksX4_withS_2 0 rfl rfl)
theorem dX4_withS_49 : decode cX4_withS 49 = .ok (.invokevirtual 222, 3) := dk_182 0 222 (dk_at dksX4_withS_2 2 rfl rfl)
theorem dX4_withS_52 : decode cX4_withS 52 = .ok (.ifCond .eq 28, 3) := dk_153 0 28 (dk_at dksX4_withS_2 5 rfl rfl)
theorem dX4_withS_55 : decode cX4_withS 55 = .ok (.aload_n 0, 1) := dk_42 (dk_at dksX4_withS_2 8 rfl rfl)
theorem dX4_withS_56 : decode cX4_withS 56 = .ok (.iconst 0, 1) := dk_3 (dk_at dksX4_withS_2 9 rfl rfl)
theorem dX4_withS_57 : decode cX4_withS 57 = .ok (.ldc 237, 2) := dk_18 237 (dk_at dksX4_withS_2 10 rfl rfl)
theorem dX4_withS_59 : decode cX4_withS 59 = .ok (.invokevirtual 230, 3) := dk_182 0 230 (dk_at dksX4_withS_2 12 rfl rfl)
theorem dX4_withS_62 : decode cX4_withS 62 = .ok (.ifCond .eq 16, 3) := dk_153 0 16 (dk_at dksX4_withS_2 15 rfl rfl)
theorem dX4_withS_65 : decode cX4_withS 65 = .ok (.aload_n 0, 1) := dk_42 (dk_at dksX4_withS_2 18 rfl rfl)
theorem dX4_withS_66 : decode cX4_withS 66 = .ok (.iload_n 1, 1) := dk_27 (dk_at dksX4_withS_2 19 rfl rfl)
theorem dX4_withS_67 : decode cX4_withS 67 = .ok (.iconst 4, 1) := dk_7 (dk_at dksX4_withS_2 20 rfl rfl)
theorem dX4_withS_68 : decode cX4_withS 68 = .ok (.invokevirtual 234, 3) := dk_182 0 234 (dk_at dksX4_withS_2 21 rfl rfl)
theorem dX4_withS_71 : decode cX4_withS 71 = .ok (.ifCond .eq 7, 3) := dk_153 0 7 (dk_at dksX4_withS_3 0 rfl rfl)
theorem dX4_withS_74 : decode cX4_withS 74 = .ok (.iconst 1, 1) := dk_4 (dk_at dksX4_withS_3 3 rfl rfl)
theorem dX4_withS_75 : decode cX4_withS 75 = .ok (.goto 4, 3) := dk_167 0 4 (dk_at dksX4_withS_3 4 rfl rfl)
theorem dX4_withS_78 : decode cX4_withS 78 = .ok (.iconst 0, 1) := dk_3 (dk_at dksX4_withS_3 7 rfl rfl)
theorem dX4_withS_79 : decode cX4_withS 79 = .ok (.ireturn, 1) := dk_172 (dk_at dksX4_withS_3 8 rfl rfl)
theorem dX4_withS_80 : decode cX4_withS 80 = .ok (.aload_n 0, 1) := dk_42 (dk_at dksX4_withS_3 9 rfl rfl)
theorem dX4_withS_81 : decode cX4_withS 81 = .ok (.iconst 2, 1) := dk_5 (dk_at dksX4_withS_3 10 rfl rfl)
theorem dX4_withS_82 : decode cX4_withS 82 = .ok (.ldc 239, 2) := dk_18 239 (dk_at dksX4_withS_3 11 rfl rfl)
theorem dX4_withS_84 : decode cX4_withS 84 = .ok (.invokevirtual 230, 3) := dk_182 0 230 (dk_at dksX4_withS_3 13 rfl rfl)
theorem dX4_withS_87 : decode cX4_withS 87 = .ok (.ifCond .eq 49, 3) := dk_153 0 49 (dk_at dksX4_withS_3 16 rfl rfl)
theorem dX4_withS_90 : decode cX4_withS 90 = .ok (.aload_n 0, 1) := dk_42 (dk_at dksX4_withS_3 19 rfl rfl)
theorem dX4_withS_91 : decode cX4_withS 91 = .ok (.iload_n 1, 1) := dk_27 (dk_at dksX4_withS_3 20 rfl rfl)
theorem dX4_withS_92 : decode cX4_withS 92 = .ok (.iconst 1, 1) := dk_4 (dk_at dksX4_withS_3 21 rfl rfl)
theorem dX4_withS_93 : decode cX4_withS 93 = .ok (.invokevirtual 234, 3) := dk_182 0 234 (dk_at dksX4_withS_4 0 rfl rfl)
theorem dX4_withS_96 : decode cX4_withS 96 = .ok (.ifCond .eq 40, 3) := dk_153 0 40 (dk_at dksX4_withS_4 3 rfl rfl)
theorem dX4_withS_99 : decode cX4_withS 99 = .ok (.aload_n 0, 1) := dk_42 (dk_at dksX4_withS_4 6 rfl rfl)
theorem dX4_withS_100 : decode cX4_withS 100 = .ok (.iload_n 1, 1) := dk_27 (dk_at dksX4_withS_4 7 rfl rfl)
theorem dX4_withS_101 : decode cX4_withS 101 = .ok (.iconst 1, 1) := dk_4 (dk_at dksX4_withS_4 8 rfl rfl)
theorem dX4_withS_102 : decode cX4_withS 102 = .ok (.iadd, 1) := dk_96 (dk_at dksX4_withS_4 9 rfl rfl)
theorem dX4_withS_103 : decode cX4_withS 103 = .ok (.iconst 1, 1) := dk_4 (dk_at dksX4_withS_4 10 rfl rfl)
theorem dX4_withS_104 : decode cX4_withS 104 = .ok (.invokevirtual 225, 3) := dk_182 0 225 (dk_at dksX4_withS_4 11 rfl rfl)
theorem dX4_withS_107 : decode cX4_withS 107 = .ok (.ifCond .eq 29, 3) := dk_153 0 29 (dk_at dksX4_withS_4 14 rfl rfl)
theorem dX4_withS_110 : decode cX4_withS 110 = .ok (.aload_n 0, 1) := dk_42 (dk_at dksX4_withS_4 17 rfl rfl)
theorem dX4_withS_111 : decode cX4_withS 111 = .ok (.iload_n 1, 1) := dk_27 (dk_at dksX4_withS_4 18 rfl rfl)
theorem dX4_withS_112 : decode cX4_withS 112 = .ok (.iconst 2, 1) := dk_5 (dk_at dksX4_withS_4 19 rfl rfl)
theorem dX4_withS_113 : decode cX4_withS 113 = .ok (.iadd, 1) := dk_96 (dk_at dksX4_withS_4 20 rfl rfl)
theorem dX4_withS_114 : decode cX4_withS 114 = .ok (.iconst 4, 1) := dk_7 (dk_at dksX4_withS_4 21 rfl rfl)
theorem dX4_withS_115 : decode cX4_withS 115 = .ok (.invokevirtual 234, 3) := dk_182 0 234 (dk_at dksX4_withS_5 0 rfl rfl)
theorem dX4_withS_118 : decode cX4_withS 118 = .ok (.ifCond .eq 18, 3) := dk_153 0 18 (dk_at dksX4_withS_5 3 rfl rfl)
theorem dX4_withS_121 : decode cX4_withS 121 = .ok (.aload_n 0, 1) := dk_42 (dk_at dksX4_withS_5 6 rfl rfl)
theorem dX4_withS_122 : decode cX4_withS 122 = .ok (.iload_n 1, 1) := dk_27 (dk_at dksX4_withS_5 7 rfl rfl)
theorem dX4_withS_123 : decode cX4_withS 123 = .ok (.iconst 3, 1) := dk_6 (dk_at dksX4_withS_5 8 rfl rfl)
theorem dX4_withS_124 : decode cX4_withS 124 = .ok (.iadd, 1) := dk_96 (dk_at dksX4_withS_5 9 rfl rfl)
theorem dX4_withS_125 : decode cX4_withS 125 = .ok (.iconst 4, 1) := dk_7 (dk_at dksX4_withS_5 10 rfl rfl)
theorem dX4_withS_126 : decode cX4_withS 126 = .ok (.invokevirtual 234, 3) := dk_182 0 234 (dk_at dksX4_withS_5 11 rfl rfl)
theorem dX4_withS_129 : decode cX4_withS 129 = .ok (.ifCond .eq 7, 3) := dk_153 0 7 (dk_at dksX4_withS_5 14 rfl rfl)
theorem dX4_withS_132 : decode cX4_withS 132 = .ok (.iconst 1, 1) := dk_4 (dk_at dksX4_withS_5 17 rfl rfl)
theorem dX4_withS_133 : decode cX4_withS 133 = .ok (.goto 4, 3) := dk_167 0 4 (dk_at dksX4_withS_5 18 rfl rfl)
theorem dX4_withS_136 : decode cX4_withS 136 = .ok (.iconst 0, 1) := dk_3 (dk_at dksX4_withS_5 21 rfl rfl)
theorem dX4_withS_137 : decode cX4_withS 137 = .ok (.ireturn, 1) := dk_172 (dk_at dksX4_withS_5 22 rfl rfl)
abbrev cX4_isWord : ByteArray := prog_20_method_90_code
def yX4_isWord : MethodName := ⟨RX4, "isWord", "(ILjava/lang/String;)Z"⟩
def dkwX4_isWord_1 : List UInt8 := [29, 182, 0, 218, 182, 0, 222, 154, 0, 5, 3, 172, 132, 3, 1, 167, 255, 231, 4, 172]
abbrev dktX4_isWord_1 : List UInt8 := dkwX4_isWord_1 ++ []
def dkwX4_isWord_0 : List UInt8 := [42, 180, 0, 51, 8, 42, 180, 0, 211, 104, 27, 79, 3, 62, 29, 44, 182, 0, 214, 162, 0, 23, 42, 44]
abbrev dktX4_isWord_0 : List UInt8 := dkwX4_isWord_0 ++ dktX4_isWord_1
theorem dksX4_isWord_0 : cX4_isWord.data.toList.drop 0 = dktX4_isWord_0 := by decide +kernel
theorem dksX4_isWord_1 : cX4_isWord.data.toList.drop 24 = dktX4_isWord_1 := dk_seg dksX4_isWord_0 24 rfl rfl
theorem dX4_isWord_0 : decode cX4_isWord 0 = .ok (.aload_n 0, 1) := dk_42 (dk_at dksX4_isWord_0 0 rfl rfl)
theorem dX4_isWord_1 : decode cX4_isWord 1 = .ok (.getfield 51, 3) := dk_180 0 51 (dk_at dksX4_isWord_0 1 rfl rfl)
theorem dX4_isWord_4 : decode cX4_isWord 4 = .ok (.iconst 5, 1) := dk_8 (dk_at dksX4_isWord_0 4 rfl rfl)
theorem dX4_isWord_5 : decode cX4_isWord 5 = .ok (.aload_n 0, 1) := dk_42 (dk_at dksX4_isWord_0 5 rfl rfl)
theorem dX4_isWord_6 : decode cX4_isWord 6 = .ok (.getfield 211, 3) := dk_180 0 211 (dk_at dksX4_isWord_0 6 rfl rfl)
theorem dX4_isWord_9 : decode cX4_isWord 9 = .ok (.imul, 1) := dk_104 (dk_at dksX4_isWord_0 9 rfl rfl)
theorem dX4_isWord_10 : decode cX4_isWord 10 = .ok (.iload_n 1, 1) := dk_27 (dk_at dksX4_isWord_0 10 rfl rfl)
theorem dX4_isWord_11 : decode cX4_isWord 11 = .ok (.iastore, 1) := dk_79 (dk_at dksX4_isWord_0 11 rfl rfl)
theorem dX4_isWord_12 : decode cX4_isWord 12 = .ok (.iconst 0, 1) := dk_3 (dk_at dksX4_isWord_0 12 rfl rfl)
theorem dX4_isWord_13 : decode cX4_isWord 13 = .ok (.istore_n 3, 1) := dk_62 (dk_at dksX4_isWord_0 13 rfl rfl)
theorem dX4_isWord_14 : decode cX4_isWord 14 = .ok (.iload_n 3, 1) := dk_29 (dk_at dksX4_isWord_0 14 rfl rfl)
theorem dX4_isWord_15 : decode cX4_isWord 15 = .ok (.aload_n 2, 1) := dk_44 (dk_at dksX4_isWord_0 15 rfl rfl)
theorem dX4_isWord_16 : decode cX4_isWord 16 = .ok (.invokevirtual 214, 3) := dk_182 0 214 (dk_at dksX4_isWord_0 16 rfl rfl)
theorem dX4_isWord_19 : decode cX4_isWord 19 = .ok (.if_icmp .ge 23, 3) := dk_162 0 23 (dk_at dksX4_isWord_0 19 rfl rfl)
theorem dX4_isWord_22 : decode cX4_isWord 22 = .ok (.aload_n 0, 1) := dk_42 (dk_at dksX4_isWord_0 22 rfl rfl)
theorem dX4_isWord_23 : decode cX4_isWord 23 = .ok (.aload_n 2, 1) := dk_44 (dk_at dksX4_isWord_0 23 rfl rfl)
theorem dX4_isWord_24 : decode cX4_isWord 24 = .ok (.iload_n 3, 1) := dk_29 (dk_at dksX4_isWord_1 0 rfl rfl)
theorem dX4_isWord_25 : decode cX4_isWord 25 = .ok (.invokevirtual 218, 3) := dk_182 0 218 (dk_at dksX4_isWord_1 1 rfl rfl)
theorem dX4_isWord_28 : decode cX4_isWord 28 = .ok (.invokevirtual 222, 3) := dk_182 0 222 (dk_at dksX4_isWord_1 4 rfl rfl)
theorem dX4_isWord_31 : decode cX4_isWord 31 = .ok (.ifCond .ne 5, 3) := dk_154 0 5 (dk_at dksX4_isWord_1 7 rfl rfl)
theorem dX4_isWord_34 : decode cX4_isWord 34 = .ok (.iconst 0, 1) := dk_3 (dk_at dksX4_isWord_1 10 rfl rfl)
theorem dX4_isWord_35 : decode cX4_isWord 35 = .ok (.ireturn, 1) := dk_172 (dk_at dksX4_isWord_1 11 rfl rfl)
theorem dX4_isWord_36 : decode cX4_isWord 36 = .ok (.iinc 3 1, 3) := dk_132 3 1 (dk_at dksX4_isWord_1 12 rfl rfl)
theorem dX4_isWord_39 : decode cX4_isWord 39 = .ok (.goto (-25), 3) := dk_167 255 231 (dk_at dksX4_isWord_1 15 rfl rfl)
theorem dX4_isWord_42 : decode cX4_isWord 42 = .ok (.iconst 1, 1) := dk_4 (dk_at dksX4_isWord_1 18 rfl rfl)
theorem dX4_isWord_43 : decode cX4_isWord 43 = .ok (.ireturn, 1) := dk_172 (dk_at dksX4_isWord_1 19 rfl rfl)
abbrev cX4_figures : ByteArray := prog_20_method_92_code
def yX4_figures : MethodName := ⟨RX4, "figures", "(II)Z"⟩
def dkwX4_figures_0 : List UInt8 := [42, 16, 32, 182, 0, 222, 153, 0, 16, 42, 27, 28, 182, 0, 225, 153, 0, 7, 4, 167, 0, 4, 3, 172]
abbrev dktX4_figures_0 : List UInt8 := dkwX4_figures_0 ++ []
theorem dksX4_figures_0 : cX4_figures.data.toList.drop 0 = dktX4_figures_0 := by decide +kernel
theorem dX4_figures_0 : decode cX4_figures 0 = .ok (.aload_n 0, 1) := dk_42 (dk_at dksX4_figures_0 0 rfl rfl)
theorem dX4_figures_1 : decode cX4_figures 1 = .ok (.bipush 32, 2) := dk_16 32 (dk_at dksX4_figures_0 1 rfl rfl)
theorem dX4_figures_3 : decode cX4_figures 3 = .ok (.invokevirtual 222, 3) := dk_182 0 222 (dk_at dksX4_figures_0 3 rfl rfl)
theorem dX4_figures_6 : decode cX4_figures 6 = .ok (.ifCond .eq 16, 3) := dk_153 0 16 (dk_at dksX4_figures_0 6 rfl rfl)
theorem dX4_figures_9 : decode cX4_figures 9 = .ok (.aload_n 0, 1) := dk_42 (dk_at dksX4_figures_0 9 rfl rfl)
theorem dX4_figures_10 : decode cX4_figures 10 = .ok (.iload_n 1, 1) := dk_27 (dk_at dksX4_figures_0 10 rfl rfl)
theorem dX4_figures_11 : decode cX4_figures 11 = .ok (.iload_n 2, 1) := dk_28 (dk_at dksX4_figures_0 11 rfl rfl)
theorem dX4_figures_12 : decode cX4_figures 12 = .ok (.invokevirtual 225, 3) := dk_182 0 225 (dk_at dksX4_figures_0 12 rfl rfl)
theorem dX4_figures_15 : decode cX4_figures 15 = .ok (.ifCond .eq 7, 3) := dk_153 0 7 (dk_at dksX4_figures_0 15 rfl rfl)
theorem dX4_figures_18 : decode cX4_figures 18 = .ok (.iconst 1, 1) := dk_4 (dk_at dksX4_figures_0 18 rfl rfl)
theorem dX4_figures_19 : decode cX4_figures 19 = .ok (.goto 4, 3) := dk_167 0 4 (dk_at dksX4_figures_0 19 rfl rfl)
theorem dX4_figures_22 : decode cX4_figures 22 = .ok (.iconst 0, 1) := dk_3 (dk_at dksX4_figures_0 22 rfl rfl)
theorem dX4_figures_23 : decode cX4_figures 23 = .ok (.ireturn, 1) := dk_172 (dk_at dksX4_figures_0 23 rfl rfl)
abbrev cX4_digits : ByteArray := prog_20_method_91_code
def yX4_digits : MethodName := ⟨RX4, "digits", "(II)Z"⟩
def dkwX4_digits_3 : List UInt8 := [4, 96, 181, 0, 205, 132, 3, 1, 167, 255, 201, 4, 172]
abbrev dktX4_digits_3 : List UInt8 := dkwX4_digits_3 ++ []
def dkwX4_digits_2 : List UInt8 := [27, 16, 10, 42, 180, 0, 51, 27, 46, 104, 42, 182, 0, 208, 96, 16, 48, 100, 79, 42, 89, 180, 0, 205]
abbrev dktX4_digits_2 : List UInt8 := dkwX4_digits_2 ++ dktX4_digits_3
def dkwX4_digits_1 : List UInt8 := [62, 29, 28, 162, 0, 56, 42, 182, 0, 208, 16, 48, 16, 57, 184, 0, 68, 153, 0, 42, 42, 180, 0, 51]
abbrev dktX4_digits_1 : List UInt8 := dkwX4_digits_1 ++ dktX4_digits_2
def dkwX4_digits_0 : List UInt8 := [42, 182, 0, 208, 16, 48, 16, 57, 184, 0, 68, 154, 0, 5, 3, 172, 42, 180, 0, 51, 27, 3, 79, 3]
abbrev dktX4_digits_0 : List UInt8 := dkwX4_digits_0 ++ dktX4_digits_1
theorem dksX4_digits_0 : cX4_digits.data.toList.drop 0 = dktX4_digits_0 := by decide +kernel
theorem dksX4_digits_1 : cX4_digits.data.toList.drop 24 = dktX4_digits_1 := dk_seg dksX4_digits_0 24 rfl rfl
theorem dksX4_digits_2 : cX4_digits.data.toList.drop 48 = dktX4_digits_2 := dk_seg dksX4_digits_1 24 rfl rfl
theorem dksX4_digits_3 : cX4_digits.data.toList.drop 72 = dktX4_digits_3 := dk_seg dksX4_digits_2 24 rfl rfl
theorem dX4_digits_0 : decode cX4_digits 0 = .ok (.aload_n 0, 1) := dk_42 (dk_at dksX4_digits_0 0 rfl rfl)
theorem dX4_digits_1 : decode cX4_digits 1 = .ok (.invokevirtual 208, 3) := dk_182 0 208 (dk_at dksX4_digits_0 1 rfl rfl)
theorem dX4_digits_4 : decode cX4_digits 4 = .ok (.bipush 48, 2) := dk_16 48 (dk_at dksX4_digits_0 4 rfl rfl)
theorem dX4_digits_6 : decode cX4_digits 6 = .ok (.bipush 57, 2) := dk_16 57 (dk_at dksX4_digits_0 6 rfl rfl)
theorem dX4_digits_8 : decode cX4_digits 8 = .ok (.invokestatic 68, 3) := dk_184 0 68 (dk_at dksX4_digits_0 8 rfl rfl)
theorem dX4_digits_11 : decode cX4_digits 11 = .ok (.ifCond .ne 5, 3) := dk_154 0 5 (dk_at dksX4_digits_0 11 rfl rfl)
theorem dX4_digits_14 : decode cX4_digits 14 = .ok (.iconst 0, 1) := dk_3 (dk_at dksX4_digits_0 14 rfl rfl)
theorem dX4_digits_15 : decode cX4_digits 15 = .ok (.ireturn, 1) := dk_172 (dk_at dksX4_digits_0 15 rfl rfl)
theorem dX4_digits_16 : decode cX4_digits 16 = .ok (.aload_n 0, 1) := dk_42 (dk_at dksX4_digits_0 16 rfl rfl)
theorem dX4_digits_17 : decode cX4_digits 17 = .ok (.getfield 51, 3) := dk_180 0 51 (dk_at dksX4_digits_0 17 rfl rfl)
theorem dX4_digits_20 : decode cX4_digits 20 = .ok (.iload_n 1, 1) := dk_27 (dk_at dksX4_digits_0 20 rfl rfl)
theorem dX4_digits_21 : decode cX4_digits 21 = .ok (.iconst 0, 1) := dk_3 (dk_at dksX4_digits_0 21 rfl rfl)
theorem dX4_digits_22 : decode cX4_digits 22 = .ok (.iastore, 1) := dk_79 (dk_at dksX4_digits_0 22 rfl rfl)
theorem dX4_digits_23 : decode cX4_digits 23 = .ok (.iconst 0, 1) := dk_3 (dk_at dksX4_digits_0 23 rfl rfl)
theorem dX4_digits_24 : decode cX4_digits 24 = .ok (.istore_n 3, 1) := dk_62 (dk_at dksX4_digits_1 0 rfl rfl)
theorem dX4_digits_25 : decode cX4_digits 25 = .ok (.iload_n 3, 1) := dk_29 (dk_at dksX4_digits_1 1 rfl rfl)
theorem dX4_digits_26 : decode cX4_digits 26 = .ok (.iload_n 2, 1) := dk_28 (dk_at dksX4_digits_1 2 rfl rfl)
theorem dX4_digits_27 : decode cX4_digits 27 = .ok (.if_icmp .ge 56, 3) := dk_162 0 56 (dk_at dksX4_digits_1 3 rfl rfl)
theorem dX4_digits_30 : decode cX4_digits 30 = .ok (.aload_n 0, 1) := dk_42 (dk_at dksX4_digits_1 6 rfl rfl)
theorem dX4_digits_31 : decode cX4_digits 31 = .ok (.invokevirtual 208, 3) := dk_182 0 208 (dk_at dksX4_digits_1 7 rfl rfl)
theorem dX4_digits_34 : decode cX4_digits 34 = .ok (.bipush 48, 2) := dk_16 48 (dk_at dksX4_digits_1 10 rfl rfl)
theorem dX4_digits_36 : decode cX4_digits 36 = .ok (.bipush 57, 2) := dk_16 57 (dk_at dksX4_digits_1 12 rfl rfl)
theorem dX4_digits_38 : decode cX4_digits 38 = .ok (.invokestatic 68, 3) := dk_184 0 68 (dk_at dksX4_digits_1 14 rfl rfl)
theorem dX4_digits_41 : decode cX4_digits 41 = .ok (.ifCond .eq 42, 3) := dk_153 0 42 (dk_at dksX4_digits_1 17 rfl rfl)
theorem dX4_digits_44 : decode cX4_digits 44 = .ok (.aload_n 0, 1) := dk_42 (dk_at dksX4_digits_1 20 rfl rfl)
theorem dX4_digits_45 : decode cX4_digits 45 = .ok (.getfield 51, 3) := dk_180 0 51 (dk_at dksX4_digits_1 21 rfl rfl)
theorem dX4_digits_48 : decode cX4_digits 48 = .ok (.iload_n 1, 1) := dk_27 (dk_at dksX4_digits_2 0 rfl rfl)
theorem dX4_digits_49 : decode cX4_digits 49 = .ok (.bipush 10, 2) := dk_16 10 (dk_at dksX4_digits_2 1 rfl rfl)
theorem dX4_digits_51 : decode cX4_digits 51 = .ok (.aload_n 0, 1) := dk_42 (dk_at dksX4_digits_2 3 rfl rfl)
theorem dX4_digits_52 : decode cX4_digits 52 = .ok (.getfield 51, 3) := dk_180 0 51 (dk_at dksX4_digits_2 4 rfl rfl)
theorem dX4_digits_55 : decode cX4_digits 55 = .ok (.iload_n 1, 1) := dk_27 (dk_at dksX4_digits_2 7 rfl rfl)
theorem dX4_digits_56 : decode cX4_digits 56 = .ok (.iaload, 1) := dk_46 (dk_at dksX4_digits_2 8 rfl rfl)
theorem dX4_digits_57 : decode cX4_digits 57 = .ok (.imul, 1) := dk_104 (dk_at dksX4_digits_2 9 rfl rfl)
theorem dX4_digits_58 : decode cX4_digits 58 = .ok (.aload_n 0, 1) := dk_42 (dk_at dksX4_digits_2 10 rfl rfl)
theorem dX4_digits_59 : decode cX4_digits 59 = .ok (.invokevirtual 208, 3) := dk_182 0 208 (dk_at dksX4_digits_2 11 rfl rfl)
theorem dX4_digits_62 : decode cX4_digits 62 = .ok (.iadd, 1) := dk_96 (dk_at dksX4_digits_2 14 rfl rfl)
theorem dX4_digits_63 : decode cX4_digits 63 = .ok (.bipush 48, 2) := dk_16 48 (dk_at dksX4_digits_2 15 rfl rfl)
theorem dX4_digits_65 : decode cX4_digits 65 = .ok (.isub, 1) := dk_100 (dk_at dksX4_digits_2 17 rfl rfl)
theorem dX4_digits_66 : decode cX4_digits 66 = .ok (.iastore, 1) := dk_79 (dk_at dksX4_digits_2 18 rfl rfl)
theorem dX4_digits_67 : decode cX4_digits 67 = .ok (.aload_n 0, 1) := dk_42 (dk_at dksX4_digits_2 19 rfl rfl)
theorem dX4_digits_68 : decode cX4_digits 68 = .ok (.dup, 1) := dk_89 (dk_at dksX4_digits_2 20 rfl rfl)
theorem dX4_digits_69 : decode cX4_digits 69 = .ok (.getfield 205, 3) := dk_180 0 205 (dk_at dksX4_digits_2 21 rfl rfl)
theorem dX4_digits_72 : decode cX4_digits 72 = .ok (.iconst 1, 1) := dk_4 (dk_at dksX4_digits_3 0 rfl rfl)
theorem dX4_digits_73 : decode cX4_digits 73 = .ok (.iadd, 1) := dk_96 (dk_at dksX4_digits_3 1 rfl rfl)
theorem dX4_digits_74 : decode cX4_digits 74 = .ok (.putfield 205, 3) := dk_181 0 205 (dk_at dksX4_digits_3 2 rfl rfl)
theorem dX4_digits_77 : decode cX4_digits 77 = .ok (.iinc 3 1, 3) := dk_132 3 1 (dk_at dksX4_digits_3 5 rfl rfl)
theorem dX4_digits_80 : decode cX4_digits 80 = .ok (.goto (-55), 3) := dk_167 255 201 (dk_at dksX4_digits_3 8 rfl rfl)
theorem dX4_digits_83 : decode cX4_digits 83 = .ok (.iconst 1, 1) := dk_4 (dk_at dksX4_digits_3 11 rfl rfl)
theorem dX4_digits_84 : decode cX4_digits 84 = .ok (.ireturn, 1) := dk_172 (dk_at dksX4_digits_3 12 rfl rfl)
abbrev cX4_does : ByteArray := prog_20_method_96_code
def yX4_does : MethodName := ⟨RX4, "does", "(I)I"⟩
def dkwX4_does_6 : List UInt8 := [182, 1, 31, 172, 42, 28, 182, 1, 34, 172]
abbrev dktX4_does_6 : List UInt8 := dkwX4_does_6 ++ []
def dkwX4_does_5 : List UInt8 := [42, 28, 29, 182, 1, 22, 172, 42, 28, 182, 1, 25, 172, 42, 28, 182, 1, 28, 172, 42, 28, 29, 21, 4]
abbrev dktX4_does_5 : List UInt8 := dkwX4_does_5 ++ dktX4_does_6
def dkwX4_does_4 : List UInt8 := [27, 7, 96, 46, 182, 1, 12, 172, 42, 28, 29, 182, 1, 16, 172, 42, 28, 29, 21, 4, 182, 1, 19, 172]
abbrev dktX4_does_4 : List UInt8 := dkwX4_does_4 ++ dktX4_does_5
def dkwX4_does_3 : List UInt8 := [42, 28, 182, 1, 6, 172, 42, 28, 29, 21, 4, 182, 1, 9, 172, 42, 28, 29, 21, 4, 42, 180, 0, 51]
abbrev dktX4_does_3 : List UInt8 := dkwX4_does_3 ++ dktX4_does_4
def dkwX4_does_2 : List UInt8 := [170, 0, 0, 0, 0, 126, 0, 0, 0, 0, 0, 0, 0, 8, 0, 0, 0, 50, 0, 0, 0, 56, 0, 0, 0, 65, 0, 0, 0, 82, 0, 0, 0, 89, 0, 0, 0, 98, 0, 0, 0, 105, 0, 0, 0, 111, 0, 0, 0, 117]
abbrev dktX4_does_2 : List UInt8 := dkwX4_does_2 ++ dktX4_does_3
def dkwX4_does_1 : List UInt8 := [96, 46, 54, 4, 42, 180, 0, 51, 27, 46]
abbrev dktX4_does_1 : List UInt8 := dkwX4_does_1 ++ dktX4_does_2
def dkwX4_does_0 : List UInt8 := [42, 180, 0, 51, 27, 4, 96, 46, 61, 42, 180, 0, 51, 27, 5, 96, 46, 62, 42, 180, 0, 51, 27, 6]
abbrev dktX4_does_0 : List UInt8 := dkwX4_does_0 ++ dktX4_does_1
theorem dksX4_does_0 : cX4_does.data.toList.drop 0 = dktX4_does_0 := by decide +kernel
theorem dksX4_does_1 : cX4_does.data.toList.drop 24 = dktX4_does_1 := dk_seg dksX4_does_0 24 rfl rfl
theorem dksX4_does_2 : cX4_does.data.toList.drop 34 = dktX4_does_2 := dk_seg dksX4_does_1 10 rfl rfl
theorem dksX4_does_3 : cX4_does.data.toList.drop 84 = dktX4_does_3 := dk_seg dksX4_does_2 50 rfl rfl
theorem dksX4_does_4 : cX4_does.data.toList.drop 108 = dktX4_does_4 := dk_seg dksX4_does_3 24 rfl rfl
theorem dksX4_does_5 : cX4_does.data.toList.drop 132 = dktX4_does_5 := dk_seg dksX4_does_4 24 rfl rfl
theorem dksX4_does_6 : cX4_does.data.toList.drop 156 = dktX4_does_6 := dk_seg dksX4_does_5 24 rfl rfl
theorem dX4_does_0 : decode cX4_does 0 = .ok (.aload_n 0, 1) := dk_42 (dk_at dksX4_does_0 0 rfl rfl)
theorem dX4_does_1 : decode cX4_does 1 = .ok (.getfield 51, 3) := dk_180 0 51 (dk_at dksX4_does_0 1 rfl rfl)
theorem dX4_does_4 : decode cX4_does 4 = .ok (.iload_n 1, 1) := dk_27 (dk_at dksX4_does_0 4 rfl rfl)
theorem dX4_does_5 : decode cX4_does 5 = .ok (.iconst 1, 1) := dk_4 (dk_at dksX4_does_0 5 rfl rfl)
theorem dX4_does_6 : decode cX4_does 6 = .ok (.iadd, 1) := dk_96 (dk_at dksX4_does_0 6 rfl rfl)
theorem dX4_does_7 : decode cX4_does 7 = .ok (.iaload, 1) := dk_46 (dk_at dksX4_does_0 7 rfl rfl)
theorem dX4_does_8 : decode cX4_does 8 = .ok (.istore_n 2, 1) := dk_61 (dk_at dksX4_does_0 8 rfl rfl)
theorem dX4_does_9 : decode cX4_does 9 = .ok (.aload_n 0, 1) := dk_42 (dk_at dksX4_does_0 9 rfl rfl)
theorem dX4_does_10 : decode cX4_does 10 = .ok (.getfield 51, 3) := dk_180 0 51 (dk_at dksX4_does_0 10 rfl rfl)
theorem dX4_does_13 : decode cX4_does 13 = .ok (.iload_n 1, 1) := dk_27 (dk_at dksX4_does_0 13 rfl rfl)
theorem dX4_does_14 : decode cX4_does 14 = .ok (.iconst 2, 1) := dk_5 (dk_at dksX4_does_0 14 rfl rfl)
theorem dX4_does_15 : decode cX4_does 15 = .ok (.iadd, 1) := dk_96 (dk_at dksX4_does_0 15 rfl rfl)
theorem dX4_does_16 : decode cX4_does 16 = .ok (.iaload, 1) := dk_46 (dk_at dksX4_does_0 16 rfl rfl)
theorem dX4_does_17 : decode cX4_does 17 = .ok (.istore_n 3, 1) := dk_62 (dk_at dksX4_does_0 17 rfl rfl)
theorem dX4_does_18 : decode cX4_does 18 = .ok (.aload_n 0, 1) := dk_42 (dk_at dksX4_does_0 18 rfl rfl)
theorem dX4_does_19 : decode cX4_does 19 = .ok (.getfield 51, 3) := dk_180 0 51 (dk_at dksX4_does_0 19 rfl rfl)
theorem dX4_does_22 : decode cX4_does 22 = .ok (.iload_n 1, 1) := dk_27 (dk_at dksX4_does_0 22 rfl rfl)
theorem dX4_does_23 : decode cX4_does 23 = .ok (.iconst 3, 1) := dk_6 (dk_at dksX4_does_0 23 rfl rfl)
theorem dX4_does_24 : decode cX4_does 24 = .ok (.iadd, 1) := dk_96 (dk_at dksX4_does_1 0 rfl rfl)
theorem dX4_does_25 : decode cX4_does 25 = .ok (.iaload, 1) := dk_46 (dk_at dksX4_does_1 1 rfl rfl)
theorem dX4_does_26 : decode cX4_does 26 = .ok (.istore 4, 2) := dk_54 4 (dk_at dksX4_does_1 2 rfl rfl)
theorem dX4_does_28 : decode cX4_does 28 = .ok (.aload_n 0, 1) := dk_42 (dk_at dksX4_does_1 4 rfl rfl)
theorem dX4_does_29 : decode cX4_does 29 = .ok (.getfield 51, 3) := dk_180 0 51 (dk_at dksX4_does_1 5 rfl rfl)
theorem dX4_does_32 : decode cX4_does 32 = .ok (.iload_n 1, 1) := dk_27 (dk_at dksX4_does_1 8 rfl rfl)
theorem dX4_does_33 : decode cX4_does 33 = .ok (.iaload, 1) := dk_46 (dk_at dksX4_does_1 9 rfl rfl)
theorem dX4_does_34 : decode cX4_does 34 = .ok (.tableswitch 126 0 8 #[50, 56, 65, 82, 89, 98, 105, 111, 117], 50) := by decide +kernel
theorem dX4_does_84 : decode cX4_does 84 = .ok (.aload_n 0, 1) := dk_42 (dk_at dksX4_does_3 0 rfl rfl)
theorem dX4_does_85 : decode cX4_does 85 = .ok (.iload_n 2, 1) := dk_28 (dk_at dksX4_does_3 1 rfl rfl)
theorem dX4_does_86 : decode cX4_does 86 = .ok (.invokevirtual 262, 3) := dk_182 1 6 (dk_at dksX4_does_3 2 rfl rfl)
theorem dX4_does_89 : decode cX4_does 89 = .ok (.ireturn, 1) := dk_172 (dk_at dksX4_does_3 5 rfl rfl)
theorem dX4_does_90 : decode cX4_does 90 = .ok (.aload_n 0, 1) := dk_42 (dk_at dksX4_does_3 6 rfl rfl)
theorem dX4_does_91 : decode cX4_does 91 = .ok (.iload_n 2, 1) := dk_28 (dk_at dksX4_does_3 7 rfl rfl)
theorem dX4_does_92 : decode cX4_does 92 = .ok (.iload_n 3, 1) := dk_29 (dk_at dksX4_does_3 8 rfl rfl)
theorem dX4_does_93 : decode cX4_does 93 = .ok (.iload 4, 2) := dk_21 4 (dk_at dksX4_does_3 9 rfl rfl)
theorem dX4_does_95 : decode cX4_does 95 = .ok (.invokevirtual 265, 3) := dk_182 1 9 (dk_at dksX4_does_3 11 rfl rfl)
theorem dX4_does_98 : decode cX4_does 98 = .ok (.ireturn, 1) := dk_172 (dk_at dksX4_does_3 14 rfl rfl)
theorem dX4_does_99 : decode cX4_does 99 = .ok (.aload_n 0, 1) := dk_42 (dk_at dksX4_does_3 15 rfl rfl)
theorem dX4_does_100 : decode cX4_does 100 = .ok (.iload_n 2, 1) := dk_28 (dk_at dksX4_does_3 16 rfl rfl)
theorem dX4_does_101 : decode cX4_does 101 = .ok (.iload_n 3, 1) := dk_29 (dk_at dksX4_does_3 17 rfl rfl)
theorem dX4_does_102 : decode cX4_does 102 = .ok (.iload 4, 2) := dk_21 4 (dk_at dksX4_does_3 18 rfl rfl)
theorem dX4_does_104 : decode cX4_does 104 = .ok (.aload_n 0, 1) := dk_42 (dk_at dksX4_does_3 20 rfl rfl)
theorem dX4_does_105 : decode cX4_does 105 = .ok (.getfield 51, 3) := dk_180 0 51 (dk_at dksX4_does_3 21 rfl rfl)
theorem dX4_does_108 : decode cX4_does 108 = .ok (.iload_n 1, 1) := dk_27 (dk_at dksX4_does_4 0 rfl rfl)
theorem dX4_does_109 : decode cX4_does 109 = .ok (.iconst 4, 1) := dk_7 (dk_at dksX4_does_4 1 rfl rfl)
theorem dX4_does_110 : decode cX4_does 110 = .ok (.iadd, 1) := dk_96 (dk_at dksX4_does_4 2 rfl rfl)
theorem dX4_does_111 : decode cX4_does 111 = .ok (.iaload, 1) := dk_46 (dk_at dksX4_does_4 3 rfl rfl)
theorem dX4_does_112 : decode cX4_does 112 = .ok (.invokevirtual 268, 3) := dk_182 1 12 (dk_at dksX4_does_4 4 rfl rfl)
theorem dX4_does_115 : decode cX4_does 115 = .ok (.ireturn, 1) := dk_172 (dk_at dksX4_does_4 7 rfl rfl)
theorem dX4_does_116 : decode cX4_does 116 = .ok (.aload_n 0, 1) := dk_42 (dk_at dksX4_does_4 8 rfl rfl)
theorem dX4_does_117 : decode cX4_does 117 = .ok (.iload_n 2, 1) := dk_28 (dk_at dksX4_does_4 9 rfl rfl)
theorem dX4_does_118 : decode cX4_does 118 = .ok (.iload_n 3, 1) := dk_29 (dk_at dksX4_does_4 10 rfl rfl)
theorem dX4_does_119 : decode cX4_does 119 = .ok (.invokevirtual 272, 3) := dk_182 1 16 (dk_at dksX4_does_4 11 rfl rfl)
theorem dX4_does_122 : decode cX4_does 122 = .ok (.ireturn, 1) := dk_172 (dk_at dksX4_does_4 14 rfl rfl)
theorem dX4_does_123 : decode cX4_does 123 = .ok (.aload_n 0, 1) := dk_42 (dk_at dksX4_does_4 15 rfl rfl)
theorem dX4_does_124 : decode cX4_does 124 = .ok (.iload_n 2, 1) := dk_28 (dk_at dksX4_does_4 16 rfl rfl)
theorem dX4_does_125 : decode cX4_does 125 = .ok (.iload_n 3, 1) := dk_29 (dk_at dksX4_does_4 17 rfl rfl)
theorem dX4_does_126 : decode cX4_does 126 = .ok (.iload 4, 2) := dk_21 4 (dk_at dksX4_does_4 18 rfl rfl)
theorem dX4_does_128 : decode cX4_does 128 = .ok (.invokevirtual 275, 3) := dk_182 1 19 (dk_at dksX4_does_4 20 rfl rfl)
theorem dX4_does_131 : decode cX4_does 131 = .ok (.ireturn, 1) := dk_172 (dk_at dksX4_does_4 23 rfl rfl)
theorem dX4_does_132 : decode cX4_does 132 = .ok (.aload_n 0, 1) := dk_42 (dk_at dksX4_does_5 0 rfl rfl)
theorem dX4_does_133 : decode cX4_does 133 = .ok (.iload_n 2, 1) := dk_28 (dk_at dksX4_does_5 1 rfl rfl)
theorem dX4_does_134 : decode cX4_does 134 = .ok (.iload_n 3, 1) := dk_29 (dk_at dksX4_does_5 2 rfl rfl)
theorem dX4_does_135 : decode cX4_does 135 = .ok (.invokevirtual 278, 3) := dk_182 1 22 (dk_at dksX4_does_5 3 rfl rfl)
theorem dX4_does_138 : decode cX4_does 138 = .ok (.ireturn, 1) := dk_172 (dk_at dksX4_does_5 6 rfl rfl)
theorem dX4_does_139 : decode cX4_does 139 = .ok (.aload_n 0, 1) := dk_42 (dk_at dksX4_does_5 7 rfl rfl)
theorem dX4_does_140 : decode cX4_does 140 = .ok (.iload_n 2, 1) := dk_28 (dk_at dksX4_does_5 8 rfl rfl)
theorem dX4_does_141 : decode cX4_does 141 = .ok (.invokevirtual 281, 3) := dk_182 1 25 (dk_at dksX4_does_5 9 rfl rfl)
theorem dX4_does_144 : decode cX4_does 144 = .ok (.ireturn, 1) := dk_172 (dk_at dksX4_does_5 12 rfl rfl)
theorem dX4_does_145 : decode cX4_does 145 = .ok (.aload_n 0, 1) := dk_42 (dk_at dksX4_does_5 13 rfl rfl)
theorem dX4_does_146 : decode cX4_does 146 = .ok (.iload_n 2, 1) := dk_28 (dk_at dksX4_does_5 14 rfl rfl)
theorem dX4_does_147 : decode cX4_does 147 = .ok (.invokevirtual 284, 3) := dk_182 1 28 (dk_at dksX4_does_5 15 rfl rfl)
theorem dX4_does_150 : decode cX4_does 150 = .ok (.ireturn, 1) := dk_172 (dk_at dksX4_does_5 18 rfl rfl)
theorem dX4_does_151 : decode cX4_does 151 = .ok (.aload_n 0, 1) := dk_42 (dk_at dksX4_does_5 19 rfl rfl)
theorem dX4_does_152 : decode cX4_does 152 = .ok (.iload_n 2, 1) := dk_28 (dk_at dksX4_does_5 20 rfl rfl)
theorem dX4_does_153 : decode cX4_does 153 = .ok (.iload_n 3, 1) := dk_29 (dk_at dksX4_does_5 21 rfl rfl)
theorem dX4_does_154 : decode cX4_does 154 = .ok (.iload 4, 2) := dk_21 4 (dk_at dksX4_does_5 22 rfl rfl)
theorem dX4_does_156 : decode cX4_does 156 = .ok (.invokevirtual 287, 3) := dk_182 1 31 (dk_at dksX4_does_6 0 rfl rfl)
theorem dX4_does_159 : decode cX4_does 159 = .ok (.ireturn, 1) := dk_172 (dk_at dksX4_does_6 3 rfl rfl)
theorem dX4_does_160 : decode cX4_does 160 = .ok (.aload_n 0, 1) := dk_42 (dk_at dksX4_does_6 4 rfl rfl)
theorem dX4_does_161 : decode cX4_does 161 = .ok (.iload_n 2, 1) := dk_28 (dk_at dksX4_does_6 5 rfl rfl)
theorem dX4_does_162 : decode cX4_does 162 = .ok (.invokevirtual 290, 3) := dk_182 1 34 (dk_at dksX4_does_6 6 rfl rfl)
theorem dX4_does_165 : decode cX4_does 165 = .ok (.ireturn, 1) := dk_172 (dk_at dksX4_does_6 9 rfl rfl)
abbrev cX4_errorPosition : ByteArray := prog_20_method_98_code
def yX4_errorPosition : MethodName := ⟨RX4, "errorPosition", "()I"⟩
def dkwX4_errorPosition_1 : List UInt8 := [180, 0, 25, 172]
abbrev dktX4_errorPosition_1 : List UInt8 := dkwX4_errorPosition_1 ++ []
def dkwX4_errorPosition_0 : List UInt8 := [42, 42, 180, 0, 25, 156, 0, 7, 4, 167, 0, 4, 3, 182, 0, 92, 153, 0, 7, 3, 167, 0, 7, 42]
abbrev dktX4_errorPosition_0 : List UInt8 := dkwX4_errorPosition_0 ++ dktX4_errorPosition_1
theorem dksX4_errorPosition_0 : cX4_errorPosition.data.toList.drop 0 = dktX4_errorPosition_0 := by decide +kernel
theorem dksX4_errorPosition_1 : cX4_errorPosition.data.toList.drop 24 = dktX4_errorPosition_1 := dk_seg dksX4_errorPosition_0 24 rfl rfl
theorem dX4_errorPosition_0 : decode cX4_errorPosition 0 = .ok (.aload_n 0, 1) := dk_42 (dk_at dksX4_errorPosition_0 0 rfl rfl)
theorem dX4_errorPosition_1 : decode cX4_errorPosition 1 = .ok (.aload_n 0, 1) := dk_42 (dk_at dksX4_errorPosition_0 1 rfl rfl)
theorem dX4_errorPosition_2 : decode cX4_errorPosition 2 = .ok (.getfield 25, 3) := dk_180 0 25 (dk_at dksX4_errorPosition_0 2 rfl rfl)
theorem dX4_errorPosition_5 : decode cX4_errorPosition 5 = .ok (.ifCond .ge 7, 3) := dk_156 0 7 (dk_at dksX4_errorPosition_0 5 rfl rfl)
theorem dX4_errorPosition_8 : decode cX4_errorPosition 8 = .ok (.iconst 1, 1) := dk_4 (dk_at dksX4_errorPosition_0 8 rfl rfl)
theorem dX4_errorPosition_9 : decode cX4_errorPosition 9 = .ok (.goto 4, 3) := dk_167 0 4 (dk_at dksX4_errorPosition_0 9 rfl rfl)
theorem dX4_errorPosition_12 : decode cX4_errorPosition 12 = .ok (.iconst 0, 1) := dk_3 (dk_at dksX4_errorPosition_0 12 rfl rfl)
theorem dX4_errorPosition_13 : decode cX4_errorPosition 13 = .ok (.invokevirtual 92, 3) := dk_182 0 92 (dk_at dksX4_errorPosition_0 13 rfl rfl)
theorem dX4_errorPosition_16 : decode cX4_errorPosition 16 = .ok (.ifCond .eq 7, 3) := dk_153 0 7 (dk_at dksX4_errorPosition_0 16 rfl rfl)
theorem dX4_errorPosition_19 : decode cX4_errorPosition 19 = .ok (.iconst 0, 1) := dk_3 (dk_at dksX4_errorPosition_0 19 rfl rfl)
theorem dX4_errorPosition_20 : decode cX4_errorPosition 20 = .ok (.goto 7, 3) := dk_167 0 7 (dk_at dksX4_errorPosition_0 20 rfl rfl)
theorem dX4_errorPosition_23 : decode cX4_errorPosition 23 = .ok (.aload_n 0, 1) := dk_42 (dk_at dksX4_errorPosition_0 23 rfl rfl)
theorem dX4_errorPosition_24 : decode cX4_errorPosition 24 = .ok (.getfield 25, 3) := dk_180 0 25 (dk_at dksX4_errorPosition_1 0 rfl rfl)
theorem dX4_errorPosition_27 : decode cX4_errorPosition 27 = .ok (.ireturn, 1) := dk_172 (dk_at dksX4_errorPosition_1 3 rfl rfl)
abbrev cX4_failedCommand : ByteArray := prog_20_method_99_code
def yX4_failedCommand : MethodName := ⟨RX4, "failedCommand", "()I"⟩
def dkwX4_failedCommand_1 : List UInt8 := [180, 0, 29, 172]
abbrev dktX4_failedCommand_1 : List UInt8 := dkwX4_failedCommand_1 ++ []
def dkwX4_failedCommand_0 : List UInt8 := [42, 42, 180, 0, 29, 156, 0, 7, 4, 167, 0, 4, 3, 182, 0, 92, 153, 0, 7, 3, 167, 0, 7, 42]
abbrev dktX4_failedCommand_0 : List UInt8 := dkwX4_failedCommand_0 ++ dktX4_failedCommand_1
theorem dksX4_failedCommand_0 : cX4_failedCommand.data.toList.drop 0 = dktX4_failedCommand_0 := by decide +kernel
theorem dksX4_failedCommand_1 : cX4_failedCommand.data.toList.drop 24 = dktX4_failedCommand_1 := dk_seg dksX4_failedCommand_0 24 rfl rfl
theorem dX4_failedCommand_0 : decode cX4_failedCommand 0 = .ok (.aload_n 0, 1) := dk_42 (dk_at dksX4_failedCommand_0 0 rfl rfl)
theorem dX4_failedCommand_1 : decode cX4_failedCommand 1 = .ok (.aload_n 0, 1) := dk_42 (dk_at dksX4_failedCommand_0 1 rfl rfl)
theorem dX4_failedCommand_2 : decode cX4_failedCommand 2 = .ok (.getfield 29, 3) := dk_180 0 29 (dk_at dksX4_failedCommand_0 2 rfl rfl)
theorem dX4_failedCommand_5 : decode cX4_failedCommand 5 = .ok (.ifCond .ge 7, 3) := dk_156 0 7 (dk_at dksX4_failedCommand_0 5 rfl rfl)
theorem dX4_failedCommand_8 : decode cX4_failedCommand 8 = .ok (.iconst 1, 1) := dk_4 (dk_at dksX4_failedCommand_0 8 rfl rfl)
theorem dX4_failedCommand_9 : decode cX4_failedCommand 9 = .ok (.goto 4, 3) := dk_167 0 4 (dk_at dksX4_failedCommand_0 9 rfl rfl)
theorem dX4_failedCommand_12 : decode cX4_failedCommand 12 = .ok (.iconst 0, 1) := dk_3 (dk_at dksX4_failedCommand_0 12 rfl rfl)
theorem dX4_failedCommand_13 : decode cX4_failedCommand 13 = .ok (.invokevirtual 92, 3) := dk_182 0 92 (dk_at dksX4_failedCommand_0 13 rfl rfl)
theorem dX4_failedCommand_16 : decode cX4_failedCommand 16 = .ok (.ifCond .eq 7, 3) := dk_153 0 7 (dk_at dksX4_failedCommand_0 16 rfl rfl)
theorem dX4_failedCommand_19 : decode cX4_failedCommand 19 = .ok (.iconst 0, 1) := dk_3 (dk_at dksX4_failedCommand_0 19 rfl rfl)
theorem dX4_failedCommand_20 : decode cX4_failedCommand 20 = .ok (.goto 7, 3) := dk_167 0 7 (dk_at dksX4_failedCommand_0 20 rfl rfl)
theorem dX4_failedCommand_23 : decode cX4_failedCommand 23 = .ok (.aload_n 0, 1) := dk_42 (dk_at dksX4_failedCommand_0 23 rfl rfl)
theorem dX4_failedCommand_24 : decode cX4_failedCommand 24 = .ok (.getfield 29, 3) := dk_180 0 29 (dk_at dksX4_failedCommand_1 0 rfl rfl)
theorem dX4_failedCommand_27 : decode cX4_failedCommand 27 = .ok (.ireturn, 1) := dk_172 (dk_at dksX4_failedCommand_1 3 rfl rfl)
abbrev cX4_undo : ByteArray := prog_20_method_100_code
def yX4_undo : MethodName := ⟨RX4, "undo", "()I"⟩
def dkwX4_undo_2 : List UInt8 := [3, 184, 0, 64, 42, 180, 0, 61, 172]
abbrev dktX4_undo_2 : List UInt8 := dkwX4_undo_2 ++ []
def dkwX4_undo_1 : List UInt8 := [180, 0, 61, 4, 100, 181, 0, 61, 42, 180, 0, 13, 17, 1, 48, 42, 180, 0, 61, 104, 42, 180, 0, 7]
abbrev dktX4_undo_1 : List UInt8 := dkwX4_undo_1 ++ dktX4_undo_2
def dkwX4_undo_0 : List UInt8 := [42, 42, 180, 0, 61, 154, 0, 7, 4, 167, 0, 4, 3, 182, 0, 92, 153, 0, 5, 3, 172, 42, 89]
abbrev dktX4_undo_0 : List UInt8 := dkwX4_undo_0 ++ dktX4_undo_1
theorem dksX4_undo_0 : cX4_undo.data.toList.drop 0 = dktX4_undo_0 := by decide +kernel
theorem dksX4_undo_1 : cX4_undo.data.toList.drop 23 = dktX4_undo_1 := dk_seg dksX4_undo_0 23 rfl rfl
theorem dksX4_undo_2 : cX4_undo.data.toList.drop 47 = dktX4_undo_2 := dk_seg dksX4_undo_1 24 rfl rfl
theorem dX4_undo_0 : decode cX4_undo 0 = .ok (.aload_n 0, 1) := dk_42 (dk_at dksX4_undo_0 0 rfl rfl)
theorem dX4_undo_1 : decode cX4_undo 1 = .ok (.aload_n 0, 1) := dk_42 (dk_at dksX4_undo_0 1 rfl rfl)
theorem dX4_undo_2 : decode cX4_undo 2 = .ok (.getfield 61, 3) := dk_180 0 61 (dk_at dksX4_undo_0 2 rfl rfl)
theorem dX4_undo_5 : decode cX4_undo 5 = .ok (.ifCond .ne 7, 3) := dk_154 0 7 (dk_at dksX4_undo_0 5 rfl rfl)
theorem dX4_undo_8 : decode cX4_undo 8 = .ok (.iconst 1, 1) := dk_4 (dk_at dksX4_undo_0 8 rfl rfl)
theorem dX4_undo_9 : decode cX4_undo 9 = .ok (.goto 4, 3) := dk_167 0 4 (dk_at dksX4_undo_0 9 rfl rfl)
theorem dX4_undo_12 : decode cX4_undo 12 = .ok (.iconst 0, 1) := dk_3 (dk_at dksX4_undo_0 12 rfl rfl)
theorem dX4_undo_13 : decode cX4_undo 13 = .ok (.invokevirtual 92, 3) := dk_182 0 92 (dk_at dksX4_undo_0 13 rfl rfl)
theorem dX4_undo_16 : decode cX4_undo 16 = .ok (.ifCond .eq 5, 3) := dk_153 0 5 (dk_at dksX4_undo_0 16 rfl rfl)
theorem dX4_undo_19 : decode cX4_undo 19 = .ok (.iconst 0, 1) := dk_3 (dk_at dksX4_undo_0 19 rfl rfl)
theorem dX4_undo_20 : decode cX4_undo 20 = .ok (.ireturn, 1) := dk_172 (dk_at dksX4_undo_0 20 rfl rfl)
theorem dX4_undo_21 : decode cX4_undo 21 = .ok (.aload_n 0, 1) := dk_42 (dk_at dksX4_undo_0 21 rfl rfl)
theorem dX4_undo_22 : decode cX4_undo 22 = .ok (.dup, 1) := dk_89 (dk_at dksX4_undo_0 22 rfl rfl)
theorem dX4_undo_23 : decode cX4_undo 23 = .ok (.getfield 61, 3) := dk_180 0 61 (dk_at dksX4_undo_1 0 rfl rfl)
theorem dX4_undo_26 : decode cX4_undo 26 = .ok (.iconst 1, 1) := dk_4 (dk_at dksX4_undo_1 3 rfl rfl)
theorem dX4_undo_27 : decode cX4_undo 27 = .ok (.isub, 1) := dk_100 (dk_at dksX4_undo_1 4 rfl rfl)
theorem dX4_undo_28 : decode cX4_undo 28 = .ok (.putfield 61, 3) := dk_181 0 61 (dk_at dksX4_undo_1 5 rfl rfl)
theorem dX4_undo_31 : decode cX4_undo 31 = .ok (.aload_n 0, 1) := dk_42 (dk_at dksX4_undo_1 8 rfl rfl)
theorem dX4_undo_32 : decode cX4_undo 32 = .ok (.getfield 13, 3) := dk_180 0 13 (dk_at dksX4_undo_1 9 rfl rfl)
theorem dX4_undo_35 : decode cX4_undo 35 = .ok (.sipush 304, 3) := dk_17 1 48 (dk_at dksX4_undo_1 12 rfl rfl)
theorem dX4_undo_38 : decode cX4_undo 38 = .ok (.aload_n 0, 1) := dk_42 (dk_at dksX4_undo_1 15 rfl rfl)
theorem dX4_undo_39 : decode cX4_undo 39 = .ok (.getfield 61, 3) := dk_180 0 61 (dk_at dksX4_undo_1 16 rfl rfl)
theorem dX4_undo_42 : decode cX4_undo 42 = .ok (.imul, 1) := dk_104 (dk_at dksX4_undo_1 19 rfl rfl)
theorem dX4_undo_43 : decode cX4_undo 43 = .ok (.aload_n 0, 1) := dk_42 (dk_at dksX4_undo_1 20 rfl rfl)
theorem dX4_undo_44 : decode cX4_undo 44 = .ok (.getfield 7, 3) := dk_180 0 7 (dk_at dksX4_undo_1 21 rfl rfl)
theorem dX4_undo_47 : decode cX4_undo 47 = .ok (.iconst 0, 1) := dk_3 (dk_at dksX4_undo_2 0 rfl rfl)
theorem dX4_undo_48 : decode cX4_undo 48 = .ok (.invokestatic 64, 3) := dk_184 0 64 (dk_at dksX4_undo_2 1 rfl rfl)
theorem dX4_undo_51 : decode cX4_undo 51 = .ok (.aload_n 0, 1) := dk_42 (dk_at dksX4_undo_2 4 rfl rfl)
theorem dX4_undo_52 : decode cX4_undo 52 = .ok (.getfield 61, 3) := dk_180 0 61 (dk_at dksX4_undo_2 5 rfl rfl)
theorem dX4_undo_55 : decode cX4_undo 55 = .ok (.ireturn, 1) := dk_172 (dk_at dksX4_undo_2 8 rfl rfl)
abbrev cX4_save : ByteArray := prog_20_method_101_code
def yX4_save : MethodName := ⟨RX4, "save", "()I"⟩
def dkwX4_save_1 : List UInt8 := [180, 0, 7, 5, 46, 172]
abbrev dktX4_save_1 : List UInt8 := dkwX4_save_1 ++ []
def dkwX4_save_0 : List UInt8 := [42, 3, 181, 0, 54, 42, 4, 181, 1, 43, 42, 180, 0, 7, 3, 42, 180, 0, 16, 3, 184, 0, 64, 42]
abbrev dktX4_save_0 : List UInt8 := dkwX4_save_0 ++ dktX4_save_1
theorem dksX4_save_0 : cX4_save.data.toList.drop 0 = dktX4_save_0 := by decide +kernel
theorem dksX4_save_1 : cX4_save.data.toList.drop 24 = dktX4_save_1 := dk_seg dksX4_save_0 24 rfl rfl
theorem dX4_save_0 : decode cX4_save 0 = .ok (.aload_n 0, 1) := dk_42 (dk_at dksX4_save_0 0 rfl rfl)
theorem dX4_save_1 : decode cX4_save 1 = .ok (.iconst 0, 1) := dk_3 (dk_at dksX4_save_0 1 rfl rfl)
theorem dX4_save_2 : decode cX4_save 2 = .ok (.putfield 54, 3) := dk_181 0 54 (dk_at dksX4_save_0 2 rfl rfl)
theorem dX4_save_5 : decode cX4_save 5 = .ok (.aload_n 0, 1) := dk_42 (dk_at dksX4_save_0 5 rfl rfl)
theorem dX4_save_6 : decode cX4_save 6 = .ok (.iconst 1, 1) := dk_4 (dk_at dksX4_save_0 6 rfl rfl)
theorem dX4_save_7 : decode cX4_save 7 = .ok (.putfield 299, 3) := dk_181 1 43 (dk_at dksX4_save_0 7 rfl rfl)
theorem dX4_save_10 : decode cX4_save 10 = .ok (.aload_n 0, 1) := dk_42 (dk_at dksX4_save_0 10 rfl rfl)
theorem dX4_save_11 : decode cX4_save 11 = .ok (.getfield 7, 3) := dk_180 0 7 (dk_at dksX4_save_0 11 rfl rfl)
theorem dX4_save_14 : decode cX4_save 14 = .ok (.iconst 0, 1) := dk_3 (dk_at dksX4_save_0 14 rfl rfl)
theorem dX4_save_15 : decode cX4_save 15 = .ok (.aload_n 0, 1) := dk_42 (dk_at dksX4_save_0 15 rfl rfl)
theorem dX4_save_16 : decode cX4_save 16 = .ok (.getfield 16, 3) := dk_180 0 16 (dk_at dksX4_save_0 16 rfl rfl)
theorem dX4_save_19 : decode cX4_save 19 = .ok (.iconst 0, 1) := dk_3 (dk_at dksX4_save_0 19 rfl rfl)
theorem dX4_save_20 : decode cX4_save 20 = .ok (.invokestatic 64, 3) := dk_184 0 64 (dk_at dksX4_save_0 20 rfl rfl)
theorem dX4_save_23 : decode cX4_save 23 = .ok (.aload_n 0, 1) := dk_42 (dk_at dksX4_save_0 23 rfl rfl)
theorem dX4_save_24 : decode cX4_save 24 = .ok (.getfield 7, 3) := dk_180 0 7 (dk_at dksX4_save_1 0 rfl rfl)
theorem dX4_save_27 : decode cX4_save 27 = .ok (.iconst 2, 1) := dk_5 (dk_at dksX4_save_1 3 rfl rfl)
theorem dX4_save_28 : decode cX4_save 28 = .ok (.iaload, 1) := dk_46 (dk_at dksX4_save_1 4 rfl rfl)
theorem dX4_save_29 : decode cX4_save 29 = .ok (.ireturn, 1) := dk_172 (dk_at dksX4_save_1 5 rfl rfl)
abbrev cX4_restore : ByteArray := prog_20_method_102_code
def yX4_restore : MethodName := ⟨RX4, "restore", "()I"⟩
def dkwX4_restore_1 : List UInt8 := [180, 0, 16, 3, 42, 180, 0, 7, 3, 184, 0, 64, 42, 3, 181, 0, 61, 42, 180, 0, 7, 5, 46, 172]
abbrev dktX4_restore_1 : List UInt8 := dkwX4_restore_1 ++ []
def dkwX4_restore_0 : List UInt8 := [42, 42, 180, 1, 43, 153, 0, 7, 3, 167, 0, 4, 4, 182, 0, 92, 153, 0, 5, 3, 172, 42]
abbrev dktX4_restore_0 : List UInt8 := dkwX4_restore_0 ++ dktX4_restore_1
theorem dksX4_restore_0 : cX4_restore.data.toList.drop 0 = dktX4_restore_0 := by decide +kernel
theorem dksX4_restore_1 : cX4_restore.data.toList.drop 22 = dktX4_restore_1 := dk_seg dksX4_restore_0 22 rfl rfl
theorem dX4_restore_0 : decode cX4_restore 0 = .ok (.aload_n 0, 1) := dk_42 (dk_at dksX4_restore_0 0 rfl rfl)
theorem dX4_restore_1 : decode cX4_restore 1 = .ok (.aload_n 0, 1) := dk_42 (dk_at dksX4_restore_0 1 rfl rfl)
theorem dX4_restore_2 : decode cX4_restore 2 = .ok (.getfield 299, 3) := dk_180 1 43 (dk_at dksX4_restore_0 2 rfl rfl)
theorem dX4_restore_5 : decode cX4_restore 5 = .ok (.ifCond .eq 7, 3) := dk_153 0 7 (dk_at dksX4_restore_0 5 rfl rfl)
theorem dX4_restore_8 : decode cX4_restore 8 = .ok (.iconst 0, 1) := dk_3 (dk_at dksX4_restore_0 8 rfl rfl)
theorem dX4_restore_9 : decode cX4_restore 9 = .ok (.goto 4, 3) := dk_167 0 4 (dk_at dksX4_restore_0 9 rfl rfl)
theorem dX4_restore_12 : decode cX4_restore 12 = .ok (.iconst 1, 1) := dk_4 (dk_at dksX4_restore_0 12 rfl rfl)
theorem dX4_restore_13 : decode cX4_restore 13 = .ok (.invokevirtual 92, 3) := dk_182 0 92 (dk_at dksX4_restore_0 13 rfl rfl)
theorem dX4_restore_16 : decode cX4_restore 16 = .ok (.ifCond .eq 5, 3) := dk_153 0 5 (dk_at dksX4_restore_0 16 rfl rfl)
theorem dX4_restore_19 : decode cX4_restore 19 = .ok (.iconst 0, 1) := dk_3 (dk_at dksX4_restore_0 19 rfl rfl)
theorem dX4_restore_20 : decode cX4_restore 20 = .ok (.ireturn, 1) := dk_172 (dk_at dksX4_restore_0 20 rfl rfl)
theorem dX4_restore_21 : decode cX4_restore 21 = .ok (.aload_n 0, 1) := dk_42 (dk_at dksX4_restore_0 21 rfl rfl)
theorem dX4_restore_22 : decode cX4_restore 22 = .ok (.getfield 16, 3) := dk_180 0 16 (dk_at dksX4_restore_1 0 rfl rfl)
theorem dX4_restore_25 : decode cX4_restore 25 = .ok (.iconst 0, 1) := dk_3 (dk_at dksX4_restore_1 3 rfl rfl)
theorem dX4_restore_26 : decode cX4_restore 26 = .ok (.aload_n 0, 1) := dk_42 (dk_at dksX4_restore_1 4 rfl rfl)
theorem dX4_restore_27 : decode cX4_restore 27 = .ok (.getfield 7, 3) := dk_180 0 7 (dk_at dksX4_restore_1 5 rfl rfl)
theorem dX4_restore_30 : decode cX4_restore 30 = .ok (.iconst 0, 1) := dk_3 (dk_at dksX4_restore_1 8 rfl rfl)
theorem dX4_restore_31 : decode cX4_restore 31 = .ok (.invokestatic 64, 3) := dk_184 0 64 (dk_at dksX4_restore_1 9 rfl rfl)
theorem dX4_restore_34 : decode cX4_restore 34 = .ok (.aload_n 0, 1) := dk_42 (dk_at dksX4_restore_1 12 rfl rfl)
theorem dX4_restore_35 : decode cX4_restore 35 = .ok (.iconst 0, 1) := dk_3 (dk_at dksX4_restore_1 13 rfl rfl)
theorem dX4_restore_36 : decode cX4_restore 36 = .ok (.putfield 61, 3) := dk_181 0 61 (dk_at dksX4_restore_1 14 rfl rfl)
theorem dX4_restore_39 : decode cX4_restore 39 = .ok (.aload_n 0, 1) := dk_42 (dk_at dksX4_restore_1 17 rfl rfl)
theorem dX4_restore_40 : decode cX4_restore 40 = .ok (.getfield 7, 3) := dk_180 0 7 (dk_at dksX4_restore_1 18 rfl rfl)
theorem dX4_restore_43 : decode cX4_restore 43 = .ok (.iconst 2, 1) := dk_5 (dk_at dksX4_restore_1 21 rfl rfl)
theorem dX4_restore_44 : decode cX4_restore 44 = .ok (.iaload, 1) := dk_46 (dk_at dksX4_restore_1 22 rfl rfl)
theorem dX4_restore_45 : decode cX4_restore 45 = .ok (.ireturn, 1) := dk_172 (dk_at dksX4_restore_1 23 rfl rfl)
theorem q115 : (Jvm.Cond.initialized "SleeperRailwayModel") ∈ lw_all := lw_g (lw_at lw_m1 15 rfl) rfl
theorem q1006 : (Jvm.Cond.selects "SleeperRailwayModel" ({ cls := "java/lang/Object", name := "getClass", desc := "()Ljava/lang/Class;" } : Jvm.MethodName) ({ cls := "java/lang/Object", name := "getClass", desc := "()Ljava/lang/Class;" } : Jvm.MethodName)) ∈ lw_all := lw_g (lw_at lw_m4 186 rfl) rfl
theorem q3187 : (Jvm.Cond.selects "SleeperRailwayModel" ({ cls := "java/lang/Object", name := "equals", desc := "(Ljava/lang/Object;)Z" } : Jvm.MethodName) ({ cls := "java/lang/Object", name := "equals", desc := "(Ljava/lang/Object;)Z" } : Jvm.MethodName)) ∈ lw_all := lw_g (lw_at lw_m13 207 rfl) rfl
theorem q3495 : (Jvm.Cond.selects "SleeperRailwayModel" ({ cls := "java/lang/Object", name := "toString", desc := "()Ljava/lang/String;" } : Jvm.MethodName) ({ cls := "java/lang/Object", name := "toString", desc := "()Ljava/lang/String;" } : Jvm.MethodName)) ∈ lw_all := lw_g (lw_at lw_m15 35 rfl) rfl
theorem q3694 : (Jvm.Cond.instantiable "SleeperRailwayModel" (25 : Nat)) ∈ lw_all := lw_g (lw_at lw_m15 234 rfl) rfl
theorem q3696 : (Jvm.Cond.instanceMethod ({ cls := "SleeperRailwayModel", name := "<init>", desc := "()V" } : Jvm.MethodName)) ∈ lw_all := lw_g (lw_at lw_m15 236 rfl) rfl
theorem q3697 : (Jvm.Cond.code ({ cls := "SleeperRailwayModel", name := "<init>", desc := "()V" } : Jvm.MethodName) prog_20_method_1_code (1 : Nat) (Option.none : Option Jvm.ClassFile.FieldType)) ∈ lw_all := lw_g (lw_at lw_m15 237 rfl) rfl
theorem q3698 : (Jvm.Cond.methodLink "SleeperRailwayModel" (1 : Nat) ({ cls := "java/lang/Object", name := "<init>", desc := "()V" } : Jvm.MethodName)) ∈ lw_all := lw_g (lw_at lw_m15 238 rfl) rfl
theorem q3699 : (Jvm.Cond.fieldLink "SleeperRailwayModel" (7 : Nat) "SleeperRailwayModel" "g" "[I") ∈ lw_all := lw_g (lw_at lw_m15 239 rfl) rfl
theorem q3700 : (Jvm.Cond.fieldLink "SleeperRailwayModel" (13 : Nat) "SleeperRailwayModel" "kept" "[I") ∈ lw_all := lw_g (lw_at lw_m16 0 rfl) rfl
theorem q3701 : (Jvm.Cond.fieldLink "SleeperRailwayModel" (16 : Nat) "SleeperRailwayModel" "saved" "[I") ∈ lw_all := lw_g (lw_at lw_m16 1 rfl) rfl
theorem q3702 : (Jvm.Cond.fieldLink "SleeperRailwayModel" (19 : Nat) "SleeperRailwayModel" "before" "[I") ∈ lw_all := lw_g (lw_at lw_m16 2 rfl) rfl
theorem q3703 : (Jvm.Cond.fieldLink "SleeperRailwayModel" (299 : Nat) "SleeperRailwayModel" "isSaved" "Z") ∈ lw_all := lw_g (lw_at lw_m16 3 rfl) rfl
theorem q3704 : (Jvm.Cond.fieldLink "SleeperRailwayModel" (61 : Nat) "SleeperRailwayModel" "changes" "I") ∈ lw_all := lw_g (lw_at lw_m16 4 rfl) rfl
theorem q3705 : (Jvm.Cond.fieldLink "SleeperRailwayModel" (57 : Nat) "SleeperRailwayModel" "isWithin" "Z") ∈ lw_all := lw_g (lw_at lw_m16 5 rfl) rfl
theorem q3706 : (Jvm.Cond.fieldLink "SleeperRailwayModel" (54 : Nat) "SleeperRailwayModel" "code" "I") ∈ lw_all := lw_g (lw_at lw_m16 6 rfl) rfl
theorem q3707 : (Jvm.Cond.fieldLink "SleeperRailwayModel" (22 : Nat) "SleeperRailwayModel" "input" "[I") ∈ lw_all := lw_g (lw_at lw_m16 7 rfl) rfl
theorem q3708 : (Jvm.Cond.fieldLink "SleeperRailwayModel" (202 : Nat) "SleeperRailwayModel" "length" "I") ∈ lw_all := lw_g (lw_at lw_m16 8 rfl) rfl
theorem q3709 : (Jvm.Cond.fieldLink "SleeperRailwayModel" (25 : Nat) "SleeperRailwayModel" "fault" "I") ∈ lw_all := lw_g (lw_at lw_m16 9 rfl) rfl
theorem q3710 : (Jvm.Cond.fieldLink "SleeperRailwayModel" (29 : Nat) "SleeperRailwayModel" "failed" "I") ∈ lw_all := lw_g (lw_at lw_m16 10 rfl) rfl
theorem q3711 : (Jvm.Cond.fieldLink "SleeperRailwayModel" (32 : Nat) "SleeperRailwayModel" "signs" "[C") ∈ lw_all := lw_g (lw_at lw_m16 11 rfl) rfl
theorem q3712 : (Jvm.Cond.fieldLink "SleeperRailwayModel" (190 : Nat) "SleeperRailwayModel" "signMany" "I") ∈ lw_all := lw_g (lw_at lw_m16 12 rfl) rfl
theorem q3713 : (Jvm.Cond.fieldLink "SleeperRailwayModel" (36 : Nat) "SleeperRailwayModel" "early" "[I") ∈ lw_all := lw_g (lw_at lw_m16 13 rfl) rfl
theorem q3714 : (Jvm.Cond.fieldLink "SleeperRailwayModel" (39 : Nat) "SleeperRailwayModel" "then" "[I") ∈ lw_all := lw_g (lw_at lw_m16 14 rfl) rfl
theorem q3715 : (Jvm.Cond.fieldLink "SleeperRailwayModel" (105 : Nat) "SleeperRailwayModel" "start" "I") ∈ lw_all := lw_g (lw_at lw_m16 15 rfl) rfl
theorem q3716 : (Jvm.Cond.fieldLink "SleeperRailwayModel" (108 : Nat) "SleeperRailwayModel" "starts" "I") ∈ lw_all := lw_g (lw_at lw_m16 16 rfl) rfl
theorem q3717 : (Jvm.Cond.fieldLink "SleeperRailwayModel" (42 : Nat) "SleeperRailwayModel" "takenTrains" "[I") ∈ lw_all := lw_g (lw_at lw_m16 17 rfl) rfl
theorem q3718 : (Jvm.Cond.fieldLink "SleeperRailwayModel" (45 : Nat) "SleeperRailwayModel" "takenLegs" "[I") ∈ lw_all := lw_g (lw_at lw_m16 18 rfl) rfl
theorem q3719 : (Jvm.Cond.fieldLink "SleeperRailwayModel" (154 : Nat) "SleeperRailwayModel" "takenMany" "I") ∈ lw_all := lw_g (lw_at lw_m16 19 rfl) rfl
theorem q3720 : (Jvm.Cond.fieldLink "SleeperRailwayModel" (48 : Nat) "SleeperRailwayModel" "berths" "[I") ∈ lw_all := lw_g (lw_at lw_m16 20 rfl) rfl
theorem q3721 : (Jvm.Cond.fieldLink "SleeperRailwayModel" (205 : Nat) "SleeperRailwayModel" "at" "I") ∈ lw_all := lw_g (lw_at lw_m16 21 rfl) rfl
theorem q3722 : (Jvm.Cond.fieldLink "SleeperRailwayModel" (51 : Nat) "SleeperRailwayModel" "told" "[I") ∈ lw_all := lw_g (lw_at lw_m16 22 rfl) rfl
theorem q3723 : (Jvm.Cond.fieldLink "SleeperRailwayModel" (211 : Nat) "SleeperRailwayModel" "toldMany" "I") ∈ lw_all := lw_g (lw_at lw_m16 23 rfl) rfl
theorem q3724 : (Jvm.Cond.laysFinal "SleeperRailwayModel" "SleeperRailwayModel" "g" "[I") ∈ lw_all := lw_g (lw_at lw_m16 24 rfl) rfl
theorem q3725 : (Jvm.Cond.soleField "SleeperRailwayModel" "g") ∈ lw_all := lw_g (lw_at lw_m16 25 rfl) rfl
theorem q3726 : (Jvm.Cond.laysFinal "SleeperRailwayModel" "SleeperRailwayModel" "kept" "[I") ∈ lw_all := lw_g (lw_at lw_m16 26 rfl) rfl
theorem q3727 : (Jvm.Cond.soleField "SleeperRailwayModel" "kept") ∈ lw_all := lw_g (lw_at lw_m16 27 rfl) rfl
theorem q3728 : (Jvm.Cond.laysFinal "SleeperRailwayModel" "SleeperRailwayModel" "saved" "[I") ∈ lw_all := lw_g (lw_at lw_m16 28 rfl) rfl
theorem q3729 : (Jvm.Cond.soleField "SleeperRailwayModel" "saved") ∈ lw_all := lw_g (lw_at lw_m16 29 rfl) rfl
theorem q3730 : (Jvm.Cond.laysFinal "SleeperRailwayModel" "SleeperRailwayModel" "before" "[I") ∈ lw_all := lw_g (lw_at lw_m16 30 rfl) rfl
theorem q3731 : (Jvm.Cond.soleField "SleeperRailwayModel" "before") ∈ lw_all := lw_g (lw_at lw_m16 31 rfl) rfl
theorem q3732 : (Jvm.Cond.lays "SleeperRailwayModel" "SleeperRailwayModel" "isSaved" "Z") ∈ lw_all := lw_g (lw_at lw_m16 32 rfl) rfl
theorem q3733 : (Jvm.Cond.soleField "SleeperRailwayModel" "isSaved") ∈ lw_all := lw_g (lw_at lw_m16 33 rfl) rfl
theorem q3734 : (Jvm.Cond.lays "SleeperRailwayModel" "SleeperRailwayModel" "changes" "I") ∈ lw_all := lw_g (lw_at lw_m16 34 rfl) rfl
theorem q3735 : (Jvm.Cond.soleField "SleeperRailwayModel" "changes") ∈ lw_all := lw_g (lw_at lw_m16 35 rfl) rfl
theorem q3736 : (Jvm.Cond.lays "SleeperRailwayModel" "SleeperRailwayModel" "isWithin" "Z") ∈ lw_all := lw_g (lw_at lw_m16 36 rfl) rfl
theorem q3737 : (Jvm.Cond.soleField "SleeperRailwayModel" "isWithin") ∈ lw_all := lw_g (lw_at lw_m16 37 rfl) rfl
theorem q3738 : (Jvm.Cond.lays "SleeperRailwayModel" "SleeperRailwayModel" "code" "I") ∈ lw_all := lw_g (lw_at lw_m16 38 rfl) rfl
theorem q3739 : (Jvm.Cond.soleField "SleeperRailwayModel" "code") ∈ lw_all := lw_g (lw_at lw_m16 39 rfl) rfl
theorem q3740 : (Jvm.Cond.laysFinal "SleeperRailwayModel" "SleeperRailwayModel" "input" "[I") ∈ lw_all := lw_g (lw_at lw_m16 40 rfl) rfl
theorem q3741 : (Jvm.Cond.soleField "SleeperRailwayModel" "input") ∈ lw_all := lw_g (lw_at lw_m16 41 rfl) rfl
theorem q3742 : (Jvm.Cond.lays "SleeperRailwayModel" "SleeperRailwayModel" "length" "I") ∈ lw_all := lw_g (lw_at lw_m16 42 rfl) rfl
theorem q3743 : (Jvm.Cond.soleField "SleeperRailwayModel" "length") ∈ lw_all := lw_g (lw_at lw_m16 43 rfl) rfl
theorem q3744 : (Jvm.Cond.lays "SleeperRailwayModel" "SleeperRailwayModel" "fault" "I") ∈ lw_all := lw_g (lw_at lw_m16 44 rfl) rfl
theorem q3745 : (Jvm.Cond.soleField "SleeperRailwayModel" "fault") ∈ lw_all := lw_g (lw_at lw_m16 45 rfl) rfl
theorem q3746 : (Jvm.Cond.lays "SleeperRailwayModel" "SleeperRailwayModel" "failed" "I") ∈ lw_all := lw_g (lw_at lw_m16 46 rfl) rfl
theorem q3747 : (Jvm.Cond.soleField "SleeperRailwayModel" "failed") ∈ lw_all := lw_g (lw_at lw_m16 47 rfl) rfl
theorem q3748 : (Jvm.Cond.laysFinal "SleeperRailwayModel" "SleeperRailwayModel" "signs" "[C") ∈ lw_all := lw_g (lw_at lw_m16 48 rfl) rfl
theorem q3749 : (Jvm.Cond.soleField "SleeperRailwayModel" "signs") ∈ lw_all := lw_g (lw_at lw_m16 49 rfl) rfl
theorem q3750 : (Jvm.Cond.lays "SleeperRailwayModel" "SleeperRailwayModel" "signMany" "I") ∈ lw_all := lw_g (lw_at lw_m16 50 rfl) rfl
theorem q3751 : (Jvm.Cond.soleField "SleeperRailwayModel" "signMany") ∈ lw_all := lw_g (lw_at lw_m16 51 rfl) rfl
theorem q3752 : (Jvm.Cond.laysFinal "SleeperRailwayModel" "SleeperRailwayModel" "early" "[I") ∈ lw_all := lw_g (lw_at lw_m16 52 rfl) rfl
theorem q3753 : (Jvm.Cond.soleField "SleeperRailwayModel" "early") ∈ lw_all := lw_g (lw_at lw_m16 53 rfl) rfl
theorem q3754 : (Jvm.Cond.laysFinal "SleeperRailwayModel" "SleeperRailwayModel" "then" "[I") ∈ lw_all := lw_g (lw_at lw_m16 54 rfl) rfl
theorem q3755 : (Jvm.Cond.soleField "SleeperRailwayModel" "then") ∈ lw_all := lw_g (lw_at lw_m16 55 rfl) rfl
theorem q3756 : (Jvm.Cond.lays "SleeperRailwayModel" "SleeperRailwayModel" "start" "I") ∈ lw_all := lw_g (lw_at lw_m16 56 rfl) rfl
theorem q3757 : (Jvm.Cond.soleField "SleeperRailwayModel" "start") ∈ lw_all := lw_g (lw_at lw_m16 57 rfl) rfl
theorem q3758 : (Jvm.Cond.lays "SleeperRailwayModel" "SleeperRailwayModel" "starts" "I") ∈ lw_all := lw_g (lw_at lw_m16 58 rfl) rfl
theorem q3759 : (Jvm.Cond.soleField "SleeperRailwayModel" "starts") ∈ lw_all := lw_g (lw_at lw_m16 59 rfl) rfl
theorem q3760 : (Jvm.Cond.laysFinal "SleeperRailwayModel" "SleeperRailwayModel" "takenTrains" "[I") ∈ lw_all := lw_g (lw_at lw_m16 60 rfl) rfl
theorem q3761 : (Jvm.Cond.soleField "SleeperRailwayModel" "takenTrains") ∈ lw_all := lw_g (lw_at lw_m16 61 rfl) rfl
theorem q3762 : (Jvm.Cond.laysFinal "SleeperRailwayModel" "SleeperRailwayModel" "takenLegs" "[I") ∈ lw_all := lw_g (lw_at lw_m16 62 rfl) rfl
theorem q3763 : (Jvm.Cond.soleField "SleeperRailwayModel" "takenLegs") ∈ lw_all := lw_g (lw_at lw_m16 63 rfl) rfl
theorem q3764 : (Jvm.Cond.lays "SleeperRailwayModel" "SleeperRailwayModel" "takenMany" "I") ∈ lw_all := lw_g (lw_at lw_m16 64 rfl) rfl
theorem q3765 : (Jvm.Cond.soleField "SleeperRailwayModel" "takenMany") ∈ lw_all := lw_g (lw_at lw_m16 65 rfl) rfl
theorem q3766 : (Jvm.Cond.laysFinal "SleeperRailwayModel" "SleeperRailwayModel" "berths" "[I") ∈ lw_all := lw_g (lw_at lw_m16 66 rfl) rfl
theorem q3767 : (Jvm.Cond.soleField "SleeperRailwayModel" "berths") ∈ lw_all := lw_g (lw_at lw_m16 67 rfl) rfl
theorem q3768 : (Jvm.Cond.lays "SleeperRailwayModel" "SleeperRailwayModel" "at" "I") ∈ lw_all := lw_g (lw_at lw_m16 68 rfl) rfl
theorem q3769 : (Jvm.Cond.soleField "SleeperRailwayModel" "at") ∈ lw_all := lw_g (lw_at lw_m16 69 rfl) rfl
theorem q3770 : (Jvm.Cond.laysFinal "SleeperRailwayModel" "SleeperRailwayModel" "told" "[I") ∈ lw_all := lw_g (lw_at lw_m16 70 rfl) rfl
theorem q3771 : (Jvm.Cond.soleField "SleeperRailwayModel" "told") ∈ lw_all := lw_g (lw_at lw_m16 71 rfl) rfl
theorem q3772 : (Jvm.Cond.lays "SleeperRailwayModel" "SleeperRailwayModel" "toldMany" "I") ∈ lw_all := lw_g (lw_at lw_m16 72 rfl) rfl
theorem q3773 : (Jvm.Cond.soleField "SleeperRailwayModel" "toldMany") ∈ lw_all := lw_g (lw_at lw_m16 73 rfl) rfl
theorem q3774 : (Jvm.Cond.superclass "SleeperRailwayModel" "java/lang/Object") ∈ lw_all := lw_g (lw_at lw_m16 74 rfl) rfl
theorem q3777 : (Jvm.Cond.instanceMethod ({ cls := "SleeperRailwayModel", name := "thrown", desc := "()I" } : Jvm.MethodName)) ∈ lw_all := lw_g (lw_at lw_m16 77 rfl) rfl
theorem q3778 : (Jvm.Cond.selects "SleeperRailwayModel" ({ cls := "SleeperRailwayModel", name := "thrown", desc := "()I" } : Jvm.MethodName) ({ cls := "SleeperRailwayModel", name := "thrown", desc := "()I" } : Jvm.MethodName)) ∈ lw_all := lw_g (lw_at lw_m16 78 rfl) rfl
theorem q3779 : (Jvm.Cond.code ({ cls := "SleeperRailwayModel", name := "thrown", desc := "()I" } : Jvm.MethodName) prog_20_method_2_code (1 : Nat) (Option.some Jvm.ClassFile.FieldType.int)) ∈ lw_all := lw_g (lw_at lw_m16 79 rfl) rfl
theorem q3781 : (Jvm.Cond.instanceMethod ({ cls := "SleeperRailwayModel", name := "addStation", desc := "(I)I" } : Jvm.MethodName)) ∈ lw_all := lw_g (lw_at lw_m16 81 rfl) rfl
theorem q3782 : (Jvm.Cond.selects "SleeperRailwayModel" ({ cls := "SleeperRailwayModel", name := "addStation", desc := "(I)I" } : Jvm.MethodName) ({ cls := "SleeperRailwayModel", name := "addStation", desc := "(I)I" } : Jvm.MethodName)) ∈ lw_all := lw_g (lw_at lw_m16 82 rfl) rfl
theorem q3783 : (Jvm.Cond.code ({ cls := "SleeperRailwayModel", name := "addStation", desc := "(I)I" } : Jvm.MethodName) prog_20_method_19_code (2 : Nat) (Option.some Jvm.ClassFile.FieldType.int)) ∈ lw_all := lw_g (lw_at lw_m16 83 rfl) rfl
theorem q3784 : (Jvm.Cond.methodLink "SleeperRailwayModel" (68 : Nat) ({ cls := "SleeperRailwayModel", name := "in", desc := "(III)Z" } : Jvm.MethodName)) ∈ lw_all := lw_g (lw_at lw_m16 84 rfl) rfl
theorem q3785 : (Jvm.Cond.static ({ cls := "SleeperRailwayModel", name := "in", desc := "(III)Z" } : Jvm.MethodName)) ∈ lw_all := lw_g (lw_at lw_m16 85 rfl) rfl
theorem q3786 : (Jvm.Cond.code ({ cls := "SleeperRailwayModel", name := "in", desc := "(III)Z" } : Jvm.MethodName) prog_20_method_4_code (3 : Nat) (Option.some Jvm.ClassFile.FieldType.boolean)) ∈ lw_all := lw_g (lw_at lw_m16 86 rfl) rfl
theorem q3787 : (Jvm.Cond.methodLink "SleeperRailwayModel" (92 : Nat) ({ cls := "SleeperRailwayModel", name := "fails", desc := "(I)Z" } : Jvm.MethodName)) ∈ lw_all := lw_g (lw_at lw_m16 87 rfl) rfl
theorem q3788 : (Jvm.Cond.privateMethod ({ cls := "SleeperRailwayModel", name := "fails", desc := "(I)Z" } : Jvm.MethodName)) ∈ lw_tbl := lw_at lw_m16 88 rfl
theorem q3789 : (Jvm.Cond.instanceMethod ({ cls := "SleeperRailwayModel", name := "fails", desc := "(I)Z" } : Jvm.MethodName)) ∈ lw_all := lw_g (lw_at lw_m16 89 rfl) rfl
theorem q3790 : (Jvm.Cond.code ({ cls := "SleeperRailwayModel", name := "fails", desc := "(I)Z" } : Jvm.MethodName) prog_20_method_3_code (2 : Nat) (Option.some Jvm.ClassFile.FieldType.boolean)) ∈ lw_all := lw_g (lw_at lw_m16 90 rfl) rfl
theorem q3791 : (Jvm.Cond.methodLink "SleeperRailwayModel" (95 : Nat) ({ cls := "SleeperRailwayModel", name := "keeps", desc := "([I)V" } : Jvm.MethodName)) ∈ lw_all := lw_g (lw_at lw_m16 91 rfl) rfl
theorem q3792 : (Jvm.Cond.privateMethod ({ cls := "SleeperRailwayModel", name := "keeps", desc := "([I)V" } : Jvm.MethodName)) ∈ lw_tbl := lw_at lw_m16 92 rfl
theorem q3793 : (Jvm.Cond.instanceMethod ({ cls := "SleeperRailwayModel", name := "keeps", desc := "([I)V" } : Jvm.MethodName)) ∈ lw_all := lw_g (lw_at lw_m16 93 rfl) rfl
theorem q3794 : (Jvm.Cond.code ({ cls := "SleeperRailwayModel", name := "keeps", desc := "([I)V" } : Jvm.MethodName) prog_20_method_6_code (3 : Nat) (Option.none : Option Jvm.ClassFile.FieldType)) ∈ lw_all := lw_g (lw_at lw_m16 94 rfl) rfl
theorem q3795 : (Jvm.Cond.methodLink "SleeperRailwayModel" (64 : Nat) ({ cls := "SleeperRailwayModel", name := "copies", desc := "([II[II)V" } : Jvm.MethodName)) ∈ lw_all := lw_g (lw_at lw_m16 95 rfl) rfl
theorem q3796 : (Jvm.Cond.static ({ cls := "SleeperRailwayModel", name := "copies", desc := "([II[II)V" } : Jvm.MethodName)) ∈ lw_all := lw_g (lw_at lw_m16 96 rfl) rfl
theorem q3797 : (Jvm.Cond.code ({ cls := "SleeperRailwayModel", name := "copies", desc := "([II[II)V" } : Jvm.MethodName) prog_20_method_5_code (5 : Nat) (Option.none : Option Jvm.ClassFile.FieldType)) ∈ lw_all := lw_g (lw_at lw_m16 97 rfl) rfl
theorem q3799 : (Jvm.Cond.instanceMethod ({ cls := "SleeperRailwayModel", name := "addTrain", desc := "(III)I" } : Jvm.MethodName)) ∈ lw_all := lw_g (lw_at lw_m16 99 rfl) rfl
theorem q3800 : (Jvm.Cond.selects "SleeperRailwayModel" ({ cls := "SleeperRailwayModel", name := "addTrain", desc := "(III)I" } : Jvm.MethodName) ({ cls := "SleeperRailwayModel", name := "addTrain", desc := "(III)I" } : Jvm.MethodName)) ∈ lw_all := lw_g (lw_at lw_m16 100 rfl) rfl
theorem q3801 : (Jvm.Cond.code ({ cls := "SleeperRailwayModel", name := "addTrain", desc := "(III)I" } : Jvm.MethodName) prog_20_method_20_code (5 : Nat) (Option.some Jvm.ClassFile.FieldType.int)) ∈ lw_all := lw_g (lw_at lw_m16 101 rfl) rfl
theorem q3802 : (Jvm.Cond.methodLink "SleeperRailwayModel" (99 : Nat) ({ cls := "SleeperRailwayModel", name := "isStation", desc := "(I)Z" } : Jvm.MethodName)) ∈ lw_all := lw_g (lw_at lw_m16 102 rfl) rfl
theorem q3803 : (Jvm.Cond.privateMethod ({ cls := "SleeperRailwayModel", name := "isStation", desc := "(I)Z" } : Jvm.MethodName)) ∈ lw_tbl := lw_at lw_m16 103 rfl
theorem q3804 : (Jvm.Cond.instanceMethod ({ cls := "SleeperRailwayModel", name := "isStation", desc := "(I)Z" } : Jvm.MethodName)) ∈ lw_all := lw_g (lw_at lw_m16 104 rfl) rfl
theorem q3805 : (Jvm.Cond.code ({ cls := "SleeperRailwayModel", name := "isStation", desc := "(I)Z" } : Jvm.MethodName) prog_20_method_7_code (2 : Nat) (Option.some Jvm.ClassFile.FieldType.boolean)) ∈ lw_all := lw_g (lw_at lw_m16 105 rfl) rfl
theorem q3807 : (Jvm.Cond.instanceMethod ({ cls := "SleeperRailwayModel", name := "extendTrain", desc := "(IIII)I" } : Jvm.MethodName)) ∈ lw_all := lw_g (lw_at lw_m16 107 rfl) rfl
theorem q3808 : (Jvm.Cond.selects "SleeperRailwayModel" ({ cls := "SleeperRailwayModel", name := "extendTrain", desc := "(IIII)I" } : Jvm.MethodName) ({ cls := "SleeperRailwayModel", name := "extendTrain", desc := "(IIII)I" } : Jvm.MethodName)) ∈ lw_all := lw_g (lw_at lw_m16 108 rfl) rfl
theorem q3809 : (Jvm.Cond.code ({ cls := "SleeperRailwayModel", name := "extendTrain", desc := "(IIII)I" } : Jvm.MethodName) prog_20_method_21_code (7 : Nat) (Option.some Jvm.ClassFile.FieldType.int)) ∈ lw_all := lw_g (lw_at lw_m16 109 rfl) rfl
theorem q3810 : (Jvm.Cond.methodLink "SleeperRailwayModel" (72 : Nat) ({ cls := "SleeperRailwayModel", name := "isTrain", desc := "(I)Z" } : Jvm.MethodName)) ∈ lw_all := lw_g (lw_at lw_m16 110 rfl) rfl
theorem q3811 : (Jvm.Cond.privateMethod ({ cls := "SleeperRailwayModel", name := "isTrain", desc := "(I)Z" } : Jvm.MethodName)) ∈ lw_tbl := lw_at lw_m16 111 rfl
theorem q3812 : (Jvm.Cond.instanceMethod ({ cls := "SleeperRailwayModel", name := "isTrain", desc := "(I)Z" } : Jvm.MethodName)) ∈ lw_all := lw_g (lw_at lw_m16 112 rfl) rfl
theorem q3813 : (Jvm.Cond.code ({ cls := "SleeperRailwayModel", name := "isTrain", desc := "(I)Z" } : Jvm.MethodName) prog_20_method_8_code (2 : Nat) (Option.some Jvm.ClassFile.FieldType.boolean)) ∈ lw_all := lw_g (lw_at lw_m16 113 rfl) rfl
theorem q3814 : (Jvm.Cond.methodLink "SleeperRailwayModel" (76 : Nat) ({ cls := "SleeperRailwayModel", name := "of", desc := "(II)I" } : Jvm.MethodName)) ∈ lw_all := lw_g (lw_at lw_m16 114 rfl) rfl
theorem q3815 : (Jvm.Cond.privateMethod ({ cls := "SleeperRailwayModel", name := "of", desc := "(II)I" } : Jvm.MethodName)) ∈ lw_tbl := lw_at lw_m16 115 rfl
theorem q3816 : (Jvm.Cond.instanceMethod ({ cls := "SleeperRailwayModel", name := "of", desc := "(II)I" } : Jvm.MethodName)) ∈ lw_all := lw_g (lw_at lw_m16 116 rfl) rfl
theorem q3817 : (Jvm.Cond.code ({ cls := "SleeperRailwayModel", name := "of", desc := "(II)I" } : Jvm.MethodName) prog_20_method_9_code (3 : Nat) (Option.some Jvm.ClassFile.FieldType.int)) ∈ lw_all := lw_g (lw_at lw_m16 117 rfl) rfl
theorem q3818 : (Jvm.Cond.methodLink "SleeperRailwayModel" (102 : Nat) ({ cls := "SleeperRailwayModel", name := "place", desc := "(II)I" } : Jvm.MethodName)) ∈ lw_all := lw_g (lw_at lw_m16 118 rfl) rfl
theorem q3819 : (Jvm.Cond.privateMethod ({ cls := "SleeperRailwayModel", name := "place", desc := "(II)I" } : Jvm.MethodName)) ∈ lw_tbl := lw_at lw_m16 119 rfl
theorem q3820 : (Jvm.Cond.instanceMethod ({ cls := "SleeperRailwayModel", name := "place", desc := "(II)I" } : Jvm.MethodName)) ∈ lw_all := lw_g (lw_at lw_m16 120 rfl) rfl
theorem q3821 : (Jvm.Cond.code ({ cls := "SleeperRailwayModel", name := "place", desc := "(II)I" } : Jvm.MethodName) prog_20_method_12_code (3 : Nat) (Option.some Jvm.ClassFile.FieldType.int)) ∈ lw_all := lw_g (lw_at lw_m16 121 rfl) rfl
theorem q3823 : (Jvm.Cond.instanceMethod ({ cls := "SleeperRailwayModel", name := "delayTrain", desc := "(II)I" } : Jvm.MethodName)) ∈ lw_all := lw_g (lw_at lw_m16 123 rfl) rfl
theorem q3824 : (Jvm.Cond.selects "SleeperRailwayModel" ({ cls := "SleeperRailwayModel", name := "delayTrain", desc := "(II)I" } : Jvm.MethodName) ({ cls := "SleeperRailwayModel", name := "delayTrain", desc := "(II)I" } : Jvm.MethodName)) ∈ lw_all := lw_g (lw_at lw_m16 124 rfl) rfl
theorem q3825 : (Jvm.Cond.code ({ cls := "SleeperRailwayModel", name := "delayTrain", desc := "(II)I" } : Jvm.MethodName) prog_20_method_22_code (4 : Nat) (Option.some Jvm.ClassFile.FieldType.int)) ∈ lw_all := lw_g (lw_at lw_m16 125 rfl) rfl
theorem q3827 : (Jvm.Cond.instanceMethod ({ cls := "SleeperRailwayModel", name := "canReach", desc := "(III)Z" } : Jvm.MethodName)) ∈ lw_all := lw_g (lw_at lw_m16 127 rfl) rfl
theorem q3828 : (Jvm.Cond.selects "SleeperRailwayModel" ({ cls := "SleeperRailwayModel", name := "canReach", desc := "(III)Z" } : Jvm.MethodName) ({ cls := "SleeperRailwayModel", name := "canReach", desc := "(III)Z" } : Jvm.MethodName)) ∈ lw_all := lw_g (lw_at lw_m16 128 rfl) rfl
theorem q3829 : (Jvm.Cond.code ({ cls := "SleeperRailwayModel", name := "canReach", desc := "(III)Z" } : Jvm.MethodName) prog_20_method_28_code (4 : Nat) (Option.some Jvm.ClassFile.FieldType.boolean)) ∈ lw_all := lw_g (lw_at lw_m16 129 rfl) rfl
theorem q3830 : (Jvm.Cond.methodLink "SleeperRailwayModel" (131 : Nat) ({ cls := "SleeperRailwayModel", name := "isAsked", desc := "(III)Z" } : Jvm.MethodName)) ∈ lw_all := lw_g (lw_at lw_m16 130 rfl) rfl
theorem q3831 : (Jvm.Cond.privateMethod ({ cls := "SleeperRailwayModel", name := "isAsked", desc := "(III)Z" } : Jvm.MethodName)) ∈ lw_tbl := lw_at lw_m16 131 rfl
theorem q3832 : (Jvm.Cond.instanceMethod ({ cls := "SleeperRailwayModel", name := "isAsked", desc := "(III)Z" } : Jvm.MethodName)) ∈ lw_all := lw_g (lw_at lw_m16 132 rfl) rfl
theorem q3833 : (Jvm.Cond.code ({ cls := "SleeperRailwayModel", name := "isAsked", desc := "(III)Z" } : Jvm.MethodName) prog_20_method_27_code (4 : Nat) (Option.some Jvm.ClassFile.FieldType.boolean)) ∈ lw_all := lw_g (lw_at lw_m16 133 rfl) rfl
theorem q3834 : (Jvm.Cond.methodLink "SleeperRailwayModel" (134 : Nat) ({ cls := "SleeperRailwayModel", name := "goes", desc := "(II)V" } : Jvm.MethodName)) ∈ lw_all := lw_g (lw_at lw_m16 134 rfl) rfl
theorem q3835 : (Jvm.Cond.privateMethod ({ cls := "SleeperRailwayModel", name := "goes", desc := "(II)V" } : Jvm.MethodName)) ∈ lw_tbl := lw_at lw_m16 135 rfl
theorem q3836 : (Jvm.Cond.instanceMethod ({ cls := "SleeperRailwayModel", name := "goes", desc := "(II)V" } : Jvm.MethodName)) ∈ lw_all := lw_g (lw_at lw_m16 136 rfl) rfl
theorem q3837 : (Jvm.Cond.code ({ cls := "SleeperRailwayModel", name := "goes", desc := "(II)V" } : Jvm.MethodName) prog_20_method_26_code (4 : Nat) (Option.none : Option Jvm.ClassFile.FieldType)) ∈ lw_all := lw_g (lw_at lw_m16 137 rfl) rfl
theorem q3838 : (Jvm.Cond.methodLink "SleeperRailwayModel" (123 : Nat) ({ cls := "SleeperRailwayModel", name := "begins", desc := "(II)V" } : Jvm.MethodName)) ∈ lw_all := lw_g (lw_at lw_m16 138 rfl) rfl
theorem q3839 : (Jvm.Cond.privateMethod ({ cls := "SleeperRailwayModel", name := "begins", desc := "(II)V" } : Jvm.MethodName)) ∈ lw_tbl := lw_at lw_m16 139 rfl
theorem q3840 : (Jvm.Cond.instanceMethod ({ cls := "SleeperRailwayModel", name := "begins", desc := "(II)V" } : Jvm.MethodName)) ∈ lw_all := lw_g (lw_at lw_m16 140 rfl) rfl
theorem q3841 : (Jvm.Cond.code ({ cls := "SleeperRailwayModel", name := "begins", desc := "(II)V" } : Jvm.MethodName) prog_20_method_25_code (4 : Nat) (Option.none : Option Jvm.ClassFile.FieldType)) ∈ lw_all := lw_g (lw_at lw_m16 141 rfl) rfl
theorem q3842 : (Jvm.Cond.constant "SleeperRailwayModel" (111 : Nat) (1000000 : Int32)) ∈ lw_all := lw_g (lw_at lw_m16 142 rfl) rfl
theorem q3843 : (Jvm.Cond.methodLink "SleeperRailwayModel" (127 : Nat) ({ cls := "SleeperRailwayModel", name := "rides", desc := "([I[I)Z" } : Jvm.MethodName)) ∈ lw_all := lw_g (lw_at lw_m16 143 rfl) rfl
theorem q3844 : (Jvm.Cond.privateMethod ({ cls := "SleeperRailwayModel", name := "rides", desc := "([I[I)Z" } : Jvm.MethodName)) ∈ lw_tbl := lw_at lw_m16 144 rfl
theorem q3845 : (Jvm.Cond.instanceMethod ({ cls := "SleeperRailwayModel", name := "rides", desc := "([I[I)Z" } : Jvm.MethodName)) ∈ lw_all := lw_g (lw_at lw_m16 145 rfl) rfl
theorem q3846 : (Jvm.Cond.code ({ cls := "SleeperRailwayModel", name := "rides", desc := "([I[I)Z" } : Jvm.MethodName) prog_20_method_24_code (7 : Nat) (Option.some Jvm.ClassFile.FieldType.boolean)) ∈ lw_all := lw_g (lw_at lw_m16 146 rfl) rfl
theorem q3847 : (Jvm.Cond.methodLink "SleeperRailwayModel" (112 : Nat) ({ cls := "SleeperRailwayModel", name := "isBoarded", desc := "(II[I)Z" } : Jvm.MethodName)) ∈ lw_all := lw_g (lw_at lw_m16 147 rfl) rfl
theorem q3848 : (Jvm.Cond.privateMethod ({ cls := "SleeperRailwayModel", name := "isBoarded", desc := "(II[I)Z" } : Jvm.MethodName)) ∈ lw_tbl := lw_at lw_m16 148 rfl
theorem q3849 : (Jvm.Cond.instanceMethod ({ cls := "SleeperRailwayModel", name := "isBoarded", desc := "(II[I)Z" } : Jvm.MethodName)) ∈ lw_all := lw_g (lw_at lw_m16 149 rfl) rfl
theorem q3850 : (Jvm.Cond.code ({ cls := "SleeperRailwayModel", name := "isBoarded", desc := "(II[I)Z" } : Jvm.MethodName) prog_20_method_23_code (5 : Nat) (Option.some Jvm.ClassFile.FieldType.boolean)) ∈ lw_all := lw_g (lw_at lw_m16 150 rfl) rfl
theorem q3851 : (Jvm.Cond.methodLink "SleeperRailwayModel" (80 : Nat) ({ cls := "SleeperRailwayModel", name := "leaves", desc := "(II)I" } : Jvm.MethodName)) ∈ lw_all := lw_g (lw_at lw_m16 151 rfl) rfl
theorem q3852 : (Jvm.Cond.privateMethod ({ cls := "SleeperRailwayModel", name := "leaves", desc := "(II)I" } : Jvm.MethodName)) ∈ lw_tbl := lw_at lw_m16 152 rfl
theorem q3853 : (Jvm.Cond.instanceMethod ({ cls := "SleeperRailwayModel", name := "leaves", desc := "(II)I" } : Jvm.MethodName)) ∈ lw_all := lw_g (lw_at lw_m16 153 rfl) rfl
theorem q3854 : (Jvm.Cond.code ({ cls := "SleeperRailwayModel", name := "leaves", desc := "(II)I" } : Jvm.MethodName) prog_20_method_14_code (5 : Nat) (Option.some Jvm.ClassFile.FieldType.int)) ∈ lw_all := lw_g (lw_at lw_m16 154 rfl) rfl
theorem q3855 : (Jvm.Cond.methodLink "SleeperRailwayModel" (116 : Nat) ({ cls := "SleeperRailwayModel", name := "isTaken", desc := "(II)Z" } : Jvm.MethodName)) ∈ lw_all := lw_g (lw_at lw_m16 155 rfl) rfl
theorem q3856 : (Jvm.Cond.privateMethod ({ cls := "SleeperRailwayModel", name := "isTaken", desc := "(II)Z" } : Jvm.MethodName)) ∈ lw_tbl := lw_at lw_m16 156 rfl
theorem q3857 : (Jvm.Cond.instanceMethod ({ cls := "SleeperRailwayModel", name := "isTaken", desc := "(II)Z" } : Jvm.MethodName)) ∈ lw_all := lw_g (lw_at lw_m16 157 rfl) rfl
theorem q3858 : (Jvm.Cond.code ({ cls := "SleeperRailwayModel", name := "isTaken", desc := "(II)Z" } : Jvm.MethodName) prog_20_method_18_code (3 : Nat) (Option.some Jvm.ClassFile.FieldType.boolean)) ∈ lw_all := lw_g (lw_at lw_m16 158 rfl) rfl
theorem q3859 : (Jvm.Cond.methodLink "SleeperRailwayModel" (89 : Nat) ({ cls := "SleeperRailwayModel", name := "carries", desc := "(II)I" } : Jvm.MethodName)) ∈ lw_all := lw_g (lw_at lw_m16 159 rfl) rfl
theorem q3860 : (Jvm.Cond.privateMethod ({ cls := "SleeperRailwayModel", name := "carries", desc := "(II)I" } : Jvm.MethodName)) ∈ lw_tbl := lw_at lw_m16 160 rfl
theorem q3861 : (Jvm.Cond.instanceMethod ({ cls := "SleeperRailwayModel", name := "carries", desc := "(II)I" } : Jvm.MethodName)) ∈ lw_all := lw_g (lw_at lw_m16 161 rfl) rfl
theorem q3862 : (Jvm.Cond.code ({ cls := "SleeperRailwayModel", name := "carries", desc := "(II)I" } : Jvm.MethodName) prog_20_method_17_code (3 : Nat) (Option.some Jvm.ClassFile.FieldType.int)) ∈ lw_all := lw_g (lw_at lw_m16 162 rfl) rfl
theorem q3863 : (Jvm.Cond.methodLink "SleeperRailwayModel" (86 : Nat) ({ cls := "SleeperRailwayModel", name := "booked", desc := "(II)I" } : Jvm.MethodName)) ∈ lw_all := lw_g (lw_at lw_m16 163 rfl) rfl
theorem q3864 : (Jvm.Cond.privateMethod ({ cls := "SleeperRailwayModel", name := "booked", desc := "(II)I" } : Jvm.MethodName)) ∈ lw_tbl := lw_at lw_m16 164 rfl
theorem q3865 : (Jvm.Cond.instanceMethod ({ cls := "SleeperRailwayModel", name := "booked", desc := "(II)I" } : Jvm.MethodName)) ∈ lw_all := lw_g (lw_at lw_m16 165 rfl) rfl
theorem q3866 : (Jvm.Cond.code ({ cls := "SleeperRailwayModel", name := "booked", desc := "(II)I" } : Jvm.MethodName) prog_20_method_16_code (5 : Nat) (Option.some Jvm.ClassFile.FieldType.int)) ∈ lw_all := lw_g (lw_at lw_m16 166 rfl) rfl
theorem q3867 : (Jvm.Cond.methodLink "SleeperRailwayModel" (83 : Nat) ({ cls := "SleeperRailwayModel", name := "by", desc := "(II)I" } : Jvm.MethodName)) ∈ lw_all := lw_g (lw_at lw_m16 167 rfl) rfl
theorem q3868 : (Jvm.Cond.privateMethod ({ cls := "SleeperRailwayModel", name := "by", desc := "(II)I" } : Jvm.MethodName)) ∈ lw_tbl := lw_at lw_m16 168 rfl
theorem q3869 : (Jvm.Cond.instanceMethod ({ cls := "SleeperRailwayModel", name := "by", desc := "(II)I" } : Jvm.MethodName)) ∈ lw_all := lw_g (lw_at lw_m16 169 rfl) rfl
theorem q3870 : (Jvm.Cond.code ({ cls := "SleeperRailwayModel", name := "by", desc := "(II)I" } : Jvm.MethodName) prog_20_method_15_code (3 : Nat) (Option.some Jvm.ClassFile.FieldType.int)) ∈ lw_all := lw_g (lw_at lw_m16 170 rfl) rfl
theorem q3871 : (Jvm.Cond.methodLink "SleeperRailwayModel" (120 : Nat) ({ cls := "SleeperRailwayModel", name := "comes", desc := "(II)I" } : Jvm.MethodName)) ∈ lw_all := lw_g (lw_at lw_m16 171 rfl) rfl
theorem q3872 : (Jvm.Cond.privateMethod ({ cls := "SleeperRailwayModel", name := "comes", desc := "(II)I" } : Jvm.MethodName)) ∈ lw_tbl := lw_at lw_m16 172 rfl
theorem q3873 : (Jvm.Cond.instanceMethod ({ cls := "SleeperRailwayModel", name := "comes", desc := "(II)I" } : Jvm.MethodName)) ∈ lw_all := lw_g (lw_at lw_m16 173 rfl) rfl
theorem q3874 : (Jvm.Cond.code ({ cls := "SleeperRailwayModel", name := "comes", desc := "(II)I" } : Jvm.MethodName) prog_20_method_13_code (3 : Nat) (Option.some Jvm.ClassFile.FieldType.int)) ∈ lw_all := lw_g (lw_at lw_m16 174 rfl) rfl
theorem q3876 : (Jvm.Cond.instanceMethod ({ cls := "SleeperRailwayModel", name := "arrival", desc := "(III)I" } : Jvm.MethodName)) ∈ lw_all := lw_g (lw_at lw_m16 176 rfl) rfl
theorem q3877 : (Jvm.Cond.selects "SleeperRailwayModel" ({ cls := "SleeperRailwayModel", name := "arrival", desc := "(III)I" } : Jvm.MethodName) ({ cls := "SleeperRailwayModel", name := "arrival", desc := "(III)I" } : Jvm.MethodName)) ∈ lw_all := lw_g (lw_at lw_m16 177 rfl) rfl
theorem q3878 : (Jvm.Cond.code ({ cls := "SleeperRailwayModel", name := "arrival", desc := "(III)I" } : Jvm.MethodName) prog_20_method_30_code (4 : Nat) (Option.some Jvm.ClassFile.FieldType.int)) ∈ lw_all := lw_g (lw_at lw_m16 178 rfl) rfl
theorem q3879 : (Jvm.Cond.methodLink "SleeperRailwayModel" (137 : Nat) ({ cls := "SleeperRailwayModel", name := "arrives", desc := "(III)I" } : Jvm.MethodName)) ∈ lw_all := lw_g (lw_at lw_m16 179 rfl) rfl
theorem q3880 : (Jvm.Cond.privateMethod ({ cls := "SleeperRailwayModel", name := "arrives", desc := "(III)I" } : Jvm.MethodName)) ∈ lw_tbl := lw_at lw_m16 180 rfl
theorem q3881 : (Jvm.Cond.instanceMethod ({ cls := "SleeperRailwayModel", name := "arrives", desc := "(III)I" } : Jvm.MethodName)) ∈ lw_all := lw_g (lw_at lw_m16 181 rfl) rfl
theorem q3882 : (Jvm.Cond.code ({ cls := "SleeperRailwayModel", name := "arrives", desc := "(III)I" } : Jvm.MethodName) prog_20_method_29_code (4 : Nat) (Option.some Jvm.ClassFile.FieldType.int)) ∈ lw_all := lw_g (lw_at lw_m16 182 rfl) rfl
theorem q3884 : (Jvm.Cond.instanceMethod ({ cls := "SleeperRailwayModel", name := "arrivalByScanning", desc := "(III)I" } : Jvm.MethodName)) ∈ lw_all := lw_g (lw_at lw_m16 184 rfl) rfl
theorem q3885 : (Jvm.Cond.selects "SleeperRailwayModel" ({ cls := "SleeperRailwayModel", name := "arrivalByScanning", desc := "(III)I" } : Jvm.MethodName) ({ cls := "SleeperRailwayModel", name := "arrivalByScanning", desc := "(III)I" } : Jvm.MethodName)) ∈ lw_all := lw_g (lw_at lw_m16 185 rfl) rfl
theorem q3886 : (Jvm.Cond.code ({ cls := "SleeperRailwayModel", name := "arrivalByScanning", desc := "(III)I" } : Jvm.MethodName) prog_20_method_31_code (4 : Nat) (Option.some Jvm.ClassFile.FieldType.int)) ∈ lw_all := lw_g (lw_at lw_m16 186 rfl) rfl
theorem q3888 : (Jvm.Cond.instanceMethod ({ cls := "SleeperRailwayModel", name := "boardings", desc := "(III)I" } : Jvm.MethodName)) ∈ lw_all := lw_g (lw_at lw_m16 188 rfl) rfl
theorem q3889 : (Jvm.Cond.selects "SleeperRailwayModel" ({ cls := "SleeperRailwayModel", name := "boardings", desc := "(III)I" } : Jvm.MethodName) ({ cls := "SleeperRailwayModel", name := "boardings", desc := "(III)I" } : Jvm.MethodName)) ∈ lw_all := lw_g (lw_at lw_m16 189 rfl) rfl
theorem q3890 : (Jvm.Cond.code ({ cls := "SleeperRailwayModel", name := "boardings", desc := "(III)I" } : Jvm.MethodName) prog_20_method_32_code (7 : Nat) (Option.some Jvm.ClassFile.FieldType.int)) ∈ lw_all := lw_g (lw_at lw_m16 190 rfl) rfl
theorem q3892 : (Jvm.Cond.instanceMethod ({ cls := "SleeperRailwayModel", name := "addSuitcase", desc := "(III)I" } : Jvm.MethodName)) ∈ lw_all := lw_g (lw_at lw_m16 192 rfl) rfl
theorem q3893 : (Jvm.Cond.selects "SleeperRailwayModel" ({ cls := "SleeperRailwayModel", name := "addSuitcase", desc := "(III)I" } : Jvm.MethodName) ({ cls := "SleeperRailwayModel", name := "addSuitcase", desc := "(III)I" } : Jvm.MethodName)) ∈ lw_all := lw_g (lw_at lw_m16 193 rfl) rfl
theorem q3894 : (Jvm.Cond.code ({ cls := "SleeperRailwayModel", name := "addSuitcase", desc := "(III)I" } : Jvm.MethodName) prog_20_method_36_code (5 : Nat) (Option.some Jvm.ClassFile.FieldType.int)) ∈ lw_all := lw_g (lw_at lw_m16 194 rfl) rfl
theorem q3896 : (Jvm.Cond.instanceMethod ({ cls := "SleeperRailwayModel", name := "relabel", desc := "(II)I" } : Jvm.MethodName)) ∈ lw_all := lw_g (lw_at lw_m16 196 rfl) rfl
theorem q3897 : (Jvm.Cond.selects "SleeperRailwayModel" ({ cls := "SleeperRailwayModel", name := "relabel", desc := "(II)I" } : Jvm.MethodName) ({ cls := "SleeperRailwayModel", name := "relabel", desc := "(II)I" } : Jvm.MethodName)) ∈ lw_all := lw_g (lw_at lw_m16 197 rfl) rfl
theorem q3898 : (Jvm.Cond.code ({ cls := "SleeperRailwayModel", name := "relabel", desc := "(II)I" } : Jvm.MethodName) prog_20_method_37_code (5 : Nat) (Option.some Jvm.ClassFile.FieldType.int)) ∈ lw_all := lw_g (lw_at lw_m16 198 rfl) rfl
theorem q3899 : (Jvm.Cond.methodLink "SleeperRailwayModel" (148 : Nat) ({ cls := "SleeperRailwayModel", name := "isLost", desc := "(I)Z" } : Jvm.MethodName)) ∈ lw_all := lw_g (lw_at lw_m16 199 rfl) rfl
theorem q3900 : (Jvm.Cond.privateMethod ({ cls := "SleeperRailwayModel", name := "isLost", desc := "(I)Z" } : Jvm.MethodName)) ∈ lw_tbl := lw_at lw_m16 200 rfl
theorem q3901 : (Jvm.Cond.instanceMethod ({ cls := "SleeperRailwayModel", name := "isLost", desc := "(I)Z" } : Jvm.MethodName)) ∈ lw_all := lw_g (lw_at lw_m16 201 rfl) rfl
theorem q3902 : (Jvm.Cond.code ({ cls := "SleeperRailwayModel", name := "isLost", desc := "(I)Z" } : Jvm.MethodName) prog_20_method_35_code (2 : Nat) (Option.some Jvm.ClassFile.FieldType.boolean)) ∈ lw_all := lw_g (lw_at lw_m16 202 rfl) rfl
theorem q3903 : (Jvm.Cond.methodLink "SleeperRailwayModel" (144 : Nat) ({ cls := "SleeperRailwayModel", name := "found", desc := "(I)I" } : Jvm.MethodName)) ∈ lw_all := lw_g (lw_at lw_m16 203 rfl) rfl
theorem q3904 : (Jvm.Cond.privateMethod ({ cls := "SleeperRailwayModel", name := "found", desc := "(I)I" } : Jvm.MethodName)) ∈ lw_tbl := lw_at lw_m16 204 rfl
theorem q3905 : (Jvm.Cond.instanceMethod ({ cls := "SleeperRailwayModel", name := "found", desc := "(I)I" } : Jvm.MethodName)) ∈ lw_all := lw_g (lw_at lw_m16 205 rfl) rfl
theorem q3906 : (Jvm.Cond.code ({ cls := "SleeperRailwayModel", name := "found", desc := "(I)I" } : Jvm.MethodName) prog_20_method_34_code (3 : Nat) (Option.some Jvm.ClassFile.FieldType.int)) ∈ lw_all := lw_g (lw_at lw_m16 206 rfl) rfl
theorem q3907 : (Jvm.Cond.methodLink "SleeperRailwayModel" (141 : Nat) ({ cls := "SleeperRailwayModel", name := "the", desc := "(II)I" } : Jvm.MethodName)) ∈ lw_all := lw_g (lw_at lw_m16 207 rfl) rfl
theorem q3908 : (Jvm.Cond.privateMethod ({ cls := "SleeperRailwayModel", name := "the", desc := "(II)I" } : Jvm.MethodName)) ∈ lw_tbl := lw_at lw_m16 208 rfl
theorem q3909 : (Jvm.Cond.instanceMethod ({ cls := "SleeperRailwayModel", name := "the", desc := "(II)I" } : Jvm.MethodName)) ∈ lw_all := lw_g (lw_at lw_m16 209 rfl) rfl
theorem q3910 : (Jvm.Cond.code ({ cls := "SleeperRailwayModel", name := "the", desc := "(II)I" } : Jvm.MethodName) prog_20_method_33_code (3 : Nat) (Option.some Jvm.ClassFile.FieldType.int)) ∈ lw_all := lw_g (lw_at lw_m16 210 rfl) rfl
theorem q3912 : (Jvm.Cond.instanceMethod ({ cls := "SleeperRailwayModel", name := "send", desc := "(I)I" } : Jvm.MethodName)) ∈ lw_all := lw_g (lw_at lw_m16 212 rfl) rfl
theorem q3913 : (Jvm.Cond.selects "SleeperRailwayModel" ({ cls := "SleeperRailwayModel", name := "send", desc := "(I)I" } : Jvm.MethodName) ({ cls := "SleeperRailwayModel", name := "send", desc := "(I)I" } : Jvm.MethodName)) ∈ lw_all := lw_g (lw_at lw_m16 213 rfl) rfl
theorem q3914 : (Jvm.Cond.code ({ cls := "SleeperRailwayModel", name := "send", desc := "(I)I" } : Jvm.MethodName) prog_20_method_40_code (6 : Nat) (Option.some Jvm.ClassFile.FieldType.int)) ∈ lw_all := lw_g (lw_at lw_m16 214 rfl) rfl
theorem q3915 : (Jvm.Cond.methodLink "SleeperRailwayModel" (157 : Nat) ({ cls := "SleeperRailwayModel", name := "goesBack", desc := "(I)I" } : Jvm.MethodName)) ∈ lw_all := lw_g (lw_at lw_m16 215 rfl) rfl
theorem q3916 : (Jvm.Cond.privateMethod ({ cls := "SleeperRailwayModel", name := "goesBack", desc := "(I)I" } : Jvm.MethodName)) ∈ lw_tbl := lw_at lw_m16 216 rfl
theorem q3917 : (Jvm.Cond.instanceMethod ({ cls := "SleeperRailwayModel", name := "goesBack", desc := "(I)I" } : Jvm.MethodName)) ∈ lw_all := lw_g (lw_at lw_m16 217 rfl) rfl
theorem q3918 : (Jvm.Cond.code ({ cls := "SleeperRailwayModel", name := "goesBack", desc := "(I)I" } : Jvm.MethodName) prog_20_method_39_code (6 : Nat) (Option.some Jvm.ClassFile.FieldType.int)) ∈ lw_all := lw_g (lw_at lw_m16 218 rfl) rfl
theorem q3919 : (Jvm.Cond.methodLink "SleeperRailwayModel" (151 : Nat) ({ cls := "SleeperRailwayModel", name := "boardedAt", desc := "(II)I" } : Jvm.MethodName)) ∈ lw_all := lw_g (lw_at lw_m16 219 rfl) rfl
theorem q3920 : (Jvm.Cond.privateMethod ({ cls := "SleeperRailwayModel", name := "boardedAt", desc := "(II)I" } : Jvm.MethodName)) ∈ lw_tbl := lw_at lw_m16 220 rfl
theorem q3921 : (Jvm.Cond.instanceMethod ({ cls := "SleeperRailwayModel", name := "boardedAt", desc := "(II)I" } : Jvm.MethodName)) ∈ lw_all := lw_g (lw_at lw_m16 221 rfl) rfl
theorem q3922 : (Jvm.Cond.code ({ cls := "SleeperRailwayModel", name := "boardedAt", desc := "(II)I" } : Jvm.MethodName) prog_20_method_38_code (4 : Nat) (Option.some Jvm.ClassFile.FieldType.int)) ∈ lw_all := lw_g (lw_at lw_m16 222 rfl) rfl
theorem q3924 : (Jvm.Cond.instanceMethod ({ cls := "SleeperRailwayModel", name := "collect", desc := "(I)I" } : Jvm.MethodName)) ∈ lw_all := lw_g (lw_at lw_m16 224 rfl) rfl
theorem q3925 : (Jvm.Cond.selects "SleeperRailwayModel" ({ cls := "SleeperRailwayModel", name := "collect", desc := "(I)I" } : Jvm.MethodName) ({ cls := "SleeperRailwayModel", name := "collect", desc := "(I)I" } : Jvm.MethodName)) ∈ lw_all := lw_g (lw_at lw_m16 225 rfl) rfl
theorem q3926 : (Jvm.Cond.code ({ cls := "SleeperRailwayModel", name := "collect", desc := "(I)I" } : Jvm.MethodName) prog_20_method_42_code (3 : Nat) (Option.some Jvm.ClassFile.FieldType.int)) ∈ lw_all := lw_g (lw_at lw_m16 226 rfl) rfl
theorem q3927 : (Jvm.Cond.methodLink "SleeperRailwayModel" (160 : Nat) ({ cls := "SleeperRailwayModel", name := "drops", desc := "(III)V" } : Jvm.MethodName)) ∈ lw_all := lw_g (lw_at lw_m16 227 rfl) rfl
theorem q3928 : (Jvm.Cond.privateMethod ({ cls := "SleeperRailwayModel", name := "drops", desc := "(III)V" } : Jvm.MethodName)) ∈ lw_tbl := lw_at lw_m16 228 rfl
theorem q3929 : (Jvm.Cond.instanceMethod ({ cls := "SleeperRailwayModel", name := "drops", desc := "(III)V" } : Jvm.MethodName)) ∈ lw_all := lw_g (lw_at lw_m16 229 rfl) rfl
theorem q3930 : (Jvm.Cond.code ({ cls := "SleeperRailwayModel", name := "drops", desc := "(III)V" } : Jvm.MethodName) prog_20_method_41_code (5 : Nat) (Option.none : Option Jvm.ClassFile.FieldType)) ∈ lw_all := lw_g (lw_at lw_m16 230 rfl) rfl
theorem q3932 : (Jvm.Cond.instanceMethod ({ cls := "SleeperRailwayModel", name := "book", desc := "(III)I" } : Jvm.MethodName)) ∈ lw_all := lw_g (lw_at lw_m16 232 rfl) rfl
theorem q3933 : (Jvm.Cond.selects "SleeperRailwayModel" ({ cls := "SleeperRailwayModel", name := "book", desc := "(III)I" } : Jvm.MethodName) ({ cls := "SleeperRailwayModel", name := "book", desc := "(III)I" } : Jvm.MethodName)) ∈ lw_all := lw_g (lw_at lw_m16 233 rfl) rfl
theorem q3934 : (Jvm.Cond.code ({ cls := "SleeperRailwayModel", name := "book", desc := "(III)I" } : Jvm.MethodName) prog_20_method_43_code (6 : Nat) (Option.some Jvm.ClassFile.FieldType.int)) ∈ lw_all := lw_g (lw_at lw_m16 234 rfl) rfl
theorem q3935 : (Jvm.Cond.methodLink "SleeperRailwayModel" (164 : Nat) ({ cls := "SleeperRailwayModel", name := "isStop", desc := "(II)Z" } : Jvm.MethodName)) ∈ lw_all := lw_g (lw_at lw_m16 235 rfl) rfl
theorem q3936 : (Jvm.Cond.privateMethod ({ cls := "SleeperRailwayModel", name := "isStop", desc := "(II)Z" } : Jvm.MethodName)) ∈ lw_tbl := lw_at lw_m16 236 rfl
theorem q3937 : (Jvm.Cond.instanceMethod ({ cls := "SleeperRailwayModel", name := "isStop", desc := "(II)Z" } : Jvm.MethodName)) ∈ lw_all := lw_g (lw_at lw_m16 237 rfl) rfl
theorem q3938 : (Jvm.Cond.code ({ cls := "SleeperRailwayModel", name := "isStop", desc := "(II)Z" } : Jvm.MethodName) prog_20_method_10_code (3 : Nat) (Option.some Jvm.ClassFile.FieldType.boolean)) ∈ lw_all := lw_g (lw_at lw_m16 238 rfl) rfl
theorem q3940 : (Jvm.Cond.instanceMethod ({ cls := "SleeperRailwayModel", name := "cancelBooking", desc := "(I)I" } : Jvm.MethodName)) ∈ lw_all := lw_g (lw_at lw_m17 0 rfl) rfl
theorem q3941 : (Jvm.Cond.selects "SleeperRailwayModel" ({ cls := "SleeperRailwayModel", name := "cancelBooking", desc := "(I)I" } : Jvm.MethodName) ({ cls := "SleeperRailwayModel", name := "cancelBooking", desc := "(I)I" } : Jvm.MethodName)) ∈ lw_all := lw_g (lw_at lw_m17 1 rfl) rfl
theorem q3942 : (Jvm.Cond.code ({ cls := "SleeperRailwayModel", name := "cancelBooking", desc := "(I)I" } : Jvm.MethodName) prog_20_method_45_code (3 : Nat) (Option.some Jvm.ClassFile.FieldType.int)) ∈ lw_all := lw_g (lw_at lw_m17 2 rfl) rfl
theorem q3943 : (Jvm.Cond.methodLink "SleeperRailwayModel" (167 : Nat) ({ cls := "SleeperRailwayModel", name := "placed", desc := "(I)I" } : Jvm.MethodName)) ∈ lw_all := lw_g (lw_at lw_m17 3 rfl) rfl
theorem q3944 : (Jvm.Cond.privateMethod ({ cls := "SleeperRailwayModel", name := "placed", desc := "(I)I" } : Jvm.MethodName)) ∈ lw_tbl := lw_at lw_m17 4 rfl
theorem q3945 : (Jvm.Cond.instanceMethod ({ cls := "SleeperRailwayModel", name := "placed", desc := "(I)I" } : Jvm.MethodName)) ∈ lw_all := lw_g (lw_at lw_m17 5 rfl) rfl
theorem q3946 : (Jvm.Cond.code ({ cls := "SleeperRailwayModel", name := "placed", desc := "(I)I" } : Jvm.MethodName) prog_20_method_44_code (3 : Nat) (Option.some Jvm.ClassFile.FieldType.int)) ∈ lw_all := lw_g (lw_at lw_m17 6 rfl) rfl
theorem q3948 : (Jvm.Cond.instanceMethod ({ cls := "SleeperRailwayModel", name := "stationCount", desc := "()I" } : Jvm.MethodName)) ∈ lw_all := lw_g (lw_at lw_m17 8 rfl) rfl
theorem q3949 : (Jvm.Cond.selects "SleeperRailwayModel" ({ cls := "SleeperRailwayModel", name := "stationCount", desc := "()I" } : Jvm.MethodName) ({ cls := "SleeperRailwayModel", name := "stationCount", desc := "()I" } : Jvm.MethodName)) ∈ lw_all := lw_g (lw_at lw_m17 9 rfl) rfl
theorem q3950 : (Jvm.Cond.code ({ cls := "SleeperRailwayModel", name := "stationCount", desc := "()I" } : Jvm.MethodName) prog_20_method_46_code (1 : Nat) (Option.some Jvm.ClassFile.FieldType.int)) ∈ lw_all := lw_g (lw_at lw_m17 10 rfl) rfl
theorem q3952 : (Jvm.Cond.instanceMethod ({ cls := "SleeperRailwayModel", name := "transferTime", desc := "(I)I" } : Jvm.MethodName)) ∈ lw_all := lw_g (lw_at lw_m17 12 rfl) rfl
theorem q3953 : (Jvm.Cond.selects "SleeperRailwayModel" ({ cls := "SleeperRailwayModel", name := "transferTime", desc := "(I)I" } : Jvm.MethodName) ({ cls := "SleeperRailwayModel", name := "transferTime", desc := "(I)I" } : Jvm.MethodName)) ∈ lw_all := lw_g (lw_at lw_m17 13 rfl) rfl
theorem q3954 : (Jvm.Cond.code ({ cls := "SleeperRailwayModel", name := "transferTime", desc := "(I)I" } : Jvm.MethodName) prog_20_method_47_code (2 : Nat) (Option.some Jvm.ClassFile.FieldType.int)) ∈ lw_all := lw_g (lw_at lw_m17 14 rfl) rfl
theorem q3956 : (Jvm.Cond.instanceMethod ({ cls := "SleeperRailwayModel", name := "nextTrain", desc := "(II)I" } : Jvm.MethodName)) ∈ lw_all := lw_g (lw_at lw_m17 16 rfl) rfl
theorem q3957 : (Jvm.Cond.selects "SleeperRailwayModel" ({ cls := "SleeperRailwayModel", name := "nextTrain", desc := "(II)I" } : Jvm.MethodName) ({ cls := "SleeperRailwayModel", name := "nextTrain", desc := "(II)I" } : Jvm.MethodName)) ∈ lw_all := lw_g (lw_at lw_m17 17 rfl) rfl
theorem q3958 : (Jvm.Cond.code ({ cls := "SleeperRailwayModel", name := "nextTrain", desc := "(II)I" } : Jvm.MethodName) prog_20_method_48_code (7 : Nat) (Option.some Jvm.ClassFile.FieldType.int)) ∈ lw_all := lw_g (lw_at lw_m17 18 rfl) rfl
theorem q3960 : (Jvm.Cond.instanceMethod ({ cls := "SleeperRailwayModel", name := "trainCount", desc := "()I" } : Jvm.MethodName)) ∈ lw_all := lw_g (lw_at lw_m17 20 rfl) rfl
theorem q3961 : (Jvm.Cond.selects "SleeperRailwayModel" ({ cls := "SleeperRailwayModel", name := "trainCount", desc := "()I" } : Jvm.MethodName) ({ cls := "SleeperRailwayModel", name := "trainCount", desc := "()I" } : Jvm.MethodName)) ∈ lw_all := lw_g (lw_at lw_m17 21 rfl) rfl
theorem q3962 : (Jvm.Cond.code ({ cls := "SleeperRailwayModel", name := "trainCount", desc := "()I" } : Jvm.MethodName) prog_20_method_49_code (1 : Nat) (Option.some Jvm.ClassFile.FieldType.int)) ∈ lw_all := lw_g (lw_at lw_m17 22 rfl) rfl
theorem q3964 : (Jvm.Cond.instanceMethod ({ cls := "SleeperRailwayModel", name := "stopCount", desc := "(I)I" } : Jvm.MethodName)) ∈ lw_all := lw_g (lw_at lw_m17 24 rfl) rfl
theorem q3965 : (Jvm.Cond.selects "SleeperRailwayModel" ({ cls := "SleeperRailwayModel", name := "stopCount", desc := "(I)I" } : Jvm.MethodName) ({ cls := "SleeperRailwayModel", name := "stopCount", desc := "(I)I" } : Jvm.MethodName)) ∈ lw_all := lw_g (lw_at lw_m17 25 rfl) rfl
theorem q3966 : (Jvm.Cond.code ({ cls := "SleeperRailwayModel", name := "stopCount", desc := "(I)I" } : Jvm.MethodName) prog_20_method_51_code (2 : Nat) (Option.some Jvm.ClassFile.FieldType.int)) ∈ lw_all := lw_g (lw_at lw_m17 26 rfl) rfl
theorem q3967 : (Jvm.Cond.methodLink "SleeperRailwayModel" (170 : Nat) ({ cls := "SleeperRailwayModel", name := "ofTrain", desc := "(II)I" } : Jvm.MethodName)) ∈ lw_all := lw_g (lw_at lw_m17 27 rfl) rfl
theorem q3968 : (Jvm.Cond.privateMethod ({ cls := "SleeperRailwayModel", name := "ofTrain", desc := "(II)I" } : Jvm.MethodName)) ∈ lw_tbl := lw_at lw_m17 28 rfl
theorem q3969 : (Jvm.Cond.instanceMethod ({ cls := "SleeperRailwayModel", name := "ofTrain", desc := "(II)I" } : Jvm.MethodName)) ∈ lw_all := lw_g (lw_at lw_m17 29 rfl) rfl
theorem q3970 : (Jvm.Cond.code ({ cls := "SleeperRailwayModel", name := "ofTrain", desc := "(II)I" } : Jvm.MethodName) prog_20_method_50_code (3 : Nat) (Option.some Jvm.ClassFile.FieldType.int)) ∈ lw_all := lw_g (lw_at lw_m17 30 rfl) rfl
theorem q3972 : (Jvm.Cond.instanceMethod ({ cls := "SleeperRailwayModel", name := "stationAt", desc := "(II)I" } : Jvm.MethodName)) ∈ lw_all := lw_g (lw_at lw_m17 32 rfl) rfl
theorem q3973 : (Jvm.Cond.selects "SleeperRailwayModel" ({ cls := "SleeperRailwayModel", name := "stationAt", desc := "(II)I" } : Jvm.MethodName) ({ cls := "SleeperRailwayModel", name := "stationAt", desc := "(II)I" } : Jvm.MethodName)) ∈ lw_all := lw_g (lw_at lw_m17 33 rfl) rfl
theorem q3974 : (Jvm.Cond.code ({ cls := "SleeperRailwayModel", name := "stationAt", desc := "(II)I" } : Jvm.MethodName) prog_20_method_52_code (3 : Nat) (Option.some Jvm.ClassFile.FieldType.int)) ∈ lw_all := lw_g (lw_at lw_m17 34 rfl) rfl
theorem q3976 : (Jvm.Cond.instanceMethod ({ cls := "SleeperRailwayModel", name := "arrivalAt", desc := "(II)I" } : Jvm.MethodName)) ∈ lw_all := lw_g (lw_at lw_m17 36 rfl) rfl
theorem q3977 : (Jvm.Cond.selects "SleeperRailwayModel" ({ cls := "SleeperRailwayModel", name := "arrivalAt", desc := "(II)I" } : Jvm.MethodName) ({ cls := "SleeperRailwayModel", name := "arrivalAt", desc := "(II)I" } : Jvm.MethodName)) ∈ lw_all := lw_g (lw_at lw_m17 37 rfl) rfl
theorem q3978 : (Jvm.Cond.code ({ cls := "SleeperRailwayModel", name := "arrivalAt", desc := "(II)I" } : Jvm.MethodName) prog_20_method_53_code (3 : Nat) (Option.some Jvm.ClassFile.FieldType.int)) ∈ lw_all := lw_g (lw_at lw_m17 38 rfl) rfl
theorem q3980 : (Jvm.Cond.instanceMethod ({ cls := "SleeperRailwayModel", name := "departureAt", desc := "(II)I" } : Jvm.MethodName)) ∈ lw_all := lw_g (lw_at lw_m17 40 rfl) rfl
theorem q3981 : (Jvm.Cond.selects "SleeperRailwayModel" ({ cls := "SleeperRailwayModel", name := "departureAt", desc := "(II)I" } : Jvm.MethodName) ({ cls := "SleeperRailwayModel", name := "departureAt", desc := "(II)I" } : Jvm.MethodName)) ∈ lw_all := lw_g (lw_at lw_m17 41 rfl) rfl
theorem q3982 : (Jvm.Cond.code ({ cls := "SleeperRailwayModel", name := "departureAt", desc := "(II)I" } : Jvm.MethodName) prog_20_method_54_code (3 : Nat) (Option.some Jvm.ClassFile.FieldType.int)) ∈ lw_all := lw_g (lw_at lw_m17 42 rfl) rfl
theorem q3984 : (Jvm.Cond.instanceMethod ({ cls := "SleeperRailwayModel", name := "capacity", desc := "(I)I" } : Jvm.MethodName)) ∈ lw_all := lw_g (lw_at lw_m17 44 rfl) rfl
theorem q3985 : (Jvm.Cond.selects "SleeperRailwayModel" ({ cls := "SleeperRailwayModel", name := "capacity", desc := "(I)I" } : Jvm.MethodName) ({ cls := "SleeperRailwayModel", name := "capacity", desc := "(I)I" } : Jvm.MethodName)) ∈ lw_all := lw_g (lw_at lw_m17 45 rfl) rfl
theorem q3986 : (Jvm.Cond.code ({ cls := "SleeperRailwayModel", name := "capacity", desc := "(I)I" } : Jvm.MethodName) prog_20_method_55_code (2 : Nat) (Option.some Jvm.ClassFile.FieldType.int)) ∈ lw_all := lw_g (lw_at lw_m17 46 rfl) rfl
theorem q3988 : (Jvm.Cond.instanceMethod ({ cls := "SleeperRailwayModel", name := "delayOf", desc := "(I)I" } : Jvm.MethodName)) ∈ lw_all := lw_g (lw_at lw_m17 48 rfl) rfl
theorem q3989 : (Jvm.Cond.selects "SleeperRailwayModel" ({ cls := "SleeperRailwayModel", name := "delayOf", desc := "(I)I" } : Jvm.MethodName) ({ cls := "SleeperRailwayModel", name := "delayOf", desc := "(I)I" } : Jvm.MethodName)) ∈ lw_all := lw_g (lw_at lw_m17 49 rfl) rfl
theorem q3990 : (Jvm.Cond.code ({ cls := "SleeperRailwayModel", name := "delayOf", desc := "(I)I" } : Jvm.MethodName) prog_20_method_56_code (2 : Nat) (Option.some Jvm.ClassFile.FieldType.int)) ∈ lw_all := lw_g (lw_at lw_m17 50 rfl) rfl
theorem q3992 : (Jvm.Cond.instanceMethod ({ cls := "SleeperRailwayModel", name := "load", desc := "(II)I" } : Jvm.MethodName)) ∈ lw_all := lw_g (lw_at lw_m17 52 rfl) rfl
theorem q3993 : (Jvm.Cond.selects "SleeperRailwayModel" ({ cls := "SleeperRailwayModel", name := "load", desc := "(II)I" } : Jvm.MethodName) ({ cls := "SleeperRailwayModel", name := "load", desc := "(II)I" } : Jvm.MethodName)) ∈ lw_all := lw_g (lw_at lw_m17 53 rfl) rfl
theorem q3994 : (Jvm.Cond.code ({ cls := "SleeperRailwayModel", name := "load", desc := "(II)I" } : Jvm.MethodName) prog_20_method_57_code (3 : Nat) (Option.some Jvm.ClassFile.FieldType.int)) ∈ lw_all := lw_g (lw_at lw_m17 54 rfl) rfl
theorem q3995 : (Jvm.Cond.methodLink "SleeperRailwayModel" (173 : Nat) ({ cls := "SleeperRailwayModel", name := "isLeg", desc := "(II)Z" } : Jvm.MethodName)) ∈ lw_all := lw_g (lw_at lw_m17 55 rfl) rfl
theorem q3996 : (Jvm.Cond.privateMethod ({ cls := "SleeperRailwayModel", name := "isLeg", desc := "(II)Z" } : Jvm.MethodName)) ∈ lw_tbl := lw_at lw_m17 56 rfl
theorem q3997 : (Jvm.Cond.instanceMethod ({ cls := "SleeperRailwayModel", name := "isLeg", desc := "(II)Z" } : Jvm.MethodName)) ∈ lw_all := lw_g (lw_at lw_m17 57 rfl) rfl
theorem q3998 : (Jvm.Cond.code ({ cls := "SleeperRailwayModel", name := "isLeg", desc := "(II)Z" } : Jvm.MethodName) prog_20_method_11_code (3 : Nat) (Option.some Jvm.ClassFile.FieldType.boolean)) ∈ lw_all := lw_g (lw_at lw_m17 58 rfl) rfl
theorem q4000 : (Jvm.Cond.instanceMethod ({ cls := "SleeperRailwayModel", name := "isFull", desc := "(II)Z" } : Jvm.MethodName)) ∈ lw_all := lw_g (lw_at lw_m17 60 rfl) rfl
theorem q4001 : (Jvm.Cond.selects "SleeperRailwayModel" ({ cls := "SleeperRailwayModel", name := "isFull", desc := "(II)Z" } : Jvm.MethodName) ({ cls := "SleeperRailwayModel", name := "isFull", desc := "(II)Z" } : Jvm.MethodName)) ∈ lw_all := lw_g (lw_at lw_m17 61 rfl) rfl
theorem q4002 : (Jvm.Cond.code ({ cls := "SleeperRailwayModel", name := "isFull", desc := "(II)Z" } : Jvm.MethodName) prog_20_method_58_code (3 : Nat) (Option.some Jvm.ClassFile.FieldType.boolean)) ∈ lw_all := lw_g (lw_at lw_m17 62 rfl) rfl
theorem q4004 : (Jvm.Cond.instanceMethod ({ cls := "SleeperRailwayModel", name := "suitcaseCount", desc := "()I" } : Jvm.MethodName)) ∈ lw_all := lw_g (lw_at lw_m17 64 rfl) rfl
theorem q4005 : (Jvm.Cond.selects "SleeperRailwayModel" ({ cls := "SleeperRailwayModel", name := "suitcaseCount", desc := "()I" } : Jvm.MethodName) ({ cls := "SleeperRailwayModel", name := "suitcaseCount", desc := "()I" } : Jvm.MethodName)) ∈ lw_all := lw_g (lw_at lw_m17 65 rfl) rfl
theorem q4006 : (Jvm.Cond.code ({ cls := "SleeperRailwayModel", name := "suitcaseCount", desc := "()I" } : Jvm.MethodName) prog_20_method_59_code (1 : Nat) (Option.some Jvm.ClassFile.FieldType.int)) ∈ lw_all := lw_g (lw_at lw_m17 66 rfl) rfl
theorem q4008 : (Jvm.Cond.instanceMethod ({ cls := "SleeperRailwayModel", name := "suitcaseAt", desc := "(I)I" } : Jvm.MethodName)) ∈ lw_all := lw_g (lw_at lw_m17 68 rfl) rfl
theorem q4009 : (Jvm.Cond.selects "SleeperRailwayModel" ({ cls := "SleeperRailwayModel", name := "suitcaseAt", desc := "(I)I" } : Jvm.MethodName) ({ cls := "SleeperRailwayModel", name := "suitcaseAt", desc := "(I)I" } : Jvm.MethodName)) ∈ lw_all := lw_g (lw_at lw_m17 69 rfl) rfl
theorem q4010 : (Jvm.Cond.code ({ cls := "SleeperRailwayModel", name := "suitcaseAt", desc := "(I)I" } : Jvm.MethodName) prog_20_method_60_code (2 : Nat) (Option.some Jvm.ClassFile.FieldType.int)) ∈ lw_all := lw_g (lw_at lw_m17 70 rfl) rfl
theorem q4012 : (Jvm.Cond.instanceMethod ({ cls := "SleeperRailwayModel", name := "stationOf", desc := "(I)I" } : Jvm.MethodName)) ∈ lw_all := lw_g (lw_at lw_m17 72 rfl) rfl
theorem q4013 : (Jvm.Cond.selects "SleeperRailwayModel" ({ cls := "SleeperRailwayModel", name := "stationOf", desc := "(I)I" } : Jvm.MethodName) ({ cls := "SleeperRailwayModel", name := "stationOf", desc := "(I)I" } : Jvm.MethodName)) ∈ lw_all := lw_g (lw_at lw_m17 73 rfl) rfl
theorem q4014 : (Jvm.Cond.code ({ cls := "SleeperRailwayModel", name := "stationOf", desc := "(I)I" } : Jvm.MethodName) prog_20_method_62_code (2 : Nat) (Option.some Jvm.ClassFile.FieldType.int)) ∈ lw_all := lw_g (lw_at lw_m17 74 rfl) rfl
theorem q4015 : (Jvm.Cond.methodLink "SleeperRailwayModel" (176 : Nat) ({ cls := "SleeperRailwayModel", name := "ofCase", desc := "(II)I" } : Jvm.MethodName)) ∈ lw_all := lw_g (lw_at lw_m17 75 rfl) rfl
theorem q4016 : (Jvm.Cond.privateMethod ({ cls := "SleeperRailwayModel", name := "ofCase", desc := "(II)I" } : Jvm.MethodName)) ∈ lw_tbl := lw_at lw_m17 76 rfl
theorem q4017 : (Jvm.Cond.instanceMethod ({ cls := "SleeperRailwayModel", name := "ofCase", desc := "(II)I" } : Jvm.MethodName)) ∈ lw_all := lw_g (lw_at lw_m17 77 rfl) rfl
theorem q4018 : (Jvm.Cond.code ({ cls := "SleeperRailwayModel", name := "ofCase", desc := "(II)I" } : Jvm.MethodName) prog_20_method_61_code (3 : Nat) (Option.some Jvm.ClassFile.FieldType.int)) ∈ lw_all := lw_g (lw_at lw_m17 78 rfl) rfl
theorem q4020 : (Jvm.Cond.instanceMethod ({ cls := "SleeperRailwayModel", name := "destinationOf", desc := "(I)I" } : Jvm.MethodName)) ∈ lw_all := lw_g (lw_at lw_m17 80 rfl) rfl
theorem q4021 : (Jvm.Cond.selects "SleeperRailwayModel" ({ cls := "SleeperRailwayModel", name := "destinationOf", desc := "(I)I" } : Jvm.MethodName) ({ cls := "SleeperRailwayModel", name := "destinationOf", desc := "(I)I" } : Jvm.MethodName)) ∈ lw_all := lw_g (lw_at lw_m17 81 rfl) rfl
theorem q4022 : (Jvm.Cond.code ({ cls := "SleeperRailwayModel", name := "destinationOf", desc := "(I)I" } : Jvm.MethodName) prog_20_method_63_code (2 : Nat) (Option.some Jvm.ClassFile.FieldType.int)) ∈ lw_all := lw_g (lw_at lw_m17 82 rfl) rfl
theorem q4024 : (Jvm.Cond.instanceMethod ({ cls := "SleeperRailwayModel", name := "readyAt", desc := "(I)I" } : Jvm.MethodName)) ∈ lw_all := lw_g (lw_at lw_m17 84 rfl) rfl
theorem q4025 : (Jvm.Cond.selects "SleeperRailwayModel" ({ cls := "SleeperRailwayModel", name := "readyAt", desc := "(I)I" } : Jvm.MethodName) ({ cls := "SleeperRailwayModel", name := "readyAt", desc := "(I)I" } : Jvm.MethodName)) ∈ lw_all := lw_g (lw_at lw_m17 85 rfl) rfl
theorem q4026 : (Jvm.Cond.code ({ cls := "SleeperRailwayModel", name := "readyAt", desc := "(I)I" } : Jvm.MethodName) prog_20_method_64_code (2 : Nat) (Option.some Jvm.ClassFile.FieldType.int)) ∈ lw_all := lw_g (lw_at lw_m17 86 rfl) rfl
theorem q4028 : (Jvm.Cond.instanceMethod ({ cls := "SleeperRailwayModel", name := "isThere", desc := "(I)Z" } : Jvm.MethodName)) ∈ lw_all := lw_g (lw_at lw_m17 88 rfl) rfl
theorem q4029 : (Jvm.Cond.selects "SleeperRailwayModel" ({ cls := "SleeperRailwayModel", name := "isThere", desc := "(I)Z" } : Jvm.MethodName) ({ cls := "SleeperRailwayModel", name := "isThere", desc := "(I)Z" } : Jvm.MethodName)) ∈ lw_all := lw_g (lw_at lw_m17 89 rfl) rfl
theorem q4030 : (Jvm.Cond.code ({ cls := "SleeperRailwayModel", name := "isThere", desc := "(I)Z" } : Jvm.MethodName) prog_20_method_65_code (2 : Nat) (Option.some Jvm.ClassFile.FieldType.boolean)) ∈ lw_all := lw_g (lw_at lw_m17 90 rfl) rfl
theorem q4032 : (Jvm.Cond.instanceMethod ({ cls := "SleeperRailwayModel", name := "suitcaseByReady", desc := "(I)I" } : Jvm.MethodName)) ∈ lw_all := lw_g (lw_at lw_m17 92 rfl) rfl
theorem q4033 : (Jvm.Cond.selects "SleeperRailwayModel" ({ cls := "SleeperRailwayModel", name := "suitcaseByReady", desc := "(I)I" } : Jvm.MethodName) ({ cls := "SleeperRailwayModel", name := "suitcaseByReady", desc := "(I)I" } : Jvm.MethodName)) ∈ lw_all := lw_g (lw_at lw_m17 93 rfl) rfl
theorem q4034 : (Jvm.Cond.code ({ cls := "SleeperRailwayModel", name := "suitcaseByReady", desc := "(I)I" } : Jvm.MethodName) prog_20_method_66_code (5 : Nat) (Option.some Jvm.ClassFile.FieldType.int)) ∈ lw_all := lw_g (lw_at lw_m17 94 rfl) rfl
theorem q4036 : (Jvm.Cond.instanceMethod ({ cls := "SleeperRailwayModel", name := "bookingCount", desc := "()I" } : Jvm.MethodName)) ∈ lw_all := lw_g (lw_at lw_m17 96 rfl) rfl
theorem q4037 : (Jvm.Cond.selects "SleeperRailwayModel" ({ cls := "SleeperRailwayModel", name := "bookingCount", desc := "()I" } : Jvm.MethodName) ({ cls := "SleeperRailwayModel", name := "bookingCount", desc := "()I" } : Jvm.MethodName)) ∈ lw_all := lw_g (lw_at lw_m17 97 rfl) rfl
theorem q4038 : (Jvm.Cond.code ({ cls := "SleeperRailwayModel", name := "bookingCount", desc := "()I" } : Jvm.MethodName) prog_20_method_67_code (1 : Nat) (Option.some Jvm.ClassFile.FieldType.int)) ∈ lw_all := lw_g (lw_at lw_m17 98 rfl) rfl
theorem q4040 : (Jvm.Cond.instanceMethod ({ cls := "SleeperRailwayModel", name := "bookingAt", desc := "(I)I" } : Jvm.MethodName)) ∈ lw_all := lw_g (lw_at lw_m17 100 rfl) rfl
theorem q4041 : (Jvm.Cond.selects "SleeperRailwayModel" ({ cls := "SleeperRailwayModel", name := "bookingAt", desc := "(I)I" } : Jvm.MethodName) ({ cls := "SleeperRailwayModel", name := "bookingAt", desc := "(I)I" } : Jvm.MethodName)) ∈ lw_all := lw_g (lw_at lw_m17 101 rfl) rfl
theorem q4042 : (Jvm.Cond.code ({ cls := "SleeperRailwayModel", name := "bookingAt", desc := "(I)I" } : Jvm.MethodName) prog_20_method_68_code (2 : Nat) (Option.some Jvm.ClassFile.FieldType.int)) ∈ lw_all := lw_g (lw_at lw_m17 102 rfl) rfl
theorem q4044 : (Jvm.Cond.instanceMethod ({ cls := "SleeperRailwayModel", name := "berthsNeeded", desc := "(I)I" } : Jvm.MethodName)) ∈ lw_all := lw_g (lw_at lw_m17 104 rfl) rfl
theorem q4045 : (Jvm.Cond.selects "SleeperRailwayModel" ({ cls := "SleeperRailwayModel", name := "berthsNeeded", desc := "(I)I" } : Jvm.MethodName) ({ cls := "SleeperRailwayModel", name := "berthsNeeded", desc := "(I)I" } : Jvm.MethodName)) ∈ lw_all := lw_g (lw_at lw_m17 105 rfl) rfl
theorem q4046 : (Jvm.Cond.code ({ cls := "SleeperRailwayModel", name := "berthsNeeded", desc := "(I)I" } : Jvm.MethodName) prog_20_method_70_code (2 : Nat) (Option.some Jvm.ClassFile.FieldType.int)) ∈ lw_all := lw_g (lw_at lw_m17 106 rfl) rfl
theorem q4047 : (Jvm.Cond.methodLink "SleeperRailwayModel" (179 : Nat) ({ cls := "SleeperRailwayModel", name := "needs", desc := "(I)I" } : Jvm.MethodName)) ∈ lw_all := lw_g (lw_at lw_m17 107 rfl) rfl
theorem q4048 : (Jvm.Cond.privateMethod ({ cls := "SleeperRailwayModel", name := "needs", desc := "(I)I" } : Jvm.MethodName)) ∈ lw_tbl := lw_at lw_m17 108 rfl
theorem q4049 : (Jvm.Cond.instanceMethod ({ cls := "SleeperRailwayModel", name := "needs", desc := "(I)I" } : Jvm.MethodName)) ∈ lw_all := lw_g (lw_at lw_m17 109 rfl) rfl
theorem q4050 : (Jvm.Cond.code ({ cls := "SleeperRailwayModel", name := "needs", desc := "(I)I" } : Jvm.MethodName) prog_20_method_69_code (4 : Nat) (Option.some Jvm.ClassFile.FieldType.int)) ∈ lw_all := lw_g (lw_at lw_m17 110 rfl) rfl
theorem q4052 : (Jvm.Cond.instanceMethod ({ cls := "SleeperRailwayModel", name := "berthsNeededByLegs", desc := "(I)I" } : Jvm.MethodName)) ∈ lw_all := lw_g (lw_at lw_m17 112 rfl) rfl
theorem q4053 : (Jvm.Cond.selects "SleeperRailwayModel" ({ cls := "SleeperRailwayModel", name := "berthsNeededByLegs", desc := "(I)I" } : Jvm.MethodName) ({ cls := "SleeperRailwayModel", name := "berthsNeededByLegs", desc := "(I)I" } : Jvm.MethodName)) ∈ lw_all := lw_g (lw_at lw_m17 113 rfl) rfl
theorem q4054 : (Jvm.Cond.code ({ cls := "SleeperRailwayModel", name := "berthsNeededByLegs", desc := "(I)I" } : Jvm.MethodName) prog_20_method_71_code (2 : Nat) (Option.some Jvm.ClassFile.FieldType.int)) ∈ lw_all := lw_g (lw_at lw_m17 114 rfl) rfl
theorem q4056 : (Jvm.Cond.instanceMethod ({ cls := "SleeperRailwayModel", name := "berthOf", desc := "(I)I" } : Jvm.MethodName)) ∈ lw_all := lw_g (lw_at lw_m17 116 rfl) rfl
theorem q4057 : (Jvm.Cond.selects "SleeperRailwayModel" ({ cls := "SleeperRailwayModel", name := "berthOf", desc := "(I)I" } : Jvm.MethodName) ({ cls := "SleeperRailwayModel", name := "berthOf", desc := "(I)I" } : Jvm.MethodName)) ∈ lw_all := lw_g (lw_at lw_m17 117 rfl) rfl
theorem q4058 : (Jvm.Cond.code ({ cls := "SleeperRailwayModel", name := "berthOf", desc := "(I)I" } : Jvm.MethodName) prog_20_method_73_code (3 : Nat) (Option.some Jvm.ClassFile.FieldType.int)) ∈ lw_all := lw_g (lw_at lw_m17 118 rfl) rfl
theorem q4059 : (Jvm.Cond.methodLink "SleeperRailwayModel" (182 : Nat) ({ cls := "SleeperRailwayModel", name := "gives", desc := "(I)V" } : Jvm.MethodName)) ∈ lw_all := lw_g (lw_at lw_m17 119 rfl) rfl
theorem q4060 : (Jvm.Cond.privateMethod ({ cls := "SleeperRailwayModel", name := "gives", desc := "(I)V" } : Jvm.MethodName)) ∈ lw_tbl := lw_at lw_m17 120 rfl
theorem q4061 : (Jvm.Cond.instanceMethod ({ cls := "SleeperRailwayModel", name := "gives", desc := "(I)V" } : Jvm.MethodName)) ∈ lw_all := lw_g (lw_at lw_m17 121 rfl) rfl
theorem q4062 : (Jvm.Cond.code ({ cls := "SleeperRailwayModel", name := "gives", desc := "(I)V" } : Jvm.MethodName) prog_20_method_72_code (6 : Nat) (Option.none : Option Jvm.ClassFile.FieldType)) ∈ lw_all := lw_g (lw_at lw_m17 122 rfl) rfl
theorem q4064 : (Jvm.Cond.instanceMethod ({ cls := "SleeperRailwayModel", name := "coins", desc := "()I" } : Jvm.MethodName)) ∈ lw_all := lw_g (lw_at lw_m17 124 rfl) rfl
theorem q4065 : (Jvm.Cond.selects "SleeperRailwayModel" ({ cls := "SleeperRailwayModel", name := "coins", desc := "()I" } : Jvm.MethodName) ({ cls := "SleeperRailwayModel", name := "coins", desc := "()I" } : Jvm.MethodName)) ∈ lw_all := lw_g (lw_at lw_m17 125 rfl) rfl
theorem q4066 : (Jvm.Cond.code ({ cls := "SleeperRailwayModel", name := "coins", desc := "()I" } : Jvm.MethodName) prog_20_method_74_code (1 : Nat) (Option.some Jvm.ClassFile.FieldType.int)) ∈ lw_all := lw_g (lw_at lw_m17 126 rfl) rfl
theorem q4068 : (Jvm.Cond.instanceMethod ({ cls := "SleeperRailwayModel", name := "coinsByLoads", desc := "()I" } : Jvm.MethodName)) ∈ lw_all := lw_g (lw_at lw_m17 128 rfl) rfl
theorem q4069 : (Jvm.Cond.selects "SleeperRailwayModel" ({ cls := "SleeperRailwayModel", name := "coinsByLoads", desc := "()I" } : Jvm.MethodName) ({ cls := "SleeperRailwayModel", name := "coinsByLoads", desc := "()I" } : Jvm.MethodName)) ∈ lw_all := lw_g (lw_at lw_m17 129 rfl) rfl
theorem q4070 : (Jvm.Cond.code ({ cls := "SleeperRailwayModel", name := "coinsByLoads", desc := "()I" } : Jvm.MethodName) prog_20_method_76_code (4 : Nat) (Option.some Jvm.ClassFile.FieldType.int)) ∈ lw_all := lw_g (lw_at lw_m17 130 rfl) rfl
theorem q4072 : (Jvm.Cond.instanceMethod ({ cls := "SleeperRailwayModel", name := "collectedTotal", desc := "()I" } : Jvm.MethodName)) ∈ lw_all := lw_g (lw_at lw_m17 132 rfl) rfl
theorem q4073 : (Jvm.Cond.selects "SleeperRailwayModel" ({ cls := "SleeperRailwayModel", name := "collectedTotal", desc := "()I" } : Jvm.MethodName) ({ cls := "SleeperRailwayModel", name := "collectedTotal", desc := "()I" } : Jvm.MethodName)) ∈ lw_all := lw_g (lw_at lw_m17 133 rfl) rfl
theorem q4074 : (Jvm.Cond.code ({ cls := "SleeperRailwayModel", name := "collectedTotal", desc := "()I" } : Jvm.MethodName) prog_20_method_77_code (1 : Nat) (Option.some Jvm.ClassFile.FieldType.int)) ∈ lw_all := lw_g (lw_at lw_m17 134 rfl) rfl
theorem q4076 : (Jvm.Cond.instanceMethod ({ cls := "SleeperRailwayModel", name := "meanLoad", desc := "()D" } : Jvm.MethodName)) ∈ lw_all := lw_g (lw_at lw_m17 136 rfl) rfl
theorem q4077 : (Jvm.Cond.selects "SleeperRailwayModel" ({ cls := "SleeperRailwayModel", name := "meanLoad", desc := "()D" } : Jvm.MethodName) ({ cls := "SleeperRailwayModel", name := "meanLoad", desc := "()D" } : Jvm.MethodName)) ∈ lw_all := lw_g (lw_at lw_m17 137 rfl) rfl
theorem q4078 : (Jvm.Cond.code ({ cls := "SleeperRailwayModel", name := "meanLoad", desc := "()D" } : Jvm.MethodName) prog_20_method_78_code (4 : Nat) (Option.some Jvm.ClassFile.FieldType.double)) ∈ lw_all := lw_g (lw_at lw_m17 138 rfl) rfl
theorem q4079 : (Jvm.Cond.methodLink "SleeperRailwayModel" (186 : Nat) ({ cls := "SleeperRailwayModel", name := "legs", desc := "()I" } : Jvm.MethodName)) ∈ lw_all := lw_g (lw_at lw_m17 139 rfl) rfl
theorem q4080 : (Jvm.Cond.privateMethod ({ cls := "SleeperRailwayModel", name := "legs", desc := "()I" } : Jvm.MethodName)) ∈ lw_tbl := lw_at lw_m17 140 rfl
theorem q4081 : (Jvm.Cond.instanceMethod ({ cls := "SleeperRailwayModel", name := "legs", desc := "()I" } : Jvm.MethodName)) ∈ lw_all := lw_g (lw_at lw_m17 141 rfl) rfl
theorem q4082 : (Jvm.Cond.code ({ cls := "SleeperRailwayModel", name := "legs", desc := "()I" } : Jvm.MethodName) prog_20_method_75_code (3 : Nat) (Option.some Jvm.ClassFile.FieldType.int)) ∈ lw_all := lw_g (lw_at lw_m17 142 rfl) rfl
theorem q4084 : (Jvm.Cond.instanceMethod ({ cls := "SleeperRailwayModel", name := "fullShare", desc := "()F" } : Jvm.MethodName)) ∈ lw_all := lw_g (lw_at lw_m17 144 rfl) rfl
theorem q4085 : (Jvm.Cond.selects "SleeperRailwayModel" ({ cls := "SleeperRailwayModel", name := "fullShare", desc := "()F" } : Jvm.MethodName) ({ cls := "SleeperRailwayModel", name := "fullShare", desc := "()F" } : Jvm.MethodName)) ∈ lw_all := lw_g (lw_at lw_m17 145 rfl) rfl
theorem q4086 : (Jvm.Cond.code ({ cls := "SleeperRailwayModel", name := "fullShare", desc := "()F" } : Jvm.MethodName) prog_20_method_79_code (4 : Nat) (Option.some Jvm.ClassFile.FieldType.float)) ∈ lw_all := lw_g (lw_at lw_m17 146 rfl) rfl
theorem q4088 : (Jvm.Cond.instanceMethod ({ cls := "SleeperRailwayModel", name := "isConsistent", desc := "()Z" } : Jvm.MethodName)) ∈ lw_all := lw_g (lw_at lw_m17 148 rfl) rfl
theorem q4089 : (Jvm.Cond.selects "SleeperRailwayModel" ({ cls := "SleeperRailwayModel", name := "isConsistent", desc := "()Z" } : Jvm.MethodName) ({ cls := "SleeperRailwayModel", name := "isConsistent", desc := "()Z" } : Jvm.MethodName)) ∈ lw_all := lw_g (lw_at lw_m17 149 rfl) rfl
theorem q4090 : (Jvm.Cond.code ({ cls := "SleeperRailwayModel", name := "isConsistent", desc := "()Z" } : Jvm.MethodName) prog_20_method_80_code (3 : Nat) (Option.some Jvm.ClassFile.FieldType.boolean)) ∈ lw_all := lw_g (lw_at lw_m17 150 rfl) rfl
theorem q4092 : (Jvm.Cond.instanceMethod ({ cls := "SleeperRailwayModel", name := "renderTrain", desc := "(I)I" } : Jvm.MethodName)) ∈ lw_all := lw_g (lw_at lw_m17 152 rfl) rfl
theorem q4093 : (Jvm.Cond.selects "SleeperRailwayModel" ({ cls := "SleeperRailwayModel", name := "renderTrain", desc := "(I)I" } : Jvm.MethodName) ({ cls := "SleeperRailwayModel", name := "renderTrain", desc := "(I)I" } : Jvm.MethodName)) ∈ lw_all := lw_g (lw_at lw_m17 153 rfl) rfl
theorem q4094 : (Jvm.Cond.code ({ cls := "SleeperRailwayModel", name := "renderTrain", desc := "(I)I" } : Jvm.MethodName) prog_20_method_84_code (3 : Nat) (Option.some Jvm.ClassFile.FieldType.int)) ∈ lw_all := lw_g (lw_at lw_m17 154 rfl) rfl
theorem q4095 : (Jvm.Cond.methodLink "SleeperRailwayModel" (193 : Nat) ({ cls := "SleeperRailwayModel", name := "writesNumber", desc := "(I)V" } : Jvm.MethodName)) ∈ lw_all := lw_g (lw_at lw_m17 155 rfl) rfl
theorem q4096 : (Jvm.Cond.privateMethod ({ cls := "SleeperRailwayModel", name := "writesNumber", desc := "(I)V" } : Jvm.MethodName)) ∈ lw_tbl := lw_at lw_m17 156 rfl
theorem q4097 : (Jvm.Cond.instanceMethod ({ cls := "SleeperRailwayModel", name := "writesNumber", desc := "(I)V" } : Jvm.MethodName)) ∈ lw_all := lw_g (lw_at lw_m17 157 rfl) rfl
theorem q4098 : (Jvm.Cond.code ({ cls := "SleeperRailwayModel", name := "writesNumber", desc := "(I)V" } : Jvm.MethodName) prog_20_method_82_code (2 : Nat) (Option.none : Option Jvm.ClassFile.FieldType)) ∈ lw_all := lw_g (lw_at lw_m17 158 rfl) rfl
theorem q4099 : (Jvm.Cond.methodLink "SleeperRailwayModel" (196 : Nat) ({ cls := "SleeperRailwayModel", name := "writes", desc := "(I)V" } : Jvm.MethodName)) ∈ lw_all := lw_g (lw_at lw_m17 159 rfl) rfl
theorem q4100 : (Jvm.Cond.privateMethod ({ cls := "SleeperRailwayModel", name := "writes", desc := "(I)V" } : Jvm.MethodName)) ∈ lw_tbl := lw_at lw_m17 160 rfl
theorem q4101 : (Jvm.Cond.instanceMethod ({ cls := "SleeperRailwayModel", name := "writes", desc := "(I)V" } : Jvm.MethodName)) ∈ lw_all := lw_g (lw_at lw_m17 161 rfl) rfl
theorem q4102 : (Jvm.Cond.code ({ cls := "SleeperRailwayModel", name := "writes", desc := "(I)V" } : Jvm.MethodName) prog_20_method_81_code (2 : Nat) (Option.none : Option Jvm.ClassFile.FieldType)) ∈ lw_all := lw_g (lw_at lw_m17 162 rfl) rfl
theorem q4103 : (Jvm.Cond.methodLink "SleeperRailwayModel" (199 : Nat) ({ cls := "SleeperRailwayModel", name := "writesBehind", desc := "(II)V" } : Jvm.MethodName)) ∈ lw_all := lw_g (lw_at lw_m17 163 rfl) rfl
theorem q4104 : (Jvm.Cond.privateMethod ({ cls := "SleeperRailwayModel", name := "writesBehind", desc := "(II)V" } : Jvm.MethodName)) ∈ lw_tbl := lw_at lw_m17 164 rfl
theorem q4105 : (Jvm.Cond.instanceMethod ({ cls := "SleeperRailwayModel", name := "writesBehind", desc := "(II)V" } : Jvm.MethodName)) ∈ lw_all := lw_g (lw_at lw_m17 165 rfl) rfl
theorem q4106 : (Jvm.Cond.code ({ cls := "SleeperRailwayModel", name := "writesBehind", desc := "(II)V" } : Jvm.MethodName) prog_20_method_83_code (3 : Nat) (Option.none : Option Jvm.ClassFile.FieldType)) ∈ lw_all := lw_g (lw_at lw_m17 166 rfl) rfl
theorem q4108 : (Jvm.Cond.instanceMethod ({ cls := "SleeperRailwayModel", name := "renderSuitcase", desc := "(I)I" } : Jvm.MethodName)) ∈ lw_all := lw_g (lw_at lw_m17 168 rfl) rfl
theorem q4109 : (Jvm.Cond.selects "SleeperRailwayModel" ({ cls := "SleeperRailwayModel", name := "renderSuitcase", desc := "(I)I" } : Jvm.MethodName) ({ cls := "SleeperRailwayModel", name := "renderSuitcase", desc := "(I)I" } : Jvm.MethodName)) ∈ lw_all := lw_g (lw_at lw_m17 169 rfl) rfl
theorem q4110 : (Jvm.Cond.code ({ cls := "SleeperRailwayModel", name := "renderSuitcase", desc := "(I)I" } : Jvm.MethodName) prog_20_method_85_code (3 : Nat) (Option.some Jvm.ClassFile.FieldType.int)) ∈ lw_all := lw_g (lw_at lw_m17 170 rfl) rfl
theorem q4112 : (Jvm.Cond.instanceMethod ({ cls := "SleeperRailwayModel", name := "outputAt", desc := "(I)C" } : Jvm.MethodName)) ∈ lw_all := lw_g (lw_at lw_m17 172 rfl) rfl
theorem q4113 : (Jvm.Cond.selects "SleeperRailwayModel" ({ cls := "SleeperRailwayModel", name := "outputAt", desc := "(I)C" } : Jvm.MethodName) ({ cls := "SleeperRailwayModel", name := "outputAt", desc := "(I)C" } : Jvm.MethodName)) ∈ lw_all := lw_g (lw_at lw_m17 173 rfl) rfl
theorem q4114 : (Jvm.Cond.code ({ cls := "SleeperRailwayModel", name := "outputAt", desc := "(I)C" } : Jvm.MethodName) prog_20_method_86_code (2 : Nat) (Option.some Jvm.ClassFile.FieldType.char)) ∈ lw_all := lw_g (lw_at lw_m17 174 rfl) rfl
theorem q4116 : (Jvm.Cond.instanceMethod ({ cls := "SleeperRailwayModel", name := "type", desc := "(C)I" } : Jvm.MethodName)) ∈ lw_all := lw_g (lw_at lw_m17 176 rfl) rfl
theorem q4117 : (Jvm.Cond.selects "SleeperRailwayModel" ({ cls := "SleeperRailwayModel", name := "type", desc := "(C)I" } : Jvm.MethodName) ({ cls := "SleeperRailwayModel", name := "type", desc := "(C)I" } : Jvm.MethodName)) ∈ lw_all := lw_g (lw_at lw_m17 177 rfl) rfl
theorem q4118 : (Jvm.Cond.code ({ cls := "SleeperRailwayModel", name := "type", desc := "(C)I" } : Jvm.MethodName) prog_20_method_87_code (2 : Nat) (Option.some Jvm.ClassFile.FieldType.int)) ∈ lw_all := lw_g (lw_at lw_m17 178 rfl) rfl
theorem q4120 : (Jvm.Cond.instanceMethod ({ cls := "SleeperRailwayModel", name := "runScript", desc := "()I" } : Jvm.MethodName)) ∈ lw_all := lw_g (lw_at lw_m17 180 rfl) rfl
theorem q4121 : (Jvm.Cond.selects "SleeperRailwayModel" ({ cls := "SleeperRailwayModel", name := "runScript", desc := "()I" } : Jvm.MethodName) ({ cls := "SleeperRailwayModel", name := "runScript", desc := "()I" } : Jvm.MethodName)) ∈ lw_all := lw_g (lw_at lw_m17 181 rfl) rfl
theorem q4122 : (Jvm.Cond.code ({ cls := "SleeperRailwayModel", name := "runScript", desc := "()I" } : Jvm.MethodName) prog_20_method_97_code (4 : Nat) (Option.some Jvm.ClassFile.FieldType.int)) ∈ lw_all := lw_g (lw_at lw_m17 182 rfl) rfl
theorem q4123 : (Jvm.Cond.methodLink "SleeperRailwayModel" (293 : Nat) ({ cls := "SleeperRailwayModel", name := "isScript", desc := "()Z" } : Jvm.MethodName)) ∈ lw_all := lw_g (lw_at lw_m17 183 rfl) rfl
theorem q4124 : (Jvm.Cond.privateMethod ({ cls := "SleeperRailwayModel", name := "isScript", desc := "()Z" } : Jvm.MethodName)) ∈ lw_tbl := lw_at lw_m17 184 rfl
theorem q4125 : (Jvm.Cond.instanceMethod ({ cls := "SleeperRailwayModel", name := "isScript", desc := "()Z" } : Jvm.MethodName)) ∈ lw_all := lw_g (lw_at lw_m17 185 rfl) rfl
theorem q4126 : (Jvm.Cond.code ({ cls := "SleeperRailwayModel", name := "isScript", desc := "()Z" } : Jvm.MethodName) prog_20_method_95_code (1 : Nat) (Option.some Jvm.ClassFile.FieldType.boolean)) ∈ lw_all := lw_g (lw_at lw_m17 186 rfl) rfl
theorem q4127 : (Jvm.Cond.methodLink "SleeperRailwayModel" (258 : Nat) ({ cls := "SleeperRailwayModel", name := "commandHere", desc := "()Z" } : Jvm.MethodName)) ∈ lw_all := lw_g (lw_at lw_m17 187 rfl) rfl
theorem q4128 : (Jvm.Cond.privateMethod ({ cls := "SleeperRailwayModel", name := "commandHere", desc := "()Z" } : Jvm.MethodName)) ∈ lw_tbl := lw_at lw_m17 188 rfl
theorem q4129 : (Jvm.Cond.instanceMethod ({ cls := "SleeperRailwayModel", name := "commandHere", desc := "()Z" } : Jvm.MethodName)) ∈ lw_all := lw_g (lw_at lw_m17 189 rfl) rfl
theorem q4130 : (Jvm.Cond.code ({ cls := "SleeperRailwayModel", name := "commandHere", desc := "()Z" } : Jvm.MethodName) prog_20_method_94_code (2 : Nat) (Option.some Jvm.ClassFile.FieldType.boolean)) ∈ lw_all := lw_g (lw_at lw_m17 190 rfl) rfl
theorem q4131 : (Jvm.Cond.methodLink "SleeperRailwayModel" (222 : Nat) ({ cls := "SleeperRailwayModel", name := "skips", desc := "(I)Z" } : Jvm.MethodName)) ∈ lw_all := lw_g (lw_at lw_m17 191 rfl) rfl
theorem q4132 : (Jvm.Cond.privateMethod ({ cls := "SleeperRailwayModel", name := "skips", desc := "(I)Z" } : Jvm.MethodName)) ∈ lw_tbl := lw_at lw_m17 192 rfl
theorem q4133 : (Jvm.Cond.instanceMethod ({ cls := "SleeperRailwayModel", name := "skips", desc := "(I)Z" } : Jvm.MethodName)) ∈ lw_all := lw_g (lw_at lw_m17 193 rfl) rfl
theorem q4134 : (Jvm.Cond.code ({ cls := "SleeperRailwayModel", name := "skips", desc := "(I)Z" } : Jvm.MethodName) prog_20_method_89_code (2 : Nat) (Option.some Jvm.ClassFile.FieldType.boolean)) ∈ lw_all := lw_g (lw_at lw_m17 194 rfl) rfl
theorem q4135 : (Jvm.Cond.methodLink "SleeperRailwayModel" (208 : Nat) ({ cls := "SleeperRailwayModel", name := "here", desc := "()I" } : Jvm.MethodName)) ∈ lw_all := lw_g (lw_at lw_m17 195 rfl) rfl
theorem q4136 : (Jvm.Cond.privateMethod ({ cls := "SleeperRailwayModel", name := "here", desc := "()I" } : Jvm.MethodName)) ∈ lw_tbl := lw_at lw_m17 196 rfl
theorem q4137 : (Jvm.Cond.instanceMethod ({ cls := "SleeperRailwayModel", name := "here", desc := "()I" } : Jvm.MethodName)) ∈ lw_all := lw_g (lw_at lw_m17 197 rfl) rfl
theorem q4138 : (Jvm.Cond.code ({ cls := "SleeperRailwayModel", name := "here", desc := "()I" } : Jvm.MethodName) prog_20_method_88_code (1 : Nat) (Option.some Jvm.ClassFile.FieldType.int)) ∈ lw_all := lw_g (lw_at lw_m17 198 rfl) rfl
theorem q4139 : (Jvm.Cond.methodLink "SleeperRailwayModel" (241 : Nat) ({ cls := "SleeperRailwayModel", name := "withS", desc := "(I)Z" } : Jvm.MethodName)) ∈ lw_all := lw_g (lw_at lw_m17 199 rfl) rfl
theorem q4140 : (Jvm.Cond.privateMethod ({ cls := "SleeperRailwayModel", name := "withS", desc := "(I)Z" } : Jvm.MethodName)) ∈ lw_tbl := lw_at lw_m17 200 rfl
theorem q4141 : (Jvm.Cond.instanceMethod ({ cls := "SleeperRailwayModel", name := "withS", desc := "(I)Z" } : Jvm.MethodName)) ∈ lw_all := lw_g (lw_at lw_m17 201 rfl) rfl
theorem q4142 : (Jvm.Cond.code ({ cls := "SleeperRailwayModel", name := "withS", desc := "(I)Z" } : Jvm.MethodName) prog_20_method_93_code (2 : Nat) (Option.some Jvm.ClassFile.FieldType.boolean)) ∈ lw_all := lw_g (lw_at lw_m17 202 rfl) rfl
theorem q4143 : (Jvm.Cond.stringRef "SleeperRailwayModel" (228 : Nat) "nd") ∈ lw_tbl := lw_at lw_m17 203 rfl
theorem q4144 : (Jvm.Cond.methodLink "SleeperRailwayModel" (230 : Nat) ({ cls := "SleeperRailwayModel", name := "isWord", desc := "(ILjava/lang/String;)Z" } : Jvm.MethodName)) ∈ lw_all := lw_g (lw_at lw_m17 204 rfl) rfl
theorem q4145 : (Jvm.Cond.privateMethod ({ cls := "SleeperRailwayModel", name := "isWord", desc := "(ILjava/lang/String;)Z" } : Jvm.MethodName)) ∈ lw_tbl := lw_at lw_m17 205 rfl
theorem q4146 : (Jvm.Cond.instanceMethod ({ cls := "SleeperRailwayModel", name := "isWord", desc := "(ILjava/lang/String;)Z" } : Jvm.MethodName)) ∈ lw_all := lw_g (lw_at lw_m17 206 rfl) rfl
theorem q4147 : (Jvm.Cond.code ({ cls := "SleeperRailwayModel", name := "isWord", desc := "(ILjava/lang/String;)Z" } : Jvm.MethodName) prog_20_method_90_code (4 : Nat) (Option.some Jvm.ClassFile.FieldType.boolean)) ∈ lw_all := lw_g (lw_at lw_m17 207 rfl) rfl
theorem q4148 : (Jvm.Cond.methodLink "SleeperRailwayModel" (214 : Nat) ({ cls := "java/lang/String", name := "length", desc := "()I" } : Jvm.MethodName)) ∈ lw_all := lw_g (lw_at lw_m17 208 rfl) rfl
theorem q4149 : (Jvm.Cond.methodLink "SleeperRailwayModel" (218 : Nat) ({ cls := "java/lang/String", name := "charAt", desc := "(I)C" } : Jvm.MethodName)) ∈ lw_all := lw_g (lw_at lw_m17 209 rfl) rfl
theorem q4150 : (Jvm.Cond.methodLink "SleeperRailwayModel" (234 : Nat) ({ cls := "SleeperRailwayModel", name := "figures", desc := "(II)Z" } : Jvm.MethodName)) ∈ lw_all := lw_g (lw_at lw_m17 210 rfl) rfl
theorem q4151 : (Jvm.Cond.privateMethod ({ cls := "SleeperRailwayModel", name := "figures", desc := "(II)Z" } : Jvm.MethodName)) ∈ lw_tbl := lw_at lw_m17 211 rfl
theorem q4152 : (Jvm.Cond.instanceMethod ({ cls := "SleeperRailwayModel", name := "figures", desc := "(II)Z" } : Jvm.MethodName)) ∈ lw_all := lw_g (lw_at lw_m17 212 rfl) rfl
theorem q4153 : (Jvm.Cond.code ({ cls := "SleeperRailwayModel", name := "figures", desc := "(II)Z" } : Jvm.MethodName) prog_20_method_92_code (3 : Nat) (Option.some Jvm.ClassFile.FieldType.boolean)) ∈ lw_all := lw_g (lw_at lw_m17 213 rfl) rfl
theorem q4154 : (Jvm.Cond.methodLink "SleeperRailwayModel" (225 : Nat) ({ cls := "SleeperRailwayModel", name := "digits", desc := "(II)Z" } : Jvm.MethodName)) ∈ lw_all := lw_g (lw_at lw_m17 214 rfl) rfl
theorem q4155 : (Jvm.Cond.privateMethod ({ cls := "SleeperRailwayModel", name := "digits", desc := "(II)Z" } : Jvm.MethodName)) ∈ lw_tbl := lw_at lw_m17 215 rfl
theorem q4156 : (Jvm.Cond.instanceMethod ({ cls := "SleeperRailwayModel", name := "digits", desc := "(II)Z" } : Jvm.MethodName)) ∈ lw_all := lw_g (lw_at lw_m17 216 rfl) rfl
theorem q4157 : (Jvm.Cond.code ({ cls := "SleeperRailwayModel", name := "digits", desc := "(II)Z" } : Jvm.MethodName) prog_20_method_91_code (4 : Nat) (Option.some Jvm.ClassFile.FieldType.boolean)) ∈ lw_all := lw_g (lw_at lw_m17 217 rfl) rfl
theorem q4158 : (Jvm.Cond.stringRef "SleeperRailwayModel" (237 : Nat) "tion") ∈ lw_tbl := lw_at lw_m17 218 rfl
theorem q4159 : (Jvm.Cond.stringRef "SleeperRailwayModel" (239 : Nat) "op") ∈ lw_tbl := lw_at lw_m17 219 rfl
theorem q4160 : (Jvm.Cond.stringRef "SleeperRailwayModel" (244 : Nat) "ke") ∈ lw_tbl := lw_at lw_m17 220 rfl
theorem q4161 : (Jvm.Cond.stringRef "SleeperRailwayModel" (246 : Nat) "rain") ∈ lw_tbl := lw_at lw_m17 221 rfl
theorem q4162 : (Jvm.Cond.stringRef "SleeperRailwayModel" (248 : Nat) "ase") ∈ lw_tbl := lw_at lw_m17 222 rfl
theorem q4163 : (Jvm.Cond.stringRef "SleeperRailwayModel" (250 : Nat) "ook") ∈ lw_tbl := lw_at lw_m17 223 rfl
theorem q4164 : (Jvm.Cond.stringRef "SleeperRailwayModel" (252 : Nat) "rop") ∈ lw_tbl := lw_at lw_m17 224 rfl
theorem q4165 : (Jvm.Cond.stringRef "SleeperRailwayModel" (254 : Nat) "e") ∈ lw_tbl := lw_at lw_m17 225 rfl
theorem q4166 : (Jvm.Cond.stringRef "SleeperRailwayModel" (256 : Nat) "bel") ∈ lw_tbl := lw_at lw_m17 226 rfl
theorem q4167 : (Jvm.Cond.methodLink "SleeperRailwayModel" (296 : Nat) ({ cls := "SleeperRailwayModel", name := "does", desc := "(I)I" } : Jvm.MethodName)) ∈ lw_all := lw_g (lw_at lw_m17 227 rfl) rfl
theorem q4168 : (Jvm.Cond.privateMethod ({ cls := "SleeperRailwayModel", name := "does", desc := "(I)I" } : Jvm.MethodName)) ∈ lw_tbl := lw_at lw_m17 228 rfl
theorem q4169 : (Jvm.Cond.instanceMethod ({ cls := "SleeperRailwayModel", name := "does", desc := "(I)I" } : Jvm.MethodName)) ∈ lw_all := lw_g (lw_at lw_m17 229 rfl) rfl
theorem q4170 : (Jvm.Cond.code ({ cls := "SleeperRailwayModel", name := "does", desc := "(I)I" } : Jvm.MethodName) prog_20_method_96_code (5 : Nat) (Option.some Jvm.ClassFile.FieldType.int)) ∈ lw_all := lw_g (lw_at lw_m17 230 rfl) rfl
theorem q4171 : (Jvm.Cond.methodLink "SleeperRailwayModel" (262 : Nat) ({ cls := "SleeperRailwayModel", name := "addStation", desc := "(I)I" } : Jvm.MethodName)) ∈ lw_all := lw_g (lw_at lw_m17 231 rfl) rfl
theorem q4172 : (Jvm.Cond.methodLink "SleeperRailwayModel" (265 : Nat) ({ cls := "SleeperRailwayModel", name := "addTrain", desc := "(III)I" } : Jvm.MethodName)) ∈ lw_all := lw_g (lw_at lw_m17 232 rfl) rfl
theorem q4173 : (Jvm.Cond.methodLink "SleeperRailwayModel" (268 : Nat) ({ cls := "SleeperRailwayModel", name := "extendTrain", desc := "(IIII)I" } : Jvm.MethodName)) ∈ lw_all := lw_g (lw_at lw_m17 233 rfl) rfl
theorem q4174 : (Jvm.Cond.methodLink "SleeperRailwayModel" (272 : Nat) ({ cls := "SleeperRailwayModel", name := "delayTrain", desc := "(II)I" } : Jvm.MethodName)) ∈ lw_all := lw_g (lw_at lw_m17 234 rfl) rfl
theorem q4175 : (Jvm.Cond.methodLink "SleeperRailwayModel" (275 : Nat) ({ cls := "SleeperRailwayModel", name := "addSuitcase", desc := "(III)I" } : Jvm.MethodName)) ∈ lw_all := lw_g (lw_at lw_m17 235 rfl) rfl
theorem q4176 : (Jvm.Cond.methodLink "SleeperRailwayModel" (278 : Nat) ({ cls := "SleeperRailwayModel", name := "relabel", desc := "(II)I" } : Jvm.MethodName)) ∈ lw_all := lw_g (lw_at lw_m17 236 rfl) rfl
theorem q4177 : (Jvm.Cond.methodLink "SleeperRailwayModel" (281 : Nat) ({ cls := "SleeperRailwayModel", name := "send", desc := "(I)I" } : Jvm.MethodName)) ∈ lw_all := lw_g (lw_at lw_m17 237 rfl) rfl
theorem q4178 : (Jvm.Cond.methodLink "SleeperRailwayModel" (284 : Nat) ({ cls := "SleeperRailwayModel", name := "collect", desc := "(I)I" } : Jvm.MethodName)) ∈ lw_all := lw_g (lw_at lw_m17 238 rfl) rfl
theorem q4179 : (Jvm.Cond.methodLink "SleeperRailwayModel" (287 : Nat) ({ cls := "SleeperRailwayModel", name := "book", desc := "(III)I" } : Jvm.MethodName)) ∈ lw_all := lw_g (lw_at lw_m17 239 rfl) rfl
theorem q4180 : (Jvm.Cond.methodLink "SleeperRailwayModel" (290 : Nat) ({ cls := "SleeperRailwayModel", name := "cancelBooking", desc := "(I)I" } : Jvm.MethodName)) ∈ lw_all := lw_g (lw_at lw_m18 0 rfl) rfl
theorem q4182 : (Jvm.Cond.instanceMethod ({ cls := "SleeperRailwayModel", name := "errorPosition", desc := "()I" } : Jvm.MethodName)) ∈ lw_all := lw_g (lw_at lw_m18 2 rfl) rfl
theorem q4183 : (Jvm.Cond.selects "SleeperRailwayModel" ({ cls := "SleeperRailwayModel", name := "errorPosition", desc := "()I" } : Jvm.MethodName) ({ cls := "SleeperRailwayModel", name := "errorPosition", desc := "()I" } : Jvm.MethodName)) ∈ lw_all := lw_g (lw_at lw_m18 3 rfl) rfl
theorem q4184 : (Jvm.Cond.code ({ cls := "SleeperRailwayModel", name := "errorPosition", desc := "()I" } : Jvm.MethodName) prog_20_method_98_code (1 : Nat) (Option.some Jvm.ClassFile.FieldType.int)) ∈ lw_all := lw_g (lw_at lw_m18 4 rfl) rfl
theorem q4186 : (Jvm.Cond.instanceMethod ({ cls := "SleeperRailwayModel", name := "failedCommand", desc := "()I" } : Jvm.MethodName)) ∈ lw_all := lw_g (lw_at lw_m18 6 rfl) rfl
theorem q4187 : (Jvm.Cond.selects "SleeperRailwayModel" ({ cls := "SleeperRailwayModel", name := "failedCommand", desc := "()I" } : Jvm.MethodName) ({ cls := "SleeperRailwayModel", name := "failedCommand", desc := "()I" } : Jvm.MethodName)) ∈ lw_all := lw_g (lw_at lw_m18 7 rfl) rfl
theorem q4188 : (Jvm.Cond.code ({ cls := "SleeperRailwayModel", name := "failedCommand", desc := "()I" } : Jvm.MethodName) prog_20_method_99_code (1 : Nat) (Option.some Jvm.ClassFile.FieldType.int)) ∈ lw_all := lw_g (lw_at lw_m18 8 rfl) rfl
theorem q4190 : (Jvm.Cond.instanceMethod ({ cls := "SleeperRailwayModel", name := "undo", desc := "()I" } : Jvm.MethodName)) ∈ lw_all := lw_g (lw_at lw_m18 10 rfl) rfl
theorem q4191 : (Jvm.Cond.selects "SleeperRailwayModel" ({ cls := "SleeperRailwayModel", name := "undo", desc := "()I" } : Jvm.MethodName) ({ cls := "SleeperRailwayModel", name := "undo", desc := "()I" } : Jvm.MethodName)) ∈ lw_all := lw_g (lw_at lw_m18 11 rfl) rfl
theorem q4192 : (Jvm.Cond.code ({ cls := "SleeperRailwayModel", name := "undo", desc := "()I" } : Jvm.MethodName) prog_20_method_100_code (1 : Nat) (Option.some Jvm.ClassFile.FieldType.int)) ∈ lw_all := lw_g (lw_at lw_m18 12 rfl) rfl
theorem q4194 : (Jvm.Cond.instanceMethod ({ cls := "SleeperRailwayModel", name := "save", desc := "()I" } : Jvm.MethodName)) ∈ lw_all := lw_g (lw_at lw_m18 14 rfl) rfl
theorem q4195 : (Jvm.Cond.selects "SleeperRailwayModel" ({ cls := "SleeperRailwayModel", name := "save", desc := "()I" } : Jvm.MethodName) ({ cls := "SleeperRailwayModel", name := "save", desc := "()I" } : Jvm.MethodName)) ∈ lw_all := lw_g (lw_at lw_m18 15 rfl) rfl
theorem q4196 : (Jvm.Cond.code ({ cls := "SleeperRailwayModel", name := "save", desc := "()I" } : Jvm.MethodName) prog_20_method_101_code (1 : Nat) (Option.some Jvm.ClassFile.FieldType.int)) ∈ lw_all := lw_g (lw_at lw_m18 16 rfl) rfl
theorem q4198 : (Jvm.Cond.instanceMethod ({ cls := "SleeperRailwayModel", name := "restore", desc := "()I" } : Jvm.MethodName)) ∈ lw_all := lw_g (lw_at lw_m18 18 rfl) rfl
theorem q4199 : (Jvm.Cond.selects "SleeperRailwayModel" ({ cls := "SleeperRailwayModel", name := "restore", desc := "()I" } : Jvm.MethodName) ({ cls := "SleeperRailwayModel", name := "restore", desc := "()I" } : Jvm.MethodName)) ∈ lw_all := lw_g (lw_at lw_m18 19 rfl) rfl
theorem q4200 : (Jvm.Cond.code ({ cls := "SleeperRailwayModel", name := "restore", desc := "()I" } : Jvm.MethodName) prog_20_method_102_code (1 : Nat) (Option.some Jvm.ClassFile.FieldType.int)) ∈ lw_all := lw_g (lw_at lw_m18 20 rfl) rfl
theorem q4245 : (Jvm.Cond.castable "SleeperRailwayModel" "java/lang/Object") ∈ lw_tbl := lw_at lw_m18 65 rfl
theorem in_X4 : ∀ w ∈ wsX40, w ∈ lw_all := lw_in wsX40 [3724, 3726, 3728, 3730, 3732, 3734, 3736, 3738, 3740, 3742, 3744, 3746, 3748, 3750, 3752, 3754, 3756, 3758, 3760, 3762, 3764, 3766, 3768, 3770, 3772] (by decide +kernel) (by decide +kernel)
