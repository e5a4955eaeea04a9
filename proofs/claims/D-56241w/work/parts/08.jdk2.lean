/-! java/util/Objects -/
set_option maxRecDepth 100000
def RJ11 : String := "java/util/Objects"
abbrev cJ11_checkIndex : ByteArray := prog_79_method_17_code
def yJ11_checkIndex : MethodName := ⟨RJ11, "checkIndex", "(II)I"⟩
def dkwJ11_checkIndex_0 : List UInt8 := [26, 27, 1, 184, 0, 105, 172]
abbrev dktJ11_checkIndex_0 : List UInt8 := dkwJ11_checkIndex_0 ++ []
theorem dksJ11_checkIndex_0 : cJ11_checkIndex.data.toList.drop 0 = dktJ11_checkIndex_0 := by decide +kernel
theorem dJ11_checkIndex_0 : decode cJ11_checkIndex 0 = .ok (.iload_n 0, 1) := dk_26 (dk_at dksJ11_checkIndex_0 0 rfl rfl)
theorem dJ11_checkIndex_1 : decode cJ11_checkIndex 1 = .ok (.iload_n 1, 1) := dk_27 (dk_at dksJ11_checkIndex_0 1 rfl rfl)
theorem dJ11_checkIndex_2 : decode cJ11_checkIndex 2 = .ok (.aconst_null, 1) := dk_1 (dk_at dksJ11_checkIndex_0 2 rfl rfl)
theorem dJ11_checkIndex_3 : decode cJ11_checkIndex 3 = .ok (.invokestatic 105, 3) := dk_184 0 105 (dk_at dksJ11_checkIndex_0 3 rfl rfl)
theorem dJ11_checkIndex_6 : decode cJ11_checkIndex 6 = .ok (.ireturn, 1) := dk_172 (dk_at dksJ11_checkIndex_0 6 rfl rfl)
abbrev cJ11_requireNonNull : ByteArray := prog_79_method_10_code
def yJ11_requireNonNull : MethodName := ⟨RJ11, "requireNonNull", "(Ljava/lang/Object;)Ljava/lang/Object;"⟩
def dkwJ11_requireNonNull_0 : List UInt8 := [42, 199, 0, 11, 187, 0, 84, 89, 183, 0, 86, 191, 42, 176]
abbrev dktJ11_requireNonNull_0 : List UInt8 := dkwJ11_requireNonNull_0 ++ []
theorem dksJ11_requireNonNull_0 : cJ11_requireNonNull.data.toList.drop 0 = dktJ11_requireNonNull_0 := by decide +kernel
theorem dJ11_requireNonNull_0 : decode cJ11_requireNonNull 0 = .ok (.aload_n 0, 1) := dk_42 (dk_at dksJ11_requireNonNull_0 0 rfl rfl)
theorem dJ11_requireNonNull_1 : decode cJ11_requireNonNull 1 = .ok (.ifnonnull 11, 3) := dk_199 0 11 (dk_at dksJ11_requireNonNull_0 1 rfl rfl)
theorem dJ11_requireNonNull_4 : decode cJ11_requireNonNull 4 = .ok (.new 84, 3) := dk_187 0 84 (dk_at dksJ11_requireNonNull_0 4 rfl rfl)
theorem dJ11_requireNonNull_7 : decode cJ11_requireNonNull 7 = .ok (.dup, 1) := dk_89 (dk_at dksJ11_requireNonNull_0 7 rfl rfl)
theorem dJ11_requireNonNull_8 : decode cJ11_requireNonNull 8 = .ok (.invokespecial 86, 3) := dk_183 0 86 (dk_at dksJ11_requireNonNull_0 8 rfl rfl)
theorem dJ11_requireNonNull_11 : decode cJ11_requireNonNull 11 = .ok (.athrow, 1) := dk_191 (dk_at dksJ11_requireNonNull_0 11 rfl rfl)
theorem dJ11_requireNonNull_12 : decode cJ11_requireNonNull 12 = .ok (.aload_n 0, 1) := dk_42 (dk_at dksJ11_requireNonNull_0 12 rfl rfl)
theorem dJ11_requireNonNull_13 : decode cJ11_requireNonNull 13 = .ok (.areturn, 1) := dk_176 (dk_at dksJ11_requireNonNull_0 13 rfl rfl)
theorem q116 : (Jvm.Cond.initialized "java/util/Objects") ∈ lw_all := lw_g (lw_at lw_m1 16 rfl) rfl
theorem q479 : (Jvm.Cond.static ({ cls := "java/util/Objects", name := "checkIndex", desc := "(II)I" } : Jvm.MethodName)) ∈ lw_all := lw_g (lw_at lw_m2 139 rfl) rfl
theorem q480 : (Jvm.Cond.code ({ cls := "java/util/Objects", name := "checkIndex", desc := "(II)I" } : Jvm.MethodName) prog_79_method_17_code (2 : Nat) (Option.some Jvm.ClassFile.FieldType.int)) ∈ lw_all := lw_g (lw_at lw_m2 140 rfl) rfl
theorem q481 : (Jvm.Cond.methodLink "java/util/Objects" (105 : Nat) ({ cls := "jdk/internal/util/Preconditions", name := "checkIndex", desc := "(IILjava/util/function/BiFunction;)I" } : Jvm.MethodName)) ∈ lw_all := lw_g (lw_at lw_m2 141 rfl) rfl
theorem q2152 : (Jvm.Cond.static ({ cls := "java/util/Objects", name := "requireNonNull", desc := "(Ljava/lang/Object;)Ljava/lang/Object;" } : Jvm.MethodName)) ∈ lw_all := lw_g (lw_at lw_m9 132 rfl) rfl
theorem q2153 : (Jvm.Cond.code ({ cls := "java/util/Objects", name := "requireNonNull", desc := "(Ljava/lang/Object;)Ljava/lang/Object;" } : Jvm.MethodName) prog_79_method_10_code (1 : Nat) (Option.some (Jvm.ClassFile.FieldType.object "java/lang/Object"))) ∈ lw_all := lw_g (lw_at lw_m9 133 rfl) rfl
/-! jdk/internal/util/Preconditions -/
set_option maxRecDepth 100000
def RJ12 : String := "jdk/internal/util/Preconditions"
abbrev cJ12_checkIndex : ByteArray := prog_103_method_11_code
def yJ12_checkIndex : MethodName := ⟨RJ12, "checkIndex", "(IILjava/util/function/BiFunction;)I"⟩
def dkwJ12_checkIndex_0 : List UInt8 := [26, 155, 0, 8, 26, 27, 161, 0, 10, 44, 26, 27, 184, 0, 95, 191, 26, 172]
abbrev dktJ12_checkIndex_0 : List UInt8 := dkwJ12_checkIndex_0 ++ []
theorem dksJ12_checkIndex_0 : cJ12_checkIndex.data.toList.drop 0 = dktJ12_checkIndex_0 := by decide +kernel
theorem dJ12_checkIndex_0 : decode cJ12_checkIndex 0 = .ok (.iload_n 0, 1) := dk_26 (dk_at dksJ12_checkIndex_0 0 rfl rfl)
theorem dJ12_checkIndex_1 : decode cJ12_checkIndex 1 = .ok (.ifCond .lt 8, 3) := dk_155 0 8 (dk_at dksJ12_checkIndex_0 1 rfl rfl)
theorem dJ12_checkIndex_4 : decode cJ12_checkIndex 4 = .ok (.iload_n 0, 1) := dk_26 (dk_at dksJ12_checkIndex_0 4 rfl rfl)
theorem dJ12_checkIndex_5 : decode cJ12_checkIndex 5 = .ok (.iload_n 1, 1) := dk_27 (dk_at dksJ12_checkIndex_0 5 rfl rfl)
theorem dJ12_checkIndex_6 : decode cJ12_checkIndex 6 = .ok (.if_icmp .lt 10, 3) := dk_161 0 10 (dk_at dksJ12_checkIndex_0 6 rfl rfl)
theorem dJ12_checkIndex_9 : decode cJ12_checkIndex 9 = .ok (.aload_n 2, 1) := dk_44 (dk_at dksJ12_checkIndex_0 9 rfl rfl)
theorem dJ12_checkIndex_10 : decode cJ12_checkIndex 10 = .ok (.iload_n 0, 1) := dk_26 (dk_at dksJ12_checkIndex_0 10 rfl rfl)
theorem dJ12_checkIndex_11 : decode cJ12_checkIndex 11 = .ok (.iload_n 1, 1) := dk_27 (dk_at dksJ12_checkIndex_0 11 rfl rfl)
theorem dJ12_checkIndex_12 : decode cJ12_checkIndex 12 = .ok (.invokestatic 95, 3) := dk_184 0 95 (dk_at dksJ12_checkIndex_0 12 rfl rfl)
theorem dJ12_checkIndex_15 : decode cJ12_checkIndex 15 = .ok (.athrow, 1) := dk_191 (dk_at dksJ12_checkIndex_0 15 rfl rfl)
theorem dJ12_checkIndex_16 : decode cJ12_checkIndex 16 = .ok (.iload_n 0, 1) := dk_26 (dk_at dksJ12_checkIndex_0 16 rfl rfl)
theorem dJ12_checkIndex_17 : decode cJ12_checkIndex 17 = .ok (.ireturn, 1) := dk_172 (dk_at dksJ12_checkIndex_0 17 rfl rfl)
abbrev cJ12_checkFromToIndex : ByteArray := prog_103_method_12_code
def yJ12_checkFromToIndex : MethodName := ⟨RJ12, "checkFromToIndex", "(IIILjava/util/function/BiFunction;)I"⟩
def dkwJ12_checkFromToIndex_0 : List UInt8 := [26, 155, 0, 13, 26, 27, 163, 0, 8, 27, 28, 164, 0, 11, 45, 26, 27, 28, 184, 0, 99, 191, 26, 172]
abbrev dktJ12_checkFromToIndex_0 : List UInt8 := dkwJ12_checkFromToIndex_0 ++ []
theorem dksJ12_checkFromToIndex_0 : cJ12_checkFromToIndex.data.toList.drop 0 = dktJ12_checkFromToIndex_0 := by decide +kernel
theorem dJ12_checkFromToIndex_0 : decode cJ12_checkFromToIndex 0 = .ok (.iload_n 0, 1) := dk_26 (dk_at dksJ12_checkFromToIndex_0 0 rfl rfl)
theorem dJ12_checkFromToIndex_1 : decode cJ12_checkFromToIndex 1 = .ok (.ifCond .lt 13, 3) := dk_155 0 13 (dk_at dksJ12_checkFromToIndex_0 1 rfl rfl)
theorem dJ12_checkFromToIndex_4 : decode cJ12_checkFromToIndex 4 = .ok (.iload_n 0, 1) := dk_26 (dk_at dksJ12_checkFromToIndex_0 4 rfl rfl)
theorem dJ12_checkFromToIndex_5 : decode cJ12_checkFromToIndex 5 = .ok (.iload_n 1, 1) := dk_27 (dk_at dksJ12_checkFromToIndex_0 5 rfl rfl)
theorem dJ12_checkFromToIndex_6 : decode cJ12_checkFromToIndex 6 = .ok (.if_icmp .gt 8, 3) := dk_163 0 8 (dk_at dksJ12_checkFromToIndex_0 6 rfl rfl)
theorem dJ12_checkFromToIndex_9 : decode cJ12_checkFromToIndex 9 = .ok (.iload_n 1, 1) := dk_27 (dk_at dksJ12_checkFromToIndex_0 9 rfl rfl)
theorem dJ12_checkFromToIndex_10 : decode cJ12_checkFromToIndex 10 = .ok (.iload_n 2, 1) := dk_28 (dk_at dksJ12_checkFromToIndex_0 10 rfl rfl)
theorem dJ12_checkFromToIndex_11 : decode cJ12_checkFromToIndex 11 = .ok (.if_icmp .le 11, 3) := dk_164 0 11 (dk_at dksJ12_checkFromToIndex_0 11 rfl rfl)
theorem dJ12_checkFromToIndex_14 : decode cJ12_checkFromToIndex 14 = .ok (.aload_n 3, 1) := dk_45 (dk_at dksJ12_checkFromToIndex_0 14 rfl rfl)
theorem dJ12_checkFromToIndex_15 : decode cJ12_checkFromToIndex 15 = .ok (.iload_n 0, 1) := dk_26 (dk_at dksJ12_checkFromToIndex_0 15 rfl rfl)
theorem dJ12_checkFromToIndex_16 : decode cJ12_checkFromToIndex 16 = .ok (.iload_n 1, 1) := dk_27 (dk_at dksJ12_checkFromToIndex_0 16 rfl rfl)
theorem dJ12_checkFromToIndex_17 : decode cJ12_checkFromToIndex 17 = .ok (.iload_n 2, 1) := dk_28 (dk_at dksJ12_checkFromToIndex_0 17 rfl rfl)
theorem dJ12_checkFromToIndex_18 : decode cJ12_checkFromToIndex 18 = .ok (.invokestatic 99, 3) := dk_184 0 99 (dk_at dksJ12_checkFromToIndex_0 18 rfl rfl)
theorem dJ12_checkFromToIndex_21 : decode cJ12_checkFromToIndex 21 = .ok (.athrow, 1) := dk_191 (dk_at dksJ12_checkFromToIndex_0 21 rfl rfl)
theorem dJ12_checkFromToIndex_22 : decode cJ12_checkFromToIndex 22 = .ok (.iload_n 0, 1) := dk_26 (dk_at dksJ12_checkFromToIndex_0 22 rfl rfl)
theorem dJ12_checkFromToIndex_23 : decode cJ12_checkFromToIndex 23 = .ok (.ireturn, 1) := dk_172 (dk_at dksJ12_checkFromToIndex_0 23 rfl rfl)
abbrev cJ12_checkFromIndexSize : ByteArray := prog_103_method_13_code
def yJ12_checkFromIndexSize : MethodName := ⟨RJ12, "checkFromIndexSize", "(IIILjava/util/function/BiFunction;)I"⟩
def dkwJ12_checkFromIndexSize_1 : List UInt8 := [172]
abbrev dktJ12_checkFromIndexSize_1 : List UInt8 := dkwJ12_checkFromIndexSize_1 ++ []
def dkwJ12_checkFromIndexSize_0 : List UInt8 := [28, 26, 128, 27, 128, 155, 0, 10, 27, 28, 26, 100, 164, 0, 11, 45, 26, 27, 28, 184, 0, 103, 191, 26]
abbrev dktJ12_checkFromIndexSize_0 : List UInt8 := dkwJ12_checkFromIndexSize_0 ++ dktJ12_checkFromIndexSize_1
theorem dksJ12_checkFromIndexSize_0 : cJ12_checkFromIndexSize.data.toList.drop 0 = dktJ12_checkFromIndexSize_0 := by decide +kernel
theorem dksJ12_checkFromIndexSize_1 : cJ12_checkFromIndexSize.data.toList.drop 24 = dktJ12_checkFromIndexSize_1 := dk_seg dksJ12_checkFromIndexSize_0 24 rfl rfl
theorem dJ12_checkFromIndexSize_0 : decode cJ12_checkFromIndexSize 0 = .ok (.iload_n 2, 1) := dk_28 (dk_at dksJ12_checkFromIndexSize_0 0 rfl rfl)
theorem dJ12_checkFromIndexSize_1 : decode cJ12_checkFromIndexSize 1 = .ok (.iload_n 0, 1) := dk_26 (dk_at dksJ12_checkFromIndexSize_0 1 rfl rfl)
theorem dJ12_checkFromIndexSize_2 : decode cJ12_checkFromIndexSize 2 = .ok (.ior, 1) := dk_128 (dk_at dksJ12_checkFromIndexSize_0 2 rfl rfl)
theorem dJ12_checkFromIndexSize_3 : decode cJ12_checkFromIndexSize 3 = .ok (.iload_n 1, 1) := dk_27 (dk_at dksJ12_checkFromIndexSize_0 3 rfl rfl)
theorem dJ12_checkFromIndexSize_4 : decode cJ12_checkFromIndexSize 4 = .ok (.ior, 1) := dk_128 (dk_at dksJ12_checkFromIndexSize_0 4 rfl rfl)
theorem dJ12_checkFromIndexSize_5 : decode cJ12_checkFromIndexSize 5 = .ok (.ifCond .lt 10, 3) := dk_155 0 10 (dk_at dksJ12_checkFromIndexSize_0 5 rfl rfl)
theorem dJ12_checkFromIndexSize_8 : decode cJ12_checkFromIndexSize 8 = .ok (.iload_n 1, 1) := dk_27 (dk_at dksJ12_checkFromIndexSize_0 8 rfl rfl)
theorem dJ12_checkFromIndexSize_9 : decode cJ12_checkFromIndexSize 9 = .ok (.iload_n 2, 1) := dk_28 (dk_at dksJ12_checkFromIndexSize_0 9 rfl rfl)
theorem dJ12_checkFromIndexSize_10 : decode cJ12_checkFromIndexSize 10 = .ok (.iload_n 0, 1) := dk_26 (dk_at dksJ12_checkFromIndexSize_0 10 rfl rfl)
theorem dJ12_checkFromIndexSize_11 : decode cJ12_checkFromIndexSize 11 = .ok (.isub, 1) := dk_100 (dk_at dksJ12_checkFromIndexSize_0 11 rfl rfl)
theorem dJ12_checkFromIndexSize_12 : decode cJ12_checkFromIndexSize 12 = .ok (.if_icmp .le 11, 3) := dk_164 0 11 (dk_at dksJ12_checkFromIndexSize_0 12 rfl rfl)
theorem dJ12_checkFromIndexSize_15 : decode cJ12_checkFromIndexSize 15 = .ok (.aload_n 3, 1) := dk_45 (dk_at dksJ12_checkFromIndexSize_0 15 rfl rfl)
theorem dJ12_checkFromIndexSize_16 : decode cJ12_checkFromIndexSize 16 = .ok (.iload_n 0, 1) := dk_26 (dk_at dksJ12_checkFromIndexSize_0 16 rfl rfl)
theorem dJ12_checkFromIndexSize_17 : decode cJ12_checkFromIndexSize 17 = .ok (.iload_n 1, 1) := dk_27 (dk_at dksJ12_checkFromIndexSize_0 17 rfl rfl)
theorem dJ12_checkFromIndexSize_18 : decode cJ12_checkFromIndexSize 18 = .ok (.iload_n 2, 1) := dk_28 (dk_at dksJ12_checkFromIndexSize_0 18 rfl rfl)
theorem dJ12_checkFromIndexSize_19 : decode cJ12_checkFromIndexSize 19 = .ok (.invokestatic 103, 3) := dk_184 0 103 (dk_at dksJ12_checkFromIndexSize_0 19 rfl rfl)
theorem dJ12_checkFromIndexSize_22 : decode cJ12_checkFromIndexSize 22 = .ok (.athrow, 1) := dk_191 (dk_at dksJ12_checkFromIndexSize_0 22 rfl rfl)
theorem dJ12_checkFromIndexSize_23 : decode cJ12_checkFromIndexSize 23 = .ok (.iload_n 0, 1) := dk_26 (dk_at dksJ12_checkFromIndexSize_0 23 rfl rfl)
theorem dJ12_checkFromIndexSize_24 : decode cJ12_checkFromIndexSize 24 = .ok (.ireturn, 1) := dk_172 (dk_at dksJ12_checkFromIndexSize_1 0 rfl rfl)
theorem q117 : (Jvm.Cond.initialized "jdk/internal/util/Preconditions") ∈ lw_all := lw_g (lw_at lw_m1 17 rfl) rfl
theorem q482 : (Jvm.Cond.static ({ cls := "jdk/internal/util/Preconditions", name := "checkIndex", desc := "(IILjava/util/function/BiFunction;)I" } : Jvm.MethodName)) ∈ lw_all := lw_g (lw_at lw_m2 142 rfl) rfl
theorem q483 : (Jvm.Cond.code ({ cls := "jdk/internal/util/Preconditions", name := "checkIndex", desc := "(IILjava/util/function/BiFunction;)I" } : Jvm.MethodName) prog_103_method_11_code (3 : Nat) (Option.some Jvm.ClassFile.FieldType.int)) ∈ lw_all := lw_g (lw_at lw_m2 143 rfl) rfl
theorem q621 : (Jvm.Cond.laysStatic "jdk/internal/util/Preconditions" "SIOOBE_FORMATTER" "Ljava/util/function/BiFunction;") ∈ lw_tbl := lw_at lw_m3 41 rfl
theorem q623 : (Jvm.Cond.static ({ cls := "jdk/internal/util/Preconditions", name := "checkFromToIndex", desc := "(IIILjava/util/function/BiFunction;)I" } : Jvm.MethodName)) ∈ lw_all := lw_g (lw_at lw_m3 43 rfl) rfl
theorem q624 : (Jvm.Cond.code ({ cls := "jdk/internal/util/Preconditions", name := "checkFromToIndex", desc := "(IIILjava/util/function/BiFunction;)I" } : Jvm.MethodName) prog_103_method_12_code (4 : Nat) (Option.some Jvm.ClassFile.FieldType.int)) ∈ lw_all := lw_g (lw_at lw_m3 44 rfl) rfl
theorem q669 : (Jvm.Cond.static ({ cls := "jdk/internal/util/Preconditions", name := "checkFromIndexSize", desc := "(IIILjava/util/function/BiFunction;)I" } : Jvm.MethodName)) ∈ lw_all := lw_g (lw_at lw_m3 89 rfl) rfl
theorem q670 : (Jvm.Cond.code ({ cls := "jdk/internal/util/Preconditions", name := "checkFromIndexSize", desc := "(IIILjava/util/function/BiFunction;)I" } : Jvm.MethodName) prog_103_method_13_code (4 : Nat) (Option.some Jvm.ClassFile.FieldType.int)) ∈ lw_all := lw_g (lw_at lw_m3 90 rfl) rfl
/-! java/lang/Throwable -/
set_option maxRecDepth 100000
def RJ13 : String := "java/lang/Throwable"
def TJ13 : u_T := fun k => match k with
  | 0 => ("java/lang/Throwable", "cause", "Ljava/lang/Throwable;", false)
  | 1 => ("java/lang/Throwable", "stackTrace", "[Ljava/lang/StackTraceElement;", false)
  | 2 => ("java/lang/Throwable", "suppressedExceptions", "Ljava/util/List;", false)
  | 3 => ("java/lang/Throwable", "detailMessage", "Ljava/lang/String;", false)
  | _ => ("java/lang/Throwable", "backtrace", "Ljava/lang/Object;", false)
def tyJ13 : Nat → FieldType := fun k => match k with
  | 0 => .object "java/lang/Throwable"
  | 1 => .array (.object "java/lang/StackTraceElement")
  | 2 => .object "java/util/List"
  | 3 => .object "java/lang/String"
  | _ => .object "java/lang/Object"
abbrev wsJ130 : List Cond := u_ws RJ13 TJ13 5
theorem nmJ13 : ∀ a, a < 5 → ∀ b, b < 5 → a ≠ b → (TJ13 a).2.1 ≠ (TJ13 b).2.1 := by decide +kernel
theorem tyJ13_ok : ∀ k, k < 5 → parseFieldDescriptor (TJ13 k).2.2.1 = some (tyJ13 k) := by decide +kernel
abbrev cJ13_init : ByteArray := prog_48_method_1_code
def yJ13_init : MethodName := ⟨RJ13, "<init>", "()V"⟩
def dkwJ13_init_1 : List UInt8 := [182, 0, 27, 87, 177]
abbrev dktJ13_init_1 : List UInt8 := dkwJ13_init_1 ++ []
def dkwJ13_init_0 : List UInt8 := [42, 183, 0, 1, 42, 42, 181, 0, 7, 42, 178, 0, 13, 181, 0, 17, 42, 178, 0, 20, 181, 0, 24, 42]
abbrev dktJ13_init_0 : List UInt8 := dkwJ13_init_0 ++ dktJ13_init_1
theorem dksJ13_init_0 : cJ13_init.data.toList.drop 0 = dktJ13_init_0 := by decide +kernel
theorem dksJ13_init_1 : cJ13_init.data.toList.drop 24 = dktJ13_init_1 := dk_seg dksJ13_init_0 24 rfl rfl
theorem dJ13_init_0 : decode cJ13_init 0 = .ok (.aload_n 0, 1) := dk_42 (dk_at dksJ13_init_0 0 rfl rfl)
theorem dJ13_init_1 : decode cJ13_init 1 = .ok (.invokespecial 1, 3) := dk_183 0 1 (dk_at dksJ13_init_0 1 rfl rfl)
theorem dJ13_init_4 : decode cJ13_init 4 = .ok (.aload_n 0, 1) := dk_42 (dk_at dksJ13_init_0 4 rfl rfl)
theorem dJ13_init_5 : decode cJ13_init 5 = .ok (.aload_n 0, 1) := dk_42 (dk_at dksJ13_init_0 5 rfl rfl)
theorem dJ13_init_6 : decode cJ13_init 6 = .ok (.putfield 7, 3) := dk_181 0 7 (dk_at dksJ13_init_0 6 rfl rfl)
theorem dJ13_init_9 : decode cJ13_init 9 = .ok (.aload_n 0, 1) := dk_42 (dk_at dksJ13_init_0 9 rfl rfl)
theorem dJ13_init_10 : decode cJ13_init 10 = .ok (.getstatic 13, 3) := dk_178 0 13 (dk_at dksJ13_init_0 10 rfl rfl)
theorem dJ13_init_13 : decode cJ13_init 13 = .ok (.putfield 17, 3) := dk_181 0 17 (dk_at dksJ13_init_0 13 rfl rfl)
theorem dJ13_init_16 : decode cJ13_init 16 = .ok (.aload_n 0, 1) := dk_42 (dk_at dksJ13_init_0 16 rfl rfl)
theorem dJ13_init_17 : decode cJ13_init 17 = .ok (.getstatic 20, 3) := dk_178 0 20 (dk_at dksJ13_init_0 17 rfl rfl)
theorem dJ13_init_20 : decode cJ13_init 20 = .ok (.putfield 24, 3) := dk_181 0 24 (dk_at dksJ13_init_0 20 rfl rfl)
theorem dJ13_init_23 : decode cJ13_init 23 = .ok (.aload_n 0, 1) := dk_42 (dk_at dksJ13_init_0 23 rfl rfl)
theorem dJ13_init_24 : decode cJ13_init 24 = .ok (.invokevirtual 27, 3) := dk_182 0 27 (dk_at dksJ13_init_1 0 rfl rfl)
theorem dJ13_init_27 : decode cJ13_init 27 = .ok (.pop, 1) := dk_87 (dk_at dksJ13_init_1 3 rfl rfl)
theorem dJ13_init_28 : decode cJ13_init 28 = .ok (.return_, 1) := dk_177 (dk_at dksJ13_init_1 4 rfl rfl)
abbrev cJ13_init_2 : ByteArray := prog_48_method_2_code
def yJ13_init_2 : MethodName := ⟨RJ13, "<init>", "(Ljava/lang/String;)V"⟩
def dkwJ13_init_2_1 : List UInt8 := [182, 0, 27, 87, 42, 43, 181, 0, 31, 177]
abbrev dktJ13_init_2_1 : List UInt8 := dkwJ13_init_2_1 ++ []
def dkwJ13_init_2_0 : List UInt8 := [42, 183, 0, 1, 42, 42, 181, 0, 7, 42, 178, 0, 13, 181, 0, 17, 42, 178, 0, 20, 181, 0, 24, 42]
abbrev dktJ13_init_2_0 : List UInt8 := dkwJ13_init_2_0 ++ dktJ13_init_2_1
theorem dksJ13_init_2_0 : cJ13_init_2.data.toList.drop 0 = dktJ13_init_2_0 := by decide +kernel
theorem dksJ13_init_2_1 : cJ13_init_2.data.toList.drop 24 = dktJ13_init_2_1 := dk_seg dksJ13_init_2_0 24 rfl rfl
theorem dJ13_init_2_0 : decode cJ13_init_2 0 = .ok (.aload_n 0, 1) := dk_42 (dk_at dksJ13_init_2_0 0 rfl rfl)
theorem dJ13_init_2_1 : decode cJ13_init_2 1 = .ok (.invokespecial 1, 3) := dk_183 0 1 (dk_at dksJ13_init_2_0 1 rfl rfl)
theorem dJ13_init_2_4 : decode cJ13_init_2 4 = .ok (.aload_n 0, 1) := dk_42 (dk_at dksJ13_init_2_0 4 rfl rfl)
theorem dJ13_init_2_5 : decode cJ13_init_2 5 = .ok (.aload_n 0, 1) := dk_42 (dk_at dksJ13_init_2_0 5 rfl rfl)
theorem dJ13_init_2_6 : decode cJ13_init_2 6 = .ok (.putfield 7, 3) := dk_181 0 7 (dk_at dksJ13_init_2_0 6 rfl rfl)
theorem dJ13_init_2_9 : decode cJ13_init_2 9 = .ok (.aload_n 0, 1) := dk_42 (dk_at dksJ13_init_2_0 9 rfl rfl)
theorem dJ13_init_2_10 : decode cJ13_init_2 10 = .ok (.getstatic 13, 3) := dk_178 0 13 (dk_at dksJ13_init_2_0 10 rfl rfl)
theorem dJ13_init_2_13 : decode cJ13_init_2 13 = .ok (.putfield 17, 3) := dk_181 0 17 (dk_at dksJ13_init_2_0 13 rfl rfl)
theorem dJ13_init_2_16 : decode cJ13_init_2 16 = .ok (.aload_n 0, 1) := dk_42 (dk_at dksJ13_init_2_0 16 rfl rfl)
theorem dJ13_init_2_17 : decode cJ13_init_2 17 = .ok (.getstatic 20, 3) := dk_178 0 20 (dk_at dksJ13_init_2_0 17 rfl rfl)
theorem dJ13_init_2_20 : decode cJ13_init_2 20 = .ok (.putfield 24, 3) := dk_181 0 24 (dk_at dksJ13_init_2_0 20 rfl rfl)
theorem dJ13_init_2_23 : decode cJ13_init_2 23 = .ok (.aload_n 0, 1) := dk_42 (dk_at dksJ13_init_2_0 23 rfl rfl)
theorem dJ13_init_2_24 : decode cJ13_init_2 24 = .ok (.invokevirtual 27, 3) := dk_182 0 27 (dk_at dksJ13_init_2_1 0 rfl rfl)
theorem dJ13_init_2_27 : decode cJ13_init_2 27 = .ok (.pop, 1) := dk_87 (dk_at dksJ13_init_2_1 3 rfl rfl)
theorem dJ13_init_2_28 : decode cJ13_init_2 28 = .ok (.aload_n 0, 1) := dk_42 (dk_at dksJ13_init_2_1 4 rfl rfl)
theorem dJ13_init_2_29 : decode cJ13_init_2 29 = .ok (.aload_n 1, 1) := dk_43 (dk_at dksJ13_init_2_1 5 rfl rfl)
theorem dJ13_init_2_30 : decode cJ13_init_2 30 = .ok (.putfield 31, 3) := dk_181 0 31 (dk_at dksJ13_init_2_1 6 rfl rfl)
theorem dJ13_init_2_33 : decode cJ13_init_2 33 = .ok (.return_, 1) := dk_177 (dk_at dksJ13_init_2_1 9 rfl rfl)
abbrev cJ13_init_3 : ByteArray := prog_48_method_4_code
def yJ13_init_3 : MethodName := ⟨RJ13, "<init>", "(Ljava/lang/Throwable;)V"⟩
def dkwJ13_init_3_2 : List UInt8 := [181, 0, 7, 177]
abbrev dktJ13_init_3_2 : List UInt8 := dkwJ13_init_3_2 ++ []
def dkwJ13_init_3_1 : List UInt8 := [182, 0, 27, 87, 42, 43, 199, 0, 7, 1, 167, 0, 7, 43, 182, 0, 35, 181, 0, 31, 42, 43]
abbrev dktJ13_init_3_1 : List UInt8 := dkwJ13_init_3_1 ++ dktJ13_init_3_2
def dkwJ13_init_3_0 : List UInt8 := [42, 183, 0, 1, 42, 42, 181, 0, 7, 42, 178, 0, 13, 181, 0, 17, 42, 178, 0, 20, 181, 0, 24, 42]
abbrev dktJ13_init_3_0 : List UInt8 := dkwJ13_init_3_0 ++ dktJ13_init_3_1
theorem dksJ13_init_3_0 : cJ13_init_3.data.toList.drop 0 = dktJ13_init_3_0 := by decide +kernel
theorem dksJ13_init_3_1 : cJ13_init_3.data.toList.drop 24 = dktJ13_init_3_1 := dk_seg dksJ13_init_3_0 24 rfl rfl
theorem dksJ13_init_3_2 : cJ13_init_3.data.toList.drop 46 = dktJ13_init_3_2 := dk_seg dksJ13_init_3_1 22 rfl rfl
theorem dJ13_init_3_0 : decode cJ13_init_3 0 = .ok (.aload_n 0, 1) := dk_42 (dk_at dksJ13_init_3_0 0 rfl rfl)
theorem dJ13_init_3_1 : decode cJ13_init_3 1 = .ok (.invokespecial 1, 3) := dk_183 0 1 (dk_at dksJ13_init_3_0 1 rfl rfl)
theorem dJ13_init_3_4 : decode cJ13_init_3 4 = .ok (.aload_n 0, 1) := dk_42 (dk_at dksJ13_init_3_0 4 rfl rfl)
theorem dJ13_init_3_5 : decode cJ13_init_3 5 = .ok (.aload_n 0, 1) := dk_42 (dk_at dksJ13_init_3_0 5 rfl rfl)
theorem dJ13_init_3_6 : decode cJ13_init_3 6 = .ok (.putfield 7, 3) := dk_181 0 7 (dk_at dksJ13_init_3_0 6 rfl rfl)
theorem dJ13_init_3_9 : decode cJ13_init_3 9 = .ok (.aload_n 0, 1) := dk_42 (dk_at dksJ13_init_3_0 9 rfl rfl)
theorem dJ13_init_3_10 : decode cJ13_init_3 10 = .ok (.getstatic 13, 3) := dk_178 0 13 (dk_at dksJ13_init_3_0 10 rfl rfl)
theorem dJ13_init_3_13 : decode cJ13_init_3 13 = .ok (.putfield 17, 3) := dk_181 0 17 (dk_at dksJ13_init_3_0 13 rfl rfl)
theorem dJ13_init_3_16 : decode cJ13_init_3 16 = .ok (.aload_n 0, 1) := dk_42 (dk_at dksJ13_init_3_0 16 rfl rfl)
theorem dJ13_init_3_17 : decode cJ13_init_3 17 = .ok (.getstatic 20, 3) := dk_178 0 20 (dk_at dksJ13_init_3_0 17 rfl rfl)
theorem dJ13_init_3_20 : decode cJ13_init_3 20 = .ok (.putfield 24, 3) := dk_181 0 24 (dk_at dksJ13_init_3_0 20 rfl rfl)
theorem dJ13_init_3_23 : decode cJ13_init_3 23 = .ok (.aload_n 0, 1) := dk_42 (dk_at dksJ13_init_3_0 23 rfl rfl)
theorem dJ13_init_3_24 : decode cJ13_init_3 24 = .ok (.invokevirtual 27, 3) := dk_182 0 27 (dk_at dksJ13_init_3_1 0 rfl rfl)
theorem dJ13_init_3_27 : decode cJ13_init_3 27 = .ok (.pop, 1) := dk_87 (dk_at dksJ13_init_3_1 3 rfl rfl)
theorem dJ13_init_3_28 : decode cJ13_init_3 28 = .ok (.aload_n 0, 1) := dk_42 (dk_at dksJ13_init_3_1 4 rfl rfl)
theorem dJ13_init_3_29 : decode cJ13_init_3 29 = .ok (.aload_n 1, 1) := dk_43 (dk_at dksJ13_init_3_1 5 rfl rfl)
theorem dJ13_init_3_30 : decode cJ13_init_3 30 = .ok (.ifnonnull 7, 3) := dk_199 0 7 (dk_at dksJ13_init_3_1 6 rfl rfl)
theorem dJ13_init_3_33 : decode cJ13_init_3 33 = .ok (.aconst_null, 1) := dk_1 (dk_at dksJ13_init_3_1 9 rfl rfl)
theorem dJ13_init_3_34 : decode cJ13_init_3 34 = .ok (.goto 7, 3) := dk_167 0 7 (dk_at dksJ13_init_3_1 10 rfl rfl)
theorem dJ13_init_3_37 : decode cJ13_init_3 37 = .ok (.aload_n 1, 1) := dk_43 (dk_at dksJ13_init_3_1 13 rfl rfl)
theorem dJ13_init_3_38 : decode cJ13_init_3 38 = .ok (.invokevirtual 35, 3) := dk_182 0 35 (dk_at dksJ13_init_3_1 14 rfl rfl)
theorem dJ13_init_3_41 : decode cJ13_init_3 41 = .ok (.putfield 31, 3) := dk_181 0 31 (dk_at dksJ13_init_3_1 17 rfl rfl)
theorem dJ13_init_3_44 : decode cJ13_init_3 44 = .ok (.aload_n 0, 1) := dk_42 (dk_at dksJ13_init_3_1 20 rfl rfl)
theorem dJ13_init_3_45 : decode cJ13_init_3 45 = .ok (.aload_n 1, 1) := dk_43 (dk_at dksJ13_init_3_1 21 rfl rfl)
theorem dJ13_init_3_46 : decode cJ13_init_3 46 = .ok (.putfield 7, 3) := dk_181 0 7 (dk_at dksJ13_init_3_2 0 rfl rfl)
theorem dJ13_init_3_49 : decode cJ13_init_3 49 = .ok (.return_, 1) := dk_177 (dk_at dksJ13_init_3_2 3 rfl rfl)
abbrev cJ13_toString : ByteArray := prog_48_method_11_code
def yJ13_toString : MethodName := ⟨RJ13, "toString", "()Ljava/lang/String;"⟩
def dkwJ13_toString_1 : List UInt8 := [43, 182, 0, 49, 18, 81, 182, 0, 49, 44, 182, 0, 49, 182, 0, 60, 167, 0, 4, 43, 176]
abbrev dktJ13_toString_1 : List UInt8 := dkwJ13_toString_1 ++ []
def dkwJ13_toString_0 : List UInt8 := [42, 182, 0, 69, 182, 0, 73, 76, 42, 182, 0, 78, 77, 44, 198, 0, 29, 187, 0, 44, 89, 183, 0, 46]
abbrev dktJ13_toString_0 : List UInt8 := dkwJ13_toString_0 ++ dktJ13_toString_1
theorem dksJ13_toString_0 : cJ13_toString.data.toList.drop 0 = dktJ13_toString_0 := by decide +kernel
theorem dksJ13_toString_1 : cJ13_toString.data.toList.drop 24 = dktJ13_toString_1 := dk_seg dksJ13_toString_0 24 rfl rfl
theorem dJ13_toString_0 : decode cJ13_toString 0 = .ok (.aload_n 0, 1) := dk_42 (dk_at dksJ13_toString_0 0 rfl rfl)
theorem dJ13_toString_1 : decode cJ13_toString 1 = .ok (.invokevirtual 69, 3) := dk_182 0 69 (dk_at dksJ13_toString_0 1 rfl rfl)
theorem dJ13_toString_4 : decode cJ13_toString 4 = .ok (.invokevirtual 73, 3) := dk_182 0 73 (dk_at dksJ13_toString_0 4 rfl rfl)
theorem dJ13_toString_7 : decode cJ13_toString 7 = .ok (.astore_n 1, 1) := dk_76 (dk_at dksJ13_toString_0 7 rfl rfl)
theorem dJ13_toString_8 : decode cJ13_toString 8 = .ok (.aload_n 0, 1) := dk_42 (dk_at dksJ13_toString_0 8 rfl rfl)
theorem dJ13_toString_9 : decode cJ13_toString 9 = .ok (.invokevirtual 78, 3) := dk_182 0 78 (dk_at dksJ13_toString_0 9 rfl rfl)
theorem dJ13_toString_12 : decode cJ13_toString 12 = .ok (.astore_n 2, 1) := dk_77 (dk_at dksJ13_toString_0 12 rfl rfl)
theorem dJ13_toString_13 : decode cJ13_toString 13 = .ok (.aload_n 2, 1) := dk_44 (dk_at dksJ13_toString_0 13 rfl rfl)
theorem dJ13_toString_14 : decode cJ13_toString 14 = .ok (.ifnull 29, 3) := dk_198 0 29 (dk_at dksJ13_toString_0 14 rfl rfl)
theorem dJ13_toString_17 : decode cJ13_toString 17 = .ok (.new 44, 3) := dk_187 0 44 (dk_at dksJ13_toString_0 17 rfl rfl)
theorem dJ13_toString_20 : decode cJ13_toString 20 = .ok (.dup, 1) := dk_89 (dk_at dksJ13_toString_0 20 rfl rfl)
theorem dJ13_toString_21 : decode cJ13_toString 21 = .ok (.invokespecial 46, 3) := dk_183 0 46 (dk_at dksJ13_toString_0 21 rfl rfl)
theorem dJ13_toString_24 : decode cJ13_toString 24 = .ok (.aload_n 1, 1) := dk_43 (dk_at dksJ13_toString_1 0 rfl rfl)
theorem dJ13_toString_25 : decode cJ13_toString 25 = .ok (.invokevirtual 49, 3) := dk_182 0 49 (dk_at dksJ13_toString_1 1 rfl rfl)
theorem dJ13_toString_28 : decode cJ13_toString 28 = .ok (.ldc 81, 2) := dk_18 81 (dk_at dksJ13_toString_1 4 rfl rfl)
theorem dJ13_toString_30 : decode cJ13_toString 30 = .ok (.invokevirtual 49, 3) := dk_182 0 49 (dk_at dksJ13_toString_1 6 rfl rfl)
theorem dJ13_toString_33 : decode cJ13_toString 33 = .ok (.aload_n 2, 1) := dk_44 (dk_at dksJ13_toString_1 9 rfl rfl)
theorem dJ13_toString_34 : decode cJ13_toString 34 = .ok (.invokevirtual 49, 3) := dk_182 0 49 (dk_at dksJ13_toString_1 10 rfl rfl)
theorem dJ13_toString_37 : decode cJ13_toString 37 = .ok (.invokevirtual 60, 3) := dk_182 0 60 (dk_at dksJ13_toString_1 13 rfl rfl)
theorem dJ13_toString_40 : decode cJ13_toString 40 = .ok (.goto 4, 3) := dk_167 0 4 (dk_at dksJ13_toString_1 16 rfl rfl)
theorem dJ13_toString_43 : decode cJ13_toString 43 = .ok (.aload_n 1, 1) := dk_43 (dk_at dksJ13_toString_1 19 rfl rfl)
theorem dJ13_toString_44 : decode cJ13_toString 44 = .ok (.areturn, 1) := dk_176 (dk_at dksJ13_toString_1 20 rfl rfl)
abbrev cJ13_getLocalizedMessage : ByteArray := prog_48_method_7_code
def yJ13_getLocalizedMessage : MethodName := ⟨RJ13, "getLocalizedMessage", "()Ljava/lang/String;"⟩
theorem dJ13_getLocalizedMessage_0 : decode cJ13_getLocalizedMessage 0 = .ok (.aload_n 0, 1) := by decide +kernel
theorem dJ13_getLocalizedMessage_1 : decode cJ13_getLocalizedMessage 1 = .ok (.invokevirtual 39, 3) := by decide +kernel
theorem dJ13_getLocalizedMessage_4 : decode cJ13_getLocalizedMessage 4 = .ok (.areturn, 1) := by decide +kernel
abbrev cJ13_getMessage : ByteArray := prog_48_method_6_code
def yJ13_getMessage : MethodName := ⟨RJ13, "getMessage", "()Ljava/lang/String;"⟩
theorem dJ13_getMessage_0 : decode cJ13_getMessage 0 = .ok (.aload_n 0, 1) := by decide +kernel
theorem dJ13_getMessage_1 : decode cJ13_getMessage 1 = .ok (.getfield 31, 3) := by decide +kernel
theorem dJ13_getMessage_4 : decode cJ13_getMessage 4 = .ok (.areturn, 1) := by decide +kernel
abbrev cJ13_init_4 : ByteArray := prog_48_method_3_code
def yJ13_init_4 : MethodName := ⟨RJ13, "<init>", "(Ljava/lang/String;Ljava/lang/Throwable;)V"⟩
def dkwJ13_init_4_1 : List UInt8 := [182, 0, 27, 87, 42, 43, 181, 0, 31, 42, 44, 181, 0, 7, 177]
abbrev dktJ13_init_4_1 : List UInt8 := dkwJ13_init_4_1 ++ []
def dkwJ13_init_4_0 : List UInt8 := [42, 183, 0, 1, 42, 42, 181, 0, 7, 42, 178, 0, 13, 181, 0, 17, 42, 178, 0, 20, 181, 0, 24, 42]
abbrev dktJ13_init_4_0 : List UInt8 := dkwJ13_init_4_0 ++ dktJ13_init_4_1
theorem dksJ13_init_4_0 : cJ13_init_4.data.toList.drop 0 = dktJ13_init_4_0 := by decide +kernel
theorem dksJ13_init_4_1 : cJ13_init_4.data.toList.drop 24 = dktJ13_init_4_1 := dk_seg dksJ13_init_4_0 24 rfl rfl
theorem dJ13_init_4_0 : decode cJ13_init_4 0 = .ok (.aload_n 0, 1) := dk_42 (dk_at dksJ13_init_4_0 0 rfl rfl)
theorem dJ13_init_4_1 : decode cJ13_init_4 1 = .ok (.invokespecial 1, 3) := dk_183 0 1 (dk_at dksJ13_init_4_0 1 rfl rfl)
theorem dJ13_init_4_4 : decode cJ13_init_4 4 = .ok (.aload_n 0, 1) := dk_42 (dk_at dksJ13_init_4_0 4 rfl rfl)
theorem dJ13_init_4_5 : decode cJ13_init_4 5 = .ok (.aload_n 0, 1) := dk_42 (dk_at dksJ13_init_4_0 5 rfl rfl)
theorem dJ13_init_4_6 : decode cJ13_init_4 6 = .ok (.putfield 7, 3) := dk_181 0 7 (dk_at dksJ13_init_4_0 6 rfl rfl)
theorem dJ13_init_4_9 : decode cJ13_init_4 9 = .ok (.aload_n 0, 1) := dk_42 (dk_at dksJ13_init_4_0 9 rfl rfl)
theorem dJ13_init_4_10 : decode cJ13_init_4 10 = .ok (.getstatic 13, 3) := dk_178 0 13 (dk_at dksJ13_init_4_0 10 rfl rfl)
theorem dJ13_init_4_13 : decode cJ13_init_4 13 = .ok (.putfield 17, 3) := dk_181 0 17 (dk_at dksJ13_init_4_0 13 rfl rfl)
theorem dJ13_init_4_16 : decode cJ13_init_4 16 = .ok (.aload_n 0, 1) := dk_42 (dk_at dksJ13_init_4_0 16 rfl rfl)
theorem dJ13_init_4_17 : decode cJ13_init_4 17 = .ok (.getstatic 20, 3) := dk_178 0 20 (dk_at dksJ13_init_4_0 17 rfl rfl)
theorem dJ13_init_4_20 : decode cJ13_init_4 20 = .ok (.putfield 24, 3) := dk_181 0 24 (dk_at dksJ13_init_4_0 20 rfl rfl)
theorem dJ13_init_4_23 : decode cJ13_init_4 23 = .ok (.aload_n 0, 1) := dk_42 (dk_at dksJ13_init_4_0 23 rfl rfl)
theorem dJ13_init_4_24 : decode cJ13_init_4 24 = .ok (.invokevirtual 27, 3) := dk_182 0 27 (dk_at dksJ13_init_4_1 0 rfl rfl)
theorem dJ13_init_4_27 : decode cJ13_init_4 27 = .ok (.pop, 1) := dk_87 (dk_at dksJ13_init_4_1 3 rfl rfl)
theorem dJ13_init_4_28 : decode cJ13_init_4 28 = .ok (.aload_n 0, 1) := dk_42 (dk_at dksJ13_init_4_1 4 rfl rfl)
theorem dJ13_init_4_29 : decode cJ13_init_4 29 = .ok (.aload_n 1, 1) := dk_43 (dk_at dksJ13_init_4_1 5 rfl rfl)
theorem dJ13_init_4_30 : decode cJ13_init_4 30 = .ok (.putfield 31, 3) := dk_181 0 31 (dk_at dksJ13_init_4_1 6 rfl rfl)
theorem dJ13_init_4_33 : decode cJ13_init_4 33 = .ok (.aload_n 0, 1) := dk_42 (dk_at dksJ13_init_4_1 9 rfl rfl)
theorem dJ13_init_4_34 : decode cJ13_init_4 34 = .ok (.aload_n 2, 1) := dk_44 (dk_at dksJ13_init_4_1 10 rfl rfl)
theorem dJ13_init_4_35 : decode cJ13_init_4 35 = .ok (.putfield 7, 3) := dk_181 0 7 (dk_at dksJ13_init_4_1 11 rfl rfl)
theorem dJ13_init_4_38 : decode cJ13_init_4 38 = .ok (.return_, 1) := dk_177 (dk_at dksJ13_init_4_1 14 rfl rfl)
theorem q118 : (Jvm.Cond.initialized "java/lang/Throwable") ∈ lw_all := lw_g (lw_at lw_m1 18 rfl) rfl
theorem q508 : (Jvm.Cond.declares ({ cls := "java/lang/Throwable", name := "<init>", desc := "()V" } : Jvm.MethodName)) ∈ lw_tbl := lw_at lw_m2 168 rfl
theorem q509 : (Jvm.Cond.declares ({ cls := "java/lang/Throwable", name := "<init>", desc := "(Ljava/lang/String;)V" } : Jvm.MethodName)) ∈ lw_tbl := lw_at lw_m2 169 rfl
theorem q513 : (Jvm.Cond.lays "java/lang/Throwable" "java/lang/Throwable" "cause" "Ljava/lang/Throwable;") ∈ lw_all := lw_g (lw_at lw_m2 173 rfl) rfl
theorem q515 : (Jvm.Cond.lays "java/lang/Throwable" "java/lang/Throwable" "stackTrace" "[Ljava/lang/StackTraceElement;") ∈ lw_all := lw_g (lw_at lw_m2 175 rfl) rfl
theorem q517 : (Jvm.Cond.lays "java/lang/Throwable" "java/lang/Throwable" "suppressedExceptions" "Ljava/util/List;") ∈ lw_all := lw_g (lw_at lw_m2 177 rfl) rfl
theorem q519 : (Jvm.Cond.lays "java/lang/Throwable" "java/lang/Throwable" "detailMessage" "Ljava/lang/String;") ∈ lw_all := lw_g (lw_at lw_m2 179 rfl) rfl
theorem q521 : (Jvm.Cond.lays "java/lang/Throwable" "java/lang/Throwable" "backtrace" "Ljava/lang/Object;") ∈ lw_all := lw_g (lw_at lw_m2 181 rfl) rfl
theorem q522 : (Jvm.Cond.fieldLink "java/lang/Throwable" (198 : Nat) "java/lang/Throwable" "backtrace" "Ljava/lang/Object;") ∈ lw_all := lw_g (lw_at lw_m2 182 rfl) rfl
theorem q523 : (Jvm.Cond.superclass "java/lang/Throwable" "java/lang/Object") ∈ lw_all := lw_g (lw_at lw_m2 183 rfl) rfl
theorem q524 : (Jvm.Cond.instanceMethod ({ cls := "java/lang/Throwable", name := "<init>", desc := "()V" } : Jvm.MethodName)) ∈ lw_all := lw_g (lw_at lw_m2 184 rfl) rfl
theorem q525 : (Jvm.Cond.code ({ cls := "java/lang/Throwable", name := "<init>", desc := "()V" } : Jvm.MethodName) prog_48_method_1_code (1 : Nat) (Option.none : Option Jvm.ClassFile.FieldType)) ∈ lw_all := lw_g (lw_at lw_m2 185 rfl) rfl
theorem q526 : (Jvm.Cond.methodLink "java/lang/Throwable" (1 : Nat) ({ cls := "java/lang/Object", name := "<init>", desc := "()V" } : Jvm.MethodName)) ∈ lw_all := lw_g (lw_at lw_m2 186 rfl) rfl
theorem q527 : (Jvm.Cond.fieldLink "java/lang/Throwable" (13 : Nat) "java/lang/Throwable" "UNASSIGNED_STACK" "[Ljava/lang/StackTraceElement;") ∈ lw_all := lw_g (lw_at lw_m2 187 rfl) rfl
theorem q528 : (Jvm.Cond.laysStatic "java/lang/Throwable" "UNASSIGNED_STACK" "[Ljava/lang/StackTraceElement;") ∈ lw_tbl := lw_at lw_m2 188 rfl
theorem q529 : (Jvm.Cond.fieldLink "java/lang/Throwable" (20 : Nat) "java/lang/Throwable" "SUPPRESSED_SENTINEL" "Ljava/util/List;") ∈ lw_all := lw_g (lw_at lw_m2 189 rfl) rfl
theorem q530 : (Jvm.Cond.laysStatic "java/lang/Throwable" "SUPPRESSED_SENTINEL" "Ljava/util/List;") ∈ lw_tbl := lw_at lw_m2 190 rfl
theorem q531 : (Jvm.Cond.methodLink "java/lang/Throwable" (27 : Nat) ({ cls := "java/lang/Throwable", name := "fillInStackTrace", desc := "()Ljava/lang/Throwable;" } : Jvm.MethodName)) ∈ lw_all := lw_g (lw_at lw_m2 191 rfl) rfl
theorem q532 : (Jvm.Cond.instanceMethod ({ cls := "java/lang/Throwable", name := "fillInStackTrace", desc := "()Ljava/lang/Throwable;" } : Jvm.MethodName)) ∈ lw_all := lw_g (lw_at lw_m2 192 rfl) rfl
theorem q533 : (Jvm.Cond.sameMethod "java/lang/Throwable" "java/lang/Throwable" "fillInStackTrace" "()Ljava/lang/Throwable;") ∈ lw_all := lw_g (lw_at lw_m2 193 rfl) rfl
theorem q544 : (Jvm.Cond.codeSync ({ cls := "java/lang/Throwable", name := "fillInStackTrace", desc := "()Ljava/lang/Throwable;" } : Jvm.MethodName) prog_48_method_18_code (1 : Nat) (Option.some (Jvm.ClassFile.FieldType.object "java/lang/Throwable"))) ∈ lw_all := lw_g (lw_at lw_m2 204 rfl) rfl
theorem q545 : (Jvm.Cond.methodLink "java/lang/Throwable" (202 : Nat) ({ cls := "java/lang/Throwable", name := "fillInStackTrace", desc := "(I)Ljava/lang/Throwable;" } : Jvm.MethodName)) ∈ lw_all := lw_g (lw_at lw_m2 205 rfl) rfl
theorem q546 : (Jvm.Cond.privateMethod ({ cls := "java/lang/Throwable", name := "fillInStackTrace", desc := "(I)Ljava/lang/Throwable;" } : Jvm.MethodName)) ∈ lw_tbl := lw_at lw_m2 206 rfl
theorem q547 : (Jvm.Cond.instanceMethod ({ cls := "java/lang/Throwable", name := "fillInStackTrace", desc := "(I)Ljava/lang/Throwable;" } : Jvm.MethodName)) ∈ lw_all := lw_g (lw_at lw_m2 207 rfl) rfl
theorem q548 : (Jvm.Cond.instantiable "java/lang/Throwable" (6 : Nat)) ∈ lw_all := lw_g (lw_at lw_m2 208 rfl) rfl
theorem q549 : (Jvm.Cond.native ({ cls := "java/lang/Throwable", name := "fillInStackTrace", desc := "(I)Ljava/lang/Throwable;" } : Jvm.MethodName)) ∈ lw_all := lw_g (lw_at lw_m2 209 rfl) rfl
theorem q764 : (Jvm.Cond.instanceMethod ({ cls := "java/lang/Throwable", name := "<init>", desc := "(Ljava/lang/String;)V" } : Jvm.MethodName)) ∈ lw_all := lw_g (lw_at lw_m3 184 rfl) rfl
theorem q765 : (Jvm.Cond.code ({ cls := "java/lang/Throwable", name := "<init>", desc := "(Ljava/lang/String;)V" } : Jvm.MethodName) prog_48_method_2_code (2 : Nat) (Option.none : Option Jvm.ClassFile.FieldType)) ∈ lw_all := lw_g (lw_at lw_m3 185 rfl) rfl
theorem q766 : (Jvm.Cond.fieldLink "java/lang/Throwable" (198 : Nat) "java/lang/Throwable" "backtrace" "Ljava/lang/Object;") ∈ lw_all := lw_g (lw_at lw_m3 186 rfl) rfl
theorem q767 : (Jvm.Cond.fieldLink "java/lang/Throwable" (31 : Nat) "java/lang/Throwable" "detailMessage" "Ljava/lang/String;") ∈ lw_all := lw_g (lw_at lw_m3 187 rfl) rfl
theorem q768 : (Jvm.Cond.fieldLink "java/lang/Throwable" (7 : Nat) "java/lang/Throwable" "cause" "Ljava/lang/Throwable;") ∈ lw_all := lw_g (lw_at lw_m3 188 rfl) rfl
theorem q769 : (Jvm.Cond.fieldLink "java/lang/Throwable" (17 : Nat) "java/lang/Throwable" "stackTrace" "[Ljava/lang/StackTraceElement;") ∈ lw_all := lw_g (lw_at lw_m3 189 rfl) rfl
theorem q770 : (Jvm.Cond.fieldLink "java/lang/Throwable" (24 : Nat) "java/lang/Throwable" "suppressedExceptions" "Ljava/util/List;") ∈ lw_all := lw_g (lw_at lw_m3 190 rfl) rfl
theorem q771 : (Jvm.Cond.soleField "java/lang/Throwable" "backtrace") ∈ lw_all := lw_g (lw_at lw_m3 191 rfl) rfl
theorem q772 : (Jvm.Cond.soleField "java/lang/Throwable" "detailMessage") ∈ lw_all := lw_g (lw_at lw_m3 192 rfl) rfl
theorem q773 : (Jvm.Cond.soleField "java/lang/Throwable" "cause") ∈ lw_all := lw_g (lw_at lw_m3 193 rfl) rfl
theorem q774 : (Jvm.Cond.soleField "java/lang/Throwable" "stackTrace") ∈ lw_all := lw_g (lw_at lw_m3 194 rfl) rfl
theorem q776 : (Jvm.Cond.soleField "java/lang/Throwable" "depth") ∈ lw_all := lw_g (lw_at lw_m3 196 rfl) rfl
theorem q777 : (Jvm.Cond.soleField "java/lang/Throwable" "suppressedExceptions") ∈ lw_all := lw_g (lw_at lw_m3 197 rfl) rfl
theorem q969 : (Jvm.Cond.instanceMethod ({ cls := "java/lang/Throwable", name := "<init>", desc := "(Ljava/lang/Throwable;)V" } : Jvm.MethodName)) ∈ lw_all := lw_g (lw_at lw_m4 149 rfl) rfl
theorem q970 : (Jvm.Cond.code ({ cls := "java/lang/Throwable", name := "<init>", desc := "(Ljava/lang/Throwable;)V" } : Jvm.MethodName) prog_48_method_4_code (2 : Nat) (Option.none : Option Jvm.ClassFile.FieldType)) ∈ lw_all := lw_g (lw_at lw_m4 150 rfl) rfl
theorem q971 : (Jvm.Cond.methodLink "java/lang/Throwable" (35 : Nat) ({ cls := "java/lang/Throwable", name := "toString", desc := "()Ljava/lang/String;" } : Jvm.MethodName)) ∈ lw_all := lw_g (lw_at lw_m4 151 rfl) rfl
theorem q972 : (Jvm.Cond.instanceMethod ({ cls := "java/lang/Throwable", name := "toString", desc := "()Ljava/lang/String;" } : Jvm.MethodName)) ∈ lw_all := lw_g (lw_at lw_m4 152 rfl) rfl
theorem q973 : (Jvm.Cond.sameMethod "java/lang/Throwable" "java/lang/Throwable" "toString" "()Ljava/lang/String;") ∈ lw_all := lw_g (lw_at lw_m4 153 rfl) rfl
theorem q985 : (Jvm.Cond.code ({ cls := "java/lang/Throwable", name := "toString", desc := "()Ljava/lang/String;" } : Jvm.MethodName) prog_48_method_11_code (3 : Nat) (Option.some (Jvm.ClassFile.FieldType.object "java/lang/String"))) ∈ lw_all := lw_g (lw_at lw_m4 165 rfl) rfl
theorem q986 : (Jvm.Cond.methodLink "java/lang/Throwable" (69 : Nat) ({ cls := "java/lang/Object", name := "getClass", desc := "()Ljava/lang/Class;" } : Jvm.MethodName)) ∈ lw_all := lw_g (lw_at lw_m4 166 rfl) rfl
theorem q1037 : (Jvm.Cond.methodLink "java/lang/Throwable" (78 : Nat) ({ cls := "java/lang/Throwable", name := "getLocalizedMessage", desc := "()Ljava/lang/String;" } : Jvm.MethodName)) ∈ lw_all := lw_g (lw_at lw_m4 217 rfl) rfl
theorem q1038 : (Jvm.Cond.instanceMethod ({ cls := "java/lang/Throwable", name := "getLocalizedMessage", desc := "()Ljava/lang/String;" } : Jvm.MethodName)) ∈ lw_all := lw_g (lw_at lw_m4 218 rfl) rfl
theorem q1039 : (Jvm.Cond.sameMethod "java/lang/Throwable" "java/lang/Throwable" "getLocalizedMessage" "()Ljava/lang/String;") ∈ lw_all := lw_g (lw_at lw_m4 219 rfl) rfl
theorem q1051 : (Jvm.Cond.code ({ cls := "java/lang/Throwable", name := "getLocalizedMessage", desc := "()Ljava/lang/String;" } : Jvm.MethodName) prog_48_method_7_code (1 : Nat) (Option.some (Jvm.ClassFile.FieldType.object "java/lang/String"))) ∈ lw_all := lw_g (lw_at lw_m4 231 rfl) rfl
theorem q1052 : (Jvm.Cond.methodLink "java/lang/Throwable" (39 : Nat) ({ cls := "java/lang/Throwable", name := "getMessage", desc := "()Ljava/lang/String;" } : Jvm.MethodName)) ∈ lw_all := lw_g (lw_at lw_m4 232 rfl) rfl
theorem q1053 : (Jvm.Cond.instanceMethod ({ cls := "java/lang/Throwable", name := "getMessage", desc := "()Ljava/lang/String;" } : Jvm.MethodName)) ∈ lw_all := lw_g (lw_at lw_m4 233 rfl) rfl
theorem q1054 : (Jvm.Cond.sameMethod "java/lang/Throwable" "java/lang/Throwable" "getMessage" "()Ljava/lang/String;") ∈ lw_all := lw_g (lw_at lw_m4 234 rfl) rfl
theorem q1066 : (Jvm.Cond.code ({ cls := "java/lang/Throwable", name := "getMessage", desc := "()Ljava/lang/String;" } : Jvm.MethodName) prog_48_method_6_code (1 : Nat) (Option.some (Jvm.ClassFile.FieldType.object "java/lang/String"))) ∈ lw_all := lw_g (lw_at lw_m5 6 rfl) rfl
theorem q1067 : (Jvm.Cond.classLink "java/lang/Throwable" (44 : Nat) "java/lang/StringBuilder") ∈ lw_all := lw_g (lw_at lw_m5 7 rfl) rfl
theorem q1068 : (Jvm.Cond.methodLink "java/lang/Throwable" (46 : Nat) ({ cls := "java/lang/StringBuilder", name := "<init>", desc := "()V" } : Jvm.MethodName)) ∈ lw_all := lw_g (lw_at lw_m5 8 rfl) rfl
theorem q1069 : (Jvm.Cond.methodLink "java/lang/Throwable" (49 : Nat) ({ cls := "java/lang/StringBuilder", name := "append", desc := "(Ljava/lang/String;)Ljava/lang/StringBuilder;" } : Jvm.MethodName)) ∈ lw_all := lw_g (lw_at lw_m5 9 rfl) rfl
theorem q1070 : (Jvm.Cond.stringRef "java/lang/Throwable" (81 : Nat) ": ") ∈ lw_tbl := lw_at lw_m5 10 rfl
theorem q1071 : (Jvm.Cond.methodLink "java/lang/Throwable" (60 : Nat) ({ cls := "java/lang/StringBuilder", name := "toString", desc := "()Ljava/lang/String;" } : Jvm.MethodName)) ∈ lw_all := lw_g (lw_at lw_m5 11 rfl) rfl
theorem q2469 : (Jvm.Cond.instanceMethod ({ cls := "java/lang/Throwable", name := "<init>", desc := "(Ljava/lang/String;Ljava/lang/Throwable;)V" } : Jvm.MethodName)) ∈ lw_all := lw_g (lw_at lw_m10 209 rfl) rfl
theorem q2470 : (Jvm.Cond.code ({ cls := "java/lang/Throwable", name := "<init>", desc := "(Ljava/lang/String;Ljava/lang/Throwable;)V" } : Jvm.MethodName) prog_48_method_3_code (3 : Nat) (Option.none : Option Jvm.ClassFile.FieldType)) ∈ lw_all := lw_g (lw_at lw_m10 210 rfl) rfl
theorem q4203 : (Jvm.Cond.sameMethod "java/lang/Throwable" "java/lang/Throwable" "fillInStackTrace" "(I)Ljava/lang/Throwable;") ∈ lw_all := lw_g (lw_at lw_m18 23 rfl) rfl
theorem q4285 : (Jvm.Cond.castable "java/lang/Throwable" "java/lang/Object") ∈ lw_tbl := lw_at lw_m18 105 rfl
theorem in_J13 : ∀ w ∈ wsJ130, w ∈ lw_all := lw_in wsJ130 [513, 515, 517, 519, 521] (by decide +kernel) (by decide +kernel)
/-! java/lang/Exception -/
set_option maxRecDepth 100000
def RJ14 : String := "java/lang/Exception"
abbrev cJ14_init : ByteArray := prog_29_method_2_code
def yJ14_init : MethodName := ⟨RJ14, "<init>", "(Ljava/lang/String;)V"⟩
def dkwJ14_init_0 : List UInt8 := [42, 43, 183, 0, 7, 177]
abbrev dktJ14_init_0 : List UInt8 := dkwJ14_init_0 ++ []
theorem dksJ14_init_0 : cJ14_init.data.toList.drop 0 = dktJ14_init_0 := by decide +kernel
theorem dJ14_init_0 : decode cJ14_init 0 = .ok (.aload_n 0, 1) := dk_42 (dk_at dksJ14_init_0 0 rfl rfl)
theorem dJ14_init_1 : decode cJ14_init 1 = .ok (.aload_n 1, 1) := dk_43 (dk_at dksJ14_init_0 1 rfl rfl)
theorem dJ14_init_2 : decode cJ14_init 2 = .ok (.invokespecial 7, 3) := dk_183 0 7 (dk_at dksJ14_init_0 2 rfl rfl)
theorem dJ14_init_5 : decode cJ14_init 5 = .ok (.return_, 1) := dk_177 (dk_at dksJ14_init_0 5 rfl rfl)
abbrev cJ14_init_2 : ByteArray := prog_29_method_1_code
def yJ14_init_2 : MethodName := ⟨RJ14, "<init>", "()V"⟩
theorem dJ14_init_2_0 : decode cJ14_init_2 0 = .ok (.aload_n 0, 1) := by decide +kernel
theorem dJ14_init_2_1 : decode cJ14_init_2 1 = .ok (.invokespecial 1, 3) := by decide +kernel
theorem dJ14_init_2_4 : decode cJ14_init_2 4 = .ok (.return_, 1) := by decide +kernel
abbrev cJ14_init_3 : ByteArray := prog_29_method_4_code
def yJ14_init_3 : MethodName := ⟨RJ14, "<init>", "(Ljava/lang/Throwable;)V"⟩
def dkwJ14_init_3_0 : List UInt8 := [42, 43, 183, 0, 13, 177]
abbrev dktJ14_init_3_0 : List UInt8 := dkwJ14_init_3_0 ++ []
theorem dksJ14_init_3_0 : cJ14_init_3.data.toList.drop 0 = dktJ14_init_3_0 := by decide +kernel
theorem dJ14_init_3_0 : decode cJ14_init_3 0 = .ok (.aload_n 0, 1) := dk_42 (dk_at dksJ14_init_3_0 0 rfl rfl)
theorem dJ14_init_3_1 : decode cJ14_init_3 1 = .ok (.aload_n 1, 1) := dk_43 (dk_at dksJ14_init_3_0 1 rfl rfl)
theorem dJ14_init_3_2 : decode cJ14_init_3 2 = .ok (.invokespecial 13, 3) := dk_183 0 13 (dk_at dksJ14_init_3_0 2 rfl rfl)
theorem dJ14_init_3_5 : decode cJ14_init_3 5 = .ok (.return_, 1) := dk_177 (dk_at dksJ14_init_3_0 5 rfl rfl)
abbrev cJ14_init_4 : ByteArray := prog_29_method_3_code
def yJ14_init_4 : MethodName := ⟨RJ14, "<init>", "(Ljava/lang/String;Ljava/lang/Throwable;)V"⟩
def dkwJ14_init_4_0 : List UInt8 := [42, 43, 44, 183, 0, 10, 177]
abbrev dktJ14_init_4_0 : List UInt8 := dkwJ14_init_4_0 ++ []
theorem dksJ14_init_4_0 : cJ14_init_4.data.toList.drop 0 = dktJ14_init_4_0 := by decide +kernel
theorem dJ14_init_4_0 : decode cJ14_init_4 0 = .ok (.aload_n 0, 1) := dk_42 (dk_at dksJ14_init_4_0 0 rfl rfl)
theorem dJ14_init_4_1 : decode cJ14_init_4 1 = .ok (.aload_n 1, 1) := dk_43 (dk_at dksJ14_init_4_0 1 rfl rfl)
theorem dJ14_init_4_2 : decode cJ14_init_4 2 = .ok (.aload_n 2, 1) := dk_44 (dk_at dksJ14_init_4_0 2 rfl rfl)
theorem dJ14_init_4_3 : decode cJ14_init_4 3 = .ok (.invokespecial 10, 3) := dk_183 0 10 (dk_at dksJ14_init_4_0 3 rfl rfl)
theorem dJ14_init_4_6 : decode cJ14_init_4 6 = .ok (.return_, 1) := dk_177 (dk_at dksJ14_init_4_0 6 rfl rfl)
theorem q119 : (Jvm.Cond.initialized "java/lang/Exception") ∈ lw_all := lw_g (lw_at lw_m1 19 rfl) rfl
theorem q506 : (Jvm.Cond.declares ({ cls := "java/lang/Exception", name := "<init>", desc := "()V" } : Jvm.MethodName)) ∈ lw_tbl := lw_at lw_m2 166 rfl
theorem q507 : (Jvm.Cond.declares ({ cls := "java/lang/Exception", name := "<init>", desc := "(Ljava/lang/String;)V" } : Jvm.MethodName)) ∈ lw_tbl := lw_at lw_m2 167 rfl
theorem q761 : (Jvm.Cond.instanceMethod ({ cls := "java/lang/Exception", name := "<init>", desc := "(Ljava/lang/String;)V" } : Jvm.MethodName)) ∈ lw_all := lw_g (lw_at lw_m3 181 rfl) rfl
theorem q762 : (Jvm.Cond.code ({ cls := "java/lang/Exception", name := "<init>", desc := "(Ljava/lang/String;)V" } : Jvm.MethodName) prog_29_method_2_code (2 : Nat) (Option.none : Option Jvm.ClassFile.FieldType)) ∈ lw_all := lw_g (lw_at lw_m3 182 rfl) rfl
theorem q763 : (Jvm.Cond.methodLink "java/lang/Exception" (7 : Nat) ({ cls := "java/lang/Throwable", name := "<init>", desc := "(Ljava/lang/String;)V" } : Jvm.MethodName)) ∈ lw_all := lw_g (lw_at lw_m3 183 rfl) rfl
theorem q895 : (Jvm.Cond.instanceMethod ({ cls := "java/lang/Exception", name := "<init>", desc := "()V" } : Jvm.MethodName)) ∈ lw_all := lw_g (lw_at lw_m4 75 rfl) rfl
theorem q896 : (Jvm.Cond.code ({ cls := "java/lang/Exception", name := "<init>", desc := "()V" } : Jvm.MethodName) prog_29_method_1_code (1 : Nat) (Option.none : Option Jvm.ClassFile.FieldType)) ∈ lw_all := lw_g (lw_at lw_m4 76 rfl) rfl
theorem q897 : (Jvm.Cond.methodLink "java/lang/Exception" (1 : Nat) ({ cls := "java/lang/Throwable", name := "<init>", desc := "()V" } : Jvm.MethodName)) ∈ lw_all := lw_g (lw_at lw_m4 77 rfl) rfl
theorem q966 : (Jvm.Cond.instanceMethod ({ cls := "java/lang/Exception", name := "<init>", desc := "(Ljava/lang/Throwable;)V" } : Jvm.MethodName)) ∈ lw_all := lw_g (lw_at lw_m4 146 rfl) rfl
theorem q967 : (Jvm.Cond.code ({ cls := "java/lang/Exception", name := "<init>", desc := "(Ljava/lang/Throwable;)V" } : Jvm.MethodName) prog_29_method_4_code (2 : Nat) (Option.none : Option Jvm.ClassFile.FieldType)) ∈ lw_all := lw_g (lw_at lw_m4 147 rfl) rfl
theorem q968 : (Jvm.Cond.methodLink "java/lang/Exception" (13 : Nat) ({ cls := "java/lang/Throwable", name := "<init>", desc := "(Ljava/lang/Throwable;)V" } : Jvm.MethodName)) ∈ lw_all := lw_g (lw_at lw_m4 148 rfl) rfl
theorem q2466 : (Jvm.Cond.instanceMethod ({ cls := "java/lang/Exception", name := "<init>", desc := "(Ljava/lang/String;Ljava/lang/Throwable;)V" } : Jvm.MethodName)) ∈ lw_all := lw_g (lw_at lw_m10 206 rfl) rfl
theorem q2467 : (Jvm.Cond.code ({ cls := "java/lang/Exception", name := "<init>", desc := "(Ljava/lang/String;Ljava/lang/Throwable;)V" } : Jvm.MethodName) prog_29_method_3_code (3 : Nat) (Option.none : Option Jvm.ClassFile.FieldType)) ∈ lw_all := lw_g (lw_at lw_m10 207 rfl) rfl
theorem q2468 : (Jvm.Cond.methodLink "java/lang/Exception" (10 : Nat) ({ cls := "java/lang/Throwable", name := "<init>", desc := "(Ljava/lang/String;Ljava/lang/Throwable;)V" } : Jvm.MethodName)) ∈ lw_all := lw_g (lw_at lw_m10 208 rfl) rfl
/-! java/lang/RuntimeException -/
set_option maxRecDepth 100000
def RJ15 : String := "java/lang/RuntimeException"
abbrev cJ15_init : ByteArray := prog_40_method_2_code
def yJ15_init : MethodName := ⟨RJ15, "<init>", "(Ljava/lang/String;)V"⟩
def dkwJ15_init_0 : List UInt8 := [42, 43, 183, 0, 7, 177]
abbrev dktJ15_init_0 : List UInt8 := dkwJ15_init_0 ++ []
theorem dksJ15_init_0 : cJ15_init.data.toList.drop 0 = dktJ15_init_0 := by decide +kernel
theorem dJ15_init_0 : decode cJ15_init 0 = .ok (.aload_n 0, 1) := dk_42 (dk_at dksJ15_init_0 0 rfl rfl)
theorem dJ15_init_1 : decode cJ15_init 1 = .ok (.aload_n 1, 1) := dk_43 (dk_at dksJ15_init_0 1 rfl rfl)
theorem dJ15_init_2 : decode cJ15_init 2 = .ok (.invokespecial 7, 3) := dk_183 0 7 (dk_at dksJ15_init_0 2 rfl rfl)
theorem dJ15_init_5 : decode cJ15_init 5 = .ok (.return_, 1) := dk_177 (dk_at dksJ15_init_0 5 rfl rfl)
abbrev cJ15_init_2 : ByteArray := prog_40_method_1_code
def yJ15_init_2 : MethodName := ⟨RJ15, "<init>", "()V"⟩
theorem dJ15_init_2_0 : decode cJ15_init_2 0 = .ok (.aload_n 0, 1) := by decide +kernel
theorem dJ15_init_2_1 : decode cJ15_init_2 1 = .ok (.invokespecial 1, 3) := by decide +kernel
theorem dJ15_init_2_4 : decode cJ15_init_2 4 = .ok (.return_, 1) := by decide +kernel
abbrev cJ15_init_3 : ByteArray := prog_40_method_4_code
def yJ15_init_3 : MethodName := ⟨RJ15, "<init>", "(Ljava/lang/Throwable;)V"⟩
def dkwJ15_init_3_0 : List UInt8 := [42, 43, 183, 0, 13, 177]
abbrev dktJ15_init_3_0 : List UInt8 := dkwJ15_init_3_0 ++ []
theorem dksJ15_init_3_0 : cJ15_init_3.data.toList.drop 0 = dktJ15_init_3_0 := by decide +kernel
theorem dJ15_init_3_0 : decode cJ15_init_3 0 = .ok (.aload_n 0, 1) := dk_42 (dk_at dksJ15_init_3_0 0 rfl rfl)
theorem dJ15_init_3_1 : decode cJ15_init_3 1 = .ok (.aload_n 1, 1) := dk_43 (dk_at dksJ15_init_3_0 1 rfl rfl)
theorem dJ15_init_3_2 : decode cJ15_init_3 2 = .ok (.invokespecial 13, 3) := dk_183 0 13 (dk_at dksJ15_init_3_0 2 rfl rfl)
theorem dJ15_init_3_5 : decode cJ15_init_3 5 = .ok (.return_, 1) := dk_177 (dk_at dksJ15_init_3_0 5 rfl rfl)
theorem q120 : (Jvm.Cond.initialized "java/lang/RuntimeException") ∈ lw_all := lw_g (lw_at lw_m1 20 rfl) rfl
theorem q504 : (Jvm.Cond.declares ({ cls := "java/lang/RuntimeException", name := "<init>", desc := "()V" } : Jvm.MethodName)) ∈ lw_tbl := lw_at lw_m2 164 rfl
theorem q505 : (Jvm.Cond.declares ({ cls := "java/lang/RuntimeException", name := "<init>", desc := "(Ljava/lang/String;)V" } : Jvm.MethodName)) ∈ lw_tbl := lw_at lw_m2 165 rfl
theorem q758 : (Jvm.Cond.instanceMethod ({ cls := "java/lang/RuntimeException", name := "<init>", desc := "(Ljava/lang/String;)V" } : Jvm.MethodName)) ∈ lw_all := lw_g (lw_at lw_m3 178 rfl) rfl
theorem q759 : (Jvm.Cond.code ({ cls := "java/lang/RuntimeException", name := "<init>", desc := "(Ljava/lang/String;)V" } : Jvm.MethodName) prog_40_method_2_code (2 : Nat) (Option.none : Option Jvm.ClassFile.FieldType)) ∈ lw_all := lw_g (lw_at lw_m3 179 rfl) rfl
theorem q760 : (Jvm.Cond.methodLink "java/lang/RuntimeException" (7 : Nat) ({ cls := "java/lang/Exception", name := "<init>", desc := "(Ljava/lang/String;)V" } : Jvm.MethodName)) ∈ lw_all := lw_g (lw_at lw_m3 180 rfl) rfl
theorem q892 : (Jvm.Cond.instanceMethod ({ cls := "java/lang/RuntimeException", name := "<init>", desc := "()V" } : Jvm.MethodName)) ∈ lw_all := lw_g (lw_at lw_m4 72 rfl) rfl
theorem q893 : (Jvm.Cond.code ({ cls := "java/lang/RuntimeException", name := "<init>", desc := "()V" } : Jvm.MethodName) prog_40_method_1_code (1 : Nat) (Option.none : Option Jvm.ClassFile.FieldType)) ∈ lw_all := lw_g (lw_at lw_m4 73 rfl) rfl
theorem q894 : (Jvm.Cond.methodLink "java/lang/RuntimeException" (1 : Nat) ({ cls := "java/lang/Exception", name := "<init>", desc := "()V" } : Jvm.MethodName)) ∈ lw_all := lw_g (lw_at lw_m4 74 rfl) rfl
theorem q963 : (Jvm.Cond.instanceMethod ({ cls := "java/lang/RuntimeException", name := "<init>", desc := "(Ljava/lang/Throwable;)V" } : Jvm.MethodName)) ∈ lw_all := lw_g (lw_at lw_m4 143 rfl) rfl
theorem q964 : (Jvm.Cond.code ({ cls := "java/lang/RuntimeException", name := "<init>", desc := "(Ljava/lang/Throwable;)V" } : Jvm.MethodName) prog_40_method_4_code (2 : Nat) (Option.none : Option Jvm.ClassFile.FieldType)) ∈ lw_all := lw_g (lw_at lw_m4 144 rfl) rfl
theorem q965 : (Jvm.Cond.methodLink "java/lang/RuntimeException" (13 : Nat) ({ cls := "java/lang/Exception", name := "<init>", desc := "(Ljava/lang/Throwable;)V" } : Jvm.MethodName)) ∈ lw_all := lw_g (lw_at lw_m4 145 rfl) rfl
/-! java/lang/IndexOutOfBoundsException -/
set_option maxRecDepth 100000
def RJ16 : String := "java/lang/IndexOutOfBoundsException"
def TJ16 : u_T := fun k => match k with
  | 0 => ("java/lang/Throwable", "cause", "Ljava/lang/Throwable;", false)
  | 1 => ("java/lang/Throwable", "stackTrace", "[Ljava/lang/StackTraceElement;", false)
  | 2 => ("java/lang/Throwable", "suppressedExceptions", "Ljava/util/List;", false)
  | 3 => ("java/lang/Throwable", "detailMessage", "Ljava/lang/String;", false)
  | 4 => ("java/lang/Throwable", "backtrace", "Ljava/lang/Object;", false)
  | _ => ("java/lang/Throwable", "depth", "I", false)
def tyJ16 : Nat → FieldType := fun k => match k with
  | 0 => .object "java/lang/Throwable"
  | 1 => .array (.object "java/lang/StackTraceElement")
  | 2 => .object "java/util/List"
  | 3 => .object "java/lang/String"
  | 4 => .object "java/lang/Object"
  | _ => .int
abbrev wsJ160 : List Cond := u_ws RJ16 TJ16 6
theorem nmJ16 : ∀ a, a < 6 → ∀ b, b < 6 → a ≠ b → (TJ16 a).2.1 ≠ (TJ16 b).2.1 := by decide +kernel
theorem tyJ16_ok : ∀ k, k < 6 → parseFieldDescriptor (TJ16 k).2.2.1 = some (tyJ16 k) := by decide +kernel
abbrev cJ16_init : ByteArray := prog_32_method_2_code
def yJ16_init : MethodName := ⟨RJ16, "<init>", "(Ljava/lang/String;)V"⟩
def dkwJ16_init_0 : List UInt8 := [42, 43, 183, 0, 7, 177]
abbrev dktJ16_init_0 : List UInt8 := dkwJ16_init_0 ++ []
theorem dksJ16_init_0 : cJ16_init.data.toList.drop 0 = dktJ16_init_0 := by decide +kernel
theorem dJ16_init_0 : decode cJ16_init 0 = .ok (.aload_n 0, 1) := dk_42 (dk_at dksJ16_init_0 0 rfl rfl)
theorem dJ16_init_1 : decode cJ16_init 1 = .ok (.aload_n 1, 1) := dk_43 (dk_at dksJ16_init_0 1 rfl rfl)
theorem dJ16_init_2 : decode cJ16_init 2 = .ok (.invokespecial 7, 3) := dk_183 0 7 (dk_at dksJ16_init_0 2 rfl rfl)
theorem dJ16_init_5 : decode cJ16_init 5 = .ok (.return_, 1) := dk_177 (dk_at dksJ16_init_0 5 rfl rfl)
abbrev cJ16_init_2 : ByteArray := prog_32_method_1_code
def yJ16_init_2 : MethodName := ⟨RJ16, "<init>", "()V"⟩
theorem dJ16_init_2_0 : decode cJ16_init_2 0 = .ok (.aload_n 0, 1) := by decide +kernel
theorem dJ16_init_2_1 : decode cJ16_init_2 1 = .ok (.invokespecial 1, 3) := by decide +kernel
theorem dJ16_init_2_4 : decode cJ16_init_2 4 = .ok (.return_, 1) := by decide +kernel
theorem q121 : (Jvm.Cond.initialized "java/lang/IndexOutOfBoundsException") ∈ lw_all := lw_g (lw_at lw_m1 21 rfl) rfl
theorem q502 : (Jvm.Cond.instantiable "java/lang/IndexOutOfBoundsException" (6 : Nat)) ∈ lw_all := lw_g (lw_at lw_m2 162 rfl) rfl
theorem q503 : (Jvm.Cond.castable "java/lang/IndexOutOfBoundsException" "java/lang/IndexOutOfBoundsException") ∈ lw_tbl := lw_at lw_m2 163 rfl
theorem q510 : (Jvm.Cond.selects "java/lang/IndexOutOfBoundsException" ({ cls := "java/lang/Throwable", name := "fillInStackTrace", desc := "(I)Ljava/lang/Throwable;" } : Jvm.MethodName) ({ cls := "java/lang/Throwable", name := "fillInStackTrace", desc := "(I)Ljava/lang/Throwable;" } : Jvm.MethodName)) ∈ lw_all := lw_g (lw_at lw_m2 170 rfl) rfl
theorem q511 : (Jvm.Cond.selects "java/lang/IndexOutOfBoundsException" ({ cls := "java/lang/Throwable", name := "fillInStackTrace", desc := "()Ljava/lang/Throwable;" } : Jvm.MethodName) ({ cls := "java/lang/Throwable", name := "fillInStackTrace", desc := "()Ljava/lang/Throwable;" } : Jvm.MethodName)) ∈ lw_all := lw_g (lw_at lw_m2 171 rfl) rfl
theorem q512 : (Jvm.Cond.lays "java/lang/IndexOutOfBoundsException" "java/lang/Throwable" "cause" "Ljava/lang/Throwable;") ∈ lw_all := lw_g (lw_at lw_m2 172 rfl) rfl
theorem q514 : (Jvm.Cond.lays "java/lang/IndexOutOfBoundsException" "java/lang/Throwable" "stackTrace" "[Ljava/lang/StackTraceElement;") ∈ lw_all := lw_g (lw_at lw_m2 174 rfl) rfl
theorem q516 : (Jvm.Cond.lays "java/lang/IndexOutOfBoundsException" "java/lang/Throwable" "suppressedExceptions" "Ljava/util/List;") ∈ lw_all := lw_g (lw_at lw_m2 176 rfl) rfl
theorem q518 : (Jvm.Cond.lays "java/lang/IndexOutOfBoundsException" "java/lang/Throwable" "detailMessage" "Ljava/lang/String;") ∈ lw_all := lw_g (lw_at lw_m2 178 rfl) rfl
theorem q520 : (Jvm.Cond.lays "java/lang/IndexOutOfBoundsException" "java/lang/Throwable" "backtrace" "Ljava/lang/Object;") ∈ lw_all := lw_g (lw_at lw_m2 180 rfl) rfl
theorem q806 : (Jvm.Cond.instanceMethod ({ cls := "java/lang/IndexOutOfBoundsException", name := "<init>", desc := "(Ljava/lang/String;)V" } : Jvm.MethodName)) ∈ lw_all := lw_g (lw_at lw_m3 226 rfl) rfl
theorem q807 : (Jvm.Cond.code ({ cls := "java/lang/IndexOutOfBoundsException", name := "<init>", desc := "(Ljava/lang/String;)V" } : Jvm.MethodName) prog_32_method_2_code (2 : Nat) (Option.none : Option Jvm.ClassFile.FieldType)) ∈ lw_all := lw_g (lw_at lw_m3 227 rfl) rfl
theorem q808 : (Jvm.Cond.methodLink "java/lang/IndexOutOfBoundsException" (7 : Nat) ({ cls := "java/lang/RuntimeException", name := "<init>", desc := "(Ljava/lang/String;)V" } : Jvm.MethodName)) ∈ lw_all := lw_g (lw_at lw_m3 228 rfl) rfl
theorem q809 : (Jvm.Cond.lays "java/lang/IndexOutOfBoundsException" "java/lang/Throwable" "depth" "I") ∈ lw_all := lw_g (lw_at lw_m3 229 rfl) rfl
theorem q810 : (Jvm.Cond.superclass "java/lang/IndexOutOfBoundsException" "java/lang/RuntimeException") ∈ lw_all := lw_g (lw_at lw_m3 230 rfl) rfl
theorem q981 : (Jvm.Cond.selects "java/lang/IndexOutOfBoundsException" ({ cls := "java/lang/Throwable", name := "toString", desc := "()Ljava/lang/String;" } : Jvm.MethodName) ({ cls := "java/lang/Throwable", name := "toString", desc := "()Ljava/lang/String;" } : Jvm.MethodName)) ∈ lw_all := lw_g (lw_at lw_m4 161 rfl) rfl
theorem q1011 : (Jvm.Cond.selects "java/lang/IndexOutOfBoundsException" ({ cls := "java/lang/Object", name := "getClass", desc := "()Ljava/lang/Class;" } : Jvm.MethodName) ({ cls := "java/lang/Object", name := "getClass", desc := "()Ljava/lang/Class;" } : Jvm.MethodName)) ∈ lw_all := lw_g (lw_at lw_m4 191 rfl) rfl
theorem q1047 : (Jvm.Cond.selects "java/lang/IndexOutOfBoundsException" ({ cls := "java/lang/Throwable", name := "getLocalizedMessage", desc := "()Ljava/lang/String;" } : Jvm.MethodName) ({ cls := "java/lang/Throwable", name := "getLocalizedMessage", desc := "()Ljava/lang/String;" } : Jvm.MethodName)) ∈ lw_all := lw_g (lw_at lw_m4 227 rfl) rfl
theorem q1062 : (Jvm.Cond.selects "java/lang/IndexOutOfBoundsException" ({ cls := "java/lang/Throwable", name := "getMessage", desc := "()Ljava/lang/String;" } : Jvm.MethodName) ({ cls := "java/lang/Throwable", name := "getMessage", desc := "()Ljava/lang/String;" } : Jvm.MethodName)) ∈ lw_all := lw_g (lw_at lw_m5 2 rfl) rfl
theorem q2682 : (Jvm.Cond.instanceMethod ({ cls := "java/lang/IndexOutOfBoundsException", name := "<init>", desc := "()V" } : Jvm.MethodName)) ∈ lw_all := lw_g (lw_at lw_m11 182 rfl) rfl
theorem q2683 : (Jvm.Cond.code ({ cls := "java/lang/IndexOutOfBoundsException", name := "<init>", desc := "()V" } : Jvm.MethodName) prog_32_method_1_code (1 : Nat) (Option.none : Option Jvm.ClassFile.FieldType)) ∈ lw_all := lw_g (lw_at lw_m11 183 rfl) rfl
theorem q2684 : (Jvm.Cond.methodLink "java/lang/IndexOutOfBoundsException" (1 : Nat) ({ cls := "java/lang/RuntimeException", name := "<init>", desc := "()V" } : Jvm.MethodName)) ∈ lw_all := lw_g (lw_at lw_m11 184 rfl) rfl
theorem q2727 : (Jvm.Cond.declares ({ cls := "java/lang/IndexOutOfBoundsException", name := "<init>", desc := "()V" } : Jvm.MethodName)) ∈ lw_tbl := lw_at lw_m11 227 rfl
theorem q2728 : (Jvm.Cond.declares ({ cls := "java/lang/IndexOutOfBoundsException", name := "<init>", desc := "(Ljava/lang/String;)V" } : Jvm.MethodName)) ∈ lw_tbl := lw_at lw_m11 228 rfl
theorem q3192 : (Jvm.Cond.selects "java/lang/IndexOutOfBoundsException" ({ cls := "java/lang/Object", name := "equals", desc := "(Ljava/lang/Object;)Z" } : Jvm.MethodName) ({ cls := "java/lang/Object", name := "equals", desc := "(Ljava/lang/Object;)Z" } : Jvm.MethodName)) ∈ lw_all := lw_g (lw_at lw_m13 212 rfl) rfl
theorem q3500 : (Jvm.Cond.selects "java/lang/IndexOutOfBoundsException" ({ cls := "java/lang/Object", name := "toString", desc := "()Ljava/lang/String;" } : Jvm.MethodName) ({ cls := "java/lang/Throwable", name := "toString", desc := "()Ljava/lang/String;" } : Jvm.MethodName)) ∈ lw_all := lw_g (lw_at lw_m15 40 rfl) rfl
theorem q4246 : (Jvm.Cond.castable "java/lang/IndexOutOfBoundsException" "java/lang/Object") ∈ lw_tbl := lw_at lw_m18 66 rfl
theorem in_J16 : ∀ w ∈ wsJ160, w ∈ lw_all := lw_in wsJ160 [512, 514, 516, 518, 520, 809] (by decide +kernel) (by decide +kernel)
/-! jdk/internal/util/ArraysSupport -/
set_option maxRecDepth 100000
def RJ17 : String := "jdk/internal/util/ArraysSupport"
abbrev cJ17_newLength : ByteArray := prog_102_method_27_code
def yJ17_newLength : MethodName := ⟨RJ17, "newLength", "(III)I"⟩
def dkwJ17_newLength_1 : List UInt8 := [184, 0, 201, 172]
abbrev dktJ17_newLength_1 : List UInt8 := dkwJ17_newLength_1 ++ []
def dkwJ17_newLength_0 : List UInt8 := [26, 27, 28, 184, 0, 194, 96, 62, 3, 29, 162, 0, 11, 29, 18, 200, 163, 0, 5, 29, 172, 26, 27]
abbrev dktJ17_newLength_0 : List UInt8 := dkwJ17_newLength_0 ++ dktJ17_newLength_1
theorem dksJ17_newLength_0 : cJ17_newLength.data.toList.drop 0 = dktJ17_newLength_0 := by decide +kernel
theorem dksJ17_newLength_1 : cJ17_newLength.data.toList.drop 23 = dktJ17_newLength_1 := dk_seg dksJ17_newLength_0 23 rfl rfl
theorem dJ17_newLength_0 : decode cJ17_newLength 0 = .ok (.iload_n 0, 1) := dk_26 (dk_at dksJ17_newLength_0 0 rfl rfl)
theorem dJ17_newLength_1 : decode cJ17_newLength 1 = .ok (.iload_n 1, 1) := dk_27 (dk_at dksJ17_newLength_0 1 rfl rfl)
theorem dJ17_newLength_2 : decode cJ17_newLength 2 = .ok (.iload_n 2, 1) := dk_28 (dk_at dksJ17_newLength_0 2 rfl rfl)
theorem dJ17_newLength_3 : decode cJ17_newLength 3 = .ok (.invokestatic 194, 3) := dk_184 0 194 (dk_at dksJ17_newLength_0 3 rfl rfl)
theorem dJ17_newLength_6 : decode cJ17_newLength 6 = .ok (.iadd, 1) := dk_96 (dk_at dksJ17_newLength_0 6 rfl rfl)
theorem dJ17_newLength_7 : decode cJ17_newLength 7 = .ok (.istore_n 3, 1) := dk_62 (dk_at dksJ17_newLength_0 7 rfl rfl)
theorem dJ17_newLength_8 : decode cJ17_newLength 8 = .ok (.iconst 0, 1) := dk_3 (dk_at dksJ17_newLength_0 8 rfl rfl)
theorem dJ17_newLength_9 : decode cJ17_newLength 9 = .ok (.iload_n 3, 1) := dk_29 (dk_at dksJ17_newLength_0 9 rfl rfl)
theorem dJ17_newLength_10 : decode cJ17_newLength 10 = .ok (.if_icmp .ge 11, 3) := dk_162 0 11 (dk_at dksJ17_newLength_0 10 rfl rfl)
theorem dJ17_newLength_13 : decode cJ17_newLength 13 = .ok (.iload_n 3, 1) := dk_29 (dk_at dksJ17_newLength_0 13 rfl rfl)
theorem dJ17_newLength_14 : decode cJ17_newLength 14 = .ok (.ldc 200, 2) := dk_18 200 (dk_at dksJ17_newLength_0 14 rfl rfl)
theorem dJ17_newLength_16 : decode cJ17_newLength 16 = .ok (.if_icmp .gt 5, 3) := dk_163 0 5 (dk_at dksJ17_newLength_0 16 rfl rfl)
theorem dJ17_newLength_19 : decode cJ17_newLength 19 = .ok (.iload_n 3, 1) := dk_29 (dk_at dksJ17_newLength_0 19 rfl rfl)
theorem dJ17_newLength_20 : decode cJ17_newLength 20 = .ok (.ireturn, 1) := dk_172 (dk_at dksJ17_newLength_0 20 rfl rfl)
theorem dJ17_newLength_21 : decode cJ17_newLength 21 = .ok (.iload_n 0, 1) := dk_26 (dk_at dksJ17_newLength_0 21 rfl rfl)
theorem dJ17_newLength_22 : decode cJ17_newLength 22 = .ok (.iload_n 1, 1) := dk_27 (dk_at dksJ17_newLength_0 22 rfl rfl)
theorem dJ17_newLength_23 : decode cJ17_newLength 23 = .ok (.invokestatic 201, 3) := dk_184 0 201 (dk_at dksJ17_newLength_1 0 rfl rfl)
theorem dJ17_newLength_26 : decode cJ17_newLength 26 = .ok (.ireturn, 1) := dk_172 (dk_at dksJ17_newLength_1 3 rfl rfl)
abbrev cJ17_hugeLength : ByteArray := prog_102_method_28_code
def yJ17_hugeLength : MethodName := ⟨RJ17, "hugeLength", "(II)I"⟩
def dkwJ17_hugeLength_2 : List UInt8 := [191, 28, 18, 200, 163, 0, 6, 18, 200, 172, 28, 172]
abbrev dktJ17_hugeLength_2 : List UInt8 := dkwJ17_hugeLength_2 ++ []
def dkwJ17_hugeLength_1 : List UInt8 := [26, 182, 0, 98, 18, 208, 182, 0, 94, 27, 182, 0, 98, 18, 210, 182, 0, 94, 182, 0, 101, 183, 0, 212]
abbrev dktJ17_hugeLength_1 : List UInt8 := dkwJ17_hugeLength_1 ++ dktJ17_hugeLength_2
def dkwJ17_hugeLength_0 : List UInt8 := [26, 27, 96, 61, 28, 156, 0, 44, 187, 0, 204, 89, 187, 0, 89, 89, 183, 0, 91, 18, 206, 182, 0, 94]
abbrev dktJ17_hugeLength_0 : List UInt8 := dkwJ17_hugeLength_0 ++ dktJ17_hugeLength_1
theorem dksJ17_hugeLength_0 : cJ17_hugeLength.data.toList.drop 0 = dktJ17_hugeLength_0 := by decide +kernel
theorem dksJ17_hugeLength_1 : cJ17_hugeLength.data.toList.drop 24 = dktJ17_hugeLength_1 := dk_seg dksJ17_hugeLength_0 24 rfl rfl
theorem dksJ17_hugeLength_2 : cJ17_hugeLength.data.toList.drop 48 = dktJ17_hugeLength_2 := dk_seg dksJ17_hugeLength_1 24 rfl rfl
theorem dJ17_hugeLength_0 : decode cJ17_hugeLength 0 = .ok (.iload_n 0, 1) := dk_26 (dk_at dksJ17_hugeLength_0 0 rfl rfl)
theorem dJ17_hugeLength_1 : decode cJ17_hugeLength 1 = .ok (.iload_n 1, 1) := dk_27 (dk_at dksJ17_hugeLength_0 1 rfl rfl)
theorem dJ17_hugeLength_2 : decode cJ17_hugeLength 2 = .ok (.iadd, 1) := dk_96 (dk_at dksJ17_hugeLength_0 2 rfl rfl)
theorem dJ17_hugeLength_3 : decode cJ17_hugeLength 3 = .ok (.istore_n 2, 1) := dk_61 (dk_at dksJ17_hugeLength_0 3 rfl rfl)
theorem dJ17_hugeLength_4 : decode cJ17_hugeLength 4 = .ok (.iload_n 2, 1) := dk_28 (dk_at dksJ17_hugeLength_0 4 rfl rfl)
theorem dJ17_hugeLength_5 : decode cJ17_hugeLength 5 = .ok (.ifCond .ge 44, 3) := dk_156 0 44 (dk_at dksJ17_hugeLength_0 5 rfl rfl)
theorem dJ17_hugeLength_8 : decode cJ17_hugeLength 8 = .ok (.new 204, 3) := dk_187 0 204 (dk_at dksJ17_hugeLength_0 8 rfl rfl)
theorem dJ17_hugeLength_11 : decode cJ17_hugeLength 11 = .ok (.dup, 1) := dk_89 (dk_at dksJ17_hugeLength_0 11 rfl rfl)
theorem dJ17_hugeLength_12 : decode cJ17_hugeLength 12 = .ok (.new 89, 3) := dk_187 0 89 (dk_at dksJ17_hugeLength_0 12 rfl rfl)
theorem dJ17_hugeLength_15 : decode cJ17_hugeLength 15 = .ok (.dup, 1) := dk_89 (dk_at dksJ17_hugeLength_0 15 rfl rfl)
theorem dJ17_hugeLength_16 : decode cJ17_hugeLength 16 = .ok (.invokespecial 91, 3) := dk_183 0 91 (dk_at dksJ17_hugeLength_0 16 rfl rfl)
theorem dJ17_hugeLength_19 : decode cJ17_hugeLength 19 = .ok (.ldc 206, 2) := dk_18 206 (dk_at dksJ17_hugeLength_0 19 rfl rfl)
theorem dJ17_hugeLength_21 : decode cJ17_hugeLength 21 = .ok (.invokevirtual 94, 3) := dk_182 0 94 (dk_at dksJ17_hugeLength_0 21 rfl rfl)
theorem dJ17_hugeLength_24 : decode cJ17_hugeLength 24 = .ok (.iload_n 0, 1) := dk_26 (dk_at dksJ17_hugeLength_1 0 rfl rfl)
theorem dJ17_hugeLength_25 : decode cJ17_hugeLength 25 = .ok (.invokevirtual 98, 3) := dk_182 0 98 (dk_at dksJ17_hugeLength_1 1 rfl rfl)
theorem dJ17_hugeLength_28 : decode cJ17_hugeLength 28 = .ok (.ldc 208, 2) := dk_18 208 (dk_at dksJ17_hugeLength_1 4 rfl rfl)
theorem dJ17_hugeLength_30 : decode cJ17_hugeLength 30 = .ok (.invokevirtual 94, 3) := dk_182 0 94 (dk_at dksJ17_hugeLength_1 6 rfl rfl)
theorem dJ17_hugeLength_33 : decode cJ17_hugeLength 33 = .ok (.iload_n 1, 1) := dk_27 (dk_at dksJ17_hugeLength_1 9 rfl rfl)
theorem dJ17_hugeLength_34 : decode cJ17_hugeLength 34 = .ok (.invokevirtual 98, 3) := dk_182 0 98 (dk_at dksJ17_hugeLength_1 10 rfl rfl)
theorem dJ17_hugeLength_37 : decode cJ17_hugeLength 37 = .ok (.ldc 210, 2) := dk_18 210 (dk_at dksJ17_hugeLength_1 13 rfl rfl)
theorem dJ17_hugeLength_39 : decode cJ17_hugeLength 39 = .ok (.invokevirtual 94, 3) := dk_182 0 94 (dk_at dksJ17_hugeLength_1 15 rfl rfl)
theorem dJ17_hugeLength_42 : decode cJ17_hugeLength 42 = .ok (.invokevirtual 101, 3) := dk_182 0 101 (dk_at dksJ17_hugeLength_1 18 rfl rfl)
theorem dJ17_hugeLength_45 : decode cJ17_hugeLength 45 = .ok (.invokespecial 212, 3) := dk_183 0 212 (dk_at dksJ17_hugeLength_1 21 rfl rfl)
theorem dJ17_hugeLength_48 : decode cJ17_hugeLength 48 = .ok (.athrow, 1) := dk_191 (dk_at dksJ17_hugeLength_2 0 rfl rfl)
theorem dJ17_hugeLength_49 : decode cJ17_hugeLength 49 = .ok (.iload_n 2, 1) := dk_28 (dk_at dksJ17_hugeLength_2 1 rfl rfl)
theorem dJ17_hugeLength_50 : decode cJ17_hugeLength 50 = .ok (.ldc 200, 2) := dk_18 200 (dk_at dksJ17_hugeLength_2 2 rfl rfl)
theorem dJ17_hugeLength_52 : decode cJ17_hugeLength 52 = .ok (.if_icmp .gt 6, 3) := dk_163 0 6 (dk_at dksJ17_hugeLength_2 4 rfl rfl)
theorem dJ17_hugeLength_55 : decode cJ17_hugeLength 55 = .ok (.ldc 200, 2) := dk_18 200 (dk_at dksJ17_hugeLength_2 7 rfl rfl)
theorem dJ17_hugeLength_57 : decode cJ17_hugeLength 57 = .ok (.ireturn, 1) := dk_172 (dk_at dksJ17_hugeLength_2 9 rfl rfl)
theorem dJ17_hugeLength_58 : decode cJ17_hugeLength 58 = .ok (.iload_n 2, 1) := dk_28 (dk_at dksJ17_hugeLength_2 10 rfl rfl)
theorem dJ17_hugeLength_59 : decode cJ17_hugeLength 59 = .ok (.ireturn, 1) := dk_172 (dk_at dksJ17_hugeLength_2 11 rfl rfl)
abbrev cJ17_mismatch : ByteArray := prog_102_method_13_code
def yJ17_mismatch : MethodName := ⟨RJ17, "mismatch", "([B[BI)I"⟩
def dkwJ17_mismatch_3 : List UInt8 := [172]
abbrev dktJ17_mismatch_3 : List UInt8 := dkwJ17_mismatch_3 ++ []
def dkwJ17_mismatch_2 : List UInt8 := [62, 29, 28, 162, 0, 20, 42, 29, 51, 43, 29, 51, 159, 0, 5, 29, 172, 132, 3, 1, 167, 255, 237, 2]
abbrev dktJ17_mismatch_2 : List UInt8 := dkwJ17_mismatch_2 ++ dktJ17_mismatch_3
def dkwJ17_mismatch_1 : List UInt8 := [43, 178, 0, 126, 133, 28, 178, 0, 129, 184, 0, 122, 62, 29, 155, 0, 5, 29, 172, 28, 29, 2, 130, 100]
abbrev dktJ17_mismatch_1 : List UInt8 := dkwJ17_mismatch_1 ++ dktJ17_mismatch_2
def dkwJ17_mismatch_0 : List UInt8 := [3, 62, 28, 16, 7, 164, 0, 44, 42, 3, 51, 43, 3, 51, 159, 0, 5, 3, 172, 42, 178, 0, 126, 133]
abbrev dktJ17_mismatch_0 : List UInt8 := dkwJ17_mismatch_0 ++ dktJ17_mismatch_1
theorem dksJ17_mismatch_0 : cJ17_mismatch.data.toList.drop 0 = dktJ17_mismatch_0 := by decide +kernel
theorem dksJ17_mismatch_1 : cJ17_mismatch.data.toList.drop 24 = dktJ17_mismatch_1 := dk_seg dksJ17_mismatch_0 24 rfl rfl
theorem dksJ17_mismatch_2 : cJ17_mismatch.data.toList.drop 48 = dktJ17_mismatch_2 := dk_seg dksJ17_mismatch_1 24 rfl rfl
theorem dksJ17_mismatch_3 : cJ17_mismatch.data.toList.drop 72 = dktJ17_mismatch_3 := dk_seg dksJ17_mismatch_2 24 rfl rfl
theorem dJ17_mismatch_0 : decode cJ17_mismatch 0 = .ok (.iconst 0, 1) := dk_3 (dk_at dksJ17_mismatch_0 0 rfl rfl)
theorem dJ17_mismatch_1 : decode cJ17_mismatch 1 = .ok (.istore_n 3, 1) := dk_62 (dk_at dksJ17_mismatch_0 1 rfl rfl)
theorem dJ17_mismatch_2 : decode cJ17_mismatch 2 = .ok (.iload_n 2, 1) := dk_28 (dk_at dksJ17_mismatch_0 2 rfl rfl)
theorem dJ17_mismatch_3 : decode cJ17_mismatch 3 = .ok (.bipush 7, 2) := dk_16 7 (dk_at dksJ17_mismatch_0 3 rfl rfl)
theorem dJ17_mismatch_5 : decode cJ17_mismatch 5 = .ok (.if_icmp .le 44, 3) := dk_164 0 44 (dk_at dksJ17_mismatch_0 5 rfl rfl)
theorem dJ17_mismatch_8 : decode cJ17_mismatch 8 = .ok (.aload_n 0, 1) := dk_42 (dk_at dksJ17_mismatch_0 8 rfl rfl)
theorem dJ17_mismatch_9 : decode cJ17_mismatch 9 = .ok (.iconst 0, 1) := dk_3 (dk_at dksJ17_mismatch_0 9 rfl rfl)
theorem dJ17_mismatch_10 : decode cJ17_mismatch 10 = .ok (.baload, 1) := dk_51 (dk_at dksJ17_mismatch_0 10 rfl rfl)
theorem dJ17_mismatch_11 : decode cJ17_mismatch 11 = .ok (.aload_n 1, 1) := dk_43 (dk_at dksJ17_mismatch_0 11 rfl rfl)
theorem dJ17_mismatch_12 : decode cJ17_mismatch 12 = .ok (.iconst 0, 1) := dk_3 (dk_at dksJ17_mismatch_0 12 rfl rfl)
theorem dJ17_mismatch_13 : decode cJ17_mismatch 13 = .ok (.baload, 1) := dk_51 (dk_at dksJ17_mismatch_0 13 rfl rfl)
theorem dJ17_mismatch_14 : decode cJ17_mismatch 14 = .ok (.if_icmp .eq 5, 3) := dk_159 0 5 (dk_at dksJ17_mismatch_0 14 rfl rfl)
theorem dJ17_mismatch_17 : decode cJ17_mismatch 17 = .ok (.iconst 0, 1) := dk_3 (dk_at dksJ17_mismatch_0 17 rfl rfl)
theorem dJ17_mismatch_18 : decode cJ17_mismatch 18 = .ok (.ireturn, 1) := dk_172 (dk_at dksJ17_mismatch_0 18 rfl rfl)
theorem dJ17_mismatch_19 : decode cJ17_mismatch 19 = .ok (.aload_n 0, 1) := dk_42 (dk_at dksJ17_mismatch_0 19 rfl rfl)
theorem dJ17_mismatch_20 : decode cJ17_mismatch 20 = .ok (.getstatic 126, 3) := dk_178 0 126 (dk_at dksJ17_mismatch_0 20 rfl rfl)
theorem dJ17_mismatch_23 : decode cJ17_mismatch 23 = .ok (.i2l, 1) := dk_133 (dk_at dksJ17_mismatch_0 23 rfl rfl)
theorem dJ17_mismatch_24 : decode cJ17_mismatch 24 = .ok (.aload_n 1, 1) := dk_43 (dk_at dksJ17_mismatch_1 0 rfl rfl)
theorem dJ17_mismatch_25 : decode cJ17_mismatch 25 = .ok (.getstatic 126, 3) := dk_178 0 126 (dk_at dksJ17_mismatch_1 1 rfl rfl)
theorem dJ17_mismatch_28 : decode cJ17_mismatch 28 = .ok (.i2l, 1) := dk_133 (dk_at dksJ17_mismatch_1 4 rfl rfl)
theorem dJ17_mismatch_29 : decode cJ17_mismatch 29 = .ok (.iload_n 2, 1) := dk_28 (dk_at dksJ17_mismatch_1 5 rfl rfl)
theorem dJ17_mismatch_30 : decode cJ17_mismatch 30 = .ok (.getstatic 129, 3) := dk_178 0 129 (dk_at dksJ17_mismatch_1 6 rfl rfl)
theorem dJ17_mismatch_33 : decode cJ17_mismatch 33 = .ok (.invokestatic 122, 3) := dk_184 0 122 (dk_at dksJ17_mismatch_1 9 rfl rfl)
theorem dJ17_mismatch_36 : decode cJ17_mismatch 36 = .ok (.istore_n 3, 1) := dk_62 (dk_at dksJ17_mismatch_1 12 rfl rfl)
theorem dJ17_mismatch_37 : decode cJ17_mismatch 37 = .ok (.iload_n 3, 1) := dk_29 (dk_at dksJ17_mismatch_1 13 rfl rfl)
theorem dJ17_mismatch_38 : decode cJ17_mismatch 38 = .ok (.ifCond .lt 5, 3) := dk_155 0 5 (dk_at dksJ17_mismatch_1 14 rfl rfl)
theorem dJ17_mismatch_41 : decode cJ17_mismatch 41 = .ok (.iload_n 3, 1) := dk_29 (dk_at dksJ17_mismatch_1 17 rfl rfl)
theorem dJ17_mismatch_42 : decode cJ17_mismatch 42 = .ok (.ireturn, 1) := dk_172 (dk_at dksJ17_mismatch_1 18 rfl rfl)
theorem dJ17_mismatch_43 : decode cJ17_mismatch 43 = .ok (.iload_n 2, 1) := dk_28 (dk_at dksJ17_mismatch_1 19 rfl rfl)
theorem dJ17_mismatch_44 : decode cJ17_mismatch 44 = .ok (.iload_n 3, 1) := dk_29 (dk_at dksJ17_mismatch_1 20 rfl rfl)
theorem dJ17_mismatch_45 : decode cJ17_mismatch 45 = .ok (.iconst (-1), 1) := dk_2 (dk_at dksJ17_mismatch_1 21 rfl rfl)
theorem dJ17_mismatch_46 : decode cJ17_mismatch 46 = .ok (.ixor, 1) := dk_130 (dk_at dksJ17_mismatch_1 22 rfl rfl)
theorem dJ17_mismatch_47 : decode cJ17_mismatch 47 = .ok (.isub, 1) := dk_100 (dk_at dksJ17_mismatch_1 23 rfl rfl)
theorem dJ17_mismatch_48 : decode cJ17_mismatch 48 = .ok (.istore_n 3, 1) := dk_62 (dk_at dksJ17_mismatch_2 0 rfl rfl)
theorem dJ17_mismatch_49 : decode cJ17_mismatch 49 = .ok (.iload_n 3, 1) := dk_29 (dk_at dksJ17_mismatch_2 1 rfl rfl)
theorem dJ17_mismatch_50 : decode cJ17_mismatch 50 = .ok (.iload_n 2, 1) := dk_28 (dk_at dksJ17_mismatch_2 2 rfl rfl)
theorem dJ17_mismatch_51 : decode cJ17_mismatch 51 = .ok (.if_icmp .ge 20, 3) := dk_162 0 20 (dk_at dksJ17_mismatch_2 3 rfl rfl)
theorem dJ17_mismatch_54 : decode cJ17_mismatch 54 = .ok (.aload_n 0, 1) := dk_42 (dk_at dksJ17_mismatch_2 6 rfl rfl)
theorem dJ17_mismatch_55 : decode cJ17_mismatch 55 = .ok (.iload_n 3, 1) := dk_29 (dk_at dksJ17_mismatch_2 7 rfl rfl)
theorem dJ17_mismatch_56 : decode cJ17_mismatch 56 = .ok (.baload, 1) := dk_51 (dk_at dksJ17_mismatch_2 8 rfl rfl)
theorem dJ17_mismatch_57 : decode cJ17_mismatch 57 = .ok (.aload_n 1, 1) := dk_43 (dk_at dksJ17_mismatch_2 9 rfl rfl)
theorem dJ17_mismatch_58 : decode cJ17_mismatch 58 = .ok (.iload_n 3, 1) := dk_29 (dk_at dksJ17_mismatch_2 10 rfl rfl)
theorem dJ17_mismatch_59 : decode cJ17_mismatch 59 = .ok (.baload, 1) := dk_51 (dk_at dksJ17_mismatch_2 11 rfl rfl)
theorem dJ17_mismatch_60 : decode cJ17_mismatch 60 = .ok (.if_icmp .eq 5, 3) := dk_159 0 5 (dk_at dksJ17_mismatch_2 12 rfl rfl)
theorem dJ17_mismatch_63 : decode cJ17_mismatch 63 = .ok (.iload_n 3, 1) := dk_29 (dk_at dksJ17_mismatch_2 15 rfl rfl)
theorem dJ17_mismatch_64 : decode cJ17_mismatch 64 = .ok (.ireturn, 1) := dk_172 (dk_at dksJ17_mismatch_2 16 rfl rfl)
theorem dJ17_mismatch_65 : decode cJ17_mismatch 65 = .ok (.iinc 3 1, 3) := dk_132 3 1 (dk_at dksJ17_mismatch_2 17 rfl rfl)
theorem dJ17_mismatch_68 : decode cJ17_mismatch 68 = .ok (.goto (-19), 3) := dk_167 255 237 (dk_at dksJ17_mismatch_2 20 rfl rfl)
theorem dJ17_mismatch_71 : decode cJ17_mismatch 71 = .ok (.iconst (-1), 1) := dk_2 (dk_at dksJ17_mismatch_2 23 rfl rfl)
theorem dJ17_mismatch_72 : decode cJ17_mismatch 72 = .ok (.ireturn, 1) := dk_172 (dk_at dksJ17_mismatch_3 0 rfl rfl)
abbrev cJ17_vectorizedMismatch : ByteArray := prog_102_method_3_code
def yJ17_vectorizedMismatch : MethodName := ⟨RJ17, "vectorizedMismatch", "(Ljava/lang/Object;JLjava/lang/Object;JII)I"⟩
def dkwJ17_vectorizedMismatch_11 : List UInt8 := [54, 10, 21, 10, 2, 130, 172, 21, 10, 2, 130, 172]
abbrev dktJ17_vectorizedMismatch_11 : List UInt8 := dkwJ17_vectorizedMismatch_11 ++ []
def dkwJ17_vectorizedMismatch_10 : List UInt8 := [178, 0, 46, 21, 7, 96, 122, 54, 17, 21, 9, 21, 8, 120, 21, 17, 96, 172, 21, 10, 21, 11, 100]
abbrev dktJ17_vectorizedMismatch_10 : List UInt8 := dkwJ17_vectorizedMismatch_10 ++ dktJ17_vectorizedMismatch_11
def dkwJ17_vectorizedMismatch_9 : List UInt8 := [153, 0, 18, 21, 16, 184, 0, 58, 178, 0, 46, 21, 7, 96, 122, 167, 0, 15, 21, 16, 184, 0, 11]
abbrev dktJ17_vectorizedMismatch_9 : List UInt8 := dkwJ17_vectorizedMismatch_9 ++ dktJ17_vectorizedMismatch_10
def dkwJ17_vectorizedMismatch_8 : List UInt8 := [182, 0, 54, 54, 15, 21, 14, 21, 15, 159, 0, 54, 21, 14, 21, 15, 130, 54, 16, 178, 0, 36]
abbrev dktJ17_vectorizedMismatch_8 : List UInt8 := dkwJ17_vectorizedMismatch_8 ++ dktJ17_vectorizedMismatch_9
def dkwJ17_vectorizedMismatch_7 : List UInt8 := [55, 12, 178, 0, 26, 42, 31, 22, 12, 97, 182, 0, 54, 54, 14, 178, 0, 26, 45, 22, 4, 22, 12, 97]
abbrev dktJ17_vectorizedMismatch_7 : List UInt8 := dkwJ17_vectorizedMismatch_7 ++ dktJ17_vectorizedMismatch_8
def dkwJ17_vectorizedMismatch_6 : List UInt8 := [4, 178, 0, 51, 21, 7, 100, 120, 54, 11, 21, 10, 21, 11, 161, 0, 104, 21, 9, 133, 178, 0, 20, 121]
abbrev dktJ17_vectorizedMismatch_6 : List UInt8 := dkwJ17_vectorizedMismatch_6 ++ dktJ17_vectorizedMismatch_7
def dkwJ17_vectorizedMismatch_5 : List UInt8 := [132, 9, 1, 167, 255, 148, 21, 6, 21, 9, 21, 8, 120, 100, 54, 10, 21, 7, 178, 0, 51, 162, 0, 126]
abbrev dktJ17_vectorizedMismatch_5 : List UInt8 := dkwJ17_vectorizedMismatch_5 ++ dktJ17_vectorizedMismatch_6
def dkwJ17_vectorizedMismatch_4 : List UInt8 := [22, 16, 184, 0, 49, 178, 0, 46, 21, 7, 96, 122, 54, 18, 21, 9, 21, 8, 120, 21, 18, 96, 172]
abbrev dktJ17_vectorizedMismatch_4 : List UInt8 := dkwJ17_vectorizedMismatch_4 ++ dktJ17_vectorizedMismatch_5
def dkwJ17_vectorizedMismatch_3 : List UInt8 := [55, 16, 178, 0, 36, 153, 0, 18, 22, 16, 184, 0, 40, 178, 0, 46, 21, 7, 96, 122, 167, 0, 15]
abbrev dktJ17_vectorizedMismatch_3 : List UInt8 := dkwJ17_vectorizedMismatch_3 ++ dktJ17_vectorizedMismatch_4
def dkwJ17_vectorizedMismatch_2 : List UInt8 := [22, 4, 22, 10, 97, 182, 0, 30, 55, 14, 22, 12, 22, 14, 148, 153, 0, 54, 22, 12, 22, 14, 131]
abbrev dktJ17_vectorizedMismatch_2 : List UInt8 := dkwJ17_vectorizedMismatch_2 ++ dktJ17_vectorizedMismatch_3
def dkwJ17_vectorizedMismatch_1 : List UInt8 := [178, 0, 20, 121, 55, 10, 178, 0, 26, 42, 31, 22, 10, 97, 182, 0, 30, 55, 12, 178, 0, 26, 45]
abbrev dktJ17_vectorizedMismatch_1 : List UInt8 := dkwJ17_vectorizedMismatch_1 ++ dktJ17_vectorizedMismatch_2
def dkwJ17_vectorizedMismatch_0 : List UInt8 := [178, 0, 20, 21, 7, 100, 54, 8, 3, 54, 9, 21, 9, 21, 6, 21, 8, 122, 162, 0, 104, 21, 9, 133]
abbrev dktJ17_vectorizedMismatch_0 : List UInt8 := dkwJ17_vectorizedMismatch_0 ++ dktJ17_vectorizedMismatch_1
theorem dksJ17_vectorizedMismatch_0 : cJ17_vectorizedMismatch.data.toList.drop 0 = dktJ17_vectorizedMismatch_0 := by decide +kernel
theorem dksJ17_vectorizedMismatch_1 : cJ17_vectorizedMismatch.data.toList.drop 24 = dktJ17_vectorizedMismatch_1 := dk_seg dksJ17_vectorizedMismatch_0 24 rfl rfl
theorem dksJ17_vectorizedMismatch_2 : cJ17_vectorizedMismatch.data.toList.drop 47 = dktJ17_vectorizedMismatch_2 := dk_seg dksJ17_vectorizedMismatch_1 23 rfl rfl
theorem dksJ17_vectorizedMismatch_3 : cJ17_vectorizedMismatch.data.toList.drop 70 = dktJ17_vectorizedMismatch_3 := dk_seg dksJ17_vectorizedMismatch_2 23 rfl rfl
theorem dksJ17_vectorizedMismatch_4 : cJ17_vectorizedMismatch.data.toList.drop 93 = dktJ17_vectorizedMismatch_4 := dk_seg dksJ17_vectorizedMismatch_3 23 rfl rfl
theorem dksJ17_vectorizedMismatch_5 : cJ17_vectorizedMismatch.data.toList.drop 116 = dktJ17_vectorizedMismatch_5 := dk_seg dksJ17_vectorizedMismatch_4 23 rfl rfl
theorem dksJ17_vectorizedMismatch_6 : cJ17_vectorizedMismatch.data.toList.drop 140 = dktJ17_vectorizedMismatch_6 := dk_seg dksJ17_vectorizedMismatch_5 24 rfl rfl
theorem dksJ17_vectorizedMismatch_7 : cJ17_vectorizedMismatch.data.toList.drop 164 = dktJ17_vectorizedMismatch_7 := dk_seg dksJ17_vectorizedMismatch_6 24 rfl rfl
theorem dksJ17_vectorizedMismatch_8 : cJ17_vectorizedMismatch.data.toList.drop 188 = dktJ17_vectorizedMismatch_8 := dk_seg dksJ17_vectorizedMismatch_7 24 rfl rfl
theorem dksJ17_vectorizedMismatch_9 : cJ17_vectorizedMismatch.data.toList.drop 210 = dktJ17_vectorizedMismatch_9 := dk_seg dksJ17_vectorizedMismatch_8 22 rfl rfl
theorem dksJ17_vectorizedMismatch_10 : cJ17_vectorizedMismatch.data.toList.drop 233 = dktJ17_vectorizedMismatch_10 := dk_seg dksJ17_vectorizedMismatch_9 23 rfl rfl
theorem dksJ17_vectorizedMismatch_11 : cJ17_vectorizedMismatch.data.toList.drop 256 = dktJ17_vectorizedMismatch_11 := dk_seg dksJ17_vectorizedMismatch_10 23 rfl rfl
theorem dJ17_vectorizedMismatch_0 : decode cJ17_vectorizedMismatch 0 = .ok (.getstatic 20, 3) := dk_178 0 20 (dk_at dksJ17_vectorizedMismatch_0 0 rfl rfl)
theorem dJ17_vectorizedMismatch_3 : decode cJ17_vectorizedMismatch 3 = .ok (.iload 7, 2) := dk_21 7 (dk_at dksJ17_vectorizedMismatch_0 3 rfl rfl)
theorem dJ17_vectorizedMismatch_5 : decode cJ17_vectorizedMismatch 5 = .ok (.isub, 1) := dk_100 (dk_at dksJ17_vectorizedMismatch_0 5 rfl rfl)
theorem dJ17_vectorizedMismatch_6 : decode cJ17_vectorizedMismatch 6 = .ok (.istore 8, 2) := dk_54 8 (dk_at dksJ17_vectorizedMismatch_0 6 rfl rfl)
theorem dJ17_vectorizedMismatch_8 : decode cJ17_vectorizedMismatch 8 = .ok (.iconst 0, 1) := dk_3 (dk_at dksJ17_vectorizedMismatch_0 8 rfl rfl)
theorem dJ17_vectorizedMismatch_9 : decode cJ17_vectorizedMismatch 9 = .ok (.istore 9, 2) := dk_54 9 (dk_at dksJ17_vectorizedMismatch_0 9 rfl rfl)
theorem dJ17_vectorizedMismatch_11 : decode cJ17_vectorizedMismatch 11 = .ok (.iload 9, 2) := dk_21 9 (dk_at dksJ17_vectorizedMismatch_0 11 rfl rfl)
theorem dJ17_vectorizedMismatch_13 : decode cJ17_vectorizedMismatch 13 = .ok (.iload 6, 2) := dk_21 6 (dk_at dksJ17_vectorizedMismatch_0 13 rfl rfl)
theorem dJ17_vectorizedMismatch_15 : decode cJ17_vectorizedMismatch 15 = .ok (.iload 8, 2) := dk_21 8 (dk_at dksJ17_vectorizedMismatch_0 15 rfl rfl)
theorem dJ17_vectorizedMismatch_17 : decode cJ17_vectorizedMismatch 17 = .ok (.ishr, 1) := dk_122 (dk_at dksJ17_vectorizedMismatch_0 17 rfl rfl)
theorem dJ17_vectorizedMismatch_18 : decode cJ17_vectorizedMismatch 18 = .ok (.if_icmp .ge 104, 3) := dk_162 0 104 (dk_at dksJ17_vectorizedMismatch_0 18 rfl rfl)
theorem dJ17_vectorizedMismatch_21 : decode cJ17_vectorizedMismatch 21 = .ok (.iload 9, 2) := dk_21 9 (dk_at dksJ17_vectorizedMismatch_0 21 rfl rfl)
theorem dJ17_vectorizedMismatch_23 : decode cJ17_vectorizedMismatch 23 = .ok (.i2l, 1) := dk_133 (dk_at dksJ17_vectorizedMismatch_0 23 rfl rfl)
theorem dJ17_vectorizedMismatch_24 : decode cJ17_vectorizedMismatch 24 = .ok (.getstatic 20, 3) := dk_178 0 20 (dk_at dksJ17_vectorizedMismatch_1 0 rfl rfl)
theorem dJ17_vectorizedMismatch_27 : decode cJ17_vectorizedMismatch 27 = .ok (.lshl, 1) := dk_121 (dk_at dksJ17_vectorizedMismatch_1 3 rfl rfl)
theorem dJ17_vectorizedMismatch_28 : decode cJ17_vectorizedMismatch 28 = .ok (.lstore 10, 2) := dk_55 10 (dk_at dksJ17_vectorizedMismatch_1 4 rfl rfl)
theorem dJ17_vectorizedMismatch_30 : decode cJ17_vectorizedMismatch 30 = .ok (.getstatic 26, 3) := dk_178 0 26 (dk_at dksJ17_vectorizedMismatch_1 6 rfl rfl)
theorem dJ17_vectorizedMismatch_33 : decode cJ17_vectorizedMismatch 33 = .ok (.aload_n 0, 1) := dk_42 (dk_at dksJ17_vectorizedMismatch_1 9 rfl rfl)
theorem dJ17_vectorizedMismatch_34 : decode cJ17_vectorizedMismatch 34 = .ok (.lload_n 1, 1) := dk_31 (dk_at dksJ17_vectorizedMismatch_1 10 rfl rfl)
theorem dJ17_vectorizedMismatch_35 : decode cJ17_vectorizedMismatch 35 = .ok (.lload 10, 2) := dk_22 10 (dk_at dksJ17_vectorizedMismatch_1 11 rfl rfl)
theorem dJ17_vectorizedMismatch_37 : decode cJ17_vectorizedMismatch 37 = .ok (.ladd, 1) := dk_97 (dk_at dksJ17_vectorizedMismatch_1 13 rfl rfl)
theorem dJ17_vectorizedMismatch_38 : decode cJ17_vectorizedMismatch 38 = .ok (.invokevirtual 30, 3) := dk_182 0 30 (dk_at dksJ17_vectorizedMismatch_1 14 rfl rfl)
theorem dJ17_vectorizedMismatch_41 : decode cJ17_vectorizedMismatch 41 = .ok (.lstore 12, 2) := dk_55 12 (dk_at dksJ17_vectorizedMismatch_1 17 rfl rfl)
theorem dJ17_vectorizedMismatch_43 : decode cJ17_vectorizedMismatch 43 = .ok (.getstatic 26, 3) := dk_178 0 26 (dk_at dksJ17_vectorizedMismatch_1 19 rfl rfl)
theorem dJ17_vectorizedMismatch_46 : decode cJ17_vectorizedMismatch 46 = .ok (.aload_n 3, 1) := dk_45 (dk_at dksJ17_vectorizedMismatch_1 22 rfl rfl)
theorem dJ17_vectorizedMismatch_47 : decode cJ17_vectorizedMismatch 47 = .ok (.lload 4, 2) := dk_22 4 (dk_at dksJ17_vectorizedMismatch_2 0 rfl rfl)
theorem dJ17_vectorizedMismatch_49 : decode cJ17_vectorizedMismatch 49 = .ok (.lload 10, 2) := dk_22 10 (dk_at dksJ17_vectorizedMismatch_2 2 rfl rfl)
theorem dJ17_vectorizedMismatch_51 : decode cJ17_vectorizedMismatch 51 = .ok (.ladd, 1) := dk_97 (dk_at dksJ17_vectorizedMismatch_2 4 rfl rfl)
theorem dJ17_vectorizedMismatch_52 : decode cJ17_vectorizedMismatch 52 = .ok (.invokevirtual 30, 3) := dk_182 0 30 (dk_at dksJ17_vectorizedMismatch_2 5 rfl rfl)
theorem dJ17_vectorizedMismatch_55 : decode cJ17_vectorizedMismatch 55 = .ok (.lstore 14, 2) := dk_55 14 (dk_at dksJ17_vectorizedMismatch_2 8 rfl rfl)
theorem dJ17_vectorizedMismatch_57 : decode cJ17_vectorizedMismatch 57 = .ok (.lload 12, 2) := dk_22 12 (dk_at dksJ17_vectorizedMismatch_2 10 rfl rfl)
theorem dJ17_vectorizedMismatch_59 : decode cJ17_vectorizedMismatch 59 = .ok (.lload 14, 2) := dk_22 14 (dk_at dksJ17_vectorizedMismatch_2 12 rfl rfl)
theorem dJ17_vectorizedMismatch_61 : decode cJ17_vectorizedMismatch 61 = .ok (.lcmp, 1) := dk_148 (dk_at dksJ17_vectorizedMismatch_2 14 rfl rfl)
theorem dJ17_vectorizedMismatch_62 : decode cJ17_vectorizedMismatch 62 = .ok (.ifCond .eq 54, 3) := dk_153 0 54 (dk_at dksJ17_vectorizedMismatch_2 15 rfl rfl)
theorem dJ17_vectorizedMismatch_65 : decode cJ17_vectorizedMismatch 65 = .ok (.lload 12, 2) := dk_22 12 (dk_at dksJ17_vectorizedMismatch_2 18 rfl rfl)
theorem dJ17_vectorizedMismatch_67 : decode cJ17_vectorizedMismatch 67 = .ok (.lload 14, 2) := dk_22 14 (dk_at dksJ17_vectorizedMismatch_2 20 rfl rfl)
theorem dJ17_vectorizedMismatch_69 : decode cJ17_vectorizedMismatch 69 = .ok (.lxor, 1) := dk_131 (dk_at dksJ17_vectorizedMismatch_2 22 rfl rfl)
theorem dJ17_vectorizedMismatch_70 : decode cJ17_vectorizedMismatch 70 = .ok (.lstore 16, 2) := dk_55 16 (dk_at dksJ17_vectorizedMismatch_3 0 rfl rfl)
theorem dJ17_vectorizedMismatch_72 : decode cJ17_vectorizedMismatch 72 = .ok (.getstatic 36, 3) := dk_178 0 36 (dk_at dksJ17_vectorizedMismatch_3 2 rfl rfl)
theorem dJ17_vectorizedMismatch_75 : decode cJ17_vectorizedMismatch 75 = .ok (.ifCond .eq 18, 3) := dk_153 0 18 (dk_at dksJ17_vectorizedMismatch_3 5 rfl rfl)
theorem dJ17_vectorizedMismatch_78 : decode cJ17_vectorizedMismatch 78 = .ok (.lload 16, 2) := dk_22 16 (dk_at dksJ17_vectorizedMismatch_3 8 rfl rfl)
theorem dJ17_vectorizedMismatch_80 : decode cJ17_vectorizedMismatch 80 = .ok (.invokestatic 40, 3) := dk_184 0 40 (dk_at dksJ17_vectorizedMismatch_3 10 rfl rfl)
theorem dJ17_vectorizedMismatch_83 : decode cJ17_vectorizedMismatch 83 = .ok (.getstatic 46, 3) := dk_178 0 46 (dk_at dksJ17_vectorizedMismatch_3 13 rfl rfl)
theorem dJ17_vectorizedMismatch_86 : decode cJ17_vectorizedMismatch 86 = .ok (.iload 7, 2) := dk_21 7 (dk_at dksJ17_vectorizedMismatch_3 16 rfl rfl)
theorem dJ17_vectorizedMismatch_88 : decode cJ17_vectorizedMismatch 88 = .ok (.iadd, 1) := dk_96 (dk_at dksJ17_vectorizedMismatch_3 18 rfl rfl)
theorem dJ17_vectorizedMismatch_89 : decode cJ17_vectorizedMismatch 89 = .ok (.ishr, 1) := dk_122 (dk_at dksJ17_vectorizedMismatch_3 19 rfl rfl)
theorem dJ17_vectorizedMismatch_90 : decode cJ17_vectorizedMismatch 90 = .ok (.goto 15, 3) := dk_167 0 15 (dk_at dksJ17_vectorizedMismatch_3 20 rfl rfl)
theorem dJ17_vectorizedMismatch_93 : decode cJ17_vectorizedMismatch 93 = .ok (.lload 16, 2) := dk_22 16 (dk_at dksJ17_vectorizedMismatch_4 0 rfl rfl)
theorem dJ17_vectorizedMismatch_95 : decode cJ17_vectorizedMismatch 95 = .ok (.invokestatic 49, 3) := dk_184 0 49 (dk_at dksJ17_vectorizedMismatch_4 2 rfl rfl)
theorem dJ17_vectorizedMismatch_98 : decode cJ17_vectorizedMismatch 98 = .ok (.getstatic 46, 3) := dk_178 0 46 (dk_at dksJ17_vectorizedMismatch_4 5 rfl rfl)
theorem dJ17_vectorizedMismatch_101 : decode cJ17_vectorizedMismatch 101 = .ok (.iload 7, 2) := dk_21 7 (dk_at dksJ17_vectorizedMismatch_4 8 rfl rfl)
theorem dJ17_vectorizedMismatch_103 : decode cJ17_vectorizedMismatch 103 = .ok (.iadd, 1) := dk_96 (dk_at dksJ17_vectorizedMismatch_4 10 rfl rfl)
theorem dJ17_vectorizedMismatch_104 : decode cJ17_vectorizedMismatch 104 = .ok (.ishr, 1) := dk_122 (dk_at dksJ17_vectorizedMismatch_4 11 rfl rfl)
theorem dJ17_vectorizedMismatch_105 : decode cJ17_vectorizedMismatch 105 = .ok (.istore 18, 2) := dk_54 18 (dk_at dksJ17_vectorizedMismatch_4 12 rfl rfl)
theorem dJ17_vectorizedMismatch_107 : decode cJ17_vectorizedMismatch 107 = .ok (.iload 9, 2) := dk_21 9 (dk_at dksJ17_vectorizedMismatch_4 14 rfl rfl)
theorem dJ17_vectorizedMismatch_109 : decode cJ17_vectorizedMismatch 109 = .ok (.iload 8, 2) := dk_21 8 (dk_at dksJ17_vectorizedMismatch_4 16 rfl rfl)
theorem dJ17_vectorizedMismatch_111 : decode cJ17_vectorizedMismatch 111 = .ok (.ishl, 1) := dk_120 (dk_at dksJ17_vectorizedMismatch_4 18 rfl rfl)
theorem dJ17_vectorizedMismatch_112 : decode cJ17_vectorizedMismatch 112 = .ok (.iload 18, 2) := dk_21 18 (dk_at dksJ17_vectorizedMismatch_4 19 rfl rfl)
theorem dJ17_vectorizedMismatch_114 : decode cJ17_vectorizedMismatch 114 = .ok (.iadd, 1) := dk_96 (dk_at dksJ17_vectorizedMismatch_4 21 rfl rfl)
theorem dJ17_vectorizedMismatch_115 : decode cJ17_vectorizedMismatch 115 = .ok (.ireturn, 1) := dk_172 (dk_at dksJ17_vectorizedMismatch_4 22 rfl rfl)
theorem dJ17_vectorizedMismatch_116 : decode cJ17_vectorizedMismatch 116 = .ok (.iinc 9 1, 3) := dk_132 9 1 (dk_at dksJ17_vectorizedMismatch_5 0 rfl rfl)
theorem dJ17_vectorizedMismatch_119 : decode cJ17_vectorizedMismatch 119 = .ok (.goto (-108), 3) := dk_167 255 148 (dk_at dksJ17_vectorizedMismatch_5 3 rfl rfl)
theorem dJ17_vectorizedMismatch_122 : decode cJ17_vectorizedMismatch 122 = .ok (.iload 6, 2) := dk_21 6 (dk_at dksJ17_vectorizedMismatch_5 6 rfl rfl)
theorem dJ17_vectorizedMismatch_124 : decode cJ17_vectorizedMismatch 124 = .ok (.iload 9, 2) := dk_21 9 (dk_at dksJ17_vectorizedMismatch_5 8 rfl rfl)
theorem dJ17_vectorizedMismatch_126 : decode cJ17_vectorizedMismatch 126 = .ok (.iload 8, 2) := dk_21 8 (dk_at dksJ17_vectorizedMismatch_5 10 rfl rfl)
theorem dJ17_vectorizedMismatch_128 : decode cJ17_vectorizedMismatch 128 = .ok (.ishl, 1) := dk_120 (dk_at dksJ17_vectorizedMismatch_5 12 rfl rfl)
theorem dJ17_vectorizedMismatch_129 : decode cJ17_vectorizedMismatch 129 = .ok (.isub, 1) := dk_100 (dk_at dksJ17_vectorizedMismatch_5 13 rfl rfl)
theorem dJ17_vectorizedMismatch_130 : decode cJ17_vectorizedMismatch 130 = .ok (.istore 10, 2) := dk_54 10 (dk_at dksJ17_vectorizedMismatch_5 14 rfl rfl)
theorem dJ17_vectorizedMismatch_132 : decode cJ17_vectorizedMismatch 132 = .ok (.iload 7, 2) := dk_21 7 (dk_at dksJ17_vectorizedMismatch_5 16 rfl rfl)
theorem dJ17_vectorizedMismatch_134 : decode cJ17_vectorizedMismatch 134 = .ok (.getstatic 51, 3) := dk_178 0 51 (dk_at dksJ17_vectorizedMismatch_5 18 rfl rfl)
theorem dJ17_vectorizedMismatch_137 : decode cJ17_vectorizedMismatch 137 = .ok (.if_icmp .ge 126, 3) := dk_162 0 126 (dk_at dksJ17_vectorizedMismatch_5 21 rfl rfl)
theorem dJ17_vectorizedMismatch_140 : decode cJ17_vectorizedMismatch 140 = .ok (.iconst 1, 1) := dk_4 (dk_at dksJ17_vectorizedMismatch_6 0 rfl rfl)
theorem dJ17_vectorizedMismatch_141 : decode cJ17_vectorizedMismatch 141 = .ok (.getstatic 51, 3) := dk_178 0 51 (dk_at dksJ17_vectorizedMismatch_6 1 rfl rfl)
theorem dJ17_vectorizedMismatch_144 : decode cJ17_vectorizedMismatch 144 = .ok (.iload 7, 2) := dk_21 7 (dk_at dksJ17_vectorizedMismatch_6 4 rfl rfl)
theorem dJ17_vectorizedMismatch_146 : decode cJ17_vectorizedMismatch 146 = .ok (.isub, 1) := dk_100 (dk_at dksJ17_vectorizedMismatch_6 6 rfl rfl)
theorem dJ17_vectorizedMismatch_147 : decode cJ17_vectorizedMismatch 147 = .ok (.ishl, 1) := dk_120 (dk_at dksJ17_vectorizedMismatch_6 7 rfl rfl)
theorem dJ17_vectorizedMismatch_148 : decode cJ17_vectorizedMismatch 148 = .ok (.istore 11, 2) := dk_54 11 (dk_at dksJ17_vectorizedMismatch_6 8 rfl rfl)
theorem dJ17_vectorizedMismatch_150 : decode cJ17_vectorizedMismatch 150 = .ok (.iload 10, 2) := dk_21 10 (dk_at dksJ17_vectorizedMismatch_6 10 rfl rfl)
theorem dJ17_vectorizedMismatch_152 : decode cJ17_vectorizedMismatch 152 = .ok (.iload 11, 2) := dk_21 11 (dk_at dksJ17_vectorizedMismatch_6 12 rfl rfl)
theorem dJ17_vectorizedMismatch_154 : decode cJ17_vectorizedMismatch 154 = .ok (.if_icmp .lt 104, 3) := dk_161 0 104 (dk_at dksJ17_vectorizedMismatch_6 14 rfl rfl)
theorem dJ17_vectorizedMismatch_157 : decode cJ17_vectorizedMismatch 157 = .ok (.iload 9, 2) := dk_21 9 (dk_at dksJ17_vectorizedMismatch_6 17 rfl rfl)
theorem dJ17_vectorizedMismatch_159 : decode cJ17_vectorizedMismatch 159 = .ok (.i2l, 1) := dk_133 (dk_at dksJ17_vectorizedMismatch_6 19 rfl rfl)
theorem dJ17_vectorizedMismatch_160 : decode cJ17_vectorizedMismatch 160 = .ok (.getstatic 20, 3) := dk_178 0 20 (dk_at dksJ17_vectorizedMismatch_6 20 rfl rfl)
theorem dJ17_vectorizedMismatch_163 : decode cJ17_vectorizedMismatch 163 = .ok (.lshl, 1) := dk_121 (dk_at dksJ17_vectorizedMismatch_6 23 rfl rfl)
theorem dJ17_vectorizedMismatch_164 : decode cJ17_vectorizedMismatch 164 = .ok (.lstore 12, 2) := dk_55 12 (dk_at dksJ17_vectorizedMismatch_7 0 rfl rfl)
theorem dJ17_vectorizedMismatch_166 : decode cJ17_vectorizedMismatch 166 = .ok (.getstatic 26, 3) := dk_178 0 26 (dk_at dksJ17_vectorizedMismatch_7 2 rfl rfl)
theorem dJ17_vectorizedMismatch_169 : decode cJ17_vectorizedMismatch 169 = .ok (.aload_n 0, 1) := dk_42 (dk_at dksJ17_vectorizedMismatch_7 5 rfl rfl)
theorem dJ17_vectorizedMismatch_170 : decode cJ17_vectorizedMismatch 170 = .ok (.lload_n 1, 1) := dk_31 (dk_at dksJ17_vectorizedMismatch_7 6 rfl rfl)
theorem dJ17_vectorizedMismatch_171 : decode cJ17_vectorizedMismatch 171 = .ok (.lload 12, 2) := dk_22 12 (dk_at dksJ17_vectorizedMismatch_7 7 rfl rfl)
theorem dJ17_vectorizedMismatch_173 : decode cJ17_vectorizedMismatch 173 = .ok (.ladd, 1) := dk_97 (dk_at dksJ17_vectorizedMismatch_7 9 rfl rfl)
theorem dJ17_vectorizedMismatch_174 : decode cJ17_vectorizedMismatch 174 = .ok (.invokevirtual 54, 3) := dk_182 0 54 (dk_at dksJ17_vectorizedMismatch_7 10 rfl rfl)
theorem dJ17_vectorizedMismatch_177 : decode cJ17_vectorizedMismatch 177 = .ok (.istore 14, 2) := dk_54 14 (dk_at dksJ17_vectorizedMismatch_7 13 rfl rfl)
theorem dJ17_vectorizedMismatch_179 : decode cJ17_vectorizedMismatch 179 = .ok (.getstatic 26, 3) := dk_178 0 26 (dk_at dksJ17_vectorizedMismatch_7 15 rfl rfl)
theorem dJ17_vectorizedMismatch_182 : decode cJ17_vectorizedMismatch 182 = .ok (.aload_n 3, 1) := dk_45 (dk_at dksJ17_vectorizedMismatch_7 18 rfl rfl)
theorem dJ17_vectorizedMismatch_183 : decode cJ17_vectorizedMismatch 183 = .ok (.lload 4, 2) := dk_22 4 (dk_at dksJ17_vectorizedMismatch_7 19 rfl rfl)
theorem dJ17_vectorizedMismatch_185 : decode cJ17_vectorizedMismatch 185 = .ok (.lload 12, 2) := dk_22 12 (dk_at dksJ17_vectorizedMismatch_7 21 rfl rfl)
theorem dJ17_vectorizedMismatch_187 : decode cJ17_vectorizedMismatch 187 = .ok (.ladd, 1) := dk_97 (dk_at dksJ17_vectorizedMismatch_7 23 rfl rfl)
theorem dJ17_vectorizedMismatch_188 : decode cJ17_vectorizedMismatch 188 = .ok (.invokevirtual 54, 3) := dk_182 0 54 (dk_at dksJ17_vectorizedMismatch_8 0 rfl rfl)
theorem dJ17_vectorizedMismatch_191 : decode cJ17_vectorizedMismatch 191 = .ok (.istore 15, 2) := dk_54 15 (dk_at dksJ17_vectorizedMismatch_8 3 rfl rfl)
theorem dJ17_vectorizedMismatch_193 : decode cJ17_vectorizedMismatch 193 = .ok (.iload 14, 2) := dk_21 14 (dk_at dksJ17_vectorizedMismatch_8 5 rfl rfl)
theorem dJ17_vectorizedMismatch_195 : decode cJ17_vectorizedMismatch 195 = .ok (.iload 15, 2) := dk_21 15 (dk_at dksJ17_vectorizedMismatch_8 7 rfl rfl)
theorem dJ17_vectorizedMismatch_197 : decode cJ17_vectorizedMismatch 197 = .ok (.if_icmp .eq 54, 3) := dk_159 0 54 (dk_at dksJ17_vectorizedMismatch_8 9 rfl rfl)
theorem dJ17_vectorizedMismatch_200 : decode cJ17_vectorizedMismatch 200 = .ok (.iload 14, 2) := dk_21 14 (dk_at dksJ17_vectorizedMismatch_8 12 rfl rfl)
theorem dJ17_vectorizedMismatch_202 : decode cJ17_vectorizedMismatch 202 = .ok (.iload 15, 2) := dk_21 15 (dk_at dksJ17_vectorizedMismatch_8 14 rfl rfl)
theorem dJ17_vectorizedMismatch_204 : decode cJ17_vectorizedMismatch 204 = .ok (.ixor, 1) := dk_130 (dk_at dksJ17_vectorizedMismatch_8 16 rfl rfl)
theorem dJ17_vectorizedMismatch_205 : decode cJ17_vectorizedMismatch 205 = .ok (.istore 16, 2) := dk_54 16 (dk_at dksJ17_vectorizedMismatch_8 17 rfl rfl)
theorem dJ17_vectorizedMismatch_207 : decode cJ17_vectorizedMismatch 207 = .ok (.getstatic 36, 3) := dk_178 0 36 (dk_at dksJ17_vectorizedMismatch_8 19 rfl rfl)
theorem dJ17_vectorizedMismatch_210 : decode cJ17_vectorizedMismatch 210 = .ok (.ifCond .eq 18, 3) := dk_153 0 18 (dk_at dksJ17_vectorizedMismatch_9 0 rfl rfl)
theorem dJ17_vectorizedMismatch_213 : decode cJ17_vectorizedMismatch 213 = .ok (.iload 16, 2) := dk_21 16 (dk_at dksJ17_vectorizedMismatch_9 3 rfl rfl)
theorem dJ17_vectorizedMismatch_215 : decode cJ17_vectorizedMismatch 215 = .ok (.invokestatic 58, 3) := dk_184 0 58 (dk_at dksJ17_vectorizedMismatch_9 5 rfl rfl)
theorem dJ17_vectorizedMismatch_218 : decode cJ17_vectorizedMismatch 218 = .ok (.getstatic 46, 3) := dk_178 0 46 (dk_at dksJ17_vectorizedMismatch_9 8 rfl rfl)
theorem dJ17_vectorizedMismatch_221 : decode cJ17_vectorizedMismatch 221 = .ok (.iload 7, 2) := dk_21 7 (dk_at dksJ17_vectorizedMismatch_9 11 rfl rfl)
theorem dJ17_vectorizedMismatch_223 : decode cJ17_vectorizedMismatch 223 = .ok (.iadd, 1) := dk_96 (dk_at dksJ17_vectorizedMismatch_9 13 rfl rfl)
theorem dJ17_vectorizedMismatch_224 : decode cJ17_vectorizedMismatch 224 = .ok (.ishr, 1) := dk_122 (dk_at dksJ17_vectorizedMismatch_9 14 rfl rfl)
theorem dJ17_vectorizedMismatch_225 : decode cJ17_vectorizedMismatch 225 = .ok (.goto 15, 3) := dk_167 0 15 (dk_at dksJ17_vectorizedMismatch_9 15 rfl rfl)
theorem dJ17_vectorizedMismatch_228 : decode cJ17_vectorizedMismatch 228 = .ok (.iload 16, 2) := dk_21 16 (dk_at dksJ17_vectorizedMismatch_9 18 rfl rfl)
theorem dJ17_vectorizedMismatch_230 : decode cJ17_vectorizedMismatch 230 = .ok (.invokestatic 11, 3) := dk_184 0 11 (dk_at dksJ17_vectorizedMismatch_9 20 rfl rfl)
theorem dJ17_vectorizedMismatch_233 : decode cJ17_vectorizedMismatch 233 = .ok (.getstatic 46, 3) := dk_178 0 46 (dk_at dksJ17_vectorizedMismatch_10 0 rfl rfl)
theorem dJ17_vectorizedMismatch_236 : decode cJ17_vectorizedMismatch 236 = .ok (.iload 7, 2) := dk_21 7 (dk_at dksJ17_vectorizedMismatch_10 3 rfl rfl)
theorem dJ17_vectorizedMismatch_238 : decode cJ17_vectorizedMismatch 238 = .ok (.iadd, 1) := dk_96 (dk_at dksJ17_vectorizedMismatch_10 5 rfl rfl)
theorem dJ17_vectorizedMismatch_239 : decode cJ17_vectorizedMismatch 239 = .ok (.ishr, 1) := dk_122 (dk_at dksJ17_vectorizedMismatch_10 6 rfl rfl)
theorem dJ17_vectorizedMismatch_240 : decode cJ17_vectorizedMismatch 240 = .ok (.istore 17, 2) := dk_54 17 (dk_at dksJ17_vectorizedMismatch_10 7 rfl rfl)
theorem dJ17_vectorizedMismatch_242 : decode cJ17_vectorizedMismatch 242 = .ok (.iload 9, 2) := dk_21 9 (dk_at dksJ17_vectorizedMismatch_10 9 rfl rfl)
theorem dJ17_vectorizedMismatch_244 : decode cJ17_vectorizedMismatch 244 = .ok (.iload 8, 2) := dk_21 8 (dk_at dksJ17_vectorizedMismatch_10 11 rfl rfl)
theorem dJ17_vectorizedMismatch_246 : decode cJ17_vectorizedMismatch 246 = .ok (.ishl, 1) := dk_120 (dk_at dksJ17_vectorizedMismatch_10 13 rfl rfl)
theorem dJ17_vectorizedMismatch_247 : decode cJ17_vectorizedMismatch 247 = .ok (.iload 17, 2) := dk_21 17 (dk_at dksJ17_vectorizedMismatch_10 14 rfl rfl)
theorem dJ17_vectorizedMismatch_249 : decode cJ17_vectorizedMismatch 249 = .ok (.iadd, 1) := dk_96 (dk_at dksJ17_vectorizedMismatch_10 16 rfl rfl)
theorem dJ17_vectorizedMismatch_250 : decode cJ17_vectorizedMismatch 250 = .ok (.ireturn, 1) := dk_172 (dk_at dksJ17_vectorizedMismatch_10 17 rfl rfl)
theorem dJ17_vectorizedMismatch_251 : decode cJ17_vectorizedMismatch 251 = .ok (.iload 10, 2) := dk_21 10 (dk_at dksJ17_vectorizedMismatch_10 18 rfl rfl)
theorem dJ17_vectorizedMismatch_253 : decode cJ17_vectorizedMismatch 253 = .ok (.iload 11, 2) := dk_21 11 (dk_at dksJ17_vectorizedMismatch_10 20 rfl rfl)
theorem dJ17_vectorizedMismatch_255 : decode cJ17_vectorizedMismatch 255 = .ok (.isub, 1) := dk_100 (dk_at dksJ17_vectorizedMismatch_10 22 rfl rfl)
theorem dJ17_vectorizedMismatch_256 : decode cJ17_vectorizedMismatch 256 = .ok (.istore 10, 2) := dk_54 10 (dk_at dksJ17_vectorizedMismatch_11 0 rfl rfl)
theorem dJ17_vectorizedMismatch_258 : decode cJ17_vectorizedMismatch 258 = .ok (.iload 10, 2) := dk_21 10 (dk_at dksJ17_vectorizedMismatch_11 2 rfl rfl)
theorem dJ17_vectorizedMismatch_260 : decode cJ17_vectorizedMismatch 260 = .ok (.iconst (-1), 1) := dk_2 (dk_at dksJ17_vectorizedMismatch_11 4 rfl rfl)
theorem dJ17_vectorizedMismatch_261 : decode cJ17_vectorizedMismatch 261 = .ok (.ixor, 1) := dk_130 (dk_at dksJ17_vectorizedMismatch_11 5 rfl rfl)
theorem dJ17_vectorizedMismatch_262 : decode cJ17_vectorizedMismatch 262 = .ok (.ireturn, 1) := dk_172 (dk_at dksJ17_vectorizedMismatch_11 6 rfl rfl)
theorem dJ17_vectorizedMismatch_263 : decode cJ17_vectorizedMismatch 263 = .ok (.iload 10, 2) := dk_21 10 (dk_at dksJ17_vectorizedMismatch_11 7 rfl rfl)
theorem dJ17_vectorizedMismatch_265 : decode cJ17_vectorizedMismatch 265 = .ok (.iconst (-1), 1) := dk_2 (dk_at dksJ17_vectorizedMismatch_11 9 rfl rfl)
theorem dJ17_vectorizedMismatch_266 : decode cJ17_vectorizedMismatch 266 = .ok (.ixor, 1) := dk_130 (dk_at dksJ17_vectorizedMismatch_11 10 rfl rfl)
theorem dJ17_vectorizedMismatch_267 : decode cJ17_vectorizedMismatch 267 = .ok (.ireturn, 1) := dk_172 (dk_at dksJ17_vectorizedMismatch_11 11 rfl rfl)
abbrev cJ17_vectorizedHashCode : ByteArray := prog_102_method_4_code
def yJ17_vectorizedHashCode : MethodName := ⟨RJ17, "vectorizedHashCode", "(Ljava/lang/Object;IIII)I"⟩
def dkwJ17_vectorizedHashCode_6 : List UInt8 := [183, 0, 91, 18, 92, 182, 0, 94, 21, 4, 182, 0, 98, 182, 0, 101, 183, 0, 105, 191, 172]
abbrev dktJ17_vectorizedHashCode_6 : List UInt8 := dkwJ17_vectorizedHashCode_6 ++ []
def dkwJ17_vectorizedHashCode_5 : List UInt8 := [167, 0, 44, 29, 42, 192, 0, 82, 27, 28, 184, 0, 84, 167, 0, 31, 187, 0, 87, 89, 187, 0, 89, 89]
abbrev dktJ17_vectorizedHashCode_5 : List UInt8 := dkwJ17_vectorizedHashCode_5 ++ dktJ17_vectorizedHashCode_6
def dkwJ17_vectorizedHashCode_4 : List UInt8 := [29, 42, 192, 0, 60, 27, 28, 184, 0, 75, 167, 0, 57, 29, 42, 192, 0, 77, 27, 28, 184, 0, 79]
abbrev dktJ17_vectorizedHashCode_4 : List UInt8 := dkwJ17_vectorizedHashCode_4 ++ dktJ17_vectorizedHashCode_5
def dkwJ17_vectorizedHashCode_3 : List UInt8 := [192, 0, 60, 27, 28, 184, 0, 66, 167, 0, 83, 29, 42, 192, 0, 69, 27, 28, 184, 0, 71, 167, 0, 70]
abbrev dktJ17_vectorizedHashCode_3 : List UInt8 := dkwJ17_vectorizedHashCode_3 ++ dktJ17_vectorizedHashCode_4
def dkwJ17_vectorizedHashCode_2 : List UInt8 := [29, 42, 192, 0, 60, 27, 28, 184, 0, 62, 167, 0, 103, 42, 193, 0, 60, 153, 0, 16, 29, 42]
abbrev dktJ17_vectorizedHashCode_2 : List UInt8 := dkwJ17_vectorizedHashCode_2 ++ dktJ17_vectorizedHashCode_3
def dkwJ17_vectorizedHashCode_1 : List UInt8 := [170, 0, 0, 0, 0, 127, 0, 0, 0, 4, 0, 0, 0, 10, 0, 0, 0, 42, 0, 0, 0, 55, 0, 0, 0, 127, 0, 0, 0, 127, 0, 0, 0, 88, 0, 0, 0, 101, 0, 0, 0, 114]
abbrev dktJ17_vectorizedHashCode_1 : List UInt8 := dkwJ17_vectorizedHashCode_1 ++ dktJ17_vectorizedHashCode_2
def dkwJ17_vectorizedHashCode_0 : List UInt8 := [21, 4]
abbrev dktJ17_vectorizedHashCode_0 : List UInt8 := dkwJ17_vectorizedHashCode_0 ++ dktJ17_vectorizedHashCode_1
theorem dksJ17_vectorizedHashCode_0 : cJ17_vectorizedHashCode.data.toList.drop 0 = dktJ17_vectorizedHashCode_0 := by decide +kernel
theorem dksJ17_vectorizedHashCode_1 : cJ17_vectorizedHashCode.data.toList.drop 2 = dktJ17_vectorizedHashCode_1 := dk_seg dksJ17_vectorizedHashCode_0 2 rfl rfl
theorem dksJ17_vectorizedHashCode_2 : cJ17_vectorizedHashCode.data.toList.drop 44 = dktJ17_vectorizedHashCode_2 := dk_seg dksJ17_vectorizedHashCode_1 42 rfl rfl
theorem dksJ17_vectorizedHashCode_3 : cJ17_vectorizedHashCode.data.toList.drop 66 = dktJ17_vectorizedHashCode_3 := dk_seg dksJ17_vectorizedHashCode_2 22 rfl rfl
theorem dksJ17_vectorizedHashCode_4 : cJ17_vectorizedHashCode.data.toList.drop 90 = dktJ17_vectorizedHashCode_4 := dk_seg dksJ17_vectorizedHashCode_3 24 rfl rfl
theorem dksJ17_vectorizedHashCode_5 : cJ17_vectorizedHashCode.data.toList.drop 113 = dktJ17_vectorizedHashCode_5 := dk_seg dksJ17_vectorizedHashCode_4 23 rfl rfl
theorem dksJ17_vectorizedHashCode_6 : cJ17_vectorizedHashCode.data.toList.drop 137 = dktJ17_vectorizedHashCode_6 := dk_seg dksJ17_vectorizedHashCode_5 24 rfl rfl
theorem dJ17_vectorizedHashCode_0 : decode cJ17_vectorizedHashCode 0 = .ok (.iload 4, 2) := dk_21 4 (dk_at dksJ17_vectorizedHashCode_0 0 rfl rfl)
theorem dJ17_vectorizedHashCode_2 : decode cJ17_vectorizedHashCode 2 = .ok (.tableswitch 127 4 10 #[42, 55, 127, 127, 88, 101, 114], 42) := by decide +kernel
theorem dJ17_vectorizedHashCode_44 : decode cJ17_vectorizedHashCode 44 = .ok (.iload_n 3, 1) := dk_29 (dk_at dksJ17_vectorizedHashCode_2 0 rfl rfl)
theorem dJ17_vectorizedHashCode_45 : decode cJ17_vectorizedHashCode 45 = .ok (.aload_n 0, 1) := dk_42 (dk_at dksJ17_vectorizedHashCode_2 1 rfl rfl)
theorem dJ17_vectorizedHashCode_46 : decode cJ17_vectorizedHashCode 46 = .ok (.checkcast 60, 3) := dk_192 0 60 (dk_at dksJ17_vectorizedHashCode_2 2 rfl rfl)
theorem dJ17_vectorizedHashCode_49 : decode cJ17_vectorizedHashCode 49 = .ok (.iload_n 1, 1) := dk_27 (dk_at dksJ17_vectorizedHashCode_2 5 rfl rfl)
theorem dJ17_vectorizedHashCode_50 : decode cJ17_vectorizedHashCode 50 = .ok (.iload_n 2, 1) := dk_28 (dk_at dksJ17_vectorizedHashCode_2 6 rfl rfl)
theorem dJ17_vectorizedHashCode_51 : decode cJ17_vectorizedHashCode 51 = .ok (.invokestatic 62, 3) := dk_184 0 62 (dk_at dksJ17_vectorizedHashCode_2 7 rfl rfl)
theorem dJ17_vectorizedHashCode_54 : decode cJ17_vectorizedHashCode 54 = .ok (.goto 103, 3) := dk_167 0 103 (dk_at dksJ17_vectorizedHashCode_2 10 rfl rfl)
theorem dJ17_vectorizedHashCode_57 : decode cJ17_vectorizedHashCode 57 = .ok (.aload_n 0, 1) := dk_42 (dk_at dksJ17_vectorizedHashCode_2 13 rfl rfl)
theorem dJ17_vectorizedHashCode_58 : decode cJ17_vectorizedHashCode 58 = .ok (.instanceof 60, 3) := dk_193 0 60 (dk_at dksJ17_vectorizedHashCode_2 14 rfl rfl)
theorem dJ17_vectorizedHashCode_61 : decode cJ17_vectorizedHashCode 61 = .ok (.ifCond .eq 16, 3) := dk_153 0 16 (dk_at dksJ17_vectorizedHashCode_2 17 rfl rfl)
theorem dJ17_vectorizedHashCode_64 : decode cJ17_vectorizedHashCode 64 = .ok (.iload_n 3, 1) := dk_29 (dk_at dksJ17_vectorizedHashCode_2 20 rfl rfl)
theorem dJ17_vectorizedHashCode_65 : decode cJ17_vectorizedHashCode 65 = .ok (.aload_n 0, 1) := dk_42 (dk_at dksJ17_vectorizedHashCode_2 21 rfl rfl)
theorem dJ17_vectorizedHashCode_66 : decode cJ17_vectorizedHashCode 66 = .ok (.checkcast 60, 3) := dk_192 0 60 (dk_at dksJ17_vectorizedHashCode_3 0 rfl rfl)
theorem dJ17_vectorizedHashCode_69 : decode cJ17_vectorizedHashCode 69 = .ok (.iload_n 1, 1) := dk_27 (dk_at dksJ17_vectorizedHashCode_3 3 rfl rfl)
theorem dJ17_vectorizedHashCode_70 : decode cJ17_vectorizedHashCode 70 = .ok (.iload_n 2, 1) := dk_28 (dk_at dksJ17_vectorizedHashCode_3 4 rfl rfl)
theorem dJ17_vectorizedHashCode_71 : decode cJ17_vectorizedHashCode 71 = .ok (.invokestatic 66, 3) := dk_184 0 66 (dk_at dksJ17_vectorizedHashCode_3 5 rfl rfl)
theorem dJ17_vectorizedHashCode_74 : decode cJ17_vectorizedHashCode 74 = .ok (.goto 83, 3) := dk_167 0 83 (dk_at dksJ17_vectorizedHashCode_3 8 rfl rfl)
theorem dJ17_vectorizedHashCode_77 : decode cJ17_vectorizedHashCode 77 = .ok (.iload_n 3, 1) := dk_29 (dk_at dksJ17_vectorizedHashCode_3 11 rfl rfl)
theorem dJ17_vectorizedHashCode_78 : decode cJ17_vectorizedHashCode 78 = .ok (.aload_n 0, 1) := dk_42 (dk_at dksJ17_vectorizedHashCode_3 12 rfl rfl)
theorem dJ17_vectorizedHashCode_79 : decode cJ17_vectorizedHashCode 79 = .ok (.checkcast 69, 3) := dk_192 0 69 (dk_at dksJ17_vectorizedHashCode_3 13 rfl rfl)
theorem dJ17_vectorizedHashCode_82 : decode cJ17_vectorizedHashCode 82 = .ok (.iload_n 1, 1) := dk_27 (dk_at dksJ17_vectorizedHashCode_3 16 rfl rfl)
theorem dJ17_vectorizedHashCode_83 : decode cJ17_vectorizedHashCode 83 = .ok (.iload_n 2, 1) := dk_28 (dk_at dksJ17_vectorizedHashCode_3 17 rfl rfl)
theorem dJ17_vectorizedHashCode_84 : decode cJ17_vectorizedHashCode 84 = .ok (.invokestatic 71, 3) := dk_184 0 71 (dk_at dksJ17_vectorizedHashCode_3 18 rfl rfl)
theorem dJ17_vectorizedHashCode_87 : decode cJ17_vectorizedHashCode 87 = .ok (.goto 70, 3) := dk_167 0 70 (dk_at dksJ17_vectorizedHashCode_3 21 rfl rfl)
theorem dJ17_vectorizedHashCode_90 : decode cJ17_vectorizedHashCode 90 = .ok (.iload_n 3, 1) := dk_29 (dk_at dksJ17_vectorizedHashCode_4 0 rfl rfl)
theorem dJ17_vectorizedHashCode_91 : decode cJ17_vectorizedHashCode 91 = .ok (.aload_n 0, 1) := dk_42 (dk_at dksJ17_vectorizedHashCode_4 1 rfl rfl)
theorem dJ17_vectorizedHashCode_92 : decode cJ17_vectorizedHashCode 92 = .ok (.checkcast 60, 3) := dk_192 0 60 (dk_at dksJ17_vectorizedHashCode_4 2 rfl rfl)
theorem dJ17_vectorizedHashCode_95 : decode cJ17_vectorizedHashCode 95 = .ok (.iload_n 1, 1) := dk_27 (dk_at dksJ17_vectorizedHashCode_4 5 rfl rfl)
theorem dJ17_vectorizedHashCode_96 : decode cJ17_vectorizedHashCode 96 = .ok (.iload_n 2, 1) := dk_28 (dk_at dksJ17_vectorizedHashCode_4 6 rfl rfl)
theorem dJ17_vectorizedHashCode_97 : decode cJ17_vectorizedHashCode 97 = .ok (.invokestatic 75, 3) := dk_184 0 75 (dk_at dksJ17_vectorizedHashCode_4 7 rfl rfl)
theorem dJ17_vectorizedHashCode_100 : decode cJ17_vectorizedHashCode 100 = .ok (.goto 57, 3) := dk_167 0 57 (dk_at dksJ17_vectorizedHashCode_4 10 rfl rfl)
theorem dJ17_vectorizedHashCode_103 : decode cJ17_vectorizedHashCode 103 = .ok (.iload_n 3, 1) := dk_29 (dk_at dksJ17_vectorizedHashCode_4 13 rfl rfl)
theorem dJ17_vectorizedHashCode_104 : decode cJ17_vectorizedHashCode 104 = .ok (.aload_n 0, 1) := dk_42 (dk_at dksJ17_vectorizedHashCode_4 14 rfl rfl)
theorem dJ17_vectorizedHashCode_105 : decode cJ17_vectorizedHashCode 105 = .ok (.checkcast 77, 3) := dk_192 0 77 (dk_at dksJ17_vectorizedHashCode_4 15 rfl rfl)
theorem dJ17_vectorizedHashCode_108 : decode cJ17_vectorizedHashCode 108 = .ok (.iload_n 1, 1) := dk_27 (dk_at dksJ17_vectorizedHashCode_4 18 rfl rfl)
theorem dJ17_vectorizedHashCode_109 : decode cJ17_vectorizedHashCode 109 = .ok (.iload_n 2, 1) := dk_28 (dk_at dksJ17_vectorizedHashCode_4 19 rfl rfl)
theorem dJ17_vectorizedHashCode_110 : decode cJ17_vectorizedHashCode 110 = .ok (.invokestatic 79, 3) := dk_184 0 79 (dk_at dksJ17_vectorizedHashCode_4 20 rfl rfl)
theorem dJ17_vectorizedHashCode_113 : decode cJ17_vectorizedHashCode 113 = .ok (.goto 44, 3) := dk_167 0 44 (dk_at dksJ17_vectorizedHashCode_5 0 rfl rfl)
theorem dJ17_vectorizedHashCode_116 : decode cJ17_vectorizedHashCode 116 = .ok (.iload_n 3, 1) := dk_29 (dk_at dksJ17_vectorizedHashCode_5 3 rfl rfl)
theorem dJ17_vectorizedHashCode_117 : decode cJ17_vectorizedHashCode 117 = .ok (.aload_n 0, 1) := dk_42 (dk_at dksJ17_vectorizedHashCode_5 4 rfl rfl)
theorem dJ17_vectorizedHashCode_118 : decode cJ17_vectorizedHashCode 118 = .ok (.checkcast 82, 3) := dk_192 0 82 (dk_at dksJ17_vectorizedHashCode_5 5 rfl rfl)
theorem dJ17_vectorizedHashCode_121 : decode cJ17_vectorizedHashCode 121 = .ok (.iload_n 1, 1) := dk_27 (dk_at dksJ17_vectorizedHashCode_5 8 rfl rfl)
theorem dJ17_vectorizedHashCode_122 : decode cJ17_vectorizedHashCode 122 = .ok (.iload_n 2, 1) := dk_28 (dk_at dksJ17_vectorizedHashCode_5 9 rfl rfl)
theorem dJ17_vectorizedHashCode_123 : decode cJ17_vectorizedHashCode 123 = .ok (.invokestatic 84, 3) := dk_184 0 84 (dk_at dksJ17_vectorizedHashCode_5 10 rfl rfl)
theorem dJ17_vectorizedHashCode_126 : decode cJ17_vectorizedHashCode 126 = .ok (.goto 31, 3) := dk_167 0 31 (dk_at dksJ17_vectorizedHashCode_5 13 rfl rfl)
theorem dJ17_vectorizedHashCode_129 : decode cJ17_vectorizedHashCode 129 = .ok (.new 87, 3) := dk_187 0 87 (dk_at dksJ17_vectorizedHashCode_5 16 rfl rfl)
theorem dJ17_vectorizedHashCode_132 : decode cJ17_vectorizedHashCode 132 = .ok (.dup, 1) := dk_89 (dk_at dksJ17_vectorizedHashCode_5 19 rfl rfl)
theorem dJ17_vectorizedHashCode_133 : decode cJ17_vectorizedHashCode 133 = .ok (.new 89, 3) := dk_187 0 89 (dk_at dksJ17_vectorizedHashCode_5 20 rfl rfl)
theorem dJ17_vectorizedHashCode_136 : decode cJ17_vectorizedHashCode 136 = .ok (.dup, 1) := dk_89 (dk_at dksJ17_vectorizedHashCode_5 23 rfl rfl)
theorem dJ17_vectorizedHashCode_137 : decode cJ17_vectorizedHashCode 137 = .ok (.invokespecial 91, 3) := dk_183 0 91 (dk_at dksJ17_vectorizedHashCode_6 0 rfl rfl)
theorem dJ17_vectorizedHashCode_140 : decode cJ17_vectorizedHashCode 140 = .ok (.ldc 92, 2) := dk_18 92 (dk_at dksJ17_vectorizedHashCode_6 3 rfl rfl)
theorem dJ17_vectorizedHashCode_142 : decode cJ17_vectorizedHashCode 142 = .ok (.invokevirtual 94, 3) := dk_182 0 94 (dk_at dksJ17_vectorizedHashCode_6 5 rfl rfl)
theorem dJ17_vectorizedHashCode_145 : decode cJ17_vectorizedHashCode 145 = .ok (.iload 4, 2) := dk_21 4 (dk_at dksJ17_vectorizedHashCode_6 8 rfl rfl)
theorem dJ17_vectorizedHashCode_147 : decode cJ17_vectorizedHashCode 147 = .ok (.invokevirtual 98, 3) := dk_182 0 98 (dk_at dksJ17_vectorizedHashCode_6 10 rfl rfl)
theorem dJ17_vectorizedHashCode_150 : decode cJ17_vectorizedHashCode 150 = .ok (.invokevirtual 101, 3) := dk_182 0 101 (dk_at dksJ17_vectorizedHashCode_6 13 rfl rfl)
theorem dJ17_vectorizedHashCode_153 : decode cJ17_vectorizedHashCode 153 = .ok (.invokespecial 105, 3) := dk_183 0 105 (dk_at dksJ17_vectorizedHashCode_6 16 rfl rfl)
theorem dJ17_vectorizedHashCode_156 : decode cJ17_vectorizedHashCode 156 = .ok (.athrow, 1) := dk_191 (dk_at dksJ17_vectorizedHashCode_6 19 rfl rfl)
theorem dJ17_vectorizedHashCode_157 : decode cJ17_vectorizedHashCode 157 = .ok (.ireturn, 1) := dk_172 (dk_at dksJ17_vectorizedHashCode_6 20 rfl rfl)
abbrev cJ17_signedHashCode : ByteArray := prog_102_method_5_code
def yJ17_signedHashCode : MethodName := ⟨RJ17, "signedHashCode", "(I[BII)I"⟩
def dkwJ17_signedHashCode_1 : List UInt8 := [17, 0, 255, 126, 96, 59, 132, 5, 1, 167, 255, 232, 26, 172]
abbrev dktJ17_signedHashCode_1 : List UInt8 := dkwJ17_signedHashCode_1 ++ []
def dkwJ17_signedHashCode_0 : List UInt8 := [28, 29, 96, 54, 4, 28, 54, 5, 21, 5, 21, 4, 162, 0, 23, 16, 31, 26, 104, 43, 21, 5, 51]
abbrev dktJ17_signedHashCode_0 : List UInt8 := dkwJ17_signedHashCode_0 ++ dktJ17_signedHashCode_1
theorem dksJ17_signedHashCode_0 : cJ17_signedHashCode.data.toList.drop 0 = dktJ17_signedHashCode_0 := by decide +kernel
theorem dksJ17_signedHashCode_1 : cJ17_signedHashCode.data.toList.drop 23 = dktJ17_signedHashCode_1 := dk_seg dksJ17_signedHashCode_0 23 rfl rfl
theorem dJ17_signedHashCode_0 : decode cJ17_signedHashCode 0 = .ok (.iload_n 2, 1) := dk_28 (dk_at dksJ17_signedHashCode_0 0 rfl rfl)
theorem dJ17_signedHashCode_1 : decode cJ17_signedHashCode 1 = .ok (.iload_n 3, 1) := dk_29 (dk_at dksJ17_signedHashCode_0 1 rfl rfl)
theorem dJ17_signedHashCode_2 : decode cJ17_signedHashCode 2 = .ok (.iadd, 1) := dk_96 (dk_at dksJ17_signedHashCode_0 2 rfl rfl)
theorem dJ17_signedHashCode_3 : decode cJ17_signedHashCode 3 = .ok (.istore 4, 2) := dk_54 4 (dk_at dksJ17_signedHashCode_0 3 rfl rfl)
theorem dJ17_signedHashCode_5 : decode cJ17_signedHashCode 5 = .ok (.iload_n 2, 1) := dk_28 (dk_at dksJ17_signedHashCode_0 5 rfl rfl)
theorem dJ17_signedHashCode_6 : decode cJ17_signedHashCode 6 = .ok (.istore 5, 2) := dk_54 5 (dk_at dksJ17_signedHashCode_0 6 rfl rfl)
theorem dJ17_signedHashCode_8 : decode cJ17_signedHashCode 8 = .ok (.iload 5, 2) := dk_21 5 (dk_at dksJ17_signedHashCode_0 8 rfl rfl)
theorem dJ17_signedHashCode_10 : decode cJ17_signedHashCode 10 = .ok (.iload 4, 2) := dk_21 4 (dk_at dksJ17_signedHashCode_0 10 rfl rfl)
theorem dJ17_signedHashCode_12 : decode cJ17_signedHashCode 12 = .ok (.if_icmp .ge 23, 3) := dk_162 0 23 (dk_at dksJ17_signedHashCode_0 12 rfl rfl)
theorem dJ17_signedHashCode_15 : decode cJ17_signedHashCode 15 = .ok (.bipush 31, 2) := dk_16 31 (dk_at dksJ17_signedHashCode_0 15 rfl rfl)
theorem dJ17_signedHashCode_17 : decode cJ17_signedHashCode 17 = .ok (.iload_n 0, 1) := dk_26 (dk_at dksJ17_signedHashCode_0 17 rfl rfl)
theorem dJ17_signedHashCode_18 : decode cJ17_signedHashCode 18 = .ok (.imul, 1) := dk_104 (dk_at dksJ17_signedHashCode_0 18 rfl rfl)
theorem dJ17_signedHashCode_19 : decode cJ17_signedHashCode 19 = .ok (.aload_n 1, 1) := dk_43 (dk_at dksJ17_signedHashCode_0 19 rfl rfl)
theorem dJ17_signedHashCode_20 : decode cJ17_signedHashCode 20 = .ok (.iload 5, 2) := dk_21 5 (dk_at dksJ17_signedHashCode_0 20 rfl rfl)
theorem dJ17_signedHashCode_22 : decode cJ17_signedHashCode 22 = .ok (.baload, 1) := dk_51 (dk_at dksJ17_signedHashCode_0 22 rfl rfl)
theorem dJ17_signedHashCode_23 : decode cJ17_signedHashCode 23 = .ok (.sipush 255, 3) := dk_17 0 255 (dk_at dksJ17_signedHashCode_1 0 rfl rfl)
theorem dJ17_signedHashCode_26 : decode cJ17_signedHashCode 26 = .ok (.iand, 1) := dk_126 (dk_at dksJ17_signedHashCode_1 3 rfl rfl)
theorem dJ17_signedHashCode_27 : decode cJ17_signedHashCode 27 = .ok (.iadd, 1) := dk_96 (dk_at dksJ17_signedHashCode_1 4 rfl rfl)
theorem dJ17_signedHashCode_28 : decode cJ17_signedHashCode 28 = .ok (.istore_n 0, 1) := dk_59 (dk_at dksJ17_signedHashCode_1 5 rfl rfl)
theorem dJ17_signedHashCode_29 : decode cJ17_signedHashCode 29 = .ok (.iinc 5 1, 3) := dk_132 5 1 (dk_at dksJ17_signedHashCode_1 6 rfl rfl)
theorem dJ17_signedHashCode_32 : decode cJ17_signedHashCode 32 = .ok (.goto (-24), 3) := dk_167 255 232 (dk_at dksJ17_signedHashCode_1 9 rfl rfl)
theorem dJ17_signedHashCode_35 : decode cJ17_signedHashCode 35 = .ok (.iload_n 0, 1) := dk_26 (dk_at dksJ17_signedHashCode_1 12 rfl rfl)
theorem dJ17_signedHashCode_36 : decode cJ17_signedHashCode 36 = .ok (.ireturn, 1) := dk_172 (dk_at dksJ17_signedHashCode_1 13 rfl rfl)
abbrev cJ17_utf16hashCode : ByteArray := prog_102_method_10_code
def yJ17_utf16hashCode : MethodName := ⟨RJ17, "utf16hashCode", "(I[BII)I"⟩
def dkwJ17_utf16hashCode_1 : List UInt8 := [21, 5, 185, 0, 110, 3, 0, 96, 59, 132, 5, 1, 167, 255, 229, 26, 172]
abbrev dktJ17_utf16hashCode_1 : List UInt8 := dkwJ17_utf16hashCode_1 ++ []
def dkwJ17_utf16hashCode_0 : List UInt8 := [28, 29, 96, 54, 4, 28, 54, 5, 21, 5, 21, 4, 162, 0, 26, 16, 31, 26, 104, 178, 0, 106, 43]
abbrev dktJ17_utf16hashCode_0 : List UInt8 := dkwJ17_utf16hashCode_0 ++ dktJ17_utf16hashCode_1
theorem dksJ17_utf16hashCode_0 : cJ17_utf16hashCode.data.toList.drop 0 = dktJ17_utf16hashCode_0 := by decide +kernel
theorem dksJ17_utf16hashCode_1 : cJ17_utf16hashCode.data.toList.drop 23 = dktJ17_utf16hashCode_1 := dk_seg dksJ17_utf16hashCode_0 23 rfl rfl
theorem dJ17_utf16hashCode_0 : decode cJ17_utf16hashCode 0 = .ok (.iload_n 2, 1) := dk_28 (dk_at dksJ17_utf16hashCode_0 0 rfl rfl)
theorem dJ17_utf16hashCode_1 : decode cJ17_utf16hashCode 1 = .ok (.iload_n 3, 1) := dk_29 (dk_at dksJ17_utf16hashCode_0 1 rfl rfl)
theorem dJ17_utf16hashCode_2 : decode cJ17_utf16hashCode 2 = .ok (.iadd, 1) := dk_96 (dk_at dksJ17_utf16hashCode_0 2 rfl rfl)
theorem dJ17_utf16hashCode_3 : decode cJ17_utf16hashCode 3 = .ok (.istore 4, 2) := dk_54 4 (dk_at dksJ17_utf16hashCode_0 3 rfl rfl)
theorem dJ17_utf16hashCode_5 : decode cJ17_utf16hashCode 5 = .ok (.iload_n 2, 1) := dk_28 (dk_at dksJ17_utf16hashCode_0 5 rfl rfl)
theorem dJ17_utf16hashCode_6 : decode cJ17_utf16hashCode 6 = .ok (.istore 5, 2) := dk_54 5 (dk_at dksJ17_utf16hashCode_0 6 rfl rfl)
theorem dJ17_utf16hashCode_8 : decode cJ17_utf16hashCode 8 = .ok (.iload 5, 2) := dk_21 5 (dk_at dksJ17_utf16hashCode_0 8 rfl rfl)
theorem dJ17_utf16hashCode_10 : decode cJ17_utf16hashCode 10 = .ok (.iload 4, 2) := dk_21 4 (dk_at dksJ17_utf16hashCode_0 10 rfl rfl)
theorem dJ17_utf16hashCode_12 : decode cJ17_utf16hashCode 12 = .ok (.if_icmp .ge 26, 3) := dk_162 0 26 (dk_at dksJ17_utf16hashCode_0 12 rfl rfl)
theorem dJ17_utf16hashCode_15 : decode cJ17_utf16hashCode 15 = .ok (.bipush 31, 2) := dk_16 31 (dk_at dksJ17_utf16hashCode_0 15 rfl rfl)
theorem dJ17_utf16hashCode_17 : decode cJ17_utf16hashCode 17 = .ok (.iload_n 0, 1) := dk_26 (dk_at dksJ17_utf16hashCode_0 17 rfl rfl)
theorem dJ17_utf16hashCode_18 : decode cJ17_utf16hashCode 18 = .ok (.imul, 1) := dk_104 (dk_at dksJ17_utf16hashCode_0 18 rfl rfl)
theorem dJ17_utf16hashCode_19 : decode cJ17_utf16hashCode 19 = .ok (.getstatic 106, 3) := dk_178 0 106 (dk_at dksJ17_utf16hashCode_0 19 rfl rfl)
theorem dJ17_utf16hashCode_22 : decode cJ17_utf16hashCode 22 = .ok (.aload_n 1, 1) := dk_43 (dk_at dksJ17_utf16hashCode_0 22 rfl rfl)
theorem dJ17_utf16hashCode_23 : decode cJ17_utf16hashCode 23 = .ok (.iload 5, 2) := dk_21 5 (dk_at dksJ17_utf16hashCode_1 0 rfl rfl)
theorem dJ17_utf16hashCode_25 : decode cJ17_utf16hashCode 25 = .ok (.invokeinterface 110 3, 5) := by decide +kernel
theorem dJ17_utf16hashCode_30 : decode cJ17_utf16hashCode 30 = .ok (.iadd, 1) := dk_96 (dk_at dksJ17_utf16hashCode_1 7 rfl rfl)
theorem dJ17_utf16hashCode_31 : decode cJ17_utf16hashCode 31 = .ok (.istore_n 0, 1) := dk_59 (dk_at dksJ17_utf16hashCode_1 8 rfl rfl)
theorem dJ17_utf16hashCode_32 : decode cJ17_utf16hashCode 32 = .ok (.iinc 5 1, 3) := dk_132 5 1 (dk_at dksJ17_utf16hashCode_1 9 rfl rfl)
theorem dJ17_utf16hashCode_35 : decode cJ17_utf16hashCode 35 = .ok (.goto (-27), 3) := dk_167 255 229 (dk_at dksJ17_utf16hashCode_1 12 rfl rfl)
theorem dJ17_utf16hashCode_38 : decode cJ17_utf16hashCode 38 = .ok (.iload_n 0, 1) := dk_26 (dk_at dksJ17_utf16hashCode_1 15 rfl rfl)
theorem dJ17_utf16hashCode_39 : decode cJ17_utf16hashCode 39 = .ok (.ireturn, 1) := dk_172 (dk_at dksJ17_utf16hashCode_1 16 rfl rfl)
abbrev cJ17_hashCode : ByteArray := prog_102_method_7_code
def yJ17_hashCode : MethodName := ⟨RJ17, "hashCode", "(I[CII)I"⟩
def dkwJ17_hashCode_1 : List UInt8 := [59, 132, 5, 1, 167, 255, 236, 26, 172]
abbrev dktJ17_hashCode_1 : List UInt8 := dkwJ17_hashCode_1 ++ []
def dkwJ17_hashCode_0 : List UInt8 := [28, 29, 96, 54, 4, 28, 54, 5, 21, 5, 21, 4, 162, 0, 19, 16, 31, 26, 104, 43, 21, 5, 52, 96]
abbrev dktJ17_hashCode_0 : List UInt8 := dkwJ17_hashCode_0 ++ dktJ17_hashCode_1
theorem dksJ17_hashCode_0 : cJ17_hashCode.data.toList.drop 0 = dktJ17_hashCode_0 := by decide +kernel
theorem dksJ17_hashCode_1 : cJ17_hashCode.data.toList.drop 24 = dktJ17_hashCode_1 := dk_seg dksJ17_hashCode_0 24 rfl rfl
theorem dJ17_hashCode_0 : decode cJ17_hashCode 0 = .ok (.iload_n 2, 1) := dk_28 (dk_at dksJ17_hashCode_0 0 rfl rfl)
theorem dJ17_hashCode_1 : decode cJ17_hashCode 1 = .ok (.iload_n 3, 1) := dk_29 (dk_at dksJ17_hashCode_0 1 rfl rfl)
theorem dJ17_hashCode_2 : decode cJ17_hashCode 2 = .ok (.iadd, 1) := dk_96 (dk_at dksJ17_hashCode_0 2 rfl rfl)
theorem dJ17_hashCode_3 : decode cJ17_hashCode 3 = .ok (.istore 4, 2) := dk_54 4 (dk_at dksJ17_hashCode_0 3 rfl rfl)
theorem dJ17_hashCode_5 : decode cJ17_hashCode 5 = .ok (.iload_n 2, 1) := dk_28 (dk_at dksJ17_hashCode_0 5 rfl rfl)
theorem dJ17_hashCode_6 : decode cJ17_hashCode 6 = .ok (.istore 5, 2) := dk_54 5 (dk_at dksJ17_hashCode_0 6 rfl rfl)
theorem dJ17_hashCode_8 : decode cJ17_hashCode 8 = .ok (.iload 5, 2) := dk_21 5 (dk_at dksJ17_hashCode_0 8 rfl rfl)
theorem dJ17_hashCode_10 : decode cJ17_hashCode 10 = .ok (.iload 4, 2) := dk_21 4 (dk_at dksJ17_hashCode_0 10 rfl rfl)
theorem dJ17_hashCode_12 : decode cJ17_hashCode 12 = .ok (.if_icmp .ge 19, 3) := dk_162 0 19 (dk_at dksJ17_hashCode_0 12 rfl rfl)
theorem dJ17_hashCode_15 : decode cJ17_hashCode 15 = .ok (.bipush 31, 2) := dk_16 31 (dk_at dksJ17_hashCode_0 15 rfl rfl)
theorem dJ17_hashCode_17 : decode cJ17_hashCode 17 = .ok (.iload_n 0, 1) := dk_26 (dk_at dksJ17_hashCode_0 17 rfl rfl)
theorem dJ17_hashCode_18 : decode cJ17_hashCode 18 = .ok (.imul, 1) := dk_104 (dk_at dksJ17_hashCode_0 18 rfl rfl)
theorem dJ17_hashCode_19 : decode cJ17_hashCode 19 = .ok (.aload_n 1, 1) := dk_43 (dk_at dksJ17_hashCode_0 19 rfl rfl)
theorem dJ17_hashCode_20 : decode cJ17_hashCode 20 = .ok (.iload 5, 2) := dk_21 5 (dk_at dksJ17_hashCode_0 20 rfl rfl)
theorem dJ17_hashCode_22 : decode cJ17_hashCode 22 = .ok (.caload, 1) := dk_52 (dk_at dksJ17_hashCode_0 22 rfl rfl)
theorem dJ17_hashCode_23 : decode cJ17_hashCode 23 = .ok (.iadd, 1) := dk_96 (dk_at dksJ17_hashCode_0 23 rfl rfl)
theorem dJ17_hashCode_24 : decode cJ17_hashCode 24 = .ok (.istore_n 0, 1) := dk_59 (dk_at dksJ17_hashCode_1 0 rfl rfl)
theorem dJ17_hashCode_25 : decode cJ17_hashCode 25 = .ok (.iinc 5 1, 3) := dk_132 5 1 (dk_at dksJ17_hashCode_1 1 rfl rfl)
theorem dJ17_hashCode_28 : decode cJ17_hashCode 28 = .ok (.goto (-20), 3) := dk_167 255 236 (dk_at dksJ17_hashCode_1 4 rfl rfl)
theorem dJ17_hashCode_31 : decode cJ17_hashCode 31 = .ok (.iload_n 0, 1) := dk_26 (dk_at dksJ17_hashCode_1 7 rfl rfl)
theorem dJ17_hashCode_32 : decode cJ17_hashCode 32 = .ok (.ireturn, 1) := dk_172 (dk_at dksJ17_hashCode_1 8 rfl rfl)
abbrev cJ17_hashCode_2 : ByteArray := prog_102_method_6_code
def yJ17_hashCode_2 : MethodName := ⟨RJ17, "hashCode", "(I[BII)I"⟩
def dkwJ17_hashCode_2_1 : List UInt8 := [59, 132, 5, 1, 167, 255, 236, 26, 172]
abbrev dktJ17_hashCode_2_1 : List UInt8 := dkwJ17_hashCode_2_1 ++ []
def dkwJ17_hashCode_2_0 : List UInt8 := [28, 29, 96, 54, 4, 28, 54, 5, 21, 5, 21, 4, 162, 0, 19, 16, 31, 26, 104, 43, 21, 5, 51, 96]
abbrev dktJ17_hashCode_2_0 : List UInt8 := dkwJ17_hashCode_2_0 ++ dktJ17_hashCode_2_1
theorem dksJ17_hashCode_2_0 : cJ17_hashCode_2.data.toList.drop 0 = dktJ17_hashCode_2_0 := by decide +kernel
theorem dksJ17_hashCode_2_1 : cJ17_hashCode_2.data.toList.drop 24 = dktJ17_hashCode_2_1 := dk_seg dksJ17_hashCode_2_0 24 rfl rfl
theorem dJ17_hashCode_2_0 : decode cJ17_hashCode_2 0 = .ok (.iload_n 2, 1) := dk_28 (dk_at dksJ17_hashCode_2_0 0 rfl rfl)
theorem dJ17_hashCode_2_1 : decode cJ17_hashCode_2 1 = .ok (.iload_n 3, 1) := dk_29 (dk_at dksJ17_hashCode_2_0 1 rfl rfl)
theorem dJ17_hashCode_2_2 : decode cJ17_hashCode_2 2 = .ok (.iadd, 1) := dk_96 (dk_at dksJ17_hashCode_2_0 2 rfl rfl)
theorem dJ17_hashCode_2_3 : decode cJ17_hashCode_2 3 = .ok (.istore 4, 2) := dk_54 4 (dk_at dksJ17_hashCode_2_0 3 rfl rfl)
theorem dJ17_hashCode_2_5 : decode cJ17_hashCode_2 5 = .ok (.iload_n 2, 1) := dk_28 (dk_at dksJ17_hashCode_2_0 5 rfl rfl)
theorem dJ17_hashCode_2_6 : decode cJ17_hashCode_2 6 = .ok (.istore 5, 2) := dk_54 5 (dk_at dksJ17_hashCode_2_0 6 rfl rfl)
theorem dJ17_hashCode_2_8 : decode cJ17_hashCode_2 8 = .ok (.iload 5, 2) := dk_21 5 (dk_at dksJ17_hashCode_2_0 8 rfl rfl)
theorem dJ17_hashCode_2_10 : decode cJ17_hashCode_2 10 = .ok (.iload 4, 2) := dk_21 4 (dk_at dksJ17_hashCode_2_0 10 rfl rfl)
theorem dJ17_hashCode_2_12 : decode cJ17_hashCode_2 12 = .ok (.if_icmp .ge 19, 3) := dk_162 0 19 (dk_at dksJ17_hashCode_2_0 12 rfl rfl)
theorem dJ17_hashCode_2_15 : decode cJ17_hashCode_2 15 = .ok (.bipush 31, 2) := dk_16 31 (dk_at dksJ17_hashCode_2_0 15 rfl rfl)
theorem dJ17_hashCode_2_17 : decode cJ17_hashCode_2 17 = .ok (.iload_n 0, 1) := dk_26 (dk_at dksJ17_hashCode_2_0 17 rfl rfl)
theorem dJ17_hashCode_2_18 : decode cJ17_hashCode_2 18 = .ok (.imul, 1) := dk_104 (dk_at dksJ17_hashCode_2_0 18 rfl rfl)
theorem dJ17_hashCode_2_19 : decode cJ17_hashCode_2 19 = .ok (.aload_n 1, 1) := dk_43 (dk_at dksJ17_hashCode_2_0 19 rfl rfl)
theorem dJ17_hashCode_2_20 : decode cJ17_hashCode_2 20 = .ok (.iload 5, 2) := dk_21 5 (dk_at dksJ17_hashCode_2_0 20 rfl rfl)
theorem dJ17_hashCode_2_22 : decode cJ17_hashCode_2 22 = .ok (.baload, 1) := dk_51 (dk_at dksJ17_hashCode_2_0 22 rfl rfl)
theorem dJ17_hashCode_2_23 : decode cJ17_hashCode_2 23 = .ok (.iadd, 1) := dk_96 (dk_at dksJ17_hashCode_2_0 23 rfl rfl)
theorem dJ17_hashCode_2_24 : decode cJ17_hashCode_2 24 = .ok (.istore_n 0, 1) := dk_59 (dk_at dksJ17_hashCode_2_1 0 rfl rfl)
theorem dJ17_hashCode_2_25 : decode cJ17_hashCode_2 25 = .ok (.iinc 5 1, 3) := dk_132 5 1 (dk_at dksJ17_hashCode_2_1 1 rfl rfl)
theorem dJ17_hashCode_2_28 : decode cJ17_hashCode_2 28 = .ok (.goto (-20), 3) := dk_167 255 236 (dk_at dksJ17_hashCode_2_1 4 rfl rfl)
theorem dJ17_hashCode_2_31 : decode cJ17_hashCode_2 31 = .ok (.iload_n 0, 1) := dk_26 (dk_at dksJ17_hashCode_2_1 7 rfl rfl)
theorem dJ17_hashCode_2_32 : decode cJ17_hashCode_2 32 = .ok (.ireturn, 1) := dk_172 (dk_at dksJ17_hashCode_2_1 8 rfl rfl)
abbrev cJ17_hashCode_3 : ByteArray := prog_102_method_8_code
def yJ17_hashCode_3 : MethodName := ⟨RJ17, "hashCode", "(I[SII)I"⟩
def dkwJ17_hashCode_3_1 : List UInt8 := [59, 132, 5, 1, 167, 255, 236, 26, 172]
abbrev dktJ17_hashCode_3_1 : List UInt8 := dkwJ17_hashCode_3_1 ++ []
def dkwJ17_hashCode_3_0 : List UInt8 := [28, 29, 96, 54, 4, 28, 54, 5, 21, 5, 21, 4, 162, 0, 19, 16, 31, 26, 104, 43, 21, 5, 53, 96]
abbrev dktJ17_hashCode_3_0 : List UInt8 := dkwJ17_hashCode_3_0 ++ dktJ17_hashCode_3_1
theorem dksJ17_hashCode_3_0 : cJ17_hashCode_3.data.toList.drop 0 = dktJ17_hashCode_3_0 := by decide +kernel
theorem dksJ17_hashCode_3_1 : cJ17_hashCode_3.data.toList.drop 24 = dktJ17_hashCode_3_1 := dk_seg dksJ17_hashCode_3_0 24 rfl rfl
theorem dJ17_hashCode_3_0 : decode cJ17_hashCode_3 0 = .ok (.iload_n 2, 1) := dk_28 (dk_at dksJ17_hashCode_3_0 0 rfl rfl)
theorem dJ17_hashCode_3_1 : decode cJ17_hashCode_3 1 = .ok (.iload_n 3, 1) := dk_29 (dk_at dksJ17_hashCode_3_0 1 rfl rfl)
theorem dJ17_hashCode_3_2 : decode cJ17_hashCode_3 2 = .ok (.iadd, 1) := dk_96 (dk_at dksJ17_hashCode_3_0 2 rfl rfl)
theorem dJ17_hashCode_3_3 : decode cJ17_hashCode_3 3 = .ok (.istore 4, 2) := dk_54 4 (dk_at dksJ17_hashCode_3_0 3 rfl rfl)
theorem dJ17_hashCode_3_5 : decode cJ17_hashCode_3 5 = .ok (.iload_n 2, 1) := dk_28 (dk_at dksJ17_hashCode_3_0 5 rfl rfl)
theorem dJ17_hashCode_3_6 : decode cJ17_hashCode_3 6 = .ok (.istore 5, 2) := dk_54 5 (dk_at dksJ17_hashCode_3_0 6 rfl rfl)
theorem dJ17_hashCode_3_8 : decode cJ17_hashCode_3 8 = .ok (.iload 5, 2) := dk_21 5 (dk_at dksJ17_hashCode_3_0 8 rfl rfl)
theorem dJ17_hashCode_3_10 : decode cJ17_hashCode_3 10 = .ok (.iload 4, 2) := dk_21 4 (dk_at dksJ17_hashCode_3_0 10 rfl rfl)
theorem dJ17_hashCode_3_12 : decode cJ17_hashCode_3 12 = .ok (.if_icmp .ge 19, 3) := dk_162 0 19 (dk_at dksJ17_hashCode_3_0 12 rfl rfl)
theorem dJ17_hashCode_3_15 : decode cJ17_hashCode_3 15 = .ok (.bipush 31, 2) := dk_16 31 (dk_at dksJ17_hashCode_3_0 15 rfl rfl)
theorem dJ17_hashCode_3_17 : decode cJ17_hashCode_3 17 = .ok (.iload_n 0, 1) := dk_26 (dk_at dksJ17_hashCode_3_0 17 rfl rfl)
theorem dJ17_hashCode_3_18 : decode cJ17_hashCode_3 18 = .ok (.imul, 1) := dk_104 (dk_at dksJ17_hashCode_3_0 18 rfl rfl)
theorem dJ17_hashCode_3_19 : decode cJ17_hashCode_3 19 = .ok (.aload_n 1, 1) := dk_43 (dk_at dksJ17_hashCode_3_0 19 rfl rfl)
theorem dJ17_hashCode_3_20 : decode cJ17_hashCode_3 20 = .ok (.iload 5, 2) := dk_21 5 (dk_at dksJ17_hashCode_3_0 20 rfl rfl)
theorem dJ17_hashCode_3_22 : decode cJ17_hashCode_3 22 = .ok (.saload, 1) := dk_53 (dk_at dksJ17_hashCode_3_0 22 rfl rfl)
theorem dJ17_hashCode_3_23 : decode cJ17_hashCode_3 23 = .ok (.iadd, 1) := dk_96 (dk_at dksJ17_hashCode_3_0 23 rfl rfl)
theorem dJ17_hashCode_3_24 : decode cJ17_hashCode_3 24 = .ok (.istore_n 0, 1) := dk_59 (dk_at dksJ17_hashCode_3_1 0 rfl rfl)
theorem dJ17_hashCode_3_25 : decode cJ17_hashCode_3 25 = .ok (.iinc 5 1, 3) := dk_132 5 1 (dk_at dksJ17_hashCode_3_1 1 rfl rfl)
theorem dJ17_hashCode_3_28 : decode cJ17_hashCode_3 28 = .ok (.goto (-20), 3) := dk_167 255 236 (dk_at dksJ17_hashCode_3_1 4 rfl rfl)
theorem dJ17_hashCode_3_31 : decode cJ17_hashCode_3 31 = .ok (.iload_n 0, 1) := dk_26 (dk_at dksJ17_hashCode_3_1 7 rfl rfl)
theorem dJ17_hashCode_3_32 : decode cJ17_hashCode_3 32 = .ok (.ireturn, 1) := dk_172 (dk_at dksJ17_hashCode_3_1 8 rfl rfl)
abbrev cJ17_hashCode_4 : ByteArray := prog_102_method_9_code
def yJ17_hashCode_4 : MethodName := ⟨RJ17, "hashCode", "(I[III)I"⟩
def dkwJ17_hashCode_4_1 : List UInt8 := [59, 132, 5, 1, 167, 255, 236, 26, 172]
abbrev dktJ17_hashCode_4_1 : List UInt8 := dkwJ17_hashCode_4_1 ++ []
def dkwJ17_hashCode_4_0 : List UInt8 := [28, 29, 96, 54, 4, 28, 54, 5, 21, 5, 21, 4, 162, 0, 19, 16, 31, 26, 104, 43, 21, 5, 46, 96]
abbrev dktJ17_hashCode_4_0 : List UInt8 := dkwJ17_hashCode_4_0 ++ dktJ17_hashCode_4_1
theorem dksJ17_hashCode_4_0 : cJ17_hashCode_4.data.toList.drop 0 = dktJ17_hashCode_4_0 := by decide +kernel
theorem dksJ17_hashCode_4_1 : cJ17_hashCode_4.data.toList.drop 24 = dktJ17_hashCode_4_1 := dk_seg dksJ17_hashCode_4_0 24 rfl rfl
theorem dJ17_hashCode_4_0 : decode cJ17_hashCode_4 0 = .ok (.iload_n 2, 1) := dk_28 (dk_at dksJ17_hashCode_4_0 0 rfl rfl)
theorem dJ17_hashCode_4_1 : decode cJ17_hashCode_4 1 = .ok (.iload_n 3, 1) := dk_29 (dk_at dksJ17_hashCode_4_0 1 rfl rfl)
theorem dJ17_hashCode_4_2 : decode cJ17_hashCode_4 2 = .ok (.iadd, 1) := dk_96 (dk_at dksJ17_hashCode_4_0 2 rfl rfl)
theorem dJ17_hashCode_4_3 : decode cJ17_hashCode_4 3 = .ok (.istore 4, 2) := dk_54 4 (dk_at dksJ17_hashCode_4_0 3 rfl rfl)
theorem dJ17_hashCode_4_5 : decode cJ17_hashCode_4 5 = .ok (.iload_n 2, 1) := dk_28 (dk_at dksJ17_hashCode_4_0 5 rfl rfl)
theorem dJ17_hashCode_4_6 : decode cJ17_hashCode_4 6 = .ok (.istore 5, 2) := dk_54 5 (dk_at dksJ17_hashCode_4_0 6 rfl rfl)
theorem dJ17_hashCode_4_8 : decode cJ17_hashCode_4 8 = .ok (.iload 5, 2) := dk_21 5 (dk_at dksJ17_hashCode_4_0 8 rfl rfl)
theorem dJ17_hashCode_4_10 : decode cJ17_hashCode_4 10 = .ok (.iload 4, 2) := dk_21 4 (dk_at dksJ17_hashCode_4_0 10 rfl rfl)
theorem dJ17_hashCode_4_12 : decode cJ17_hashCode_4 12 = .ok (.if_icmp .ge 19, 3) := dk_162 0 19 (dk_at dksJ17_hashCode_4_0 12 rfl rfl)
theorem dJ17_hashCode_4_15 : decode cJ17_hashCode_4 15 = .ok (.bipush 31, 2) := dk_16 31 (dk_at dksJ17_hashCode_4_0 15 rfl rfl)
theorem dJ17_hashCode_4_17 : decode cJ17_hashCode_4 17 = .ok (.iload_n 0, 1) := dk_26 (dk_at dksJ17_hashCode_4_0 17 rfl rfl)
theorem dJ17_hashCode_4_18 : decode cJ17_hashCode_4 18 = .ok (.imul, 1) := dk_104 (dk_at dksJ17_hashCode_4_0 18 rfl rfl)
theorem dJ17_hashCode_4_19 : decode cJ17_hashCode_4 19 = .ok (.aload_n 1, 1) := dk_43 (dk_at dksJ17_hashCode_4_0 19 rfl rfl)
theorem dJ17_hashCode_4_20 : decode cJ17_hashCode_4 20 = .ok (.iload 5, 2) := dk_21 5 (dk_at dksJ17_hashCode_4_0 20 rfl rfl)
theorem dJ17_hashCode_4_22 : decode cJ17_hashCode_4 22 = .ok (.iaload, 1) := dk_46 (dk_at dksJ17_hashCode_4_0 22 rfl rfl)
theorem dJ17_hashCode_4_23 : decode cJ17_hashCode_4 23 = .ok (.iadd, 1) := dk_96 (dk_at dksJ17_hashCode_4_0 23 rfl rfl)
theorem dJ17_hashCode_4_24 : decode cJ17_hashCode_4 24 = .ok (.istore_n 0, 1) := dk_59 (dk_at dksJ17_hashCode_4_1 0 rfl rfl)
theorem dJ17_hashCode_4_25 : decode cJ17_hashCode_4 25 = .ok (.iinc 5 1, 3) := dk_132 5 1 (dk_at dksJ17_hashCode_4_1 1 rfl rfl)
theorem dJ17_hashCode_4_28 : decode cJ17_hashCode_4 28 = .ok (.goto (-20), 3) := dk_167 255 236 (dk_at dksJ17_hashCode_4_1 4 rfl rfl)
theorem dJ17_hashCode_4_31 : decode cJ17_hashCode_4 31 = .ok (.iload_n 0, 1) := dk_26 (dk_at dksJ17_hashCode_4_1 7 rfl rfl)
theorem dJ17_hashCode_4_32 : decode cJ17_hashCode_4 32 = .ok (.ireturn, 1) := dk_172 (dk_at dksJ17_hashCode_4_1 8 rfl rfl)
theorem q122 : (Jvm.Cond.initialized "jdk/internal/util/ArraysSupport") ∈ lw_all := lw_g (lw_at lw_m1 22 rfl) rfl
theorem q577 : (Jvm.Cond.static ({ cls := "jdk/internal/util/ArraysSupport", name := "newLength", desc := "(III)I" } : Jvm.MethodName)) ∈ lw_all := lw_g (lw_at lw_m2 237 rfl) rfl
theorem q578 : (Jvm.Cond.code ({ cls := "jdk/internal/util/ArraysSupport", name := "newLength", desc := "(III)I" } : Jvm.MethodName) prog_102_method_27_code (4 : Nat) (Option.some Jvm.ClassFile.FieldType.int)) ∈ lw_all := lw_g (lw_at lw_m2 238 rfl) rfl
theorem q579 : (Jvm.Cond.methodLink "jdk/internal/util/ArraysSupport" (194 : Nat) ({ cls := "java/lang/Math", name := "max", desc := "(II)I" } : Jvm.MethodName)) ∈ lw_all := lw_g (lw_at lw_m2 239 rfl) rfl
theorem q582 : (Jvm.Cond.constant "jdk/internal/util/ArraysSupport" (200 : Nat) (2147483639 : Int32)) ∈ lw_all := lw_g (lw_at lw_m3 2 rfl) rfl
theorem q583 : (Jvm.Cond.methodLink "jdk/internal/util/ArraysSupport" (201 : Nat) ({ cls := "jdk/internal/util/ArraysSupport", name := "hugeLength", desc := "(II)I" } : Jvm.MethodName)) ∈ lw_all := lw_g (lw_at lw_m3 3 rfl) rfl
theorem q584 : (Jvm.Cond.static ({ cls := "jdk/internal/util/ArraysSupport", name := "hugeLength", desc := "(II)I" } : Jvm.MethodName)) ∈ lw_all := lw_g (lw_at lw_m3 4 rfl) rfl
theorem q585 : (Jvm.Cond.code ({ cls := "jdk/internal/util/ArraysSupport", name := "hugeLength", desc := "(II)I" } : Jvm.MethodName) prog_102_method_28_code (3 : Nat) (Option.some Jvm.ClassFile.FieldType.int)) ∈ lw_all := lw_g (lw_at lw_m3 5 rfl) rfl
theorem q1597 : (Jvm.Cond.static ({ cls := "jdk/internal/util/ArraysSupport", name := "mismatch", desc := "([B[BI)I" } : Jvm.MethodName)) ∈ lw_all := lw_g (lw_at lw_m7 57 rfl) rfl
theorem q1598 : (Jvm.Cond.code ({ cls := "jdk/internal/util/ArraysSupport", name := "mismatch", desc := "([B[BI)I" } : Jvm.MethodName) prog_102_method_13_code (4 : Nat) (Option.some Jvm.ClassFile.FieldType.int)) ∈ lw_all := lw_g (lw_at lw_m7 58 rfl) rfl
theorem q1599 : (Jvm.Cond.fieldLink "jdk/internal/util/ArraysSupport" (126 : Nat) "jdk/internal/misc/Unsafe" "ARRAY_BYTE_BASE_OFFSET" "I") ∈ lw_all := lw_g (lw_at lw_m7 59 rfl) rfl
theorem q1601 : (Jvm.Cond.fieldLink "jdk/internal/util/ArraysSupport" (129 : Nat) "jdk/internal/util/ArraysSupport" "LOG2_ARRAY_BYTE_INDEX_SCALE" "I") ∈ lw_all := lw_g (lw_at lw_m7 61 rfl) rfl
theorem q1602 : (Jvm.Cond.laysStatic "jdk/internal/util/ArraysSupport" "LOG2_ARRAY_BYTE_INDEX_SCALE" "I") ∈ lw_tbl := lw_at lw_m7 62 rfl
theorem q1603 : (Jvm.Cond.methodLink "jdk/internal/util/ArraysSupport" (122 : Nat) ({ cls := "jdk/internal/util/ArraysSupport", name := "vectorizedMismatch", desc := "(Ljava/lang/Object;JLjava/lang/Object;JII)I" } : Jvm.MethodName)) ∈ lw_all := lw_g (lw_at lw_m7 63 rfl) rfl
theorem q1604 : (Jvm.Cond.static ({ cls := "jdk/internal/util/ArraysSupport", name := "vectorizedMismatch", desc := "(Ljava/lang/Object;JLjava/lang/Object;JII)I" } : Jvm.MethodName)) ∈ lw_all := lw_g (lw_at lw_m7 64 rfl) rfl
theorem q1605 : (Jvm.Cond.code ({ cls := "jdk/internal/util/ArraysSupport", name := "vectorizedMismatch", desc := "(Ljava/lang/Object;JLjava/lang/Object;JII)I" } : Jvm.MethodName) prog_102_method_3_code (19 : Nat) (Option.some Jvm.ClassFile.FieldType.int)) ∈ lw_all := lw_g (lw_at lw_m7 65 rfl) rfl
theorem q1606 : (Jvm.Cond.fieldLink "jdk/internal/util/ArraysSupport" (20 : Nat) "jdk/internal/util/ArraysSupport" "LOG2_ARRAY_LONG_INDEX_SCALE" "I") ∈ lw_all := lw_g (lw_at lw_m7 66 rfl) rfl
theorem q1607 : (Jvm.Cond.laysStatic "jdk/internal/util/ArraysSupport" "LOG2_ARRAY_LONG_INDEX_SCALE" "I") ∈ lw_tbl := lw_at lw_m7 67 rfl
theorem q1608 : (Jvm.Cond.fieldLink "jdk/internal/util/ArraysSupport" (26 : Nat) "jdk/internal/util/ArraysSupport" "U" "Ljdk/internal/misc/Unsafe;") ∈ lw_all := lw_g (lw_at lw_m7 68 rfl) rfl
theorem q1609 : (Jvm.Cond.laysStatic "jdk/internal/util/ArraysSupport" "U" "Ljdk/internal/misc/Unsafe;") ∈ lw_tbl := lw_at lw_m7 69 rfl
theorem q1610 : (Jvm.Cond.methodLink "jdk/internal/util/ArraysSupport" (30 : Nat) ({ cls := "jdk/internal/misc/Unsafe", name := "getLongUnaligned", desc := "(Ljava/lang/Object;J)J" } : Jvm.MethodName)) ∈ lw_all := lw_g (lw_at lw_m7 70 rfl) rfl
theorem q1662 : (Jvm.Cond.fieldLink "jdk/internal/util/ArraysSupport" (36 : Nat) "jdk/internal/util/ArraysSupport" "BIG_ENDIAN" "Z") ∈ lw_all := lw_g (lw_at lw_m7 122 rfl) rfl
theorem q1663 : (Jvm.Cond.laysStatic "jdk/internal/util/ArraysSupport" "BIG_ENDIAN" "Z") ∈ lw_tbl := lw_at lw_m7 123 rfl
theorem q1664 : (Jvm.Cond.methodLink "jdk/internal/util/ArraysSupport" (40 : Nat) ({ cls := "java/lang/Long", name := "numberOfLeadingZeros", desc := "(J)I" } : Jvm.MethodName)) ∈ lw_all := lw_g (lw_at lw_m7 124 rfl) rfl
theorem q1671 : (Jvm.Cond.fieldLink "jdk/internal/util/ArraysSupport" (46 : Nat) "jdk/internal/util/ArraysSupport" "LOG2_BYTE_BIT_SIZE" "I") ∈ lw_all := lw_g (lw_at lw_m7 131 rfl) rfl
theorem q1672 : (Jvm.Cond.laysStatic "jdk/internal/util/ArraysSupport" "LOG2_BYTE_BIT_SIZE" "I") ∈ lw_tbl := lw_at lw_m7 132 rfl
theorem q1673 : (Jvm.Cond.methodLink "jdk/internal/util/ArraysSupport" (49 : Nat) ({ cls := "java/lang/Long", name := "numberOfTrailingZeros", desc := "(J)I" } : Jvm.MethodName)) ∈ lw_all := lw_g (lw_at lw_m7 133 rfl) rfl
theorem q1679 : (Jvm.Cond.fieldLink "jdk/internal/util/ArraysSupport" (51 : Nat) "jdk/internal/util/ArraysSupport" "LOG2_ARRAY_INT_INDEX_SCALE" "I") ∈ lw_all := lw_g (lw_at lw_m7 139 rfl) rfl
theorem q1680 : (Jvm.Cond.laysStatic "jdk/internal/util/ArraysSupport" "LOG2_ARRAY_INT_INDEX_SCALE" "I") ∈ lw_tbl := lw_at lw_m7 140 rfl
theorem q1681 : (Jvm.Cond.methodLink "jdk/internal/util/ArraysSupport" (54 : Nat) ({ cls := "jdk/internal/misc/Unsafe", name := "getIntUnaligned", desc := "(Ljava/lang/Object;J)I" } : Jvm.MethodName)) ∈ lw_all := lw_g (lw_at lw_m7 141 rfl) rfl
theorem q1698 : (Jvm.Cond.methodLink "jdk/internal/util/ArraysSupport" (58 : Nat) ({ cls := "java/lang/Integer", name := "numberOfLeadingZeros", desc := "(I)I" } : Jvm.MethodName)) ∈ lw_all := lw_g (lw_at lw_m7 158 rfl) rfl
theorem q1699 : (Jvm.Cond.methodLink "jdk/internal/util/ArraysSupport" (11 : Nat) ({ cls := "java/lang/Integer", name := "numberOfTrailingZeros", desc := "(I)I" } : Jvm.MethodName)) ∈ lw_all := lw_g (lw_at lw_m7 159 rfl) rfl
theorem q2372 : (Jvm.Cond.static ({ cls := "jdk/internal/util/ArraysSupport", name := "vectorizedHashCode", desc := "(Ljava/lang/Object;IIII)I" } : Jvm.MethodName)) ∈ lw_all := lw_g (lw_at lw_m10 112 rfl) rfl
theorem q2373 : (Jvm.Cond.code ({ cls := "jdk/internal/util/ArraysSupport", name := "vectorizedHashCode", desc := "(Ljava/lang/Object;IIII)I" } : Jvm.MethodName) prog_102_method_4_code (5 : Nat) (Option.some Jvm.ClassFile.FieldType.int)) ∈ lw_all := lw_g (lw_at lw_m10 113 rfl) rfl
theorem q2374 : (Jvm.Cond.classLink "jdk/internal/util/ArraysSupport" (60 : Nat) "[B") ∈ lw_all := lw_g (lw_at lw_m10 114 rfl) rfl
theorem q2375 : (Jvm.Cond.methodLink "jdk/internal/util/ArraysSupport" (62 : Nat) ({ cls := "jdk/internal/util/ArraysSupport", name := "signedHashCode", desc := "(I[BII)I" } : Jvm.MethodName)) ∈ lw_all := lw_g (lw_at lw_m10 115 rfl) rfl
theorem q2376 : (Jvm.Cond.static ({ cls := "jdk/internal/util/ArraysSupport", name := "signedHashCode", desc := "(I[BII)I" } : Jvm.MethodName)) ∈ lw_all := lw_g (lw_at lw_m10 116 rfl) rfl
theorem q2377 : (Jvm.Cond.code ({ cls := "jdk/internal/util/ArraysSupport", name := "signedHashCode", desc := "(I[BII)I" } : Jvm.MethodName) prog_102_method_5_code (6 : Nat) (Option.some Jvm.ClassFile.FieldType.int)) ∈ lw_all := lw_g (lw_at lw_m10 117 rfl) rfl
theorem q2378 : (Jvm.Cond.methodLink "jdk/internal/util/ArraysSupport" (66 : Nat) ({ cls := "jdk/internal/util/ArraysSupport", name := "utf16hashCode", desc := "(I[BII)I" } : Jvm.MethodName)) ∈ lw_all := lw_g (lw_at lw_m10 118 rfl) rfl
theorem q2379 : (Jvm.Cond.static ({ cls := "jdk/internal/util/ArraysSupport", name := "utf16hashCode", desc := "(I[BII)I" } : Jvm.MethodName)) ∈ lw_all := lw_g (lw_at lw_m10 119 rfl) rfl
theorem q2380 : (Jvm.Cond.code ({ cls := "jdk/internal/util/ArraysSupport", name := "utf16hashCode", desc := "(I[BII)I" } : Jvm.MethodName) prog_102_method_10_code (6 : Nat) (Option.some Jvm.ClassFile.FieldType.int)) ∈ lw_all := lw_g (lw_at lw_m10 120 rfl) rfl
theorem q2381 : (Jvm.Cond.fieldLink "jdk/internal/util/ArraysSupport" (106 : Nat) "jdk/internal/util/ArraysSupport" "JLA" "Ljdk/internal/access/JavaLangAccess;") ∈ lw_all := lw_g (lw_at lw_m10 121 rfl) rfl
theorem q2382 : (Jvm.Cond.laysStatic "jdk/internal/util/ArraysSupport" "JLA" "Ljdk/internal/access/JavaLangAccess;") ∈ lw_tbl := lw_at lw_m10 122 rfl
theorem q2383 : (Jvm.Cond.interfaceEntry "jdk/internal/util/ArraysSupport" (110 : Nat)) ∈ lw_tbl := lw_at lw_m10 123 rfl
theorem q2384 : (Jvm.Cond.methodLink "jdk/internal/util/ArraysSupport" (110 : Nat) ({ cls := "jdk/internal/access/JavaLangAccess", name := "getUTF16Char", desc := "([BI)C" } : Jvm.MethodName)) ∈ lw_all := lw_g (lw_at lw_m10 124 rfl) rfl
theorem q2394 : (Jvm.Cond.classLink "jdk/internal/util/ArraysSupport" (69 : Nat) "[C") ∈ lw_all := lw_g (lw_at lw_m10 134 rfl) rfl
theorem q2395 : (Jvm.Cond.methodLink "jdk/internal/util/ArraysSupport" (71 : Nat) ({ cls := "jdk/internal/util/ArraysSupport", name := "hashCode", desc := "(I[CII)I" } : Jvm.MethodName)) ∈ lw_all := lw_g (lw_at lw_m10 135 rfl) rfl
theorem q2396 : (Jvm.Cond.static ({ cls := "jdk/internal/util/ArraysSupport", name := "hashCode", desc := "(I[CII)I" } : Jvm.MethodName)) ∈ lw_all := lw_g (lw_at lw_m10 136 rfl) rfl
theorem q2397 : (Jvm.Cond.code ({ cls := "jdk/internal/util/ArraysSupport", name := "hashCode", desc := "(I[CII)I" } : Jvm.MethodName) prog_102_method_7_code (6 : Nat) (Option.some Jvm.ClassFile.FieldType.int)) ∈ lw_all := lw_g (lw_at lw_m10 137 rfl) rfl
theorem q2398 : (Jvm.Cond.methodLink "jdk/internal/util/ArraysSupport" (75 : Nat) ({ cls := "jdk/internal/util/ArraysSupport", name := "hashCode", desc := "(I[BII)I" } : Jvm.MethodName)) ∈ lw_all := lw_g (lw_at lw_m10 138 rfl) rfl
theorem q2399 : (Jvm.Cond.static ({ cls := "jdk/internal/util/ArraysSupport", name := "hashCode", desc := "(I[BII)I" } : Jvm.MethodName)) ∈ lw_all := lw_g (lw_at lw_m10 139 rfl) rfl
theorem q2400 : (Jvm.Cond.code ({ cls := "jdk/internal/util/ArraysSupport", name := "hashCode", desc := "(I[BII)I" } : Jvm.MethodName) prog_102_method_6_code (6 : Nat) (Option.some Jvm.ClassFile.FieldType.int)) ∈ lw_all := lw_g (lw_at lw_m10 140 rfl) rfl
theorem q2401 : (Jvm.Cond.classLink "jdk/internal/util/ArraysSupport" (77 : Nat) "[S") ∈ lw_all := lw_g (lw_at lw_m10 141 rfl) rfl
theorem q2402 : (Jvm.Cond.methodLink "jdk/internal/util/ArraysSupport" (79 : Nat) ({ cls := "jdk/internal/util/ArraysSupport", name := "hashCode", desc := "(I[SII)I" } : Jvm.MethodName)) ∈ lw_all := lw_g (lw_at lw_m10 142 rfl) rfl
theorem q2403 : (Jvm.Cond.static ({ cls := "jdk/internal/util/ArraysSupport", name := "hashCode", desc := "(I[SII)I" } : Jvm.MethodName)) ∈ lw_all := lw_g (lw_at lw_m10 143 rfl) rfl
theorem q2404 : (Jvm.Cond.code ({ cls := "jdk/internal/util/ArraysSupport", name := "hashCode", desc := "(I[SII)I" } : Jvm.MethodName) prog_102_method_8_code (6 : Nat) (Option.some Jvm.ClassFile.FieldType.int)) ∈ lw_all := lw_g (lw_at lw_m10 144 rfl) rfl
theorem q2405 : (Jvm.Cond.classLink "jdk/internal/util/ArraysSupport" (82 : Nat) "[I") ∈ lw_all := lw_g (lw_at lw_m10 145 rfl) rfl
theorem q2406 : (Jvm.Cond.methodLink "jdk/internal/util/ArraysSupport" (84 : Nat) ({ cls := "jdk/internal/util/ArraysSupport", name := "hashCode", desc := "(I[III)I" } : Jvm.MethodName)) ∈ lw_all := lw_g (lw_at lw_m10 146 rfl) rfl
theorem q2407 : (Jvm.Cond.static ({ cls := "jdk/internal/util/ArraysSupport", name := "hashCode", desc := "(I[III)I" } : Jvm.MethodName)) ∈ lw_all := lw_g (lw_at lw_m10 147 rfl) rfl
theorem q2408 : (Jvm.Cond.code ({ cls := "jdk/internal/util/ArraysSupport", name := "hashCode", desc := "(I[III)I" } : Jvm.MethodName) prog_102_method_9_code (6 : Nat) (Option.some Jvm.ClassFile.FieldType.int)) ∈ lw_all := lw_g (lw_at lw_m10 148 rfl) rfl
theorem q2409 : (Jvm.Cond.classLink "jdk/internal/util/ArraysSupport" (87 : Nat) "java/lang/IllegalArgumentException") ∈ lw_all := lw_g (lw_at lw_m10 149 rfl) rfl
theorem q2410 : (Jvm.Cond.classLink "jdk/internal/util/ArraysSupport" (89 : Nat) "java/lang/StringBuilder") ∈ lw_all := lw_g (lw_at lw_m10 150 rfl) rfl
theorem q2411 : (Jvm.Cond.methodLink "jdk/internal/util/ArraysSupport" (91 : Nat) ({ cls := "java/lang/StringBuilder", name := "<init>", desc := "()V" } : Jvm.MethodName)) ∈ lw_all := lw_g (lw_at lw_m10 151 rfl) rfl
theorem q2412 : (Jvm.Cond.stringRef "jdk/internal/util/ArraysSupport" (92 : Nat) "unrecognized basic type: ") ∈ lw_tbl := lw_at lw_m10 152 rfl
theorem q2413 : (Jvm.Cond.methodLink "jdk/internal/util/ArraysSupport" (94 : Nat) ({ cls := "java/lang/StringBuilder", name := "append", desc := "(Ljava/lang/String;)Ljava/lang/StringBuilder;" } : Jvm.MethodName)) ∈ lw_all := lw_g (lw_at lw_m10 153 rfl) rfl
theorem q2414 : (Jvm.Cond.methodLink "jdk/internal/util/ArraysSupport" (98 : Nat) ({ cls := "java/lang/StringBuilder", name := "append", desc := "(I)Ljava/lang/StringBuilder;" } : Jvm.MethodName)) ∈ lw_all := lw_g (lw_at lw_m10 154 rfl) rfl
theorem q2415 : (Jvm.Cond.methodLink "jdk/internal/util/ArraysSupport" (101 : Nat) ({ cls := "java/lang/StringBuilder", name := "toString", desc := "()Ljava/lang/String;" } : Jvm.MethodName)) ∈ lw_all := lw_g (lw_at lw_m10 155 rfl) rfl
theorem q2416 : (Jvm.Cond.methodLink "jdk/internal/util/ArraysSupport" (105 : Nat) ({ cls := "java/lang/IllegalArgumentException", name := "<init>", desc := "(Ljava/lang/String;)V" } : Jvm.MethodName)) ∈ lw_all := lw_g (lw_at lw_m10 156 rfl) rfl
/-! java/lang/Math -/
set_option maxRecDepth 100000
def RJ18 : String := "java/lang/Math"
abbrev cJ18_max : ByteArray := prog_37_method_65_code
def yJ18_max : MethodName := ⟨RJ18, "max", "(II)I"⟩
def dkwJ18_max_0 : List UInt8 := [26, 27, 161, 0, 7, 26, 167, 0, 4, 27, 172]
abbrev dktJ18_max_0 : List UInt8 := dkwJ18_max_0 ++ []
theorem dksJ18_max_0 : cJ18_max.data.toList.drop 0 = dktJ18_max_0 := by decide +kernel
theorem dJ18_max_0 : decode cJ18_max 0 = .ok (.iload_n 0, 1) := dk_26 (dk_at dksJ18_max_0 0 rfl rfl)
theorem dJ18_max_1 : decode cJ18_max 1 = .ok (.iload_n 1, 1) := dk_27 (dk_at dksJ18_max_0 1 rfl rfl)
theorem dJ18_max_2 : decode cJ18_max 2 = .ok (.if_icmp .lt 7, 3) := dk_161 0 7 (dk_at dksJ18_max_0 2 rfl rfl)
theorem dJ18_max_5 : decode cJ18_max 5 = .ok (.iload_n 0, 1) := dk_26 (dk_at dksJ18_max_0 5 rfl rfl)
theorem dJ18_max_6 : decode cJ18_max 6 = .ok (.goto 4, 3) := dk_167 0 4 (dk_at dksJ18_max_0 6 rfl rfl)
theorem dJ18_max_9 : decode cJ18_max 9 = .ok (.iload_n 1, 1) := dk_27 (dk_at dksJ18_max_0 9 rfl rfl)
theorem dJ18_max_10 : decode cJ18_max 10 = .ok (.ireturn, 1) := dk_172 (dk_at dksJ18_max_0 10 rfl rfl)
abbrev cJ18_min : ByteArray := prog_37_method_69_code
def yJ18_min : MethodName := ⟨RJ18, "min", "(II)I"⟩
def dkwJ18_min_0 : List UInt8 := [26, 27, 163, 0, 7, 26, 167, 0, 4, 27, 172]
abbrev dktJ18_min_0 : List UInt8 := dkwJ18_min_0 ++ []
theorem dksJ18_min_0 : cJ18_min.data.toList.drop 0 = dktJ18_min_0 := by decide +kernel
theorem dJ18_min_0 : decode cJ18_min 0 = .ok (.iload_n 0, 1) := dk_26 (dk_at dksJ18_min_0 0 rfl rfl)
theorem dJ18_min_1 : decode cJ18_min 1 = .ok (.iload_n 1, 1) := dk_27 (dk_at dksJ18_min_0 1 rfl rfl)
theorem dJ18_min_2 : decode cJ18_min 2 = .ok (.if_icmp .gt 7, 3) := dk_163 0 7 (dk_at dksJ18_min_0 2 rfl rfl)
theorem dJ18_min_5 : decode cJ18_min 5 = .ok (.iload_n 0, 1) := dk_26 (dk_at dksJ18_min_0 5 rfl rfl)
theorem dJ18_min_6 : decode cJ18_min 6 = .ok (.goto 4, 3) := dk_167 0 4 (dk_at dksJ18_min_0 6 rfl rfl)
theorem dJ18_min_9 : decode cJ18_min 9 = .ok (.iload_n 1, 1) := dk_27 (dk_at dksJ18_min_0 9 rfl rfl)
theorem dJ18_min_10 : decode cJ18_min 10 = .ok (.ireturn, 1) := dk_172 (dk_at dksJ18_min_0 10 rfl rfl)
theorem q123 : (Jvm.Cond.initialized "java/lang/Math") ∈ lw_all := lw_g (lw_at lw_m1 23 rfl) rfl
theorem q580 : (Jvm.Cond.static ({ cls := "java/lang/Math", name := "max", desc := "(II)I" } : Jvm.MethodName)) ∈ lw_all := lw_g (lw_at lw_m3 0 rfl) rfl
theorem q581 : (Jvm.Cond.code ({ cls := "java/lang/Math", name := "max", desc := "(II)I" } : Jvm.MethodName) prog_37_method_65_code (2 : Nat) (Option.some Jvm.ClassFile.FieldType.int)) ∈ lw_all := lw_g (lw_at lw_m3 1 rfl) rfl
theorem q598 : (Jvm.Cond.static ({ cls := "java/lang/Math", name := "min", desc := "(II)I" } : Jvm.MethodName)) ∈ lw_all := lw_g (lw_at lw_m3 18 rfl) rfl
theorem q599 : (Jvm.Cond.code ({ cls := "java/lang/Math", name := "min", desc := "(II)I" } : Jvm.MethodName) prog_37_method_69_code (2 : Nat) (Option.some Jvm.ClassFile.FieldType.int)) ∈ lw_all := lw_g (lw_at lw_m3 19 rfl) rfl
/-! java/util/Arrays -/
set_option maxRecDepth 100000
def RJ19 : String := "java/util/Arrays"
abbrev cJ19_copyOf : ByteArray := prog_64_method_121_code
def yJ19_copyOf : MethodName := ⟨RJ19, "copyOf", "([BI)[B"⟩
def dkwJ19_copyOf_1 : List UInt8 := [27, 184, 1, 48, 184, 0, 150, 44, 176]
abbrev dktJ19_copyOf_1 : List UInt8 := dkwJ19_copyOf_1 ++ []
def dkwJ19_copyOf_0 : List UInt8 := [27, 42, 190, 160, 0, 11, 42, 182, 1, 54, 192, 1, 55, 176, 27, 188, 8, 77, 42, 3, 44, 3, 42, 190]
abbrev dktJ19_copyOf_0 : List UInt8 := dkwJ19_copyOf_0 ++ dktJ19_copyOf_1
theorem dksJ19_copyOf_0 : cJ19_copyOf.data.toList.drop 0 = dktJ19_copyOf_0 := by decide +kernel
theorem dksJ19_copyOf_1 : cJ19_copyOf.data.toList.drop 24 = dktJ19_copyOf_1 := dk_seg dksJ19_copyOf_0 24 rfl rfl
theorem dJ19_copyOf_0 : decode cJ19_copyOf 0 = .ok (.iload_n 1, 1) := dk_27 (dk_at dksJ19_copyOf_0 0 rfl rfl)
theorem dJ19_copyOf_1 : decode cJ19_copyOf 1 = .ok (.aload_n 0, 1) := dk_42 (dk_at dksJ19_copyOf_0 1 rfl rfl)
theorem dJ19_copyOf_2 : decode cJ19_copyOf 2 = .ok (.arraylength, 1) := dk_190 (dk_at dksJ19_copyOf_0 2 rfl rfl)
theorem dJ19_copyOf_3 : decode cJ19_copyOf 3 = .ok (.if_icmp .ne 11, 3) := dk_160 0 11 (dk_at dksJ19_copyOf_0 3 rfl rfl)
theorem dJ19_copyOf_6 : decode cJ19_copyOf 6 = .ok (.aload_n 0, 1) := dk_42 (dk_at dksJ19_copyOf_0 6 rfl rfl)
theorem dJ19_copyOf_7 : decode cJ19_copyOf 7 = .ok (.invokevirtual 310, 3) := dk_182 1 54 (dk_at dksJ19_copyOf_0 7 rfl rfl)
theorem dJ19_copyOf_10 : decode cJ19_copyOf 10 = .ok (.checkcast 311, 3) := dk_192 1 55 (dk_at dksJ19_copyOf_0 10 rfl rfl)
theorem dJ19_copyOf_13 : decode cJ19_copyOf 13 = .ok (.areturn, 1) := dk_176 (dk_at dksJ19_copyOf_0 13 rfl rfl)
theorem dJ19_copyOf_14 : decode cJ19_copyOf 14 = .ok (.iload_n 1, 1) := dk_27 (dk_at dksJ19_copyOf_0 14 rfl rfl)
theorem dJ19_copyOf_15 : decode cJ19_copyOf 15 = .ok (.newarray .byte, 2) := dk_188_8 (dk_at dksJ19_copyOf_0 15 rfl rfl)
theorem dJ19_copyOf_17 : decode cJ19_copyOf 17 = .ok (.astore_n 2, 1) := dk_77 (dk_at dksJ19_copyOf_0 17 rfl rfl)
theorem dJ19_copyOf_18 : decode cJ19_copyOf 18 = .ok (.aload_n 0, 1) := dk_42 (dk_at dksJ19_copyOf_0 18 rfl rfl)
theorem dJ19_copyOf_19 : decode cJ19_copyOf 19 = .ok (.iconst 0, 1) := dk_3 (dk_at dksJ19_copyOf_0 19 rfl rfl)
theorem dJ19_copyOf_20 : decode cJ19_copyOf 20 = .ok (.aload_n 2, 1) := dk_44 (dk_at dksJ19_copyOf_0 20 rfl rfl)
theorem dJ19_copyOf_21 : decode cJ19_copyOf 21 = .ok (.iconst 0, 1) := dk_3 (dk_at dksJ19_copyOf_0 21 rfl rfl)
theorem dJ19_copyOf_22 : decode cJ19_copyOf 22 = .ok (.aload_n 0, 1) := dk_42 (dk_at dksJ19_copyOf_0 22 rfl rfl)
theorem dJ19_copyOf_23 : decode cJ19_copyOf 23 = .ok (.arraylength, 1) := dk_190 (dk_at dksJ19_copyOf_0 23 rfl rfl)
theorem dJ19_copyOf_24 : decode cJ19_copyOf 24 = .ok (.iload_n 1, 1) := dk_27 (dk_at dksJ19_copyOf_1 0 rfl rfl)
theorem dJ19_copyOf_25 : decode cJ19_copyOf 25 = .ok (.invokestatic 304, 3) := dk_184 1 48 (dk_at dksJ19_copyOf_1 1 rfl rfl)
theorem dJ19_copyOf_28 : decode cJ19_copyOf 28 = .ok (.invokestatic 150, 3) := dk_184 0 150 (dk_at dksJ19_copyOf_1 4 rfl rfl)
theorem dJ19_copyOf_31 : decode cJ19_copyOf 31 = .ok (.aload_n 2, 1) := dk_44 (dk_at dksJ19_copyOf_1 7 rfl rfl)
theorem dJ19_copyOf_32 : decode cJ19_copyOf 32 = .ok (.areturn, 1) := dk_176 (dk_at dksJ19_copyOf_1 8 rfl rfl)
abbrev cJ19_copyOfRange : ByteArray := prog_64_method_132_code
def yJ19_copyOfRange : MethodName := ⟨RJ19, "copyOfRange", "([BII)[B"⟩
def dkwJ19_copyOfRange_1 : List UInt8 := [176]
abbrev dktJ19_copyOfRange_1 : List UInt8 := dkwJ19_copyOfRange_1 ++ []
def dkwJ19_copyOfRange_0 : List UInt8 := [27, 154, 0, 9, 28, 42, 190, 159, 0, 10, 42, 27, 28, 184, 1, 83, 176, 42, 182, 1, 54, 192, 1, 55]
abbrev dktJ19_copyOfRange_0 : List UInt8 := dkwJ19_copyOfRange_0 ++ dktJ19_copyOfRange_1
theorem dksJ19_copyOfRange_0 : cJ19_copyOfRange.data.toList.drop 0 = dktJ19_copyOfRange_0 := by decide +kernel
theorem dksJ19_copyOfRange_1 : cJ19_copyOfRange.data.toList.drop 24 = dktJ19_copyOfRange_1 := dk_seg dksJ19_copyOfRange_0 24 rfl rfl
theorem dJ19_copyOfRange_0 : decode cJ19_copyOfRange 0 = .ok (.iload_n 1, 1) := dk_27 (dk_at dksJ19_copyOfRange_0 0 rfl rfl)
theorem dJ19_copyOfRange_1 : decode cJ19_copyOfRange 1 = .ok (.ifCond .ne 9, 3) := dk_154 0 9 (dk_at dksJ19_copyOfRange_0 1 rfl rfl)
theorem dJ19_copyOfRange_4 : decode cJ19_copyOfRange 4 = .ok (.iload_n 2, 1) := dk_28 (dk_at dksJ19_copyOfRange_0 4 rfl rfl)
theorem dJ19_copyOfRange_5 : decode cJ19_copyOfRange 5 = .ok (.aload_n 0, 1) := dk_42 (dk_at dksJ19_copyOfRange_0 5 rfl rfl)
theorem dJ19_copyOfRange_6 : decode cJ19_copyOfRange 6 = .ok (.arraylength, 1) := dk_190 (dk_at dksJ19_copyOfRange_0 6 rfl rfl)
theorem dJ19_copyOfRange_7 : decode cJ19_copyOfRange 7 = .ok (.if_icmp .eq 10, 3) := dk_159 0 10 (dk_at dksJ19_copyOfRange_0 7 rfl rfl)
theorem dJ19_copyOfRange_10 : decode cJ19_copyOfRange 10 = .ok (.aload_n 0, 1) := dk_42 (dk_at dksJ19_copyOfRange_0 10 rfl rfl)
theorem dJ19_copyOfRange_11 : decode cJ19_copyOfRange 11 = .ok (.iload_n 1, 1) := dk_27 (dk_at dksJ19_copyOfRange_0 11 rfl rfl)
theorem dJ19_copyOfRange_12 : decode cJ19_copyOfRange 12 = .ok (.iload_n 2, 1) := dk_28 (dk_at dksJ19_copyOfRange_0 12 rfl rfl)
theorem dJ19_copyOfRange_13 : decode cJ19_copyOfRange 13 = .ok (.invokestatic 339, 3) := dk_184 1 83 (dk_at dksJ19_copyOfRange_0 13 rfl rfl)
theorem dJ19_copyOfRange_16 : decode cJ19_copyOfRange 16 = .ok (.areturn, 1) := dk_176 (dk_at dksJ19_copyOfRange_0 16 rfl rfl)
theorem dJ19_copyOfRange_17 : decode cJ19_copyOfRange 17 = .ok (.aload_n 0, 1) := dk_42 (dk_at dksJ19_copyOfRange_0 17 rfl rfl)
theorem dJ19_copyOfRange_18 : decode cJ19_copyOfRange 18 = .ok (.invokevirtual 310, 3) := dk_182 1 54 (dk_at dksJ19_copyOfRange_0 18 rfl rfl)
theorem dJ19_copyOfRange_21 : decode cJ19_copyOfRange 21 = .ok (.checkcast 311, 3) := dk_192 1 55 (dk_at dksJ19_copyOfRange_0 21 rfl rfl)
theorem dJ19_copyOfRange_24 : decode cJ19_copyOfRange 24 = .ok (.areturn, 1) := dk_176 (dk_at dksJ19_copyOfRange_1 0 rfl rfl)
abbrev cJ19_copyOfRangeByte : ByteArray := prog_64_method_133_code
def yJ19_copyOfRangeByte : MethodName := ⟨RJ19, "copyOfRangeByte", "([BII)[B"⟩
def dkwJ19_copyOfRangeByte_1 : List UInt8 := [184, 1, 48, 184, 0, 150, 25, 4, 176]
abbrev dktJ19_copyOfRangeByte_1 : List UInt8 := dkwJ19_copyOfRangeByte_1 ++ []
def dkwJ19_copyOfRangeByte_0 : List UInt8 := [27, 28, 184, 1, 87, 28, 27, 100, 62, 29, 188, 8, 58, 4, 42, 27, 25, 4, 3, 42, 190, 27, 100, 29]
abbrev dktJ19_copyOfRangeByte_0 : List UInt8 := dkwJ19_copyOfRangeByte_0 ++ dktJ19_copyOfRangeByte_1
theorem dksJ19_copyOfRangeByte_0 : cJ19_copyOfRangeByte.data.toList.drop 0 = dktJ19_copyOfRangeByte_0 := by decide +kernel
theorem dksJ19_copyOfRangeByte_1 : cJ19_copyOfRangeByte.data.toList.drop 24 = dktJ19_copyOfRangeByte_1 := dk_seg dksJ19_copyOfRangeByte_0 24 rfl rfl
theorem dJ19_copyOfRangeByte_0 : decode cJ19_copyOfRangeByte 0 = .ok (.iload_n 1, 1) := dk_27 (dk_at dksJ19_copyOfRangeByte_0 0 rfl rfl)
theorem dJ19_copyOfRangeByte_1 : decode cJ19_copyOfRangeByte 1 = .ok (.iload_n 2, 1) := dk_28 (dk_at dksJ19_copyOfRangeByte_0 1 rfl rfl)
theorem dJ19_copyOfRangeByte_2 : decode cJ19_copyOfRangeByte 2 = .ok (.invokestatic 343, 3) := dk_184 1 87 (dk_at dksJ19_copyOfRangeByte_0 2 rfl rfl)
theorem dJ19_copyOfRangeByte_5 : decode cJ19_copyOfRangeByte 5 = .ok (.iload_n 2, 1) := dk_28 (dk_at dksJ19_copyOfRangeByte_0 5 rfl rfl)
theorem dJ19_copyOfRangeByte_6 : decode cJ19_copyOfRangeByte 6 = .ok (.iload_n 1, 1) := dk_27 (dk_at dksJ19_copyOfRangeByte_0 6 rfl rfl)
theorem dJ19_copyOfRangeByte_7 : decode cJ19_copyOfRangeByte 7 = .ok (.isub, 1) := dk_100 (dk_at dksJ19_copyOfRangeByte_0 7 rfl rfl)
theorem dJ19_copyOfRangeByte_8 : decode cJ19_copyOfRangeByte 8 = .ok (.istore_n 3, 1) := dk_62 (dk_at dksJ19_copyOfRangeByte_0 8 rfl rfl)
theorem dJ19_copyOfRangeByte_9 : decode cJ19_copyOfRangeByte 9 = .ok (.iload_n 3, 1) := dk_29 (dk_at dksJ19_copyOfRangeByte_0 9 rfl rfl)
theorem dJ19_copyOfRangeByte_10 : decode cJ19_copyOfRangeByte 10 = .ok (.newarray .byte, 2) := dk_188_8 (dk_at dksJ19_copyOfRangeByte_0 10 rfl rfl)
theorem dJ19_copyOfRangeByte_12 : decode cJ19_copyOfRangeByte 12 = .ok (.astore 4, 2) := dk_58 4 (dk_at dksJ19_copyOfRangeByte_0 12 rfl rfl)
theorem dJ19_copyOfRangeByte_14 : decode cJ19_copyOfRangeByte 14 = .ok (.aload_n 0, 1) := dk_42 (dk_at dksJ19_copyOfRangeByte_0 14 rfl rfl)
theorem dJ19_copyOfRangeByte_15 : decode cJ19_copyOfRangeByte 15 = .ok (.iload_n 1, 1) := dk_27 (dk_at dksJ19_copyOfRangeByte_0 15 rfl rfl)
theorem dJ19_copyOfRangeByte_16 : decode cJ19_copyOfRangeByte 16 = .ok (.aload 4, 2) := dk_25 4 (dk_at dksJ19_copyOfRangeByte_0 16 rfl rfl)
theorem dJ19_copyOfRangeByte_18 : decode cJ19_copyOfRangeByte 18 = .ok (.iconst 0, 1) := dk_3 (dk_at dksJ19_copyOfRangeByte_0 18 rfl rfl)
theorem dJ19_copyOfRangeByte_19 : decode cJ19_copyOfRangeByte 19 = .ok (.aload_n 0, 1) := dk_42 (dk_at dksJ19_copyOfRangeByte_0 19 rfl rfl)
theorem dJ19_copyOfRangeByte_20 : decode cJ19_copyOfRangeByte 20 = .ok (.arraylength, 1) := dk_190 (dk_at dksJ19_copyOfRangeByte_0 20 rfl rfl)
theorem dJ19_copyOfRangeByte_21 : decode cJ19_copyOfRangeByte 21 = .ok (.iload_n 1, 1) := dk_27 (dk_at dksJ19_copyOfRangeByte_0 21 rfl rfl)
theorem dJ19_copyOfRangeByte_22 : decode cJ19_copyOfRangeByte 22 = .ok (.isub, 1) := dk_100 (dk_at dksJ19_copyOfRangeByte_0 22 rfl rfl)
theorem dJ19_copyOfRangeByte_23 : decode cJ19_copyOfRangeByte 23 = .ok (.iload_n 3, 1) := dk_29 (dk_at dksJ19_copyOfRangeByte_0 23 rfl rfl)
theorem dJ19_copyOfRangeByte_24 : decode cJ19_copyOfRangeByte 24 = .ok (.invokestatic 304, 3) := dk_184 1 48 (dk_at dksJ19_copyOfRangeByte_1 0 rfl rfl)
theorem dJ19_copyOfRangeByte_27 : decode cJ19_copyOfRangeByte 27 = .ok (.invokestatic 150, 3) := dk_184 0 150 (dk_at dksJ19_copyOfRangeByte_1 3 rfl rfl)
theorem dJ19_copyOfRangeByte_30 : decode cJ19_copyOfRangeByte 30 = .ok (.aload 4, 2) := dk_25 4 (dk_at dksJ19_copyOfRangeByte_1 6 rfl rfl)
theorem dJ19_copyOfRangeByte_32 : decode cJ19_copyOfRangeByte 32 = .ok (.areturn, 1) := dk_176 (dk_at dksJ19_copyOfRangeByte_1 8 rfl rfl)
abbrev cJ19_checkLength : ByteArray := prog_64_method_131_code
def yJ19_checkLength : MethodName := ⟨RJ19, "checkLength", "(II)V"⟩
def dkwJ19_checkLength_1 : List UInt8 := [182, 0, 50, 27, 182, 0, 54, 182, 0, 61, 183, 0, 65, 191, 177]
abbrev dktJ19_checkLength_1 : List UInt8 := dkwJ19_checkLength_1 ++ []
def dkwJ19_checkLength_0 : List UInt8 := [27, 26, 162, 0, 35, 187, 0, 43, 89, 187, 0, 45, 89, 183, 0, 47, 26, 182, 0, 54, 19, 1, 81]
abbrev dktJ19_checkLength_0 : List UInt8 := dkwJ19_checkLength_0 ++ dktJ19_checkLength_1
theorem dksJ19_checkLength_0 : cJ19_checkLength.data.toList.drop 0 = dktJ19_checkLength_0 := by decide +kernel
theorem dksJ19_checkLength_1 : cJ19_checkLength.data.toList.drop 23 = dktJ19_checkLength_1 := dk_seg dksJ19_checkLength_0 23 rfl rfl
theorem dJ19_checkLength_0 : decode cJ19_checkLength 0 = .ok (.iload_n 1, 1) := dk_27 (dk_at dksJ19_checkLength_0 0 rfl rfl)
theorem dJ19_checkLength_1 : decode cJ19_checkLength 1 = .ok (.iload_n 0, 1) := dk_26 (dk_at dksJ19_checkLength_0 1 rfl rfl)
theorem dJ19_checkLength_2 : decode cJ19_checkLength 2 = .ok (.if_icmp .ge 35, 3) := dk_162 0 35 (dk_at dksJ19_checkLength_0 2 rfl rfl)
theorem dJ19_checkLength_5 : decode cJ19_checkLength 5 = .ok (.new 43, 3) := dk_187 0 43 (dk_at dksJ19_checkLength_0 5 rfl rfl)
theorem dJ19_checkLength_8 : decode cJ19_checkLength 8 = .ok (.dup, 1) := dk_89 (dk_at dksJ19_checkLength_0 8 rfl rfl)
theorem dJ19_checkLength_9 : decode cJ19_checkLength 9 = .ok (.new 45, 3) := dk_187 0 45 (dk_at dksJ19_checkLength_0 9 rfl rfl)
theorem dJ19_checkLength_12 : decode cJ19_checkLength 12 = .ok (.dup, 1) := dk_89 (dk_at dksJ19_checkLength_0 12 rfl rfl)
theorem dJ19_checkLength_13 : decode cJ19_checkLength 13 = .ok (.invokespecial 47, 3) := dk_183 0 47 (dk_at dksJ19_checkLength_0 13 rfl rfl)
theorem dJ19_checkLength_16 : decode cJ19_checkLength 16 = .ok (.iload_n 0, 1) := dk_26 (dk_at dksJ19_checkLength_0 16 rfl rfl)
theorem dJ19_checkLength_17 : decode cJ19_checkLength 17 = .ok (.invokevirtual 54, 3) := dk_182 0 54 (dk_at dksJ19_checkLength_0 17 rfl rfl)
theorem dJ19_checkLength_20 : decode cJ19_checkLength 20 = .ok (.ldc_w 337, 3) := dk_19 1 81 (dk_at dksJ19_checkLength_0 20 rfl rfl)
theorem dJ19_checkLength_23 : decode cJ19_checkLength 23 = .ok (.invokevirtual 50, 3) := dk_182 0 50 (dk_at dksJ19_checkLength_1 0 rfl rfl)
theorem dJ19_checkLength_26 : decode cJ19_checkLength 26 = .ok (.iload_n 1, 1) := dk_27 (dk_at dksJ19_checkLength_1 3 rfl rfl)
theorem dJ19_checkLength_27 : decode cJ19_checkLength 27 = .ok (.invokevirtual 54, 3) := dk_182 0 54 (dk_at dksJ19_checkLength_1 4 rfl rfl)
theorem dJ19_checkLength_30 : decode cJ19_checkLength 30 = .ok (.invokevirtual 61, 3) := dk_182 0 61 (dk_at dksJ19_checkLength_1 7 rfl rfl)
theorem dJ19_checkLength_33 : decode cJ19_checkLength 33 = .ok (.invokespecial 65, 3) := dk_183 0 65 (dk_at dksJ19_checkLength_1 10 rfl rfl)
theorem dJ19_checkLength_36 : decode cJ19_checkLength 36 = .ok (.athrow, 1) := dk_191 (dk_at dksJ19_checkLength_1 13 rfl rfl)
theorem dJ19_checkLength_37 : decode cJ19_checkLength 37 = .ok (.return_, 1) := dk_177 (dk_at dksJ19_checkLength_1 14 rfl rfl)
abbrev cJ19_copyOf_2 : ByteArray := prog_64_method_119_code
def yJ19_copyOf_2 : MethodName := ⟨RJ19, "copyOf", "([Ljava/lang/Object;I)[Ljava/lang/Object;"⟩
def dkwJ19_copyOf_2_0 : List UInt8 := [42, 27, 42, 182, 0, 86, 184, 1, 44, 176]
abbrev dktJ19_copyOf_2_0 : List UInt8 := dkwJ19_copyOf_2_0 ++ []
theorem dksJ19_copyOf_2_0 : cJ19_copyOf_2.data.toList.drop 0 = dktJ19_copyOf_2_0 := by decide +kernel
theorem dJ19_copyOf_2_0 : decode cJ19_copyOf_2 0 = .ok (.aload_n 0, 1) := dk_42 (dk_at dksJ19_copyOf_2_0 0 rfl rfl)
theorem dJ19_copyOf_2_1 : decode cJ19_copyOf_2 1 = .ok (.iload_n 1, 1) := dk_27 (dk_at dksJ19_copyOf_2_0 1 rfl rfl)
theorem dJ19_copyOf_2_2 : decode cJ19_copyOf_2 2 = .ok (.aload_n 0, 1) := dk_42 (dk_at dksJ19_copyOf_2_0 2 rfl rfl)
theorem dJ19_copyOf_2_3 : decode cJ19_copyOf_2 3 = .ok (.invokevirtual 86, 3) := dk_182 0 86 (dk_at dksJ19_copyOf_2_0 3 rfl rfl)
theorem dJ19_copyOf_2_6 : decode cJ19_copyOf_2 6 = .ok (.invokestatic 300, 3) := dk_184 1 44 (dk_at dksJ19_copyOf_2_0 6 rfl rfl)
theorem dJ19_copyOf_2_9 : decode cJ19_copyOf_2 9 = .ok (.areturn, 1) := dk_176 (dk_at dksJ19_copyOf_2_0 9 rfl rfl)
abbrev cJ19_copyOf_3 : ByteArray := prog_64_method_120_code
def yJ19_copyOf_3 : MethodName := ⟨RJ19, "copyOf", "([Ljava/lang/Object;ILjava/lang/Class;)[Ljava/lang/Object;"⟩
def dkwJ19_copyOf_3_1 : List UInt8 := [78, 42, 3, 45, 3, 42, 190, 27, 184, 1, 48, 184, 0, 150, 45, 176]
abbrev dktJ19_copyOf_3_1 : List UInt8 := dkwJ19_copyOf_3_1 ++ []
def dkwJ19_copyOf_3_0 : List UInt8 := [44, 18, 110, 166, 0, 10, 27, 189, 0, 2, 167, 0, 14, 44, 182, 0, 90, 27, 184, 0, 95, 192, 0, 110]
abbrev dktJ19_copyOf_3_0 : List UInt8 := dkwJ19_copyOf_3_0 ++ dktJ19_copyOf_3_1
theorem dksJ19_copyOf_3_0 : cJ19_copyOf_3.data.toList.drop 0 = dktJ19_copyOf_3_0 := by decide +kernel
theorem dksJ19_copyOf_3_1 : cJ19_copyOf_3.data.toList.drop 24 = dktJ19_copyOf_3_1 := dk_seg dksJ19_copyOf_3_0 24 rfl rfl
theorem dJ19_copyOf_3_0 : decode cJ19_copyOf_3 0 = .ok (.aload_n 2, 1) := dk_44 (dk_at dksJ19_copyOf_3_0 0 rfl rfl)
theorem dJ19_copyOf_3_1 : decode cJ19_copyOf_3 1 = .ok (.ldc 110, 2) := dk_18 110 (dk_at dksJ19_copyOf_3_0 1 rfl rfl)
theorem dJ19_copyOf_3_3 : decode cJ19_copyOf_3 3 = .ok (.if_acmp .ne 10, 3) := dk_166 0 10 (dk_at dksJ19_copyOf_3_0 3 rfl rfl)
theorem dJ19_copyOf_3_6 : decode cJ19_copyOf_3 6 = .ok (.iload_n 1, 1) := dk_27 (dk_at dksJ19_copyOf_3_0 6 rfl rfl)
theorem dJ19_copyOf_3_7 : decode cJ19_copyOf_3 7 = .ok (.anewarray 2, 3) := dk_189 0 2 (dk_at dksJ19_copyOf_3_0 7 rfl rfl)
theorem dJ19_copyOf_3_10 : decode cJ19_copyOf_3 10 = .ok (.goto 14, 3) := dk_167 0 14 (dk_at dksJ19_copyOf_3_0 10 rfl rfl)
theorem dJ19_copyOf_3_13 : decode cJ19_copyOf_3 13 = .ok (.aload_n 2, 1) := dk_44 (dk_at dksJ19_copyOf_3_0 13 rfl rfl)
theorem dJ19_copyOf_3_14 : decode cJ19_copyOf_3 14 = .ok (.invokevirtual 90, 3) := dk_182 0 90 (dk_at dksJ19_copyOf_3_0 14 rfl rfl)
theorem dJ19_copyOf_3_17 : decode cJ19_copyOf_3 17 = .ok (.iload_n 1, 1) := dk_27 (dk_at dksJ19_copyOf_3_0 17 rfl rfl)
theorem dJ19_copyOf_3_18 : decode cJ19_copyOf_3 18 = .ok (.invokestatic 95, 3) := dk_184 0 95 (dk_at dksJ19_copyOf_3_0 18 rfl rfl)
theorem dJ19_copyOf_3_21 : decode cJ19_copyOf_3 21 = .ok (.checkcast 110, 3) := dk_192 0 110 (dk_at dksJ19_copyOf_3_0 21 rfl rfl)
theorem dJ19_copyOf_3_24 : decode cJ19_copyOf_3 24 = .ok (.astore_n 3, 1) := dk_78 (dk_at dksJ19_copyOf_3_1 0 rfl rfl)
theorem dJ19_copyOf_3_25 : decode cJ19_copyOf_3 25 = .ok (.aload_n 0, 1) := dk_42 (dk_at dksJ19_copyOf_3_1 1 rfl rfl)
theorem dJ19_copyOf_3_26 : decode cJ19_copyOf_3 26 = .ok (.iconst 0, 1) := dk_3 (dk_at dksJ19_copyOf_3_1 2 rfl rfl)
theorem dJ19_copyOf_3_27 : decode cJ19_copyOf_3 27 = .ok (.aload_n 3, 1) := dk_45 (dk_at dksJ19_copyOf_3_1 3 rfl rfl)
theorem dJ19_copyOf_3_28 : decode cJ19_copyOf_3 28 = .ok (.iconst 0, 1) := dk_3 (dk_at dksJ19_copyOf_3_1 4 rfl rfl)
theorem dJ19_copyOf_3_29 : decode cJ19_copyOf_3 29 = .ok (.aload_n 0, 1) := dk_42 (dk_at dksJ19_copyOf_3_1 5 rfl rfl)
theorem dJ19_copyOf_3_30 : decode cJ19_copyOf_3 30 = .ok (.arraylength, 1) := dk_190 (dk_at dksJ19_copyOf_3_1 6 rfl rfl)
theorem dJ19_copyOf_3_31 : decode cJ19_copyOf_3 31 = .ok (.iload_n 1, 1) := dk_27 (dk_at dksJ19_copyOf_3_1 7 rfl rfl)
theorem dJ19_copyOf_3_32 : decode cJ19_copyOf_3 32 = .ok (.invokestatic 304, 3) := dk_184 1 48 (dk_at dksJ19_copyOf_3_1 8 rfl rfl)
theorem dJ19_copyOf_3_35 : decode cJ19_copyOf_3 35 = .ok (.invokestatic 150, 3) := dk_184 0 150 (dk_at dksJ19_copyOf_3_1 11 rfl rfl)
theorem dJ19_copyOf_3_38 : decode cJ19_copyOf_3 38 = .ok (.aload_n 3, 1) := dk_45 (dk_at dksJ19_copyOf_3_1 14 rfl rfl)
theorem dJ19_copyOf_3_39 : decode cJ19_copyOf_3 39 = .ok (.areturn, 1) := dk_176 (dk_at dksJ19_copyOf_3_1 15 rfl rfl)
abbrev cJ19_fill : ByteArray := prog_64_method_110_code
def yJ19_fill : MethodName := ⟨RJ19, "fill", "([BIIB)V"⟩
def dkwJ19_fill_1 : List UInt8 := [167, 255, 242, 177]
abbrev dktJ19_fill_1 : List UInt8 := dkwJ19_fill_1 ++ []
def dkwJ19_fill_0 : List UInt8 := [42, 190, 27, 28, 184, 0, 13, 27, 54, 4, 21, 4, 28, 162, 0, 14, 42, 21, 4, 29, 84, 132, 4, 1]
abbrev dktJ19_fill_0 : List UInt8 := dkwJ19_fill_0 ++ dktJ19_fill_1
theorem dksJ19_fill_0 : cJ19_fill.data.toList.drop 0 = dktJ19_fill_0 := by decide +kernel
theorem dksJ19_fill_1 : cJ19_fill.data.toList.drop 24 = dktJ19_fill_1 := dk_seg dksJ19_fill_0 24 rfl rfl
theorem dJ19_fill_0 : decode cJ19_fill 0 = .ok (.aload_n 0, 1) := dk_42 (dk_at dksJ19_fill_0 0 rfl rfl)
theorem dJ19_fill_1 : decode cJ19_fill 1 = .ok (.arraylength, 1) := dk_190 (dk_at dksJ19_fill_0 1 rfl rfl)
theorem dJ19_fill_2 : decode cJ19_fill 2 = .ok (.iload_n 1, 1) := dk_27 (dk_at dksJ19_fill_0 2 rfl rfl)
theorem dJ19_fill_3 : decode cJ19_fill 3 = .ok (.iload_n 2, 1) := dk_28 (dk_at dksJ19_fill_0 3 rfl rfl)
theorem dJ19_fill_4 : decode cJ19_fill 4 = .ok (.invokestatic 13, 3) := dk_184 0 13 (dk_at dksJ19_fill_0 4 rfl rfl)
theorem dJ19_fill_7 : decode cJ19_fill 7 = .ok (.iload_n 1, 1) := dk_27 (dk_at dksJ19_fill_0 7 rfl rfl)
theorem dJ19_fill_8 : decode cJ19_fill 8 = .ok (.istore 4, 2) := dk_54 4 (dk_at dksJ19_fill_0 8 rfl rfl)
theorem dJ19_fill_10 : decode cJ19_fill 10 = .ok (.iload 4, 2) := dk_21 4 (dk_at dksJ19_fill_0 10 rfl rfl)
theorem dJ19_fill_12 : decode cJ19_fill 12 = .ok (.iload_n 2, 1) := dk_28 (dk_at dksJ19_fill_0 12 rfl rfl)
theorem dJ19_fill_13 : decode cJ19_fill 13 = .ok (.if_icmp .ge 14, 3) := dk_162 0 14 (dk_at dksJ19_fill_0 13 rfl rfl)
theorem dJ19_fill_16 : decode cJ19_fill 16 = .ok (.aload_n 0, 1) := dk_42 (dk_at dksJ19_fill_0 16 rfl rfl)
theorem dJ19_fill_17 : decode cJ19_fill 17 = .ok (.iload 4, 2) := dk_21 4 (dk_at dksJ19_fill_0 17 rfl rfl)
theorem dJ19_fill_19 : decode cJ19_fill 19 = .ok (.iload_n 3, 1) := dk_29 (dk_at dksJ19_fill_0 19 rfl rfl)
theorem dJ19_fill_20 : decode cJ19_fill 20 = .ok (.bastore, 1) := dk_84 (dk_at dksJ19_fill_0 20 rfl rfl)
theorem dJ19_fill_21 : decode cJ19_fill 21 = .ok (.iinc 4 1, 3) := dk_132 4 1 (dk_at dksJ19_fill_0 21 rfl rfl)
theorem dJ19_fill_24 : decode cJ19_fill 24 = .ok (.goto (-14), 3) := dk_167 255 242 (dk_at dksJ19_fill_1 0 rfl rfl)
theorem dJ19_fill_27 : decode cJ19_fill 27 = .ok (.return_, 1) := dk_177 (dk_at dksJ19_fill_1 3 rfl rfl)
abbrev cJ19_rangeCheck : ByteArray := prog_64_method_30_code
def yJ19_rangeCheck : MethodName := ⟨RJ19, "rangeCheck", "(III)V"⟩
def dkwJ19_rangeCheck_3 : List UInt8 := [183, 0, 70, 191, 177]
abbrev dktJ19_rangeCheck_3 : List UInt8 := dkwJ19_rangeCheck_3 ++ []
def dkwJ19_rangeCheck_2 : List UInt8 := [27, 156, 0, 12, 187, 0, 68, 89, 27, 183, 0, 70, 191, 28, 26, 164, 0, 12, 187, 0, 68, 89, 28]
abbrev dktJ19_rangeCheck_2 : List UInt8 := dkwJ19_rangeCheck_2 ++ dktJ19_rangeCheck_3
def dkwJ19_rangeCheck_1 : List UInt8 := [182, 0, 54, 18, 57, 182, 0, 50, 28, 182, 0, 54, 18, 59, 182, 0, 50, 182, 0, 61, 183, 0, 65, 191]
abbrev dktJ19_rangeCheck_1 : List UInt8 := dkwJ19_rangeCheck_1 ++ dktJ19_rangeCheck_2
def dkwJ19_rangeCheck_0 : List UInt8 := [27, 28, 164, 0, 44, 187, 0, 43, 89, 187, 0, 45, 89, 183, 0, 47, 18, 48, 182, 0, 50, 27]
abbrev dktJ19_rangeCheck_0 : List UInt8 := dkwJ19_rangeCheck_0 ++ dktJ19_rangeCheck_1
theorem dksJ19_rangeCheck_0 : cJ19_rangeCheck.data.toList.drop 0 = dktJ19_rangeCheck_0 := by decide +kernel
theorem dksJ19_rangeCheck_1 : cJ19_rangeCheck.data.toList.drop 22 = dktJ19_rangeCheck_1 := dk_seg dksJ19_rangeCheck_0 22 rfl rfl
theorem dksJ19_rangeCheck_2 : cJ19_rangeCheck.data.toList.drop 46 = dktJ19_rangeCheck_2 := dk_seg dksJ19_rangeCheck_1 24 rfl rfl
theorem dksJ19_rangeCheck_3 : cJ19_rangeCheck.data.toList.drop 69 = dktJ19_rangeCheck_3 := dk_seg dksJ19_rangeCheck_2 23 rfl rfl
theorem dJ19_rangeCheck_0 : decode cJ19_rangeCheck 0 = .ok (.iload_n 1, 1) := dk_27 (dk_at dksJ19_rangeCheck_0 0 rfl rfl)
theorem dJ19_rangeCheck_1 : decode cJ19_rangeCheck 1 = .ok (.iload_n 2, 1) := dk_28 (dk_at dksJ19_rangeCheck_0 1 rfl rfl)
theorem dJ19_rangeCheck_2 : decode cJ19_rangeCheck 2 = .ok (.if_icmp .le 44, 3) := dk_164 0 44 (dk_at dksJ19_rangeCheck_0 2 rfl rfl)
theorem dJ19_rangeCheck_5 : decode cJ19_rangeCheck 5 = .ok (.new 43, 3) := dk_187 0 43 (dk_at dksJ19_rangeCheck_0 5 rfl rfl)
theorem dJ19_rangeCheck_8 : decode cJ19_rangeCheck 8 = .ok (.dup, 1) := dk_89 (dk_at dksJ19_rangeCheck_0 8 rfl rfl)
theorem dJ19_rangeCheck_9 : decode cJ19_rangeCheck 9 = .ok (.new 45, 3) := dk_187 0 45 (dk_at dksJ19_rangeCheck_0 9 rfl rfl)
theorem dJ19_rangeCheck_12 : decode cJ19_rangeCheck 12 = .ok (.dup, 1) := dk_89 (dk_at dksJ19_rangeCheck_0 12 rfl rfl)
theorem dJ19_rangeCheck_13 : decode cJ19_rangeCheck 13 = .ok (.invokespecial 47, 3) := dk_183 0 47 (dk_at dksJ19_rangeCheck_0 13 rfl rfl)
theorem dJ19_rangeCheck_16 : decode cJ19_rangeCheck 16 = .ok (.ldc 48, 2) := dk_18 48 (dk_at dksJ19_rangeCheck_0 16 rfl rfl)
theorem dJ19_rangeCheck_18 : decode cJ19_rangeCheck 18 = .ok (.invokevirtual 50, 3) := dk_182 0 50 (dk_at dksJ19_rangeCheck_0 18 rfl rfl)
theorem dJ19_rangeCheck_21 : decode cJ19_rangeCheck 21 = .ok (.iload_n 1, 1) := dk_27 (dk_at dksJ19_rangeCheck_0 21 rfl rfl)
theorem dJ19_rangeCheck_22 : decode cJ19_rangeCheck 22 = .ok (.invokevirtual 54, 3) := dk_182 0 54 (dk_at dksJ19_rangeCheck_1 0 rfl rfl)
theorem dJ19_rangeCheck_25 : decode cJ19_rangeCheck 25 = .ok (.ldc 57, 2) := dk_18 57 (dk_at dksJ19_rangeCheck_1 3 rfl rfl)
theorem dJ19_rangeCheck_27 : decode cJ19_rangeCheck 27 = .ok (.invokevirtual 50, 3) := dk_182 0 50 (dk_at dksJ19_rangeCheck_1 5 rfl rfl)
theorem dJ19_rangeCheck_30 : decode cJ19_rangeCheck 30 = .ok (.iload_n 2, 1) := dk_28 (dk_at dksJ19_rangeCheck_1 8 rfl rfl)
theorem dJ19_rangeCheck_31 : decode cJ19_rangeCheck 31 = .ok (.invokevirtual 54, 3) := dk_182 0 54 (dk_at dksJ19_rangeCheck_1 9 rfl rfl)
theorem dJ19_rangeCheck_34 : decode cJ19_rangeCheck 34 = .ok (.ldc 59, 2) := dk_18 59 (dk_at dksJ19_rangeCheck_1 12 rfl rfl)
theorem dJ19_rangeCheck_36 : decode cJ19_rangeCheck 36 = .ok (.invokevirtual 50, 3) := dk_182 0 50 (dk_at dksJ19_rangeCheck_1 14 rfl rfl)
theorem dJ19_rangeCheck_39 : decode cJ19_rangeCheck 39 = .ok (.invokevirtual 61, 3) := dk_182 0 61 (dk_at dksJ19_rangeCheck_1 17 rfl rfl)
theorem dJ19_rangeCheck_42 : decode cJ19_rangeCheck 42 = .ok (.invokespecial 65, 3) := dk_183 0 65 (dk_at dksJ19_rangeCheck_1 20 rfl rfl)
theorem dJ19_rangeCheck_45 : decode cJ19_rangeCheck 45 = .ok (.athrow, 1) := dk_191 (dk_at dksJ19_rangeCheck_1 23 rfl rfl)
theorem dJ19_rangeCheck_46 : decode cJ19_rangeCheck 46 = .ok (.iload_n 1, 1) := dk_27 (dk_at dksJ19_rangeCheck_2 0 rfl rfl)
theorem dJ19_rangeCheck_47 : decode cJ19_rangeCheck 47 = .ok (.ifCond .ge 12, 3) := dk_156 0 12 (dk_at dksJ19_rangeCheck_2 1 rfl rfl)
theorem dJ19_rangeCheck_50 : decode cJ19_rangeCheck 50 = .ok (.new 68, 3) := dk_187 0 68 (dk_at dksJ19_rangeCheck_2 4 rfl rfl)
theorem dJ19_rangeCheck_53 : decode cJ19_rangeCheck 53 = .ok (.dup, 1) := dk_89 (dk_at dksJ19_rangeCheck_2 7 rfl rfl)
theorem dJ19_rangeCheck_54 : decode cJ19_rangeCheck 54 = .ok (.iload_n 1, 1) := dk_27 (dk_at dksJ19_rangeCheck_2 8 rfl rfl)
theorem dJ19_rangeCheck_55 : decode cJ19_rangeCheck 55 = .ok (.invokespecial 70, 3) := dk_183 0 70 (dk_at dksJ19_rangeCheck_2 9 rfl rfl)
theorem dJ19_rangeCheck_58 : decode cJ19_rangeCheck 58 = .ok (.athrow, 1) := dk_191 (dk_at dksJ19_rangeCheck_2 12 rfl rfl)
theorem dJ19_rangeCheck_59 : decode cJ19_rangeCheck 59 = .ok (.iload_n 2, 1) := dk_28 (dk_at dksJ19_rangeCheck_2 13 rfl rfl)
theorem dJ19_rangeCheck_60 : decode cJ19_rangeCheck 60 = .ok (.iload_n 0, 1) := dk_26 (dk_at dksJ19_rangeCheck_2 14 rfl rfl)
theorem dJ19_rangeCheck_61 : decode cJ19_rangeCheck 61 = .ok (.if_icmp .le 12, 3) := dk_164 0 12 (dk_at dksJ19_rangeCheck_2 15 rfl rfl)
theorem dJ19_rangeCheck_64 : decode cJ19_rangeCheck 64 = .ok (.new 68, 3) := dk_187 0 68 (dk_at dksJ19_rangeCheck_2 18 rfl rfl)
theorem dJ19_rangeCheck_67 : decode cJ19_rangeCheck 67 = .ok (.dup, 1) := dk_89 (dk_at dksJ19_rangeCheck_2 21 rfl rfl)
theorem dJ19_rangeCheck_68 : decode cJ19_rangeCheck 68 = .ok (.iload_n 2, 1) := dk_28 (dk_at dksJ19_rangeCheck_2 22 rfl rfl)
theorem dJ19_rangeCheck_69 : decode cJ19_rangeCheck 69 = .ok (.invokespecial 70, 3) := dk_183 0 70 (dk_at dksJ19_rangeCheck_3 0 rfl rfl)
theorem dJ19_rangeCheck_72 : decode cJ19_rangeCheck 72 = .ok (.athrow, 1) := dk_191 (dk_at dksJ19_rangeCheck_3 3 rfl rfl)
theorem dJ19_rangeCheck_73 : decode cJ19_rangeCheck 73 = .ok (.return_, 1) := dk_177 (dk_at dksJ19_rangeCheck_3 4 rfl rfl)
theorem q124 : (Jvm.Cond.initialized "java/util/Arrays") ∈ lw_all := lw_g (lw_at lw_m1 24 rfl) rfl
theorem q588 : (Jvm.Cond.static ({ cls := "java/util/Arrays", name := "copyOf", desc := "([BI)[B" } : Jvm.MethodName)) ∈ lw_all := lw_g (lw_at lw_m3 8 rfl) rfl
theorem q589 : (Jvm.Cond.code ({ cls := "java/util/Arrays", name := "copyOf", desc := "([BI)[B" } : Jvm.MethodName) prog_64_method_121_code (3 : Nat) (Option.some (Jvm.ClassFile.FieldType.array Jvm.ClassFile.FieldType.byte))) ∈ lw_all := lw_g (lw_at lw_m3 9 rfl) rfl
theorem q590 : (Jvm.Cond.methodLink "java/util/Arrays" (310 : Nat) ({ cls := "[B", name := "clone", desc := "()Ljava/lang/Object;" } : Jvm.MethodName)) ∈ lw_all := lw_g (lw_at lw_m3 10 rfl) rfl
theorem q596 : (Jvm.Cond.classLink "java/util/Arrays" (311 : Nat) "[B") ∈ lw_all := lw_g (lw_at lw_m3 16 rfl) rfl
theorem q597 : (Jvm.Cond.methodLink "java/util/Arrays" (304 : Nat) ({ cls := "java/lang/Math", name := "min", desc := "(II)I" } : Jvm.MethodName)) ∈ lw_all := lw_g (lw_at lw_m3 17 rfl) rfl
theorem q600 : (Jvm.Cond.methodLink "java/util/Arrays" (150 : Nat) ({ cls := "java/lang/System", name := "arraycopy", desc := "(Ljava/lang/Object;ILjava/lang/Object;II)V" } : Jvm.MethodName)) ∈ lw_all := lw_g (lw_at lw_m3 20 rfl) rfl
theorem q731 : (Jvm.Cond.static ({ cls := "java/util/Arrays", name := "copyOfRange", desc := "([BII)[B" } : Jvm.MethodName)) ∈ lw_all := lw_g (lw_at lw_m3 151 rfl) rfl
theorem q732 : (Jvm.Cond.code ({ cls := "java/util/Arrays", name := "copyOfRange", desc := "([BII)[B" } : Jvm.MethodName) prog_64_method_132_code (3 : Nat) (Option.some (Jvm.ClassFile.FieldType.array Jvm.ClassFile.FieldType.byte))) ∈ lw_all := lw_g (lw_at lw_m3 152 rfl) rfl
theorem q733 : (Jvm.Cond.methodLink "java/util/Arrays" (339 : Nat) ({ cls := "java/util/Arrays", name := "copyOfRangeByte", desc := "([BII)[B" } : Jvm.MethodName)) ∈ lw_all := lw_g (lw_at lw_m3 153 rfl) rfl
theorem q734 : (Jvm.Cond.static ({ cls := "java/util/Arrays", name := "copyOfRangeByte", desc := "([BII)[B" } : Jvm.MethodName)) ∈ lw_all := lw_g (lw_at lw_m3 154 rfl) rfl
theorem q735 : (Jvm.Cond.code ({ cls := "java/util/Arrays", name := "copyOfRangeByte", desc := "([BII)[B" } : Jvm.MethodName) prog_64_method_133_code (5 : Nat) (Option.some (Jvm.ClassFile.FieldType.array Jvm.ClassFile.FieldType.byte))) ∈ lw_all := lw_g (lw_at lw_m3 155 rfl) rfl
theorem q736 : (Jvm.Cond.methodLink "java/util/Arrays" (343 : Nat) ({ cls := "java/util/Arrays", name := "checkLength", desc := "(II)V" } : Jvm.MethodName)) ∈ lw_all := lw_g (lw_at lw_m3 156 rfl) rfl
theorem q737 : (Jvm.Cond.static ({ cls := "java/util/Arrays", name := "checkLength", desc := "(II)V" } : Jvm.MethodName)) ∈ lw_all := lw_g (lw_at lw_m3 157 rfl) rfl
theorem q738 : (Jvm.Cond.code ({ cls := "java/util/Arrays", name := "checkLength", desc := "(II)V" } : Jvm.MethodName) prog_64_method_131_code (2 : Nat) (Option.none : Option Jvm.ClassFile.FieldType)) ∈ lw_all := lw_g (lw_at lw_m3 158 rfl) rfl
theorem q739 : (Jvm.Cond.classLink "java/util/Arrays" (43 : Nat) "java/lang/IllegalArgumentException") ∈ lw_all := lw_g (lw_at lw_m3 159 rfl) rfl
theorem q748 : (Jvm.Cond.classLink "java/util/Arrays" (45 : Nat) "java/lang/StringBuilder") ∈ lw_all := lw_g (lw_at lw_m3 168 rfl) rfl
theorem q749 : (Jvm.Cond.methodLink "java/util/Arrays" (47 : Nat) ({ cls := "java/lang/StringBuilder", name := "<init>", desc := "()V" } : Jvm.MethodName)) ∈ lw_all := lw_g (lw_at lw_m3 169 rfl) rfl
theorem q750 : (Jvm.Cond.methodLink "java/util/Arrays" (54 : Nat) ({ cls := "java/lang/StringBuilder", name := "append", desc := "(I)Ljava/lang/StringBuilder;" } : Jvm.MethodName)) ∈ lw_all := lw_g (lw_at lw_m3 170 rfl) rfl
theorem q751 : (Jvm.Cond.stringRef "java/util/Arrays" (337 : Nat) " > ") ∈ lw_tbl := lw_at lw_m3 171 rfl
theorem q752 : (Jvm.Cond.methodLink "java/util/Arrays" (50 : Nat) ({ cls := "java/lang/StringBuilder", name := "append", desc := "(Ljava/lang/String;)Ljava/lang/StringBuilder;" } : Jvm.MethodName)) ∈ lw_all := lw_g (lw_at lw_m3 172 rfl) rfl
theorem q753 : (Jvm.Cond.methodLink "java/util/Arrays" (61 : Nat) ({ cls := "java/lang/StringBuilder", name := "toString", desc := "()Ljava/lang/String;" } : Jvm.MethodName)) ∈ lw_all := lw_g (lw_at lw_m3 173 rfl) rfl
theorem q754 : (Jvm.Cond.methodLink "java/util/Arrays" (65 : Nat) ({ cls := "java/lang/IllegalArgumentException", name := "<init>", desc := "(Ljava/lang/String;)V" } : Jvm.MethodName)) ∈ lw_all := lw_g (lw_at lw_m3 174 rfl) rfl
theorem q1195 : (Jvm.Cond.static ({ cls := "java/util/Arrays", name := "copyOf", desc := "([Ljava/lang/Object;I)[Ljava/lang/Object;" } : Jvm.MethodName)) ∈ lw_all := lw_g (lw_at lw_m5 135 rfl) rfl
theorem q1196 : (Jvm.Cond.code ({ cls := "java/util/Arrays", name := "copyOf", desc := "([Ljava/lang/Object;I)[Ljava/lang/Object;" } : Jvm.MethodName) prog_64_method_119_code (2 : Nat) (Option.some (Jvm.ClassFile.FieldType.array (Jvm.ClassFile.FieldType.object "java/lang/Object")))) ∈ lw_all := lw_g (lw_at lw_m5 136 rfl) rfl
theorem q1197 : (Jvm.Cond.methodLink "java/util/Arrays" (86 : Nat) ({ cls := "java/lang/Object", name := "getClass", desc := "()Ljava/lang/Class;" } : Jvm.MethodName)) ∈ lw_all := lw_g (lw_at lw_m5 137 rfl) rfl
theorem q1198 : (Jvm.Cond.methodLink "java/util/Arrays" (300 : Nat) ({ cls := "java/util/Arrays", name := "copyOf", desc := "([Ljava/lang/Object;ILjava/lang/Class;)[Ljava/lang/Object;" } : Jvm.MethodName)) ∈ lw_all := lw_g (lw_at lw_m5 138 rfl) rfl
theorem q1199 : (Jvm.Cond.static ({ cls := "java/util/Arrays", name := "copyOf", desc := "([Ljava/lang/Object;ILjava/lang/Class;)[Ljava/lang/Object;" } : Jvm.MethodName)) ∈ lw_all := lw_g (lw_at lw_m5 139 rfl) rfl
theorem q1200 : (Jvm.Cond.code ({ cls := "java/util/Arrays", name := "copyOf", desc := "([Ljava/lang/Object;ILjava/lang/Class;)[Ljava/lang/Object;" } : Jvm.MethodName) prog_64_method_120_code (4 : Nat) (Option.some (Jvm.ClassFile.FieldType.array (Jvm.ClassFile.FieldType.object "java/lang/Object")))) ∈ lw_all := lw_g (lw_at lw_m5 140 rfl) rfl
theorem q1201 : (Jvm.Cond.classLink "java/util/Arrays" (110 : Nat) "[Ljava/lang/Object;") ∈ lw_all := lw_g (lw_at lw_m5 141 rfl) rfl
theorem q1203 : (Jvm.Cond.classLink "java/util/Arrays" (2 : Nat) "java/lang/Object") ∈ lw_all := lw_g (lw_at lw_m5 143 rfl) rfl
theorem q3398 : (Jvm.Cond.static ({ cls := "java/util/Arrays", name := "fill", desc := "([BIIB)V" } : Jvm.MethodName)) ∈ lw_all := lw_g (lw_at lw_m14 178 rfl) rfl
theorem q3399 : (Jvm.Cond.code ({ cls := "java/util/Arrays", name := "fill", desc := "([BIIB)V" } : Jvm.MethodName) prog_64_method_110_code (5 : Nat) (Option.none : Option Jvm.ClassFile.FieldType)) ∈ lw_all := lw_g (lw_at lw_m14 179 rfl) rfl
theorem q3400 : (Jvm.Cond.methodLink "java/util/Arrays" (13 : Nat) ({ cls := "java/util/Arrays", name := "rangeCheck", desc := "(III)V" } : Jvm.MethodName)) ∈ lw_all := lw_g (lw_at lw_m14 180 rfl) rfl
theorem q3401 : (Jvm.Cond.static ({ cls := "java/util/Arrays", name := "rangeCheck", desc := "(III)V" } : Jvm.MethodName)) ∈ lw_all := lw_g (lw_at lw_m14 181 rfl) rfl
theorem q3402 : (Jvm.Cond.code ({ cls := "java/util/Arrays", name := "rangeCheck", desc := "(III)V" } : Jvm.MethodName) prog_64_method_30_code (3 : Nat) (Option.none : Option Jvm.ClassFile.FieldType)) ∈ lw_all := lw_g (lw_at lw_m14 182 rfl) rfl
theorem q3403 : (Jvm.Cond.stringRef "java/util/Arrays" (48 : Nat) "fromIndex(") ∈ lw_tbl := lw_at lw_m14 183 rfl
theorem q3404 : (Jvm.Cond.stringRef "java/util/Arrays" (57 : Nat) ") > toIndex(") ∈ lw_tbl := lw_at lw_m14 184 rfl
theorem q3405 : (Jvm.Cond.stringRef "java/util/Arrays" (59 : Nat) ")") ∈ lw_tbl := lw_at lw_m14 185 rfl
theorem q3406 : (Jvm.Cond.classLink "java/util/Arrays" (68 : Nat) "java/lang/ArrayIndexOutOfBoundsException") ∈ lw_all := lw_g (lw_at lw_m14 186 rfl) rfl
theorem q3407 : (Jvm.Cond.methodLink "java/util/Arrays" (70 : Nat) ({ cls := "java/lang/ArrayIndexOutOfBoundsException", name := "<init>", desc := "(I)V" } : Jvm.MethodName)) ∈ lw_all := lw_g (lw_at lw_m14 187 rfl) rfl
/-! java/lang/StringLatin1 -/
set_option maxRecDepth 100000
def RJ20 : String := "java/lang/StringLatin1"
abbrev cJ20_inflate : ByteArray := prog_44_method_50_code
def yJ20_inflate : MethodName := ⟨RJ20, "inflate", "([BI[BII)V"⟩
def dkwJ20_inflate_0 : List UInt8 := [42, 27, 44, 29, 21, 4, 184, 0, 240, 177]
abbrev dktJ20_inflate_0 : List UInt8 := dkwJ20_inflate_0 ++ []
theorem dksJ20_inflate_0 : cJ20_inflate.data.toList.drop 0 = dktJ20_inflate_0 := by decide +kernel
theorem dJ20_inflate_0 : decode cJ20_inflate 0 = .ok (.aload_n 0, 1) := dk_42 (dk_at dksJ20_inflate_0 0 rfl rfl)
theorem dJ20_inflate_1 : decode cJ20_inflate 1 = .ok (.iload_n 1, 1) := dk_27 (dk_at dksJ20_inflate_0 1 rfl rfl)
theorem dJ20_inflate_2 : decode cJ20_inflate 2 = .ok (.aload_n 2, 1) := dk_44 (dk_at dksJ20_inflate_0 2 rfl rfl)
theorem dJ20_inflate_3 : decode cJ20_inflate 3 = .ok (.iload_n 3, 1) := dk_29 (dk_at dksJ20_inflate_0 3 rfl rfl)
theorem dJ20_inflate_4 : decode cJ20_inflate 4 = .ok (.iload 4, 2) := dk_21 4 (dk_at dksJ20_inflate_0 4 rfl rfl)
theorem dJ20_inflate_6 : decode cJ20_inflate 6 = .ok (.invokestatic 240, 3) := dk_184 0 240 (dk_at dksJ20_inflate_0 6 rfl rfl)
theorem dJ20_inflate_9 : decode cJ20_inflate 9 = .ok (.return_, 1) := dk_177 (dk_at dksJ20_inflate_0 9 rfl rfl)
abbrev cJ20_compareTo : ByteArray := prog_44_method_14_code
def yJ20_compareTo : MethodName := ⟨RJ20, "compareTo", "([B[B)I"⟩
def dkwJ20_compareTo_0 : List UInt8 := [42, 190, 61, 43, 190, 62, 42, 43, 28, 29, 184, 0, 34, 172]
abbrev dktJ20_compareTo_0 : List UInt8 := dkwJ20_compareTo_0 ++ []
theorem dksJ20_compareTo_0 : cJ20_compareTo.data.toList.drop 0 = dktJ20_compareTo_0 := by decide +kernel
theorem dJ20_compareTo_0 : decode cJ20_compareTo 0 = .ok (.aload_n 0, 1) := dk_42 (dk_at dksJ20_compareTo_0 0 rfl rfl)
theorem dJ20_compareTo_1 : decode cJ20_compareTo 1 = .ok (.arraylength, 1) := dk_190 (dk_at dksJ20_compareTo_0 1 rfl rfl)
theorem dJ20_compareTo_2 : decode cJ20_compareTo 2 = .ok (.istore_n 2, 1) := dk_61 (dk_at dksJ20_compareTo_0 2 rfl rfl)
theorem dJ20_compareTo_3 : decode cJ20_compareTo 3 = .ok (.aload_n 1, 1) := dk_43 (dk_at dksJ20_compareTo_0 3 rfl rfl)
theorem dJ20_compareTo_4 : decode cJ20_compareTo 4 = .ok (.arraylength, 1) := dk_190 (dk_at dksJ20_compareTo_0 4 rfl rfl)
theorem dJ20_compareTo_5 : decode cJ20_compareTo 5 = .ok (.istore_n 3, 1) := dk_62 (dk_at dksJ20_compareTo_0 5 rfl rfl)
theorem dJ20_compareTo_6 : decode cJ20_compareTo 6 = .ok (.aload_n 0, 1) := dk_42 (dk_at dksJ20_compareTo_0 6 rfl rfl)
theorem dJ20_compareTo_7 : decode cJ20_compareTo 7 = .ok (.aload_n 1, 1) := dk_43 (dk_at dksJ20_compareTo_0 7 rfl rfl)
theorem dJ20_compareTo_8 : decode cJ20_compareTo 8 = .ok (.iload_n 2, 1) := dk_28 (dk_at dksJ20_compareTo_0 8 rfl rfl)
theorem dJ20_compareTo_9 : decode cJ20_compareTo 9 = .ok (.iload_n 3, 1) := dk_29 (dk_at dksJ20_compareTo_0 9 rfl rfl)
theorem dJ20_compareTo_10 : decode cJ20_compareTo 10 = .ok (.invokestatic 34, 3) := dk_184 0 34 (dk_at dksJ20_compareTo_0 10 rfl rfl)
theorem dJ20_compareTo_13 : decode cJ20_compareTo 13 = .ok (.ireturn, 1) := dk_172 (dk_at dksJ20_compareTo_0 13 rfl rfl)
abbrev cJ20_compareTo_2 : ByteArray := prog_44_method_15_code
def yJ20_compareTo_2 : MethodName := ⟨RJ20, "compareTo", "([B[BII)I"⟩
def dkwJ20_compareTo_2_1 : List UInt8 := [167, 0, 16, 42, 21, 5, 184, 0, 50, 43, 21, 5, 184, 0, 50, 100, 172]
abbrev dktJ20_compareTo_2_1 : List UInt8 := dkwJ20_compareTo_2_1 ++ []
def dkwJ20_compareTo_2_0 : List UInt8 := [28, 29, 184, 0, 38, 54, 4, 42, 43, 21, 4, 184, 0, 44, 54, 5, 21, 5, 156, 0, 9, 28, 29, 100]
abbrev dktJ20_compareTo_2_0 : List UInt8 := dkwJ20_compareTo_2_0 ++ dktJ20_compareTo_2_1
theorem dksJ20_compareTo_2_0 : cJ20_compareTo_2.data.toList.drop 0 = dktJ20_compareTo_2_0 := by decide +kernel
theorem dksJ20_compareTo_2_1 : cJ20_compareTo_2.data.toList.drop 24 = dktJ20_compareTo_2_1 := dk_seg dksJ20_compareTo_2_0 24 rfl rfl
theorem dJ20_compareTo_2_0 : decode cJ20_compareTo_2 0 = .ok (.iload_n 2, 1) := dk_28 (dk_at dksJ20_compareTo_2_0 0 rfl rfl)
theorem dJ20_compareTo_2_1 : decode cJ20_compareTo_2 1 = .ok (.iload_n 3, 1) := dk_29 (dk_at dksJ20_compareTo_2_0 1 rfl rfl)
theorem dJ20_compareTo_2_2 : decode cJ20_compareTo_2 2 = .ok (.invokestatic 38, 3) := dk_184 0 38 (dk_at dksJ20_compareTo_2_0 2 rfl rfl)
theorem dJ20_compareTo_2_5 : decode cJ20_compareTo_2 5 = .ok (.istore 4, 2) := dk_54 4 (dk_at dksJ20_compareTo_2_0 5 rfl rfl)
theorem dJ20_compareTo_2_7 : decode cJ20_compareTo_2 7 = .ok (.aload_n 0, 1) := dk_42 (dk_at dksJ20_compareTo_2_0 7 rfl rfl)
theorem dJ20_compareTo_2_8 : decode cJ20_compareTo_2 8 = .ok (.aload_n 1, 1) := dk_43 (dk_at dksJ20_compareTo_2_0 8 rfl rfl)
theorem dJ20_compareTo_2_9 : decode cJ20_compareTo_2 9 = .ok (.iload 4, 2) := dk_21 4 (dk_at dksJ20_compareTo_2_0 9 rfl rfl)
theorem dJ20_compareTo_2_11 : decode cJ20_compareTo_2 11 = .ok (.invokestatic 44, 3) := dk_184 0 44 (dk_at dksJ20_compareTo_2_0 11 rfl rfl)
theorem dJ20_compareTo_2_14 : decode cJ20_compareTo_2 14 = .ok (.istore 5, 2) := dk_54 5 (dk_at dksJ20_compareTo_2_0 14 rfl rfl)
theorem dJ20_compareTo_2_16 : decode cJ20_compareTo_2 16 = .ok (.iload 5, 2) := dk_21 5 (dk_at dksJ20_compareTo_2_0 16 rfl rfl)
theorem dJ20_compareTo_2_18 : decode cJ20_compareTo_2 18 = .ok (.ifCond .ge 9, 3) := dk_156 0 9 (dk_at dksJ20_compareTo_2_0 18 rfl rfl)
theorem dJ20_compareTo_2_21 : decode cJ20_compareTo_2 21 = .ok (.iload_n 2, 1) := dk_28 (dk_at dksJ20_compareTo_2_0 21 rfl rfl)
theorem dJ20_compareTo_2_22 : decode cJ20_compareTo_2 22 = .ok (.iload_n 3, 1) := dk_29 (dk_at dksJ20_compareTo_2_0 22 rfl rfl)
theorem dJ20_compareTo_2_23 : decode cJ20_compareTo_2 23 = .ok (.isub, 1) := dk_100 (dk_at dksJ20_compareTo_2_0 23 rfl rfl)
theorem dJ20_compareTo_2_24 : decode cJ20_compareTo_2 24 = .ok (.goto 16, 3) := dk_167 0 16 (dk_at dksJ20_compareTo_2_1 0 rfl rfl)
theorem dJ20_compareTo_2_27 : decode cJ20_compareTo_2 27 = .ok (.aload_n 0, 1) := dk_42 (dk_at dksJ20_compareTo_2_1 3 rfl rfl)
theorem dJ20_compareTo_2_28 : decode cJ20_compareTo_2 28 = .ok (.iload 5, 2) := dk_21 5 (dk_at dksJ20_compareTo_2_1 4 rfl rfl)
theorem dJ20_compareTo_2_30 : decode cJ20_compareTo_2 30 = .ok (.invokestatic 50, 3) := dk_184 0 50 (dk_at dksJ20_compareTo_2_1 6 rfl rfl)
theorem dJ20_compareTo_2_33 : decode cJ20_compareTo_2 33 = .ok (.aload_n 1, 1) := dk_43 (dk_at dksJ20_compareTo_2_1 9 rfl rfl)
theorem dJ20_compareTo_2_34 : decode cJ20_compareTo_2 34 = .ok (.iload 5, 2) := dk_21 5 (dk_at dksJ20_compareTo_2_1 10 rfl rfl)
theorem dJ20_compareTo_2_36 : decode cJ20_compareTo_2 36 = .ok (.invokestatic 50, 3) := dk_184 0 50 (dk_at dksJ20_compareTo_2_1 12 rfl rfl)
theorem dJ20_compareTo_2_39 : decode cJ20_compareTo_2 39 = .ok (.isub, 1) := dk_100 (dk_at dksJ20_compareTo_2_1 15 rfl rfl)
theorem dJ20_compareTo_2_40 : decode cJ20_compareTo_2 40 = .ok (.ireturn, 1) := dk_172 (dk_at dksJ20_compareTo_2_1 16 rfl rfl)
abbrev cJ20_getChar : ByteArray := prog_44_method_44_code
def yJ20_getChar : MethodName := ⟨RJ20, "getChar", "([BI)C"⟩
def dkwJ20_getChar_0 : List UInt8 := [42, 27, 51, 17, 0, 255, 126, 146, 172]
abbrev dktJ20_getChar_0 : List UInt8 := dkwJ20_getChar_0 ++ []
theorem dksJ20_getChar_0 : cJ20_getChar.data.toList.drop 0 = dktJ20_getChar_0 := by decide +kernel
theorem dJ20_getChar_0 : decode cJ20_getChar 0 = .ok (.aload_n 0, 1) := dk_42 (dk_at dksJ20_getChar_0 0 rfl rfl)
theorem dJ20_getChar_1 : decode cJ20_getChar 1 = .ok (.iload_n 1, 1) := dk_27 (dk_at dksJ20_getChar_0 1 rfl rfl)
theorem dJ20_getChar_2 : decode cJ20_getChar 2 = .ok (.baload, 1) := dk_51 (dk_at dksJ20_getChar_0 2 rfl rfl)
theorem dJ20_getChar_3 : decode cJ20_getChar 3 = .ok (.sipush 255, 3) := dk_17 0 255 (dk_at dksJ20_getChar_0 3 rfl rfl)
theorem dJ20_getChar_6 : decode cJ20_getChar 6 = .ok (.iand, 1) := dk_126 (dk_at dksJ20_getChar_0 6 rfl rfl)
theorem dJ20_getChar_7 : decode cJ20_getChar 7 = .ok (.i2c, 1) := dk_146 (dk_at dksJ20_getChar_0 7 rfl rfl)
theorem dJ20_getChar_8 : decode cJ20_getChar 8 = .ok (.ireturn, 1) := dk_172 (dk_at dksJ20_getChar_0 8 rfl rfl)
abbrev cJ20_compareToUTF16 : ByteArray := prog_44_method_16_code
def yJ20_compareToUTF16 : MethodName := ⟨RJ20, "compareToUTF16", "([B[B)I"⟩
def dkwJ20_compareToUTF16_0 : List UInt8 := [42, 184, 0, 54, 61, 43, 184, 0, 58, 62, 42, 43, 28, 29, 184, 0, 59, 172]
abbrev dktJ20_compareToUTF16_0 : List UInt8 := dkwJ20_compareToUTF16_0 ++ []
theorem dksJ20_compareToUTF16_0 : cJ20_compareToUTF16.data.toList.drop 0 = dktJ20_compareToUTF16_0 := by decide +kernel
theorem dJ20_compareToUTF16_0 : decode cJ20_compareToUTF16 0 = .ok (.aload_n 0, 1) := dk_42 (dk_at dksJ20_compareToUTF16_0 0 rfl rfl)
theorem dJ20_compareToUTF16_1 : decode cJ20_compareToUTF16 1 = .ok (.invokestatic 54, 3) := dk_184 0 54 (dk_at dksJ20_compareToUTF16_0 1 rfl rfl)
theorem dJ20_compareToUTF16_4 : decode cJ20_compareToUTF16 4 = .ok (.istore_n 2, 1) := dk_61 (dk_at dksJ20_compareToUTF16_0 4 rfl rfl)
theorem dJ20_compareToUTF16_5 : decode cJ20_compareToUTF16 5 = .ok (.aload_n 1, 1) := dk_43 (dk_at dksJ20_compareToUTF16_0 5 rfl rfl)
theorem dJ20_compareToUTF16_6 : decode cJ20_compareToUTF16 6 = .ok (.invokestatic 58, 3) := dk_184 0 58 (dk_at dksJ20_compareToUTF16_0 6 rfl rfl)
theorem dJ20_compareToUTF16_9 : decode cJ20_compareToUTF16 9 = .ok (.istore_n 3, 1) := dk_62 (dk_at dksJ20_compareToUTF16_0 9 rfl rfl)
theorem dJ20_compareToUTF16_10 : decode cJ20_compareToUTF16 10 = .ok (.aload_n 0, 1) := dk_42 (dk_at dksJ20_compareToUTF16_0 10 rfl rfl)
theorem dJ20_compareToUTF16_11 : decode cJ20_compareToUTF16 11 = .ok (.aload_n 1, 1) := dk_43 (dk_at dksJ20_compareToUTF16_0 11 rfl rfl)
theorem dJ20_compareToUTF16_12 : decode cJ20_compareToUTF16 12 = .ok (.iload_n 2, 1) := dk_28 (dk_at dksJ20_compareToUTF16_0 12 rfl rfl)
theorem dJ20_compareToUTF16_13 : decode cJ20_compareToUTF16 13 = .ok (.iload_n 3, 1) := dk_29 (dk_at dksJ20_compareToUTF16_0 13 rfl rfl)
theorem dJ20_compareToUTF16_14 : decode cJ20_compareToUTF16 14 = .ok (.invokestatic 59, 3) := dk_184 0 59 (dk_at dksJ20_compareToUTF16_0 14 rfl rfl)
theorem dJ20_compareToUTF16_17 : decode cJ20_compareToUTF16 17 = .ok (.ireturn, 1) := dk_172 (dk_at dksJ20_compareToUTF16_0 17 rfl rfl)
abbrev cJ20_length : ByteArray := prog_44_method_5_code
def yJ20_length : MethodName := ⟨RJ20, "length", "([B)I"⟩
theorem dJ20_length_0 : decode cJ20_length 0 = .ok (.aload_n 0, 1) := by decide +kernel
theorem dJ20_length_1 : decode cJ20_length 1 = .ok (.arraylength, 1) := by decide +kernel
theorem dJ20_length_2 : decode cJ20_length 2 = .ok (.ireturn, 1) := by decide +kernel
abbrev cJ20_compareToUTF16Values : ByteArray := prog_44_method_18_code
def yJ20_compareToUTF16Values : MethodName := ⟨RJ20, "compareToUTF16Values", "([B[BII)I"⟩
def dkwJ20_compareToUTF16Values_2 : List UInt8 := [132, 5, 1, 167, 255, 217, 28, 29, 100, 172]
abbrev dktJ20_compareToUTF16Values_2 : List UInt8 := dkwJ20_compareToUTF16Values_2 ++ []
def dkwJ20_compareToUTF16Values_1 : List UInt8 := [54, 6, 43, 21, 5, 184, 0, 65, 54, 7, 21, 6, 21, 7, 159, 0, 9, 21, 6, 21, 7, 100, 172]
abbrev dktJ20_compareToUTF16Values_1 : List UInt8 := dkwJ20_compareToUTF16Values_1 ++ dktJ20_compareToUTF16Values_2
def dkwJ20_compareToUTF16Values_0 : List UInt8 := [28, 29, 184, 0, 38, 54, 4, 3, 54, 5, 21, 5, 21, 4, 162, 0, 38, 42, 21, 5, 184, 0, 50]
abbrev dktJ20_compareToUTF16Values_0 : List UInt8 := dkwJ20_compareToUTF16Values_0 ++ dktJ20_compareToUTF16Values_1
theorem dksJ20_compareToUTF16Values_0 : cJ20_compareToUTF16Values.data.toList.drop 0 = dktJ20_compareToUTF16Values_0 := by decide +kernel
theorem dksJ20_compareToUTF16Values_1 : cJ20_compareToUTF16Values.data.toList.drop 23 = dktJ20_compareToUTF16Values_1 := dk_seg dksJ20_compareToUTF16Values_0 23 rfl rfl
theorem dksJ20_compareToUTF16Values_2 : cJ20_compareToUTF16Values.data.toList.drop 46 = dktJ20_compareToUTF16Values_2 := dk_seg dksJ20_compareToUTF16Values_1 23 rfl rfl
theorem dJ20_compareToUTF16Values_0 : decode cJ20_compareToUTF16Values 0 = .ok (.iload_n 2, 1) := dk_28 (dk_at dksJ20_compareToUTF16Values_0 0 rfl rfl)
theorem dJ20_compareToUTF16Values_1 : decode cJ20_compareToUTF16Values 1 = .ok (.iload_n 3, 1) := dk_29 (dk_at dksJ20_compareToUTF16Values_0 1 rfl rfl)
theorem dJ20_compareToUTF16Values_2 : decode cJ20_compareToUTF16Values 2 = .ok (.invokestatic 38, 3) := dk_184 0 38 (dk_at dksJ20_compareToUTF16Values_0 2 rfl rfl)
theorem dJ20_compareToUTF16Values_5 : decode cJ20_compareToUTF16Values 5 = .ok (.istore 4, 2) := dk_54 4 (dk_at dksJ20_compareToUTF16Values_0 5 rfl rfl)
theorem dJ20_compareToUTF16Values_7 : decode cJ20_compareToUTF16Values 7 = .ok (.iconst 0, 1) := dk_3 (dk_at dksJ20_compareToUTF16Values_0 7 rfl rfl)
theorem dJ20_compareToUTF16Values_8 : decode cJ20_compareToUTF16Values 8 = .ok (.istore 5, 2) := dk_54 5 (dk_at dksJ20_compareToUTF16Values_0 8 rfl rfl)
theorem dJ20_compareToUTF16Values_10 : decode cJ20_compareToUTF16Values 10 = .ok (.iload 5, 2) := dk_21 5 (dk_at dksJ20_compareToUTF16Values_0 10 rfl rfl)
theorem dJ20_compareToUTF16Values_12 : decode cJ20_compareToUTF16Values 12 = .ok (.iload 4, 2) := dk_21 4 (dk_at dksJ20_compareToUTF16Values_0 12 rfl rfl)
theorem dJ20_compareToUTF16Values_14 : decode cJ20_compareToUTF16Values 14 = .ok (.if_icmp .ge 38, 3) := dk_162 0 38 (dk_at dksJ20_compareToUTF16Values_0 14 rfl rfl)
theorem dJ20_compareToUTF16Values_17 : decode cJ20_compareToUTF16Values 17 = .ok (.aload_n 0, 1) := dk_42 (dk_at dksJ20_compareToUTF16Values_0 17 rfl rfl)
theorem dJ20_compareToUTF16Values_18 : decode cJ20_compareToUTF16Values 18 = .ok (.iload 5, 2) := dk_21 5 (dk_at dksJ20_compareToUTF16Values_0 18 rfl rfl)
theorem dJ20_compareToUTF16Values_20 : decode cJ20_compareToUTF16Values 20 = .ok (.invokestatic 50, 3) := dk_184 0 50 (dk_at dksJ20_compareToUTF16Values_0 20 rfl rfl)
theorem dJ20_compareToUTF16Values_23 : decode cJ20_compareToUTF16Values 23 = .ok (.istore 6, 2) := dk_54 6 (dk_at dksJ20_compareToUTF16Values_1 0 rfl rfl)
theorem dJ20_compareToUTF16Values_25 : decode cJ20_compareToUTF16Values 25 = .ok (.aload_n 1, 1) := dk_43 (dk_at dksJ20_compareToUTF16Values_1 2 rfl rfl)
theorem dJ20_compareToUTF16Values_26 : decode cJ20_compareToUTF16Values 26 = .ok (.iload 5, 2) := dk_21 5 (dk_at dksJ20_compareToUTF16Values_1 3 rfl rfl)
theorem dJ20_compareToUTF16Values_28 : decode cJ20_compareToUTF16Values 28 = .ok (.invokestatic 65, 3) := dk_184 0 65 (dk_at dksJ20_compareToUTF16Values_1 5 rfl rfl)
theorem dJ20_compareToUTF16Values_31 : decode cJ20_compareToUTF16Values 31 = .ok (.istore 7, 2) := dk_54 7 (dk_at dksJ20_compareToUTF16Values_1 8 rfl rfl)
theorem dJ20_compareToUTF16Values_33 : decode cJ20_compareToUTF16Values 33 = .ok (.iload 6, 2) := dk_21 6 (dk_at dksJ20_compareToUTF16Values_1 10 rfl rfl)
theorem dJ20_compareToUTF16Values_35 : decode cJ20_compareToUTF16Values 35 = .ok (.iload 7, 2) := dk_21 7 (dk_at dksJ20_compareToUTF16Values_1 12 rfl rfl)
theorem dJ20_compareToUTF16Values_37 : decode cJ20_compareToUTF16Values 37 = .ok (.if_icmp .eq 9, 3) := dk_159 0 9 (dk_at dksJ20_compareToUTF16Values_1 14 rfl rfl)
theorem dJ20_compareToUTF16Values_40 : decode cJ20_compareToUTF16Values 40 = .ok (.iload 6, 2) := dk_21 6 (dk_at dksJ20_compareToUTF16Values_1 17 rfl rfl)
theorem dJ20_compareToUTF16Values_42 : decode cJ20_compareToUTF16Values 42 = .ok (.iload 7, 2) := dk_21 7 (dk_at dksJ20_compareToUTF16Values_1 19 rfl rfl)
theorem dJ20_compareToUTF16Values_44 : decode cJ20_compareToUTF16Values 44 = .ok (.isub, 1) := dk_100 (dk_at dksJ20_compareToUTF16Values_1 21 rfl rfl)
theorem dJ20_compareToUTF16Values_45 : decode cJ20_compareToUTF16Values 45 = .ok (.ireturn, 1) := dk_172 (dk_at dksJ20_compareToUTF16Values_1 22 rfl rfl)
theorem dJ20_compareToUTF16Values_46 : decode cJ20_compareToUTF16Values 46 = .ok (.iinc 5 1, 3) := dk_132 5 1 (dk_at dksJ20_compareToUTF16Values_2 0 rfl rfl)
theorem dJ20_compareToUTF16Values_49 : decode cJ20_compareToUTF16Values 49 = .ok (.goto (-39), 3) := dk_167 255 217 (dk_at dksJ20_compareToUTF16Values_2 3 rfl rfl)
theorem dJ20_compareToUTF16Values_52 : decode cJ20_compareToUTF16Values 52 = .ok (.iload_n 2, 1) := dk_28 (dk_at dksJ20_compareToUTF16Values_2 6 rfl rfl)
theorem dJ20_compareToUTF16Values_53 : decode cJ20_compareToUTF16Values 53 = .ok (.iload_n 3, 1) := dk_29 (dk_at dksJ20_compareToUTF16Values_2 7 rfl rfl)
theorem dJ20_compareToUTF16Values_54 : decode cJ20_compareToUTF16Values 54 = .ok (.isub, 1) := dk_100 (dk_at dksJ20_compareToUTF16Values_2 8 rfl rfl)
theorem dJ20_compareToUTF16Values_55 : decode cJ20_compareToUTF16Values 55 = .ok (.ireturn, 1) := dk_172 (dk_at dksJ20_compareToUTF16Values_2 9 rfl rfl)
abbrev cJ20_compareToUTF16_2 : ByteArray := prog_44_method_17_code
def yJ20_compareToUTF16_2 : MethodName := ⟨RJ20, "compareToUTF16", "([B[BII)I"⟩
def dkwJ20_compareToUTF16_2_0 : List UInt8 := [28, 42, 184, 0, 54, 184, 0, 62, 29, 43, 184, 0, 58, 184, 0, 62, 42, 43, 28, 29, 184, 0, 59, 172]
abbrev dktJ20_compareToUTF16_2_0 : List UInt8 := dkwJ20_compareToUTF16_2_0 ++ []
theorem dksJ20_compareToUTF16_2_0 : cJ20_compareToUTF16_2.data.toList.drop 0 = dktJ20_compareToUTF16_2_0 := by decide +kernel
theorem dJ20_compareToUTF16_2_0 : decode cJ20_compareToUTF16_2 0 = .ok (.iload_n 2, 1) := dk_28 (dk_at dksJ20_compareToUTF16_2_0 0 rfl rfl)
theorem dJ20_compareToUTF16_2_1 : decode cJ20_compareToUTF16_2 1 = .ok (.aload_n 0, 1) := dk_42 (dk_at dksJ20_compareToUTF16_2_0 1 rfl rfl)
theorem dJ20_compareToUTF16_2_2 : decode cJ20_compareToUTF16_2 2 = .ok (.invokestatic 54, 3) := dk_184 0 54 (dk_at dksJ20_compareToUTF16_2_0 2 rfl rfl)
theorem dJ20_compareToUTF16_2_5 : decode cJ20_compareToUTF16_2 5 = .ok (.invokestatic 62, 3) := dk_184 0 62 (dk_at dksJ20_compareToUTF16_2_0 5 rfl rfl)
theorem dJ20_compareToUTF16_2_8 : decode cJ20_compareToUTF16_2 8 = .ok (.iload_n 3, 1) := dk_29 (dk_at dksJ20_compareToUTF16_2_0 8 rfl rfl)
theorem dJ20_compareToUTF16_2_9 : decode cJ20_compareToUTF16_2 9 = .ok (.aload_n 1, 1) := dk_43 (dk_at dksJ20_compareToUTF16_2_0 9 rfl rfl)
theorem dJ20_compareToUTF16_2_10 : decode cJ20_compareToUTF16_2 10 = .ok (.invokestatic 58, 3) := dk_184 0 58 (dk_at dksJ20_compareToUTF16_2_0 10 rfl rfl)
theorem dJ20_compareToUTF16_2_13 : decode cJ20_compareToUTF16_2 13 = .ok (.invokestatic 62, 3) := dk_184 0 62 (dk_at dksJ20_compareToUTF16_2_0 13 rfl rfl)
theorem dJ20_compareToUTF16_2_16 : decode cJ20_compareToUTF16_2 16 = .ok (.aload_n 0, 1) := dk_42 (dk_at dksJ20_compareToUTF16_2_0 16 rfl rfl)
theorem dJ20_compareToUTF16_2_17 : decode cJ20_compareToUTF16_2 17 = .ok (.aload_n 1, 1) := dk_43 (dk_at dksJ20_compareToUTF16_2_0 17 rfl rfl)
theorem dJ20_compareToUTF16_2_18 : decode cJ20_compareToUTF16_2 18 = .ok (.iload_n 2, 1) := dk_28 (dk_at dksJ20_compareToUTF16_2_0 18 rfl rfl)
theorem dJ20_compareToUTF16_2_19 : decode cJ20_compareToUTF16_2 19 = .ok (.iload_n 3, 1) := dk_29 (dk_at dksJ20_compareToUTF16_2_0 19 rfl rfl)
theorem dJ20_compareToUTF16_2_20 : decode cJ20_compareToUTF16_2 20 = .ok (.invokestatic 59, 3) := dk_184 0 59 (dk_at dksJ20_compareToUTF16_2_0 20 rfl rfl)
theorem dJ20_compareToUTF16_2_23 : decode cJ20_compareToUTF16_2 23 = .ok (.ireturn, 1) := dk_172 (dk_at dksJ20_compareToUTF16_2_0 23 rfl rfl)
abbrev cJ20_hashCode : ByteArray := prog_44_method_21_code
def yJ20_hashCode : MethodName := ⟨RJ20, "hashCode", "([B)I"⟩
def dkwJ20_hashCode_2 : List UInt8 := [3, 167, 0, 22, 42, 3, 51, 17, 0, 255, 126, 167, 0, 12, 42, 3, 42, 190, 3, 7, 184, 0, 84, 172]
abbrev dktJ20_hashCode_2 : List UInt8 := dkwJ20_hashCode_2 ++ []
def dkwJ20_hashCode_1 : List UInt8 := [171, 0, 0, 0, 0, 40, 0, 0, 0, 2, 0, 0, 0, 0, 0, 0, 0, 26, 0, 0, 0, 1, 0, 0, 0, 30]
abbrev dktJ20_hashCode_1 : List UInt8 := dkwJ20_hashCode_1 ++ dktJ20_hashCode_2
def dkwJ20_hashCode_0 : List UInt8 := [42, 190]
abbrev dktJ20_hashCode_0 : List UInt8 := dkwJ20_hashCode_0 ++ dktJ20_hashCode_1
theorem dksJ20_hashCode_0 : cJ20_hashCode.data.toList.drop 0 = dktJ20_hashCode_0 := by decide +kernel
theorem dksJ20_hashCode_1 : cJ20_hashCode.data.toList.drop 2 = dktJ20_hashCode_1 := dk_seg dksJ20_hashCode_0 2 rfl rfl
theorem dksJ20_hashCode_2 : cJ20_hashCode.data.toList.drop 28 = dktJ20_hashCode_2 := dk_seg dksJ20_hashCode_1 26 rfl rfl
theorem dJ20_hashCode_0 : decode cJ20_hashCode 0 = .ok (.aload_n 0, 1) := dk_42 (dk_at dksJ20_hashCode_0 0 rfl rfl)
theorem dJ20_hashCode_1 : decode cJ20_hashCode 1 = .ok (.arraylength, 1) := dk_190 (dk_at dksJ20_hashCode_0 1 rfl rfl)
theorem dJ20_hashCode_2 : decode cJ20_hashCode 2 = .ok (.lookupswitch 40 #[(0, 26), (1, 30)], 26) := by decide +kernel
theorem dJ20_hashCode_28 : decode cJ20_hashCode 28 = .ok (.iconst 0, 1) := dk_3 (dk_at dksJ20_hashCode_2 0 rfl rfl)
theorem dJ20_hashCode_29 : decode cJ20_hashCode 29 = .ok (.goto 22, 3) := dk_167 0 22 (dk_at dksJ20_hashCode_2 1 rfl rfl)
theorem dJ20_hashCode_32 : decode cJ20_hashCode 32 = .ok (.aload_n 0, 1) := dk_42 (dk_at dksJ20_hashCode_2 4 rfl rfl)
theorem dJ20_hashCode_33 : decode cJ20_hashCode 33 = .ok (.iconst 0, 1) := dk_3 (dk_at dksJ20_hashCode_2 5 rfl rfl)
theorem dJ20_hashCode_34 : decode cJ20_hashCode 34 = .ok (.baload, 1) := dk_51 (dk_at dksJ20_hashCode_2 6 rfl rfl)
theorem dJ20_hashCode_35 : decode cJ20_hashCode 35 = .ok (.sipush 255, 3) := dk_17 0 255 (dk_at dksJ20_hashCode_2 7 rfl rfl)
theorem dJ20_hashCode_38 : decode cJ20_hashCode 38 = .ok (.iand, 1) := dk_126 (dk_at dksJ20_hashCode_2 10 rfl rfl)
theorem dJ20_hashCode_39 : decode cJ20_hashCode 39 = .ok (.goto 12, 3) := dk_167 0 12 (dk_at dksJ20_hashCode_2 11 rfl rfl)
theorem dJ20_hashCode_42 : decode cJ20_hashCode 42 = .ok (.aload_n 0, 1) := dk_42 (dk_at dksJ20_hashCode_2 14 rfl rfl)
theorem dJ20_hashCode_43 : decode cJ20_hashCode 43 = .ok (.iconst 0, 1) := dk_3 (dk_at dksJ20_hashCode_2 15 rfl rfl)
theorem dJ20_hashCode_44 : decode cJ20_hashCode 44 = .ok (.aload_n 0, 1) := dk_42 (dk_at dksJ20_hashCode_2 16 rfl rfl)
theorem dJ20_hashCode_45 : decode cJ20_hashCode 45 = .ok (.arraylength, 1) := dk_190 (dk_at dksJ20_hashCode_2 17 rfl rfl)
theorem dJ20_hashCode_46 : decode cJ20_hashCode 46 = .ok (.iconst 0, 1) := dk_3 (dk_at dksJ20_hashCode_2 18 rfl rfl)
theorem dJ20_hashCode_47 : decode cJ20_hashCode 47 = .ok (.iconst 4, 1) := dk_7 (dk_at dksJ20_hashCode_2 19 rfl rfl)
theorem dJ20_hashCode_48 : decode cJ20_hashCode 48 = .ok (.invokestatic 84, 3) := dk_184 0 84 (dk_at dksJ20_hashCode_2 20 rfl rfl)
theorem dJ20_hashCode_51 : decode cJ20_hashCode 51 = .ok (.ireturn, 1) := dk_172 (dk_at dksJ20_hashCode_2 23 rfl rfl)
abbrev cJ20_equals : ByteArray := prog_44_method_13_code
def yJ20_equals : MethodName := ⟨RJ20, "equals", "([B[B)Z"⟩
def dkwJ20_equals_1 : List UInt8 := [3, 172, 132, 2, 1, 167, 255, 236, 4, 172, 3, 172]
abbrev dktJ20_equals_1 : List UInt8 := dkwJ20_equals_1 ++ []
def dkwJ20_equals_0 : List UInt8 := [42, 190, 43, 190, 160, 0, 30, 3, 61, 28, 42, 190, 162, 0, 20, 42, 28, 51, 43, 28, 51, 159, 0, 5]
abbrev dktJ20_equals_0 : List UInt8 := dkwJ20_equals_0 ++ dktJ20_equals_1
theorem dksJ20_equals_0 : cJ20_equals.data.toList.drop 0 = dktJ20_equals_0 := by decide +kernel
theorem dksJ20_equals_1 : cJ20_equals.data.toList.drop 24 = dktJ20_equals_1 := dk_seg dksJ20_equals_0 24 rfl rfl
theorem dJ20_equals_0 : decode cJ20_equals 0 = .ok (.aload_n 0, 1) := dk_42 (dk_at dksJ20_equals_0 0 rfl rfl)
theorem dJ20_equals_1 : decode cJ20_equals 1 = .ok (.arraylength, 1) := dk_190 (dk_at dksJ20_equals_0 1 rfl rfl)
theorem dJ20_equals_2 : decode cJ20_equals 2 = .ok (.aload_n 1, 1) := dk_43 (dk_at dksJ20_equals_0 2 rfl rfl)
theorem dJ20_equals_3 : decode cJ20_equals 3 = .ok (.arraylength, 1) := dk_190 (dk_at dksJ20_equals_0 3 rfl rfl)
theorem dJ20_equals_4 : decode cJ20_equals 4 = .ok (.if_icmp .ne 30, 3) := dk_160 0 30 (dk_at dksJ20_equals_0 4 rfl rfl)
theorem dJ20_equals_7 : decode cJ20_equals 7 = .ok (.iconst 0, 1) := dk_3 (dk_at dksJ20_equals_0 7 rfl rfl)
theorem dJ20_equals_8 : decode cJ20_equals 8 = .ok (.istore_n 2, 1) := dk_61 (dk_at dksJ20_equals_0 8 rfl rfl)
theorem dJ20_equals_9 : decode cJ20_equals 9 = .ok (.iload_n 2, 1) := dk_28 (dk_at dksJ20_equals_0 9 rfl rfl)
theorem dJ20_equals_10 : decode cJ20_equals 10 = .ok (.aload_n 0, 1) := dk_42 (dk_at dksJ20_equals_0 10 rfl rfl)
theorem dJ20_equals_11 : decode cJ20_equals 11 = .ok (.arraylength, 1) := dk_190 (dk_at dksJ20_equals_0 11 rfl rfl)
theorem dJ20_equals_12 : decode cJ20_equals 12 = .ok (.if_icmp .ge 20, 3) := dk_162 0 20 (dk_at dksJ20_equals_0 12 rfl rfl)
theorem dJ20_equals_15 : decode cJ20_equals 15 = .ok (.aload_n 0, 1) := dk_42 (dk_at dksJ20_equals_0 15 rfl rfl)
theorem dJ20_equals_16 : decode cJ20_equals 16 = .ok (.iload_n 2, 1) := dk_28 (dk_at dksJ20_equals_0 16 rfl rfl)
theorem dJ20_equals_17 : decode cJ20_equals 17 = .ok (.baload, 1) := dk_51 (dk_at dksJ20_equals_0 17 rfl rfl)
theorem dJ20_equals_18 : decode cJ20_equals 18 = .ok (.aload_n 1, 1) := dk_43 (dk_at dksJ20_equals_0 18 rfl rfl)
theorem dJ20_equals_19 : decode cJ20_equals 19 = .ok (.iload_n 2, 1) := dk_28 (dk_at dksJ20_equals_0 19 rfl rfl)
theorem dJ20_equals_20 : decode cJ20_equals 20 = .ok (.baload, 1) := dk_51 (dk_at dksJ20_equals_0 20 rfl rfl)
theorem dJ20_equals_21 : decode cJ20_equals 21 = .ok (.if_icmp .eq 5, 3) := dk_159 0 5 (dk_at dksJ20_equals_0 21 rfl rfl)
theorem dJ20_equals_24 : decode cJ20_equals 24 = .ok (.iconst 0, 1) := dk_3 (dk_at dksJ20_equals_1 0 rfl rfl)
theorem dJ20_equals_25 : decode cJ20_equals 25 = .ok (.ireturn, 1) := dk_172 (dk_at dksJ20_equals_1 1 rfl rfl)
theorem dJ20_equals_26 : decode cJ20_equals 26 = .ok (.iinc 2 1, 3) := dk_132 2 1 (dk_at dksJ20_equals_1 2 rfl rfl)
theorem dJ20_equals_29 : decode cJ20_equals 29 = .ok (.goto (-20), 3) := dk_167 255 236 (dk_at dksJ20_equals_1 5 rfl rfl)
theorem dJ20_equals_32 : decode cJ20_equals 32 = .ok (.iconst 1, 1) := dk_4 (dk_at dksJ20_equals_1 8 rfl rfl)
theorem dJ20_equals_33 : decode cJ20_equals 33 = .ok (.ireturn, 1) := dk_172 (dk_at dksJ20_equals_1 9 rfl rfl)
theorem dJ20_equals_34 : decode cJ20_equals 34 = .ok (.iconst 0, 1) := dk_3 (dk_at dksJ20_equals_1 10 rfl rfl)
theorem dJ20_equals_35 : decode cJ20_equals 35 = .ok (.ireturn, 1) := dk_172 (dk_at dksJ20_equals_1 11 rfl rfl)
abbrev cJ20_charAt : ByteArray := prog_44_method_2_code
def yJ20_charAt : MethodName := ⟨RJ20, "charAt", "([BI)C"⟩
def dkwJ20_charAt_0 : List UInt8 := [27, 42, 190, 184, 0, 9, 42, 27, 51, 17, 0, 255, 126, 146, 172]
abbrev dktJ20_charAt_0 : List UInt8 := dkwJ20_charAt_0 ++ []
theorem dksJ20_charAt_0 : cJ20_charAt.data.toList.drop 0 = dktJ20_charAt_0 := by decide +kernel
theorem dJ20_charAt_0 : decode cJ20_charAt 0 = .ok (.iload_n 1, 1) := dk_27 (dk_at dksJ20_charAt_0 0 rfl rfl)
theorem dJ20_charAt_1 : decode cJ20_charAt 1 = .ok (.aload_n 0, 1) := dk_42 (dk_at dksJ20_charAt_0 1 rfl rfl)
theorem dJ20_charAt_2 : decode cJ20_charAt 2 = .ok (.arraylength, 1) := dk_190 (dk_at dksJ20_charAt_0 2 rfl rfl)
theorem dJ20_charAt_3 : decode cJ20_charAt 3 = .ok (.invokestatic 9, 3) := dk_184 0 9 (dk_at dksJ20_charAt_0 3 rfl rfl)
theorem dJ20_charAt_6 : decode cJ20_charAt 6 = .ok (.aload_n 0, 1) := dk_42 (dk_at dksJ20_charAt_0 6 rfl rfl)
theorem dJ20_charAt_7 : decode cJ20_charAt 7 = .ok (.iload_n 1, 1) := dk_27 (dk_at dksJ20_charAt_0 7 rfl rfl)
theorem dJ20_charAt_8 : decode cJ20_charAt 8 = .ok (.baload, 1) := dk_51 (dk_at dksJ20_charAt_0 8 rfl rfl)
theorem dJ20_charAt_9 : decode cJ20_charAt 9 = .ok (.sipush 255, 3) := dk_17 0 255 (dk_at dksJ20_charAt_0 9 rfl rfl)
theorem dJ20_charAt_12 : decode cJ20_charAt 12 = .ok (.iand, 1) := dk_126 (dk_at dksJ20_charAt_0 12 rfl rfl)
theorem dJ20_charAt_13 : decode cJ20_charAt 13 = .ok (.i2c, 1) := dk_146 (dk_at dksJ20_charAt_0 13 rfl rfl)
theorem dJ20_charAt_14 : decode cJ20_charAt 14 = .ok (.ireturn, 1) := dk_172 (dk_at dksJ20_charAt_0 14 rfl rfl)
abbrev cJ20_canEncode : ByteArray := prog_44_method_3_code
def yJ20_canEncode : MethodName := ⟨RJ20, "canEncode", "(C)Z"⟩
def dkwJ20_canEncode_0 : List UInt8 := [26, 17, 0, 255, 163, 0, 7, 4, 167, 0, 4, 3, 172]
abbrev dktJ20_canEncode_0 : List UInt8 := dkwJ20_canEncode_0 ++ []
theorem dksJ20_canEncode_0 : cJ20_canEncode.data.toList.drop 0 = dktJ20_canEncode_0 := by decide +kernel
theorem dJ20_canEncode_0 : decode cJ20_canEncode 0 = .ok (.iload_n 0, 1) := dk_26 (dk_at dksJ20_canEncode_0 0 rfl rfl)
theorem dJ20_canEncode_1 : decode cJ20_canEncode 1 = .ok (.sipush 255, 3) := dk_17 0 255 (dk_at dksJ20_canEncode_0 1 rfl rfl)
theorem dJ20_canEncode_4 : decode cJ20_canEncode 4 = .ok (.if_icmp .gt 7, 3) := dk_163 0 7 (dk_at dksJ20_canEncode_0 4 rfl rfl)
theorem dJ20_canEncode_7 : decode cJ20_canEncode 7 = .ok (.iconst 1, 1) := dk_4 (dk_at dksJ20_canEncode_0 7 rfl rfl)
theorem dJ20_canEncode_8 : decode cJ20_canEncode 8 = .ok (.goto 4, 3) := dk_167 0 4 (dk_at dksJ20_canEncode_0 8 rfl rfl)
theorem dJ20_canEncode_11 : decode cJ20_canEncode 11 = .ok (.iconst 0, 1) := dk_3 (dk_at dksJ20_canEncode_0 11 rfl rfl)
theorem dJ20_canEncode_12 : decode cJ20_canEncode 12 = .ok (.ireturn, 1) := dk_172 (dk_at dksJ20_canEncode_0 12 rfl rfl)
abbrev cJ20_fillNull : ByteArray := prog_44_method_48_code
def yJ20_fillNull : MethodName := ⟨RJ20, "fillNull", "([BII)V"⟩
def dkwJ20_fillNull_0 : List UInt8 := [42, 27, 28, 3, 184, 0, 236, 177]
abbrev dktJ20_fillNull_0 : List UInt8 := dkwJ20_fillNull_0 ++ []
theorem dksJ20_fillNull_0 : cJ20_fillNull.data.toList.drop 0 = dktJ20_fillNull_0 := by decide +kernel
theorem dJ20_fillNull_0 : decode cJ20_fillNull 0 = .ok (.aload_n 0, 1) := dk_42 (dk_at dksJ20_fillNull_0 0 rfl rfl)
theorem dJ20_fillNull_1 : decode cJ20_fillNull 1 = .ok (.iload_n 1, 1) := dk_27 (dk_at dksJ20_fillNull_0 1 rfl rfl)
theorem dJ20_fillNull_2 : decode cJ20_fillNull 2 = .ok (.iload_n 2, 1) := dk_28 (dk_at dksJ20_fillNull_0 2 rfl rfl)
theorem dJ20_fillNull_3 : decode cJ20_fillNull 3 = .ok (.iconst 0, 1) := dk_3 (dk_at dksJ20_fillNull_0 3 rfl rfl)
theorem dJ20_fillNull_4 : decode cJ20_fillNull 4 = .ok (.invokestatic 236, 3) := dk_184 0 236 (dk_at dksJ20_fillNull_0 4 rfl rfl)
theorem dJ20_fillNull_7 : decode cJ20_fillNull 7 = .ok (.return_, 1) := dk_177 (dk_at dksJ20_fillNull_0 7 rfl rfl)
abbrev cJ20_indexOf : ByteArray := prog_44_method_24_code
def yJ20_indexOf : MethodName := ⟨RJ20, "indexOf", "([B[B)I"⟩
def dkwJ20_indexOf_1 : List UInt8 := [172]
abbrev dktJ20_indexOf_1 : List UInt8 := dkwJ20_indexOf_1 ++ []
def dkwJ20_indexOf_0 : List UInt8 := [43, 190, 154, 0, 5, 3, 172, 42, 190, 154, 0, 5, 2, 172, 42, 42, 190, 43, 43, 190, 3, 184, 0, 99]
abbrev dktJ20_indexOf_0 : List UInt8 := dkwJ20_indexOf_0 ++ dktJ20_indexOf_1
theorem dksJ20_indexOf_0 : cJ20_indexOf.data.toList.drop 0 = dktJ20_indexOf_0 := by decide +kernel
theorem dksJ20_indexOf_1 : cJ20_indexOf.data.toList.drop 24 = dktJ20_indexOf_1 := dk_seg dksJ20_indexOf_0 24 rfl rfl
theorem dJ20_indexOf_0 : decode cJ20_indexOf 0 = .ok (.aload_n 1, 1) := dk_43 (dk_at dksJ20_indexOf_0 0 rfl rfl)
theorem dJ20_indexOf_1 : decode cJ20_indexOf 1 = .ok (.arraylength, 1) := dk_190 (dk_at dksJ20_indexOf_0 1 rfl rfl)
theorem dJ20_indexOf_2 : decode cJ20_indexOf 2 = .ok (.ifCond .ne 5, 3) := dk_154 0 5 (dk_at dksJ20_indexOf_0 2 rfl rfl)
theorem dJ20_indexOf_5 : decode cJ20_indexOf 5 = .ok (.iconst 0, 1) := dk_3 (dk_at dksJ20_indexOf_0 5 rfl rfl)
theorem dJ20_indexOf_6 : decode cJ20_indexOf 6 = .ok (.ireturn, 1) := dk_172 (dk_at dksJ20_indexOf_0 6 rfl rfl)
theorem dJ20_indexOf_7 : decode cJ20_indexOf 7 = .ok (.aload_n 0, 1) := dk_42 (dk_at dksJ20_indexOf_0 7 rfl rfl)
theorem dJ20_indexOf_8 : decode cJ20_indexOf 8 = .ok (.arraylength, 1) := dk_190 (dk_at dksJ20_indexOf_0 8 rfl rfl)
theorem dJ20_indexOf_9 : decode cJ20_indexOf 9 = .ok (.ifCond .ne 5, 3) := dk_154 0 5 (dk_at dksJ20_indexOf_0 9 rfl rfl)
theorem dJ20_indexOf_12 : decode cJ20_indexOf 12 = .ok (.iconst (-1), 1) := dk_2 (dk_at dksJ20_indexOf_0 12 rfl rfl)
theorem dJ20_indexOf_13 : decode cJ20_indexOf 13 = .ok (.ireturn, 1) := dk_172 (dk_at dksJ20_indexOf_0 13 rfl rfl)
theorem dJ20_indexOf_14 : decode cJ20_indexOf 14 = .ok (.aload_n 0, 1) := dk_42 (dk_at dksJ20_indexOf_0 14 rfl rfl)
theorem dJ20_indexOf_15 : decode cJ20_indexOf 15 = .ok (.aload_n 0, 1) := dk_42 (dk_at dksJ20_indexOf_0 15 rfl rfl)
theorem dJ20_indexOf_16 : decode cJ20_indexOf 16 = .ok (.arraylength, 1) := dk_190 (dk_at dksJ20_indexOf_0 16 rfl rfl)
theorem dJ20_indexOf_17 : decode cJ20_indexOf 17 = .ok (.aload_n 1, 1) := dk_43 (dk_at dksJ20_indexOf_0 17 rfl rfl)
theorem dJ20_indexOf_18 : decode cJ20_indexOf 18 = .ok (.aload_n 1, 1) := dk_43 (dk_at dksJ20_indexOf_0 18 rfl rfl)
theorem dJ20_indexOf_19 : decode cJ20_indexOf 19 = .ok (.arraylength, 1) := dk_190 (dk_at dksJ20_indexOf_0 19 rfl rfl)
theorem dJ20_indexOf_20 : decode cJ20_indexOf 20 = .ok (.iconst 0, 1) := dk_3 (dk_at dksJ20_indexOf_0 20 rfl rfl)
theorem dJ20_indexOf_21 : decode cJ20_indexOf 21 = .ok (.invokestatic 99, 3) := dk_184 0 99 (dk_at dksJ20_indexOf_0 21 rfl rfl)
theorem dJ20_indexOf_24 : decode cJ20_indexOf 24 = .ok (.ireturn, 1) := dk_172 (dk_at dksJ20_indexOf_1 0 rfl rfl)
abbrev cJ20_indexOf_2 : ByteArray := prog_44_method_25_code
def yJ20_indexOf_2 : MethodName := ⟨RJ20, "indexOf", "([BI[BII)I"⟩
def dkwJ20_indexOf_2_5 : List UInt8 := [167, 255, 154, 2, 172]
abbrev dktJ20_indexOf_2_5 : List UInt8 := dkwJ20_indexOf_2_5 ++ []
def dkwJ20_indexOf_2_4 : List UInt8 := [132, 8, 1, 132, 10, 1, 167, 255, 232, 21, 8, 21, 9, 160, 0, 6, 21, 7, 172, 132, 7, 1]
abbrev dktJ20_indexOf_2_4 : List UInt8 := dkwJ20_indexOf_2_4 ++ dktJ20_indexOf_2_5
def dkwJ20_indexOf_2_3 : List UInt8 := [100, 54, 9, 4, 54, 10, 21, 8, 21, 9, 162, 0, 23, 42, 21, 8, 51, 44, 21, 10, 51, 160, 0, 12]
abbrev dktJ20_indexOf_2_3 : List UInt8 := dkwJ20_indexOf_2_3 ++ dktJ20_indexOf_2_4
def dkwJ20_indexOf_2_2 : List UInt8 := [159, 0, 6, 167, 255, 237, 21, 7, 21, 6, 163, 0, 57, 21, 7, 4, 96, 54, 8, 21, 8, 29, 96, 4]
abbrev dktJ20_indexOf_2_2 : List UInt8 := dkwJ20_indexOf_2_2 ++ dktJ20_indexOf_2_3
def dkwJ20_indexOf_2_1 : List UInt8 := [51, 21, 5, 159, 0, 25, 132, 7, 1, 21, 7, 21, 6, 163, 0, 15, 42, 21, 7, 51, 21, 5]
abbrev dktJ20_indexOf_2_1 : List UInt8 := dkwJ20_indexOf_2_1 ++ dktJ20_indexOf_2_2
def dkwJ20_indexOf_2_0 : List UInt8 := [44, 3, 51, 54, 5, 27, 29, 100, 54, 6, 21, 4, 54, 7, 21, 7, 21, 6, 163, 0, 101, 42, 21, 7]
abbrev dktJ20_indexOf_2_0 : List UInt8 := dkwJ20_indexOf_2_0 ++ dktJ20_indexOf_2_1
theorem dksJ20_indexOf_2_0 : cJ20_indexOf_2.data.toList.drop 0 = dktJ20_indexOf_2_0 := by decide +kernel
theorem dksJ20_indexOf_2_1 : cJ20_indexOf_2.data.toList.drop 24 = dktJ20_indexOf_2_1 := dk_seg dksJ20_indexOf_2_0 24 rfl rfl
theorem dksJ20_indexOf_2_2 : cJ20_indexOf_2.data.toList.drop 46 = dktJ20_indexOf_2_2 := dk_seg dksJ20_indexOf_2_1 22 rfl rfl
theorem dksJ20_indexOf_2_3 : cJ20_indexOf_2.data.toList.drop 70 = dktJ20_indexOf_2_3 := dk_seg dksJ20_indexOf_2_2 24 rfl rfl
theorem dksJ20_indexOf_2_4 : cJ20_indexOf_2.data.toList.drop 94 = dktJ20_indexOf_2_4 := dk_seg dksJ20_indexOf_2_3 24 rfl rfl
theorem dksJ20_indexOf_2_5 : cJ20_indexOf_2.data.toList.drop 116 = dktJ20_indexOf_2_5 := dk_seg dksJ20_indexOf_2_4 22 rfl rfl
theorem dJ20_indexOf_2_0 : decode cJ20_indexOf_2 0 = .ok (.aload_n 2, 1) := dk_44 (dk_at dksJ20_indexOf_2_0 0 rfl rfl)
theorem dJ20_indexOf_2_1 : decode cJ20_indexOf_2 1 = .ok (.iconst 0, 1) := dk_3 (dk_at dksJ20_indexOf_2_0 1 rfl rfl)
theorem dJ20_indexOf_2_2 : decode cJ20_indexOf_2 2 = .ok (.baload, 1) := dk_51 (dk_at dksJ20_indexOf_2_0 2 rfl rfl)
theorem dJ20_indexOf_2_3 : decode cJ20_indexOf_2 3 = .ok (.istore 5, 2) := dk_54 5 (dk_at dksJ20_indexOf_2_0 3 rfl rfl)
theorem dJ20_indexOf_2_5 : decode cJ20_indexOf_2 5 = .ok (.iload_n 1, 1) := dk_27 (dk_at dksJ20_indexOf_2_0 5 rfl rfl)
theorem dJ20_indexOf_2_6 : decode cJ20_indexOf_2 6 = .ok (.iload_n 3, 1) := dk_29 (dk_at dksJ20_indexOf_2_0 6 rfl rfl)
theorem dJ20_indexOf_2_7 : decode cJ20_indexOf_2 7 = .ok (.isub, 1) := dk_100 (dk_at dksJ20_indexOf_2_0 7 rfl rfl)
theorem dJ20_indexOf_2_8 : decode cJ20_indexOf_2 8 = .ok (.istore 6, 2) := dk_54 6 (dk_at dksJ20_indexOf_2_0 8 rfl rfl)
theorem dJ20_indexOf_2_10 : decode cJ20_indexOf_2 10 = .ok (.iload 4, 2) := dk_21 4 (dk_at dksJ20_indexOf_2_0 10 rfl rfl)
theorem dJ20_indexOf_2_12 : decode cJ20_indexOf_2 12 = .ok (.istore 7, 2) := dk_54 7 (dk_at dksJ20_indexOf_2_0 12 rfl rfl)
theorem dJ20_indexOf_2_14 : decode cJ20_indexOf_2 14 = .ok (.iload 7, 2) := dk_21 7 (dk_at dksJ20_indexOf_2_0 14 rfl rfl)
theorem dJ20_indexOf_2_16 : decode cJ20_indexOf_2 16 = .ok (.iload 6, 2) := dk_21 6 (dk_at dksJ20_indexOf_2_0 16 rfl rfl)
theorem dJ20_indexOf_2_18 : decode cJ20_indexOf_2 18 = .ok (.if_icmp .gt 101, 3) := dk_163 0 101 (dk_at dksJ20_indexOf_2_0 18 rfl rfl)
theorem dJ20_indexOf_2_21 : decode cJ20_indexOf_2 21 = .ok (.aload_n 0, 1) := dk_42 (dk_at dksJ20_indexOf_2_0 21 rfl rfl)
theorem dJ20_indexOf_2_22 : decode cJ20_indexOf_2 22 = .ok (.iload 7, 2) := dk_21 7 (dk_at dksJ20_indexOf_2_0 22 rfl rfl)
theorem dJ20_indexOf_2_24 : decode cJ20_indexOf_2 24 = .ok (.baload, 1) := dk_51 (dk_at dksJ20_indexOf_2_1 0 rfl rfl)
theorem dJ20_indexOf_2_25 : decode cJ20_indexOf_2 25 = .ok (.iload 5, 2) := dk_21 5 (dk_at dksJ20_indexOf_2_1 1 rfl rfl)
theorem dJ20_indexOf_2_27 : decode cJ20_indexOf_2 27 = .ok (.if_icmp .eq 25, 3) := dk_159 0 25 (dk_at dksJ20_indexOf_2_1 3 rfl rfl)
theorem dJ20_indexOf_2_30 : decode cJ20_indexOf_2 30 = .ok (.iinc 7 1, 3) := dk_132 7 1 (dk_at dksJ20_indexOf_2_1 6 rfl rfl)
theorem dJ20_indexOf_2_33 : decode cJ20_indexOf_2 33 = .ok (.iload 7, 2) := dk_21 7 (dk_at dksJ20_indexOf_2_1 9 rfl rfl)
theorem dJ20_indexOf_2_35 : decode cJ20_indexOf_2 35 = .ok (.iload 6, 2) := dk_21 6 (dk_at dksJ20_indexOf_2_1 11 rfl rfl)
theorem dJ20_indexOf_2_37 : decode cJ20_indexOf_2 37 = .ok (.if_icmp .gt 15, 3) := dk_163 0 15 (dk_at dksJ20_indexOf_2_1 13 rfl rfl)
theorem dJ20_indexOf_2_40 : decode cJ20_indexOf_2 40 = .ok (.aload_n 0, 1) := dk_42 (dk_at dksJ20_indexOf_2_1 16 rfl rfl)
theorem dJ20_indexOf_2_41 : decode cJ20_indexOf_2 41 = .ok (.iload 7, 2) := dk_21 7 (dk_at dksJ20_indexOf_2_1 17 rfl rfl)
theorem dJ20_indexOf_2_43 : decode cJ20_indexOf_2 43 = .ok (.baload, 1) := dk_51 (dk_at dksJ20_indexOf_2_1 19 rfl rfl)
theorem dJ20_indexOf_2_44 : decode cJ20_indexOf_2 44 = .ok (.iload 5, 2) := dk_21 5 (dk_at dksJ20_indexOf_2_1 20 rfl rfl)
theorem dJ20_indexOf_2_46 : decode cJ20_indexOf_2 46 = .ok (.if_icmp .eq 6, 3) := dk_159 0 6 (dk_at dksJ20_indexOf_2_2 0 rfl rfl)
theorem dJ20_indexOf_2_49 : decode cJ20_indexOf_2 49 = .ok (.goto (-19), 3) := dk_167 255 237 (dk_at dksJ20_indexOf_2_2 3 rfl rfl)
theorem dJ20_indexOf_2_52 : decode cJ20_indexOf_2 52 = .ok (.iload 7, 2) := dk_21 7 (dk_at dksJ20_indexOf_2_2 6 rfl rfl)
theorem dJ20_indexOf_2_54 : decode cJ20_indexOf_2 54 = .ok (.iload 6, 2) := dk_21 6 (dk_at dksJ20_indexOf_2_2 8 rfl rfl)
theorem dJ20_indexOf_2_56 : decode cJ20_indexOf_2 56 = .ok (.if_icmp .gt 57, 3) := dk_163 0 57 (dk_at dksJ20_indexOf_2_2 10 rfl rfl)
theorem dJ20_indexOf_2_59 : decode cJ20_indexOf_2 59 = .ok (.iload 7, 2) := dk_21 7 (dk_at dksJ20_indexOf_2_2 13 rfl rfl)
theorem dJ20_indexOf_2_61 : decode cJ20_indexOf_2 61 = .ok (.iconst 1, 1) := dk_4 (dk_at dksJ20_indexOf_2_2 15 rfl rfl)
theorem dJ20_indexOf_2_62 : decode cJ20_indexOf_2 62 = .ok (.iadd, 1) := dk_96 (dk_at dksJ20_indexOf_2_2 16 rfl rfl)
theorem dJ20_indexOf_2_63 : decode cJ20_indexOf_2 63 = .ok (.istore 8, 2) := dk_54 8 (dk_at dksJ20_indexOf_2_2 17 rfl rfl)
theorem dJ20_indexOf_2_65 : decode cJ20_indexOf_2 65 = .ok (.iload 8, 2) := dk_21 8 (dk_at dksJ20_indexOf_2_2 19 rfl rfl)
theorem dJ20_indexOf_2_67 : decode cJ20_indexOf_2 67 = .ok (.iload_n 3, 1) := dk_29 (dk_at dksJ20_indexOf_2_2 21 rfl rfl)
theorem dJ20_indexOf_2_68 : decode cJ20_indexOf_2 68 = .ok (.iadd, 1) := dk_96 (dk_at dksJ20_indexOf_2_2 22 rfl rfl)
theorem dJ20_indexOf_2_69 : decode cJ20_indexOf_2 69 = .ok (.iconst 1, 1) := dk_4 (dk_at dksJ20_indexOf_2_2 23 rfl rfl)
theorem dJ20_indexOf_2_70 : decode cJ20_indexOf_2 70 = .ok (.isub, 1) := dk_100 (dk_at dksJ20_indexOf_2_3 0 rfl rfl)
theorem dJ20_indexOf_2_71 : decode cJ20_indexOf_2 71 = .ok (.istore 9, 2) := dk_54 9 (dk_at dksJ20_indexOf_2_3 1 rfl rfl)
theorem dJ20_indexOf_2_73 : decode cJ20_indexOf_2 73 = .ok (.iconst 1, 1) := dk_4 (dk_at dksJ20_indexOf_2_3 3 rfl rfl)
theorem dJ20_indexOf_2_74 : decode cJ20_indexOf_2 74 = .ok (.istore 10, 2) := dk_54 10 (dk_at dksJ20_indexOf_2_3 4 rfl rfl)
theorem dJ20_indexOf_2_76 : decode cJ20_indexOf_2 76 = .ok (.iload 8, 2) := dk_21 8 (dk_at dksJ20_indexOf_2_3 6 rfl rfl)
theorem dJ20_indexOf_2_78 : decode cJ20_indexOf_2 78 = .ok (.iload 9, 2) := dk_21 9 (dk_at dksJ20_indexOf_2_3 8 rfl rfl)
theorem dJ20_indexOf_2_80 : decode cJ20_indexOf_2 80 = .ok (.if_icmp .ge 23, 3) := dk_162 0 23 (dk_at dksJ20_indexOf_2_3 10 rfl rfl)
theorem dJ20_indexOf_2_83 : decode cJ20_indexOf_2 83 = .ok (.aload_n 0, 1) := dk_42 (dk_at dksJ20_indexOf_2_3 13 rfl rfl)
theorem dJ20_indexOf_2_84 : decode cJ20_indexOf_2 84 = .ok (.iload 8, 2) := dk_21 8 (dk_at dksJ20_indexOf_2_3 14 rfl rfl)
theorem dJ20_indexOf_2_86 : decode cJ20_indexOf_2 86 = .ok (.baload, 1) := dk_51 (dk_at dksJ20_indexOf_2_3 16 rfl rfl)
theorem dJ20_indexOf_2_87 : decode cJ20_indexOf_2 87 = .ok (.aload_n 2, 1) := dk_44 (dk_at dksJ20_indexOf_2_3 17 rfl rfl)
theorem dJ20_indexOf_2_88 : decode cJ20_indexOf_2 88 = .ok (.iload 10, 2) := dk_21 10 (dk_at dksJ20_indexOf_2_3 18 rfl rfl)
theorem dJ20_indexOf_2_90 : decode cJ20_indexOf_2 90 = .ok (.baload, 1) := dk_51 (dk_at dksJ20_indexOf_2_3 20 rfl rfl)
theorem dJ20_indexOf_2_91 : decode cJ20_indexOf_2 91 = .ok (.if_icmp .ne 12, 3) := dk_160 0 12 (dk_at dksJ20_indexOf_2_3 21 rfl rfl)
theorem dJ20_indexOf_2_94 : decode cJ20_indexOf_2 94 = .ok (.iinc 8 1, 3) := dk_132 8 1 (dk_at dksJ20_indexOf_2_4 0 rfl rfl)
theorem dJ20_indexOf_2_97 : decode cJ20_indexOf_2 97 = .ok (.iinc 10 1, 3) := dk_132 10 1 (dk_at dksJ20_indexOf_2_4 3 rfl rfl)
theorem dJ20_indexOf_2_100 : decode cJ20_indexOf_2 100 = .ok (.goto (-24), 3) := dk_167 255 232 (dk_at dksJ20_indexOf_2_4 6 rfl rfl)
theorem dJ20_indexOf_2_103 : decode cJ20_indexOf_2 103 = .ok (.iload 8, 2) := dk_21 8 (dk_at dksJ20_indexOf_2_4 9 rfl rfl)
theorem dJ20_indexOf_2_105 : decode cJ20_indexOf_2 105 = .ok (.iload 9, 2) := dk_21 9 (dk_at dksJ20_indexOf_2_4 11 rfl rfl)
theorem dJ20_indexOf_2_107 : decode cJ20_indexOf_2 107 = .ok (.if_icmp .ne 6, 3) := dk_160 0 6 (dk_at dksJ20_indexOf_2_4 13 rfl rfl)
theorem dJ20_indexOf_2_110 : decode cJ20_indexOf_2 110 = .ok (.iload 7, 2) := dk_21 7 (dk_at dksJ20_indexOf_2_4 16 rfl rfl)
theorem dJ20_indexOf_2_112 : decode cJ20_indexOf_2 112 = .ok (.ireturn, 1) := dk_172 (dk_at dksJ20_indexOf_2_4 18 rfl rfl)
theorem dJ20_indexOf_2_113 : decode cJ20_indexOf_2 113 = .ok (.iinc 7 1, 3) := dk_132 7 1 (dk_at dksJ20_indexOf_2_4 19 rfl rfl)
theorem dJ20_indexOf_2_116 : decode cJ20_indexOf_2 116 = .ok (.goto (-102), 3) := dk_167 255 154 (dk_at dksJ20_indexOf_2_5 0 rfl rfl)
theorem dJ20_indexOf_2_119 : decode cJ20_indexOf_2 119 = .ok (.iconst (-1), 1) := dk_2 (dk_at dksJ20_indexOf_2_5 3 rfl rfl)
theorem dJ20_indexOf_2_120 : decode cJ20_indexOf_2 120 = .ok (.ireturn, 1) := dk_172 (dk_at dksJ20_indexOf_2_5 4 rfl rfl)
theorem q126 : (Jvm.Cond.initialized "java/lang/StringLatin1") ∈ lw_all := lw_g (lw_at lw_m1 26 rfl) rfl
theorem q657 : (Jvm.Cond.static ({ cls := "java/lang/StringLatin1", name := "inflate", desc := "([BI[BII)V" } : Jvm.MethodName)) ∈ lw_all := lw_g (lw_at lw_m3 77 rfl) rfl
theorem q658 : (Jvm.Cond.code ({ cls := "java/lang/StringLatin1", name := "inflate", desc := "([BI[BII)V" } : Jvm.MethodName) prog_44_method_50_code (5 : Nat) (Option.none : Option Jvm.ClassFile.FieldType)) ∈ lw_all := lw_g (lw_at lw_m3 78 rfl) rfl
theorem q659 : (Jvm.Cond.methodLink "java/lang/StringLatin1" (240 : Nat) ({ cls := "java/lang/StringUTF16", name := "inflate", desc := "([BI[BII)V" } : Jvm.MethodName)) ∈ lw_all := lw_g (lw_at lw_m3 79 rfl) rfl
theorem q1590 : (Jvm.Cond.static ({ cls := "java/lang/StringLatin1", name := "compareTo", desc := "([B[B)I" } : Jvm.MethodName)) ∈ lw_all := lw_g (lw_at lw_m7 50 rfl) rfl
theorem q1591 : (Jvm.Cond.code ({ cls := "java/lang/StringLatin1", name := "compareTo", desc := "([B[B)I" } : Jvm.MethodName) prog_44_method_14_code (4 : Nat) (Option.some Jvm.ClassFile.FieldType.int)) ∈ lw_all := lw_g (lw_at lw_m7 51 rfl) rfl
theorem q1592 : (Jvm.Cond.methodLink "java/lang/StringLatin1" (34 : Nat) ({ cls := "java/lang/StringLatin1", name := "compareTo", desc := "([B[BII)I" } : Jvm.MethodName)) ∈ lw_all := lw_g (lw_at lw_m7 52 rfl) rfl
theorem q1593 : (Jvm.Cond.static ({ cls := "java/lang/StringLatin1", name := "compareTo", desc := "([B[BII)I" } : Jvm.MethodName)) ∈ lw_all := lw_g (lw_at lw_m7 53 rfl) rfl
theorem q1594 : (Jvm.Cond.code ({ cls := "java/lang/StringLatin1", name := "compareTo", desc := "([B[BII)I" } : Jvm.MethodName) prog_44_method_15_code (6 : Nat) (Option.some Jvm.ClassFile.FieldType.int)) ∈ lw_all := lw_g (lw_at lw_m7 54 rfl) rfl
theorem q1595 : (Jvm.Cond.methodLink "java/lang/StringLatin1" (38 : Nat) ({ cls := "java/lang/Math", name := "min", desc := "(II)I" } : Jvm.MethodName)) ∈ lw_all := lw_g (lw_at lw_m7 55 rfl) rfl
theorem q1596 : (Jvm.Cond.methodLink "java/lang/StringLatin1" (44 : Nat) ({ cls := "jdk/internal/util/ArraysSupport", name := "mismatch", desc := "([B[BI)I" } : Jvm.MethodName)) ∈ lw_all := lw_g (lw_at lw_m7 56 rfl) rfl
theorem q1700 : (Jvm.Cond.methodLink "java/lang/StringLatin1" (50 : Nat) ({ cls := "java/lang/StringLatin1", name := "getChar", desc := "([BI)C" } : Jvm.MethodName)) ∈ lw_all := lw_g (lw_at lw_m7 160 rfl) rfl
theorem q1701 : (Jvm.Cond.static ({ cls := "java/lang/StringLatin1", name := "getChar", desc := "([BI)C" } : Jvm.MethodName)) ∈ lw_all := lw_g (lw_at lw_m7 161 rfl) rfl
theorem q1702 : (Jvm.Cond.code ({ cls := "java/lang/StringLatin1", name := "getChar", desc := "([BI)C" } : Jvm.MethodName) prog_44_method_44_code (2 : Nat) (Option.some Jvm.ClassFile.FieldType.char)) ∈ lw_all := lw_g (lw_at lw_m7 162 rfl) rfl
theorem q1711 : (Jvm.Cond.static ({ cls := "java/lang/StringLatin1", name := "compareToUTF16", desc := "([B[B)I" } : Jvm.MethodName)) ∈ lw_all := lw_g (lw_at lw_m7 171 rfl) rfl
theorem q1712 : (Jvm.Cond.code ({ cls := "java/lang/StringLatin1", name := "compareToUTF16", desc := "([B[B)I" } : Jvm.MethodName) prog_44_method_16_code (4 : Nat) (Option.some Jvm.ClassFile.FieldType.int)) ∈ lw_all := lw_g (lw_at lw_m7 172 rfl) rfl
theorem q1713 : (Jvm.Cond.methodLink "java/lang/StringLatin1" (54 : Nat) ({ cls := "java/lang/StringLatin1", name := "length", desc := "([B)I" } : Jvm.MethodName)) ∈ lw_all := lw_g (lw_at lw_m7 173 rfl) rfl
theorem q1714 : (Jvm.Cond.static ({ cls := "java/lang/StringLatin1", name := "length", desc := "([B)I" } : Jvm.MethodName)) ∈ lw_all := lw_g (lw_at lw_m7 174 rfl) rfl
theorem q1715 : (Jvm.Cond.code ({ cls := "java/lang/StringLatin1", name := "length", desc := "([B)I" } : Jvm.MethodName) prog_44_method_5_code (1 : Nat) (Option.some Jvm.ClassFile.FieldType.int)) ∈ lw_all := lw_g (lw_at lw_m7 175 rfl) rfl
theorem q1716 : (Jvm.Cond.methodLink "java/lang/StringLatin1" (58 : Nat) ({ cls := "java/lang/StringUTF16", name := "length", desc := "([B)I" } : Jvm.MethodName)) ∈ lw_all := lw_g (lw_at lw_m7 176 rfl) rfl
theorem q1717 : (Jvm.Cond.methodLink "java/lang/StringLatin1" (59 : Nat) ({ cls := "java/lang/StringLatin1", name := "compareToUTF16Values", desc := "([B[BII)I" } : Jvm.MethodName)) ∈ lw_all := lw_g (lw_at lw_m7 177 rfl) rfl
theorem q1718 : (Jvm.Cond.static ({ cls := "java/lang/StringLatin1", name := "compareToUTF16Values", desc := "([B[BII)I" } : Jvm.MethodName)) ∈ lw_all := lw_g (lw_at lw_m7 178 rfl) rfl
theorem q1719 : (Jvm.Cond.code ({ cls := "java/lang/StringLatin1", name := "compareToUTF16Values", desc := "([B[BII)I" } : Jvm.MethodName) prog_44_method_18_code (8 : Nat) (Option.some Jvm.ClassFile.FieldType.int)) ∈ lw_all := lw_g (lw_at lw_m7 179 rfl) rfl
theorem q1720 : (Jvm.Cond.methodLink "java/lang/StringLatin1" (65 : Nat) ({ cls := "java/lang/StringUTF16", name := "getChar", desc := "([BI)C" } : Jvm.MethodName)) ∈ lw_all := lw_g (lw_at lw_m7 180 rfl) rfl
theorem q1750 : (Jvm.Cond.static ({ cls := "java/lang/StringLatin1", name := "compareToUTF16", desc := "([B[BII)I" } : Jvm.MethodName)) ∈ lw_all := lw_g (lw_at lw_m7 210 rfl) rfl
theorem q1751 : (Jvm.Cond.code ({ cls := "java/lang/StringLatin1", name := "compareToUTF16", desc := "([B[BII)I" } : Jvm.MethodName) prog_44_method_17_code (4 : Nat) (Option.some Jvm.ClassFile.FieldType.int)) ∈ lw_all := lw_g (lw_at lw_m7 211 rfl) rfl
theorem q1752 : (Jvm.Cond.methodLink "java/lang/StringLatin1" (62 : Nat) ({ cls := "java/lang/String", name := "checkOffset", desc := "(II)V" } : Jvm.MethodName)) ∈ lw_all := lw_g (lw_at lw_m7 212 rfl) rfl
theorem q2369 : (Jvm.Cond.static ({ cls := "java/lang/StringLatin1", name := "hashCode", desc := "([B)I" } : Jvm.MethodName)) ∈ lw_all := lw_g (lw_at lw_m10 109 rfl) rfl
theorem q2370 : (Jvm.Cond.code ({ cls := "java/lang/StringLatin1", name := "hashCode", desc := "([B)I" } : Jvm.MethodName) prog_44_method_21_code (1 : Nat) (Option.some Jvm.ClassFile.FieldType.int)) ∈ lw_all := lw_g (lw_at lw_m10 110 rfl) rfl
theorem q2371 : (Jvm.Cond.methodLink "java/lang/StringLatin1" (84 : Nat) ({ cls := "jdk/internal/util/ArraysSupport", name := "vectorizedHashCode", desc := "(Ljava/lang/Object;IIII)I" } : Jvm.MethodName)) ∈ lw_all := lw_g (lw_at lw_m10 111 rfl) rfl
theorem q2427 : (Jvm.Cond.static ({ cls := "java/lang/StringLatin1", name := "equals", desc := "([B[B)Z" } : Jvm.MethodName)) ∈ lw_all := lw_g (lw_at lw_m10 167 rfl) rfl
theorem q2428 : (Jvm.Cond.code ({ cls := "java/lang/StringLatin1", name := "equals", desc := "([B[B)Z" } : Jvm.MethodName) prog_44_method_13_code (3 : Nat) (Option.some Jvm.ClassFile.FieldType.boolean)) ∈ lw_all := lw_g (lw_at lw_m10 168 rfl) rfl
theorem q3320 : (Jvm.Cond.static ({ cls := "java/lang/StringLatin1", name := "charAt", desc := "([BI)C" } : Jvm.MethodName)) ∈ lw_all := lw_g (lw_at lw_m14 100 rfl) rfl
theorem q3321 : (Jvm.Cond.code ({ cls := "java/lang/StringLatin1", name := "charAt", desc := "([BI)C" } : Jvm.MethodName) prog_44_method_2_code (2 : Nat) (Option.some Jvm.ClassFile.FieldType.char)) ∈ lw_all := lw_g (lw_at lw_m14 101 rfl) rfl
theorem q3322 : (Jvm.Cond.methodLink "java/lang/StringLatin1" (9 : Nat) ({ cls := "java/lang/String", name := "checkIndex", desc := "(II)V" } : Jvm.MethodName)) ∈ lw_all := lw_g (lw_at lw_m14 102 rfl) rfl
theorem q3354 : (Jvm.Cond.static ({ cls := "java/lang/StringLatin1", name := "canEncode", desc := "(C)Z" } : Jvm.MethodName)) ∈ lw_all := lw_g (lw_at lw_m14 134 rfl) rfl
theorem q3355 : (Jvm.Cond.code ({ cls := "java/lang/StringLatin1", name := "canEncode", desc := "(C)Z" } : Jvm.MethodName) prog_44_method_3_code (1 : Nat) (Option.some Jvm.ClassFile.FieldType.boolean)) ∈ lw_all := lw_g (lw_at lw_m14 135 rfl) rfl
theorem q3395 : (Jvm.Cond.static ({ cls := "java/lang/StringLatin1", name := "fillNull", desc := "([BII)V" } : Jvm.MethodName)) ∈ lw_all := lw_g (lw_at lw_m14 175 rfl) rfl
theorem q3396 : (Jvm.Cond.code ({ cls := "java/lang/StringLatin1", name := "fillNull", desc := "([BII)V" } : Jvm.MethodName) prog_44_method_48_code (3 : Nat) (Option.none : Option Jvm.ClassFile.FieldType)) ∈ lw_all := lw_g (lw_at lw_m14 176 rfl) rfl
theorem q3397 : (Jvm.Cond.methodLink "java/lang/StringLatin1" (236 : Nat) ({ cls := "java/util/Arrays", name := "fill", desc := "([BIIB)V" } : Jvm.MethodName)) ∈ lw_all := lw_g (lw_at lw_m14 177 rfl) rfl
theorem q3547 : (Jvm.Cond.static ({ cls := "java/lang/StringLatin1", name := "indexOf", desc := "([B[B)I" } : Jvm.MethodName)) ∈ lw_all := lw_g (lw_at lw_m15 87 rfl) rfl
theorem q3548 : (Jvm.Cond.code ({ cls := "java/lang/StringLatin1", name := "indexOf", desc := "([B[B)I" } : Jvm.MethodName) prog_44_method_24_code (2 : Nat) (Option.some Jvm.ClassFile.FieldType.int)) ∈ lw_all := lw_g (lw_at lw_m15 88 rfl) rfl
theorem q3549 : (Jvm.Cond.methodLink "java/lang/StringLatin1" (99 : Nat) ({ cls := "java/lang/StringLatin1", name := "indexOf", desc := "([BI[BII)I" } : Jvm.MethodName)) ∈ lw_all := lw_g (lw_at lw_m15 89 rfl) rfl
theorem q3550 : (Jvm.Cond.static ({ cls := "java/lang/StringLatin1", name := "indexOf", desc := "([BI[BII)I" } : Jvm.MethodName)) ∈ lw_all := lw_g (lw_at lw_m15 90 rfl) rfl
theorem q3551 : (Jvm.Cond.code ({ cls := "java/lang/StringLatin1", name := "indexOf", desc := "([BI[BII)I" } : Jvm.MethodName) prog_44_method_25_code (11 : Nat) (Option.some Jvm.ClassFile.FieldType.int)) ∈ lw_all := lw_g (lw_at lw_m15 91 rfl) rfl
/-! java/lang/Number -/
set_option maxRecDepth 100000
def RJ21 : String := "java/lang/Number"
abbrev cJ21_init : ByteArray := prog_38_method_1_code
def yJ21_init : MethodName := ⟨RJ21, "<init>", "()V"⟩
theorem dJ21_init_0 : decode cJ21_init 0 = .ok (.aload_n 0, 1) := by decide +kernel
theorem dJ21_init_1 : decode cJ21_init 1 = .ok (.invokespecial 1, 3) := by decide +kernel
theorem dJ21_init_4 : decode cJ21_init 4 = .ok (.return_, 1) := by decide +kernel
theorem q127 : (Jvm.Cond.initialized "java/lang/Number") ∈ lw_all := lw_g (lw_at lw_m1 27 rfl) rfl
theorem q2082 : (Jvm.Cond.instanceMethod ({ cls := "java/lang/Number", name := "<init>", desc := "()V" } : Jvm.MethodName)) ∈ lw_all := lw_g (lw_at lw_m9 62 rfl) rfl
theorem q2083 : (Jvm.Cond.code ({ cls := "java/lang/Number", name := "<init>", desc := "()V" } : Jvm.MethodName) prog_38_method_1_code (1 : Nat) (Option.none : Option Jvm.ClassFile.FieldType)) ∈ lw_all := lw_g (lw_at lw_m9 63 rfl) rfl
theorem q2084 : (Jvm.Cond.methodLink "java/lang/Number" (1 : Nat) ({ cls := "java/lang/Object", name := "<init>", desc := "()V" } : Jvm.MethodName)) ∈ lw_all := lw_g (lw_at lw_m9 64 rfl) rfl
/-! java/lang/Integer -/
set_option maxRecDepth 100000
def RJ22 : String := "java/lang/Integer"
def TJ22 : u_T := fun k => match k with
  | _ => ("java/lang/Integer", "value", "I", true)
def tyJ22 : Nat → FieldType := fun k => match k with
  | _ => .int
abbrev wsJ220 : List Cond := u_ws RJ22 TJ22 1
theorem nmJ22 : ∀ a, a < 1 → ∀ b, b < 1 → a ≠ b → (TJ22 a).2.1 ≠ (TJ22 b).2.1 := by decide +kernel
theorem tyJ22_ok : ∀ k, k < 1 → parseFieldDescriptor (TJ22 k).2.2.1 = some (tyJ22 k) := by decide +kernel
abbrev cJ22_stringSize : ByteArray := prog_33_method_13_code
def yJ22_stringSize : MethodName := ⟨RJ22, "stringSize", "(I)I"⟩
def dkwJ22_stringSize_1 : List UInt8 := [164, 0, 7, 29, 27, 96, 172, 16, 10, 28, 104, 61, 132, 3, 1, 167, 255, 233, 16, 10, 27, 96, 172]
abbrev dktJ22_stringSize_1 : List UInt8 := dkwJ22_stringSize_1 ++ []
def dkwJ22_stringSize_0 : List UInt8 := [4, 60, 26, 155, 0, 8, 3, 60, 26, 116, 59, 16, 246, 61, 4, 62, 29, 16, 10, 162, 0, 23, 26, 28]
abbrev dktJ22_stringSize_0 : List UInt8 := dkwJ22_stringSize_0 ++ dktJ22_stringSize_1
theorem dksJ22_stringSize_0 : cJ22_stringSize.data.toList.drop 0 = dktJ22_stringSize_0 := by decide +kernel
theorem dksJ22_stringSize_1 : cJ22_stringSize.data.toList.drop 24 = dktJ22_stringSize_1 := dk_seg dksJ22_stringSize_0 24 rfl rfl
theorem dJ22_stringSize_0 : decode cJ22_stringSize 0 = .ok (.iconst 1, 1) := dk_4 (dk_at dksJ22_stringSize_0 0 rfl rfl)
theorem dJ22_stringSize_1 : decode cJ22_stringSize 1 = .ok (.istore_n 1, 1) := dk_60 (dk_at dksJ22_stringSize_0 1 rfl rfl)
theorem dJ22_stringSize_2 : decode cJ22_stringSize 2 = .ok (.iload_n 0, 1) := dk_26 (dk_at dksJ22_stringSize_0 2 rfl rfl)
theorem dJ22_stringSize_3 : decode cJ22_stringSize 3 = .ok (.ifCond .lt 8, 3) := dk_155 0 8 (dk_at dksJ22_stringSize_0 3 rfl rfl)
theorem dJ22_stringSize_6 : decode cJ22_stringSize 6 = .ok (.iconst 0, 1) := dk_3 (dk_at dksJ22_stringSize_0 6 rfl rfl)
theorem dJ22_stringSize_7 : decode cJ22_stringSize 7 = .ok (.istore_n 1, 1) := dk_60 (dk_at dksJ22_stringSize_0 7 rfl rfl)
theorem dJ22_stringSize_8 : decode cJ22_stringSize 8 = .ok (.iload_n 0, 1) := dk_26 (dk_at dksJ22_stringSize_0 8 rfl rfl)
theorem dJ22_stringSize_9 : decode cJ22_stringSize 9 = .ok (.ineg, 1) := dk_116 (dk_at dksJ22_stringSize_0 9 rfl rfl)
theorem dJ22_stringSize_10 : decode cJ22_stringSize 10 = .ok (.istore_n 0, 1) := dk_59 (dk_at dksJ22_stringSize_0 10 rfl rfl)
theorem dJ22_stringSize_11 : decode cJ22_stringSize 11 = .ok (.bipush (-10), 2) := dk_16 246 (dk_at dksJ22_stringSize_0 11 rfl rfl)
theorem dJ22_stringSize_13 : decode cJ22_stringSize 13 = .ok (.istore_n 2, 1) := dk_61 (dk_at dksJ22_stringSize_0 13 rfl rfl)
theorem dJ22_stringSize_14 : decode cJ22_stringSize 14 = .ok (.iconst 1, 1) := dk_4 (dk_at dksJ22_stringSize_0 14 rfl rfl)
theorem dJ22_stringSize_15 : decode cJ22_stringSize 15 = .ok (.istore_n 3, 1) := dk_62 (dk_at dksJ22_stringSize_0 15 rfl rfl)
theorem dJ22_stringSize_16 : decode cJ22_stringSize 16 = .ok (.iload_n 3, 1) := dk_29 (dk_at dksJ22_stringSize_0 16 rfl rfl)
theorem dJ22_stringSize_17 : decode cJ22_stringSize 17 = .ok (.bipush 10, 2) := dk_16 10 (dk_at dksJ22_stringSize_0 17 rfl rfl)
theorem dJ22_stringSize_19 : decode cJ22_stringSize 19 = .ok (.if_icmp .ge 23, 3) := dk_162 0 23 (dk_at dksJ22_stringSize_0 19 rfl rfl)
theorem dJ22_stringSize_22 : decode cJ22_stringSize 22 = .ok (.iload_n 0, 1) := dk_26 (dk_at dksJ22_stringSize_0 22 rfl rfl)
theorem dJ22_stringSize_23 : decode cJ22_stringSize 23 = .ok (.iload_n 2, 1) := dk_28 (dk_at dksJ22_stringSize_0 23 rfl rfl)
theorem dJ22_stringSize_24 : decode cJ22_stringSize 24 = .ok (.if_icmp .le 7, 3) := dk_164 0 7 (dk_at dksJ22_stringSize_1 0 rfl rfl)
theorem dJ22_stringSize_27 : decode cJ22_stringSize 27 = .ok (.iload_n 3, 1) := dk_29 (dk_at dksJ22_stringSize_1 3 rfl rfl)
theorem dJ22_stringSize_28 : decode cJ22_stringSize 28 = .ok (.iload_n 1, 1) := dk_27 (dk_at dksJ22_stringSize_1 4 rfl rfl)
theorem dJ22_stringSize_29 : decode cJ22_stringSize 29 = .ok (.iadd, 1) := dk_96 (dk_at dksJ22_stringSize_1 5 rfl rfl)
theorem dJ22_stringSize_30 : decode cJ22_stringSize 30 = .ok (.ireturn, 1) := dk_172 (dk_at dksJ22_stringSize_1 6 rfl rfl)
theorem dJ22_stringSize_31 : decode cJ22_stringSize 31 = .ok (.bipush 10, 2) := dk_16 10 (dk_at dksJ22_stringSize_1 7 rfl rfl)
theorem dJ22_stringSize_33 : decode cJ22_stringSize 33 = .ok (.iload_n 2, 1) := dk_28 (dk_at dksJ22_stringSize_1 9 rfl rfl)
theorem dJ22_stringSize_34 : decode cJ22_stringSize 34 = .ok (.imul, 1) := dk_104 (dk_at dksJ22_stringSize_1 10 rfl rfl)
theorem dJ22_stringSize_35 : decode cJ22_stringSize 35 = .ok (.istore_n 2, 1) := dk_61 (dk_at dksJ22_stringSize_1 11 rfl rfl)
theorem dJ22_stringSize_36 : decode cJ22_stringSize 36 = .ok (.iinc 3 1, 3) := dk_132 3 1 (dk_at dksJ22_stringSize_1 12 rfl rfl)
theorem dJ22_stringSize_39 : decode cJ22_stringSize 39 = .ok (.goto (-23), 3) := dk_167 255 233 (dk_at dksJ22_stringSize_1 15 rfl rfl)
theorem dJ22_stringSize_42 : decode cJ22_stringSize 42 = .ok (.bipush 10, 2) := dk_16 10 (dk_at dksJ22_stringSize_1 18 rfl rfl)
theorem dJ22_stringSize_44 : decode cJ22_stringSize 44 = .ok (.iload_n 1, 1) := dk_27 (dk_at dksJ22_stringSize_1 20 rfl rfl)
theorem dJ22_stringSize_45 : decode cJ22_stringSize 45 = .ok (.iadd, 1) := dk_96 (dk_at dksJ22_stringSize_1 21 rfl rfl)
theorem dJ22_stringSize_46 : decode cJ22_stringSize 46 = .ok (.ireturn, 1) := dk_172 (dk_at dksJ22_stringSize_1 22 rfl rfl)
abbrev cJ22_getChars : ByteArray := prog_33_method_12_code
def yJ22_getChars : MethodName := ⟨RJ22, "getChars", "(II[B)I"⟩
def dkwJ22_getChars_5 : List UInt8 := [16, 45, 84, 21, 5, 172]
abbrev dktJ22_getChars_5 : List UInt8 := dkwJ22_getChars_5 ++ []
def dkwJ22_getChars_4 : List UInt8 := [132, 5, 255, 21, 5, 178, 0, 87, 26, 116, 51, 84, 21, 6, 153, 0, 12, 44, 132, 5, 255, 21, 5]
abbrev dktJ22_getChars_4 : List UInt8 := dkwJ22_getChars_4 ++ dktJ22_getChars_5
def dkwJ22_getChars_3 : List UInt8 := [167, 255, 209, 44, 132, 5, 255, 21, 5, 178, 0, 83, 26, 116, 51, 84, 26, 16, 247, 162, 0, 16, 44]
abbrev dktJ22_getChars_3 : List UInt8 := dkwJ22_getChars_3 ++ dktJ22_getChars_4
def dkwJ22_getChars_2 : List UInt8 := [21, 5, 178, 0, 83, 21, 4, 51, 84, 44, 132, 5, 255, 21, 5, 178, 0, 87, 21, 4, 51, 84]
abbrev dktJ22_getChars_2 : List UInt8 := dkwJ22_getChars_2 ++ dktJ22_getChars_3
def dkwJ22_getChars_1 : List UInt8 := [16, 156, 163, 0, 47, 26, 16, 100, 108, 62, 29, 16, 100, 104, 26, 100, 54, 4, 29, 59, 44, 132, 5, 255]
abbrev dktJ22_getChars_1 : List UInt8 := dkwJ22_getChars_1 ++ dktJ22_getChars_2
def dkwJ22_getChars_0 : List UInt8 := [27, 54, 5, 26, 156, 0, 7, 4, 167, 0, 4, 3, 54, 6, 21, 6, 154, 0, 6, 26, 116, 59, 26]
abbrev dktJ22_getChars_0 : List UInt8 := dkwJ22_getChars_0 ++ dktJ22_getChars_1
theorem dksJ22_getChars_0 : cJ22_getChars.data.toList.drop 0 = dktJ22_getChars_0 := by decide +kernel
theorem dksJ22_getChars_1 : cJ22_getChars.data.toList.drop 23 = dktJ22_getChars_1 := dk_seg dksJ22_getChars_0 23 rfl rfl
theorem dksJ22_getChars_2 : cJ22_getChars.data.toList.drop 47 = dktJ22_getChars_2 := dk_seg dksJ22_getChars_1 24 rfl rfl
theorem dksJ22_getChars_3 : cJ22_getChars.data.toList.drop 69 = dktJ22_getChars_3 := dk_seg dksJ22_getChars_2 22 rfl rfl
theorem dksJ22_getChars_4 : cJ22_getChars.data.toList.drop 92 = dktJ22_getChars_4 := dk_seg dksJ22_getChars_3 23 rfl rfl
theorem dksJ22_getChars_5 : cJ22_getChars.data.toList.drop 115 = dktJ22_getChars_5 := dk_seg dksJ22_getChars_4 23 rfl rfl
theorem dJ22_getChars_0 : decode cJ22_getChars 0 = .ok (.iload_n 1, 1) := dk_27 (dk_at dksJ22_getChars_0 0 rfl rfl)
theorem dJ22_getChars_1 : decode cJ22_getChars 1 = .ok (.istore 5, 2) := dk_54 5 (dk_at dksJ22_getChars_0 1 rfl rfl)
theorem dJ22_getChars_3 : decode cJ22_getChars 3 = .ok (.iload_n 0, 1) := dk_26 (dk_at dksJ22_getChars_0 3 rfl rfl)
theorem dJ22_getChars_4 : decode cJ22_getChars 4 = .ok (.ifCond .ge 7, 3) := dk_156 0 7 (dk_at dksJ22_getChars_0 4 rfl rfl)
theorem dJ22_getChars_7 : decode cJ22_getChars 7 = .ok (.iconst 1, 1) := dk_4 (dk_at dksJ22_getChars_0 7 rfl rfl)
theorem dJ22_getChars_8 : decode cJ22_getChars 8 = .ok (.goto 4, 3) := dk_167 0 4 (dk_at dksJ22_getChars_0 8 rfl rfl)
theorem dJ22_getChars_11 : decode cJ22_getChars 11 = .ok (.iconst 0, 1) := dk_3 (dk_at dksJ22_getChars_0 11 rfl rfl)
theorem dJ22_getChars_12 : decode cJ22_getChars 12 = .ok (.istore 6, 2) := dk_54 6 (dk_at dksJ22_getChars_0 12 rfl rfl)
theorem dJ22_getChars_14 : decode cJ22_getChars 14 = .ok (.iload 6, 2) := dk_21 6 (dk_at dksJ22_getChars_0 14 rfl rfl)
theorem dJ22_getChars_16 : decode cJ22_getChars 16 = .ok (.ifCond .ne 6, 3) := dk_154 0 6 (dk_at dksJ22_getChars_0 16 rfl rfl)
theorem dJ22_getChars_19 : decode cJ22_getChars 19 = .ok (.iload_n 0, 1) := dk_26 (dk_at dksJ22_getChars_0 19 rfl rfl)
theorem dJ22_getChars_20 : decode cJ22_getChars 20 = .ok (.ineg, 1) := dk_116 (dk_at dksJ22_getChars_0 20 rfl rfl)
theorem dJ22_getChars_21 : decode cJ22_getChars 21 = .ok (.istore_n 0, 1) := dk_59 (dk_at dksJ22_getChars_0 21 rfl rfl)
theorem dJ22_getChars_22 : decode cJ22_getChars 22 = .ok (.iload_n 0, 1) := dk_26 (dk_at dksJ22_getChars_0 22 rfl rfl)
theorem dJ22_getChars_23 : decode cJ22_getChars 23 = .ok (.bipush (-100), 2) := dk_16 156 (dk_at dksJ22_getChars_1 0 rfl rfl)
theorem dJ22_getChars_25 : decode cJ22_getChars 25 = .ok (.if_icmp .gt 47, 3) := dk_163 0 47 (dk_at dksJ22_getChars_1 2 rfl rfl)
theorem dJ22_getChars_28 : decode cJ22_getChars 28 = .ok (.iload_n 0, 1) := dk_26 (dk_at dksJ22_getChars_1 5 rfl rfl)
theorem dJ22_getChars_29 : decode cJ22_getChars 29 = .ok (.bipush 100, 2) := dk_16 100 (dk_at dksJ22_getChars_1 6 rfl rfl)
theorem dJ22_getChars_31 : decode cJ22_getChars 31 = .ok (.idiv, 1) := dk_108 (dk_at dksJ22_getChars_1 8 rfl rfl)
theorem dJ22_getChars_32 : decode cJ22_getChars 32 = .ok (.istore_n 3, 1) := dk_62 (dk_at dksJ22_getChars_1 9 rfl rfl)
theorem dJ22_getChars_33 : decode cJ22_getChars 33 = .ok (.iload_n 3, 1) := dk_29 (dk_at dksJ22_getChars_1 10 rfl rfl)
theorem dJ22_getChars_34 : decode cJ22_getChars 34 = .ok (.bipush 100, 2) := dk_16 100 (dk_at dksJ22_getChars_1 11 rfl rfl)
theorem dJ22_getChars_36 : decode cJ22_getChars 36 = .ok (.imul, 1) := dk_104 (dk_at dksJ22_getChars_1 13 rfl rfl)
theorem dJ22_getChars_37 : decode cJ22_getChars 37 = .ok (.iload_n 0, 1) := dk_26 (dk_at dksJ22_getChars_1 14 rfl rfl)
theorem dJ22_getChars_38 : decode cJ22_getChars 38 = .ok (.isub, 1) := dk_100 (dk_at dksJ22_getChars_1 15 rfl rfl)
theorem dJ22_getChars_39 : decode cJ22_getChars 39 = .ok (.istore 4, 2) := dk_54 4 (dk_at dksJ22_getChars_1 16 rfl rfl)
theorem dJ22_getChars_41 : decode cJ22_getChars 41 = .ok (.iload_n 3, 1) := dk_29 (dk_at dksJ22_getChars_1 18 rfl rfl)
theorem dJ22_getChars_42 : decode cJ22_getChars 42 = .ok (.istore_n 0, 1) := dk_59 (dk_at dksJ22_getChars_1 19 rfl rfl)
theorem dJ22_getChars_43 : decode cJ22_getChars 43 = .ok (.aload_n 2, 1) := dk_44 (dk_at dksJ22_getChars_1 20 rfl rfl)
theorem dJ22_getChars_44 : decode cJ22_getChars 44 = .ok (.iinc 5 (-1), 3) := dk_132 5 255 (dk_at dksJ22_getChars_1 21 rfl rfl)
theorem dJ22_getChars_47 : decode cJ22_getChars 47 = .ok (.iload 5, 2) := dk_21 5 (dk_at dksJ22_getChars_2 0 rfl rfl)
theorem dJ22_getChars_49 : decode cJ22_getChars 49 = .ok (.getstatic 83, 3) := dk_178 0 83 (dk_at dksJ22_getChars_2 2 rfl rfl)
theorem dJ22_getChars_52 : decode cJ22_getChars 52 = .ok (.iload 4, 2) := dk_21 4 (dk_at dksJ22_getChars_2 5 rfl rfl)
theorem dJ22_getChars_54 : decode cJ22_getChars 54 = .ok (.baload, 1) := dk_51 (dk_at dksJ22_getChars_2 7 rfl rfl)
theorem dJ22_getChars_55 : decode cJ22_getChars 55 = .ok (.bastore, 1) := dk_84 (dk_at dksJ22_getChars_2 8 rfl rfl)
theorem dJ22_getChars_56 : decode cJ22_getChars 56 = .ok (.aload_n 2, 1) := dk_44 (dk_at dksJ22_getChars_2 9 rfl rfl)
theorem dJ22_getChars_57 : decode cJ22_getChars 57 = .ok (.iinc 5 (-1), 3) := dk_132 5 255 (dk_at dksJ22_getChars_2 10 rfl rfl)
theorem dJ22_getChars_60 : decode cJ22_getChars 60 = .ok (.iload 5, 2) := dk_21 5 (dk_at dksJ22_getChars_2 13 rfl rfl)
theorem dJ22_getChars_62 : decode cJ22_getChars 62 = .ok (.getstatic 87, 3) := dk_178 0 87 (dk_at dksJ22_getChars_2 15 rfl rfl)
theorem dJ22_getChars_65 : decode cJ22_getChars 65 = .ok (.iload 4, 2) := dk_21 4 (dk_at dksJ22_getChars_2 18 rfl rfl)
theorem dJ22_getChars_67 : decode cJ22_getChars 67 = .ok (.baload, 1) := dk_51 (dk_at dksJ22_getChars_2 20 rfl rfl)
theorem dJ22_getChars_68 : decode cJ22_getChars 68 = .ok (.bastore, 1) := dk_84 (dk_at dksJ22_getChars_2 21 rfl rfl)
theorem dJ22_getChars_69 : decode cJ22_getChars 69 = .ok (.goto (-47), 3) := dk_167 255 209 (dk_at dksJ22_getChars_3 0 rfl rfl)
theorem dJ22_getChars_72 : decode cJ22_getChars 72 = .ok (.aload_n 2, 1) := dk_44 (dk_at dksJ22_getChars_3 3 rfl rfl)
theorem dJ22_getChars_73 : decode cJ22_getChars 73 = .ok (.iinc 5 (-1), 3) := dk_132 5 255 (dk_at dksJ22_getChars_3 4 rfl rfl)
theorem dJ22_getChars_76 : decode cJ22_getChars 76 = .ok (.iload 5, 2) := dk_21 5 (dk_at dksJ22_getChars_3 7 rfl rfl)
theorem dJ22_getChars_78 : decode cJ22_getChars 78 = .ok (.getstatic 83, 3) := dk_178 0 83 (dk_at dksJ22_getChars_3 9 rfl rfl)
theorem dJ22_getChars_81 : decode cJ22_getChars 81 = .ok (.iload_n 0, 1) := dk_26 (dk_at dksJ22_getChars_3 12 rfl rfl)
theorem dJ22_getChars_82 : decode cJ22_getChars 82 = .ok (.ineg, 1) := dk_116 (dk_at dksJ22_getChars_3 13 rfl rfl)
theorem dJ22_getChars_83 : decode cJ22_getChars 83 = .ok (.baload, 1) := dk_51 (dk_at dksJ22_getChars_3 14 rfl rfl)
theorem dJ22_getChars_84 : decode cJ22_getChars 84 = .ok (.bastore, 1) := dk_84 (dk_at dksJ22_getChars_3 15 rfl rfl)
theorem dJ22_getChars_85 : decode cJ22_getChars 85 = .ok (.iload_n 0, 1) := dk_26 (dk_at dksJ22_getChars_3 16 rfl rfl)
theorem dJ22_getChars_86 : decode cJ22_getChars 86 = .ok (.bipush (-9), 2) := dk_16 247 (dk_at dksJ22_getChars_3 17 rfl rfl)
theorem dJ22_getChars_88 : decode cJ22_getChars 88 = .ok (.if_icmp .ge 16, 3) := dk_162 0 16 (dk_at dksJ22_getChars_3 19 rfl rfl)
theorem dJ22_getChars_91 : decode cJ22_getChars 91 = .ok (.aload_n 2, 1) := dk_44 (dk_at dksJ22_getChars_3 22 rfl rfl)
theorem dJ22_getChars_92 : decode cJ22_getChars 92 = .ok (.iinc 5 (-1), 3) := dk_132 5 255 (dk_at dksJ22_getChars_4 0 rfl rfl)
theorem dJ22_getChars_95 : decode cJ22_getChars 95 = .ok (.iload 5, 2) := dk_21 5 (dk_at dksJ22_getChars_4 3 rfl rfl)
theorem dJ22_getChars_97 : decode cJ22_getChars 97 = .ok (.getstatic 87, 3) := dk_178 0 87 (dk_at dksJ22_getChars_4 5 rfl rfl)
theorem dJ22_getChars_100 : decode cJ22_getChars 100 = .ok (.iload_n 0, 1) := dk_26 (dk_at dksJ22_getChars_4 8 rfl rfl)
theorem dJ22_getChars_101 : decode cJ22_getChars 101 = .ok (.ineg, 1) := dk_116 (dk_at dksJ22_getChars_4 9 rfl rfl)
theorem dJ22_getChars_102 : decode cJ22_getChars 102 = .ok (.baload, 1) := dk_51 (dk_at dksJ22_getChars_4 10 rfl rfl)
theorem dJ22_getChars_103 : decode cJ22_getChars 103 = .ok (.bastore, 1) := dk_84 (dk_at dksJ22_getChars_4 11 rfl rfl)
theorem dJ22_getChars_104 : decode cJ22_getChars 104 = .ok (.iload 6, 2) := dk_21 6 (dk_at dksJ22_getChars_4 12 rfl rfl)
theorem dJ22_getChars_106 : decode cJ22_getChars 106 = .ok (.ifCond .eq 12, 3) := dk_153 0 12 (dk_at dksJ22_getChars_4 14 rfl rfl)
theorem dJ22_getChars_109 : decode cJ22_getChars 109 = .ok (.aload_n 2, 1) := dk_44 (dk_at dksJ22_getChars_4 17 rfl rfl)
theorem dJ22_getChars_110 : decode cJ22_getChars 110 = .ok (.iinc 5 (-1), 3) := dk_132 5 255 (dk_at dksJ22_getChars_4 18 rfl rfl)
theorem dJ22_getChars_113 : decode cJ22_getChars 113 = .ok (.iload 5, 2) := dk_21 5 (dk_at dksJ22_getChars_4 21 rfl rfl)
theorem dJ22_getChars_115 : decode cJ22_getChars 115 = .ok (.bipush 45, 2) := dk_16 45 (dk_at dksJ22_getChars_5 0 rfl rfl)
theorem dJ22_getChars_117 : decode cJ22_getChars 117 = .ok (.bastore, 1) := dk_84 (dk_at dksJ22_getChars_5 2 rfl rfl)
theorem dJ22_getChars_118 : decode cJ22_getChars 118 = .ok (.iload 5, 2) := dk_21 5 (dk_at dksJ22_getChars_5 3 rfl rfl)
theorem dJ22_getChars_120 : decode cJ22_getChars 120 = .ok (.ireturn, 1) := dk_172 (dk_at dksJ22_getChars_5 5 rfl rfl)
abbrev cJ22_intValue : ByteArray := prog_33_method_27_code
def yJ22_intValue : MethodName := ⟨RJ22, "intValue", "()I"⟩
theorem dJ22_intValue_0 : decode cJ22_intValue 0 = .ok (.aload_n 0, 1) := by decide +kernel
theorem dJ22_intValue_1 : decode cJ22_intValue 1 = .ok (.getfield 205, 3) := by decide +kernel
theorem dJ22_intValue_4 : decode cJ22_intValue 4 = .ok (.ireturn, 1) := by decide +kernel
abbrev cJ22_compareTo : ByteArray := prog_33_method_63_code
def yJ22_compareTo : MethodName := ⟨RJ22, "compareTo", "(Ljava/lang/Object;)I"⟩
def dkwJ22_compareTo_0 : List UInt8 := [42, 43, 192, 0, 1, 182, 1, 28, 172]
abbrev dktJ22_compareTo_0 : List UInt8 := dkwJ22_compareTo_0 ++ []
theorem dksJ22_compareTo_0 : cJ22_compareTo.data.toList.drop 0 = dktJ22_compareTo_0 := by decide +kernel
theorem dJ22_compareTo_0 : decode cJ22_compareTo 0 = .ok (.aload_n 0, 1) := dk_42 (dk_at dksJ22_compareTo_0 0 rfl rfl)
theorem dJ22_compareTo_1 : decode cJ22_compareTo 1 = .ok (.aload_n 1, 1) := dk_43 (dk_at dksJ22_compareTo_0 1 rfl rfl)
theorem dJ22_compareTo_2 : decode cJ22_compareTo 2 = .ok (.checkcast 1, 3) := dk_192 0 1 (dk_at dksJ22_compareTo_0 2 rfl rfl)
theorem dJ22_compareTo_5 : decode cJ22_compareTo 5 = .ok (.invokevirtual 284, 3) := dk_182 1 28 (dk_at dksJ22_compareTo_0 5 rfl rfl)
theorem dJ22_compareTo_8 : decode cJ22_compareTo 8 = .ok (.ireturn, 1) := dk_172 (dk_at dksJ22_compareTo_0 8 rfl rfl)
abbrev cJ22_compareTo_2 : ByteArray := prog_33_method_39_code
def yJ22_compareTo_2 : MethodName := ⟨RJ22, "compareTo", "(Ljava/lang/Integer;)I"⟩
def dkwJ22_compareTo_2_0 : List UInt8 := [42, 180, 0, 205, 43, 180, 0, 205, 184, 1, 3, 172]
abbrev dktJ22_compareTo_2_0 : List UInt8 := dkwJ22_compareTo_2_0 ++ []
theorem dksJ22_compareTo_2_0 : cJ22_compareTo_2.data.toList.drop 0 = dktJ22_compareTo_2_0 := by decide +kernel
theorem dJ22_compareTo_2_0 : decode cJ22_compareTo_2 0 = .ok (.aload_n 0, 1) := dk_42 (dk_at dksJ22_compareTo_2_0 0 rfl rfl)
theorem dJ22_compareTo_2_1 : decode cJ22_compareTo_2 1 = .ok (.getfield 205, 3) := dk_180 0 205 (dk_at dksJ22_compareTo_2_0 1 rfl rfl)
theorem dJ22_compareTo_2_4 : decode cJ22_compareTo_2 4 = .ok (.aload_n 1, 1) := dk_43 (dk_at dksJ22_compareTo_2_0 4 rfl rfl)
theorem dJ22_compareTo_2_5 : decode cJ22_compareTo_2 5 = .ok (.getfield 205, 3) := dk_180 0 205 (dk_at dksJ22_compareTo_2_0 5 rfl rfl)
theorem dJ22_compareTo_2_8 : decode cJ22_compareTo_2 8 = .ok (.invokestatic 259, 3) := dk_184 1 3 (dk_at dksJ22_compareTo_2_0 8 rfl rfl)
theorem dJ22_compareTo_2_11 : decode cJ22_compareTo_2 11 = .ok (.ireturn, 1) := dk_172 (dk_at dksJ22_compareTo_2_0 11 rfl rfl)
abbrev cJ22_compare : ByteArray := prog_33_method_40_code
def yJ22_compare : MethodName := ⟨RJ22, "compare", "(II)I"⟩
def dkwJ22_compare_0 : List UInt8 := [26, 27, 162, 0, 7, 2, 167, 0, 13, 26, 27, 160, 0, 7, 3, 167, 0, 4, 4, 172]
abbrev dktJ22_compare_0 : List UInt8 := dkwJ22_compare_0 ++ []
theorem dksJ22_compare_0 : cJ22_compare.data.toList.drop 0 = dktJ22_compare_0 := by decide +kernel
theorem dJ22_compare_0 : decode cJ22_compare 0 = .ok (.iload_n 0, 1) := dk_26 (dk_at dksJ22_compare_0 0 rfl rfl)
theorem dJ22_compare_1 : decode cJ22_compare 1 = .ok (.iload_n 1, 1) := dk_27 (dk_at dksJ22_compare_0 1 rfl rfl)
theorem dJ22_compare_2 : decode cJ22_compare 2 = .ok (.if_icmp .ge 7, 3) := dk_162 0 7 (dk_at dksJ22_compare_0 2 rfl rfl)
theorem dJ22_compare_5 : decode cJ22_compare 5 = .ok (.iconst (-1), 1) := dk_2 (dk_at dksJ22_compare_0 5 rfl rfl)
theorem dJ22_compare_6 : decode cJ22_compare 6 = .ok (.goto 13, 3) := dk_167 0 13 (dk_at dksJ22_compare_0 6 rfl rfl)
theorem dJ22_compare_9 : decode cJ22_compare 9 = .ok (.iload_n 0, 1) := dk_26 (dk_at dksJ22_compare_0 9 rfl rfl)
theorem dJ22_compare_10 : decode cJ22_compare 10 = .ok (.iload_n 1, 1) := dk_27 (dk_at dksJ22_compare_0 10 rfl rfl)
theorem dJ22_compare_11 : decode cJ22_compare 11 = .ok (.if_icmp .ne 7, 3) := dk_160 0 7 (dk_at dksJ22_compare_0 11 rfl rfl)
theorem dJ22_compare_14 : decode cJ22_compare 14 = .ok (.iconst 0, 1) := dk_3 (dk_at dksJ22_compare_0 14 rfl rfl)
theorem dJ22_compare_15 : decode cJ22_compare 15 = .ok (.goto 4, 3) := dk_167 0 4 (dk_at dksJ22_compare_0 15 rfl rfl)
theorem dJ22_compare_18 : decode cJ22_compare 18 = .ok (.iconst 1, 1) := dk_4 (dk_at dksJ22_compare_0 18 rfl rfl)
theorem dJ22_compare_19 : decode cJ22_compare 19 = .ok (.ireturn, 1) := dk_172 (dk_at dksJ22_compare_0 19 rfl rfl)
abbrev cJ22_numberOfLeadingZeros : ByteArray := prog_33_method_47_code
def yJ22_numberOfLeadingZeros : MethodName := ⟨RJ22, "numberOfLeadingZeros", "(I)I"⟩
def dkwJ22_numberOfLeadingZeros_3 : List UInt8 := [5, 124, 59, 27, 26, 4, 124, 100, 172]
abbrev dktJ22_numberOfLeadingZeros_3 : List UInt8 := dkwJ22_numberOfLeadingZeros_3 ++ []
def dkwJ22_numberOfLeadingZeros_2 : List UInt8 := [124, 59, 26, 16, 16, 161, 0, 10, 132, 1, 252, 26, 7, 124, 59, 26, 7, 161, 0, 10, 132, 1, 254, 26]
abbrev dktJ22_numberOfLeadingZeros_2 : List UInt8 := dkwJ22_numberOfLeadingZeros_2 ++ dktJ22_numberOfLeadingZeros_3
def dkwJ22_numberOfLeadingZeros_1 : List UInt8 := [161, 0, 11, 132, 1, 240, 26, 16, 16, 124, 59, 26, 17, 1, 0, 161, 0, 11, 132, 1, 248, 26, 16, 8]
abbrev dktJ22_numberOfLeadingZeros_1 : List UInt8 := dkwJ22_numberOfLeadingZeros_1 ++ dktJ22_numberOfLeadingZeros_2
def dkwJ22_numberOfLeadingZeros_0 : List UInt8 := [26, 157, 0, 14, 26, 154, 0, 8, 16, 32, 167, 0, 4, 3, 172, 16, 31, 60, 26, 19, 1, 8]
abbrev dktJ22_numberOfLeadingZeros_0 : List UInt8 := dkwJ22_numberOfLeadingZeros_0 ++ dktJ22_numberOfLeadingZeros_1
theorem dksJ22_numberOfLeadingZeros_0 : cJ22_numberOfLeadingZeros.data.toList.drop 0 = dktJ22_numberOfLeadingZeros_0 := by decide +kernel
theorem dksJ22_numberOfLeadingZeros_1 : cJ22_numberOfLeadingZeros.data.toList.drop 22 = dktJ22_numberOfLeadingZeros_1 := dk_seg dksJ22_numberOfLeadingZeros_0 22 rfl rfl
theorem dksJ22_numberOfLeadingZeros_2 : cJ22_numberOfLeadingZeros.data.toList.drop 46 = dktJ22_numberOfLeadingZeros_2 := dk_seg dksJ22_numberOfLeadingZeros_1 24 rfl rfl
theorem dksJ22_numberOfLeadingZeros_3 : cJ22_numberOfLeadingZeros.data.toList.drop 70 = dktJ22_numberOfLeadingZeros_3 := dk_seg dksJ22_numberOfLeadingZeros_2 24 rfl rfl
theorem dJ22_numberOfLeadingZeros_0 : decode cJ22_numberOfLeadingZeros 0 = .ok (.iload_n 0, 1) := dk_26 (dk_at dksJ22_numberOfLeadingZeros_0 0 rfl rfl)
theorem dJ22_numberOfLeadingZeros_1 : decode cJ22_numberOfLeadingZeros 1 = .ok (.ifCond .gt 14, 3) := dk_157 0 14 (dk_at dksJ22_numberOfLeadingZeros_0 1 rfl rfl)
theorem dJ22_numberOfLeadingZeros_4 : decode cJ22_numberOfLeadingZeros 4 = .ok (.iload_n 0, 1) := dk_26 (dk_at dksJ22_numberOfLeadingZeros_0 4 rfl rfl)
theorem dJ22_numberOfLeadingZeros_5 : decode cJ22_numberOfLeadingZeros 5 = .ok (.ifCond .ne 8, 3) := dk_154 0 8 (dk_at dksJ22_numberOfLeadingZeros_0 5 rfl rfl)
theorem dJ22_numberOfLeadingZeros_8 : decode cJ22_numberOfLeadingZeros 8 = .ok (.bipush 32, 2) := dk_16 32 (dk_at dksJ22_numberOfLeadingZeros_0 8 rfl rfl)
theorem dJ22_numberOfLeadingZeros_10 : decode cJ22_numberOfLeadingZeros 10 = .ok (.goto 4, 3) := dk_167 0 4 (dk_at dksJ22_numberOfLeadingZeros_0 10 rfl rfl)
theorem dJ22_numberOfLeadingZeros_13 : decode cJ22_numberOfLeadingZeros 13 = .ok (.iconst 0, 1) := dk_3 (dk_at dksJ22_numberOfLeadingZeros_0 13 rfl rfl)
theorem dJ22_numberOfLeadingZeros_14 : decode cJ22_numberOfLeadingZeros 14 = .ok (.ireturn, 1) := dk_172 (dk_at dksJ22_numberOfLeadingZeros_0 14 rfl rfl)
theorem dJ22_numberOfLeadingZeros_15 : decode cJ22_numberOfLeadingZeros 15 = .ok (.bipush 31, 2) := dk_16 31 (dk_at dksJ22_numberOfLeadingZeros_0 15 rfl rfl)
theorem dJ22_numberOfLeadingZeros_17 : decode cJ22_numberOfLeadingZeros 17 = .ok (.istore_n 1, 1) := dk_60 (dk_at dksJ22_numberOfLeadingZeros_0 17 rfl rfl)
theorem dJ22_numberOfLeadingZeros_18 : decode cJ22_numberOfLeadingZeros 18 = .ok (.iload_n 0, 1) := dk_26 (dk_at dksJ22_numberOfLeadingZeros_0 18 rfl rfl)
theorem dJ22_numberOfLeadingZeros_19 : decode cJ22_numberOfLeadingZeros 19 = .ok (.ldc_w 264, 3) := dk_19 1 8 (dk_at dksJ22_numberOfLeadingZeros_0 19 rfl rfl)
theorem dJ22_numberOfLeadingZeros_22 : decode cJ22_numberOfLeadingZeros 22 = .ok (.if_icmp .lt 11, 3) := dk_161 0 11 (dk_at dksJ22_numberOfLeadingZeros_1 0 rfl rfl)
theorem dJ22_numberOfLeadingZeros_25 : decode cJ22_numberOfLeadingZeros 25 = .ok (.iinc 1 (-16), 3) := dk_132 1 240 (dk_at dksJ22_numberOfLeadingZeros_1 3 rfl rfl)
theorem dJ22_numberOfLeadingZeros_28 : decode cJ22_numberOfLeadingZeros 28 = .ok (.iload_n 0, 1) := dk_26 (dk_at dksJ22_numberOfLeadingZeros_1 6 rfl rfl)
theorem dJ22_numberOfLeadingZeros_29 : decode cJ22_numberOfLeadingZeros 29 = .ok (.bipush 16, 2) := dk_16 16 (dk_at dksJ22_numberOfLeadingZeros_1 7 rfl rfl)
theorem dJ22_numberOfLeadingZeros_31 : decode cJ22_numberOfLeadingZeros 31 = .ok (.iushr, 1) := dk_124 (dk_at dksJ22_numberOfLeadingZeros_1 9 rfl rfl)
theorem dJ22_numberOfLeadingZeros_32 : decode cJ22_numberOfLeadingZeros 32 = .ok (.istore_n 0, 1) := dk_59 (dk_at dksJ22_numberOfLeadingZeros_1 10 rfl rfl)
theorem dJ22_numberOfLeadingZeros_33 : decode cJ22_numberOfLeadingZeros 33 = .ok (.iload_n 0, 1) := dk_26 (dk_at dksJ22_numberOfLeadingZeros_1 11 rfl rfl)
theorem dJ22_numberOfLeadingZeros_34 : decode cJ22_numberOfLeadingZeros 34 = .ok (.sipush 256, 3) := dk_17 1 0 (dk_at dksJ22_numberOfLeadingZeros_1 12 rfl rfl)
theorem dJ22_numberOfLeadingZeros_37 : decode cJ22_numberOfLeadingZeros 37 = .ok (.if_icmp .lt 11, 3) := dk_161 0 11 (dk_at dksJ22_numberOfLeadingZeros_1 15 rfl rfl)
theorem dJ22_numberOfLeadingZeros_40 : decode cJ22_numberOfLeadingZeros 40 = .ok (.iinc 1 (-8), 3) := dk_132 1 248 (dk_at dksJ22_numberOfLeadingZeros_1 18 rfl rfl)
theorem dJ22_numberOfLeadingZeros_43 : decode cJ22_numberOfLeadingZeros 43 = .ok (.iload_n 0, 1) := dk_26 (dk_at dksJ22_numberOfLeadingZeros_1 21 rfl rfl)
theorem dJ22_numberOfLeadingZeros_44 : decode cJ22_numberOfLeadingZeros 44 = .ok (.bipush 8, 2) := dk_16 8 (dk_at dksJ22_numberOfLeadingZeros_1 22 rfl rfl)
theorem dJ22_numberOfLeadingZeros_46 : decode cJ22_numberOfLeadingZeros 46 = .ok (.iushr, 1) := dk_124 (dk_at dksJ22_numberOfLeadingZeros_2 0 rfl rfl)
theorem dJ22_numberOfLeadingZeros_47 : decode cJ22_numberOfLeadingZeros 47 = .ok (.istore_n 0, 1) := dk_59 (dk_at dksJ22_numberOfLeadingZeros_2 1 rfl rfl)
theorem dJ22_numberOfLeadingZeros_48 : decode cJ22_numberOfLeadingZeros 48 = .ok (.iload_n 0, 1) := dk_26 (dk_at dksJ22_numberOfLeadingZeros_2 2 rfl rfl)
theorem dJ22_numberOfLeadingZeros_49 : decode cJ22_numberOfLeadingZeros 49 = .ok (.bipush 16, 2) := dk_16 16 (dk_at dksJ22_numberOfLeadingZeros_2 3 rfl rfl)
theorem dJ22_numberOfLeadingZeros_51 : decode cJ22_numberOfLeadingZeros 51 = .ok (.if_icmp .lt 10, 3) := dk_161 0 10 (dk_at dksJ22_numberOfLeadingZeros_2 5 rfl rfl)
theorem dJ22_numberOfLeadingZeros_54 : decode cJ22_numberOfLeadingZeros 54 = .ok (.iinc 1 (-4), 3) := dk_132 1 252 (dk_at dksJ22_numberOfLeadingZeros_2 8 rfl rfl)
theorem dJ22_numberOfLeadingZeros_57 : decode cJ22_numberOfLeadingZeros 57 = .ok (.iload_n 0, 1) := dk_26 (dk_at dksJ22_numberOfLeadingZeros_2 11 rfl rfl)
theorem dJ22_numberOfLeadingZeros_58 : decode cJ22_numberOfLeadingZeros 58 = .ok (.iconst 4, 1) := dk_7 (dk_at dksJ22_numberOfLeadingZeros_2 12 rfl rfl)
theorem dJ22_numberOfLeadingZeros_59 : decode cJ22_numberOfLeadingZeros 59 = .ok (.iushr, 1) := dk_124 (dk_at dksJ22_numberOfLeadingZeros_2 13 rfl rfl)
theorem dJ22_numberOfLeadingZeros_60 : decode cJ22_numberOfLeadingZeros 60 = .ok (.istore_n 0, 1) := dk_59 (dk_at dksJ22_numberOfLeadingZeros_2 14 rfl rfl)
theorem dJ22_numberOfLeadingZeros_61 : decode cJ22_numberOfLeadingZeros 61 = .ok (.iload_n 0, 1) := dk_26 (dk_at dksJ22_numberOfLeadingZeros_2 15 rfl rfl)
theorem dJ22_numberOfLeadingZeros_62 : decode cJ22_numberOfLeadingZeros 62 = .ok (.iconst 4, 1) := dk_7 (dk_at dksJ22_numberOfLeadingZeros_2 16 rfl rfl)
theorem dJ22_numberOfLeadingZeros_63 : decode cJ22_numberOfLeadingZeros 63 = .ok (.if_icmp .lt 10, 3) := dk_161 0 10 (dk_at dksJ22_numberOfLeadingZeros_2 17 rfl rfl)
theorem dJ22_numberOfLeadingZeros_66 : decode cJ22_numberOfLeadingZeros 66 = .ok (.iinc 1 (-2), 3) := dk_132 1 254 (dk_at dksJ22_numberOfLeadingZeros_2 20 rfl rfl)
theorem dJ22_numberOfLeadingZeros_69 : decode cJ22_numberOfLeadingZeros 69 = .ok (.iload_n 0, 1) := dk_26 (dk_at dksJ22_numberOfLeadingZeros_2 23 rfl rfl)
theorem dJ22_numberOfLeadingZeros_70 : decode cJ22_numberOfLeadingZeros 70 = .ok (.iconst 2, 1) := dk_5 (dk_at dksJ22_numberOfLeadingZeros_3 0 rfl rfl)
theorem dJ22_numberOfLeadingZeros_71 : decode cJ22_numberOfLeadingZeros 71 = .ok (.iushr, 1) := dk_124 (dk_at dksJ22_numberOfLeadingZeros_3 1 rfl rfl)
theorem dJ22_numberOfLeadingZeros_72 : decode cJ22_numberOfLeadingZeros 72 = .ok (.istore_n 0, 1) := dk_59 (dk_at dksJ22_numberOfLeadingZeros_3 2 rfl rfl)
theorem dJ22_numberOfLeadingZeros_73 : decode cJ22_numberOfLeadingZeros 73 = .ok (.iload_n 1, 1) := dk_27 (dk_at dksJ22_numberOfLeadingZeros_3 3 rfl rfl)
theorem dJ22_numberOfLeadingZeros_74 : decode cJ22_numberOfLeadingZeros 74 = .ok (.iload_n 0, 1) := dk_26 (dk_at dksJ22_numberOfLeadingZeros_3 4 rfl rfl)
theorem dJ22_numberOfLeadingZeros_75 : decode cJ22_numberOfLeadingZeros 75 = .ok (.iconst 1, 1) := dk_4 (dk_at dksJ22_numberOfLeadingZeros_3 5 rfl rfl)
theorem dJ22_numberOfLeadingZeros_76 : decode cJ22_numberOfLeadingZeros 76 = .ok (.iushr, 1) := dk_124 (dk_at dksJ22_numberOfLeadingZeros_3 6 rfl rfl)
theorem dJ22_numberOfLeadingZeros_77 : decode cJ22_numberOfLeadingZeros 77 = .ok (.isub, 1) := dk_100 (dk_at dksJ22_numberOfLeadingZeros_3 7 rfl rfl)
theorem dJ22_numberOfLeadingZeros_78 : decode cJ22_numberOfLeadingZeros 78 = .ok (.ireturn, 1) := dk_172 (dk_at dksJ22_numberOfLeadingZeros_3 8 rfl rfl)
abbrev cJ22_numberOfTrailingZeros : ByteArray := prog_33_method_48_code
def yJ22_numberOfTrailingZeros : MethodName := ⟨RJ22, "numberOfTrailingZeros", "(I)I"⟩
def dkwJ22_numberOfTrailingZeros_3 : List UInt8 := [5, 124, 59, 27, 26, 4, 124, 96, 172]
abbrev dktJ22_numberOfTrailingZeros_3 : List UInt8 := dkwJ22_numberOfTrailingZeros_3 ++ []
def dkwJ22_numberOfTrailingZeros_2 : List UInt8 := [124, 59, 26, 16, 16, 164, 0, 10, 132, 1, 4, 26, 7, 124, 59, 26, 7, 164, 0, 10, 132, 1, 2, 26]
abbrev dktJ22_numberOfTrailingZeros_2 : List UInt8 := dkwJ22_numberOfTrailingZeros_2 ++ dktJ22_numberOfTrailingZeros_3
def dkwJ22_numberOfTrailingZeros_1 : List UInt8 := [164, 0, 11, 132, 1, 16, 26, 16, 16, 124, 59, 26, 17, 1, 0, 164, 0, 11, 132, 1, 8, 26, 16, 8]
abbrev dktJ22_numberOfTrailingZeros_1 : List UInt8 := dkwJ22_numberOfTrailingZeros_1 ++ dktJ22_numberOfTrailingZeros_2
def dkwJ22_numberOfTrailingZeros_0 : List UInt8 := [26, 2, 130, 26, 4, 100, 126, 59, 26, 157, 0, 8, 26, 16, 32, 126, 172, 4, 60, 26, 19, 1, 8]
abbrev dktJ22_numberOfTrailingZeros_0 : List UInt8 := dkwJ22_numberOfTrailingZeros_0 ++ dktJ22_numberOfTrailingZeros_1
theorem dksJ22_numberOfTrailingZeros_0 : cJ22_numberOfTrailingZeros.data.toList.drop 0 = dktJ22_numberOfTrailingZeros_0 := by decide +kernel
theorem dksJ22_numberOfTrailingZeros_1 : cJ22_numberOfTrailingZeros.data.toList.drop 23 = dktJ22_numberOfTrailingZeros_1 := dk_seg dksJ22_numberOfTrailingZeros_0 23 rfl rfl
theorem dksJ22_numberOfTrailingZeros_2 : cJ22_numberOfTrailingZeros.data.toList.drop 47 = dktJ22_numberOfTrailingZeros_2 := dk_seg dksJ22_numberOfTrailingZeros_1 24 rfl rfl
theorem dksJ22_numberOfTrailingZeros_3 : cJ22_numberOfTrailingZeros.data.toList.drop 71 = dktJ22_numberOfTrailingZeros_3 := dk_seg dksJ22_numberOfTrailingZeros_2 24 rfl rfl
theorem dJ22_numberOfTrailingZeros_0 : decode cJ22_numberOfTrailingZeros 0 = .ok (.iload_n 0, 1) := dk_26 (dk_at dksJ22_numberOfTrailingZeros_0 0 rfl rfl)
theorem dJ22_numberOfTrailingZeros_1 : decode cJ22_numberOfTrailingZeros 1 = .ok (.iconst (-1), 1) := dk_2 (dk_at dksJ22_numberOfTrailingZeros_0 1 rfl rfl)
theorem dJ22_numberOfTrailingZeros_2 : decode cJ22_numberOfTrailingZeros 2 = .ok (.ixor, 1) := dk_130 (dk_at dksJ22_numberOfTrailingZeros_0 2 rfl rfl)
theorem dJ22_numberOfTrailingZeros_3 : decode cJ22_numberOfTrailingZeros 3 = .ok (.iload_n 0, 1) := dk_26 (dk_at dksJ22_numberOfTrailingZeros_0 3 rfl rfl)
theorem dJ22_numberOfTrailingZeros_4 : decode cJ22_numberOfTrailingZeros 4 = .ok (.iconst 1, 1) := dk_4 (dk_at dksJ22_numberOfTrailingZeros_0 4 rfl rfl)
theorem dJ22_numberOfTrailingZeros_5 : decode cJ22_numberOfTrailingZeros 5 = .ok (.isub, 1) := dk_100 (dk_at dksJ22_numberOfTrailingZeros_0 5 rfl rfl)
theorem dJ22_numberOfTrailingZeros_6 : decode cJ22_numberOfTrailingZeros 6 = .ok (.iand, 1) := dk_126 (dk_at dksJ22_numberOfTrailingZeros_0 6 rfl rfl)
theorem dJ22_numberOfTrailingZeros_7 : decode cJ22_numberOfTrailingZeros 7 = .ok (.istore_n 0, 1) := dk_59 (dk_at dksJ22_numberOfTrailingZeros_0 7 rfl rfl)
theorem dJ22_numberOfTrailingZeros_8 : decode cJ22_numberOfTrailingZeros 8 = .ok (.iload_n 0, 1) := dk_26 (dk_at dksJ22_numberOfTrailingZeros_0 8 rfl rfl)
theorem dJ22_numberOfTrailingZeros_9 : decode cJ22_numberOfTrailingZeros 9 = .ok (.ifCond .gt 8, 3) := dk_157 0 8 (dk_at dksJ22_numberOfTrailingZeros_0 9 rfl rfl)
theorem dJ22_numberOfTrailingZeros_12 : decode cJ22_numberOfTrailingZeros 12 = .ok (.iload_n 0, 1) := dk_26 (dk_at dksJ22_numberOfTrailingZeros_0 12 rfl rfl)
theorem dJ22_numberOfTrailingZeros_13 : decode cJ22_numberOfTrailingZeros 13 = .ok (.bipush 32, 2) := dk_16 32 (dk_at dksJ22_numberOfTrailingZeros_0 13 rfl rfl)
theorem dJ22_numberOfTrailingZeros_15 : decode cJ22_numberOfTrailingZeros 15 = .ok (.iand, 1) := dk_126 (dk_at dksJ22_numberOfTrailingZeros_0 15 rfl rfl)
theorem dJ22_numberOfTrailingZeros_16 : decode cJ22_numberOfTrailingZeros 16 = .ok (.ireturn, 1) := dk_172 (dk_at dksJ22_numberOfTrailingZeros_0 16 rfl rfl)
theorem dJ22_numberOfTrailingZeros_17 : decode cJ22_numberOfTrailingZeros 17 = .ok (.iconst 1, 1) := dk_4 (dk_at dksJ22_numberOfTrailingZeros_0 17 rfl rfl)
theorem dJ22_numberOfTrailingZeros_18 : decode cJ22_numberOfTrailingZeros 18 = .ok (.istore_n 1, 1) := dk_60 (dk_at dksJ22_numberOfTrailingZeros_0 18 rfl rfl)
theorem dJ22_numberOfTrailingZeros_19 : decode cJ22_numberOfTrailingZeros 19 = .ok (.iload_n 0, 1) := dk_26 (dk_at dksJ22_numberOfTrailingZeros_0 19 rfl rfl)
theorem dJ22_numberOfTrailingZeros_20 : decode cJ22_numberOfTrailingZeros 20 = .ok (.ldc_w 264, 3) := dk_19 1 8 (dk_at dksJ22_numberOfTrailingZeros_0 20 rfl rfl)
theorem dJ22_numberOfTrailingZeros_23 : decode cJ22_numberOfTrailingZeros 23 = .ok (.if_icmp .le 11, 3) := dk_164 0 11 (dk_at dksJ22_numberOfTrailingZeros_1 0 rfl rfl)
theorem dJ22_numberOfTrailingZeros_26 : decode cJ22_numberOfTrailingZeros 26 = .ok (.iinc 1 16, 3) := dk_132 1 16 (dk_at dksJ22_numberOfTrailingZeros_1 3 rfl rfl)
theorem dJ22_numberOfTrailingZeros_29 : decode cJ22_numberOfTrailingZeros 29 = .ok (.iload_n 0, 1) := dk_26 (dk_at dksJ22_numberOfTrailingZeros_1 6 rfl rfl)
theorem dJ22_numberOfTrailingZeros_30 : decode cJ22_numberOfTrailingZeros 30 = .ok (.bipush 16, 2) := dk_16 16 (dk_at dksJ22_numberOfTrailingZeros_1 7 rfl rfl)
theorem dJ22_numberOfTrailingZeros_32 : decode cJ22_numberOfTrailingZeros 32 = .ok (.iushr, 1) := dk_124 (dk_at dksJ22_numberOfTrailingZeros_1 9 rfl rfl)
theorem dJ22_numberOfTrailingZeros_33 : decode cJ22_numberOfTrailingZeros 33 = .ok (.istore_n 0, 1) := dk_59 (dk_at dksJ22_numberOfTrailingZeros_1 10 rfl rfl)
theorem dJ22_numberOfTrailingZeros_34 : decode cJ22_numberOfTrailingZeros 34 = .ok (.iload_n 0, 1) := dk_26 (dk_at dksJ22_numberOfTrailingZeros_1 11 rfl rfl)
theorem dJ22_numberOfTrailingZeros_35 : decode cJ22_numberOfTrailingZeros 35 = .ok (.sipush 256, 3) := dk_17 1 0 (dk_at dksJ22_numberOfTrailingZeros_1 12 rfl rfl)
theorem dJ22_numberOfTrailingZeros_38 : decode cJ22_numberOfTrailingZeros 38 = .ok (.if_icmp .le 11, 3) := dk_164 0 11 (dk_at dksJ22_numberOfTrailingZeros_1 15 rfl rfl)
theorem dJ22_numberOfTrailingZeros_41 : decode cJ22_numberOfTrailingZeros 41 = .ok (.iinc 1 8, 3) := dk_132 1 8 (dk_at dksJ22_numberOfTrailingZeros_1 18 rfl rfl)
theorem dJ22_numberOfTrailingZeros_44 : decode cJ22_numberOfTrailingZeros 44 = .ok (.iload_n 0, 1) := dk_26 (dk_at dksJ22_numberOfTrailingZeros_1 21 rfl rfl)
theorem dJ22_numberOfTrailingZeros_45 : decode cJ22_numberOfTrailingZeros 45 = .ok (.bipush 8, 2) := dk_16 8 (dk_at dksJ22_numberOfTrailingZeros_1 22 rfl rfl)
theorem dJ22_numberOfTrailingZeros_47 : decode cJ22_numberOfTrailingZeros 47 = .ok (.iushr, 1) := dk_124 (dk_at dksJ22_numberOfTrailingZeros_2 0 rfl rfl)
theorem dJ22_numberOfTrailingZeros_48 : decode cJ22_numberOfTrailingZeros 48 = .ok (.istore_n 0, 1) := dk_59 (dk_at dksJ22_numberOfTrailingZeros_2 1 rfl rfl)
theorem dJ22_numberOfTrailingZeros_49 : decode cJ22_numberOfTrailingZeros 49 = .ok (.iload_n 0, 1) := dk_26 (dk_at dksJ22_numberOfTrailingZeros_2 2 rfl rfl)
theorem dJ22_numberOfTrailingZeros_50 : decode cJ22_numberOfTrailingZeros 50 = .ok (.bipush 16, 2) := dk_16 16 (dk_at dksJ22_numberOfTrailingZeros_2 3 rfl rfl)
theorem dJ22_numberOfTrailingZeros_52 : decode cJ22_numberOfTrailingZeros 52 = .ok (.if_icmp .le 10, 3) := dk_164 0 10 (dk_at dksJ22_numberOfTrailingZeros_2 5 rfl rfl)
theorem dJ22_numberOfTrailingZeros_55 : decode cJ22_numberOfTrailingZeros 55 = .ok (.iinc 1 4, 3) := dk_132 1 4 (dk_at dksJ22_numberOfTrailingZeros_2 8 rfl rfl)
theorem dJ22_numberOfTrailingZeros_58 : decode cJ22_numberOfTrailingZeros 58 = .ok (.iload_n 0, 1) := dk_26 (dk_at dksJ22_numberOfTrailingZeros_2 11 rfl rfl)
theorem dJ22_numberOfTrailingZeros_59 : decode cJ22_numberOfTrailingZeros 59 = .ok (.iconst 4, 1) := dk_7 (dk_at dksJ22_numberOfTrailingZeros_2 12 rfl rfl)
theorem dJ22_numberOfTrailingZeros_60 : decode cJ22_numberOfTrailingZeros 60 = .ok (.iushr, 1) := dk_124 (dk_at dksJ22_numberOfTrailingZeros_2 13 rfl rfl)
theorem dJ22_numberOfTrailingZeros_61 : decode cJ22_numberOfTrailingZeros 61 = .ok (.istore_n 0, 1) := dk_59 (dk_at dksJ22_numberOfTrailingZeros_2 14 rfl rfl)
theorem dJ22_numberOfTrailingZeros_62 : decode cJ22_numberOfTrailingZeros 62 = .ok (.iload_n 0, 1) := dk_26 (dk_at dksJ22_numberOfTrailingZeros_2 15 rfl rfl)
theorem dJ22_numberOfTrailingZeros_63 : decode cJ22_numberOfTrailingZeros 63 = .ok (.iconst 4, 1) := dk_7 (dk_at dksJ22_numberOfTrailingZeros_2 16 rfl rfl)
theorem dJ22_numberOfTrailingZeros_64 : decode cJ22_numberOfTrailingZeros 64 = .ok (.if_icmp .le 10, 3) := dk_164 0 10 (dk_at dksJ22_numberOfTrailingZeros_2 17 rfl rfl)
theorem dJ22_numberOfTrailingZeros_67 : decode cJ22_numberOfTrailingZeros 67 = .ok (.iinc 1 2, 3) := dk_132 1 2 (dk_at dksJ22_numberOfTrailingZeros_2 20 rfl rfl)
theorem dJ22_numberOfTrailingZeros_70 : decode cJ22_numberOfTrailingZeros 70 = .ok (.iload_n 0, 1) := dk_26 (dk_at dksJ22_numberOfTrailingZeros_2 23 rfl rfl)
theorem dJ22_numberOfTrailingZeros_71 : decode cJ22_numberOfTrailingZeros 71 = .ok (.iconst 2, 1) := dk_5 (dk_at dksJ22_numberOfTrailingZeros_3 0 rfl rfl)
theorem dJ22_numberOfTrailingZeros_72 : decode cJ22_numberOfTrailingZeros 72 = .ok (.iushr, 1) := dk_124 (dk_at dksJ22_numberOfTrailingZeros_3 1 rfl rfl)
theorem dJ22_numberOfTrailingZeros_73 : decode cJ22_numberOfTrailingZeros 73 = .ok (.istore_n 0, 1) := dk_59 (dk_at dksJ22_numberOfTrailingZeros_3 2 rfl rfl)
theorem dJ22_numberOfTrailingZeros_74 : decode cJ22_numberOfTrailingZeros 74 = .ok (.iload_n 1, 1) := dk_27 (dk_at dksJ22_numberOfTrailingZeros_3 3 rfl rfl)
theorem dJ22_numberOfTrailingZeros_75 : decode cJ22_numberOfTrailingZeros 75 = .ok (.iload_n 0, 1) := dk_26 (dk_at dksJ22_numberOfTrailingZeros_3 4 rfl rfl)
theorem dJ22_numberOfTrailingZeros_76 : decode cJ22_numberOfTrailingZeros 76 = .ok (.iconst 1, 1) := dk_4 (dk_at dksJ22_numberOfTrailingZeros_3 5 rfl rfl)
theorem dJ22_numberOfTrailingZeros_77 : decode cJ22_numberOfTrailingZeros 77 = .ok (.iushr, 1) := dk_124 (dk_at dksJ22_numberOfTrailingZeros_3 6 rfl rfl)
theorem dJ22_numberOfTrailingZeros_78 : decode cJ22_numberOfTrailingZeros 78 = .ok (.iadd, 1) := dk_96 (dk_at dksJ22_numberOfTrailingZeros_3 7 rfl rfl)
theorem dJ22_numberOfTrailingZeros_79 : decode cJ22_numberOfTrailingZeros 79 = .ok (.ireturn, 1) := dk_172 (dk_at dksJ22_numberOfTrailingZeros_3 8 rfl rfl)
abbrev cJ22_valueOf : ByteArray := prog_33_method_22_code
def yJ22_valueOf : MethodName := ⟨RJ22, "valueOf", "(I)Ljava/lang/Integer;"⟩
def dkwJ22_valueOf_1 : List UInt8 := [187, 0, 1, 89, 26, 183, 0, 199, 176]
abbrev dktJ22_valueOf_1 : List UInt8 := dkwJ22_valueOf_1 ++ []
def dkwJ22_valueOf_0 : List UInt8 := [26, 16, 128, 161, 0, 20, 26, 178, 0, 191, 163, 0, 13, 178, 0, 195, 26, 17, 0, 128, 96, 50, 176]
abbrev dktJ22_valueOf_0 : List UInt8 := dkwJ22_valueOf_0 ++ dktJ22_valueOf_1
theorem dksJ22_valueOf_0 : cJ22_valueOf.data.toList.drop 0 = dktJ22_valueOf_0 := by decide +kernel
theorem dksJ22_valueOf_1 : cJ22_valueOf.data.toList.drop 23 = dktJ22_valueOf_1 := dk_seg dksJ22_valueOf_0 23 rfl rfl
theorem dJ22_valueOf_0 : decode cJ22_valueOf 0 = .ok (.iload_n 0, 1) := dk_26 (dk_at dksJ22_valueOf_0 0 rfl rfl)
theorem dJ22_valueOf_1 : decode cJ22_valueOf 1 = .ok (.bipush (-128), 2) := dk_16 128 (dk_at dksJ22_valueOf_0 1 rfl rfl)
theorem dJ22_valueOf_3 : decode cJ22_valueOf 3 = .ok (.if_icmp .lt 20, 3) := dk_161 0 20 (dk_at dksJ22_valueOf_0 3 rfl rfl)
theorem dJ22_valueOf_6 : decode cJ22_valueOf 6 = .ok (.iload_n 0, 1) := dk_26 (dk_at dksJ22_valueOf_0 6 rfl rfl)
theorem dJ22_valueOf_7 : decode cJ22_valueOf 7 = .ok (.getstatic 191, 3) := dk_178 0 191 (dk_at dksJ22_valueOf_0 7 rfl rfl)
theorem dJ22_valueOf_10 : decode cJ22_valueOf 10 = .ok (.if_icmp .gt 13, 3) := dk_163 0 13 (dk_at dksJ22_valueOf_0 10 rfl rfl)
theorem dJ22_valueOf_13 : decode cJ22_valueOf 13 = .ok (.getstatic 195, 3) := dk_178 0 195 (dk_at dksJ22_valueOf_0 13 rfl rfl)
theorem dJ22_valueOf_16 : decode cJ22_valueOf 16 = .ok (.iload_n 0, 1) := dk_26 (dk_at dksJ22_valueOf_0 16 rfl rfl)
theorem dJ22_valueOf_17 : decode cJ22_valueOf 17 = .ok (.sipush 128, 3) := dk_17 0 128 (dk_at dksJ22_valueOf_0 17 rfl rfl)
theorem dJ22_valueOf_20 : decode cJ22_valueOf 20 = .ok (.iadd, 1) := dk_96 (dk_at dksJ22_valueOf_0 20 rfl rfl)
theorem dJ22_valueOf_21 : decode cJ22_valueOf 21 = .ok (.aaload, 1) := dk_50 (dk_at dksJ22_valueOf_0 21 rfl rfl)
theorem dJ22_valueOf_22 : decode cJ22_valueOf 22 = .ok (.areturn, 1) := dk_176 (dk_at dksJ22_valueOf_0 22 rfl rfl)
theorem dJ22_valueOf_23 : decode cJ22_valueOf 23 = .ok (.new 1, 3) := dk_187 0 1 (dk_at dksJ22_valueOf_1 0 rfl rfl)
theorem dJ22_valueOf_26 : decode cJ22_valueOf 26 = .ok (.dup, 1) := dk_89 (dk_at dksJ22_valueOf_1 3 rfl rfl)
theorem dJ22_valueOf_27 : decode cJ22_valueOf 27 = .ok (.iload_n 0, 1) := dk_26 (dk_at dksJ22_valueOf_1 4 rfl rfl)
theorem dJ22_valueOf_28 : decode cJ22_valueOf 28 = .ok (.invokespecial 199, 3) := dk_183 0 199 (dk_at dksJ22_valueOf_1 5 rfl rfl)
theorem dJ22_valueOf_31 : decode cJ22_valueOf 31 = .ok (.areturn, 1) := dk_176 (dk_at dksJ22_valueOf_1 8 rfl rfl)
abbrev cJ22_init : ByteArray := prog_33_method_23_code
def yJ22_init : MethodName := ⟨RJ22, "<init>", "(I)V"⟩
def dkwJ22_init_0 : List UInt8 := [42, 183, 0, 202, 42, 27, 181, 0, 205, 177]
abbrev dktJ22_init_0 : List UInt8 := dkwJ22_init_0 ++ []
theorem dksJ22_init_0 : cJ22_init.data.toList.drop 0 = dktJ22_init_0 := by decide +kernel
theorem dJ22_init_0 : decode cJ22_init 0 = .ok (.aload_n 0, 1) := dk_42 (dk_at dksJ22_init_0 0 rfl rfl)
theorem dJ22_init_1 : decode cJ22_init 1 = .ok (.invokespecial 202, 3) := dk_183 0 202 (dk_at dksJ22_init_0 1 rfl rfl)
theorem dJ22_init_4 : decode cJ22_init 4 = .ok (.aload_n 0, 1) := dk_42 (dk_at dksJ22_init_0 4 rfl rfl)
theorem dJ22_init_5 : decode cJ22_init 5 = .ok (.iload_n 1, 1) := dk_27 (dk_at dksJ22_init_0 5 rfl rfl)
theorem dJ22_init_6 : decode cJ22_init 6 = .ok (.putfield 205, 3) := dk_181 0 205 (dk_at dksJ22_init_0 6 rfl rfl)
theorem dJ22_init_9 : decode cJ22_init 9 = .ok (.return_, 1) := dk_177 (dk_at dksJ22_init_0 9 rfl rfl)
abbrev cJ22_equals : ByteArray := prog_33_method_34_code
def yJ22_equals : MethodName := ⟨RJ22, "equals", "(Ljava/lang/Object;)Z"⟩
def dkwJ22_equals_1 : List UInt8 := [167, 0, 4, 3, 172, 3, 172]
abbrev dktJ22_equals_1 : List UInt8 := dkwJ22_equals_1 ++ []
def dkwJ22_equals_0 : List UInt8 := [43, 193, 0, 1, 153, 0, 23, 42, 180, 0, 205, 43, 192, 0, 1, 182, 0, 211, 160, 0, 7, 4]
abbrev dktJ22_equals_0 : List UInt8 := dkwJ22_equals_0 ++ dktJ22_equals_1
theorem dksJ22_equals_0 : cJ22_equals.data.toList.drop 0 = dktJ22_equals_0 := by decide +kernel
theorem dksJ22_equals_1 : cJ22_equals.data.toList.drop 22 = dktJ22_equals_1 := dk_seg dksJ22_equals_0 22 rfl rfl
theorem dJ22_equals_0 : decode cJ22_equals 0 = .ok (.aload_n 1, 1) := dk_43 (dk_at dksJ22_equals_0 0 rfl rfl)
theorem dJ22_equals_1 : decode cJ22_equals 1 = .ok (.instanceof 1, 3) := dk_193 0 1 (dk_at dksJ22_equals_0 1 rfl rfl)
theorem dJ22_equals_4 : decode cJ22_equals 4 = .ok (.ifCond .eq 23, 3) := dk_153 0 23 (dk_at dksJ22_equals_0 4 rfl rfl)
theorem dJ22_equals_7 : decode cJ22_equals 7 = .ok (.aload_n 0, 1) := dk_42 (dk_at dksJ22_equals_0 7 rfl rfl)
theorem dJ22_equals_8 : decode cJ22_equals 8 = .ok (.getfield 205, 3) := dk_180 0 205 (dk_at dksJ22_equals_0 8 rfl rfl)
theorem dJ22_equals_11 : decode cJ22_equals 11 = .ok (.aload_n 1, 1) := dk_43 (dk_at dksJ22_equals_0 11 rfl rfl)
theorem dJ22_equals_12 : decode cJ22_equals 12 = .ok (.checkcast 1, 3) := dk_192 0 1 (dk_at dksJ22_equals_0 12 rfl rfl)
theorem dJ22_equals_15 : decode cJ22_equals 15 = .ok (.invokevirtual 211, 3) := dk_182 0 211 (dk_at dksJ22_equals_0 15 rfl rfl)
theorem dJ22_equals_18 : decode cJ22_equals 18 = .ok (.if_icmp .ne 7, 3) := dk_160 0 7 (dk_at dksJ22_equals_0 18 rfl rfl)
theorem dJ22_equals_21 : decode cJ22_equals 21 = .ok (.iconst 1, 1) := dk_4 (dk_at dksJ22_equals_0 21 rfl rfl)
theorem dJ22_equals_22 : decode cJ22_equals 22 = .ok (.goto 4, 3) := dk_167 0 4 (dk_at dksJ22_equals_1 0 rfl rfl)
theorem dJ22_equals_25 : decode cJ22_equals 25 = .ok (.iconst 0, 1) := dk_3 (dk_at dksJ22_equals_1 3 rfl rfl)
theorem dJ22_equals_26 : decode cJ22_equals 26 = .ok (.ireturn, 1) := dk_172 (dk_at dksJ22_equals_1 4 rfl rfl)
theorem dJ22_equals_27 : decode cJ22_equals 27 = .ok (.iconst 0, 1) := dk_3 (dk_at dksJ22_equals_1 5 rfl rfl)
theorem dJ22_equals_28 : decode cJ22_equals 28 = .ok (.ireturn, 1) := dk_172 (dk_at dksJ22_equals_1 6 rfl rfl)
abbrev cJ22_toString : ByteArray := prog_33_method_31_code
def yJ22_toString : MethodName := ⟨RJ22, "toString", "()Ljava/lang/String;"⟩
def dkwJ22_toString_0 : List UInt8 := [42, 180, 0, 205, 184, 0, 9, 176]
abbrev dktJ22_toString_0 : List UInt8 := dkwJ22_toString_0 ++ []
theorem dksJ22_toString_0 : cJ22_toString.data.toList.drop 0 = dktJ22_toString_0 := by decide +kernel
theorem dJ22_toString_0 : decode cJ22_toString 0 = .ok (.aload_n 0, 1) := dk_42 (dk_at dksJ22_toString_0 0 rfl rfl)
theorem dJ22_toString_1 : decode cJ22_toString 1 = .ok (.getfield 205, 3) := dk_180 0 205 (dk_at dksJ22_toString_0 1 rfl rfl)
theorem dJ22_toString_4 : decode cJ22_toString 4 = .ok (.invokestatic 9, 3) := dk_184 0 9 (dk_at dksJ22_toString_0 4 rfl rfl)
theorem dJ22_toString_7 : decode cJ22_toString 7 = .ok (.areturn, 1) := dk_176 (dk_at dksJ22_toString_0 7 rfl rfl)
abbrev cJ22_toString_2 : ByteArray := prog_33_method_10_code
def yJ22_toString_2 : MethodName := ⟨RJ22, "toString", "(I)Ljava/lang/String;"⟩
def dkwJ22_toString_2_2 : List UInt8 := [187, 0, 5, 89, 44, 4, 183, 0, 65, 176]
abbrev dktJ22_toString_2_2 : List UInt8 := dkwJ22_toString_2_2 ++ []
def dkwJ22_toString_2_1 : List UInt8 := [187, 0, 5, 89, 44, 3, 183, 0, 65, 176, 27, 5, 104, 188, 8, 77, 26, 27, 44, 184, 0, 79, 87]
abbrev dktJ22_toString_2_1 : List UInt8 := dkwJ22_toString_2_1 ++ dktJ22_toString_2_2
def dkwJ22_toString_2_0 : List UInt8 := [26, 184, 0, 72, 60, 178, 0, 13, 153, 0, 24, 27, 188, 8, 77, 26, 27, 44, 184, 0, 75, 87]
abbrev dktJ22_toString_2_0 : List UInt8 := dkwJ22_toString_2_0 ++ dktJ22_toString_2_1
theorem dksJ22_toString_2_0 : cJ22_toString_2.data.toList.drop 0 = dktJ22_toString_2_0 := by decide +kernel
theorem dksJ22_toString_2_1 : cJ22_toString_2.data.toList.drop 22 = dktJ22_toString_2_1 := dk_seg dksJ22_toString_2_0 22 rfl rfl
theorem dksJ22_toString_2_2 : cJ22_toString_2.data.toList.drop 45 = dktJ22_toString_2_2 := dk_seg dksJ22_toString_2_1 23 rfl rfl
theorem dJ22_toString_2_0 : decode cJ22_toString_2 0 = .ok (.iload_n 0, 1) := dk_26 (dk_at dksJ22_toString_2_0 0 rfl rfl)
theorem dJ22_toString_2_1 : decode cJ22_toString_2 1 = .ok (.invokestatic 72, 3) := dk_184 0 72 (dk_at dksJ22_toString_2_0 1 rfl rfl)
theorem dJ22_toString_2_4 : decode cJ22_toString_2 4 = .ok (.istore_n 1, 1) := dk_60 (dk_at dksJ22_toString_2_0 4 rfl rfl)
theorem dJ22_toString_2_5 : decode cJ22_toString_2 5 = .ok (.getstatic 13, 3) := dk_178 0 13 (dk_at dksJ22_toString_2_0 5 rfl rfl)
theorem dJ22_toString_2_8 : decode cJ22_toString_2 8 = .ok (.ifCond .eq 24, 3) := dk_153 0 24 (dk_at dksJ22_toString_2_0 8 rfl rfl)
theorem dJ22_toString_2_11 : decode cJ22_toString_2 11 = .ok (.iload_n 1, 1) := dk_27 (dk_at dksJ22_toString_2_0 11 rfl rfl)
theorem dJ22_toString_2_12 : decode cJ22_toString_2 12 = .ok (.newarray .byte, 2) := dk_188_8 (dk_at dksJ22_toString_2_0 12 rfl rfl)
theorem dJ22_toString_2_14 : decode cJ22_toString_2 14 = .ok (.astore_n 2, 1) := dk_77 (dk_at dksJ22_toString_2_0 14 rfl rfl)
theorem dJ22_toString_2_15 : decode cJ22_toString_2 15 = .ok (.iload_n 0, 1) := dk_26 (dk_at dksJ22_toString_2_0 15 rfl rfl)
theorem dJ22_toString_2_16 : decode cJ22_toString_2 16 = .ok (.iload_n 1, 1) := dk_27 (dk_at dksJ22_toString_2_0 16 rfl rfl)
theorem dJ22_toString_2_17 : decode cJ22_toString_2 17 = .ok (.aload_n 2, 1) := dk_44 (dk_at dksJ22_toString_2_0 17 rfl rfl)
theorem dJ22_toString_2_18 : decode cJ22_toString_2 18 = .ok (.invokestatic 75, 3) := dk_184 0 75 (dk_at dksJ22_toString_2_0 18 rfl rfl)
theorem dJ22_toString_2_21 : decode cJ22_toString_2 21 = .ok (.pop, 1) := dk_87 (dk_at dksJ22_toString_2_0 21 rfl rfl)
theorem dJ22_toString_2_22 : decode cJ22_toString_2 22 = .ok (.new 5, 3) := dk_187 0 5 (dk_at dksJ22_toString_2_1 0 rfl rfl)
theorem dJ22_toString_2_25 : decode cJ22_toString_2 25 = .ok (.dup, 1) := dk_89 (dk_at dksJ22_toString_2_1 3 rfl rfl)
theorem dJ22_toString_2_26 : decode cJ22_toString_2 26 = .ok (.aload_n 2, 1) := dk_44 (dk_at dksJ22_toString_2_1 4 rfl rfl)
theorem dJ22_toString_2_27 : decode cJ22_toString_2 27 = .ok (.iconst 0, 1) := dk_3 (dk_at dksJ22_toString_2_1 5 rfl rfl)
theorem dJ22_toString_2_28 : decode cJ22_toString_2 28 = .ok (.invokespecial 65, 3) := dk_183 0 65 (dk_at dksJ22_toString_2_1 6 rfl rfl)
theorem dJ22_toString_2_31 : decode cJ22_toString_2 31 = .ok (.areturn, 1) := dk_176 (dk_at dksJ22_toString_2_1 9 rfl rfl)
theorem dJ22_toString_2_32 : decode cJ22_toString_2 32 = .ok (.iload_n 1, 1) := dk_27 (dk_at dksJ22_toString_2_1 10 rfl rfl)
theorem dJ22_toString_2_33 : decode cJ22_toString_2 33 = .ok (.iconst 2, 1) := dk_5 (dk_at dksJ22_toString_2_1 11 rfl rfl)
theorem dJ22_toString_2_34 : decode cJ22_toString_2 34 = .ok (.imul, 1) := dk_104 (dk_at dksJ22_toString_2_1 12 rfl rfl)
theorem dJ22_toString_2_35 : decode cJ22_toString_2 35 = .ok (.newarray .byte, 2) := dk_188_8 (dk_at dksJ22_toString_2_1 13 rfl rfl)
theorem dJ22_toString_2_37 : decode cJ22_toString_2 37 = .ok (.astore_n 2, 1) := dk_77 (dk_at dksJ22_toString_2_1 15 rfl rfl)
theorem dJ22_toString_2_38 : decode cJ22_toString_2 38 = .ok (.iload_n 0, 1) := dk_26 (dk_at dksJ22_toString_2_1 16 rfl rfl)
theorem dJ22_toString_2_39 : decode cJ22_toString_2 39 = .ok (.iload_n 1, 1) := dk_27 (dk_at dksJ22_toString_2_1 17 rfl rfl)
theorem dJ22_toString_2_40 : decode cJ22_toString_2 40 = .ok (.aload_n 2, 1) := dk_44 (dk_at dksJ22_toString_2_1 18 rfl rfl)
theorem dJ22_toString_2_41 : decode cJ22_toString_2 41 = .ok (.invokestatic 79, 3) := dk_184 0 79 (dk_at dksJ22_toString_2_1 19 rfl rfl)
theorem dJ22_toString_2_44 : decode cJ22_toString_2 44 = .ok (.pop, 1) := dk_87 (dk_at dksJ22_toString_2_1 22 rfl rfl)
theorem dJ22_toString_2_45 : decode cJ22_toString_2 45 = .ok (.new 5, 3) := dk_187 0 5 (dk_at dksJ22_toString_2_2 0 rfl rfl)
theorem dJ22_toString_2_48 : decode cJ22_toString_2 48 = .ok (.dup, 1) := dk_89 (dk_at dksJ22_toString_2_2 3 rfl rfl)
theorem dJ22_toString_2_49 : decode cJ22_toString_2 49 = .ok (.aload_n 2, 1) := dk_44 (dk_at dksJ22_toString_2_2 4 rfl rfl)
theorem dJ22_toString_2_50 : decode cJ22_toString_2 50 = .ok (.iconst 1, 1) := dk_4 (dk_at dksJ22_toString_2_2 5 rfl rfl)
theorem dJ22_toString_2_51 : decode cJ22_toString_2 51 = .ok (.invokespecial 65, 3) := dk_183 0 65 (dk_at dksJ22_toString_2_2 6 rfl rfl)
theorem dJ22_toString_2_54 : decode cJ22_toString_2 54 = .ok (.areturn, 1) := dk_176 (dk_at dksJ22_toString_2_2 9 rfl rfl)
theorem q128 : (Jvm.Cond.initialized "java/lang/Integer") ∈ lw_all := lw_g (lw_at lw_m1 28 rfl) rfl
theorem q685 : (Jvm.Cond.static ({ cls := "java/lang/Integer", name := "stringSize", desc := "(I)I" } : Jvm.MethodName)) ∈ lw_all := lw_g (lw_at lw_m3 105 rfl) rfl
theorem q686 : (Jvm.Cond.code ({ cls := "java/lang/Integer", name := "stringSize", desc := "(I)I" } : Jvm.MethodName) prog_33_method_13_code (4 : Nat) (Option.some Jvm.ClassFile.FieldType.int)) ∈ lw_all := lw_g (lw_at lw_m3 106 rfl) rfl
theorem q688 : (Jvm.Cond.static ({ cls := "java/lang/Integer", name := "getChars", desc := "(II[B)I" } : Jvm.MethodName)) ∈ lw_all := lw_g (lw_at lw_m3 108 rfl) rfl
theorem q689 : (Jvm.Cond.code ({ cls := "java/lang/Integer", name := "getChars", desc := "(II[B)I" } : Jvm.MethodName) prog_33_method_12_code (7 : Nat) (Option.some Jvm.ClassFile.FieldType.int)) ∈ lw_all := lw_g (lw_at lw_m3 109 rfl) rfl
theorem q690 : (Jvm.Cond.fieldLink "java/lang/Integer" (83 : Nat) "java/lang/Integer" "DigitOnes" "[B") ∈ lw_all := lw_g (lw_at lw_m3 110 rfl) rfl
theorem q691 : (Jvm.Cond.laysStatic "java/lang/Integer" "DigitOnes" "[B") ∈ lw_tbl := lw_at lw_m3 111 rfl
theorem q692 : (Jvm.Cond.fieldLink "java/lang/Integer" (87 : Nat) "java/lang/Integer" "DigitTens" "[B") ∈ lw_all := lw_g (lw_at lw_m3 112 rfl) rfl
theorem q693 : (Jvm.Cond.laysStatic "java/lang/Integer" "DigitTens" "[B") ∈ lw_tbl := lw_at lw_m3 113 rfl
theorem q1012 : (Jvm.Cond.selects "java/lang/Integer" ({ cls := "java/lang/Object", name := "getClass", desc := "()Ljava/lang/Class;" } : Jvm.MethodName) ({ cls := "java/lang/Object", name := "getClass", desc := "()Ljava/lang/Class;" } : Jvm.MethodName)) ∈ lw_all := lw_g (lw_at lw_m4 192 rfl) rfl
theorem q1246 : (Jvm.Cond.instanceMethod ({ cls := "java/lang/Integer", name := "intValue", desc := "()I" } : Jvm.MethodName)) ∈ lw_all := lw_g (lw_at lw_m5 186 rfl) rfl
theorem q1247 : (Jvm.Cond.selects "java/lang/Integer" ({ cls := "java/lang/Integer", name := "intValue", desc := "()I" } : Jvm.MethodName) ({ cls := "java/lang/Integer", name := "intValue", desc := "()I" } : Jvm.MethodName)) ∈ lw_all := lw_g (lw_at lw_m5 187 rfl) rfl
theorem q1248 : (Jvm.Cond.code ({ cls := "java/lang/Integer", name := "intValue", desc := "()I" } : Jvm.MethodName) prog_33_method_27_code (1 : Nat) (Option.some Jvm.ClassFile.FieldType.int)) ∈ lw_all := lw_g (lw_at lw_m5 188 rfl) rfl
theorem q1564 : (Jvm.Cond.castable "java/lang/Integer" "java/lang/Comparable") ∈ lw_tbl := lw_at lw_m7 24 rfl
theorem q1565 : (Jvm.Cond.selects "java/lang/Integer" ({ cls := "java/lang/Comparable", name := "compareTo", desc := "(Ljava/lang/Object;)I" } : Jvm.MethodName) ({ cls := "java/lang/Integer", name := "compareTo", desc := "(Ljava/lang/Object;)I" } : Jvm.MethodName)) ∈ lw_all := lw_g (lw_at lw_m7 25 rfl) rfl
theorem q1566 : (Jvm.Cond.unhidden "java/lang/Integer" "compareTo" "(Ljava/lang/Object;)I") ∈ lw_tbl := lw_at lw_m7 26 rfl
theorem q1567 : (Jvm.Cond.instanceMethod ({ cls := "java/lang/Integer", name := "compareTo", desc := "(Ljava/lang/Object;)I" } : Jvm.MethodName)) ∈ lw_all := lw_g (lw_at lw_m7 27 rfl) rfl
theorem q1568 : (Jvm.Cond.publicMethod ({ cls := "java/lang/Integer", name := "compareTo", desc := "(Ljava/lang/Object;)I" } : Jvm.MethodName)) ∈ lw_tbl := lw_at lw_m7 28 rfl
theorem q1569 : (Jvm.Cond.code ({ cls := "java/lang/Integer", name := "compareTo", desc := "(Ljava/lang/Object;)I" } : Jvm.MethodName) prog_33_method_63_code (2 : Nat) (Option.some Jvm.ClassFile.FieldType.int)) ∈ lw_all := lw_g (lw_at lw_m7 29 rfl) rfl
theorem q1570 : (Jvm.Cond.classLink "java/lang/Integer" (1 : Nat) "java/lang/Integer") ∈ lw_all := lw_g (lw_at lw_m7 30 rfl) rfl
theorem q1571 : (Jvm.Cond.methodLink "java/lang/Integer" (284 : Nat) ({ cls := "java/lang/Integer", name := "compareTo", desc := "(Ljava/lang/Integer;)I" } : Jvm.MethodName)) ∈ lw_all := lw_g (lw_at lw_m7 31 rfl) rfl
theorem q1572 : (Jvm.Cond.instanceMethod ({ cls := "java/lang/Integer", name := "compareTo", desc := "(Ljava/lang/Integer;)I" } : Jvm.MethodName)) ∈ lw_all := lw_g (lw_at lw_m7 32 rfl) rfl
theorem q1573 : (Jvm.Cond.selects "java/lang/Integer" ({ cls := "java/lang/Integer", name := "compareTo", desc := "(Ljava/lang/Integer;)I" } : Jvm.MethodName) ({ cls := "java/lang/Integer", name := "compareTo", desc := "(Ljava/lang/Integer;)I" } : Jvm.MethodName)) ∈ lw_all := lw_g (lw_at lw_m7 33 rfl) rfl
theorem q1574 : (Jvm.Cond.code ({ cls := "java/lang/Integer", name := "compareTo", desc := "(Ljava/lang/Integer;)I" } : Jvm.MethodName) prog_33_method_39_code (2 : Nat) (Option.some Jvm.ClassFile.FieldType.int)) ∈ lw_all := lw_g (lw_at lw_m7 34 rfl) rfl
theorem q1575 : (Jvm.Cond.methodLink "java/lang/Integer" (259 : Nat) ({ cls := "java/lang/Integer", name := "compare", desc := "(II)I" } : Jvm.MethodName)) ∈ lw_all := lw_g (lw_at lw_m7 35 rfl) rfl
theorem q1576 : (Jvm.Cond.static ({ cls := "java/lang/Integer", name := "compare", desc := "(II)I" } : Jvm.MethodName)) ∈ lw_all := lw_g (lw_at lw_m7 36 rfl) rfl
theorem q1577 : (Jvm.Cond.code ({ cls := "java/lang/Integer", name := "compare", desc := "(II)I" } : Jvm.MethodName) prog_33_method_40_code (2 : Nat) (Option.some Jvm.ClassFile.FieldType.int)) ∈ lw_all := lw_g (lw_at lw_m7 37 rfl) rfl
theorem q1668 : (Jvm.Cond.static ({ cls := "java/lang/Integer", name := "numberOfLeadingZeros", desc := "(I)I" } : Jvm.MethodName)) ∈ lw_all := lw_g (lw_at lw_m7 128 rfl) rfl
theorem q1669 : (Jvm.Cond.code ({ cls := "java/lang/Integer", name := "numberOfLeadingZeros", desc := "(I)I" } : Jvm.MethodName) prog_33_method_47_code (2 : Nat) (Option.some Jvm.ClassFile.FieldType.int)) ∈ lw_all := lw_g (lw_at lw_m7 129 rfl) rfl
theorem q1670 : (Jvm.Cond.constant "java/lang/Integer" (264 : Nat) (65536 : Int32)) ∈ lw_all := lw_g (lw_at lw_m7 130 rfl) rfl
theorem q1677 : (Jvm.Cond.static ({ cls := "java/lang/Integer", name := "numberOfTrailingZeros", desc := "(I)I" } : Jvm.MethodName)) ∈ lw_all := lw_g (lw_at lw_m7 137 rfl) rfl
theorem q1678 : (Jvm.Cond.code ({ cls := "java/lang/Integer", name := "numberOfTrailingZeros", desc := "(I)I" } : Jvm.MethodName) prog_33_method_48_code (2 : Nat) (Option.some Jvm.ClassFile.FieldType.int)) ∈ lw_all := lw_g (lw_at lw_m7 138 rfl) rfl
theorem q2071 : (Jvm.Cond.static ({ cls := "java/lang/Integer", name := "valueOf", desc := "(I)Ljava/lang/Integer;" } : Jvm.MethodName)) ∈ lw_all := lw_g (lw_at lw_m9 51 rfl) rfl
theorem q2072 : (Jvm.Cond.code ({ cls := "java/lang/Integer", name := "valueOf", desc := "(I)Ljava/lang/Integer;" } : Jvm.MethodName) prog_33_method_22_code (1 : Nat) (Option.some (Jvm.ClassFile.FieldType.object "java/lang/Integer"))) ∈ lw_all := lw_g (lw_at lw_m9 52 rfl) rfl
theorem q2073 : (Jvm.Cond.fieldLink "java/lang/Integer" (191 : Nat) "java/lang/Integer$IntegerCache" "high" "I") ∈ lw_all := lw_g (lw_at lw_m9 53 rfl) rfl
theorem q2075 : (Jvm.Cond.fieldLink "java/lang/Integer" (195 : Nat) "java/lang/Integer$IntegerCache" "cache" "[Ljava/lang/Integer;") ∈ lw_all := lw_g (lw_at lw_m9 55 rfl) rfl
theorem q2077 : (Jvm.Cond.instantiable "java/lang/Integer" (1 : Nat)) ∈ lw_all := lw_g (lw_at lw_m9 57 rfl) rfl
theorem q2078 : (Jvm.Cond.methodLink "java/lang/Integer" (199 : Nat) ({ cls := "java/lang/Integer", name := "<init>", desc := "(I)V" } : Jvm.MethodName)) ∈ lw_all := lw_g (lw_at lw_m9 58 rfl) rfl
theorem q2079 : (Jvm.Cond.instanceMethod ({ cls := "java/lang/Integer", name := "<init>", desc := "(I)V" } : Jvm.MethodName)) ∈ lw_all := lw_g (lw_at lw_m9 59 rfl) rfl
theorem q2080 : (Jvm.Cond.code ({ cls := "java/lang/Integer", name := "<init>", desc := "(I)V" } : Jvm.MethodName) prog_33_method_23_code (2 : Nat) (Option.none : Option Jvm.ClassFile.FieldType)) ∈ lw_all := lw_g (lw_at lw_m9 60 rfl) rfl
theorem q2081 : (Jvm.Cond.methodLink "java/lang/Integer" (202 : Nat) ({ cls := "java/lang/Number", name := "<init>", desc := "()V" } : Jvm.MethodName)) ∈ lw_all := lw_g (lw_at lw_m9 61 rfl) rfl
theorem q2085 : (Jvm.Cond.fieldLink "java/lang/Integer" (205 : Nat) "java/lang/Integer" "value" "I") ∈ lw_all := lw_g (lw_at lw_m9 65 rfl) rfl
theorem q2086 : (Jvm.Cond.laysFinal "java/lang/Integer" "java/lang/Integer" "value" "I") ∈ lw_all := lw_g (lw_at lw_m9 66 rfl) rfl
theorem q2087 : (Jvm.Cond.soleField "java/lang/Integer" "value") ∈ lw_all := lw_g (lw_at lw_m9 67 rfl) rfl
theorem q2088 : (Jvm.Cond.superclass "java/lang/Integer" "java/lang/Number") ∈ lw_all := lw_g (lw_at lw_m9 68 rfl) rfl
theorem q3193 : (Jvm.Cond.selects "java/lang/Integer" ({ cls := "java/lang/Object", name := "equals", desc := "(Ljava/lang/Object;)Z" } : Jvm.MethodName) ({ cls := "java/lang/Integer", name := "equals", desc := "(Ljava/lang/Object;)Z" } : Jvm.MethodName)) ∈ lw_all := lw_g (lw_at lw_m13 213 rfl) rfl
theorem q3194 : (Jvm.Cond.instanceMethod ({ cls := "java/lang/Integer", name := "equals", desc := "(Ljava/lang/Object;)Z" } : Jvm.MethodName)) ∈ lw_all := lw_g (lw_at lw_m13 214 rfl) rfl
theorem q3195 : (Jvm.Cond.code ({ cls := "java/lang/Integer", name := "equals", desc := "(Ljava/lang/Object;)Z" } : Jvm.MethodName) prog_33_method_34_code (2 : Nat) (Option.some Jvm.ClassFile.FieldType.boolean)) ∈ lw_all := lw_g (lw_at lw_m13 215 rfl) rfl
theorem q3196 : (Jvm.Cond.methodLink "java/lang/Integer" (211 : Nat) ({ cls := "java/lang/Integer", name := "intValue", desc := "()I" } : Jvm.MethodName)) ∈ lw_all := lw_g (lw_at lw_m13 216 rfl) rfl
theorem q3501 : (Jvm.Cond.selects "java/lang/Integer" ({ cls := "java/lang/Object", name := "toString", desc := "()Ljava/lang/String;" } : Jvm.MethodName) ({ cls := "java/lang/Integer", name := "toString", desc := "()Ljava/lang/String;" } : Jvm.MethodName)) ∈ lw_all := lw_g (lw_at lw_m15 41 rfl) rfl
theorem q3502 : (Jvm.Cond.instanceMethod ({ cls := "java/lang/Integer", name := "toString", desc := "()Ljava/lang/String;" } : Jvm.MethodName)) ∈ lw_all := lw_g (lw_at lw_m15 42 rfl) rfl
theorem q3503 : (Jvm.Cond.code ({ cls := "java/lang/Integer", name := "toString", desc := "()Ljava/lang/String;" } : Jvm.MethodName) prog_33_method_31_code (1 : Nat) (Option.some (Jvm.ClassFile.FieldType.object "java/lang/String"))) ∈ lw_all := lw_g (lw_at lw_m15 43 rfl) rfl
theorem q3504 : (Jvm.Cond.methodLink "java/lang/Integer" (9 : Nat) ({ cls := "java/lang/Integer", name := "toString", desc := "(I)Ljava/lang/String;" } : Jvm.MethodName)) ∈ lw_all := lw_g (lw_at lw_m15 44 rfl) rfl
theorem q3505 : (Jvm.Cond.static ({ cls := "java/lang/Integer", name := "toString", desc := "(I)Ljava/lang/String;" } : Jvm.MethodName)) ∈ lw_all := lw_g (lw_at lw_m15 45 rfl) rfl
theorem q3506 : (Jvm.Cond.code ({ cls := "java/lang/Integer", name := "toString", desc := "(I)Ljava/lang/String;" } : Jvm.MethodName) prog_33_method_10_code (3 : Nat) (Option.some (Jvm.ClassFile.FieldType.object "java/lang/String"))) ∈ lw_all := lw_g (lw_at lw_m15 46 rfl) rfl
theorem q3507 : (Jvm.Cond.methodLink "java/lang/Integer" (72 : Nat) ({ cls := "java/lang/Integer", name := "stringSize", desc := "(I)I" } : Jvm.MethodName)) ∈ lw_all := lw_g (lw_at lw_m15 47 rfl) rfl
theorem q3508 : (Jvm.Cond.fieldLink "java/lang/Integer" (13 : Nat) "java/lang/String" "COMPACT_STRINGS" "Z") ∈ lw_all := lw_g (lw_at lw_m15 48 rfl) rfl
theorem q3509 : (Jvm.Cond.methodLink "java/lang/Integer" (75 : Nat) ({ cls := "java/lang/Integer", name := "getChars", desc := "(II[B)I" } : Jvm.MethodName)) ∈ lw_all := lw_g (lw_at lw_m15 49 rfl) rfl
theorem q3510 : (Jvm.Cond.classLink "java/lang/Integer" (5 : Nat) "java/lang/String") ∈ lw_all := lw_g (lw_at lw_m15 50 rfl) rfl
theorem q3511 : (Jvm.Cond.methodLink "java/lang/Integer" (65 : Nat) ({ cls := "java/lang/String", name := "<init>", desc := "([BB)V" } : Jvm.MethodName)) ∈ lw_all := lw_g (lw_at lw_m15 51 rfl) rfl
theorem q3514 : (Jvm.Cond.methodLink "java/lang/Integer" (79 : Nat) ({ cls := "java/lang/StringUTF16", name := "getChars", desc := "(II[B)I" } : Jvm.MethodName)) ∈ lw_all := lw_g (lw_at lw_m15 54 rfl) rfl
theorem q4258 : (Jvm.Cond.castable "java/lang/Integer" "java/lang/Object") ∈ lw_tbl := lw_at lw_m18 78 rfl
theorem in_J22 : ∀ w ∈ wsJ220, w ∈ lw_all := lw_in wsJ220 [2086] (by decide +kernel) (by decide +kernel)
/-! java/lang/IllegalArgumentException -/
set_option maxRecDepth 100000
def RJ23 : String := "java/lang/IllegalArgumentException"
def TJ23 : u_T := fun k => match k with
  | 0 => ("java/lang/Throwable", "cause", "Ljava/lang/Throwable;", false)
  | 1 => ("java/lang/Throwable", "stackTrace", "[Ljava/lang/StackTraceElement;", false)
  | 2 => ("java/lang/Throwable", "suppressedExceptions", "Ljava/util/List;", false)
  | 3 => ("java/lang/Throwable", "detailMessage", "Ljava/lang/String;", false)
  | 4 => ("java/lang/Throwable", "backtrace", "Ljava/lang/Object;", false)
  | _ => ("java/lang/Throwable", "depth", "I", false)
def tyJ23 : Nat → FieldType := fun k => match k with
  | 0 => .object "java/lang/Throwable"
  | 1 => .array (.object "java/lang/StackTraceElement")
  | 2 => .object "java/util/List"
  | 3 => .object "java/lang/String"
  | 4 => .object "java/lang/Object"
  | _ => .int
abbrev wsJ230 : List Cond := u_ws RJ23 TJ23 6
theorem nmJ23 : ∀ a, a < 6 → ∀ b, b < 6 → a ≠ b → (TJ23 a).2.1 ≠ (TJ23 b).2.1 := by decide +kernel
theorem tyJ23_ok : ∀ k, k < 6 → parseFieldDescriptor (TJ23 k).2.2.1 = some (tyJ23 k) := by decide +kernel
abbrev cJ23_init : ByteArray := prog_30_method_2_code
def yJ23_init : MethodName := ⟨RJ23, "<init>", "(Ljava/lang/String;)V"⟩
def dkwJ23_init_0 : List UInt8 := [42, 43, 183, 0, 7, 177]
abbrev dktJ23_init_0 : List UInt8 := dkwJ23_init_0 ++ []
theorem dksJ23_init_0 : cJ23_init.data.toList.drop 0 = dktJ23_init_0 := by decide +kernel
theorem dJ23_init_0 : decode cJ23_init 0 = .ok (.aload_n 0, 1) := dk_42 (dk_at dksJ23_init_0 0 rfl rfl)
theorem dJ23_init_1 : decode cJ23_init 1 = .ok (.aload_n 1, 1) := dk_43 (dk_at dksJ23_init_0 1 rfl rfl)
theorem dJ23_init_2 : decode cJ23_init 2 = .ok (.invokespecial 7, 3) := dk_183 0 7 (dk_at dksJ23_init_0 2 rfl rfl)
theorem dJ23_init_5 : decode cJ23_init 5 = .ok (.return_, 1) := dk_177 (dk_at dksJ23_init_0 5 rfl rfl)
abbrev cJ23_init_2 : ByteArray := prog_30_method_1_code
def yJ23_init_2 : MethodName := ⟨RJ23, "<init>", "()V"⟩
theorem dJ23_init_2_0 : decode cJ23_init_2 0 = .ok (.aload_n 0, 1) := by decide +kernel
theorem dJ23_init_2_1 : decode cJ23_init_2 1 = .ok (.invokespecial 1, 3) := by decide +kernel
theorem dJ23_init_2_4 : decode cJ23_init_2 4 = .ok (.return_, 1) := by decide +kernel
theorem q129 : (Jvm.Cond.initialized "java/lang/IllegalArgumentException") ∈ lw_all := lw_g (lw_at lw_m1 29 rfl) rfl
theorem q539 : (Jvm.Cond.selects "java/lang/IllegalArgumentException" ({ cls := "java/lang/Throwable", name := "fillInStackTrace", desc := "()Ljava/lang/Throwable;" } : Jvm.MethodName) ({ cls := "java/lang/Throwable", name := "fillInStackTrace", desc := "()Ljava/lang/Throwable;" } : Jvm.MethodName)) ∈ lw_all := lw_g (lw_at lw_m2 199 rfl) rfl
theorem q740 : (Jvm.Cond.instantiable "java/lang/IllegalArgumentException" (6 : Nat)) ∈ lw_all := lw_g (lw_at lw_m3 160 rfl) rfl
theorem q741 : (Jvm.Cond.castable "java/lang/IllegalArgumentException" "java/lang/IllegalArgumentException") ∈ lw_tbl := lw_at lw_m3 161 rfl
theorem q742 : (Jvm.Cond.selects "java/lang/IllegalArgumentException" ({ cls := "java/lang/Throwable", name := "fillInStackTrace", desc := "(I)Ljava/lang/Throwable;" } : Jvm.MethodName) ({ cls := "java/lang/Throwable", name := "fillInStackTrace", desc := "(I)Ljava/lang/Throwable;" } : Jvm.MethodName)) ∈ lw_all := lw_g (lw_at lw_m3 162 rfl) rfl
theorem q743 : (Jvm.Cond.lays "java/lang/IllegalArgumentException" "java/lang/Throwable" "cause" "Ljava/lang/Throwable;") ∈ lw_all := lw_g (lw_at lw_m3 163 rfl) rfl
theorem q744 : (Jvm.Cond.lays "java/lang/IllegalArgumentException" "java/lang/Throwable" "stackTrace" "[Ljava/lang/StackTraceElement;") ∈ lw_all := lw_g (lw_at lw_m3 164 rfl) rfl
theorem q745 : (Jvm.Cond.lays "java/lang/IllegalArgumentException" "java/lang/Throwable" "suppressedExceptions" "Ljava/util/List;") ∈ lw_all := lw_g (lw_at lw_m3 165 rfl) rfl
theorem q746 : (Jvm.Cond.lays "java/lang/IllegalArgumentException" "java/lang/Throwable" "detailMessage" "Ljava/lang/String;") ∈ lw_all := lw_g (lw_at lw_m3 166 rfl) rfl
theorem q747 : (Jvm.Cond.lays "java/lang/IllegalArgumentException" "java/lang/Throwable" "backtrace" "Ljava/lang/Object;") ∈ lw_all := lw_g (lw_at lw_m3 167 rfl) rfl
theorem q755 : (Jvm.Cond.instanceMethod ({ cls := "java/lang/IllegalArgumentException", name := "<init>", desc := "(Ljava/lang/String;)V" } : Jvm.MethodName)) ∈ lw_all := lw_g (lw_at lw_m3 175 rfl) rfl
theorem q756 : (Jvm.Cond.code ({ cls := "java/lang/IllegalArgumentException", name := "<init>", desc := "(Ljava/lang/String;)V" } : Jvm.MethodName) prog_30_method_2_code (2 : Nat) (Option.none : Option Jvm.ClassFile.FieldType)) ∈ lw_all := lw_g (lw_at lw_m3 176 rfl) rfl
theorem q757 : (Jvm.Cond.methodLink "java/lang/IllegalArgumentException" (7 : Nat) ({ cls := "java/lang/RuntimeException", name := "<init>", desc := "(Ljava/lang/String;)V" } : Jvm.MethodName)) ∈ lw_all := lw_g (lw_at lw_m3 177 rfl) rfl
theorem q775 : (Jvm.Cond.lays "java/lang/IllegalArgumentException" "java/lang/Throwable" "depth" "I") ∈ lw_all := lw_g (lw_at lw_m3 195 rfl) rfl
theorem q778 : (Jvm.Cond.superclass "java/lang/IllegalArgumentException" "java/lang/RuntimeException") ∈ lw_all := lw_g (lw_at lw_m3 198 rfl) rfl
theorem q979 : (Jvm.Cond.selects "java/lang/IllegalArgumentException" ({ cls := "java/lang/Throwable", name := "toString", desc := "()Ljava/lang/String;" } : Jvm.MethodName) ({ cls := "java/lang/Throwable", name := "toString", desc := "()Ljava/lang/String;" } : Jvm.MethodName)) ∈ lw_all := lw_g (lw_at lw_m4 159 rfl) rfl
theorem q1009 : (Jvm.Cond.selects "java/lang/IllegalArgumentException" ({ cls := "java/lang/Object", name := "getClass", desc := "()Ljava/lang/Class;" } : Jvm.MethodName) ({ cls := "java/lang/Object", name := "getClass", desc := "()Ljava/lang/Class;" } : Jvm.MethodName)) ∈ lw_all := lw_g (lw_at lw_m4 189 rfl) rfl
theorem q1045 : (Jvm.Cond.selects "java/lang/IllegalArgumentException" ({ cls := "java/lang/Throwable", name := "getLocalizedMessage", desc := "()Ljava/lang/String;" } : Jvm.MethodName) ({ cls := "java/lang/Throwable", name := "getLocalizedMessage", desc := "()Ljava/lang/String;" } : Jvm.MethodName)) ∈ lw_all := lw_g (lw_at lw_m4 225 rfl) rfl
theorem q1060 : (Jvm.Cond.selects "java/lang/IllegalArgumentException" ({ cls := "java/lang/Throwable", name := "getMessage", desc := "()Ljava/lang/String;" } : Jvm.MethodName) ({ cls := "java/lang/Throwable", name := "getMessage", desc := "()Ljava/lang/String;" } : Jvm.MethodName)) ∈ lw_all := lw_g (lw_at lw_m5 0 rfl) rfl
theorem q1298 : (Jvm.Cond.instanceMethod ({ cls := "java/lang/IllegalArgumentException", name := "<init>", desc := "()V" } : Jvm.MethodName)) ∈ lw_all := lw_g (lw_at lw_m5 238 rfl) rfl
theorem q1299 : (Jvm.Cond.code ({ cls := "java/lang/IllegalArgumentException", name := "<init>", desc := "()V" } : Jvm.MethodName) prog_30_method_1_code (1 : Nat) (Option.none : Option Jvm.ClassFile.FieldType)) ∈ lw_all := lw_g (lw_at lw_m5 239 rfl) rfl
theorem q1300 : (Jvm.Cond.methodLink "java/lang/IllegalArgumentException" (1 : Nat) ({ cls := "java/lang/RuntimeException", name := "<init>", desc := "()V" } : Jvm.MethodName)) ∈ lw_all := lw_g (lw_at lw_m6 0 rfl) rfl
theorem q3190 : (Jvm.Cond.selects "java/lang/IllegalArgumentException" ({ cls := "java/lang/Object", name := "equals", desc := "(Ljava/lang/Object;)Z" } : Jvm.MethodName) ({ cls := "java/lang/Object", name := "equals", desc := "(Ljava/lang/Object;)Z" } : Jvm.MethodName)) ∈ lw_all := lw_g (lw_at lw_m13 210 rfl) rfl
theorem q3498 : (Jvm.Cond.selects "java/lang/IllegalArgumentException" ({ cls := "java/lang/Object", name := "toString", desc := "()Ljava/lang/String;" } : Jvm.MethodName) ({ cls := "java/lang/Throwable", name := "toString", desc := "()Ljava/lang/String;" } : Jvm.MethodName)) ∈ lw_all := lw_g (lw_at lw_m15 38 rfl) rfl
theorem q4248 : (Jvm.Cond.castable "java/lang/IllegalArgumentException" "java/lang/Object") ∈ lw_tbl := lw_at lw_m18 68 rfl
theorem in_J23 : ∀ w ∈ wsJ230, w ∈ lw_all := lw_in wsJ230 [743, 744, 745, 746, 747, 775] (by decide +kernel) (by decide +kernel)
/-! java/util/LinkedList$Node -/
set_option maxRecDepth 100000
def RJ24 : String := "java/util/LinkedList$Node"
def TJ24 : u_T := fun k => match k with
  | 0 => ("java/util/LinkedList$Node", "item", "Ljava/lang/Object;", false)
  | 1 => ("java/util/LinkedList$Node", "next", "Ljava/util/LinkedList$Node;", false)
  | _ => ("java/util/LinkedList$Node", "prev", "Ljava/util/LinkedList$Node;", false)
def tyJ24 : Nat → FieldType := fun k => match k with
  | 0 => .object "java/lang/Object"
  | 1 => .object "java/util/LinkedList$Node"
  | _ => .object "java/util/LinkedList$Node"
abbrev wsJ240 : List Cond := u_ws RJ24 TJ24 3
theorem nmJ24 : ∀ a, a < 3 → ∀ b, b < 3 → a ≠ b → (TJ24 a).2.1 ≠ (TJ24 b).2.1 := by decide +kernel
theorem tyJ24_ok : ∀ k, k < 3 → parseFieldDescriptor (TJ24 k).2.2.1 = some (tyJ24 k) := by decide +kernel
abbrev cJ24_init : ByteArray := prog_71_method_1_code
def yJ24_init : MethodName := ⟨RJ24, "<init>", "(Ljava/util/LinkedList$Node;Ljava/lang/Object;Ljava/util/LinkedList$Node;)V"⟩
def dkwJ24_init_0 : List UInt8 := [42, 183, 0, 1, 42, 44, 181, 0, 7, 42, 45, 181, 0, 13, 42, 43, 181, 0, 17, 177]
abbrev dktJ24_init_0 : List UInt8 := dkwJ24_init_0 ++ []
theorem dksJ24_init_0 : cJ24_init.data.toList.drop 0 = dktJ24_init_0 := by decide +kernel
theorem dJ24_init_0 : decode cJ24_init 0 = .ok (.aload_n 0, 1) := dk_42 (dk_at dksJ24_init_0 0 rfl rfl)
theorem dJ24_init_1 : decode cJ24_init 1 = .ok (.invokespecial 1, 3) := dk_183 0 1 (dk_at dksJ24_init_0 1 rfl rfl)
theorem dJ24_init_4 : decode cJ24_init 4 = .ok (.aload_n 0, 1) := dk_42 (dk_at dksJ24_init_0 4 rfl rfl)
theorem dJ24_init_5 : decode cJ24_init 5 = .ok (.aload_n 2, 1) := dk_44 (dk_at dksJ24_init_0 5 rfl rfl)
theorem dJ24_init_6 : decode cJ24_init 6 = .ok (.putfield 7, 3) := dk_181 0 7 (dk_at dksJ24_init_0 6 rfl rfl)
theorem dJ24_init_9 : decode cJ24_init 9 = .ok (.aload_n 0, 1) := dk_42 (dk_at dksJ24_init_0 9 rfl rfl)
theorem dJ24_init_10 : decode cJ24_init 10 = .ok (.aload_n 3, 1) := dk_45 (dk_at dksJ24_init_0 10 rfl rfl)
theorem dJ24_init_11 : decode cJ24_init 11 = .ok (.putfield 13, 3) := dk_181 0 13 (dk_at dksJ24_init_0 11 rfl rfl)
theorem dJ24_init_14 : decode cJ24_init 14 = .ok (.aload_n 0, 1) := dk_42 (dk_at dksJ24_init_0 14 rfl rfl)
theorem dJ24_init_15 : decode cJ24_init 15 = .ok (.aload_n 1, 1) := dk_43 (dk_at dksJ24_init_0 15 rfl rfl)
theorem dJ24_init_16 : decode cJ24_init 16 = .ok (.putfield 17, 3) := dk_181 0 17 (dk_at dksJ24_init_0 16 rfl rfl)
theorem dJ24_init_19 : decode cJ24_init 19 = .ok (.return_, 1) := dk_177 (dk_at dksJ24_init_0 19 rfl rfl)
theorem q130 : (Jvm.Cond.initialized "java/util/LinkedList$Node") ∈ lw_all := lw_g (lw_at lw_m1 30 rfl) rfl
theorem q1024 : (Jvm.Cond.selects "java/util/LinkedList$Node" ({ cls := "java/lang/Object", name := "getClass", desc := "()Ljava/lang/Class;" } : Jvm.MethodName) ({ cls := "java/lang/Object", name := "getClass", desc := "()Ljava/lang/Class;" } : Jvm.MethodName)) ∈ lw_all := lw_g (lw_at lw_m4 204 rfl) rfl
theorem q1216 : (Jvm.Cond.instantiable "java/util/LinkedList$Node" (3 : Nat)) ∈ lw_all := lw_g (lw_at lw_m5 156 rfl) rfl
theorem q1218 : (Jvm.Cond.instanceMethod ({ cls := "java/util/LinkedList$Node", name := "<init>", desc := "(Ljava/util/LinkedList$Node;Ljava/lang/Object;Ljava/util/LinkedList$Node;)V" } : Jvm.MethodName)) ∈ lw_all := lw_g (lw_at lw_m5 158 rfl) rfl
theorem q1219 : (Jvm.Cond.code ({ cls := "java/util/LinkedList$Node", name := "<init>", desc := "(Ljava/util/LinkedList$Node;Ljava/lang/Object;Ljava/util/LinkedList$Node;)V" } : Jvm.MethodName) prog_71_method_1_code (4 : Nat) (Option.none : Option Jvm.ClassFile.FieldType)) ∈ lw_all := lw_g (lw_at lw_m5 159 rfl) rfl
theorem q1220 : (Jvm.Cond.methodLink "java/util/LinkedList$Node" (1 : Nat) ({ cls := "java/lang/Object", name := "<init>", desc := "()V" } : Jvm.MethodName)) ∈ lw_all := lw_g (lw_at lw_m5 160 rfl) rfl
theorem q1221 : (Jvm.Cond.fieldLink "java/util/LinkedList$Node" (7 : Nat) "java/util/LinkedList$Node" "item" "Ljava/lang/Object;") ∈ lw_all := lw_g (lw_at lw_m5 161 rfl) rfl
theorem q1224 : (Jvm.Cond.fieldLink "java/util/LinkedList$Node" (13 : Nat) "java/util/LinkedList$Node" "next" "Ljava/util/LinkedList$Node;") ∈ lw_all := lw_g (lw_at lw_m5 164 rfl) rfl
theorem q1227 : (Jvm.Cond.fieldLink "java/util/LinkedList$Node" (17 : Nat) "java/util/LinkedList$Node" "prev" "Ljava/util/LinkedList$Node;") ∈ lw_all := lw_g (lw_at lw_m5 167 rfl) rfl
theorem q1229 : (Jvm.Cond.lays "java/util/LinkedList$Node" "java/util/LinkedList$Node" "item" "Ljava/lang/Object;") ∈ lw_all := lw_g (lw_at lw_m5 169 rfl) rfl
theorem q1230 : (Jvm.Cond.soleField "java/util/LinkedList$Node" "item") ∈ lw_all := lw_g (lw_at lw_m5 170 rfl) rfl
theorem q1231 : (Jvm.Cond.lays "java/util/LinkedList$Node" "java/util/LinkedList$Node" "next" "Ljava/util/LinkedList$Node;") ∈ lw_all := lw_g (lw_at lw_m5 171 rfl) rfl
theorem q1232 : (Jvm.Cond.soleField "java/util/LinkedList$Node" "next") ∈ lw_all := lw_g (lw_at lw_m5 172 rfl) rfl
theorem q1233 : (Jvm.Cond.lays "java/util/LinkedList$Node" "java/util/LinkedList$Node" "prev" "Ljava/util/LinkedList$Node;") ∈ lw_all := lw_g (lw_at lw_m5 173 rfl) rfl
theorem q1234 : (Jvm.Cond.soleField "java/util/LinkedList$Node" "prev") ∈ lw_all := lw_g (lw_at lw_m5 174 rfl) rfl
theorem q1235 : (Jvm.Cond.superclass "java/util/LinkedList$Node" "java/lang/Object") ∈ lw_all := lw_g (lw_at lw_m5 175 rfl) rfl
theorem q4249 : (Jvm.Cond.castable "java/util/LinkedList$Node" "java/lang/Object") ∈ lw_tbl := lw_at lw_m18 69 rfl
theorem in_J24 : ∀ w ∈ wsJ240, w ∈ lw_all := lw_in wsJ240 [1229, 1231, 1233] (by decide +kernel) (by decide +kernel)
/-! java/util/TreeMap$Values -/
set_option maxRecDepth 100000
def RJ25 : String := "java/util/TreeMap$Values"
def TJ25 : u_T := fun k => match k with
  | _ => ("java/util/TreeMap$Values", "this$0", "Ljava/util/TreeMap;", true)
def tyJ25 : Nat → FieldType := fun k => match k with
  | _ => .object "java/util/TreeMap"
abbrev wsJ250 : List Cond := u_ws RJ25 TJ25 1
theorem nmJ25 : ∀ a, a < 1 → ∀ b, b < 1 → a ≠ b → (TJ25 a).2.1 ≠ (TJ25 b).2.1 := by decide +kernel
theorem tyJ25_ok : ∀ k, k < 1 → parseFieldDescriptor (TJ25 k).2.2.1 = some (tyJ25 k) := by decide +kernel
abbrev cJ25_size : ByteArray := prog_97_method_3_code
def yJ25_size : MethodName := ⟨RJ25, "size", "()I"⟩
def dkwJ25_size_0 : List UInt8 := [42, 180, 0, 1, 182, 0, 24, 172]
abbrev dktJ25_size_0 : List UInt8 := dkwJ25_size_0 ++ []
theorem dksJ25_size_0 : cJ25_size.data.toList.drop 0 = dktJ25_size_0 := by decide +kernel
theorem dJ25_size_0 : decode cJ25_size 0 = .ok (.aload_n 0, 1) := dk_42 (dk_at dksJ25_size_0 0 rfl rfl)
theorem dJ25_size_1 : decode cJ25_size 1 = .ok (.getfield 1, 3) := dk_180 0 1 (dk_at dksJ25_size_0 1 rfl rfl)
theorem dJ25_size_4 : decode cJ25_size 4 = .ok (.invokevirtual 24, 3) := dk_182 0 24 (dk_at dksJ25_size_0 4 rfl rfl)
theorem dJ25_size_7 : decode cJ25_size 7 = .ok (.ireturn, 1) := dk_172 (dk_at dksJ25_size_0 7 rfl rfl)
abbrev cJ25_init : ByteArray := prog_97_method_1_code
def yJ25_init : MethodName := ⟨RJ25, "<init>", "(Ljava/util/TreeMap;)V"⟩
def dkwJ25_init_0 : List UInt8 := [42, 43, 181, 0, 1, 42, 183, 0, 7, 177]
abbrev dktJ25_init_0 : List UInt8 := dkwJ25_init_0 ++ []
theorem dksJ25_init_0 : cJ25_init.data.toList.drop 0 = dktJ25_init_0 := by decide +kernel
theorem dJ25_init_0 : decode cJ25_init 0 = .ok (.aload_n 0, 1) := dk_42 (dk_at dksJ25_init_0 0 rfl rfl)
theorem dJ25_init_1 : decode cJ25_init 1 = .ok (.aload_n 1, 1) := dk_43 (dk_at dksJ25_init_0 1 rfl rfl)
theorem dJ25_init_2 : decode cJ25_init 2 = .ok (.putfield 1, 3) := dk_181 0 1 (dk_at dksJ25_init_0 2 rfl rfl)
theorem dJ25_init_5 : decode cJ25_init 5 = .ok (.aload_n 0, 1) := dk_42 (dk_at dksJ25_init_0 5 rfl rfl)
theorem dJ25_init_6 : decode cJ25_init 6 = .ok (.invokespecial 7, 3) := dk_183 0 7 (dk_at dksJ25_init_0 6 rfl rfl)
theorem dJ25_init_9 : decode cJ25_init 9 = .ok (.return_, 1) := dk_177 (dk_at dksJ25_init_0 9 rfl rfl)
abbrev cJ25_iterator : ByteArray := prog_97_method_2_code
def yJ25_iterator : MethodName := ⟨RJ25, "iterator", "()Ljava/util/Iterator;"⟩
def dkwJ25_iterator_0 : List UInt8 := [187, 0, 13, 89, 42, 180, 0, 1, 42, 180, 0, 1, 182, 0, 15, 183, 0, 21, 176]
abbrev dktJ25_iterator_0 : List UInt8 := dkwJ25_iterator_0 ++ []
theorem dksJ25_iterator_0 : cJ25_iterator.data.toList.drop 0 = dktJ25_iterator_0 := by decide +kernel
theorem dJ25_iterator_0 : decode cJ25_iterator 0 = .ok (.new 13, 3) := dk_187 0 13 (dk_at dksJ25_iterator_0 0 rfl rfl)
theorem dJ25_iterator_3 : decode cJ25_iterator 3 = .ok (.dup, 1) := dk_89 (dk_at dksJ25_iterator_0 3 rfl rfl)
theorem dJ25_iterator_4 : decode cJ25_iterator 4 = .ok (.aload_n 0, 1) := dk_42 (dk_at dksJ25_iterator_0 4 rfl rfl)
theorem dJ25_iterator_5 : decode cJ25_iterator 5 = .ok (.getfield 1, 3) := dk_180 0 1 (dk_at dksJ25_iterator_0 5 rfl rfl)
theorem dJ25_iterator_8 : decode cJ25_iterator 8 = .ok (.aload_n 0, 1) := dk_42 (dk_at dksJ25_iterator_0 8 rfl rfl)
theorem dJ25_iterator_9 : decode cJ25_iterator 9 = .ok (.getfield 1, 3) := dk_180 0 1 (dk_at dksJ25_iterator_0 9 rfl rfl)
theorem dJ25_iterator_12 : decode cJ25_iterator 12 = .ok (.invokevirtual 15, 3) := dk_182 0 15 (dk_at dksJ25_iterator_0 12 rfl rfl)
theorem dJ25_iterator_15 : decode cJ25_iterator 15 = .ok (.invokespecial 21, 3) := dk_183 0 21 (dk_at dksJ25_iterator_0 15 rfl rfl)
theorem dJ25_iterator_18 : decode cJ25_iterator 18 = .ok (.areturn, 1) := dk_176 (dk_at dksJ25_iterator_0 18 rfl rfl)
theorem q132 : (Jvm.Cond.initialized "java/util/TreeMap$Values") ∈ lw_all := lw_g (lw_at lw_m1 32 rfl) rfl
theorem q1033 : (Jvm.Cond.selects "java/util/TreeMap$Values" ({ cls := "java/lang/Object", name := "getClass", desc := "()Ljava/lang/Class;" } : Jvm.MethodName) ({ cls := "java/lang/Object", name := "getClass", desc := "()Ljava/lang/Class;" } : Jvm.MethodName)) ∈ lw_all := lw_g (lw_at lw_m4 213 rfl) rfl
theorem q1775 : (Jvm.Cond.instanceMethod ({ cls := "java/util/TreeMap$Values", name := "size", desc := "()I" } : Jvm.MethodName)) ∈ lw_all := lw_g (lw_at lw_m7 235 rfl) rfl
theorem q1776 : (Jvm.Cond.code ({ cls := "java/util/TreeMap$Values", name := "size", desc := "()I" } : Jvm.MethodName) prog_97_method_3_code (1 : Nat) (Option.some Jvm.ClassFile.FieldType.int)) ∈ lw_all := lw_g (lw_at lw_m7 236 rfl) rfl
theorem q1777 : (Jvm.Cond.methodLink "java/util/TreeMap$Values" (24 : Nat) ({ cls := "java/util/TreeMap", name := "size", desc := "()I" } : Jvm.MethodName)) ∈ lw_all := lw_g (lw_at lw_m7 237 rfl) rfl
theorem q1884 : (Jvm.Cond.instantiable "java/util/TreeMap$Values" (1 : Nat)) ∈ lw_all := lw_g (lw_at lw_m8 104 rfl) rfl
theorem q1886 : (Jvm.Cond.instanceMethod ({ cls := "java/util/TreeMap$Values", name := "<init>", desc := "(Ljava/util/TreeMap;)V" } : Jvm.MethodName)) ∈ lw_all := lw_g (lw_at lw_m8 106 rfl) rfl
theorem q1887 : (Jvm.Cond.code ({ cls := "java/util/TreeMap$Values", name := "<init>", desc := "(Ljava/util/TreeMap;)V" } : Jvm.MethodName) prog_97_method_1_code (2 : Nat) (Option.none : Option Jvm.ClassFile.FieldType)) ∈ lw_all := lw_g (lw_at lw_m8 107 rfl) rfl
theorem q1888 : (Jvm.Cond.methodLink "java/util/TreeMap$Values" (7 : Nat) ({ cls := "java/util/AbstractCollection", name := "<init>", desc := "()V" } : Jvm.MethodName)) ∈ lw_all := lw_g (lw_at lw_m8 108 rfl) rfl
theorem q1889 : (Jvm.Cond.fieldLink "java/util/TreeMap$Values" (1 : Nat) "java/util/TreeMap$Values" "this$0" "Ljava/util/TreeMap;") ∈ lw_all := lw_g (lw_at lw_m8 109 rfl) rfl
theorem q1890 : (Jvm.Cond.laysFinal "java/util/TreeMap$Values" "java/util/TreeMap$Values" "this$0" "Ljava/util/TreeMap;") ∈ lw_all := lw_g (lw_at lw_m8 110 rfl) rfl
theorem q1891 : (Jvm.Cond.soleField "java/util/TreeMap$Values" "this$0") ∈ lw_all := lw_g (lw_at lw_m8 111 rfl) rfl
theorem q1892 : (Jvm.Cond.superclass "java/util/TreeMap$Values" "java/util/AbstractCollection") ∈ lw_all := lw_g (lw_at lw_m8 112 rfl) rfl
theorem q1973 : (Jvm.Cond.castable "java/util/TreeMap$Values" "java/util/Collection") ∈ lw_tbl := lw_at lw_m8 193 rfl
theorem q1974 : (Jvm.Cond.selects "java/util/TreeMap$Values" ({ cls := "java/util/Collection", name := "iterator", desc := "()Ljava/util/Iterator;" } : Jvm.MethodName) ({ cls := "java/util/TreeMap$Values", name := "iterator", desc := "()Ljava/util/Iterator;" } : Jvm.MethodName)) ∈ lw_all := lw_g (lw_at lw_m8 194 rfl) rfl
theorem q1975 : (Jvm.Cond.unhidden "java/util/TreeMap$Values" "iterator" "()Ljava/util/Iterator;") ∈ lw_tbl := lw_at lw_m8 195 rfl
theorem q1976 : (Jvm.Cond.instanceMethod ({ cls := "java/util/TreeMap$Values", name := "iterator", desc := "()Ljava/util/Iterator;" } : Jvm.MethodName)) ∈ lw_all := lw_g (lw_at lw_m8 196 rfl) rfl
theorem q1977 : (Jvm.Cond.publicMethod ({ cls := "java/util/TreeMap$Values", name := "iterator", desc := "()Ljava/util/Iterator;" } : Jvm.MethodName)) ∈ lw_tbl := lw_at lw_m8 197 rfl
theorem q1978 : (Jvm.Cond.code ({ cls := "java/util/TreeMap$Values", name := "iterator", desc := "()Ljava/util/Iterator;" } : Jvm.MethodName) prog_97_method_2_code (1 : Nat) (Option.some (Jvm.ClassFile.FieldType.object "java/util/Iterator"))) ∈ lw_all := lw_g (lw_at lw_m8 198 rfl) rfl
theorem q1979 : (Jvm.Cond.classLink "java/util/TreeMap$Values" (13 : Nat) "java/util/TreeMap$ValueIterator") ∈ lw_all := lw_g (lw_at lw_m8 199 rfl) rfl
theorem q1981 : (Jvm.Cond.methodLink "java/util/TreeMap$Values" (15 : Nat) ({ cls := "java/util/TreeMap", name := "getFirstEntry", desc := "()Ljava/util/TreeMap$Entry;" } : Jvm.MethodName)) ∈ lw_all := lw_g (lw_at lw_m8 201 rfl) rfl
theorem q1982 : (Jvm.Cond.methodLink "java/util/TreeMap$Values" (21 : Nat) ({ cls := "java/util/TreeMap$ValueIterator", name := "<init>", desc := "(Ljava/util/TreeMap;Ljava/util/TreeMap$Entry;)V" } : Jvm.MethodName)) ∈ lw_all := lw_g (lw_at lw_m8 202 rfl) rfl
theorem q3020 : (Jvm.Cond.selects "java/util/TreeMap$Values" ({ cls := "java/util/AbstractCollection", name := "iterator", desc := "()Ljava/util/Iterator;" } : Jvm.MethodName) ({ cls := "java/util/TreeMap$Values", name := "iterator", desc := "()Ljava/util/Iterator;" } : Jvm.MethodName)) ∈ lw_all := lw_g (lw_at lw_m13 40 rfl) rfl
theorem q3031 : (Jvm.Cond.selects "java/util/TreeMap$Values" ({ cls := "java/util/Collection", name := "toArray", desc := "()[Ljava/lang/Object;" } : Jvm.MethodName) ({ cls := "java/util/AbstractCollection", name := "toArray", desc := "()[Ljava/lang/Object;" } : Jvm.MethodName)) ∈ lw_all := lw_g (lw_at lw_m13 51 rfl) rfl
theorem q3032 : (Jvm.Cond.unhidden "java/util/TreeMap$Values" "toArray" "()[Ljava/lang/Object;") ∈ lw_tbl := lw_at lw_m13 52 rfl
theorem q3044 : (Jvm.Cond.unhidden "java/util/TreeMap$Values" "getClass" "()Ljava/lang/Class;") ∈ lw_tbl := lw_at lw_m13 64 rfl
theorem q4220 : (Jvm.Cond.selects "java/util/TreeMap$Values" ({ cls := "java/util/AbstractCollection", name := "size", desc := "()I" } : Jvm.MethodName) ({ cls := "java/util/TreeMap$Values", name := "size", desc := "()I" } : Jvm.MethodName)) ∈ lw_all := lw_g (lw_at lw_m18 40 rfl) rfl
theorem q4251 : (Jvm.Cond.castable "java/util/TreeMap$Values" "java/lang/Object") ∈ lw_tbl := lw_at lw_m18 71 rfl
theorem in_J25 : ∀ w ∈ wsJ250, w ∈ lw_all := lw_in wsJ250 [1890] (by decide +kernel) (by decide +kernel)
/-! java/util/ArrayList$Itr -/
set_option maxRecDepth 100000
def RJ26 : String := "java/util/ArrayList$Itr"
def TJ26 : u_T := fun k => match k with
  | 0 => ("java/util/ArrayList$Itr", "cursor", "I", false)
  | 1 => ("java/util/ArrayList$Itr", "lastRet", "I", false)
  | 2 => ("java/util/ArrayList$Itr", "expectedModCount", "I", false)
  | _ => ("java/util/ArrayList$Itr", "this$0", "Ljava/util/ArrayList;", true)
def tyJ26 : Nat → FieldType := fun k => match k with
  | 0 => .int
  | 1 => .int
  | 2 => .int
  | _ => .object "java/util/ArrayList"
abbrev wsJ260 : List Cond := u_ws RJ26 TJ26 4
theorem nmJ26 : ∀ a, a < 4 → ∀ b, b < 4 → a ≠ b → (TJ26 a).2.1 ≠ (TJ26 b).2.1 := by decide +kernel
theorem tyJ26_ok : ∀ k, k < 4 → parseFieldDescriptor (TJ26 k).2.2.1 = some (tyJ26 k) := by decide +kernel
abbrev cJ26_hasNext : ByteArray := prog_62_method_2_code
def yJ26_hasNext : MethodName := ⟨RJ26, "hasNext", "()Z"⟩
def dkwJ26_hasNext_0 : List UInt8 := [42, 180, 0, 25, 42, 180, 0, 1, 180, 0, 28, 159, 0, 7, 4, 167, 0, 4, 3, 172]
abbrev dktJ26_hasNext_0 : List UInt8 := dkwJ26_hasNext_0 ++ []
theorem dksJ26_hasNext_0 : cJ26_hasNext.data.toList.drop 0 = dktJ26_hasNext_0 := by decide +kernel
theorem dJ26_hasNext_0 : decode cJ26_hasNext 0 = .ok (.aload_n 0, 1) := dk_42 (dk_at dksJ26_hasNext_0 0 rfl rfl)
theorem dJ26_hasNext_1 : decode cJ26_hasNext 1 = .ok (.getfield 25, 3) := dk_180 0 25 (dk_at dksJ26_hasNext_0 1 rfl rfl)
theorem dJ26_hasNext_4 : decode cJ26_hasNext 4 = .ok (.aload_n 0, 1) := dk_42 (dk_at dksJ26_hasNext_0 4 rfl rfl)
theorem dJ26_hasNext_5 : decode cJ26_hasNext 5 = .ok (.getfield 1, 3) := dk_180 0 1 (dk_at dksJ26_hasNext_0 5 rfl rfl)
theorem dJ26_hasNext_8 : decode cJ26_hasNext 8 = .ok (.getfield 28, 3) := dk_180 0 28 (dk_at dksJ26_hasNext_0 8 rfl rfl)
theorem dJ26_hasNext_11 : decode cJ26_hasNext 11 = .ok (.if_icmp .eq 7, 3) := dk_159 0 7 (dk_at dksJ26_hasNext_0 11 rfl rfl)
theorem dJ26_hasNext_14 : decode cJ26_hasNext 14 = .ok (.iconst 1, 1) := dk_4 (dk_at dksJ26_hasNext_0 14 rfl rfl)
theorem dJ26_hasNext_15 : decode cJ26_hasNext 15 = .ok (.goto 4, 3) := dk_167 0 4 (dk_at dksJ26_hasNext_0 15 rfl rfl)
theorem dJ26_hasNext_18 : decode cJ26_hasNext 18 = .ok (.iconst 0, 1) := dk_3 (dk_at dksJ26_hasNext_0 18 rfl rfl)
theorem dJ26_hasNext_19 : decode cJ26_hasNext 19 = .ok (.ireturn, 1) := dk_172 (dk_at dksJ26_hasNext_0 19 rfl rfl)
abbrev cJ26_next : ByteArray := prog_62_method_3_code
def yJ26_next : MethodName := ⟨RJ26, "next", "()Ljava/lang/Object;"⟩
def dkwJ26_next_2 : List UInt8 := [183, 0, 43, 191, 42, 27, 4, 96, 181, 0, 25, 44, 42, 27, 90, 181, 0, 13, 50, 176]
abbrev dktJ26_next_2 : List UInt8 := dkwJ26_next_2 ++ []
def dkwJ26_next_1 : List UInt8 := [183, 0, 36, 191, 42, 180, 0, 1, 180, 0, 37, 77, 27, 44, 190, 161, 0, 11, 187, 0, 41, 89]
abbrev dktJ26_next_1 : List UInt8 := dkwJ26_next_1 ++ dktJ26_next_2
def dkwJ26_next_0 : List UInt8 := [42, 182, 0, 31, 42, 180, 0, 25, 60, 27, 42, 180, 0, 1, 180, 0, 28, 161, 0, 11, 187, 0, 34, 89]
abbrev dktJ26_next_0 : List UInt8 := dkwJ26_next_0 ++ dktJ26_next_1
theorem dksJ26_next_0 : cJ26_next.data.toList.drop 0 = dktJ26_next_0 := by decide +kernel
theorem dksJ26_next_1 : cJ26_next.data.toList.drop 24 = dktJ26_next_1 := dk_seg dksJ26_next_0 24 rfl rfl
theorem dksJ26_next_2 : cJ26_next.data.toList.drop 46 = dktJ26_next_2 := dk_seg dksJ26_next_1 22 rfl rfl
theorem dJ26_next_0 : decode cJ26_next 0 = .ok (.aload_n 0, 1) := dk_42 (dk_at dksJ26_next_0 0 rfl rfl)
theorem dJ26_next_1 : decode cJ26_next 1 = .ok (.invokevirtual 31, 3) := dk_182 0 31 (dk_at dksJ26_next_0 1 rfl rfl)
theorem dJ26_next_4 : decode cJ26_next 4 = .ok (.aload_n 0, 1) := dk_42 (dk_at dksJ26_next_0 4 rfl rfl)
theorem dJ26_next_5 : decode cJ26_next 5 = .ok (.getfield 25, 3) := dk_180 0 25 (dk_at dksJ26_next_0 5 rfl rfl)
theorem dJ26_next_8 : decode cJ26_next 8 = .ok (.istore_n 1, 1) := dk_60 (dk_at dksJ26_next_0 8 rfl rfl)
theorem dJ26_next_9 : decode cJ26_next 9 = .ok (.iload_n 1, 1) := dk_27 (dk_at dksJ26_next_0 9 rfl rfl)
theorem dJ26_next_10 : decode cJ26_next 10 = .ok (.aload_n 0, 1) := dk_42 (dk_at dksJ26_next_0 10 rfl rfl)
theorem dJ26_next_11 : decode cJ26_next 11 = .ok (.getfield 1, 3) := dk_180 0 1 (dk_at dksJ26_next_0 11 rfl rfl)
theorem dJ26_next_14 : decode cJ26_next 14 = .ok (.getfield 28, 3) := dk_180 0 28 (dk_at dksJ26_next_0 14 rfl rfl)
theorem dJ26_next_17 : decode cJ26_next 17 = .ok (.if_icmp .lt 11, 3) := dk_161 0 11 (dk_at dksJ26_next_0 17 rfl rfl)
theorem dJ26_next_20 : decode cJ26_next 20 = .ok (.new 34, 3) := dk_187 0 34 (dk_at dksJ26_next_0 20 rfl rfl)
theorem dJ26_next_23 : decode cJ26_next 23 = .ok (.dup, 1) := dk_89 (dk_at dksJ26_next_0 23 rfl rfl)
theorem dJ26_next_24 : decode cJ26_next 24 = .ok (.invokespecial 36, 3) := dk_183 0 36 (dk_at dksJ26_next_1 0 rfl rfl)
theorem dJ26_next_27 : decode cJ26_next 27 = .ok (.athrow, 1) := dk_191 (dk_at dksJ26_next_1 3 rfl rfl)
theorem dJ26_next_28 : decode cJ26_next 28 = .ok (.aload_n 0, 1) := dk_42 (dk_at dksJ26_next_1 4 rfl rfl)
theorem dJ26_next_29 : decode cJ26_next 29 = .ok (.getfield 1, 3) := dk_180 0 1 (dk_at dksJ26_next_1 5 rfl rfl)
theorem dJ26_next_32 : decode cJ26_next 32 = .ok (.getfield 37, 3) := dk_180 0 37 (dk_at dksJ26_next_1 8 rfl rfl)
theorem dJ26_next_35 : decode cJ26_next 35 = .ok (.astore_n 2, 1) := dk_77 (dk_at dksJ26_next_1 11 rfl rfl)
theorem dJ26_next_36 : decode cJ26_next 36 = .ok (.iload_n 1, 1) := dk_27 (dk_at dksJ26_next_1 12 rfl rfl)
theorem dJ26_next_37 : decode cJ26_next 37 = .ok (.aload_n 2, 1) := dk_44 (dk_at dksJ26_next_1 13 rfl rfl)
theorem dJ26_next_38 : decode cJ26_next 38 = .ok (.arraylength, 1) := dk_190 (dk_at dksJ26_next_1 14 rfl rfl)
theorem dJ26_next_39 : decode cJ26_next 39 = .ok (.if_icmp .lt 11, 3) := dk_161 0 11 (dk_at dksJ26_next_1 15 rfl rfl)
theorem dJ26_next_42 : decode cJ26_next 42 = .ok (.new 41, 3) := dk_187 0 41 (dk_at dksJ26_next_1 18 rfl rfl)
theorem dJ26_next_45 : decode cJ26_next 45 = .ok (.dup, 1) := dk_89 (dk_at dksJ26_next_1 21 rfl rfl)
theorem dJ26_next_46 : decode cJ26_next 46 = .ok (.invokespecial 43, 3) := dk_183 0 43 (dk_at dksJ26_next_2 0 rfl rfl)
theorem dJ26_next_49 : decode cJ26_next 49 = .ok (.athrow, 1) := dk_191 (dk_at dksJ26_next_2 3 rfl rfl)
theorem dJ26_next_50 : decode cJ26_next 50 = .ok (.aload_n 0, 1) := dk_42 (dk_at dksJ26_next_2 4 rfl rfl)
theorem dJ26_next_51 : decode cJ26_next 51 = .ok (.iload_n 1, 1) := dk_27 (dk_at dksJ26_next_2 5 rfl rfl)
theorem dJ26_next_52 : decode cJ26_next 52 = .ok (.iconst 1, 1) := dk_4 (dk_at dksJ26_next_2 6 rfl rfl)
theorem dJ26_next_53 : decode cJ26_next 53 = .ok (.iadd, 1) := dk_96 (dk_at dksJ26_next_2 7 rfl rfl)
theorem dJ26_next_54 : decode cJ26_next 54 = .ok (.putfield 25, 3) := dk_181 0 25 (dk_at dksJ26_next_2 8 rfl rfl)
theorem dJ26_next_57 : decode cJ26_next 57 = .ok (.aload_n 2, 1) := dk_44 (dk_at dksJ26_next_2 11 rfl rfl)
theorem dJ26_next_58 : decode cJ26_next 58 = .ok (.aload_n 0, 1) := dk_42 (dk_at dksJ26_next_2 12 rfl rfl)
theorem dJ26_next_59 : decode cJ26_next 59 = .ok (.iload_n 1, 1) := dk_27 (dk_at dksJ26_next_2 13 rfl rfl)
theorem dJ26_next_60 : decode cJ26_next 60 = .ok (.dup_x1, 1) := dk_90 (dk_at dksJ26_next_2 14 rfl rfl)
theorem dJ26_next_61 : decode cJ26_next 61 = .ok (.putfield 13, 3) := dk_181 0 13 (dk_at dksJ26_next_2 15 rfl rfl)
theorem dJ26_next_64 : decode cJ26_next 64 = .ok (.aaload, 1) := dk_50 (dk_at dksJ26_next_2 18 rfl rfl)
theorem dJ26_next_65 : decode cJ26_next 65 = .ok (.areturn, 1) := dk_176 (dk_at dksJ26_next_2 19 rfl rfl)
abbrev cJ26_checkForComodification : ByteArray := prog_62_method_6_code
def yJ26_checkForComodification : MethodName := ⟨RJ26, "checkForComodification", "()V"⟩
def dkwJ26_checkForComodification_0 : List UInt8 := [42, 180, 0, 1, 180, 0, 17, 42, 180, 0, 22, 159, 0, 11, 187, 0, 41, 89, 183, 0, 43, 191, 177]
abbrev dktJ26_checkForComodification_0 : List UInt8 := dkwJ26_checkForComodification_0 ++ []
theorem dksJ26_checkForComodification_0 : cJ26_checkForComodification.data.toList.drop 0 = dktJ26_checkForComodification_0 := by decide +kernel
theorem dJ26_checkForComodification_0 : decode cJ26_checkForComodification 0 = .ok (.aload_n 0, 1) := dk_42 (dk_at dksJ26_checkForComodification_0 0 rfl rfl)
theorem dJ26_checkForComodification_1 : decode cJ26_checkForComodification 1 = .ok (.getfield 1, 3) := dk_180 0 1 (dk_at dksJ26_checkForComodification_0 1 rfl rfl)
theorem dJ26_checkForComodification_4 : decode cJ26_checkForComodification 4 = .ok (.getfield 17, 3) := dk_180 0 17 (dk_at dksJ26_checkForComodification_0 4 rfl rfl)
theorem dJ26_checkForComodification_7 : decode cJ26_checkForComodification 7 = .ok (.aload_n 0, 1) := dk_42 (dk_at dksJ26_checkForComodification_0 7 rfl rfl)
theorem dJ26_checkForComodification_8 : decode cJ26_checkForComodification 8 = .ok (.getfield 22, 3) := dk_180 0 22 (dk_at dksJ26_checkForComodification_0 8 rfl rfl)
theorem dJ26_checkForComodification_11 : decode cJ26_checkForComodification 11 = .ok (.if_icmp .eq 11, 3) := dk_159 0 11 (dk_at dksJ26_checkForComodification_0 11 rfl rfl)
theorem dJ26_checkForComodification_14 : decode cJ26_checkForComodification 14 = .ok (.new 41, 3) := dk_187 0 41 (dk_at dksJ26_checkForComodification_0 14 rfl rfl)
theorem dJ26_checkForComodification_17 : decode cJ26_checkForComodification 17 = .ok (.dup, 1) := dk_89 (dk_at dksJ26_checkForComodification_0 17 rfl rfl)
theorem dJ26_checkForComodification_18 : decode cJ26_checkForComodification 18 = .ok (.invokespecial 43, 3) := dk_183 0 43 (dk_at dksJ26_checkForComodification_0 18 rfl rfl)
theorem dJ26_checkForComodification_21 : decode cJ26_checkForComodification 21 = .ok (.athrow, 1) := dk_191 (dk_at dksJ26_checkForComodification_0 21 rfl rfl)
theorem dJ26_checkForComodification_22 : decode cJ26_checkForComodification 22 = .ok (.return_, 1) := dk_177 (dk_at dksJ26_checkForComodification_0 22 rfl rfl)
abbrev cJ26_init : ByteArray := prog_62_method_1_code
def yJ26_init : MethodName := ⟨RJ26, "<init>", "(Ljava/util/ArrayList;)V"⟩
def dkwJ26_init_1 : List UInt8 := [181, 0, 22, 177]
abbrev dktJ26_init_1 : List UInt8 := dkwJ26_init_1 ++ []
def dkwJ26_init_0 : List UInt8 := [42, 43, 181, 0, 1, 42, 183, 0, 7, 42, 2, 181, 0, 13, 42, 42, 180, 0, 1, 180, 0, 17]
abbrev dktJ26_init_0 : List UInt8 := dkwJ26_init_0 ++ dktJ26_init_1
theorem dksJ26_init_0 : cJ26_init.data.toList.drop 0 = dktJ26_init_0 := by decide +kernel
theorem dksJ26_init_1 : cJ26_init.data.toList.drop 22 = dktJ26_init_1 := dk_seg dksJ26_init_0 22 rfl rfl
theorem dJ26_init_0 : decode cJ26_init 0 = .ok (.aload_n 0, 1) := dk_42 (dk_at dksJ26_init_0 0 rfl rfl)
theorem dJ26_init_1 : decode cJ26_init 1 = .ok (.aload_n 1, 1) := dk_43 (dk_at dksJ26_init_0 1 rfl rfl)
theorem dJ26_init_2 : decode cJ26_init 2 = .ok (.putfield 1, 3) := dk_181 0 1 (dk_at dksJ26_init_0 2 rfl rfl)
theorem dJ26_init_5 : decode cJ26_init 5 = .ok (.aload_n 0, 1) := dk_42 (dk_at dksJ26_init_0 5 rfl rfl)
theorem dJ26_init_6 : decode cJ26_init 6 = .ok (.invokespecial 7, 3) := dk_183 0 7 (dk_at dksJ26_init_0 6 rfl rfl)
theorem dJ26_init_9 : decode cJ26_init 9 = .ok (.aload_n 0, 1) := dk_42 (dk_at dksJ26_init_0 9 rfl rfl)
theorem dJ26_init_10 : decode cJ26_init 10 = .ok (.iconst (-1), 1) := dk_2 (dk_at dksJ26_init_0 10 rfl rfl)
theorem dJ26_init_11 : decode cJ26_init 11 = .ok (.putfield 13, 3) := dk_181 0 13 (dk_at dksJ26_init_0 11 rfl rfl)
theorem dJ26_init_14 : decode cJ26_init 14 = .ok (.aload_n 0, 1) := dk_42 (dk_at dksJ26_init_0 14 rfl rfl)
theorem dJ26_init_15 : decode cJ26_init 15 = .ok (.aload_n 0, 1) := dk_42 (dk_at dksJ26_init_0 15 rfl rfl)
theorem dJ26_init_16 : decode cJ26_init 16 = .ok (.getfield 1, 3) := dk_180 0 1 (dk_at dksJ26_init_0 16 rfl rfl)
theorem dJ26_init_19 : decode cJ26_init 19 = .ok (.getfield 17, 3) := dk_180 0 17 (dk_at dksJ26_init_0 19 rfl rfl)
theorem dJ26_init_22 : decode cJ26_init 22 = .ok (.putfield 22, 3) := dk_181 0 22 (dk_at dksJ26_init_1 0 rfl rfl)
theorem dJ26_init_25 : decode cJ26_init 25 = .ok (.return_, 1) := dk_177 (dk_at dksJ26_init_1 3 rfl rfl)
theorem q133 : (Jvm.Cond.initialized "java/util/ArrayList$Itr") ∈ lw_all := lw_g (lw_at lw_m1 33 rfl) rfl
theorem q204 : (Jvm.Cond.fieldLink "java/util/ArrayList$Itr" (17 : Nat) "java/util/ArrayList" "modCount" "I") ∈ lw_all := lw_g (lw_at lw_m1 104 rfl) rfl
theorem q267 : (Jvm.Cond.fieldLink "java/util/ArrayList$Itr" (37 : Nat) "java/util/ArrayList" "elementData" "[Ljava/lang/Object;") ∈ lw_all := lw_g (lw_at lw_m1 167 rfl) rfl
theorem q268 : (Jvm.Cond.fieldLinkNest "java/util/ArrayList$Itr" (28 : Nat) "java/util/ArrayList" "size" "I" "java/util/ArrayList") ∈ lw_tbl := lw_at lw_m1 168 rfl
theorem q831 : (Jvm.Cond.castable "java/util/ArrayList$Itr" "java/util/Iterator") ∈ lw_tbl := lw_at lw_m4 11 rfl
theorem q832 : (Jvm.Cond.selects "java/util/ArrayList$Itr" ({ cls := "java/util/Iterator", name := "hasNext", desc := "()Z" } : Jvm.MethodName) ({ cls := "java/util/ArrayList$Itr", name := "hasNext", desc := "()Z" } : Jvm.MethodName)) ∈ lw_all := lw_g (lw_at lw_m4 12 rfl) rfl
theorem q833 : (Jvm.Cond.unhidden "java/util/ArrayList$Itr" "hasNext" "()Z") ∈ lw_tbl := lw_at lw_m4 13 rfl
theorem q834 : (Jvm.Cond.instanceMethod ({ cls := "java/util/ArrayList$Itr", name := "hasNext", desc := "()Z" } : Jvm.MethodName)) ∈ lw_all := lw_g (lw_at lw_m4 14 rfl) rfl
theorem q835 : (Jvm.Cond.publicMethod ({ cls := "java/util/ArrayList$Itr", name := "hasNext", desc := "()Z" } : Jvm.MethodName)) ∈ lw_tbl := lw_at lw_m4 15 rfl
theorem q836 : (Jvm.Cond.code ({ cls := "java/util/ArrayList$Itr", name := "hasNext", desc := "()Z" } : Jvm.MethodName) prog_62_method_2_code (1 : Nat) (Option.some Jvm.ClassFile.FieldType.boolean)) ∈ lw_all := lw_g (lw_at lw_m4 16 rfl) rfl
theorem q1020 : (Jvm.Cond.selects "java/util/ArrayList$Itr" ({ cls := "java/lang/Object", name := "getClass", desc := "()Ljava/lang/Class;" } : Jvm.MethodName) ({ cls := "java/lang/Object", name := "getClass", desc := "()Ljava/lang/Class;" } : Jvm.MethodName)) ∈ lw_all := lw_g (lw_at lw_m4 200 rfl) rfl
theorem q1072 : (Jvm.Cond.selects "java/util/ArrayList$Itr" ({ cls := "java/util/Iterator", name := "next", desc := "()Ljava/lang/Object;" } : Jvm.MethodName) ({ cls := "java/util/ArrayList$Itr", name := "next", desc := "()Ljava/lang/Object;" } : Jvm.MethodName)) ∈ lw_all := lw_g (lw_at lw_m5 12 rfl) rfl
theorem q1073 : (Jvm.Cond.unhidden "java/util/ArrayList$Itr" "next" "()Ljava/lang/Object;") ∈ lw_tbl := lw_at lw_m5 13 rfl
theorem q1074 : (Jvm.Cond.instanceMethod ({ cls := "java/util/ArrayList$Itr", name := "next", desc := "()Ljava/lang/Object;" } : Jvm.MethodName)) ∈ lw_all := lw_g (lw_at lw_m5 14 rfl) rfl
theorem q1075 : (Jvm.Cond.publicMethod ({ cls := "java/util/ArrayList$Itr", name := "next", desc := "()Ljava/lang/Object;" } : Jvm.MethodName)) ∈ lw_tbl := lw_at lw_m5 15 rfl
theorem q1076 : (Jvm.Cond.code ({ cls := "java/util/ArrayList$Itr", name := "next", desc := "()Ljava/lang/Object;" } : Jvm.MethodName) prog_62_method_3_code (3 : Nat) (Option.some (Jvm.ClassFile.FieldType.object "java/lang/Object"))) ∈ lw_all := lw_g (lw_at lw_m5 16 rfl) rfl
theorem q1077 : (Jvm.Cond.methodLink "java/util/ArrayList$Itr" (31 : Nat) ({ cls := "java/util/ArrayList$Itr", name := "checkForComodification", desc := "()V" } : Jvm.MethodName)) ∈ lw_all := lw_g (lw_at lw_m5 17 rfl) rfl
theorem q1078 : (Jvm.Cond.instanceMethod ({ cls := "java/util/ArrayList$Itr", name := "checkForComodification", desc := "()V" } : Jvm.MethodName)) ∈ lw_all := lw_g (lw_at lw_m5 18 rfl) rfl
theorem q1079 : (Jvm.Cond.selects "java/util/ArrayList$Itr" ({ cls := "java/util/ArrayList$Itr", name := "checkForComodification", desc := "()V" } : Jvm.MethodName) ({ cls := "java/util/ArrayList$Itr", name := "checkForComodification", desc := "()V" } : Jvm.MethodName)) ∈ lw_all := lw_g (lw_at lw_m5 19 rfl) rfl
theorem q1080 : (Jvm.Cond.sameMethod "java/util/ArrayList$Itr" "java/util/ArrayList$Itr" "checkForComodification" "()V") ∈ lw_all := lw_g (lw_at lw_m5 20 rfl) rfl
theorem q1082 : (Jvm.Cond.code ({ cls := "java/util/ArrayList$Itr", name := "checkForComodification", desc := "()V" } : Jvm.MethodName) prog_62_method_6_code (1 : Nat) (Option.none : Option Jvm.ClassFile.FieldType)) ∈ lw_all := lw_g (lw_at lw_m5 22 rfl) rfl
theorem q1083 : (Jvm.Cond.classLink "java/util/ArrayList$Itr" (34 : Nat) "java/util/NoSuchElementException") ∈ lw_all := lw_g (lw_at lw_m5 23 rfl) rfl
theorem q1084 : (Jvm.Cond.methodLink "java/util/ArrayList$Itr" (36 : Nat) ({ cls := "java/util/NoSuchElementException", name := "<init>", desc := "()V" } : Jvm.MethodName)) ∈ lw_all := lw_g (lw_at lw_m5 24 rfl) rfl
theorem q1332 : (Jvm.Cond.instantiable "java/util/ArrayList$Itr" (4 : Nat)) ∈ lw_all := lw_g (lw_at lw_m6 32 rfl) rfl
theorem q1334 : (Jvm.Cond.instanceMethod ({ cls := "java/util/ArrayList$Itr", name := "<init>", desc := "(Ljava/util/ArrayList;)V" } : Jvm.MethodName)) ∈ lw_all := lw_g (lw_at lw_m6 34 rfl) rfl
theorem q1335 : (Jvm.Cond.code ({ cls := "java/util/ArrayList$Itr", name := "<init>", desc := "(Ljava/util/ArrayList;)V" } : Jvm.MethodName) prog_62_method_1_code (2 : Nat) (Option.none : Option Jvm.ClassFile.FieldType)) ∈ lw_all := lw_g (lw_at lw_m6 35 rfl) rfl
theorem q1336 : (Jvm.Cond.methodLink "java/util/ArrayList$Itr" (7 : Nat) ({ cls := "java/lang/Object", name := "<init>", desc := "()V" } : Jvm.MethodName)) ∈ lw_all := lw_g (lw_at lw_m6 36 rfl) rfl
theorem q1339 : (Jvm.Cond.fieldLink "java/util/ArrayList$Itr" (25 : Nat) "java/util/ArrayList$Itr" "cursor" "I") ∈ lw_all := lw_g (lw_at lw_m6 39 rfl) rfl
theorem q1340 : (Jvm.Cond.fieldLink "java/util/ArrayList$Itr" (13 : Nat) "java/util/ArrayList$Itr" "lastRet" "I") ∈ lw_all := lw_g (lw_at lw_m6 40 rfl) rfl
theorem q1341 : (Jvm.Cond.fieldLink "java/util/ArrayList$Itr" (22 : Nat) "java/util/ArrayList$Itr" "expectedModCount" "I") ∈ lw_all := lw_g (lw_at lw_m6 41 rfl) rfl
theorem q1342 : (Jvm.Cond.fieldLink "java/util/ArrayList$Itr" (1 : Nat) "java/util/ArrayList$Itr" "this$0" "Ljava/util/ArrayList;") ∈ lw_all := lw_g (lw_at lw_m6 42 rfl) rfl
theorem q1343 : (Jvm.Cond.lays "java/util/ArrayList$Itr" "java/util/ArrayList$Itr" "cursor" "I") ∈ lw_all := lw_g (lw_at lw_m6 43 rfl) rfl
theorem q1344 : (Jvm.Cond.soleField "java/util/ArrayList$Itr" "cursor") ∈ lw_all := lw_g (lw_at lw_m6 44 rfl) rfl
theorem q1345 : (Jvm.Cond.lays "java/util/ArrayList$Itr" "java/util/ArrayList$Itr" "lastRet" "I") ∈ lw_all := lw_g (lw_at lw_m6 45 rfl) rfl
theorem q1346 : (Jvm.Cond.soleField "java/util/ArrayList$Itr" "lastRet") ∈ lw_all := lw_g (lw_at lw_m6 46 rfl) rfl
theorem q1347 : (Jvm.Cond.lays "java/util/ArrayList$Itr" "java/util/ArrayList$Itr" "expectedModCount" "I") ∈ lw_all := lw_g (lw_at lw_m6 47 rfl) rfl
theorem q1348 : (Jvm.Cond.soleField "java/util/ArrayList$Itr" "expectedModCount") ∈ lw_all := lw_g (lw_at lw_m6 48 rfl) rfl
theorem q1349 : (Jvm.Cond.laysFinal "java/util/ArrayList$Itr" "java/util/ArrayList$Itr" "this$0" "Ljava/util/ArrayList;") ∈ lw_all := lw_g (lw_at lw_m6 49 rfl) rfl
theorem q1350 : (Jvm.Cond.soleField "java/util/ArrayList$Itr" "this$0") ∈ lw_all := lw_g (lw_at lw_m6 50 rfl) rfl
theorem q1351 : (Jvm.Cond.superclass "java/util/ArrayList$Itr" "java/lang/Object") ∈ lw_all := lw_g (lw_at lw_m6 51 rfl) rfl
theorem q4252 : (Jvm.Cond.castable "java/util/ArrayList$Itr" "java/lang/Object") ∈ lw_tbl := lw_at lw_m18 72 rfl
theorem in_J26 : ∀ w ∈ wsJ260, w ∈ lw_all := lw_in wsJ260 [1343, 1345, 1347, 1349] (by decide +kernel) (by decide +kernel)
/-! java/util/AbstractList$Itr -/
set_option maxRecDepth 100000
def RJ27 : String := "java/util/AbstractList$Itr"
abbrev cJ27_hasNext : ByteArray := prog_54_method_2_code
def yJ27_hasNext : MethodName := ⟨RJ27, "hasNext", "()Z"⟩
def dkwJ27_hasNext_0 : List UInt8 := [42, 180, 0, 13, 42, 180, 0, 1, 182, 0, 28, 159, 0, 7, 4, 167, 0, 4, 3, 172]
abbrev dktJ27_hasNext_0 : List UInt8 := dkwJ27_hasNext_0 ++ []
theorem dksJ27_hasNext_0 : cJ27_hasNext.data.toList.drop 0 = dktJ27_hasNext_0 := by decide +kernel
theorem dJ27_hasNext_0 : decode cJ27_hasNext 0 = .ok (.aload_n 0, 1) := dk_42 (dk_at dksJ27_hasNext_0 0 rfl rfl)
theorem dJ27_hasNext_1 : decode cJ27_hasNext 1 = .ok (.getfield 13, 3) := dk_180 0 13 (dk_at dksJ27_hasNext_0 1 rfl rfl)
theorem dJ27_hasNext_4 : decode cJ27_hasNext 4 = .ok (.aload_n 0, 1) := dk_42 (dk_at dksJ27_hasNext_0 4 rfl rfl)
theorem dJ27_hasNext_5 : decode cJ27_hasNext 5 = .ok (.getfield 1, 3) := dk_180 0 1 (dk_at dksJ27_hasNext_0 5 rfl rfl)
theorem dJ27_hasNext_8 : decode cJ27_hasNext 8 = .ok (.invokevirtual 28, 3) := dk_182 0 28 (dk_at dksJ27_hasNext_0 8 rfl rfl)
theorem dJ27_hasNext_11 : decode cJ27_hasNext 11 = .ok (.if_icmp .eq 7, 3) := dk_159 0 7 (dk_at dksJ27_hasNext_0 11 rfl rfl)
theorem dJ27_hasNext_14 : decode cJ27_hasNext 14 = .ok (.iconst 1, 1) := dk_4 (dk_at dksJ27_hasNext_0 14 rfl rfl)
theorem dJ27_hasNext_15 : decode cJ27_hasNext 15 = .ok (.goto 4, 3) := dk_167 0 4 (dk_at dksJ27_hasNext_0 15 rfl rfl)
theorem dJ27_hasNext_18 : decode cJ27_hasNext 18 = .ok (.iconst 0, 1) := dk_3 (dk_at dksJ27_hasNext_0 18 rfl rfl)
theorem dJ27_hasNext_19 : decode cJ27_hasNext 19 = .ok (.ireturn, 1) := dk_172 (dk_at dksJ27_hasNext_0 19 rfl rfl)
abbrev cJ27_next : ByteArray := prog_54_method_3_code
def yJ27_next : MethodName := ⟨RJ27, "next", "()Ljava/lang/Object;"⟩
def dkwJ27_next_1 : List UInt8 := [27, 4, 96, 181, 0, 13, 44, 176, 76, 42, 182, 0, 32, 187, 0, 41, 89, 43, 183, 0, 43, 191]
abbrev dktJ27_next_1 : List UInt8 := dkwJ27_next_1 ++ []
def dkwJ27_next_0 : List UInt8 := [42, 182, 0, 32, 42, 180, 0, 13, 60, 42, 180, 0, 1, 27, 182, 0, 35, 77, 42, 27, 181, 0, 17, 42]
abbrev dktJ27_next_0 : List UInt8 := dkwJ27_next_0 ++ dktJ27_next_1
theorem dksJ27_next_0 : cJ27_next.data.toList.drop 0 = dktJ27_next_0 := by decide +kernel
theorem dksJ27_next_1 : cJ27_next.data.toList.drop 24 = dktJ27_next_1 := dk_seg dksJ27_next_0 24 rfl rfl
theorem dJ27_next_0 : decode cJ27_next 0 = .ok (.aload_n 0, 1) := dk_42 (dk_at dksJ27_next_0 0 rfl rfl)
theorem dJ27_next_1 : decode cJ27_next 1 = .ok (.invokevirtual 32, 3) := dk_182 0 32 (dk_at dksJ27_next_0 1 rfl rfl)
theorem dJ27_next_4 : decode cJ27_next 4 = .ok (.aload_n 0, 1) := dk_42 (dk_at dksJ27_next_0 4 rfl rfl)
theorem dJ27_next_5 : decode cJ27_next 5 = .ok (.getfield 13, 3) := dk_180 0 13 (dk_at dksJ27_next_0 5 rfl rfl)
theorem dJ27_next_8 : decode cJ27_next 8 = .ok (.istore_n 1, 1) := dk_60 (dk_at dksJ27_next_0 8 rfl rfl)
theorem dJ27_next_9 : decode cJ27_next 9 = .ok (.aload_n 0, 1) := dk_42 (dk_at dksJ27_next_0 9 rfl rfl)
theorem dJ27_next_10 : decode cJ27_next 10 = .ok (.getfield 1, 3) := dk_180 0 1 (dk_at dksJ27_next_0 10 rfl rfl)
theorem dJ27_next_13 : decode cJ27_next 13 = .ok (.iload_n 1, 1) := dk_27 (dk_at dksJ27_next_0 13 rfl rfl)
theorem dJ27_next_14 : decode cJ27_next 14 = .ok (.invokevirtual 35, 3) := dk_182 0 35 (dk_at dksJ27_next_0 14 rfl rfl)
theorem dJ27_next_17 : decode cJ27_next 17 = .ok (.astore_n 2, 1) := dk_77 (dk_at dksJ27_next_0 17 rfl rfl)
theorem dJ27_next_18 : decode cJ27_next 18 = .ok (.aload_n 0, 1) := dk_42 (dk_at dksJ27_next_0 18 rfl rfl)
theorem dJ27_next_19 : decode cJ27_next 19 = .ok (.iload_n 1, 1) := dk_27 (dk_at dksJ27_next_0 19 rfl rfl)
theorem dJ27_next_20 : decode cJ27_next 20 = .ok (.putfield 17, 3) := dk_181 0 17 (dk_at dksJ27_next_0 20 rfl rfl)
theorem dJ27_next_23 : decode cJ27_next 23 = .ok (.aload_n 0, 1) := dk_42 (dk_at dksJ27_next_0 23 rfl rfl)
theorem dJ27_next_24 : decode cJ27_next 24 = .ok (.iload_n 1, 1) := dk_27 (dk_at dksJ27_next_1 0 rfl rfl)
theorem dJ27_next_25 : decode cJ27_next 25 = .ok (.iconst 1, 1) := dk_4 (dk_at dksJ27_next_1 1 rfl rfl)
theorem dJ27_next_26 : decode cJ27_next 26 = .ok (.iadd, 1) := dk_96 (dk_at dksJ27_next_1 2 rfl rfl)
theorem dJ27_next_27 : decode cJ27_next 27 = .ok (.putfield 13, 3) := dk_181 0 13 (dk_at dksJ27_next_1 3 rfl rfl)
theorem dJ27_next_30 : decode cJ27_next 30 = .ok (.aload_n 2, 1) := dk_44 (dk_at dksJ27_next_1 6 rfl rfl)
theorem dJ27_next_31 : decode cJ27_next 31 = .ok (.areturn, 1) := dk_176 (dk_at dksJ27_next_1 7 rfl rfl)
theorem dJ27_next_32 : decode cJ27_next 32 = .ok (.astore_n 1, 1) := dk_76 (dk_at dksJ27_next_1 8 rfl rfl)
theorem dJ27_next_33 : decode cJ27_next 33 = .ok (.aload_n 0, 1) := dk_42 (dk_at dksJ27_next_1 9 rfl rfl)
theorem dJ27_next_34 : decode cJ27_next 34 = .ok (.invokevirtual 32, 3) := dk_182 0 32 (dk_at dksJ27_next_1 10 rfl rfl)
theorem dJ27_next_37 : decode cJ27_next 37 = .ok (.new 41, 3) := dk_187 0 41 (dk_at dksJ27_next_1 13 rfl rfl)
theorem dJ27_next_40 : decode cJ27_next 40 = .ok (.dup, 1) := dk_89 (dk_at dksJ27_next_1 16 rfl rfl)
theorem dJ27_next_41 : decode cJ27_next 41 = .ok (.aload_n 1, 1) := dk_43 (dk_at dksJ27_next_1 17 rfl rfl)
theorem dJ27_next_42 : decode cJ27_next 42 = .ok (.invokespecial 43, 3) := dk_183 0 43 (dk_at dksJ27_next_1 18 rfl rfl)
theorem dJ27_next_45 : decode cJ27_next 45 = .ok (.athrow, 1) := dk_191 (dk_at dksJ27_next_1 21 rfl rfl)
abbrev cJ27_checkForComodification : ByteArray := prog_54_method_5_code
def yJ27_checkForComodification : MethodName := ⟨RJ27, "checkForComodification", "()V"⟩
def dkwJ27_checkForComodification_0 : List UInt8 := [42, 180, 0, 1, 180, 0, 20, 42, 180, 0, 25, 159, 0, 11, 187, 0, 52, 89, 183, 0, 54, 191, 177]
abbrev dktJ27_checkForComodification_0 : List UInt8 := dkwJ27_checkForComodification_0 ++ []
theorem dksJ27_checkForComodification_0 : cJ27_checkForComodification.data.toList.drop 0 = dktJ27_checkForComodification_0 := by decide +kernel
theorem dJ27_checkForComodification_0 : decode cJ27_checkForComodification 0 = .ok (.aload_n 0, 1) := dk_42 (dk_at dksJ27_checkForComodification_0 0 rfl rfl)
theorem dJ27_checkForComodification_1 : decode cJ27_checkForComodification 1 = .ok (.getfield 1, 3) := dk_180 0 1 (dk_at dksJ27_checkForComodification_0 1 rfl rfl)
theorem dJ27_checkForComodification_4 : decode cJ27_checkForComodification 4 = .ok (.getfield 20, 3) := dk_180 0 20 (dk_at dksJ27_checkForComodification_0 4 rfl rfl)
theorem dJ27_checkForComodification_7 : decode cJ27_checkForComodification 7 = .ok (.aload_n 0, 1) := dk_42 (dk_at dksJ27_checkForComodification_0 7 rfl rfl)
theorem dJ27_checkForComodification_8 : decode cJ27_checkForComodification 8 = .ok (.getfield 25, 3) := dk_180 0 25 (dk_at dksJ27_checkForComodification_0 8 rfl rfl)
theorem dJ27_checkForComodification_11 : decode cJ27_checkForComodification 11 = .ok (.if_icmp .eq 11, 3) := dk_159 0 11 (dk_at dksJ27_checkForComodification_0 11 rfl rfl)
theorem dJ27_checkForComodification_14 : decode cJ27_checkForComodification 14 = .ok (.new 52, 3) := dk_187 0 52 (dk_at dksJ27_checkForComodification_0 14 rfl rfl)
theorem dJ27_checkForComodification_17 : decode cJ27_checkForComodification 17 = .ok (.dup, 1) := dk_89 (dk_at dksJ27_checkForComodification_0 17 rfl rfl)
theorem dJ27_checkForComodification_18 : decode cJ27_checkForComodification 18 = .ok (.invokespecial 54, 3) := dk_183 0 54 (dk_at dksJ27_checkForComodification_0 18 rfl rfl)
theorem dJ27_checkForComodification_21 : decode cJ27_checkForComodification 21 = .ok (.athrow, 1) := dk_191 (dk_at dksJ27_checkForComodification_0 21 rfl rfl)
theorem dJ27_checkForComodification_22 : decode cJ27_checkForComodification 22 = .ok (.return_, 1) := dk_177 (dk_at dksJ27_checkForComodification_0 22 rfl rfl)
theorem q134 : (Jvm.Cond.initialized "java/util/AbstractList$Itr") ∈ lw_all := lw_g (lw_at lw_m1 34 rfl) rfl
theorem q206 : (Jvm.Cond.fieldLink "java/util/AbstractList$Itr" (20 : Nat) "java/util/AbstractList" "modCount" "I") ∈ lw_all := lw_g (lw_at lw_m1 106 rfl) rfl
theorem q823 : (Jvm.Cond.instanceMethod ({ cls := "java/util/AbstractList$Itr", name := "hasNext", desc := "()Z" } : Jvm.MethodName)) ∈ lw_all := lw_g (lw_at lw_m4 3 rfl) rfl
theorem q824 : (Jvm.Cond.publicMethod ({ cls := "java/util/AbstractList$Itr", name := "hasNext", desc := "()Z" } : Jvm.MethodName)) ∈ lw_tbl := lw_at lw_m4 4 rfl
theorem q825 : (Jvm.Cond.code ({ cls := "java/util/AbstractList$Itr", name := "hasNext", desc := "()Z" } : Jvm.MethodName) prog_54_method_2_code (1 : Nat) (Option.some Jvm.ClassFile.FieldType.boolean)) ∈ lw_all := lw_g (lw_at lw_m4 5 rfl) rfl
theorem q826 : (Jvm.Cond.methodLink "java/util/AbstractList$Itr" (28 : Nat) ({ cls := "java/util/AbstractList", name := "size", desc := "()I" } : Jvm.MethodName)) ∈ lw_all := lw_g (lw_at lw_m4 6 rfl) rfl
theorem q945 : (Jvm.Cond.instanceMethod ({ cls := "java/util/AbstractList$Itr", name := "next", desc := "()Ljava/lang/Object;" } : Jvm.MethodName)) ∈ lw_all := lw_g (lw_at lw_m4 125 rfl) rfl
theorem q946 : (Jvm.Cond.publicMethod ({ cls := "java/util/AbstractList$Itr", name := "next", desc := "()Ljava/lang/Object;" } : Jvm.MethodName)) ∈ lw_tbl := lw_at lw_m4 126 rfl
theorem q947 : (Jvm.Cond.codeWith ({ cls := "java/util/AbstractList$Itr", name := "next", desc := "()Ljava/lang/Object;" } : Jvm.MethodName) prog_54_method_3_code (3 : Nat) (Option.some (Jvm.ClassFile.FieldType.object "java/lang/Object")) [((4 : Nat), (31 : Nat), (32 : Nat), (39 : Nat))]) ∈ lw_all := lw_g (lw_at lw_m4 127 rfl) rfl
theorem q948 : (Jvm.Cond.methodLink "java/util/AbstractList$Itr" (32 : Nat) ({ cls := "java/util/AbstractList$Itr", name := "checkForComodification", desc := "()V" } : Jvm.MethodName)) ∈ lw_all := lw_g (lw_at lw_m4 128 rfl) rfl
theorem q949 : (Jvm.Cond.instanceMethod ({ cls := "java/util/AbstractList$Itr", name := "checkForComodification", desc := "()V" } : Jvm.MethodName)) ∈ lw_all := lw_g (lw_at lw_m4 129 rfl) rfl
theorem q950 : (Jvm.Cond.sameMethod "java/util/AbstractList$Itr" "java/util/AbstractList$Itr" "checkForComodification" "()V") ∈ lw_all := lw_g (lw_at lw_m4 130 rfl) rfl
theorem q952 : (Jvm.Cond.code ({ cls := "java/util/AbstractList$Itr", name := "checkForComodification", desc := "()V" } : Jvm.MethodName) prog_54_method_5_code (1 : Nat) (Option.none : Option Jvm.ClassFile.FieldType)) ∈ lw_all := lw_g (lw_at lw_m4 132 rfl) rfl
theorem q953 : (Jvm.Cond.methodLink "java/util/AbstractList$Itr" (35 : Nat) ({ cls := "java/util/AbstractList", name := "get", desc := "(I)Ljava/lang/Object;" } : Jvm.MethodName)) ∈ lw_all := lw_g (lw_at lw_m4 133 rfl) rfl
theorem q958 : (Jvm.Cond.classLink "java/util/AbstractList$Itr" (41 : Nat) "java/util/NoSuchElementException") ∈ lw_all := lw_g (lw_at lw_m4 138 rfl) rfl
theorem q959 : (Jvm.Cond.methodLink "java/util/AbstractList$Itr" (43 : Nat) ({ cls := "java/util/NoSuchElementException", name := "<init>", desc := "(Ljava/lang/Throwable;)V" } : Jvm.MethodName)) ∈ lw_all := lw_g (lw_at lw_m4 139 rfl) rfl
theorem q4298 : (Jvm.Cond.fieldLink "java/util/AbstractList$Itr" (1 : Nat) "java/util/AbstractList$Itr" "this$0" "Ljava/util/AbstractList;") ∈ lw_all := lw_g (lw_at lw_m18 118 rfl) rfl
theorem q4299 : (Jvm.Cond.fieldLink "java/util/AbstractList$Itr" (13 : Nat) "java/util/AbstractList$Itr" "cursor" "I") ∈ lw_all := lw_g (lw_at lw_m18 119 rfl) rfl
theorem q4300 : (Jvm.Cond.fieldLink "java/util/AbstractList$Itr" (17 : Nat) "java/util/AbstractList$Itr" "lastRet" "I") ∈ lw_all := lw_g (lw_at lw_m18 120 rfl) rfl
theorem q4301 : (Jvm.Cond.fieldLink "java/util/AbstractList$Itr" (25 : Nat) "java/util/AbstractList$Itr" "expectedModCount" "I") ∈ lw_all := lw_g (lw_at lw_m18 121 rfl) rfl
