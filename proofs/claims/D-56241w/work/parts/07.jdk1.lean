/-! java/util/AbstractCollection -/
set_option maxRecDepth 100000
def RJ0 : String := "java/util/AbstractCollection"
abbrev cJ0_init : ByteArray := prog_52_method_1_code
def yJ0_init : MethodName := ⟨RJ0, "<init>", "()V"⟩
theorem dJ0_init_0 : decode cJ0_init 0 = .ok (.aload_n 0, 1) := by decide +kernel
theorem dJ0_init_1 : decode cJ0_init 1 = .ok (.invokespecial 1, 3) := by decide +kernel
theorem dJ0_init_4 : decode cJ0_init 4 = .ok (.return_, 1) := by decide +kernel
abbrev cJ0_isEmpty : ByteArray := prog_52_method_4_code
def yJ0_isEmpty : MethodName := ⟨RJ0, "isEmpty", "()Z"⟩
def dkwJ0_isEmpty_0 : List UInt8 := [42, 182, 0, 7, 154, 0, 7, 4, 167, 0, 4, 3, 172]
abbrev dktJ0_isEmpty_0 : List UInt8 := dkwJ0_isEmpty_0 ++ []
theorem dksJ0_isEmpty_0 : cJ0_isEmpty.data.toList.drop 0 = dktJ0_isEmpty_0 := by decide +kernel
theorem dJ0_isEmpty_0 : decode cJ0_isEmpty 0 = .ok (.aload_n 0, 1) := dk_42 (dk_at dksJ0_isEmpty_0 0 rfl rfl)
theorem dJ0_isEmpty_1 : decode cJ0_isEmpty 1 = .ok (.invokevirtual 7, 3) := dk_182 0 7 (dk_at dksJ0_isEmpty_0 1 rfl rfl)
theorem dJ0_isEmpty_4 : decode cJ0_isEmpty 4 = .ok (.ifCond .ne 7, 3) := dk_154 0 7 (dk_at dksJ0_isEmpty_0 4 rfl rfl)
theorem dJ0_isEmpty_7 : decode cJ0_isEmpty 7 = .ok (.iconst 1, 1) := dk_4 (dk_at dksJ0_isEmpty_0 7 rfl rfl)
theorem dJ0_isEmpty_8 : decode cJ0_isEmpty 8 = .ok (.goto 4, 3) := dk_167 0 4 (dk_at dksJ0_isEmpty_0 8 rfl rfl)
theorem dJ0_isEmpty_11 : decode cJ0_isEmpty 11 = .ok (.iconst 0, 1) := dk_3 (dk_at dksJ0_isEmpty_0 11 rfl rfl)
theorem dJ0_isEmpty_12 : decode cJ0_isEmpty 12 = .ok (.ireturn, 1) := dk_172 (dk_at dksJ0_isEmpty_0 12 rfl rfl)
abbrev cJ0_toArray : ByteArray := prog_52_method_6_code
def yJ0_toArray : MethodName := ⟨RJ0, "toArray", "()[Ljava/lang/Object;"⟩
def dkwJ0_toArray_3 : List UInt8 := [176]
abbrev dktJ0_toArray_3 : List UInt8 := dkwJ0_toArray_3 ++ []
def dkwJ0_toArray_2 : List UInt8 := [132, 3, 1, 167, 255, 223, 44, 185, 0, 17, 1, 0, 153, 0, 11, 43, 44, 184, 0, 37, 167, 0, 4, 43]
abbrev dktJ0_toArray_2 : List UInt8 := dkwJ0_toArray_2 ++ dktJ0_toArray_3
def dkwJ0_toArray_1 : List UInt8 := [185, 0, 17, 1, 0, 154, 0, 9, 43, 29, 184, 0, 31, 176, 43, 29, 44, 185, 0, 23, 1, 0, 83]
abbrev dktJ0_toArray_1 : List UInt8 := dkwJ0_toArray_1 ++ dktJ0_toArray_2
def dkwJ0_toArray_0 : List UInt8 := [42, 182, 0, 7, 189, 0, 2, 76, 42, 182, 0, 13, 77, 3, 62, 29, 43, 190, 162, 0, 33, 44]
abbrev dktJ0_toArray_0 : List UInt8 := dkwJ0_toArray_0 ++ dktJ0_toArray_1
theorem dksJ0_toArray_0 : cJ0_toArray.data.toList.drop 0 = dktJ0_toArray_0 := by decide +kernel
theorem dksJ0_toArray_1 : cJ0_toArray.data.toList.drop 22 = dktJ0_toArray_1 := dk_seg dksJ0_toArray_0 22 rfl rfl
theorem dksJ0_toArray_2 : cJ0_toArray.data.toList.drop 45 = dktJ0_toArray_2 := dk_seg dksJ0_toArray_1 23 rfl rfl
theorem dksJ0_toArray_3 : cJ0_toArray.data.toList.drop 69 = dktJ0_toArray_3 := dk_seg dksJ0_toArray_2 24 rfl rfl
theorem dJ0_toArray_0 : decode cJ0_toArray 0 = .ok (.aload_n 0, 1) := dk_42 (dk_at dksJ0_toArray_0 0 rfl rfl)
theorem dJ0_toArray_1 : decode cJ0_toArray 1 = .ok (.invokevirtual 7, 3) := dk_182 0 7 (dk_at dksJ0_toArray_0 1 rfl rfl)
theorem dJ0_toArray_4 : decode cJ0_toArray 4 = .ok (.anewarray 2, 3) := dk_189 0 2 (dk_at dksJ0_toArray_0 4 rfl rfl)
theorem dJ0_toArray_7 : decode cJ0_toArray 7 = .ok (.astore_n 1, 1) := dk_76 (dk_at dksJ0_toArray_0 7 rfl rfl)
theorem dJ0_toArray_8 : decode cJ0_toArray 8 = .ok (.aload_n 0, 1) := dk_42 (dk_at dksJ0_toArray_0 8 rfl rfl)
theorem dJ0_toArray_9 : decode cJ0_toArray 9 = .ok (.invokevirtual 13, 3) := dk_182 0 13 (dk_at dksJ0_toArray_0 9 rfl rfl)
theorem dJ0_toArray_12 : decode cJ0_toArray 12 = .ok (.astore_n 2, 1) := dk_77 (dk_at dksJ0_toArray_0 12 rfl rfl)
theorem dJ0_toArray_13 : decode cJ0_toArray 13 = .ok (.iconst 0, 1) := dk_3 (dk_at dksJ0_toArray_0 13 rfl rfl)
theorem dJ0_toArray_14 : decode cJ0_toArray 14 = .ok (.istore_n 3, 1) := dk_62 (dk_at dksJ0_toArray_0 14 rfl rfl)
theorem dJ0_toArray_15 : decode cJ0_toArray 15 = .ok (.iload_n 3, 1) := dk_29 (dk_at dksJ0_toArray_0 15 rfl rfl)
theorem dJ0_toArray_16 : decode cJ0_toArray 16 = .ok (.aload_n 1, 1) := dk_43 (dk_at dksJ0_toArray_0 16 rfl rfl)
theorem dJ0_toArray_17 : decode cJ0_toArray 17 = .ok (.arraylength, 1) := dk_190 (dk_at dksJ0_toArray_0 17 rfl rfl)
theorem dJ0_toArray_18 : decode cJ0_toArray 18 = .ok (.if_icmp .ge 33, 3) := dk_162 0 33 (dk_at dksJ0_toArray_0 18 rfl rfl)
theorem dJ0_toArray_21 : decode cJ0_toArray 21 = .ok (.aload_n 2, 1) := dk_44 (dk_at dksJ0_toArray_0 21 rfl rfl)
theorem dJ0_toArray_22 : decode cJ0_toArray 22 = .ok (.invokeinterface 17 1, 5) := by decide +kernel
theorem dJ0_toArray_27 : decode cJ0_toArray 27 = .ok (.ifCond .ne 9, 3) := dk_154 0 9 (dk_at dksJ0_toArray_1 5 rfl rfl)
theorem dJ0_toArray_30 : decode cJ0_toArray 30 = .ok (.aload_n 1, 1) := dk_43 (dk_at dksJ0_toArray_1 8 rfl rfl)
theorem dJ0_toArray_31 : decode cJ0_toArray 31 = .ok (.iload_n 3, 1) := dk_29 (dk_at dksJ0_toArray_1 9 rfl rfl)
theorem dJ0_toArray_32 : decode cJ0_toArray 32 = .ok (.invokestatic 31, 3) := dk_184 0 31 (dk_at dksJ0_toArray_1 10 rfl rfl)
theorem dJ0_toArray_35 : decode cJ0_toArray 35 = .ok (.areturn, 1) := dk_176 (dk_at dksJ0_toArray_1 13 rfl rfl)
theorem dJ0_toArray_36 : decode cJ0_toArray 36 = .ok (.aload_n 1, 1) := dk_43 (dk_at dksJ0_toArray_1 14 rfl rfl)
theorem dJ0_toArray_37 : decode cJ0_toArray 37 = .ok (.iload_n 3, 1) := dk_29 (dk_at dksJ0_toArray_1 15 rfl rfl)
theorem dJ0_toArray_38 : decode cJ0_toArray 38 = .ok (.aload_n 2, 1) := dk_44 (dk_at dksJ0_toArray_1 16 rfl rfl)
theorem dJ0_toArray_39 : decode cJ0_toArray 39 = .ok (.invokeinterface 23 1, 5) := by decide +kernel
theorem dJ0_toArray_44 : decode cJ0_toArray 44 = .ok (.aastore, 1) := dk_83 (dk_at dksJ0_toArray_1 22 rfl rfl)
theorem dJ0_toArray_45 : decode cJ0_toArray 45 = .ok (.iinc 3 1, 3) := dk_132 3 1 (dk_at dksJ0_toArray_2 0 rfl rfl)
theorem dJ0_toArray_48 : decode cJ0_toArray 48 = .ok (.goto (-33), 3) := dk_167 255 223 (dk_at dksJ0_toArray_2 3 rfl rfl)
theorem dJ0_toArray_51 : decode cJ0_toArray 51 = .ok (.aload_n 2, 1) := dk_44 (dk_at dksJ0_toArray_2 6 rfl rfl)
theorem dJ0_toArray_52 : decode cJ0_toArray 52 = .ok (.invokeinterface 17 1, 5) := by decide +kernel
theorem dJ0_toArray_57 : decode cJ0_toArray 57 = .ok (.ifCond .eq 11, 3) := dk_153 0 11 (dk_at dksJ0_toArray_2 12 rfl rfl)
theorem dJ0_toArray_60 : decode cJ0_toArray 60 = .ok (.aload_n 1, 1) := dk_43 (dk_at dksJ0_toArray_2 15 rfl rfl)
theorem dJ0_toArray_61 : decode cJ0_toArray 61 = .ok (.aload_n 2, 1) := dk_44 (dk_at dksJ0_toArray_2 16 rfl rfl)
theorem dJ0_toArray_62 : decode cJ0_toArray 62 = .ok (.invokestatic 37, 3) := dk_184 0 37 (dk_at dksJ0_toArray_2 17 rfl rfl)
theorem dJ0_toArray_65 : decode cJ0_toArray 65 = .ok (.goto 4, 3) := dk_167 0 4 (dk_at dksJ0_toArray_2 20 rfl rfl)
theorem dJ0_toArray_68 : decode cJ0_toArray 68 = .ok (.aload_n 1, 1) := dk_43 (dk_at dksJ0_toArray_2 23 rfl rfl)
theorem dJ0_toArray_69 : decode cJ0_toArray 69 = .ok (.areturn, 1) := dk_176 (dk_at dksJ0_toArray_3 0 rfl rfl)
abbrev cJ0_finishToArray : ByteArray := prog_52_method_8_code
def yJ0_finishToArray : MethodName := ⟨RJ0, "finishToArray", "([Ljava/lang/Object;Ljava/util/Iterator;)[Ljava/lang/Object;"⟩
def dkwJ0_finishToArray_2 : List UInt8 := [167, 255, 213, 29, 28, 160, 0, 7, 42, 167, 0, 8, 42, 29, 184, 0, 31, 176]
abbrev dktJ0_finishToArray_2 : List UInt8 := dkwJ0_finishToArray_2 ++ []
def dkwJ0_finishToArray_1 : List UInt8 := [4, 96, 184, 0, 64, 61, 42, 28, 184, 0, 31, 75, 42, 29, 132, 3, 1, 43, 185, 0, 23, 1, 0, 83]
abbrev dktJ0_finishToArray_1 : List UInt8 := dkwJ0_finishToArray_1 ++ dktJ0_finishToArray_2
def dkwJ0_finishToArray_0 : List UInt8 := [42, 190, 61, 28, 62, 43, 185, 0, 17, 1, 0, 153, 0, 40, 29, 28, 160, 0, 20, 28, 4, 28, 4, 122]
abbrev dktJ0_finishToArray_0 : List UInt8 := dkwJ0_finishToArray_0 ++ dktJ0_finishToArray_1
theorem dksJ0_finishToArray_0 : cJ0_finishToArray.data.toList.drop 0 = dktJ0_finishToArray_0 := by decide +kernel
theorem dksJ0_finishToArray_1 : cJ0_finishToArray.data.toList.drop 24 = dktJ0_finishToArray_1 := dk_seg dksJ0_finishToArray_0 24 rfl rfl
theorem dksJ0_finishToArray_2 : cJ0_finishToArray.data.toList.drop 48 = dktJ0_finishToArray_2 := dk_seg dksJ0_finishToArray_1 24 rfl rfl
theorem dJ0_finishToArray_0 : decode cJ0_finishToArray 0 = .ok (.aload_n 0, 1) := dk_42 (dk_at dksJ0_finishToArray_0 0 rfl rfl)
theorem dJ0_finishToArray_1 : decode cJ0_finishToArray 1 = .ok (.arraylength, 1) := dk_190 (dk_at dksJ0_finishToArray_0 1 rfl rfl)
theorem dJ0_finishToArray_2 : decode cJ0_finishToArray 2 = .ok (.istore_n 2, 1) := dk_61 (dk_at dksJ0_finishToArray_0 2 rfl rfl)
theorem dJ0_finishToArray_3 : decode cJ0_finishToArray 3 = .ok (.iload_n 2, 1) := dk_28 (dk_at dksJ0_finishToArray_0 3 rfl rfl)
theorem dJ0_finishToArray_4 : decode cJ0_finishToArray 4 = .ok (.istore_n 3, 1) := dk_62 (dk_at dksJ0_finishToArray_0 4 rfl rfl)
theorem dJ0_finishToArray_5 : decode cJ0_finishToArray 5 = .ok (.aload_n 1, 1) := dk_43 (dk_at dksJ0_finishToArray_0 5 rfl rfl)
theorem dJ0_finishToArray_6 : decode cJ0_finishToArray 6 = .ok (.invokeinterface 17 1, 5) := by decide +kernel
theorem dJ0_finishToArray_11 : decode cJ0_finishToArray 11 = .ok (.ifCond .eq 40, 3) := dk_153 0 40 (dk_at dksJ0_finishToArray_0 11 rfl rfl)
theorem dJ0_finishToArray_14 : decode cJ0_finishToArray 14 = .ok (.iload_n 3, 1) := dk_29 (dk_at dksJ0_finishToArray_0 14 rfl rfl)
theorem dJ0_finishToArray_15 : decode cJ0_finishToArray 15 = .ok (.iload_n 2, 1) := dk_28 (dk_at dksJ0_finishToArray_0 15 rfl rfl)
theorem dJ0_finishToArray_16 : decode cJ0_finishToArray 16 = .ok (.if_icmp .ne 20, 3) := dk_160 0 20 (dk_at dksJ0_finishToArray_0 16 rfl rfl)
theorem dJ0_finishToArray_19 : decode cJ0_finishToArray 19 = .ok (.iload_n 2, 1) := dk_28 (dk_at dksJ0_finishToArray_0 19 rfl rfl)
theorem dJ0_finishToArray_20 : decode cJ0_finishToArray 20 = .ok (.iconst 1, 1) := dk_4 (dk_at dksJ0_finishToArray_0 20 rfl rfl)
theorem dJ0_finishToArray_21 : decode cJ0_finishToArray 21 = .ok (.iload_n 2, 1) := dk_28 (dk_at dksJ0_finishToArray_0 21 rfl rfl)
theorem dJ0_finishToArray_22 : decode cJ0_finishToArray 22 = .ok (.iconst 1, 1) := dk_4 (dk_at dksJ0_finishToArray_0 22 rfl rfl)
theorem dJ0_finishToArray_23 : decode cJ0_finishToArray 23 = .ok (.ishr, 1) := dk_122 (dk_at dksJ0_finishToArray_0 23 rfl rfl)
theorem dJ0_finishToArray_24 : decode cJ0_finishToArray 24 = .ok (.iconst 1, 1) := dk_4 (dk_at dksJ0_finishToArray_1 0 rfl rfl)
theorem dJ0_finishToArray_25 : decode cJ0_finishToArray 25 = .ok (.iadd, 1) := dk_96 (dk_at dksJ0_finishToArray_1 1 rfl rfl)
theorem dJ0_finishToArray_26 : decode cJ0_finishToArray 26 = .ok (.invokestatic 64, 3) := dk_184 0 64 (dk_at dksJ0_finishToArray_1 2 rfl rfl)
theorem dJ0_finishToArray_29 : decode cJ0_finishToArray 29 = .ok (.istore_n 2, 1) := dk_61 (dk_at dksJ0_finishToArray_1 5 rfl rfl)
theorem dJ0_finishToArray_30 : decode cJ0_finishToArray 30 = .ok (.aload_n 0, 1) := dk_42 (dk_at dksJ0_finishToArray_1 6 rfl rfl)
theorem dJ0_finishToArray_31 : decode cJ0_finishToArray 31 = .ok (.iload_n 2, 1) := dk_28 (dk_at dksJ0_finishToArray_1 7 rfl rfl)
theorem dJ0_finishToArray_32 : decode cJ0_finishToArray 32 = .ok (.invokestatic 31, 3) := dk_184 0 31 (dk_at dksJ0_finishToArray_1 8 rfl rfl)
theorem dJ0_finishToArray_35 : decode cJ0_finishToArray 35 = .ok (.astore_n 0, 1) := dk_75 (dk_at dksJ0_finishToArray_1 11 rfl rfl)
theorem dJ0_finishToArray_36 : decode cJ0_finishToArray 36 = .ok (.aload_n 0, 1) := dk_42 (dk_at dksJ0_finishToArray_1 12 rfl rfl)
theorem dJ0_finishToArray_37 : decode cJ0_finishToArray 37 = .ok (.iload_n 3, 1) := dk_29 (dk_at dksJ0_finishToArray_1 13 rfl rfl)
theorem dJ0_finishToArray_38 : decode cJ0_finishToArray 38 = .ok (.iinc 3 1, 3) := dk_132 3 1 (dk_at dksJ0_finishToArray_1 14 rfl rfl)
theorem dJ0_finishToArray_41 : decode cJ0_finishToArray 41 = .ok (.aload_n 1, 1) := dk_43 (dk_at dksJ0_finishToArray_1 17 rfl rfl)
theorem dJ0_finishToArray_42 : decode cJ0_finishToArray 42 = .ok (.invokeinterface 23 1, 5) := by decide +kernel
theorem dJ0_finishToArray_47 : decode cJ0_finishToArray 47 = .ok (.aastore, 1) := dk_83 (dk_at dksJ0_finishToArray_1 23 rfl rfl)
theorem dJ0_finishToArray_48 : decode cJ0_finishToArray 48 = .ok (.goto (-43), 3) := dk_167 255 213 (dk_at dksJ0_finishToArray_2 0 rfl rfl)
theorem dJ0_finishToArray_51 : decode cJ0_finishToArray 51 = .ok (.iload_n 3, 1) := dk_29 (dk_at dksJ0_finishToArray_2 3 rfl rfl)
theorem dJ0_finishToArray_52 : decode cJ0_finishToArray 52 = .ok (.iload_n 2, 1) := dk_28 (dk_at dksJ0_finishToArray_2 4 rfl rfl)
theorem dJ0_finishToArray_53 : decode cJ0_finishToArray 53 = .ok (.if_icmp .ne 7, 3) := dk_160 0 7 (dk_at dksJ0_finishToArray_2 5 rfl rfl)
theorem dJ0_finishToArray_56 : decode cJ0_finishToArray 56 = .ok (.aload_n 0, 1) := dk_42 (dk_at dksJ0_finishToArray_2 8 rfl rfl)
theorem dJ0_finishToArray_57 : decode cJ0_finishToArray 57 = .ok (.goto 8, 3) := dk_167 0 8 (dk_at dksJ0_finishToArray_2 9 rfl rfl)
theorem dJ0_finishToArray_60 : decode cJ0_finishToArray 60 = .ok (.aload_n 0, 1) := dk_42 (dk_at dksJ0_finishToArray_2 12 rfl rfl)
theorem dJ0_finishToArray_61 : decode cJ0_finishToArray 61 = .ok (.iload_n 3, 1) := dk_29 (dk_at dksJ0_finishToArray_2 13 rfl rfl)
theorem dJ0_finishToArray_62 : decode cJ0_finishToArray 62 = .ok (.invokestatic 31, 3) := dk_184 0 31 (dk_at dksJ0_finishToArray_2 14 rfl rfl)
theorem dJ0_finishToArray_65 : decode cJ0_finishToArray 65 = .ok (.areturn, 1) := dk_176 (dk_at dksJ0_finishToArray_2 17 rfl rfl)
theorem q102 : (Jvm.Cond.initialized "java/util/AbstractCollection") ∈ lw_all := lw_g (lw_at lw_m1 2 rfl) rfl
theorem q194 : (Jvm.Cond.instanceMethod ({ cls := "java/util/AbstractCollection", name := "<init>", desc := "()V" } : Jvm.MethodName)) ∈ lw_all := lw_g (lw_at lw_m1 94 rfl) rfl
theorem q195 : (Jvm.Cond.code ({ cls := "java/util/AbstractCollection", name := "<init>", desc := "()V" } : Jvm.MethodName) prog_52_method_1_code (1 : Nat) (Option.none : Option Jvm.ClassFile.FieldType)) ∈ lw_all := lw_g (lw_at lw_m1 95 rfl) rfl
theorem q196 : (Jvm.Cond.methodLink "java/util/AbstractCollection" (1 : Nat) ({ cls := "java/lang/Object", name := "<init>", desc := "()V" } : Jvm.MethodName)) ∈ lw_all := lw_g (lw_at lw_m1 96 rfl) rfl
theorem q828 : (Jvm.Cond.declares ({ cls := "java/util/AbstractCollection", name := "size", desc := "()I" } : Jvm.MethodName)) ∈ lw_tbl := lw_at lw_m4 8 rfl
theorem q1759 : (Jvm.Cond.declares ({ cls := "java/util/AbstractCollection", name := "isEmpty", desc := "()Z" } : Jvm.MethodName)) ∈ lw_tbl := lw_at lw_m7 219 rfl
theorem q1761 : (Jvm.Cond.instanceMethod ({ cls := "java/util/AbstractCollection", name := "isEmpty", desc := "()Z" } : Jvm.MethodName)) ∈ lw_all := lw_g (lw_at lw_m7 221 rfl) rfl
theorem q1762 : (Jvm.Cond.code ({ cls := "java/util/AbstractCollection", name := "isEmpty", desc := "()Z" } : Jvm.MethodName) prog_52_method_4_code (1 : Nat) (Option.some Jvm.ClassFile.FieldType.boolean)) ∈ lw_all := lw_g (lw_at lw_m7 222 rfl) rfl
theorem q1763 : (Jvm.Cond.methodLink "java/util/AbstractCollection" (7 : Nat) ({ cls := "java/util/AbstractCollection", name := "size", desc := "()I" } : Jvm.MethodName)) ∈ lw_all := lw_g (lw_at lw_m7 223 rfl) rfl
theorem q3009 : (Jvm.Cond.instanceMethod ({ cls := "java/util/AbstractCollection", name := "toArray", desc := "()[Ljava/lang/Object;" } : Jvm.MethodName)) ∈ lw_all := lw_g (lw_at lw_m13 29 rfl) rfl
theorem q3010 : (Jvm.Cond.publicMethod ({ cls := "java/util/AbstractCollection", name := "toArray", desc := "()[Ljava/lang/Object;" } : Jvm.MethodName)) ∈ lw_tbl := lw_at lw_m13 30 rfl
theorem q3011 : (Jvm.Cond.code ({ cls := "java/util/AbstractCollection", name := "toArray", desc := "()[Ljava/lang/Object;" } : Jvm.MethodName) prog_52_method_6_code (4 : Nat) (Option.some (Jvm.ClassFile.FieldType.array (Jvm.ClassFile.FieldType.object "java/lang/Object")))) ∈ lw_all := lw_g (lw_at lw_m13 31 rfl) rfl
theorem q3012 : (Jvm.Cond.classLink "java/util/AbstractCollection" (2 : Nat) "java/lang/Object") ∈ lw_all := lw_g (lw_at lw_m13 32 rfl) rfl
theorem q3013 : (Jvm.Cond.methodLink "java/util/AbstractCollection" (13 : Nat) ({ cls := "java/util/AbstractCollection", name := "iterator", desc := "()Ljava/util/Iterator;" } : Jvm.MethodName)) ∈ lw_all := lw_g (lw_at lw_m13 33 rfl) rfl
theorem q3014 : (Jvm.Cond.declares ({ cls := "java/util/AbstractCollection", name := "iterator", desc := "()Ljava/util/Iterator;" } : Jvm.MethodName)) ∈ lw_tbl := lw_at lw_m13 34 rfl
theorem q3015 : (Jvm.Cond.sameMethod "java/util/AbstractCollection" "java/util/AbstractCollection" "iterator" "()Ljava/util/Iterator;") ∈ lw_all := lw_g (lw_at lw_m13 35 rfl) rfl
theorem q3022 : (Jvm.Cond.interfaceEntry "java/util/AbstractCollection" (17 : Nat)) ∈ lw_tbl := lw_at lw_m13 42 rfl
theorem q3023 : (Jvm.Cond.methodLink "java/util/AbstractCollection" (17 : Nat) ({ cls := "java/util/Iterator", name := "hasNext", desc := "()Z" } : Jvm.MethodName)) ∈ lw_all := lw_g (lw_at lw_m13 43 rfl) rfl
theorem q3024 : (Jvm.Cond.methodLink "java/util/AbstractCollection" (31 : Nat) ({ cls := "java/util/Arrays", name := "copyOf", desc := "([Ljava/lang/Object;I)[Ljava/lang/Object;" } : Jvm.MethodName)) ∈ lw_all := lw_g (lw_at lw_m13 44 rfl) rfl
theorem q3025 : (Jvm.Cond.interfaceEntry "java/util/AbstractCollection" (23 : Nat)) ∈ lw_tbl := lw_at lw_m13 45 rfl
theorem q3026 : (Jvm.Cond.methodLink "java/util/AbstractCollection" (23 : Nat) ({ cls := "java/util/Iterator", name := "next", desc := "()Ljava/lang/Object;" } : Jvm.MethodName)) ∈ lw_all := lw_g (lw_at lw_m13 46 rfl) rfl
theorem q3027 : (Jvm.Cond.methodLink "java/util/AbstractCollection" (37 : Nat) ({ cls := "java/util/AbstractCollection", name := "finishToArray", desc := "([Ljava/lang/Object;Ljava/util/Iterator;)[Ljava/lang/Object;" } : Jvm.MethodName)) ∈ lw_all := lw_g (lw_at lw_m13 47 rfl) rfl
theorem q3028 : (Jvm.Cond.static ({ cls := "java/util/AbstractCollection", name := "finishToArray", desc := "([Ljava/lang/Object;Ljava/util/Iterator;)[Ljava/lang/Object;" } : Jvm.MethodName)) ∈ lw_all := lw_g (lw_at lw_m13 48 rfl) rfl
theorem q3029 : (Jvm.Cond.code ({ cls := "java/util/AbstractCollection", name := "finishToArray", desc := "([Ljava/lang/Object;Ljava/util/Iterator;)[Ljava/lang/Object;" } : Jvm.MethodName) prog_52_method_8_code (4 : Nat) (Option.some (Jvm.ClassFile.FieldType.array (Jvm.ClassFile.FieldType.object "java/lang/Object")))) ∈ lw_all := lw_g (lw_at lw_m13 49 rfl) rfl
theorem q3030 : (Jvm.Cond.methodLink "java/util/AbstractCollection" (64 : Nat) ({ cls := "jdk/internal/util/ArraysSupport", name := "newLength", desc := "(III)I" } : Jvm.MethodName)) ∈ lw_all := lw_g (lw_at lw_m13 50 rfl) rfl
theorem q4215 : (Jvm.Cond.sameMethod "java/util/AbstractCollection" "java/util/AbstractCollection" "size" "()I") ∈ lw_all := lw_g (lw_at lw_m18 35 rfl) rfl
/-! java/util/AbstractList -/
set_option maxRecDepth 100000
def RJ1 : String := "java/util/AbstractList"
abbrev cJ1_init : ByteArray := prog_53_method_1_code
def yJ1_init : MethodName := ⟨RJ1, "<init>", "()V"⟩
def dkwJ1_init_0 : List UInt8 := [42, 183, 0, 1, 42, 3, 181, 0, 7, 177]
abbrev dktJ1_init_0 : List UInt8 := dkwJ1_init_0 ++ []
theorem dksJ1_init_0 : cJ1_init.data.toList.drop 0 = dktJ1_init_0 := by decide +kernel
theorem dJ1_init_0 : decode cJ1_init 0 = .ok (.aload_n 0, 1) := dk_42 (dk_at dksJ1_init_0 0 rfl rfl)
theorem dJ1_init_1 : decode cJ1_init 1 = .ok (.invokespecial 1, 3) := dk_183 0 1 (dk_at dksJ1_init_0 1 rfl rfl)
theorem dJ1_init_4 : decode cJ1_init 4 = .ok (.aload_n 0, 1) := dk_42 (dk_at dksJ1_init_0 4 rfl rfl)
theorem dJ1_init_5 : decode cJ1_init 5 = .ok (.iconst 0, 1) := dk_3 (dk_at dksJ1_init_0 5 rfl rfl)
theorem dJ1_init_6 : decode cJ1_init 6 = .ok (.putfield 7, 3) := dk_181 0 7 (dk_at dksJ1_init_0 6 rfl rfl)
theorem dJ1_init_9 : decode cJ1_init 9 = .ok (.return_, 1) := dk_177 (dk_at dksJ1_init_0 9 rfl rfl)
abbrev cJ1_listIterator : ByteArray := prog_53_method_12_code
def yJ1_listIterator : MethodName := ⟨RJ1, "listIterator", "()Ljava/util/ListIterator;"⟩
def dkwJ1_listIterator_0 : List UInt8 := [42, 3, 182, 0, 47, 176]
abbrev dktJ1_listIterator_0 : List UInt8 := dkwJ1_listIterator_0 ++ []
theorem dksJ1_listIterator_0 : cJ1_listIterator.data.toList.drop 0 = dktJ1_listIterator_0 := by decide +kernel
theorem dJ1_listIterator_0 : decode cJ1_listIterator 0 = .ok (.aload_n 0, 1) := dk_42 (dk_at dksJ1_listIterator_0 0 rfl rfl)
theorem dJ1_listIterator_1 : decode cJ1_listIterator 1 = .ok (.iconst 0, 1) := dk_3 (dk_at dksJ1_listIterator_0 1 rfl rfl)
theorem dJ1_listIterator_2 : decode cJ1_listIterator 2 = .ok (.invokevirtual 47, 3) := dk_182 0 47 (dk_at dksJ1_listIterator_0 2 rfl rfl)
theorem dJ1_listIterator_5 : decode cJ1_listIterator 5 = .ok (.areturn, 1) := dk_176 (dk_at dksJ1_listIterator_0 5 rfl rfl)
theorem q103 : (Jvm.Cond.initialized "java/util/AbstractList") ∈ lw_all := lw_g (lw_at lw_m1 3 rfl) rfl
theorem q191 : (Jvm.Cond.instanceMethod ({ cls := "java/util/AbstractList", name := "<init>", desc := "()V" } : Jvm.MethodName)) ∈ lw_all := lw_g (lw_at lw_m1 91 rfl) rfl
theorem q192 : (Jvm.Cond.code ({ cls := "java/util/AbstractList", name := "<init>", desc := "()V" } : Jvm.MethodName) prog_53_method_1_code (1 : Nat) (Option.none : Option Jvm.ClassFile.FieldType)) ∈ lw_all := lw_g (lw_at lw_m1 92 rfl) rfl
theorem q193 : (Jvm.Cond.methodLink "java/util/AbstractList" (1 : Nat) ({ cls := "java/util/AbstractCollection", name := "<init>", desc := "()V" } : Jvm.MethodName)) ∈ lw_all := lw_g (lw_at lw_m1 93 rfl) rfl
theorem q201 : (Jvm.Cond.fieldLink "java/util/AbstractList" (7 : Nat) "java/util/AbstractList" "modCount" "I") ∈ lw_all := lw_g (lw_at lw_m1 101 rfl) rfl
theorem q216 : (Jvm.Cond.soleField "java/util/AbstractList" "modCount") ∈ lw_all := lw_g (lw_at lw_m1 116 rfl) rfl
theorem q827 : (Jvm.Cond.sameMethod "java/util/AbstractList" "java/util/AbstractCollection" "size" "()I") ∈ lw_all := lw_g (lw_at lw_m4 7 rfl) rfl
theorem q954 : (Jvm.Cond.declares ({ cls := "java/util/AbstractList", name := "get", desc := "(I)Ljava/lang/Object;" } : Jvm.MethodName)) ∈ lw_tbl := lw_at lw_m4 134 rfl
theorem q955 : (Jvm.Cond.sameMethod "java/util/AbstractList" "java/util/AbstractList" "get" "(I)Ljava/lang/Object;") ∈ lw_all := lw_g (lw_at lw_m4 135 rfl) rfl
theorem q1359 : (Jvm.Cond.declares ({ cls := "java/util/AbstractList", name := "listIterator", desc := "()Ljava/util/ListIterator;" } : Jvm.MethodName)) ∈ lw_tbl := lw_at lw_m6 59 rfl
theorem q1361 : (Jvm.Cond.instanceMethod ({ cls := "java/util/AbstractList", name := "listIterator", desc := "()Ljava/util/ListIterator;" } : Jvm.MethodName)) ∈ lw_all := lw_g (lw_at lw_m6 61 rfl) rfl
theorem q1362 : (Jvm.Cond.code ({ cls := "java/util/AbstractList", name := "listIterator", desc := "()Ljava/util/ListIterator;" } : Jvm.MethodName) prog_53_method_12_code (1 : Nat) (Option.some (Jvm.ClassFile.FieldType.object "java/util/ListIterator"))) ∈ lw_all := lw_g (lw_at lw_m6 62 rfl) rfl
theorem q1363 : (Jvm.Cond.methodLink "java/util/AbstractList" (47 : Nat) ({ cls := "java/util/AbstractList", name := "listIterator", desc := "(I)Ljava/util/ListIterator;" } : Jvm.MethodName)) ∈ lw_all := lw_g (lw_at lw_m6 63 rfl) rfl
theorem q1364 : (Jvm.Cond.instanceMethod ({ cls := "java/util/AbstractList", name := "listIterator", desc := "(I)Ljava/util/ListIterator;" } : Jvm.MethodName)) ∈ lw_all := lw_g (lw_at lw_m6 64 rfl) rfl
theorem q1365 : (Jvm.Cond.sameMethod "java/util/AbstractList" "java/util/AbstractList" "listIterator" "(I)Ljava/util/ListIterator;") ∈ lw_all := lw_g (lw_at lw_m6 65 rfl) rfl
theorem q1434 : (Jvm.Cond.declares ({ cls := "java/util/AbstractList", name := "listIterator", desc := "(I)Ljava/util/ListIterator;" } : Jvm.MethodName)) ∈ lw_tbl := lw_at lw_m6 134 rfl
/-! java/util/AbstractSequentialList -/
set_option maxRecDepth 100000
def RJ2 : String := "java/util/AbstractSequentialList"
abbrev cJ2_init : ByteArray := prog_58_method_1_code
def yJ2_init : MethodName := ⟨RJ2, "<init>", "()V"⟩
theorem dJ2_init_0 : decode cJ2_init 0 = .ok (.aload_n 0, 1) := by decide +kernel
theorem dJ2_init_1 : decode cJ2_init 1 = .ok (.invokespecial 1, 3) := by decide +kernel
theorem dJ2_init_4 : decode cJ2_init 4 = .ok (.return_, 1) := by decide +kernel
abbrev cJ2_iterator : ByteArray := prog_58_method_7_code
def yJ2_iterator : MethodName := ⟨RJ2, "iterator", "()Ljava/util/Iterator;"⟩
theorem dJ2_iterator_0 : decode cJ2_iterator 0 = .ok (.aload_n 0, 1) := by decide +kernel
theorem dJ2_iterator_1 : decode cJ2_iterator 1 = .ok (.invokevirtual 65, 3) := by decide +kernel
theorem dJ2_iterator_4 : decode cJ2_iterator 4 = .ok (.areturn, 1) := by decide +kernel
theorem q104 : (Jvm.Cond.initialized "java/util/AbstractSequentialList") ∈ lw_all := lw_g (lw_at lw_m1 4 rfl) rfl
theorem q188 : (Jvm.Cond.instanceMethod ({ cls := "java/util/AbstractSequentialList", name := "<init>", desc := "()V" } : Jvm.MethodName)) ∈ lw_all := lw_g (lw_at lw_m1 88 rfl) rfl
theorem q189 : (Jvm.Cond.code ({ cls := "java/util/AbstractSequentialList", name := "<init>", desc := "()V" } : Jvm.MethodName) prog_58_method_1_code (1 : Nat) (Option.none : Option Jvm.ClassFile.FieldType)) ∈ lw_all := lw_g (lw_at lw_m1 89 rfl) rfl
theorem q190 : (Jvm.Cond.methodLink "java/util/AbstractSequentialList" (1 : Nat) ({ cls := "java/util/AbstractList", name := "<init>", desc := "()V" } : Jvm.MethodName)) ∈ lw_all := lw_g (lw_at lw_m1 90 rfl) rfl
theorem q1354 : (Jvm.Cond.instanceMethod ({ cls := "java/util/AbstractSequentialList", name := "iterator", desc := "()Ljava/util/Iterator;" } : Jvm.MethodName)) ∈ lw_all := lw_g (lw_at lw_m6 54 rfl) rfl
theorem q1355 : (Jvm.Cond.publicMethod ({ cls := "java/util/AbstractSequentialList", name := "iterator", desc := "()Ljava/util/Iterator;" } : Jvm.MethodName)) ∈ lw_tbl := lw_at lw_m6 55 rfl
theorem q1356 : (Jvm.Cond.code ({ cls := "java/util/AbstractSequentialList", name := "iterator", desc := "()Ljava/util/Iterator;" } : Jvm.MethodName) prog_58_method_7_code (1 : Nat) (Option.some (Jvm.ClassFile.FieldType.object "java/util/Iterator"))) ∈ lw_all := lw_g (lw_at lw_m6 56 rfl) rfl
theorem q1357 : (Jvm.Cond.methodLink "java/util/AbstractSequentialList" (65 : Nat) ({ cls := "java/util/AbstractSequentialList", name := "listIterator", desc := "()Ljava/util/ListIterator;" } : Jvm.MethodName)) ∈ lw_all := lw_g (lw_at lw_m6 57 rfl) rfl
theorem q1358 : (Jvm.Cond.sameMethod "java/util/AbstractSequentialList" "java/util/AbstractList" "listIterator" "()Ljava/util/ListIterator;") ∈ lw_all := lw_g (lw_at lw_m6 58 rfl) rfl
/-! java/util/LinkedList -/
set_option maxRecDepth 100000
def RJ3 : String := "java/util/LinkedList"
def TJ3 : u_T := fun k => match k with
  | 0 => ("java/util/AbstractList", "modCount", "I", false)
  | 1 => ("java/util/LinkedList", "size", "I", false)
  | 2 => ("java/util/LinkedList", "first", "Ljava/util/LinkedList$Node;", false)
  | _ => ("java/util/LinkedList", "last", "Ljava/util/LinkedList$Node;", false)
def tyJ3 : Nat → FieldType := fun k => match k with
  | 0 => .int
  | 1 => .int
  | 2 => .object "java/util/LinkedList$Node"
  | _ => .object "java/util/LinkedList$Node"
abbrev wsJ30 : List Cond := u_ws RJ3 TJ3 4
theorem nmJ3 : ∀ a, a < 4 → ∀ b, b < 4 → a ≠ b → (TJ3 a).2.1 ≠ (TJ3 b).2.1 := by decide +kernel
theorem tyJ3_ok : ∀ k, k < 4 → parseFieldDescriptor (TJ3 k).2.2.1 = some (tyJ3 k) := by decide +kernel
abbrev cJ3_init : ByteArray := prog_69_method_1_code
def yJ3_init : MethodName := ⟨RJ3, "<init>", "()V"⟩
def dkwJ3_init_0 : List UInt8 := [42, 183, 0, 1, 42, 3, 181, 0, 7, 177]
abbrev dktJ3_init_0 : List UInt8 := dkwJ3_init_0 ++ []
theorem dksJ3_init_0 : cJ3_init.data.toList.drop 0 = dktJ3_init_0 := by decide +kernel
theorem dJ3_init_0 : decode cJ3_init 0 = .ok (.aload_n 0, 1) := dk_42 (dk_at dksJ3_init_0 0 rfl rfl)
theorem dJ3_init_1 : decode cJ3_init 1 = .ok (.invokespecial 1, 3) := dk_183 0 1 (dk_at dksJ3_init_0 1 rfl rfl)
theorem dJ3_init_4 : decode cJ3_init 4 = .ok (.aload_n 0, 1) := dk_42 (dk_at dksJ3_init_0 4 rfl rfl)
theorem dJ3_init_5 : decode cJ3_init 5 = .ok (.iconst 0, 1) := dk_3 (dk_at dksJ3_init_0 5 rfl rfl)
theorem dJ3_init_6 : decode cJ3_init 6 = .ok (.putfield 7, 3) := dk_181 0 7 (dk_at dksJ3_init_0 6 rfl rfl)
theorem dJ3_init_9 : decode cJ3_init 9 = .ok (.return_, 1) := dk_177 (dk_at dksJ3_init_0 9 rfl rfl)
abbrev cJ3_size : ByteArray := prog_69_method_16_code
def yJ3_size : MethodName := ⟨RJ3, "size", "()I"⟩
theorem dJ3_size_0 : decode cJ3_size 0 = .ok (.aload_n 0, 1) := by decide +kernel
theorem dJ3_size_1 : decode cJ3_size 1 = .ok (.getfield 7, 3) := by decide +kernel
theorem dJ3_size_4 : decode cJ3_size 4 = .ok (.ireturn, 1) := by decide +kernel
abbrev cJ3_get : ByteArray := prog_69_method_22_code
def yJ3_get : MethodName := ⟨RJ3, "get", "(I)Ljava/lang/Object;"⟩
def dkwJ3_get_0 : List UInt8 := [42, 27, 182, 0, 90, 42, 27, 182, 0, 86, 180, 0, 39, 176]
abbrev dktJ3_get_0 : List UInt8 := dkwJ3_get_0 ++ []
theorem dksJ3_get_0 : cJ3_get.data.toList.drop 0 = dktJ3_get_0 := by decide +kernel
theorem dJ3_get_0 : decode cJ3_get 0 = .ok (.aload_n 0, 1) := dk_42 (dk_at dksJ3_get_0 0 rfl rfl)
theorem dJ3_get_1 : decode cJ3_get 1 = .ok (.iload_n 1, 1) := dk_27 (dk_at dksJ3_get_0 1 rfl rfl)
theorem dJ3_get_2 : decode cJ3_get 2 = .ok (.invokevirtual 90, 3) := dk_182 0 90 (dk_at dksJ3_get_0 2 rfl rfl)
theorem dJ3_get_5 : decode cJ3_get 5 = .ok (.aload_n 0, 1) := dk_42 (dk_at dksJ3_get_0 5 rfl rfl)
theorem dJ3_get_6 : decode cJ3_get 6 = .ok (.iload_n 1, 1) := dk_27 (dk_at dksJ3_get_0 6 rfl rfl)
theorem dJ3_get_7 : decode cJ3_get 7 = .ok (.invokevirtual 86, 3) := dk_182 0 86 (dk_at dksJ3_get_0 7 rfl rfl)
theorem dJ3_get_10 : decode cJ3_get 10 = .ok (.getfield 39, 3) := dk_180 0 39 (dk_at dksJ3_get_0 10 rfl rfl)
theorem dJ3_get_13 : decode cJ3_get 13 = .ok (.areturn, 1) := dk_176 (dk_at dksJ3_get_0 13 rfl rfl)
abbrev cJ3_checkElementIndex : ByteArray := prog_69_method_29_code
def yJ3_checkElementIndex : MethodName := ⟨RJ3, "checkElementIndex", "(I)V"⟩
def dkwJ3_checkElementIndex_0 : List UInt8 := [42, 27, 182, 0, 115, 154, 0, 16, 187, 0, 119, 89, 42, 27, 182, 0, 121, 183, 0, 125, 191, 177]
abbrev dktJ3_checkElementIndex_0 : List UInt8 := dkwJ3_checkElementIndex_0 ++ []
theorem dksJ3_checkElementIndex_0 : cJ3_checkElementIndex.data.toList.drop 0 = dktJ3_checkElementIndex_0 := by decide +kernel
theorem dJ3_checkElementIndex_0 : decode cJ3_checkElementIndex 0 = .ok (.aload_n 0, 1) := dk_42 (dk_at dksJ3_checkElementIndex_0 0 rfl rfl)
theorem dJ3_checkElementIndex_1 : decode cJ3_checkElementIndex 1 = .ok (.iload_n 1, 1) := dk_27 (dk_at dksJ3_checkElementIndex_0 1 rfl rfl)
theorem dJ3_checkElementIndex_2 : decode cJ3_checkElementIndex 2 = .ok (.invokevirtual 115, 3) := dk_182 0 115 (dk_at dksJ3_checkElementIndex_0 2 rfl rfl)
theorem dJ3_checkElementIndex_5 : decode cJ3_checkElementIndex 5 = .ok (.ifCond .ne 16, 3) := dk_154 0 16 (dk_at dksJ3_checkElementIndex_0 5 rfl rfl)
theorem dJ3_checkElementIndex_8 : decode cJ3_checkElementIndex 8 = .ok (.new 119, 3) := dk_187 0 119 (dk_at dksJ3_checkElementIndex_0 8 rfl rfl)
theorem dJ3_checkElementIndex_11 : decode cJ3_checkElementIndex 11 = .ok (.dup, 1) := dk_89 (dk_at dksJ3_checkElementIndex_0 11 rfl rfl)
theorem dJ3_checkElementIndex_12 : decode cJ3_checkElementIndex 12 = .ok (.aload_n 0, 1) := dk_42 (dk_at dksJ3_checkElementIndex_0 12 rfl rfl)
theorem dJ3_checkElementIndex_13 : decode cJ3_checkElementIndex 13 = .ok (.iload_n 1, 1) := dk_27 (dk_at dksJ3_checkElementIndex_0 13 rfl rfl)
theorem dJ3_checkElementIndex_14 : decode cJ3_checkElementIndex 14 = .ok (.invokevirtual 121, 3) := dk_182 0 121 (dk_at dksJ3_checkElementIndex_0 14 rfl rfl)
theorem dJ3_checkElementIndex_17 : decode cJ3_checkElementIndex 17 = .ok (.invokespecial 125, 3) := dk_183 0 125 (dk_at dksJ3_checkElementIndex_0 17 rfl rfl)
theorem dJ3_checkElementIndex_20 : decode cJ3_checkElementIndex 20 = .ok (.athrow, 1) := dk_191 (dk_at dksJ3_checkElementIndex_0 20 rfl rfl)
theorem dJ3_checkElementIndex_21 : decode cJ3_checkElementIndex 21 = .ok (.return_, 1) := dk_177 (dk_at dksJ3_checkElementIndex_0 21 rfl rfl)
abbrev cJ3_isElementIndex : ByteArray := prog_69_method_26_code
def yJ3_isElementIndex : MethodName := ⟨RJ3, "isElementIndex", "(I)Z"⟩
def dkwJ3_isElementIndex_0 : List UInt8 := [27, 155, 0, 15, 27, 42, 180, 0, 7, 162, 0, 7, 4, 167, 0, 4, 3, 172]
abbrev dktJ3_isElementIndex_0 : List UInt8 := dkwJ3_isElementIndex_0 ++ []
theorem dksJ3_isElementIndex_0 : cJ3_isElementIndex.data.toList.drop 0 = dktJ3_isElementIndex_0 := by decide +kernel
theorem dJ3_isElementIndex_0 : decode cJ3_isElementIndex 0 = .ok (.iload_n 1, 1) := dk_27 (dk_at dksJ3_isElementIndex_0 0 rfl rfl)
theorem dJ3_isElementIndex_1 : decode cJ3_isElementIndex 1 = .ok (.ifCond .lt 15, 3) := dk_155 0 15 (dk_at dksJ3_isElementIndex_0 1 rfl rfl)
theorem dJ3_isElementIndex_4 : decode cJ3_isElementIndex 4 = .ok (.iload_n 1, 1) := dk_27 (dk_at dksJ3_isElementIndex_0 4 rfl rfl)
theorem dJ3_isElementIndex_5 : decode cJ3_isElementIndex 5 = .ok (.aload_n 0, 1) := dk_42 (dk_at dksJ3_isElementIndex_0 5 rfl rfl)
theorem dJ3_isElementIndex_6 : decode cJ3_isElementIndex 6 = .ok (.getfield 7, 3) := dk_180 0 7 (dk_at dksJ3_isElementIndex_0 6 rfl rfl)
theorem dJ3_isElementIndex_9 : decode cJ3_isElementIndex 9 = .ok (.if_icmp .ge 7, 3) := dk_162 0 7 (dk_at dksJ3_isElementIndex_0 9 rfl rfl)
theorem dJ3_isElementIndex_12 : decode cJ3_isElementIndex 12 = .ok (.iconst 1, 1) := dk_4 (dk_at dksJ3_isElementIndex_0 12 rfl rfl)
theorem dJ3_isElementIndex_13 : decode cJ3_isElementIndex 13 = .ok (.goto 4, 3) := dk_167 0 4 (dk_at dksJ3_isElementIndex_0 13 rfl rfl)
theorem dJ3_isElementIndex_16 : decode cJ3_isElementIndex 16 = .ok (.iconst 0, 1) := dk_3 (dk_at dksJ3_isElementIndex_0 16 rfl rfl)
theorem dJ3_isElementIndex_17 : decode cJ3_isElementIndex 17 = .ok (.ireturn, 1) := dk_172 (dk_at dksJ3_isElementIndex_0 17 rfl rfl)
abbrev cJ3_outOfBoundsMsg : ByteArray := prog_69_method_28_code
def yJ3_outOfBoundsMsg : MethodName := ⟨RJ3, "outOfBoundsMsg", "(I)Ljava/lang/String;"⟩
def dkwJ3_outOfBoundsMsg_1 : List UInt8 := [180, 0, 7, 182, 0, 106, 182, 0, 111, 176]
abbrev dktJ3_outOfBoundsMsg_1 : List UInt8 := dkwJ3_outOfBoundsMsg_1 ++ []
def dkwJ3_outOfBoundsMsg_0 : List UInt8 := [187, 0, 97, 89, 183, 0, 99, 18, 100, 182, 0, 102, 27, 182, 0, 106, 18, 109, 182, 0, 102, 42]
abbrev dktJ3_outOfBoundsMsg_0 : List UInt8 := dkwJ3_outOfBoundsMsg_0 ++ dktJ3_outOfBoundsMsg_1
theorem dksJ3_outOfBoundsMsg_0 : cJ3_outOfBoundsMsg.data.toList.drop 0 = dktJ3_outOfBoundsMsg_0 := by decide +kernel
theorem dksJ3_outOfBoundsMsg_1 : cJ3_outOfBoundsMsg.data.toList.drop 22 = dktJ3_outOfBoundsMsg_1 := dk_seg dksJ3_outOfBoundsMsg_0 22 rfl rfl
theorem dJ3_outOfBoundsMsg_0 : decode cJ3_outOfBoundsMsg 0 = .ok (.new 97, 3) := dk_187 0 97 (dk_at dksJ3_outOfBoundsMsg_0 0 rfl rfl)
theorem dJ3_outOfBoundsMsg_3 : decode cJ3_outOfBoundsMsg 3 = .ok (.dup, 1) := dk_89 (dk_at dksJ3_outOfBoundsMsg_0 3 rfl rfl)
theorem dJ3_outOfBoundsMsg_4 : decode cJ3_outOfBoundsMsg 4 = .ok (.invokespecial 99, 3) := dk_183 0 99 (dk_at dksJ3_outOfBoundsMsg_0 4 rfl rfl)
theorem dJ3_outOfBoundsMsg_7 : decode cJ3_outOfBoundsMsg 7 = .ok (.ldc 100, 2) := dk_18 100 (dk_at dksJ3_outOfBoundsMsg_0 7 rfl rfl)
theorem dJ3_outOfBoundsMsg_9 : decode cJ3_outOfBoundsMsg 9 = .ok (.invokevirtual 102, 3) := dk_182 0 102 (dk_at dksJ3_outOfBoundsMsg_0 9 rfl rfl)
theorem dJ3_outOfBoundsMsg_12 : decode cJ3_outOfBoundsMsg 12 = .ok (.iload_n 1, 1) := dk_27 (dk_at dksJ3_outOfBoundsMsg_0 12 rfl rfl)
theorem dJ3_outOfBoundsMsg_13 : decode cJ3_outOfBoundsMsg 13 = .ok (.invokevirtual 106, 3) := dk_182 0 106 (dk_at dksJ3_outOfBoundsMsg_0 13 rfl rfl)
theorem dJ3_outOfBoundsMsg_16 : decode cJ3_outOfBoundsMsg 16 = .ok (.ldc 109, 2) := dk_18 109 (dk_at dksJ3_outOfBoundsMsg_0 16 rfl rfl)
theorem dJ3_outOfBoundsMsg_18 : decode cJ3_outOfBoundsMsg 18 = .ok (.invokevirtual 102, 3) := dk_182 0 102 (dk_at dksJ3_outOfBoundsMsg_0 18 rfl rfl)
theorem dJ3_outOfBoundsMsg_21 : decode cJ3_outOfBoundsMsg 21 = .ok (.aload_n 0, 1) := dk_42 (dk_at dksJ3_outOfBoundsMsg_0 21 rfl rfl)
theorem dJ3_outOfBoundsMsg_22 : decode cJ3_outOfBoundsMsg 22 = .ok (.getfield 7, 3) := dk_180 0 7 (dk_at dksJ3_outOfBoundsMsg_1 0 rfl rfl)
theorem dJ3_outOfBoundsMsg_25 : decode cJ3_outOfBoundsMsg 25 = .ok (.invokevirtual 106, 3) := dk_182 0 106 (dk_at dksJ3_outOfBoundsMsg_1 3 rfl rfl)
theorem dJ3_outOfBoundsMsg_28 : decode cJ3_outOfBoundsMsg 28 = .ok (.invokevirtual 111, 3) := dk_182 0 111 (dk_at dksJ3_outOfBoundsMsg_1 6 rfl rfl)
theorem dJ3_outOfBoundsMsg_31 : decode cJ3_outOfBoundsMsg 31 = .ok (.areturn, 1) := dk_176 (dk_at dksJ3_outOfBoundsMsg_1 9 rfl rfl)
abbrev cJ3_node : ByteArray := prog_69_method_31_code
def yJ3_node : MethodName := ⟨RJ3, "node", "(I)Ljava/util/LinkedList$Node;"⟩
def dkwJ3_node_2 : List UInt8 := [29, 27, 164, 0, 14, 44, 180, 0, 30, 77, 132, 3, 255, 167, 255, 243, 44, 176]
abbrev dktJ3_node_2 : List UInt8 := dkwJ3_node_2 ++ []
def dkwJ3_node_1 : List UInt8 := [180, 0, 36, 77, 132, 3, 1, 167, 255, 243, 44, 176, 42, 180, 0, 27, 77, 42, 180, 0, 7, 4, 100, 62]
abbrev dktJ3_node_1 : List UInt8 := dkwJ3_node_1 ++ dktJ3_node_2
def dkwJ3_node_0 : List UInt8 := [27, 42, 180, 0, 7, 4, 122, 162, 0, 28, 42, 180, 0, 18, 77, 3, 62, 29, 27, 162, 0, 14, 44]
abbrev dktJ3_node_0 : List UInt8 := dkwJ3_node_0 ++ dktJ3_node_1
theorem dksJ3_node_0 : cJ3_node.data.toList.drop 0 = dktJ3_node_0 := by decide +kernel
theorem dksJ3_node_1 : cJ3_node.data.toList.drop 23 = dktJ3_node_1 := dk_seg dksJ3_node_0 23 rfl rfl
theorem dksJ3_node_2 : cJ3_node.data.toList.drop 47 = dktJ3_node_2 := dk_seg dksJ3_node_1 24 rfl rfl
theorem dJ3_node_0 : decode cJ3_node 0 = .ok (.iload_n 1, 1) := dk_27 (dk_at dksJ3_node_0 0 rfl rfl)
theorem dJ3_node_1 : decode cJ3_node 1 = .ok (.aload_n 0, 1) := dk_42 (dk_at dksJ3_node_0 1 rfl rfl)
theorem dJ3_node_2 : decode cJ3_node 2 = .ok (.getfield 7, 3) := dk_180 0 7 (dk_at dksJ3_node_0 2 rfl rfl)
theorem dJ3_node_5 : decode cJ3_node 5 = .ok (.iconst 1, 1) := dk_4 (dk_at dksJ3_node_0 5 rfl rfl)
theorem dJ3_node_6 : decode cJ3_node 6 = .ok (.ishr, 1) := dk_122 (dk_at dksJ3_node_0 6 rfl rfl)
theorem dJ3_node_7 : decode cJ3_node 7 = .ok (.if_icmp .ge 28, 3) := dk_162 0 28 (dk_at dksJ3_node_0 7 rfl rfl)
theorem dJ3_node_10 : decode cJ3_node 10 = .ok (.aload_n 0, 1) := dk_42 (dk_at dksJ3_node_0 10 rfl rfl)
theorem dJ3_node_11 : decode cJ3_node 11 = .ok (.getfield 18, 3) := dk_180 0 18 (dk_at dksJ3_node_0 11 rfl rfl)
theorem dJ3_node_14 : decode cJ3_node 14 = .ok (.astore_n 2, 1) := dk_77 (dk_at dksJ3_node_0 14 rfl rfl)
theorem dJ3_node_15 : decode cJ3_node 15 = .ok (.iconst 0, 1) := dk_3 (dk_at dksJ3_node_0 15 rfl rfl)
theorem dJ3_node_16 : decode cJ3_node 16 = .ok (.istore_n 3, 1) := dk_62 (dk_at dksJ3_node_0 16 rfl rfl)
theorem dJ3_node_17 : decode cJ3_node 17 = .ok (.iload_n 3, 1) := dk_29 (dk_at dksJ3_node_0 17 rfl rfl)
theorem dJ3_node_18 : decode cJ3_node 18 = .ok (.iload_n 1, 1) := dk_27 (dk_at dksJ3_node_0 18 rfl rfl)
theorem dJ3_node_19 : decode cJ3_node 19 = .ok (.if_icmp .ge 14, 3) := dk_162 0 14 (dk_at dksJ3_node_0 19 rfl rfl)
theorem dJ3_node_22 : decode cJ3_node 22 = .ok (.aload_n 2, 1) := dk_44 (dk_at dksJ3_node_0 22 rfl rfl)
theorem dJ3_node_23 : decode cJ3_node 23 = .ok (.getfield 36, 3) := dk_180 0 36 (dk_at dksJ3_node_1 0 rfl rfl)
theorem dJ3_node_26 : decode cJ3_node 26 = .ok (.astore_n 2, 1) := dk_77 (dk_at dksJ3_node_1 3 rfl rfl)
theorem dJ3_node_27 : decode cJ3_node 27 = .ok (.iinc 3 1, 3) := dk_132 3 1 (dk_at dksJ3_node_1 4 rfl rfl)
theorem dJ3_node_30 : decode cJ3_node 30 = .ok (.goto (-13), 3) := dk_167 255 243 (dk_at dksJ3_node_1 7 rfl rfl)
theorem dJ3_node_33 : decode cJ3_node 33 = .ok (.aload_n 2, 1) := dk_44 (dk_at dksJ3_node_1 10 rfl rfl)
theorem dJ3_node_34 : decode cJ3_node 34 = .ok (.areturn, 1) := dk_176 (dk_at dksJ3_node_1 11 rfl rfl)
theorem dJ3_node_35 : decode cJ3_node 35 = .ok (.aload_n 0, 1) := dk_42 (dk_at dksJ3_node_1 12 rfl rfl)
theorem dJ3_node_36 : decode cJ3_node 36 = .ok (.getfield 27, 3) := dk_180 0 27 (dk_at dksJ3_node_1 13 rfl rfl)
theorem dJ3_node_39 : decode cJ3_node 39 = .ok (.astore_n 2, 1) := dk_77 (dk_at dksJ3_node_1 16 rfl rfl)
theorem dJ3_node_40 : decode cJ3_node 40 = .ok (.aload_n 0, 1) := dk_42 (dk_at dksJ3_node_1 17 rfl rfl)
theorem dJ3_node_41 : decode cJ3_node 41 = .ok (.getfield 7, 3) := dk_180 0 7 (dk_at dksJ3_node_1 18 rfl rfl)
theorem dJ3_node_44 : decode cJ3_node 44 = .ok (.iconst 1, 1) := dk_4 (dk_at dksJ3_node_1 21 rfl rfl)
theorem dJ3_node_45 : decode cJ3_node 45 = .ok (.isub, 1) := dk_100 (dk_at dksJ3_node_1 22 rfl rfl)
theorem dJ3_node_46 : decode cJ3_node 46 = .ok (.istore_n 3, 1) := dk_62 (dk_at dksJ3_node_1 23 rfl rfl)
theorem dJ3_node_47 : decode cJ3_node 47 = .ok (.iload_n 3, 1) := dk_29 (dk_at dksJ3_node_2 0 rfl rfl)
theorem dJ3_node_48 : decode cJ3_node 48 = .ok (.iload_n 1, 1) := dk_27 (dk_at dksJ3_node_2 1 rfl rfl)
theorem dJ3_node_49 : decode cJ3_node 49 = .ok (.if_icmp .le 14, 3) := dk_164 0 14 (dk_at dksJ3_node_2 2 rfl rfl)
theorem dJ3_node_52 : decode cJ3_node 52 = .ok (.aload_n 2, 1) := dk_44 (dk_at dksJ3_node_2 5 rfl rfl)
theorem dJ3_node_53 : decode cJ3_node 53 = .ok (.getfield 30, 3) := dk_180 0 30 (dk_at dksJ3_node_2 6 rfl rfl)
theorem dJ3_node_56 : decode cJ3_node 56 = .ok (.astore_n 2, 1) := dk_77 (dk_at dksJ3_node_2 9 rfl rfl)
theorem dJ3_node_57 : decode cJ3_node 57 = .ok (.iinc 3 (-1), 3) := dk_132 3 255 (dk_at dksJ3_node_2 10 rfl rfl)
theorem dJ3_node_60 : decode cJ3_node 60 = .ok (.goto (-13), 3) := dk_167 255 243 (dk_at dksJ3_node_2 13 rfl rfl)
theorem dJ3_node_63 : decode cJ3_node 63 = .ok (.aload_n 2, 1) := dk_44 (dk_at dksJ3_node_2 16 rfl rfl)
theorem dJ3_node_64 : decode cJ3_node 64 = .ok (.areturn, 1) := dk_176 (dk_at dksJ3_node_2 17 rfl rfl)
abbrev cJ3_add : ByteArray := prog_69_method_17_code
def yJ3_add : MethodName := ⟨RJ3, "add", "(Ljava/lang/Object;)Z"⟩
def dkwJ3_add_0 : List UInt8 := [42, 43, 182, 0, 57, 4, 172]
abbrev dktJ3_add_0 : List UInt8 := dkwJ3_add_0 ++ []
theorem dksJ3_add_0 : cJ3_add.data.toList.drop 0 = dktJ3_add_0 := by decide +kernel
theorem dJ3_add_0 : decode cJ3_add 0 = .ok (.aload_n 0, 1) := dk_42 (dk_at dksJ3_add_0 0 rfl rfl)
theorem dJ3_add_1 : decode cJ3_add 1 = .ok (.aload_n 1, 1) := dk_43 (dk_at dksJ3_add_0 1 rfl rfl)
theorem dJ3_add_2 : decode cJ3_add 2 = .ok (.invokevirtual 57, 3) := dk_182 0 57 (dk_at dksJ3_add_0 2 rfl rfl)
theorem dJ3_add_5 : decode cJ3_add 5 = .ok (.iconst 1, 1) := dk_4 (dk_at dksJ3_add_0 5 rfl rfl)
theorem dJ3_add_6 : decode cJ3_add 6 = .ok (.ireturn, 1) := dk_172 (dk_at dksJ3_add_0 6 rfl rfl)
abbrev cJ3_linkLast : ByteArray := prog_69_method_4_code
def yJ3_linkLast : MethodName := ⟨RJ3, "linkLast", "(Ljava/lang/Object;)V"⟩
def dkwJ3_linkLast_2 : List UInt8 := [181, 0, 7, 42, 89, 180, 0, 33, 4, 96, 181, 0, 33, 177]
abbrev dktJ3_linkLast_2 : List UInt8 := dkwJ3_linkLast_2 ++ []
def dkwJ3_linkLast_1 : List UInt8 := [199, 0, 11, 42, 45, 181, 0, 18, 167, 0, 8, 44, 45, 181, 0, 36, 42, 89, 180, 0, 7, 4, 96]
abbrev dktJ3_linkLast_1 : List UInt8 := dkwJ3_linkLast_1 ++ dktJ3_linkLast_2
def dkwJ3_linkLast_0 : List UInt8 := [42, 180, 0, 27, 77, 187, 0, 22, 89, 44, 43, 1, 183, 0, 24, 78, 42, 45, 181, 0, 27, 44]
abbrev dktJ3_linkLast_0 : List UInt8 := dkwJ3_linkLast_0 ++ dktJ3_linkLast_1
theorem dksJ3_linkLast_0 : cJ3_linkLast.data.toList.drop 0 = dktJ3_linkLast_0 := by decide +kernel
theorem dksJ3_linkLast_1 : cJ3_linkLast.data.toList.drop 22 = dktJ3_linkLast_1 := dk_seg dksJ3_linkLast_0 22 rfl rfl
theorem dksJ3_linkLast_2 : cJ3_linkLast.data.toList.drop 45 = dktJ3_linkLast_2 := dk_seg dksJ3_linkLast_1 23 rfl rfl
theorem dJ3_linkLast_0 : decode cJ3_linkLast 0 = .ok (.aload_n 0, 1) := dk_42 (dk_at dksJ3_linkLast_0 0 rfl rfl)
theorem dJ3_linkLast_1 : decode cJ3_linkLast 1 = .ok (.getfield 27, 3) := dk_180 0 27 (dk_at dksJ3_linkLast_0 1 rfl rfl)
theorem dJ3_linkLast_4 : decode cJ3_linkLast 4 = .ok (.astore_n 2, 1) := dk_77 (dk_at dksJ3_linkLast_0 4 rfl rfl)
theorem dJ3_linkLast_5 : decode cJ3_linkLast 5 = .ok (.new 22, 3) := dk_187 0 22 (dk_at dksJ3_linkLast_0 5 rfl rfl)
theorem dJ3_linkLast_8 : decode cJ3_linkLast 8 = .ok (.dup, 1) := dk_89 (dk_at dksJ3_linkLast_0 8 rfl rfl)
theorem dJ3_linkLast_9 : decode cJ3_linkLast 9 = .ok (.aload_n 2, 1) := dk_44 (dk_at dksJ3_linkLast_0 9 rfl rfl)
theorem dJ3_linkLast_10 : decode cJ3_linkLast 10 = .ok (.aload_n 1, 1) := dk_43 (dk_at dksJ3_linkLast_0 10 rfl rfl)
theorem dJ3_linkLast_11 : decode cJ3_linkLast 11 = .ok (.aconst_null, 1) := dk_1 (dk_at dksJ3_linkLast_0 11 rfl rfl)
theorem dJ3_linkLast_12 : decode cJ3_linkLast 12 = .ok (.invokespecial 24, 3) := dk_183 0 24 (dk_at dksJ3_linkLast_0 12 rfl rfl)
theorem dJ3_linkLast_15 : decode cJ3_linkLast 15 = .ok (.astore_n 3, 1) := dk_78 (dk_at dksJ3_linkLast_0 15 rfl rfl)
theorem dJ3_linkLast_16 : decode cJ3_linkLast 16 = .ok (.aload_n 0, 1) := dk_42 (dk_at dksJ3_linkLast_0 16 rfl rfl)
theorem dJ3_linkLast_17 : decode cJ3_linkLast 17 = .ok (.aload_n 3, 1) := dk_45 (dk_at dksJ3_linkLast_0 17 rfl rfl)
theorem dJ3_linkLast_18 : decode cJ3_linkLast 18 = .ok (.putfield 27, 3) := dk_181 0 27 (dk_at dksJ3_linkLast_0 18 rfl rfl)
theorem dJ3_linkLast_21 : decode cJ3_linkLast 21 = .ok (.aload_n 2, 1) := dk_44 (dk_at dksJ3_linkLast_0 21 rfl rfl)
theorem dJ3_linkLast_22 : decode cJ3_linkLast 22 = .ok (.ifnonnull 11, 3) := dk_199 0 11 (dk_at dksJ3_linkLast_1 0 rfl rfl)
theorem dJ3_linkLast_25 : decode cJ3_linkLast 25 = .ok (.aload_n 0, 1) := dk_42 (dk_at dksJ3_linkLast_1 3 rfl rfl)
theorem dJ3_linkLast_26 : decode cJ3_linkLast 26 = .ok (.aload_n 3, 1) := dk_45 (dk_at dksJ3_linkLast_1 4 rfl rfl)
theorem dJ3_linkLast_27 : decode cJ3_linkLast 27 = .ok (.putfield 18, 3) := dk_181 0 18 (dk_at dksJ3_linkLast_1 5 rfl rfl)
theorem dJ3_linkLast_30 : decode cJ3_linkLast 30 = .ok (.goto 8, 3) := dk_167 0 8 (dk_at dksJ3_linkLast_1 8 rfl rfl)
theorem dJ3_linkLast_33 : decode cJ3_linkLast 33 = .ok (.aload_n 2, 1) := dk_44 (dk_at dksJ3_linkLast_1 11 rfl rfl)
theorem dJ3_linkLast_34 : decode cJ3_linkLast 34 = .ok (.aload_n 3, 1) := dk_45 (dk_at dksJ3_linkLast_1 12 rfl rfl)
theorem dJ3_linkLast_35 : decode cJ3_linkLast 35 = .ok (.putfield 36, 3) := dk_181 0 36 (dk_at dksJ3_linkLast_1 13 rfl rfl)
theorem dJ3_linkLast_38 : decode cJ3_linkLast 38 = .ok (.aload_n 0, 1) := dk_42 (dk_at dksJ3_linkLast_1 16 rfl rfl)
theorem dJ3_linkLast_39 : decode cJ3_linkLast 39 = .ok (.dup, 1) := dk_89 (dk_at dksJ3_linkLast_1 17 rfl rfl)
theorem dJ3_linkLast_40 : decode cJ3_linkLast 40 = .ok (.getfield 7, 3) := dk_180 0 7 (dk_at dksJ3_linkLast_1 18 rfl rfl)
theorem dJ3_linkLast_43 : decode cJ3_linkLast 43 = .ok (.iconst 1, 1) := dk_4 (dk_at dksJ3_linkLast_1 21 rfl rfl)
theorem dJ3_linkLast_44 : decode cJ3_linkLast 44 = .ok (.iadd, 1) := dk_96 (dk_at dksJ3_linkLast_1 22 rfl rfl)
theorem dJ3_linkLast_45 : decode cJ3_linkLast 45 = .ok (.putfield 7, 3) := dk_181 0 7 (dk_at dksJ3_linkLast_2 0 rfl rfl)
theorem dJ3_linkLast_48 : decode cJ3_linkLast 48 = .ok (.aload_n 0, 1) := dk_42 (dk_at dksJ3_linkLast_2 3 rfl rfl)
theorem dJ3_linkLast_49 : decode cJ3_linkLast 49 = .ok (.dup, 1) := dk_89 (dk_at dksJ3_linkLast_2 4 rfl rfl)
theorem dJ3_linkLast_50 : decode cJ3_linkLast 50 = .ok (.getfield 33, 3) := dk_180 0 33 (dk_at dksJ3_linkLast_2 5 rfl rfl)
theorem dJ3_linkLast_53 : decode cJ3_linkLast 53 = .ok (.iconst 1, 1) := dk_4 (dk_at dksJ3_linkLast_2 8 rfl rfl)
theorem dJ3_linkLast_54 : decode cJ3_linkLast 54 = .ok (.iadd, 1) := dk_96 (dk_at dksJ3_linkLast_2 9 rfl rfl)
theorem dJ3_linkLast_55 : decode cJ3_linkLast 55 = .ok (.putfield 33, 3) := dk_181 0 33 (dk_at dksJ3_linkLast_2 10 rfl rfl)
theorem dJ3_linkLast_58 : decode cJ3_linkLast 58 = .ok (.return_, 1) := dk_177 (dk_at dksJ3_linkLast_2 13 rfl rfl)
abbrev cJ3_listIterator : ByteArray := prog_69_method_49_code
def yJ3_listIterator : MethodName := ⟨RJ3, "listIterator", "(I)Ljava/util/ListIterator;"⟩
def dkwJ3_listIterator_0 : List UInt8 := [42, 27, 182, 0, 76, 187, 0, 150, 89, 42, 27, 183, 0, 152, 176]
abbrev dktJ3_listIterator_0 : List UInt8 := dkwJ3_listIterator_0 ++ []
theorem dksJ3_listIterator_0 : cJ3_listIterator.data.toList.drop 0 = dktJ3_listIterator_0 := by decide +kernel
theorem dJ3_listIterator_0 : decode cJ3_listIterator 0 = .ok (.aload_n 0, 1) := dk_42 (dk_at dksJ3_listIterator_0 0 rfl rfl)
theorem dJ3_listIterator_1 : decode cJ3_listIterator 1 = .ok (.iload_n 1, 1) := dk_27 (dk_at dksJ3_listIterator_0 1 rfl rfl)
theorem dJ3_listIterator_2 : decode cJ3_listIterator 2 = .ok (.invokevirtual 76, 3) := dk_182 0 76 (dk_at dksJ3_listIterator_0 2 rfl rfl)
theorem dJ3_listIterator_5 : decode cJ3_listIterator 5 = .ok (.new 150, 3) := dk_187 0 150 (dk_at dksJ3_listIterator_0 5 rfl rfl)
theorem dJ3_listIterator_8 : decode cJ3_listIterator 8 = .ok (.dup, 1) := dk_89 (dk_at dksJ3_listIterator_0 8 rfl rfl)
theorem dJ3_listIterator_9 : decode cJ3_listIterator 9 = .ok (.aload_n 0, 1) := dk_42 (dk_at dksJ3_listIterator_0 9 rfl rfl)
theorem dJ3_listIterator_10 : decode cJ3_listIterator 10 = .ok (.iload_n 1, 1) := dk_27 (dk_at dksJ3_listIterator_0 10 rfl rfl)
theorem dJ3_listIterator_11 : decode cJ3_listIterator 11 = .ok (.invokespecial 152, 3) := dk_183 0 152 (dk_at dksJ3_listIterator_0 11 rfl rfl)
theorem dJ3_listIterator_14 : decode cJ3_listIterator 14 = .ok (.areturn, 1) := dk_176 (dk_at dksJ3_listIterator_0 14 rfl rfl)
abbrev cJ3_checkPositionIndex : ByteArray := prog_69_method_30_code
def yJ3_checkPositionIndex : MethodName := ⟨RJ3, "checkPositionIndex", "(I)V"⟩
def dkwJ3_checkPositionIndex_0 : List UInt8 := [42, 27, 182, 0, 128, 154, 0, 16, 187, 0, 119, 89, 42, 27, 182, 0, 121, 183, 0, 125, 191, 177]
abbrev dktJ3_checkPositionIndex_0 : List UInt8 := dkwJ3_checkPositionIndex_0 ++ []
theorem dksJ3_checkPositionIndex_0 : cJ3_checkPositionIndex.data.toList.drop 0 = dktJ3_checkPositionIndex_0 := by decide +kernel
theorem dJ3_checkPositionIndex_0 : decode cJ3_checkPositionIndex 0 = .ok (.aload_n 0, 1) := dk_42 (dk_at dksJ3_checkPositionIndex_0 0 rfl rfl)
theorem dJ3_checkPositionIndex_1 : decode cJ3_checkPositionIndex 1 = .ok (.iload_n 1, 1) := dk_27 (dk_at dksJ3_checkPositionIndex_0 1 rfl rfl)
theorem dJ3_checkPositionIndex_2 : decode cJ3_checkPositionIndex 2 = .ok (.invokevirtual 128, 3) := dk_182 0 128 (dk_at dksJ3_checkPositionIndex_0 2 rfl rfl)
theorem dJ3_checkPositionIndex_5 : decode cJ3_checkPositionIndex 5 = .ok (.ifCond .ne 16, 3) := dk_154 0 16 (dk_at dksJ3_checkPositionIndex_0 5 rfl rfl)
theorem dJ3_checkPositionIndex_8 : decode cJ3_checkPositionIndex 8 = .ok (.new 119, 3) := dk_187 0 119 (dk_at dksJ3_checkPositionIndex_0 8 rfl rfl)
theorem dJ3_checkPositionIndex_11 : decode cJ3_checkPositionIndex 11 = .ok (.dup, 1) := dk_89 (dk_at dksJ3_checkPositionIndex_0 11 rfl rfl)
theorem dJ3_checkPositionIndex_12 : decode cJ3_checkPositionIndex 12 = .ok (.aload_n 0, 1) := dk_42 (dk_at dksJ3_checkPositionIndex_0 12 rfl rfl)
theorem dJ3_checkPositionIndex_13 : decode cJ3_checkPositionIndex 13 = .ok (.iload_n 1, 1) := dk_27 (dk_at dksJ3_checkPositionIndex_0 13 rfl rfl)
theorem dJ3_checkPositionIndex_14 : decode cJ3_checkPositionIndex 14 = .ok (.invokevirtual 121, 3) := dk_182 0 121 (dk_at dksJ3_checkPositionIndex_0 14 rfl rfl)
theorem dJ3_checkPositionIndex_17 : decode cJ3_checkPositionIndex 17 = .ok (.invokespecial 125, 3) := dk_183 0 125 (dk_at dksJ3_checkPositionIndex_0 17 rfl rfl)
theorem dJ3_checkPositionIndex_20 : decode cJ3_checkPositionIndex 20 = .ok (.athrow, 1) := dk_191 (dk_at dksJ3_checkPositionIndex_0 20 rfl rfl)
theorem dJ3_checkPositionIndex_21 : decode cJ3_checkPositionIndex 21 = .ok (.return_, 1) := dk_177 (dk_at dksJ3_checkPositionIndex_0 21 rfl rfl)
abbrev cJ3_isPositionIndex : ByteArray := prog_69_method_27_code
def yJ3_isPositionIndex : MethodName := ⟨RJ3, "isPositionIndex", "(I)Z"⟩
def dkwJ3_isPositionIndex_0 : List UInt8 := [27, 155, 0, 15, 27, 42, 180, 0, 7, 163, 0, 7, 4, 167, 0, 4, 3, 172]
abbrev dktJ3_isPositionIndex_0 : List UInt8 := dkwJ3_isPositionIndex_0 ++ []
theorem dksJ3_isPositionIndex_0 : cJ3_isPositionIndex.data.toList.drop 0 = dktJ3_isPositionIndex_0 := by decide +kernel
theorem dJ3_isPositionIndex_0 : decode cJ3_isPositionIndex 0 = .ok (.iload_n 1, 1) := dk_27 (dk_at dksJ3_isPositionIndex_0 0 rfl rfl)
theorem dJ3_isPositionIndex_1 : decode cJ3_isPositionIndex 1 = .ok (.ifCond .lt 15, 3) := dk_155 0 15 (dk_at dksJ3_isPositionIndex_0 1 rfl rfl)
theorem dJ3_isPositionIndex_4 : decode cJ3_isPositionIndex 4 = .ok (.iload_n 1, 1) := dk_27 (dk_at dksJ3_isPositionIndex_0 4 rfl rfl)
theorem dJ3_isPositionIndex_5 : decode cJ3_isPositionIndex 5 = .ok (.aload_n 0, 1) := dk_42 (dk_at dksJ3_isPositionIndex_0 5 rfl rfl)
theorem dJ3_isPositionIndex_6 : decode cJ3_isPositionIndex 6 = .ok (.getfield 7, 3) := dk_180 0 7 (dk_at dksJ3_isPositionIndex_0 6 rfl rfl)
theorem dJ3_isPositionIndex_9 : decode cJ3_isPositionIndex 9 = .ok (.if_icmp .gt 7, 3) := dk_163 0 7 (dk_at dksJ3_isPositionIndex_0 9 rfl rfl)
theorem dJ3_isPositionIndex_12 : decode cJ3_isPositionIndex 12 = .ok (.iconst 1, 1) := dk_4 (dk_at dksJ3_isPositionIndex_0 12 rfl rfl)
theorem dJ3_isPositionIndex_13 : decode cJ3_isPositionIndex 13 = .ok (.goto 4, 3) := dk_167 0 4 (dk_at dksJ3_isPositionIndex_0 13 rfl rfl)
theorem dJ3_isPositionIndex_16 : decode cJ3_isPositionIndex 16 = .ok (.iconst 0, 1) := dk_3 (dk_at dksJ3_isPositionIndex_0 16 rfl rfl)
theorem dJ3_isPositionIndex_17 : decode cJ3_isPositionIndex 17 = .ok (.ireturn, 1) := dk_172 (dk_at dksJ3_isPositionIndex_0 17 rfl rfl)
abbrev cJ3_add_2 : ByteArray := prog_69_method_24_code
def yJ3_add_2 : MethodName := ⟨RJ3, "add", "(ILjava/lang/Object;)V"⟩
def dkwJ3_add_2_1 : List UInt8 := [27, 182, 0, 86, 182, 0, 93, 177]
abbrev dktJ3_add_2_1 : List UInt8 := dkwJ3_add_2_1 ++ []
def dkwJ3_add_2_0 : List UInt8 := [42, 27, 182, 0, 76, 27, 42, 180, 0, 7, 160, 0, 11, 42, 44, 182, 0, 57, 167, 0, 13, 42, 44, 42]
abbrev dktJ3_add_2_0 : List UInt8 := dkwJ3_add_2_0 ++ dktJ3_add_2_1
theorem dksJ3_add_2_0 : cJ3_add_2.data.toList.drop 0 = dktJ3_add_2_0 := by decide +kernel
theorem dksJ3_add_2_1 : cJ3_add_2.data.toList.drop 24 = dktJ3_add_2_1 := dk_seg dksJ3_add_2_0 24 rfl rfl
theorem dJ3_add_2_0 : decode cJ3_add_2 0 = .ok (.aload_n 0, 1) := dk_42 (dk_at dksJ3_add_2_0 0 rfl rfl)
theorem dJ3_add_2_1 : decode cJ3_add_2 1 = .ok (.iload_n 1, 1) := dk_27 (dk_at dksJ3_add_2_0 1 rfl rfl)
theorem dJ3_add_2_2 : decode cJ3_add_2 2 = .ok (.invokevirtual 76, 3) := dk_182 0 76 (dk_at dksJ3_add_2_0 2 rfl rfl)
theorem dJ3_add_2_5 : decode cJ3_add_2 5 = .ok (.iload_n 1, 1) := dk_27 (dk_at dksJ3_add_2_0 5 rfl rfl)
theorem dJ3_add_2_6 : decode cJ3_add_2 6 = .ok (.aload_n 0, 1) := dk_42 (dk_at dksJ3_add_2_0 6 rfl rfl)
theorem dJ3_add_2_7 : decode cJ3_add_2 7 = .ok (.getfield 7, 3) := dk_180 0 7 (dk_at dksJ3_add_2_0 7 rfl rfl)
theorem dJ3_add_2_10 : decode cJ3_add_2 10 = .ok (.if_icmp .ne 11, 3) := dk_160 0 11 (dk_at dksJ3_add_2_0 10 rfl rfl)
theorem dJ3_add_2_13 : decode cJ3_add_2 13 = .ok (.aload_n 0, 1) := dk_42 (dk_at dksJ3_add_2_0 13 rfl rfl)
theorem dJ3_add_2_14 : decode cJ3_add_2 14 = .ok (.aload_n 2, 1) := dk_44 (dk_at dksJ3_add_2_0 14 rfl rfl)
theorem dJ3_add_2_15 : decode cJ3_add_2 15 = .ok (.invokevirtual 57, 3) := dk_182 0 57 (dk_at dksJ3_add_2_0 15 rfl rfl)
theorem dJ3_add_2_18 : decode cJ3_add_2 18 = .ok (.goto 13, 3) := dk_167 0 13 (dk_at dksJ3_add_2_0 18 rfl rfl)
theorem dJ3_add_2_21 : decode cJ3_add_2 21 = .ok (.aload_n 0, 1) := dk_42 (dk_at dksJ3_add_2_0 21 rfl rfl)
theorem dJ3_add_2_22 : decode cJ3_add_2 22 = .ok (.aload_n 2, 1) := dk_44 (dk_at dksJ3_add_2_0 22 rfl rfl)
theorem dJ3_add_2_23 : decode cJ3_add_2 23 = .ok (.aload_n 0, 1) := dk_42 (dk_at dksJ3_add_2_0 23 rfl rfl)
theorem dJ3_add_2_24 : decode cJ3_add_2 24 = .ok (.iload_n 1, 1) := dk_27 (dk_at dksJ3_add_2_1 0 rfl rfl)
theorem dJ3_add_2_25 : decode cJ3_add_2 25 = .ok (.invokevirtual 86, 3) := dk_182 0 86 (dk_at dksJ3_add_2_1 1 rfl rfl)
theorem dJ3_add_2_28 : decode cJ3_add_2 28 = .ok (.invokevirtual 93, 3) := dk_182 0 93 (dk_at dksJ3_add_2_1 4 rfl rfl)
theorem dJ3_add_2_31 : decode cJ3_add_2 31 = .ok (.return_, 1) := dk_177 (dk_at dksJ3_add_2_1 7 rfl rfl)
abbrev cJ3_linkBefore : ByteArray := prog_69_method_5_code
def yJ3_linkBefore : MethodName := ⟨RJ3, "linkBefore", "(Ljava/lang/Object;Ljava/util/LinkedList$Node;)V"⟩
def dkwJ3_linkBefore_2 : List UInt8 := [96, 181, 0, 7, 42, 89, 180, 0, 33, 4, 96, 181, 0, 33, 177]
abbrev dktJ3_linkBefore_2 : List UInt8 := dkwJ3_linkBefore_2 ++ []
def dkwJ3_linkBefore_1 : List UInt8 := [199, 0, 12, 42, 25, 4, 181, 0, 18, 167, 0, 9, 45, 25, 4, 181, 0, 36, 42, 89, 180, 0, 7, 4]
abbrev dktJ3_linkBefore_1 : List UInt8 := dkwJ3_linkBefore_1 ++ dktJ3_linkBefore_2
def dkwJ3_linkBefore_0 : List UInt8 := [44, 180, 0, 30, 78, 187, 0, 22, 89, 45, 43, 44, 183, 0, 24, 58, 4, 44, 25, 4, 181, 0, 30, 45]
abbrev dktJ3_linkBefore_0 : List UInt8 := dkwJ3_linkBefore_0 ++ dktJ3_linkBefore_1
theorem dksJ3_linkBefore_0 : cJ3_linkBefore.data.toList.drop 0 = dktJ3_linkBefore_0 := by decide +kernel
theorem dksJ3_linkBefore_1 : cJ3_linkBefore.data.toList.drop 24 = dktJ3_linkBefore_1 := dk_seg dksJ3_linkBefore_0 24 rfl rfl
theorem dksJ3_linkBefore_2 : cJ3_linkBefore.data.toList.drop 48 = dktJ3_linkBefore_2 := dk_seg dksJ3_linkBefore_1 24 rfl rfl
theorem dJ3_linkBefore_0 : decode cJ3_linkBefore 0 = .ok (.aload_n 2, 1) := dk_44 (dk_at dksJ3_linkBefore_0 0 rfl rfl)
theorem dJ3_linkBefore_1 : decode cJ3_linkBefore 1 = .ok (.getfield 30, 3) := dk_180 0 30 (dk_at dksJ3_linkBefore_0 1 rfl rfl)
theorem dJ3_linkBefore_4 : decode cJ3_linkBefore 4 = .ok (.astore_n 3, 1) := dk_78 (dk_at dksJ3_linkBefore_0 4 rfl rfl)
theorem dJ3_linkBefore_5 : decode cJ3_linkBefore 5 = .ok (.new 22, 3) := dk_187 0 22 (dk_at dksJ3_linkBefore_0 5 rfl rfl)
theorem dJ3_linkBefore_8 : decode cJ3_linkBefore 8 = .ok (.dup, 1) := dk_89 (dk_at dksJ3_linkBefore_0 8 rfl rfl)
theorem dJ3_linkBefore_9 : decode cJ3_linkBefore 9 = .ok (.aload_n 3, 1) := dk_45 (dk_at dksJ3_linkBefore_0 9 rfl rfl)
theorem dJ3_linkBefore_10 : decode cJ3_linkBefore 10 = .ok (.aload_n 1, 1) := dk_43 (dk_at dksJ3_linkBefore_0 10 rfl rfl)
theorem dJ3_linkBefore_11 : decode cJ3_linkBefore 11 = .ok (.aload_n 2, 1) := dk_44 (dk_at dksJ3_linkBefore_0 11 rfl rfl)
theorem dJ3_linkBefore_12 : decode cJ3_linkBefore 12 = .ok (.invokespecial 24, 3) := dk_183 0 24 (dk_at dksJ3_linkBefore_0 12 rfl rfl)
theorem dJ3_linkBefore_15 : decode cJ3_linkBefore 15 = .ok (.astore 4, 2) := dk_58 4 (dk_at dksJ3_linkBefore_0 15 rfl rfl)
theorem dJ3_linkBefore_17 : decode cJ3_linkBefore 17 = .ok (.aload_n 2, 1) := dk_44 (dk_at dksJ3_linkBefore_0 17 rfl rfl)
theorem dJ3_linkBefore_18 : decode cJ3_linkBefore 18 = .ok (.aload 4, 2) := dk_25 4 (dk_at dksJ3_linkBefore_0 18 rfl rfl)
theorem dJ3_linkBefore_20 : decode cJ3_linkBefore 20 = .ok (.putfield 30, 3) := dk_181 0 30 (dk_at dksJ3_linkBefore_0 20 rfl rfl)
theorem dJ3_linkBefore_23 : decode cJ3_linkBefore 23 = .ok (.aload_n 3, 1) := dk_45 (dk_at dksJ3_linkBefore_0 23 rfl rfl)
theorem dJ3_linkBefore_24 : decode cJ3_linkBefore 24 = .ok (.ifnonnull 12, 3) := dk_199 0 12 (dk_at dksJ3_linkBefore_1 0 rfl rfl)
theorem dJ3_linkBefore_27 : decode cJ3_linkBefore 27 = .ok (.aload_n 0, 1) := dk_42 (dk_at dksJ3_linkBefore_1 3 rfl rfl)
theorem dJ3_linkBefore_28 : decode cJ3_linkBefore 28 = .ok (.aload 4, 2) := dk_25 4 (dk_at dksJ3_linkBefore_1 4 rfl rfl)
theorem dJ3_linkBefore_30 : decode cJ3_linkBefore 30 = .ok (.putfield 18, 3) := dk_181 0 18 (dk_at dksJ3_linkBefore_1 6 rfl rfl)
theorem dJ3_linkBefore_33 : decode cJ3_linkBefore 33 = .ok (.goto 9, 3) := dk_167 0 9 (dk_at dksJ3_linkBefore_1 9 rfl rfl)
theorem dJ3_linkBefore_36 : decode cJ3_linkBefore 36 = .ok (.aload_n 3, 1) := dk_45 (dk_at dksJ3_linkBefore_1 12 rfl rfl)
theorem dJ3_linkBefore_37 : decode cJ3_linkBefore 37 = .ok (.aload 4, 2) := dk_25 4 (dk_at dksJ3_linkBefore_1 13 rfl rfl)
theorem dJ3_linkBefore_39 : decode cJ3_linkBefore 39 = .ok (.putfield 36, 3) := dk_181 0 36 (dk_at dksJ3_linkBefore_1 15 rfl rfl)
theorem dJ3_linkBefore_42 : decode cJ3_linkBefore 42 = .ok (.aload_n 0, 1) := dk_42 (dk_at dksJ3_linkBefore_1 18 rfl rfl)
theorem dJ3_linkBefore_43 : decode cJ3_linkBefore 43 = .ok (.dup, 1) := dk_89 (dk_at dksJ3_linkBefore_1 19 rfl rfl)
theorem dJ3_linkBefore_44 : decode cJ3_linkBefore 44 = .ok (.getfield 7, 3) := dk_180 0 7 (dk_at dksJ3_linkBefore_1 20 rfl rfl)
theorem dJ3_linkBefore_47 : decode cJ3_linkBefore 47 = .ok (.iconst 1, 1) := dk_4 (dk_at dksJ3_linkBefore_1 23 rfl rfl)
theorem dJ3_linkBefore_48 : decode cJ3_linkBefore 48 = .ok (.iadd, 1) := dk_96 (dk_at dksJ3_linkBefore_2 0 rfl rfl)
theorem dJ3_linkBefore_49 : decode cJ3_linkBefore 49 = .ok (.putfield 7, 3) := dk_181 0 7 (dk_at dksJ3_linkBefore_2 1 rfl rfl)
theorem dJ3_linkBefore_52 : decode cJ3_linkBefore 52 = .ok (.aload_n 0, 1) := dk_42 (dk_at dksJ3_linkBefore_2 4 rfl rfl)
theorem dJ3_linkBefore_53 : decode cJ3_linkBefore 53 = .ok (.dup, 1) := dk_89 (dk_at dksJ3_linkBefore_2 5 rfl rfl)
theorem dJ3_linkBefore_54 : decode cJ3_linkBefore 54 = .ok (.getfield 33, 3) := dk_180 0 33 (dk_at dksJ3_linkBefore_2 6 rfl rfl)
theorem dJ3_linkBefore_57 : decode cJ3_linkBefore 57 = .ok (.iconst 1, 1) := dk_4 (dk_at dksJ3_linkBefore_2 9 rfl rfl)
theorem dJ3_linkBefore_58 : decode cJ3_linkBefore 58 = .ok (.iadd, 1) := dk_96 (dk_at dksJ3_linkBefore_2 10 rfl rfl)
theorem dJ3_linkBefore_59 : decode cJ3_linkBefore 59 = .ok (.putfield 33, 3) := dk_181 0 33 (dk_at dksJ3_linkBefore_2 11 rfl rfl)
theorem dJ3_linkBefore_62 : decode cJ3_linkBefore 62 = .ok (.return_, 1) := dk_177 (dk_at dksJ3_linkBefore_2 14 rfl rfl)
abbrev cJ3_removeFirst : ByteArray := prog_69_method_11_code
def yJ3_removeFirst : MethodName := ⟨RJ3, "removeFirst", "()Ljava/lang/Object;"⟩
def dkwJ3_removeFirst_0 : List UInt8 := [42, 180, 0, 18, 76, 43, 199, 0, 11, 187, 0, 43, 89, 183, 0, 45, 191, 42, 43, 182, 0, 46, 176]
abbrev dktJ3_removeFirst_0 : List UInt8 := dkwJ3_removeFirst_0 ++ []
theorem dksJ3_removeFirst_0 : cJ3_removeFirst.data.toList.drop 0 = dktJ3_removeFirst_0 := by decide +kernel
theorem dJ3_removeFirst_0 : decode cJ3_removeFirst 0 = .ok (.aload_n 0, 1) := dk_42 (dk_at dksJ3_removeFirst_0 0 rfl rfl)
theorem dJ3_removeFirst_1 : decode cJ3_removeFirst 1 = .ok (.getfield 18, 3) := dk_180 0 18 (dk_at dksJ3_removeFirst_0 1 rfl rfl)
theorem dJ3_removeFirst_4 : decode cJ3_removeFirst 4 = .ok (.astore_n 1, 1) := dk_76 (dk_at dksJ3_removeFirst_0 4 rfl rfl)
theorem dJ3_removeFirst_5 : decode cJ3_removeFirst 5 = .ok (.aload_n 1, 1) := dk_43 (dk_at dksJ3_removeFirst_0 5 rfl rfl)
theorem dJ3_removeFirst_6 : decode cJ3_removeFirst 6 = .ok (.ifnonnull 11, 3) := dk_199 0 11 (dk_at dksJ3_removeFirst_0 6 rfl rfl)
theorem dJ3_removeFirst_9 : decode cJ3_removeFirst 9 = .ok (.new 43, 3) := dk_187 0 43 (dk_at dksJ3_removeFirst_0 9 rfl rfl)
theorem dJ3_removeFirst_12 : decode cJ3_removeFirst 12 = .ok (.dup, 1) := dk_89 (dk_at dksJ3_removeFirst_0 12 rfl rfl)
theorem dJ3_removeFirst_13 : decode cJ3_removeFirst 13 = .ok (.invokespecial 45, 3) := dk_183 0 45 (dk_at dksJ3_removeFirst_0 13 rfl rfl)
theorem dJ3_removeFirst_16 : decode cJ3_removeFirst 16 = .ok (.athrow, 1) := dk_191 (dk_at dksJ3_removeFirst_0 16 rfl rfl)
theorem dJ3_removeFirst_17 : decode cJ3_removeFirst 17 = .ok (.aload_n 0, 1) := dk_42 (dk_at dksJ3_removeFirst_0 17 rfl rfl)
theorem dJ3_removeFirst_18 : decode cJ3_removeFirst 18 = .ok (.aload_n 1, 1) := dk_43 (dk_at dksJ3_removeFirst_0 18 rfl rfl)
theorem dJ3_removeFirst_19 : decode cJ3_removeFirst 19 = .ok (.invokevirtual 46, 3) := dk_182 0 46 (dk_at dksJ3_removeFirst_0 19 rfl rfl)
theorem dJ3_removeFirst_22 : decode cJ3_removeFirst 22 = .ok (.areturn, 1) := dk_176 (dk_at dksJ3_removeFirst_0 22 rfl rfl)
abbrev cJ3_unlinkFirst : ByteArray := prog_69_method_6_code
def yJ3_unlinkFirst : MethodName := ⟨RJ3, "unlinkFirst", "(Ljava/util/LinkedList$Node;)Ljava/lang/Object;"⟩
def dkwJ3_unlinkFirst_2 : List UInt8 := [180, 0, 7, 4, 100, 181, 0, 7, 42, 89, 180, 0, 33, 4, 96, 181, 0, 33, 44, 176]
abbrev dktJ3_unlinkFirst_2 : List UInt8 := dkwJ3_unlinkFirst_2 ++ []
def dkwJ3_unlinkFirst_1 : List UInt8 := [181, 0, 18, 45, 199, 0, 11, 42, 1, 181, 0, 27, 167, 0, 8, 45, 1, 181, 0, 30, 42, 89]
abbrev dktJ3_unlinkFirst_1 : List UInt8 := dkwJ3_unlinkFirst_1 ++ dktJ3_unlinkFirst_2
def dkwJ3_unlinkFirst_0 : List UInt8 := [43, 180, 0, 39, 77, 43, 180, 0, 36, 78, 43, 1, 181, 0, 39, 43, 1, 181, 0, 36, 42, 45]
abbrev dktJ3_unlinkFirst_0 : List UInt8 := dkwJ3_unlinkFirst_0 ++ dktJ3_unlinkFirst_1
theorem dksJ3_unlinkFirst_0 : cJ3_unlinkFirst.data.toList.drop 0 = dktJ3_unlinkFirst_0 := by decide +kernel
theorem dksJ3_unlinkFirst_1 : cJ3_unlinkFirst.data.toList.drop 22 = dktJ3_unlinkFirst_1 := dk_seg dksJ3_unlinkFirst_0 22 rfl rfl
theorem dksJ3_unlinkFirst_2 : cJ3_unlinkFirst.data.toList.drop 44 = dktJ3_unlinkFirst_2 := dk_seg dksJ3_unlinkFirst_1 22 rfl rfl
theorem dJ3_unlinkFirst_0 : decode cJ3_unlinkFirst 0 = .ok (.aload_n 1, 1) := dk_43 (dk_at dksJ3_unlinkFirst_0 0 rfl rfl)
theorem dJ3_unlinkFirst_1 : decode cJ3_unlinkFirst 1 = .ok (.getfield 39, 3) := dk_180 0 39 (dk_at dksJ3_unlinkFirst_0 1 rfl rfl)
theorem dJ3_unlinkFirst_4 : decode cJ3_unlinkFirst 4 = .ok (.astore_n 2, 1) := dk_77 (dk_at dksJ3_unlinkFirst_0 4 rfl rfl)
theorem dJ3_unlinkFirst_5 : decode cJ3_unlinkFirst 5 = .ok (.aload_n 1, 1) := dk_43 (dk_at dksJ3_unlinkFirst_0 5 rfl rfl)
theorem dJ3_unlinkFirst_6 : decode cJ3_unlinkFirst 6 = .ok (.getfield 36, 3) := dk_180 0 36 (dk_at dksJ3_unlinkFirst_0 6 rfl rfl)
theorem dJ3_unlinkFirst_9 : decode cJ3_unlinkFirst 9 = .ok (.astore_n 3, 1) := dk_78 (dk_at dksJ3_unlinkFirst_0 9 rfl rfl)
theorem dJ3_unlinkFirst_10 : decode cJ3_unlinkFirst 10 = .ok (.aload_n 1, 1) := dk_43 (dk_at dksJ3_unlinkFirst_0 10 rfl rfl)
theorem dJ3_unlinkFirst_11 : decode cJ3_unlinkFirst 11 = .ok (.aconst_null, 1) := dk_1 (dk_at dksJ3_unlinkFirst_0 11 rfl rfl)
theorem dJ3_unlinkFirst_12 : decode cJ3_unlinkFirst 12 = .ok (.putfield 39, 3) := dk_181 0 39 (dk_at dksJ3_unlinkFirst_0 12 rfl rfl)
theorem dJ3_unlinkFirst_15 : decode cJ3_unlinkFirst 15 = .ok (.aload_n 1, 1) := dk_43 (dk_at dksJ3_unlinkFirst_0 15 rfl rfl)
theorem dJ3_unlinkFirst_16 : decode cJ3_unlinkFirst 16 = .ok (.aconst_null, 1) := dk_1 (dk_at dksJ3_unlinkFirst_0 16 rfl rfl)
theorem dJ3_unlinkFirst_17 : decode cJ3_unlinkFirst 17 = .ok (.putfield 36, 3) := dk_181 0 36 (dk_at dksJ3_unlinkFirst_0 17 rfl rfl)
theorem dJ3_unlinkFirst_20 : decode cJ3_unlinkFirst 20 = .ok (.aload_n 0, 1) := dk_42 (dk_at dksJ3_unlinkFirst_0 20 rfl rfl)
theorem dJ3_unlinkFirst_21 : decode cJ3_unlinkFirst 21 = .ok (.aload_n 3, 1) := dk_45 (dk_at dksJ3_unlinkFirst_0 21 rfl rfl)
theorem dJ3_unlinkFirst_22 : decode cJ3_unlinkFirst 22 = .ok (.putfield 18, 3) := dk_181 0 18 (dk_at dksJ3_unlinkFirst_1 0 rfl rfl)
theorem dJ3_unlinkFirst_25 : decode cJ3_unlinkFirst 25 = .ok (.aload_n 3, 1) := dk_45 (dk_at dksJ3_unlinkFirst_1 3 rfl rfl)
theorem dJ3_unlinkFirst_26 : decode cJ3_unlinkFirst 26 = .ok (.ifnonnull 11, 3) := dk_199 0 11 (dk_at dksJ3_unlinkFirst_1 4 rfl rfl)
theorem dJ3_unlinkFirst_29 : decode cJ3_unlinkFirst 29 = .ok (.aload_n 0, 1) := dk_42 (dk_at dksJ3_unlinkFirst_1 7 rfl rfl)
theorem dJ3_unlinkFirst_30 : decode cJ3_unlinkFirst 30 = .ok (.aconst_null, 1) := dk_1 (dk_at dksJ3_unlinkFirst_1 8 rfl rfl)
theorem dJ3_unlinkFirst_31 : decode cJ3_unlinkFirst 31 = .ok (.putfield 27, 3) := dk_181 0 27 (dk_at dksJ3_unlinkFirst_1 9 rfl rfl)
theorem dJ3_unlinkFirst_34 : decode cJ3_unlinkFirst 34 = .ok (.goto 8, 3) := dk_167 0 8 (dk_at dksJ3_unlinkFirst_1 12 rfl rfl)
theorem dJ3_unlinkFirst_37 : decode cJ3_unlinkFirst 37 = .ok (.aload_n 3, 1) := dk_45 (dk_at dksJ3_unlinkFirst_1 15 rfl rfl)
theorem dJ3_unlinkFirst_38 : decode cJ3_unlinkFirst 38 = .ok (.aconst_null, 1) := dk_1 (dk_at dksJ3_unlinkFirst_1 16 rfl rfl)
theorem dJ3_unlinkFirst_39 : decode cJ3_unlinkFirst 39 = .ok (.putfield 30, 3) := dk_181 0 30 (dk_at dksJ3_unlinkFirst_1 17 rfl rfl)
theorem dJ3_unlinkFirst_42 : decode cJ3_unlinkFirst 42 = .ok (.aload_n 0, 1) := dk_42 (dk_at dksJ3_unlinkFirst_1 20 rfl rfl)
theorem dJ3_unlinkFirst_43 : decode cJ3_unlinkFirst 43 = .ok (.dup, 1) := dk_89 (dk_at dksJ3_unlinkFirst_1 21 rfl rfl)
theorem dJ3_unlinkFirst_44 : decode cJ3_unlinkFirst 44 = .ok (.getfield 7, 3) := dk_180 0 7 (dk_at dksJ3_unlinkFirst_2 0 rfl rfl)
theorem dJ3_unlinkFirst_47 : decode cJ3_unlinkFirst 47 = .ok (.iconst 1, 1) := dk_4 (dk_at dksJ3_unlinkFirst_2 3 rfl rfl)
theorem dJ3_unlinkFirst_48 : decode cJ3_unlinkFirst 48 = .ok (.isub, 1) := dk_100 (dk_at dksJ3_unlinkFirst_2 4 rfl rfl)
theorem dJ3_unlinkFirst_49 : decode cJ3_unlinkFirst 49 = .ok (.putfield 7, 3) := dk_181 0 7 (dk_at dksJ3_unlinkFirst_2 5 rfl rfl)
theorem dJ3_unlinkFirst_52 : decode cJ3_unlinkFirst 52 = .ok (.aload_n 0, 1) := dk_42 (dk_at dksJ3_unlinkFirst_2 8 rfl rfl)
theorem dJ3_unlinkFirst_53 : decode cJ3_unlinkFirst 53 = .ok (.dup, 1) := dk_89 (dk_at dksJ3_unlinkFirst_2 9 rfl rfl)
theorem dJ3_unlinkFirst_54 : decode cJ3_unlinkFirst 54 = .ok (.getfield 33, 3) := dk_180 0 33 (dk_at dksJ3_unlinkFirst_2 10 rfl rfl)
theorem dJ3_unlinkFirst_57 : decode cJ3_unlinkFirst 57 = .ok (.iconst 1, 1) := dk_4 (dk_at dksJ3_unlinkFirst_2 13 rfl rfl)
theorem dJ3_unlinkFirst_58 : decode cJ3_unlinkFirst 58 = .ok (.iadd, 1) := dk_96 (dk_at dksJ3_unlinkFirst_2 14 rfl rfl)
theorem dJ3_unlinkFirst_59 : decode cJ3_unlinkFirst 59 = .ok (.putfield 33, 3) := dk_181 0 33 (dk_at dksJ3_unlinkFirst_2 15 rfl rfl)
theorem dJ3_unlinkFirst_62 : decode cJ3_unlinkFirst 62 = .ok (.aload_n 2, 1) := dk_44 (dk_at dksJ3_unlinkFirst_2 18 rfl rfl)
theorem dJ3_unlinkFirst_63 : decode cJ3_unlinkFirst 63 = .ok (.areturn, 1) := dk_176 (dk_at dksJ3_unlinkFirst_2 19 rfl rfl)
abbrev cJ3_addLast : ByteArray := prog_69_method_14_code
def yJ3_addLast : MethodName := ⟨RJ3, "addLast", "(Ljava/lang/Object;)V"⟩
def dkwJ3_addLast_0 : List UInt8 := [42, 43, 182, 0, 57, 177]
abbrev dktJ3_addLast_0 : List UInt8 := dkwJ3_addLast_0 ++ []
theorem dksJ3_addLast_0 : cJ3_addLast.data.toList.drop 0 = dktJ3_addLast_0 := by decide +kernel
theorem dJ3_addLast_0 : decode cJ3_addLast 0 = .ok (.aload_n 0, 1) := dk_42 (dk_at dksJ3_addLast_0 0 rfl rfl)
theorem dJ3_addLast_1 : decode cJ3_addLast 1 = .ok (.aload_n 1, 1) := dk_43 (dk_at dksJ3_addLast_0 1 rfl rfl)
theorem dJ3_addLast_2 : decode cJ3_addLast 2 = .ok (.invokevirtual 57, 3) := dk_182 0 57 (dk_at dksJ3_addLast_0 2 rfl rfl)
theorem dJ3_addLast_5 : decode cJ3_addLast 5 = .ok (.return_, 1) := dk_177 (dk_at dksJ3_addLast_0 5 rfl rfl)
abbrev cJ3_toArray : ByteArray := prog_69_method_53_code
def yJ3_toArray : MethodName := ⟨RJ3, "toArray", "()[Ljava/lang/Object;"⟩
def dkwJ3_toArray_1 : List UInt8 := [45, 180, 0, 39, 83, 45, 180, 0, 36, 78, 167, 255, 237, 43, 176]
abbrev dktJ3_toArray_1 : List UInt8 := dkwJ3_toArray_1 ++ []
def dkwJ3_toArray_0 : List UInt8 := [42, 180, 0, 7, 189, 0, 68, 76, 3, 61, 42, 180, 0, 18, 78, 45, 198, 0, 21, 43, 28, 132, 2, 1]
abbrev dktJ3_toArray_0 : List UInt8 := dkwJ3_toArray_0 ++ dktJ3_toArray_1
theorem dksJ3_toArray_0 : cJ3_toArray.data.toList.drop 0 = dktJ3_toArray_0 := by decide +kernel
theorem dksJ3_toArray_1 : cJ3_toArray.data.toList.drop 24 = dktJ3_toArray_1 := dk_seg dksJ3_toArray_0 24 rfl rfl
theorem dJ3_toArray_0 : decode cJ3_toArray 0 = .ok (.aload_n 0, 1) := dk_42 (dk_at dksJ3_toArray_0 0 rfl rfl)
theorem dJ3_toArray_1 : decode cJ3_toArray 1 = .ok (.getfield 7, 3) := dk_180 0 7 (dk_at dksJ3_toArray_0 1 rfl rfl)
theorem dJ3_toArray_4 : decode cJ3_toArray 4 = .ok (.anewarray 68, 3) := dk_189 0 68 (dk_at dksJ3_toArray_0 4 rfl rfl)
theorem dJ3_toArray_7 : decode cJ3_toArray 7 = .ok (.astore_n 1, 1) := dk_76 (dk_at dksJ3_toArray_0 7 rfl rfl)
theorem dJ3_toArray_8 : decode cJ3_toArray 8 = .ok (.iconst 0, 1) := dk_3 (dk_at dksJ3_toArray_0 8 rfl rfl)
theorem dJ3_toArray_9 : decode cJ3_toArray 9 = .ok (.istore_n 2, 1) := dk_61 (dk_at dksJ3_toArray_0 9 rfl rfl)
theorem dJ3_toArray_10 : decode cJ3_toArray 10 = .ok (.aload_n 0, 1) := dk_42 (dk_at dksJ3_toArray_0 10 rfl rfl)
theorem dJ3_toArray_11 : decode cJ3_toArray 11 = .ok (.getfield 18, 3) := dk_180 0 18 (dk_at dksJ3_toArray_0 11 rfl rfl)
theorem dJ3_toArray_14 : decode cJ3_toArray 14 = .ok (.astore_n 3, 1) := dk_78 (dk_at dksJ3_toArray_0 14 rfl rfl)
theorem dJ3_toArray_15 : decode cJ3_toArray 15 = .ok (.aload_n 3, 1) := dk_45 (dk_at dksJ3_toArray_0 15 rfl rfl)
theorem dJ3_toArray_16 : decode cJ3_toArray 16 = .ok (.ifnull 21, 3) := dk_198 0 21 (dk_at dksJ3_toArray_0 16 rfl rfl)
theorem dJ3_toArray_19 : decode cJ3_toArray 19 = .ok (.aload_n 1, 1) := dk_43 (dk_at dksJ3_toArray_0 19 rfl rfl)
theorem dJ3_toArray_20 : decode cJ3_toArray 20 = .ok (.iload_n 2, 1) := dk_28 (dk_at dksJ3_toArray_0 20 rfl rfl)
theorem dJ3_toArray_21 : decode cJ3_toArray 21 = .ok (.iinc 2 1, 3) := dk_132 2 1 (dk_at dksJ3_toArray_0 21 rfl rfl)
theorem dJ3_toArray_24 : decode cJ3_toArray 24 = .ok (.aload_n 3, 1) := dk_45 (dk_at dksJ3_toArray_1 0 rfl rfl)
theorem dJ3_toArray_25 : decode cJ3_toArray 25 = .ok (.getfield 39, 3) := dk_180 0 39 (dk_at dksJ3_toArray_1 1 rfl rfl)
theorem dJ3_toArray_28 : decode cJ3_toArray 28 = .ok (.aastore, 1) := dk_83 (dk_at dksJ3_toArray_1 4 rfl rfl)
theorem dJ3_toArray_29 : decode cJ3_toArray 29 = .ok (.aload_n 3, 1) := dk_45 (dk_at dksJ3_toArray_1 5 rfl rfl)
theorem dJ3_toArray_30 : decode cJ3_toArray 30 = .ok (.getfield 36, 3) := dk_180 0 36 (dk_at dksJ3_toArray_1 6 rfl rfl)
theorem dJ3_toArray_33 : decode cJ3_toArray 33 = .ok (.astore_n 3, 1) := dk_78 (dk_at dksJ3_toArray_1 9 rfl rfl)
theorem dJ3_toArray_34 : decode cJ3_toArray 34 = .ok (.goto (-19), 3) := dk_167 255 237 (dk_at dksJ3_toArray_1 10 rfl rfl)
theorem dJ3_toArray_37 : decode cJ3_toArray 37 = .ok (.aload_n 1, 1) := dk_43 (dk_at dksJ3_toArray_1 13 rfl rfl)
theorem dJ3_toArray_38 : decode cJ3_toArray 38 = .ok (.areturn, 1) := dk_176 (dk_at dksJ3_toArray_1 14 rfl rfl)
abbrev cJ3_indexOf : ByteArray := prog_69_method_32_code
def yJ3_indexOf : MethodName := ⟨RJ3, "indexOf", "(Ljava/lang/Object;)I"⟩
def dkwJ3_indexOf_3 : List UInt8 := [172]
abbrev dktJ3_indexOf_3 : List UInt8 := dkwJ3_indexOf_3 ++ []
def dkwJ3_indexOf_2 : List UInt8 := [45, 180, 0, 39, 182, 0, 67, 153, 0, 5, 28, 172, 132, 2, 1, 45, 180, 0, 36, 78, 167, 255, 231, 2]
abbrev dktJ3_indexOf_2 : List UInt8 := dkwJ3_indexOf_2 ++ dktJ3_indexOf_3
def dkwJ3_indexOf_1 : List UInt8 := [132, 2, 1, 45, 180, 0, 36, 78, 167, 255, 235, 167, 0, 36, 42, 180, 0, 18, 78, 45, 198, 0, 27, 43]
abbrev dktJ3_indexOf_1 : List UInt8 := dkwJ3_indexOf_1 ++ dktJ3_indexOf_2
def dkwJ3_indexOf_0 : List UInt8 := [3, 61, 43, 199, 0, 35, 42, 180, 0, 18, 78, 45, 198, 0, 23, 45, 180, 0, 39, 199, 0, 5, 28, 172]
abbrev dktJ3_indexOf_0 : List UInt8 := dkwJ3_indexOf_0 ++ dktJ3_indexOf_1
theorem dksJ3_indexOf_0 : cJ3_indexOf.data.toList.drop 0 = dktJ3_indexOf_0 := by decide +kernel
theorem dksJ3_indexOf_1 : cJ3_indexOf.data.toList.drop 24 = dktJ3_indexOf_1 := dk_seg dksJ3_indexOf_0 24 rfl rfl
theorem dksJ3_indexOf_2 : cJ3_indexOf.data.toList.drop 48 = dktJ3_indexOf_2 := dk_seg dksJ3_indexOf_1 24 rfl rfl
theorem dksJ3_indexOf_3 : cJ3_indexOf.data.toList.drop 72 = dktJ3_indexOf_3 := dk_seg dksJ3_indexOf_2 24 rfl rfl
theorem dJ3_indexOf_0 : decode cJ3_indexOf 0 = .ok (.iconst 0, 1) := dk_3 (dk_at dksJ3_indexOf_0 0 rfl rfl)
theorem dJ3_indexOf_1 : decode cJ3_indexOf 1 = .ok (.istore_n 2, 1) := dk_61 (dk_at dksJ3_indexOf_0 1 rfl rfl)
theorem dJ3_indexOf_2 : decode cJ3_indexOf 2 = .ok (.aload_n 1, 1) := dk_43 (dk_at dksJ3_indexOf_0 2 rfl rfl)
theorem dJ3_indexOf_3 : decode cJ3_indexOf 3 = .ok (.ifnonnull 35, 3) := dk_199 0 35 (dk_at dksJ3_indexOf_0 3 rfl rfl)
theorem dJ3_indexOf_6 : decode cJ3_indexOf 6 = .ok (.aload_n 0, 1) := dk_42 (dk_at dksJ3_indexOf_0 6 rfl rfl)
theorem dJ3_indexOf_7 : decode cJ3_indexOf 7 = .ok (.getfield 18, 3) := dk_180 0 18 (dk_at dksJ3_indexOf_0 7 rfl rfl)
theorem dJ3_indexOf_10 : decode cJ3_indexOf 10 = .ok (.astore_n 3, 1) := dk_78 (dk_at dksJ3_indexOf_0 10 rfl rfl)
theorem dJ3_indexOf_11 : decode cJ3_indexOf 11 = .ok (.aload_n 3, 1) := dk_45 (dk_at dksJ3_indexOf_0 11 rfl rfl)
theorem dJ3_indexOf_12 : decode cJ3_indexOf 12 = .ok (.ifnull 23, 3) := dk_198 0 23 (dk_at dksJ3_indexOf_0 12 rfl rfl)
theorem dJ3_indexOf_15 : decode cJ3_indexOf 15 = .ok (.aload_n 3, 1) := dk_45 (dk_at dksJ3_indexOf_0 15 rfl rfl)
theorem dJ3_indexOf_16 : decode cJ3_indexOf 16 = .ok (.getfield 39, 3) := dk_180 0 39 (dk_at dksJ3_indexOf_0 16 rfl rfl)
theorem dJ3_indexOf_19 : decode cJ3_indexOf 19 = .ok (.ifnonnull 5, 3) := dk_199 0 5 (dk_at dksJ3_indexOf_0 19 rfl rfl)
theorem dJ3_indexOf_22 : decode cJ3_indexOf 22 = .ok (.iload_n 2, 1) := dk_28 (dk_at dksJ3_indexOf_0 22 rfl rfl)
theorem dJ3_indexOf_23 : decode cJ3_indexOf 23 = .ok (.ireturn, 1) := dk_172 (dk_at dksJ3_indexOf_0 23 rfl rfl)
theorem dJ3_indexOf_24 : decode cJ3_indexOf 24 = .ok (.iinc 2 1, 3) := dk_132 2 1 (dk_at dksJ3_indexOf_1 0 rfl rfl)
theorem dJ3_indexOf_27 : decode cJ3_indexOf 27 = .ok (.aload_n 3, 1) := dk_45 (dk_at dksJ3_indexOf_1 3 rfl rfl)
theorem dJ3_indexOf_28 : decode cJ3_indexOf 28 = .ok (.getfield 36, 3) := dk_180 0 36 (dk_at dksJ3_indexOf_1 4 rfl rfl)
theorem dJ3_indexOf_31 : decode cJ3_indexOf 31 = .ok (.astore_n 3, 1) := dk_78 (dk_at dksJ3_indexOf_1 7 rfl rfl)
theorem dJ3_indexOf_32 : decode cJ3_indexOf 32 = .ok (.goto (-21), 3) := dk_167 255 235 (dk_at dksJ3_indexOf_1 8 rfl rfl)
theorem dJ3_indexOf_35 : decode cJ3_indexOf 35 = .ok (.goto 36, 3) := dk_167 0 36 (dk_at dksJ3_indexOf_1 11 rfl rfl)
theorem dJ3_indexOf_38 : decode cJ3_indexOf 38 = .ok (.aload_n 0, 1) := dk_42 (dk_at dksJ3_indexOf_1 14 rfl rfl)
theorem dJ3_indexOf_39 : decode cJ3_indexOf 39 = .ok (.getfield 18, 3) := dk_180 0 18 (dk_at dksJ3_indexOf_1 15 rfl rfl)
theorem dJ3_indexOf_42 : decode cJ3_indexOf 42 = .ok (.astore_n 3, 1) := dk_78 (dk_at dksJ3_indexOf_1 18 rfl rfl)
theorem dJ3_indexOf_43 : decode cJ3_indexOf 43 = .ok (.aload_n 3, 1) := dk_45 (dk_at dksJ3_indexOf_1 19 rfl rfl)
theorem dJ3_indexOf_44 : decode cJ3_indexOf 44 = .ok (.ifnull 27, 3) := dk_198 0 27 (dk_at dksJ3_indexOf_1 20 rfl rfl)
theorem dJ3_indexOf_47 : decode cJ3_indexOf 47 = .ok (.aload_n 1, 1) := dk_43 (dk_at dksJ3_indexOf_1 23 rfl rfl)
theorem dJ3_indexOf_48 : decode cJ3_indexOf 48 = .ok (.aload_n 3, 1) := dk_45 (dk_at dksJ3_indexOf_2 0 rfl rfl)
theorem dJ3_indexOf_49 : decode cJ3_indexOf 49 = .ok (.getfield 39, 3) := dk_180 0 39 (dk_at dksJ3_indexOf_2 1 rfl rfl)
theorem dJ3_indexOf_52 : decode cJ3_indexOf 52 = .ok (.invokevirtual 67, 3) := dk_182 0 67 (dk_at dksJ3_indexOf_2 4 rfl rfl)
theorem dJ3_indexOf_55 : decode cJ3_indexOf 55 = .ok (.ifCond .eq 5, 3) := dk_153 0 5 (dk_at dksJ3_indexOf_2 7 rfl rfl)
theorem dJ3_indexOf_58 : decode cJ3_indexOf 58 = .ok (.iload_n 2, 1) := dk_28 (dk_at dksJ3_indexOf_2 10 rfl rfl)
theorem dJ3_indexOf_59 : decode cJ3_indexOf 59 = .ok (.ireturn, 1) := dk_172 (dk_at dksJ3_indexOf_2 11 rfl rfl)
theorem dJ3_indexOf_60 : decode cJ3_indexOf 60 = .ok (.iinc 2 1, 3) := dk_132 2 1 (dk_at dksJ3_indexOf_2 12 rfl rfl)
theorem dJ3_indexOf_63 : decode cJ3_indexOf 63 = .ok (.aload_n 3, 1) := dk_45 (dk_at dksJ3_indexOf_2 15 rfl rfl)
theorem dJ3_indexOf_64 : decode cJ3_indexOf 64 = .ok (.getfield 36, 3) := dk_180 0 36 (dk_at dksJ3_indexOf_2 16 rfl rfl)
theorem dJ3_indexOf_67 : decode cJ3_indexOf 67 = .ok (.astore_n 3, 1) := dk_78 (dk_at dksJ3_indexOf_2 19 rfl rfl)
theorem dJ3_indexOf_68 : decode cJ3_indexOf 68 = .ok (.goto (-25), 3) := dk_167 255 231 (dk_at dksJ3_indexOf_2 20 rfl rfl)
theorem dJ3_indexOf_71 : decode cJ3_indexOf 71 = .ok (.iconst (-1), 1) := dk_2 (dk_at dksJ3_indexOf_2 23 rfl rfl)
theorem dJ3_indexOf_72 : decode cJ3_indexOf 72 = .ok (.ireturn, 1) := dk_172 (dk_at dksJ3_indexOf_3 0 rfl rfl)
abbrev cJ3_removeLast : ByteArray := prog_69_method_12_code
def yJ3_removeLast : MethodName := ⟨RJ3, "removeLast", "()Ljava/lang/Object;"⟩
def dkwJ3_removeLast_0 : List UInt8 := [42, 180, 0, 27, 76, 43, 199, 0, 11, 187, 0, 43, 89, 183, 0, 45, 191, 42, 43, 182, 0, 50, 176]
abbrev dktJ3_removeLast_0 : List UInt8 := dkwJ3_removeLast_0 ++ []
theorem dksJ3_removeLast_0 : cJ3_removeLast.data.toList.drop 0 = dktJ3_removeLast_0 := by decide +kernel
theorem dJ3_removeLast_0 : decode cJ3_removeLast 0 = .ok (.aload_n 0, 1) := dk_42 (dk_at dksJ3_removeLast_0 0 rfl rfl)
theorem dJ3_removeLast_1 : decode cJ3_removeLast 1 = .ok (.getfield 27, 3) := dk_180 0 27 (dk_at dksJ3_removeLast_0 1 rfl rfl)
theorem dJ3_removeLast_4 : decode cJ3_removeLast 4 = .ok (.astore_n 1, 1) := dk_76 (dk_at dksJ3_removeLast_0 4 rfl rfl)
theorem dJ3_removeLast_5 : decode cJ3_removeLast 5 = .ok (.aload_n 1, 1) := dk_43 (dk_at dksJ3_removeLast_0 5 rfl rfl)
theorem dJ3_removeLast_6 : decode cJ3_removeLast 6 = .ok (.ifnonnull 11, 3) := dk_199 0 11 (dk_at dksJ3_removeLast_0 6 rfl rfl)
theorem dJ3_removeLast_9 : decode cJ3_removeLast 9 = .ok (.new 43, 3) := dk_187 0 43 (dk_at dksJ3_removeLast_0 9 rfl rfl)
theorem dJ3_removeLast_12 : decode cJ3_removeLast 12 = .ok (.dup, 1) := dk_89 (dk_at dksJ3_removeLast_0 12 rfl rfl)
theorem dJ3_removeLast_13 : decode cJ3_removeLast 13 = .ok (.invokespecial 45, 3) := dk_183 0 45 (dk_at dksJ3_removeLast_0 13 rfl rfl)
theorem dJ3_removeLast_16 : decode cJ3_removeLast 16 = .ok (.athrow, 1) := dk_191 (dk_at dksJ3_removeLast_0 16 rfl rfl)
theorem dJ3_removeLast_17 : decode cJ3_removeLast 17 = .ok (.aload_n 0, 1) := dk_42 (dk_at dksJ3_removeLast_0 17 rfl rfl)
theorem dJ3_removeLast_18 : decode cJ3_removeLast 18 = .ok (.aload_n 1, 1) := dk_43 (dk_at dksJ3_removeLast_0 18 rfl rfl)
theorem dJ3_removeLast_19 : decode cJ3_removeLast 19 = .ok (.invokevirtual 50, 3) := dk_182 0 50 (dk_at dksJ3_removeLast_0 19 rfl rfl)
theorem dJ3_removeLast_22 : decode cJ3_removeLast 22 = .ok (.areturn, 1) := dk_176 (dk_at dksJ3_removeLast_0 22 rfl rfl)
abbrev cJ3_unlinkLast : ByteArray := prog_69_method_7_code
def yJ3_unlinkLast : MethodName := ⟨RJ3, "unlinkLast", "(Ljava/util/LinkedList$Node;)Ljava/lang/Object;"⟩
def dkwJ3_unlinkLast_2 : List UInt8 := [180, 0, 7, 4, 100, 181, 0, 7, 42, 89, 180, 0, 33, 4, 96, 181, 0, 33, 44, 176]
abbrev dktJ3_unlinkLast_2 : List UInt8 := dkwJ3_unlinkLast_2 ++ []
def dkwJ3_unlinkLast_1 : List UInt8 := [181, 0, 27, 45, 199, 0, 11, 42, 1, 181, 0, 18, 167, 0, 8, 45, 1, 181, 0, 36, 42, 89]
abbrev dktJ3_unlinkLast_1 : List UInt8 := dkwJ3_unlinkLast_1 ++ dktJ3_unlinkLast_2
def dkwJ3_unlinkLast_0 : List UInt8 := [43, 180, 0, 39, 77, 43, 180, 0, 30, 78, 43, 1, 181, 0, 39, 43, 1, 181, 0, 30, 42, 45]
abbrev dktJ3_unlinkLast_0 : List UInt8 := dkwJ3_unlinkLast_0 ++ dktJ3_unlinkLast_1
theorem dksJ3_unlinkLast_0 : cJ3_unlinkLast.data.toList.drop 0 = dktJ3_unlinkLast_0 := by decide +kernel
theorem dksJ3_unlinkLast_1 : cJ3_unlinkLast.data.toList.drop 22 = dktJ3_unlinkLast_1 := dk_seg dksJ3_unlinkLast_0 22 rfl rfl
theorem dksJ3_unlinkLast_2 : cJ3_unlinkLast.data.toList.drop 44 = dktJ3_unlinkLast_2 := dk_seg dksJ3_unlinkLast_1 22 rfl rfl
theorem dJ3_unlinkLast_0 : decode cJ3_unlinkLast 0 = .ok (.aload_n 1, 1) := dk_43 (dk_at dksJ3_unlinkLast_0 0 rfl rfl)
theorem dJ3_unlinkLast_1 : decode cJ3_unlinkLast 1 = .ok (.getfield 39, 3) := dk_180 0 39 (dk_at dksJ3_unlinkLast_0 1 rfl rfl)
theorem dJ3_unlinkLast_4 : decode cJ3_unlinkLast 4 = .ok (.astore_n 2, 1) := dk_77 (dk_at dksJ3_unlinkLast_0 4 rfl rfl)
theorem dJ3_unlinkLast_5 : decode cJ3_unlinkLast 5 = .ok (.aload_n 1, 1) := dk_43 (dk_at dksJ3_unlinkLast_0 5 rfl rfl)
theorem dJ3_unlinkLast_6 : decode cJ3_unlinkLast 6 = .ok (.getfield 30, 3) := dk_180 0 30 (dk_at dksJ3_unlinkLast_0 6 rfl rfl)
theorem dJ3_unlinkLast_9 : decode cJ3_unlinkLast 9 = .ok (.astore_n 3, 1) := dk_78 (dk_at dksJ3_unlinkLast_0 9 rfl rfl)
theorem dJ3_unlinkLast_10 : decode cJ3_unlinkLast 10 = .ok (.aload_n 1, 1) := dk_43 (dk_at dksJ3_unlinkLast_0 10 rfl rfl)
theorem dJ3_unlinkLast_11 : decode cJ3_unlinkLast 11 = .ok (.aconst_null, 1) := dk_1 (dk_at dksJ3_unlinkLast_0 11 rfl rfl)
theorem dJ3_unlinkLast_12 : decode cJ3_unlinkLast 12 = .ok (.putfield 39, 3) := dk_181 0 39 (dk_at dksJ3_unlinkLast_0 12 rfl rfl)
theorem dJ3_unlinkLast_15 : decode cJ3_unlinkLast 15 = .ok (.aload_n 1, 1) := dk_43 (dk_at dksJ3_unlinkLast_0 15 rfl rfl)
theorem dJ3_unlinkLast_16 : decode cJ3_unlinkLast 16 = .ok (.aconst_null, 1) := dk_1 (dk_at dksJ3_unlinkLast_0 16 rfl rfl)
theorem dJ3_unlinkLast_17 : decode cJ3_unlinkLast 17 = .ok (.putfield 30, 3) := dk_181 0 30 (dk_at dksJ3_unlinkLast_0 17 rfl rfl)
theorem dJ3_unlinkLast_20 : decode cJ3_unlinkLast 20 = .ok (.aload_n 0, 1) := dk_42 (dk_at dksJ3_unlinkLast_0 20 rfl rfl)
theorem dJ3_unlinkLast_21 : decode cJ3_unlinkLast 21 = .ok (.aload_n 3, 1) := dk_45 (dk_at dksJ3_unlinkLast_0 21 rfl rfl)
theorem dJ3_unlinkLast_22 : decode cJ3_unlinkLast 22 = .ok (.putfield 27, 3) := dk_181 0 27 (dk_at dksJ3_unlinkLast_1 0 rfl rfl)
theorem dJ3_unlinkLast_25 : decode cJ3_unlinkLast 25 = .ok (.aload_n 3, 1) := dk_45 (dk_at dksJ3_unlinkLast_1 3 rfl rfl)
theorem dJ3_unlinkLast_26 : decode cJ3_unlinkLast 26 = .ok (.ifnonnull 11, 3) := dk_199 0 11 (dk_at dksJ3_unlinkLast_1 4 rfl rfl)
theorem dJ3_unlinkLast_29 : decode cJ3_unlinkLast 29 = .ok (.aload_n 0, 1) := dk_42 (dk_at dksJ3_unlinkLast_1 7 rfl rfl)
theorem dJ3_unlinkLast_30 : decode cJ3_unlinkLast 30 = .ok (.aconst_null, 1) := dk_1 (dk_at dksJ3_unlinkLast_1 8 rfl rfl)
theorem dJ3_unlinkLast_31 : decode cJ3_unlinkLast 31 = .ok (.putfield 18, 3) := dk_181 0 18 (dk_at dksJ3_unlinkLast_1 9 rfl rfl)
theorem dJ3_unlinkLast_34 : decode cJ3_unlinkLast 34 = .ok (.goto 8, 3) := dk_167 0 8 (dk_at dksJ3_unlinkLast_1 12 rfl rfl)
theorem dJ3_unlinkLast_37 : decode cJ3_unlinkLast 37 = .ok (.aload_n 3, 1) := dk_45 (dk_at dksJ3_unlinkLast_1 15 rfl rfl)
theorem dJ3_unlinkLast_38 : decode cJ3_unlinkLast 38 = .ok (.aconst_null, 1) := dk_1 (dk_at dksJ3_unlinkLast_1 16 rfl rfl)
theorem dJ3_unlinkLast_39 : decode cJ3_unlinkLast 39 = .ok (.putfield 36, 3) := dk_181 0 36 (dk_at dksJ3_unlinkLast_1 17 rfl rfl)
theorem dJ3_unlinkLast_42 : decode cJ3_unlinkLast 42 = .ok (.aload_n 0, 1) := dk_42 (dk_at dksJ3_unlinkLast_1 20 rfl rfl)
theorem dJ3_unlinkLast_43 : decode cJ3_unlinkLast 43 = .ok (.dup, 1) := dk_89 (dk_at dksJ3_unlinkLast_1 21 rfl rfl)
theorem dJ3_unlinkLast_44 : decode cJ3_unlinkLast 44 = .ok (.getfield 7, 3) := dk_180 0 7 (dk_at dksJ3_unlinkLast_2 0 rfl rfl)
theorem dJ3_unlinkLast_47 : decode cJ3_unlinkLast 47 = .ok (.iconst 1, 1) := dk_4 (dk_at dksJ3_unlinkLast_2 3 rfl rfl)
theorem dJ3_unlinkLast_48 : decode cJ3_unlinkLast 48 = .ok (.isub, 1) := dk_100 (dk_at dksJ3_unlinkLast_2 4 rfl rfl)
theorem dJ3_unlinkLast_49 : decode cJ3_unlinkLast 49 = .ok (.putfield 7, 3) := dk_181 0 7 (dk_at dksJ3_unlinkLast_2 5 rfl rfl)
theorem dJ3_unlinkLast_52 : decode cJ3_unlinkLast 52 = .ok (.aload_n 0, 1) := dk_42 (dk_at dksJ3_unlinkLast_2 8 rfl rfl)
theorem dJ3_unlinkLast_53 : decode cJ3_unlinkLast 53 = .ok (.dup, 1) := dk_89 (dk_at dksJ3_unlinkLast_2 9 rfl rfl)
theorem dJ3_unlinkLast_54 : decode cJ3_unlinkLast 54 = .ok (.getfield 33, 3) := dk_180 0 33 (dk_at dksJ3_unlinkLast_2 10 rfl rfl)
theorem dJ3_unlinkLast_57 : decode cJ3_unlinkLast 57 = .ok (.iconst 1, 1) := dk_4 (dk_at dksJ3_unlinkLast_2 13 rfl rfl)
theorem dJ3_unlinkLast_58 : decode cJ3_unlinkLast 58 = .ok (.iadd, 1) := dk_96 (dk_at dksJ3_unlinkLast_2 14 rfl rfl)
theorem dJ3_unlinkLast_59 : decode cJ3_unlinkLast 59 = .ok (.putfield 33, 3) := dk_181 0 33 (dk_at dksJ3_unlinkLast_2 15 rfl rfl)
theorem dJ3_unlinkLast_62 : decode cJ3_unlinkLast 62 = .ok (.aload_n 2, 1) := dk_44 (dk_at dksJ3_unlinkLast_2 18 rfl rfl)
theorem dJ3_unlinkLast_63 : decode cJ3_unlinkLast 63 = .ok (.areturn, 1) := dk_176 (dk_at dksJ3_unlinkLast_2 19 rfl rfl)
abbrev cJ3_clear : ByteArray := prog_69_method_21_code
def yJ3_clear : MethodName := ⟨RJ3, "clear", "()V"⟩
def dkwJ3_clear_2 : List UInt8 := [181, 0, 7, 42, 89, 180, 0, 33, 4, 96, 181, 0, 33, 177]
abbrev dktJ3_clear_2 : List UInt8 := dkwJ3_clear_2 ++ []
def dkwJ3_clear_1 : List UInt8 := [43, 1, 181, 0, 30, 44, 76, 167, 255, 230, 42, 42, 1, 90, 181, 0, 27, 181, 0, 18, 42, 3]
abbrev dktJ3_clear_1 : List UInt8 := dkwJ3_clear_1 ++ dktJ3_clear_2
def dkwJ3_clear_0 : List UInt8 := [42, 180, 0, 18, 76, 43, 198, 0, 28, 43, 180, 0, 36, 77, 43, 1, 181, 0, 39, 43, 1, 181, 0, 36]
abbrev dktJ3_clear_0 : List UInt8 := dkwJ3_clear_0 ++ dktJ3_clear_1
theorem dksJ3_clear_0 : cJ3_clear.data.toList.drop 0 = dktJ3_clear_0 := by decide +kernel
theorem dksJ3_clear_1 : cJ3_clear.data.toList.drop 24 = dktJ3_clear_1 := dk_seg dksJ3_clear_0 24 rfl rfl
theorem dksJ3_clear_2 : cJ3_clear.data.toList.drop 46 = dktJ3_clear_2 := dk_seg dksJ3_clear_1 22 rfl rfl
theorem dJ3_clear_0 : decode cJ3_clear 0 = .ok (.aload_n 0, 1) := dk_42 (dk_at dksJ3_clear_0 0 rfl rfl)
theorem dJ3_clear_1 : decode cJ3_clear 1 = .ok (.getfield 18, 3) := dk_180 0 18 (dk_at dksJ3_clear_0 1 rfl rfl)
theorem dJ3_clear_4 : decode cJ3_clear 4 = .ok (.astore_n 1, 1) := dk_76 (dk_at dksJ3_clear_0 4 rfl rfl)
theorem dJ3_clear_5 : decode cJ3_clear 5 = .ok (.aload_n 1, 1) := dk_43 (dk_at dksJ3_clear_0 5 rfl rfl)
theorem dJ3_clear_6 : decode cJ3_clear 6 = .ok (.ifnull 28, 3) := dk_198 0 28 (dk_at dksJ3_clear_0 6 rfl rfl)
theorem dJ3_clear_9 : decode cJ3_clear 9 = .ok (.aload_n 1, 1) := dk_43 (dk_at dksJ3_clear_0 9 rfl rfl)
theorem dJ3_clear_10 : decode cJ3_clear 10 = .ok (.getfield 36, 3) := dk_180 0 36 (dk_at dksJ3_clear_0 10 rfl rfl)
theorem dJ3_clear_13 : decode cJ3_clear 13 = .ok (.astore_n 2, 1) := dk_77 (dk_at dksJ3_clear_0 13 rfl rfl)
theorem dJ3_clear_14 : decode cJ3_clear 14 = .ok (.aload_n 1, 1) := dk_43 (dk_at dksJ3_clear_0 14 rfl rfl)
theorem dJ3_clear_15 : decode cJ3_clear 15 = .ok (.aconst_null, 1) := dk_1 (dk_at dksJ3_clear_0 15 rfl rfl)
theorem dJ3_clear_16 : decode cJ3_clear 16 = .ok (.putfield 39, 3) := dk_181 0 39 (dk_at dksJ3_clear_0 16 rfl rfl)
theorem dJ3_clear_19 : decode cJ3_clear 19 = .ok (.aload_n 1, 1) := dk_43 (dk_at dksJ3_clear_0 19 rfl rfl)
theorem dJ3_clear_20 : decode cJ3_clear 20 = .ok (.aconst_null, 1) := dk_1 (dk_at dksJ3_clear_0 20 rfl rfl)
theorem dJ3_clear_21 : decode cJ3_clear 21 = .ok (.putfield 36, 3) := dk_181 0 36 (dk_at dksJ3_clear_0 21 rfl rfl)
theorem dJ3_clear_24 : decode cJ3_clear 24 = .ok (.aload_n 1, 1) := dk_43 (dk_at dksJ3_clear_1 0 rfl rfl)
theorem dJ3_clear_25 : decode cJ3_clear 25 = .ok (.aconst_null, 1) := dk_1 (dk_at dksJ3_clear_1 1 rfl rfl)
theorem dJ3_clear_26 : decode cJ3_clear 26 = .ok (.putfield 30, 3) := dk_181 0 30 (dk_at dksJ3_clear_1 2 rfl rfl)
theorem dJ3_clear_29 : decode cJ3_clear 29 = .ok (.aload_n 2, 1) := dk_44 (dk_at dksJ3_clear_1 5 rfl rfl)
theorem dJ3_clear_30 : decode cJ3_clear 30 = .ok (.astore_n 1, 1) := dk_76 (dk_at dksJ3_clear_1 6 rfl rfl)
theorem dJ3_clear_31 : decode cJ3_clear 31 = .ok (.goto (-26), 3) := dk_167 255 230 (dk_at dksJ3_clear_1 7 rfl rfl)
theorem dJ3_clear_34 : decode cJ3_clear 34 = .ok (.aload_n 0, 1) := dk_42 (dk_at dksJ3_clear_1 10 rfl rfl)
theorem dJ3_clear_35 : decode cJ3_clear 35 = .ok (.aload_n 0, 1) := dk_42 (dk_at dksJ3_clear_1 11 rfl rfl)
theorem dJ3_clear_36 : decode cJ3_clear 36 = .ok (.aconst_null, 1) := dk_1 (dk_at dksJ3_clear_1 12 rfl rfl)
theorem dJ3_clear_37 : decode cJ3_clear 37 = .ok (.dup_x1, 1) := dk_90 (dk_at dksJ3_clear_1 13 rfl rfl)
theorem dJ3_clear_38 : decode cJ3_clear 38 = .ok (.putfield 27, 3) := dk_181 0 27 (dk_at dksJ3_clear_1 14 rfl rfl)
theorem dJ3_clear_41 : decode cJ3_clear 41 = .ok (.putfield 18, 3) := dk_181 0 18 (dk_at dksJ3_clear_1 17 rfl rfl)
theorem dJ3_clear_44 : decode cJ3_clear 44 = .ok (.aload_n 0, 1) := dk_42 (dk_at dksJ3_clear_1 20 rfl rfl)
theorem dJ3_clear_45 : decode cJ3_clear 45 = .ok (.iconst 0, 1) := dk_3 (dk_at dksJ3_clear_1 21 rfl rfl)
theorem dJ3_clear_46 : decode cJ3_clear 46 = .ok (.putfield 7, 3) := dk_181 0 7 (dk_at dksJ3_clear_2 0 rfl rfl)
theorem dJ3_clear_49 : decode cJ3_clear 49 = .ok (.aload_n 0, 1) := dk_42 (dk_at dksJ3_clear_2 3 rfl rfl)
theorem dJ3_clear_50 : decode cJ3_clear 50 = .ok (.dup, 1) := dk_89 (dk_at dksJ3_clear_2 4 rfl rfl)
theorem dJ3_clear_51 : decode cJ3_clear 51 = .ok (.getfield 33, 3) := dk_180 0 33 (dk_at dksJ3_clear_2 5 rfl rfl)
theorem dJ3_clear_54 : decode cJ3_clear 54 = .ok (.iconst 1, 1) := dk_4 (dk_at dksJ3_clear_2 8 rfl rfl)
theorem dJ3_clear_55 : decode cJ3_clear 55 = .ok (.iadd, 1) := dk_96 (dk_at dksJ3_clear_2 9 rfl rfl)
theorem dJ3_clear_56 : decode cJ3_clear 56 = .ok (.putfield 33, 3) := dk_181 0 33 (dk_at dksJ3_clear_2 10 rfl rfl)
theorem dJ3_clear_59 : decode cJ3_clear 59 = .ok (.return_, 1) := dk_177 (dk_at dksJ3_clear_2 13 rfl rfl)
theorem q105 : (Jvm.Cond.initialized "java/util/LinkedList") ∈ lw_all := lw_g (lw_at lw_m1 5 rfl) rfl
theorem q183 : (Jvm.Cond.instantiable "java/util/LinkedList" (4 : Nat)) ∈ lw_all := lw_g (lw_at lw_m1 83 rfl) rfl
theorem q185 : (Jvm.Cond.instanceMethod ({ cls := "java/util/LinkedList", name := "<init>", desc := "()V" } : Jvm.MethodName)) ∈ lw_all := lw_g (lw_at lw_m1 85 rfl) rfl
theorem q186 : (Jvm.Cond.code ({ cls := "java/util/LinkedList", name := "<init>", desc := "()V" } : Jvm.MethodName) prog_69_method_1_code (1 : Nat) (Option.none : Option Jvm.ClassFile.FieldType)) ∈ lw_all := lw_g (lw_at lw_m1 86 rfl) rfl
theorem q187 : (Jvm.Cond.methodLink "java/util/LinkedList" (1 : Nat) ({ cls := "java/util/AbstractSequentialList", name := "<init>", desc := "()V" } : Jvm.MethodName)) ∈ lw_all := lw_g (lw_at lw_m1 87 rfl) rfl
theorem q197 : (Jvm.Cond.fieldLink "java/util/LinkedList" (7 : Nat) "java/util/LinkedList" "size" "I") ∈ lw_all := lw_g (lw_at lw_m1 97 rfl) rfl
theorem q199 : (Jvm.Cond.fieldLink "java/util/LinkedList" (18 : Nat) "java/util/LinkedList" "first" "Ljava/util/LinkedList$Node;") ∈ lw_all := lw_g (lw_at lw_m1 99 rfl) rfl
theorem q200 : (Jvm.Cond.fieldLink "java/util/LinkedList" (27 : Nat) "java/util/LinkedList" "last" "Ljava/util/LinkedList$Node;") ∈ lw_all := lw_g (lw_at lw_m1 100 rfl) rfl
theorem q203 : (Jvm.Cond.sameField "java/util/LinkedList" "java/util/AbstractList" "modCount" "I") ∈ lw_all := lw_g (lw_at lw_m1 103 rfl) rfl
theorem q207 : (Jvm.Cond.fieldLink "java/util/LinkedList" (33 : Nat) "java/util/LinkedList" "modCount" "I") ∈ lw_all := lw_g (lw_at lw_m1 107 rfl) rfl
theorem q209 : (Jvm.Cond.lays "java/util/LinkedList" "java/util/LinkedList" "size" "I") ∈ lw_all := lw_g (lw_at lw_m1 109 rfl) rfl
theorem q210 : (Jvm.Cond.soleField "java/util/LinkedList" "size") ∈ lw_all := lw_g (lw_at lw_m1 110 rfl) rfl
theorem q211 : (Jvm.Cond.lays "java/util/LinkedList" "java/util/LinkedList" "first" "Ljava/util/LinkedList$Node;") ∈ lw_all := lw_g (lw_at lw_m1 111 rfl) rfl
theorem q212 : (Jvm.Cond.soleField "java/util/LinkedList" "first") ∈ lw_all := lw_g (lw_at lw_m1 112 rfl) rfl
theorem q213 : (Jvm.Cond.lays "java/util/LinkedList" "java/util/LinkedList" "last" "Ljava/util/LinkedList$Node;") ∈ lw_all := lw_g (lw_at lw_m1 113 rfl) rfl
theorem q214 : (Jvm.Cond.soleField "java/util/LinkedList" "last") ∈ lw_all := lw_g (lw_at lw_m1 114 rfl) rfl
theorem q215 : (Jvm.Cond.lays "java/util/LinkedList" "java/util/AbstractList" "modCount" "I") ∈ lw_all := lw_g (lw_at lw_m1 115 rfl) rfl
theorem q217 : (Jvm.Cond.superclass "java/util/LinkedList" "java/util/AbstractSequentialList") ∈ lw_all := lw_g (lw_at lw_m1 117 rfl) rfl
theorem q393 : (Jvm.Cond.castable "java/util/LinkedList" "java/util/List") ∈ lw_tbl := lw_at lw_m2 53 rfl
theorem q394 : (Jvm.Cond.selects "java/util/LinkedList" ({ cls := "java/util/List", name := "size", desc := "()I" } : Jvm.MethodName) ({ cls := "java/util/LinkedList", name := "size", desc := "()I" } : Jvm.MethodName)) ∈ lw_all := lw_g (lw_at lw_m2 54 rfl) rfl
theorem q395 : (Jvm.Cond.unhidden "java/util/LinkedList" "size" "()I") ∈ lw_tbl := lw_at lw_m2 55 rfl
theorem q396 : (Jvm.Cond.instanceMethod ({ cls := "java/util/LinkedList", name := "size", desc := "()I" } : Jvm.MethodName)) ∈ lw_all := lw_g (lw_at lw_m2 56 rfl) rfl
theorem q397 : (Jvm.Cond.publicMethod ({ cls := "java/util/LinkedList", name := "size", desc := "()I" } : Jvm.MethodName)) ∈ lw_tbl := lw_at lw_m2 57 rfl
theorem q398 : (Jvm.Cond.code ({ cls := "java/util/LinkedList", name := "size", desc := "()I" } : Jvm.MethodName) prog_69_method_16_code (1 : Nat) (Option.some Jvm.ClassFile.FieldType.int)) ∈ lw_all := lw_g (lw_at lw_m2 58 rfl) rfl
theorem q488 : (Jvm.Cond.selects "java/util/LinkedList" ({ cls := "java/util/List", name := "get", desc := "(I)Ljava/lang/Object;" } : Jvm.MethodName) ({ cls := "java/util/LinkedList", name := "get", desc := "(I)Ljava/lang/Object;" } : Jvm.MethodName)) ∈ lw_all := lw_g (lw_at lw_m2 148 rfl) rfl
theorem q489 : (Jvm.Cond.unhidden "java/util/LinkedList" "get" "(I)Ljava/lang/Object;") ∈ lw_tbl := lw_at lw_m2 149 rfl
theorem q490 : (Jvm.Cond.instanceMethod ({ cls := "java/util/LinkedList", name := "get", desc := "(I)Ljava/lang/Object;" } : Jvm.MethodName)) ∈ lw_all := lw_g (lw_at lw_m2 150 rfl) rfl
theorem q491 : (Jvm.Cond.publicMethod ({ cls := "java/util/LinkedList", name := "get", desc := "(I)Ljava/lang/Object;" } : Jvm.MethodName)) ∈ lw_tbl := lw_at lw_m2 151 rfl
theorem q492 : (Jvm.Cond.code ({ cls := "java/util/LinkedList", name := "get", desc := "(I)Ljava/lang/Object;" } : Jvm.MethodName) prog_69_method_22_code (2 : Nat) (Option.some (Jvm.ClassFile.FieldType.object "java/lang/Object"))) ∈ lw_all := lw_g (lw_at lw_m2 152 rfl) rfl
theorem q493 : (Jvm.Cond.methodLink "java/util/LinkedList" (90 : Nat) ({ cls := "java/util/LinkedList", name := "checkElementIndex", desc := "(I)V" } : Jvm.MethodName)) ∈ lw_all := lw_g (lw_at lw_m2 153 rfl) rfl
theorem q494 : (Jvm.Cond.privateMethod ({ cls := "java/util/LinkedList", name := "checkElementIndex", desc := "(I)V" } : Jvm.MethodName)) ∈ lw_tbl := lw_at lw_m2 154 rfl
theorem q495 : (Jvm.Cond.instanceMethod ({ cls := "java/util/LinkedList", name := "checkElementIndex", desc := "(I)V" } : Jvm.MethodName)) ∈ lw_all := lw_g (lw_at lw_m2 155 rfl) rfl
theorem q496 : (Jvm.Cond.code ({ cls := "java/util/LinkedList", name := "checkElementIndex", desc := "(I)V" } : Jvm.MethodName) prog_69_method_29_code (2 : Nat) (Option.none : Option Jvm.ClassFile.FieldType)) ∈ lw_all := lw_g (lw_at lw_m2 156 rfl) rfl
theorem q497 : (Jvm.Cond.methodLink "java/util/LinkedList" (115 : Nat) ({ cls := "java/util/LinkedList", name := "isElementIndex", desc := "(I)Z" } : Jvm.MethodName)) ∈ lw_all := lw_g (lw_at lw_m2 157 rfl) rfl
theorem q498 : (Jvm.Cond.privateMethod ({ cls := "java/util/LinkedList", name := "isElementIndex", desc := "(I)Z" } : Jvm.MethodName)) ∈ lw_tbl := lw_at lw_m2 158 rfl
theorem q499 : (Jvm.Cond.instanceMethod ({ cls := "java/util/LinkedList", name := "isElementIndex", desc := "(I)Z" } : Jvm.MethodName)) ∈ lw_all := lw_g (lw_at lw_m2 159 rfl) rfl
theorem q500 : (Jvm.Cond.code ({ cls := "java/util/LinkedList", name := "isElementIndex", desc := "(I)Z" } : Jvm.MethodName) prog_69_method_26_code (2 : Nat) (Option.some Jvm.ClassFile.FieldType.boolean)) ∈ lw_all := lw_g (lw_at lw_m2 160 rfl) rfl
theorem q501 : (Jvm.Cond.classLink "java/util/LinkedList" (119 : Nat) "java/lang/IndexOutOfBoundsException") ∈ lw_all := lw_g (lw_at lw_m2 161 rfl) rfl
theorem q550 : (Jvm.Cond.methodLink "java/util/LinkedList" (121 : Nat) ({ cls := "java/util/LinkedList", name := "outOfBoundsMsg", desc := "(I)Ljava/lang/String;" } : Jvm.MethodName)) ∈ lw_all := lw_g (lw_at lw_m2 210 rfl) rfl
theorem q551 : (Jvm.Cond.privateMethod ({ cls := "java/util/LinkedList", name := "outOfBoundsMsg", desc := "(I)Ljava/lang/String;" } : Jvm.MethodName)) ∈ lw_tbl := lw_at lw_m2 211 rfl
theorem q552 : (Jvm.Cond.instanceMethod ({ cls := "java/util/LinkedList", name := "outOfBoundsMsg", desc := "(I)Ljava/lang/String;" } : Jvm.MethodName)) ∈ lw_all := lw_g (lw_at lw_m2 212 rfl) rfl
theorem q553 : (Jvm.Cond.code ({ cls := "java/util/LinkedList", name := "outOfBoundsMsg", desc := "(I)Ljava/lang/String;" } : Jvm.MethodName) prog_69_method_28_code (2 : Nat) (Option.some (Jvm.ClassFile.FieldType.object "java/lang/String"))) ∈ lw_all := lw_g (lw_at lw_m2 213 rfl) rfl
theorem q554 : (Jvm.Cond.classLink "java/util/LinkedList" (97 : Nat) "java/lang/StringBuilder") ∈ lw_all := lw_g (lw_at lw_m2 214 rfl) rfl
theorem q555 : (Jvm.Cond.methodLink "java/util/LinkedList" (99 : Nat) ({ cls := "java/lang/StringBuilder", name := "<init>", desc := "()V" } : Jvm.MethodName)) ∈ lw_all := lw_g (lw_at lw_m2 215 rfl) rfl
theorem q556 : (Jvm.Cond.stringRef "java/util/LinkedList" (100 : Nat) "Index: ") ∈ lw_tbl := lw_at lw_m2 216 rfl
theorem q557 : (Jvm.Cond.methodLink "java/util/LinkedList" (102 : Nat) ({ cls := "java/lang/StringBuilder", name := "append", desc := "(Ljava/lang/String;)Ljava/lang/StringBuilder;" } : Jvm.MethodName)) ∈ lw_all := lw_g (lw_at lw_m2 217 rfl) rfl
theorem q677 : (Jvm.Cond.methodLink "java/util/LinkedList" (106 : Nat) ({ cls := "java/lang/StringBuilder", name := "append", desc := "(I)Ljava/lang/StringBuilder;" } : Jvm.MethodName)) ∈ lw_all := lw_g (lw_at lw_m3 97 rfl) rfl
theorem q702 : (Jvm.Cond.stringRef "java/util/LinkedList" (109 : Nat) ", Size: ") ∈ lw_tbl := lw_at lw_m3 122 rfl
theorem q703 : (Jvm.Cond.methodLink "java/util/LinkedList" (111 : Nat) ({ cls := "java/lang/StringBuilder", name := "toString", desc := "()Ljava/lang/String;" } : Jvm.MethodName)) ∈ lw_all := lw_g (lw_at lw_m3 123 rfl) rfl
theorem q805 : (Jvm.Cond.methodLink "java/util/LinkedList" (125 : Nat) ({ cls := "java/lang/IndexOutOfBoundsException", name := "<init>", desc := "(Ljava/lang/String;)V" } : Jvm.MethodName)) ∈ lw_all := lw_g (lw_at lw_m3 225 rfl) rfl
theorem q811 : (Jvm.Cond.methodLink "java/util/LinkedList" (86 : Nat) ({ cls := "java/util/LinkedList", name := "node", desc := "(I)Ljava/util/LinkedList$Node;" } : Jvm.MethodName)) ∈ lw_all := lw_g (lw_at lw_m3 231 rfl) rfl
theorem q812 : (Jvm.Cond.instanceMethod ({ cls := "java/util/LinkedList", name := "node", desc := "(I)Ljava/util/LinkedList$Node;" } : Jvm.MethodName)) ∈ lw_all := lw_g (lw_at lw_m3 232 rfl) rfl
theorem q813 : (Jvm.Cond.selects "java/util/LinkedList" ({ cls := "java/util/LinkedList", name := "node", desc := "(I)Ljava/util/LinkedList$Node;" } : Jvm.MethodName) ({ cls := "java/util/LinkedList", name := "node", desc := "(I)Ljava/util/LinkedList$Node;" } : Jvm.MethodName)) ∈ lw_all := lw_g (lw_at lw_m3 233 rfl) rfl
theorem q814 : (Jvm.Cond.code ({ cls := "java/util/LinkedList", name := "node", desc := "(I)Ljava/util/LinkedList$Node;" } : Jvm.MethodName) prog_69_method_31_code (4 : Nat) (Option.some (Jvm.ClassFile.FieldType.object "java/util/LinkedList$Node"))) ∈ lw_all := lw_g (lw_at lw_m3 234 rfl) rfl
theorem q830 : (Jvm.Cond.selects "java/util/LinkedList" ({ cls := "java/util/AbstractList", name := "size", desc := "()I" } : Jvm.MethodName) ({ cls := "java/util/LinkedList", name := "size", desc := "()I" } : Jvm.MethodName)) ∈ lw_all := lw_g (lw_at lw_m4 10 rfl) rfl
theorem q957 : (Jvm.Cond.selects "java/util/LinkedList" ({ cls := "java/util/AbstractList", name := "get", desc := "(I)Ljava/lang/Object;" } : Jvm.MethodName) ({ cls := "java/util/LinkedList", name := "get", desc := "(I)Ljava/lang/Object;" } : Jvm.MethodName)) ∈ lw_all := lw_g (lw_at lw_m4 137 rfl) rfl
theorem q1022 : (Jvm.Cond.selects "java/util/LinkedList" ({ cls := "java/lang/Object", name := "getClass", desc := "()Ljava/lang/Class;" } : Jvm.MethodName) ({ cls := "java/lang/Object", name := "getClass", desc := "()Ljava/lang/Class;" } : Jvm.MethodName)) ∈ lw_all := lw_g (lw_at lw_m4 202 rfl) rfl
theorem q1206 : (Jvm.Cond.selects "java/util/LinkedList" ({ cls := "java/util/List", name := "add", desc := "(Ljava/lang/Object;)Z" } : Jvm.MethodName) ({ cls := "java/util/LinkedList", name := "add", desc := "(Ljava/lang/Object;)Z" } : Jvm.MethodName)) ∈ lw_all := lw_g (lw_at lw_m5 146 rfl) rfl
theorem q1207 : (Jvm.Cond.unhidden "java/util/LinkedList" "add" "(Ljava/lang/Object;)Z") ∈ lw_tbl := lw_at lw_m5 147 rfl
theorem q1208 : (Jvm.Cond.instanceMethod ({ cls := "java/util/LinkedList", name := "add", desc := "(Ljava/lang/Object;)Z" } : Jvm.MethodName)) ∈ lw_all := lw_g (lw_at lw_m5 148 rfl) rfl
theorem q1209 : (Jvm.Cond.publicMethod ({ cls := "java/util/LinkedList", name := "add", desc := "(Ljava/lang/Object;)Z" } : Jvm.MethodName)) ∈ lw_tbl := lw_at lw_m5 149 rfl
theorem q1210 : (Jvm.Cond.code ({ cls := "java/util/LinkedList", name := "add", desc := "(Ljava/lang/Object;)Z" } : Jvm.MethodName) prog_69_method_17_code (2 : Nat) (Option.some Jvm.ClassFile.FieldType.boolean)) ∈ lw_all := lw_g (lw_at lw_m5 150 rfl) rfl
theorem q1211 : (Jvm.Cond.methodLink "java/util/LinkedList" (57 : Nat) ({ cls := "java/util/LinkedList", name := "linkLast", desc := "(Ljava/lang/Object;)V" } : Jvm.MethodName)) ∈ lw_all := lw_g (lw_at lw_m5 151 rfl) rfl
theorem q1212 : (Jvm.Cond.instanceMethod ({ cls := "java/util/LinkedList", name := "linkLast", desc := "(Ljava/lang/Object;)V" } : Jvm.MethodName)) ∈ lw_all := lw_g (lw_at lw_m5 152 rfl) rfl
theorem q1213 : (Jvm.Cond.selects "java/util/LinkedList" ({ cls := "java/util/LinkedList", name := "linkLast", desc := "(Ljava/lang/Object;)V" } : Jvm.MethodName) ({ cls := "java/util/LinkedList", name := "linkLast", desc := "(Ljava/lang/Object;)V" } : Jvm.MethodName)) ∈ lw_all := lw_g (lw_at lw_m5 153 rfl) rfl
theorem q1214 : (Jvm.Cond.code ({ cls := "java/util/LinkedList", name := "linkLast", desc := "(Ljava/lang/Object;)V" } : Jvm.MethodName) prog_69_method_4_code (4 : Nat) (Option.none : Option Jvm.ClassFile.FieldType)) ∈ lw_all := lw_g (lw_at lw_m5 154 rfl) rfl
theorem q1215 : (Jvm.Cond.classLink "java/util/LinkedList" (22 : Nat) "java/util/LinkedList$Node") ∈ lw_all := lw_g (lw_at lw_m5 155 rfl) rfl
theorem q1217 : (Jvm.Cond.methodLink "java/util/LinkedList" (24 : Nat) ({ cls := "java/util/LinkedList$Node", name := "<init>", desc := "(Ljava/util/LinkedList$Node;Ljava/lang/Object;Ljava/util/LinkedList$Node;)V" } : Jvm.MethodName)) ∈ lw_all := lw_g (lw_at lw_m5 157 rfl) rfl
theorem q1223 : (Jvm.Cond.fieldLink "java/util/LinkedList" (39 : Nat) "java/util/LinkedList$Node" "item" "Ljava/lang/Object;") ∈ lw_all := lw_g (lw_at lw_m5 163 rfl) rfl
theorem q1226 : (Jvm.Cond.fieldLink "java/util/LinkedList" (36 : Nat) "java/util/LinkedList$Node" "next" "Ljava/util/LinkedList$Node;") ∈ lw_all := lw_g (lw_at lw_m5 166 rfl) rfl
theorem q1228 : (Jvm.Cond.fieldLink "java/util/LinkedList" (30 : Nat) "java/util/LinkedList$Node" "prev" "Ljava/util/LinkedList$Node;") ∈ lw_all := lw_g (lw_at lw_m5 168 rfl) rfl
theorem q1352 : (Jvm.Cond.selects "java/util/LinkedList" ({ cls := "java/util/List", name := "iterator", desc := "()Ljava/util/Iterator;" } : Jvm.MethodName) ({ cls := "java/util/AbstractSequentialList", name := "iterator", desc := "()Ljava/util/Iterator;" } : Jvm.MethodName)) ∈ lw_all := lw_g (lw_at lw_m6 52 rfl) rfl
theorem q1353 : (Jvm.Cond.unhidden "java/util/LinkedList" "iterator" "()Ljava/util/Iterator;") ∈ lw_tbl := lw_at lw_m6 53 rfl
theorem q1360 : (Jvm.Cond.selects "java/util/LinkedList" ({ cls := "java/util/AbstractSequentialList", name := "listIterator", desc := "()Ljava/util/ListIterator;" } : Jvm.MethodName) ({ cls := "java/util/AbstractList", name := "listIterator", desc := "()Ljava/util/ListIterator;" } : Jvm.MethodName)) ∈ lw_all := lw_g (lw_at lw_m6 60 rfl) rfl
theorem q1400 : (Jvm.Cond.selects "java/util/LinkedList" ({ cls := "java/util/AbstractList", name := "listIterator", desc := "(I)Ljava/util/ListIterator;" } : Jvm.MethodName) ({ cls := "java/util/LinkedList", name := "listIterator", desc := "(I)Ljava/util/ListIterator;" } : Jvm.MethodName)) ∈ lw_all := lw_g (lw_at lw_m6 100 rfl) rfl
theorem q1401 : (Jvm.Cond.instanceMethod ({ cls := "java/util/LinkedList", name := "listIterator", desc := "(I)Ljava/util/ListIterator;" } : Jvm.MethodName)) ∈ lw_all := lw_g (lw_at lw_m6 101 rfl) rfl
theorem q1402 : (Jvm.Cond.code ({ cls := "java/util/LinkedList", name := "listIterator", desc := "(I)Ljava/util/ListIterator;" } : Jvm.MethodName) prog_69_method_49_code (2 : Nat) (Option.some (Jvm.ClassFile.FieldType.object "java/util/ListIterator"))) ∈ lw_all := lw_g (lw_at lw_m6 102 rfl) rfl
theorem q1403 : (Jvm.Cond.methodLink "java/util/LinkedList" (76 : Nat) ({ cls := "java/util/LinkedList", name := "checkPositionIndex", desc := "(I)V" } : Jvm.MethodName)) ∈ lw_all := lw_g (lw_at lw_m6 103 rfl) rfl
theorem q1404 : (Jvm.Cond.privateMethod ({ cls := "java/util/LinkedList", name := "checkPositionIndex", desc := "(I)V" } : Jvm.MethodName)) ∈ lw_tbl := lw_at lw_m6 104 rfl
theorem q1405 : (Jvm.Cond.instanceMethod ({ cls := "java/util/LinkedList", name := "checkPositionIndex", desc := "(I)V" } : Jvm.MethodName)) ∈ lw_all := lw_g (lw_at lw_m6 105 rfl) rfl
theorem q1406 : (Jvm.Cond.code ({ cls := "java/util/LinkedList", name := "checkPositionIndex", desc := "(I)V" } : Jvm.MethodName) prog_69_method_30_code (2 : Nat) (Option.none : Option Jvm.ClassFile.FieldType)) ∈ lw_all := lw_g (lw_at lw_m6 106 rfl) rfl
theorem q1407 : (Jvm.Cond.methodLink "java/util/LinkedList" (128 : Nat) ({ cls := "java/util/LinkedList", name := "isPositionIndex", desc := "(I)Z" } : Jvm.MethodName)) ∈ lw_all := lw_g (lw_at lw_m6 107 rfl) rfl
theorem q1408 : (Jvm.Cond.privateMethod ({ cls := "java/util/LinkedList", name := "isPositionIndex", desc := "(I)Z" } : Jvm.MethodName)) ∈ lw_tbl := lw_at lw_m6 108 rfl
theorem q1409 : (Jvm.Cond.instanceMethod ({ cls := "java/util/LinkedList", name := "isPositionIndex", desc := "(I)Z" } : Jvm.MethodName)) ∈ lw_all := lw_g (lw_at lw_m6 109 rfl) rfl
theorem q1410 : (Jvm.Cond.code ({ cls := "java/util/LinkedList", name := "isPositionIndex", desc := "(I)Z" } : Jvm.MethodName) prog_69_method_27_code (2 : Nat) (Option.some Jvm.ClassFile.FieldType.boolean)) ∈ lw_all := lw_g (lw_at lw_m6 110 rfl) rfl
theorem q1411 : (Jvm.Cond.classLink "java/util/LinkedList" (150 : Nat) "java/util/LinkedList$ListItr") ∈ lw_all := lw_g (lw_at lw_m6 111 rfl) rfl
theorem q1413 : (Jvm.Cond.methodLink "java/util/LinkedList" (152 : Nat) ({ cls := "java/util/LinkedList$ListItr", name := "<init>", desc := "(Ljava/util/LinkedList;I)V" } : Jvm.MethodName)) ∈ lw_all := lw_g (lw_at lw_m6 113 rfl) rfl
theorem q1833 : (Jvm.Cond.selects "java/util/LinkedList" ({ cls := "java/util/List", name := "add", desc := "(ILjava/lang/Object;)V" } : Jvm.MethodName) ({ cls := "java/util/LinkedList", name := "add", desc := "(ILjava/lang/Object;)V" } : Jvm.MethodName)) ∈ lw_all := lw_g (lw_at lw_m8 53 rfl) rfl
theorem q1834 : (Jvm.Cond.unhidden "java/util/LinkedList" "add" "(ILjava/lang/Object;)V") ∈ lw_tbl := lw_at lw_m8 54 rfl
theorem q1835 : (Jvm.Cond.instanceMethod ({ cls := "java/util/LinkedList", name := "add", desc := "(ILjava/lang/Object;)V" } : Jvm.MethodName)) ∈ lw_all := lw_g (lw_at lw_m8 55 rfl) rfl
theorem q1836 : (Jvm.Cond.publicMethod ({ cls := "java/util/LinkedList", name := "add", desc := "(ILjava/lang/Object;)V" } : Jvm.MethodName)) ∈ lw_tbl := lw_at lw_m8 56 rfl
theorem q1837 : (Jvm.Cond.code ({ cls := "java/util/LinkedList", name := "add", desc := "(ILjava/lang/Object;)V" } : Jvm.MethodName) prog_69_method_24_code (3 : Nat) (Option.none : Option Jvm.ClassFile.FieldType)) ∈ lw_all := lw_g (lw_at lw_m8 57 rfl) rfl
theorem q1838 : (Jvm.Cond.methodLink "java/util/LinkedList" (93 : Nat) ({ cls := "java/util/LinkedList", name := "linkBefore", desc := "(Ljava/lang/Object;Ljava/util/LinkedList$Node;)V" } : Jvm.MethodName)) ∈ lw_all := lw_g (lw_at lw_m8 58 rfl) rfl
theorem q1839 : (Jvm.Cond.instanceMethod ({ cls := "java/util/LinkedList", name := "linkBefore", desc := "(Ljava/lang/Object;Ljava/util/LinkedList$Node;)V" } : Jvm.MethodName)) ∈ lw_all := lw_g (lw_at lw_m8 59 rfl) rfl
theorem q1840 : (Jvm.Cond.selects "java/util/LinkedList" ({ cls := "java/util/LinkedList", name := "linkBefore", desc := "(Ljava/lang/Object;Ljava/util/LinkedList$Node;)V" } : Jvm.MethodName) ({ cls := "java/util/LinkedList", name := "linkBefore", desc := "(Ljava/lang/Object;Ljava/util/LinkedList$Node;)V" } : Jvm.MethodName)) ∈ lw_all := lw_g (lw_at lw_m8 60 rfl) rfl
theorem q1841 : (Jvm.Cond.code ({ cls := "java/util/LinkedList", name := "linkBefore", desc := "(Ljava/lang/Object;Ljava/util/LinkedList$Node;)V" } : Jvm.MethodName) prog_69_method_5_code (5 : Nat) (Option.none : Option Jvm.ClassFile.FieldType)) ∈ lw_all := lw_g (lw_at lw_m8 61 rfl) rfl
theorem q1899 : (Jvm.Cond.castable "java/util/LinkedList" "java/util/Collection") ∈ lw_tbl := lw_at lw_m8 119 rfl
theorem q1900 : (Jvm.Cond.selects "java/util/LinkedList" ({ cls := "java/util/Collection", name := "iterator", desc := "()Ljava/util/Iterator;" } : Jvm.MethodName) ({ cls := "java/util/AbstractSequentialList", name := "iterator", desc := "()Ljava/util/Iterator;" } : Jvm.MethodName)) ∈ lw_all := lw_g (lw_at lw_m8 120 rfl) rfl
theorem q2637 : (Jvm.Cond.instanceMethod ({ cls := "java/util/LinkedList", name := "removeFirst", desc := "()Ljava/lang/Object;" } : Jvm.MethodName)) ∈ lw_all := lw_g (lw_at lw_m11 137 rfl) rfl
theorem q2638 : (Jvm.Cond.selects "java/util/LinkedList" ({ cls := "java/util/LinkedList", name := "removeFirst", desc := "()Ljava/lang/Object;" } : Jvm.MethodName) ({ cls := "java/util/LinkedList", name := "removeFirst", desc := "()Ljava/lang/Object;" } : Jvm.MethodName)) ∈ lw_all := lw_g (lw_at lw_m11 138 rfl) rfl
theorem q2639 : (Jvm.Cond.code ({ cls := "java/util/LinkedList", name := "removeFirst", desc := "()Ljava/lang/Object;" } : Jvm.MethodName) prog_69_method_11_code (2 : Nat) (Option.some (Jvm.ClassFile.FieldType.object "java/lang/Object"))) ∈ lw_all := lw_g (lw_at lw_m11 139 rfl) rfl
theorem q2640 : (Jvm.Cond.classLink "java/util/LinkedList" (43 : Nat) "java/util/NoSuchElementException") ∈ lw_all := lw_g (lw_at lw_m11 140 rfl) rfl
theorem q2641 : (Jvm.Cond.methodLink "java/util/LinkedList" (45 : Nat) ({ cls := "java/util/NoSuchElementException", name := "<init>", desc := "()V" } : Jvm.MethodName)) ∈ lw_all := lw_g (lw_at lw_m11 141 rfl) rfl
theorem q2642 : (Jvm.Cond.methodLink "java/util/LinkedList" (46 : Nat) ({ cls := "java/util/LinkedList", name := "unlinkFirst", desc := "(Ljava/util/LinkedList$Node;)Ljava/lang/Object;" } : Jvm.MethodName)) ∈ lw_all := lw_g (lw_at lw_m11 142 rfl) rfl
theorem q2643 : (Jvm.Cond.privateMethod ({ cls := "java/util/LinkedList", name := "unlinkFirst", desc := "(Ljava/util/LinkedList$Node;)Ljava/lang/Object;" } : Jvm.MethodName)) ∈ lw_tbl := lw_at lw_m11 143 rfl
theorem q2644 : (Jvm.Cond.instanceMethod ({ cls := "java/util/LinkedList", name := "unlinkFirst", desc := "(Ljava/util/LinkedList$Node;)Ljava/lang/Object;" } : Jvm.MethodName)) ∈ lw_all := lw_g (lw_at lw_m11 144 rfl) rfl
theorem q2645 : (Jvm.Cond.code ({ cls := "java/util/LinkedList", name := "unlinkFirst", desc := "(Ljava/util/LinkedList$Node;)Ljava/lang/Object;" } : Jvm.MethodName) prog_69_method_6_code (4 : Nat) (Option.some (Jvm.ClassFile.FieldType.object "java/lang/Object"))) ∈ lw_all := lw_g (lw_at lw_m11 145 rfl) rfl
theorem q2647 : (Jvm.Cond.instanceMethod ({ cls := "java/util/LinkedList", name := "addLast", desc := "(Ljava/lang/Object;)V" } : Jvm.MethodName)) ∈ lw_all := lw_g (lw_at lw_m11 147 rfl) rfl
theorem q2648 : (Jvm.Cond.selects "java/util/LinkedList" ({ cls := "java/util/LinkedList", name := "addLast", desc := "(Ljava/lang/Object;)V" } : Jvm.MethodName) ({ cls := "java/util/LinkedList", name := "addLast", desc := "(Ljava/lang/Object;)V" } : Jvm.MethodName)) ∈ lw_all := lw_g (lw_at lw_m11 148 rfl) rfl
theorem q2649 : (Jvm.Cond.code ({ cls := "java/util/LinkedList", name := "addLast", desc := "(Ljava/lang/Object;)V" } : Jvm.MethodName) prog_69_method_14_code (2 : Nat) (Option.none : Option Jvm.ClassFile.FieldType)) ∈ lw_all := lw_g (lw_at lw_m11 149 rfl) rfl
theorem q2996 : (Jvm.Cond.selects "java/util/LinkedList" ({ cls := "java/util/Collection", name := "toArray", desc := "()[Ljava/lang/Object;" } : Jvm.MethodName) ({ cls := "java/util/LinkedList", name := "toArray", desc := "()[Ljava/lang/Object;" } : Jvm.MethodName)) ∈ lw_all := lw_g (lw_at lw_m13 16 rfl) rfl
theorem q2997 : (Jvm.Cond.unhidden "java/util/LinkedList" "toArray" "()[Ljava/lang/Object;") ∈ lw_tbl := lw_at lw_m13 17 rfl
theorem q2998 : (Jvm.Cond.instanceMethod ({ cls := "java/util/LinkedList", name := "toArray", desc := "()[Ljava/lang/Object;" } : Jvm.MethodName)) ∈ lw_all := lw_g (lw_at lw_m13 18 rfl) rfl
theorem q2999 : (Jvm.Cond.publicMethod ({ cls := "java/util/LinkedList", name := "toArray", desc := "()[Ljava/lang/Object;" } : Jvm.MethodName)) ∈ lw_tbl := lw_at lw_m13 19 rfl
theorem q3000 : (Jvm.Cond.code ({ cls := "java/util/LinkedList", name := "toArray", desc := "()[Ljava/lang/Object;" } : Jvm.MethodName) prog_69_method_53_code (4 : Nat) (Option.some (Jvm.ClassFile.FieldType.array (Jvm.ClassFile.FieldType.object "java/lang/Object")))) ∈ lw_all := lw_g (lw_at lw_m13 20 rfl) rfl
theorem q3001 : (Jvm.Cond.classLink "java/util/LinkedList" (68 : Nat) "java/lang/Object") ∈ lw_all := lw_g (lw_at lw_m13 21 rfl) rfl
theorem q3017 : (Jvm.Cond.selects "java/util/LinkedList" ({ cls := "java/util/AbstractCollection", name := "iterator", desc := "()Ljava/util/Iterator;" } : Jvm.MethodName) ({ cls := "java/util/AbstractSequentialList", name := "iterator", desc := "()Ljava/util/Iterator;" } : Jvm.MethodName)) ∈ lw_all := lw_g (lw_at lw_m13 37 rfl) rfl
theorem q3041 : (Jvm.Cond.unhidden "java/util/LinkedList" "getClass" "()Ljava/lang/Class;") ∈ lw_tbl := lw_at lw_m13 61 rfl
theorem q3204 : (Jvm.Cond.selects "java/util/LinkedList" ({ cls := "java/util/List", name := "indexOf", desc := "(Ljava/lang/Object;)I" } : Jvm.MethodName) ({ cls := "java/util/LinkedList", name := "indexOf", desc := "(Ljava/lang/Object;)I" } : Jvm.MethodName)) ∈ lw_all := lw_g (lw_at lw_m13 224 rfl) rfl
theorem q3205 : (Jvm.Cond.unhidden "java/util/LinkedList" "indexOf" "(Ljava/lang/Object;)I") ∈ lw_tbl := lw_at lw_m13 225 rfl
theorem q3206 : (Jvm.Cond.instanceMethod ({ cls := "java/util/LinkedList", name := "indexOf", desc := "(Ljava/lang/Object;)I" } : Jvm.MethodName)) ∈ lw_all := lw_g (lw_at lw_m13 226 rfl) rfl
theorem q3207 : (Jvm.Cond.publicMethod ({ cls := "java/util/LinkedList", name := "indexOf", desc := "(Ljava/lang/Object;)I" } : Jvm.MethodName)) ∈ lw_tbl := lw_at lw_m13 227 rfl
theorem q3208 : (Jvm.Cond.code ({ cls := "java/util/LinkedList", name := "indexOf", desc := "(Ljava/lang/Object;)I" } : Jvm.MethodName) prog_69_method_32_code (4 : Nat) (Option.some Jvm.ClassFile.FieldType.int)) ∈ lw_all := lw_g (lw_at lw_m13 228 rfl) rfl
theorem q3209 : (Jvm.Cond.methodLink "java/util/LinkedList" (67 : Nat) ({ cls := "java/lang/Object", name := "equals", desc := "(Ljava/lang/Object;)Z" } : Jvm.MethodName)) ∈ lw_all := lw_g (lw_at lw_m13 229 rfl) rfl
theorem q3672 : (Jvm.Cond.sameMethod "java/util/LinkedList" "java/util/AbstractCollection" "isEmpty" "()Z") ∈ lw_all := lw_g (lw_at lw_m15 212 rfl) rfl
theorem q3673 : (Jvm.Cond.selects "java/util/LinkedList" ({ cls := "java/util/LinkedList", name := "isEmpty", desc := "()Z" } : Jvm.MethodName) ({ cls := "java/util/AbstractCollection", name := "isEmpty", desc := "()Z" } : Jvm.MethodName)) ∈ lw_all := lw_g (lw_at lw_m15 213 rfl) rfl
theorem q3675 : (Jvm.Cond.instanceMethod ({ cls := "java/util/LinkedList", name := "removeLast", desc := "()Ljava/lang/Object;" } : Jvm.MethodName)) ∈ lw_all := lw_g (lw_at lw_m15 215 rfl) rfl
theorem q3676 : (Jvm.Cond.selects "java/util/LinkedList" ({ cls := "java/util/LinkedList", name := "removeLast", desc := "()Ljava/lang/Object;" } : Jvm.MethodName) ({ cls := "java/util/LinkedList", name := "removeLast", desc := "()Ljava/lang/Object;" } : Jvm.MethodName)) ∈ lw_all := lw_g (lw_at lw_m15 216 rfl) rfl
theorem q3677 : (Jvm.Cond.code ({ cls := "java/util/LinkedList", name := "removeLast", desc := "()Ljava/lang/Object;" } : Jvm.MethodName) prog_69_method_12_code (2 : Nat) (Option.some (Jvm.ClassFile.FieldType.object "java/lang/Object"))) ∈ lw_all := lw_g (lw_at lw_m15 217 rfl) rfl
theorem q3678 : (Jvm.Cond.methodLink "java/util/LinkedList" (50 : Nat) ({ cls := "java/util/LinkedList", name := "unlinkLast", desc := "(Ljava/util/LinkedList$Node;)Ljava/lang/Object;" } : Jvm.MethodName)) ∈ lw_all := lw_g (lw_at lw_m15 218 rfl) rfl
theorem q3679 : (Jvm.Cond.privateMethod ({ cls := "java/util/LinkedList", name := "unlinkLast", desc := "(Ljava/util/LinkedList$Node;)Ljava/lang/Object;" } : Jvm.MethodName)) ∈ lw_tbl := lw_at lw_m15 219 rfl
theorem q3680 : (Jvm.Cond.instanceMethod ({ cls := "java/util/LinkedList", name := "unlinkLast", desc := "(Ljava/util/LinkedList$Node;)Ljava/lang/Object;" } : Jvm.MethodName)) ∈ lw_all := lw_g (lw_at lw_m15 220 rfl) rfl
theorem q3681 : (Jvm.Cond.code ({ cls := "java/util/LinkedList", name := "unlinkLast", desc := "(Ljava/util/LinkedList$Node;)Ljava/lang/Object;" } : Jvm.MethodName) prog_69_method_7_code (4 : Nat) (Option.some (Jvm.ClassFile.FieldType.object "java/lang/Object"))) ∈ lw_all := lw_g (lw_at lw_m15 221 rfl) rfl
theorem q3690 : (Jvm.Cond.instanceMethod ({ cls := "java/util/LinkedList", name := "clear", desc := "()V" } : Jvm.MethodName)) ∈ lw_all := lw_g (lw_at lw_m15 230 rfl) rfl
theorem q3691 : (Jvm.Cond.selects "java/util/LinkedList" ({ cls := "java/util/LinkedList", name := "clear", desc := "()V" } : Jvm.MethodName) ({ cls := "java/util/LinkedList", name := "clear", desc := "()V" } : Jvm.MethodName)) ∈ lw_all := lw_g (lw_at lw_m15 231 rfl) rfl
theorem q3692 : (Jvm.Cond.code ({ cls := "java/util/LinkedList", name := "clear", desc := "()V" } : Jvm.MethodName) prog_69_method_21_code (3 : Nat) (Option.none : Option Jvm.ClassFile.FieldType)) ∈ lw_all := lw_g (lw_at lw_m15 232 rfl) rfl
theorem q4217 : (Jvm.Cond.selects "java/util/LinkedList" ({ cls := "java/util/AbstractCollection", name := "size", desc := "()I" } : Jvm.MethodName) ({ cls := "java/util/LinkedList", name := "size", desc := "()I" } : Jvm.MethodName)) ∈ lw_all := lw_g (lw_at lw_m18 37 rfl) rfl
theorem q4224 : (Jvm.Cond.selects "java/util/LinkedList" ({ cls := "java/util/LinkedList", name := "size", desc := "()I" } : Jvm.MethodName) ({ cls := "java/util/LinkedList", name := "size", desc := "()I" } : Jvm.MethodName)) ∈ lw_all := lw_g (lw_at lw_m18 44 rfl) rfl
theorem q4239 : (Jvm.Cond.castable "java/util/LinkedList" "java/lang/Object") ∈ lw_tbl := lw_at lw_m18 59 rfl
theorem in_J3 : ∀ w ∈ wsJ30, w ∈ lw_all := lw_in wsJ30 [215, 209, 211, 213] (by decide +kernel) (by decide +kernel)
/-! java/lang/AbstractStringBuilder -/
set_option maxRecDepth 100000
def RJ4 : String := "java/lang/AbstractStringBuilder"
abbrev cJ4_init : ByteArray := prog_22_method_2_code
def yJ4_init : MethodName := ⟨RJ4, "<init>", "(I)V"⟩
def dkwJ4_init_1 : List UInt8 := [167, 0, 16, 42, 27, 184, 0, 26, 181, 0, 15, 42, 4, 181, 0, 22, 177]
abbrev dktJ4_init_1 : List UInt8 := dkwJ4_init_1 ++ []
def dkwJ4_init_0 : List UInt8 := [42, 183, 0, 3, 178, 0, 18, 153, 0, 18, 42, 27, 188, 8, 181, 0, 15, 42, 3, 181, 0, 22]
abbrev dktJ4_init_0 : List UInt8 := dkwJ4_init_0 ++ dktJ4_init_1
theorem dksJ4_init_0 : cJ4_init.data.toList.drop 0 = dktJ4_init_0 := by decide +kernel
theorem dksJ4_init_1 : cJ4_init.data.toList.drop 22 = dktJ4_init_1 := dk_seg dksJ4_init_0 22 rfl rfl
theorem dJ4_init_0 : decode cJ4_init 0 = .ok (.aload_n 0, 1) := dk_42 (dk_at dksJ4_init_0 0 rfl rfl)
theorem dJ4_init_1 : decode cJ4_init 1 = .ok (.invokespecial 3, 3) := dk_183 0 3 (dk_at dksJ4_init_0 1 rfl rfl)
theorem dJ4_init_4 : decode cJ4_init 4 = .ok (.getstatic 18, 3) := dk_178 0 18 (dk_at dksJ4_init_0 4 rfl rfl)
theorem dJ4_init_7 : decode cJ4_init 7 = .ok (.ifCond .eq 18, 3) := dk_153 0 18 (dk_at dksJ4_init_0 7 rfl rfl)
theorem dJ4_init_10 : decode cJ4_init 10 = .ok (.aload_n 0, 1) := dk_42 (dk_at dksJ4_init_0 10 rfl rfl)
theorem dJ4_init_11 : decode cJ4_init 11 = .ok (.iload_n 1, 1) := dk_27 (dk_at dksJ4_init_0 11 rfl rfl)
theorem dJ4_init_12 : decode cJ4_init 12 = .ok (.newarray .byte, 2) := dk_188_8 (dk_at dksJ4_init_0 12 rfl rfl)
theorem dJ4_init_14 : decode cJ4_init 14 = .ok (.putfield 15, 3) := dk_181 0 15 (dk_at dksJ4_init_0 14 rfl rfl)
theorem dJ4_init_17 : decode cJ4_init 17 = .ok (.aload_n 0, 1) := dk_42 (dk_at dksJ4_init_0 17 rfl rfl)
theorem dJ4_init_18 : decode cJ4_init 18 = .ok (.iconst 0, 1) := dk_3 (dk_at dksJ4_init_0 18 rfl rfl)
theorem dJ4_init_19 : decode cJ4_init 19 = .ok (.putfield 22, 3) := dk_181 0 22 (dk_at dksJ4_init_0 19 rfl rfl)
theorem dJ4_init_22 : decode cJ4_init 22 = .ok (.goto 16, 3) := dk_167 0 16 (dk_at dksJ4_init_1 0 rfl rfl)
theorem dJ4_init_25 : decode cJ4_init 25 = .ok (.aload_n 0, 1) := dk_42 (dk_at dksJ4_init_1 3 rfl rfl)
theorem dJ4_init_26 : decode cJ4_init 26 = .ok (.iload_n 1, 1) := dk_27 (dk_at dksJ4_init_1 4 rfl rfl)
theorem dJ4_init_27 : decode cJ4_init 27 = .ok (.invokestatic 26, 3) := dk_184 0 26 (dk_at dksJ4_init_1 5 rfl rfl)
theorem dJ4_init_30 : decode cJ4_init 30 = .ok (.putfield 15, 3) := dk_181 0 15 (dk_at dksJ4_init_1 8 rfl rfl)
theorem dJ4_init_33 : decode cJ4_init 33 = .ok (.aload_n 0, 1) := dk_42 (dk_at dksJ4_init_1 11 rfl rfl)
theorem dJ4_init_34 : decode cJ4_init 34 = .ok (.iconst 1, 1) := dk_4 (dk_at dksJ4_init_1 12 rfl rfl)
theorem dJ4_init_35 : decode cJ4_init 35 = .ok (.putfield 22, 3) := dk_181 0 22 (dk_at dksJ4_init_1 13 rfl rfl)
theorem dJ4_init_38 : decode cJ4_init 38 = .ok (.return_, 1) := dk_177 (dk_at dksJ4_init_1 16 rfl rfl)
abbrev cJ4_append : ByteArray := prog_22_method_22_code
def yJ4_append : MethodName := ⟨RJ4, "append", "(Ljava/lang/String;)Ljava/lang/AbstractStringBuilder;"⟩
def dkwJ4_append_1 : List UInt8 := [42, 42, 180, 0, 79, 43, 182, 0, 208, 42, 89, 180, 0, 79, 28, 96, 181, 0, 79, 42, 176]
abbrev dktJ4_append_1 : List UInt8 := dkwJ4_append_1 ++ []
def dkwJ4_append_0 : List UInt8 := [43, 199, 0, 8, 42, 182, 0, 204, 176, 43, 182, 0, 32, 61, 42, 42, 180, 0, 79, 28, 96, 182, 0, 100]
abbrev dktJ4_append_0 : List UInt8 := dkwJ4_append_0 ++ dktJ4_append_1
theorem dksJ4_append_0 : cJ4_append.data.toList.drop 0 = dktJ4_append_0 := by decide +kernel
theorem dksJ4_append_1 : cJ4_append.data.toList.drop 24 = dktJ4_append_1 := dk_seg dksJ4_append_0 24 rfl rfl
theorem dJ4_append_0 : decode cJ4_append 0 = .ok (.aload_n 1, 1) := dk_43 (dk_at dksJ4_append_0 0 rfl rfl)
theorem dJ4_append_1 : decode cJ4_append 1 = .ok (.ifnonnull 8, 3) := dk_199 0 8 (dk_at dksJ4_append_0 1 rfl rfl)
theorem dJ4_append_4 : decode cJ4_append 4 = .ok (.aload_n 0, 1) := dk_42 (dk_at dksJ4_append_0 4 rfl rfl)
theorem dJ4_append_5 : decode cJ4_append 5 = .ok (.invokevirtual 204, 3) := dk_182 0 204 (dk_at dksJ4_append_0 5 rfl rfl)
theorem dJ4_append_8 : decode cJ4_append 8 = .ok (.areturn, 1) := dk_176 (dk_at dksJ4_append_0 8 rfl rfl)
theorem dJ4_append_9 : decode cJ4_append 9 = .ok (.aload_n 1, 1) := dk_43 (dk_at dksJ4_append_0 9 rfl rfl)
theorem dJ4_append_10 : decode cJ4_append 10 = .ok (.invokevirtual 32, 3) := dk_182 0 32 (dk_at dksJ4_append_0 10 rfl rfl)
theorem dJ4_append_13 : decode cJ4_append 13 = .ok (.istore_n 2, 1) := dk_61 (dk_at dksJ4_append_0 13 rfl rfl)
theorem dJ4_append_14 : decode cJ4_append 14 = .ok (.aload_n 0, 1) := dk_42 (dk_at dksJ4_append_0 14 rfl rfl)
theorem dJ4_append_15 : decode cJ4_append 15 = .ok (.aload_n 0, 1) := dk_42 (dk_at dksJ4_append_0 15 rfl rfl)
theorem dJ4_append_16 : decode cJ4_append 16 = .ok (.getfield 79, 3) := dk_180 0 79 (dk_at dksJ4_append_0 16 rfl rfl)
theorem dJ4_append_19 : decode cJ4_append 19 = .ok (.iload_n 2, 1) := dk_28 (dk_at dksJ4_append_0 19 rfl rfl)
theorem dJ4_append_20 : decode cJ4_append 20 = .ok (.iadd, 1) := dk_96 (dk_at dksJ4_append_0 20 rfl rfl)
theorem dJ4_append_21 : decode cJ4_append 21 = .ok (.invokevirtual 100, 3) := dk_182 0 100 (dk_at dksJ4_append_0 21 rfl rfl)
theorem dJ4_append_24 : decode cJ4_append 24 = .ok (.aload_n 0, 1) := dk_42 (dk_at dksJ4_append_1 0 rfl rfl)
theorem dJ4_append_25 : decode cJ4_append 25 = .ok (.aload_n 0, 1) := dk_42 (dk_at dksJ4_append_1 1 rfl rfl)
theorem dJ4_append_26 : decode cJ4_append 26 = .ok (.getfield 79, 3) := dk_180 0 79 (dk_at dksJ4_append_1 2 rfl rfl)
theorem dJ4_append_29 : decode cJ4_append 29 = .ok (.aload_n 1, 1) := dk_43 (dk_at dksJ4_append_1 5 rfl rfl)
theorem dJ4_append_30 : decode cJ4_append 30 = .ok (.invokevirtual 208, 3) := dk_182 0 208 (dk_at dksJ4_append_1 6 rfl rfl)
theorem dJ4_append_33 : decode cJ4_append 33 = .ok (.aload_n 0, 1) := dk_42 (dk_at dksJ4_append_1 9 rfl rfl)
theorem dJ4_append_34 : decode cJ4_append 34 = .ok (.dup, 1) := dk_89 (dk_at dksJ4_append_1 10 rfl rfl)
theorem dJ4_append_35 : decode cJ4_append 35 = .ok (.getfield 79, 3) := dk_180 0 79 (dk_at dksJ4_append_1 11 rfl rfl)
theorem dJ4_append_38 : decode cJ4_append 38 = .ok (.iload_n 2, 1) := dk_28 (dk_at dksJ4_append_1 14 rfl rfl)
theorem dJ4_append_39 : decode cJ4_append 39 = .ok (.iadd, 1) := dk_96 (dk_at dksJ4_append_1 15 rfl rfl)
theorem dJ4_append_40 : decode cJ4_append 40 = .ok (.putfield 79, 3) := dk_181 0 79 (dk_at dksJ4_append_1 16 rfl rfl)
theorem dJ4_append_43 : decode cJ4_append 43 = .ok (.aload_n 0, 1) := dk_42 (dk_at dksJ4_append_1 19 rfl rfl)
theorem dJ4_append_44 : decode cJ4_append 44 = .ok (.areturn, 1) := dk_176 (dk_at dksJ4_append_1 20 rfl rfl)
abbrev cJ4_appendNull : ByteArray := prog_22_method_26_code
def yJ4_appendNull : MethodName := ⟨RJ4, "appendNull", "()Ljava/lang/AbstractStringBuilder;"⟩
def dkwJ4_appendNull_3 : List UInt8 := [184, 0, 226, 60, 42, 27, 181, 0, 79, 42, 176]
abbrev dktJ4_appendNull_3 : List UInt8 := dkwJ4_appendNull_3 ++ []
def dkwJ4_appendNull_2 : List UInt8 := [16, 108, 84, 44, 27, 132, 1, 1, 16, 108, 84, 167, 0, 17, 44, 27, 16, 110, 16, 117, 16, 108, 16, 108]
abbrev dktJ4_appendNull_2 : List UInt8 := dkwJ4_appendNull_2 ++ dktJ4_appendNull_3
def dkwJ4_appendNull_1 : List UInt8 := [153, 0, 38, 44, 27, 132, 1, 1, 16, 110, 84, 44, 27, 132, 1, 1, 16, 117, 84, 44, 27, 132, 1, 1]
abbrev dktJ4_appendNull_1 : List UInt8 := dkwJ4_appendNull_1 ++ dktJ4_appendNull_2
def dkwJ4_appendNull_0 : List UInt8 := [42, 42, 180, 0, 79, 7, 96, 182, 0, 100, 42, 180, 0, 79, 60, 42, 180, 0, 15, 77, 42, 182, 0, 83]
abbrev dktJ4_appendNull_0 : List UInt8 := dkwJ4_appendNull_0 ++ dktJ4_appendNull_1
theorem dksJ4_appendNull_0 : cJ4_appendNull.data.toList.drop 0 = dktJ4_appendNull_0 := by decide +kernel
theorem dksJ4_appendNull_1 : cJ4_appendNull.data.toList.drop 24 = dktJ4_appendNull_1 := dk_seg dksJ4_appendNull_0 24 rfl rfl
theorem dksJ4_appendNull_2 : cJ4_appendNull.data.toList.drop 48 = dktJ4_appendNull_2 := dk_seg dksJ4_appendNull_1 24 rfl rfl
theorem dksJ4_appendNull_3 : cJ4_appendNull.data.toList.drop 72 = dktJ4_appendNull_3 := dk_seg dksJ4_appendNull_2 24 rfl rfl
theorem dJ4_appendNull_0 : decode cJ4_appendNull 0 = .ok (.aload_n 0, 1) := dk_42 (dk_at dksJ4_appendNull_0 0 rfl rfl)
theorem dJ4_appendNull_1 : decode cJ4_appendNull 1 = .ok (.aload_n 0, 1) := dk_42 (dk_at dksJ4_appendNull_0 1 rfl rfl)
theorem dJ4_appendNull_2 : decode cJ4_appendNull 2 = .ok (.getfield 79, 3) := dk_180 0 79 (dk_at dksJ4_appendNull_0 2 rfl rfl)
theorem dJ4_appendNull_5 : decode cJ4_appendNull 5 = .ok (.iconst 4, 1) := dk_7 (dk_at dksJ4_appendNull_0 5 rfl rfl)
theorem dJ4_appendNull_6 : decode cJ4_appendNull 6 = .ok (.iadd, 1) := dk_96 (dk_at dksJ4_appendNull_0 6 rfl rfl)
theorem dJ4_appendNull_7 : decode cJ4_appendNull 7 = .ok (.invokevirtual 100, 3) := dk_182 0 100 (dk_at dksJ4_appendNull_0 7 rfl rfl)
theorem dJ4_appendNull_10 : decode cJ4_appendNull 10 = .ok (.aload_n 0, 1) := dk_42 (dk_at dksJ4_appendNull_0 10 rfl rfl)
theorem dJ4_appendNull_11 : decode cJ4_appendNull 11 = .ok (.getfield 79, 3) := dk_180 0 79 (dk_at dksJ4_appendNull_0 11 rfl rfl)
theorem dJ4_appendNull_14 : decode cJ4_appendNull 14 = .ok (.istore_n 1, 1) := dk_60 (dk_at dksJ4_appendNull_0 14 rfl rfl)
theorem dJ4_appendNull_15 : decode cJ4_appendNull 15 = .ok (.aload_n 0, 1) := dk_42 (dk_at dksJ4_appendNull_0 15 rfl rfl)
theorem dJ4_appendNull_16 : decode cJ4_appendNull 16 = .ok (.getfield 15, 3) := dk_180 0 15 (dk_at dksJ4_appendNull_0 16 rfl rfl)
theorem dJ4_appendNull_19 : decode cJ4_appendNull 19 = .ok (.astore_n 2, 1) := dk_77 (dk_at dksJ4_appendNull_0 19 rfl rfl)
theorem dJ4_appendNull_20 : decode cJ4_appendNull 20 = .ok (.aload_n 0, 1) := dk_42 (dk_at dksJ4_appendNull_0 20 rfl rfl)
theorem dJ4_appendNull_21 : decode cJ4_appendNull 21 = .ok (.invokevirtual 83, 3) := dk_182 0 83 (dk_at dksJ4_appendNull_0 21 rfl rfl)
theorem dJ4_appendNull_24 : decode cJ4_appendNull 24 = .ok (.ifCond .eq 38, 3) := dk_153 0 38 (dk_at dksJ4_appendNull_1 0 rfl rfl)
theorem dJ4_appendNull_27 : decode cJ4_appendNull 27 = .ok (.aload_n 2, 1) := dk_44 (dk_at dksJ4_appendNull_1 3 rfl rfl)
theorem dJ4_appendNull_28 : decode cJ4_appendNull 28 = .ok (.iload_n 1, 1) := dk_27 (dk_at dksJ4_appendNull_1 4 rfl rfl)
theorem dJ4_appendNull_29 : decode cJ4_appendNull 29 = .ok (.iinc 1 1, 3) := dk_132 1 1 (dk_at dksJ4_appendNull_1 5 rfl rfl)
theorem dJ4_appendNull_32 : decode cJ4_appendNull 32 = .ok (.bipush 110, 2) := dk_16 110 (dk_at dksJ4_appendNull_1 8 rfl rfl)
theorem dJ4_appendNull_34 : decode cJ4_appendNull 34 = .ok (.bastore, 1) := dk_84 (dk_at dksJ4_appendNull_1 10 rfl rfl)
theorem dJ4_appendNull_35 : decode cJ4_appendNull 35 = .ok (.aload_n 2, 1) := dk_44 (dk_at dksJ4_appendNull_1 11 rfl rfl)
theorem dJ4_appendNull_36 : decode cJ4_appendNull 36 = .ok (.iload_n 1, 1) := dk_27 (dk_at dksJ4_appendNull_1 12 rfl rfl)
theorem dJ4_appendNull_37 : decode cJ4_appendNull 37 = .ok (.iinc 1 1, 3) := dk_132 1 1 (dk_at dksJ4_appendNull_1 13 rfl rfl)
theorem dJ4_appendNull_40 : decode cJ4_appendNull 40 = .ok (.bipush 117, 2) := dk_16 117 (dk_at dksJ4_appendNull_1 16 rfl rfl)
theorem dJ4_appendNull_42 : decode cJ4_appendNull 42 = .ok (.bastore, 1) := dk_84 (dk_at dksJ4_appendNull_1 18 rfl rfl)
theorem dJ4_appendNull_43 : decode cJ4_appendNull 43 = .ok (.aload_n 2, 1) := dk_44 (dk_at dksJ4_appendNull_1 19 rfl rfl)
theorem dJ4_appendNull_44 : decode cJ4_appendNull 44 = .ok (.iload_n 1, 1) := dk_27 (dk_at dksJ4_appendNull_1 20 rfl rfl)
theorem dJ4_appendNull_45 : decode cJ4_appendNull 45 = .ok (.iinc 1 1, 3) := dk_132 1 1 (dk_at dksJ4_appendNull_1 21 rfl rfl)
theorem dJ4_appendNull_48 : decode cJ4_appendNull 48 = .ok (.bipush 108, 2) := dk_16 108 (dk_at dksJ4_appendNull_2 0 rfl rfl)
theorem dJ4_appendNull_50 : decode cJ4_appendNull 50 = .ok (.bastore, 1) := dk_84 (dk_at dksJ4_appendNull_2 2 rfl rfl)
theorem dJ4_appendNull_51 : decode cJ4_appendNull 51 = .ok (.aload_n 2, 1) := dk_44 (dk_at dksJ4_appendNull_2 3 rfl rfl)
theorem dJ4_appendNull_52 : decode cJ4_appendNull 52 = .ok (.iload_n 1, 1) := dk_27 (dk_at dksJ4_appendNull_2 4 rfl rfl)
theorem dJ4_appendNull_53 : decode cJ4_appendNull 53 = .ok (.iinc 1 1, 3) := dk_132 1 1 (dk_at dksJ4_appendNull_2 5 rfl rfl)
theorem dJ4_appendNull_56 : decode cJ4_appendNull 56 = .ok (.bipush 108, 2) := dk_16 108 (dk_at dksJ4_appendNull_2 8 rfl rfl)
theorem dJ4_appendNull_58 : decode cJ4_appendNull 58 = .ok (.bastore, 1) := dk_84 (dk_at dksJ4_appendNull_2 10 rfl rfl)
theorem dJ4_appendNull_59 : decode cJ4_appendNull 59 = .ok (.goto 17, 3) := dk_167 0 17 (dk_at dksJ4_appendNull_2 11 rfl rfl)
theorem dJ4_appendNull_62 : decode cJ4_appendNull 62 = .ok (.aload_n 2, 1) := dk_44 (dk_at dksJ4_appendNull_2 14 rfl rfl)
theorem dJ4_appendNull_63 : decode cJ4_appendNull 63 = .ok (.iload_n 1, 1) := dk_27 (dk_at dksJ4_appendNull_2 15 rfl rfl)
theorem dJ4_appendNull_64 : decode cJ4_appendNull 64 = .ok (.bipush 110, 2) := dk_16 110 (dk_at dksJ4_appendNull_2 16 rfl rfl)
theorem dJ4_appendNull_66 : decode cJ4_appendNull 66 = .ok (.bipush 117, 2) := dk_16 117 (dk_at dksJ4_appendNull_2 18 rfl rfl)
theorem dJ4_appendNull_68 : decode cJ4_appendNull 68 = .ok (.bipush 108, 2) := dk_16 108 (dk_at dksJ4_appendNull_2 20 rfl rfl)
theorem dJ4_appendNull_70 : decode cJ4_appendNull 70 = .ok (.bipush 108, 2) := dk_16 108 (dk_at dksJ4_appendNull_2 22 rfl rfl)
theorem dJ4_appendNull_72 : decode cJ4_appendNull 72 = .ok (.invokestatic 226, 3) := dk_184 0 226 (dk_at dksJ4_appendNull_3 0 rfl rfl)
theorem dJ4_appendNull_75 : decode cJ4_appendNull 75 = .ok (.istore_n 1, 1) := dk_60 (dk_at dksJ4_appendNull_3 3 rfl rfl)
theorem dJ4_appendNull_76 : decode cJ4_appendNull 76 = .ok (.aload_n 0, 1) := dk_42 (dk_at dksJ4_appendNull_3 4 rfl rfl)
theorem dJ4_appendNull_77 : decode cJ4_appendNull 77 = .ok (.iload_n 1, 1) := dk_27 (dk_at dksJ4_appendNull_3 5 rfl rfl)
theorem dJ4_appendNull_78 : decode cJ4_appendNull 78 = .ok (.putfield 79, 3) := dk_181 0 79 (dk_at dksJ4_appendNull_3 6 rfl rfl)
theorem dJ4_appendNull_81 : decode cJ4_appendNull 81 = .ok (.aload_n 0, 1) := dk_42 (dk_at dksJ4_appendNull_3 9 rfl rfl)
theorem dJ4_appendNull_82 : decode cJ4_appendNull 82 = .ok (.areturn, 1) := dk_176 (dk_at dksJ4_appendNull_3 10 rfl rfl)
abbrev cJ4_ensureCapacityInternal : ByteArray := prog_22_method_9_code
def yJ4_ensureCapacityInternal : MethodName := ⟨RJ4, "ensureCapacityInternal", "(I)V"⟩
def dkwJ4_ensureCapacityInternal_1 : List UInt8 := [182, 0, 104, 42, 180, 0, 22, 120, 184, 0, 108, 181, 0, 15, 177]
abbrev dktJ4_ensureCapacityInternal_1 : List UInt8 := dkwJ4_ensureCapacityInternal_1 ++ []
def dkwJ4_ensureCapacityInternal_0 : List UInt8 := [42, 180, 0, 15, 190, 42, 180, 0, 22, 122, 61, 27, 28, 100, 158, 0, 24, 42, 42, 180, 0, 15, 42, 27]
abbrev dktJ4_ensureCapacityInternal_0 : List UInt8 := dkwJ4_ensureCapacityInternal_0 ++ dktJ4_ensureCapacityInternal_1
theorem dksJ4_ensureCapacityInternal_0 : cJ4_ensureCapacityInternal.data.toList.drop 0 = dktJ4_ensureCapacityInternal_0 := by decide +kernel
theorem dksJ4_ensureCapacityInternal_1 : cJ4_ensureCapacityInternal.data.toList.drop 24 = dktJ4_ensureCapacityInternal_1 := dk_seg dksJ4_ensureCapacityInternal_0 24 rfl rfl
theorem dJ4_ensureCapacityInternal_0 : decode cJ4_ensureCapacityInternal 0 = .ok (.aload_n 0, 1) := dk_42 (dk_at dksJ4_ensureCapacityInternal_0 0 rfl rfl)
theorem dJ4_ensureCapacityInternal_1 : decode cJ4_ensureCapacityInternal 1 = .ok (.getfield 15, 3) := dk_180 0 15 (dk_at dksJ4_ensureCapacityInternal_0 1 rfl rfl)
theorem dJ4_ensureCapacityInternal_4 : decode cJ4_ensureCapacityInternal 4 = .ok (.arraylength, 1) := dk_190 (dk_at dksJ4_ensureCapacityInternal_0 4 rfl rfl)
theorem dJ4_ensureCapacityInternal_5 : decode cJ4_ensureCapacityInternal 5 = .ok (.aload_n 0, 1) := dk_42 (dk_at dksJ4_ensureCapacityInternal_0 5 rfl rfl)
theorem dJ4_ensureCapacityInternal_6 : decode cJ4_ensureCapacityInternal 6 = .ok (.getfield 22, 3) := dk_180 0 22 (dk_at dksJ4_ensureCapacityInternal_0 6 rfl rfl)
theorem dJ4_ensureCapacityInternal_9 : decode cJ4_ensureCapacityInternal 9 = .ok (.ishr, 1) := dk_122 (dk_at dksJ4_ensureCapacityInternal_0 9 rfl rfl)
theorem dJ4_ensureCapacityInternal_10 : decode cJ4_ensureCapacityInternal 10 = .ok (.istore_n 2, 1) := dk_61 (dk_at dksJ4_ensureCapacityInternal_0 10 rfl rfl)
theorem dJ4_ensureCapacityInternal_11 : decode cJ4_ensureCapacityInternal 11 = .ok (.iload_n 1, 1) := dk_27 (dk_at dksJ4_ensureCapacityInternal_0 11 rfl rfl)
theorem dJ4_ensureCapacityInternal_12 : decode cJ4_ensureCapacityInternal 12 = .ok (.iload_n 2, 1) := dk_28 (dk_at dksJ4_ensureCapacityInternal_0 12 rfl rfl)
theorem dJ4_ensureCapacityInternal_13 : decode cJ4_ensureCapacityInternal 13 = .ok (.isub, 1) := dk_100 (dk_at dksJ4_ensureCapacityInternal_0 13 rfl rfl)
theorem dJ4_ensureCapacityInternal_14 : decode cJ4_ensureCapacityInternal 14 = .ok (.ifCond .le 24, 3) := dk_158 0 24 (dk_at dksJ4_ensureCapacityInternal_0 14 rfl rfl)
theorem dJ4_ensureCapacityInternal_17 : decode cJ4_ensureCapacityInternal 17 = .ok (.aload_n 0, 1) := dk_42 (dk_at dksJ4_ensureCapacityInternal_0 17 rfl rfl)
theorem dJ4_ensureCapacityInternal_18 : decode cJ4_ensureCapacityInternal 18 = .ok (.aload_n 0, 1) := dk_42 (dk_at dksJ4_ensureCapacityInternal_0 18 rfl rfl)
theorem dJ4_ensureCapacityInternal_19 : decode cJ4_ensureCapacityInternal 19 = .ok (.getfield 15, 3) := dk_180 0 15 (dk_at dksJ4_ensureCapacityInternal_0 19 rfl rfl)
theorem dJ4_ensureCapacityInternal_22 : decode cJ4_ensureCapacityInternal 22 = .ok (.aload_n 0, 1) := dk_42 (dk_at dksJ4_ensureCapacityInternal_0 22 rfl rfl)
theorem dJ4_ensureCapacityInternal_23 : decode cJ4_ensureCapacityInternal 23 = .ok (.iload_n 1, 1) := dk_27 (dk_at dksJ4_ensureCapacityInternal_0 23 rfl rfl)
theorem dJ4_ensureCapacityInternal_24 : decode cJ4_ensureCapacityInternal 24 = .ok (.invokevirtual 104, 3) := dk_182 0 104 (dk_at dksJ4_ensureCapacityInternal_1 0 rfl rfl)
theorem dJ4_ensureCapacityInternal_27 : decode cJ4_ensureCapacityInternal 27 = .ok (.aload_n 0, 1) := dk_42 (dk_at dksJ4_ensureCapacityInternal_1 3 rfl rfl)
theorem dJ4_ensureCapacityInternal_28 : decode cJ4_ensureCapacityInternal 28 = .ok (.getfield 22, 3) := dk_180 0 22 (dk_at dksJ4_ensureCapacityInternal_1 4 rfl rfl)
theorem dJ4_ensureCapacityInternal_31 : decode cJ4_ensureCapacityInternal 31 = .ok (.ishl, 1) := dk_120 (dk_at dksJ4_ensureCapacityInternal_1 7 rfl rfl)
theorem dJ4_ensureCapacityInternal_32 : decode cJ4_ensureCapacityInternal 32 = .ok (.invokestatic 108, 3) := dk_184 0 108 (dk_at dksJ4_ensureCapacityInternal_1 8 rfl rfl)
theorem dJ4_ensureCapacityInternal_35 : decode cJ4_ensureCapacityInternal 35 = .ok (.putfield 15, 3) := dk_181 0 15 (dk_at dksJ4_ensureCapacityInternal_1 11 rfl rfl)
theorem dJ4_ensureCapacityInternal_38 : decode cJ4_ensureCapacityInternal 38 = .ok (.return_, 1) := dk_177 (dk_at dksJ4_ensureCapacityInternal_1 14 rfl rfl)
abbrev cJ4_newCapacity : ByteArray := prog_22_method_10_code
def yJ4_newCapacity : MethodName := ⟨RJ4, "newCapacity", "(I)I"⟩
def dkwJ4_newCapacity_2 : List UInt8 := [183, 0, 124, 191, 21, 5, 42, 180, 0, 22, 122, 172]
abbrev dktJ4_newCapacity_2 : List UInt8 := dkwJ4_newCapacity_2 ++ []
def dkwJ4_newCapacity_1 : List UInt8 := [180, 0, 22, 120, 96, 184, 0, 114, 54, 5, 21, 5, 18, 39, 160, 0, 13, 187, 0, 120, 89, 18, 122]
abbrev dktJ4_newCapacity_1 : List UInt8 := dkwJ4_newCapacity_1 ++ dktJ4_newCapacity_2
def dkwJ4_newCapacity_0 : List UInt8 := [42, 180, 0, 15, 190, 61, 27, 42, 180, 0, 22, 120, 62, 29, 28, 100, 54, 4, 28, 21, 4, 28, 5, 42]
abbrev dktJ4_newCapacity_0 : List UInt8 := dkwJ4_newCapacity_0 ++ dktJ4_newCapacity_1
theorem dksJ4_newCapacity_0 : cJ4_newCapacity.data.toList.drop 0 = dktJ4_newCapacity_0 := by decide +kernel
theorem dksJ4_newCapacity_1 : cJ4_newCapacity.data.toList.drop 24 = dktJ4_newCapacity_1 := dk_seg dksJ4_newCapacity_0 24 rfl rfl
theorem dksJ4_newCapacity_2 : cJ4_newCapacity.data.toList.drop 47 = dktJ4_newCapacity_2 := dk_seg dksJ4_newCapacity_1 23 rfl rfl
theorem dJ4_newCapacity_0 : decode cJ4_newCapacity 0 = .ok (.aload_n 0, 1) := dk_42 (dk_at dksJ4_newCapacity_0 0 rfl rfl)
theorem dJ4_newCapacity_1 : decode cJ4_newCapacity 1 = .ok (.getfield 15, 3) := dk_180 0 15 (dk_at dksJ4_newCapacity_0 1 rfl rfl)
theorem dJ4_newCapacity_4 : decode cJ4_newCapacity 4 = .ok (.arraylength, 1) := dk_190 (dk_at dksJ4_newCapacity_0 4 rfl rfl)
theorem dJ4_newCapacity_5 : decode cJ4_newCapacity 5 = .ok (.istore_n 2, 1) := dk_61 (dk_at dksJ4_newCapacity_0 5 rfl rfl)
theorem dJ4_newCapacity_6 : decode cJ4_newCapacity 6 = .ok (.iload_n 1, 1) := dk_27 (dk_at dksJ4_newCapacity_0 6 rfl rfl)
theorem dJ4_newCapacity_7 : decode cJ4_newCapacity 7 = .ok (.aload_n 0, 1) := dk_42 (dk_at dksJ4_newCapacity_0 7 rfl rfl)
theorem dJ4_newCapacity_8 : decode cJ4_newCapacity 8 = .ok (.getfield 22, 3) := dk_180 0 22 (dk_at dksJ4_newCapacity_0 8 rfl rfl)
theorem dJ4_newCapacity_11 : decode cJ4_newCapacity 11 = .ok (.ishl, 1) := dk_120 (dk_at dksJ4_newCapacity_0 11 rfl rfl)
theorem dJ4_newCapacity_12 : decode cJ4_newCapacity 12 = .ok (.istore_n 3, 1) := dk_62 (dk_at dksJ4_newCapacity_0 12 rfl rfl)
theorem dJ4_newCapacity_13 : decode cJ4_newCapacity 13 = .ok (.iload_n 3, 1) := dk_29 (dk_at dksJ4_newCapacity_0 13 rfl rfl)
theorem dJ4_newCapacity_14 : decode cJ4_newCapacity 14 = .ok (.iload_n 2, 1) := dk_28 (dk_at dksJ4_newCapacity_0 14 rfl rfl)
theorem dJ4_newCapacity_15 : decode cJ4_newCapacity 15 = .ok (.isub, 1) := dk_100 (dk_at dksJ4_newCapacity_0 15 rfl rfl)
theorem dJ4_newCapacity_16 : decode cJ4_newCapacity 16 = .ok (.istore 4, 2) := dk_54 4 (dk_at dksJ4_newCapacity_0 16 rfl rfl)
theorem dJ4_newCapacity_18 : decode cJ4_newCapacity 18 = .ok (.iload_n 2, 1) := dk_28 (dk_at dksJ4_newCapacity_0 18 rfl rfl)
theorem dJ4_newCapacity_19 : decode cJ4_newCapacity 19 = .ok (.iload 4, 2) := dk_21 4 (dk_at dksJ4_newCapacity_0 19 rfl rfl)
theorem dJ4_newCapacity_21 : decode cJ4_newCapacity 21 = .ok (.iload_n 2, 1) := dk_28 (dk_at dksJ4_newCapacity_0 21 rfl rfl)
theorem dJ4_newCapacity_22 : decode cJ4_newCapacity 22 = .ok (.iconst 2, 1) := dk_5 (dk_at dksJ4_newCapacity_0 22 rfl rfl)
theorem dJ4_newCapacity_23 : decode cJ4_newCapacity 23 = .ok (.aload_n 0, 1) := dk_42 (dk_at dksJ4_newCapacity_0 23 rfl rfl)
theorem dJ4_newCapacity_24 : decode cJ4_newCapacity 24 = .ok (.getfield 22, 3) := dk_180 0 22 (dk_at dksJ4_newCapacity_1 0 rfl rfl)
theorem dJ4_newCapacity_27 : decode cJ4_newCapacity 27 = .ok (.ishl, 1) := dk_120 (dk_at dksJ4_newCapacity_1 3 rfl rfl)
theorem dJ4_newCapacity_28 : decode cJ4_newCapacity 28 = .ok (.iadd, 1) := dk_96 (dk_at dksJ4_newCapacity_1 4 rfl rfl)
theorem dJ4_newCapacity_29 : decode cJ4_newCapacity 29 = .ok (.invokestatic 114, 3) := dk_184 0 114 (dk_at dksJ4_newCapacity_1 5 rfl rfl)
theorem dJ4_newCapacity_32 : decode cJ4_newCapacity 32 = .ok (.istore 5, 2) := dk_54 5 (dk_at dksJ4_newCapacity_1 8 rfl rfl)
theorem dJ4_newCapacity_34 : decode cJ4_newCapacity 34 = .ok (.iload 5, 2) := dk_21 5 (dk_at dksJ4_newCapacity_1 10 rfl rfl)
theorem dJ4_newCapacity_36 : decode cJ4_newCapacity 36 = .ok (.ldc 39, 2) := dk_18 39 (dk_at dksJ4_newCapacity_1 12 rfl rfl)
theorem dJ4_newCapacity_38 : decode cJ4_newCapacity 38 = .ok (.if_icmp .ne 13, 3) := dk_160 0 13 (dk_at dksJ4_newCapacity_1 14 rfl rfl)
theorem dJ4_newCapacity_41 : decode cJ4_newCapacity 41 = .ok (.new 120, 3) := dk_187 0 120 (dk_at dksJ4_newCapacity_1 17 rfl rfl)
theorem dJ4_newCapacity_44 : decode cJ4_newCapacity 44 = .ok (.dup, 1) := dk_89 (dk_at dksJ4_newCapacity_1 20 rfl rfl)
theorem dJ4_newCapacity_45 : decode cJ4_newCapacity 45 = .ok (.ldc 122, 2) := dk_18 122 (dk_at dksJ4_newCapacity_1 21 rfl rfl)
theorem dJ4_newCapacity_47 : decode cJ4_newCapacity 47 = .ok (.invokespecial 124, 3) := dk_183 0 124 (dk_at dksJ4_newCapacity_2 0 rfl rfl)
theorem dJ4_newCapacity_50 : decode cJ4_newCapacity 50 = .ok (.athrow, 1) := dk_191 (dk_at dksJ4_newCapacity_2 3 rfl rfl)
theorem dJ4_newCapacity_51 : decode cJ4_newCapacity 51 = .ok (.iload 5, 2) := dk_21 5 (dk_at dksJ4_newCapacity_2 4 rfl rfl)
theorem dJ4_newCapacity_53 : decode cJ4_newCapacity 53 = .ok (.aload_n 0, 1) := dk_42 (dk_at dksJ4_newCapacity_2 6 rfl rfl)
theorem dJ4_newCapacity_54 : decode cJ4_newCapacity 54 = .ok (.getfield 22, 3) := dk_180 0 22 (dk_at dksJ4_newCapacity_2 7 rfl rfl)
theorem dJ4_newCapacity_57 : decode cJ4_newCapacity 57 = .ok (.ishr, 1) := dk_122 (dk_at dksJ4_newCapacity_2 10 rfl rfl)
theorem dJ4_newCapacity_58 : decode cJ4_newCapacity 58 = .ok (.ireturn, 1) := dk_172 (dk_at dksJ4_newCapacity_2 11 rfl rfl)
abbrev cJ4_isLatin1 : ByteArray := prog_22_method_68_code
def yJ4_isLatin1 : MethodName := ⟨RJ4, "isLatin1", "()Z"⟩
def dkwJ4_isLatin1_0 : List UInt8 := [178, 0, 18, 153, 0, 14, 42, 180, 0, 22, 154, 0, 7, 4, 167, 0, 4, 3, 172]
abbrev dktJ4_isLatin1_0 : List UInt8 := dkwJ4_isLatin1_0 ++ []
theorem dksJ4_isLatin1_0 : cJ4_isLatin1.data.toList.drop 0 = dktJ4_isLatin1_0 := by decide +kernel
theorem dJ4_isLatin1_0 : decode cJ4_isLatin1 0 = .ok (.getstatic 18, 3) := dk_178 0 18 (dk_at dksJ4_isLatin1_0 0 rfl rfl)
theorem dJ4_isLatin1_3 : decode cJ4_isLatin1 3 = .ok (.ifCond .eq 14, 3) := dk_153 0 14 (dk_at dksJ4_isLatin1_0 3 rfl rfl)
theorem dJ4_isLatin1_6 : decode cJ4_isLatin1 6 = .ok (.aload_n 0, 1) := dk_42 (dk_at dksJ4_isLatin1_0 6 rfl rfl)
theorem dJ4_isLatin1_7 : decode cJ4_isLatin1 7 = .ok (.getfield 22, 3) := dk_180 0 22 (dk_at dksJ4_isLatin1_0 7 rfl rfl)
theorem dJ4_isLatin1_10 : decode cJ4_isLatin1 10 = .ok (.ifCond .ne 7, 3) := dk_154 0 7 (dk_at dksJ4_isLatin1_0 10 rfl rfl)
theorem dJ4_isLatin1_13 : decode cJ4_isLatin1 13 = .ok (.iconst 1, 1) := dk_4 (dk_at dksJ4_isLatin1_0 13 rfl rfl)
theorem dJ4_isLatin1_14 : decode cJ4_isLatin1 14 = .ok (.goto 4, 3) := dk_167 0 4 (dk_at dksJ4_isLatin1_0 14 rfl rfl)
theorem dJ4_isLatin1_17 : decode cJ4_isLatin1 17 = .ok (.iconst 0, 1) := dk_3 (dk_at dksJ4_isLatin1_0 17 rfl rfl)
theorem dJ4_isLatin1_18 : decode cJ4_isLatin1 18 = .ok (.ireturn, 1) := dk_172 (dk_at dksJ4_isLatin1_0 18 rfl rfl)
abbrev cJ4_putStringAt : ByteArray := prog_22_method_73_code
def yJ4_putStringAt : MethodName := ⟨RJ4, "putStringAt", "(ILjava/lang/String;)V"⟩
def dkwJ4_putStringAt_0 : List UInt8 := [42, 44, 182, 1, 141, 44, 42, 180, 0, 15, 27, 42, 180, 0, 22, 182, 1, 143, 177]
abbrev dktJ4_putStringAt_0 : List UInt8 := dkwJ4_putStringAt_0 ++ []
theorem dksJ4_putStringAt_0 : cJ4_putStringAt.data.toList.drop 0 = dktJ4_putStringAt_0 := by decide +kernel
theorem dJ4_putStringAt_0 : decode cJ4_putStringAt 0 = .ok (.aload_n 0, 1) := dk_42 (dk_at dksJ4_putStringAt_0 0 rfl rfl)
theorem dJ4_putStringAt_1 : decode cJ4_putStringAt 1 = .ok (.aload_n 2, 1) := dk_44 (dk_at dksJ4_putStringAt_0 1 rfl rfl)
theorem dJ4_putStringAt_2 : decode cJ4_putStringAt 2 = .ok (.invokevirtual 397, 3) := dk_182 1 141 (dk_at dksJ4_putStringAt_0 2 rfl rfl)
theorem dJ4_putStringAt_5 : decode cJ4_putStringAt 5 = .ok (.aload_n 2, 1) := dk_44 (dk_at dksJ4_putStringAt_0 5 rfl rfl)
theorem dJ4_putStringAt_6 : decode cJ4_putStringAt 6 = .ok (.aload_n 0, 1) := dk_42 (dk_at dksJ4_putStringAt_0 6 rfl rfl)
theorem dJ4_putStringAt_7 : decode cJ4_putStringAt 7 = .ok (.getfield 15, 3) := dk_180 0 15 (dk_at dksJ4_putStringAt_0 7 rfl rfl)
theorem dJ4_putStringAt_10 : decode cJ4_putStringAt 10 = .ok (.iload_n 1, 1) := dk_27 (dk_at dksJ4_putStringAt_0 10 rfl rfl)
theorem dJ4_putStringAt_11 : decode cJ4_putStringAt 11 = .ok (.aload_n 0, 1) := dk_42 (dk_at dksJ4_putStringAt_0 11 rfl rfl)
theorem dJ4_putStringAt_12 : decode cJ4_putStringAt 12 = .ok (.getfield 22, 3) := dk_180 0 22 (dk_at dksJ4_putStringAt_0 12 rfl rfl)
theorem dJ4_putStringAt_15 : decode cJ4_putStringAt 15 = .ok (.invokevirtual 399, 3) := dk_182 1 143 (dk_at dksJ4_putStringAt_0 15 rfl rfl)
theorem dJ4_putStringAt_18 : decode cJ4_putStringAt 18 = .ok (.return_, 1) := dk_177 (dk_at dksJ4_putStringAt_0 18 rfl rfl)
abbrev cJ4_inflateIfNeededFor : ByteArray := prog_22_method_71_code
def yJ4_inflateIfNeededFor : MethodName := ⟨RJ4, "inflateIfNeededFor", "(Ljava/lang/String;)V"⟩
def dkwJ4_inflateIfNeededFor_0 : List UInt8 := [178, 0, 18, 153, 0, 18, 42, 180, 0, 22, 43, 182, 0, 40, 159, 0, 7, 42, 182, 0, 195, 177]
abbrev dktJ4_inflateIfNeededFor_0 : List UInt8 := dkwJ4_inflateIfNeededFor_0 ++ []
theorem dksJ4_inflateIfNeededFor_0 : cJ4_inflateIfNeededFor.data.toList.drop 0 = dktJ4_inflateIfNeededFor_0 := by decide +kernel
theorem dJ4_inflateIfNeededFor_0 : decode cJ4_inflateIfNeededFor 0 = .ok (.getstatic 18, 3) := dk_178 0 18 (dk_at dksJ4_inflateIfNeededFor_0 0 rfl rfl)
theorem dJ4_inflateIfNeededFor_3 : decode cJ4_inflateIfNeededFor 3 = .ok (.ifCond .eq 18, 3) := dk_153 0 18 (dk_at dksJ4_inflateIfNeededFor_0 3 rfl rfl)
theorem dJ4_inflateIfNeededFor_6 : decode cJ4_inflateIfNeededFor 6 = .ok (.aload_n 0, 1) := dk_42 (dk_at dksJ4_inflateIfNeededFor_0 6 rfl rfl)
theorem dJ4_inflateIfNeededFor_7 : decode cJ4_inflateIfNeededFor 7 = .ok (.getfield 22, 3) := dk_180 0 22 (dk_at dksJ4_inflateIfNeededFor_0 7 rfl rfl)
theorem dJ4_inflateIfNeededFor_10 : decode cJ4_inflateIfNeededFor 10 = .ok (.aload_n 1, 1) := dk_43 (dk_at dksJ4_inflateIfNeededFor_0 10 rfl rfl)
theorem dJ4_inflateIfNeededFor_11 : decode cJ4_inflateIfNeededFor 11 = .ok (.invokevirtual 40, 3) := dk_182 0 40 (dk_at dksJ4_inflateIfNeededFor_0 11 rfl rfl)
theorem dJ4_inflateIfNeededFor_14 : decode cJ4_inflateIfNeededFor 14 = .ok (.if_icmp .eq 7, 3) := dk_159 0 7 (dk_at dksJ4_inflateIfNeededFor_0 14 rfl rfl)
theorem dJ4_inflateIfNeededFor_17 : decode cJ4_inflateIfNeededFor 17 = .ok (.aload_n 0, 1) := dk_42 (dk_at dksJ4_inflateIfNeededFor_0 17 rfl rfl)
theorem dJ4_inflateIfNeededFor_18 : decode cJ4_inflateIfNeededFor 18 = .ok (.invokevirtual 195, 3) := dk_182 0 195 (dk_at dksJ4_inflateIfNeededFor_0 18 rfl rfl)
theorem dJ4_inflateIfNeededFor_21 : decode cJ4_inflateIfNeededFor 21 = .ok (.return_, 1) := dk_177 (dk_at dksJ4_inflateIfNeededFor_0 21 rfl rfl)
abbrev cJ4_inflate : ByteArray := prog_22_method_11_code
def yJ4_inflate : MethodName := ⟨RJ4, "inflate", "()V"⟩
def dkwJ4_inflate_1 : List UInt8 := [42, 180, 0, 79, 184, 0, 125, 42, 43, 181, 0, 15, 42, 4, 181, 0, 22, 177]
abbrev dktJ4_inflate_1 : List UInt8 := dkwJ4_inflate_1 ++ []
def dkwJ4_inflate_0 : List UInt8 := [42, 182, 0, 83, 154, 0, 4, 177, 42, 180, 0, 15, 190, 184, 0, 26, 76, 42, 180, 0, 15, 3, 43, 3]
abbrev dktJ4_inflate_0 : List UInt8 := dkwJ4_inflate_0 ++ dktJ4_inflate_1
theorem dksJ4_inflate_0 : cJ4_inflate.data.toList.drop 0 = dktJ4_inflate_0 := by decide +kernel
theorem dksJ4_inflate_1 : cJ4_inflate.data.toList.drop 24 = dktJ4_inflate_1 := dk_seg dksJ4_inflate_0 24 rfl rfl
theorem dJ4_inflate_0 : decode cJ4_inflate 0 = .ok (.aload_n 0, 1) := dk_42 (dk_at dksJ4_inflate_0 0 rfl rfl)
theorem dJ4_inflate_1 : decode cJ4_inflate 1 = .ok (.invokevirtual 83, 3) := dk_182 0 83 (dk_at dksJ4_inflate_0 1 rfl rfl)
theorem dJ4_inflate_4 : decode cJ4_inflate 4 = .ok (.ifCond .ne 4, 3) := dk_154 0 4 (dk_at dksJ4_inflate_0 4 rfl rfl)
theorem dJ4_inflate_7 : decode cJ4_inflate 7 = .ok (.return_, 1) := dk_177 (dk_at dksJ4_inflate_0 7 rfl rfl)
theorem dJ4_inflate_8 : decode cJ4_inflate 8 = .ok (.aload_n 0, 1) := dk_42 (dk_at dksJ4_inflate_0 8 rfl rfl)
theorem dJ4_inflate_9 : decode cJ4_inflate 9 = .ok (.getfield 15, 3) := dk_180 0 15 (dk_at dksJ4_inflate_0 9 rfl rfl)
theorem dJ4_inflate_12 : decode cJ4_inflate 12 = .ok (.arraylength, 1) := dk_190 (dk_at dksJ4_inflate_0 12 rfl rfl)
theorem dJ4_inflate_13 : decode cJ4_inflate 13 = .ok (.invokestatic 26, 3) := dk_184 0 26 (dk_at dksJ4_inflate_0 13 rfl rfl)
theorem dJ4_inflate_16 : decode cJ4_inflate 16 = .ok (.astore_n 1, 1) := dk_76 (dk_at dksJ4_inflate_0 16 rfl rfl)
theorem dJ4_inflate_17 : decode cJ4_inflate 17 = .ok (.aload_n 0, 1) := dk_42 (dk_at dksJ4_inflate_0 17 rfl rfl)
theorem dJ4_inflate_18 : decode cJ4_inflate 18 = .ok (.getfield 15, 3) := dk_180 0 15 (dk_at dksJ4_inflate_0 18 rfl rfl)
theorem dJ4_inflate_21 : decode cJ4_inflate 21 = .ok (.iconst 0, 1) := dk_3 (dk_at dksJ4_inflate_0 21 rfl rfl)
theorem dJ4_inflate_22 : decode cJ4_inflate 22 = .ok (.aload_n 1, 1) := dk_43 (dk_at dksJ4_inflate_0 22 rfl rfl)
theorem dJ4_inflate_23 : decode cJ4_inflate 23 = .ok (.iconst 0, 1) := dk_3 (dk_at dksJ4_inflate_0 23 rfl rfl)
theorem dJ4_inflate_24 : decode cJ4_inflate 24 = .ok (.aload_n 0, 1) := dk_42 (dk_at dksJ4_inflate_1 0 rfl rfl)
theorem dJ4_inflate_25 : decode cJ4_inflate 25 = .ok (.getfield 79, 3) := dk_180 0 79 (dk_at dksJ4_inflate_1 1 rfl rfl)
theorem dJ4_inflate_28 : decode cJ4_inflate 28 = .ok (.invokestatic 125, 3) := dk_184 0 125 (dk_at dksJ4_inflate_1 4 rfl rfl)
theorem dJ4_inflate_31 : decode cJ4_inflate 31 = .ok (.aload_n 0, 1) := dk_42 (dk_at dksJ4_inflate_1 7 rfl rfl)
theorem dJ4_inflate_32 : decode cJ4_inflate 32 = .ok (.aload_n 1, 1) := dk_43 (dk_at dksJ4_inflate_1 8 rfl rfl)
theorem dJ4_inflate_33 : decode cJ4_inflate 33 = .ok (.putfield 15, 3) := dk_181 0 15 (dk_at dksJ4_inflate_1 9 rfl rfl)
theorem dJ4_inflate_36 : decode cJ4_inflate 36 = .ok (.aload_n 0, 1) := dk_42 (dk_at dksJ4_inflate_1 12 rfl rfl)
theorem dJ4_inflate_37 : decode cJ4_inflate 37 = .ok (.iconst 1, 1) := dk_4 (dk_at dksJ4_inflate_1 13 rfl rfl)
theorem dJ4_inflate_38 : decode cJ4_inflate 38 = .ok (.putfield 22, 3) := dk_181 0 22 (dk_at dksJ4_inflate_1 14 rfl rfl)
theorem dJ4_inflate_41 : decode cJ4_inflate 41 = .ok (.return_, 1) := dk_177 (dk_at dksJ4_inflate_1 17 rfl rfl)
abbrev cJ4_append_2 : ByteArray := prog_22_method_32_code
def yJ4_append_2 : MethodName := ⟨RJ4, "append", "(I)Ljava/lang/AbstractStringBuilder;"⟩
def dkwJ4_append_2_2 : List UInt8 := [42, 29, 181, 0, 79, 42, 176]
abbrev dktJ4_append_2_2 : List UInt8 := dkwJ4_append_2_2 ++ []
def dkwJ4_append_2_1 : List UInt8 := [27, 29, 42, 180, 0, 15, 184, 0, 248, 87, 167, 0, 14, 27, 28, 29, 42, 180, 0, 15, 184, 0, 251, 87]
abbrev dktJ4_append_2_1 : List UInt8 := dkwJ4_append_2_1 ++ dktJ4_append_2_2
def dkwJ4_append_2_0 : List UInt8 := [42, 180, 0, 79, 61, 28, 27, 184, 0, 245, 96, 62, 42, 29, 182, 0, 100, 42, 182, 0, 83, 153, 0, 16]
abbrev dktJ4_append_2_0 : List UInt8 := dkwJ4_append_2_0 ++ dktJ4_append_2_1
theorem dksJ4_append_2_0 : cJ4_append_2.data.toList.drop 0 = dktJ4_append_2_0 := by decide +kernel
theorem dksJ4_append_2_1 : cJ4_append_2.data.toList.drop 24 = dktJ4_append_2_1 := dk_seg dksJ4_append_2_0 24 rfl rfl
theorem dksJ4_append_2_2 : cJ4_append_2.data.toList.drop 48 = dktJ4_append_2_2 := dk_seg dksJ4_append_2_1 24 rfl rfl
theorem dJ4_append_2_0 : decode cJ4_append_2 0 = .ok (.aload_n 0, 1) := dk_42 (dk_at dksJ4_append_2_0 0 rfl rfl)
theorem dJ4_append_2_1 : decode cJ4_append_2 1 = .ok (.getfield 79, 3) := dk_180 0 79 (dk_at dksJ4_append_2_0 1 rfl rfl)
theorem dJ4_append_2_4 : decode cJ4_append_2 4 = .ok (.istore_n 2, 1) := dk_61 (dk_at dksJ4_append_2_0 4 rfl rfl)
theorem dJ4_append_2_5 : decode cJ4_append_2 5 = .ok (.iload_n 2, 1) := dk_28 (dk_at dksJ4_append_2_0 5 rfl rfl)
theorem dJ4_append_2_6 : decode cJ4_append_2 6 = .ok (.iload_n 1, 1) := dk_27 (dk_at dksJ4_append_2_0 6 rfl rfl)
theorem dJ4_append_2_7 : decode cJ4_append_2 7 = .ok (.invokestatic 245, 3) := dk_184 0 245 (dk_at dksJ4_append_2_0 7 rfl rfl)
theorem dJ4_append_2_10 : decode cJ4_append_2 10 = .ok (.iadd, 1) := dk_96 (dk_at dksJ4_append_2_0 10 rfl rfl)
theorem dJ4_append_2_11 : decode cJ4_append_2 11 = .ok (.istore_n 3, 1) := dk_62 (dk_at dksJ4_append_2_0 11 rfl rfl)
theorem dJ4_append_2_12 : decode cJ4_append_2 12 = .ok (.aload_n 0, 1) := dk_42 (dk_at dksJ4_append_2_0 12 rfl rfl)
theorem dJ4_append_2_13 : decode cJ4_append_2 13 = .ok (.iload_n 3, 1) := dk_29 (dk_at dksJ4_append_2_0 13 rfl rfl)
theorem dJ4_append_2_14 : decode cJ4_append_2 14 = .ok (.invokevirtual 100, 3) := dk_182 0 100 (dk_at dksJ4_append_2_0 14 rfl rfl)
theorem dJ4_append_2_17 : decode cJ4_append_2 17 = .ok (.aload_n 0, 1) := dk_42 (dk_at dksJ4_append_2_0 17 rfl rfl)
theorem dJ4_append_2_18 : decode cJ4_append_2 18 = .ok (.invokevirtual 83, 3) := dk_182 0 83 (dk_at dksJ4_append_2_0 18 rfl rfl)
theorem dJ4_append_2_21 : decode cJ4_append_2 21 = .ok (.ifCond .eq 16, 3) := dk_153 0 16 (dk_at dksJ4_append_2_0 21 rfl rfl)
theorem dJ4_append_2_24 : decode cJ4_append_2 24 = .ok (.iload_n 1, 1) := dk_27 (dk_at dksJ4_append_2_1 0 rfl rfl)
theorem dJ4_append_2_25 : decode cJ4_append_2 25 = .ok (.iload_n 3, 1) := dk_29 (dk_at dksJ4_append_2_1 1 rfl rfl)
theorem dJ4_append_2_26 : decode cJ4_append_2 26 = .ok (.aload_n 0, 1) := dk_42 (dk_at dksJ4_append_2_1 2 rfl rfl)
theorem dJ4_append_2_27 : decode cJ4_append_2 27 = .ok (.getfield 15, 3) := dk_180 0 15 (dk_at dksJ4_append_2_1 3 rfl rfl)
theorem dJ4_append_2_30 : decode cJ4_append_2 30 = .ok (.invokestatic 248, 3) := dk_184 0 248 (dk_at dksJ4_append_2_1 6 rfl rfl)
theorem dJ4_append_2_33 : decode cJ4_append_2 33 = .ok (.pop, 1) := dk_87 (dk_at dksJ4_append_2_1 9 rfl rfl)
theorem dJ4_append_2_34 : decode cJ4_append_2 34 = .ok (.goto 14, 3) := dk_167 0 14 (dk_at dksJ4_append_2_1 10 rfl rfl)
theorem dJ4_append_2_37 : decode cJ4_append_2 37 = .ok (.iload_n 1, 1) := dk_27 (dk_at dksJ4_append_2_1 13 rfl rfl)
theorem dJ4_append_2_38 : decode cJ4_append_2 38 = .ok (.iload_n 2, 1) := dk_28 (dk_at dksJ4_append_2_1 14 rfl rfl)
theorem dJ4_append_2_39 : decode cJ4_append_2 39 = .ok (.iload_n 3, 1) := dk_29 (dk_at dksJ4_append_2_1 15 rfl rfl)
theorem dJ4_append_2_40 : decode cJ4_append_2 40 = .ok (.aload_n 0, 1) := dk_42 (dk_at dksJ4_append_2_1 16 rfl rfl)
theorem dJ4_append_2_41 : decode cJ4_append_2 41 = .ok (.getfield 15, 3) := dk_180 0 15 (dk_at dksJ4_append_2_1 17 rfl rfl)
theorem dJ4_append_2_44 : decode cJ4_append_2 44 = .ok (.invokestatic 251, 3) := dk_184 0 251 (dk_at dksJ4_append_2_1 20 rfl rfl)
theorem dJ4_append_2_47 : decode cJ4_append_2 47 = .ok (.pop, 1) := dk_87 (dk_at dksJ4_append_2_1 23 rfl rfl)
theorem dJ4_append_2_48 : decode cJ4_append_2 48 = .ok (.aload_n 0, 1) := dk_42 (dk_at dksJ4_append_2_2 0 rfl rfl)
theorem dJ4_append_2_49 : decode cJ4_append_2 49 = .ok (.iload_n 3, 1) := dk_29 (dk_at dksJ4_append_2_2 1 rfl rfl)
theorem dJ4_append_2_50 : decode cJ4_append_2 50 = .ok (.putfield 79, 3) := dk_181 0 79 (dk_at dksJ4_append_2_2 2 rfl rfl)
theorem dJ4_append_2_53 : decode cJ4_append_2 53 = .ok (.aload_n 0, 1) := dk_42 (dk_at dksJ4_append_2_2 5 rfl rfl)
theorem dJ4_append_2_54 : decode cJ4_append_2 54 = .ok (.areturn, 1) := dk_176 (dk_at dksJ4_append_2_2 6 rfl rfl)
abbrev cJ4_getValue : ByteArray := prog_22_method_64_code
def yJ4_getValue : MethodName := ⟨RJ4, "getValue", "()[B"⟩
theorem dJ4_getValue_0 : decode cJ4_getValue 0 = .ok (.aload_n 0, 1) := by decide +kernel
theorem dJ4_getValue_1 : decode cJ4_getValue 1 = .ok (.getfield 15, 3) := by decide +kernel
theorem dJ4_getValue_4 : decode cJ4_getValue 4 = .ok (.areturn, 1) := by decide +kernel
abbrev cJ4_length : ByteArray := prog_22_method_6_code
def yJ4_length : MethodName := ⟨RJ4, "length", "()I"⟩
theorem dJ4_length_0 : decode cJ4_length 0 = .ok (.aload_n 0, 1) := by decide +kernel
theorem dJ4_length_1 : decode cJ4_length 1 = .ok (.getfield 79, 3) := by decide +kernel
theorem dJ4_length_4 : decode cJ4_length 4 = .ok (.ireturn, 1) := by decide +kernel
abbrev cJ4_compareTo : ByteArray := prog_22_method_5_code
def yJ4_compareTo : MethodName := ⟨RJ4, "compareTo", "(Ljava/lang/AbstractStringBuilder;)I"⟩
def dkwJ4_compareTo_4 : List UInt8 := [184, 0, 97, 172]
abbrev dktJ4_compareTo_4 : List UInt8 := dkwJ4_compareTo_4 ++ []
def dkwJ4_compareTo_3 : List UInt8 := [182, 0, 83, 153, 0, 15, 44, 45, 21, 4, 21, 5, 184, 0, 94, 167, 0, 12, 44, 45, 21, 4, 21, 5]
abbrev dktJ4_compareTo_3 : List UInt8 := dkwJ4_compareTo_3 ++ dktJ4_compareTo_4
def dkwJ4_compareTo_2 : List UInt8 := [45, 21, 4, 21, 5, 184, 0, 87, 167, 0, 12, 44, 45, 21, 4, 21, 5, 184, 0, 93, 172, 42]
abbrev dktJ4_compareTo_2 : List UInt8 := dkwJ4_compareTo_2 ++ dktJ4_compareTo_3
def dkwJ4_compareTo_1 : List UInt8 := [180, 0, 79, 54, 5, 42, 180, 0, 22, 43, 180, 0, 22, 160, 0, 32, 42, 182, 0, 83, 153, 0, 15, 44]
abbrev dktJ4_compareTo_1 : List UInt8 := dkwJ4_compareTo_1 ++ dktJ4_compareTo_2
def dkwJ4_compareTo_0 : List UInt8 := [42, 43, 166, 0, 5, 3, 172, 42, 180, 0, 15, 77, 43, 180, 0, 15, 78, 42, 180, 0, 79, 54, 4, 43]
abbrev dktJ4_compareTo_0 : List UInt8 := dkwJ4_compareTo_0 ++ dktJ4_compareTo_1
theorem dksJ4_compareTo_0 : cJ4_compareTo.data.toList.drop 0 = dktJ4_compareTo_0 := by decide +kernel
theorem dksJ4_compareTo_1 : cJ4_compareTo.data.toList.drop 24 = dktJ4_compareTo_1 := dk_seg dksJ4_compareTo_0 24 rfl rfl
theorem dksJ4_compareTo_2 : cJ4_compareTo.data.toList.drop 48 = dktJ4_compareTo_2 := dk_seg dksJ4_compareTo_1 24 rfl rfl
theorem dksJ4_compareTo_3 : cJ4_compareTo.data.toList.drop 70 = dktJ4_compareTo_3 := dk_seg dksJ4_compareTo_2 22 rfl rfl
theorem dksJ4_compareTo_4 : cJ4_compareTo.data.toList.drop 94 = dktJ4_compareTo_4 := dk_seg dksJ4_compareTo_3 24 rfl rfl
theorem dJ4_compareTo_0 : decode cJ4_compareTo 0 = .ok (.aload_n 0, 1) := dk_42 (dk_at dksJ4_compareTo_0 0 rfl rfl)
theorem dJ4_compareTo_1 : decode cJ4_compareTo 1 = .ok (.aload_n 1, 1) := dk_43 (dk_at dksJ4_compareTo_0 1 rfl rfl)
theorem dJ4_compareTo_2 : decode cJ4_compareTo 2 = .ok (.if_acmp .ne 5, 3) := dk_166 0 5 (dk_at dksJ4_compareTo_0 2 rfl rfl)
theorem dJ4_compareTo_5 : decode cJ4_compareTo 5 = .ok (.iconst 0, 1) := dk_3 (dk_at dksJ4_compareTo_0 5 rfl rfl)
theorem dJ4_compareTo_6 : decode cJ4_compareTo 6 = .ok (.ireturn, 1) := dk_172 (dk_at dksJ4_compareTo_0 6 rfl rfl)
theorem dJ4_compareTo_7 : decode cJ4_compareTo 7 = .ok (.aload_n 0, 1) := dk_42 (dk_at dksJ4_compareTo_0 7 rfl rfl)
theorem dJ4_compareTo_8 : decode cJ4_compareTo 8 = .ok (.getfield 15, 3) := dk_180 0 15 (dk_at dksJ4_compareTo_0 8 rfl rfl)
theorem dJ4_compareTo_11 : decode cJ4_compareTo 11 = .ok (.astore_n 2, 1) := dk_77 (dk_at dksJ4_compareTo_0 11 rfl rfl)
theorem dJ4_compareTo_12 : decode cJ4_compareTo 12 = .ok (.aload_n 1, 1) := dk_43 (dk_at dksJ4_compareTo_0 12 rfl rfl)
theorem dJ4_compareTo_13 : decode cJ4_compareTo 13 = .ok (.getfield 15, 3) := dk_180 0 15 (dk_at dksJ4_compareTo_0 13 rfl rfl)
theorem dJ4_compareTo_16 : decode cJ4_compareTo 16 = .ok (.astore_n 3, 1) := dk_78 (dk_at dksJ4_compareTo_0 16 rfl rfl)
theorem dJ4_compareTo_17 : decode cJ4_compareTo 17 = .ok (.aload_n 0, 1) := dk_42 (dk_at dksJ4_compareTo_0 17 rfl rfl)
theorem dJ4_compareTo_18 : decode cJ4_compareTo 18 = .ok (.getfield 79, 3) := dk_180 0 79 (dk_at dksJ4_compareTo_0 18 rfl rfl)
theorem dJ4_compareTo_21 : decode cJ4_compareTo 21 = .ok (.istore 4, 2) := dk_54 4 (dk_at dksJ4_compareTo_0 21 rfl rfl)
theorem dJ4_compareTo_23 : decode cJ4_compareTo 23 = .ok (.aload_n 1, 1) := dk_43 (dk_at dksJ4_compareTo_0 23 rfl rfl)
theorem dJ4_compareTo_24 : decode cJ4_compareTo 24 = .ok (.getfield 79, 3) := dk_180 0 79 (dk_at dksJ4_compareTo_1 0 rfl rfl)
theorem dJ4_compareTo_27 : decode cJ4_compareTo 27 = .ok (.istore 5, 2) := dk_54 5 (dk_at dksJ4_compareTo_1 3 rfl rfl)
theorem dJ4_compareTo_29 : decode cJ4_compareTo 29 = .ok (.aload_n 0, 1) := dk_42 (dk_at dksJ4_compareTo_1 5 rfl rfl)
theorem dJ4_compareTo_30 : decode cJ4_compareTo 30 = .ok (.getfield 22, 3) := dk_180 0 22 (dk_at dksJ4_compareTo_1 6 rfl rfl)
theorem dJ4_compareTo_33 : decode cJ4_compareTo 33 = .ok (.aload_n 1, 1) := dk_43 (dk_at dksJ4_compareTo_1 9 rfl rfl)
theorem dJ4_compareTo_34 : decode cJ4_compareTo 34 = .ok (.getfield 22, 3) := dk_180 0 22 (dk_at dksJ4_compareTo_1 10 rfl rfl)
theorem dJ4_compareTo_37 : decode cJ4_compareTo 37 = .ok (.if_icmp .ne 32, 3) := dk_160 0 32 (dk_at dksJ4_compareTo_1 13 rfl rfl)
theorem dJ4_compareTo_40 : decode cJ4_compareTo 40 = .ok (.aload_n 0, 1) := dk_42 (dk_at dksJ4_compareTo_1 16 rfl rfl)
theorem dJ4_compareTo_41 : decode cJ4_compareTo 41 = .ok (.invokevirtual 83, 3) := dk_182 0 83 (dk_at dksJ4_compareTo_1 17 rfl rfl)
theorem dJ4_compareTo_44 : decode cJ4_compareTo 44 = .ok (.ifCond .eq 15, 3) := dk_153 0 15 (dk_at dksJ4_compareTo_1 20 rfl rfl)
theorem dJ4_compareTo_47 : decode cJ4_compareTo 47 = .ok (.aload_n 2, 1) := dk_44 (dk_at dksJ4_compareTo_1 23 rfl rfl)
theorem dJ4_compareTo_48 : decode cJ4_compareTo 48 = .ok (.aload_n 3, 1) := dk_45 (dk_at dksJ4_compareTo_2 0 rfl rfl)
theorem dJ4_compareTo_49 : decode cJ4_compareTo 49 = .ok (.iload 4, 2) := dk_21 4 (dk_at dksJ4_compareTo_2 1 rfl rfl)
theorem dJ4_compareTo_51 : decode cJ4_compareTo 51 = .ok (.iload 5, 2) := dk_21 5 (dk_at dksJ4_compareTo_2 3 rfl rfl)
theorem dJ4_compareTo_53 : decode cJ4_compareTo 53 = .ok (.invokestatic 87, 3) := dk_184 0 87 (dk_at dksJ4_compareTo_2 5 rfl rfl)
theorem dJ4_compareTo_56 : decode cJ4_compareTo 56 = .ok (.goto 12, 3) := dk_167 0 12 (dk_at dksJ4_compareTo_2 8 rfl rfl)
theorem dJ4_compareTo_59 : decode cJ4_compareTo 59 = .ok (.aload_n 2, 1) := dk_44 (dk_at dksJ4_compareTo_2 11 rfl rfl)
theorem dJ4_compareTo_60 : decode cJ4_compareTo 60 = .ok (.aload_n 3, 1) := dk_45 (dk_at dksJ4_compareTo_2 12 rfl rfl)
theorem dJ4_compareTo_61 : decode cJ4_compareTo 61 = .ok (.iload 4, 2) := dk_21 4 (dk_at dksJ4_compareTo_2 13 rfl rfl)
theorem dJ4_compareTo_63 : decode cJ4_compareTo 63 = .ok (.iload 5, 2) := dk_21 5 (dk_at dksJ4_compareTo_2 15 rfl rfl)
theorem dJ4_compareTo_65 : decode cJ4_compareTo 65 = .ok (.invokestatic 93, 3) := dk_184 0 93 (dk_at dksJ4_compareTo_2 17 rfl rfl)
theorem dJ4_compareTo_68 : decode cJ4_compareTo 68 = .ok (.ireturn, 1) := dk_172 (dk_at dksJ4_compareTo_2 20 rfl rfl)
theorem dJ4_compareTo_69 : decode cJ4_compareTo 69 = .ok (.aload_n 0, 1) := dk_42 (dk_at dksJ4_compareTo_2 21 rfl rfl)
theorem dJ4_compareTo_70 : decode cJ4_compareTo 70 = .ok (.invokevirtual 83, 3) := dk_182 0 83 (dk_at dksJ4_compareTo_3 0 rfl rfl)
theorem dJ4_compareTo_73 : decode cJ4_compareTo 73 = .ok (.ifCond .eq 15, 3) := dk_153 0 15 (dk_at dksJ4_compareTo_3 3 rfl rfl)
theorem dJ4_compareTo_76 : decode cJ4_compareTo 76 = .ok (.aload_n 2, 1) := dk_44 (dk_at dksJ4_compareTo_3 6 rfl rfl)
theorem dJ4_compareTo_77 : decode cJ4_compareTo 77 = .ok (.aload_n 3, 1) := dk_45 (dk_at dksJ4_compareTo_3 7 rfl rfl)
theorem dJ4_compareTo_78 : decode cJ4_compareTo 78 = .ok (.iload 4, 2) := dk_21 4 (dk_at dksJ4_compareTo_3 8 rfl rfl)
theorem dJ4_compareTo_80 : decode cJ4_compareTo 80 = .ok (.iload 5, 2) := dk_21 5 (dk_at dksJ4_compareTo_3 10 rfl rfl)
theorem dJ4_compareTo_82 : decode cJ4_compareTo 82 = .ok (.invokestatic 94, 3) := dk_184 0 94 (dk_at dksJ4_compareTo_3 12 rfl rfl)
theorem dJ4_compareTo_85 : decode cJ4_compareTo 85 = .ok (.goto 12, 3) := dk_167 0 12 (dk_at dksJ4_compareTo_3 15 rfl rfl)
theorem dJ4_compareTo_88 : decode cJ4_compareTo 88 = .ok (.aload_n 2, 1) := dk_44 (dk_at dksJ4_compareTo_3 18 rfl rfl)
theorem dJ4_compareTo_89 : decode cJ4_compareTo 89 = .ok (.aload_n 3, 1) := dk_45 (dk_at dksJ4_compareTo_3 19 rfl rfl)
theorem dJ4_compareTo_90 : decode cJ4_compareTo 90 = .ok (.iload 4, 2) := dk_21 4 (dk_at dksJ4_compareTo_3 20 rfl rfl)
theorem dJ4_compareTo_92 : decode cJ4_compareTo 92 = .ok (.iload 5, 2) := dk_21 5 (dk_at dksJ4_compareTo_3 22 rfl rfl)
theorem dJ4_compareTo_94 : decode cJ4_compareTo 94 = .ok (.invokestatic 97, 3) := dk_184 0 97 (dk_at dksJ4_compareTo_4 0 rfl rfl)
theorem dJ4_compareTo_97 : decode cJ4_compareTo 97 = .ok (.ireturn, 1) := dk_172 (dk_at dksJ4_compareTo_4 3 rfl rfl)
abbrev cJ4_append_3 : ByteArray := prog_22_method_31_code
def yJ4_append_3 : MethodName := ⟨RJ4, "append", "(C)Ljava/lang/AbstractStringBuilder;"⟩
def dkwJ4_append_3_3 : List UInt8 := [181, 0, 79, 27, 184, 0, 197, 42, 176]
abbrev dktJ4_append_3_3 : List UInt8 := dkwJ4_append_3_3 ++ []
def dkwJ4_append_3_2 : List UInt8 := [182, 0, 83, 153, 0, 7, 42, 182, 0, 195, 42, 180, 0, 15, 42, 89, 180, 0, 79, 90, 4, 96]
abbrev dktJ4_append_3_2 : List UInt8 := dkwJ4_append_3_2 ++ dktJ4_append_3_3
def dkwJ4_append_3_1 : List UInt8 := [42, 180, 0, 15, 42, 89, 180, 0, 79, 90, 4, 96, 181, 0, 79, 27, 145, 84, 167, 0, 33, 42]
abbrev dktJ4_append_3_1 : List UInt8 := dkwJ4_append_3_1 ++ dktJ4_append_3_2
def dkwJ4_append_3_0 : List UInt8 := [42, 42, 180, 0, 79, 4, 96, 182, 0, 100, 42, 182, 0, 83, 153, 0, 31, 27, 184, 0, 191, 153, 0, 24]
abbrev dktJ4_append_3_0 : List UInt8 := dkwJ4_append_3_0 ++ dktJ4_append_3_1
theorem dksJ4_append_3_0 : cJ4_append_3.data.toList.drop 0 = dktJ4_append_3_0 := by decide +kernel
theorem dksJ4_append_3_1 : cJ4_append_3.data.toList.drop 24 = dktJ4_append_3_1 := dk_seg dksJ4_append_3_0 24 rfl rfl
theorem dksJ4_append_3_2 : cJ4_append_3.data.toList.drop 46 = dktJ4_append_3_2 := dk_seg dksJ4_append_3_1 22 rfl rfl
theorem dksJ4_append_3_3 : cJ4_append_3.data.toList.drop 68 = dktJ4_append_3_3 := dk_seg dksJ4_append_3_2 22 rfl rfl
theorem dJ4_append_3_0 : decode cJ4_append_3 0 = .ok (.aload_n 0, 1) := dk_42 (dk_at dksJ4_append_3_0 0 rfl rfl)
theorem dJ4_append_3_1 : decode cJ4_append_3 1 = .ok (.aload_n 0, 1) := dk_42 (dk_at dksJ4_append_3_0 1 rfl rfl)
theorem dJ4_append_3_2 : decode cJ4_append_3 2 = .ok (.getfield 79, 3) := dk_180 0 79 (dk_at dksJ4_append_3_0 2 rfl rfl)
theorem dJ4_append_3_5 : decode cJ4_append_3 5 = .ok (.iconst 1, 1) := dk_4 (dk_at dksJ4_append_3_0 5 rfl rfl)
theorem dJ4_append_3_6 : decode cJ4_append_3 6 = .ok (.iadd, 1) := dk_96 (dk_at dksJ4_append_3_0 6 rfl rfl)
theorem dJ4_append_3_7 : decode cJ4_append_3 7 = .ok (.invokevirtual 100, 3) := dk_182 0 100 (dk_at dksJ4_append_3_0 7 rfl rfl)
theorem dJ4_append_3_10 : decode cJ4_append_3 10 = .ok (.aload_n 0, 1) := dk_42 (dk_at dksJ4_append_3_0 10 rfl rfl)
theorem dJ4_append_3_11 : decode cJ4_append_3 11 = .ok (.invokevirtual 83, 3) := dk_182 0 83 (dk_at dksJ4_append_3_0 11 rfl rfl)
theorem dJ4_append_3_14 : decode cJ4_append_3 14 = .ok (.ifCond .eq 31, 3) := dk_153 0 31 (dk_at dksJ4_append_3_0 14 rfl rfl)
theorem dJ4_append_3_17 : decode cJ4_append_3 17 = .ok (.iload_n 1, 1) := dk_27 (dk_at dksJ4_append_3_0 17 rfl rfl)
theorem dJ4_append_3_18 : decode cJ4_append_3 18 = .ok (.invokestatic 191, 3) := dk_184 0 191 (dk_at dksJ4_append_3_0 18 rfl rfl)
theorem dJ4_append_3_21 : decode cJ4_append_3 21 = .ok (.ifCond .eq 24, 3) := dk_153 0 24 (dk_at dksJ4_append_3_0 21 rfl rfl)
theorem dJ4_append_3_24 : decode cJ4_append_3 24 = .ok (.aload_n 0, 1) := dk_42 (dk_at dksJ4_append_3_1 0 rfl rfl)
theorem dJ4_append_3_25 : decode cJ4_append_3 25 = .ok (.getfield 15, 3) := dk_180 0 15 (dk_at dksJ4_append_3_1 1 rfl rfl)
theorem dJ4_append_3_28 : decode cJ4_append_3 28 = .ok (.aload_n 0, 1) := dk_42 (dk_at dksJ4_append_3_1 4 rfl rfl)
theorem dJ4_append_3_29 : decode cJ4_append_3 29 = .ok (.dup, 1) := dk_89 (dk_at dksJ4_append_3_1 5 rfl rfl)
theorem dJ4_append_3_30 : decode cJ4_append_3 30 = .ok (.getfield 79, 3) := dk_180 0 79 (dk_at dksJ4_append_3_1 6 rfl rfl)
theorem dJ4_append_3_33 : decode cJ4_append_3 33 = .ok (.dup_x1, 1) := dk_90 (dk_at dksJ4_append_3_1 9 rfl rfl)
theorem dJ4_append_3_34 : decode cJ4_append_3 34 = .ok (.iconst 1, 1) := dk_4 (dk_at dksJ4_append_3_1 10 rfl rfl)
theorem dJ4_append_3_35 : decode cJ4_append_3 35 = .ok (.iadd, 1) := dk_96 (dk_at dksJ4_append_3_1 11 rfl rfl)
theorem dJ4_append_3_36 : decode cJ4_append_3 36 = .ok (.putfield 79, 3) := dk_181 0 79 (dk_at dksJ4_append_3_1 12 rfl rfl)
theorem dJ4_append_3_39 : decode cJ4_append_3 39 = .ok (.iload_n 1, 1) := dk_27 (dk_at dksJ4_append_3_1 15 rfl rfl)
theorem dJ4_append_3_40 : decode cJ4_append_3 40 = .ok (.i2b, 1) := dk_145 (dk_at dksJ4_append_3_1 16 rfl rfl)
theorem dJ4_append_3_41 : decode cJ4_append_3 41 = .ok (.bastore, 1) := dk_84 (dk_at dksJ4_append_3_1 17 rfl rfl)
theorem dJ4_append_3_42 : decode cJ4_append_3 42 = .ok (.goto 33, 3) := dk_167 0 33 (dk_at dksJ4_append_3_1 18 rfl rfl)
theorem dJ4_append_3_45 : decode cJ4_append_3 45 = .ok (.aload_n 0, 1) := dk_42 (dk_at dksJ4_append_3_1 21 rfl rfl)
theorem dJ4_append_3_46 : decode cJ4_append_3 46 = .ok (.invokevirtual 83, 3) := dk_182 0 83 (dk_at dksJ4_append_3_2 0 rfl rfl)
theorem dJ4_append_3_49 : decode cJ4_append_3 49 = .ok (.ifCond .eq 7, 3) := dk_153 0 7 (dk_at dksJ4_append_3_2 3 rfl rfl)
theorem dJ4_append_3_52 : decode cJ4_append_3 52 = .ok (.aload_n 0, 1) := dk_42 (dk_at dksJ4_append_3_2 6 rfl rfl)
theorem dJ4_append_3_53 : decode cJ4_append_3 53 = .ok (.invokevirtual 195, 3) := dk_182 0 195 (dk_at dksJ4_append_3_2 7 rfl rfl)
theorem dJ4_append_3_56 : decode cJ4_append_3 56 = .ok (.aload_n 0, 1) := dk_42 (dk_at dksJ4_append_3_2 10 rfl rfl)
theorem dJ4_append_3_57 : decode cJ4_append_3 57 = .ok (.getfield 15, 3) := dk_180 0 15 (dk_at dksJ4_append_3_2 11 rfl rfl)
theorem dJ4_append_3_60 : decode cJ4_append_3 60 = .ok (.aload_n 0, 1) := dk_42 (dk_at dksJ4_append_3_2 14 rfl rfl)
theorem dJ4_append_3_61 : decode cJ4_append_3 61 = .ok (.dup, 1) := dk_89 (dk_at dksJ4_append_3_2 15 rfl rfl)
theorem dJ4_append_3_62 : decode cJ4_append_3 62 = .ok (.getfield 79, 3) := dk_180 0 79 (dk_at dksJ4_append_3_2 16 rfl rfl)
theorem dJ4_append_3_65 : decode cJ4_append_3 65 = .ok (.dup_x1, 1) := dk_90 (dk_at dksJ4_append_3_2 19 rfl rfl)
theorem dJ4_append_3_66 : decode cJ4_append_3 66 = .ok (.iconst 1, 1) := dk_4 (dk_at dksJ4_append_3_2 20 rfl rfl)
theorem dJ4_append_3_67 : decode cJ4_append_3 67 = .ok (.iadd, 1) := dk_96 (dk_at dksJ4_append_3_2 21 rfl rfl)
theorem dJ4_append_3_68 : decode cJ4_append_3 68 = .ok (.putfield 79, 3) := dk_181 0 79 (dk_at dksJ4_append_3_3 0 rfl rfl)
theorem dJ4_append_3_71 : decode cJ4_append_3 71 = .ok (.iload_n 1, 1) := dk_27 (dk_at dksJ4_append_3_3 3 rfl rfl)
theorem dJ4_append_3_72 : decode cJ4_append_3 72 = .ok (.invokestatic 197, 3) := dk_184 0 197 (dk_at dksJ4_append_3_3 4 rfl rfl)
theorem dJ4_append_3_75 : decode cJ4_append_3 75 = .ok (.aload_n 0, 1) := dk_42 (dk_at dksJ4_append_3_3 7 rfl rfl)
theorem dJ4_append_3_76 : decode cJ4_append_3 76 = .ok (.areturn, 1) := dk_176 (dk_at dksJ4_append_3_3 8 rfl rfl)
abbrev cJ4_setLength : ByteArray := prog_22_method_13_code
def yJ4_setLength : MethodName := ⟨RJ4, "setLength", "(I)V"⟩
def dkwJ4_setLength_3 : List UInt8 := [164, 0, 8, 42, 4, 181, 0, 73, 42, 27, 181, 0, 79, 177]
abbrev dktJ4_setLength_3 : List UInt8 := dkwJ4_setLength_3 ++ []
def dkwJ4_setLength_2 : List UInt8 := [167, 0, 31, 42, 180, 0, 15, 42, 180, 0, 79, 27, 184, 0, 137, 167, 0, 16, 42, 180, 0, 79, 27]
abbrev dktJ4_setLength_2 : List UInt8 := dkwJ4_setLength_2 ++ dktJ4_setLength_3
def dkwJ4_setLength_1 : List UInt8 := [162, 0, 40, 42, 182, 0, 83, 153, 0, 18, 42, 180, 0, 15, 42, 180, 0, 79, 27, 184, 0, 133]
abbrev dktJ4_setLength_1 : List UInt8 := dkwJ4_setLength_1 ++ dktJ4_setLength_2
def dkwJ4_setLength_0 : List UInt8 := [27, 156, 0, 12, 187, 0, 129, 89, 27, 183, 0, 131, 191, 42, 27, 182, 0, 100, 42, 180, 0, 79, 27]
abbrev dktJ4_setLength_0 : List UInt8 := dkwJ4_setLength_0 ++ dktJ4_setLength_1
theorem dksJ4_setLength_0 : cJ4_setLength.data.toList.drop 0 = dktJ4_setLength_0 := by decide +kernel
theorem dksJ4_setLength_1 : cJ4_setLength.data.toList.drop 23 = dktJ4_setLength_1 := dk_seg dksJ4_setLength_0 23 rfl rfl
theorem dksJ4_setLength_2 : cJ4_setLength.data.toList.drop 45 = dktJ4_setLength_2 := dk_seg dksJ4_setLength_1 22 rfl rfl
theorem dksJ4_setLength_3 : cJ4_setLength.data.toList.drop 68 = dktJ4_setLength_3 := dk_seg dksJ4_setLength_2 23 rfl rfl
theorem dJ4_setLength_0 : decode cJ4_setLength 0 = .ok (.iload_n 1, 1) := dk_27 (dk_at dksJ4_setLength_0 0 rfl rfl)
theorem dJ4_setLength_1 : decode cJ4_setLength 1 = .ok (.ifCond .ge 12, 3) := dk_156 0 12 (dk_at dksJ4_setLength_0 1 rfl rfl)
theorem dJ4_setLength_4 : decode cJ4_setLength 4 = .ok (.new 129, 3) := dk_187 0 129 (dk_at dksJ4_setLength_0 4 rfl rfl)
theorem dJ4_setLength_7 : decode cJ4_setLength 7 = .ok (.dup, 1) := dk_89 (dk_at dksJ4_setLength_0 7 rfl rfl)
theorem dJ4_setLength_8 : decode cJ4_setLength 8 = .ok (.iload_n 1, 1) := dk_27 (dk_at dksJ4_setLength_0 8 rfl rfl)
theorem dJ4_setLength_9 : decode cJ4_setLength 9 = .ok (.invokespecial 131, 3) := dk_183 0 131 (dk_at dksJ4_setLength_0 9 rfl rfl)
theorem dJ4_setLength_12 : decode cJ4_setLength 12 = .ok (.athrow, 1) := dk_191 (dk_at dksJ4_setLength_0 12 rfl rfl)
theorem dJ4_setLength_13 : decode cJ4_setLength 13 = .ok (.aload_n 0, 1) := dk_42 (dk_at dksJ4_setLength_0 13 rfl rfl)
theorem dJ4_setLength_14 : decode cJ4_setLength 14 = .ok (.iload_n 1, 1) := dk_27 (dk_at dksJ4_setLength_0 14 rfl rfl)
theorem dJ4_setLength_15 : decode cJ4_setLength 15 = .ok (.invokevirtual 100, 3) := dk_182 0 100 (dk_at dksJ4_setLength_0 15 rfl rfl)
theorem dJ4_setLength_18 : decode cJ4_setLength 18 = .ok (.aload_n 0, 1) := dk_42 (dk_at dksJ4_setLength_0 18 rfl rfl)
theorem dJ4_setLength_19 : decode cJ4_setLength 19 = .ok (.getfield 79, 3) := dk_180 0 79 (dk_at dksJ4_setLength_0 19 rfl rfl)
theorem dJ4_setLength_22 : decode cJ4_setLength 22 = .ok (.iload_n 1, 1) := dk_27 (dk_at dksJ4_setLength_0 22 rfl rfl)
theorem dJ4_setLength_23 : decode cJ4_setLength 23 = .ok (.if_icmp .ge 40, 3) := dk_162 0 40 (dk_at dksJ4_setLength_1 0 rfl rfl)
theorem dJ4_setLength_26 : decode cJ4_setLength 26 = .ok (.aload_n 0, 1) := dk_42 (dk_at dksJ4_setLength_1 3 rfl rfl)
theorem dJ4_setLength_27 : decode cJ4_setLength 27 = .ok (.invokevirtual 83, 3) := dk_182 0 83 (dk_at dksJ4_setLength_1 4 rfl rfl)
theorem dJ4_setLength_30 : decode cJ4_setLength 30 = .ok (.ifCond .eq 18, 3) := dk_153 0 18 (dk_at dksJ4_setLength_1 7 rfl rfl)
theorem dJ4_setLength_33 : decode cJ4_setLength 33 = .ok (.aload_n 0, 1) := dk_42 (dk_at dksJ4_setLength_1 10 rfl rfl)
theorem dJ4_setLength_34 : decode cJ4_setLength 34 = .ok (.getfield 15, 3) := dk_180 0 15 (dk_at dksJ4_setLength_1 11 rfl rfl)
theorem dJ4_setLength_37 : decode cJ4_setLength 37 = .ok (.aload_n 0, 1) := dk_42 (dk_at dksJ4_setLength_1 14 rfl rfl)
theorem dJ4_setLength_38 : decode cJ4_setLength 38 = .ok (.getfield 79, 3) := dk_180 0 79 (dk_at dksJ4_setLength_1 15 rfl rfl)
theorem dJ4_setLength_41 : decode cJ4_setLength 41 = .ok (.iload_n 1, 1) := dk_27 (dk_at dksJ4_setLength_1 18 rfl rfl)
theorem dJ4_setLength_42 : decode cJ4_setLength 42 = .ok (.invokestatic 133, 3) := dk_184 0 133 (dk_at dksJ4_setLength_1 19 rfl rfl)
theorem dJ4_setLength_45 : decode cJ4_setLength 45 = .ok (.goto 31, 3) := dk_167 0 31 (dk_at dksJ4_setLength_2 0 rfl rfl)
theorem dJ4_setLength_48 : decode cJ4_setLength 48 = .ok (.aload_n 0, 1) := dk_42 (dk_at dksJ4_setLength_2 3 rfl rfl)
theorem dJ4_setLength_49 : decode cJ4_setLength 49 = .ok (.getfield 15, 3) := dk_180 0 15 (dk_at dksJ4_setLength_2 4 rfl rfl)
theorem dJ4_setLength_52 : decode cJ4_setLength 52 = .ok (.aload_n 0, 1) := dk_42 (dk_at dksJ4_setLength_2 7 rfl rfl)
theorem dJ4_setLength_53 : decode cJ4_setLength 53 = .ok (.getfield 79, 3) := dk_180 0 79 (dk_at dksJ4_setLength_2 8 rfl rfl)
theorem dJ4_setLength_56 : decode cJ4_setLength 56 = .ok (.iload_n 1, 1) := dk_27 (dk_at dksJ4_setLength_2 11 rfl rfl)
theorem dJ4_setLength_57 : decode cJ4_setLength 57 = .ok (.invokestatic 137, 3) := dk_184 0 137 (dk_at dksJ4_setLength_2 12 rfl rfl)
theorem dJ4_setLength_60 : decode cJ4_setLength 60 = .ok (.goto 16, 3) := dk_167 0 16 (dk_at dksJ4_setLength_2 15 rfl rfl)
theorem dJ4_setLength_63 : decode cJ4_setLength 63 = .ok (.aload_n 0, 1) := dk_42 (dk_at dksJ4_setLength_2 18 rfl rfl)
theorem dJ4_setLength_64 : decode cJ4_setLength 64 = .ok (.getfield 79, 3) := dk_180 0 79 (dk_at dksJ4_setLength_2 19 rfl rfl)
theorem dJ4_setLength_67 : decode cJ4_setLength 67 = .ok (.iload_n 1, 1) := dk_27 (dk_at dksJ4_setLength_2 22 rfl rfl)
theorem dJ4_setLength_68 : decode cJ4_setLength 68 = .ok (.if_icmp .le 8, 3) := dk_164 0 8 (dk_at dksJ4_setLength_3 0 rfl rfl)
theorem dJ4_setLength_71 : decode cJ4_setLength 71 = .ok (.aload_n 0, 1) := dk_42 (dk_at dksJ4_setLength_3 3 rfl rfl)
theorem dJ4_setLength_72 : decode cJ4_setLength 72 = .ok (.iconst 1, 1) := dk_4 (dk_at dksJ4_setLength_3 4 rfl rfl)
theorem dJ4_setLength_73 : decode cJ4_setLength 73 = .ok (.putfield 73, 3) := dk_181 0 73 (dk_at dksJ4_setLength_3 5 rfl rfl)
theorem dJ4_setLength_76 : decode cJ4_setLength 76 = .ok (.aload_n 0, 1) := dk_42 (dk_at dksJ4_setLength_3 8 rfl rfl)
theorem dJ4_setLength_77 : decode cJ4_setLength 77 = .ok (.iload_n 1, 1) := dk_27 (dk_at dksJ4_setLength_3 9 rfl rfl)
theorem dJ4_setLength_78 : decode cJ4_setLength 78 = .ok (.putfield 79, 3) := dk_181 0 79 (dk_at dksJ4_setLength_3 10 rfl rfl)
theorem dJ4_setLength_81 : decode cJ4_setLength 81 = .ok (.return_, 1) := dk_177 (dk_at dksJ4_setLength_3 13 rfl rfl)
theorem q106 : (Jvm.Cond.initialized "java/lang/AbstractStringBuilder") ∈ lw_all := lw_g (lw_at lw_m1 6 rfl) rfl
theorem q224 : (Jvm.Cond.instanceMethod ({ cls := "java/lang/AbstractStringBuilder", name := "<init>", desc := "(I)V" } : Jvm.MethodName)) ∈ lw_all := lw_g (lw_at lw_m1 124 rfl) rfl
theorem q225 : (Jvm.Cond.code ({ cls := "java/lang/AbstractStringBuilder", name := "<init>", desc := "(I)V" } : Jvm.MethodName) prog_22_method_2_code (2 : Nat) (Option.none : Option Jvm.ClassFile.FieldType)) ∈ lw_all := lw_g (lw_at lw_m1 125 rfl) rfl
theorem q226 : (Jvm.Cond.methodLink "java/lang/AbstractStringBuilder" (3 : Nat) ({ cls := "java/lang/Object", name := "<init>", desc := "()V" } : Jvm.MethodName)) ∈ lw_all := lw_g (lw_at lw_m1 126 rfl) rfl
theorem q227 : (Jvm.Cond.fieldLink "java/lang/AbstractStringBuilder" (18 : Nat) "java/lang/String" "COMPACT_STRINGS" "Z") ∈ lw_all := lw_g (lw_at lw_m1 127 rfl) rfl
theorem q229 : (Jvm.Cond.methodLink "java/lang/AbstractStringBuilder" (26 : Nat) ({ cls := "java/lang/StringUTF16", name := "newBytesFor", desc := "(I)[B" } : Jvm.MethodName)) ∈ lw_all := lw_g (lw_at lw_m1 129 rfl) rfl
theorem q236 : (Jvm.Cond.fieldLink "java/lang/AbstractStringBuilder" (15 : Nat) "java/lang/AbstractStringBuilder" "value" "[B") ∈ lw_all := lw_g (lw_at lw_m1 136 rfl) rfl
theorem q237 : (Jvm.Cond.fieldLink "java/lang/AbstractStringBuilder" (22 : Nat) "java/lang/AbstractStringBuilder" "coder" "B") ∈ lw_all := lw_g (lw_at lw_m1 137 rfl) rfl
theorem q238 : (Jvm.Cond.fieldLink "java/lang/AbstractStringBuilder" (73 : Nat) "java/lang/AbstractStringBuilder" "maybeLatin1" "Z") ∈ lw_all := lw_g (lw_at lw_m1 138 rfl) rfl
theorem q240 : (Jvm.Cond.fieldLink "java/lang/AbstractStringBuilder" (79 : Nat) "java/lang/AbstractStringBuilder" "count" "I") ∈ lw_all := lw_g (lw_at lw_m1 140 rfl) rfl
theorem q242 : (Jvm.Cond.soleField "java/lang/AbstractStringBuilder" "value") ∈ lw_all := lw_g (lw_at lw_m1 142 rfl) rfl
theorem q244 : (Jvm.Cond.soleField "java/lang/AbstractStringBuilder" "coder") ∈ lw_all := lw_g (lw_at lw_m1 144 rfl) rfl
theorem q246 : (Jvm.Cond.soleField "java/lang/AbstractStringBuilder" "maybeLatin1") ∈ lw_all := lw_g (lw_at lw_m1 146 rfl) rfl
theorem q248 : (Jvm.Cond.soleField "java/lang/AbstractStringBuilder" "count") ∈ lw_all := lw_g (lw_at lw_m1 148 rfl) rfl
theorem q562 : (Jvm.Cond.instanceMethod ({ cls := "java/lang/AbstractStringBuilder", name := "append", desc := "(Ljava/lang/String;)Ljava/lang/AbstractStringBuilder;" } : Jvm.MethodName)) ∈ lw_all := lw_g (lw_at lw_m2 222 rfl) rfl
theorem q563 : (Jvm.Cond.code ({ cls := "java/lang/AbstractStringBuilder", name := "append", desc := "(Ljava/lang/String;)Ljava/lang/AbstractStringBuilder;" } : Jvm.MethodName) prog_22_method_22_code (3 : Nat) (Option.some (Jvm.ClassFile.FieldType.object "java/lang/AbstractStringBuilder"))) ∈ lw_all := lw_g (lw_at lw_m2 223 rfl) rfl
theorem q564 : (Jvm.Cond.methodLink "java/lang/AbstractStringBuilder" (204 : Nat) ({ cls := "java/lang/AbstractStringBuilder", name := "appendNull", desc := "()Ljava/lang/AbstractStringBuilder;" } : Jvm.MethodName)) ∈ lw_all := lw_g (lw_at lw_m2 224 rfl) rfl
theorem q565 : (Jvm.Cond.privateMethod ({ cls := "java/lang/AbstractStringBuilder", name := "appendNull", desc := "()Ljava/lang/AbstractStringBuilder;" } : Jvm.MethodName)) ∈ lw_tbl := lw_at lw_m2 225 rfl
theorem q566 : (Jvm.Cond.instanceMethod ({ cls := "java/lang/AbstractStringBuilder", name := "appendNull", desc := "()Ljava/lang/AbstractStringBuilder;" } : Jvm.MethodName)) ∈ lw_all := lw_g (lw_at lw_m2 226 rfl) rfl
theorem q567 : (Jvm.Cond.code ({ cls := "java/lang/AbstractStringBuilder", name := "appendNull", desc := "()Ljava/lang/AbstractStringBuilder;" } : Jvm.MethodName) prog_22_method_26_code (3 : Nat) (Option.some (Jvm.ClassFile.FieldType.object "java/lang/AbstractStringBuilder"))) ∈ lw_all := lw_g (lw_at lw_m2 227 rfl) rfl
theorem q568 : (Jvm.Cond.methodLink "java/lang/AbstractStringBuilder" (100 : Nat) ({ cls := "java/lang/AbstractStringBuilder", name := "ensureCapacityInternal", desc := "(I)V" } : Jvm.MethodName)) ∈ lw_all := lw_g (lw_at lw_m2 228 rfl) rfl
theorem q569 : (Jvm.Cond.privateMethod ({ cls := "java/lang/AbstractStringBuilder", name := "ensureCapacityInternal", desc := "(I)V" } : Jvm.MethodName)) ∈ lw_tbl := lw_at lw_m2 229 rfl
theorem q570 : (Jvm.Cond.instanceMethod ({ cls := "java/lang/AbstractStringBuilder", name := "ensureCapacityInternal", desc := "(I)V" } : Jvm.MethodName)) ∈ lw_all := lw_g (lw_at lw_m2 230 rfl) rfl
theorem q571 : (Jvm.Cond.code ({ cls := "java/lang/AbstractStringBuilder", name := "ensureCapacityInternal", desc := "(I)V" } : Jvm.MethodName) prog_22_method_9_code (3 : Nat) (Option.none : Option Jvm.ClassFile.FieldType)) ∈ lw_all := lw_g (lw_at lw_m2 231 rfl) rfl
theorem q572 : (Jvm.Cond.methodLink "java/lang/AbstractStringBuilder" (104 : Nat) ({ cls := "java/lang/AbstractStringBuilder", name := "newCapacity", desc := "(I)I" } : Jvm.MethodName)) ∈ lw_all := lw_g (lw_at lw_m2 232 rfl) rfl
theorem q573 : (Jvm.Cond.privateMethod ({ cls := "java/lang/AbstractStringBuilder", name := "newCapacity", desc := "(I)I" } : Jvm.MethodName)) ∈ lw_tbl := lw_at lw_m2 233 rfl
theorem q574 : (Jvm.Cond.instanceMethod ({ cls := "java/lang/AbstractStringBuilder", name := "newCapacity", desc := "(I)I" } : Jvm.MethodName)) ∈ lw_all := lw_g (lw_at lw_m2 234 rfl) rfl
theorem q575 : (Jvm.Cond.code ({ cls := "java/lang/AbstractStringBuilder", name := "newCapacity", desc := "(I)I" } : Jvm.MethodName) prog_22_method_10_code (6 : Nat) (Option.some Jvm.ClassFile.FieldType.int)) ∈ lw_all := lw_g (lw_at lw_m2 235 rfl) rfl
theorem q576 : (Jvm.Cond.methodLink "java/lang/AbstractStringBuilder" (114 : Nat) ({ cls := "jdk/internal/util/ArraysSupport", name := "newLength", desc := "(III)I" } : Jvm.MethodName)) ∈ lw_all := lw_g (lw_at lw_m2 236 rfl) rfl
theorem q586 : (Jvm.Cond.constant "java/lang/AbstractStringBuilder" (39 : Nat) (2147483647 : Int32)) ∈ lw_all := lw_g (lw_at lw_m3 6 rfl) rfl
theorem q587 : (Jvm.Cond.methodLink "java/lang/AbstractStringBuilder" (108 : Nat) ({ cls := "java/util/Arrays", name := "copyOf", desc := "([BI)[B" } : Jvm.MethodName)) ∈ lw_all := lw_g (lw_at lw_m3 7 rfl) rfl
theorem q603 : (Jvm.Cond.methodLink "java/lang/AbstractStringBuilder" (83 : Nat) ({ cls := "java/lang/AbstractStringBuilder", name := "isLatin1", desc := "()Z" } : Jvm.MethodName)) ∈ lw_all := lw_g (lw_at lw_m3 23 rfl) rfl
theorem q604 : (Jvm.Cond.instanceMethod ({ cls := "java/lang/AbstractStringBuilder", name := "isLatin1", desc := "()Z" } : Jvm.MethodName)) ∈ lw_all := lw_g (lw_at lw_m3 24 rfl) rfl
theorem q605 : (Jvm.Cond.sameMethod "java/lang/AbstractStringBuilder" "java/lang/AbstractStringBuilder" "isLatin1" "()Z") ∈ lw_all := lw_g (lw_at lw_m3 25 rfl) rfl
theorem q607 : (Jvm.Cond.code ({ cls := "java/lang/AbstractStringBuilder", name := "isLatin1", desc := "()Z" } : Jvm.MethodName) prog_22_method_68_code (1 : Nat) (Option.some Jvm.ClassFile.FieldType.boolean)) ∈ lw_all := lw_g (lw_at lw_m3 27 rfl) rfl
theorem q608 : (Jvm.Cond.methodLink "java/lang/AbstractStringBuilder" (226 : Nat) ({ cls := "java/lang/StringUTF16", name := "putCharsAt", desc := "([BICCCC)I" } : Jvm.MethodName)) ∈ lw_all := lw_g (lw_at lw_m3 28 rfl) rfl
theorem q634 : (Jvm.Cond.methodLink "java/lang/AbstractStringBuilder" (32 : Nat) ({ cls := "java/lang/String", name := "length", desc := "()I" } : Jvm.MethodName)) ∈ lw_all := lw_g (lw_at lw_m3 54 rfl) rfl
theorem q643 : (Jvm.Cond.methodLink "java/lang/AbstractStringBuilder" (208 : Nat) ({ cls := "java/lang/AbstractStringBuilder", name := "putStringAt", desc := "(ILjava/lang/String;)V" } : Jvm.MethodName)) ∈ lw_all := lw_g (lw_at lw_m3 63 rfl) rfl
theorem q644 : (Jvm.Cond.privateMethod ({ cls := "java/lang/AbstractStringBuilder", name := "putStringAt", desc := "(ILjava/lang/String;)V" } : Jvm.MethodName)) ∈ lw_tbl := lw_at lw_m3 64 rfl
theorem q645 : (Jvm.Cond.instanceMethod ({ cls := "java/lang/AbstractStringBuilder", name := "putStringAt", desc := "(ILjava/lang/String;)V" } : Jvm.MethodName)) ∈ lw_all := lw_g (lw_at lw_m3 65 rfl) rfl
theorem q646 : (Jvm.Cond.code ({ cls := "java/lang/AbstractStringBuilder", name := "putStringAt", desc := "(ILjava/lang/String;)V" } : Jvm.MethodName) prog_22_method_73_code (3 : Nat) (Option.none : Option Jvm.ClassFile.FieldType)) ∈ lw_all := lw_g (lw_at lw_m3 66 rfl) rfl
theorem q647 : (Jvm.Cond.methodLink "java/lang/AbstractStringBuilder" (397 : Nat) ({ cls := "java/lang/AbstractStringBuilder", name := "inflateIfNeededFor", desc := "(Ljava/lang/String;)V" } : Jvm.MethodName)) ∈ lw_all := lw_g (lw_at lw_m3 67 rfl) rfl
theorem q648 : (Jvm.Cond.privateMethod ({ cls := "java/lang/AbstractStringBuilder", name := "inflateIfNeededFor", desc := "(Ljava/lang/String;)V" } : Jvm.MethodName)) ∈ lw_tbl := lw_at lw_m3 68 rfl
theorem q649 : (Jvm.Cond.instanceMethod ({ cls := "java/lang/AbstractStringBuilder", name := "inflateIfNeededFor", desc := "(Ljava/lang/String;)V" } : Jvm.MethodName)) ∈ lw_all := lw_g (lw_at lw_m3 69 rfl) rfl
theorem q650 : (Jvm.Cond.code ({ cls := "java/lang/AbstractStringBuilder", name := "inflateIfNeededFor", desc := "(Ljava/lang/String;)V" } : Jvm.MethodName) prog_22_method_71_code (2 : Nat) (Option.none : Option Jvm.ClassFile.FieldType)) ∈ lw_all := lw_g (lw_at lw_m3 70 rfl) rfl
theorem q651 : (Jvm.Cond.methodLink "java/lang/AbstractStringBuilder" (40 : Nat) ({ cls := "java/lang/String", name := "coder", desc := "()B" } : Jvm.MethodName)) ∈ lw_all := lw_g (lw_at lw_m3 71 rfl) rfl
theorem q652 : (Jvm.Cond.methodLink "java/lang/AbstractStringBuilder" (195 : Nat) ({ cls := "java/lang/AbstractStringBuilder", name := "inflate", desc := "()V" } : Jvm.MethodName)) ∈ lw_all := lw_g (lw_at lw_m3 72 rfl) rfl
theorem q653 : (Jvm.Cond.privateMethod ({ cls := "java/lang/AbstractStringBuilder", name := "inflate", desc := "()V" } : Jvm.MethodName)) ∈ lw_tbl := lw_at lw_m3 73 rfl
theorem q654 : (Jvm.Cond.instanceMethod ({ cls := "java/lang/AbstractStringBuilder", name := "inflate", desc := "()V" } : Jvm.MethodName)) ∈ lw_all := lw_g (lw_at lw_m3 74 rfl) rfl
theorem q655 : (Jvm.Cond.code ({ cls := "java/lang/AbstractStringBuilder", name := "inflate", desc := "()V" } : Jvm.MethodName) prog_22_method_11_code (2 : Nat) (Option.none : Option Jvm.ClassFile.FieldType)) ∈ lw_all := lw_g (lw_at lw_m3 75 rfl) rfl
theorem q656 : (Jvm.Cond.methodLink "java/lang/AbstractStringBuilder" (125 : Nat) ({ cls := "java/lang/StringLatin1", name := "inflate", desc := "([BI[BII)V" } : Jvm.MethodName)) ∈ lw_all := lw_g (lw_at lw_m3 76 rfl) rfl
theorem q671 : (Jvm.Cond.methodLink "java/lang/AbstractStringBuilder" (399 : Nat) ({ cls := "java/lang/String", name := "getBytes", desc := "([BIB)V" } : Jvm.MethodName)) ∈ lw_all := lw_g (lw_at lw_m3 91 rfl) rfl
theorem q682 : (Jvm.Cond.instanceMethod ({ cls := "java/lang/AbstractStringBuilder", name := "append", desc := "(I)Ljava/lang/AbstractStringBuilder;" } : Jvm.MethodName)) ∈ lw_all := lw_g (lw_at lw_m3 102 rfl) rfl
theorem q683 : (Jvm.Cond.code ({ cls := "java/lang/AbstractStringBuilder", name := "append", desc := "(I)Ljava/lang/AbstractStringBuilder;" } : Jvm.MethodName) prog_22_method_32_code (4 : Nat) (Option.some (Jvm.ClassFile.FieldType.object "java/lang/AbstractStringBuilder"))) ∈ lw_all := lw_g (lw_at lw_m3 103 rfl) rfl
theorem q684 : (Jvm.Cond.methodLink "java/lang/AbstractStringBuilder" (245 : Nat) ({ cls := "java/lang/Integer", name := "stringSize", desc := "(I)I" } : Jvm.MethodName)) ∈ lw_all := lw_g (lw_at lw_m3 104 rfl) rfl
theorem q687 : (Jvm.Cond.methodLink "java/lang/AbstractStringBuilder" (248 : Nat) ({ cls := "java/lang/Integer", name := "getChars", desc := "(II[B)I" } : Jvm.MethodName)) ∈ lw_all := lw_g (lw_at lw_m3 107 rfl) rfl
theorem q694 : (Jvm.Cond.methodLink "java/lang/AbstractStringBuilder" (251 : Nat) ({ cls := "java/lang/StringUTF16", name := "getChars", desc := "(III[B)I" } : Jvm.MethodName)) ∈ lw_all := lw_g (lw_at lw_m3 114 rfl) rfl
theorem q717 : (Jvm.Cond.instanceMethod ({ cls := "java/lang/AbstractStringBuilder", name := "getValue", desc := "()[B" } : Jvm.MethodName)) ∈ lw_all := lw_g (lw_at lw_m3 137 rfl) rfl
theorem q718 : (Jvm.Cond.sameMethod "java/lang/AbstractStringBuilder" "java/lang/AbstractStringBuilder" "getValue" "()[B") ∈ lw_all := lw_g (lw_at lw_m3 138 rfl) rfl
theorem q720 : (Jvm.Cond.code ({ cls := "java/lang/AbstractStringBuilder", name := "getValue", desc := "()[B" } : Jvm.MethodName) prog_22_method_64_code (1 : Nat) (Option.some (Jvm.ClassFile.FieldType.array Jvm.ClassFile.FieldType.byte))) ∈ lw_all := lw_g (lw_at lw_m3 140 rfl) rfl
theorem q722 : (Jvm.Cond.instanceMethod ({ cls := "java/lang/AbstractStringBuilder", name := "length", desc := "()I" } : Jvm.MethodName)) ∈ lw_all := lw_g (lw_at lw_m3 142 rfl) rfl
theorem q723 : (Jvm.Cond.sameMethod "java/lang/AbstractStringBuilder" "java/lang/AbstractStringBuilder" "length" "()I") ∈ lw_all := lw_g (lw_at lw_m3 143 rfl) rfl
theorem q728 : (Jvm.Cond.code ({ cls := "java/lang/AbstractStringBuilder", name := "length", desc := "()I" } : Jvm.MethodName) prog_22_method_6_code (1 : Nat) (Option.some Jvm.ClassFile.FieldType.int)) ∈ lw_all := lw_g (lw_at lw_m3 148 rfl) rfl
theorem q1737 : (Jvm.Cond.instanceMethod ({ cls := "java/lang/AbstractStringBuilder", name := "compareTo", desc := "(Ljava/lang/AbstractStringBuilder;)I" } : Jvm.MethodName)) ∈ lw_all := lw_g (lw_at lw_m7 197 rfl) rfl
theorem q1738 : (Jvm.Cond.code ({ cls := "java/lang/AbstractStringBuilder", name := "compareTo", desc := "(Ljava/lang/AbstractStringBuilder;)I" } : Jvm.MethodName) prog_22_method_5_code (6 : Nat) (Option.some Jvm.ClassFile.FieldType.int)) ∈ lw_all := lw_g (lw_at lw_m7 198 rfl) rfl
theorem q1739 : (Jvm.Cond.methodLink "java/lang/AbstractStringBuilder" (87 : Nat) ({ cls := "java/lang/StringLatin1", name := "compareTo", desc := "([B[BII)I" } : Jvm.MethodName)) ∈ lw_all := lw_g (lw_at lw_m7 199 rfl) rfl
theorem q1740 : (Jvm.Cond.methodLink "java/lang/AbstractStringBuilder" (93 : Nat) ({ cls := "java/lang/StringUTF16", name := "compareTo", desc := "([B[BII)I" } : Jvm.MethodName)) ∈ lw_all := lw_g (lw_at lw_m7 200 rfl) rfl
theorem q1749 : (Jvm.Cond.methodLink "java/lang/AbstractStringBuilder" (94 : Nat) ({ cls := "java/lang/StringLatin1", name := "compareToUTF16", desc := "([B[BII)I" } : Jvm.MethodName)) ∈ lw_all := lw_g (lw_at lw_m7 209 rfl) rfl
theorem q1753 : (Jvm.Cond.methodLink "java/lang/AbstractStringBuilder" (97 : Nat) ({ cls := "java/lang/StringUTF16", name := "compareToLatin1", desc := "([B[BII)I" } : Jvm.MethodName)) ∈ lw_all := lw_g (lw_at lw_m7 213 rfl) rfl
theorem q3351 : (Jvm.Cond.instanceMethod ({ cls := "java/lang/AbstractStringBuilder", name := "append", desc := "(C)Ljava/lang/AbstractStringBuilder;" } : Jvm.MethodName)) ∈ lw_all := lw_g (lw_at lw_m14 131 rfl) rfl
theorem q3352 : (Jvm.Cond.code ({ cls := "java/lang/AbstractStringBuilder", name := "append", desc := "(C)Ljava/lang/AbstractStringBuilder;" } : Jvm.MethodName) prog_22_method_31_code (2 : Nat) (Option.some (Jvm.ClassFile.FieldType.object "java/lang/AbstractStringBuilder"))) ∈ lw_all := lw_g (lw_at lw_m14 132 rfl) rfl
theorem q3353 : (Jvm.Cond.methodLink "java/lang/AbstractStringBuilder" (191 : Nat) ({ cls := "java/lang/StringLatin1", name := "canEncode", desc := "(C)Z" } : Jvm.MethodName)) ∈ lw_all := lw_g (lw_at lw_m14 133 rfl) rfl
theorem q3356 : (Jvm.Cond.methodLink "java/lang/AbstractStringBuilder" (197 : Nat) ({ cls := "java/lang/StringUTF16", name := "putCharSB", desc := "([BII)V" } : Jvm.MethodName)) ∈ lw_all := lw_g (lw_at lw_m14 136 rfl) rfl
theorem q3373 : (Jvm.Cond.instanceMethod ({ cls := "java/lang/AbstractStringBuilder", name := "setLength", desc := "(I)V" } : Jvm.MethodName)) ∈ lw_all := lw_g (lw_at lw_m14 153 rfl) rfl
theorem q3374 : (Jvm.Cond.code ({ cls := "java/lang/AbstractStringBuilder", name := "setLength", desc := "(I)V" } : Jvm.MethodName) prog_22_method_13_code (2 : Nat) (Option.none : Option Jvm.ClassFile.FieldType)) ∈ lw_all := lw_g (lw_at lw_m14 154 rfl) rfl
theorem q3375 : (Jvm.Cond.classLink "java/lang/AbstractStringBuilder" (129 : Nat) "java/lang/StringIndexOutOfBoundsException") ∈ lw_all := lw_g (lw_at lw_m14 155 rfl) rfl
theorem q3377 : (Jvm.Cond.methodLink "java/lang/AbstractStringBuilder" (131 : Nat) ({ cls := "java/lang/StringIndexOutOfBoundsException", name := "<init>", desc := "(I)V" } : Jvm.MethodName)) ∈ lw_all := lw_g (lw_at lw_m14 157 rfl) rfl
theorem q3394 : (Jvm.Cond.methodLink "java/lang/AbstractStringBuilder" (133 : Nat) ({ cls := "java/lang/StringLatin1", name := "fillNull", desc := "([BII)V" } : Jvm.MethodName)) ∈ lw_all := lw_g (lw_at lw_m14 174 rfl) rfl
theorem q3416 : (Jvm.Cond.methodLink "java/lang/AbstractStringBuilder" (137 : Nat) ({ cls := "java/lang/StringUTF16", name := "fillNull", desc := "([BII)V" } : Jvm.MethodName)) ∈ lw_all := lw_g (lw_at lw_m14 196 rfl) rfl
theorem q4204 : (Jvm.Cond.sameMethod "java/lang/AbstractStringBuilder" "java/lang/AbstractStringBuilder" "append" "(Ljava/lang/String;)Ljava/lang/AbstractStringBuilder;") ∈ lw_all := lw_g (lw_at lw_m18 24 rfl) rfl
theorem q4205 : (Jvm.Cond.sameMethod "java/lang/AbstractStringBuilder" "java/lang/AbstractStringBuilder" "appendNull" "()Ljava/lang/AbstractStringBuilder;") ∈ lw_all := lw_g (lw_at lw_m18 25 rfl) rfl
theorem q4206 : (Jvm.Cond.sameMethod "java/lang/AbstractStringBuilder" "java/lang/AbstractStringBuilder" "ensureCapacityInternal" "(I)V") ∈ lw_all := lw_g (lw_at lw_m18 26 rfl) rfl
theorem q4207 : (Jvm.Cond.sameMethod "java/lang/AbstractStringBuilder" "java/lang/AbstractStringBuilder" "newCapacity" "(I)I") ∈ lw_all := lw_g (lw_at lw_m18 27 rfl) rfl
theorem q4208 : (Jvm.Cond.sameMethod "java/lang/AbstractStringBuilder" "java/lang/AbstractStringBuilder" "putStringAt" "(ILjava/lang/String;)V") ∈ lw_all := lw_g (lw_at lw_m18 28 rfl) rfl
theorem q4209 : (Jvm.Cond.sameMethod "java/lang/AbstractStringBuilder" "java/lang/AbstractStringBuilder" "inflateIfNeededFor" "(Ljava/lang/String;)V") ∈ lw_all := lw_g (lw_at lw_m18 29 rfl) rfl
theorem q4210 : (Jvm.Cond.sameMethod "java/lang/AbstractStringBuilder" "java/lang/AbstractStringBuilder" "inflate" "()V") ∈ lw_all := lw_g (lw_at lw_m18 30 rfl) rfl
theorem q4211 : (Jvm.Cond.sameMethod "java/lang/AbstractStringBuilder" "java/lang/AbstractStringBuilder" "append" "(I)Ljava/lang/AbstractStringBuilder;") ∈ lw_all := lw_g (lw_at lw_m18 31 rfl) rfl
theorem q4214 : (Jvm.Cond.sameMethod "java/lang/AbstractStringBuilder" "java/lang/AbstractStringBuilder" "compareTo" "(Ljava/lang/AbstractStringBuilder;)I") ∈ lw_all := lw_g (lw_at lw_m18 34 rfl) rfl
theorem q4228 : (Jvm.Cond.sameMethod "java/lang/AbstractStringBuilder" "java/lang/AbstractStringBuilder" "append" "(C)Ljava/lang/AbstractStringBuilder;") ∈ lw_all := lw_g (lw_at lw_m18 48 rfl) rfl
theorem q4229 : (Jvm.Cond.sameMethod "java/lang/AbstractStringBuilder" "java/lang/AbstractStringBuilder" "setLength" "(I)V") ∈ lw_all := lw_g (lw_at lw_m18 49 rfl) rfl
/-! java/lang/StringBuilder -/
set_option maxRecDepth 100000
def RJ5 : String := "java/lang/StringBuilder"
def TJ5 : u_T := fun k => match k with
  | 0 => ("java/lang/AbstractStringBuilder", "value", "[B", false)
  | 1 => ("java/lang/AbstractStringBuilder", "coder", "B", false)
  | 2 => ("java/lang/AbstractStringBuilder", "maybeLatin1", "Z", false)
  | _ => ("java/lang/AbstractStringBuilder", "count", "I", false)
def tyJ5 : Nat → FieldType := fun k => match k with
  | 0 => .array .byte
  | 1 => .byte
  | 2 => .boolean
  | _ => .int
abbrev wsJ50 : List Cond := u_ws RJ5 TJ5 4
theorem nmJ5 : ∀ a, a < 4 → ∀ b, b < 4 → a ≠ b → (TJ5 a).2.1 ≠ (TJ5 b).2.1 := by decide +kernel
theorem tyJ5_ok : ∀ k, k < 4 → parseFieldDescriptor (TJ5 k).2.2.1 = some (tyJ5 k) := by decide +kernel
abbrev cJ5_init : ByteArray := prog_42_method_1_code
def yJ5_init : MethodName := ⟨RJ5, "<init>", "()V"⟩
def dkwJ5_init_0 : List UInt8 := [42, 16, 16, 183, 0, 1, 177]
abbrev dktJ5_init_0 : List UInt8 := dkwJ5_init_0 ++ []
theorem dksJ5_init_0 : cJ5_init.data.toList.drop 0 = dktJ5_init_0 := by decide +kernel
theorem dJ5_init_0 : decode cJ5_init 0 = .ok (.aload_n 0, 1) := dk_42 (dk_at dksJ5_init_0 0 rfl rfl)
theorem dJ5_init_1 : decode cJ5_init 1 = .ok (.bipush 16, 2) := dk_16 16 (dk_at dksJ5_init_0 1 rfl rfl)
theorem dJ5_init_3 : decode cJ5_init 3 = .ok (.invokespecial 1, 3) := dk_183 0 1 (dk_at dksJ5_init_0 3 rfl rfl)
theorem dJ5_init_6 : decode cJ5_init 6 = .ok (.return_, 1) := dk_177 (dk_at dksJ5_init_0 6 rfl rfl)
abbrev cJ5_append : ByteArray := prog_42_method_7_code
def yJ5_append : MethodName := ⟨RJ5, "append", "(Ljava/lang/String;)Ljava/lang/StringBuilder;"⟩
def dkwJ5_append_0 : List UInt8 := [42, 43, 183, 0, 29, 87, 42, 176]
abbrev dktJ5_append_0 : List UInt8 := dkwJ5_append_0 ++ []
theorem dksJ5_append_0 : cJ5_append.data.toList.drop 0 = dktJ5_append_0 := by decide +kernel
theorem dJ5_append_0 : decode cJ5_append 0 = .ok (.aload_n 0, 1) := dk_42 (dk_at dksJ5_append_0 0 rfl rfl)
theorem dJ5_append_1 : decode cJ5_append 1 = .ok (.aload_n 1, 1) := dk_43 (dk_at dksJ5_append_0 1 rfl rfl)
theorem dJ5_append_2 : decode cJ5_append 2 = .ok (.invokespecial 29, 3) := dk_183 0 29 (dk_at dksJ5_append_0 2 rfl rfl)
theorem dJ5_append_5 : decode cJ5_append 5 = .ok (.pop, 1) := dk_87 (dk_at dksJ5_append_0 5 rfl rfl)
theorem dJ5_append_6 : decode cJ5_append 6 = .ok (.aload_n 0, 1) := dk_42 (dk_at dksJ5_append_0 6 rfl rfl)
theorem dJ5_append_7 : decode cJ5_append 7 = .ok (.areturn, 1) := dk_176 (dk_at dksJ5_append_0 7 rfl rfl)
abbrev cJ5_append_2 : ByteArray := prog_42_method_15_code
def yJ5_append_2 : MethodName := ⟨RJ5, "append", "(I)Ljava/lang/StringBuilder;"⟩
def dkwJ5_append_2_0 : List UInt8 := [42, 27, 183, 0, 53, 87, 42, 176]
abbrev dktJ5_append_2_0 : List UInt8 := dkwJ5_append_2_0 ++ []
theorem dksJ5_append_2_0 : cJ5_append_2.data.toList.drop 0 = dktJ5_append_2_0 := by decide +kernel
theorem dJ5_append_2_0 : decode cJ5_append_2 0 = .ok (.aload_n 0, 1) := dk_42 (dk_at dksJ5_append_2_0 0 rfl rfl)
theorem dJ5_append_2_1 : decode cJ5_append_2 1 = .ok (.iload_n 1, 1) := dk_27 (dk_at dksJ5_append_2_0 1 rfl rfl)
theorem dJ5_append_2_2 : decode cJ5_append_2 2 = .ok (.invokespecial 53, 3) := dk_183 0 53 (dk_at dksJ5_append_2_0 2 rfl rfl)
theorem dJ5_append_2_5 : decode cJ5_append_2 5 = .ok (.pop, 1) := dk_87 (dk_at dksJ5_append_2_0 5 rfl rfl)
theorem dJ5_append_2_6 : decode cJ5_append_2 6 = .ok (.aload_n 0, 1) := dk_42 (dk_at dksJ5_append_2_0 6 rfl rfl)
theorem dJ5_append_2_7 : decode cJ5_append_2 7 = .ok (.areturn, 1) := dk_176 (dk_at dksJ5_append_2_0 7 rfl rfl)
abbrev cJ5_toString : ByteArray := prog_42_method_42_code
def yJ5_toString : MethodName := ⟨RJ5, "toString", "()Ljava/lang/String;"⟩
def dkwJ5_toString_0 : List UInt8 := [187, 0, 18, 89, 42, 183, 0, 137, 176]
abbrev dktJ5_toString_0 : List UInt8 := dkwJ5_toString_0 ++ []
theorem dksJ5_toString_0 : cJ5_toString.data.toList.drop 0 = dktJ5_toString_0 := by decide +kernel
theorem dJ5_toString_0 : decode cJ5_toString 0 = .ok (.new 18, 3) := dk_187 0 18 (dk_at dksJ5_toString_0 0 rfl rfl)
theorem dJ5_toString_3 : decode cJ5_toString 3 = .ok (.dup, 1) := dk_89 (dk_at dksJ5_toString_0 3 rfl rfl)
theorem dJ5_toString_4 : decode cJ5_toString 4 = .ok (.aload_n 0, 1) := dk_42 (dk_at dksJ5_toString_0 4 rfl rfl)
theorem dJ5_toString_5 : decode cJ5_toString 5 = .ok (.invokespecial 137, 3) := dk_183 0 137 (dk_at dksJ5_toString_0 5 rfl rfl)
theorem dJ5_toString_8 : decode cJ5_toString 8 = .ok (.areturn, 1) := dk_176 (dk_at dksJ5_toString_0 8 rfl rfl)
abbrev cJ5_length : ByteArray := prog_42_method_93_code
def yJ5_length : MethodName := ⟨RJ5, "length", "()I"⟩
theorem dJ5_length_0 : decode cJ5_length 0 = .ok (.aload_n 0, 1) := by decide +kernel
theorem dJ5_length_1 : decode cJ5_length 1 = .ok (.invokespecial 343, 3) := by decide +kernel
theorem dJ5_length_4 : decode cJ5_length 4 = .ok (.ireturn, 1) := by decide +kernel
abbrev cJ5_compareTo : ByteArray := prog_42_method_97_code
def yJ5_compareTo : MethodName := ⟨RJ5, "compareTo", "(Ljava/lang/Object;)I"⟩
def dkwJ5_compareTo_0 : List UInt8 := [42, 43, 192, 0, 24, 182, 1, 90, 172]
abbrev dktJ5_compareTo_0 : List UInt8 := dkwJ5_compareTo_0 ++ []
theorem dksJ5_compareTo_0 : cJ5_compareTo.data.toList.drop 0 = dktJ5_compareTo_0 := by decide +kernel
theorem dJ5_compareTo_0 : decode cJ5_compareTo 0 = .ok (.aload_n 0, 1) := dk_42 (dk_at dksJ5_compareTo_0 0 rfl rfl)
theorem dJ5_compareTo_1 : decode cJ5_compareTo 1 = .ok (.aload_n 1, 1) := dk_43 (dk_at dksJ5_compareTo_0 1 rfl rfl)
theorem dJ5_compareTo_2 : decode cJ5_compareTo 2 = .ok (.checkcast 24, 3) := dk_192 0 24 (dk_at dksJ5_compareTo_0 2 rfl rfl)
theorem dJ5_compareTo_5 : decode cJ5_compareTo 5 = .ok (.invokevirtual 346, 3) := dk_182 1 90 (dk_at dksJ5_compareTo_0 5 rfl rfl)
theorem dJ5_compareTo_8 : decode cJ5_compareTo 8 = .ok (.ireturn, 1) := dk_172 (dk_at dksJ5_compareTo_0 8 rfl rfl)
abbrev cJ5_compareTo_2 : ByteArray := prog_42_method_5_code
def yJ5_compareTo_2 : MethodName := ⟨RJ5, "compareTo", "(Ljava/lang/StringBuilder;)I"⟩
def dkwJ5_compareTo_2_0 : List UInt8 := [42, 43, 183, 0, 13, 172]
abbrev dktJ5_compareTo_2_0 : List UInt8 := dkwJ5_compareTo_2_0 ++ []
theorem dksJ5_compareTo_2_0 : cJ5_compareTo_2.data.toList.drop 0 = dktJ5_compareTo_2_0 := by decide +kernel
theorem dJ5_compareTo_2_0 : decode cJ5_compareTo_2 0 = .ok (.aload_n 0, 1) := dk_42 (dk_at dksJ5_compareTo_2_0 0 rfl rfl)
theorem dJ5_compareTo_2_1 : decode cJ5_compareTo_2 1 = .ok (.aload_n 1, 1) := dk_43 (dk_at dksJ5_compareTo_2_0 1 rfl rfl)
theorem dJ5_compareTo_2_2 : decode cJ5_compareTo_2 2 = .ok (.invokespecial 13, 3) := dk_183 0 13 (dk_at dksJ5_compareTo_2_0 2 rfl rfl)
theorem dJ5_compareTo_2_5 : decode cJ5_compareTo_2 5 = .ok (.ireturn, 1) := dk_172 (dk_at dksJ5_compareTo_2_0 5 rfl rfl)
abbrev cJ5_append_3 : ByteArray := prog_42_method_14_code
def yJ5_append_3 : MethodName := ⟨RJ5, "append", "(C)Ljava/lang/StringBuilder;"⟩
def dkwJ5_append_3_0 : List UInt8 := [42, 27, 183, 0, 50, 87, 42, 176]
abbrev dktJ5_append_3_0 : List UInt8 := dkwJ5_append_3_0 ++ []
theorem dksJ5_append_3_0 : cJ5_append_3.data.toList.drop 0 = dktJ5_append_3_0 := by decide +kernel
theorem dJ5_append_3_0 : decode cJ5_append_3 0 = .ok (.aload_n 0, 1) := dk_42 (dk_at dksJ5_append_3_0 0 rfl rfl)
theorem dJ5_append_3_1 : decode cJ5_append_3 1 = .ok (.iload_n 1, 1) := dk_27 (dk_at dksJ5_append_3_0 1 rfl rfl)
theorem dJ5_append_3_2 : decode cJ5_append_3 2 = .ok (.invokespecial 50, 3) := dk_183 0 50 (dk_at dksJ5_append_3_0 2 rfl rfl)
theorem dJ5_append_3_5 : decode cJ5_append_3 5 = .ok (.pop, 1) := dk_87 (dk_at dksJ5_append_3_0 5 rfl rfl)
theorem dJ5_append_3_6 : decode cJ5_append_3 6 = .ok (.aload_n 0, 1) := dk_42 (dk_at dksJ5_append_3_0 6 rfl rfl)
theorem dJ5_append_3_7 : decode cJ5_append_3 7 = .ok (.areturn, 1) := dk_176 (dk_at dksJ5_append_3_0 7 rfl rfl)
abbrev cJ5_setLength : ByteArray := prog_42_method_89_code
def yJ5_setLength : MethodName := ⟨RJ5, "setLength", "(I)V"⟩
def dkwJ5_setLength_0 : List UInt8 := [42, 27, 183, 1, 77, 177]
abbrev dktJ5_setLength_0 : List UInt8 := dkwJ5_setLength_0 ++ []
theorem dksJ5_setLength_0 : cJ5_setLength.data.toList.drop 0 = dktJ5_setLength_0 := by decide +kernel
theorem dJ5_setLength_0 : decode cJ5_setLength 0 = .ok (.aload_n 0, 1) := dk_42 (dk_at dksJ5_setLength_0 0 rfl rfl)
theorem dJ5_setLength_1 : decode cJ5_setLength 1 = .ok (.iload_n 1, 1) := dk_27 (dk_at dksJ5_setLength_0 1 rfl rfl)
theorem dJ5_setLength_2 : decode cJ5_setLength 2 = .ok (.invokespecial 333, 3) := dk_183 1 77 (dk_at dksJ5_setLength_0 2 rfl rfl)
theorem dJ5_setLength_5 : decode cJ5_setLength 5 = .ok (.return_, 1) := dk_177 (dk_at dksJ5_setLength_0 5 rfl rfl)
abbrev cJ5_append_4 : ByteArray := prog_42_method_6_code
def yJ5_append_4 : MethodName := ⟨RJ5, "append", "(Ljava/lang/Object;)Ljava/lang/StringBuilder;"⟩
def dkwJ5_append_4_0 : List UInt8 := [42, 43, 184, 0, 17, 182, 0, 23, 176]
abbrev dktJ5_append_4_0 : List UInt8 := dkwJ5_append_4_0 ++ []
theorem dksJ5_append_4_0 : cJ5_append_4.data.toList.drop 0 = dktJ5_append_4_0 := by decide +kernel
theorem dJ5_append_4_0 : decode cJ5_append_4 0 = .ok (.aload_n 0, 1) := dk_42 (dk_at dksJ5_append_4_0 0 rfl rfl)
theorem dJ5_append_4_1 : decode cJ5_append_4 1 = .ok (.aload_n 1, 1) := dk_43 (dk_at dksJ5_append_4_0 1 rfl rfl)
theorem dJ5_append_4_2 : decode cJ5_append_4 2 = .ok (.invokestatic 17, 3) := dk_184 0 17 (dk_at dksJ5_append_4_0 2 rfl rfl)
theorem dJ5_append_4_5 : decode cJ5_append_4 5 = .ok (.invokevirtual 23, 3) := dk_182 0 23 (dk_at dksJ5_append_4_0 5 rfl rfl)
theorem dJ5_append_4_8 : decode cJ5_append_4 8 = .ok (.areturn, 1) := dk_176 (dk_at dksJ5_append_4_0 8 rfl rfl)
theorem q107 : (Jvm.Cond.initialized "java/lang/StringBuilder") ∈ lw_all := lw_g (lw_at lw_m1 7 rfl) rfl
theorem q219 : (Jvm.Cond.instantiable "java/lang/StringBuilder" (4 : Nat)) ∈ lw_all := lw_g (lw_at lw_m1 119 rfl) rfl
theorem q221 : (Jvm.Cond.instanceMethod ({ cls := "java/lang/StringBuilder", name := "<init>", desc := "()V" } : Jvm.MethodName)) ∈ lw_all := lw_g (lw_at lw_m1 121 rfl) rfl
theorem q222 : (Jvm.Cond.code ({ cls := "java/lang/StringBuilder", name := "<init>", desc := "()V" } : Jvm.MethodName) prog_42_method_1_code (1 : Nat) (Option.none : Option Jvm.ClassFile.FieldType)) ∈ lw_all := lw_g (lw_at lw_m1 122 rfl) rfl
theorem q223 : (Jvm.Cond.methodLink "java/lang/StringBuilder" (1 : Nat) ({ cls := "java/lang/AbstractStringBuilder", name := "<init>", desc := "(I)V" } : Jvm.MethodName)) ∈ lw_all := lw_g (lw_at lw_m1 123 rfl) rfl
theorem q241 : (Jvm.Cond.lays "java/lang/StringBuilder" "java/lang/AbstractStringBuilder" "value" "[B") ∈ lw_all := lw_g (lw_at lw_m1 141 rfl) rfl
theorem q243 : (Jvm.Cond.lays "java/lang/StringBuilder" "java/lang/AbstractStringBuilder" "coder" "B") ∈ lw_all := lw_g (lw_at lw_m1 143 rfl) rfl
theorem q245 : (Jvm.Cond.lays "java/lang/StringBuilder" "java/lang/AbstractStringBuilder" "maybeLatin1" "Z") ∈ lw_all := lw_g (lw_at lw_m1 145 rfl) rfl
theorem q247 : (Jvm.Cond.lays "java/lang/StringBuilder" "java/lang/AbstractStringBuilder" "count" "I") ∈ lw_all := lw_g (lw_at lw_m1 147 rfl) rfl
theorem q249 : (Jvm.Cond.superclass "java/lang/StringBuilder" "java/lang/AbstractStringBuilder") ∈ lw_all := lw_g (lw_at lw_m1 149 rfl) rfl
theorem q558 : (Jvm.Cond.instanceMethod ({ cls := "java/lang/StringBuilder", name := "append", desc := "(Ljava/lang/String;)Ljava/lang/StringBuilder;" } : Jvm.MethodName)) ∈ lw_all := lw_g (lw_at lw_m2 218 rfl) rfl
theorem q559 : (Jvm.Cond.selects "java/lang/StringBuilder" ({ cls := "java/lang/StringBuilder", name := "append", desc := "(Ljava/lang/String;)Ljava/lang/StringBuilder;" } : Jvm.MethodName) ({ cls := "java/lang/StringBuilder", name := "append", desc := "(Ljava/lang/String;)Ljava/lang/StringBuilder;" } : Jvm.MethodName)) ∈ lw_all := lw_g (lw_at lw_m2 219 rfl) rfl
theorem q560 : (Jvm.Cond.code ({ cls := "java/lang/StringBuilder", name := "append", desc := "(Ljava/lang/String;)Ljava/lang/StringBuilder;" } : Jvm.MethodName) prog_42_method_7_code (2 : Nat) (Option.some (Jvm.ClassFile.FieldType.object "java/lang/StringBuilder"))) ∈ lw_all := lw_g (lw_at lw_m2 220 rfl) rfl
theorem q561 : (Jvm.Cond.methodLink "java/lang/StringBuilder" (29 : Nat) ({ cls := "java/lang/AbstractStringBuilder", name := "append", desc := "(Ljava/lang/String;)Ljava/lang/AbstractStringBuilder;" } : Jvm.MethodName)) ∈ lw_all := lw_g (lw_at lw_m2 221 rfl) rfl
theorem q606 : (Jvm.Cond.selects "java/lang/StringBuilder" ({ cls := "java/lang/AbstractStringBuilder", name := "isLatin1", desc := "()Z" } : Jvm.MethodName) ({ cls := "java/lang/AbstractStringBuilder", name := "isLatin1", desc := "()Z" } : Jvm.MethodName)) ∈ lw_all := lw_g (lw_at lw_m3 26 rfl) rfl
theorem q678 : (Jvm.Cond.instanceMethod ({ cls := "java/lang/StringBuilder", name := "append", desc := "(I)Ljava/lang/StringBuilder;" } : Jvm.MethodName)) ∈ lw_all := lw_g (lw_at lw_m3 98 rfl) rfl
theorem q679 : (Jvm.Cond.selects "java/lang/StringBuilder" ({ cls := "java/lang/StringBuilder", name := "append", desc := "(I)Ljava/lang/StringBuilder;" } : Jvm.MethodName) ({ cls := "java/lang/StringBuilder", name := "append", desc := "(I)Ljava/lang/StringBuilder;" } : Jvm.MethodName)) ∈ lw_all := lw_g (lw_at lw_m3 99 rfl) rfl
theorem q680 : (Jvm.Cond.code ({ cls := "java/lang/StringBuilder", name := "append", desc := "(I)Ljava/lang/StringBuilder;" } : Jvm.MethodName) prog_42_method_15_code (2 : Nat) (Option.some (Jvm.ClassFile.FieldType.object "java/lang/StringBuilder"))) ∈ lw_all := lw_g (lw_at lw_m3 100 rfl) rfl
theorem q681 : (Jvm.Cond.methodLink "java/lang/StringBuilder" (53 : Nat) ({ cls := "java/lang/AbstractStringBuilder", name := "append", desc := "(I)Ljava/lang/AbstractStringBuilder;" } : Jvm.MethodName)) ∈ lw_all := lw_g (lw_at lw_m3 101 rfl) rfl
theorem q704 : (Jvm.Cond.instanceMethod ({ cls := "java/lang/StringBuilder", name := "toString", desc := "()Ljava/lang/String;" } : Jvm.MethodName)) ∈ lw_all := lw_g (lw_at lw_m3 124 rfl) rfl
theorem q705 : (Jvm.Cond.selects "java/lang/StringBuilder" ({ cls := "java/lang/StringBuilder", name := "toString", desc := "()Ljava/lang/String;" } : Jvm.MethodName) ({ cls := "java/lang/StringBuilder", name := "toString", desc := "()Ljava/lang/String;" } : Jvm.MethodName)) ∈ lw_all := lw_g (lw_at lw_m3 125 rfl) rfl
theorem q706 : (Jvm.Cond.code ({ cls := "java/lang/StringBuilder", name := "toString", desc := "()Ljava/lang/String;" } : Jvm.MethodName) prog_42_method_42_code (1 : Nat) (Option.some (Jvm.ClassFile.FieldType.object "java/lang/String"))) ∈ lw_all := lw_g (lw_at lw_m3 126 rfl) rfl
theorem q707 : (Jvm.Cond.classLink "java/lang/StringBuilder" (18 : Nat) "java/lang/String") ∈ lw_all := lw_g (lw_at lw_m3 127 rfl) rfl
theorem q709 : (Jvm.Cond.methodLink "java/lang/StringBuilder" (137 : Nat) ({ cls := "java/lang/String", name := "<init>", desc := "(Ljava/lang/StringBuilder;)V" } : Jvm.MethodName)) ∈ lw_all := lw_g (lw_at lw_m3 129 rfl) rfl
theorem q719 : (Jvm.Cond.selects "java/lang/StringBuilder" ({ cls := "java/lang/AbstractStringBuilder", name := "getValue", desc := "()[B" } : Jvm.MethodName) ({ cls := "java/lang/AbstractStringBuilder", name := "getValue", desc := "()[B" } : Jvm.MethodName)) ∈ lw_all := lw_g (lw_at lw_m3 139 rfl) rfl
theorem q724 : (Jvm.Cond.selects "java/lang/StringBuilder" ({ cls := "java/lang/AbstractStringBuilder", name := "length", desc := "()I" } : Jvm.MethodName) ({ cls := "java/lang/StringBuilder", name := "length", desc := "()I" } : Jvm.MethodName)) ∈ lw_all := lw_g (lw_at lw_m3 144 rfl) rfl
theorem q725 : (Jvm.Cond.instanceMethod ({ cls := "java/lang/StringBuilder", name := "length", desc := "()I" } : Jvm.MethodName)) ∈ lw_all := lw_g (lw_at lw_m3 145 rfl) rfl
theorem q726 : (Jvm.Cond.code ({ cls := "java/lang/StringBuilder", name := "length", desc := "()I" } : Jvm.MethodName) prog_42_method_93_code (1 : Nat) (Option.some Jvm.ClassFile.FieldType.int)) ∈ lw_all := lw_g (lw_at lw_m3 146 rfl) rfl
theorem q727 : (Jvm.Cond.methodLink "java/lang/StringBuilder" (343 : Nat) ({ cls := "java/lang/AbstractStringBuilder", name := "length", desc := "()I" } : Jvm.MethodName)) ∈ lw_all := lw_g (lw_at lw_m3 147 rfl) rfl
theorem q1014 : (Jvm.Cond.selects "java/lang/StringBuilder" ({ cls := "java/lang/Object", name := "getClass", desc := "()Ljava/lang/Class;" } : Jvm.MethodName) ({ cls := "java/lang/Object", name := "getClass", desc := "()Ljava/lang/Class;" } : Jvm.MethodName)) ∈ lw_all := lw_g (lw_at lw_m4 194 rfl) rfl
theorem q1725 : (Jvm.Cond.castable "java/lang/StringBuilder" "java/lang/Comparable") ∈ lw_tbl := lw_at lw_m7 185 rfl
theorem q1726 : (Jvm.Cond.selects "java/lang/StringBuilder" ({ cls := "java/lang/Comparable", name := "compareTo", desc := "(Ljava/lang/Object;)I" } : Jvm.MethodName) ({ cls := "java/lang/StringBuilder", name := "compareTo", desc := "(Ljava/lang/Object;)I" } : Jvm.MethodName)) ∈ lw_all := lw_g (lw_at lw_m7 186 rfl) rfl
theorem q1727 : (Jvm.Cond.unhidden "java/lang/StringBuilder" "compareTo" "(Ljava/lang/Object;)I") ∈ lw_tbl := lw_at lw_m7 187 rfl
theorem q1728 : (Jvm.Cond.instanceMethod ({ cls := "java/lang/StringBuilder", name := "compareTo", desc := "(Ljava/lang/Object;)I" } : Jvm.MethodName)) ∈ lw_all := lw_g (lw_at lw_m7 188 rfl) rfl
theorem q1729 : (Jvm.Cond.publicMethod ({ cls := "java/lang/StringBuilder", name := "compareTo", desc := "(Ljava/lang/Object;)I" } : Jvm.MethodName)) ∈ lw_tbl := lw_at lw_m7 189 rfl
theorem q1730 : (Jvm.Cond.code ({ cls := "java/lang/StringBuilder", name := "compareTo", desc := "(Ljava/lang/Object;)I" } : Jvm.MethodName) prog_42_method_97_code (2 : Nat) (Option.some Jvm.ClassFile.FieldType.int)) ∈ lw_all := lw_g (lw_at lw_m7 190 rfl) rfl
theorem q1731 : (Jvm.Cond.classLink "java/lang/StringBuilder" (24 : Nat) "java/lang/StringBuilder") ∈ lw_all := lw_g (lw_at lw_m7 191 rfl) rfl
theorem q1732 : (Jvm.Cond.methodLink "java/lang/StringBuilder" (346 : Nat) ({ cls := "java/lang/StringBuilder", name := "compareTo", desc := "(Ljava/lang/StringBuilder;)I" } : Jvm.MethodName)) ∈ lw_all := lw_g (lw_at lw_m7 192 rfl) rfl
theorem q1733 : (Jvm.Cond.instanceMethod ({ cls := "java/lang/StringBuilder", name := "compareTo", desc := "(Ljava/lang/StringBuilder;)I" } : Jvm.MethodName)) ∈ lw_all := lw_g (lw_at lw_m7 193 rfl) rfl
theorem q1734 : (Jvm.Cond.selects "java/lang/StringBuilder" ({ cls := "java/lang/StringBuilder", name := "compareTo", desc := "(Ljava/lang/StringBuilder;)I" } : Jvm.MethodName) ({ cls := "java/lang/StringBuilder", name := "compareTo", desc := "(Ljava/lang/StringBuilder;)I" } : Jvm.MethodName)) ∈ lw_all := lw_g (lw_at lw_m7 194 rfl) rfl
theorem q1735 : (Jvm.Cond.code ({ cls := "java/lang/StringBuilder", name := "compareTo", desc := "(Ljava/lang/StringBuilder;)I" } : Jvm.MethodName) prog_42_method_5_code (2 : Nat) (Option.some Jvm.ClassFile.FieldType.int)) ∈ lw_all := lw_g (lw_at lw_m7 195 rfl) rfl
theorem q1736 : (Jvm.Cond.methodLink "java/lang/StringBuilder" (13 : Nat) ({ cls := "java/lang/AbstractStringBuilder", name := "compareTo", desc := "(Ljava/lang/AbstractStringBuilder;)I" } : Jvm.MethodName)) ∈ lw_all := lw_g (lw_at lw_m7 196 rfl) rfl
theorem q3198 : (Jvm.Cond.selects "java/lang/StringBuilder" ({ cls := "java/lang/Object", name := "equals", desc := "(Ljava/lang/Object;)Z" } : Jvm.MethodName) ({ cls := "java/lang/Object", name := "equals", desc := "(Ljava/lang/Object;)Z" } : Jvm.MethodName)) ∈ lw_all := lw_g (lw_at lw_m13 218 rfl) rfl
theorem q3347 : (Jvm.Cond.instanceMethod ({ cls := "java/lang/StringBuilder", name := "append", desc := "(C)Ljava/lang/StringBuilder;" } : Jvm.MethodName)) ∈ lw_all := lw_g (lw_at lw_m14 127 rfl) rfl
theorem q3348 : (Jvm.Cond.selects "java/lang/StringBuilder" ({ cls := "java/lang/StringBuilder", name := "append", desc := "(C)Ljava/lang/StringBuilder;" } : Jvm.MethodName) ({ cls := "java/lang/StringBuilder", name := "append", desc := "(C)Ljava/lang/StringBuilder;" } : Jvm.MethodName)) ∈ lw_all := lw_g (lw_at lw_m14 128 rfl) rfl
theorem q3349 : (Jvm.Cond.code ({ cls := "java/lang/StringBuilder", name := "append", desc := "(C)Ljava/lang/StringBuilder;" } : Jvm.MethodName) prog_42_method_14_code (2 : Nat) (Option.some (Jvm.ClassFile.FieldType.object "java/lang/StringBuilder"))) ∈ lw_all := lw_g (lw_at lw_m14 129 rfl) rfl
theorem q3350 : (Jvm.Cond.methodLink "java/lang/StringBuilder" (50 : Nat) ({ cls := "java/lang/AbstractStringBuilder", name := "append", desc := "(C)Ljava/lang/AbstractStringBuilder;" } : Jvm.MethodName)) ∈ lw_all := lw_g (lw_at lw_m14 130 rfl) rfl
theorem q3369 : (Jvm.Cond.instanceMethod ({ cls := "java/lang/StringBuilder", name := "setLength", desc := "(I)V" } : Jvm.MethodName)) ∈ lw_all := lw_g (lw_at lw_m14 149 rfl) rfl
theorem q3370 : (Jvm.Cond.selects "java/lang/StringBuilder" ({ cls := "java/lang/StringBuilder", name := "setLength", desc := "(I)V" } : Jvm.MethodName) ({ cls := "java/lang/StringBuilder", name := "setLength", desc := "(I)V" } : Jvm.MethodName)) ∈ lw_all := lw_g (lw_at lw_m14 150 rfl) rfl
theorem q3371 : (Jvm.Cond.code ({ cls := "java/lang/StringBuilder", name := "setLength", desc := "(I)V" } : Jvm.MethodName) prog_42_method_89_code (2 : Nat) (Option.none : Option Jvm.ClassFile.FieldType)) ∈ lw_all := lw_g (lw_at lw_m14 151 rfl) rfl
theorem q3372 : (Jvm.Cond.methodLink "java/lang/StringBuilder" (333 : Nat) ({ cls := "java/lang/AbstractStringBuilder", name := "setLength", desc := "(I)V" } : Jvm.MethodName)) ∈ lw_all := lw_g (lw_at lw_m14 152 rfl) rfl
theorem q3459 : (Jvm.Cond.instanceMethod ({ cls := "java/lang/StringBuilder", name := "append", desc := "(Ljava/lang/Object;)Ljava/lang/StringBuilder;" } : Jvm.MethodName)) ∈ lw_all := lw_g (lw_at lw_m14 239 rfl) rfl
theorem q3460 : (Jvm.Cond.selects "java/lang/StringBuilder" ({ cls := "java/lang/StringBuilder", name := "append", desc := "(Ljava/lang/Object;)Ljava/lang/StringBuilder;" } : Jvm.MethodName) ({ cls := "java/lang/StringBuilder", name := "append", desc := "(Ljava/lang/Object;)Ljava/lang/StringBuilder;" } : Jvm.MethodName)) ∈ lw_all := lw_g (lw_at lw_m15 0 rfl) rfl
theorem q3461 : (Jvm.Cond.code ({ cls := "java/lang/StringBuilder", name := "append", desc := "(Ljava/lang/Object;)Ljava/lang/StringBuilder;" } : Jvm.MethodName) prog_42_method_6_code (2 : Nat) (Option.some (Jvm.ClassFile.FieldType.object "java/lang/StringBuilder"))) ∈ lw_all := lw_g (lw_at lw_m15 1 rfl) rfl
theorem q3462 : (Jvm.Cond.methodLink "java/lang/StringBuilder" (17 : Nat) ({ cls := "java/lang/String", name := "valueOf", desc := "(Ljava/lang/Object;)Ljava/lang/String;" } : Jvm.MethodName)) ∈ lw_all := lw_g (lw_at lw_m15 2 rfl) rfl
theorem q3518 : (Jvm.Cond.selects "java/lang/StringBuilder" ({ cls := "java/lang/Object", name := "toString", desc := "()Ljava/lang/String;" } : Jvm.MethodName) ({ cls := "java/lang/StringBuilder", name := "toString", desc := "()Ljava/lang/String;" } : Jvm.MethodName)) ∈ lw_all := lw_g (lw_at lw_m15 58 rfl) rfl
theorem q3523 : (Jvm.Cond.methodLink "java/lang/StringBuilder" (23 : Nat) ({ cls := "java/lang/StringBuilder", name := "append", desc := "(Ljava/lang/String;)Ljava/lang/StringBuilder;" } : Jvm.MethodName)) ∈ lw_all := lw_g (lw_at lw_m15 63 rfl) rfl
theorem q3538 : (Jvm.Cond.castable "java/lang/StringBuilder" "java/lang/CharSequence") ∈ lw_tbl := lw_at lw_m15 78 rfl
theorem q3539 : (Jvm.Cond.selects "java/lang/StringBuilder" ({ cls := "java/lang/CharSequence", name := "toString", desc := "()Ljava/lang/String;" } : Jvm.MethodName) ({ cls := "java/lang/StringBuilder", name := "toString", desc := "()Ljava/lang/String;" } : Jvm.MethodName)) ∈ lw_all := lw_g (lw_at lw_m15 79 rfl) rfl
theorem q3540 : (Jvm.Cond.unhidden "java/lang/StringBuilder" "toString" "()Ljava/lang/String;") ∈ lw_tbl := lw_at lw_m15 80 rfl
theorem q3541 : (Jvm.Cond.publicMethod ({ cls := "java/lang/StringBuilder", name := "toString", desc := "()Ljava/lang/String;" } : Jvm.MethodName)) ∈ lw_tbl := lw_at lw_m15 81 rfl
theorem q4227 : (Jvm.Cond.selects "java/lang/StringBuilder" ({ cls := "java/lang/StringBuilder", name := "length", desc := "()I" } : Jvm.MethodName) ({ cls := "java/lang/StringBuilder", name := "length", desc := "()I" } : Jvm.MethodName)) ∈ lw_all := lw_g (lw_at lw_m18 47 rfl) rfl
theorem q4240 : (Jvm.Cond.castable "java/lang/StringBuilder" "java/lang/Object") ∈ lw_tbl := lw_at lw_m18 60 rfl
theorem in_J5 : ∀ w ∈ wsJ50, w ∈ lw_all := lw_in wsJ50 [241, 243, 245, 247] (by decide +kernel) (by decide +kernel)
/-! java/lang/String -/
set_option maxRecDepth 100000
def RJ6 : String := "java/lang/String"
def TJ6 : u_T := fun k => match k with
  | 0 => ("java/lang/String", "value", "[B", true)
  | 1 => ("java/lang/String", "coder", "B", true)
  | 2 => ("java/lang/String", "hash", "I", false)
  | _ => ("java/lang/String", "hashIsZero", "Z", false)
def tyJ6 : Nat → FieldType := fun k => match k with
  | 0 => .array .byte
  | 1 => .byte
  | 2 => .int
  | _ => .boolean
abbrev wsJ60 : List Cond := u_ws RJ6 TJ6 4
theorem nmJ6 : ∀ a, a < 4 → ∀ b, b < 4 → a ≠ b → (TJ6 a).2.1 ≠ (TJ6 b).2.1 := by decide +kernel
theorem tyJ6_ok : ∀ k, k < 4 → parseFieldDescriptor (TJ6 k).2.2.1 = some (tyJ6 k) := by decide +kernel
abbrev cJ6_checkBoundsBeginEnd : ByteArray := prog_41_method_158_code
def yJ6_checkBoundsBeginEnd : MethodName := ⟨RJ6, "checkBoundsBeginEnd", "(III)V"⟩
def dkwJ6_checkBoundsBeginEnd_0 : List UInt8 := [26, 27, 28, 178, 4, 29, 184, 4, 38, 87, 177]
abbrev dktJ6_checkBoundsBeginEnd_0 : List UInt8 := dkwJ6_checkBoundsBeginEnd_0 ++ []
theorem dksJ6_checkBoundsBeginEnd_0 : cJ6_checkBoundsBeginEnd.data.toList.drop 0 = dktJ6_checkBoundsBeginEnd_0 := by decide +kernel
theorem dJ6_checkBoundsBeginEnd_0 : decode cJ6_checkBoundsBeginEnd 0 = .ok (.iload_n 0, 1) := dk_26 (dk_at dksJ6_checkBoundsBeginEnd_0 0 rfl rfl)
theorem dJ6_checkBoundsBeginEnd_1 : decode cJ6_checkBoundsBeginEnd 1 = .ok (.iload_n 1, 1) := dk_27 (dk_at dksJ6_checkBoundsBeginEnd_0 1 rfl rfl)
theorem dJ6_checkBoundsBeginEnd_2 : decode cJ6_checkBoundsBeginEnd 2 = .ok (.iload_n 2, 1) := dk_28 (dk_at dksJ6_checkBoundsBeginEnd_0 2 rfl rfl)
theorem dJ6_checkBoundsBeginEnd_3 : decode cJ6_checkBoundsBeginEnd 3 = .ok (.getstatic 1053, 3) := dk_178 4 29 (dk_at dksJ6_checkBoundsBeginEnd_0 3 rfl rfl)
theorem dJ6_checkBoundsBeginEnd_6 : decode cJ6_checkBoundsBeginEnd 6 = .ok (.invokestatic 1062, 3) := dk_184 4 38 (dk_at dksJ6_checkBoundsBeginEnd_0 6 rfl rfl)
theorem dJ6_checkBoundsBeginEnd_9 : decode cJ6_checkBoundsBeginEnd 9 = .ok (.pop, 1) := dk_87 (dk_at dksJ6_checkBoundsBeginEnd_0 9 rfl rfl)
theorem dJ6_checkBoundsBeginEnd_10 : decode cJ6_checkBoundsBeginEnd 10 = .ok (.return_, 1) := dk_177 (dk_at dksJ6_checkBoundsBeginEnd_0 10 rfl rfl)
abbrev cJ6_length : ByteArray := prog_41_method_54_code
def yJ6_length : MethodName := ⟨RJ6, "length", "()I"⟩
def dkwJ6_length_0 : List UInt8 := [42, 180, 0, 9, 190, 42, 182, 1, 79, 122, 172]
abbrev dktJ6_length_0 : List UInt8 := dkwJ6_length_0 ++ []
theorem dksJ6_length_0 : cJ6_length.data.toList.drop 0 = dktJ6_length_0 := by decide +kernel
theorem dJ6_length_0 : decode cJ6_length 0 = .ok (.aload_n 0, 1) := dk_42 (dk_at dksJ6_length_0 0 rfl rfl)
theorem dJ6_length_1 : decode cJ6_length 1 = .ok (.getfield 9, 3) := dk_180 0 9 (dk_at dksJ6_length_0 1 rfl rfl)
theorem dJ6_length_4 : decode cJ6_length 4 = .ok (.arraylength, 1) := dk_190 (dk_at dksJ6_length_0 4 rfl rfl)
theorem dJ6_length_5 : decode cJ6_length 5 = .ok (.aload_n 0, 1) := dk_42 (dk_at dksJ6_length_0 5 rfl rfl)
theorem dJ6_length_6 : decode cJ6_length 6 = .ok (.invokevirtual 335, 3) := dk_182 1 79 (dk_at dksJ6_length_0 6 rfl rfl)
theorem dJ6_length_9 : decode cJ6_length 9 = .ok (.ishr, 1) := dk_122 (dk_at dksJ6_length_0 9 rfl rfl)
theorem dJ6_length_10 : decode cJ6_length 10 = .ok (.ireturn, 1) := dk_172 (dk_at dksJ6_length_0 10 rfl rfl)
abbrev cJ6_coder : ByteArray := prog_41_method_152_code
def yJ6_coder : MethodName := ⟨RJ6, "coder", "()B"⟩
def dkwJ6_coder_0 : List UInt8 := [178, 0, 38, 153, 0, 10, 42, 180, 0, 15, 167, 0, 4, 4, 172]
abbrev dktJ6_coder_0 : List UInt8 := dkwJ6_coder_0 ++ []
theorem dksJ6_coder_0 : cJ6_coder.data.toList.drop 0 = dktJ6_coder_0 := by decide +kernel
theorem dJ6_coder_0 : decode cJ6_coder 0 = .ok (.getstatic 38, 3) := dk_178 0 38 (dk_at dksJ6_coder_0 0 rfl rfl)
theorem dJ6_coder_3 : decode cJ6_coder 3 = .ok (.ifCond .eq 10, 3) := dk_153 0 10 (dk_at dksJ6_coder_0 3 rfl rfl)
theorem dJ6_coder_6 : decode cJ6_coder 6 = .ok (.aload_n 0, 1) := dk_42 (dk_at dksJ6_coder_0 6 rfl rfl)
theorem dJ6_coder_7 : decode cJ6_coder 7 = .ok (.getfield 15, 3) := dk_180 0 15 (dk_at dksJ6_coder_0 7 rfl rfl)
theorem dJ6_coder_10 : decode cJ6_coder 10 = .ok (.goto 4, 3) := dk_167 0 4 (dk_at dksJ6_coder_0 10 rfl rfl)
theorem dJ6_coder_13 : decode cJ6_coder 13 = .ok (.iconst 1, 1) := dk_4 (dk_at dksJ6_coder_0 13 rfl rfl)
theorem dJ6_coder_14 : decode cJ6_coder 14 = .ok (.ireturn, 1) := dk_172 (dk_at dksJ6_coder_0 14 rfl rfl)
abbrev cJ6_checkBoundsOffCount : ByteArray := prog_41_method_157_code
def yJ6_checkBoundsOffCount : MethodName := ⟨RJ6, "checkBoundsOffCount", "(III)I"⟩
def dkwJ6_checkBoundsOffCount_0 : List UInt8 := [26, 27, 28, 178, 4, 29, 184, 4, 41, 172]
abbrev dktJ6_checkBoundsOffCount_0 : List UInt8 := dkwJ6_checkBoundsOffCount_0 ++ []
theorem dksJ6_checkBoundsOffCount_0 : cJ6_checkBoundsOffCount.data.toList.drop 0 = dktJ6_checkBoundsOffCount_0 := by decide +kernel
theorem dJ6_checkBoundsOffCount_0 : decode cJ6_checkBoundsOffCount 0 = .ok (.iload_n 0, 1) := dk_26 (dk_at dksJ6_checkBoundsOffCount_0 0 rfl rfl)
theorem dJ6_checkBoundsOffCount_1 : decode cJ6_checkBoundsOffCount 1 = .ok (.iload_n 1, 1) := dk_27 (dk_at dksJ6_checkBoundsOffCount_0 1 rfl rfl)
theorem dJ6_checkBoundsOffCount_2 : decode cJ6_checkBoundsOffCount 2 = .ok (.iload_n 2, 1) := dk_28 (dk_at dksJ6_checkBoundsOffCount_0 2 rfl rfl)
theorem dJ6_checkBoundsOffCount_3 : decode cJ6_checkBoundsOffCount 3 = .ok (.getstatic 1053, 3) := dk_178 4 29 (dk_at dksJ6_checkBoundsOffCount_0 3 rfl rfl)
theorem dJ6_checkBoundsOffCount_6 : decode cJ6_checkBoundsOffCount 6 = .ok (.invokestatic 1065, 3) := dk_184 4 41 (dk_at dksJ6_checkBoundsOffCount_0 6 rfl rfl)
theorem dJ6_checkBoundsOffCount_9 : decode cJ6_checkBoundsOffCount 9 = .ok (.ireturn, 1) := dk_172 (dk_at dksJ6_checkBoundsOffCount_0 9 rfl rfl)
abbrev cJ6_getBytes : ByteArray := prog_41_method_147_code
def yJ6_getBytes : MethodName := ⟨RJ6, "getBytes", "([BIB)V"⟩
def dkwJ6_getBytes_1 : List UInt8 := [184, 0, 212, 167, 0, 18, 42, 180, 0, 9, 3, 43, 28, 42, 180, 0, 9, 190, 184, 0, 106, 177]
abbrev dktJ6_getBytes_1 : List UInt8 := dkwJ6_getBytes_1 ++ []
def dkwJ6_getBytes_0 : List UInt8 := [42, 182, 1, 79, 29, 160, 0, 23, 42, 180, 0, 9, 3, 43, 28, 29, 120, 42, 180, 0, 9, 190]
abbrev dktJ6_getBytes_0 : List UInt8 := dkwJ6_getBytes_0 ++ dktJ6_getBytes_1
theorem dksJ6_getBytes_0 : cJ6_getBytes.data.toList.drop 0 = dktJ6_getBytes_0 := by decide +kernel
theorem dksJ6_getBytes_1 : cJ6_getBytes.data.toList.drop 22 = dktJ6_getBytes_1 := dk_seg dksJ6_getBytes_0 22 rfl rfl
theorem dJ6_getBytes_0 : decode cJ6_getBytes 0 = .ok (.aload_n 0, 1) := dk_42 (dk_at dksJ6_getBytes_0 0 rfl rfl)
theorem dJ6_getBytes_1 : decode cJ6_getBytes 1 = .ok (.invokevirtual 335, 3) := dk_182 1 79 (dk_at dksJ6_getBytes_0 1 rfl rfl)
theorem dJ6_getBytes_4 : decode cJ6_getBytes 4 = .ok (.iload_n 3, 1) := dk_29 (dk_at dksJ6_getBytes_0 4 rfl rfl)
theorem dJ6_getBytes_5 : decode cJ6_getBytes 5 = .ok (.if_icmp .ne 23, 3) := dk_160 0 23 (dk_at dksJ6_getBytes_0 5 rfl rfl)
theorem dJ6_getBytes_8 : decode cJ6_getBytes 8 = .ok (.aload_n 0, 1) := dk_42 (dk_at dksJ6_getBytes_0 8 rfl rfl)
theorem dJ6_getBytes_9 : decode cJ6_getBytes 9 = .ok (.getfield 9, 3) := dk_180 0 9 (dk_at dksJ6_getBytes_0 9 rfl rfl)
theorem dJ6_getBytes_12 : decode cJ6_getBytes 12 = .ok (.iconst 0, 1) := dk_3 (dk_at dksJ6_getBytes_0 12 rfl rfl)
theorem dJ6_getBytes_13 : decode cJ6_getBytes 13 = .ok (.aload_n 1, 1) := dk_43 (dk_at dksJ6_getBytes_0 13 rfl rfl)
theorem dJ6_getBytes_14 : decode cJ6_getBytes 14 = .ok (.iload_n 2, 1) := dk_28 (dk_at dksJ6_getBytes_0 14 rfl rfl)
theorem dJ6_getBytes_15 : decode cJ6_getBytes 15 = .ok (.iload_n 3, 1) := dk_29 (dk_at dksJ6_getBytes_0 15 rfl rfl)
theorem dJ6_getBytes_16 : decode cJ6_getBytes 16 = .ok (.ishl, 1) := dk_120 (dk_at dksJ6_getBytes_0 16 rfl rfl)
theorem dJ6_getBytes_17 : decode cJ6_getBytes 17 = .ok (.aload_n 0, 1) := dk_42 (dk_at dksJ6_getBytes_0 17 rfl rfl)
theorem dJ6_getBytes_18 : decode cJ6_getBytes 18 = .ok (.getfield 9, 3) := dk_180 0 9 (dk_at dksJ6_getBytes_0 18 rfl rfl)
theorem dJ6_getBytes_21 : decode cJ6_getBytes 21 = .ok (.arraylength, 1) := dk_190 (dk_at dksJ6_getBytes_0 21 rfl rfl)
theorem dJ6_getBytes_22 : decode cJ6_getBytes 22 = .ok (.invokestatic 212, 3) := dk_184 0 212 (dk_at dksJ6_getBytes_1 0 rfl rfl)
theorem dJ6_getBytes_25 : decode cJ6_getBytes 25 = .ok (.goto 18, 3) := dk_167 0 18 (dk_at dksJ6_getBytes_1 3 rfl rfl)
theorem dJ6_getBytes_28 : decode cJ6_getBytes 28 = .ok (.aload_n 0, 1) := dk_42 (dk_at dksJ6_getBytes_1 6 rfl rfl)
theorem dJ6_getBytes_29 : decode cJ6_getBytes 29 = .ok (.getfield 9, 3) := dk_180 0 9 (dk_at dksJ6_getBytes_1 7 rfl rfl)
theorem dJ6_getBytes_32 : decode cJ6_getBytes 32 = .ok (.iconst 0, 1) := dk_3 (dk_at dksJ6_getBytes_1 10 rfl rfl)
theorem dJ6_getBytes_33 : decode cJ6_getBytes 33 = .ok (.aload_n 1, 1) := dk_43 (dk_at dksJ6_getBytes_1 11 rfl rfl)
theorem dJ6_getBytes_34 : decode cJ6_getBytes 34 = .ok (.iload_n 2, 1) := dk_28 (dk_at dksJ6_getBytes_1 12 rfl rfl)
theorem dJ6_getBytes_35 : decode cJ6_getBytes 35 = .ok (.aload_n 0, 1) := dk_42 (dk_at dksJ6_getBytes_1 13 rfl rfl)
theorem dJ6_getBytes_36 : decode cJ6_getBytes 36 = .ok (.getfield 9, 3) := dk_180 0 9 (dk_at dksJ6_getBytes_1 14 rfl rfl)
theorem dJ6_getBytes_39 : decode cJ6_getBytes 39 = .ok (.arraylength, 1) := dk_190 (dk_at dksJ6_getBytes_1 17 rfl rfl)
theorem dJ6_getBytes_40 : decode cJ6_getBytes 40 = .ok (.invokestatic 106, 3) := dk_184 0 106 (dk_at dksJ6_getBytes_1 18 rfl rfl)
theorem dJ6_getBytes_43 : decode cJ6_getBytes 43 = .ok (.return_, 1) := dk_177 (dk_at dksJ6_getBytes_1 21 rfl rfl)
abbrev cJ6_init : ByteArray := prog_41_method_53_code
def yJ6_init : MethodName := ⟨RJ6, "<init>", "(Ljava/lang/StringBuilder;)V"⟩
def dkwJ6_init_0 : List UInt8 := [42, 43, 1, 183, 1, 233, 177]
abbrev dktJ6_init_0 : List UInt8 := dkwJ6_init_0 ++ []
theorem dksJ6_init_0 : cJ6_init.data.toList.drop 0 = dktJ6_init_0 := by decide +kernel
theorem dJ6_init_0 : decode cJ6_init 0 = .ok (.aload_n 0, 1) := dk_42 (dk_at dksJ6_init_0 0 rfl rfl)
theorem dJ6_init_1 : decode cJ6_init 1 = .ok (.aload_n 1, 1) := dk_43 (dk_at dksJ6_init_0 1 rfl rfl)
theorem dJ6_init_2 : decode cJ6_init 2 = .ok (.aconst_null, 1) := dk_1 (dk_at dksJ6_init_0 2 rfl rfl)
theorem dJ6_init_3 : decode cJ6_init 3 = .ok (.invokespecial 489, 3) := dk_183 1 233 (dk_at dksJ6_init_0 3 rfl rfl)
theorem dJ6_init_6 : decode cJ6_init 6 = .ok (.return_, 1) := dk_177 (dk_at dksJ6_init_0 6 rfl rfl)
abbrev cJ6_init_2 : ByteArray := prog_41_method_150_code
def yJ6_init_2 : MethodName := ⟨RJ6, "<init>", "(Ljava/lang/AbstractStringBuilder;Ljava/lang/Void;)V"⟩
def dkwJ6_init_2_4 : List UInt8 := [181, 0, 9, 177]
abbrev dktJ6_init_2_4 : List UInt8 := dkwJ6_init_2_4 ++ []
def dkwJ6_init_2_3 : List UInt8 := [184, 0, 47, 181, 0, 15, 177, 42, 4, 181, 0, 15, 42, 45, 3, 21, 4, 4, 120, 184, 0, 54]
abbrev dktJ6_init_2_3 : List UInt8 := dkwJ6_init_2_3 ++ dktJ6_init_2_4
def dkwJ6_init_2_2 : List UInt8 := [180, 4, 24, 153, 0, 28, 42, 45, 3, 21, 4, 184, 4, 27, 181, 0, 9, 42, 42, 180, 0, 9, 21, 4]
abbrev dktJ6_init_2_2 : List UInt8 := dkwJ6_init_2_2 ++ dktJ6_init_2_3
def dkwJ6_init_2_1 : List UInt8 := [181, 0, 15, 42, 45, 3, 21, 4, 184, 0, 54, 181, 0, 9, 167, 0, 59, 178, 0, 38, 153, 0, 35, 43]
abbrev dktJ6_init_2_1 : List UInt8 := dkwJ6_init_2_1 ++ dktJ6_init_2_2
def dkwJ6_init_2_0 : List UInt8 := [42, 183, 0, 1, 43, 182, 2, 40, 78, 43, 182, 2, 37, 54, 4, 43, 182, 4, 23, 153, 0, 22, 42, 3]
abbrev dktJ6_init_2_0 : List UInt8 := dkwJ6_init_2_0 ++ dktJ6_init_2_1
theorem dksJ6_init_2_0 : cJ6_init_2.data.toList.drop 0 = dktJ6_init_2_0 := by decide +kernel
theorem dksJ6_init_2_1 : cJ6_init_2.data.toList.drop 24 = dktJ6_init_2_1 := dk_seg dksJ6_init_2_0 24 rfl rfl
theorem dksJ6_init_2_2 : cJ6_init_2.data.toList.drop 48 = dktJ6_init_2_2 := dk_seg dksJ6_init_2_1 24 rfl rfl
theorem dksJ6_init_2_3 : cJ6_init_2.data.toList.drop 72 = dktJ6_init_2_3 := dk_seg dksJ6_init_2_2 24 rfl rfl
theorem dksJ6_init_2_4 : cJ6_init_2.data.toList.drop 94 = dktJ6_init_2_4 := dk_seg dksJ6_init_2_3 22 rfl rfl
theorem dJ6_init_2_0 : decode cJ6_init_2 0 = .ok (.aload_n 0, 1) := dk_42 (dk_at dksJ6_init_2_0 0 rfl rfl)
theorem dJ6_init_2_1 : decode cJ6_init_2 1 = .ok (.invokespecial 1, 3) := dk_183 0 1 (dk_at dksJ6_init_2_0 1 rfl rfl)
theorem dJ6_init_2_4 : decode cJ6_init_2 4 = .ok (.aload_n 1, 1) := dk_43 (dk_at dksJ6_init_2_0 4 rfl rfl)
theorem dJ6_init_2_5 : decode cJ6_init_2 5 = .ok (.invokevirtual 552, 3) := dk_182 2 40 (dk_at dksJ6_init_2_0 5 rfl rfl)
theorem dJ6_init_2_8 : decode cJ6_init_2 8 = .ok (.astore_n 3, 1) := dk_78 (dk_at dksJ6_init_2_0 8 rfl rfl)
theorem dJ6_init_2_9 : decode cJ6_init_2 9 = .ok (.aload_n 1, 1) := dk_43 (dk_at dksJ6_init_2_0 9 rfl rfl)
theorem dJ6_init_2_10 : decode cJ6_init_2 10 = .ok (.invokevirtual 549, 3) := dk_182 2 37 (dk_at dksJ6_init_2_0 10 rfl rfl)
theorem dJ6_init_2_13 : decode cJ6_init_2 13 = .ok (.istore 4, 2) := dk_54 4 (dk_at dksJ6_init_2_0 13 rfl rfl)
theorem dJ6_init_2_15 : decode cJ6_init_2 15 = .ok (.aload_n 1, 1) := dk_43 (dk_at dksJ6_init_2_0 15 rfl rfl)
theorem dJ6_init_2_16 : decode cJ6_init_2 16 = .ok (.invokevirtual 1047, 3) := dk_182 4 23 (dk_at dksJ6_init_2_0 16 rfl rfl)
theorem dJ6_init_2_19 : decode cJ6_init_2 19 = .ok (.ifCond .eq 22, 3) := dk_153 0 22 (dk_at dksJ6_init_2_0 19 rfl rfl)
theorem dJ6_init_2_22 : decode cJ6_init_2 22 = .ok (.aload_n 0, 1) := dk_42 (dk_at dksJ6_init_2_0 22 rfl rfl)
theorem dJ6_init_2_23 : decode cJ6_init_2 23 = .ok (.iconst 0, 1) := dk_3 (dk_at dksJ6_init_2_0 23 rfl rfl)
theorem dJ6_init_2_24 : decode cJ6_init_2 24 = .ok (.putfield 15, 3) := dk_181 0 15 (dk_at dksJ6_init_2_1 0 rfl rfl)
theorem dJ6_init_2_27 : decode cJ6_init_2 27 = .ok (.aload_n 0, 1) := dk_42 (dk_at dksJ6_init_2_1 3 rfl rfl)
theorem dJ6_init_2_28 : decode cJ6_init_2 28 = .ok (.aload_n 3, 1) := dk_45 (dk_at dksJ6_init_2_1 4 rfl rfl)
theorem dJ6_init_2_29 : decode cJ6_init_2 29 = .ok (.iconst 0, 1) := dk_3 (dk_at dksJ6_init_2_1 5 rfl rfl)
theorem dJ6_init_2_30 : decode cJ6_init_2 30 = .ok (.iload 4, 2) := dk_21 4 (dk_at dksJ6_init_2_1 6 rfl rfl)
theorem dJ6_init_2_32 : decode cJ6_init_2 32 = .ok (.invokestatic 54, 3) := dk_184 0 54 (dk_at dksJ6_init_2_1 8 rfl rfl)
theorem dJ6_init_2_35 : decode cJ6_init_2 35 = .ok (.putfield 9, 3) := dk_181 0 9 (dk_at dksJ6_init_2_1 11 rfl rfl)
theorem dJ6_init_2_38 : decode cJ6_init_2 38 = .ok (.goto 59, 3) := dk_167 0 59 (dk_at dksJ6_init_2_1 14 rfl rfl)
theorem dJ6_init_2_41 : decode cJ6_init_2 41 = .ok (.getstatic 38, 3) := dk_178 0 38 (dk_at dksJ6_init_2_1 17 rfl rfl)
theorem dJ6_init_2_44 : decode cJ6_init_2 44 = .ok (.ifCond .eq 35, 3) := dk_153 0 35 (dk_at dksJ6_init_2_1 20 rfl rfl)
theorem dJ6_init_2_47 : decode cJ6_init_2 47 = .ok (.aload_n 1, 1) := dk_43 (dk_at dksJ6_init_2_1 23 rfl rfl)
theorem dJ6_init_2_48 : decode cJ6_init_2 48 = .ok (.getfield 1048, 3) := dk_180 4 24 (dk_at dksJ6_init_2_2 0 rfl rfl)
theorem dJ6_init_2_51 : decode cJ6_init_2 51 = .ok (.ifCond .eq 28, 3) := dk_153 0 28 (dk_at dksJ6_init_2_2 3 rfl rfl)
theorem dJ6_init_2_54 : decode cJ6_init_2 54 = .ok (.aload_n 0, 1) := dk_42 (dk_at dksJ6_init_2_2 6 rfl rfl)
theorem dJ6_init_2_55 : decode cJ6_init_2 55 = .ok (.aload_n 3, 1) := dk_45 (dk_at dksJ6_init_2_2 7 rfl rfl)
theorem dJ6_init_2_56 : decode cJ6_init_2 56 = .ok (.iconst 0, 1) := dk_3 (dk_at dksJ6_init_2_2 8 rfl rfl)
theorem dJ6_init_2_57 : decode cJ6_init_2 57 = .ok (.iload 4, 2) := dk_21 4 (dk_at dksJ6_init_2_2 9 rfl rfl)
theorem dJ6_init_2_59 : decode cJ6_init_2 59 = .ok (.invokestatic 1051, 3) := dk_184 4 27 (dk_at dksJ6_init_2_2 11 rfl rfl)
theorem dJ6_init_2_62 : decode cJ6_init_2 62 = .ok (.putfield 9, 3) := dk_181 0 9 (dk_at dksJ6_init_2_2 14 rfl rfl)
theorem dJ6_init_2_65 : decode cJ6_init_2 65 = .ok (.aload_n 0, 1) := dk_42 (dk_at dksJ6_init_2_2 17 rfl rfl)
theorem dJ6_init_2_66 : decode cJ6_init_2 66 = .ok (.aload_n 0, 1) := dk_42 (dk_at dksJ6_init_2_2 18 rfl rfl)
theorem dJ6_init_2_67 : decode cJ6_init_2 67 = .ok (.getfield 9, 3) := dk_180 0 9 (dk_at dksJ6_init_2_2 19 rfl rfl)
theorem dJ6_init_2_70 : decode cJ6_init_2 70 = .ok (.iload 4, 2) := dk_21 4 (dk_at dksJ6_init_2_2 22 rfl rfl)
theorem dJ6_init_2_72 : decode cJ6_init_2 72 = .ok (.invokestatic 47, 3) := dk_184 0 47 (dk_at dksJ6_init_2_3 0 rfl rfl)
theorem dJ6_init_2_75 : decode cJ6_init_2 75 = .ok (.putfield 15, 3) := dk_181 0 15 (dk_at dksJ6_init_2_3 3 rfl rfl)
theorem dJ6_init_2_78 : decode cJ6_init_2 78 = .ok (.return_, 1) := dk_177 (dk_at dksJ6_init_2_3 6 rfl rfl)
theorem dJ6_init_2_79 : decode cJ6_init_2 79 = .ok (.aload_n 0, 1) := dk_42 (dk_at dksJ6_init_2_3 7 rfl rfl)
theorem dJ6_init_2_80 : decode cJ6_init_2 80 = .ok (.iconst 1, 1) := dk_4 (dk_at dksJ6_init_2_3 8 rfl rfl)
theorem dJ6_init_2_81 : decode cJ6_init_2 81 = .ok (.putfield 15, 3) := dk_181 0 15 (dk_at dksJ6_init_2_3 9 rfl rfl)
theorem dJ6_init_2_84 : decode cJ6_init_2 84 = .ok (.aload_n 0, 1) := dk_42 (dk_at dksJ6_init_2_3 12 rfl rfl)
theorem dJ6_init_2_85 : decode cJ6_init_2 85 = .ok (.aload_n 3, 1) := dk_45 (dk_at dksJ6_init_2_3 13 rfl rfl)
theorem dJ6_init_2_86 : decode cJ6_init_2 86 = .ok (.iconst 0, 1) := dk_3 (dk_at dksJ6_init_2_3 14 rfl rfl)
theorem dJ6_init_2_87 : decode cJ6_init_2 87 = .ok (.iload 4, 2) := dk_21 4 (dk_at dksJ6_init_2_3 15 rfl rfl)
theorem dJ6_init_2_89 : decode cJ6_init_2 89 = .ok (.iconst 1, 1) := dk_4 (dk_at dksJ6_init_2_3 17 rfl rfl)
theorem dJ6_init_2_90 : decode cJ6_init_2 90 = .ok (.ishl, 1) := dk_120 (dk_at dksJ6_init_2_3 18 rfl rfl)
theorem dJ6_init_2_91 : decode cJ6_init_2 91 = .ok (.invokestatic 54, 3) := dk_184 0 54 (dk_at dksJ6_init_2_3 19 rfl rfl)
theorem dJ6_init_2_94 : decode cJ6_init_2 94 = .ok (.putfield 9, 3) := dk_181 0 9 (dk_at dksJ6_init_2_4 0 rfl rfl)
theorem dJ6_init_2_97 : decode cJ6_init_2 97 = .ok (.return_, 1) := dk_177 (dk_at dksJ6_init_2_4 3 rfl rfl)
abbrev cJ6_compareTo : ByteArray := prog_41_method_162_code
def yJ6_compareTo : MethodName := ⟨RJ6, "compareTo", "(Ljava/lang/Object;)I"⟩
def dkwJ6_compareTo_0 : List UInt8 := [42, 43, 192, 0, 10, 182, 4, 60, 172]
abbrev dktJ6_compareTo_0 : List UInt8 := dkwJ6_compareTo_0 ++ []
theorem dksJ6_compareTo_0 : cJ6_compareTo.data.toList.drop 0 = dktJ6_compareTo_0 := by decide +kernel
theorem dJ6_compareTo_0 : decode cJ6_compareTo 0 = .ok (.aload_n 0, 1) := dk_42 (dk_at dksJ6_compareTo_0 0 rfl rfl)
theorem dJ6_compareTo_1 : decode cJ6_compareTo 1 = .ok (.aload_n 1, 1) := dk_43 (dk_at dksJ6_compareTo_0 1 rfl rfl)
theorem dJ6_compareTo_2 : decode cJ6_compareTo 2 = .ok (.checkcast 10, 3) := dk_192 0 10 (dk_at dksJ6_compareTo_0 2 rfl rfl)
theorem dJ6_compareTo_5 : decode cJ6_compareTo 5 = .ok (.invokevirtual 1084, 3) := dk_182 4 60 (dk_at dksJ6_compareTo_0 5 rfl rfl)
theorem dJ6_compareTo_8 : decode cJ6_compareTo 8 = .ok (.ireturn, 1) := dk_172 (dk_at dksJ6_compareTo_0 8 rfl rfl)
abbrev cJ6_compareTo_2 : ByteArray := prog_41_method_71_code
def yJ6_compareTo_2 : MethodName := ⟨RJ6, "compareTo", "(Ljava/lang/String;)I"⟩
def dkwJ6_compareTo_2_2 : List UInt8 := [154, 0, 11, 44, 45, 184, 2, 79, 167, 0, 8, 44, 45, 184, 2, 82, 172]
abbrev dktJ6_compareTo_2_2 : List UInt8 := dkwJ6_compareTo_2_2 ++ []
def dkwJ6_compareTo_2_1 : List UInt8 := [160, 0, 22, 21, 4, 154, 0, 11, 44, 45, 184, 2, 74, 167, 0, 8, 44, 45, 184, 2, 78, 172, 21, 4]
abbrev dktJ6_compareTo_2_1 : List UInt8 := dkwJ6_compareTo_2_1 ++ dktJ6_compareTo_2_2
def dkwJ6_compareTo_2_0 : List UInt8 := [42, 180, 0, 9, 77, 43, 180, 0, 9, 78, 42, 182, 1, 79, 54, 4, 21, 4, 43, 182, 1, 79]
abbrev dktJ6_compareTo_2_0 : List UInt8 := dkwJ6_compareTo_2_0 ++ dktJ6_compareTo_2_1
theorem dksJ6_compareTo_2_0 : cJ6_compareTo_2.data.toList.drop 0 = dktJ6_compareTo_2_0 := by decide +kernel
theorem dksJ6_compareTo_2_1 : cJ6_compareTo_2.data.toList.drop 22 = dktJ6_compareTo_2_1 := dk_seg dksJ6_compareTo_2_0 22 rfl rfl
theorem dksJ6_compareTo_2_2 : cJ6_compareTo_2.data.toList.drop 46 = dktJ6_compareTo_2_2 := dk_seg dksJ6_compareTo_2_1 24 rfl rfl
theorem dJ6_compareTo_2_0 : decode cJ6_compareTo_2 0 = .ok (.aload_n 0, 1) := dk_42 (dk_at dksJ6_compareTo_2_0 0 rfl rfl)
theorem dJ6_compareTo_2_1 : decode cJ6_compareTo_2 1 = .ok (.getfield 9, 3) := dk_180 0 9 (dk_at dksJ6_compareTo_2_0 1 rfl rfl)
theorem dJ6_compareTo_2_4 : decode cJ6_compareTo_2 4 = .ok (.astore_n 2, 1) := dk_77 (dk_at dksJ6_compareTo_2_0 4 rfl rfl)
theorem dJ6_compareTo_2_5 : decode cJ6_compareTo_2 5 = .ok (.aload_n 1, 1) := dk_43 (dk_at dksJ6_compareTo_2_0 5 rfl rfl)
theorem dJ6_compareTo_2_6 : decode cJ6_compareTo_2 6 = .ok (.getfield 9, 3) := dk_180 0 9 (dk_at dksJ6_compareTo_2_0 6 rfl rfl)
theorem dJ6_compareTo_2_9 : decode cJ6_compareTo_2 9 = .ok (.astore_n 3, 1) := dk_78 (dk_at dksJ6_compareTo_2_0 9 rfl rfl)
theorem dJ6_compareTo_2_10 : decode cJ6_compareTo_2 10 = .ok (.aload_n 0, 1) := dk_42 (dk_at dksJ6_compareTo_2_0 10 rfl rfl)
theorem dJ6_compareTo_2_11 : decode cJ6_compareTo_2 11 = .ok (.invokevirtual 335, 3) := dk_182 1 79 (dk_at dksJ6_compareTo_2_0 11 rfl rfl)
theorem dJ6_compareTo_2_14 : decode cJ6_compareTo_2 14 = .ok (.istore 4, 2) := dk_54 4 (dk_at dksJ6_compareTo_2_0 14 rfl rfl)
theorem dJ6_compareTo_2_16 : decode cJ6_compareTo_2 16 = .ok (.iload 4, 2) := dk_21 4 (dk_at dksJ6_compareTo_2_0 16 rfl rfl)
theorem dJ6_compareTo_2_18 : decode cJ6_compareTo_2 18 = .ok (.aload_n 1, 1) := dk_43 (dk_at dksJ6_compareTo_2_0 18 rfl rfl)
theorem dJ6_compareTo_2_19 : decode cJ6_compareTo_2 19 = .ok (.invokevirtual 335, 3) := dk_182 1 79 (dk_at dksJ6_compareTo_2_0 19 rfl rfl)
theorem dJ6_compareTo_2_22 : decode cJ6_compareTo_2 22 = .ok (.if_icmp .ne 22, 3) := dk_160 0 22 (dk_at dksJ6_compareTo_2_1 0 rfl rfl)
theorem dJ6_compareTo_2_25 : decode cJ6_compareTo_2 25 = .ok (.iload 4, 2) := dk_21 4 (dk_at dksJ6_compareTo_2_1 3 rfl rfl)
theorem dJ6_compareTo_2_27 : decode cJ6_compareTo_2 27 = .ok (.ifCond .ne 11, 3) := dk_154 0 11 (dk_at dksJ6_compareTo_2_1 5 rfl rfl)
theorem dJ6_compareTo_2_30 : decode cJ6_compareTo_2 30 = .ok (.aload_n 2, 1) := dk_44 (dk_at dksJ6_compareTo_2_1 8 rfl rfl)
theorem dJ6_compareTo_2_31 : decode cJ6_compareTo_2 31 = .ok (.aload_n 3, 1) := dk_45 (dk_at dksJ6_compareTo_2_1 9 rfl rfl)
theorem dJ6_compareTo_2_32 : decode cJ6_compareTo_2 32 = .ok (.invokestatic 586, 3) := dk_184 2 74 (dk_at dksJ6_compareTo_2_1 10 rfl rfl)
theorem dJ6_compareTo_2_35 : decode cJ6_compareTo_2 35 = .ok (.goto 8, 3) := dk_167 0 8 (dk_at dksJ6_compareTo_2_1 13 rfl rfl)
theorem dJ6_compareTo_2_38 : decode cJ6_compareTo_2 38 = .ok (.aload_n 2, 1) := dk_44 (dk_at dksJ6_compareTo_2_1 16 rfl rfl)
theorem dJ6_compareTo_2_39 : decode cJ6_compareTo_2 39 = .ok (.aload_n 3, 1) := dk_45 (dk_at dksJ6_compareTo_2_1 17 rfl rfl)
theorem dJ6_compareTo_2_40 : decode cJ6_compareTo_2 40 = .ok (.invokestatic 590, 3) := dk_184 2 78 (dk_at dksJ6_compareTo_2_1 18 rfl rfl)
theorem dJ6_compareTo_2_43 : decode cJ6_compareTo_2 43 = .ok (.ireturn, 1) := dk_172 (dk_at dksJ6_compareTo_2_1 21 rfl rfl)
theorem dJ6_compareTo_2_44 : decode cJ6_compareTo_2 44 = .ok (.iload 4, 2) := dk_21 4 (dk_at dksJ6_compareTo_2_1 22 rfl rfl)
theorem dJ6_compareTo_2_46 : decode cJ6_compareTo_2 46 = .ok (.ifCond .ne 11, 3) := dk_154 0 11 (dk_at dksJ6_compareTo_2_2 0 rfl rfl)
theorem dJ6_compareTo_2_49 : decode cJ6_compareTo_2 49 = .ok (.aload_n 2, 1) := dk_44 (dk_at dksJ6_compareTo_2_2 3 rfl rfl)
theorem dJ6_compareTo_2_50 : decode cJ6_compareTo_2 50 = .ok (.aload_n 3, 1) := dk_45 (dk_at dksJ6_compareTo_2_2 4 rfl rfl)
theorem dJ6_compareTo_2_51 : decode cJ6_compareTo_2 51 = .ok (.invokestatic 591, 3) := dk_184 2 79 (dk_at dksJ6_compareTo_2_2 5 rfl rfl)
theorem dJ6_compareTo_2_54 : decode cJ6_compareTo_2 54 = .ok (.goto 8, 3) := dk_167 0 8 (dk_at dksJ6_compareTo_2_2 8 rfl rfl)
theorem dJ6_compareTo_2_57 : decode cJ6_compareTo_2 57 = .ok (.aload_n 2, 1) := dk_44 (dk_at dksJ6_compareTo_2_2 11 rfl rfl)
theorem dJ6_compareTo_2_58 : decode cJ6_compareTo_2 58 = .ok (.aload_n 3, 1) := dk_45 (dk_at dksJ6_compareTo_2_2 12 rfl rfl)
theorem dJ6_compareTo_2_59 : decode cJ6_compareTo_2 59 = .ok (.invokestatic 594, 3) := dk_184 2 82 (dk_at dksJ6_compareTo_2_2 13 rfl rfl)
theorem dJ6_compareTo_2_62 : decode cJ6_compareTo_2 62 = .ok (.ireturn, 1) := dk_172 (dk_at dksJ6_compareTo_2_2 16 rfl rfl)
abbrev cJ6_checkOffset : ByteArray := prog_41_method_156_code
def yJ6_checkOffset : MethodName := ⟨RJ6, "checkOffset", "(II)V"⟩
def dkwJ6_checkOffset_0 : List UInt8 := [26, 27, 27, 178, 4, 29, 184, 4, 38, 87, 177]
abbrev dktJ6_checkOffset_0 : List UInt8 := dkwJ6_checkOffset_0 ++ []
theorem dksJ6_checkOffset_0 : cJ6_checkOffset.data.toList.drop 0 = dktJ6_checkOffset_0 := by decide +kernel
theorem dJ6_checkOffset_0 : decode cJ6_checkOffset 0 = .ok (.iload_n 0, 1) := dk_26 (dk_at dksJ6_checkOffset_0 0 rfl rfl)
theorem dJ6_checkOffset_1 : decode cJ6_checkOffset 1 = .ok (.iload_n 1, 1) := dk_27 (dk_at dksJ6_checkOffset_0 1 rfl rfl)
theorem dJ6_checkOffset_2 : decode cJ6_checkOffset 2 = .ok (.iload_n 1, 1) := dk_27 (dk_at dksJ6_checkOffset_0 2 rfl rfl)
theorem dJ6_checkOffset_3 : decode cJ6_checkOffset 3 = .ok (.getstatic 1053, 3) := dk_178 4 29 (dk_at dksJ6_checkOffset_0 3 rfl rfl)
theorem dJ6_checkOffset_6 : decode cJ6_checkOffset 6 = .ok (.invokestatic 1062, 3) := dk_184 4 38 (dk_at dksJ6_checkOffset_0 6 rfl rfl)
theorem dJ6_checkOffset_9 : decode cJ6_checkOffset 9 = .ok (.pop, 1) := dk_87 (dk_at dksJ6_checkOffset_0 9 rfl rfl)
theorem dJ6_checkOffset_10 : decode cJ6_checkOffset 10 = .ok (.return_, 1) := dk_177 (dk_at dksJ6_checkOffset_0 10 rfl rfl)
abbrev cJ6_hashCode : ByteArray := prog_41_method_78_code
def yJ6_hashCode : MethodName := ⟨RJ6, "hashCode", "()I"⟩
def dkwJ6_hashCode_2 : List UInt8 := [181, 0, 23, 167, 0, 8, 42, 27, 181, 0, 19, 27, 172]
abbrev dktJ6_hashCode_2 : List UInt8 := dkwJ6_hashCode_2 ++ []
def dkwJ6_hashCode_1 : List UInt8 := [180, 0, 9, 184, 2, 116, 167, 0, 10, 42, 180, 0, 9, 184, 2, 120, 60, 27, 154, 0, 11, 42, 4]
abbrev dktJ6_hashCode_1 : List UInt8 := dkwJ6_hashCode_1 ++ dktJ6_hashCode_2
def dkwJ6_hashCode_0 : List UInt8 := [42, 180, 0, 19, 60, 27, 154, 0, 52, 42, 180, 0, 23, 154, 0, 45, 42, 182, 1, 236, 153, 0, 13, 42]
abbrev dktJ6_hashCode_0 : List UInt8 := dkwJ6_hashCode_0 ++ dktJ6_hashCode_1
theorem dksJ6_hashCode_0 : cJ6_hashCode.data.toList.drop 0 = dktJ6_hashCode_0 := by decide +kernel
theorem dksJ6_hashCode_1 : cJ6_hashCode.data.toList.drop 24 = dktJ6_hashCode_1 := dk_seg dksJ6_hashCode_0 24 rfl rfl
theorem dksJ6_hashCode_2 : cJ6_hashCode.data.toList.drop 47 = dktJ6_hashCode_2 := dk_seg dksJ6_hashCode_1 23 rfl rfl
theorem dJ6_hashCode_0 : decode cJ6_hashCode 0 = .ok (.aload_n 0, 1) := dk_42 (dk_at dksJ6_hashCode_0 0 rfl rfl)
theorem dJ6_hashCode_1 : decode cJ6_hashCode 1 = .ok (.getfield 19, 3) := dk_180 0 19 (dk_at dksJ6_hashCode_0 1 rfl rfl)
theorem dJ6_hashCode_4 : decode cJ6_hashCode 4 = .ok (.istore_n 1, 1) := dk_60 (dk_at dksJ6_hashCode_0 4 rfl rfl)
theorem dJ6_hashCode_5 : decode cJ6_hashCode 5 = .ok (.iload_n 1, 1) := dk_27 (dk_at dksJ6_hashCode_0 5 rfl rfl)
theorem dJ6_hashCode_6 : decode cJ6_hashCode 6 = .ok (.ifCond .ne 52, 3) := dk_154 0 52 (dk_at dksJ6_hashCode_0 6 rfl rfl)
theorem dJ6_hashCode_9 : decode cJ6_hashCode 9 = .ok (.aload_n 0, 1) := dk_42 (dk_at dksJ6_hashCode_0 9 rfl rfl)
theorem dJ6_hashCode_10 : decode cJ6_hashCode 10 = .ok (.getfield 23, 3) := dk_180 0 23 (dk_at dksJ6_hashCode_0 10 rfl rfl)
theorem dJ6_hashCode_13 : decode cJ6_hashCode 13 = .ok (.ifCond .ne 45, 3) := dk_154 0 45 (dk_at dksJ6_hashCode_0 13 rfl rfl)
theorem dJ6_hashCode_16 : decode cJ6_hashCode 16 = .ok (.aload_n 0, 1) := dk_42 (dk_at dksJ6_hashCode_0 16 rfl rfl)
theorem dJ6_hashCode_17 : decode cJ6_hashCode 17 = .ok (.invokevirtual 492, 3) := dk_182 1 236 (dk_at dksJ6_hashCode_0 17 rfl rfl)
theorem dJ6_hashCode_20 : decode cJ6_hashCode 20 = .ok (.ifCond .eq 13, 3) := dk_153 0 13 (dk_at dksJ6_hashCode_0 20 rfl rfl)
theorem dJ6_hashCode_23 : decode cJ6_hashCode 23 = .ok (.aload_n 0, 1) := dk_42 (dk_at dksJ6_hashCode_0 23 rfl rfl)
theorem dJ6_hashCode_24 : decode cJ6_hashCode 24 = .ok (.getfield 9, 3) := dk_180 0 9 (dk_at dksJ6_hashCode_1 0 rfl rfl)
theorem dJ6_hashCode_27 : decode cJ6_hashCode 27 = .ok (.invokestatic 628, 3) := dk_184 2 116 (dk_at dksJ6_hashCode_1 3 rfl rfl)
theorem dJ6_hashCode_30 : decode cJ6_hashCode 30 = .ok (.goto 10, 3) := dk_167 0 10 (dk_at dksJ6_hashCode_1 6 rfl rfl)
theorem dJ6_hashCode_33 : decode cJ6_hashCode 33 = .ok (.aload_n 0, 1) := dk_42 (dk_at dksJ6_hashCode_1 9 rfl rfl)
theorem dJ6_hashCode_34 : decode cJ6_hashCode 34 = .ok (.getfield 9, 3) := dk_180 0 9 (dk_at dksJ6_hashCode_1 10 rfl rfl)
theorem dJ6_hashCode_37 : decode cJ6_hashCode 37 = .ok (.invokestatic 632, 3) := dk_184 2 120 (dk_at dksJ6_hashCode_1 13 rfl rfl)
theorem dJ6_hashCode_40 : decode cJ6_hashCode 40 = .ok (.istore_n 1, 1) := dk_60 (dk_at dksJ6_hashCode_1 16 rfl rfl)
theorem dJ6_hashCode_41 : decode cJ6_hashCode 41 = .ok (.iload_n 1, 1) := dk_27 (dk_at dksJ6_hashCode_1 17 rfl rfl)
theorem dJ6_hashCode_42 : decode cJ6_hashCode 42 = .ok (.ifCond .ne 11, 3) := dk_154 0 11 (dk_at dksJ6_hashCode_1 18 rfl rfl)
theorem dJ6_hashCode_45 : decode cJ6_hashCode 45 = .ok (.aload_n 0, 1) := dk_42 (dk_at dksJ6_hashCode_1 21 rfl rfl)
theorem dJ6_hashCode_46 : decode cJ6_hashCode 46 = .ok (.iconst 1, 1) := dk_4 (dk_at dksJ6_hashCode_1 22 rfl rfl)
theorem dJ6_hashCode_47 : decode cJ6_hashCode 47 = .ok (.putfield 23, 3) := dk_181 0 23 (dk_at dksJ6_hashCode_2 0 rfl rfl)
theorem dJ6_hashCode_50 : decode cJ6_hashCode 50 = .ok (.goto 8, 3) := dk_167 0 8 (dk_at dksJ6_hashCode_2 3 rfl rfl)
theorem dJ6_hashCode_53 : decode cJ6_hashCode 53 = .ok (.aload_n 0, 1) := dk_42 (dk_at dksJ6_hashCode_2 6 rfl rfl)
theorem dJ6_hashCode_54 : decode cJ6_hashCode 54 = .ok (.iload_n 1, 1) := dk_27 (dk_at dksJ6_hashCode_2 7 rfl rfl)
theorem dJ6_hashCode_55 : decode cJ6_hashCode 55 = .ok (.putfield 19, 3) := dk_181 0 19 (dk_at dksJ6_hashCode_2 8 rfl rfl)
theorem dJ6_hashCode_58 : decode cJ6_hashCode 58 = .ok (.iload_n 1, 1) := dk_27 (dk_at dksJ6_hashCode_2 11 rfl rfl)
theorem dJ6_hashCode_59 : decode cJ6_hashCode 59 = .ok (.ireturn, 1) := dk_172 (dk_at dksJ6_hashCode_2 12 rfl rfl)
abbrev cJ6_isLatin1 : ByteArray := prog_41_method_154_code
def yJ6_isLatin1 : MethodName := ⟨RJ6, "isLatin1", "()Z"⟩
def dkwJ6_isLatin1_0 : List UInt8 := [178, 0, 38, 153, 0, 14, 42, 180, 0, 15, 154, 0, 7, 4, 167, 0, 4, 3, 172]
abbrev dktJ6_isLatin1_0 : List UInt8 := dkwJ6_isLatin1_0 ++ []
theorem dksJ6_isLatin1_0 : cJ6_isLatin1.data.toList.drop 0 = dktJ6_isLatin1_0 := by decide +kernel
theorem dJ6_isLatin1_0 : decode cJ6_isLatin1 0 = .ok (.getstatic 38, 3) := dk_178 0 38 (dk_at dksJ6_isLatin1_0 0 rfl rfl)
theorem dJ6_isLatin1_3 : decode cJ6_isLatin1 3 = .ok (.ifCond .eq 14, 3) := dk_153 0 14 (dk_at dksJ6_isLatin1_0 3 rfl rfl)
theorem dJ6_isLatin1_6 : decode cJ6_isLatin1 6 = .ok (.aload_n 0, 1) := dk_42 (dk_at dksJ6_isLatin1_0 6 rfl rfl)
theorem dJ6_isLatin1_7 : decode cJ6_isLatin1 7 = .ok (.getfield 15, 3) := dk_180 0 15 (dk_at dksJ6_isLatin1_0 7 rfl rfl)
theorem dJ6_isLatin1_10 : decode cJ6_isLatin1 10 = .ok (.ifCond .ne 7, 3) := dk_154 0 7 (dk_at dksJ6_isLatin1_0 10 rfl rfl)
theorem dJ6_isLatin1_13 : decode cJ6_isLatin1 13 = .ok (.iconst 1, 1) := dk_4 (dk_at dksJ6_isLatin1_0 13 rfl rfl)
theorem dJ6_isLatin1_14 : decode cJ6_isLatin1 14 = .ok (.goto 4, 3) := dk_167 0 4 (dk_at dksJ6_isLatin1_0 14 rfl rfl)
theorem dJ6_isLatin1_17 : decode cJ6_isLatin1 17 = .ok (.iconst 0, 1) := dk_3 (dk_at dksJ6_isLatin1_0 17 rfl rfl)
theorem dJ6_isLatin1_18 : decode cJ6_isLatin1 18 = .ok (.ireturn, 1) := dk_172 (dk_at dksJ6_isLatin1_0 18 rfl rfl)
abbrev cJ6_equals : ByteArray := prog_41_method_66_code
def yJ6_equals : MethodName := ⟨RJ6, "equals", "(Ljava/lang/Object;)Z"⟩
def dkwJ6_equals_2 : List UInt8 := [184, 2, 29, 153, 0, 7, 4, 167, 0, 4, 3, 172]
abbrev dktJ6_equals_2 : List UInt8 := dkwJ6_equals_2 ++ []
def dkwJ6_equals_1 : List UInt8 := [153, 0, 14, 42, 180, 0, 15, 44, 180, 0, 15, 160, 0, 21, 42, 180, 0, 9, 44, 180, 0, 9]
abbrev dktJ6_equals_1 : List UInt8 := dkwJ6_equals_1 ++ dktJ6_equals_2
def dkwJ6_equals_0 : List UInt8 := [42, 43, 166, 0, 5, 4, 172, 43, 193, 0, 10, 153, 0, 43, 43, 192, 0, 10, 77, 178, 0, 38]
abbrev dktJ6_equals_0 : List UInt8 := dkwJ6_equals_0 ++ dktJ6_equals_1
theorem dksJ6_equals_0 : cJ6_equals.data.toList.drop 0 = dktJ6_equals_0 := by decide +kernel
theorem dksJ6_equals_1 : cJ6_equals.data.toList.drop 22 = dktJ6_equals_1 := dk_seg dksJ6_equals_0 22 rfl rfl
theorem dksJ6_equals_2 : cJ6_equals.data.toList.drop 44 = dktJ6_equals_2 := dk_seg dksJ6_equals_1 22 rfl rfl
theorem dJ6_equals_0 : decode cJ6_equals 0 = .ok (.aload_n 0, 1) := dk_42 (dk_at dksJ6_equals_0 0 rfl rfl)
theorem dJ6_equals_1 : decode cJ6_equals 1 = .ok (.aload_n 1, 1) := dk_43 (dk_at dksJ6_equals_0 1 rfl rfl)
theorem dJ6_equals_2 : decode cJ6_equals 2 = .ok (.if_acmp .ne 5, 3) := dk_166 0 5 (dk_at dksJ6_equals_0 2 rfl rfl)
theorem dJ6_equals_5 : decode cJ6_equals 5 = .ok (.iconst 1, 1) := dk_4 (dk_at dksJ6_equals_0 5 rfl rfl)
theorem dJ6_equals_6 : decode cJ6_equals 6 = .ok (.ireturn, 1) := dk_172 (dk_at dksJ6_equals_0 6 rfl rfl)
theorem dJ6_equals_7 : decode cJ6_equals 7 = .ok (.aload_n 1, 1) := dk_43 (dk_at dksJ6_equals_0 7 rfl rfl)
theorem dJ6_equals_8 : decode cJ6_equals 8 = .ok (.instanceof 10, 3) := dk_193 0 10 (dk_at dksJ6_equals_0 8 rfl rfl)
theorem dJ6_equals_11 : decode cJ6_equals 11 = .ok (.ifCond .eq 43, 3) := dk_153 0 43 (dk_at dksJ6_equals_0 11 rfl rfl)
theorem dJ6_equals_14 : decode cJ6_equals 14 = .ok (.aload_n 1, 1) := dk_43 (dk_at dksJ6_equals_0 14 rfl rfl)
theorem dJ6_equals_15 : decode cJ6_equals 15 = .ok (.checkcast 10, 3) := dk_192 0 10 (dk_at dksJ6_equals_0 15 rfl rfl)
theorem dJ6_equals_18 : decode cJ6_equals 18 = .ok (.astore_n 2, 1) := dk_77 (dk_at dksJ6_equals_0 18 rfl rfl)
theorem dJ6_equals_19 : decode cJ6_equals 19 = .ok (.getstatic 38, 3) := dk_178 0 38 (dk_at dksJ6_equals_0 19 rfl rfl)
theorem dJ6_equals_22 : decode cJ6_equals 22 = .ok (.ifCond .eq 14, 3) := dk_153 0 14 (dk_at dksJ6_equals_1 0 rfl rfl)
theorem dJ6_equals_25 : decode cJ6_equals 25 = .ok (.aload_n 0, 1) := dk_42 (dk_at dksJ6_equals_1 3 rfl rfl)
theorem dJ6_equals_26 : decode cJ6_equals 26 = .ok (.getfield 15, 3) := dk_180 0 15 (dk_at dksJ6_equals_1 4 rfl rfl)
theorem dJ6_equals_29 : decode cJ6_equals 29 = .ok (.aload_n 2, 1) := dk_44 (dk_at dksJ6_equals_1 7 rfl rfl)
theorem dJ6_equals_30 : decode cJ6_equals 30 = .ok (.getfield 15, 3) := dk_180 0 15 (dk_at dksJ6_equals_1 8 rfl rfl)
theorem dJ6_equals_33 : decode cJ6_equals 33 = .ok (.if_icmp .ne 21, 3) := dk_160 0 21 (dk_at dksJ6_equals_1 11 rfl rfl)
theorem dJ6_equals_36 : decode cJ6_equals 36 = .ok (.aload_n 0, 1) := dk_42 (dk_at dksJ6_equals_1 14 rfl rfl)
theorem dJ6_equals_37 : decode cJ6_equals 37 = .ok (.getfield 9, 3) := dk_180 0 9 (dk_at dksJ6_equals_1 15 rfl rfl)
theorem dJ6_equals_40 : decode cJ6_equals 40 = .ok (.aload_n 2, 1) := dk_44 (dk_at dksJ6_equals_1 18 rfl rfl)
theorem dJ6_equals_41 : decode cJ6_equals 41 = .ok (.getfield 9, 3) := dk_180 0 9 (dk_at dksJ6_equals_1 19 rfl rfl)
theorem dJ6_equals_44 : decode cJ6_equals 44 = .ok (.invokestatic 541, 3) := dk_184 2 29 (dk_at dksJ6_equals_2 0 rfl rfl)
theorem dJ6_equals_47 : decode cJ6_equals 47 = .ok (.ifCond .eq 7, 3) := dk_153 0 7 (dk_at dksJ6_equals_2 3 rfl rfl)
theorem dJ6_equals_50 : decode cJ6_equals 50 = .ok (.iconst 1, 1) := dk_4 (dk_at dksJ6_equals_2 6 rfl rfl)
theorem dJ6_equals_51 : decode cJ6_equals 51 = .ok (.goto 4, 3) := dk_167 0 4 (dk_at dksJ6_equals_2 7 rfl rfl)
theorem dJ6_equals_54 : decode cJ6_equals 54 = .ok (.iconst 0, 1) := dk_3 (dk_at dksJ6_equals_2 10 rfl rfl)
theorem dJ6_equals_55 : decode cJ6_equals 55 = .ok (.ireturn, 1) := dk_172 (dk_at dksJ6_equals_2 11 rfl rfl)
abbrev cJ6_charAt : ByteArray := prog_41_method_56_code
def yJ6_charAt : MethodName := ⟨RJ6, "charAt", "(I)C"⟩
def dkwJ6_charAt_1 : List UInt8 := [172]
abbrev dktJ6_charAt_1 : List UInt8 := dkwJ6_charAt_1 ++ []
def dkwJ6_charAt_0 : List UInt8 := [42, 182, 1, 236, 153, 0, 12, 42, 180, 0, 9, 27, 184, 1, 239, 172, 42, 180, 0, 9, 27, 184, 1, 242]
abbrev dktJ6_charAt_0 : List UInt8 := dkwJ6_charAt_0 ++ dktJ6_charAt_1
theorem dksJ6_charAt_0 : cJ6_charAt.data.toList.drop 0 = dktJ6_charAt_0 := by decide +kernel
theorem dksJ6_charAt_1 : cJ6_charAt.data.toList.drop 24 = dktJ6_charAt_1 := dk_seg dksJ6_charAt_0 24 rfl rfl
theorem dJ6_charAt_0 : decode cJ6_charAt 0 = .ok (.aload_n 0, 1) := dk_42 (dk_at dksJ6_charAt_0 0 rfl rfl)
theorem dJ6_charAt_1 : decode cJ6_charAt 1 = .ok (.invokevirtual 492, 3) := dk_182 1 236 (dk_at dksJ6_charAt_0 1 rfl rfl)
theorem dJ6_charAt_4 : decode cJ6_charAt 4 = .ok (.ifCond .eq 12, 3) := dk_153 0 12 (dk_at dksJ6_charAt_0 4 rfl rfl)
theorem dJ6_charAt_7 : decode cJ6_charAt 7 = .ok (.aload_n 0, 1) := dk_42 (dk_at dksJ6_charAt_0 7 rfl rfl)
theorem dJ6_charAt_8 : decode cJ6_charAt 8 = .ok (.getfield 9, 3) := dk_180 0 9 (dk_at dksJ6_charAt_0 8 rfl rfl)
theorem dJ6_charAt_11 : decode cJ6_charAt 11 = .ok (.iload_n 1, 1) := dk_27 (dk_at dksJ6_charAt_0 11 rfl rfl)
theorem dJ6_charAt_12 : decode cJ6_charAt 12 = .ok (.invokestatic 495, 3) := dk_184 1 239 (dk_at dksJ6_charAt_0 12 rfl rfl)
theorem dJ6_charAt_15 : decode cJ6_charAt 15 = .ok (.ireturn, 1) := dk_172 (dk_at dksJ6_charAt_0 15 rfl rfl)
theorem dJ6_charAt_16 : decode cJ6_charAt 16 = .ok (.aload_n 0, 1) := dk_42 (dk_at dksJ6_charAt_0 16 rfl rfl)
theorem dJ6_charAt_17 : decode cJ6_charAt 17 = .ok (.getfield 9, 3) := dk_180 0 9 (dk_at dksJ6_charAt_0 17 rfl rfl)
theorem dJ6_charAt_20 : decode cJ6_charAt 20 = .ok (.iload_n 1, 1) := dk_27 (dk_at dksJ6_charAt_0 20 rfl rfl)
theorem dJ6_charAt_21 : decode cJ6_charAt 21 = .ok (.invokestatic 498, 3) := dk_184 1 242 (dk_at dksJ6_charAt_0 21 rfl rfl)
theorem dJ6_charAt_24 : decode cJ6_charAt 24 = .ok (.ireturn, 1) := dk_172 (dk_at dksJ6_charAt_1 0 rfl rfl)
abbrev cJ6_checkIndex : ByteArray := prog_41_method_155_code
def yJ6_checkIndex : MethodName := ⟨RJ6, "checkIndex", "(II)V"⟩
def dkwJ6_checkIndex_0 : List UInt8 := [26, 27, 178, 4, 29, 184, 4, 35, 87, 177]
abbrev dktJ6_checkIndex_0 : List UInt8 := dkwJ6_checkIndex_0 ++ []
theorem dksJ6_checkIndex_0 : cJ6_checkIndex.data.toList.drop 0 = dktJ6_checkIndex_0 := by decide +kernel
theorem dJ6_checkIndex_0 : decode cJ6_checkIndex 0 = .ok (.iload_n 0, 1) := dk_26 (dk_at dksJ6_checkIndex_0 0 rfl rfl)
theorem dJ6_checkIndex_1 : decode cJ6_checkIndex 1 = .ok (.iload_n 1, 1) := dk_27 (dk_at dksJ6_checkIndex_0 1 rfl rfl)
theorem dJ6_checkIndex_2 : decode cJ6_checkIndex 2 = .ok (.getstatic 1053, 3) := dk_178 4 29 (dk_at dksJ6_checkIndex_0 2 rfl rfl)
theorem dJ6_checkIndex_5 : decode cJ6_checkIndex 5 = .ok (.invokestatic 1059, 3) := dk_184 4 35 (dk_at dksJ6_checkIndex_0 5 rfl rfl)
theorem dJ6_checkIndex_8 : decode cJ6_checkIndex 8 = .ok (.pop, 1) := dk_87 (dk_at dksJ6_checkIndex_0 8 rfl rfl)
theorem dJ6_checkIndex_9 : decode cJ6_checkIndex 9 = .ok (.return_, 1) := dk_177 (dk_at dksJ6_checkIndex_0 9 rfl rfl)
abbrev cJ6_valueOf : ByteArray := prog_41_method_133_code
def yJ6_valueOf : MethodName := ⟨RJ6, "valueOf", "(Ljava/lang/Object;)Ljava/lang/String;"⟩
def dkwJ6_valueOf_0 : List UInt8 := [42, 199, 0, 9, 19, 3, 237, 167, 0, 7, 42, 182, 3, 239, 176]
abbrev dktJ6_valueOf_0 : List UInt8 := dkwJ6_valueOf_0 ++ []
theorem dksJ6_valueOf_0 : cJ6_valueOf.data.toList.drop 0 = dktJ6_valueOf_0 := by decide +kernel
theorem dJ6_valueOf_0 : decode cJ6_valueOf 0 = .ok (.aload_n 0, 1) := dk_42 (dk_at dksJ6_valueOf_0 0 rfl rfl)
theorem dJ6_valueOf_1 : decode cJ6_valueOf 1 = .ok (.ifnonnull 9, 3) := dk_199 0 9 (dk_at dksJ6_valueOf_0 1 rfl rfl)
theorem dJ6_valueOf_4 : decode cJ6_valueOf 4 = .ok (.ldc_w 1005, 3) := dk_19 3 237 (dk_at dksJ6_valueOf_0 4 rfl rfl)
theorem dJ6_valueOf_7 : decode cJ6_valueOf 7 = .ok (.goto 7, 3) := dk_167 0 7 (dk_at dksJ6_valueOf_0 7 rfl rfl)
theorem dJ6_valueOf_10 : decode cJ6_valueOf 10 = .ok (.aload_n 0, 1) := dk_42 (dk_at dksJ6_valueOf_0 10 rfl rfl)
theorem dJ6_valueOf_11 : decode cJ6_valueOf 11 = .ok (.invokevirtual 1007, 3) := dk_182 3 239 (dk_at dksJ6_valueOf_0 11 rfl rfl)
theorem dJ6_valueOf_14 : decode cJ6_valueOf 14 = .ok (.areturn, 1) := dk_176 (dk_at dksJ6_valueOf_0 14 rfl rfl)
abbrev cJ6_init_3 : ByteArray := prog_41_method_151_code
def yJ6_init_3 : MethodName := ⟨RJ6, "<init>", "([BB)V"⟩
def dkwJ6_init_3_0 : List UInt8 := [42, 183, 0, 1, 42, 43, 181, 0, 9, 42, 28, 181, 0, 15, 177]
abbrev dktJ6_init_3_0 : List UInt8 := dkwJ6_init_3_0 ++ []
theorem dksJ6_init_3_0 : cJ6_init_3.data.toList.drop 0 = dktJ6_init_3_0 := by decide +kernel
theorem dJ6_init_3_0 : decode cJ6_init_3 0 = .ok (.aload_n 0, 1) := dk_42 (dk_at dksJ6_init_3_0 0 rfl rfl)
theorem dJ6_init_3_1 : decode cJ6_init_3 1 = .ok (.invokespecial 1, 3) := dk_183 0 1 (dk_at dksJ6_init_3_0 1 rfl rfl)
theorem dJ6_init_3_4 : decode cJ6_init_3 4 = .ok (.aload_n 0, 1) := dk_42 (dk_at dksJ6_init_3_0 4 rfl rfl)
theorem dJ6_init_3_5 : decode cJ6_init_3 5 = .ok (.aload_n 1, 1) := dk_43 (dk_at dksJ6_init_3_0 5 rfl rfl)
theorem dJ6_init_3_6 : decode cJ6_init_3 6 = .ok (.putfield 9, 3) := dk_181 0 9 (dk_at dksJ6_init_3_0 6 rfl rfl)
theorem dJ6_init_3_9 : decode cJ6_init_3 9 = .ok (.aload_n 0, 1) := dk_42 (dk_at dksJ6_init_3_0 9 rfl rfl)
theorem dJ6_init_3_10 : decode cJ6_init_3 10 = .ok (.iload_n 2, 1) := dk_28 (dk_at dksJ6_init_3_0 10 rfl rfl)
theorem dJ6_init_3_11 : decode cJ6_init_3 11 = .ok (.putfield 15, 3) := dk_181 0 15 (dk_at dksJ6_init_3_0 11 rfl rfl)
theorem dJ6_init_3_14 : decode cJ6_init_3 14 = .ok (.return_, 1) := dk_177 (dk_at dksJ6_init_3_0 14 rfl rfl)
abbrev cJ6_toString : ByteArray := prog_41_method_126_code
def yJ6_toString : MethodName := ⟨RJ6, "toString", "()Ljava/lang/String;"⟩
theorem dJ6_toString_0 : decode cJ6_toString 0 = .ok (.aload_n 0, 1) := by decide +kernel
theorem dJ6_toString_1 : decode cJ6_toString 1 = .ok (.areturn, 1) := by decide +kernel
abbrev cJ6_contains : ByteArray := prog_41_method_97_code
def yJ6_contains : MethodName := ⟨RJ6, "contains", "(Ljava/lang/CharSequence;)Z"⟩
def dkwJ6_contains_0 : List UInt8 := [42, 43, 185, 2, 198, 1, 0, 182, 2, 199, 155, 0, 7, 4, 167, 0, 4, 3, 172]
abbrev dktJ6_contains_0 : List UInt8 := dkwJ6_contains_0 ++ []
theorem dksJ6_contains_0 : cJ6_contains.data.toList.drop 0 = dktJ6_contains_0 := by decide +kernel
theorem dJ6_contains_0 : decode cJ6_contains 0 = .ok (.aload_n 0, 1) := dk_42 (dk_at dksJ6_contains_0 0 rfl rfl)
theorem dJ6_contains_1 : decode cJ6_contains 1 = .ok (.aload_n 1, 1) := dk_43 (dk_at dksJ6_contains_0 1 rfl rfl)
theorem dJ6_contains_2 : decode cJ6_contains 2 = .ok (.invokeinterface 710 1, 5) := by decide +kernel
theorem dJ6_contains_7 : decode cJ6_contains 7 = .ok (.invokevirtual 711, 3) := dk_182 2 199 (dk_at dksJ6_contains_0 7 rfl rfl)
theorem dJ6_contains_10 : decode cJ6_contains 10 = .ok (.ifCond .lt 7, 3) := dk_155 0 7 (dk_at dksJ6_contains_0 10 rfl rfl)
theorem dJ6_contains_13 : decode cJ6_contains 13 = .ok (.iconst 1, 1) := dk_4 (dk_at dksJ6_contains_0 13 rfl rfl)
theorem dJ6_contains_14 : decode cJ6_contains 14 = .ok (.goto 4, 3) := dk_167 0 4 (dk_at dksJ6_contains_0 14 rfl rfl)
theorem dJ6_contains_17 : decode cJ6_contains 17 = .ok (.iconst 0, 1) := dk_3 (dk_at dksJ6_contains_0 17 rfl rfl)
theorem dJ6_contains_18 : decode cJ6_contains 18 = .ok (.ireturn, 1) := dk_172 (dk_at dksJ6_contains_0 18 rfl rfl)
abbrev cJ6_indexOf : ByteArray := prog_41_method_84_code
def yJ6_indexOf : MethodName := ⟨RJ6, "indexOf", "(Ljava/lang/String;)I"⟩
def dkwJ6_indexOf_2 : List UInt8 := [154, 0, 5, 2, 172, 42, 180, 0, 9, 43, 180, 0, 9, 184, 2, 138, 172]
abbrev dktJ6_indexOf_2 : List UInt8 := dkwJ6_indexOf_2 ++ []
def dkwJ6_indexOf_1 : List UInt8 := [43, 180, 0, 9, 184, 2, 135, 167, 0, 14, 42, 180, 0, 9, 43, 180, 0, 9, 184, 2, 137, 172, 28]
abbrev dktJ6_indexOf_1 : List UInt8 := dkwJ6_indexOf_1 ++ dktJ6_indexOf_2
def dkwJ6_indexOf_0 : List UInt8 := [42, 182, 1, 79, 61, 28, 43, 182, 1, 79, 160, 0, 36, 42, 182, 1, 236, 153, 0, 17, 42, 180, 0, 9]
abbrev dktJ6_indexOf_0 : List UInt8 := dkwJ6_indexOf_0 ++ dktJ6_indexOf_1
theorem dksJ6_indexOf_0 : cJ6_indexOf.data.toList.drop 0 = dktJ6_indexOf_0 := by decide +kernel
theorem dksJ6_indexOf_1 : cJ6_indexOf.data.toList.drop 24 = dktJ6_indexOf_1 := dk_seg dksJ6_indexOf_0 24 rfl rfl
theorem dksJ6_indexOf_2 : cJ6_indexOf.data.toList.drop 47 = dktJ6_indexOf_2 := dk_seg dksJ6_indexOf_1 23 rfl rfl
theorem dJ6_indexOf_0 : decode cJ6_indexOf 0 = .ok (.aload_n 0, 1) := dk_42 (dk_at dksJ6_indexOf_0 0 rfl rfl)
theorem dJ6_indexOf_1 : decode cJ6_indexOf 1 = .ok (.invokevirtual 335, 3) := dk_182 1 79 (dk_at dksJ6_indexOf_0 1 rfl rfl)
theorem dJ6_indexOf_4 : decode cJ6_indexOf 4 = .ok (.istore_n 2, 1) := dk_61 (dk_at dksJ6_indexOf_0 4 rfl rfl)
theorem dJ6_indexOf_5 : decode cJ6_indexOf 5 = .ok (.iload_n 2, 1) := dk_28 (dk_at dksJ6_indexOf_0 5 rfl rfl)
theorem dJ6_indexOf_6 : decode cJ6_indexOf 6 = .ok (.aload_n 1, 1) := dk_43 (dk_at dksJ6_indexOf_0 6 rfl rfl)
theorem dJ6_indexOf_7 : decode cJ6_indexOf 7 = .ok (.invokevirtual 335, 3) := dk_182 1 79 (dk_at dksJ6_indexOf_0 7 rfl rfl)
theorem dJ6_indexOf_10 : decode cJ6_indexOf 10 = .ok (.if_icmp .ne 36, 3) := dk_160 0 36 (dk_at dksJ6_indexOf_0 10 rfl rfl)
theorem dJ6_indexOf_13 : decode cJ6_indexOf 13 = .ok (.aload_n 0, 1) := dk_42 (dk_at dksJ6_indexOf_0 13 rfl rfl)
theorem dJ6_indexOf_14 : decode cJ6_indexOf 14 = .ok (.invokevirtual 492, 3) := dk_182 1 236 (dk_at dksJ6_indexOf_0 14 rfl rfl)
theorem dJ6_indexOf_17 : decode cJ6_indexOf 17 = .ok (.ifCond .eq 17, 3) := dk_153 0 17 (dk_at dksJ6_indexOf_0 17 rfl rfl)
theorem dJ6_indexOf_20 : decode cJ6_indexOf 20 = .ok (.aload_n 0, 1) := dk_42 (dk_at dksJ6_indexOf_0 20 rfl rfl)
theorem dJ6_indexOf_21 : decode cJ6_indexOf 21 = .ok (.getfield 9, 3) := dk_180 0 9 (dk_at dksJ6_indexOf_0 21 rfl rfl)
theorem dJ6_indexOf_24 : decode cJ6_indexOf 24 = .ok (.aload_n 1, 1) := dk_43 (dk_at dksJ6_indexOf_1 0 rfl rfl)
theorem dJ6_indexOf_25 : decode cJ6_indexOf 25 = .ok (.getfield 9, 3) := dk_180 0 9 (dk_at dksJ6_indexOf_1 1 rfl rfl)
theorem dJ6_indexOf_28 : decode cJ6_indexOf 28 = .ok (.invokestatic 647, 3) := dk_184 2 135 (dk_at dksJ6_indexOf_1 4 rfl rfl)
theorem dJ6_indexOf_31 : decode cJ6_indexOf 31 = .ok (.goto 14, 3) := dk_167 0 14 (dk_at dksJ6_indexOf_1 7 rfl rfl)
theorem dJ6_indexOf_34 : decode cJ6_indexOf 34 = .ok (.aload_n 0, 1) := dk_42 (dk_at dksJ6_indexOf_1 10 rfl rfl)
theorem dJ6_indexOf_35 : decode cJ6_indexOf 35 = .ok (.getfield 9, 3) := dk_180 0 9 (dk_at dksJ6_indexOf_1 11 rfl rfl)
theorem dJ6_indexOf_38 : decode cJ6_indexOf 38 = .ok (.aload_n 1, 1) := dk_43 (dk_at dksJ6_indexOf_1 14 rfl rfl)
theorem dJ6_indexOf_39 : decode cJ6_indexOf 39 = .ok (.getfield 9, 3) := dk_180 0 9 (dk_at dksJ6_indexOf_1 15 rfl rfl)
theorem dJ6_indexOf_42 : decode cJ6_indexOf 42 = .ok (.invokestatic 649, 3) := dk_184 2 137 (dk_at dksJ6_indexOf_1 18 rfl rfl)
theorem dJ6_indexOf_45 : decode cJ6_indexOf 45 = .ok (.ireturn, 1) := dk_172 (dk_at dksJ6_indexOf_1 21 rfl rfl)
theorem dJ6_indexOf_46 : decode cJ6_indexOf 46 = .ok (.iload_n 2, 1) := dk_28 (dk_at dksJ6_indexOf_1 22 rfl rfl)
theorem dJ6_indexOf_47 : decode cJ6_indexOf 47 = .ok (.ifCond .ne 5, 3) := dk_154 0 5 (dk_at dksJ6_indexOf_2 0 rfl rfl)
theorem dJ6_indexOf_50 : decode cJ6_indexOf 50 = .ok (.iconst (-1), 1) := dk_2 (dk_at dksJ6_indexOf_2 3 rfl rfl)
theorem dJ6_indexOf_51 : decode cJ6_indexOf 51 = .ok (.ireturn, 1) := dk_172 (dk_at dksJ6_indexOf_2 4 rfl rfl)
theorem dJ6_indexOf_52 : decode cJ6_indexOf 52 = .ok (.aload_n 0, 1) := dk_42 (dk_at dksJ6_indexOf_2 5 rfl rfl)
theorem dJ6_indexOf_53 : decode cJ6_indexOf 53 = .ok (.getfield 9, 3) := dk_180 0 9 (dk_at dksJ6_indexOf_2 6 rfl rfl)
theorem dJ6_indexOf_56 : decode cJ6_indexOf 56 = .ok (.aload_n 1, 1) := dk_43 (dk_at dksJ6_indexOf_2 9 rfl rfl)
theorem dJ6_indexOf_57 : decode cJ6_indexOf 57 = .ok (.getfield 9, 3) := dk_180 0 9 (dk_at dksJ6_indexOf_2 10 rfl rfl)
theorem dJ6_indexOf_60 : decode cJ6_indexOf 60 = .ok (.invokestatic 650, 3) := dk_184 2 138 (dk_at dksJ6_indexOf_2 13 rfl rfl)
theorem dJ6_indexOf_63 : decode cJ6_indexOf 63 = .ok (.ireturn, 1) := dk_172 (dk_at dksJ6_indexOf_2 16 rfl rfl)
theorem q108 : (Jvm.Cond.initialized "java/lang/String") ∈ lw_all := lw_g (lw_at lw_m1 8 rfl) rfl
theorem q228 : (Jvm.Cond.laysStatic "java/lang/String" "COMPACT_STRINGS" "Z") ∈ lw_tbl := lw_at lw_m1 128 rfl
theorem q239 : (Jvm.Cond.fieldLink "java/lang/String" (1048 : Nat) "java/lang/AbstractStringBuilder" "maybeLatin1" "Z") ∈ lw_all := lw_g (lw_at lw_m1 139 rfl) rfl
theorem q618 : (Jvm.Cond.static ({ cls := "java/lang/String", name := "checkBoundsBeginEnd", desc := "(III)V" } : Jvm.MethodName)) ∈ lw_all := lw_g (lw_at lw_m3 38 rfl) rfl
theorem q619 : (Jvm.Cond.code ({ cls := "java/lang/String", name := "checkBoundsBeginEnd", desc := "(III)V" } : Jvm.MethodName) prog_41_method_158_code (3 : Nat) (Option.none : Option Jvm.ClassFile.FieldType)) ∈ lw_all := lw_g (lw_at lw_m3 39 rfl) rfl
theorem q620 : (Jvm.Cond.fieldLink "java/lang/String" (1053 : Nat) "jdk/internal/util/Preconditions" "SIOOBE_FORMATTER" "Ljava/util/function/BiFunction;") ∈ lw_all := lw_g (lw_at lw_m3 40 rfl) rfl
theorem q622 : (Jvm.Cond.methodLink "java/lang/String" (1062 : Nat) ({ cls := "jdk/internal/util/Preconditions", name := "checkFromToIndex", desc := "(IIILjava/util/function/BiFunction;)I" } : Jvm.MethodName)) ∈ lw_all := lw_g (lw_at lw_m3 42 rfl) rfl
theorem q635 : (Jvm.Cond.instanceMethod ({ cls := "java/lang/String", name := "length", desc := "()I" } : Jvm.MethodName)) ∈ lw_all := lw_g (lw_at lw_m3 55 rfl) rfl
theorem q636 : (Jvm.Cond.selects "java/lang/String" ({ cls := "java/lang/String", name := "length", desc := "()I" } : Jvm.MethodName) ({ cls := "java/lang/String", name := "length", desc := "()I" } : Jvm.MethodName)) ∈ lw_all := lw_g (lw_at lw_m3 56 rfl) rfl
theorem q637 : (Jvm.Cond.code ({ cls := "java/lang/String", name := "length", desc := "()I" } : Jvm.MethodName) prog_41_method_54_code (1 : Nat) (Option.some Jvm.ClassFile.FieldType.int)) ∈ lw_all := lw_g (lw_at lw_m3 57 rfl) rfl
theorem q638 : (Jvm.Cond.methodLink "java/lang/String" (335 : Nat) ({ cls := "java/lang/String", name := "coder", desc := "()B" } : Jvm.MethodName)) ∈ lw_all := lw_g (lw_at lw_m3 58 rfl) rfl
theorem q639 : (Jvm.Cond.instanceMethod ({ cls := "java/lang/String", name := "coder", desc := "()B" } : Jvm.MethodName)) ∈ lw_all := lw_g (lw_at lw_m3 59 rfl) rfl
theorem q640 : (Jvm.Cond.selects "java/lang/String" ({ cls := "java/lang/String", name := "coder", desc := "()B" } : Jvm.MethodName) ({ cls := "java/lang/String", name := "coder", desc := "()B" } : Jvm.MethodName)) ∈ lw_all := lw_g (lw_at lw_m3 60 rfl) rfl
theorem q641 : (Jvm.Cond.code ({ cls := "java/lang/String", name := "coder", desc := "()B" } : Jvm.MethodName) prog_41_method_152_code (1 : Nat) (Option.some Jvm.ClassFile.FieldType.byte)) ∈ lw_all := lw_g (lw_at lw_m3 61 rfl) rfl
theorem q642 : (Jvm.Cond.fieldLink "java/lang/String" (38 : Nat) "java/lang/String" "COMPACT_STRINGS" "Z") ∈ lw_all := lw_g (lw_at lw_m3 62 rfl) rfl
theorem q666 : (Jvm.Cond.static ({ cls := "java/lang/String", name := "checkBoundsOffCount", desc := "(III)I" } : Jvm.MethodName)) ∈ lw_all := lw_g (lw_at lw_m3 86 rfl) rfl
theorem q667 : (Jvm.Cond.code ({ cls := "java/lang/String", name := "checkBoundsOffCount", desc := "(III)I" } : Jvm.MethodName) prog_41_method_157_code (3 : Nat) (Option.some Jvm.ClassFile.FieldType.int)) ∈ lw_all := lw_g (lw_at lw_m3 87 rfl) rfl
theorem q668 : (Jvm.Cond.methodLink "java/lang/String" (1065 : Nat) ({ cls := "jdk/internal/util/Preconditions", name := "checkFromIndexSize", desc := "(IIILjava/util/function/BiFunction;)I" } : Jvm.MethodName)) ∈ lw_all := lw_g (lw_at lw_m3 88 rfl) rfl
theorem q672 : (Jvm.Cond.instanceMethod ({ cls := "java/lang/String", name := "getBytes", desc := "([BIB)V" } : Jvm.MethodName)) ∈ lw_all := lw_g (lw_at lw_m3 92 rfl) rfl
theorem q673 : (Jvm.Cond.selects "java/lang/String" ({ cls := "java/lang/String", name := "getBytes", desc := "([BIB)V" } : Jvm.MethodName) ({ cls := "java/lang/String", name := "getBytes", desc := "([BIB)V" } : Jvm.MethodName)) ∈ lw_all := lw_g (lw_at lw_m3 93 rfl) rfl
theorem q674 : (Jvm.Cond.code ({ cls := "java/lang/String", name := "getBytes", desc := "([BIB)V" } : Jvm.MethodName) prog_41_method_147_code (4 : Nat) (Option.none : Option Jvm.ClassFile.FieldType)) ∈ lw_all := lw_g (lw_at lw_m3 94 rfl) rfl
theorem q675 : (Jvm.Cond.methodLink "java/lang/String" (212 : Nat) ({ cls := "java/lang/System", name := "arraycopy", desc := "(Ljava/lang/Object;ILjava/lang/Object;II)V" } : Jvm.MethodName)) ∈ lw_all := lw_g (lw_at lw_m3 95 rfl) rfl
theorem q676 : (Jvm.Cond.methodLink "java/lang/String" (106 : Nat) ({ cls := "java/lang/StringLatin1", name := "inflate", desc := "([BI[BII)V" } : Jvm.MethodName)) ∈ lw_all := lw_g (lw_at lw_m3 96 rfl) rfl
theorem q708 : (Jvm.Cond.instantiable "java/lang/String" (4 : Nat)) ∈ lw_all := lw_g (lw_at lw_m3 128 rfl) rfl
theorem q710 : (Jvm.Cond.instanceMethod ({ cls := "java/lang/String", name := "<init>", desc := "(Ljava/lang/StringBuilder;)V" } : Jvm.MethodName)) ∈ lw_all := lw_g (lw_at lw_m3 130 rfl) rfl
theorem q711 : (Jvm.Cond.code ({ cls := "java/lang/String", name := "<init>", desc := "(Ljava/lang/StringBuilder;)V" } : Jvm.MethodName) prog_41_method_53_code (2 : Nat) (Option.none : Option Jvm.ClassFile.FieldType)) ∈ lw_all := lw_g (lw_at lw_m3 131 rfl) rfl
theorem q712 : (Jvm.Cond.methodLink "java/lang/String" (489 : Nat) ({ cls := "java/lang/String", name := "<init>", desc := "(Ljava/lang/AbstractStringBuilder;Ljava/lang/Void;)V" } : Jvm.MethodName)) ∈ lw_all := lw_g (lw_at lw_m3 132 rfl) rfl
theorem q713 : (Jvm.Cond.instanceMethod ({ cls := "java/lang/String", name := "<init>", desc := "(Ljava/lang/AbstractStringBuilder;Ljava/lang/Void;)V" } : Jvm.MethodName)) ∈ lw_all := lw_g (lw_at lw_m3 133 rfl) rfl
theorem q714 : (Jvm.Cond.code ({ cls := "java/lang/String", name := "<init>", desc := "(Ljava/lang/AbstractStringBuilder;Ljava/lang/Void;)V" } : Jvm.MethodName) prog_41_method_150_code (5 : Nat) (Option.none : Option Jvm.ClassFile.FieldType)) ∈ lw_all := lw_g (lw_at lw_m3 134 rfl) rfl
theorem q715 : (Jvm.Cond.methodLink "java/lang/String" (1 : Nat) ({ cls := "java/lang/Object", name := "<init>", desc := "()V" } : Jvm.MethodName)) ∈ lw_all := lw_g (lw_at lw_m3 135 rfl) rfl
theorem q716 : (Jvm.Cond.methodLink "java/lang/String" (552 : Nat) ({ cls := "java/lang/AbstractStringBuilder", name := "getValue", desc := "()[B" } : Jvm.MethodName)) ∈ lw_all := lw_g (lw_at lw_m3 136 rfl) rfl
theorem q721 : (Jvm.Cond.methodLink "java/lang/String" (549 : Nat) ({ cls := "java/lang/AbstractStringBuilder", name := "length", desc := "()I" } : Jvm.MethodName)) ∈ lw_all := lw_g (lw_at lw_m3 141 rfl) rfl
theorem q729 : (Jvm.Cond.methodLink "java/lang/String" (1047 : Nat) ({ cls := "java/lang/AbstractStringBuilder", name := "isLatin1", desc := "()Z" } : Jvm.MethodName)) ∈ lw_all := lw_g (lw_at lw_m3 149 rfl) rfl
theorem q730 : (Jvm.Cond.methodLink "java/lang/String" (54 : Nat) ({ cls := "java/util/Arrays", name := "copyOfRange", desc := "([BII)[B" } : Jvm.MethodName)) ∈ lw_all := lw_g (lw_at lw_m3 150 rfl) rfl
theorem q779 : (Jvm.Cond.methodLink "java/lang/String" (1051 : Nat) ({ cls := "java/lang/StringUTF16", name := "compress", desc := "([BII)[B" } : Jvm.MethodName)) ∈ lw_all := lw_g (lw_at lw_m3 199 rfl) rfl
theorem q789 : (Jvm.Cond.methodLink "java/lang/String" (47 : Nat) ({ cls := "java/lang/StringUTF16", name := "coderFromArrayLen", desc := "([BI)B" } : Jvm.MethodName)) ∈ lw_all := lw_g (lw_at lw_m3 209 rfl) rfl
theorem q792 : (Jvm.Cond.fieldLink "java/lang/String" (9 : Nat) "java/lang/String" "value" "[B") ∈ lw_all := lw_g (lw_at lw_m3 212 rfl) rfl
theorem q793 : (Jvm.Cond.fieldLink "java/lang/String" (15 : Nat) "java/lang/String" "coder" "B") ∈ lw_all := lw_g (lw_at lw_m3 213 rfl) rfl
theorem q794 : (Jvm.Cond.fieldLink "java/lang/String" (19 : Nat) "java/lang/String" "hash" "I") ∈ lw_all := lw_g (lw_at lw_m3 214 rfl) rfl
theorem q795 : (Jvm.Cond.fieldLink "java/lang/String" (23 : Nat) "java/lang/String" "hashIsZero" "Z") ∈ lw_all := lw_g (lw_at lw_m3 215 rfl) rfl
theorem q796 : (Jvm.Cond.laysFinal "java/lang/String" "java/lang/String" "value" "[B") ∈ lw_all := lw_g (lw_at lw_m3 216 rfl) rfl
theorem q797 : (Jvm.Cond.soleField "java/lang/String" "value") ∈ lw_all := lw_g (lw_at lw_m3 217 rfl) rfl
theorem q798 : (Jvm.Cond.laysFinal "java/lang/String" "java/lang/String" "coder" "B") ∈ lw_all := lw_g (lw_at lw_m3 218 rfl) rfl
theorem q799 : (Jvm.Cond.soleField "java/lang/String" "coder") ∈ lw_all := lw_g (lw_at lw_m3 219 rfl) rfl
theorem q800 : (Jvm.Cond.lays "java/lang/String" "java/lang/String" "hash" "I") ∈ lw_all := lw_g (lw_at lw_m3 220 rfl) rfl
theorem q801 : (Jvm.Cond.soleField "java/lang/String" "hash") ∈ lw_all := lw_g (lw_at lw_m3 221 rfl) rfl
theorem q802 : (Jvm.Cond.lays "java/lang/String" "java/lang/String" "hashIsZero" "Z") ∈ lw_all := lw_g (lw_at lw_m3 222 rfl) rfl
theorem q803 : (Jvm.Cond.soleField "java/lang/String" "hashIsZero") ∈ lw_all := lw_g (lw_at lw_m3 223 rfl) rfl
theorem q804 : (Jvm.Cond.superclass "java/lang/String" "java/lang/Object") ∈ lw_all := lw_g (lw_at lw_m3 224 rfl) rfl
theorem q1013 : (Jvm.Cond.selects "java/lang/String" ({ cls := "java/lang/Object", name := "getClass", desc := "()Ljava/lang/Class;" } : Jvm.MethodName) ({ cls := "java/lang/Object", name := "getClass", desc := "()Ljava/lang/Class;" } : Jvm.MethodName)) ∈ lw_all := lw_g (lw_at lw_m4 193 rfl) rfl
theorem q1578 : (Jvm.Cond.castable "java/lang/String" "java/lang/Comparable") ∈ lw_tbl := lw_at lw_m7 38 rfl
theorem q1579 : (Jvm.Cond.selects "java/lang/String" ({ cls := "java/lang/Comparable", name := "compareTo", desc := "(Ljava/lang/Object;)I" } : Jvm.MethodName) ({ cls := "java/lang/String", name := "compareTo", desc := "(Ljava/lang/Object;)I" } : Jvm.MethodName)) ∈ lw_all := lw_g (lw_at lw_m7 39 rfl) rfl
theorem q1580 : (Jvm.Cond.unhidden "java/lang/String" "compareTo" "(Ljava/lang/Object;)I") ∈ lw_tbl := lw_at lw_m7 40 rfl
theorem q1581 : (Jvm.Cond.instanceMethod ({ cls := "java/lang/String", name := "compareTo", desc := "(Ljava/lang/Object;)I" } : Jvm.MethodName)) ∈ lw_all := lw_g (lw_at lw_m7 41 rfl) rfl
theorem q1582 : (Jvm.Cond.publicMethod ({ cls := "java/lang/String", name := "compareTo", desc := "(Ljava/lang/Object;)I" } : Jvm.MethodName)) ∈ lw_tbl := lw_at lw_m7 42 rfl
theorem q1583 : (Jvm.Cond.code ({ cls := "java/lang/String", name := "compareTo", desc := "(Ljava/lang/Object;)I" } : Jvm.MethodName) prog_41_method_162_code (2 : Nat) (Option.some Jvm.ClassFile.FieldType.int)) ∈ lw_all := lw_g (lw_at lw_m7 43 rfl) rfl
theorem q1584 : (Jvm.Cond.classLink "java/lang/String" (10 : Nat) "java/lang/String") ∈ lw_all := lw_g (lw_at lw_m7 44 rfl) rfl
theorem q1585 : (Jvm.Cond.methodLink "java/lang/String" (1084 : Nat) ({ cls := "java/lang/String", name := "compareTo", desc := "(Ljava/lang/String;)I" } : Jvm.MethodName)) ∈ lw_all := lw_g (lw_at lw_m7 45 rfl) rfl
theorem q1586 : (Jvm.Cond.instanceMethod ({ cls := "java/lang/String", name := "compareTo", desc := "(Ljava/lang/String;)I" } : Jvm.MethodName)) ∈ lw_all := lw_g (lw_at lw_m7 46 rfl) rfl
theorem q1587 : (Jvm.Cond.selects "java/lang/String" ({ cls := "java/lang/String", name := "compareTo", desc := "(Ljava/lang/String;)I" } : Jvm.MethodName) ({ cls := "java/lang/String", name := "compareTo", desc := "(Ljava/lang/String;)I" } : Jvm.MethodName)) ∈ lw_all := lw_g (lw_at lw_m7 47 rfl) rfl
theorem q1588 : (Jvm.Cond.code ({ cls := "java/lang/String", name := "compareTo", desc := "(Ljava/lang/String;)I" } : Jvm.MethodName) prog_41_method_71_code (5 : Nat) (Option.some Jvm.ClassFile.FieldType.int)) ∈ lw_all := lw_g (lw_at lw_m7 48 rfl) rfl
theorem q1589 : (Jvm.Cond.methodLink "java/lang/String" (586 : Nat) ({ cls := "java/lang/StringLatin1", name := "compareTo", desc := "([B[B)I" } : Jvm.MethodName)) ∈ lw_all := lw_g (lw_at lw_m7 49 rfl) rfl
theorem q1703 : (Jvm.Cond.methodLink "java/lang/String" (590 : Nat) ({ cls := "java/lang/StringUTF16", name := "compareTo", desc := "([B[B)I" } : Jvm.MethodName)) ∈ lw_all := lw_g (lw_at lw_m7 163 rfl) rfl
theorem q1710 : (Jvm.Cond.methodLink "java/lang/String" (591 : Nat) ({ cls := "java/lang/StringLatin1", name := "compareToUTF16", desc := "([B[B)I" } : Jvm.MethodName)) ∈ lw_all := lw_g (lw_at lw_m7 170 rfl) rfl
theorem q1721 : (Jvm.Cond.methodLink "java/lang/String" (594 : Nat) ({ cls := "java/lang/StringUTF16", name := "compareToLatin1", desc := "([B[B)I" } : Jvm.MethodName)) ∈ lw_all := lw_g (lw_at lw_m7 181 rfl) rfl
theorem q1747 : (Jvm.Cond.static ({ cls := "java/lang/String", name := "checkOffset", desc := "(II)V" } : Jvm.MethodName)) ∈ lw_all := lw_g (lw_at lw_m7 207 rfl) rfl
theorem q1748 : (Jvm.Cond.code ({ cls := "java/lang/String", name := "checkOffset", desc := "(II)V" } : Jvm.MethodName) prog_41_method_156_code (2 : Nat) (Option.none : Option Jvm.ClassFile.FieldType)) ∈ lw_all := lw_g (lw_at lw_m7 208 rfl) rfl
theorem q2361 : (Jvm.Cond.instanceMethod ({ cls := "java/lang/String", name := "hashCode", desc := "()I" } : Jvm.MethodName)) ∈ lw_all := lw_g (lw_at lw_m10 101 rfl) rfl
theorem q2362 : (Jvm.Cond.selects "java/lang/String" ({ cls := "java/lang/String", name := "hashCode", desc := "()I" } : Jvm.MethodName) ({ cls := "java/lang/String", name := "hashCode", desc := "()I" } : Jvm.MethodName)) ∈ lw_all := lw_g (lw_at lw_m10 102 rfl) rfl
theorem q2363 : (Jvm.Cond.code ({ cls := "java/lang/String", name := "hashCode", desc := "()I" } : Jvm.MethodName) prog_41_method_78_code (2 : Nat) (Option.some Jvm.ClassFile.FieldType.int)) ∈ lw_all := lw_g (lw_at lw_m10 103 rfl) rfl
theorem q2364 : (Jvm.Cond.methodLink "java/lang/String" (492 : Nat) ({ cls := "java/lang/String", name := "isLatin1", desc := "()Z" } : Jvm.MethodName)) ∈ lw_all := lw_g (lw_at lw_m10 104 rfl) rfl
theorem q2365 : (Jvm.Cond.instanceMethod ({ cls := "java/lang/String", name := "isLatin1", desc := "()Z" } : Jvm.MethodName)) ∈ lw_all := lw_g (lw_at lw_m10 105 rfl) rfl
theorem q2366 : (Jvm.Cond.selects "java/lang/String" ({ cls := "java/lang/String", name := "isLatin1", desc := "()Z" } : Jvm.MethodName) ({ cls := "java/lang/String", name := "isLatin1", desc := "()Z" } : Jvm.MethodName)) ∈ lw_all := lw_g (lw_at lw_m10 106 rfl) rfl
theorem q2367 : (Jvm.Cond.code ({ cls := "java/lang/String", name := "isLatin1", desc := "()Z" } : Jvm.MethodName) prog_41_method_154_code (1 : Nat) (Option.some Jvm.ClassFile.FieldType.boolean)) ∈ lw_all := lw_g (lw_at lw_m10 107 rfl) rfl
theorem q2368 : (Jvm.Cond.methodLink "java/lang/String" (628 : Nat) ({ cls := "java/lang/StringLatin1", name := "hashCode", desc := "([B)I" } : Jvm.MethodName)) ∈ lw_all := lw_g (lw_at lw_m10 108 rfl) rfl
theorem q2417 : (Jvm.Cond.methodLink "java/lang/String" (632 : Nat) ({ cls := "java/lang/StringUTF16", name := "hashCode", desc := "([B)I" } : Jvm.MethodName)) ∈ lw_all := lw_g (lw_at lw_m10 157 rfl) rfl
theorem q2423 : (Jvm.Cond.instanceMethod ({ cls := "java/lang/String", name := "equals", desc := "(Ljava/lang/Object;)Z" } : Jvm.MethodName)) ∈ lw_all := lw_g (lw_at lw_m10 163 rfl) rfl
theorem q2424 : (Jvm.Cond.selects "java/lang/String" ({ cls := "java/lang/String", name := "equals", desc := "(Ljava/lang/Object;)Z" } : Jvm.MethodName) ({ cls := "java/lang/String", name := "equals", desc := "(Ljava/lang/Object;)Z" } : Jvm.MethodName)) ∈ lw_all := lw_g (lw_at lw_m10 164 rfl) rfl
theorem q2425 : (Jvm.Cond.code ({ cls := "java/lang/String", name := "equals", desc := "(Ljava/lang/Object;)Z" } : Jvm.MethodName) prog_41_method_66_code (3 : Nat) (Option.some Jvm.ClassFile.FieldType.boolean)) ∈ lw_all := lw_g (lw_at lw_m10 165 rfl) rfl
theorem q2426 : (Jvm.Cond.methodLink "java/lang/String" (541 : Nat) ({ cls := "java/lang/StringLatin1", name := "equals", desc := "([B[B)Z" } : Jvm.MethodName)) ∈ lw_all := lw_g (lw_at lw_m10 166 rfl) rfl
theorem q3197 : (Jvm.Cond.selects "java/lang/String" ({ cls := "java/lang/Object", name := "equals", desc := "(Ljava/lang/Object;)Z" } : Jvm.MethodName) ({ cls := "java/lang/String", name := "equals", desc := "(Ljava/lang/Object;)Z" } : Jvm.MethodName)) ∈ lw_all := lw_g (lw_at lw_m13 217 rfl) rfl
theorem q3316 : (Jvm.Cond.instanceMethod ({ cls := "java/lang/String", name := "charAt", desc := "(I)C" } : Jvm.MethodName)) ∈ lw_all := lw_g (lw_at lw_m14 96 rfl) rfl
theorem q3317 : (Jvm.Cond.selects "java/lang/String" ({ cls := "java/lang/String", name := "charAt", desc := "(I)C" } : Jvm.MethodName) ({ cls := "java/lang/String", name := "charAt", desc := "(I)C" } : Jvm.MethodName)) ∈ lw_all := lw_g (lw_at lw_m14 97 rfl) rfl
theorem q3318 : (Jvm.Cond.code ({ cls := "java/lang/String", name := "charAt", desc := "(I)C" } : Jvm.MethodName) prog_41_method_56_code (2 : Nat) (Option.some Jvm.ClassFile.FieldType.char)) ∈ lw_all := lw_g (lw_at lw_m14 98 rfl) rfl
theorem q3319 : (Jvm.Cond.methodLink "java/lang/String" (495 : Nat) ({ cls := "java/lang/StringLatin1", name := "charAt", desc := "([BI)C" } : Jvm.MethodName)) ∈ lw_all := lw_g (lw_at lw_m14 99 rfl) rfl
theorem q3323 : (Jvm.Cond.static ({ cls := "java/lang/String", name := "checkIndex", desc := "(II)V" } : Jvm.MethodName)) ∈ lw_all := lw_g (lw_at lw_m14 103 rfl) rfl
theorem q3324 : (Jvm.Cond.code ({ cls := "java/lang/String", name := "checkIndex", desc := "(II)V" } : Jvm.MethodName) prog_41_method_155_code (2 : Nat) (Option.none : Option Jvm.ClassFile.FieldType)) ∈ lw_all := lw_g (lw_at lw_m14 104 rfl) rfl
theorem q3325 : (Jvm.Cond.methodLink "java/lang/String" (1059 : Nat) ({ cls := "jdk/internal/util/Preconditions", name := "checkIndex", desc := "(IILjava/util/function/BiFunction;)I" } : Jvm.MethodName)) ∈ lw_all := lw_g (lw_at lw_m14 105 rfl) rfl
theorem q3326 : (Jvm.Cond.methodLink "java/lang/String" (498 : Nat) ({ cls := "java/lang/StringUTF16", name := "charAt", desc := "([BI)C" } : Jvm.MethodName)) ∈ lw_all := lw_g (lw_at lw_m14 106 rfl) rfl
theorem q3463 : (Jvm.Cond.static ({ cls := "java/lang/String", name := "valueOf", desc := "(Ljava/lang/Object;)Ljava/lang/String;" } : Jvm.MethodName)) ∈ lw_all := lw_g (lw_at lw_m15 3 rfl) rfl
theorem q3464 : (Jvm.Cond.code ({ cls := "java/lang/String", name := "valueOf", desc := "(Ljava/lang/Object;)Ljava/lang/String;" } : Jvm.MethodName) prog_41_method_133_code (1 : Nat) (Option.some (Jvm.ClassFile.FieldType.object "java/lang/String"))) ∈ lw_all := lw_g (lw_at lw_m15 4 rfl) rfl
theorem q3465 : (Jvm.Cond.stringRef "java/lang/String" (1005 : Nat) "null") ∈ lw_tbl := lw_at lw_m15 5 rfl
theorem q3467 : (Jvm.Cond.methodLink "java/lang/String" (1007 : Nat) ({ cls := "java/lang/Object", name := "toString", desc := "()Ljava/lang/String;" } : Jvm.MethodName)) ∈ lw_all := lw_g (lw_at lw_m15 7 rfl) rfl
theorem q3512 : (Jvm.Cond.instanceMethod ({ cls := "java/lang/String", name := "<init>", desc := "([BB)V" } : Jvm.MethodName)) ∈ lw_all := lw_g (lw_at lw_m15 52 rfl) rfl
theorem q3513 : (Jvm.Cond.code ({ cls := "java/lang/String", name := "<init>", desc := "([BB)V" } : Jvm.MethodName) prog_41_method_151_code (3 : Nat) (Option.none : Option Jvm.ClassFile.FieldType)) ∈ lw_all := lw_g (lw_at lw_m15 53 rfl) rfl
theorem q3515 : (Jvm.Cond.selects "java/lang/String" ({ cls := "java/lang/Object", name := "toString", desc := "()Ljava/lang/String;" } : Jvm.MethodName) ({ cls := "java/lang/String", name := "toString", desc := "()Ljava/lang/String;" } : Jvm.MethodName)) ∈ lw_all := lw_g (lw_at lw_m15 55 rfl) rfl
theorem q3516 : (Jvm.Cond.instanceMethod ({ cls := "java/lang/String", name := "toString", desc := "()Ljava/lang/String;" } : Jvm.MethodName)) ∈ lw_all := lw_g (lw_at lw_m15 56 rfl) rfl
theorem q3517 : (Jvm.Cond.code ({ cls := "java/lang/String", name := "toString", desc := "()Ljava/lang/String;" } : Jvm.MethodName) prog_41_method_126_code (1 : Nat) (Option.some (Jvm.ClassFile.FieldType.object "java/lang/String"))) ∈ lw_all := lw_g (lw_at lw_m15 57 rfl) rfl
theorem q3527 : (Jvm.Cond.instanceMethod ({ cls := "java/lang/String", name := "contains", desc := "(Ljava/lang/CharSequence;)Z" } : Jvm.MethodName)) ∈ lw_all := lw_g (lw_at lw_m15 67 rfl) rfl
theorem q3528 : (Jvm.Cond.selects "java/lang/String" ({ cls := "java/lang/String", name := "contains", desc := "(Ljava/lang/CharSequence;)Z" } : Jvm.MethodName) ({ cls := "java/lang/String", name := "contains", desc := "(Ljava/lang/CharSequence;)Z" } : Jvm.MethodName)) ∈ lw_all := lw_g (lw_at lw_m15 68 rfl) rfl
theorem q3529 : (Jvm.Cond.code ({ cls := "java/lang/String", name := "contains", desc := "(Ljava/lang/CharSequence;)Z" } : Jvm.MethodName) prog_41_method_97_code (2 : Nat) (Option.some Jvm.ClassFile.FieldType.boolean)) ∈ lw_all := lw_g (lw_at lw_m15 69 rfl) rfl
theorem q3530 : (Jvm.Cond.interfaceEntry "java/lang/String" (710 : Nat)) ∈ lw_tbl := lw_at lw_m15 70 rfl
theorem q3531 : (Jvm.Cond.methodLink "java/lang/String" (710 : Nat) ({ cls := "java/lang/CharSequence", name := "toString", desc := "()Ljava/lang/String;" } : Jvm.MethodName)) ∈ lw_all := lw_g (lw_at lw_m15 71 rfl) rfl
theorem q3534 : (Jvm.Cond.castable "java/lang/String" "java/lang/CharSequence") ∈ lw_tbl := lw_at lw_m15 74 rfl
theorem q3535 : (Jvm.Cond.selects "java/lang/String" ({ cls := "java/lang/CharSequence", name := "toString", desc := "()Ljava/lang/String;" } : Jvm.MethodName) ({ cls := "java/lang/String", name := "toString", desc := "()Ljava/lang/String;" } : Jvm.MethodName)) ∈ lw_all := lw_g (lw_at lw_m15 75 rfl) rfl
theorem q3536 : (Jvm.Cond.unhidden "java/lang/String" "toString" "()Ljava/lang/String;") ∈ lw_tbl := lw_at lw_m15 76 rfl
theorem q3537 : (Jvm.Cond.publicMethod ({ cls := "java/lang/String", name := "toString", desc := "()Ljava/lang/String;" } : Jvm.MethodName)) ∈ lw_tbl := lw_at lw_m15 77 rfl
theorem q3542 : (Jvm.Cond.methodLink "java/lang/String" (711 : Nat) ({ cls := "java/lang/String", name := "indexOf", desc := "(Ljava/lang/String;)I" } : Jvm.MethodName)) ∈ lw_all := lw_g (lw_at lw_m15 82 rfl) rfl
theorem q3543 : (Jvm.Cond.instanceMethod ({ cls := "java/lang/String", name := "indexOf", desc := "(Ljava/lang/String;)I" } : Jvm.MethodName)) ∈ lw_all := lw_g (lw_at lw_m15 83 rfl) rfl
theorem q3544 : (Jvm.Cond.selects "java/lang/String" ({ cls := "java/lang/String", name := "indexOf", desc := "(Ljava/lang/String;)I" } : Jvm.MethodName) ({ cls := "java/lang/String", name := "indexOf", desc := "(Ljava/lang/String;)I" } : Jvm.MethodName)) ∈ lw_all := lw_g (lw_at lw_m15 84 rfl) rfl
theorem q3545 : (Jvm.Cond.code ({ cls := "java/lang/String", name := "indexOf", desc := "(Ljava/lang/String;)I" } : Jvm.MethodName) prog_41_method_84_code (3 : Nat) (Option.some Jvm.ClassFile.FieldType.int)) ∈ lw_all := lw_g (lw_at lw_m15 85 rfl) rfl
theorem q3546 : (Jvm.Cond.methodLink "java/lang/String" (647 : Nat) ({ cls := "java/lang/StringLatin1", name := "indexOf", desc := "([B[B)I" } : Jvm.MethodName)) ∈ lw_all := lw_g (lw_at lw_m15 86 rfl) rfl
theorem q3552 : (Jvm.Cond.methodLink "java/lang/String" (649 : Nat) ({ cls := "java/lang/StringUTF16", name := "indexOf", desc := "([B[B)I" } : Jvm.MethodName)) ∈ lw_all := lw_g (lw_at lw_m15 92 rfl) rfl
theorem q3558 : (Jvm.Cond.methodLink "java/lang/String" (650 : Nat) ({ cls := "java/lang/StringUTF16", name := "indexOfLatin1", desc := "([B[B)I" } : Jvm.MethodName)) ∈ lw_all := lw_g (lw_at lw_m15 98 rfl) rfl
theorem q4247 : (Jvm.Cond.castable "java/lang/String" "java/lang/Object") ∈ lw_tbl := lw_at lw_m18 67 rfl
theorem in_J6 : ∀ w ∈ wsJ60, w ∈ lw_all := lw_in wsJ60 [796, 798, 800, 802] (by decide +kernel) (by decide +kernel)
/-! java/util/ArrayList -/
set_option maxRecDepth 100000
def RJ8 : String := "java/util/ArrayList"
def TJ8 : u_T := fun k => match k with
  | 0 => ("java/util/AbstractList", "modCount", "I", false)
  | 1 => ("java/util/ArrayList", "elementData", "[Ljava/lang/Object;", false)
  | _ => ("java/util/ArrayList", "size", "I", false)
def tyJ8 : Nat → FieldType := fun k => match k with
  | 0 => .int
  | 1 => .array (.object "java/lang/Object")
  | _ => .int
abbrev wsJ80 : List Cond := u_ws RJ8 TJ8 3
theorem nmJ8 : ∀ a, a < 3 → ∀ b, b < 3 → a ≠ b → (TJ8 a).2.1 ≠ (TJ8 b).2.1 := by decide +kernel
theorem tyJ8_ok : ∀ k, k < 3 → parseFieldDescriptor (TJ8 k).2.2.1 = some (tyJ8 k) := by decide +kernel
abbrev cJ8_init : ByteArray := prog_61_method_2_code
def yJ8_init : MethodName := ⟨RJ8, "<init>", "()V"⟩
def dkwJ8_init_0 : List UInt8 := [42, 183, 0, 1, 42, 178, 0, 39, 181, 0, 9, 177]
abbrev dktJ8_init_0 : List UInt8 := dkwJ8_init_0 ++ []
theorem dksJ8_init_0 : cJ8_init.data.toList.drop 0 = dktJ8_init_0 := by decide +kernel
theorem dJ8_init_0 : decode cJ8_init 0 = .ok (.aload_n 0, 1) := dk_42 (dk_at dksJ8_init_0 0 rfl rfl)
theorem dJ8_init_1 : decode cJ8_init 1 = .ok (.invokespecial 1, 3) := dk_183 0 1 (dk_at dksJ8_init_0 1 rfl rfl)
theorem dJ8_init_4 : decode cJ8_init 4 = .ok (.aload_n 0, 1) := dk_42 (dk_at dksJ8_init_0 4 rfl rfl)
theorem dJ8_init_5 : decode cJ8_init 5 = .ok (.getstatic 39, 3) := dk_178 0 39 (dk_at dksJ8_init_0 5 rfl rfl)
theorem dJ8_init_8 : decode cJ8_init 8 = .ok (.putfield 9, 3) := dk_181 0 9 (dk_at dksJ8_init_0 8 rfl rfl)
theorem dJ8_init_11 : decode cJ8_init 11 = .ok (.return_, 1) := dk_177 (dk_at dksJ8_init_0 11 rfl rfl)
abbrev cJ8_size : ByteArray := prog_61_method_8_code
def yJ8_size : MethodName := ⟨RJ8, "size", "()I"⟩
theorem dJ8_size_0 : decode cJ8_size 0 = .ok (.aload_n 0, 1) := by decide +kernel
theorem dJ8_size_1 : decode cJ8_size 1 = .ok (.getfield 48, 3) := by decide +kernel
theorem dJ8_size_4 : decode cJ8_size 4 = .ok (.ireturn, 1) := by decide +kernel
abbrev cJ8_get : ByteArray := prog_61_method_20_code
def yJ8_get : MethodName := ⟨RJ8, "get", "(I)Ljava/lang/Object;"⟩
def dkwJ8_get_0 : List UInt8 := [27, 42, 180, 0, 48, 184, 0, 118, 87, 42, 27, 182, 0, 123, 176]
abbrev dktJ8_get_0 : List UInt8 := dkwJ8_get_0 ++ []
theorem dksJ8_get_0 : cJ8_get.data.toList.drop 0 = dktJ8_get_0 := by decide +kernel
theorem dJ8_get_0 : decode cJ8_get 0 = .ok (.iload_n 1, 1) := dk_27 (dk_at dksJ8_get_0 0 rfl rfl)
theorem dJ8_get_1 : decode cJ8_get 1 = .ok (.aload_n 0, 1) := dk_42 (dk_at dksJ8_get_0 1 rfl rfl)
theorem dJ8_get_2 : decode cJ8_get 2 = .ok (.getfield 48, 3) := dk_180 0 48 (dk_at dksJ8_get_0 2 rfl rfl)
theorem dJ8_get_5 : decode cJ8_get 5 = .ok (.invokestatic 118, 3) := dk_184 0 118 (dk_at dksJ8_get_0 5 rfl rfl)
theorem dJ8_get_8 : decode cJ8_get 8 = .ok (.pop, 1) := dk_87 (dk_at dksJ8_get_0 8 rfl rfl)
theorem dJ8_get_9 : decode cJ8_get 9 = .ok (.aload_n 0, 1) := dk_42 (dk_at dksJ8_get_0 9 rfl rfl)
theorem dJ8_get_10 : decode cJ8_get 10 = .ok (.iload_n 1, 1) := dk_27 (dk_at dksJ8_get_0 10 rfl rfl)
theorem dJ8_get_11 : decode cJ8_get 11 = .ok (.invokevirtual 123, 3) := dk_182 0 123 (dk_at dksJ8_get_0 11 rfl rfl)
theorem dJ8_get_14 : decode cJ8_get 14 = .ok (.areturn, 1) := dk_176 (dk_at dksJ8_get_0 14 rfl rfl)
abbrev cJ8_elementData : ByteArray := prog_61_method_18_code
def yJ8_elementData : MethodName := ⟨RJ8, "elementData", "(I)Ljava/lang/Object;"⟩
def dkwJ8_elementData_0 : List UInt8 := [42, 180, 0, 9, 27, 50, 176]
abbrev dktJ8_elementData_0 : List UInt8 := dkwJ8_elementData_0 ++ []
theorem dksJ8_elementData_0 : cJ8_elementData.data.toList.drop 0 = dktJ8_elementData_0 := by decide +kernel
theorem dJ8_elementData_0 : decode cJ8_elementData 0 = .ok (.aload_n 0, 1) := dk_42 (dk_at dksJ8_elementData_0 0 rfl rfl)
theorem dJ8_elementData_1 : decode cJ8_elementData 1 = .ok (.getfield 9, 3) := dk_180 0 9 (dk_at dksJ8_elementData_0 1 rfl rfl)
theorem dJ8_elementData_4 : decode cJ8_elementData 4 = .ok (.iload_n 1, 1) := dk_27 (dk_at dksJ8_elementData_0 4 rfl rfl)
theorem dJ8_elementData_5 : decode cJ8_elementData 5 = .ok (.aaload, 1) := dk_50 (dk_at dksJ8_elementData_0 5 rfl rfl)
theorem dJ8_elementData_6 : decode cJ8_elementData 6 = .ok (.areturn, 1) := dk_176 (dk_at dksJ8_elementData_0 6 rfl rfl)
abbrev cJ8_add : ByteArray := prog_61_method_25_code
def yJ8_add : MethodName := ⟨RJ8, "add", "(Ljava/lang/Object;)Z"⟩
def dkwJ8_add_1 : List UInt8 := [172]
abbrev dktJ8_add_1 : List UInt8 := dkwJ8_add_1 ++ []
def dkwJ8_add_0 : List UInt8 := [42, 89, 180, 0, 63, 4, 96, 181, 0, 63, 42, 43, 42, 180, 0, 9, 42, 180, 0, 48, 182, 0, 131, 4]
abbrev dktJ8_add_0 : List UInt8 := dkwJ8_add_0 ++ dktJ8_add_1
theorem dksJ8_add_0 : cJ8_add.data.toList.drop 0 = dktJ8_add_0 := by decide +kernel
theorem dksJ8_add_1 : cJ8_add.data.toList.drop 24 = dktJ8_add_1 := dk_seg dksJ8_add_0 24 rfl rfl
theorem dJ8_add_0 : decode cJ8_add 0 = .ok (.aload_n 0, 1) := dk_42 (dk_at dksJ8_add_0 0 rfl rfl)
theorem dJ8_add_1 : decode cJ8_add 1 = .ok (.dup, 1) := dk_89 (dk_at dksJ8_add_0 1 rfl rfl)
theorem dJ8_add_2 : decode cJ8_add 2 = .ok (.getfield 63, 3) := dk_180 0 63 (dk_at dksJ8_add_0 2 rfl rfl)
theorem dJ8_add_5 : decode cJ8_add 5 = .ok (.iconst 1, 1) := dk_4 (dk_at dksJ8_add_0 5 rfl rfl)
theorem dJ8_add_6 : decode cJ8_add 6 = .ok (.iadd, 1) := dk_96 (dk_at dksJ8_add_0 6 rfl rfl)
theorem dJ8_add_7 : decode cJ8_add 7 = .ok (.putfield 63, 3) := dk_181 0 63 (dk_at dksJ8_add_0 7 rfl rfl)
theorem dJ8_add_10 : decode cJ8_add 10 = .ok (.aload_n 0, 1) := dk_42 (dk_at dksJ8_add_0 10 rfl rfl)
theorem dJ8_add_11 : decode cJ8_add 11 = .ok (.aload_n 1, 1) := dk_43 (dk_at dksJ8_add_0 11 rfl rfl)
theorem dJ8_add_12 : decode cJ8_add 12 = .ok (.aload_n 0, 1) := dk_42 (dk_at dksJ8_add_0 12 rfl rfl)
theorem dJ8_add_13 : decode cJ8_add 13 = .ok (.getfield 9, 3) := dk_180 0 9 (dk_at dksJ8_add_0 13 rfl rfl)
theorem dJ8_add_16 : decode cJ8_add 16 = .ok (.aload_n 0, 1) := dk_42 (dk_at dksJ8_add_0 16 rfl rfl)
theorem dJ8_add_17 : decode cJ8_add 17 = .ok (.getfield 48, 3) := dk_180 0 48 (dk_at dksJ8_add_0 17 rfl rfl)
theorem dJ8_add_20 : decode cJ8_add 20 = .ok (.invokevirtual 131, 3) := dk_182 0 131 (dk_at dksJ8_add_0 20 rfl rfl)
theorem dJ8_add_23 : decode cJ8_add 23 = .ok (.iconst 1, 1) := dk_4 (dk_at dksJ8_add_0 23 rfl rfl)
theorem dJ8_add_24 : decode cJ8_add 24 = .ok (.ireturn, 1) := dk_172 (dk_at dksJ8_add_1 0 rfl rfl)
abbrev cJ8_add_2 : ByteArray := prog_61_method_24_code
def yJ8_add_2 : MethodName := ⟨RJ8, "add", "(Ljava/lang/Object;[Ljava/lang/Object;I)V"⟩
def dkwJ8_add_2_0 : List UInt8 := [29, 44, 190, 160, 0, 8, 42, 182, 0, 129, 77, 44, 29, 43, 83, 42, 29, 4, 96, 181, 0, 48, 177]
abbrev dktJ8_add_2_0 : List UInt8 := dkwJ8_add_2_0 ++ []
theorem dksJ8_add_2_0 : cJ8_add_2.data.toList.drop 0 = dktJ8_add_2_0 := by decide +kernel
theorem dJ8_add_2_0 : decode cJ8_add_2 0 = .ok (.iload_n 3, 1) := dk_29 (dk_at dksJ8_add_2_0 0 rfl rfl)
theorem dJ8_add_2_1 : decode cJ8_add_2 1 = .ok (.aload_n 2, 1) := dk_44 (dk_at dksJ8_add_2_0 1 rfl rfl)
theorem dJ8_add_2_2 : decode cJ8_add_2 2 = .ok (.arraylength, 1) := dk_190 (dk_at dksJ8_add_2_0 2 rfl rfl)
theorem dJ8_add_2_3 : decode cJ8_add_2 3 = .ok (.if_icmp .ne 8, 3) := dk_160 0 8 (dk_at dksJ8_add_2_0 3 rfl rfl)
theorem dJ8_add_2_6 : decode cJ8_add_2 6 = .ok (.aload_n 0, 1) := dk_42 (dk_at dksJ8_add_2_0 6 rfl rfl)
theorem dJ8_add_2_7 : decode cJ8_add_2 7 = .ok (.invokevirtual 129, 3) := dk_182 0 129 (dk_at dksJ8_add_2_0 7 rfl rfl)
theorem dJ8_add_2_10 : decode cJ8_add_2 10 = .ok (.astore_n 2, 1) := dk_77 (dk_at dksJ8_add_2_0 10 rfl rfl)
theorem dJ8_add_2_11 : decode cJ8_add_2 11 = .ok (.aload_n 2, 1) := dk_44 (dk_at dksJ8_add_2_0 11 rfl rfl)
theorem dJ8_add_2_12 : decode cJ8_add_2 12 = .ok (.iload_n 3, 1) := dk_29 (dk_at dksJ8_add_2_0 12 rfl rfl)
theorem dJ8_add_2_13 : decode cJ8_add_2 13 = .ok (.aload_n 1, 1) := dk_43 (dk_at dksJ8_add_2_0 13 rfl rfl)
theorem dJ8_add_2_14 : decode cJ8_add_2 14 = .ok (.aastore, 1) := dk_83 (dk_at dksJ8_add_2_0 14 rfl rfl)
theorem dJ8_add_2_15 : decode cJ8_add_2 15 = .ok (.aload_n 0, 1) := dk_42 (dk_at dksJ8_add_2_0 15 rfl rfl)
theorem dJ8_add_2_16 : decode cJ8_add_2 16 = .ok (.iload_n 3, 1) := dk_29 (dk_at dksJ8_add_2_0 16 rfl rfl)
theorem dJ8_add_2_17 : decode cJ8_add_2 17 = .ok (.iconst 1, 1) := dk_4 (dk_at dksJ8_add_2_0 17 rfl rfl)
theorem dJ8_add_2_18 : decode cJ8_add_2 18 = .ok (.iadd, 1) := dk_96 (dk_at dksJ8_add_2_0 18 rfl rfl)
theorem dJ8_add_2_19 : decode cJ8_add_2 19 = .ok (.putfield 48, 3) := dk_181 0 48 (dk_at dksJ8_add_2_0 19 rfl rfl)
theorem dJ8_add_2_22 : decode cJ8_add_2 22 = .ok (.return_, 1) := dk_177 (dk_at dksJ8_add_2_0 22 rfl rfl)
abbrev cJ8_grow : ByteArray := prog_61_method_7_code
def yJ8_grow : MethodName := ⟨RJ8, "grow", "()[Ljava/lang/Object;"⟩
def dkwJ8_grow_0 : List UInt8 := [42, 42, 180, 0, 48, 4, 96, 182, 0, 69, 176]
abbrev dktJ8_grow_0 : List UInt8 := dkwJ8_grow_0 ++ []
theorem dksJ8_grow_0 : cJ8_grow.data.toList.drop 0 = dktJ8_grow_0 := by decide +kernel
theorem dJ8_grow_0 : decode cJ8_grow 0 = .ok (.aload_n 0, 1) := dk_42 (dk_at dksJ8_grow_0 0 rfl rfl)
theorem dJ8_grow_1 : decode cJ8_grow 1 = .ok (.aload_n 0, 1) := dk_42 (dk_at dksJ8_grow_0 1 rfl rfl)
theorem dJ8_grow_2 : decode cJ8_grow 2 = .ok (.getfield 48, 3) := dk_180 0 48 (dk_at dksJ8_grow_0 2 rfl rfl)
theorem dJ8_grow_5 : decode cJ8_grow 5 = .ok (.iconst 1, 1) := dk_4 (dk_at dksJ8_grow_0 5 rfl rfl)
theorem dJ8_grow_6 : decode cJ8_grow 6 = .ok (.iadd, 1) := dk_96 (dk_at dksJ8_grow_0 6 rfl rfl)
theorem dJ8_grow_7 : decode cJ8_grow 7 = .ok (.invokevirtual 69, 3) := dk_182 0 69 (dk_at dksJ8_grow_0 7 rfl rfl)
theorem dJ8_grow_10 : decode cJ8_grow 10 = .ok (.areturn, 1) := dk_176 (dk_at dksJ8_grow_0 10 rfl rfl)
abbrev cJ8_grow_2 : ByteArray := prog_61_method_6_code
def yJ8_grow_2 : MethodName := ⟨RJ8, "grow", "(I)[Ljava/lang/Object;"⟩
def dkwJ8_grow_2_2 : List UInt8 := [27, 184, 0, 79, 189, 0, 7, 90, 181, 0, 9, 176]
abbrev dktJ8_grow_2_2 : List UInt8 := dkwJ8_grow_2_2 ++ []
def dkwJ8_grow_2_1 : List UInt8 := [28, 4, 122, 184, 0, 73, 62, 42, 42, 180, 0, 9, 29, 184, 0, 66, 90, 181, 0, 9, 176, 42, 16, 10]
abbrev dktJ8_grow_2_1 : List UInt8 := dkwJ8_grow_2_1 ++ dktJ8_grow_2_2
def dkwJ8_grow_2_0 : List UInt8 := [42, 180, 0, 9, 190, 61, 28, 157, 0, 13, 42, 180, 0, 9, 178, 0, 39, 165, 0, 28, 28, 27, 28, 100]
abbrev dktJ8_grow_2_0 : List UInt8 := dkwJ8_grow_2_0 ++ dktJ8_grow_2_1
theorem dksJ8_grow_2_0 : cJ8_grow_2.data.toList.drop 0 = dktJ8_grow_2_0 := by decide +kernel
theorem dksJ8_grow_2_1 : cJ8_grow_2.data.toList.drop 24 = dktJ8_grow_2_1 := dk_seg dksJ8_grow_2_0 24 rfl rfl
theorem dksJ8_grow_2_2 : cJ8_grow_2.data.toList.drop 48 = dktJ8_grow_2_2 := dk_seg dksJ8_grow_2_1 24 rfl rfl
theorem dJ8_grow_2_0 : decode cJ8_grow_2 0 = .ok (.aload_n 0, 1) := dk_42 (dk_at dksJ8_grow_2_0 0 rfl rfl)
theorem dJ8_grow_2_1 : decode cJ8_grow_2 1 = .ok (.getfield 9, 3) := dk_180 0 9 (dk_at dksJ8_grow_2_0 1 rfl rfl)
theorem dJ8_grow_2_4 : decode cJ8_grow_2 4 = .ok (.arraylength, 1) := dk_190 (dk_at dksJ8_grow_2_0 4 rfl rfl)
theorem dJ8_grow_2_5 : decode cJ8_grow_2 5 = .ok (.istore_n 2, 1) := dk_61 (dk_at dksJ8_grow_2_0 5 rfl rfl)
theorem dJ8_grow_2_6 : decode cJ8_grow_2 6 = .ok (.iload_n 2, 1) := dk_28 (dk_at dksJ8_grow_2_0 6 rfl rfl)
theorem dJ8_grow_2_7 : decode cJ8_grow_2 7 = .ok (.ifCond .gt 13, 3) := dk_157 0 13 (dk_at dksJ8_grow_2_0 7 rfl rfl)
theorem dJ8_grow_2_10 : decode cJ8_grow_2 10 = .ok (.aload_n 0, 1) := dk_42 (dk_at dksJ8_grow_2_0 10 rfl rfl)
theorem dJ8_grow_2_11 : decode cJ8_grow_2 11 = .ok (.getfield 9, 3) := dk_180 0 9 (dk_at dksJ8_grow_2_0 11 rfl rfl)
theorem dJ8_grow_2_14 : decode cJ8_grow_2 14 = .ok (.getstatic 39, 3) := dk_178 0 39 (dk_at dksJ8_grow_2_0 14 rfl rfl)
theorem dJ8_grow_2_17 : decode cJ8_grow_2 17 = .ok (.if_acmp .eq 28, 3) := dk_165 0 28 (dk_at dksJ8_grow_2_0 17 rfl rfl)
theorem dJ8_grow_2_20 : decode cJ8_grow_2 20 = .ok (.iload_n 2, 1) := dk_28 (dk_at dksJ8_grow_2_0 20 rfl rfl)
theorem dJ8_grow_2_21 : decode cJ8_grow_2 21 = .ok (.iload_n 1, 1) := dk_27 (dk_at dksJ8_grow_2_0 21 rfl rfl)
theorem dJ8_grow_2_22 : decode cJ8_grow_2 22 = .ok (.iload_n 2, 1) := dk_28 (dk_at dksJ8_grow_2_0 22 rfl rfl)
theorem dJ8_grow_2_23 : decode cJ8_grow_2 23 = .ok (.isub, 1) := dk_100 (dk_at dksJ8_grow_2_0 23 rfl rfl)
theorem dJ8_grow_2_24 : decode cJ8_grow_2 24 = .ok (.iload_n 2, 1) := dk_28 (dk_at dksJ8_grow_2_1 0 rfl rfl)
theorem dJ8_grow_2_25 : decode cJ8_grow_2 25 = .ok (.iconst 1, 1) := dk_4 (dk_at dksJ8_grow_2_1 1 rfl rfl)
theorem dJ8_grow_2_26 : decode cJ8_grow_2 26 = .ok (.ishr, 1) := dk_122 (dk_at dksJ8_grow_2_1 2 rfl rfl)
theorem dJ8_grow_2_27 : decode cJ8_grow_2 27 = .ok (.invokestatic 73, 3) := dk_184 0 73 (dk_at dksJ8_grow_2_1 3 rfl rfl)
theorem dJ8_grow_2_30 : decode cJ8_grow_2 30 = .ok (.istore_n 3, 1) := dk_62 (dk_at dksJ8_grow_2_1 6 rfl rfl)
theorem dJ8_grow_2_31 : decode cJ8_grow_2 31 = .ok (.aload_n 0, 1) := dk_42 (dk_at dksJ8_grow_2_1 7 rfl rfl)
theorem dJ8_grow_2_32 : decode cJ8_grow_2 32 = .ok (.aload_n 0, 1) := dk_42 (dk_at dksJ8_grow_2_1 8 rfl rfl)
theorem dJ8_grow_2_33 : decode cJ8_grow_2 33 = .ok (.getfield 9, 3) := dk_180 0 9 (dk_at dksJ8_grow_2_1 9 rfl rfl)
theorem dJ8_grow_2_36 : decode cJ8_grow_2 36 = .ok (.iload_n 3, 1) := dk_29 (dk_at dksJ8_grow_2_1 12 rfl rfl)
theorem dJ8_grow_2_37 : decode cJ8_grow_2 37 = .ok (.invokestatic 66, 3) := dk_184 0 66 (dk_at dksJ8_grow_2_1 13 rfl rfl)
theorem dJ8_grow_2_40 : decode cJ8_grow_2 40 = .ok (.dup_x1, 1) := dk_90 (dk_at dksJ8_grow_2_1 16 rfl rfl)
theorem dJ8_grow_2_41 : decode cJ8_grow_2 41 = .ok (.putfield 9, 3) := dk_181 0 9 (dk_at dksJ8_grow_2_1 17 rfl rfl)
theorem dJ8_grow_2_44 : decode cJ8_grow_2 44 = .ok (.areturn, 1) := dk_176 (dk_at dksJ8_grow_2_1 20 rfl rfl)
theorem dJ8_grow_2_45 : decode cJ8_grow_2 45 = .ok (.aload_n 0, 1) := dk_42 (dk_at dksJ8_grow_2_1 21 rfl rfl)
theorem dJ8_grow_2_46 : decode cJ8_grow_2 46 = .ok (.bipush 10, 2) := dk_16 10 (dk_at dksJ8_grow_2_1 22 rfl rfl)
theorem dJ8_grow_2_48 : decode cJ8_grow_2 48 = .ok (.iload_n 1, 1) := dk_27 (dk_at dksJ8_grow_2_2 0 rfl rfl)
theorem dJ8_grow_2_49 : decode cJ8_grow_2 49 = .ok (.invokestatic 79, 3) := dk_184 0 79 (dk_at dksJ8_grow_2_2 1 rfl rfl)
theorem dJ8_grow_2_52 : decode cJ8_grow_2 52 = .ok (.anewarray 7, 3) := dk_189 0 7 (dk_at dksJ8_grow_2_2 4 rfl rfl)
theorem dJ8_grow_2_55 : decode cJ8_grow_2 55 = .ok (.dup_x1, 1) := dk_90 (dk_at dksJ8_grow_2_2 7 rfl rfl)
theorem dJ8_grow_2_56 : decode cJ8_grow_2 56 = .ok (.putfield 9, 3) := dk_181 0 9 (dk_at dksJ8_grow_2_2 8 rfl rfl)
theorem dJ8_grow_2_59 : decode cJ8_grow_2 59 = .ok (.areturn, 1) := dk_176 (dk_at dksJ8_grow_2_2 11 rfl rfl)
abbrev cJ8_iterator : ByteArray := prog_61_method_55_code
def yJ8_iterator : MethodName := ⟨RJ8, "iterator", "()Ljava/util/Iterator;"⟩
def dkwJ8_iterator_0 : List UInt8 := [187, 1, 11, 89, 42, 183, 1, 13, 176]
abbrev dktJ8_iterator_0 : List UInt8 := dkwJ8_iterator_0 ++ []
theorem dksJ8_iterator_0 : cJ8_iterator.data.toList.drop 0 = dktJ8_iterator_0 := by decide +kernel
theorem dJ8_iterator_0 : decode cJ8_iterator 0 = .ok (.new 267, 3) := dk_187 1 11 (dk_at dksJ8_iterator_0 0 rfl rfl)
theorem dJ8_iterator_3 : decode cJ8_iterator 3 = .ok (.dup, 1) := dk_89 (dk_at dksJ8_iterator_0 3 rfl rfl)
theorem dJ8_iterator_4 : decode cJ8_iterator 4 = .ok (.aload_n 0, 1) := dk_42 (dk_at dksJ8_iterator_0 4 rfl rfl)
theorem dJ8_iterator_5 : decode cJ8_iterator 5 = .ok (.invokespecial 269, 3) := dk_183 1 13 (dk_at dksJ8_iterator_0 5 rfl rfl)
theorem dJ8_iterator_8 : decode cJ8_iterator 8 = .ok (.areturn, 1) := dk_176 (dk_at dksJ8_iterator_0 8 rfl rfl)
abbrev cJ8_listIterator : ByteArray := prog_61_method_53_code
def yJ8_listIterator : MethodName := ⟨RJ8, "listIterator", "(I)Ljava/util/ListIterator;"⟩
def dkwJ8_listIterator_0 : List UInt8 := [42, 27, 182, 0, 135, 187, 1, 6, 89, 42, 27, 183, 1, 8, 176]
abbrev dktJ8_listIterator_0 : List UInt8 := dkwJ8_listIterator_0 ++ []
theorem dksJ8_listIterator_0 : cJ8_listIterator.data.toList.drop 0 = dktJ8_listIterator_0 := by decide +kernel
theorem dJ8_listIterator_0 : decode cJ8_listIterator 0 = .ok (.aload_n 0, 1) := dk_42 (dk_at dksJ8_listIterator_0 0 rfl rfl)
theorem dJ8_listIterator_1 : decode cJ8_listIterator 1 = .ok (.iload_n 1, 1) := dk_27 (dk_at dksJ8_listIterator_0 1 rfl rfl)
theorem dJ8_listIterator_2 : decode cJ8_listIterator 2 = .ok (.invokevirtual 135, 3) := dk_182 0 135 (dk_at dksJ8_listIterator_0 2 rfl rfl)
theorem dJ8_listIterator_5 : decode cJ8_listIterator 5 = .ok (.new 262, 3) := dk_187 1 6 (dk_at dksJ8_listIterator_0 5 rfl rfl)
theorem dJ8_listIterator_8 : decode cJ8_listIterator 8 = .ok (.dup, 1) := dk_89 (dk_at dksJ8_listIterator_0 8 rfl rfl)
theorem dJ8_listIterator_9 : decode cJ8_listIterator 9 = .ok (.aload_n 0, 1) := dk_42 (dk_at dksJ8_listIterator_0 9 rfl rfl)
theorem dJ8_listIterator_10 : decode cJ8_listIterator 10 = .ok (.iload_n 1, 1) := dk_27 (dk_at dksJ8_listIterator_0 10 rfl rfl)
theorem dJ8_listIterator_11 : decode cJ8_listIterator 11 = .ok (.invokespecial 264, 3) := dk_183 1 8 (dk_at dksJ8_listIterator_0 11 rfl rfl)
theorem dJ8_listIterator_14 : decode cJ8_listIterator 14 = .ok (.areturn, 1) := dk_176 (dk_at dksJ8_listIterator_0 14 rfl rfl)
abbrev cJ8_rangeCheckForAdd : ByteArray := prog_61_method_45_code
def yJ8_rangeCheckForAdd : MethodName := ⟨RJ8, "rangeCheckForAdd", "(I)V"⟩
def dkwJ8_rangeCheckForAdd_1 : List UInt8 := [191, 177]
abbrev dktJ8_rangeCheckForAdd_1 : List UInt8 := dkwJ8_rangeCheckForAdd_1 ++ []
def dkwJ8_rangeCheckForAdd_0 : List UInt8 := [27, 42, 180, 0, 48, 163, 0, 7, 27, 156, 0, 16, 187, 0, 187, 89, 42, 27, 182, 0, 198, 183, 0, 193]
abbrev dktJ8_rangeCheckForAdd_0 : List UInt8 := dkwJ8_rangeCheckForAdd_0 ++ dktJ8_rangeCheckForAdd_1
theorem dksJ8_rangeCheckForAdd_0 : cJ8_rangeCheckForAdd.data.toList.drop 0 = dktJ8_rangeCheckForAdd_0 := by decide +kernel
theorem dksJ8_rangeCheckForAdd_1 : cJ8_rangeCheckForAdd.data.toList.drop 24 = dktJ8_rangeCheckForAdd_1 := dk_seg dksJ8_rangeCheckForAdd_0 24 rfl rfl
theorem dJ8_rangeCheckForAdd_0 : decode cJ8_rangeCheckForAdd 0 = .ok (.iload_n 1, 1) := dk_27 (dk_at dksJ8_rangeCheckForAdd_0 0 rfl rfl)
theorem dJ8_rangeCheckForAdd_1 : decode cJ8_rangeCheckForAdd 1 = .ok (.aload_n 0, 1) := dk_42 (dk_at dksJ8_rangeCheckForAdd_0 1 rfl rfl)
theorem dJ8_rangeCheckForAdd_2 : decode cJ8_rangeCheckForAdd 2 = .ok (.getfield 48, 3) := dk_180 0 48 (dk_at dksJ8_rangeCheckForAdd_0 2 rfl rfl)
theorem dJ8_rangeCheckForAdd_5 : decode cJ8_rangeCheckForAdd 5 = .ok (.if_icmp .gt 7, 3) := dk_163 0 7 (dk_at dksJ8_rangeCheckForAdd_0 5 rfl rfl)
theorem dJ8_rangeCheckForAdd_8 : decode cJ8_rangeCheckForAdd 8 = .ok (.iload_n 1, 1) := dk_27 (dk_at dksJ8_rangeCheckForAdd_0 8 rfl rfl)
theorem dJ8_rangeCheckForAdd_9 : decode cJ8_rangeCheckForAdd 9 = .ok (.ifCond .ge 16, 3) := dk_156 0 16 (dk_at dksJ8_rangeCheckForAdd_0 9 rfl rfl)
theorem dJ8_rangeCheckForAdd_12 : decode cJ8_rangeCheckForAdd 12 = .ok (.new 187, 3) := dk_187 0 187 (dk_at dksJ8_rangeCheckForAdd_0 12 rfl rfl)
theorem dJ8_rangeCheckForAdd_15 : decode cJ8_rangeCheckForAdd 15 = .ok (.dup, 1) := dk_89 (dk_at dksJ8_rangeCheckForAdd_0 15 rfl rfl)
theorem dJ8_rangeCheckForAdd_16 : decode cJ8_rangeCheckForAdd 16 = .ok (.aload_n 0, 1) := dk_42 (dk_at dksJ8_rangeCheckForAdd_0 16 rfl rfl)
theorem dJ8_rangeCheckForAdd_17 : decode cJ8_rangeCheckForAdd 17 = .ok (.iload_n 1, 1) := dk_27 (dk_at dksJ8_rangeCheckForAdd_0 17 rfl rfl)
theorem dJ8_rangeCheckForAdd_18 : decode cJ8_rangeCheckForAdd 18 = .ok (.invokevirtual 198, 3) := dk_182 0 198 (dk_at dksJ8_rangeCheckForAdd_0 18 rfl rfl)
theorem dJ8_rangeCheckForAdd_21 : decode cJ8_rangeCheckForAdd 21 = .ok (.invokespecial 193, 3) := dk_183 0 193 (dk_at dksJ8_rangeCheckForAdd_0 21 rfl rfl)
theorem dJ8_rangeCheckForAdd_24 : decode cJ8_rangeCheckForAdd 24 = .ok (.athrow, 1) := dk_191 (dk_at dksJ8_rangeCheckForAdd_1 0 rfl rfl)
theorem dJ8_rangeCheckForAdd_25 : decode cJ8_rangeCheckForAdd 25 = .ok (.return_, 1) := dk_177 (dk_at dksJ8_rangeCheckForAdd_1 1 rfl rfl)
abbrev cJ8_outOfBoundsMsg : ByteArray := prog_61_method_46_code
def yJ8_outOfBoundsMsg : MethodName := ⟨RJ8, "outOfBoundsMsg", "(I)Ljava/lang/String;"⟩
def dkwJ8_outOfBoundsMsg_1 : List UInt8 := [180, 0, 48, 182, 0, 29, 182, 0, 32, 176]
abbrev dktJ8_outOfBoundsMsg_1 : List UInt8 := dkwJ8_outOfBoundsMsg_1 ++ []
def dkwJ8_outOfBoundsMsg_0 : List UInt8 := [187, 0, 20, 89, 183, 0, 22, 18, 201, 182, 0, 25, 27, 182, 0, 29, 18, 203, 182, 0, 25, 42]
abbrev dktJ8_outOfBoundsMsg_0 : List UInt8 := dkwJ8_outOfBoundsMsg_0 ++ dktJ8_outOfBoundsMsg_1
theorem dksJ8_outOfBoundsMsg_0 : cJ8_outOfBoundsMsg.data.toList.drop 0 = dktJ8_outOfBoundsMsg_0 := by decide +kernel
theorem dksJ8_outOfBoundsMsg_1 : cJ8_outOfBoundsMsg.data.toList.drop 22 = dktJ8_outOfBoundsMsg_1 := dk_seg dksJ8_outOfBoundsMsg_0 22 rfl rfl
theorem dJ8_outOfBoundsMsg_0 : decode cJ8_outOfBoundsMsg 0 = .ok (.new 20, 3) := dk_187 0 20 (dk_at dksJ8_outOfBoundsMsg_0 0 rfl rfl)
theorem dJ8_outOfBoundsMsg_3 : decode cJ8_outOfBoundsMsg 3 = .ok (.dup, 1) := dk_89 (dk_at dksJ8_outOfBoundsMsg_0 3 rfl rfl)
theorem dJ8_outOfBoundsMsg_4 : decode cJ8_outOfBoundsMsg 4 = .ok (.invokespecial 22, 3) := dk_183 0 22 (dk_at dksJ8_outOfBoundsMsg_0 4 rfl rfl)
theorem dJ8_outOfBoundsMsg_7 : decode cJ8_outOfBoundsMsg 7 = .ok (.ldc 201, 2) := dk_18 201 (dk_at dksJ8_outOfBoundsMsg_0 7 rfl rfl)
theorem dJ8_outOfBoundsMsg_9 : decode cJ8_outOfBoundsMsg 9 = .ok (.invokevirtual 25, 3) := dk_182 0 25 (dk_at dksJ8_outOfBoundsMsg_0 9 rfl rfl)
theorem dJ8_outOfBoundsMsg_12 : decode cJ8_outOfBoundsMsg 12 = .ok (.iload_n 1, 1) := dk_27 (dk_at dksJ8_outOfBoundsMsg_0 12 rfl rfl)
theorem dJ8_outOfBoundsMsg_13 : decode cJ8_outOfBoundsMsg 13 = .ok (.invokevirtual 29, 3) := dk_182 0 29 (dk_at dksJ8_outOfBoundsMsg_0 13 rfl rfl)
theorem dJ8_outOfBoundsMsg_16 : decode cJ8_outOfBoundsMsg 16 = .ok (.ldc 203, 2) := dk_18 203 (dk_at dksJ8_outOfBoundsMsg_0 16 rfl rfl)
theorem dJ8_outOfBoundsMsg_18 : decode cJ8_outOfBoundsMsg 18 = .ok (.invokevirtual 25, 3) := dk_182 0 25 (dk_at dksJ8_outOfBoundsMsg_0 18 rfl rfl)
theorem dJ8_outOfBoundsMsg_21 : decode cJ8_outOfBoundsMsg 21 = .ok (.aload_n 0, 1) := dk_42 (dk_at dksJ8_outOfBoundsMsg_0 21 rfl rfl)
theorem dJ8_outOfBoundsMsg_22 : decode cJ8_outOfBoundsMsg 22 = .ok (.getfield 48, 3) := dk_180 0 48 (dk_at dksJ8_outOfBoundsMsg_1 0 rfl rfl)
theorem dJ8_outOfBoundsMsg_25 : decode cJ8_outOfBoundsMsg 25 = .ok (.invokevirtual 29, 3) := dk_182 0 29 (dk_at dksJ8_outOfBoundsMsg_1 3 rfl rfl)
theorem dJ8_outOfBoundsMsg_28 : decode cJ8_outOfBoundsMsg 28 = .ok (.invokevirtual 32, 3) := dk_182 0 32 (dk_at dksJ8_outOfBoundsMsg_1 6 rfl rfl)
theorem dJ8_outOfBoundsMsg_31 : decode cJ8_outOfBoundsMsg 31 = .ok (.areturn, 1) := dk_176 (dk_at dksJ8_outOfBoundsMsg_1 9 rfl rfl)
abbrev cJ8_add_3 : ByteArray := prog_61_method_26_code
def yJ8_add_3 : MethodName := ⟨RJ8, "add", "(ILjava/lang/Object;)V"⟩
def dkwJ8_add_3_2 : List UInt8 := [29, 27, 100, 184, 0, 112, 25, 4, 27, 44, 83, 42, 29, 4, 96, 181, 0, 48, 177]
abbrev dktJ8_add_3_2 : List UInt8 := dkwJ8_add_3_2 ++ []
def dkwJ8_add_3_1 : List UInt8 := [180, 0, 9, 89, 58, 4, 190, 160, 0, 9, 42, 182, 0, 129, 58, 4, 25, 4, 27, 25, 4, 27, 4, 96]
abbrev dktJ8_add_3_1 : List UInt8 := dkwJ8_add_3_1 ++ dktJ8_add_3_2
def dkwJ8_add_3_0 : List UInt8 := [42, 27, 182, 0, 135, 42, 89, 180, 0, 63, 4, 96, 181, 0, 63, 42, 180, 0, 48, 89, 62, 42]
abbrev dktJ8_add_3_0 : List UInt8 := dkwJ8_add_3_0 ++ dktJ8_add_3_1
theorem dksJ8_add_3_0 : cJ8_add_3.data.toList.drop 0 = dktJ8_add_3_0 := by decide +kernel
theorem dksJ8_add_3_1 : cJ8_add_3.data.toList.drop 22 = dktJ8_add_3_1 := dk_seg dksJ8_add_3_0 22 rfl rfl
theorem dksJ8_add_3_2 : cJ8_add_3.data.toList.drop 46 = dktJ8_add_3_2 := dk_seg dksJ8_add_3_1 24 rfl rfl
theorem dJ8_add_3_0 : decode cJ8_add_3 0 = .ok (.aload_n 0, 1) := dk_42 (dk_at dksJ8_add_3_0 0 rfl rfl)
theorem dJ8_add_3_1 : decode cJ8_add_3 1 = .ok (.iload_n 1, 1) := dk_27 (dk_at dksJ8_add_3_0 1 rfl rfl)
theorem dJ8_add_3_2 : decode cJ8_add_3 2 = .ok (.invokevirtual 135, 3) := dk_182 0 135 (dk_at dksJ8_add_3_0 2 rfl rfl)
theorem dJ8_add_3_5 : decode cJ8_add_3 5 = .ok (.aload_n 0, 1) := dk_42 (dk_at dksJ8_add_3_0 5 rfl rfl)
theorem dJ8_add_3_6 : decode cJ8_add_3 6 = .ok (.dup, 1) := dk_89 (dk_at dksJ8_add_3_0 6 rfl rfl)
theorem dJ8_add_3_7 : decode cJ8_add_3 7 = .ok (.getfield 63, 3) := dk_180 0 63 (dk_at dksJ8_add_3_0 7 rfl rfl)
theorem dJ8_add_3_10 : decode cJ8_add_3 10 = .ok (.iconst 1, 1) := dk_4 (dk_at dksJ8_add_3_0 10 rfl rfl)
theorem dJ8_add_3_11 : decode cJ8_add_3 11 = .ok (.iadd, 1) := dk_96 (dk_at dksJ8_add_3_0 11 rfl rfl)
theorem dJ8_add_3_12 : decode cJ8_add_3 12 = .ok (.putfield 63, 3) := dk_181 0 63 (dk_at dksJ8_add_3_0 12 rfl rfl)
theorem dJ8_add_3_15 : decode cJ8_add_3 15 = .ok (.aload_n 0, 1) := dk_42 (dk_at dksJ8_add_3_0 15 rfl rfl)
theorem dJ8_add_3_16 : decode cJ8_add_3 16 = .ok (.getfield 48, 3) := dk_180 0 48 (dk_at dksJ8_add_3_0 16 rfl rfl)
theorem dJ8_add_3_19 : decode cJ8_add_3 19 = .ok (.dup, 1) := dk_89 (dk_at dksJ8_add_3_0 19 rfl rfl)
theorem dJ8_add_3_20 : decode cJ8_add_3 20 = .ok (.istore_n 3, 1) := dk_62 (dk_at dksJ8_add_3_0 20 rfl rfl)
theorem dJ8_add_3_21 : decode cJ8_add_3 21 = .ok (.aload_n 0, 1) := dk_42 (dk_at dksJ8_add_3_0 21 rfl rfl)
theorem dJ8_add_3_22 : decode cJ8_add_3 22 = .ok (.getfield 9, 3) := dk_180 0 9 (dk_at dksJ8_add_3_1 0 rfl rfl)
theorem dJ8_add_3_25 : decode cJ8_add_3 25 = .ok (.dup, 1) := dk_89 (dk_at dksJ8_add_3_1 3 rfl rfl)
theorem dJ8_add_3_26 : decode cJ8_add_3 26 = .ok (.astore 4, 2) := dk_58 4 (dk_at dksJ8_add_3_1 4 rfl rfl)
theorem dJ8_add_3_28 : decode cJ8_add_3 28 = .ok (.arraylength, 1) := dk_190 (dk_at dksJ8_add_3_1 6 rfl rfl)
theorem dJ8_add_3_29 : decode cJ8_add_3 29 = .ok (.if_icmp .ne 9, 3) := dk_160 0 9 (dk_at dksJ8_add_3_1 7 rfl rfl)
theorem dJ8_add_3_32 : decode cJ8_add_3 32 = .ok (.aload_n 0, 1) := dk_42 (dk_at dksJ8_add_3_1 10 rfl rfl)
theorem dJ8_add_3_33 : decode cJ8_add_3 33 = .ok (.invokevirtual 129, 3) := dk_182 0 129 (dk_at dksJ8_add_3_1 11 rfl rfl)
theorem dJ8_add_3_36 : decode cJ8_add_3 36 = .ok (.astore 4, 2) := dk_58 4 (dk_at dksJ8_add_3_1 14 rfl rfl)
theorem dJ8_add_3_38 : decode cJ8_add_3 38 = .ok (.aload 4, 2) := dk_25 4 (dk_at dksJ8_add_3_1 16 rfl rfl)
theorem dJ8_add_3_40 : decode cJ8_add_3 40 = .ok (.iload_n 1, 1) := dk_27 (dk_at dksJ8_add_3_1 18 rfl rfl)
theorem dJ8_add_3_41 : decode cJ8_add_3 41 = .ok (.aload 4, 2) := dk_25 4 (dk_at dksJ8_add_3_1 19 rfl rfl)
theorem dJ8_add_3_43 : decode cJ8_add_3 43 = .ok (.iload_n 1, 1) := dk_27 (dk_at dksJ8_add_3_1 21 rfl rfl)
theorem dJ8_add_3_44 : decode cJ8_add_3 44 = .ok (.iconst 1, 1) := dk_4 (dk_at dksJ8_add_3_1 22 rfl rfl)
theorem dJ8_add_3_45 : decode cJ8_add_3 45 = .ok (.iadd, 1) := dk_96 (dk_at dksJ8_add_3_1 23 rfl rfl)
theorem dJ8_add_3_46 : decode cJ8_add_3 46 = .ok (.iload_n 3, 1) := dk_29 (dk_at dksJ8_add_3_2 0 rfl rfl)
theorem dJ8_add_3_47 : decode cJ8_add_3 47 = .ok (.iload_n 1, 1) := dk_27 (dk_at dksJ8_add_3_2 1 rfl rfl)
theorem dJ8_add_3_48 : decode cJ8_add_3 48 = .ok (.isub, 1) := dk_100 (dk_at dksJ8_add_3_2 2 rfl rfl)
theorem dJ8_add_3_49 : decode cJ8_add_3 49 = .ok (.invokestatic 112, 3) := dk_184 0 112 (dk_at dksJ8_add_3_2 3 rfl rfl)
theorem dJ8_add_3_52 : decode cJ8_add_3 52 = .ok (.aload 4, 2) := dk_25 4 (dk_at dksJ8_add_3_2 6 rfl rfl)
theorem dJ8_add_3_54 : decode cJ8_add_3 54 = .ok (.iload_n 1, 1) := dk_27 (dk_at dksJ8_add_3_2 8 rfl rfl)
theorem dJ8_add_3_55 : decode cJ8_add_3 55 = .ok (.aload_n 2, 1) := dk_44 (dk_at dksJ8_add_3_2 9 rfl rfl)
theorem dJ8_add_3_56 : decode cJ8_add_3 56 = .ok (.aastore, 1) := dk_83 (dk_at dksJ8_add_3_2 10 rfl rfl)
theorem dJ8_add_3_57 : decode cJ8_add_3 57 = .ok (.aload_n 0, 1) := dk_42 (dk_at dksJ8_add_3_2 11 rfl rfl)
theorem dJ8_add_3_58 : decode cJ8_add_3 58 = .ok (.iload_n 3, 1) := dk_29 (dk_at dksJ8_add_3_2 12 rfl rfl)
theorem dJ8_add_3_59 : decode cJ8_add_3 59 = .ok (.iconst 1, 1) := dk_4 (dk_at dksJ8_add_3_2 13 rfl rfl)
theorem dJ8_add_3_60 : decode cJ8_add_3 60 = .ok (.iadd, 1) := dk_96 (dk_at dksJ8_add_3_2 14 rfl rfl)
theorem dJ8_add_3_61 : decode cJ8_add_3 61 = .ok (.putfield 48, 3) := dk_181 0 48 (dk_at dksJ8_add_3_2 15 rfl rfl)
theorem dJ8_add_3_64 : decode cJ8_add_3 64 = .ok (.return_, 1) := dk_177 (dk_at dksJ8_add_3_2 18 rfl rfl)
abbrev cJ8_init_2 : ByteArray := prog_61_method_3_code
def yJ8_init_2 : MethodName := ⟨RJ8, "<init>", "(Ljava/util/Collection;)V"⟩
def dkwJ8_init_2_2 : List UInt8 := [18, 56, 184, 0, 57, 181, 0, 9, 167, 0, 10, 42, 178, 0, 15, 181, 0, 9, 177]
abbrev dktJ8_init_2_2 : List UInt8 := dkwJ8_init_2_2 ++ []
def dkwJ8_init_2_1 : List UInt8 := [185, 0, 52, 1, 0, 18, 10, 166, 0, 11, 42, 44, 181, 0, 9, 167, 0, 27, 42, 44, 42, 180, 0, 48]
abbrev dktJ8_init_2_1 : List UInt8 := dkwJ8_init_2_1 ++ dktJ8_init_2_2
def dkwJ8_init_2_0 : List UInt8 := [42, 183, 0, 1, 43, 185, 0, 42, 1, 0, 77, 42, 44, 190, 90, 181, 0, 48, 153, 0, 39, 43]
abbrev dktJ8_init_2_0 : List UInt8 := dkwJ8_init_2_0 ++ dktJ8_init_2_1
theorem dksJ8_init_2_0 : cJ8_init_2.data.toList.drop 0 = dktJ8_init_2_0 := by decide +kernel
theorem dksJ8_init_2_1 : cJ8_init_2.data.toList.drop 22 = dktJ8_init_2_1 := dk_seg dksJ8_init_2_0 22 rfl rfl
theorem dksJ8_init_2_2 : cJ8_init_2.data.toList.drop 46 = dktJ8_init_2_2 := dk_seg dksJ8_init_2_1 24 rfl rfl
theorem dJ8_init_2_0 : decode cJ8_init_2 0 = .ok (.aload_n 0, 1) := dk_42 (dk_at dksJ8_init_2_0 0 rfl rfl)
theorem dJ8_init_2_1 : decode cJ8_init_2 1 = .ok (.invokespecial 1, 3) := dk_183 0 1 (dk_at dksJ8_init_2_0 1 rfl rfl)
theorem dJ8_init_2_4 : decode cJ8_init_2 4 = .ok (.aload_n 1, 1) := dk_43 (dk_at dksJ8_init_2_0 4 rfl rfl)
theorem dJ8_init_2_5 : decode cJ8_init_2 5 = .ok (.invokeinterface 42 1, 5) := by decide +kernel
theorem dJ8_init_2_10 : decode cJ8_init_2 10 = .ok (.astore_n 2, 1) := dk_77 (dk_at dksJ8_init_2_0 10 rfl rfl)
theorem dJ8_init_2_11 : decode cJ8_init_2 11 = .ok (.aload_n 0, 1) := dk_42 (dk_at dksJ8_init_2_0 11 rfl rfl)
theorem dJ8_init_2_12 : decode cJ8_init_2 12 = .ok (.aload_n 2, 1) := dk_44 (dk_at dksJ8_init_2_0 12 rfl rfl)
theorem dJ8_init_2_13 : decode cJ8_init_2 13 = .ok (.arraylength, 1) := dk_190 (dk_at dksJ8_init_2_0 13 rfl rfl)
theorem dJ8_init_2_14 : decode cJ8_init_2 14 = .ok (.dup_x1, 1) := dk_90 (dk_at dksJ8_init_2_0 14 rfl rfl)
theorem dJ8_init_2_15 : decode cJ8_init_2 15 = .ok (.putfield 48, 3) := dk_181 0 48 (dk_at dksJ8_init_2_0 15 rfl rfl)
theorem dJ8_init_2_18 : decode cJ8_init_2 18 = .ok (.ifCond .eq 39, 3) := dk_153 0 39 (dk_at dksJ8_init_2_0 18 rfl rfl)
theorem dJ8_init_2_21 : decode cJ8_init_2 21 = .ok (.aload_n 1, 1) := dk_43 (dk_at dksJ8_init_2_0 21 rfl rfl)
theorem dJ8_init_2_22 : decode cJ8_init_2 22 = .ok (.invokeinterface 52 1, 5) := by decide +kernel
theorem dJ8_init_2_27 : decode cJ8_init_2 27 = .ok (.ldc 10, 2) := dk_18 10 (dk_at dksJ8_init_2_1 5 rfl rfl)
theorem dJ8_init_2_29 : decode cJ8_init_2 29 = .ok (.if_acmp .ne 11, 3) := dk_166 0 11 (dk_at dksJ8_init_2_1 7 rfl rfl)
theorem dJ8_init_2_32 : decode cJ8_init_2 32 = .ok (.aload_n 0, 1) := dk_42 (dk_at dksJ8_init_2_1 10 rfl rfl)
theorem dJ8_init_2_33 : decode cJ8_init_2 33 = .ok (.aload_n 2, 1) := dk_44 (dk_at dksJ8_init_2_1 11 rfl rfl)
theorem dJ8_init_2_34 : decode cJ8_init_2 34 = .ok (.putfield 9, 3) := dk_181 0 9 (dk_at dksJ8_init_2_1 12 rfl rfl)
theorem dJ8_init_2_37 : decode cJ8_init_2 37 = .ok (.goto 27, 3) := dk_167 0 27 (dk_at dksJ8_init_2_1 15 rfl rfl)
theorem dJ8_init_2_40 : decode cJ8_init_2 40 = .ok (.aload_n 0, 1) := dk_42 (dk_at dksJ8_init_2_1 18 rfl rfl)
theorem dJ8_init_2_41 : decode cJ8_init_2 41 = .ok (.aload_n 2, 1) := dk_44 (dk_at dksJ8_init_2_1 19 rfl rfl)
theorem dJ8_init_2_42 : decode cJ8_init_2 42 = .ok (.aload_n 0, 1) := dk_42 (dk_at dksJ8_init_2_1 20 rfl rfl)
theorem dJ8_init_2_43 : decode cJ8_init_2 43 = .ok (.getfield 48, 3) := dk_180 0 48 (dk_at dksJ8_init_2_1 21 rfl rfl)
theorem dJ8_init_2_46 : decode cJ8_init_2 46 = .ok (.ldc 56, 2) := dk_18 56 (dk_at dksJ8_init_2_2 0 rfl rfl)
theorem dJ8_init_2_48 : decode cJ8_init_2 48 = .ok (.invokestatic 57, 3) := dk_184 0 57 (dk_at dksJ8_init_2_2 2 rfl rfl)
theorem dJ8_init_2_51 : decode cJ8_init_2 51 = .ok (.putfield 9, 3) := dk_181 0 9 (dk_at dksJ8_init_2_2 5 rfl rfl)
theorem dJ8_init_2_54 : decode cJ8_init_2 54 = .ok (.goto 10, 3) := dk_167 0 10 (dk_at dksJ8_init_2_2 8 rfl rfl)
theorem dJ8_init_2_57 : decode cJ8_init_2 57 = .ok (.aload_n 0, 1) := dk_42 (dk_at dksJ8_init_2_2 11 rfl rfl)
theorem dJ8_init_2_58 : decode cJ8_init_2 58 = .ok (.getstatic 15, 3) := dk_178 0 15 (dk_at dksJ8_init_2_2 12 rfl rfl)
theorem dJ8_init_2_61 : decode cJ8_init_2 61 = .ok (.putfield 9, 3) := dk_181 0 9 (dk_at dksJ8_init_2_2 15 rfl rfl)
theorem dJ8_init_2_64 : decode cJ8_init_2 64 = .ok (.return_, 1) := dk_177 (dk_at dksJ8_init_2_2 18 rfl rfl)
abbrev cJ8_toArray : ByteArray := prog_61_method_16_code
def yJ8_toArray : MethodName := ⟨RJ8, "toArray", "()[Ljava/lang/Object;"⟩
def dkwJ8_toArray_0 : List UInt8 := [42, 180, 0, 9, 42, 180, 0, 48, 184, 0, 66, 176]
abbrev dktJ8_toArray_0 : List UInt8 := dkwJ8_toArray_0 ++ []
theorem dksJ8_toArray_0 : cJ8_toArray.data.toList.drop 0 = dktJ8_toArray_0 := by decide +kernel
theorem dJ8_toArray_0 : decode cJ8_toArray 0 = .ok (.aload_n 0, 1) := dk_42 (dk_at dksJ8_toArray_0 0 rfl rfl)
theorem dJ8_toArray_1 : decode cJ8_toArray 1 = .ok (.getfield 9, 3) := dk_180 0 9 (dk_at dksJ8_toArray_0 1 rfl rfl)
theorem dJ8_toArray_4 : decode cJ8_toArray 4 = .ok (.aload_n 0, 1) := dk_42 (dk_at dksJ8_toArray_0 4 rfl rfl)
theorem dJ8_toArray_5 : decode cJ8_toArray 5 = .ok (.getfield 48, 3) := dk_180 0 48 (dk_at dksJ8_toArray_0 5 rfl rfl)
theorem dJ8_toArray_8 : decode cJ8_toArray 8 = .ok (.invokestatic 66, 3) := dk_184 0 66 (dk_at dksJ8_toArray_0 8 rfl rfl)
theorem dJ8_toArray_11 : decode cJ8_toArray 11 = .ok (.areturn, 1) := dk_176 (dk_at dksJ8_toArray_0 11 rfl rfl)
abbrev cJ8_indexOf : ByteArray := prog_61_method_11_code
def yJ8_indexOf : MethodName := ⟨RJ8, "indexOf", "(Ljava/lang/Object;)I"⟩
def dkwJ8_indexOf_0 : List UInt8 := [42, 43, 3, 42, 180, 0, 48, 182, 0, 89, 172]
abbrev dktJ8_indexOf_0 : List UInt8 := dkwJ8_indexOf_0 ++ []
theorem dksJ8_indexOf_0 : cJ8_indexOf.data.toList.drop 0 = dktJ8_indexOf_0 := by decide +kernel
theorem dJ8_indexOf_0 : decode cJ8_indexOf 0 = .ok (.aload_n 0, 1) := dk_42 (dk_at dksJ8_indexOf_0 0 rfl rfl)
theorem dJ8_indexOf_1 : decode cJ8_indexOf 1 = .ok (.aload_n 1, 1) := dk_43 (dk_at dksJ8_indexOf_0 1 rfl rfl)
theorem dJ8_indexOf_2 : decode cJ8_indexOf 2 = .ok (.iconst 0, 1) := dk_3 (dk_at dksJ8_indexOf_0 2 rfl rfl)
theorem dJ8_indexOf_3 : decode cJ8_indexOf 3 = .ok (.aload_n 0, 1) := dk_42 (dk_at dksJ8_indexOf_0 3 rfl rfl)
theorem dJ8_indexOf_4 : decode cJ8_indexOf 4 = .ok (.getfield 48, 3) := dk_180 0 48 (dk_at dksJ8_indexOf_0 4 rfl rfl)
theorem dJ8_indexOf_7 : decode cJ8_indexOf 7 = .ok (.invokevirtual 89, 3) := dk_182 0 89 (dk_at dksJ8_indexOf_0 7 rfl rfl)
theorem dJ8_indexOf_10 : decode cJ8_indexOf 10 = .ok (.ireturn, 1) := dk_172 (dk_at dksJ8_indexOf_0 10 rfl rfl)
abbrev cJ8_indexOfRange : ByteArray := prog_61_method_12_code
def yJ8_indexOfRange : MethodName := ⟨RJ8, "indexOfRange", "(Ljava/lang/Object;II)I"⟩
def dkwJ8_indexOfRange_2 : List UInt8 := [43, 25, 4, 21, 5, 50, 182, 0, 93, 153, 0, 6, 21, 5, 172, 132, 5, 1, 167, 255, 232, 2, 172]
abbrev dktJ8_indexOfRange_2 : List UInt8 := dkwJ8_indexOfRange_2 ++ []
def dkwJ8_indexOfRange_1 : List UInt8 := [199, 0, 6, 21, 5, 172, 132, 5, 1, 167, 255, 236, 167, 0, 33, 28, 54, 5, 21, 5, 29, 162, 0, 24]
abbrev dktJ8_indexOfRange_1 : List UInt8 := dkwJ8_indexOfRange_1 ++ dktJ8_indexOfRange_2
def dkwJ8_indexOfRange_0 : List UInt8 := [42, 180, 0, 9, 58, 4, 43, 199, 0, 32, 28, 54, 5, 21, 5, 29, 162, 0, 20, 25, 4, 21, 5, 50]
abbrev dktJ8_indexOfRange_0 : List UInt8 := dkwJ8_indexOfRange_0 ++ dktJ8_indexOfRange_1
theorem dksJ8_indexOfRange_0 : cJ8_indexOfRange.data.toList.drop 0 = dktJ8_indexOfRange_0 := by decide +kernel
theorem dksJ8_indexOfRange_1 : cJ8_indexOfRange.data.toList.drop 24 = dktJ8_indexOfRange_1 := dk_seg dksJ8_indexOfRange_0 24 rfl rfl
theorem dksJ8_indexOfRange_2 : cJ8_indexOfRange.data.toList.drop 48 = dktJ8_indexOfRange_2 := dk_seg dksJ8_indexOfRange_1 24 rfl rfl
theorem dJ8_indexOfRange_0 : decode cJ8_indexOfRange 0 = .ok (.aload_n 0, 1) := dk_42 (dk_at dksJ8_indexOfRange_0 0 rfl rfl)
theorem dJ8_indexOfRange_1 : decode cJ8_indexOfRange 1 = .ok (.getfield 9, 3) := dk_180 0 9 (dk_at dksJ8_indexOfRange_0 1 rfl rfl)
theorem dJ8_indexOfRange_4 : decode cJ8_indexOfRange 4 = .ok (.astore 4, 2) := dk_58 4 (dk_at dksJ8_indexOfRange_0 4 rfl rfl)
theorem dJ8_indexOfRange_6 : decode cJ8_indexOfRange 6 = .ok (.aload_n 1, 1) := dk_43 (dk_at dksJ8_indexOfRange_0 6 rfl rfl)
theorem dJ8_indexOfRange_7 : decode cJ8_indexOfRange 7 = .ok (.ifnonnull 32, 3) := dk_199 0 32 (dk_at dksJ8_indexOfRange_0 7 rfl rfl)
theorem dJ8_indexOfRange_10 : decode cJ8_indexOfRange 10 = .ok (.iload_n 2, 1) := dk_28 (dk_at dksJ8_indexOfRange_0 10 rfl rfl)
theorem dJ8_indexOfRange_11 : decode cJ8_indexOfRange 11 = .ok (.istore 5, 2) := dk_54 5 (dk_at dksJ8_indexOfRange_0 11 rfl rfl)
theorem dJ8_indexOfRange_13 : decode cJ8_indexOfRange 13 = .ok (.iload 5, 2) := dk_21 5 (dk_at dksJ8_indexOfRange_0 13 rfl rfl)
theorem dJ8_indexOfRange_15 : decode cJ8_indexOfRange 15 = .ok (.iload_n 3, 1) := dk_29 (dk_at dksJ8_indexOfRange_0 15 rfl rfl)
theorem dJ8_indexOfRange_16 : decode cJ8_indexOfRange 16 = .ok (.if_icmp .ge 20, 3) := dk_162 0 20 (dk_at dksJ8_indexOfRange_0 16 rfl rfl)
theorem dJ8_indexOfRange_19 : decode cJ8_indexOfRange 19 = .ok (.aload 4, 2) := dk_25 4 (dk_at dksJ8_indexOfRange_0 19 rfl rfl)
theorem dJ8_indexOfRange_21 : decode cJ8_indexOfRange 21 = .ok (.iload 5, 2) := dk_21 5 (dk_at dksJ8_indexOfRange_0 21 rfl rfl)
theorem dJ8_indexOfRange_23 : decode cJ8_indexOfRange 23 = .ok (.aaload, 1) := dk_50 (dk_at dksJ8_indexOfRange_0 23 rfl rfl)
theorem dJ8_indexOfRange_24 : decode cJ8_indexOfRange 24 = .ok (.ifnonnull 6, 3) := dk_199 0 6 (dk_at dksJ8_indexOfRange_1 0 rfl rfl)
theorem dJ8_indexOfRange_27 : decode cJ8_indexOfRange 27 = .ok (.iload 5, 2) := dk_21 5 (dk_at dksJ8_indexOfRange_1 3 rfl rfl)
theorem dJ8_indexOfRange_29 : decode cJ8_indexOfRange 29 = .ok (.ireturn, 1) := dk_172 (dk_at dksJ8_indexOfRange_1 5 rfl rfl)
theorem dJ8_indexOfRange_30 : decode cJ8_indexOfRange 30 = .ok (.iinc 5 1, 3) := dk_132 5 1 (dk_at dksJ8_indexOfRange_1 6 rfl rfl)
theorem dJ8_indexOfRange_33 : decode cJ8_indexOfRange 33 = .ok (.goto (-20), 3) := dk_167 255 236 (dk_at dksJ8_indexOfRange_1 9 rfl rfl)
theorem dJ8_indexOfRange_36 : decode cJ8_indexOfRange 36 = .ok (.goto 33, 3) := dk_167 0 33 (dk_at dksJ8_indexOfRange_1 12 rfl rfl)
theorem dJ8_indexOfRange_39 : decode cJ8_indexOfRange 39 = .ok (.iload_n 2, 1) := dk_28 (dk_at dksJ8_indexOfRange_1 15 rfl rfl)
theorem dJ8_indexOfRange_40 : decode cJ8_indexOfRange 40 = .ok (.istore 5, 2) := dk_54 5 (dk_at dksJ8_indexOfRange_1 16 rfl rfl)
theorem dJ8_indexOfRange_42 : decode cJ8_indexOfRange 42 = .ok (.iload 5, 2) := dk_21 5 (dk_at dksJ8_indexOfRange_1 18 rfl rfl)
theorem dJ8_indexOfRange_44 : decode cJ8_indexOfRange 44 = .ok (.iload_n 3, 1) := dk_29 (dk_at dksJ8_indexOfRange_1 20 rfl rfl)
theorem dJ8_indexOfRange_45 : decode cJ8_indexOfRange 45 = .ok (.if_icmp .ge 24, 3) := dk_162 0 24 (dk_at dksJ8_indexOfRange_1 21 rfl rfl)
theorem dJ8_indexOfRange_48 : decode cJ8_indexOfRange 48 = .ok (.aload_n 1, 1) := dk_43 (dk_at dksJ8_indexOfRange_2 0 rfl rfl)
theorem dJ8_indexOfRange_49 : decode cJ8_indexOfRange 49 = .ok (.aload 4, 2) := dk_25 4 (dk_at dksJ8_indexOfRange_2 1 rfl rfl)
theorem dJ8_indexOfRange_51 : decode cJ8_indexOfRange 51 = .ok (.iload 5, 2) := dk_21 5 (dk_at dksJ8_indexOfRange_2 3 rfl rfl)
theorem dJ8_indexOfRange_53 : decode cJ8_indexOfRange 53 = .ok (.aaload, 1) := dk_50 (dk_at dksJ8_indexOfRange_2 5 rfl rfl)
theorem dJ8_indexOfRange_54 : decode cJ8_indexOfRange 54 = .ok (.invokevirtual 93, 3) := dk_182 0 93 (dk_at dksJ8_indexOfRange_2 6 rfl rfl)
theorem dJ8_indexOfRange_57 : decode cJ8_indexOfRange 57 = .ok (.ifCond .eq 6, 3) := dk_153 0 6 (dk_at dksJ8_indexOfRange_2 9 rfl rfl)
theorem dJ8_indexOfRange_60 : decode cJ8_indexOfRange 60 = .ok (.iload 5, 2) := dk_21 5 (dk_at dksJ8_indexOfRange_2 12 rfl rfl)
theorem dJ8_indexOfRange_62 : decode cJ8_indexOfRange 62 = .ok (.ireturn, 1) := dk_172 (dk_at dksJ8_indexOfRange_2 14 rfl rfl)
theorem dJ8_indexOfRange_63 : decode cJ8_indexOfRange 63 = .ok (.iinc 5 1, 3) := dk_132 5 1 (dk_at dksJ8_indexOfRange_2 15 rfl rfl)
theorem dJ8_indexOfRange_66 : decode cJ8_indexOfRange 66 = .ok (.goto (-24), 3) := dk_167 255 232 (dk_at dksJ8_indexOfRange_2 18 rfl rfl)
theorem dJ8_indexOfRange_69 : decode cJ8_indexOfRange 69 = .ok (.iconst (-1), 1) := dk_2 (dk_at dksJ8_indexOfRange_2 21 rfl rfl)
theorem dJ8_indexOfRange_70 : decode cJ8_indexOfRange 70 = .ok (.ireturn, 1) := dk_172 (dk_at dksJ8_indexOfRange_2 22 rfl rfl)
theorem q111 : (Jvm.Cond.initialized "java/util/ArrayList") ∈ lw_all := lw_g (lw_at lw_m1 11 rfl) rfl
theorem q205 : (Jvm.Cond.sameField "java/util/ArrayList" "java/util/AbstractList" "modCount" "I") ∈ lw_all := lw_g (lw_at lw_m1 105 rfl) rfl
theorem q208 : (Jvm.Cond.fieldLink "java/util/ArrayList" (63 : Nat) "java/util/ArrayList" "modCount" "I") ∈ lw_all := lw_g (lw_at lw_m1 108 rfl) rfl
theorem q259 : (Jvm.Cond.instantiable "java/util/ArrayList" (3 : Nat)) ∈ lw_all := lw_g (lw_at lw_m1 159 rfl) rfl
theorem q261 : (Jvm.Cond.instanceMethod ({ cls := "java/util/ArrayList", name := "<init>", desc := "()V" } : Jvm.MethodName)) ∈ lw_all := lw_g (lw_at lw_m1 161 rfl) rfl
theorem q262 : (Jvm.Cond.code ({ cls := "java/util/ArrayList", name := "<init>", desc := "()V" } : Jvm.MethodName) prog_61_method_2_code (1 : Nat) (Option.none : Option Jvm.ClassFile.FieldType)) ∈ lw_all := lw_g (lw_at lw_m1 162 rfl) rfl
theorem q263 : (Jvm.Cond.methodLink "java/util/ArrayList" (1 : Nat) ({ cls := "java/util/AbstractList", name := "<init>", desc := "()V" } : Jvm.MethodName)) ∈ lw_all := lw_g (lw_at lw_m1 163 rfl) rfl
theorem q264 : (Jvm.Cond.fieldLink "java/util/ArrayList" (39 : Nat) "java/util/ArrayList" "DEFAULTCAPACITY_EMPTY_ELEMENTDATA" "[Ljava/lang/Object;") ∈ lw_all := lw_g (lw_at lw_m1 164 rfl) rfl
theorem q265 : (Jvm.Cond.laysStatic "java/util/ArrayList" "DEFAULTCAPACITY_EMPTY_ELEMENTDATA" "[Ljava/lang/Object;") ∈ lw_tbl := lw_at lw_m1 165 rfl
theorem q266 : (Jvm.Cond.fieldLink "java/util/ArrayList" (9 : Nat) "java/util/ArrayList" "elementData" "[Ljava/lang/Object;") ∈ lw_all := lw_g (lw_at lw_m1 166 rfl) rfl
theorem q269 : (Jvm.Cond.fieldLink "java/util/ArrayList" (48 : Nat) "java/util/ArrayList" "size" "I") ∈ lw_all := lw_g (lw_at lw_m1 169 rfl) rfl
theorem q270 : (Jvm.Cond.lays "java/util/ArrayList" "java/util/ArrayList" "elementData" "[Ljava/lang/Object;") ∈ lw_all := lw_g (lw_at lw_m1 170 rfl) rfl
theorem q271 : (Jvm.Cond.soleField "java/util/ArrayList" "elementData") ∈ lw_all := lw_g (lw_at lw_m1 171 rfl) rfl
theorem q272 : (Jvm.Cond.lays "java/util/ArrayList" "java/util/ArrayList" "size" "I") ∈ lw_all := lw_g (lw_at lw_m1 172 rfl) rfl
theorem q273 : (Jvm.Cond.soleField "java/util/ArrayList" "size") ∈ lw_all := lw_g (lw_at lw_m1 173 rfl) rfl
theorem q274 : (Jvm.Cond.lays "java/util/ArrayList" "java/util/AbstractList" "modCount" "I") ∈ lw_all := lw_g (lw_at lw_m1 174 rfl) rfl
theorem q275 : (Jvm.Cond.superclass "java/util/ArrayList" "java/util/AbstractList") ∈ lw_all := lw_g (lw_at lw_m1 175 rfl) rfl
theorem q387 : (Jvm.Cond.castable "java/util/ArrayList" "java/util/List") ∈ lw_tbl := lw_at lw_m2 47 rfl
theorem q388 : (Jvm.Cond.selects "java/util/ArrayList" ({ cls := "java/util/List", name := "size", desc := "()I" } : Jvm.MethodName) ({ cls := "java/util/ArrayList", name := "size", desc := "()I" } : Jvm.MethodName)) ∈ lw_all := lw_g (lw_at lw_m2 48 rfl) rfl
theorem q389 : (Jvm.Cond.unhidden "java/util/ArrayList" "size" "()I") ∈ lw_tbl := lw_at lw_m2 49 rfl
theorem q390 : (Jvm.Cond.instanceMethod ({ cls := "java/util/ArrayList", name := "size", desc := "()I" } : Jvm.MethodName)) ∈ lw_all := lw_g (lw_at lw_m2 50 rfl) rfl
theorem q391 : (Jvm.Cond.publicMethod ({ cls := "java/util/ArrayList", name := "size", desc := "()I" } : Jvm.MethodName)) ∈ lw_tbl := lw_at lw_m2 51 rfl
theorem q392 : (Jvm.Cond.code ({ cls := "java/util/ArrayList", name := "size", desc := "()I" } : Jvm.MethodName) prog_61_method_8_code (1 : Nat) (Option.some Jvm.ClassFile.FieldType.int)) ∈ lw_all := lw_g (lw_at lw_m2 52 rfl) rfl
theorem q473 : (Jvm.Cond.selects "java/util/ArrayList" ({ cls := "java/util/List", name := "get", desc := "(I)Ljava/lang/Object;" } : Jvm.MethodName) ({ cls := "java/util/ArrayList", name := "get", desc := "(I)Ljava/lang/Object;" } : Jvm.MethodName)) ∈ lw_all := lw_g (lw_at lw_m2 133 rfl) rfl
theorem q474 : (Jvm.Cond.unhidden "java/util/ArrayList" "get" "(I)Ljava/lang/Object;") ∈ lw_tbl := lw_at lw_m2 134 rfl
theorem q475 : (Jvm.Cond.instanceMethod ({ cls := "java/util/ArrayList", name := "get", desc := "(I)Ljava/lang/Object;" } : Jvm.MethodName)) ∈ lw_all := lw_g (lw_at lw_m2 135 rfl) rfl
theorem q476 : (Jvm.Cond.publicMethod ({ cls := "java/util/ArrayList", name := "get", desc := "(I)Ljava/lang/Object;" } : Jvm.MethodName)) ∈ lw_tbl := lw_at lw_m2 136 rfl
theorem q477 : (Jvm.Cond.code ({ cls := "java/util/ArrayList", name := "get", desc := "(I)Ljava/lang/Object;" } : Jvm.MethodName) prog_61_method_20_code (2 : Nat) (Option.some (Jvm.ClassFile.FieldType.object "java/lang/Object"))) ∈ lw_all := lw_g (lw_at lw_m2 137 rfl) rfl
theorem q478 : (Jvm.Cond.methodLink "java/util/ArrayList" (118 : Nat) ({ cls := "java/util/Objects", name := "checkIndex", desc := "(II)I" } : Jvm.MethodName)) ∈ lw_all := lw_g (lw_at lw_m2 138 rfl) rfl
theorem q484 : (Jvm.Cond.methodLink "java/util/ArrayList" (123 : Nat) ({ cls := "java/util/ArrayList", name := "elementData", desc := "(I)Ljava/lang/Object;" } : Jvm.MethodName)) ∈ lw_all := lw_g (lw_at lw_m2 144 rfl) rfl
theorem q485 : (Jvm.Cond.instanceMethod ({ cls := "java/util/ArrayList", name := "elementData", desc := "(I)Ljava/lang/Object;" } : Jvm.MethodName)) ∈ lw_all := lw_g (lw_at lw_m2 145 rfl) rfl
theorem q486 : (Jvm.Cond.selects "java/util/ArrayList" ({ cls := "java/util/ArrayList", name := "elementData", desc := "(I)Ljava/lang/Object;" } : Jvm.MethodName) ({ cls := "java/util/ArrayList", name := "elementData", desc := "(I)Ljava/lang/Object;" } : Jvm.MethodName)) ∈ lw_all := lw_g (lw_at lw_m2 146 rfl) rfl
theorem q487 : (Jvm.Cond.code ({ cls := "java/util/ArrayList", name := "elementData", desc := "(I)Ljava/lang/Object;" } : Jvm.MethodName) prog_61_method_18_code (2 : Nat) (Option.some (Jvm.ClassFile.FieldType.object "java/lang/Object"))) ∈ lw_all := lw_g (lw_at lw_m2 147 rfl) rfl
theorem q829 : (Jvm.Cond.selects "java/util/ArrayList" ({ cls := "java/util/AbstractList", name := "size", desc := "()I" } : Jvm.MethodName) ({ cls := "java/util/ArrayList", name := "size", desc := "()I" } : Jvm.MethodName)) ∈ lw_all := lw_g (lw_at lw_m4 9 rfl) rfl
theorem q956 : (Jvm.Cond.selects "java/util/ArrayList" ({ cls := "java/util/AbstractList", name := "get", desc := "(I)Ljava/lang/Object;" } : Jvm.MethodName) ({ cls := "java/util/ArrayList", name := "get", desc := "(I)Ljava/lang/Object;" } : Jvm.MethodName)) ∈ lw_all := lw_g (lw_at lw_m4 136 rfl) rfl
theorem q1019 : (Jvm.Cond.selects "java/util/ArrayList" ({ cls := "java/lang/Object", name := "getClass", desc := "()Ljava/lang/Class;" } : Jvm.MethodName) ({ cls := "java/lang/Object", name := "getClass", desc := "()Ljava/lang/Class;" } : Jvm.MethodName)) ∈ lw_all := lw_g (lw_at lw_m4 199 rfl) rfl
theorem q1176 : (Jvm.Cond.selects "java/util/ArrayList" ({ cls := "java/util/List", name := "add", desc := "(Ljava/lang/Object;)Z" } : Jvm.MethodName) ({ cls := "java/util/ArrayList", name := "add", desc := "(Ljava/lang/Object;)Z" } : Jvm.MethodName)) ∈ lw_all := lw_g (lw_at lw_m5 116 rfl) rfl
theorem q1177 : (Jvm.Cond.unhidden "java/util/ArrayList" "add" "(Ljava/lang/Object;)Z") ∈ lw_tbl := lw_at lw_m5 117 rfl
theorem q1178 : (Jvm.Cond.instanceMethod ({ cls := "java/util/ArrayList", name := "add", desc := "(Ljava/lang/Object;)Z" } : Jvm.MethodName)) ∈ lw_all := lw_g (lw_at lw_m5 118 rfl) rfl
theorem q1179 : (Jvm.Cond.publicMethod ({ cls := "java/util/ArrayList", name := "add", desc := "(Ljava/lang/Object;)Z" } : Jvm.MethodName)) ∈ lw_tbl := lw_at lw_m5 119 rfl
theorem q1180 : (Jvm.Cond.code ({ cls := "java/util/ArrayList", name := "add", desc := "(Ljava/lang/Object;)Z" } : Jvm.MethodName) prog_61_method_25_code (2 : Nat) (Option.some Jvm.ClassFile.FieldType.boolean)) ∈ lw_all := lw_g (lw_at lw_m5 120 rfl) rfl
theorem q1181 : (Jvm.Cond.methodLink "java/util/ArrayList" (131 : Nat) ({ cls := "java/util/ArrayList", name := "add", desc := "(Ljava/lang/Object;[Ljava/lang/Object;I)V" } : Jvm.MethodName)) ∈ lw_all := lw_g (lw_at lw_m5 121 rfl) rfl
theorem q1182 : (Jvm.Cond.privateMethod ({ cls := "java/util/ArrayList", name := "add", desc := "(Ljava/lang/Object;[Ljava/lang/Object;I)V" } : Jvm.MethodName)) ∈ lw_tbl := lw_at lw_m5 122 rfl
theorem q1183 : (Jvm.Cond.instanceMethod ({ cls := "java/util/ArrayList", name := "add", desc := "(Ljava/lang/Object;[Ljava/lang/Object;I)V" } : Jvm.MethodName)) ∈ lw_all := lw_g (lw_at lw_m5 123 rfl) rfl
theorem q1184 : (Jvm.Cond.code ({ cls := "java/util/ArrayList", name := "add", desc := "(Ljava/lang/Object;[Ljava/lang/Object;I)V" } : Jvm.MethodName) prog_61_method_24_code (4 : Nat) (Option.none : Option Jvm.ClassFile.FieldType)) ∈ lw_all := lw_g (lw_at lw_m5 124 rfl) rfl
theorem q1185 : (Jvm.Cond.methodLink "java/util/ArrayList" (129 : Nat) ({ cls := "java/util/ArrayList", name := "grow", desc := "()[Ljava/lang/Object;" } : Jvm.MethodName)) ∈ lw_all := lw_g (lw_at lw_m5 125 rfl) rfl
theorem q1186 : (Jvm.Cond.privateMethod ({ cls := "java/util/ArrayList", name := "grow", desc := "()[Ljava/lang/Object;" } : Jvm.MethodName)) ∈ lw_tbl := lw_at lw_m5 126 rfl
theorem q1187 : (Jvm.Cond.instanceMethod ({ cls := "java/util/ArrayList", name := "grow", desc := "()[Ljava/lang/Object;" } : Jvm.MethodName)) ∈ lw_all := lw_g (lw_at lw_m5 127 rfl) rfl
theorem q1188 : (Jvm.Cond.code ({ cls := "java/util/ArrayList", name := "grow", desc := "()[Ljava/lang/Object;" } : Jvm.MethodName) prog_61_method_7_code (1 : Nat) (Option.some (Jvm.ClassFile.FieldType.array (Jvm.ClassFile.FieldType.object "java/lang/Object")))) ∈ lw_all := lw_g (lw_at lw_m5 128 rfl) rfl
theorem q1189 : (Jvm.Cond.methodLink "java/util/ArrayList" (69 : Nat) ({ cls := "java/util/ArrayList", name := "grow", desc := "(I)[Ljava/lang/Object;" } : Jvm.MethodName)) ∈ lw_all := lw_g (lw_at lw_m5 129 rfl) rfl
theorem q1190 : (Jvm.Cond.privateMethod ({ cls := "java/util/ArrayList", name := "grow", desc := "(I)[Ljava/lang/Object;" } : Jvm.MethodName)) ∈ lw_tbl := lw_at lw_m5 130 rfl
theorem q1191 : (Jvm.Cond.instanceMethod ({ cls := "java/util/ArrayList", name := "grow", desc := "(I)[Ljava/lang/Object;" } : Jvm.MethodName)) ∈ lw_all := lw_g (lw_at lw_m5 131 rfl) rfl
theorem q1192 : (Jvm.Cond.code ({ cls := "java/util/ArrayList", name := "grow", desc := "(I)[Ljava/lang/Object;" } : Jvm.MethodName) prog_61_method_6_code (4 : Nat) (Option.some (Jvm.ClassFile.FieldType.array (Jvm.ClassFile.FieldType.object "java/lang/Object")))) ∈ lw_all := lw_g (lw_at lw_m5 132 rfl) rfl
theorem q1193 : (Jvm.Cond.methodLink "java/util/ArrayList" (73 : Nat) ({ cls := "jdk/internal/util/ArraysSupport", name := "newLength", desc := "(III)I" } : Jvm.MethodName)) ∈ lw_all := lw_g (lw_at lw_m5 133 rfl) rfl
theorem q1194 : (Jvm.Cond.methodLink "java/util/ArrayList" (66 : Nat) ({ cls := "java/util/Arrays", name := "copyOf", desc := "([Ljava/lang/Object;I)[Ljava/lang/Object;" } : Jvm.MethodName)) ∈ lw_all := lw_g (lw_at lw_m5 134 rfl) rfl
theorem q1204 : (Jvm.Cond.methodLink "java/util/ArrayList" (79 : Nat) ({ cls := "java/lang/Math", name := "max", desc := "(II)I" } : Jvm.MethodName)) ∈ lw_all := lw_g (lw_at lw_m5 144 rfl) rfl
theorem q1205 : (Jvm.Cond.classLink "java/util/ArrayList" (7 : Nat) "java/lang/Object") ∈ lw_all := lw_g (lw_at lw_m5 145 rfl) rfl
theorem q1326 : (Jvm.Cond.selects "java/util/ArrayList" ({ cls := "java/util/List", name := "iterator", desc := "()Ljava/util/Iterator;" } : Jvm.MethodName) ({ cls := "java/util/ArrayList", name := "iterator", desc := "()Ljava/util/Iterator;" } : Jvm.MethodName)) ∈ lw_all := lw_g (lw_at lw_m6 26 rfl) rfl
theorem q1327 : (Jvm.Cond.unhidden "java/util/ArrayList" "iterator" "()Ljava/util/Iterator;") ∈ lw_tbl := lw_at lw_m6 27 rfl
theorem q1328 : (Jvm.Cond.instanceMethod ({ cls := "java/util/ArrayList", name := "iterator", desc := "()Ljava/util/Iterator;" } : Jvm.MethodName)) ∈ lw_all := lw_g (lw_at lw_m6 28 rfl) rfl
theorem q1329 : (Jvm.Cond.publicMethod ({ cls := "java/util/ArrayList", name := "iterator", desc := "()Ljava/util/Iterator;" } : Jvm.MethodName)) ∈ lw_tbl := lw_at lw_m6 29 rfl
theorem q1330 : (Jvm.Cond.code ({ cls := "java/util/ArrayList", name := "iterator", desc := "()Ljava/util/Iterator;" } : Jvm.MethodName) prog_61_method_55_code (1 : Nat) (Option.some (Jvm.ClassFile.FieldType.object "java/util/Iterator"))) ∈ lw_all := lw_g (lw_at lw_m6 30 rfl) rfl
theorem q1331 : (Jvm.Cond.classLink "java/util/ArrayList" (267 : Nat) "java/util/ArrayList$Itr") ∈ lw_all := lw_g (lw_at lw_m6 31 rfl) rfl
theorem q1333 : (Jvm.Cond.methodLink "java/util/ArrayList" (269 : Nat) ({ cls := "java/util/ArrayList$Itr", name := "<init>", desc := "(Ljava/util/ArrayList;)V" } : Jvm.MethodName)) ∈ lw_all := lw_g (lw_at lw_m6 33 rfl) rfl
theorem q1366 : (Jvm.Cond.selects "java/util/ArrayList" ({ cls := "java/util/AbstractList", name := "listIterator", desc := "(I)Ljava/util/ListIterator;" } : Jvm.MethodName) ({ cls := "java/util/ArrayList", name := "listIterator", desc := "(I)Ljava/util/ListIterator;" } : Jvm.MethodName)) ∈ lw_all := lw_g (lw_at lw_m6 66 rfl) rfl
theorem q1367 : (Jvm.Cond.instanceMethod ({ cls := "java/util/ArrayList", name := "listIterator", desc := "(I)Ljava/util/ListIterator;" } : Jvm.MethodName)) ∈ lw_all := lw_g (lw_at lw_m6 67 rfl) rfl
theorem q1368 : (Jvm.Cond.code ({ cls := "java/util/ArrayList", name := "listIterator", desc := "(I)Ljava/util/ListIterator;" } : Jvm.MethodName) prog_61_method_53_code (2 : Nat) (Option.some (Jvm.ClassFile.FieldType.object "java/util/ListIterator"))) ∈ lw_all := lw_g (lw_at lw_m6 68 rfl) rfl
theorem q1369 : (Jvm.Cond.methodLink "java/util/ArrayList" (135 : Nat) ({ cls := "java/util/ArrayList", name := "rangeCheckForAdd", desc := "(I)V" } : Jvm.MethodName)) ∈ lw_all := lw_g (lw_at lw_m6 69 rfl) rfl
theorem q1370 : (Jvm.Cond.privateMethod ({ cls := "java/util/ArrayList", name := "rangeCheckForAdd", desc := "(I)V" } : Jvm.MethodName)) ∈ lw_tbl := lw_at lw_m6 70 rfl
theorem q1371 : (Jvm.Cond.instanceMethod ({ cls := "java/util/ArrayList", name := "rangeCheckForAdd", desc := "(I)V" } : Jvm.MethodName)) ∈ lw_all := lw_g (lw_at lw_m6 71 rfl) rfl
theorem q1372 : (Jvm.Cond.code ({ cls := "java/util/ArrayList", name := "rangeCheckForAdd", desc := "(I)V" } : Jvm.MethodName) prog_61_method_45_code (2 : Nat) (Option.none : Option Jvm.ClassFile.FieldType)) ∈ lw_all := lw_g (lw_at lw_m6 72 rfl) rfl
theorem q1373 : (Jvm.Cond.classLink "java/util/ArrayList" (187 : Nat) "java/lang/IndexOutOfBoundsException") ∈ lw_all := lw_g (lw_at lw_m6 73 rfl) rfl
theorem q1374 : (Jvm.Cond.methodLink "java/util/ArrayList" (198 : Nat) ({ cls := "java/util/ArrayList", name := "outOfBoundsMsg", desc := "(I)Ljava/lang/String;" } : Jvm.MethodName)) ∈ lw_all := lw_g (lw_at lw_m6 74 rfl) rfl
theorem q1375 : (Jvm.Cond.privateMethod ({ cls := "java/util/ArrayList", name := "outOfBoundsMsg", desc := "(I)Ljava/lang/String;" } : Jvm.MethodName)) ∈ lw_tbl := lw_at lw_m6 75 rfl
theorem q1376 : (Jvm.Cond.instanceMethod ({ cls := "java/util/ArrayList", name := "outOfBoundsMsg", desc := "(I)Ljava/lang/String;" } : Jvm.MethodName)) ∈ lw_all := lw_g (lw_at lw_m6 76 rfl) rfl
theorem q1377 : (Jvm.Cond.code ({ cls := "java/util/ArrayList", name := "outOfBoundsMsg", desc := "(I)Ljava/lang/String;" } : Jvm.MethodName) prog_61_method_46_code (2 : Nat) (Option.some (Jvm.ClassFile.FieldType.object "java/lang/String"))) ∈ lw_all := lw_g (lw_at lw_m6 77 rfl) rfl
theorem q1378 : (Jvm.Cond.classLink "java/util/ArrayList" (20 : Nat) "java/lang/StringBuilder") ∈ lw_all := lw_g (lw_at lw_m6 78 rfl) rfl
theorem q1379 : (Jvm.Cond.methodLink "java/util/ArrayList" (22 : Nat) ({ cls := "java/lang/StringBuilder", name := "<init>", desc := "()V" } : Jvm.MethodName)) ∈ lw_all := lw_g (lw_at lw_m6 79 rfl) rfl
theorem q1380 : (Jvm.Cond.stringRef "java/util/ArrayList" (201 : Nat) "Index: ") ∈ lw_tbl := lw_at lw_m6 80 rfl
theorem q1381 : (Jvm.Cond.methodLink "java/util/ArrayList" (25 : Nat) ({ cls := "java/lang/StringBuilder", name := "append", desc := "(Ljava/lang/String;)Ljava/lang/StringBuilder;" } : Jvm.MethodName)) ∈ lw_all := lw_g (lw_at lw_m6 81 rfl) rfl
theorem q1382 : (Jvm.Cond.methodLink "java/util/ArrayList" (29 : Nat) ({ cls := "java/lang/StringBuilder", name := "append", desc := "(I)Ljava/lang/StringBuilder;" } : Jvm.MethodName)) ∈ lw_all := lw_g (lw_at lw_m6 82 rfl) rfl
theorem q1383 : (Jvm.Cond.stringRef "java/util/ArrayList" (203 : Nat) ", Size: ") ∈ lw_tbl := lw_at lw_m6 83 rfl
theorem q1384 : (Jvm.Cond.methodLink "java/util/ArrayList" (32 : Nat) ({ cls := "java/lang/StringBuilder", name := "toString", desc := "()Ljava/lang/String;" } : Jvm.MethodName)) ∈ lw_all := lw_g (lw_at lw_m6 84 rfl) rfl
theorem q1385 : (Jvm.Cond.methodLink "java/util/ArrayList" (193 : Nat) ({ cls := "java/lang/IndexOutOfBoundsException", name := "<init>", desc := "(Ljava/lang/String;)V" } : Jvm.MethodName)) ∈ lw_all := lw_g (lw_at lw_m6 85 rfl) rfl
theorem q1386 : (Jvm.Cond.classLink "java/util/ArrayList" (262 : Nat) "java/util/ArrayList$ListItr") ∈ lw_all := lw_g (lw_at lw_m6 86 rfl) rfl
theorem q1388 : (Jvm.Cond.methodLink "java/util/ArrayList" (264 : Nat) ({ cls := "java/util/ArrayList$ListItr", name := "<init>", desc := "(Ljava/util/ArrayList;I)V" } : Jvm.MethodName)) ∈ lw_all := lw_g (lw_at lw_m6 88 rfl) rfl
theorem q1827 : (Jvm.Cond.selects "java/util/ArrayList" ({ cls := "java/util/List", name := "add", desc := "(ILjava/lang/Object;)V" } : Jvm.MethodName) ({ cls := "java/util/ArrayList", name := "add", desc := "(ILjava/lang/Object;)V" } : Jvm.MethodName)) ∈ lw_all := lw_g (lw_at lw_m8 47 rfl) rfl
theorem q1828 : (Jvm.Cond.unhidden "java/util/ArrayList" "add" "(ILjava/lang/Object;)V") ∈ lw_tbl := lw_at lw_m8 48 rfl
theorem q1829 : (Jvm.Cond.instanceMethod ({ cls := "java/util/ArrayList", name := "add", desc := "(ILjava/lang/Object;)V" } : Jvm.MethodName)) ∈ lw_all := lw_g (lw_at lw_m8 49 rfl) rfl
theorem q1830 : (Jvm.Cond.publicMethod ({ cls := "java/util/ArrayList", name := "add", desc := "(ILjava/lang/Object;)V" } : Jvm.MethodName)) ∈ lw_tbl := lw_at lw_m8 50 rfl
theorem q1831 : (Jvm.Cond.code ({ cls := "java/util/ArrayList", name := "add", desc := "(ILjava/lang/Object;)V" } : Jvm.MethodName) prog_61_method_26_code (5 : Nat) (Option.none : Option Jvm.ClassFile.FieldType)) ∈ lw_all := lw_g (lw_at lw_m8 51 rfl) rfl
theorem q1832 : (Jvm.Cond.methodLink "java/util/ArrayList" (112 : Nat) ({ cls := "java/lang/System", name := "arraycopy", desc := "(Ljava/lang/Object;ILjava/lang/Object;II)V" } : Jvm.MethodName)) ∈ lw_all := lw_g (lw_at lw_m8 52 rfl) rfl
theorem q1897 : (Jvm.Cond.castable "java/util/ArrayList" "java/util/Collection") ∈ lw_tbl := lw_at lw_m8 117 rfl
theorem q1898 : (Jvm.Cond.selects "java/util/ArrayList" ({ cls := "java/util/Collection", name := "iterator", desc := "()Ljava/util/Iterator;" } : Jvm.MethodName) ({ cls := "java/util/ArrayList", name := "iterator", desc := "()Ljava/util/Iterator;" } : Jvm.MethodName)) ∈ lw_all := lw_g (lw_at lw_m8 118 rfl) rfl
theorem q2985 : (Jvm.Cond.instanceMethod ({ cls := "java/util/ArrayList", name := "<init>", desc := "(Ljava/util/Collection;)V" } : Jvm.MethodName)) ∈ lw_all := lw_g (lw_at lw_m13 5 rfl) rfl
theorem q2986 : (Jvm.Cond.code ({ cls := "java/util/ArrayList", name := "<init>", desc := "(Ljava/util/Collection;)V" } : Jvm.MethodName) prog_61_method_3_code (3 : Nat) (Option.none : Option Jvm.ClassFile.FieldType)) ∈ lw_all := lw_g (lw_at lw_m13 6 rfl) rfl
theorem q2987 : (Jvm.Cond.interfaceEntry "java/util/ArrayList" (42 : Nat)) ∈ lw_tbl := lw_at lw_m13 7 rfl
theorem q2988 : (Jvm.Cond.methodLink "java/util/ArrayList" (42 : Nat) ({ cls := "java/util/Collection", name := "toArray", desc := "()[Ljava/lang/Object;" } : Jvm.MethodName)) ∈ lw_all := lw_g (lw_at lw_m13 8 rfl) rfl
theorem q2991 : (Jvm.Cond.selects "java/util/ArrayList" ({ cls := "java/util/Collection", name := "toArray", desc := "()[Ljava/lang/Object;" } : Jvm.MethodName) ({ cls := "java/util/ArrayList", name := "toArray", desc := "()[Ljava/lang/Object;" } : Jvm.MethodName)) ∈ lw_all := lw_g (lw_at lw_m13 11 rfl) rfl
theorem q2992 : (Jvm.Cond.unhidden "java/util/ArrayList" "toArray" "()[Ljava/lang/Object;") ∈ lw_tbl := lw_at lw_m13 12 rfl
theorem q2993 : (Jvm.Cond.instanceMethod ({ cls := "java/util/ArrayList", name := "toArray", desc := "()[Ljava/lang/Object;" } : Jvm.MethodName)) ∈ lw_all := lw_g (lw_at lw_m13 13 rfl) rfl
theorem q2994 : (Jvm.Cond.publicMethod ({ cls := "java/util/ArrayList", name := "toArray", desc := "()[Ljava/lang/Object;" } : Jvm.MethodName)) ∈ lw_tbl := lw_at lw_m13 14 rfl
theorem q2995 : (Jvm.Cond.code ({ cls := "java/util/ArrayList", name := "toArray", desc := "()[Ljava/lang/Object;" } : Jvm.MethodName) prog_61_method_16_code (1 : Nat) (Option.some (Jvm.ClassFile.FieldType.array (Jvm.ClassFile.FieldType.object "java/lang/Object")))) ∈ lw_all := lw_g (lw_at lw_m13 15 rfl) rfl
theorem q3016 : (Jvm.Cond.selects "java/util/ArrayList" ({ cls := "java/util/AbstractCollection", name := "iterator", desc := "()Ljava/util/Iterator;" } : Jvm.MethodName) ({ cls := "java/util/ArrayList", name := "iterator", desc := "()Ljava/util/Iterator;" } : Jvm.MethodName)) ∈ lw_all := lw_g (lw_at lw_m13 36 rfl) rfl
theorem q3035 : (Jvm.Cond.interfaceEntry "java/util/ArrayList" (52 : Nat)) ∈ lw_tbl := lw_at lw_m13 55 rfl
theorem q3036 : (Jvm.Cond.methodLink "java/util/ArrayList" (52 : Nat) ({ cls := "java/util/Collection", name := "getClass", desc := "()Ljava/lang/Class;" } : Jvm.MethodName)) ∈ lw_all := lw_g (lw_at lw_m13 56 rfl) rfl
theorem q3039 : (Jvm.Cond.unhidden "java/util/ArrayList" "getClass" "()Ljava/lang/Class;") ∈ lw_tbl := lw_at lw_m13 59 rfl
theorem q3046 : (Jvm.Cond.classLink "java/util/ArrayList" (10 : Nat) "java/util/ArrayList") ∈ lw_all := lw_g (lw_at lw_m13 66 rfl) rfl
theorem q3047 : (Jvm.Cond.classLink "java/util/ArrayList" (56 : Nat) "[Ljava/lang/Object;") ∈ lw_all := lw_g (lw_at lw_m13 67 rfl) rfl
theorem q3048 : (Jvm.Cond.methodLink "java/util/ArrayList" (57 : Nat) ({ cls := "java/util/Arrays", name := "copyOf", desc := "([Ljava/lang/Object;ILjava/lang/Class;)[Ljava/lang/Object;" } : Jvm.MethodName)) ∈ lw_all := lw_g (lw_at lw_m13 68 rfl) rfl
theorem q3049 : (Jvm.Cond.fieldLink "java/util/ArrayList" (15 : Nat) "java/util/ArrayList" "EMPTY_ELEMENTDATA" "[Ljava/lang/Object;") ∈ lw_all := lw_g (lw_at lw_m13 69 rfl) rfl
theorem q3050 : (Jvm.Cond.laysStatic "java/util/ArrayList" "EMPTY_ELEMENTDATA" "[Ljava/lang/Object;") ∈ lw_tbl := lw_at lw_m13 70 rfl
theorem q3152 : (Jvm.Cond.selects "java/util/ArrayList" ({ cls := "java/util/List", name := "indexOf", desc := "(Ljava/lang/Object;)I" } : Jvm.MethodName) ({ cls := "java/util/ArrayList", name := "indexOf", desc := "(Ljava/lang/Object;)I" } : Jvm.MethodName)) ∈ lw_all := lw_g (lw_at lw_m13 172 rfl) rfl
theorem q3153 : (Jvm.Cond.unhidden "java/util/ArrayList" "indexOf" "(Ljava/lang/Object;)I") ∈ lw_tbl := lw_at lw_m13 173 rfl
theorem q3154 : (Jvm.Cond.instanceMethod ({ cls := "java/util/ArrayList", name := "indexOf", desc := "(Ljava/lang/Object;)I" } : Jvm.MethodName)) ∈ lw_all := lw_g (lw_at lw_m13 174 rfl) rfl
theorem q3155 : (Jvm.Cond.publicMethod ({ cls := "java/util/ArrayList", name := "indexOf", desc := "(Ljava/lang/Object;)I" } : Jvm.MethodName)) ∈ lw_tbl := lw_at lw_m13 175 rfl
theorem q3156 : (Jvm.Cond.code ({ cls := "java/util/ArrayList", name := "indexOf", desc := "(Ljava/lang/Object;)I" } : Jvm.MethodName) prog_61_method_11_code (2 : Nat) (Option.some Jvm.ClassFile.FieldType.int)) ∈ lw_all := lw_g (lw_at lw_m13 176 rfl) rfl
theorem q3157 : (Jvm.Cond.methodLink "java/util/ArrayList" (89 : Nat) ({ cls := "java/util/ArrayList", name := "indexOfRange", desc := "(Ljava/lang/Object;II)I" } : Jvm.MethodName)) ∈ lw_all := lw_g (lw_at lw_m13 177 rfl) rfl
theorem q3158 : (Jvm.Cond.instanceMethod ({ cls := "java/util/ArrayList", name := "indexOfRange", desc := "(Ljava/lang/Object;II)I" } : Jvm.MethodName)) ∈ lw_all := lw_g (lw_at lw_m13 178 rfl) rfl
theorem q3159 : (Jvm.Cond.selects "java/util/ArrayList" ({ cls := "java/util/ArrayList", name := "indexOfRange", desc := "(Ljava/lang/Object;II)I" } : Jvm.MethodName) ({ cls := "java/util/ArrayList", name := "indexOfRange", desc := "(Ljava/lang/Object;II)I" } : Jvm.MethodName)) ∈ lw_all := lw_g (lw_at lw_m13 179 rfl) rfl
theorem q3160 : (Jvm.Cond.code ({ cls := "java/util/ArrayList", name := "indexOfRange", desc := "(Ljava/lang/Object;II)I" } : Jvm.MethodName) prog_61_method_12_code (6 : Nat) (Option.some Jvm.ClassFile.FieldType.int)) ∈ lw_all := lw_g (lw_at lw_m13 180 rfl) rfl
theorem q3162 : (Jvm.Cond.methodLink "java/util/ArrayList" (93 : Nat) ({ cls := "java/lang/Object", name := "equals", desc := "(Ljava/lang/Object;)Z" } : Jvm.MethodName)) ∈ lw_all := lw_g (lw_at lw_m13 182 rfl) rfl
theorem q4216 : (Jvm.Cond.selects "java/util/ArrayList" ({ cls := "java/util/AbstractCollection", name := "size", desc := "()I" } : Jvm.MethodName) ({ cls := "java/util/ArrayList", name := "size", desc := "()I" } : Jvm.MethodName)) ∈ lw_all := lw_g (lw_at lw_m18 36 rfl) rfl
theorem q4225 : (Jvm.Cond.selects "java/util/ArrayList" ({ cls := "java/util/ArrayList", name := "get", desc := "(I)Ljava/lang/Object;" } : Jvm.MethodName) ({ cls := "java/util/ArrayList", name := "get", desc := "(I)Ljava/lang/Object;" } : Jvm.MethodName)) ∈ lw_all := lw_g (lw_at lw_m18 45 rfl) rfl
theorem q4242 : (Jvm.Cond.castable "java/util/ArrayList" "java/lang/Object") ∈ lw_tbl := lw_at lw_m18 62 rfl
theorem in_J8 : ∀ w ∈ wsJ80, w ∈ lw_all := lw_in wsJ80 [274, 270, 272] (by decide +kernel) (by decide +kernel)
/-! java/util/AbstractMap -/
set_option maxRecDepth 100000
def RJ9 : String := "java/util/AbstractMap"
abbrev cJ9_init : ByteArray := prog_56_method_1_code
def yJ9_init : MethodName := ⟨RJ9, "<init>", "()V"⟩
theorem dJ9_init_0 : decode cJ9_init 0 = .ok (.aload_n 0, 1) := by decide +kernel
theorem dJ9_init_1 : decode cJ9_init 1 = .ok (.invokespecial 1, 3) := by decide +kernel
theorem dJ9_init_4 : decode cJ9_init 4 = .ok (.return_, 1) := by decide +kernel
theorem q113 : (Jvm.Cond.initialized "java/util/AbstractMap") ∈ lw_all := lw_g (lw_at lw_m1 13 rfl) rfl
theorem q296 : (Jvm.Cond.instanceMethod ({ cls := "java/util/AbstractMap", name := "<init>", desc := "()V" } : Jvm.MethodName)) ∈ lw_all := lw_g (lw_at lw_m1 196 rfl) rfl
theorem q297 : (Jvm.Cond.code ({ cls := "java/util/AbstractMap", name := "<init>", desc := "()V" } : Jvm.MethodName) prog_56_method_1_code (1 : Nat) (Option.none : Option Jvm.ClassFile.FieldType)) ∈ lw_all := lw_g (lw_at lw_m1 197 rfl) rfl
theorem q298 : (Jvm.Cond.methodLink "java/util/AbstractMap" (1 : Nat) ({ cls := "java/lang/Object", name := "<init>", desc := "()V" } : Jvm.MethodName)) ∈ lw_all := lw_g (lw_at lw_m1 198 rfl) rfl
theorem q322 : (Jvm.Cond.soleField "java/util/AbstractMap" "keySet") ∈ lw_all := lw_g (lw_at lw_m1 222 rfl) rfl
theorem q324 : (Jvm.Cond.soleField "java/util/AbstractMap" "values") ∈ lw_all := lw_g (lw_at lw_m1 224 rfl) rfl
/-! java/util/TreeMap -/
set_option maxRecDepth 100000
def RJ10 : String := "java/util/TreeMap"
def TJ10 : u_T := fun k => match k with
  | 0 => ("java/util/AbstractMap", "keySet", "Ljava/util/Set;", false)
  | 1 => ("java/util/AbstractMap", "values", "Ljava/util/Collection;", false)
  | 2 => ("java/util/TreeMap", "comparator", "Ljava/util/Comparator;", true)
  | 3 => ("java/util/TreeMap", "root", "Ljava/util/TreeMap$Entry;", false)
  | 4 => ("java/util/TreeMap", "size", "I", false)
  | 5 => ("java/util/TreeMap", "modCount", "I", false)
  | 6 => ("java/util/TreeMap", "entrySet", "Ljava/util/TreeMap$EntrySet;", false)
  | 7 => ("java/util/TreeMap", "navigableKeySet", "Ljava/util/TreeMap$KeySet;", false)
  | _ => ("java/util/TreeMap", "descendingMap", "Ljava/util/NavigableMap;", false)
def tyJ10 : Nat → FieldType := fun k => match k with
  | 0 => .object "java/util/Set"
  | 1 => .object "java/util/Collection"
  | 2 => .object "java/util/Comparator"
  | 3 => .object "java/util/TreeMap$Entry"
  | 4 => .int
  | 5 => .int
  | 6 => .object "java/util/TreeMap$EntrySet"
  | 7 => .object "java/util/TreeMap$KeySet"
  | _ => .object "java/util/NavigableMap"
abbrev wsJ100 : List Cond := u_ws RJ10 TJ10 9
theorem nmJ10 : ∀ a, a < 9 → ∀ b, b < 9 → a ≠ b → (TJ10 a).2.1 ≠ (TJ10 b).2.1 := by decide +kernel
theorem tyJ10_ok : ∀ k, k < 9 → parseFieldDescriptor (TJ10 k).2.2.1 = some (tyJ10 k) := by decide +kernel
abbrev cJ10_init : ByteArray := prog_90_method_1_code
def yJ10_init : MethodName := ⟨RJ10, "<init>", "()V"⟩
def dkwJ10_init_0 : List UInt8 := [42, 183, 0, 1, 42, 3, 181, 0, 7, 42, 3, 181, 0, 13, 42, 1, 181, 0, 16, 177]
abbrev dktJ10_init_0 : List UInt8 := dkwJ10_init_0 ++ []
theorem dksJ10_init_0 : cJ10_init.data.toList.drop 0 = dktJ10_init_0 := by decide +kernel
theorem dJ10_init_0 : decode cJ10_init 0 = .ok (.aload_n 0, 1) := dk_42 (dk_at dksJ10_init_0 0 rfl rfl)
theorem dJ10_init_1 : decode cJ10_init 1 = .ok (.invokespecial 1, 3) := dk_183 0 1 (dk_at dksJ10_init_0 1 rfl rfl)
theorem dJ10_init_4 : decode cJ10_init 4 = .ok (.aload_n 0, 1) := dk_42 (dk_at dksJ10_init_0 4 rfl rfl)
theorem dJ10_init_5 : decode cJ10_init 5 = .ok (.iconst 0, 1) := dk_3 (dk_at dksJ10_init_0 5 rfl rfl)
theorem dJ10_init_6 : decode cJ10_init 6 = .ok (.putfield 7, 3) := dk_181 0 7 (dk_at dksJ10_init_0 6 rfl rfl)
theorem dJ10_init_9 : decode cJ10_init 9 = .ok (.aload_n 0, 1) := dk_42 (dk_at dksJ10_init_0 9 rfl rfl)
theorem dJ10_init_10 : decode cJ10_init 10 = .ok (.iconst 0, 1) := dk_3 (dk_at dksJ10_init_0 10 rfl rfl)
theorem dJ10_init_11 : decode cJ10_init 11 = .ok (.putfield 13, 3) := dk_181 0 13 (dk_at dksJ10_init_0 11 rfl rfl)
theorem dJ10_init_14 : decode cJ10_init 14 = .ok (.aload_n 0, 1) := dk_42 (dk_at dksJ10_init_0 14 rfl rfl)
theorem dJ10_init_15 : decode cJ10_init 15 = .ok (.aconst_null, 1) := dk_1 (dk_at dksJ10_init_0 15 rfl rfl)
theorem dJ10_init_16 : decode cJ10_init 16 = .ok (.putfield 16, 3) := dk_181 0 16 (dk_at dksJ10_init_0 16 rfl rfl)
theorem dJ10_init_19 : decode cJ10_init 19 = .ok (.return_, 1) := dk_177 (dk_at dksJ10_init_0 19 rfl rfl)
abbrev cJ10_size : ByteArray := prog_90_method_5_code
def yJ10_size : MethodName := ⟨RJ10, "size", "()I"⟩
theorem dJ10_size_0 : decode cJ10_size 0 = .ok (.aload_n 0, 1) := by decide +kernel
theorem dJ10_size_1 : decode cJ10_size 1 = .ok (.getfield 7, 3) := by decide +kernel
theorem dJ10_size_4 : decode cJ10_size 4 = .ok (.ireturn, 1) := by decide +kernel
abbrev cJ10_successor : ByteArray := prog_90_method_74_code
def yJ10_successor : MethodName := ⟨RJ10, "successor", "(Ljava/util/TreeMap$Entry;)Ljava/util/TreeMap$Entry;"⟩
def dkwJ10_successor_2 : List UInt8 := [44, 43, 180, 0, 114, 166, 0, 13, 43, 77, 43, 180, 0, 124, 76, 167, 255, 237, 43, 176]
abbrev dktJ10_successor_2 : List UInt8 := dkwJ10_successor_2 ++ []
def dkwJ10_successor_1 : List UInt8 := [198, 0, 11, 43, 180, 0, 111, 76, 167, 255, 244, 43, 176, 42, 180, 0, 124, 76, 42, 77, 43, 198, 0, 21]
abbrev dktJ10_successor_1 : List UInt8 := dkwJ10_successor_1 ++ dktJ10_successor_2
def dkwJ10_successor_0 : List UInt8 := [42, 199, 0, 5, 1, 176, 42, 180, 0, 114, 198, 0, 25, 42, 180, 0, 114, 76, 43, 180, 0, 111]
abbrev dktJ10_successor_0 : List UInt8 := dkwJ10_successor_0 ++ dktJ10_successor_1
theorem dksJ10_successor_0 : cJ10_successor.data.toList.drop 0 = dktJ10_successor_0 := by decide +kernel
theorem dksJ10_successor_1 : cJ10_successor.data.toList.drop 22 = dktJ10_successor_1 := dk_seg dksJ10_successor_0 22 rfl rfl
theorem dksJ10_successor_2 : cJ10_successor.data.toList.drop 46 = dktJ10_successor_2 := dk_seg dksJ10_successor_1 24 rfl rfl
theorem dJ10_successor_0 : decode cJ10_successor 0 = .ok (.aload_n 0, 1) := dk_42 (dk_at dksJ10_successor_0 0 rfl rfl)
theorem dJ10_successor_1 : decode cJ10_successor 1 = .ok (.ifnonnull 5, 3) := dk_199 0 5 (dk_at dksJ10_successor_0 1 rfl rfl)
theorem dJ10_successor_4 : decode cJ10_successor 4 = .ok (.aconst_null, 1) := dk_1 (dk_at dksJ10_successor_0 4 rfl rfl)
theorem dJ10_successor_5 : decode cJ10_successor 5 = .ok (.areturn, 1) := dk_176 (dk_at dksJ10_successor_0 5 rfl rfl)
theorem dJ10_successor_6 : decode cJ10_successor 6 = .ok (.aload_n 0, 1) := dk_42 (dk_at dksJ10_successor_0 6 rfl rfl)
theorem dJ10_successor_7 : decode cJ10_successor 7 = .ok (.getfield 114, 3) := dk_180 0 114 (dk_at dksJ10_successor_0 7 rfl rfl)
theorem dJ10_successor_10 : decode cJ10_successor 10 = .ok (.ifnull 25, 3) := dk_198 0 25 (dk_at dksJ10_successor_0 10 rfl rfl)
theorem dJ10_successor_13 : decode cJ10_successor 13 = .ok (.aload_n 0, 1) := dk_42 (dk_at dksJ10_successor_0 13 rfl rfl)
theorem dJ10_successor_14 : decode cJ10_successor 14 = .ok (.getfield 114, 3) := dk_180 0 114 (dk_at dksJ10_successor_0 14 rfl rfl)
theorem dJ10_successor_17 : decode cJ10_successor 17 = .ok (.astore_n 1, 1) := dk_76 (dk_at dksJ10_successor_0 17 rfl rfl)
theorem dJ10_successor_18 : decode cJ10_successor 18 = .ok (.aload_n 1, 1) := dk_43 (dk_at dksJ10_successor_0 18 rfl rfl)
theorem dJ10_successor_19 : decode cJ10_successor 19 = .ok (.getfield 111, 3) := dk_180 0 111 (dk_at dksJ10_successor_0 19 rfl rfl)
theorem dJ10_successor_22 : decode cJ10_successor 22 = .ok (.ifnull 11, 3) := dk_198 0 11 (dk_at dksJ10_successor_1 0 rfl rfl)
theorem dJ10_successor_25 : decode cJ10_successor 25 = .ok (.aload_n 1, 1) := dk_43 (dk_at dksJ10_successor_1 3 rfl rfl)
theorem dJ10_successor_26 : decode cJ10_successor 26 = .ok (.getfield 111, 3) := dk_180 0 111 (dk_at dksJ10_successor_1 4 rfl rfl)
theorem dJ10_successor_29 : decode cJ10_successor 29 = .ok (.astore_n 1, 1) := dk_76 (dk_at dksJ10_successor_1 7 rfl rfl)
theorem dJ10_successor_30 : decode cJ10_successor 30 = .ok (.goto (-12), 3) := dk_167 255 244 (dk_at dksJ10_successor_1 8 rfl rfl)
theorem dJ10_successor_33 : decode cJ10_successor 33 = .ok (.aload_n 1, 1) := dk_43 (dk_at dksJ10_successor_1 11 rfl rfl)
theorem dJ10_successor_34 : decode cJ10_successor 34 = .ok (.areturn, 1) := dk_176 (dk_at dksJ10_successor_1 12 rfl rfl)
theorem dJ10_successor_35 : decode cJ10_successor 35 = .ok (.aload_n 0, 1) := dk_42 (dk_at dksJ10_successor_1 13 rfl rfl)
theorem dJ10_successor_36 : decode cJ10_successor 36 = .ok (.getfield 124, 3) := dk_180 0 124 (dk_at dksJ10_successor_1 14 rfl rfl)
theorem dJ10_successor_39 : decode cJ10_successor 39 = .ok (.astore_n 1, 1) := dk_76 (dk_at dksJ10_successor_1 17 rfl rfl)
theorem dJ10_successor_40 : decode cJ10_successor 40 = .ok (.aload_n 0, 1) := dk_42 (dk_at dksJ10_successor_1 18 rfl rfl)
theorem dJ10_successor_41 : decode cJ10_successor 41 = .ok (.astore_n 2, 1) := dk_77 (dk_at dksJ10_successor_1 19 rfl rfl)
theorem dJ10_successor_42 : decode cJ10_successor 42 = .ok (.aload_n 1, 1) := dk_43 (dk_at dksJ10_successor_1 20 rfl rfl)
theorem dJ10_successor_43 : decode cJ10_successor 43 = .ok (.ifnull 21, 3) := dk_198 0 21 (dk_at dksJ10_successor_1 21 rfl rfl)
theorem dJ10_successor_46 : decode cJ10_successor 46 = .ok (.aload_n 2, 1) := dk_44 (dk_at dksJ10_successor_2 0 rfl rfl)
theorem dJ10_successor_47 : decode cJ10_successor 47 = .ok (.aload_n 1, 1) := dk_43 (dk_at dksJ10_successor_2 1 rfl rfl)
theorem dJ10_successor_48 : decode cJ10_successor 48 = .ok (.getfield 114, 3) := dk_180 0 114 (dk_at dksJ10_successor_2 2 rfl rfl)
theorem dJ10_successor_51 : decode cJ10_successor 51 = .ok (.if_acmp .ne 13, 3) := dk_166 0 13 (dk_at dksJ10_successor_2 5 rfl rfl)
theorem dJ10_successor_54 : decode cJ10_successor 54 = .ok (.aload_n 1, 1) := dk_43 (dk_at dksJ10_successor_2 8 rfl rfl)
theorem dJ10_successor_55 : decode cJ10_successor 55 = .ok (.astore_n 2, 1) := dk_77 (dk_at dksJ10_successor_2 9 rfl rfl)
theorem dJ10_successor_56 : decode cJ10_successor 56 = .ok (.aload_n 1, 1) := dk_43 (dk_at dksJ10_successor_2 10 rfl rfl)
theorem dJ10_successor_57 : decode cJ10_successor 57 = .ok (.getfield 124, 3) := dk_180 0 124 (dk_at dksJ10_successor_2 11 rfl rfl)
theorem dJ10_successor_60 : decode cJ10_successor 60 = .ok (.astore_n 1, 1) := dk_76 (dk_at dksJ10_successor_2 14 rfl rfl)
theorem dJ10_successor_61 : decode cJ10_successor 61 = .ok (.goto (-19), 3) := dk_167 255 237 (dk_at dksJ10_successor_2 15 rfl rfl)
theorem dJ10_successor_64 : decode cJ10_successor 64 = .ok (.aload_n 1, 1) := dk_43 (dk_at dksJ10_successor_2 18 rfl rfl)
theorem dJ10_successor_65 : decode cJ10_successor 65 = .ok (.areturn, 1) := dk_176 (dk_at dksJ10_successor_2 19 rfl rfl)
abbrev cJ10_values : ByteArray := prog_90_method_52_code
def yJ10_values : MethodName := ⟨RJ10, "values", "()Ljava/util/Collection;"⟩
def dkwJ10_values_1 : List UInt8 := [176]
abbrev dktJ10_values_1 : List UInt8 := dkwJ10_values_1 ++ []
def dkwJ10_values_0 : List UInt8 := [42, 180, 0, 233, 76, 43, 199, 0, 17, 187, 0, 237, 89, 42, 183, 0, 239, 76, 42, 43, 181, 0, 233, 43]
abbrev dktJ10_values_0 : List UInt8 := dkwJ10_values_0 ++ dktJ10_values_1
theorem dksJ10_values_0 : cJ10_values.data.toList.drop 0 = dktJ10_values_0 := by decide +kernel
theorem dksJ10_values_1 : cJ10_values.data.toList.drop 24 = dktJ10_values_1 := dk_seg dksJ10_values_0 24 rfl rfl
theorem dJ10_values_0 : decode cJ10_values 0 = .ok (.aload_n 0, 1) := dk_42 (dk_at dksJ10_values_0 0 rfl rfl)
theorem dJ10_values_1 : decode cJ10_values 1 = .ok (.getfield 233, 3) := dk_180 0 233 (dk_at dksJ10_values_0 1 rfl rfl)
theorem dJ10_values_4 : decode cJ10_values 4 = .ok (.astore_n 1, 1) := dk_76 (dk_at dksJ10_values_0 4 rfl rfl)
theorem dJ10_values_5 : decode cJ10_values 5 = .ok (.aload_n 1, 1) := dk_43 (dk_at dksJ10_values_0 5 rfl rfl)
theorem dJ10_values_6 : decode cJ10_values 6 = .ok (.ifnonnull 17, 3) := dk_199 0 17 (dk_at dksJ10_values_0 6 rfl rfl)
theorem dJ10_values_9 : decode cJ10_values 9 = .ok (.new 237, 3) := dk_187 0 237 (dk_at dksJ10_values_0 9 rfl rfl)
theorem dJ10_values_12 : decode cJ10_values 12 = .ok (.dup, 1) := dk_89 (dk_at dksJ10_values_0 12 rfl rfl)
theorem dJ10_values_13 : decode cJ10_values 13 = .ok (.aload_n 0, 1) := dk_42 (dk_at dksJ10_values_0 13 rfl rfl)
theorem dJ10_values_14 : decode cJ10_values 14 = .ok (.invokespecial 239, 3) := dk_183 0 239 (dk_at dksJ10_values_0 14 rfl rfl)
theorem dJ10_values_17 : decode cJ10_values 17 = .ok (.astore_n 1, 1) := dk_76 (dk_at dksJ10_values_0 17 rfl rfl)
theorem dJ10_values_18 : decode cJ10_values 18 = .ok (.aload_n 0, 1) := dk_42 (dk_at dksJ10_values_0 18 rfl rfl)
theorem dJ10_values_19 : decode cJ10_values 19 = .ok (.aload_n 1, 1) := dk_43 (dk_at dksJ10_values_0 19 rfl rfl)
theorem dJ10_values_20 : decode cJ10_values 20 = .ok (.putfield 233, 3) := dk_181 0 233 (dk_at dksJ10_values_0 20 rfl rfl)
theorem dJ10_values_23 : decode cJ10_values 23 = .ok (.aload_n 1, 1) := dk_43 (dk_at dksJ10_values_0 23 rfl rfl)
theorem dJ10_values_24 : decode cJ10_values 24 = .ok (.areturn, 1) := dk_176 (dk_at dksJ10_values_1 0 rfl rfl)
abbrev cJ10_keyIterator : ByteArray := prog_90_method_65_code
def yJ10_keyIterator : MethodName := ⟨RJ10, "keyIterator", "()Ljava/util/Iterator;"⟩
def dkwJ10_keyIterator_0 : List UInt8 := [187, 1, 13, 89, 42, 42, 182, 0, 54, 183, 1, 15, 176]
abbrev dktJ10_keyIterator_0 : List UInt8 := dkwJ10_keyIterator_0 ++ []
theorem dksJ10_keyIterator_0 : cJ10_keyIterator.data.toList.drop 0 = dktJ10_keyIterator_0 := by decide +kernel
theorem dJ10_keyIterator_0 : decode cJ10_keyIterator 0 = .ok (.new 269, 3) := dk_187 1 13 (dk_at dksJ10_keyIterator_0 0 rfl rfl)
theorem dJ10_keyIterator_3 : decode cJ10_keyIterator 3 = .ok (.dup, 1) := dk_89 (dk_at dksJ10_keyIterator_0 3 rfl rfl)
theorem dJ10_keyIterator_4 : decode cJ10_keyIterator 4 = .ok (.aload_n 0, 1) := dk_42 (dk_at dksJ10_keyIterator_0 4 rfl rfl)
theorem dJ10_keyIterator_5 : decode cJ10_keyIterator 5 = .ok (.aload_n 0, 1) := dk_42 (dk_at dksJ10_keyIterator_0 5 rfl rfl)
theorem dJ10_keyIterator_6 : decode cJ10_keyIterator 6 = .ok (.invokevirtual 54, 3) := dk_182 0 54 (dk_at dksJ10_keyIterator_0 6 rfl rfl)
theorem dJ10_keyIterator_9 : decode cJ10_keyIterator 9 = .ok (.invokespecial 271, 3) := dk_183 1 15 (dk_at dksJ10_keyIterator_0 9 rfl rfl)
theorem dJ10_keyIterator_12 : decode cJ10_keyIterator 12 = .ok (.areturn, 1) := dk_176 (dk_at dksJ10_keyIterator_0 12 rfl rfl)
abbrev cJ10_getFirstEntry : ByteArray := prog_90_method_72_code
def yJ10_getFirstEntry : MethodName := ⟨RJ10, "getFirstEntry", "()Ljava/util/TreeMap$Entry;"⟩
def dkwJ10_getFirstEntry_1 : List UInt8 := [43, 176]
abbrev dktJ10_getFirstEntry_1 : List UInt8 := dkwJ10_getFirstEntry_1 ++ []
def dkwJ10_getFirstEntry_0 : List UInt8 := [42, 180, 0, 101, 76, 43, 198, 0, 18, 43, 180, 0, 111, 198, 0, 11, 43, 180, 0, 111, 76, 167, 255, 244]
abbrev dktJ10_getFirstEntry_0 : List UInt8 := dkwJ10_getFirstEntry_0 ++ dktJ10_getFirstEntry_1
theorem dksJ10_getFirstEntry_0 : cJ10_getFirstEntry.data.toList.drop 0 = dktJ10_getFirstEntry_0 := by decide +kernel
theorem dksJ10_getFirstEntry_1 : cJ10_getFirstEntry.data.toList.drop 24 = dktJ10_getFirstEntry_1 := dk_seg dksJ10_getFirstEntry_0 24 rfl rfl
theorem dJ10_getFirstEntry_0 : decode cJ10_getFirstEntry 0 = .ok (.aload_n 0, 1) := dk_42 (dk_at dksJ10_getFirstEntry_0 0 rfl rfl)
theorem dJ10_getFirstEntry_1 : decode cJ10_getFirstEntry 1 = .ok (.getfield 101, 3) := dk_180 0 101 (dk_at dksJ10_getFirstEntry_0 1 rfl rfl)
theorem dJ10_getFirstEntry_4 : decode cJ10_getFirstEntry 4 = .ok (.astore_n 1, 1) := dk_76 (dk_at dksJ10_getFirstEntry_0 4 rfl rfl)
theorem dJ10_getFirstEntry_5 : decode cJ10_getFirstEntry 5 = .ok (.aload_n 1, 1) := dk_43 (dk_at dksJ10_getFirstEntry_0 5 rfl rfl)
theorem dJ10_getFirstEntry_6 : decode cJ10_getFirstEntry 6 = .ok (.ifnull 18, 3) := dk_198 0 18 (dk_at dksJ10_getFirstEntry_0 6 rfl rfl)
theorem dJ10_getFirstEntry_9 : decode cJ10_getFirstEntry 9 = .ok (.aload_n 1, 1) := dk_43 (dk_at dksJ10_getFirstEntry_0 9 rfl rfl)
theorem dJ10_getFirstEntry_10 : decode cJ10_getFirstEntry 10 = .ok (.getfield 111, 3) := dk_180 0 111 (dk_at dksJ10_getFirstEntry_0 10 rfl rfl)
theorem dJ10_getFirstEntry_13 : decode cJ10_getFirstEntry 13 = .ok (.ifnull 11, 3) := dk_198 0 11 (dk_at dksJ10_getFirstEntry_0 13 rfl rfl)
theorem dJ10_getFirstEntry_16 : decode cJ10_getFirstEntry 16 = .ok (.aload_n 1, 1) := dk_43 (dk_at dksJ10_getFirstEntry_0 16 rfl rfl)
theorem dJ10_getFirstEntry_17 : decode cJ10_getFirstEntry 17 = .ok (.getfield 111, 3) := dk_180 0 111 (dk_at dksJ10_getFirstEntry_0 17 rfl rfl)
theorem dJ10_getFirstEntry_20 : decode cJ10_getFirstEntry 20 = .ok (.astore_n 1, 1) := dk_76 (dk_at dksJ10_getFirstEntry_0 20 rfl rfl)
theorem dJ10_getFirstEntry_21 : decode cJ10_getFirstEntry 21 = .ok (.goto (-12), 3) := dk_167 255 244 (dk_at dksJ10_getFirstEntry_0 21 rfl rfl)
theorem dJ10_getFirstEntry_24 : decode cJ10_getFirstEntry 24 = .ok (.aload_n 1, 1) := dk_43 (dk_at dksJ10_getFirstEntry_1 0 rfl rfl)
theorem dJ10_getFirstEntry_25 : decode cJ10_getFirstEntry 25 = .ok (.areturn, 1) := dk_176 (dk_at dksJ10_getFirstEntry_1 1 rfl rfl)
abbrev cJ10_navigableKeySet : ByteArray := prog_90_method_50_code
def yJ10_navigableKeySet : MethodName := ⟨RJ10, "navigableKeySet", "()Ljava/util/NavigableSet;"⟩
def dkwJ10_navigableKeySet_1 : List UInt8 := [181, 0, 191, 176]
abbrev dktJ10_navigableKeySet_1 : List UInt8 := dkwJ10_navigableKeySet_1 ++ []
def dkwJ10_navigableKeySet_0 : List UInt8 := [42, 180, 0, 191, 76, 43, 198, 0, 7, 43, 167, 0, 16, 42, 187, 0, 222, 89, 42, 183, 0, 224, 90]
abbrev dktJ10_navigableKeySet_0 : List UInt8 := dkwJ10_navigableKeySet_0 ++ dktJ10_navigableKeySet_1
theorem dksJ10_navigableKeySet_0 : cJ10_navigableKeySet.data.toList.drop 0 = dktJ10_navigableKeySet_0 := by decide +kernel
theorem dksJ10_navigableKeySet_1 : cJ10_navigableKeySet.data.toList.drop 23 = dktJ10_navigableKeySet_1 := dk_seg dksJ10_navigableKeySet_0 23 rfl rfl
theorem dJ10_navigableKeySet_0 : decode cJ10_navigableKeySet 0 = .ok (.aload_n 0, 1) := dk_42 (dk_at dksJ10_navigableKeySet_0 0 rfl rfl)
theorem dJ10_navigableKeySet_1 : decode cJ10_navigableKeySet 1 = .ok (.getfield 191, 3) := dk_180 0 191 (dk_at dksJ10_navigableKeySet_0 1 rfl rfl)
theorem dJ10_navigableKeySet_4 : decode cJ10_navigableKeySet 4 = .ok (.astore_n 1, 1) := dk_76 (dk_at dksJ10_navigableKeySet_0 4 rfl rfl)
theorem dJ10_navigableKeySet_5 : decode cJ10_navigableKeySet 5 = .ok (.aload_n 1, 1) := dk_43 (dk_at dksJ10_navigableKeySet_0 5 rfl rfl)
theorem dJ10_navigableKeySet_6 : decode cJ10_navigableKeySet 6 = .ok (.ifnull 7, 3) := dk_198 0 7 (dk_at dksJ10_navigableKeySet_0 6 rfl rfl)
theorem dJ10_navigableKeySet_9 : decode cJ10_navigableKeySet 9 = .ok (.aload_n 1, 1) := dk_43 (dk_at dksJ10_navigableKeySet_0 9 rfl rfl)
theorem dJ10_navigableKeySet_10 : decode cJ10_navigableKeySet 10 = .ok (.goto 16, 3) := dk_167 0 16 (dk_at dksJ10_navigableKeySet_0 10 rfl rfl)
theorem dJ10_navigableKeySet_13 : decode cJ10_navigableKeySet 13 = .ok (.aload_n 0, 1) := dk_42 (dk_at dksJ10_navigableKeySet_0 13 rfl rfl)
theorem dJ10_navigableKeySet_14 : decode cJ10_navigableKeySet 14 = .ok (.new 222, 3) := dk_187 0 222 (dk_at dksJ10_navigableKeySet_0 14 rfl rfl)
theorem dJ10_navigableKeySet_17 : decode cJ10_navigableKeySet 17 = .ok (.dup, 1) := dk_89 (dk_at dksJ10_navigableKeySet_0 17 rfl rfl)
theorem dJ10_navigableKeySet_18 : decode cJ10_navigableKeySet 18 = .ok (.aload_n 0, 1) := dk_42 (dk_at dksJ10_navigableKeySet_0 18 rfl rfl)
theorem dJ10_navigableKeySet_19 : decode cJ10_navigableKeySet 19 = .ok (.invokespecial 224, 3) := dk_183 0 224 (dk_at dksJ10_navigableKeySet_0 19 rfl rfl)
theorem dJ10_navigableKeySet_22 : decode cJ10_navigableKeySet 22 = .ok (.dup_x1, 1) := dk_90 (dk_at dksJ10_navigableKeySet_0 22 rfl rfl)
theorem dJ10_navigableKeySet_23 : decode cJ10_navigableKeySet 23 = .ok (.putfield 191, 3) := dk_181 0 191 (dk_at dksJ10_navigableKeySet_1 0 rfl rfl)
theorem dJ10_navigableKeySet_26 : decode cJ10_navigableKeySet 26 = .ok (.areturn, 1) := dk_176 (dk_at dksJ10_navigableKeySet_1 3 rfl rfl)
abbrev cJ10_put : ByteArray := prog_90_method_21_code
def yJ10_put : MethodName := ⟨RJ10, "put", "(Ljava/lang/Object;Ljava/lang/Object;)Ljava/lang/Object;"⟩
def dkwJ10_put_0 : List UInt8 := [42, 43, 44, 4, 182, 0, 127, 176]
abbrev dktJ10_put_0 : List UInt8 := dkwJ10_put_0 ++ []
theorem dksJ10_put_0 : cJ10_put.data.toList.drop 0 = dktJ10_put_0 := by decide +kernel
theorem dJ10_put_0 : decode cJ10_put 0 = .ok (.aload_n 0, 1) := dk_42 (dk_at dksJ10_put_0 0 rfl rfl)
theorem dJ10_put_1 : decode cJ10_put 1 = .ok (.aload_n 1, 1) := dk_43 (dk_at dksJ10_put_0 1 rfl rfl)
theorem dJ10_put_2 : decode cJ10_put 2 = .ok (.aload_n 2, 1) := dk_44 (dk_at dksJ10_put_0 2 rfl rfl)
theorem dJ10_put_3 : decode cJ10_put 3 = .ok (.iconst 1, 1) := dk_4 (dk_at dksJ10_put_0 3 rfl rfl)
theorem dJ10_put_4 : decode cJ10_put 4 = .ok (.invokevirtual 127, 3) := dk_182 0 127 (dk_at dksJ10_put_0 4 rfl rfl)
theorem dJ10_put_7 : decode cJ10_put 7 = .ok (.areturn, 1) := dk_176 (dk_at dksJ10_put_0 7 rfl rfl)
abbrev cJ10_put_2 : ByteArray := prog_90_method_31_code
def yJ10_put_2 : MethodName := ⟨RJ10, "put", "(Ljava/lang/Object;Ljava/lang/Object;Z)Ljava/lang/Object;"⟩
def dkwJ10_put_2_9 : List UInt8 := [4, 167, 0, 4, 3, 182, 0, 139, 1, 176]
abbrev dktJ10_put_2_9 : List UInt8 := dkwJ10_put_2_9 ++ []
def dkwJ10_put_2_8 : List UInt8 := [25, 4, 44, 181, 0, 58, 25, 9, 176, 25, 4, 199, 255, 181, 42, 43, 44, 25, 6, 21, 5, 156, 0, 7]
abbrev dktJ10_put_2_8 : List UInt8 := dkwJ10_put_2_8 ++ dktJ10_put_2_9
def dkwJ10_put_2_7 : List UInt8 := [180, 0, 114, 58, 4, 167, 0, 28, 25, 4, 180, 0, 58, 58, 9, 29, 154, 0, 8, 25, 9, 199, 0, 9]
abbrev dktJ10_put_2_7 : List UInt8 := dkwJ10_put_2_7 ++ dktJ10_put_2_8
def dkwJ10_put_2_6 : List UInt8 := [21, 5, 156, 0, 13, 25, 4, 180, 0, 111, 58, 4, 167, 0, 43, 21, 5, 158, 0, 13, 25, 4]
abbrev dktJ10_put_2_6 : List UInt8 := dkwJ10_put_2_6 ++ dktJ10_put_2_7
def dkwJ10_put_2_5 : List UInt8 := [192, 0, 99, 58, 8, 25, 4, 58, 6, 25, 8, 25, 4, 180, 0, 105, 185, 0, 107, 2, 0, 54, 5]
abbrev dktJ10_put_2_5 : List UInt8 := dkwJ10_put_2_5 ++ dktJ10_put_2_6
def dkwJ10_put_2_4 : List UInt8 := [25, 4, 44, 181, 0, 58, 25, 8, 176, 25, 4, 199, 255, 180, 167, 0, 92, 43, 184, 0, 95, 87, 43]
abbrev dktJ10_put_2_4 : List UInt8 := dkwJ10_put_2_4 ++ dktJ10_put_2_5
def dkwJ10_put_2_3 : List UInt8 := [180, 0, 114, 58, 4, 167, 0, 28, 25, 4, 180, 0, 58, 58, 8, 29, 154, 0, 8, 25, 8, 199, 0, 9]
abbrev dktJ10_put_2_3 : List UInt8 := dkwJ10_put_2_3 ++ dktJ10_put_2_4
def dkwJ10_put_2_2 : List UInt8 := [54, 5, 21, 5, 156, 0, 13, 25, 4, 180, 0, 111, 58, 4, 167, 0, 43, 21, 5, 158, 0, 13, 25, 4]
abbrev dktJ10_put_2_2 : List UInt8 := dkwJ10_put_2_2 ++ dktJ10_put_2_3
def dkwJ10_put_2_1 : List UInt8 := [58, 7, 25, 7, 198, 0, 85, 25, 4, 58, 6, 25, 7, 43, 25, 4, 180, 0, 105, 185, 0, 117, 3, 0]
abbrev dktJ10_put_2_1 : List UInt8 := dkwJ10_put_2_1 ++ dktJ10_put_2_2
def dkwJ10_put_2_0 : List UInt8 := [42, 180, 0, 101, 58, 4, 25, 4, 199, 0, 11, 42, 43, 44, 182, 0, 135, 1, 176, 42, 180, 0, 16]
abbrev dktJ10_put_2_0 : List UInt8 := dkwJ10_put_2_0 ++ dktJ10_put_2_1
theorem dksJ10_put_2_0 : cJ10_put_2.data.toList.drop 0 = dktJ10_put_2_0 := by decide +kernel
theorem dksJ10_put_2_1 : cJ10_put_2.data.toList.drop 23 = dktJ10_put_2_1 := dk_seg dksJ10_put_2_0 23 rfl rfl
theorem dksJ10_put_2_2 : cJ10_put_2.data.toList.drop 47 = dktJ10_put_2_2 := dk_seg dksJ10_put_2_1 24 rfl rfl
theorem dksJ10_put_2_3 : cJ10_put_2.data.toList.drop 71 = dktJ10_put_2_3 := dk_seg dksJ10_put_2_2 24 rfl rfl
theorem dksJ10_put_2_4 : cJ10_put_2.data.toList.drop 95 = dktJ10_put_2_4 := dk_seg dksJ10_put_2_3 24 rfl rfl
theorem dksJ10_put_2_5 : cJ10_put_2.data.toList.drop 118 = dktJ10_put_2_5 := dk_seg dksJ10_put_2_4 23 rfl rfl
theorem dksJ10_put_2_6 : cJ10_put_2.data.toList.drop 141 = dktJ10_put_2_6 := dk_seg dksJ10_put_2_5 23 rfl rfl
theorem dksJ10_put_2_7 : cJ10_put_2.data.toList.drop 163 = dktJ10_put_2_7 := dk_seg dksJ10_put_2_6 22 rfl rfl
theorem dksJ10_put_2_8 : cJ10_put_2.data.toList.drop 187 = dktJ10_put_2_8 := dk_seg dksJ10_put_2_7 24 rfl rfl
theorem dksJ10_put_2_9 : cJ10_put_2.data.toList.drop 211 = dktJ10_put_2_9 := dk_seg dksJ10_put_2_8 24 rfl rfl
theorem dJ10_put_2_0 : decode cJ10_put_2 0 = .ok (.aload_n 0, 1) := dk_42 (dk_at dksJ10_put_2_0 0 rfl rfl)
theorem dJ10_put_2_1 : decode cJ10_put_2 1 = .ok (.getfield 101, 3) := dk_180 0 101 (dk_at dksJ10_put_2_0 1 rfl rfl)
theorem dJ10_put_2_4 : decode cJ10_put_2 4 = .ok (.astore 4, 2) := dk_58 4 (dk_at dksJ10_put_2_0 4 rfl rfl)
theorem dJ10_put_2_6 : decode cJ10_put_2 6 = .ok (.aload 4, 2) := dk_25 4 (dk_at dksJ10_put_2_0 6 rfl rfl)
theorem dJ10_put_2_8 : decode cJ10_put_2 8 = .ok (.ifnonnull 11, 3) := dk_199 0 11 (dk_at dksJ10_put_2_0 8 rfl rfl)
theorem dJ10_put_2_11 : decode cJ10_put_2 11 = .ok (.aload_n 0, 1) := dk_42 (dk_at dksJ10_put_2_0 11 rfl rfl)
theorem dJ10_put_2_12 : decode cJ10_put_2 12 = .ok (.aload_n 1, 1) := dk_43 (dk_at dksJ10_put_2_0 12 rfl rfl)
theorem dJ10_put_2_13 : decode cJ10_put_2 13 = .ok (.aload_n 2, 1) := dk_44 (dk_at dksJ10_put_2_0 13 rfl rfl)
theorem dJ10_put_2_14 : decode cJ10_put_2 14 = .ok (.invokevirtual 135, 3) := dk_182 0 135 (dk_at dksJ10_put_2_0 14 rfl rfl)
theorem dJ10_put_2_17 : decode cJ10_put_2 17 = .ok (.aconst_null, 1) := dk_1 (dk_at dksJ10_put_2_0 17 rfl rfl)
theorem dJ10_put_2_18 : decode cJ10_put_2 18 = .ok (.areturn, 1) := dk_176 (dk_at dksJ10_put_2_0 18 rfl rfl)
theorem dJ10_put_2_19 : decode cJ10_put_2 19 = .ok (.aload_n 0, 1) := dk_42 (dk_at dksJ10_put_2_0 19 rfl rfl)
theorem dJ10_put_2_20 : decode cJ10_put_2 20 = .ok (.getfield 16, 3) := dk_180 0 16 (dk_at dksJ10_put_2_0 20 rfl rfl)
theorem dJ10_put_2_23 : decode cJ10_put_2 23 = .ok (.astore 7, 2) := dk_58 7 (dk_at dksJ10_put_2_1 0 rfl rfl)
theorem dJ10_put_2_25 : decode cJ10_put_2 25 = .ok (.aload 7, 2) := dk_25 7 (dk_at dksJ10_put_2_1 2 rfl rfl)
theorem dJ10_put_2_27 : decode cJ10_put_2 27 = .ok (.ifnull 85, 3) := dk_198 0 85 (dk_at dksJ10_put_2_1 4 rfl rfl)
theorem dJ10_put_2_30 : decode cJ10_put_2 30 = .ok (.aload 4, 2) := dk_25 4 (dk_at dksJ10_put_2_1 7 rfl rfl)
theorem dJ10_put_2_32 : decode cJ10_put_2 32 = .ok (.astore 6, 2) := dk_58 6 (dk_at dksJ10_put_2_1 9 rfl rfl)
theorem dJ10_put_2_34 : decode cJ10_put_2 34 = .ok (.aload 7, 2) := dk_25 7 (dk_at dksJ10_put_2_1 11 rfl rfl)
theorem dJ10_put_2_36 : decode cJ10_put_2 36 = .ok (.aload_n 1, 1) := dk_43 (dk_at dksJ10_put_2_1 13 rfl rfl)
theorem dJ10_put_2_37 : decode cJ10_put_2 37 = .ok (.aload 4, 2) := dk_25 4 (dk_at dksJ10_put_2_1 14 rfl rfl)
theorem dJ10_put_2_39 : decode cJ10_put_2 39 = .ok (.getfield 105, 3) := dk_180 0 105 (dk_at dksJ10_put_2_1 16 rfl rfl)
theorem dJ10_put_2_42 : decode cJ10_put_2 42 = .ok (.invokeinterface 117 3, 5) := by decide +kernel
theorem dJ10_put_2_47 : decode cJ10_put_2 47 = .ok (.istore 5, 2) := dk_54 5 (dk_at dksJ10_put_2_2 0 rfl rfl)
theorem dJ10_put_2_49 : decode cJ10_put_2 49 = .ok (.iload 5, 2) := dk_21 5 (dk_at dksJ10_put_2_2 2 rfl rfl)
theorem dJ10_put_2_51 : decode cJ10_put_2 51 = .ok (.ifCond .ge 13, 3) := dk_156 0 13 (dk_at dksJ10_put_2_2 4 rfl rfl)
theorem dJ10_put_2_54 : decode cJ10_put_2 54 = .ok (.aload 4, 2) := dk_25 4 (dk_at dksJ10_put_2_2 7 rfl rfl)
theorem dJ10_put_2_56 : decode cJ10_put_2 56 = .ok (.getfield 111, 3) := dk_180 0 111 (dk_at dksJ10_put_2_2 9 rfl rfl)
theorem dJ10_put_2_59 : decode cJ10_put_2 59 = .ok (.astore 4, 2) := dk_58 4 (dk_at dksJ10_put_2_2 12 rfl rfl)
theorem dJ10_put_2_61 : decode cJ10_put_2 61 = .ok (.goto 43, 3) := dk_167 0 43 (dk_at dksJ10_put_2_2 14 rfl rfl)
theorem dJ10_put_2_64 : decode cJ10_put_2 64 = .ok (.iload 5, 2) := dk_21 5 (dk_at dksJ10_put_2_2 17 rfl rfl)
theorem dJ10_put_2_66 : decode cJ10_put_2 66 = .ok (.ifCond .le 13, 3) := dk_158 0 13 (dk_at dksJ10_put_2_2 19 rfl rfl)
theorem dJ10_put_2_69 : decode cJ10_put_2 69 = .ok (.aload 4, 2) := dk_25 4 (dk_at dksJ10_put_2_2 22 rfl rfl)
theorem dJ10_put_2_71 : decode cJ10_put_2 71 = .ok (.getfield 114, 3) := dk_180 0 114 (dk_at dksJ10_put_2_3 0 rfl rfl)
theorem dJ10_put_2_74 : decode cJ10_put_2 74 = .ok (.astore 4, 2) := dk_58 4 (dk_at dksJ10_put_2_3 3 rfl rfl)
theorem dJ10_put_2_76 : decode cJ10_put_2 76 = .ok (.goto 28, 3) := dk_167 0 28 (dk_at dksJ10_put_2_3 5 rfl rfl)
theorem dJ10_put_2_79 : decode cJ10_put_2 79 = .ok (.aload 4, 2) := dk_25 4 (dk_at dksJ10_put_2_3 8 rfl rfl)
theorem dJ10_put_2_81 : decode cJ10_put_2 81 = .ok (.getfield 58, 3) := dk_180 0 58 (dk_at dksJ10_put_2_3 10 rfl rfl)
theorem dJ10_put_2_84 : decode cJ10_put_2 84 = .ok (.astore 8, 2) := dk_58 8 (dk_at dksJ10_put_2_3 13 rfl rfl)
theorem dJ10_put_2_86 : decode cJ10_put_2 86 = .ok (.iload_n 3, 1) := dk_29 (dk_at dksJ10_put_2_3 15 rfl rfl)
theorem dJ10_put_2_87 : decode cJ10_put_2 87 = .ok (.ifCond .ne 8, 3) := dk_154 0 8 (dk_at dksJ10_put_2_3 16 rfl rfl)
theorem dJ10_put_2_90 : decode cJ10_put_2 90 = .ok (.aload 8, 2) := dk_25 8 (dk_at dksJ10_put_2_3 19 rfl rfl)
theorem dJ10_put_2_92 : decode cJ10_put_2 92 = .ok (.ifnonnull 9, 3) := dk_199 0 9 (dk_at dksJ10_put_2_3 21 rfl rfl)
theorem dJ10_put_2_95 : decode cJ10_put_2 95 = .ok (.aload 4, 2) := dk_25 4 (dk_at dksJ10_put_2_4 0 rfl rfl)
theorem dJ10_put_2_97 : decode cJ10_put_2 97 = .ok (.aload_n 2, 1) := dk_44 (dk_at dksJ10_put_2_4 2 rfl rfl)
theorem dJ10_put_2_98 : decode cJ10_put_2 98 = .ok (.putfield 58, 3) := dk_181 0 58 (dk_at dksJ10_put_2_4 3 rfl rfl)
theorem dJ10_put_2_101 : decode cJ10_put_2 101 = .ok (.aload 8, 2) := dk_25 8 (dk_at dksJ10_put_2_4 6 rfl rfl)
theorem dJ10_put_2_103 : decode cJ10_put_2 103 = .ok (.areturn, 1) := dk_176 (dk_at dksJ10_put_2_4 8 rfl rfl)
theorem dJ10_put_2_104 : decode cJ10_put_2 104 = .ok (.aload 4, 2) := dk_25 4 (dk_at dksJ10_put_2_4 9 rfl rfl)
theorem dJ10_put_2_106 : decode cJ10_put_2 106 = .ok (.ifnonnull (-76), 3) := dk_199 255 180 (dk_at dksJ10_put_2_4 11 rfl rfl)
theorem dJ10_put_2_109 : decode cJ10_put_2 109 = .ok (.goto 92, 3) := dk_167 0 92 (dk_at dksJ10_put_2_4 14 rfl rfl)
theorem dJ10_put_2_112 : decode cJ10_put_2 112 = .ok (.aload_n 1, 1) := dk_43 (dk_at dksJ10_put_2_4 17 rfl rfl)
theorem dJ10_put_2_113 : decode cJ10_put_2 113 = .ok (.invokestatic 95, 3) := dk_184 0 95 (dk_at dksJ10_put_2_4 18 rfl rfl)
theorem dJ10_put_2_116 : decode cJ10_put_2 116 = .ok (.pop, 1) := dk_87 (dk_at dksJ10_put_2_4 21 rfl rfl)
theorem dJ10_put_2_117 : decode cJ10_put_2 117 = .ok (.aload_n 1, 1) := dk_43 (dk_at dksJ10_put_2_4 22 rfl rfl)
theorem dJ10_put_2_118 : decode cJ10_put_2 118 = .ok (.checkcast 99, 3) := dk_192 0 99 (dk_at dksJ10_put_2_5 0 rfl rfl)
theorem dJ10_put_2_121 : decode cJ10_put_2 121 = .ok (.astore 8, 2) := dk_58 8 (dk_at dksJ10_put_2_5 3 rfl rfl)
theorem dJ10_put_2_123 : decode cJ10_put_2 123 = .ok (.aload 4, 2) := dk_25 4 (dk_at dksJ10_put_2_5 5 rfl rfl)
theorem dJ10_put_2_125 : decode cJ10_put_2 125 = .ok (.astore 6, 2) := dk_58 6 (dk_at dksJ10_put_2_5 7 rfl rfl)
theorem dJ10_put_2_127 : decode cJ10_put_2 127 = .ok (.aload 8, 2) := dk_25 8 (dk_at dksJ10_put_2_5 9 rfl rfl)
theorem dJ10_put_2_129 : decode cJ10_put_2 129 = .ok (.aload 4, 2) := dk_25 4 (dk_at dksJ10_put_2_5 11 rfl rfl)
theorem dJ10_put_2_131 : decode cJ10_put_2 131 = .ok (.getfield 105, 3) := dk_180 0 105 (dk_at dksJ10_put_2_5 13 rfl rfl)
theorem dJ10_put_2_134 : decode cJ10_put_2 134 = .ok (.invokeinterface 107 2, 5) := by decide +kernel
theorem dJ10_put_2_139 : decode cJ10_put_2 139 = .ok (.istore 5, 2) := dk_54 5 (dk_at dksJ10_put_2_5 21 rfl rfl)
theorem dJ10_put_2_141 : decode cJ10_put_2 141 = .ok (.iload 5, 2) := dk_21 5 (dk_at dksJ10_put_2_6 0 rfl rfl)
theorem dJ10_put_2_143 : decode cJ10_put_2 143 = .ok (.ifCond .ge 13, 3) := dk_156 0 13 (dk_at dksJ10_put_2_6 2 rfl rfl)
theorem dJ10_put_2_146 : decode cJ10_put_2 146 = .ok (.aload 4, 2) := dk_25 4 (dk_at dksJ10_put_2_6 5 rfl rfl)
theorem dJ10_put_2_148 : decode cJ10_put_2 148 = .ok (.getfield 111, 3) := dk_180 0 111 (dk_at dksJ10_put_2_6 7 rfl rfl)
theorem dJ10_put_2_151 : decode cJ10_put_2 151 = .ok (.astore 4, 2) := dk_58 4 (dk_at dksJ10_put_2_6 10 rfl rfl)
theorem dJ10_put_2_153 : decode cJ10_put_2 153 = .ok (.goto 43, 3) := dk_167 0 43 (dk_at dksJ10_put_2_6 12 rfl rfl)
theorem dJ10_put_2_156 : decode cJ10_put_2 156 = .ok (.iload 5, 2) := dk_21 5 (dk_at dksJ10_put_2_6 15 rfl rfl)
theorem dJ10_put_2_158 : decode cJ10_put_2 158 = .ok (.ifCond .le 13, 3) := dk_158 0 13 (dk_at dksJ10_put_2_6 17 rfl rfl)
theorem dJ10_put_2_161 : decode cJ10_put_2 161 = .ok (.aload 4, 2) := dk_25 4 (dk_at dksJ10_put_2_6 20 rfl rfl)
theorem dJ10_put_2_163 : decode cJ10_put_2 163 = .ok (.getfield 114, 3) := dk_180 0 114 (dk_at dksJ10_put_2_7 0 rfl rfl)
theorem dJ10_put_2_166 : decode cJ10_put_2 166 = .ok (.astore 4, 2) := dk_58 4 (dk_at dksJ10_put_2_7 3 rfl rfl)
theorem dJ10_put_2_168 : decode cJ10_put_2 168 = .ok (.goto 28, 3) := dk_167 0 28 (dk_at dksJ10_put_2_7 5 rfl rfl)
theorem dJ10_put_2_171 : decode cJ10_put_2 171 = .ok (.aload 4, 2) := dk_25 4 (dk_at dksJ10_put_2_7 8 rfl rfl)
theorem dJ10_put_2_173 : decode cJ10_put_2 173 = .ok (.getfield 58, 3) := dk_180 0 58 (dk_at dksJ10_put_2_7 10 rfl rfl)
theorem dJ10_put_2_176 : decode cJ10_put_2 176 = .ok (.astore 9, 2) := dk_58 9 (dk_at dksJ10_put_2_7 13 rfl rfl)
theorem dJ10_put_2_178 : decode cJ10_put_2 178 = .ok (.iload_n 3, 1) := dk_29 (dk_at dksJ10_put_2_7 15 rfl rfl)
theorem dJ10_put_2_179 : decode cJ10_put_2 179 = .ok (.ifCond .ne 8, 3) := dk_154 0 8 (dk_at dksJ10_put_2_7 16 rfl rfl)
theorem dJ10_put_2_182 : decode cJ10_put_2 182 = .ok (.aload 9, 2) := dk_25 9 (dk_at dksJ10_put_2_7 19 rfl rfl)
theorem dJ10_put_2_184 : decode cJ10_put_2 184 = .ok (.ifnonnull 9, 3) := dk_199 0 9 (dk_at dksJ10_put_2_7 21 rfl rfl)
theorem dJ10_put_2_187 : decode cJ10_put_2 187 = .ok (.aload 4, 2) := dk_25 4 (dk_at dksJ10_put_2_8 0 rfl rfl)
theorem dJ10_put_2_189 : decode cJ10_put_2 189 = .ok (.aload_n 2, 1) := dk_44 (dk_at dksJ10_put_2_8 2 rfl rfl)
theorem dJ10_put_2_190 : decode cJ10_put_2 190 = .ok (.putfield 58, 3) := dk_181 0 58 (dk_at dksJ10_put_2_8 3 rfl rfl)
theorem dJ10_put_2_193 : decode cJ10_put_2 193 = .ok (.aload 9, 2) := dk_25 9 (dk_at dksJ10_put_2_8 6 rfl rfl)
theorem dJ10_put_2_195 : decode cJ10_put_2 195 = .ok (.areturn, 1) := dk_176 (dk_at dksJ10_put_2_8 8 rfl rfl)
theorem dJ10_put_2_196 : decode cJ10_put_2 196 = .ok (.aload 4, 2) := dk_25 4 (dk_at dksJ10_put_2_8 9 rfl rfl)
theorem dJ10_put_2_198 : decode cJ10_put_2 198 = .ok (.ifnonnull (-75), 3) := dk_199 255 181 (dk_at dksJ10_put_2_8 11 rfl rfl)
theorem dJ10_put_2_201 : decode cJ10_put_2 201 = .ok (.aload_n 0, 1) := dk_42 (dk_at dksJ10_put_2_8 14 rfl rfl)
theorem dJ10_put_2_202 : decode cJ10_put_2 202 = .ok (.aload_n 1, 1) := dk_43 (dk_at dksJ10_put_2_8 15 rfl rfl)
theorem dJ10_put_2_203 : decode cJ10_put_2 203 = .ok (.aload_n 2, 1) := dk_44 (dk_at dksJ10_put_2_8 16 rfl rfl)
theorem dJ10_put_2_204 : decode cJ10_put_2 204 = .ok (.aload 6, 2) := dk_25 6 (dk_at dksJ10_put_2_8 17 rfl rfl)
theorem dJ10_put_2_206 : decode cJ10_put_2 206 = .ok (.iload 5, 2) := dk_21 5 (dk_at dksJ10_put_2_8 19 rfl rfl)
theorem dJ10_put_2_208 : decode cJ10_put_2 208 = .ok (.ifCond .ge 7, 3) := dk_156 0 7 (dk_at dksJ10_put_2_8 21 rfl rfl)
theorem dJ10_put_2_211 : decode cJ10_put_2 211 = .ok (.iconst 1, 1) := dk_4 (dk_at dksJ10_put_2_9 0 rfl rfl)
theorem dJ10_put_2_212 : decode cJ10_put_2 212 = .ok (.goto 4, 3) := dk_167 0 4 (dk_at dksJ10_put_2_9 1 rfl rfl)
theorem dJ10_put_2_215 : decode cJ10_put_2 215 = .ok (.iconst 0, 1) := dk_3 (dk_at dksJ10_put_2_9 4 rfl rfl)
theorem dJ10_put_2_216 : decode cJ10_put_2 216 = .ok (.invokevirtual 139, 3) := dk_182 0 139 (dk_at dksJ10_put_2_9 5 rfl rfl)
theorem dJ10_put_2_219 : decode cJ10_put_2 219 = .ok (.aconst_null, 1) := dk_1 (dk_at dksJ10_put_2_9 8 rfl rfl)
theorem dJ10_put_2_220 : decode cJ10_put_2 220 = .ok (.areturn, 1) := dk_176 (dk_at dksJ10_put_2_9 9 rfl rfl)
abbrev cJ10_addEntryToEmptyMap : ByteArray := prog_90_method_30_code
def yJ10_addEntryToEmptyMap : MethodName := ⟨RJ10, "addEntryToEmptyMap", "(Ljava/lang/Object;Ljava/lang/Object;)V"⟩
def dkwJ10_addEntryToEmptyMap_1 : List UInt8 := [181, 0, 7, 42, 89, 180, 0, 13, 4, 96, 181, 0, 13, 177]
abbrev dktJ10_addEntryToEmptyMap_1 : List UInt8 := dkwJ10_addEntryToEmptyMap_1 ++ []
def dkwJ10_addEntryToEmptyMap_0 : List UInt8 := [42, 43, 43, 182, 0, 123, 87, 42, 187, 0, 59, 89, 43, 44, 1, 183, 0, 167, 181, 0, 101, 42, 4]
abbrev dktJ10_addEntryToEmptyMap_0 : List UInt8 := dkwJ10_addEntryToEmptyMap_0 ++ dktJ10_addEntryToEmptyMap_1
theorem dksJ10_addEntryToEmptyMap_0 : cJ10_addEntryToEmptyMap.data.toList.drop 0 = dktJ10_addEntryToEmptyMap_0 := by decide +kernel
theorem dksJ10_addEntryToEmptyMap_1 : cJ10_addEntryToEmptyMap.data.toList.drop 23 = dktJ10_addEntryToEmptyMap_1 := dk_seg dksJ10_addEntryToEmptyMap_0 23 rfl rfl
theorem dJ10_addEntryToEmptyMap_0 : decode cJ10_addEntryToEmptyMap 0 = .ok (.aload_n 0, 1) := dk_42 (dk_at dksJ10_addEntryToEmptyMap_0 0 rfl rfl)
theorem dJ10_addEntryToEmptyMap_1 : decode cJ10_addEntryToEmptyMap 1 = .ok (.aload_n 1, 1) := dk_43 (dk_at dksJ10_addEntryToEmptyMap_0 1 rfl rfl)
theorem dJ10_addEntryToEmptyMap_2 : decode cJ10_addEntryToEmptyMap 2 = .ok (.aload_n 1, 1) := dk_43 (dk_at dksJ10_addEntryToEmptyMap_0 2 rfl rfl)
theorem dJ10_addEntryToEmptyMap_3 : decode cJ10_addEntryToEmptyMap 3 = .ok (.invokevirtual 123, 3) := dk_182 0 123 (dk_at dksJ10_addEntryToEmptyMap_0 3 rfl rfl)
theorem dJ10_addEntryToEmptyMap_6 : decode cJ10_addEntryToEmptyMap 6 = .ok (.pop, 1) := dk_87 (dk_at dksJ10_addEntryToEmptyMap_0 6 rfl rfl)
theorem dJ10_addEntryToEmptyMap_7 : decode cJ10_addEntryToEmptyMap 7 = .ok (.aload_n 0, 1) := dk_42 (dk_at dksJ10_addEntryToEmptyMap_0 7 rfl rfl)
theorem dJ10_addEntryToEmptyMap_8 : decode cJ10_addEntryToEmptyMap 8 = .ok (.new 59, 3) := dk_187 0 59 (dk_at dksJ10_addEntryToEmptyMap_0 8 rfl rfl)
theorem dJ10_addEntryToEmptyMap_11 : decode cJ10_addEntryToEmptyMap 11 = .ok (.dup, 1) := dk_89 (dk_at dksJ10_addEntryToEmptyMap_0 11 rfl rfl)
theorem dJ10_addEntryToEmptyMap_12 : decode cJ10_addEntryToEmptyMap 12 = .ok (.aload_n 1, 1) := dk_43 (dk_at dksJ10_addEntryToEmptyMap_0 12 rfl rfl)
theorem dJ10_addEntryToEmptyMap_13 : decode cJ10_addEntryToEmptyMap 13 = .ok (.aload_n 2, 1) := dk_44 (dk_at dksJ10_addEntryToEmptyMap_0 13 rfl rfl)
theorem dJ10_addEntryToEmptyMap_14 : decode cJ10_addEntryToEmptyMap 14 = .ok (.aconst_null, 1) := dk_1 (dk_at dksJ10_addEntryToEmptyMap_0 14 rfl rfl)
theorem dJ10_addEntryToEmptyMap_15 : decode cJ10_addEntryToEmptyMap 15 = .ok (.invokespecial 167, 3) := dk_183 0 167 (dk_at dksJ10_addEntryToEmptyMap_0 15 rfl rfl)
theorem dJ10_addEntryToEmptyMap_18 : decode cJ10_addEntryToEmptyMap 18 = .ok (.putfield 101, 3) := dk_181 0 101 (dk_at dksJ10_addEntryToEmptyMap_0 18 rfl rfl)
theorem dJ10_addEntryToEmptyMap_21 : decode cJ10_addEntryToEmptyMap 21 = .ok (.aload_n 0, 1) := dk_42 (dk_at dksJ10_addEntryToEmptyMap_0 21 rfl rfl)
theorem dJ10_addEntryToEmptyMap_22 : decode cJ10_addEntryToEmptyMap 22 = .ok (.iconst 1, 1) := dk_4 (dk_at dksJ10_addEntryToEmptyMap_0 22 rfl rfl)
theorem dJ10_addEntryToEmptyMap_23 : decode cJ10_addEntryToEmptyMap 23 = .ok (.putfield 7, 3) := dk_181 0 7 (dk_at dksJ10_addEntryToEmptyMap_1 0 rfl rfl)
theorem dJ10_addEntryToEmptyMap_26 : decode cJ10_addEntryToEmptyMap 26 = .ok (.aload_n 0, 1) := dk_42 (dk_at dksJ10_addEntryToEmptyMap_1 3 rfl rfl)
theorem dJ10_addEntryToEmptyMap_27 : decode cJ10_addEntryToEmptyMap 27 = .ok (.dup, 1) := dk_89 (dk_at dksJ10_addEntryToEmptyMap_1 4 rfl rfl)
theorem dJ10_addEntryToEmptyMap_28 : decode cJ10_addEntryToEmptyMap 28 = .ok (.getfield 13, 3) := dk_180 0 13 (dk_at dksJ10_addEntryToEmptyMap_1 5 rfl rfl)
theorem dJ10_addEntryToEmptyMap_31 : decode cJ10_addEntryToEmptyMap 31 = .ok (.iconst 1, 1) := dk_4 (dk_at dksJ10_addEntryToEmptyMap_1 8 rfl rfl)
theorem dJ10_addEntryToEmptyMap_32 : decode cJ10_addEntryToEmptyMap 32 = .ok (.iadd, 1) := dk_96 (dk_at dksJ10_addEntryToEmptyMap_1 9 rfl rfl)
theorem dJ10_addEntryToEmptyMap_33 : decode cJ10_addEntryToEmptyMap 33 = .ok (.putfield 13, 3) := dk_181 0 13 (dk_at dksJ10_addEntryToEmptyMap_1 10 rfl rfl)
theorem dJ10_addEntryToEmptyMap_36 : decode cJ10_addEntryToEmptyMap 36 = .ok (.return_, 1) := dk_177 (dk_at dksJ10_addEntryToEmptyMap_1 13 rfl rfl)
abbrev cJ10_compare : ByteArray := prog_90_method_67_code
def yJ10_compare : MethodName := ⟨RJ10, "compare", "(Ljava/lang/Object;Ljava/lang/Object;)I"⟩
def dkwJ10_compare_1 : List UInt8 := [43, 44, 185, 0, 117, 3, 0, 172]
abbrev dktJ10_compare_1 : List UInt8 := dkwJ10_compare_1 ++ []
def dkwJ10_compare_0 : List UInt8 := [42, 180, 0, 16, 199, 0, 16, 43, 192, 0, 99, 44, 185, 0, 107, 2, 0, 167, 0, 14, 42, 180, 0, 16]
abbrev dktJ10_compare_0 : List UInt8 := dkwJ10_compare_0 ++ dktJ10_compare_1
theorem dksJ10_compare_0 : cJ10_compare.data.toList.drop 0 = dktJ10_compare_0 := by decide +kernel
theorem dksJ10_compare_1 : cJ10_compare.data.toList.drop 24 = dktJ10_compare_1 := dk_seg dksJ10_compare_0 24 rfl rfl
theorem dJ10_compare_0 : decode cJ10_compare 0 = .ok (.aload_n 0, 1) := dk_42 (dk_at dksJ10_compare_0 0 rfl rfl)
theorem dJ10_compare_1 : decode cJ10_compare 1 = .ok (.getfield 16, 3) := dk_180 0 16 (dk_at dksJ10_compare_0 1 rfl rfl)
theorem dJ10_compare_4 : decode cJ10_compare 4 = .ok (.ifnonnull 16, 3) := dk_199 0 16 (dk_at dksJ10_compare_0 4 rfl rfl)
theorem dJ10_compare_7 : decode cJ10_compare 7 = .ok (.aload_n 1, 1) := dk_43 (dk_at dksJ10_compare_0 7 rfl rfl)
theorem dJ10_compare_8 : decode cJ10_compare 8 = .ok (.checkcast 99, 3) := dk_192 0 99 (dk_at dksJ10_compare_0 8 rfl rfl)
theorem dJ10_compare_11 : decode cJ10_compare 11 = .ok (.aload_n 2, 1) := dk_44 (dk_at dksJ10_compare_0 11 rfl rfl)
theorem dJ10_compare_12 : decode cJ10_compare 12 = .ok (.invokeinterface 107 2, 5) := by decide +kernel
theorem dJ10_compare_17 : decode cJ10_compare 17 = .ok (.goto 14, 3) := dk_167 0 14 (dk_at dksJ10_compare_0 17 rfl rfl)
theorem dJ10_compare_20 : decode cJ10_compare 20 = .ok (.aload_n 0, 1) := dk_42 (dk_at dksJ10_compare_0 20 rfl rfl)
theorem dJ10_compare_21 : decode cJ10_compare 21 = .ok (.getfield 16, 3) := dk_180 0 16 (dk_at dksJ10_compare_0 21 rfl rfl)
theorem dJ10_compare_24 : decode cJ10_compare 24 = .ok (.aload_n 1, 1) := dk_43 (dk_at dksJ10_compare_1 0 rfl rfl)
theorem dJ10_compare_25 : decode cJ10_compare 25 = .ok (.aload_n 2, 1) := dk_44 (dk_at dksJ10_compare_1 1 rfl rfl)
theorem dJ10_compare_26 : decode cJ10_compare 26 = .ok (.invokeinterface 117 3, 5) := by decide +kernel
theorem dJ10_compare_31 : decode cJ10_compare 31 = .ok (.ireturn, 1) := dk_172 (dk_at dksJ10_compare_1 7 rfl rfl)
abbrev cJ10_addEntry : ByteArray := prog_90_method_29_code
def yJ10_addEntry : MethodName := ⟨RJ10, "addEntry", "(Ljava/lang/Object;Ljava/lang/Object;Ljava/util/TreeMap$Entry;Z)V"⟩
def dkwJ10_addEntry_2 : List UInt8 := [181, 0, 7, 42, 89, 180, 0, 13, 4, 96, 181, 0, 13, 177]
abbrev dktJ10_addEntry_2 : List UInt8 := dkwJ10_addEntry_2 ++ []
def dkwJ10_addEntry_1 : List UInt8 := [167, 0, 9, 45, 25, 5, 181, 0, 114, 42, 25, 5, 182, 0, 170, 42, 89, 180, 0, 7, 4, 96]
abbrev dktJ10_addEntry_1 : List UInt8 := dkwJ10_addEntry_1 ++ dktJ10_addEntry_2
def dkwJ10_addEntry_0 : List UInt8 := [187, 0, 59, 89, 43, 44, 45, 183, 0, 167, 58, 5, 21, 4, 153, 0, 12, 45, 25, 5, 181, 0, 111]
abbrev dktJ10_addEntry_0 : List UInt8 := dkwJ10_addEntry_0 ++ dktJ10_addEntry_1
theorem dksJ10_addEntry_0 : cJ10_addEntry.data.toList.drop 0 = dktJ10_addEntry_0 := by decide +kernel
theorem dksJ10_addEntry_1 : cJ10_addEntry.data.toList.drop 23 = dktJ10_addEntry_1 := dk_seg dksJ10_addEntry_0 23 rfl rfl
theorem dksJ10_addEntry_2 : cJ10_addEntry.data.toList.drop 45 = dktJ10_addEntry_2 := dk_seg dksJ10_addEntry_1 22 rfl rfl
theorem dJ10_addEntry_0 : decode cJ10_addEntry 0 = .ok (.new 59, 3) := dk_187 0 59 (dk_at dksJ10_addEntry_0 0 rfl rfl)
theorem dJ10_addEntry_3 : decode cJ10_addEntry 3 = .ok (.dup, 1) := dk_89 (dk_at dksJ10_addEntry_0 3 rfl rfl)
theorem dJ10_addEntry_4 : decode cJ10_addEntry 4 = .ok (.aload_n 1, 1) := dk_43 (dk_at dksJ10_addEntry_0 4 rfl rfl)
theorem dJ10_addEntry_5 : decode cJ10_addEntry 5 = .ok (.aload_n 2, 1) := dk_44 (dk_at dksJ10_addEntry_0 5 rfl rfl)
theorem dJ10_addEntry_6 : decode cJ10_addEntry 6 = .ok (.aload_n 3, 1) := dk_45 (dk_at dksJ10_addEntry_0 6 rfl rfl)
theorem dJ10_addEntry_7 : decode cJ10_addEntry 7 = .ok (.invokespecial 167, 3) := dk_183 0 167 (dk_at dksJ10_addEntry_0 7 rfl rfl)
theorem dJ10_addEntry_10 : decode cJ10_addEntry 10 = .ok (.astore 5, 2) := dk_58 5 (dk_at dksJ10_addEntry_0 10 rfl rfl)
theorem dJ10_addEntry_12 : decode cJ10_addEntry 12 = .ok (.iload 4, 2) := dk_21 4 (dk_at dksJ10_addEntry_0 12 rfl rfl)
theorem dJ10_addEntry_14 : decode cJ10_addEntry 14 = .ok (.ifCond .eq 12, 3) := dk_153 0 12 (dk_at dksJ10_addEntry_0 14 rfl rfl)
theorem dJ10_addEntry_17 : decode cJ10_addEntry 17 = .ok (.aload_n 3, 1) := dk_45 (dk_at dksJ10_addEntry_0 17 rfl rfl)
theorem dJ10_addEntry_18 : decode cJ10_addEntry 18 = .ok (.aload 5, 2) := dk_25 5 (dk_at dksJ10_addEntry_0 18 rfl rfl)
theorem dJ10_addEntry_20 : decode cJ10_addEntry 20 = .ok (.putfield 111, 3) := dk_181 0 111 (dk_at dksJ10_addEntry_0 20 rfl rfl)
theorem dJ10_addEntry_23 : decode cJ10_addEntry 23 = .ok (.goto 9, 3) := dk_167 0 9 (dk_at dksJ10_addEntry_1 0 rfl rfl)
theorem dJ10_addEntry_26 : decode cJ10_addEntry 26 = .ok (.aload_n 3, 1) := dk_45 (dk_at dksJ10_addEntry_1 3 rfl rfl)
theorem dJ10_addEntry_27 : decode cJ10_addEntry 27 = .ok (.aload 5, 2) := dk_25 5 (dk_at dksJ10_addEntry_1 4 rfl rfl)
theorem dJ10_addEntry_29 : decode cJ10_addEntry 29 = .ok (.putfield 114, 3) := dk_181 0 114 (dk_at dksJ10_addEntry_1 6 rfl rfl)
theorem dJ10_addEntry_32 : decode cJ10_addEntry 32 = .ok (.aload_n 0, 1) := dk_42 (dk_at dksJ10_addEntry_1 9 rfl rfl)
theorem dJ10_addEntry_33 : decode cJ10_addEntry 33 = .ok (.aload 5, 2) := dk_25 5 (dk_at dksJ10_addEntry_1 10 rfl rfl)
theorem dJ10_addEntry_35 : decode cJ10_addEntry 35 = .ok (.invokevirtual 170, 3) := dk_182 0 170 (dk_at dksJ10_addEntry_1 12 rfl rfl)
theorem dJ10_addEntry_38 : decode cJ10_addEntry 38 = .ok (.aload_n 0, 1) := dk_42 (dk_at dksJ10_addEntry_1 15 rfl rfl)
theorem dJ10_addEntry_39 : decode cJ10_addEntry 39 = .ok (.dup, 1) := dk_89 (dk_at dksJ10_addEntry_1 16 rfl rfl)
theorem dJ10_addEntry_40 : decode cJ10_addEntry 40 = .ok (.getfield 7, 3) := dk_180 0 7 (dk_at dksJ10_addEntry_1 17 rfl rfl)
theorem dJ10_addEntry_43 : decode cJ10_addEntry 43 = .ok (.iconst 1, 1) := dk_4 (dk_at dksJ10_addEntry_1 20 rfl rfl)
theorem dJ10_addEntry_44 : decode cJ10_addEntry 44 = .ok (.iadd, 1) := dk_96 (dk_at dksJ10_addEntry_1 21 rfl rfl)
theorem dJ10_addEntry_45 : decode cJ10_addEntry 45 = .ok (.putfield 7, 3) := dk_181 0 7 (dk_at dksJ10_addEntry_2 0 rfl rfl)
theorem dJ10_addEntry_48 : decode cJ10_addEntry 48 = .ok (.aload_n 0, 1) := dk_42 (dk_at dksJ10_addEntry_2 3 rfl rfl)
theorem dJ10_addEntry_49 : decode cJ10_addEntry 49 = .ok (.dup, 1) := dk_89 (dk_at dksJ10_addEntry_2 4 rfl rfl)
theorem dJ10_addEntry_50 : decode cJ10_addEntry 50 = .ok (.getfield 13, 3) := dk_180 0 13 (dk_at dksJ10_addEntry_2 5 rfl rfl)
theorem dJ10_addEntry_53 : decode cJ10_addEntry 53 = .ok (.iconst 1, 1) := dk_4 (dk_at dksJ10_addEntry_2 8 rfl rfl)
theorem dJ10_addEntry_54 : decode cJ10_addEntry 54 = .ok (.iadd, 1) := dk_96 (dk_at dksJ10_addEntry_2 9 rfl rfl)
theorem dJ10_addEntry_55 : decode cJ10_addEntry 55 = .ok (.putfield 13, 3) := dk_181 0 13 (dk_at dksJ10_addEntry_2 10 rfl rfl)
theorem dJ10_addEntry_58 : decode cJ10_addEntry 58 = .ok (.return_, 1) := dk_177 (dk_at dksJ10_addEntry_2 13 rfl rfl)
abbrev cJ10_fixAfterInsertion : ByteArray := prog_90_method_83_code
def yJ10_fixAfterInsertion : MethodName := ⟨RJ10, "fixAfterInsertion", "(Ljava/util/TreeMap$Entry;)V"⟩
def dkwJ10_fixAfterInsertion_11 : List UInt8 := [42, 180, 0, 101, 4, 181, 1, 34, 177]
abbrev dktJ10_fixAfterInsertion_11 : List UInt8 := dkwJ10_fixAfterInsertion_11 ++ []
def dkwJ10_fixAfterInsertion_10 : List UInt8 := [184, 1, 38, 184, 1, 38, 3, 184, 1, 51, 42, 43, 184, 1, 38, 184, 1, 38, 182, 1, 55, 167, 255, 6]
abbrev dktJ10_fixAfterInsertion_10 : List UInt8 := dkwJ10_fixAfterInsertion_10 ++ dktJ10_fixAfterInsertion_11
def dkwJ10_fixAfterInsertion_9 : List UInt8 := [166, 0, 13, 43, 184, 1, 38, 76, 42, 43, 182, 1, 58, 43, 184, 1, 38, 4, 184, 1, 51, 43]
abbrev dktJ10_fixAfterInsertion_9 : List UInt8 := dkwJ10_fixAfterInsertion_9 ++ dktJ10_fixAfterInsertion_10
def dkwJ10_fixAfterInsertion_8 : List UInt8 := [184, 1, 51, 43, 184, 1, 38, 184, 1, 38, 76, 167, 0, 54, 43, 43, 184, 1, 38, 184, 1, 41]
abbrev dktJ10_fixAfterInsertion_8 : List UInt8 := dkwJ10_fixAfterInsertion_8 ++ dktJ10_fixAfterInsertion_9
def dkwJ10_fixAfterInsertion_7 : List UInt8 := [154, 0, 38, 43, 184, 1, 38, 4, 184, 1, 51, 44, 4, 184, 1, 51, 43, 184, 1, 38, 184, 1, 38, 3]
abbrev dktJ10_fixAfterInsertion_7 : List UInt8 := dkwJ10_fixAfterInsertion_7 ++ dktJ10_fixAfterInsertion_8
def dkwJ10_fixAfterInsertion_6 : List UInt8 := [184, 1, 38, 182, 1, 58, 167, 255, 113, 43, 184, 1, 38, 184, 1, 38, 184, 1, 41, 77, 44, 184, 1, 47]
abbrev dktJ10_fixAfterInsertion_6 : List UInt8 := dkwJ10_fixAfterInsertion_6 ++ dktJ10_fixAfterInsertion_7
def dkwJ10_fixAfterInsertion_5 : List UInt8 := [43, 184, 1, 38, 4, 184, 1, 51, 43, 184, 1, 38, 184, 1, 38, 3, 184, 1, 51, 42, 43, 184, 1, 38]
abbrev dktJ10_fixAfterInsertion_5 : List UInt8 := dkwJ10_fixAfterInsertion_5 ++ dktJ10_fixAfterInsertion_6
def dkwJ10_fixAfterInsertion_4 : List UInt8 := [167, 0, 54, 43, 43, 184, 1, 38, 184, 1, 44, 166, 0, 13, 43, 184, 1, 38, 76, 42, 43, 182, 1, 55]
abbrev dktJ10_fixAfterInsertion_4 : List UInt8 := dkwJ10_fixAfterInsertion_4 ++ dktJ10_fixAfterInsertion_5
def dkwJ10_fixAfterInsertion_3 : List UInt8 := [184, 1, 51, 43, 184, 1, 38, 184, 1, 38, 3, 184, 1, 51, 43, 184, 1, 38, 184, 1, 38, 76]
abbrev dktJ10_fixAfterInsertion_3 : List UInt8 := dkwJ10_fixAfterInsertion_3 ++ dktJ10_fixAfterInsertion_4
def dkwJ10_fixAfterInsertion_2 : List UInt8 := [184, 1, 38, 184, 1, 44, 77, 44, 184, 1, 47, 154, 0, 38, 43, 184, 1, 38, 4, 184, 1, 51, 44, 4]
abbrev dktJ10_fixAfterInsertion_2 : List UInt8 := dkwJ10_fixAfterInsertion_2 ++ dktJ10_fixAfterInsertion_3
def dkwJ10_fixAfterInsertion_1 : List UInt8 := [154, 0, 234, 43, 184, 1, 38, 43, 184, 1, 38, 184, 1, 38, 184, 1, 41, 166, 0, 110, 43, 184, 1, 38]
abbrev dktJ10_fixAfterInsertion_1 : List UInt8 := dkwJ10_fixAfterInsertion_1 ++ dktJ10_fixAfterInsertion_2
def dkwJ10_fixAfterInsertion_0 : List UInt8 := [43, 3, 181, 1, 34, 43, 198, 0, 252, 43, 42, 180, 0, 101, 165, 0, 244, 43, 180, 0, 124, 180, 1, 34]
abbrev dktJ10_fixAfterInsertion_0 : List UInt8 := dkwJ10_fixAfterInsertion_0 ++ dktJ10_fixAfterInsertion_1
theorem dksJ10_fixAfterInsertion_0 : cJ10_fixAfterInsertion.data.toList.drop 0 = dktJ10_fixAfterInsertion_0 := by decide +kernel
theorem dksJ10_fixAfterInsertion_1 : cJ10_fixAfterInsertion.data.toList.drop 24 = dktJ10_fixAfterInsertion_1 := dk_seg dksJ10_fixAfterInsertion_0 24 rfl rfl
theorem dksJ10_fixAfterInsertion_2 : cJ10_fixAfterInsertion.data.toList.drop 48 = dktJ10_fixAfterInsertion_2 := dk_seg dksJ10_fixAfterInsertion_1 24 rfl rfl
theorem dksJ10_fixAfterInsertion_3 : cJ10_fixAfterInsertion.data.toList.drop 72 = dktJ10_fixAfterInsertion_3 := dk_seg dksJ10_fixAfterInsertion_2 24 rfl rfl
theorem dksJ10_fixAfterInsertion_4 : cJ10_fixAfterInsertion.data.toList.drop 94 = dktJ10_fixAfterInsertion_4 := dk_seg dksJ10_fixAfterInsertion_3 22 rfl rfl
theorem dksJ10_fixAfterInsertion_5 : cJ10_fixAfterInsertion.data.toList.drop 118 = dktJ10_fixAfterInsertion_5 := dk_seg dksJ10_fixAfterInsertion_4 24 rfl rfl
theorem dksJ10_fixAfterInsertion_6 : cJ10_fixAfterInsertion.data.toList.drop 142 = dktJ10_fixAfterInsertion_6 := dk_seg dksJ10_fixAfterInsertion_5 24 rfl rfl
theorem dksJ10_fixAfterInsertion_7 : cJ10_fixAfterInsertion.data.toList.drop 166 = dktJ10_fixAfterInsertion_7 := dk_seg dksJ10_fixAfterInsertion_6 24 rfl rfl
theorem dksJ10_fixAfterInsertion_8 : cJ10_fixAfterInsertion.data.toList.drop 190 = dktJ10_fixAfterInsertion_8 := dk_seg dksJ10_fixAfterInsertion_7 24 rfl rfl
theorem dksJ10_fixAfterInsertion_9 : cJ10_fixAfterInsertion.data.toList.drop 212 = dktJ10_fixAfterInsertion_9 := dk_seg dksJ10_fixAfterInsertion_8 22 rfl rfl
theorem dksJ10_fixAfterInsertion_10 : cJ10_fixAfterInsertion.data.toList.drop 234 = dktJ10_fixAfterInsertion_10 := dk_seg dksJ10_fixAfterInsertion_9 22 rfl rfl
theorem dksJ10_fixAfterInsertion_11 : cJ10_fixAfterInsertion.data.toList.drop 258 = dktJ10_fixAfterInsertion_11 := dk_seg dksJ10_fixAfterInsertion_10 24 rfl rfl
theorem dJ10_fixAfterInsertion_0 : decode cJ10_fixAfterInsertion 0 = .ok (.aload_n 1, 1) := dk_43 (dk_at dksJ10_fixAfterInsertion_0 0 rfl rfl)
theorem dJ10_fixAfterInsertion_1 : decode cJ10_fixAfterInsertion 1 = .ok (.iconst 0, 1) := dk_3 (dk_at dksJ10_fixAfterInsertion_0 1 rfl rfl)
theorem dJ10_fixAfterInsertion_2 : decode cJ10_fixAfterInsertion 2 = .ok (.putfield 290, 3) := dk_181 1 34 (dk_at dksJ10_fixAfterInsertion_0 2 rfl rfl)
theorem dJ10_fixAfterInsertion_5 : decode cJ10_fixAfterInsertion 5 = .ok (.aload_n 1, 1) := dk_43 (dk_at dksJ10_fixAfterInsertion_0 5 rfl rfl)
theorem dJ10_fixAfterInsertion_6 : decode cJ10_fixAfterInsertion 6 = .ok (.ifnull 252, 3) := dk_198 0 252 (dk_at dksJ10_fixAfterInsertion_0 6 rfl rfl)
theorem dJ10_fixAfterInsertion_9 : decode cJ10_fixAfterInsertion 9 = .ok (.aload_n 1, 1) := dk_43 (dk_at dksJ10_fixAfterInsertion_0 9 rfl rfl)
theorem dJ10_fixAfterInsertion_10 : decode cJ10_fixAfterInsertion 10 = .ok (.aload_n 0, 1) := dk_42 (dk_at dksJ10_fixAfterInsertion_0 10 rfl rfl)
theorem dJ10_fixAfterInsertion_11 : decode cJ10_fixAfterInsertion 11 = .ok (.getfield 101, 3) := dk_180 0 101 (dk_at dksJ10_fixAfterInsertion_0 11 rfl rfl)
theorem dJ10_fixAfterInsertion_14 : decode cJ10_fixAfterInsertion 14 = .ok (.if_acmp .eq 244, 3) := dk_165 0 244 (dk_at dksJ10_fixAfterInsertion_0 14 rfl rfl)
theorem dJ10_fixAfterInsertion_17 : decode cJ10_fixAfterInsertion 17 = .ok (.aload_n 1, 1) := dk_43 (dk_at dksJ10_fixAfterInsertion_0 17 rfl rfl)
theorem dJ10_fixAfterInsertion_18 : decode cJ10_fixAfterInsertion 18 = .ok (.getfield 124, 3) := dk_180 0 124 (dk_at dksJ10_fixAfterInsertion_0 18 rfl rfl)
theorem dJ10_fixAfterInsertion_21 : decode cJ10_fixAfterInsertion 21 = .ok (.getfield 290, 3) := dk_180 1 34 (dk_at dksJ10_fixAfterInsertion_0 21 rfl rfl)
theorem dJ10_fixAfterInsertion_24 : decode cJ10_fixAfterInsertion 24 = .ok (.ifCond .ne 234, 3) := dk_154 0 234 (dk_at dksJ10_fixAfterInsertion_1 0 rfl rfl)
theorem dJ10_fixAfterInsertion_27 : decode cJ10_fixAfterInsertion 27 = .ok (.aload_n 1, 1) := dk_43 (dk_at dksJ10_fixAfterInsertion_1 3 rfl rfl)
theorem dJ10_fixAfterInsertion_28 : decode cJ10_fixAfterInsertion 28 = .ok (.invokestatic 294, 3) := dk_184 1 38 (dk_at dksJ10_fixAfterInsertion_1 4 rfl rfl)
theorem dJ10_fixAfterInsertion_31 : decode cJ10_fixAfterInsertion 31 = .ok (.aload_n 1, 1) := dk_43 (dk_at dksJ10_fixAfterInsertion_1 7 rfl rfl)
theorem dJ10_fixAfterInsertion_32 : decode cJ10_fixAfterInsertion 32 = .ok (.invokestatic 294, 3) := dk_184 1 38 (dk_at dksJ10_fixAfterInsertion_1 8 rfl rfl)
theorem dJ10_fixAfterInsertion_35 : decode cJ10_fixAfterInsertion 35 = .ok (.invokestatic 294, 3) := dk_184 1 38 (dk_at dksJ10_fixAfterInsertion_1 11 rfl rfl)
theorem dJ10_fixAfterInsertion_38 : decode cJ10_fixAfterInsertion 38 = .ok (.invokestatic 297, 3) := dk_184 1 41 (dk_at dksJ10_fixAfterInsertion_1 14 rfl rfl)
theorem dJ10_fixAfterInsertion_41 : decode cJ10_fixAfterInsertion 41 = .ok (.if_acmp .ne 110, 3) := dk_166 0 110 (dk_at dksJ10_fixAfterInsertion_1 17 rfl rfl)
theorem dJ10_fixAfterInsertion_44 : decode cJ10_fixAfterInsertion 44 = .ok (.aload_n 1, 1) := dk_43 (dk_at dksJ10_fixAfterInsertion_1 20 rfl rfl)
theorem dJ10_fixAfterInsertion_45 : decode cJ10_fixAfterInsertion 45 = .ok (.invokestatic 294, 3) := dk_184 1 38 (dk_at dksJ10_fixAfterInsertion_1 21 rfl rfl)
theorem dJ10_fixAfterInsertion_48 : decode cJ10_fixAfterInsertion 48 = .ok (.invokestatic 294, 3) := dk_184 1 38 (dk_at dksJ10_fixAfterInsertion_2 0 rfl rfl)
theorem dJ10_fixAfterInsertion_51 : decode cJ10_fixAfterInsertion 51 = .ok (.invokestatic 300, 3) := dk_184 1 44 (dk_at dksJ10_fixAfterInsertion_2 3 rfl rfl)
theorem dJ10_fixAfterInsertion_54 : decode cJ10_fixAfterInsertion 54 = .ok (.astore_n 2, 1) := dk_77 (dk_at dksJ10_fixAfterInsertion_2 6 rfl rfl)
theorem dJ10_fixAfterInsertion_55 : decode cJ10_fixAfterInsertion 55 = .ok (.aload_n 2, 1) := dk_44 (dk_at dksJ10_fixAfterInsertion_2 7 rfl rfl)
theorem dJ10_fixAfterInsertion_56 : decode cJ10_fixAfterInsertion 56 = .ok (.invokestatic 303, 3) := dk_184 1 47 (dk_at dksJ10_fixAfterInsertion_2 8 rfl rfl)
theorem dJ10_fixAfterInsertion_59 : decode cJ10_fixAfterInsertion 59 = .ok (.ifCond .ne 38, 3) := dk_154 0 38 (dk_at dksJ10_fixAfterInsertion_2 11 rfl rfl)
theorem dJ10_fixAfterInsertion_62 : decode cJ10_fixAfterInsertion 62 = .ok (.aload_n 1, 1) := dk_43 (dk_at dksJ10_fixAfterInsertion_2 14 rfl rfl)
theorem dJ10_fixAfterInsertion_63 : decode cJ10_fixAfterInsertion 63 = .ok (.invokestatic 294, 3) := dk_184 1 38 (dk_at dksJ10_fixAfterInsertion_2 15 rfl rfl)
theorem dJ10_fixAfterInsertion_66 : decode cJ10_fixAfterInsertion 66 = .ok (.iconst 1, 1) := dk_4 (dk_at dksJ10_fixAfterInsertion_2 18 rfl rfl)
theorem dJ10_fixAfterInsertion_67 : decode cJ10_fixAfterInsertion 67 = .ok (.invokestatic 307, 3) := dk_184 1 51 (dk_at dksJ10_fixAfterInsertion_2 19 rfl rfl)
theorem dJ10_fixAfterInsertion_70 : decode cJ10_fixAfterInsertion 70 = .ok (.aload_n 2, 1) := dk_44 (dk_at dksJ10_fixAfterInsertion_2 22 rfl rfl)
theorem dJ10_fixAfterInsertion_71 : decode cJ10_fixAfterInsertion 71 = .ok (.iconst 1, 1) := dk_4 (dk_at dksJ10_fixAfterInsertion_2 23 rfl rfl)
theorem dJ10_fixAfterInsertion_72 : decode cJ10_fixAfterInsertion 72 = .ok (.invokestatic 307, 3) := dk_184 1 51 (dk_at dksJ10_fixAfterInsertion_3 0 rfl rfl)
theorem dJ10_fixAfterInsertion_75 : decode cJ10_fixAfterInsertion 75 = .ok (.aload_n 1, 1) := dk_43 (dk_at dksJ10_fixAfterInsertion_3 3 rfl rfl)
theorem dJ10_fixAfterInsertion_76 : decode cJ10_fixAfterInsertion 76 = .ok (.invokestatic 294, 3) := dk_184 1 38 (dk_at dksJ10_fixAfterInsertion_3 4 rfl rfl)
theorem dJ10_fixAfterInsertion_79 : decode cJ10_fixAfterInsertion 79 = .ok (.invokestatic 294, 3) := dk_184 1 38 (dk_at dksJ10_fixAfterInsertion_3 7 rfl rfl)
theorem dJ10_fixAfterInsertion_82 : decode cJ10_fixAfterInsertion 82 = .ok (.iconst 0, 1) := dk_3 (dk_at dksJ10_fixAfterInsertion_3 10 rfl rfl)
theorem dJ10_fixAfterInsertion_83 : decode cJ10_fixAfterInsertion 83 = .ok (.invokestatic 307, 3) := dk_184 1 51 (dk_at dksJ10_fixAfterInsertion_3 11 rfl rfl)
theorem dJ10_fixAfterInsertion_86 : decode cJ10_fixAfterInsertion 86 = .ok (.aload_n 1, 1) := dk_43 (dk_at dksJ10_fixAfterInsertion_3 14 rfl rfl)
theorem dJ10_fixAfterInsertion_87 : decode cJ10_fixAfterInsertion 87 = .ok (.invokestatic 294, 3) := dk_184 1 38 (dk_at dksJ10_fixAfterInsertion_3 15 rfl rfl)
theorem dJ10_fixAfterInsertion_90 : decode cJ10_fixAfterInsertion 90 = .ok (.invokestatic 294, 3) := dk_184 1 38 (dk_at dksJ10_fixAfterInsertion_3 18 rfl rfl)
theorem dJ10_fixAfterInsertion_93 : decode cJ10_fixAfterInsertion 93 = .ok (.astore_n 1, 1) := dk_76 (dk_at dksJ10_fixAfterInsertion_3 21 rfl rfl)
theorem dJ10_fixAfterInsertion_94 : decode cJ10_fixAfterInsertion 94 = .ok (.goto 54, 3) := dk_167 0 54 (dk_at dksJ10_fixAfterInsertion_4 0 rfl rfl)
theorem dJ10_fixAfterInsertion_97 : decode cJ10_fixAfterInsertion 97 = .ok (.aload_n 1, 1) := dk_43 (dk_at dksJ10_fixAfterInsertion_4 3 rfl rfl)
theorem dJ10_fixAfterInsertion_98 : decode cJ10_fixAfterInsertion 98 = .ok (.aload_n 1, 1) := dk_43 (dk_at dksJ10_fixAfterInsertion_4 4 rfl rfl)
theorem dJ10_fixAfterInsertion_99 : decode cJ10_fixAfterInsertion 99 = .ok (.invokestatic 294, 3) := dk_184 1 38 (dk_at dksJ10_fixAfterInsertion_4 5 rfl rfl)
theorem dJ10_fixAfterInsertion_102 : decode cJ10_fixAfterInsertion 102 = .ok (.invokestatic 300, 3) := dk_184 1 44 (dk_at dksJ10_fixAfterInsertion_4 8 rfl rfl)
theorem dJ10_fixAfterInsertion_105 : decode cJ10_fixAfterInsertion 105 = .ok (.if_acmp .ne 13, 3) := dk_166 0 13 (dk_at dksJ10_fixAfterInsertion_4 11 rfl rfl)
theorem dJ10_fixAfterInsertion_108 : decode cJ10_fixAfterInsertion 108 = .ok (.aload_n 1, 1) := dk_43 (dk_at dksJ10_fixAfterInsertion_4 14 rfl rfl)
theorem dJ10_fixAfterInsertion_109 : decode cJ10_fixAfterInsertion 109 = .ok (.invokestatic 294, 3) := dk_184 1 38 (dk_at dksJ10_fixAfterInsertion_4 15 rfl rfl)
theorem dJ10_fixAfterInsertion_112 : decode cJ10_fixAfterInsertion 112 = .ok (.astore_n 1, 1) := dk_76 (dk_at dksJ10_fixAfterInsertion_4 18 rfl rfl)
theorem dJ10_fixAfterInsertion_113 : decode cJ10_fixAfterInsertion 113 = .ok (.aload_n 0, 1) := dk_42 (dk_at dksJ10_fixAfterInsertion_4 19 rfl rfl)
theorem dJ10_fixAfterInsertion_114 : decode cJ10_fixAfterInsertion 114 = .ok (.aload_n 1, 1) := dk_43 (dk_at dksJ10_fixAfterInsertion_4 20 rfl rfl)
theorem dJ10_fixAfterInsertion_115 : decode cJ10_fixAfterInsertion 115 = .ok (.invokevirtual 311, 3) := dk_182 1 55 (dk_at dksJ10_fixAfterInsertion_4 21 rfl rfl)
theorem dJ10_fixAfterInsertion_118 : decode cJ10_fixAfterInsertion 118 = .ok (.aload_n 1, 1) := dk_43 (dk_at dksJ10_fixAfterInsertion_5 0 rfl rfl)
theorem dJ10_fixAfterInsertion_119 : decode cJ10_fixAfterInsertion 119 = .ok (.invokestatic 294, 3) := dk_184 1 38 (dk_at dksJ10_fixAfterInsertion_5 1 rfl rfl)
theorem dJ10_fixAfterInsertion_122 : decode cJ10_fixAfterInsertion 122 = .ok (.iconst 1, 1) := dk_4 (dk_at dksJ10_fixAfterInsertion_5 4 rfl rfl)
theorem dJ10_fixAfterInsertion_123 : decode cJ10_fixAfterInsertion 123 = .ok (.invokestatic 307, 3) := dk_184 1 51 (dk_at dksJ10_fixAfterInsertion_5 5 rfl rfl)
theorem dJ10_fixAfterInsertion_126 : decode cJ10_fixAfterInsertion 126 = .ok (.aload_n 1, 1) := dk_43 (dk_at dksJ10_fixAfterInsertion_5 8 rfl rfl)
theorem dJ10_fixAfterInsertion_127 : decode cJ10_fixAfterInsertion 127 = .ok (.invokestatic 294, 3) := dk_184 1 38 (dk_at dksJ10_fixAfterInsertion_5 9 rfl rfl)
theorem dJ10_fixAfterInsertion_130 : decode cJ10_fixAfterInsertion 130 = .ok (.invokestatic 294, 3) := dk_184 1 38 (dk_at dksJ10_fixAfterInsertion_5 12 rfl rfl)
theorem dJ10_fixAfterInsertion_133 : decode cJ10_fixAfterInsertion 133 = .ok (.iconst 0, 1) := dk_3 (dk_at dksJ10_fixAfterInsertion_5 15 rfl rfl)
theorem dJ10_fixAfterInsertion_134 : decode cJ10_fixAfterInsertion 134 = .ok (.invokestatic 307, 3) := dk_184 1 51 (dk_at dksJ10_fixAfterInsertion_5 16 rfl rfl)
theorem dJ10_fixAfterInsertion_137 : decode cJ10_fixAfterInsertion 137 = .ok (.aload_n 0, 1) := dk_42 (dk_at dksJ10_fixAfterInsertion_5 19 rfl rfl)
theorem dJ10_fixAfterInsertion_138 : decode cJ10_fixAfterInsertion 138 = .ok (.aload_n 1, 1) := dk_43 (dk_at dksJ10_fixAfterInsertion_5 20 rfl rfl)
theorem dJ10_fixAfterInsertion_139 : decode cJ10_fixAfterInsertion 139 = .ok (.invokestatic 294, 3) := dk_184 1 38 (dk_at dksJ10_fixAfterInsertion_5 21 rfl rfl)
theorem dJ10_fixAfterInsertion_142 : decode cJ10_fixAfterInsertion 142 = .ok (.invokestatic 294, 3) := dk_184 1 38 (dk_at dksJ10_fixAfterInsertion_6 0 rfl rfl)
theorem dJ10_fixAfterInsertion_145 : decode cJ10_fixAfterInsertion 145 = .ok (.invokevirtual 314, 3) := dk_182 1 58 (dk_at dksJ10_fixAfterInsertion_6 3 rfl rfl)
theorem dJ10_fixAfterInsertion_148 : decode cJ10_fixAfterInsertion 148 = .ok (.goto (-143), 3) := dk_167 255 113 (dk_at dksJ10_fixAfterInsertion_6 6 rfl rfl)
theorem dJ10_fixAfterInsertion_151 : decode cJ10_fixAfterInsertion 151 = .ok (.aload_n 1, 1) := dk_43 (dk_at dksJ10_fixAfterInsertion_6 9 rfl rfl)
theorem dJ10_fixAfterInsertion_152 : decode cJ10_fixAfterInsertion 152 = .ok (.invokestatic 294, 3) := dk_184 1 38 (dk_at dksJ10_fixAfterInsertion_6 10 rfl rfl)
theorem dJ10_fixAfterInsertion_155 : decode cJ10_fixAfterInsertion 155 = .ok (.invokestatic 294, 3) := dk_184 1 38 (dk_at dksJ10_fixAfterInsertion_6 13 rfl rfl)
theorem dJ10_fixAfterInsertion_158 : decode cJ10_fixAfterInsertion 158 = .ok (.invokestatic 297, 3) := dk_184 1 41 (dk_at dksJ10_fixAfterInsertion_6 16 rfl rfl)
theorem dJ10_fixAfterInsertion_161 : decode cJ10_fixAfterInsertion 161 = .ok (.astore_n 2, 1) := dk_77 (dk_at dksJ10_fixAfterInsertion_6 19 rfl rfl)
theorem dJ10_fixAfterInsertion_162 : decode cJ10_fixAfterInsertion 162 = .ok (.aload_n 2, 1) := dk_44 (dk_at dksJ10_fixAfterInsertion_6 20 rfl rfl)
theorem dJ10_fixAfterInsertion_163 : decode cJ10_fixAfterInsertion 163 = .ok (.invokestatic 303, 3) := dk_184 1 47 (dk_at dksJ10_fixAfterInsertion_6 21 rfl rfl)
theorem dJ10_fixAfterInsertion_166 : decode cJ10_fixAfterInsertion 166 = .ok (.ifCond .ne 38, 3) := dk_154 0 38 (dk_at dksJ10_fixAfterInsertion_7 0 rfl rfl)
theorem dJ10_fixAfterInsertion_169 : decode cJ10_fixAfterInsertion 169 = .ok (.aload_n 1, 1) := dk_43 (dk_at dksJ10_fixAfterInsertion_7 3 rfl rfl)
theorem dJ10_fixAfterInsertion_170 : decode cJ10_fixAfterInsertion 170 = .ok (.invokestatic 294, 3) := dk_184 1 38 (dk_at dksJ10_fixAfterInsertion_7 4 rfl rfl)
theorem dJ10_fixAfterInsertion_173 : decode cJ10_fixAfterInsertion 173 = .ok (.iconst 1, 1) := dk_4 (dk_at dksJ10_fixAfterInsertion_7 7 rfl rfl)
theorem dJ10_fixAfterInsertion_174 : decode cJ10_fixAfterInsertion 174 = .ok (.invokestatic 307, 3) := dk_184 1 51 (dk_at dksJ10_fixAfterInsertion_7 8 rfl rfl)
theorem dJ10_fixAfterInsertion_177 : decode cJ10_fixAfterInsertion 177 = .ok (.aload_n 2, 1) := dk_44 (dk_at dksJ10_fixAfterInsertion_7 11 rfl rfl)
theorem dJ10_fixAfterInsertion_178 : decode cJ10_fixAfterInsertion 178 = .ok (.iconst 1, 1) := dk_4 (dk_at dksJ10_fixAfterInsertion_7 12 rfl rfl)
theorem dJ10_fixAfterInsertion_179 : decode cJ10_fixAfterInsertion 179 = .ok (.invokestatic 307, 3) := dk_184 1 51 (dk_at dksJ10_fixAfterInsertion_7 13 rfl rfl)
theorem dJ10_fixAfterInsertion_182 : decode cJ10_fixAfterInsertion 182 = .ok (.aload_n 1, 1) := dk_43 (dk_at dksJ10_fixAfterInsertion_7 16 rfl rfl)
theorem dJ10_fixAfterInsertion_183 : decode cJ10_fixAfterInsertion 183 = .ok (.invokestatic 294, 3) := dk_184 1 38 (dk_at dksJ10_fixAfterInsertion_7 17 rfl rfl)
theorem dJ10_fixAfterInsertion_186 : decode cJ10_fixAfterInsertion 186 = .ok (.invokestatic 294, 3) := dk_184 1 38 (dk_at dksJ10_fixAfterInsertion_7 20 rfl rfl)
theorem dJ10_fixAfterInsertion_189 : decode cJ10_fixAfterInsertion 189 = .ok (.iconst 0, 1) := dk_3 (dk_at dksJ10_fixAfterInsertion_7 23 rfl rfl)
theorem dJ10_fixAfterInsertion_190 : decode cJ10_fixAfterInsertion 190 = .ok (.invokestatic 307, 3) := dk_184 1 51 (dk_at dksJ10_fixAfterInsertion_8 0 rfl rfl)
theorem dJ10_fixAfterInsertion_193 : decode cJ10_fixAfterInsertion 193 = .ok (.aload_n 1, 1) := dk_43 (dk_at dksJ10_fixAfterInsertion_8 3 rfl rfl)
theorem dJ10_fixAfterInsertion_194 : decode cJ10_fixAfterInsertion 194 = .ok (.invokestatic 294, 3) := dk_184 1 38 (dk_at dksJ10_fixAfterInsertion_8 4 rfl rfl)
theorem dJ10_fixAfterInsertion_197 : decode cJ10_fixAfterInsertion 197 = .ok (.invokestatic 294, 3) := dk_184 1 38 (dk_at dksJ10_fixAfterInsertion_8 7 rfl rfl)
theorem dJ10_fixAfterInsertion_200 : decode cJ10_fixAfterInsertion 200 = .ok (.astore_n 1, 1) := dk_76 (dk_at dksJ10_fixAfterInsertion_8 10 rfl rfl)
theorem dJ10_fixAfterInsertion_201 : decode cJ10_fixAfterInsertion 201 = .ok (.goto 54, 3) := dk_167 0 54 (dk_at dksJ10_fixAfterInsertion_8 11 rfl rfl)
theorem dJ10_fixAfterInsertion_204 : decode cJ10_fixAfterInsertion 204 = .ok (.aload_n 1, 1) := dk_43 (dk_at dksJ10_fixAfterInsertion_8 14 rfl rfl)
theorem dJ10_fixAfterInsertion_205 : decode cJ10_fixAfterInsertion 205 = .ok (.aload_n 1, 1) := dk_43 (dk_at dksJ10_fixAfterInsertion_8 15 rfl rfl)
theorem dJ10_fixAfterInsertion_206 : decode cJ10_fixAfterInsertion 206 = .ok (.invokestatic 294, 3) := dk_184 1 38 (dk_at dksJ10_fixAfterInsertion_8 16 rfl rfl)
theorem dJ10_fixAfterInsertion_209 : decode cJ10_fixAfterInsertion 209 = .ok (.invokestatic 297, 3) := dk_184 1 41 (dk_at dksJ10_fixAfterInsertion_8 19 rfl rfl)
theorem dJ10_fixAfterInsertion_212 : decode cJ10_fixAfterInsertion 212 = .ok (.if_acmp .ne 13, 3) := dk_166 0 13 (dk_at dksJ10_fixAfterInsertion_9 0 rfl rfl)
theorem dJ10_fixAfterInsertion_215 : decode cJ10_fixAfterInsertion 215 = .ok (.aload_n 1, 1) := dk_43 (dk_at dksJ10_fixAfterInsertion_9 3 rfl rfl)
theorem dJ10_fixAfterInsertion_216 : decode cJ10_fixAfterInsertion 216 = .ok (.invokestatic 294, 3) := dk_184 1 38 (dk_at dksJ10_fixAfterInsertion_9 4 rfl rfl)
theorem dJ10_fixAfterInsertion_219 : decode cJ10_fixAfterInsertion 219 = .ok (.astore_n 1, 1) := dk_76 (dk_at dksJ10_fixAfterInsertion_9 7 rfl rfl)
theorem dJ10_fixAfterInsertion_220 : decode cJ10_fixAfterInsertion 220 = .ok (.aload_n 0, 1) := dk_42 (dk_at dksJ10_fixAfterInsertion_9 8 rfl rfl)
theorem dJ10_fixAfterInsertion_221 : decode cJ10_fixAfterInsertion 221 = .ok (.aload_n 1, 1) := dk_43 (dk_at dksJ10_fixAfterInsertion_9 9 rfl rfl)
theorem dJ10_fixAfterInsertion_222 : decode cJ10_fixAfterInsertion 222 = .ok (.invokevirtual 314, 3) := dk_182 1 58 (dk_at dksJ10_fixAfterInsertion_9 10 rfl rfl)
theorem dJ10_fixAfterInsertion_225 : decode cJ10_fixAfterInsertion 225 = .ok (.aload_n 1, 1) := dk_43 (dk_at dksJ10_fixAfterInsertion_9 13 rfl rfl)
theorem dJ10_fixAfterInsertion_226 : decode cJ10_fixAfterInsertion 226 = .ok (.invokestatic 294, 3) := dk_184 1 38 (dk_at dksJ10_fixAfterInsertion_9 14 rfl rfl)
theorem dJ10_fixAfterInsertion_229 : decode cJ10_fixAfterInsertion 229 = .ok (.iconst 1, 1) := dk_4 (dk_at dksJ10_fixAfterInsertion_9 17 rfl rfl)
theorem dJ10_fixAfterInsertion_230 : decode cJ10_fixAfterInsertion 230 = .ok (.invokestatic 307, 3) := dk_184 1 51 (dk_at dksJ10_fixAfterInsertion_9 18 rfl rfl)
theorem dJ10_fixAfterInsertion_233 : decode cJ10_fixAfterInsertion 233 = .ok (.aload_n 1, 1) := dk_43 (dk_at dksJ10_fixAfterInsertion_9 21 rfl rfl)
theorem dJ10_fixAfterInsertion_234 : decode cJ10_fixAfterInsertion 234 = .ok (.invokestatic 294, 3) := dk_184 1 38 (dk_at dksJ10_fixAfterInsertion_10 0 rfl rfl)
theorem dJ10_fixAfterInsertion_237 : decode cJ10_fixAfterInsertion 237 = .ok (.invokestatic 294, 3) := dk_184 1 38 (dk_at dksJ10_fixAfterInsertion_10 3 rfl rfl)
theorem dJ10_fixAfterInsertion_240 : decode cJ10_fixAfterInsertion 240 = .ok (.iconst 0, 1) := dk_3 (dk_at dksJ10_fixAfterInsertion_10 6 rfl rfl)
theorem dJ10_fixAfterInsertion_241 : decode cJ10_fixAfterInsertion 241 = .ok (.invokestatic 307, 3) := dk_184 1 51 (dk_at dksJ10_fixAfterInsertion_10 7 rfl rfl)
theorem dJ10_fixAfterInsertion_244 : decode cJ10_fixAfterInsertion 244 = .ok (.aload_n 0, 1) := dk_42 (dk_at dksJ10_fixAfterInsertion_10 10 rfl rfl)
theorem dJ10_fixAfterInsertion_245 : decode cJ10_fixAfterInsertion 245 = .ok (.aload_n 1, 1) := dk_43 (dk_at dksJ10_fixAfterInsertion_10 11 rfl rfl)
theorem dJ10_fixAfterInsertion_246 : decode cJ10_fixAfterInsertion 246 = .ok (.invokestatic 294, 3) := dk_184 1 38 (dk_at dksJ10_fixAfterInsertion_10 12 rfl rfl)
theorem dJ10_fixAfterInsertion_249 : decode cJ10_fixAfterInsertion 249 = .ok (.invokestatic 294, 3) := dk_184 1 38 (dk_at dksJ10_fixAfterInsertion_10 15 rfl rfl)
theorem dJ10_fixAfterInsertion_252 : decode cJ10_fixAfterInsertion 252 = .ok (.invokevirtual 311, 3) := dk_182 1 55 (dk_at dksJ10_fixAfterInsertion_10 18 rfl rfl)
theorem dJ10_fixAfterInsertion_255 : decode cJ10_fixAfterInsertion 255 = .ok (.goto (-250), 3) := dk_167 255 6 (dk_at dksJ10_fixAfterInsertion_10 21 rfl rfl)
theorem dJ10_fixAfterInsertion_258 : decode cJ10_fixAfterInsertion 258 = .ok (.aload_n 0, 1) := dk_42 (dk_at dksJ10_fixAfterInsertion_11 0 rfl rfl)
theorem dJ10_fixAfterInsertion_259 : decode cJ10_fixAfterInsertion 259 = .ok (.getfield 101, 3) := dk_180 0 101 (dk_at dksJ10_fixAfterInsertion_11 1 rfl rfl)
theorem dJ10_fixAfterInsertion_262 : decode cJ10_fixAfterInsertion 262 = .ok (.iconst 1, 1) := dk_4 (dk_at dksJ10_fixAfterInsertion_11 4 rfl rfl)
theorem dJ10_fixAfterInsertion_263 : decode cJ10_fixAfterInsertion 263 = .ok (.putfield 290, 3) := dk_181 1 34 (dk_at dksJ10_fixAfterInsertion_11 5 rfl rfl)
theorem dJ10_fixAfterInsertion_266 : decode cJ10_fixAfterInsertion 266 = .ok (.return_, 1) := dk_177 (dk_at dksJ10_fixAfterInsertion_11 8 rfl rfl)
abbrev cJ10_parentOf : ByteArray := prog_90_method_77_code
def yJ10_parentOf : MethodName := ⟨RJ10, "parentOf", "(Ljava/util/TreeMap$Entry;)Ljava/util/TreeMap$Entry;"⟩
def dkwJ10_parentOf_0 : List UInt8 := [42, 199, 0, 7, 1, 167, 0, 7, 42, 180, 0, 124, 176]
abbrev dktJ10_parentOf_0 : List UInt8 := dkwJ10_parentOf_0 ++ []
theorem dksJ10_parentOf_0 : cJ10_parentOf.data.toList.drop 0 = dktJ10_parentOf_0 := by decide +kernel
theorem dJ10_parentOf_0 : decode cJ10_parentOf 0 = .ok (.aload_n 0, 1) := dk_42 (dk_at dksJ10_parentOf_0 0 rfl rfl)
theorem dJ10_parentOf_1 : decode cJ10_parentOf 1 = .ok (.ifnonnull 7, 3) := dk_199 0 7 (dk_at dksJ10_parentOf_0 1 rfl rfl)
theorem dJ10_parentOf_4 : decode cJ10_parentOf 4 = .ok (.aconst_null, 1) := dk_1 (dk_at dksJ10_parentOf_0 4 rfl rfl)
theorem dJ10_parentOf_5 : decode cJ10_parentOf 5 = .ok (.goto 7, 3) := dk_167 0 7 (dk_at dksJ10_parentOf_0 5 rfl rfl)
theorem dJ10_parentOf_8 : decode cJ10_parentOf 8 = .ok (.aload_n 0, 1) := dk_42 (dk_at dksJ10_parentOf_0 8 rfl rfl)
theorem dJ10_parentOf_9 : decode cJ10_parentOf 9 = .ok (.getfield 124, 3) := dk_180 0 124 (dk_at dksJ10_parentOf_0 9 rfl rfl)
theorem dJ10_parentOf_12 : decode cJ10_parentOf 12 = .ok (.areturn, 1) := dk_176 (dk_at dksJ10_parentOf_0 12 rfl rfl)
abbrev cJ10_leftOf : ByteArray := prog_90_method_79_code
def yJ10_leftOf : MethodName := ⟨RJ10, "leftOf", "(Ljava/util/TreeMap$Entry;)Ljava/util/TreeMap$Entry;"⟩
def dkwJ10_leftOf_0 : List UInt8 := [42, 199, 0, 7, 1, 167, 0, 7, 42, 180, 0, 111, 176]
abbrev dktJ10_leftOf_0 : List UInt8 := dkwJ10_leftOf_0 ++ []
theorem dksJ10_leftOf_0 : cJ10_leftOf.data.toList.drop 0 = dktJ10_leftOf_0 := by decide +kernel
theorem dJ10_leftOf_0 : decode cJ10_leftOf 0 = .ok (.aload_n 0, 1) := dk_42 (dk_at dksJ10_leftOf_0 0 rfl rfl)
theorem dJ10_leftOf_1 : decode cJ10_leftOf 1 = .ok (.ifnonnull 7, 3) := dk_199 0 7 (dk_at dksJ10_leftOf_0 1 rfl rfl)
theorem dJ10_leftOf_4 : decode cJ10_leftOf 4 = .ok (.aconst_null, 1) := dk_1 (dk_at dksJ10_leftOf_0 4 rfl rfl)
theorem dJ10_leftOf_5 : decode cJ10_leftOf 5 = .ok (.goto 7, 3) := dk_167 0 7 (dk_at dksJ10_leftOf_0 5 rfl rfl)
theorem dJ10_leftOf_8 : decode cJ10_leftOf 8 = .ok (.aload_n 0, 1) := dk_42 (dk_at dksJ10_leftOf_0 8 rfl rfl)
theorem dJ10_leftOf_9 : decode cJ10_leftOf 9 = .ok (.getfield 111, 3) := dk_180 0 111 (dk_at dksJ10_leftOf_0 9 rfl rfl)
theorem dJ10_leftOf_12 : decode cJ10_leftOf 12 = .ok (.areturn, 1) := dk_176 (dk_at dksJ10_leftOf_0 12 rfl rfl)
abbrev cJ10_rightOf : ByteArray := prog_90_method_80_code
def yJ10_rightOf : MethodName := ⟨RJ10, "rightOf", "(Ljava/util/TreeMap$Entry;)Ljava/util/TreeMap$Entry;"⟩
def dkwJ10_rightOf_0 : List UInt8 := [42, 199, 0, 7, 1, 167, 0, 7, 42, 180, 0, 114, 176]
abbrev dktJ10_rightOf_0 : List UInt8 := dkwJ10_rightOf_0 ++ []
theorem dksJ10_rightOf_0 : cJ10_rightOf.data.toList.drop 0 = dktJ10_rightOf_0 := by decide +kernel
theorem dJ10_rightOf_0 : decode cJ10_rightOf 0 = .ok (.aload_n 0, 1) := dk_42 (dk_at dksJ10_rightOf_0 0 rfl rfl)
theorem dJ10_rightOf_1 : decode cJ10_rightOf 1 = .ok (.ifnonnull 7, 3) := dk_199 0 7 (dk_at dksJ10_rightOf_0 1 rfl rfl)
theorem dJ10_rightOf_4 : decode cJ10_rightOf 4 = .ok (.aconst_null, 1) := dk_1 (dk_at dksJ10_rightOf_0 4 rfl rfl)
theorem dJ10_rightOf_5 : decode cJ10_rightOf 5 = .ok (.goto 7, 3) := dk_167 0 7 (dk_at dksJ10_rightOf_0 5 rfl rfl)
theorem dJ10_rightOf_8 : decode cJ10_rightOf 8 = .ok (.aload_n 0, 1) := dk_42 (dk_at dksJ10_rightOf_0 8 rfl rfl)
theorem dJ10_rightOf_9 : decode cJ10_rightOf 9 = .ok (.getfield 114, 3) := dk_180 0 114 (dk_at dksJ10_rightOf_0 9 rfl rfl)
theorem dJ10_rightOf_12 : decode cJ10_rightOf 12 = .ok (.areturn, 1) := dk_176 (dk_at dksJ10_rightOf_0 12 rfl rfl)
abbrev cJ10_colorOf : ByteArray := prog_90_method_76_code
def yJ10_colorOf : MethodName := ⟨RJ10, "colorOf", "(Ljava/util/TreeMap$Entry;)Z"⟩
def dkwJ10_colorOf_0 : List UInt8 := [42, 199, 0, 7, 4, 167, 0, 7, 42, 180, 1, 34, 172]
abbrev dktJ10_colorOf_0 : List UInt8 := dkwJ10_colorOf_0 ++ []
theorem dksJ10_colorOf_0 : cJ10_colorOf.data.toList.drop 0 = dktJ10_colorOf_0 := by decide +kernel
theorem dJ10_colorOf_0 : decode cJ10_colorOf 0 = .ok (.aload_n 0, 1) := dk_42 (dk_at dksJ10_colorOf_0 0 rfl rfl)
theorem dJ10_colorOf_1 : decode cJ10_colorOf 1 = .ok (.ifnonnull 7, 3) := dk_199 0 7 (dk_at dksJ10_colorOf_0 1 rfl rfl)
theorem dJ10_colorOf_4 : decode cJ10_colorOf 4 = .ok (.iconst 1, 1) := dk_4 (dk_at dksJ10_colorOf_0 4 rfl rfl)
theorem dJ10_colorOf_5 : decode cJ10_colorOf 5 = .ok (.goto 7, 3) := dk_167 0 7 (dk_at dksJ10_colorOf_0 5 rfl rfl)
theorem dJ10_colorOf_8 : decode cJ10_colorOf 8 = .ok (.aload_n 0, 1) := dk_42 (dk_at dksJ10_colorOf_0 8 rfl rfl)
theorem dJ10_colorOf_9 : decode cJ10_colorOf 9 = .ok (.getfield 290, 3) := dk_180 1 34 (dk_at dksJ10_colorOf_0 9 rfl rfl)
theorem dJ10_colorOf_12 : decode cJ10_colorOf 12 = .ok (.ireturn, 1) := dk_172 (dk_at dksJ10_colorOf_0 12 rfl rfl)
abbrev cJ10_setColor : ByteArray := prog_90_method_78_code
def yJ10_setColor : MethodName := ⟨RJ10, "setColor", "(Ljava/util/TreeMap$Entry;Z)V"⟩
def dkwJ10_setColor_0 : List UInt8 := [42, 198, 0, 8, 42, 27, 181, 1, 34, 177]
abbrev dktJ10_setColor_0 : List UInt8 := dkwJ10_setColor_0 ++ []
theorem dksJ10_setColor_0 : cJ10_setColor.data.toList.drop 0 = dktJ10_setColor_0 := by decide +kernel
theorem dJ10_setColor_0 : decode cJ10_setColor 0 = .ok (.aload_n 0, 1) := dk_42 (dk_at dksJ10_setColor_0 0 rfl rfl)
theorem dJ10_setColor_1 : decode cJ10_setColor 1 = .ok (.ifnull 8, 3) := dk_198 0 8 (dk_at dksJ10_setColor_0 1 rfl rfl)
theorem dJ10_setColor_4 : decode cJ10_setColor 4 = .ok (.aload_n 0, 1) := dk_42 (dk_at dksJ10_setColor_0 4 rfl rfl)
theorem dJ10_setColor_5 : decode cJ10_setColor 5 = .ok (.iload_n 1, 1) := dk_27 (dk_at dksJ10_setColor_0 5 rfl rfl)
theorem dJ10_setColor_6 : decode cJ10_setColor 6 = .ok (.putfield 290, 3) := dk_181 1 34 (dk_at dksJ10_setColor_0 6 rfl rfl)
theorem dJ10_setColor_9 : decode cJ10_setColor 9 = .ok (.return_, 1) := dk_177 (dk_at dksJ10_setColor_0 9 rfl rfl)
abbrev cJ10_rotateLeft : ByteArray := prog_90_method_81_code
def yJ10_rotateLeft : MethodName := ⟨RJ10, "rotateLeft", "(Ljava/util/TreeMap$Entry;)V"⟩
def dkwJ10_rotateLeft_4 : List UInt8 := [177]
abbrev dktJ10_rotateLeft_4 : List UInt8 := dkwJ10_rotateLeft_4 ++ []
def dkwJ10_rotateLeft_3 : List UInt8 := [181, 0, 111, 167, 0, 11, 43, 180, 0, 124, 44, 181, 0, 114, 44, 43, 181, 0, 111, 43, 44, 181, 0, 124]
abbrev dktJ10_rotateLeft_3 : List UInt8 := dkwJ10_rotateLeft_3 ++ dktJ10_rotateLeft_4
def dkwJ10_rotateLeft_2 : List UInt8 := [44, 181, 0, 101, 167, 0, 33, 43, 180, 0, 124, 180, 0, 111, 43, 166, 0, 14, 43, 180, 0, 124, 44]
abbrev dktJ10_rotateLeft_2 : List UInt8 := dkwJ10_rotateLeft_2 ++ dktJ10_rotateLeft_3
def dkwJ10_rotateLeft_1 : List UInt8 := [44, 180, 0, 111, 43, 181, 0, 124, 44, 43, 180, 0, 124, 181, 0, 124, 43, 180, 0, 124, 199, 0, 11, 42]
abbrev dktJ10_rotateLeft_1 : List UInt8 := dkwJ10_rotateLeft_1 ++ dktJ10_rotateLeft_2
def dkwJ10_rotateLeft_0 : List UInt8 := [43, 198, 0, 94, 43, 180, 0, 114, 77, 43, 44, 180, 0, 111, 181, 0, 114, 44, 180, 0, 111, 198, 0, 11]
abbrev dktJ10_rotateLeft_0 : List UInt8 := dkwJ10_rotateLeft_0 ++ dktJ10_rotateLeft_1
theorem dksJ10_rotateLeft_0 : cJ10_rotateLeft.data.toList.drop 0 = dktJ10_rotateLeft_0 := by decide +kernel
theorem dksJ10_rotateLeft_1 : cJ10_rotateLeft.data.toList.drop 24 = dktJ10_rotateLeft_1 := dk_seg dksJ10_rotateLeft_0 24 rfl rfl
theorem dksJ10_rotateLeft_2 : cJ10_rotateLeft.data.toList.drop 48 = dktJ10_rotateLeft_2 := dk_seg dksJ10_rotateLeft_1 24 rfl rfl
theorem dksJ10_rotateLeft_3 : cJ10_rotateLeft.data.toList.drop 71 = dktJ10_rotateLeft_3 := dk_seg dksJ10_rotateLeft_2 23 rfl rfl
theorem dksJ10_rotateLeft_4 : cJ10_rotateLeft.data.toList.drop 95 = dktJ10_rotateLeft_4 := dk_seg dksJ10_rotateLeft_3 24 rfl rfl
theorem dJ10_rotateLeft_0 : decode cJ10_rotateLeft 0 = .ok (.aload_n 1, 1) := dk_43 (dk_at dksJ10_rotateLeft_0 0 rfl rfl)
theorem dJ10_rotateLeft_1 : decode cJ10_rotateLeft 1 = .ok (.ifnull 94, 3) := dk_198 0 94 (dk_at dksJ10_rotateLeft_0 1 rfl rfl)
theorem dJ10_rotateLeft_4 : decode cJ10_rotateLeft 4 = .ok (.aload_n 1, 1) := dk_43 (dk_at dksJ10_rotateLeft_0 4 rfl rfl)
theorem dJ10_rotateLeft_5 : decode cJ10_rotateLeft 5 = .ok (.getfield 114, 3) := dk_180 0 114 (dk_at dksJ10_rotateLeft_0 5 rfl rfl)
theorem dJ10_rotateLeft_8 : decode cJ10_rotateLeft 8 = .ok (.astore_n 2, 1) := dk_77 (dk_at dksJ10_rotateLeft_0 8 rfl rfl)
theorem dJ10_rotateLeft_9 : decode cJ10_rotateLeft 9 = .ok (.aload_n 1, 1) := dk_43 (dk_at dksJ10_rotateLeft_0 9 rfl rfl)
theorem dJ10_rotateLeft_10 : decode cJ10_rotateLeft 10 = .ok (.aload_n 2, 1) := dk_44 (dk_at dksJ10_rotateLeft_0 10 rfl rfl)
theorem dJ10_rotateLeft_11 : decode cJ10_rotateLeft 11 = .ok (.getfield 111, 3) := dk_180 0 111 (dk_at dksJ10_rotateLeft_0 11 rfl rfl)
theorem dJ10_rotateLeft_14 : decode cJ10_rotateLeft 14 = .ok (.putfield 114, 3) := dk_181 0 114 (dk_at dksJ10_rotateLeft_0 14 rfl rfl)
theorem dJ10_rotateLeft_17 : decode cJ10_rotateLeft 17 = .ok (.aload_n 2, 1) := dk_44 (dk_at dksJ10_rotateLeft_0 17 rfl rfl)
theorem dJ10_rotateLeft_18 : decode cJ10_rotateLeft 18 = .ok (.getfield 111, 3) := dk_180 0 111 (dk_at dksJ10_rotateLeft_0 18 rfl rfl)
theorem dJ10_rotateLeft_21 : decode cJ10_rotateLeft 21 = .ok (.ifnull 11, 3) := dk_198 0 11 (dk_at dksJ10_rotateLeft_0 21 rfl rfl)
theorem dJ10_rotateLeft_24 : decode cJ10_rotateLeft 24 = .ok (.aload_n 2, 1) := dk_44 (dk_at dksJ10_rotateLeft_1 0 rfl rfl)
theorem dJ10_rotateLeft_25 : decode cJ10_rotateLeft 25 = .ok (.getfield 111, 3) := dk_180 0 111 (dk_at dksJ10_rotateLeft_1 1 rfl rfl)
theorem dJ10_rotateLeft_28 : decode cJ10_rotateLeft 28 = .ok (.aload_n 1, 1) := dk_43 (dk_at dksJ10_rotateLeft_1 4 rfl rfl)
theorem dJ10_rotateLeft_29 : decode cJ10_rotateLeft 29 = .ok (.putfield 124, 3) := dk_181 0 124 (dk_at dksJ10_rotateLeft_1 5 rfl rfl)
theorem dJ10_rotateLeft_32 : decode cJ10_rotateLeft 32 = .ok (.aload_n 2, 1) := dk_44 (dk_at dksJ10_rotateLeft_1 8 rfl rfl)
theorem dJ10_rotateLeft_33 : decode cJ10_rotateLeft 33 = .ok (.aload_n 1, 1) := dk_43 (dk_at dksJ10_rotateLeft_1 9 rfl rfl)
theorem dJ10_rotateLeft_34 : decode cJ10_rotateLeft 34 = .ok (.getfield 124, 3) := dk_180 0 124 (dk_at dksJ10_rotateLeft_1 10 rfl rfl)
theorem dJ10_rotateLeft_37 : decode cJ10_rotateLeft 37 = .ok (.putfield 124, 3) := dk_181 0 124 (dk_at dksJ10_rotateLeft_1 13 rfl rfl)
theorem dJ10_rotateLeft_40 : decode cJ10_rotateLeft 40 = .ok (.aload_n 1, 1) := dk_43 (dk_at dksJ10_rotateLeft_1 16 rfl rfl)
theorem dJ10_rotateLeft_41 : decode cJ10_rotateLeft 41 = .ok (.getfield 124, 3) := dk_180 0 124 (dk_at dksJ10_rotateLeft_1 17 rfl rfl)
theorem dJ10_rotateLeft_44 : decode cJ10_rotateLeft 44 = .ok (.ifnonnull 11, 3) := dk_199 0 11 (dk_at dksJ10_rotateLeft_1 20 rfl rfl)
theorem dJ10_rotateLeft_47 : decode cJ10_rotateLeft 47 = .ok (.aload_n 0, 1) := dk_42 (dk_at dksJ10_rotateLeft_1 23 rfl rfl)
theorem dJ10_rotateLeft_48 : decode cJ10_rotateLeft 48 = .ok (.aload_n 2, 1) := dk_44 (dk_at dksJ10_rotateLeft_2 0 rfl rfl)
theorem dJ10_rotateLeft_49 : decode cJ10_rotateLeft 49 = .ok (.putfield 101, 3) := dk_181 0 101 (dk_at dksJ10_rotateLeft_2 1 rfl rfl)
theorem dJ10_rotateLeft_52 : decode cJ10_rotateLeft 52 = .ok (.goto 33, 3) := dk_167 0 33 (dk_at dksJ10_rotateLeft_2 4 rfl rfl)
theorem dJ10_rotateLeft_55 : decode cJ10_rotateLeft 55 = .ok (.aload_n 1, 1) := dk_43 (dk_at dksJ10_rotateLeft_2 7 rfl rfl)
theorem dJ10_rotateLeft_56 : decode cJ10_rotateLeft 56 = .ok (.getfield 124, 3) := dk_180 0 124 (dk_at dksJ10_rotateLeft_2 8 rfl rfl)
theorem dJ10_rotateLeft_59 : decode cJ10_rotateLeft 59 = .ok (.getfield 111, 3) := dk_180 0 111 (dk_at dksJ10_rotateLeft_2 11 rfl rfl)
theorem dJ10_rotateLeft_62 : decode cJ10_rotateLeft 62 = .ok (.aload_n 1, 1) := dk_43 (dk_at dksJ10_rotateLeft_2 14 rfl rfl)
theorem dJ10_rotateLeft_63 : decode cJ10_rotateLeft 63 = .ok (.if_acmp .ne 14, 3) := dk_166 0 14 (dk_at dksJ10_rotateLeft_2 15 rfl rfl)
theorem dJ10_rotateLeft_66 : decode cJ10_rotateLeft 66 = .ok (.aload_n 1, 1) := dk_43 (dk_at dksJ10_rotateLeft_2 18 rfl rfl)
theorem dJ10_rotateLeft_67 : decode cJ10_rotateLeft 67 = .ok (.getfield 124, 3) := dk_180 0 124 (dk_at dksJ10_rotateLeft_2 19 rfl rfl)
theorem dJ10_rotateLeft_70 : decode cJ10_rotateLeft 70 = .ok (.aload_n 2, 1) := dk_44 (dk_at dksJ10_rotateLeft_2 22 rfl rfl)
theorem dJ10_rotateLeft_71 : decode cJ10_rotateLeft 71 = .ok (.putfield 111, 3) := dk_181 0 111 (dk_at dksJ10_rotateLeft_3 0 rfl rfl)
theorem dJ10_rotateLeft_74 : decode cJ10_rotateLeft 74 = .ok (.goto 11, 3) := dk_167 0 11 (dk_at dksJ10_rotateLeft_3 3 rfl rfl)
theorem dJ10_rotateLeft_77 : decode cJ10_rotateLeft 77 = .ok (.aload_n 1, 1) := dk_43 (dk_at dksJ10_rotateLeft_3 6 rfl rfl)
theorem dJ10_rotateLeft_78 : decode cJ10_rotateLeft 78 = .ok (.getfield 124, 3) := dk_180 0 124 (dk_at dksJ10_rotateLeft_3 7 rfl rfl)
theorem dJ10_rotateLeft_81 : decode cJ10_rotateLeft 81 = .ok (.aload_n 2, 1) := dk_44 (dk_at dksJ10_rotateLeft_3 10 rfl rfl)
theorem dJ10_rotateLeft_82 : decode cJ10_rotateLeft 82 = .ok (.putfield 114, 3) := dk_181 0 114 (dk_at dksJ10_rotateLeft_3 11 rfl rfl)
theorem dJ10_rotateLeft_85 : decode cJ10_rotateLeft 85 = .ok (.aload_n 2, 1) := dk_44 (dk_at dksJ10_rotateLeft_3 14 rfl rfl)
theorem dJ10_rotateLeft_86 : decode cJ10_rotateLeft 86 = .ok (.aload_n 1, 1) := dk_43 (dk_at dksJ10_rotateLeft_3 15 rfl rfl)
theorem dJ10_rotateLeft_87 : decode cJ10_rotateLeft 87 = .ok (.putfield 111, 3) := dk_181 0 111 (dk_at dksJ10_rotateLeft_3 16 rfl rfl)
theorem dJ10_rotateLeft_90 : decode cJ10_rotateLeft 90 = .ok (.aload_n 1, 1) := dk_43 (dk_at dksJ10_rotateLeft_3 19 rfl rfl)
theorem dJ10_rotateLeft_91 : decode cJ10_rotateLeft 91 = .ok (.aload_n 2, 1) := dk_44 (dk_at dksJ10_rotateLeft_3 20 rfl rfl)
theorem dJ10_rotateLeft_92 : decode cJ10_rotateLeft 92 = .ok (.putfield 124, 3) := dk_181 0 124 (dk_at dksJ10_rotateLeft_3 21 rfl rfl)
theorem dJ10_rotateLeft_95 : decode cJ10_rotateLeft 95 = .ok (.return_, 1) := dk_177 (dk_at dksJ10_rotateLeft_4 0 rfl rfl)
abbrev cJ10_rotateRight : ByteArray := prog_90_method_82_code
def yJ10_rotateRight : MethodName := ⟨RJ10, "rotateRight", "(Ljava/util/TreeMap$Entry;)V"⟩
def dkwJ10_rotateRight_4 : List UInt8 := [177]
abbrev dktJ10_rotateRight_4 : List UInt8 := dkwJ10_rotateRight_4 ++ []
def dkwJ10_rotateRight_3 : List UInt8 := [181, 0, 114, 167, 0, 11, 43, 180, 0, 124, 44, 181, 0, 111, 44, 43, 181, 0, 114, 43, 44, 181, 0, 124]
abbrev dktJ10_rotateRight_3 : List UInt8 := dkwJ10_rotateRight_3 ++ dktJ10_rotateRight_4
def dkwJ10_rotateRight_2 : List UInt8 := [44, 181, 0, 101, 167, 0, 33, 43, 180, 0, 124, 180, 0, 114, 43, 166, 0, 14, 43, 180, 0, 124, 44]
abbrev dktJ10_rotateRight_2 : List UInt8 := dkwJ10_rotateRight_2 ++ dktJ10_rotateRight_3
def dkwJ10_rotateRight_1 : List UInt8 := [44, 180, 0, 114, 43, 181, 0, 124, 44, 43, 180, 0, 124, 181, 0, 124, 43, 180, 0, 124, 199, 0, 11, 42]
abbrev dktJ10_rotateRight_1 : List UInt8 := dkwJ10_rotateRight_1 ++ dktJ10_rotateRight_2
def dkwJ10_rotateRight_0 : List UInt8 := [43, 198, 0, 94, 43, 180, 0, 111, 77, 43, 44, 180, 0, 114, 181, 0, 111, 44, 180, 0, 114, 198, 0, 11]
abbrev dktJ10_rotateRight_0 : List UInt8 := dkwJ10_rotateRight_0 ++ dktJ10_rotateRight_1
theorem dksJ10_rotateRight_0 : cJ10_rotateRight.data.toList.drop 0 = dktJ10_rotateRight_0 := by decide +kernel
theorem dksJ10_rotateRight_1 : cJ10_rotateRight.data.toList.drop 24 = dktJ10_rotateRight_1 := dk_seg dksJ10_rotateRight_0 24 rfl rfl
theorem dksJ10_rotateRight_2 : cJ10_rotateRight.data.toList.drop 48 = dktJ10_rotateRight_2 := dk_seg dksJ10_rotateRight_1 24 rfl rfl
theorem dksJ10_rotateRight_3 : cJ10_rotateRight.data.toList.drop 71 = dktJ10_rotateRight_3 := dk_seg dksJ10_rotateRight_2 23 rfl rfl
theorem dksJ10_rotateRight_4 : cJ10_rotateRight.data.toList.drop 95 = dktJ10_rotateRight_4 := dk_seg dksJ10_rotateRight_3 24 rfl rfl
theorem dJ10_rotateRight_0 : decode cJ10_rotateRight 0 = .ok (.aload_n 1, 1) := dk_43 (dk_at dksJ10_rotateRight_0 0 rfl rfl)
theorem dJ10_rotateRight_1 : decode cJ10_rotateRight 1 = .ok (.ifnull 94, 3) := dk_198 0 94 (dk_at dksJ10_rotateRight_0 1 rfl rfl)
theorem dJ10_rotateRight_4 : decode cJ10_rotateRight 4 = .ok (.aload_n 1, 1) := dk_43 (dk_at dksJ10_rotateRight_0 4 rfl rfl)
theorem dJ10_rotateRight_5 : decode cJ10_rotateRight 5 = .ok (.getfield 111, 3) := dk_180 0 111 (dk_at dksJ10_rotateRight_0 5 rfl rfl)
theorem dJ10_rotateRight_8 : decode cJ10_rotateRight 8 = .ok (.astore_n 2, 1) := dk_77 (dk_at dksJ10_rotateRight_0 8 rfl rfl)
theorem dJ10_rotateRight_9 : decode cJ10_rotateRight 9 = .ok (.aload_n 1, 1) := dk_43 (dk_at dksJ10_rotateRight_0 9 rfl rfl)
theorem dJ10_rotateRight_10 : decode cJ10_rotateRight 10 = .ok (.aload_n 2, 1) := dk_44 (dk_at dksJ10_rotateRight_0 10 rfl rfl)
theorem dJ10_rotateRight_11 : decode cJ10_rotateRight 11 = .ok (.getfield 114, 3) := dk_180 0 114 (dk_at dksJ10_rotateRight_0 11 rfl rfl)
theorem dJ10_rotateRight_14 : decode cJ10_rotateRight 14 = .ok (.putfield 111, 3) := dk_181 0 111 (dk_at dksJ10_rotateRight_0 14 rfl rfl)
theorem dJ10_rotateRight_17 : decode cJ10_rotateRight 17 = .ok (.aload_n 2, 1) := dk_44 (dk_at dksJ10_rotateRight_0 17 rfl rfl)
theorem dJ10_rotateRight_18 : decode cJ10_rotateRight 18 = .ok (.getfield 114, 3) := dk_180 0 114 (dk_at dksJ10_rotateRight_0 18 rfl rfl)
theorem dJ10_rotateRight_21 : decode cJ10_rotateRight 21 = .ok (.ifnull 11, 3) := dk_198 0 11 (dk_at dksJ10_rotateRight_0 21 rfl rfl)
theorem dJ10_rotateRight_24 : decode cJ10_rotateRight 24 = .ok (.aload_n 2, 1) := dk_44 (dk_at dksJ10_rotateRight_1 0 rfl rfl)
theorem dJ10_rotateRight_25 : decode cJ10_rotateRight 25 = .ok (.getfield 114, 3) := dk_180 0 114 (dk_at dksJ10_rotateRight_1 1 rfl rfl)
theorem dJ10_rotateRight_28 : decode cJ10_rotateRight 28 = .ok (.aload_n 1, 1) := dk_43 (dk_at dksJ10_rotateRight_1 4 rfl rfl)
theorem dJ10_rotateRight_29 : decode cJ10_rotateRight 29 = .ok (.putfield 124, 3) := dk_181 0 124 (dk_at dksJ10_rotateRight_1 5 rfl rfl)
theorem dJ10_rotateRight_32 : decode cJ10_rotateRight 32 = .ok (.aload_n 2, 1) := dk_44 (dk_at dksJ10_rotateRight_1 8 rfl rfl)
theorem dJ10_rotateRight_33 : decode cJ10_rotateRight 33 = .ok (.aload_n 1, 1) := dk_43 (dk_at dksJ10_rotateRight_1 9 rfl rfl)
theorem dJ10_rotateRight_34 : decode cJ10_rotateRight 34 = .ok (.getfield 124, 3) := dk_180 0 124 (dk_at dksJ10_rotateRight_1 10 rfl rfl)
theorem dJ10_rotateRight_37 : decode cJ10_rotateRight 37 = .ok (.putfield 124, 3) := dk_181 0 124 (dk_at dksJ10_rotateRight_1 13 rfl rfl)
theorem dJ10_rotateRight_40 : decode cJ10_rotateRight 40 = .ok (.aload_n 1, 1) := dk_43 (dk_at dksJ10_rotateRight_1 16 rfl rfl)
theorem dJ10_rotateRight_41 : decode cJ10_rotateRight 41 = .ok (.getfield 124, 3) := dk_180 0 124 (dk_at dksJ10_rotateRight_1 17 rfl rfl)
theorem dJ10_rotateRight_44 : decode cJ10_rotateRight 44 = .ok (.ifnonnull 11, 3) := dk_199 0 11 (dk_at dksJ10_rotateRight_1 20 rfl rfl)
theorem dJ10_rotateRight_47 : decode cJ10_rotateRight 47 = .ok (.aload_n 0, 1) := dk_42 (dk_at dksJ10_rotateRight_1 23 rfl rfl)
theorem dJ10_rotateRight_48 : decode cJ10_rotateRight 48 = .ok (.aload_n 2, 1) := dk_44 (dk_at dksJ10_rotateRight_2 0 rfl rfl)
theorem dJ10_rotateRight_49 : decode cJ10_rotateRight 49 = .ok (.putfield 101, 3) := dk_181 0 101 (dk_at dksJ10_rotateRight_2 1 rfl rfl)
theorem dJ10_rotateRight_52 : decode cJ10_rotateRight 52 = .ok (.goto 33, 3) := dk_167 0 33 (dk_at dksJ10_rotateRight_2 4 rfl rfl)
theorem dJ10_rotateRight_55 : decode cJ10_rotateRight 55 = .ok (.aload_n 1, 1) := dk_43 (dk_at dksJ10_rotateRight_2 7 rfl rfl)
theorem dJ10_rotateRight_56 : decode cJ10_rotateRight 56 = .ok (.getfield 124, 3) := dk_180 0 124 (dk_at dksJ10_rotateRight_2 8 rfl rfl)
theorem dJ10_rotateRight_59 : decode cJ10_rotateRight 59 = .ok (.getfield 114, 3) := dk_180 0 114 (dk_at dksJ10_rotateRight_2 11 rfl rfl)
theorem dJ10_rotateRight_62 : decode cJ10_rotateRight 62 = .ok (.aload_n 1, 1) := dk_43 (dk_at dksJ10_rotateRight_2 14 rfl rfl)
theorem dJ10_rotateRight_63 : decode cJ10_rotateRight 63 = .ok (.if_acmp .ne 14, 3) := dk_166 0 14 (dk_at dksJ10_rotateRight_2 15 rfl rfl)
theorem dJ10_rotateRight_66 : decode cJ10_rotateRight 66 = .ok (.aload_n 1, 1) := dk_43 (dk_at dksJ10_rotateRight_2 18 rfl rfl)
theorem dJ10_rotateRight_67 : decode cJ10_rotateRight 67 = .ok (.getfield 124, 3) := dk_180 0 124 (dk_at dksJ10_rotateRight_2 19 rfl rfl)
theorem dJ10_rotateRight_70 : decode cJ10_rotateRight 70 = .ok (.aload_n 2, 1) := dk_44 (dk_at dksJ10_rotateRight_2 22 rfl rfl)
theorem dJ10_rotateRight_71 : decode cJ10_rotateRight 71 = .ok (.putfield 114, 3) := dk_181 0 114 (dk_at dksJ10_rotateRight_3 0 rfl rfl)
theorem dJ10_rotateRight_74 : decode cJ10_rotateRight 74 = .ok (.goto 11, 3) := dk_167 0 11 (dk_at dksJ10_rotateRight_3 3 rfl rfl)
theorem dJ10_rotateRight_77 : decode cJ10_rotateRight 77 = .ok (.aload_n 1, 1) := dk_43 (dk_at dksJ10_rotateRight_3 6 rfl rfl)
theorem dJ10_rotateRight_78 : decode cJ10_rotateRight 78 = .ok (.getfield 124, 3) := dk_180 0 124 (dk_at dksJ10_rotateRight_3 7 rfl rfl)
theorem dJ10_rotateRight_81 : decode cJ10_rotateRight 81 = .ok (.aload_n 2, 1) := dk_44 (dk_at dksJ10_rotateRight_3 10 rfl rfl)
theorem dJ10_rotateRight_82 : decode cJ10_rotateRight 82 = .ok (.putfield 111, 3) := dk_181 0 111 (dk_at dksJ10_rotateRight_3 11 rfl rfl)
theorem dJ10_rotateRight_85 : decode cJ10_rotateRight 85 = .ok (.aload_n 2, 1) := dk_44 (dk_at dksJ10_rotateRight_3 14 rfl rfl)
theorem dJ10_rotateRight_86 : decode cJ10_rotateRight 86 = .ok (.aload_n 1, 1) := dk_43 (dk_at dksJ10_rotateRight_3 15 rfl rfl)
theorem dJ10_rotateRight_87 : decode cJ10_rotateRight 87 = .ok (.putfield 114, 3) := dk_181 0 114 (dk_at dksJ10_rotateRight_3 16 rfl rfl)
theorem dJ10_rotateRight_90 : decode cJ10_rotateRight 90 = .ok (.aload_n 1, 1) := dk_43 (dk_at dksJ10_rotateRight_3 19 rfl rfl)
theorem dJ10_rotateRight_91 : decode cJ10_rotateRight 91 = .ok (.aload_n 2, 1) := dk_44 (dk_at dksJ10_rotateRight_3 20 rfl rfl)
theorem dJ10_rotateRight_92 : decode cJ10_rotateRight 92 = .ok (.putfield 124, 3) := dk_181 0 124 (dk_at dksJ10_rotateRight_3 21 rfl rfl)
theorem dJ10_rotateRight_95 : decode cJ10_rotateRight 95 = .ok (.return_, 1) := dk_177 (dk_at dksJ10_rotateRight_4 0 rfl rfl)
abbrev cJ10_remove : ByteArray := prog_90_method_34_code
def yJ10_remove : MethodName := ⟨RJ10, "remove", "(Ljava/lang/Object;)Ljava/lang/Object;"⟩
def dkwJ10_remove_0 : List UInt8 := [42, 43, 182, 0, 50, 77, 44, 199, 0, 5, 1, 176, 44, 180, 0, 58, 78, 42, 44, 182, 0, 174, 45, 176]
abbrev dktJ10_remove_0 : List UInt8 := dkwJ10_remove_0 ++ []
theorem dksJ10_remove_0 : cJ10_remove.data.toList.drop 0 = dktJ10_remove_0 := by decide +kernel
theorem dJ10_remove_0 : decode cJ10_remove 0 = .ok (.aload_n 0, 1) := dk_42 (dk_at dksJ10_remove_0 0 rfl rfl)
theorem dJ10_remove_1 : decode cJ10_remove 1 = .ok (.aload_n 1, 1) := dk_43 (dk_at dksJ10_remove_0 1 rfl rfl)
theorem dJ10_remove_2 : decode cJ10_remove 2 = .ok (.invokevirtual 50, 3) := dk_182 0 50 (dk_at dksJ10_remove_0 2 rfl rfl)
theorem dJ10_remove_5 : decode cJ10_remove 5 = .ok (.astore_n 2, 1) := dk_77 (dk_at dksJ10_remove_0 5 rfl rfl)
theorem dJ10_remove_6 : decode cJ10_remove 6 = .ok (.aload_n 2, 1) := dk_44 (dk_at dksJ10_remove_0 6 rfl rfl)
theorem dJ10_remove_7 : decode cJ10_remove 7 = .ok (.ifnonnull 5, 3) := dk_199 0 5 (dk_at dksJ10_remove_0 7 rfl rfl)
theorem dJ10_remove_10 : decode cJ10_remove 10 = .ok (.aconst_null, 1) := dk_1 (dk_at dksJ10_remove_0 10 rfl rfl)
theorem dJ10_remove_11 : decode cJ10_remove 11 = .ok (.areturn, 1) := dk_176 (dk_at dksJ10_remove_0 11 rfl rfl)
theorem dJ10_remove_12 : decode cJ10_remove 12 = .ok (.aload_n 2, 1) := dk_44 (dk_at dksJ10_remove_0 12 rfl rfl)
theorem dJ10_remove_13 : decode cJ10_remove 13 = .ok (.getfield 58, 3) := dk_180 0 58 (dk_at dksJ10_remove_0 13 rfl rfl)
theorem dJ10_remove_16 : decode cJ10_remove 16 = .ok (.astore_n 3, 1) := dk_78 (dk_at dksJ10_remove_0 16 rfl rfl)
theorem dJ10_remove_17 : decode cJ10_remove 17 = .ok (.aload_n 0, 1) := dk_42 (dk_at dksJ10_remove_0 17 rfl rfl)
theorem dJ10_remove_18 : decode cJ10_remove 18 = .ok (.aload_n 2, 1) := dk_44 (dk_at dksJ10_remove_0 18 rfl rfl)
theorem dJ10_remove_19 : decode cJ10_remove 19 = .ok (.invokevirtual 174, 3) := dk_182 0 174 (dk_at dksJ10_remove_0 19 rfl rfl)
theorem dJ10_remove_22 : decode cJ10_remove 22 = .ok (.aload_n 3, 1) := dk_45 (dk_at dksJ10_remove_0 22 rfl rfl)
theorem dJ10_remove_23 : decode cJ10_remove 23 = .ok (.areturn, 1) := dk_176 (dk_at dksJ10_remove_0 23 rfl rfl)
abbrev cJ10_getEntry : ByteArray := prog_90_method_15_code
def yJ10_getEntry : MethodName := ⟨RJ10, "getEntry", "(Ljava/lang/Object;)Ljava/util/TreeMap$Entry;"⟩
def dkwJ10_getEntry_3 : List UInt8 := [45, 176, 167, 255, 212, 1, 176]
abbrev dktJ10_getEntry_3 : List UInt8 := dkwJ10_getEntry_3 ++ []
def dkwJ10_getEntry_2 : List UInt8 := [156, 0, 11, 45, 180, 0, 111, 78, 167, 0, 18, 21, 4, 158, 0, 11, 45, 180, 0, 114, 78, 167, 0, 5]
abbrev dktJ10_getEntry_2 : List UInt8 := dkwJ10_getEntry_2 ++ dktJ10_getEntry_3
def dkwJ10_getEntry_1 : List UInt8 := [180, 0, 101, 78, 45, 198, 0, 46, 44, 45, 180, 0, 105, 185, 0, 107, 2, 0, 54, 4, 21, 4]
abbrev dktJ10_getEntry_1 : List UInt8 := dkwJ10_getEntry_1 ++ dktJ10_getEntry_2
def dkwJ10_getEntry_0 : List UInt8 := [42, 180, 0, 16, 198, 0, 9, 42, 43, 182, 0, 92, 176, 43, 184, 0, 95, 87, 43, 192, 0, 99, 77, 42]
abbrev dktJ10_getEntry_0 : List UInt8 := dkwJ10_getEntry_0 ++ dktJ10_getEntry_1
theorem dksJ10_getEntry_0 : cJ10_getEntry.data.toList.drop 0 = dktJ10_getEntry_0 := by decide +kernel
theorem dksJ10_getEntry_1 : cJ10_getEntry.data.toList.drop 24 = dktJ10_getEntry_1 := dk_seg dksJ10_getEntry_0 24 rfl rfl
theorem dksJ10_getEntry_2 : cJ10_getEntry.data.toList.drop 46 = dktJ10_getEntry_2 := dk_seg dksJ10_getEntry_1 22 rfl rfl
theorem dksJ10_getEntry_3 : cJ10_getEntry.data.toList.drop 70 = dktJ10_getEntry_3 := dk_seg dksJ10_getEntry_2 24 rfl rfl
theorem dJ10_getEntry_0 : decode cJ10_getEntry 0 = .ok (.aload_n 0, 1) := dk_42 (dk_at dksJ10_getEntry_0 0 rfl rfl)
theorem dJ10_getEntry_1 : decode cJ10_getEntry 1 = .ok (.getfield 16, 3) := dk_180 0 16 (dk_at dksJ10_getEntry_0 1 rfl rfl)
theorem dJ10_getEntry_4 : decode cJ10_getEntry 4 = .ok (.ifnull 9, 3) := dk_198 0 9 (dk_at dksJ10_getEntry_0 4 rfl rfl)
theorem dJ10_getEntry_7 : decode cJ10_getEntry 7 = .ok (.aload_n 0, 1) := dk_42 (dk_at dksJ10_getEntry_0 7 rfl rfl)
theorem dJ10_getEntry_8 : decode cJ10_getEntry 8 = .ok (.aload_n 1, 1) := dk_43 (dk_at dksJ10_getEntry_0 8 rfl rfl)
theorem dJ10_getEntry_9 : decode cJ10_getEntry 9 = .ok (.invokevirtual 92, 3) := dk_182 0 92 (dk_at dksJ10_getEntry_0 9 rfl rfl)
theorem dJ10_getEntry_12 : decode cJ10_getEntry 12 = .ok (.areturn, 1) := dk_176 (dk_at dksJ10_getEntry_0 12 rfl rfl)
theorem dJ10_getEntry_13 : decode cJ10_getEntry 13 = .ok (.aload_n 1, 1) := dk_43 (dk_at dksJ10_getEntry_0 13 rfl rfl)
theorem dJ10_getEntry_14 : decode cJ10_getEntry 14 = .ok (.invokestatic 95, 3) := dk_184 0 95 (dk_at dksJ10_getEntry_0 14 rfl rfl)
theorem dJ10_getEntry_17 : decode cJ10_getEntry 17 = .ok (.pop, 1) := dk_87 (dk_at dksJ10_getEntry_0 17 rfl rfl)
theorem dJ10_getEntry_18 : decode cJ10_getEntry 18 = .ok (.aload_n 1, 1) := dk_43 (dk_at dksJ10_getEntry_0 18 rfl rfl)
theorem dJ10_getEntry_19 : decode cJ10_getEntry 19 = .ok (.checkcast 99, 3) := dk_192 0 99 (dk_at dksJ10_getEntry_0 19 rfl rfl)
theorem dJ10_getEntry_22 : decode cJ10_getEntry 22 = .ok (.astore_n 2, 1) := dk_77 (dk_at dksJ10_getEntry_0 22 rfl rfl)
theorem dJ10_getEntry_23 : decode cJ10_getEntry 23 = .ok (.aload_n 0, 1) := dk_42 (dk_at dksJ10_getEntry_0 23 rfl rfl)
theorem dJ10_getEntry_24 : decode cJ10_getEntry 24 = .ok (.getfield 101, 3) := dk_180 0 101 (dk_at dksJ10_getEntry_1 0 rfl rfl)
theorem dJ10_getEntry_27 : decode cJ10_getEntry 27 = .ok (.astore_n 3, 1) := dk_78 (dk_at dksJ10_getEntry_1 3 rfl rfl)
theorem dJ10_getEntry_28 : decode cJ10_getEntry 28 = .ok (.aload_n 3, 1) := dk_45 (dk_at dksJ10_getEntry_1 4 rfl rfl)
theorem dJ10_getEntry_29 : decode cJ10_getEntry 29 = .ok (.ifnull 46, 3) := dk_198 0 46 (dk_at dksJ10_getEntry_1 5 rfl rfl)
theorem dJ10_getEntry_32 : decode cJ10_getEntry 32 = .ok (.aload_n 2, 1) := dk_44 (dk_at dksJ10_getEntry_1 8 rfl rfl)
theorem dJ10_getEntry_33 : decode cJ10_getEntry 33 = .ok (.aload_n 3, 1) := dk_45 (dk_at dksJ10_getEntry_1 9 rfl rfl)
theorem dJ10_getEntry_34 : decode cJ10_getEntry 34 = .ok (.getfield 105, 3) := dk_180 0 105 (dk_at dksJ10_getEntry_1 10 rfl rfl)
theorem dJ10_getEntry_37 : decode cJ10_getEntry 37 = .ok (.invokeinterface 107 2, 5) := by decide +kernel
theorem dJ10_getEntry_42 : decode cJ10_getEntry 42 = .ok (.istore 4, 2) := dk_54 4 (dk_at dksJ10_getEntry_1 18 rfl rfl)
theorem dJ10_getEntry_44 : decode cJ10_getEntry 44 = .ok (.iload 4, 2) := dk_21 4 (dk_at dksJ10_getEntry_1 20 rfl rfl)
theorem dJ10_getEntry_46 : decode cJ10_getEntry 46 = .ok (.ifCond .ge 11, 3) := dk_156 0 11 (dk_at dksJ10_getEntry_2 0 rfl rfl)
theorem dJ10_getEntry_49 : decode cJ10_getEntry 49 = .ok (.aload_n 3, 1) := dk_45 (dk_at dksJ10_getEntry_2 3 rfl rfl)
theorem dJ10_getEntry_50 : decode cJ10_getEntry 50 = .ok (.getfield 111, 3) := dk_180 0 111 (dk_at dksJ10_getEntry_2 4 rfl rfl)
theorem dJ10_getEntry_53 : decode cJ10_getEntry 53 = .ok (.astore_n 3, 1) := dk_78 (dk_at dksJ10_getEntry_2 7 rfl rfl)
theorem dJ10_getEntry_54 : decode cJ10_getEntry 54 = .ok (.goto 18, 3) := dk_167 0 18 (dk_at dksJ10_getEntry_2 8 rfl rfl)
theorem dJ10_getEntry_57 : decode cJ10_getEntry 57 = .ok (.iload 4, 2) := dk_21 4 (dk_at dksJ10_getEntry_2 11 rfl rfl)
theorem dJ10_getEntry_59 : decode cJ10_getEntry 59 = .ok (.ifCond .le 11, 3) := dk_158 0 11 (dk_at dksJ10_getEntry_2 13 rfl rfl)
theorem dJ10_getEntry_62 : decode cJ10_getEntry 62 = .ok (.aload_n 3, 1) := dk_45 (dk_at dksJ10_getEntry_2 16 rfl rfl)
theorem dJ10_getEntry_63 : decode cJ10_getEntry 63 = .ok (.getfield 114, 3) := dk_180 0 114 (dk_at dksJ10_getEntry_2 17 rfl rfl)
theorem dJ10_getEntry_66 : decode cJ10_getEntry 66 = .ok (.astore_n 3, 1) := dk_78 (dk_at dksJ10_getEntry_2 20 rfl rfl)
theorem dJ10_getEntry_67 : decode cJ10_getEntry 67 = .ok (.goto 5, 3) := dk_167 0 5 (dk_at dksJ10_getEntry_2 21 rfl rfl)
theorem dJ10_getEntry_70 : decode cJ10_getEntry 70 = .ok (.aload_n 3, 1) := dk_45 (dk_at dksJ10_getEntry_3 0 rfl rfl)
theorem dJ10_getEntry_71 : decode cJ10_getEntry 71 = .ok (.areturn, 1) := dk_176 (dk_at dksJ10_getEntry_3 1 rfl rfl)
theorem dJ10_getEntry_72 : decode cJ10_getEntry 72 = .ok (.goto (-44), 3) := dk_167 255 212 (dk_at dksJ10_getEntry_3 2 rfl rfl)
theorem dJ10_getEntry_75 : decode cJ10_getEntry 75 = .ok (.aconst_null, 1) := dk_1 (dk_at dksJ10_getEntry_3 5 rfl rfl)
theorem dJ10_getEntry_76 : decode cJ10_getEntry 76 = .ok (.areturn, 1) := dk_176 (dk_at dksJ10_getEntry_3 6 rfl rfl)
abbrev cJ10_getEntryUsingComparator : ByteArray := prog_90_method_16_code
def yJ10_getEntryUsingComparator : MethodName := ⟨RJ10, "getEntryUsingComparator", "(Ljava/lang/Object;)Ljava/util/TreeMap$Entry;"⟩
def dkwJ10_getEntryUsingComparator_3 : List UInt8 := [1, 176]
abbrev dktJ10_getEntryUsingComparator_3 : List UInt8 := dkwJ10_getEntryUsingComparator_3 ++ []
def dkwJ10_getEntryUsingComparator_2 : List UInt8 := [167, 0, 21, 21, 5, 158, 0, 13, 25, 4, 180, 0, 114, 58, 4, 167, 0, 6, 25, 4, 176, 167, 255, 204]
abbrev dktJ10_getEntryUsingComparator_2 : List UInt8 := dkwJ10_getEntryUsingComparator_2 ++ dktJ10_getEntryUsingComparator_3
def dkwJ10_getEntryUsingComparator_1 : List UInt8 := [25, 4, 180, 0, 105, 185, 0, 117, 3, 0, 54, 5, 21, 5, 156, 0, 13, 25, 4, 180, 0, 111, 58, 4]
abbrev dktJ10_getEntryUsingComparator_1 : List UInt8 := dkwJ10_getEntryUsingComparator_1 ++ dktJ10_getEntryUsingComparator_2
def dkwJ10_getEntryUsingComparator_0 : List UInt8 := [43, 77, 42, 180, 0, 16, 78, 45, 198, 0, 64, 42, 180, 0, 101, 58, 4, 25, 4, 198, 0, 53, 45, 44]
abbrev dktJ10_getEntryUsingComparator_0 : List UInt8 := dkwJ10_getEntryUsingComparator_0 ++ dktJ10_getEntryUsingComparator_1
theorem dksJ10_getEntryUsingComparator_0 : cJ10_getEntryUsingComparator.data.toList.drop 0 = dktJ10_getEntryUsingComparator_0 := by decide +kernel
theorem dksJ10_getEntryUsingComparator_1 : cJ10_getEntryUsingComparator.data.toList.drop 24 = dktJ10_getEntryUsingComparator_1 := dk_seg dksJ10_getEntryUsingComparator_0 24 rfl rfl
theorem dksJ10_getEntryUsingComparator_2 : cJ10_getEntryUsingComparator.data.toList.drop 48 = dktJ10_getEntryUsingComparator_2 := dk_seg dksJ10_getEntryUsingComparator_1 24 rfl rfl
theorem dksJ10_getEntryUsingComparator_3 : cJ10_getEntryUsingComparator.data.toList.drop 72 = dktJ10_getEntryUsingComparator_3 := dk_seg dksJ10_getEntryUsingComparator_2 24 rfl rfl
theorem dJ10_getEntryUsingComparator_0 : decode cJ10_getEntryUsingComparator 0 = .ok (.aload_n 1, 1) := dk_43 (dk_at dksJ10_getEntryUsingComparator_0 0 rfl rfl)
theorem dJ10_getEntryUsingComparator_1 : decode cJ10_getEntryUsingComparator 1 = .ok (.astore_n 2, 1) := dk_77 (dk_at dksJ10_getEntryUsingComparator_0 1 rfl rfl)
theorem dJ10_getEntryUsingComparator_2 : decode cJ10_getEntryUsingComparator 2 = .ok (.aload_n 0, 1) := dk_42 (dk_at dksJ10_getEntryUsingComparator_0 2 rfl rfl)
theorem dJ10_getEntryUsingComparator_3 : decode cJ10_getEntryUsingComparator 3 = .ok (.getfield 16, 3) := dk_180 0 16 (dk_at dksJ10_getEntryUsingComparator_0 3 rfl rfl)
theorem dJ10_getEntryUsingComparator_6 : decode cJ10_getEntryUsingComparator 6 = .ok (.astore_n 3, 1) := dk_78 (dk_at dksJ10_getEntryUsingComparator_0 6 rfl rfl)
theorem dJ10_getEntryUsingComparator_7 : decode cJ10_getEntryUsingComparator 7 = .ok (.aload_n 3, 1) := dk_45 (dk_at dksJ10_getEntryUsingComparator_0 7 rfl rfl)
theorem dJ10_getEntryUsingComparator_8 : decode cJ10_getEntryUsingComparator 8 = .ok (.ifnull 64, 3) := dk_198 0 64 (dk_at dksJ10_getEntryUsingComparator_0 8 rfl rfl)
theorem dJ10_getEntryUsingComparator_11 : decode cJ10_getEntryUsingComparator 11 = .ok (.aload_n 0, 1) := dk_42 (dk_at dksJ10_getEntryUsingComparator_0 11 rfl rfl)
theorem dJ10_getEntryUsingComparator_12 : decode cJ10_getEntryUsingComparator 12 = .ok (.getfield 101, 3) := dk_180 0 101 (dk_at dksJ10_getEntryUsingComparator_0 12 rfl rfl)
theorem dJ10_getEntryUsingComparator_15 : decode cJ10_getEntryUsingComparator 15 = .ok (.astore 4, 2) := dk_58 4 (dk_at dksJ10_getEntryUsingComparator_0 15 rfl rfl)
theorem dJ10_getEntryUsingComparator_17 : decode cJ10_getEntryUsingComparator 17 = .ok (.aload 4, 2) := dk_25 4 (dk_at dksJ10_getEntryUsingComparator_0 17 rfl rfl)
theorem dJ10_getEntryUsingComparator_19 : decode cJ10_getEntryUsingComparator 19 = .ok (.ifnull 53, 3) := dk_198 0 53 (dk_at dksJ10_getEntryUsingComparator_0 19 rfl rfl)
theorem dJ10_getEntryUsingComparator_22 : decode cJ10_getEntryUsingComparator 22 = .ok (.aload_n 3, 1) := dk_45 (dk_at dksJ10_getEntryUsingComparator_0 22 rfl rfl)
theorem dJ10_getEntryUsingComparator_23 : decode cJ10_getEntryUsingComparator 23 = .ok (.aload_n 2, 1) := dk_44 (dk_at dksJ10_getEntryUsingComparator_0 23 rfl rfl)
theorem dJ10_getEntryUsingComparator_24 : decode cJ10_getEntryUsingComparator 24 = .ok (.aload 4, 2) := dk_25 4 (dk_at dksJ10_getEntryUsingComparator_1 0 rfl rfl)
theorem dJ10_getEntryUsingComparator_26 : decode cJ10_getEntryUsingComparator 26 = .ok (.getfield 105, 3) := dk_180 0 105 (dk_at dksJ10_getEntryUsingComparator_1 2 rfl rfl)
theorem dJ10_getEntryUsingComparator_29 : decode cJ10_getEntryUsingComparator 29 = .ok (.invokeinterface 117 3, 5) := by decide +kernel
theorem dJ10_getEntryUsingComparator_34 : decode cJ10_getEntryUsingComparator 34 = .ok (.istore 5, 2) := dk_54 5 (dk_at dksJ10_getEntryUsingComparator_1 10 rfl rfl)
theorem dJ10_getEntryUsingComparator_36 : decode cJ10_getEntryUsingComparator 36 = .ok (.iload 5, 2) := dk_21 5 (dk_at dksJ10_getEntryUsingComparator_1 12 rfl rfl)
theorem dJ10_getEntryUsingComparator_38 : decode cJ10_getEntryUsingComparator 38 = .ok (.ifCond .ge 13, 3) := dk_156 0 13 (dk_at dksJ10_getEntryUsingComparator_1 14 rfl rfl)
theorem dJ10_getEntryUsingComparator_41 : decode cJ10_getEntryUsingComparator 41 = .ok (.aload 4, 2) := dk_25 4 (dk_at dksJ10_getEntryUsingComparator_1 17 rfl rfl)
theorem dJ10_getEntryUsingComparator_43 : decode cJ10_getEntryUsingComparator 43 = .ok (.getfield 111, 3) := dk_180 0 111 (dk_at dksJ10_getEntryUsingComparator_1 19 rfl rfl)
theorem dJ10_getEntryUsingComparator_46 : decode cJ10_getEntryUsingComparator 46 = .ok (.astore 4, 2) := dk_58 4 (dk_at dksJ10_getEntryUsingComparator_1 22 rfl rfl)
theorem dJ10_getEntryUsingComparator_48 : decode cJ10_getEntryUsingComparator 48 = .ok (.goto 21, 3) := dk_167 0 21 (dk_at dksJ10_getEntryUsingComparator_2 0 rfl rfl)
theorem dJ10_getEntryUsingComparator_51 : decode cJ10_getEntryUsingComparator 51 = .ok (.iload 5, 2) := dk_21 5 (dk_at dksJ10_getEntryUsingComparator_2 3 rfl rfl)
theorem dJ10_getEntryUsingComparator_53 : decode cJ10_getEntryUsingComparator 53 = .ok (.ifCond .le 13, 3) := dk_158 0 13 (dk_at dksJ10_getEntryUsingComparator_2 5 rfl rfl)
theorem dJ10_getEntryUsingComparator_56 : decode cJ10_getEntryUsingComparator 56 = .ok (.aload 4, 2) := dk_25 4 (dk_at dksJ10_getEntryUsingComparator_2 8 rfl rfl)
theorem dJ10_getEntryUsingComparator_58 : decode cJ10_getEntryUsingComparator 58 = .ok (.getfield 114, 3) := dk_180 0 114 (dk_at dksJ10_getEntryUsingComparator_2 10 rfl rfl)
theorem dJ10_getEntryUsingComparator_61 : decode cJ10_getEntryUsingComparator 61 = .ok (.astore 4, 2) := dk_58 4 (dk_at dksJ10_getEntryUsingComparator_2 13 rfl rfl)
theorem dJ10_getEntryUsingComparator_63 : decode cJ10_getEntryUsingComparator 63 = .ok (.goto 6, 3) := dk_167 0 6 (dk_at dksJ10_getEntryUsingComparator_2 15 rfl rfl)
theorem dJ10_getEntryUsingComparator_66 : decode cJ10_getEntryUsingComparator 66 = .ok (.aload 4, 2) := dk_25 4 (dk_at dksJ10_getEntryUsingComparator_2 18 rfl rfl)
theorem dJ10_getEntryUsingComparator_68 : decode cJ10_getEntryUsingComparator 68 = .ok (.areturn, 1) := dk_176 (dk_at dksJ10_getEntryUsingComparator_2 20 rfl rfl)
theorem dJ10_getEntryUsingComparator_69 : decode cJ10_getEntryUsingComparator 69 = .ok (.goto (-52), 3) := dk_167 255 204 (dk_at dksJ10_getEntryUsingComparator_2 21 rfl rfl)
theorem dJ10_getEntryUsingComparator_72 : decode cJ10_getEntryUsingComparator 72 = .ok (.aconst_null, 1) := dk_1 (dk_at dksJ10_getEntryUsingComparator_3 0 rfl rfl)
theorem dJ10_getEntryUsingComparator_73 : decode cJ10_getEntryUsingComparator 73 = .ok (.areturn, 1) := dk_176 (dk_at dksJ10_getEntryUsingComparator_3 1 rfl rfl)
abbrev cJ10_deleteEntry : ByteArray := prog_90_method_84_code
def yJ10_deleteEntry : MethodName := ⟨RJ10, "deleteEntry", "(Ljava/util/TreeMap$Entry;)V"⟩
def dkwJ10_deleteEntry_10 : List UInt8 := [180, 0, 124, 1, 181, 0, 114, 43, 1, 181, 0, 124, 177]
abbrev dktJ10_deleteEntry_10 : List UInt8 := dkwJ10_deleteEntry_10 ++ []
def dkwJ10_deleteEntry_9 : List UInt8 := [180, 0, 124, 1, 181, 0, 111, 167, 0, 22, 43, 43, 180, 0, 124, 180, 0, 114, 166, 0, 11, 43]
abbrev dktJ10_deleteEntry_9 : List UInt8 := dkwJ10_deleteEntry_9 ++ dktJ10_deleteEntry_10
def dkwJ10_deleteEntry_8 : List UInt8 := [182, 1, 61, 43, 180, 0, 124, 198, 0, 49, 43, 43, 180, 0, 124, 180, 0, 111, 166, 0, 14, 43]
abbrev dktJ10_deleteEntry_8 : List UInt8 := dkwJ10_deleteEntry_8 ++ dktJ10_deleteEntry_9
def dkwJ10_deleteEntry_7 : List UInt8 := [180, 0, 124, 199, 0, 11, 42, 1, 181, 0, 101, 167, 0, 69, 43, 180, 1, 34, 4, 160, 0, 8, 42, 43]
abbrev dktJ10_deleteEntry_7 : List UInt8 := dkwJ10_deleteEntry_7 ++ dktJ10_deleteEntry_8
def dkwJ10_deleteEntry_6 : List UInt8 := [181, 0, 114, 181, 0, 111, 43, 180, 1, 34, 4, 160, 0, 92, 42, 44, 182, 1, 61, 167, 0, 84, 43]
abbrev dktJ10_deleteEntry_6 : List UInt8 := dkwJ10_deleteEntry_6 ++ dktJ10_deleteEntry_7
def dkwJ10_deleteEntry_5 : List UInt8 := [181, 0, 111, 167, 0, 11, 43, 180, 0, 124, 44, 181, 0, 114, 43, 43, 43, 1, 90, 181, 0, 124, 90]
abbrev dktJ10_deleteEntry_5 : List UInt8 := dkwJ10_deleteEntry_5 ++ dktJ10_deleteEntry_6
def dkwJ10_deleteEntry_4 : List UInt8 := [44, 181, 0, 101, 167, 0, 33, 43, 43, 180, 0, 124, 180, 0, 111, 166, 0, 14, 43, 180, 0, 124, 44]
abbrev dktJ10_deleteEntry_4 : List UInt8 := dkwJ10_deleteEntry_4 ++ dktJ10_deleteEntry_5
def dkwJ10_deleteEntry_3 : List UInt8 := [180, 0, 114, 77, 44, 198, 0, 87, 44, 43, 180, 0, 124, 181, 0, 124, 43, 180, 0, 124, 199, 0, 11, 42]
abbrev dktJ10_deleteEntry_3 : List UInt8 := dkwJ10_deleteEntry_3 ++ dktJ10_deleteEntry_4
def dkwJ10_deleteEntry_2 : List UInt8 := [44, 180, 0, 58, 181, 0, 58, 44, 76, 43, 180, 0, 111, 198, 0, 10, 43, 180, 0, 111, 167, 0, 7, 43]
abbrev dktJ10_deleteEntry_2 : List UInt8 := dkwJ10_deleteEntry_2 ++ dktJ10_deleteEntry_3
def dkwJ10_deleteEntry_1 : List UInt8 := [198, 0, 33, 43, 180, 0, 114, 198, 0, 26, 43, 184, 0, 68, 77, 43, 44, 180, 0, 105, 181, 0, 105, 43]
abbrev dktJ10_deleteEntry_1 : List UInt8 := dkwJ10_deleteEntry_1 ++ dktJ10_deleteEntry_2
def dkwJ10_deleteEntry_0 : List UInt8 := [42, 89, 180, 0, 13, 4, 96, 181, 0, 13, 42, 89, 180, 0, 7, 4, 100, 181, 0, 7, 43, 180, 0, 111]
abbrev dktJ10_deleteEntry_0 : List UInt8 := dkwJ10_deleteEntry_0 ++ dktJ10_deleteEntry_1
theorem dksJ10_deleteEntry_0 : cJ10_deleteEntry.data.toList.drop 0 = dktJ10_deleteEntry_0 := by decide +kernel
theorem dksJ10_deleteEntry_1 : cJ10_deleteEntry.data.toList.drop 24 = dktJ10_deleteEntry_1 := dk_seg dksJ10_deleteEntry_0 24 rfl rfl
theorem dksJ10_deleteEntry_2 : cJ10_deleteEntry.data.toList.drop 48 = dktJ10_deleteEntry_2 := dk_seg dksJ10_deleteEntry_1 24 rfl rfl
theorem dksJ10_deleteEntry_3 : cJ10_deleteEntry.data.toList.drop 72 = dktJ10_deleteEntry_3 := dk_seg dksJ10_deleteEntry_2 24 rfl rfl
theorem dksJ10_deleteEntry_4 : cJ10_deleteEntry.data.toList.drop 96 = dktJ10_deleteEntry_4 := dk_seg dksJ10_deleteEntry_3 24 rfl rfl
theorem dksJ10_deleteEntry_5 : cJ10_deleteEntry.data.toList.drop 119 = dktJ10_deleteEntry_5 := dk_seg dksJ10_deleteEntry_4 23 rfl rfl
theorem dksJ10_deleteEntry_6 : cJ10_deleteEntry.data.toList.drop 142 = dktJ10_deleteEntry_6 := dk_seg dksJ10_deleteEntry_5 23 rfl rfl
theorem dksJ10_deleteEntry_7 : cJ10_deleteEntry.data.toList.drop 165 = dktJ10_deleteEntry_7 := dk_seg dksJ10_deleteEntry_6 23 rfl rfl
theorem dksJ10_deleteEntry_8 : cJ10_deleteEntry.data.toList.drop 189 = dktJ10_deleteEntry_8 := dk_seg dksJ10_deleteEntry_7 24 rfl rfl
theorem dksJ10_deleteEntry_9 : cJ10_deleteEntry.data.toList.drop 211 = dktJ10_deleteEntry_9 := dk_seg dksJ10_deleteEntry_8 22 rfl rfl
theorem dksJ10_deleteEntry_10 : cJ10_deleteEntry.data.toList.drop 233 = dktJ10_deleteEntry_10 := dk_seg dksJ10_deleteEntry_9 22 rfl rfl
theorem dJ10_deleteEntry_0 : decode cJ10_deleteEntry 0 = .ok (.aload_n 0, 1) := dk_42 (dk_at dksJ10_deleteEntry_0 0 rfl rfl)
theorem dJ10_deleteEntry_1 : decode cJ10_deleteEntry 1 = .ok (.dup, 1) := dk_89 (dk_at dksJ10_deleteEntry_0 1 rfl rfl)
theorem dJ10_deleteEntry_2 : decode cJ10_deleteEntry 2 = .ok (.getfield 13, 3) := dk_180 0 13 (dk_at dksJ10_deleteEntry_0 2 rfl rfl)
theorem dJ10_deleteEntry_5 : decode cJ10_deleteEntry 5 = .ok (.iconst 1, 1) := dk_4 (dk_at dksJ10_deleteEntry_0 5 rfl rfl)
theorem dJ10_deleteEntry_6 : decode cJ10_deleteEntry 6 = .ok (.iadd, 1) := dk_96 (dk_at dksJ10_deleteEntry_0 6 rfl rfl)
theorem dJ10_deleteEntry_7 : decode cJ10_deleteEntry 7 = .ok (.putfield 13, 3) := dk_181 0 13 (dk_at dksJ10_deleteEntry_0 7 rfl rfl)
theorem dJ10_deleteEntry_10 : decode cJ10_deleteEntry 10 = .ok (.aload_n 0, 1) := dk_42 (dk_at dksJ10_deleteEntry_0 10 rfl rfl)
theorem dJ10_deleteEntry_11 : decode cJ10_deleteEntry 11 = .ok (.dup, 1) := dk_89 (dk_at dksJ10_deleteEntry_0 11 rfl rfl)
theorem dJ10_deleteEntry_12 : decode cJ10_deleteEntry 12 = .ok (.getfield 7, 3) := dk_180 0 7 (dk_at dksJ10_deleteEntry_0 12 rfl rfl)
theorem dJ10_deleteEntry_15 : decode cJ10_deleteEntry 15 = .ok (.iconst 1, 1) := dk_4 (dk_at dksJ10_deleteEntry_0 15 rfl rfl)
theorem dJ10_deleteEntry_16 : decode cJ10_deleteEntry 16 = .ok (.isub, 1) := dk_100 (dk_at dksJ10_deleteEntry_0 16 rfl rfl)
theorem dJ10_deleteEntry_17 : decode cJ10_deleteEntry 17 = .ok (.putfield 7, 3) := dk_181 0 7 (dk_at dksJ10_deleteEntry_0 17 rfl rfl)
theorem dJ10_deleteEntry_20 : decode cJ10_deleteEntry 20 = .ok (.aload_n 1, 1) := dk_43 (dk_at dksJ10_deleteEntry_0 20 rfl rfl)
theorem dJ10_deleteEntry_21 : decode cJ10_deleteEntry 21 = .ok (.getfield 111, 3) := dk_180 0 111 (dk_at dksJ10_deleteEntry_0 21 rfl rfl)
theorem dJ10_deleteEntry_24 : decode cJ10_deleteEntry 24 = .ok (.ifnull 33, 3) := dk_198 0 33 (dk_at dksJ10_deleteEntry_1 0 rfl rfl)
theorem dJ10_deleteEntry_27 : decode cJ10_deleteEntry 27 = .ok (.aload_n 1, 1) := dk_43 (dk_at dksJ10_deleteEntry_1 3 rfl rfl)
theorem dJ10_deleteEntry_28 : decode cJ10_deleteEntry 28 = .ok (.getfield 114, 3) := dk_180 0 114 (dk_at dksJ10_deleteEntry_1 4 rfl rfl)
theorem dJ10_deleteEntry_31 : decode cJ10_deleteEntry 31 = .ok (.ifnull 26, 3) := dk_198 0 26 (dk_at dksJ10_deleteEntry_1 7 rfl rfl)
theorem dJ10_deleteEntry_34 : decode cJ10_deleteEntry 34 = .ok (.aload_n 1, 1) := dk_43 (dk_at dksJ10_deleteEntry_1 10 rfl rfl)
theorem dJ10_deleteEntry_35 : decode cJ10_deleteEntry 35 = .ok (.invokestatic 68, 3) := dk_184 0 68 (dk_at dksJ10_deleteEntry_1 11 rfl rfl)
theorem dJ10_deleteEntry_38 : decode cJ10_deleteEntry 38 = .ok (.astore_n 2, 1) := dk_77 (dk_at dksJ10_deleteEntry_1 14 rfl rfl)
theorem dJ10_deleteEntry_39 : decode cJ10_deleteEntry 39 = .ok (.aload_n 1, 1) := dk_43 (dk_at dksJ10_deleteEntry_1 15 rfl rfl)
theorem dJ10_deleteEntry_40 : decode cJ10_deleteEntry 40 = .ok (.aload_n 2, 1) := dk_44 (dk_at dksJ10_deleteEntry_1 16 rfl rfl)
theorem dJ10_deleteEntry_41 : decode cJ10_deleteEntry 41 = .ok (.getfield 105, 3) := dk_180 0 105 (dk_at dksJ10_deleteEntry_1 17 rfl rfl)
theorem dJ10_deleteEntry_44 : decode cJ10_deleteEntry 44 = .ok (.putfield 105, 3) := dk_181 0 105 (dk_at dksJ10_deleteEntry_1 20 rfl rfl)
theorem dJ10_deleteEntry_47 : decode cJ10_deleteEntry 47 = .ok (.aload_n 1, 1) := dk_43 (dk_at dksJ10_deleteEntry_1 23 rfl rfl)
theorem dJ10_deleteEntry_48 : decode cJ10_deleteEntry 48 = .ok (.aload_n 2, 1) := dk_44 (dk_at dksJ10_deleteEntry_2 0 rfl rfl)
theorem dJ10_deleteEntry_49 : decode cJ10_deleteEntry 49 = .ok (.getfield 58, 3) := dk_180 0 58 (dk_at dksJ10_deleteEntry_2 1 rfl rfl)
theorem dJ10_deleteEntry_52 : decode cJ10_deleteEntry 52 = .ok (.putfield 58, 3) := dk_181 0 58 (dk_at dksJ10_deleteEntry_2 4 rfl rfl)
theorem dJ10_deleteEntry_55 : decode cJ10_deleteEntry 55 = .ok (.aload_n 2, 1) := dk_44 (dk_at dksJ10_deleteEntry_2 7 rfl rfl)
theorem dJ10_deleteEntry_56 : decode cJ10_deleteEntry 56 = .ok (.astore_n 1, 1) := dk_76 (dk_at dksJ10_deleteEntry_2 8 rfl rfl)
theorem dJ10_deleteEntry_57 : decode cJ10_deleteEntry 57 = .ok (.aload_n 1, 1) := dk_43 (dk_at dksJ10_deleteEntry_2 9 rfl rfl)
theorem dJ10_deleteEntry_58 : decode cJ10_deleteEntry 58 = .ok (.getfield 111, 3) := dk_180 0 111 (dk_at dksJ10_deleteEntry_2 10 rfl rfl)
theorem dJ10_deleteEntry_61 : decode cJ10_deleteEntry 61 = .ok (.ifnull 10, 3) := dk_198 0 10 (dk_at dksJ10_deleteEntry_2 13 rfl rfl)
theorem dJ10_deleteEntry_64 : decode cJ10_deleteEntry 64 = .ok (.aload_n 1, 1) := dk_43 (dk_at dksJ10_deleteEntry_2 16 rfl rfl)
theorem dJ10_deleteEntry_65 : decode cJ10_deleteEntry 65 = .ok (.getfield 111, 3) := dk_180 0 111 (dk_at dksJ10_deleteEntry_2 17 rfl rfl)
theorem dJ10_deleteEntry_68 : decode cJ10_deleteEntry 68 = .ok (.goto 7, 3) := dk_167 0 7 (dk_at dksJ10_deleteEntry_2 20 rfl rfl)
theorem dJ10_deleteEntry_71 : decode cJ10_deleteEntry 71 = .ok (.aload_n 1, 1) := dk_43 (dk_at dksJ10_deleteEntry_2 23 rfl rfl)
theorem dJ10_deleteEntry_72 : decode cJ10_deleteEntry 72 = .ok (.getfield 114, 3) := dk_180 0 114 (dk_at dksJ10_deleteEntry_3 0 rfl rfl)
theorem dJ10_deleteEntry_75 : decode cJ10_deleteEntry 75 = .ok (.astore_n 2, 1) := dk_77 (dk_at dksJ10_deleteEntry_3 3 rfl rfl)
theorem dJ10_deleteEntry_76 : decode cJ10_deleteEntry 76 = .ok (.aload_n 2, 1) := dk_44 (dk_at dksJ10_deleteEntry_3 4 rfl rfl)
theorem dJ10_deleteEntry_77 : decode cJ10_deleteEntry 77 = .ok (.ifnull 87, 3) := dk_198 0 87 (dk_at dksJ10_deleteEntry_3 5 rfl rfl)
theorem dJ10_deleteEntry_80 : decode cJ10_deleteEntry 80 = .ok (.aload_n 2, 1) := dk_44 (dk_at dksJ10_deleteEntry_3 8 rfl rfl)
theorem dJ10_deleteEntry_81 : decode cJ10_deleteEntry 81 = .ok (.aload_n 1, 1) := dk_43 (dk_at dksJ10_deleteEntry_3 9 rfl rfl)
theorem dJ10_deleteEntry_82 : decode cJ10_deleteEntry 82 = .ok (.getfield 124, 3) := dk_180 0 124 (dk_at dksJ10_deleteEntry_3 10 rfl rfl)
theorem dJ10_deleteEntry_85 : decode cJ10_deleteEntry 85 = .ok (.putfield 124, 3) := dk_181 0 124 (dk_at dksJ10_deleteEntry_3 13 rfl rfl)
theorem dJ10_deleteEntry_88 : decode cJ10_deleteEntry 88 = .ok (.aload_n 1, 1) := dk_43 (dk_at dksJ10_deleteEntry_3 16 rfl rfl)
theorem dJ10_deleteEntry_89 : decode cJ10_deleteEntry 89 = .ok (.getfield 124, 3) := dk_180 0 124 (dk_at dksJ10_deleteEntry_3 17 rfl rfl)
theorem dJ10_deleteEntry_92 : decode cJ10_deleteEntry 92 = .ok (.ifnonnull 11, 3) := dk_199 0 11 (dk_at dksJ10_deleteEntry_3 20 rfl rfl)
theorem dJ10_deleteEntry_95 : decode cJ10_deleteEntry 95 = .ok (.aload_n 0, 1) := dk_42 (dk_at dksJ10_deleteEntry_3 23 rfl rfl)
theorem dJ10_deleteEntry_96 : decode cJ10_deleteEntry 96 = .ok (.aload_n 2, 1) := dk_44 (dk_at dksJ10_deleteEntry_4 0 rfl rfl)
theorem dJ10_deleteEntry_97 : decode cJ10_deleteEntry 97 = .ok (.putfield 101, 3) := dk_181 0 101 (dk_at dksJ10_deleteEntry_4 1 rfl rfl)
theorem dJ10_deleteEntry_100 : decode cJ10_deleteEntry 100 = .ok (.goto 33, 3) := dk_167 0 33 (dk_at dksJ10_deleteEntry_4 4 rfl rfl)
theorem dJ10_deleteEntry_103 : decode cJ10_deleteEntry 103 = .ok (.aload_n 1, 1) := dk_43 (dk_at dksJ10_deleteEntry_4 7 rfl rfl)
theorem dJ10_deleteEntry_104 : decode cJ10_deleteEntry 104 = .ok (.aload_n 1, 1) := dk_43 (dk_at dksJ10_deleteEntry_4 8 rfl rfl)
theorem dJ10_deleteEntry_105 : decode cJ10_deleteEntry 105 = .ok (.getfield 124, 3) := dk_180 0 124 (dk_at dksJ10_deleteEntry_4 9 rfl rfl)
theorem dJ10_deleteEntry_108 : decode cJ10_deleteEntry 108 = .ok (.getfield 111, 3) := dk_180 0 111 (dk_at dksJ10_deleteEntry_4 12 rfl rfl)
theorem dJ10_deleteEntry_111 : decode cJ10_deleteEntry 111 = .ok (.if_acmp .ne 14, 3) := dk_166 0 14 (dk_at dksJ10_deleteEntry_4 15 rfl rfl)
theorem dJ10_deleteEntry_114 : decode cJ10_deleteEntry 114 = .ok (.aload_n 1, 1) := dk_43 (dk_at dksJ10_deleteEntry_4 18 rfl rfl)
theorem dJ10_deleteEntry_115 : decode cJ10_deleteEntry 115 = .ok (.getfield 124, 3) := dk_180 0 124 (dk_at dksJ10_deleteEntry_4 19 rfl rfl)
theorem dJ10_deleteEntry_118 : decode cJ10_deleteEntry 118 = .ok (.aload_n 2, 1) := dk_44 (dk_at dksJ10_deleteEntry_4 22 rfl rfl)
theorem dJ10_deleteEntry_119 : decode cJ10_deleteEntry 119 = .ok (.putfield 111, 3) := dk_181 0 111 (dk_at dksJ10_deleteEntry_5 0 rfl rfl)
theorem dJ10_deleteEntry_122 : decode cJ10_deleteEntry 122 = .ok (.goto 11, 3) := dk_167 0 11 (dk_at dksJ10_deleteEntry_5 3 rfl rfl)
theorem dJ10_deleteEntry_125 : decode cJ10_deleteEntry 125 = .ok (.aload_n 1, 1) := dk_43 (dk_at dksJ10_deleteEntry_5 6 rfl rfl)
theorem dJ10_deleteEntry_126 : decode cJ10_deleteEntry 126 = .ok (.getfield 124, 3) := dk_180 0 124 (dk_at dksJ10_deleteEntry_5 7 rfl rfl)
theorem dJ10_deleteEntry_129 : decode cJ10_deleteEntry 129 = .ok (.aload_n 2, 1) := dk_44 (dk_at dksJ10_deleteEntry_5 10 rfl rfl)
theorem dJ10_deleteEntry_130 : decode cJ10_deleteEntry 130 = .ok (.putfield 114, 3) := dk_181 0 114 (dk_at dksJ10_deleteEntry_5 11 rfl rfl)
theorem dJ10_deleteEntry_133 : decode cJ10_deleteEntry 133 = .ok (.aload_n 1, 1) := dk_43 (dk_at dksJ10_deleteEntry_5 14 rfl rfl)
theorem dJ10_deleteEntry_134 : decode cJ10_deleteEntry 134 = .ok (.aload_n 1, 1) := dk_43 (dk_at dksJ10_deleteEntry_5 15 rfl rfl)
theorem dJ10_deleteEntry_135 : decode cJ10_deleteEntry 135 = .ok (.aload_n 1, 1) := dk_43 (dk_at dksJ10_deleteEntry_5 16 rfl rfl)
theorem dJ10_deleteEntry_136 : decode cJ10_deleteEntry 136 = .ok (.aconst_null, 1) := dk_1 (dk_at dksJ10_deleteEntry_5 17 rfl rfl)
theorem dJ10_deleteEntry_137 : decode cJ10_deleteEntry 137 = .ok (.dup_x1, 1) := dk_90 (dk_at dksJ10_deleteEntry_5 18 rfl rfl)
theorem dJ10_deleteEntry_138 : decode cJ10_deleteEntry 138 = .ok (.putfield 124, 3) := dk_181 0 124 (dk_at dksJ10_deleteEntry_5 19 rfl rfl)
theorem dJ10_deleteEntry_141 : decode cJ10_deleteEntry 141 = .ok (.dup_x1, 1) := dk_90 (dk_at dksJ10_deleteEntry_5 22 rfl rfl)
theorem dJ10_deleteEntry_142 : decode cJ10_deleteEntry 142 = .ok (.putfield 114, 3) := dk_181 0 114 (dk_at dksJ10_deleteEntry_6 0 rfl rfl)
theorem dJ10_deleteEntry_145 : decode cJ10_deleteEntry 145 = .ok (.putfield 111, 3) := dk_181 0 111 (dk_at dksJ10_deleteEntry_6 3 rfl rfl)
theorem dJ10_deleteEntry_148 : decode cJ10_deleteEntry 148 = .ok (.aload_n 1, 1) := dk_43 (dk_at dksJ10_deleteEntry_6 6 rfl rfl)
theorem dJ10_deleteEntry_149 : decode cJ10_deleteEntry 149 = .ok (.getfield 290, 3) := dk_180 1 34 (dk_at dksJ10_deleteEntry_6 7 rfl rfl)
theorem dJ10_deleteEntry_152 : decode cJ10_deleteEntry 152 = .ok (.iconst 1, 1) := dk_4 (dk_at dksJ10_deleteEntry_6 10 rfl rfl)
theorem dJ10_deleteEntry_153 : decode cJ10_deleteEntry 153 = .ok (.if_icmp .ne 92, 3) := dk_160 0 92 (dk_at dksJ10_deleteEntry_6 11 rfl rfl)
theorem dJ10_deleteEntry_156 : decode cJ10_deleteEntry 156 = .ok (.aload_n 0, 1) := dk_42 (dk_at dksJ10_deleteEntry_6 14 rfl rfl)
theorem dJ10_deleteEntry_157 : decode cJ10_deleteEntry 157 = .ok (.aload_n 2, 1) := dk_44 (dk_at dksJ10_deleteEntry_6 15 rfl rfl)
theorem dJ10_deleteEntry_158 : decode cJ10_deleteEntry 158 = .ok (.invokevirtual 317, 3) := dk_182 1 61 (dk_at dksJ10_deleteEntry_6 16 rfl rfl)
theorem dJ10_deleteEntry_161 : decode cJ10_deleteEntry 161 = .ok (.goto 84, 3) := dk_167 0 84 (dk_at dksJ10_deleteEntry_6 19 rfl rfl)
theorem dJ10_deleteEntry_164 : decode cJ10_deleteEntry 164 = .ok (.aload_n 1, 1) := dk_43 (dk_at dksJ10_deleteEntry_6 22 rfl rfl)
theorem dJ10_deleteEntry_165 : decode cJ10_deleteEntry 165 = .ok (.getfield 124, 3) := dk_180 0 124 (dk_at dksJ10_deleteEntry_7 0 rfl rfl)
theorem dJ10_deleteEntry_168 : decode cJ10_deleteEntry 168 = .ok (.ifnonnull 11, 3) := dk_199 0 11 (dk_at dksJ10_deleteEntry_7 3 rfl rfl)
theorem dJ10_deleteEntry_171 : decode cJ10_deleteEntry 171 = .ok (.aload_n 0, 1) := dk_42 (dk_at dksJ10_deleteEntry_7 6 rfl rfl)
theorem dJ10_deleteEntry_172 : decode cJ10_deleteEntry 172 = .ok (.aconst_null, 1) := dk_1 (dk_at dksJ10_deleteEntry_7 7 rfl rfl)
theorem dJ10_deleteEntry_173 : decode cJ10_deleteEntry 173 = .ok (.putfield 101, 3) := dk_181 0 101 (dk_at dksJ10_deleteEntry_7 8 rfl rfl)
theorem dJ10_deleteEntry_176 : decode cJ10_deleteEntry 176 = .ok (.goto 69, 3) := dk_167 0 69 (dk_at dksJ10_deleteEntry_7 11 rfl rfl)
theorem dJ10_deleteEntry_179 : decode cJ10_deleteEntry 179 = .ok (.aload_n 1, 1) := dk_43 (dk_at dksJ10_deleteEntry_7 14 rfl rfl)
theorem dJ10_deleteEntry_180 : decode cJ10_deleteEntry 180 = .ok (.getfield 290, 3) := dk_180 1 34 (dk_at dksJ10_deleteEntry_7 15 rfl rfl)
theorem dJ10_deleteEntry_183 : decode cJ10_deleteEntry 183 = .ok (.iconst 1, 1) := dk_4 (dk_at dksJ10_deleteEntry_7 18 rfl rfl)
theorem dJ10_deleteEntry_184 : decode cJ10_deleteEntry 184 = .ok (.if_icmp .ne 8, 3) := dk_160 0 8 (dk_at dksJ10_deleteEntry_7 19 rfl rfl)
theorem dJ10_deleteEntry_187 : decode cJ10_deleteEntry 187 = .ok (.aload_n 0, 1) := dk_42 (dk_at dksJ10_deleteEntry_7 22 rfl rfl)
theorem dJ10_deleteEntry_188 : decode cJ10_deleteEntry 188 = .ok (.aload_n 1, 1) := dk_43 (dk_at dksJ10_deleteEntry_7 23 rfl rfl)
theorem dJ10_deleteEntry_189 : decode cJ10_deleteEntry 189 = .ok (.invokevirtual 317, 3) := dk_182 1 61 (dk_at dksJ10_deleteEntry_8 0 rfl rfl)
theorem dJ10_deleteEntry_192 : decode cJ10_deleteEntry 192 = .ok (.aload_n 1, 1) := dk_43 (dk_at dksJ10_deleteEntry_8 3 rfl rfl)
theorem dJ10_deleteEntry_193 : decode cJ10_deleteEntry 193 = .ok (.getfield 124, 3) := dk_180 0 124 (dk_at dksJ10_deleteEntry_8 4 rfl rfl)
theorem dJ10_deleteEntry_196 : decode cJ10_deleteEntry 196 = .ok (.ifnull 49, 3) := dk_198 0 49 (dk_at dksJ10_deleteEntry_8 7 rfl rfl)
theorem dJ10_deleteEntry_199 : decode cJ10_deleteEntry 199 = .ok (.aload_n 1, 1) := dk_43 (dk_at dksJ10_deleteEntry_8 10 rfl rfl)
theorem dJ10_deleteEntry_200 : decode cJ10_deleteEntry 200 = .ok (.aload_n 1, 1) := dk_43 (dk_at dksJ10_deleteEntry_8 11 rfl rfl)
theorem dJ10_deleteEntry_201 : decode cJ10_deleteEntry 201 = .ok (.getfield 124, 3) := dk_180 0 124 (dk_at dksJ10_deleteEntry_8 12 rfl rfl)
theorem dJ10_deleteEntry_204 : decode cJ10_deleteEntry 204 = .ok (.getfield 111, 3) := dk_180 0 111 (dk_at dksJ10_deleteEntry_8 15 rfl rfl)
theorem dJ10_deleteEntry_207 : decode cJ10_deleteEntry 207 = .ok (.if_acmp .ne 14, 3) := dk_166 0 14 (dk_at dksJ10_deleteEntry_8 18 rfl rfl)
theorem dJ10_deleteEntry_210 : decode cJ10_deleteEntry 210 = .ok (.aload_n 1, 1) := dk_43 (dk_at dksJ10_deleteEntry_8 21 rfl rfl)
theorem dJ10_deleteEntry_211 : decode cJ10_deleteEntry 211 = .ok (.getfield 124, 3) := dk_180 0 124 (dk_at dksJ10_deleteEntry_9 0 rfl rfl)
theorem dJ10_deleteEntry_214 : decode cJ10_deleteEntry 214 = .ok (.aconst_null, 1) := dk_1 (dk_at dksJ10_deleteEntry_9 3 rfl rfl)
theorem dJ10_deleteEntry_215 : decode cJ10_deleteEntry 215 = .ok (.putfield 111, 3) := dk_181 0 111 (dk_at dksJ10_deleteEntry_9 4 rfl rfl)
theorem dJ10_deleteEntry_218 : decode cJ10_deleteEntry 218 = .ok (.goto 22, 3) := dk_167 0 22 (dk_at dksJ10_deleteEntry_9 7 rfl rfl)
theorem dJ10_deleteEntry_221 : decode cJ10_deleteEntry 221 = .ok (.aload_n 1, 1) := dk_43 (dk_at dksJ10_deleteEntry_9 10 rfl rfl)
theorem dJ10_deleteEntry_222 : decode cJ10_deleteEntry 222 = .ok (.aload_n 1, 1) := dk_43 (dk_at dksJ10_deleteEntry_9 11 rfl rfl)
theorem dJ10_deleteEntry_223 : decode cJ10_deleteEntry 223 = .ok (.getfield 124, 3) := dk_180 0 124 (dk_at dksJ10_deleteEntry_9 12 rfl rfl)
theorem dJ10_deleteEntry_226 : decode cJ10_deleteEntry 226 = .ok (.getfield 114, 3) := dk_180 0 114 (dk_at dksJ10_deleteEntry_9 15 rfl rfl)
theorem dJ10_deleteEntry_229 : decode cJ10_deleteEntry 229 = .ok (.if_acmp .ne 11, 3) := dk_166 0 11 (dk_at dksJ10_deleteEntry_9 18 rfl rfl)
theorem dJ10_deleteEntry_232 : decode cJ10_deleteEntry 232 = .ok (.aload_n 1, 1) := dk_43 (dk_at dksJ10_deleteEntry_9 21 rfl rfl)
theorem dJ10_deleteEntry_233 : decode cJ10_deleteEntry 233 = .ok (.getfield 124, 3) := dk_180 0 124 (dk_at dksJ10_deleteEntry_10 0 rfl rfl)
theorem dJ10_deleteEntry_236 : decode cJ10_deleteEntry 236 = .ok (.aconst_null, 1) := dk_1 (dk_at dksJ10_deleteEntry_10 3 rfl rfl)
theorem dJ10_deleteEntry_237 : decode cJ10_deleteEntry 237 = .ok (.putfield 114, 3) := dk_181 0 114 (dk_at dksJ10_deleteEntry_10 4 rfl rfl)
theorem dJ10_deleteEntry_240 : decode cJ10_deleteEntry 240 = .ok (.aload_n 1, 1) := dk_43 (dk_at dksJ10_deleteEntry_10 7 rfl rfl)
theorem dJ10_deleteEntry_241 : decode cJ10_deleteEntry 241 = .ok (.aconst_null, 1) := dk_1 (dk_at dksJ10_deleteEntry_10 8 rfl rfl)
theorem dJ10_deleteEntry_242 : decode cJ10_deleteEntry 242 = .ok (.putfield 124, 3) := dk_181 0 124 (dk_at dksJ10_deleteEntry_10 9 rfl rfl)
theorem dJ10_deleteEntry_245 : decode cJ10_deleteEntry 245 = .ok (.return_, 1) := dk_177 (dk_at dksJ10_deleteEntry_10 12 rfl rfl)
abbrev cJ10_fixAfterDeletion : ByteArray := prog_90_method_85_code
def yJ10_fixAfterDeletion : MethodName := ⟨RJ10, "fixAfterDeletion", "(Ljava/util/TreeMap$Entry;)V"⟩
def dkwJ10_fixAfterDeletion_14 : List UInt8 := [182, 1, 58, 42, 180, 0, 101, 76, 167, 254, 170, 43, 4, 184, 1, 51, 177]
abbrev dktJ10_fixAfterDeletion_14 : List UInt8 := dkwJ10_fixAfterDeletion_14 ++ []
def dkwJ10_fixAfterDeletion_13 : List UInt8 := [184, 1, 51, 43, 184, 1, 38, 4, 184, 1, 51, 44, 184, 1, 41, 4, 184, 1, 51, 42, 43, 184, 1, 38]
abbrev dktJ10_fixAfterDeletion_13 : List UInt8 := dkwJ10_fixAfterDeletion_13 ++ dktJ10_fixAfterDeletion_14
def dkwJ10_fixAfterDeletion_12 : List UInt8 := [184, 1, 51, 42, 44, 182, 1, 55, 43, 184, 1, 38, 184, 1, 41, 77, 44, 43, 184, 1, 38, 184, 1, 47]
abbrev dktJ10_fixAfterDeletion_12 : List UInt8 := dkwJ10_fixAfterDeletion_12 ++ dktJ10_fixAfterDeletion_13
def dkwJ10_fixAfterDeletion_11 : List UInt8 := [167, 0, 80, 44, 184, 1, 41, 184, 1, 47, 4, 160, 0, 29, 44, 184, 1, 44, 4, 184, 1, 51, 44, 3]
abbrev dktJ10_fixAfterDeletion_11 : List UInt8 := dkwJ10_fixAfterDeletion_11 ++ dktJ10_fixAfterDeletion_12
def dkwJ10_fixAfterDeletion_10 : List UInt8 := [160, 0, 27, 44, 184, 1, 41, 184, 1, 47, 4, 160, 0, 16, 44, 3, 184, 1, 51, 43, 184, 1, 38, 76]
abbrev dktJ10_fixAfterDeletion_10 : List UInt8 := dkwJ10_fixAfterDeletion_10 ++ dktJ10_fixAfterDeletion_11
def dkwJ10_fixAfterDeletion_9 : List UInt8 := [42, 43, 184, 1, 38, 182, 1, 58, 43, 184, 1, 38, 184, 1, 41, 77, 44, 184, 1, 44, 184, 1, 47, 4]
abbrev dktJ10_fixAfterDeletion_9 : List UInt8 := dkwJ10_fixAfterDeletion_9 ++ dktJ10_fixAfterDeletion_10
def dkwJ10_fixAfterDeletion_8 : List UInt8 := [184, 1, 41, 77, 44, 184, 1, 47, 154, 0, 32, 44, 4, 184, 1, 51, 43, 184, 1, 38, 3, 184, 1, 51]
abbrev dktJ10_fixAfterDeletion_8 : List UInt8 := dkwJ10_fixAfterDeletion_8 ++ dktJ10_fixAfterDeletion_9
def dkwJ10_fixAfterDeletion_7 : List UInt8 := [4, 184, 1, 51, 42, 43, 184, 1, 38, 182, 1, 55, 42, 180, 0, 101, 76, 167, 255, 73, 43, 184, 1, 38]
abbrev dktJ10_fixAfterDeletion_7 : List UInt8 := dkwJ10_fixAfterDeletion_7 ++ dktJ10_fixAfterDeletion_8
def dkwJ10_fixAfterDeletion_6 : List UInt8 := [77, 44, 43, 184, 1, 38, 184, 1, 47, 184, 1, 51, 43, 184, 1, 38, 4, 184, 1, 51, 44, 184, 1, 44]
abbrev dktJ10_fixAfterDeletion_6 : List UInt8 := dkwJ10_fixAfterDeletion_6 ++ dktJ10_fixAfterDeletion_7
def dkwJ10_fixAfterDeletion_5 : List UInt8 := [184, 1, 41, 4, 184, 1, 51, 44, 3, 184, 1, 51, 42, 44, 182, 1, 58, 43, 184, 1, 38, 184, 1, 44]
abbrev dktJ10_fixAfterDeletion_5 : List UInt8 := dkwJ10_fixAfterDeletion_5 ++ dktJ10_fixAfterDeletion_6
def dkwJ10_fixAfterDeletion_4 : List UInt8 := [184, 1, 51, 43, 184, 1, 38, 76, 167, 0, 80, 44, 184, 1, 44, 184, 1, 47, 4, 160, 0, 29, 44]
abbrev dktJ10_fixAfterDeletion_4 : List UInt8 := dkwJ10_fixAfterDeletion_4 ++ dktJ10_fixAfterDeletion_5
def dkwJ10_fixAfterDeletion_3 : List UInt8 := [184, 1, 41, 184, 1, 47, 4, 160, 0, 27, 44, 184, 1, 44, 184, 1, 47, 4, 160, 0, 16, 44, 3]
abbrev dktJ10_fixAfterDeletion_3 : List UInt8 := dkwJ10_fixAfterDeletion_3 ++ dktJ10_fixAfterDeletion_4
def dkwJ10_fixAfterDeletion_2 : List UInt8 := [184, 1, 38, 3, 184, 1, 51, 42, 43, 184, 1, 38, 182, 1, 55, 43, 184, 1, 38, 184, 1, 44, 77, 44]
abbrev dktJ10_fixAfterDeletion_2 : List UInt8 := dkwJ10_fixAfterDeletion_2 ++ dktJ10_fixAfterDeletion_3
def dkwJ10_fixAfterDeletion_1 : List UInt8 := [166, 0, 162, 43, 184, 1, 38, 184, 1, 44, 77, 44, 184, 1, 47, 154, 0, 32, 44, 4, 184, 1, 51, 43]
abbrev dktJ10_fixAfterDeletion_1 : List UInt8 := dkwJ10_fixAfterDeletion_1 ++ dktJ10_fixAfterDeletion_2
def dkwJ10_fixAfterDeletion_0 : List UInt8 := [43, 42, 180, 0, 101, 165, 1, 84, 43, 184, 1, 47, 4, 160, 1, 76, 43, 43, 184, 1, 38, 184, 1, 41]
abbrev dktJ10_fixAfterDeletion_0 : List UInt8 := dkwJ10_fixAfterDeletion_0 ++ dktJ10_fixAfterDeletion_1
theorem dksJ10_fixAfterDeletion_0 : cJ10_fixAfterDeletion.data.toList.drop 0 = dktJ10_fixAfterDeletion_0 := by decide +kernel
theorem dksJ10_fixAfterDeletion_1 : cJ10_fixAfterDeletion.data.toList.drop 24 = dktJ10_fixAfterDeletion_1 := dk_seg dksJ10_fixAfterDeletion_0 24 rfl rfl
theorem dksJ10_fixAfterDeletion_2 : cJ10_fixAfterDeletion.data.toList.drop 48 = dktJ10_fixAfterDeletion_2 := dk_seg dksJ10_fixAfterDeletion_1 24 rfl rfl
theorem dksJ10_fixAfterDeletion_3 : cJ10_fixAfterDeletion.data.toList.drop 72 = dktJ10_fixAfterDeletion_3 := dk_seg dksJ10_fixAfterDeletion_2 24 rfl rfl
theorem dksJ10_fixAfterDeletion_4 : cJ10_fixAfterDeletion.data.toList.drop 95 = dktJ10_fixAfterDeletion_4 := dk_seg dksJ10_fixAfterDeletion_3 23 rfl rfl
theorem dksJ10_fixAfterDeletion_5 : cJ10_fixAfterDeletion.data.toList.drop 118 = dktJ10_fixAfterDeletion_5 := dk_seg dksJ10_fixAfterDeletion_4 23 rfl rfl
theorem dksJ10_fixAfterDeletion_6 : cJ10_fixAfterDeletion.data.toList.drop 142 = dktJ10_fixAfterDeletion_6 := dk_seg dksJ10_fixAfterDeletion_5 24 rfl rfl
theorem dksJ10_fixAfterDeletion_7 : cJ10_fixAfterDeletion.data.toList.drop 166 = dktJ10_fixAfterDeletion_7 := dk_seg dksJ10_fixAfterDeletion_6 24 rfl rfl
theorem dksJ10_fixAfterDeletion_8 : cJ10_fixAfterDeletion.data.toList.drop 190 = dktJ10_fixAfterDeletion_8 := dk_seg dksJ10_fixAfterDeletion_7 24 rfl rfl
theorem dksJ10_fixAfterDeletion_9 : cJ10_fixAfterDeletion.data.toList.drop 214 = dktJ10_fixAfterDeletion_9 := dk_seg dksJ10_fixAfterDeletion_8 24 rfl rfl
theorem dksJ10_fixAfterDeletion_10 : cJ10_fixAfterDeletion.data.toList.drop 238 = dktJ10_fixAfterDeletion_10 := dk_seg dksJ10_fixAfterDeletion_9 24 rfl rfl
theorem dksJ10_fixAfterDeletion_11 : cJ10_fixAfterDeletion.data.toList.drop 262 = dktJ10_fixAfterDeletion_11 := dk_seg dksJ10_fixAfterDeletion_10 24 rfl rfl
theorem dksJ10_fixAfterDeletion_12 : cJ10_fixAfterDeletion.data.toList.drop 286 = dktJ10_fixAfterDeletion_12 := dk_seg dksJ10_fixAfterDeletion_11 24 rfl rfl
theorem dksJ10_fixAfterDeletion_13 : cJ10_fixAfterDeletion.data.toList.drop 310 = dktJ10_fixAfterDeletion_13 := dk_seg dksJ10_fixAfterDeletion_12 24 rfl rfl
theorem dksJ10_fixAfterDeletion_14 : cJ10_fixAfterDeletion.data.toList.drop 334 = dktJ10_fixAfterDeletion_14 := dk_seg dksJ10_fixAfterDeletion_13 24 rfl rfl
theorem dJ10_fixAfterDeletion_0 : decode cJ10_fixAfterDeletion 0 = .ok (.aload_n 1, 1) := dk_43 (dk_at dksJ10_fixAfterDeletion_0 0 rfl rfl)
theorem dJ10_fixAfterDeletion_1 : decode cJ10_fixAfterDeletion 1 = .ok (.aload_n 0, 1) := dk_42 (dk_at dksJ10_fixAfterDeletion_0 1 rfl rfl)
theorem dJ10_fixAfterDeletion_2 : decode cJ10_fixAfterDeletion 2 = .ok (.getfield 101, 3) := dk_180 0 101 (dk_at dksJ10_fixAfterDeletion_0 2 rfl rfl)
theorem dJ10_fixAfterDeletion_5 : decode cJ10_fixAfterDeletion 5 = .ok (.if_acmp .eq 340, 3) := dk_165 1 84 (dk_at dksJ10_fixAfterDeletion_0 5 rfl rfl)
theorem dJ10_fixAfterDeletion_8 : decode cJ10_fixAfterDeletion 8 = .ok (.aload_n 1, 1) := dk_43 (dk_at dksJ10_fixAfterDeletion_0 8 rfl rfl)
theorem dJ10_fixAfterDeletion_9 : decode cJ10_fixAfterDeletion 9 = .ok (.invokestatic 303, 3) := dk_184 1 47 (dk_at dksJ10_fixAfterDeletion_0 9 rfl rfl)
theorem dJ10_fixAfterDeletion_12 : decode cJ10_fixAfterDeletion 12 = .ok (.iconst 1, 1) := dk_4 (dk_at dksJ10_fixAfterDeletion_0 12 rfl rfl)
theorem dJ10_fixAfterDeletion_13 : decode cJ10_fixAfterDeletion 13 = .ok (.if_icmp .ne 332, 3) := dk_160 1 76 (dk_at dksJ10_fixAfterDeletion_0 13 rfl rfl)
theorem dJ10_fixAfterDeletion_16 : decode cJ10_fixAfterDeletion 16 = .ok (.aload_n 1, 1) := dk_43 (dk_at dksJ10_fixAfterDeletion_0 16 rfl rfl)
theorem dJ10_fixAfterDeletion_17 : decode cJ10_fixAfterDeletion 17 = .ok (.aload_n 1, 1) := dk_43 (dk_at dksJ10_fixAfterDeletion_0 17 rfl rfl)
theorem dJ10_fixAfterDeletion_18 : decode cJ10_fixAfterDeletion 18 = .ok (.invokestatic 294, 3) := dk_184 1 38 (dk_at dksJ10_fixAfterDeletion_0 18 rfl rfl)
theorem dJ10_fixAfterDeletion_21 : decode cJ10_fixAfterDeletion 21 = .ok (.invokestatic 297, 3) := dk_184 1 41 (dk_at dksJ10_fixAfterDeletion_0 21 rfl rfl)
theorem dJ10_fixAfterDeletion_24 : decode cJ10_fixAfterDeletion 24 = .ok (.if_acmp .ne 162, 3) := dk_166 0 162 (dk_at dksJ10_fixAfterDeletion_1 0 rfl rfl)
theorem dJ10_fixAfterDeletion_27 : decode cJ10_fixAfterDeletion 27 = .ok (.aload_n 1, 1) := dk_43 (dk_at dksJ10_fixAfterDeletion_1 3 rfl rfl)
theorem dJ10_fixAfterDeletion_28 : decode cJ10_fixAfterDeletion 28 = .ok (.invokestatic 294, 3) := dk_184 1 38 (dk_at dksJ10_fixAfterDeletion_1 4 rfl rfl)
theorem dJ10_fixAfterDeletion_31 : decode cJ10_fixAfterDeletion 31 = .ok (.invokestatic 300, 3) := dk_184 1 44 (dk_at dksJ10_fixAfterDeletion_1 7 rfl rfl)
theorem dJ10_fixAfterDeletion_34 : decode cJ10_fixAfterDeletion 34 = .ok (.astore_n 2, 1) := dk_77 (dk_at dksJ10_fixAfterDeletion_1 10 rfl rfl)
theorem dJ10_fixAfterDeletion_35 : decode cJ10_fixAfterDeletion 35 = .ok (.aload_n 2, 1) := dk_44 (dk_at dksJ10_fixAfterDeletion_1 11 rfl rfl)
theorem dJ10_fixAfterDeletion_36 : decode cJ10_fixAfterDeletion 36 = .ok (.invokestatic 303, 3) := dk_184 1 47 (dk_at dksJ10_fixAfterDeletion_1 12 rfl rfl)
theorem dJ10_fixAfterDeletion_39 : decode cJ10_fixAfterDeletion 39 = .ok (.ifCond .ne 32, 3) := dk_154 0 32 (dk_at dksJ10_fixAfterDeletion_1 15 rfl rfl)
theorem dJ10_fixAfterDeletion_42 : decode cJ10_fixAfterDeletion 42 = .ok (.aload_n 2, 1) := dk_44 (dk_at dksJ10_fixAfterDeletion_1 18 rfl rfl)
theorem dJ10_fixAfterDeletion_43 : decode cJ10_fixAfterDeletion 43 = .ok (.iconst 1, 1) := dk_4 (dk_at dksJ10_fixAfterDeletion_1 19 rfl rfl)
theorem dJ10_fixAfterDeletion_44 : decode cJ10_fixAfterDeletion 44 = .ok (.invokestatic 307, 3) := dk_184 1 51 (dk_at dksJ10_fixAfterDeletion_1 20 rfl rfl)
theorem dJ10_fixAfterDeletion_47 : decode cJ10_fixAfterDeletion 47 = .ok (.aload_n 1, 1) := dk_43 (dk_at dksJ10_fixAfterDeletion_1 23 rfl rfl)
theorem dJ10_fixAfterDeletion_48 : decode cJ10_fixAfterDeletion 48 = .ok (.invokestatic 294, 3) := dk_184 1 38 (dk_at dksJ10_fixAfterDeletion_2 0 rfl rfl)
theorem dJ10_fixAfterDeletion_51 : decode cJ10_fixAfterDeletion 51 = .ok (.iconst 0, 1) := dk_3 (dk_at dksJ10_fixAfterDeletion_2 3 rfl rfl)
theorem dJ10_fixAfterDeletion_52 : decode cJ10_fixAfterDeletion 52 = .ok (.invokestatic 307, 3) := dk_184 1 51 (dk_at dksJ10_fixAfterDeletion_2 4 rfl rfl)
theorem dJ10_fixAfterDeletion_55 : decode cJ10_fixAfterDeletion 55 = .ok (.aload_n 0, 1) := dk_42 (dk_at dksJ10_fixAfterDeletion_2 7 rfl rfl)
theorem dJ10_fixAfterDeletion_56 : decode cJ10_fixAfterDeletion 56 = .ok (.aload_n 1, 1) := dk_43 (dk_at dksJ10_fixAfterDeletion_2 8 rfl rfl)
theorem dJ10_fixAfterDeletion_57 : decode cJ10_fixAfterDeletion 57 = .ok (.invokestatic 294, 3) := dk_184 1 38 (dk_at dksJ10_fixAfterDeletion_2 9 rfl rfl)
theorem dJ10_fixAfterDeletion_60 : decode cJ10_fixAfterDeletion 60 = .ok (.invokevirtual 311, 3) := dk_182 1 55 (dk_at dksJ10_fixAfterDeletion_2 12 rfl rfl)
theorem dJ10_fixAfterDeletion_63 : decode cJ10_fixAfterDeletion 63 = .ok (.aload_n 1, 1) := dk_43 (dk_at dksJ10_fixAfterDeletion_2 15 rfl rfl)
theorem dJ10_fixAfterDeletion_64 : decode cJ10_fixAfterDeletion 64 = .ok (.invokestatic 294, 3) := dk_184 1 38 (dk_at dksJ10_fixAfterDeletion_2 16 rfl rfl)
theorem dJ10_fixAfterDeletion_67 : decode cJ10_fixAfterDeletion 67 = .ok (.invokestatic 300, 3) := dk_184 1 44 (dk_at dksJ10_fixAfterDeletion_2 19 rfl rfl)
theorem dJ10_fixAfterDeletion_70 : decode cJ10_fixAfterDeletion 70 = .ok (.astore_n 2, 1) := dk_77 (dk_at dksJ10_fixAfterDeletion_2 22 rfl rfl)
theorem dJ10_fixAfterDeletion_71 : decode cJ10_fixAfterDeletion 71 = .ok (.aload_n 2, 1) := dk_44 (dk_at dksJ10_fixAfterDeletion_2 23 rfl rfl)
theorem dJ10_fixAfterDeletion_72 : decode cJ10_fixAfterDeletion 72 = .ok (.invokestatic 297, 3) := dk_184 1 41 (dk_at dksJ10_fixAfterDeletion_3 0 rfl rfl)
theorem dJ10_fixAfterDeletion_75 : decode cJ10_fixAfterDeletion 75 = .ok (.invokestatic 303, 3) := dk_184 1 47 (dk_at dksJ10_fixAfterDeletion_3 3 rfl rfl)
theorem dJ10_fixAfterDeletion_78 : decode cJ10_fixAfterDeletion 78 = .ok (.iconst 1, 1) := dk_4 (dk_at dksJ10_fixAfterDeletion_3 6 rfl rfl)
theorem dJ10_fixAfterDeletion_79 : decode cJ10_fixAfterDeletion 79 = .ok (.if_icmp .ne 27, 3) := dk_160 0 27 (dk_at dksJ10_fixAfterDeletion_3 7 rfl rfl)
theorem dJ10_fixAfterDeletion_82 : decode cJ10_fixAfterDeletion 82 = .ok (.aload_n 2, 1) := dk_44 (dk_at dksJ10_fixAfterDeletion_3 10 rfl rfl)
theorem dJ10_fixAfterDeletion_83 : decode cJ10_fixAfterDeletion 83 = .ok (.invokestatic 300, 3) := dk_184 1 44 (dk_at dksJ10_fixAfterDeletion_3 11 rfl rfl)
theorem dJ10_fixAfterDeletion_86 : decode cJ10_fixAfterDeletion 86 = .ok (.invokestatic 303, 3) := dk_184 1 47 (dk_at dksJ10_fixAfterDeletion_3 14 rfl rfl)
theorem dJ10_fixAfterDeletion_89 : decode cJ10_fixAfterDeletion 89 = .ok (.iconst 1, 1) := dk_4 (dk_at dksJ10_fixAfterDeletion_3 17 rfl rfl)
theorem dJ10_fixAfterDeletion_90 : decode cJ10_fixAfterDeletion 90 = .ok (.if_icmp .ne 16, 3) := dk_160 0 16 (dk_at dksJ10_fixAfterDeletion_3 18 rfl rfl)
theorem dJ10_fixAfterDeletion_93 : decode cJ10_fixAfterDeletion 93 = .ok (.aload_n 2, 1) := dk_44 (dk_at dksJ10_fixAfterDeletion_3 21 rfl rfl)
theorem dJ10_fixAfterDeletion_94 : decode cJ10_fixAfterDeletion 94 = .ok (.iconst 0, 1) := dk_3 (dk_at dksJ10_fixAfterDeletion_3 22 rfl rfl)
theorem dJ10_fixAfterDeletion_95 : decode cJ10_fixAfterDeletion 95 = .ok (.invokestatic 307, 3) := dk_184 1 51 (dk_at dksJ10_fixAfterDeletion_4 0 rfl rfl)
theorem dJ10_fixAfterDeletion_98 : decode cJ10_fixAfterDeletion 98 = .ok (.aload_n 1, 1) := dk_43 (dk_at dksJ10_fixAfterDeletion_4 3 rfl rfl)
theorem dJ10_fixAfterDeletion_99 : decode cJ10_fixAfterDeletion 99 = .ok (.invokestatic 294, 3) := dk_184 1 38 (dk_at dksJ10_fixAfterDeletion_4 4 rfl rfl)
theorem dJ10_fixAfterDeletion_102 : decode cJ10_fixAfterDeletion 102 = .ok (.astore_n 1, 1) := dk_76 (dk_at dksJ10_fixAfterDeletion_4 7 rfl rfl)
theorem dJ10_fixAfterDeletion_103 : decode cJ10_fixAfterDeletion 103 = .ok (.goto 80, 3) := dk_167 0 80 (dk_at dksJ10_fixAfterDeletion_4 8 rfl rfl)
theorem dJ10_fixAfterDeletion_106 : decode cJ10_fixAfterDeletion 106 = .ok (.aload_n 2, 1) := dk_44 (dk_at dksJ10_fixAfterDeletion_4 11 rfl rfl)
theorem dJ10_fixAfterDeletion_107 : decode cJ10_fixAfterDeletion 107 = .ok (.invokestatic 300, 3) := dk_184 1 44 (dk_at dksJ10_fixAfterDeletion_4 12 rfl rfl)
theorem dJ10_fixAfterDeletion_110 : decode cJ10_fixAfterDeletion 110 = .ok (.invokestatic 303, 3) := dk_184 1 47 (dk_at dksJ10_fixAfterDeletion_4 15 rfl rfl)
theorem dJ10_fixAfterDeletion_113 : decode cJ10_fixAfterDeletion 113 = .ok (.iconst 1, 1) := dk_4 (dk_at dksJ10_fixAfterDeletion_4 18 rfl rfl)
theorem dJ10_fixAfterDeletion_114 : decode cJ10_fixAfterDeletion 114 = .ok (.if_icmp .ne 29, 3) := dk_160 0 29 (dk_at dksJ10_fixAfterDeletion_4 19 rfl rfl)
theorem dJ10_fixAfterDeletion_117 : decode cJ10_fixAfterDeletion 117 = .ok (.aload_n 2, 1) := dk_44 (dk_at dksJ10_fixAfterDeletion_4 22 rfl rfl)
theorem dJ10_fixAfterDeletion_118 : decode cJ10_fixAfterDeletion 118 = .ok (.invokestatic 297, 3) := dk_184 1 41 (dk_at dksJ10_fixAfterDeletion_5 0 rfl rfl)
theorem dJ10_fixAfterDeletion_121 : decode cJ10_fixAfterDeletion 121 = .ok (.iconst 1, 1) := dk_4 (dk_at dksJ10_fixAfterDeletion_5 3 rfl rfl)
theorem dJ10_fixAfterDeletion_122 : decode cJ10_fixAfterDeletion 122 = .ok (.invokestatic 307, 3) := dk_184 1 51 (dk_at dksJ10_fixAfterDeletion_5 4 rfl rfl)
theorem dJ10_fixAfterDeletion_125 : decode cJ10_fixAfterDeletion 125 = .ok (.aload_n 2, 1) := dk_44 (dk_at dksJ10_fixAfterDeletion_5 7 rfl rfl)
theorem dJ10_fixAfterDeletion_126 : decode cJ10_fixAfterDeletion 126 = .ok (.iconst 0, 1) := dk_3 (dk_at dksJ10_fixAfterDeletion_5 8 rfl rfl)
theorem dJ10_fixAfterDeletion_127 : decode cJ10_fixAfterDeletion 127 = .ok (.invokestatic 307, 3) := dk_184 1 51 (dk_at dksJ10_fixAfterDeletion_5 9 rfl rfl)
theorem dJ10_fixAfterDeletion_130 : decode cJ10_fixAfterDeletion 130 = .ok (.aload_n 0, 1) := dk_42 (dk_at dksJ10_fixAfterDeletion_5 12 rfl rfl)
theorem dJ10_fixAfterDeletion_131 : decode cJ10_fixAfterDeletion 131 = .ok (.aload_n 2, 1) := dk_44 (dk_at dksJ10_fixAfterDeletion_5 13 rfl rfl)
theorem dJ10_fixAfterDeletion_132 : decode cJ10_fixAfterDeletion 132 = .ok (.invokevirtual 314, 3) := dk_182 1 58 (dk_at dksJ10_fixAfterDeletion_5 14 rfl rfl)
theorem dJ10_fixAfterDeletion_135 : decode cJ10_fixAfterDeletion 135 = .ok (.aload_n 1, 1) := dk_43 (dk_at dksJ10_fixAfterDeletion_5 17 rfl rfl)
theorem dJ10_fixAfterDeletion_136 : decode cJ10_fixAfterDeletion 136 = .ok (.invokestatic 294, 3) := dk_184 1 38 (dk_at dksJ10_fixAfterDeletion_5 18 rfl rfl)
theorem dJ10_fixAfterDeletion_139 : decode cJ10_fixAfterDeletion 139 = .ok (.invokestatic 300, 3) := dk_184 1 44 (dk_at dksJ10_fixAfterDeletion_5 21 rfl rfl)
theorem dJ10_fixAfterDeletion_142 : decode cJ10_fixAfterDeletion 142 = .ok (.astore_n 2, 1) := dk_77 (dk_at dksJ10_fixAfterDeletion_6 0 rfl rfl)
theorem dJ10_fixAfterDeletion_143 : decode cJ10_fixAfterDeletion 143 = .ok (.aload_n 2, 1) := dk_44 (dk_at dksJ10_fixAfterDeletion_6 1 rfl rfl)
theorem dJ10_fixAfterDeletion_144 : decode cJ10_fixAfterDeletion 144 = .ok (.aload_n 1, 1) := dk_43 (dk_at dksJ10_fixAfterDeletion_6 2 rfl rfl)
theorem dJ10_fixAfterDeletion_145 : decode cJ10_fixAfterDeletion 145 = .ok (.invokestatic 294, 3) := dk_184 1 38 (dk_at dksJ10_fixAfterDeletion_6 3 rfl rfl)
theorem dJ10_fixAfterDeletion_148 : decode cJ10_fixAfterDeletion 148 = .ok (.invokestatic 303, 3) := dk_184 1 47 (dk_at dksJ10_fixAfterDeletion_6 6 rfl rfl)
theorem dJ10_fixAfterDeletion_151 : decode cJ10_fixAfterDeletion 151 = .ok (.invokestatic 307, 3) := dk_184 1 51 (dk_at dksJ10_fixAfterDeletion_6 9 rfl rfl)
theorem dJ10_fixAfterDeletion_154 : decode cJ10_fixAfterDeletion 154 = .ok (.aload_n 1, 1) := dk_43 (dk_at dksJ10_fixAfterDeletion_6 12 rfl rfl)
theorem dJ10_fixAfterDeletion_155 : decode cJ10_fixAfterDeletion 155 = .ok (.invokestatic 294, 3) := dk_184 1 38 (dk_at dksJ10_fixAfterDeletion_6 13 rfl rfl)
theorem dJ10_fixAfterDeletion_158 : decode cJ10_fixAfterDeletion 158 = .ok (.iconst 1, 1) := dk_4 (dk_at dksJ10_fixAfterDeletion_6 16 rfl rfl)
theorem dJ10_fixAfterDeletion_159 : decode cJ10_fixAfterDeletion 159 = .ok (.invokestatic 307, 3) := dk_184 1 51 (dk_at dksJ10_fixAfterDeletion_6 17 rfl rfl)
theorem dJ10_fixAfterDeletion_162 : decode cJ10_fixAfterDeletion 162 = .ok (.aload_n 2, 1) := dk_44 (dk_at dksJ10_fixAfterDeletion_6 20 rfl rfl)
theorem dJ10_fixAfterDeletion_163 : decode cJ10_fixAfterDeletion 163 = .ok (.invokestatic 300, 3) := dk_184 1 44 (dk_at dksJ10_fixAfterDeletion_6 21 rfl rfl)
theorem dJ10_fixAfterDeletion_166 : decode cJ10_fixAfterDeletion 166 = .ok (.iconst 1, 1) := dk_4 (dk_at dksJ10_fixAfterDeletion_7 0 rfl rfl)
theorem dJ10_fixAfterDeletion_167 : decode cJ10_fixAfterDeletion 167 = .ok (.invokestatic 307, 3) := dk_184 1 51 (dk_at dksJ10_fixAfterDeletion_7 1 rfl rfl)
theorem dJ10_fixAfterDeletion_170 : decode cJ10_fixAfterDeletion 170 = .ok (.aload_n 0, 1) := dk_42 (dk_at dksJ10_fixAfterDeletion_7 4 rfl rfl)
theorem dJ10_fixAfterDeletion_171 : decode cJ10_fixAfterDeletion 171 = .ok (.aload_n 1, 1) := dk_43 (dk_at dksJ10_fixAfterDeletion_7 5 rfl rfl)
theorem dJ10_fixAfterDeletion_172 : decode cJ10_fixAfterDeletion 172 = .ok (.invokestatic 294, 3) := dk_184 1 38 (dk_at dksJ10_fixAfterDeletion_7 6 rfl rfl)
theorem dJ10_fixAfterDeletion_175 : decode cJ10_fixAfterDeletion 175 = .ok (.invokevirtual 311, 3) := dk_182 1 55 (dk_at dksJ10_fixAfterDeletion_7 9 rfl rfl)
theorem dJ10_fixAfterDeletion_178 : decode cJ10_fixAfterDeletion 178 = .ok (.aload_n 0, 1) := dk_42 (dk_at dksJ10_fixAfterDeletion_7 12 rfl rfl)
theorem dJ10_fixAfterDeletion_179 : decode cJ10_fixAfterDeletion 179 = .ok (.getfield 101, 3) := dk_180 0 101 (dk_at dksJ10_fixAfterDeletion_7 13 rfl rfl)
theorem dJ10_fixAfterDeletion_182 : decode cJ10_fixAfterDeletion 182 = .ok (.astore_n 1, 1) := dk_76 (dk_at dksJ10_fixAfterDeletion_7 16 rfl rfl)
theorem dJ10_fixAfterDeletion_183 : decode cJ10_fixAfterDeletion 183 = .ok (.goto (-183), 3) := dk_167 255 73 (dk_at dksJ10_fixAfterDeletion_7 17 rfl rfl)
theorem dJ10_fixAfterDeletion_186 : decode cJ10_fixAfterDeletion 186 = .ok (.aload_n 1, 1) := dk_43 (dk_at dksJ10_fixAfterDeletion_7 20 rfl rfl)
theorem dJ10_fixAfterDeletion_187 : decode cJ10_fixAfterDeletion 187 = .ok (.invokestatic 294, 3) := dk_184 1 38 (dk_at dksJ10_fixAfterDeletion_7 21 rfl rfl)
theorem dJ10_fixAfterDeletion_190 : decode cJ10_fixAfterDeletion 190 = .ok (.invokestatic 297, 3) := dk_184 1 41 (dk_at dksJ10_fixAfterDeletion_8 0 rfl rfl)
theorem dJ10_fixAfterDeletion_193 : decode cJ10_fixAfterDeletion 193 = .ok (.astore_n 2, 1) := dk_77 (dk_at dksJ10_fixAfterDeletion_8 3 rfl rfl)
theorem dJ10_fixAfterDeletion_194 : decode cJ10_fixAfterDeletion 194 = .ok (.aload_n 2, 1) := dk_44 (dk_at dksJ10_fixAfterDeletion_8 4 rfl rfl)
theorem dJ10_fixAfterDeletion_195 : decode cJ10_fixAfterDeletion 195 = .ok (.invokestatic 303, 3) := dk_184 1 47 (dk_at dksJ10_fixAfterDeletion_8 5 rfl rfl)
theorem dJ10_fixAfterDeletion_198 : decode cJ10_fixAfterDeletion 198 = .ok (.ifCond .ne 32, 3) := dk_154 0 32 (dk_at dksJ10_fixAfterDeletion_8 8 rfl rfl)
theorem dJ10_fixAfterDeletion_201 : decode cJ10_fixAfterDeletion 201 = .ok (.aload_n 2, 1) := dk_44 (dk_at dksJ10_fixAfterDeletion_8 11 rfl rfl)
theorem dJ10_fixAfterDeletion_202 : decode cJ10_fixAfterDeletion 202 = .ok (.iconst 1, 1) := dk_4 (dk_at dksJ10_fixAfterDeletion_8 12 rfl rfl)
theorem dJ10_fixAfterDeletion_203 : decode cJ10_fixAfterDeletion 203 = .ok (.invokestatic 307, 3) := dk_184 1 51 (dk_at dksJ10_fixAfterDeletion_8 13 rfl rfl)
theorem dJ10_fixAfterDeletion_206 : decode cJ10_fixAfterDeletion 206 = .ok (.aload_n 1, 1) := dk_43 (dk_at dksJ10_fixAfterDeletion_8 16 rfl rfl)
theorem dJ10_fixAfterDeletion_207 : decode cJ10_fixAfterDeletion 207 = .ok (.invokestatic 294, 3) := dk_184 1 38 (dk_at dksJ10_fixAfterDeletion_8 17 rfl rfl)
theorem dJ10_fixAfterDeletion_210 : decode cJ10_fixAfterDeletion 210 = .ok (.iconst 0, 1) := dk_3 (dk_at dksJ10_fixAfterDeletion_8 20 rfl rfl)
theorem dJ10_fixAfterDeletion_211 : decode cJ10_fixAfterDeletion 211 = .ok (.invokestatic 307, 3) := dk_184 1 51 (dk_at dksJ10_fixAfterDeletion_8 21 rfl rfl)
theorem dJ10_fixAfterDeletion_214 : decode cJ10_fixAfterDeletion 214 = .ok (.aload_n 0, 1) := dk_42 (dk_at dksJ10_fixAfterDeletion_9 0 rfl rfl)
theorem dJ10_fixAfterDeletion_215 : decode cJ10_fixAfterDeletion 215 = .ok (.aload_n 1, 1) := dk_43 (dk_at dksJ10_fixAfterDeletion_9 1 rfl rfl)
theorem dJ10_fixAfterDeletion_216 : decode cJ10_fixAfterDeletion 216 = .ok (.invokestatic 294, 3) := dk_184 1 38 (dk_at dksJ10_fixAfterDeletion_9 2 rfl rfl)
theorem dJ10_fixAfterDeletion_219 : decode cJ10_fixAfterDeletion 219 = .ok (.invokevirtual 314, 3) := dk_182 1 58 (dk_at dksJ10_fixAfterDeletion_9 5 rfl rfl)
theorem dJ10_fixAfterDeletion_222 : decode cJ10_fixAfterDeletion 222 = .ok (.aload_n 1, 1) := dk_43 (dk_at dksJ10_fixAfterDeletion_9 8 rfl rfl)
theorem dJ10_fixAfterDeletion_223 : decode cJ10_fixAfterDeletion 223 = .ok (.invokestatic 294, 3) := dk_184 1 38 (dk_at dksJ10_fixAfterDeletion_9 9 rfl rfl)
theorem dJ10_fixAfterDeletion_226 : decode cJ10_fixAfterDeletion 226 = .ok (.invokestatic 297, 3) := dk_184 1 41 (dk_at dksJ10_fixAfterDeletion_9 12 rfl rfl)
theorem dJ10_fixAfterDeletion_229 : decode cJ10_fixAfterDeletion 229 = .ok (.astore_n 2, 1) := dk_77 (dk_at dksJ10_fixAfterDeletion_9 15 rfl rfl)
theorem dJ10_fixAfterDeletion_230 : decode cJ10_fixAfterDeletion 230 = .ok (.aload_n 2, 1) := dk_44 (dk_at dksJ10_fixAfterDeletion_9 16 rfl rfl)
theorem dJ10_fixAfterDeletion_231 : decode cJ10_fixAfterDeletion 231 = .ok (.invokestatic 300, 3) := dk_184 1 44 (dk_at dksJ10_fixAfterDeletion_9 17 rfl rfl)
theorem dJ10_fixAfterDeletion_234 : decode cJ10_fixAfterDeletion 234 = .ok (.invokestatic 303, 3) := dk_184 1 47 (dk_at dksJ10_fixAfterDeletion_9 20 rfl rfl)
theorem dJ10_fixAfterDeletion_237 : decode cJ10_fixAfterDeletion 237 = .ok (.iconst 1, 1) := dk_4 (dk_at dksJ10_fixAfterDeletion_9 23 rfl rfl)
theorem dJ10_fixAfterDeletion_238 : decode cJ10_fixAfterDeletion 238 = .ok (.if_icmp .ne 27, 3) := dk_160 0 27 (dk_at dksJ10_fixAfterDeletion_10 0 rfl rfl)
theorem dJ10_fixAfterDeletion_241 : decode cJ10_fixAfterDeletion 241 = .ok (.aload_n 2, 1) := dk_44 (dk_at dksJ10_fixAfterDeletion_10 3 rfl rfl)
theorem dJ10_fixAfterDeletion_242 : decode cJ10_fixAfterDeletion 242 = .ok (.invokestatic 297, 3) := dk_184 1 41 (dk_at dksJ10_fixAfterDeletion_10 4 rfl rfl)
theorem dJ10_fixAfterDeletion_245 : decode cJ10_fixAfterDeletion 245 = .ok (.invokestatic 303, 3) := dk_184 1 47 (dk_at dksJ10_fixAfterDeletion_10 7 rfl rfl)
theorem dJ10_fixAfterDeletion_248 : decode cJ10_fixAfterDeletion 248 = .ok (.iconst 1, 1) := dk_4 (dk_at dksJ10_fixAfterDeletion_10 10 rfl rfl)
theorem dJ10_fixAfterDeletion_249 : decode cJ10_fixAfterDeletion 249 = .ok (.if_icmp .ne 16, 3) := dk_160 0 16 (dk_at dksJ10_fixAfterDeletion_10 11 rfl rfl)
theorem dJ10_fixAfterDeletion_252 : decode cJ10_fixAfterDeletion 252 = .ok (.aload_n 2, 1) := dk_44 (dk_at dksJ10_fixAfterDeletion_10 14 rfl rfl)
theorem dJ10_fixAfterDeletion_253 : decode cJ10_fixAfterDeletion 253 = .ok (.iconst 0, 1) := dk_3 (dk_at dksJ10_fixAfterDeletion_10 15 rfl rfl)
theorem dJ10_fixAfterDeletion_254 : decode cJ10_fixAfterDeletion 254 = .ok (.invokestatic 307, 3) := dk_184 1 51 (dk_at dksJ10_fixAfterDeletion_10 16 rfl rfl)
theorem dJ10_fixAfterDeletion_257 : decode cJ10_fixAfterDeletion 257 = .ok (.aload_n 1, 1) := dk_43 (dk_at dksJ10_fixAfterDeletion_10 19 rfl rfl)
theorem dJ10_fixAfterDeletion_258 : decode cJ10_fixAfterDeletion 258 = .ok (.invokestatic 294, 3) := dk_184 1 38 (dk_at dksJ10_fixAfterDeletion_10 20 rfl rfl)
theorem dJ10_fixAfterDeletion_261 : decode cJ10_fixAfterDeletion 261 = .ok (.astore_n 1, 1) := dk_76 (dk_at dksJ10_fixAfterDeletion_10 23 rfl rfl)
theorem dJ10_fixAfterDeletion_262 : decode cJ10_fixAfterDeletion 262 = .ok (.goto 80, 3) := dk_167 0 80 (dk_at dksJ10_fixAfterDeletion_11 0 rfl rfl)
theorem dJ10_fixAfterDeletion_265 : decode cJ10_fixAfterDeletion 265 = .ok (.aload_n 2, 1) := dk_44 (dk_at dksJ10_fixAfterDeletion_11 3 rfl rfl)
theorem dJ10_fixAfterDeletion_266 : decode cJ10_fixAfterDeletion 266 = .ok (.invokestatic 297, 3) := dk_184 1 41 (dk_at dksJ10_fixAfterDeletion_11 4 rfl rfl)
theorem dJ10_fixAfterDeletion_269 : decode cJ10_fixAfterDeletion 269 = .ok (.invokestatic 303, 3) := dk_184 1 47 (dk_at dksJ10_fixAfterDeletion_11 7 rfl rfl)
theorem dJ10_fixAfterDeletion_272 : decode cJ10_fixAfterDeletion 272 = .ok (.iconst 1, 1) := dk_4 (dk_at dksJ10_fixAfterDeletion_11 10 rfl rfl)
theorem dJ10_fixAfterDeletion_273 : decode cJ10_fixAfterDeletion 273 = .ok (.if_icmp .ne 29, 3) := dk_160 0 29 (dk_at dksJ10_fixAfterDeletion_11 11 rfl rfl)
theorem dJ10_fixAfterDeletion_276 : decode cJ10_fixAfterDeletion 276 = .ok (.aload_n 2, 1) := dk_44 (dk_at dksJ10_fixAfterDeletion_11 14 rfl rfl)
theorem dJ10_fixAfterDeletion_277 : decode cJ10_fixAfterDeletion 277 = .ok (.invokestatic 300, 3) := dk_184 1 44 (dk_at dksJ10_fixAfterDeletion_11 15 rfl rfl)
theorem dJ10_fixAfterDeletion_280 : decode cJ10_fixAfterDeletion 280 = .ok (.iconst 1, 1) := dk_4 (dk_at dksJ10_fixAfterDeletion_11 18 rfl rfl)
theorem dJ10_fixAfterDeletion_281 : decode cJ10_fixAfterDeletion 281 = .ok (.invokestatic 307, 3) := dk_184 1 51 (dk_at dksJ10_fixAfterDeletion_11 19 rfl rfl)
theorem dJ10_fixAfterDeletion_284 : decode cJ10_fixAfterDeletion 284 = .ok (.aload_n 2, 1) := dk_44 (dk_at dksJ10_fixAfterDeletion_11 22 rfl rfl)
theorem dJ10_fixAfterDeletion_285 : decode cJ10_fixAfterDeletion 285 = .ok (.iconst 0, 1) := dk_3 (dk_at dksJ10_fixAfterDeletion_11 23 rfl rfl)
theorem dJ10_fixAfterDeletion_286 : decode cJ10_fixAfterDeletion 286 = .ok (.invokestatic 307, 3) := dk_184 1 51 (dk_at dksJ10_fixAfterDeletion_12 0 rfl rfl)
theorem dJ10_fixAfterDeletion_289 : decode cJ10_fixAfterDeletion 289 = .ok (.aload_n 0, 1) := dk_42 (dk_at dksJ10_fixAfterDeletion_12 3 rfl rfl)
theorem dJ10_fixAfterDeletion_290 : decode cJ10_fixAfterDeletion 290 = .ok (.aload_n 2, 1) := dk_44 (dk_at dksJ10_fixAfterDeletion_12 4 rfl rfl)
theorem dJ10_fixAfterDeletion_291 : decode cJ10_fixAfterDeletion 291 = .ok (.invokevirtual 311, 3) := dk_182 1 55 (dk_at dksJ10_fixAfterDeletion_12 5 rfl rfl)
theorem dJ10_fixAfterDeletion_294 : decode cJ10_fixAfterDeletion 294 = .ok (.aload_n 1, 1) := dk_43 (dk_at dksJ10_fixAfterDeletion_12 8 rfl rfl)
theorem dJ10_fixAfterDeletion_295 : decode cJ10_fixAfterDeletion 295 = .ok (.invokestatic 294, 3) := dk_184 1 38 (dk_at dksJ10_fixAfterDeletion_12 9 rfl rfl)
theorem dJ10_fixAfterDeletion_298 : decode cJ10_fixAfterDeletion 298 = .ok (.invokestatic 297, 3) := dk_184 1 41 (dk_at dksJ10_fixAfterDeletion_12 12 rfl rfl)
theorem dJ10_fixAfterDeletion_301 : decode cJ10_fixAfterDeletion 301 = .ok (.astore_n 2, 1) := dk_77 (dk_at dksJ10_fixAfterDeletion_12 15 rfl rfl)
theorem dJ10_fixAfterDeletion_302 : decode cJ10_fixAfterDeletion 302 = .ok (.aload_n 2, 1) := dk_44 (dk_at dksJ10_fixAfterDeletion_12 16 rfl rfl)
theorem dJ10_fixAfterDeletion_303 : decode cJ10_fixAfterDeletion 303 = .ok (.aload_n 1, 1) := dk_43 (dk_at dksJ10_fixAfterDeletion_12 17 rfl rfl)
theorem dJ10_fixAfterDeletion_304 : decode cJ10_fixAfterDeletion 304 = .ok (.invokestatic 294, 3) := dk_184 1 38 (dk_at dksJ10_fixAfterDeletion_12 18 rfl rfl)
theorem dJ10_fixAfterDeletion_307 : decode cJ10_fixAfterDeletion 307 = .ok (.invokestatic 303, 3) := dk_184 1 47 (dk_at dksJ10_fixAfterDeletion_12 21 rfl rfl)
theorem dJ10_fixAfterDeletion_310 : decode cJ10_fixAfterDeletion 310 = .ok (.invokestatic 307, 3) := dk_184 1 51 (dk_at dksJ10_fixAfterDeletion_13 0 rfl rfl)
theorem dJ10_fixAfterDeletion_313 : decode cJ10_fixAfterDeletion 313 = .ok (.aload_n 1, 1) := dk_43 (dk_at dksJ10_fixAfterDeletion_13 3 rfl rfl)
theorem dJ10_fixAfterDeletion_314 : decode cJ10_fixAfterDeletion 314 = .ok (.invokestatic 294, 3) := dk_184 1 38 (dk_at dksJ10_fixAfterDeletion_13 4 rfl rfl)
theorem dJ10_fixAfterDeletion_317 : decode cJ10_fixAfterDeletion 317 = .ok (.iconst 1, 1) := dk_4 (dk_at dksJ10_fixAfterDeletion_13 7 rfl rfl)
theorem dJ10_fixAfterDeletion_318 : decode cJ10_fixAfterDeletion 318 = .ok (.invokestatic 307, 3) := dk_184 1 51 (dk_at dksJ10_fixAfterDeletion_13 8 rfl rfl)
theorem dJ10_fixAfterDeletion_321 : decode cJ10_fixAfterDeletion 321 = .ok (.aload_n 2, 1) := dk_44 (dk_at dksJ10_fixAfterDeletion_13 11 rfl rfl)
theorem dJ10_fixAfterDeletion_322 : decode cJ10_fixAfterDeletion 322 = .ok (.invokestatic 297, 3) := dk_184 1 41 (dk_at dksJ10_fixAfterDeletion_13 12 rfl rfl)
theorem dJ10_fixAfterDeletion_325 : decode cJ10_fixAfterDeletion 325 = .ok (.iconst 1, 1) := dk_4 (dk_at dksJ10_fixAfterDeletion_13 15 rfl rfl)
theorem dJ10_fixAfterDeletion_326 : decode cJ10_fixAfterDeletion 326 = .ok (.invokestatic 307, 3) := dk_184 1 51 (dk_at dksJ10_fixAfterDeletion_13 16 rfl rfl)
theorem dJ10_fixAfterDeletion_329 : decode cJ10_fixAfterDeletion 329 = .ok (.aload_n 0, 1) := dk_42 (dk_at dksJ10_fixAfterDeletion_13 19 rfl rfl)
theorem dJ10_fixAfterDeletion_330 : decode cJ10_fixAfterDeletion 330 = .ok (.aload_n 1, 1) := dk_43 (dk_at dksJ10_fixAfterDeletion_13 20 rfl rfl)
theorem dJ10_fixAfterDeletion_331 : decode cJ10_fixAfterDeletion 331 = .ok (.invokestatic 294, 3) := dk_184 1 38 (dk_at dksJ10_fixAfterDeletion_13 21 rfl rfl)
theorem dJ10_fixAfterDeletion_334 : decode cJ10_fixAfterDeletion 334 = .ok (.invokevirtual 314, 3) := dk_182 1 58 (dk_at dksJ10_fixAfterDeletion_14 0 rfl rfl)
theorem dJ10_fixAfterDeletion_337 : decode cJ10_fixAfterDeletion 337 = .ok (.aload_n 0, 1) := dk_42 (dk_at dksJ10_fixAfterDeletion_14 3 rfl rfl)
theorem dJ10_fixAfterDeletion_338 : decode cJ10_fixAfterDeletion 338 = .ok (.getfield 101, 3) := dk_180 0 101 (dk_at dksJ10_fixAfterDeletion_14 4 rfl rfl)
theorem dJ10_fixAfterDeletion_341 : decode cJ10_fixAfterDeletion 341 = .ok (.astore_n 1, 1) := dk_76 (dk_at dksJ10_fixAfterDeletion_14 7 rfl rfl)
theorem dJ10_fixAfterDeletion_342 : decode cJ10_fixAfterDeletion 342 = .ok (.goto (-342), 3) := dk_167 254 170 (dk_at dksJ10_fixAfterDeletion_14 8 rfl rfl)
theorem dJ10_fixAfterDeletion_345 : decode cJ10_fixAfterDeletion 345 = .ok (.aload_n 1, 1) := dk_43 (dk_at dksJ10_fixAfterDeletion_14 11 rfl rfl)
theorem dJ10_fixAfterDeletion_346 : decode cJ10_fixAfterDeletion 346 = .ok (.iconst 1, 1) := dk_4 (dk_at dksJ10_fixAfterDeletion_14 12 rfl rfl)
theorem dJ10_fixAfterDeletion_347 : decode cJ10_fixAfterDeletion 347 = .ok (.invokestatic 307, 3) := dk_184 1 51 (dk_at dksJ10_fixAfterDeletion_14 13 rfl rfl)
theorem dJ10_fixAfterDeletion_350 : decode cJ10_fixAfterDeletion 350 = .ok (.return_, 1) := dk_177 (dk_at dksJ10_fixAfterDeletion_14 16 rfl rfl)
abbrev cJ10_firstKey : ByteArray := prog_90_method_10_code
def yJ10_firstKey : MethodName := ⟨RJ10, "firstKey", "()Ljava/lang/Object;"⟩
def dkwJ10_firstKey_0 : List UInt8 := [42, 182, 0, 54, 184, 0, 72, 176]
abbrev dktJ10_firstKey_0 : List UInt8 := dkwJ10_firstKey_0 ++ []
theorem dksJ10_firstKey_0 : cJ10_firstKey.data.toList.drop 0 = dktJ10_firstKey_0 := by decide +kernel
theorem dJ10_firstKey_0 : decode cJ10_firstKey 0 = .ok (.aload_n 0, 1) := dk_42 (dk_at dksJ10_firstKey_0 0 rfl rfl)
theorem dJ10_firstKey_1 : decode cJ10_firstKey 1 = .ok (.invokevirtual 54, 3) := dk_182 0 54 (dk_at dksJ10_firstKey_0 1 rfl rfl)
theorem dJ10_firstKey_4 : decode cJ10_firstKey 4 = .ok (.invokestatic 72, 3) := dk_184 0 72 (dk_at dksJ10_firstKey_0 4 rfl rfl)
theorem dJ10_firstKey_7 : decode cJ10_firstKey 7 = .ok (.areturn, 1) := dk_176 (dk_at dksJ10_firstKey_0 7 rfl rfl)
abbrev cJ10_key : ByteArray := prog_90_method_71_code
def yJ10_key : MethodName := ⟨RJ10, "key", "(Ljava/util/TreeMap$Entry;)Ljava/lang/Object;"⟩
def dkwJ10_key_0 : List UInt8 := [42, 199, 0, 11, 187, 1, 31, 89, 183, 1, 33, 191, 42, 180, 0, 105, 176]
abbrev dktJ10_key_0 : List UInt8 := dkwJ10_key_0 ++ []
theorem dksJ10_key_0 : cJ10_key.data.toList.drop 0 = dktJ10_key_0 := by decide +kernel
theorem dJ10_key_0 : decode cJ10_key 0 = .ok (.aload_n 0, 1) := dk_42 (dk_at dksJ10_key_0 0 rfl rfl)
theorem dJ10_key_1 : decode cJ10_key 1 = .ok (.ifnonnull 11, 3) := dk_199 0 11 (dk_at dksJ10_key_0 1 rfl rfl)
theorem dJ10_key_4 : decode cJ10_key 4 = .ok (.new 287, 3) := dk_187 1 31 (dk_at dksJ10_key_0 4 rfl rfl)
theorem dJ10_key_7 : decode cJ10_key 7 = .ok (.dup, 1) := dk_89 (dk_at dksJ10_key_0 7 rfl rfl)
theorem dJ10_key_8 : decode cJ10_key 8 = .ok (.invokespecial 289, 3) := dk_183 1 33 (dk_at dksJ10_key_0 8 rfl rfl)
theorem dJ10_key_11 : decode cJ10_key 11 = .ok (.athrow, 1) := dk_191 (dk_at dksJ10_key_0 11 rfl rfl)
theorem dJ10_key_12 : decode cJ10_key 12 = .ok (.aload_n 0, 1) := dk_42 (dk_at dksJ10_key_0 12 rfl rfl)
theorem dJ10_key_13 : decode cJ10_key 13 = .ok (.getfield 105, 3) := dk_180 0 105 (dk_at dksJ10_key_0 13 rfl rfl)
theorem dJ10_key_16 : decode cJ10_key 16 = .ok (.areturn, 1) := dk_176 (dk_at dksJ10_key_0 16 rfl rfl)
abbrev cJ10_containsKey : ByteArray := prog_90_method_6_code
def yJ10_containsKey : MethodName := ⟨RJ10, "containsKey", "(Ljava/lang/Object;)Z"⟩
def dkwJ10_containsKey_0 : List UInt8 := [42, 43, 182, 0, 50, 198, 0, 7, 4, 167, 0, 4, 3, 172]
abbrev dktJ10_containsKey_0 : List UInt8 := dkwJ10_containsKey_0 ++ []
theorem dksJ10_containsKey_0 : cJ10_containsKey.data.toList.drop 0 = dktJ10_containsKey_0 := by decide +kernel
theorem dJ10_containsKey_0 : decode cJ10_containsKey 0 = .ok (.aload_n 0, 1) := dk_42 (dk_at dksJ10_containsKey_0 0 rfl rfl)
theorem dJ10_containsKey_1 : decode cJ10_containsKey 1 = .ok (.aload_n 1, 1) := dk_43 (dk_at dksJ10_containsKey_0 1 rfl rfl)
theorem dJ10_containsKey_2 : decode cJ10_containsKey 2 = .ok (.invokevirtual 50, 3) := dk_182 0 50 (dk_at dksJ10_containsKey_0 2 rfl rfl)
theorem dJ10_containsKey_5 : decode cJ10_containsKey 5 = .ok (.ifnull 7, 3) := dk_198 0 7 (dk_at dksJ10_containsKey_0 5 rfl rfl)
theorem dJ10_containsKey_8 : decode cJ10_containsKey 8 = .ok (.iconst 1, 1) := dk_4 (dk_at dksJ10_containsKey_0 8 rfl rfl)
theorem dJ10_containsKey_9 : decode cJ10_containsKey 9 = .ok (.goto 4, 3) := dk_167 0 4 (dk_at dksJ10_containsKey_0 9 rfl rfl)
theorem dJ10_containsKey_12 : decode cJ10_containsKey 12 = .ok (.iconst 0, 1) := dk_3 (dk_at dksJ10_containsKey_0 12 rfl rfl)
theorem dJ10_containsKey_13 : decode cJ10_containsKey 13 = .ok (.ireturn, 1) := dk_172 (dk_at dksJ10_containsKey_0 13 rfl rfl)
abbrev cJ10_get : ByteArray := prog_90_method_8_code
def yJ10_get : MethodName := ⟨RJ10, "get", "(Ljava/lang/Object;)Ljava/lang/Object;"⟩
def dkwJ10_get_0 : List UInt8 := [42, 43, 182, 0, 50, 77, 44, 199, 0, 7, 1, 167, 0, 7, 44, 180, 0, 58, 176]
abbrev dktJ10_get_0 : List UInt8 := dkwJ10_get_0 ++ []
theorem dksJ10_get_0 : cJ10_get.data.toList.drop 0 = dktJ10_get_0 := by decide +kernel
theorem dJ10_get_0 : decode cJ10_get 0 = .ok (.aload_n 0, 1) := dk_42 (dk_at dksJ10_get_0 0 rfl rfl)
theorem dJ10_get_1 : decode cJ10_get 1 = .ok (.aload_n 1, 1) := dk_43 (dk_at dksJ10_get_0 1 rfl rfl)
theorem dJ10_get_2 : decode cJ10_get 2 = .ok (.invokevirtual 50, 3) := dk_182 0 50 (dk_at dksJ10_get_0 2 rfl rfl)
theorem dJ10_get_5 : decode cJ10_get 5 = .ok (.astore_n 2, 1) := dk_77 (dk_at dksJ10_get_0 5 rfl rfl)
theorem dJ10_get_6 : decode cJ10_get 6 = .ok (.aload_n 2, 1) := dk_44 (dk_at dksJ10_get_0 6 rfl rfl)
theorem dJ10_get_7 : decode cJ10_get 7 = .ok (.ifnonnull 7, 3) := dk_199 0 7 (dk_at dksJ10_get_0 7 rfl rfl)
theorem dJ10_get_10 : decode cJ10_get 10 = .ok (.aconst_null, 1) := dk_1 (dk_at dksJ10_get_0 10 rfl rfl)
theorem dJ10_get_11 : decode cJ10_get 11 = .ok (.goto 7, 3) := dk_167 0 7 (dk_at dksJ10_get_0 11 rfl rfl)
theorem dJ10_get_14 : decode cJ10_get 14 = .ok (.aload_n 2, 1) := dk_44 (dk_at dksJ10_get_0 14 rfl rfl)
theorem dJ10_get_15 : decode cJ10_get 15 = .ok (.getfield 58, 3) := dk_180 0 58 (dk_at dksJ10_get_0 15 rfl rfl)
theorem dJ10_get_18 : decode cJ10_get 18 = .ok (.areturn, 1) := dk_176 (dk_at dksJ10_get_0 18 rfl rfl)
theorem q114 : (Jvm.Cond.initialized "java/util/TreeMap") ∈ lw_all := lw_g (lw_at lw_m1 14 rfl) rfl
theorem q291 : (Jvm.Cond.instantiable "java/util/TreeMap" (9 : Nat)) ∈ lw_all := lw_g (lw_at lw_m1 191 rfl) rfl
theorem q293 : (Jvm.Cond.instanceMethod ({ cls := "java/util/TreeMap", name := "<init>", desc := "()V" } : Jvm.MethodName)) ∈ lw_all := lw_g (lw_at lw_m1 193 rfl) rfl
theorem q294 : (Jvm.Cond.code ({ cls := "java/util/TreeMap", name := "<init>", desc := "()V" } : Jvm.MethodName) prog_90_method_1_code (1 : Nat) (Option.none : Option Jvm.ClassFile.FieldType)) ∈ lw_all := lw_g (lw_at lw_m1 194 rfl) rfl
theorem q295 : (Jvm.Cond.methodLink "java/util/TreeMap" (1 : Nat) ({ cls := "java/util/AbstractMap", name := "<init>", desc := "()V" } : Jvm.MethodName)) ∈ lw_all := lw_g (lw_at lw_m1 195 rfl) rfl
theorem q299 : (Jvm.Cond.fieldLink "java/util/TreeMap" (16 : Nat) "java/util/TreeMap" "comparator" "Ljava/util/Comparator;") ∈ lw_all := lw_g (lw_at lw_m1 199 rfl) rfl
theorem q300 : (Jvm.Cond.fieldLink "java/util/TreeMap" (101 : Nat) "java/util/TreeMap" "root" "Ljava/util/TreeMap$Entry;") ∈ lw_all := lw_g (lw_at lw_m1 200 rfl) rfl
theorem q301 : (Jvm.Cond.fieldLink "java/util/TreeMap" (7 : Nat) "java/util/TreeMap" "size" "I") ∈ lw_all := lw_g (lw_at lw_m1 201 rfl) rfl
theorem q302 : (Jvm.Cond.fieldLink "java/util/TreeMap" (13 : Nat) "java/util/TreeMap" "modCount" "I") ∈ lw_all := lw_g (lw_at lw_m1 202 rfl) rfl
theorem q304 : (Jvm.Cond.fieldLink "java/util/TreeMap" (191 : Nat) "java/util/TreeMap" "navigableKeySet" "Ljava/util/TreeMap$KeySet;") ∈ lw_all := lw_g (lw_at lw_m1 204 rfl) rfl
theorem q305 : (Jvm.Cond.fieldLink "java/util/TreeMap" (233 : Nat) "java/util/TreeMap" "values" "Ljava/util/Collection;") ∈ lw_all := lw_g (lw_at lw_m1 205 rfl) rfl
theorem q306 : (Jvm.Cond.sameField "java/util/TreeMap" "java/util/AbstractMap" "values" "Ljava/util/Collection;") ∈ lw_all := lw_g (lw_at lw_m1 206 rfl) rfl
theorem q307 : (Jvm.Cond.laysFinal "java/util/TreeMap" "java/util/TreeMap" "comparator" "Ljava/util/Comparator;") ∈ lw_all := lw_g (lw_at lw_m1 207 rfl) rfl
theorem q308 : (Jvm.Cond.soleField "java/util/TreeMap" "comparator") ∈ lw_all := lw_g (lw_at lw_m1 208 rfl) rfl
theorem q309 : (Jvm.Cond.lays "java/util/TreeMap" "java/util/TreeMap" "root" "Ljava/util/TreeMap$Entry;") ∈ lw_all := lw_g (lw_at lw_m1 209 rfl) rfl
theorem q310 : (Jvm.Cond.soleField "java/util/TreeMap" "root") ∈ lw_all := lw_g (lw_at lw_m1 210 rfl) rfl
theorem q311 : (Jvm.Cond.lays "java/util/TreeMap" "java/util/TreeMap" "size" "I") ∈ lw_all := lw_g (lw_at lw_m1 211 rfl) rfl
theorem q312 : (Jvm.Cond.soleField "java/util/TreeMap" "size") ∈ lw_all := lw_g (lw_at lw_m1 212 rfl) rfl
theorem q313 : (Jvm.Cond.lays "java/util/TreeMap" "java/util/TreeMap" "modCount" "I") ∈ lw_all := lw_g (lw_at lw_m1 213 rfl) rfl
theorem q314 : (Jvm.Cond.soleField "java/util/TreeMap" "modCount") ∈ lw_all := lw_g (lw_at lw_m1 214 rfl) rfl
theorem q315 : (Jvm.Cond.lays "java/util/TreeMap" "java/util/TreeMap" "entrySet" "Ljava/util/TreeMap$EntrySet;") ∈ lw_all := lw_g (lw_at lw_m1 215 rfl) rfl
theorem q316 : (Jvm.Cond.soleField "java/util/TreeMap" "entrySet") ∈ lw_all := lw_g (lw_at lw_m1 216 rfl) rfl
theorem q317 : (Jvm.Cond.lays "java/util/TreeMap" "java/util/TreeMap" "navigableKeySet" "Ljava/util/TreeMap$KeySet;") ∈ lw_all := lw_g (lw_at lw_m1 217 rfl) rfl
theorem q318 : (Jvm.Cond.soleField "java/util/TreeMap" "navigableKeySet") ∈ lw_all := lw_g (lw_at lw_m1 218 rfl) rfl
theorem q319 : (Jvm.Cond.lays "java/util/TreeMap" "java/util/TreeMap" "descendingMap" "Ljava/util/NavigableMap;") ∈ lw_all := lw_g (lw_at lw_m1 219 rfl) rfl
theorem q320 : (Jvm.Cond.soleField "java/util/TreeMap" "descendingMap") ∈ lw_all := lw_g (lw_at lw_m1 220 rfl) rfl
theorem q321 : (Jvm.Cond.lays "java/util/TreeMap" "java/util/AbstractMap" "keySet" "Ljava/util/Set;") ∈ lw_all := lw_g (lw_at lw_m1 221 rfl) rfl
theorem q323 : (Jvm.Cond.lays "java/util/TreeMap" "java/util/AbstractMap" "values" "Ljava/util/Collection;") ∈ lw_all := lw_g (lw_at lw_m1 223 rfl) rfl
theorem q325 : (Jvm.Cond.superclass "java/util/TreeMap" "java/util/AbstractMap") ∈ lw_all := lw_g (lw_at lw_m1 225 rfl) rfl
theorem q414 : (Jvm.Cond.instanceMethod ({ cls := "java/util/TreeMap", name := "size", desc := "()I" } : Jvm.MethodName)) ∈ lw_all := lw_g (lw_at lw_m2 74 rfl) rfl
theorem q415 : (Jvm.Cond.selects "java/util/TreeMap" ({ cls := "java/util/TreeMap", name := "size", desc := "()I" } : Jvm.MethodName) ({ cls := "java/util/TreeMap", name := "size", desc := "()I" } : Jvm.MethodName)) ∈ lw_all := lw_g (lw_at lw_m2 75 rfl) rfl
theorem q416 : (Jvm.Cond.code ({ cls := "java/util/TreeMap", name := "size", desc := "()I" } : Jvm.MethodName) prog_90_method_5_code (1 : Nat) (Option.some Jvm.ClassFile.FieldType.int)) ∈ lw_all := lw_g (lw_at lw_m2 76 rfl) rfl
theorem q1028 : (Jvm.Cond.selects "java/util/TreeMap" ({ cls := "java/lang/Object", name := "getClass", desc := "()Ljava/lang/Class;" } : Jvm.MethodName) ({ cls := "java/lang/Object", name := "getClass", desc := "()Ljava/lang/Class;" } : Jvm.MethodName)) ∈ lw_all := lw_g (lw_at lw_m4 208 rfl) rfl
theorem q1134 : (Jvm.Cond.static ({ cls := "java/util/TreeMap", name := "successor", desc := "(Ljava/util/TreeMap$Entry;)Ljava/util/TreeMap$Entry;" } : Jvm.MethodName)) ∈ lw_all := lw_g (lw_at lw_m5 74 rfl) rfl
theorem q1135 : (Jvm.Cond.code ({ cls := "java/util/TreeMap", name := "successor", desc := "(Ljava/util/TreeMap$Entry;)Ljava/util/TreeMap$Entry;" } : Jvm.MethodName) prog_90_method_74_code (3 : Nat) (Option.some (Jvm.ClassFile.FieldType.object "java/util/TreeMap$Entry"))) ∈ lw_all := lw_g (lw_at lw_m5 75 rfl) rfl
theorem q1771 : (Jvm.Cond.castable "java/util/TreeMap" "java/util/NavigableMap") ∈ lw_tbl := lw_at lw_m7 231 rfl
theorem q1772 : (Jvm.Cond.selects "java/util/TreeMap" ({ cls := "java/util/Map", name := "size", desc := "()I" } : Jvm.MethodName) ({ cls := "java/util/TreeMap", name := "size", desc := "()I" } : Jvm.MethodName)) ∈ lw_all := lw_g (lw_at lw_m7 232 rfl) rfl
theorem q1773 : (Jvm.Cond.unhidden "java/util/TreeMap" "size" "()I") ∈ lw_tbl := lw_at lw_m7 233 rfl
theorem q1774 : (Jvm.Cond.publicMethod ({ cls := "java/util/TreeMap", name := "size", desc := "()I" } : Jvm.MethodName)) ∈ lw_tbl := lw_at lw_m7 234 rfl
theorem q1880 : (Jvm.Cond.instanceMethod ({ cls := "java/util/TreeMap", name := "values", desc := "()Ljava/util/Collection;" } : Jvm.MethodName)) ∈ lw_all := lw_g (lw_at lw_m8 100 rfl) rfl
theorem q1881 : (Jvm.Cond.selects "java/util/TreeMap" ({ cls := "java/util/TreeMap", name := "values", desc := "()Ljava/util/Collection;" } : Jvm.MethodName) ({ cls := "java/util/TreeMap", name := "values", desc := "()Ljava/util/Collection;" } : Jvm.MethodName)) ∈ lw_all := lw_g (lw_at lw_m8 101 rfl) rfl
theorem q1882 : (Jvm.Cond.code ({ cls := "java/util/TreeMap", name := "values", desc := "()Ljava/util/Collection;" } : Jvm.MethodName) prog_90_method_52_code (2 : Nat) (Option.some (Jvm.ClassFile.FieldType.object "java/util/Collection"))) ∈ lw_all := lw_g (lw_at lw_m8 102 rfl) rfl
theorem q1883 : (Jvm.Cond.classLink "java/util/TreeMap" (237 : Nat) "java/util/TreeMap$Values") ∈ lw_all := lw_g (lw_at lw_m8 103 rfl) rfl
theorem q1885 : (Jvm.Cond.methodLink "java/util/TreeMap" (239 : Nat) ({ cls := "java/util/TreeMap$Values", name := "<init>", desc := "(Ljava/util/TreeMap;)V" } : Jvm.MethodName)) ∈ lw_all := lw_g (lw_at lw_m8 105 rfl) rfl
theorem q1940 : (Jvm.Cond.instanceMethod ({ cls := "java/util/TreeMap", name := "keyIterator", desc := "()Ljava/util/Iterator;" } : Jvm.MethodName)) ∈ lw_all := lw_g (lw_at lw_m8 160 rfl) rfl
theorem q1941 : (Jvm.Cond.selects "java/util/TreeMap" ({ cls := "java/util/TreeMap", name := "keyIterator", desc := "()Ljava/util/Iterator;" } : Jvm.MethodName) ({ cls := "java/util/TreeMap", name := "keyIterator", desc := "()Ljava/util/Iterator;" } : Jvm.MethodName)) ∈ lw_all := lw_g (lw_at lw_m8 161 rfl) rfl
theorem q1942 : (Jvm.Cond.code ({ cls := "java/util/TreeMap", name := "keyIterator", desc := "()Ljava/util/Iterator;" } : Jvm.MethodName) prog_90_method_65_code (1 : Nat) (Option.some (Jvm.ClassFile.FieldType.object "java/util/Iterator"))) ∈ lw_all := lw_g (lw_at lw_m8 162 rfl) rfl
theorem q1943 : (Jvm.Cond.classLink "java/util/TreeMap" (269 : Nat) "java/util/TreeMap$KeyIterator") ∈ lw_all := lw_g (lw_at lw_m8 163 rfl) rfl
theorem q1945 : (Jvm.Cond.methodLink "java/util/TreeMap" (54 : Nat) ({ cls := "java/util/TreeMap", name := "getFirstEntry", desc := "()Ljava/util/TreeMap$Entry;" } : Jvm.MethodName)) ∈ lw_all := lw_g (lw_at lw_m8 165 rfl) rfl
theorem q1946 : (Jvm.Cond.instanceMethod ({ cls := "java/util/TreeMap", name := "getFirstEntry", desc := "()Ljava/util/TreeMap$Entry;" } : Jvm.MethodName)) ∈ lw_all := lw_g (lw_at lw_m8 166 rfl) rfl
theorem q1947 : (Jvm.Cond.selects "java/util/TreeMap" ({ cls := "java/util/TreeMap", name := "getFirstEntry", desc := "()Ljava/util/TreeMap$Entry;" } : Jvm.MethodName) ({ cls := "java/util/TreeMap", name := "getFirstEntry", desc := "()Ljava/util/TreeMap$Entry;" } : Jvm.MethodName)) ∈ lw_all := lw_g (lw_at lw_m8 167 rfl) rfl
theorem q1948 : (Jvm.Cond.code ({ cls := "java/util/TreeMap", name := "getFirstEntry", desc := "()Ljava/util/TreeMap$Entry;" } : Jvm.MethodName) prog_90_method_72_code (2 : Nat) (Option.some (Jvm.ClassFile.FieldType.object "java/util/TreeMap$Entry"))) ∈ lw_all := lw_g (lw_at lw_m8 168 rfl) rfl
theorem q1949 : (Jvm.Cond.methodLink "java/util/TreeMap" (271 : Nat) ({ cls := "java/util/TreeMap$KeyIterator", name := "<init>", desc := "(Ljava/util/TreeMap;Ljava/util/TreeMap$Entry;)V" } : Jvm.MethodName)) ∈ lw_all := lw_g (lw_at lw_m8 169 rfl) rfl
theorem q2001 : (Jvm.Cond.selects "java/util/TreeMap" ({ cls := "java/util/NavigableMap", name := "navigableKeySet", desc := "()Ljava/util/NavigableSet;" } : Jvm.MethodName) ({ cls := "java/util/TreeMap", name := "navigableKeySet", desc := "()Ljava/util/NavigableSet;" } : Jvm.MethodName)) ∈ lw_all := lw_g (lw_at lw_m8 221 rfl) rfl
theorem q2002 : (Jvm.Cond.unhidden "java/util/TreeMap" "navigableKeySet" "()Ljava/util/NavigableSet;") ∈ lw_tbl := lw_at lw_m8 222 rfl
theorem q2003 : (Jvm.Cond.instanceMethod ({ cls := "java/util/TreeMap", name := "navigableKeySet", desc := "()Ljava/util/NavigableSet;" } : Jvm.MethodName)) ∈ lw_all := lw_g (lw_at lw_m8 223 rfl) rfl
theorem q2004 : (Jvm.Cond.publicMethod ({ cls := "java/util/TreeMap", name := "navigableKeySet", desc := "()Ljava/util/NavigableSet;" } : Jvm.MethodName)) ∈ lw_tbl := lw_at lw_m8 224 rfl
theorem q2005 : (Jvm.Cond.code ({ cls := "java/util/TreeMap", name := "navigableKeySet", desc := "()Ljava/util/NavigableSet;" } : Jvm.MethodName) prog_90_method_50_code (2 : Nat) (Option.some (Jvm.ClassFile.FieldType.object "java/util/NavigableSet"))) ∈ lw_all := lw_g (lw_at lw_m8 225 rfl) rfl
theorem q2006 : (Jvm.Cond.classLink "java/util/TreeMap" (222 : Nat) "java/util/TreeMap$KeySet") ∈ lw_all := lw_g (lw_at lw_m8 226 rfl) rfl
theorem q2008 : (Jvm.Cond.methodLink "java/util/TreeMap" (224 : Nat) ({ cls := "java/util/TreeMap$KeySet", name := "<init>", desc := "(Ljava/util/NavigableMap;)V" } : Jvm.MethodName)) ∈ lw_all := lw_g (lw_at lw_m8 228 rfl) rfl
theorem q2098 : (Jvm.Cond.selects "java/util/TreeMap" ({ cls := "java/util/Map", name := "put", desc := "(Ljava/lang/Object;Ljava/lang/Object;)Ljava/lang/Object;" } : Jvm.MethodName) ({ cls := "java/util/TreeMap", name := "put", desc := "(Ljava/lang/Object;Ljava/lang/Object;)Ljava/lang/Object;" } : Jvm.MethodName)) ∈ lw_all := lw_g (lw_at lw_m9 78 rfl) rfl
theorem q2099 : (Jvm.Cond.unhidden "java/util/TreeMap" "put" "(Ljava/lang/Object;Ljava/lang/Object;)Ljava/lang/Object;") ∈ lw_tbl := lw_at lw_m9 79 rfl
theorem q2100 : (Jvm.Cond.instanceMethod ({ cls := "java/util/TreeMap", name := "put", desc := "(Ljava/lang/Object;Ljava/lang/Object;)Ljava/lang/Object;" } : Jvm.MethodName)) ∈ lw_all := lw_g (lw_at lw_m9 80 rfl) rfl
theorem q2101 : (Jvm.Cond.publicMethod ({ cls := "java/util/TreeMap", name := "put", desc := "(Ljava/lang/Object;Ljava/lang/Object;)Ljava/lang/Object;" } : Jvm.MethodName)) ∈ lw_tbl := lw_at lw_m9 81 rfl
theorem q2102 : (Jvm.Cond.code ({ cls := "java/util/TreeMap", name := "put", desc := "(Ljava/lang/Object;Ljava/lang/Object;)Ljava/lang/Object;" } : Jvm.MethodName) prog_90_method_21_code (3 : Nat) (Option.some (Jvm.ClassFile.FieldType.object "java/lang/Object"))) ∈ lw_all := lw_g (lw_at lw_m9 82 rfl) rfl
theorem q2103 : (Jvm.Cond.methodLink "java/util/TreeMap" (127 : Nat) ({ cls := "java/util/TreeMap", name := "put", desc := "(Ljava/lang/Object;Ljava/lang/Object;Z)Ljava/lang/Object;" } : Jvm.MethodName)) ∈ lw_all := lw_g (lw_at lw_m9 83 rfl) rfl
theorem q2104 : (Jvm.Cond.privateMethod ({ cls := "java/util/TreeMap", name := "put", desc := "(Ljava/lang/Object;Ljava/lang/Object;Z)Ljava/lang/Object;" } : Jvm.MethodName)) ∈ lw_tbl := lw_at lw_m9 84 rfl
theorem q2105 : (Jvm.Cond.instanceMethod ({ cls := "java/util/TreeMap", name := "put", desc := "(Ljava/lang/Object;Ljava/lang/Object;Z)Ljava/lang/Object;" } : Jvm.MethodName)) ∈ lw_all := lw_g (lw_at lw_m9 85 rfl) rfl
theorem q2106 : (Jvm.Cond.code ({ cls := "java/util/TreeMap", name := "put", desc := "(Ljava/lang/Object;Ljava/lang/Object;Z)Ljava/lang/Object;" } : Jvm.MethodName) prog_90_method_31_code (10 : Nat) (Option.some (Jvm.ClassFile.FieldType.object "java/lang/Object"))) ∈ lw_all := lw_g (lw_at lw_m9 86 rfl) rfl
theorem q2107 : (Jvm.Cond.methodLink "java/util/TreeMap" (135 : Nat) ({ cls := "java/util/TreeMap", name := "addEntryToEmptyMap", desc := "(Ljava/lang/Object;Ljava/lang/Object;)V" } : Jvm.MethodName)) ∈ lw_all := lw_g (lw_at lw_m9 87 rfl) rfl
theorem q2108 : (Jvm.Cond.privateMethod ({ cls := "java/util/TreeMap", name := "addEntryToEmptyMap", desc := "(Ljava/lang/Object;Ljava/lang/Object;)V" } : Jvm.MethodName)) ∈ lw_tbl := lw_at lw_m9 88 rfl
theorem q2109 : (Jvm.Cond.instanceMethod ({ cls := "java/util/TreeMap", name := "addEntryToEmptyMap", desc := "(Ljava/lang/Object;Ljava/lang/Object;)V" } : Jvm.MethodName)) ∈ lw_all := lw_g (lw_at lw_m9 89 rfl) rfl
theorem q2110 : (Jvm.Cond.code ({ cls := "java/util/TreeMap", name := "addEntryToEmptyMap", desc := "(Ljava/lang/Object;Ljava/lang/Object;)V" } : Jvm.MethodName) prog_90_method_30_code (3 : Nat) (Option.none : Option Jvm.ClassFile.FieldType)) ∈ lw_all := lw_g (lw_at lw_m9 90 rfl) rfl
theorem q2111 : (Jvm.Cond.methodLink "java/util/TreeMap" (123 : Nat) ({ cls := "java/util/TreeMap", name := "compare", desc := "(Ljava/lang/Object;Ljava/lang/Object;)I" } : Jvm.MethodName)) ∈ lw_all := lw_g (lw_at lw_m9 91 rfl) rfl
theorem q2112 : (Jvm.Cond.instanceMethod ({ cls := "java/util/TreeMap", name := "compare", desc := "(Ljava/lang/Object;Ljava/lang/Object;)I" } : Jvm.MethodName)) ∈ lw_all := lw_g (lw_at lw_m9 92 rfl) rfl
theorem q2113 : (Jvm.Cond.selects "java/util/TreeMap" ({ cls := "java/util/TreeMap", name := "compare", desc := "(Ljava/lang/Object;Ljava/lang/Object;)I" } : Jvm.MethodName) ({ cls := "java/util/TreeMap", name := "compare", desc := "(Ljava/lang/Object;Ljava/lang/Object;)I" } : Jvm.MethodName)) ∈ lw_all := lw_g (lw_at lw_m9 93 rfl) rfl
theorem q2114 : (Jvm.Cond.code ({ cls := "java/util/TreeMap", name := "compare", desc := "(Ljava/lang/Object;Ljava/lang/Object;)I" } : Jvm.MethodName) prog_90_method_67_code (3 : Nat) (Option.some Jvm.ClassFile.FieldType.int)) ∈ lw_all := lw_g (lw_at lw_m9 94 rfl) rfl
theorem q2115 : (Jvm.Cond.classLink "java/util/TreeMap" (99 : Nat) "java/lang/Comparable") ∈ lw_all := lw_g (lw_at lw_m9 95 rfl) rfl
theorem q2116 : (Jvm.Cond.interfaceEntry "java/util/TreeMap" (107 : Nat)) ∈ lw_tbl := lw_at lw_m9 96 rfl
theorem q2117 : (Jvm.Cond.methodLink "java/util/TreeMap" (107 : Nat) ({ cls := "java/lang/Comparable", name := "compareTo", desc := "(Ljava/lang/Object;)I" } : Jvm.MethodName)) ∈ lw_all := lw_g (lw_at lw_m9 97 rfl) rfl
theorem q2118 : (Jvm.Cond.interfaceEntry "java/util/TreeMap" (117 : Nat)) ∈ lw_tbl := lw_at lw_m9 98 rfl
theorem q2119 : (Jvm.Cond.methodLink "java/util/TreeMap" (117 : Nat) ({ cls := "java/util/Comparator", name := "compare", desc := "(Ljava/lang/Object;Ljava/lang/Object;)I" } : Jvm.MethodName)) ∈ lw_all := lw_g (lw_at lw_m9 99 rfl) rfl
theorem q2120 : (Jvm.Cond.classLink "java/util/TreeMap" (59 : Nat) "java/util/TreeMap$Entry") ∈ lw_all := lw_g (lw_at lw_m9 100 rfl) rfl
theorem q2122 : (Jvm.Cond.methodLink "java/util/TreeMap" (167 : Nat) ({ cls := "java/util/TreeMap$Entry", name := "<init>", desc := "(Ljava/lang/Object;Ljava/lang/Object;Ljava/util/TreeMap$Entry;)V" } : Jvm.MethodName)) ∈ lw_all := lw_g (lw_at lw_m9 102 rfl) rfl
theorem q2128 : (Jvm.Cond.fieldLink "java/util/TreeMap" (105 : Nat) "java/util/TreeMap$Entry" "key" "Ljava/lang/Object;") ∈ lw_all := lw_g (lw_at lw_m9 108 rfl) rfl
theorem q2131 : (Jvm.Cond.fieldLink "java/util/TreeMap" (58 : Nat) "java/util/TreeMap$Entry" "value" "Ljava/lang/Object;") ∈ lw_all := lw_g (lw_at lw_m9 111 rfl) rfl
theorem q2132 : (Jvm.Cond.fieldLink "java/util/TreeMap" (111 : Nat) "java/util/TreeMap$Entry" "left" "Ljava/util/TreeMap$Entry;") ∈ lw_all := lw_g (lw_at lw_m9 112 rfl) rfl
theorem q2133 : (Jvm.Cond.fieldLink "java/util/TreeMap" (114 : Nat) "java/util/TreeMap$Entry" "right" "Ljava/util/TreeMap$Entry;") ∈ lw_all := lw_g (lw_at lw_m9 113 rfl) rfl
theorem q2135 : (Jvm.Cond.fieldLink "java/util/TreeMap" (124 : Nat) "java/util/TreeMap$Entry" "parent" "Ljava/util/TreeMap$Entry;") ∈ lw_all := lw_g (lw_at lw_m9 115 rfl) rfl
theorem q2137 : (Jvm.Cond.fieldLink "java/util/TreeMap" (290 : Nat) "java/util/TreeMap$Entry" "color" "Z") ∈ lw_all := lw_g (lw_at lw_m9 117 rfl) rfl
theorem q2151 : (Jvm.Cond.methodLink "java/util/TreeMap" (95 : Nat) ({ cls := "java/util/Objects", name := "requireNonNull", desc := "(Ljava/lang/Object;)Ljava/lang/Object;" } : Jvm.MethodName)) ∈ lw_all := lw_g (lw_at lw_m9 131 rfl) rfl
theorem q2154 : (Jvm.Cond.methodLink "java/util/TreeMap" (139 : Nat) ({ cls := "java/util/TreeMap", name := "addEntry", desc := "(Ljava/lang/Object;Ljava/lang/Object;Ljava/util/TreeMap$Entry;Z)V" } : Jvm.MethodName)) ∈ lw_all := lw_g (lw_at lw_m9 134 rfl) rfl
theorem q2155 : (Jvm.Cond.privateMethod ({ cls := "java/util/TreeMap", name := "addEntry", desc := "(Ljava/lang/Object;Ljava/lang/Object;Ljava/util/TreeMap$Entry;Z)V" } : Jvm.MethodName)) ∈ lw_tbl := lw_at lw_m9 135 rfl
theorem q2156 : (Jvm.Cond.instanceMethod ({ cls := "java/util/TreeMap", name := "addEntry", desc := "(Ljava/lang/Object;Ljava/lang/Object;Ljava/util/TreeMap$Entry;Z)V" } : Jvm.MethodName)) ∈ lw_all := lw_g (lw_at lw_m9 136 rfl) rfl
theorem q2157 : (Jvm.Cond.code ({ cls := "java/util/TreeMap", name := "addEntry", desc := "(Ljava/lang/Object;Ljava/lang/Object;Ljava/util/TreeMap$Entry;Z)V" } : Jvm.MethodName) prog_90_method_29_code (6 : Nat) (Option.none : Option Jvm.ClassFile.FieldType)) ∈ lw_all := lw_g (lw_at lw_m9 137 rfl) rfl
theorem q2158 : (Jvm.Cond.methodLink "java/util/TreeMap" (170 : Nat) ({ cls := "java/util/TreeMap", name := "fixAfterInsertion", desc := "(Ljava/util/TreeMap$Entry;)V" } : Jvm.MethodName)) ∈ lw_all := lw_g (lw_at lw_m9 138 rfl) rfl
theorem q2159 : (Jvm.Cond.privateMethod ({ cls := "java/util/TreeMap", name := "fixAfterInsertion", desc := "(Ljava/util/TreeMap$Entry;)V" } : Jvm.MethodName)) ∈ lw_tbl := lw_at lw_m9 139 rfl
theorem q2160 : (Jvm.Cond.instanceMethod ({ cls := "java/util/TreeMap", name := "fixAfterInsertion", desc := "(Ljava/util/TreeMap$Entry;)V" } : Jvm.MethodName)) ∈ lw_all := lw_g (lw_at lw_m9 140 rfl) rfl
theorem q2161 : (Jvm.Cond.code ({ cls := "java/util/TreeMap", name := "fixAfterInsertion", desc := "(Ljava/util/TreeMap$Entry;)V" } : Jvm.MethodName) prog_90_method_83_code (3 : Nat) (Option.none : Option Jvm.ClassFile.FieldType)) ∈ lw_all := lw_g (lw_at lw_m9 141 rfl) rfl
theorem q2162 : (Jvm.Cond.methodLink "java/util/TreeMap" (294 : Nat) ({ cls := "java/util/TreeMap", name := "parentOf", desc := "(Ljava/util/TreeMap$Entry;)Ljava/util/TreeMap$Entry;" } : Jvm.MethodName)) ∈ lw_all := lw_g (lw_at lw_m9 142 rfl) rfl
theorem q2163 : (Jvm.Cond.static ({ cls := "java/util/TreeMap", name := "parentOf", desc := "(Ljava/util/TreeMap$Entry;)Ljava/util/TreeMap$Entry;" } : Jvm.MethodName)) ∈ lw_all := lw_g (lw_at lw_m9 143 rfl) rfl
theorem q2164 : (Jvm.Cond.code ({ cls := "java/util/TreeMap", name := "parentOf", desc := "(Ljava/util/TreeMap$Entry;)Ljava/util/TreeMap$Entry;" } : Jvm.MethodName) prog_90_method_77_code (1 : Nat) (Option.some (Jvm.ClassFile.FieldType.object "java/util/TreeMap$Entry"))) ∈ lw_all := lw_g (lw_at lw_m9 144 rfl) rfl
theorem q2165 : (Jvm.Cond.methodLink "java/util/TreeMap" (297 : Nat) ({ cls := "java/util/TreeMap", name := "leftOf", desc := "(Ljava/util/TreeMap$Entry;)Ljava/util/TreeMap$Entry;" } : Jvm.MethodName)) ∈ lw_all := lw_g (lw_at lw_m9 145 rfl) rfl
theorem q2166 : (Jvm.Cond.static ({ cls := "java/util/TreeMap", name := "leftOf", desc := "(Ljava/util/TreeMap$Entry;)Ljava/util/TreeMap$Entry;" } : Jvm.MethodName)) ∈ lw_all := lw_g (lw_at lw_m9 146 rfl) rfl
theorem q2167 : (Jvm.Cond.code ({ cls := "java/util/TreeMap", name := "leftOf", desc := "(Ljava/util/TreeMap$Entry;)Ljava/util/TreeMap$Entry;" } : Jvm.MethodName) prog_90_method_79_code (1 : Nat) (Option.some (Jvm.ClassFile.FieldType.object "java/util/TreeMap$Entry"))) ∈ lw_all := lw_g (lw_at lw_m9 147 rfl) rfl
theorem q2168 : (Jvm.Cond.methodLink "java/util/TreeMap" (300 : Nat) ({ cls := "java/util/TreeMap", name := "rightOf", desc := "(Ljava/util/TreeMap$Entry;)Ljava/util/TreeMap$Entry;" } : Jvm.MethodName)) ∈ lw_all := lw_g (lw_at lw_m9 148 rfl) rfl
theorem q2169 : (Jvm.Cond.static ({ cls := "java/util/TreeMap", name := "rightOf", desc := "(Ljava/util/TreeMap$Entry;)Ljava/util/TreeMap$Entry;" } : Jvm.MethodName)) ∈ lw_all := lw_g (lw_at lw_m9 149 rfl) rfl
theorem q2170 : (Jvm.Cond.code ({ cls := "java/util/TreeMap", name := "rightOf", desc := "(Ljava/util/TreeMap$Entry;)Ljava/util/TreeMap$Entry;" } : Jvm.MethodName) prog_90_method_80_code (1 : Nat) (Option.some (Jvm.ClassFile.FieldType.object "java/util/TreeMap$Entry"))) ∈ lw_all := lw_g (lw_at lw_m9 150 rfl) rfl
theorem q2171 : (Jvm.Cond.methodLink "java/util/TreeMap" (303 : Nat) ({ cls := "java/util/TreeMap", name := "colorOf", desc := "(Ljava/util/TreeMap$Entry;)Z" } : Jvm.MethodName)) ∈ lw_all := lw_g (lw_at lw_m9 151 rfl) rfl
theorem q2172 : (Jvm.Cond.static ({ cls := "java/util/TreeMap", name := "colorOf", desc := "(Ljava/util/TreeMap$Entry;)Z" } : Jvm.MethodName)) ∈ lw_all := lw_g (lw_at lw_m9 152 rfl) rfl
theorem q2173 : (Jvm.Cond.code ({ cls := "java/util/TreeMap", name := "colorOf", desc := "(Ljava/util/TreeMap$Entry;)Z" } : Jvm.MethodName) prog_90_method_76_code (1 : Nat) (Option.some Jvm.ClassFile.FieldType.boolean)) ∈ lw_all := lw_g (lw_at lw_m9 153 rfl) rfl
theorem q2174 : (Jvm.Cond.methodLink "java/util/TreeMap" (307 : Nat) ({ cls := "java/util/TreeMap", name := "setColor", desc := "(Ljava/util/TreeMap$Entry;Z)V" } : Jvm.MethodName)) ∈ lw_all := lw_g (lw_at lw_m9 154 rfl) rfl
theorem q2175 : (Jvm.Cond.static ({ cls := "java/util/TreeMap", name := "setColor", desc := "(Ljava/util/TreeMap$Entry;Z)V" } : Jvm.MethodName)) ∈ lw_all := lw_g (lw_at lw_m9 155 rfl) rfl
theorem q2176 : (Jvm.Cond.code ({ cls := "java/util/TreeMap", name := "setColor", desc := "(Ljava/util/TreeMap$Entry;Z)V" } : Jvm.MethodName) prog_90_method_78_code (2 : Nat) (Option.none : Option Jvm.ClassFile.FieldType)) ∈ lw_all := lw_g (lw_at lw_m9 156 rfl) rfl
theorem q2177 : (Jvm.Cond.methodLink "java/util/TreeMap" (311 : Nat) ({ cls := "java/util/TreeMap", name := "rotateLeft", desc := "(Ljava/util/TreeMap$Entry;)V" } : Jvm.MethodName)) ∈ lw_all := lw_g (lw_at lw_m9 157 rfl) rfl
theorem q2178 : (Jvm.Cond.privateMethod ({ cls := "java/util/TreeMap", name := "rotateLeft", desc := "(Ljava/util/TreeMap$Entry;)V" } : Jvm.MethodName)) ∈ lw_tbl := lw_at lw_m9 158 rfl
theorem q2179 : (Jvm.Cond.instanceMethod ({ cls := "java/util/TreeMap", name := "rotateLeft", desc := "(Ljava/util/TreeMap$Entry;)V" } : Jvm.MethodName)) ∈ lw_all := lw_g (lw_at lw_m9 159 rfl) rfl
theorem q2180 : (Jvm.Cond.code ({ cls := "java/util/TreeMap", name := "rotateLeft", desc := "(Ljava/util/TreeMap$Entry;)V" } : Jvm.MethodName) prog_90_method_81_code (3 : Nat) (Option.none : Option Jvm.ClassFile.FieldType)) ∈ lw_all := lw_g (lw_at lw_m9 160 rfl) rfl
theorem q2181 : (Jvm.Cond.methodLink "java/util/TreeMap" (314 : Nat) ({ cls := "java/util/TreeMap", name := "rotateRight", desc := "(Ljava/util/TreeMap$Entry;)V" } : Jvm.MethodName)) ∈ lw_all := lw_g (lw_at lw_m9 161 rfl) rfl
theorem q2182 : (Jvm.Cond.privateMethod ({ cls := "java/util/TreeMap", name := "rotateRight", desc := "(Ljava/util/TreeMap$Entry;)V" } : Jvm.MethodName)) ∈ lw_tbl := lw_at lw_m9 162 rfl
theorem q2183 : (Jvm.Cond.instanceMethod ({ cls := "java/util/TreeMap", name := "rotateRight", desc := "(Ljava/util/TreeMap$Entry;)V" } : Jvm.MethodName)) ∈ lw_all := lw_g (lw_at lw_m9 163 rfl) rfl
theorem q2184 : (Jvm.Cond.code ({ cls := "java/util/TreeMap", name := "rotateRight", desc := "(Ljava/util/TreeMap$Entry;)V" } : Jvm.MethodName) prog_90_method_82_code (3 : Nat) (Option.none : Option Jvm.ClassFile.FieldType)) ∈ lw_all := lw_g (lw_at lw_m9 164 rfl) rfl
theorem q2192 : (Jvm.Cond.selects "java/util/TreeMap" ({ cls := "java/util/Map", name := "remove", desc := "(Ljava/lang/Object;)Ljava/lang/Object;" } : Jvm.MethodName) ({ cls := "java/util/TreeMap", name := "remove", desc := "(Ljava/lang/Object;)Ljava/lang/Object;" } : Jvm.MethodName)) ∈ lw_all := lw_g (lw_at lw_m9 172 rfl) rfl
theorem q2193 : (Jvm.Cond.unhidden "java/util/TreeMap" "remove" "(Ljava/lang/Object;)Ljava/lang/Object;") ∈ lw_tbl := lw_at lw_m9 173 rfl
theorem q2194 : (Jvm.Cond.instanceMethod ({ cls := "java/util/TreeMap", name := "remove", desc := "(Ljava/lang/Object;)Ljava/lang/Object;" } : Jvm.MethodName)) ∈ lw_all := lw_g (lw_at lw_m9 174 rfl) rfl
theorem q2195 : (Jvm.Cond.publicMethod ({ cls := "java/util/TreeMap", name := "remove", desc := "(Ljava/lang/Object;)Ljava/lang/Object;" } : Jvm.MethodName)) ∈ lw_tbl := lw_at lw_m9 175 rfl
theorem q2196 : (Jvm.Cond.code ({ cls := "java/util/TreeMap", name := "remove", desc := "(Ljava/lang/Object;)Ljava/lang/Object;" } : Jvm.MethodName) prog_90_method_34_code (4 : Nat) (Option.some (Jvm.ClassFile.FieldType.object "java/lang/Object"))) ∈ lw_all := lw_g (lw_at lw_m9 176 rfl) rfl
theorem q2197 : (Jvm.Cond.methodLink "java/util/TreeMap" (50 : Nat) ({ cls := "java/util/TreeMap", name := "getEntry", desc := "(Ljava/lang/Object;)Ljava/util/TreeMap$Entry;" } : Jvm.MethodName)) ∈ lw_all := lw_g (lw_at lw_m9 177 rfl) rfl
theorem q2198 : (Jvm.Cond.instanceMethod ({ cls := "java/util/TreeMap", name := "getEntry", desc := "(Ljava/lang/Object;)Ljava/util/TreeMap$Entry;" } : Jvm.MethodName)) ∈ lw_all := lw_g (lw_at lw_m9 178 rfl) rfl
theorem q2199 : (Jvm.Cond.selects "java/util/TreeMap" ({ cls := "java/util/TreeMap", name := "getEntry", desc := "(Ljava/lang/Object;)Ljava/util/TreeMap$Entry;" } : Jvm.MethodName) ({ cls := "java/util/TreeMap", name := "getEntry", desc := "(Ljava/lang/Object;)Ljava/util/TreeMap$Entry;" } : Jvm.MethodName)) ∈ lw_all := lw_g (lw_at lw_m9 179 rfl) rfl
theorem q2200 : (Jvm.Cond.code ({ cls := "java/util/TreeMap", name := "getEntry", desc := "(Ljava/lang/Object;)Ljava/util/TreeMap$Entry;" } : Jvm.MethodName) prog_90_method_15_code (5 : Nat) (Option.some (Jvm.ClassFile.FieldType.object "java/util/TreeMap$Entry"))) ∈ lw_all := lw_g (lw_at lw_m9 180 rfl) rfl
theorem q2201 : (Jvm.Cond.methodLink "java/util/TreeMap" (92 : Nat) ({ cls := "java/util/TreeMap", name := "getEntryUsingComparator", desc := "(Ljava/lang/Object;)Ljava/util/TreeMap$Entry;" } : Jvm.MethodName)) ∈ lw_all := lw_g (lw_at lw_m9 181 rfl) rfl
theorem q2202 : (Jvm.Cond.instanceMethod ({ cls := "java/util/TreeMap", name := "getEntryUsingComparator", desc := "(Ljava/lang/Object;)Ljava/util/TreeMap$Entry;" } : Jvm.MethodName)) ∈ lw_all := lw_g (lw_at lw_m9 182 rfl) rfl
theorem q2203 : (Jvm.Cond.selects "java/util/TreeMap" ({ cls := "java/util/TreeMap", name := "getEntryUsingComparator", desc := "(Ljava/lang/Object;)Ljava/util/TreeMap$Entry;" } : Jvm.MethodName) ({ cls := "java/util/TreeMap", name := "getEntryUsingComparator", desc := "(Ljava/lang/Object;)Ljava/util/TreeMap$Entry;" } : Jvm.MethodName)) ∈ lw_all := lw_g (lw_at lw_m9 183 rfl) rfl
theorem q2204 : (Jvm.Cond.code ({ cls := "java/util/TreeMap", name := "getEntryUsingComparator", desc := "(Ljava/lang/Object;)Ljava/util/TreeMap$Entry;" } : Jvm.MethodName) prog_90_method_16_code (6 : Nat) (Option.some (Jvm.ClassFile.FieldType.object "java/util/TreeMap$Entry"))) ∈ lw_all := lw_g (lw_at lw_m9 184 rfl) rfl
theorem q2205 : (Jvm.Cond.methodLink "java/util/TreeMap" (174 : Nat) ({ cls := "java/util/TreeMap", name := "deleteEntry", desc := "(Ljava/util/TreeMap$Entry;)V" } : Jvm.MethodName)) ∈ lw_all := lw_g (lw_at lw_m9 185 rfl) rfl
theorem q2206 : (Jvm.Cond.privateMethod ({ cls := "java/util/TreeMap", name := "deleteEntry", desc := "(Ljava/util/TreeMap$Entry;)V" } : Jvm.MethodName)) ∈ lw_tbl := lw_at lw_m9 186 rfl
theorem q2207 : (Jvm.Cond.instanceMethod ({ cls := "java/util/TreeMap", name := "deleteEntry", desc := "(Ljava/util/TreeMap$Entry;)V" } : Jvm.MethodName)) ∈ lw_all := lw_g (lw_at lw_m9 187 rfl) rfl
theorem q2208 : (Jvm.Cond.code ({ cls := "java/util/TreeMap", name := "deleteEntry", desc := "(Ljava/util/TreeMap$Entry;)V" } : Jvm.MethodName) prog_90_method_84_code (3 : Nat) (Option.none : Option Jvm.ClassFile.FieldType)) ∈ lw_all := lw_g (lw_at lw_m9 188 rfl) rfl
theorem q2209 : (Jvm.Cond.methodLink "java/util/TreeMap" (68 : Nat) ({ cls := "java/util/TreeMap", name := "successor", desc := "(Ljava/util/TreeMap$Entry;)Ljava/util/TreeMap$Entry;" } : Jvm.MethodName)) ∈ lw_all := lw_g (lw_at lw_m9 189 rfl) rfl
theorem q2210 : (Jvm.Cond.methodLink "java/util/TreeMap" (317 : Nat) ({ cls := "java/util/TreeMap", name := "fixAfterDeletion", desc := "(Ljava/util/TreeMap$Entry;)V" } : Jvm.MethodName)) ∈ lw_all := lw_g (lw_at lw_m9 190 rfl) rfl
theorem q2211 : (Jvm.Cond.privateMethod ({ cls := "java/util/TreeMap", name := "fixAfterDeletion", desc := "(Ljava/util/TreeMap$Entry;)V" } : Jvm.MethodName)) ∈ lw_tbl := lw_at lw_m9 191 rfl
theorem q2212 : (Jvm.Cond.instanceMethod ({ cls := "java/util/TreeMap", name := "fixAfterDeletion", desc := "(Ljava/util/TreeMap$Entry;)V" } : Jvm.MethodName)) ∈ lw_all := lw_g (lw_at lw_m9 192 rfl) rfl
theorem q2213 : (Jvm.Cond.code ({ cls := "java/util/TreeMap", name := "fixAfterDeletion", desc := "(Ljava/util/TreeMap$Entry;)V" } : Jvm.MethodName) prog_90_method_85_code (3 : Nat) (Option.none : Option Jvm.ClassFile.FieldType)) ∈ lw_all := lw_g (lw_at lw_m9 193 rfl) rfl
theorem q2221 : (Jvm.Cond.selects "java/util/TreeMap" ({ cls := "java/util/SortedMap", name := "firstKey", desc := "()Ljava/lang/Object;" } : Jvm.MethodName) ({ cls := "java/util/TreeMap", name := "firstKey", desc := "()Ljava/lang/Object;" } : Jvm.MethodName)) ∈ lw_all := lw_g (lw_at lw_m9 201 rfl) rfl
theorem q2222 : (Jvm.Cond.unhidden "java/util/TreeMap" "firstKey" "()Ljava/lang/Object;") ∈ lw_tbl := lw_at lw_m9 202 rfl
theorem q2223 : (Jvm.Cond.instanceMethod ({ cls := "java/util/TreeMap", name := "firstKey", desc := "()Ljava/lang/Object;" } : Jvm.MethodName)) ∈ lw_all := lw_g (lw_at lw_m9 203 rfl) rfl
theorem q2224 : (Jvm.Cond.publicMethod ({ cls := "java/util/TreeMap", name := "firstKey", desc := "()Ljava/lang/Object;" } : Jvm.MethodName)) ∈ lw_tbl := lw_at lw_m9 204 rfl
theorem q2225 : (Jvm.Cond.code ({ cls := "java/util/TreeMap", name := "firstKey", desc := "()Ljava/lang/Object;" } : Jvm.MethodName) prog_90_method_10_code (1 : Nat) (Option.some (Jvm.ClassFile.FieldType.object "java/lang/Object"))) ∈ lw_all := lw_g (lw_at lw_m9 205 rfl) rfl
theorem q2226 : (Jvm.Cond.methodLink "java/util/TreeMap" (72 : Nat) ({ cls := "java/util/TreeMap", name := "key", desc := "(Ljava/util/TreeMap$Entry;)Ljava/lang/Object;" } : Jvm.MethodName)) ∈ lw_all := lw_g (lw_at lw_m9 206 rfl) rfl
theorem q2227 : (Jvm.Cond.static ({ cls := "java/util/TreeMap", name := "key", desc := "(Ljava/util/TreeMap$Entry;)Ljava/lang/Object;" } : Jvm.MethodName)) ∈ lw_all := lw_g (lw_at lw_m9 207 rfl) rfl
theorem q2228 : (Jvm.Cond.code ({ cls := "java/util/TreeMap", name := "key", desc := "(Ljava/util/TreeMap$Entry;)Ljava/lang/Object;" } : Jvm.MethodName) prog_90_method_71_code (1 : Nat) (Option.some (Jvm.ClassFile.FieldType.object "java/lang/Object"))) ∈ lw_all := lw_g (lw_at lw_m9 208 rfl) rfl
theorem q2229 : (Jvm.Cond.classLink "java/util/TreeMap" (287 : Nat) "java/util/NoSuchElementException") ∈ lw_all := lw_g (lw_at lw_m9 209 rfl) rfl
theorem q2230 : (Jvm.Cond.methodLink "java/util/TreeMap" (289 : Nat) ({ cls := "java/util/NoSuchElementException", name := "<init>", desc := "()V" } : Jvm.MethodName)) ∈ lw_all := lw_g (lw_at lw_m9 210 rfl) rfl
theorem q2535 : (Jvm.Cond.instanceMethod ({ cls := "java/util/TreeMap", name := "containsKey", desc := "(Ljava/lang/Object;)Z" } : Jvm.MethodName)) ∈ lw_all := lw_g (lw_at lw_m11 35 rfl) rfl
theorem q2536 : (Jvm.Cond.selects "java/util/TreeMap" ({ cls := "java/util/TreeMap", name := "containsKey", desc := "(Ljava/lang/Object;)Z" } : Jvm.MethodName) ({ cls := "java/util/TreeMap", name := "containsKey", desc := "(Ljava/lang/Object;)Z" } : Jvm.MethodName)) ∈ lw_all := lw_g (lw_at lw_m11 36 rfl) rfl
theorem q2537 : (Jvm.Cond.code ({ cls := "java/util/TreeMap", name := "containsKey", desc := "(Ljava/lang/Object;)Z" } : Jvm.MethodName) prog_90_method_6_code (2 : Nat) (Option.some Jvm.ClassFile.FieldType.boolean)) ∈ lw_all := lw_g (lw_at lw_m11 37 rfl) rfl
theorem q2540 : (Jvm.Cond.instanceMethod ({ cls := "java/util/TreeMap", name := "get", desc := "(Ljava/lang/Object;)Ljava/lang/Object;" } : Jvm.MethodName)) ∈ lw_all := lw_g (lw_at lw_m11 40 rfl) rfl
theorem q2541 : (Jvm.Cond.selects "java/util/TreeMap" ({ cls := "java/util/TreeMap", name := "get", desc := "(Ljava/lang/Object;)Ljava/lang/Object;" } : Jvm.MethodName) ({ cls := "java/util/TreeMap", name := "get", desc := "(Ljava/lang/Object;)Ljava/lang/Object;" } : Jvm.MethodName)) ∈ lw_all := lw_g (lw_at lw_m11 41 rfl) rfl
theorem q2542 : (Jvm.Cond.code ({ cls := "java/util/TreeMap", name := "get", desc := "(Ljava/lang/Object;)Ljava/lang/Object;" } : Jvm.MethodName) prog_90_method_8_code (3 : Nat) (Option.some (Jvm.ClassFile.FieldType.object "java/lang/Object"))) ∈ lw_all := lw_g (lw_at lw_m11 42 rfl) rfl
theorem q4222 : (Jvm.Cond.selects "java/util/TreeMap" ({ cls := "java/util/TreeMap", name := "put", desc := "(Ljava/lang/Object;Ljava/lang/Object;)Ljava/lang/Object;" } : Jvm.MethodName) ({ cls := "java/util/TreeMap", name := "put", desc := "(Ljava/lang/Object;Ljava/lang/Object;)Ljava/lang/Object;" } : Jvm.MethodName)) ∈ lw_all := lw_g (lw_at lw_m18 42 rfl) rfl
theorem q4223 : (Jvm.Cond.selects "java/util/TreeMap" ({ cls := "java/util/TreeMap", name := "remove", desc := "(Ljava/lang/Object;)Ljava/lang/Object;" } : Jvm.MethodName) ({ cls := "java/util/TreeMap", name := "remove", desc := "(Ljava/lang/Object;)Ljava/lang/Object;" } : Jvm.MethodName)) ∈ lw_all := lw_g (lw_at lw_m18 43 rfl) rfl
theorem q4244 : (Jvm.Cond.castable "java/util/TreeMap" "java/lang/Object") ∈ lw_tbl := lw_at lw_m18 64 rfl
theorem in_J10 : ∀ w ∈ wsJ100, w ∈ lw_all := lw_in wsJ100 [321, 323, 307, 309, 311, 313, 315, 317, 319] (by decide +kernel) (by decide +kernel)
