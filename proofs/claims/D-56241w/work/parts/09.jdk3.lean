/-! java/util/ArrayList$ListItr -/
set_option maxRecDepth 100000
def RJ28 : String := "java/util/ArrayList$ListItr"
def TJ28 : u_T := fun k => match k with
  | 0 => ("java/util/ArrayList$Itr", "cursor", "I", false)
  | 1 => ("java/util/ArrayList$Itr", "lastRet", "I", false)
  | 2 => ("java/util/ArrayList$Itr", "expectedModCount", "I", false)
  | 3 => ("java/util/ArrayList$Itr", "this$0", "Ljava/util/ArrayList;", true)
  | _ => ("java/util/ArrayList$ListItr", "this$0", "Ljava/util/ArrayList;", true)
def tyJ28 : Nat → FieldType := fun k => match k with
  | 0 => .int
  | 1 => .int
  | 2 => .int
  | 3 => .object "java/util/ArrayList"
  | _ => .object "java/util/ArrayList"
abbrev wsJ280 : List Cond := u_ws RJ28 TJ28 5
-- two fields of one name: no nmJ28
theorem tyJ28_ok : ∀ k, k < 5 → parseFieldDescriptor (TJ28 k).2.2.1 = some (tyJ28 k) := by decide +kernel
abbrev cJ28_init : ByteArray := prog_63_method_1_code
def yJ28_init : MethodName := ⟨RJ28, "<init>", "(Ljava/util/ArrayList;I)V"⟩
def dkwJ28_init_0 : List UInt8 := [42, 43, 181, 0, 1, 42, 43, 183, 0, 7, 42, 28, 181, 0, 13, 177]
abbrev dktJ28_init_0 : List UInt8 := dkwJ28_init_0 ++ []
theorem dksJ28_init_0 : cJ28_init.data.toList.drop 0 = dktJ28_init_0 := by decide +kernel
theorem dJ28_init_0 : decode cJ28_init 0 = .ok (.aload_n 0, 1) := dk_42 (dk_at dksJ28_init_0 0 rfl rfl)
theorem dJ28_init_1 : decode cJ28_init 1 = .ok (.aload_n 1, 1) := dk_43 (dk_at dksJ28_init_0 1 rfl rfl)
theorem dJ28_init_2 : decode cJ28_init 2 = .ok (.putfield 1, 3) := dk_181 0 1 (dk_at dksJ28_init_0 2 rfl rfl)
theorem dJ28_init_5 : decode cJ28_init 5 = .ok (.aload_n 0, 1) := dk_42 (dk_at dksJ28_init_0 5 rfl rfl)
theorem dJ28_init_6 : decode cJ28_init 6 = .ok (.aload_n 1, 1) := dk_43 (dk_at dksJ28_init_0 6 rfl rfl)
theorem dJ28_init_7 : decode cJ28_init 7 = .ok (.invokespecial 7, 3) := dk_183 0 7 (dk_at dksJ28_init_0 7 rfl rfl)
theorem dJ28_init_10 : decode cJ28_init 10 = .ok (.aload_n 0, 1) := dk_42 (dk_at dksJ28_init_0 10 rfl rfl)
theorem dJ28_init_11 : decode cJ28_init 11 = .ok (.iload_n 2, 1) := dk_28 (dk_at dksJ28_init_0 11 rfl rfl)
theorem dJ28_init_12 : decode cJ28_init 12 = .ok (.putfield 13, 3) := dk_181 0 13 (dk_at dksJ28_init_0 12 rfl rfl)
theorem dJ28_init_15 : decode cJ28_init 15 = .ok (.return_, 1) := dk_177 (dk_at dksJ28_init_0 15 rfl rfl)
theorem q136 : (Jvm.Cond.initialized "java/util/ArrayList$ListItr") ∈ lw_all := lw_g (lw_at lw_m1 36 rfl) rfl
theorem q837 : (Jvm.Cond.castable "java/util/ArrayList$ListItr" "java/util/Iterator") ∈ lw_tbl := lw_at lw_m4 17 rfl
theorem q838 : (Jvm.Cond.selects "java/util/ArrayList$ListItr" ({ cls := "java/util/Iterator", name := "hasNext", desc := "()Z" } : Jvm.MethodName) ({ cls := "java/util/ArrayList$Itr", name := "hasNext", desc := "()Z" } : Jvm.MethodName)) ∈ lw_all := lw_g (lw_at lw_m4 18 rfl) rfl
theorem q839 : (Jvm.Cond.unhidden "java/util/ArrayList$ListItr" "hasNext" "()Z") ∈ lw_tbl := lw_at lw_m4 19 rfl
theorem q1021 : (Jvm.Cond.selects "java/util/ArrayList$ListItr" ({ cls := "java/lang/Object", name := "getClass", desc := "()Ljava/lang/Class;" } : Jvm.MethodName) ({ cls := "java/lang/Object", name := "getClass", desc := "()Ljava/lang/Class;" } : Jvm.MethodName)) ∈ lw_all := lw_g (lw_at lw_m4 201 rfl) rfl
theorem q1081 : (Jvm.Cond.selects "java/util/ArrayList$ListItr" ({ cls := "java/util/ArrayList$Itr", name := "checkForComodification", desc := "()V" } : Jvm.MethodName) ({ cls := "java/util/ArrayList$Itr", name := "checkForComodification", desc := "()V" } : Jvm.MethodName)) ∈ lw_all := lw_g (lw_at lw_m5 21 rfl) rfl
theorem q1085 : (Jvm.Cond.selects "java/util/ArrayList$ListItr" ({ cls := "java/util/Iterator", name := "next", desc := "()Ljava/lang/Object;" } : Jvm.MethodName) ({ cls := "java/util/ArrayList$Itr", name := "next", desc := "()Ljava/lang/Object;" } : Jvm.MethodName)) ∈ lw_all := lw_g (lw_at lw_m5 25 rfl) rfl
theorem q1086 : (Jvm.Cond.unhidden "java/util/ArrayList$ListItr" "next" "()Ljava/lang/Object;") ∈ lw_tbl := lw_at lw_m5 26 rfl
theorem q1337 : (Jvm.Cond.fieldLink "java/util/ArrayList$ListItr" (13 : Nat) "java/util/ArrayList$ListItr" "cursor" "I") ∈ lw_all := lw_g (lw_at lw_m6 37 rfl) rfl
theorem q1338 : (Jvm.Cond.sameField "java/util/ArrayList$ListItr" "java/util/ArrayList$Itr" "cursor" "I") ∈ lw_all := lw_g (lw_at lw_m6 38 rfl) rfl
theorem q1387 : (Jvm.Cond.instantiable "java/util/ArrayList$ListItr" (5 : Nat)) ∈ lw_all := lw_g (lw_at lw_m6 87 rfl) rfl
theorem q1389 : (Jvm.Cond.instanceMethod ({ cls := "java/util/ArrayList$ListItr", name := "<init>", desc := "(Ljava/util/ArrayList;I)V" } : Jvm.MethodName)) ∈ lw_all := lw_g (lw_at lw_m6 89 rfl) rfl
theorem q1390 : (Jvm.Cond.code ({ cls := "java/util/ArrayList$ListItr", name := "<init>", desc := "(Ljava/util/ArrayList;I)V" } : Jvm.MethodName) prog_63_method_1_code (3 : Nat) (Option.none : Option Jvm.ClassFile.FieldType)) ∈ lw_all := lw_g (lw_at lw_m6 90 rfl) rfl
theorem q1391 : (Jvm.Cond.methodLink "java/util/ArrayList$ListItr" (7 : Nat) ({ cls := "java/util/ArrayList$Itr", name := "<init>", desc := "(Ljava/util/ArrayList;)V" } : Jvm.MethodName)) ∈ lw_all := lw_g (lw_at lw_m6 91 rfl) rfl
theorem q1392 : (Jvm.Cond.fieldLink "java/util/ArrayList$ListItr" (1 : Nat) "java/util/ArrayList$ListItr" "this$0" "Ljava/util/ArrayList;") ∈ lw_all := lw_g (lw_at lw_m6 92 rfl) rfl
theorem q1393 : (Jvm.Cond.laysFinal "java/util/ArrayList$ListItr" "java/util/ArrayList$ListItr" "this$0" "Ljava/util/ArrayList;") ∈ lw_all := lw_g (lw_at lw_m6 93 rfl) rfl
theorem q1394 : (Jvm.Cond.soleField "java/util/ArrayList$ListItr" "this$0") ∈ lw_all := lw_g (lw_at lw_m6 94 rfl) rfl
theorem q1395 : (Jvm.Cond.lays "java/util/ArrayList$ListItr" "java/util/ArrayList$Itr" "cursor" "I") ∈ lw_all := lw_g (lw_at lw_m6 95 rfl) rfl
theorem q1396 : (Jvm.Cond.lays "java/util/ArrayList$ListItr" "java/util/ArrayList$Itr" "lastRet" "I") ∈ lw_all := lw_g (lw_at lw_m6 96 rfl) rfl
theorem q1397 : (Jvm.Cond.lays "java/util/ArrayList$ListItr" "java/util/ArrayList$Itr" "expectedModCount" "I") ∈ lw_all := lw_g (lw_at lw_m6 97 rfl) rfl
theorem q1398 : (Jvm.Cond.laysFinal "java/util/ArrayList$ListItr" "java/util/ArrayList$Itr" "this$0" "Ljava/util/ArrayList;") ∈ lw_all := lw_g (lw_at lw_m6 98 rfl) rfl
theorem q1399 : (Jvm.Cond.superclass "java/util/ArrayList$ListItr" "java/util/ArrayList$Itr") ∈ lw_all := lw_g (lw_at lw_m6 99 rfl) rfl
theorem q4254 : (Jvm.Cond.castable "java/util/ArrayList$ListItr" "java/lang/Object") ∈ lw_tbl := lw_at lw_m18 74 rfl
theorem in_J28 : ∀ w ∈ wsJ280, w ∈ lw_all := lw_in wsJ280 [1395, 1396, 1397, 1398, 1393] (by decide +kernel) (by decide +kernel)
/-! java/util/LinkedList$ListItr -/
set_option maxRecDepth 100000
def RJ29 : String := "java/util/LinkedList$ListItr"
def TJ29 : u_T := fun k => match k with
  | 0 => ("java/util/LinkedList$ListItr", "lastReturned", "Ljava/util/LinkedList$Node;", false)
  | 1 => ("java/util/LinkedList$ListItr", "next", "Ljava/util/LinkedList$Node;", false)
  | 2 => ("java/util/LinkedList$ListItr", "nextIndex", "I", false)
  | 3 => ("java/util/LinkedList$ListItr", "expectedModCount", "I", false)
  | _ => ("java/util/LinkedList$ListItr", "this$0", "Ljava/util/LinkedList;", true)
def tyJ29 : Nat → FieldType := fun k => match k with
  | 0 => .object "java/util/LinkedList$Node"
  | 1 => .object "java/util/LinkedList$Node"
  | 2 => .int
  | 3 => .int
  | _ => .object "java/util/LinkedList"
abbrev wsJ290 : List Cond := u_ws RJ29 TJ29 5
theorem nmJ29 : ∀ a, a < 5 → ∀ b, b < 5 → a ≠ b → (TJ29 a).2.1 ≠ (TJ29 b).2.1 := by decide +kernel
theorem tyJ29_ok : ∀ k, k < 5 → parseFieldDescriptor (TJ29 k).2.2.1 = some (tyJ29 k) := by decide +kernel
abbrev cJ29_hasNext : ByteArray := prog_70_method_2_code
def yJ29_hasNext : MethodName := ⟨RJ29, "hasNext", "()Z"⟩
def dkwJ29_hasNext_0 : List UInt8 := [42, 180, 0, 33, 42, 180, 0, 1, 180, 0, 22, 162, 0, 7, 4, 167, 0, 4, 3, 172]
abbrev dktJ29_hasNext_0 : List UInt8 := dkwJ29_hasNext_0 ++ []
theorem dksJ29_hasNext_0 : cJ29_hasNext.data.toList.drop 0 = dktJ29_hasNext_0 := by decide +kernel
theorem dJ29_hasNext_0 : decode cJ29_hasNext 0 = .ok (.aload_n 0, 1) := dk_42 (dk_at dksJ29_hasNext_0 0 rfl rfl)
theorem dJ29_hasNext_1 : decode cJ29_hasNext 1 = .ok (.getfield 33, 3) := dk_180 0 33 (dk_at dksJ29_hasNext_0 1 rfl rfl)
theorem dJ29_hasNext_4 : decode cJ29_hasNext 4 = .ok (.aload_n 0, 1) := dk_42 (dk_at dksJ29_hasNext_0 4 rfl rfl)
theorem dJ29_hasNext_5 : decode cJ29_hasNext 5 = .ok (.getfield 1, 3) := dk_180 0 1 (dk_at dksJ29_hasNext_0 5 rfl rfl)
theorem dJ29_hasNext_8 : decode cJ29_hasNext 8 = .ok (.getfield 22, 3) := dk_180 0 22 (dk_at dksJ29_hasNext_0 8 rfl rfl)
theorem dJ29_hasNext_11 : decode cJ29_hasNext 11 = .ok (.if_icmp .ge 7, 3) := dk_162 0 7 (dk_at dksJ29_hasNext_0 11 rfl rfl)
theorem dJ29_hasNext_14 : decode cJ29_hasNext 14 = .ok (.iconst 1, 1) := dk_4 (dk_at dksJ29_hasNext_0 14 rfl rfl)
theorem dJ29_hasNext_15 : decode cJ29_hasNext 15 = .ok (.goto 4, 3) := dk_167 0 4 (dk_at dksJ29_hasNext_0 15 rfl rfl)
theorem dJ29_hasNext_18 : decode cJ29_hasNext 18 = .ok (.iconst 0, 1) := dk_3 (dk_at dksJ29_hasNext_0 18 rfl rfl)
theorem dJ29_hasNext_19 : decode cJ29_hasNext 19 = .ok (.ireturn, 1) := dk_172 (dk_at dksJ29_hasNext_0 19 rfl rfl)
abbrev cJ29_next : ByteArray := prog_70_method_3_code
def yJ29_next : MethodName := ⟨RJ29, "next", "()Ljava/lang/Object;"⟩
def dkwJ29_next_2 : List UInt8 := [42, 180, 0, 46, 180, 0, 52, 176]
abbrev dktJ29_next_2 : List UInt8 := dkwJ29_next_2 ++ []
def dkwJ29_next_1 : List UInt8 := [181, 0, 46, 42, 42, 180, 0, 29, 180, 0, 49, 181, 0, 29, 42, 89, 180, 0, 33, 4, 96, 181, 0, 33]
abbrev dktJ29_next_1 : List UInt8 := dkwJ29_next_1 ++ dktJ29_next_2
def dkwJ29_next_0 : List UInt8 := [42, 182, 0, 36, 42, 182, 0, 39, 154, 0, 11, 187, 0, 43, 89, 183, 0, 45, 191, 42, 42, 180, 0, 29]
abbrev dktJ29_next_0 : List UInt8 := dkwJ29_next_0 ++ dktJ29_next_1
theorem dksJ29_next_0 : cJ29_next.data.toList.drop 0 = dktJ29_next_0 := by decide +kernel
theorem dksJ29_next_1 : cJ29_next.data.toList.drop 24 = dktJ29_next_1 := dk_seg dksJ29_next_0 24 rfl rfl
theorem dksJ29_next_2 : cJ29_next.data.toList.drop 48 = dktJ29_next_2 := dk_seg dksJ29_next_1 24 rfl rfl
theorem dJ29_next_0 : decode cJ29_next 0 = .ok (.aload_n 0, 1) := dk_42 (dk_at dksJ29_next_0 0 rfl rfl)
theorem dJ29_next_1 : decode cJ29_next 1 = .ok (.invokevirtual 36, 3) := dk_182 0 36 (dk_at dksJ29_next_0 1 rfl rfl)
theorem dJ29_next_4 : decode cJ29_next 4 = .ok (.aload_n 0, 1) := dk_42 (dk_at dksJ29_next_0 4 rfl rfl)
theorem dJ29_next_5 : decode cJ29_next 5 = .ok (.invokevirtual 39, 3) := dk_182 0 39 (dk_at dksJ29_next_0 5 rfl rfl)
theorem dJ29_next_8 : decode cJ29_next 8 = .ok (.ifCond .ne 11, 3) := dk_154 0 11 (dk_at dksJ29_next_0 8 rfl rfl)
theorem dJ29_next_11 : decode cJ29_next 11 = .ok (.new 43, 3) := dk_187 0 43 (dk_at dksJ29_next_0 11 rfl rfl)
theorem dJ29_next_14 : decode cJ29_next 14 = .ok (.dup, 1) := dk_89 (dk_at dksJ29_next_0 14 rfl rfl)
theorem dJ29_next_15 : decode cJ29_next 15 = .ok (.invokespecial 45, 3) := dk_183 0 45 (dk_at dksJ29_next_0 15 rfl rfl)
theorem dJ29_next_18 : decode cJ29_next 18 = .ok (.athrow, 1) := dk_191 (dk_at dksJ29_next_0 18 rfl rfl)
theorem dJ29_next_19 : decode cJ29_next 19 = .ok (.aload_n 0, 1) := dk_42 (dk_at dksJ29_next_0 19 rfl rfl)
theorem dJ29_next_20 : decode cJ29_next 20 = .ok (.aload_n 0, 1) := dk_42 (dk_at dksJ29_next_0 20 rfl rfl)
theorem dJ29_next_21 : decode cJ29_next 21 = .ok (.getfield 29, 3) := dk_180 0 29 (dk_at dksJ29_next_0 21 rfl rfl)
theorem dJ29_next_24 : decode cJ29_next 24 = .ok (.putfield 46, 3) := dk_181 0 46 (dk_at dksJ29_next_1 0 rfl rfl)
theorem dJ29_next_27 : decode cJ29_next 27 = .ok (.aload_n 0, 1) := dk_42 (dk_at dksJ29_next_1 3 rfl rfl)
theorem dJ29_next_28 : decode cJ29_next 28 = .ok (.aload_n 0, 1) := dk_42 (dk_at dksJ29_next_1 4 rfl rfl)
theorem dJ29_next_29 : decode cJ29_next 29 = .ok (.getfield 29, 3) := dk_180 0 29 (dk_at dksJ29_next_1 5 rfl rfl)
theorem dJ29_next_32 : decode cJ29_next 32 = .ok (.getfield 49, 3) := dk_180 0 49 (dk_at dksJ29_next_1 8 rfl rfl)
theorem dJ29_next_35 : decode cJ29_next 35 = .ok (.putfield 29, 3) := dk_181 0 29 (dk_at dksJ29_next_1 11 rfl rfl)
theorem dJ29_next_38 : decode cJ29_next 38 = .ok (.aload_n 0, 1) := dk_42 (dk_at dksJ29_next_1 14 rfl rfl)
theorem dJ29_next_39 : decode cJ29_next 39 = .ok (.dup, 1) := dk_89 (dk_at dksJ29_next_1 15 rfl rfl)
theorem dJ29_next_40 : decode cJ29_next 40 = .ok (.getfield 33, 3) := dk_180 0 33 (dk_at dksJ29_next_1 16 rfl rfl)
theorem dJ29_next_43 : decode cJ29_next 43 = .ok (.iconst 1, 1) := dk_4 (dk_at dksJ29_next_1 19 rfl rfl)
theorem dJ29_next_44 : decode cJ29_next 44 = .ok (.iadd, 1) := dk_96 (dk_at dksJ29_next_1 20 rfl rfl)
theorem dJ29_next_45 : decode cJ29_next 45 = .ok (.putfield 33, 3) := dk_181 0 33 (dk_at dksJ29_next_1 21 rfl rfl)
theorem dJ29_next_48 : decode cJ29_next 48 = .ok (.aload_n 0, 1) := dk_42 (dk_at dksJ29_next_2 0 rfl rfl)
theorem dJ29_next_49 : decode cJ29_next 49 = .ok (.getfield 46, 3) := dk_180 0 46 (dk_at dksJ29_next_2 1 rfl rfl)
theorem dJ29_next_52 : decode cJ29_next 52 = .ok (.getfield 52, 3) := dk_180 0 52 (dk_at dksJ29_next_2 4 rfl rfl)
theorem dJ29_next_55 : decode cJ29_next 55 = .ok (.areturn, 1) := dk_176 (dk_at dksJ29_next_2 7 rfl rfl)
abbrev cJ29_checkForComodification : ByteArray := prog_70_method_12_code
def yJ29_checkForComodification : MethodName := ⟨RJ29, "checkForComodification", "()V"⟩
def dkwJ29_checkForComodification_0 : List UInt8 := [42, 180, 0, 1, 180, 0, 13, 42, 180, 0, 19, 159, 0, 11, 187, 0, 91, 89, 183, 0, 93, 191, 177]
abbrev dktJ29_checkForComodification_0 : List UInt8 := dkwJ29_checkForComodification_0 ++ []
theorem dksJ29_checkForComodification_0 : cJ29_checkForComodification.data.toList.drop 0 = dktJ29_checkForComodification_0 := by decide +kernel
theorem dJ29_checkForComodification_0 : decode cJ29_checkForComodification 0 = .ok (.aload_n 0, 1) := dk_42 (dk_at dksJ29_checkForComodification_0 0 rfl rfl)
theorem dJ29_checkForComodification_1 : decode cJ29_checkForComodification 1 = .ok (.getfield 1, 3) := dk_180 0 1 (dk_at dksJ29_checkForComodification_0 1 rfl rfl)
theorem dJ29_checkForComodification_4 : decode cJ29_checkForComodification 4 = .ok (.getfield 13, 3) := dk_180 0 13 (dk_at dksJ29_checkForComodification_0 4 rfl rfl)
theorem dJ29_checkForComodification_7 : decode cJ29_checkForComodification 7 = .ok (.aload_n 0, 1) := dk_42 (dk_at dksJ29_checkForComodification_0 7 rfl rfl)
theorem dJ29_checkForComodification_8 : decode cJ29_checkForComodification 8 = .ok (.getfield 19, 3) := dk_180 0 19 (dk_at dksJ29_checkForComodification_0 8 rfl rfl)
theorem dJ29_checkForComodification_11 : decode cJ29_checkForComodification 11 = .ok (.if_icmp .eq 11, 3) := dk_159 0 11 (dk_at dksJ29_checkForComodification_0 11 rfl rfl)
theorem dJ29_checkForComodification_14 : decode cJ29_checkForComodification 14 = .ok (.new 91, 3) := dk_187 0 91 (dk_at dksJ29_checkForComodification_0 14 rfl rfl)
theorem dJ29_checkForComodification_17 : decode cJ29_checkForComodification 17 = .ok (.dup, 1) := dk_89 (dk_at dksJ29_checkForComodification_0 17 rfl rfl)
theorem dJ29_checkForComodification_18 : decode cJ29_checkForComodification 18 = .ok (.invokespecial 93, 3) := dk_183 0 93 (dk_at dksJ29_checkForComodification_0 18 rfl rfl)
theorem dJ29_checkForComodification_21 : decode cJ29_checkForComodification 21 = .ok (.athrow, 1) := dk_191 (dk_at dksJ29_checkForComodification_0 21 rfl rfl)
theorem dJ29_checkForComodification_22 : decode cJ29_checkForComodification 22 = .ok (.return_, 1) := dk_177 (dk_at dksJ29_checkForComodification_0 22 rfl rfl)
abbrev cJ29_init : ByteArray := prog_70_method_1_code
def yJ29_init : MethodName := ⟨RJ29, "<init>", "(Ljava/util/LinkedList;I)V"⟩
def dkwJ29_init_1 : List UInt8 := [180, 0, 22, 160, 0, 7, 1, 167, 0, 8, 43, 28, 182, 0, 25, 181, 0, 29, 42, 28, 181, 0, 33, 177]
abbrev dktJ29_init_1 : List UInt8 := dkwJ29_init_1 ++ []
def dkwJ29_init_0 : List UInt8 := [42, 43, 181, 0, 1, 42, 183, 0, 7, 42, 42, 180, 0, 1, 180, 0, 13, 181, 0, 19, 42, 28, 43]
abbrev dktJ29_init_0 : List UInt8 := dkwJ29_init_0 ++ dktJ29_init_1
theorem dksJ29_init_0 : cJ29_init.data.toList.drop 0 = dktJ29_init_0 := by decide +kernel
theorem dksJ29_init_1 : cJ29_init.data.toList.drop 23 = dktJ29_init_1 := dk_seg dksJ29_init_0 23 rfl rfl
theorem dJ29_init_0 : decode cJ29_init 0 = .ok (.aload_n 0, 1) := dk_42 (dk_at dksJ29_init_0 0 rfl rfl)
theorem dJ29_init_1 : decode cJ29_init 1 = .ok (.aload_n 1, 1) := dk_43 (dk_at dksJ29_init_0 1 rfl rfl)
theorem dJ29_init_2 : decode cJ29_init 2 = .ok (.putfield 1, 3) := dk_181 0 1 (dk_at dksJ29_init_0 2 rfl rfl)
theorem dJ29_init_5 : decode cJ29_init 5 = .ok (.aload_n 0, 1) := dk_42 (dk_at dksJ29_init_0 5 rfl rfl)
theorem dJ29_init_6 : decode cJ29_init 6 = .ok (.invokespecial 7, 3) := dk_183 0 7 (dk_at dksJ29_init_0 6 rfl rfl)
theorem dJ29_init_9 : decode cJ29_init 9 = .ok (.aload_n 0, 1) := dk_42 (dk_at dksJ29_init_0 9 rfl rfl)
theorem dJ29_init_10 : decode cJ29_init 10 = .ok (.aload_n 0, 1) := dk_42 (dk_at dksJ29_init_0 10 rfl rfl)
theorem dJ29_init_11 : decode cJ29_init 11 = .ok (.getfield 1, 3) := dk_180 0 1 (dk_at dksJ29_init_0 11 rfl rfl)
theorem dJ29_init_14 : decode cJ29_init 14 = .ok (.getfield 13, 3) := dk_180 0 13 (dk_at dksJ29_init_0 14 rfl rfl)
theorem dJ29_init_17 : decode cJ29_init 17 = .ok (.putfield 19, 3) := dk_181 0 19 (dk_at dksJ29_init_0 17 rfl rfl)
theorem dJ29_init_20 : decode cJ29_init 20 = .ok (.aload_n 0, 1) := dk_42 (dk_at dksJ29_init_0 20 rfl rfl)
theorem dJ29_init_21 : decode cJ29_init 21 = .ok (.iload_n 2, 1) := dk_28 (dk_at dksJ29_init_0 21 rfl rfl)
theorem dJ29_init_22 : decode cJ29_init 22 = .ok (.aload_n 1, 1) := dk_43 (dk_at dksJ29_init_0 22 rfl rfl)
theorem dJ29_init_23 : decode cJ29_init 23 = .ok (.getfield 22, 3) := dk_180 0 22 (dk_at dksJ29_init_1 0 rfl rfl)
theorem dJ29_init_26 : decode cJ29_init 26 = .ok (.if_icmp .ne 7, 3) := dk_160 0 7 (dk_at dksJ29_init_1 3 rfl rfl)
theorem dJ29_init_29 : decode cJ29_init 29 = .ok (.aconst_null, 1) := dk_1 (dk_at dksJ29_init_1 6 rfl rfl)
theorem dJ29_init_30 : decode cJ29_init 30 = .ok (.goto 8, 3) := dk_167 0 8 (dk_at dksJ29_init_1 7 rfl rfl)
theorem dJ29_init_33 : decode cJ29_init 33 = .ok (.aload_n 1, 1) := dk_43 (dk_at dksJ29_init_1 10 rfl rfl)
theorem dJ29_init_34 : decode cJ29_init 34 = .ok (.iload_n 2, 1) := dk_28 (dk_at dksJ29_init_1 11 rfl rfl)
theorem dJ29_init_35 : decode cJ29_init 35 = .ok (.invokevirtual 25, 3) := dk_182 0 25 (dk_at dksJ29_init_1 12 rfl rfl)
theorem dJ29_init_38 : decode cJ29_init 38 = .ok (.putfield 29, 3) := dk_181 0 29 (dk_at dksJ29_init_1 15 rfl rfl)
theorem dJ29_init_41 : decode cJ29_init 41 = .ok (.aload_n 0, 1) := dk_42 (dk_at dksJ29_init_1 18 rfl rfl)
theorem dJ29_init_42 : decode cJ29_init 42 = .ok (.iload_n 2, 1) := dk_28 (dk_at dksJ29_init_1 19 rfl rfl)
theorem dJ29_init_43 : decode cJ29_init 43 = .ok (.putfield 33, 3) := dk_181 0 33 (dk_at dksJ29_init_1 20 rfl rfl)
theorem dJ29_init_46 : decode cJ29_init 46 = .ok (.return_, 1) := dk_177 (dk_at dksJ29_init_1 23 rfl rfl)
theorem q137 : (Jvm.Cond.initialized "java/util/LinkedList$ListItr") ∈ lw_all := lw_g (lw_at lw_m1 37 rfl) rfl
theorem q198 : (Jvm.Cond.fieldLink "java/util/LinkedList$ListItr" (22 : Nat) "java/util/LinkedList" "size" "I") ∈ lw_all := lw_g (lw_at lw_m1 98 rfl) rfl
theorem q202 : (Jvm.Cond.fieldLink "java/util/LinkedList$ListItr" (13 : Nat) "java/util/LinkedList" "modCount" "I") ∈ lw_all := lw_g (lw_at lw_m1 102 rfl) rfl
theorem q840 : (Jvm.Cond.castable "java/util/LinkedList$ListItr" "java/util/Iterator") ∈ lw_tbl := lw_at lw_m4 20 rfl
theorem q841 : (Jvm.Cond.selects "java/util/LinkedList$ListItr" ({ cls := "java/util/Iterator", name := "hasNext", desc := "()Z" } : Jvm.MethodName) ({ cls := "java/util/LinkedList$ListItr", name := "hasNext", desc := "()Z" } : Jvm.MethodName)) ∈ lw_all := lw_g (lw_at lw_m4 21 rfl) rfl
theorem q842 : (Jvm.Cond.unhidden "java/util/LinkedList$ListItr" "hasNext" "()Z") ∈ lw_tbl := lw_at lw_m4 22 rfl
theorem q843 : (Jvm.Cond.instanceMethod ({ cls := "java/util/LinkedList$ListItr", name := "hasNext", desc := "()Z" } : Jvm.MethodName)) ∈ lw_all := lw_g (lw_at lw_m4 23 rfl) rfl
theorem q844 : (Jvm.Cond.publicMethod ({ cls := "java/util/LinkedList$ListItr", name := "hasNext", desc := "()Z" } : Jvm.MethodName)) ∈ lw_tbl := lw_at lw_m4 24 rfl
theorem q845 : (Jvm.Cond.code ({ cls := "java/util/LinkedList$ListItr", name := "hasNext", desc := "()Z" } : Jvm.MethodName) prog_70_method_2_code (1 : Nat) (Option.some Jvm.ClassFile.FieldType.boolean)) ∈ lw_all := lw_g (lw_at lw_m4 25 rfl) rfl
theorem q1023 : (Jvm.Cond.selects "java/util/LinkedList$ListItr" ({ cls := "java/lang/Object", name := "getClass", desc := "()Ljava/lang/Class;" } : Jvm.MethodName) ({ cls := "java/lang/Object", name := "getClass", desc := "()Ljava/lang/Class;" } : Jvm.MethodName)) ∈ lw_all := lw_g (lw_at lw_m4 203 rfl) rfl
theorem q1087 : (Jvm.Cond.selects "java/util/LinkedList$ListItr" ({ cls := "java/util/Iterator", name := "next", desc := "()Ljava/lang/Object;" } : Jvm.MethodName) ({ cls := "java/util/LinkedList$ListItr", name := "next", desc := "()Ljava/lang/Object;" } : Jvm.MethodName)) ∈ lw_all := lw_g (lw_at lw_m5 27 rfl) rfl
theorem q1088 : (Jvm.Cond.unhidden "java/util/LinkedList$ListItr" "next" "()Ljava/lang/Object;") ∈ lw_tbl := lw_at lw_m5 28 rfl
theorem q1089 : (Jvm.Cond.instanceMethod ({ cls := "java/util/LinkedList$ListItr", name := "next", desc := "()Ljava/lang/Object;" } : Jvm.MethodName)) ∈ lw_all := lw_g (lw_at lw_m5 29 rfl) rfl
theorem q1090 : (Jvm.Cond.publicMethod ({ cls := "java/util/LinkedList$ListItr", name := "next", desc := "()Ljava/lang/Object;" } : Jvm.MethodName)) ∈ lw_tbl := lw_at lw_m5 30 rfl
theorem q1091 : (Jvm.Cond.code ({ cls := "java/util/LinkedList$ListItr", name := "next", desc := "()Ljava/lang/Object;" } : Jvm.MethodName) prog_70_method_3_code (1 : Nat) (Option.some (Jvm.ClassFile.FieldType.object "java/lang/Object"))) ∈ lw_all := lw_g (lw_at lw_m5 31 rfl) rfl
theorem q1092 : (Jvm.Cond.methodLink "java/util/LinkedList$ListItr" (36 : Nat) ({ cls := "java/util/LinkedList$ListItr", name := "checkForComodification", desc := "()V" } : Jvm.MethodName)) ∈ lw_all := lw_g (lw_at lw_m5 32 rfl) rfl
theorem q1093 : (Jvm.Cond.instanceMethod ({ cls := "java/util/LinkedList$ListItr", name := "checkForComodification", desc := "()V" } : Jvm.MethodName)) ∈ lw_all := lw_g (lw_at lw_m5 33 rfl) rfl
theorem q1094 : (Jvm.Cond.selects "java/util/LinkedList$ListItr" ({ cls := "java/util/LinkedList$ListItr", name := "checkForComodification", desc := "()V" } : Jvm.MethodName) ({ cls := "java/util/LinkedList$ListItr", name := "checkForComodification", desc := "()V" } : Jvm.MethodName)) ∈ lw_all := lw_g (lw_at lw_m5 34 rfl) rfl
theorem q1095 : (Jvm.Cond.code ({ cls := "java/util/LinkedList$ListItr", name := "checkForComodification", desc := "()V" } : Jvm.MethodName) prog_70_method_12_code (1 : Nat) (Option.none : Option Jvm.ClassFile.FieldType)) ∈ lw_all := lw_g (lw_at lw_m5 35 rfl) rfl
theorem q1096 : (Jvm.Cond.methodLink "java/util/LinkedList$ListItr" (39 : Nat) ({ cls := "java/util/LinkedList$ListItr", name := "hasNext", desc := "()Z" } : Jvm.MethodName)) ∈ lw_all := lw_g (lw_at lw_m5 36 rfl) rfl
theorem q1097 : (Jvm.Cond.classLink "java/util/LinkedList$ListItr" (43 : Nat) "java/util/NoSuchElementException") ∈ lw_all := lw_g (lw_at lw_m5 37 rfl) rfl
theorem q1098 : (Jvm.Cond.methodLink "java/util/LinkedList$ListItr" (45 : Nat) ({ cls := "java/util/NoSuchElementException", name := "<init>", desc := "()V" } : Jvm.MethodName)) ∈ lw_all := lw_g (lw_at lw_m5 38 rfl) rfl
theorem q1222 : (Jvm.Cond.fieldLink "java/util/LinkedList$ListItr" (52 : Nat) "java/util/LinkedList$Node" "item" "Ljava/lang/Object;") ∈ lw_all := lw_g (lw_at lw_m5 162 rfl) rfl
theorem q1225 : (Jvm.Cond.fieldLink "java/util/LinkedList$ListItr" (49 : Nat) "java/util/LinkedList$Node" "next" "Ljava/util/LinkedList$Node;") ∈ lw_all := lw_g (lw_at lw_m5 165 rfl) rfl
theorem q1412 : (Jvm.Cond.instantiable "java/util/LinkedList$ListItr" (5 : Nat)) ∈ lw_all := lw_g (lw_at lw_m6 112 rfl) rfl
theorem q1414 : (Jvm.Cond.instanceMethod ({ cls := "java/util/LinkedList$ListItr", name := "<init>", desc := "(Ljava/util/LinkedList;I)V" } : Jvm.MethodName)) ∈ lw_all := lw_g (lw_at lw_m6 114 rfl) rfl
theorem q1415 : (Jvm.Cond.code ({ cls := "java/util/LinkedList$ListItr", name := "<init>", desc := "(Ljava/util/LinkedList;I)V" } : Jvm.MethodName) prog_70_method_1_code (3 : Nat) (Option.none : Option Jvm.ClassFile.FieldType)) ∈ lw_all := lw_g (lw_at lw_m6 115 rfl) rfl
theorem q1416 : (Jvm.Cond.methodLink "java/util/LinkedList$ListItr" (7 : Nat) ({ cls := "java/lang/Object", name := "<init>", desc := "()V" } : Jvm.MethodName)) ∈ lw_all := lw_g (lw_at lw_m6 116 rfl) rfl
theorem q1417 : (Jvm.Cond.methodLink "java/util/LinkedList$ListItr" (25 : Nat) ({ cls := "java/util/LinkedList", name := "node", desc := "(I)Ljava/util/LinkedList$Node;" } : Jvm.MethodName)) ∈ lw_all := lw_g (lw_at lw_m6 117 rfl) rfl
theorem q1418 : (Jvm.Cond.fieldLink "java/util/LinkedList$ListItr" (46 : Nat) "java/util/LinkedList$ListItr" "lastReturned" "Ljava/util/LinkedList$Node;") ∈ lw_all := lw_g (lw_at lw_m6 118 rfl) rfl
theorem q1419 : (Jvm.Cond.fieldLink "java/util/LinkedList$ListItr" (29 : Nat) "java/util/LinkedList$ListItr" "next" "Ljava/util/LinkedList$Node;") ∈ lw_all := lw_g (lw_at lw_m6 119 rfl) rfl
theorem q1420 : (Jvm.Cond.fieldLink "java/util/LinkedList$ListItr" (33 : Nat) "java/util/LinkedList$ListItr" "nextIndex" "I") ∈ lw_all := lw_g (lw_at lw_m6 120 rfl) rfl
theorem q1421 : (Jvm.Cond.fieldLink "java/util/LinkedList$ListItr" (19 : Nat) "java/util/LinkedList$ListItr" "expectedModCount" "I") ∈ lw_all := lw_g (lw_at lw_m6 121 rfl) rfl
theorem q1422 : (Jvm.Cond.fieldLink "java/util/LinkedList$ListItr" (1 : Nat) "java/util/LinkedList$ListItr" "this$0" "Ljava/util/LinkedList;") ∈ lw_all := lw_g (lw_at lw_m6 122 rfl) rfl
theorem q1423 : (Jvm.Cond.lays "java/util/LinkedList$ListItr" "java/util/LinkedList$ListItr" "lastReturned" "Ljava/util/LinkedList$Node;") ∈ lw_all := lw_g (lw_at lw_m6 123 rfl) rfl
theorem q1424 : (Jvm.Cond.soleField "java/util/LinkedList$ListItr" "lastReturned") ∈ lw_all := lw_g (lw_at lw_m6 124 rfl) rfl
theorem q1425 : (Jvm.Cond.lays "java/util/LinkedList$ListItr" "java/util/LinkedList$ListItr" "next" "Ljava/util/LinkedList$Node;") ∈ lw_all := lw_g (lw_at lw_m6 125 rfl) rfl
theorem q1426 : (Jvm.Cond.soleField "java/util/LinkedList$ListItr" "next") ∈ lw_all := lw_g (lw_at lw_m6 126 rfl) rfl
theorem q1427 : (Jvm.Cond.lays "java/util/LinkedList$ListItr" "java/util/LinkedList$ListItr" "nextIndex" "I") ∈ lw_all := lw_g (lw_at lw_m6 127 rfl) rfl
theorem q1428 : (Jvm.Cond.soleField "java/util/LinkedList$ListItr" "nextIndex") ∈ lw_all := lw_g (lw_at lw_m6 128 rfl) rfl
theorem q1429 : (Jvm.Cond.lays "java/util/LinkedList$ListItr" "java/util/LinkedList$ListItr" "expectedModCount" "I") ∈ lw_all := lw_g (lw_at lw_m6 129 rfl) rfl
theorem q1430 : (Jvm.Cond.soleField "java/util/LinkedList$ListItr" "expectedModCount") ∈ lw_all := lw_g (lw_at lw_m6 130 rfl) rfl
theorem q1431 : (Jvm.Cond.laysFinal "java/util/LinkedList$ListItr" "java/util/LinkedList$ListItr" "this$0" "Ljava/util/LinkedList;") ∈ lw_all := lw_g (lw_at lw_m6 131 rfl) rfl
theorem q1432 : (Jvm.Cond.soleField "java/util/LinkedList$ListItr" "this$0") ∈ lw_all := lw_g (lw_at lw_m6 132 rfl) rfl
theorem q1433 : (Jvm.Cond.superclass "java/util/LinkedList$ListItr" "java/lang/Object") ∈ lw_all := lw_g (lw_at lw_m6 133 rfl) rfl
theorem q4213 : (Jvm.Cond.selects "java/util/LinkedList$ListItr" ({ cls := "java/util/LinkedList$ListItr", name := "hasNext", desc := "()Z" } : Jvm.MethodName) ({ cls := "java/util/LinkedList$ListItr", name := "hasNext", desc := "()Z" } : Jvm.MethodName)) ∈ lw_all := lw_g (lw_at lw_m18 33 rfl) rfl
theorem q4255 : (Jvm.Cond.castable "java/util/LinkedList$ListItr" "java/lang/Object") ∈ lw_tbl := lw_at lw_m18 75 rfl
theorem in_J29 : ∀ w ∈ wsJ290, w ∈ lw_all := lw_in wsJ290 [1423, 1425, 1427, 1429, 1431] (by decide +kernel) (by decide +kernel)
/-! java/util/PriorityQueue$Itr -/
set_option maxRecDepth 100000
def RJ30 : String := "java/util/PriorityQueue$Itr"
def TJ30 : u_T := fun k => match k with
  | 0 => ("java/util/PriorityQueue$Itr", "cursor", "I", false)
  | 1 => ("java/util/PriorityQueue$Itr", "lastRet", "I", false)
  | 2 => ("java/util/PriorityQueue$Itr", "forgetMeNot", "Ljava/util/ArrayDeque;", false)
  | 3 => ("java/util/PriorityQueue$Itr", "lastRetElt", "Ljava/lang/Object;", false)
  | 4 => ("java/util/PriorityQueue$Itr", "expectedModCount", "I", false)
  | _ => ("java/util/PriorityQueue$Itr", "this$0", "Ljava/util/PriorityQueue;", true)
def tyJ30 : Nat → FieldType := fun k => match k with
  | 0 => .int
  | 1 => .int
  | 2 => .object "java/util/ArrayDeque"
  | 3 => .object "java/lang/Object"
  | 4 => .int
  | _ => .object "java/util/PriorityQueue"
abbrev wsJ300 : List Cond := u_ws RJ30 TJ30 6
theorem nmJ30 : ∀ a, a < 6 → ∀ b, b < 6 → a ≠ b → (TJ30 a).2.1 ≠ (TJ30 b).2.1 := by decide +kernel
theorem tyJ30_ok : ∀ k, k < 6 → parseFieldDescriptor (TJ30 k).2.2.1 = some (tyJ30 k) := by decide +kernel
abbrev cJ30_hasNext : ByteArray := prog_81_method_2_code
def yJ30_hasNext : MethodName := ⟨RJ30, "hasNext", "()Z"⟩
def dkwJ30_hasNext_1 : List UInt8 := [180, 0, 31, 182, 0, 35, 154, 0, 7, 4, 167, 0, 4, 3, 172]
abbrev dktJ30_hasNext_1 : List UInt8 := dkwJ30_hasNext_1 ++ []
def dkwJ30_hasNext_0 : List UInt8 := [42, 180, 0, 25, 42, 180, 0, 1, 180, 0, 28, 161, 0, 20, 42, 180, 0, 31, 198, 0, 17, 42]
abbrev dktJ30_hasNext_0 : List UInt8 := dkwJ30_hasNext_0 ++ dktJ30_hasNext_1
theorem dksJ30_hasNext_0 : cJ30_hasNext.data.toList.drop 0 = dktJ30_hasNext_0 := by decide +kernel
theorem dksJ30_hasNext_1 : cJ30_hasNext.data.toList.drop 22 = dktJ30_hasNext_1 := dk_seg dksJ30_hasNext_0 22 rfl rfl
theorem dJ30_hasNext_0 : decode cJ30_hasNext 0 = .ok (.aload_n 0, 1) := dk_42 (dk_at dksJ30_hasNext_0 0 rfl rfl)
theorem dJ30_hasNext_1 : decode cJ30_hasNext 1 = .ok (.getfield 25, 3) := dk_180 0 25 (dk_at dksJ30_hasNext_0 1 rfl rfl)
theorem dJ30_hasNext_4 : decode cJ30_hasNext 4 = .ok (.aload_n 0, 1) := dk_42 (dk_at dksJ30_hasNext_0 4 rfl rfl)
theorem dJ30_hasNext_5 : decode cJ30_hasNext 5 = .ok (.getfield 1, 3) := dk_180 0 1 (dk_at dksJ30_hasNext_0 5 rfl rfl)
theorem dJ30_hasNext_8 : decode cJ30_hasNext 8 = .ok (.getfield 28, 3) := dk_180 0 28 (dk_at dksJ30_hasNext_0 8 rfl rfl)
theorem dJ30_hasNext_11 : decode cJ30_hasNext 11 = .ok (.if_icmp .lt 20, 3) := dk_161 0 20 (dk_at dksJ30_hasNext_0 11 rfl rfl)
theorem dJ30_hasNext_14 : decode cJ30_hasNext 14 = .ok (.aload_n 0, 1) := dk_42 (dk_at dksJ30_hasNext_0 14 rfl rfl)
theorem dJ30_hasNext_15 : decode cJ30_hasNext 15 = .ok (.getfield 31, 3) := dk_180 0 31 (dk_at dksJ30_hasNext_0 15 rfl rfl)
theorem dJ30_hasNext_18 : decode cJ30_hasNext 18 = .ok (.ifnull 17, 3) := dk_198 0 17 (dk_at dksJ30_hasNext_0 18 rfl rfl)
theorem dJ30_hasNext_21 : decode cJ30_hasNext 21 = .ok (.aload_n 0, 1) := dk_42 (dk_at dksJ30_hasNext_0 21 rfl rfl)
theorem dJ30_hasNext_22 : decode cJ30_hasNext 22 = .ok (.getfield 31, 3) := dk_180 0 31 (dk_at dksJ30_hasNext_1 0 rfl rfl)
theorem dJ30_hasNext_25 : decode cJ30_hasNext 25 = .ok (.invokevirtual 35, 3) := dk_182 0 35 (dk_at dksJ30_hasNext_1 3 rfl rfl)
theorem dJ30_hasNext_28 : decode cJ30_hasNext 28 = .ok (.ifCond .ne 7, 3) := dk_154 0 7 (dk_at dksJ30_hasNext_1 6 rfl rfl)
theorem dJ30_hasNext_31 : decode cJ30_hasNext 31 = .ok (.iconst 1, 1) := dk_4 (dk_at dksJ30_hasNext_1 9 rfl rfl)
theorem dJ30_hasNext_32 : decode cJ30_hasNext 32 = .ok (.goto 4, 3) := dk_167 0 4 (dk_at dksJ30_hasNext_1 10 rfl rfl)
theorem dJ30_hasNext_35 : decode cJ30_hasNext 35 = .ok (.iconst 0, 1) := dk_3 (dk_at dksJ30_hasNext_1 13 rfl rfl)
theorem dJ30_hasNext_36 : decode cJ30_hasNext 36 = .ok (.ireturn, 1) := dk_172 (dk_at dksJ30_hasNext_1 14 rfl rfl)
abbrev cJ30_next : ByteArray := prog_81_method_3_code
def yJ30_next : MethodName := ⟨RJ30, "next", "()Ljava/lang/Object;"⟩
def dkwJ30_next_4 : List UInt8 := [180, 0, 52, 176, 187, 0, 56, 89, 183, 0, 58, 191]
abbrev dktJ30_next_4 : List UInt8 := dkwJ30_next_4 ++ []
def dkwJ30_next_3 : List UInt8 := [181, 0, 13, 42, 42, 180, 0, 31, 182, 0, 48, 181, 0, 52, 42, 180, 0, 52, 198, 0, 8, 42]
abbrev dktJ30_next_3 : List UInt8 := dkwJ30_next_3 ++ dktJ30_next_4
def dkwJ30_next_2 : List UInt8 := [180, 0, 25, 90, 4, 96, 181, 0, 25, 90, 181, 0, 13, 50, 176, 42, 180, 0, 31, 198, 0, 31, 42, 2]
abbrev dktJ30_next_2 : List UInt8 := dkwJ30_next_2 ++ dktJ30_next_3
def dkwJ30_next_1 : List UInt8 := [180, 0, 25, 42, 180, 0, 1, 180, 0, 28, 162, 0, 28, 42, 180, 0, 1, 180, 0, 44, 42, 42, 89]
abbrev dktJ30_next_1 : List UInt8 := dkwJ30_next_1 ++ dktJ30_next_2
def dkwJ30_next_0 : List UInt8 := [42, 180, 0, 22, 42, 180, 0, 1, 180, 0, 17, 159, 0, 11, 187, 0, 41, 89, 183, 0, 43, 191, 42]
abbrev dktJ30_next_0 : List UInt8 := dkwJ30_next_0 ++ dktJ30_next_1
theorem dksJ30_next_0 : cJ30_next.data.toList.drop 0 = dktJ30_next_0 := by decide +kernel
theorem dksJ30_next_1 : cJ30_next.data.toList.drop 23 = dktJ30_next_1 := dk_seg dksJ30_next_0 23 rfl rfl
theorem dksJ30_next_2 : cJ30_next.data.toList.drop 46 = dktJ30_next_2 := dk_seg dksJ30_next_1 23 rfl rfl
theorem dksJ30_next_3 : cJ30_next.data.toList.drop 70 = dktJ30_next_3 := dk_seg dksJ30_next_2 24 rfl rfl
theorem dksJ30_next_4 : cJ30_next.data.toList.drop 92 = dktJ30_next_4 := dk_seg dksJ30_next_3 22 rfl rfl
theorem dJ30_next_0 : decode cJ30_next 0 = .ok (.aload_n 0, 1) := dk_42 (dk_at dksJ30_next_0 0 rfl rfl)
theorem dJ30_next_1 : decode cJ30_next 1 = .ok (.getfield 22, 3) := dk_180 0 22 (dk_at dksJ30_next_0 1 rfl rfl)
theorem dJ30_next_4 : decode cJ30_next 4 = .ok (.aload_n 0, 1) := dk_42 (dk_at dksJ30_next_0 4 rfl rfl)
theorem dJ30_next_5 : decode cJ30_next 5 = .ok (.getfield 1, 3) := dk_180 0 1 (dk_at dksJ30_next_0 5 rfl rfl)
theorem dJ30_next_8 : decode cJ30_next 8 = .ok (.getfield 17, 3) := dk_180 0 17 (dk_at dksJ30_next_0 8 rfl rfl)
theorem dJ30_next_11 : decode cJ30_next 11 = .ok (.if_icmp .eq 11, 3) := dk_159 0 11 (dk_at dksJ30_next_0 11 rfl rfl)
theorem dJ30_next_14 : decode cJ30_next 14 = .ok (.new 41, 3) := dk_187 0 41 (dk_at dksJ30_next_0 14 rfl rfl)
theorem dJ30_next_17 : decode cJ30_next 17 = .ok (.dup, 1) := dk_89 (dk_at dksJ30_next_0 17 rfl rfl)
theorem dJ30_next_18 : decode cJ30_next 18 = .ok (.invokespecial 43, 3) := dk_183 0 43 (dk_at dksJ30_next_0 18 rfl rfl)
theorem dJ30_next_21 : decode cJ30_next 21 = .ok (.athrow, 1) := dk_191 (dk_at dksJ30_next_0 21 rfl rfl)
theorem dJ30_next_22 : decode cJ30_next 22 = .ok (.aload_n 0, 1) := dk_42 (dk_at dksJ30_next_0 22 rfl rfl)
theorem dJ30_next_23 : decode cJ30_next 23 = .ok (.getfield 25, 3) := dk_180 0 25 (dk_at dksJ30_next_1 0 rfl rfl)
theorem dJ30_next_26 : decode cJ30_next 26 = .ok (.aload_n 0, 1) := dk_42 (dk_at dksJ30_next_1 3 rfl rfl)
theorem dJ30_next_27 : decode cJ30_next 27 = .ok (.getfield 1, 3) := dk_180 0 1 (dk_at dksJ30_next_1 4 rfl rfl)
theorem dJ30_next_30 : decode cJ30_next 30 = .ok (.getfield 28, 3) := dk_180 0 28 (dk_at dksJ30_next_1 7 rfl rfl)
theorem dJ30_next_33 : decode cJ30_next 33 = .ok (.if_icmp .ge 28, 3) := dk_162 0 28 (dk_at dksJ30_next_1 10 rfl rfl)
theorem dJ30_next_36 : decode cJ30_next 36 = .ok (.aload_n 0, 1) := dk_42 (dk_at dksJ30_next_1 13 rfl rfl)
theorem dJ30_next_37 : decode cJ30_next 37 = .ok (.getfield 1, 3) := dk_180 0 1 (dk_at dksJ30_next_1 14 rfl rfl)
theorem dJ30_next_40 : decode cJ30_next 40 = .ok (.getfield 44, 3) := dk_180 0 44 (dk_at dksJ30_next_1 17 rfl rfl)
theorem dJ30_next_43 : decode cJ30_next 43 = .ok (.aload_n 0, 1) := dk_42 (dk_at dksJ30_next_1 20 rfl rfl)
theorem dJ30_next_44 : decode cJ30_next 44 = .ok (.aload_n 0, 1) := dk_42 (dk_at dksJ30_next_1 21 rfl rfl)
theorem dJ30_next_45 : decode cJ30_next 45 = .ok (.dup, 1) := dk_89 (dk_at dksJ30_next_1 22 rfl rfl)
theorem dJ30_next_46 : decode cJ30_next 46 = .ok (.getfield 25, 3) := dk_180 0 25 (dk_at dksJ30_next_2 0 rfl rfl)
theorem dJ30_next_49 : decode cJ30_next 49 = .ok (.dup_x1, 1) := dk_90 (dk_at dksJ30_next_2 3 rfl rfl)
theorem dJ30_next_50 : decode cJ30_next 50 = .ok (.iconst 1, 1) := dk_4 (dk_at dksJ30_next_2 4 rfl rfl)
theorem dJ30_next_51 : decode cJ30_next 51 = .ok (.iadd, 1) := dk_96 (dk_at dksJ30_next_2 5 rfl rfl)
theorem dJ30_next_52 : decode cJ30_next 52 = .ok (.putfield 25, 3) := dk_181 0 25 (dk_at dksJ30_next_2 6 rfl rfl)
theorem dJ30_next_55 : decode cJ30_next 55 = .ok (.dup_x1, 1) := dk_90 (dk_at dksJ30_next_2 9 rfl rfl)
theorem dJ30_next_56 : decode cJ30_next 56 = .ok (.putfield 13, 3) := dk_181 0 13 (dk_at dksJ30_next_2 10 rfl rfl)
theorem dJ30_next_59 : decode cJ30_next 59 = .ok (.aaload, 1) := dk_50 (dk_at dksJ30_next_2 13 rfl rfl)
theorem dJ30_next_60 : decode cJ30_next 60 = .ok (.areturn, 1) := dk_176 (dk_at dksJ30_next_2 14 rfl rfl)
theorem dJ30_next_61 : decode cJ30_next 61 = .ok (.aload_n 0, 1) := dk_42 (dk_at dksJ30_next_2 15 rfl rfl)
theorem dJ30_next_62 : decode cJ30_next 62 = .ok (.getfield 31, 3) := dk_180 0 31 (dk_at dksJ30_next_2 16 rfl rfl)
theorem dJ30_next_65 : decode cJ30_next 65 = .ok (.ifnull 31, 3) := dk_198 0 31 (dk_at dksJ30_next_2 19 rfl rfl)
theorem dJ30_next_68 : decode cJ30_next 68 = .ok (.aload_n 0, 1) := dk_42 (dk_at dksJ30_next_2 22 rfl rfl)
theorem dJ30_next_69 : decode cJ30_next 69 = .ok (.iconst (-1), 1) := dk_2 (dk_at dksJ30_next_2 23 rfl rfl)
theorem dJ30_next_70 : decode cJ30_next 70 = .ok (.putfield 13, 3) := dk_181 0 13 (dk_at dksJ30_next_3 0 rfl rfl)
theorem dJ30_next_73 : decode cJ30_next 73 = .ok (.aload_n 0, 1) := dk_42 (dk_at dksJ30_next_3 3 rfl rfl)
theorem dJ30_next_74 : decode cJ30_next 74 = .ok (.aload_n 0, 1) := dk_42 (dk_at dksJ30_next_3 4 rfl rfl)
theorem dJ30_next_75 : decode cJ30_next 75 = .ok (.getfield 31, 3) := dk_180 0 31 (dk_at dksJ30_next_3 5 rfl rfl)
theorem dJ30_next_78 : decode cJ30_next 78 = .ok (.invokevirtual 48, 3) := dk_182 0 48 (dk_at dksJ30_next_3 8 rfl rfl)
theorem dJ30_next_81 : decode cJ30_next 81 = .ok (.putfield 52, 3) := dk_181 0 52 (dk_at dksJ30_next_3 11 rfl rfl)
theorem dJ30_next_84 : decode cJ30_next 84 = .ok (.aload_n 0, 1) := dk_42 (dk_at dksJ30_next_3 14 rfl rfl)
theorem dJ30_next_85 : decode cJ30_next 85 = .ok (.getfield 52, 3) := dk_180 0 52 (dk_at dksJ30_next_3 15 rfl rfl)
theorem dJ30_next_88 : decode cJ30_next 88 = .ok (.ifnull 8, 3) := dk_198 0 8 (dk_at dksJ30_next_3 18 rfl rfl)
theorem dJ30_next_91 : decode cJ30_next 91 = .ok (.aload_n 0, 1) := dk_42 (dk_at dksJ30_next_3 21 rfl rfl)
theorem dJ30_next_92 : decode cJ30_next 92 = .ok (.getfield 52, 3) := dk_180 0 52 (dk_at dksJ30_next_4 0 rfl rfl)
theorem dJ30_next_95 : decode cJ30_next 95 = .ok (.areturn, 1) := dk_176 (dk_at dksJ30_next_4 3 rfl rfl)
theorem dJ30_next_96 : decode cJ30_next 96 = .ok (.new 56, 3) := dk_187 0 56 (dk_at dksJ30_next_4 4 rfl rfl)
theorem dJ30_next_99 : decode cJ30_next 99 = .ok (.dup, 1) := dk_89 (dk_at dksJ30_next_4 7 rfl rfl)
theorem dJ30_next_100 : decode cJ30_next 100 = .ok (.invokespecial 58, 3) := dk_183 0 58 (dk_at dksJ30_next_4 8 rfl rfl)
theorem dJ30_next_103 : decode cJ30_next 103 = .ok (.athrow, 1) := dk_191 (dk_at dksJ30_next_4 11 rfl rfl)
abbrev cJ30_init : ByteArray := prog_81_method_1_code
def yJ30_init : MethodName := ⟨RJ30, "<init>", "(Ljava/util/PriorityQueue;)V"⟩
def dkwJ30_init_1 : List UInt8 := [181, 0, 22, 177]
abbrev dktJ30_init_1 : List UInt8 := dkwJ30_init_1 ++ []
def dkwJ30_init_0 : List UInt8 := [42, 43, 181, 0, 1, 42, 183, 0, 7, 42, 2, 181, 0, 13, 42, 42, 180, 0, 1, 180, 0, 17]
abbrev dktJ30_init_0 : List UInt8 := dkwJ30_init_0 ++ dktJ30_init_1
theorem dksJ30_init_0 : cJ30_init.data.toList.drop 0 = dktJ30_init_0 := by decide +kernel
theorem dksJ30_init_1 : cJ30_init.data.toList.drop 22 = dktJ30_init_1 := dk_seg dksJ30_init_0 22 rfl rfl
theorem dJ30_init_0 : decode cJ30_init 0 = .ok (.aload_n 0, 1) := dk_42 (dk_at dksJ30_init_0 0 rfl rfl)
theorem dJ30_init_1 : decode cJ30_init 1 = .ok (.aload_n 1, 1) := dk_43 (dk_at dksJ30_init_0 1 rfl rfl)
theorem dJ30_init_2 : decode cJ30_init 2 = .ok (.putfield 1, 3) := dk_181 0 1 (dk_at dksJ30_init_0 2 rfl rfl)
theorem dJ30_init_5 : decode cJ30_init 5 = .ok (.aload_n 0, 1) := dk_42 (dk_at dksJ30_init_0 5 rfl rfl)
theorem dJ30_init_6 : decode cJ30_init 6 = .ok (.invokespecial 7, 3) := dk_183 0 7 (dk_at dksJ30_init_0 6 rfl rfl)
theorem dJ30_init_9 : decode cJ30_init 9 = .ok (.aload_n 0, 1) := dk_42 (dk_at dksJ30_init_0 9 rfl rfl)
theorem dJ30_init_10 : decode cJ30_init 10 = .ok (.iconst (-1), 1) := dk_2 (dk_at dksJ30_init_0 10 rfl rfl)
theorem dJ30_init_11 : decode cJ30_init 11 = .ok (.putfield 13, 3) := dk_181 0 13 (dk_at dksJ30_init_0 11 rfl rfl)
theorem dJ30_init_14 : decode cJ30_init 14 = .ok (.aload_n 0, 1) := dk_42 (dk_at dksJ30_init_0 14 rfl rfl)
theorem dJ30_init_15 : decode cJ30_init 15 = .ok (.aload_n 0, 1) := dk_42 (dk_at dksJ30_init_0 15 rfl rfl)
theorem dJ30_init_16 : decode cJ30_init 16 = .ok (.getfield 1, 3) := dk_180 0 1 (dk_at dksJ30_init_0 16 rfl rfl)
theorem dJ30_init_19 : decode cJ30_init 19 = .ok (.getfield 17, 3) := dk_180 0 17 (dk_at dksJ30_init_0 19 rfl rfl)
theorem dJ30_init_22 : decode cJ30_init 22 = .ok (.putfield 22, 3) := dk_181 0 22 (dk_at dksJ30_init_1 0 rfl rfl)
theorem dJ30_init_25 : decode cJ30_init 25 = .ok (.return_, 1) := dk_177 (dk_at dksJ30_init_1 3 rfl rfl)
theorem q138 : (Jvm.Cond.initialized "java/util/PriorityQueue$Itr") ∈ lw_all := lw_g (lw_at lw_m1 38 rfl) rfl
theorem q846 : (Jvm.Cond.castable "java/util/PriorityQueue$Itr" "java/util/Iterator") ∈ lw_tbl := lw_at lw_m4 26 rfl
theorem q847 : (Jvm.Cond.selects "java/util/PriorityQueue$Itr" ({ cls := "java/util/Iterator", name := "hasNext", desc := "()Z" } : Jvm.MethodName) ({ cls := "java/util/PriorityQueue$Itr", name := "hasNext", desc := "()Z" } : Jvm.MethodName)) ∈ lw_all := lw_g (lw_at lw_m4 27 rfl) rfl
theorem q848 : (Jvm.Cond.unhidden "java/util/PriorityQueue$Itr" "hasNext" "()Z") ∈ lw_tbl := lw_at lw_m4 28 rfl
theorem q849 : (Jvm.Cond.instanceMethod ({ cls := "java/util/PriorityQueue$Itr", name := "hasNext", desc := "()Z" } : Jvm.MethodName)) ∈ lw_all := lw_g (lw_at lw_m4 29 rfl) rfl
theorem q850 : (Jvm.Cond.publicMethod ({ cls := "java/util/PriorityQueue$Itr", name := "hasNext", desc := "()Z" } : Jvm.MethodName)) ∈ lw_tbl := lw_at lw_m4 30 rfl
theorem q851 : (Jvm.Cond.code ({ cls := "java/util/PriorityQueue$Itr", name := "hasNext", desc := "()Z" } : Jvm.MethodName) prog_81_method_2_code (1 : Nat) (Option.some Jvm.ClassFile.FieldType.boolean)) ∈ lw_all := lw_g (lw_at lw_m4 31 rfl) rfl
theorem q852 : (Jvm.Cond.methodLink "java/util/PriorityQueue$Itr" (35 : Nat) ({ cls := "java/util/ArrayDeque", name := "isEmpty", desc := "()Z" } : Jvm.MethodName)) ∈ lw_all := lw_g (lw_at lw_m4 32 rfl) rfl
theorem q1027 : (Jvm.Cond.selects "java/util/PriorityQueue$Itr" ({ cls := "java/lang/Object", name := "getClass", desc := "()Ljava/lang/Class;" } : Jvm.MethodName) ({ cls := "java/lang/Object", name := "getClass", desc := "()Ljava/lang/Class;" } : Jvm.MethodName)) ∈ lw_all := lw_g (lw_at lw_m4 207 rfl) rfl
theorem q1099 : (Jvm.Cond.selects "java/util/PriorityQueue$Itr" ({ cls := "java/util/Iterator", name := "next", desc := "()Ljava/lang/Object;" } : Jvm.MethodName) ({ cls := "java/util/PriorityQueue$Itr", name := "next", desc := "()Ljava/lang/Object;" } : Jvm.MethodName)) ∈ lw_all := lw_g (lw_at lw_m5 39 rfl) rfl
theorem q1100 : (Jvm.Cond.unhidden "java/util/PriorityQueue$Itr" "next" "()Ljava/lang/Object;") ∈ lw_tbl := lw_at lw_m5 40 rfl
theorem q1101 : (Jvm.Cond.instanceMethod ({ cls := "java/util/PriorityQueue$Itr", name := "next", desc := "()Ljava/lang/Object;" } : Jvm.MethodName)) ∈ lw_all := lw_g (lw_at lw_m5 41 rfl) rfl
theorem q1102 : (Jvm.Cond.publicMethod ({ cls := "java/util/PriorityQueue$Itr", name := "next", desc := "()Ljava/lang/Object;" } : Jvm.MethodName)) ∈ lw_tbl := lw_at lw_m5 42 rfl
theorem q1103 : (Jvm.Cond.code ({ cls := "java/util/PriorityQueue$Itr", name := "next", desc := "()Ljava/lang/Object;" } : Jvm.MethodName) prog_81_method_3_code (1 : Nat) (Option.some (Jvm.ClassFile.FieldType.object "java/lang/Object"))) ∈ lw_all := lw_g (lw_at lw_m5 43 rfl) rfl
theorem q1104 : (Jvm.Cond.methodLink "java/util/PriorityQueue$Itr" (48 : Nat) ({ cls := "java/util/ArrayDeque", name := "poll", desc := "()Ljava/lang/Object;" } : Jvm.MethodName)) ∈ lw_all := lw_g (lw_at lw_m5 44 rfl) rfl
theorem q1118 : (Jvm.Cond.classLink "java/util/PriorityQueue$Itr" (56 : Nat) "java/util/NoSuchElementException") ∈ lw_all := lw_g (lw_at lw_m5 58 rfl) rfl
theorem q1119 : (Jvm.Cond.methodLink "java/util/PriorityQueue$Itr" (58 : Nat) ({ cls := "java/util/NoSuchElementException", name := "<init>", desc := "()V" } : Jvm.MethodName)) ∈ lw_all := lw_g (lw_at lw_m5 59 rfl) rfl
theorem q1302 : (Jvm.Cond.fieldLink "java/util/PriorityQueue$Itr" (44 : Nat) "java/util/PriorityQueue" "queue" "[Ljava/lang/Object;") ∈ lw_all := lw_g (lw_at lw_m6 2 rfl) rfl
theorem q1304 : (Jvm.Cond.fieldLink "java/util/PriorityQueue$Itr" (28 : Nat) "java/util/PriorityQueue" "size" "I") ∈ lw_all := lw_g (lw_at lw_m6 4 rfl) rfl
theorem q1307 : (Jvm.Cond.fieldLink "java/util/PriorityQueue$Itr" (17 : Nat) "java/util/PriorityQueue" "modCount" "I") ∈ lw_all := lw_g (lw_at lw_m6 7 rfl) rfl
theorem q1908 : (Jvm.Cond.instantiable "java/util/PriorityQueue$Itr" (6 : Nat)) ∈ lw_all := lw_g (lw_at lw_m8 128 rfl) rfl
theorem q1910 : (Jvm.Cond.instanceMethod ({ cls := "java/util/PriorityQueue$Itr", name := "<init>", desc := "(Ljava/util/PriorityQueue;)V" } : Jvm.MethodName)) ∈ lw_all := lw_g (lw_at lw_m8 130 rfl) rfl
theorem q1911 : (Jvm.Cond.code ({ cls := "java/util/PriorityQueue$Itr", name := "<init>", desc := "(Ljava/util/PriorityQueue;)V" } : Jvm.MethodName) prog_81_method_1_code (2 : Nat) (Option.none : Option Jvm.ClassFile.FieldType)) ∈ lw_all := lw_g (lw_at lw_m8 131 rfl) rfl
theorem q1912 : (Jvm.Cond.methodLink "java/util/PriorityQueue$Itr" (7 : Nat) ({ cls := "java/lang/Object", name := "<init>", desc := "()V" } : Jvm.MethodName)) ∈ lw_all := lw_g (lw_at lw_m8 132 rfl) rfl
theorem q1913 : (Jvm.Cond.fieldLink "java/util/PriorityQueue$Itr" (25 : Nat) "java/util/PriorityQueue$Itr" "cursor" "I") ∈ lw_all := lw_g (lw_at lw_m8 133 rfl) rfl
theorem q1914 : (Jvm.Cond.fieldLink "java/util/PriorityQueue$Itr" (13 : Nat) "java/util/PriorityQueue$Itr" "lastRet" "I") ∈ lw_all := lw_g (lw_at lw_m8 134 rfl) rfl
theorem q1915 : (Jvm.Cond.fieldLink "java/util/PriorityQueue$Itr" (31 : Nat) "java/util/PriorityQueue$Itr" "forgetMeNot" "Ljava/util/ArrayDeque;") ∈ lw_all := lw_g (lw_at lw_m8 135 rfl) rfl
theorem q1916 : (Jvm.Cond.fieldLink "java/util/PriorityQueue$Itr" (52 : Nat) "java/util/PriorityQueue$Itr" "lastRetElt" "Ljava/lang/Object;") ∈ lw_all := lw_g (lw_at lw_m8 136 rfl) rfl
theorem q1917 : (Jvm.Cond.fieldLink "java/util/PriorityQueue$Itr" (22 : Nat) "java/util/PriorityQueue$Itr" "expectedModCount" "I") ∈ lw_all := lw_g (lw_at lw_m8 137 rfl) rfl
theorem q1918 : (Jvm.Cond.fieldLink "java/util/PriorityQueue$Itr" (1 : Nat) "java/util/PriorityQueue$Itr" "this$0" "Ljava/util/PriorityQueue;") ∈ lw_all := lw_g (lw_at lw_m8 138 rfl) rfl
theorem q1919 : (Jvm.Cond.lays "java/util/PriorityQueue$Itr" "java/util/PriorityQueue$Itr" "cursor" "I") ∈ lw_all := lw_g (lw_at lw_m8 139 rfl) rfl
theorem q1920 : (Jvm.Cond.soleField "java/util/PriorityQueue$Itr" "cursor") ∈ lw_all := lw_g (lw_at lw_m8 140 rfl) rfl
theorem q1921 : (Jvm.Cond.lays "java/util/PriorityQueue$Itr" "java/util/PriorityQueue$Itr" "lastRet" "I") ∈ lw_all := lw_g (lw_at lw_m8 141 rfl) rfl
theorem q1922 : (Jvm.Cond.soleField "java/util/PriorityQueue$Itr" "lastRet") ∈ lw_all := lw_g (lw_at lw_m8 142 rfl) rfl
theorem q1923 : (Jvm.Cond.lays "java/util/PriorityQueue$Itr" "java/util/PriorityQueue$Itr" "forgetMeNot" "Ljava/util/ArrayDeque;") ∈ lw_all := lw_g (lw_at lw_m8 143 rfl) rfl
theorem q1924 : (Jvm.Cond.soleField "java/util/PriorityQueue$Itr" "forgetMeNot") ∈ lw_all := lw_g (lw_at lw_m8 144 rfl) rfl
theorem q1925 : (Jvm.Cond.lays "java/util/PriorityQueue$Itr" "java/util/PriorityQueue$Itr" "lastRetElt" "Ljava/lang/Object;") ∈ lw_all := lw_g (lw_at lw_m8 145 rfl) rfl
theorem q1926 : (Jvm.Cond.soleField "java/util/PriorityQueue$Itr" "lastRetElt") ∈ lw_all := lw_g (lw_at lw_m8 146 rfl) rfl
theorem q1927 : (Jvm.Cond.lays "java/util/PriorityQueue$Itr" "java/util/PriorityQueue$Itr" "expectedModCount" "I") ∈ lw_all := lw_g (lw_at lw_m8 147 rfl) rfl
theorem q1928 : (Jvm.Cond.soleField "java/util/PriorityQueue$Itr" "expectedModCount") ∈ lw_all := lw_g (lw_at lw_m8 148 rfl) rfl
theorem q1929 : (Jvm.Cond.laysFinal "java/util/PriorityQueue$Itr" "java/util/PriorityQueue$Itr" "this$0" "Ljava/util/PriorityQueue;") ∈ lw_all := lw_g (lw_at lw_m8 149 rfl) rfl
theorem q1930 : (Jvm.Cond.soleField "java/util/PriorityQueue$Itr" "this$0") ∈ lw_all := lw_g (lw_at lw_m8 150 rfl) rfl
theorem q1931 : (Jvm.Cond.superclass "java/util/PriorityQueue$Itr" "java/lang/Object") ∈ lw_all := lw_g (lw_at lw_m8 151 rfl) rfl
theorem q4275 : (Jvm.Cond.castable "java/util/PriorityQueue$Itr" "java/lang/Object") ∈ lw_tbl := lw_at lw_m18 95 rfl
theorem in_J30 : ∀ w ∈ wsJ300, w ∈ lw_all := lw_in wsJ300 [1919, 1921, 1923, 1925, 1927, 1929] (by decide +kernel) (by decide +kernel)
/-! java/util/TreeMap$PrivateEntryIterator -/
set_option maxRecDepth 100000
def RJ31 : String := "java/util/TreeMap$PrivateEntryIterator"
abbrev cJ31_hasNext : ByteArray := prog_95_method_2_code
def yJ31_hasNext : MethodName := ⟨RJ31, "hasNext", "()Z"⟩
def dkwJ31_hasNext_0 : List UInt8 := [42, 180, 0, 26, 198, 0, 7, 4, 167, 0, 4, 3, 172]
abbrev dktJ31_hasNext_0 : List UInt8 := dkwJ31_hasNext_0 ++ []
theorem dksJ31_hasNext_0 : cJ31_hasNext.data.toList.drop 0 = dktJ31_hasNext_0 := by decide +kernel
theorem dJ31_hasNext_0 : decode cJ31_hasNext 0 = .ok (.aload_n 0, 1) := dk_42 (dk_at dksJ31_hasNext_0 0 rfl rfl)
theorem dJ31_hasNext_1 : decode cJ31_hasNext 1 = .ok (.getfield 26, 3) := dk_180 0 26 (dk_at dksJ31_hasNext_0 1 rfl rfl)
theorem dJ31_hasNext_4 : decode cJ31_hasNext 4 = .ok (.ifnull 7, 3) := dk_198 0 7 (dk_at dksJ31_hasNext_0 4 rfl rfl)
theorem dJ31_hasNext_7 : decode cJ31_hasNext 7 = .ok (.iconst 1, 1) := dk_4 (dk_at dksJ31_hasNext_0 7 rfl rfl)
theorem dJ31_hasNext_8 : decode cJ31_hasNext 8 = .ok (.goto 4, 3) := dk_167 0 4 (dk_at dksJ31_hasNext_0 8 rfl rfl)
theorem dJ31_hasNext_11 : decode cJ31_hasNext 11 = .ok (.iconst 0, 1) := dk_3 (dk_at dksJ31_hasNext_0 11 rfl rfl)
theorem dJ31_hasNext_12 : decode cJ31_hasNext 12 = .ok (.ireturn, 1) := dk_172 (dk_at dksJ31_hasNext_0 12 rfl rfl)
abbrev cJ31_nextEntry : ByteArray := prog_95_method_3_code
def yJ31_nextEntry : MethodName := ⟨RJ31, "nextEntry", "()Ljava/util/TreeMap$Entry;"⟩
def dkwJ31_nextEntry_2 : List UInt8 := [43, 181, 0, 22, 43, 176]
abbrev dktJ31_nextEntry_2 : List UInt8 := dkwJ31_nextEntry_2 ++ []
def dkwJ31_nextEntry_1 : List UInt8 := [42, 180, 0, 19, 159, 0, 11, 187, 0, 32, 89, 183, 0, 34, 191, 42, 43, 184, 0, 35, 181, 0, 26, 42]
abbrev dktJ31_nextEntry_1 : List UInt8 := dkwJ31_nextEntry_1 ++ dktJ31_nextEntry_2
def dkwJ31_nextEntry_0 : List UInt8 := [42, 180, 0, 26, 76, 43, 199, 0, 11, 187, 0, 29, 89, 183, 0, 31, 191, 42, 180, 0, 1, 180, 0, 13]
abbrev dktJ31_nextEntry_0 : List UInt8 := dkwJ31_nextEntry_0 ++ dktJ31_nextEntry_1
theorem dksJ31_nextEntry_0 : cJ31_nextEntry.data.toList.drop 0 = dktJ31_nextEntry_0 := by decide +kernel
theorem dksJ31_nextEntry_1 : cJ31_nextEntry.data.toList.drop 24 = dktJ31_nextEntry_1 := dk_seg dksJ31_nextEntry_0 24 rfl rfl
theorem dksJ31_nextEntry_2 : cJ31_nextEntry.data.toList.drop 48 = dktJ31_nextEntry_2 := dk_seg dksJ31_nextEntry_1 24 rfl rfl
theorem dJ31_nextEntry_0 : decode cJ31_nextEntry 0 = .ok (.aload_n 0, 1) := dk_42 (dk_at dksJ31_nextEntry_0 0 rfl rfl)
theorem dJ31_nextEntry_1 : decode cJ31_nextEntry 1 = .ok (.getfield 26, 3) := dk_180 0 26 (dk_at dksJ31_nextEntry_0 1 rfl rfl)
theorem dJ31_nextEntry_4 : decode cJ31_nextEntry 4 = .ok (.astore_n 1, 1) := dk_76 (dk_at dksJ31_nextEntry_0 4 rfl rfl)
theorem dJ31_nextEntry_5 : decode cJ31_nextEntry 5 = .ok (.aload_n 1, 1) := dk_43 (dk_at dksJ31_nextEntry_0 5 rfl rfl)
theorem dJ31_nextEntry_6 : decode cJ31_nextEntry 6 = .ok (.ifnonnull 11, 3) := dk_199 0 11 (dk_at dksJ31_nextEntry_0 6 rfl rfl)
theorem dJ31_nextEntry_9 : decode cJ31_nextEntry 9 = .ok (.new 29, 3) := dk_187 0 29 (dk_at dksJ31_nextEntry_0 9 rfl rfl)
theorem dJ31_nextEntry_12 : decode cJ31_nextEntry 12 = .ok (.dup, 1) := dk_89 (dk_at dksJ31_nextEntry_0 12 rfl rfl)
theorem dJ31_nextEntry_13 : decode cJ31_nextEntry 13 = .ok (.invokespecial 31, 3) := dk_183 0 31 (dk_at dksJ31_nextEntry_0 13 rfl rfl)
theorem dJ31_nextEntry_16 : decode cJ31_nextEntry 16 = .ok (.athrow, 1) := dk_191 (dk_at dksJ31_nextEntry_0 16 rfl rfl)
theorem dJ31_nextEntry_17 : decode cJ31_nextEntry 17 = .ok (.aload_n 0, 1) := dk_42 (dk_at dksJ31_nextEntry_0 17 rfl rfl)
theorem dJ31_nextEntry_18 : decode cJ31_nextEntry 18 = .ok (.getfield 1, 3) := dk_180 0 1 (dk_at dksJ31_nextEntry_0 18 rfl rfl)
theorem dJ31_nextEntry_21 : decode cJ31_nextEntry 21 = .ok (.getfield 13, 3) := dk_180 0 13 (dk_at dksJ31_nextEntry_0 21 rfl rfl)
theorem dJ31_nextEntry_24 : decode cJ31_nextEntry 24 = .ok (.aload_n 0, 1) := dk_42 (dk_at dksJ31_nextEntry_1 0 rfl rfl)
theorem dJ31_nextEntry_25 : decode cJ31_nextEntry 25 = .ok (.getfield 19, 3) := dk_180 0 19 (dk_at dksJ31_nextEntry_1 1 rfl rfl)
theorem dJ31_nextEntry_28 : decode cJ31_nextEntry 28 = .ok (.if_icmp .eq 11, 3) := dk_159 0 11 (dk_at dksJ31_nextEntry_1 4 rfl rfl)
theorem dJ31_nextEntry_31 : decode cJ31_nextEntry 31 = .ok (.new 32, 3) := dk_187 0 32 (dk_at dksJ31_nextEntry_1 7 rfl rfl)
theorem dJ31_nextEntry_34 : decode cJ31_nextEntry 34 = .ok (.dup, 1) := dk_89 (dk_at dksJ31_nextEntry_1 10 rfl rfl)
theorem dJ31_nextEntry_35 : decode cJ31_nextEntry 35 = .ok (.invokespecial 34, 3) := dk_183 0 34 (dk_at dksJ31_nextEntry_1 11 rfl rfl)
theorem dJ31_nextEntry_38 : decode cJ31_nextEntry 38 = .ok (.athrow, 1) := dk_191 (dk_at dksJ31_nextEntry_1 14 rfl rfl)
theorem dJ31_nextEntry_39 : decode cJ31_nextEntry 39 = .ok (.aload_n 0, 1) := dk_42 (dk_at dksJ31_nextEntry_1 15 rfl rfl)
theorem dJ31_nextEntry_40 : decode cJ31_nextEntry 40 = .ok (.aload_n 1, 1) := dk_43 (dk_at dksJ31_nextEntry_1 16 rfl rfl)
theorem dJ31_nextEntry_41 : decode cJ31_nextEntry 41 = .ok (.invokestatic 35, 3) := dk_184 0 35 (dk_at dksJ31_nextEntry_1 17 rfl rfl)
theorem dJ31_nextEntry_44 : decode cJ31_nextEntry 44 = .ok (.putfield 26, 3) := dk_181 0 26 (dk_at dksJ31_nextEntry_1 20 rfl rfl)
theorem dJ31_nextEntry_47 : decode cJ31_nextEntry 47 = .ok (.aload_n 0, 1) := dk_42 (dk_at dksJ31_nextEntry_1 23 rfl rfl)
theorem dJ31_nextEntry_48 : decode cJ31_nextEntry 48 = .ok (.aload_n 1, 1) := dk_43 (dk_at dksJ31_nextEntry_2 0 rfl rfl)
theorem dJ31_nextEntry_49 : decode cJ31_nextEntry 49 = .ok (.putfield 22, 3) := dk_181 0 22 (dk_at dksJ31_nextEntry_2 1 rfl rfl)
theorem dJ31_nextEntry_52 : decode cJ31_nextEntry 52 = .ok (.aload_n 1, 1) := dk_43 (dk_at dksJ31_nextEntry_2 4 rfl rfl)
theorem dJ31_nextEntry_53 : decode cJ31_nextEntry 53 = .ok (.areturn, 1) := dk_176 (dk_at dksJ31_nextEntry_2 5 rfl rfl)
abbrev cJ31_init : ByteArray := prog_95_method_1_code
def yJ31_init : MethodName := ⟨RJ31, "<init>", "(Ljava/util/TreeMap;Ljava/util/TreeMap$Entry;)V"⟩
def dkwJ31_init_1 : List UInt8 := [181, 0, 26, 177]
abbrev dktJ31_init_1 : List UInt8 := dkwJ31_init_1 ++ []
def dkwJ31_init_0 : List UInt8 := [42, 43, 181, 0, 1, 42, 183, 0, 7, 42, 43, 180, 0, 13, 181, 0, 19, 42, 1, 181, 0, 22, 42, 44]
abbrev dktJ31_init_0 : List UInt8 := dkwJ31_init_0 ++ dktJ31_init_1
theorem dksJ31_init_0 : cJ31_init.data.toList.drop 0 = dktJ31_init_0 := by decide +kernel
theorem dksJ31_init_1 : cJ31_init.data.toList.drop 24 = dktJ31_init_1 := dk_seg dksJ31_init_0 24 rfl rfl
theorem dJ31_init_0 : decode cJ31_init 0 = .ok (.aload_n 0, 1) := dk_42 (dk_at dksJ31_init_0 0 rfl rfl)
theorem dJ31_init_1 : decode cJ31_init 1 = .ok (.aload_n 1, 1) := dk_43 (dk_at dksJ31_init_0 1 rfl rfl)
theorem dJ31_init_2 : decode cJ31_init 2 = .ok (.putfield 1, 3) := dk_181 0 1 (dk_at dksJ31_init_0 2 rfl rfl)
theorem dJ31_init_5 : decode cJ31_init 5 = .ok (.aload_n 0, 1) := dk_42 (dk_at dksJ31_init_0 5 rfl rfl)
theorem dJ31_init_6 : decode cJ31_init 6 = .ok (.invokespecial 7, 3) := dk_183 0 7 (dk_at dksJ31_init_0 6 rfl rfl)
theorem dJ31_init_9 : decode cJ31_init 9 = .ok (.aload_n 0, 1) := dk_42 (dk_at dksJ31_init_0 9 rfl rfl)
theorem dJ31_init_10 : decode cJ31_init 10 = .ok (.aload_n 1, 1) := dk_43 (dk_at dksJ31_init_0 10 rfl rfl)
theorem dJ31_init_11 : decode cJ31_init 11 = .ok (.getfield 13, 3) := dk_180 0 13 (dk_at dksJ31_init_0 11 rfl rfl)
theorem dJ31_init_14 : decode cJ31_init 14 = .ok (.putfield 19, 3) := dk_181 0 19 (dk_at dksJ31_init_0 14 rfl rfl)
theorem dJ31_init_17 : decode cJ31_init 17 = .ok (.aload_n 0, 1) := dk_42 (dk_at dksJ31_init_0 17 rfl rfl)
theorem dJ31_init_18 : decode cJ31_init 18 = .ok (.aconst_null, 1) := dk_1 (dk_at dksJ31_init_0 18 rfl rfl)
theorem dJ31_init_19 : decode cJ31_init 19 = .ok (.putfield 22, 3) := dk_181 0 22 (dk_at dksJ31_init_0 19 rfl rfl)
theorem dJ31_init_22 : decode cJ31_init 22 = .ok (.aload_n 0, 1) := dk_42 (dk_at dksJ31_init_0 22 rfl rfl)
theorem dJ31_init_23 : decode cJ31_init 23 = .ok (.aload_n 2, 1) := dk_44 (dk_at dksJ31_init_0 23 rfl rfl)
theorem dJ31_init_24 : decode cJ31_init 24 = .ok (.putfield 26, 3) := dk_181 0 26 (dk_at dksJ31_init_1 0 rfl rfl)
theorem dJ31_init_27 : decode cJ31_init 27 = .ok (.return_, 1) := dk_177 (dk_at dksJ31_init_1 3 rfl rfl)
theorem q139 : (Jvm.Cond.initialized "java/util/TreeMap$PrivateEntryIterator") ∈ lw_all := lw_g (lw_at lw_m1 39 rfl) rfl
theorem q303 : (Jvm.Cond.fieldLinkNest "java/util/TreeMap$PrivateEntryIterator" (13 : Nat) "java/util/TreeMap" "modCount" "I" "java/util/TreeMap") ∈ lw_tbl := lw_at lw_m1 203 rfl
theorem q859 : (Jvm.Cond.instanceMethod ({ cls := "java/util/TreeMap$PrivateEntryIterator", name := "hasNext", desc := "()Z" } : Jvm.MethodName)) ∈ lw_all := lw_g (lw_at lw_m4 39 rfl) rfl
theorem q860 : (Jvm.Cond.publicMethod ({ cls := "java/util/TreeMap$PrivateEntryIterator", name := "hasNext", desc := "()Z" } : Jvm.MethodName)) ∈ lw_tbl := lw_at lw_m4 40 rfl
theorem q861 : (Jvm.Cond.code ({ cls := "java/util/TreeMap$PrivateEntryIterator", name := "hasNext", desc := "()Z" } : Jvm.MethodName) prog_95_method_2_code (1 : Nat) (Option.some Jvm.ClassFile.FieldType.boolean)) ∈ lw_all := lw_g (lw_at lw_m4 41 rfl) rfl
theorem q1127 : (Jvm.Cond.declares ({ cls := "java/util/TreeMap$PrivateEntryIterator", name := "nextEntry", desc := "()Ljava/util/TreeMap$Entry;" } : Jvm.MethodName)) ∈ lw_tbl := lw_at lw_m5 67 rfl
theorem q1129 : (Jvm.Cond.instanceMethod ({ cls := "java/util/TreeMap$PrivateEntryIterator", name := "nextEntry", desc := "()Ljava/util/TreeMap$Entry;" } : Jvm.MethodName)) ∈ lw_all := lw_g (lw_at lw_m5 69 rfl) rfl
theorem q1130 : (Jvm.Cond.code ({ cls := "java/util/TreeMap$PrivateEntryIterator", name := "nextEntry", desc := "()Ljava/util/TreeMap$Entry;" } : Jvm.MethodName) prog_95_method_3_code (2 : Nat) (Option.some (Jvm.ClassFile.FieldType.object "java/util/TreeMap$Entry"))) ∈ lw_all := lw_g (lw_at lw_m5 70 rfl) rfl
theorem q1131 : (Jvm.Cond.classLink "java/util/TreeMap$PrivateEntryIterator" (29 : Nat) "java/util/NoSuchElementException") ∈ lw_all := lw_g (lw_at lw_m5 71 rfl) rfl
theorem q1132 : (Jvm.Cond.methodLink "java/util/TreeMap$PrivateEntryIterator" (31 : Nat) ({ cls := "java/util/NoSuchElementException", name := "<init>", desc := "()V" } : Jvm.MethodName)) ∈ lw_all := lw_g (lw_at lw_m5 72 rfl) rfl
theorem q1133 : (Jvm.Cond.methodLink "java/util/TreeMap$PrivateEntryIterator" (35 : Nat) ({ cls := "java/util/TreeMap", name := "successor", desc := "(Ljava/util/TreeMap$Entry;)Ljava/util/TreeMap$Entry;" } : Jvm.MethodName)) ∈ lw_all := lw_g (lw_at lw_m5 73 rfl) rfl
theorem q1953 : (Jvm.Cond.instanceMethod ({ cls := "java/util/TreeMap$PrivateEntryIterator", name := "<init>", desc := "(Ljava/util/TreeMap;Ljava/util/TreeMap$Entry;)V" } : Jvm.MethodName)) ∈ lw_all := lw_g (lw_at lw_m8 173 rfl) rfl
theorem q1954 : (Jvm.Cond.code ({ cls := "java/util/TreeMap$PrivateEntryIterator", name := "<init>", desc := "(Ljava/util/TreeMap;Ljava/util/TreeMap$Entry;)V" } : Jvm.MethodName) prog_95_method_1_code (3 : Nat) (Option.none : Option Jvm.ClassFile.FieldType)) ∈ lw_all := lw_g (lw_at lw_m8 174 rfl) rfl
theorem q1955 : (Jvm.Cond.methodLink "java/util/TreeMap$PrivateEntryIterator" (7 : Nat) ({ cls := "java/lang/Object", name := "<init>", desc := "()V" } : Jvm.MethodName)) ∈ lw_all := lw_g (lw_at lw_m8 175 rfl) rfl
theorem q1956 : (Jvm.Cond.fieldLink "java/util/TreeMap$PrivateEntryIterator" (26 : Nat) "java/util/TreeMap$PrivateEntryIterator" "next" "Ljava/util/TreeMap$Entry;") ∈ lw_all := lw_g (lw_at lw_m8 176 rfl) rfl
theorem q1957 : (Jvm.Cond.fieldLink "java/util/TreeMap$PrivateEntryIterator" (22 : Nat) "java/util/TreeMap$PrivateEntryIterator" "lastReturned" "Ljava/util/TreeMap$Entry;") ∈ lw_all := lw_g (lw_at lw_m8 177 rfl) rfl
theorem q1958 : (Jvm.Cond.fieldLink "java/util/TreeMap$PrivateEntryIterator" (19 : Nat) "java/util/TreeMap$PrivateEntryIterator" "expectedModCount" "I") ∈ lw_all := lw_g (lw_at lw_m8 178 rfl) rfl
theorem q1959 : (Jvm.Cond.fieldLink "java/util/TreeMap$PrivateEntryIterator" (1 : Nat) "java/util/TreeMap$PrivateEntryIterator" "this$0" "Ljava/util/TreeMap;") ∈ lw_all := lw_g (lw_at lw_m8 179 rfl) rfl
theorem q1961 : (Jvm.Cond.soleField "java/util/TreeMap$PrivateEntryIterator" "next") ∈ lw_all := lw_g (lw_at lw_m8 181 rfl) rfl
theorem q1963 : (Jvm.Cond.soleField "java/util/TreeMap$PrivateEntryIterator" "lastReturned") ∈ lw_all := lw_g (lw_at lw_m8 183 rfl) rfl
theorem q1965 : (Jvm.Cond.soleField "java/util/TreeMap$PrivateEntryIterator" "expectedModCount") ∈ lw_all := lw_g (lw_at lw_m8 185 rfl) rfl
theorem q1967 : (Jvm.Cond.soleField "java/util/TreeMap$PrivateEntryIterator" "this$0") ∈ lw_all := lw_g (lw_at lw_m8 187 rfl) rfl
/-! java/util/TreeMap$KeyIterator -/
set_option maxRecDepth 100000
def RJ32 : String := "java/util/TreeMap$KeyIterator"
def TJ32 : u_T := fun k => match k with
  | 0 => ("java/util/TreeMap$PrivateEntryIterator", "next", "Ljava/util/TreeMap$Entry;", false)
  | 1 => ("java/util/TreeMap$PrivateEntryIterator", "lastReturned", "Ljava/util/TreeMap$Entry;", false)
  | 2 => ("java/util/TreeMap$PrivateEntryIterator", "expectedModCount", "I", false)
  | _ => ("java/util/TreeMap$PrivateEntryIterator", "this$0", "Ljava/util/TreeMap;", true)
def tyJ32 : Nat → FieldType := fun k => match k with
  | 0 => .object "java/util/TreeMap$Entry"
  | 1 => .object "java/util/TreeMap$Entry"
  | 2 => .int
  | _ => .object "java/util/TreeMap"
abbrev wsJ320 : List Cond := u_ws RJ32 TJ32 4
theorem nmJ32 : ∀ a, a < 4 → ∀ b, b < 4 → a ≠ b → (TJ32 a).2.1 ≠ (TJ32 b).2.1 := by decide +kernel
theorem tyJ32_ok : ∀ k, k < 4 → parseFieldDescriptor (TJ32 k).2.2.1 = some (tyJ32 k) := by decide +kernel
abbrev cJ32_next : ByteArray := prog_92_method_2_code
def yJ32_next : MethodName := ⟨RJ32, "next", "()Ljava/lang/Object;"⟩
def dkwJ32_next_0 : List UInt8 := [42, 182, 0, 7, 180, 0, 13, 176]
abbrev dktJ32_next_0 : List UInt8 := dkwJ32_next_0 ++ []
theorem dksJ32_next_0 : cJ32_next.data.toList.drop 0 = dktJ32_next_0 := by decide +kernel
theorem dJ32_next_0 : decode cJ32_next 0 = .ok (.aload_n 0, 1) := dk_42 (dk_at dksJ32_next_0 0 rfl rfl)
theorem dJ32_next_1 : decode cJ32_next 1 = .ok (.invokevirtual 7, 3) := dk_182 0 7 (dk_at dksJ32_next_0 1 rfl rfl)
theorem dJ32_next_4 : decode cJ32_next 4 = .ok (.getfield 13, 3) := dk_180 0 13 (dk_at dksJ32_next_0 4 rfl rfl)
theorem dJ32_next_7 : decode cJ32_next 7 = .ok (.areturn, 1) := dk_176 (dk_at dksJ32_next_0 7 rfl rfl)
abbrev cJ32_init : ByteArray := prog_92_method_1_code
def yJ32_init : MethodName := ⟨RJ32, "<init>", "(Ljava/util/TreeMap;Ljava/util/TreeMap$Entry;)V"⟩
def dkwJ32_init_0 : List UInt8 := [42, 43, 44, 183, 0, 1, 177]
abbrev dktJ32_init_0 : List UInt8 := dkwJ32_init_0 ++ []
theorem dksJ32_init_0 : cJ32_init.data.toList.drop 0 = dktJ32_init_0 := by decide +kernel
theorem dJ32_init_0 : decode cJ32_init 0 = .ok (.aload_n 0, 1) := dk_42 (dk_at dksJ32_init_0 0 rfl rfl)
theorem dJ32_init_1 : decode cJ32_init 1 = .ok (.aload_n 1, 1) := dk_43 (dk_at dksJ32_init_0 1 rfl rfl)
theorem dJ32_init_2 : decode cJ32_init 2 = .ok (.aload_n 2, 1) := dk_44 (dk_at dksJ32_init_0 2 rfl rfl)
theorem dJ32_init_3 : decode cJ32_init 3 = .ok (.invokespecial 1, 3) := dk_183 0 1 (dk_at dksJ32_init_0 3 rfl rfl)
theorem dJ32_init_6 : decode cJ32_init 6 = .ok (.return_, 1) := dk_177 (dk_at dksJ32_init_0 6 rfl rfl)
theorem q140 : (Jvm.Cond.initialized "java/util/TreeMap$KeyIterator") ∈ lw_all := lw_g (lw_at lw_m1 40 rfl) rfl
theorem q856 : (Jvm.Cond.castable "java/util/TreeMap$KeyIterator" "java/util/Iterator") ∈ lw_tbl := lw_at lw_m4 36 rfl
theorem q857 : (Jvm.Cond.selects "java/util/TreeMap$KeyIterator" ({ cls := "java/util/Iterator", name := "hasNext", desc := "()Z" } : Jvm.MethodName) ({ cls := "java/util/TreeMap$PrivateEntryIterator", name := "hasNext", desc := "()Z" } : Jvm.MethodName)) ∈ lw_all := lw_g (lw_at lw_m4 37 rfl) rfl
theorem q858 : (Jvm.Cond.unhidden "java/util/TreeMap$KeyIterator" "hasNext" "()Z") ∈ lw_tbl := lw_at lw_m4 38 rfl
theorem q1030 : (Jvm.Cond.selects "java/util/TreeMap$KeyIterator" ({ cls := "java/lang/Object", name := "getClass", desc := "()Ljava/lang/Class;" } : Jvm.MethodName) ({ cls := "java/lang/Object", name := "getClass", desc := "()Ljava/lang/Class;" } : Jvm.MethodName)) ∈ lw_all := lw_g (lw_at lw_m4 210 rfl) rfl
theorem q1120 : (Jvm.Cond.selects "java/util/TreeMap$KeyIterator" ({ cls := "java/util/Iterator", name := "next", desc := "()Ljava/lang/Object;" } : Jvm.MethodName) ({ cls := "java/util/TreeMap$KeyIterator", name := "next", desc := "()Ljava/lang/Object;" } : Jvm.MethodName)) ∈ lw_all := lw_g (lw_at lw_m5 60 rfl) rfl
theorem q1121 : (Jvm.Cond.unhidden "java/util/TreeMap$KeyIterator" "next" "()Ljava/lang/Object;") ∈ lw_tbl := lw_at lw_m5 61 rfl
theorem q1122 : (Jvm.Cond.instanceMethod ({ cls := "java/util/TreeMap$KeyIterator", name := "next", desc := "()Ljava/lang/Object;" } : Jvm.MethodName)) ∈ lw_all := lw_g (lw_at lw_m5 62 rfl) rfl
theorem q1123 : (Jvm.Cond.publicMethod ({ cls := "java/util/TreeMap$KeyIterator", name := "next", desc := "()Ljava/lang/Object;" } : Jvm.MethodName)) ∈ lw_tbl := lw_at lw_m5 63 rfl
theorem q1124 : (Jvm.Cond.code ({ cls := "java/util/TreeMap$KeyIterator", name := "next", desc := "()Ljava/lang/Object;" } : Jvm.MethodName) prog_92_method_2_code (1 : Nat) (Option.some (Jvm.ClassFile.FieldType.object "java/lang/Object"))) ∈ lw_all := lw_g (lw_at lw_m5 64 rfl) rfl
theorem q1125 : (Jvm.Cond.methodLink "java/util/TreeMap$KeyIterator" (7 : Nat) ({ cls := "java/util/TreeMap$KeyIterator", name := "nextEntry", desc := "()Ljava/util/TreeMap$Entry;" } : Jvm.MethodName)) ∈ lw_all := lw_g (lw_at lw_m5 65 rfl) rfl
theorem q1126 : (Jvm.Cond.sameMethod "java/util/TreeMap$KeyIterator" "java/util/TreeMap$PrivateEntryIterator" "nextEntry" "()Ljava/util/TreeMap$Entry;") ∈ lw_all := lw_g (lw_at lw_m5 66 rfl) rfl
theorem q1128 : (Jvm.Cond.selects "java/util/TreeMap$KeyIterator" ({ cls := "java/util/TreeMap$KeyIterator", name := "nextEntry", desc := "()Ljava/util/TreeMap$Entry;" } : Jvm.MethodName) ({ cls := "java/util/TreeMap$PrivateEntryIterator", name := "nextEntry", desc := "()Ljava/util/TreeMap$Entry;" } : Jvm.MethodName)) ∈ lw_all := lw_g (lw_at lw_m5 68 rfl) rfl
theorem q1944 : (Jvm.Cond.instantiable "java/util/TreeMap$KeyIterator" (4 : Nat)) ∈ lw_all := lw_g (lw_at lw_m8 164 rfl) rfl
theorem q1950 : (Jvm.Cond.instanceMethod ({ cls := "java/util/TreeMap$KeyIterator", name := "<init>", desc := "(Ljava/util/TreeMap;Ljava/util/TreeMap$Entry;)V" } : Jvm.MethodName)) ∈ lw_all := lw_g (lw_at lw_m8 170 rfl) rfl
theorem q1951 : (Jvm.Cond.code ({ cls := "java/util/TreeMap$KeyIterator", name := "<init>", desc := "(Ljava/util/TreeMap;Ljava/util/TreeMap$Entry;)V" } : Jvm.MethodName) prog_92_method_1_code (3 : Nat) (Option.none : Option Jvm.ClassFile.FieldType)) ∈ lw_all := lw_g (lw_at lw_m8 171 rfl) rfl
theorem q1952 : (Jvm.Cond.methodLink "java/util/TreeMap$KeyIterator" (1 : Nat) ({ cls := "java/util/TreeMap$PrivateEntryIterator", name := "<init>", desc := "(Ljava/util/TreeMap;Ljava/util/TreeMap$Entry;)V" } : Jvm.MethodName)) ∈ lw_all := lw_g (lw_at lw_m8 172 rfl) rfl
theorem q1960 : (Jvm.Cond.lays "java/util/TreeMap$KeyIterator" "java/util/TreeMap$PrivateEntryIterator" "next" "Ljava/util/TreeMap$Entry;") ∈ lw_all := lw_g (lw_at lw_m8 180 rfl) rfl
theorem q1962 : (Jvm.Cond.lays "java/util/TreeMap$KeyIterator" "java/util/TreeMap$PrivateEntryIterator" "lastReturned" "Ljava/util/TreeMap$Entry;") ∈ lw_all := lw_g (lw_at lw_m8 182 rfl) rfl
theorem q1964 : (Jvm.Cond.lays "java/util/TreeMap$KeyIterator" "java/util/TreeMap$PrivateEntryIterator" "expectedModCount" "I") ∈ lw_all := lw_g (lw_at lw_m8 184 rfl) rfl
theorem q1966 : (Jvm.Cond.laysFinal "java/util/TreeMap$KeyIterator" "java/util/TreeMap$PrivateEntryIterator" "this$0" "Ljava/util/TreeMap;") ∈ lw_all := lw_g (lw_at lw_m8 186 rfl) rfl
theorem q1968 : (Jvm.Cond.superclass "java/util/TreeMap$KeyIterator" "java/util/TreeMap$PrivateEntryIterator") ∈ lw_all := lw_g (lw_at lw_m8 188 rfl) rfl
theorem q2127 : (Jvm.Cond.fieldLink "java/util/TreeMap$KeyIterator" (13 : Nat) "java/util/TreeMap$Entry" "key" "Ljava/lang/Object;") ∈ lw_all := lw_g (lw_at lw_m9 107 rfl) rfl
theorem q4278 : (Jvm.Cond.castable "java/util/TreeMap$KeyIterator" "java/lang/Object") ∈ lw_tbl := lw_at lw_m18 98 rfl
theorem in_J32 : ∀ w ∈ wsJ320, w ∈ lw_all := lw_in wsJ320 [1960, 1962, 1964, 1966] (by decide +kernel) (by decide +kernel)
/-! java/util/TreeMap$ValueIterator -/
set_option maxRecDepth 100000
def RJ33 : String := "java/util/TreeMap$ValueIterator"
def TJ33 : u_T := fun k => match k with
  | 0 => ("java/util/TreeMap$PrivateEntryIterator", "next", "Ljava/util/TreeMap$Entry;", false)
  | 1 => ("java/util/TreeMap$PrivateEntryIterator", "lastReturned", "Ljava/util/TreeMap$Entry;", false)
  | 2 => ("java/util/TreeMap$PrivateEntryIterator", "expectedModCount", "I", false)
  | _ => ("java/util/TreeMap$PrivateEntryIterator", "this$0", "Ljava/util/TreeMap;", true)
def tyJ33 : Nat → FieldType := fun k => match k with
  | 0 => .object "java/util/TreeMap$Entry"
  | 1 => .object "java/util/TreeMap$Entry"
  | 2 => .int
  | _ => .object "java/util/TreeMap"
abbrev wsJ330 : List Cond := u_ws RJ33 TJ33 4
theorem nmJ33 : ∀ a, a < 4 → ∀ b, b < 4 → a ≠ b → (TJ33 a).2.1 ≠ (TJ33 b).2.1 := by decide +kernel
theorem tyJ33_ok : ∀ k, k < 4 → parseFieldDescriptor (TJ33 k).2.2.1 = some (tyJ33 k) := by decide +kernel
abbrev cJ33_next : ByteArray := prog_96_method_2_code
def yJ33_next : MethodName := ⟨RJ33, "next", "()Ljava/lang/Object;"⟩
def dkwJ33_next_0 : List UInt8 := [42, 182, 0, 7, 180, 0, 13, 176]
abbrev dktJ33_next_0 : List UInt8 := dkwJ33_next_0 ++ []
theorem dksJ33_next_0 : cJ33_next.data.toList.drop 0 = dktJ33_next_0 := by decide +kernel
theorem dJ33_next_0 : decode cJ33_next 0 = .ok (.aload_n 0, 1) := dk_42 (dk_at dksJ33_next_0 0 rfl rfl)
theorem dJ33_next_1 : decode cJ33_next 1 = .ok (.invokevirtual 7, 3) := dk_182 0 7 (dk_at dksJ33_next_0 1 rfl rfl)
theorem dJ33_next_4 : decode cJ33_next 4 = .ok (.getfield 13, 3) := dk_180 0 13 (dk_at dksJ33_next_0 4 rfl rfl)
theorem dJ33_next_7 : decode cJ33_next 7 = .ok (.areturn, 1) := dk_176 (dk_at dksJ33_next_0 7 rfl rfl)
abbrev cJ33_init : ByteArray := prog_96_method_1_code
def yJ33_init : MethodName := ⟨RJ33, "<init>", "(Ljava/util/TreeMap;Ljava/util/TreeMap$Entry;)V"⟩
def dkwJ33_init_0 : List UInt8 := [42, 43, 44, 183, 0, 1, 177]
abbrev dktJ33_init_0 : List UInt8 := dkwJ33_init_0 ++ []
theorem dksJ33_init_0 : cJ33_init.data.toList.drop 0 = dktJ33_init_0 := by decide +kernel
theorem dJ33_init_0 : decode cJ33_init 0 = .ok (.aload_n 0, 1) := dk_42 (dk_at dksJ33_init_0 0 rfl rfl)
theorem dJ33_init_1 : decode cJ33_init 1 = .ok (.aload_n 1, 1) := dk_43 (dk_at dksJ33_init_0 1 rfl rfl)
theorem dJ33_init_2 : decode cJ33_init 2 = .ok (.aload_n 2, 1) := dk_44 (dk_at dksJ33_init_0 2 rfl rfl)
theorem dJ33_init_3 : decode cJ33_init 3 = .ok (.invokespecial 1, 3) := dk_183 0 1 (dk_at dksJ33_init_0 3 rfl rfl)
theorem dJ33_init_6 : decode cJ33_init 6 = .ok (.return_, 1) := dk_177 (dk_at dksJ33_init_0 6 rfl rfl)
theorem q141 : (Jvm.Cond.initialized "java/util/TreeMap$ValueIterator") ∈ lw_all := lw_g (lw_at lw_m1 41 rfl) rfl
theorem q862 : (Jvm.Cond.castable "java/util/TreeMap$ValueIterator" "java/util/Iterator") ∈ lw_tbl := lw_at lw_m4 42 rfl
theorem q863 : (Jvm.Cond.selects "java/util/TreeMap$ValueIterator" ({ cls := "java/util/Iterator", name := "hasNext", desc := "()Z" } : Jvm.MethodName) ({ cls := "java/util/TreeMap$PrivateEntryIterator", name := "hasNext", desc := "()Z" } : Jvm.MethodName)) ∈ lw_all := lw_g (lw_at lw_m4 43 rfl) rfl
theorem q864 : (Jvm.Cond.unhidden "java/util/TreeMap$ValueIterator" "hasNext" "()Z") ∈ lw_tbl := lw_at lw_m4 44 rfl
theorem q1032 : (Jvm.Cond.selects "java/util/TreeMap$ValueIterator" ({ cls := "java/lang/Object", name := "getClass", desc := "()Ljava/lang/Class;" } : Jvm.MethodName) ({ cls := "java/lang/Object", name := "getClass", desc := "()Ljava/lang/Class;" } : Jvm.MethodName)) ∈ lw_all := lw_g (lw_at lw_m4 212 rfl) rfl
theorem q1136 : (Jvm.Cond.selects "java/util/TreeMap$ValueIterator" ({ cls := "java/util/Iterator", name := "next", desc := "()Ljava/lang/Object;" } : Jvm.MethodName) ({ cls := "java/util/TreeMap$ValueIterator", name := "next", desc := "()Ljava/lang/Object;" } : Jvm.MethodName)) ∈ lw_all := lw_g (lw_at lw_m5 76 rfl) rfl
theorem q1137 : (Jvm.Cond.unhidden "java/util/TreeMap$ValueIterator" "next" "()Ljava/lang/Object;") ∈ lw_tbl := lw_at lw_m5 77 rfl
theorem q1138 : (Jvm.Cond.instanceMethod ({ cls := "java/util/TreeMap$ValueIterator", name := "next", desc := "()Ljava/lang/Object;" } : Jvm.MethodName)) ∈ lw_all := lw_g (lw_at lw_m5 78 rfl) rfl
theorem q1139 : (Jvm.Cond.publicMethod ({ cls := "java/util/TreeMap$ValueIterator", name := "next", desc := "()Ljava/lang/Object;" } : Jvm.MethodName)) ∈ lw_tbl := lw_at lw_m5 79 rfl
theorem q1140 : (Jvm.Cond.code ({ cls := "java/util/TreeMap$ValueIterator", name := "next", desc := "()Ljava/lang/Object;" } : Jvm.MethodName) prog_96_method_2_code (1 : Nat) (Option.some (Jvm.ClassFile.FieldType.object "java/lang/Object"))) ∈ lw_all := lw_g (lw_at lw_m5 80 rfl) rfl
theorem q1141 : (Jvm.Cond.methodLink "java/util/TreeMap$ValueIterator" (7 : Nat) ({ cls := "java/util/TreeMap$ValueIterator", name := "nextEntry", desc := "()Ljava/util/TreeMap$Entry;" } : Jvm.MethodName)) ∈ lw_all := lw_g (lw_at lw_m5 81 rfl) rfl
theorem q1142 : (Jvm.Cond.sameMethod "java/util/TreeMap$ValueIterator" "java/util/TreeMap$PrivateEntryIterator" "nextEntry" "()Ljava/util/TreeMap$Entry;") ∈ lw_all := lw_g (lw_at lw_m5 82 rfl) rfl
theorem q1143 : (Jvm.Cond.selects "java/util/TreeMap$ValueIterator" ({ cls := "java/util/TreeMap$ValueIterator", name := "nextEntry", desc := "()Ljava/util/TreeMap$Entry;" } : Jvm.MethodName) ({ cls := "java/util/TreeMap$PrivateEntryIterator", name := "nextEntry", desc := "()Ljava/util/TreeMap$Entry;" } : Jvm.MethodName)) ∈ lw_all := lw_g (lw_at lw_m5 83 rfl) rfl
theorem q1980 : (Jvm.Cond.instantiable "java/util/TreeMap$ValueIterator" (4 : Nat)) ∈ lw_all := lw_g (lw_at lw_m8 200 rfl) rfl
theorem q1983 : (Jvm.Cond.instanceMethod ({ cls := "java/util/TreeMap$ValueIterator", name := "<init>", desc := "(Ljava/util/TreeMap;Ljava/util/TreeMap$Entry;)V" } : Jvm.MethodName)) ∈ lw_all := lw_g (lw_at lw_m8 203 rfl) rfl
theorem q1984 : (Jvm.Cond.code ({ cls := "java/util/TreeMap$ValueIterator", name := "<init>", desc := "(Ljava/util/TreeMap;Ljava/util/TreeMap$Entry;)V" } : Jvm.MethodName) prog_96_method_1_code (3 : Nat) (Option.none : Option Jvm.ClassFile.FieldType)) ∈ lw_all := lw_g (lw_at lw_m8 204 rfl) rfl
theorem q1985 : (Jvm.Cond.methodLink "java/util/TreeMap$ValueIterator" (1 : Nat) ({ cls := "java/util/TreeMap$PrivateEntryIterator", name := "<init>", desc := "(Ljava/util/TreeMap;Ljava/util/TreeMap$Entry;)V" } : Jvm.MethodName)) ∈ lw_all := lw_g (lw_at lw_m8 205 rfl) rfl
theorem q1986 : (Jvm.Cond.lays "java/util/TreeMap$ValueIterator" "java/util/TreeMap$PrivateEntryIterator" "next" "Ljava/util/TreeMap$Entry;") ∈ lw_all := lw_g (lw_at lw_m8 206 rfl) rfl
theorem q1987 : (Jvm.Cond.lays "java/util/TreeMap$ValueIterator" "java/util/TreeMap$PrivateEntryIterator" "lastReturned" "Ljava/util/TreeMap$Entry;") ∈ lw_all := lw_g (lw_at lw_m8 207 rfl) rfl
theorem q1988 : (Jvm.Cond.lays "java/util/TreeMap$ValueIterator" "java/util/TreeMap$PrivateEntryIterator" "expectedModCount" "I") ∈ lw_all := lw_g (lw_at lw_m8 208 rfl) rfl
theorem q1989 : (Jvm.Cond.laysFinal "java/util/TreeMap$ValueIterator" "java/util/TreeMap$PrivateEntryIterator" "this$0" "Ljava/util/TreeMap;") ∈ lw_all := lw_g (lw_at lw_m8 209 rfl) rfl
theorem q1990 : (Jvm.Cond.superclass "java/util/TreeMap$ValueIterator" "java/util/TreeMap$PrivateEntryIterator") ∈ lw_all := lw_g (lw_at lw_m8 210 rfl) rfl
theorem q2130 : (Jvm.Cond.fieldLink "java/util/TreeMap$ValueIterator" (13 : Nat) "java/util/TreeMap$Entry" "value" "Ljava/lang/Object;") ∈ lw_all := lw_g (lw_at lw_m9 110 rfl) rfl
theorem q4256 : (Jvm.Cond.castable "java/util/TreeMap$ValueIterator" "java/lang/Object") ∈ lw_tbl := lw_at lw_m18 76 rfl
theorem in_J33 : ∀ w ∈ wsJ330, w ∈ lw_all := lw_in wsJ330 [1986, 1987, 1988, 1989] (by decide +kernel) (by decide +kernel)
/-! java/util/AbstractSet -/
set_option maxRecDepth 100000
def RJ34 : String := "java/util/AbstractSet"
abbrev cJ34_init : ByteArray := prog_59_method_1_code
def yJ34_init : MethodName := ⟨RJ34, "<init>", "()V"⟩
theorem dJ34_init_0 : decode cJ34_init 0 = .ok (.aload_n 0, 1) := by decide +kernel
theorem dJ34_init_1 : decode cJ34_init 1 = .ok (.invokespecial 1, 3) := by decide +kernel
theorem dJ34_init_4 : decode cJ34_init 4 = .ok (.return_, 1) := by decide +kernel
theorem q142 : (Jvm.Cond.initialized "java/util/AbstractSet") ∈ lw_all := lw_g (lw_at lw_m1 42 rfl) rfl
theorem q2012 : (Jvm.Cond.instanceMethod ({ cls := "java/util/AbstractSet", name := "<init>", desc := "()V" } : Jvm.MethodName)) ∈ lw_all := lw_g (lw_at lw_m8 232 rfl) rfl
theorem q2013 : (Jvm.Cond.code ({ cls := "java/util/AbstractSet", name := "<init>", desc := "()V" } : Jvm.MethodName) prog_59_method_1_code (1 : Nat) (Option.none : Option Jvm.ClassFile.FieldType)) ∈ lw_all := lw_g (lw_at lw_m8 233 rfl) rfl
theorem q2014 : (Jvm.Cond.methodLink "java/util/AbstractSet" (1 : Nat) ({ cls := "java/util/AbstractCollection", name := "<init>", desc := "()V" } : Jvm.MethodName)) ∈ lw_all := lw_g (lw_at lw_m8 234 rfl) rfl
/-! java/util/TreeMap$KeySet -/
set_option maxRecDepth 100000
def RJ35 : String := "java/util/TreeMap$KeySet"
def TJ35 : u_T := fun k => match k with
  | _ => ("java/util/TreeMap$KeySet", "m", "Ljava/util/NavigableMap;", true)
def tyJ35 : Nat → FieldType := fun k => match k with
  | _ => .object "java/util/NavigableMap"
abbrev wsJ350 : List Cond := u_ws RJ35 TJ35 1
theorem nmJ35 : ∀ a, a < 1 → ∀ b, b < 1 → a ≠ b → (TJ35 a).2.1 ≠ (TJ35 b).2.1 := by decide +kernel
theorem tyJ35_ok : ∀ k, k < 1 → parseFieldDescriptor (TJ35 k).2.2.1 = some (tyJ35 k) := by decide +kernel
abbrev cJ35_size : ByteArray := prog_93_method_4_code
def yJ35_size : MethodName := ⟨RJ35, "size", "()I"⟩
def dkwJ35_size_0 : List UInt8 := [42, 180, 0, 7, 185, 0, 26, 1, 0, 172]
abbrev dktJ35_size_0 : List UInt8 := dkwJ35_size_0 ++ []
theorem dksJ35_size_0 : cJ35_size.data.toList.drop 0 = dktJ35_size_0 := by decide +kernel
theorem dJ35_size_0 : decode cJ35_size 0 = .ok (.aload_n 0, 1) := dk_42 (dk_at dksJ35_size_0 0 rfl rfl)
theorem dJ35_size_1 : decode cJ35_size 1 = .ok (.getfield 7, 3) := dk_180 0 7 (dk_at dksJ35_size_0 1 rfl rfl)
theorem dJ35_size_4 : decode cJ35_size 4 = .ok (.invokeinterface 26 1, 5) := by decide +kernel
theorem dJ35_size_9 : decode cJ35_size 9 = .ok (.ireturn, 1) := dk_172 (dk_at dksJ35_size_0 9 rfl rfl)
abbrev cJ35_iterator : ByteArray := prog_93_method_2_code
def yJ35_iterator : MethodName := ⟨RJ35, "iterator", "()Ljava/util/Iterator;"⟩
def dkwJ35_iterator_1 : List UInt8 := [180, 0, 7, 192, 0, 19, 182, 0, 21, 176]
abbrev dktJ35_iterator_1 : List UInt8 := dkwJ35_iterator_1 ++ []
def dkwJ35_iterator_0 : List UInt8 := [42, 180, 0, 7, 193, 0, 13, 153, 0, 14, 42, 180, 0, 7, 192, 0, 13, 182, 0, 15, 176, 42]
abbrev dktJ35_iterator_0 : List UInt8 := dkwJ35_iterator_0 ++ dktJ35_iterator_1
theorem dksJ35_iterator_0 : cJ35_iterator.data.toList.drop 0 = dktJ35_iterator_0 := by decide +kernel
theorem dksJ35_iterator_1 : cJ35_iterator.data.toList.drop 22 = dktJ35_iterator_1 := dk_seg dksJ35_iterator_0 22 rfl rfl
theorem dJ35_iterator_0 : decode cJ35_iterator 0 = .ok (.aload_n 0, 1) := dk_42 (dk_at dksJ35_iterator_0 0 rfl rfl)
theorem dJ35_iterator_1 : decode cJ35_iterator 1 = .ok (.getfield 7, 3) := dk_180 0 7 (dk_at dksJ35_iterator_0 1 rfl rfl)
theorem dJ35_iterator_4 : decode cJ35_iterator 4 = .ok (.instanceof 13, 3) := dk_193 0 13 (dk_at dksJ35_iterator_0 4 rfl rfl)
theorem dJ35_iterator_7 : decode cJ35_iterator 7 = .ok (.ifCond .eq 14, 3) := dk_153 0 14 (dk_at dksJ35_iterator_0 7 rfl rfl)
theorem dJ35_iterator_10 : decode cJ35_iterator 10 = .ok (.aload_n 0, 1) := dk_42 (dk_at dksJ35_iterator_0 10 rfl rfl)
theorem dJ35_iterator_11 : decode cJ35_iterator 11 = .ok (.getfield 7, 3) := dk_180 0 7 (dk_at dksJ35_iterator_0 11 rfl rfl)
theorem dJ35_iterator_14 : decode cJ35_iterator 14 = .ok (.checkcast 13, 3) := dk_192 0 13 (dk_at dksJ35_iterator_0 14 rfl rfl)
theorem dJ35_iterator_17 : decode cJ35_iterator 17 = .ok (.invokevirtual 15, 3) := dk_182 0 15 (dk_at dksJ35_iterator_0 17 rfl rfl)
theorem dJ35_iterator_20 : decode cJ35_iterator 20 = .ok (.areturn, 1) := dk_176 (dk_at dksJ35_iterator_0 20 rfl rfl)
theorem dJ35_iterator_21 : decode cJ35_iterator 21 = .ok (.aload_n 0, 1) := dk_42 (dk_at dksJ35_iterator_0 21 rfl rfl)
theorem dJ35_iterator_22 : decode cJ35_iterator 22 = .ok (.getfield 7, 3) := dk_180 0 7 (dk_at dksJ35_iterator_1 0 rfl rfl)
theorem dJ35_iterator_25 : decode cJ35_iterator 25 = .ok (.checkcast 19, 3) := dk_192 0 19 (dk_at dksJ35_iterator_1 3 rfl rfl)
theorem dJ35_iterator_28 : decode cJ35_iterator 28 = .ok (.invokevirtual 21, 3) := dk_182 0 21 (dk_at dksJ35_iterator_1 6 rfl rfl)
theorem dJ35_iterator_31 : decode cJ35_iterator 31 = .ok (.areturn, 1) := dk_176 (dk_at dksJ35_iterator_1 9 rfl rfl)
abbrev cJ35_init : ByteArray := prog_93_method_1_code
def yJ35_init : MethodName := ⟨RJ35, "<init>", "(Ljava/util/NavigableMap;)V"⟩
def dkwJ35_init_0 : List UInt8 := [42, 183, 0, 1, 42, 43, 181, 0, 7, 177]
abbrev dktJ35_init_0 : List UInt8 := dkwJ35_init_0 ++ []
theorem dksJ35_init_0 : cJ35_init.data.toList.drop 0 = dktJ35_init_0 := by decide +kernel
theorem dJ35_init_0 : decode cJ35_init 0 = .ok (.aload_n 0, 1) := dk_42 (dk_at dksJ35_init_0 0 rfl rfl)
theorem dJ35_init_1 : decode cJ35_init 1 = .ok (.invokespecial 1, 3) := dk_183 0 1 (dk_at dksJ35_init_0 1 rfl rfl)
theorem dJ35_init_4 : decode cJ35_init 4 = .ok (.aload_n 0, 1) := dk_42 (dk_at dksJ35_init_0 4 rfl rfl)
theorem dJ35_init_5 : decode cJ35_init 5 = .ok (.aload_n 1, 1) := dk_43 (dk_at dksJ35_init_0 5 rfl rfl)
theorem dJ35_init_6 : decode cJ35_init 6 = .ok (.putfield 7, 3) := dk_181 0 7 (dk_at dksJ35_init_0 6 rfl rfl)
theorem dJ35_init_9 : decode cJ35_init 9 = .ok (.return_, 1) := dk_177 (dk_at dksJ35_init_0 9 rfl rfl)
theorem q143 : (Jvm.Cond.initialized "java/util/TreeMap$KeySet") ∈ lw_all := lw_g (lw_at lw_m1 43 rfl) rfl
theorem q1031 : (Jvm.Cond.selects "java/util/TreeMap$KeySet" ({ cls := "java/lang/Object", name := "getClass", desc := "()Ljava/lang/Class;" } : Jvm.MethodName) ({ cls := "java/lang/Object", name := "getClass", desc := "()Ljava/lang/Class;" } : Jvm.MethodName)) ∈ lw_all := lw_g (lw_at lw_m4 211 rfl) rfl
theorem q1766 : (Jvm.Cond.instanceMethod ({ cls := "java/util/TreeMap$KeySet", name := "size", desc := "()I" } : Jvm.MethodName)) ∈ lw_all := lw_g (lw_at lw_m7 226 rfl) rfl
theorem q1767 : (Jvm.Cond.code ({ cls := "java/util/TreeMap$KeySet", name := "size", desc := "()I" } : Jvm.MethodName) prog_93_method_4_code (1 : Nat) (Option.some Jvm.ClassFile.FieldType.int)) ∈ lw_all := lw_g (lw_at lw_m7 227 rfl) rfl
theorem q1768 : (Jvm.Cond.interfaceEntry "java/util/TreeMap$KeySet" (26 : Nat)) ∈ lw_tbl := lw_at lw_m7 228 rfl
theorem q1932 : (Jvm.Cond.castable "java/util/TreeMap$KeySet" "java/util/Collection") ∈ lw_tbl := lw_at lw_m8 152 rfl
theorem q1933 : (Jvm.Cond.selects "java/util/TreeMap$KeySet" ({ cls := "java/util/Collection", name := "iterator", desc := "()Ljava/util/Iterator;" } : Jvm.MethodName) ({ cls := "java/util/TreeMap$KeySet", name := "iterator", desc := "()Ljava/util/Iterator;" } : Jvm.MethodName)) ∈ lw_all := lw_g (lw_at lw_m8 153 rfl) rfl
theorem q1934 : (Jvm.Cond.unhidden "java/util/TreeMap$KeySet" "iterator" "()Ljava/util/Iterator;") ∈ lw_tbl := lw_at lw_m8 154 rfl
theorem q1935 : (Jvm.Cond.instanceMethod ({ cls := "java/util/TreeMap$KeySet", name := "iterator", desc := "()Ljava/util/Iterator;" } : Jvm.MethodName)) ∈ lw_all := lw_g (lw_at lw_m8 155 rfl) rfl
theorem q1936 : (Jvm.Cond.publicMethod ({ cls := "java/util/TreeMap$KeySet", name := "iterator", desc := "()Ljava/util/Iterator;" } : Jvm.MethodName)) ∈ lw_tbl := lw_at lw_m8 156 rfl
theorem q1937 : (Jvm.Cond.code ({ cls := "java/util/TreeMap$KeySet", name := "iterator", desc := "()Ljava/util/Iterator;" } : Jvm.MethodName) prog_93_method_2_code (1 : Nat) (Option.some (Jvm.ClassFile.FieldType.object "java/util/Iterator"))) ∈ lw_all := lw_g (lw_at lw_m8 157 rfl) rfl
theorem q1938 : (Jvm.Cond.classLink "java/util/TreeMap$KeySet" (13 : Nat) "java/util/TreeMap") ∈ lw_all := lw_g (lw_at lw_m8 158 rfl) rfl
theorem q1939 : (Jvm.Cond.methodLink "java/util/TreeMap$KeySet" (15 : Nat) ({ cls := "java/util/TreeMap", name := "keyIterator", desc := "()Ljava/util/Iterator;" } : Jvm.MethodName)) ∈ lw_all := lw_g (lw_at lw_m8 159 rfl) rfl
theorem q1969 : (Jvm.Cond.classLink "java/util/TreeMap$KeySet" (19 : Nat) "java/util/TreeMap$NavigableSubMap") ∈ lw_all := lw_g (lw_at lw_m8 189 rfl) rfl
theorem q1970 : (Jvm.Cond.methodLink "java/util/TreeMap$KeySet" (21 : Nat) ({ cls := "java/util/TreeMap$NavigableSubMap", name := "keyIterator", desc := "()Ljava/util/Iterator;" } : Jvm.MethodName)) ∈ lw_all := lw_g (lw_at lw_m8 190 rfl) rfl
theorem q2007 : (Jvm.Cond.instantiable "java/util/TreeMap$KeySet" (1 : Nat)) ∈ lw_all := lw_g (lw_at lw_m8 227 rfl) rfl
theorem q2009 : (Jvm.Cond.instanceMethod ({ cls := "java/util/TreeMap$KeySet", name := "<init>", desc := "(Ljava/util/NavigableMap;)V" } : Jvm.MethodName)) ∈ lw_all := lw_g (lw_at lw_m8 229 rfl) rfl
theorem q2010 : (Jvm.Cond.code ({ cls := "java/util/TreeMap$KeySet", name := "<init>", desc := "(Ljava/util/NavigableMap;)V" } : Jvm.MethodName) prog_93_method_1_code (2 : Nat) (Option.none : Option Jvm.ClassFile.FieldType)) ∈ lw_all := lw_g (lw_at lw_m8 230 rfl) rfl
theorem q2011 : (Jvm.Cond.methodLink "java/util/TreeMap$KeySet" (1 : Nat) ({ cls := "java/util/AbstractSet", name := "<init>", desc := "()V" } : Jvm.MethodName)) ∈ lw_all := lw_g (lw_at lw_m8 231 rfl) rfl
theorem q2015 : (Jvm.Cond.fieldLink "java/util/TreeMap$KeySet" (7 : Nat) "java/util/TreeMap$KeySet" "m" "Ljava/util/NavigableMap;") ∈ lw_all := lw_g (lw_at lw_m8 235 rfl) rfl
theorem q2016 : (Jvm.Cond.laysFinal "java/util/TreeMap$KeySet" "java/util/TreeMap$KeySet" "m" "Ljava/util/NavigableMap;") ∈ lw_all := lw_g (lw_at lw_m8 236 rfl) rfl
theorem q2017 : (Jvm.Cond.soleField "java/util/TreeMap$KeySet" "m") ∈ lw_all := lw_g (lw_at lw_m8 237 rfl) rfl
theorem q2018 : (Jvm.Cond.superclass "java/util/TreeMap$KeySet" "java/util/AbstractSet") ∈ lw_all := lw_g (lw_at lw_m8 238 rfl) rfl
theorem q2023 : (Jvm.Cond.castable "java/util/TreeMap$KeySet" "java/util/NavigableSet") ∈ lw_tbl := lw_at lw_m9 3 rfl
theorem q2024 : (Jvm.Cond.selects "java/util/TreeMap$KeySet" ({ cls := "java/util/NavigableSet", name := "iterator", desc := "()Ljava/util/Iterator;" } : Jvm.MethodName) ({ cls := "java/util/TreeMap$KeySet", name := "iterator", desc := "()Ljava/util/Iterator;" } : Jvm.MethodName)) ∈ lw_all := lw_g (lw_at lw_m9 4 rfl) rfl
theorem q3007 : (Jvm.Cond.selects "java/util/TreeMap$KeySet" ({ cls := "java/util/Collection", name := "toArray", desc := "()[Ljava/lang/Object;" } : Jvm.MethodName) ({ cls := "java/util/AbstractCollection", name := "toArray", desc := "()[Ljava/lang/Object;" } : Jvm.MethodName)) ∈ lw_all := lw_g (lw_at lw_m13 27 rfl) rfl
theorem q3008 : (Jvm.Cond.unhidden "java/util/TreeMap$KeySet" "toArray" "()[Ljava/lang/Object;") ∈ lw_tbl := lw_at lw_m13 28 rfl
theorem q3019 : (Jvm.Cond.selects "java/util/TreeMap$KeySet" ({ cls := "java/util/AbstractCollection", name := "iterator", desc := "()Ljava/util/Iterator;" } : Jvm.MethodName) ({ cls := "java/util/TreeMap$KeySet", name := "iterator", desc := "()Ljava/util/Iterator;" } : Jvm.MethodName)) ∈ lw_all := lw_g (lw_at lw_m13 39 rfl) rfl
theorem q3043 : (Jvm.Cond.unhidden "java/util/TreeMap$KeySet" "getClass" "()Ljava/lang/Class;") ∈ lw_tbl := lw_at lw_m13 63 rfl
theorem q4219 : (Jvm.Cond.selects "java/util/TreeMap$KeySet" ({ cls := "java/util/AbstractCollection", name := "size", desc := "()I" } : Jvm.MethodName) ({ cls := "java/util/TreeMap$KeySet", name := "size", desc := "()I" } : Jvm.MethodName)) ∈ lw_all := lw_g (lw_at lw_m18 39 rfl) rfl
theorem q4277 : (Jvm.Cond.castable "java/util/TreeMap$KeySet" "java/lang/Object") ∈ lw_tbl := lw_at lw_m18 97 rfl
theorem in_J35 : ∀ w ∈ wsJ350, w ∈ lw_all := lw_in wsJ350 [2016] (by decide +kernel) (by decide +kernel)
/-! java/util/NoSuchElementException -/
set_option maxRecDepth 100000
def RJ36 : String := "java/util/NoSuchElementException"
def TJ36 : u_T := fun k => match k with
  | 0 => ("java/lang/Throwable", "cause", "Ljava/lang/Throwable;", false)
  | 1 => ("java/lang/Throwable", "stackTrace", "[Ljava/lang/StackTraceElement;", false)
  | 2 => ("java/lang/Throwable", "suppressedExceptions", "Ljava/util/List;", false)
  | 3 => ("java/lang/Throwable", "detailMessage", "Ljava/lang/String;", false)
  | 4 => ("java/lang/Throwable", "backtrace", "Ljava/lang/Object;", false)
  | _ => ("java/lang/Throwable", "depth", "I", false)
def tyJ36 : Nat → FieldType := fun k => match k with
  | 0 => .object "java/lang/Throwable"
  | 1 => .array (.object "java/lang/StackTraceElement")
  | 2 => .object "java/util/List"
  | 3 => .object "java/lang/String"
  | 4 => .object "java/lang/Object"
  | _ => .int
abbrev wsJ360 : List Cond := u_ws RJ36 TJ36 6
theorem nmJ36 : ∀ a, a < 6 → ∀ b, b < 6 → a ≠ b → (TJ36 a).2.1 ≠ (TJ36 b).2.1 := by decide +kernel
theorem tyJ36_ok : ∀ k, k < 6 → parseFieldDescriptor (TJ36 k).2.2.1 = some (tyJ36 k) := by decide +kernel
abbrev cJ36_init : ByteArray := prog_78_method_1_code
def yJ36_init : MethodName := ⟨RJ36, "<init>", "()V"⟩
theorem dJ36_init_0 : decode cJ36_init 0 = .ok (.aload_n 0, 1) := by decide +kernel
theorem dJ36_init_1 : decode cJ36_init 1 = .ok (.invokespecial 1, 3) := by decide +kernel
theorem dJ36_init_4 : decode cJ36_init 4 = .ok (.return_, 1) := by decide +kernel
abbrev cJ36_init_2 : ByteArray := prog_78_method_3_code
def yJ36_init_2 : MethodName := ⟨RJ36, "<init>", "(Ljava/lang/Throwable;)V"⟩
def dkwJ36_init_2_0 : List UInt8 := [42, 43, 183, 0, 10, 177]
abbrev dktJ36_init_2_0 : List UInt8 := dkwJ36_init_2_0 ++ []
theorem dksJ36_init_2_0 : cJ36_init_2.data.toList.drop 0 = dktJ36_init_2_0 := by decide +kernel
theorem dJ36_init_2_0 : decode cJ36_init_2 0 = .ok (.aload_n 0, 1) := dk_42 (dk_at dksJ36_init_2_0 0 rfl rfl)
theorem dJ36_init_2_1 : decode cJ36_init_2 1 = .ok (.aload_n 1, 1) := dk_43 (dk_at dksJ36_init_2_0 1 rfl rfl)
theorem dJ36_init_2_2 : decode cJ36_init_2 2 = .ok (.invokespecial 10, 3) := dk_183 0 10 (dk_at dksJ36_init_2_0 2 rfl rfl)
theorem dJ36_init_2_5 : decode cJ36_init_2 5 = .ok (.return_, 1) := dk_177 (dk_at dksJ36_init_2_0 5 rfl rfl)
theorem q144 : (Jvm.Cond.initialized "java/util/NoSuchElementException") ∈ lw_all := lw_g (lw_at lw_m1 44 rfl) rfl
theorem q543 : (Jvm.Cond.selects "java/util/NoSuchElementException" ({ cls := "java/lang/Throwable", name := "fillInStackTrace", desc := "()Ljava/lang/Throwable;" } : Jvm.MethodName) ({ cls := "java/lang/Throwable", name := "fillInStackTrace", desc := "()Ljava/lang/Throwable;" } : Jvm.MethodName)) ∈ lw_all := lw_g (lw_at lw_m2 203 rfl) rfl
theorem q880 : (Jvm.Cond.instantiable "java/util/NoSuchElementException" (6 : Nat)) ∈ lw_all := lw_g (lw_at lw_m4 60 rfl) rfl
theorem q881 : (Jvm.Cond.castable "java/util/NoSuchElementException" "java/util/NoSuchElementException") ∈ lw_tbl := lw_at lw_m4 61 rfl
theorem q882 : (Jvm.Cond.selects "java/util/NoSuchElementException" ({ cls := "java/lang/Throwable", name := "fillInStackTrace", desc := "(I)Ljava/lang/Throwable;" } : Jvm.MethodName) ({ cls := "java/lang/Throwable", name := "fillInStackTrace", desc := "(I)Ljava/lang/Throwable;" } : Jvm.MethodName)) ∈ lw_all := lw_g (lw_at lw_m4 62 rfl) rfl
theorem q883 : (Jvm.Cond.lays "java/util/NoSuchElementException" "java/lang/Throwable" "cause" "Ljava/lang/Throwable;") ∈ lw_all := lw_g (lw_at lw_m4 63 rfl) rfl
theorem q884 : (Jvm.Cond.lays "java/util/NoSuchElementException" "java/lang/Throwable" "stackTrace" "[Ljava/lang/StackTraceElement;") ∈ lw_all := lw_g (lw_at lw_m4 64 rfl) rfl
theorem q885 : (Jvm.Cond.lays "java/util/NoSuchElementException" "java/lang/Throwable" "suppressedExceptions" "Ljava/util/List;") ∈ lw_all := lw_g (lw_at lw_m4 65 rfl) rfl
theorem q886 : (Jvm.Cond.lays "java/util/NoSuchElementException" "java/lang/Throwable" "detailMessage" "Ljava/lang/String;") ∈ lw_all := lw_g (lw_at lw_m4 66 rfl) rfl
theorem q887 : (Jvm.Cond.lays "java/util/NoSuchElementException" "java/lang/Throwable" "backtrace" "Ljava/lang/Object;") ∈ lw_all := lw_g (lw_at lw_m4 67 rfl) rfl
theorem q889 : (Jvm.Cond.instanceMethod ({ cls := "java/util/NoSuchElementException", name := "<init>", desc := "()V" } : Jvm.MethodName)) ∈ lw_all := lw_g (lw_at lw_m4 69 rfl) rfl
theorem q890 : (Jvm.Cond.code ({ cls := "java/util/NoSuchElementException", name := "<init>", desc := "()V" } : Jvm.MethodName) prog_78_method_1_code (1 : Nat) (Option.none : Option Jvm.ClassFile.FieldType)) ∈ lw_all := lw_g (lw_at lw_m4 70 rfl) rfl
theorem q891 : (Jvm.Cond.methodLink "java/util/NoSuchElementException" (1 : Nat) ({ cls := "java/lang/RuntimeException", name := "<init>", desc := "()V" } : Jvm.MethodName)) ∈ lw_all := lw_g (lw_at lw_m4 71 rfl) rfl
theorem q898 : (Jvm.Cond.lays "java/util/NoSuchElementException" "java/lang/Throwable" "depth" "I") ∈ lw_all := lw_g (lw_at lw_m4 78 rfl) rfl
theorem q899 : (Jvm.Cond.superclass "java/util/NoSuchElementException" "java/lang/RuntimeException") ∈ lw_all := lw_g (lw_at lw_m4 79 rfl) rfl
theorem q960 : (Jvm.Cond.instanceMethod ({ cls := "java/util/NoSuchElementException", name := "<init>", desc := "(Ljava/lang/Throwable;)V" } : Jvm.MethodName)) ∈ lw_all := lw_g (lw_at lw_m4 140 rfl) rfl
theorem q961 : (Jvm.Cond.code ({ cls := "java/util/NoSuchElementException", name := "<init>", desc := "(Ljava/lang/Throwable;)V" } : Jvm.MethodName) prog_78_method_3_code (2 : Nat) (Option.none : Option Jvm.ClassFile.FieldType)) ∈ lw_all := lw_g (lw_at lw_m4 141 rfl) rfl
theorem q962 : (Jvm.Cond.methodLink "java/util/NoSuchElementException" (10 : Nat) ({ cls := "java/lang/RuntimeException", name := "<init>", desc := "(Ljava/lang/Throwable;)V" } : Jvm.MethodName)) ∈ lw_all := lw_g (lw_at lw_m4 142 rfl) rfl
theorem q984 : (Jvm.Cond.selects "java/util/NoSuchElementException" ({ cls := "java/lang/Throwable", name := "toString", desc := "()Ljava/lang/String;" } : Jvm.MethodName) ({ cls := "java/lang/Throwable", name := "toString", desc := "()Ljava/lang/String;" } : Jvm.MethodName)) ∈ lw_all := lw_g (lw_at lw_m4 164 rfl) rfl
theorem q1025 : (Jvm.Cond.selects "java/util/NoSuchElementException" ({ cls := "java/lang/Object", name := "getClass", desc := "()Ljava/lang/Class;" } : Jvm.MethodName) ({ cls := "java/lang/Object", name := "getClass", desc := "()Ljava/lang/Class;" } : Jvm.MethodName)) ∈ lw_all := lw_g (lw_at lw_m4 205 rfl) rfl
theorem q1050 : (Jvm.Cond.selects "java/util/NoSuchElementException" ({ cls := "java/lang/Throwable", name := "getLocalizedMessage", desc := "()Ljava/lang/String;" } : Jvm.MethodName) ({ cls := "java/lang/Throwable", name := "getLocalizedMessage", desc := "()Ljava/lang/String;" } : Jvm.MethodName)) ∈ lw_all := lw_g (lw_at lw_m4 230 rfl) rfl
theorem q1065 : (Jvm.Cond.selects "java/util/NoSuchElementException" ({ cls := "java/lang/Throwable", name := "getMessage", desc := "()Ljava/lang/String;" } : Jvm.MethodName) ({ cls := "java/lang/Throwable", name := "getMessage", desc := "()Ljava/lang/String;" } : Jvm.MethodName)) ∈ lw_all := lw_g (lw_at lw_m5 5 rfl) rfl
theorem q4257 : (Jvm.Cond.castable "java/util/NoSuchElementException" "java/lang/Object") ∈ lw_tbl := lw_at lw_m18 77 rfl
theorem in_J36 : ∀ w ∈ wsJ360, w ∈ lw_all := lw_in wsJ360 [883, 884, 885, 886, 887, 898] (by decide +kernel) (by decide +kernel)
/-! java/lang/Record -/
set_option maxRecDepth 100000
def RJ37 : String := "java/lang/Record"
abbrev cJ37_init : ByteArray := prog_39_method_1_code
def yJ37_init : MethodName := ⟨RJ37, "<init>", "()V"⟩
theorem dJ37_init_0 : decode cJ37_init 0 = .ok (.aload_n 0, 1) := by decide +kernel
theorem dJ37_init_1 : decode cJ37_init 1 = .ok (.invokespecial 1, 3) := by decide +kernel
theorem dJ37_init_4 : decode cJ37_init 4 = .ok (.return_, 1) := by decide +kernel
theorem q145 : (Jvm.Cond.initialized "java/lang/Record") ∈ lw_all := lw_g (lw_at lw_m1 45 rfl) rfl
theorem q921 : (Jvm.Cond.instanceMethod ({ cls := "java/lang/Record", name := "<init>", desc := "()V" } : Jvm.MethodName)) ∈ lw_all := lw_g (lw_at lw_m4 101 rfl) rfl
theorem q922 : (Jvm.Cond.code ({ cls := "java/lang/Record", name := "<init>", desc := "()V" } : Jvm.MethodName) prog_39_method_1_code (1 : Nat) (Option.none : Option Jvm.ClassFile.FieldType)) ∈ lw_all := lw_g (lw_at lw_m4 102 rfl) rfl
theorem q923 : (Jvm.Cond.methodLink "java/lang/Record" (1 : Nat) ({ cls := "java/lang/Object", name := "<init>", desc := "()V" } : Jvm.MethodName)) ∈ lw_all := lw_g (lw_at lw_m4 103 rfl) rfl
/-! java/util/ArrayDeque -/
set_option maxRecDepth 100000
def RJ38 : String := "java/util/ArrayDeque"
abbrev cJ38_isEmpty : ByteArray := prog_60_method_38_code
def yJ38_isEmpty : MethodName := ⟨RJ38, "isEmpty", "()Z"⟩
def dkwJ38_isEmpty_0 : List UInt8 := [42, 180, 0, 24, 42, 180, 0, 20, 160, 0, 7, 4, 167, 0, 4, 3, 172]
abbrev dktJ38_isEmpty_0 : List UInt8 := dkwJ38_isEmpty_0 ++ []
theorem dksJ38_isEmpty_0 : cJ38_isEmpty.data.toList.drop 0 = dktJ38_isEmpty_0 := by decide +kernel
theorem dJ38_isEmpty_0 : decode cJ38_isEmpty 0 = .ok (.aload_n 0, 1) := dk_42 (dk_at dksJ38_isEmpty_0 0 rfl rfl)
theorem dJ38_isEmpty_1 : decode cJ38_isEmpty 1 = .ok (.getfield 24, 3) := dk_180 0 24 (dk_at dksJ38_isEmpty_0 1 rfl rfl)
theorem dJ38_isEmpty_4 : decode cJ38_isEmpty 4 = .ok (.aload_n 0, 1) := dk_42 (dk_at dksJ38_isEmpty_0 4 rfl rfl)
theorem dJ38_isEmpty_5 : decode cJ38_isEmpty 5 = .ok (.getfield 20, 3) := dk_180 0 20 (dk_at dksJ38_isEmpty_0 5 rfl rfl)
theorem dJ38_isEmpty_8 : decode cJ38_isEmpty 8 = .ok (.if_icmp .ne 7, 3) := dk_160 0 7 (dk_at dksJ38_isEmpty_0 8 rfl rfl)
theorem dJ38_isEmpty_11 : decode cJ38_isEmpty 11 = .ok (.iconst 1, 1) := dk_4 (dk_at dksJ38_isEmpty_0 11 rfl rfl)
theorem dJ38_isEmpty_12 : decode cJ38_isEmpty 12 = .ok (.goto 4, 3) := dk_167 0 4 (dk_at dksJ38_isEmpty_0 12 rfl rfl)
theorem dJ38_isEmpty_15 : decode cJ38_isEmpty 15 = .ok (.iconst 0, 1) := dk_3 (dk_at dksJ38_isEmpty_0 15 rfl rfl)
theorem dJ38_isEmpty_16 : decode cJ38_isEmpty 16 = .ok (.ireturn, 1) := dk_172 (dk_at dksJ38_isEmpty_0 16 rfl rfl)
abbrev cJ38_poll : ByteArray := prog_60_method_31_code
def yJ38_poll : MethodName := ⟨RJ38, "poll", "()Ljava/lang/Object;"⟩
theorem dJ38_poll_0 : decode cJ38_poll 0 = .ok (.aload_n 0, 1) := by decide +kernel
theorem dJ38_poll_1 : decode cJ38_poll 1 = .ok (.invokevirtual 93, 3) := by decide +kernel
theorem dJ38_poll_4 : decode cJ38_poll 4 = .ok (.areturn, 1) := by decide +kernel
abbrev cJ38_pollFirst : ByteArray := prog_60_method_20_code
def yJ38_pollFirst : MethodName := ⟨RJ38, "pollFirst", "()Ljava/lang/Object;"⟩
def dkwJ38_pollFirst_1 : List UInt8 := [42, 28, 43, 190, 184, 0, 74, 181, 0, 24, 45, 176]
abbrev dktJ38_pollFirst_1 : List UInt8 := dkwJ38_pollFirst_1 ++ []
def dkwJ38_pollFirst_0 : List UInt8 := [42, 180, 0, 3, 89, 76, 42, 180, 0, 24, 89, 61, 184, 0, 103, 78, 45, 198, 0, 17, 43, 28, 1, 83]
abbrev dktJ38_pollFirst_0 : List UInt8 := dkwJ38_pollFirst_0 ++ dktJ38_pollFirst_1
theorem dksJ38_pollFirst_0 : cJ38_pollFirst.data.toList.drop 0 = dktJ38_pollFirst_0 := by decide +kernel
theorem dksJ38_pollFirst_1 : cJ38_pollFirst.data.toList.drop 24 = dktJ38_pollFirst_1 := dk_seg dksJ38_pollFirst_0 24 rfl rfl
theorem dJ38_pollFirst_0 : decode cJ38_pollFirst 0 = .ok (.aload_n 0, 1) := dk_42 (dk_at dksJ38_pollFirst_0 0 rfl rfl)
theorem dJ38_pollFirst_1 : decode cJ38_pollFirst 1 = .ok (.getfield 3, 3) := dk_180 0 3 (dk_at dksJ38_pollFirst_0 1 rfl rfl)
theorem dJ38_pollFirst_4 : decode cJ38_pollFirst 4 = .ok (.dup, 1) := dk_89 (dk_at dksJ38_pollFirst_0 4 rfl rfl)
theorem dJ38_pollFirst_5 : decode cJ38_pollFirst 5 = .ok (.astore_n 1, 1) := dk_76 (dk_at dksJ38_pollFirst_0 5 rfl rfl)
theorem dJ38_pollFirst_6 : decode cJ38_pollFirst 6 = .ok (.aload_n 0, 1) := dk_42 (dk_at dksJ38_pollFirst_0 6 rfl rfl)
theorem dJ38_pollFirst_7 : decode cJ38_pollFirst 7 = .ok (.getfield 24, 3) := dk_180 0 24 (dk_at dksJ38_pollFirst_0 7 rfl rfl)
theorem dJ38_pollFirst_10 : decode cJ38_pollFirst 10 = .ok (.dup, 1) := dk_89 (dk_at dksJ38_pollFirst_0 10 rfl rfl)
theorem dJ38_pollFirst_11 : decode cJ38_pollFirst 11 = .ok (.istore_n 2, 1) := dk_61 (dk_at dksJ38_pollFirst_0 11 rfl rfl)
theorem dJ38_pollFirst_12 : decode cJ38_pollFirst 12 = .ok (.invokestatic 103, 3) := dk_184 0 103 (dk_at dksJ38_pollFirst_0 12 rfl rfl)
theorem dJ38_pollFirst_15 : decode cJ38_pollFirst 15 = .ok (.astore_n 3, 1) := dk_78 (dk_at dksJ38_pollFirst_0 15 rfl rfl)
theorem dJ38_pollFirst_16 : decode cJ38_pollFirst 16 = .ok (.aload_n 3, 1) := dk_45 (dk_at dksJ38_pollFirst_0 16 rfl rfl)
theorem dJ38_pollFirst_17 : decode cJ38_pollFirst 17 = .ok (.ifnull 17, 3) := dk_198 0 17 (dk_at dksJ38_pollFirst_0 17 rfl rfl)
theorem dJ38_pollFirst_20 : decode cJ38_pollFirst 20 = .ok (.aload_n 1, 1) := dk_43 (dk_at dksJ38_pollFirst_0 20 rfl rfl)
theorem dJ38_pollFirst_21 : decode cJ38_pollFirst 21 = .ok (.iload_n 2, 1) := dk_28 (dk_at dksJ38_pollFirst_0 21 rfl rfl)
theorem dJ38_pollFirst_22 : decode cJ38_pollFirst 22 = .ok (.aconst_null, 1) := dk_1 (dk_at dksJ38_pollFirst_0 22 rfl rfl)
theorem dJ38_pollFirst_23 : decode cJ38_pollFirst 23 = .ok (.aastore, 1) := dk_83 (dk_at dksJ38_pollFirst_0 23 rfl rfl)
theorem dJ38_pollFirst_24 : decode cJ38_pollFirst 24 = .ok (.aload_n 0, 1) := dk_42 (dk_at dksJ38_pollFirst_1 0 rfl rfl)
theorem dJ38_pollFirst_25 : decode cJ38_pollFirst 25 = .ok (.iload_n 2, 1) := dk_28 (dk_at dksJ38_pollFirst_1 1 rfl rfl)
theorem dJ38_pollFirst_26 : decode cJ38_pollFirst 26 = .ok (.aload_n 1, 1) := dk_43 (dk_at dksJ38_pollFirst_1 2 rfl rfl)
theorem dJ38_pollFirst_27 : decode cJ38_pollFirst 27 = .ok (.arraylength, 1) := dk_190 (dk_at dksJ38_pollFirst_1 3 rfl rfl)
theorem dJ38_pollFirst_28 : decode cJ38_pollFirst 28 = .ok (.invokestatic 74, 3) := dk_184 0 74 (dk_at dksJ38_pollFirst_1 4 rfl rfl)
theorem dJ38_pollFirst_31 : decode cJ38_pollFirst 31 = .ok (.putfield 24, 3) := dk_181 0 24 (dk_at dksJ38_pollFirst_1 7 rfl rfl)
theorem dJ38_pollFirst_34 : decode cJ38_pollFirst 34 = .ok (.aload_n 3, 1) := dk_45 (dk_at dksJ38_pollFirst_1 10 rfl rfl)
theorem dJ38_pollFirst_35 : decode cJ38_pollFirst 35 = .ok (.areturn, 1) := dk_176 (dk_at dksJ38_pollFirst_1 11 rfl rfl)
abbrev cJ38_elementAt : ByteArray := prog_60_method_10_code
def yJ38_elementAt : MethodName := ⟨RJ38, "elementAt", "([Ljava/lang/Object;I)Ljava/lang/Object;"⟩
def dkwJ38_elementAt_0 : List UInt8 := [42, 27, 50, 176]
abbrev dktJ38_elementAt_0 : List UInt8 := dkwJ38_elementAt_0 ++ []
theorem dksJ38_elementAt_0 : cJ38_elementAt.data.toList.drop 0 = dktJ38_elementAt_0 := by decide +kernel
theorem dJ38_elementAt_0 : decode cJ38_elementAt 0 = .ok (.aload_n 0, 1) := dk_42 (dk_at dksJ38_elementAt_0 0 rfl rfl)
theorem dJ38_elementAt_1 : decode cJ38_elementAt 1 = .ok (.iload_n 1, 1) := dk_27 (dk_at dksJ38_elementAt_0 1 rfl rfl)
theorem dJ38_elementAt_2 : decode cJ38_elementAt 2 = .ok (.aaload, 1) := dk_50 (dk_at dksJ38_elementAt_0 2 rfl rfl)
theorem dJ38_elementAt_3 : decode cJ38_elementAt 3 = .ok (.areturn, 1) := dk_176 (dk_at dksJ38_elementAt_0 3 rfl rfl)
abbrev cJ38_inc : ByteArray := prog_60_method_6_code
def yJ38_inc : MethodName := ⟨RJ38, "inc", "(II)I"⟩
def dkwJ38_inc_0 : List UInt8 := [132, 0, 1, 26, 27, 161, 0, 5, 3, 59, 26, 172]
abbrev dktJ38_inc_0 : List UInt8 := dkwJ38_inc_0 ++ []
theorem dksJ38_inc_0 : cJ38_inc.data.toList.drop 0 = dktJ38_inc_0 := by decide +kernel
theorem dJ38_inc_0 : decode cJ38_inc 0 = .ok (.iinc 0 1, 3) := dk_132 0 1 (dk_at dksJ38_inc_0 0 rfl rfl)
theorem dJ38_inc_3 : decode cJ38_inc 3 = .ok (.iload_n 0, 1) := dk_26 (dk_at dksJ38_inc_0 3 rfl rfl)
theorem dJ38_inc_4 : decode cJ38_inc 4 = .ok (.iload_n 1, 1) := dk_27 (dk_at dksJ38_inc_0 4 rfl rfl)
theorem dJ38_inc_5 : decode cJ38_inc 5 = .ok (.if_icmp .lt 5, 3) := dk_161 0 5 (dk_at dksJ38_inc_0 5 rfl rfl)
theorem dJ38_inc_8 : decode cJ38_inc 8 = .ok (.iconst 0, 1) := dk_3 (dk_at dksJ38_inc_0 8 rfl rfl)
theorem dJ38_inc_9 : decode cJ38_inc 9 = .ok (.istore_n 0, 1) := dk_59 (dk_at dksJ38_inc_0 9 rfl rfl)
theorem dJ38_inc_10 : decode cJ38_inc 10 = .ok (.iload_n 0, 1) := dk_26 (dk_at dksJ38_inc_0 10 rfl rfl)
theorem dJ38_inc_11 : decode cJ38_inc 11 = .ok (.ireturn, 1) := dk_172 (dk_at dksJ38_inc_0 11 rfl rfl)
theorem q147 : (Jvm.Cond.initialized "java/util/ArrayDeque") ∈ lw_all := lw_g (lw_at lw_m1 47 rfl) rfl
theorem q853 : (Jvm.Cond.instanceMethod ({ cls := "java/util/ArrayDeque", name := "isEmpty", desc := "()Z" } : Jvm.MethodName)) ∈ lw_all := lw_g (lw_at lw_m4 33 rfl) rfl
theorem q854 : (Jvm.Cond.selects "java/util/ArrayDeque" ({ cls := "java/util/ArrayDeque", name := "isEmpty", desc := "()Z" } : Jvm.MethodName) ({ cls := "java/util/ArrayDeque", name := "isEmpty", desc := "()Z" } : Jvm.MethodName)) ∈ lw_all := lw_g (lw_at lw_m4 34 rfl) rfl
theorem q855 : (Jvm.Cond.code ({ cls := "java/util/ArrayDeque", name := "isEmpty", desc := "()Z" } : Jvm.MethodName) prog_60_method_38_code (1 : Nat) (Option.some Jvm.ClassFile.FieldType.boolean)) ∈ lw_all := lw_g (lw_at lw_m4 35 rfl) rfl
theorem q1105 : (Jvm.Cond.instanceMethod ({ cls := "java/util/ArrayDeque", name := "poll", desc := "()Ljava/lang/Object;" } : Jvm.MethodName)) ∈ lw_all := lw_g (lw_at lw_m5 45 rfl) rfl
theorem q1106 : (Jvm.Cond.selects "java/util/ArrayDeque" ({ cls := "java/util/ArrayDeque", name := "poll", desc := "()Ljava/lang/Object;" } : Jvm.MethodName) ({ cls := "java/util/ArrayDeque", name := "poll", desc := "()Ljava/lang/Object;" } : Jvm.MethodName)) ∈ lw_all := lw_g (lw_at lw_m5 46 rfl) rfl
theorem q1107 : (Jvm.Cond.code ({ cls := "java/util/ArrayDeque", name := "poll", desc := "()Ljava/lang/Object;" } : Jvm.MethodName) prog_60_method_31_code (1 : Nat) (Option.some (Jvm.ClassFile.FieldType.object "java/lang/Object"))) ∈ lw_all := lw_g (lw_at lw_m5 47 rfl) rfl
theorem q1108 : (Jvm.Cond.methodLink "java/util/ArrayDeque" (93 : Nat) ({ cls := "java/util/ArrayDeque", name := "pollFirst", desc := "()Ljava/lang/Object;" } : Jvm.MethodName)) ∈ lw_all := lw_g (lw_at lw_m5 48 rfl) rfl
theorem q1109 : (Jvm.Cond.instanceMethod ({ cls := "java/util/ArrayDeque", name := "pollFirst", desc := "()Ljava/lang/Object;" } : Jvm.MethodName)) ∈ lw_all := lw_g (lw_at lw_m5 49 rfl) rfl
theorem q1110 : (Jvm.Cond.selects "java/util/ArrayDeque" ({ cls := "java/util/ArrayDeque", name := "pollFirst", desc := "()Ljava/lang/Object;" } : Jvm.MethodName) ({ cls := "java/util/ArrayDeque", name := "pollFirst", desc := "()Ljava/lang/Object;" } : Jvm.MethodName)) ∈ lw_all := lw_g (lw_at lw_m5 50 rfl) rfl
theorem q1111 : (Jvm.Cond.code ({ cls := "java/util/ArrayDeque", name := "pollFirst", desc := "()Ljava/lang/Object;" } : Jvm.MethodName) prog_60_method_20_code (4 : Nat) (Option.some (Jvm.ClassFile.FieldType.object "java/lang/Object"))) ∈ lw_all := lw_g (lw_at lw_m5 51 rfl) rfl
theorem q1112 : (Jvm.Cond.methodLink "java/util/ArrayDeque" (103 : Nat) ({ cls := "java/util/ArrayDeque", name := "elementAt", desc := "([Ljava/lang/Object;I)Ljava/lang/Object;" } : Jvm.MethodName)) ∈ lw_all := lw_g (lw_at lw_m5 52 rfl) rfl
theorem q1113 : (Jvm.Cond.static ({ cls := "java/util/ArrayDeque", name := "elementAt", desc := "([Ljava/lang/Object;I)Ljava/lang/Object;" } : Jvm.MethodName)) ∈ lw_all := lw_g (lw_at lw_m5 53 rfl) rfl
theorem q1114 : (Jvm.Cond.code ({ cls := "java/util/ArrayDeque", name := "elementAt", desc := "([Ljava/lang/Object;I)Ljava/lang/Object;" } : Jvm.MethodName) prog_60_method_10_code (2 : Nat) (Option.some (Jvm.ClassFile.FieldType.object "java/lang/Object"))) ∈ lw_all := lw_g (lw_at lw_m5 54 rfl) rfl
theorem q1115 : (Jvm.Cond.methodLink "java/util/ArrayDeque" (74 : Nat) ({ cls := "java/util/ArrayDeque", name := "inc", desc := "(II)I" } : Jvm.MethodName)) ∈ lw_all := lw_g (lw_at lw_m5 55 rfl) rfl
theorem q1116 : (Jvm.Cond.static ({ cls := "java/util/ArrayDeque", name := "inc", desc := "(II)I" } : Jvm.MethodName)) ∈ lw_all := lw_g (lw_at lw_m5 56 rfl) rfl
theorem q1117 : (Jvm.Cond.code ({ cls := "java/util/ArrayDeque", name := "inc", desc := "(II)I" } : Jvm.MethodName) prog_60_method_6_code (2 : Nat) (Option.some Jvm.ClassFile.FieldType.int)) ∈ lw_all := lw_g (lw_at lw_m5 57 rfl) rfl
theorem q4304 : (Jvm.Cond.fieldLink "java/util/ArrayDeque" (24 : Nat) "java/util/ArrayDeque" "head" "I") ∈ lw_all := lw_g (lw_at lw_m18 124 rfl) rfl
theorem q4305 : (Jvm.Cond.fieldLink "java/util/ArrayDeque" (20 : Nat) "java/util/ArrayDeque" "tail" "I") ∈ lw_all := lw_g (lw_at lw_m18 125 rfl) rfl
theorem q4306 : (Jvm.Cond.fieldLink "java/util/ArrayDeque" (3 : Nat) "java/util/ArrayDeque" "elements" "[Ljava/lang/Object;") ∈ lw_all := lw_g (lw_at lw_m18 126 rfl) rfl
/-! java/lang/Long -/
set_option maxRecDepth 100000
def RJ40 : String := "java/lang/Long"
abbrev cJ40_numberOfLeadingZeros : ByteArray := prog_36_method_48_code
def yJ40_numberOfLeadingZeros : MethodName := ⟨RJ40, "numberOfLeadingZeros", "(J)I"⟩
def dkwJ40_numberOfLeadingZeros_1 : List UInt8 := [184, 1, 52, 172]
abbrev dktJ40_numberOfLeadingZeros_1 : List UInt8 := dkwJ40_numberOfLeadingZeros_1 ++ []
def dkwJ40_numberOfLeadingZeros_0 : List UInt8 := [30, 16, 32, 125, 136, 61, 28, 154, 0, 14, 16, 32, 30, 136, 184, 1, 52, 96, 167, 0, 7, 28]
abbrev dktJ40_numberOfLeadingZeros_0 : List UInt8 := dkwJ40_numberOfLeadingZeros_0 ++ dktJ40_numberOfLeadingZeros_1
theorem dksJ40_numberOfLeadingZeros_0 : cJ40_numberOfLeadingZeros.data.toList.drop 0 = dktJ40_numberOfLeadingZeros_0 := by decide +kernel
theorem dksJ40_numberOfLeadingZeros_1 : cJ40_numberOfLeadingZeros.data.toList.drop 22 = dktJ40_numberOfLeadingZeros_1 := dk_seg dksJ40_numberOfLeadingZeros_0 22 rfl rfl
theorem dJ40_numberOfLeadingZeros_0 : decode cJ40_numberOfLeadingZeros 0 = .ok (.lload_n 0, 1) := dk_30 (dk_at dksJ40_numberOfLeadingZeros_0 0 rfl rfl)
theorem dJ40_numberOfLeadingZeros_1 : decode cJ40_numberOfLeadingZeros 1 = .ok (.bipush 32, 2) := dk_16 32 (dk_at dksJ40_numberOfLeadingZeros_0 1 rfl rfl)
theorem dJ40_numberOfLeadingZeros_3 : decode cJ40_numberOfLeadingZeros 3 = .ok (.lushr, 1) := dk_125 (dk_at dksJ40_numberOfLeadingZeros_0 3 rfl rfl)
theorem dJ40_numberOfLeadingZeros_4 : decode cJ40_numberOfLeadingZeros 4 = .ok (.l2i, 1) := dk_136 (dk_at dksJ40_numberOfLeadingZeros_0 4 rfl rfl)
theorem dJ40_numberOfLeadingZeros_5 : decode cJ40_numberOfLeadingZeros 5 = .ok (.istore_n 2, 1) := dk_61 (dk_at dksJ40_numberOfLeadingZeros_0 5 rfl rfl)
theorem dJ40_numberOfLeadingZeros_6 : decode cJ40_numberOfLeadingZeros 6 = .ok (.iload_n 2, 1) := dk_28 (dk_at dksJ40_numberOfLeadingZeros_0 6 rfl rfl)
theorem dJ40_numberOfLeadingZeros_7 : decode cJ40_numberOfLeadingZeros 7 = .ok (.ifCond .ne 14, 3) := dk_154 0 14 (dk_at dksJ40_numberOfLeadingZeros_0 7 rfl rfl)
theorem dJ40_numberOfLeadingZeros_10 : decode cJ40_numberOfLeadingZeros 10 = .ok (.bipush 32, 2) := dk_16 32 (dk_at dksJ40_numberOfLeadingZeros_0 10 rfl rfl)
theorem dJ40_numberOfLeadingZeros_12 : decode cJ40_numberOfLeadingZeros 12 = .ok (.lload_n 0, 1) := dk_30 (dk_at dksJ40_numberOfLeadingZeros_0 12 rfl rfl)
theorem dJ40_numberOfLeadingZeros_13 : decode cJ40_numberOfLeadingZeros 13 = .ok (.l2i, 1) := dk_136 (dk_at dksJ40_numberOfLeadingZeros_0 13 rfl rfl)
theorem dJ40_numberOfLeadingZeros_14 : decode cJ40_numberOfLeadingZeros 14 = .ok (.invokestatic 308, 3) := dk_184 1 52 (dk_at dksJ40_numberOfLeadingZeros_0 14 rfl rfl)
theorem dJ40_numberOfLeadingZeros_17 : decode cJ40_numberOfLeadingZeros 17 = .ok (.iadd, 1) := dk_96 (dk_at dksJ40_numberOfLeadingZeros_0 17 rfl rfl)
theorem dJ40_numberOfLeadingZeros_18 : decode cJ40_numberOfLeadingZeros 18 = .ok (.goto 7, 3) := dk_167 0 7 (dk_at dksJ40_numberOfLeadingZeros_0 18 rfl rfl)
theorem dJ40_numberOfLeadingZeros_21 : decode cJ40_numberOfLeadingZeros 21 = .ok (.iload_n 2, 1) := dk_28 (dk_at dksJ40_numberOfLeadingZeros_0 21 rfl rfl)
theorem dJ40_numberOfLeadingZeros_22 : decode cJ40_numberOfLeadingZeros 22 = .ok (.invokestatic 308, 3) := dk_184 1 52 (dk_at dksJ40_numberOfLeadingZeros_1 0 rfl rfl)
theorem dJ40_numberOfLeadingZeros_25 : decode cJ40_numberOfLeadingZeros 25 = .ok (.ireturn, 1) := dk_172 (dk_at dksJ40_numberOfLeadingZeros_1 3 rfl rfl)
abbrev cJ40_numberOfTrailingZeros : ByteArray := prog_36_method_49_code
def yJ40_numberOfTrailingZeros : MethodName := ⟨RJ40, "numberOfTrailingZeros", "(J)I"⟩
def dkwJ40_numberOfTrailingZeros_1 : List UInt8 := [184, 1, 55, 172]
abbrev dktJ40_numberOfTrailingZeros_1 : List UInt8 := dkwJ40_numberOfTrailingZeros_1 ++ []
def dkwJ40_numberOfTrailingZeros_0 : List UInt8 := [30, 136, 61, 28, 154, 0, 17, 16, 32, 30, 16, 32, 125, 136, 184, 1, 55, 96, 167, 0, 7, 28]
abbrev dktJ40_numberOfTrailingZeros_0 : List UInt8 := dkwJ40_numberOfTrailingZeros_0 ++ dktJ40_numberOfTrailingZeros_1
theorem dksJ40_numberOfTrailingZeros_0 : cJ40_numberOfTrailingZeros.data.toList.drop 0 = dktJ40_numberOfTrailingZeros_0 := by decide +kernel
theorem dksJ40_numberOfTrailingZeros_1 : cJ40_numberOfTrailingZeros.data.toList.drop 22 = dktJ40_numberOfTrailingZeros_1 := dk_seg dksJ40_numberOfTrailingZeros_0 22 rfl rfl
theorem dJ40_numberOfTrailingZeros_0 : decode cJ40_numberOfTrailingZeros 0 = .ok (.lload_n 0, 1) := dk_30 (dk_at dksJ40_numberOfTrailingZeros_0 0 rfl rfl)
theorem dJ40_numberOfTrailingZeros_1 : decode cJ40_numberOfTrailingZeros 1 = .ok (.l2i, 1) := dk_136 (dk_at dksJ40_numberOfTrailingZeros_0 1 rfl rfl)
theorem dJ40_numberOfTrailingZeros_2 : decode cJ40_numberOfTrailingZeros 2 = .ok (.istore_n 2, 1) := dk_61 (dk_at dksJ40_numberOfTrailingZeros_0 2 rfl rfl)
theorem dJ40_numberOfTrailingZeros_3 : decode cJ40_numberOfTrailingZeros 3 = .ok (.iload_n 2, 1) := dk_28 (dk_at dksJ40_numberOfTrailingZeros_0 3 rfl rfl)
theorem dJ40_numberOfTrailingZeros_4 : decode cJ40_numberOfTrailingZeros 4 = .ok (.ifCond .ne 17, 3) := dk_154 0 17 (dk_at dksJ40_numberOfTrailingZeros_0 4 rfl rfl)
theorem dJ40_numberOfTrailingZeros_7 : decode cJ40_numberOfTrailingZeros 7 = .ok (.bipush 32, 2) := dk_16 32 (dk_at dksJ40_numberOfTrailingZeros_0 7 rfl rfl)
theorem dJ40_numberOfTrailingZeros_9 : decode cJ40_numberOfTrailingZeros 9 = .ok (.lload_n 0, 1) := dk_30 (dk_at dksJ40_numberOfTrailingZeros_0 9 rfl rfl)
theorem dJ40_numberOfTrailingZeros_10 : decode cJ40_numberOfTrailingZeros 10 = .ok (.bipush 32, 2) := dk_16 32 (dk_at dksJ40_numberOfTrailingZeros_0 10 rfl rfl)
theorem dJ40_numberOfTrailingZeros_12 : decode cJ40_numberOfTrailingZeros 12 = .ok (.lushr, 1) := dk_125 (dk_at dksJ40_numberOfTrailingZeros_0 12 rfl rfl)
theorem dJ40_numberOfTrailingZeros_13 : decode cJ40_numberOfTrailingZeros 13 = .ok (.l2i, 1) := dk_136 (dk_at dksJ40_numberOfTrailingZeros_0 13 rfl rfl)
theorem dJ40_numberOfTrailingZeros_14 : decode cJ40_numberOfTrailingZeros 14 = .ok (.invokestatic 311, 3) := dk_184 1 55 (dk_at dksJ40_numberOfTrailingZeros_0 14 rfl rfl)
theorem dJ40_numberOfTrailingZeros_17 : decode cJ40_numberOfTrailingZeros 17 = .ok (.iadd, 1) := dk_96 (dk_at dksJ40_numberOfTrailingZeros_0 17 rfl rfl)
theorem dJ40_numberOfTrailingZeros_18 : decode cJ40_numberOfTrailingZeros 18 = .ok (.goto 7, 3) := dk_167 0 7 (dk_at dksJ40_numberOfTrailingZeros_0 18 rfl rfl)
theorem dJ40_numberOfTrailingZeros_21 : decode cJ40_numberOfTrailingZeros 21 = .ok (.iload_n 2, 1) := dk_28 (dk_at dksJ40_numberOfTrailingZeros_0 21 rfl rfl)
theorem dJ40_numberOfTrailingZeros_22 : decode cJ40_numberOfTrailingZeros 22 = .ok (.invokestatic 311, 3) := dk_184 1 55 (dk_at dksJ40_numberOfTrailingZeros_1 0 rfl rfl)
theorem dJ40_numberOfTrailingZeros_25 : decode cJ40_numberOfTrailingZeros 25 = .ok (.ireturn, 1) := dk_172 (dk_at dksJ40_numberOfTrailingZeros_1 3 rfl rfl)
theorem q151 : (Jvm.Cond.initialized "java/lang/Long") ∈ lw_all := lw_g (lw_at lw_m1 51 rfl) rfl
theorem q1665 : (Jvm.Cond.static ({ cls := "java/lang/Long", name := "numberOfLeadingZeros", desc := "(J)I" } : Jvm.MethodName)) ∈ lw_all := lw_g (lw_at lw_m7 125 rfl) rfl
theorem q1666 : (Jvm.Cond.code ({ cls := "java/lang/Long", name := "numberOfLeadingZeros", desc := "(J)I" } : Jvm.MethodName) prog_36_method_48_code (3 : Nat) (Option.some Jvm.ClassFile.FieldType.int)) ∈ lw_all := lw_g (lw_at lw_m7 126 rfl) rfl
theorem q1667 : (Jvm.Cond.methodLink "java/lang/Long" (308 : Nat) ({ cls := "java/lang/Integer", name := "numberOfLeadingZeros", desc := "(I)I" } : Jvm.MethodName)) ∈ lw_all := lw_g (lw_at lw_m7 127 rfl) rfl
theorem q1674 : (Jvm.Cond.static ({ cls := "java/lang/Long", name := "numberOfTrailingZeros", desc := "(J)I" } : Jvm.MethodName)) ∈ lw_all := lw_g (lw_at lw_m7 134 rfl) rfl
theorem q1675 : (Jvm.Cond.code ({ cls := "java/lang/Long", name := "numberOfTrailingZeros", desc := "(J)I" } : Jvm.MethodName) prog_36_method_49_code (3 : Nat) (Option.some Jvm.ClassFile.FieldType.int)) ∈ lw_all := lw_g (lw_at lw_m7 135 rfl) rfl
theorem q1676 : (Jvm.Cond.methodLink "java/lang/Long" (311 : Nat) ({ cls := "java/lang/Integer", name := "numberOfTrailingZeros", desc := "(I)I" } : Jvm.MethodName)) ∈ lw_all := lw_g (lw_at lw_m7 136 rfl) rfl
/-! java/util/TreeMap$Entry -/
set_option maxRecDepth 100000
def RJ41 : String := "java/util/TreeMap$Entry"
def TJ41 : u_T := fun k => match k with
  | 0 => ("java/util/TreeMap$Entry", "key", "Ljava/lang/Object;", false)
  | 1 => ("java/util/TreeMap$Entry", "value", "Ljava/lang/Object;", false)
  | 2 => ("java/util/TreeMap$Entry", "left", "Ljava/util/TreeMap$Entry;", false)
  | 3 => ("java/util/TreeMap$Entry", "right", "Ljava/util/TreeMap$Entry;", false)
  | 4 => ("java/util/TreeMap$Entry", "parent", "Ljava/util/TreeMap$Entry;", false)
  | _ => ("java/util/TreeMap$Entry", "color", "Z", false)
def tyJ41 : Nat → FieldType := fun k => match k with
  | 0 => .object "java/lang/Object"
  | 1 => .object "java/lang/Object"
  | 2 => .object "java/util/TreeMap$Entry"
  | 3 => .object "java/util/TreeMap$Entry"
  | 4 => .object "java/util/TreeMap$Entry"
  | _ => .boolean
abbrev wsJ410 : List Cond := u_ws RJ41 TJ41 6
theorem nmJ41 : ∀ a, a < 6 → ∀ b, b < 6 → a ≠ b → (TJ41 a).2.1 ≠ (TJ41 b).2.1 := by decide +kernel
theorem tyJ41_ok : ∀ k, k < 6 → parseFieldDescriptor (TJ41 k).2.2.1 = some (tyJ41 k) := by decide +kernel
abbrev cJ41_init : ByteArray := prog_91_method_1_code
def yJ41_init : MethodName := ⟨RJ41, "<init>", "(Ljava/lang/Object;Ljava/lang/Object;Ljava/util/TreeMap$Entry;)V"⟩
def dkwJ41_init_1 : List UInt8 := [177]
abbrev dktJ41_init_1 : List UInt8 := dkwJ41_init_1 ++ []
def dkwJ41_init_0 : List UInt8 := [42, 183, 0, 3, 42, 4, 181, 0, 9, 42, 43, 181, 0, 15, 42, 44, 181, 0, 19, 42, 45, 181, 0, 22]
abbrev dktJ41_init_0 : List UInt8 := dkwJ41_init_0 ++ dktJ41_init_1
theorem dksJ41_init_0 : cJ41_init.data.toList.drop 0 = dktJ41_init_0 := by decide +kernel
theorem dksJ41_init_1 : cJ41_init.data.toList.drop 24 = dktJ41_init_1 := dk_seg dksJ41_init_0 24 rfl rfl
theorem dJ41_init_0 : decode cJ41_init 0 = .ok (.aload_n 0, 1) := dk_42 (dk_at dksJ41_init_0 0 rfl rfl)
theorem dJ41_init_1 : decode cJ41_init 1 = .ok (.invokespecial 3, 3) := dk_183 0 3 (dk_at dksJ41_init_0 1 rfl rfl)
theorem dJ41_init_4 : decode cJ41_init 4 = .ok (.aload_n 0, 1) := dk_42 (dk_at dksJ41_init_0 4 rfl rfl)
theorem dJ41_init_5 : decode cJ41_init 5 = .ok (.iconst 1, 1) := dk_4 (dk_at dksJ41_init_0 5 rfl rfl)
theorem dJ41_init_6 : decode cJ41_init 6 = .ok (.putfield 9, 3) := dk_181 0 9 (dk_at dksJ41_init_0 6 rfl rfl)
theorem dJ41_init_9 : decode cJ41_init 9 = .ok (.aload_n 0, 1) := dk_42 (dk_at dksJ41_init_0 9 rfl rfl)
theorem dJ41_init_10 : decode cJ41_init 10 = .ok (.aload_n 1, 1) := dk_43 (dk_at dksJ41_init_0 10 rfl rfl)
theorem dJ41_init_11 : decode cJ41_init 11 = .ok (.putfield 15, 3) := dk_181 0 15 (dk_at dksJ41_init_0 11 rfl rfl)
theorem dJ41_init_14 : decode cJ41_init 14 = .ok (.aload_n 0, 1) := dk_42 (dk_at dksJ41_init_0 14 rfl rfl)
theorem dJ41_init_15 : decode cJ41_init 15 = .ok (.aload_n 2, 1) := dk_44 (dk_at dksJ41_init_0 15 rfl rfl)
theorem dJ41_init_16 : decode cJ41_init 16 = .ok (.putfield 19, 3) := dk_181 0 19 (dk_at dksJ41_init_0 16 rfl rfl)
theorem dJ41_init_19 : decode cJ41_init 19 = .ok (.aload_n 0, 1) := dk_42 (dk_at dksJ41_init_0 19 rfl rfl)
theorem dJ41_init_20 : decode cJ41_init 20 = .ok (.aload_n 3, 1) := dk_45 (dk_at dksJ41_init_0 20 rfl rfl)
theorem dJ41_init_21 : decode cJ41_init 21 = .ok (.putfield 22, 3) := dk_181 0 22 (dk_at dksJ41_init_0 21 rfl rfl)
theorem dJ41_init_24 : decode cJ41_init 24 = .ok (.return_, 1) := dk_177 (dk_at dksJ41_init_1 0 rfl rfl)
theorem q152 : (Jvm.Cond.initialized "java/util/TreeMap$Entry") ∈ lw_all := lw_g (lw_at lw_m1 52 rfl) rfl
theorem q1029 : (Jvm.Cond.selects "java/util/TreeMap$Entry" ({ cls := "java/lang/Object", name := "getClass", desc := "()Ljava/lang/Class;" } : Jvm.MethodName) ({ cls := "java/lang/Object", name := "getClass", desc := "()Ljava/lang/Class;" } : Jvm.MethodName)) ∈ lw_all := lw_g (lw_at lw_m4 209 rfl) rfl
theorem q2121 : (Jvm.Cond.instantiable "java/util/TreeMap$Entry" (6 : Nat)) ∈ lw_all := lw_g (lw_at lw_m9 101 rfl) rfl
theorem q2123 : (Jvm.Cond.instanceMethod ({ cls := "java/util/TreeMap$Entry", name := "<init>", desc := "(Ljava/lang/Object;Ljava/lang/Object;Ljava/util/TreeMap$Entry;)V" } : Jvm.MethodName)) ∈ lw_all := lw_g (lw_at lw_m9 103 rfl) rfl
theorem q2124 : (Jvm.Cond.code ({ cls := "java/util/TreeMap$Entry", name := "<init>", desc := "(Ljava/lang/Object;Ljava/lang/Object;Ljava/util/TreeMap$Entry;)V" } : Jvm.MethodName) prog_91_method_1_code (4 : Nat) (Option.none : Option Jvm.ClassFile.FieldType)) ∈ lw_all := lw_g (lw_at lw_m9 104 rfl) rfl
theorem q2125 : (Jvm.Cond.methodLink "java/util/TreeMap$Entry" (3 : Nat) ({ cls := "java/lang/Object", name := "<init>", desc := "()V" } : Jvm.MethodName)) ∈ lw_all := lw_g (lw_at lw_m9 105 rfl) rfl
theorem q2126 : (Jvm.Cond.fieldLink "java/util/TreeMap$Entry" (15 : Nat) "java/util/TreeMap$Entry" "key" "Ljava/lang/Object;") ∈ lw_all := lw_g (lw_at lw_m9 106 rfl) rfl
theorem q2129 : (Jvm.Cond.fieldLink "java/util/TreeMap$Entry" (19 : Nat) "java/util/TreeMap$Entry" "value" "Ljava/lang/Object;") ∈ lw_all := lw_g (lw_at lw_m9 109 rfl) rfl
theorem q2134 : (Jvm.Cond.fieldLink "java/util/TreeMap$Entry" (22 : Nat) "java/util/TreeMap$Entry" "parent" "Ljava/util/TreeMap$Entry;") ∈ lw_all := lw_g (lw_at lw_m9 114 rfl) rfl
theorem q2136 : (Jvm.Cond.fieldLink "java/util/TreeMap$Entry" (9 : Nat) "java/util/TreeMap$Entry" "color" "Z") ∈ lw_all := lw_g (lw_at lw_m9 116 rfl) rfl
theorem q2138 : (Jvm.Cond.lays "java/util/TreeMap$Entry" "java/util/TreeMap$Entry" "key" "Ljava/lang/Object;") ∈ lw_all := lw_g (lw_at lw_m9 118 rfl) rfl
theorem q2139 : (Jvm.Cond.soleField "java/util/TreeMap$Entry" "key") ∈ lw_all := lw_g (lw_at lw_m9 119 rfl) rfl
theorem q2140 : (Jvm.Cond.lays "java/util/TreeMap$Entry" "java/util/TreeMap$Entry" "value" "Ljava/lang/Object;") ∈ lw_all := lw_g (lw_at lw_m9 120 rfl) rfl
theorem q2141 : (Jvm.Cond.soleField "java/util/TreeMap$Entry" "value") ∈ lw_all := lw_g (lw_at lw_m9 121 rfl) rfl
theorem q2142 : (Jvm.Cond.lays "java/util/TreeMap$Entry" "java/util/TreeMap$Entry" "left" "Ljava/util/TreeMap$Entry;") ∈ lw_all := lw_g (lw_at lw_m9 122 rfl) rfl
theorem q2143 : (Jvm.Cond.soleField "java/util/TreeMap$Entry" "left") ∈ lw_all := lw_g (lw_at lw_m9 123 rfl) rfl
theorem q2144 : (Jvm.Cond.lays "java/util/TreeMap$Entry" "java/util/TreeMap$Entry" "right" "Ljava/util/TreeMap$Entry;") ∈ lw_all := lw_g (lw_at lw_m9 124 rfl) rfl
theorem q2145 : (Jvm.Cond.soleField "java/util/TreeMap$Entry" "right") ∈ lw_all := lw_g (lw_at lw_m9 125 rfl) rfl
theorem q2146 : (Jvm.Cond.lays "java/util/TreeMap$Entry" "java/util/TreeMap$Entry" "parent" "Ljava/util/TreeMap$Entry;") ∈ lw_all := lw_g (lw_at lw_m9 126 rfl) rfl
theorem q2147 : (Jvm.Cond.soleField "java/util/TreeMap$Entry" "parent") ∈ lw_all := lw_g (lw_at lw_m9 127 rfl) rfl
theorem q2148 : (Jvm.Cond.lays "java/util/TreeMap$Entry" "java/util/TreeMap$Entry" "color" "Z") ∈ lw_all := lw_g (lw_at lw_m9 128 rfl) rfl
theorem q2149 : (Jvm.Cond.soleField "java/util/TreeMap$Entry" "color") ∈ lw_all := lw_g (lw_at lw_m9 129 rfl) rfl
theorem q2150 : (Jvm.Cond.superclass "java/util/TreeMap$Entry" "java/lang/Object") ∈ lw_all := lw_g (lw_at lw_m9 130 rfl) rfl
theorem q4260 : (Jvm.Cond.castable "java/util/TreeMap$Entry" "java/lang/Object") ∈ lw_tbl := lw_at lw_m18 80 rfl
theorem in_J41 : ∀ w ∈ wsJ410, w ∈ lw_all := lw_in wsJ410 [2138, 2140, 2142, 2144, 2146, 2148] (by decide +kernel) (by decide +kernel)
/-! java/lang/IllegalStateException -/
set_option maxRecDepth 100000
def RJ42 : String := "java/lang/IllegalStateException"
def TJ42 : u_T := fun k => match k with
  | 0 => ("java/lang/Throwable", "cause", "Ljava/lang/Throwable;", false)
  | 1 => ("java/lang/Throwable", "stackTrace", "[Ljava/lang/StackTraceElement;", false)
  | 2 => ("java/lang/Throwable", "suppressedExceptions", "Ljava/util/List;", false)
  | 3 => ("java/lang/Throwable", "detailMessage", "Ljava/lang/String;", false)
  | 4 => ("java/lang/Throwable", "backtrace", "Ljava/lang/Object;", false)
  | _ => ("java/lang/Throwable", "depth", "I", false)
def tyJ42 : Nat → FieldType := fun k => match k with
  | 0 => .object "java/lang/Throwable"
  | 1 => .array (.object "java/lang/StackTraceElement")
  | 2 => .object "java/util/List"
  | 3 => .object "java/lang/String"
  | 4 => .object "java/lang/Object"
  | _ => .int
abbrev wsJ420 : List Cond := u_ws RJ42 TJ42 6
theorem nmJ42 : ∀ a, a < 6 → ∀ b, b < 6 → a ≠ b → (TJ42 a).2.1 ≠ (TJ42 b).2.1 := by decide +kernel
theorem tyJ42_ok : ∀ k, k < 6 → parseFieldDescriptor (TJ42 k).2.2.1 = some (tyJ42 k) := by decide +kernel
abbrev cJ42_init : ByteArray := prog_31_method_1_code
def yJ42_init : MethodName := ⟨RJ42, "<init>", "()V"⟩
theorem dJ42_init_0 : decode cJ42_init 0 = .ok (.aload_n 0, 1) := by decide +kernel
theorem dJ42_init_1 : decode cJ42_init 1 = .ok (.invokespecial 1, 3) := by decide +kernel
theorem dJ42_init_4 : decode cJ42_init 4 = .ok (.return_, 1) := by decide +kernel
theorem q161 : (Jvm.Cond.initialized "java/lang/IllegalStateException") ∈ lw_all := lw_g (lw_at lw_m1 61 rfl) rfl
theorem q540 : (Jvm.Cond.selects "java/lang/IllegalStateException" ({ cls := "java/lang/Throwable", name := "fillInStackTrace", desc := "()Ljava/lang/Throwable;" } : Jvm.MethodName) ({ cls := "java/lang/Throwable", name := "fillInStackTrace", desc := "()Ljava/lang/Throwable;" } : Jvm.MethodName)) ∈ lw_all := lw_g (lw_at lw_m2 200 rfl) rfl
theorem q980 : (Jvm.Cond.selects "java/lang/IllegalStateException" ({ cls := "java/lang/Throwable", name := "toString", desc := "()Ljava/lang/String;" } : Jvm.MethodName) ({ cls := "java/lang/Throwable", name := "toString", desc := "()Ljava/lang/String;" } : Jvm.MethodName)) ∈ lw_all := lw_g (lw_at lw_m4 160 rfl) rfl
theorem q1010 : (Jvm.Cond.selects "java/lang/IllegalStateException" ({ cls := "java/lang/Object", name := "getClass", desc := "()Ljava/lang/Class;" } : Jvm.MethodName) ({ cls := "java/lang/Object", name := "getClass", desc := "()Ljava/lang/Class;" } : Jvm.MethodName)) ∈ lw_all := lw_g (lw_at lw_m4 190 rfl) rfl
theorem q1046 : (Jvm.Cond.selects "java/lang/IllegalStateException" ({ cls := "java/lang/Throwable", name := "getLocalizedMessage", desc := "()Ljava/lang/String;" } : Jvm.MethodName) ({ cls := "java/lang/Throwable", name := "getLocalizedMessage", desc := "()Ljava/lang/String;" } : Jvm.MethodName)) ∈ lw_all := lw_g (lw_at lw_m4 226 rfl) rfl
theorem q1061 : (Jvm.Cond.selects "java/lang/IllegalStateException" ({ cls := "java/lang/Throwable", name := "getMessage", desc := "()Ljava/lang/String;" } : Jvm.MethodName) ({ cls := "java/lang/Throwable", name := "getMessage", desc := "()Ljava/lang/String;" } : Jvm.MethodName)) ∈ lw_all := lw_g (lw_at lw_m5 1 rfl) rfl
theorem q2657 : (Jvm.Cond.instantiable "java/lang/IllegalStateException" (6 : Nat)) ∈ lw_all := lw_g (lw_at lw_m11 157 rfl) rfl
theorem q2658 : (Jvm.Cond.castable "java/lang/IllegalStateException" "java/lang/IllegalStateException") ∈ lw_tbl := lw_at lw_m11 158 rfl
theorem q2659 : (Jvm.Cond.selects "java/lang/IllegalStateException" ({ cls := "java/lang/Throwable", name := "fillInStackTrace", desc := "(I)Ljava/lang/Throwable;" } : Jvm.MethodName) ({ cls := "java/lang/Throwable", name := "fillInStackTrace", desc := "(I)Ljava/lang/Throwable;" } : Jvm.MethodName)) ∈ lw_all := lw_g (lw_at lw_m11 159 rfl) rfl
theorem q2660 : (Jvm.Cond.lays "java/lang/IllegalStateException" "java/lang/Throwable" "cause" "Ljava/lang/Throwable;") ∈ lw_all := lw_g (lw_at lw_m11 160 rfl) rfl
theorem q2661 : (Jvm.Cond.lays "java/lang/IllegalStateException" "java/lang/Throwable" "stackTrace" "[Ljava/lang/StackTraceElement;") ∈ lw_all := lw_g (lw_at lw_m11 161 rfl) rfl
theorem q2662 : (Jvm.Cond.lays "java/lang/IllegalStateException" "java/lang/Throwable" "suppressedExceptions" "Ljava/util/List;") ∈ lw_all := lw_g (lw_at lw_m11 162 rfl) rfl
theorem q2663 : (Jvm.Cond.lays "java/lang/IllegalStateException" "java/lang/Throwable" "detailMessage" "Ljava/lang/String;") ∈ lw_all := lw_g (lw_at lw_m11 163 rfl) rfl
theorem q2664 : (Jvm.Cond.lays "java/lang/IllegalStateException" "java/lang/Throwable" "backtrace" "Ljava/lang/Object;") ∈ lw_all := lw_g (lw_at lw_m11 164 rfl) rfl
theorem q2666 : (Jvm.Cond.instanceMethod ({ cls := "java/lang/IllegalStateException", name := "<init>", desc := "()V" } : Jvm.MethodName)) ∈ lw_all := lw_g (lw_at lw_m11 166 rfl) rfl
theorem q2667 : (Jvm.Cond.code ({ cls := "java/lang/IllegalStateException", name := "<init>", desc := "()V" } : Jvm.MethodName) prog_31_method_1_code (1 : Nat) (Option.none : Option Jvm.ClassFile.FieldType)) ∈ lw_all := lw_g (lw_at lw_m11 167 rfl) rfl
theorem q2668 : (Jvm.Cond.methodLink "java/lang/IllegalStateException" (1 : Nat) ({ cls := "java/lang/RuntimeException", name := "<init>", desc := "()V" } : Jvm.MethodName)) ∈ lw_all := lw_g (lw_at lw_m11 168 rfl) rfl
theorem q2669 : (Jvm.Cond.lays "java/lang/IllegalStateException" "java/lang/Throwable" "depth" "I") ∈ lw_all := lw_g (lw_at lw_m11 169 rfl) rfl
theorem q2670 : (Jvm.Cond.superclass "java/lang/IllegalStateException" "java/lang/RuntimeException") ∈ lw_all := lw_g (lw_at lw_m11 170 rfl) rfl
theorem q3191 : (Jvm.Cond.selects "java/lang/IllegalStateException" ({ cls := "java/lang/Object", name := "equals", desc := "(Ljava/lang/Object;)Z" } : Jvm.MethodName) ({ cls := "java/lang/Object", name := "equals", desc := "(Ljava/lang/Object;)Z" } : Jvm.MethodName)) ∈ lw_all := lw_g (lw_at lw_m13 211 rfl) rfl
theorem q3499 : (Jvm.Cond.selects "java/lang/IllegalStateException" ({ cls := "java/lang/Object", name := "toString", desc := "()Ljava/lang/String;" } : Jvm.MethodName) ({ cls := "java/lang/Throwable", name := "toString", desc := "()Ljava/lang/String;" } : Jvm.MethodName)) ∈ lw_all := lw_g (lw_at lw_m15 39 rfl) rfl
theorem q4270 : (Jvm.Cond.castable "java/lang/IllegalStateException" "java/lang/Object") ∈ lw_tbl := lw_at lw_m18 90 rfl
theorem in_J42 : ∀ w ∈ wsJ420, w ∈ lw_all := lw_in wsJ420 [2660, 2661, 2662, 2663, 2664, 2669] (by decide +kernel) (by decide +kernel)
/-! java/lang/UnsupportedOperationException -/
set_option maxRecDepth 100000
def RJ43 : String := "java/lang/UnsupportedOperationException"
def TJ43 : u_T := fun k => match k with
  | 0 => ("java/lang/Throwable", "cause", "Ljava/lang/Throwable;", false)
  | 1 => ("java/lang/Throwable", "stackTrace", "[Ljava/lang/StackTraceElement;", false)
  | 2 => ("java/lang/Throwable", "suppressedExceptions", "Ljava/util/List;", false)
  | 3 => ("java/lang/Throwable", "detailMessage", "Ljava/lang/String;", false)
  | 4 => ("java/lang/Throwable", "backtrace", "Ljava/lang/Object;", false)
  | _ => ("java/lang/Throwable", "depth", "I", false)
def tyJ43 : Nat → FieldType := fun k => match k with
  | 0 => .object "java/lang/Throwable"
  | 1 => .array (.object "java/lang/StackTraceElement")
  | 2 => .object "java/util/List"
  | 3 => .object "java/lang/String"
  | 4 => .object "java/lang/Object"
  | _ => .int
abbrev wsJ430 : List Cond := u_ws RJ43 TJ43 6
theorem nmJ43 : ∀ a, a < 6 → ∀ b, b < 6 → a ≠ b → (TJ43 a).2.1 ≠ (TJ43 b).2.1 := by decide +kernel
theorem tyJ43_ok : ∀ k, k < 6 → parseFieldDescriptor (TJ43 k).2.2.1 = some (tyJ43 k) := by decide +kernel
abbrev cJ43_init : ByteArray := prog_49_method_1_code
def yJ43_init : MethodName := ⟨RJ43, "<init>", "()V"⟩
theorem dJ43_init_0 : decode cJ43_init 0 = .ok (.aload_n 0, 1) := by decide +kernel
theorem dJ43_init_1 : decode cJ43_init 1 = .ok (.invokespecial 1, 3) := by decide +kernel
theorem dJ43_init_4 : decode cJ43_init 4 = .ok (.return_, 1) := by decide +kernel
theorem q162 : (Jvm.Cond.initialized "java/lang/UnsupportedOperationException") ∈ lw_all := lw_g (lw_at lw_m1 62 rfl) rfl
theorem q542 : (Jvm.Cond.selects "java/lang/UnsupportedOperationException" ({ cls := "java/lang/Throwable", name := "fillInStackTrace", desc := "()Ljava/lang/Throwable;" } : Jvm.MethodName) ({ cls := "java/lang/Throwable", name := "fillInStackTrace", desc := "()Ljava/lang/Throwable;" } : Jvm.MethodName)) ∈ lw_all := lw_g (lw_at lw_m2 202 rfl) rfl
theorem q983 : (Jvm.Cond.selects "java/lang/UnsupportedOperationException" ({ cls := "java/lang/Throwable", name := "toString", desc := "()Ljava/lang/String;" } : Jvm.MethodName) ({ cls := "java/lang/Throwable", name := "toString", desc := "()Ljava/lang/String;" } : Jvm.MethodName)) ∈ lw_all := lw_g (lw_at lw_m4 163 rfl) rfl
theorem q1017 : (Jvm.Cond.selects "java/lang/UnsupportedOperationException" ({ cls := "java/lang/Object", name := "getClass", desc := "()Ljava/lang/Class;" } : Jvm.MethodName) ({ cls := "java/lang/Object", name := "getClass", desc := "()Ljava/lang/Class;" } : Jvm.MethodName)) ∈ lw_all := lw_g (lw_at lw_m4 197 rfl) rfl
theorem q1049 : (Jvm.Cond.selects "java/lang/UnsupportedOperationException" ({ cls := "java/lang/Throwable", name := "getLocalizedMessage", desc := "()Ljava/lang/String;" } : Jvm.MethodName) ({ cls := "java/lang/Throwable", name := "getLocalizedMessage", desc := "()Ljava/lang/String;" } : Jvm.MethodName)) ∈ lw_all := lw_g (lw_at lw_m4 229 rfl) rfl
theorem q1064 : (Jvm.Cond.selects "java/lang/UnsupportedOperationException" ({ cls := "java/lang/Throwable", name := "getMessage", desc := "()Ljava/lang/String;" } : Jvm.MethodName) ({ cls := "java/lang/Throwable", name := "getMessage", desc := "()Ljava/lang/String;" } : Jvm.MethodName)) ∈ lw_all := lw_g (lw_at lw_m5 4 rfl) rfl
theorem q2692 : (Jvm.Cond.instantiable "java/lang/UnsupportedOperationException" (6 : Nat)) ∈ lw_all := lw_g (lw_at lw_m11 192 rfl) rfl
theorem q2693 : (Jvm.Cond.castable "java/lang/UnsupportedOperationException" "java/lang/UnsupportedOperationException") ∈ lw_tbl := lw_at lw_m11 193 rfl
theorem q2694 : (Jvm.Cond.selects "java/lang/UnsupportedOperationException" ({ cls := "java/lang/Throwable", name := "fillInStackTrace", desc := "(I)Ljava/lang/Throwable;" } : Jvm.MethodName) ({ cls := "java/lang/Throwable", name := "fillInStackTrace", desc := "(I)Ljava/lang/Throwable;" } : Jvm.MethodName)) ∈ lw_all := lw_g (lw_at lw_m11 194 rfl) rfl
theorem q2695 : (Jvm.Cond.lays "java/lang/UnsupportedOperationException" "java/lang/Throwable" "cause" "Ljava/lang/Throwable;") ∈ lw_all := lw_g (lw_at lw_m11 195 rfl) rfl
theorem q2696 : (Jvm.Cond.lays "java/lang/UnsupportedOperationException" "java/lang/Throwable" "stackTrace" "[Ljava/lang/StackTraceElement;") ∈ lw_all := lw_g (lw_at lw_m11 196 rfl) rfl
theorem q2697 : (Jvm.Cond.lays "java/lang/UnsupportedOperationException" "java/lang/Throwable" "suppressedExceptions" "Ljava/util/List;") ∈ lw_all := lw_g (lw_at lw_m11 197 rfl) rfl
theorem q2698 : (Jvm.Cond.lays "java/lang/UnsupportedOperationException" "java/lang/Throwable" "detailMessage" "Ljava/lang/String;") ∈ lw_all := lw_g (lw_at lw_m11 198 rfl) rfl
theorem q2699 : (Jvm.Cond.lays "java/lang/UnsupportedOperationException" "java/lang/Throwable" "backtrace" "Ljava/lang/Object;") ∈ lw_all := lw_g (lw_at lw_m11 199 rfl) rfl
theorem q2701 : (Jvm.Cond.instanceMethod ({ cls := "java/lang/UnsupportedOperationException", name := "<init>", desc := "()V" } : Jvm.MethodName)) ∈ lw_all := lw_g (lw_at lw_m11 201 rfl) rfl
theorem q2702 : (Jvm.Cond.code ({ cls := "java/lang/UnsupportedOperationException", name := "<init>", desc := "()V" } : Jvm.MethodName) prog_49_method_1_code (1 : Nat) (Option.none : Option Jvm.ClassFile.FieldType)) ∈ lw_all := lw_g (lw_at lw_m11 202 rfl) rfl
theorem q2703 : (Jvm.Cond.methodLink "java/lang/UnsupportedOperationException" (1 : Nat) ({ cls := "java/lang/RuntimeException", name := "<init>", desc := "()V" } : Jvm.MethodName)) ∈ lw_all := lw_g (lw_at lw_m11 203 rfl) rfl
theorem q2704 : (Jvm.Cond.lays "java/lang/UnsupportedOperationException" "java/lang/Throwable" "depth" "I") ∈ lw_all := lw_g (lw_at lw_m11 204 rfl) rfl
theorem q2705 : (Jvm.Cond.superclass "java/lang/UnsupportedOperationException" "java/lang/RuntimeException") ∈ lw_all := lw_g (lw_at lw_m11 205 rfl) rfl
theorem q3201 : (Jvm.Cond.selects "java/lang/UnsupportedOperationException" ({ cls := "java/lang/Object", name := "equals", desc := "(Ljava/lang/Object;)Z" } : Jvm.MethodName) ({ cls := "java/lang/Object", name := "equals", desc := "(Ljava/lang/Object;)Z" } : Jvm.MethodName)) ∈ lw_all := lw_g (lw_at lw_m13 221 rfl) rfl
theorem q3521 : (Jvm.Cond.selects "java/lang/UnsupportedOperationException" ({ cls := "java/lang/Object", name := "toString", desc := "()Ljava/lang/String;" } : Jvm.MethodName) ({ cls := "java/lang/Throwable", name := "toString", desc := "()Ljava/lang/String;" } : Jvm.MethodName)) ∈ lw_all := lw_g (lw_at lw_m15 61 rfl) rfl
theorem q4271 : (Jvm.Cond.castable "java/lang/UnsupportedOperationException" "java/lang/Object") ∈ lw_tbl := lw_at lw_m18 91 rfl
theorem in_J43 : ∀ w ∈ wsJ430, w ∈ lw_all := lw_in wsJ430 [2695, 2696, 2697, 2698, 2699, 2704] (by decide +kernel) (by decide +kernel)
/-! java/lang/ArrayIndexOutOfBoundsException -/
set_option maxRecDepth 100000
def RJ44 : String := "java/lang/ArrayIndexOutOfBoundsException"
def TJ44 : u_T := fun k => match k with
  | 0 => ("java/lang/Throwable", "backtrace", "Ljava/lang/Object;", false)
  | 1 => ("java/lang/Throwable", "detailMessage", "Ljava/lang/String;", false)
  | 2 => ("java/lang/Throwable", "cause", "Ljava/lang/Throwable;", false)
  | 3 => ("java/lang/Throwable", "stackTrace", "[Ljava/lang/StackTraceElement;", false)
  | 4 => ("java/lang/Throwable", "depth", "I", false)
  | _ => ("java/lang/Throwable", "suppressedExceptions", "Ljava/util/List;", false)
def tyJ44 : Nat → FieldType := fun k => match k with
  | 0 => .object "java/lang/Object"
  | 1 => .object "java/lang/String"
  | 2 => .object "java/lang/Throwable"
  | 3 => .array (.object "java/lang/StackTraceElement")
  | 4 => .int
  | _ => .object "java/util/List"
abbrev wsJ440 : List Cond := u_ws RJ44 TJ44 6
theorem nmJ44 : ∀ a, a < 6 → ∀ b, b < 6 → a ≠ b → (TJ44 a).2.1 ≠ (TJ44 b).2.1 := by decide +kernel
theorem tyJ44_ok : ∀ k, k < 6 → parseFieldDescriptor (TJ44 k).2.2.1 = some (tyJ44 k) := by decide +kernel
abbrev cJ44_init : ByteArray := prog_25_method_2_code
def yJ44_init : MethodName := ⟨RJ44, "<init>", "(Ljava/lang/String;)V"⟩
def dkwJ44_init_0 : List UInt8 := [42, 43, 183, 0, 7, 177]
abbrev dktJ44_init_0 : List UInt8 := dkwJ44_init_0 ++ []
theorem dksJ44_init_0 : cJ44_init.data.toList.drop 0 = dktJ44_init_0 := by decide +kernel
theorem dJ44_init_0 : decode cJ44_init 0 = .ok (.aload_n 0, 1) := dk_42 (dk_at dksJ44_init_0 0 rfl rfl)
theorem dJ44_init_1 : decode cJ44_init 1 = .ok (.aload_n 1, 1) := dk_43 (dk_at dksJ44_init_0 1 rfl rfl)
theorem dJ44_init_2 : decode cJ44_init 2 = .ok (.invokespecial 7, 3) := dk_183 0 7 (dk_at dksJ44_init_0 2 rfl rfl)
theorem dJ44_init_5 : decode cJ44_init 5 = .ok (.return_, 1) := dk_177 (dk_at dksJ44_init_0 5 rfl rfl)
abbrev cJ44_init_2 : ByteArray := prog_25_method_3_code
def yJ44_init_2 : MethodName := ⟨RJ44, "<init>", "(I)V"⟩
def dkwJ44_init_2_0 : List UInt8 := [42, 187, 0, 10, 89, 183, 0, 12, 18, 13, 182, 0, 15, 27, 182, 0, 19, 182, 0, 22, 183, 0, 7, 177]
abbrev dktJ44_init_2_0 : List UInt8 := dkwJ44_init_2_0 ++ []
theorem dksJ44_init_2_0 : cJ44_init_2.data.toList.drop 0 = dktJ44_init_2_0 := by decide +kernel
theorem dJ44_init_2_0 : decode cJ44_init_2 0 = .ok (.aload_n 0, 1) := dk_42 (dk_at dksJ44_init_2_0 0 rfl rfl)
theorem dJ44_init_2_1 : decode cJ44_init_2 1 = .ok (.new 10, 3) := dk_187 0 10 (dk_at dksJ44_init_2_0 1 rfl rfl)
theorem dJ44_init_2_4 : decode cJ44_init_2 4 = .ok (.dup, 1) := dk_89 (dk_at dksJ44_init_2_0 4 rfl rfl)
theorem dJ44_init_2_5 : decode cJ44_init_2 5 = .ok (.invokespecial 12, 3) := dk_183 0 12 (dk_at dksJ44_init_2_0 5 rfl rfl)
theorem dJ44_init_2_8 : decode cJ44_init_2 8 = .ok (.ldc 13, 2) := dk_18 13 (dk_at dksJ44_init_2_0 8 rfl rfl)
theorem dJ44_init_2_10 : decode cJ44_init_2 10 = .ok (.invokevirtual 15, 3) := dk_182 0 15 (dk_at dksJ44_init_2_0 10 rfl rfl)
theorem dJ44_init_2_13 : decode cJ44_init_2 13 = .ok (.iload_n 1, 1) := dk_27 (dk_at dksJ44_init_2_0 13 rfl rfl)
theorem dJ44_init_2_14 : decode cJ44_init_2 14 = .ok (.invokevirtual 19, 3) := dk_182 0 19 (dk_at dksJ44_init_2_0 14 rfl rfl)
theorem dJ44_init_2_17 : decode cJ44_init_2 17 = .ok (.invokevirtual 22, 3) := dk_182 0 22 (dk_at dksJ44_init_2_0 17 rfl rfl)
theorem dJ44_init_2_20 : decode cJ44_init_2 20 = .ok (.invokespecial 7, 3) := dk_183 0 7 (dk_at dksJ44_init_2_0 20 rfl rfl)
theorem dJ44_init_2_23 : decode cJ44_init_2 23 = .ok (.return_, 1) := dk_177 (dk_at dksJ44_init_2_0 23 rfl rfl)
theorem q163 : (Jvm.Cond.initialized "java/lang/ArrayIndexOutOfBoundsException") ∈ lw_all := lw_g (lw_at lw_m1 63 rfl) rfl
theorem q538 : (Jvm.Cond.selects "java/lang/ArrayIndexOutOfBoundsException" ({ cls := "java/lang/Throwable", name := "fillInStackTrace", desc := "()Ljava/lang/Throwable;" } : Jvm.MethodName) ({ cls := "java/lang/Throwable", name := "fillInStackTrace", desc := "()Ljava/lang/Throwable;" } : Jvm.MethodName)) ∈ lw_all := lw_g (lw_at lw_m2 198 rfl) rfl
theorem q978 : (Jvm.Cond.selects "java/lang/ArrayIndexOutOfBoundsException" ({ cls := "java/lang/Throwable", name := "toString", desc := "()Ljava/lang/String;" } : Jvm.MethodName) ({ cls := "java/lang/Throwable", name := "toString", desc := "()Ljava/lang/String;" } : Jvm.MethodName)) ∈ lw_all := lw_g (lw_at lw_m4 158 rfl) rfl
theorem q1008 : (Jvm.Cond.selects "java/lang/ArrayIndexOutOfBoundsException" ({ cls := "java/lang/Object", name := "getClass", desc := "()Ljava/lang/Class;" } : Jvm.MethodName) ({ cls := "java/lang/Object", name := "getClass", desc := "()Ljava/lang/Class;" } : Jvm.MethodName)) ∈ lw_all := lw_g (lw_at lw_m4 188 rfl) rfl
theorem q1044 : (Jvm.Cond.selects "java/lang/ArrayIndexOutOfBoundsException" ({ cls := "java/lang/Throwable", name := "getLocalizedMessage", desc := "()Ljava/lang/String;" } : Jvm.MethodName) ({ cls := "java/lang/Throwable", name := "getLocalizedMessage", desc := "()Ljava/lang/String;" } : Jvm.MethodName)) ∈ lw_all := lw_g (lw_at lw_m4 224 rfl) rfl
theorem q1059 : (Jvm.Cond.selects "java/lang/ArrayIndexOutOfBoundsException" ({ cls := "java/lang/Throwable", name := "getMessage", desc := "()Ljava/lang/String;" } : Jvm.MethodName) ({ cls := "java/lang/Throwable", name := "getMessage", desc := "()Ljava/lang/String;" } : Jvm.MethodName)) ∈ lw_all := lw_g (lw_at lw_m4 239 rfl) rfl
theorem q2715 : (Jvm.Cond.instantiable "java/lang/ArrayIndexOutOfBoundsException" (6 : Nat)) ∈ lw_all := lw_g (lw_at lw_m11 215 rfl) rfl
theorem q2716 : (Jvm.Cond.instanceMethod ({ cls := "java/lang/ArrayIndexOutOfBoundsException", name := "<init>", desc := "(Ljava/lang/String;)V" } : Jvm.MethodName)) ∈ lw_all := lw_g (lw_at lw_m11 216 rfl) rfl
theorem q2717 : (Jvm.Cond.code ({ cls := "java/lang/ArrayIndexOutOfBoundsException", name := "<init>", desc := "(Ljava/lang/String;)V" } : Jvm.MethodName) prog_25_method_2_code (2 : Nat) (Option.none : Option Jvm.ClassFile.FieldType)) ∈ lw_all := lw_g (lw_at lw_m11 217 rfl) rfl
theorem q2718 : (Jvm.Cond.methodLink "java/lang/ArrayIndexOutOfBoundsException" (7 : Nat) ({ cls := "java/lang/IndexOutOfBoundsException", name := "<init>", desc := "(Ljava/lang/String;)V" } : Jvm.MethodName)) ∈ lw_all := lw_g (lw_at lw_m11 218 rfl) rfl
theorem q2719 : (Jvm.Cond.lays "java/lang/ArrayIndexOutOfBoundsException" "java/lang/Throwable" "backtrace" "Ljava/lang/Object;") ∈ lw_all := lw_g (lw_at lw_m11 219 rfl) rfl
theorem q2720 : (Jvm.Cond.lays "java/lang/ArrayIndexOutOfBoundsException" "java/lang/Throwable" "detailMessage" "Ljava/lang/String;") ∈ lw_all := lw_g (lw_at lw_m11 220 rfl) rfl
theorem q2721 : (Jvm.Cond.lays "java/lang/ArrayIndexOutOfBoundsException" "java/lang/Throwable" "cause" "Ljava/lang/Throwable;") ∈ lw_all := lw_g (lw_at lw_m11 221 rfl) rfl
theorem q2722 : (Jvm.Cond.lays "java/lang/ArrayIndexOutOfBoundsException" "java/lang/Throwable" "stackTrace" "[Ljava/lang/StackTraceElement;") ∈ lw_all := lw_g (lw_at lw_m11 222 rfl) rfl
theorem q2723 : (Jvm.Cond.lays "java/lang/ArrayIndexOutOfBoundsException" "java/lang/Throwable" "depth" "I") ∈ lw_all := lw_g (lw_at lw_m11 223 rfl) rfl
theorem q2724 : (Jvm.Cond.lays "java/lang/ArrayIndexOutOfBoundsException" "java/lang/Throwable" "suppressedExceptions" "Ljava/util/List;") ∈ lw_all := lw_g (lw_at lw_m11 224 rfl) rfl
theorem q2725 : (Jvm.Cond.superclass "java/lang/ArrayIndexOutOfBoundsException" "java/lang/IndexOutOfBoundsException") ∈ lw_all := lw_g (lw_at lw_m11 225 rfl) rfl
theorem q2726 : (Jvm.Cond.castable "java/lang/ArrayIndexOutOfBoundsException" "java/lang/ArrayIndexOutOfBoundsException") ∈ lw_tbl := lw_at lw_m11 226 rfl
theorem q2729 : (Jvm.Cond.selects "java/lang/ArrayIndexOutOfBoundsException" ({ cls := "java/lang/Throwable", name := "fillInStackTrace", desc := "(I)Ljava/lang/Throwable;" } : Jvm.MethodName) ({ cls := "java/lang/Throwable", name := "fillInStackTrace", desc := "(I)Ljava/lang/Throwable;" } : Jvm.MethodName)) ∈ lw_all := lw_g (lw_at lw_m11 229 rfl) rfl
theorem q3189 : (Jvm.Cond.selects "java/lang/ArrayIndexOutOfBoundsException" ({ cls := "java/lang/Object", name := "equals", desc := "(Ljava/lang/Object;)Z" } : Jvm.MethodName) ({ cls := "java/lang/Object", name := "equals", desc := "(Ljava/lang/Object;)Z" } : Jvm.MethodName)) ∈ lw_all := lw_g (lw_at lw_m13 209 rfl) rfl
theorem q3408 : (Jvm.Cond.instanceMethod ({ cls := "java/lang/ArrayIndexOutOfBoundsException", name := "<init>", desc := "(I)V" } : Jvm.MethodName)) ∈ lw_all := lw_g (lw_at lw_m14 188 rfl) rfl
theorem q3409 : (Jvm.Cond.code ({ cls := "java/lang/ArrayIndexOutOfBoundsException", name := "<init>", desc := "(I)V" } : Jvm.MethodName) prog_25_method_3_code (2 : Nat) (Option.none : Option Jvm.ClassFile.FieldType)) ∈ lw_all := lw_g (lw_at lw_m14 189 rfl) rfl
theorem q3410 : (Jvm.Cond.classLink "java/lang/ArrayIndexOutOfBoundsException" (10 : Nat) "java/lang/StringBuilder") ∈ lw_all := lw_g (lw_at lw_m14 190 rfl) rfl
theorem q3411 : (Jvm.Cond.methodLink "java/lang/ArrayIndexOutOfBoundsException" (12 : Nat) ({ cls := "java/lang/StringBuilder", name := "<init>", desc := "()V" } : Jvm.MethodName)) ∈ lw_all := lw_g (lw_at lw_m14 191 rfl) rfl
theorem q3412 : (Jvm.Cond.stringRef "java/lang/ArrayIndexOutOfBoundsException" (13 : Nat) "Array index out of range: ") ∈ lw_tbl := lw_at lw_m14 192 rfl
theorem q3413 : (Jvm.Cond.methodLink "java/lang/ArrayIndexOutOfBoundsException" (15 : Nat) ({ cls := "java/lang/StringBuilder", name := "append", desc := "(Ljava/lang/String;)Ljava/lang/StringBuilder;" } : Jvm.MethodName)) ∈ lw_all := lw_g (lw_at lw_m14 193 rfl) rfl
theorem q3414 : (Jvm.Cond.methodLink "java/lang/ArrayIndexOutOfBoundsException" (19 : Nat) ({ cls := "java/lang/StringBuilder", name := "append", desc := "(I)Ljava/lang/StringBuilder;" } : Jvm.MethodName)) ∈ lw_all := lw_g (lw_at lw_m14 194 rfl) rfl
theorem q3415 : (Jvm.Cond.methodLink "java/lang/ArrayIndexOutOfBoundsException" (22 : Nat) ({ cls := "java/lang/StringBuilder", name := "toString", desc := "()Ljava/lang/String;" } : Jvm.MethodName)) ∈ lw_all := lw_g (lw_at lw_m14 195 rfl) rfl
theorem q3497 : (Jvm.Cond.selects "java/lang/ArrayIndexOutOfBoundsException" ({ cls := "java/lang/Object", name := "toString", desc := "()Ljava/lang/String;" } : Jvm.MethodName) ({ cls := "java/lang/Throwable", name := "toString", desc := "()Ljava/lang/String;" } : Jvm.MethodName)) ∈ lw_all := lw_g (lw_at lw_m15 37 rfl) rfl
theorem q4236 : (Jvm.Cond.castable "java/lang/ArrayIndexOutOfBoundsException" "java/lang/IndexOutOfBoundsException") ∈ lw_tbl := lw_at lw_m18 56 rfl
theorem q4272 : (Jvm.Cond.castable "java/lang/ArrayIndexOutOfBoundsException" "java/lang/Object") ∈ lw_tbl := lw_at lw_m18 92 rfl
theorem in_J44 : ∀ w ∈ wsJ440, w ∈ lw_all := lw_in wsJ440 [2719, 2720, 2721, 2722, 2723, 2724] (by decide +kernel) (by decide +kernel)
/-! java/util/AbstractQueue -/
set_option maxRecDepth 100000
def RJ45 : String := "java/util/AbstractQueue"
abbrev cJ45_init : ByteArray := prog_57_method_1_code
def yJ45_init : MethodName := ⟨RJ45, "<init>", "()V"⟩
theorem dJ45_init_0 : decode cJ45_init 0 = .ok (.aload_n 0, 1) := by decide +kernel
theorem dJ45_init_1 : decode cJ45_init 1 = .ok (.invokespecial 1, 3) := by decide +kernel
theorem dJ45_init_4 : decode cJ45_init 4 = .ok (.return_, 1) := by decide +kernel
theorem q164 : (Jvm.Cond.initialized "java/util/AbstractQueue") ∈ lw_all := lw_g (lw_at lw_m1 64 rfl) rfl
theorem q1293 : (Jvm.Cond.instanceMethod ({ cls := "java/util/AbstractQueue", name := "<init>", desc := "()V" } : Jvm.MethodName)) ∈ lw_all := lw_g (lw_at lw_m5 233 rfl) rfl
theorem q1294 : (Jvm.Cond.code ({ cls := "java/util/AbstractQueue", name := "<init>", desc := "()V" } : Jvm.MethodName) prog_57_method_1_code (1 : Nat) (Option.none : Option Jvm.ClassFile.FieldType)) ∈ lw_all := lw_g (lw_at lw_m5 234 rfl) rfl
theorem q1295 : (Jvm.Cond.methodLink "java/util/AbstractQueue" (1 : Nat) ({ cls := "java/util/AbstractCollection", name := "<init>", desc := "()V" } : Jvm.MethodName)) ∈ lw_all := lw_g (lw_at lw_m5 235 rfl) rfl
/-! java/util/PriorityQueue -/
set_option maxRecDepth 100000
def RJ46 : String := "java/util/PriorityQueue"
def TJ46 : u_T := fun k => match k with
  | 0 => ("java/util/PriorityQueue", "queue", "[Ljava/lang/Object;", false)
  | 1 => ("java/util/PriorityQueue", "size", "I", false)
  | 2 => ("java/util/PriorityQueue", "comparator", "Ljava/util/Comparator;", true)
  | _ => ("java/util/PriorityQueue", "modCount", "I", false)
def tyJ46 : Nat → FieldType := fun k => match k with
  | 0 => .array (.object "java/lang/Object")
  | 1 => .int
  | 2 => .object "java/util/Comparator"
  | _ => .int
abbrev wsJ460 : List Cond := u_ws RJ46 TJ46 4
theorem nmJ46 : ∀ a, a < 4 → ∀ b, b < 4 → a ≠ b → (TJ46 a).2.1 ≠ (TJ46 b).2.1 := by decide +kernel
theorem tyJ46_ok : ∀ k, k < 4 → parseFieldDescriptor (TJ46 k).2.2.1 = some (tyJ46 k) := by decide +kernel
abbrev cJ46_init : ByteArray := prog_80_method_1_code
def yJ46_init : MethodName := ⟨RJ46, "<init>", "()V"⟩
def dkwJ46_init_0 : List UInt8 := [42, 16, 11, 1, 183, 0, 3, 177]
abbrev dktJ46_init_0 : List UInt8 := dkwJ46_init_0 ++ []
theorem dksJ46_init_0 : cJ46_init.data.toList.drop 0 = dktJ46_init_0 := by decide +kernel
theorem dJ46_init_0 : decode cJ46_init 0 = .ok (.aload_n 0, 1) := dk_42 (dk_at dksJ46_init_0 0 rfl rfl)
theorem dJ46_init_1 : decode cJ46_init 1 = .ok (.bipush 11, 2) := dk_16 11 (dk_at dksJ46_init_0 1 rfl rfl)
theorem dJ46_init_3 : decode cJ46_init 3 = .ok (.aconst_null, 1) := dk_1 (dk_at dksJ46_init_0 3 rfl rfl)
theorem dJ46_init_4 : decode cJ46_init 4 = .ok (.invokespecial 3, 3) := dk_183 0 3 (dk_at dksJ46_init_0 4 rfl rfl)
theorem dJ46_init_7 : decode cJ46_init 7 = .ok (.return_, 1) := dk_177 (dk_at dksJ46_init_0 7 rfl rfl)
abbrev cJ46_init_2 : ByteArray := prog_80_method_4_code
def yJ46_init_2 : MethodName := ⟨RJ46, "<init>", "(ILjava/util/Comparator;)V"⟩
def dkwJ46_init_2_1 : List UInt8 := [181, 0, 17, 42, 44, 181, 0, 21, 177]
abbrev dktJ46_init_2_1 : List UInt8 := dkwJ46_init_2_1 ++ []
def dkwJ46_init_2_0 : List UInt8 := [42, 183, 0, 7, 27, 4, 162, 0, 11, 187, 0, 12, 89, 183, 0, 14, 191, 42, 27, 189, 0, 15]
abbrev dktJ46_init_2_0 : List UInt8 := dkwJ46_init_2_0 ++ dktJ46_init_2_1
theorem dksJ46_init_2_0 : cJ46_init_2.data.toList.drop 0 = dktJ46_init_2_0 := by decide +kernel
theorem dksJ46_init_2_1 : cJ46_init_2.data.toList.drop 22 = dktJ46_init_2_1 := dk_seg dksJ46_init_2_0 22 rfl rfl
theorem dJ46_init_2_0 : decode cJ46_init_2 0 = .ok (.aload_n 0, 1) := dk_42 (dk_at dksJ46_init_2_0 0 rfl rfl)
theorem dJ46_init_2_1 : decode cJ46_init_2 1 = .ok (.invokespecial 7, 3) := dk_183 0 7 (dk_at dksJ46_init_2_0 1 rfl rfl)
theorem dJ46_init_2_4 : decode cJ46_init_2 4 = .ok (.iload_n 1, 1) := dk_27 (dk_at dksJ46_init_2_0 4 rfl rfl)
theorem dJ46_init_2_5 : decode cJ46_init_2 5 = .ok (.iconst 1, 1) := dk_4 (dk_at dksJ46_init_2_0 5 rfl rfl)
theorem dJ46_init_2_6 : decode cJ46_init_2 6 = .ok (.if_icmp .ge 11, 3) := dk_162 0 11 (dk_at dksJ46_init_2_0 6 rfl rfl)
theorem dJ46_init_2_9 : decode cJ46_init_2 9 = .ok (.new 12, 3) := dk_187 0 12 (dk_at dksJ46_init_2_0 9 rfl rfl)
theorem dJ46_init_2_12 : decode cJ46_init_2 12 = .ok (.dup, 1) := dk_89 (dk_at dksJ46_init_2_0 12 rfl rfl)
theorem dJ46_init_2_13 : decode cJ46_init_2 13 = .ok (.invokespecial 14, 3) := dk_183 0 14 (dk_at dksJ46_init_2_0 13 rfl rfl)
theorem dJ46_init_2_16 : decode cJ46_init_2 16 = .ok (.athrow, 1) := dk_191 (dk_at dksJ46_init_2_0 16 rfl rfl)
theorem dJ46_init_2_17 : decode cJ46_init_2 17 = .ok (.aload_n 0, 1) := dk_42 (dk_at dksJ46_init_2_0 17 rfl rfl)
theorem dJ46_init_2_18 : decode cJ46_init_2 18 = .ok (.iload_n 1, 1) := dk_27 (dk_at dksJ46_init_2_0 18 rfl rfl)
theorem dJ46_init_2_19 : decode cJ46_init_2 19 = .ok (.anewarray 15, 3) := dk_189 0 15 (dk_at dksJ46_init_2_0 19 rfl rfl)
theorem dJ46_init_2_22 : decode cJ46_init_2 22 = .ok (.putfield 17, 3) := dk_181 0 17 (dk_at dksJ46_init_2_1 0 rfl rfl)
theorem dJ46_init_2_25 : decode cJ46_init_2 25 = .ok (.aload_n 0, 1) := dk_42 (dk_at dksJ46_init_2_1 3 rfl rfl)
theorem dJ46_init_2_26 : decode cJ46_init_2 26 = .ok (.aload_n 2, 1) := dk_44 (dk_at dksJ46_init_2_1 4 rfl rfl)
theorem dJ46_init_2_27 : decode cJ46_init_2 27 = .ok (.putfield 21, 3) := dk_181 0 21 (dk_at dksJ46_init_2_1 5 rfl rfl)
theorem dJ46_init_2_30 : decode cJ46_init_2 30 = .ok (.return_, 1) := dk_177 (dk_at dksJ46_init_2_1 8 rfl rfl)
abbrev cJ46_add : ByteArray := prog_80_method_13_code
def yJ46_add : MethodName := ⟨RJ46, "add", "(Ljava/lang/Object;)Z"⟩
def dkwJ46_add_0 : List UInt8 := [42, 43, 182, 0, 89, 172]
abbrev dktJ46_add_0 : List UInt8 := dkwJ46_add_0 ++ []
theorem dksJ46_add_0 : cJ46_add.data.toList.drop 0 = dktJ46_add_0 := by decide +kernel
theorem dJ46_add_0 : decode cJ46_add 0 = .ok (.aload_n 0, 1) := dk_42 (dk_at dksJ46_add_0 0 rfl rfl)
theorem dJ46_add_1 : decode cJ46_add 1 = .ok (.aload_n 1, 1) := dk_43 (dk_at dksJ46_add_0 1 rfl rfl)
theorem dJ46_add_2 : decode cJ46_add 2 = .ok (.invokevirtual 89, 3) := dk_182 0 89 (dk_at dksJ46_add_0 2 rfl rfl)
theorem dJ46_add_5 : decode cJ46_add 5 = .ok (.ireturn, 1) := dk_172 (dk_at dksJ46_add_0 5 rfl rfl)
abbrev cJ46_offer : ByteArray := prog_80_method_14_code
def yJ46_offer : MethodName := ⟨RJ46, "offer", "(Ljava/lang/Object;)Z"⟩
def dkwJ46_offer_2 : List UInt8 := [182, 0, 100, 42, 28, 4, 96, 181, 0, 58, 4, 172]
abbrev dktJ46_offer_2 : List UInt8 := dkwJ46_offer_2 ++ []
def dkwJ46_offer_1 : List UInt8 := [180, 0, 58, 61, 28, 42, 180, 0, 17, 190, 161, 0, 10, 42, 28, 4, 96, 182, 0, 96, 42, 28, 43]
abbrev dktJ46_offer_1 : List UInt8 := dkwJ46_offer_1 ++ dktJ46_offer_2
def dkwJ46_offer_0 : List UInt8 := [43, 199, 0, 11, 187, 0, 74, 89, 183, 0, 76, 191, 42, 89, 180, 0, 93, 4, 96, 181, 0, 93, 42]
abbrev dktJ46_offer_0 : List UInt8 := dkwJ46_offer_0 ++ dktJ46_offer_1
theorem dksJ46_offer_0 : cJ46_offer.data.toList.drop 0 = dktJ46_offer_0 := by decide +kernel
theorem dksJ46_offer_1 : cJ46_offer.data.toList.drop 23 = dktJ46_offer_1 := dk_seg dksJ46_offer_0 23 rfl rfl
theorem dksJ46_offer_2 : cJ46_offer.data.toList.drop 46 = dktJ46_offer_2 := dk_seg dksJ46_offer_1 23 rfl rfl
theorem dJ46_offer_0 : decode cJ46_offer 0 = .ok (.aload_n 1, 1) := dk_43 (dk_at dksJ46_offer_0 0 rfl rfl)
theorem dJ46_offer_1 : decode cJ46_offer 1 = .ok (.ifnonnull 11, 3) := dk_199 0 11 (dk_at dksJ46_offer_0 1 rfl rfl)
theorem dJ46_offer_4 : decode cJ46_offer 4 = .ok (.new 74, 3) := dk_187 0 74 (dk_at dksJ46_offer_0 4 rfl rfl)
theorem dJ46_offer_7 : decode cJ46_offer 7 = .ok (.dup, 1) := dk_89 (dk_at dksJ46_offer_0 7 rfl rfl)
theorem dJ46_offer_8 : decode cJ46_offer 8 = .ok (.invokespecial 76, 3) := dk_183 0 76 (dk_at dksJ46_offer_0 8 rfl rfl)
theorem dJ46_offer_11 : decode cJ46_offer 11 = .ok (.athrow, 1) := dk_191 (dk_at dksJ46_offer_0 11 rfl rfl)
theorem dJ46_offer_12 : decode cJ46_offer 12 = .ok (.aload_n 0, 1) := dk_42 (dk_at dksJ46_offer_0 12 rfl rfl)
theorem dJ46_offer_13 : decode cJ46_offer 13 = .ok (.dup, 1) := dk_89 (dk_at dksJ46_offer_0 13 rfl rfl)
theorem dJ46_offer_14 : decode cJ46_offer 14 = .ok (.getfield 93, 3) := dk_180 0 93 (dk_at dksJ46_offer_0 14 rfl rfl)
theorem dJ46_offer_17 : decode cJ46_offer 17 = .ok (.iconst 1, 1) := dk_4 (dk_at dksJ46_offer_0 17 rfl rfl)
theorem dJ46_offer_18 : decode cJ46_offer 18 = .ok (.iadd, 1) := dk_96 (dk_at dksJ46_offer_0 18 rfl rfl)
theorem dJ46_offer_19 : decode cJ46_offer 19 = .ok (.putfield 93, 3) := dk_181 0 93 (dk_at dksJ46_offer_0 19 rfl rfl)
theorem dJ46_offer_22 : decode cJ46_offer 22 = .ok (.aload_n 0, 1) := dk_42 (dk_at dksJ46_offer_0 22 rfl rfl)
theorem dJ46_offer_23 : decode cJ46_offer 23 = .ok (.getfield 58, 3) := dk_180 0 58 (dk_at dksJ46_offer_1 0 rfl rfl)
theorem dJ46_offer_26 : decode cJ46_offer 26 = .ok (.istore_n 2, 1) := dk_61 (dk_at dksJ46_offer_1 3 rfl rfl)
theorem dJ46_offer_27 : decode cJ46_offer 27 = .ok (.iload_n 2, 1) := dk_28 (dk_at dksJ46_offer_1 4 rfl rfl)
theorem dJ46_offer_28 : decode cJ46_offer 28 = .ok (.aload_n 0, 1) := dk_42 (dk_at dksJ46_offer_1 5 rfl rfl)
theorem dJ46_offer_29 : decode cJ46_offer 29 = .ok (.getfield 17, 3) := dk_180 0 17 (dk_at dksJ46_offer_1 6 rfl rfl)
theorem dJ46_offer_32 : decode cJ46_offer 32 = .ok (.arraylength, 1) := dk_190 (dk_at dksJ46_offer_1 9 rfl rfl)
theorem dJ46_offer_33 : decode cJ46_offer 33 = .ok (.if_icmp .lt 10, 3) := dk_161 0 10 (dk_at dksJ46_offer_1 10 rfl rfl)
theorem dJ46_offer_36 : decode cJ46_offer 36 = .ok (.aload_n 0, 1) := dk_42 (dk_at dksJ46_offer_1 13 rfl rfl)
theorem dJ46_offer_37 : decode cJ46_offer 37 = .ok (.iload_n 2, 1) := dk_28 (dk_at dksJ46_offer_1 14 rfl rfl)
theorem dJ46_offer_38 : decode cJ46_offer 38 = .ok (.iconst 1, 1) := dk_4 (dk_at dksJ46_offer_1 15 rfl rfl)
theorem dJ46_offer_39 : decode cJ46_offer 39 = .ok (.iadd, 1) := dk_96 (dk_at dksJ46_offer_1 16 rfl rfl)
theorem dJ46_offer_40 : decode cJ46_offer 40 = .ok (.invokevirtual 96, 3) := dk_182 0 96 (dk_at dksJ46_offer_1 17 rfl rfl)
theorem dJ46_offer_43 : decode cJ46_offer 43 = .ok (.aload_n 0, 1) := dk_42 (dk_at dksJ46_offer_1 20 rfl rfl)
theorem dJ46_offer_44 : decode cJ46_offer 44 = .ok (.iload_n 2, 1) := dk_28 (dk_at dksJ46_offer_1 21 rfl rfl)
theorem dJ46_offer_45 : decode cJ46_offer 45 = .ok (.aload_n 1, 1) := dk_43 (dk_at dksJ46_offer_1 22 rfl rfl)
theorem dJ46_offer_46 : decode cJ46_offer 46 = .ok (.invokevirtual 100, 3) := dk_182 0 100 (dk_at dksJ46_offer_2 0 rfl rfl)
theorem dJ46_offer_49 : decode cJ46_offer 49 = .ok (.aload_n 0, 1) := dk_42 (dk_at dksJ46_offer_2 3 rfl rfl)
theorem dJ46_offer_50 : decode cJ46_offer 50 = .ok (.iload_n 2, 1) := dk_28 (dk_at dksJ46_offer_2 4 rfl rfl)
theorem dJ46_offer_51 : decode cJ46_offer 51 = .ok (.iconst 1, 1) := dk_4 (dk_at dksJ46_offer_2 5 rfl rfl)
theorem dJ46_offer_52 : decode cJ46_offer 52 = .ok (.iadd, 1) := dk_96 (dk_at dksJ46_offer_2 6 rfl rfl)
theorem dJ46_offer_53 : decode cJ46_offer 53 = .ok (.putfield 58, 3) := dk_181 0 58 (dk_at dksJ46_offer_2 7 rfl rfl)
theorem dJ46_offer_56 : decode cJ46_offer 56 = .ok (.iconst 1, 1) := dk_4 (dk_at dksJ46_offer_2 10 rfl rfl)
theorem dJ46_offer_57 : decode cJ46_offer 57 = .ok (.ireturn, 1) := dk_172 (dk_at dksJ46_offer_2 11 rfl rfl)
abbrev cJ46_grow : ByteArray := prog_80_method_12_code
def yJ46_grow : MethodName := ⟨RJ46, "grow", "(I)V"⟩
def dkwJ46_grow_1 : List UInt8 := [122, 184, 0, 80, 62, 42, 42, 180, 0, 17, 29, 184, 0, 86, 181, 0, 17, 177]
abbrev dktJ46_grow_1 : List UInt8 := dkwJ46_grow_1 ++ []
def dkwJ46_grow_0 : List UInt8 := [42, 180, 0, 17, 190, 61, 28, 27, 28, 100, 28, 16, 64, 162, 0, 9, 28, 5, 96, 167, 0, 6, 28, 4]
abbrev dktJ46_grow_0 : List UInt8 := dkwJ46_grow_0 ++ dktJ46_grow_1
theorem dksJ46_grow_0 : cJ46_grow.data.toList.drop 0 = dktJ46_grow_0 := by decide +kernel
theorem dksJ46_grow_1 : cJ46_grow.data.toList.drop 24 = dktJ46_grow_1 := dk_seg dksJ46_grow_0 24 rfl rfl
theorem dJ46_grow_0 : decode cJ46_grow 0 = .ok (.aload_n 0, 1) := dk_42 (dk_at dksJ46_grow_0 0 rfl rfl)
theorem dJ46_grow_1 : decode cJ46_grow 1 = .ok (.getfield 17, 3) := dk_180 0 17 (dk_at dksJ46_grow_0 1 rfl rfl)
theorem dJ46_grow_4 : decode cJ46_grow 4 = .ok (.arraylength, 1) := dk_190 (dk_at dksJ46_grow_0 4 rfl rfl)
theorem dJ46_grow_5 : decode cJ46_grow 5 = .ok (.istore_n 2, 1) := dk_61 (dk_at dksJ46_grow_0 5 rfl rfl)
theorem dJ46_grow_6 : decode cJ46_grow 6 = .ok (.iload_n 2, 1) := dk_28 (dk_at dksJ46_grow_0 6 rfl rfl)
theorem dJ46_grow_7 : decode cJ46_grow 7 = .ok (.iload_n 1, 1) := dk_27 (dk_at dksJ46_grow_0 7 rfl rfl)
theorem dJ46_grow_8 : decode cJ46_grow 8 = .ok (.iload_n 2, 1) := dk_28 (dk_at dksJ46_grow_0 8 rfl rfl)
theorem dJ46_grow_9 : decode cJ46_grow 9 = .ok (.isub, 1) := dk_100 (dk_at dksJ46_grow_0 9 rfl rfl)
theorem dJ46_grow_10 : decode cJ46_grow 10 = .ok (.iload_n 2, 1) := dk_28 (dk_at dksJ46_grow_0 10 rfl rfl)
theorem dJ46_grow_11 : decode cJ46_grow 11 = .ok (.bipush 64, 2) := dk_16 64 (dk_at dksJ46_grow_0 11 rfl rfl)
theorem dJ46_grow_13 : decode cJ46_grow 13 = .ok (.if_icmp .ge 9, 3) := dk_162 0 9 (dk_at dksJ46_grow_0 13 rfl rfl)
theorem dJ46_grow_16 : decode cJ46_grow 16 = .ok (.iload_n 2, 1) := dk_28 (dk_at dksJ46_grow_0 16 rfl rfl)
theorem dJ46_grow_17 : decode cJ46_grow 17 = .ok (.iconst 2, 1) := dk_5 (dk_at dksJ46_grow_0 17 rfl rfl)
theorem dJ46_grow_18 : decode cJ46_grow 18 = .ok (.iadd, 1) := dk_96 (dk_at dksJ46_grow_0 18 rfl rfl)
theorem dJ46_grow_19 : decode cJ46_grow 19 = .ok (.goto 6, 3) := dk_167 0 6 (dk_at dksJ46_grow_0 19 rfl rfl)
theorem dJ46_grow_22 : decode cJ46_grow 22 = .ok (.iload_n 2, 1) := dk_28 (dk_at dksJ46_grow_0 22 rfl rfl)
theorem dJ46_grow_23 : decode cJ46_grow 23 = .ok (.iconst 1, 1) := dk_4 (dk_at dksJ46_grow_0 23 rfl rfl)
theorem dJ46_grow_24 : decode cJ46_grow 24 = .ok (.ishr, 1) := dk_122 (dk_at dksJ46_grow_1 0 rfl rfl)
theorem dJ46_grow_25 : decode cJ46_grow 25 = .ok (.invokestatic 80, 3) := dk_184 0 80 (dk_at dksJ46_grow_1 1 rfl rfl)
theorem dJ46_grow_28 : decode cJ46_grow 28 = .ok (.istore_n 3, 1) := dk_62 (dk_at dksJ46_grow_1 4 rfl rfl)
theorem dJ46_grow_29 : decode cJ46_grow 29 = .ok (.aload_n 0, 1) := dk_42 (dk_at dksJ46_grow_1 5 rfl rfl)
theorem dJ46_grow_30 : decode cJ46_grow 30 = .ok (.aload_n 0, 1) := dk_42 (dk_at dksJ46_grow_1 6 rfl rfl)
theorem dJ46_grow_31 : decode cJ46_grow 31 = .ok (.getfield 17, 3) := dk_180 0 17 (dk_at dksJ46_grow_1 7 rfl rfl)
theorem dJ46_grow_34 : decode cJ46_grow 34 = .ok (.iload_n 3, 1) := dk_29 (dk_at dksJ46_grow_1 10 rfl rfl)
theorem dJ46_grow_35 : decode cJ46_grow 35 = .ok (.invokestatic 86, 3) := dk_184 0 86 (dk_at dksJ46_grow_1 11 rfl rfl)
theorem dJ46_grow_38 : decode cJ46_grow 38 = .ok (.putfield 17, 3) := dk_181 0 17 (dk_at dksJ46_grow_1 14 rfl rfl)
theorem dJ46_grow_41 : decode cJ46_grow 41 = .ok (.return_, 1) := dk_177 (dk_at dksJ46_grow_1 17 rfl rfl)
abbrev cJ46_siftUp : ByteArray := prog_80_method_27_code
def yJ46_siftUp : MethodName := ⟨RJ46, "siftUp", "(ILjava/lang/Object;)V"⟩
def dkwJ46_siftUp_1 : List UInt8 := [44, 42, 180, 0, 17, 184, 0, 140, 177]
abbrev dktJ46_siftUp_1 : List UInt8 := dkwJ46_siftUp_1 ++ []
def dkwJ46_siftUp_0 : List UInt8 := [42, 180, 0, 21, 198, 0, 19, 27, 44, 42, 180, 0, 17, 42, 180, 0, 21, 184, 0, 136, 167, 0, 12, 27]
abbrev dktJ46_siftUp_0 : List UInt8 := dkwJ46_siftUp_0 ++ dktJ46_siftUp_1
theorem dksJ46_siftUp_0 : cJ46_siftUp.data.toList.drop 0 = dktJ46_siftUp_0 := by decide +kernel
theorem dksJ46_siftUp_1 : cJ46_siftUp.data.toList.drop 24 = dktJ46_siftUp_1 := dk_seg dksJ46_siftUp_0 24 rfl rfl
theorem dJ46_siftUp_0 : decode cJ46_siftUp 0 = .ok (.aload_n 0, 1) := dk_42 (dk_at dksJ46_siftUp_0 0 rfl rfl)
theorem dJ46_siftUp_1 : decode cJ46_siftUp 1 = .ok (.getfield 21, 3) := dk_180 0 21 (dk_at dksJ46_siftUp_0 1 rfl rfl)
theorem dJ46_siftUp_4 : decode cJ46_siftUp 4 = .ok (.ifnull 19, 3) := dk_198 0 19 (dk_at dksJ46_siftUp_0 4 rfl rfl)
theorem dJ46_siftUp_7 : decode cJ46_siftUp 7 = .ok (.iload_n 1, 1) := dk_27 (dk_at dksJ46_siftUp_0 7 rfl rfl)
theorem dJ46_siftUp_8 : decode cJ46_siftUp 8 = .ok (.aload_n 2, 1) := dk_44 (dk_at dksJ46_siftUp_0 8 rfl rfl)
theorem dJ46_siftUp_9 : decode cJ46_siftUp 9 = .ok (.aload_n 0, 1) := dk_42 (dk_at dksJ46_siftUp_0 9 rfl rfl)
theorem dJ46_siftUp_10 : decode cJ46_siftUp 10 = .ok (.getfield 17, 3) := dk_180 0 17 (dk_at dksJ46_siftUp_0 10 rfl rfl)
theorem dJ46_siftUp_13 : decode cJ46_siftUp 13 = .ok (.aload_n 0, 1) := dk_42 (dk_at dksJ46_siftUp_0 13 rfl rfl)
theorem dJ46_siftUp_14 : decode cJ46_siftUp 14 = .ok (.getfield 21, 3) := dk_180 0 21 (dk_at dksJ46_siftUp_0 14 rfl rfl)
theorem dJ46_siftUp_17 : decode cJ46_siftUp 17 = .ok (.invokestatic 136, 3) := dk_184 0 136 (dk_at dksJ46_siftUp_0 17 rfl rfl)
theorem dJ46_siftUp_20 : decode cJ46_siftUp 20 = .ok (.goto 12, 3) := dk_167 0 12 (dk_at dksJ46_siftUp_0 20 rfl rfl)
theorem dJ46_siftUp_23 : decode cJ46_siftUp 23 = .ok (.iload_n 1, 1) := dk_27 (dk_at dksJ46_siftUp_0 23 rfl rfl)
theorem dJ46_siftUp_24 : decode cJ46_siftUp 24 = .ok (.aload_n 2, 1) := dk_44 (dk_at dksJ46_siftUp_1 0 rfl rfl)
theorem dJ46_siftUp_25 : decode cJ46_siftUp 25 = .ok (.aload_n 0, 1) := dk_42 (dk_at dksJ46_siftUp_1 1 rfl rfl)
theorem dJ46_siftUp_26 : decode cJ46_siftUp 26 = .ok (.getfield 17, 3) := dk_180 0 17 (dk_at dksJ46_siftUp_1 2 rfl rfl)
theorem dJ46_siftUp_29 : decode cJ46_siftUp 29 = .ok (.invokestatic 140, 3) := dk_184 0 140 (dk_at dksJ46_siftUp_1 5 rfl rfl)
theorem dJ46_siftUp_32 : decode cJ46_siftUp 32 = .ok (.return_, 1) := dk_177 (dk_at dksJ46_siftUp_1 8 rfl rfl)
abbrev cJ46_siftUpUsingComparator : ByteArray := prog_80_method_29_code
def yJ46_siftUpUsingComparator : MethodName := ⟨RJ46, "siftUpUsingComparator", "(ILjava/lang/Object;[Ljava/lang/Object;Ljava/util/Comparator;)V"⟩
def dkwJ46_siftUpUsingComparator_2 : List UInt8 := [43, 83, 177]
abbrev dktJ46_siftUpUsingComparator_2 : List UInt8 := dkwJ46_siftUpUsingComparator_2 ++ []
def dkwJ46_siftUpUsingComparator_1 : List UInt8 := [185, 0, 149, 3, 0, 155, 0, 6, 167, 0, 14, 44, 26, 25, 5, 83, 21, 4, 59, 167, 255, 216, 44, 26]
abbrev dktJ46_siftUpUsingComparator_1 : List UInt8 := dkwJ46_siftUpUsingComparator_1 ++ dktJ46_siftUpUsingComparator_2
def dkwJ46_siftUpUsingComparator_0 : List UInt8 := [26, 158, 0, 42, 26, 4, 100, 4, 124, 54, 4, 44, 21, 4, 50, 58, 5, 45, 43, 25, 5]
abbrev dktJ46_siftUpUsingComparator_0 : List UInt8 := dkwJ46_siftUpUsingComparator_0 ++ dktJ46_siftUpUsingComparator_1
theorem dksJ46_siftUpUsingComparator_0 : cJ46_siftUpUsingComparator.data.toList.drop 0 = dktJ46_siftUpUsingComparator_0 := by decide +kernel
theorem dksJ46_siftUpUsingComparator_1 : cJ46_siftUpUsingComparator.data.toList.drop 21 = dktJ46_siftUpUsingComparator_1 := dk_seg dksJ46_siftUpUsingComparator_0 21 rfl rfl
theorem dksJ46_siftUpUsingComparator_2 : cJ46_siftUpUsingComparator.data.toList.drop 45 = dktJ46_siftUpUsingComparator_2 := dk_seg dksJ46_siftUpUsingComparator_1 24 rfl rfl
theorem dJ46_siftUpUsingComparator_0 : decode cJ46_siftUpUsingComparator 0 = .ok (.iload_n 0, 1) := dk_26 (dk_at dksJ46_siftUpUsingComparator_0 0 rfl rfl)
theorem dJ46_siftUpUsingComparator_1 : decode cJ46_siftUpUsingComparator 1 = .ok (.ifCond .le 42, 3) := dk_158 0 42 (dk_at dksJ46_siftUpUsingComparator_0 1 rfl rfl)
theorem dJ46_siftUpUsingComparator_4 : decode cJ46_siftUpUsingComparator 4 = .ok (.iload_n 0, 1) := dk_26 (dk_at dksJ46_siftUpUsingComparator_0 4 rfl rfl)
theorem dJ46_siftUpUsingComparator_5 : decode cJ46_siftUpUsingComparator 5 = .ok (.iconst 1, 1) := dk_4 (dk_at dksJ46_siftUpUsingComparator_0 5 rfl rfl)
theorem dJ46_siftUpUsingComparator_6 : decode cJ46_siftUpUsingComparator 6 = .ok (.isub, 1) := dk_100 (dk_at dksJ46_siftUpUsingComparator_0 6 rfl rfl)
theorem dJ46_siftUpUsingComparator_7 : decode cJ46_siftUpUsingComparator 7 = .ok (.iconst 1, 1) := dk_4 (dk_at dksJ46_siftUpUsingComparator_0 7 rfl rfl)
theorem dJ46_siftUpUsingComparator_8 : decode cJ46_siftUpUsingComparator 8 = .ok (.iushr, 1) := dk_124 (dk_at dksJ46_siftUpUsingComparator_0 8 rfl rfl)
theorem dJ46_siftUpUsingComparator_9 : decode cJ46_siftUpUsingComparator 9 = .ok (.istore 4, 2) := dk_54 4 (dk_at dksJ46_siftUpUsingComparator_0 9 rfl rfl)
theorem dJ46_siftUpUsingComparator_11 : decode cJ46_siftUpUsingComparator 11 = .ok (.aload_n 2, 1) := dk_44 (dk_at dksJ46_siftUpUsingComparator_0 11 rfl rfl)
theorem dJ46_siftUpUsingComparator_12 : decode cJ46_siftUpUsingComparator 12 = .ok (.iload 4, 2) := dk_21 4 (dk_at dksJ46_siftUpUsingComparator_0 12 rfl rfl)
theorem dJ46_siftUpUsingComparator_14 : decode cJ46_siftUpUsingComparator 14 = .ok (.aaload, 1) := dk_50 (dk_at dksJ46_siftUpUsingComparator_0 14 rfl rfl)
theorem dJ46_siftUpUsingComparator_15 : decode cJ46_siftUpUsingComparator 15 = .ok (.astore 5, 2) := dk_58 5 (dk_at dksJ46_siftUpUsingComparator_0 15 rfl rfl)
theorem dJ46_siftUpUsingComparator_17 : decode cJ46_siftUpUsingComparator 17 = .ok (.aload_n 3, 1) := dk_45 (dk_at dksJ46_siftUpUsingComparator_0 17 rfl rfl)
theorem dJ46_siftUpUsingComparator_18 : decode cJ46_siftUpUsingComparator 18 = .ok (.aload_n 1, 1) := dk_43 (dk_at dksJ46_siftUpUsingComparator_0 18 rfl rfl)
theorem dJ46_siftUpUsingComparator_19 : decode cJ46_siftUpUsingComparator 19 = .ok (.aload 5, 2) := dk_25 5 (dk_at dksJ46_siftUpUsingComparator_0 19 rfl rfl)
theorem dJ46_siftUpUsingComparator_21 : decode cJ46_siftUpUsingComparator 21 = .ok (.invokeinterface 149 3, 5) := by decide +kernel
theorem dJ46_siftUpUsingComparator_26 : decode cJ46_siftUpUsingComparator 26 = .ok (.ifCond .lt 6, 3) := dk_155 0 6 (dk_at dksJ46_siftUpUsingComparator_1 5 rfl rfl)
theorem dJ46_siftUpUsingComparator_29 : decode cJ46_siftUpUsingComparator 29 = .ok (.goto 14, 3) := dk_167 0 14 (dk_at dksJ46_siftUpUsingComparator_1 8 rfl rfl)
theorem dJ46_siftUpUsingComparator_32 : decode cJ46_siftUpUsingComparator 32 = .ok (.aload_n 2, 1) := dk_44 (dk_at dksJ46_siftUpUsingComparator_1 11 rfl rfl)
theorem dJ46_siftUpUsingComparator_33 : decode cJ46_siftUpUsingComparator 33 = .ok (.iload_n 0, 1) := dk_26 (dk_at dksJ46_siftUpUsingComparator_1 12 rfl rfl)
theorem dJ46_siftUpUsingComparator_34 : decode cJ46_siftUpUsingComparator 34 = .ok (.aload 5, 2) := dk_25 5 (dk_at dksJ46_siftUpUsingComparator_1 13 rfl rfl)
theorem dJ46_siftUpUsingComparator_36 : decode cJ46_siftUpUsingComparator 36 = .ok (.aastore, 1) := dk_83 (dk_at dksJ46_siftUpUsingComparator_1 15 rfl rfl)
theorem dJ46_siftUpUsingComparator_37 : decode cJ46_siftUpUsingComparator 37 = .ok (.iload 4, 2) := dk_21 4 (dk_at dksJ46_siftUpUsingComparator_1 16 rfl rfl)
theorem dJ46_siftUpUsingComparator_39 : decode cJ46_siftUpUsingComparator 39 = .ok (.istore_n 0, 1) := dk_59 (dk_at dksJ46_siftUpUsingComparator_1 18 rfl rfl)
theorem dJ46_siftUpUsingComparator_40 : decode cJ46_siftUpUsingComparator 40 = .ok (.goto (-40), 3) := dk_167 255 216 (dk_at dksJ46_siftUpUsingComparator_1 19 rfl rfl)
theorem dJ46_siftUpUsingComparator_43 : decode cJ46_siftUpUsingComparator 43 = .ok (.aload_n 2, 1) := dk_44 (dk_at dksJ46_siftUpUsingComparator_1 22 rfl rfl)
theorem dJ46_siftUpUsingComparator_44 : decode cJ46_siftUpUsingComparator 44 = .ok (.iload_n 0, 1) := dk_26 (dk_at dksJ46_siftUpUsingComparator_1 23 rfl rfl)
theorem dJ46_siftUpUsingComparator_45 : decode cJ46_siftUpUsingComparator 45 = .ok (.aload_n 1, 1) := dk_43 (dk_at dksJ46_siftUpUsingComparator_2 0 rfl rfl)
theorem dJ46_siftUpUsingComparator_46 : decode cJ46_siftUpUsingComparator 46 = .ok (.aastore, 1) := dk_83 (dk_at dksJ46_siftUpUsingComparator_2 1 rfl rfl)
theorem dJ46_siftUpUsingComparator_47 : decode cJ46_siftUpUsingComparator 47 = .ok (.return_, 1) := dk_177 (dk_at dksJ46_siftUpUsingComparator_2 2 rfl rfl)
abbrev cJ46_siftUpComparable : ByteArray := prog_80_method_28_code
def yJ46_siftUpComparable : MethodName := ⟨RJ46, "siftUpComparable", "(ILjava/lang/Object;[Ljava/lang/Object;)V"⟩
def dkwJ46_siftUpComparable_2 : List UInt8 := [44, 26, 45, 83, 177]
abbrev dktJ46_siftUpComparable_2 : List UInt8 := dkwJ46_siftUpComparable_2 ++ []
def dkwJ46_siftUpComparable_1 : List UInt8 := [25, 5, 185, 0, 146, 2, 0, 155, 0, 6, 167, 0, 14, 44, 26, 25, 5, 83, 21, 4, 59, 167, 255, 217]
abbrev dktJ46_siftUpComparable_1 : List UInt8 := dkwJ46_siftUpComparable_1 ++ dktJ46_siftUpComparable_2
def dkwJ46_siftUpComparable_0 : List UInt8 := [43, 192, 0, 144, 78, 26, 158, 0, 41, 26, 4, 100, 4, 124, 54, 4, 44, 21, 4, 50, 58, 5, 45]
abbrev dktJ46_siftUpComparable_0 : List UInt8 := dkwJ46_siftUpComparable_0 ++ dktJ46_siftUpComparable_1
theorem dksJ46_siftUpComparable_0 : cJ46_siftUpComparable.data.toList.drop 0 = dktJ46_siftUpComparable_0 := by decide +kernel
theorem dksJ46_siftUpComparable_1 : cJ46_siftUpComparable.data.toList.drop 23 = dktJ46_siftUpComparable_1 := dk_seg dksJ46_siftUpComparable_0 23 rfl rfl
theorem dksJ46_siftUpComparable_2 : cJ46_siftUpComparable.data.toList.drop 47 = dktJ46_siftUpComparable_2 := dk_seg dksJ46_siftUpComparable_1 24 rfl rfl
theorem dJ46_siftUpComparable_0 : decode cJ46_siftUpComparable 0 = .ok (.aload_n 1, 1) := dk_43 (dk_at dksJ46_siftUpComparable_0 0 rfl rfl)
theorem dJ46_siftUpComparable_1 : decode cJ46_siftUpComparable 1 = .ok (.checkcast 144, 3) := dk_192 0 144 (dk_at dksJ46_siftUpComparable_0 1 rfl rfl)
theorem dJ46_siftUpComparable_4 : decode cJ46_siftUpComparable 4 = .ok (.astore_n 3, 1) := dk_78 (dk_at dksJ46_siftUpComparable_0 4 rfl rfl)
theorem dJ46_siftUpComparable_5 : decode cJ46_siftUpComparable 5 = .ok (.iload_n 0, 1) := dk_26 (dk_at dksJ46_siftUpComparable_0 5 rfl rfl)
theorem dJ46_siftUpComparable_6 : decode cJ46_siftUpComparable 6 = .ok (.ifCond .le 41, 3) := dk_158 0 41 (dk_at dksJ46_siftUpComparable_0 6 rfl rfl)
theorem dJ46_siftUpComparable_9 : decode cJ46_siftUpComparable 9 = .ok (.iload_n 0, 1) := dk_26 (dk_at dksJ46_siftUpComparable_0 9 rfl rfl)
theorem dJ46_siftUpComparable_10 : decode cJ46_siftUpComparable 10 = .ok (.iconst 1, 1) := dk_4 (dk_at dksJ46_siftUpComparable_0 10 rfl rfl)
theorem dJ46_siftUpComparable_11 : decode cJ46_siftUpComparable 11 = .ok (.isub, 1) := dk_100 (dk_at dksJ46_siftUpComparable_0 11 rfl rfl)
theorem dJ46_siftUpComparable_12 : decode cJ46_siftUpComparable 12 = .ok (.iconst 1, 1) := dk_4 (dk_at dksJ46_siftUpComparable_0 12 rfl rfl)
theorem dJ46_siftUpComparable_13 : decode cJ46_siftUpComparable 13 = .ok (.iushr, 1) := dk_124 (dk_at dksJ46_siftUpComparable_0 13 rfl rfl)
theorem dJ46_siftUpComparable_14 : decode cJ46_siftUpComparable 14 = .ok (.istore 4, 2) := dk_54 4 (dk_at dksJ46_siftUpComparable_0 14 rfl rfl)
theorem dJ46_siftUpComparable_16 : decode cJ46_siftUpComparable 16 = .ok (.aload_n 2, 1) := dk_44 (dk_at dksJ46_siftUpComparable_0 16 rfl rfl)
theorem dJ46_siftUpComparable_17 : decode cJ46_siftUpComparable 17 = .ok (.iload 4, 2) := dk_21 4 (dk_at dksJ46_siftUpComparable_0 17 rfl rfl)
theorem dJ46_siftUpComparable_19 : decode cJ46_siftUpComparable 19 = .ok (.aaload, 1) := dk_50 (dk_at dksJ46_siftUpComparable_0 19 rfl rfl)
theorem dJ46_siftUpComparable_20 : decode cJ46_siftUpComparable 20 = .ok (.astore 5, 2) := dk_58 5 (dk_at dksJ46_siftUpComparable_0 20 rfl rfl)
theorem dJ46_siftUpComparable_22 : decode cJ46_siftUpComparable 22 = .ok (.aload_n 3, 1) := dk_45 (dk_at dksJ46_siftUpComparable_0 22 rfl rfl)
theorem dJ46_siftUpComparable_23 : decode cJ46_siftUpComparable 23 = .ok (.aload 5, 2) := dk_25 5 (dk_at dksJ46_siftUpComparable_1 0 rfl rfl)
theorem dJ46_siftUpComparable_25 : decode cJ46_siftUpComparable 25 = .ok (.invokeinterface 146 2, 5) := by decide +kernel
theorem dJ46_siftUpComparable_30 : decode cJ46_siftUpComparable 30 = .ok (.ifCond .lt 6, 3) := dk_155 0 6 (dk_at dksJ46_siftUpComparable_1 7 rfl rfl)
theorem dJ46_siftUpComparable_33 : decode cJ46_siftUpComparable 33 = .ok (.goto 14, 3) := dk_167 0 14 (dk_at dksJ46_siftUpComparable_1 10 rfl rfl)
theorem dJ46_siftUpComparable_36 : decode cJ46_siftUpComparable 36 = .ok (.aload_n 2, 1) := dk_44 (dk_at dksJ46_siftUpComparable_1 13 rfl rfl)
theorem dJ46_siftUpComparable_37 : decode cJ46_siftUpComparable 37 = .ok (.iload_n 0, 1) := dk_26 (dk_at dksJ46_siftUpComparable_1 14 rfl rfl)
theorem dJ46_siftUpComparable_38 : decode cJ46_siftUpComparable 38 = .ok (.aload 5, 2) := dk_25 5 (dk_at dksJ46_siftUpComparable_1 15 rfl rfl)
theorem dJ46_siftUpComparable_40 : decode cJ46_siftUpComparable 40 = .ok (.aastore, 1) := dk_83 (dk_at dksJ46_siftUpComparable_1 17 rfl rfl)
theorem dJ46_siftUpComparable_41 : decode cJ46_siftUpComparable 41 = .ok (.iload 4, 2) := dk_21 4 (dk_at dksJ46_siftUpComparable_1 18 rfl rfl)
theorem dJ46_siftUpComparable_43 : decode cJ46_siftUpComparable 43 = .ok (.istore_n 0, 1) := dk_59 (dk_at dksJ46_siftUpComparable_1 20 rfl rfl)
theorem dJ46_siftUpComparable_44 : decode cJ46_siftUpComparable 44 = .ok (.goto (-39), 3) := dk_167 255 217 (dk_at dksJ46_siftUpComparable_1 21 rfl rfl)
theorem dJ46_siftUpComparable_47 : decode cJ46_siftUpComparable 47 = .ok (.aload_n 2, 1) := dk_44 (dk_at dksJ46_siftUpComparable_2 0 rfl rfl)
theorem dJ46_siftUpComparable_48 : decode cJ46_siftUpComparable 48 = .ok (.iload_n 0, 1) := dk_26 (dk_at dksJ46_siftUpComparable_2 1 rfl rfl)
theorem dJ46_siftUpComparable_49 : decode cJ46_siftUpComparable 49 = .ok (.aload_n 3, 1) := dk_45 (dk_at dksJ46_siftUpComparable_2 2 rfl rfl)
theorem dJ46_siftUpComparable_50 : decode cJ46_siftUpComparable 50 = .ok (.aastore, 1) := dk_83 (dk_at dksJ46_siftUpComparable_2 3 rfl rfl)
theorem dJ46_siftUpComparable_51 : decode cJ46_siftUpComparable 51 = .ok (.return_, 1) := dk_177 (dk_at dksJ46_siftUpComparable_2 4 rfl rfl)
abbrev cJ46_size : ByteArray := prog_80_method_23_code
def yJ46_size : MethodName := ⟨RJ46, "size", "()I"⟩
theorem dJ46_size_0 : decode cJ46_size 0 = .ok (.aload_n 0, 1) := by decide +kernel
theorem dJ46_size_1 : decode cJ46_size 1 = .ok (.getfield 58, 3) := by decide +kernel
theorem dJ46_size_4 : decode cJ46_size 4 = .ok (.ireturn, 1) := by decide +kernel
abbrev cJ46_poll : ByteArray := prog_80_method_25_code
def yJ46_poll : MethodName := ⟨RJ46, "poll", "()Ljava/lang/Object;"⟩
def dkwJ46_poll_3 : List UInt8 := [43, 29, 25, 5, 184, 0, 129, 44, 176]
abbrev dktJ46_poll_3 : List UInt8 := dkwJ46_poll_3 ++ []
def dkwJ46_poll_2 : List UInt8 := [42, 180, 0, 21, 89, 58, 5, 199, 0, 14, 3, 25, 4, 43, 29, 184, 0, 125, 167, 0, 13, 3, 25, 4]
abbrev dktJ46_poll_2 : List UInt8 := dkwJ46_poll_2 ++ dktJ46_poll_3
def dkwJ46_poll_1 : List UInt8 := [42, 89, 180, 0, 58, 4, 100, 90, 181, 0, 58, 89, 62, 50, 58, 4, 43, 29, 1, 83, 29, 158, 0, 34]
abbrev dktJ46_poll_1 : List UInt8 := dkwJ46_poll_1 ++ dktJ46_poll_2
def dkwJ46_poll_0 : List UInt8 := [42, 180, 0, 17, 89, 76, 3, 50, 89, 77, 198, 0, 69, 42, 89, 180, 0, 93, 4, 96, 181, 0, 93, 43]
abbrev dktJ46_poll_0 : List UInt8 := dkwJ46_poll_0 ++ dktJ46_poll_1
theorem dksJ46_poll_0 : cJ46_poll.data.toList.drop 0 = dktJ46_poll_0 := by decide +kernel
theorem dksJ46_poll_1 : cJ46_poll.data.toList.drop 24 = dktJ46_poll_1 := dk_seg dksJ46_poll_0 24 rfl rfl
theorem dksJ46_poll_2 : cJ46_poll.data.toList.drop 48 = dktJ46_poll_2 := dk_seg dksJ46_poll_1 24 rfl rfl
theorem dksJ46_poll_3 : cJ46_poll.data.toList.drop 72 = dktJ46_poll_3 := dk_seg dksJ46_poll_2 24 rfl rfl
theorem dJ46_poll_0 : decode cJ46_poll 0 = .ok (.aload_n 0, 1) := dk_42 (dk_at dksJ46_poll_0 0 rfl rfl)
theorem dJ46_poll_1 : decode cJ46_poll 1 = .ok (.getfield 17, 3) := dk_180 0 17 (dk_at dksJ46_poll_0 1 rfl rfl)
theorem dJ46_poll_4 : decode cJ46_poll 4 = .ok (.dup, 1) := dk_89 (dk_at dksJ46_poll_0 4 rfl rfl)
theorem dJ46_poll_5 : decode cJ46_poll 5 = .ok (.astore_n 1, 1) := dk_76 (dk_at dksJ46_poll_0 5 rfl rfl)
theorem dJ46_poll_6 : decode cJ46_poll 6 = .ok (.iconst 0, 1) := dk_3 (dk_at dksJ46_poll_0 6 rfl rfl)
theorem dJ46_poll_7 : decode cJ46_poll 7 = .ok (.aaload, 1) := dk_50 (dk_at dksJ46_poll_0 7 rfl rfl)
theorem dJ46_poll_8 : decode cJ46_poll 8 = .ok (.dup, 1) := dk_89 (dk_at dksJ46_poll_0 8 rfl rfl)
theorem dJ46_poll_9 : decode cJ46_poll 9 = .ok (.astore_n 2, 1) := dk_77 (dk_at dksJ46_poll_0 9 rfl rfl)
theorem dJ46_poll_10 : decode cJ46_poll 10 = .ok (.ifnull 69, 3) := dk_198 0 69 (dk_at dksJ46_poll_0 10 rfl rfl)
theorem dJ46_poll_13 : decode cJ46_poll 13 = .ok (.aload_n 0, 1) := dk_42 (dk_at dksJ46_poll_0 13 rfl rfl)
theorem dJ46_poll_14 : decode cJ46_poll 14 = .ok (.dup, 1) := dk_89 (dk_at dksJ46_poll_0 14 rfl rfl)
theorem dJ46_poll_15 : decode cJ46_poll 15 = .ok (.getfield 93, 3) := dk_180 0 93 (dk_at dksJ46_poll_0 15 rfl rfl)
theorem dJ46_poll_18 : decode cJ46_poll 18 = .ok (.iconst 1, 1) := dk_4 (dk_at dksJ46_poll_0 18 rfl rfl)
theorem dJ46_poll_19 : decode cJ46_poll 19 = .ok (.iadd, 1) := dk_96 (dk_at dksJ46_poll_0 19 rfl rfl)
theorem dJ46_poll_20 : decode cJ46_poll 20 = .ok (.putfield 93, 3) := dk_181 0 93 (dk_at dksJ46_poll_0 20 rfl rfl)
theorem dJ46_poll_23 : decode cJ46_poll 23 = .ok (.aload_n 1, 1) := dk_43 (dk_at dksJ46_poll_0 23 rfl rfl)
theorem dJ46_poll_24 : decode cJ46_poll 24 = .ok (.aload_n 0, 1) := dk_42 (dk_at dksJ46_poll_1 0 rfl rfl)
theorem dJ46_poll_25 : decode cJ46_poll 25 = .ok (.dup, 1) := dk_89 (dk_at dksJ46_poll_1 1 rfl rfl)
theorem dJ46_poll_26 : decode cJ46_poll 26 = .ok (.getfield 58, 3) := dk_180 0 58 (dk_at dksJ46_poll_1 2 rfl rfl)
theorem dJ46_poll_29 : decode cJ46_poll 29 = .ok (.iconst 1, 1) := dk_4 (dk_at dksJ46_poll_1 5 rfl rfl)
theorem dJ46_poll_30 : decode cJ46_poll 30 = .ok (.isub, 1) := dk_100 (dk_at dksJ46_poll_1 6 rfl rfl)
theorem dJ46_poll_31 : decode cJ46_poll 31 = .ok (.dup_x1, 1) := dk_90 (dk_at dksJ46_poll_1 7 rfl rfl)
theorem dJ46_poll_32 : decode cJ46_poll 32 = .ok (.putfield 58, 3) := dk_181 0 58 (dk_at dksJ46_poll_1 8 rfl rfl)
theorem dJ46_poll_35 : decode cJ46_poll 35 = .ok (.dup, 1) := dk_89 (dk_at dksJ46_poll_1 11 rfl rfl)
theorem dJ46_poll_36 : decode cJ46_poll 36 = .ok (.istore_n 3, 1) := dk_62 (dk_at dksJ46_poll_1 12 rfl rfl)
theorem dJ46_poll_37 : decode cJ46_poll 37 = .ok (.aaload, 1) := dk_50 (dk_at dksJ46_poll_1 13 rfl rfl)
theorem dJ46_poll_38 : decode cJ46_poll 38 = .ok (.astore 4, 2) := dk_58 4 (dk_at dksJ46_poll_1 14 rfl rfl)
theorem dJ46_poll_40 : decode cJ46_poll 40 = .ok (.aload_n 1, 1) := dk_43 (dk_at dksJ46_poll_1 16 rfl rfl)
theorem dJ46_poll_41 : decode cJ46_poll 41 = .ok (.iload_n 3, 1) := dk_29 (dk_at dksJ46_poll_1 17 rfl rfl)
theorem dJ46_poll_42 : decode cJ46_poll 42 = .ok (.aconst_null, 1) := dk_1 (dk_at dksJ46_poll_1 18 rfl rfl)
theorem dJ46_poll_43 : decode cJ46_poll 43 = .ok (.aastore, 1) := dk_83 (dk_at dksJ46_poll_1 19 rfl rfl)
theorem dJ46_poll_44 : decode cJ46_poll 44 = .ok (.iload_n 3, 1) := dk_29 (dk_at dksJ46_poll_1 20 rfl rfl)
theorem dJ46_poll_45 : decode cJ46_poll 45 = .ok (.ifCond .le 34, 3) := dk_158 0 34 (dk_at dksJ46_poll_1 21 rfl rfl)
theorem dJ46_poll_48 : decode cJ46_poll 48 = .ok (.aload_n 0, 1) := dk_42 (dk_at dksJ46_poll_2 0 rfl rfl)
theorem dJ46_poll_49 : decode cJ46_poll 49 = .ok (.getfield 21, 3) := dk_180 0 21 (dk_at dksJ46_poll_2 1 rfl rfl)
theorem dJ46_poll_52 : decode cJ46_poll 52 = .ok (.dup, 1) := dk_89 (dk_at dksJ46_poll_2 4 rfl rfl)
theorem dJ46_poll_53 : decode cJ46_poll 53 = .ok (.astore 5, 2) := dk_58 5 (dk_at dksJ46_poll_2 5 rfl rfl)
theorem dJ46_poll_55 : decode cJ46_poll 55 = .ok (.ifnonnull 14, 3) := dk_199 0 14 (dk_at dksJ46_poll_2 7 rfl rfl)
theorem dJ46_poll_58 : decode cJ46_poll 58 = .ok (.iconst 0, 1) := dk_3 (dk_at dksJ46_poll_2 10 rfl rfl)
theorem dJ46_poll_59 : decode cJ46_poll 59 = .ok (.aload 4, 2) := dk_25 4 (dk_at dksJ46_poll_2 11 rfl rfl)
theorem dJ46_poll_61 : decode cJ46_poll 61 = .ok (.aload_n 1, 1) := dk_43 (dk_at dksJ46_poll_2 13 rfl rfl)
theorem dJ46_poll_62 : decode cJ46_poll 62 = .ok (.iload_n 3, 1) := dk_29 (dk_at dksJ46_poll_2 14 rfl rfl)
theorem dJ46_poll_63 : decode cJ46_poll 63 = .ok (.invokestatic 125, 3) := dk_184 0 125 (dk_at dksJ46_poll_2 15 rfl rfl)
theorem dJ46_poll_66 : decode cJ46_poll 66 = .ok (.goto 13, 3) := dk_167 0 13 (dk_at dksJ46_poll_2 18 rfl rfl)
theorem dJ46_poll_69 : decode cJ46_poll 69 = .ok (.iconst 0, 1) := dk_3 (dk_at dksJ46_poll_2 21 rfl rfl)
theorem dJ46_poll_70 : decode cJ46_poll 70 = .ok (.aload 4, 2) := dk_25 4 (dk_at dksJ46_poll_2 22 rfl rfl)
theorem dJ46_poll_72 : decode cJ46_poll 72 = .ok (.aload_n 1, 1) := dk_43 (dk_at dksJ46_poll_3 0 rfl rfl)
theorem dJ46_poll_73 : decode cJ46_poll 73 = .ok (.iload_n 3, 1) := dk_29 (dk_at dksJ46_poll_3 1 rfl rfl)
theorem dJ46_poll_74 : decode cJ46_poll 74 = .ok (.aload 5, 2) := dk_25 5 (dk_at dksJ46_poll_3 2 rfl rfl)
theorem dJ46_poll_76 : decode cJ46_poll 76 = .ok (.invokestatic 129, 3) := dk_184 0 129 (dk_at dksJ46_poll_3 4 rfl rfl)
theorem dJ46_poll_79 : decode cJ46_poll 79 = .ok (.aload_n 2, 1) := dk_44 (dk_at dksJ46_poll_3 7 rfl rfl)
theorem dJ46_poll_80 : decode cJ46_poll 80 = .ok (.areturn, 1) := dk_176 (dk_at dksJ46_poll_3 8 rfl rfl)
abbrev cJ46_siftDownComparable : ByteArray := prog_80_method_31_code
def yJ46_siftDownComparable : MethodName := ⟨RJ46, "siftDownComparable", "(ILjava/lang/Object;[Ljava/lang/Object;I)V"⟩
def dkwJ46_siftDownComparable_4 : List UInt8 := [25, 4, 83, 177]
abbrev dktJ46_siftDownComparable_4 : List UInt8 := dkwJ46_siftDownComparable_4 ++ []
def dkwJ46_siftDownComparable_3 : List UInt8 := [185, 0, 146, 2, 0, 157, 0, 6, 167, 0, 14, 44, 26, 25, 7, 83, 21, 6, 59, 167, 255, 176, 44, 26]
abbrev dktJ46_siftDownComparable_3 : List UInt8 := dkwJ46_siftDownComparable_3 ++ dktJ46_siftDownComparable_4
def dkwJ46_siftDownComparable_2 : List UInt8 := [21, 8, 50, 185, 0, 146, 2, 0, 158, 0, 12, 44, 21, 8, 89, 54, 6, 50, 58, 7, 25, 4, 25, 7]
abbrev dktJ46_siftDownComparable_2 : List UInt8 := dkwJ46_siftDownComparable_2 ++ dktJ46_siftDownComparable_3
def dkwJ46_siftDownComparable_1 : List UInt8 := [44, 21, 6, 50, 58, 7, 21, 6, 4, 96, 54, 8, 21, 8, 29, 162, 0, 29, 25, 7, 192, 0, 144, 44]
abbrev dktJ46_siftDownComparable_1 : List UInt8 := dkwJ46_siftDownComparable_1 ++ dktJ46_siftDownComparable_2
def dkwJ46_siftDownComparable_0 : List UInt8 := [43, 192, 0, 144, 58, 4, 29, 4, 124, 54, 5, 26, 21, 5, 162, 0, 80, 26, 4, 120, 4, 96, 54, 6]
abbrev dktJ46_siftDownComparable_0 : List UInt8 := dkwJ46_siftDownComparable_0 ++ dktJ46_siftDownComparable_1
theorem dksJ46_siftDownComparable_0 : cJ46_siftDownComparable.data.toList.drop 0 = dktJ46_siftDownComparable_0 := by decide +kernel
theorem dksJ46_siftDownComparable_1 : cJ46_siftDownComparable.data.toList.drop 24 = dktJ46_siftDownComparable_1 := dk_seg dksJ46_siftDownComparable_0 24 rfl rfl
theorem dksJ46_siftDownComparable_2 : cJ46_siftDownComparable.data.toList.drop 48 = dktJ46_siftDownComparable_2 := dk_seg dksJ46_siftDownComparable_1 24 rfl rfl
theorem dksJ46_siftDownComparable_3 : cJ46_siftDownComparable.data.toList.drop 72 = dktJ46_siftDownComparable_3 := dk_seg dksJ46_siftDownComparable_2 24 rfl rfl
theorem dksJ46_siftDownComparable_4 : cJ46_siftDownComparable.data.toList.drop 96 = dktJ46_siftDownComparable_4 := dk_seg dksJ46_siftDownComparable_3 24 rfl rfl
theorem dJ46_siftDownComparable_0 : decode cJ46_siftDownComparable 0 = .ok (.aload_n 1, 1) := dk_43 (dk_at dksJ46_siftDownComparable_0 0 rfl rfl)
theorem dJ46_siftDownComparable_1 : decode cJ46_siftDownComparable 1 = .ok (.checkcast 144, 3) := dk_192 0 144 (dk_at dksJ46_siftDownComparable_0 1 rfl rfl)
theorem dJ46_siftDownComparable_4 : decode cJ46_siftDownComparable 4 = .ok (.astore 4, 2) := dk_58 4 (dk_at dksJ46_siftDownComparable_0 4 rfl rfl)
theorem dJ46_siftDownComparable_6 : decode cJ46_siftDownComparable 6 = .ok (.iload_n 3, 1) := dk_29 (dk_at dksJ46_siftDownComparable_0 6 rfl rfl)
theorem dJ46_siftDownComparable_7 : decode cJ46_siftDownComparable 7 = .ok (.iconst 1, 1) := dk_4 (dk_at dksJ46_siftDownComparable_0 7 rfl rfl)
theorem dJ46_siftDownComparable_8 : decode cJ46_siftDownComparable 8 = .ok (.iushr, 1) := dk_124 (dk_at dksJ46_siftDownComparable_0 8 rfl rfl)
theorem dJ46_siftDownComparable_9 : decode cJ46_siftDownComparable 9 = .ok (.istore 5, 2) := dk_54 5 (dk_at dksJ46_siftDownComparable_0 9 rfl rfl)
theorem dJ46_siftDownComparable_11 : decode cJ46_siftDownComparable 11 = .ok (.iload_n 0, 1) := dk_26 (dk_at dksJ46_siftDownComparable_0 11 rfl rfl)
theorem dJ46_siftDownComparable_12 : decode cJ46_siftDownComparable 12 = .ok (.iload 5, 2) := dk_21 5 (dk_at dksJ46_siftDownComparable_0 12 rfl rfl)
theorem dJ46_siftDownComparable_14 : decode cJ46_siftDownComparable 14 = .ok (.if_icmp .ge 80, 3) := dk_162 0 80 (dk_at dksJ46_siftDownComparable_0 14 rfl rfl)
theorem dJ46_siftDownComparable_17 : decode cJ46_siftDownComparable 17 = .ok (.iload_n 0, 1) := dk_26 (dk_at dksJ46_siftDownComparable_0 17 rfl rfl)
theorem dJ46_siftDownComparable_18 : decode cJ46_siftDownComparable 18 = .ok (.iconst 1, 1) := dk_4 (dk_at dksJ46_siftDownComparable_0 18 rfl rfl)
theorem dJ46_siftDownComparable_19 : decode cJ46_siftDownComparable 19 = .ok (.ishl, 1) := dk_120 (dk_at dksJ46_siftDownComparable_0 19 rfl rfl)
theorem dJ46_siftDownComparable_20 : decode cJ46_siftDownComparable 20 = .ok (.iconst 1, 1) := dk_4 (dk_at dksJ46_siftDownComparable_0 20 rfl rfl)
theorem dJ46_siftDownComparable_21 : decode cJ46_siftDownComparable 21 = .ok (.iadd, 1) := dk_96 (dk_at dksJ46_siftDownComparable_0 21 rfl rfl)
theorem dJ46_siftDownComparable_22 : decode cJ46_siftDownComparable 22 = .ok (.istore 6, 2) := dk_54 6 (dk_at dksJ46_siftDownComparable_0 22 rfl rfl)
theorem dJ46_siftDownComparable_24 : decode cJ46_siftDownComparable 24 = .ok (.aload_n 2, 1) := dk_44 (dk_at dksJ46_siftDownComparable_1 0 rfl rfl)
theorem dJ46_siftDownComparable_25 : decode cJ46_siftDownComparable 25 = .ok (.iload 6, 2) := dk_21 6 (dk_at dksJ46_siftDownComparable_1 1 rfl rfl)
theorem dJ46_siftDownComparable_27 : decode cJ46_siftDownComparable 27 = .ok (.aaload, 1) := dk_50 (dk_at dksJ46_siftDownComparable_1 3 rfl rfl)
theorem dJ46_siftDownComparable_28 : decode cJ46_siftDownComparable 28 = .ok (.astore 7, 2) := dk_58 7 (dk_at dksJ46_siftDownComparable_1 4 rfl rfl)
theorem dJ46_siftDownComparable_30 : decode cJ46_siftDownComparable 30 = .ok (.iload 6, 2) := dk_21 6 (dk_at dksJ46_siftDownComparable_1 6 rfl rfl)
theorem dJ46_siftDownComparable_32 : decode cJ46_siftDownComparable 32 = .ok (.iconst 1, 1) := dk_4 (dk_at dksJ46_siftDownComparable_1 8 rfl rfl)
theorem dJ46_siftDownComparable_33 : decode cJ46_siftDownComparable 33 = .ok (.iadd, 1) := dk_96 (dk_at dksJ46_siftDownComparable_1 9 rfl rfl)
theorem dJ46_siftDownComparable_34 : decode cJ46_siftDownComparable 34 = .ok (.istore 8, 2) := dk_54 8 (dk_at dksJ46_siftDownComparable_1 10 rfl rfl)
theorem dJ46_siftDownComparable_36 : decode cJ46_siftDownComparable 36 = .ok (.iload 8, 2) := dk_21 8 (dk_at dksJ46_siftDownComparable_1 12 rfl rfl)
theorem dJ46_siftDownComparable_38 : decode cJ46_siftDownComparable 38 = .ok (.iload_n 3, 1) := dk_29 (dk_at dksJ46_siftDownComparable_1 14 rfl rfl)
theorem dJ46_siftDownComparable_39 : decode cJ46_siftDownComparable 39 = .ok (.if_icmp .ge 29, 3) := dk_162 0 29 (dk_at dksJ46_siftDownComparable_1 15 rfl rfl)
theorem dJ46_siftDownComparable_42 : decode cJ46_siftDownComparable 42 = .ok (.aload 7, 2) := dk_25 7 (dk_at dksJ46_siftDownComparable_1 18 rfl rfl)
theorem dJ46_siftDownComparable_44 : decode cJ46_siftDownComparable 44 = .ok (.checkcast 144, 3) := dk_192 0 144 (dk_at dksJ46_siftDownComparable_1 20 rfl rfl)
theorem dJ46_siftDownComparable_47 : decode cJ46_siftDownComparable 47 = .ok (.aload_n 2, 1) := dk_44 (dk_at dksJ46_siftDownComparable_1 23 rfl rfl)
theorem dJ46_siftDownComparable_48 : decode cJ46_siftDownComparable 48 = .ok (.iload 8, 2) := dk_21 8 (dk_at dksJ46_siftDownComparable_2 0 rfl rfl)
theorem dJ46_siftDownComparable_50 : decode cJ46_siftDownComparable 50 = .ok (.aaload, 1) := dk_50 (dk_at dksJ46_siftDownComparable_2 2 rfl rfl)
theorem dJ46_siftDownComparable_51 : decode cJ46_siftDownComparable 51 = .ok (.invokeinterface 146 2, 5) := by decide +kernel
theorem dJ46_siftDownComparable_56 : decode cJ46_siftDownComparable 56 = .ok (.ifCond .le 12, 3) := dk_158 0 12 (dk_at dksJ46_siftDownComparable_2 8 rfl rfl)
theorem dJ46_siftDownComparable_59 : decode cJ46_siftDownComparable 59 = .ok (.aload_n 2, 1) := dk_44 (dk_at dksJ46_siftDownComparable_2 11 rfl rfl)
theorem dJ46_siftDownComparable_60 : decode cJ46_siftDownComparable 60 = .ok (.iload 8, 2) := dk_21 8 (dk_at dksJ46_siftDownComparable_2 12 rfl rfl)
theorem dJ46_siftDownComparable_62 : decode cJ46_siftDownComparable 62 = .ok (.dup, 1) := dk_89 (dk_at dksJ46_siftDownComparable_2 14 rfl rfl)
theorem dJ46_siftDownComparable_63 : decode cJ46_siftDownComparable 63 = .ok (.istore 6, 2) := dk_54 6 (dk_at dksJ46_siftDownComparable_2 15 rfl rfl)
theorem dJ46_siftDownComparable_65 : decode cJ46_siftDownComparable 65 = .ok (.aaload, 1) := dk_50 (dk_at dksJ46_siftDownComparable_2 17 rfl rfl)
theorem dJ46_siftDownComparable_66 : decode cJ46_siftDownComparable 66 = .ok (.astore 7, 2) := dk_58 7 (dk_at dksJ46_siftDownComparable_2 18 rfl rfl)
theorem dJ46_siftDownComparable_68 : decode cJ46_siftDownComparable 68 = .ok (.aload 4, 2) := dk_25 4 (dk_at dksJ46_siftDownComparable_2 20 rfl rfl)
theorem dJ46_siftDownComparable_70 : decode cJ46_siftDownComparable 70 = .ok (.aload 7, 2) := dk_25 7 (dk_at dksJ46_siftDownComparable_2 22 rfl rfl)
theorem dJ46_siftDownComparable_72 : decode cJ46_siftDownComparable 72 = .ok (.invokeinterface 146 2, 5) := by decide +kernel
theorem dJ46_siftDownComparable_77 : decode cJ46_siftDownComparable 77 = .ok (.ifCond .gt 6, 3) := dk_157 0 6 (dk_at dksJ46_siftDownComparable_3 5 rfl rfl)
theorem dJ46_siftDownComparable_80 : decode cJ46_siftDownComparable 80 = .ok (.goto 14, 3) := dk_167 0 14 (dk_at dksJ46_siftDownComparable_3 8 rfl rfl)
theorem dJ46_siftDownComparable_83 : decode cJ46_siftDownComparable 83 = .ok (.aload_n 2, 1) := dk_44 (dk_at dksJ46_siftDownComparable_3 11 rfl rfl)
theorem dJ46_siftDownComparable_84 : decode cJ46_siftDownComparable 84 = .ok (.iload_n 0, 1) := dk_26 (dk_at dksJ46_siftDownComparable_3 12 rfl rfl)
theorem dJ46_siftDownComparable_85 : decode cJ46_siftDownComparable 85 = .ok (.aload 7, 2) := dk_25 7 (dk_at dksJ46_siftDownComparable_3 13 rfl rfl)
theorem dJ46_siftDownComparable_87 : decode cJ46_siftDownComparable 87 = .ok (.aastore, 1) := dk_83 (dk_at dksJ46_siftDownComparable_3 15 rfl rfl)
theorem dJ46_siftDownComparable_88 : decode cJ46_siftDownComparable 88 = .ok (.iload 6, 2) := dk_21 6 (dk_at dksJ46_siftDownComparable_3 16 rfl rfl)
theorem dJ46_siftDownComparable_90 : decode cJ46_siftDownComparable 90 = .ok (.istore_n 0, 1) := dk_59 (dk_at dksJ46_siftDownComparable_3 18 rfl rfl)
theorem dJ46_siftDownComparable_91 : decode cJ46_siftDownComparable 91 = .ok (.goto (-80), 3) := dk_167 255 176 (dk_at dksJ46_siftDownComparable_3 19 rfl rfl)
theorem dJ46_siftDownComparable_94 : decode cJ46_siftDownComparable 94 = .ok (.aload_n 2, 1) := dk_44 (dk_at dksJ46_siftDownComparable_3 22 rfl rfl)
theorem dJ46_siftDownComparable_95 : decode cJ46_siftDownComparable 95 = .ok (.iload_n 0, 1) := dk_26 (dk_at dksJ46_siftDownComparable_3 23 rfl rfl)
theorem dJ46_siftDownComparable_96 : decode cJ46_siftDownComparable 96 = .ok (.aload 4, 2) := dk_25 4 (dk_at dksJ46_siftDownComparable_4 0 rfl rfl)
theorem dJ46_siftDownComparable_98 : decode cJ46_siftDownComparable 98 = .ok (.aastore, 1) := dk_83 (dk_at dksJ46_siftDownComparable_4 2 rfl rfl)
theorem dJ46_siftDownComparable_99 : decode cJ46_siftDownComparable 99 = .ok (.return_, 1) := dk_177 (dk_at dksJ46_siftDownComparable_4 3 rfl rfl)
abbrev cJ46_siftDownUsingComparator : ByteArray := prog_80_method_32_code
def yJ46_siftDownUsingComparator : MethodName := ⟨RJ46, "siftDownUsingComparator", "(ILjava/lang/Object;[Ljava/lang/Object;ILjava/util/Comparator;)V"⟩
def dkwJ46_siftDownUsingComparator_4 : List UInt8 := [43, 83, 177]
abbrev dktJ46_siftDownUsingComparator_4 : List UInt8 := dkwJ46_siftDownUsingComparator_4 ++ []
def dkwJ46_siftDownUsingComparator_3 : List UInt8 := [185, 0, 149, 3, 0, 157, 0, 6, 167, 0, 14, 44, 26, 25, 7, 83, 21, 6, 59, 167, 255, 176, 44, 26]
abbrev dktJ46_siftDownUsingComparator_3 : List UInt8 := dkwJ46_siftDownUsingComparator_3 ++ dktJ46_siftDownUsingComparator_4
def dkwJ46_siftDownUsingComparator_2 : List UInt8 := [185, 0, 149, 3, 0, 158, 0, 12, 44, 21, 8, 89, 54, 6, 50, 58, 7, 25, 4, 43, 25, 7]
abbrev dktJ46_siftDownUsingComparator_2 : List UInt8 := dkwJ46_siftDownUsingComparator_2 ++ dktJ46_siftDownUsingComparator_3
def dkwJ46_siftDownUsingComparator_1 : List UInt8 := [21, 6, 4, 96, 54, 8, 21, 8, 29, 162, 0, 28, 25, 4, 25, 7, 44, 21, 8, 50]
abbrev dktJ46_siftDownUsingComparator_1 : List UInt8 := dkwJ46_siftDownUsingComparator_1 ++ dktJ46_siftDownUsingComparator_2
def dkwJ46_siftDownUsingComparator_0 : List UInt8 := [29, 4, 124, 54, 5, 26, 21, 5, 162, 0, 80, 26, 4, 120, 4, 96, 54, 6, 44, 21, 6, 50, 58, 7]
abbrev dktJ46_siftDownUsingComparator_0 : List UInt8 := dkwJ46_siftDownUsingComparator_0 ++ dktJ46_siftDownUsingComparator_1
theorem dksJ46_siftDownUsingComparator_0 : cJ46_siftDownUsingComparator.data.toList.drop 0 = dktJ46_siftDownUsingComparator_0 := by decide +kernel
theorem dksJ46_siftDownUsingComparator_1 : cJ46_siftDownUsingComparator.data.toList.drop 24 = dktJ46_siftDownUsingComparator_1 := dk_seg dksJ46_siftDownUsingComparator_0 24 rfl rfl
theorem dksJ46_siftDownUsingComparator_2 : cJ46_siftDownUsingComparator.data.toList.drop 44 = dktJ46_siftDownUsingComparator_2 := dk_seg dksJ46_siftDownUsingComparator_1 20 rfl rfl
theorem dksJ46_siftDownUsingComparator_3 : cJ46_siftDownUsingComparator.data.toList.drop 66 = dktJ46_siftDownUsingComparator_3 := dk_seg dksJ46_siftDownUsingComparator_2 22 rfl rfl
theorem dksJ46_siftDownUsingComparator_4 : cJ46_siftDownUsingComparator.data.toList.drop 90 = dktJ46_siftDownUsingComparator_4 := dk_seg dksJ46_siftDownUsingComparator_3 24 rfl rfl
theorem dJ46_siftDownUsingComparator_0 : decode cJ46_siftDownUsingComparator 0 = .ok (.iload_n 3, 1) := dk_29 (dk_at dksJ46_siftDownUsingComparator_0 0 rfl rfl)
theorem dJ46_siftDownUsingComparator_1 : decode cJ46_siftDownUsingComparator 1 = .ok (.iconst 1, 1) := dk_4 (dk_at dksJ46_siftDownUsingComparator_0 1 rfl rfl)
theorem dJ46_siftDownUsingComparator_2 : decode cJ46_siftDownUsingComparator 2 = .ok (.iushr, 1) := dk_124 (dk_at dksJ46_siftDownUsingComparator_0 2 rfl rfl)
theorem dJ46_siftDownUsingComparator_3 : decode cJ46_siftDownUsingComparator 3 = .ok (.istore 5, 2) := dk_54 5 (dk_at dksJ46_siftDownUsingComparator_0 3 rfl rfl)
theorem dJ46_siftDownUsingComparator_5 : decode cJ46_siftDownUsingComparator 5 = .ok (.iload_n 0, 1) := dk_26 (dk_at dksJ46_siftDownUsingComparator_0 5 rfl rfl)
theorem dJ46_siftDownUsingComparator_6 : decode cJ46_siftDownUsingComparator 6 = .ok (.iload 5, 2) := dk_21 5 (dk_at dksJ46_siftDownUsingComparator_0 6 rfl rfl)
theorem dJ46_siftDownUsingComparator_8 : decode cJ46_siftDownUsingComparator 8 = .ok (.if_icmp .ge 80, 3) := dk_162 0 80 (dk_at dksJ46_siftDownUsingComparator_0 8 rfl rfl)
theorem dJ46_siftDownUsingComparator_11 : decode cJ46_siftDownUsingComparator 11 = .ok (.iload_n 0, 1) := dk_26 (dk_at dksJ46_siftDownUsingComparator_0 11 rfl rfl)
theorem dJ46_siftDownUsingComparator_12 : decode cJ46_siftDownUsingComparator 12 = .ok (.iconst 1, 1) := dk_4 (dk_at dksJ46_siftDownUsingComparator_0 12 rfl rfl)
theorem dJ46_siftDownUsingComparator_13 : decode cJ46_siftDownUsingComparator 13 = .ok (.ishl, 1) := dk_120 (dk_at dksJ46_siftDownUsingComparator_0 13 rfl rfl)
theorem dJ46_siftDownUsingComparator_14 : decode cJ46_siftDownUsingComparator 14 = .ok (.iconst 1, 1) := dk_4 (dk_at dksJ46_siftDownUsingComparator_0 14 rfl rfl)
theorem dJ46_siftDownUsingComparator_15 : decode cJ46_siftDownUsingComparator 15 = .ok (.iadd, 1) := dk_96 (dk_at dksJ46_siftDownUsingComparator_0 15 rfl rfl)
theorem dJ46_siftDownUsingComparator_16 : decode cJ46_siftDownUsingComparator 16 = .ok (.istore 6, 2) := dk_54 6 (dk_at dksJ46_siftDownUsingComparator_0 16 rfl rfl)
theorem dJ46_siftDownUsingComparator_18 : decode cJ46_siftDownUsingComparator 18 = .ok (.aload_n 2, 1) := dk_44 (dk_at dksJ46_siftDownUsingComparator_0 18 rfl rfl)
theorem dJ46_siftDownUsingComparator_19 : decode cJ46_siftDownUsingComparator 19 = .ok (.iload 6, 2) := dk_21 6 (dk_at dksJ46_siftDownUsingComparator_0 19 rfl rfl)
theorem dJ46_siftDownUsingComparator_21 : decode cJ46_siftDownUsingComparator 21 = .ok (.aaload, 1) := dk_50 (dk_at dksJ46_siftDownUsingComparator_0 21 rfl rfl)
theorem dJ46_siftDownUsingComparator_22 : decode cJ46_siftDownUsingComparator 22 = .ok (.astore 7, 2) := dk_58 7 (dk_at dksJ46_siftDownUsingComparator_0 22 rfl rfl)
theorem dJ46_siftDownUsingComparator_24 : decode cJ46_siftDownUsingComparator 24 = .ok (.iload 6, 2) := dk_21 6 (dk_at dksJ46_siftDownUsingComparator_1 0 rfl rfl)
theorem dJ46_siftDownUsingComparator_26 : decode cJ46_siftDownUsingComparator 26 = .ok (.iconst 1, 1) := dk_4 (dk_at dksJ46_siftDownUsingComparator_1 2 rfl rfl)
theorem dJ46_siftDownUsingComparator_27 : decode cJ46_siftDownUsingComparator 27 = .ok (.iadd, 1) := dk_96 (dk_at dksJ46_siftDownUsingComparator_1 3 rfl rfl)
theorem dJ46_siftDownUsingComparator_28 : decode cJ46_siftDownUsingComparator 28 = .ok (.istore 8, 2) := dk_54 8 (dk_at dksJ46_siftDownUsingComparator_1 4 rfl rfl)
theorem dJ46_siftDownUsingComparator_30 : decode cJ46_siftDownUsingComparator 30 = .ok (.iload 8, 2) := dk_21 8 (dk_at dksJ46_siftDownUsingComparator_1 6 rfl rfl)
theorem dJ46_siftDownUsingComparator_32 : decode cJ46_siftDownUsingComparator 32 = .ok (.iload_n 3, 1) := dk_29 (dk_at dksJ46_siftDownUsingComparator_1 8 rfl rfl)
theorem dJ46_siftDownUsingComparator_33 : decode cJ46_siftDownUsingComparator 33 = .ok (.if_icmp .ge 28, 3) := dk_162 0 28 (dk_at dksJ46_siftDownUsingComparator_1 9 rfl rfl)
theorem dJ46_siftDownUsingComparator_36 : decode cJ46_siftDownUsingComparator 36 = .ok (.aload 4, 2) := dk_25 4 (dk_at dksJ46_siftDownUsingComparator_1 12 rfl rfl)
theorem dJ46_siftDownUsingComparator_38 : decode cJ46_siftDownUsingComparator 38 = .ok (.aload 7, 2) := dk_25 7 (dk_at dksJ46_siftDownUsingComparator_1 14 rfl rfl)
theorem dJ46_siftDownUsingComparator_40 : decode cJ46_siftDownUsingComparator 40 = .ok (.aload_n 2, 1) := dk_44 (dk_at dksJ46_siftDownUsingComparator_1 16 rfl rfl)
theorem dJ46_siftDownUsingComparator_41 : decode cJ46_siftDownUsingComparator 41 = .ok (.iload 8, 2) := dk_21 8 (dk_at dksJ46_siftDownUsingComparator_1 17 rfl rfl)
theorem dJ46_siftDownUsingComparator_43 : decode cJ46_siftDownUsingComparator 43 = .ok (.aaload, 1) := dk_50 (dk_at dksJ46_siftDownUsingComparator_1 19 rfl rfl)
theorem dJ46_siftDownUsingComparator_44 : decode cJ46_siftDownUsingComparator 44 = .ok (.invokeinterface 149 3, 5) := by decide +kernel
theorem dJ46_siftDownUsingComparator_49 : decode cJ46_siftDownUsingComparator 49 = .ok (.ifCond .le 12, 3) := dk_158 0 12 (dk_at dksJ46_siftDownUsingComparator_2 5 rfl rfl)
theorem dJ46_siftDownUsingComparator_52 : decode cJ46_siftDownUsingComparator 52 = .ok (.aload_n 2, 1) := dk_44 (dk_at dksJ46_siftDownUsingComparator_2 8 rfl rfl)
theorem dJ46_siftDownUsingComparator_53 : decode cJ46_siftDownUsingComparator 53 = .ok (.iload 8, 2) := dk_21 8 (dk_at dksJ46_siftDownUsingComparator_2 9 rfl rfl)
theorem dJ46_siftDownUsingComparator_55 : decode cJ46_siftDownUsingComparator 55 = .ok (.dup, 1) := dk_89 (dk_at dksJ46_siftDownUsingComparator_2 11 rfl rfl)
theorem dJ46_siftDownUsingComparator_56 : decode cJ46_siftDownUsingComparator 56 = .ok (.istore 6, 2) := dk_54 6 (dk_at dksJ46_siftDownUsingComparator_2 12 rfl rfl)
theorem dJ46_siftDownUsingComparator_58 : decode cJ46_siftDownUsingComparator 58 = .ok (.aaload, 1) := dk_50 (dk_at dksJ46_siftDownUsingComparator_2 14 rfl rfl)
theorem dJ46_siftDownUsingComparator_59 : decode cJ46_siftDownUsingComparator 59 = .ok (.astore 7, 2) := dk_58 7 (dk_at dksJ46_siftDownUsingComparator_2 15 rfl rfl)
theorem dJ46_siftDownUsingComparator_61 : decode cJ46_siftDownUsingComparator 61 = .ok (.aload 4, 2) := dk_25 4 (dk_at dksJ46_siftDownUsingComparator_2 17 rfl rfl)
theorem dJ46_siftDownUsingComparator_63 : decode cJ46_siftDownUsingComparator 63 = .ok (.aload_n 1, 1) := dk_43 (dk_at dksJ46_siftDownUsingComparator_2 19 rfl rfl)
theorem dJ46_siftDownUsingComparator_64 : decode cJ46_siftDownUsingComparator 64 = .ok (.aload 7, 2) := dk_25 7 (dk_at dksJ46_siftDownUsingComparator_2 20 rfl rfl)
theorem dJ46_siftDownUsingComparator_66 : decode cJ46_siftDownUsingComparator 66 = .ok (.invokeinterface 149 3, 5) := by decide +kernel
theorem dJ46_siftDownUsingComparator_71 : decode cJ46_siftDownUsingComparator 71 = .ok (.ifCond .gt 6, 3) := dk_157 0 6 (dk_at dksJ46_siftDownUsingComparator_3 5 rfl rfl)
theorem dJ46_siftDownUsingComparator_74 : decode cJ46_siftDownUsingComparator 74 = .ok (.goto 14, 3) := dk_167 0 14 (dk_at dksJ46_siftDownUsingComparator_3 8 rfl rfl)
theorem dJ46_siftDownUsingComparator_77 : decode cJ46_siftDownUsingComparator 77 = .ok (.aload_n 2, 1) := dk_44 (dk_at dksJ46_siftDownUsingComparator_3 11 rfl rfl)
theorem dJ46_siftDownUsingComparator_78 : decode cJ46_siftDownUsingComparator 78 = .ok (.iload_n 0, 1) := dk_26 (dk_at dksJ46_siftDownUsingComparator_3 12 rfl rfl)
theorem dJ46_siftDownUsingComparator_79 : decode cJ46_siftDownUsingComparator 79 = .ok (.aload 7, 2) := dk_25 7 (dk_at dksJ46_siftDownUsingComparator_3 13 rfl rfl)
theorem dJ46_siftDownUsingComparator_81 : decode cJ46_siftDownUsingComparator 81 = .ok (.aastore, 1) := dk_83 (dk_at dksJ46_siftDownUsingComparator_3 15 rfl rfl)
theorem dJ46_siftDownUsingComparator_82 : decode cJ46_siftDownUsingComparator 82 = .ok (.iload 6, 2) := dk_21 6 (dk_at dksJ46_siftDownUsingComparator_3 16 rfl rfl)
theorem dJ46_siftDownUsingComparator_84 : decode cJ46_siftDownUsingComparator 84 = .ok (.istore_n 0, 1) := dk_59 (dk_at dksJ46_siftDownUsingComparator_3 18 rfl rfl)
theorem dJ46_siftDownUsingComparator_85 : decode cJ46_siftDownUsingComparator 85 = .ok (.goto (-80), 3) := dk_167 255 176 (dk_at dksJ46_siftDownUsingComparator_3 19 rfl rfl)
theorem dJ46_siftDownUsingComparator_88 : decode cJ46_siftDownUsingComparator 88 = .ok (.aload_n 2, 1) := dk_44 (dk_at dksJ46_siftDownUsingComparator_3 22 rfl rfl)
theorem dJ46_siftDownUsingComparator_89 : decode cJ46_siftDownUsingComparator 89 = .ok (.iload_n 0, 1) := dk_26 (dk_at dksJ46_siftDownUsingComparator_3 23 rfl rfl)
theorem dJ46_siftDownUsingComparator_90 : decode cJ46_siftDownUsingComparator 90 = .ok (.aload_n 1, 1) := dk_43 (dk_at dksJ46_siftDownUsingComparator_4 0 rfl rfl)
theorem dJ46_siftDownUsingComparator_91 : decode cJ46_siftDownUsingComparator 91 = .ok (.aastore, 1) := dk_83 (dk_at dksJ46_siftDownUsingComparator_4 1 rfl rfl)
theorem dJ46_siftDownUsingComparator_92 : decode cJ46_siftDownUsingComparator 92 = .ok (.return_, 1) := dk_177 (dk_at dksJ46_siftDownUsingComparator_4 2 rfl rfl)
abbrev cJ46_iterator : ByteArray := prog_80_method_22_code
def yJ46_iterator : MethodName := ⟨RJ46, "iterator", "()Ljava/util/Iterator;"⟩
def dkwJ46_iterator_0 : List UInt8 := [187, 0, 121, 89, 42, 183, 0, 123, 176]
abbrev dktJ46_iterator_0 : List UInt8 := dkwJ46_iterator_0 ++ []
theorem dksJ46_iterator_0 : cJ46_iterator.data.toList.drop 0 = dktJ46_iterator_0 := by decide +kernel
theorem dJ46_iterator_0 : decode cJ46_iterator 0 = .ok (.new 121, 3) := dk_187 0 121 (dk_at dksJ46_iterator_0 0 rfl rfl)
theorem dJ46_iterator_3 : decode cJ46_iterator 3 = .ok (.dup, 1) := dk_89 (dk_at dksJ46_iterator_0 3 rfl rfl)
theorem dJ46_iterator_4 : decode cJ46_iterator 4 = .ok (.aload_n 0, 1) := dk_42 (dk_at dksJ46_iterator_0 4 rfl rfl)
theorem dJ46_iterator_5 : decode cJ46_iterator 5 = .ok (.invokespecial 123, 3) := dk_183 0 123 (dk_at dksJ46_iterator_0 5 rfl rfl)
theorem dJ46_iterator_8 : decode cJ46_iterator 8 = .ok (.areturn, 1) := dk_176 (dk_at dksJ46_iterator_0 8 rfl rfl)
abbrev cJ46_toArray : ByteArray := prog_80_method_20_code
def yJ46_toArray : MethodName := ⟨RJ46, "toArray", "()[Ljava/lang/Object;"⟩
def dkwJ46_toArray_0 : List UInt8 := [42, 180, 0, 17, 42, 180, 0, 58, 184, 0, 86, 176]
abbrev dktJ46_toArray_0 : List UInt8 := dkwJ46_toArray_0 ++ []
theorem dksJ46_toArray_0 : cJ46_toArray.data.toList.drop 0 = dktJ46_toArray_0 := by decide +kernel
theorem dJ46_toArray_0 : decode cJ46_toArray 0 = .ok (.aload_n 0, 1) := dk_42 (dk_at dksJ46_toArray_0 0 rfl rfl)
theorem dJ46_toArray_1 : decode cJ46_toArray 1 = .ok (.getfield 17, 3) := dk_180 0 17 (dk_at dksJ46_toArray_0 1 rfl rfl)
theorem dJ46_toArray_4 : decode cJ46_toArray 4 = .ok (.aload_n 0, 1) := dk_42 (dk_at dksJ46_toArray_0 4 rfl rfl)
theorem dJ46_toArray_5 : decode cJ46_toArray 5 = .ok (.getfield 58, 3) := dk_180 0 58 (dk_at dksJ46_toArray_0 5 rfl rfl)
theorem dJ46_toArray_8 : decode cJ46_toArray 8 = .ok (.invokestatic 86, 3) := dk_184 0 86 (dk_at dksJ46_toArray_0 8 rfl rfl)
theorem dJ46_toArray_11 : decode cJ46_toArray 11 = .ok (.areturn, 1) := dk_176 (dk_at dksJ46_toArray_0 11 rfl rfl)
theorem q165 : (Jvm.Cond.initialized "java/util/PriorityQueue") ∈ lw_all := lw_g (lw_at lw_m1 65 rfl) rfl
theorem q1026 : (Jvm.Cond.selects "java/util/PriorityQueue" ({ cls := "java/lang/Object", name := "getClass", desc := "()Ljava/lang/Class;" } : Jvm.MethodName) ({ cls := "java/lang/Object", name := "getClass", desc := "()Ljava/lang/Class;" } : Jvm.MethodName)) ∈ lw_all := lw_g (lw_at lw_m4 206 rfl) rfl
theorem q1285 : (Jvm.Cond.instantiable "java/util/PriorityQueue" (4 : Nat)) ∈ lw_all := lw_g (lw_at lw_m5 225 rfl) rfl
theorem q1287 : (Jvm.Cond.instanceMethod ({ cls := "java/util/PriorityQueue", name := "<init>", desc := "()V" } : Jvm.MethodName)) ∈ lw_all := lw_g (lw_at lw_m5 227 rfl) rfl
theorem q1288 : (Jvm.Cond.code ({ cls := "java/util/PriorityQueue", name := "<init>", desc := "()V" } : Jvm.MethodName) prog_80_method_1_code (1 : Nat) (Option.none : Option Jvm.ClassFile.FieldType)) ∈ lw_all := lw_g (lw_at lw_m5 228 rfl) rfl
theorem q1289 : (Jvm.Cond.methodLink "java/util/PriorityQueue" (3 : Nat) ({ cls := "java/util/PriorityQueue", name := "<init>", desc := "(ILjava/util/Comparator;)V" } : Jvm.MethodName)) ∈ lw_all := lw_g (lw_at lw_m5 229 rfl) rfl
theorem q1290 : (Jvm.Cond.instanceMethod ({ cls := "java/util/PriorityQueue", name := "<init>", desc := "(ILjava/util/Comparator;)V" } : Jvm.MethodName)) ∈ lw_all := lw_g (lw_at lw_m5 230 rfl) rfl
theorem q1291 : (Jvm.Cond.code ({ cls := "java/util/PriorityQueue", name := "<init>", desc := "(ILjava/util/Comparator;)V" } : Jvm.MethodName) prog_80_method_4_code (3 : Nat) (Option.none : Option Jvm.ClassFile.FieldType)) ∈ lw_all := lw_g (lw_at lw_m5 231 rfl) rfl
theorem q1292 : (Jvm.Cond.methodLink "java/util/PriorityQueue" (7 : Nat) ({ cls := "java/util/AbstractQueue", name := "<init>", desc := "()V" } : Jvm.MethodName)) ∈ lw_all := lw_g (lw_at lw_m5 232 rfl) rfl
theorem q1296 : (Jvm.Cond.classLink "java/util/PriorityQueue" (12 : Nat) "java/lang/IllegalArgumentException") ∈ lw_all := lw_g (lw_at lw_m5 236 rfl) rfl
theorem q1297 : (Jvm.Cond.methodLink "java/util/PriorityQueue" (14 : Nat) ({ cls := "java/lang/IllegalArgumentException", name := "<init>", desc := "()V" } : Jvm.MethodName)) ∈ lw_all := lw_g (lw_at lw_m5 237 rfl) rfl
theorem q1301 : (Jvm.Cond.classLink "java/util/PriorityQueue" (15 : Nat) "java/lang/Object") ∈ lw_all := lw_g (lw_at lw_m6 1 rfl) rfl
theorem q1303 : (Jvm.Cond.fieldLink "java/util/PriorityQueue" (17 : Nat) "java/util/PriorityQueue" "queue" "[Ljava/lang/Object;") ∈ lw_all := lw_g (lw_at lw_m6 3 rfl) rfl
theorem q1305 : (Jvm.Cond.fieldLink "java/util/PriorityQueue" (58 : Nat) "java/util/PriorityQueue" "size" "I") ∈ lw_all := lw_g (lw_at lw_m6 5 rfl) rfl
theorem q1306 : (Jvm.Cond.fieldLink "java/util/PriorityQueue" (21 : Nat) "java/util/PriorityQueue" "comparator" "Ljava/util/Comparator;") ∈ lw_all := lw_g (lw_at lw_m6 6 rfl) rfl
theorem q1308 : (Jvm.Cond.fieldLink "java/util/PriorityQueue" (93 : Nat) "java/util/PriorityQueue" "modCount" "I") ∈ lw_all := lw_g (lw_at lw_m6 8 rfl) rfl
theorem q1309 : (Jvm.Cond.lays "java/util/PriorityQueue" "java/util/PriorityQueue" "queue" "[Ljava/lang/Object;") ∈ lw_all := lw_g (lw_at lw_m6 9 rfl) rfl
theorem q1310 : (Jvm.Cond.soleField "java/util/PriorityQueue" "queue") ∈ lw_all := lw_g (lw_at lw_m6 10 rfl) rfl
theorem q1311 : (Jvm.Cond.lays "java/util/PriorityQueue" "java/util/PriorityQueue" "size" "I") ∈ lw_all := lw_g (lw_at lw_m6 11 rfl) rfl
theorem q1312 : (Jvm.Cond.soleField "java/util/PriorityQueue" "size") ∈ lw_all := lw_g (lw_at lw_m6 12 rfl) rfl
theorem q1313 : (Jvm.Cond.laysFinal "java/util/PriorityQueue" "java/util/PriorityQueue" "comparator" "Ljava/util/Comparator;") ∈ lw_all := lw_g (lw_at lw_m6 13 rfl) rfl
theorem q1314 : (Jvm.Cond.soleField "java/util/PriorityQueue" "comparator") ∈ lw_all := lw_g (lw_at lw_m6 14 rfl) rfl
theorem q1315 : (Jvm.Cond.lays "java/util/PriorityQueue" "java/util/PriorityQueue" "modCount" "I") ∈ lw_all := lw_g (lw_at lw_m6 15 rfl) rfl
theorem q1316 : (Jvm.Cond.soleField "java/util/PriorityQueue" "modCount") ∈ lw_all := lw_g (lw_at lw_m6 16 rfl) rfl
theorem q1317 : (Jvm.Cond.superclass "java/util/PriorityQueue" "java/util/AbstractQueue") ∈ lw_all := lw_g (lw_at lw_m6 17 rfl) rfl
theorem q1491 : (Jvm.Cond.instanceMethod ({ cls := "java/util/PriorityQueue", name := "add", desc := "(Ljava/lang/Object;)Z" } : Jvm.MethodName)) ∈ lw_all := lw_g (lw_at lw_m6 191 rfl) rfl
theorem q1492 : (Jvm.Cond.selects "java/util/PriorityQueue" ({ cls := "java/util/PriorityQueue", name := "add", desc := "(Ljava/lang/Object;)Z" } : Jvm.MethodName) ({ cls := "java/util/PriorityQueue", name := "add", desc := "(Ljava/lang/Object;)Z" } : Jvm.MethodName)) ∈ lw_all := lw_g (lw_at lw_m6 192 rfl) rfl
theorem q1493 : (Jvm.Cond.code ({ cls := "java/util/PriorityQueue", name := "add", desc := "(Ljava/lang/Object;)Z" } : Jvm.MethodName) prog_80_method_13_code (2 : Nat) (Option.some Jvm.ClassFile.FieldType.boolean)) ∈ lw_all := lw_g (lw_at lw_m6 193 rfl) rfl
theorem q1494 : (Jvm.Cond.methodLink "java/util/PriorityQueue" (89 : Nat) ({ cls := "java/util/PriorityQueue", name := "offer", desc := "(Ljava/lang/Object;)Z" } : Jvm.MethodName)) ∈ lw_all := lw_g (lw_at lw_m6 194 rfl) rfl
theorem q1495 : (Jvm.Cond.instanceMethod ({ cls := "java/util/PriorityQueue", name := "offer", desc := "(Ljava/lang/Object;)Z" } : Jvm.MethodName)) ∈ lw_all := lw_g (lw_at lw_m6 195 rfl) rfl
theorem q1496 : (Jvm.Cond.selects "java/util/PriorityQueue" ({ cls := "java/util/PriorityQueue", name := "offer", desc := "(Ljava/lang/Object;)Z" } : Jvm.MethodName) ({ cls := "java/util/PriorityQueue", name := "offer", desc := "(Ljava/lang/Object;)Z" } : Jvm.MethodName)) ∈ lw_all := lw_g (lw_at lw_m6 196 rfl) rfl
theorem q1497 : (Jvm.Cond.code ({ cls := "java/util/PriorityQueue", name := "offer", desc := "(Ljava/lang/Object;)Z" } : Jvm.MethodName) prog_80_method_14_code (3 : Nat) (Option.some Jvm.ClassFile.FieldType.boolean)) ∈ lw_all := lw_g (lw_at lw_m6 197 rfl) rfl
theorem q1498 : (Jvm.Cond.methodLink "java/util/PriorityQueue" (96 : Nat) ({ cls := "java/util/PriorityQueue", name := "grow", desc := "(I)V" } : Jvm.MethodName)) ∈ lw_all := lw_g (lw_at lw_m6 198 rfl) rfl
theorem q1499 : (Jvm.Cond.privateMethod ({ cls := "java/util/PriorityQueue", name := "grow", desc := "(I)V" } : Jvm.MethodName)) ∈ lw_tbl := lw_at lw_m6 199 rfl
theorem q1500 : (Jvm.Cond.instanceMethod ({ cls := "java/util/PriorityQueue", name := "grow", desc := "(I)V" } : Jvm.MethodName)) ∈ lw_all := lw_g (lw_at lw_m6 200 rfl) rfl
theorem q1501 : (Jvm.Cond.code ({ cls := "java/util/PriorityQueue", name := "grow", desc := "(I)V" } : Jvm.MethodName) prog_80_method_12_code (4 : Nat) (Option.none : Option Jvm.ClassFile.FieldType)) ∈ lw_all := lw_g (lw_at lw_m6 201 rfl) rfl
theorem q1502 : (Jvm.Cond.methodLink "java/util/PriorityQueue" (80 : Nat) ({ cls := "jdk/internal/util/ArraysSupport", name := "newLength", desc := "(III)I" } : Jvm.MethodName)) ∈ lw_all := lw_g (lw_at lw_m6 202 rfl) rfl
theorem q1503 : (Jvm.Cond.methodLink "java/util/PriorityQueue" (86 : Nat) ({ cls := "java/util/Arrays", name := "copyOf", desc := "([Ljava/lang/Object;I)[Ljava/lang/Object;" } : Jvm.MethodName)) ∈ lw_all := lw_g (lw_at lw_m6 203 rfl) rfl
theorem q1504 : (Jvm.Cond.methodLink "java/util/PriorityQueue" (100 : Nat) ({ cls := "java/util/PriorityQueue", name := "siftUp", desc := "(ILjava/lang/Object;)V" } : Jvm.MethodName)) ∈ lw_all := lw_g (lw_at lw_m6 204 rfl) rfl
theorem q1505 : (Jvm.Cond.privateMethod ({ cls := "java/util/PriorityQueue", name := "siftUp", desc := "(ILjava/lang/Object;)V" } : Jvm.MethodName)) ∈ lw_tbl := lw_at lw_m6 205 rfl
theorem q1506 : (Jvm.Cond.instanceMethod ({ cls := "java/util/PriorityQueue", name := "siftUp", desc := "(ILjava/lang/Object;)V" } : Jvm.MethodName)) ∈ lw_all := lw_g (lw_at lw_m6 206 rfl) rfl
theorem q1507 : (Jvm.Cond.code ({ cls := "java/util/PriorityQueue", name := "siftUp", desc := "(ILjava/lang/Object;)V" } : Jvm.MethodName) prog_80_method_27_code (3 : Nat) (Option.none : Option Jvm.ClassFile.FieldType)) ∈ lw_all := lw_g (lw_at lw_m6 207 rfl) rfl
theorem q1508 : (Jvm.Cond.methodLink "java/util/PriorityQueue" (136 : Nat) ({ cls := "java/util/PriorityQueue", name := "siftUpUsingComparator", desc := "(ILjava/lang/Object;[Ljava/lang/Object;Ljava/util/Comparator;)V" } : Jvm.MethodName)) ∈ lw_all := lw_g (lw_at lw_m6 208 rfl) rfl
theorem q1509 : (Jvm.Cond.static ({ cls := "java/util/PriorityQueue", name := "siftUpUsingComparator", desc := "(ILjava/lang/Object;[Ljava/lang/Object;Ljava/util/Comparator;)V" } : Jvm.MethodName)) ∈ lw_all := lw_g (lw_at lw_m6 209 rfl) rfl
theorem q1510 : (Jvm.Cond.code ({ cls := "java/util/PriorityQueue", name := "siftUpUsingComparator", desc := "(ILjava/lang/Object;[Ljava/lang/Object;Ljava/util/Comparator;)V" } : Jvm.MethodName) prog_80_method_29_code (6 : Nat) (Option.none : Option Jvm.ClassFile.FieldType)) ∈ lw_all := lw_g (lw_at lw_m6 210 rfl) rfl
theorem q1511 : (Jvm.Cond.interfaceEntry "java/util/PriorityQueue" (149 : Nat)) ∈ lw_tbl := lw_at lw_m6 211 rfl
theorem q1512 : (Jvm.Cond.methodLink "java/util/PriorityQueue" (149 : Nat) ({ cls := "java/util/Comparator", name := "compare", desc := "(Ljava/lang/Object;Ljava/lang/Object;)I" } : Jvm.MethodName)) ∈ lw_all := lw_g (lw_at lw_m6 212 rfl) rfl
theorem q1529 : (Jvm.Cond.methodLink "java/util/PriorityQueue" (140 : Nat) ({ cls := "java/util/PriorityQueue", name := "siftUpComparable", desc := "(ILjava/lang/Object;[Ljava/lang/Object;)V" } : Jvm.MethodName)) ∈ lw_all := lw_g (lw_at lw_m6 229 rfl) rfl
theorem q1530 : (Jvm.Cond.static ({ cls := "java/util/PriorityQueue", name := "siftUpComparable", desc := "(ILjava/lang/Object;[Ljava/lang/Object;)V" } : Jvm.MethodName)) ∈ lw_all := lw_g (lw_at lw_m6 230 rfl) rfl
theorem q1531 : (Jvm.Cond.code ({ cls := "java/util/PriorityQueue", name := "siftUpComparable", desc := "(ILjava/lang/Object;[Ljava/lang/Object;)V" } : Jvm.MethodName) prog_80_method_28_code (6 : Nat) (Option.none : Option Jvm.ClassFile.FieldType)) ∈ lw_all := lw_g (lw_at lw_m6 231 rfl) rfl
theorem q1532 : (Jvm.Cond.classLink "java/util/PriorityQueue" (144 : Nat) "java/lang/Comparable") ∈ lw_all := lw_g (lw_at lw_m6 232 rfl) rfl
theorem q1533 : (Jvm.Cond.interfaceEntry "java/util/PriorityQueue" (146 : Nat)) ∈ lw_tbl := lw_at lw_m6 233 rfl
theorem q1534 : (Jvm.Cond.methodLink "java/util/PriorityQueue" (146 : Nat) ({ cls := "java/lang/Comparable", name := "compareTo", desc := "(Ljava/lang/Object;)I" } : Jvm.MethodName)) ∈ lw_all := lw_g (lw_at lw_m6 234 rfl) rfl
theorem q1758 : (Jvm.Cond.sameMethod "java/util/PriorityQueue" "java/util/AbstractCollection" "isEmpty" "()Z") ∈ lw_all := lw_g (lw_at lw_m7 218 rfl) rfl
theorem q1760 : (Jvm.Cond.selects "java/util/PriorityQueue" ({ cls := "java/util/PriorityQueue", name := "isEmpty", desc := "()Z" } : Jvm.MethodName) ({ cls := "java/util/AbstractCollection", name := "isEmpty", desc := "()Z" } : Jvm.MethodName)) ∈ lw_all := lw_g (lw_at lw_m7 220 rfl) rfl
theorem q1764 : (Jvm.Cond.instanceMethod ({ cls := "java/util/PriorityQueue", name := "size", desc := "()I" } : Jvm.MethodName)) ∈ lw_all := lw_g (lw_at lw_m7 224 rfl) rfl
theorem q1765 : (Jvm.Cond.code ({ cls := "java/util/PriorityQueue", name := "size", desc := "()I" } : Jvm.MethodName) prog_80_method_23_code (1 : Nat) (Option.some Jvm.ClassFile.FieldType.int)) ∈ lw_all := lw_g (lw_at lw_m7 225 rfl) rfl
theorem q1782 : (Jvm.Cond.instanceMethod ({ cls := "java/util/PriorityQueue", name := "poll", desc := "()Ljava/lang/Object;" } : Jvm.MethodName)) ∈ lw_all := lw_g (lw_at lw_m8 2 rfl) rfl
theorem q1783 : (Jvm.Cond.selects "java/util/PriorityQueue" ({ cls := "java/util/PriorityQueue", name := "poll", desc := "()Ljava/lang/Object;" } : Jvm.MethodName) ({ cls := "java/util/PriorityQueue", name := "poll", desc := "()Ljava/lang/Object;" } : Jvm.MethodName)) ∈ lw_all := lw_g (lw_at lw_m8 3 rfl) rfl
theorem q1784 : (Jvm.Cond.code ({ cls := "java/util/PriorityQueue", name := "poll", desc := "()Ljava/lang/Object;" } : Jvm.MethodName) prog_80_method_25_code (6 : Nat) (Option.some (Jvm.ClassFile.FieldType.object "java/lang/Object"))) ∈ lw_all := lw_g (lw_at lw_m8 4 rfl) rfl
theorem q1785 : (Jvm.Cond.methodLink "java/util/PriorityQueue" (125 : Nat) ({ cls := "java/util/PriorityQueue", name := "siftDownComparable", desc := "(ILjava/lang/Object;[Ljava/lang/Object;I)V" } : Jvm.MethodName)) ∈ lw_all := lw_g (lw_at lw_m8 5 rfl) rfl
theorem q1786 : (Jvm.Cond.static ({ cls := "java/util/PriorityQueue", name := "siftDownComparable", desc := "(ILjava/lang/Object;[Ljava/lang/Object;I)V" } : Jvm.MethodName)) ∈ lw_all := lw_g (lw_at lw_m8 6 rfl) rfl
theorem q1787 : (Jvm.Cond.code ({ cls := "java/util/PriorityQueue", name := "siftDownComparable", desc := "(ILjava/lang/Object;[Ljava/lang/Object;I)V" } : Jvm.MethodName) prog_80_method_31_code (9 : Nat) (Option.none : Option Jvm.ClassFile.FieldType)) ∈ lw_all := lw_g (lw_at lw_m8 7 rfl) rfl
theorem q1788 : (Jvm.Cond.methodLink "java/util/PriorityQueue" (129 : Nat) ({ cls := "java/util/PriorityQueue", name := "siftDownUsingComparator", desc := "(ILjava/lang/Object;[Ljava/lang/Object;ILjava/util/Comparator;)V" } : Jvm.MethodName)) ∈ lw_all := lw_g (lw_at lw_m8 8 rfl) rfl
theorem q1789 : (Jvm.Cond.static ({ cls := "java/util/PriorityQueue", name := "siftDownUsingComparator", desc := "(ILjava/lang/Object;[Ljava/lang/Object;ILjava/util/Comparator;)V" } : Jvm.MethodName)) ∈ lw_all := lw_g (lw_at lw_m8 9 rfl) rfl
theorem q1790 : (Jvm.Cond.code ({ cls := "java/util/PriorityQueue", name := "siftDownUsingComparator", desc := "(ILjava/lang/Object;[Ljava/lang/Object;ILjava/util/Comparator;)V" } : Jvm.MethodName) prog_80_method_32_code (9 : Nat) (Option.none : Option Jvm.ClassFile.FieldType)) ∈ lw_all := lw_g (lw_at lw_m8 10 rfl) rfl
theorem q1901 : (Jvm.Cond.castable "java/util/PriorityQueue" "java/util/Collection") ∈ lw_tbl := lw_at lw_m8 121 rfl
theorem q1902 : (Jvm.Cond.selects "java/util/PriorityQueue" ({ cls := "java/util/Collection", name := "iterator", desc := "()Ljava/util/Iterator;" } : Jvm.MethodName) ({ cls := "java/util/PriorityQueue", name := "iterator", desc := "()Ljava/util/Iterator;" } : Jvm.MethodName)) ∈ lw_all := lw_g (lw_at lw_m8 122 rfl) rfl
theorem q1903 : (Jvm.Cond.unhidden "java/util/PriorityQueue" "iterator" "()Ljava/util/Iterator;") ∈ lw_tbl := lw_at lw_m8 123 rfl
theorem q1904 : (Jvm.Cond.instanceMethod ({ cls := "java/util/PriorityQueue", name := "iterator", desc := "()Ljava/util/Iterator;" } : Jvm.MethodName)) ∈ lw_all := lw_g (lw_at lw_m8 124 rfl) rfl
theorem q1905 : (Jvm.Cond.publicMethod ({ cls := "java/util/PriorityQueue", name := "iterator", desc := "()Ljava/util/Iterator;" } : Jvm.MethodName)) ∈ lw_tbl := lw_at lw_m8 125 rfl
theorem q1906 : (Jvm.Cond.code ({ cls := "java/util/PriorityQueue", name := "iterator", desc := "()Ljava/util/Iterator;" } : Jvm.MethodName) prog_80_method_22_code (1 : Nat) (Option.some (Jvm.ClassFile.FieldType.object "java/util/Iterator"))) ∈ lw_all := lw_g (lw_at lw_m8 126 rfl) rfl
theorem q1907 : (Jvm.Cond.classLink "java/util/PriorityQueue" (121 : Nat) "java/util/PriorityQueue$Itr") ∈ lw_all := lw_g (lw_at lw_m8 127 rfl) rfl
theorem q1909 : (Jvm.Cond.methodLink "java/util/PriorityQueue" (123 : Nat) ({ cls := "java/util/PriorityQueue$Itr", name := "<init>", desc := "(Ljava/util/PriorityQueue;)V" } : Jvm.MethodName)) ∈ lw_all := lw_g (lw_at lw_m8 129 rfl) rfl
theorem q3002 : (Jvm.Cond.selects "java/util/PriorityQueue" ({ cls := "java/util/Collection", name := "toArray", desc := "()[Ljava/lang/Object;" } : Jvm.MethodName) ({ cls := "java/util/PriorityQueue", name := "toArray", desc := "()[Ljava/lang/Object;" } : Jvm.MethodName)) ∈ lw_all := lw_g (lw_at lw_m13 22 rfl) rfl
theorem q3003 : (Jvm.Cond.unhidden "java/util/PriorityQueue" "toArray" "()[Ljava/lang/Object;") ∈ lw_tbl := lw_at lw_m13 23 rfl
theorem q3004 : (Jvm.Cond.instanceMethod ({ cls := "java/util/PriorityQueue", name := "toArray", desc := "()[Ljava/lang/Object;" } : Jvm.MethodName)) ∈ lw_all := lw_g (lw_at lw_m13 24 rfl) rfl
theorem q3005 : (Jvm.Cond.publicMethod ({ cls := "java/util/PriorityQueue", name := "toArray", desc := "()[Ljava/lang/Object;" } : Jvm.MethodName)) ∈ lw_tbl := lw_at lw_m13 25 rfl
theorem q3006 : (Jvm.Cond.code ({ cls := "java/util/PriorityQueue", name := "toArray", desc := "()[Ljava/lang/Object;" } : Jvm.MethodName) prog_80_method_20_code (1 : Nat) (Option.some (Jvm.ClassFile.FieldType.array (Jvm.ClassFile.FieldType.object "java/lang/Object")))) ∈ lw_all := lw_g (lw_at lw_m13 26 rfl) rfl
theorem q3018 : (Jvm.Cond.selects "java/util/PriorityQueue" ({ cls := "java/util/AbstractCollection", name := "iterator", desc := "()Ljava/util/Iterator;" } : Jvm.MethodName) ({ cls := "java/util/PriorityQueue", name := "iterator", desc := "()Ljava/util/Iterator;" } : Jvm.MethodName)) ∈ lw_all := lw_g (lw_at lw_m13 38 rfl) rfl
theorem q3042 : (Jvm.Cond.unhidden "java/util/PriorityQueue" "getClass" "()Ljava/lang/Class;") ∈ lw_tbl := lw_at lw_m13 62 rfl
theorem q4218 : (Jvm.Cond.selects "java/util/PriorityQueue" ({ cls := "java/util/AbstractCollection", name := "size", desc := "()I" } : Jvm.MethodName) ({ cls := "java/util/PriorityQueue", name := "size", desc := "()I" } : Jvm.MethodName)) ∈ lw_all := lw_g (lw_at lw_m18 38 rfl) rfl
theorem q4273 : (Jvm.Cond.castable "java/util/PriorityQueue" "java/lang/Object") ∈ lw_tbl := lw_at lw_m18 93 rfl
theorem in_J46 : ∀ w ∈ wsJ460, w ∈ lw_all := lw_in wsJ460 [1309, 1311, 1313, 1315] (by decide +kernel) (by decide +kernel)
/-! java/util/TreeSet -/
set_option maxRecDepth 100000
def RJ47 : String := "java/util/TreeSet"
def TJ47 : u_T := fun k => match k with
  | _ => ("java/util/TreeSet", "m", "Ljava/util/NavigableMap;", false)
def tyJ47 : Nat → FieldType := fun k => match k with
  | _ => .object "java/util/NavigableMap"
abbrev wsJ470 : List Cond := u_ws RJ47 TJ47 1
theorem nmJ47 : ∀ a, a < 1 → ∀ b, b < 1 → a ≠ b → (TJ47 a).2.1 ≠ (TJ47 b).2.1 := by decide +kernel
theorem tyJ47_ok : ∀ k, k < 1 → parseFieldDescriptor (TJ47 k).2.2.1 = some (tyJ47 k) := by decide +kernel
abbrev cJ47_size : ByteArray := prog_98_method_9_code
def yJ47_size : MethodName := ⟨RJ47, "size", "()I"⟩
def dkwJ47_size_0 : List UInt8 := [42, 180, 0, 7, 185, 0, 53, 1, 0, 172]
abbrev dktJ47_size_0 : List UInt8 := dkwJ47_size_0 ++ []
theorem dksJ47_size_0 : cJ47_size.data.toList.drop 0 = dktJ47_size_0 := by decide +kernel
theorem dJ47_size_0 : decode cJ47_size 0 = .ok (.aload_n 0, 1) := dk_42 (dk_at dksJ47_size_0 0 rfl rfl)
theorem dJ47_size_1 : decode cJ47_size 1 = .ok (.getfield 7, 3) := dk_180 0 7 (dk_at dksJ47_size_0 1 rfl rfl)
theorem dJ47_size_4 : decode cJ47_size 4 = .ok (.invokeinterface 53 1, 5) := by decide +kernel
theorem dJ47_size_9 : decode cJ47_size 9 = .ok (.ireturn, 1) := dk_172 (dk_at dksJ47_size_0 9 rfl rfl)
abbrev cJ47_iterator : ByteArray := prog_98_method_6_code
def yJ47_iterator : MethodName := ⟨RJ47, "iterator", "()Ljava/util/Iterator;"⟩
def dkwJ47_iterator_0 : List UInt8 := [42, 180, 0, 7, 185, 0, 34, 1, 0, 185, 0, 40, 1, 0, 176]
abbrev dktJ47_iterator_0 : List UInt8 := dkwJ47_iterator_0 ++ []
theorem dksJ47_iterator_0 : cJ47_iterator.data.toList.drop 0 = dktJ47_iterator_0 := by decide +kernel
theorem dJ47_iterator_0 : decode cJ47_iterator 0 = .ok (.aload_n 0, 1) := dk_42 (dk_at dksJ47_iterator_0 0 rfl rfl)
theorem dJ47_iterator_1 : decode cJ47_iterator 1 = .ok (.getfield 7, 3) := dk_180 0 7 (dk_at dksJ47_iterator_0 1 rfl rfl)
theorem dJ47_iterator_4 : decode cJ47_iterator 4 = .ok (.invokeinterface 34 1, 5) := by decide +kernel
theorem dJ47_iterator_9 : decode cJ47_iterator 9 = .ok (.invokeinterface 40 1, 5) := by decide +kernel
theorem dJ47_iterator_14 : decode cJ47_iterator 14 = .ok (.areturn, 1) := dk_176 (dk_at dksJ47_iterator_0 14 rfl rfl)
abbrev cJ47_init : ByteArray := prog_98_method_2_code
def yJ47_init : MethodName := ⟨RJ47, "<init>", "()V"⟩
def dkwJ47_init_0 : List UInt8 := [42, 187, 0, 13, 89, 183, 0, 15, 183, 0, 16, 177]
abbrev dktJ47_init_0 : List UInt8 := dkwJ47_init_0 ++ []
theorem dksJ47_init_0 : cJ47_init.data.toList.drop 0 = dktJ47_init_0 := by decide +kernel
theorem dJ47_init_0 : decode cJ47_init 0 = .ok (.aload_n 0, 1) := dk_42 (dk_at dksJ47_init_0 0 rfl rfl)
theorem dJ47_init_1 : decode cJ47_init 1 = .ok (.new 13, 3) := dk_187 0 13 (dk_at dksJ47_init_0 1 rfl rfl)
theorem dJ47_init_4 : decode cJ47_init 4 = .ok (.dup, 1) := dk_89 (dk_at dksJ47_init_0 4 rfl rfl)
theorem dJ47_init_5 : decode cJ47_init 5 = .ok (.invokespecial 15, 3) := dk_183 0 15 (dk_at dksJ47_init_0 5 rfl rfl)
theorem dJ47_init_8 : decode cJ47_init 8 = .ok (.invokespecial 16, 3) := dk_183 0 16 (dk_at dksJ47_init_0 8 rfl rfl)
theorem dJ47_init_11 : decode cJ47_init 11 = .ok (.return_, 1) := dk_177 (dk_at dksJ47_init_0 11 rfl rfl)
abbrev cJ47_init_2 : ByteArray := prog_98_method_1_code
def yJ47_init_2 : MethodName := ⟨RJ47, "<init>", "(Ljava/util/NavigableMap;)V"⟩
def dkwJ47_init_2_0 : List UInt8 := [42, 183, 0, 1, 42, 43, 181, 0, 7, 177]
abbrev dktJ47_init_2_0 : List UInt8 := dkwJ47_init_2_0 ++ []
theorem dksJ47_init_2_0 : cJ47_init_2.data.toList.drop 0 = dktJ47_init_2_0 := by decide +kernel
theorem dJ47_init_2_0 : decode cJ47_init_2 0 = .ok (.aload_n 0, 1) := dk_42 (dk_at dksJ47_init_2_0 0 rfl rfl)
theorem dJ47_init_2_1 : decode cJ47_init_2 1 = .ok (.invokespecial 1, 3) := dk_183 0 1 (dk_at dksJ47_init_2_0 1 rfl rfl)
theorem dJ47_init_2_4 : decode cJ47_init_2 4 = .ok (.aload_n 0, 1) := dk_42 (dk_at dksJ47_init_2_0 4 rfl rfl)
theorem dJ47_init_2_5 : decode cJ47_init_2 5 = .ok (.aload_n 1, 1) := dk_43 (dk_at dksJ47_init_2_0 5 rfl rfl)
theorem dJ47_init_2_6 : decode cJ47_init_2 6 = .ok (.putfield 7, 3) := dk_181 0 7 (dk_at dksJ47_init_2_0 6 rfl rfl)
theorem dJ47_init_2_9 : decode cJ47_init_2 9 = .ok (.return_, 1) := dk_177 (dk_at dksJ47_init_2_0 9 rfl rfl)
abbrev cJ47_add : ByteArray := prog_98_method_12_code
def yJ47_add : MethodName := ⟨RJ47, "add", "(Ljava/lang/Object;)Z"⟩
def dkwJ47_add_0 : List UInt8 := [42, 180, 0, 7, 43, 178, 0, 65, 185, 0, 69, 3, 0, 199, 0, 7, 4, 167, 0, 4, 3, 172]
abbrev dktJ47_add_0 : List UInt8 := dkwJ47_add_0 ++ []
theorem dksJ47_add_0 : cJ47_add.data.toList.drop 0 = dktJ47_add_0 := by decide +kernel
theorem dJ47_add_0 : decode cJ47_add 0 = .ok (.aload_n 0, 1) := dk_42 (dk_at dksJ47_add_0 0 rfl rfl)
theorem dJ47_add_1 : decode cJ47_add 1 = .ok (.getfield 7, 3) := dk_180 0 7 (dk_at dksJ47_add_0 1 rfl rfl)
theorem dJ47_add_4 : decode cJ47_add 4 = .ok (.aload_n 1, 1) := dk_43 (dk_at dksJ47_add_0 4 rfl rfl)
theorem dJ47_add_5 : decode cJ47_add 5 = .ok (.getstatic 65, 3) := dk_178 0 65 (dk_at dksJ47_add_0 5 rfl rfl)
theorem dJ47_add_8 : decode cJ47_add 8 = .ok (.invokeinterface 69 3, 5) := by decide +kernel
theorem dJ47_add_13 : decode cJ47_add 13 = .ok (.ifnonnull 7, 3) := dk_199 0 7 (dk_at dksJ47_add_0 13 rfl rfl)
theorem dJ47_add_16 : decode cJ47_add 16 = .ok (.iconst 1, 1) := dk_4 (dk_at dksJ47_add_0 16 rfl rfl)
theorem dJ47_add_17 : decode cJ47_add 17 = .ok (.goto 4, 3) := dk_167 0 4 (dk_at dksJ47_add_0 17 rfl rfl)
theorem dJ47_add_20 : decode cJ47_add 20 = .ok (.iconst 0, 1) := dk_3 (dk_at dksJ47_add_0 20 rfl rfl)
theorem dJ47_add_21 : decode cJ47_add 21 = .ok (.ireturn, 1) := dk_172 (dk_at dksJ47_add_0 21 rfl rfl)
abbrev cJ47_remove : ByteArray := prog_98_method_13_code
def yJ47_remove : MethodName := ⟨RJ47, "remove", "(Ljava/lang/Object;)Z"⟩
def dkwJ47_remove_0 : List UInt8 := [42, 180, 0, 7, 43, 185, 0, 73, 2, 0, 178, 0, 65, 166, 0, 7, 4, 167, 0, 4, 3, 172]
abbrev dktJ47_remove_0 : List UInt8 := dkwJ47_remove_0 ++ []
theorem dksJ47_remove_0 : cJ47_remove.data.toList.drop 0 = dktJ47_remove_0 := by decide +kernel
theorem dJ47_remove_0 : decode cJ47_remove 0 = .ok (.aload_n 0, 1) := dk_42 (dk_at dksJ47_remove_0 0 rfl rfl)
theorem dJ47_remove_1 : decode cJ47_remove 1 = .ok (.getfield 7, 3) := dk_180 0 7 (dk_at dksJ47_remove_0 1 rfl rfl)
theorem dJ47_remove_4 : decode cJ47_remove 4 = .ok (.aload_n 1, 1) := dk_43 (dk_at dksJ47_remove_0 4 rfl rfl)
theorem dJ47_remove_5 : decode cJ47_remove 5 = .ok (.invokeinterface 73 2, 5) := by decide +kernel
theorem dJ47_remove_10 : decode cJ47_remove 10 = .ok (.getstatic 65, 3) := dk_178 0 65 (dk_at dksJ47_remove_0 10 rfl rfl)
theorem dJ47_remove_13 : decode cJ47_remove 13 = .ok (.if_acmp .ne 7, 3) := dk_166 0 7 (dk_at dksJ47_remove_0 13 rfl rfl)
theorem dJ47_remove_16 : decode cJ47_remove 16 = .ok (.iconst 1, 1) := dk_4 (dk_at dksJ47_remove_0 16 rfl rfl)
theorem dJ47_remove_17 : decode cJ47_remove 17 = .ok (.goto 4, 3) := dk_167 0 4 (dk_at dksJ47_remove_0 17 rfl rfl)
theorem dJ47_remove_20 : decode cJ47_remove 20 = .ok (.iconst 0, 1) := dk_3 (dk_at dksJ47_remove_0 20 rfl rfl)
theorem dJ47_remove_21 : decode cJ47_remove 21 = .ok (.ireturn, 1) := dk_172 (dk_at dksJ47_remove_0 21 rfl rfl)
abbrev cJ47_first : ByteArray := prog_98_method_23_code
def yJ47_first : MethodName := ⟨RJ47, "first", "()Ljava/lang/Object;"⟩
def dkwJ47_first_0 : List UInt8 := [42, 180, 0, 7, 185, 0, 118, 1, 0, 176]
abbrev dktJ47_first_0 : List UInt8 := dkwJ47_first_0 ++ []
theorem dksJ47_first_0 : cJ47_first.data.toList.drop 0 = dktJ47_first_0 := by decide +kernel
theorem dJ47_first_0 : decode cJ47_first 0 = .ok (.aload_n 0, 1) := dk_42 (dk_at dksJ47_first_0 0 rfl rfl)
theorem dJ47_first_1 : decode cJ47_first 1 = .ok (.getfield 7, 3) := dk_180 0 7 (dk_at dksJ47_first_0 1 rfl rfl)
theorem dJ47_first_4 : decode cJ47_first 4 = .ok (.invokeinterface 118 1, 5) := by decide +kernel
theorem dJ47_first_9 : decode cJ47_first 9 = .ok (.areturn, 1) := dk_176 (dk_at dksJ47_first_0 9 rfl rfl)
theorem q167 : (Jvm.Cond.initialized "java/util/TreeSet") ∈ lw_all := lw_g (lw_at lw_m1 67 rfl) rfl
theorem q1034 : (Jvm.Cond.selects "java/util/TreeSet" ({ cls := "java/lang/Object", name := "getClass", desc := "()Ljava/lang/Class;" } : Jvm.MethodName) ({ cls := "java/lang/Object", name := "getClass", desc := "()Ljava/lang/Class;" } : Jvm.MethodName)) ∈ lw_all := lw_g (lw_at lw_m4 214 rfl) rfl
theorem q1778 : (Jvm.Cond.instanceMethod ({ cls := "java/util/TreeSet", name := "size", desc := "()I" } : Jvm.MethodName)) ∈ lw_all := lw_g (lw_at lw_m7 238 rfl) rfl
theorem q1779 : (Jvm.Cond.code ({ cls := "java/util/TreeSet", name := "size", desc := "()I" } : Jvm.MethodName) prog_98_method_9_code (1 : Nat) (Option.some Jvm.ClassFile.FieldType.int)) ∈ lw_all := lw_g (lw_at lw_m7 239 rfl) rfl
theorem q1780 : (Jvm.Cond.interfaceEntry "java/util/TreeSet" (53 : Nat)) ∈ lw_tbl := lw_at lw_m8 0 rfl
theorem q1991 : (Jvm.Cond.castable "java/util/TreeSet" "java/util/Collection") ∈ lw_tbl := lw_at lw_m8 211 rfl
theorem q1992 : (Jvm.Cond.selects "java/util/TreeSet" ({ cls := "java/util/Collection", name := "iterator", desc := "()Ljava/util/Iterator;" } : Jvm.MethodName) ({ cls := "java/util/TreeSet", name := "iterator", desc := "()Ljava/util/Iterator;" } : Jvm.MethodName)) ∈ lw_all := lw_g (lw_at lw_m8 212 rfl) rfl
theorem q1993 : (Jvm.Cond.unhidden "java/util/TreeSet" "iterator" "()Ljava/util/Iterator;") ∈ lw_tbl := lw_at lw_m8 213 rfl
theorem q1994 : (Jvm.Cond.instanceMethod ({ cls := "java/util/TreeSet", name := "iterator", desc := "()Ljava/util/Iterator;" } : Jvm.MethodName)) ∈ lw_all := lw_g (lw_at lw_m8 214 rfl) rfl
theorem q1995 : (Jvm.Cond.publicMethod ({ cls := "java/util/TreeSet", name := "iterator", desc := "()Ljava/util/Iterator;" } : Jvm.MethodName)) ∈ lw_tbl := lw_at lw_m8 215 rfl
theorem q1996 : (Jvm.Cond.code ({ cls := "java/util/TreeSet", name := "iterator", desc := "()Ljava/util/Iterator;" } : Jvm.MethodName) prog_98_method_6_code (1 : Nat) (Option.some (Jvm.ClassFile.FieldType.object "java/util/Iterator"))) ∈ lw_all := lw_g (lw_at lw_m8 216 rfl) rfl
theorem q1997 : (Jvm.Cond.interfaceEntry "java/util/TreeSet" (34 : Nat)) ∈ lw_tbl := lw_at lw_m8 217 rfl
theorem q1998 : (Jvm.Cond.methodLink "java/util/TreeSet" (34 : Nat) ({ cls := "java/util/NavigableMap", name := "navigableKeySet", desc := "()Ljava/util/NavigableSet;" } : Jvm.MethodName)) ∈ lw_all := lw_g (lw_at lw_m8 218 rfl) rfl
theorem q2019 : (Jvm.Cond.interfaceEntry "java/util/TreeSet" (40 : Nat)) ∈ lw_tbl := lw_at lw_m8 239 rfl
theorem q2020 : (Jvm.Cond.methodLink "java/util/TreeSet" (40 : Nat) ({ cls := "java/util/NavigableSet", name := "iterator", desc := "()Ljava/util/Iterator;" } : Jvm.MethodName)) ∈ lw_all := lw_g (lw_at lw_m9 0 rfl) rfl
theorem q2025 : (Jvm.Cond.castable "java/util/TreeSet" "java/util/NavigableSet") ∈ lw_tbl := lw_at lw_m9 5 rfl
theorem q2026 : (Jvm.Cond.selects "java/util/TreeSet" ({ cls := "java/util/NavigableSet", name := "iterator", desc := "()Ljava/util/Iterator;" } : Jvm.MethodName) ({ cls := "java/util/TreeSet", name := "iterator", desc := "()Ljava/util/Iterator;" } : Jvm.MethodName)) ∈ lw_all := lw_g (lw_at lw_m9 6 rfl) rfl
theorem q2056 : (Jvm.Cond.instantiable "java/util/TreeSet" (1 : Nat)) ∈ lw_all := lw_g (lw_at lw_m9 36 rfl) rfl
theorem q2058 : (Jvm.Cond.instanceMethod ({ cls := "java/util/TreeSet", name := "<init>", desc := "()V" } : Jvm.MethodName)) ∈ lw_all := lw_g (lw_at lw_m9 38 rfl) rfl
theorem q2059 : (Jvm.Cond.code ({ cls := "java/util/TreeSet", name := "<init>", desc := "()V" } : Jvm.MethodName) prog_98_method_2_code (1 : Nat) (Option.none : Option Jvm.ClassFile.FieldType)) ∈ lw_all := lw_g (lw_at lw_m9 39 rfl) rfl
theorem q2060 : (Jvm.Cond.classLink "java/util/TreeSet" (13 : Nat) "java/util/TreeMap") ∈ lw_all := lw_g (lw_at lw_m9 40 rfl) rfl
theorem q2061 : (Jvm.Cond.methodLink "java/util/TreeSet" (15 : Nat) ({ cls := "java/util/TreeMap", name := "<init>", desc := "()V" } : Jvm.MethodName)) ∈ lw_all := lw_g (lw_at lw_m9 41 rfl) rfl
theorem q2062 : (Jvm.Cond.methodLink "java/util/TreeSet" (16 : Nat) ({ cls := "java/util/TreeSet", name := "<init>", desc := "(Ljava/util/NavigableMap;)V" } : Jvm.MethodName)) ∈ lw_all := lw_g (lw_at lw_m9 42 rfl) rfl
theorem q2063 : (Jvm.Cond.instanceMethod ({ cls := "java/util/TreeSet", name := "<init>", desc := "(Ljava/util/NavigableMap;)V" } : Jvm.MethodName)) ∈ lw_all := lw_g (lw_at lw_m9 43 rfl) rfl
theorem q2064 : (Jvm.Cond.code ({ cls := "java/util/TreeSet", name := "<init>", desc := "(Ljava/util/NavigableMap;)V" } : Jvm.MethodName) prog_98_method_1_code (2 : Nat) (Option.none : Option Jvm.ClassFile.FieldType)) ∈ lw_all := lw_g (lw_at lw_m9 44 rfl) rfl
theorem q2065 : (Jvm.Cond.methodLink "java/util/TreeSet" (1 : Nat) ({ cls := "java/util/AbstractSet", name := "<init>", desc := "()V" } : Jvm.MethodName)) ∈ lw_all := lw_g (lw_at lw_m9 45 rfl) rfl
theorem q2066 : (Jvm.Cond.fieldLink "java/util/TreeSet" (7 : Nat) "java/util/TreeSet" "m" "Ljava/util/NavigableMap;") ∈ lw_all := lw_g (lw_at lw_m9 46 rfl) rfl
theorem q2067 : (Jvm.Cond.lays "java/util/TreeSet" "java/util/TreeSet" "m" "Ljava/util/NavigableMap;") ∈ lw_all := lw_g (lw_at lw_m9 47 rfl) rfl
theorem q2068 : (Jvm.Cond.soleField "java/util/TreeSet" "m") ∈ lw_all := lw_g (lw_at lw_m9 48 rfl) rfl
theorem q2069 : (Jvm.Cond.superclass "java/util/TreeSet" "java/util/AbstractSet") ∈ lw_all := lw_g (lw_at lw_m9 49 rfl) rfl
theorem q2090 : (Jvm.Cond.instanceMethod ({ cls := "java/util/TreeSet", name := "add", desc := "(Ljava/lang/Object;)Z" } : Jvm.MethodName)) ∈ lw_all := lw_g (lw_at lw_m9 70 rfl) rfl
theorem q2091 : (Jvm.Cond.selects "java/util/TreeSet" ({ cls := "java/util/TreeSet", name := "add", desc := "(Ljava/lang/Object;)Z" } : Jvm.MethodName) ({ cls := "java/util/TreeSet", name := "add", desc := "(Ljava/lang/Object;)Z" } : Jvm.MethodName)) ∈ lw_all := lw_g (lw_at lw_m9 71 rfl) rfl
theorem q2092 : (Jvm.Cond.code ({ cls := "java/util/TreeSet", name := "add", desc := "(Ljava/lang/Object;)Z" } : Jvm.MethodName) prog_98_method_12_code (2 : Nat) (Option.some Jvm.ClassFile.FieldType.boolean)) ∈ lw_all := lw_g (lw_at lw_m9 72 rfl) rfl
theorem q2093 : (Jvm.Cond.fieldLink "java/util/TreeSet" (65 : Nat) "java/util/TreeSet" "PRESENT" "Ljava/lang/Object;") ∈ lw_all := lw_g (lw_at lw_m9 73 rfl) rfl
theorem q2094 : (Jvm.Cond.laysStatic "java/util/TreeSet" "PRESENT" "Ljava/lang/Object;") ∈ lw_tbl := lw_at lw_m9 74 rfl
theorem q2095 : (Jvm.Cond.interfaceEntry "java/util/TreeSet" (69 : Nat)) ∈ lw_tbl := lw_at lw_m9 75 rfl
theorem q2186 : (Jvm.Cond.instanceMethod ({ cls := "java/util/TreeSet", name := "remove", desc := "(Ljava/lang/Object;)Z" } : Jvm.MethodName)) ∈ lw_all := lw_g (lw_at lw_m9 166 rfl) rfl
theorem q2187 : (Jvm.Cond.selects "java/util/TreeSet" ({ cls := "java/util/TreeSet", name := "remove", desc := "(Ljava/lang/Object;)Z" } : Jvm.MethodName) ({ cls := "java/util/TreeSet", name := "remove", desc := "(Ljava/lang/Object;)Z" } : Jvm.MethodName)) ∈ lw_all := lw_g (lw_at lw_m9 167 rfl) rfl
theorem q2188 : (Jvm.Cond.code ({ cls := "java/util/TreeSet", name := "remove", desc := "(Ljava/lang/Object;)Z" } : Jvm.MethodName) prog_98_method_13_code (2 : Nat) (Option.some Jvm.ClassFile.FieldType.boolean)) ∈ lw_all := lw_g (lw_at lw_m9 168 rfl) rfl
theorem q2189 : (Jvm.Cond.interfaceEntry "java/util/TreeSet" (73 : Nat)) ∈ lw_tbl := lw_at lw_m9 169 rfl
theorem q2215 : (Jvm.Cond.instanceMethod ({ cls := "java/util/TreeSet", name := "first", desc := "()Ljava/lang/Object;" } : Jvm.MethodName)) ∈ lw_all := lw_g (lw_at lw_m9 195 rfl) rfl
theorem q2216 : (Jvm.Cond.selects "java/util/TreeSet" ({ cls := "java/util/TreeSet", name := "first", desc := "()Ljava/lang/Object;" } : Jvm.MethodName) ({ cls := "java/util/TreeSet", name := "first", desc := "()Ljava/lang/Object;" } : Jvm.MethodName)) ∈ lw_all := lw_g (lw_at lw_m9 196 rfl) rfl
theorem q2217 : (Jvm.Cond.code ({ cls := "java/util/TreeSet", name := "first", desc := "()Ljava/lang/Object;" } : Jvm.MethodName) prog_98_method_23_code (1 : Nat) (Option.some (Jvm.ClassFile.FieldType.object "java/lang/Object"))) ∈ lw_all := lw_g (lw_at lw_m9 197 rfl) rfl
theorem q2218 : (Jvm.Cond.interfaceEntry "java/util/TreeSet" (118 : Nat)) ∈ lw_tbl := lw_at lw_m9 198 rfl
theorem q3021 : (Jvm.Cond.selects "java/util/TreeSet" ({ cls := "java/util/AbstractCollection", name := "iterator", desc := "()Ljava/util/Iterator;" } : Jvm.MethodName) ({ cls := "java/util/TreeSet", name := "iterator", desc := "()Ljava/util/Iterator;" } : Jvm.MethodName)) ∈ lw_all := lw_g (lw_at lw_m13 41 rfl) rfl
theorem q3033 : (Jvm.Cond.selects "java/util/TreeSet" ({ cls := "java/util/Collection", name := "toArray", desc := "()[Ljava/lang/Object;" } : Jvm.MethodName) ({ cls := "java/util/AbstractCollection", name := "toArray", desc := "()[Ljava/lang/Object;" } : Jvm.MethodName)) ∈ lw_all := lw_g (lw_at lw_m13 53 rfl) rfl
theorem q3034 : (Jvm.Cond.unhidden "java/util/TreeSet" "toArray" "()[Ljava/lang/Object;") ∈ lw_tbl := lw_at lw_m13 54 rfl
theorem q3045 : (Jvm.Cond.unhidden "java/util/TreeSet" "getClass" "()Ljava/lang/Class;") ∈ lw_tbl := lw_at lw_m13 65 rfl
theorem q4221 : (Jvm.Cond.selects "java/util/TreeSet" ({ cls := "java/util/AbstractCollection", name := "size", desc := "()I" } : Jvm.MethodName) ({ cls := "java/util/TreeSet", name := "size", desc := "()I" } : Jvm.MethodName)) ∈ lw_all := lw_g (lw_at lw_m18 41 rfl) rfl
theorem q4226 : (Jvm.Cond.selects "java/util/TreeSet" ({ cls := "java/util/TreeSet", name := "iterator", desc := "()Ljava/util/Iterator;" } : Jvm.MethodName) ({ cls := "java/util/TreeSet", name := "iterator", desc := "()Ljava/util/Iterator;" } : Jvm.MethodName)) ∈ lw_all := lw_g (lw_at lw_m18 46 rfl) rfl
theorem q4276 : (Jvm.Cond.castable "java/util/TreeSet" "java/lang/Object") ∈ lw_tbl := lw_at lw_m18 96 rfl
theorem in_J47 : ∀ w ∈ wsJ470, w ∈ lw_all := lw_in wsJ470 [2067] (by decide +kernel) (by decide +kernel)
/-! java/lang/ArithmeticException -/
set_option maxRecDepth 100000
def RJ48 : String := "java/lang/ArithmeticException"
def TJ48 : u_T := fun k => match k with
  | 0 => ("java/lang/Throwable", "backtrace", "Ljava/lang/Object;", false)
  | 1 => ("java/lang/Throwable", "detailMessage", "Ljava/lang/String;", false)
  | 2 => ("java/lang/Throwable", "cause", "Ljava/lang/Throwable;", false)
  | 3 => ("java/lang/Throwable", "stackTrace", "[Ljava/lang/StackTraceElement;", false)
  | 4 => ("java/lang/Throwable", "depth", "I", false)
  | _ => ("java/lang/Throwable", "suppressedExceptions", "Ljava/util/List;", false)
def tyJ48 : Nat → FieldType := fun k => match k with
  | 0 => .object "java/lang/Object"
  | 1 => .object "java/lang/String"
  | 2 => .object "java/lang/Throwable"
  | 3 => .array (.object "java/lang/StackTraceElement")
  | 4 => .int
  | _ => .object "java/util/List"
abbrev wsJ480 : List Cond := u_ws RJ48 TJ48 6
theorem nmJ48 : ∀ a, a < 6 → ∀ b, b < 6 → a ≠ b → (TJ48 a).2.1 ≠ (TJ48 b).2.1 := by decide +kernel
theorem tyJ48_ok : ∀ k, k < 6 → parseFieldDescriptor (TJ48 k).2.2.1 = some (tyJ48 k) := by decide +kernel
abbrev cJ48_init : ByteArray := prog_24_method_2_code
def yJ48_init : MethodName := ⟨RJ48, "<init>", "(Ljava/lang/String;)V"⟩
def dkwJ48_init_0 : List UInt8 := [42, 43, 183, 0, 7, 177]
abbrev dktJ48_init_0 : List UInt8 := dkwJ48_init_0 ++ []
theorem dksJ48_init_0 : cJ48_init.data.toList.drop 0 = dktJ48_init_0 := by decide +kernel
theorem dJ48_init_0 : decode cJ48_init 0 = .ok (.aload_n 0, 1) := dk_42 (dk_at dksJ48_init_0 0 rfl rfl)
theorem dJ48_init_1 : decode cJ48_init 1 = .ok (.aload_n 1, 1) := dk_43 (dk_at dksJ48_init_0 1 rfl rfl)
theorem dJ48_init_2 : decode cJ48_init 2 = .ok (.invokespecial 7, 3) := dk_183 0 7 (dk_at dksJ48_init_0 2 rfl rfl)
theorem dJ48_init_5 : decode cJ48_init 5 = .ok (.return_, 1) := dk_177 (dk_at dksJ48_init_0 5 rfl rfl)
abbrev cJ48_init_2 : ByteArray := prog_24_method_1_code
def yJ48_init_2 : MethodName := ⟨RJ48, "<init>", "()V"⟩
theorem dJ48_init_2_0 : decode cJ48_init_2 0 = .ok (.aload_n 0, 1) := by decide +kernel
theorem dJ48_init_2_1 : decode cJ48_init_2 1 = .ok (.invokespecial 1, 3) := by decide +kernel
theorem dJ48_init_2_4 : decode cJ48_init_2 4 = .ok (.return_, 1) := by decide +kernel
theorem q169 : (Jvm.Cond.initialized "java/lang/ArithmeticException") ∈ lw_all := lw_g (lw_at lw_m1 69 rfl) rfl
theorem q537 : (Jvm.Cond.selects "java/lang/ArithmeticException" ({ cls := "java/lang/Throwable", name := "fillInStackTrace", desc := "()Ljava/lang/Throwable;" } : Jvm.MethodName) ({ cls := "java/lang/Throwable", name := "fillInStackTrace", desc := "()Ljava/lang/Throwable;" } : Jvm.MethodName)) ∈ lw_all := lw_g (lw_at lw_m2 197 rfl) rfl
theorem q977 : (Jvm.Cond.selects "java/lang/ArithmeticException" ({ cls := "java/lang/Throwable", name := "toString", desc := "()Ljava/lang/String;" } : Jvm.MethodName) ({ cls := "java/lang/Throwable", name := "toString", desc := "()Ljava/lang/String;" } : Jvm.MethodName)) ∈ lw_all := lw_g (lw_at lw_m4 157 rfl) rfl
theorem q1007 : (Jvm.Cond.selects "java/lang/ArithmeticException" ({ cls := "java/lang/Object", name := "getClass", desc := "()Ljava/lang/Class;" } : Jvm.MethodName) ({ cls := "java/lang/Object", name := "getClass", desc := "()Ljava/lang/Class;" } : Jvm.MethodName)) ∈ lw_all := lw_g (lw_at lw_m4 187 rfl) rfl
theorem q1043 : (Jvm.Cond.selects "java/lang/ArithmeticException" ({ cls := "java/lang/Throwable", name := "getLocalizedMessage", desc := "()Ljava/lang/String;" } : Jvm.MethodName) ({ cls := "java/lang/Throwable", name := "getLocalizedMessage", desc := "()Ljava/lang/String;" } : Jvm.MethodName)) ∈ lw_all := lw_g (lw_at lw_m4 223 rfl) rfl
theorem q1058 : (Jvm.Cond.selects "java/lang/ArithmeticException" ({ cls := "java/lang/Throwable", name := "getMessage", desc := "()Ljava/lang/String;" } : Jvm.MethodName) ({ cls := "java/lang/Throwable", name := "getMessage", desc := "()Ljava/lang/String;" } : Jvm.MethodName)) ∈ lw_all := lw_g (lw_at lw_m4 238 rfl) rfl
theorem q3188 : (Jvm.Cond.selects "java/lang/ArithmeticException" ({ cls := "java/lang/Object", name := "equals", desc := "(Ljava/lang/Object;)Z" } : Jvm.MethodName) ({ cls := "java/lang/Object", name := "equals", desc := "(Ljava/lang/Object;)Z" } : Jvm.MethodName)) ∈ lw_all := lw_g (lw_at lw_m13 208 rfl) rfl
theorem q3214 : (Jvm.Cond.instantiable "java/lang/ArithmeticException" (6 : Nat)) ∈ lw_all := lw_g (lw_at lw_m13 234 rfl) rfl
theorem q3215 : (Jvm.Cond.instanceMethod ({ cls := "java/lang/ArithmeticException", name := "<init>", desc := "(Ljava/lang/String;)V" } : Jvm.MethodName)) ∈ lw_all := lw_g (lw_at lw_m13 235 rfl) rfl
theorem q3216 : (Jvm.Cond.code ({ cls := "java/lang/ArithmeticException", name := "<init>", desc := "(Ljava/lang/String;)V" } : Jvm.MethodName) prog_24_method_2_code (2 : Nat) (Option.none : Option Jvm.ClassFile.FieldType)) ∈ lw_all := lw_g (lw_at lw_m13 236 rfl) rfl
theorem q3217 : (Jvm.Cond.methodLink "java/lang/ArithmeticException" (7 : Nat) ({ cls := "java/lang/RuntimeException", name := "<init>", desc := "(Ljava/lang/String;)V" } : Jvm.MethodName)) ∈ lw_all := lw_g (lw_at lw_m13 237 rfl) rfl
theorem q3218 : (Jvm.Cond.lays "java/lang/ArithmeticException" "java/lang/Throwable" "backtrace" "Ljava/lang/Object;") ∈ lw_all := lw_g (lw_at lw_m13 238 rfl) rfl
theorem q3219 : (Jvm.Cond.lays "java/lang/ArithmeticException" "java/lang/Throwable" "detailMessage" "Ljava/lang/String;") ∈ lw_all := lw_g (lw_at lw_m13 239 rfl) rfl
theorem q3220 : (Jvm.Cond.lays "java/lang/ArithmeticException" "java/lang/Throwable" "cause" "Ljava/lang/Throwable;") ∈ lw_all := lw_g (lw_at lw_m14 0 rfl) rfl
theorem q3221 : (Jvm.Cond.lays "java/lang/ArithmeticException" "java/lang/Throwable" "stackTrace" "[Ljava/lang/StackTraceElement;") ∈ lw_all := lw_g (lw_at lw_m14 1 rfl) rfl
theorem q3222 : (Jvm.Cond.lays "java/lang/ArithmeticException" "java/lang/Throwable" "depth" "I") ∈ lw_all := lw_g (lw_at lw_m14 2 rfl) rfl
theorem q3223 : (Jvm.Cond.lays "java/lang/ArithmeticException" "java/lang/Throwable" "suppressedExceptions" "Ljava/util/List;") ∈ lw_all := lw_g (lw_at lw_m14 3 rfl) rfl
theorem q3224 : (Jvm.Cond.superclass "java/lang/ArithmeticException" "java/lang/RuntimeException") ∈ lw_all := lw_g (lw_at lw_m14 4 rfl) rfl
theorem q3225 : (Jvm.Cond.castable "java/lang/ArithmeticException" "java/lang/ArithmeticException") ∈ lw_tbl := lw_at lw_m14 5 rfl
theorem q3226 : (Jvm.Cond.selects "java/lang/ArithmeticException" ({ cls := "java/lang/Throwable", name := "fillInStackTrace", desc := "(I)Ljava/lang/Throwable;" } : Jvm.MethodName) ({ cls := "java/lang/Throwable", name := "fillInStackTrace", desc := "(I)Ljava/lang/Throwable;" } : Jvm.MethodName)) ∈ lw_all := lw_g (lw_at lw_m14 6 rfl) rfl
theorem q3242 : (Jvm.Cond.instanceMethod ({ cls := "java/lang/ArithmeticException", name := "<init>", desc := "()V" } : Jvm.MethodName)) ∈ lw_all := lw_g (lw_at lw_m14 22 rfl) rfl
theorem q3243 : (Jvm.Cond.code ({ cls := "java/lang/ArithmeticException", name := "<init>", desc := "()V" } : Jvm.MethodName) prog_24_method_1_code (1 : Nat) (Option.none : Option Jvm.ClassFile.FieldType)) ∈ lw_all := lw_g (lw_at lw_m14 23 rfl) rfl
theorem q3244 : (Jvm.Cond.methodLink "java/lang/ArithmeticException" (1 : Nat) ({ cls := "java/lang/RuntimeException", name := "<init>", desc := "()V" } : Jvm.MethodName)) ∈ lw_all := lw_g (lw_at lw_m14 24 rfl) rfl
theorem q3496 : (Jvm.Cond.selects "java/lang/ArithmeticException" ({ cls := "java/lang/Object", name := "toString", desc := "()Ljava/lang/String;" } : Jvm.MethodName) ({ cls := "java/lang/Throwable", name := "toString", desc := "()Ljava/lang/String;" } : Jvm.MethodName)) ∈ lw_all := lw_g (lw_at lw_m15 36 rfl) rfl
theorem q4280 : (Jvm.Cond.castable "java/lang/ArithmeticException" "java/lang/Object") ∈ lw_tbl := lw_at lw_m18 100 rfl
theorem in_J48 : ∀ w ∈ wsJ480, w ∈ lw_all := lw_in wsJ480 [3218, 3219, 3220, 3221, 3222, 3223] (by decide +kernel) (by decide +kernel)
/-! java/lang/StringIndexOutOfBoundsException -/
set_option maxRecDepth 100000
def RJ49 : String := "java/lang/StringIndexOutOfBoundsException"
def TJ49 : u_T := fun k => match k with
  | 0 => ("java/lang/Throwable", "backtrace", "Ljava/lang/Object;", false)
  | 1 => ("java/lang/Throwable", "detailMessage", "Ljava/lang/String;", false)
  | 2 => ("java/lang/Throwable", "cause", "Ljava/lang/Throwable;", false)
  | 3 => ("java/lang/Throwable", "stackTrace", "[Ljava/lang/StackTraceElement;", false)
  | 4 => ("java/lang/Throwable", "depth", "I", false)
  | _ => ("java/lang/Throwable", "suppressedExceptions", "Ljava/util/List;", false)
def tyJ49 : Nat → FieldType := fun k => match k with
  | 0 => .object "java/lang/Object"
  | 1 => .object "java/lang/String"
  | 2 => .object "java/lang/Throwable"
  | 3 => .array (.object "java/lang/StackTraceElement")
  | 4 => .int
  | _ => .object "java/util/List"
abbrev wsJ490 : List Cond := u_ws RJ49 TJ49 6
theorem nmJ49 : ∀ a, a < 6 → ∀ b, b < 6 → a ≠ b → (TJ49 a).2.1 ≠ (TJ49 b).2.1 := by decide +kernel
theorem tyJ49_ok : ∀ k, k < 6 → parseFieldDescriptor (TJ49 k).2.2.1 = some (tyJ49 k) := by decide +kernel
abbrev cJ49_init : ByteArray := prog_43_method_3_code
def yJ49_init : MethodName := ⟨RJ49, "<init>", "(I)V"⟩
def dkwJ49_init_0 : List UInt8 := [42, 187, 0, 10, 89, 183, 0, 12, 18, 13, 182, 0, 15, 27, 182, 0, 19, 182, 0, 22, 183, 0, 7, 177]
abbrev dktJ49_init_0 : List UInt8 := dkwJ49_init_0 ++ []
theorem dksJ49_init_0 : cJ49_init.data.toList.drop 0 = dktJ49_init_0 := by decide +kernel
theorem dJ49_init_0 : decode cJ49_init 0 = .ok (.aload_n 0, 1) := dk_42 (dk_at dksJ49_init_0 0 rfl rfl)
theorem dJ49_init_1 : decode cJ49_init 1 = .ok (.new 10, 3) := dk_187 0 10 (dk_at dksJ49_init_0 1 rfl rfl)
theorem dJ49_init_4 : decode cJ49_init 4 = .ok (.dup, 1) := dk_89 (dk_at dksJ49_init_0 4 rfl rfl)
theorem dJ49_init_5 : decode cJ49_init 5 = .ok (.invokespecial 12, 3) := dk_183 0 12 (dk_at dksJ49_init_0 5 rfl rfl)
theorem dJ49_init_8 : decode cJ49_init 8 = .ok (.ldc 13, 2) := dk_18 13 (dk_at dksJ49_init_0 8 rfl rfl)
theorem dJ49_init_10 : decode cJ49_init 10 = .ok (.invokevirtual 15, 3) := dk_182 0 15 (dk_at dksJ49_init_0 10 rfl rfl)
theorem dJ49_init_13 : decode cJ49_init 13 = .ok (.iload_n 1, 1) := dk_27 (dk_at dksJ49_init_0 13 rfl rfl)
theorem dJ49_init_14 : decode cJ49_init 14 = .ok (.invokevirtual 19, 3) := dk_182 0 19 (dk_at dksJ49_init_0 14 rfl rfl)
theorem dJ49_init_17 : decode cJ49_init 17 = .ok (.invokevirtual 22, 3) := dk_182 0 22 (dk_at dksJ49_init_0 17 rfl rfl)
theorem dJ49_init_20 : decode cJ49_init 20 = .ok (.invokespecial 7, 3) := dk_183 0 7 (dk_at dksJ49_init_0 20 rfl rfl)
theorem dJ49_init_23 : decode cJ49_init 23 = .ok (.return_, 1) := dk_177 (dk_at dksJ49_init_0 23 rfl rfl)
theorem q170 : (Jvm.Cond.initialized "java/lang/StringIndexOutOfBoundsException") ∈ lw_all := lw_g (lw_at lw_m1 70 rfl) rfl
theorem q541 : (Jvm.Cond.selects "java/lang/StringIndexOutOfBoundsException" ({ cls := "java/lang/Throwable", name := "fillInStackTrace", desc := "()Ljava/lang/Throwable;" } : Jvm.MethodName) ({ cls := "java/lang/Throwable", name := "fillInStackTrace", desc := "()Ljava/lang/Throwable;" } : Jvm.MethodName)) ∈ lw_all := lw_g (lw_at lw_m2 201 rfl) rfl
theorem q982 : (Jvm.Cond.selects "java/lang/StringIndexOutOfBoundsException" ({ cls := "java/lang/Throwable", name := "toString", desc := "()Ljava/lang/String;" } : Jvm.MethodName) ({ cls := "java/lang/Throwable", name := "toString", desc := "()Ljava/lang/String;" } : Jvm.MethodName)) ∈ lw_all := lw_g (lw_at lw_m4 162 rfl) rfl
theorem q1015 : (Jvm.Cond.selects "java/lang/StringIndexOutOfBoundsException" ({ cls := "java/lang/Object", name := "getClass", desc := "()Ljava/lang/Class;" } : Jvm.MethodName) ({ cls := "java/lang/Object", name := "getClass", desc := "()Ljava/lang/Class;" } : Jvm.MethodName)) ∈ lw_all := lw_g (lw_at lw_m4 195 rfl) rfl
theorem q1048 : (Jvm.Cond.selects "java/lang/StringIndexOutOfBoundsException" ({ cls := "java/lang/Throwable", name := "getLocalizedMessage", desc := "()Ljava/lang/String;" } : Jvm.MethodName) ({ cls := "java/lang/Throwable", name := "getLocalizedMessage", desc := "()Ljava/lang/String;" } : Jvm.MethodName)) ∈ lw_all := lw_g (lw_at lw_m4 228 rfl) rfl
theorem q1063 : (Jvm.Cond.selects "java/lang/StringIndexOutOfBoundsException" ({ cls := "java/lang/Throwable", name := "getMessage", desc := "()Ljava/lang/String;" } : Jvm.MethodName) ({ cls := "java/lang/Throwable", name := "getMessage", desc := "()Ljava/lang/String;" } : Jvm.MethodName)) ∈ lw_all := lw_g (lw_at lw_m5 3 rfl) rfl
theorem q3199 : (Jvm.Cond.selects "java/lang/StringIndexOutOfBoundsException" ({ cls := "java/lang/Object", name := "equals", desc := "(Ljava/lang/Object;)Z" } : Jvm.MethodName) ({ cls := "java/lang/Object", name := "equals", desc := "(Ljava/lang/Object;)Z" } : Jvm.MethodName)) ∈ lw_all := lw_g (lw_at lw_m13 219 rfl) rfl
theorem q3376 : (Jvm.Cond.instantiable "java/lang/StringIndexOutOfBoundsException" (6 : Nat)) ∈ lw_all := lw_g (lw_at lw_m14 156 rfl) rfl
theorem q3378 : (Jvm.Cond.instanceMethod ({ cls := "java/lang/StringIndexOutOfBoundsException", name := "<init>", desc := "(I)V" } : Jvm.MethodName)) ∈ lw_all := lw_g (lw_at lw_m14 158 rfl) rfl
theorem q3379 : (Jvm.Cond.code ({ cls := "java/lang/StringIndexOutOfBoundsException", name := "<init>", desc := "(I)V" } : Jvm.MethodName) prog_43_method_3_code (2 : Nat) (Option.none : Option Jvm.ClassFile.FieldType)) ∈ lw_all := lw_g (lw_at lw_m14 159 rfl) rfl
theorem q3380 : (Jvm.Cond.classLink "java/lang/StringIndexOutOfBoundsException" (10 : Nat) "java/lang/StringBuilder") ∈ lw_all := lw_g (lw_at lw_m14 160 rfl) rfl
theorem q3381 : (Jvm.Cond.methodLink "java/lang/StringIndexOutOfBoundsException" (12 : Nat) ({ cls := "java/lang/StringBuilder", name := "<init>", desc := "()V" } : Jvm.MethodName)) ∈ lw_all := lw_g (lw_at lw_m14 161 rfl) rfl
theorem q3382 : (Jvm.Cond.stringRef "java/lang/StringIndexOutOfBoundsException" (13 : Nat) "String index out of range: ") ∈ lw_tbl := lw_at lw_m14 162 rfl
theorem q3383 : (Jvm.Cond.methodLink "java/lang/StringIndexOutOfBoundsException" (15 : Nat) ({ cls := "java/lang/StringBuilder", name := "append", desc := "(Ljava/lang/String;)Ljava/lang/StringBuilder;" } : Jvm.MethodName)) ∈ lw_all := lw_g (lw_at lw_m14 163 rfl) rfl
theorem q3384 : (Jvm.Cond.methodLink "java/lang/StringIndexOutOfBoundsException" (19 : Nat) ({ cls := "java/lang/StringBuilder", name := "append", desc := "(I)Ljava/lang/StringBuilder;" } : Jvm.MethodName)) ∈ lw_all := lw_g (lw_at lw_m14 164 rfl) rfl
theorem q3385 : (Jvm.Cond.methodLink "java/lang/StringIndexOutOfBoundsException" (22 : Nat) ({ cls := "java/lang/StringBuilder", name := "toString", desc := "()Ljava/lang/String;" } : Jvm.MethodName)) ∈ lw_all := lw_g (lw_at lw_m14 165 rfl) rfl
theorem q3386 : (Jvm.Cond.methodLink "java/lang/StringIndexOutOfBoundsException" (7 : Nat) ({ cls := "java/lang/IndexOutOfBoundsException", name := "<init>", desc := "(Ljava/lang/String;)V" } : Jvm.MethodName)) ∈ lw_all := lw_g (lw_at lw_m14 166 rfl) rfl
theorem q3387 : (Jvm.Cond.lays "java/lang/StringIndexOutOfBoundsException" "java/lang/Throwable" "backtrace" "Ljava/lang/Object;") ∈ lw_all := lw_g (lw_at lw_m14 167 rfl) rfl
theorem q3388 : (Jvm.Cond.lays "java/lang/StringIndexOutOfBoundsException" "java/lang/Throwable" "detailMessage" "Ljava/lang/String;") ∈ lw_all := lw_g (lw_at lw_m14 168 rfl) rfl
theorem q3389 : (Jvm.Cond.lays "java/lang/StringIndexOutOfBoundsException" "java/lang/Throwable" "cause" "Ljava/lang/Throwable;") ∈ lw_all := lw_g (lw_at lw_m14 169 rfl) rfl
theorem q3390 : (Jvm.Cond.lays "java/lang/StringIndexOutOfBoundsException" "java/lang/Throwable" "stackTrace" "[Ljava/lang/StackTraceElement;") ∈ lw_all := lw_g (lw_at lw_m14 170 rfl) rfl
theorem q3391 : (Jvm.Cond.lays "java/lang/StringIndexOutOfBoundsException" "java/lang/Throwable" "depth" "I") ∈ lw_all := lw_g (lw_at lw_m14 171 rfl) rfl
theorem q3392 : (Jvm.Cond.lays "java/lang/StringIndexOutOfBoundsException" "java/lang/Throwable" "suppressedExceptions" "Ljava/util/List;") ∈ lw_all := lw_g (lw_at lw_m14 172 rfl) rfl
theorem q3393 : (Jvm.Cond.superclass "java/lang/StringIndexOutOfBoundsException" "java/lang/IndexOutOfBoundsException") ∈ lw_all := lw_g (lw_at lw_m14 173 rfl) rfl
theorem q3519 : (Jvm.Cond.selects "java/lang/StringIndexOutOfBoundsException" ({ cls := "java/lang/Object", name := "toString", desc := "()Ljava/lang/String;" } : Jvm.MethodName) ({ cls := "java/lang/Throwable", name := "toString", desc := "()Ljava/lang/String;" } : Jvm.MethodName)) ∈ lw_all := lw_g (lw_at lw_m15 59 rfl) rfl
theorem q4237 : (Jvm.Cond.castable "java/lang/StringIndexOutOfBoundsException" "java/lang/IndexOutOfBoundsException") ∈ lw_tbl := lw_at lw_m18 57 rfl
theorem q4281 : (Jvm.Cond.castable "java/lang/StringIndexOutOfBoundsException" "java/lang/Object") ∈ lw_tbl := lw_at lw_m18 101 rfl
theorem in_J49 : ∀ w ∈ wsJ490, w ∈ lw_all := lw_in wsJ490 [3387, 3388, 3389, 3390, 3391, 3392] (by decide +kernel) (by decide +kernel)
/-! java/lang/Object -/
set_option maxRecDepth 100000
def RJ50 : String := "java/lang/Object"
abbrev cJ50_init : ByteArray := object_method_1_code
def yJ50_init : MethodName := ⟨RJ50, "<init>", "()V"⟩
theorem dJ50_init_0 : decode cJ50_init 0 = .ok (.return_, 1) := by decide +kernel
abbrev cJ50_equals : ByteArray := object_method_4_code
def yJ50_equals : MethodName := ⟨RJ50, "equals", "(Ljava/lang/Object;)Z"⟩
def dkwJ50_equals_0 : List UInt8 := [42, 43, 166, 0, 7, 4, 167, 0, 4, 3, 172]
abbrev dktJ50_equals_0 : List UInt8 := dkwJ50_equals_0 ++ []
theorem dksJ50_equals_0 : cJ50_equals.data.toList.drop 0 = dktJ50_equals_0 := by decide +kernel
theorem dJ50_equals_0 : decode cJ50_equals 0 = .ok (.aload_n 0, 1) := dk_42 (dk_at dksJ50_equals_0 0 rfl rfl)
theorem dJ50_equals_1 : decode cJ50_equals 1 = .ok (.aload_n 1, 1) := dk_43 (dk_at dksJ50_equals_0 1 rfl rfl)
theorem dJ50_equals_2 : decode cJ50_equals 2 = .ok (.if_acmp .ne 7, 3) := dk_166 0 7 (dk_at dksJ50_equals_0 2 rfl rfl)
theorem dJ50_equals_5 : decode cJ50_equals 5 = .ok (.iconst 1, 1) := dk_4 (dk_at dksJ50_equals_0 5 rfl rfl)
theorem dJ50_equals_6 : decode cJ50_equals 6 = .ok (.goto 4, 3) := dk_167 0 4 (dk_at dksJ50_equals_0 6 rfl rfl)
theorem dJ50_equals_9 : decode cJ50_equals 9 = .ok (.iconst 0, 1) := dk_3 (dk_at dksJ50_equals_0 9 rfl rfl)
theorem dJ50_equals_10 : decode cJ50_equals 10 = .ok (.ireturn, 1) := dk_172 (dk_at dksJ50_equals_0 10 rfl rfl)
theorem q180 : (Jvm.Cond.instanceMethod ({ cls := "java/lang/Object", name := "<init>", desc := "()V" } : Jvm.MethodName)) ∈ lw_all := lw_g (lw_at lw_m1 80 rfl) rfl
theorem q181 : (Jvm.Cond.code ({ cls := "java/lang/Object", name := "<init>", desc := "()V" } : Jvm.MethodName) object_method_1_code (1 : Nat) (Option.none : Option Jvm.ClassFile.FieldType)) ∈ lw_all := lw_g (lw_at lw_m1 81 rfl) rfl
theorem q592 : (Jvm.Cond.native ({ cls := "java/lang/Object", name := "clone", desc := "()Ljava/lang/Object;" } : Jvm.MethodName)) ∈ lw_all := lw_g (lw_at lw_m3 12 rfl) rfl
theorem q593 : (Jvm.Cond.instanceMethod ({ cls := "java/lang/Object", name := "clone", desc := "()Ljava/lang/Object;" } : Jvm.MethodName)) ∈ lw_all := lw_g (lw_at lw_m3 13 rfl) rfl
theorem q987 : (Jvm.Cond.instanceMethod ({ cls := "java/lang/Object", name := "getClass", desc := "()Ljava/lang/Class;" } : Jvm.MethodName)) ∈ lw_all := lw_g (lw_at lw_m4 167 rfl) rfl
theorem q988 : (Jvm.Cond.sameMethod "java/lang/Object" "java/lang/Object" "getClass" "()Ljava/lang/Class;") ∈ lw_all := lw_g (lw_at lw_m4 168 rfl) rfl
theorem q1036 : (Jvm.Cond.native ({ cls := "java/lang/Object", name := "getClass", desc := "()Ljava/lang/Class;" } : Jvm.MethodName)) ∈ lw_all := lw_g (lw_at lw_m4 216 rfl) rfl
theorem q3038 : (Jvm.Cond.declares ({ cls := "java/lang/Object", name := "getClass", desc := "()Ljava/lang/Class;" } : Jvm.MethodName)) ∈ lw_tbl := lw_at lw_m13 58 rfl
theorem q3040 : (Jvm.Cond.publicMethod ({ cls := "java/lang/Object", name := "getClass", desc := "()Ljava/lang/Class;" } : Jvm.MethodName)) ∈ lw_tbl := lw_at lw_m13 60 rfl
theorem q3161 : (Jvm.Cond.declares ({ cls := "java/lang/Object", name := "equals", desc := "(Ljava/lang/Object;)Z" } : Jvm.MethodName)) ∈ lw_tbl := lw_at lw_m13 181 rfl
theorem q3163 : (Jvm.Cond.instanceMethod ({ cls := "java/lang/Object", name := "equals", desc := "(Ljava/lang/Object;)Z" } : Jvm.MethodName)) ∈ lw_all := lw_g (lw_at lw_m13 183 rfl) rfl
theorem q3164 : (Jvm.Cond.sameMethod "java/lang/Object" "java/lang/Object" "equals" "(Ljava/lang/Object;)Z") ∈ lw_all := lw_g (lw_at lw_m13 184 rfl) rfl
theorem q3203 : (Jvm.Cond.code ({ cls := "java/lang/Object", name := "equals", desc := "(Ljava/lang/Object;)Z" } : Jvm.MethodName) object_method_4_code (2 : Nat) (Option.some Jvm.ClassFile.FieldType.boolean)) ∈ lw_all := lw_g (lw_at lw_m13 223 rfl) rfl
theorem q3466 : (Jvm.Cond.declares ({ cls := "java/lang/Object", name := "toString", desc := "()Ljava/lang/String;" } : Jvm.MethodName)) ∈ lw_tbl := lw_at lw_m15 6 rfl
theorem q3468 : (Jvm.Cond.instanceMethod ({ cls := "java/lang/Object", name := "toString", desc := "()Ljava/lang/String;" } : Jvm.MethodName)) ∈ lw_all := lw_g (lw_at lw_m15 8 rfl) rfl
theorem q3469 : (Jvm.Cond.sameMethod "java/lang/Object" "java/lang/Object" "toString" "()Ljava/lang/String;") ∈ lw_all := lw_g (lw_at lw_m15 9 rfl) rfl
theorem q4232 : (Jvm.Cond.initialized "java/lang/Object") ∈ lw_all := lw_g (lw_at lw_m18 52 rfl) rfl
/-! java/lang/System$2 -/
set_option maxRecDepth 100000
def RJ51 : String := "java/lang/System$2"
abbrev cJ51_getUTF16Char : ByteArray := prog_47_method_45_code
def yJ51_getUTF16Char : MethodName := ⟨RJ51, "getUTF16Char", "([BI)C"⟩
def dkwJ51_getUTF16Char_0 : List UInt8 := [43, 28, 184, 0, 185, 172]
abbrev dktJ51_getUTF16Char_0 : List UInt8 := dkwJ51_getUTF16Char_0 ++ []
theorem dksJ51_getUTF16Char_0 : cJ51_getUTF16Char.data.toList.drop 0 = dktJ51_getUTF16Char_0 := by decide +kernel
theorem dJ51_getUTF16Char_0 : decode cJ51_getUTF16Char 0 = .ok (.aload_n 1, 1) := dk_43 (dk_at dksJ51_getUTF16Char_0 0 rfl rfl)
theorem dJ51_getUTF16Char_1 : decode cJ51_getUTF16Char 1 = .ok (.iload_n 2, 1) := dk_28 (dk_at dksJ51_getUTF16Char_0 1 rfl rfl)
theorem dJ51_getUTF16Char_2 : decode cJ51_getUTF16Char 2 = .ok (.invokestatic 185, 3) := dk_184 0 185 (dk_at dksJ51_getUTF16Char_0 2 rfl rfl)
theorem dJ51_getUTF16Char_5 : decode cJ51_getUTF16Char 5 = .ok (.ireturn, 1) := dk_172 (dk_at dksJ51_getUTF16Char_0 5 rfl rfl)
theorem q1016 : (Jvm.Cond.selects "java/lang/System$2" ({ cls := "java/lang/Object", name := "getClass", desc := "()Ljava/lang/Class;" } : Jvm.MethodName) ({ cls := "java/lang/Object", name := "getClass", desc := "()Ljava/lang/Class;" } : Jvm.MethodName)) ∈ lw_all := lw_g (lw_at lw_m4 196 rfl) rfl
theorem q2387 : (Jvm.Cond.castable "java/lang/System$2" "jdk/internal/access/JavaLangAccess") ∈ lw_tbl := lw_at lw_m10 127 rfl
theorem q2388 : (Jvm.Cond.selects "java/lang/System$2" ({ cls := "jdk/internal/access/JavaLangAccess", name := "getUTF16Char", desc := "([BI)C" } : Jvm.MethodName) ({ cls := "java/lang/System$2", name := "getUTF16Char", desc := "([BI)C" } : Jvm.MethodName)) ∈ lw_all := lw_g (lw_at lw_m10 128 rfl) rfl
theorem q2389 : (Jvm.Cond.unhidden "java/lang/System$2" "getUTF16Char" "([BI)C") ∈ lw_tbl := lw_at lw_m10 129 rfl
theorem q2390 : (Jvm.Cond.instanceMethod ({ cls := "java/lang/System$2", name := "getUTF16Char", desc := "([BI)C" } : Jvm.MethodName)) ∈ lw_all := lw_g (lw_at lw_m10 130 rfl) rfl
theorem q2391 : (Jvm.Cond.publicMethod ({ cls := "java/lang/System$2", name := "getUTF16Char", desc := "([BI)C" } : Jvm.MethodName)) ∈ lw_tbl := lw_at lw_m10 131 rfl
theorem q2392 : (Jvm.Cond.code ({ cls := "java/lang/System$2", name := "getUTF16Char", desc := "([BI)C" } : Jvm.MethodName) prog_47_method_45_code (3 : Nat) (Option.some Jvm.ClassFile.FieldType.char)) ∈ lw_all := lw_g (lw_at lw_m10 132 rfl) rfl
theorem q2393 : (Jvm.Cond.methodLink "java/lang/System$2" (185 : Nat) ({ cls := "java/lang/StringUTF16", name := "getChar", desc := "([BI)C" } : Jvm.MethodName)) ∈ lw_all := lw_g (lw_at lw_m10 133 rfl) rfl
theorem q3200 : (Jvm.Cond.selects "java/lang/System$2" ({ cls := "java/lang/Object", name := "equals", desc := "(Ljava/lang/Object;)Z" } : Jvm.MethodName) ({ cls := "java/lang/Object", name := "equals", desc := "(Ljava/lang/Object;)Z" } : Jvm.MethodName)) ∈ lw_all := lw_g (lw_at lw_m13 220 rfl) rfl
theorem q3520 : (Jvm.Cond.selects "java/lang/System$2" ({ cls := "java/lang/Object", name := "toString", desc := "()Ljava/lang/String;" } : Jvm.MethodName) ({ cls := "java/lang/Object", name := "toString", desc := "()Ljava/lang/String;" } : Jvm.MethodName)) ∈ lw_all := lw_g (lw_at lw_m15 60 rfl) rfl
theorem q4262 : (Jvm.Cond.castable "java/lang/System$2" "java/lang/Object") ∈ lw_tbl := lw_at lw_m18 82 rfl
