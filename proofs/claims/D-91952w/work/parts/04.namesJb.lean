/-! java/lang/Throwable -/
set_option maxRecDepth 100000
def RJ10 : String := "java/lang/Throwable"
def TJ10 : u_T := fun k => match k with
  | 0 => ("java/lang/Throwable", "cause", "Ljava/lang/Throwable;", false)
  | 1 => ("java/lang/Throwable", "stackTrace", "[Ljava/lang/StackTraceElement;", false)
  | 2 => ("java/lang/Throwable", "suppressedExceptions", "Ljava/util/List;", false)
  | 3 => ("java/lang/Throwable", "detailMessage", "Ljava/lang/String;", false)
  | _ => ("java/lang/Throwable", "backtrace", "Ljava/lang/Object;", false)
def tyJ10 : Nat → FieldType := fun k => match k with
  | 0 => .object "java/lang/Throwable"
  | 1 => .array (.object "java/lang/StackTraceElement")
  | 2 => .object "java/util/List"
  | 3 => .object "java/lang/String"
  | _ => .object "java/lang/Object"
abbrev wsJ100 : List Cond := u_ws RJ10 TJ10 5
theorem nmJ10 : ∀ a, a < 5 → ∀ b, b < 5 → a ≠ b → (TJ10 a).2.1 ≠ (TJ10 b).2.1 := by decide +kernel
theorem tyJ10_ok : ∀ k, k < 5 → parseFieldDescriptor (TJ10 k).2.2.1 = some (tyJ10 k) := by decide +kernel
abbrev cJ10_init : ByteArray := prog_40_method_1_code
def yJ10_init : MethodName := ⟨RJ10, "<init>", "()V"⟩
def dkwJ10_init_1 : List UInt8 := [182, 0, 27, 87, 177]
abbrev dktJ10_init_1 : List UInt8 := dkwJ10_init_1 ++ []
def dkwJ10_init_0 : List UInt8 := [42, 183, 0, 1, 42, 42, 181, 0, 7, 42, 178, 0, 13, 181, 0, 17, 42, 178, 0, 20, 181, 0, 24, 42]
abbrev dktJ10_init_0 : List UInt8 := dkwJ10_init_0 ++ dktJ10_init_1
theorem dksJ10_init_0 : cJ10_init.data.toList.drop 0 = dktJ10_init_0 := by decide +kernel
theorem dksJ10_init_1 : cJ10_init.data.toList.drop 24 = dktJ10_init_1 := dk_seg dksJ10_init_0 24 rfl rfl
theorem dJ10_init_0 : decode cJ10_init 0 = .ok (.aload_n 0, 1) := dk_42 (dk_at dksJ10_init_0 0 rfl rfl)
theorem dJ10_init_1 : decode cJ10_init 1 = .ok (.invokespecial 1, 3) := dk_183 0 1 (dk_at dksJ10_init_0 1 rfl rfl)
theorem dJ10_init_4 : decode cJ10_init 4 = .ok (.aload_n 0, 1) := dk_42 (dk_at dksJ10_init_0 4 rfl rfl)
theorem dJ10_init_5 : decode cJ10_init 5 = .ok (.aload_n 0, 1) := dk_42 (dk_at dksJ10_init_0 5 rfl rfl)
theorem dJ10_init_6 : decode cJ10_init 6 = .ok (.putfield 7, 3) := dk_181 0 7 (dk_at dksJ10_init_0 6 rfl rfl)
theorem dJ10_init_9 : decode cJ10_init 9 = .ok (.aload_n 0, 1) := dk_42 (dk_at dksJ10_init_0 9 rfl rfl)
theorem dJ10_init_10 : decode cJ10_init 10 = .ok (.getstatic 13, 3) := dk_178 0 13 (dk_at dksJ10_init_0 10 rfl rfl)
theorem dJ10_init_13 : decode cJ10_init 13 = .ok (.putfield 17, 3) := dk_181 0 17 (dk_at dksJ10_init_0 13 rfl rfl)
theorem dJ10_init_16 : decode cJ10_init 16 = .ok (.aload_n 0, 1) := dk_42 (dk_at dksJ10_init_0 16 rfl rfl)
theorem dJ10_init_17 : decode cJ10_init 17 = .ok (.getstatic 20, 3) := dk_178 0 20 (dk_at dksJ10_init_0 17 rfl rfl)
theorem dJ10_init_20 : decode cJ10_init 20 = .ok (.putfield 24, 3) := dk_181 0 24 (dk_at dksJ10_init_0 20 rfl rfl)
theorem dJ10_init_23 : decode cJ10_init 23 = .ok (.aload_n 0, 1) := dk_42 (dk_at dksJ10_init_0 23 rfl rfl)
theorem dJ10_init_24 : decode cJ10_init 24 = .ok (.invokevirtual 27, 3) := dk_182 0 27 (dk_at dksJ10_init_1 0 rfl rfl)
theorem dJ10_init_27 : decode cJ10_init 27 = .ok (.pop, 1) := dk_87 (dk_at dksJ10_init_1 3 rfl rfl)
theorem dJ10_init_28 : decode cJ10_init 28 = .ok (.return_, 1) := dk_177 (dk_at dksJ10_init_1 4 rfl rfl)
abbrev cJ10_init_2 : ByteArray := prog_40_method_5_code
def yJ10_init_2 : MethodName := ⟨RJ10, "<init>", "(Ljava/lang/String;Ljava/lang/Throwable;ZZ)V"⟩
def dkwJ10_init_2_2 : List UInt8 := [44, 181, 0, 7, 29, 154, 0, 8, 42, 1, 181, 0, 24, 177]
abbrev dktJ10_init_2_2 : List UInt8 := dkwJ10_init_2_2 ++ []
def dkwJ10_init_2_1 : List UInt8 := [21, 4, 153, 0, 11, 42, 182, 0, 27, 87, 167, 0, 8, 42, 1, 181, 0, 17, 42, 43, 181, 0, 31, 42]
abbrev dktJ10_init_2_1 : List UInt8 := dkwJ10_init_2_1 ++ dktJ10_init_2_2
def dkwJ10_init_2_0 : List UInt8 := [42, 183, 0, 1, 42, 42, 181, 0, 7, 42, 178, 0, 13, 181, 0, 17, 42, 178, 0, 20, 181, 0, 24]
abbrev dktJ10_init_2_0 : List UInt8 := dkwJ10_init_2_0 ++ dktJ10_init_2_1
theorem dksJ10_init_2_0 : cJ10_init_2.data.toList.drop 0 = dktJ10_init_2_0 := by decide +kernel
theorem dksJ10_init_2_1 : cJ10_init_2.data.toList.drop 23 = dktJ10_init_2_1 := dk_seg dksJ10_init_2_0 23 rfl rfl
theorem dksJ10_init_2_2 : cJ10_init_2.data.toList.drop 47 = dktJ10_init_2_2 := dk_seg dksJ10_init_2_1 24 rfl rfl
theorem dJ10_init_2_0 : decode cJ10_init_2 0 = .ok (.aload_n 0, 1) := dk_42 (dk_at dksJ10_init_2_0 0 rfl rfl)
theorem dJ10_init_2_1 : decode cJ10_init_2 1 = .ok (.invokespecial 1, 3) := dk_183 0 1 (dk_at dksJ10_init_2_0 1 rfl rfl)
theorem dJ10_init_2_4 : decode cJ10_init_2 4 = .ok (.aload_n 0, 1) := dk_42 (dk_at dksJ10_init_2_0 4 rfl rfl)
theorem dJ10_init_2_5 : decode cJ10_init_2 5 = .ok (.aload_n 0, 1) := dk_42 (dk_at dksJ10_init_2_0 5 rfl rfl)
theorem dJ10_init_2_6 : decode cJ10_init_2 6 = .ok (.putfield 7, 3) := dk_181 0 7 (dk_at dksJ10_init_2_0 6 rfl rfl)
theorem dJ10_init_2_9 : decode cJ10_init_2 9 = .ok (.aload_n 0, 1) := dk_42 (dk_at dksJ10_init_2_0 9 rfl rfl)
theorem dJ10_init_2_10 : decode cJ10_init_2 10 = .ok (.getstatic 13, 3) := dk_178 0 13 (dk_at dksJ10_init_2_0 10 rfl rfl)
theorem dJ10_init_2_13 : decode cJ10_init_2 13 = .ok (.putfield 17, 3) := dk_181 0 17 (dk_at dksJ10_init_2_0 13 rfl rfl)
theorem dJ10_init_2_16 : decode cJ10_init_2 16 = .ok (.aload_n 0, 1) := dk_42 (dk_at dksJ10_init_2_0 16 rfl rfl)
theorem dJ10_init_2_17 : decode cJ10_init_2 17 = .ok (.getstatic 20, 3) := dk_178 0 20 (dk_at dksJ10_init_2_0 17 rfl rfl)
theorem dJ10_init_2_20 : decode cJ10_init_2 20 = .ok (.putfield 24, 3) := dk_181 0 24 (dk_at dksJ10_init_2_0 20 rfl rfl)
theorem dJ10_init_2_23 : decode cJ10_init_2 23 = .ok (.iload 4, 2) := dk_21 4 (dk_at dksJ10_init_2_1 0 rfl rfl)
theorem dJ10_init_2_25 : decode cJ10_init_2 25 = .ok (.ifCond .eq 11, 3) := dk_153 0 11 (dk_at dksJ10_init_2_1 2 rfl rfl)
theorem dJ10_init_2_28 : decode cJ10_init_2 28 = .ok (.aload_n 0, 1) := dk_42 (dk_at dksJ10_init_2_1 5 rfl rfl)
theorem dJ10_init_2_29 : decode cJ10_init_2 29 = .ok (.invokevirtual 27, 3) := dk_182 0 27 (dk_at dksJ10_init_2_1 6 rfl rfl)
theorem dJ10_init_2_32 : decode cJ10_init_2 32 = .ok (.pop, 1) := dk_87 (dk_at dksJ10_init_2_1 9 rfl rfl)
theorem dJ10_init_2_33 : decode cJ10_init_2 33 = .ok (.goto 8, 3) := dk_167 0 8 (dk_at dksJ10_init_2_1 10 rfl rfl)
theorem dJ10_init_2_36 : decode cJ10_init_2 36 = .ok (.aload_n 0, 1) := dk_42 (dk_at dksJ10_init_2_1 13 rfl rfl)
theorem dJ10_init_2_37 : decode cJ10_init_2 37 = .ok (.aconst_null, 1) := dk_1 (dk_at dksJ10_init_2_1 14 rfl rfl)
theorem dJ10_init_2_38 : decode cJ10_init_2 38 = .ok (.putfield 17, 3) := dk_181 0 17 (dk_at dksJ10_init_2_1 15 rfl rfl)
theorem dJ10_init_2_41 : decode cJ10_init_2 41 = .ok (.aload_n 0, 1) := dk_42 (dk_at dksJ10_init_2_1 18 rfl rfl)
theorem dJ10_init_2_42 : decode cJ10_init_2 42 = .ok (.aload_n 1, 1) := dk_43 (dk_at dksJ10_init_2_1 19 rfl rfl)
theorem dJ10_init_2_43 : decode cJ10_init_2 43 = .ok (.putfield 31, 3) := dk_181 0 31 (dk_at dksJ10_init_2_1 20 rfl rfl)
theorem dJ10_init_2_46 : decode cJ10_init_2 46 = .ok (.aload_n 0, 1) := dk_42 (dk_at dksJ10_init_2_1 23 rfl rfl)
theorem dJ10_init_2_47 : decode cJ10_init_2 47 = .ok (.aload_n 2, 1) := dk_44 (dk_at dksJ10_init_2_2 0 rfl rfl)
theorem dJ10_init_2_48 : decode cJ10_init_2 48 = .ok (.putfield 7, 3) := dk_181 0 7 (dk_at dksJ10_init_2_2 1 rfl rfl)
theorem dJ10_init_2_51 : decode cJ10_init_2 51 = .ok (.iload_n 3, 1) := dk_29 (dk_at dksJ10_init_2_2 4 rfl rfl)
theorem dJ10_init_2_52 : decode cJ10_init_2 52 = .ok (.ifCond .ne 8, 3) := dk_154 0 8 (dk_at dksJ10_init_2_2 5 rfl rfl)
theorem dJ10_init_2_55 : decode cJ10_init_2 55 = .ok (.aload_n 0, 1) := dk_42 (dk_at dksJ10_init_2_2 8 rfl rfl)
theorem dJ10_init_2_56 : decode cJ10_init_2 56 = .ok (.aconst_null, 1) := dk_1 (dk_at dksJ10_init_2_2 9 rfl rfl)
theorem dJ10_init_2_57 : decode cJ10_init_2 57 = .ok (.putfield 24, 3) := dk_181 0 24 (dk_at dksJ10_init_2_2 10 rfl rfl)
theorem dJ10_init_2_60 : decode cJ10_init_2 60 = .ok (.return_, 1) := dk_177 (dk_at dksJ10_init_2_2 13 rfl rfl)
abbrev cJ10_init_3 : ByteArray := prog_40_method_2_code
def yJ10_init_3 : MethodName := ⟨RJ10, "<init>", "(Ljava/lang/String;)V"⟩
def dkwJ10_init_3_1 : List UInt8 := [182, 0, 27, 87, 42, 43, 181, 0, 31, 177]
abbrev dktJ10_init_3_1 : List UInt8 := dkwJ10_init_3_1 ++ []
def dkwJ10_init_3_0 : List UInt8 := [42, 183, 0, 1, 42, 42, 181, 0, 7, 42, 178, 0, 13, 181, 0, 17, 42, 178, 0, 20, 181, 0, 24, 42]
abbrev dktJ10_init_3_0 : List UInt8 := dkwJ10_init_3_0 ++ dktJ10_init_3_1
theorem dksJ10_init_3_0 : cJ10_init_3.data.toList.drop 0 = dktJ10_init_3_0 := by decide +kernel
theorem dksJ10_init_3_1 : cJ10_init_3.data.toList.drop 24 = dktJ10_init_3_1 := dk_seg dksJ10_init_3_0 24 rfl rfl
theorem dJ10_init_3_0 : decode cJ10_init_3 0 = .ok (.aload_n 0, 1) := dk_42 (dk_at dksJ10_init_3_0 0 rfl rfl)
theorem dJ10_init_3_1 : decode cJ10_init_3 1 = .ok (.invokespecial 1, 3) := dk_183 0 1 (dk_at dksJ10_init_3_0 1 rfl rfl)
theorem dJ10_init_3_4 : decode cJ10_init_3 4 = .ok (.aload_n 0, 1) := dk_42 (dk_at dksJ10_init_3_0 4 rfl rfl)
theorem dJ10_init_3_5 : decode cJ10_init_3 5 = .ok (.aload_n 0, 1) := dk_42 (dk_at dksJ10_init_3_0 5 rfl rfl)
theorem dJ10_init_3_6 : decode cJ10_init_3 6 = .ok (.putfield 7, 3) := dk_181 0 7 (dk_at dksJ10_init_3_0 6 rfl rfl)
theorem dJ10_init_3_9 : decode cJ10_init_3 9 = .ok (.aload_n 0, 1) := dk_42 (dk_at dksJ10_init_3_0 9 rfl rfl)
theorem dJ10_init_3_10 : decode cJ10_init_3 10 = .ok (.getstatic 13, 3) := dk_178 0 13 (dk_at dksJ10_init_3_0 10 rfl rfl)
theorem dJ10_init_3_13 : decode cJ10_init_3 13 = .ok (.putfield 17, 3) := dk_181 0 17 (dk_at dksJ10_init_3_0 13 rfl rfl)
theorem dJ10_init_3_16 : decode cJ10_init_3 16 = .ok (.aload_n 0, 1) := dk_42 (dk_at dksJ10_init_3_0 16 rfl rfl)
theorem dJ10_init_3_17 : decode cJ10_init_3 17 = .ok (.getstatic 20, 3) := dk_178 0 20 (dk_at dksJ10_init_3_0 17 rfl rfl)
theorem dJ10_init_3_20 : decode cJ10_init_3 20 = .ok (.putfield 24, 3) := dk_181 0 24 (dk_at dksJ10_init_3_0 20 rfl rfl)
theorem dJ10_init_3_23 : decode cJ10_init_3 23 = .ok (.aload_n 0, 1) := dk_42 (dk_at dksJ10_init_3_0 23 rfl rfl)
theorem dJ10_init_3_24 : decode cJ10_init_3 24 = .ok (.invokevirtual 27, 3) := dk_182 0 27 (dk_at dksJ10_init_3_1 0 rfl rfl)
theorem dJ10_init_3_27 : decode cJ10_init_3 27 = .ok (.pop, 1) := dk_87 (dk_at dksJ10_init_3_1 3 rfl rfl)
theorem dJ10_init_3_28 : decode cJ10_init_3 28 = .ok (.aload_n 0, 1) := dk_42 (dk_at dksJ10_init_3_1 4 rfl rfl)
theorem dJ10_init_3_29 : decode cJ10_init_3 29 = .ok (.aload_n 1, 1) := dk_43 (dk_at dksJ10_init_3_1 5 rfl rfl)
theorem dJ10_init_3_30 : decode cJ10_init_3 30 = .ok (.putfield 31, 3) := dk_181 0 31 (dk_at dksJ10_init_3_1 6 rfl rfl)
theorem dJ10_init_3_33 : decode cJ10_init_3 33 = .ok (.return_, 1) := dk_177 (dk_at dksJ10_init_3_1 9 rfl rfl)
theorem q137 : (Jvm.Cond.initialized "java/lang/Throwable") ∈ lw_all := lw_g (lw_at lw_m1 19 rfl) rfl
theorem q1061 : (Jvm.Cond.declares ({ cls := "java/lang/Throwable", name := "<init>", desc := "()V" } : Jvm.MethodName)) ∈ lw_tbl := lw_at lw_m4 223 rfl
theorem q1062 : (Jvm.Cond.declares ({ cls := "java/lang/Throwable", name := "<init>", desc := "(Ljava/lang/String;)V" } : Jvm.MethodName)) ∈ lw_tbl := lw_at lw_m4 224 rfl
theorem q1066 : (Jvm.Cond.lays "java/lang/Throwable" "java/lang/Throwable" "cause" "Ljava/lang/Throwable;") ∈ lw_all := lw_g (lw_at lw_m4 228 rfl) rfl
theorem q1068 : (Jvm.Cond.lays "java/lang/Throwable" "java/lang/Throwable" "stackTrace" "[Ljava/lang/StackTraceElement;") ∈ lw_all := lw_g (lw_at lw_m4 230 rfl) rfl
theorem q1070 : (Jvm.Cond.lays "java/lang/Throwable" "java/lang/Throwable" "suppressedExceptions" "Ljava/util/List;") ∈ lw_all := lw_g (lw_at lw_m4 232 rfl) rfl
theorem q1072 : (Jvm.Cond.lays "java/lang/Throwable" "java/lang/Throwable" "detailMessage" "Ljava/lang/String;") ∈ lw_all := lw_g (lw_at lw_m4 234 rfl) rfl
theorem q1074 : (Jvm.Cond.lays "java/lang/Throwable" "java/lang/Throwable" "backtrace" "Ljava/lang/Object;") ∈ lw_all := lw_g (lw_at lw_m4 236 rfl) rfl
theorem q1075 : (Jvm.Cond.fieldLink "java/lang/Throwable" (198 : Nat) "java/lang/Throwable" "backtrace" "Ljava/lang/Object;") ∈ lw_all := lw_g (lw_at lw_m4 237 rfl) rfl
theorem q1076 : (Jvm.Cond.superclass "java/lang/Throwable" "java/lang/Object") ∈ lw_all := lw_g (lw_at lw_m4 238 rfl) rfl
theorem q1077 : (Jvm.Cond.instanceMethod ({ cls := "java/lang/Throwable", name := "<init>", desc := "()V" } : Jvm.MethodName)) ∈ lw_all := lw_g (lw_at lw_m4 239 rfl) rfl
theorem q1078 : (Jvm.Cond.code ({ cls := "java/lang/Throwable", name := "<init>", desc := "()V" } : Jvm.MethodName) prog_40_method_1_code (1 : Nat) (Option.none : Option Jvm.ClassFile.FieldType)) ∈ lw_all := lw_g (lw_at lw_m5 0 rfl) rfl
theorem q1079 : (Jvm.Cond.methodLink "java/lang/Throwable" (1 : Nat) ({ cls := "java/lang/Object", name := "<init>", desc := "()V" } : Jvm.MethodName)) ∈ lw_all := lw_g (lw_at lw_m5 1 rfl) rfl
theorem q1080 : (Jvm.Cond.fieldLink "java/lang/Throwable" (13 : Nat) "java/lang/Throwable" "UNASSIGNED_STACK" "[Ljava/lang/StackTraceElement;") ∈ lw_all := lw_g (lw_at lw_m5 2 rfl) rfl
theorem q1081 : (Jvm.Cond.laysStatic "java/lang/Throwable" "UNASSIGNED_STACK" "[Ljava/lang/StackTraceElement;") ∈ lw_tbl := lw_at lw_m5 3 rfl
theorem q1082 : (Jvm.Cond.fieldLink "java/lang/Throwable" (20 : Nat) "java/lang/Throwable" "SUPPRESSED_SENTINEL" "Ljava/util/List;") ∈ lw_all := lw_g (lw_at lw_m5 4 rfl) rfl
theorem q1083 : (Jvm.Cond.laysStatic "java/lang/Throwable" "SUPPRESSED_SENTINEL" "Ljava/util/List;") ∈ lw_tbl := lw_at lw_m5 5 rfl
theorem q1084 : (Jvm.Cond.methodLink "java/lang/Throwable" (27 : Nat) ({ cls := "java/lang/Throwable", name := "fillInStackTrace", desc := "()Ljava/lang/Throwable;" } : Jvm.MethodName)) ∈ lw_all := lw_g (lw_at lw_m5 6 rfl) rfl
theorem q1085 : (Jvm.Cond.instanceMethod ({ cls := "java/lang/Throwable", name := "fillInStackTrace", desc := "()Ljava/lang/Throwable;" } : Jvm.MethodName)) ∈ lw_all := lw_g (lw_at lw_m5 7 rfl) rfl
theorem q1086 : (Jvm.Cond.sameMethod "java/lang/Throwable" "java/lang/Throwable" "fillInStackTrace" "()Ljava/lang/Throwable;") ∈ lw_all := lw_g (lw_at lw_m5 8 rfl) rfl
theorem q1089 : (Jvm.Cond.codeSync ({ cls := "java/lang/Throwable", name := "fillInStackTrace", desc := "()Ljava/lang/Throwable;" } : Jvm.MethodName) prog_40_method_18_code (1 : Nat) (Option.some (Jvm.ClassFile.FieldType.object "java/lang/Throwable"))) ∈ lw_all := lw_g (lw_at lw_m5 11 rfl) rfl
theorem q1090 : (Jvm.Cond.methodLink "java/lang/Throwable" (202 : Nat) ({ cls := "java/lang/Throwable", name := "fillInStackTrace", desc := "(I)Ljava/lang/Throwable;" } : Jvm.MethodName)) ∈ lw_all := lw_g (lw_at lw_m5 12 rfl) rfl
theorem q1091 : (Jvm.Cond.privateMethod ({ cls := "java/lang/Throwable", name := "fillInStackTrace", desc := "(I)Ljava/lang/Throwable;" } : Jvm.MethodName)) ∈ lw_tbl := lw_at lw_m5 13 rfl
theorem q1092 : (Jvm.Cond.instanceMethod ({ cls := "java/lang/Throwable", name := "fillInStackTrace", desc := "(I)Ljava/lang/Throwable;" } : Jvm.MethodName)) ∈ lw_all := lw_g (lw_at lw_m5 14 rfl) rfl
theorem q1093 : (Jvm.Cond.instantiable "java/lang/Throwable" (6 : Nat)) ∈ lw_all := lw_g (lw_at lw_m5 15 rfl) rfl
theorem q1094 : (Jvm.Cond.native ({ cls := "java/lang/Throwable", name := "fillInStackTrace", desc := "(I)Ljava/lang/Throwable;" } : Jvm.MethodName)) ∈ lw_all := lw_g (lw_at lw_m5 16 rfl) rfl
theorem q1105 : (Jvm.Cond.fieldLink "java/lang/Throwable" (198 : Nat) "java/lang/Throwable" "backtrace" "Ljava/lang/Object;") ∈ lw_all := lw_g (lw_at lw_m5 27 rfl) rfl
theorem q1106 : (Jvm.Cond.fieldLink "java/lang/Throwable" (31 : Nat) "java/lang/Throwable" "detailMessage" "Ljava/lang/String;") ∈ lw_all := lw_g (lw_at lw_m5 28 rfl) rfl
theorem q1107 : (Jvm.Cond.fieldLink "java/lang/Throwable" (7 : Nat) "java/lang/Throwable" "cause" "Ljava/lang/Throwable;") ∈ lw_all := lw_g (lw_at lw_m5 29 rfl) rfl
theorem q1108 : (Jvm.Cond.fieldLink "java/lang/Throwable" (17 : Nat) "java/lang/Throwable" "stackTrace" "[Ljava/lang/StackTraceElement;") ∈ lw_all := lw_g (lw_at lw_m5 30 rfl) rfl
theorem q1109 : (Jvm.Cond.fieldLink "java/lang/Throwable" (24 : Nat) "java/lang/Throwable" "suppressedExceptions" "Ljava/util/List;") ∈ lw_all := lw_g (lw_at lw_m5 31 rfl) rfl
theorem q1110 : (Jvm.Cond.soleField "java/lang/Throwable" "backtrace") ∈ lw_all := lw_g (lw_at lw_m5 32 rfl) rfl
theorem q1111 : (Jvm.Cond.soleField "java/lang/Throwable" "detailMessage") ∈ lw_all := lw_g (lw_at lw_m5 33 rfl) rfl
theorem q1112 : (Jvm.Cond.soleField "java/lang/Throwable" "cause") ∈ lw_all := lw_g (lw_at lw_m5 34 rfl) rfl
theorem q1113 : (Jvm.Cond.soleField "java/lang/Throwable" "stackTrace") ∈ lw_all := lw_g (lw_at lw_m5 35 rfl) rfl
theorem q1115 : (Jvm.Cond.soleField "java/lang/Throwable" "depth") ∈ lw_all := lw_g (lw_at lw_m5 37 rfl) rfl
theorem q1116 : (Jvm.Cond.soleField "java/lang/Throwable" "suppressedExceptions") ∈ lw_all := lw_g (lw_at lw_m5 38 rfl) rfl
theorem q1289 : (Jvm.Cond.instanceMethod ({ cls := "java/lang/Throwable", name := "<init>", desc := "(Ljava/lang/String;Ljava/lang/Throwable;ZZ)V" } : Jvm.MethodName)) ∈ lw_all := lw_g (lw_at lw_m5 211 rfl) rfl
theorem q1290 : (Jvm.Cond.code ({ cls := "java/lang/Throwable", name := "<init>", desc := "(Ljava/lang/String;Ljava/lang/Throwable;ZZ)V" } : Jvm.MethodName) prog_40_method_5_code (5 : Nat) (Option.none : Option Jvm.ClassFile.FieldType)) ∈ lw_all := lw_g (lw_at lw_m5 212 rfl) rfl
theorem q1647 : (Jvm.Cond.instanceMethod ({ cls := "java/lang/Throwable", name := "<init>", desc := "(Ljava/lang/String;)V" } : Jvm.MethodName)) ∈ lw_all := lw_g (lw_at lw_m7 89 rfl) rfl
theorem q1648 : (Jvm.Cond.code ({ cls := "java/lang/Throwable", name := "<init>", desc := "(Ljava/lang/String;)V" } : Jvm.MethodName) prog_40_method_2_code (2 : Nat) (Option.none : Option Jvm.ClassFile.FieldType)) ∈ lw_all := lw_g (lw_at lw_m7 90 rfl) rfl
theorem q2570 : (Jvm.Cond.sameMethod "java/lang/Throwable" "java/lang/Throwable" "fillInStackTrace" "(I)Ljava/lang/Throwable;") ∈ lw_all := lw_g (lw_at lw_m11 52 rfl) rfl
theorem q2609 : (Jvm.Cond.castable "java/lang/Throwable" "java/lang/Object") ∈ lw_tbl := lw_at lw_m11 91 rfl
theorem in_J10 : ∀ w ∈ wsJ100, w ∈ lw_all := lw_in wsJ100 [1066, 1068, 1070, 1072, 1074] (by decide +kernel) (by decide +kernel)
/-! java/lang/Exception -/
set_option maxRecDepth 100000
def RJ11 : String := "java/lang/Exception"
abbrev cJ11_init : ByteArray := prog_27_method_1_code
def yJ11_init : MethodName := ⟨RJ11, "<init>", "()V"⟩
theorem dJ11_init_0 : decode cJ11_init 0 = .ok (.aload_n 0, 1) := by decide +kernel
theorem dJ11_init_1 : decode cJ11_init 1 = .ok (.invokespecial 1, 3) := by decide +kernel
theorem dJ11_init_4 : decode cJ11_init 4 = .ok (.return_, 1) := by decide +kernel
abbrev cJ11_init_2 : ByteArray := prog_27_method_5_code
def yJ11_init_2 : MethodName := ⟨RJ11, "<init>", "(Ljava/lang/String;Ljava/lang/Throwable;ZZ)V"⟩
def dkwJ11_init_2_0 : List UInt8 := [42, 43, 44, 29, 21, 4, 183, 0, 16, 177]
abbrev dktJ11_init_2_0 : List UInt8 := dkwJ11_init_2_0 ++ []
theorem dksJ11_init_2_0 : cJ11_init_2.data.toList.drop 0 = dktJ11_init_2_0 := by decide +kernel
theorem dJ11_init_2_0 : decode cJ11_init_2 0 = .ok (.aload_n 0, 1) := dk_42 (dk_at dksJ11_init_2_0 0 rfl rfl)
theorem dJ11_init_2_1 : decode cJ11_init_2 1 = .ok (.aload_n 1, 1) := dk_43 (dk_at dksJ11_init_2_0 1 rfl rfl)
theorem dJ11_init_2_2 : decode cJ11_init_2 2 = .ok (.aload_n 2, 1) := dk_44 (dk_at dksJ11_init_2_0 2 rfl rfl)
theorem dJ11_init_2_3 : decode cJ11_init_2 3 = .ok (.iload_n 3, 1) := dk_29 (dk_at dksJ11_init_2_0 3 rfl rfl)
theorem dJ11_init_2_4 : decode cJ11_init_2 4 = .ok (.iload 4, 2) := dk_21 4 (dk_at dksJ11_init_2_0 4 rfl rfl)
theorem dJ11_init_2_6 : decode cJ11_init_2 6 = .ok (.invokespecial 16, 3) := dk_183 0 16 (dk_at dksJ11_init_2_0 6 rfl rfl)
theorem dJ11_init_2_9 : decode cJ11_init_2 9 = .ok (.return_, 1) := dk_177 (dk_at dksJ11_init_2_0 9 rfl rfl)
abbrev cJ11_init_3 : ByteArray := prog_27_method_2_code
def yJ11_init_3 : MethodName := ⟨RJ11, "<init>", "(Ljava/lang/String;)V"⟩
def dkwJ11_init_3_0 : List UInt8 := [42, 43, 183, 0, 7, 177]
abbrev dktJ11_init_3_0 : List UInt8 := dkwJ11_init_3_0 ++ []
theorem dksJ11_init_3_0 : cJ11_init_3.data.toList.drop 0 = dktJ11_init_3_0 := by decide +kernel
theorem dJ11_init_3_0 : decode cJ11_init_3 0 = .ok (.aload_n 0, 1) := dk_42 (dk_at dksJ11_init_3_0 0 rfl rfl)
theorem dJ11_init_3_1 : decode cJ11_init_3 1 = .ok (.aload_n 1, 1) := dk_43 (dk_at dksJ11_init_3_0 1 rfl rfl)
theorem dJ11_init_3_2 : decode cJ11_init_3 2 = .ok (.invokespecial 7, 3) := dk_183 0 7 (dk_at dksJ11_init_3_0 2 rfl rfl)
theorem dJ11_init_3_5 : decode cJ11_init_3 5 = .ok (.return_, 1) := dk_177 (dk_at dksJ11_init_3_0 5 rfl rfl)
theorem q138 : (Jvm.Cond.initialized "java/lang/Exception") ∈ lw_all := lw_g (lw_at lw_m1 20 rfl) rfl
theorem q1059 : (Jvm.Cond.declares ({ cls := "java/lang/Exception", name := "<init>", desc := "()V" } : Jvm.MethodName)) ∈ lw_tbl := lw_at lw_m4 221 rfl
theorem q1060 : (Jvm.Cond.declares ({ cls := "java/lang/Exception", name := "<init>", desc := "(Ljava/lang/String;)V" } : Jvm.MethodName)) ∈ lw_tbl := lw_at lw_m4 222 rfl
theorem q1102 : (Jvm.Cond.instanceMethod ({ cls := "java/lang/Exception", name := "<init>", desc := "()V" } : Jvm.MethodName)) ∈ lw_all := lw_g (lw_at lw_m5 24 rfl) rfl
theorem q1103 : (Jvm.Cond.code ({ cls := "java/lang/Exception", name := "<init>", desc := "()V" } : Jvm.MethodName) prog_27_method_1_code (1 : Nat) (Option.none : Option Jvm.ClassFile.FieldType)) ∈ lw_all := lw_g (lw_at lw_m5 25 rfl) rfl
theorem q1104 : (Jvm.Cond.methodLink "java/lang/Exception" (1 : Nat) ({ cls := "java/lang/Throwable", name := "<init>", desc := "()V" } : Jvm.MethodName)) ∈ lw_all := lw_g (lw_at lw_m5 26 rfl) rfl
theorem q1286 : (Jvm.Cond.instanceMethod ({ cls := "java/lang/Exception", name := "<init>", desc := "(Ljava/lang/String;Ljava/lang/Throwable;ZZ)V" } : Jvm.MethodName)) ∈ lw_all := lw_g (lw_at lw_m5 208 rfl) rfl
theorem q1287 : (Jvm.Cond.code ({ cls := "java/lang/Exception", name := "<init>", desc := "(Ljava/lang/String;Ljava/lang/Throwable;ZZ)V" } : Jvm.MethodName) prog_27_method_5_code (5 : Nat) (Option.none : Option Jvm.ClassFile.FieldType)) ∈ lw_all := lw_g (lw_at lw_m5 209 rfl) rfl
theorem q1288 : (Jvm.Cond.methodLink "java/lang/Exception" (16 : Nat) ({ cls := "java/lang/Throwable", name := "<init>", desc := "(Ljava/lang/String;Ljava/lang/Throwable;ZZ)V" } : Jvm.MethodName)) ∈ lw_all := lw_g (lw_at lw_m5 210 rfl) rfl
theorem q1644 : (Jvm.Cond.instanceMethod ({ cls := "java/lang/Exception", name := "<init>", desc := "(Ljava/lang/String;)V" } : Jvm.MethodName)) ∈ lw_all := lw_g (lw_at lw_m7 86 rfl) rfl
theorem q1645 : (Jvm.Cond.code ({ cls := "java/lang/Exception", name := "<init>", desc := "(Ljava/lang/String;)V" } : Jvm.MethodName) prog_27_method_2_code (2 : Nat) (Option.none : Option Jvm.ClassFile.FieldType)) ∈ lw_all := lw_g (lw_at lw_m7 87 rfl) rfl
theorem q1646 : (Jvm.Cond.methodLink "java/lang/Exception" (7 : Nat) ({ cls := "java/lang/Throwable", name := "<init>", desc := "(Ljava/lang/String;)V" } : Jvm.MethodName)) ∈ lw_all := lw_g (lw_at lw_m7 88 rfl) rfl
/-! java/lang/RuntimeException -/
set_option maxRecDepth 100000
def RJ12 : String := "java/lang/RuntimeException"
abbrev cJ12_init : ByteArray := prog_34_method_1_code
def yJ12_init : MethodName := ⟨RJ12, "<init>", "()V"⟩
theorem dJ12_init_0 : decode cJ12_init 0 = .ok (.aload_n 0, 1) := by decide +kernel
theorem dJ12_init_1 : decode cJ12_init 1 = .ok (.invokespecial 1, 3) := by decide +kernel
theorem dJ12_init_4 : decode cJ12_init 4 = .ok (.return_, 1) := by decide +kernel
abbrev cJ12_init_2 : ByteArray := prog_34_method_2_code
def yJ12_init_2 : MethodName := ⟨RJ12, "<init>", "(Ljava/lang/String;)V"⟩
def dkwJ12_init_2_0 : List UInt8 := [42, 43, 183, 0, 7, 177]
abbrev dktJ12_init_2_0 : List UInt8 := dkwJ12_init_2_0 ++ []
theorem dksJ12_init_2_0 : cJ12_init_2.data.toList.drop 0 = dktJ12_init_2_0 := by decide +kernel
theorem dJ12_init_2_0 : decode cJ12_init_2 0 = .ok (.aload_n 0, 1) := dk_42 (dk_at dksJ12_init_2_0 0 rfl rfl)
theorem dJ12_init_2_1 : decode cJ12_init_2 1 = .ok (.aload_n 1, 1) := dk_43 (dk_at dksJ12_init_2_0 1 rfl rfl)
theorem dJ12_init_2_2 : decode cJ12_init_2 2 = .ok (.invokespecial 7, 3) := dk_183 0 7 (dk_at dksJ12_init_2_0 2 rfl rfl)
theorem dJ12_init_2_5 : decode cJ12_init_2 5 = .ok (.return_, 1) := dk_177 (dk_at dksJ12_init_2_0 5 rfl rfl)
theorem q139 : (Jvm.Cond.initialized "java/lang/RuntimeException") ∈ lw_all := lw_g (lw_at lw_m1 21 rfl) rfl
theorem q1057 : (Jvm.Cond.declares ({ cls := "java/lang/RuntimeException", name := "<init>", desc := "()V" } : Jvm.MethodName)) ∈ lw_tbl := lw_at lw_m4 219 rfl
theorem q1058 : (Jvm.Cond.declares ({ cls := "java/lang/RuntimeException", name := "<init>", desc := "(Ljava/lang/String;)V" } : Jvm.MethodName)) ∈ lw_tbl := lw_at lw_m4 220 rfl
theorem q1099 : (Jvm.Cond.instanceMethod ({ cls := "java/lang/RuntimeException", name := "<init>", desc := "()V" } : Jvm.MethodName)) ∈ lw_all := lw_g (lw_at lw_m5 21 rfl) rfl
theorem q1100 : (Jvm.Cond.code ({ cls := "java/lang/RuntimeException", name := "<init>", desc := "()V" } : Jvm.MethodName) prog_34_method_1_code (1 : Nat) (Option.none : Option Jvm.ClassFile.FieldType)) ∈ lw_all := lw_g (lw_at lw_m5 22 rfl) rfl
theorem q1101 : (Jvm.Cond.methodLink "java/lang/RuntimeException" (1 : Nat) ({ cls := "java/lang/Exception", name := "<init>", desc := "()V" } : Jvm.MethodName)) ∈ lw_all := lw_g (lw_at lw_m5 23 rfl) rfl
theorem q1641 : (Jvm.Cond.instanceMethod ({ cls := "java/lang/RuntimeException", name := "<init>", desc := "(Ljava/lang/String;)V" } : Jvm.MethodName)) ∈ lw_all := lw_g (lw_at lw_m7 83 rfl) rfl
theorem q1642 : (Jvm.Cond.code ({ cls := "java/lang/RuntimeException", name := "<init>", desc := "(Ljava/lang/String;)V" } : Jvm.MethodName) prog_34_method_2_code (2 : Nat) (Option.none : Option Jvm.ClassFile.FieldType)) ∈ lw_all := lw_g (lw_at lw_m7 84 rfl) rfl
theorem q1643 : (Jvm.Cond.methodLink "java/lang/RuntimeException" (7 : Nat) ({ cls := "java/lang/Exception", name := "<init>", desc := "(Ljava/lang/String;)V" } : Jvm.MethodName)) ∈ lw_all := lw_g (lw_at lw_m7 85 rfl) rfl
/-! java/lang/IllegalArgumentException -/
set_option maxRecDepth 100000
def RJ13 : String := "java/lang/IllegalArgumentException"
def TJ13 : u_T := fun k => match k with
  | 0 => ("java/lang/Throwable", "cause", "Ljava/lang/Throwable;", false)
  | 1 => ("java/lang/Throwable", "stackTrace", "[Ljava/lang/StackTraceElement;", false)
  | 2 => ("java/lang/Throwable", "suppressedExceptions", "Ljava/util/List;", false)
  | 3 => ("java/lang/Throwable", "detailMessage", "Ljava/lang/String;", false)
  | 4 => ("java/lang/Throwable", "backtrace", "Ljava/lang/Object;", false)
  | _ => ("java/lang/Throwable", "depth", "I", false)
def tyJ13 : Nat → FieldType := fun k => match k with
  | 0 => .object "java/lang/Throwable"
  | 1 => .array (.object "java/lang/StackTraceElement")
  | 2 => .object "java/util/List"
  | 3 => .object "java/lang/String"
  | 4 => .object "java/lang/Object"
  | _ => .int
abbrev wsJ130 : List Cond := u_ws RJ13 TJ13 6
theorem nmJ13 : ∀ a, a < 6 → ∀ b, b < 6 → a ≠ b → (TJ13 a).2.1 ≠ (TJ13 b).2.1 := by decide +kernel
theorem tyJ13_ok : ∀ k, k < 6 → parseFieldDescriptor (TJ13 k).2.2.1 = some (tyJ13 k) := by decide +kernel
abbrev cJ13_init : ByteArray := prog_28_method_1_code
def yJ13_init : MethodName := ⟨RJ13, "<init>", "()V"⟩
theorem dJ13_init_0 : decode cJ13_init 0 = .ok (.aload_n 0, 1) := by decide +kernel
theorem dJ13_init_1 : decode cJ13_init 1 = .ok (.invokespecial 1, 3) := by decide +kernel
theorem dJ13_init_4 : decode cJ13_init 4 = .ok (.return_, 1) := by decide +kernel
abbrev cJ13_init_2 : ByteArray := prog_28_method_2_code
def yJ13_init_2 : MethodName := ⟨RJ13, "<init>", "(Ljava/lang/String;)V"⟩
def dkwJ13_init_2_0 : List UInt8 := [42, 43, 183, 0, 7, 177]
abbrev dktJ13_init_2_0 : List UInt8 := dkwJ13_init_2_0 ++ []
theorem dksJ13_init_2_0 : cJ13_init_2.data.toList.drop 0 = dktJ13_init_2_0 := by decide +kernel
theorem dJ13_init_2_0 : decode cJ13_init_2 0 = .ok (.aload_n 0, 1) := dk_42 (dk_at dksJ13_init_2_0 0 rfl rfl)
theorem dJ13_init_2_1 : decode cJ13_init_2 1 = .ok (.aload_n 1, 1) := dk_43 (dk_at dksJ13_init_2_0 1 rfl rfl)
theorem dJ13_init_2_2 : decode cJ13_init_2 2 = .ok (.invokespecial 7, 3) := dk_183 0 7 (dk_at dksJ13_init_2_0 2 rfl rfl)
theorem dJ13_init_2_5 : decode cJ13_init_2 5 = .ok (.return_, 1) := dk_177 (dk_at dksJ13_init_2_0 5 rfl rfl)
theorem q140 : (Jvm.Cond.initialized "java/lang/IllegalArgumentException") ∈ lw_all := lw_g (lw_at lw_m1 22 rfl) rfl
theorem q871 : (Jvm.Cond.selects "java/lang/IllegalArgumentException" ({ cls := "java/lang/Object", name := "getClass", desc := "()Ljava/lang/Class;" } : Jvm.MethodName) ({ cls := "java/lang/Object", name := "getClass", desc := "()Ljava/lang/Class;" } : Jvm.MethodName)) ∈ lw_all := lw_g (lw_at lw_m4 33 rfl) rfl
theorem q1055 : (Jvm.Cond.instantiable "java/lang/IllegalArgumentException" (6 : Nat)) ∈ lw_all := lw_g (lw_at lw_m4 217 rfl) rfl
theorem q1056 : (Jvm.Cond.castable "java/lang/IllegalArgumentException" "java/lang/IllegalArgumentException") ∈ lw_tbl := lw_at lw_m4 218 rfl
theorem q1063 : (Jvm.Cond.selects "java/lang/IllegalArgumentException" ({ cls := "java/lang/Throwable", name := "fillInStackTrace", desc := "(I)Ljava/lang/Throwable;" } : Jvm.MethodName) ({ cls := "java/lang/Throwable", name := "fillInStackTrace", desc := "(I)Ljava/lang/Throwable;" } : Jvm.MethodName)) ∈ lw_all := lw_g (lw_at lw_m4 225 rfl) rfl
theorem q1064 : (Jvm.Cond.selects "java/lang/IllegalArgumentException" ({ cls := "java/lang/Throwable", name := "fillInStackTrace", desc := "()Ljava/lang/Throwable;" } : Jvm.MethodName) ({ cls := "java/lang/Throwable", name := "fillInStackTrace", desc := "()Ljava/lang/Throwable;" } : Jvm.MethodName)) ∈ lw_all := lw_g (lw_at lw_m4 226 rfl) rfl
theorem q1065 : (Jvm.Cond.lays "java/lang/IllegalArgumentException" "java/lang/Throwable" "cause" "Ljava/lang/Throwable;") ∈ lw_all := lw_g (lw_at lw_m4 227 rfl) rfl
theorem q1067 : (Jvm.Cond.lays "java/lang/IllegalArgumentException" "java/lang/Throwable" "stackTrace" "[Ljava/lang/StackTraceElement;") ∈ lw_all := lw_g (lw_at lw_m4 229 rfl) rfl
theorem q1069 : (Jvm.Cond.lays "java/lang/IllegalArgumentException" "java/lang/Throwable" "suppressedExceptions" "Ljava/util/List;") ∈ lw_all := lw_g (lw_at lw_m4 231 rfl) rfl
theorem q1071 : (Jvm.Cond.lays "java/lang/IllegalArgumentException" "java/lang/Throwable" "detailMessage" "Ljava/lang/String;") ∈ lw_all := lw_g (lw_at lw_m4 233 rfl) rfl
theorem q1073 : (Jvm.Cond.lays "java/lang/IllegalArgumentException" "java/lang/Throwable" "backtrace" "Ljava/lang/Object;") ∈ lw_all := lw_g (lw_at lw_m4 235 rfl) rfl
theorem q1096 : (Jvm.Cond.instanceMethod ({ cls := "java/lang/IllegalArgumentException", name := "<init>", desc := "()V" } : Jvm.MethodName)) ∈ lw_all := lw_g (lw_at lw_m5 18 rfl) rfl
theorem q1097 : (Jvm.Cond.code ({ cls := "java/lang/IllegalArgumentException", name := "<init>", desc := "()V" } : Jvm.MethodName) prog_28_method_1_code (1 : Nat) (Option.none : Option Jvm.ClassFile.FieldType)) ∈ lw_all := lw_g (lw_at lw_m5 19 rfl) rfl
theorem q1098 : (Jvm.Cond.methodLink "java/lang/IllegalArgumentException" (1 : Nat) ({ cls := "java/lang/RuntimeException", name := "<init>", desc := "()V" } : Jvm.MethodName)) ∈ lw_all := lw_g (lw_at lw_m5 20 rfl) rfl
theorem q1114 : (Jvm.Cond.lays "java/lang/IllegalArgumentException" "java/lang/Throwable" "depth" "I") ∈ lw_all := lw_g (lw_at lw_m5 36 rfl) rfl
theorem q1117 : (Jvm.Cond.superclass "java/lang/IllegalArgumentException" "java/lang/RuntimeException") ∈ lw_all := lw_g (lw_at lw_m5 39 rfl) rfl
theorem q1638 : (Jvm.Cond.instanceMethod ({ cls := "java/lang/IllegalArgumentException", name := "<init>", desc := "(Ljava/lang/String;)V" } : Jvm.MethodName)) ∈ lw_all := lw_g (lw_at lw_m7 80 rfl) rfl
theorem q1639 : (Jvm.Cond.code ({ cls := "java/lang/IllegalArgumentException", name := "<init>", desc := "(Ljava/lang/String;)V" } : Jvm.MethodName) prog_28_method_2_code (2 : Nat) (Option.none : Option Jvm.ClassFile.FieldType)) ∈ lw_all := lw_g (lw_at lw_m7 81 rfl) rfl
theorem q1640 : (Jvm.Cond.methodLink "java/lang/IllegalArgumentException" (7 : Nat) ({ cls := "java/lang/RuntimeException", name := "<init>", desc := "(Ljava/lang/String;)V" } : Jvm.MethodName)) ∈ lw_all := lw_g (lw_at lw_m7 82 rfl) rfl
theorem q2593 : (Jvm.Cond.castable "java/lang/IllegalArgumentException" "java/lang/Object") ∈ lw_tbl := lw_at lw_m11 75 rfl
theorem in_J13 : ∀ w ∈ wsJ130, w ∈ lw_all := lw_in wsJ130 [1065, 1067, 1069, 1071, 1073, 1114] (by decide +kernel) (by decide +kernel)
/-! java/lang/StringLatin1 -/
set_option maxRecDepth 100000
def RJ14 : String := "java/lang/StringLatin1"
abbrev cJ14_indexOf : ByteArray := prog_37_method_22_code
def yJ14_indexOf : MethodName := ⟨RJ14, "indexOf", "([BIII)I"⟩
def dkwJ14_indexOf_1 : List UInt8 := [161, 0, 5, 2, 172, 42, 27, 28, 29, 184, 0, 95, 172]
abbrev dktJ14_indexOf_1 : List UInt8 := dkwJ14_indexOf_1 ++ []
def dkwJ14_indexOf_0 : List UInt8 := [27, 184, 0, 88, 154, 0, 5, 2, 172, 28, 3, 184, 0, 92, 61, 29, 42, 190, 184, 0, 38, 62, 28, 29]
abbrev dktJ14_indexOf_0 : List UInt8 := dkwJ14_indexOf_0 ++ dktJ14_indexOf_1
theorem dksJ14_indexOf_0 : cJ14_indexOf.data.toList.drop 0 = dktJ14_indexOf_0 := by decide +kernel
theorem dksJ14_indexOf_1 : cJ14_indexOf.data.toList.drop 24 = dktJ14_indexOf_1 := dk_seg dksJ14_indexOf_0 24 rfl rfl
theorem dJ14_indexOf_0 : decode cJ14_indexOf 0 = .ok (.iload_n 1, 1) := dk_27 (dk_at dksJ14_indexOf_0 0 rfl rfl)
theorem dJ14_indexOf_1 : decode cJ14_indexOf 1 = .ok (.invokestatic 88, 3) := dk_184 0 88 (dk_at dksJ14_indexOf_0 1 rfl rfl)
theorem dJ14_indexOf_4 : decode cJ14_indexOf 4 = .ok (.ifCond .ne 5, 3) := dk_154 0 5 (dk_at dksJ14_indexOf_0 4 rfl rfl)
theorem dJ14_indexOf_7 : decode cJ14_indexOf 7 = .ok (.iconst (-1), 1) := dk_2 (dk_at dksJ14_indexOf_0 7 rfl rfl)
theorem dJ14_indexOf_8 : decode cJ14_indexOf 8 = .ok (.ireturn, 1) := dk_172 (dk_at dksJ14_indexOf_0 8 rfl rfl)
theorem dJ14_indexOf_9 : decode cJ14_indexOf 9 = .ok (.iload_n 2, 1) := dk_28 (dk_at dksJ14_indexOf_0 9 rfl rfl)
theorem dJ14_indexOf_10 : decode cJ14_indexOf 10 = .ok (.iconst 0, 1) := dk_3 (dk_at dksJ14_indexOf_0 10 rfl rfl)
theorem dJ14_indexOf_11 : decode cJ14_indexOf 11 = .ok (.invokestatic 92, 3) := dk_184 0 92 (dk_at dksJ14_indexOf_0 11 rfl rfl)
theorem dJ14_indexOf_14 : decode cJ14_indexOf 14 = .ok (.istore_n 2, 1) := dk_61 (dk_at dksJ14_indexOf_0 14 rfl rfl)
theorem dJ14_indexOf_15 : decode cJ14_indexOf 15 = .ok (.iload_n 3, 1) := dk_29 (dk_at dksJ14_indexOf_0 15 rfl rfl)
theorem dJ14_indexOf_16 : decode cJ14_indexOf 16 = .ok (.aload_n 0, 1) := dk_42 (dk_at dksJ14_indexOf_0 16 rfl rfl)
theorem dJ14_indexOf_17 : decode cJ14_indexOf 17 = .ok (.arraylength, 1) := dk_190 (dk_at dksJ14_indexOf_0 17 rfl rfl)
theorem dJ14_indexOf_18 : decode cJ14_indexOf 18 = .ok (.invokestatic 38, 3) := dk_184 0 38 (dk_at dksJ14_indexOf_0 18 rfl rfl)
theorem dJ14_indexOf_21 : decode cJ14_indexOf 21 = .ok (.istore_n 3, 1) := dk_62 (dk_at dksJ14_indexOf_0 21 rfl rfl)
theorem dJ14_indexOf_22 : decode cJ14_indexOf 22 = .ok (.iload_n 2, 1) := dk_28 (dk_at dksJ14_indexOf_0 22 rfl rfl)
theorem dJ14_indexOf_23 : decode cJ14_indexOf 23 = .ok (.iload_n 3, 1) := dk_29 (dk_at dksJ14_indexOf_0 23 rfl rfl)
theorem dJ14_indexOf_24 : decode cJ14_indexOf 24 = .ok (.if_icmp .lt 5, 3) := dk_161 0 5 (dk_at dksJ14_indexOf_1 0 rfl rfl)
theorem dJ14_indexOf_27 : decode cJ14_indexOf 27 = .ok (.iconst (-1), 1) := dk_2 (dk_at dksJ14_indexOf_1 3 rfl rfl)
theorem dJ14_indexOf_28 : decode cJ14_indexOf 28 = .ok (.ireturn, 1) := dk_172 (dk_at dksJ14_indexOf_1 4 rfl rfl)
theorem dJ14_indexOf_29 : decode cJ14_indexOf 29 = .ok (.aload_n 0, 1) := dk_42 (dk_at dksJ14_indexOf_1 5 rfl rfl)
theorem dJ14_indexOf_30 : decode cJ14_indexOf 30 = .ok (.iload_n 1, 1) := dk_27 (dk_at dksJ14_indexOf_1 6 rfl rfl)
theorem dJ14_indexOf_31 : decode cJ14_indexOf 31 = .ok (.iload_n 2, 1) := dk_28 (dk_at dksJ14_indexOf_1 7 rfl rfl)
theorem dJ14_indexOf_32 : decode cJ14_indexOf 32 = .ok (.iload_n 3, 1) := dk_29 (dk_at dksJ14_indexOf_1 8 rfl rfl)
theorem dJ14_indexOf_33 : decode cJ14_indexOf 33 = .ok (.invokestatic 95, 3) := dk_184 0 95 (dk_at dksJ14_indexOf_1 9 rfl rfl)
theorem dJ14_indexOf_36 : decode cJ14_indexOf 36 = .ok (.ireturn, 1) := dk_172 (dk_at dksJ14_indexOf_1 12 rfl rfl)
abbrev cJ14_canEncode : ByteArray := prog_37_method_4_code
def yJ14_canEncode : MethodName := ⟨RJ14, "canEncode", "(I)Z"⟩
def dkwJ14_canEncode_0 : List UInt8 := [26, 155, 0, 14, 26, 17, 0, 255, 163, 0, 7, 4, 167, 0, 4, 3, 172]
abbrev dktJ14_canEncode_0 : List UInt8 := dkwJ14_canEncode_0 ++ []
theorem dksJ14_canEncode_0 : cJ14_canEncode.data.toList.drop 0 = dktJ14_canEncode_0 := by decide +kernel
theorem dJ14_canEncode_0 : decode cJ14_canEncode 0 = .ok (.iload_n 0, 1) := dk_26 (dk_at dksJ14_canEncode_0 0 rfl rfl)
theorem dJ14_canEncode_1 : decode cJ14_canEncode 1 = .ok (.ifCond .lt 14, 3) := dk_155 0 14 (dk_at dksJ14_canEncode_0 1 rfl rfl)
theorem dJ14_canEncode_4 : decode cJ14_canEncode 4 = .ok (.iload_n 0, 1) := dk_26 (dk_at dksJ14_canEncode_0 4 rfl rfl)
theorem dJ14_canEncode_5 : decode cJ14_canEncode 5 = .ok (.sipush 255, 3) := dk_17 0 255 (dk_at dksJ14_canEncode_0 5 rfl rfl)
theorem dJ14_canEncode_8 : decode cJ14_canEncode 8 = .ok (.if_icmp .gt 7, 3) := dk_163 0 7 (dk_at dksJ14_canEncode_0 8 rfl rfl)
theorem dJ14_canEncode_11 : decode cJ14_canEncode 11 = .ok (.iconst 1, 1) := dk_4 (dk_at dksJ14_canEncode_0 11 rfl rfl)
theorem dJ14_canEncode_12 : decode cJ14_canEncode 12 = .ok (.goto 4, 3) := dk_167 0 4 (dk_at dksJ14_canEncode_0 12 rfl rfl)
theorem dJ14_canEncode_15 : decode cJ14_canEncode 15 = .ok (.iconst 0, 1) := dk_3 (dk_at dksJ14_canEncode_0 15 rfl rfl)
theorem dJ14_canEncode_16 : decode cJ14_canEncode 16 = .ok (.ireturn, 1) := dk_172 (dk_at dksJ14_canEncode_0 16 rfl rfl)
abbrev cJ14_indexOfChar : ByteArray := prog_37_method_23_code
def yJ14_indexOfChar : MethodName := ⟨RJ14, "indexOfChar", "([BIII)I"⟩
def dkwJ14_indexOfChar_1 : List UInt8 := [172, 132, 5, 1, 167, 255, 235, 2, 172]
abbrev dktJ14_indexOfChar_1 : List UInt8 := dkwJ14_indexOfChar_1 ++ []
def dkwJ14_indexOfChar_0 : List UInt8 := [27, 145, 54, 4, 28, 54, 5, 21, 5, 29, 162, 0, 21, 42, 21, 5, 51, 21, 4, 160, 0, 6, 21, 5]
abbrev dktJ14_indexOfChar_0 : List UInt8 := dkwJ14_indexOfChar_0 ++ dktJ14_indexOfChar_1
theorem dksJ14_indexOfChar_0 : cJ14_indexOfChar.data.toList.drop 0 = dktJ14_indexOfChar_0 := by decide +kernel
theorem dksJ14_indexOfChar_1 : cJ14_indexOfChar.data.toList.drop 24 = dktJ14_indexOfChar_1 := dk_seg dksJ14_indexOfChar_0 24 rfl rfl
theorem dJ14_indexOfChar_0 : decode cJ14_indexOfChar 0 = .ok (.iload_n 1, 1) := dk_27 (dk_at dksJ14_indexOfChar_0 0 rfl rfl)
theorem dJ14_indexOfChar_1 : decode cJ14_indexOfChar 1 = .ok (.i2b, 1) := dk_145 (dk_at dksJ14_indexOfChar_0 1 rfl rfl)
theorem dJ14_indexOfChar_2 : decode cJ14_indexOfChar 2 = .ok (.istore 4, 2) := dk_54 4 (dk_at dksJ14_indexOfChar_0 2 rfl rfl)
theorem dJ14_indexOfChar_4 : decode cJ14_indexOfChar 4 = .ok (.iload_n 2, 1) := dk_28 (dk_at dksJ14_indexOfChar_0 4 rfl rfl)
theorem dJ14_indexOfChar_5 : decode cJ14_indexOfChar 5 = .ok (.istore 5, 2) := dk_54 5 (dk_at dksJ14_indexOfChar_0 5 rfl rfl)
theorem dJ14_indexOfChar_7 : decode cJ14_indexOfChar 7 = .ok (.iload 5, 2) := dk_21 5 (dk_at dksJ14_indexOfChar_0 7 rfl rfl)
theorem dJ14_indexOfChar_9 : decode cJ14_indexOfChar 9 = .ok (.iload_n 3, 1) := dk_29 (dk_at dksJ14_indexOfChar_0 9 rfl rfl)
theorem dJ14_indexOfChar_10 : decode cJ14_indexOfChar 10 = .ok (.if_icmp .ge 21, 3) := dk_162 0 21 (dk_at dksJ14_indexOfChar_0 10 rfl rfl)
theorem dJ14_indexOfChar_13 : decode cJ14_indexOfChar 13 = .ok (.aload_n 0, 1) := dk_42 (dk_at dksJ14_indexOfChar_0 13 rfl rfl)
theorem dJ14_indexOfChar_14 : decode cJ14_indexOfChar 14 = .ok (.iload 5, 2) := dk_21 5 (dk_at dksJ14_indexOfChar_0 14 rfl rfl)
theorem dJ14_indexOfChar_16 : decode cJ14_indexOfChar 16 = .ok (.baload, 1) := dk_51 (dk_at dksJ14_indexOfChar_0 16 rfl rfl)
theorem dJ14_indexOfChar_17 : decode cJ14_indexOfChar 17 = .ok (.iload 4, 2) := dk_21 4 (dk_at dksJ14_indexOfChar_0 17 rfl rfl)
theorem dJ14_indexOfChar_19 : decode cJ14_indexOfChar 19 = .ok (.if_icmp .ne 6, 3) := dk_160 0 6 (dk_at dksJ14_indexOfChar_0 19 rfl rfl)
theorem dJ14_indexOfChar_22 : decode cJ14_indexOfChar 22 = .ok (.iload 5, 2) := dk_21 5 (dk_at dksJ14_indexOfChar_0 22 rfl rfl)
theorem dJ14_indexOfChar_24 : decode cJ14_indexOfChar 24 = .ok (.ireturn, 1) := dk_172 (dk_at dksJ14_indexOfChar_1 0 rfl rfl)
theorem dJ14_indexOfChar_25 : decode cJ14_indexOfChar 25 = .ok (.iinc 5 1, 3) := dk_132 5 1 (dk_at dksJ14_indexOfChar_1 1 rfl rfl)
theorem dJ14_indexOfChar_28 : decode cJ14_indexOfChar 28 = .ok (.goto (-21), 3) := dk_167 255 235 (dk_at dksJ14_indexOfChar_1 4 rfl rfl)
theorem dJ14_indexOfChar_31 : decode cJ14_indexOfChar 31 = .ok (.iconst (-1), 1) := dk_2 (dk_at dksJ14_indexOfChar_1 7 rfl rfl)
theorem dJ14_indexOfChar_32 : decode cJ14_indexOfChar 32 = .ok (.ireturn, 1) := dk_172 (dk_at dksJ14_indexOfChar_1 8 rfl rfl)
abbrev cJ14_charAt : ByteArray := prog_37_method_2_code
def yJ14_charAt : MethodName := ⟨RJ14, "charAt", "([BI)C"⟩
def dkwJ14_charAt_0 : List UInt8 := [27, 42, 190, 184, 0, 9, 42, 27, 51, 17, 0, 255, 126, 146, 172]
abbrev dktJ14_charAt_0 : List UInt8 := dkwJ14_charAt_0 ++ []
theorem dksJ14_charAt_0 : cJ14_charAt.data.toList.drop 0 = dktJ14_charAt_0 := by decide +kernel
theorem dJ14_charAt_0 : decode cJ14_charAt 0 = .ok (.iload_n 1, 1) := dk_27 (dk_at dksJ14_charAt_0 0 rfl rfl)
theorem dJ14_charAt_1 : decode cJ14_charAt 1 = .ok (.aload_n 0, 1) := dk_42 (dk_at dksJ14_charAt_0 1 rfl rfl)
theorem dJ14_charAt_2 : decode cJ14_charAt 2 = .ok (.arraylength, 1) := dk_190 (dk_at dksJ14_charAt_0 2 rfl rfl)
theorem dJ14_charAt_3 : decode cJ14_charAt 3 = .ok (.invokestatic 9, 3) := dk_184 0 9 (dk_at dksJ14_charAt_0 3 rfl rfl)
theorem dJ14_charAt_6 : decode cJ14_charAt 6 = .ok (.aload_n 0, 1) := dk_42 (dk_at dksJ14_charAt_0 6 rfl rfl)
theorem dJ14_charAt_7 : decode cJ14_charAt 7 = .ok (.iload_n 1, 1) := dk_27 (dk_at dksJ14_charAt_0 7 rfl rfl)
theorem dJ14_charAt_8 : decode cJ14_charAt 8 = .ok (.baload, 1) := dk_51 (dk_at dksJ14_charAt_0 8 rfl rfl)
theorem dJ14_charAt_9 : decode cJ14_charAt 9 = .ok (.sipush 255, 3) := dk_17 0 255 (dk_at dksJ14_charAt_0 9 rfl rfl)
theorem dJ14_charAt_12 : decode cJ14_charAt 12 = .ok (.iand, 1) := dk_126 (dk_at dksJ14_charAt_0 12 rfl rfl)
theorem dJ14_charAt_13 : decode cJ14_charAt 13 = .ok (.i2c, 1) := dk_146 (dk_at dksJ14_charAt_0 13 rfl rfl)
theorem dJ14_charAt_14 : decode cJ14_charAt 14 = .ok (.ireturn, 1) := dk_172 (dk_at dksJ14_charAt_0 14 rfl rfl)
abbrev cJ14_newString : ByteArray := prog_37_method_47_code
def yJ14_newString : MethodName := ⟨RJ14, "newString", "([BII)Ljava/lang/String;"⟩
def dkwJ14_newString_0 : List UInt8 := [28, 154, 0, 6, 18, 151, 176, 187, 0, 1, 89, 42, 27, 27, 28, 96, 184, 0, 232, 3, 183, 0, 112, 176]
abbrev dktJ14_newString_0 : List UInt8 := dkwJ14_newString_0 ++ []
theorem dksJ14_newString_0 : cJ14_newString.data.toList.drop 0 = dktJ14_newString_0 := by decide +kernel
theorem dJ14_newString_0 : decode cJ14_newString 0 = .ok (.iload_n 2, 1) := dk_28 (dk_at dksJ14_newString_0 0 rfl rfl)
theorem dJ14_newString_1 : decode cJ14_newString 1 = .ok (.ifCond .ne 6, 3) := dk_154 0 6 (dk_at dksJ14_newString_0 1 rfl rfl)
theorem dJ14_newString_4 : decode cJ14_newString 4 = .ok (.ldc 151, 2) := dk_18 151 (dk_at dksJ14_newString_0 4 rfl rfl)
theorem dJ14_newString_6 : decode cJ14_newString 6 = .ok (.areturn, 1) := dk_176 (dk_at dksJ14_newString_0 6 rfl rfl)
theorem dJ14_newString_7 : decode cJ14_newString 7 = .ok (.new 1, 3) := dk_187 0 1 (dk_at dksJ14_newString_0 7 rfl rfl)
theorem dJ14_newString_10 : decode cJ14_newString 10 = .ok (.dup, 1) := dk_89 (dk_at dksJ14_newString_0 10 rfl rfl)
theorem dJ14_newString_11 : decode cJ14_newString 11 = .ok (.aload_n 0, 1) := dk_42 (dk_at dksJ14_newString_0 11 rfl rfl)
theorem dJ14_newString_12 : decode cJ14_newString 12 = .ok (.iload_n 1, 1) := dk_27 (dk_at dksJ14_newString_0 12 rfl rfl)
theorem dJ14_newString_13 : decode cJ14_newString 13 = .ok (.iload_n 1, 1) := dk_27 (dk_at dksJ14_newString_0 13 rfl rfl)
theorem dJ14_newString_14 : decode cJ14_newString 14 = .ok (.iload_n 2, 1) := dk_28 (dk_at dksJ14_newString_0 14 rfl rfl)
theorem dJ14_newString_15 : decode cJ14_newString 15 = .ok (.iadd, 1) := dk_96 (dk_at dksJ14_newString_0 15 rfl rfl)
theorem dJ14_newString_16 : decode cJ14_newString 16 = .ok (.invokestatic 232, 3) := dk_184 0 232 (dk_at dksJ14_newString_0 16 rfl rfl)
theorem dJ14_newString_19 : decode cJ14_newString 19 = .ok (.iconst 0, 1) := dk_3 (dk_at dksJ14_newString_0 19 rfl rfl)
theorem dJ14_newString_20 : decode cJ14_newString 20 = .ok (.invokespecial 112, 3) := dk_183 0 112 (dk_at dksJ14_newString_0 20 rfl rfl)
theorem dJ14_newString_23 : decode cJ14_newString 23 = .ok (.areturn, 1) := dk_176 (dk_at dksJ14_newString_0 23 rfl rfl)
abbrev cJ14_inflate : ByteArray := prog_37_method_50_code
def yJ14_inflate : MethodName := ⟨RJ14, "inflate", "([BI[BII)V"⟩
def dkwJ14_inflate_0 : List UInt8 := [42, 27, 44, 29, 21, 4, 184, 0, 240, 177]
abbrev dktJ14_inflate_0 : List UInt8 := dkwJ14_inflate_0 ++ []
theorem dksJ14_inflate_0 : cJ14_inflate.data.toList.drop 0 = dktJ14_inflate_0 := by decide +kernel
theorem dJ14_inflate_0 : decode cJ14_inflate 0 = .ok (.aload_n 0, 1) := dk_42 (dk_at dksJ14_inflate_0 0 rfl rfl)
theorem dJ14_inflate_1 : decode cJ14_inflate 1 = .ok (.iload_n 1, 1) := dk_27 (dk_at dksJ14_inflate_0 1 rfl rfl)
theorem dJ14_inflate_2 : decode cJ14_inflate 2 = .ok (.aload_n 2, 1) := dk_44 (dk_at dksJ14_inflate_0 2 rfl rfl)
theorem dJ14_inflate_3 : decode cJ14_inflate 3 = .ok (.iload_n 3, 1) := dk_29 (dk_at dksJ14_inflate_0 3 rfl rfl)
theorem dJ14_inflate_4 : decode cJ14_inflate 4 = .ok (.iload 4, 2) := dk_21 4 (dk_at dksJ14_inflate_0 4 rfl rfl)
theorem dJ14_inflate_6 : decode cJ14_inflate 6 = .ok (.invokestatic 240, 3) := dk_184 0 240 (dk_at dksJ14_inflate_0 6 rfl rfl)
theorem dJ14_inflate_9 : decode cJ14_inflate 9 = .ok (.return_, 1) := dk_177 (dk_at dksJ14_inflate_0 9 rfl rfl)
abbrev cJ14_canEncode_2 : ByteArray := prog_37_method_3_code
def yJ14_canEncode_2 : MethodName := ⟨RJ14, "canEncode", "(C)Z"⟩
def dkwJ14_canEncode_2_0 : List UInt8 := [26, 17, 0, 255, 163, 0, 7, 4, 167, 0, 4, 3, 172]
abbrev dktJ14_canEncode_2_0 : List UInt8 := dkwJ14_canEncode_2_0 ++ []
theorem dksJ14_canEncode_2_0 : cJ14_canEncode_2.data.toList.drop 0 = dktJ14_canEncode_2_0 := by decide +kernel
theorem dJ14_canEncode_2_0 : decode cJ14_canEncode_2 0 = .ok (.iload_n 0, 1) := dk_26 (dk_at dksJ14_canEncode_2_0 0 rfl rfl)
theorem dJ14_canEncode_2_1 : decode cJ14_canEncode_2 1 = .ok (.sipush 255, 3) := dk_17 0 255 (dk_at dksJ14_canEncode_2_0 1 rfl rfl)
theorem dJ14_canEncode_2_4 : decode cJ14_canEncode_2 4 = .ok (.if_icmp .gt 7, 3) := dk_163 0 7 (dk_at dksJ14_canEncode_2_0 4 rfl rfl)
theorem dJ14_canEncode_2_7 : decode cJ14_canEncode_2 7 = .ok (.iconst 1, 1) := dk_4 (dk_at dksJ14_canEncode_2_0 7 rfl rfl)
theorem dJ14_canEncode_2_8 : decode cJ14_canEncode_2 8 = .ok (.goto 4, 3) := dk_167 0 4 (dk_at dksJ14_canEncode_2_0 8 rfl rfl)
theorem dJ14_canEncode_2_11 : decode cJ14_canEncode_2 11 = .ok (.iconst 0, 1) := dk_3 (dk_at dksJ14_canEncode_2_0 11 rfl rfl)
theorem dJ14_canEncode_2_12 : decode cJ14_canEncode_2 12 = .ok (.ireturn, 1) := dk_172 (dk_at dksJ14_canEncode_2_0 12 rfl rfl)
theorem q142 : (Jvm.Cond.initialized "java/lang/StringLatin1") ∈ lw_all := lw_g (lw_at lw_m1 24 rfl) rfl
theorem q1198 : (Jvm.Cond.static ({ cls := "java/lang/StringLatin1", name := "indexOf", desc := "([BIII)I" } : Jvm.MethodName)) ∈ lw_all := lw_g (lw_at lw_m5 120 rfl) rfl
theorem q1199 : (Jvm.Cond.code ({ cls := "java/lang/StringLatin1", name := "indexOf", desc := "([BIII)I" } : Jvm.MethodName) prog_37_method_22_code (4 : Nat) (Option.some Jvm.ClassFile.FieldType.int)) ∈ lw_all := lw_g (lw_at lw_m5 121 rfl) rfl
theorem q1200 : (Jvm.Cond.methodLink "java/lang/StringLatin1" (88 : Nat) ({ cls := "java/lang/StringLatin1", name := "canEncode", desc := "(I)Z" } : Jvm.MethodName)) ∈ lw_all := lw_g (lw_at lw_m5 122 rfl) rfl
theorem q1201 : (Jvm.Cond.static ({ cls := "java/lang/StringLatin1", name := "canEncode", desc := "(I)Z" } : Jvm.MethodName)) ∈ lw_all := lw_g (lw_at lw_m5 123 rfl) rfl
theorem q1202 : (Jvm.Cond.code ({ cls := "java/lang/StringLatin1", name := "canEncode", desc := "(I)Z" } : Jvm.MethodName) prog_37_method_4_code (1 : Nat) (Option.some Jvm.ClassFile.FieldType.boolean)) ∈ lw_all := lw_g (lw_at lw_m5 124 rfl) rfl
theorem q1203 : (Jvm.Cond.methodLink "java/lang/StringLatin1" (92 : Nat) ({ cls := "java/lang/Math", name := "max", desc := "(II)I" } : Jvm.MethodName)) ∈ lw_all := lw_g (lw_at lw_m5 125 rfl) rfl
theorem q1204 : (Jvm.Cond.methodLink "java/lang/StringLatin1" (38 : Nat) ({ cls := "java/lang/Math", name := "min", desc := "(II)I" } : Jvm.MethodName)) ∈ lw_all := lw_g (lw_at lw_m5 126 rfl) rfl
theorem q1205 : (Jvm.Cond.methodLink "java/lang/StringLatin1" (95 : Nat) ({ cls := "java/lang/StringLatin1", name := "indexOfChar", desc := "([BIII)I" } : Jvm.MethodName)) ∈ lw_all := lw_g (lw_at lw_m5 127 rfl) rfl
theorem q1206 : (Jvm.Cond.static ({ cls := "java/lang/StringLatin1", name := "indexOfChar", desc := "([BIII)I" } : Jvm.MethodName)) ∈ lw_all := lw_g (lw_at lw_m5 128 rfl) rfl
theorem q1207 : (Jvm.Cond.code ({ cls := "java/lang/StringLatin1", name := "indexOfChar", desc := "([BIII)I" } : Jvm.MethodName) prog_37_method_23_code (6 : Nat) (Option.some Jvm.ClassFile.FieldType.int)) ∈ lw_all := lw_g (lw_at lw_m5 129 rfl) rfl
theorem q1255 : (Jvm.Cond.static ({ cls := "java/lang/StringLatin1", name := "charAt", desc := "([BI)C" } : Jvm.MethodName)) ∈ lw_all := lw_g (lw_at lw_m5 177 rfl) rfl
theorem q1256 : (Jvm.Cond.code ({ cls := "java/lang/StringLatin1", name := "charAt", desc := "([BI)C" } : Jvm.MethodName) prog_37_method_2_code (2 : Nat) (Option.some Jvm.ClassFile.FieldType.char)) ∈ lw_all := lw_g (lw_at lw_m5 178 rfl) rfl
theorem q1257 : (Jvm.Cond.methodLink "java/lang/StringLatin1" (9 : Nat) ({ cls := "java/lang/String", name := "checkIndex", desc := "(II)V" } : Jvm.MethodName)) ∈ lw_all := lw_g (lw_at lw_m5 179 rfl) rfl
theorem q1442 : (Jvm.Cond.static ({ cls := "java/lang/StringLatin1", name := "newString", desc := "([BII)Ljava/lang/String;" } : Jvm.MethodName)) ∈ lw_all := lw_g (lw_at lw_m6 124 rfl) rfl
theorem q1443 : (Jvm.Cond.code ({ cls := "java/lang/StringLatin1", name := "newString", desc := "([BII)Ljava/lang/String;" } : Jvm.MethodName) prog_37_method_47_code (3 : Nat) (Option.some (Jvm.ClassFile.FieldType.object "java/lang/String"))) ∈ lw_all := lw_g (lw_at lw_m6 125 rfl) rfl
theorem q1444 : (Jvm.Cond.stringRef "java/lang/StringLatin1" (151 : Nat) "") ∈ lw_tbl := lw_at lw_m6 126 rfl
theorem q1445 : (Jvm.Cond.classLink "java/lang/StringLatin1" (1 : Nat) "java/lang/String") ∈ lw_all := lw_g (lw_at lw_m6 127 rfl) rfl
theorem q1447 : (Jvm.Cond.methodLink "java/lang/StringLatin1" (232 : Nat) ({ cls := "java/util/Arrays", name := "copyOfRange", desc := "([BII)[B" } : Jvm.MethodName)) ∈ lw_all := lw_g (lw_at lw_m6 129 rfl) rfl
theorem q1569 : (Jvm.Cond.static ({ cls := "java/lang/StringLatin1", name := "inflate", desc := "([BI[BII)V" } : Jvm.MethodName)) ∈ lw_all := lw_g (lw_at lw_m7 11 rfl) rfl
theorem q1570 : (Jvm.Cond.code ({ cls := "java/lang/StringLatin1", name := "inflate", desc := "([BI[BII)V" } : Jvm.MethodName) prog_37_method_50_code (5 : Nat) (Option.none : Option Jvm.ClassFile.FieldType)) ∈ lw_all := lw_g (lw_at lw_m7 12 rfl) rfl
theorem q1571 : (Jvm.Cond.methodLink "java/lang/StringLatin1" (240 : Nat) ({ cls := "java/lang/StringUTF16", name := "inflate", desc := "([BI[BII)V" } : Jvm.MethodName)) ∈ lw_all := lw_g (lw_at lw_m7 13 rfl) rfl
theorem q1649 : (Jvm.Cond.methodLink "java/lang/StringLatin1" (112 : Nat) ({ cls := "java/lang/String", name := "<init>", desc := "([BB)V" } : Jvm.MethodName)) ∈ lw_all := lw_g (lw_at lw_m7 91 rfl) rfl
theorem q1704 : (Jvm.Cond.static ({ cls := "java/lang/StringLatin1", name := "canEncode", desc := "(C)Z" } : Jvm.MethodName)) ∈ lw_all := lw_g (lw_at lw_m7 146 rfl) rfl
theorem q1705 : (Jvm.Cond.code ({ cls := "java/lang/StringLatin1", name := "canEncode", desc := "(C)Z" } : Jvm.MethodName) prog_37_method_3_code (1 : Nat) (Option.some Jvm.ClassFile.FieldType.boolean)) ∈ lw_all := lw_g (lw_at lw_m7 147 rfl) rfl
/-! java/lang/Character -/
set_option maxRecDepth 100000
def RJ15 : String := "java/lang/Character"
abbrev cJ15_isValidCodePoint : ByteArray := prog_24_method_11_code
def yJ15_isValidCodePoint : MethodName := ⟨RJ15, "isValidCodePoint", "(I)Z"⟩
def dkwJ15_isValidCodePoint_0 : List UInt8 := [26, 16, 16, 124, 60, 27, 16, 17, 162, 0, 7, 4, 167, 0, 4, 3, 172]
abbrev dktJ15_isValidCodePoint_0 : List UInt8 := dkwJ15_isValidCodePoint_0 ++ []
theorem dksJ15_isValidCodePoint_0 : cJ15_isValidCodePoint.data.toList.drop 0 = dktJ15_isValidCodePoint_0 := by decide +kernel
theorem dJ15_isValidCodePoint_0 : decode cJ15_isValidCodePoint 0 = .ok (.iload_n 0, 1) := dk_26 (dk_at dksJ15_isValidCodePoint_0 0 rfl rfl)
theorem dJ15_isValidCodePoint_1 : decode cJ15_isValidCodePoint 1 = .ok (.bipush 16, 2) := dk_16 16 (dk_at dksJ15_isValidCodePoint_0 1 rfl rfl)
theorem dJ15_isValidCodePoint_3 : decode cJ15_isValidCodePoint 3 = .ok (.iushr, 1) := dk_124 (dk_at dksJ15_isValidCodePoint_0 3 rfl rfl)
theorem dJ15_isValidCodePoint_4 : decode cJ15_isValidCodePoint 4 = .ok (.istore_n 1, 1) := dk_60 (dk_at dksJ15_isValidCodePoint_0 4 rfl rfl)
theorem dJ15_isValidCodePoint_5 : decode cJ15_isValidCodePoint 5 = .ok (.iload_n 1, 1) := dk_27 (dk_at dksJ15_isValidCodePoint_0 5 rfl rfl)
theorem dJ15_isValidCodePoint_6 : decode cJ15_isValidCodePoint 6 = .ok (.bipush 17, 2) := dk_16 17 (dk_at dksJ15_isValidCodePoint_0 6 rfl rfl)
theorem dJ15_isValidCodePoint_8 : decode cJ15_isValidCodePoint 8 = .ok (.if_icmp .ge 7, 3) := dk_162 0 7 (dk_at dksJ15_isValidCodePoint_0 8 rfl rfl)
theorem dJ15_isValidCodePoint_11 : decode cJ15_isValidCodePoint 11 = .ok (.iconst 1, 1) := dk_4 (dk_at dksJ15_isValidCodePoint_0 11 rfl rfl)
theorem dJ15_isValidCodePoint_12 : decode cJ15_isValidCodePoint 12 = .ok (.goto 4, 3) := dk_167 0 4 (dk_at dksJ15_isValidCodePoint_0 12 rfl rfl)
theorem dJ15_isValidCodePoint_15 : decode cJ15_isValidCodePoint 15 = .ok (.iconst 0, 1) := dk_3 (dk_at dksJ15_isValidCodePoint_0 15 rfl rfl)
theorem dJ15_isValidCodePoint_16 : decode cJ15_isValidCodePoint 16 = .ok (.ireturn, 1) := dk_172 (dk_at dksJ15_isValidCodePoint_0 16 rfl rfl)
abbrev cJ15_highSurrogate : ByteArray := prog_24_method_28_code
def yJ15_highSurrogate : MethodName := ⟨RJ15, "highSurrogate", "(I)C"⟩
def dkwJ15_highSurrogate_0 : List UInt8 := [26, 16, 10, 124, 18, 110, 96, 146, 172]
abbrev dktJ15_highSurrogate_0 : List UInt8 := dkwJ15_highSurrogate_0 ++ []
theorem dksJ15_highSurrogate_0 : cJ15_highSurrogate.data.toList.drop 0 = dktJ15_highSurrogate_0 := by decide +kernel
theorem dJ15_highSurrogate_0 : decode cJ15_highSurrogate 0 = .ok (.iload_n 0, 1) := dk_26 (dk_at dksJ15_highSurrogate_0 0 rfl rfl)
theorem dJ15_highSurrogate_1 : decode cJ15_highSurrogate 1 = .ok (.bipush 10, 2) := dk_16 10 (dk_at dksJ15_highSurrogate_0 1 rfl rfl)
theorem dJ15_highSurrogate_3 : decode cJ15_highSurrogate 3 = .ok (.iushr, 1) := dk_124 (dk_at dksJ15_highSurrogate_0 3 rfl rfl)
theorem dJ15_highSurrogate_4 : decode cJ15_highSurrogate 4 = .ok (.ldc 110, 2) := dk_18 110 (dk_at dksJ15_highSurrogate_0 4 rfl rfl)
theorem dJ15_highSurrogate_6 : decode cJ15_highSurrogate 6 = .ok (.iadd, 1) := dk_96 (dk_at dksJ15_highSurrogate_0 6 rfl rfl)
theorem dJ15_highSurrogate_7 : decode cJ15_highSurrogate 7 = .ok (.i2c, 1) := dk_146 (dk_at dksJ15_highSurrogate_0 7 rfl rfl)
theorem dJ15_highSurrogate_8 : decode cJ15_highSurrogate 8 = .ok (.ireturn, 1) := dk_172 (dk_at dksJ15_highSurrogate_0 8 rfl rfl)
abbrev cJ15_lowSurrogate : ByteArray := prog_24_method_29_code
def yJ15_lowSurrogate : MethodName := ⟨RJ15, "lowSurrogate", "(I)C"⟩
def dkwJ15_lowSurrogate_0 : List UInt8 := [26, 17, 3, 255, 126, 18, 76, 96, 146, 172]
abbrev dktJ15_lowSurrogate_0 : List UInt8 := dkwJ15_lowSurrogate_0 ++ []
theorem dksJ15_lowSurrogate_0 : cJ15_lowSurrogate.data.toList.drop 0 = dktJ15_lowSurrogate_0 := by decide +kernel
theorem dJ15_lowSurrogate_0 : decode cJ15_lowSurrogate 0 = .ok (.iload_n 0, 1) := dk_26 (dk_at dksJ15_lowSurrogate_0 0 rfl rfl)
theorem dJ15_lowSurrogate_1 : decode cJ15_lowSurrogate 1 = .ok (.sipush 1023, 3) := dk_17 3 255 (dk_at dksJ15_lowSurrogate_0 1 rfl rfl)
theorem dJ15_lowSurrogate_4 : decode cJ15_lowSurrogate 4 = .ok (.iand, 1) := dk_126 (dk_at dksJ15_lowSurrogate_0 4 rfl rfl)
theorem dJ15_lowSurrogate_5 : decode cJ15_lowSurrogate 5 = .ok (.ldc 76, 2) := dk_18 76 (dk_at dksJ15_lowSurrogate_0 5 rfl rfl)
theorem dJ15_lowSurrogate_7 : decode cJ15_lowSurrogate 7 = .ok (.iadd, 1) := dk_96 (dk_at dksJ15_lowSurrogate_0 7 rfl rfl)
theorem dJ15_lowSurrogate_8 : decode cJ15_lowSurrogate 8 = .ok (.i2c, 1) := dk_146 (dk_at dksJ15_lowSurrogate_0 8 rfl rfl)
theorem dJ15_lowSurrogate_9 : decode cJ15_lowSurrogate 9 = .ok (.ireturn, 1) := dk_172 (dk_at dksJ15_lowSurrogate_0 9 rfl rfl)
theorem q143 : (Jvm.Cond.initialized "java/lang/Character") ∈ lw_all := lw_g (lw_at lw_m1 25 rfl) rfl
theorem q1234 : (Jvm.Cond.static ({ cls := "java/lang/Character", name := "isValidCodePoint", desc := "(I)Z" } : Jvm.MethodName)) ∈ lw_all := lw_g (lw_at lw_m5 156 rfl) rfl
theorem q1235 : (Jvm.Cond.code ({ cls := "java/lang/Character", name := "isValidCodePoint", desc := "(I)Z" } : Jvm.MethodName) prog_24_method_11_code (2 : Nat) (Option.some Jvm.ClassFile.FieldType.boolean)) ∈ lw_all := lw_g (lw_at lw_m5 157 rfl) rfl
theorem q1237 : (Jvm.Cond.static ({ cls := "java/lang/Character", name := "highSurrogate", desc := "(I)C" } : Jvm.MethodName)) ∈ lw_all := lw_g (lw_at lw_m5 159 rfl) rfl
theorem q1238 : (Jvm.Cond.code ({ cls := "java/lang/Character", name := "highSurrogate", desc := "(I)C" } : Jvm.MethodName) prog_24_method_28_code (1 : Nat) (Option.some Jvm.ClassFile.FieldType.char)) ∈ lw_all := lw_g (lw_at lw_m5 160 rfl) rfl
theorem q1239 : (Jvm.Cond.constant "java/lang/Character" (110 : Nat) (55232 : Int32)) ∈ lw_all := lw_g (lw_at lw_m5 161 rfl) rfl
theorem q1241 : (Jvm.Cond.static ({ cls := "java/lang/Character", name := "lowSurrogate", desc := "(I)C" } : Jvm.MethodName)) ∈ lw_all := lw_g (lw_at lw_m5 163 rfl) rfl
theorem q1242 : (Jvm.Cond.code ({ cls := "java/lang/Character", name := "lowSurrogate", desc := "(I)C" } : Jvm.MethodName) prog_24_method_29_code (1 : Nat) (Option.some Jvm.ClassFile.FieldType.char)) ∈ lw_all := lw_g (lw_at lw_m5 164 rfl) rfl
theorem q1243 : (Jvm.Cond.constant "java/lang/Character" (76 : Nat) (56320 : Int32)) ∈ lw_all := lw_g (lw_at lw_m5 165 rfl) rfl
/-! jdk/internal/util/ArraysSupport -/
set_option maxRecDepth 100000
def RJ16 : String := "jdk/internal/util/ArraysSupport"
abbrev cJ16_newLength : ByteArray := prog_53_method_27_code
def yJ16_newLength : MethodName := ⟨RJ16, "newLength", "(III)I"⟩
def dkwJ16_newLength_1 : List UInt8 := [184, 0, 201, 172]
abbrev dktJ16_newLength_1 : List UInt8 := dkwJ16_newLength_1 ++ []
def dkwJ16_newLength_0 : List UInt8 := [26, 27, 28, 184, 0, 194, 96, 62, 3, 29, 162, 0, 11, 29, 18, 200, 163, 0, 5, 29, 172, 26, 27]
abbrev dktJ16_newLength_0 : List UInt8 := dkwJ16_newLength_0 ++ dktJ16_newLength_1
theorem dksJ16_newLength_0 : cJ16_newLength.data.toList.drop 0 = dktJ16_newLength_0 := by decide +kernel
theorem dksJ16_newLength_1 : cJ16_newLength.data.toList.drop 23 = dktJ16_newLength_1 := dk_seg dksJ16_newLength_0 23 rfl rfl
theorem dJ16_newLength_0 : decode cJ16_newLength 0 = .ok (.iload_n 0, 1) := dk_26 (dk_at dksJ16_newLength_0 0 rfl rfl)
theorem dJ16_newLength_1 : decode cJ16_newLength 1 = .ok (.iload_n 1, 1) := dk_27 (dk_at dksJ16_newLength_0 1 rfl rfl)
theorem dJ16_newLength_2 : decode cJ16_newLength 2 = .ok (.iload_n 2, 1) := dk_28 (dk_at dksJ16_newLength_0 2 rfl rfl)
theorem dJ16_newLength_3 : decode cJ16_newLength 3 = .ok (.invokestatic 194, 3) := dk_184 0 194 (dk_at dksJ16_newLength_0 3 rfl rfl)
theorem dJ16_newLength_6 : decode cJ16_newLength 6 = .ok (.iadd, 1) := dk_96 (dk_at dksJ16_newLength_0 6 rfl rfl)
theorem dJ16_newLength_7 : decode cJ16_newLength 7 = .ok (.istore_n 3, 1) := dk_62 (dk_at dksJ16_newLength_0 7 rfl rfl)
theorem dJ16_newLength_8 : decode cJ16_newLength 8 = .ok (.iconst 0, 1) := dk_3 (dk_at dksJ16_newLength_0 8 rfl rfl)
theorem dJ16_newLength_9 : decode cJ16_newLength 9 = .ok (.iload_n 3, 1) := dk_29 (dk_at dksJ16_newLength_0 9 rfl rfl)
theorem dJ16_newLength_10 : decode cJ16_newLength 10 = .ok (.if_icmp .ge 11, 3) := dk_162 0 11 (dk_at dksJ16_newLength_0 10 rfl rfl)
theorem dJ16_newLength_13 : decode cJ16_newLength 13 = .ok (.iload_n 3, 1) := dk_29 (dk_at dksJ16_newLength_0 13 rfl rfl)
theorem dJ16_newLength_14 : decode cJ16_newLength 14 = .ok (.ldc 200, 2) := dk_18 200 (dk_at dksJ16_newLength_0 14 rfl rfl)
theorem dJ16_newLength_16 : decode cJ16_newLength 16 = .ok (.if_icmp .gt 5, 3) := dk_163 0 5 (dk_at dksJ16_newLength_0 16 rfl rfl)
theorem dJ16_newLength_19 : decode cJ16_newLength 19 = .ok (.iload_n 3, 1) := dk_29 (dk_at dksJ16_newLength_0 19 rfl rfl)
theorem dJ16_newLength_20 : decode cJ16_newLength 20 = .ok (.ireturn, 1) := dk_172 (dk_at dksJ16_newLength_0 20 rfl rfl)
theorem dJ16_newLength_21 : decode cJ16_newLength 21 = .ok (.iload_n 0, 1) := dk_26 (dk_at dksJ16_newLength_0 21 rfl rfl)
theorem dJ16_newLength_22 : decode cJ16_newLength 22 = .ok (.iload_n 1, 1) := dk_27 (dk_at dksJ16_newLength_0 22 rfl rfl)
theorem dJ16_newLength_23 : decode cJ16_newLength 23 = .ok (.invokestatic 201, 3) := dk_184 0 201 (dk_at dksJ16_newLength_1 0 rfl rfl)
theorem dJ16_newLength_26 : decode cJ16_newLength 26 = .ok (.ireturn, 1) := dk_172 (dk_at dksJ16_newLength_1 3 rfl rfl)
abbrev cJ16_hugeLength : ByteArray := prog_53_method_28_code
def yJ16_hugeLength : MethodName := ⟨RJ16, "hugeLength", "(II)I"⟩
def dkwJ16_hugeLength_2 : List UInt8 := [191, 28, 18, 200, 163, 0, 6, 18, 200, 172, 28, 172]
abbrev dktJ16_hugeLength_2 : List UInt8 := dkwJ16_hugeLength_2 ++ []
def dkwJ16_hugeLength_1 : List UInt8 := [26, 182, 0, 98, 18, 208, 182, 0, 94, 27, 182, 0, 98, 18, 210, 182, 0, 94, 182, 0, 101, 183, 0, 212]
abbrev dktJ16_hugeLength_1 : List UInt8 := dkwJ16_hugeLength_1 ++ dktJ16_hugeLength_2
def dkwJ16_hugeLength_0 : List UInt8 := [26, 27, 96, 61, 28, 156, 0, 44, 187, 0, 204, 89, 187, 0, 89, 89, 183, 0, 91, 18, 206, 182, 0, 94]
abbrev dktJ16_hugeLength_0 : List UInt8 := dkwJ16_hugeLength_0 ++ dktJ16_hugeLength_1
theorem dksJ16_hugeLength_0 : cJ16_hugeLength.data.toList.drop 0 = dktJ16_hugeLength_0 := by decide +kernel
theorem dksJ16_hugeLength_1 : cJ16_hugeLength.data.toList.drop 24 = dktJ16_hugeLength_1 := dk_seg dksJ16_hugeLength_0 24 rfl rfl
theorem dksJ16_hugeLength_2 : cJ16_hugeLength.data.toList.drop 48 = dktJ16_hugeLength_2 := dk_seg dksJ16_hugeLength_1 24 rfl rfl
theorem dJ16_hugeLength_0 : decode cJ16_hugeLength 0 = .ok (.iload_n 0, 1) := dk_26 (dk_at dksJ16_hugeLength_0 0 rfl rfl)
theorem dJ16_hugeLength_1 : decode cJ16_hugeLength 1 = .ok (.iload_n 1, 1) := dk_27 (dk_at dksJ16_hugeLength_0 1 rfl rfl)
theorem dJ16_hugeLength_2 : decode cJ16_hugeLength 2 = .ok (.iadd, 1) := dk_96 (dk_at dksJ16_hugeLength_0 2 rfl rfl)
theorem dJ16_hugeLength_3 : decode cJ16_hugeLength 3 = .ok (.istore_n 2, 1) := dk_61 (dk_at dksJ16_hugeLength_0 3 rfl rfl)
theorem dJ16_hugeLength_4 : decode cJ16_hugeLength 4 = .ok (.iload_n 2, 1) := dk_28 (dk_at dksJ16_hugeLength_0 4 rfl rfl)
theorem dJ16_hugeLength_5 : decode cJ16_hugeLength 5 = .ok (.ifCond .ge 44, 3) := dk_156 0 44 (dk_at dksJ16_hugeLength_0 5 rfl rfl)
theorem dJ16_hugeLength_8 : decode cJ16_hugeLength 8 = .ok (.new 204, 3) := dk_187 0 204 (dk_at dksJ16_hugeLength_0 8 rfl rfl)
theorem dJ16_hugeLength_11 : decode cJ16_hugeLength 11 = .ok (.dup, 1) := dk_89 (dk_at dksJ16_hugeLength_0 11 rfl rfl)
theorem dJ16_hugeLength_12 : decode cJ16_hugeLength 12 = .ok (.new 89, 3) := dk_187 0 89 (dk_at dksJ16_hugeLength_0 12 rfl rfl)
theorem dJ16_hugeLength_15 : decode cJ16_hugeLength 15 = .ok (.dup, 1) := dk_89 (dk_at dksJ16_hugeLength_0 15 rfl rfl)
theorem dJ16_hugeLength_16 : decode cJ16_hugeLength 16 = .ok (.invokespecial 91, 3) := dk_183 0 91 (dk_at dksJ16_hugeLength_0 16 rfl rfl)
theorem dJ16_hugeLength_19 : decode cJ16_hugeLength 19 = .ok (.ldc 206, 2) := dk_18 206 (dk_at dksJ16_hugeLength_0 19 rfl rfl)
theorem dJ16_hugeLength_21 : decode cJ16_hugeLength 21 = .ok (.invokevirtual 94, 3) := dk_182 0 94 (dk_at dksJ16_hugeLength_0 21 rfl rfl)
theorem dJ16_hugeLength_24 : decode cJ16_hugeLength 24 = .ok (.iload_n 0, 1) := dk_26 (dk_at dksJ16_hugeLength_1 0 rfl rfl)
theorem dJ16_hugeLength_25 : decode cJ16_hugeLength 25 = .ok (.invokevirtual 98, 3) := dk_182 0 98 (dk_at dksJ16_hugeLength_1 1 rfl rfl)
theorem dJ16_hugeLength_28 : decode cJ16_hugeLength 28 = .ok (.ldc 208, 2) := dk_18 208 (dk_at dksJ16_hugeLength_1 4 rfl rfl)
theorem dJ16_hugeLength_30 : decode cJ16_hugeLength 30 = .ok (.invokevirtual 94, 3) := dk_182 0 94 (dk_at dksJ16_hugeLength_1 6 rfl rfl)
theorem dJ16_hugeLength_33 : decode cJ16_hugeLength 33 = .ok (.iload_n 1, 1) := dk_27 (dk_at dksJ16_hugeLength_1 9 rfl rfl)
theorem dJ16_hugeLength_34 : decode cJ16_hugeLength 34 = .ok (.invokevirtual 98, 3) := dk_182 0 98 (dk_at dksJ16_hugeLength_1 10 rfl rfl)
theorem dJ16_hugeLength_37 : decode cJ16_hugeLength 37 = .ok (.ldc 210, 2) := dk_18 210 (dk_at dksJ16_hugeLength_1 13 rfl rfl)
theorem dJ16_hugeLength_39 : decode cJ16_hugeLength 39 = .ok (.invokevirtual 94, 3) := dk_182 0 94 (dk_at dksJ16_hugeLength_1 15 rfl rfl)
theorem dJ16_hugeLength_42 : decode cJ16_hugeLength 42 = .ok (.invokevirtual 101, 3) := dk_182 0 101 (dk_at dksJ16_hugeLength_1 18 rfl rfl)
theorem dJ16_hugeLength_45 : decode cJ16_hugeLength 45 = .ok (.invokespecial 212, 3) := dk_183 0 212 (dk_at dksJ16_hugeLength_1 21 rfl rfl)
theorem dJ16_hugeLength_48 : decode cJ16_hugeLength 48 = .ok (.athrow, 1) := dk_191 (dk_at dksJ16_hugeLength_2 0 rfl rfl)
theorem dJ16_hugeLength_49 : decode cJ16_hugeLength 49 = .ok (.iload_n 2, 1) := dk_28 (dk_at dksJ16_hugeLength_2 1 rfl rfl)
theorem dJ16_hugeLength_50 : decode cJ16_hugeLength 50 = .ok (.ldc 200, 2) := dk_18 200 (dk_at dksJ16_hugeLength_2 2 rfl rfl)
theorem dJ16_hugeLength_52 : decode cJ16_hugeLength 52 = .ok (.if_icmp .gt 6, 3) := dk_163 0 6 (dk_at dksJ16_hugeLength_2 4 rfl rfl)
theorem dJ16_hugeLength_55 : decode cJ16_hugeLength 55 = .ok (.ldc 200, 2) := dk_18 200 (dk_at dksJ16_hugeLength_2 7 rfl rfl)
theorem dJ16_hugeLength_57 : decode cJ16_hugeLength 57 = .ok (.ireturn, 1) := dk_172 (dk_at dksJ16_hugeLength_2 9 rfl rfl)
theorem dJ16_hugeLength_58 : decode cJ16_hugeLength 58 = .ok (.iload_n 2, 1) := dk_28 (dk_at dksJ16_hugeLength_2 10 rfl rfl)
theorem dJ16_hugeLength_59 : decode cJ16_hugeLength 59 = .ok (.ireturn, 1) := dk_172 (dk_at dksJ16_hugeLength_2 11 rfl rfl)
theorem q146 : (Jvm.Cond.initialized "jdk/internal/util/ArraysSupport") ∈ lw_all := lw_g (lw_at lw_m1 28 rfl) rfl
theorem q841 : (Jvm.Cond.static ({ cls := "jdk/internal/util/ArraysSupport", name := "newLength", desc := "(III)I" } : Jvm.MethodName)) ∈ lw_all := lw_g (lw_at lw_m4 3 rfl) rfl
theorem q842 : (Jvm.Cond.code ({ cls := "jdk/internal/util/ArraysSupport", name := "newLength", desc := "(III)I" } : Jvm.MethodName) prog_53_method_27_code (4 : Nat) (Option.some Jvm.ClassFile.FieldType.int)) ∈ lw_all := lw_g (lw_at lw_m4 4 rfl) rfl
theorem q843 : (Jvm.Cond.methodLink "jdk/internal/util/ArraysSupport" (194 : Nat) ({ cls := "java/lang/Math", name := "max", desc := "(II)I" } : Jvm.MethodName)) ∈ lw_all := lw_g (lw_at lw_m4 5 rfl) rfl
theorem q844 : (Jvm.Cond.constant "jdk/internal/util/ArraysSupport" (200 : Nat) (2147483639 : Int32)) ∈ lw_all := lw_g (lw_at lw_m4 6 rfl) rfl
theorem q845 : (Jvm.Cond.methodLink "jdk/internal/util/ArraysSupport" (201 : Nat) ({ cls := "jdk/internal/util/ArraysSupport", name := "hugeLength", desc := "(II)I" } : Jvm.MethodName)) ∈ lw_all := lw_g (lw_at lw_m4 7 rfl) rfl
theorem q846 : (Jvm.Cond.static ({ cls := "jdk/internal/util/ArraysSupport", name := "hugeLength", desc := "(II)I" } : Jvm.MethodName)) ∈ lw_all := lw_g (lw_at lw_m4 8 rfl) rfl
theorem q847 : (Jvm.Cond.code ({ cls := "jdk/internal/util/ArraysSupport", name := "hugeLength", desc := "(II)I" } : Jvm.MethodName) prog_53_method_28_code (3 : Nat) (Option.some Jvm.ClassFile.FieldType.int)) ∈ lw_all := lw_g (lw_at lw_m4 9 rfl) rfl
/-! java/util/Arrays -/
set_option maxRecDepth 100000
def RJ17 : String := "java/util/Arrays"
abbrev cJ17_copyOf : ByteArray := prog_46_method_119_code
def yJ17_copyOf : MethodName := ⟨RJ17, "copyOf", "([Ljava/lang/Object;I)[Ljava/lang/Object;"⟩
def dkwJ17_copyOf_0 : List UInt8 := [42, 27, 42, 182, 0, 86, 184, 1, 44, 176]
abbrev dktJ17_copyOf_0 : List UInt8 := dkwJ17_copyOf_0 ++ []
theorem dksJ17_copyOf_0 : cJ17_copyOf.data.toList.drop 0 = dktJ17_copyOf_0 := by decide +kernel
theorem dJ17_copyOf_0 : decode cJ17_copyOf 0 = .ok (.aload_n 0, 1) := dk_42 (dk_at dksJ17_copyOf_0 0 rfl rfl)
theorem dJ17_copyOf_1 : decode cJ17_copyOf 1 = .ok (.iload_n 1, 1) := dk_27 (dk_at dksJ17_copyOf_0 1 rfl rfl)
theorem dJ17_copyOf_2 : decode cJ17_copyOf 2 = .ok (.aload_n 0, 1) := dk_42 (dk_at dksJ17_copyOf_0 2 rfl rfl)
theorem dJ17_copyOf_3 : decode cJ17_copyOf 3 = .ok (.invokevirtual 86, 3) := dk_182 0 86 (dk_at dksJ17_copyOf_0 3 rfl rfl)
theorem dJ17_copyOf_6 : decode cJ17_copyOf 6 = .ok (.invokestatic 300, 3) := dk_184 1 44 (dk_at dksJ17_copyOf_0 6 rfl rfl)
theorem dJ17_copyOf_9 : decode cJ17_copyOf 9 = .ok (.areturn, 1) := dk_176 (dk_at dksJ17_copyOf_0 9 rfl rfl)
abbrev cJ17_copyOf_2 : ByteArray := prog_46_method_120_code
def yJ17_copyOf_2 : MethodName := ⟨RJ17, "copyOf", "([Ljava/lang/Object;ILjava/lang/Class;)[Ljava/lang/Object;"⟩
def dkwJ17_copyOf_2_1 : List UInt8 := [78, 42, 3, 45, 3, 42, 190, 27, 184, 1, 48, 184, 0, 150, 45, 176]
abbrev dktJ17_copyOf_2_1 : List UInt8 := dkwJ17_copyOf_2_1 ++ []
def dkwJ17_copyOf_2_0 : List UInt8 := [44, 18, 110, 166, 0, 10, 27, 189, 0, 2, 167, 0, 14, 44, 182, 0, 90, 27, 184, 0, 95, 192, 0, 110]
abbrev dktJ17_copyOf_2_0 : List UInt8 := dkwJ17_copyOf_2_0 ++ dktJ17_copyOf_2_1
theorem dksJ17_copyOf_2_0 : cJ17_copyOf_2.data.toList.drop 0 = dktJ17_copyOf_2_0 := by decide +kernel
theorem dksJ17_copyOf_2_1 : cJ17_copyOf_2.data.toList.drop 24 = dktJ17_copyOf_2_1 := dk_seg dksJ17_copyOf_2_0 24 rfl rfl
theorem dJ17_copyOf_2_0 : decode cJ17_copyOf_2 0 = .ok (.aload_n 2, 1) := dk_44 (dk_at dksJ17_copyOf_2_0 0 rfl rfl)
theorem dJ17_copyOf_2_1 : decode cJ17_copyOf_2 1 = .ok (.ldc 110, 2) := dk_18 110 (dk_at dksJ17_copyOf_2_0 1 rfl rfl)
theorem dJ17_copyOf_2_3 : decode cJ17_copyOf_2 3 = .ok (.if_acmp .ne 10, 3) := dk_166 0 10 (dk_at dksJ17_copyOf_2_0 3 rfl rfl)
theorem dJ17_copyOf_2_6 : decode cJ17_copyOf_2 6 = .ok (.iload_n 1, 1) := dk_27 (dk_at dksJ17_copyOf_2_0 6 rfl rfl)
theorem dJ17_copyOf_2_7 : decode cJ17_copyOf_2 7 = .ok (.anewarray 2, 3) := dk_189 0 2 (dk_at dksJ17_copyOf_2_0 7 rfl rfl)
theorem dJ17_copyOf_2_10 : decode cJ17_copyOf_2 10 = .ok (.goto 14, 3) := dk_167 0 14 (dk_at dksJ17_copyOf_2_0 10 rfl rfl)
theorem dJ17_copyOf_2_13 : decode cJ17_copyOf_2 13 = .ok (.aload_n 2, 1) := dk_44 (dk_at dksJ17_copyOf_2_0 13 rfl rfl)
theorem dJ17_copyOf_2_14 : decode cJ17_copyOf_2 14 = .ok (.invokevirtual 90, 3) := dk_182 0 90 (dk_at dksJ17_copyOf_2_0 14 rfl rfl)
theorem dJ17_copyOf_2_17 : decode cJ17_copyOf_2 17 = .ok (.iload_n 1, 1) := dk_27 (dk_at dksJ17_copyOf_2_0 17 rfl rfl)
theorem dJ17_copyOf_2_18 : decode cJ17_copyOf_2 18 = .ok (.invokestatic 95, 3) := dk_184 0 95 (dk_at dksJ17_copyOf_2_0 18 rfl rfl)
theorem dJ17_copyOf_2_21 : decode cJ17_copyOf_2 21 = .ok (.checkcast 110, 3) := dk_192 0 110 (dk_at dksJ17_copyOf_2_0 21 rfl rfl)
theorem dJ17_copyOf_2_24 : decode cJ17_copyOf_2 24 = .ok (.astore_n 3, 1) := dk_78 (dk_at dksJ17_copyOf_2_1 0 rfl rfl)
theorem dJ17_copyOf_2_25 : decode cJ17_copyOf_2 25 = .ok (.aload_n 0, 1) := dk_42 (dk_at dksJ17_copyOf_2_1 1 rfl rfl)
theorem dJ17_copyOf_2_26 : decode cJ17_copyOf_2 26 = .ok (.iconst 0, 1) := dk_3 (dk_at dksJ17_copyOf_2_1 2 rfl rfl)
theorem dJ17_copyOf_2_27 : decode cJ17_copyOf_2 27 = .ok (.aload_n 3, 1) := dk_45 (dk_at dksJ17_copyOf_2_1 3 rfl rfl)
theorem dJ17_copyOf_2_28 : decode cJ17_copyOf_2 28 = .ok (.iconst 0, 1) := dk_3 (dk_at dksJ17_copyOf_2_1 4 rfl rfl)
theorem dJ17_copyOf_2_29 : decode cJ17_copyOf_2 29 = .ok (.aload_n 0, 1) := dk_42 (dk_at dksJ17_copyOf_2_1 5 rfl rfl)
theorem dJ17_copyOf_2_30 : decode cJ17_copyOf_2 30 = .ok (.arraylength, 1) := dk_190 (dk_at dksJ17_copyOf_2_1 6 rfl rfl)
theorem dJ17_copyOf_2_31 : decode cJ17_copyOf_2 31 = .ok (.iload_n 1, 1) := dk_27 (dk_at dksJ17_copyOf_2_1 7 rfl rfl)
theorem dJ17_copyOf_2_32 : decode cJ17_copyOf_2 32 = .ok (.invokestatic 304, 3) := dk_184 1 48 (dk_at dksJ17_copyOf_2_1 8 rfl rfl)
theorem dJ17_copyOf_2_35 : decode cJ17_copyOf_2 35 = .ok (.invokestatic 150, 3) := dk_184 0 150 (dk_at dksJ17_copyOf_2_1 11 rfl rfl)
theorem dJ17_copyOf_2_38 : decode cJ17_copyOf_2 38 = .ok (.aload_n 3, 1) := dk_45 (dk_at dksJ17_copyOf_2_1 14 rfl rfl)
theorem dJ17_copyOf_2_39 : decode cJ17_copyOf_2 39 = .ok (.areturn, 1) := dk_176 (dk_at dksJ17_copyOf_2_1 15 rfl rfl)
abbrev cJ17_copyOfRange : ByteArray := prog_46_method_132_code
def yJ17_copyOfRange : MethodName := ⟨RJ17, "copyOfRange", "([BII)[B"⟩
def dkwJ17_copyOfRange_1 : List UInt8 := [176]
abbrev dktJ17_copyOfRange_1 : List UInt8 := dkwJ17_copyOfRange_1 ++ []
def dkwJ17_copyOfRange_0 : List UInt8 := [27, 154, 0, 9, 28, 42, 190, 159, 0, 10, 42, 27, 28, 184, 1, 83, 176, 42, 182, 1, 54, 192, 1, 55]
abbrev dktJ17_copyOfRange_0 : List UInt8 := dkwJ17_copyOfRange_0 ++ dktJ17_copyOfRange_1
theorem dksJ17_copyOfRange_0 : cJ17_copyOfRange.data.toList.drop 0 = dktJ17_copyOfRange_0 := by decide +kernel
theorem dksJ17_copyOfRange_1 : cJ17_copyOfRange.data.toList.drop 24 = dktJ17_copyOfRange_1 := dk_seg dksJ17_copyOfRange_0 24 rfl rfl
theorem dJ17_copyOfRange_0 : decode cJ17_copyOfRange 0 = .ok (.iload_n 1, 1) := dk_27 (dk_at dksJ17_copyOfRange_0 0 rfl rfl)
theorem dJ17_copyOfRange_1 : decode cJ17_copyOfRange 1 = .ok (.ifCond .ne 9, 3) := dk_154 0 9 (dk_at dksJ17_copyOfRange_0 1 rfl rfl)
theorem dJ17_copyOfRange_4 : decode cJ17_copyOfRange 4 = .ok (.iload_n 2, 1) := dk_28 (dk_at dksJ17_copyOfRange_0 4 rfl rfl)
theorem dJ17_copyOfRange_5 : decode cJ17_copyOfRange 5 = .ok (.aload_n 0, 1) := dk_42 (dk_at dksJ17_copyOfRange_0 5 rfl rfl)
theorem dJ17_copyOfRange_6 : decode cJ17_copyOfRange 6 = .ok (.arraylength, 1) := dk_190 (dk_at dksJ17_copyOfRange_0 6 rfl rfl)
theorem dJ17_copyOfRange_7 : decode cJ17_copyOfRange 7 = .ok (.if_icmp .eq 10, 3) := dk_159 0 10 (dk_at dksJ17_copyOfRange_0 7 rfl rfl)
theorem dJ17_copyOfRange_10 : decode cJ17_copyOfRange 10 = .ok (.aload_n 0, 1) := dk_42 (dk_at dksJ17_copyOfRange_0 10 rfl rfl)
theorem dJ17_copyOfRange_11 : decode cJ17_copyOfRange 11 = .ok (.iload_n 1, 1) := dk_27 (dk_at dksJ17_copyOfRange_0 11 rfl rfl)
theorem dJ17_copyOfRange_12 : decode cJ17_copyOfRange 12 = .ok (.iload_n 2, 1) := dk_28 (dk_at dksJ17_copyOfRange_0 12 rfl rfl)
theorem dJ17_copyOfRange_13 : decode cJ17_copyOfRange 13 = .ok (.invokestatic 339, 3) := dk_184 1 83 (dk_at dksJ17_copyOfRange_0 13 rfl rfl)
theorem dJ17_copyOfRange_16 : decode cJ17_copyOfRange 16 = .ok (.areturn, 1) := dk_176 (dk_at dksJ17_copyOfRange_0 16 rfl rfl)
theorem dJ17_copyOfRange_17 : decode cJ17_copyOfRange 17 = .ok (.aload_n 0, 1) := dk_42 (dk_at dksJ17_copyOfRange_0 17 rfl rfl)
theorem dJ17_copyOfRange_18 : decode cJ17_copyOfRange 18 = .ok (.invokevirtual 310, 3) := dk_182 1 54 (dk_at dksJ17_copyOfRange_0 18 rfl rfl)
theorem dJ17_copyOfRange_21 : decode cJ17_copyOfRange 21 = .ok (.checkcast 311, 3) := dk_192 1 55 (dk_at dksJ17_copyOfRange_0 21 rfl rfl)
theorem dJ17_copyOfRange_24 : decode cJ17_copyOfRange 24 = .ok (.areturn, 1) := dk_176 (dk_at dksJ17_copyOfRange_1 0 rfl rfl)
abbrev cJ17_copyOfRangeByte : ByteArray := prog_46_method_133_code
def yJ17_copyOfRangeByte : MethodName := ⟨RJ17, "copyOfRangeByte", "([BII)[B"⟩
def dkwJ17_copyOfRangeByte_1 : List UInt8 := [184, 1, 48, 184, 0, 150, 25, 4, 176]
abbrev dktJ17_copyOfRangeByte_1 : List UInt8 := dkwJ17_copyOfRangeByte_1 ++ []
def dkwJ17_copyOfRangeByte_0 : List UInt8 := [27, 28, 184, 1, 87, 28, 27, 100, 62, 29, 188, 8, 58, 4, 42, 27, 25, 4, 3, 42, 190, 27, 100, 29]
abbrev dktJ17_copyOfRangeByte_0 : List UInt8 := dkwJ17_copyOfRangeByte_0 ++ dktJ17_copyOfRangeByte_1
theorem dksJ17_copyOfRangeByte_0 : cJ17_copyOfRangeByte.data.toList.drop 0 = dktJ17_copyOfRangeByte_0 := by decide +kernel
theorem dksJ17_copyOfRangeByte_1 : cJ17_copyOfRangeByte.data.toList.drop 24 = dktJ17_copyOfRangeByte_1 := dk_seg dksJ17_copyOfRangeByte_0 24 rfl rfl
theorem dJ17_copyOfRangeByte_0 : decode cJ17_copyOfRangeByte 0 = .ok (.iload_n 1, 1) := dk_27 (dk_at dksJ17_copyOfRangeByte_0 0 rfl rfl)
theorem dJ17_copyOfRangeByte_1 : decode cJ17_copyOfRangeByte 1 = .ok (.iload_n 2, 1) := dk_28 (dk_at dksJ17_copyOfRangeByte_0 1 rfl rfl)
theorem dJ17_copyOfRangeByte_2 : decode cJ17_copyOfRangeByte 2 = .ok (.invokestatic 343, 3) := dk_184 1 87 (dk_at dksJ17_copyOfRangeByte_0 2 rfl rfl)
theorem dJ17_copyOfRangeByte_5 : decode cJ17_copyOfRangeByte 5 = .ok (.iload_n 2, 1) := dk_28 (dk_at dksJ17_copyOfRangeByte_0 5 rfl rfl)
theorem dJ17_copyOfRangeByte_6 : decode cJ17_copyOfRangeByte 6 = .ok (.iload_n 1, 1) := dk_27 (dk_at dksJ17_copyOfRangeByte_0 6 rfl rfl)
theorem dJ17_copyOfRangeByte_7 : decode cJ17_copyOfRangeByte 7 = .ok (.isub, 1) := dk_100 (dk_at dksJ17_copyOfRangeByte_0 7 rfl rfl)
theorem dJ17_copyOfRangeByte_8 : decode cJ17_copyOfRangeByte 8 = .ok (.istore_n 3, 1) := dk_62 (dk_at dksJ17_copyOfRangeByte_0 8 rfl rfl)
theorem dJ17_copyOfRangeByte_9 : decode cJ17_copyOfRangeByte 9 = .ok (.iload_n 3, 1) := dk_29 (dk_at dksJ17_copyOfRangeByte_0 9 rfl rfl)
theorem dJ17_copyOfRangeByte_10 : decode cJ17_copyOfRangeByte 10 = .ok (.newarray .byte, 2) := dk_188_8 (dk_at dksJ17_copyOfRangeByte_0 10 rfl rfl)
theorem dJ17_copyOfRangeByte_12 : decode cJ17_copyOfRangeByte 12 = .ok (.astore 4, 2) := dk_58 4 (dk_at dksJ17_copyOfRangeByte_0 12 rfl rfl)
theorem dJ17_copyOfRangeByte_14 : decode cJ17_copyOfRangeByte 14 = .ok (.aload_n 0, 1) := dk_42 (dk_at dksJ17_copyOfRangeByte_0 14 rfl rfl)
theorem dJ17_copyOfRangeByte_15 : decode cJ17_copyOfRangeByte 15 = .ok (.iload_n 1, 1) := dk_27 (dk_at dksJ17_copyOfRangeByte_0 15 rfl rfl)
theorem dJ17_copyOfRangeByte_16 : decode cJ17_copyOfRangeByte 16 = .ok (.aload 4, 2) := dk_25 4 (dk_at dksJ17_copyOfRangeByte_0 16 rfl rfl)
theorem dJ17_copyOfRangeByte_18 : decode cJ17_copyOfRangeByte 18 = .ok (.iconst 0, 1) := dk_3 (dk_at dksJ17_copyOfRangeByte_0 18 rfl rfl)
theorem dJ17_copyOfRangeByte_19 : decode cJ17_copyOfRangeByte 19 = .ok (.aload_n 0, 1) := dk_42 (dk_at dksJ17_copyOfRangeByte_0 19 rfl rfl)
theorem dJ17_copyOfRangeByte_20 : decode cJ17_copyOfRangeByte 20 = .ok (.arraylength, 1) := dk_190 (dk_at dksJ17_copyOfRangeByte_0 20 rfl rfl)
theorem dJ17_copyOfRangeByte_21 : decode cJ17_copyOfRangeByte 21 = .ok (.iload_n 1, 1) := dk_27 (dk_at dksJ17_copyOfRangeByte_0 21 rfl rfl)
theorem dJ17_copyOfRangeByte_22 : decode cJ17_copyOfRangeByte 22 = .ok (.isub, 1) := dk_100 (dk_at dksJ17_copyOfRangeByte_0 22 rfl rfl)
theorem dJ17_copyOfRangeByte_23 : decode cJ17_copyOfRangeByte 23 = .ok (.iload_n 3, 1) := dk_29 (dk_at dksJ17_copyOfRangeByte_0 23 rfl rfl)
theorem dJ17_copyOfRangeByte_24 : decode cJ17_copyOfRangeByte 24 = .ok (.invokestatic 304, 3) := dk_184 1 48 (dk_at dksJ17_copyOfRangeByte_1 0 rfl rfl)
theorem dJ17_copyOfRangeByte_27 : decode cJ17_copyOfRangeByte 27 = .ok (.invokestatic 150, 3) := dk_184 0 150 (dk_at dksJ17_copyOfRangeByte_1 3 rfl rfl)
theorem dJ17_copyOfRangeByte_30 : decode cJ17_copyOfRangeByte 30 = .ok (.aload 4, 2) := dk_25 4 (dk_at dksJ17_copyOfRangeByte_1 6 rfl rfl)
theorem dJ17_copyOfRangeByte_32 : decode cJ17_copyOfRangeByte 32 = .ok (.areturn, 1) := dk_176 (dk_at dksJ17_copyOfRangeByte_1 8 rfl rfl)
abbrev cJ17_checkLength : ByteArray := prog_46_method_131_code
def yJ17_checkLength : MethodName := ⟨RJ17, "checkLength", "(II)V"⟩
def dkwJ17_checkLength_1 : List UInt8 := [182, 0, 50, 27, 182, 0, 54, 182, 0, 61, 183, 0, 65, 191, 177]
abbrev dktJ17_checkLength_1 : List UInt8 := dkwJ17_checkLength_1 ++ []
def dkwJ17_checkLength_0 : List UInt8 := [27, 26, 162, 0, 35, 187, 0, 43, 89, 187, 0, 45, 89, 183, 0, 47, 26, 182, 0, 54, 19, 1, 81]
abbrev dktJ17_checkLength_0 : List UInt8 := dkwJ17_checkLength_0 ++ dktJ17_checkLength_1
theorem dksJ17_checkLength_0 : cJ17_checkLength.data.toList.drop 0 = dktJ17_checkLength_0 := by decide +kernel
theorem dksJ17_checkLength_1 : cJ17_checkLength.data.toList.drop 23 = dktJ17_checkLength_1 := dk_seg dksJ17_checkLength_0 23 rfl rfl
theorem dJ17_checkLength_0 : decode cJ17_checkLength 0 = .ok (.iload_n 1, 1) := dk_27 (dk_at dksJ17_checkLength_0 0 rfl rfl)
theorem dJ17_checkLength_1 : decode cJ17_checkLength 1 = .ok (.iload_n 0, 1) := dk_26 (dk_at dksJ17_checkLength_0 1 rfl rfl)
theorem dJ17_checkLength_2 : decode cJ17_checkLength 2 = .ok (.if_icmp .ge 35, 3) := dk_162 0 35 (dk_at dksJ17_checkLength_0 2 rfl rfl)
theorem dJ17_checkLength_5 : decode cJ17_checkLength 5 = .ok (.new 43, 3) := dk_187 0 43 (dk_at dksJ17_checkLength_0 5 rfl rfl)
theorem dJ17_checkLength_8 : decode cJ17_checkLength 8 = .ok (.dup, 1) := dk_89 (dk_at dksJ17_checkLength_0 8 rfl rfl)
theorem dJ17_checkLength_9 : decode cJ17_checkLength 9 = .ok (.new 45, 3) := dk_187 0 45 (dk_at dksJ17_checkLength_0 9 rfl rfl)
theorem dJ17_checkLength_12 : decode cJ17_checkLength 12 = .ok (.dup, 1) := dk_89 (dk_at dksJ17_checkLength_0 12 rfl rfl)
theorem dJ17_checkLength_13 : decode cJ17_checkLength 13 = .ok (.invokespecial 47, 3) := dk_183 0 47 (dk_at dksJ17_checkLength_0 13 rfl rfl)
theorem dJ17_checkLength_16 : decode cJ17_checkLength 16 = .ok (.iload_n 0, 1) := dk_26 (dk_at dksJ17_checkLength_0 16 rfl rfl)
theorem dJ17_checkLength_17 : decode cJ17_checkLength 17 = .ok (.invokevirtual 54, 3) := dk_182 0 54 (dk_at dksJ17_checkLength_0 17 rfl rfl)
theorem dJ17_checkLength_20 : decode cJ17_checkLength 20 = .ok (.ldc_w 337, 3) := dk_19 1 81 (dk_at dksJ17_checkLength_0 20 rfl rfl)
theorem dJ17_checkLength_23 : decode cJ17_checkLength 23 = .ok (.invokevirtual 50, 3) := dk_182 0 50 (dk_at dksJ17_checkLength_1 0 rfl rfl)
theorem dJ17_checkLength_26 : decode cJ17_checkLength 26 = .ok (.iload_n 1, 1) := dk_27 (dk_at dksJ17_checkLength_1 3 rfl rfl)
theorem dJ17_checkLength_27 : decode cJ17_checkLength 27 = .ok (.invokevirtual 54, 3) := dk_182 0 54 (dk_at dksJ17_checkLength_1 4 rfl rfl)
theorem dJ17_checkLength_30 : decode cJ17_checkLength 30 = .ok (.invokevirtual 61, 3) := dk_182 0 61 (dk_at dksJ17_checkLength_1 7 rfl rfl)
theorem dJ17_checkLength_33 : decode cJ17_checkLength 33 = .ok (.invokespecial 65, 3) := dk_183 0 65 (dk_at dksJ17_checkLength_1 10 rfl rfl)
theorem dJ17_checkLength_36 : decode cJ17_checkLength 36 = .ok (.athrow, 1) := dk_191 (dk_at dksJ17_checkLength_1 13 rfl rfl)
theorem dJ17_checkLength_37 : decode cJ17_checkLength 37 = .ok (.return_, 1) := dk_177 (dk_at dksJ17_checkLength_1 14 rfl rfl)
abbrev cJ17_copyOf_3 : ByteArray := prog_46_method_121_code
def yJ17_copyOf_3 : MethodName := ⟨RJ17, "copyOf", "([BI)[B"⟩
def dkwJ17_copyOf_3_1 : List UInt8 := [27, 184, 1, 48, 184, 0, 150, 44, 176]
abbrev dktJ17_copyOf_3_1 : List UInt8 := dkwJ17_copyOf_3_1 ++ []
def dkwJ17_copyOf_3_0 : List UInt8 := [27, 42, 190, 160, 0, 11, 42, 182, 1, 54, 192, 1, 55, 176, 27, 188, 8, 77, 42, 3, 44, 3, 42, 190]
abbrev dktJ17_copyOf_3_0 : List UInt8 := dkwJ17_copyOf_3_0 ++ dktJ17_copyOf_3_1
theorem dksJ17_copyOf_3_0 : cJ17_copyOf_3.data.toList.drop 0 = dktJ17_copyOf_3_0 := by decide +kernel
theorem dksJ17_copyOf_3_1 : cJ17_copyOf_3.data.toList.drop 24 = dktJ17_copyOf_3_1 := dk_seg dksJ17_copyOf_3_0 24 rfl rfl
theorem dJ17_copyOf_3_0 : decode cJ17_copyOf_3 0 = .ok (.iload_n 1, 1) := dk_27 (dk_at dksJ17_copyOf_3_0 0 rfl rfl)
theorem dJ17_copyOf_3_1 : decode cJ17_copyOf_3 1 = .ok (.aload_n 0, 1) := dk_42 (dk_at dksJ17_copyOf_3_0 1 rfl rfl)
theorem dJ17_copyOf_3_2 : decode cJ17_copyOf_3 2 = .ok (.arraylength, 1) := dk_190 (dk_at dksJ17_copyOf_3_0 2 rfl rfl)
theorem dJ17_copyOf_3_3 : decode cJ17_copyOf_3 3 = .ok (.if_icmp .ne 11, 3) := dk_160 0 11 (dk_at dksJ17_copyOf_3_0 3 rfl rfl)
theorem dJ17_copyOf_3_6 : decode cJ17_copyOf_3 6 = .ok (.aload_n 0, 1) := dk_42 (dk_at dksJ17_copyOf_3_0 6 rfl rfl)
theorem dJ17_copyOf_3_7 : decode cJ17_copyOf_3 7 = .ok (.invokevirtual 310, 3) := dk_182 1 54 (dk_at dksJ17_copyOf_3_0 7 rfl rfl)
theorem dJ17_copyOf_3_10 : decode cJ17_copyOf_3 10 = .ok (.checkcast 311, 3) := dk_192 1 55 (dk_at dksJ17_copyOf_3_0 10 rfl rfl)
theorem dJ17_copyOf_3_13 : decode cJ17_copyOf_3 13 = .ok (.areturn, 1) := dk_176 (dk_at dksJ17_copyOf_3_0 13 rfl rfl)
theorem dJ17_copyOf_3_14 : decode cJ17_copyOf_3 14 = .ok (.iload_n 1, 1) := dk_27 (dk_at dksJ17_copyOf_3_0 14 rfl rfl)
theorem dJ17_copyOf_3_15 : decode cJ17_copyOf_3 15 = .ok (.newarray .byte, 2) := dk_188_8 (dk_at dksJ17_copyOf_3_0 15 rfl rfl)
theorem dJ17_copyOf_3_17 : decode cJ17_copyOf_3 17 = .ok (.astore_n 2, 1) := dk_77 (dk_at dksJ17_copyOf_3_0 17 rfl rfl)
theorem dJ17_copyOf_3_18 : decode cJ17_copyOf_3 18 = .ok (.aload_n 0, 1) := dk_42 (dk_at dksJ17_copyOf_3_0 18 rfl rfl)
theorem dJ17_copyOf_3_19 : decode cJ17_copyOf_3 19 = .ok (.iconst 0, 1) := dk_3 (dk_at dksJ17_copyOf_3_0 19 rfl rfl)
theorem dJ17_copyOf_3_20 : decode cJ17_copyOf_3 20 = .ok (.aload_n 2, 1) := dk_44 (dk_at dksJ17_copyOf_3_0 20 rfl rfl)
theorem dJ17_copyOf_3_21 : decode cJ17_copyOf_3 21 = .ok (.iconst 0, 1) := dk_3 (dk_at dksJ17_copyOf_3_0 21 rfl rfl)
theorem dJ17_copyOf_3_22 : decode cJ17_copyOf_3 22 = .ok (.aload_n 0, 1) := dk_42 (dk_at dksJ17_copyOf_3_0 22 rfl rfl)
theorem dJ17_copyOf_3_23 : decode cJ17_copyOf_3 23 = .ok (.arraylength, 1) := dk_190 (dk_at dksJ17_copyOf_3_0 23 rfl rfl)
theorem dJ17_copyOf_3_24 : decode cJ17_copyOf_3 24 = .ok (.iload_n 1, 1) := dk_27 (dk_at dksJ17_copyOf_3_1 0 rfl rfl)
theorem dJ17_copyOf_3_25 : decode cJ17_copyOf_3 25 = .ok (.invokestatic 304, 3) := dk_184 1 48 (dk_at dksJ17_copyOf_3_1 1 rfl rfl)
theorem dJ17_copyOf_3_28 : decode cJ17_copyOf_3 28 = .ok (.invokestatic 150, 3) := dk_184 0 150 (dk_at dksJ17_copyOf_3_1 4 rfl rfl)
theorem dJ17_copyOf_3_31 : decode cJ17_copyOf_3 31 = .ok (.aload_n 2, 1) := dk_44 (dk_at dksJ17_copyOf_3_1 7 rfl rfl)
theorem dJ17_copyOf_3_32 : decode cJ17_copyOf_3 32 = .ok (.areturn, 1) := dk_176 (dk_at dksJ17_copyOf_3_1 8 rfl rfl)
theorem q147 : (Jvm.Cond.initialized "java/util/Arrays") ∈ lw_all := lw_g (lw_at lw_m1 29 rfl) rfl
theorem q849 : (Jvm.Cond.static ({ cls := "java/util/Arrays", name := "copyOf", desc := "([Ljava/lang/Object;I)[Ljava/lang/Object;" } : Jvm.MethodName)) ∈ lw_all := lw_g (lw_at lw_m4 11 rfl) rfl
theorem q850 : (Jvm.Cond.code ({ cls := "java/util/Arrays", name := "copyOf", desc := "([Ljava/lang/Object;I)[Ljava/lang/Object;" } : Jvm.MethodName) prog_46_method_119_code (2 : Nat) (Option.some (Jvm.ClassFile.FieldType.array (Jvm.ClassFile.FieldType.object "java/lang/Object")))) ∈ lw_all := lw_g (lw_at lw_m4 12 rfl) rfl
theorem q851 : (Jvm.Cond.methodLink "java/util/Arrays" (86 : Nat) ({ cls := "java/lang/Object", name := "getClass", desc := "()Ljava/lang/Class;" } : Jvm.MethodName)) ∈ lw_all := lw_g (lw_at lw_m4 13 rfl) rfl
theorem q878 : (Jvm.Cond.methodLink "java/util/Arrays" (300 : Nat) ({ cls := "java/util/Arrays", name := "copyOf", desc := "([Ljava/lang/Object;ILjava/lang/Class;)[Ljava/lang/Object;" } : Jvm.MethodName)) ∈ lw_all := lw_g (lw_at lw_m4 40 rfl) rfl
theorem q879 : (Jvm.Cond.static ({ cls := "java/util/Arrays", name := "copyOf", desc := "([Ljava/lang/Object;ILjava/lang/Class;)[Ljava/lang/Object;" } : Jvm.MethodName)) ∈ lw_all := lw_g (lw_at lw_m4 41 rfl) rfl
theorem q880 : (Jvm.Cond.code ({ cls := "java/util/Arrays", name := "copyOf", desc := "([Ljava/lang/Object;ILjava/lang/Class;)[Ljava/lang/Object;" } : Jvm.MethodName) prog_46_method_120_code (4 : Nat) (Option.some (Jvm.ClassFile.FieldType.array (Jvm.ClassFile.FieldType.object "java/lang/Object")))) ∈ lw_all := lw_g (lw_at lw_m4 42 rfl) rfl
theorem q881 : (Jvm.Cond.classLink "java/util/Arrays" (110 : Nat) "[Ljava/lang/Object;") ∈ lw_all := lw_g (lw_at lw_m4 43 rfl) rfl
theorem q883 : (Jvm.Cond.classLink "java/util/Arrays" (2 : Nat) "java/lang/Object") ∈ lw_all := lw_g (lw_at lw_m4 45 rfl) rfl
theorem q884 : (Jvm.Cond.methodLink "java/util/Arrays" (304 : Nat) ({ cls := "java/lang/Math", name := "min", desc := "(II)I" } : Jvm.MethodName)) ∈ lw_all := lw_g (lw_at lw_m4 46 rfl) rfl
theorem q885 : (Jvm.Cond.methodLink "java/util/Arrays" (150 : Nat) ({ cls := "java/lang/System", name := "arraycopy", desc := "(Ljava/lang/Object;ILjava/lang/Object;II)V" } : Jvm.MethodName)) ∈ lw_all := lw_g (lw_at lw_m4 47 rfl) rfl
theorem q1448 : (Jvm.Cond.static ({ cls := "java/util/Arrays", name := "copyOfRange", desc := "([BII)[B" } : Jvm.MethodName)) ∈ lw_all := lw_g (lw_at lw_m6 130 rfl) rfl
theorem q1449 : (Jvm.Cond.code ({ cls := "java/util/Arrays", name := "copyOfRange", desc := "([BII)[B" } : Jvm.MethodName) prog_46_method_132_code (3 : Nat) (Option.some (Jvm.ClassFile.FieldType.array Jvm.ClassFile.FieldType.byte))) ∈ lw_all := lw_g (lw_at lw_m6 131 rfl) rfl
theorem q1450 : (Jvm.Cond.methodLink "java/util/Arrays" (339 : Nat) ({ cls := "java/util/Arrays", name := "copyOfRangeByte", desc := "([BII)[B" } : Jvm.MethodName)) ∈ lw_all := lw_g (lw_at lw_m6 132 rfl) rfl
theorem q1451 : (Jvm.Cond.static ({ cls := "java/util/Arrays", name := "copyOfRangeByte", desc := "([BII)[B" } : Jvm.MethodName)) ∈ lw_all := lw_g (lw_at lw_m6 133 rfl) rfl
theorem q1452 : (Jvm.Cond.code ({ cls := "java/util/Arrays", name := "copyOfRangeByte", desc := "([BII)[B" } : Jvm.MethodName) prog_46_method_133_code (5 : Nat) (Option.some (Jvm.ClassFile.FieldType.array Jvm.ClassFile.FieldType.byte))) ∈ lw_all := lw_g (lw_at lw_m6 134 rfl) rfl
theorem q1453 : (Jvm.Cond.methodLink "java/util/Arrays" (343 : Nat) ({ cls := "java/util/Arrays", name := "checkLength", desc := "(II)V" } : Jvm.MethodName)) ∈ lw_all := lw_g (lw_at lw_m6 135 rfl) rfl
theorem q1454 : (Jvm.Cond.static ({ cls := "java/util/Arrays", name := "checkLength", desc := "(II)V" } : Jvm.MethodName)) ∈ lw_all := lw_g (lw_at lw_m6 136 rfl) rfl
theorem q1455 : (Jvm.Cond.code ({ cls := "java/util/Arrays", name := "checkLength", desc := "(II)V" } : Jvm.MethodName) prog_46_method_131_code (2 : Nat) (Option.none : Option Jvm.ClassFile.FieldType)) ∈ lw_all := lw_g (lw_at lw_m6 137 rfl) rfl
theorem q1456 : (Jvm.Cond.classLink "java/util/Arrays" (43 : Nat) "java/lang/IllegalArgumentException") ∈ lw_all := lw_g (lw_at lw_m6 138 rfl) rfl
theorem q1457 : (Jvm.Cond.classLink "java/util/Arrays" (45 : Nat) "java/lang/StringBuilder") ∈ lw_all := lw_g (lw_at lw_m6 139 rfl) rfl
theorem q1459 : (Jvm.Cond.methodLink "java/util/Arrays" (47 : Nat) ({ cls := "java/lang/StringBuilder", name := "<init>", desc := "()V" } : Jvm.MethodName)) ∈ lw_all := lw_g (lw_at lw_m6 141 rfl) rfl
theorem q1486 : (Jvm.Cond.methodLink "java/util/Arrays" (54 : Nat) ({ cls := "java/lang/StringBuilder", name := "append", desc := "(I)Ljava/lang/StringBuilder;" } : Jvm.MethodName)) ∈ lw_all := lw_g (lw_at lw_m6 168 rfl) rfl
theorem q1507 : (Jvm.Cond.static ({ cls := "java/util/Arrays", name := "copyOf", desc := "([BI)[B" } : Jvm.MethodName)) ∈ lw_all := lw_g (lw_at lw_m6 189 rfl) rfl
theorem q1508 : (Jvm.Cond.code ({ cls := "java/util/Arrays", name := "copyOf", desc := "([BI)[B" } : Jvm.MethodName) prog_46_method_121_code (3 : Nat) (Option.some (Jvm.ClassFile.FieldType.array Jvm.ClassFile.FieldType.byte))) ∈ lw_all := lw_g (lw_at lw_m6 190 rfl) rfl
theorem q1509 : (Jvm.Cond.methodLink "java/util/Arrays" (310 : Nat) ({ cls := "[B", name := "clone", desc := "()Ljava/lang/Object;" } : Jvm.MethodName)) ∈ lw_all := lw_g (lw_at lw_m6 191 rfl) rfl
theorem q1515 : (Jvm.Cond.classLink "java/util/Arrays" (311 : Nat) "[B") ∈ lw_all := lw_g (lw_at lw_m6 197 rfl) rfl
theorem q1539 : (Jvm.Cond.stringRef "java/util/Arrays" (337 : Nat) " > ") ∈ lw_tbl := lw_at lw_m6 221 rfl
theorem q1540 : (Jvm.Cond.methodLink "java/util/Arrays" (50 : Nat) ({ cls := "java/lang/StringBuilder", name := "append", desc := "(Ljava/lang/String;)Ljava/lang/StringBuilder;" } : Jvm.MethodName)) ∈ lw_all := lw_g (lw_at lw_m6 222 rfl) rfl
theorem q1589 : (Jvm.Cond.methodLink "java/util/Arrays" (61 : Nat) ({ cls := "java/lang/StringBuilder", name := "toString", desc := "()Ljava/lang/String;" } : Jvm.MethodName)) ∈ lw_all := lw_g (lw_at lw_m7 31 rfl) rfl
theorem q1637 : (Jvm.Cond.methodLink "java/util/Arrays" (65 : Nat) ({ cls := "java/lang/IllegalArgumentException", name := "<init>", desc := "(Ljava/lang/String;)V" } : Jvm.MethodName)) ∈ lw_all := lw_g (lw_at lw_m7 79 rfl) rfl
/-! java/lang/AbstractStringBuilder -/
set_option maxRecDepth 100000
def RJ18 : String := "java/lang/AbstractStringBuilder"
abbrev cJ18_charAt : ByteArray := prog_21_method_14_code
def yJ18_charAt : MethodName := ⟨RJ18, "charAt", "(I)C"⟩
def dkwJ18_charAt_1 : List UInt8 := [21, 4, 184, 0, 144, 28, 154, 0, 12, 45, 27, 51, 17, 0, 255, 126, 146, 172, 45, 27, 184, 0, 148, 172]
abbrev dktJ18_charAt_1 : List UInt8 := dkwJ18_charAt_1 ++ []
def dkwJ18_charAt_0 : List UInt8 := [42, 180, 0, 22, 61, 42, 180, 0, 15, 78, 42, 180, 0, 79, 45, 190, 28, 122, 184, 0, 138, 54, 4, 27]
abbrev dktJ18_charAt_0 : List UInt8 := dkwJ18_charAt_0 ++ dktJ18_charAt_1
theorem dksJ18_charAt_0 : cJ18_charAt.data.toList.drop 0 = dktJ18_charAt_0 := by decide +kernel
theorem dksJ18_charAt_1 : cJ18_charAt.data.toList.drop 24 = dktJ18_charAt_1 := dk_seg dksJ18_charAt_0 24 rfl rfl
theorem dJ18_charAt_0 : decode cJ18_charAt 0 = .ok (.aload_n 0, 1) := dk_42 (dk_at dksJ18_charAt_0 0 rfl rfl)
theorem dJ18_charAt_1 : decode cJ18_charAt 1 = .ok (.getfield 22, 3) := dk_180 0 22 (dk_at dksJ18_charAt_0 1 rfl rfl)
theorem dJ18_charAt_4 : decode cJ18_charAt 4 = .ok (.istore_n 2, 1) := dk_61 (dk_at dksJ18_charAt_0 4 rfl rfl)
theorem dJ18_charAt_5 : decode cJ18_charAt 5 = .ok (.aload_n 0, 1) := dk_42 (dk_at dksJ18_charAt_0 5 rfl rfl)
theorem dJ18_charAt_6 : decode cJ18_charAt 6 = .ok (.getfield 15, 3) := dk_180 0 15 (dk_at dksJ18_charAt_0 6 rfl rfl)
theorem dJ18_charAt_9 : decode cJ18_charAt 9 = .ok (.astore_n 3, 1) := dk_78 (dk_at dksJ18_charAt_0 9 rfl rfl)
theorem dJ18_charAt_10 : decode cJ18_charAt 10 = .ok (.aload_n 0, 1) := dk_42 (dk_at dksJ18_charAt_0 10 rfl rfl)
theorem dJ18_charAt_11 : decode cJ18_charAt 11 = .ok (.getfield 79, 3) := dk_180 0 79 (dk_at dksJ18_charAt_0 11 rfl rfl)
theorem dJ18_charAt_14 : decode cJ18_charAt 14 = .ok (.aload_n 3, 1) := dk_45 (dk_at dksJ18_charAt_0 14 rfl rfl)
theorem dJ18_charAt_15 : decode cJ18_charAt 15 = .ok (.arraylength, 1) := dk_190 (dk_at dksJ18_charAt_0 15 rfl rfl)
theorem dJ18_charAt_16 : decode cJ18_charAt 16 = .ok (.iload_n 2, 1) := dk_28 (dk_at dksJ18_charAt_0 16 rfl rfl)
theorem dJ18_charAt_17 : decode cJ18_charAt 17 = .ok (.ishr, 1) := dk_122 (dk_at dksJ18_charAt_0 17 rfl rfl)
theorem dJ18_charAt_18 : decode cJ18_charAt 18 = .ok (.invokestatic 138, 3) := dk_184 0 138 (dk_at dksJ18_charAt_0 18 rfl rfl)
theorem dJ18_charAt_21 : decode cJ18_charAt 21 = .ok (.istore 4, 2) := dk_54 4 (dk_at dksJ18_charAt_0 21 rfl rfl)
theorem dJ18_charAt_23 : decode cJ18_charAt 23 = .ok (.iload_n 1, 1) := dk_27 (dk_at dksJ18_charAt_0 23 rfl rfl)
theorem dJ18_charAt_24 : decode cJ18_charAt 24 = .ok (.iload 4, 2) := dk_21 4 (dk_at dksJ18_charAt_1 0 rfl rfl)
theorem dJ18_charAt_26 : decode cJ18_charAt 26 = .ok (.invokestatic 144, 3) := dk_184 0 144 (dk_at dksJ18_charAt_1 2 rfl rfl)
theorem dJ18_charAt_29 : decode cJ18_charAt 29 = .ok (.iload_n 2, 1) := dk_28 (dk_at dksJ18_charAt_1 5 rfl rfl)
theorem dJ18_charAt_30 : decode cJ18_charAt 30 = .ok (.ifCond .ne 12, 3) := dk_154 0 12 (dk_at dksJ18_charAt_1 6 rfl rfl)
theorem dJ18_charAt_33 : decode cJ18_charAt 33 = .ok (.aload_n 3, 1) := dk_45 (dk_at dksJ18_charAt_1 9 rfl rfl)
theorem dJ18_charAt_34 : decode cJ18_charAt 34 = .ok (.iload_n 1, 1) := dk_27 (dk_at dksJ18_charAt_1 10 rfl rfl)
theorem dJ18_charAt_35 : decode cJ18_charAt 35 = .ok (.baload, 1) := dk_51 (dk_at dksJ18_charAt_1 11 rfl rfl)
theorem dJ18_charAt_36 : decode cJ18_charAt 36 = .ok (.sipush 255, 3) := dk_17 0 255 (dk_at dksJ18_charAt_1 12 rfl rfl)
theorem dJ18_charAt_39 : decode cJ18_charAt 39 = .ok (.iand, 1) := dk_126 (dk_at dksJ18_charAt_1 15 rfl rfl)
theorem dJ18_charAt_40 : decode cJ18_charAt 40 = .ok (.i2c, 1) := dk_146 (dk_at dksJ18_charAt_1 16 rfl rfl)
theorem dJ18_charAt_41 : decode cJ18_charAt 41 = .ok (.ireturn, 1) := dk_172 (dk_at dksJ18_charAt_1 17 rfl rfl)
theorem dJ18_charAt_42 : decode cJ18_charAt 42 = .ok (.aload_n 3, 1) := dk_45 (dk_at dksJ18_charAt_1 18 rfl rfl)
theorem dJ18_charAt_43 : decode cJ18_charAt 43 = .ok (.iload_n 1, 1) := dk_27 (dk_at dksJ18_charAt_1 19 rfl rfl)
theorem dJ18_charAt_44 : decode cJ18_charAt 44 = .ok (.invokestatic 148, 3) := dk_184 0 148 (dk_at dksJ18_charAt_1 20 rfl rfl)
theorem dJ18_charAt_47 : decode cJ18_charAt 47 = .ok (.ireturn, 1) := dk_172 (dk_at dksJ18_charAt_1 23 rfl rfl)
abbrev cJ18_init : ByteArray := prog_21_method_2_code
def yJ18_init : MethodName := ⟨RJ18, "<init>", "(I)V"⟩
def dkwJ18_init_1 : List UInt8 := [167, 0, 16, 42, 27, 184, 0, 26, 181, 0, 15, 42, 4, 181, 0, 22, 177]
abbrev dktJ18_init_1 : List UInt8 := dkwJ18_init_1 ++ []
def dkwJ18_init_0 : List UInt8 := [42, 183, 0, 3, 178, 0, 18, 153, 0, 18, 42, 27, 188, 8, 181, 0, 15, 42, 3, 181, 0, 22]
abbrev dktJ18_init_0 : List UInt8 := dkwJ18_init_0 ++ dktJ18_init_1
theorem dksJ18_init_0 : cJ18_init.data.toList.drop 0 = dktJ18_init_0 := by decide +kernel
theorem dksJ18_init_1 : cJ18_init.data.toList.drop 22 = dktJ18_init_1 := dk_seg dksJ18_init_0 22 rfl rfl
theorem dJ18_init_0 : decode cJ18_init 0 = .ok (.aload_n 0, 1) := dk_42 (dk_at dksJ18_init_0 0 rfl rfl)
theorem dJ18_init_1 : decode cJ18_init 1 = .ok (.invokespecial 3, 3) := dk_183 0 3 (dk_at dksJ18_init_0 1 rfl rfl)
theorem dJ18_init_4 : decode cJ18_init 4 = .ok (.getstatic 18, 3) := dk_178 0 18 (dk_at dksJ18_init_0 4 rfl rfl)
theorem dJ18_init_7 : decode cJ18_init 7 = .ok (.ifCond .eq 18, 3) := dk_153 0 18 (dk_at dksJ18_init_0 7 rfl rfl)
theorem dJ18_init_10 : decode cJ18_init 10 = .ok (.aload_n 0, 1) := dk_42 (dk_at dksJ18_init_0 10 rfl rfl)
theorem dJ18_init_11 : decode cJ18_init 11 = .ok (.iload_n 1, 1) := dk_27 (dk_at dksJ18_init_0 11 rfl rfl)
theorem dJ18_init_12 : decode cJ18_init 12 = .ok (.newarray .byte, 2) := dk_188_8 (dk_at dksJ18_init_0 12 rfl rfl)
theorem dJ18_init_14 : decode cJ18_init 14 = .ok (.putfield 15, 3) := dk_181 0 15 (dk_at dksJ18_init_0 14 rfl rfl)
theorem dJ18_init_17 : decode cJ18_init 17 = .ok (.aload_n 0, 1) := dk_42 (dk_at dksJ18_init_0 17 rfl rfl)
theorem dJ18_init_18 : decode cJ18_init 18 = .ok (.iconst 0, 1) := dk_3 (dk_at dksJ18_init_0 18 rfl rfl)
theorem dJ18_init_19 : decode cJ18_init 19 = .ok (.putfield 22, 3) := dk_181 0 22 (dk_at dksJ18_init_0 19 rfl rfl)
theorem dJ18_init_22 : decode cJ18_init 22 = .ok (.goto 16, 3) := dk_167 0 16 (dk_at dksJ18_init_1 0 rfl rfl)
theorem dJ18_init_25 : decode cJ18_init 25 = .ok (.aload_n 0, 1) := dk_42 (dk_at dksJ18_init_1 3 rfl rfl)
theorem dJ18_init_26 : decode cJ18_init 26 = .ok (.iload_n 1, 1) := dk_27 (dk_at dksJ18_init_1 4 rfl rfl)
theorem dJ18_init_27 : decode cJ18_init 27 = .ok (.invokestatic 26, 3) := dk_184 0 26 (dk_at dksJ18_init_1 5 rfl rfl)
theorem dJ18_init_30 : decode cJ18_init 30 = .ok (.putfield 15, 3) := dk_181 0 15 (dk_at dksJ18_init_1 8 rfl rfl)
theorem dJ18_init_33 : decode cJ18_init 33 = .ok (.aload_n 0, 1) := dk_42 (dk_at dksJ18_init_1 11 rfl rfl)
theorem dJ18_init_34 : decode cJ18_init 34 = .ok (.iconst 1, 1) := dk_4 (dk_at dksJ18_init_1 12 rfl rfl)
theorem dJ18_init_35 : decode cJ18_init 35 = .ok (.putfield 22, 3) := dk_181 0 22 (dk_at dksJ18_init_1 13 rfl rfl)
theorem dJ18_init_38 : decode cJ18_init 38 = .ok (.return_, 1) := dk_177 (dk_at dksJ18_init_1 16 rfl rfl)
abbrev cJ18_append : ByteArray := prog_21_method_32_code
def yJ18_append : MethodName := ⟨RJ18, "append", "(I)Ljava/lang/AbstractStringBuilder;"⟩
def dkwJ18_append_2 : List UInt8 := [42, 29, 181, 0, 79, 42, 176]
abbrev dktJ18_append_2 : List UInt8 := dkwJ18_append_2 ++ []
def dkwJ18_append_1 : List UInt8 := [27, 29, 42, 180, 0, 15, 184, 0, 248, 87, 167, 0, 14, 27, 28, 29, 42, 180, 0, 15, 184, 0, 251, 87]
abbrev dktJ18_append_1 : List UInt8 := dkwJ18_append_1 ++ dktJ18_append_2
def dkwJ18_append_0 : List UInt8 := [42, 180, 0, 79, 61, 28, 27, 184, 0, 245, 96, 62, 42, 29, 182, 0, 100, 42, 182, 0, 83, 153, 0, 16]
abbrev dktJ18_append_0 : List UInt8 := dkwJ18_append_0 ++ dktJ18_append_1
theorem dksJ18_append_0 : cJ18_append.data.toList.drop 0 = dktJ18_append_0 := by decide +kernel
theorem dksJ18_append_1 : cJ18_append.data.toList.drop 24 = dktJ18_append_1 := dk_seg dksJ18_append_0 24 rfl rfl
theorem dksJ18_append_2 : cJ18_append.data.toList.drop 48 = dktJ18_append_2 := dk_seg dksJ18_append_1 24 rfl rfl
theorem dJ18_append_0 : decode cJ18_append 0 = .ok (.aload_n 0, 1) := dk_42 (dk_at dksJ18_append_0 0 rfl rfl)
theorem dJ18_append_1 : decode cJ18_append 1 = .ok (.getfield 79, 3) := dk_180 0 79 (dk_at dksJ18_append_0 1 rfl rfl)
theorem dJ18_append_4 : decode cJ18_append 4 = .ok (.istore_n 2, 1) := dk_61 (dk_at dksJ18_append_0 4 rfl rfl)
theorem dJ18_append_5 : decode cJ18_append 5 = .ok (.iload_n 2, 1) := dk_28 (dk_at dksJ18_append_0 5 rfl rfl)
theorem dJ18_append_6 : decode cJ18_append 6 = .ok (.iload_n 1, 1) := dk_27 (dk_at dksJ18_append_0 6 rfl rfl)
theorem dJ18_append_7 : decode cJ18_append 7 = .ok (.invokestatic 245, 3) := dk_184 0 245 (dk_at dksJ18_append_0 7 rfl rfl)
theorem dJ18_append_10 : decode cJ18_append 10 = .ok (.iadd, 1) := dk_96 (dk_at dksJ18_append_0 10 rfl rfl)
theorem dJ18_append_11 : decode cJ18_append 11 = .ok (.istore_n 3, 1) := dk_62 (dk_at dksJ18_append_0 11 rfl rfl)
theorem dJ18_append_12 : decode cJ18_append 12 = .ok (.aload_n 0, 1) := dk_42 (dk_at dksJ18_append_0 12 rfl rfl)
theorem dJ18_append_13 : decode cJ18_append 13 = .ok (.iload_n 3, 1) := dk_29 (dk_at dksJ18_append_0 13 rfl rfl)
theorem dJ18_append_14 : decode cJ18_append 14 = .ok (.invokevirtual 100, 3) := dk_182 0 100 (dk_at dksJ18_append_0 14 rfl rfl)
theorem dJ18_append_17 : decode cJ18_append 17 = .ok (.aload_n 0, 1) := dk_42 (dk_at dksJ18_append_0 17 rfl rfl)
theorem dJ18_append_18 : decode cJ18_append 18 = .ok (.invokevirtual 83, 3) := dk_182 0 83 (dk_at dksJ18_append_0 18 rfl rfl)
theorem dJ18_append_21 : decode cJ18_append 21 = .ok (.ifCond .eq 16, 3) := dk_153 0 16 (dk_at dksJ18_append_0 21 rfl rfl)
theorem dJ18_append_24 : decode cJ18_append 24 = .ok (.iload_n 1, 1) := dk_27 (dk_at dksJ18_append_1 0 rfl rfl)
theorem dJ18_append_25 : decode cJ18_append 25 = .ok (.iload_n 3, 1) := dk_29 (dk_at dksJ18_append_1 1 rfl rfl)
theorem dJ18_append_26 : decode cJ18_append 26 = .ok (.aload_n 0, 1) := dk_42 (dk_at dksJ18_append_1 2 rfl rfl)
theorem dJ18_append_27 : decode cJ18_append 27 = .ok (.getfield 15, 3) := dk_180 0 15 (dk_at dksJ18_append_1 3 rfl rfl)
theorem dJ18_append_30 : decode cJ18_append 30 = .ok (.invokestatic 248, 3) := dk_184 0 248 (dk_at dksJ18_append_1 6 rfl rfl)
theorem dJ18_append_33 : decode cJ18_append 33 = .ok (.pop, 1) := dk_87 (dk_at dksJ18_append_1 9 rfl rfl)
theorem dJ18_append_34 : decode cJ18_append 34 = .ok (.goto 14, 3) := dk_167 0 14 (dk_at dksJ18_append_1 10 rfl rfl)
theorem dJ18_append_37 : decode cJ18_append 37 = .ok (.iload_n 1, 1) := dk_27 (dk_at dksJ18_append_1 13 rfl rfl)
theorem dJ18_append_38 : decode cJ18_append 38 = .ok (.iload_n 2, 1) := dk_28 (dk_at dksJ18_append_1 14 rfl rfl)
theorem dJ18_append_39 : decode cJ18_append 39 = .ok (.iload_n 3, 1) := dk_29 (dk_at dksJ18_append_1 15 rfl rfl)
theorem dJ18_append_40 : decode cJ18_append 40 = .ok (.aload_n 0, 1) := dk_42 (dk_at dksJ18_append_1 16 rfl rfl)
theorem dJ18_append_41 : decode cJ18_append 41 = .ok (.getfield 15, 3) := dk_180 0 15 (dk_at dksJ18_append_1 17 rfl rfl)
theorem dJ18_append_44 : decode cJ18_append 44 = .ok (.invokestatic 251, 3) := dk_184 0 251 (dk_at dksJ18_append_1 20 rfl rfl)
theorem dJ18_append_47 : decode cJ18_append 47 = .ok (.pop, 1) := dk_87 (dk_at dksJ18_append_1 23 rfl rfl)
theorem dJ18_append_48 : decode cJ18_append 48 = .ok (.aload_n 0, 1) := dk_42 (dk_at dksJ18_append_2 0 rfl rfl)
theorem dJ18_append_49 : decode cJ18_append 49 = .ok (.iload_n 3, 1) := dk_29 (dk_at dksJ18_append_2 1 rfl rfl)
theorem dJ18_append_50 : decode cJ18_append 50 = .ok (.putfield 79, 3) := dk_181 0 79 (dk_at dksJ18_append_2 2 rfl rfl)
theorem dJ18_append_53 : decode cJ18_append 53 = .ok (.aload_n 0, 1) := dk_42 (dk_at dksJ18_append_2 5 rfl rfl)
theorem dJ18_append_54 : decode cJ18_append 54 = .ok (.areturn, 1) := dk_176 (dk_at dksJ18_append_2 6 rfl rfl)
abbrev cJ18_ensureCapacityInternal : ByteArray := prog_21_method_9_code
def yJ18_ensureCapacityInternal : MethodName := ⟨RJ18, "ensureCapacityInternal", "(I)V"⟩
def dkwJ18_ensureCapacityInternal_1 : List UInt8 := [182, 0, 104, 42, 180, 0, 22, 120, 184, 0, 108, 181, 0, 15, 177]
abbrev dktJ18_ensureCapacityInternal_1 : List UInt8 := dkwJ18_ensureCapacityInternal_1 ++ []
def dkwJ18_ensureCapacityInternal_0 : List UInt8 := [42, 180, 0, 15, 190, 42, 180, 0, 22, 122, 61, 27, 28, 100, 158, 0, 24, 42, 42, 180, 0, 15, 42, 27]
abbrev dktJ18_ensureCapacityInternal_0 : List UInt8 := dkwJ18_ensureCapacityInternal_0 ++ dktJ18_ensureCapacityInternal_1
theorem dksJ18_ensureCapacityInternal_0 : cJ18_ensureCapacityInternal.data.toList.drop 0 = dktJ18_ensureCapacityInternal_0 := by decide +kernel
theorem dksJ18_ensureCapacityInternal_1 : cJ18_ensureCapacityInternal.data.toList.drop 24 = dktJ18_ensureCapacityInternal_1 := dk_seg dksJ18_ensureCapacityInternal_0 24 rfl rfl
theorem dJ18_ensureCapacityInternal_0 : decode cJ18_ensureCapacityInternal 0 = .ok (.aload_n 0, 1) := dk_42 (dk_at dksJ18_ensureCapacityInternal_0 0 rfl rfl)
theorem dJ18_ensureCapacityInternal_1 : decode cJ18_ensureCapacityInternal 1 = .ok (.getfield 15, 3) := dk_180 0 15 (dk_at dksJ18_ensureCapacityInternal_0 1 rfl rfl)
theorem dJ18_ensureCapacityInternal_4 : decode cJ18_ensureCapacityInternal 4 = .ok (.arraylength, 1) := dk_190 (dk_at dksJ18_ensureCapacityInternal_0 4 rfl rfl)
theorem dJ18_ensureCapacityInternal_5 : decode cJ18_ensureCapacityInternal 5 = .ok (.aload_n 0, 1) := dk_42 (dk_at dksJ18_ensureCapacityInternal_0 5 rfl rfl)
theorem dJ18_ensureCapacityInternal_6 : decode cJ18_ensureCapacityInternal 6 = .ok (.getfield 22, 3) := dk_180 0 22 (dk_at dksJ18_ensureCapacityInternal_0 6 rfl rfl)
theorem dJ18_ensureCapacityInternal_9 : decode cJ18_ensureCapacityInternal 9 = .ok (.ishr, 1) := dk_122 (dk_at dksJ18_ensureCapacityInternal_0 9 rfl rfl)
theorem dJ18_ensureCapacityInternal_10 : decode cJ18_ensureCapacityInternal 10 = .ok (.istore_n 2, 1) := dk_61 (dk_at dksJ18_ensureCapacityInternal_0 10 rfl rfl)
theorem dJ18_ensureCapacityInternal_11 : decode cJ18_ensureCapacityInternal 11 = .ok (.iload_n 1, 1) := dk_27 (dk_at dksJ18_ensureCapacityInternal_0 11 rfl rfl)
theorem dJ18_ensureCapacityInternal_12 : decode cJ18_ensureCapacityInternal 12 = .ok (.iload_n 2, 1) := dk_28 (dk_at dksJ18_ensureCapacityInternal_0 12 rfl rfl)
theorem dJ18_ensureCapacityInternal_13 : decode cJ18_ensureCapacityInternal 13 = .ok (.isub, 1) := dk_100 (dk_at dksJ18_ensureCapacityInternal_0 13 rfl rfl)
theorem dJ18_ensureCapacityInternal_14 : decode cJ18_ensureCapacityInternal 14 = .ok (.ifCond .le 24, 3) := dk_158 0 24 (dk_at dksJ18_ensureCapacityInternal_0 14 rfl rfl)
theorem dJ18_ensureCapacityInternal_17 : decode cJ18_ensureCapacityInternal 17 = .ok (.aload_n 0, 1) := dk_42 (dk_at dksJ18_ensureCapacityInternal_0 17 rfl rfl)
theorem dJ18_ensureCapacityInternal_18 : decode cJ18_ensureCapacityInternal 18 = .ok (.aload_n 0, 1) := dk_42 (dk_at dksJ18_ensureCapacityInternal_0 18 rfl rfl)
theorem dJ18_ensureCapacityInternal_19 : decode cJ18_ensureCapacityInternal 19 = .ok (.getfield 15, 3) := dk_180 0 15 (dk_at dksJ18_ensureCapacityInternal_0 19 rfl rfl)
theorem dJ18_ensureCapacityInternal_22 : decode cJ18_ensureCapacityInternal 22 = .ok (.aload_n 0, 1) := dk_42 (dk_at dksJ18_ensureCapacityInternal_0 22 rfl rfl)
theorem dJ18_ensureCapacityInternal_23 : decode cJ18_ensureCapacityInternal 23 = .ok (.iload_n 1, 1) := dk_27 (dk_at dksJ18_ensureCapacityInternal_0 23 rfl rfl)
theorem dJ18_ensureCapacityInternal_24 : decode cJ18_ensureCapacityInternal 24 = .ok (.invokevirtual 104, 3) := dk_182 0 104 (dk_at dksJ18_ensureCapacityInternal_1 0 rfl rfl)
theorem dJ18_ensureCapacityInternal_27 : decode cJ18_ensureCapacityInternal 27 = .ok (.aload_n 0, 1) := dk_42 (dk_at dksJ18_ensureCapacityInternal_1 3 rfl rfl)
theorem dJ18_ensureCapacityInternal_28 : decode cJ18_ensureCapacityInternal 28 = .ok (.getfield 22, 3) := dk_180 0 22 (dk_at dksJ18_ensureCapacityInternal_1 4 rfl rfl)
theorem dJ18_ensureCapacityInternal_31 : decode cJ18_ensureCapacityInternal 31 = .ok (.ishl, 1) := dk_120 (dk_at dksJ18_ensureCapacityInternal_1 7 rfl rfl)
theorem dJ18_ensureCapacityInternal_32 : decode cJ18_ensureCapacityInternal 32 = .ok (.invokestatic 108, 3) := dk_184 0 108 (dk_at dksJ18_ensureCapacityInternal_1 8 rfl rfl)
theorem dJ18_ensureCapacityInternal_35 : decode cJ18_ensureCapacityInternal 35 = .ok (.putfield 15, 3) := dk_181 0 15 (dk_at dksJ18_ensureCapacityInternal_1 11 rfl rfl)
theorem dJ18_ensureCapacityInternal_38 : decode cJ18_ensureCapacityInternal 38 = .ok (.return_, 1) := dk_177 (dk_at dksJ18_ensureCapacityInternal_1 14 rfl rfl)
abbrev cJ18_newCapacity : ByteArray := prog_21_method_10_code
def yJ18_newCapacity : MethodName := ⟨RJ18, "newCapacity", "(I)I"⟩
def dkwJ18_newCapacity_2 : List UInt8 := [183, 0, 124, 191, 21, 5, 42, 180, 0, 22, 122, 172]
abbrev dktJ18_newCapacity_2 : List UInt8 := dkwJ18_newCapacity_2 ++ []
def dkwJ18_newCapacity_1 : List UInt8 := [180, 0, 22, 120, 96, 184, 0, 114, 54, 5, 21, 5, 18, 39, 160, 0, 13, 187, 0, 120, 89, 18, 122]
abbrev dktJ18_newCapacity_1 : List UInt8 := dkwJ18_newCapacity_1 ++ dktJ18_newCapacity_2
def dkwJ18_newCapacity_0 : List UInt8 := [42, 180, 0, 15, 190, 61, 27, 42, 180, 0, 22, 120, 62, 29, 28, 100, 54, 4, 28, 21, 4, 28, 5, 42]
abbrev dktJ18_newCapacity_0 : List UInt8 := dkwJ18_newCapacity_0 ++ dktJ18_newCapacity_1
theorem dksJ18_newCapacity_0 : cJ18_newCapacity.data.toList.drop 0 = dktJ18_newCapacity_0 := by decide +kernel
theorem dksJ18_newCapacity_1 : cJ18_newCapacity.data.toList.drop 24 = dktJ18_newCapacity_1 := dk_seg dksJ18_newCapacity_0 24 rfl rfl
theorem dksJ18_newCapacity_2 : cJ18_newCapacity.data.toList.drop 47 = dktJ18_newCapacity_2 := dk_seg dksJ18_newCapacity_1 23 rfl rfl
theorem dJ18_newCapacity_0 : decode cJ18_newCapacity 0 = .ok (.aload_n 0, 1) := dk_42 (dk_at dksJ18_newCapacity_0 0 rfl rfl)
theorem dJ18_newCapacity_1 : decode cJ18_newCapacity 1 = .ok (.getfield 15, 3) := dk_180 0 15 (dk_at dksJ18_newCapacity_0 1 rfl rfl)
theorem dJ18_newCapacity_4 : decode cJ18_newCapacity 4 = .ok (.arraylength, 1) := dk_190 (dk_at dksJ18_newCapacity_0 4 rfl rfl)
theorem dJ18_newCapacity_5 : decode cJ18_newCapacity 5 = .ok (.istore_n 2, 1) := dk_61 (dk_at dksJ18_newCapacity_0 5 rfl rfl)
theorem dJ18_newCapacity_6 : decode cJ18_newCapacity 6 = .ok (.iload_n 1, 1) := dk_27 (dk_at dksJ18_newCapacity_0 6 rfl rfl)
theorem dJ18_newCapacity_7 : decode cJ18_newCapacity 7 = .ok (.aload_n 0, 1) := dk_42 (dk_at dksJ18_newCapacity_0 7 rfl rfl)
theorem dJ18_newCapacity_8 : decode cJ18_newCapacity 8 = .ok (.getfield 22, 3) := dk_180 0 22 (dk_at dksJ18_newCapacity_0 8 rfl rfl)
theorem dJ18_newCapacity_11 : decode cJ18_newCapacity 11 = .ok (.ishl, 1) := dk_120 (dk_at dksJ18_newCapacity_0 11 rfl rfl)
theorem dJ18_newCapacity_12 : decode cJ18_newCapacity 12 = .ok (.istore_n 3, 1) := dk_62 (dk_at dksJ18_newCapacity_0 12 rfl rfl)
theorem dJ18_newCapacity_13 : decode cJ18_newCapacity 13 = .ok (.iload_n 3, 1) := dk_29 (dk_at dksJ18_newCapacity_0 13 rfl rfl)
theorem dJ18_newCapacity_14 : decode cJ18_newCapacity 14 = .ok (.iload_n 2, 1) := dk_28 (dk_at dksJ18_newCapacity_0 14 rfl rfl)
theorem dJ18_newCapacity_15 : decode cJ18_newCapacity 15 = .ok (.isub, 1) := dk_100 (dk_at dksJ18_newCapacity_0 15 rfl rfl)
theorem dJ18_newCapacity_16 : decode cJ18_newCapacity 16 = .ok (.istore 4, 2) := dk_54 4 (dk_at dksJ18_newCapacity_0 16 rfl rfl)
theorem dJ18_newCapacity_18 : decode cJ18_newCapacity 18 = .ok (.iload_n 2, 1) := dk_28 (dk_at dksJ18_newCapacity_0 18 rfl rfl)
theorem dJ18_newCapacity_19 : decode cJ18_newCapacity 19 = .ok (.iload 4, 2) := dk_21 4 (dk_at dksJ18_newCapacity_0 19 rfl rfl)
theorem dJ18_newCapacity_21 : decode cJ18_newCapacity 21 = .ok (.iload_n 2, 1) := dk_28 (dk_at dksJ18_newCapacity_0 21 rfl rfl)
theorem dJ18_newCapacity_22 : decode cJ18_newCapacity 22 = .ok (.iconst 2, 1) := dk_5 (dk_at dksJ18_newCapacity_0 22 rfl rfl)
theorem dJ18_newCapacity_23 : decode cJ18_newCapacity 23 = .ok (.aload_n 0, 1) := dk_42 (dk_at dksJ18_newCapacity_0 23 rfl rfl)
theorem dJ18_newCapacity_24 : decode cJ18_newCapacity 24 = .ok (.getfield 22, 3) := dk_180 0 22 (dk_at dksJ18_newCapacity_1 0 rfl rfl)
theorem dJ18_newCapacity_27 : decode cJ18_newCapacity 27 = .ok (.ishl, 1) := dk_120 (dk_at dksJ18_newCapacity_1 3 rfl rfl)
theorem dJ18_newCapacity_28 : decode cJ18_newCapacity 28 = .ok (.iadd, 1) := dk_96 (dk_at dksJ18_newCapacity_1 4 rfl rfl)
theorem dJ18_newCapacity_29 : decode cJ18_newCapacity 29 = .ok (.invokestatic 114, 3) := dk_184 0 114 (dk_at dksJ18_newCapacity_1 5 rfl rfl)
theorem dJ18_newCapacity_32 : decode cJ18_newCapacity 32 = .ok (.istore 5, 2) := dk_54 5 (dk_at dksJ18_newCapacity_1 8 rfl rfl)
theorem dJ18_newCapacity_34 : decode cJ18_newCapacity 34 = .ok (.iload 5, 2) := dk_21 5 (dk_at dksJ18_newCapacity_1 10 rfl rfl)
theorem dJ18_newCapacity_36 : decode cJ18_newCapacity 36 = .ok (.ldc 39, 2) := dk_18 39 (dk_at dksJ18_newCapacity_1 12 rfl rfl)
theorem dJ18_newCapacity_38 : decode cJ18_newCapacity 38 = .ok (.if_icmp .ne 13, 3) := dk_160 0 13 (dk_at dksJ18_newCapacity_1 14 rfl rfl)
theorem dJ18_newCapacity_41 : decode cJ18_newCapacity 41 = .ok (.new 120, 3) := dk_187 0 120 (dk_at dksJ18_newCapacity_1 17 rfl rfl)
theorem dJ18_newCapacity_44 : decode cJ18_newCapacity 44 = .ok (.dup, 1) := dk_89 (dk_at dksJ18_newCapacity_1 20 rfl rfl)
theorem dJ18_newCapacity_45 : decode cJ18_newCapacity 45 = .ok (.ldc 122, 2) := dk_18 122 (dk_at dksJ18_newCapacity_1 21 rfl rfl)
theorem dJ18_newCapacity_47 : decode cJ18_newCapacity 47 = .ok (.invokespecial 124, 3) := dk_183 0 124 (dk_at dksJ18_newCapacity_2 0 rfl rfl)
theorem dJ18_newCapacity_50 : decode cJ18_newCapacity 50 = .ok (.athrow, 1) := dk_191 (dk_at dksJ18_newCapacity_2 3 rfl rfl)
theorem dJ18_newCapacity_51 : decode cJ18_newCapacity 51 = .ok (.iload 5, 2) := dk_21 5 (dk_at dksJ18_newCapacity_2 4 rfl rfl)
theorem dJ18_newCapacity_53 : decode cJ18_newCapacity 53 = .ok (.aload_n 0, 1) := dk_42 (dk_at dksJ18_newCapacity_2 6 rfl rfl)
theorem dJ18_newCapacity_54 : decode cJ18_newCapacity 54 = .ok (.getfield 22, 3) := dk_180 0 22 (dk_at dksJ18_newCapacity_2 7 rfl rfl)
theorem dJ18_newCapacity_57 : decode cJ18_newCapacity 57 = .ok (.ishr, 1) := dk_122 (dk_at dksJ18_newCapacity_2 10 rfl rfl)
theorem dJ18_newCapacity_58 : decode cJ18_newCapacity 58 = .ok (.ireturn, 1) := dk_172 (dk_at dksJ18_newCapacity_2 11 rfl rfl)
abbrev cJ18_isLatin1 : ByteArray := prog_21_method_68_code
def yJ18_isLatin1 : MethodName := ⟨RJ18, "isLatin1", "()Z"⟩
def dkwJ18_isLatin1_0 : List UInt8 := [178, 0, 18, 153, 0, 14, 42, 180, 0, 22, 154, 0, 7, 4, 167, 0, 4, 3, 172]
abbrev dktJ18_isLatin1_0 : List UInt8 := dkwJ18_isLatin1_0 ++ []
theorem dksJ18_isLatin1_0 : cJ18_isLatin1.data.toList.drop 0 = dktJ18_isLatin1_0 := by decide +kernel
theorem dJ18_isLatin1_0 : decode cJ18_isLatin1 0 = .ok (.getstatic 18, 3) := dk_178 0 18 (dk_at dksJ18_isLatin1_0 0 rfl rfl)
theorem dJ18_isLatin1_3 : decode cJ18_isLatin1 3 = .ok (.ifCond .eq 14, 3) := dk_153 0 14 (dk_at dksJ18_isLatin1_0 3 rfl rfl)
theorem dJ18_isLatin1_6 : decode cJ18_isLatin1 6 = .ok (.aload_n 0, 1) := dk_42 (dk_at dksJ18_isLatin1_0 6 rfl rfl)
theorem dJ18_isLatin1_7 : decode cJ18_isLatin1 7 = .ok (.getfield 22, 3) := dk_180 0 22 (dk_at dksJ18_isLatin1_0 7 rfl rfl)
theorem dJ18_isLatin1_10 : decode cJ18_isLatin1 10 = .ok (.ifCond .ne 7, 3) := dk_154 0 7 (dk_at dksJ18_isLatin1_0 10 rfl rfl)
theorem dJ18_isLatin1_13 : decode cJ18_isLatin1 13 = .ok (.iconst 1, 1) := dk_4 (dk_at dksJ18_isLatin1_0 13 rfl rfl)
theorem dJ18_isLatin1_14 : decode cJ18_isLatin1 14 = .ok (.goto 4, 3) := dk_167 0 4 (dk_at dksJ18_isLatin1_0 14 rfl rfl)
theorem dJ18_isLatin1_17 : decode cJ18_isLatin1 17 = .ok (.iconst 0, 1) := dk_3 (dk_at dksJ18_isLatin1_0 17 rfl rfl)
theorem dJ18_isLatin1_18 : decode cJ18_isLatin1 18 = .ok (.ireturn, 1) := dk_172 (dk_at dksJ18_isLatin1_0 18 rfl rfl)
abbrev cJ18_append_2 : ByteArray := prog_21_method_22_code
def yJ18_append_2 : MethodName := ⟨RJ18, "append", "(Ljava/lang/String;)Ljava/lang/AbstractStringBuilder;"⟩
def dkwJ18_append_2_1 : List UInt8 := [42, 42, 180, 0, 79, 43, 182, 0, 208, 42, 89, 180, 0, 79, 28, 96, 181, 0, 79, 42, 176]
abbrev dktJ18_append_2_1 : List UInt8 := dkwJ18_append_2_1 ++ []
def dkwJ18_append_2_0 : List UInt8 := [43, 199, 0, 8, 42, 182, 0, 204, 176, 43, 182, 0, 32, 61, 42, 42, 180, 0, 79, 28, 96, 182, 0, 100]
abbrev dktJ18_append_2_0 : List UInt8 := dkwJ18_append_2_0 ++ dktJ18_append_2_1
theorem dksJ18_append_2_0 : cJ18_append_2.data.toList.drop 0 = dktJ18_append_2_0 := by decide +kernel
theorem dksJ18_append_2_1 : cJ18_append_2.data.toList.drop 24 = dktJ18_append_2_1 := dk_seg dksJ18_append_2_0 24 rfl rfl
theorem dJ18_append_2_0 : decode cJ18_append_2 0 = .ok (.aload_n 1, 1) := dk_43 (dk_at dksJ18_append_2_0 0 rfl rfl)
theorem dJ18_append_2_1 : decode cJ18_append_2 1 = .ok (.ifnonnull 8, 3) := dk_199 0 8 (dk_at dksJ18_append_2_0 1 rfl rfl)
theorem dJ18_append_2_4 : decode cJ18_append_2 4 = .ok (.aload_n 0, 1) := dk_42 (dk_at dksJ18_append_2_0 4 rfl rfl)
theorem dJ18_append_2_5 : decode cJ18_append_2 5 = .ok (.invokevirtual 204, 3) := dk_182 0 204 (dk_at dksJ18_append_2_0 5 rfl rfl)
theorem dJ18_append_2_8 : decode cJ18_append_2 8 = .ok (.areturn, 1) := dk_176 (dk_at dksJ18_append_2_0 8 rfl rfl)
theorem dJ18_append_2_9 : decode cJ18_append_2 9 = .ok (.aload_n 1, 1) := dk_43 (dk_at dksJ18_append_2_0 9 rfl rfl)
theorem dJ18_append_2_10 : decode cJ18_append_2 10 = .ok (.invokevirtual 32, 3) := dk_182 0 32 (dk_at dksJ18_append_2_0 10 rfl rfl)
theorem dJ18_append_2_13 : decode cJ18_append_2 13 = .ok (.istore_n 2, 1) := dk_61 (dk_at dksJ18_append_2_0 13 rfl rfl)
theorem dJ18_append_2_14 : decode cJ18_append_2 14 = .ok (.aload_n 0, 1) := dk_42 (dk_at dksJ18_append_2_0 14 rfl rfl)
theorem dJ18_append_2_15 : decode cJ18_append_2 15 = .ok (.aload_n 0, 1) := dk_42 (dk_at dksJ18_append_2_0 15 rfl rfl)
theorem dJ18_append_2_16 : decode cJ18_append_2 16 = .ok (.getfield 79, 3) := dk_180 0 79 (dk_at dksJ18_append_2_0 16 rfl rfl)
theorem dJ18_append_2_19 : decode cJ18_append_2 19 = .ok (.iload_n 2, 1) := dk_28 (dk_at dksJ18_append_2_0 19 rfl rfl)
theorem dJ18_append_2_20 : decode cJ18_append_2 20 = .ok (.iadd, 1) := dk_96 (dk_at dksJ18_append_2_0 20 rfl rfl)
theorem dJ18_append_2_21 : decode cJ18_append_2 21 = .ok (.invokevirtual 100, 3) := dk_182 0 100 (dk_at dksJ18_append_2_0 21 rfl rfl)
theorem dJ18_append_2_24 : decode cJ18_append_2 24 = .ok (.aload_n 0, 1) := dk_42 (dk_at dksJ18_append_2_1 0 rfl rfl)
theorem dJ18_append_2_25 : decode cJ18_append_2 25 = .ok (.aload_n 0, 1) := dk_42 (dk_at dksJ18_append_2_1 1 rfl rfl)
theorem dJ18_append_2_26 : decode cJ18_append_2 26 = .ok (.getfield 79, 3) := dk_180 0 79 (dk_at dksJ18_append_2_1 2 rfl rfl)
theorem dJ18_append_2_29 : decode cJ18_append_2 29 = .ok (.aload_n 1, 1) := dk_43 (dk_at dksJ18_append_2_1 5 rfl rfl)
theorem dJ18_append_2_30 : decode cJ18_append_2 30 = .ok (.invokevirtual 208, 3) := dk_182 0 208 (dk_at dksJ18_append_2_1 6 rfl rfl)
theorem dJ18_append_2_33 : decode cJ18_append_2 33 = .ok (.aload_n 0, 1) := dk_42 (dk_at dksJ18_append_2_1 9 rfl rfl)
theorem dJ18_append_2_34 : decode cJ18_append_2 34 = .ok (.dup, 1) := dk_89 (dk_at dksJ18_append_2_1 10 rfl rfl)
theorem dJ18_append_2_35 : decode cJ18_append_2 35 = .ok (.getfield 79, 3) := dk_180 0 79 (dk_at dksJ18_append_2_1 11 rfl rfl)
theorem dJ18_append_2_38 : decode cJ18_append_2 38 = .ok (.iload_n 2, 1) := dk_28 (dk_at dksJ18_append_2_1 14 rfl rfl)
theorem dJ18_append_2_39 : decode cJ18_append_2 39 = .ok (.iadd, 1) := dk_96 (dk_at dksJ18_append_2_1 15 rfl rfl)
theorem dJ18_append_2_40 : decode cJ18_append_2 40 = .ok (.putfield 79, 3) := dk_181 0 79 (dk_at dksJ18_append_2_1 16 rfl rfl)
theorem dJ18_append_2_43 : decode cJ18_append_2 43 = .ok (.aload_n 0, 1) := dk_42 (dk_at dksJ18_append_2_1 19 rfl rfl)
theorem dJ18_append_2_44 : decode cJ18_append_2 44 = .ok (.areturn, 1) := dk_176 (dk_at dksJ18_append_2_1 20 rfl rfl)
abbrev cJ18_appendNull : ByteArray := prog_21_method_26_code
def yJ18_appendNull : MethodName := ⟨RJ18, "appendNull", "()Ljava/lang/AbstractStringBuilder;"⟩
def dkwJ18_appendNull_3 : List UInt8 := [184, 0, 226, 60, 42, 27, 181, 0, 79, 42, 176]
abbrev dktJ18_appendNull_3 : List UInt8 := dkwJ18_appendNull_3 ++ []
def dkwJ18_appendNull_2 : List UInt8 := [16, 108, 84, 44, 27, 132, 1, 1, 16, 108, 84, 167, 0, 17, 44, 27, 16, 110, 16, 117, 16, 108, 16, 108]
abbrev dktJ18_appendNull_2 : List UInt8 := dkwJ18_appendNull_2 ++ dktJ18_appendNull_3
def dkwJ18_appendNull_1 : List UInt8 := [153, 0, 38, 44, 27, 132, 1, 1, 16, 110, 84, 44, 27, 132, 1, 1, 16, 117, 84, 44, 27, 132, 1, 1]
abbrev dktJ18_appendNull_1 : List UInt8 := dkwJ18_appendNull_1 ++ dktJ18_appendNull_2
def dkwJ18_appendNull_0 : List UInt8 := [42, 42, 180, 0, 79, 7, 96, 182, 0, 100, 42, 180, 0, 79, 60, 42, 180, 0, 15, 77, 42, 182, 0, 83]
abbrev dktJ18_appendNull_0 : List UInt8 := dkwJ18_appendNull_0 ++ dktJ18_appendNull_1
theorem dksJ18_appendNull_0 : cJ18_appendNull.data.toList.drop 0 = dktJ18_appendNull_0 := by decide +kernel
theorem dksJ18_appendNull_1 : cJ18_appendNull.data.toList.drop 24 = dktJ18_appendNull_1 := dk_seg dksJ18_appendNull_0 24 rfl rfl
theorem dksJ18_appendNull_2 : cJ18_appendNull.data.toList.drop 48 = dktJ18_appendNull_2 := dk_seg dksJ18_appendNull_1 24 rfl rfl
theorem dksJ18_appendNull_3 : cJ18_appendNull.data.toList.drop 72 = dktJ18_appendNull_3 := dk_seg dksJ18_appendNull_2 24 rfl rfl
theorem dJ18_appendNull_0 : decode cJ18_appendNull 0 = .ok (.aload_n 0, 1) := dk_42 (dk_at dksJ18_appendNull_0 0 rfl rfl)
theorem dJ18_appendNull_1 : decode cJ18_appendNull 1 = .ok (.aload_n 0, 1) := dk_42 (dk_at dksJ18_appendNull_0 1 rfl rfl)
theorem dJ18_appendNull_2 : decode cJ18_appendNull 2 = .ok (.getfield 79, 3) := dk_180 0 79 (dk_at dksJ18_appendNull_0 2 rfl rfl)
theorem dJ18_appendNull_5 : decode cJ18_appendNull 5 = .ok (.iconst 4, 1) := dk_7 (dk_at dksJ18_appendNull_0 5 rfl rfl)
theorem dJ18_appendNull_6 : decode cJ18_appendNull 6 = .ok (.iadd, 1) := dk_96 (dk_at dksJ18_appendNull_0 6 rfl rfl)
theorem dJ18_appendNull_7 : decode cJ18_appendNull 7 = .ok (.invokevirtual 100, 3) := dk_182 0 100 (dk_at dksJ18_appendNull_0 7 rfl rfl)
theorem dJ18_appendNull_10 : decode cJ18_appendNull 10 = .ok (.aload_n 0, 1) := dk_42 (dk_at dksJ18_appendNull_0 10 rfl rfl)
theorem dJ18_appendNull_11 : decode cJ18_appendNull 11 = .ok (.getfield 79, 3) := dk_180 0 79 (dk_at dksJ18_appendNull_0 11 rfl rfl)
theorem dJ18_appendNull_14 : decode cJ18_appendNull 14 = .ok (.istore_n 1, 1) := dk_60 (dk_at dksJ18_appendNull_0 14 rfl rfl)
theorem dJ18_appendNull_15 : decode cJ18_appendNull 15 = .ok (.aload_n 0, 1) := dk_42 (dk_at dksJ18_appendNull_0 15 rfl rfl)
theorem dJ18_appendNull_16 : decode cJ18_appendNull 16 = .ok (.getfield 15, 3) := dk_180 0 15 (dk_at dksJ18_appendNull_0 16 rfl rfl)
theorem dJ18_appendNull_19 : decode cJ18_appendNull 19 = .ok (.astore_n 2, 1) := dk_77 (dk_at dksJ18_appendNull_0 19 rfl rfl)
theorem dJ18_appendNull_20 : decode cJ18_appendNull 20 = .ok (.aload_n 0, 1) := dk_42 (dk_at dksJ18_appendNull_0 20 rfl rfl)
theorem dJ18_appendNull_21 : decode cJ18_appendNull 21 = .ok (.invokevirtual 83, 3) := dk_182 0 83 (dk_at dksJ18_appendNull_0 21 rfl rfl)
theorem dJ18_appendNull_24 : decode cJ18_appendNull 24 = .ok (.ifCond .eq 38, 3) := dk_153 0 38 (dk_at dksJ18_appendNull_1 0 rfl rfl)
theorem dJ18_appendNull_27 : decode cJ18_appendNull 27 = .ok (.aload_n 2, 1) := dk_44 (dk_at dksJ18_appendNull_1 3 rfl rfl)
theorem dJ18_appendNull_28 : decode cJ18_appendNull 28 = .ok (.iload_n 1, 1) := dk_27 (dk_at dksJ18_appendNull_1 4 rfl rfl)
theorem dJ18_appendNull_29 : decode cJ18_appendNull 29 = .ok (.iinc 1 1, 3) := dk_132 1 1 (dk_at dksJ18_appendNull_1 5 rfl rfl)
theorem dJ18_appendNull_32 : decode cJ18_appendNull 32 = .ok (.bipush 110, 2) := dk_16 110 (dk_at dksJ18_appendNull_1 8 rfl rfl)
theorem dJ18_appendNull_34 : decode cJ18_appendNull 34 = .ok (.bastore, 1) := dk_84 (dk_at dksJ18_appendNull_1 10 rfl rfl)
theorem dJ18_appendNull_35 : decode cJ18_appendNull 35 = .ok (.aload_n 2, 1) := dk_44 (dk_at dksJ18_appendNull_1 11 rfl rfl)
theorem dJ18_appendNull_36 : decode cJ18_appendNull 36 = .ok (.iload_n 1, 1) := dk_27 (dk_at dksJ18_appendNull_1 12 rfl rfl)
theorem dJ18_appendNull_37 : decode cJ18_appendNull 37 = .ok (.iinc 1 1, 3) := dk_132 1 1 (dk_at dksJ18_appendNull_1 13 rfl rfl)
theorem dJ18_appendNull_40 : decode cJ18_appendNull 40 = .ok (.bipush 117, 2) := dk_16 117 (dk_at dksJ18_appendNull_1 16 rfl rfl)
theorem dJ18_appendNull_42 : decode cJ18_appendNull 42 = .ok (.bastore, 1) := dk_84 (dk_at dksJ18_appendNull_1 18 rfl rfl)
theorem dJ18_appendNull_43 : decode cJ18_appendNull 43 = .ok (.aload_n 2, 1) := dk_44 (dk_at dksJ18_appendNull_1 19 rfl rfl)
theorem dJ18_appendNull_44 : decode cJ18_appendNull 44 = .ok (.iload_n 1, 1) := dk_27 (dk_at dksJ18_appendNull_1 20 rfl rfl)
theorem dJ18_appendNull_45 : decode cJ18_appendNull 45 = .ok (.iinc 1 1, 3) := dk_132 1 1 (dk_at dksJ18_appendNull_1 21 rfl rfl)
theorem dJ18_appendNull_48 : decode cJ18_appendNull 48 = .ok (.bipush 108, 2) := dk_16 108 (dk_at dksJ18_appendNull_2 0 rfl rfl)
theorem dJ18_appendNull_50 : decode cJ18_appendNull 50 = .ok (.bastore, 1) := dk_84 (dk_at dksJ18_appendNull_2 2 rfl rfl)
theorem dJ18_appendNull_51 : decode cJ18_appendNull 51 = .ok (.aload_n 2, 1) := dk_44 (dk_at dksJ18_appendNull_2 3 rfl rfl)
theorem dJ18_appendNull_52 : decode cJ18_appendNull 52 = .ok (.iload_n 1, 1) := dk_27 (dk_at dksJ18_appendNull_2 4 rfl rfl)
theorem dJ18_appendNull_53 : decode cJ18_appendNull 53 = .ok (.iinc 1 1, 3) := dk_132 1 1 (dk_at dksJ18_appendNull_2 5 rfl rfl)
theorem dJ18_appendNull_56 : decode cJ18_appendNull 56 = .ok (.bipush 108, 2) := dk_16 108 (dk_at dksJ18_appendNull_2 8 rfl rfl)
theorem dJ18_appendNull_58 : decode cJ18_appendNull 58 = .ok (.bastore, 1) := dk_84 (dk_at dksJ18_appendNull_2 10 rfl rfl)
theorem dJ18_appendNull_59 : decode cJ18_appendNull 59 = .ok (.goto 17, 3) := dk_167 0 17 (dk_at dksJ18_appendNull_2 11 rfl rfl)
theorem dJ18_appendNull_62 : decode cJ18_appendNull 62 = .ok (.aload_n 2, 1) := dk_44 (dk_at dksJ18_appendNull_2 14 rfl rfl)
theorem dJ18_appendNull_63 : decode cJ18_appendNull 63 = .ok (.iload_n 1, 1) := dk_27 (dk_at dksJ18_appendNull_2 15 rfl rfl)
theorem dJ18_appendNull_64 : decode cJ18_appendNull 64 = .ok (.bipush 110, 2) := dk_16 110 (dk_at dksJ18_appendNull_2 16 rfl rfl)
theorem dJ18_appendNull_66 : decode cJ18_appendNull 66 = .ok (.bipush 117, 2) := dk_16 117 (dk_at dksJ18_appendNull_2 18 rfl rfl)
theorem dJ18_appendNull_68 : decode cJ18_appendNull 68 = .ok (.bipush 108, 2) := dk_16 108 (dk_at dksJ18_appendNull_2 20 rfl rfl)
theorem dJ18_appendNull_70 : decode cJ18_appendNull 70 = .ok (.bipush 108, 2) := dk_16 108 (dk_at dksJ18_appendNull_2 22 rfl rfl)
theorem dJ18_appendNull_72 : decode cJ18_appendNull 72 = .ok (.invokestatic 226, 3) := dk_184 0 226 (dk_at dksJ18_appendNull_3 0 rfl rfl)
theorem dJ18_appendNull_75 : decode cJ18_appendNull 75 = .ok (.istore_n 1, 1) := dk_60 (dk_at dksJ18_appendNull_3 3 rfl rfl)
theorem dJ18_appendNull_76 : decode cJ18_appendNull 76 = .ok (.aload_n 0, 1) := dk_42 (dk_at dksJ18_appendNull_3 4 rfl rfl)
theorem dJ18_appendNull_77 : decode cJ18_appendNull 77 = .ok (.iload_n 1, 1) := dk_27 (dk_at dksJ18_appendNull_3 5 rfl rfl)
theorem dJ18_appendNull_78 : decode cJ18_appendNull 78 = .ok (.putfield 79, 3) := dk_181 0 79 (dk_at dksJ18_appendNull_3 6 rfl rfl)
theorem dJ18_appendNull_81 : decode cJ18_appendNull 81 = .ok (.aload_n 0, 1) := dk_42 (dk_at dksJ18_appendNull_3 9 rfl rfl)
theorem dJ18_appendNull_82 : decode cJ18_appendNull 82 = .ok (.areturn, 1) := dk_176 (dk_at dksJ18_appendNull_3 10 rfl rfl)
abbrev cJ18_putStringAt : ByteArray := prog_21_method_73_code
def yJ18_putStringAt : MethodName := ⟨RJ18, "putStringAt", "(ILjava/lang/String;)V"⟩
def dkwJ18_putStringAt_0 : List UInt8 := [42, 44, 182, 1, 141, 44, 42, 180, 0, 15, 27, 42, 180, 0, 22, 182, 1, 143, 177]
abbrev dktJ18_putStringAt_0 : List UInt8 := dkwJ18_putStringAt_0 ++ []
theorem dksJ18_putStringAt_0 : cJ18_putStringAt.data.toList.drop 0 = dktJ18_putStringAt_0 := by decide +kernel
theorem dJ18_putStringAt_0 : decode cJ18_putStringAt 0 = .ok (.aload_n 0, 1) := dk_42 (dk_at dksJ18_putStringAt_0 0 rfl rfl)
theorem dJ18_putStringAt_1 : decode cJ18_putStringAt 1 = .ok (.aload_n 2, 1) := dk_44 (dk_at dksJ18_putStringAt_0 1 rfl rfl)
theorem dJ18_putStringAt_2 : decode cJ18_putStringAt 2 = .ok (.invokevirtual 397, 3) := dk_182 1 141 (dk_at dksJ18_putStringAt_0 2 rfl rfl)
theorem dJ18_putStringAt_5 : decode cJ18_putStringAt 5 = .ok (.aload_n 2, 1) := dk_44 (dk_at dksJ18_putStringAt_0 5 rfl rfl)
theorem dJ18_putStringAt_6 : decode cJ18_putStringAt 6 = .ok (.aload_n 0, 1) := dk_42 (dk_at dksJ18_putStringAt_0 6 rfl rfl)
theorem dJ18_putStringAt_7 : decode cJ18_putStringAt 7 = .ok (.getfield 15, 3) := dk_180 0 15 (dk_at dksJ18_putStringAt_0 7 rfl rfl)
theorem dJ18_putStringAt_10 : decode cJ18_putStringAt 10 = .ok (.iload_n 1, 1) := dk_27 (dk_at dksJ18_putStringAt_0 10 rfl rfl)
theorem dJ18_putStringAt_11 : decode cJ18_putStringAt 11 = .ok (.aload_n 0, 1) := dk_42 (dk_at dksJ18_putStringAt_0 11 rfl rfl)
theorem dJ18_putStringAt_12 : decode cJ18_putStringAt 12 = .ok (.getfield 22, 3) := dk_180 0 22 (dk_at dksJ18_putStringAt_0 12 rfl rfl)
theorem dJ18_putStringAt_15 : decode cJ18_putStringAt 15 = .ok (.invokevirtual 399, 3) := dk_182 1 143 (dk_at dksJ18_putStringAt_0 15 rfl rfl)
theorem dJ18_putStringAt_18 : decode cJ18_putStringAt 18 = .ok (.return_, 1) := dk_177 (dk_at dksJ18_putStringAt_0 18 rfl rfl)
abbrev cJ18_inflateIfNeededFor : ByteArray := prog_21_method_71_code
def yJ18_inflateIfNeededFor : MethodName := ⟨RJ18, "inflateIfNeededFor", "(Ljava/lang/String;)V"⟩
def dkwJ18_inflateIfNeededFor_0 : List UInt8 := [178, 0, 18, 153, 0, 18, 42, 180, 0, 22, 43, 182, 0, 40, 159, 0, 7, 42, 182, 0, 195, 177]
abbrev dktJ18_inflateIfNeededFor_0 : List UInt8 := dkwJ18_inflateIfNeededFor_0 ++ []
theorem dksJ18_inflateIfNeededFor_0 : cJ18_inflateIfNeededFor.data.toList.drop 0 = dktJ18_inflateIfNeededFor_0 := by decide +kernel
theorem dJ18_inflateIfNeededFor_0 : decode cJ18_inflateIfNeededFor 0 = .ok (.getstatic 18, 3) := dk_178 0 18 (dk_at dksJ18_inflateIfNeededFor_0 0 rfl rfl)
theorem dJ18_inflateIfNeededFor_3 : decode cJ18_inflateIfNeededFor 3 = .ok (.ifCond .eq 18, 3) := dk_153 0 18 (dk_at dksJ18_inflateIfNeededFor_0 3 rfl rfl)
theorem dJ18_inflateIfNeededFor_6 : decode cJ18_inflateIfNeededFor 6 = .ok (.aload_n 0, 1) := dk_42 (dk_at dksJ18_inflateIfNeededFor_0 6 rfl rfl)
theorem dJ18_inflateIfNeededFor_7 : decode cJ18_inflateIfNeededFor 7 = .ok (.getfield 22, 3) := dk_180 0 22 (dk_at dksJ18_inflateIfNeededFor_0 7 rfl rfl)
theorem dJ18_inflateIfNeededFor_10 : decode cJ18_inflateIfNeededFor 10 = .ok (.aload_n 1, 1) := dk_43 (dk_at dksJ18_inflateIfNeededFor_0 10 rfl rfl)
theorem dJ18_inflateIfNeededFor_11 : decode cJ18_inflateIfNeededFor 11 = .ok (.invokevirtual 40, 3) := dk_182 0 40 (dk_at dksJ18_inflateIfNeededFor_0 11 rfl rfl)
theorem dJ18_inflateIfNeededFor_14 : decode cJ18_inflateIfNeededFor 14 = .ok (.if_icmp .eq 7, 3) := dk_159 0 7 (dk_at dksJ18_inflateIfNeededFor_0 14 rfl rfl)
theorem dJ18_inflateIfNeededFor_17 : decode cJ18_inflateIfNeededFor 17 = .ok (.aload_n 0, 1) := dk_42 (dk_at dksJ18_inflateIfNeededFor_0 17 rfl rfl)
theorem dJ18_inflateIfNeededFor_18 : decode cJ18_inflateIfNeededFor 18 = .ok (.invokevirtual 195, 3) := dk_182 0 195 (dk_at dksJ18_inflateIfNeededFor_0 18 rfl rfl)
theorem dJ18_inflateIfNeededFor_21 : decode cJ18_inflateIfNeededFor 21 = .ok (.return_, 1) := dk_177 (dk_at dksJ18_inflateIfNeededFor_0 21 rfl rfl)
abbrev cJ18_inflate : ByteArray := prog_21_method_11_code
def yJ18_inflate : MethodName := ⟨RJ18, "inflate", "()V"⟩
def dkwJ18_inflate_1 : List UInt8 := [42, 180, 0, 79, 184, 0, 125, 42, 43, 181, 0, 15, 42, 4, 181, 0, 22, 177]
abbrev dktJ18_inflate_1 : List UInt8 := dkwJ18_inflate_1 ++ []
def dkwJ18_inflate_0 : List UInt8 := [42, 182, 0, 83, 154, 0, 4, 177, 42, 180, 0, 15, 190, 184, 0, 26, 76, 42, 180, 0, 15, 3, 43, 3]
abbrev dktJ18_inflate_0 : List UInt8 := dkwJ18_inflate_0 ++ dktJ18_inflate_1
theorem dksJ18_inflate_0 : cJ18_inflate.data.toList.drop 0 = dktJ18_inflate_0 := by decide +kernel
theorem dksJ18_inflate_1 : cJ18_inflate.data.toList.drop 24 = dktJ18_inflate_1 := dk_seg dksJ18_inflate_0 24 rfl rfl
theorem dJ18_inflate_0 : decode cJ18_inflate 0 = .ok (.aload_n 0, 1) := dk_42 (dk_at dksJ18_inflate_0 0 rfl rfl)
theorem dJ18_inflate_1 : decode cJ18_inflate 1 = .ok (.invokevirtual 83, 3) := dk_182 0 83 (dk_at dksJ18_inflate_0 1 rfl rfl)
theorem dJ18_inflate_4 : decode cJ18_inflate 4 = .ok (.ifCond .ne 4, 3) := dk_154 0 4 (dk_at dksJ18_inflate_0 4 rfl rfl)
theorem dJ18_inflate_7 : decode cJ18_inflate 7 = .ok (.return_, 1) := dk_177 (dk_at dksJ18_inflate_0 7 rfl rfl)
theorem dJ18_inflate_8 : decode cJ18_inflate 8 = .ok (.aload_n 0, 1) := dk_42 (dk_at dksJ18_inflate_0 8 rfl rfl)
theorem dJ18_inflate_9 : decode cJ18_inflate 9 = .ok (.getfield 15, 3) := dk_180 0 15 (dk_at dksJ18_inflate_0 9 rfl rfl)
theorem dJ18_inflate_12 : decode cJ18_inflate 12 = .ok (.arraylength, 1) := dk_190 (dk_at dksJ18_inflate_0 12 rfl rfl)
theorem dJ18_inflate_13 : decode cJ18_inflate 13 = .ok (.invokestatic 26, 3) := dk_184 0 26 (dk_at dksJ18_inflate_0 13 rfl rfl)
theorem dJ18_inflate_16 : decode cJ18_inflate 16 = .ok (.astore_n 1, 1) := dk_76 (dk_at dksJ18_inflate_0 16 rfl rfl)
theorem dJ18_inflate_17 : decode cJ18_inflate 17 = .ok (.aload_n 0, 1) := dk_42 (dk_at dksJ18_inflate_0 17 rfl rfl)
theorem dJ18_inflate_18 : decode cJ18_inflate 18 = .ok (.getfield 15, 3) := dk_180 0 15 (dk_at dksJ18_inflate_0 18 rfl rfl)
theorem dJ18_inflate_21 : decode cJ18_inflate 21 = .ok (.iconst 0, 1) := dk_3 (dk_at dksJ18_inflate_0 21 rfl rfl)
theorem dJ18_inflate_22 : decode cJ18_inflate 22 = .ok (.aload_n 1, 1) := dk_43 (dk_at dksJ18_inflate_0 22 rfl rfl)
theorem dJ18_inflate_23 : decode cJ18_inflate 23 = .ok (.iconst 0, 1) := dk_3 (dk_at dksJ18_inflate_0 23 rfl rfl)
theorem dJ18_inflate_24 : decode cJ18_inflate 24 = .ok (.aload_n 0, 1) := dk_42 (dk_at dksJ18_inflate_1 0 rfl rfl)
theorem dJ18_inflate_25 : decode cJ18_inflate 25 = .ok (.getfield 79, 3) := dk_180 0 79 (dk_at dksJ18_inflate_1 1 rfl rfl)
theorem dJ18_inflate_28 : decode cJ18_inflate 28 = .ok (.invokestatic 125, 3) := dk_184 0 125 (dk_at dksJ18_inflate_1 4 rfl rfl)
theorem dJ18_inflate_31 : decode cJ18_inflate 31 = .ok (.aload_n 0, 1) := dk_42 (dk_at dksJ18_inflate_1 7 rfl rfl)
theorem dJ18_inflate_32 : decode cJ18_inflate 32 = .ok (.aload_n 1, 1) := dk_43 (dk_at dksJ18_inflate_1 8 rfl rfl)
theorem dJ18_inflate_33 : decode cJ18_inflate 33 = .ok (.putfield 15, 3) := dk_181 0 15 (dk_at dksJ18_inflate_1 9 rfl rfl)
theorem dJ18_inflate_36 : decode cJ18_inflate 36 = .ok (.aload_n 0, 1) := dk_42 (dk_at dksJ18_inflate_1 12 rfl rfl)
theorem dJ18_inflate_37 : decode cJ18_inflate 37 = .ok (.iconst 1, 1) := dk_4 (dk_at dksJ18_inflate_1 13 rfl rfl)
theorem dJ18_inflate_38 : decode cJ18_inflate 38 = .ok (.putfield 22, 3) := dk_181 0 22 (dk_at dksJ18_inflate_1 14 rfl rfl)
theorem dJ18_inflate_41 : decode cJ18_inflate 41 = .ok (.return_, 1) := dk_177 (dk_at dksJ18_inflate_1 17 rfl rfl)
abbrev cJ18_getValue : ByteArray := prog_21_method_64_code
def yJ18_getValue : MethodName := ⟨RJ18, "getValue", "()[B"⟩
theorem dJ18_getValue_0 : decode cJ18_getValue 0 = .ok (.aload_n 0, 1) := by decide +kernel
theorem dJ18_getValue_1 : decode cJ18_getValue 1 = .ok (.getfield 15, 3) := by decide +kernel
theorem dJ18_getValue_4 : decode cJ18_getValue 4 = .ok (.areturn, 1) := by decide +kernel
abbrev cJ18_length : ByteArray := prog_21_method_6_code
def yJ18_length : MethodName := ⟨RJ18, "length", "()I"⟩
theorem dJ18_length_0 : decode cJ18_length 0 = .ok (.aload_n 0, 1) := by decide +kernel
theorem dJ18_length_1 : decode cJ18_length 1 = .ok (.getfield 79, 3) := by decide +kernel
theorem dJ18_length_4 : decode cJ18_length 4 = .ok (.ireturn, 1) := by decide +kernel
abbrev cJ18_append_3 : ByteArray := prog_21_method_31_code
def yJ18_append_3 : MethodName := ⟨RJ18, "append", "(C)Ljava/lang/AbstractStringBuilder;"⟩
def dkwJ18_append_3_3 : List UInt8 := [181, 0, 79, 27, 184, 0, 197, 42, 176]
abbrev dktJ18_append_3_3 : List UInt8 := dkwJ18_append_3_3 ++ []
def dkwJ18_append_3_2 : List UInt8 := [182, 0, 83, 153, 0, 7, 42, 182, 0, 195, 42, 180, 0, 15, 42, 89, 180, 0, 79, 90, 4, 96]
abbrev dktJ18_append_3_2 : List UInt8 := dkwJ18_append_3_2 ++ dktJ18_append_3_3
def dkwJ18_append_3_1 : List UInt8 := [42, 180, 0, 15, 42, 89, 180, 0, 79, 90, 4, 96, 181, 0, 79, 27, 145, 84, 167, 0, 33, 42]
abbrev dktJ18_append_3_1 : List UInt8 := dkwJ18_append_3_1 ++ dktJ18_append_3_2
def dkwJ18_append_3_0 : List UInt8 := [42, 42, 180, 0, 79, 4, 96, 182, 0, 100, 42, 182, 0, 83, 153, 0, 31, 27, 184, 0, 191, 153, 0, 24]
abbrev dktJ18_append_3_0 : List UInt8 := dkwJ18_append_3_0 ++ dktJ18_append_3_1
theorem dksJ18_append_3_0 : cJ18_append_3.data.toList.drop 0 = dktJ18_append_3_0 := by decide +kernel
theorem dksJ18_append_3_1 : cJ18_append_3.data.toList.drop 24 = dktJ18_append_3_1 := dk_seg dksJ18_append_3_0 24 rfl rfl
theorem dksJ18_append_3_2 : cJ18_append_3.data.toList.drop 46 = dktJ18_append_3_2 := dk_seg dksJ18_append_3_1 22 rfl rfl
theorem dksJ18_append_3_3 : cJ18_append_3.data.toList.drop 68 = dktJ18_append_3_3 := dk_seg dksJ18_append_3_2 22 rfl rfl
theorem dJ18_append_3_0 : decode cJ18_append_3 0 = .ok (.aload_n 0, 1) := dk_42 (dk_at dksJ18_append_3_0 0 rfl rfl)
theorem dJ18_append_3_1 : decode cJ18_append_3 1 = .ok (.aload_n 0, 1) := dk_42 (dk_at dksJ18_append_3_0 1 rfl rfl)
theorem dJ18_append_3_2 : decode cJ18_append_3 2 = .ok (.getfield 79, 3) := dk_180 0 79 (dk_at dksJ18_append_3_0 2 rfl rfl)
theorem dJ18_append_3_5 : decode cJ18_append_3 5 = .ok (.iconst 1, 1) := dk_4 (dk_at dksJ18_append_3_0 5 rfl rfl)
theorem dJ18_append_3_6 : decode cJ18_append_3 6 = .ok (.iadd, 1) := dk_96 (dk_at dksJ18_append_3_0 6 rfl rfl)
theorem dJ18_append_3_7 : decode cJ18_append_3 7 = .ok (.invokevirtual 100, 3) := dk_182 0 100 (dk_at dksJ18_append_3_0 7 rfl rfl)
theorem dJ18_append_3_10 : decode cJ18_append_3 10 = .ok (.aload_n 0, 1) := dk_42 (dk_at dksJ18_append_3_0 10 rfl rfl)
theorem dJ18_append_3_11 : decode cJ18_append_3 11 = .ok (.invokevirtual 83, 3) := dk_182 0 83 (dk_at dksJ18_append_3_0 11 rfl rfl)
theorem dJ18_append_3_14 : decode cJ18_append_3 14 = .ok (.ifCond .eq 31, 3) := dk_153 0 31 (dk_at dksJ18_append_3_0 14 rfl rfl)
theorem dJ18_append_3_17 : decode cJ18_append_3 17 = .ok (.iload_n 1, 1) := dk_27 (dk_at dksJ18_append_3_0 17 rfl rfl)
theorem dJ18_append_3_18 : decode cJ18_append_3 18 = .ok (.invokestatic 191, 3) := dk_184 0 191 (dk_at dksJ18_append_3_0 18 rfl rfl)
theorem dJ18_append_3_21 : decode cJ18_append_3 21 = .ok (.ifCond .eq 24, 3) := dk_153 0 24 (dk_at dksJ18_append_3_0 21 rfl rfl)
theorem dJ18_append_3_24 : decode cJ18_append_3 24 = .ok (.aload_n 0, 1) := dk_42 (dk_at dksJ18_append_3_1 0 rfl rfl)
theorem dJ18_append_3_25 : decode cJ18_append_3 25 = .ok (.getfield 15, 3) := dk_180 0 15 (dk_at dksJ18_append_3_1 1 rfl rfl)
theorem dJ18_append_3_28 : decode cJ18_append_3 28 = .ok (.aload_n 0, 1) := dk_42 (dk_at dksJ18_append_3_1 4 rfl rfl)
theorem dJ18_append_3_29 : decode cJ18_append_3 29 = .ok (.dup, 1) := dk_89 (dk_at dksJ18_append_3_1 5 rfl rfl)
theorem dJ18_append_3_30 : decode cJ18_append_3 30 = .ok (.getfield 79, 3) := dk_180 0 79 (dk_at dksJ18_append_3_1 6 rfl rfl)
theorem dJ18_append_3_33 : decode cJ18_append_3 33 = .ok (.dup_x1, 1) := dk_90 (dk_at dksJ18_append_3_1 9 rfl rfl)
theorem dJ18_append_3_34 : decode cJ18_append_3 34 = .ok (.iconst 1, 1) := dk_4 (dk_at dksJ18_append_3_1 10 rfl rfl)
theorem dJ18_append_3_35 : decode cJ18_append_3 35 = .ok (.iadd, 1) := dk_96 (dk_at dksJ18_append_3_1 11 rfl rfl)
theorem dJ18_append_3_36 : decode cJ18_append_3 36 = .ok (.putfield 79, 3) := dk_181 0 79 (dk_at dksJ18_append_3_1 12 rfl rfl)
theorem dJ18_append_3_39 : decode cJ18_append_3 39 = .ok (.iload_n 1, 1) := dk_27 (dk_at dksJ18_append_3_1 15 rfl rfl)
theorem dJ18_append_3_40 : decode cJ18_append_3 40 = .ok (.i2b, 1) := dk_145 (dk_at dksJ18_append_3_1 16 rfl rfl)
theorem dJ18_append_3_41 : decode cJ18_append_3 41 = .ok (.bastore, 1) := dk_84 (dk_at dksJ18_append_3_1 17 rfl rfl)
theorem dJ18_append_3_42 : decode cJ18_append_3 42 = .ok (.goto 33, 3) := dk_167 0 33 (dk_at dksJ18_append_3_1 18 rfl rfl)
theorem dJ18_append_3_45 : decode cJ18_append_3 45 = .ok (.aload_n 0, 1) := dk_42 (dk_at dksJ18_append_3_1 21 rfl rfl)
theorem dJ18_append_3_46 : decode cJ18_append_3 46 = .ok (.invokevirtual 83, 3) := dk_182 0 83 (dk_at dksJ18_append_3_2 0 rfl rfl)
theorem dJ18_append_3_49 : decode cJ18_append_3 49 = .ok (.ifCond .eq 7, 3) := dk_153 0 7 (dk_at dksJ18_append_3_2 3 rfl rfl)
theorem dJ18_append_3_52 : decode cJ18_append_3 52 = .ok (.aload_n 0, 1) := dk_42 (dk_at dksJ18_append_3_2 6 rfl rfl)
theorem dJ18_append_3_53 : decode cJ18_append_3 53 = .ok (.invokevirtual 195, 3) := dk_182 0 195 (dk_at dksJ18_append_3_2 7 rfl rfl)
theorem dJ18_append_3_56 : decode cJ18_append_3 56 = .ok (.aload_n 0, 1) := dk_42 (dk_at dksJ18_append_3_2 10 rfl rfl)
theorem dJ18_append_3_57 : decode cJ18_append_3 57 = .ok (.getfield 15, 3) := dk_180 0 15 (dk_at dksJ18_append_3_2 11 rfl rfl)
theorem dJ18_append_3_60 : decode cJ18_append_3 60 = .ok (.aload_n 0, 1) := dk_42 (dk_at dksJ18_append_3_2 14 rfl rfl)
theorem dJ18_append_3_61 : decode cJ18_append_3 61 = .ok (.dup, 1) := dk_89 (dk_at dksJ18_append_3_2 15 rfl rfl)
theorem dJ18_append_3_62 : decode cJ18_append_3 62 = .ok (.getfield 79, 3) := dk_180 0 79 (dk_at dksJ18_append_3_2 16 rfl rfl)
theorem dJ18_append_3_65 : decode cJ18_append_3 65 = .ok (.dup_x1, 1) := dk_90 (dk_at dksJ18_append_3_2 19 rfl rfl)
theorem dJ18_append_3_66 : decode cJ18_append_3 66 = .ok (.iconst 1, 1) := dk_4 (dk_at dksJ18_append_3_2 20 rfl rfl)
theorem dJ18_append_3_67 : decode cJ18_append_3 67 = .ok (.iadd, 1) := dk_96 (dk_at dksJ18_append_3_2 21 rfl rfl)
theorem dJ18_append_3_68 : decode cJ18_append_3 68 = .ok (.putfield 79, 3) := dk_181 0 79 (dk_at dksJ18_append_3_3 0 rfl rfl)
theorem dJ18_append_3_71 : decode cJ18_append_3 71 = .ok (.iload_n 1, 1) := dk_27 (dk_at dksJ18_append_3_3 3 rfl rfl)
theorem dJ18_append_3_72 : decode cJ18_append_3 72 = .ok (.invokestatic 197, 3) := dk_184 0 197 (dk_at dksJ18_append_3_3 4 rfl rfl)
theorem dJ18_append_3_75 : decode cJ18_append_3 75 = .ok (.aload_n 0, 1) := dk_42 (dk_at dksJ18_append_3_3 7 rfl rfl)
theorem dJ18_append_3_76 : decode cJ18_append_3 76 = .ok (.areturn, 1) := dk_176 (dk_at dksJ18_append_3_3 8 rfl rfl)
theorem q152 : (Jvm.Cond.initialized "java/lang/AbstractStringBuilder") ∈ lw_all := lw_g (lw_at lw_m1 34 rfl) rfl
theorem q468 : (Jvm.Cond.instanceMethod ({ cls := "java/lang/AbstractStringBuilder", name := "charAt", desc := "(I)C" } : Jvm.MethodName)) ∈ lw_all := lw_g (lw_at lw_m2 110 rfl) rfl
theorem q469 : (Jvm.Cond.code ({ cls := "java/lang/AbstractStringBuilder", name := "charAt", desc := "(I)C" } : Jvm.MethodName) prog_21_method_14_code (5 : Nat) (Option.some Jvm.ClassFile.FieldType.char)) ∈ lw_all := lw_g (lw_at lw_m2 111 rfl) rfl
theorem q470 : (Jvm.Cond.methodLink "java/lang/AbstractStringBuilder" (138 : Nat) ({ cls := "java/lang/Math", name := "min", desc := "(II)I" } : Jvm.MethodName)) ∈ lw_all := lw_g (lw_at lw_m2 112 rfl) rfl
theorem q473 : (Jvm.Cond.methodLink "java/lang/AbstractStringBuilder" (144 : Nat) ({ cls := "java/lang/String", name := "checkIndex", desc := "(II)V" } : Jvm.MethodName)) ∈ lw_all := lw_g (lw_at lw_m2 115 rfl) rfl
theorem q479 : (Jvm.Cond.methodLink "java/lang/AbstractStringBuilder" (148 : Nat) ({ cls := "java/lang/StringUTF16", name := "getChar", desc := "([BI)C" } : Jvm.MethodName)) ∈ lw_all := lw_g (lw_at lw_m2 121 rfl) rfl
theorem q1463 : (Jvm.Cond.instanceMethod ({ cls := "java/lang/AbstractStringBuilder", name := "<init>", desc := "(I)V" } : Jvm.MethodName)) ∈ lw_all := lw_g (lw_at lw_m6 145 rfl) rfl
theorem q1464 : (Jvm.Cond.code ({ cls := "java/lang/AbstractStringBuilder", name := "<init>", desc := "(I)V" } : Jvm.MethodName) prog_21_method_2_code (2 : Nat) (Option.none : Option Jvm.ClassFile.FieldType)) ∈ lw_all := lw_g (lw_at lw_m6 146 rfl) rfl
theorem q1465 : (Jvm.Cond.methodLink "java/lang/AbstractStringBuilder" (3 : Nat) ({ cls := "java/lang/Object", name := "<init>", desc := "()V" } : Jvm.MethodName)) ∈ lw_all := lw_g (lw_at lw_m6 147 rfl) rfl
theorem q1466 : (Jvm.Cond.fieldLink "java/lang/AbstractStringBuilder" (18 : Nat) "java/lang/String" "COMPACT_STRINGS" "Z") ∈ lw_all := lw_g (lw_at lw_m6 148 rfl) rfl
theorem q1467 : (Jvm.Cond.methodLink "java/lang/AbstractStringBuilder" (26 : Nat) ({ cls := "java/lang/StringUTF16", name := "newBytesFor", desc := "(I)[B" } : Jvm.MethodName)) ∈ lw_all := lw_g (lw_at lw_m6 149 rfl) rfl
theorem q1474 : (Jvm.Cond.fieldLink "java/lang/AbstractStringBuilder" (15 : Nat) "java/lang/AbstractStringBuilder" "value" "[B") ∈ lw_all := lw_g (lw_at lw_m6 156 rfl) rfl
theorem q1475 : (Jvm.Cond.fieldLink "java/lang/AbstractStringBuilder" (22 : Nat) "java/lang/AbstractStringBuilder" "coder" "B") ∈ lw_all := lw_g (lw_at lw_m6 157 rfl) rfl
theorem q1477 : (Jvm.Cond.fieldLink "java/lang/AbstractStringBuilder" (79 : Nat) "java/lang/AbstractStringBuilder" "count" "I") ∈ lw_all := lw_g (lw_at lw_m6 159 rfl) rfl
theorem q1479 : (Jvm.Cond.soleField "java/lang/AbstractStringBuilder" "value") ∈ lw_all := lw_g (lw_at lw_m6 161 rfl) rfl
theorem q1481 : (Jvm.Cond.soleField "java/lang/AbstractStringBuilder" "coder") ∈ lw_all := lw_g (lw_at lw_m6 163 rfl) rfl
theorem q1483 : (Jvm.Cond.soleField "java/lang/AbstractStringBuilder" "maybeLatin1") ∈ lw_all := lw_g (lw_at lw_m6 165 rfl) rfl
theorem q1485 : (Jvm.Cond.soleField "java/lang/AbstractStringBuilder" "count") ∈ lw_all := lw_g (lw_at lw_m6 167 rfl) rfl
theorem q1491 : (Jvm.Cond.instanceMethod ({ cls := "java/lang/AbstractStringBuilder", name := "append", desc := "(I)Ljava/lang/AbstractStringBuilder;" } : Jvm.MethodName)) ∈ lw_all := lw_g (lw_at lw_m6 173 rfl) rfl
theorem q1492 : (Jvm.Cond.code ({ cls := "java/lang/AbstractStringBuilder", name := "append", desc := "(I)Ljava/lang/AbstractStringBuilder;" } : Jvm.MethodName) prog_21_method_32_code (4 : Nat) (Option.some (Jvm.ClassFile.FieldType.object "java/lang/AbstractStringBuilder"))) ∈ lw_all := lw_g (lw_at lw_m6 174 rfl) rfl
theorem q1493 : (Jvm.Cond.methodLink "java/lang/AbstractStringBuilder" (245 : Nat) ({ cls := "java/lang/Integer", name := "stringSize", desc := "(I)I" } : Jvm.MethodName)) ∈ lw_all := lw_g (lw_at lw_m6 175 rfl) rfl
theorem q1496 : (Jvm.Cond.methodLink "java/lang/AbstractStringBuilder" (100 : Nat) ({ cls := "java/lang/AbstractStringBuilder", name := "ensureCapacityInternal", desc := "(I)V" } : Jvm.MethodName)) ∈ lw_all := lw_g (lw_at lw_m6 178 rfl) rfl
theorem q1497 : (Jvm.Cond.privateMethod ({ cls := "java/lang/AbstractStringBuilder", name := "ensureCapacityInternal", desc := "(I)V" } : Jvm.MethodName)) ∈ lw_tbl := lw_at lw_m6 179 rfl
theorem q1498 : (Jvm.Cond.instanceMethod ({ cls := "java/lang/AbstractStringBuilder", name := "ensureCapacityInternal", desc := "(I)V" } : Jvm.MethodName)) ∈ lw_all := lw_g (lw_at lw_m6 180 rfl) rfl
theorem q1499 : (Jvm.Cond.code ({ cls := "java/lang/AbstractStringBuilder", name := "ensureCapacityInternal", desc := "(I)V" } : Jvm.MethodName) prog_21_method_9_code (3 : Nat) (Option.none : Option Jvm.ClassFile.FieldType)) ∈ lw_all := lw_g (lw_at lw_m6 181 rfl) rfl
theorem q1500 : (Jvm.Cond.methodLink "java/lang/AbstractStringBuilder" (104 : Nat) ({ cls := "java/lang/AbstractStringBuilder", name := "newCapacity", desc := "(I)I" } : Jvm.MethodName)) ∈ lw_all := lw_g (lw_at lw_m6 182 rfl) rfl
theorem q1501 : (Jvm.Cond.privateMethod ({ cls := "java/lang/AbstractStringBuilder", name := "newCapacity", desc := "(I)I" } : Jvm.MethodName)) ∈ lw_tbl := lw_at lw_m6 183 rfl
theorem q1502 : (Jvm.Cond.instanceMethod ({ cls := "java/lang/AbstractStringBuilder", name := "newCapacity", desc := "(I)I" } : Jvm.MethodName)) ∈ lw_all := lw_g (lw_at lw_m6 184 rfl) rfl
theorem q1503 : (Jvm.Cond.code ({ cls := "java/lang/AbstractStringBuilder", name := "newCapacity", desc := "(I)I" } : Jvm.MethodName) prog_21_method_10_code (6 : Nat) (Option.some Jvm.ClassFile.FieldType.int)) ∈ lw_all := lw_g (lw_at lw_m6 185 rfl) rfl
theorem q1504 : (Jvm.Cond.methodLink "java/lang/AbstractStringBuilder" (114 : Nat) ({ cls := "jdk/internal/util/ArraysSupport", name := "newLength", desc := "(III)I" } : Jvm.MethodName)) ∈ lw_all := lw_g (lw_at lw_m6 186 rfl) rfl
theorem q1505 : (Jvm.Cond.constant "java/lang/AbstractStringBuilder" (39 : Nat) (2147483647 : Int32)) ∈ lw_all := lw_g (lw_at lw_m6 187 rfl) rfl
theorem q1506 : (Jvm.Cond.methodLink "java/lang/AbstractStringBuilder" (108 : Nat) ({ cls := "java/util/Arrays", name := "copyOf", desc := "([BI)[B" } : Jvm.MethodName)) ∈ lw_all := lw_g (lw_at lw_m6 188 rfl) rfl
theorem q1516 : (Jvm.Cond.methodLink "java/lang/AbstractStringBuilder" (83 : Nat) ({ cls := "java/lang/AbstractStringBuilder", name := "isLatin1", desc := "()Z" } : Jvm.MethodName)) ∈ lw_all := lw_g (lw_at lw_m6 198 rfl) rfl
theorem q1517 : (Jvm.Cond.instanceMethod ({ cls := "java/lang/AbstractStringBuilder", name := "isLatin1", desc := "()Z" } : Jvm.MethodName)) ∈ lw_all := lw_g (lw_at lw_m6 199 rfl) rfl
theorem q1518 : (Jvm.Cond.sameMethod "java/lang/AbstractStringBuilder" "java/lang/AbstractStringBuilder" "isLatin1" "()Z") ∈ lw_all := lw_g (lw_at lw_m6 200 rfl) rfl
theorem q1520 : (Jvm.Cond.code ({ cls := "java/lang/AbstractStringBuilder", name := "isLatin1", desc := "()Z" } : Jvm.MethodName) prog_21_method_68_code (1 : Nat) (Option.some Jvm.ClassFile.FieldType.boolean)) ∈ lw_all := lw_g (lw_at lw_m6 202 rfl) rfl
theorem q1521 : (Jvm.Cond.methodLink "java/lang/AbstractStringBuilder" (248 : Nat) ({ cls := "java/lang/Integer", name := "getChars", desc := "(II[B)I" } : Jvm.MethodName)) ∈ lw_all := lw_g (lw_at lw_m6 203 rfl) rfl
theorem q1528 : (Jvm.Cond.methodLink "java/lang/AbstractStringBuilder" (251 : Nat) ({ cls := "java/lang/StringUTF16", name := "getChars", desc := "(III[B)I" } : Jvm.MethodName)) ∈ lw_all := lw_g (lw_at lw_m6 210 rfl) rfl
theorem q1545 : (Jvm.Cond.instanceMethod ({ cls := "java/lang/AbstractStringBuilder", name := "append", desc := "(Ljava/lang/String;)Ljava/lang/AbstractStringBuilder;" } : Jvm.MethodName)) ∈ lw_all := lw_g (lw_at lw_m6 227 rfl) rfl
theorem q1546 : (Jvm.Cond.code ({ cls := "java/lang/AbstractStringBuilder", name := "append", desc := "(Ljava/lang/String;)Ljava/lang/AbstractStringBuilder;" } : Jvm.MethodName) prog_21_method_22_code (3 : Nat) (Option.some (Jvm.ClassFile.FieldType.object "java/lang/AbstractStringBuilder"))) ∈ lw_all := lw_g (lw_at lw_m6 228 rfl) rfl
theorem q1547 : (Jvm.Cond.methodLink "java/lang/AbstractStringBuilder" (204 : Nat) ({ cls := "java/lang/AbstractStringBuilder", name := "appendNull", desc := "()Ljava/lang/AbstractStringBuilder;" } : Jvm.MethodName)) ∈ lw_all := lw_g (lw_at lw_m6 229 rfl) rfl
theorem q1548 : (Jvm.Cond.privateMethod ({ cls := "java/lang/AbstractStringBuilder", name := "appendNull", desc := "()Ljava/lang/AbstractStringBuilder;" } : Jvm.MethodName)) ∈ lw_tbl := lw_at lw_m6 230 rfl
theorem q1549 : (Jvm.Cond.instanceMethod ({ cls := "java/lang/AbstractStringBuilder", name := "appendNull", desc := "()Ljava/lang/AbstractStringBuilder;" } : Jvm.MethodName)) ∈ lw_all := lw_g (lw_at lw_m6 231 rfl) rfl
theorem q1550 : (Jvm.Cond.code ({ cls := "java/lang/AbstractStringBuilder", name := "appendNull", desc := "()Ljava/lang/AbstractStringBuilder;" } : Jvm.MethodName) prog_21_method_26_code (3 : Nat) (Option.some (Jvm.ClassFile.FieldType.object "java/lang/AbstractStringBuilder"))) ∈ lw_all := lw_g (lw_at lw_m6 232 rfl) rfl
theorem q1551 : (Jvm.Cond.methodLink "java/lang/AbstractStringBuilder" (226 : Nat) ({ cls := "java/lang/StringUTF16", name := "putCharsAt", desc := "([BICCCC)I" } : Jvm.MethodName)) ∈ lw_all := lw_g (lw_at lw_m6 233 rfl) rfl
theorem q1554 : (Jvm.Cond.methodLink "java/lang/AbstractStringBuilder" (32 : Nat) ({ cls := "java/lang/String", name := "length", desc := "()I" } : Jvm.MethodName)) ∈ lw_all := lw_g (lw_at lw_m6 236 rfl) rfl
theorem q1555 : (Jvm.Cond.methodLink "java/lang/AbstractStringBuilder" (208 : Nat) ({ cls := "java/lang/AbstractStringBuilder", name := "putStringAt", desc := "(ILjava/lang/String;)V" } : Jvm.MethodName)) ∈ lw_all := lw_g (lw_at lw_m6 237 rfl) rfl
theorem q1556 : (Jvm.Cond.privateMethod ({ cls := "java/lang/AbstractStringBuilder", name := "putStringAt", desc := "(ILjava/lang/String;)V" } : Jvm.MethodName)) ∈ lw_tbl := lw_at lw_m6 238 rfl
theorem q1557 : (Jvm.Cond.instanceMethod ({ cls := "java/lang/AbstractStringBuilder", name := "putStringAt", desc := "(ILjava/lang/String;)V" } : Jvm.MethodName)) ∈ lw_all := lw_g (lw_at lw_m6 239 rfl) rfl
theorem q1558 : (Jvm.Cond.code ({ cls := "java/lang/AbstractStringBuilder", name := "putStringAt", desc := "(ILjava/lang/String;)V" } : Jvm.MethodName) prog_21_method_73_code (3 : Nat) (Option.none : Option Jvm.ClassFile.FieldType)) ∈ lw_all := lw_g (lw_at lw_m7 0 rfl) rfl
theorem q1559 : (Jvm.Cond.methodLink "java/lang/AbstractStringBuilder" (397 : Nat) ({ cls := "java/lang/AbstractStringBuilder", name := "inflateIfNeededFor", desc := "(Ljava/lang/String;)V" } : Jvm.MethodName)) ∈ lw_all := lw_g (lw_at lw_m7 1 rfl) rfl
theorem q1560 : (Jvm.Cond.privateMethod ({ cls := "java/lang/AbstractStringBuilder", name := "inflateIfNeededFor", desc := "(Ljava/lang/String;)V" } : Jvm.MethodName)) ∈ lw_tbl := lw_at lw_m7 2 rfl
theorem q1561 : (Jvm.Cond.instanceMethod ({ cls := "java/lang/AbstractStringBuilder", name := "inflateIfNeededFor", desc := "(Ljava/lang/String;)V" } : Jvm.MethodName)) ∈ lw_all := lw_g (lw_at lw_m7 3 rfl) rfl
theorem q1562 : (Jvm.Cond.code ({ cls := "java/lang/AbstractStringBuilder", name := "inflateIfNeededFor", desc := "(Ljava/lang/String;)V" } : Jvm.MethodName) prog_21_method_71_code (2 : Nat) (Option.none : Option Jvm.ClassFile.FieldType)) ∈ lw_all := lw_g (lw_at lw_m7 4 rfl) rfl
theorem q1563 : (Jvm.Cond.methodLink "java/lang/AbstractStringBuilder" (40 : Nat) ({ cls := "java/lang/String", name := "coder", desc := "()B" } : Jvm.MethodName)) ∈ lw_all := lw_g (lw_at lw_m7 5 rfl) rfl
theorem q1564 : (Jvm.Cond.methodLink "java/lang/AbstractStringBuilder" (195 : Nat) ({ cls := "java/lang/AbstractStringBuilder", name := "inflate", desc := "()V" } : Jvm.MethodName)) ∈ lw_all := lw_g (lw_at lw_m7 6 rfl) rfl
theorem q1565 : (Jvm.Cond.privateMethod ({ cls := "java/lang/AbstractStringBuilder", name := "inflate", desc := "()V" } : Jvm.MethodName)) ∈ lw_tbl := lw_at lw_m7 7 rfl
theorem q1566 : (Jvm.Cond.instanceMethod ({ cls := "java/lang/AbstractStringBuilder", name := "inflate", desc := "()V" } : Jvm.MethodName)) ∈ lw_all := lw_g (lw_at lw_m7 8 rfl) rfl
theorem q1567 : (Jvm.Cond.code ({ cls := "java/lang/AbstractStringBuilder", name := "inflate", desc := "()V" } : Jvm.MethodName) prog_21_method_11_code (2 : Nat) (Option.none : Option Jvm.ClassFile.FieldType)) ∈ lw_all := lw_g (lw_at lw_m7 9 rfl) rfl
theorem q1568 : (Jvm.Cond.methodLink "java/lang/AbstractStringBuilder" (125 : Nat) ({ cls := "java/lang/StringLatin1", name := "inflate", desc := "([BI[BII)V" } : Jvm.MethodName)) ∈ lw_all := lw_g (lw_at lw_m7 10 rfl) rfl
theorem q1583 : (Jvm.Cond.methodLink "java/lang/AbstractStringBuilder" (399 : Nat) ({ cls := "java/lang/String", name := "getBytes", desc := "([BIB)V" } : Jvm.MethodName)) ∈ lw_all := lw_g (lw_at lw_m7 25 rfl) rfl
theorem q1602 : (Jvm.Cond.instanceMethod ({ cls := "java/lang/AbstractStringBuilder", name := "getValue", desc := "()[B" } : Jvm.MethodName)) ∈ lw_all := lw_g (lw_at lw_m7 44 rfl) rfl
theorem q1603 : (Jvm.Cond.sameMethod "java/lang/AbstractStringBuilder" "java/lang/AbstractStringBuilder" "getValue" "()[B") ∈ lw_all := lw_g (lw_at lw_m7 45 rfl) rfl
theorem q1605 : (Jvm.Cond.code ({ cls := "java/lang/AbstractStringBuilder", name := "getValue", desc := "()[B" } : Jvm.MethodName) prog_21_method_64_code (1 : Nat) (Option.some (Jvm.ClassFile.FieldType.array Jvm.ClassFile.FieldType.byte))) ∈ lw_all := lw_g (lw_at lw_m7 47 rfl) rfl
theorem q1607 : (Jvm.Cond.instanceMethod ({ cls := "java/lang/AbstractStringBuilder", name := "length", desc := "()I" } : Jvm.MethodName)) ∈ lw_all := lw_g (lw_at lw_m7 49 rfl) rfl
theorem q1608 : (Jvm.Cond.sameMethod "java/lang/AbstractStringBuilder" "java/lang/AbstractStringBuilder" "length" "()I") ∈ lw_all := lw_g (lw_at lw_m7 50 rfl) rfl
theorem q1613 : (Jvm.Cond.code ({ cls := "java/lang/AbstractStringBuilder", name := "length", desc := "()I" } : Jvm.MethodName) prog_21_method_6_code (1 : Nat) (Option.some Jvm.ClassFile.FieldType.int)) ∈ lw_all := lw_g (lw_at lw_m7 55 rfl) rfl
theorem q1701 : (Jvm.Cond.instanceMethod ({ cls := "java/lang/AbstractStringBuilder", name := "append", desc := "(C)Ljava/lang/AbstractStringBuilder;" } : Jvm.MethodName)) ∈ lw_all := lw_g (lw_at lw_m7 143 rfl) rfl
theorem q1702 : (Jvm.Cond.code ({ cls := "java/lang/AbstractStringBuilder", name := "append", desc := "(C)Ljava/lang/AbstractStringBuilder;" } : Jvm.MethodName) prog_21_method_31_code (2 : Nat) (Option.some (Jvm.ClassFile.FieldType.object "java/lang/AbstractStringBuilder"))) ∈ lw_all := lw_g (lw_at lw_m7 144 rfl) rfl
theorem q1703 : (Jvm.Cond.methodLink "java/lang/AbstractStringBuilder" (191 : Nat) ({ cls := "java/lang/StringLatin1", name := "canEncode", desc := "(C)Z" } : Jvm.MethodName)) ∈ lw_all := lw_g (lw_at lw_m7 145 rfl) rfl
theorem q1706 : (Jvm.Cond.methodLink "java/lang/AbstractStringBuilder" (197 : Nat) ({ cls := "java/lang/StringUTF16", name := "putCharSB", desc := "([BII)V" } : Jvm.MethodName)) ∈ lw_all := lw_g (lw_at lw_m7 148 rfl) rfl
theorem q2569 : (Jvm.Cond.sameMethod "java/lang/AbstractStringBuilder" "java/lang/AbstractStringBuilder" "charAt" "(I)C") ∈ lw_all := lw_g (lw_at lw_m11 51 rfl) rfl
theorem q2571 : (Jvm.Cond.sameMethod "java/lang/AbstractStringBuilder" "java/lang/AbstractStringBuilder" "append" "(I)Ljava/lang/AbstractStringBuilder;") ∈ lw_all := lw_g (lw_at lw_m11 53 rfl) rfl
theorem q2572 : (Jvm.Cond.sameMethod "java/lang/AbstractStringBuilder" "java/lang/AbstractStringBuilder" "ensureCapacityInternal" "(I)V") ∈ lw_all := lw_g (lw_at lw_m11 54 rfl) rfl
theorem q2573 : (Jvm.Cond.sameMethod "java/lang/AbstractStringBuilder" "java/lang/AbstractStringBuilder" "newCapacity" "(I)I") ∈ lw_all := lw_g (lw_at lw_m11 55 rfl) rfl
theorem q2574 : (Jvm.Cond.sameMethod "java/lang/AbstractStringBuilder" "java/lang/AbstractStringBuilder" "append" "(Ljava/lang/String;)Ljava/lang/AbstractStringBuilder;") ∈ lw_all := lw_g (lw_at lw_m11 56 rfl) rfl
theorem q2575 : (Jvm.Cond.sameMethod "java/lang/AbstractStringBuilder" "java/lang/AbstractStringBuilder" "appendNull" "()Ljava/lang/AbstractStringBuilder;") ∈ lw_all := lw_g (lw_at lw_m11 57 rfl) rfl
theorem q2576 : (Jvm.Cond.sameMethod "java/lang/AbstractStringBuilder" "java/lang/AbstractStringBuilder" "putStringAt" "(ILjava/lang/String;)V") ∈ lw_all := lw_g (lw_at lw_m11 58 rfl) rfl
theorem q2577 : (Jvm.Cond.sameMethod "java/lang/AbstractStringBuilder" "java/lang/AbstractStringBuilder" "inflateIfNeededFor" "(Ljava/lang/String;)V") ∈ lw_all := lw_g (lw_at lw_m11 59 rfl) rfl
theorem q2578 : (Jvm.Cond.sameMethod "java/lang/AbstractStringBuilder" "java/lang/AbstractStringBuilder" "inflate" "()V") ∈ lw_all := lw_g (lw_at lw_m11 60 rfl) rfl
theorem q2579 : (Jvm.Cond.sameMethod "java/lang/AbstractStringBuilder" "java/lang/AbstractStringBuilder" "append" "(C)Ljava/lang/AbstractStringBuilder;") ∈ lw_all := lw_g (lw_at lw_m11 61 rfl) rfl
/-! java/lang/StringBuilder -/
set_option maxRecDepth 100000
def RJ19 : String := "java/lang/StringBuilder"
def TJ19 : u_T := fun k => match k with
  | 0 => ("java/lang/AbstractStringBuilder", "value", "[B", false)
  | 1 => ("java/lang/AbstractStringBuilder", "coder", "B", false)
  | 2 => ("java/lang/AbstractStringBuilder", "maybeLatin1", "Z", false)
  | _ => ("java/lang/AbstractStringBuilder", "count", "I", false)
def tyJ19 : Nat → FieldType := fun k => match k with
  | 0 => .array .byte
  | 1 => .byte
  | 2 => .boolean
  | _ => .int
abbrev wsJ190 : List Cond := u_ws RJ19 TJ19 4
theorem nmJ19 : ∀ a, a < 4 → ∀ b, b < 4 → a ≠ b → (TJ19 a).2.1 ≠ (TJ19 b).2.1 := by decide +kernel
theorem tyJ19_ok : ∀ k, k < 4 → parseFieldDescriptor (TJ19 k).2.2.1 = some (tyJ19 k) := by decide +kernel
abbrev cJ19_charAt : ByteArray := prog_36_method_88_code
def yJ19_charAt : MethodName := ⟨RJ19, "charAt", "(I)C"⟩
def dkwJ19_charAt_0 : List UInt8 := [42, 27, 183, 1, 73, 172]
abbrev dktJ19_charAt_0 : List UInt8 := dkwJ19_charAt_0 ++ []
theorem dksJ19_charAt_0 : cJ19_charAt.data.toList.drop 0 = dktJ19_charAt_0 := by decide +kernel
theorem dJ19_charAt_0 : decode cJ19_charAt 0 = .ok (.aload_n 0, 1) := dk_42 (dk_at dksJ19_charAt_0 0 rfl rfl)
theorem dJ19_charAt_1 : decode cJ19_charAt 1 = .ok (.iload_n 1, 1) := dk_27 (dk_at dksJ19_charAt_0 1 rfl rfl)
theorem dJ19_charAt_2 : decode cJ19_charAt 2 = .ok (.invokespecial 329, 3) := dk_183 1 73 (dk_at dksJ19_charAt_0 2 rfl rfl)
theorem dJ19_charAt_5 : decode cJ19_charAt 5 = .ok (.ireturn, 1) := dk_172 (dk_at dksJ19_charAt_0 5 rfl rfl)
abbrev cJ19_init : ByteArray := prog_36_method_1_code
def yJ19_init : MethodName := ⟨RJ19, "<init>", "()V"⟩
def dkwJ19_init_0 : List UInt8 := [42, 16, 16, 183, 0, 1, 177]
abbrev dktJ19_init_0 : List UInt8 := dkwJ19_init_0 ++ []
theorem dksJ19_init_0 : cJ19_init.data.toList.drop 0 = dktJ19_init_0 := by decide +kernel
theorem dJ19_init_0 : decode cJ19_init 0 = .ok (.aload_n 0, 1) := dk_42 (dk_at dksJ19_init_0 0 rfl rfl)
theorem dJ19_init_1 : decode cJ19_init 1 = .ok (.bipush 16, 2) := dk_16 16 (dk_at dksJ19_init_0 1 rfl rfl)
theorem dJ19_init_3 : decode cJ19_init 3 = .ok (.invokespecial 1, 3) := dk_183 0 1 (dk_at dksJ19_init_0 3 rfl rfl)
theorem dJ19_init_6 : decode cJ19_init 6 = .ok (.return_, 1) := dk_177 (dk_at dksJ19_init_0 6 rfl rfl)
abbrev cJ19_append : ByteArray := prog_36_method_15_code
def yJ19_append : MethodName := ⟨RJ19, "append", "(I)Ljava/lang/StringBuilder;"⟩
def dkwJ19_append_0 : List UInt8 := [42, 27, 183, 0, 53, 87, 42, 176]
abbrev dktJ19_append_0 : List UInt8 := dkwJ19_append_0 ++ []
theorem dksJ19_append_0 : cJ19_append.data.toList.drop 0 = dktJ19_append_0 := by decide +kernel
theorem dJ19_append_0 : decode cJ19_append 0 = .ok (.aload_n 0, 1) := dk_42 (dk_at dksJ19_append_0 0 rfl rfl)
theorem dJ19_append_1 : decode cJ19_append 1 = .ok (.iload_n 1, 1) := dk_27 (dk_at dksJ19_append_0 1 rfl rfl)
theorem dJ19_append_2 : decode cJ19_append 2 = .ok (.invokespecial 53, 3) := dk_183 0 53 (dk_at dksJ19_append_0 2 rfl rfl)
theorem dJ19_append_5 : decode cJ19_append 5 = .ok (.pop, 1) := dk_87 (dk_at dksJ19_append_0 5 rfl rfl)
theorem dJ19_append_6 : decode cJ19_append 6 = .ok (.aload_n 0, 1) := dk_42 (dk_at dksJ19_append_0 6 rfl rfl)
theorem dJ19_append_7 : decode cJ19_append 7 = .ok (.areturn, 1) := dk_176 (dk_at dksJ19_append_0 7 rfl rfl)
abbrev cJ19_append_2 : ByteArray := prog_36_method_7_code
def yJ19_append_2 : MethodName := ⟨RJ19, "append", "(Ljava/lang/String;)Ljava/lang/StringBuilder;"⟩
def dkwJ19_append_2_0 : List UInt8 := [42, 43, 183, 0, 29, 87, 42, 176]
abbrev dktJ19_append_2_0 : List UInt8 := dkwJ19_append_2_0 ++ []
theorem dksJ19_append_2_0 : cJ19_append_2.data.toList.drop 0 = dktJ19_append_2_0 := by decide +kernel
theorem dJ19_append_2_0 : decode cJ19_append_2 0 = .ok (.aload_n 0, 1) := dk_42 (dk_at dksJ19_append_2_0 0 rfl rfl)
theorem dJ19_append_2_1 : decode cJ19_append_2 1 = .ok (.aload_n 1, 1) := dk_43 (dk_at dksJ19_append_2_0 1 rfl rfl)
theorem dJ19_append_2_2 : decode cJ19_append_2 2 = .ok (.invokespecial 29, 3) := dk_183 0 29 (dk_at dksJ19_append_2_0 2 rfl rfl)
theorem dJ19_append_2_5 : decode cJ19_append_2 5 = .ok (.pop, 1) := dk_87 (dk_at dksJ19_append_2_0 5 rfl rfl)
theorem dJ19_append_2_6 : decode cJ19_append_2 6 = .ok (.aload_n 0, 1) := dk_42 (dk_at dksJ19_append_2_0 6 rfl rfl)
theorem dJ19_append_2_7 : decode cJ19_append_2 7 = .ok (.areturn, 1) := dk_176 (dk_at dksJ19_append_2_0 7 rfl rfl)
abbrev cJ19_toString : ByteArray := prog_36_method_42_code
def yJ19_toString : MethodName := ⟨RJ19, "toString", "()Ljava/lang/String;"⟩
def dkwJ19_toString_0 : List UInt8 := [187, 0, 18, 89, 42, 183, 0, 137, 176]
abbrev dktJ19_toString_0 : List UInt8 := dkwJ19_toString_0 ++ []
theorem dksJ19_toString_0 : cJ19_toString.data.toList.drop 0 = dktJ19_toString_0 := by decide +kernel
theorem dJ19_toString_0 : decode cJ19_toString 0 = .ok (.new 18, 3) := dk_187 0 18 (dk_at dksJ19_toString_0 0 rfl rfl)
theorem dJ19_toString_3 : decode cJ19_toString 3 = .ok (.dup, 1) := dk_89 (dk_at dksJ19_toString_0 3 rfl rfl)
theorem dJ19_toString_4 : decode cJ19_toString 4 = .ok (.aload_n 0, 1) := dk_42 (dk_at dksJ19_toString_0 4 rfl rfl)
theorem dJ19_toString_5 : decode cJ19_toString 5 = .ok (.invokespecial 137, 3) := dk_183 0 137 (dk_at dksJ19_toString_0 5 rfl rfl)
theorem dJ19_toString_8 : decode cJ19_toString 8 = .ok (.areturn, 1) := dk_176 (dk_at dksJ19_toString_0 8 rfl rfl)
abbrev cJ19_length : ByteArray := prog_36_method_93_code
def yJ19_length : MethodName := ⟨RJ19, "length", "()I"⟩
theorem dJ19_length_0 : decode cJ19_length 0 = .ok (.aload_n 0, 1) := by decide +kernel
theorem dJ19_length_1 : decode cJ19_length 1 = .ok (.invokespecial 343, 3) := by decide +kernel
theorem dJ19_length_4 : decode cJ19_length 4 = .ok (.ireturn, 1) := by decide +kernel
abbrev cJ19_append_3 : ByteArray := prog_36_method_14_code
def yJ19_append_3 : MethodName := ⟨RJ19, "append", "(C)Ljava/lang/StringBuilder;"⟩
def dkwJ19_append_3_0 : List UInt8 := [42, 27, 183, 0, 50, 87, 42, 176]
abbrev dktJ19_append_3_0 : List UInt8 := dkwJ19_append_3_0 ++ []
theorem dksJ19_append_3_0 : cJ19_append_3.data.toList.drop 0 = dktJ19_append_3_0 := by decide +kernel
theorem dJ19_append_3_0 : decode cJ19_append_3 0 = .ok (.aload_n 0, 1) := dk_42 (dk_at dksJ19_append_3_0 0 rfl rfl)
theorem dJ19_append_3_1 : decode cJ19_append_3 1 = .ok (.iload_n 1, 1) := dk_27 (dk_at dksJ19_append_3_0 1 rfl rfl)
theorem dJ19_append_3_2 : decode cJ19_append_3 2 = .ok (.invokespecial 50, 3) := dk_183 0 50 (dk_at dksJ19_append_3_0 2 rfl rfl)
theorem dJ19_append_3_5 : decode cJ19_append_3 5 = .ok (.pop, 1) := dk_87 (dk_at dksJ19_append_3_0 5 rfl rfl)
theorem dJ19_append_3_6 : decode cJ19_append_3 6 = .ok (.aload_n 0, 1) := dk_42 (dk_at dksJ19_append_3_0 6 rfl rfl)
theorem dJ19_append_3_7 : decode cJ19_append_3 7 = .ok (.areturn, 1) := dk_176 (dk_at dksJ19_append_3_0 7 rfl rfl)
theorem q153 : (Jvm.Cond.initialized "java/lang/StringBuilder") ∈ lw_all := lw_g (lw_at lw_m1 35 rfl) rfl
theorem q463 : (Jvm.Cond.instanceMethod ({ cls := "java/lang/StringBuilder", name := "charAt", desc := "(I)C" } : Jvm.MethodName)) ∈ lw_all := lw_g (lw_at lw_m2 105 rfl) rfl
theorem q464 : (Jvm.Cond.selects "java/lang/StringBuilder" ({ cls := "java/lang/StringBuilder", name := "charAt", desc := "(I)C" } : Jvm.MethodName) ({ cls := "java/lang/StringBuilder", name := "charAt", desc := "(I)C" } : Jvm.MethodName)) ∈ lw_all := lw_g (lw_at lw_m2 106 rfl) rfl
theorem q465 : (Jvm.Cond.code ({ cls := "java/lang/StringBuilder", name := "charAt", desc := "(I)C" } : Jvm.MethodName) prog_36_method_88_code (2 : Nat) (Option.some Jvm.ClassFile.FieldType.char)) ∈ lw_all := lw_g (lw_at lw_m2 107 rfl) rfl
theorem q466 : (Jvm.Cond.methodLink "java/lang/StringBuilder" (329 : Nat) ({ cls := "java/lang/AbstractStringBuilder", name := "charAt", desc := "(I)C" } : Jvm.MethodName)) ∈ lw_all := lw_g (lw_at lw_m2 108 rfl) rfl
theorem q467 : (Jvm.Cond.superclass "java/lang/StringBuilder" "java/lang/AbstractStringBuilder") ∈ lw_all := lw_g (lw_at lw_m2 109 rfl) rfl
theorem q874 : (Jvm.Cond.selects "java/lang/StringBuilder" ({ cls := "java/lang/Object", name := "getClass", desc := "()Ljava/lang/Class;" } : Jvm.MethodName) ({ cls := "java/lang/Object", name := "getClass", desc := "()Ljava/lang/Class;" } : Jvm.MethodName)) ∈ lw_all := lw_g (lw_at lw_m4 36 rfl) rfl
theorem q1458 : (Jvm.Cond.instantiable "java/lang/StringBuilder" (4 : Nat)) ∈ lw_all := lw_g (lw_at lw_m6 140 rfl) rfl
theorem q1460 : (Jvm.Cond.instanceMethod ({ cls := "java/lang/StringBuilder", name := "<init>", desc := "()V" } : Jvm.MethodName)) ∈ lw_all := lw_g (lw_at lw_m6 142 rfl) rfl
theorem q1461 : (Jvm.Cond.code ({ cls := "java/lang/StringBuilder", name := "<init>", desc := "()V" } : Jvm.MethodName) prog_36_method_1_code (1 : Nat) (Option.none : Option Jvm.ClassFile.FieldType)) ∈ lw_all := lw_g (lw_at lw_m6 143 rfl) rfl
theorem q1462 : (Jvm.Cond.methodLink "java/lang/StringBuilder" (1 : Nat) ({ cls := "java/lang/AbstractStringBuilder", name := "<init>", desc := "(I)V" } : Jvm.MethodName)) ∈ lw_all := lw_g (lw_at lw_m6 144 rfl) rfl
theorem q1478 : (Jvm.Cond.lays "java/lang/StringBuilder" "java/lang/AbstractStringBuilder" "value" "[B") ∈ lw_all := lw_g (lw_at lw_m6 160 rfl) rfl
theorem q1480 : (Jvm.Cond.lays "java/lang/StringBuilder" "java/lang/AbstractStringBuilder" "coder" "B") ∈ lw_all := lw_g (lw_at lw_m6 162 rfl) rfl
theorem q1482 : (Jvm.Cond.lays "java/lang/StringBuilder" "java/lang/AbstractStringBuilder" "maybeLatin1" "Z") ∈ lw_all := lw_g (lw_at lw_m6 164 rfl) rfl
theorem q1484 : (Jvm.Cond.lays "java/lang/StringBuilder" "java/lang/AbstractStringBuilder" "count" "I") ∈ lw_all := lw_g (lw_at lw_m6 166 rfl) rfl
theorem q1487 : (Jvm.Cond.instanceMethod ({ cls := "java/lang/StringBuilder", name := "append", desc := "(I)Ljava/lang/StringBuilder;" } : Jvm.MethodName)) ∈ lw_all := lw_g (lw_at lw_m6 169 rfl) rfl
theorem q1488 : (Jvm.Cond.selects "java/lang/StringBuilder" ({ cls := "java/lang/StringBuilder", name := "append", desc := "(I)Ljava/lang/StringBuilder;" } : Jvm.MethodName) ({ cls := "java/lang/StringBuilder", name := "append", desc := "(I)Ljava/lang/StringBuilder;" } : Jvm.MethodName)) ∈ lw_all := lw_g (lw_at lw_m6 170 rfl) rfl
theorem q1489 : (Jvm.Cond.code ({ cls := "java/lang/StringBuilder", name := "append", desc := "(I)Ljava/lang/StringBuilder;" } : Jvm.MethodName) prog_36_method_15_code (2 : Nat) (Option.some (Jvm.ClassFile.FieldType.object "java/lang/StringBuilder"))) ∈ lw_all := lw_g (lw_at lw_m6 171 rfl) rfl
theorem q1490 : (Jvm.Cond.methodLink "java/lang/StringBuilder" (53 : Nat) ({ cls := "java/lang/AbstractStringBuilder", name := "append", desc := "(I)Ljava/lang/AbstractStringBuilder;" } : Jvm.MethodName)) ∈ lw_all := lw_g (lw_at lw_m6 172 rfl) rfl
theorem q1519 : (Jvm.Cond.selects "java/lang/StringBuilder" ({ cls := "java/lang/AbstractStringBuilder", name := "isLatin1", desc := "()Z" } : Jvm.MethodName) ({ cls := "java/lang/AbstractStringBuilder", name := "isLatin1", desc := "()Z" } : Jvm.MethodName)) ∈ lw_all := lw_g (lw_at lw_m6 201 rfl) rfl
theorem q1541 : (Jvm.Cond.instanceMethod ({ cls := "java/lang/StringBuilder", name := "append", desc := "(Ljava/lang/String;)Ljava/lang/StringBuilder;" } : Jvm.MethodName)) ∈ lw_all := lw_g (lw_at lw_m6 223 rfl) rfl
theorem q1542 : (Jvm.Cond.selects "java/lang/StringBuilder" ({ cls := "java/lang/StringBuilder", name := "append", desc := "(Ljava/lang/String;)Ljava/lang/StringBuilder;" } : Jvm.MethodName) ({ cls := "java/lang/StringBuilder", name := "append", desc := "(Ljava/lang/String;)Ljava/lang/StringBuilder;" } : Jvm.MethodName)) ∈ lw_all := lw_g (lw_at lw_m6 224 rfl) rfl
theorem q1543 : (Jvm.Cond.code ({ cls := "java/lang/StringBuilder", name := "append", desc := "(Ljava/lang/String;)Ljava/lang/StringBuilder;" } : Jvm.MethodName) prog_36_method_7_code (2 : Nat) (Option.some (Jvm.ClassFile.FieldType.object "java/lang/StringBuilder"))) ∈ lw_all := lw_g (lw_at lw_m6 225 rfl) rfl
theorem q1544 : (Jvm.Cond.methodLink "java/lang/StringBuilder" (29 : Nat) ({ cls := "java/lang/AbstractStringBuilder", name := "append", desc := "(Ljava/lang/String;)Ljava/lang/AbstractStringBuilder;" } : Jvm.MethodName)) ∈ lw_all := lw_g (lw_at lw_m6 226 rfl) rfl
theorem q1590 : (Jvm.Cond.instanceMethod ({ cls := "java/lang/StringBuilder", name := "toString", desc := "()Ljava/lang/String;" } : Jvm.MethodName)) ∈ lw_all := lw_g (lw_at lw_m7 32 rfl) rfl
theorem q1591 : (Jvm.Cond.selects "java/lang/StringBuilder" ({ cls := "java/lang/StringBuilder", name := "toString", desc := "()Ljava/lang/String;" } : Jvm.MethodName) ({ cls := "java/lang/StringBuilder", name := "toString", desc := "()Ljava/lang/String;" } : Jvm.MethodName)) ∈ lw_all := lw_g (lw_at lw_m7 33 rfl) rfl
theorem q1592 : (Jvm.Cond.code ({ cls := "java/lang/StringBuilder", name := "toString", desc := "()Ljava/lang/String;" } : Jvm.MethodName) prog_36_method_42_code (1 : Nat) (Option.some (Jvm.ClassFile.FieldType.object "java/lang/String"))) ∈ lw_all := lw_g (lw_at lw_m7 34 rfl) rfl
theorem q1593 : (Jvm.Cond.classLink "java/lang/StringBuilder" (18 : Nat) "java/lang/String") ∈ lw_all := lw_g (lw_at lw_m7 35 rfl) rfl
theorem q1594 : (Jvm.Cond.methodLink "java/lang/StringBuilder" (137 : Nat) ({ cls := "java/lang/String", name := "<init>", desc := "(Ljava/lang/StringBuilder;)V" } : Jvm.MethodName)) ∈ lw_all := lw_g (lw_at lw_m7 36 rfl) rfl
theorem q1604 : (Jvm.Cond.selects "java/lang/StringBuilder" ({ cls := "java/lang/AbstractStringBuilder", name := "getValue", desc := "()[B" } : Jvm.MethodName) ({ cls := "java/lang/AbstractStringBuilder", name := "getValue", desc := "()[B" } : Jvm.MethodName)) ∈ lw_all := lw_g (lw_at lw_m7 46 rfl) rfl
theorem q1609 : (Jvm.Cond.selects "java/lang/StringBuilder" ({ cls := "java/lang/AbstractStringBuilder", name := "length", desc := "()I" } : Jvm.MethodName) ({ cls := "java/lang/StringBuilder", name := "length", desc := "()I" } : Jvm.MethodName)) ∈ lw_all := lw_g (lw_at lw_m7 51 rfl) rfl
theorem q1610 : (Jvm.Cond.instanceMethod ({ cls := "java/lang/StringBuilder", name := "length", desc := "()I" } : Jvm.MethodName)) ∈ lw_all := lw_g (lw_at lw_m7 52 rfl) rfl
theorem q1611 : (Jvm.Cond.code ({ cls := "java/lang/StringBuilder", name := "length", desc := "()I" } : Jvm.MethodName) prog_36_method_93_code (1 : Nat) (Option.some Jvm.ClassFile.FieldType.int)) ∈ lw_all := lw_g (lw_at lw_m7 53 rfl) rfl
theorem q1612 : (Jvm.Cond.methodLink "java/lang/StringBuilder" (343 : Nat) ({ cls := "java/lang/AbstractStringBuilder", name := "length", desc := "()I" } : Jvm.MethodName)) ∈ lw_all := lw_g (lw_at lw_m7 54 rfl) rfl
theorem q1697 : (Jvm.Cond.instanceMethod ({ cls := "java/lang/StringBuilder", name := "append", desc := "(C)Ljava/lang/StringBuilder;" } : Jvm.MethodName)) ∈ lw_all := lw_g (lw_at lw_m7 139 rfl) rfl
theorem q1698 : (Jvm.Cond.selects "java/lang/StringBuilder" ({ cls := "java/lang/StringBuilder", name := "append", desc := "(C)Ljava/lang/StringBuilder;" } : Jvm.MethodName) ({ cls := "java/lang/StringBuilder", name := "append", desc := "(C)Ljava/lang/StringBuilder;" } : Jvm.MethodName)) ∈ lw_all := lw_g (lw_at lw_m7 140 rfl) rfl
theorem q1699 : (Jvm.Cond.code ({ cls := "java/lang/StringBuilder", name := "append", desc := "(C)Ljava/lang/StringBuilder;" } : Jvm.MethodName) prog_36_method_14_code (2 : Nat) (Option.some (Jvm.ClassFile.FieldType.object "java/lang/StringBuilder"))) ∈ lw_all := lw_g (lw_at lw_m7 141 rfl) rfl
theorem q1700 : (Jvm.Cond.methodLink "java/lang/StringBuilder" (50 : Nat) ({ cls := "java/lang/AbstractStringBuilder", name := "append", desc := "(C)Ljava/lang/AbstractStringBuilder;" } : Jvm.MethodName)) ∈ lw_all := lw_g (lw_at lw_m7 142 rfl) rfl
theorem q2602 : (Jvm.Cond.castable "java/lang/StringBuilder" "java/lang/Object") ∈ lw_tbl := lw_at lw_m11 84 rfl
theorem in_J19 : ∀ w ∈ wsJ190, w ∈ lw_all := lw_in wsJ190 [1478, 1480, 1482, 1484] (by decide +kernel) (by decide +kernel)
/-! java/util/NoSuchElementException -/
set_option maxRecDepth 100000
def RJ20 : String := "java/util/NoSuchElementException"
def TJ20 : u_T := fun k => match k with
  | 0 => ("java/lang/Throwable", "cause", "Ljava/lang/Throwable;", false)
  | 1 => ("java/lang/Throwable", "stackTrace", "[Ljava/lang/StackTraceElement;", false)
  | 2 => ("java/lang/Throwable", "suppressedExceptions", "Ljava/util/List;", false)
  | 3 => ("java/lang/Throwable", "detailMessage", "Ljava/lang/String;", false)
  | 4 => ("java/lang/Throwable", "backtrace", "Ljava/lang/Object;", false)
  | _ => ("java/lang/Throwable", "depth", "I", false)
def tyJ20 : Nat → FieldType := fun k => match k with
  | 0 => .object "java/lang/Throwable"
  | 1 => .array (.object "java/lang/StackTraceElement")
  | 2 => .object "java/util/List"
  | 3 => .object "java/lang/String"
  | 4 => .object "java/lang/Object"
  | _ => .int
abbrev wsJ200 : List Cond := u_ws RJ20 TJ20 6
theorem nmJ20 : ∀ a, a < 6 → ∀ b, b < 6 → a ≠ b → (TJ20 a).2.1 ≠ (TJ20 b).2.1 := by decide +kernel
theorem tyJ20_ok : ∀ k, k < 6 → parseFieldDescriptor (TJ20 k).2.2.1 = some (tyJ20 k) := by decide +kernel
abbrev cJ20_init : ByteArray := prog_49_method_1_code
def yJ20_init : MethodName := ⟨RJ20, "<init>", "()V"⟩
theorem dJ20_init_0 : decode cJ20_init 0 = .ok (.aload_n 0, 1) := by decide +kernel
theorem dJ20_init_1 : decode cJ20_init 1 = .ok (.invokespecial 1, 3) := by decide +kernel
theorem dJ20_init_4 : decode cJ20_init 4 = .ok (.return_, 1) := by decide +kernel
theorem q156 : (Jvm.Cond.initialized "java/util/NoSuchElementException") ∈ lw_all := lw_g (lw_at lw_m1 38 rfl) rfl
theorem q876 : (Jvm.Cond.selects "java/util/NoSuchElementException" ({ cls := "java/lang/Object", name := "getClass", desc := "()Ljava/lang/Class;" } : Jvm.MethodName) ({ cls := "java/lang/Object", name := "getClass", desc := "()Ljava/lang/Class;" } : Jvm.MethodName)) ∈ lw_all := lw_g (lw_at lw_m4 38 rfl) rfl
theorem q1088 : (Jvm.Cond.selects "java/util/NoSuchElementException" ({ cls := "java/lang/Throwable", name := "fillInStackTrace", desc := "()Ljava/lang/Throwable;" } : Jvm.MethodName) ({ cls := "java/lang/Throwable", name := "fillInStackTrace", desc := "()Ljava/lang/Throwable;" } : Jvm.MethodName)) ∈ lw_all := lw_g (lw_at lw_m5 10 rfl) rfl
theorem q1744 : (Jvm.Cond.instantiable "java/util/NoSuchElementException" (6 : Nat)) ∈ lw_all := lw_g (lw_at lw_m7 186 rfl) rfl
theorem q1745 : (Jvm.Cond.castable "java/util/NoSuchElementException" "java/util/NoSuchElementException") ∈ lw_tbl := lw_at lw_m7 187 rfl
theorem q1746 : (Jvm.Cond.selects "java/util/NoSuchElementException" ({ cls := "java/lang/Throwable", name := "fillInStackTrace", desc := "(I)Ljava/lang/Throwable;" } : Jvm.MethodName) ({ cls := "java/lang/Throwable", name := "fillInStackTrace", desc := "(I)Ljava/lang/Throwable;" } : Jvm.MethodName)) ∈ lw_all := lw_g (lw_at lw_m7 188 rfl) rfl
theorem q1747 : (Jvm.Cond.lays "java/util/NoSuchElementException" "java/lang/Throwable" "cause" "Ljava/lang/Throwable;") ∈ lw_all := lw_g (lw_at lw_m7 189 rfl) rfl
theorem q1748 : (Jvm.Cond.lays "java/util/NoSuchElementException" "java/lang/Throwable" "stackTrace" "[Ljava/lang/StackTraceElement;") ∈ lw_all := lw_g (lw_at lw_m7 190 rfl) rfl
theorem q1749 : (Jvm.Cond.lays "java/util/NoSuchElementException" "java/lang/Throwable" "suppressedExceptions" "Ljava/util/List;") ∈ lw_all := lw_g (lw_at lw_m7 191 rfl) rfl
theorem q1750 : (Jvm.Cond.lays "java/util/NoSuchElementException" "java/lang/Throwable" "detailMessage" "Ljava/lang/String;") ∈ lw_all := lw_g (lw_at lw_m7 192 rfl) rfl
theorem q1751 : (Jvm.Cond.lays "java/util/NoSuchElementException" "java/lang/Throwable" "backtrace" "Ljava/lang/Object;") ∈ lw_all := lw_g (lw_at lw_m7 193 rfl) rfl
theorem q1753 : (Jvm.Cond.instanceMethod ({ cls := "java/util/NoSuchElementException", name := "<init>", desc := "()V" } : Jvm.MethodName)) ∈ lw_all := lw_g (lw_at lw_m7 195 rfl) rfl
theorem q1754 : (Jvm.Cond.code ({ cls := "java/util/NoSuchElementException", name := "<init>", desc := "()V" } : Jvm.MethodName) prog_49_method_1_code (1 : Nat) (Option.none : Option Jvm.ClassFile.FieldType)) ∈ lw_all := lw_g (lw_at lw_m7 196 rfl) rfl
theorem q1755 : (Jvm.Cond.methodLink "java/util/NoSuchElementException" (1 : Nat) ({ cls := "java/lang/RuntimeException", name := "<init>", desc := "()V" } : Jvm.MethodName)) ∈ lw_all := lw_g (lw_at lw_m7 197 rfl) rfl
theorem q1756 : (Jvm.Cond.lays "java/util/NoSuchElementException" "java/lang/Throwable" "depth" "I") ∈ lw_all := lw_g (lw_at lw_m7 198 rfl) rfl
theorem q1757 : (Jvm.Cond.superclass "java/util/NoSuchElementException" "java/lang/RuntimeException") ∈ lw_all := lw_g (lw_at lw_m7 199 rfl) rfl
theorem q2605 : (Jvm.Cond.castable "java/util/NoSuchElementException" "java/lang/Object") ∈ lw_tbl := lw_at lw_m11 87 rfl
theorem in_J20 : ∀ w ∈ wsJ200, w ∈ lw_all := lw_in wsJ200 [1747, 1748, 1749, 1750, 1751, 1756] (by decide +kernel) (by decide +kernel)
/-! java/lang/Object -/
set_option maxRecDepth 100000
def RJ21 : String := "java/lang/Object"
abbrev cJ21_init : ByteArray := object_method_1_code
def yJ21_init : MethodName := ⟨RJ21, "<init>", "()V"⟩
theorem dJ21_init_0 : decode cJ21_init 0 = .ok (.return_, 1) := by decide +kernel
theorem q166 : (Jvm.Cond.instanceMethod ({ cls := "java/lang/Object", name := "<init>", desc := "()V" } : Jvm.MethodName)) ∈ lw_all := lw_g (lw_at lw_m1 48 rfl) rfl
theorem q167 : (Jvm.Cond.code ({ cls := "java/lang/Object", name := "<init>", desc := "()V" } : Jvm.MethodName) object_method_1_code (1 : Nat) (Option.none : Option Jvm.ClassFile.FieldType)) ∈ lw_all := lw_g (lw_at lw_m1 49 rfl) rfl
theorem q852 : (Jvm.Cond.instanceMethod ({ cls := "java/lang/Object", name := "getClass", desc := "()Ljava/lang/Class;" } : Jvm.MethodName)) ∈ lw_all := lw_g (lw_at lw_m4 14 rfl) rfl
theorem q853 : (Jvm.Cond.sameMethod "java/lang/Object" "java/lang/Object" "getClass" "()Ljava/lang/Class;") ∈ lw_all := lw_g (lw_at lw_m4 15 rfl) rfl
theorem q877 : (Jvm.Cond.native ({ cls := "java/lang/Object", name := "getClass", desc := "()Ljava/lang/Class;" } : Jvm.MethodName)) ∈ lw_all := lw_g (lw_at lw_m4 39 rfl) rfl
theorem q1511 : (Jvm.Cond.native ({ cls := "java/lang/Object", name := "clone", desc := "()Ljava/lang/Object;" } : Jvm.MethodName)) ∈ lw_all := lw_g (lw_at lw_m6 193 rfl) rfl
theorem q1512 : (Jvm.Cond.instanceMethod ({ cls := "java/lang/Object", name := "clone", desc := "()Ljava/lang/Object;" } : Jvm.MethodName)) ∈ lw_all := lw_g (lw_at lw_m6 194 rfl) rfl
theorem q2580 : (Jvm.Cond.initialized "java/lang/Object") ∈ lw_all := lw_g (lw_at lw_m11 62 rfl) rfl
theorem q2612 : (Jvm.Cond.declares ({ cls := "java/lang/Object", name := "getClass", desc := "()Ljava/lang/Class;" } : Jvm.MethodName)) ∈ lw_tbl := lw_at lw_m11 94 rfl
theorem q1510 : (Jvm.Cond.sameMethod "[B" "java/lang/Object" "clone" "()Ljava/lang/Object;") ∈ lw_all := lw_g (lw_at lw_m6 192 rfl) rfl
set_option maxRecDepth 100000
theorem q1513 : (Jvm.Cond.selects "[B" ({ cls := "[B", name := "clone", desc := "()Ljava/lang/Object;" } : Jvm.MethodName) ({ cls := "java/lang/Object", name := "clone", desc := "()Ljava/lang/Object;" } : Jvm.MethodName)) ∈ lw_all := lw_g (lw_at lw_m6 195 rfl) rfl
theorem q1514 : (Jvm.Cond.castable "[B" "java/lang/Cloneable") ∈ lw_tbl := lw_at lw_m6 196 rfl
theorem q2619 : (Jvm.Cond.castable "[B" "java/lang/Object") ∈ lw_tbl := lw_at lw_m11 101 rfl
theorem q2614 : (Jvm.Cond.castable "[I" "java/lang/Object") ∈ lw_tbl := lw_at lw_m11 96 rfl
set_option maxRecDepth 100000
theorem q2622 : (Jvm.Cond.castable "[J" "java/lang/Object") ∈ lw_tbl := lw_at lw_m11 104 rfl
set_option maxRecDepth 100000
theorem q2610 : (Jvm.Cond.sameMethod "[Ljava/lang/Object;" "java/lang/Object" "getClass" "()Ljava/lang/Class;") ∈ lw_all := lw_g (lw_at lw_m11 92 rfl) rfl
set_option maxRecDepth 100000
theorem q2611 : (Jvm.Cond.selects "[Ljava/lang/Object;" ({ cls := "java/lang/Object", name := "getClass", desc := "()Ljava/lang/Class;" } : Jvm.MethodName) ({ cls := "java/lang/Object", name := "getClass", desc := "()Ljava/lang/Class;" } : Jvm.MethodName)) ∈ lw_all := lw_g (lw_at lw_m11 93 rfl) rfl
theorem q2621 : (Jvm.Cond.castable "[Ljava/lang/Object;" "java/lang/Object") ∈ lw_tbl := lw_at lw_m11 103 rfl
theorem q2620 : (Jvm.Cond.castable "[S" "java/lang/Object") ∈ lw_tbl := lw_at lw_m11 102 rfl
set_option maxRecDepth 100000
theorem q2615 : (Jvm.Cond.castable "[Z" "java/lang/Object") ∈ lw_tbl := lw_at lw_m11 97 rfl
set_option maxRecDepth 100000
theorem q2618 : (Jvm.Cond.castable "[[S" "java/lang/Object") ∈ lw_tbl := lw_at lw_m11 100 rfl
set_option maxRecDepth 100000
theorem q2613 : (Jvm.Cond.castable "[[Z" "java/lang/Object") ∈ lw_tbl := lw_at lw_m11 95 rfl
set_option maxRecDepth 100000
theorem q2617 : (Jvm.Cond.castable "[[[S" "java/lang/Object") ∈ lw_tbl := lw_at lw_m11 99 rfl
set_option maxRecDepth 100000
theorem q2616 : (Jvm.Cond.castable "[[[[S" "java/lang/Object") ∈ lw_tbl := lw_at lw_m11 98 rfl
set_option maxRecDepth 100000
theorem q158 : (Jvm.Cond.initialized "java/lang/Integer$IntegerCache") ∈ lw_all := lw_g (lw_at lw_m1 40 rfl) rfl
set_option maxRecDepth 100000
theorem q803 : (Jvm.Cond.laysStatic "java/lang/Integer$IntegerCache" "high" "I") ∈ lw_tbl := lw_at lw_m3 205 rfl
theorem q805 : (Jvm.Cond.laysStatic "java/lang/Integer$IntegerCache" "cache" "[Ljava/lang/Integer;") ∈ lw_tbl := lw_at lw_m3 207 rfl
theorem q148 : (Jvm.Cond.initialized "java/lang/System") ∈ lw_all := lw_g (lw_at lw_m1 30 rfl) rfl
set_option maxRecDepth 100000
theorem q886 : (Jvm.Cond.static ({ cls := "java/lang/System", name := "arraycopy", desc := "(Ljava/lang/Object;ILjava/lang/Object;II)V" } : Jvm.MethodName)) ∈ lw_all := lw_g (lw_at lw_m4 48 rfl) rfl
theorem q887 : (Jvm.Cond.native ({ cls := "java/lang/System", name := "arraycopy", desc := "(Ljava/lang/Object;ILjava/lang/Object;II)V" } : Jvm.MethodName)) ∈ lw_all := lw_g (lw_at lw_m4 49 rfl) rfl
theorem q382 : (Jvm.Cond.interfaceMethod "java/util/List" "java/util/List" "size" "()I") ∈ lw_tbl := lw_at lw_m2 24 rfl
set_option maxRecDepth 100000
theorem q383 : (Jvm.Cond.declares ({ cls := "java/util/List", name := "size", desc := "()I" } : Jvm.MethodName)) ∈ lw_tbl := lw_at lw_m2 25 rfl
theorem q392 : (Jvm.Cond.interfaceMethod "java/util/List" "java/util/List" "get" "(I)Ljava/lang/Object;") ∈ lw_tbl := lw_at lw_m2 34 rfl
theorem q393 : (Jvm.Cond.declares ({ cls := "java/util/List", name := "get", desc := "(I)Ljava/lang/Object;" } : Jvm.MethodName)) ∈ lw_tbl := lw_at lw_m2 35 rfl
theorem q547 : (Jvm.Cond.interfaceMethod "java/util/List" "java/util/List" "clear" "()V") ∈ lw_tbl := lw_at lw_m2 189 rfl
theorem q548 : (Jvm.Cond.declares ({ cls := "java/util/List", name := "clear", desc := "()V" } : Jvm.MethodName)) ∈ lw_tbl := lw_at lw_m2 190 rfl
theorem q821 : (Jvm.Cond.interfaceMethod "java/util/List" "java/util/List" "add" "(Ljava/lang/Object;)Z") ∈ lw_tbl := lw_at lw_m3 223 rfl
theorem q822 : (Jvm.Cond.declares ({ cls := "java/util/List", name := "add", desc := "(Ljava/lang/Object;)Z" } : Jvm.MethodName)) ∈ lw_tbl := lw_at lw_m3 224 rfl
theorem q1012 : (Jvm.Cond.interfaceMethod "java/util/List" "java/util/List" "isEmpty" "()Z") ∈ lw_tbl := lw_at lw_m4 174 rfl
theorem q1013 : (Jvm.Cond.declares ({ cls := "java/util/List", name := "isEmpty", desc := "()Z" } : Jvm.MethodName)) ∈ lw_tbl := lw_at lw_m4 175 rfl
theorem q1021 : (Jvm.Cond.interfaceMethod "java/util/List" "java/util/List" "remove" "(I)Ljava/lang/Object;") ∈ lw_tbl := lw_at lw_m4 183 rfl
theorem q1022 : (Jvm.Cond.declares ({ cls := "java/util/List", name := "remove", desc := "(I)Ljava/lang/Object;" } : Jvm.MethodName)) ∈ lw_tbl := lw_at lw_m4 184 rfl
theorem q175 : (Jvm.Cond.arrayOver (Jvm.ClassFile.FieldType.array Jvm.ClassFile.FieldType.boolean)) ∈ lw_tbl := lw_at lw_m1 57 rfl
set_option maxRecDepth 100000
theorem q202 : (Jvm.Cond.arrayClass Jvm.ClassFile.FieldType.int) ∈ lw_all := lw_g (lw_at lw_m1 84 rfl) rfl
theorem q203 : (Jvm.Cond.arrayClass Jvm.ClassFile.FieldType.boolean) ∈ lw_all := lw_g (lw_at lw_m1 85 rfl) rfl
theorem q205 : (Jvm.Cond.arrayOver (Jvm.ClassFile.FieldType.array (Jvm.ClassFile.FieldType.array (Jvm.ClassFile.FieldType.array Jvm.ClassFile.FieldType.short)))) ∈ lw_tbl := lw_at lw_m1 87 rfl
theorem q206 : (Jvm.Cond.arrayOver (Jvm.ClassFile.FieldType.array (Jvm.ClassFile.FieldType.array Jvm.ClassFile.FieldType.short))) ∈ lw_tbl := lw_at lw_m1 88 rfl
theorem q207 : (Jvm.Cond.arrayOver (Jvm.ClassFile.FieldType.array Jvm.ClassFile.FieldType.short)) ∈ lw_tbl := lw_at lw_m1 89 rfl
theorem q345 : (Jvm.Cond.arrayClass Jvm.ClassFile.FieldType.byte) ∈ lw_all := lw_g (lw_at lw_m1 227 rfl) rfl
theorem q531 : (Jvm.Cond.arrayClass Jvm.ClassFile.FieldType.short) ∈ lw_all := lw_g (lw_at lw_m2 173 rfl) rfl
theorem q882 : (Jvm.Cond.arrayOver (Jvm.ClassFile.FieldType.object "java/lang/Object")) ∈ lw_tbl := lw_at lw_m4 44 rfl
theorem q915 : (Jvm.Cond.arrayClass Jvm.ClassFile.FieldType.long) ∈ lw_all := lw_g (lw_at lw_m4 77 rfl) rfl
