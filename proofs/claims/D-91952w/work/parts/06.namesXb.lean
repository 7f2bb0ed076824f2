/-! FerryHall$Asked -/
set_option maxRecDepth 100000
def RX4 : String := "FerryHall$Asked"
def TX4 : u_T := fun k => match k with
  | 0 => ("FerryHall$Asked", "world", "LFerryHall$World;", true)
  | 1 => ("FerryHall$Asked", "set", "I", false)
  | 2 => ("FerryHall$Asked", "boats", "I", false)
  | 3 => ("FerryHall$Asked", "lamp", "I", false)
  | _ => ("FerryHall$Asked", "shore", "I", false)
def tyX4 : Nat → FieldType := fun k => match k with
  | 0 => .object "FerryHall$World"
  | 1 => .int
  | 2 => .int
  | 3 => .int
  | _ => .int
abbrev wsX40 : List Cond := u_ws RX4 TX4 5
theorem nmX4 : ∀ a, a < 5 → ∀ b, b < 5 → a ≠ b → (TX4 a).2.1 ≠ (TX4 b).2.1 := by decide +kernel
theorem tyX4_ok : ∀ k, k < 5 → parseFieldDescriptor (TX4 k).2.2.1 = some (tyX4 k) := by decide +kernel
abbrev cX4_init : ByteArray := prog_2_method_1_code
def yX4_init : MethodName := ⟨RX4, "<init>", "(LFerryHall$World;)V"⟩
def dkwX4_init_0 : List UInt8 := [42, 183, 0, 1, 42, 43, 181, 0, 7, 177]
abbrev dktX4_init_0 : List UInt8 := dkwX4_init_0 ++ []
theorem dksX4_init_0 : cX4_init.data.toList.drop 0 = dktX4_init_0 := by decide +kernel
theorem dX4_init_0 : decode cX4_init 0 = .ok (.aload_n 0, 1) := dk_42 (dk_at dksX4_init_0 0 rfl rfl)
theorem dX4_init_1 : decode cX4_init 1 = .ok (.invokespecial 1, 3) := dk_183 0 1 (dk_at dksX4_init_0 1 rfl rfl)
theorem dX4_init_4 : decode cX4_init 4 = .ok (.aload_n 0, 1) := dk_42 (dk_at dksX4_init_0 4 rfl rfl)
theorem dX4_init_5 : decode cX4_init 5 = .ok (.aload_n 1, 1) := dk_43 (dk_at dksX4_init_0 5 rfl rfl)
theorem dX4_init_6 : decode cX4_init 6 = .ok (.putfield 7, 3) := dk_181 0 7 (dk_at dksX4_init_0 6 rfl rfl)
theorem dX4_init_9 : decode cX4_init 9 = .ok (.return_, 1) := dk_177 (dk_at dksX4_init_0 9 rfl rfl)
abbrev cX4_value : ByteArray := prog_2_method_2_code
def yX4_value : MethodName := ⟨RX4, "value", "(I)I"⟩
def dkwX4_value_3 : List UInt8 := [42, 180, 0, 13, 182, 0, 28, 172, 42, 180, 0, 31, 172, 42, 180, 0, 34, 172, 42, 180, 0, 37, 172]
abbrev dktX4_value_3 : List UInt8 := dkwX4_value_3 ++ []
def dkwX4_value_2 : List UInt8 := [42, 180, 0, 13, 184, 0, 17, 172, 42, 180, 0, 7, 42, 180, 0, 13, 182, 0, 23, 172, 42, 180, 0, 7]
abbrev dktX4_value_2 : List UInt8 := dkwX4_value_2 ++ dktX4_value_3
def dkwX4_value_1 : List UInt8 := [170, 0, 0, 0, 0, 0, 77, 0, 0, 0, 0, 0, 0, 0, 4, 0, 0, 0, 35, 0, 0, 0, 43, 0, 0, 0, 55, 0, 0, 0, 67, 0, 0, 0, 72]
abbrev dktX4_value_1 : List UInt8 := dkwX4_value_1 ++ dktX4_value_2
def dkwX4_value_0 : List UInt8 := [27]
abbrev dktX4_value_0 : List UInt8 := dkwX4_value_0 ++ dktX4_value_1
theorem dksX4_value_0 : cX4_value.data.toList.drop 0 = dktX4_value_0 := by decide +kernel
theorem dksX4_value_1 : cX4_value.data.toList.drop 1 = dktX4_value_1 := dk_seg dksX4_value_0 1 rfl rfl
theorem dksX4_value_2 : cX4_value.data.toList.drop 36 = dktX4_value_2 := dk_seg dksX4_value_1 35 rfl rfl
theorem dksX4_value_3 : cX4_value.data.toList.drop 60 = dktX4_value_3 := dk_seg dksX4_value_2 24 rfl rfl
theorem dX4_value_0 : decode cX4_value 0 = .ok (.iload_n 1, 1) := dk_27 (dk_at dksX4_value_0 0 rfl rfl)
theorem dX4_value_1 : decode cX4_value 1 = .ok (.tableswitch 77 0 4 #[35, 43, 55, 67, 72], 35) := by decide +kernel
theorem dX4_value_36 : decode cX4_value 36 = .ok (.aload_n 0, 1) := dk_42 (dk_at dksX4_value_2 0 rfl rfl)
theorem dX4_value_37 : decode cX4_value 37 = .ok (.getfield 13, 3) := dk_180 0 13 (dk_at dksX4_value_2 1 rfl rfl)
theorem dX4_value_40 : decode cX4_value 40 = .ok (.invokestatic 17, 3) := dk_184 0 17 (dk_at dksX4_value_2 4 rfl rfl)
theorem dX4_value_43 : decode cX4_value 43 = .ok (.ireturn, 1) := dk_172 (dk_at dksX4_value_2 7 rfl rfl)
theorem dX4_value_44 : decode cX4_value 44 = .ok (.aload_n 0, 1) := dk_42 (dk_at dksX4_value_2 8 rfl rfl)
theorem dX4_value_45 : decode cX4_value 45 = .ok (.getfield 7, 3) := dk_180 0 7 (dk_at dksX4_value_2 9 rfl rfl)
theorem dX4_value_48 : decode cX4_value 48 = .ok (.aload_n 0, 1) := dk_42 (dk_at dksX4_value_2 12 rfl rfl)
theorem dX4_value_49 : decode cX4_value 49 = .ok (.getfield 13, 3) := dk_180 0 13 (dk_at dksX4_value_2 13 rfl rfl)
theorem dX4_value_52 : decode cX4_value 52 = .ok (.invokevirtual 23, 3) := dk_182 0 23 (dk_at dksX4_value_2 16 rfl rfl)
theorem dX4_value_55 : decode cX4_value 55 = .ok (.ireturn, 1) := dk_172 (dk_at dksX4_value_2 19 rfl rfl)
theorem dX4_value_56 : decode cX4_value 56 = .ok (.aload_n 0, 1) := dk_42 (dk_at dksX4_value_2 20 rfl rfl)
theorem dX4_value_57 : decode cX4_value 57 = .ok (.getfield 7, 3) := dk_180 0 7 (dk_at dksX4_value_2 21 rfl rfl)
theorem dX4_value_60 : decode cX4_value 60 = .ok (.aload_n 0, 1) := dk_42 (dk_at dksX4_value_3 0 rfl rfl)
theorem dX4_value_61 : decode cX4_value 61 = .ok (.getfield 13, 3) := dk_180 0 13 (dk_at dksX4_value_3 1 rfl rfl)
theorem dX4_value_64 : decode cX4_value 64 = .ok (.invokevirtual 28, 3) := dk_182 0 28 (dk_at dksX4_value_3 4 rfl rfl)
theorem dX4_value_67 : decode cX4_value 67 = .ok (.ireturn, 1) := dk_172 (dk_at dksX4_value_3 7 rfl rfl)
theorem dX4_value_68 : decode cX4_value 68 = .ok (.aload_n 0, 1) := dk_42 (dk_at dksX4_value_3 8 rfl rfl)
theorem dX4_value_69 : decode cX4_value 69 = .ok (.getfield 31, 3) := dk_180 0 31 (dk_at dksX4_value_3 9 rfl rfl)
theorem dX4_value_72 : decode cX4_value 72 = .ok (.ireturn, 1) := dk_172 (dk_at dksX4_value_3 12 rfl rfl)
theorem dX4_value_73 : decode cX4_value 73 = .ok (.aload_n 0, 1) := dk_42 (dk_at dksX4_value_3 13 rfl rfl)
theorem dX4_value_74 : decode cX4_value 74 = .ok (.getfield 34, 3) := dk_180 0 34 (dk_at dksX4_value_3 14 rfl rfl)
theorem dX4_value_77 : decode cX4_value 77 = .ok (.ireturn, 1) := dk_172 (dk_at dksX4_value_3 17 rfl rfl)
theorem dX4_value_78 : decode cX4_value 78 = .ok (.aload_n 0, 1) := dk_42 (dk_at dksX4_value_3 18 rfl rfl)
theorem dX4_value_79 : decode cX4_value 79 = .ok (.getfield 37, 3) := dk_180 0 37 (dk_at dksX4_value_3 19 rfl rfl)
theorem dX4_value_82 : decode cX4_value 82 = .ok (.ireturn, 1) := dk_172 (dk_at dksX4_value_3 22 rfl rfl)
theorem q125 : (Jvm.Cond.initialized "FerryHall$Asked") ∈ lw_all := lw_g (lw_at lw_m1 7 rfl) rfl
theorem q353 : (Jvm.Cond.instantiable "FerryHall$Asked" (5 : Nat)) ∈ lw_all := lw_g (lw_at lw_m1 235 rfl) rfl
theorem q355 : (Jvm.Cond.instanceMethod ({ cls := "FerryHall$Asked", name := "<init>", desc := "(LFerryHall$World;)V" } : Jvm.MethodName)) ∈ lw_all := lw_g (lw_at lw_m1 237 rfl) rfl
theorem q356 : (Jvm.Cond.code ({ cls := "FerryHall$Asked", name := "<init>", desc := "(LFerryHall$World;)V" } : Jvm.MethodName) prog_2_method_1_code (2 : Nat) (Option.none : Option Jvm.ClassFile.FieldType)) ∈ lw_all := lw_g (lw_at lw_m1 238 rfl) rfl
theorem q357 : (Jvm.Cond.methodLink "FerryHall$Asked" (1 : Nat) ({ cls := "java/lang/Object", name := "<init>", desc := "()V" } : Jvm.MethodName)) ∈ lw_all := lw_g (lw_at lw_m1 239 rfl) rfl
theorem q358 : (Jvm.Cond.fieldLink "FerryHall$Asked" (7 : Nat) "FerryHall$Asked" "world" "LFerryHall$World;") ∈ lw_all := lw_g (lw_at lw_m2 0 rfl) rfl
theorem q360 : (Jvm.Cond.fieldLink "FerryHall$Asked" (13 : Nat) "FerryHall$Asked" "set" "I") ∈ lw_all := lw_g (lw_at lw_m2 2 rfl) rfl
theorem q362 : (Jvm.Cond.fieldLink "FerryHall$Asked" (31 : Nat) "FerryHall$Asked" "boats" "I") ∈ lw_all := lw_g (lw_at lw_m2 4 rfl) rfl
theorem q364 : (Jvm.Cond.fieldLink "FerryHall$Asked" (34 : Nat) "FerryHall$Asked" "lamp" "I") ∈ lw_all := lw_g (lw_at lw_m2 6 rfl) rfl
theorem q367 : (Jvm.Cond.fieldLink "FerryHall$Asked" (37 : Nat) "FerryHall$Asked" "shore" "I") ∈ lw_all := lw_g (lw_at lw_m2 9 rfl) rfl
theorem q369 : (Jvm.Cond.laysFinal "FerryHall$Asked" "FerryHall$Asked" "world" "LFerryHall$World;") ∈ lw_all := lw_g (lw_at lw_m2 11 rfl) rfl
theorem q370 : (Jvm.Cond.soleField "FerryHall$Asked" "world") ∈ lw_all := lw_g (lw_at lw_m2 12 rfl) rfl
theorem q371 : (Jvm.Cond.lays "FerryHall$Asked" "FerryHall$Asked" "set" "I") ∈ lw_all := lw_g (lw_at lw_m2 13 rfl) rfl
theorem q372 : (Jvm.Cond.soleField "FerryHall$Asked" "set") ∈ lw_all := lw_g (lw_at lw_m2 14 rfl) rfl
theorem q373 : (Jvm.Cond.lays "FerryHall$Asked" "FerryHall$Asked" "boats" "I") ∈ lw_all := lw_g (lw_at lw_m2 15 rfl) rfl
theorem q374 : (Jvm.Cond.soleField "FerryHall$Asked" "boats") ∈ lw_all := lw_g (lw_at lw_m2 16 rfl) rfl
theorem q375 : (Jvm.Cond.lays "FerryHall$Asked" "FerryHall$Asked" "lamp" "I") ∈ lw_all := lw_g (lw_at lw_m2 17 rfl) rfl
theorem q376 : (Jvm.Cond.soleField "FerryHall$Asked" "lamp") ∈ lw_all := lw_g (lw_at lw_m2 18 rfl) rfl
theorem q377 : (Jvm.Cond.lays "FerryHall$Asked" "FerryHall$Asked" "shore" "I") ∈ lw_all := lw_g (lw_at lw_m2 19 rfl) rfl
theorem q378 : (Jvm.Cond.soleField "FerryHall$Asked" "shore") ∈ lw_all := lw_g (lw_at lw_m2 20 rfl) rfl
theorem q379 : (Jvm.Cond.superclass "FerryHall$Asked" "java/lang/Object") ∈ lw_all := lw_g (lw_at lw_m2 21 rfl) rfl
theorem q443 : (Jvm.Cond.instanceMethod ({ cls := "FerryHall$Asked", name := "value", desc := "(I)I" } : Jvm.MethodName)) ∈ lw_all := lw_g (lw_at lw_m2 85 rfl) rfl
theorem q444 : (Jvm.Cond.selects "FerryHall$Asked" ({ cls := "FerryHall$Asked", name := "value", desc := "(I)I" } : Jvm.MethodName) ({ cls := "FerryHall$Asked", name := "value", desc := "(I)I" } : Jvm.MethodName)) ∈ lw_all := lw_g (lw_at lw_m2 86 rfl) rfl
theorem q445 : (Jvm.Cond.code ({ cls := "FerryHall$Asked", name := "value", desc := "(I)I" } : Jvm.MethodName) prog_2_method_2_code (2 : Nat) (Option.some Jvm.ClassFile.FieldType.int)) ∈ lw_all := lw_g (lw_at lw_m2 87 rfl) rfl
theorem q446 : (Jvm.Cond.methodLink "FerryHall$Asked" (17 : Nat) ({ cls := "java/lang/Integer", name := "bitCount", desc := "(I)I" } : Jvm.MethodName)) ∈ lw_all := lw_g (lw_at lw_m2 88 rfl) rfl
theorem q452 : (Jvm.Cond.methodLink "FerryHall$Asked" (23 : Nat) ({ cls := "FerryHall$World", name := "weight", desc := "(I)I" } : Jvm.MethodName)) ∈ lw_all := lw_g (lw_at lw_m2 94 rfl) rfl
theorem q456 : (Jvm.Cond.methodLink "FerryHall$Asked" (28 : Nat) ({ cls := "FerryHall$World", name := "rowers", desc := "(I)I" } : Jvm.MethodName)) ∈ lw_all := lw_g (lw_at lw_m2 98 rfl) rfl
theorem q855 : (Jvm.Cond.selects "FerryHall$Asked" ({ cls := "java/lang/Object", name := "getClass", desc := "()Ljava/lang/Class;" } : Jvm.MethodName) ({ cls := "java/lang/Object", name := "getClass", desc := "()Ljava/lang/Class;" } : Jvm.MethodName)) ∈ lw_all := lw_g (lw_at lw_m4 17 rfl) rfl
theorem q2590 : (Jvm.Cond.castable "FerryHall$Asked" "java/lang/Object") ∈ lw_tbl := lw_at lw_m11 72 rfl
theorem in_X4 : ∀ w ∈ wsX40, w ∈ lw_all := lw_in wsX40 [369, 371, 373, 375, 377] (by decide +kernel) (by decide +kernel)
/-! FerryHall$Ex -/
set_option maxRecDepth 100000
def RX5 : String := "FerryHall$Ex"
abbrev cX5_holds : ByteArray := prog_5_method_3_code
def yX5_holds : MethodName := ⟨RX5, "holds", "(LFerryHall$Asked;)Z"⟩
def dkwX5_holds_0 : List UInt8 := [42, 43, 182, 0, 7, 153, 0, 7, 4, 167, 0, 4, 3, 172]
abbrev dktX5_holds_0 : List UInt8 := dkwX5_holds_0 ++ []
theorem dksX5_holds_0 : cX5_holds.data.toList.drop 0 = dktX5_holds_0 := by decide +kernel
theorem dX5_holds_0 : decode cX5_holds 0 = .ok (.aload_n 0, 1) := dk_42 (dk_at dksX5_holds_0 0 rfl rfl)
theorem dX5_holds_1 : decode cX5_holds 1 = .ok (.aload_n 1, 1) := dk_43 (dk_at dksX5_holds_0 1 rfl rfl)
theorem dX5_holds_2 : decode cX5_holds 2 = .ok (.invokevirtual 7, 3) := dk_182 0 7 (dk_at dksX5_holds_0 2 rfl rfl)
theorem dX5_holds_5 : decode cX5_holds 5 = .ok (.ifCond .eq 7, 3) := dk_153 0 7 (dk_at dksX5_holds_0 5 rfl rfl)
theorem dX5_holds_8 : decode cX5_holds 8 = .ok (.iconst 1, 1) := dk_4 (dk_at dksX5_holds_0 8 rfl rfl)
theorem dX5_holds_9 : decode cX5_holds 9 = .ok (.goto 4, 3) := dk_167 0 4 (dk_at dksX5_holds_0 9 rfl rfl)
theorem dX5_holds_12 : decode cX5_holds 12 = .ok (.iconst 0, 1) := dk_3 (dk_at dksX5_holds_0 12 rfl rfl)
theorem dX5_holds_13 : decode cX5_holds 13 = .ok (.ireturn, 1) := dk_172 (dk_at dksX5_holds_0 13 rfl rfl)
abbrev cX5_init : ByteArray := prog_5_method_1_code
def yX5_init : MethodName := ⟨RX5, "<init>", "()V"⟩
theorem dX5_init_0 : decode cX5_init 0 = .ok (.aload_n 0, 1) := by decide +kernel
theorem dX5_init_1 : decode cX5_init 1 = .ok (.invokespecial 1, 3) := by decide +kernel
theorem dX5_init_4 : decode cX5_init 4 = .ok (.return_, 1) := by decide +kernel
theorem q133 : (Jvm.Cond.initialized "FerryHall$Ex") ∈ lw_all := lw_g (lw_at lw_m1 15 rfl) rfl
theorem q415 : (Jvm.Cond.instanceMethod ({ cls := "FerryHall$Ex", name := "holds", desc := "(LFerryHall$Asked;)Z" } : Jvm.MethodName)) ∈ lw_all := lw_g (lw_at lw_m2 57 rfl) rfl
theorem q416 : (Jvm.Cond.sameMethod "FerryHall$Ex" "FerryHall$Ex" "holds" "(LFerryHall$Asked;)Z") ∈ lw_all := lw_g (lw_at lw_m2 58 rfl) rfl
theorem q422 : (Jvm.Cond.code ({ cls := "FerryHall$Ex", name := "holds", desc := "(LFerryHall$Asked;)Z" } : Jvm.MethodName) prog_5_method_3_code (2 : Nat) (Option.some Jvm.ClassFile.FieldType.boolean)) ∈ lw_all := lw_g (lw_at lw_m2 64 rfl) rfl
theorem q423 : (Jvm.Cond.methodLink "FerryHall$Ex" (7 : Nat) ({ cls := "FerryHall$Ex", name := "value", desc := "(LFerryHall$Asked;)I" } : Jvm.MethodName)) ∈ lw_all := lw_g (lw_at lw_m2 65 rfl) rfl
theorem q424 : (Jvm.Cond.declares ({ cls := "FerryHall$Ex", name := "value", desc := "(LFerryHall$Asked;)I" } : Jvm.MethodName)) ∈ lw_tbl := lw_at lw_m2 66 rfl
theorem q425 : (Jvm.Cond.sameMethod "FerryHall$Ex" "FerryHall$Ex" "value" "(LFerryHall$Asked;)I") ∈ lw_all := lw_g (lw_at lw_m2 67 rfl) rfl
theorem q1413 : (Jvm.Cond.instanceMethod ({ cls := "FerryHall$Ex", name := "<init>", desc := "()V" } : Jvm.MethodName)) ∈ lw_all := lw_g (lw_at lw_m6 95 rfl) rfl
theorem q1414 : (Jvm.Cond.code ({ cls := "FerryHall$Ex", name := "<init>", desc := "()V" } : Jvm.MethodName) prog_5_method_1_code (1 : Nat) (Option.none : Option Jvm.ClassFile.FieldType)) ∈ lw_all := lw_g (lw_at lw_m6 96 rfl) rfl
theorem q1415 : (Jvm.Cond.methodLink "FerryHall$Ex" (1 : Nat) ({ cls := "java/lang/Object", name := "<init>", desc := "()V" } : Jvm.MethodName)) ∈ lw_all := lw_g (lw_at lw_m6 97 rfl) rfl
/-! FerryHall$Chain -/
set_option maxRecDepth 100000
def RX6 : String := "FerryHall$Chain"
def TX6 : u_T := fun k => match k with
  | 0 => ("FerryHall$Chain", "parts", "Ljava/util/List;", true)
  | _ => ("FerryHall$Chain", "signs", "Ljava/lang/StringBuilder;", true)
def tyX6 : Nat → FieldType := fun k => match k with
  | 0 => .object "java/util/List"
  | _ => .object "java/lang/StringBuilder"
abbrev wsX60 : List Cond := u_ws RX6 TX6 2
theorem nmX6 : ∀ a, a < 2 → ∀ b, b < 2 → a ≠ b → (TX6 a).2.1 ≠ (TX6 b).2.1 := by decide +kernel
theorem tyX6_ok : ∀ k, k < 2 → parseFieldDescriptor (TX6 k).2.2.1 = some (tyX6 k) := by decide +kernel
abbrev cX6_value : ByteArray := prog_4_method_4_code
def yX6_value : MethodName := ⟨RX6, "value", "(LFerryHall$Asked;)I"⟩
def dkwX6_value_3 : List UInt8 := [167, 255, 208, 28, 172]
abbrev dktX6_value_3 : List UInt8 := dkwX6_value_3 ++ []
def dkwX6_value_2 : List UInt8 := [180, 0, 10, 29, 185, 0, 33, 2, 0, 192, 0, 2, 43, 182, 0, 37, 184, 0, 49, 61, 132, 3, 1]
abbrev dktX6_value_2 : List UInt8 := dkwX6_value_2 ++ dktX6_value_3
def dkwX6_value_1 : List UInt8 := [180, 0, 10, 185, 0, 41, 1, 0, 162, 0, 41, 42, 180, 0, 19, 29, 4, 100, 182, 0, 45, 28, 42]
abbrev dktX6_value_1 : List UInt8 := dkwX6_value_1 ++ dktX6_value_2
def dkwX6_value_0 : List UInt8 := [42, 180, 0, 10, 3, 185, 0, 33, 2, 0, 192, 0, 2, 43, 182, 0, 37, 61, 4, 62, 29, 42]
abbrev dktX6_value_0 : List UInt8 := dkwX6_value_0 ++ dktX6_value_1
theorem dksX6_value_0 : cX6_value.data.toList.drop 0 = dktX6_value_0 := by decide +kernel
theorem dksX6_value_1 : cX6_value.data.toList.drop 22 = dktX6_value_1 := dk_seg dksX6_value_0 22 rfl rfl
theorem dksX6_value_2 : cX6_value.data.toList.drop 45 = dktX6_value_2 := dk_seg dksX6_value_1 23 rfl rfl
theorem dksX6_value_3 : cX6_value.data.toList.drop 68 = dktX6_value_3 := dk_seg dksX6_value_2 23 rfl rfl
theorem dX6_value_0 : decode cX6_value 0 = .ok (.aload_n 0, 1) := dk_42 (dk_at dksX6_value_0 0 rfl rfl)
theorem dX6_value_1 : decode cX6_value 1 = .ok (.getfield 10, 3) := dk_180 0 10 (dk_at dksX6_value_0 1 rfl rfl)
theorem dX6_value_4 : decode cX6_value 4 = .ok (.iconst 0, 1) := dk_3 (dk_at dksX6_value_0 4 rfl rfl)
theorem dX6_value_5 : decode cX6_value 5 = .ok (.invokeinterface 33 2, 5) := by decide +kernel
theorem dX6_value_10 : decode cX6_value 10 = .ok (.checkcast 2, 3) := dk_192 0 2 (dk_at dksX6_value_0 10 rfl rfl)
theorem dX6_value_13 : decode cX6_value 13 = .ok (.aload_n 1, 1) := dk_43 (dk_at dksX6_value_0 13 rfl rfl)
theorem dX6_value_14 : decode cX6_value 14 = .ok (.invokevirtual 37, 3) := dk_182 0 37 (dk_at dksX6_value_0 14 rfl rfl)
theorem dX6_value_17 : decode cX6_value 17 = .ok (.istore_n 2, 1) := dk_61 (dk_at dksX6_value_0 17 rfl rfl)
theorem dX6_value_18 : decode cX6_value 18 = .ok (.iconst 1, 1) := dk_4 (dk_at dksX6_value_0 18 rfl rfl)
theorem dX6_value_19 : decode cX6_value 19 = .ok (.istore_n 3, 1) := dk_62 (dk_at dksX6_value_0 19 rfl rfl)
theorem dX6_value_20 : decode cX6_value 20 = .ok (.iload_n 3, 1) := dk_29 (dk_at dksX6_value_0 20 rfl rfl)
theorem dX6_value_21 : decode cX6_value 21 = .ok (.aload_n 0, 1) := dk_42 (dk_at dksX6_value_0 21 rfl rfl)
theorem dX6_value_22 : decode cX6_value 22 = .ok (.getfield 10, 3) := dk_180 0 10 (dk_at dksX6_value_1 0 rfl rfl)
theorem dX6_value_25 : decode cX6_value 25 = .ok (.invokeinterface 41 1, 5) := by decide +kernel
theorem dX6_value_30 : decode cX6_value 30 = .ok (.if_icmp .ge 41, 3) := dk_162 0 41 (dk_at dksX6_value_1 8 rfl rfl)
theorem dX6_value_33 : decode cX6_value 33 = .ok (.aload_n 0, 1) := dk_42 (dk_at dksX6_value_1 11 rfl rfl)
theorem dX6_value_34 : decode cX6_value 34 = .ok (.getfield 19, 3) := dk_180 0 19 (dk_at dksX6_value_1 12 rfl rfl)
theorem dX6_value_37 : decode cX6_value 37 = .ok (.iload_n 3, 1) := dk_29 (dk_at dksX6_value_1 15 rfl rfl)
theorem dX6_value_38 : decode cX6_value 38 = .ok (.iconst 1, 1) := dk_4 (dk_at dksX6_value_1 16 rfl rfl)
theorem dX6_value_39 : decode cX6_value 39 = .ok (.isub, 1) := dk_100 (dk_at dksX6_value_1 17 rfl rfl)
theorem dX6_value_40 : decode cX6_value 40 = .ok (.invokevirtual 45, 3) := dk_182 0 45 (dk_at dksX6_value_1 18 rfl rfl)
theorem dX6_value_43 : decode cX6_value 43 = .ok (.iload_n 2, 1) := dk_28 (dk_at dksX6_value_1 21 rfl rfl)
theorem dX6_value_44 : decode cX6_value 44 = .ok (.aload_n 0, 1) := dk_42 (dk_at dksX6_value_1 22 rfl rfl)
theorem dX6_value_45 : decode cX6_value 45 = .ok (.getfield 10, 3) := dk_180 0 10 (dk_at dksX6_value_2 0 rfl rfl)
theorem dX6_value_48 : decode cX6_value 48 = .ok (.iload_n 3, 1) := dk_29 (dk_at dksX6_value_2 3 rfl rfl)
theorem dX6_value_49 : decode cX6_value 49 = .ok (.invokeinterface 33 2, 5) := by decide +kernel
theorem dX6_value_54 : decode cX6_value 54 = .ok (.checkcast 2, 3) := dk_192 0 2 (dk_at dksX6_value_2 9 rfl rfl)
theorem dX6_value_57 : decode cX6_value 57 = .ok (.aload_n 1, 1) := dk_43 (dk_at dksX6_value_2 12 rfl rfl)
theorem dX6_value_58 : decode cX6_value 58 = .ok (.invokevirtual 37, 3) := dk_182 0 37 (dk_at dksX6_value_2 13 rfl rfl)
theorem dX6_value_61 : decode cX6_value 61 = .ok (.invokestatic 49, 3) := dk_184 0 49 (dk_at dksX6_value_2 16 rfl rfl)
theorem dX6_value_64 : decode cX6_value 64 = .ok (.istore_n 2, 1) := dk_61 (dk_at dksX6_value_2 19 rfl rfl)
theorem dX6_value_65 : decode cX6_value 65 = .ok (.iinc 3 1, 3) := dk_132 3 1 (dk_at dksX6_value_2 20 rfl rfl)
theorem dX6_value_68 : decode cX6_value 68 = .ok (.goto (-48), 3) := dk_167 255 208 (dk_at dksX6_value_3 0 rfl rfl)
theorem dX6_value_71 : decode cX6_value 71 = .ok (.iload_n 2, 1) := dk_28 (dk_at dksX6_value_3 3 rfl rfl)
theorem dX6_value_72 : decode cX6_value 72 = .ok (.ireturn, 1) := dk_172 (dk_at dksX6_value_3 4 rfl rfl)
abbrev cX6_two : ByteArray := prog_4_method_3_code
def yX6_two : MethodName := ⟨RX6, "two", "(CII)I"⟩
def dkwX6_two_5 : List UInt8 := [167, 0, 4, 3, 172]
abbrev dktX6_two_5 : List UInt8 := dkwX6_two_5 ++ []
def dkwX6_two_4 : List UInt8 := [153, 0, 11, 28, 153, 0, 7, 4, 167, 0, 4, 3, 172, 27, 154, 0, 7, 28, 153, 0, 7, 4]
abbrev dktX6_two_4 : List UInt8 := dkwX6_two_4 ++ dktX6_two_5
def dkwX6_two_3 : List UInt8 := [27, 28, 162, 0, 7, 4, 167, 0, 4, 3, 172, 27, 28, 160, 0, 7, 4, 167, 0, 4, 3, 172, 27]
abbrev dktX6_two_3 : List UInt8 := dkwX6_two_3 ++ dktX6_two_4
def dkwX6_two_2 : List UInt8 := [27, 28, 96, 172, 27, 28, 100, 172, 27, 28, 104, 172, 28, 154, 0, 7, 3, 167, 0, 6, 27, 28, 108, 172]
abbrev dktX6_two_2 : List UInt8 := dkwX6_two_2 ++ dktX6_two_3
def dkwX6_two_1 : List UInt8 := [170, 0, 0, 0, 0, 0, 171, 0, 0, 0, 38, 0, 0, 0, 61, 0, 0, 0, 157, 0, 0, 0, 171, 0, 0, 0, 171, 0, 0, 0, 171, 0, 0, 0, 119, 0, 0, 0, 111, 0, 0, 0, 171, 0, 0, 0, 115, 0, 0, 0, 171, 0, 0, 0, 123, 0, 0, 0, 171, 0, 0, 0, 171, 0, 0, 0, 171, 0, 0, 0, 171, 0, 0, 0, 171, 0, 0, 0, 171, 0, 0, 0, 171, 0, 0, 0, 171, 0, 0, 0, 171, 0, 0, 0, 171, 0, 0, 0, 171, 0, 0, 0, 171, 0, 0, 0, 135, 0, 0, 0, 146]
abbrev dktX6_two_1 : List UInt8 := dkwX6_two_1 ++ dktX6_two_2
def dkwX6_two_0 : List UInt8 := [26]
abbrev dktX6_two_0 : List UInt8 := dkwX6_two_0 ++ dktX6_two_1
theorem dksX6_two_0 : cX6_two.data.toList.drop 0 = dktX6_two_0 := by decide +kernel
theorem dksX6_two_1 : cX6_two.data.toList.drop 1 = dktX6_two_1 := dk_seg dksX6_two_0 1 rfl rfl
theorem dksX6_two_2 : cX6_two.data.toList.drop 112 = dktX6_two_2 := dk_seg dksX6_two_1 111 rfl rfl
theorem dksX6_two_3 : cX6_two.data.toList.drop 136 = dktX6_two_3 := dk_seg dksX6_two_2 24 rfl rfl
theorem dksX6_two_4 : cX6_two.data.toList.drop 159 = dktX6_two_4 := dk_seg dksX6_two_3 23 rfl rfl
theorem dksX6_two_5 : cX6_two.data.toList.drop 181 = dktX6_two_5 := dk_seg dksX6_two_4 22 rfl rfl
theorem dX6_two_0 : decode cX6_two 0 = .ok (.iload_n 0, 1) := dk_26 (dk_at dksX6_two_0 0 rfl rfl)
theorem dX6_two_1 : decode cX6_two 1 = .ok (.tableswitch 171 38 61 #[157, 171, 171, 171, 119, 111, 171, 115, 171, 123, 171, 171, 171, 171, 171, 171, 171, 171, 171, 171, 171, 171, 135, 146], 111) := by decide +kernel
theorem dX6_two_112 : decode cX6_two 112 = .ok (.iload_n 1, 1) := dk_27 (dk_at dksX6_two_2 0 rfl rfl)
theorem dX6_two_113 : decode cX6_two 113 = .ok (.iload_n 2, 1) := dk_28 (dk_at dksX6_two_2 1 rfl rfl)
theorem dX6_two_114 : decode cX6_two 114 = .ok (.iadd, 1) := dk_96 (dk_at dksX6_two_2 2 rfl rfl)
theorem dX6_two_115 : decode cX6_two 115 = .ok (.ireturn, 1) := dk_172 (dk_at dksX6_two_2 3 rfl rfl)
theorem dX6_two_116 : decode cX6_two 116 = .ok (.iload_n 1, 1) := dk_27 (dk_at dksX6_two_2 4 rfl rfl)
theorem dX6_two_117 : decode cX6_two 117 = .ok (.iload_n 2, 1) := dk_28 (dk_at dksX6_two_2 5 rfl rfl)
theorem dX6_two_118 : decode cX6_two 118 = .ok (.isub, 1) := dk_100 (dk_at dksX6_two_2 6 rfl rfl)
theorem dX6_two_119 : decode cX6_two 119 = .ok (.ireturn, 1) := dk_172 (dk_at dksX6_two_2 7 rfl rfl)
theorem dX6_two_120 : decode cX6_two 120 = .ok (.iload_n 1, 1) := dk_27 (dk_at dksX6_two_2 8 rfl rfl)
theorem dX6_two_121 : decode cX6_two 121 = .ok (.iload_n 2, 1) := dk_28 (dk_at dksX6_two_2 9 rfl rfl)
theorem dX6_two_122 : decode cX6_two 122 = .ok (.imul, 1) := dk_104 (dk_at dksX6_two_2 10 rfl rfl)
theorem dX6_two_123 : decode cX6_two 123 = .ok (.ireturn, 1) := dk_172 (dk_at dksX6_two_2 11 rfl rfl)
theorem dX6_two_124 : decode cX6_two 124 = .ok (.iload_n 2, 1) := dk_28 (dk_at dksX6_two_2 12 rfl rfl)
theorem dX6_two_125 : decode cX6_two 125 = .ok (.ifCond .ne 7, 3) := dk_154 0 7 (dk_at dksX6_two_2 13 rfl rfl)
theorem dX6_two_128 : decode cX6_two 128 = .ok (.iconst 0, 1) := dk_3 (dk_at dksX6_two_2 16 rfl rfl)
theorem dX6_two_129 : decode cX6_two 129 = .ok (.goto 6, 3) := dk_167 0 6 (dk_at dksX6_two_2 17 rfl rfl)
theorem dX6_two_132 : decode cX6_two 132 = .ok (.iload_n 1, 1) := dk_27 (dk_at dksX6_two_2 20 rfl rfl)
theorem dX6_two_133 : decode cX6_two 133 = .ok (.iload_n 2, 1) := dk_28 (dk_at dksX6_two_2 21 rfl rfl)
theorem dX6_two_134 : decode cX6_two 134 = .ok (.idiv, 1) := dk_108 (dk_at dksX6_two_2 22 rfl rfl)
theorem dX6_two_135 : decode cX6_two 135 = .ok (.ireturn, 1) := dk_172 (dk_at dksX6_two_2 23 rfl rfl)
theorem dX6_two_136 : decode cX6_two 136 = .ok (.iload_n 1, 1) := dk_27 (dk_at dksX6_two_3 0 rfl rfl)
theorem dX6_two_137 : decode cX6_two 137 = .ok (.iload_n 2, 1) := dk_28 (dk_at dksX6_two_3 1 rfl rfl)
theorem dX6_two_138 : decode cX6_two 138 = .ok (.if_icmp .ge 7, 3) := dk_162 0 7 (dk_at dksX6_two_3 2 rfl rfl)
theorem dX6_two_141 : decode cX6_two 141 = .ok (.iconst 1, 1) := dk_4 (dk_at dksX6_two_3 5 rfl rfl)
theorem dX6_two_142 : decode cX6_two 142 = .ok (.goto 4, 3) := dk_167 0 4 (dk_at dksX6_two_3 6 rfl rfl)
theorem dX6_two_145 : decode cX6_two 145 = .ok (.iconst 0, 1) := dk_3 (dk_at dksX6_two_3 9 rfl rfl)
theorem dX6_two_146 : decode cX6_two 146 = .ok (.ireturn, 1) := dk_172 (dk_at dksX6_two_3 10 rfl rfl)
theorem dX6_two_147 : decode cX6_two 147 = .ok (.iload_n 1, 1) := dk_27 (dk_at dksX6_two_3 11 rfl rfl)
theorem dX6_two_148 : decode cX6_two 148 = .ok (.iload_n 2, 1) := dk_28 (dk_at dksX6_two_3 12 rfl rfl)
theorem dX6_two_149 : decode cX6_two 149 = .ok (.if_icmp .ne 7, 3) := dk_160 0 7 (dk_at dksX6_two_3 13 rfl rfl)
theorem dX6_two_152 : decode cX6_two 152 = .ok (.iconst 1, 1) := dk_4 (dk_at dksX6_two_3 16 rfl rfl)
theorem dX6_two_153 : decode cX6_two 153 = .ok (.goto 4, 3) := dk_167 0 4 (dk_at dksX6_two_3 17 rfl rfl)
theorem dX6_two_156 : decode cX6_two 156 = .ok (.iconst 0, 1) := dk_3 (dk_at dksX6_two_3 20 rfl rfl)
theorem dX6_two_157 : decode cX6_two 157 = .ok (.ireturn, 1) := dk_172 (dk_at dksX6_two_3 21 rfl rfl)
theorem dX6_two_158 : decode cX6_two 158 = .ok (.iload_n 1, 1) := dk_27 (dk_at dksX6_two_3 22 rfl rfl)
theorem dX6_two_159 : decode cX6_two 159 = .ok (.ifCond .eq 11, 3) := dk_153 0 11 (dk_at dksX6_two_4 0 rfl rfl)
theorem dX6_two_162 : decode cX6_two 162 = .ok (.iload_n 2, 1) := dk_28 (dk_at dksX6_two_4 3 rfl rfl)
theorem dX6_two_163 : decode cX6_two 163 = .ok (.ifCond .eq 7, 3) := dk_153 0 7 (dk_at dksX6_two_4 4 rfl rfl)
theorem dX6_two_166 : decode cX6_two 166 = .ok (.iconst 1, 1) := dk_4 (dk_at dksX6_two_4 7 rfl rfl)
theorem dX6_two_167 : decode cX6_two 167 = .ok (.goto 4, 3) := dk_167 0 4 (dk_at dksX6_two_4 8 rfl rfl)
theorem dX6_two_170 : decode cX6_two 170 = .ok (.iconst 0, 1) := dk_3 (dk_at dksX6_two_4 11 rfl rfl)
theorem dX6_two_171 : decode cX6_two 171 = .ok (.ireturn, 1) := dk_172 (dk_at dksX6_two_4 12 rfl rfl)
theorem dX6_two_172 : decode cX6_two 172 = .ok (.iload_n 1, 1) := dk_27 (dk_at dksX6_two_4 13 rfl rfl)
theorem dX6_two_173 : decode cX6_two 173 = .ok (.ifCond .ne 7, 3) := dk_154 0 7 (dk_at dksX6_two_4 14 rfl rfl)
theorem dX6_two_176 : decode cX6_two 176 = .ok (.iload_n 2, 1) := dk_28 (dk_at dksX6_two_4 17 rfl rfl)
theorem dX6_two_177 : decode cX6_two 177 = .ok (.ifCond .eq 7, 3) := dk_153 0 7 (dk_at dksX6_two_4 18 rfl rfl)
theorem dX6_two_180 : decode cX6_two 180 = .ok (.iconst 1, 1) := dk_4 (dk_at dksX6_two_4 21 rfl rfl)
theorem dX6_two_181 : decode cX6_two 181 = .ok (.goto 4, 3) := dk_167 0 4 (dk_at dksX6_two_5 0 rfl rfl)
theorem dX6_two_184 : decode cX6_two 184 = .ok (.iconst 0, 1) := dk_3 (dk_at dksX6_two_5 3 rfl rfl)
theorem dX6_two_185 : decode cX6_two 185 = .ok (.ireturn, 1) := dk_172 (dk_at dksX6_two_5 4 rfl rfl)
abbrev cX6_init : ByteArray := prog_4_method_1_code
def yX6_init : MethodName := ⟨RX6, "<init>", "(LFerryHall$Ex;)V"⟩
def dkwX6_init_1 : List UInt8 := [181, 0, 19, 42, 180, 0, 10, 43, 185, 0, 23, 2, 0, 87, 177]
abbrev dktX6_init_1 : List UInt8 := dkwX6_init_1 ++ []
def dkwX6_init_0 : List UInt8 := [42, 183, 0, 1, 42, 187, 0, 7, 89, 183, 0, 9, 181, 0, 10, 42, 187, 0, 16, 89, 183, 0, 18]
abbrev dktX6_init_0 : List UInt8 := dkwX6_init_0 ++ dktX6_init_1
theorem dksX6_init_0 : cX6_init.data.toList.drop 0 = dktX6_init_0 := by decide +kernel
theorem dksX6_init_1 : cX6_init.data.toList.drop 23 = dktX6_init_1 := dk_seg dksX6_init_0 23 rfl rfl
theorem dX6_init_0 : decode cX6_init 0 = .ok (.aload_n 0, 1) := dk_42 (dk_at dksX6_init_0 0 rfl rfl)
theorem dX6_init_1 : decode cX6_init 1 = .ok (.invokespecial 1, 3) := dk_183 0 1 (dk_at dksX6_init_0 1 rfl rfl)
theorem dX6_init_4 : decode cX6_init 4 = .ok (.aload_n 0, 1) := dk_42 (dk_at dksX6_init_0 4 rfl rfl)
theorem dX6_init_5 : decode cX6_init 5 = .ok (.new 7, 3) := dk_187 0 7 (dk_at dksX6_init_0 5 rfl rfl)
theorem dX6_init_8 : decode cX6_init 8 = .ok (.dup, 1) := dk_89 (dk_at dksX6_init_0 8 rfl rfl)
theorem dX6_init_9 : decode cX6_init 9 = .ok (.invokespecial 9, 3) := dk_183 0 9 (dk_at dksX6_init_0 9 rfl rfl)
theorem dX6_init_12 : decode cX6_init 12 = .ok (.putfield 10, 3) := dk_181 0 10 (dk_at dksX6_init_0 12 rfl rfl)
theorem dX6_init_15 : decode cX6_init 15 = .ok (.aload_n 0, 1) := dk_42 (dk_at dksX6_init_0 15 rfl rfl)
theorem dX6_init_16 : decode cX6_init 16 = .ok (.new 16, 3) := dk_187 0 16 (dk_at dksX6_init_0 16 rfl rfl)
theorem dX6_init_19 : decode cX6_init 19 = .ok (.dup, 1) := dk_89 (dk_at dksX6_init_0 19 rfl rfl)
theorem dX6_init_20 : decode cX6_init 20 = .ok (.invokespecial 18, 3) := dk_183 0 18 (dk_at dksX6_init_0 20 rfl rfl)
theorem dX6_init_23 : decode cX6_init 23 = .ok (.putfield 19, 3) := dk_181 0 19 (dk_at dksX6_init_1 0 rfl rfl)
theorem dX6_init_26 : decode cX6_init 26 = .ok (.aload_n 0, 1) := dk_42 (dk_at dksX6_init_1 3 rfl rfl)
theorem dX6_init_27 : decode cX6_init 27 = .ok (.getfield 10, 3) := dk_180 0 10 (dk_at dksX6_init_1 4 rfl rfl)
theorem dX6_init_30 : decode cX6_init 30 = .ok (.aload_n 1, 1) := dk_43 (dk_at dksX6_init_1 7 rfl rfl)
theorem dX6_init_31 : decode cX6_init 31 = .ok (.invokeinterface 23 2, 5) := by decide +kernel
theorem dX6_init_36 : decode cX6_init 36 = .ok (.pop, 1) := dk_87 (dk_at dksX6_init_1 13 rfl rfl)
theorem dX6_init_37 : decode cX6_init 37 = .ok (.return_, 1) := dk_177 (dk_at dksX6_init_1 14 rfl rfl)
abbrev cX6_add : ByteArray := prog_4_method_2_code
def yX6_add : MethodName := ⟨RX6, "add", "(CLFerryHall$Ex;)V"⟩
def dkwX6_add_0 : List UInt8 := [42, 180, 0, 19, 27, 182, 0, 29, 87, 42, 180, 0, 10, 44, 185, 0, 23, 2, 0, 87, 177]
abbrev dktX6_add_0 : List UInt8 := dkwX6_add_0 ++ []
theorem dksX6_add_0 : cX6_add.data.toList.drop 0 = dktX6_add_0 := by decide +kernel
theorem dX6_add_0 : decode cX6_add 0 = .ok (.aload_n 0, 1) := dk_42 (dk_at dksX6_add_0 0 rfl rfl)
theorem dX6_add_1 : decode cX6_add 1 = .ok (.getfield 19, 3) := dk_180 0 19 (dk_at dksX6_add_0 1 rfl rfl)
theorem dX6_add_4 : decode cX6_add 4 = .ok (.iload_n 1, 1) := dk_27 (dk_at dksX6_add_0 4 rfl rfl)
theorem dX6_add_5 : decode cX6_add 5 = .ok (.invokevirtual 29, 3) := dk_182 0 29 (dk_at dksX6_add_0 5 rfl rfl)
theorem dX6_add_8 : decode cX6_add 8 = .ok (.pop, 1) := dk_87 (dk_at dksX6_add_0 8 rfl rfl)
theorem dX6_add_9 : decode cX6_add 9 = .ok (.aload_n 0, 1) := dk_42 (dk_at dksX6_add_0 9 rfl rfl)
theorem dX6_add_10 : decode cX6_add 10 = .ok (.getfield 10, 3) := dk_180 0 10 (dk_at dksX6_add_0 10 rfl rfl)
theorem dX6_add_13 : decode cX6_add 13 = .ok (.aload_n 2, 1) := dk_44 (dk_at dksX6_add_0 13 rfl rfl)
theorem dX6_add_14 : decode cX6_add 14 = .ok (.invokeinterface 23 2, 5) := by decide +kernel
theorem dX6_add_19 : decode cX6_add 19 = .ok (.pop, 1) := dk_87 (dk_at dksX6_add_0 19 rfl rfl)
theorem dX6_add_20 : decode cX6_add 20 = .ok (.return_, 1) := dk_177 (dk_at dksX6_add_0 20 rfl rfl)
theorem q134 : (Jvm.Cond.initialized "FerryHall$Chain") ∈ lw_all := lw_g (lw_at lw_m1 16 rfl) rfl
theorem q417 : (Jvm.Cond.selects "FerryHall$Chain" ({ cls := "FerryHall$Ex", name := "holds", desc := "(LFerryHall$Asked;)Z" } : Jvm.MethodName) ({ cls := "FerryHall$Ex", name := "holds", desc := "(LFerryHall$Asked;)Z" } : Jvm.MethodName)) ∈ lw_all := lw_g (lw_at lw_m2 59 rfl) rfl
theorem q426 : (Jvm.Cond.selects "FerryHall$Chain" ({ cls := "FerryHall$Ex", name := "value", desc := "(LFerryHall$Asked;)I" } : Jvm.MethodName) ({ cls := "FerryHall$Chain", name := "value", desc := "(LFerryHall$Asked;)I" } : Jvm.MethodName)) ∈ lw_all := lw_g (lw_at lw_m2 68 rfl) rfl
theorem q427 : (Jvm.Cond.instanceMethod ({ cls := "FerryHall$Chain", name := "value", desc := "(LFerryHall$Asked;)I" } : Jvm.MethodName)) ∈ lw_all := lw_g (lw_at lw_m2 69 rfl) rfl
theorem q428 : (Jvm.Cond.code ({ cls := "FerryHall$Chain", name := "value", desc := "(LFerryHall$Asked;)I" } : Jvm.MethodName) prog_4_method_4_code (4 : Nat) (Option.some Jvm.ClassFile.FieldType.int)) ∈ lw_all := lw_g (lw_at lw_m2 70 rfl) rfl
theorem q429 : (Jvm.Cond.interfaceEntry "FerryHall$Chain" (33 : Nat)) ∈ lw_tbl := lw_at lw_m2 71 rfl
theorem q430 : (Jvm.Cond.methodLink "FerryHall$Chain" (33 : Nat) ({ cls := "java/util/List", name := "get", desc := "(I)Ljava/lang/Object;" } : Jvm.MethodName)) ∈ lw_all := lw_g (lw_at lw_m2 72 rfl) rfl
theorem q431 : (Jvm.Cond.classLink "FerryHall$Chain" (2 : Nat) "FerryHall$Ex") ∈ lw_all := lw_g (lw_at lw_m2 73 rfl) rfl
theorem q432 : (Jvm.Cond.methodLink "FerryHall$Chain" (37 : Nat) ({ cls := "FerryHall$Ex", name := "value", desc := "(LFerryHall$Asked;)I" } : Jvm.MethodName)) ∈ lw_all := lw_g (lw_at lw_m2 74 rfl) rfl
theorem q460 : (Jvm.Cond.interfaceEntry "FerryHall$Chain" (41 : Nat)) ∈ lw_tbl := lw_at lw_m2 102 rfl
theorem q461 : (Jvm.Cond.methodLink "FerryHall$Chain" (41 : Nat) ({ cls := "java/util/List", name := "size", desc := "()I" } : Jvm.MethodName)) ∈ lw_all := lw_g (lw_at lw_m2 103 rfl) rfl
theorem q462 : (Jvm.Cond.methodLink "FerryHall$Chain" (45 : Nat) ({ cls := "java/lang/StringBuilder", name := "charAt", desc := "(I)C" } : Jvm.MethodName)) ∈ lw_all := lw_g (lw_at lw_m2 104 rfl) rfl
theorem q491 : (Jvm.Cond.methodLink "FerryHall$Chain" (49 : Nat) ({ cls := "FerryHall$Chain", name := "two", desc := "(CII)I" } : Jvm.MethodName)) ∈ lw_all := lw_g (lw_at lw_m2 133 rfl) rfl
theorem q492 : (Jvm.Cond.static ({ cls := "FerryHall$Chain", name := "two", desc := "(CII)I" } : Jvm.MethodName)) ∈ lw_all := lw_g (lw_at lw_m2 134 rfl) rfl
theorem q493 : (Jvm.Cond.code ({ cls := "FerryHall$Chain", name := "two", desc := "(CII)I" } : Jvm.MethodName) prog_4_method_3_code (3 : Nat) (Option.some Jvm.ClassFile.FieldType.int)) ∈ lw_all := lw_g (lw_at lw_m2 135 rfl) rfl
theorem q857 : (Jvm.Cond.selects "FerryHall$Chain" ({ cls := "java/lang/Object", name := "getClass", desc := "()Ljava/lang/Class;" } : Jvm.MethodName) ({ cls := "java/lang/Object", name := "getClass", desc := "()Ljava/lang/Class;" } : Jvm.MethodName)) ∈ lw_all := lw_g (lw_at lw_m4 19 rfl) rfl
theorem q1385 : (Jvm.Cond.instantiable "FerryHall$Chain" (2 : Nat)) ∈ lw_all := lw_g (lw_at lw_m6 67 rfl) rfl
theorem q1672 : (Jvm.Cond.instanceMethod ({ cls := "FerryHall$Chain", name := "<init>", desc := "(LFerryHall$Ex;)V" } : Jvm.MethodName)) ∈ lw_all := lw_g (lw_at lw_m7 114 rfl) rfl
theorem q1673 : (Jvm.Cond.code ({ cls := "FerryHall$Chain", name := "<init>", desc := "(LFerryHall$Ex;)V" } : Jvm.MethodName) prog_4_method_1_code (2 : Nat) (Option.none : Option Jvm.ClassFile.FieldType)) ∈ lw_all := lw_g (lw_at lw_m7 115 rfl) rfl
theorem q1674 : (Jvm.Cond.methodLinkNest "FerryHall$Chain" (1 : Nat) ({ cls := "FerryHall$Ex", name := "<init>", desc := "()V" } : Jvm.MethodName) "FerryHall") ∈ lw_tbl := lw_at lw_m7 116 rfl
theorem q1675 : (Jvm.Cond.classLink "FerryHall$Chain" (7 : Nat) "java/util/ArrayList") ∈ lw_all := lw_g (lw_at lw_m7 117 rfl) rfl
theorem q1676 : (Jvm.Cond.methodLink "FerryHall$Chain" (9 : Nat) ({ cls := "java/util/ArrayList", name := "<init>", desc := "()V" } : Jvm.MethodName)) ∈ lw_all := lw_g (lw_at lw_m7 118 rfl) rfl
theorem q1677 : (Jvm.Cond.classLink "FerryHall$Chain" (16 : Nat) "java/lang/StringBuilder") ∈ lw_all := lw_g (lw_at lw_m7 119 rfl) rfl
theorem q1678 : (Jvm.Cond.methodLink "FerryHall$Chain" (18 : Nat) ({ cls := "java/lang/StringBuilder", name := "<init>", desc := "()V" } : Jvm.MethodName)) ∈ lw_all := lw_g (lw_at lw_m7 120 rfl) rfl
theorem q1679 : (Jvm.Cond.interfaceEntry "FerryHall$Chain" (23 : Nat)) ∈ lw_tbl := lw_at lw_m7 121 rfl
theorem q1680 : (Jvm.Cond.methodLink "FerryHall$Chain" (23 : Nat) ({ cls := "java/util/List", name := "add", desc := "(Ljava/lang/Object;)Z" } : Jvm.MethodName)) ∈ lw_all := lw_g (lw_at lw_m7 122 rfl) rfl
theorem q1681 : (Jvm.Cond.fieldLink "FerryHall$Chain" (10 : Nat) "FerryHall$Chain" "parts" "Ljava/util/List;") ∈ lw_all := lw_g (lw_at lw_m7 123 rfl) rfl
theorem q1682 : (Jvm.Cond.fieldLink "FerryHall$Chain" (19 : Nat) "FerryHall$Chain" "signs" "Ljava/lang/StringBuilder;") ∈ lw_all := lw_g (lw_at lw_m7 124 rfl) rfl
theorem q1683 : (Jvm.Cond.laysFinal "FerryHall$Chain" "FerryHall$Chain" "parts" "Ljava/util/List;") ∈ lw_all := lw_g (lw_at lw_m7 125 rfl) rfl
theorem q1684 : (Jvm.Cond.soleField "FerryHall$Chain" "parts") ∈ lw_all := lw_g (lw_at lw_m7 126 rfl) rfl
theorem q1685 : (Jvm.Cond.laysFinal "FerryHall$Chain" "FerryHall$Chain" "signs" "Ljava/lang/StringBuilder;") ∈ lw_all := lw_g (lw_at lw_m7 127 rfl) rfl
theorem q1686 : (Jvm.Cond.soleField "FerryHall$Chain" "signs") ∈ lw_all := lw_g (lw_at lw_m7 128 rfl) rfl
theorem q1687 : (Jvm.Cond.superclass "FerryHall$Chain" "FerryHall$Ex") ∈ lw_all := lw_g (lw_at lw_m7 129 rfl) rfl
theorem q1693 : (Jvm.Cond.instanceMethod ({ cls := "FerryHall$Chain", name := "add", desc := "(CLFerryHall$Ex;)V" } : Jvm.MethodName)) ∈ lw_all := lw_g (lw_at lw_m7 135 rfl) rfl
theorem q1694 : (Jvm.Cond.selects "FerryHall$Chain" ({ cls := "FerryHall$Chain", name := "add", desc := "(CLFerryHall$Ex;)V" } : Jvm.MethodName) ({ cls := "FerryHall$Chain", name := "add", desc := "(CLFerryHall$Ex;)V" } : Jvm.MethodName)) ∈ lw_all := lw_g (lw_at lw_m7 136 rfl) rfl
theorem q1695 : (Jvm.Cond.code ({ cls := "FerryHall$Chain", name := "add", desc := "(CLFerryHall$Ex;)V" } : Jvm.MethodName) prog_4_method_2_code (3 : Nat) (Option.none : Option Jvm.ClassFile.FieldType)) ∈ lw_all := lw_g (lw_at lw_m7 137 rfl) rfl
theorem q1696 : (Jvm.Cond.methodLink "FerryHall$Chain" (29 : Nat) ({ cls := "java/lang/StringBuilder", name := "append", desc := "(C)Ljava/lang/StringBuilder;" } : Jvm.MethodName)) ∈ lw_all := lw_g (lw_at lw_m7 138 rfl) rfl
theorem q2581 : (Jvm.Cond.castable "FerryHall$Chain" "FerryHall$Ex") ∈ lw_tbl := lw_at lw_m11 63 rfl
theorem q2598 : (Jvm.Cond.castable "FerryHall$Chain" "java/lang/Object") ∈ lw_tbl := lw_at lw_m11 80 rfl
theorem in_X6 : ∀ w ∈ wsX60, w ∈ lw_all := lw_in wsX60 [1683, 1685] (by decide +kernel) (by decide +kernel)
/-! FerryHall$Place -/
set_option maxRecDepth 100000
def RX7 : String := "FerryHall$Place"
def TX7 : u_T := fun k => match k with
  | 0 => ("FerryHall$Place", "w", "LFerryHall$World;", true)
  | 1 => ("FerryHall$Place", "boat", "[I", true)
  | 2 => ("FerryHall$Place", "set", "[I", true)
  | _ => ("FerryHall$Place", "lamp", "I", false)
def tyX7 : Nat → FieldType := fun k => match k with
  | 0 => .object "FerryHall$World"
  | 1 => .array .int
  | 2 => .array .int
  | _ => .int
abbrev wsX70 : List Cond := u_ws RX7 TX7 4
theorem nmX7 : ∀ a, a < 4 → ∀ b, b < 4 → a ≠ b → (TX7 a).2.1 ≠ (TX7 b).2.1 := by decide +kernel
theorem tyX7_ok : ∀ k, k < 4 → parseFieldDescriptor (TX7 k).2.2.1 = some (tyX7 k) := by decide +kernel
abbrev cX7_init : ByteArray := prog_12_method_1_code
def yX7_init : MethodName := ⟨RX7, "<init>", "(LFerryHall$World;)V"⟩
def dkwX7_init_0 : List UInt8 := [42, 183, 0, 3, 42, 5, 188, 10, 181, 0, 9, 42, 7, 188, 10, 181, 0, 15, 42, 43, 181, 0, 18, 177]
abbrev dktX7_init_0 : List UInt8 := dkwX7_init_0 ++ []
theorem dksX7_init_0 : cX7_init.data.toList.drop 0 = dktX7_init_0 := by decide +kernel
theorem dX7_init_0 : decode cX7_init 0 = .ok (.aload_n 0, 1) := dk_42 (dk_at dksX7_init_0 0 rfl rfl)
theorem dX7_init_1 : decode cX7_init 1 = .ok (.invokespecial 3, 3) := dk_183 0 3 (dk_at dksX7_init_0 1 rfl rfl)
theorem dX7_init_4 : decode cX7_init 4 = .ok (.aload_n 0, 1) := dk_42 (dk_at dksX7_init_0 4 rfl rfl)
theorem dX7_init_5 : decode cX7_init 5 = .ok (.iconst 2, 1) := dk_5 (dk_at dksX7_init_0 5 rfl rfl)
theorem dX7_init_6 : decode cX7_init 6 = .ok (.newarray .int, 2) := dk_188_10 (dk_at dksX7_init_0 6 rfl rfl)
theorem dX7_init_8 : decode cX7_init 8 = .ok (.putfield 9, 3) := dk_181 0 9 (dk_at dksX7_init_0 8 rfl rfl)
theorem dX7_init_11 : decode cX7_init 11 = .ok (.aload_n 0, 1) := dk_42 (dk_at dksX7_init_0 11 rfl rfl)
theorem dX7_init_12 : decode cX7_init 12 = .ok (.iconst 4, 1) := dk_7 (dk_at dksX7_init_0 12 rfl rfl)
theorem dX7_init_13 : decode cX7_init 13 = .ok (.newarray .int, 2) := dk_188_10 (dk_at dksX7_init_0 13 rfl rfl)
theorem dX7_init_15 : decode cX7_init 15 = .ok (.putfield 15, 3) := dk_181 0 15 (dk_at dksX7_init_0 15 rfl rfl)
theorem dX7_init_18 : decode cX7_init 18 = .ok (.aload_n 0, 1) := dk_42 (dk_at dksX7_init_0 18 rfl rfl)
theorem dX7_init_19 : decode cX7_init 19 = .ok (.aload_n 1, 1) := dk_43 (dk_at dksX7_init_0 19 rfl rfl)
theorem dX7_init_20 : decode cX7_init 20 = .ok (.putfield 18, 3) := dk_181 0 18 (dk_at dksX7_init_0 20 rfl rfl)
theorem dX7_init_23 : decode cX7_init 23 = .ok (.return_, 1) := dk_177 (dk_at dksX7_init_0 23 rfl rfl)
abbrev cX7_start : ByteArray := prog_12_method_2_code
def yX7_start : MethodName := ⟨RX7, "start", "()V"⟩
def dkwX7_start_3 : List UInt8 := [180, 0, 43, 79, 132, 1, 1, 167, 255, 212, 42, 42, 180, 0, 18, 180, 0, 47, 181, 0, 50, 177]
abbrev dktX7_start_3 : List UInt8 := dkwX7_start_3 ++ []
def dkwX7_start_2 : List UInt8 := [162, 0, 34, 42, 180, 0, 9, 27, 42, 180, 0, 18, 180, 0, 28, 27, 185, 0, 37, 2, 0, 192, 0, 41]
abbrev dktX7_start_2 : List UInt8 := dkwX7_start_2 ++ dktX7_start_3
def dkwX7_start_1 : List UInt8 := [3, 42, 180, 0, 18, 182, 0, 22, 79, 3, 60, 27, 42, 180, 0, 18, 180, 0, 28, 185, 0, 32, 1, 0]
abbrev dktX7_start_1 : List UInt8 := dkwX7_start_1 ++ dktX7_start_2
def dkwX7_start_0 : List UInt8 := [3, 60, 27, 7, 162, 0, 16, 42, 180, 0, 15, 27, 3, 79, 132, 1, 1, 167, 255, 241, 42, 180, 0, 15]
abbrev dktX7_start_0 : List UInt8 := dkwX7_start_0 ++ dktX7_start_1
theorem dksX7_start_0 : cX7_start.data.toList.drop 0 = dktX7_start_0 := by decide +kernel
theorem dksX7_start_1 : cX7_start.data.toList.drop 24 = dktX7_start_1 := dk_seg dksX7_start_0 24 rfl rfl
theorem dksX7_start_2 : cX7_start.data.toList.drop 48 = dktX7_start_2 := dk_seg dksX7_start_1 24 rfl rfl
theorem dksX7_start_3 : cX7_start.data.toList.drop 72 = dktX7_start_3 := dk_seg dksX7_start_2 24 rfl rfl
theorem dX7_start_0 : decode cX7_start 0 = .ok (.iconst 0, 1) := dk_3 (dk_at dksX7_start_0 0 rfl rfl)
theorem dX7_start_1 : decode cX7_start 1 = .ok (.istore_n 1, 1) := dk_60 (dk_at dksX7_start_0 1 rfl rfl)
theorem dX7_start_2 : decode cX7_start 2 = .ok (.iload_n 1, 1) := dk_27 (dk_at dksX7_start_0 2 rfl rfl)
theorem dX7_start_3 : decode cX7_start 3 = .ok (.iconst 4, 1) := dk_7 (dk_at dksX7_start_0 3 rfl rfl)
theorem dX7_start_4 : decode cX7_start 4 = .ok (.if_icmp .ge 16, 3) := dk_162 0 16 (dk_at dksX7_start_0 4 rfl rfl)
theorem dX7_start_7 : decode cX7_start 7 = .ok (.aload_n 0, 1) := dk_42 (dk_at dksX7_start_0 7 rfl rfl)
theorem dX7_start_8 : decode cX7_start 8 = .ok (.getfield 15, 3) := dk_180 0 15 (dk_at dksX7_start_0 8 rfl rfl)
theorem dX7_start_11 : decode cX7_start 11 = .ok (.iload_n 1, 1) := dk_27 (dk_at dksX7_start_0 11 rfl rfl)
theorem dX7_start_12 : decode cX7_start 12 = .ok (.iconst 0, 1) := dk_3 (dk_at dksX7_start_0 12 rfl rfl)
theorem dX7_start_13 : decode cX7_start 13 = .ok (.iastore, 1) := dk_79 (dk_at dksX7_start_0 13 rfl rfl)
theorem dX7_start_14 : decode cX7_start 14 = .ok (.iinc 1 1, 3) := dk_132 1 1 (dk_at dksX7_start_0 14 rfl rfl)
theorem dX7_start_17 : decode cX7_start 17 = .ok (.goto (-15), 3) := dk_167 255 241 (dk_at dksX7_start_0 17 rfl rfl)
theorem dX7_start_20 : decode cX7_start 20 = .ok (.aload_n 0, 1) := dk_42 (dk_at dksX7_start_0 20 rfl rfl)
theorem dX7_start_21 : decode cX7_start 21 = .ok (.getfield 15, 3) := dk_180 0 15 (dk_at dksX7_start_0 21 rfl rfl)
theorem dX7_start_24 : decode cX7_start 24 = .ok (.iconst 0, 1) := dk_3 (dk_at dksX7_start_1 0 rfl rfl)
theorem dX7_start_25 : decode cX7_start 25 = .ok (.aload_n 0, 1) := dk_42 (dk_at dksX7_start_1 1 rfl rfl)
theorem dX7_start_26 : decode cX7_start 26 = .ok (.getfield 18, 3) := dk_180 0 18 (dk_at dksX7_start_1 2 rfl rfl)
theorem dX7_start_29 : decode cX7_start 29 = .ok (.invokevirtual 22, 3) := dk_182 0 22 (dk_at dksX7_start_1 5 rfl rfl)
theorem dX7_start_32 : decode cX7_start 32 = .ok (.iastore, 1) := dk_79 (dk_at dksX7_start_1 8 rfl rfl)
theorem dX7_start_33 : decode cX7_start 33 = .ok (.iconst 0, 1) := dk_3 (dk_at dksX7_start_1 9 rfl rfl)
theorem dX7_start_34 : decode cX7_start 34 = .ok (.istore_n 1, 1) := dk_60 (dk_at dksX7_start_1 10 rfl rfl)
theorem dX7_start_35 : decode cX7_start 35 = .ok (.iload_n 1, 1) := dk_27 (dk_at dksX7_start_1 11 rfl rfl)
theorem dX7_start_36 : decode cX7_start 36 = .ok (.aload_n 0, 1) := dk_42 (dk_at dksX7_start_1 12 rfl rfl)
theorem dX7_start_37 : decode cX7_start 37 = .ok (.getfield 18, 3) := dk_180 0 18 (dk_at dksX7_start_1 13 rfl rfl)
theorem dX7_start_40 : decode cX7_start 40 = .ok (.getfield 28, 3) := dk_180 0 28 (dk_at dksX7_start_1 16 rfl rfl)
theorem dX7_start_43 : decode cX7_start 43 = .ok (.invokeinterface 32 1, 5) := by decide +kernel
theorem dX7_start_48 : decode cX7_start 48 = .ok (.if_icmp .ge 34, 3) := dk_162 0 34 (dk_at dksX7_start_2 0 rfl rfl)
theorem dX7_start_51 : decode cX7_start 51 = .ok (.aload_n 0, 1) := dk_42 (dk_at dksX7_start_2 3 rfl rfl)
theorem dX7_start_52 : decode cX7_start 52 = .ok (.getfield 9, 3) := dk_180 0 9 (dk_at dksX7_start_2 4 rfl rfl)
theorem dX7_start_55 : decode cX7_start 55 = .ok (.iload_n 1, 1) := dk_27 (dk_at dksX7_start_2 7 rfl rfl)
theorem dX7_start_56 : decode cX7_start 56 = .ok (.aload_n 0, 1) := dk_42 (dk_at dksX7_start_2 8 rfl rfl)
theorem dX7_start_57 : decode cX7_start 57 = .ok (.getfield 18, 3) := dk_180 0 18 (dk_at dksX7_start_2 9 rfl rfl)
theorem dX7_start_60 : decode cX7_start 60 = .ok (.getfield 28, 3) := dk_180 0 28 (dk_at dksX7_start_2 12 rfl rfl)
theorem dX7_start_63 : decode cX7_start 63 = .ok (.iload_n 1, 1) := dk_27 (dk_at dksX7_start_2 15 rfl rfl)
theorem dX7_start_64 : decode cX7_start 64 = .ok (.invokeinterface 37 2, 5) := by decide +kernel
theorem dX7_start_69 : decode cX7_start 69 = .ok (.checkcast 41, 3) := dk_192 0 41 (dk_at dksX7_start_2 21 rfl rfl)
theorem dX7_start_72 : decode cX7_start 72 = .ok (.getfield 43, 3) := dk_180 0 43 (dk_at dksX7_start_3 0 rfl rfl)
theorem dX7_start_75 : decode cX7_start 75 = .ok (.iastore, 1) := dk_79 (dk_at dksX7_start_3 3 rfl rfl)
theorem dX7_start_76 : decode cX7_start 76 = .ok (.iinc 1 1, 3) := dk_132 1 1 (dk_at dksX7_start_3 4 rfl rfl)
theorem dX7_start_79 : decode cX7_start 79 = .ok (.goto (-44), 3) := dk_167 255 212 (dk_at dksX7_start_3 7 rfl rfl)
theorem dX7_start_82 : decode cX7_start 82 = .ok (.aload_n 0, 1) := dk_42 (dk_at dksX7_start_3 10 rfl rfl)
theorem dX7_start_83 : decode cX7_start 83 = .ok (.aload_n 0, 1) := dk_42 (dk_at dksX7_start_3 11 rfl rfl)
theorem dX7_start_84 : decode cX7_start 84 = .ok (.getfield 18, 3) := dk_180 0 18 (dk_at dksX7_start_3 12 rfl rfl)
theorem dX7_start_87 : decode cX7_start 87 = .ok (.getfield 47, 3) := dk_180 0 47 (dk_at dksX7_start_3 15 rfl rfl)
theorem dX7_start_90 : decode cX7_start 90 = .ok (.putfield 50, 3) := dk_181 0 50 (dk_at dksX7_start_3 18 rfl rfl)
theorem dX7_start_93 : decode cX7_start 93 = .ok (.return_, 1) := dk_177 (dk_at dksX7_start_3 21 rfl rfl)
abbrev cX7_code : ByteArray := prog_12_method_5_code
def yX7_code : MethodName := ⟨RX7, "code", "()I"⟩
def dkwX7_code_3 : List UInt8 := [42, 180, 0, 50, 184, 0, 63, 96, 172]
abbrev dktX7_code_3 : List UInt8 := dkwX7_code_3 ++ []
def dkwX7_code_2 : List UInt8 := [162, 0, 20, 27, 7, 104, 42, 180, 0, 9, 28, 46, 96, 60, 132, 2, 1, 167, 255, 226, 27, 7, 104, 3]
abbrev dktX7_code_2 : List UInt8 := dkwX7_code_2 ++ dktX7_code_3
def dkwX7_code_1 : List UInt8 := [60, 132, 2, 1, 167, 255, 232, 3, 61, 28, 42, 180, 0, 18, 180, 0, 28, 185, 0, 32, 1, 0]
abbrev dktX7_code_1 : List UInt8 := dkwX7_code_1 ++ dktX7_code_2
def dkwX7_code_0 : List UInt8 := [3, 60, 3, 61, 28, 42, 180, 0, 18, 180, 0, 56, 162, 0, 19, 27, 7, 104, 42, 28, 182, 0, 59, 96]
abbrev dktX7_code_0 : List UInt8 := dkwX7_code_0 ++ dktX7_code_1
theorem dksX7_code_0 : cX7_code.data.toList.drop 0 = dktX7_code_0 := by decide +kernel
theorem dksX7_code_1 : cX7_code.data.toList.drop 24 = dktX7_code_1 := dk_seg dksX7_code_0 24 rfl rfl
theorem dksX7_code_2 : cX7_code.data.toList.drop 46 = dktX7_code_2 := dk_seg dksX7_code_1 22 rfl rfl
theorem dksX7_code_3 : cX7_code.data.toList.drop 70 = dktX7_code_3 := dk_seg dksX7_code_2 24 rfl rfl
theorem dX7_code_0 : decode cX7_code 0 = .ok (.iconst 0, 1) := dk_3 (dk_at dksX7_code_0 0 rfl rfl)
theorem dX7_code_1 : decode cX7_code 1 = .ok (.istore_n 1, 1) := dk_60 (dk_at dksX7_code_0 1 rfl rfl)
theorem dX7_code_2 : decode cX7_code 2 = .ok (.iconst 0, 1) := dk_3 (dk_at dksX7_code_0 2 rfl rfl)
theorem dX7_code_3 : decode cX7_code 3 = .ok (.istore_n 2, 1) := dk_61 (dk_at dksX7_code_0 3 rfl rfl)
theorem dX7_code_4 : decode cX7_code 4 = .ok (.iload_n 2, 1) := dk_28 (dk_at dksX7_code_0 4 rfl rfl)
theorem dX7_code_5 : decode cX7_code 5 = .ok (.aload_n 0, 1) := dk_42 (dk_at dksX7_code_0 5 rfl rfl)
theorem dX7_code_6 : decode cX7_code 6 = .ok (.getfield 18, 3) := dk_180 0 18 (dk_at dksX7_code_0 6 rfl rfl)
theorem dX7_code_9 : decode cX7_code 9 = .ok (.getfield 56, 3) := dk_180 0 56 (dk_at dksX7_code_0 9 rfl rfl)
theorem dX7_code_12 : decode cX7_code 12 = .ok (.if_icmp .ge 19, 3) := dk_162 0 19 (dk_at dksX7_code_0 12 rfl rfl)
theorem dX7_code_15 : decode cX7_code 15 = .ok (.iload_n 1, 1) := dk_27 (dk_at dksX7_code_0 15 rfl rfl)
theorem dX7_code_16 : decode cX7_code 16 = .ok (.iconst 4, 1) := dk_7 (dk_at dksX7_code_0 16 rfl rfl)
theorem dX7_code_17 : decode cX7_code 17 = .ok (.imul, 1) := dk_104 (dk_at dksX7_code_0 17 rfl rfl)
theorem dX7_code_18 : decode cX7_code 18 = .ok (.aload_n 0, 1) := dk_42 (dk_at dksX7_code_0 18 rfl rfl)
theorem dX7_code_19 : decode cX7_code 19 = .ok (.iload_n 2, 1) := dk_28 (dk_at dksX7_code_0 19 rfl rfl)
theorem dX7_code_20 : decode cX7_code 20 = .ok (.invokevirtual 59, 3) := dk_182 0 59 (dk_at dksX7_code_0 20 rfl rfl)
theorem dX7_code_23 : decode cX7_code 23 = .ok (.iadd, 1) := dk_96 (dk_at dksX7_code_0 23 rfl rfl)
theorem dX7_code_24 : decode cX7_code 24 = .ok (.istore_n 1, 1) := dk_60 (dk_at dksX7_code_1 0 rfl rfl)
theorem dX7_code_25 : decode cX7_code 25 = .ok (.iinc 2 1, 3) := dk_132 2 1 (dk_at dksX7_code_1 1 rfl rfl)
theorem dX7_code_28 : decode cX7_code 28 = .ok (.goto (-24), 3) := dk_167 255 232 (dk_at dksX7_code_1 4 rfl rfl)
theorem dX7_code_31 : decode cX7_code 31 = .ok (.iconst 0, 1) := dk_3 (dk_at dksX7_code_1 7 rfl rfl)
theorem dX7_code_32 : decode cX7_code 32 = .ok (.istore_n 2, 1) := dk_61 (dk_at dksX7_code_1 8 rfl rfl)
theorem dX7_code_33 : decode cX7_code 33 = .ok (.iload_n 2, 1) := dk_28 (dk_at dksX7_code_1 9 rfl rfl)
theorem dX7_code_34 : decode cX7_code 34 = .ok (.aload_n 0, 1) := dk_42 (dk_at dksX7_code_1 10 rfl rfl)
theorem dX7_code_35 : decode cX7_code 35 = .ok (.getfield 18, 3) := dk_180 0 18 (dk_at dksX7_code_1 11 rfl rfl)
theorem dX7_code_38 : decode cX7_code 38 = .ok (.getfield 28, 3) := dk_180 0 28 (dk_at dksX7_code_1 14 rfl rfl)
theorem dX7_code_41 : decode cX7_code 41 = .ok (.invokeinterface 32 1, 5) := by decide +kernel
theorem dX7_code_46 : decode cX7_code 46 = .ok (.if_icmp .ge 20, 3) := dk_162 0 20 (dk_at dksX7_code_2 0 rfl rfl)
theorem dX7_code_49 : decode cX7_code 49 = .ok (.iload_n 1, 1) := dk_27 (dk_at dksX7_code_2 3 rfl rfl)
theorem dX7_code_50 : decode cX7_code 50 = .ok (.iconst 4, 1) := dk_7 (dk_at dksX7_code_2 4 rfl rfl)
theorem dX7_code_51 : decode cX7_code 51 = .ok (.imul, 1) := dk_104 (dk_at dksX7_code_2 5 rfl rfl)
theorem dX7_code_52 : decode cX7_code 52 = .ok (.aload_n 0, 1) := dk_42 (dk_at dksX7_code_2 6 rfl rfl)
theorem dX7_code_53 : decode cX7_code 53 = .ok (.getfield 9, 3) := dk_180 0 9 (dk_at dksX7_code_2 7 rfl rfl)
theorem dX7_code_56 : decode cX7_code 56 = .ok (.iload_n 2, 1) := dk_28 (dk_at dksX7_code_2 10 rfl rfl)
theorem dX7_code_57 : decode cX7_code 57 = .ok (.iaload, 1) := dk_46 (dk_at dksX7_code_2 11 rfl rfl)
theorem dX7_code_58 : decode cX7_code 58 = .ok (.iadd, 1) := dk_96 (dk_at dksX7_code_2 12 rfl rfl)
theorem dX7_code_59 : decode cX7_code 59 = .ok (.istore_n 1, 1) := dk_60 (dk_at dksX7_code_2 13 rfl rfl)
theorem dX7_code_60 : decode cX7_code 60 = .ok (.iinc 2 1, 3) := dk_132 2 1 (dk_at dksX7_code_2 14 rfl rfl)
theorem dX7_code_63 : decode cX7_code 63 = .ok (.goto (-30), 3) := dk_167 255 226 (dk_at dksX7_code_2 17 rfl rfl)
theorem dX7_code_66 : decode cX7_code 66 = .ok (.iload_n 1, 1) := dk_27 (dk_at dksX7_code_2 20 rfl rfl)
theorem dX7_code_67 : decode cX7_code 67 = .ok (.iconst 4, 1) := dk_7 (dk_at dksX7_code_2 21 rfl rfl)
theorem dX7_code_68 : decode cX7_code 68 = .ok (.imul, 1) := dk_104 (dk_at dksX7_code_2 22 rfl rfl)
theorem dX7_code_69 : decode cX7_code 69 = .ok (.iconst 0, 1) := dk_3 (dk_at dksX7_code_2 23 rfl rfl)
theorem dX7_code_70 : decode cX7_code 70 = .ok (.aload_n 0, 1) := dk_42 (dk_at dksX7_code_3 0 rfl rfl)
theorem dX7_code_71 : decode cX7_code 71 = .ok (.getfield 50, 3) := dk_180 0 50 (dk_at dksX7_code_3 1 rfl rfl)
theorem dX7_code_74 : decode cX7_code 74 = .ok (.invokestatic 63, 3) := dk_184 0 63 (dk_at dksX7_code_3 4 rfl rfl)
theorem dX7_code_77 : decode cX7_code 77 = .ok (.iadd, 1) := dk_96 (dk_at dksX7_code_3 7 rfl rfl)
theorem dX7_code_78 : decode cX7_code 78 = .ok (.ireturn, 1) := dk_172 (dk_at dksX7_code_3 8 rfl rfl)
abbrev cX7_shoreOf : ByteArray := prog_12_method_4_code
def yX7_shoreOf : MethodName := ⟨RX7, "shoreOf", "(I)I"⟩
def dkwX7_shoreOf_0 : List UInt8 := [3, 61, 42, 180, 0, 15, 28, 46, 27, 122, 4, 126, 154, 0, 9, 132, 2, 1, 167, 255, 240, 28, 172]
abbrev dktX7_shoreOf_0 : List UInt8 := dkwX7_shoreOf_0 ++ []
theorem dksX7_shoreOf_0 : cX7_shoreOf.data.toList.drop 0 = dktX7_shoreOf_0 := by decide +kernel
theorem dX7_shoreOf_0 : decode cX7_shoreOf 0 = .ok (.iconst 0, 1) := dk_3 (dk_at dksX7_shoreOf_0 0 rfl rfl)
theorem dX7_shoreOf_1 : decode cX7_shoreOf 1 = .ok (.istore_n 2, 1) := dk_61 (dk_at dksX7_shoreOf_0 1 rfl rfl)
theorem dX7_shoreOf_2 : decode cX7_shoreOf 2 = .ok (.aload_n 0, 1) := dk_42 (dk_at dksX7_shoreOf_0 2 rfl rfl)
theorem dX7_shoreOf_3 : decode cX7_shoreOf 3 = .ok (.getfield 15, 3) := dk_180 0 15 (dk_at dksX7_shoreOf_0 3 rfl rfl)
theorem dX7_shoreOf_6 : decode cX7_shoreOf 6 = .ok (.iload_n 2, 1) := dk_28 (dk_at dksX7_shoreOf_0 6 rfl rfl)
theorem dX7_shoreOf_7 : decode cX7_shoreOf 7 = .ok (.iaload, 1) := dk_46 (dk_at dksX7_shoreOf_0 7 rfl rfl)
theorem dX7_shoreOf_8 : decode cX7_shoreOf 8 = .ok (.iload_n 1, 1) := dk_27 (dk_at dksX7_shoreOf_0 8 rfl rfl)
theorem dX7_shoreOf_9 : decode cX7_shoreOf 9 = .ok (.ishr, 1) := dk_122 (dk_at dksX7_shoreOf_0 9 rfl rfl)
theorem dX7_shoreOf_10 : decode cX7_shoreOf 10 = .ok (.iconst 1, 1) := dk_4 (dk_at dksX7_shoreOf_0 10 rfl rfl)
theorem dX7_shoreOf_11 : decode cX7_shoreOf 11 = .ok (.iand, 1) := dk_126 (dk_at dksX7_shoreOf_0 11 rfl rfl)
theorem dX7_shoreOf_12 : decode cX7_shoreOf 12 = .ok (.ifCond .ne 9, 3) := dk_154 0 9 (dk_at dksX7_shoreOf_0 12 rfl rfl)
theorem dX7_shoreOf_15 : decode cX7_shoreOf 15 = .ok (.iinc 2 1, 3) := dk_132 2 1 (dk_at dksX7_shoreOf_0 15 rfl rfl)
theorem dX7_shoreOf_18 : decode cX7_shoreOf 18 = .ok (.goto (-16), 3) := dk_167 255 240 (dk_at dksX7_shoreOf_0 18 rfl rfl)
theorem dX7_shoreOf_21 : decode cX7_shoreOf 21 = .ok (.iload_n 2, 1) := dk_28 (dk_at dksX7_shoreOf_0 21 rfl rfl)
theorem dX7_shoreOf_22 : decode cX7_shoreOf 22 = .ok (.ireturn, 1) := dk_172 (dk_at dksX7_shoreOf_0 22 rfl rfl)
abbrev cX7_barred : ByteArray := prog_12_method_8_code
def yX7_barred : MethodName := ⟨RX7, "barred", "(II)I"⟩
def dkwX7_barred_3 : List UInt8 := [132, 4, 1, 167, 255, 189, 29, 172]
abbrev dktX7_barred_3 : List UInt8 := dkwX7_barred_3 ++ []
def dkwX7_barred_2 : List UInt8 := [160, 0, 7, 4, 167, 0, 4, 3, 50, 42, 180, 0, 15, 21, 4, 46, 28, 2, 130, 126, 53, 128, 62]
abbrev dktX7_barred_2 : List UInt8 := dkwX7_barred_2 ++ dktX7_barred_3
def dkwX7_barred_1 : List UInt8 := [180, 0, 69, 21, 4, 50, 42, 21, 4, 27, 182, 0, 73, 50, 27, 154, 0, 16, 42, 180, 0, 50, 21, 4]
abbrev dktX7_barred_1 : List UInt8 := dkwX7_barred_1 ++ dktX7_barred_2
def dkwX7_barred_0 : List UInt8 := [3, 62, 3, 54, 4, 21, 4, 42, 180, 0, 18, 180, 0, 53, 162, 0, 61, 29, 42, 180, 0, 18]
abbrev dktX7_barred_0 : List UInt8 := dkwX7_barred_0 ++ dktX7_barred_1
theorem dksX7_barred_0 : cX7_barred.data.toList.drop 0 = dktX7_barred_0 := by decide +kernel
theorem dksX7_barred_1 : cX7_barred.data.toList.drop 22 = dktX7_barred_1 := dk_seg dksX7_barred_0 22 rfl rfl
theorem dksX7_barred_2 : cX7_barred.data.toList.drop 46 = dktX7_barred_2 := dk_seg dksX7_barred_1 24 rfl rfl
theorem dksX7_barred_3 : cX7_barred.data.toList.drop 69 = dktX7_barred_3 := dk_seg dksX7_barred_2 23 rfl rfl
theorem dX7_barred_0 : decode cX7_barred 0 = .ok (.iconst 0, 1) := dk_3 (dk_at dksX7_barred_0 0 rfl rfl)
theorem dX7_barred_1 : decode cX7_barred 1 = .ok (.istore_n 3, 1) := dk_62 (dk_at dksX7_barred_0 1 rfl rfl)
theorem dX7_barred_2 : decode cX7_barred 2 = .ok (.iconst 0, 1) := dk_3 (dk_at dksX7_barred_0 2 rfl rfl)
theorem dX7_barred_3 : decode cX7_barred 3 = .ok (.istore 4, 2) := dk_54 4 (dk_at dksX7_barred_0 3 rfl rfl)
theorem dX7_barred_5 : decode cX7_barred 5 = .ok (.iload 4, 2) := dk_21 4 (dk_at dksX7_barred_0 5 rfl rfl)
theorem dX7_barred_7 : decode cX7_barred 7 = .ok (.aload_n 0, 1) := dk_42 (dk_at dksX7_barred_0 7 rfl rfl)
theorem dX7_barred_8 : decode cX7_barred 8 = .ok (.getfield 18, 3) := dk_180 0 18 (dk_at dksX7_barred_0 8 rfl rfl)
theorem dX7_barred_11 : decode cX7_barred 11 = .ok (.getfield 53, 3) := dk_180 0 53 (dk_at dksX7_barred_0 11 rfl rfl)
theorem dX7_barred_14 : decode cX7_barred 14 = .ok (.if_icmp .ge 61, 3) := dk_162 0 61 (dk_at dksX7_barred_0 14 rfl rfl)
theorem dX7_barred_17 : decode cX7_barred 17 = .ok (.iload_n 3, 1) := dk_29 (dk_at dksX7_barred_0 17 rfl rfl)
theorem dX7_barred_18 : decode cX7_barred 18 = .ok (.aload_n 0, 1) := dk_42 (dk_at dksX7_barred_0 18 rfl rfl)
theorem dX7_barred_19 : decode cX7_barred 19 = .ok (.getfield 18, 3) := dk_180 0 18 (dk_at dksX7_barred_0 19 rfl rfl)
theorem dX7_barred_22 : decode cX7_barred 22 = .ok (.getfield 69, 3) := dk_180 0 69 (dk_at dksX7_barred_1 0 rfl rfl)
theorem dX7_barred_25 : decode cX7_barred 25 = .ok (.iload 4, 2) := dk_21 4 (dk_at dksX7_barred_1 3 rfl rfl)
theorem dX7_barred_27 : decode cX7_barred 27 = .ok (.aaload, 1) := dk_50 (dk_at dksX7_barred_1 5 rfl rfl)
theorem dX7_barred_28 : decode cX7_barred 28 = .ok (.aload_n 0, 1) := dk_42 (dk_at dksX7_barred_1 6 rfl rfl)
theorem dX7_barred_29 : decode cX7_barred 29 = .ok (.iload 4, 2) := dk_21 4 (dk_at dksX7_barred_1 7 rfl rfl)
theorem dX7_barred_31 : decode cX7_barred 31 = .ok (.iload_n 1, 1) := dk_27 (dk_at dksX7_barred_1 9 rfl rfl)
theorem dX7_barred_32 : decode cX7_barred 32 = .ok (.invokevirtual 73, 3) := dk_182 0 73 (dk_at dksX7_barred_1 10 rfl rfl)
theorem dX7_barred_35 : decode cX7_barred 35 = .ok (.aaload, 1) := dk_50 (dk_at dksX7_barred_1 13 rfl rfl)
theorem dX7_barred_36 : decode cX7_barred 36 = .ok (.iload_n 1, 1) := dk_27 (dk_at dksX7_barred_1 14 rfl rfl)
theorem dX7_barred_37 : decode cX7_barred 37 = .ok (.ifCond .ne 16, 3) := dk_154 0 16 (dk_at dksX7_barred_1 15 rfl rfl)
theorem dX7_barred_40 : decode cX7_barred 40 = .ok (.aload_n 0, 1) := dk_42 (dk_at dksX7_barred_1 18 rfl rfl)
theorem dX7_barred_41 : decode cX7_barred 41 = .ok (.getfield 50, 3) := dk_180 0 50 (dk_at dksX7_barred_1 19 rfl rfl)
theorem dX7_barred_44 : decode cX7_barred 44 = .ok (.iload 4, 2) := dk_21 4 (dk_at dksX7_barred_1 22 rfl rfl)
theorem dX7_barred_46 : decode cX7_barred 46 = .ok (.if_icmp .ne 7, 3) := dk_160 0 7 (dk_at dksX7_barred_2 0 rfl rfl)
theorem dX7_barred_49 : decode cX7_barred 49 = .ok (.iconst 1, 1) := dk_4 (dk_at dksX7_barred_2 3 rfl rfl)
theorem dX7_barred_50 : decode cX7_barred 50 = .ok (.goto 4, 3) := dk_167 0 4 (dk_at dksX7_barred_2 4 rfl rfl)
theorem dX7_barred_53 : decode cX7_barred 53 = .ok (.iconst 0, 1) := dk_3 (dk_at dksX7_barred_2 7 rfl rfl)
theorem dX7_barred_54 : decode cX7_barred 54 = .ok (.aaload, 1) := dk_50 (dk_at dksX7_barred_2 8 rfl rfl)
theorem dX7_barred_55 : decode cX7_barred 55 = .ok (.aload_n 0, 1) := dk_42 (dk_at dksX7_barred_2 9 rfl rfl)
theorem dX7_barred_56 : decode cX7_barred 56 = .ok (.getfield 15, 3) := dk_180 0 15 (dk_at dksX7_barred_2 10 rfl rfl)
theorem dX7_barred_59 : decode cX7_barred 59 = .ok (.iload 4, 2) := dk_21 4 (dk_at dksX7_barred_2 13 rfl rfl)
theorem dX7_barred_61 : decode cX7_barred 61 = .ok (.iaload, 1) := dk_46 (dk_at dksX7_barred_2 15 rfl rfl)
theorem dX7_barred_62 : decode cX7_barred 62 = .ok (.iload_n 2, 1) := dk_28 (dk_at dksX7_barred_2 16 rfl rfl)
theorem dX7_barred_63 : decode cX7_barred 63 = .ok (.iconst (-1), 1) := dk_2 (dk_at dksX7_barred_2 17 rfl rfl)
theorem dX7_barred_64 : decode cX7_barred 64 = .ok (.ixor, 1) := dk_130 (dk_at dksX7_barred_2 18 rfl rfl)
theorem dX7_barred_65 : decode cX7_barred 65 = .ok (.iand, 1) := dk_126 (dk_at dksX7_barred_2 19 rfl rfl)
theorem dX7_barred_66 : decode cX7_barred 66 = .ok (.saload, 1) := dk_53 (dk_at dksX7_barred_2 20 rfl rfl)
theorem dX7_barred_67 : decode cX7_barred 67 = .ok (.ior, 1) := dk_128 (dk_at dksX7_barred_2 21 rfl rfl)
theorem dX7_barred_68 : decode cX7_barred 68 = .ok (.istore_n 3, 1) := dk_62 (dk_at dksX7_barred_2 22 rfl rfl)
theorem dX7_barred_69 : decode cX7_barred 69 = .ok (.iinc 4 1, 3) := dk_132 4 1 (dk_at dksX7_barred_3 0 rfl rfl)
theorem dX7_barred_72 : decode cX7_barred 72 = .ok (.goto (-67), 3) := dk_167 255 189 (dk_at dksX7_barred_3 3 rfl rfl)
theorem dX7_barred_75 : decode cX7_barred 75 = .ok (.iload_n 3, 1) := dk_29 (dk_at dksX7_barred_3 6 rfl rfl)
theorem dX7_barred_76 : decode cX7_barred 76 = .ok (.ireturn, 1) := dk_172 (dk_at dksX7_barred_3 7 rfl rfl)
abbrev cX7_boatsAt : ByteArray := prog_12_method_7_code
def yX7_boatsAt : MethodName := ⟨RX7, "boatsAt", "(II)I"⟩
def dkwX7_boatsAt_2 : List UInt8 := [132, 4, 1, 167, 255, 213, 29, 172]
abbrev dktX7_boatsAt_2 : List UInt8 := dkwX7_boatsAt_2 ++ []
def dkwX7_boatsAt_1 : List UInt8 := [21, 4, 122, 4, 126, 154, 0, 17, 42, 180, 0, 9, 21, 4, 46, 27, 160, 0, 6, 132, 3, 1]
abbrev dktX7_boatsAt_1 : List UInt8 := dkwX7_boatsAt_1 ++ dktX7_boatsAt_2
def dkwX7_boatsAt_0 : List UInt8 := [3, 62, 3, 54, 4, 21, 4, 42, 180, 0, 18, 180, 0, 28, 185, 0, 32, 1, 0, 162, 0, 32, 28]
abbrev dktX7_boatsAt_0 : List UInt8 := dkwX7_boatsAt_0 ++ dktX7_boatsAt_1
theorem dksX7_boatsAt_0 : cX7_boatsAt.data.toList.drop 0 = dktX7_boatsAt_0 := by decide +kernel
theorem dksX7_boatsAt_1 : cX7_boatsAt.data.toList.drop 23 = dktX7_boatsAt_1 := dk_seg dksX7_boatsAt_0 23 rfl rfl
theorem dksX7_boatsAt_2 : cX7_boatsAt.data.toList.drop 45 = dktX7_boatsAt_2 := dk_seg dksX7_boatsAt_1 22 rfl rfl
theorem dX7_boatsAt_0 : decode cX7_boatsAt 0 = .ok (.iconst 0, 1) := dk_3 (dk_at dksX7_boatsAt_0 0 rfl rfl)
theorem dX7_boatsAt_1 : decode cX7_boatsAt 1 = .ok (.istore_n 3, 1) := dk_62 (dk_at dksX7_boatsAt_0 1 rfl rfl)
theorem dX7_boatsAt_2 : decode cX7_boatsAt 2 = .ok (.iconst 0, 1) := dk_3 (dk_at dksX7_boatsAt_0 2 rfl rfl)
theorem dX7_boatsAt_3 : decode cX7_boatsAt 3 = .ok (.istore 4, 2) := dk_54 4 (dk_at dksX7_boatsAt_0 3 rfl rfl)
theorem dX7_boatsAt_5 : decode cX7_boatsAt 5 = .ok (.iload 4, 2) := dk_21 4 (dk_at dksX7_boatsAt_0 5 rfl rfl)
theorem dX7_boatsAt_7 : decode cX7_boatsAt 7 = .ok (.aload_n 0, 1) := dk_42 (dk_at dksX7_boatsAt_0 7 rfl rfl)
theorem dX7_boatsAt_8 : decode cX7_boatsAt 8 = .ok (.getfield 18, 3) := dk_180 0 18 (dk_at dksX7_boatsAt_0 8 rfl rfl)
theorem dX7_boatsAt_11 : decode cX7_boatsAt 11 = .ok (.getfield 28, 3) := dk_180 0 28 (dk_at dksX7_boatsAt_0 11 rfl rfl)
theorem dX7_boatsAt_14 : decode cX7_boatsAt 14 = .ok (.invokeinterface 32 1, 5) := by decide +kernel
theorem dX7_boatsAt_19 : decode cX7_boatsAt 19 = .ok (.if_icmp .ge 32, 3) := dk_162 0 32 (dk_at dksX7_boatsAt_0 19 rfl rfl)
theorem dX7_boatsAt_22 : decode cX7_boatsAt 22 = .ok (.iload_n 2, 1) := dk_28 (dk_at dksX7_boatsAt_0 22 rfl rfl)
theorem dX7_boatsAt_23 : decode cX7_boatsAt 23 = .ok (.iload 4, 2) := dk_21 4 (dk_at dksX7_boatsAt_1 0 rfl rfl)
theorem dX7_boatsAt_25 : decode cX7_boatsAt 25 = .ok (.ishr, 1) := dk_122 (dk_at dksX7_boatsAt_1 2 rfl rfl)
theorem dX7_boatsAt_26 : decode cX7_boatsAt 26 = .ok (.iconst 1, 1) := dk_4 (dk_at dksX7_boatsAt_1 3 rfl rfl)
theorem dX7_boatsAt_27 : decode cX7_boatsAt 27 = .ok (.iand, 1) := dk_126 (dk_at dksX7_boatsAt_1 4 rfl rfl)
theorem dX7_boatsAt_28 : decode cX7_boatsAt 28 = .ok (.ifCond .ne 17, 3) := dk_154 0 17 (dk_at dksX7_boatsAt_1 5 rfl rfl)
theorem dX7_boatsAt_31 : decode cX7_boatsAt 31 = .ok (.aload_n 0, 1) := dk_42 (dk_at dksX7_boatsAt_1 8 rfl rfl)
theorem dX7_boatsAt_32 : decode cX7_boatsAt 32 = .ok (.getfield 9, 3) := dk_180 0 9 (dk_at dksX7_boatsAt_1 9 rfl rfl)
theorem dX7_boatsAt_35 : decode cX7_boatsAt 35 = .ok (.iload 4, 2) := dk_21 4 (dk_at dksX7_boatsAt_1 12 rfl rfl)
theorem dX7_boatsAt_37 : decode cX7_boatsAt 37 = .ok (.iaload, 1) := dk_46 (dk_at dksX7_boatsAt_1 14 rfl rfl)
theorem dX7_boatsAt_38 : decode cX7_boatsAt 38 = .ok (.iload_n 1, 1) := dk_27 (dk_at dksX7_boatsAt_1 15 rfl rfl)
theorem dX7_boatsAt_39 : decode cX7_boatsAt 39 = .ok (.if_icmp .ne 6, 3) := dk_160 0 6 (dk_at dksX7_boatsAt_1 16 rfl rfl)
theorem dX7_boatsAt_42 : decode cX7_boatsAt 42 = .ok (.iinc 3 1, 3) := dk_132 3 1 (dk_at dksX7_boatsAt_1 19 rfl rfl)
theorem dX7_boatsAt_45 : decode cX7_boatsAt 45 = .ok (.iinc 4 1, 3) := dk_132 4 1 (dk_at dksX7_boatsAt_2 0 rfl rfl)
theorem dX7_boatsAt_48 : decode cX7_boatsAt 48 = .ok (.goto (-43), 3) := dk_167 255 213 (dk_at dksX7_boatsAt_2 3 rfl rfl)
theorem dX7_boatsAt_51 : decode cX7_boatsAt 51 = .ok (.iload_n 3, 1) := dk_29 (dk_at dksX7_boatsAt_2 6 rfl rfl)
theorem dX7_boatsAt_52 : decode cX7_boatsAt 52 = .ok (.ireturn, 1) := dk_172 (dk_at dksX7_boatsAt_2 7 rfl rfl)
abbrev cX7_read : ByteArray := prog_12_method_6_code
def yX7_read : MethodName := ⟨RX7, "read", "(I)V"⟩
def dkwX7_read_5 : List UInt8 := [132, 3, 255, 167, 255, 231, 177]
abbrev dktX7_read_5 : List UInt8 := dkwX7_read_5 ++ []
def dkwX7_read_4 : List UInt8 := [100, 62, 29, 155, 0, 27, 42, 180, 0, 15, 28, 7, 112, 92, 46, 4, 29, 120, 128, 79, 28, 7, 108, 61]
abbrev dktX7_read_4 : List UInt8 := dkwX7_read_4 ++ dktX7_read_5
def dkwX7_read_3 : List UInt8 := [162, 0, 16, 42, 180, 0, 15, 29, 3, 79, 132, 3, 1, 167, 255, 241, 42, 180, 0, 18, 180, 0, 56, 4]
abbrev dktX7_read_3 : List UInt8 := dkwX7_read_3 ++ dktX7_read_4
def dkwX7_read_2 : List UInt8 := [180, 0, 9, 29, 28, 7, 112, 79, 28, 7, 108, 61, 132, 3, 255, 167, 255, 236, 3, 62, 29, 7]
abbrev dktX7_read_2 : List UInt8 := dkwX7_read_2 ++ dktX7_read_3
def dkwX7_read_1 : List UInt8 := [28, 7, 108, 61, 42, 180, 0, 18, 180, 0, 28, 185, 0, 32, 1, 0, 4, 100, 62, 29, 155, 0, 22, 42]
abbrev dktX7_read_1 : List UInt8 := dkwX7_read_1 ++ dktX7_read_2
def dkwX7_read_0 : List UInt8 := [27, 61, 42, 42, 180, 0, 18, 180, 0, 47, 2, 160, 0, 7, 2, 167, 0, 6, 28, 7, 112, 181, 0, 50]
abbrev dktX7_read_0 : List UInt8 := dkwX7_read_0 ++ dktX7_read_1
theorem dksX7_read_0 : cX7_read.data.toList.drop 0 = dktX7_read_0 := by decide +kernel
theorem dksX7_read_1 : cX7_read.data.toList.drop 24 = dktX7_read_1 := dk_seg dksX7_read_0 24 rfl rfl
theorem dksX7_read_2 : cX7_read.data.toList.drop 48 = dktX7_read_2 := dk_seg dksX7_read_1 24 rfl rfl
theorem dksX7_read_3 : cX7_read.data.toList.drop 70 = dktX7_read_3 := dk_seg dksX7_read_2 22 rfl rfl
theorem dksX7_read_4 : cX7_read.data.toList.drop 94 = dktX7_read_4 := dk_seg dksX7_read_3 24 rfl rfl
theorem dksX7_read_5 : cX7_read.data.toList.drop 118 = dktX7_read_5 := dk_seg dksX7_read_4 24 rfl rfl
theorem dX7_read_0 : decode cX7_read 0 = .ok (.iload_n 1, 1) := dk_27 (dk_at dksX7_read_0 0 rfl rfl)
theorem dX7_read_1 : decode cX7_read 1 = .ok (.istore_n 2, 1) := dk_61 (dk_at dksX7_read_0 1 rfl rfl)
theorem dX7_read_2 : decode cX7_read 2 = .ok (.aload_n 0, 1) := dk_42 (dk_at dksX7_read_0 2 rfl rfl)
theorem dX7_read_3 : decode cX7_read 3 = .ok (.aload_n 0, 1) := dk_42 (dk_at dksX7_read_0 3 rfl rfl)
theorem dX7_read_4 : decode cX7_read 4 = .ok (.getfield 18, 3) := dk_180 0 18 (dk_at dksX7_read_0 4 rfl rfl)
theorem dX7_read_7 : decode cX7_read 7 = .ok (.getfield 47, 3) := dk_180 0 47 (dk_at dksX7_read_0 7 rfl rfl)
theorem dX7_read_10 : decode cX7_read 10 = .ok (.iconst (-1), 1) := dk_2 (dk_at dksX7_read_0 10 rfl rfl)
theorem dX7_read_11 : decode cX7_read 11 = .ok (.if_icmp .ne 7, 3) := dk_160 0 7 (dk_at dksX7_read_0 11 rfl rfl)
theorem dX7_read_14 : decode cX7_read 14 = .ok (.iconst (-1), 1) := dk_2 (dk_at dksX7_read_0 14 rfl rfl)
theorem dX7_read_15 : decode cX7_read 15 = .ok (.goto 6, 3) := dk_167 0 6 (dk_at dksX7_read_0 15 rfl rfl)
theorem dX7_read_18 : decode cX7_read 18 = .ok (.iload_n 2, 1) := dk_28 (dk_at dksX7_read_0 18 rfl rfl)
theorem dX7_read_19 : decode cX7_read 19 = .ok (.iconst 4, 1) := dk_7 (dk_at dksX7_read_0 19 rfl rfl)
theorem dX7_read_20 : decode cX7_read 20 = .ok (.irem, 1) := dk_112 (dk_at dksX7_read_0 20 rfl rfl)
theorem dX7_read_21 : decode cX7_read 21 = .ok (.putfield 50, 3) := dk_181 0 50 (dk_at dksX7_read_0 21 rfl rfl)
theorem dX7_read_24 : decode cX7_read 24 = .ok (.iload_n 2, 1) := dk_28 (dk_at dksX7_read_1 0 rfl rfl)
theorem dX7_read_25 : decode cX7_read 25 = .ok (.iconst 4, 1) := dk_7 (dk_at dksX7_read_1 1 rfl rfl)
theorem dX7_read_26 : decode cX7_read 26 = .ok (.idiv, 1) := dk_108 (dk_at dksX7_read_1 2 rfl rfl)
theorem dX7_read_27 : decode cX7_read 27 = .ok (.istore_n 2, 1) := dk_61 (dk_at dksX7_read_1 3 rfl rfl)
theorem dX7_read_28 : decode cX7_read 28 = .ok (.aload_n 0, 1) := dk_42 (dk_at dksX7_read_1 4 rfl rfl)
theorem dX7_read_29 : decode cX7_read 29 = .ok (.getfield 18, 3) := dk_180 0 18 (dk_at dksX7_read_1 5 rfl rfl)
theorem dX7_read_32 : decode cX7_read 32 = .ok (.getfield 28, 3) := dk_180 0 28 (dk_at dksX7_read_1 8 rfl rfl)
theorem dX7_read_35 : decode cX7_read 35 = .ok (.invokeinterface 32 1, 5) := by decide +kernel
theorem dX7_read_40 : decode cX7_read 40 = .ok (.iconst 1, 1) := dk_4 (dk_at dksX7_read_1 16 rfl rfl)
theorem dX7_read_41 : decode cX7_read 41 = .ok (.isub, 1) := dk_100 (dk_at dksX7_read_1 17 rfl rfl)
theorem dX7_read_42 : decode cX7_read 42 = .ok (.istore_n 3, 1) := dk_62 (dk_at dksX7_read_1 18 rfl rfl)
theorem dX7_read_43 : decode cX7_read 43 = .ok (.iload_n 3, 1) := dk_29 (dk_at dksX7_read_1 19 rfl rfl)
theorem dX7_read_44 : decode cX7_read 44 = .ok (.ifCond .lt 22, 3) := dk_155 0 22 (dk_at dksX7_read_1 20 rfl rfl)
theorem dX7_read_47 : decode cX7_read 47 = .ok (.aload_n 0, 1) := dk_42 (dk_at dksX7_read_1 23 rfl rfl)
theorem dX7_read_48 : decode cX7_read 48 = .ok (.getfield 9, 3) := dk_180 0 9 (dk_at dksX7_read_2 0 rfl rfl)
theorem dX7_read_51 : decode cX7_read 51 = .ok (.iload_n 3, 1) := dk_29 (dk_at dksX7_read_2 3 rfl rfl)
theorem dX7_read_52 : decode cX7_read 52 = .ok (.iload_n 2, 1) := dk_28 (dk_at dksX7_read_2 4 rfl rfl)
theorem dX7_read_53 : decode cX7_read 53 = .ok (.iconst 4, 1) := dk_7 (dk_at dksX7_read_2 5 rfl rfl)
theorem dX7_read_54 : decode cX7_read 54 = .ok (.irem, 1) := dk_112 (dk_at dksX7_read_2 6 rfl rfl)
theorem dX7_read_55 : decode cX7_read 55 = .ok (.iastore, 1) := dk_79 (dk_at dksX7_read_2 7 rfl rfl)
theorem dX7_read_56 : decode cX7_read 56 = .ok (.iload_n 2, 1) := dk_28 (dk_at dksX7_read_2 8 rfl rfl)
theorem dX7_read_57 : decode cX7_read 57 = .ok (.iconst 4, 1) := dk_7 (dk_at dksX7_read_2 9 rfl rfl)
theorem dX7_read_58 : decode cX7_read 58 = .ok (.idiv, 1) := dk_108 (dk_at dksX7_read_2 10 rfl rfl)
theorem dX7_read_59 : decode cX7_read 59 = .ok (.istore_n 2, 1) := dk_61 (dk_at dksX7_read_2 11 rfl rfl)
theorem dX7_read_60 : decode cX7_read 60 = .ok (.iinc 3 (-1), 3) := dk_132 3 255 (dk_at dksX7_read_2 12 rfl rfl)
theorem dX7_read_63 : decode cX7_read 63 = .ok (.goto (-20), 3) := dk_167 255 236 (dk_at dksX7_read_2 15 rfl rfl)
theorem dX7_read_66 : decode cX7_read 66 = .ok (.iconst 0, 1) := dk_3 (dk_at dksX7_read_2 18 rfl rfl)
theorem dX7_read_67 : decode cX7_read 67 = .ok (.istore_n 3, 1) := dk_62 (dk_at dksX7_read_2 19 rfl rfl)
theorem dX7_read_68 : decode cX7_read 68 = .ok (.iload_n 3, 1) := dk_29 (dk_at dksX7_read_2 20 rfl rfl)
theorem dX7_read_69 : decode cX7_read 69 = .ok (.iconst 4, 1) := dk_7 (dk_at dksX7_read_2 21 rfl rfl)
theorem dX7_read_70 : decode cX7_read 70 = .ok (.if_icmp .ge 16, 3) := dk_162 0 16 (dk_at dksX7_read_3 0 rfl rfl)
theorem dX7_read_73 : decode cX7_read 73 = .ok (.aload_n 0, 1) := dk_42 (dk_at dksX7_read_3 3 rfl rfl)
theorem dX7_read_74 : decode cX7_read 74 = .ok (.getfield 15, 3) := dk_180 0 15 (dk_at dksX7_read_3 4 rfl rfl)
theorem dX7_read_77 : decode cX7_read 77 = .ok (.iload_n 3, 1) := dk_29 (dk_at dksX7_read_3 7 rfl rfl)
theorem dX7_read_78 : decode cX7_read 78 = .ok (.iconst 0, 1) := dk_3 (dk_at dksX7_read_3 8 rfl rfl)
theorem dX7_read_79 : decode cX7_read 79 = .ok (.iastore, 1) := dk_79 (dk_at dksX7_read_3 9 rfl rfl)
theorem dX7_read_80 : decode cX7_read 80 = .ok (.iinc 3 1, 3) := dk_132 3 1 (dk_at dksX7_read_3 10 rfl rfl)
theorem dX7_read_83 : decode cX7_read 83 = .ok (.goto (-15), 3) := dk_167 255 241 (dk_at dksX7_read_3 13 rfl rfl)
theorem dX7_read_86 : decode cX7_read 86 = .ok (.aload_n 0, 1) := dk_42 (dk_at dksX7_read_3 16 rfl rfl)
theorem dX7_read_87 : decode cX7_read 87 = .ok (.getfield 18, 3) := dk_180 0 18 (dk_at dksX7_read_3 17 rfl rfl)
theorem dX7_read_90 : decode cX7_read 90 = .ok (.getfield 56, 3) := dk_180 0 56 (dk_at dksX7_read_3 20 rfl rfl)
theorem dX7_read_93 : decode cX7_read 93 = .ok (.iconst 1, 1) := dk_4 (dk_at dksX7_read_3 23 rfl rfl)
theorem dX7_read_94 : decode cX7_read 94 = .ok (.isub, 1) := dk_100 (dk_at dksX7_read_4 0 rfl rfl)
theorem dX7_read_95 : decode cX7_read 95 = .ok (.istore_n 3, 1) := dk_62 (dk_at dksX7_read_4 1 rfl rfl)
theorem dX7_read_96 : decode cX7_read 96 = .ok (.iload_n 3, 1) := dk_29 (dk_at dksX7_read_4 2 rfl rfl)
theorem dX7_read_97 : decode cX7_read 97 = .ok (.ifCond .lt 27, 3) := dk_155 0 27 (dk_at dksX7_read_4 3 rfl rfl)
theorem dX7_read_100 : decode cX7_read 100 = .ok (.aload_n 0, 1) := dk_42 (dk_at dksX7_read_4 6 rfl rfl)
theorem dX7_read_101 : decode cX7_read 101 = .ok (.getfield 15, 3) := dk_180 0 15 (dk_at dksX7_read_4 7 rfl rfl)
theorem dX7_read_104 : decode cX7_read 104 = .ok (.iload_n 2, 1) := dk_28 (dk_at dksX7_read_4 10 rfl rfl)
theorem dX7_read_105 : decode cX7_read 105 = .ok (.iconst 4, 1) := dk_7 (dk_at dksX7_read_4 11 rfl rfl)
theorem dX7_read_106 : decode cX7_read 106 = .ok (.irem, 1) := dk_112 (dk_at dksX7_read_4 12 rfl rfl)
theorem dX7_read_107 : decode cX7_read 107 = .ok (.dup2, 1) := dk_92 (dk_at dksX7_read_4 13 rfl rfl)
theorem dX7_read_108 : decode cX7_read 108 = .ok (.iaload, 1) := dk_46 (dk_at dksX7_read_4 14 rfl rfl)
theorem dX7_read_109 : decode cX7_read 109 = .ok (.iconst 1, 1) := dk_4 (dk_at dksX7_read_4 15 rfl rfl)
theorem dX7_read_110 : decode cX7_read 110 = .ok (.iload_n 3, 1) := dk_29 (dk_at dksX7_read_4 16 rfl rfl)
theorem dX7_read_111 : decode cX7_read 111 = .ok (.ishl, 1) := dk_120 (dk_at dksX7_read_4 17 rfl rfl)
theorem dX7_read_112 : decode cX7_read 112 = .ok (.ior, 1) := dk_128 (dk_at dksX7_read_4 18 rfl rfl)
theorem dX7_read_113 : decode cX7_read 113 = .ok (.iastore, 1) := dk_79 (dk_at dksX7_read_4 19 rfl rfl)
theorem dX7_read_114 : decode cX7_read 114 = .ok (.iload_n 2, 1) := dk_28 (dk_at dksX7_read_4 20 rfl rfl)
theorem dX7_read_115 : decode cX7_read 115 = .ok (.iconst 4, 1) := dk_7 (dk_at dksX7_read_4 21 rfl rfl)
theorem dX7_read_116 : decode cX7_read 116 = .ok (.idiv, 1) := dk_108 (dk_at dksX7_read_4 22 rfl rfl)
theorem dX7_read_117 : decode cX7_read 117 = .ok (.istore_n 2, 1) := dk_61 (dk_at dksX7_read_4 23 rfl rfl)
theorem dX7_read_118 : decode cX7_read 118 = .ok (.iinc 3 (-1), 3) := dk_132 3 255 (dk_at dksX7_read_5 0 rfl rfl)
theorem dX7_read_121 : decode cX7_read 121 = .ok (.goto (-25), 3) := dk_167 255 231 (dk_at dksX7_read_5 3 rfl rfl)
theorem dX7_read_124 : decode cX7_read 124 = .ok (.return_, 1) := dk_177 (dk_at dksX7_read_5 6 rfl rfl)
abbrev cX7_aboard : ByteArray := prog_12_method_9_code
def yX7_aboard : MethodName := ⟨RX7, "aboard", "(I)I"⟩
def dkwX7_aboard_1 : List UInt8 := [2, 160, 0, 7, 3, 167, 0, 4, 4, 50, 27, 53, 172]
abbrev dktX7_aboard_1 : List UInt8 := dkwX7_aboard_1 ++ []
def dkwX7_aboard_0 : List UInt8 := [42, 180, 0, 18, 180, 0, 69, 42, 180, 0, 18, 180, 0, 53, 50, 4, 50, 42, 180, 0, 18, 180, 0, 47]
abbrev dktX7_aboard_0 : List UInt8 := dkwX7_aboard_0 ++ dktX7_aboard_1
theorem dksX7_aboard_0 : cX7_aboard.data.toList.drop 0 = dktX7_aboard_0 := by decide +kernel
theorem dksX7_aboard_1 : cX7_aboard.data.toList.drop 24 = dktX7_aboard_1 := dk_seg dksX7_aboard_0 24 rfl rfl
theorem dX7_aboard_0 : decode cX7_aboard 0 = .ok (.aload_n 0, 1) := dk_42 (dk_at dksX7_aboard_0 0 rfl rfl)
theorem dX7_aboard_1 : decode cX7_aboard 1 = .ok (.getfield 18, 3) := dk_180 0 18 (dk_at dksX7_aboard_0 1 rfl rfl)
theorem dX7_aboard_4 : decode cX7_aboard 4 = .ok (.getfield 69, 3) := dk_180 0 69 (dk_at dksX7_aboard_0 4 rfl rfl)
theorem dX7_aboard_7 : decode cX7_aboard 7 = .ok (.aload_n 0, 1) := dk_42 (dk_at dksX7_aboard_0 7 rfl rfl)
theorem dX7_aboard_8 : decode cX7_aboard 8 = .ok (.getfield 18, 3) := dk_180 0 18 (dk_at dksX7_aboard_0 8 rfl rfl)
theorem dX7_aboard_11 : decode cX7_aboard 11 = .ok (.getfield 53, 3) := dk_180 0 53 (dk_at dksX7_aboard_0 11 rfl rfl)
theorem dX7_aboard_14 : decode cX7_aboard 14 = .ok (.aaload, 1) := dk_50 (dk_at dksX7_aboard_0 14 rfl rfl)
theorem dX7_aboard_15 : decode cX7_aboard 15 = .ok (.iconst 1, 1) := dk_4 (dk_at dksX7_aboard_0 15 rfl rfl)
theorem dX7_aboard_16 : decode cX7_aboard 16 = .ok (.aaload, 1) := dk_50 (dk_at dksX7_aboard_0 16 rfl rfl)
theorem dX7_aboard_17 : decode cX7_aboard 17 = .ok (.aload_n 0, 1) := dk_42 (dk_at dksX7_aboard_0 17 rfl rfl)
theorem dX7_aboard_18 : decode cX7_aboard 18 = .ok (.getfield 18, 3) := dk_180 0 18 (dk_at dksX7_aboard_0 18 rfl rfl)
theorem dX7_aboard_21 : decode cX7_aboard 21 = .ok (.getfield 47, 3) := dk_180 0 47 (dk_at dksX7_aboard_0 21 rfl rfl)
theorem dX7_aboard_24 : decode cX7_aboard 24 = .ok (.iconst (-1), 1) := dk_2 (dk_at dksX7_aboard_1 0 rfl rfl)
theorem dX7_aboard_25 : decode cX7_aboard 25 = .ok (.if_icmp .ne 7, 3) := dk_160 0 7 (dk_at dksX7_aboard_1 1 rfl rfl)
theorem dX7_aboard_28 : decode cX7_aboard 28 = .ok (.iconst 0, 1) := dk_3 (dk_at dksX7_aboard_1 4 rfl rfl)
theorem dX7_aboard_29 : decode cX7_aboard 29 = .ok (.goto 4, 3) := dk_167 0 4 (dk_at dksX7_aboard_1 5 rfl rfl)
theorem dX7_aboard_32 : decode cX7_aboard 32 = .ok (.iconst 1, 1) := dk_4 (dk_at dksX7_aboard_1 8 rfl rfl)
theorem dX7_aboard_33 : decode cX7_aboard 33 = .ok (.aaload, 1) := dk_50 (dk_at dksX7_aboard_1 9 rfl rfl)
theorem dX7_aboard_34 : decode cX7_aboard 34 = .ok (.iload_n 1, 1) := dk_27 (dk_at dksX7_aboard_1 10 rfl rfl)
theorem dX7_aboard_35 : decode cX7_aboard 35 = .ok (.saload, 1) := dk_53 (dk_at dksX7_aboard_1 11 rfl rfl)
theorem dX7_aboard_36 : decode cX7_aboard 36 = .ok (.ireturn, 1) := dk_172 (dk_at dksX7_aboard_1 12 rfl rfl)
abbrev cX7_move : ByteArray := prog_12_method_10_code
def yX7_move : MethodName := ⟨RX7, "move", "(III)V"⟩
def dkwX7_move_2 : List UInt8 := [181, 0, 50, 177]
abbrev dktX7_move_2 : List UInt8 := dkwX7_move_2 ++ []
def dkwX7_move_1 : List UInt8 := [29, 128, 79, 42, 180, 0, 9, 27, 28, 79, 42, 180, 0, 18, 180, 0, 47, 2, 159, 0, 8, 42, 28]
abbrev dktX7_move_1 : List UInt8 := dkwX7_move_1 ++ dktX7_move_2
def dkwX7_move_0 : List UInt8 := [42, 180, 0, 15, 42, 180, 0, 9, 27, 46, 92, 46, 29, 2, 130, 126, 79, 42, 180, 0, 15, 28, 92, 46]
abbrev dktX7_move_0 : List UInt8 := dkwX7_move_0 ++ dktX7_move_1
theorem dksX7_move_0 : cX7_move.data.toList.drop 0 = dktX7_move_0 := by decide +kernel
theorem dksX7_move_1 : cX7_move.data.toList.drop 24 = dktX7_move_1 := dk_seg dksX7_move_0 24 rfl rfl
theorem dksX7_move_2 : cX7_move.data.toList.drop 47 = dktX7_move_2 := dk_seg dksX7_move_1 23 rfl rfl
theorem dX7_move_0 : decode cX7_move 0 = .ok (.aload_n 0, 1) := dk_42 (dk_at dksX7_move_0 0 rfl rfl)
theorem dX7_move_1 : decode cX7_move 1 = .ok (.getfield 15, 3) := dk_180 0 15 (dk_at dksX7_move_0 1 rfl rfl)
theorem dX7_move_4 : decode cX7_move 4 = .ok (.aload_n 0, 1) := dk_42 (dk_at dksX7_move_0 4 rfl rfl)
theorem dX7_move_5 : decode cX7_move 5 = .ok (.getfield 9, 3) := dk_180 0 9 (dk_at dksX7_move_0 5 rfl rfl)
theorem dX7_move_8 : decode cX7_move 8 = .ok (.iload_n 1, 1) := dk_27 (dk_at dksX7_move_0 8 rfl rfl)
theorem dX7_move_9 : decode cX7_move 9 = .ok (.iaload, 1) := dk_46 (dk_at dksX7_move_0 9 rfl rfl)
theorem dX7_move_10 : decode cX7_move 10 = .ok (.dup2, 1) := dk_92 (dk_at dksX7_move_0 10 rfl rfl)
theorem dX7_move_11 : decode cX7_move 11 = .ok (.iaload, 1) := dk_46 (dk_at dksX7_move_0 11 rfl rfl)
theorem dX7_move_12 : decode cX7_move 12 = .ok (.iload_n 3, 1) := dk_29 (dk_at dksX7_move_0 12 rfl rfl)
theorem dX7_move_13 : decode cX7_move 13 = .ok (.iconst (-1), 1) := dk_2 (dk_at dksX7_move_0 13 rfl rfl)
theorem dX7_move_14 : decode cX7_move 14 = .ok (.ixor, 1) := dk_130 (dk_at dksX7_move_0 14 rfl rfl)
theorem dX7_move_15 : decode cX7_move 15 = .ok (.iand, 1) := dk_126 (dk_at dksX7_move_0 15 rfl rfl)
theorem dX7_move_16 : decode cX7_move 16 = .ok (.iastore, 1) := dk_79 (dk_at dksX7_move_0 16 rfl rfl)
theorem dX7_move_17 : decode cX7_move 17 = .ok (.aload_n 0, 1) := dk_42 (dk_at dksX7_move_0 17 rfl rfl)
theorem dX7_move_18 : decode cX7_move 18 = .ok (.getfield 15, 3) := dk_180 0 15 (dk_at dksX7_move_0 18 rfl rfl)
theorem dX7_move_21 : decode cX7_move 21 = .ok (.iload_n 2, 1) := dk_28 (dk_at dksX7_move_0 21 rfl rfl)
theorem dX7_move_22 : decode cX7_move 22 = .ok (.dup2, 1) := dk_92 (dk_at dksX7_move_0 22 rfl rfl)
theorem dX7_move_23 : decode cX7_move 23 = .ok (.iaload, 1) := dk_46 (dk_at dksX7_move_0 23 rfl rfl)
theorem dX7_move_24 : decode cX7_move 24 = .ok (.iload_n 3, 1) := dk_29 (dk_at dksX7_move_1 0 rfl rfl)
theorem dX7_move_25 : decode cX7_move 25 = .ok (.ior, 1) := dk_128 (dk_at dksX7_move_1 1 rfl rfl)
theorem dX7_move_26 : decode cX7_move 26 = .ok (.iastore, 1) := dk_79 (dk_at dksX7_move_1 2 rfl rfl)
theorem dX7_move_27 : decode cX7_move 27 = .ok (.aload_n 0, 1) := dk_42 (dk_at dksX7_move_1 3 rfl rfl)
theorem dX7_move_28 : decode cX7_move 28 = .ok (.getfield 9, 3) := dk_180 0 9 (dk_at dksX7_move_1 4 rfl rfl)
theorem dX7_move_31 : decode cX7_move 31 = .ok (.iload_n 1, 1) := dk_27 (dk_at dksX7_move_1 7 rfl rfl)
theorem dX7_move_32 : decode cX7_move 32 = .ok (.iload_n 2, 1) := dk_28 (dk_at dksX7_move_1 8 rfl rfl)
theorem dX7_move_33 : decode cX7_move 33 = .ok (.iastore, 1) := dk_79 (dk_at dksX7_move_1 9 rfl rfl)
theorem dX7_move_34 : decode cX7_move 34 = .ok (.aload_n 0, 1) := dk_42 (dk_at dksX7_move_1 10 rfl rfl)
theorem dX7_move_35 : decode cX7_move 35 = .ok (.getfield 18, 3) := dk_180 0 18 (dk_at dksX7_move_1 11 rfl rfl)
theorem dX7_move_38 : decode cX7_move 38 = .ok (.getfield 47, 3) := dk_180 0 47 (dk_at dksX7_move_1 14 rfl rfl)
theorem dX7_move_41 : decode cX7_move 41 = .ok (.iconst (-1), 1) := dk_2 (dk_at dksX7_move_1 17 rfl rfl)
theorem dX7_move_42 : decode cX7_move 42 = .ok (.if_icmp .eq 8, 3) := dk_159 0 8 (dk_at dksX7_move_1 18 rfl rfl)
theorem dX7_move_45 : decode cX7_move 45 = .ok (.aload_n 0, 1) := dk_42 (dk_at dksX7_move_1 21 rfl rfl)
theorem dX7_move_46 : decode cX7_move 46 = .ok (.iload_n 2, 1) := dk_28 (dk_at dksX7_move_1 22 rfl rfl)
theorem dX7_move_47 : decode cX7_move 47 = .ok (.putfield 50, 3) := dk_181 0 50 (dk_at dksX7_move_2 0 rfl rfl)
theorem dX7_move_50 : decode cX7_move 50 = .ok (.return_, 1) := dk_177 (dk_at dksX7_move_2 3 rfl rfl)
abbrev cX7_isGoal : ByteArray := prog_12_method_3_code
def yX7_isGoal : MethodName := ⟨RX7, "isGoal", "()Z"⟩
def dkwX7_isGoal_1 : List UInt8 := [4, 167, 0, 4, 3, 172]
abbrev dktX7_isGoal_1 : List UInt8 := dkwX7_isGoal_1 ++ []
def dkwX7_isGoal_0 : List UInt8 := [42, 180, 0, 15, 42, 180, 0, 18, 180, 0, 53, 4, 100, 46, 42, 180, 0, 18, 182, 0, 22, 160, 0, 7]
abbrev dktX7_isGoal_0 : List UInt8 := dkwX7_isGoal_0 ++ dktX7_isGoal_1
theorem dksX7_isGoal_0 : cX7_isGoal.data.toList.drop 0 = dktX7_isGoal_0 := by decide +kernel
theorem dksX7_isGoal_1 : cX7_isGoal.data.toList.drop 24 = dktX7_isGoal_1 := dk_seg dksX7_isGoal_0 24 rfl rfl
theorem dX7_isGoal_0 : decode cX7_isGoal 0 = .ok (.aload_n 0, 1) := dk_42 (dk_at dksX7_isGoal_0 0 rfl rfl)
theorem dX7_isGoal_1 : decode cX7_isGoal 1 = .ok (.getfield 15, 3) := dk_180 0 15 (dk_at dksX7_isGoal_0 1 rfl rfl)
theorem dX7_isGoal_4 : decode cX7_isGoal 4 = .ok (.aload_n 0, 1) := dk_42 (dk_at dksX7_isGoal_0 4 rfl rfl)
theorem dX7_isGoal_5 : decode cX7_isGoal 5 = .ok (.getfield 18, 3) := dk_180 0 18 (dk_at dksX7_isGoal_0 5 rfl rfl)
theorem dX7_isGoal_8 : decode cX7_isGoal 8 = .ok (.getfield 53, 3) := dk_180 0 53 (dk_at dksX7_isGoal_0 8 rfl rfl)
theorem dX7_isGoal_11 : decode cX7_isGoal 11 = .ok (.iconst 1, 1) := dk_4 (dk_at dksX7_isGoal_0 11 rfl rfl)
theorem dX7_isGoal_12 : decode cX7_isGoal 12 = .ok (.isub, 1) := dk_100 (dk_at dksX7_isGoal_0 12 rfl rfl)
theorem dX7_isGoal_13 : decode cX7_isGoal 13 = .ok (.iaload, 1) := dk_46 (dk_at dksX7_isGoal_0 13 rfl rfl)
theorem dX7_isGoal_14 : decode cX7_isGoal 14 = .ok (.aload_n 0, 1) := dk_42 (dk_at dksX7_isGoal_0 14 rfl rfl)
theorem dX7_isGoal_15 : decode cX7_isGoal 15 = .ok (.getfield 18, 3) := dk_180 0 18 (dk_at dksX7_isGoal_0 15 rfl rfl)
theorem dX7_isGoal_18 : decode cX7_isGoal 18 = .ok (.invokevirtual 22, 3) := dk_182 0 22 (dk_at dksX7_isGoal_0 18 rfl rfl)
theorem dX7_isGoal_21 : decode cX7_isGoal 21 = .ok (.if_icmp .ne 7, 3) := dk_160 0 7 (dk_at dksX7_isGoal_0 21 rfl rfl)
theorem dX7_isGoal_24 : decode cX7_isGoal 24 = .ok (.iconst 1, 1) := dk_4 (dk_at dksX7_isGoal_1 0 rfl rfl)
theorem dX7_isGoal_25 : decode cX7_isGoal 25 = .ok (.goto 4, 3) := dk_167 0 4 (dk_at dksX7_isGoal_1 1 rfl rfl)
theorem dX7_isGoal_28 : decode cX7_isGoal 28 = .ok (.iconst 0, 1) := dk_3 (dk_at dksX7_isGoal_1 4 rfl rfl)
theorem dX7_isGoal_29 : decode cX7_isGoal 29 = .ok (.ireturn, 1) := dk_172 (dk_at dksX7_isGoal_1 5 rfl rfl)
theorem q135 : (Jvm.Cond.initialized "FerryHall$Place") ∈ lw_all := lw_g (lw_at lw_m1 17 rfl) rfl
theorem q209 : (Jvm.Cond.fieldLinkNest "FerryHall$Place" (53 : Nat) "FerryHall$World" "shores" "I" "FerryHall") ∈ lw_tbl := lw_at lw_m1 91 rfl
theorem q215 : (Jvm.Cond.fieldLinkNest "FerryHall$Place" (56 : Nat) "FerryHall$World" "things" "I" "FerryHall") ∈ lw_tbl := lw_at lw_m1 97 rfl
theorem q219 : (Jvm.Cond.fieldLinkNest "FerryHall$Place" (47 : Nat) "FerryHall$World" "lampAt" "I" "FerryHall") ∈ lw_tbl := lw_at lw_m1 101 rfl
theorem q238 : (Jvm.Cond.fieldLinkNest "FerryHall$Place" (28 : Nat) "FerryHall$World" "boats" "Ljava/util/List;" "FerryHall") ∈ lw_tbl := lw_at lw_m1 120 rfl
theorem q246 : (Jvm.Cond.fieldLinkNest "FerryHall$Place" (69 : Nat) "FerryHall$World" "bars" "[[[[S" "FerryHall") ∈ lw_tbl := lw_at lw_m1 128 rfl
theorem q503 : (Jvm.Cond.instantiable "FerryHall$Place" (4 : Nat)) ∈ lw_all := lw_g (lw_at lw_m2 145 rfl) rfl
theorem q505 : (Jvm.Cond.instanceMethod ({ cls := "FerryHall$Place", name := "<init>", desc := "(LFerryHall$World;)V" } : Jvm.MethodName)) ∈ lw_all := lw_g (lw_at lw_m2 147 rfl) rfl
theorem q506 : (Jvm.Cond.code ({ cls := "FerryHall$Place", name := "<init>", desc := "(LFerryHall$World;)V" } : Jvm.MethodName) prog_12_method_1_code (2 : Nat) (Option.none : Option Jvm.ClassFile.FieldType)) ∈ lw_all := lw_g (lw_at lw_m2 148 rfl) rfl
theorem q507 : (Jvm.Cond.methodLink "FerryHall$Place" (3 : Nat) ({ cls := "java/lang/Object", name := "<init>", desc := "()V" } : Jvm.MethodName)) ∈ lw_all := lw_g (lw_at lw_m2 149 rfl) rfl
theorem q508 : (Jvm.Cond.fieldLink "FerryHall$Place" (18 : Nat) "FerryHall$Place" "w" "LFerryHall$World;") ∈ lw_all := lw_g (lw_at lw_m2 150 rfl) rfl
theorem q509 : (Jvm.Cond.fieldLink "FerryHall$Place" (9 : Nat) "FerryHall$Place" "boat" "[I") ∈ lw_all := lw_g (lw_at lw_m2 151 rfl) rfl
theorem q514 : (Jvm.Cond.fieldLink "FerryHall$Place" (15 : Nat) "FerryHall$Place" "set" "[I") ∈ lw_all := lw_g (lw_at lw_m2 156 rfl) rfl
theorem q519 : (Jvm.Cond.fieldLink "FerryHall$Place" (50 : Nat) "FerryHall$Place" "lamp" "I") ∈ lw_all := lw_g (lw_at lw_m2 161 rfl) rfl
theorem q522 : (Jvm.Cond.laysFinal "FerryHall$Place" "FerryHall$Place" "w" "LFerryHall$World;") ∈ lw_all := lw_g (lw_at lw_m2 164 rfl) rfl
theorem q523 : (Jvm.Cond.soleField "FerryHall$Place" "w") ∈ lw_all := lw_g (lw_at lw_m2 165 rfl) rfl
theorem q524 : (Jvm.Cond.laysFinal "FerryHall$Place" "FerryHall$Place" "boat" "[I") ∈ lw_all := lw_g (lw_at lw_m2 166 rfl) rfl
theorem q525 : (Jvm.Cond.soleField "FerryHall$Place" "boat") ∈ lw_all := lw_g (lw_at lw_m2 167 rfl) rfl
theorem q526 : (Jvm.Cond.laysFinal "FerryHall$Place" "FerryHall$Place" "set" "[I") ∈ lw_all := lw_g (lw_at lw_m2 168 rfl) rfl
theorem q527 : (Jvm.Cond.soleField "FerryHall$Place" "set") ∈ lw_all := lw_g (lw_at lw_m2 169 rfl) rfl
theorem q528 : (Jvm.Cond.lays "FerryHall$Place" "FerryHall$Place" "lamp" "I") ∈ lw_all := lw_g (lw_at lw_m2 170 rfl) rfl
theorem q529 : (Jvm.Cond.soleField "FerryHall$Place" "lamp") ∈ lw_all := lw_g (lw_at lw_m2 171 rfl) rfl
theorem q530 : (Jvm.Cond.superclass "FerryHall$Place" "java/lang/Object") ∈ lw_all := lw_g (lw_at lw_m2 172 rfl) rfl
theorem q533 : (Jvm.Cond.instanceMethod ({ cls := "FerryHall$Place", name := "start", desc := "()V" } : Jvm.MethodName)) ∈ lw_all := lw_g (lw_at lw_m2 175 rfl) rfl
theorem q534 : (Jvm.Cond.selects "FerryHall$Place" ({ cls := "FerryHall$Place", name := "start", desc := "()V" } : Jvm.MethodName) ({ cls := "FerryHall$Place", name := "start", desc := "()V" } : Jvm.MethodName)) ∈ lw_all := lw_g (lw_at lw_m2 176 rfl) rfl
theorem q535 : (Jvm.Cond.code ({ cls := "FerryHall$Place", name := "start", desc := "()V" } : Jvm.MethodName) prog_12_method_2_code (2 : Nat) (Option.none : Option Jvm.ClassFile.FieldType)) ∈ lw_all := lw_g (lw_at lw_m2 177 rfl) rfl
theorem q536 : (Jvm.Cond.methodLink "FerryHall$Place" (22 : Nat) ({ cls := "FerryHall$World", name := "all", desc := "()I" } : Jvm.MethodName)) ∈ lw_all := lw_g (lw_at lw_m2 178 rfl) rfl
theorem q540 : (Jvm.Cond.interfaceEntry "FerryHall$Place" (32 : Nat)) ∈ lw_tbl := lw_at lw_m2 182 rfl
theorem q541 : (Jvm.Cond.methodLink "FerryHall$Place" (32 : Nat) ({ cls := "java/util/List", name := "size", desc := "()I" } : Jvm.MethodName)) ∈ lw_all := lw_g (lw_at lw_m2 183 rfl) rfl
theorem q542 : (Jvm.Cond.interfaceEntry "FerryHall$Place" (37 : Nat)) ∈ lw_tbl := lw_at lw_m2 184 rfl
theorem q543 : (Jvm.Cond.methodLink "FerryHall$Place" (37 : Nat) ({ cls := "java/util/List", name := "get", desc := "(I)Ljava/lang/Object;" } : Jvm.MethodName)) ∈ lw_all := lw_g (lw_at lw_m2 185 rfl) rfl
theorem q544 : (Jvm.Cond.classLink "FerryHall$Place" (41 : Nat) "FerryHall$Boat") ∈ lw_all := lw_g (lw_at lw_m2 186 rfl) rfl
theorem q644 : (Jvm.Cond.instanceMethod ({ cls := "FerryHall$Place", name := "code", desc := "()I" } : Jvm.MethodName)) ∈ lw_all := lw_g (lw_at lw_m3 46 rfl) rfl
theorem q645 : (Jvm.Cond.selects "FerryHall$Place" ({ cls := "FerryHall$Place", name := "code", desc := "()I" } : Jvm.MethodName) ({ cls := "FerryHall$Place", name := "code", desc := "()I" } : Jvm.MethodName)) ∈ lw_all := lw_g (lw_at lw_m3 47 rfl) rfl
theorem q646 : (Jvm.Cond.code ({ cls := "FerryHall$Place", name := "code", desc := "()I" } : Jvm.MethodName) prog_12_method_5_code (3 : Nat) (Option.some Jvm.ClassFile.FieldType.int)) ∈ lw_all := lw_g (lw_at lw_m3 48 rfl) rfl
theorem q647 : (Jvm.Cond.methodLink "FerryHall$Place" (59 : Nat) ({ cls := "FerryHall$Place", name := "shoreOf", desc := "(I)I" } : Jvm.MethodName)) ∈ lw_all := lw_g (lw_at lw_m3 49 rfl) rfl
theorem q648 : (Jvm.Cond.instanceMethod ({ cls := "FerryHall$Place", name := "shoreOf", desc := "(I)I" } : Jvm.MethodName)) ∈ lw_all := lw_g (lw_at lw_m3 50 rfl) rfl
theorem q649 : (Jvm.Cond.selects "FerryHall$Place" ({ cls := "FerryHall$Place", name := "shoreOf", desc := "(I)I" } : Jvm.MethodName) ({ cls := "FerryHall$Place", name := "shoreOf", desc := "(I)I" } : Jvm.MethodName)) ∈ lw_all := lw_g (lw_at lw_m3 51 rfl) rfl
theorem q650 : (Jvm.Cond.code ({ cls := "FerryHall$Place", name := "shoreOf", desc := "(I)I" } : Jvm.MethodName) prog_12_method_4_code (3 : Nat) (Option.some Jvm.ClassFile.FieldType.int)) ∈ lw_all := lw_g (lw_at lw_m3 52 rfl) rfl
theorem q651 : (Jvm.Cond.methodLink "FerryHall$Place" (63 : Nat) ({ cls := "java/lang/Math", name := "max", desc := "(II)I" } : Jvm.MethodName)) ∈ lw_all := lw_g (lw_at lw_m3 53 rfl) rfl
theorem q655 : (Jvm.Cond.instanceMethod ({ cls := "FerryHall$Place", name := "barred", desc := "(II)I" } : Jvm.MethodName)) ∈ lw_all := lw_g (lw_at lw_m3 57 rfl) rfl
theorem q656 : (Jvm.Cond.selects "FerryHall$Place" ({ cls := "FerryHall$Place", name := "barred", desc := "(II)I" } : Jvm.MethodName) ({ cls := "FerryHall$Place", name := "barred", desc := "(II)I" } : Jvm.MethodName)) ∈ lw_all := lw_g (lw_at lw_m3 58 rfl) rfl
theorem q657 : (Jvm.Cond.code ({ cls := "FerryHall$Place", name := "barred", desc := "(II)I" } : Jvm.MethodName) prog_12_method_8_code (5 : Nat) (Option.some Jvm.ClassFile.FieldType.int)) ∈ lw_all := lw_g (lw_at lw_m3 59 rfl) rfl
theorem q658 : (Jvm.Cond.methodLink "FerryHall$Place" (73 : Nat) ({ cls := "FerryHall$Place", name := "boatsAt", desc := "(II)I" } : Jvm.MethodName)) ∈ lw_all := lw_g (lw_at lw_m3 60 rfl) rfl
theorem q659 : (Jvm.Cond.instanceMethod ({ cls := "FerryHall$Place", name := "boatsAt", desc := "(II)I" } : Jvm.MethodName)) ∈ lw_all := lw_g (lw_at lw_m3 61 rfl) rfl
theorem q660 : (Jvm.Cond.selects "FerryHall$Place" ({ cls := "FerryHall$Place", name := "boatsAt", desc := "(II)I" } : Jvm.MethodName) ({ cls := "FerryHall$Place", name := "boatsAt", desc := "(II)I" } : Jvm.MethodName)) ∈ lw_all := lw_g (lw_at lw_m3 62 rfl) rfl
theorem q661 : (Jvm.Cond.code ({ cls := "FerryHall$Place", name := "boatsAt", desc := "(II)I" } : Jvm.MethodName) prog_12_method_7_code (5 : Nat) (Option.some Jvm.ClassFile.FieldType.int)) ∈ lw_all := lw_g (lw_at lw_m3 63 rfl) rfl
theorem q706 : (Jvm.Cond.instanceMethod ({ cls := "FerryHall$Place", name := "read", desc := "(I)V" } : Jvm.MethodName)) ∈ lw_all := lw_g (lw_at lw_m3 108 rfl) rfl
theorem q707 : (Jvm.Cond.selects "FerryHall$Place" ({ cls := "FerryHall$Place", name := "read", desc := "(I)V" } : Jvm.MethodName) ({ cls := "FerryHall$Place", name := "read", desc := "(I)V" } : Jvm.MethodName)) ∈ lw_all := lw_g (lw_at lw_m3 109 rfl) rfl
theorem q708 : (Jvm.Cond.code ({ cls := "FerryHall$Place", name := "read", desc := "(I)V" } : Jvm.MethodName) prog_12_method_6_code (4 : Nat) (Option.none : Option Jvm.ClassFile.FieldType)) ∈ lw_all := lw_g (lw_at lw_m3 110 rfl) rfl
theorem q752 : (Jvm.Cond.instanceMethod ({ cls := "FerryHall$Place", name := "aboard", desc := "(I)I" } : Jvm.MethodName)) ∈ lw_all := lw_g (lw_at lw_m3 154 rfl) rfl
theorem q753 : (Jvm.Cond.selects "FerryHall$Place" ({ cls := "FerryHall$Place", name := "aboard", desc := "(I)I" } : Jvm.MethodName) ({ cls := "FerryHall$Place", name := "aboard", desc := "(I)I" } : Jvm.MethodName)) ∈ lw_all := lw_g (lw_at lw_m3 155 rfl) rfl
theorem q754 : (Jvm.Cond.code ({ cls := "FerryHall$Place", name := "aboard", desc := "(I)I" } : Jvm.MethodName) prog_12_method_9_code (2 : Nat) (Option.some Jvm.ClassFile.FieldType.int)) ∈ lw_all := lw_g (lw_at lw_m3 156 rfl) rfl
theorem q757 : (Jvm.Cond.instanceMethod ({ cls := "FerryHall$Place", name := "move", desc := "(III)V" } : Jvm.MethodName)) ∈ lw_all := lw_g (lw_at lw_m3 159 rfl) rfl
theorem q758 : (Jvm.Cond.selects "FerryHall$Place" ({ cls := "FerryHall$Place", name := "move", desc := "(III)V" } : Jvm.MethodName) ({ cls := "FerryHall$Place", name := "move", desc := "(III)V" } : Jvm.MethodName)) ∈ lw_all := lw_g (lw_at lw_m3 160 rfl) rfl
theorem q759 : (Jvm.Cond.code ({ cls := "FerryHall$Place", name := "move", desc := "(III)V" } : Jvm.MethodName) prog_12_method_10_code (4 : Nat) (Option.none : Option Jvm.ClassFile.FieldType)) ∈ lw_all := lw_g (lw_at lw_m3 161 rfl) rfl
theorem q778 : (Jvm.Cond.instanceMethod ({ cls := "FerryHall$Place", name := "isGoal", desc := "()Z" } : Jvm.MethodName)) ∈ lw_all := lw_g (lw_at lw_m3 180 rfl) rfl
theorem q779 : (Jvm.Cond.selects "FerryHall$Place" ({ cls := "FerryHall$Place", name := "isGoal", desc := "()Z" } : Jvm.MethodName) ({ cls := "FerryHall$Place", name := "isGoal", desc := "()Z" } : Jvm.MethodName)) ∈ lw_all := lw_g (lw_at lw_m3 181 rfl) rfl
theorem q780 : (Jvm.Cond.code ({ cls := "FerryHall$Place", name := "isGoal", desc := "()Z" } : Jvm.MethodName) prog_12_method_3_code (1 : Nat) (Option.some Jvm.ClassFile.FieldType.boolean)) ∈ lw_all := lw_g (lw_at lw_m3 182 rfl) rfl
theorem q864 : (Jvm.Cond.selects "FerryHall$Place" ({ cls := "java/lang/Object", name := "getClass", desc := "()Ljava/lang/Class;" } : Jvm.MethodName) ({ cls := "java/lang/Object", name := "getClass", desc := "()Ljava/lang/Class;" } : Jvm.MethodName)) ∈ lw_all := lw_g (lw_at lw_m4 26 rfl) rfl
theorem q1351 : (Jvm.Cond.fieldLinkNest "FerryHall$Place" (43 : Nat) "FerryHall$Boat" "at" "I" "FerryHall") ∈ lw_tbl := lw_at lw_m6 33 rfl
theorem q2591 : (Jvm.Cond.castable "FerryHall$Place" "java/lang/Object") ∈ lw_tbl := lw_at lw_m11 73 rfl
theorem in_X7 : ∀ w ∈ wsX70, w ∈ lw_all := lw_in wsX70 [522, 524, 526, 528] (by decide +kernel) (by decide +kernel)
/-! FerryHall$Reader -/
set_option maxRecDepth 100000
def RX9 : String := "FerryHall$Reader"
def TX9 : u_T := fun k => match k with
  | 0 => ("FerryHall$Reader", "size", "I", true)
  | 1 => ("FerryHall$Reader", "told", "LFerryHall$World;", true)
  | 2 => ("FerryHall$Reader", "at", "I", false)
  | 3 => ("FerryHall$Reader", "token", "I", false)
  | 4 => ("FerryHall$Reader", "begins", "I", false)
  | 5 => ("FerryHall$Reader", "ends", "I", false)
  | 6 => ("FerryHall$Reader", "number", "I", false)
  | _ => ("FerryHall$Reader", "this$0", "LFerryHall;", true)
def tyX9 : Nat → FieldType := fun k => match k with
  | 0 => .int
  | 1 => .object "FerryHall$World"
  | 2 => .int
  | 3 => .int
  | 4 => .int
  | 5 => .int
  | 6 => .int
  | _ => .object "FerryHall"
abbrev wsX90 : List Cond := u_ws RX9 TX9 8
theorem nmX9 : ∀ a, a < 8 → ∀ b, b < 8 → a ≠ b → (TX9 a).2.1 ≠ (TX9 b).2.1 := by decide +kernel
theorem tyX9_ok : ∀ k, k < 8 → parseFieldDescriptor (TX9 k).2.2.1 = some (tyX9 k) := by decide +kernel
abbrev cX9_init : ByteArray := prog_13_method_1_code
def yX9_init : MethodName := ⟨RX9, "<init>", "(LFerryHall;I)V"⟩
def dkwX9_init_1 : List UInt8 := [181, 0, 22, 177]
abbrev dktX9_init_1 : List UInt8 := dkwX9_init_1 ++ []
def dkwX9_init_0 : List UInt8 := [42, 43, 181, 0, 3, 42, 183, 0, 9, 42, 187, 0, 15, 89, 183, 0, 17, 181, 0, 18, 42, 28]
abbrev dktX9_init_0 : List UInt8 := dkwX9_init_0 ++ dktX9_init_1
theorem dksX9_init_0 : cX9_init.data.toList.drop 0 = dktX9_init_0 := by decide +kernel
theorem dksX9_init_1 : cX9_init.data.toList.drop 22 = dktX9_init_1 := dk_seg dksX9_init_0 22 rfl rfl
theorem dX9_init_0 : decode cX9_init 0 = .ok (.aload_n 0, 1) := dk_42 (dk_at dksX9_init_0 0 rfl rfl)
theorem dX9_init_1 : decode cX9_init 1 = .ok (.aload_n 1, 1) := dk_43 (dk_at dksX9_init_0 1 rfl rfl)
theorem dX9_init_2 : decode cX9_init 2 = .ok (.putfield 3, 3) := dk_181 0 3 (dk_at dksX9_init_0 2 rfl rfl)
theorem dX9_init_5 : decode cX9_init 5 = .ok (.aload_n 0, 1) := dk_42 (dk_at dksX9_init_0 5 rfl rfl)
theorem dX9_init_6 : decode cX9_init 6 = .ok (.invokespecial 9, 3) := dk_183 0 9 (dk_at dksX9_init_0 6 rfl rfl)
theorem dX9_init_9 : decode cX9_init 9 = .ok (.aload_n 0, 1) := dk_42 (dk_at dksX9_init_0 9 rfl rfl)
theorem dX9_init_10 : decode cX9_init 10 = .ok (.new 15, 3) := dk_187 0 15 (dk_at dksX9_init_0 10 rfl rfl)
theorem dX9_init_13 : decode cX9_init 13 = .ok (.dup, 1) := dk_89 (dk_at dksX9_init_0 13 rfl rfl)
theorem dX9_init_14 : decode cX9_init 14 = .ok (.invokespecial 17, 3) := dk_183 0 17 (dk_at dksX9_init_0 14 rfl rfl)
theorem dX9_init_17 : decode cX9_init 17 = .ok (.putfield 18, 3) := dk_181 0 18 (dk_at dksX9_init_0 17 rfl rfl)
theorem dX9_init_20 : decode cX9_init 20 = .ok (.aload_n 0, 1) := dk_42 (dk_at dksX9_init_0 20 rfl rfl)
theorem dX9_init_21 : decode cX9_init 21 = .ok (.iload_n 2, 1) := dk_28 (dk_at dksX9_init_0 21 rfl rfl)
theorem dX9_init_22 : decode cX9_init 22 = .ok (.putfield 22, 3) := dk_181 0 22 (dk_at dksX9_init_1 0 rfl rfl)
theorem dX9_init_25 : decode cX9_init 25 = .ok (.return_, 1) := dk_177 (dk_at dksX9_init_1 3 rfl rfl)
abbrev cX9_read : ByteArray := prog_13_method_27_code
def yX9_read : MethodName := ⟨RX9, "read", "()LFerryHall$World;"⟩
def dkwX9_read_6 : List UInt8 := [167, 255, 151, 187, 0, 93, 89, 4, 183, 0, 95, 191, 42, 180, 0, 18, 176]
abbrev dktX9_read_6 : List UInt8 := dkwX9_read_6 ++ []
def dkwX9_read_5 : List UInt8 := [153, 0, 10, 42, 182, 1, 4, 167, 255, 168, 42, 19, 1, 6, 182, 0, 89, 153, 0, 10, 42, 182, 1, 8]
abbrev dktX9_read_5 : List UInt8 := dkwX9_read_5 ++ dktX9_read_6
def dkwX9_read_4 : List UInt8 := [19, 1, 0, 182, 0, 89, 153, 0, 11, 42, 3, 182, 0, 253, 167, 255, 185, 42, 19, 1, 2, 182, 0, 89]
abbrev dktX9_read_4 : List UInt8 := dkwX9_read_4 ++ dktX9_read_5
def dkwX9_read_3 : List UInt8 := [182, 0, 250, 167, 255, 220, 42, 18, 252, 182, 0, 89, 153, 0, 11, 42, 4, 182, 0, 253, 167, 255, 203, 42]
abbrev dktX9_read_3 : List UInt8 := dkwX9_read_3 ++ dktX9_read_4
def dkwX9_read_2 : List UInt8 := [182, 0, 89, 153, 0, 10, 42, 182, 0, 246, 167, 255, 236, 42, 18, 248, 182, 0, 89, 153, 0, 10, 42]
abbrev dktX9_read_2 : List UInt8 := dkwX9_read_2 ++ dktX9_read_3
def dkwX9_read_1 : List UInt8 := [182, 0, 114, 181, 0, 109, 42, 16, 59, 182, 0, 132, 42, 180, 0, 44, 153, 0, 113, 42, 18, 244]
abbrev dktX9_read_1 : List UInt8 := dkwX9_read_1 ++ dktX9_read_2
def dkwX9_read_0 : List UInt8 := [42, 182, 0, 102, 42, 18, 243, 182, 0, 89, 153, 0, 26, 42, 182, 0, 102, 42, 180, 0, 18, 42, 5, 7]
abbrev dktX9_read_0 : List UInt8 := dkwX9_read_0 ++ dktX9_read_1
theorem dksX9_read_0 : cX9_read.data.toList.drop 0 = dktX9_read_0 := by decide +kernel
theorem dksX9_read_1 : cX9_read.data.toList.drop 24 = dktX9_read_1 := dk_seg dksX9_read_0 24 rfl rfl
theorem dksX9_read_2 : cX9_read.data.toList.drop 46 = dktX9_read_2 := dk_seg dksX9_read_1 22 rfl rfl
theorem dksX9_read_3 : cX9_read.data.toList.drop 69 = dktX9_read_3 := dk_seg dksX9_read_2 23 rfl rfl
theorem dksX9_read_4 : cX9_read.data.toList.drop 93 = dktX9_read_4 := dk_seg dksX9_read_3 24 rfl rfl
theorem dksX9_read_5 : cX9_read.data.toList.drop 117 = dktX9_read_5 := dk_seg dksX9_read_4 24 rfl rfl
theorem dksX9_read_6 : cX9_read.data.toList.drop 141 = dktX9_read_6 := dk_seg dksX9_read_5 24 rfl rfl
theorem dX9_read_0 : decode cX9_read 0 = .ok (.aload_n 0, 1) := dk_42 (dk_at dksX9_read_0 0 rfl rfl)
theorem dX9_read_1 : decode cX9_read 1 = .ok (.invokevirtual 102, 3) := dk_182 0 102 (dk_at dksX9_read_0 1 rfl rfl)
theorem dX9_read_4 : decode cX9_read 4 = .ok (.aload_n 0, 1) := dk_42 (dk_at dksX9_read_0 4 rfl rfl)
theorem dX9_read_5 : decode cX9_read 5 = .ok (.ldc 243, 2) := dk_18 243 (dk_at dksX9_read_0 5 rfl rfl)
theorem dX9_read_7 : decode cX9_read 7 = .ok (.invokevirtual 89, 3) := dk_182 0 89 (dk_at dksX9_read_0 7 rfl rfl)
theorem dX9_read_10 : decode cX9_read 10 = .ok (.ifCond .eq 26, 3) := dk_153 0 26 (dk_at dksX9_read_0 10 rfl rfl)
theorem dX9_read_13 : decode cX9_read 13 = .ok (.aload_n 0, 1) := dk_42 (dk_at dksX9_read_0 13 rfl rfl)
theorem dX9_read_14 : decode cX9_read 14 = .ok (.invokevirtual 102, 3) := dk_182 0 102 (dk_at dksX9_read_0 14 rfl rfl)
theorem dX9_read_17 : decode cX9_read 17 = .ok (.aload_n 0, 1) := dk_42 (dk_at dksX9_read_0 17 rfl rfl)
theorem dX9_read_18 : decode cX9_read 18 = .ok (.getfield 18, 3) := dk_180 0 18 (dk_at dksX9_read_0 18 rfl rfl)
theorem dX9_read_21 : decode cX9_read 21 = .ok (.aload_n 0, 1) := dk_42 (dk_at dksX9_read_0 21 rfl rfl)
theorem dX9_read_22 : decode cX9_read 22 = .ok (.iconst 2, 1) := dk_5 (dk_at dksX9_read_0 22 rfl rfl)
theorem dX9_read_23 : decode cX9_read 23 = .ok (.iconst 4, 1) := dk_7 (dk_at dksX9_read_0 23 rfl rfl)
theorem dX9_read_24 : decode cX9_read 24 = .ok (.invokevirtual 114, 3) := dk_182 0 114 (dk_at dksX9_read_1 0 rfl rfl)
theorem dX9_read_27 : decode cX9_read 27 = .ok (.putfield 109, 3) := dk_181 0 109 (dk_at dksX9_read_1 3 rfl rfl)
theorem dX9_read_30 : decode cX9_read 30 = .ok (.aload_n 0, 1) := dk_42 (dk_at dksX9_read_1 6 rfl rfl)
theorem dX9_read_31 : decode cX9_read 31 = .ok (.bipush 59, 2) := dk_16 59 (dk_at dksX9_read_1 7 rfl rfl)
theorem dX9_read_33 : decode cX9_read 33 = .ok (.invokevirtual 132, 3) := dk_182 0 132 (dk_at dksX9_read_1 9 rfl rfl)
theorem dX9_read_36 : decode cX9_read 36 = .ok (.aload_n 0, 1) := dk_42 (dk_at dksX9_read_1 12 rfl rfl)
theorem dX9_read_37 : decode cX9_read 37 = .ok (.getfield 44, 3) := dk_180 0 44 (dk_at dksX9_read_1 13 rfl rfl)
theorem dX9_read_40 : decode cX9_read 40 = .ok (.ifCond .eq 113, 3) := dk_153 0 113 (dk_at dksX9_read_1 16 rfl rfl)
theorem dX9_read_43 : decode cX9_read 43 = .ok (.aload_n 0, 1) := dk_42 (dk_at dksX9_read_1 19 rfl rfl)
theorem dX9_read_44 : decode cX9_read 44 = .ok (.ldc 244, 2) := dk_18 244 (dk_at dksX9_read_1 20 rfl rfl)
theorem dX9_read_46 : decode cX9_read 46 = .ok (.invokevirtual 89, 3) := dk_182 0 89 (dk_at dksX9_read_2 0 rfl rfl)
theorem dX9_read_49 : decode cX9_read 49 = .ok (.ifCond .eq 10, 3) := dk_153 0 10 (dk_at dksX9_read_2 3 rfl rfl)
theorem dX9_read_52 : decode cX9_read 52 = .ok (.aload_n 0, 1) := dk_42 (dk_at dksX9_read_2 6 rfl rfl)
theorem dX9_read_53 : decode cX9_read 53 = .ok (.invokevirtual 246, 3) := dk_182 0 246 (dk_at dksX9_read_2 7 rfl rfl)
theorem dX9_read_56 : decode cX9_read 56 = .ok (.goto (-20), 3) := dk_167 255 236 (dk_at dksX9_read_2 10 rfl rfl)
theorem dX9_read_59 : decode cX9_read 59 = .ok (.aload_n 0, 1) := dk_42 (dk_at dksX9_read_2 13 rfl rfl)
theorem dX9_read_60 : decode cX9_read 60 = .ok (.ldc 248, 2) := dk_18 248 (dk_at dksX9_read_2 14 rfl rfl)
theorem dX9_read_62 : decode cX9_read 62 = .ok (.invokevirtual 89, 3) := dk_182 0 89 (dk_at dksX9_read_2 16 rfl rfl)
theorem dX9_read_65 : decode cX9_read 65 = .ok (.ifCond .eq 10, 3) := dk_153 0 10 (dk_at dksX9_read_2 19 rfl rfl)
theorem dX9_read_68 : decode cX9_read 68 = .ok (.aload_n 0, 1) := dk_42 (dk_at dksX9_read_2 22 rfl rfl)
theorem dX9_read_69 : decode cX9_read 69 = .ok (.invokevirtual 250, 3) := dk_182 0 250 (dk_at dksX9_read_3 0 rfl rfl)
theorem dX9_read_72 : decode cX9_read 72 = .ok (.goto (-36), 3) := dk_167 255 220 (dk_at dksX9_read_3 3 rfl rfl)
theorem dX9_read_75 : decode cX9_read 75 = .ok (.aload_n 0, 1) := dk_42 (dk_at dksX9_read_3 6 rfl rfl)
theorem dX9_read_76 : decode cX9_read 76 = .ok (.ldc 252, 2) := dk_18 252 (dk_at dksX9_read_3 7 rfl rfl)
theorem dX9_read_78 : decode cX9_read 78 = .ok (.invokevirtual 89, 3) := dk_182 0 89 (dk_at dksX9_read_3 9 rfl rfl)
theorem dX9_read_81 : decode cX9_read 81 = .ok (.ifCond .eq 11, 3) := dk_153 0 11 (dk_at dksX9_read_3 12 rfl rfl)
theorem dX9_read_84 : decode cX9_read 84 = .ok (.aload_n 0, 1) := dk_42 (dk_at dksX9_read_3 15 rfl rfl)
theorem dX9_read_85 : decode cX9_read 85 = .ok (.iconst 1, 1) := dk_4 (dk_at dksX9_read_3 16 rfl rfl)
theorem dX9_read_86 : decode cX9_read 86 = .ok (.invokevirtual 253, 3) := dk_182 0 253 (dk_at dksX9_read_3 17 rfl rfl)
theorem dX9_read_89 : decode cX9_read 89 = .ok (.goto (-53), 3) := dk_167 255 203 (dk_at dksX9_read_3 20 rfl rfl)
theorem dX9_read_92 : decode cX9_read 92 = .ok (.aload_n 0, 1) := dk_42 (dk_at dksX9_read_3 23 rfl rfl)
theorem dX9_read_93 : decode cX9_read 93 = .ok (.ldc_w 256, 3) := dk_19 1 0 (dk_at dksX9_read_4 0 rfl rfl)
theorem dX9_read_96 : decode cX9_read 96 = .ok (.invokevirtual 89, 3) := dk_182 0 89 (dk_at dksX9_read_4 3 rfl rfl)
theorem dX9_read_99 : decode cX9_read 99 = .ok (.ifCond .eq 11, 3) := dk_153 0 11 (dk_at dksX9_read_4 6 rfl rfl)
theorem dX9_read_102 : decode cX9_read 102 = .ok (.aload_n 0, 1) := dk_42 (dk_at dksX9_read_4 9 rfl rfl)
theorem dX9_read_103 : decode cX9_read 103 = .ok (.iconst 0, 1) := dk_3 (dk_at dksX9_read_4 10 rfl rfl)
theorem dX9_read_104 : decode cX9_read 104 = .ok (.invokevirtual 253, 3) := dk_182 0 253 (dk_at dksX9_read_4 11 rfl rfl)
theorem dX9_read_107 : decode cX9_read 107 = .ok (.goto (-71), 3) := dk_167 255 185 (dk_at dksX9_read_4 14 rfl rfl)
theorem dX9_read_110 : decode cX9_read 110 = .ok (.aload_n 0, 1) := dk_42 (dk_at dksX9_read_4 17 rfl rfl)
theorem dX9_read_111 : decode cX9_read 111 = .ok (.ldc_w 258, 3) := dk_19 1 2 (dk_at dksX9_read_4 18 rfl rfl)
theorem dX9_read_114 : decode cX9_read 114 = .ok (.invokevirtual 89, 3) := dk_182 0 89 (dk_at dksX9_read_4 21 rfl rfl)
theorem dX9_read_117 : decode cX9_read 117 = .ok (.ifCond .eq 10, 3) := dk_153 0 10 (dk_at dksX9_read_5 0 rfl rfl)
theorem dX9_read_120 : decode cX9_read 120 = .ok (.aload_n 0, 1) := dk_42 (dk_at dksX9_read_5 3 rfl rfl)
theorem dX9_read_121 : decode cX9_read 121 = .ok (.invokevirtual 260, 3) := dk_182 1 4 (dk_at dksX9_read_5 4 rfl rfl)
theorem dX9_read_124 : decode cX9_read 124 = .ok (.goto (-88), 3) := dk_167 255 168 (dk_at dksX9_read_5 7 rfl rfl)
theorem dX9_read_127 : decode cX9_read 127 = .ok (.aload_n 0, 1) := dk_42 (dk_at dksX9_read_5 10 rfl rfl)
theorem dX9_read_128 : decode cX9_read 128 = .ok (.ldc_w 262, 3) := dk_19 1 6 (dk_at dksX9_read_5 11 rfl rfl)
theorem dX9_read_131 : decode cX9_read 131 = .ok (.invokevirtual 89, 3) := dk_182 0 89 (dk_at dksX9_read_5 14 rfl rfl)
theorem dX9_read_134 : decode cX9_read 134 = .ok (.ifCond .eq 10, 3) := dk_153 0 10 (dk_at dksX9_read_5 17 rfl rfl)
theorem dX9_read_137 : decode cX9_read 137 = .ok (.aload_n 0, 1) := dk_42 (dk_at dksX9_read_5 20 rfl rfl)
theorem dX9_read_138 : decode cX9_read 138 = .ok (.invokevirtual 264, 3) := dk_182 1 8 (dk_at dksX9_read_5 21 rfl rfl)
theorem dX9_read_141 : decode cX9_read 141 = .ok (.goto (-105), 3) := dk_167 255 151 (dk_at dksX9_read_6 0 rfl rfl)
theorem dX9_read_144 : decode cX9_read 144 = .ok (.new 93, 3) := dk_187 0 93 (dk_at dksX9_read_6 3 rfl rfl)
theorem dX9_read_147 : decode cX9_read 147 = .ok (.dup, 1) := dk_89 (dk_at dksX9_read_6 6 rfl rfl)
theorem dX9_read_148 : decode cX9_read 148 = .ok (.iconst 1, 1) := dk_4 (dk_at dksX9_read_6 7 rfl rfl)
theorem dX9_read_149 : decode cX9_read 149 = .ok (.invokespecial 95, 3) := dk_183 0 95 (dk_at dksX9_read_6 8 rfl rfl)
theorem dX9_read_152 : decode cX9_read 152 = .ok (.athrow, 1) := dk_191 (dk_at dksX9_read_6 11 rfl rfl)
theorem dX9_read_153 : decode cX9_read 153 = .ok (.aload_n 0, 1) := dk_42 (dk_at dksX9_read_6 12 rfl rfl)
theorem dX9_read_154 : decode cX9_read 154 = .ok (.getfield 18, 3) := dk_180 0 18 (dk_at dksX9_read_6 13 rfl rfl)
theorem dX9_read_157 : decode cX9_read 157 = .ok (.areturn, 1) := dk_176 (dk_at dksX9_read_6 16 rfl rfl)
abbrev cX9_next : ByteArray := prog_13_method_5_code
def yX9_next : MethodName := ⟨RX9, "next", "()V"⟩
def dkwX9_next_8 : List UInt8 := [42, 42, 180, 0, 26, 181, 0, 71, 177]
abbrev dktX9_next_8 : List UInt8 := dkwX9_next_8 ++ []
def dkwX9_next_7 : List UInt8 := [182, 0, 65, 155, 0, 7, 6, 167, 0, 4, 7, 181, 0, 44, 42, 89, 180, 0, 26, 4, 96, 181, 0, 26]
abbrev dktX9_next_7 : List UInt8 := dkwX9_next_7 ++ dktX9_next_8
def dkwX9_next_6 : List UInt8 := [96, 181, 0, 26, 167, 255, 214, 42, 5, 181, 0, 44, 167, 0, 34, 42, 18, 63, 42, 182, 0, 33]
abbrev dktX9_next_6 : List UInt8 := dkwX9_next_6 ++ dktX9_next_7
def dkwX9_next_5 : List UInt8 := [180, 0, 54, 104, 42, 182, 0, 33, 96, 16, 48, 100, 184, 0, 57, 181, 0, 54, 42, 89, 180, 0, 26, 4]
abbrev dktX9_next_5 : List UInt8 := dkwX9_next_5 ++ dktX9_next_6
def dkwX9_next_4 : List UInt8 := [153, 0, 61, 42, 3, 181, 0, 54, 42, 182, 0, 51, 153, 0, 41, 42, 17, 39, 16, 16, 10, 42]
abbrev dktX9_next_4 : List UInt8 := dkwX9_next_4 ++ dktX9_next_5
def dkwX9_next_3 : List UInt8 := [180, 0, 26, 4, 96, 181, 0, 26, 167, 255, 239, 42, 4, 181, 0, 44, 167, 0, 99, 42, 182, 0, 51]
abbrev dktX9_next_3 : List UInt8 := dkwX9_next_3 ++ dktX9_next_4
def dkwX9_next_2 : List UInt8 := [3, 181, 0, 44, 167, 0, 134, 42, 182, 0, 47, 153, 0, 31, 42, 182, 0, 47, 153, 0, 16, 42, 89]
abbrev dktX9_next_2 : List UInt8 := dkwX9_next_2 ++ dktX9_next_3
def dkwX9_next_1 : List UInt8 := [96, 181, 0, 26, 167, 255, 228, 42, 42, 180, 0, 26, 181, 0, 41, 42, 182, 0, 33, 2, 160, 0, 11, 42]
abbrev dktX9_next_1 : List UInt8 := dkwX9_next_1 ++ dktX9_next_2
def dkwX9_next_0 : List UInt8 := [42, 182, 0, 33, 16, 32, 159, 0, 12, 42, 182, 0, 33, 16, 10, 160, 0, 16, 42, 89, 180, 0, 26, 4]
abbrev dktX9_next_0 : List UInt8 := dkwX9_next_0 ++ dktX9_next_1
theorem dksX9_next_0 : cX9_next.data.toList.drop 0 = dktX9_next_0 := by decide +kernel
theorem dksX9_next_1 : cX9_next.data.toList.drop 24 = dktX9_next_1 := dk_seg dksX9_next_0 24 rfl rfl
theorem dksX9_next_2 : cX9_next.data.toList.drop 48 = dktX9_next_2 := dk_seg dksX9_next_1 24 rfl rfl
theorem dksX9_next_3 : cX9_next.data.toList.drop 71 = dktX9_next_3 := dk_seg dksX9_next_2 23 rfl rfl
theorem dksX9_next_4 : cX9_next.data.toList.drop 94 = dktX9_next_4 := dk_seg dksX9_next_3 23 rfl rfl
theorem dksX9_next_5 : cX9_next.data.toList.drop 116 = dktX9_next_5 := dk_seg dksX9_next_4 22 rfl rfl
theorem dksX9_next_6 : cX9_next.data.toList.drop 140 = dktX9_next_6 := dk_seg dksX9_next_5 24 rfl rfl
theorem dksX9_next_7 : cX9_next.data.toList.drop 162 = dktX9_next_7 := dk_seg dksX9_next_6 22 rfl rfl
theorem dksX9_next_8 : cX9_next.data.toList.drop 186 = dktX9_next_8 := dk_seg dksX9_next_7 24 rfl rfl
theorem dX9_next_0 : decode cX9_next 0 = .ok (.aload_n 0, 1) := dk_42 (dk_at dksX9_next_0 0 rfl rfl)
theorem dX9_next_1 : decode cX9_next 1 = .ok (.invokevirtual 33, 3) := dk_182 0 33 (dk_at dksX9_next_0 1 rfl rfl)
theorem dX9_next_4 : decode cX9_next 4 = .ok (.bipush 32, 2) := dk_16 32 (dk_at dksX9_next_0 4 rfl rfl)
theorem dX9_next_6 : decode cX9_next 6 = .ok (.if_icmp .eq 12, 3) := dk_159 0 12 (dk_at dksX9_next_0 6 rfl rfl)
theorem dX9_next_9 : decode cX9_next 9 = .ok (.aload_n 0, 1) := dk_42 (dk_at dksX9_next_0 9 rfl rfl)
theorem dX9_next_10 : decode cX9_next 10 = .ok (.invokevirtual 33, 3) := dk_182 0 33 (dk_at dksX9_next_0 10 rfl rfl)
theorem dX9_next_13 : decode cX9_next 13 = .ok (.bipush 10, 2) := dk_16 10 (dk_at dksX9_next_0 13 rfl rfl)
theorem dX9_next_15 : decode cX9_next 15 = .ok (.if_icmp .ne 16, 3) := dk_160 0 16 (dk_at dksX9_next_0 15 rfl rfl)
theorem dX9_next_18 : decode cX9_next 18 = .ok (.aload_n 0, 1) := dk_42 (dk_at dksX9_next_0 18 rfl rfl)
theorem dX9_next_19 : decode cX9_next 19 = .ok (.dup, 1) := dk_89 (dk_at dksX9_next_0 19 rfl rfl)
theorem dX9_next_20 : decode cX9_next 20 = .ok (.getfield 26, 3) := dk_180 0 26 (dk_at dksX9_next_0 20 rfl rfl)
theorem dX9_next_23 : decode cX9_next 23 = .ok (.iconst 1, 1) := dk_4 (dk_at dksX9_next_0 23 rfl rfl)
theorem dX9_next_24 : decode cX9_next 24 = .ok (.iadd, 1) := dk_96 (dk_at dksX9_next_1 0 rfl rfl)
theorem dX9_next_25 : decode cX9_next 25 = .ok (.putfield 26, 3) := dk_181 0 26 (dk_at dksX9_next_1 1 rfl rfl)
theorem dX9_next_28 : decode cX9_next 28 = .ok (.goto (-28), 3) := dk_167 255 228 (dk_at dksX9_next_1 4 rfl rfl)
theorem dX9_next_31 : decode cX9_next 31 = .ok (.aload_n 0, 1) := dk_42 (dk_at dksX9_next_1 7 rfl rfl)
theorem dX9_next_32 : decode cX9_next 32 = .ok (.aload_n 0, 1) := dk_42 (dk_at dksX9_next_1 8 rfl rfl)
theorem dX9_next_33 : decode cX9_next 33 = .ok (.getfield 26, 3) := dk_180 0 26 (dk_at dksX9_next_1 9 rfl rfl)
theorem dX9_next_36 : decode cX9_next 36 = .ok (.putfield 41, 3) := dk_181 0 41 (dk_at dksX9_next_1 12 rfl rfl)
theorem dX9_next_39 : decode cX9_next 39 = .ok (.aload_n 0, 1) := dk_42 (dk_at dksX9_next_1 15 rfl rfl)
theorem dX9_next_40 : decode cX9_next 40 = .ok (.invokevirtual 33, 3) := dk_182 0 33 (dk_at dksX9_next_1 16 rfl rfl)
theorem dX9_next_43 : decode cX9_next 43 = .ok (.iconst (-1), 1) := dk_2 (dk_at dksX9_next_1 19 rfl rfl)
theorem dX9_next_44 : decode cX9_next 44 = .ok (.if_icmp .ne 11, 3) := dk_160 0 11 (dk_at dksX9_next_1 20 rfl rfl)
theorem dX9_next_47 : decode cX9_next 47 = .ok (.aload_n 0, 1) := dk_42 (dk_at dksX9_next_1 23 rfl rfl)
theorem dX9_next_48 : decode cX9_next 48 = .ok (.iconst 0, 1) := dk_3 (dk_at dksX9_next_2 0 rfl rfl)
theorem dX9_next_49 : decode cX9_next 49 = .ok (.putfield 44, 3) := dk_181 0 44 (dk_at dksX9_next_2 1 rfl rfl)
theorem dX9_next_52 : decode cX9_next 52 = .ok (.goto 134, 3) := dk_167 0 134 (dk_at dksX9_next_2 4 rfl rfl)
theorem dX9_next_55 : decode cX9_next 55 = .ok (.aload_n 0, 1) := dk_42 (dk_at dksX9_next_2 7 rfl rfl)
theorem dX9_next_56 : decode cX9_next 56 = .ok (.invokevirtual 47, 3) := dk_182 0 47 (dk_at dksX9_next_2 8 rfl rfl)
theorem dX9_next_59 : decode cX9_next 59 = .ok (.ifCond .eq 31, 3) := dk_153 0 31 (dk_at dksX9_next_2 11 rfl rfl)
theorem dX9_next_62 : decode cX9_next 62 = .ok (.aload_n 0, 1) := dk_42 (dk_at dksX9_next_2 14 rfl rfl)
theorem dX9_next_63 : decode cX9_next 63 = .ok (.invokevirtual 47, 3) := dk_182 0 47 (dk_at dksX9_next_2 15 rfl rfl)
theorem dX9_next_66 : decode cX9_next 66 = .ok (.ifCond .eq 16, 3) := dk_153 0 16 (dk_at dksX9_next_2 18 rfl rfl)
theorem dX9_next_69 : decode cX9_next 69 = .ok (.aload_n 0, 1) := dk_42 (dk_at dksX9_next_2 21 rfl rfl)
theorem dX9_next_70 : decode cX9_next 70 = .ok (.dup, 1) := dk_89 (dk_at dksX9_next_2 22 rfl rfl)
theorem dX9_next_71 : decode cX9_next 71 = .ok (.getfield 26, 3) := dk_180 0 26 (dk_at dksX9_next_3 0 rfl rfl)
theorem dX9_next_74 : decode cX9_next 74 = .ok (.iconst 1, 1) := dk_4 (dk_at dksX9_next_3 3 rfl rfl)
theorem dX9_next_75 : decode cX9_next 75 = .ok (.iadd, 1) := dk_96 (dk_at dksX9_next_3 4 rfl rfl)
theorem dX9_next_76 : decode cX9_next 76 = .ok (.putfield 26, 3) := dk_181 0 26 (dk_at dksX9_next_3 5 rfl rfl)
theorem dX9_next_79 : decode cX9_next 79 = .ok (.goto (-17), 3) := dk_167 255 239 (dk_at dksX9_next_3 8 rfl rfl)
theorem dX9_next_82 : decode cX9_next 82 = .ok (.aload_n 0, 1) := dk_42 (dk_at dksX9_next_3 11 rfl rfl)
theorem dX9_next_83 : decode cX9_next 83 = .ok (.iconst 1, 1) := dk_4 (dk_at dksX9_next_3 12 rfl rfl)
theorem dX9_next_84 : decode cX9_next 84 = .ok (.putfield 44, 3) := dk_181 0 44 (dk_at dksX9_next_3 13 rfl rfl)
theorem dX9_next_87 : decode cX9_next 87 = .ok (.goto 99, 3) := dk_167 0 99 (dk_at dksX9_next_3 16 rfl rfl)
theorem dX9_next_90 : decode cX9_next 90 = .ok (.aload_n 0, 1) := dk_42 (dk_at dksX9_next_3 19 rfl rfl)
theorem dX9_next_91 : decode cX9_next 91 = .ok (.invokevirtual 51, 3) := dk_182 0 51 (dk_at dksX9_next_3 20 rfl rfl)
theorem dX9_next_94 : decode cX9_next 94 = .ok (.ifCond .eq 61, 3) := dk_153 0 61 (dk_at dksX9_next_4 0 rfl rfl)
theorem dX9_next_97 : decode cX9_next 97 = .ok (.aload_n 0, 1) := dk_42 (dk_at dksX9_next_4 3 rfl rfl)
theorem dX9_next_98 : decode cX9_next 98 = .ok (.iconst 0, 1) := dk_3 (dk_at dksX9_next_4 4 rfl rfl)
theorem dX9_next_99 : decode cX9_next 99 = .ok (.putfield 54, 3) := dk_181 0 54 (dk_at dksX9_next_4 5 rfl rfl)
theorem dX9_next_102 : decode cX9_next 102 = .ok (.aload_n 0, 1) := dk_42 (dk_at dksX9_next_4 8 rfl rfl)
theorem dX9_next_103 : decode cX9_next 103 = .ok (.invokevirtual 51, 3) := dk_182 0 51 (dk_at dksX9_next_4 9 rfl rfl)
theorem dX9_next_106 : decode cX9_next 106 = .ok (.ifCond .eq 41, 3) := dk_153 0 41 (dk_at dksX9_next_4 12 rfl rfl)
theorem dX9_next_109 : decode cX9_next 109 = .ok (.aload_n 0, 1) := dk_42 (dk_at dksX9_next_4 15 rfl rfl)
theorem dX9_next_110 : decode cX9_next 110 = .ok (.sipush 10000, 3) := dk_17 39 16 (dk_at dksX9_next_4 16 rfl rfl)
theorem dX9_next_113 : decode cX9_next 113 = .ok (.bipush 10, 2) := dk_16 10 (dk_at dksX9_next_4 19 rfl rfl)
theorem dX9_next_115 : decode cX9_next 115 = .ok (.aload_n 0, 1) := dk_42 (dk_at dksX9_next_4 21 rfl rfl)
theorem dX9_next_116 : decode cX9_next 116 = .ok (.getfield 54, 3) := dk_180 0 54 (dk_at dksX9_next_5 0 rfl rfl)
theorem dX9_next_119 : decode cX9_next 119 = .ok (.imul, 1) := dk_104 (dk_at dksX9_next_5 3 rfl rfl)
theorem dX9_next_120 : decode cX9_next 120 = .ok (.aload_n 0, 1) := dk_42 (dk_at dksX9_next_5 4 rfl rfl)
theorem dX9_next_121 : decode cX9_next 121 = .ok (.invokevirtual 33, 3) := dk_182 0 33 (dk_at dksX9_next_5 5 rfl rfl)
theorem dX9_next_124 : decode cX9_next 124 = .ok (.iadd, 1) := dk_96 (dk_at dksX9_next_5 8 rfl rfl)
theorem dX9_next_125 : decode cX9_next 125 = .ok (.bipush 48, 2) := dk_16 48 (dk_at dksX9_next_5 9 rfl rfl)
theorem dX9_next_127 : decode cX9_next 127 = .ok (.isub, 1) := dk_100 (dk_at dksX9_next_5 11 rfl rfl)
theorem dX9_next_128 : decode cX9_next 128 = .ok (.invokestatic 57, 3) := dk_184 0 57 (dk_at dksX9_next_5 12 rfl rfl)
theorem dX9_next_131 : decode cX9_next 131 = .ok (.putfield 54, 3) := dk_181 0 54 (dk_at dksX9_next_5 15 rfl rfl)
theorem dX9_next_134 : decode cX9_next 134 = .ok (.aload_n 0, 1) := dk_42 (dk_at dksX9_next_5 18 rfl rfl)
theorem dX9_next_135 : decode cX9_next 135 = .ok (.dup, 1) := dk_89 (dk_at dksX9_next_5 19 rfl rfl)
theorem dX9_next_136 : decode cX9_next 136 = .ok (.getfield 26, 3) := dk_180 0 26 (dk_at dksX9_next_5 20 rfl rfl)
theorem dX9_next_139 : decode cX9_next 139 = .ok (.iconst 1, 1) := dk_4 (dk_at dksX9_next_5 23 rfl rfl)
theorem dX9_next_140 : decode cX9_next 140 = .ok (.iadd, 1) := dk_96 (dk_at dksX9_next_6 0 rfl rfl)
theorem dX9_next_141 : decode cX9_next 141 = .ok (.putfield 26, 3) := dk_181 0 26 (dk_at dksX9_next_6 1 rfl rfl)
theorem dX9_next_144 : decode cX9_next 144 = .ok (.goto (-42), 3) := dk_167 255 214 (dk_at dksX9_next_6 4 rfl rfl)
theorem dX9_next_147 : decode cX9_next 147 = .ok (.aload_n 0, 1) := dk_42 (dk_at dksX9_next_6 7 rfl rfl)
theorem dX9_next_148 : decode cX9_next 148 = .ok (.iconst 2, 1) := dk_5 (dk_at dksX9_next_6 8 rfl rfl)
theorem dX9_next_149 : decode cX9_next 149 = .ok (.putfield 44, 3) := dk_181 0 44 (dk_at dksX9_next_6 9 rfl rfl)
theorem dX9_next_152 : decode cX9_next 152 = .ok (.goto 34, 3) := dk_167 0 34 (dk_at dksX9_next_6 12 rfl rfl)
theorem dX9_next_155 : decode cX9_next 155 = .ok (.aload_n 0, 1) := dk_42 (dk_at dksX9_next_6 15 rfl rfl)
theorem dX9_next_156 : decode cX9_next 156 = .ok (.ldc 63, 2) := dk_18 63 (dk_at dksX9_next_6 16 rfl rfl)
theorem dX9_next_158 : decode cX9_next 158 = .ok (.aload_n 0, 1) := dk_42 (dk_at dksX9_next_6 18 rfl rfl)
theorem dX9_next_159 : decode cX9_next 159 = .ok (.invokevirtual 33, 3) := dk_182 0 33 (dk_at dksX9_next_6 19 rfl rfl)
theorem dX9_next_162 : decode cX9_next 162 = .ok (.invokevirtual 65, 3) := dk_182 0 65 (dk_at dksX9_next_7 0 rfl rfl)
theorem dX9_next_165 : decode cX9_next 165 = .ok (.ifCond .lt 7, 3) := dk_155 0 7 (dk_at dksX9_next_7 3 rfl rfl)
theorem dX9_next_168 : decode cX9_next 168 = .ok (.iconst 3, 1) := dk_6 (dk_at dksX9_next_7 6 rfl rfl)
theorem dX9_next_169 : decode cX9_next 169 = .ok (.goto 4, 3) := dk_167 0 4 (dk_at dksX9_next_7 7 rfl rfl)
theorem dX9_next_172 : decode cX9_next 172 = .ok (.iconst 4, 1) := dk_7 (dk_at dksX9_next_7 10 rfl rfl)
theorem dX9_next_173 : decode cX9_next 173 = .ok (.putfield 44, 3) := dk_181 0 44 (dk_at dksX9_next_7 11 rfl rfl)
theorem dX9_next_176 : decode cX9_next 176 = .ok (.aload_n 0, 1) := dk_42 (dk_at dksX9_next_7 14 rfl rfl)
theorem dX9_next_177 : decode cX9_next 177 = .ok (.dup, 1) := dk_89 (dk_at dksX9_next_7 15 rfl rfl)
theorem dX9_next_178 : decode cX9_next 178 = .ok (.getfield 26, 3) := dk_180 0 26 (dk_at dksX9_next_7 16 rfl rfl)
theorem dX9_next_181 : decode cX9_next 181 = .ok (.iconst 1, 1) := dk_4 (dk_at dksX9_next_7 19 rfl rfl)
theorem dX9_next_182 : decode cX9_next 182 = .ok (.iadd, 1) := dk_96 (dk_at dksX9_next_7 20 rfl rfl)
theorem dX9_next_183 : decode cX9_next 183 = .ok (.putfield 26, 3) := dk_181 0 26 (dk_at dksX9_next_7 21 rfl rfl)
theorem dX9_next_186 : decode cX9_next 186 = .ok (.aload_n 0, 1) := dk_42 (dk_at dksX9_next_8 0 rfl rfl)
theorem dX9_next_187 : decode cX9_next 187 = .ok (.aload_n 0, 1) := dk_42 (dk_at dksX9_next_8 1 rfl rfl)
theorem dX9_next_188 : decode cX9_next 188 = .ok (.getfield 26, 3) := dk_180 0 26 (dk_at dksX9_next_8 2 rfl rfl)
theorem dX9_next_191 : decode cX9_next 191 = .ok (.putfield 71, 3) := dk_181 0 71 (dk_at dksX9_next_8 5 rfl rfl)
theorem dX9_next_194 : decode cX9_next 194 = .ok (.return_, 1) := dk_177 (dk_at dksX9_next_8 8 rfl rfl)
abbrev cX9_here : ByteArray := prog_13_method_2_code
def yX9_here : MethodName := ⟨RX9, "here", "()I"⟩
def dkwX9_here_1 : List UInt8 := [17, 0, 255, 126, 167, 0, 4, 2, 172]
abbrev dktX9_here_1 : List UInt8 := dkwX9_here_1 ++ []
def dkwX9_here_0 : List UInt8 := [42, 180, 0, 26, 42, 180, 0, 22, 162, 0, 22, 42, 180, 0, 3, 180, 0, 29, 42, 180, 0, 26, 51]
abbrev dktX9_here_0 : List UInt8 := dkwX9_here_0 ++ dktX9_here_1
theorem dksX9_here_0 : cX9_here.data.toList.drop 0 = dktX9_here_0 := by decide +kernel
theorem dksX9_here_1 : cX9_here.data.toList.drop 23 = dktX9_here_1 := dk_seg dksX9_here_0 23 rfl rfl
theorem dX9_here_0 : decode cX9_here 0 = .ok (.aload_n 0, 1) := dk_42 (dk_at dksX9_here_0 0 rfl rfl)
theorem dX9_here_1 : decode cX9_here 1 = .ok (.getfield 26, 3) := dk_180 0 26 (dk_at dksX9_here_0 1 rfl rfl)
theorem dX9_here_4 : decode cX9_here 4 = .ok (.aload_n 0, 1) := dk_42 (dk_at dksX9_here_0 4 rfl rfl)
theorem dX9_here_5 : decode cX9_here 5 = .ok (.getfield 22, 3) := dk_180 0 22 (dk_at dksX9_here_0 5 rfl rfl)
theorem dX9_here_8 : decode cX9_here 8 = .ok (.if_icmp .ge 22, 3) := dk_162 0 22 (dk_at dksX9_here_0 8 rfl rfl)
theorem dX9_here_11 : decode cX9_here 11 = .ok (.aload_n 0, 1) := dk_42 (dk_at dksX9_here_0 11 rfl rfl)
theorem dX9_here_12 : decode cX9_here 12 = .ok (.getfield 3, 3) := dk_180 0 3 (dk_at dksX9_here_0 12 rfl rfl)
theorem dX9_here_15 : decode cX9_here 15 = .ok (.getfield 29, 3) := dk_180 0 29 (dk_at dksX9_here_0 15 rfl rfl)
theorem dX9_here_18 : decode cX9_here 18 = .ok (.aload_n 0, 1) := dk_42 (dk_at dksX9_here_0 18 rfl rfl)
theorem dX9_here_19 : decode cX9_here 19 = .ok (.getfield 26, 3) := dk_180 0 26 (dk_at dksX9_here_0 19 rfl rfl)
theorem dX9_here_22 : decode cX9_here 22 = .ok (.baload, 1) := dk_51 (dk_at dksX9_here_0 22 rfl rfl)
theorem dX9_here_23 : decode cX9_here 23 = .ok (.sipush 255, 3) := dk_17 0 255 (dk_at dksX9_here_1 0 rfl rfl)
theorem dX9_here_26 : decode cX9_here 26 = .ok (.iand, 1) := dk_126 (dk_at dksX9_here_1 3 rfl rfl)
theorem dX9_here_27 : decode cX9_here 27 = .ok (.goto 4, 3) := dk_167 0 4 (dk_at dksX9_here_1 4 rfl rfl)
theorem dX9_here_30 : decode cX9_here 30 = .ok (.iconst (-1), 1) := dk_2 (dk_at dksX9_here_1 7 rfl rfl)
theorem dX9_here_31 : decode cX9_here 31 = .ok (.ireturn, 1) := dk_172 (dk_at dksX9_here_1 8 rfl rfl)
abbrev cX9_isLetter : ByteArray := prog_13_method_3_code
def yX9_isLetter : MethodName := ⟨RX9, "isLetter", "()Z"⟩
def dkwX9_isLetter_0 : List UInt8 := [42, 182, 0, 33, 16, 97, 16, 122, 184, 0, 37, 172]
abbrev dktX9_isLetter_0 : List UInt8 := dkwX9_isLetter_0 ++ []
theorem dksX9_isLetter_0 : cX9_isLetter.data.toList.drop 0 = dktX9_isLetter_0 := by decide +kernel
theorem dX9_isLetter_0 : decode cX9_isLetter 0 = .ok (.aload_n 0, 1) := dk_42 (dk_at dksX9_isLetter_0 0 rfl rfl)
theorem dX9_isLetter_1 : decode cX9_isLetter 1 = .ok (.invokevirtual 33, 3) := dk_182 0 33 (dk_at dksX9_isLetter_0 1 rfl rfl)
theorem dX9_isLetter_4 : decode cX9_isLetter 4 = .ok (.bipush 97, 2) := dk_16 97 (dk_at dksX9_isLetter_0 4 rfl rfl)
theorem dX9_isLetter_6 : decode cX9_isLetter 6 = .ok (.bipush 122, 2) := dk_16 122 (dk_at dksX9_isLetter_0 6 rfl rfl)
theorem dX9_isLetter_8 : decode cX9_isLetter 8 = .ok (.invokestatic 37, 3) := dk_184 0 37 (dk_at dksX9_isLetter_0 8 rfl rfl)
theorem dX9_isLetter_11 : decode cX9_isLetter 11 = .ok (.ireturn, 1) := dk_172 (dk_at dksX9_isLetter_0 11 rfl rfl)
abbrev cX9_isDigit : ByteArray := prog_13_method_4_code
def yX9_isDigit : MethodName := ⟨RX9, "isDigit", "()Z"⟩
def dkwX9_isDigit_0 : List UInt8 := [42, 182, 0, 33, 16, 48, 16, 57, 184, 0, 37, 172]
abbrev dktX9_isDigit_0 : List UInt8 := dkwX9_isDigit_0 ++ []
theorem dksX9_isDigit_0 : cX9_isDigit.data.toList.drop 0 = dktX9_isDigit_0 := by decide +kernel
theorem dX9_isDigit_0 : decode cX9_isDigit 0 = .ok (.aload_n 0, 1) := dk_42 (dk_at dksX9_isDigit_0 0 rfl rfl)
theorem dX9_isDigit_1 : decode cX9_isDigit 1 = .ok (.invokevirtual 33, 3) := dk_182 0 33 (dk_at dksX9_isDigit_0 1 rfl rfl)
theorem dX9_isDigit_4 : decode cX9_isDigit 4 = .ok (.bipush 48, 2) := dk_16 48 (dk_at dksX9_isDigit_0 4 rfl rfl)
theorem dX9_isDigit_6 : decode cX9_isDigit 6 = .ok (.bipush 57, 2) := dk_16 57 (dk_at dksX9_isDigit_0 6 rfl rfl)
theorem dX9_isDigit_8 : decode cX9_isDigit 8 = .ok (.invokestatic 37, 3) := dk_184 0 37 (dk_at dksX9_isDigit_0 8 rfl rfl)
theorem dX9_isDigit_11 : decode cX9_isDigit 11 = .ok (.ireturn, 1) := dk_172 (dk_at dksX9_isDigit_0 11 rfl rfl)
abbrev cX9_is : ByteArray := prog_13_method_6_code
def yX9_is : MethodName := ⟨RX9, "is", "(Ljava/lang/String;)Z"⟩
def dkwX9_is_2 : List UInt8 := [42, 180, 0, 41, 28, 96, 51, 159, 0, 5, 3, 172, 132, 2, 1, 167, 255, 221, 4, 172]
abbrev dktX9_is_2 : List UInt8 := dkwX9_is_2 ++ []
def dkwX9_is_1 : List UInt8 := [3, 172, 3, 61, 28, 43, 182, 0, 74, 162, 0, 33, 43, 28, 182, 0, 77, 42, 180, 0, 3, 180, 0, 29]
abbrev dktX9_is_1 : List UInt8 := dkwX9_is_1 ++ dktX9_is_2
def dkwX9_is_0 : List UInt8 := [42, 180, 0, 44, 4, 160, 0, 19, 43, 182, 0, 74, 42, 180, 0, 71, 42, 180, 0, 41, 100, 159, 0, 5]
abbrev dktX9_is_0 : List UInt8 := dkwX9_is_0 ++ dktX9_is_1
theorem dksX9_is_0 : cX9_is.data.toList.drop 0 = dktX9_is_0 := by decide +kernel
theorem dksX9_is_1 : cX9_is.data.toList.drop 24 = dktX9_is_1 := dk_seg dksX9_is_0 24 rfl rfl
theorem dksX9_is_2 : cX9_is.data.toList.drop 48 = dktX9_is_2 := dk_seg dksX9_is_1 24 rfl rfl
theorem dX9_is_0 : decode cX9_is 0 = .ok (.aload_n 0, 1) := dk_42 (dk_at dksX9_is_0 0 rfl rfl)
theorem dX9_is_1 : decode cX9_is 1 = .ok (.getfield 44, 3) := dk_180 0 44 (dk_at dksX9_is_0 1 rfl rfl)
theorem dX9_is_4 : decode cX9_is 4 = .ok (.iconst 1, 1) := dk_4 (dk_at dksX9_is_0 4 rfl rfl)
theorem dX9_is_5 : decode cX9_is 5 = .ok (.if_icmp .ne 19, 3) := dk_160 0 19 (dk_at dksX9_is_0 5 rfl rfl)
theorem dX9_is_8 : decode cX9_is 8 = .ok (.aload_n 1, 1) := dk_43 (dk_at dksX9_is_0 8 rfl rfl)
theorem dX9_is_9 : decode cX9_is 9 = .ok (.invokevirtual 74, 3) := dk_182 0 74 (dk_at dksX9_is_0 9 rfl rfl)
theorem dX9_is_12 : decode cX9_is 12 = .ok (.aload_n 0, 1) := dk_42 (dk_at dksX9_is_0 12 rfl rfl)
theorem dX9_is_13 : decode cX9_is 13 = .ok (.getfield 71, 3) := dk_180 0 71 (dk_at dksX9_is_0 13 rfl rfl)
theorem dX9_is_16 : decode cX9_is 16 = .ok (.aload_n 0, 1) := dk_42 (dk_at dksX9_is_0 16 rfl rfl)
theorem dX9_is_17 : decode cX9_is 17 = .ok (.getfield 41, 3) := dk_180 0 41 (dk_at dksX9_is_0 17 rfl rfl)
theorem dX9_is_20 : decode cX9_is 20 = .ok (.isub, 1) := dk_100 (dk_at dksX9_is_0 20 rfl rfl)
theorem dX9_is_21 : decode cX9_is 21 = .ok (.if_icmp .eq 5, 3) := dk_159 0 5 (dk_at dksX9_is_0 21 rfl rfl)
theorem dX9_is_24 : decode cX9_is 24 = .ok (.iconst 0, 1) := dk_3 (dk_at dksX9_is_1 0 rfl rfl)
theorem dX9_is_25 : decode cX9_is 25 = .ok (.ireturn, 1) := dk_172 (dk_at dksX9_is_1 1 rfl rfl)
theorem dX9_is_26 : decode cX9_is 26 = .ok (.iconst 0, 1) := dk_3 (dk_at dksX9_is_1 2 rfl rfl)
theorem dX9_is_27 : decode cX9_is 27 = .ok (.istore_n 2, 1) := dk_61 (dk_at dksX9_is_1 3 rfl rfl)
theorem dX9_is_28 : decode cX9_is 28 = .ok (.iload_n 2, 1) := dk_28 (dk_at dksX9_is_1 4 rfl rfl)
theorem dX9_is_29 : decode cX9_is 29 = .ok (.aload_n 1, 1) := dk_43 (dk_at dksX9_is_1 5 rfl rfl)
theorem dX9_is_30 : decode cX9_is 30 = .ok (.invokevirtual 74, 3) := dk_182 0 74 (dk_at dksX9_is_1 6 rfl rfl)
theorem dX9_is_33 : decode cX9_is 33 = .ok (.if_icmp .ge 33, 3) := dk_162 0 33 (dk_at dksX9_is_1 9 rfl rfl)
theorem dX9_is_36 : decode cX9_is 36 = .ok (.aload_n 1, 1) := dk_43 (dk_at dksX9_is_1 12 rfl rfl)
theorem dX9_is_37 : decode cX9_is 37 = .ok (.iload_n 2, 1) := dk_28 (dk_at dksX9_is_1 13 rfl rfl)
theorem dX9_is_38 : decode cX9_is 38 = .ok (.invokevirtual 77, 3) := dk_182 0 77 (dk_at dksX9_is_1 14 rfl rfl)
theorem dX9_is_41 : decode cX9_is 41 = .ok (.aload_n 0, 1) := dk_42 (dk_at dksX9_is_1 17 rfl rfl)
theorem dX9_is_42 : decode cX9_is 42 = .ok (.getfield 3, 3) := dk_180 0 3 (dk_at dksX9_is_1 18 rfl rfl)
theorem dX9_is_45 : decode cX9_is 45 = .ok (.getfield 29, 3) := dk_180 0 29 (dk_at dksX9_is_1 21 rfl rfl)
theorem dX9_is_48 : decode cX9_is 48 = .ok (.aload_n 0, 1) := dk_42 (dk_at dksX9_is_2 0 rfl rfl)
theorem dX9_is_49 : decode cX9_is 49 = .ok (.getfield 41, 3) := dk_180 0 41 (dk_at dksX9_is_2 1 rfl rfl)
theorem dX9_is_52 : decode cX9_is 52 = .ok (.iload_n 2, 1) := dk_28 (dk_at dksX9_is_2 4 rfl rfl)
theorem dX9_is_53 : decode cX9_is 53 = .ok (.iadd, 1) := dk_96 (dk_at dksX9_is_2 5 rfl rfl)
theorem dX9_is_54 : decode cX9_is 54 = .ok (.baload, 1) := dk_51 (dk_at dksX9_is_2 6 rfl rfl)
theorem dX9_is_55 : decode cX9_is 55 = .ok (.if_icmp .eq 5, 3) := dk_159 0 5 (dk_at dksX9_is_2 7 rfl rfl)
theorem dX9_is_58 : decode cX9_is 58 = .ok (.iconst 0, 1) := dk_3 (dk_at dksX9_is_2 10 rfl rfl)
theorem dX9_is_59 : decode cX9_is 59 = .ok (.ireturn, 1) := dk_172 (dk_at dksX9_is_2 11 rfl rfl)
theorem dX9_is_60 : decode cX9_is 60 = .ok (.iinc 2 1, 3) := dk_132 2 1 (dk_at dksX9_is_2 12 rfl rfl)
theorem dX9_is_63 : decode cX9_is 63 = .ok (.goto (-35), 3) := dk_167 255 221 (dk_at dksX9_is_2 15 rfl rfl)
theorem dX9_is_66 : decode cX9_is 66 = .ok (.iconst 1, 1) := dk_4 (dk_at dksX9_is_2 18 rfl rfl)
theorem dX9_is_67 : decode cX9_is 67 = .ok (.ireturn, 1) := dk_172 (dk_at dksX9_is_2 19 rfl rfl)
abbrev cX9_number : ByteArray := prog_13_method_13_code
def yX9_number : MethodName := ⟨RX9, "number", "(II)I"⟩
def dkwX9_number_2 : List UInt8 := [4, 167, 0, 4, 3, 5, 182, 0, 98, 42, 180, 0, 54, 62, 42, 182, 0, 102, 29, 172]
abbrev dktX9_number_2 : List UInt8 := dkwX9_number_2 ++ []
def dkwX9_number_1 : List UInt8 := [180, 0, 41, 100, 6, 163, 0, 23, 42, 180, 0, 54, 27, 161, 0, 15, 42, 180, 0, 54, 28, 163, 0, 7]
abbrev dktX9_number_1 : List UInt8 := dkwX9_number_1 ++ dktX9_number_2
def dkwX9_number_0 : List UInt8 := [42, 42, 180, 0, 44, 5, 160, 0, 7, 4, 167, 0, 4, 3, 4, 182, 0, 98, 42, 42, 180, 0, 71, 42]
abbrev dktX9_number_0 : List UInt8 := dkwX9_number_0 ++ dktX9_number_1
theorem dksX9_number_0 : cX9_number.data.toList.drop 0 = dktX9_number_0 := by decide +kernel
theorem dksX9_number_1 : cX9_number.data.toList.drop 24 = dktX9_number_1 := dk_seg dksX9_number_0 24 rfl rfl
theorem dksX9_number_2 : cX9_number.data.toList.drop 48 = dktX9_number_2 := dk_seg dksX9_number_1 24 rfl rfl
theorem dX9_number_0 : decode cX9_number 0 = .ok (.aload_n 0, 1) := dk_42 (dk_at dksX9_number_0 0 rfl rfl)
theorem dX9_number_1 : decode cX9_number 1 = .ok (.aload_n 0, 1) := dk_42 (dk_at dksX9_number_0 1 rfl rfl)
theorem dX9_number_2 : decode cX9_number 2 = .ok (.getfield 44, 3) := dk_180 0 44 (dk_at dksX9_number_0 2 rfl rfl)
theorem dX9_number_5 : decode cX9_number 5 = .ok (.iconst 2, 1) := dk_5 (dk_at dksX9_number_0 5 rfl rfl)
theorem dX9_number_6 : decode cX9_number 6 = .ok (.if_icmp .ne 7, 3) := dk_160 0 7 (dk_at dksX9_number_0 6 rfl rfl)
theorem dX9_number_9 : decode cX9_number 9 = .ok (.iconst 1, 1) := dk_4 (dk_at dksX9_number_0 9 rfl rfl)
theorem dX9_number_10 : decode cX9_number 10 = .ok (.goto 4, 3) := dk_167 0 4 (dk_at dksX9_number_0 10 rfl rfl)
theorem dX9_number_13 : decode cX9_number 13 = .ok (.iconst 0, 1) := dk_3 (dk_at dksX9_number_0 13 rfl rfl)
theorem dX9_number_14 : decode cX9_number 14 = .ok (.iconst 1, 1) := dk_4 (dk_at dksX9_number_0 14 rfl rfl)
theorem dX9_number_15 : decode cX9_number 15 = .ok (.invokevirtual 98, 3) := dk_182 0 98 (dk_at dksX9_number_0 15 rfl rfl)
theorem dX9_number_18 : decode cX9_number 18 = .ok (.aload_n 0, 1) := dk_42 (dk_at dksX9_number_0 18 rfl rfl)
theorem dX9_number_19 : decode cX9_number 19 = .ok (.aload_n 0, 1) := dk_42 (dk_at dksX9_number_0 19 rfl rfl)
theorem dX9_number_20 : decode cX9_number 20 = .ok (.getfield 71, 3) := dk_180 0 71 (dk_at dksX9_number_0 20 rfl rfl)
theorem dX9_number_23 : decode cX9_number 23 = .ok (.aload_n 0, 1) := dk_42 (dk_at dksX9_number_0 23 rfl rfl)
theorem dX9_number_24 : decode cX9_number 24 = .ok (.getfield 41, 3) := dk_180 0 41 (dk_at dksX9_number_1 0 rfl rfl)
theorem dX9_number_27 : decode cX9_number 27 = .ok (.isub, 1) := dk_100 (dk_at dksX9_number_1 3 rfl rfl)
theorem dX9_number_28 : decode cX9_number 28 = .ok (.iconst 3, 1) := dk_6 (dk_at dksX9_number_1 4 rfl rfl)
theorem dX9_number_29 : decode cX9_number 29 = .ok (.if_icmp .gt 23, 3) := dk_163 0 23 (dk_at dksX9_number_1 5 rfl rfl)
theorem dX9_number_32 : decode cX9_number 32 = .ok (.aload_n 0, 1) := dk_42 (dk_at dksX9_number_1 8 rfl rfl)
theorem dX9_number_33 : decode cX9_number 33 = .ok (.getfield 54, 3) := dk_180 0 54 (dk_at dksX9_number_1 9 rfl rfl)
theorem dX9_number_36 : decode cX9_number 36 = .ok (.iload_n 1, 1) := dk_27 (dk_at dksX9_number_1 12 rfl rfl)
theorem dX9_number_37 : decode cX9_number 37 = .ok (.if_icmp .lt 15, 3) := dk_161 0 15 (dk_at dksX9_number_1 13 rfl rfl)
theorem dX9_number_40 : decode cX9_number 40 = .ok (.aload_n 0, 1) := dk_42 (dk_at dksX9_number_1 16 rfl rfl)
theorem dX9_number_41 : decode cX9_number 41 = .ok (.getfield 54, 3) := dk_180 0 54 (dk_at dksX9_number_1 17 rfl rfl)
theorem dX9_number_44 : decode cX9_number 44 = .ok (.iload_n 2, 1) := dk_28 (dk_at dksX9_number_1 20 rfl rfl)
theorem dX9_number_45 : decode cX9_number 45 = .ok (.if_icmp .gt 7, 3) := dk_163 0 7 (dk_at dksX9_number_1 21 rfl rfl)
theorem dX9_number_48 : decode cX9_number 48 = .ok (.iconst 1, 1) := dk_4 (dk_at dksX9_number_2 0 rfl rfl)
theorem dX9_number_49 : decode cX9_number 49 = .ok (.goto 4, 3) := dk_167 0 4 (dk_at dksX9_number_2 1 rfl rfl)
theorem dX9_number_52 : decode cX9_number 52 = .ok (.iconst 0, 1) := dk_3 (dk_at dksX9_number_2 4 rfl rfl)
theorem dX9_number_53 : decode cX9_number 53 = .ok (.iconst 2, 1) := dk_5 (dk_at dksX9_number_2 5 rfl rfl)
theorem dX9_number_54 : decode cX9_number 54 = .ok (.invokevirtual 98, 3) := dk_182 0 98 (dk_at dksX9_number_2 6 rfl rfl)
theorem dX9_number_57 : decode cX9_number 57 = .ok (.aload_n 0, 1) := dk_42 (dk_at dksX9_number_2 9 rfl rfl)
theorem dX9_number_58 : decode cX9_number 58 = .ok (.getfield 54, 3) := dk_180 0 54 (dk_at dksX9_number_2 10 rfl rfl)
theorem dX9_number_61 : decode cX9_number 61 = .ok (.istore_n 3, 1) := dk_62 (dk_at dksX9_number_2 13 rfl rfl)
theorem dX9_number_62 : decode cX9_number 62 = .ok (.aload_n 0, 1) := dk_42 (dk_at dksX9_number_2 14 rfl rfl)
theorem dX9_number_63 : decode cX9_number 63 = .ok (.invokevirtual 102, 3) := dk_182 0 102 (dk_at dksX9_number_2 15 rfl rfl)
theorem dX9_number_66 : decode cX9_number 66 = .ok (.iload_n 3, 1) := dk_29 (dk_at dksX9_number_2 18 rfl rfl)
theorem dX9_number_67 : decode cX9_number 67 = .ok (.ireturn, 1) := dk_172 (dk_at dksX9_number_2 19 rfl rfl)
abbrev cX9_want : ByteArray := prog_13_method_10_code
def yX9_want : MethodName := ⟨RX9, "want", "(ZI)V"⟩
def dkwX9_want_0 : List UInt8 := [27, 154, 0, 12, 187, 0, 93, 89, 28, 183, 0, 95, 191, 177]
abbrev dktX9_want_0 : List UInt8 := dkwX9_want_0 ++ []
theorem dksX9_want_0 : cX9_want.data.toList.drop 0 = dktX9_want_0 := by decide +kernel
theorem dX9_want_0 : decode cX9_want 0 = .ok (.iload_n 1, 1) := dk_27 (dk_at dksX9_want_0 0 rfl rfl)
theorem dX9_want_1 : decode cX9_want 1 = .ok (.ifCond .ne 12, 3) := dk_154 0 12 (dk_at dksX9_want_0 1 rfl rfl)
theorem dX9_want_4 : decode cX9_want 4 = .ok (.new 93, 3) := dk_187 0 93 (dk_at dksX9_want_0 4 rfl rfl)
theorem dX9_want_7 : decode cX9_want 7 = .ok (.dup, 1) := dk_89 (dk_at dksX9_want_0 7 rfl rfl)
theorem dX9_want_8 : decode cX9_want 8 = .ok (.iload_n 2, 1) := dk_28 (dk_at dksX9_want_0 8 rfl rfl)
theorem dX9_want_9 : decode cX9_want 9 = .ok (.invokespecial 95, 3) := dk_183 0 95 (dk_at dksX9_want_0 9 rfl rfl)
theorem dX9_want_12 : decode cX9_want 12 = .ok (.athrow, 1) := dk_191 (dk_at dksX9_want_0 12 rfl rfl)
theorem dX9_want_13 : decode cX9_want 13 = .ok (.return_, 1) := dk_177 (dk_at dksX9_want_0 13 rfl rfl)
abbrev cX9_need : ByteArray := prog_13_method_12_code
def yX9_need : MethodName := ⟨RX9, "need", "(I)V"⟩
def dkwX9_need_0 : List UInt8 := [42, 42, 27, 182, 0, 105, 4, 182, 0, 98, 42, 182, 0, 102, 177]
abbrev dktX9_need_0 : List UInt8 := dkwX9_need_0 ++ []
theorem dksX9_need_0 : cX9_need.data.toList.drop 0 = dktX9_need_0 := by decide +kernel
theorem dX9_need_0 : decode cX9_need 0 = .ok (.aload_n 0, 1) := dk_42 (dk_at dksX9_need_0 0 rfl rfl)
theorem dX9_need_1 : decode cX9_need 1 = .ok (.aload_n 0, 1) := dk_42 (dk_at dksX9_need_0 1 rfl rfl)
theorem dX9_need_2 : decode cX9_need 2 = .ok (.iload_n 1, 1) := dk_27 (dk_at dksX9_need_0 2 rfl rfl)
theorem dX9_need_3 : decode cX9_need 3 = .ok (.invokevirtual 105, 3) := dk_182 0 105 (dk_at dksX9_need_0 3 rfl rfl)
theorem dX9_need_6 : decode cX9_need 6 = .ok (.iconst 1, 1) := dk_4 (dk_at dksX9_need_0 6 rfl rfl)
theorem dX9_need_7 : decode cX9_need 7 = .ok (.invokevirtual 98, 3) := dk_182 0 98 (dk_at dksX9_need_0 7 rfl rfl)
theorem dX9_need_10 : decode cX9_need 10 = .ok (.aload_n 0, 1) := dk_42 (dk_at dksX9_need_0 10 rfl rfl)
theorem dX9_need_11 : decode cX9_need 11 = .ok (.invokevirtual 102, 3) := dk_182 0 102 (dk_at dksX9_need_0 11 rfl rfl)
theorem dX9_need_14 : decode cX9_need 14 = .ok (.return_, 1) := dk_177 (dk_at dksX9_need_0 14 rfl rfl)
abbrev cX9_isSign : ByteArray := prog_13_method_7_code
def yX9_isSign : MethodName := ⟨RX9, "isSign", "(I)Z"⟩
def dkwX9_isSign_1 : List UInt8 := [4, 167, 0, 4, 3, 172]
abbrev dktX9_isSign_1 : List UInt8 := dkwX9_isSign_1 ++ []
def dkwX9_isSign_0 : List UInt8 := [42, 180, 0, 44, 6, 160, 0, 23, 42, 180, 0, 3, 180, 0, 29, 42, 180, 0, 41, 51, 27, 160, 0, 7]
abbrev dktX9_isSign_0 : List UInt8 := dkwX9_isSign_0 ++ dktX9_isSign_1
theorem dksX9_isSign_0 : cX9_isSign.data.toList.drop 0 = dktX9_isSign_0 := by decide +kernel
theorem dksX9_isSign_1 : cX9_isSign.data.toList.drop 24 = dktX9_isSign_1 := dk_seg dksX9_isSign_0 24 rfl rfl
theorem dX9_isSign_0 : decode cX9_isSign 0 = .ok (.aload_n 0, 1) := dk_42 (dk_at dksX9_isSign_0 0 rfl rfl)
theorem dX9_isSign_1 : decode cX9_isSign 1 = .ok (.getfield 44, 3) := dk_180 0 44 (dk_at dksX9_isSign_0 1 rfl rfl)
theorem dX9_isSign_4 : decode cX9_isSign 4 = .ok (.iconst 3, 1) := dk_6 (dk_at dksX9_isSign_0 4 rfl rfl)
theorem dX9_isSign_5 : decode cX9_isSign 5 = .ok (.if_icmp .ne 23, 3) := dk_160 0 23 (dk_at dksX9_isSign_0 5 rfl rfl)
theorem dX9_isSign_8 : decode cX9_isSign 8 = .ok (.aload_n 0, 1) := dk_42 (dk_at dksX9_isSign_0 8 rfl rfl)
theorem dX9_isSign_9 : decode cX9_isSign 9 = .ok (.getfield 3, 3) := dk_180 0 3 (dk_at dksX9_isSign_0 9 rfl rfl)
theorem dX9_isSign_12 : decode cX9_isSign 12 = .ok (.getfield 29, 3) := dk_180 0 29 (dk_at dksX9_isSign_0 12 rfl rfl)
theorem dX9_isSign_15 : decode cX9_isSign 15 = .ok (.aload_n 0, 1) := dk_42 (dk_at dksX9_isSign_0 15 rfl rfl)
theorem dX9_isSign_16 : decode cX9_isSign 16 = .ok (.getfield 41, 3) := dk_180 0 41 (dk_at dksX9_isSign_0 16 rfl rfl)
theorem dX9_isSign_19 : decode cX9_isSign 19 = .ok (.baload, 1) := dk_51 (dk_at dksX9_isSign_0 19 rfl rfl)
theorem dX9_isSign_20 : decode cX9_isSign 20 = .ok (.iload_n 1, 1) := dk_27 (dk_at dksX9_isSign_0 20 rfl rfl)
theorem dX9_isSign_21 : decode cX9_isSign 21 = .ok (.if_icmp .ne 7, 3) := dk_160 0 7 (dk_at dksX9_isSign_0 21 rfl rfl)
theorem dX9_isSign_24 : decode cX9_isSign 24 = .ok (.iconst 1, 1) := dk_4 (dk_at dksX9_isSign_1 0 rfl rfl)
theorem dX9_isSign_25 : decode cX9_isSign 25 = .ok (.goto 4, 3) := dk_167 0 4 (dk_at dksX9_isSign_1 1 rfl rfl)
theorem dX9_isSign_28 : decode cX9_isSign 28 = .ok (.iconst 0, 1) := dk_3 (dk_at dksX9_isSign_1 4 rfl rfl)
theorem dX9_isSign_29 : decode cX9_isSign 29 = .ok (.ireturn, 1) := dk_172 (dk_at dksX9_isSign_1 5 rfl rfl)
abbrev cX9_thing : ByteArray := prog_13_method_22_code
def yX9_thing : MethodName := ⟨RX9, "thing", "()V"⟩
def dkwX9_thing_8 : List UInt8 := [96, 181, 0, 174, 177]
abbrev dktX9_thing_8 : List UInt8 := dkwX9_thing_8 ++ []
def dkwX9_thing_7 : List UInt8 := [180, 0, 18, 180, 0, 192, 42, 180, 0, 18, 180, 0, 174, 29, 79, 42, 180, 0, 18, 89, 180, 0, 174, 4]
abbrev dktX9_thing_7 : List UInt8 := dkwX9_thing_7 ++ dktX9_thing_8
def dkwX9_thing_6 : List UInt8 := [180, 0, 174, 27, 79, 42, 180, 0, 18, 180, 0, 189, 42, 180, 0, 18, 180, 0, 174, 28, 79, 42]
abbrev dktX9_thing_6 : List UInt8 := dkwX9_thing_6 ++ dktX9_thing_7
def dkwX9_thing_5 : List UInt8 := [16, 99, 182, 0, 114, 62, 42, 16, 59, 182, 0, 132, 42, 180, 0, 18, 180, 0, 185, 42, 180, 0, 18]
abbrev dktX9_thing_5 : List UInt8 := dkwX9_thing_5 ++ dktX9_thing_6
def dkwX9_thing_4 : List UInt8 := [16, 99, 182, 0, 114, 61, 3, 62, 42, 18, 183, 182, 0, 89, 153, 0, 15, 42, 182, 0, 102, 42, 4]
abbrev dktX9_thing_4 : List UInt8 := dkwX9_thing_4 ++ dktX9_thing_5
def dkwX9_thing_3 : List UInt8 := [180, 0, 3, 180, 0, 29, 42, 180, 0, 41, 51, 60, 42, 182, 0, 102, 42, 18, 177, 182, 0, 179, 42, 3]
abbrev dktX9_thing_3 : List UInt8 := dkwX9_thing_3 ++ dktX9_thing_4
def dkwX9_thing_2 : List UInt8 := [42, 180, 0, 41, 51, 182, 0, 120, 2, 160, 0, 7, 4, 167, 0, 4, 3, 8, 182, 0, 98, 42]
abbrev dktX9_thing_2 : List UInt8 := dkwX9_thing_2 ++ dktX9_thing_3
def dkwX9_thing_1 : List UInt8 := [182, 0, 102, 42, 42, 182, 0, 117, 4, 182, 0, 98, 42, 42, 180, 0, 18, 42, 180, 0, 3, 180, 0, 29]
abbrev dktX9_thing_1 : List UInt8 := dkwX9_thing_1 ++ dktX9_thing_2
def dkwX9_thing_0 : List UInt8 := [42, 42, 180, 0, 18, 180, 0, 174, 16, 8, 162, 0, 7, 4, 167, 0, 4, 3, 5, 182, 0, 98, 42]
abbrev dktX9_thing_0 : List UInt8 := dkwX9_thing_0 ++ dktX9_thing_1
theorem dksX9_thing_0 : cX9_thing.data.toList.drop 0 = dktX9_thing_0 := by decide +kernel
theorem dksX9_thing_1 : cX9_thing.data.toList.drop 23 = dktX9_thing_1 := dk_seg dksX9_thing_0 23 rfl rfl
theorem dksX9_thing_2 : cX9_thing.data.toList.drop 47 = dktX9_thing_2 := dk_seg dksX9_thing_1 24 rfl rfl
theorem dksX9_thing_3 : cX9_thing.data.toList.drop 69 = dktX9_thing_3 := dk_seg dksX9_thing_2 22 rfl rfl
theorem dksX9_thing_4 : cX9_thing.data.toList.drop 93 = dktX9_thing_4 := dk_seg dksX9_thing_3 24 rfl rfl
theorem dksX9_thing_5 : cX9_thing.data.toList.drop 116 = dktX9_thing_5 := dk_seg dksX9_thing_4 23 rfl rfl
theorem dksX9_thing_6 : cX9_thing.data.toList.drop 139 = dktX9_thing_6 := dk_seg dksX9_thing_5 23 rfl rfl
theorem dksX9_thing_7 : cX9_thing.data.toList.drop 161 = dktX9_thing_7 := dk_seg dksX9_thing_6 22 rfl rfl
theorem dksX9_thing_8 : cX9_thing.data.toList.drop 185 = dktX9_thing_8 := dk_seg dksX9_thing_7 24 rfl rfl
theorem dX9_thing_0 : decode cX9_thing 0 = .ok (.aload_n 0, 1) := dk_42 (dk_at dksX9_thing_0 0 rfl rfl)
theorem dX9_thing_1 : decode cX9_thing 1 = .ok (.aload_n 0, 1) := dk_42 (dk_at dksX9_thing_0 1 rfl rfl)
theorem dX9_thing_2 : decode cX9_thing 2 = .ok (.getfield 18, 3) := dk_180 0 18 (dk_at dksX9_thing_0 2 rfl rfl)
theorem dX9_thing_5 : decode cX9_thing 5 = .ok (.getfield 174, 3) := dk_180 0 174 (dk_at dksX9_thing_0 5 rfl rfl)
theorem dX9_thing_8 : decode cX9_thing 8 = .ok (.bipush 8, 2) := dk_16 8 (dk_at dksX9_thing_0 8 rfl rfl)
theorem dX9_thing_10 : decode cX9_thing 10 = .ok (.if_icmp .ge 7, 3) := dk_162 0 7 (dk_at dksX9_thing_0 10 rfl rfl)
theorem dX9_thing_13 : decode cX9_thing 13 = .ok (.iconst 1, 1) := dk_4 (dk_at dksX9_thing_0 13 rfl rfl)
theorem dX9_thing_14 : decode cX9_thing 14 = .ok (.goto 4, 3) := dk_167 0 4 (dk_at dksX9_thing_0 14 rfl rfl)
theorem dX9_thing_17 : decode cX9_thing 17 = .ok (.iconst 0, 1) := dk_3 (dk_at dksX9_thing_0 17 rfl rfl)
theorem dX9_thing_18 : decode cX9_thing 18 = .ok (.iconst 2, 1) := dk_5 (dk_at dksX9_thing_0 18 rfl rfl)
theorem dX9_thing_19 : decode cX9_thing 19 = .ok (.invokevirtual 98, 3) := dk_182 0 98 (dk_at dksX9_thing_0 19 rfl rfl)
theorem dX9_thing_22 : decode cX9_thing 22 = .ok (.aload_n 0, 1) := dk_42 (dk_at dksX9_thing_0 22 rfl rfl)
theorem dX9_thing_23 : decode cX9_thing 23 = .ok (.invokevirtual 102, 3) := dk_182 0 102 (dk_at dksX9_thing_1 0 rfl rfl)
theorem dX9_thing_26 : decode cX9_thing 26 = .ok (.aload_n 0, 1) := dk_42 (dk_at dksX9_thing_1 3 rfl rfl)
theorem dX9_thing_27 : decode cX9_thing 27 = .ok (.aload_n 0, 1) := dk_42 (dk_at dksX9_thing_1 4 rfl rfl)
theorem dX9_thing_28 : decode cX9_thing 28 = .ok (.invokevirtual 117, 3) := dk_182 0 117 (dk_at dksX9_thing_1 5 rfl rfl)
theorem dX9_thing_31 : decode cX9_thing 31 = .ok (.iconst 1, 1) := dk_4 (dk_at dksX9_thing_1 8 rfl rfl)
theorem dX9_thing_32 : decode cX9_thing 32 = .ok (.invokevirtual 98, 3) := dk_182 0 98 (dk_at dksX9_thing_1 9 rfl rfl)
theorem dX9_thing_35 : decode cX9_thing 35 = .ok (.aload_n 0, 1) := dk_42 (dk_at dksX9_thing_1 12 rfl rfl)
theorem dX9_thing_36 : decode cX9_thing 36 = .ok (.aload_n 0, 1) := dk_42 (dk_at dksX9_thing_1 13 rfl rfl)
theorem dX9_thing_37 : decode cX9_thing 37 = .ok (.getfield 18, 3) := dk_180 0 18 (dk_at dksX9_thing_1 14 rfl rfl)
theorem dX9_thing_40 : decode cX9_thing 40 = .ok (.aload_n 0, 1) := dk_42 (dk_at dksX9_thing_1 17 rfl rfl)
theorem dX9_thing_41 : decode cX9_thing 41 = .ok (.getfield 3, 3) := dk_180 0 3 (dk_at dksX9_thing_1 18 rfl rfl)
theorem dX9_thing_44 : decode cX9_thing 44 = .ok (.getfield 29, 3) := dk_180 0 29 (dk_at dksX9_thing_1 21 rfl rfl)
theorem dX9_thing_47 : decode cX9_thing 47 = .ok (.aload_n 0, 1) := dk_42 (dk_at dksX9_thing_2 0 rfl rfl)
theorem dX9_thing_48 : decode cX9_thing 48 = .ok (.getfield 41, 3) := dk_180 0 41 (dk_at dksX9_thing_2 1 rfl rfl)
theorem dX9_thing_51 : decode cX9_thing 51 = .ok (.baload, 1) := dk_51 (dk_at dksX9_thing_2 4 rfl rfl)
theorem dX9_thing_52 : decode cX9_thing 52 = .ok (.invokevirtual 120, 3) := dk_182 0 120 (dk_at dksX9_thing_2 5 rfl rfl)
theorem dX9_thing_55 : decode cX9_thing 55 = .ok (.iconst (-1), 1) := dk_2 (dk_at dksX9_thing_2 8 rfl rfl)
theorem dX9_thing_56 : decode cX9_thing 56 = .ok (.if_icmp .ne 7, 3) := dk_160 0 7 (dk_at dksX9_thing_2 9 rfl rfl)
theorem dX9_thing_59 : decode cX9_thing 59 = .ok (.iconst 1, 1) := dk_4 (dk_at dksX9_thing_2 12 rfl rfl)
theorem dX9_thing_60 : decode cX9_thing 60 = .ok (.goto 4, 3) := dk_167 0 4 (dk_at dksX9_thing_2 13 rfl rfl)
theorem dX9_thing_63 : decode cX9_thing 63 = .ok (.iconst 0, 1) := dk_3 (dk_at dksX9_thing_2 16 rfl rfl)
theorem dX9_thing_64 : decode cX9_thing 64 = .ok (.iconst 5, 1) := dk_8 (dk_at dksX9_thing_2 17 rfl rfl)
theorem dX9_thing_65 : decode cX9_thing 65 = .ok (.invokevirtual 98, 3) := dk_182 0 98 (dk_at dksX9_thing_2 18 rfl rfl)
theorem dX9_thing_68 : decode cX9_thing 68 = .ok (.aload_n 0, 1) := dk_42 (dk_at dksX9_thing_2 21 rfl rfl)
theorem dX9_thing_69 : decode cX9_thing 69 = .ok (.getfield 3, 3) := dk_180 0 3 (dk_at dksX9_thing_3 0 rfl rfl)
theorem dX9_thing_72 : decode cX9_thing 72 = .ok (.getfield 29, 3) := dk_180 0 29 (dk_at dksX9_thing_3 3 rfl rfl)
theorem dX9_thing_75 : decode cX9_thing 75 = .ok (.aload_n 0, 1) := dk_42 (dk_at dksX9_thing_3 6 rfl rfl)
theorem dX9_thing_76 : decode cX9_thing 76 = .ok (.getfield 41, 3) := dk_180 0 41 (dk_at dksX9_thing_3 7 rfl rfl)
theorem dX9_thing_79 : decode cX9_thing 79 = .ok (.baload, 1) := dk_51 (dk_at dksX9_thing_3 10 rfl rfl)
theorem dX9_thing_80 : decode cX9_thing 80 = .ok (.istore_n 1, 1) := dk_60 (dk_at dksX9_thing_3 11 rfl rfl)
theorem dX9_thing_81 : decode cX9_thing 81 = .ok (.aload_n 0, 1) := dk_42 (dk_at dksX9_thing_3 12 rfl rfl)
theorem dX9_thing_82 : decode cX9_thing 82 = .ok (.invokevirtual 102, 3) := dk_182 0 102 (dk_at dksX9_thing_3 13 rfl rfl)
theorem dX9_thing_85 : decode cX9_thing 85 = .ok (.aload_n 0, 1) := dk_42 (dk_at dksX9_thing_3 16 rfl rfl)
theorem dX9_thing_86 : decode cX9_thing 86 = .ok (.ldc 177, 2) := dk_18 177 (dk_at dksX9_thing_3 17 rfl rfl)
theorem dX9_thing_88 : decode cX9_thing 88 = .ok (.invokevirtual 179, 3) := dk_182 0 179 (dk_at dksX9_thing_3 19 rfl rfl)
theorem dX9_thing_91 : decode cX9_thing 91 = .ok (.aload_n 0, 1) := dk_42 (dk_at dksX9_thing_3 22 rfl rfl)
theorem dX9_thing_92 : decode cX9_thing 92 = .ok (.iconst 0, 1) := dk_3 (dk_at dksX9_thing_3 23 rfl rfl)
theorem dX9_thing_93 : decode cX9_thing 93 = .ok (.bipush 99, 2) := dk_16 99 (dk_at dksX9_thing_4 0 rfl rfl)
theorem dX9_thing_95 : decode cX9_thing 95 = .ok (.invokevirtual 114, 3) := dk_182 0 114 (dk_at dksX9_thing_4 2 rfl rfl)
theorem dX9_thing_98 : decode cX9_thing 98 = .ok (.istore_n 2, 1) := dk_61 (dk_at dksX9_thing_4 5 rfl rfl)
theorem dX9_thing_99 : decode cX9_thing 99 = .ok (.iconst 0, 1) := dk_3 (dk_at dksX9_thing_4 6 rfl rfl)
theorem dX9_thing_100 : decode cX9_thing 100 = .ok (.istore_n 3, 1) := dk_62 (dk_at dksX9_thing_4 7 rfl rfl)
theorem dX9_thing_101 : decode cX9_thing 101 = .ok (.aload_n 0, 1) := dk_42 (dk_at dksX9_thing_4 8 rfl rfl)
theorem dX9_thing_102 : decode cX9_thing 102 = .ok (.ldc 183, 2) := dk_18 183 (dk_at dksX9_thing_4 9 rfl rfl)
theorem dX9_thing_104 : decode cX9_thing 104 = .ok (.invokevirtual 89, 3) := dk_182 0 89 (dk_at dksX9_thing_4 11 rfl rfl)
theorem dX9_thing_107 : decode cX9_thing 107 = .ok (.ifCond .eq 15, 3) := dk_153 0 15 (dk_at dksX9_thing_4 14 rfl rfl)
theorem dX9_thing_110 : decode cX9_thing 110 = .ok (.aload_n 0, 1) := dk_42 (dk_at dksX9_thing_4 17 rfl rfl)
theorem dX9_thing_111 : decode cX9_thing 111 = .ok (.invokevirtual 102, 3) := dk_182 0 102 (dk_at dksX9_thing_4 18 rfl rfl)
theorem dX9_thing_114 : decode cX9_thing 114 = .ok (.aload_n 0, 1) := dk_42 (dk_at dksX9_thing_4 21 rfl rfl)
theorem dX9_thing_115 : decode cX9_thing 115 = .ok (.iconst 1, 1) := dk_4 (dk_at dksX9_thing_4 22 rfl rfl)
theorem dX9_thing_116 : decode cX9_thing 116 = .ok (.bipush 99, 2) := dk_16 99 (dk_at dksX9_thing_5 0 rfl rfl)
theorem dX9_thing_118 : decode cX9_thing 118 = .ok (.invokevirtual 114, 3) := dk_182 0 114 (dk_at dksX9_thing_5 2 rfl rfl)
theorem dX9_thing_121 : decode cX9_thing 121 = .ok (.istore_n 3, 1) := dk_62 (dk_at dksX9_thing_5 5 rfl rfl)
theorem dX9_thing_122 : decode cX9_thing 122 = .ok (.aload_n 0, 1) := dk_42 (dk_at dksX9_thing_5 6 rfl rfl)
theorem dX9_thing_123 : decode cX9_thing 123 = .ok (.bipush 59, 2) := dk_16 59 (dk_at dksX9_thing_5 7 rfl rfl)
theorem dX9_thing_125 : decode cX9_thing 125 = .ok (.invokevirtual 132, 3) := dk_182 0 132 (dk_at dksX9_thing_5 9 rfl rfl)
theorem dX9_thing_128 : decode cX9_thing 128 = .ok (.aload_n 0, 1) := dk_42 (dk_at dksX9_thing_5 12 rfl rfl)
theorem dX9_thing_129 : decode cX9_thing 129 = .ok (.getfield 18, 3) := dk_180 0 18 (dk_at dksX9_thing_5 13 rfl rfl)
theorem dX9_thing_132 : decode cX9_thing 132 = .ok (.getfield 185, 3) := dk_180 0 185 (dk_at dksX9_thing_5 16 rfl rfl)
theorem dX9_thing_135 : decode cX9_thing 135 = .ok (.aload_n 0, 1) := dk_42 (dk_at dksX9_thing_5 19 rfl rfl)
theorem dX9_thing_136 : decode cX9_thing 136 = .ok (.getfield 18, 3) := dk_180 0 18 (dk_at dksX9_thing_5 20 rfl rfl)
theorem dX9_thing_139 : decode cX9_thing 139 = .ok (.getfield 174, 3) := dk_180 0 174 (dk_at dksX9_thing_6 0 rfl rfl)
theorem dX9_thing_142 : decode cX9_thing 142 = .ok (.iload_n 1, 1) := dk_27 (dk_at dksX9_thing_6 3 rfl rfl)
theorem dX9_thing_143 : decode cX9_thing 143 = .ok (.iastore, 1) := dk_79 (dk_at dksX9_thing_6 4 rfl rfl)
theorem dX9_thing_144 : decode cX9_thing 144 = .ok (.aload_n 0, 1) := dk_42 (dk_at dksX9_thing_6 5 rfl rfl)
theorem dX9_thing_145 : decode cX9_thing 145 = .ok (.getfield 18, 3) := dk_180 0 18 (dk_at dksX9_thing_6 6 rfl rfl)
theorem dX9_thing_148 : decode cX9_thing 148 = .ok (.getfield 189, 3) := dk_180 0 189 (dk_at dksX9_thing_6 9 rfl rfl)
theorem dX9_thing_151 : decode cX9_thing 151 = .ok (.aload_n 0, 1) := dk_42 (dk_at dksX9_thing_6 12 rfl rfl)
theorem dX9_thing_152 : decode cX9_thing 152 = .ok (.getfield 18, 3) := dk_180 0 18 (dk_at dksX9_thing_6 13 rfl rfl)
theorem dX9_thing_155 : decode cX9_thing 155 = .ok (.getfield 174, 3) := dk_180 0 174 (dk_at dksX9_thing_6 16 rfl rfl)
theorem dX9_thing_158 : decode cX9_thing 158 = .ok (.iload_n 2, 1) := dk_28 (dk_at dksX9_thing_6 19 rfl rfl)
theorem dX9_thing_159 : decode cX9_thing 159 = .ok (.iastore, 1) := dk_79 (dk_at dksX9_thing_6 20 rfl rfl)
theorem dX9_thing_160 : decode cX9_thing 160 = .ok (.aload_n 0, 1) := dk_42 (dk_at dksX9_thing_6 21 rfl rfl)
theorem dX9_thing_161 : decode cX9_thing 161 = .ok (.getfield 18, 3) := dk_180 0 18 (dk_at dksX9_thing_7 0 rfl rfl)
theorem dX9_thing_164 : decode cX9_thing 164 = .ok (.getfield 192, 3) := dk_180 0 192 (dk_at dksX9_thing_7 3 rfl rfl)
theorem dX9_thing_167 : decode cX9_thing 167 = .ok (.aload_n 0, 1) := dk_42 (dk_at dksX9_thing_7 6 rfl rfl)
theorem dX9_thing_168 : decode cX9_thing 168 = .ok (.getfield 18, 3) := dk_180 0 18 (dk_at dksX9_thing_7 7 rfl rfl)
theorem dX9_thing_171 : decode cX9_thing 171 = .ok (.getfield 174, 3) := dk_180 0 174 (dk_at dksX9_thing_7 10 rfl rfl)
theorem dX9_thing_174 : decode cX9_thing 174 = .ok (.iload_n 3, 1) := dk_29 (dk_at dksX9_thing_7 13 rfl rfl)
theorem dX9_thing_175 : decode cX9_thing 175 = .ok (.iastore, 1) := dk_79 (dk_at dksX9_thing_7 14 rfl rfl)
theorem dX9_thing_176 : decode cX9_thing 176 = .ok (.aload_n 0, 1) := dk_42 (dk_at dksX9_thing_7 15 rfl rfl)
theorem dX9_thing_177 : decode cX9_thing 177 = .ok (.getfield 18, 3) := dk_180 0 18 (dk_at dksX9_thing_7 16 rfl rfl)
theorem dX9_thing_180 : decode cX9_thing 180 = .ok (.dup, 1) := dk_89 (dk_at dksX9_thing_7 19 rfl rfl)
theorem dX9_thing_181 : decode cX9_thing 181 = .ok (.getfield 174, 3) := dk_180 0 174 (dk_at dksX9_thing_7 20 rfl rfl)
theorem dX9_thing_184 : decode cX9_thing 184 = .ok (.iconst 1, 1) := dk_4 (dk_at dksX9_thing_7 23 rfl rfl)
theorem dX9_thing_185 : decode cX9_thing 185 = .ok (.iadd, 1) := dk_96 (dk_at dksX9_thing_8 0 rfl rfl)
theorem dX9_thing_186 : decode cX9_thing 186 = .ok (.putfield 174, 3) := dk_181 0 174 (dk_at dksX9_thing_8 1 rfl rfl)
theorem dX9_thing_189 : decode cX9_thing 189 = .ok (.return_, 1) := dk_177 (dk_at dksX9_thing_8 4 rfl rfl)
abbrev cX9_isName : ByteArray := prog_13_method_8_code
def yX9_isName : MethodName := ⟨RX9, "isName", "()Z"⟩
def dkwX9_isName_1 : List UInt8 := [167, 0, 4, 3, 172]
abbrev dktX9_isName_1 : List UInt8 := dkwX9_isName_1 ++ []
def dkwX9_isName_0 : List UInt8 := [42, 180, 0, 44, 4, 160, 0, 20, 42, 180, 0, 71, 42, 180, 0, 41, 100, 4, 160, 0, 7, 4]
abbrev dktX9_isName_0 : List UInt8 := dkwX9_isName_0 ++ dktX9_isName_1
theorem dksX9_isName_0 : cX9_isName.data.toList.drop 0 = dktX9_isName_0 := by decide +kernel
theorem dksX9_isName_1 : cX9_isName.data.toList.drop 22 = dktX9_isName_1 := dk_seg dksX9_isName_0 22 rfl rfl
theorem dX9_isName_0 : decode cX9_isName 0 = .ok (.aload_n 0, 1) := dk_42 (dk_at dksX9_isName_0 0 rfl rfl)
theorem dX9_isName_1 : decode cX9_isName 1 = .ok (.getfield 44, 3) := dk_180 0 44 (dk_at dksX9_isName_0 1 rfl rfl)
theorem dX9_isName_4 : decode cX9_isName 4 = .ok (.iconst 1, 1) := dk_4 (dk_at dksX9_isName_0 4 rfl rfl)
theorem dX9_isName_5 : decode cX9_isName 5 = .ok (.if_icmp .ne 20, 3) := dk_160 0 20 (dk_at dksX9_isName_0 5 rfl rfl)
theorem dX9_isName_8 : decode cX9_isName 8 = .ok (.aload_n 0, 1) := dk_42 (dk_at dksX9_isName_0 8 rfl rfl)
theorem dX9_isName_9 : decode cX9_isName 9 = .ok (.getfield 71, 3) := dk_180 0 71 (dk_at dksX9_isName_0 9 rfl rfl)
theorem dX9_isName_12 : decode cX9_isName 12 = .ok (.aload_n 0, 1) := dk_42 (dk_at dksX9_isName_0 12 rfl rfl)
theorem dX9_isName_13 : decode cX9_isName 13 = .ok (.getfield 41, 3) := dk_180 0 41 (dk_at dksX9_isName_0 13 rfl rfl)
theorem dX9_isName_16 : decode cX9_isName 16 = .ok (.isub, 1) := dk_100 (dk_at dksX9_isName_0 16 rfl rfl)
theorem dX9_isName_17 : decode cX9_isName 17 = .ok (.iconst 1, 1) := dk_4 (dk_at dksX9_isName_0 17 rfl rfl)
theorem dX9_isName_18 : decode cX9_isName 18 = .ok (.if_icmp .ne 7, 3) := dk_160 0 7 (dk_at dksX9_isName_0 18 rfl rfl)
theorem dX9_isName_21 : decode cX9_isName 21 = .ok (.iconst 1, 1) := dk_4 (dk_at dksX9_isName_0 21 rfl rfl)
theorem dX9_isName_22 : decode cX9_isName 22 = .ok (.goto 4, 3) := dk_167 0 4 (dk_at dksX9_isName_1 0 rfl rfl)
theorem dX9_isName_25 : decode cX9_isName 25 = .ok (.iconst 0, 1) := dk_3 (dk_at dksX9_isName_1 3 rfl rfl)
theorem dX9_isName_26 : decode cX9_isName 26 = .ok (.ireturn, 1) := dk_172 (dk_at dksX9_isName_1 4 rfl rfl)
abbrev cX9_word : ByteArray := prog_13_method_11_code
def yX9_word : MethodName := ⟨RX9, "word", "(Ljava/lang/String;)V"⟩
def dkwX9_word_0 : List UInt8 := [42, 42, 43, 182, 0, 89, 4, 182, 0, 98, 42, 182, 0, 102, 177]
abbrev dktX9_word_0 : List UInt8 := dkwX9_word_0 ++ []
theorem dksX9_word_0 : cX9_word.data.toList.drop 0 = dktX9_word_0 := by decide +kernel
theorem dX9_word_0 : decode cX9_word 0 = .ok (.aload_n 0, 1) := dk_42 (dk_at dksX9_word_0 0 rfl rfl)
theorem dX9_word_1 : decode cX9_word 1 = .ok (.aload_n 0, 1) := dk_42 (dk_at dksX9_word_0 1 rfl rfl)
theorem dX9_word_2 : decode cX9_word 2 = .ok (.aload_n 1, 1) := dk_43 (dk_at dksX9_word_0 2 rfl rfl)
theorem dX9_word_3 : decode cX9_word 3 = .ok (.invokevirtual 89, 3) := dk_182 0 89 (dk_at dksX9_word_0 3 rfl rfl)
theorem dX9_word_6 : decode cX9_word 6 = .ok (.iconst 1, 1) := dk_4 (dk_at dksX9_word_0 6 rfl rfl)
theorem dX9_word_7 : decode cX9_word 7 = .ok (.invokevirtual 98, 3) := dk_182 0 98 (dk_at dksX9_word_0 7 rfl rfl)
theorem dX9_word_10 : decode cX9_word 10 = .ok (.aload_n 0, 1) := dk_42 (dk_at dksX9_word_0 10 rfl rfl)
theorem dX9_word_11 : decode cX9_word 11 = .ok (.invokevirtual 102, 3) := dk_182 0 102 (dk_at dksX9_word_0 11 rfl rfl)
theorem dX9_word_14 : decode cX9_word 14 = .ok (.return_, 1) := dk_177 (dk_at dksX9_word_0 14 rfl rfl)
abbrev cX9_boat : ByteArray := prog_13_method_23_code
def yX9_boat : MethodName := ⟨RX9, "boat", "()V"⟩
def dkwX9_boat_4 : List UInt8 := [183, 0, 213, 185, 0, 216, 2, 0, 87, 177]
abbrev dktX9_boat_4 : List UInt8 := dkwX9_boat_4 ++ []
def dkwX9_boat_3 : List UInt8 := [182, 0, 102, 42, 16, 59, 182, 0, 132, 42, 180, 0, 18, 180, 0, 195, 187, 0, 211, 89, 27, 28, 29]
abbrev dktX9_boat_3 : List UInt8 := dkwX9_boat_3 ++ dktX9_boat_4
def dkwX9_boat_2 : List UInt8 := [182, 0, 179, 42, 3, 17, 3, 231, 182, 0, 114, 61, 42, 18, 207, 182, 0, 179, 42, 182, 0, 208, 62, 42]
abbrev dktX9_boat_2 : List UInt8 := dkwX9_boat_2 ++ dktX9_boat_3
def dkwX9_boat_1 : List UInt8 := [182, 0, 98, 42, 182, 0, 102, 42, 18, 203, 182, 0, 179, 42, 4, 16, 8, 182, 0, 114, 60, 42, 18, 205]
abbrev dktX9_boat_1 : List UInt8 := dkwX9_boat_1 ++ dktX9_boat_2
def dkwX9_boat_0 : List UInt8 := [42, 42, 180, 0, 18, 180, 0, 195, 185, 0, 199, 1, 0, 5, 162, 0, 7, 4, 167, 0, 4, 3, 5]
abbrev dktX9_boat_0 : List UInt8 := dkwX9_boat_0 ++ dktX9_boat_1
theorem dksX9_boat_0 : cX9_boat.data.toList.drop 0 = dktX9_boat_0 := by decide +kernel
theorem dksX9_boat_1 : cX9_boat.data.toList.drop 23 = dktX9_boat_1 := dk_seg dksX9_boat_0 23 rfl rfl
theorem dksX9_boat_2 : cX9_boat.data.toList.drop 47 = dktX9_boat_2 := dk_seg dksX9_boat_1 24 rfl rfl
theorem dksX9_boat_3 : cX9_boat.data.toList.drop 71 = dktX9_boat_3 := dk_seg dksX9_boat_2 24 rfl rfl
theorem dksX9_boat_4 : cX9_boat.data.toList.drop 94 = dktX9_boat_4 := dk_seg dksX9_boat_3 23 rfl rfl
theorem dX9_boat_0 : decode cX9_boat 0 = .ok (.aload_n 0, 1) := dk_42 (dk_at dksX9_boat_0 0 rfl rfl)
theorem dX9_boat_1 : decode cX9_boat 1 = .ok (.aload_n 0, 1) := dk_42 (dk_at dksX9_boat_0 1 rfl rfl)
theorem dX9_boat_2 : decode cX9_boat 2 = .ok (.getfield 18, 3) := dk_180 0 18 (dk_at dksX9_boat_0 2 rfl rfl)
theorem dX9_boat_5 : decode cX9_boat 5 = .ok (.getfield 195, 3) := dk_180 0 195 (dk_at dksX9_boat_0 5 rfl rfl)
theorem dX9_boat_8 : decode cX9_boat 8 = .ok (.invokeinterface 199 1, 5) := by decide +kernel
theorem dX9_boat_13 : decode cX9_boat 13 = .ok (.iconst 2, 1) := dk_5 (dk_at dksX9_boat_0 13 rfl rfl)
theorem dX9_boat_14 : decode cX9_boat 14 = .ok (.if_icmp .ge 7, 3) := dk_162 0 7 (dk_at dksX9_boat_0 14 rfl rfl)
theorem dX9_boat_17 : decode cX9_boat 17 = .ok (.iconst 1, 1) := dk_4 (dk_at dksX9_boat_0 17 rfl rfl)
theorem dX9_boat_18 : decode cX9_boat 18 = .ok (.goto 4, 3) := dk_167 0 4 (dk_at dksX9_boat_0 18 rfl rfl)
theorem dX9_boat_21 : decode cX9_boat 21 = .ok (.iconst 0, 1) := dk_3 (dk_at dksX9_boat_0 21 rfl rfl)
theorem dX9_boat_22 : decode cX9_boat 22 = .ok (.iconst 2, 1) := dk_5 (dk_at dksX9_boat_0 22 rfl rfl)
theorem dX9_boat_23 : decode cX9_boat 23 = .ok (.invokevirtual 98, 3) := dk_182 0 98 (dk_at dksX9_boat_1 0 rfl rfl)
theorem dX9_boat_26 : decode cX9_boat 26 = .ok (.aload_n 0, 1) := dk_42 (dk_at dksX9_boat_1 3 rfl rfl)
theorem dX9_boat_27 : decode cX9_boat 27 = .ok (.invokevirtual 102, 3) := dk_182 0 102 (dk_at dksX9_boat_1 4 rfl rfl)
theorem dX9_boat_30 : decode cX9_boat 30 = .ok (.aload_n 0, 1) := dk_42 (dk_at dksX9_boat_1 7 rfl rfl)
theorem dX9_boat_31 : decode cX9_boat 31 = .ok (.ldc 203, 2) := dk_18 203 (dk_at dksX9_boat_1 8 rfl rfl)
theorem dX9_boat_33 : decode cX9_boat 33 = .ok (.invokevirtual 179, 3) := dk_182 0 179 (dk_at dksX9_boat_1 10 rfl rfl)
theorem dX9_boat_36 : decode cX9_boat 36 = .ok (.aload_n 0, 1) := dk_42 (dk_at dksX9_boat_1 13 rfl rfl)
theorem dX9_boat_37 : decode cX9_boat 37 = .ok (.iconst 1, 1) := dk_4 (dk_at dksX9_boat_1 14 rfl rfl)
theorem dX9_boat_38 : decode cX9_boat 38 = .ok (.bipush 8, 2) := dk_16 8 (dk_at dksX9_boat_1 15 rfl rfl)
theorem dX9_boat_40 : decode cX9_boat 40 = .ok (.invokevirtual 114, 3) := dk_182 0 114 (dk_at dksX9_boat_1 17 rfl rfl)
theorem dX9_boat_43 : decode cX9_boat 43 = .ok (.istore_n 1, 1) := dk_60 (dk_at dksX9_boat_1 20 rfl rfl)
theorem dX9_boat_44 : decode cX9_boat 44 = .ok (.aload_n 0, 1) := dk_42 (dk_at dksX9_boat_1 21 rfl rfl)
theorem dX9_boat_45 : decode cX9_boat 45 = .ok (.ldc 205, 2) := dk_18 205 (dk_at dksX9_boat_1 22 rfl rfl)
theorem dX9_boat_47 : decode cX9_boat 47 = .ok (.invokevirtual 179, 3) := dk_182 0 179 (dk_at dksX9_boat_2 0 rfl rfl)
theorem dX9_boat_50 : decode cX9_boat 50 = .ok (.aload_n 0, 1) := dk_42 (dk_at dksX9_boat_2 3 rfl rfl)
theorem dX9_boat_51 : decode cX9_boat 51 = .ok (.iconst 0, 1) := dk_3 (dk_at dksX9_boat_2 4 rfl rfl)
theorem dX9_boat_52 : decode cX9_boat 52 = .ok (.sipush 999, 3) := dk_17 3 231 (dk_at dksX9_boat_2 5 rfl rfl)
theorem dX9_boat_55 : decode cX9_boat 55 = .ok (.invokevirtual 114, 3) := dk_182 0 114 (dk_at dksX9_boat_2 8 rfl rfl)
theorem dX9_boat_58 : decode cX9_boat 58 = .ok (.istore_n 2, 1) := dk_61 (dk_at dksX9_boat_2 11 rfl rfl)
theorem dX9_boat_59 : decode cX9_boat 59 = .ok (.aload_n 0, 1) := dk_42 (dk_at dksX9_boat_2 12 rfl rfl)
theorem dX9_boat_60 : decode cX9_boat 60 = .ok (.ldc 207, 2) := dk_18 207 (dk_at dksX9_boat_2 13 rfl rfl)
theorem dX9_boat_62 : decode cX9_boat 62 = .ok (.invokevirtual 179, 3) := dk_182 0 179 (dk_at dksX9_boat_2 15 rfl rfl)
theorem dX9_boat_65 : decode cX9_boat 65 = .ok (.aload_n 0, 1) := dk_42 (dk_at dksX9_boat_2 18 rfl rfl)
theorem dX9_boat_66 : decode cX9_boat 66 = .ok (.invokevirtual 208, 3) := dk_182 0 208 (dk_at dksX9_boat_2 19 rfl rfl)
theorem dX9_boat_69 : decode cX9_boat 69 = .ok (.istore_n 3, 1) := dk_62 (dk_at dksX9_boat_2 22 rfl rfl)
theorem dX9_boat_70 : decode cX9_boat 70 = .ok (.aload_n 0, 1) := dk_42 (dk_at dksX9_boat_2 23 rfl rfl)
theorem dX9_boat_71 : decode cX9_boat 71 = .ok (.invokevirtual 102, 3) := dk_182 0 102 (dk_at dksX9_boat_3 0 rfl rfl)
theorem dX9_boat_74 : decode cX9_boat 74 = .ok (.aload_n 0, 1) := dk_42 (dk_at dksX9_boat_3 3 rfl rfl)
theorem dX9_boat_75 : decode cX9_boat 75 = .ok (.bipush 59, 2) := dk_16 59 (dk_at dksX9_boat_3 4 rfl rfl)
theorem dX9_boat_77 : decode cX9_boat 77 = .ok (.invokevirtual 132, 3) := dk_182 0 132 (dk_at dksX9_boat_3 6 rfl rfl)
theorem dX9_boat_80 : decode cX9_boat 80 = .ok (.aload_n 0, 1) := dk_42 (dk_at dksX9_boat_3 9 rfl rfl)
theorem dX9_boat_81 : decode cX9_boat 81 = .ok (.getfield 18, 3) := dk_180 0 18 (dk_at dksX9_boat_3 10 rfl rfl)
theorem dX9_boat_84 : decode cX9_boat 84 = .ok (.getfield 195, 3) := dk_180 0 195 (dk_at dksX9_boat_3 13 rfl rfl)
theorem dX9_boat_87 : decode cX9_boat 87 = .ok (.new 211, 3) := dk_187 0 211 (dk_at dksX9_boat_3 16 rfl rfl)
theorem dX9_boat_90 : decode cX9_boat 90 = .ok (.dup, 1) := dk_89 (dk_at dksX9_boat_3 19 rfl rfl)
theorem dX9_boat_91 : decode cX9_boat 91 = .ok (.iload_n 1, 1) := dk_27 (dk_at dksX9_boat_3 20 rfl rfl)
theorem dX9_boat_92 : decode cX9_boat 92 = .ok (.iload_n 2, 1) := dk_28 (dk_at dksX9_boat_3 21 rfl rfl)
theorem dX9_boat_93 : decode cX9_boat 93 = .ok (.iload_n 3, 1) := dk_29 (dk_at dksX9_boat_3 22 rfl rfl)
theorem dX9_boat_94 : decode cX9_boat 94 = .ok (.invokespecial 213, 3) := dk_183 0 213 (dk_at dksX9_boat_4 0 rfl rfl)
theorem dX9_boat_97 : decode cX9_boat 97 = .ok (.invokeinterface 216 2, 5) := by decide +kernel
theorem dX9_boat_102 : decode cX9_boat 102 = .ok (.pop, 1) := dk_87 (dk_at dksX9_boat_4 8 rfl rfl)
theorem dX9_boat_103 : decode cX9_boat 103 = .ok (.return_, 1) := dk_177 (dk_at dksX9_boat_4 9 rfl rfl)
abbrev cX9_shore : ByteArray := prog_13_method_14_code
def yX9_shore : MethodName := ⟨RX9, "shore", "()I"⟩
def dkwX9_shore_2 : List UInt8 := [180, 0, 18, 180, 0, 109, 162, 0, 7, 4, 167, 0, 4, 3, 7, 182, 0, 98, 42, 180, 0, 54, 172]
abbrev dktX9_shore_2 : List UInt8 := dkwX9_shore_2 ++ []
def dkwX9_shore_1 : List UInt8 := [180, 0, 41, 100, 6, 163, 0, 7, 4, 167, 0, 4, 3, 5, 182, 0, 98, 42, 42, 180, 0, 54, 42]
abbrev dktX9_shore_1 : List UInt8 := dkwX9_shore_1 ++ dktX9_shore_2
def dkwX9_shore_0 : List UInt8 := [42, 42, 180, 0, 44, 5, 160, 0, 7, 4, 167, 0, 4, 3, 4, 182, 0, 98, 42, 42, 180, 0, 71, 42]
abbrev dktX9_shore_0 : List UInt8 := dkwX9_shore_0 ++ dktX9_shore_1
theorem dksX9_shore_0 : cX9_shore.data.toList.drop 0 = dktX9_shore_0 := by decide +kernel
theorem dksX9_shore_1 : cX9_shore.data.toList.drop 24 = dktX9_shore_1 := dk_seg dksX9_shore_0 24 rfl rfl
theorem dksX9_shore_2 : cX9_shore.data.toList.drop 47 = dktX9_shore_2 := dk_seg dksX9_shore_1 23 rfl rfl
theorem dX9_shore_0 : decode cX9_shore 0 = .ok (.aload_n 0, 1) := dk_42 (dk_at dksX9_shore_0 0 rfl rfl)
theorem dX9_shore_1 : decode cX9_shore 1 = .ok (.aload_n 0, 1) := dk_42 (dk_at dksX9_shore_0 1 rfl rfl)
theorem dX9_shore_2 : decode cX9_shore 2 = .ok (.getfield 44, 3) := dk_180 0 44 (dk_at dksX9_shore_0 2 rfl rfl)
theorem dX9_shore_5 : decode cX9_shore 5 = .ok (.iconst 2, 1) := dk_5 (dk_at dksX9_shore_0 5 rfl rfl)
theorem dX9_shore_6 : decode cX9_shore 6 = .ok (.if_icmp .ne 7, 3) := dk_160 0 7 (dk_at dksX9_shore_0 6 rfl rfl)
theorem dX9_shore_9 : decode cX9_shore 9 = .ok (.iconst 1, 1) := dk_4 (dk_at dksX9_shore_0 9 rfl rfl)
theorem dX9_shore_10 : decode cX9_shore 10 = .ok (.goto 4, 3) := dk_167 0 4 (dk_at dksX9_shore_0 10 rfl rfl)
theorem dX9_shore_13 : decode cX9_shore 13 = .ok (.iconst 0, 1) := dk_3 (dk_at dksX9_shore_0 13 rfl rfl)
theorem dX9_shore_14 : decode cX9_shore 14 = .ok (.iconst 1, 1) := dk_4 (dk_at dksX9_shore_0 14 rfl rfl)
theorem dX9_shore_15 : decode cX9_shore 15 = .ok (.invokevirtual 98, 3) := dk_182 0 98 (dk_at dksX9_shore_0 15 rfl rfl)
theorem dX9_shore_18 : decode cX9_shore 18 = .ok (.aload_n 0, 1) := dk_42 (dk_at dksX9_shore_0 18 rfl rfl)
theorem dX9_shore_19 : decode cX9_shore 19 = .ok (.aload_n 0, 1) := dk_42 (dk_at dksX9_shore_0 19 rfl rfl)
theorem dX9_shore_20 : decode cX9_shore 20 = .ok (.getfield 71, 3) := dk_180 0 71 (dk_at dksX9_shore_0 20 rfl rfl)
theorem dX9_shore_23 : decode cX9_shore 23 = .ok (.aload_n 0, 1) := dk_42 (dk_at dksX9_shore_0 23 rfl rfl)
theorem dX9_shore_24 : decode cX9_shore 24 = .ok (.getfield 41, 3) := dk_180 0 41 (dk_at dksX9_shore_1 0 rfl rfl)
theorem dX9_shore_27 : decode cX9_shore 27 = .ok (.isub, 1) := dk_100 (dk_at dksX9_shore_1 3 rfl rfl)
theorem dX9_shore_28 : decode cX9_shore 28 = .ok (.iconst 3, 1) := dk_6 (dk_at dksX9_shore_1 4 rfl rfl)
theorem dX9_shore_29 : decode cX9_shore 29 = .ok (.if_icmp .gt 7, 3) := dk_163 0 7 (dk_at dksX9_shore_1 5 rfl rfl)
theorem dX9_shore_32 : decode cX9_shore 32 = .ok (.iconst 1, 1) := dk_4 (dk_at dksX9_shore_1 8 rfl rfl)
theorem dX9_shore_33 : decode cX9_shore 33 = .ok (.goto 4, 3) := dk_167 0 4 (dk_at dksX9_shore_1 9 rfl rfl)
theorem dX9_shore_36 : decode cX9_shore 36 = .ok (.iconst 0, 1) := dk_3 (dk_at dksX9_shore_1 12 rfl rfl)
theorem dX9_shore_37 : decode cX9_shore 37 = .ok (.iconst 2, 1) := dk_5 (dk_at dksX9_shore_1 13 rfl rfl)
theorem dX9_shore_38 : decode cX9_shore 38 = .ok (.invokevirtual 98, 3) := dk_182 0 98 (dk_at dksX9_shore_1 14 rfl rfl)
theorem dX9_shore_41 : decode cX9_shore 41 = .ok (.aload_n 0, 1) := dk_42 (dk_at dksX9_shore_1 17 rfl rfl)
theorem dX9_shore_42 : decode cX9_shore 42 = .ok (.aload_n 0, 1) := dk_42 (dk_at dksX9_shore_1 18 rfl rfl)
theorem dX9_shore_43 : decode cX9_shore 43 = .ok (.getfield 54, 3) := dk_180 0 54 (dk_at dksX9_shore_1 19 rfl rfl)
theorem dX9_shore_46 : decode cX9_shore 46 = .ok (.aload_n 0, 1) := dk_42 (dk_at dksX9_shore_1 22 rfl rfl)
theorem dX9_shore_47 : decode cX9_shore 47 = .ok (.getfield 18, 3) := dk_180 0 18 (dk_at dksX9_shore_2 0 rfl rfl)
theorem dX9_shore_50 : decode cX9_shore 50 = .ok (.getfield 109, 3) := dk_180 0 109 (dk_at dksX9_shore_2 3 rfl rfl)
theorem dX9_shore_53 : decode cX9_shore 53 = .ok (.if_icmp .ge 7, 3) := dk_162 0 7 (dk_at dksX9_shore_2 6 rfl rfl)
theorem dX9_shore_56 : decode cX9_shore 56 = .ok (.iconst 1, 1) := dk_4 (dk_at dksX9_shore_2 9 rfl rfl)
theorem dX9_shore_57 : decode cX9_shore 57 = .ok (.goto 4, 3) := dk_167 0 4 (dk_at dksX9_shore_2 10 rfl rfl)
theorem dX9_shore_60 : decode cX9_shore 60 = .ok (.iconst 0, 1) := dk_3 (dk_at dksX9_shore_2 13 rfl rfl)
theorem dX9_shore_61 : decode cX9_shore 61 = .ok (.iconst 4, 1) := dk_7 (dk_at dksX9_shore_2 14 rfl rfl)
theorem dX9_shore_62 : decode cX9_shore 62 = .ok (.invokevirtual 98, 3) := dk_182 0 98 (dk_at dksX9_shore_2 15 rfl rfl)
theorem dX9_shore_65 : decode cX9_shore 65 = .ok (.aload_n 0, 1) := dk_42 (dk_at dksX9_shore_2 18 rfl rfl)
theorem dX9_shore_66 : decode cX9_shore 66 = .ok (.getfield 54, 3) := dk_180 0 54 (dk_at dksX9_shore_2 19 rfl rfl)
theorem dX9_shore_69 : decode cX9_shore 69 = .ok (.ireturn, 1) := dk_172 (dk_at dksX9_shore_2 22 rfl rfl)
abbrev cX9_water : ByteArray := prog_13_method_24_code
def yX9_water : MethodName := ⟨RX9, "water", "(Z)V"⟩
def dkwX9_water_3 : List UInt8 := [180, 0, 223, 29, 50, 28, 4, 84, 177]
abbrev dktX9_water_3 : List UInt8 := dkwX9_water_3 ++ []
def dkwX9_water_2 : List UInt8 := [181, 0, 219, 42, 180, 0, 18, 180, 0, 223, 28, 50, 29, 4, 84, 27, 153, 0, 15, 42, 180, 0, 18]
abbrev dktX9_water_2 : List UInt8 := dkwX9_water_2 ++ dktX9_water_3
def dkwX9_water_1 : List UInt8 := [4, 167, 0, 4, 3, 8, 182, 0, 98, 42, 182, 0, 102, 42, 16, 59, 182, 0, 132, 42, 180, 0, 18, 3]
abbrev dktX9_water_1 : List UInt8 := dkwX9_water_1 ++ dktX9_water_2
def dkwX9_water_0 : List UInt8 := [42, 182, 0, 102, 42, 182, 0, 208, 61, 42, 182, 0, 102, 42, 182, 0, 208, 62, 42, 28, 29, 159, 0, 7]
abbrev dktX9_water_0 : List UInt8 := dkwX9_water_0 ++ dktX9_water_1
theorem dksX9_water_0 : cX9_water.data.toList.drop 0 = dktX9_water_0 := by decide +kernel
theorem dksX9_water_1 : cX9_water.data.toList.drop 24 = dktX9_water_1 := dk_seg dksX9_water_0 24 rfl rfl
theorem dksX9_water_2 : cX9_water.data.toList.drop 48 = dktX9_water_2 := dk_seg dksX9_water_1 24 rfl rfl
theorem dksX9_water_3 : cX9_water.data.toList.drop 71 = dktX9_water_3 := dk_seg dksX9_water_2 23 rfl rfl
theorem dX9_water_0 : decode cX9_water 0 = .ok (.aload_n 0, 1) := dk_42 (dk_at dksX9_water_0 0 rfl rfl)
theorem dX9_water_1 : decode cX9_water 1 = .ok (.invokevirtual 102, 3) := dk_182 0 102 (dk_at dksX9_water_0 1 rfl rfl)
theorem dX9_water_4 : decode cX9_water 4 = .ok (.aload_n 0, 1) := dk_42 (dk_at dksX9_water_0 4 rfl rfl)
theorem dX9_water_5 : decode cX9_water 5 = .ok (.invokevirtual 208, 3) := dk_182 0 208 (dk_at dksX9_water_0 5 rfl rfl)
theorem dX9_water_8 : decode cX9_water 8 = .ok (.istore_n 2, 1) := dk_61 (dk_at dksX9_water_0 8 rfl rfl)
theorem dX9_water_9 : decode cX9_water 9 = .ok (.aload_n 0, 1) := dk_42 (dk_at dksX9_water_0 9 rfl rfl)
theorem dX9_water_10 : decode cX9_water 10 = .ok (.invokevirtual 102, 3) := dk_182 0 102 (dk_at dksX9_water_0 10 rfl rfl)
theorem dX9_water_13 : decode cX9_water 13 = .ok (.aload_n 0, 1) := dk_42 (dk_at dksX9_water_0 13 rfl rfl)
theorem dX9_water_14 : decode cX9_water 14 = .ok (.invokevirtual 208, 3) := dk_182 0 208 (dk_at dksX9_water_0 14 rfl rfl)
theorem dX9_water_17 : decode cX9_water 17 = .ok (.istore_n 3, 1) := dk_62 (dk_at dksX9_water_0 17 rfl rfl)
theorem dX9_water_18 : decode cX9_water 18 = .ok (.aload_n 0, 1) := dk_42 (dk_at dksX9_water_0 18 rfl rfl)
theorem dX9_water_19 : decode cX9_water 19 = .ok (.iload_n 2, 1) := dk_28 (dk_at dksX9_water_0 19 rfl rfl)
theorem dX9_water_20 : decode cX9_water 20 = .ok (.iload_n 3, 1) := dk_29 (dk_at dksX9_water_0 20 rfl rfl)
theorem dX9_water_21 : decode cX9_water 21 = .ok (.if_icmp .eq 7, 3) := dk_159 0 7 (dk_at dksX9_water_0 21 rfl rfl)
theorem dX9_water_24 : decode cX9_water 24 = .ok (.iconst 1, 1) := dk_4 (dk_at dksX9_water_1 0 rfl rfl)
theorem dX9_water_25 : decode cX9_water 25 = .ok (.goto 4, 3) := dk_167 0 4 (dk_at dksX9_water_1 1 rfl rfl)
theorem dX9_water_28 : decode cX9_water 28 = .ok (.iconst 0, 1) := dk_3 (dk_at dksX9_water_1 4 rfl rfl)
theorem dX9_water_29 : decode cX9_water 29 = .ok (.iconst 5, 1) := dk_8 (dk_at dksX9_water_1 5 rfl rfl)
theorem dX9_water_30 : decode cX9_water 30 = .ok (.invokevirtual 98, 3) := dk_182 0 98 (dk_at dksX9_water_1 6 rfl rfl)
theorem dX9_water_33 : decode cX9_water 33 = .ok (.aload_n 0, 1) := dk_42 (dk_at dksX9_water_1 9 rfl rfl)
theorem dX9_water_34 : decode cX9_water 34 = .ok (.invokevirtual 102, 3) := dk_182 0 102 (dk_at dksX9_water_1 10 rfl rfl)
theorem dX9_water_37 : decode cX9_water 37 = .ok (.aload_n 0, 1) := dk_42 (dk_at dksX9_water_1 13 rfl rfl)
theorem dX9_water_38 : decode cX9_water 38 = .ok (.bipush 59, 2) := dk_16 59 (dk_at dksX9_water_1 14 rfl rfl)
theorem dX9_water_40 : decode cX9_water 40 = .ok (.invokevirtual 132, 3) := dk_182 0 132 (dk_at dksX9_water_1 16 rfl rfl)
theorem dX9_water_43 : decode cX9_water 43 = .ok (.aload_n 0, 1) := dk_42 (dk_at dksX9_water_1 19 rfl rfl)
theorem dX9_water_44 : decode cX9_water 44 = .ok (.getfield 18, 3) := dk_180 0 18 (dk_at dksX9_water_1 20 rfl rfl)
theorem dX9_water_47 : decode cX9_water 47 = .ok (.iconst 0, 1) := dk_3 (dk_at dksX9_water_1 23 rfl rfl)
theorem dX9_water_48 : decode cX9_water 48 = .ok (.putfield 219, 3) := dk_181 0 219 (dk_at dksX9_water_2 0 rfl rfl)
theorem dX9_water_51 : decode cX9_water 51 = .ok (.aload_n 0, 1) := dk_42 (dk_at dksX9_water_2 3 rfl rfl)
theorem dX9_water_52 : decode cX9_water 52 = .ok (.getfield 18, 3) := dk_180 0 18 (dk_at dksX9_water_2 4 rfl rfl)
theorem dX9_water_55 : decode cX9_water 55 = .ok (.getfield 223, 3) := dk_180 0 223 (dk_at dksX9_water_2 7 rfl rfl)
theorem dX9_water_58 : decode cX9_water 58 = .ok (.iload_n 2, 1) := dk_28 (dk_at dksX9_water_2 10 rfl rfl)
theorem dX9_water_59 : decode cX9_water 59 = .ok (.aaload, 1) := dk_50 (dk_at dksX9_water_2 11 rfl rfl)
theorem dX9_water_60 : decode cX9_water 60 = .ok (.iload_n 3, 1) := dk_29 (dk_at dksX9_water_2 12 rfl rfl)
theorem dX9_water_61 : decode cX9_water 61 = .ok (.iconst 1, 1) := dk_4 (dk_at dksX9_water_2 13 rfl rfl)
theorem dX9_water_62 : decode cX9_water 62 = .ok (.bastore, 1) := dk_84 (dk_at dksX9_water_2 14 rfl rfl)
theorem dX9_water_63 : decode cX9_water 63 = .ok (.iload_n 1, 1) := dk_27 (dk_at dksX9_water_2 15 rfl rfl)
theorem dX9_water_64 : decode cX9_water 64 = .ok (.ifCond .eq 15, 3) := dk_153 0 15 (dk_at dksX9_water_2 16 rfl rfl)
theorem dX9_water_67 : decode cX9_water 67 = .ok (.aload_n 0, 1) := dk_42 (dk_at dksX9_water_2 19 rfl rfl)
theorem dX9_water_68 : decode cX9_water 68 = .ok (.getfield 18, 3) := dk_180 0 18 (dk_at dksX9_water_2 20 rfl rfl)
theorem dX9_water_71 : decode cX9_water 71 = .ok (.getfield 223, 3) := dk_180 0 223 (dk_at dksX9_water_3 0 rfl rfl)
theorem dX9_water_74 : decode cX9_water 74 = .ok (.iload_n 3, 1) := dk_29 (dk_at dksX9_water_3 3 rfl rfl)
theorem dX9_water_75 : decode cX9_water 75 = .ok (.aaload, 1) := dk_50 (dk_at dksX9_water_3 4 rfl rfl)
theorem dX9_water_76 : decode cX9_water 76 = .ok (.iload_n 2, 1) := dk_28 (dk_at dksX9_water_3 5 rfl rfl)
theorem dX9_water_77 : decode cX9_water 77 = .ok (.iconst 1, 1) := dk_4 (dk_at dksX9_water_3 6 rfl rfl)
theorem dX9_water_78 : decode cX9_water 78 = .ok (.bastore, 1) := dk_84 (dk_at dksX9_water_3 7 rfl rfl)
theorem dX9_water_79 : decode cX9_water 79 = .ok (.return_, 1) := dk_177 (dk_at dksX9_water_3 8 rfl rfl)
abbrev cX9_lamp : ByteArray := prog_13_method_25_code
def yX9_lamp : MethodName := ⟨RX9, "lamp", "()V"⟩
def dkwX9_lamp_2 : List UInt8 := [42, 16, 59, 182, 0, 132, 177]
abbrev dktX9_lamp_2 : List UInt8 := dkwX9_lamp_2 ++ []
def dkwX9_lamp_1 : List UInt8 := [182, 0, 102, 42, 18, 207, 182, 0, 179, 42, 180, 0, 18, 42, 182, 0, 208, 181, 0, 227, 42, 182, 0, 102]
abbrev dktX9_lamp_1 : List UInt8 := dkwX9_lamp_1 ++ dktX9_lamp_2
def dkwX9_lamp_0 : List UInt8 := [42, 42, 180, 0, 18, 180, 0, 227, 2, 160, 0, 7, 4, 167, 0, 4, 3, 8, 182, 0, 98, 42]
abbrev dktX9_lamp_0 : List UInt8 := dkwX9_lamp_0 ++ dktX9_lamp_1
theorem dksX9_lamp_0 : cX9_lamp.data.toList.drop 0 = dktX9_lamp_0 := by decide +kernel
theorem dksX9_lamp_1 : cX9_lamp.data.toList.drop 22 = dktX9_lamp_1 := dk_seg dksX9_lamp_0 22 rfl rfl
theorem dksX9_lamp_2 : cX9_lamp.data.toList.drop 46 = dktX9_lamp_2 := dk_seg dksX9_lamp_1 24 rfl rfl
theorem dX9_lamp_0 : decode cX9_lamp 0 = .ok (.aload_n 0, 1) := dk_42 (dk_at dksX9_lamp_0 0 rfl rfl)
theorem dX9_lamp_1 : decode cX9_lamp 1 = .ok (.aload_n 0, 1) := dk_42 (dk_at dksX9_lamp_0 1 rfl rfl)
theorem dX9_lamp_2 : decode cX9_lamp 2 = .ok (.getfield 18, 3) := dk_180 0 18 (dk_at dksX9_lamp_0 2 rfl rfl)
theorem dX9_lamp_5 : decode cX9_lamp 5 = .ok (.getfield 227, 3) := dk_180 0 227 (dk_at dksX9_lamp_0 5 rfl rfl)
theorem dX9_lamp_8 : decode cX9_lamp 8 = .ok (.iconst (-1), 1) := dk_2 (dk_at dksX9_lamp_0 8 rfl rfl)
theorem dX9_lamp_9 : decode cX9_lamp 9 = .ok (.if_icmp .ne 7, 3) := dk_160 0 7 (dk_at dksX9_lamp_0 9 rfl rfl)
theorem dX9_lamp_12 : decode cX9_lamp 12 = .ok (.iconst 1, 1) := dk_4 (dk_at dksX9_lamp_0 12 rfl rfl)
theorem dX9_lamp_13 : decode cX9_lamp 13 = .ok (.goto 4, 3) := dk_167 0 4 (dk_at dksX9_lamp_0 13 rfl rfl)
theorem dX9_lamp_16 : decode cX9_lamp 16 = .ok (.iconst 0, 1) := dk_3 (dk_at dksX9_lamp_0 16 rfl rfl)
theorem dX9_lamp_17 : decode cX9_lamp 17 = .ok (.iconst 5, 1) := dk_8 (dk_at dksX9_lamp_0 17 rfl rfl)
theorem dX9_lamp_18 : decode cX9_lamp 18 = .ok (.invokevirtual 98, 3) := dk_182 0 98 (dk_at dksX9_lamp_0 18 rfl rfl)
theorem dX9_lamp_21 : decode cX9_lamp 21 = .ok (.aload_n 0, 1) := dk_42 (dk_at dksX9_lamp_0 21 rfl rfl)
theorem dX9_lamp_22 : decode cX9_lamp 22 = .ok (.invokevirtual 102, 3) := dk_182 0 102 (dk_at dksX9_lamp_1 0 rfl rfl)
theorem dX9_lamp_25 : decode cX9_lamp 25 = .ok (.aload_n 0, 1) := dk_42 (dk_at dksX9_lamp_1 3 rfl rfl)
theorem dX9_lamp_26 : decode cX9_lamp 26 = .ok (.ldc 207, 2) := dk_18 207 (dk_at dksX9_lamp_1 4 rfl rfl)
theorem dX9_lamp_28 : decode cX9_lamp 28 = .ok (.invokevirtual 179, 3) := dk_182 0 179 (dk_at dksX9_lamp_1 6 rfl rfl)
theorem dX9_lamp_31 : decode cX9_lamp 31 = .ok (.aload_n 0, 1) := dk_42 (dk_at dksX9_lamp_1 9 rfl rfl)
theorem dX9_lamp_32 : decode cX9_lamp 32 = .ok (.getfield 18, 3) := dk_180 0 18 (dk_at dksX9_lamp_1 10 rfl rfl)
theorem dX9_lamp_35 : decode cX9_lamp 35 = .ok (.aload_n 0, 1) := dk_42 (dk_at dksX9_lamp_1 13 rfl rfl)
theorem dX9_lamp_36 : decode cX9_lamp 36 = .ok (.invokevirtual 208, 3) := dk_182 0 208 (dk_at dksX9_lamp_1 14 rfl rfl)
theorem dX9_lamp_39 : decode cX9_lamp 39 = .ok (.putfield 227, 3) := dk_181 0 227 (dk_at dksX9_lamp_1 17 rfl rfl)
theorem dX9_lamp_42 : decode cX9_lamp 42 = .ok (.aload_n 0, 1) := dk_42 (dk_at dksX9_lamp_1 20 rfl rfl)
theorem dX9_lamp_43 : decode cX9_lamp 43 = .ok (.invokevirtual 102, 3) := dk_182 0 102 (dk_at dksX9_lamp_1 21 rfl rfl)
theorem dX9_lamp_46 : decode cX9_lamp 46 = .ok (.aload_n 0, 1) := dk_42 (dk_at dksX9_lamp_2 0 rfl rfl)
theorem dX9_lamp_47 : decode cX9_lamp 47 = .ok (.bipush 59, 2) := dk_16 59 (dk_at dksX9_lamp_2 1 rfl rfl)
theorem dX9_lamp_49 : decode cX9_lamp 49 = .ok (.invokevirtual 132, 3) := dk_182 0 132 (dk_at dksX9_lamp_2 3 rfl rfl)
theorem dX9_lamp_52 : decode cX9_lamp 52 = .ok (.return_, 1) := dk_177 (dk_at dksX9_lamp_2 6 rfl rfl)
abbrev cX9_never : ByteArray := prog_13_method_26_code
def yX9_never : MethodName := ⟨RX9, "never", "()V"⟩
def dkwX9_never_5 : List UInt8 := [16, 59, 182, 0, 132, 42, 180, 0, 18, 180, 0, 230, 43, 185, 0, 216, 2, 0, 87, 177]
abbrev dktX9_never_5 : List UInt8 := dkwX9_never_5 ++ []
def dkwX9_never_4 : List UInt8 := [182, 0, 89, 153, 0, 19, 42, 182, 0, 102, 43, 42, 182, 0, 208, 181, 0, 240, 42, 182, 0, 102, 42]
abbrev dktX9_never_4 : List UInt8 := dkwX9_never_4 ++ dktX9_never_5
def dkwX9_never_3 : List UInt8 := [153, 0, 7, 2, 167, 0, 5, 16, 254, 181, 0, 240, 42, 182, 0, 102, 167, 0, 28, 42, 18, 207]
abbrev dktX9_never_3 : List UInt8 := dkwX9_never_3 ++ dktX9_never_4
def dkwX9_never_2 : List UInt8 := [182, 0, 89, 154, 0, 12, 42, 18, 238, 182, 0, 89, 153, 0, 29, 43, 42, 18, 236, 182, 0, 89]
abbrev dktX9_never_2 : List UInt8 := dkwX9_never_2 ++ dktX9_never_3
def dkwX9_never_1 : List UInt8 := [182, 0, 98, 42, 182, 0, 102, 187, 0, 233, 89, 42, 3, 182, 0, 135, 183, 0, 235, 76, 42, 18, 236]
abbrev dktX9_never_1 : List UInt8 := dkwX9_never_1 ++ dktX9_never_2
def dkwX9_never_0 : List UInt8 := [42, 42, 180, 0, 18, 180, 0, 230, 185, 0, 199, 1, 0, 16, 12, 162, 0, 7, 4, 167, 0, 4, 3, 5]
abbrev dktX9_never_0 : List UInt8 := dkwX9_never_0 ++ dktX9_never_1
theorem dksX9_never_0 : cX9_never.data.toList.drop 0 = dktX9_never_0 := by decide +kernel
theorem dksX9_never_1 : cX9_never.data.toList.drop 24 = dktX9_never_1 := dk_seg dksX9_never_0 24 rfl rfl
theorem dksX9_never_2 : cX9_never.data.toList.drop 47 = dktX9_never_2 := dk_seg dksX9_never_1 23 rfl rfl
theorem dksX9_never_3 : cX9_never.data.toList.drop 69 = dktX9_never_3 := dk_seg dksX9_never_2 22 rfl rfl
theorem dksX9_never_4 : cX9_never.data.toList.drop 91 = dktX9_never_4 := dk_seg dksX9_never_3 22 rfl rfl
theorem dksX9_never_5 : cX9_never.data.toList.drop 114 = dktX9_never_5 := dk_seg dksX9_never_4 23 rfl rfl
theorem dX9_never_0 : decode cX9_never 0 = .ok (.aload_n 0, 1) := dk_42 (dk_at dksX9_never_0 0 rfl rfl)
theorem dX9_never_1 : decode cX9_never 1 = .ok (.aload_n 0, 1) := dk_42 (dk_at dksX9_never_0 1 rfl rfl)
theorem dX9_never_2 : decode cX9_never 2 = .ok (.getfield 18, 3) := dk_180 0 18 (dk_at dksX9_never_0 2 rfl rfl)
theorem dX9_never_5 : decode cX9_never 5 = .ok (.getfield 230, 3) := dk_180 0 230 (dk_at dksX9_never_0 5 rfl rfl)
theorem dX9_never_8 : decode cX9_never 8 = .ok (.invokeinterface 199 1, 5) := by decide +kernel
theorem dX9_never_13 : decode cX9_never 13 = .ok (.bipush 12, 2) := dk_16 12 (dk_at dksX9_never_0 13 rfl rfl)
theorem dX9_never_15 : decode cX9_never 15 = .ok (.if_icmp .ge 7, 3) := dk_162 0 7 (dk_at dksX9_never_0 15 rfl rfl)
theorem dX9_never_18 : decode cX9_never 18 = .ok (.iconst 1, 1) := dk_4 (dk_at dksX9_never_0 18 rfl rfl)
theorem dX9_never_19 : decode cX9_never 19 = .ok (.goto 4, 3) := dk_167 0 4 (dk_at dksX9_never_0 19 rfl rfl)
theorem dX9_never_22 : decode cX9_never 22 = .ok (.iconst 0, 1) := dk_3 (dk_at dksX9_never_0 22 rfl rfl)
theorem dX9_never_23 : decode cX9_never 23 = .ok (.iconst 2, 1) := dk_5 (dk_at dksX9_never_0 23 rfl rfl)
theorem dX9_never_24 : decode cX9_never 24 = .ok (.invokevirtual 98, 3) := dk_182 0 98 (dk_at dksX9_never_1 0 rfl rfl)
theorem dX9_never_27 : decode cX9_never 27 = .ok (.aload_n 0, 1) := dk_42 (dk_at dksX9_never_1 3 rfl rfl)
theorem dX9_never_28 : decode cX9_never 28 = .ok (.invokevirtual 102, 3) := dk_182 0 102 (dk_at dksX9_never_1 4 rfl rfl)
theorem dX9_never_31 : decode cX9_never 31 = .ok (.new 233, 3) := dk_187 0 233 (dk_at dksX9_never_1 7 rfl rfl)
theorem dX9_never_34 : decode cX9_never 34 = .ok (.dup, 1) := dk_89 (dk_at dksX9_never_1 10 rfl rfl)
theorem dX9_never_35 : decode cX9_never 35 = .ok (.aload_n 0, 1) := dk_42 (dk_at dksX9_never_1 11 rfl rfl)
theorem dX9_never_36 : decode cX9_never 36 = .ok (.iconst 0, 1) := dk_3 (dk_at dksX9_never_1 12 rfl rfl)
theorem dX9_never_37 : decode cX9_never 37 = .ok (.invokevirtual 135, 3) := dk_182 0 135 (dk_at dksX9_never_1 13 rfl rfl)
theorem dX9_never_40 : decode cX9_never 40 = .ok (.invokespecial 235, 3) := dk_183 0 235 (dk_at dksX9_never_1 16 rfl rfl)
theorem dX9_never_43 : decode cX9_never 43 = .ok (.astore_n 1, 1) := dk_76 (dk_at dksX9_never_1 19 rfl rfl)
theorem dX9_never_44 : decode cX9_never 44 = .ok (.aload_n 0, 1) := dk_42 (dk_at dksX9_never_1 20 rfl rfl)
theorem dX9_never_45 : decode cX9_never 45 = .ok (.ldc 236, 2) := dk_18 236 (dk_at dksX9_never_1 21 rfl rfl)
theorem dX9_never_47 : decode cX9_never 47 = .ok (.invokevirtual 89, 3) := dk_182 0 89 (dk_at dksX9_never_2 0 rfl rfl)
theorem dX9_never_50 : decode cX9_never 50 = .ok (.ifCond .ne 12, 3) := dk_154 0 12 (dk_at dksX9_never_2 3 rfl rfl)
theorem dX9_never_53 : decode cX9_never 53 = .ok (.aload_n 0, 1) := dk_42 (dk_at dksX9_never_2 6 rfl rfl)
theorem dX9_never_54 : decode cX9_never 54 = .ok (.ldc 238, 2) := dk_18 238 (dk_at dksX9_never_2 7 rfl rfl)
theorem dX9_never_56 : decode cX9_never 56 = .ok (.invokevirtual 89, 3) := dk_182 0 89 (dk_at dksX9_never_2 9 rfl rfl)
theorem dX9_never_59 : decode cX9_never 59 = .ok (.ifCond .eq 29, 3) := dk_153 0 29 (dk_at dksX9_never_2 12 rfl rfl)
theorem dX9_never_62 : decode cX9_never 62 = .ok (.aload_n 1, 1) := dk_43 (dk_at dksX9_never_2 15 rfl rfl)
theorem dX9_never_63 : decode cX9_never 63 = .ok (.aload_n 0, 1) := dk_42 (dk_at dksX9_never_2 16 rfl rfl)
theorem dX9_never_64 : decode cX9_never 64 = .ok (.ldc 236, 2) := dk_18 236 (dk_at dksX9_never_2 17 rfl rfl)
theorem dX9_never_66 : decode cX9_never 66 = .ok (.invokevirtual 89, 3) := dk_182 0 89 (dk_at dksX9_never_2 19 rfl rfl)
theorem dX9_never_69 : decode cX9_never 69 = .ok (.ifCond .eq 7, 3) := dk_153 0 7 (dk_at dksX9_never_3 0 rfl rfl)
theorem dX9_never_72 : decode cX9_never 72 = .ok (.iconst (-1), 1) := dk_2 (dk_at dksX9_never_3 3 rfl rfl)
theorem dX9_never_73 : decode cX9_never 73 = .ok (.goto 5, 3) := dk_167 0 5 (dk_at dksX9_never_3 4 rfl rfl)
theorem dX9_never_76 : decode cX9_never 76 = .ok (.bipush (-2), 2) := dk_16 254 (dk_at dksX9_never_3 7 rfl rfl)
theorem dX9_never_78 : decode cX9_never 78 = .ok (.putfield 240, 3) := dk_181 0 240 (dk_at dksX9_never_3 9 rfl rfl)
theorem dX9_never_81 : decode cX9_never 81 = .ok (.aload_n 0, 1) := dk_42 (dk_at dksX9_never_3 12 rfl rfl)
theorem dX9_never_82 : decode cX9_never 82 = .ok (.invokevirtual 102, 3) := dk_182 0 102 (dk_at dksX9_never_3 13 rfl rfl)
theorem dX9_never_85 : decode cX9_never 85 = .ok (.goto 28, 3) := dk_167 0 28 (dk_at dksX9_never_3 16 rfl rfl)
theorem dX9_never_88 : decode cX9_never 88 = .ok (.aload_n 0, 1) := dk_42 (dk_at dksX9_never_3 19 rfl rfl)
theorem dX9_never_89 : decode cX9_never 89 = .ok (.ldc 207, 2) := dk_18 207 (dk_at dksX9_never_3 20 rfl rfl)
theorem dX9_never_91 : decode cX9_never 91 = .ok (.invokevirtual 89, 3) := dk_182 0 89 (dk_at dksX9_never_4 0 rfl rfl)
theorem dX9_never_94 : decode cX9_never 94 = .ok (.ifCond .eq 19, 3) := dk_153 0 19 (dk_at dksX9_never_4 3 rfl rfl)
theorem dX9_never_97 : decode cX9_never 97 = .ok (.aload_n 0, 1) := dk_42 (dk_at dksX9_never_4 6 rfl rfl)
theorem dX9_never_98 : decode cX9_never 98 = .ok (.invokevirtual 102, 3) := dk_182 0 102 (dk_at dksX9_never_4 7 rfl rfl)
theorem dX9_never_101 : decode cX9_never 101 = .ok (.aload_n 1, 1) := dk_43 (dk_at dksX9_never_4 10 rfl rfl)
theorem dX9_never_102 : decode cX9_never 102 = .ok (.aload_n 0, 1) := dk_42 (dk_at dksX9_never_4 11 rfl rfl)
theorem dX9_never_103 : decode cX9_never 103 = .ok (.invokevirtual 208, 3) := dk_182 0 208 (dk_at dksX9_never_4 12 rfl rfl)
theorem dX9_never_106 : decode cX9_never 106 = .ok (.putfield 240, 3) := dk_181 0 240 (dk_at dksX9_never_4 15 rfl rfl)
theorem dX9_never_109 : decode cX9_never 109 = .ok (.aload_n 0, 1) := dk_42 (dk_at dksX9_never_4 18 rfl rfl)
theorem dX9_never_110 : decode cX9_never 110 = .ok (.invokevirtual 102, 3) := dk_182 0 102 (dk_at dksX9_never_4 19 rfl rfl)
theorem dX9_never_113 : decode cX9_never 113 = .ok (.aload_n 0, 1) := dk_42 (dk_at dksX9_never_4 22 rfl rfl)
theorem dX9_never_114 : decode cX9_never 114 = .ok (.bipush 59, 2) := dk_16 59 (dk_at dksX9_never_5 0 rfl rfl)
theorem dX9_never_116 : decode cX9_never 116 = .ok (.invokevirtual 132, 3) := dk_182 0 132 (dk_at dksX9_never_5 2 rfl rfl)
theorem dX9_never_119 : decode cX9_never 119 = .ok (.aload_n 0, 1) := dk_42 (dk_at dksX9_never_5 5 rfl rfl)
theorem dX9_never_120 : decode cX9_never 120 = .ok (.getfield 18, 3) := dk_180 0 18 (dk_at dksX9_never_5 6 rfl rfl)
theorem dX9_never_123 : decode cX9_never 123 = .ok (.getfield 230, 3) := dk_180 0 230 (dk_at dksX9_never_5 9 rfl rfl)
theorem dX9_never_126 : decode cX9_never 126 = .ok (.aload_n 1, 1) := dk_43 (dk_at dksX9_never_5 12 rfl rfl)
theorem dX9_never_127 : decode cX9_never 127 = .ok (.invokeinterface 216 2, 5) := by decide +kernel
theorem dX9_never_132 : decode cX9_never 132 = .ok (.pop, 1) := dk_87 (dk_at dksX9_never_5 18 rfl rfl)
theorem dX9_never_133 : decode cX9_never 133 = .ok (.return_, 1) := dk_177 (dk_at dksX9_never_5 19 rfl rfl)
abbrev cX9_expression : ByteArray := prog_13_method_21_code
def yX9_expression : MethodName := ⟨RX9, "expression", "(I)LFerryHall$Ex;"⟩
def dkwX9_expression_3 : List UInt8 := [153, 0, 21, 42, 182, 0, 102, 44, 16, 124, 42, 27, 182, 0, 170, 182, 0, 151, 167, 255, 232, 44, 176]
abbrev dktX9_expression_3 : List UInt8 := dkwX9_expression_3 ++ []
def dkwX9_expression_2 : List UInt8 := [5, 182, 0, 98, 187, 0, 139, 89, 42, 27, 182, 0, 170, 183, 0, 144, 77, 42, 18, 172, 182, 0, 89]
abbrev dktX9_expression_2 : List UInt8 := dkwX9_expression_2 ++ dktX9_expression_3
def dkwX9_expression_1 : List UInt8 := [153, 0, 7, 4, 167, 0, 4, 3, 4, 182, 0, 98, 42, 27, 16, 6, 162, 0, 7, 4, 167, 0, 4, 3]
abbrev dktX9_expression_1 : List UInt8 := dkwX9_expression_1 ++ dktX9_expression_2
def dkwX9_expression_0 : List UInt8 := [42, 42, 180, 0, 44, 5, 159, 0, 20, 42, 180, 0, 44, 4, 159, 0, 12, 42, 16, 40, 182, 0, 105]
abbrev dktX9_expression_0 : List UInt8 := dkwX9_expression_0 ++ dktX9_expression_1
theorem dksX9_expression_0 : cX9_expression.data.toList.drop 0 = dktX9_expression_0 := by decide +kernel
theorem dksX9_expression_1 : cX9_expression.data.toList.drop 23 = dktX9_expression_1 := dk_seg dksX9_expression_0 23 rfl rfl
theorem dksX9_expression_2 : cX9_expression.data.toList.drop 47 = dktX9_expression_2 := dk_seg dksX9_expression_1 24 rfl rfl
theorem dksX9_expression_3 : cX9_expression.data.toList.drop 70 = dktX9_expression_3 := dk_seg dksX9_expression_2 23 rfl rfl
theorem dX9_expression_0 : decode cX9_expression 0 = .ok (.aload_n 0, 1) := dk_42 (dk_at dksX9_expression_0 0 rfl rfl)
theorem dX9_expression_1 : decode cX9_expression 1 = .ok (.aload_n 0, 1) := dk_42 (dk_at dksX9_expression_0 1 rfl rfl)
theorem dX9_expression_2 : decode cX9_expression 2 = .ok (.getfield 44, 3) := dk_180 0 44 (dk_at dksX9_expression_0 2 rfl rfl)
theorem dX9_expression_5 : decode cX9_expression 5 = .ok (.iconst 2, 1) := dk_5 (dk_at dksX9_expression_0 5 rfl rfl)
theorem dX9_expression_6 : decode cX9_expression 6 = .ok (.if_icmp .eq 20, 3) := dk_159 0 20 (dk_at dksX9_expression_0 6 rfl rfl)
theorem dX9_expression_9 : decode cX9_expression 9 = .ok (.aload_n 0, 1) := dk_42 (dk_at dksX9_expression_0 9 rfl rfl)
theorem dX9_expression_10 : decode cX9_expression 10 = .ok (.getfield 44, 3) := dk_180 0 44 (dk_at dksX9_expression_0 10 rfl rfl)
theorem dX9_expression_13 : decode cX9_expression 13 = .ok (.iconst 1, 1) := dk_4 (dk_at dksX9_expression_0 13 rfl rfl)
theorem dX9_expression_14 : decode cX9_expression 14 = .ok (.if_icmp .eq 12, 3) := dk_159 0 12 (dk_at dksX9_expression_0 14 rfl rfl)
theorem dX9_expression_17 : decode cX9_expression 17 = .ok (.aload_n 0, 1) := dk_42 (dk_at dksX9_expression_0 17 rfl rfl)
theorem dX9_expression_18 : decode cX9_expression 18 = .ok (.bipush 40, 2) := dk_16 40 (dk_at dksX9_expression_0 18 rfl rfl)
theorem dX9_expression_20 : decode cX9_expression 20 = .ok (.invokevirtual 105, 3) := dk_182 0 105 (dk_at dksX9_expression_0 20 rfl rfl)
theorem dX9_expression_23 : decode cX9_expression 23 = .ok (.ifCond .eq 7, 3) := dk_153 0 7 (dk_at dksX9_expression_1 0 rfl rfl)
theorem dX9_expression_26 : decode cX9_expression 26 = .ok (.iconst 1, 1) := dk_4 (dk_at dksX9_expression_1 3 rfl rfl)
theorem dX9_expression_27 : decode cX9_expression 27 = .ok (.goto 4, 3) := dk_167 0 4 (dk_at dksX9_expression_1 4 rfl rfl)
theorem dX9_expression_30 : decode cX9_expression 30 = .ok (.iconst 0, 1) := dk_3 (dk_at dksX9_expression_1 7 rfl rfl)
theorem dX9_expression_31 : decode cX9_expression 31 = .ok (.iconst 1, 1) := dk_4 (dk_at dksX9_expression_1 8 rfl rfl)
theorem dX9_expression_32 : decode cX9_expression 32 = .ok (.invokevirtual 98, 3) := dk_182 0 98 (dk_at dksX9_expression_1 9 rfl rfl)
theorem dX9_expression_35 : decode cX9_expression 35 = .ok (.aload_n 0, 1) := dk_42 (dk_at dksX9_expression_1 12 rfl rfl)
theorem dX9_expression_36 : decode cX9_expression 36 = .ok (.iload_n 1, 1) := dk_27 (dk_at dksX9_expression_1 13 rfl rfl)
theorem dX9_expression_37 : decode cX9_expression 37 = .ok (.bipush 6, 2) := dk_16 6 (dk_at dksX9_expression_1 14 rfl rfl)
theorem dX9_expression_39 : decode cX9_expression 39 = .ok (.if_icmp .ge 7, 3) := dk_162 0 7 (dk_at dksX9_expression_1 16 rfl rfl)
theorem dX9_expression_42 : decode cX9_expression 42 = .ok (.iconst 1, 1) := dk_4 (dk_at dksX9_expression_1 19 rfl rfl)
theorem dX9_expression_43 : decode cX9_expression 43 = .ok (.goto 4, 3) := dk_167 0 4 (dk_at dksX9_expression_1 20 rfl rfl)
theorem dX9_expression_46 : decode cX9_expression 46 = .ok (.iconst 0, 1) := dk_3 (dk_at dksX9_expression_1 23 rfl rfl)
theorem dX9_expression_47 : decode cX9_expression 47 = .ok (.iconst 2, 1) := dk_5 (dk_at dksX9_expression_2 0 rfl rfl)
theorem dX9_expression_48 : decode cX9_expression 48 = .ok (.invokevirtual 98, 3) := dk_182 0 98 (dk_at dksX9_expression_2 1 rfl rfl)
theorem dX9_expression_51 : decode cX9_expression 51 = .ok (.new 139, 3) := dk_187 0 139 (dk_at dksX9_expression_2 4 rfl rfl)
theorem dX9_expression_54 : decode cX9_expression 54 = .ok (.dup, 1) := dk_89 (dk_at dksX9_expression_2 7 rfl rfl)
theorem dX9_expression_55 : decode cX9_expression 55 = .ok (.aload_n 0, 1) := dk_42 (dk_at dksX9_expression_2 8 rfl rfl)
theorem dX9_expression_56 : decode cX9_expression 56 = .ok (.iload_n 1, 1) := dk_27 (dk_at dksX9_expression_2 9 rfl rfl)
theorem dX9_expression_57 : decode cX9_expression 57 = .ok (.invokevirtual 170, 3) := dk_182 0 170 (dk_at dksX9_expression_2 10 rfl rfl)
theorem dX9_expression_60 : decode cX9_expression 60 = .ok (.invokespecial 144, 3) := dk_183 0 144 (dk_at dksX9_expression_2 13 rfl rfl)
theorem dX9_expression_63 : decode cX9_expression 63 = .ok (.astore_n 2, 1) := dk_77 (dk_at dksX9_expression_2 16 rfl rfl)
theorem dX9_expression_64 : decode cX9_expression 64 = .ok (.aload_n 0, 1) := dk_42 (dk_at dksX9_expression_2 17 rfl rfl)
theorem dX9_expression_65 : decode cX9_expression 65 = .ok (.ldc 172, 2) := dk_18 172 (dk_at dksX9_expression_2 18 rfl rfl)
theorem dX9_expression_67 : decode cX9_expression 67 = .ok (.invokevirtual 89, 3) := dk_182 0 89 (dk_at dksX9_expression_2 20 rfl rfl)
theorem dX9_expression_70 : decode cX9_expression 70 = .ok (.ifCond .eq 21, 3) := dk_153 0 21 (dk_at dksX9_expression_3 0 rfl rfl)
theorem dX9_expression_73 : decode cX9_expression 73 = .ok (.aload_n 0, 1) := dk_42 (dk_at dksX9_expression_3 3 rfl rfl)
theorem dX9_expression_74 : decode cX9_expression 74 = .ok (.invokevirtual 102, 3) := dk_182 0 102 (dk_at dksX9_expression_3 4 rfl rfl)
theorem dX9_expression_77 : decode cX9_expression 77 = .ok (.aload_n 2, 1) := dk_44 (dk_at dksX9_expression_3 7 rfl rfl)
theorem dX9_expression_78 : decode cX9_expression 78 = .ok (.bipush 124, 2) := dk_16 124 (dk_at dksX9_expression_3 8 rfl rfl)
theorem dX9_expression_80 : decode cX9_expression 80 = .ok (.aload_n 0, 1) := dk_42 (dk_at dksX9_expression_3 10 rfl rfl)
theorem dX9_expression_81 : decode cX9_expression 81 = .ok (.iload_n 1, 1) := dk_27 (dk_at dksX9_expression_3 11 rfl rfl)
theorem dX9_expression_82 : decode cX9_expression 82 = .ok (.invokevirtual 170, 3) := dk_182 0 170 (dk_at dksX9_expression_3 12 rfl rfl)
theorem dX9_expression_85 : decode cX9_expression 85 = .ok (.invokevirtual 151, 3) := dk_182 0 151 (dk_at dksX9_expression_3 15 rfl rfl)
theorem dX9_expression_88 : decode cX9_expression 88 = .ok (.goto (-24), 3) := dk_167 255 232 (dk_at dksX9_expression_3 18 rfl rfl)
theorem dX9_expression_91 : decode cX9_expression 91 = .ok (.aload_n 2, 1) := dk_44 (dk_at dksX9_expression_3 21 rfl rfl)
theorem dX9_expression_92 : decode cX9_expression 92 = .ok (.areturn, 1) := dk_176 (dk_at dksX9_expression_3 22 rfl rfl)
abbrev cX9_and : ByteArray := prog_13_method_20_code
def yX9_and : MethodName := ⟨RX9, "and", "(I)LFerryHall$Ex;"⟩
def dkwX9_and_1 : List UInt8 := [182, 0, 102, 44, 16, 38, 42, 27, 182, 0, 166, 182, 0, 151, 167, 255, 232, 44, 176]
abbrev dktX9_and_1 : List UInt8 := dkwX9_and_1 ++ []
def dkwX9_and_0 : List UInt8 := [187, 0, 139, 89, 42, 27, 182, 0, 166, 183, 0, 144, 77, 42, 18, 168, 182, 0, 89, 153, 0, 21, 42]
abbrev dktX9_and_0 : List UInt8 := dkwX9_and_0 ++ dktX9_and_1
theorem dksX9_and_0 : cX9_and.data.toList.drop 0 = dktX9_and_0 := by decide +kernel
theorem dksX9_and_1 : cX9_and.data.toList.drop 23 = dktX9_and_1 := dk_seg dksX9_and_0 23 rfl rfl
theorem dX9_and_0 : decode cX9_and 0 = .ok (.new 139, 3) := dk_187 0 139 (dk_at dksX9_and_0 0 rfl rfl)
theorem dX9_and_3 : decode cX9_and 3 = .ok (.dup, 1) := dk_89 (dk_at dksX9_and_0 3 rfl rfl)
theorem dX9_and_4 : decode cX9_and 4 = .ok (.aload_n 0, 1) := dk_42 (dk_at dksX9_and_0 4 rfl rfl)
theorem dX9_and_5 : decode cX9_and 5 = .ok (.iload_n 1, 1) := dk_27 (dk_at dksX9_and_0 5 rfl rfl)
theorem dX9_and_6 : decode cX9_and 6 = .ok (.invokevirtual 166, 3) := dk_182 0 166 (dk_at dksX9_and_0 6 rfl rfl)
theorem dX9_and_9 : decode cX9_and 9 = .ok (.invokespecial 144, 3) := dk_183 0 144 (dk_at dksX9_and_0 9 rfl rfl)
theorem dX9_and_12 : decode cX9_and 12 = .ok (.astore_n 2, 1) := dk_77 (dk_at dksX9_and_0 12 rfl rfl)
theorem dX9_and_13 : decode cX9_and 13 = .ok (.aload_n 0, 1) := dk_42 (dk_at dksX9_and_0 13 rfl rfl)
theorem dX9_and_14 : decode cX9_and 14 = .ok (.ldc 168, 2) := dk_18 168 (dk_at dksX9_and_0 14 rfl rfl)
theorem dX9_and_16 : decode cX9_and 16 = .ok (.invokevirtual 89, 3) := dk_182 0 89 (dk_at dksX9_and_0 16 rfl rfl)
theorem dX9_and_19 : decode cX9_and 19 = .ok (.ifCond .eq 21, 3) := dk_153 0 21 (dk_at dksX9_and_0 19 rfl rfl)
theorem dX9_and_22 : decode cX9_and 22 = .ok (.aload_n 0, 1) := dk_42 (dk_at dksX9_and_0 22 rfl rfl)
theorem dX9_and_23 : decode cX9_and 23 = .ok (.invokevirtual 102, 3) := dk_182 0 102 (dk_at dksX9_and_1 0 rfl rfl)
theorem dX9_and_26 : decode cX9_and 26 = .ok (.aload_n 2, 1) := dk_44 (dk_at dksX9_and_1 3 rfl rfl)
theorem dX9_and_27 : decode cX9_and 27 = .ok (.bipush 38, 2) := dk_16 38 (dk_at dksX9_and_1 4 rfl rfl)
theorem dX9_and_29 : decode cX9_and 29 = .ok (.aload_n 0, 1) := dk_42 (dk_at dksX9_and_1 6 rfl rfl)
theorem dX9_and_30 : decode cX9_and 30 = .ok (.iload_n 1, 1) := dk_27 (dk_at dksX9_and_1 7 rfl rfl)
theorem dX9_and_31 : decode cX9_and 31 = .ok (.invokevirtual 166, 3) := dk_182 0 166 (dk_at dksX9_and_1 8 rfl rfl)
theorem dX9_and_34 : decode cX9_and 34 = .ok (.invokevirtual 151, 3) := dk_182 0 151 (dk_at dksX9_and_1 11 rfl rfl)
theorem dX9_and_37 : decode cX9_and 37 = .ok (.goto (-24), 3) := dk_167 255 232 (dk_at dksX9_and_1 14 rfl rfl)
theorem dX9_and_40 : decode cX9_and 40 = .ok (.aload_n 2, 1) := dk_44 (dk_at dksX9_and_1 17 rfl rfl)
theorem dX9_and_41 : decode cX9_and 41 = .ok (.areturn, 1) := dk_176 (dk_at dksX9_and_1 18 rfl rfl)
abbrev cX9_not : ByteArray := prog_13_method_19_code
def yX9_not : MethodName := ⟨RX9, "not", "(I)LFerryHall$Ex;"⟩
def dkwX9_not_4 : List UInt8 := [28, 162, 0, 20, 187, 0, 163, 89, 25, 4, 183, 0, 165, 58, 4, 132, 5, 1, 167, 255, 236, 25, 4, 176]
abbrev dktX9_not_4 : List UInt8 := dkwX9_not_4 ++ []
def dkwX9_not_3 : List UInt8 := [182, 0, 147, 54, 4, 45, 21, 4, 42, 27, 182, 0, 160, 182, 0, 151, 45, 58, 4, 3, 54, 5, 21, 5]
abbrev dktX9_not_3 : List UInt8 := dkwX9_not_3 ++ dktX9_not_4
def dkwX9_not_2 : List UInt8 := [183, 0, 144, 78, 42, 16, 60, 182, 0, 105, 154, 0, 12, 42, 16, 61, 182, 0, 105, 153, 0, 20, 42]
abbrev dktX9_not_2 : List UInt8 := dkwX9_not_2 ++ dktX9_not_3
def dkwX9_not_1 : List UInt8 := [182, 0, 98, 132, 2, 1, 42, 182, 0, 102, 167, 255, 224, 187, 0, 139, 89, 42, 27, 182, 0, 160]
abbrev dktX9_not_1 : List UInt8 := dkwX9_not_1 ++ dktX9_not_2
def dkwX9_not_0 : List UInt8 := [3, 61, 42, 18, 158, 182, 0, 89, 153, 0, 29, 42, 28, 16, 6, 162, 0, 7, 4, 167, 0, 4, 3, 5]
abbrev dktX9_not_0 : List UInt8 := dkwX9_not_0 ++ dktX9_not_1
theorem dksX9_not_0 : cX9_not.data.toList.drop 0 = dktX9_not_0 := by decide +kernel
theorem dksX9_not_1 : cX9_not.data.toList.drop 24 = dktX9_not_1 := dk_seg dksX9_not_0 24 rfl rfl
theorem dksX9_not_2 : cX9_not.data.toList.drop 46 = dktX9_not_2 := dk_seg dksX9_not_1 22 rfl rfl
theorem dksX9_not_3 : cX9_not.data.toList.drop 69 = dktX9_not_3 := dk_seg dksX9_not_2 23 rfl rfl
theorem dksX9_not_4 : cX9_not.data.toList.drop 93 = dktX9_not_4 := dk_seg dksX9_not_3 24 rfl rfl
theorem dX9_not_0 : decode cX9_not 0 = .ok (.iconst 0, 1) := dk_3 (dk_at dksX9_not_0 0 rfl rfl)
theorem dX9_not_1 : decode cX9_not 1 = .ok (.istore_n 2, 1) := dk_61 (dk_at dksX9_not_0 1 rfl rfl)
theorem dX9_not_2 : decode cX9_not 2 = .ok (.aload_n 0, 1) := dk_42 (dk_at dksX9_not_0 2 rfl rfl)
theorem dX9_not_3 : decode cX9_not 3 = .ok (.ldc 158, 2) := dk_18 158 (dk_at dksX9_not_0 3 rfl rfl)
theorem dX9_not_5 : decode cX9_not 5 = .ok (.invokevirtual 89, 3) := dk_182 0 89 (dk_at dksX9_not_0 5 rfl rfl)
theorem dX9_not_8 : decode cX9_not 8 = .ok (.ifCond .eq 29, 3) := dk_153 0 29 (dk_at dksX9_not_0 8 rfl rfl)
theorem dX9_not_11 : decode cX9_not 11 = .ok (.aload_n 0, 1) := dk_42 (dk_at dksX9_not_0 11 rfl rfl)
theorem dX9_not_12 : decode cX9_not 12 = .ok (.iload_n 2, 1) := dk_28 (dk_at dksX9_not_0 12 rfl rfl)
theorem dX9_not_13 : decode cX9_not 13 = .ok (.bipush 6, 2) := dk_16 6 (dk_at dksX9_not_0 13 rfl rfl)
theorem dX9_not_15 : decode cX9_not 15 = .ok (.if_icmp .ge 7, 3) := dk_162 0 7 (dk_at dksX9_not_0 15 rfl rfl)
theorem dX9_not_18 : decode cX9_not 18 = .ok (.iconst 1, 1) := dk_4 (dk_at dksX9_not_0 18 rfl rfl)
theorem dX9_not_19 : decode cX9_not 19 = .ok (.goto 4, 3) := dk_167 0 4 (dk_at dksX9_not_0 19 rfl rfl)
theorem dX9_not_22 : decode cX9_not 22 = .ok (.iconst 0, 1) := dk_3 (dk_at dksX9_not_0 22 rfl rfl)
theorem dX9_not_23 : decode cX9_not 23 = .ok (.iconst 2, 1) := dk_5 (dk_at dksX9_not_0 23 rfl rfl)
theorem dX9_not_24 : decode cX9_not 24 = .ok (.invokevirtual 98, 3) := dk_182 0 98 (dk_at dksX9_not_1 0 rfl rfl)
theorem dX9_not_27 : decode cX9_not 27 = .ok (.iinc 2 1, 3) := dk_132 2 1 (dk_at dksX9_not_1 3 rfl rfl)
theorem dX9_not_30 : decode cX9_not 30 = .ok (.aload_n 0, 1) := dk_42 (dk_at dksX9_not_1 6 rfl rfl)
theorem dX9_not_31 : decode cX9_not 31 = .ok (.invokevirtual 102, 3) := dk_182 0 102 (dk_at dksX9_not_1 7 rfl rfl)
theorem dX9_not_34 : decode cX9_not 34 = .ok (.goto (-32), 3) := dk_167 255 224 (dk_at dksX9_not_1 10 rfl rfl)
theorem dX9_not_37 : decode cX9_not 37 = .ok (.new 139, 3) := dk_187 0 139 (dk_at dksX9_not_1 13 rfl rfl)
theorem dX9_not_40 : decode cX9_not 40 = .ok (.dup, 1) := dk_89 (dk_at dksX9_not_1 16 rfl rfl)
theorem dX9_not_41 : decode cX9_not 41 = .ok (.aload_n 0, 1) := dk_42 (dk_at dksX9_not_1 17 rfl rfl)
theorem dX9_not_42 : decode cX9_not 42 = .ok (.iload_n 1, 1) := dk_27 (dk_at dksX9_not_1 18 rfl rfl)
theorem dX9_not_43 : decode cX9_not 43 = .ok (.invokevirtual 160, 3) := dk_182 0 160 (dk_at dksX9_not_1 19 rfl rfl)
theorem dX9_not_46 : decode cX9_not 46 = .ok (.invokespecial 144, 3) := dk_183 0 144 (dk_at dksX9_not_2 0 rfl rfl)
theorem dX9_not_49 : decode cX9_not 49 = .ok (.astore_n 3, 1) := dk_78 (dk_at dksX9_not_2 3 rfl rfl)
theorem dX9_not_50 : decode cX9_not 50 = .ok (.aload_n 0, 1) := dk_42 (dk_at dksX9_not_2 4 rfl rfl)
theorem dX9_not_51 : decode cX9_not 51 = .ok (.bipush 60, 2) := dk_16 60 (dk_at dksX9_not_2 5 rfl rfl)
theorem dX9_not_53 : decode cX9_not 53 = .ok (.invokevirtual 105, 3) := dk_182 0 105 (dk_at dksX9_not_2 7 rfl rfl)
theorem dX9_not_56 : decode cX9_not 56 = .ok (.ifCond .ne 12, 3) := dk_154 0 12 (dk_at dksX9_not_2 10 rfl rfl)
theorem dX9_not_59 : decode cX9_not 59 = .ok (.aload_n 0, 1) := dk_42 (dk_at dksX9_not_2 13 rfl rfl)
theorem dX9_not_60 : decode cX9_not 60 = .ok (.bipush 61, 2) := dk_16 61 (dk_at dksX9_not_2 14 rfl rfl)
theorem dX9_not_62 : decode cX9_not 62 = .ok (.invokevirtual 105, 3) := dk_182 0 105 (dk_at dksX9_not_2 16 rfl rfl)
theorem dX9_not_65 : decode cX9_not 65 = .ok (.ifCond .eq 20, 3) := dk_153 0 20 (dk_at dksX9_not_2 19 rfl rfl)
theorem dX9_not_68 : decode cX9_not 68 = .ok (.aload_n 0, 1) := dk_42 (dk_at dksX9_not_2 22 rfl rfl)
theorem dX9_not_69 : decode cX9_not 69 = .ok (.invokevirtual 147, 3) := dk_182 0 147 (dk_at dksX9_not_3 0 rfl rfl)
theorem dX9_not_72 : decode cX9_not 72 = .ok (.istore 4, 2) := dk_54 4 (dk_at dksX9_not_3 3 rfl rfl)
theorem dX9_not_74 : decode cX9_not 74 = .ok (.aload_n 3, 1) := dk_45 (dk_at dksX9_not_3 5 rfl rfl)
theorem dX9_not_75 : decode cX9_not 75 = .ok (.iload 4, 2) := dk_21 4 (dk_at dksX9_not_3 6 rfl rfl)
theorem dX9_not_77 : decode cX9_not 77 = .ok (.aload_n 0, 1) := dk_42 (dk_at dksX9_not_3 8 rfl rfl)
theorem dX9_not_78 : decode cX9_not 78 = .ok (.iload_n 1, 1) := dk_27 (dk_at dksX9_not_3 9 rfl rfl)
theorem dX9_not_79 : decode cX9_not 79 = .ok (.invokevirtual 160, 3) := dk_182 0 160 (dk_at dksX9_not_3 10 rfl rfl)
theorem dX9_not_82 : decode cX9_not 82 = .ok (.invokevirtual 151, 3) := dk_182 0 151 (dk_at dksX9_not_3 13 rfl rfl)
theorem dX9_not_85 : decode cX9_not 85 = .ok (.aload_n 3, 1) := dk_45 (dk_at dksX9_not_3 16 rfl rfl)
theorem dX9_not_86 : decode cX9_not 86 = .ok (.astore 4, 2) := dk_58 4 (dk_at dksX9_not_3 17 rfl rfl)
theorem dX9_not_88 : decode cX9_not 88 = .ok (.iconst 0, 1) := dk_3 (dk_at dksX9_not_3 19 rfl rfl)
theorem dX9_not_89 : decode cX9_not 89 = .ok (.istore 5, 2) := dk_54 5 (dk_at dksX9_not_3 20 rfl rfl)
theorem dX9_not_91 : decode cX9_not 91 = .ok (.iload 5, 2) := dk_21 5 (dk_at dksX9_not_3 22 rfl rfl)
theorem dX9_not_93 : decode cX9_not 93 = .ok (.iload_n 2, 1) := dk_28 (dk_at dksX9_not_4 0 rfl rfl)
theorem dX9_not_94 : decode cX9_not 94 = .ok (.if_icmp .ge 20, 3) := dk_162 0 20 (dk_at dksX9_not_4 1 rfl rfl)
theorem dX9_not_97 : decode cX9_not 97 = .ok (.new 163, 3) := dk_187 0 163 (dk_at dksX9_not_4 4 rfl rfl)
theorem dX9_not_100 : decode cX9_not 100 = .ok (.dup, 1) := dk_89 (dk_at dksX9_not_4 7 rfl rfl)
theorem dX9_not_101 : decode cX9_not 101 = .ok (.aload 4, 2) := dk_25 4 (dk_at dksX9_not_4 8 rfl rfl)
theorem dX9_not_103 : decode cX9_not 103 = .ok (.invokespecial 165, 3) := dk_183 0 165 (dk_at dksX9_not_4 10 rfl rfl)
theorem dX9_not_106 : decode cX9_not 106 = .ok (.astore 4, 2) := dk_58 4 (dk_at dksX9_not_4 13 rfl rfl)
theorem dX9_not_108 : decode cX9_not 108 = .ok (.iinc 5 1, 3) := dk_132 5 1 (dk_at dksX9_not_4 15 rfl rfl)
theorem dX9_not_111 : decode cX9_not 111 = .ok (.goto (-20), 3) := dk_167 255 236 (dk_at dksX9_not_4 18 rfl rfl)
theorem dX9_not_114 : decode cX9_not 114 = .ok (.aload 4, 2) := dk_25 4 (dk_at dksX9_not_4 21 rfl rfl)
theorem dX9_not_116 : decode cX9_not 116 = .ok (.areturn, 1) := dk_176 (dk_at dksX9_not_4 23 rfl rfl)
abbrev cX9_sum : ByteArray := prog_13_method_18_code
def yX9_sum : MethodName := ⟨RX9, "sum", "(I)LFerryHall$Ex;"⟩
def dkwX9_sum_2 : List UInt8 := [167, 255, 223, 44, 176]
abbrev dktX9_sum_2 : List UInt8 := dkwX9_sum_2 ++ []
def dkwX9_sum_1 : List UInt8 := [16, 45, 182, 0, 105, 153, 0, 21, 42, 182, 0, 147, 62, 44, 29, 42, 27, 182, 0, 155, 182, 0, 151]
abbrev dktX9_sum_1 : List UInt8 := dkwX9_sum_1 ++ dktX9_sum_2
def dkwX9_sum_0 : List UInt8 := [187, 0, 139, 89, 42, 27, 182, 0, 155, 183, 0, 144, 77, 42, 16, 43, 182, 0, 105, 154, 0, 12, 42]
abbrev dktX9_sum_0 : List UInt8 := dkwX9_sum_0 ++ dktX9_sum_1
theorem dksX9_sum_0 : cX9_sum.data.toList.drop 0 = dktX9_sum_0 := by decide +kernel
theorem dksX9_sum_1 : cX9_sum.data.toList.drop 23 = dktX9_sum_1 := dk_seg dksX9_sum_0 23 rfl rfl
theorem dksX9_sum_2 : cX9_sum.data.toList.drop 46 = dktX9_sum_2 := dk_seg dksX9_sum_1 23 rfl rfl
theorem dX9_sum_0 : decode cX9_sum 0 = .ok (.new 139, 3) := dk_187 0 139 (dk_at dksX9_sum_0 0 rfl rfl)
theorem dX9_sum_3 : decode cX9_sum 3 = .ok (.dup, 1) := dk_89 (dk_at dksX9_sum_0 3 rfl rfl)
theorem dX9_sum_4 : decode cX9_sum 4 = .ok (.aload_n 0, 1) := dk_42 (dk_at dksX9_sum_0 4 rfl rfl)
theorem dX9_sum_5 : decode cX9_sum 5 = .ok (.iload_n 1, 1) := dk_27 (dk_at dksX9_sum_0 5 rfl rfl)
theorem dX9_sum_6 : decode cX9_sum 6 = .ok (.invokevirtual 155, 3) := dk_182 0 155 (dk_at dksX9_sum_0 6 rfl rfl)
theorem dX9_sum_9 : decode cX9_sum 9 = .ok (.invokespecial 144, 3) := dk_183 0 144 (dk_at dksX9_sum_0 9 rfl rfl)
theorem dX9_sum_12 : decode cX9_sum 12 = .ok (.astore_n 2, 1) := dk_77 (dk_at dksX9_sum_0 12 rfl rfl)
theorem dX9_sum_13 : decode cX9_sum 13 = .ok (.aload_n 0, 1) := dk_42 (dk_at dksX9_sum_0 13 rfl rfl)
theorem dX9_sum_14 : decode cX9_sum 14 = .ok (.bipush 43, 2) := dk_16 43 (dk_at dksX9_sum_0 14 rfl rfl)
theorem dX9_sum_16 : decode cX9_sum 16 = .ok (.invokevirtual 105, 3) := dk_182 0 105 (dk_at dksX9_sum_0 16 rfl rfl)
theorem dX9_sum_19 : decode cX9_sum 19 = .ok (.ifCond .ne 12, 3) := dk_154 0 12 (dk_at dksX9_sum_0 19 rfl rfl)
theorem dX9_sum_22 : decode cX9_sum 22 = .ok (.aload_n 0, 1) := dk_42 (dk_at dksX9_sum_0 22 rfl rfl)
theorem dX9_sum_23 : decode cX9_sum 23 = .ok (.bipush 45, 2) := dk_16 45 (dk_at dksX9_sum_1 0 rfl rfl)
theorem dX9_sum_25 : decode cX9_sum 25 = .ok (.invokevirtual 105, 3) := dk_182 0 105 (dk_at dksX9_sum_1 2 rfl rfl)
theorem dX9_sum_28 : decode cX9_sum 28 = .ok (.ifCond .eq 21, 3) := dk_153 0 21 (dk_at dksX9_sum_1 5 rfl rfl)
theorem dX9_sum_31 : decode cX9_sum 31 = .ok (.aload_n 0, 1) := dk_42 (dk_at dksX9_sum_1 8 rfl rfl)
theorem dX9_sum_32 : decode cX9_sum 32 = .ok (.invokevirtual 147, 3) := dk_182 0 147 (dk_at dksX9_sum_1 9 rfl rfl)
theorem dX9_sum_35 : decode cX9_sum 35 = .ok (.istore_n 3, 1) := dk_62 (dk_at dksX9_sum_1 12 rfl rfl)
theorem dX9_sum_36 : decode cX9_sum 36 = .ok (.aload_n 2, 1) := dk_44 (dk_at dksX9_sum_1 13 rfl rfl)
theorem dX9_sum_37 : decode cX9_sum 37 = .ok (.iload_n 3, 1) := dk_29 (dk_at dksX9_sum_1 14 rfl rfl)
theorem dX9_sum_38 : decode cX9_sum 38 = .ok (.aload_n 0, 1) := dk_42 (dk_at dksX9_sum_1 15 rfl rfl)
theorem dX9_sum_39 : decode cX9_sum 39 = .ok (.iload_n 1, 1) := dk_27 (dk_at dksX9_sum_1 16 rfl rfl)
theorem dX9_sum_40 : decode cX9_sum 40 = .ok (.invokevirtual 155, 3) := dk_182 0 155 (dk_at dksX9_sum_1 17 rfl rfl)
theorem dX9_sum_43 : decode cX9_sum 43 = .ok (.invokevirtual 151, 3) := dk_182 0 151 (dk_at dksX9_sum_1 20 rfl rfl)
theorem dX9_sum_46 : decode cX9_sum 46 = .ok (.goto (-33), 3) := dk_167 255 223 (dk_at dksX9_sum_2 0 rfl rfl)
theorem dX9_sum_49 : decode cX9_sum 49 = .ok (.aload_n 2, 1) := dk_44 (dk_at dksX9_sum_2 3 rfl rfl)
theorem dX9_sum_50 : decode cX9_sum 50 = .ok (.areturn, 1) := dk_176 (dk_at dksX9_sum_2 4 rfl rfl)
abbrev cX9_product : ByteArray := prog_13_method_17_code
def yX9_product : MethodName := ⟨RX9, "product", "(I)LFerryHall$Ex;"⟩
def dkwX9_product_2 : List UInt8 := [167, 255, 223, 44, 176]
abbrev dktX9_product_2 : List UInt8 := dkwX9_product_2 ++ []
def dkwX9_product_1 : List UInt8 := [16, 47, 182, 0, 105, 153, 0, 21, 42, 182, 0, 147, 62, 44, 29, 42, 27, 182, 0, 141, 182, 0, 151]
abbrev dktX9_product_1 : List UInt8 := dkwX9_product_1 ++ dktX9_product_2
def dkwX9_product_0 : List UInt8 := [187, 0, 139, 89, 42, 27, 182, 0, 141, 183, 0, 144, 77, 42, 16, 42, 182, 0, 105, 154, 0, 12, 42]
abbrev dktX9_product_0 : List UInt8 := dkwX9_product_0 ++ dktX9_product_1
theorem dksX9_product_0 : cX9_product.data.toList.drop 0 = dktX9_product_0 := by decide +kernel
theorem dksX9_product_1 : cX9_product.data.toList.drop 23 = dktX9_product_1 := dk_seg dksX9_product_0 23 rfl rfl
theorem dksX9_product_2 : cX9_product.data.toList.drop 46 = dktX9_product_2 := dk_seg dksX9_product_1 23 rfl rfl
theorem dX9_product_0 : decode cX9_product 0 = .ok (.new 139, 3) := dk_187 0 139 (dk_at dksX9_product_0 0 rfl rfl)
theorem dX9_product_3 : decode cX9_product 3 = .ok (.dup, 1) := dk_89 (dk_at dksX9_product_0 3 rfl rfl)
theorem dX9_product_4 : decode cX9_product 4 = .ok (.aload_n 0, 1) := dk_42 (dk_at dksX9_product_0 4 rfl rfl)
theorem dX9_product_5 : decode cX9_product 5 = .ok (.iload_n 1, 1) := dk_27 (dk_at dksX9_product_0 5 rfl rfl)
theorem dX9_product_6 : decode cX9_product 6 = .ok (.invokevirtual 141, 3) := dk_182 0 141 (dk_at dksX9_product_0 6 rfl rfl)
theorem dX9_product_9 : decode cX9_product 9 = .ok (.invokespecial 144, 3) := dk_183 0 144 (dk_at dksX9_product_0 9 rfl rfl)
theorem dX9_product_12 : decode cX9_product 12 = .ok (.astore_n 2, 1) := dk_77 (dk_at dksX9_product_0 12 rfl rfl)
theorem dX9_product_13 : decode cX9_product 13 = .ok (.aload_n 0, 1) := dk_42 (dk_at dksX9_product_0 13 rfl rfl)
theorem dX9_product_14 : decode cX9_product 14 = .ok (.bipush 42, 2) := dk_16 42 (dk_at dksX9_product_0 14 rfl rfl)
theorem dX9_product_16 : decode cX9_product 16 = .ok (.invokevirtual 105, 3) := dk_182 0 105 (dk_at dksX9_product_0 16 rfl rfl)
theorem dX9_product_19 : decode cX9_product 19 = .ok (.ifCond .ne 12, 3) := dk_154 0 12 (dk_at dksX9_product_0 19 rfl rfl)
theorem dX9_product_22 : decode cX9_product 22 = .ok (.aload_n 0, 1) := dk_42 (dk_at dksX9_product_0 22 rfl rfl)
theorem dX9_product_23 : decode cX9_product 23 = .ok (.bipush 47, 2) := dk_16 47 (dk_at dksX9_product_1 0 rfl rfl)
theorem dX9_product_25 : decode cX9_product 25 = .ok (.invokevirtual 105, 3) := dk_182 0 105 (dk_at dksX9_product_1 2 rfl rfl)
theorem dX9_product_28 : decode cX9_product 28 = .ok (.ifCond .eq 21, 3) := dk_153 0 21 (dk_at dksX9_product_1 5 rfl rfl)
theorem dX9_product_31 : decode cX9_product 31 = .ok (.aload_n 0, 1) := dk_42 (dk_at dksX9_product_1 8 rfl rfl)
theorem dX9_product_32 : decode cX9_product 32 = .ok (.invokevirtual 147, 3) := dk_182 0 147 (dk_at dksX9_product_1 9 rfl rfl)
theorem dX9_product_35 : decode cX9_product 35 = .ok (.istore_n 3, 1) := dk_62 (dk_at dksX9_product_1 12 rfl rfl)
theorem dX9_product_36 : decode cX9_product 36 = .ok (.aload_n 2, 1) := dk_44 (dk_at dksX9_product_1 13 rfl rfl)
theorem dX9_product_37 : decode cX9_product 37 = .ok (.iload_n 3, 1) := dk_29 (dk_at dksX9_product_1 14 rfl rfl)
theorem dX9_product_38 : decode cX9_product 38 = .ok (.aload_n 0, 1) := dk_42 (dk_at dksX9_product_1 15 rfl rfl)
theorem dX9_product_39 : decode cX9_product 39 = .ok (.iload_n 1, 1) := dk_27 (dk_at dksX9_product_1 16 rfl rfl)
theorem dX9_product_40 : decode cX9_product 40 = .ok (.invokevirtual 141, 3) := dk_182 0 141 (dk_at dksX9_product_1 17 rfl rfl)
theorem dX9_product_43 : decode cX9_product 43 = .ok (.invokevirtual 151, 3) := dk_182 0 151 (dk_at dksX9_product_1 20 rfl rfl)
theorem dX9_product_46 : decode cX9_product 46 = .ok (.goto (-33), 3) := dk_167 255 223 (dk_at dksX9_product_2 0 rfl rfl)
theorem dX9_product_49 : decode cX9_product 49 = .ok (.aload_n 2, 1) := dk_44 (dk_at dksX9_product_2 3 rfl rfl)
theorem dX9_product_50 : decode cX9_product 50 = .ok (.areturn, 1) := dk_176 (dk_at dksX9_product_2 4 rfl rfl)
abbrev cX9_part : ByteArray := prog_13_method_15_code
def yX9_part : MethodName := ⟨RX9, "part", "(I)LFerryHall$Ex;"⟩
def dkwX9_part_6 : List UInt8 := [44, 176]
abbrev dktX9_part_6 : List UInt8 := dkwX9_part_6 ++ []
def dkwX9_part_5 : List UInt8 := [183, 0, 131, 176, 42, 16, 40, 182, 0, 132, 42, 27, 4, 96, 182, 0, 135, 77, 42, 16, 41, 182, 0, 132]
abbrev dktX9_part_5 : List UInt8 := dkwX9_part_5 ++ dktX9_part_6
def dkwX9_part_4 : List UInt8 := [2, 159, 0, 7, 4, 167, 0, 4, 3, 6, 182, 0, 98, 42, 182, 0, 102, 187, 0, 129, 89, 28]
abbrev dktX9_part_4 : List UInt8 := dkwX9_part_4 ++ dktX9_part_5
def dkwX9_part_3 : List UInt8 := [187, 0, 123, 89, 28, 183, 0, 125, 176, 42, 180, 0, 44, 4, 160, 0, 36, 42, 182, 0, 126, 61, 42, 28]
abbrev dktX9_part_3 : List UInt8 := dkwX9_part_3 ++ dktX9_part_4
def dkwX9_part_2 : List UInt8 := [182, 0, 120, 61, 42, 28, 2, 159, 0, 7, 4, 167, 0, 4, 3, 7, 182, 0, 98, 42, 182, 0, 102]
abbrev dktX9_part_2 : List UInt8 := dkwX9_part_2 ++ dktX9_part_3
def dkwX9_part_1 : List UInt8 := [42, 182, 0, 117, 153, 0, 51, 42, 180, 0, 18, 42, 180, 0, 3, 180, 0, 29, 42, 180, 0, 41, 51]
abbrev dktX9_part_1 : List UInt8 := dkwX9_part_1 ++ dktX9_part_2
def dkwX9_part_0 : List UInt8 := [42, 180, 0, 44, 5, 160, 0, 19, 187, 0, 112, 89, 42, 3, 17, 3, 231, 182, 0, 114, 183, 0, 116, 176]
abbrev dktX9_part_0 : List UInt8 := dkwX9_part_0 ++ dktX9_part_1
theorem dksX9_part_0 : cX9_part.data.toList.drop 0 = dktX9_part_0 := by decide +kernel
theorem dksX9_part_1 : cX9_part.data.toList.drop 24 = dktX9_part_1 := dk_seg dksX9_part_0 24 rfl rfl
theorem dksX9_part_2 : cX9_part.data.toList.drop 47 = dktX9_part_2 := dk_seg dksX9_part_1 23 rfl rfl
theorem dksX9_part_3 : cX9_part.data.toList.drop 70 = dktX9_part_3 := dk_seg dksX9_part_2 23 rfl rfl
theorem dksX9_part_4 : cX9_part.data.toList.drop 94 = dktX9_part_4 := dk_seg dksX9_part_3 24 rfl rfl
theorem dksX9_part_5 : cX9_part.data.toList.drop 116 = dktX9_part_5 := dk_seg dksX9_part_4 22 rfl rfl
theorem dksX9_part_6 : cX9_part.data.toList.drop 140 = dktX9_part_6 := dk_seg dksX9_part_5 24 rfl rfl
theorem dX9_part_0 : decode cX9_part 0 = .ok (.aload_n 0, 1) := dk_42 (dk_at dksX9_part_0 0 rfl rfl)
theorem dX9_part_1 : decode cX9_part 1 = .ok (.getfield 44, 3) := dk_180 0 44 (dk_at dksX9_part_0 1 rfl rfl)
theorem dX9_part_4 : decode cX9_part 4 = .ok (.iconst 2, 1) := dk_5 (dk_at dksX9_part_0 4 rfl rfl)
theorem dX9_part_5 : decode cX9_part 5 = .ok (.if_icmp .ne 19, 3) := dk_160 0 19 (dk_at dksX9_part_0 5 rfl rfl)
theorem dX9_part_8 : decode cX9_part 8 = .ok (.new 112, 3) := dk_187 0 112 (dk_at dksX9_part_0 8 rfl rfl)
theorem dX9_part_11 : decode cX9_part 11 = .ok (.dup, 1) := dk_89 (dk_at dksX9_part_0 11 rfl rfl)
theorem dX9_part_12 : decode cX9_part 12 = .ok (.aload_n 0, 1) := dk_42 (dk_at dksX9_part_0 12 rfl rfl)
theorem dX9_part_13 : decode cX9_part 13 = .ok (.iconst 0, 1) := dk_3 (dk_at dksX9_part_0 13 rfl rfl)
theorem dX9_part_14 : decode cX9_part 14 = .ok (.sipush 999, 3) := dk_17 3 231 (dk_at dksX9_part_0 14 rfl rfl)
theorem dX9_part_17 : decode cX9_part 17 = .ok (.invokevirtual 114, 3) := dk_182 0 114 (dk_at dksX9_part_0 17 rfl rfl)
theorem dX9_part_20 : decode cX9_part 20 = .ok (.invokespecial 116, 3) := dk_183 0 116 (dk_at dksX9_part_0 20 rfl rfl)
theorem dX9_part_23 : decode cX9_part 23 = .ok (.areturn, 1) := dk_176 (dk_at dksX9_part_0 23 rfl rfl)
theorem dX9_part_24 : decode cX9_part 24 = .ok (.aload_n 0, 1) := dk_42 (dk_at dksX9_part_1 0 rfl rfl)
theorem dX9_part_25 : decode cX9_part 25 = .ok (.invokevirtual 117, 3) := dk_182 0 117 (dk_at dksX9_part_1 1 rfl rfl)
theorem dX9_part_28 : decode cX9_part 28 = .ok (.ifCond .eq 51, 3) := dk_153 0 51 (dk_at dksX9_part_1 4 rfl rfl)
theorem dX9_part_31 : decode cX9_part 31 = .ok (.aload_n 0, 1) := dk_42 (dk_at dksX9_part_1 7 rfl rfl)
theorem dX9_part_32 : decode cX9_part 32 = .ok (.getfield 18, 3) := dk_180 0 18 (dk_at dksX9_part_1 8 rfl rfl)
theorem dX9_part_35 : decode cX9_part 35 = .ok (.aload_n 0, 1) := dk_42 (dk_at dksX9_part_1 11 rfl rfl)
theorem dX9_part_36 : decode cX9_part 36 = .ok (.getfield 3, 3) := dk_180 0 3 (dk_at dksX9_part_1 12 rfl rfl)
theorem dX9_part_39 : decode cX9_part 39 = .ok (.getfield 29, 3) := dk_180 0 29 (dk_at dksX9_part_1 15 rfl rfl)
theorem dX9_part_42 : decode cX9_part 42 = .ok (.aload_n 0, 1) := dk_42 (dk_at dksX9_part_1 18 rfl rfl)
theorem dX9_part_43 : decode cX9_part 43 = .ok (.getfield 41, 3) := dk_180 0 41 (dk_at dksX9_part_1 19 rfl rfl)
theorem dX9_part_46 : decode cX9_part 46 = .ok (.baload, 1) := dk_51 (dk_at dksX9_part_1 22 rfl rfl)
theorem dX9_part_47 : decode cX9_part 47 = .ok (.invokevirtual 120, 3) := dk_182 0 120 (dk_at dksX9_part_2 0 rfl rfl)
theorem dX9_part_50 : decode cX9_part 50 = .ok (.istore_n 2, 1) := dk_61 (dk_at dksX9_part_2 3 rfl rfl)
theorem dX9_part_51 : decode cX9_part 51 = .ok (.aload_n 0, 1) := dk_42 (dk_at dksX9_part_2 4 rfl rfl)
theorem dX9_part_52 : decode cX9_part 52 = .ok (.iload_n 2, 1) := dk_28 (dk_at dksX9_part_2 5 rfl rfl)
theorem dX9_part_53 : decode cX9_part 53 = .ok (.iconst (-1), 1) := dk_2 (dk_at dksX9_part_2 6 rfl rfl)
theorem dX9_part_54 : decode cX9_part 54 = .ok (.if_icmp .eq 7, 3) := dk_159 0 7 (dk_at dksX9_part_2 7 rfl rfl)
theorem dX9_part_57 : decode cX9_part 57 = .ok (.iconst 1, 1) := dk_4 (dk_at dksX9_part_2 10 rfl rfl)
theorem dX9_part_58 : decode cX9_part 58 = .ok (.goto 4, 3) := dk_167 0 4 (dk_at dksX9_part_2 11 rfl rfl)
theorem dX9_part_61 : decode cX9_part 61 = .ok (.iconst 0, 1) := dk_3 (dk_at dksX9_part_2 14 rfl rfl)
theorem dX9_part_62 : decode cX9_part 62 = .ok (.iconst 4, 1) := dk_7 (dk_at dksX9_part_2 15 rfl rfl)
theorem dX9_part_63 : decode cX9_part 63 = .ok (.invokevirtual 98, 3) := dk_182 0 98 (dk_at dksX9_part_2 16 rfl rfl)
theorem dX9_part_66 : decode cX9_part 66 = .ok (.aload_n 0, 1) := dk_42 (dk_at dksX9_part_2 19 rfl rfl)
theorem dX9_part_67 : decode cX9_part 67 = .ok (.invokevirtual 102, 3) := dk_182 0 102 (dk_at dksX9_part_2 20 rfl rfl)
theorem dX9_part_70 : decode cX9_part 70 = .ok (.new 123, 3) := dk_187 0 123 (dk_at dksX9_part_3 0 rfl rfl)
theorem dX9_part_73 : decode cX9_part 73 = .ok (.dup, 1) := dk_89 (dk_at dksX9_part_3 3 rfl rfl)
theorem dX9_part_74 : decode cX9_part 74 = .ok (.iload_n 2, 1) := dk_28 (dk_at dksX9_part_3 4 rfl rfl)
theorem dX9_part_75 : decode cX9_part 75 = .ok (.invokespecial 125, 3) := dk_183 0 125 (dk_at dksX9_part_3 5 rfl rfl)
theorem dX9_part_78 : decode cX9_part 78 = .ok (.areturn, 1) := dk_176 (dk_at dksX9_part_3 8 rfl rfl)
theorem dX9_part_79 : decode cX9_part 79 = .ok (.aload_n 0, 1) := dk_42 (dk_at dksX9_part_3 9 rfl rfl)
theorem dX9_part_80 : decode cX9_part 80 = .ok (.getfield 44, 3) := dk_180 0 44 (dk_at dksX9_part_3 10 rfl rfl)
theorem dX9_part_83 : decode cX9_part 83 = .ok (.iconst 1, 1) := dk_4 (dk_at dksX9_part_3 13 rfl rfl)
theorem dX9_part_84 : decode cX9_part 84 = .ok (.if_icmp .ne 36, 3) := dk_160 0 36 (dk_at dksX9_part_3 14 rfl rfl)
theorem dX9_part_87 : decode cX9_part 87 = .ok (.aload_n 0, 1) := dk_42 (dk_at dksX9_part_3 17 rfl rfl)
theorem dX9_part_88 : decode cX9_part 88 = .ok (.invokevirtual 126, 3) := dk_182 0 126 (dk_at dksX9_part_3 18 rfl rfl)
theorem dX9_part_91 : decode cX9_part 91 = .ok (.istore_n 2, 1) := dk_61 (dk_at dksX9_part_3 21 rfl rfl)
theorem dX9_part_92 : decode cX9_part 92 = .ok (.aload_n 0, 1) := dk_42 (dk_at dksX9_part_3 22 rfl rfl)
theorem dX9_part_93 : decode cX9_part 93 = .ok (.iload_n 2, 1) := dk_28 (dk_at dksX9_part_3 23 rfl rfl)
theorem dX9_part_94 : decode cX9_part 94 = .ok (.iconst (-1), 1) := dk_2 (dk_at dksX9_part_4 0 rfl rfl)
theorem dX9_part_95 : decode cX9_part 95 = .ok (.if_icmp .eq 7, 3) := dk_159 0 7 (dk_at dksX9_part_4 1 rfl rfl)
theorem dX9_part_98 : decode cX9_part 98 = .ok (.iconst 1, 1) := dk_4 (dk_at dksX9_part_4 4 rfl rfl)
theorem dX9_part_99 : decode cX9_part 99 = .ok (.goto 4, 3) := dk_167 0 4 (dk_at dksX9_part_4 5 rfl rfl)
theorem dX9_part_102 : decode cX9_part 102 = .ok (.iconst 0, 1) := dk_3 (dk_at dksX9_part_4 8 rfl rfl)
theorem dX9_part_103 : decode cX9_part 103 = .ok (.iconst 3, 1) := dk_6 (dk_at dksX9_part_4 9 rfl rfl)
theorem dX9_part_104 : decode cX9_part 104 = .ok (.invokevirtual 98, 3) := dk_182 0 98 (dk_at dksX9_part_4 10 rfl rfl)
theorem dX9_part_107 : decode cX9_part 107 = .ok (.aload_n 0, 1) := dk_42 (dk_at dksX9_part_4 13 rfl rfl)
theorem dX9_part_108 : decode cX9_part 108 = .ok (.invokevirtual 102, 3) := dk_182 0 102 (dk_at dksX9_part_4 14 rfl rfl)
theorem dX9_part_111 : decode cX9_part 111 = .ok (.new 129, 3) := dk_187 0 129 (dk_at dksX9_part_4 17 rfl rfl)
theorem dX9_part_114 : decode cX9_part 114 = .ok (.dup, 1) := dk_89 (dk_at dksX9_part_4 20 rfl rfl)
theorem dX9_part_115 : decode cX9_part 115 = .ok (.iload_n 2, 1) := dk_28 (dk_at dksX9_part_4 21 rfl rfl)
theorem dX9_part_116 : decode cX9_part 116 = .ok (.invokespecial 131, 3) := dk_183 0 131 (dk_at dksX9_part_5 0 rfl rfl)
theorem dX9_part_119 : decode cX9_part 119 = .ok (.areturn, 1) := dk_176 (dk_at dksX9_part_5 3 rfl rfl)
theorem dX9_part_120 : decode cX9_part 120 = .ok (.aload_n 0, 1) := dk_42 (dk_at dksX9_part_5 4 rfl rfl)
theorem dX9_part_121 : decode cX9_part 121 = .ok (.bipush 40, 2) := dk_16 40 (dk_at dksX9_part_5 5 rfl rfl)
theorem dX9_part_123 : decode cX9_part 123 = .ok (.invokevirtual 132, 3) := dk_182 0 132 (dk_at dksX9_part_5 7 rfl rfl)
theorem dX9_part_126 : decode cX9_part 126 = .ok (.aload_n 0, 1) := dk_42 (dk_at dksX9_part_5 10 rfl rfl)
theorem dX9_part_127 : decode cX9_part 127 = .ok (.iload_n 1, 1) := dk_27 (dk_at dksX9_part_5 11 rfl rfl)
theorem dX9_part_128 : decode cX9_part 128 = .ok (.iconst 1, 1) := dk_4 (dk_at dksX9_part_5 12 rfl rfl)
theorem dX9_part_129 : decode cX9_part 129 = .ok (.iadd, 1) := dk_96 (dk_at dksX9_part_5 13 rfl rfl)
theorem dX9_part_130 : decode cX9_part 130 = .ok (.invokevirtual 135, 3) := dk_182 0 135 (dk_at dksX9_part_5 14 rfl rfl)
theorem dX9_part_133 : decode cX9_part 133 = .ok (.astore_n 2, 1) := dk_77 (dk_at dksX9_part_5 17 rfl rfl)
theorem dX9_part_134 : decode cX9_part 134 = .ok (.aload_n 0, 1) := dk_42 (dk_at dksX9_part_5 18 rfl rfl)
theorem dX9_part_135 : decode cX9_part 135 = .ok (.bipush 41, 2) := dk_16 41 (dk_at dksX9_part_5 19 rfl rfl)
theorem dX9_part_137 : decode cX9_part 137 = .ok (.invokevirtual 132, 3) := dk_182 0 132 (dk_at dksX9_part_5 21 rfl rfl)
theorem dX9_part_140 : decode cX9_part 140 = .ok (.aload_n 2, 1) := dk_44 (dk_at dksX9_part_6 0 rfl rfl)
theorem dX9_part_141 : decode cX9_part 141 = .ok (.areturn, 1) := dk_176 (dk_at dksX9_part_6 1 rfl rfl)
abbrev cX9_valueNow : ByteArray := prog_13_method_9_code
def yX9_valueNow : MethodName := ⟨RX9, "valueNow", "()I"⟩
def dkwX9_valueNow_2 : List UInt8 := [182, 0, 83, 4, 96, 61, 167, 255, 210, 2, 172]
abbrev dktX9_valueNow_2 : List UInt8 := dkwX9_valueNow_2 ++ []
def dkwX9_valueNow_1 : List UInt8 := [182, 0, 83, 182, 0, 85, 182, 0, 89, 153, 0, 5, 27, 172, 132, 1, 1, 18, 81, 16, 32, 28]
abbrev dktX9_valueNow_1 : List UInt8 := dkwX9_valueNow_1 ++ dktX9_valueNow_2
def dkwX9_valueNow_0 : List UInt8 := [3, 60, 4, 61, 28, 18, 81, 182, 0, 74, 162, 0, 43, 42, 18, 81, 28, 18, 81, 16, 32, 28]
abbrev dktX9_valueNow_0 : List UInt8 := dkwX9_valueNow_0 ++ dktX9_valueNow_1
theorem dksX9_valueNow_0 : cX9_valueNow.data.toList.drop 0 = dktX9_valueNow_0 := by decide +kernel
theorem dksX9_valueNow_1 : cX9_valueNow.data.toList.drop 22 = dktX9_valueNow_1 := dk_seg dksX9_valueNow_0 22 rfl rfl
theorem dksX9_valueNow_2 : cX9_valueNow.data.toList.drop 44 = dktX9_valueNow_2 := dk_seg dksX9_valueNow_1 22 rfl rfl
theorem dX9_valueNow_0 : decode cX9_valueNow 0 = .ok (.iconst 0, 1) := dk_3 (dk_at dksX9_valueNow_0 0 rfl rfl)
theorem dX9_valueNow_1 : decode cX9_valueNow 1 = .ok (.istore_n 1, 1) := dk_60 (dk_at dksX9_valueNow_0 1 rfl rfl)
theorem dX9_valueNow_2 : decode cX9_valueNow 2 = .ok (.iconst 1, 1) := dk_4 (dk_at dksX9_valueNow_0 2 rfl rfl)
theorem dX9_valueNow_3 : decode cX9_valueNow 3 = .ok (.istore_n 2, 1) := dk_61 (dk_at dksX9_valueNow_0 3 rfl rfl)
theorem dX9_valueNow_4 : decode cX9_valueNow 4 = .ok (.iload_n 2, 1) := dk_28 (dk_at dksX9_valueNow_0 4 rfl rfl)
theorem dX9_valueNow_5 : decode cX9_valueNow 5 = .ok (.ldc 81, 2) := dk_18 81 (dk_at dksX9_valueNow_0 5 rfl rfl)
theorem dX9_valueNow_7 : decode cX9_valueNow 7 = .ok (.invokevirtual 74, 3) := dk_182 0 74 (dk_at dksX9_valueNow_0 7 rfl rfl)
theorem dX9_valueNow_10 : decode cX9_valueNow 10 = .ok (.if_icmp .ge 43, 3) := dk_162 0 43 (dk_at dksX9_valueNow_0 10 rfl rfl)
theorem dX9_valueNow_13 : decode cX9_valueNow 13 = .ok (.aload_n 0, 1) := dk_42 (dk_at dksX9_valueNow_0 13 rfl rfl)
theorem dX9_valueNow_14 : decode cX9_valueNow 14 = .ok (.ldc 81, 2) := dk_18 81 (dk_at dksX9_valueNow_0 14 rfl rfl)
theorem dX9_valueNow_16 : decode cX9_valueNow 16 = .ok (.iload_n 2, 1) := dk_28 (dk_at dksX9_valueNow_0 16 rfl rfl)
theorem dX9_valueNow_17 : decode cX9_valueNow 17 = .ok (.ldc 81, 2) := dk_18 81 (dk_at dksX9_valueNow_0 17 rfl rfl)
theorem dX9_valueNow_19 : decode cX9_valueNow 19 = .ok (.bipush 32, 2) := dk_16 32 (dk_at dksX9_valueNow_0 19 rfl rfl)
theorem dX9_valueNow_21 : decode cX9_valueNow 21 = .ok (.iload_n 2, 1) := dk_28 (dk_at dksX9_valueNow_0 21 rfl rfl)
theorem dX9_valueNow_22 : decode cX9_valueNow 22 = .ok (.invokevirtual 83, 3) := dk_182 0 83 (dk_at dksX9_valueNow_1 0 rfl rfl)
theorem dX9_valueNow_25 : decode cX9_valueNow 25 = .ok (.invokevirtual 85, 3) := dk_182 0 85 (dk_at dksX9_valueNow_1 3 rfl rfl)
theorem dX9_valueNow_28 : decode cX9_valueNow 28 = .ok (.invokevirtual 89, 3) := dk_182 0 89 (dk_at dksX9_valueNow_1 6 rfl rfl)
theorem dX9_valueNow_31 : decode cX9_valueNow 31 = .ok (.ifCond .eq 5, 3) := dk_153 0 5 (dk_at dksX9_valueNow_1 9 rfl rfl)
theorem dX9_valueNow_34 : decode cX9_valueNow 34 = .ok (.iload_n 1, 1) := dk_27 (dk_at dksX9_valueNow_1 12 rfl rfl)
theorem dX9_valueNow_35 : decode cX9_valueNow 35 = .ok (.ireturn, 1) := dk_172 (dk_at dksX9_valueNow_1 13 rfl rfl)
theorem dX9_valueNow_36 : decode cX9_valueNow 36 = .ok (.iinc 1 1, 3) := dk_132 1 1 (dk_at dksX9_valueNow_1 14 rfl rfl)
theorem dX9_valueNow_39 : decode cX9_valueNow 39 = .ok (.ldc 81, 2) := dk_18 81 (dk_at dksX9_valueNow_1 17 rfl rfl)
theorem dX9_valueNow_41 : decode cX9_valueNow 41 = .ok (.bipush 32, 2) := dk_16 32 (dk_at dksX9_valueNow_1 19 rfl rfl)
theorem dX9_valueNow_43 : decode cX9_valueNow 43 = .ok (.iload_n 2, 1) := dk_28 (dk_at dksX9_valueNow_1 21 rfl rfl)
theorem dX9_valueNow_44 : decode cX9_valueNow 44 = .ok (.invokevirtual 83, 3) := dk_182 0 83 (dk_at dksX9_valueNow_2 0 rfl rfl)
theorem dX9_valueNow_47 : decode cX9_valueNow 47 = .ok (.iconst 1, 1) := dk_4 (dk_at dksX9_valueNow_2 3 rfl rfl)
theorem dX9_valueNow_48 : decode cX9_valueNow 48 = .ok (.iadd, 1) := dk_96 (dk_at dksX9_valueNow_2 4 rfl rfl)
theorem dX9_valueNow_49 : decode cX9_valueNow 49 = .ok (.istore_n 2, 1) := dk_61 (dk_at dksX9_valueNow_2 5 rfl rfl)
theorem dX9_valueNow_50 : decode cX9_valueNow 50 = .ok (.goto (-46), 3) := dk_167 255 210 (dk_at dksX9_valueNow_2 6 rfl rfl)
theorem dX9_valueNow_53 : decode cX9_valueNow 53 = .ok (.iconst (-1), 1) := dk_2 (dk_at dksX9_valueNow_2 9 rfl rfl)
theorem dX9_valueNow_54 : decode cX9_valueNow 54 = .ok (.ireturn, 1) := dk_172 (dk_at dksX9_valueNow_2 10 rfl rfl)
abbrev cX9_sign : ByteArray := prog_13_method_16_code
def yX9_sign : MethodName := ⟨RX9, "sign", "()C"⟩
def dkwX9_sign_0 : List UInt8 := [42, 180, 0, 3, 180, 0, 29, 42, 180, 0, 41, 51, 146, 60, 42, 182, 0, 102, 27, 172]
abbrev dktX9_sign_0 : List UInt8 := dkwX9_sign_0 ++ []
theorem dksX9_sign_0 : cX9_sign.data.toList.drop 0 = dktX9_sign_0 := by decide +kernel
theorem dX9_sign_0 : decode cX9_sign 0 = .ok (.aload_n 0, 1) := dk_42 (dk_at dksX9_sign_0 0 rfl rfl)
theorem dX9_sign_1 : decode cX9_sign 1 = .ok (.getfield 3, 3) := dk_180 0 3 (dk_at dksX9_sign_0 1 rfl rfl)
theorem dX9_sign_4 : decode cX9_sign 4 = .ok (.getfield 29, 3) := dk_180 0 29 (dk_at dksX9_sign_0 4 rfl rfl)
theorem dX9_sign_7 : decode cX9_sign 7 = .ok (.aload_n 0, 1) := dk_42 (dk_at dksX9_sign_0 7 rfl rfl)
theorem dX9_sign_8 : decode cX9_sign 8 = .ok (.getfield 41, 3) := dk_180 0 41 (dk_at dksX9_sign_0 8 rfl rfl)
theorem dX9_sign_11 : decode cX9_sign 11 = .ok (.baload, 1) := dk_51 (dk_at dksX9_sign_0 11 rfl rfl)
theorem dX9_sign_12 : decode cX9_sign 12 = .ok (.i2c, 1) := dk_146 (dk_at dksX9_sign_0 12 rfl rfl)
theorem dX9_sign_13 : decode cX9_sign 13 = .ok (.istore_n 1, 1) := dk_60 (dk_at dksX9_sign_0 13 rfl rfl)
theorem dX9_sign_14 : decode cX9_sign 14 = .ok (.aload_n 0, 1) := dk_42 (dk_at dksX9_sign_0 14 rfl rfl)
theorem dX9_sign_15 : decode cX9_sign 15 = .ok (.invokevirtual 102, 3) := dk_182 0 102 (dk_at dksX9_sign_0 15 rfl rfl)
theorem dX9_sign_18 : decode cX9_sign 18 = .ok (.iload_n 1, 1) := dk_27 (dk_at dksX9_sign_0 18 rfl rfl)
theorem dX9_sign_19 : decode cX9_sign 19 = .ok (.ireturn, 1) := dk_172 (dk_at dksX9_sign_0 19 rfl rfl)
theorem q141 : (Jvm.Cond.initialized "FerryHall$Reader") ∈ lw_all := lw_g (lw_at lw_m1 23 rfl) rfl
theorem q213 : (Jvm.Cond.fieldLinkNest "FerryHall$Reader" (109 : Nat) "FerryHall$World" "shores" "I" "FerryHall") ∈ lw_tbl := lw_at lw_m1 95 rfl
theorem q217 : (Jvm.Cond.fieldLinkNest "FerryHall$Reader" (174 : Nat) "FerryHall$World" "things" "I" "FerryHall") ∈ lw_tbl := lw_at lw_m1 99 rfl
theorem q222 : (Jvm.Cond.fieldLinkNest "FerryHall$Reader" (227 : Nat) "FerryHall$World" "lampAt" "I" "FerryHall") ∈ lw_tbl := lw_at lw_m1 104 rfl
theorem q224 : (Jvm.Cond.fieldLinkNest "FerryHall$Reader" (219 : Nat) "FerryHall$World" "anyWater" "Z" "FerryHall") ∈ lw_tbl := lw_at lw_m1 106 rfl
theorem q227 : (Jvm.Cond.fieldLinkNest "FerryHall$Reader" (189 : Nat) "FerryHall$World" "weights" "[I" "FerryHall") ∈ lw_tbl := lw_at lw_m1 109 rfl
theorem q230 : (Jvm.Cond.fieldLinkNest "FerryHall$Reader" (192 : Nat) "FerryHall$World" "minutes" "[I" "FerryHall") ∈ lw_tbl := lw_at lw_m1 112 rfl
theorem q233 : (Jvm.Cond.fieldLinkNest "FerryHall$Reader" (185 : Nat) "FerryHall$World" "letters" "[I" "FerryHall") ∈ lw_tbl := lw_at lw_m1 115 rfl
theorem q235 : (Jvm.Cond.fieldLinkNest "FerryHall$Reader" (223 : Nat) "FerryHall$World" "water" "[[Z" "FerryHall") ∈ lw_tbl := lw_at lw_m1 117 rfl
theorem q241 : (Jvm.Cond.fieldLinkNest "FerryHall$Reader" (195 : Nat) "FerryHall$World" "boats" "Ljava/util/List;" "FerryHall") ∈ lw_tbl := lw_at lw_m1 123 rfl
theorem q244 : (Jvm.Cond.fieldLinkNest "FerryHall$Reader" (230 : Nat) "FerryHall$World" "laws" "Ljava/util/List;" "FerryHall") ∈ lw_tbl := lw_at lw_m1 126 rfl
theorem q556 : (Jvm.Cond.fieldLinkNest "FerryHall$Reader" (29 : Nat) "FerryHall" "tape" "[B" "FerryHall") ∈ lw_tbl := lw_at lw_m2 198 rfl
theorem q865 : (Jvm.Cond.selects "FerryHall$Reader" ({ cls := "java/lang/Object", name := "getClass", desc := "()Ljava/lang/Class;" } : Jvm.MethodName) ({ cls := "java/lang/Object", name := "getClass", desc := "()Ljava/lang/Class;" } : Jvm.MethodName)) ∈ lw_all := lw_g (lw_at lw_m4 27 rfl) rfl
theorem q1119 : (Jvm.Cond.instantiable "FerryHall$Reader" (8 : Nat)) ∈ lw_all := lw_g (lw_at lw_m5 41 rfl) rfl
theorem q1121 : (Jvm.Cond.instanceMethod ({ cls := "FerryHall$Reader", name := "<init>", desc := "(LFerryHall;I)V" } : Jvm.MethodName)) ∈ lw_all := lw_g (lw_at lw_m5 43 rfl) rfl
theorem q1122 : (Jvm.Cond.code ({ cls := "FerryHall$Reader", name := "<init>", desc := "(LFerryHall;I)V" } : Jvm.MethodName) prog_13_method_1_code (3 : Nat) (Option.none : Option Jvm.ClassFile.FieldType)) ∈ lw_all := lw_g (lw_at lw_m5 44 rfl) rfl
theorem q1123 : (Jvm.Cond.methodLink "FerryHall$Reader" (9 : Nat) ({ cls := "java/lang/Object", name := "<init>", desc := "()V" } : Jvm.MethodName)) ∈ lw_all := lw_g (lw_at lw_m5 45 rfl) rfl
theorem q1124 : (Jvm.Cond.classLink "FerryHall$Reader" (15 : Nat) "FerryHall$World") ∈ lw_all := lw_g (lw_at lw_m5 46 rfl) rfl
theorem q1125 : (Jvm.Cond.methodLinkNest "FerryHall$Reader" (17 : Nat) ({ cls := "FerryHall$World", name := "<init>", desc := "()V" } : Jvm.MethodName) "FerryHall") ∈ lw_tbl := lw_at lw_m5 47 rfl
theorem q1126 : (Jvm.Cond.fieldLink "FerryHall$Reader" (22 : Nat) "FerryHall$Reader" "size" "I") ∈ lw_all := lw_g (lw_at lw_m5 48 rfl) rfl
theorem q1127 : (Jvm.Cond.fieldLink "FerryHall$Reader" (18 : Nat) "FerryHall$Reader" "told" "LFerryHall$World;") ∈ lw_all := lw_g (lw_at lw_m5 49 rfl) rfl
theorem q1128 : (Jvm.Cond.fieldLink "FerryHall$Reader" (26 : Nat) "FerryHall$Reader" "at" "I") ∈ lw_all := lw_g (lw_at lw_m5 50 rfl) rfl
theorem q1129 : (Jvm.Cond.fieldLink "FerryHall$Reader" (44 : Nat) "FerryHall$Reader" "token" "I") ∈ lw_all := lw_g (lw_at lw_m5 51 rfl) rfl
theorem q1130 : (Jvm.Cond.fieldLink "FerryHall$Reader" (41 : Nat) "FerryHall$Reader" "begins" "I") ∈ lw_all := lw_g (lw_at lw_m5 52 rfl) rfl
theorem q1132 : (Jvm.Cond.fieldLink "FerryHall$Reader" (71 : Nat) "FerryHall$Reader" "ends" "I") ∈ lw_all := lw_g (lw_at lw_m5 54 rfl) rfl
theorem q1133 : (Jvm.Cond.fieldLink "FerryHall$Reader" (54 : Nat) "FerryHall$Reader" "number" "I") ∈ lw_all := lw_g (lw_at lw_m5 55 rfl) rfl
theorem q1134 : (Jvm.Cond.fieldLink "FerryHall$Reader" (3 : Nat) "FerryHall$Reader" "this$0" "LFerryHall;") ∈ lw_all := lw_g (lw_at lw_m5 56 rfl) rfl
theorem q1135 : (Jvm.Cond.laysFinal "FerryHall$Reader" "FerryHall$Reader" "size" "I") ∈ lw_all := lw_g (lw_at lw_m5 57 rfl) rfl
theorem q1136 : (Jvm.Cond.soleField "FerryHall$Reader" "size") ∈ lw_all := lw_g (lw_at lw_m5 58 rfl) rfl
theorem q1137 : (Jvm.Cond.laysFinal "FerryHall$Reader" "FerryHall$Reader" "told" "LFerryHall$World;") ∈ lw_all := lw_g (lw_at lw_m5 59 rfl) rfl
theorem q1138 : (Jvm.Cond.soleField "FerryHall$Reader" "told") ∈ lw_all := lw_g (lw_at lw_m5 60 rfl) rfl
theorem q1139 : (Jvm.Cond.lays "FerryHall$Reader" "FerryHall$Reader" "at" "I") ∈ lw_all := lw_g (lw_at lw_m5 61 rfl) rfl
theorem q1140 : (Jvm.Cond.soleField "FerryHall$Reader" "at") ∈ lw_all := lw_g (lw_at lw_m5 62 rfl) rfl
theorem q1141 : (Jvm.Cond.lays "FerryHall$Reader" "FerryHall$Reader" "token" "I") ∈ lw_all := lw_g (lw_at lw_m5 63 rfl) rfl
theorem q1142 : (Jvm.Cond.soleField "FerryHall$Reader" "token") ∈ lw_all := lw_g (lw_at lw_m5 64 rfl) rfl
theorem q1143 : (Jvm.Cond.lays "FerryHall$Reader" "FerryHall$Reader" "begins" "I") ∈ lw_all := lw_g (lw_at lw_m5 65 rfl) rfl
theorem q1144 : (Jvm.Cond.soleField "FerryHall$Reader" "begins") ∈ lw_all := lw_g (lw_at lw_m5 66 rfl) rfl
theorem q1145 : (Jvm.Cond.lays "FerryHall$Reader" "FerryHall$Reader" "ends" "I") ∈ lw_all := lw_g (lw_at lw_m5 67 rfl) rfl
theorem q1146 : (Jvm.Cond.soleField "FerryHall$Reader" "ends") ∈ lw_all := lw_g (lw_at lw_m5 68 rfl) rfl
theorem q1147 : (Jvm.Cond.lays "FerryHall$Reader" "FerryHall$Reader" "number" "I") ∈ lw_all := lw_g (lw_at lw_m5 69 rfl) rfl
theorem q1148 : (Jvm.Cond.soleField "FerryHall$Reader" "number") ∈ lw_all := lw_g (lw_at lw_m5 70 rfl) rfl
theorem q1149 : (Jvm.Cond.laysFinal "FerryHall$Reader" "FerryHall$Reader" "this$0" "LFerryHall;") ∈ lw_all := lw_g (lw_at lw_m5 71 rfl) rfl
theorem q1150 : (Jvm.Cond.soleField "FerryHall$Reader" "this$0") ∈ lw_all := lw_g (lw_at lw_m5 72 rfl) rfl
theorem q1151 : (Jvm.Cond.superclass "FerryHall$Reader" "java/lang/Object") ∈ lw_all := lw_g (lw_at lw_m5 73 rfl) rfl
theorem q1153 : (Jvm.Cond.instanceMethod ({ cls := "FerryHall$Reader", name := "read", desc := "()LFerryHall$World;" } : Jvm.MethodName)) ∈ lw_all := lw_g (lw_at lw_m5 75 rfl) rfl
theorem q1154 : (Jvm.Cond.selects "FerryHall$Reader" ({ cls := "FerryHall$Reader", name := "read", desc := "()LFerryHall$World;" } : Jvm.MethodName) ({ cls := "FerryHall$Reader", name := "read", desc := "()LFerryHall$World;" } : Jvm.MethodName)) ∈ lw_all := lw_g (lw_at lw_m5 76 rfl) rfl
theorem q1155 : (Jvm.Cond.code ({ cls := "FerryHall$Reader", name := "read", desc := "()LFerryHall$World;" } : Jvm.MethodName) prog_13_method_27_code (1 : Nat) (Option.some (Jvm.ClassFile.FieldType.object "FerryHall$World"))) ∈ lw_all := lw_g (lw_at lw_m5 77 rfl) rfl
theorem q1156 : (Jvm.Cond.methodLink "FerryHall$Reader" (102 : Nat) ({ cls := "FerryHall$Reader", name := "next", desc := "()V" } : Jvm.MethodName)) ∈ lw_all := lw_g (lw_at lw_m5 78 rfl) rfl
theorem q1157 : (Jvm.Cond.privateMethod ({ cls := "FerryHall$Reader", name := "next", desc := "()V" } : Jvm.MethodName)) ∈ lw_tbl := lw_at lw_m5 79 rfl
theorem q1158 : (Jvm.Cond.instanceMethod ({ cls := "FerryHall$Reader", name := "next", desc := "()V" } : Jvm.MethodName)) ∈ lw_all := lw_g (lw_at lw_m5 80 rfl) rfl
theorem q1159 : (Jvm.Cond.code ({ cls := "FerryHall$Reader", name := "next", desc := "()V" } : Jvm.MethodName) prog_13_method_5_code (1 : Nat) (Option.none : Option Jvm.ClassFile.FieldType)) ∈ lw_all := lw_g (lw_at lw_m5 81 rfl) rfl
theorem q1160 : (Jvm.Cond.methodLink "FerryHall$Reader" (33 : Nat) ({ cls := "FerryHall$Reader", name := "here", desc := "()I" } : Jvm.MethodName)) ∈ lw_all := lw_g (lw_at lw_m5 82 rfl) rfl
theorem q1161 : (Jvm.Cond.privateMethod ({ cls := "FerryHall$Reader", name := "here", desc := "()I" } : Jvm.MethodName)) ∈ lw_tbl := lw_at lw_m5 83 rfl
theorem q1162 : (Jvm.Cond.instanceMethod ({ cls := "FerryHall$Reader", name := "here", desc := "()I" } : Jvm.MethodName)) ∈ lw_all := lw_g (lw_at lw_m5 84 rfl) rfl
theorem q1163 : (Jvm.Cond.code ({ cls := "FerryHall$Reader", name := "here", desc := "()I" } : Jvm.MethodName) prog_13_method_2_code (1 : Nat) (Option.some Jvm.ClassFile.FieldType.int)) ∈ lw_all := lw_g (lw_at lw_m5 85 rfl) rfl
theorem q1164 : (Jvm.Cond.methodLink "FerryHall$Reader" (47 : Nat) ({ cls := "FerryHall$Reader", name := "isLetter", desc := "()Z" } : Jvm.MethodName)) ∈ lw_all := lw_g (lw_at lw_m5 86 rfl) rfl
theorem q1165 : (Jvm.Cond.privateMethod ({ cls := "FerryHall$Reader", name := "isLetter", desc := "()Z" } : Jvm.MethodName)) ∈ lw_tbl := lw_at lw_m5 87 rfl
theorem q1166 : (Jvm.Cond.instanceMethod ({ cls := "FerryHall$Reader", name := "isLetter", desc := "()Z" } : Jvm.MethodName)) ∈ lw_all := lw_g (lw_at lw_m5 88 rfl) rfl
theorem q1167 : (Jvm.Cond.code ({ cls := "FerryHall$Reader", name := "isLetter", desc := "()Z" } : Jvm.MethodName) prog_13_method_3_code (1 : Nat) (Option.some Jvm.ClassFile.FieldType.boolean)) ∈ lw_all := lw_g (lw_at lw_m5 89 rfl) rfl
theorem q1168 : (Jvm.Cond.methodLinkNest "FerryHall$Reader" (37 : Nat) ({ cls := "FerryHall", name := "in", desc := "(III)Z" } : Jvm.MethodName) "FerryHall") ∈ lw_tbl := lw_at lw_m5 90 rfl
theorem q1169 : (Jvm.Cond.methodLink "FerryHall$Reader" (51 : Nat) ({ cls := "FerryHall$Reader", name := "isDigit", desc := "()Z" } : Jvm.MethodName)) ∈ lw_all := lw_g (lw_at lw_m5 91 rfl) rfl
theorem q1170 : (Jvm.Cond.privateMethod ({ cls := "FerryHall$Reader", name := "isDigit", desc := "()Z" } : Jvm.MethodName)) ∈ lw_tbl := lw_at lw_m5 92 rfl
theorem q1171 : (Jvm.Cond.instanceMethod ({ cls := "FerryHall$Reader", name := "isDigit", desc := "()Z" } : Jvm.MethodName)) ∈ lw_all := lw_g (lw_at lw_m5 93 rfl) rfl
theorem q1172 : (Jvm.Cond.code ({ cls := "FerryHall$Reader", name := "isDigit", desc := "()Z" } : Jvm.MethodName) prog_13_method_4_code (1 : Nat) (Option.some Jvm.ClassFile.FieldType.boolean)) ∈ lw_all := lw_g (lw_at lw_m5 94 rfl) rfl
theorem q1173 : (Jvm.Cond.methodLink "FerryHall$Reader" (57 : Nat) ({ cls := "java/lang/Math", name := "min", desc := "(II)I" } : Jvm.MethodName)) ∈ lw_all := lw_g (lw_at lw_m5 95 rfl) rfl
theorem q1174 : (Jvm.Cond.stringRef "FerryHall$Reader" (63 : Nat) ";()+-*/<=") ∈ lw_tbl := lw_at lw_m5 96 rfl
theorem q1175 : (Jvm.Cond.methodLink "FerryHall$Reader" (65 : Nat) ({ cls := "java/lang/String", name := "indexOf", desc := "(I)I" } : Jvm.MethodName)) ∈ lw_all := lw_g (lw_at lw_m5 97 rfl) rfl
theorem q1244 : (Jvm.Cond.stringRef "FerryHall$Reader" (243 : Nat) "shores") ∈ lw_tbl := lw_at lw_m5 166 rfl
theorem q1245 : (Jvm.Cond.methodLink "FerryHall$Reader" (89 : Nat) ({ cls := "FerryHall$Reader", name := "is", desc := "(Ljava/lang/String;)Z" } : Jvm.MethodName)) ∈ lw_all := lw_g (lw_at lw_m5 167 rfl) rfl
theorem q1246 : (Jvm.Cond.privateMethod ({ cls := "FerryHall$Reader", name := "is", desc := "(Ljava/lang/String;)Z" } : Jvm.MethodName)) ∈ lw_tbl := lw_at lw_m5 168 rfl
theorem q1247 : (Jvm.Cond.instanceMethod ({ cls := "FerryHall$Reader", name := "is", desc := "(Ljava/lang/String;)Z" } : Jvm.MethodName)) ∈ lw_all := lw_g (lw_at lw_m5 169 rfl) rfl
theorem q1248 : (Jvm.Cond.code ({ cls := "FerryHall$Reader", name := "is", desc := "(Ljava/lang/String;)Z" } : Jvm.MethodName) prog_13_method_6_code (3 : Nat) (Option.some Jvm.ClassFile.FieldType.boolean)) ∈ lw_all := lw_g (lw_at lw_m5 170 rfl) rfl
theorem q1249 : (Jvm.Cond.methodLink "FerryHall$Reader" (74 : Nat) ({ cls := "java/lang/String", name := "length", desc := "()I" } : Jvm.MethodName)) ∈ lw_all := lw_g (lw_at lw_m5 171 rfl) rfl
theorem q1250 : (Jvm.Cond.methodLink "FerryHall$Reader" (77 : Nat) ({ cls := "java/lang/String", name := "charAt", desc := "(I)C" } : Jvm.MethodName)) ∈ lw_all := lw_g (lw_at lw_m5 172 rfl) rfl
theorem q1265 : (Jvm.Cond.methodLink "FerryHall$Reader" (114 : Nat) ({ cls := "FerryHall$Reader", name := "number", desc := "(II)I" } : Jvm.MethodName)) ∈ lw_all := lw_g (lw_at lw_m5 187 rfl) rfl
theorem q1266 : (Jvm.Cond.privateMethod ({ cls := "FerryHall$Reader", name := "number", desc := "(II)I" } : Jvm.MethodName)) ∈ lw_tbl := lw_at lw_m5 188 rfl
theorem q1267 : (Jvm.Cond.instanceMethod ({ cls := "FerryHall$Reader", name := "number", desc := "(II)I" } : Jvm.MethodName)) ∈ lw_all := lw_g (lw_at lw_m5 189 rfl) rfl
theorem q1268 : (Jvm.Cond.code ({ cls := "FerryHall$Reader", name := "number", desc := "(II)I" } : Jvm.MethodName) prog_13_method_13_code (4 : Nat) (Option.some Jvm.ClassFile.FieldType.int)) ∈ lw_all := lw_g (lw_at lw_m5 190 rfl) rfl
theorem q1269 : (Jvm.Cond.methodLink "FerryHall$Reader" (98 : Nat) ({ cls := "FerryHall$Reader", name := "want", desc := "(ZI)V" } : Jvm.MethodName)) ∈ lw_all := lw_g (lw_at lw_m5 191 rfl) rfl
theorem q1270 : (Jvm.Cond.privateMethod ({ cls := "FerryHall$Reader", name := "want", desc := "(ZI)V" } : Jvm.MethodName)) ∈ lw_tbl := lw_at lw_m5 192 rfl
theorem q1271 : (Jvm.Cond.instanceMethod ({ cls := "FerryHall$Reader", name := "want", desc := "(ZI)V" } : Jvm.MethodName)) ∈ lw_all := lw_g (lw_at lw_m5 193 rfl) rfl
theorem q1272 : (Jvm.Cond.code ({ cls := "FerryHall$Reader", name := "want", desc := "(ZI)V" } : Jvm.MethodName) prog_13_method_10_code (3 : Nat) (Option.none : Option Jvm.ClassFile.FieldType)) ∈ lw_all := lw_g (lw_at lw_m5 194 rfl) rfl
theorem q1273 : (Jvm.Cond.classLink "FerryHall$Reader" (93 : Nat) "FerryHall$Wrong") ∈ lw_all := lw_g (lw_at lw_m5 195 rfl) rfl
theorem q1282 : (Jvm.Cond.methodLink "FerryHall$Reader" (95 : Nat) ({ cls := "FerryHall$Wrong", name := "<init>", desc := "(I)V" } : Jvm.MethodName)) ∈ lw_all := lw_g (lw_at lw_m5 204 rfl) rfl
theorem q1297 : (Jvm.Cond.methodLink "FerryHall$Reader" (132 : Nat) ({ cls := "FerryHall$Reader", name := "need", desc := "(I)V" } : Jvm.MethodName)) ∈ lw_all := lw_g (lw_at lw_m5 219 rfl) rfl
theorem q1298 : (Jvm.Cond.privateMethod ({ cls := "FerryHall$Reader", name := "need", desc := "(I)V" } : Jvm.MethodName)) ∈ lw_tbl := lw_at lw_m5 220 rfl
theorem q1299 : (Jvm.Cond.instanceMethod ({ cls := "FerryHall$Reader", name := "need", desc := "(I)V" } : Jvm.MethodName)) ∈ lw_all := lw_g (lw_at lw_m5 221 rfl) rfl
theorem q1300 : (Jvm.Cond.code ({ cls := "FerryHall$Reader", name := "need", desc := "(I)V" } : Jvm.MethodName) prog_13_method_12_code (2 : Nat) (Option.none : Option Jvm.ClassFile.FieldType)) ∈ lw_all := lw_g (lw_at lw_m5 222 rfl) rfl
theorem q1301 : (Jvm.Cond.methodLink "FerryHall$Reader" (105 : Nat) ({ cls := "FerryHall$Reader", name := "isSign", desc := "(I)Z" } : Jvm.MethodName)) ∈ lw_all := lw_g (lw_at lw_m5 223 rfl) rfl
theorem q1302 : (Jvm.Cond.privateMethod ({ cls := "FerryHall$Reader", name := "isSign", desc := "(I)Z" } : Jvm.MethodName)) ∈ lw_tbl := lw_at lw_m5 224 rfl
theorem q1303 : (Jvm.Cond.instanceMethod ({ cls := "FerryHall$Reader", name := "isSign", desc := "(I)Z" } : Jvm.MethodName)) ∈ lw_all := lw_g (lw_at lw_m5 225 rfl) rfl
theorem q1304 : (Jvm.Cond.code ({ cls := "FerryHall$Reader", name := "isSign", desc := "(I)Z" } : Jvm.MethodName) prog_13_method_7_code (2 : Nat) (Option.some Jvm.ClassFile.FieldType.boolean)) ∈ lw_all := lw_g (lw_at lw_m5 226 rfl) rfl
theorem q1305 : (Jvm.Cond.stringRef "FerryHall$Reader" (244 : Nat) "thing") ∈ lw_tbl := lw_at lw_m5 227 rfl
theorem q1306 : (Jvm.Cond.methodLink "FerryHall$Reader" (246 : Nat) ({ cls := "FerryHall$Reader", name := "thing", desc := "()V" } : Jvm.MethodName)) ∈ lw_all := lw_g (lw_at lw_m5 228 rfl) rfl
theorem q1307 : (Jvm.Cond.privateMethod ({ cls := "FerryHall$Reader", name := "thing", desc := "()V" } : Jvm.MethodName)) ∈ lw_tbl := lw_at lw_m5 229 rfl
theorem q1308 : (Jvm.Cond.instanceMethod ({ cls := "FerryHall$Reader", name := "thing", desc := "()V" } : Jvm.MethodName)) ∈ lw_all := lw_g (lw_at lw_m5 230 rfl) rfl
theorem q1309 : (Jvm.Cond.code ({ cls := "FerryHall$Reader", name := "thing", desc := "()V" } : Jvm.MethodName) prog_13_method_22_code (4 : Nat) (Option.none : Option Jvm.ClassFile.FieldType)) ∈ lw_all := lw_g (lw_at lw_m5 231 rfl) rfl
theorem q1310 : (Jvm.Cond.methodLink "FerryHall$Reader" (117 : Nat) ({ cls := "FerryHall$Reader", name := "isName", desc := "()Z" } : Jvm.MethodName)) ∈ lw_all := lw_g (lw_at lw_m5 232 rfl) rfl
theorem q1311 : (Jvm.Cond.privateMethod ({ cls := "FerryHall$Reader", name := "isName", desc := "()Z" } : Jvm.MethodName)) ∈ lw_tbl := lw_at lw_m5 233 rfl
theorem q1312 : (Jvm.Cond.instanceMethod ({ cls := "FerryHall$Reader", name := "isName", desc := "()Z" } : Jvm.MethodName)) ∈ lw_all := lw_g (lw_at lw_m5 234 rfl) rfl
theorem q1313 : (Jvm.Cond.code ({ cls := "FerryHall$Reader", name := "isName", desc := "()Z" } : Jvm.MethodName) prog_13_method_8_code (1 : Nat) (Option.some Jvm.ClassFile.FieldType.boolean)) ∈ lw_all := lw_g (lw_at lw_m5 235 rfl) rfl
theorem q1314 : (Jvm.Cond.methodLink "FerryHall$Reader" (120 : Nat) ({ cls := "FerryHall$World", name := "named", desc := "(I)I" } : Jvm.MethodName)) ∈ lw_all := lw_g (lw_at lw_m5 236 rfl) rfl
theorem q1318 : (Jvm.Cond.stringRef "FerryHall$Reader" (177 : Nat) "weight") ∈ lw_tbl := lw_at lw_m6 0 rfl
theorem q1319 : (Jvm.Cond.methodLink "FerryHall$Reader" (179 : Nat) ({ cls := "FerryHall$Reader", name := "word", desc := "(Ljava/lang/String;)V" } : Jvm.MethodName)) ∈ lw_all := lw_g (lw_at lw_m6 1 rfl) rfl
theorem q1320 : (Jvm.Cond.privateMethod ({ cls := "FerryHall$Reader", name := "word", desc := "(Ljava/lang/String;)V" } : Jvm.MethodName)) ∈ lw_tbl := lw_at lw_m6 2 rfl
theorem q1321 : (Jvm.Cond.instanceMethod ({ cls := "FerryHall$Reader", name := "word", desc := "(Ljava/lang/String;)V" } : Jvm.MethodName)) ∈ lw_all := lw_g (lw_at lw_m6 3 rfl) rfl
theorem q1322 : (Jvm.Cond.code ({ cls := "FerryHall$Reader", name := "word", desc := "(Ljava/lang/String;)V" } : Jvm.MethodName) prog_13_method_11_code (2 : Nat) (Option.none : Option Jvm.ClassFile.FieldType)) ∈ lw_all := lw_g (lw_at lw_m6 4 rfl) rfl
theorem q1323 : (Jvm.Cond.stringRef "FerryHall$Reader" (183 : Nat) "rows") ∈ lw_tbl := lw_at lw_m6 5 rfl
theorem q1324 : (Jvm.Cond.stringRef "FerryHall$Reader" (248 : Nat) "boat") ∈ lw_tbl := lw_at lw_m6 6 rfl
theorem q1325 : (Jvm.Cond.methodLink "FerryHall$Reader" (250 : Nat) ({ cls := "FerryHall$Reader", name := "boat", desc := "()V" } : Jvm.MethodName)) ∈ lw_all := lw_g (lw_at lw_m6 7 rfl) rfl
theorem q1326 : (Jvm.Cond.privateMethod ({ cls := "FerryHall$Reader", name := "boat", desc := "()V" } : Jvm.MethodName)) ∈ lw_tbl := lw_at lw_m6 8 rfl
theorem q1327 : (Jvm.Cond.instanceMethod ({ cls := "FerryHall$Reader", name := "boat", desc := "()V" } : Jvm.MethodName)) ∈ lw_all := lw_g (lw_at lw_m6 9 rfl) rfl
theorem q1328 : (Jvm.Cond.code ({ cls := "FerryHall$Reader", name := "boat", desc := "()V" } : Jvm.MethodName) prog_13_method_23_code (4 : Nat) (Option.none : Option Jvm.ClassFile.FieldType)) ∈ lw_all := lw_g (lw_at lw_m6 10 rfl) rfl
theorem q1329 : (Jvm.Cond.interfaceEntry "FerryHall$Reader" (199 : Nat)) ∈ lw_tbl := lw_at lw_m6 11 rfl
theorem q1330 : (Jvm.Cond.methodLink "FerryHall$Reader" (199 : Nat) ({ cls := "java/util/List", name := "size", desc := "()I" } : Jvm.MethodName)) ∈ lw_all := lw_g (lw_at lw_m6 12 rfl) rfl
theorem q1331 : (Jvm.Cond.stringRef "FerryHall$Reader" (203 : Nat) "holds") ∈ lw_tbl := lw_at lw_m6 13 rfl
theorem q1332 : (Jvm.Cond.stringRef "FerryHall$Reader" (205 : Nat) "load") ∈ lw_tbl := lw_at lw_m6 14 rfl
theorem q1333 : (Jvm.Cond.stringRef "FerryHall$Reader" (207 : Nat) "at") ∈ lw_tbl := lw_at lw_m6 15 rfl
theorem q1334 : (Jvm.Cond.methodLink "FerryHall$Reader" (208 : Nat) ({ cls := "FerryHall$Reader", name := "shore", desc := "()I" } : Jvm.MethodName)) ∈ lw_all := lw_g (lw_at lw_m6 16 rfl) rfl
theorem q1335 : (Jvm.Cond.privateMethod ({ cls := "FerryHall$Reader", name := "shore", desc := "()I" } : Jvm.MethodName)) ∈ lw_tbl := lw_at lw_m6 17 rfl
theorem q1336 : (Jvm.Cond.instanceMethod ({ cls := "FerryHall$Reader", name := "shore", desc := "()I" } : Jvm.MethodName)) ∈ lw_all := lw_g (lw_at lw_m6 18 rfl) rfl
theorem q1337 : (Jvm.Cond.code ({ cls := "FerryHall$Reader", name := "shore", desc := "()I" } : Jvm.MethodName) prog_13_method_14_code (1 : Nat) (Option.some Jvm.ClassFile.FieldType.int)) ∈ lw_all := lw_g (lw_at lw_m6 19 rfl) rfl
theorem q1338 : (Jvm.Cond.classLink "FerryHall$Reader" (211 : Nat) "FerryHall$Boat") ∈ lw_all := lw_g (lw_at lw_m6 20 rfl) rfl
theorem q1340 : (Jvm.Cond.methodLink "FerryHall$Reader" (213 : Nat) ({ cls := "FerryHall$Boat", name := "<init>", desc := "(III)V" } : Jvm.MethodName)) ∈ lw_all := lw_g (lw_at lw_m6 22 rfl) rfl
theorem q1360 : (Jvm.Cond.interfaceEntry "FerryHall$Reader" (216 : Nat)) ∈ lw_tbl := lw_at lw_m6 42 rfl
theorem q1361 : (Jvm.Cond.methodLink "FerryHall$Reader" (216 : Nat) ({ cls := "java/util/List", name := "add", desc := "(Ljava/lang/Object;)Z" } : Jvm.MethodName)) ∈ lw_all := lw_g (lw_at lw_m6 43 rfl) rfl
theorem q1362 : (Jvm.Cond.stringRef "FerryHall$Reader" (252 : Nat) "water") ∈ lw_tbl := lw_at lw_m6 44 rfl
theorem q1363 : (Jvm.Cond.methodLink "FerryHall$Reader" (253 : Nat) ({ cls := "FerryHall$Reader", name := "water", desc := "(Z)V" } : Jvm.MethodName)) ∈ lw_all := lw_g (lw_at lw_m6 45 rfl) rfl
theorem q1364 : (Jvm.Cond.privateMethod ({ cls := "FerryHall$Reader", name := "water", desc := "(Z)V" } : Jvm.MethodName)) ∈ lw_tbl := lw_at lw_m6 46 rfl
theorem q1365 : (Jvm.Cond.instanceMethod ({ cls := "FerryHall$Reader", name := "water", desc := "(Z)V" } : Jvm.MethodName)) ∈ lw_all := lw_g (lw_at lw_m6 47 rfl) rfl
theorem q1366 : (Jvm.Cond.code ({ cls := "FerryHall$Reader", name := "water", desc := "(Z)V" } : Jvm.MethodName) prog_13_method_24_code (4 : Nat) (Option.none : Option Jvm.ClassFile.FieldType)) ∈ lw_all := lw_g (lw_at lw_m6 48 rfl) rfl
theorem q1367 : (Jvm.Cond.stringRef "FerryHall$Reader" (256 : Nat) "way") ∈ lw_tbl := lw_at lw_m6 49 rfl
theorem q1368 : (Jvm.Cond.stringRef "FerryHall$Reader" (258 : Nat) "lamp") ∈ lw_tbl := lw_at lw_m6 50 rfl
theorem q1369 : (Jvm.Cond.methodLink "FerryHall$Reader" (260 : Nat) ({ cls := "FerryHall$Reader", name := "lamp", desc := "()V" } : Jvm.MethodName)) ∈ lw_all := lw_g (lw_at lw_m6 51 rfl) rfl
theorem q1370 : (Jvm.Cond.privateMethod ({ cls := "FerryHall$Reader", name := "lamp", desc := "()V" } : Jvm.MethodName)) ∈ lw_tbl := lw_at lw_m6 52 rfl
theorem q1371 : (Jvm.Cond.instanceMethod ({ cls := "FerryHall$Reader", name := "lamp", desc := "()V" } : Jvm.MethodName)) ∈ lw_all := lw_g (lw_at lw_m6 53 rfl) rfl
theorem q1372 : (Jvm.Cond.code ({ cls := "FerryHall$Reader", name := "lamp", desc := "()V" } : Jvm.MethodName) prog_13_method_25_code (1 : Nat) (Option.none : Option Jvm.ClassFile.FieldType)) ∈ lw_all := lw_g (lw_at lw_m6 54 rfl) rfl
theorem q1373 : (Jvm.Cond.stringRef "FerryHall$Reader" (262 : Nat) "never") ∈ lw_tbl := lw_at lw_m6 55 rfl
theorem q1374 : (Jvm.Cond.methodLink "FerryHall$Reader" (264 : Nat) ({ cls := "FerryHall$Reader", name := "never", desc := "()V" } : Jvm.MethodName)) ∈ lw_all := lw_g (lw_at lw_m6 56 rfl) rfl
theorem q1375 : (Jvm.Cond.privateMethod ({ cls := "FerryHall$Reader", name := "never", desc := "()V" } : Jvm.MethodName)) ∈ lw_tbl := lw_at lw_m6 57 rfl
theorem q1376 : (Jvm.Cond.instanceMethod ({ cls := "FerryHall$Reader", name := "never", desc := "()V" } : Jvm.MethodName)) ∈ lw_all := lw_g (lw_at lw_m6 58 rfl) rfl
theorem q1377 : (Jvm.Cond.code ({ cls := "FerryHall$Reader", name := "never", desc := "()V" } : Jvm.MethodName) prog_13_method_26_code (2 : Nat) (Option.none : Option Jvm.ClassFile.FieldType)) ∈ lw_all := lw_g (lw_at lw_m6 59 rfl) rfl
theorem q1378 : (Jvm.Cond.classLink "FerryHall$Reader" (233 : Nat) "FerryHall$Law") ∈ lw_all := lw_g (lw_at lw_m6 60 rfl) rfl
theorem q1380 : (Jvm.Cond.methodLink "FerryHall$Reader" (135 : Nat) ({ cls := "FerryHall$Reader", name := "expression", desc := "(I)LFerryHall$Ex;" } : Jvm.MethodName)) ∈ lw_all := lw_g (lw_at lw_m6 62 rfl) rfl
theorem q1381 : (Jvm.Cond.privateMethod ({ cls := "FerryHall$Reader", name := "expression", desc := "(I)LFerryHall$Ex;" } : Jvm.MethodName)) ∈ lw_tbl := lw_at lw_m6 63 rfl
theorem q1382 : (Jvm.Cond.instanceMethod ({ cls := "FerryHall$Reader", name := "expression", desc := "(I)LFerryHall$Ex;" } : Jvm.MethodName)) ∈ lw_all := lw_g (lw_at lw_m6 64 rfl) rfl
theorem q1383 : (Jvm.Cond.code ({ cls := "FerryHall$Reader", name := "expression", desc := "(I)LFerryHall$Ex;" } : Jvm.MethodName) prog_13_method_21_code (3 : Nat) (Option.some (Jvm.ClassFile.FieldType.object "FerryHall$Ex"))) ∈ lw_all := lw_g (lw_at lw_m6 65 rfl) rfl
theorem q1384 : (Jvm.Cond.classLink "FerryHall$Reader" (139 : Nat) "FerryHall$Chain") ∈ lw_all := lw_g (lw_at lw_m6 66 rfl) rfl
theorem q1386 : (Jvm.Cond.methodLink "FerryHall$Reader" (170 : Nat) ({ cls := "FerryHall$Reader", name := "and", desc := "(I)LFerryHall$Ex;" } : Jvm.MethodName)) ∈ lw_all := lw_g (lw_at lw_m6 68 rfl) rfl
theorem q1387 : (Jvm.Cond.privateMethod ({ cls := "FerryHall$Reader", name := "and", desc := "(I)LFerryHall$Ex;" } : Jvm.MethodName)) ∈ lw_tbl := lw_at lw_m6 69 rfl
theorem q1388 : (Jvm.Cond.instanceMethod ({ cls := "FerryHall$Reader", name := "and", desc := "(I)LFerryHall$Ex;" } : Jvm.MethodName)) ∈ lw_all := lw_g (lw_at lw_m6 70 rfl) rfl
theorem q1389 : (Jvm.Cond.code ({ cls := "FerryHall$Reader", name := "and", desc := "(I)LFerryHall$Ex;" } : Jvm.MethodName) prog_13_method_20_code (3 : Nat) (Option.some (Jvm.ClassFile.FieldType.object "FerryHall$Ex"))) ∈ lw_all := lw_g (lw_at lw_m6 71 rfl) rfl
theorem q1390 : (Jvm.Cond.methodLink "FerryHall$Reader" (166 : Nat) ({ cls := "FerryHall$Reader", name := "not", desc := "(I)LFerryHall$Ex;" } : Jvm.MethodName)) ∈ lw_all := lw_g (lw_at lw_m6 72 rfl) rfl
theorem q1391 : (Jvm.Cond.privateMethod ({ cls := "FerryHall$Reader", name := "not", desc := "(I)LFerryHall$Ex;" } : Jvm.MethodName)) ∈ lw_tbl := lw_at lw_m6 73 rfl
theorem q1392 : (Jvm.Cond.instanceMethod ({ cls := "FerryHall$Reader", name := "not", desc := "(I)LFerryHall$Ex;" } : Jvm.MethodName)) ∈ lw_all := lw_g (lw_at lw_m6 74 rfl) rfl
theorem q1393 : (Jvm.Cond.code ({ cls := "FerryHall$Reader", name := "not", desc := "(I)LFerryHall$Ex;" } : Jvm.MethodName) prog_13_method_19_code (6 : Nat) (Option.some (Jvm.ClassFile.FieldType.object "FerryHall$Ex"))) ∈ lw_all := lw_g (lw_at lw_m6 75 rfl) rfl
theorem q1394 : (Jvm.Cond.stringRef "FerryHall$Reader" (158 : Nat) "not") ∈ lw_tbl := lw_at lw_m6 76 rfl
theorem q1395 : (Jvm.Cond.methodLink "FerryHall$Reader" (160 : Nat) ({ cls := "FerryHall$Reader", name := "sum", desc := "(I)LFerryHall$Ex;" } : Jvm.MethodName)) ∈ lw_all := lw_g (lw_at lw_m6 77 rfl) rfl
theorem q1396 : (Jvm.Cond.privateMethod ({ cls := "FerryHall$Reader", name := "sum", desc := "(I)LFerryHall$Ex;" } : Jvm.MethodName)) ∈ lw_tbl := lw_at lw_m6 78 rfl
theorem q1397 : (Jvm.Cond.instanceMethod ({ cls := "FerryHall$Reader", name := "sum", desc := "(I)LFerryHall$Ex;" } : Jvm.MethodName)) ∈ lw_all := lw_g (lw_at lw_m6 79 rfl) rfl
theorem q1398 : (Jvm.Cond.code ({ cls := "FerryHall$Reader", name := "sum", desc := "(I)LFerryHall$Ex;" } : Jvm.MethodName) prog_13_method_18_code (4 : Nat) (Option.some (Jvm.ClassFile.FieldType.object "FerryHall$Ex"))) ∈ lw_all := lw_g (lw_at lw_m6 80 rfl) rfl
theorem q1399 : (Jvm.Cond.methodLink "FerryHall$Reader" (155 : Nat) ({ cls := "FerryHall$Reader", name := "product", desc := "(I)LFerryHall$Ex;" } : Jvm.MethodName)) ∈ lw_all := lw_g (lw_at lw_m6 81 rfl) rfl
theorem q1400 : (Jvm.Cond.privateMethod ({ cls := "FerryHall$Reader", name := "product", desc := "(I)LFerryHall$Ex;" } : Jvm.MethodName)) ∈ lw_tbl := lw_at lw_m6 82 rfl
theorem q1401 : (Jvm.Cond.instanceMethod ({ cls := "FerryHall$Reader", name := "product", desc := "(I)LFerryHall$Ex;" } : Jvm.MethodName)) ∈ lw_all := lw_g (lw_at lw_m6 83 rfl) rfl
theorem q1402 : (Jvm.Cond.code ({ cls := "FerryHall$Reader", name := "product", desc := "(I)LFerryHall$Ex;" } : Jvm.MethodName) prog_13_method_17_code (4 : Nat) (Option.some (Jvm.ClassFile.FieldType.object "FerryHall$Ex"))) ∈ lw_all := lw_g (lw_at lw_m6 84 rfl) rfl
theorem q1403 : (Jvm.Cond.methodLink "FerryHall$Reader" (141 : Nat) ({ cls := "FerryHall$Reader", name := "part", desc := "(I)LFerryHall$Ex;" } : Jvm.MethodName)) ∈ lw_all := lw_g (lw_at lw_m6 85 rfl) rfl
theorem q1404 : (Jvm.Cond.privateMethod ({ cls := "FerryHall$Reader", name := "part", desc := "(I)LFerryHall$Ex;" } : Jvm.MethodName)) ∈ lw_tbl := lw_at lw_m6 86 rfl
theorem q1405 : (Jvm.Cond.instanceMethod ({ cls := "FerryHall$Reader", name := "part", desc := "(I)LFerryHall$Ex;" } : Jvm.MethodName)) ∈ lw_all := lw_g (lw_at lw_m6 87 rfl) rfl
theorem q1406 : (Jvm.Cond.code ({ cls := "FerryHall$Reader", name := "part", desc := "(I)LFerryHall$Ex;" } : Jvm.MethodName) prog_13_method_15_code (3 : Nat) (Option.some (Jvm.ClassFile.FieldType.object "FerryHall$Ex"))) ∈ lw_all := lw_g (lw_at lw_m6 88 rfl) rfl
theorem q1407 : (Jvm.Cond.classLink "FerryHall$Reader" (112 : Nat) "FerryHall$Number") ∈ lw_all := lw_g (lw_at lw_m6 89 rfl) rfl
theorem q1409 : (Jvm.Cond.methodLink "FerryHall$Reader" (116 : Nat) ({ cls := "FerryHall$Number", name := "<init>", desc := "(I)V" } : Jvm.MethodName)) ∈ lw_all := lw_g (lw_at lw_m6 91 rfl) rfl
theorem q1420 : (Jvm.Cond.classLink "FerryHall$Reader" (123 : Nat) "FerryHall$Member") ∈ lw_all := lw_g (lw_at lw_m6 102 rfl) rfl
theorem q1422 : (Jvm.Cond.methodLink "FerryHall$Reader" (125 : Nat) ({ cls := "FerryHall$Member", name := "<init>", desc := "(I)V" } : Jvm.MethodName)) ∈ lw_all := lw_g (lw_at lw_m6 104 rfl) rfl
theorem q1430 : (Jvm.Cond.methodLink "FerryHall$Reader" (126 : Nat) ({ cls := "FerryHall$Reader", name := "valueNow", desc := "()I" } : Jvm.MethodName)) ∈ lw_all := lw_g (lw_at lw_m6 112 rfl) rfl
theorem q1431 : (Jvm.Cond.privateMethod ({ cls := "FerryHall$Reader", name := "valueNow", desc := "()I" } : Jvm.MethodName)) ∈ lw_tbl := lw_at lw_m6 113 rfl
theorem q1432 : (Jvm.Cond.instanceMethod ({ cls := "FerryHall$Reader", name := "valueNow", desc := "()I" } : Jvm.MethodName)) ∈ lw_all := lw_g (lw_at lw_m6 114 rfl) rfl
theorem q1433 : (Jvm.Cond.code ({ cls := "FerryHall$Reader", name := "valueNow", desc := "()I" } : Jvm.MethodName) prog_13_method_9_code (3 : Nat) (Option.some Jvm.ClassFile.FieldType.int)) ∈ lw_all := lw_g (lw_at lw_m6 115 rfl) rfl
theorem q1434 : (Jvm.Cond.stringRef "FerryHall$Reader" (81 : Nat) " many weight rowers boats lamp shore ") ∈ lw_tbl := lw_at lw_m6 116 rfl
theorem q1435 : (Jvm.Cond.methodLink "FerryHall$Reader" (83 : Nat) ({ cls := "java/lang/String", name := "indexOf", desc := "(II)I" } : Jvm.MethodName)) ∈ lw_all := lw_g (lw_at lw_m6 117 rfl) rfl
theorem q1436 : (Jvm.Cond.methodLink "FerryHall$Reader" (85 : Nat) ({ cls := "java/lang/String", name := "substring", desc := "(II)Ljava/lang/String;" } : Jvm.MethodName)) ∈ lw_all := lw_g (lw_at lw_m6 118 rfl) rfl
theorem q1661 : (Jvm.Cond.classLink "FerryHall$Reader" (129 : Nat) "FerryHall$Word") ∈ lw_all := lw_g (lw_at lw_m7 103 rfl) rfl
theorem q1663 : (Jvm.Cond.methodLink "FerryHall$Reader" (131 : Nat) ({ cls := "FerryHall$Word", name := "<init>", desc := "(I)V" } : Jvm.MethodName)) ∈ lw_all := lw_g (lw_at lw_m7 105 rfl) rfl
theorem q1671 : (Jvm.Cond.methodLink "FerryHall$Reader" (144 : Nat) ({ cls := "FerryHall$Chain", name := "<init>", desc := "(LFerryHall$Ex;)V" } : Jvm.MethodName)) ∈ lw_all := lw_g (lw_at lw_m7 113 rfl) rfl
theorem q1688 : (Jvm.Cond.methodLink "FerryHall$Reader" (147 : Nat) ({ cls := "FerryHall$Reader", name := "sign", desc := "()C" } : Jvm.MethodName)) ∈ lw_all := lw_g (lw_at lw_m7 130 rfl) rfl
theorem q1689 : (Jvm.Cond.privateMethod ({ cls := "FerryHall$Reader", name := "sign", desc := "()C" } : Jvm.MethodName)) ∈ lw_tbl := lw_at lw_m7 131 rfl
theorem q1690 : (Jvm.Cond.instanceMethod ({ cls := "FerryHall$Reader", name := "sign", desc := "()C" } : Jvm.MethodName)) ∈ lw_all := lw_g (lw_at lw_m7 132 rfl) rfl
theorem q1691 : (Jvm.Cond.code ({ cls := "FerryHall$Reader", name := "sign", desc := "()C" } : Jvm.MethodName) prog_13_method_16_code (2 : Nat) (Option.some Jvm.ClassFile.FieldType.char)) ∈ lw_all := lw_g (lw_at lw_m7 133 rfl) rfl
theorem q1692 : (Jvm.Cond.methodLink "FerryHall$Reader" (151 : Nat) ({ cls := "FerryHall$Chain", name := "add", desc := "(CLFerryHall$Ex;)V" } : Jvm.MethodName)) ∈ lw_all := lw_g (lw_at lw_m7 134 rfl) rfl
theorem q1709 : (Jvm.Cond.classLink "FerryHall$Reader" (163 : Nat) "FerryHall$Not") ∈ lw_all := lw_g (lw_at lw_m7 151 rfl) rfl
theorem q1711 : (Jvm.Cond.methodLink "FerryHall$Reader" (165 : Nat) ({ cls := "FerryHall$Not", name := "<init>", desc := "(LFerryHall$Ex;)V" } : Jvm.MethodName)) ∈ lw_all := lw_g (lw_at lw_m7 153 rfl) rfl
theorem q1719 : (Jvm.Cond.stringRef "FerryHall$Reader" (168 : Nat) "and") ∈ lw_tbl := lw_at lw_m7 161 rfl
theorem q1720 : (Jvm.Cond.stringRef "FerryHall$Reader" (172 : Nat) "or") ∈ lw_tbl := lw_at lw_m7 162 rfl
theorem q1721 : (Jvm.Cond.methodLink "FerryHall$Reader" (235 : Nat) ({ cls := "FerryHall$Law", name := "<init>", desc := "(LFerryHall$Ex;)V" } : Jvm.MethodName)) ∈ lw_all := lw_g (lw_at lw_m7 163 rfl) rfl
theorem q1727 : (Jvm.Cond.fieldLinkNest "FerryHall$Reader" (240 : Nat) "FerryHall$Law" "where" "I" "FerryHall") ∈ lw_tbl := lw_at lw_m7 169 rfl
theorem q1733 : (Jvm.Cond.stringRef "FerryHall$Reader" (236 : Nat) "ashore") ∈ lw_tbl := lw_at lw_m7 175 rfl
theorem q1734 : (Jvm.Cond.stringRef "FerryHall$Reader" (238 : Nat) "aboard") ∈ lw_tbl := lw_at lw_m7 176 rfl
theorem q2594 : (Jvm.Cond.castable "FerryHall$Reader" "java/lang/Object") ∈ lw_tbl := lw_at lw_m11 76 rfl
theorem in_X9 : ∀ w ∈ wsX90, w ∈ lw_all := lw_in wsX90 [1135, 1137, 1139, 1141, 1143, 1145, 1147, 1149] (by decide +kernel) (by decide +kernel)
/-! FerryHall$Wrong -/
set_option maxRecDepth 100000
def RX10 : String := "FerryHall$Wrong"
def TX10 : u_T := fun k => match k with
  | 0 => ("java/lang/Throwable", "cause", "Ljava/lang/Throwable;", false)
  | 1 => ("java/lang/Throwable", "stackTrace", "[Ljava/lang/StackTraceElement;", false)
  | 2 => ("java/lang/Throwable", "suppressedExceptions", "Ljava/util/List;", false)
  | 3 => ("java/lang/Throwable", "detailMessage", "Ljava/lang/String;", false)
  | 4 => ("java/lang/Throwable", "backtrace", "Ljava/lang/Object;", false)
  | 5 => ("java/lang/Throwable", "depth", "I", false)
  | _ => ("FerryHall$Wrong", "kind", "I", true)
def tyX10 : Nat → FieldType := fun k => match k with
  | 0 => .object "java/lang/Throwable"
  | 1 => .array (.object "java/lang/StackTraceElement")
  | 2 => .object "java/util/List"
  | 3 => .object "java/lang/String"
  | 4 => .object "java/lang/Object"
  | 5 => .int
  | _ => .int
abbrev wsX100 : List Cond := u_ws RX10 TX10 7
theorem nmX10 : ∀ a, a < 7 → ∀ b, b < 7 → a ≠ b → (TX10 a).2.1 ≠ (TX10 b).2.1 := by decide +kernel
theorem tyX10_ok : ∀ k, k < 7 → parseFieldDescriptor (TX10 k).2.2.1 = some (tyX10 k) := by decide +kernel
abbrev cX10_init : ByteArray := prog_17_method_1_code
def yX10_init : MethodName := ⟨RX10, "<init>", "(I)V"⟩
def dkwX10_init_0 : List UInt8 := [42, 1, 1, 3, 3, 183, 0, 1, 42, 27, 181, 0, 7, 177]
abbrev dktX10_init_0 : List UInt8 := dkwX10_init_0 ++ []
theorem dksX10_init_0 : cX10_init.data.toList.drop 0 = dktX10_init_0 := by decide +kernel
theorem dX10_init_0 : decode cX10_init 0 = .ok (.aload_n 0, 1) := dk_42 (dk_at dksX10_init_0 0 rfl rfl)
theorem dX10_init_1 : decode cX10_init 1 = .ok (.aconst_null, 1) := dk_1 (dk_at dksX10_init_0 1 rfl rfl)
theorem dX10_init_2 : decode cX10_init 2 = .ok (.aconst_null, 1) := dk_1 (dk_at dksX10_init_0 2 rfl rfl)
theorem dX10_init_3 : decode cX10_init 3 = .ok (.iconst 0, 1) := dk_3 (dk_at dksX10_init_0 3 rfl rfl)
theorem dX10_init_4 : decode cX10_init 4 = .ok (.iconst 0, 1) := dk_3 (dk_at dksX10_init_0 4 rfl rfl)
theorem dX10_init_5 : decode cX10_init 5 = .ok (.invokespecial 1, 3) := dk_183 0 1 (dk_at dksX10_init_0 5 rfl rfl)
theorem dX10_init_8 : decode cX10_init 8 = .ok (.aload_n 0, 1) := dk_42 (dk_at dksX10_init_0 8 rfl rfl)
theorem dX10_init_9 : decode cX10_init 9 = .ok (.iload_n 1, 1) := dk_27 (dk_at dksX10_init_0 9 rfl rfl)
theorem dX10_init_10 : decode cX10_init 10 = .ok (.putfield 7, 3) := dk_181 0 7 (dk_at dksX10_init_0 10 rfl rfl)
theorem dX10_init_13 : decode cX10_init 13 = .ok (.return_, 1) := dk_177 (dk_at dksX10_init_0 13 rfl rfl)
theorem q144 : (Jvm.Cond.initialized "FerryHall$Wrong") ∈ lw_all := lw_g (lw_at lw_m1 26 rfl) rfl
theorem q869 : (Jvm.Cond.selects "FerryHall$Wrong" ({ cls := "java/lang/Object", name := "getClass", desc := "()Ljava/lang/Class;" } : Jvm.MethodName) ({ cls := "java/lang/Object", name := "getClass", desc := "()Ljava/lang/Class;" } : Jvm.MethodName)) ∈ lw_all := lw_g (lw_at lw_m4 31 rfl) rfl
theorem q1087 : (Jvm.Cond.selects "FerryHall$Wrong" ({ cls := "java/lang/Throwable", name := "fillInStackTrace", desc := "()Ljava/lang/Throwable;" } : Jvm.MethodName) ({ cls := "java/lang/Throwable", name := "fillInStackTrace", desc := "()Ljava/lang/Throwable;" } : Jvm.MethodName)) ∈ lw_all := lw_g (lw_at lw_m5 9 rfl) rfl
theorem q1274 : (Jvm.Cond.instantiable "FerryHall$Wrong" (7 : Nat)) ∈ lw_all := lw_g (lw_at lw_m5 196 rfl) rfl
theorem q1275 : (Jvm.Cond.castable "FerryHall$Wrong" "FerryHall$Wrong") ∈ lw_tbl := lw_at lw_m5 197 rfl
theorem q1276 : (Jvm.Cond.selects "FerryHall$Wrong" ({ cls := "java/lang/Throwable", name := "fillInStackTrace", desc := "(I)Ljava/lang/Throwable;" } : Jvm.MethodName) ({ cls := "java/lang/Throwable", name := "fillInStackTrace", desc := "(I)Ljava/lang/Throwable;" } : Jvm.MethodName)) ∈ lw_all := lw_g (lw_at lw_m5 198 rfl) rfl
theorem q1277 : (Jvm.Cond.lays "FerryHall$Wrong" "java/lang/Throwable" "cause" "Ljava/lang/Throwable;") ∈ lw_all := lw_g (lw_at lw_m5 199 rfl) rfl
theorem q1278 : (Jvm.Cond.lays "FerryHall$Wrong" "java/lang/Throwable" "stackTrace" "[Ljava/lang/StackTraceElement;") ∈ lw_all := lw_g (lw_at lw_m5 200 rfl) rfl
theorem q1279 : (Jvm.Cond.lays "FerryHall$Wrong" "java/lang/Throwable" "suppressedExceptions" "Ljava/util/List;") ∈ lw_all := lw_g (lw_at lw_m5 201 rfl) rfl
theorem q1280 : (Jvm.Cond.lays "FerryHall$Wrong" "java/lang/Throwable" "detailMessage" "Ljava/lang/String;") ∈ lw_all := lw_g (lw_at lw_m5 202 rfl) rfl
theorem q1281 : (Jvm.Cond.lays "FerryHall$Wrong" "java/lang/Throwable" "backtrace" "Ljava/lang/Object;") ∈ lw_all := lw_g (lw_at lw_m5 203 rfl) rfl
theorem q1283 : (Jvm.Cond.instanceMethod ({ cls := "FerryHall$Wrong", name := "<init>", desc := "(I)V" } : Jvm.MethodName)) ∈ lw_all := lw_g (lw_at lw_m5 205 rfl) rfl
theorem q1284 : (Jvm.Cond.code ({ cls := "FerryHall$Wrong", name := "<init>", desc := "(I)V" } : Jvm.MethodName) prog_17_method_1_code (2 : Nat) (Option.none : Option Jvm.ClassFile.FieldType)) ∈ lw_all := lw_g (lw_at lw_m5 206 rfl) rfl
theorem q1285 : (Jvm.Cond.methodLink "FerryHall$Wrong" (1 : Nat) ({ cls := "java/lang/Exception", name := "<init>", desc := "(Ljava/lang/String;Ljava/lang/Throwable;ZZ)V" } : Jvm.MethodName)) ∈ lw_all := lw_g (lw_at lw_m5 207 rfl) rfl
theorem q1291 : (Jvm.Cond.fieldLink "FerryHall$Wrong" (7 : Nat) "FerryHall$Wrong" "kind" "I") ∈ lw_all := lw_g (lw_at lw_m5 213 rfl) rfl
theorem q1293 : (Jvm.Cond.laysFinal "FerryHall$Wrong" "FerryHall$Wrong" "kind" "I") ∈ lw_all := lw_g (lw_at lw_m5 215 rfl) rfl
theorem q1294 : (Jvm.Cond.soleField "FerryHall$Wrong" "kind") ∈ lw_all := lw_g (lw_at lw_m5 216 rfl) rfl
theorem q1295 : (Jvm.Cond.lays "FerryHall$Wrong" "java/lang/Throwable" "depth" "I") ∈ lw_all := lw_g (lw_at lw_m5 217 rfl) rfl
theorem q1296 : (Jvm.Cond.superclass "FerryHall$Wrong" "java/lang/Exception") ∈ lw_all := lw_g (lw_at lw_m5 218 rfl) rfl
theorem q2595 : (Jvm.Cond.castable "FerryHall$Wrong" "java/lang/Object") ∈ lw_tbl := lw_at lw_m11 77 rfl
theorem in_X10 : ∀ w ∈ wsX100, w ∈ lw_all := lw_in wsX100 [1277, 1278, 1279, 1280, 1281, 1295, 1293] (by decide +kernel) (by decide +kernel)
/-! FerryHall$Boat -/
set_option maxRecDepth 100000
def RX11 : String := "FerryHall$Boat"
def TX11 : u_T := fun k => match k with
  | 0 => ("FerryHall$Boat", "holds", "I", true)
  | 1 => ("FerryHall$Boat", "load", "I", true)
  | _ => ("FerryHall$Boat", "at", "I", true)
def tyX11 : Nat → FieldType := fun k => match k with
  | 0 => .int
  | 1 => .int
  | _ => .int
abbrev wsX110 : List Cond := u_ws RX11 TX11 3
theorem nmX11 : ∀ a, a < 3 → ∀ b, b < 3 → a ≠ b → (TX11 a).2.1 ≠ (TX11 b).2.1 := by decide +kernel
theorem tyX11_ok : ∀ k, k < 3 → parseFieldDescriptor (TX11 k).2.2.1 = some (tyX11 k) := by decide +kernel
abbrev cX11_init : ByteArray := prog_3_method_1_code
def yX11_init : MethodName := ⟨RX11, "<init>", "(III)V"⟩
def dkwX11_init_0 : List UInt8 := [42, 183, 0, 1, 42, 27, 181, 0, 7, 42, 28, 181, 0, 13, 42, 29, 181, 0, 16, 177]
abbrev dktX11_init_0 : List UInt8 := dkwX11_init_0 ++ []
theorem dksX11_init_0 : cX11_init.data.toList.drop 0 = dktX11_init_0 := by decide +kernel
theorem dX11_init_0 : decode cX11_init 0 = .ok (.aload_n 0, 1) := dk_42 (dk_at dksX11_init_0 0 rfl rfl)
theorem dX11_init_1 : decode cX11_init 1 = .ok (.invokespecial 1, 3) := dk_183 0 1 (dk_at dksX11_init_0 1 rfl rfl)
theorem dX11_init_4 : decode cX11_init 4 = .ok (.aload_n 0, 1) := dk_42 (dk_at dksX11_init_0 4 rfl rfl)
theorem dX11_init_5 : decode cX11_init 5 = .ok (.iload_n 1, 1) := dk_27 (dk_at dksX11_init_0 5 rfl rfl)
theorem dX11_init_6 : decode cX11_init 6 = .ok (.putfield 7, 3) := dk_181 0 7 (dk_at dksX11_init_0 6 rfl rfl)
theorem dX11_init_9 : decode cX11_init 9 = .ok (.aload_n 0, 1) := dk_42 (dk_at dksX11_init_0 9 rfl rfl)
theorem dX11_init_10 : decode cX11_init 10 = .ok (.iload_n 2, 1) := dk_28 (dk_at dksX11_init_0 10 rfl rfl)
theorem dX11_init_11 : decode cX11_init 11 = .ok (.putfield 13, 3) := dk_181 0 13 (dk_at dksX11_init_0 11 rfl rfl)
theorem dX11_init_14 : decode cX11_init 14 = .ok (.aload_n 0, 1) := dk_42 (dk_at dksX11_init_0 14 rfl rfl)
theorem dX11_init_15 : decode cX11_init 15 = .ok (.iload_n 3, 1) := dk_29 (dk_at dksX11_init_0 15 rfl rfl)
theorem dX11_init_16 : decode cX11_init 16 = .ok (.putfield 16, 3) := dk_181 0 16 (dk_at dksX11_init_0 16 rfl rfl)
theorem dX11_init_19 : decode cX11_init 19 = .ok (.return_, 1) := dk_177 (dk_at dksX11_init_0 19 rfl rfl)
theorem q145 : (Jvm.Cond.initialized "FerryHall$Boat") ∈ lw_all := lw_g (lw_at lw_m1 27 rfl) rfl
theorem q856 : (Jvm.Cond.selects "FerryHall$Boat" ({ cls := "java/lang/Object", name := "getClass", desc := "()Ljava/lang/Class;" } : Jvm.MethodName) ({ cls := "java/lang/Object", name := "getClass", desc := "()Ljava/lang/Class;" } : Jvm.MethodName)) ∈ lw_all := lw_g (lw_at lw_m4 18 rfl) rfl
theorem q1339 : (Jvm.Cond.instantiable "FerryHall$Boat" (3 : Nat)) ∈ lw_all := lw_g (lw_at lw_m6 21 rfl) rfl
theorem q1341 : (Jvm.Cond.instanceMethod ({ cls := "FerryHall$Boat", name := "<init>", desc := "(III)V" } : Jvm.MethodName)) ∈ lw_all := lw_g (lw_at lw_m6 23 rfl) rfl
theorem q1342 : (Jvm.Cond.code ({ cls := "FerryHall$Boat", name := "<init>", desc := "(III)V" } : Jvm.MethodName) prog_3_method_1_code (4 : Nat) (Option.none : Option Jvm.ClassFile.FieldType)) ∈ lw_all := lw_g (lw_at lw_m6 24 rfl) rfl
theorem q1343 : (Jvm.Cond.methodLink "FerryHall$Boat" (1 : Nat) ({ cls := "java/lang/Object", name := "<init>", desc := "()V" } : Jvm.MethodName)) ∈ lw_all := lw_g (lw_at lw_m6 25 rfl) rfl
theorem q1344 : (Jvm.Cond.fieldLink "FerryHall$Boat" (7 : Nat) "FerryHall$Boat" "holds" "I") ∈ lw_all := lw_g (lw_at lw_m6 26 rfl) rfl
theorem q1347 : (Jvm.Cond.fieldLink "FerryHall$Boat" (13 : Nat) "FerryHall$Boat" "load" "I") ∈ lw_all := lw_g (lw_at lw_m6 29 rfl) rfl
theorem q1350 : (Jvm.Cond.fieldLink "FerryHall$Boat" (16 : Nat) "FerryHall$Boat" "at" "I") ∈ lw_all := lw_g (lw_at lw_m6 32 rfl) rfl
theorem q1353 : (Jvm.Cond.laysFinal "FerryHall$Boat" "FerryHall$Boat" "holds" "I") ∈ lw_all := lw_g (lw_at lw_m6 35 rfl) rfl
theorem q1354 : (Jvm.Cond.soleField "FerryHall$Boat" "holds") ∈ lw_all := lw_g (lw_at lw_m6 36 rfl) rfl
theorem q1355 : (Jvm.Cond.laysFinal "FerryHall$Boat" "FerryHall$Boat" "load" "I") ∈ lw_all := lw_g (lw_at lw_m6 37 rfl) rfl
theorem q1356 : (Jvm.Cond.soleField "FerryHall$Boat" "load") ∈ lw_all := lw_g (lw_at lw_m6 38 rfl) rfl
theorem q1357 : (Jvm.Cond.laysFinal "FerryHall$Boat" "FerryHall$Boat" "at" "I") ∈ lw_all := lw_g (lw_at lw_m6 39 rfl) rfl
theorem q1358 : (Jvm.Cond.soleField "FerryHall$Boat" "at") ∈ lw_all := lw_g (lw_at lw_m6 40 rfl) rfl
theorem q1359 : (Jvm.Cond.superclass "FerryHall$Boat" "java/lang/Object") ∈ lw_all := lw_g (lw_at lw_m6 41 rfl) rfl
theorem q2596 : (Jvm.Cond.castable "FerryHall$Boat" "java/lang/Object") ∈ lw_tbl := lw_at lw_m11 78 rfl
theorem in_X11 : ∀ w ∈ wsX110, w ∈ lw_all := lw_in wsX110 [1353, 1355, 1357] (by decide +kernel) (by decide +kernel)
/-! FerryHall$Law -/
set_option maxRecDepth 100000
def RX12 : String := "FerryHall$Law"
def TX12 : u_T := fun k => match k with
  | 0 => ("FerryHall$Law", "bars", "LFerryHall$Ex;", true)
  | _ => ("FerryHall$Law", "where", "I", false)
def tyX12 : Nat → FieldType := fun k => match k with
  | 0 => .object "FerryHall$Ex"
  | _ => .int
abbrev wsX120 : List Cond := u_ws RX12 TX12 2
theorem nmX12 : ∀ a, a < 2 → ∀ b, b < 2 → a ≠ b → (TX12 a).2.1 ≠ (TX12 b).2.1 := by decide +kernel
theorem tyX12_ok : ∀ k, k < 2 → parseFieldDescriptor (TX12 k).2.2.1 = some (tyX12 k) := by decide +kernel
abbrev cX12_bars : ByteArray := prog_7_method_2_code
def yX12_bars : MethodName := ⟨RX12, "bars", "(LFerryHall$Asked;I)Z"⟩
def dkwX12_bars_3 : List UInt8 := [42, 180, 0, 15, 43, 182, 0, 24, 153, 0, 7, 4, 167, 0, 4, 3, 172]
abbrev dktX12_bars_3 : List UInt8 := dkwX12_bars_3 ++ []
def dkwX12_bars_2 : List UInt8 := [167, 0, 14, 43, 180, 0, 19, 42, 180, 0, 9, 160, 0, 7, 4, 167, 0, 4, 3, 62, 29, 153, 0, 18]
abbrev dktX12_bars_2 : List UInt8 := dkwX12_bars_2 ++ dktX12_bars_3
def dkwX12_bars_1 : List UInt8 := [160, 0, 40, 167, 0, 33, 42, 180, 0, 9, 2, 160, 0, 14, 43, 180, 0, 19, 28, 159, 0, 21]
abbrev dktX12_bars_1 : List UInt8 := dkwX12_bars_1 ++ dktX12_bars_2
def dkwX12_bars_0 : List UInt8 := [42, 180, 0, 9, 16, 253, 159, 0, 53, 42, 180, 0, 9, 16, 254, 160, 0, 14, 43, 180, 0, 19, 28]
abbrev dktX12_bars_0 : List UInt8 := dkwX12_bars_0 ++ dktX12_bars_1
theorem dksX12_bars_0 : cX12_bars.data.toList.drop 0 = dktX12_bars_0 := by decide +kernel
theorem dksX12_bars_1 : cX12_bars.data.toList.drop 23 = dktX12_bars_1 := dk_seg dksX12_bars_0 23 rfl rfl
theorem dksX12_bars_2 : cX12_bars.data.toList.drop 45 = dktX12_bars_2 := dk_seg dksX12_bars_1 22 rfl rfl
theorem dksX12_bars_3 : cX12_bars.data.toList.drop 69 = dktX12_bars_3 := dk_seg dksX12_bars_2 24 rfl rfl
theorem dX12_bars_0 : decode cX12_bars 0 = .ok (.aload_n 0, 1) := dk_42 (dk_at dksX12_bars_0 0 rfl rfl)
theorem dX12_bars_1 : decode cX12_bars 1 = .ok (.getfield 9, 3) := dk_180 0 9 (dk_at dksX12_bars_0 1 rfl rfl)
theorem dX12_bars_4 : decode cX12_bars 4 = .ok (.bipush (-3), 2) := dk_16 253 (dk_at dksX12_bars_0 4 rfl rfl)
theorem dX12_bars_6 : decode cX12_bars 6 = .ok (.if_icmp .eq 53, 3) := dk_159 0 53 (dk_at dksX12_bars_0 6 rfl rfl)
theorem dX12_bars_9 : decode cX12_bars 9 = .ok (.aload_n 0, 1) := dk_42 (dk_at dksX12_bars_0 9 rfl rfl)
theorem dX12_bars_10 : decode cX12_bars 10 = .ok (.getfield 9, 3) := dk_180 0 9 (dk_at dksX12_bars_0 10 rfl rfl)
theorem dX12_bars_13 : decode cX12_bars 13 = .ok (.bipush (-2), 2) := dk_16 254 (dk_at dksX12_bars_0 13 rfl rfl)
theorem dX12_bars_15 : decode cX12_bars 15 = .ok (.if_icmp .ne 14, 3) := dk_160 0 14 (dk_at dksX12_bars_0 15 rfl rfl)
theorem dX12_bars_18 : decode cX12_bars 18 = .ok (.aload_n 1, 1) := dk_43 (dk_at dksX12_bars_0 18 rfl rfl)
theorem dX12_bars_19 : decode cX12_bars 19 = .ok (.getfield 19, 3) := dk_180 0 19 (dk_at dksX12_bars_0 19 rfl rfl)
theorem dX12_bars_22 : decode cX12_bars 22 = .ok (.iload_n 2, 1) := dk_28 (dk_at dksX12_bars_0 22 rfl rfl)
theorem dX12_bars_23 : decode cX12_bars 23 = .ok (.if_icmp .ne 40, 3) := dk_160 0 40 (dk_at dksX12_bars_1 0 rfl rfl)
theorem dX12_bars_26 : decode cX12_bars 26 = .ok (.goto 33, 3) := dk_167 0 33 (dk_at dksX12_bars_1 3 rfl rfl)
theorem dX12_bars_29 : decode cX12_bars 29 = .ok (.aload_n 0, 1) := dk_42 (dk_at dksX12_bars_1 6 rfl rfl)
theorem dX12_bars_30 : decode cX12_bars 30 = .ok (.getfield 9, 3) := dk_180 0 9 (dk_at dksX12_bars_1 7 rfl rfl)
theorem dX12_bars_33 : decode cX12_bars 33 = .ok (.iconst (-1), 1) := dk_2 (dk_at dksX12_bars_1 10 rfl rfl)
theorem dX12_bars_34 : decode cX12_bars 34 = .ok (.if_icmp .ne 14, 3) := dk_160 0 14 (dk_at dksX12_bars_1 11 rfl rfl)
theorem dX12_bars_37 : decode cX12_bars 37 = .ok (.aload_n 1, 1) := dk_43 (dk_at dksX12_bars_1 14 rfl rfl)
theorem dX12_bars_38 : decode cX12_bars 38 = .ok (.getfield 19, 3) := dk_180 0 19 (dk_at dksX12_bars_1 15 rfl rfl)
theorem dX12_bars_41 : decode cX12_bars 41 = .ok (.iload_n 2, 1) := dk_28 (dk_at dksX12_bars_1 18 rfl rfl)
theorem dX12_bars_42 : decode cX12_bars 42 = .ok (.if_icmp .eq 21, 3) := dk_159 0 21 (dk_at dksX12_bars_1 19 rfl rfl)
theorem dX12_bars_45 : decode cX12_bars 45 = .ok (.goto 14, 3) := dk_167 0 14 (dk_at dksX12_bars_2 0 rfl rfl)
theorem dX12_bars_48 : decode cX12_bars 48 = .ok (.aload_n 1, 1) := dk_43 (dk_at dksX12_bars_2 3 rfl rfl)
theorem dX12_bars_49 : decode cX12_bars 49 = .ok (.getfield 19, 3) := dk_180 0 19 (dk_at dksX12_bars_2 4 rfl rfl)
theorem dX12_bars_52 : decode cX12_bars 52 = .ok (.aload_n 0, 1) := dk_42 (dk_at dksX12_bars_2 7 rfl rfl)
theorem dX12_bars_53 : decode cX12_bars 53 = .ok (.getfield 9, 3) := dk_180 0 9 (dk_at dksX12_bars_2 8 rfl rfl)
theorem dX12_bars_56 : decode cX12_bars 56 = .ok (.if_icmp .ne 7, 3) := dk_160 0 7 (dk_at dksX12_bars_2 11 rfl rfl)
theorem dX12_bars_59 : decode cX12_bars 59 = .ok (.iconst 1, 1) := dk_4 (dk_at dksX12_bars_2 14 rfl rfl)
theorem dX12_bars_60 : decode cX12_bars 60 = .ok (.goto 4, 3) := dk_167 0 4 (dk_at dksX12_bars_2 15 rfl rfl)
theorem dX12_bars_63 : decode cX12_bars 63 = .ok (.iconst 0, 1) := dk_3 (dk_at dksX12_bars_2 18 rfl rfl)
theorem dX12_bars_64 : decode cX12_bars 64 = .ok (.istore_n 3, 1) := dk_62 (dk_at dksX12_bars_2 19 rfl rfl)
theorem dX12_bars_65 : decode cX12_bars 65 = .ok (.iload_n 3, 1) := dk_29 (dk_at dksX12_bars_2 20 rfl rfl)
theorem dX12_bars_66 : decode cX12_bars 66 = .ok (.ifCond .eq 18, 3) := dk_153 0 18 (dk_at dksX12_bars_2 21 rfl rfl)
theorem dX12_bars_69 : decode cX12_bars 69 = .ok (.aload_n 0, 1) := dk_42 (dk_at dksX12_bars_3 0 rfl rfl)
theorem dX12_bars_70 : decode cX12_bars 70 = .ok (.getfield 15, 3) := dk_180 0 15 (dk_at dksX12_bars_3 1 rfl rfl)
theorem dX12_bars_73 : decode cX12_bars 73 = .ok (.aload_n 1, 1) := dk_43 (dk_at dksX12_bars_3 4 rfl rfl)
theorem dX12_bars_74 : decode cX12_bars 74 = .ok (.invokevirtual 24, 3) := dk_182 0 24 (dk_at dksX12_bars_3 5 rfl rfl)
theorem dX12_bars_77 : decode cX12_bars 77 = .ok (.ifCond .eq 7, 3) := dk_153 0 7 (dk_at dksX12_bars_3 8 rfl rfl)
theorem dX12_bars_80 : decode cX12_bars 80 = .ok (.iconst 1, 1) := dk_4 (dk_at dksX12_bars_3 11 rfl rfl)
theorem dX12_bars_81 : decode cX12_bars 81 = .ok (.goto 4, 3) := dk_167 0 4 (dk_at dksX12_bars_3 12 rfl rfl)
theorem dX12_bars_84 : decode cX12_bars 84 = .ok (.iconst 0, 1) := dk_3 (dk_at dksX12_bars_3 15 rfl rfl)
theorem dX12_bars_85 : decode cX12_bars 85 = .ok (.ireturn, 1) := dk_172 (dk_at dksX12_bars_3 16 rfl rfl)
abbrev cX12_init : ByteArray := prog_7_method_1_code
def yX12_init : MethodName := ⟨RX12, "<init>", "(LFerryHall$Ex;)V"⟩
def dkwX12_init_0 : List UInt8 := [42, 183, 0, 3, 42, 16, 253, 181, 0, 9, 42, 43, 181, 0, 15, 177]
abbrev dktX12_init_0 : List UInt8 := dkwX12_init_0 ++ []
theorem dksX12_init_0 : cX12_init.data.toList.drop 0 = dktX12_init_0 := by decide +kernel
theorem dX12_init_0 : decode cX12_init 0 = .ok (.aload_n 0, 1) := dk_42 (dk_at dksX12_init_0 0 rfl rfl)
theorem dX12_init_1 : decode cX12_init 1 = .ok (.invokespecial 3, 3) := dk_183 0 3 (dk_at dksX12_init_0 1 rfl rfl)
theorem dX12_init_4 : decode cX12_init 4 = .ok (.aload_n 0, 1) := dk_42 (dk_at dksX12_init_0 4 rfl rfl)
theorem dX12_init_5 : decode cX12_init 5 = .ok (.bipush (-3), 2) := dk_16 253 (dk_at dksX12_init_0 5 rfl rfl)
theorem dX12_init_7 : decode cX12_init 7 = .ok (.putfield 9, 3) := dk_181 0 9 (dk_at dksX12_init_0 7 rfl rfl)
theorem dX12_init_10 : decode cX12_init 10 = .ok (.aload_n 0, 1) := dk_42 (dk_at dksX12_init_0 10 rfl rfl)
theorem dX12_init_11 : decode cX12_init 11 = .ok (.aload_n 1, 1) := dk_43 (dk_at dksX12_init_0 11 rfl rfl)
theorem dX12_init_12 : decode cX12_init 12 = .ok (.putfield 15, 3) := dk_181 0 15 (dk_at dksX12_init_0 12 rfl rfl)
theorem dX12_init_15 : decode cX12_init 15 = .ok (.return_, 1) := dk_177 (dk_at dksX12_init_0 15 rfl rfl)
theorem q149 : (Jvm.Cond.initialized "FerryHall$Law") ∈ lw_all := lw_g (lw_at lw_m1 31 rfl) rfl
theorem q366 : (Jvm.Cond.fieldLinkNest "FerryHall$Law" (19 : Nat) "FerryHall$Asked" "shore" "I" "FerryHall") ∈ lw_tbl := lw_at lw_m2 8 rfl
theorem q411 : (Jvm.Cond.instanceMethod ({ cls := "FerryHall$Law", name := "bars", desc := "(LFerryHall$Asked;I)Z" } : Jvm.MethodName)) ∈ lw_all := lw_g (lw_at lw_m2 53 rfl) rfl
theorem q412 : (Jvm.Cond.selects "FerryHall$Law" ({ cls := "FerryHall$Law", name := "bars", desc := "(LFerryHall$Asked;I)Z" } : Jvm.MethodName) ({ cls := "FerryHall$Law", name := "bars", desc := "(LFerryHall$Asked;I)Z" } : Jvm.MethodName)) ∈ lw_all := lw_g (lw_at lw_m2 54 rfl) rfl
theorem q413 : (Jvm.Cond.code ({ cls := "FerryHall$Law", name := "bars", desc := "(LFerryHall$Asked;I)Z" } : Jvm.MethodName) prog_7_method_2_code (4 : Nat) (Option.some Jvm.ClassFile.FieldType.boolean)) ∈ lw_all := lw_g (lw_at lw_m2 55 rfl) rfl
theorem q414 : (Jvm.Cond.methodLink "FerryHall$Law" (24 : Nat) ({ cls := "FerryHall$Ex", name := "holds", desc := "(LFerryHall$Asked;)Z" } : Jvm.MethodName)) ∈ lw_all := lw_g (lw_at lw_m2 56 rfl) rfl
theorem q859 : (Jvm.Cond.selects "FerryHall$Law" ({ cls := "java/lang/Object", name := "getClass", desc := "()Ljava/lang/Class;" } : Jvm.MethodName) ({ cls := "java/lang/Object", name := "getClass", desc := "()Ljava/lang/Class;" } : Jvm.MethodName)) ∈ lw_all := lw_g (lw_at lw_m4 21 rfl) rfl
theorem q1379 : (Jvm.Cond.instantiable "FerryHall$Law" (2 : Nat)) ∈ lw_all := lw_g (lw_at lw_m6 61 rfl) rfl
theorem q1722 : (Jvm.Cond.instanceMethod ({ cls := "FerryHall$Law", name := "<init>", desc := "(LFerryHall$Ex;)V" } : Jvm.MethodName)) ∈ lw_all := lw_g (lw_at lw_m7 164 rfl) rfl
theorem q1723 : (Jvm.Cond.code ({ cls := "FerryHall$Law", name := "<init>", desc := "(LFerryHall$Ex;)V" } : Jvm.MethodName) prog_7_method_1_code (2 : Nat) (Option.none : Option Jvm.ClassFile.FieldType)) ∈ lw_all := lw_g (lw_at lw_m7 165 rfl) rfl
theorem q1724 : (Jvm.Cond.methodLink "FerryHall$Law" (3 : Nat) ({ cls := "java/lang/Object", name := "<init>", desc := "()V" } : Jvm.MethodName)) ∈ lw_all := lw_g (lw_at lw_m7 166 rfl) rfl
theorem q1725 : (Jvm.Cond.fieldLink "FerryHall$Law" (15 : Nat) "FerryHall$Law" "bars" "LFerryHall$Ex;") ∈ lw_all := lw_g (lw_at lw_m7 167 rfl) rfl
theorem q1726 : (Jvm.Cond.fieldLink "FerryHall$Law" (9 : Nat) "FerryHall$Law" "where" "I") ∈ lw_all := lw_g (lw_at lw_m7 168 rfl) rfl
theorem q1728 : (Jvm.Cond.laysFinal "FerryHall$Law" "FerryHall$Law" "bars" "LFerryHall$Ex;") ∈ lw_all := lw_g (lw_at lw_m7 170 rfl) rfl
theorem q1729 : (Jvm.Cond.soleField "FerryHall$Law" "bars") ∈ lw_all := lw_g (lw_at lw_m7 171 rfl) rfl
theorem q1730 : (Jvm.Cond.lays "FerryHall$Law" "FerryHall$Law" "where" "I") ∈ lw_all := lw_g (lw_at lw_m7 172 rfl) rfl
theorem q1731 : (Jvm.Cond.soleField "FerryHall$Law" "where") ∈ lw_all := lw_g (lw_at lw_m7 173 rfl) rfl
theorem q1732 : (Jvm.Cond.superclass "FerryHall$Law" "java/lang/Object") ∈ lw_all := lw_g (lw_at lw_m7 174 rfl) rfl
theorem q2597 : (Jvm.Cond.castable "FerryHall$Law" "java/lang/Object") ∈ lw_tbl := lw_at lw_m11 79 rfl
theorem in_X12 : ∀ w ∈ wsX120, w ∈ lw_all := lw_in wsX120 [1728, 1730] (by decide +kernel) (by decide +kernel)
/-! FerryHall$Number -/
set_option maxRecDepth 100000
def RX13 : String := "FerryHall$Number"
def TX13 : u_T := fun k => match k with
  | _ => ("FerryHall$Number", "n", "I", true)
def tyX13 : Nat → FieldType := fun k => match k with
  | _ => .int
abbrev wsX130 : List Cond := u_ws RX13 TX13 1
theorem nmX13 : ∀ a, a < 1 → ∀ b, b < 1 → a ≠ b → (TX13 a).2.1 ≠ (TX13 b).2.1 := by decide +kernel
theorem tyX13_ok : ∀ k, k < 1 → parseFieldDescriptor (TX13 k).2.2.1 = some (tyX13 k) := by decide +kernel
abbrev cX13_value : ByteArray := prog_11_method_2_code
def yX13_value : MethodName := ⟨RX13, "value", "(LFerryHall$Asked;)I"⟩
theorem dX13_value_0 : decode cX13_value 0 = .ok (.aload_n 0, 1) := by decide +kernel
theorem dX13_value_1 : decode cX13_value 1 = .ok (.getfield 7, 3) := by decide +kernel
theorem dX13_value_4 : decode cX13_value 4 = .ok (.ireturn, 1) := by decide +kernel
abbrev cX13_init : ByteArray := prog_11_method_1_code
def yX13_init : MethodName := ⟨RX13, "<init>", "(I)V"⟩
def dkwX13_init_0 : List UInt8 := [42, 183, 0, 1, 42, 27, 181, 0, 7, 177]
abbrev dktX13_init_0 : List UInt8 := dkwX13_init_0 ++ []
theorem dksX13_init_0 : cX13_init.data.toList.drop 0 = dktX13_init_0 := by decide +kernel
theorem dX13_init_0 : decode cX13_init 0 = .ok (.aload_n 0, 1) := dk_42 (dk_at dksX13_init_0 0 rfl rfl)
theorem dX13_init_1 : decode cX13_init 1 = .ok (.invokespecial 1, 3) := dk_183 0 1 (dk_at dksX13_init_0 1 rfl rfl)
theorem dX13_init_4 : decode cX13_init 4 = .ok (.aload_n 0, 1) := dk_42 (dk_at dksX13_init_0 4 rfl rfl)
theorem dX13_init_5 : decode cX13_init 5 = .ok (.iload_n 1, 1) := dk_27 (dk_at dksX13_init_0 5 rfl rfl)
theorem dX13_init_6 : decode cX13_init 6 = .ok (.putfield 7, 3) := dk_181 0 7 (dk_at dksX13_init_0 6 rfl rfl)
theorem dX13_init_9 : decode cX13_init 9 = .ok (.return_, 1) := dk_177 (dk_at dksX13_init_0 9 rfl rfl)
theorem q150 : (Jvm.Cond.initialized "FerryHall$Number") ∈ lw_all := lw_g (lw_at lw_m1 32 rfl) rfl
theorem q420 : (Jvm.Cond.selects "FerryHall$Number" ({ cls := "FerryHall$Ex", name := "holds", desc := "(LFerryHall$Asked;)Z" } : Jvm.MethodName) ({ cls := "FerryHall$Ex", name := "holds", desc := "(LFerryHall$Asked;)Z" } : Jvm.MethodName)) ∈ lw_all := lw_g (lw_at lw_m2 62 rfl) rfl
theorem q438 : (Jvm.Cond.instanceMethod ({ cls := "FerryHall$Number", name := "value", desc := "(LFerryHall$Asked;)I" } : Jvm.MethodName)) ∈ lw_all := lw_g (lw_at lw_m2 80 rfl) rfl
theorem q439 : (Jvm.Cond.code ({ cls := "FerryHall$Number", name := "value", desc := "(LFerryHall$Asked;)I" } : Jvm.MethodName) prog_11_method_2_code (2 : Nat) (Option.some Jvm.ClassFile.FieldType.int)) ∈ lw_all := lw_g (lw_at lw_m2 81 rfl) rfl
theorem q496 : (Jvm.Cond.selects "FerryHall$Number" ({ cls := "FerryHall$Ex", name := "value", desc := "(LFerryHall$Asked;)I" } : Jvm.MethodName) ({ cls := "FerryHall$Number", name := "value", desc := "(LFerryHall$Asked;)I" } : Jvm.MethodName)) ∈ lw_all := lw_g (lw_at lw_m2 138 rfl) rfl
theorem q863 : (Jvm.Cond.selects "FerryHall$Number" ({ cls := "java/lang/Object", name := "getClass", desc := "()Ljava/lang/Class;" } : Jvm.MethodName) ({ cls := "java/lang/Object", name := "getClass", desc := "()Ljava/lang/Class;" } : Jvm.MethodName)) ∈ lw_all := lw_g (lw_at lw_m4 25 rfl) rfl
theorem q1408 : (Jvm.Cond.instantiable "FerryHall$Number" (1 : Nat)) ∈ lw_all := lw_g (lw_at lw_m6 90 rfl) rfl
theorem q1410 : (Jvm.Cond.instanceMethod ({ cls := "FerryHall$Number", name := "<init>", desc := "(I)V" } : Jvm.MethodName)) ∈ lw_all := lw_g (lw_at lw_m6 92 rfl) rfl
theorem q1411 : (Jvm.Cond.code ({ cls := "FerryHall$Number", name := "<init>", desc := "(I)V" } : Jvm.MethodName) prog_11_method_1_code (2 : Nat) (Option.none : Option Jvm.ClassFile.FieldType)) ∈ lw_all := lw_g (lw_at lw_m6 93 rfl) rfl
theorem q1412 : (Jvm.Cond.methodLinkNest "FerryHall$Number" (1 : Nat) ({ cls := "FerryHall$Ex", name := "<init>", desc := "()V" } : Jvm.MethodName) "FerryHall") ∈ lw_tbl := lw_at lw_m6 94 rfl
theorem q1416 : (Jvm.Cond.fieldLink "FerryHall$Number" (7 : Nat) "FerryHall$Number" "n" "I") ∈ lw_all := lw_g (lw_at lw_m6 98 rfl) rfl
theorem q1417 : (Jvm.Cond.laysFinal "FerryHall$Number" "FerryHall$Number" "n" "I") ∈ lw_all := lw_g (lw_at lw_m6 99 rfl) rfl
theorem q1418 : (Jvm.Cond.soleField "FerryHall$Number" "n") ∈ lw_all := lw_g (lw_at lw_m6 100 rfl) rfl
theorem q1419 : (Jvm.Cond.superclass "FerryHall$Number" "FerryHall$Ex") ∈ lw_all := lw_g (lw_at lw_m6 101 rfl) rfl
theorem q2584 : (Jvm.Cond.castable "FerryHall$Number" "FerryHall$Ex") ∈ lw_tbl := lw_at lw_m11 66 rfl
theorem q2599 : (Jvm.Cond.castable "FerryHall$Number" "java/lang/Object") ∈ lw_tbl := lw_at lw_m11 81 rfl
theorem in_X13 : ∀ w ∈ wsX130, w ∈ lw_all := lw_in wsX130 [1417] (by decide +kernel) (by decide +kernel)
/-! FerryHall$Member -/
set_option maxRecDepth 100000
def RX14 : String := "FerryHall$Member"
def TX14 : u_T := fun k => match k with
  | _ => ("FerryHall$Member", "thing", "I", true)
def tyX14 : Nat → FieldType := fun k => match k with
  | _ => .int
abbrev wsX140 : List Cond := u_ws RX14 TX14 1
theorem nmX14 : ∀ a, a < 1 → ∀ b, b < 1 → a ≠ b → (TX14 a).2.1 ≠ (TX14 b).2.1 := by decide +kernel
theorem tyX14_ok : ∀ k, k < 1 → parseFieldDescriptor (TX14 k).2.2.1 = some (tyX14 k) := by decide +kernel
abbrev cX14_value : ByteArray := prog_9_method_2_code
def yX14_value : MethodName := ⟨RX14, "value", "(LFerryHall$Asked;)I"⟩
def dkwX14_value_0 : List UInt8 := [43, 180, 0, 13, 42, 180, 0, 7, 122, 4, 126, 172]
abbrev dktX14_value_0 : List UInt8 := dkwX14_value_0 ++ []
theorem dksX14_value_0 : cX14_value.data.toList.drop 0 = dktX14_value_0 := by decide +kernel
theorem dX14_value_0 : decode cX14_value 0 = .ok (.aload_n 1, 1) := dk_43 (dk_at dksX14_value_0 0 rfl rfl)
theorem dX14_value_1 : decode cX14_value 1 = .ok (.getfield 13, 3) := dk_180 0 13 (dk_at dksX14_value_0 1 rfl rfl)
theorem dX14_value_4 : decode cX14_value 4 = .ok (.aload_n 0, 1) := dk_42 (dk_at dksX14_value_0 4 rfl rfl)
theorem dX14_value_5 : decode cX14_value 5 = .ok (.getfield 7, 3) := dk_180 0 7 (dk_at dksX14_value_0 5 rfl rfl)
theorem dX14_value_8 : decode cX14_value 8 = .ok (.ishr, 1) := dk_122 (dk_at dksX14_value_0 8 rfl rfl)
theorem dX14_value_9 : decode cX14_value 9 = .ok (.iconst 1, 1) := dk_4 (dk_at dksX14_value_0 9 rfl rfl)
theorem dX14_value_10 : decode cX14_value 10 = .ok (.iand, 1) := dk_126 (dk_at dksX14_value_0 10 rfl rfl)
theorem dX14_value_11 : decode cX14_value 11 = .ok (.ireturn, 1) := dk_172 (dk_at dksX14_value_0 11 rfl rfl)
abbrev cX14_init : ByteArray := prog_9_method_1_code
def yX14_init : MethodName := ⟨RX14, "<init>", "(I)V"⟩
def dkwX14_init_0 : List UInt8 := [42, 183, 0, 1, 42, 27, 181, 0, 7, 177]
abbrev dktX14_init_0 : List UInt8 := dkwX14_init_0 ++ []
theorem dksX14_init_0 : cX14_init.data.toList.drop 0 = dktX14_init_0 := by decide +kernel
theorem dX14_init_0 : decode cX14_init 0 = .ok (.aload_n 0, 1) := dk_42 (dk_at dksX14_init_0 0 rfl rfl)
theorem dX14_init_1 : decode cX14_init 1 = .ok (.invokespecial 1, 3) := dk_183 0 1 (dk_at dksX14_init_0 1 rfl rfl)
theorem dX14_init_4 : decode cX14_init 4 = .ok (.aload_n 0, 1) := dk_42 (dk_at dksX14_init_0 4 rfl rfl)
theorem dX14_init_5 : decode cX14_init 5 = .ok (.iload_n 1, 1) := dk_27 (dk_at dksX14_init_0 5 rfl rfl)
theorem dX14_init_6 : decode cX14_init 6 = .ok (.putfield 7, 3) := dk_181 0 7 (dk_at dksX14_init_0 6 rfl rfl)
theorem dX14_init_9 : decode cX14_init 9 = .ok (.return_, 1) := dk_177 (dk_at dksX14_init_0 9 rfl rfl)
theorem q151 : (Jvm.Cond.initialized "FerryHall$Member") ∈ lw_all := lw_g (lw_at lw_m1 33 rfl) rfl
theorem q359 : (Jvm.Cond.fieldLinkNest "FerryHall$Member" (13 : Nat) "FerryHall$Asked" "set" "I" "FerryHall") ∈ lw_tbl := lw_at lw_m2 1 rfl
theorem q418 : (Jvm.Cond.selects "FerryHall$Member" ({ cls := "FerryHall$Ex", name := "holds", desc := "(LFerryHall$Asked;)Z" } : Jvm.MethodName) ({ cls := "FerryHall$Ex", name := "holds", desc := "(LFerryHall$Asked;)Z" } : Jvm.MethodName)) ∈ lw_all := lw_g (lw_at lw_m2 60 rfl) rfl
theorem q433 : (Jvm.Cond.instanceMethod ({ cls := "FerryHall$Member", name := "value", desc := "(LFerryHall$Asked;)I" } : Jvm.MethodName)) ∈ lw_all := lw_g (lw_at lw_m2 75 rfl) rfl
theorem q434 : (Jvm.Cond.code ({ cls := "FerryHall$Member", name := "value", desc := "(LFerryHall$Asked;)I" } : Jvm.MethodName) prog_9_method_2_code (2 : Nat) (Option.some Jvm.ClassFile.FieldType.int)) ∈ lw_all := lw_g (lw_at lw_m2 76 rfl) rfl
theorem q494 : (Jvm.Cond.selects "FerryHall$Member" ({ cls := "FerryHall$Ex", name := "value", desc := "(LFerryHall$Asked;)I" } : Jvm.MethodName) ({ cls := "FerryHall$Member", name := "value", desc := "(LFerryHall$Asked;)I" } : Jvm.MethodName)) ∈ lw_all := lw_g (lw_at lw_m2 136 rfl) rfl
theorem q861 : (Jvm.Cond.selects "FerryHall$Member" ({ cls := "java/lang/Object", name := "getClass", desc := "()Ljava/lang/Class;" } : Jvm.MethodName) ({ cls := "java/lang/Object", name := "getClass", desc := "()Ljava/lang/Class;" } : Jvm.MethodName)) ∈ lw_all := lw_g (lw_at lw_m4 23 rfl) rfl
theorem q1421 : (Jvm.Cond.instantiable "FerryHall$Member" (1 : Nat)) ∈ lw_all := lw_g (lw_at lw_m6 103 rfl) rfl
theorem q1423 : (Jvm.Cond.instanceMethod ({ cls := "FerryHall$Member", name := "<init>", desc := "(I)V" } : Jvm.MethodName)) ∈ lw_all := lw_g (lw_at lw_m6 105 rfl) rfl
theorem q1424 : (Jvm.Cond.code ({ cls := "FerryHall$Member", name := "<init>", desc := "(I)V" } : Jvm.MethodName) prog_9_method_1_code (2 : Nat) (Option.none : Option Jvm.ClassFile.FieldType)) ∈ lw_all := lw_g (lw_at lw_m6 106 rfl) rfl
theorem q1425 : (Jvm.Cond.methodLinkNest "FerryHall$Member" (1 : Nat) ({ cls := "FerryHall$Ex", name := "<init>", desc := "()V" } : Jvm.MethodName) "FerryHall") ∈ lw_tbl := lw_at lw_m6 107 rfl
theorem q1426 : (Jvm.Cond.fieldLink "FerryHall$Member" (7 : Nat) "FerryHall$Member" "thing" "I") ∈ lw_all := lw_g (lw_at lw_m6 108 rfl) rfl
theorem q1427 : (Jvm.Cond.laysFinal "FerryHall$Member" "FerryHall$Member" "thing" "I") ∈ lw_all := lw_g (lw_at lw_m6 109 rfl) rfl
theorem q1428 : (Jvm.Cond.soleField "FerryHall$Member" "thing") ∈ lw_all := lw_g (lw_at lw_m6 110 rfl) rfl
theorem q1429 : (Jvm.Cond.superclass "FerryHall$Member" "FerryHall$Ex") ∈ lw_all := lw_g (lw_at lw_m6 111 rfl) rfl
theorem q2582 : (Jvm.Cond.castable "FerryHall$Member" "FerryHall$Ex") ∈ lw_tbl := lw_at lw_m11 64 rfl
theorem q2600 : (Jvm.Cond.castable "FerryHall$Member" "java/lang/Object") ∈ lw_tbl := lw_at lw_m11 82 rfl
theorem in_X14 : ∀ w ∈ wsX140, w ∈ lw_all := lw_in wsX140 [1427] (by decide +kernel) (by decide +kernel)
/-! FerryHall$Word -/
set_option maxRecDepth 100000
def RX15 : String := "FerryHall$Word"
def TX15 : u_T := fun k => match k with
  | _ => ("FerryHall$Word", "which", "I", true)
def tyX15 : Nat → FieldType := fun k => match k with
  | _ => .int
abbrev wsX150 : List Cond := u_ws RX15 TX15 1
theorem nmX15 : ∀ a, a < 1 → ∀ b, b < 1 → a ≠ b → (TX15 a).2.1 ≠ (TX15 b).2.1 := by decide +kernel
theorem tyX15_ok : ∀ k, k < 1 → parseFieldDescriptor (TX15 k).2.2.1 = some (tyX15 k) := by decide +kernel
abbrev cX15_value : ByteArray := prog_15_method_2_code
def yX15_value : MethodName := ⟨RX15, "value", "(LFerryHall$Asked;)I"⟩
def dkwX15_value_0 : List UInt8 := [43, 42, 180, 0, 7, 182, 0, 13, 172]
abbrev dktX15_value_0 : List UInt8 := dkwX15_value_0 ++ []
theorem dksX15_value_0 : cX15_value.data.toList.drop 0 = dktX15_value_0 := by decide +kernel
theorem dX15_value_0 : decode cX15_value 0 = .ok (.aload_n 1, 1) := dk_43 (dk_at dksX15_value_0 0 rfl rfl)
theorem dX15_value_1 : decode cX15_value 1 = .ok (.aload_n 0, 1) := dk_42 (dk_at dksX15_value_0 1 rfl rfl)
theorem dX15_value_2 : decode cX15_value 2 = .ok (.getfield 7, 3) := dk_180 0 7 (dk_at dksX15_value_0 2 rfl rfl)
theorem dX15_value_5 : decode cX15_value 5 = .ok (.invokevirtual 13, 3) := dk_182 0 13 (dk_at dksX15_value_0 5 rfl rfl)
theorem dX15_value_8 : decode cX15_value 8 = .ok (.ireturn, 1) := dk_172 (dk_at dksX15_value_0 8 rfl rfl)
abbrev cX15_init : ByteArray := prog_15_method_1_code
def yX15_init : MethodName := ⟨RX15, "<init>", "(I)V"⟩
def dkwX15_init_0 : List UInt8 := [42, 183, 0, 1, 42, 27, 181, 0, 7, 177]
abbrev dktX15_init_0 : List UInt8 := dkwX15_init_0 ++ []
theorem dksX15_init_0 : cX15_init.data.toList.drop 0 = dktX15_init_0 := by decide +kernel
theorem dX15_init_0 : decode cX15_init 0 = .ok (.aload_n 0, 1) := dk_42 (dk_at dksX15_init_0 0 rfl rfl)
theorem dX15_init_1 : decode cX15_init 1 = .ok (.invokespecial 1, 3) := dk_183 0 1 (dk_at dksX15_init_0 1 rfl rfl)
theorem dX15_init_4 : decode cX15_init 4 = .ok (.aload_n 0, 1) := dk_42 (dk_at dksX15_init_0 4 rfl rfl)
theorem dX15_init_5 : decode cX15_init 5 = .ok (.iload_n 1, 1) := dk_27 (dk_at dksX15_init_0 5 rfl rfl)
theorem dX15_init_6 : decode cX15_init 6 = .ok (.putfield 7, 3) := dk_181 0 7 (dk_at dksX15_init_0 6 rfl rfl)
theorem dX15_init_9 : decode cX15_init 9 = .ok (.return_, 1) := dk_177 (dk_at dksX15_init_0 9 rfl rfl)
theorem q154 : (Jvm.Cond.initialized "FerryHall$Word") ∈ lw_all := lw_g (lw_at lw_m1 36 rfl) rfl
theorem q421 : (Jvm.Cond.selects "FerryHall$Word" ({ cls := "FerryHall$Ex", name := "holds", desc := "(LFerryHall$Asked;)Z" } : Jvm.MethodName) ({ cls := "FerryHall$Ex", name := "holds", desc := "(LFerryHall$Asked;)Z" } : Jvm.MethodName)) ∈ lw_all := lw_g (lw_at lw_m2 63 rfl) rfl
theorem q440 : (Jvm.Cond.instanceMethod ({ cls := "FerryHall$Word", name := "value", desc := "(LFerryHall$Asked;)I" } : Jvm.MethodName)) ∈ lw_all := lw_g (lw_at lw_m2 82 rfl) rfl
theorem q441 : (Jvm.Cond.code ({ cls := "FerryHall$Word", name := "value", desc := "(LFerryHall$Asked;)I" } : Jvm.MethodName) prog_15_method_2_code (2 : Nat) (Option.some Jvm.ClassFile.FieldType.int)) ∈ lw_all := lw_g (lw_at lw_m2 83 rfl) rfl
theorem q442 : (Jvm.Cond.methodLink "FerryHall$Word" (13 : Nat) ({ cls := "FerryHall$Asked", name := "value", desc := "(I)I" } : Jvm.MethodName)) ∈ lw_all := lw_g (lw_at lw_m2 84 rfl) rfl
theorem q497 : (Jvm.Cond.selects "FerryHall$Word" ({ cls := "FerryHall$Ex", name := "value", desc := "(LFerryHall$Asked;)I" } : Jvm.MethodName) ({ cls := "FerryHall$Word", name := "value", desc := "(LFerryHall$Asked;)I" } : Jvm.MethodName)) ∈ lw_all := lw_g (lw_at lw_m2 139 rfl) rfl
theorem q867 : (Jvm.Cond.selects "FerryHall$Word" ({ cls := "java/lang/Object", name := "getClass", desc := "()Ljava/lang/Class;" } : Jvm.MethodName) ({ cls := "java/lang/Object", name := "getClass", desc := "()Ljava/lang/Class;" } : Jvm.MethodName)) ∈ lw_all := lw_g (lw_at lw_m4 29 rfl) rfl
theorem q1662 : (Jvm.Cond.instantiable "FerryHall$Word" (1 : Nat)) ∈ lw_all := lw_g (lw_at lw_m7 104 rfl) rfl
theorem q1664 : (Jvm.Cond.instanceMethod ({ cls := "FerryHall$Word", name := "<init>", desc := "(I)V" } : Jvm.MethodName)) ∈ lw_all := lw_g (lw_at lw_m7 106 rfl) rfl
theorem q1665 : (Jvm.Cond.code ({ cls := "FerryHall$Word", name := "<init>", desc := "(I)V" } : Jvm.MethodName) prog_15_method_1_code (2 : Nat) (Option.none : Option Jvm.ClassFile.FieldType)) ∈ lw_all := lw_g (lw_at lw_m7 107 rfl) rfl
theorem q1666 : (Jvm.Cond.methodLinkNest "FerryHall$Word" (1 : Nat) ({ cls := "FerryHall$Ex", name := "<init>", desc := "()V" } : Jvm.MethodName) "FerryHall") ∈ lw_tbl := lw_at lw_m7 108 rfl
theorem q1667 : (Jvm.Cond.fieldLink "FerryHall$Word" (7 : Nat) "FerryHall$Word" "which" "I") ∈ lw_all := lw_g (lw_at lw_m7 109 rfl) rfl
theorem q1668 : (Jvm.Cond.laysFinal "FerryHall$Word" "FerryHall$Word" "which" "I") ∈ lw_all := lw_g (lw_at lw_m7 110 rfl) rfl
theorem q1669 : (Jvm.Cond.soleField "FerryHall$Word" "which") ∈ lw_all := lw_g (lw_at lw_m7 111 rfl) rfl
theorem q1670 : (Jvm.Cond.superclass "FerryHall$Word" "FerryHall$Ex") ∈ lw_all := lw_g (lw_at lw_m7 112 rfl) rfl
theorem q2585 : (Jvm.Cond.castable "FerryHall$Word" "FerryHall$Ex") ∈ lw_tbl := lw_at lw_m11 67 rfl
theorem q2603 : (Jvm.Cond.castable "FerryHall$Word" "java/lang/Object") ∈ lw_tbl := lw_at lw_m11 85 rfl
theorem in_X15 : ∀ w ∈ wsX150, w ∈ lw_all := lw_in wsX150 [1668] (by decide +kernel) (by decide +kernel)
/-! FerryHall$Not -/
set_option maxRecDepth 100000
def RX16 : String := "FerryHall$Not"
def TX16 : u_T := fun k => match k with
  | _ => ("FerryHall$Not", "e", "LFerryHall$Ex;", true)
def tyX16 : Nat → FieldType := fun k => match k with
  | _ => .object "FerryHall$Ex"
abbrev wsX160 : List Cond := u_ws RX16 TX16 1
theorem nmX16 : ∀ a, a < 1 → ∀ b, b < 1 → a ≠ b → (TX16 a).2.1 ≠ (TX16 b).2.1 := by decide +kernel
theorem tyX16_ok : ∀ k, k < 1 → parseFieldDescriptor (TX16 k).2.2.1 = some (tyX16 k) := by decide +kernel
abbrev cX16_value : ByteArray := prog_10_method_2_code
def yX16_value : MethodName := ⟨RX16, "value", "(LFerryHall$Asked;)I"⟩
def dkwX16_value_0 : List UInt8 := [42, 180, 0, 7, 43, 182, 0, 13, 153, 0, 7, 3, 167, 0, 4, 4, 172]
abbrev dktX16_value_0 : List UInt8 := dkwX16_value_0 ++ []
theorem dksX16_value_0 : cX16_value.data.toList.drop 0 = dktX16_value_0 := by decide +kernel
theorem dX16_value_0 : decode cX16_value 0 = .ok (.aload_n 0, 1) := dk_42 (dk_at dksX16_value_0 0 rfl rfl)
theorem dX16_value_1 : decode cX16_value 1 = .ok (.getfield 7, 3) := dk_180 0 7 (dk_at dksX16_value_0 1 rfl rfl)
theorem dX16_value_4 : decode cX16_value 4 = .ok (.aload_n 1, 1) := dk_43 (dk_at dksX16_value_0 4 rfl rfl)
theorem dX16_value_5 : decode cX16_value 5 = .ok (.invokevirtual 13, 3) := dk_182 0 13 (dk_at dksX16_value_0 5 rfl rfl)
theorem dX16_value_8 : decode cX16_value 8 = .ok (.ifCond .eq 7, 3) := dk_153 0 7 (dk_at dksX16_value_0 8 rfl rfl)
theorem dX16_value_11 : decode cX16_value 11 = .ok (.iconst 0, 1) := dk_3 (dk_at dksX16_value_0 11 rfl rfl)
theorem dX16_value_12 : decode cX16_value 12 = .ok (.goto 4, 3) := dk_167 0 4 (dk_at dksX16_value_0 12 rfl rfl)
theorem dX16_value_15 : decode cX16_value 15 = .ok (.iconst 1, 1) := dk_4 (dk_at dksX16_value_0 15 rfl rfl)
theorem dX16_value_16 : decode cX16_value 16 = .ok (.ireturn, 1) := dk_172 (dk_at dksX16_value_0 16 rfl rfl)
abbrev cX16_init : ByteArray := prog_10_method_1_code
def yX16_init : MethodName := ⟨RX16, "<init>", "(LFerryHall$Ex;)V"⟩
def dkwX16_init_0 : List UInt8 := [42, 183, 0, 1, 42, 43, 181, 0, 7, 177]
abbrev dktX16_init_0 : List UInt8 := dkwX16_init_0 ++ []
theorem dksX16_init_0 : cX16_init.data.toList.drop 0 = dktX16_init_0 := by decide +kernel
theorem dX16_init_0 : decode cX16_init 0 = .ok (.aload_n 0, 1) := dk_42 (dk_at dksX16_init_0 0 rfl rfl)
theorem dX16_init_1 : decode cX16_init 1 = .ok (.invokespecial 1, 3) := dk_183 0 1 (dk_at dksX16_init_0 1 rfl rfl)
theorem dX16_init_4 : decode cX16_init 4 = .ok (.aload_n 0, 1) := dk_42 (dk_at dksX16_init_0 4 rfl rfl)
theorem dX16_init_5 : decode cX16_init 5 = .ok (.aload_n 1, 1) := dk_43 (dk_at dksX16_init_0 5 rfl rfl)
theorem dX16_init_6 : decode cX16_init 6 = .ok (.putfield 7, 3) := dk_181 0 7 (dk_at dksX16_init_0 6 rfl rfl)
theorem dX16_init_9 : decode cX16_init 9 = .ok (.return_, 1) := dk_177 (dk_at dksX16_init_0 9 rfl rfl)
theorem q155 : (Jvm.Cond.initialized "FerryHall$Not") ∈ lw_all := lw_g (lw_at lw_m1 37 rfl) rfl
theorem q419 : (Jvm.Cond.selects "FerryHall$Not" ({ cls := "FerryHall$Ex", name := "holds", desc := "(LFerryHall$Asked;)Z" } : Jvm.MethodName) ({ cls := "FerryHall$Ex", name := "holds", desc := "(LFerryHall$Asked;)Z" } : Jvm.MethodName)) ∈ lw_all := lw_g (lw_at lw_m2 61 rfl) rfl
theorem q435 : (Jvm.Cond.instanceMethod ({ cls := "FerryHall$Not", name := "value", desc := "(LFerryHall$Asked;)I" } : Jvm.MethodName)) ∈ lw_all := lw_g (lw_at lw_m2 77 rfl) rfl
theorem q436 : (Jvm.Cond.code ({ cls := "FerryHall$Not", name := "value", desc := "(LFerryHall$Asked;)I" } : Jvm.MethodName) prog_10_method_2_code (2 : Nat) (Option.some Jvm.ClassFile.FieldType.int)) ∈ lw_all := lw_g (lw_at lw_m2 78 rfl) rfl
theorem q437 : (Jvm.Cond.methodLink "FerryHall$Not" (13 : Nat) ({ cls := "FerryHall$Ex", name := "holds", desc := "(LFerryHall$Asked;)Z" } : Jvm.MethodName)) ∈ lw_all := lw_g (lw_at lw_m2 79 rfl) rfl
theorem q495 : (Jvm.Cond.selects "FerryHall$Not" ({ cls := "FerryHall$Ex", name := "value", desc := "(LFerryHall$Asked;)I" } : Jvm.MethodName) ({ cls := "FerryHall$Not", name := "value", desc := "(LFerryHall$Asked;)I" } : Jvm.MethodName)) ∈ lw_all := lw_g (lw_at lw_m2 137 rfl) rfl
theorem q862 : (Jvm.Cond.selects "FerryHall$Not" ({ cls := "java/lang/Object", name := "getClass", desc := "()Ljava/lang/Class;" } : Jvm.MethodName) ({ cls := "java/lang/Object", name := "getClass", desc := "()Ljava/lang/Class;" } : Jvm.MethodName)) ∈ lw_all := lw_g (lw_at lw_m4 24 rfl) rfl
theorem q1710 : (Jvm.Cond.instantiable "FerryHall$Not" (1 : Nat)) ∈ lw_all := lw_g (lw_at lw_m7 152 rfl) rfl
theorem q1712 : (Jvm.Cond.instanceMethod ({ cls := "FerryHall$Not", name := "<init>", desc := "(LFerryHall$Ex;)V" } : Jvm.MethodName)) ∈ lw_all := lw_g (lw_at lw_m7 154 rfl) rfl
theorem q1713 : (Jvm.Cond.code ({ cls := "FerryHall$Not", name := "<init>", desc := "(LFerryHall$Ex;)V" } : Jvm.MethodName) prog_10_method_1_code (2 : Nat) (Option.none : Option Jvm.ClassFile.FieldType)) ∈ lw_all := lw_g (lw_at lw_m7 155 rfl) rfl
theorem q1714 : (Jvm.Cond.methodLinkNest "FerryHall$Not" (1 : Nat) ({ cls := "FerryHall$Ex", name := "<init>", desc := "()V" } : Jvm.MethodName) "FerryHall") ∈ lw_tbl := lw_at lw_m7 156 rfl
theorem q1715 : (Jvm.Cond.fieldLink "FerryHall$Not" (7 : Nat) "FerryHall$Not" "e" "LFerryHall$Ex;") ∈ lw_all := lw_g (lw_at lw_m7 157 rfl) rfl
theorem q1716 : (Jvm.Cond.laysFinal "FerryHall$Not" "FerryHall$Not" "e" "LFerryHall$Ex;") ∈ lw_all := lw_g (lw_at lw_m7 158 rfl) rfl
theorem q1717 : (Jvm.Cond.soleField "FerryHall$Not" "e") ∈ lw_all := lw_g (lw_at lw_m7 159 rfl) rfl
theorem q1718 : (Jvm.Cond.superclass "FerryHall$Not" "FerryHall$Ex") ∈ lw_all := lw_g (lw_at lw_m7 160 rfl) rfl
theorem q2583 : (Jvm.Cond.castable "FerryHall$Not" "FerryHall$Ex") ∈ lw_tbl := lw_at lw_m11 65 rfl
theorem q2604 : (Jvm.Cond.castable "FerryHall$Not" "java/lang/Object") ∈ lw_tbl := lw_at lw_m11 86 rfl
theorem in_X16 : ∀ w ∈ wsX160, w ∈ lw_all := lw_in wsX160 [1716] (by decide +kernel) (by decide +kernel)
/-! FerryHall$Judge -/
set_option maxRecDepth 100000
def RX17 : String := "FerryHall$Judge"
def TX17 : u_T := fun k => match k with
  | 0 => ("FerryHall$Judge", "w", "LFerryHall$World;", true)
  | 1 => ("FerryHall$Judge", "holds", "I", true)
  | 2 => ("FerryHall$Judge", "load", "I", true)
  | 3 => ("FerryHall$Judge", "out", "I", true)
  | 4 => ("FerryHall$Judge", "bareStart", "Z", true)
  | 5 => ("FerryHall$Judge", "startLaws", "I", true)
  | 6 => ("FerryHall$Judge", "startCode", "I", true)
  | 7 => ("FerryHall$Judge", "then", "LFerryHall$Place;", true)
  | _ => ("FerryHall$Judge", "laws", "I", false)
def tyX17 : Nat → FieldType := fun k => match k with
  | 0 => .object "FerryHall$World"
  | 1 => .int
  | 2 => .int
  | 3 => .int
  | 4 => .boolean
  | 5 => .int
  | 6 => .int
  | 7 => .object "FerryHall$Place"
  | _ => .int
abbrev wsX170 : List Cond := u_ws RX17 TX17 9
theorem nmX17 : ∀ a, a < 9 → ∀ b, b < 9 → a ≠ b → (TX17 a).2.1 ≠ (TX17 b).2.1 := by decide +kernel
theorem tyX17_ok : ∀ k, k < 9 → parseFieldDescriptor (TX17 k).2.2.1 = some (tyX17 k) := by decide +kernel
abbrev cX17_init : ByteArray := prog_6_method_1_code
def yX17_init : MethodName := ⟨RX17, "<init>", "(LFerryHall$World;III)V"⟩
def dkwX17_init_3 : List UInt8 := [181, 0, 48, 42, 42, 180, 0, 48, 154, 0, 7, 4, 167, 0, 4, 3, 181, 0, 51, 177]
abbrev dktX17_init_3 : List UInt8 := dkwX17_init_3 ++ []
def dkwX17_init_2 : List UInt8 := [180, 0, 30, 182, 0, 37, 181, 0, 41, 42, 42, 180, 0, 30, 3, 3, 182, 0, 44, 21, 4, 2, 130, 126]
abbrev dktX17_init_2 : List UInt8 := dkwX17_init_2 ++ dktX17_init_3
def dkwX17_init_1 : List UInt8 := [181, 0, 22, 42, 187, 0, 25, 89, 43, 183, 0, 27, 181, 0, 30, 42, 180, 0, 30, 182, 0, 34, 42, 42]
abbrev dktX17_init_1 : List UInt8 := dkwX17_init_1 ++ dktX17_init_2
def dkwX17_init_0 : List UInt8 := [42, 183, 0, 3, 42, 43, 181, 0, 9, 42, 28, 181, 0, 15, 42, 29, 181, 0, 19, 42, 21, 4]
abbrev dktX17_init_0 : List UInt8 := dkwX17_init_0 ++ dktX17_init_1
theorem dksX17_init_0 : cX17_init.data.toList.drop 0 = dktX17_init_0 := by decide +kernel
theorem dksX17_init_1 : cX17_init.data.toList.drop 22 = dktX17_init_1 := dk_seg dksX17_init_0 22 rfl rfl
theorem dksX17_init_2 : cX17_init.data.toList.drop 46 = dktX17_init_2 := dk_seg dksX17_init_1 24 rfl rfl
theorem dksX17_init_3 : cX17_init.data.toList.drop 70 = dktX17_init_3 := dk_seg dksX17_init_2 24 rfl rfl
theorem dX17_init_0 : decode cX17_init 0 = .ok (.aload_n 0, 1) := dk_42 (dk_at dksX17_init_0 0 rfl rfl)
theorem dX17_init_1 : decode cX17_init 1 = .ok (.invokespecial 3, 3) := dk_183 0 3 (dk_at dksX17_init_0 1 rfl rfl)
theorem dX17_init_4 : decode cX17_init 4 = .ok (.aload_n 0, 1) := dk_42 (dk_at dksX17_init_0 4 rfl rfl)
theorem dX17_init_5 : decode cX17_init 5 = .ok (.aload_n 1, 1) := dk_43 (dk_at dksX17_init_0 5 rfl rfl)
theorem dX17_init_6 : decode cX17_init 6 = .ok (.putfield 9, 3) := dk_181 0 9 (dk_at dksX17_init_0 6 rfl rfl)
theorem dX17_init_9 : decode cX17_init 9 = .ok (.aload_n 0, 1) := dk_42 (dk_at dksX17_init_0 9 rfl rfl)
theorem dX17_init_10 : decode cX17_init 10 = .ok (.iload_n 2, 1) := dk_28 (dk_at dksX17_init_0 10 rfl rfl)
theorem dX17_init_11 : decode cX17_init 11 = .ok (.putfield 15, 3) := dk_181 0 15 (dk_at dksX17_init_0 11 rfl rfl)
theorem dX17_init_14 : decode cX17_init 14 = .ok (.aload_n 0, 1) := dk_42 (dk_at dksX17_init_0 14 rfl rfl)
theorem dX17_init_15 : decode cX17_init 15 = .ok (.iload_n 3, 1) := dk_29 (dk_at dksX17_init_0 15 rfl rfl)
theorem dX17_init_16 : decode cX17_init 16 = .ok (.putfield 19, 3) := dk_181 0 19 (dk_at dksX17_init_0 16 rfl rfl)
theorem dX17_init_19 : decode cX17_init 19 = .ok (.aload_n 0, 1) := dk_42 (dk_at dksX17_init_0 19 rfl rfl)
theorem dX17_init_20 : decode cX17_init 20 = .ok (.iload 4, 2) := dk_21 4 (dk_at dksX17_init_0 20 rfl rfl)
theorem dX17_init_22 : decode cX17_init 22 = .ok (.putfield 22, 3) := dk_181 0 22 (dk_at dksX17_init_1 0 rfl rfl)
theorem dX17_init_25 : decode cX17_init 25 = .ok (.aload_n 0, 1) := dk_42 (dk_at dksX17_init_1 3 rfl rfl)
theorem dX17_init_26 : decode cX17_init 26 = .ok (.new 25, 3) := dk_187 0 25 (dk_at dksX17_init_1 4 rfl rfl)
theorem dX17_init_29 : decode cX17_init 29 = .ok (.dup, 1) := dk_89 (dk_at dksX17_init_1 7 rfl rfl)
theorem dX17_init_30 : decode cX17_init 30 = .ok (.aload_n 1, 1) := dk_43 (dk_at dksX17_init_1 8 rfl rfl)
theorem dX17_init_31 : decode cX17_init 31 = .ok (.invokespecial 27, 3) := dk_183 0 27 (dk_at dksX17_init_1 9 rfl rfl)
theorem dX17_init_34 : decode cX17_init 34 = .ok (.putfield 30, 3) := dk_181 0 30 (dk_at dksX17_init_1 12 rfl rfl)
theorem dX17_init_37 : decode cX17_init 37 = .ok (.aload_n 0, 1) := dk_42 (dk_at dksX17_init_1 15 rfl rfl)
theorem dX17_init_38 : decode cX17_init 38 = .ok (.getfield 30, 3) := dk_180 0 30 (dk_at dksX17_init_1 16 rfl rfl)
theorem dX17_init_41 : decode cX17_init 41 = .ok (.invokevirtual 34, 3) := dk_182 0 34 (dk_at dksX17_init_1 19 rfl rfl)
theorem dX17_init_44 : decode cX17_init 44 = .ok (.aload_n 0, 1) := dk_42 (dk_at dksX17_init_1 22 rfl rfl)
theorem dX17_init_45 : decode cX17_init 45 = .ok (.aload_n 0, 1) := dk_42 (dk_at dksX17_init_1 23 rfl rfl)
theorem dX17_init_46 : decode cX17_init 46 = .ok (.getfield 30, 3) := dk_180 0 30 (dk_at dksX17_init_2 0 rfl rfl)
theorem dX17_init_49 : decode cX17_init 49 = .ok (.invokevirtual 37, 3) := dk_182 0 37 (dk_at dksX17_init_2 3 rfl rfl)
theorem dX17_init_52 : decode cX17_init 52 = .ok (.putfield 41, 3) := dk_181 0 41 (dk_at dksX17_init_2 6 rfl rfl)
theorem dX17_init_55 : decode cX17_init 55 = .ok (.aload_n 0, 1) := dk_42 (dk_at dksX17_init_2 9 rfl rfl)
theorem dX17_init_56 : decode cX17_init 56 = .ok (.aload_n 0, 1) := dk_42 (dk_at dksX17_init_2 10 rfl rfl)
theorem dX17_init_57 : decode cX17_init 57 = .ok (.getfield 30, 3) := dk_180 0 30 (dk_at dksX17_init_2 11 rfl rfl)
theorem dX17_init_60 : decode cX17_init 60 = .ok (.iconst 0, 1) := dk_3 (dk_at dksX17_init_2 14 rfl rfl)
theorem dX17_init_61 : decode cX17_init 61 = .ok (.iconst 0, 1) := dk_3 (dk_at dksX17_init_2 15 rfl rfl)
theorem dX17_init_62 : decode cX17_init 62 = .ok (.invokevirtual 44, 3) := dk_182 0 44 (dk_at dksX17_init_2 16 rfl rfl)
theorem dX17_init_65 : decode cX17_init 65 = .ok (.iload 4, 2) := dk_21 4 (dk_at dksX17_init_2 19 rfl rfl)
theorem dX17_init_67 : decode cX17_init 67 = .ok (.iconst (-1), 1) := dk_2 (dk_at dksX17_init_2 21 rfl rfl)
theorem dX17_init_68 : decode cX17_init 68 = .ok (.ixor, 1) := dk_130 (dk_at dksX17_init_2 22 rfl rfl)
theorem dX17_init_69 : decode cX17_init 69 = .ok (.iand, 1) := dk_126 (dk_at dksX17_init_2 23 rfl rfl)
theorem dX17_init_70 : decode cX17_init 70 = .ok (.putfield 48, 3) := dk_181 0 48 (dk_at dksX17_init_3 0 rfl rfl)
theorem dX17_init_73 : decode cX17_init 73 = .ok (.aload_n 0, 1) := dk_42 (dk_at dksX17_init_3 3 rfl rfl)
theorem dX17_init_74 : decode cX17_init 74 = .ok (.aload_n 0, 1) := dk_42 (dk_at dksX17_init_3 4 rfl rfl)
theorem dX17_init_75 : decode cX17_init 75 = .ok (.getfield 48, 3) := dk_180 0 48 (dk_at dksX17_init_3 5 rfl rfl)
theorem dX17_init_78 : decode cX17_init 78 = .ok (.ifCond .ne 7, 3) := dk_154 0 7 (dk_at dksX17_init_3 8 rfl rfl)
theorem dX17_init_81 : decode cX17_init 81 = .ok (.iconst 1, 1) := dk_4 (dk_at dksX17_init_3 11 rfl rfl)
theorem dX17_init_82 : decode cX17_init 82 = .ok (.goto 4, 3) := dk_167 0 4 (dk_at dksX17_init_3 12 rfl rfl)
theorem dX17_init_85 : decode cX17_init 85 = .ok (.iconst 0, 1) := dk_3 (dk_at dksX17_init_3 15 rfl rfl)
theorem dX17_init_86 : decode cX17_init 86 = .ok (.putfield 51, 3) := dk_181 0 51 (dk_at dksX17_init_3 16 rfl rfl)
theorem dX17_init_89 : decode cX17_init 89 = .ok (.return_, 1) := dk_177 (dk_at dksX17_init_3 19 rfl rfl)
abbrev cX17_why : ByteArray := prog_6_method_5_code
def yX17_why : MethodName := ⟨RX17, "why", "(LFerryHall$Place;IIII)I"⟩
def dkwX17_why_5 : List UInt8 := [181, 0, 71, 42, 180, 0, 71, 153, 0, 8, 16, 8, 167, 0, 4, 3, 172]
abbrev dktX17_why_5 : List UInt8 := dkwX17_why_5 ++ []
def dkwX17_why_4 : List UInt8 := [21, 5, 182, 0, 128, 42, 42, 180, 0, 30, 3, 3, 182, 0, 44, 42, 180, 0, 22, 2, 130, 126]
abbrev dktX17_why_4 : List UInt8 := dkwX17_why_4 ++ dktX17_why_5
def dkwX17_why_3 : List UInt8 := [180, 0, 71, 153, 0, 6, 16, 7, 172, 42, 180, 0, 30, 28, 182, 0, 124, 42, 180, 0, 30, 29, 21, 4]
abbrev dktX17_why_3 : List UInt8 := dkwX17_why_3 ++ dktX17_why_4
def dkwX17_why_2 : List UInt8 := [182, 0, 121, 43, 4, 29, 120, 21, 5, 182, 0, 44, 128, 42, 180, 0, 22, 2, 130, 126, 181, 0, 71, 42]
abbrev dktX17_why_2 : List UInt8 := dkwX17_why_2 ++ dktX17_why_3
def dkwX17_why_1 : List UInt8 := [180, 0, 41, 160, 0, 17, 42, 180, 0, 51, 154, 0, 10, 42, 180, 0, 48, 167, 0, 26, 43, 21, 5]
abbrev dktX17_why_1 : List UInt8 := dkwX17_why_1 ++ dktX17_why_2
def dkwX17_why_0 : List UInt8 := [42, 43, 29, 21, 4, 21, 5, 182, 0, 117, 54, 6, 21, 6, 153, 0, 6, 21, 6, 172, 42, 28, 42]
abbrev dktX17_why_0 : List UInt8 := dkwX17_why_0 ++ dktX17_why_1
theorem dksX17_why_0 : cX17_why.data.toList.drop 0 = dktX17_why_0 := by decide +kernel
theorem dksX17_why_1 : cX17_why.data.toList.drop 23 = dktX17_why_1 := dk_seg dksX17_why_0 23 rfl rfl
theorem dksX17_why_2 : cX17_why.data.toList.drop 46 = dktX17_why_2 := dk_seg dksX17_why_1 23 rfl rfl
theorem dksX17_why_3 : cX17_why.data.toList.drop 70 = dktX17_why_3 := dk_seg dksX17_why_2 24 rfl rfl
theorem dksX17_why_4 : cX17_why.data.toList.drop 94 = dktX17_why_4 := dk_seg dksX17_why_3 24 rfl rfl
theorem dksX17_why_5 : cX17_why.data.toList.drop 116 = dktX17_why_5 := dk_seg dksX17_why_4 22 rfl rfl
theorem dX17_why_0 : decode cX17_why 0 = .ok (.aload_n 0, 1) := dk_42 (dk_at dksX17_why_0 0 rfl rfl)
theorem dX17_why_1 : decode cX17_why 1 = .ok (.aload_n 1, 1) := dk_43 (dk_at dksX17_why_0 1 rfl rfl)
theorem dX17_why_2 : decode cX17_why 2 = .ok (.iload_n 3, 1) := dk_29 (dk_at dksX17_why_0 2 rfl rfl)
theorem dX17_why_3 : decode cX17_why 3 = .ok (.iload 4, 2) := dk_21 4 (dk_at dksX17_why_0 3 rfl rfl)
theorem dX17_why_5 : decode cX17_why 5 = .ok (.iload 5, 2) := dk_21 5 (dk_at dksX17_why_0 5 rfl rfl)
theorem dX17_why_7 : decode cX17_why 7 = .ok (.invokevirtual 117, 3) := dk_182 0 117 (dk_at dksX17_why_0 7 rfl rfl)
theorem dX17_why_10 : decode cX17_why 10 = .ok (.istore 6, 2) := dk_54 6 (dk_at dksX17_why_0 10 rfl rfl)
theorem dX17_why_12 : decode cX17_why 12 = .ok (.iload 6, 2) := dk_21 6 (dk_at dksX17_why_0 12 rfl rfl)
theorem dX17_why_14 : decode cX17_why 14 = .ok (.ifCond .eq 6, 3) := dk_153 0 6 (dk_at dksX17_why_0 14 rfl rfl)
theorem dX17_why_17 : decode cX17_why 17 = .ok (.iload 6, 2) := dk_21 6 (dk_at dksX17_why_0 17 rfl rfl)
theorem dX17_why_19 : decode cX17_why 19 = .ok (.ireturn, 1) := dk_172 (dk_at dksX17_why_0 19 rfl rfl)
theorem dX17_why_20 : decode cX17_why 20 = .ok (.aload_n 0, 1) := dk_42 (dk_at dksX17_why_0 20 rfl rfl)
theorem dX17_why_21 : decode cX17_why 21 = .ok (.iload_n 2, 1) := dk_28 (dk_at dksX17_why_0 21 rfl rfl)
theorem dX17_why_22 : decode cX17_why 22 = .ok (.aload_n 0, 1) := dk_42 (dk_at dksX17_why_0 22 rfl rfl)
theorem dX17_why_23 : decode cX17_why 23 = .ok (.getfield 41, 3) := dk_180 0 41 (dk_at dksX17_why_1 0 rfl rfl)
theorem dX17_why_26 : decode cX17_why 26 = .ok (.if_icmp .ne 17, 3) := dk_160 0 17 (dk_at dksX17_why_1 3 rfl rfl)
theorem dX17_why_29 : decode cX17_why 29 = .ok (.aload_n 0, 1) := dk_42 (dk_at dksX17_why_1 6 rfl rfl)
theorem dX17_why_30 : decode cX17_why 30 = .ok (.getfield 51, 3) := dk_180 0 51 (dk_at dksX17_why_1 7 rfl rfl)
theorem dX17_why_33 : decode cX17_why 33 = .ok (.ifCond .ne 10, 3) := dk_154 0 10 (dk_at dksX17_why_1 10 rfl rfl)
theorem dX17_why_36 : decode cX17_why 36 = .ok (.aload_n 0, 1) := dk_42 (dk_at dksX17_why_1 13 rfl rfl)
theorem dX17_why_37 : decode cX17_why 37 = .ok (.getfield 48, 3) := dk_180 0 48 (dk_at dksX17_why_1 14 rfl rfl)
theorem dX17_why_40 : decode cX17_why 40 = .ok (.goto 26, 3) := dk_167 0 26 (dk_at dksX17_why_1 17 rfl rfl)
theorem dX17_why_43 : decode cX17_why 43 = .ok (.aload_n 1, 1) := dk_43 (dk_at dksX17_why_1 20 rfl rfl)
theorem dX17_why_44 : decode cX17_why 44 = .ok (.iload 5, 2) := dk_21 5 (dk_at dksX17_why_1 21 rfl rfl)
theorem dX17_why_46 : decode cX17_why 46 = .ok (.invokevirtual 121, 3) := dk_182 0 121 (dk_at dksX17_why_2 0 rfl rfl)
theorem dX17_why_49 : decode cX17_why 49 = .ok (.aload_n 1, 1) := dk_43 (dk_at dksX17_why_2 3 rfl rfl)
theorem dX17_why_50 : decode cX17_why 50 = .ok (.iconst 1, 1) := dk_4 (dk_at dksX17_why_2 4 rfl rfl)
theorem dX17_why_51 : decode cX17_why 51 = .ok (.iload_n 3, 1) := dk_29 (dk_at dksX17_why_2 5 rfl rfl)
theorem dX17_why_52 : decode cX17_why 52 = .ok (.ishl, 1) := dk_120 (dk_at dksX17_why_2 6 rfl rfl)
theorem dX17_why_53 : decode cX17_why 53 = .ok (.iload 5, 2) := dk_21 5 (dk_at dksX17_why_2 7 rfl rfl)
theorem dX17_why_55 : decode cX17_why 55 = .ok (.invokevirtual 44, 3) := dk_182 0 44 (dk_at dksX17_why_2 9 rfl rfl)
theorem dX17_why_58 : decode cX17_why 58 = .ok (.ior, 1) := dk_128 (dk_at dksX17_why_2 12 rfl rfl)
theorem dX17_why_59 : decode cX17_why 59 = .ok (.aload_n 0, 1) := dk_42 (dk_at dksX17_why_2 13 rfl rfl)
theorem dX17_why_60 : decode cX17_why 60 = .ok (.getfield 22, 3) := dk_180 0 22 (dk_at dksX17_why_2 14 rfl rfl)
theorem dX17_why_63 : decode cX17_why 63 = .ok (.iconst (-1), 1) := dk_2 (dk_at dksX17_why_2 17 rfl rfl)
theorem dX17_why_64 : decode cX17_why 64 = .ok (.ixor, 1) := dk_130 (dk_at dksX17_why_2 18 rfl rfl)
theorem dX17_why_65 : decode cX17_why 65 = .ok (.iand, 1) := dk_126 (dk_at dksX17_why_2 19 rfl rfl)
theorem dX17_why_66 : decode cX17_why 66 = .ok (.putfield 71, 3) := dk_181 0 71 (dk_at dksX17_why_2 20 rfl rfl)
theorem dX17_why_69 : decode cX17_why 69 = .ok (.aload_n 0, 1) := dk_42 (dk_at dksX17_why_2 23 rfl rfl)
theorem dX17_why_70 : decode cX17_why 70 = .ok (.getfield 71, 3) := dk_180 0 71 (dk_at dksX17_why_3 0 rfl rfl)
theorem dX17_why_73 : decode cX17_why 73 = .ok (.ifCond .eq 6, 3) := dk_153 0 6 (dk_at dksX17_why_3 3 rfl rfl)
theorem dX17_why_76 : decode cX17_why 76 = .ok (.bipush 7, 2) := dk_16 7 (dk_at dksX17_why_3 6 rfl rfl)
theorem dX17_why_78 : decode cX17_why 78 = .ok (.ireturn, 1) := dk_172 (dk_at dksX17_why_3 8 rfl rfl)
theorem dX17_why_79 : decode cX17_why 79 = .ok (.aload_n 0, 1) := dk_42 (dk_at dksX17_why_3 9 rfl rfl)
theorem dX17_why_80 : decode cX17_why 80 = .ok (.getfield 30, 3) := dk_180 0 30 (dk_at dksX17_why_3 10 rfl rfl)
theorem dX17_why_83 : decode cX17_why 83 = .ok (.iload_n 2, 1) := dk_28 (dk_at dksX17_why_3 13 rfl rfl)
theorem dX17_why_84 : decode cX17_why 84 = .ok (.invokevirtual 124, 3) := dk_182 0 124 (dk_at dksX17_why_3 14 rfl rfl)
theorem dX17_why_87 : decode cX17_why 87 = .ok (.aload_n 0, 1) := dk_42 (dk_at dksX17_why_3 17 rfl rfl)
theorem dX17_why_88 : decode cX17_why 88 = .ok (.getfield 30, 3) := dk_180 0 30 (dk_at dksX17_why_3 18 rfl rfl)
theorem dX17_why_91 : decode cX17_why 91 = .ok (.iload_n 3, 1) := dk_29 (dk_at dksX17_why_3 21 rfl rfl)
theorem dX17_why_92 : decode cX17_why 92 = .ok (.iload 4, 2) := dk_21 4 (dk_at dksX17_why_3 22 rfl rfl)
theorem dX17_why_94 : decode cX17_why 94 = .ok (.iload 5, 2) := dk_21 5 (dk_at dksX17_why_4 0 rfl rfl)
theorem dX17_why_96 : decode cX17_why 96 = .ok (.invokevirtual 128, 3) := dk_182 0 128 (dk_at dksX17_why_4 2 rfl rfl)
theorem dX17_why_99 : decode cX17_why 99 = .ok (.aload_n 0, 1) := dk_42 (dk_at dksX17_why_4 5 rfl rfl)
theorem dX17_why_100 : decode cX17_why 100 = .ok (.aload_n 0, 1) := dk_42 (dk_at dksX17_why_4 6 rfl rfl)
theorem dX17_why_101 : decode cX17_why 101 = .ok (.getfield 30, 3) := dk_180 0 30 (dk_at dksX17_why_4 7 rfl rfl)
theorem dX17_why_104 : decode cX17_why 104 = .ok (.iconst 0, 1) := dk_3 (dk_at dksX17_why_4 10 rfl rfl)
theorem dX17_why_105 : decode cX17_why 105 = .ok (.iconst 0, 1) := dk_3 (dk_at dksX17_why_4 11 rfl rfl)
theorem dX17_why_106 : decode cX17_why 106 = .ok (.invokevirtual 44, 3) := dk_182 0 44 (dk_at dksX17_why_4 12 rfl rfl)
theorem dX17_why_109 : decode cX17_why 109 = .ok (.aload_n 0, 1) := dk_42 (dk_at dksX17_why_4 15 rfl rfl)
theorem dX17_why_110 : decode cX17_why 110 = .ok (.getfield 22, 3) := dk_180 0 22 (dk_at dksX17_why_4 16 rfl rfl)
theorem dX17_why_113 : decode cX17_why 113 = .ok (.iconst (-1), 1) := dk_2 (dk_at dksX17_why_4 19 rfl rfl)
theorem dX17_why_114 : decode cX17_why 114 = .ok (.ixor, 1) := dk_130 (dk_at dksX17_why_4 20 rfl rfl)
theorem dX17_why_115 : decode cX17_why 115 = .ok (.iand, 1) := dk_126 (dk_at dksX17_why_4 21 rfl rfl)
theorem dX17_why_116 : decode cX17_why 116 = .ok (.putfield 71, 3) := dk_181 0 71 (dk_at dksX17_why_5 0 rfl rfl)
theorem dX17_why_119 : decode cX17_why 119 = .ok (.aload_n 0, 1) := dk_42 (dk_at dksX17_why_5 3 rfl rfl)
theorem dX17_why_120 : decode cX17_why 120 = .ok (.getfield 71, 3) := dk_180 0 71 (dk_at dksX17_why_5 4 rfl rfl)
theorem dX17_why_123 : decode cX17_why 123 = .ok (.ifCond .eq 8, 3) := dk_153 0 8 (dk_at dksX17_why_5 7 rfl rfl)
theorem dX17_why_126 : decode cX17_why 126 = .ok (.bipush 8, 2) := dk_16 8 (dk_at dksX17_why_5 10 rfl rfl)
theorem dX17_why_128 : decode cX17_why 128 = .ok (.goto 4, 3) := dk_167 0 4 (dk_at dksX17_why_5 12 rfl rfl)
theorem dX17_why_131 : decode cX17_why 131 = .ok (.iconst 0, 1) := dk_3 (dk_at dksX17_why_5 15 rfl rfl)
theorem dX17_why_132 : decode cX17_why 132 = .ok (.ireturn, 1) := dk_172 (dk_at dksX17_why_5 16 rfl rfl)
abbrev cX17_plainly : ByteArray := prog_6_method_4_code
def yX17_plainly : MethodName := ⟨RX17, "plainly", "(LFerryHall$Place;III)I"⟩
def dkwX17_plainly_6 : List UInt8 := [159, 0, 19, 43, 180, 0, 114, 43, 180, 0, 84, 28, 46, 159, 0, 6, 16, 6, 172, 3, 172]
abbrev dktX17_plainly_6 : List UInt8 := dkwX17_plainly_6 ++ []
def dkwX17_plainly_5 : List UInt8 := [21, 4, 182, 0, 106, 42, 28, 182, 0, 109, 164, 0, 5, 8, 172, 42, 180, 0, 9, 180, 0, 111, 2]
abbrev dktX17_plainly_5 : List UInt8 := dkwX17_plainly_5 ++ dktX17_plainly_6
def dkwX17_plainly_4 : List UInt8 := [154, 0, 5, 6, 172, 21, 4, 184, 0, 99, 42, 28, 182, 0, 104, 164, 0, 5, 7, 172, 42, 180, 0, 9]
abbrev dktX17_plainly_4 : List UInt8 := dkwX17_plainly_4 ++ dktX17_plainly_5
def dkwX17_plainly_3 : List UInt8 := [180, 0, 84, 28, 46, 46, 2, 130, 126, 153, 0, 5, 5, 172, 42, 180, 0, 9, 21, 4, 182, 0, 95]
abbrev dktX17_plainly_3 : List UInt8 := dkwX17_plainly_3 ++ dktX17_plainly_4
def dkwX17_plainly_2 : List UInt8 := [43, 180, 0, 84, 28, 46, 29, 182, 0, 88, 154, 0, 5, 4, 172, 21, 4, 43, 180, 0, 92, 43]
abbrev dktX17_plainly_2 : List UInt8 := dkwX17_plainly_2 ++ dktX17_plainly_3
def dkwX17_plainly_1 : List UInt8 := [153, 0, 37, 29, 3, 42, 180, 0, 9, 180, 0, 81, 4, 100, 184, 0, 77, 153, 0, 20, 42, 180, 0, 9]
abbrev dktX17_plainly_1 : List UInt8 := dkwX17_plainly_1 ++ dktX17_plainly_2
def dkwX17_plainly_0 : List UInt8 := [42, 3, 181, 0, 71, 28, 3, 42, 180, 0, 9, 180, 0, 55, 185, 0, 74, 1, 0, 4, 100, 184, 0, 77]
abbrev dktX17_plainly_0 : List UInt8 := dkwX17_plainly_0 ++ dktX17_plainly_1
theorem dksX17_plainly_0 : cX17_plainly.data.toList.drop 0 = dktX17_plainly_0 := by decide +kernel
theorem dksX17_plainly_1 : cX17_plainly.data.toList.drop 24 = dktX17_plainly_1 := dk_seg dksX17_plainly_0 24 rfl rfl
theorem dksX17_plainly_2 : cX17_plainly.data.toList.drop 48 = dktX17_plainly_2 := dk_seg dksX17_plainly_1 24 rfl rfl
theorem dksX17_plainly_3 : cX17_plainly.data.toList.drop 70 = dktX17_plainly_3 := dk_seg dksX17_plainly_2 22 rfl rfl
theorem dksX17_plainly_4 : cX17_plainly.data.toList.drop 93 = dktX17_plainly_4 := dk_seg dksX17_plainly_3 23 rfl rfl
theorem dksX17_plainly_5 : cX17_plainly.data.toList.drop 117 = dktX17_plainly_5 := dk_seg dksX17_plainly_4 24 rfl rfl
theorem dksX17_plainly_6 : cX17_plainly.data.toList.drop 140 = dktX17_plainly_6 := dk_seg dksX17_plainly_5 23 rfl rfl
theorem dX17_plainly_0 : decode cX17_plainly 0 = .ok (.aload_n 0, 1) := dk_42 (dk_at dksX17_plainly_0 0 rfl rfl)
theorem dX17_plainly_1 : decode cX17_plainly 1 = .ok (.iconst 0, 1) := dk_3 (dk_at dksX17_plainly_0 1 rfl rfl)
theorem dX17_plainly_2 : decode cX17_plainly 2 = .ok (.putfield 71, 3) := dk_181 0 71 (dk_at dksX17_plainly_0 2 rfl rfl)
theorem dX17_plainly_5 : decode cX17_plainly 5 = .ok (.iload_n 2, 1) := dk_28 (dk_at dksX17_plainly_0 5 rfl rfl)
theorem dX17_plainly_6 : decode cX17_plainly 6 = .ok (.iconst 0, 1) := dk_3 (dk_at dksX17_plainly_0 6 rfl rfl)
theorem dX17_plainly_7 : decode cX17_plainly 7 = .ok (.aload_n 0, 1) := dk_42 (dk_at dksX17_plainly_0 7 rfl rfl)
theorem dX17_plainly_8 : decode cX17_plainly 8 = .ok (.getfield 9, 3) := dk_180 0 9 (dk_at dksX17_plainly_0 8 rfl rfl)
theorem dX17_plainly_11 : decode cX17_plainly 11 = .ok (.getfield 55, 3) := dk_180 0 55 (dk_at dksX17_plainly_0 11 rfl rfl)
theorem dX17_plainly_14 : decode cX17_plainly 14 = .ok (.invokeinterface 74 1, 5) := by decide +kernel
theorem dX17_plainly_19 : decode cX17_plainly 19 = .ok (.iconst 1, 1) := dk_4 (dk_at dksX17_plainly_0 19 rfl rfl)
theorem dX17_plainly_20 : decode cX17_plainly 20 = .ok (.isub, 1) := dk_100 (dk_at dksX17_plainly_0 20 rfl rfl)
theorem dX17_plainly_21 : decode cX17_plainly 21 = .ok (.invokestatic 77, 3) := dk_184 0 77 (dk_at dksX17_plainly_0 21 rfl rfl)
theorem dX17_plainly_24 : decode cX17_plainly 24 = .ok (.ifCond .eq 37, 3) := dk_153 0 37 (dk_at dksX17_plainly_1 0 rfl rfl)
theorem dX17_plainly_27 : decode cX17_plainly 27 = .ok (.iload_n 3, 1) := dk_29 (dk_at dksX17_plainly_1 3 rfl rfl)
theorem dX17_plainly_28 : decode cX17_plainly 28 = .ok (.iconst 0, 1) := dk_3 (dk_at dksX17_plainly_1 4 rfl rfl)
theorem dX17_plainly_29 : decode cX17_plainly 29 = .ok (.aload_n 0, 1) := dk_42 (dk_at dksX17_plainly_1 5 rfl rfl)
theorem dX17_plainly_30 : decode cX17_plainly 30 = .ok (.getfield 9, 3) := dk_180 0 9 (dk_at dksX17_plainly_1 6 rfl rfl)
theorem dX17_plainly_33 : decode cX17_plainly 33 = .ok (.getfield 81, 3) := dk_180 0 81 (dk_at dksX17_plainly_1 9 rfl rfl)
theorem dX17_plainly_36 : decode cX17_plainly 36 = .ok (.iconst 1, 1) := dk_4 (dk_at dksX17_plainly_1 12 rfl rfl)
theorem dX17_plainly_37 : decode cX17_plainly 37 = .ok (.isub, 1) := dk_100 (dk_at dksX17_plainly_1 13 rfl rfl)
theorem dX17_plainly_38 : decode cX17_plainly 38 = .ok (.invokestatic 77, 3) := dk_184 0 77 (dk_at dksX17_plainly_1 14 rfl rfl)
theorem dX17_plainly_41 : decode cX17_plainly 41 = .ok (.ifCond .eq 20, 3) := dk_153 0 20 (dk_at dksX17_plainly_1 17 rfl rfl)
theorem dX17_plainly_44 : decode cX17_plainly 44 = .ok (.aload_n 0, 1) := dk_42 (dk_at dksX17_plainly_1 20 rfl rfl)
theorem dX17_plainly_45 : decode cX17_plainly 45 = .ok (.getfield 9, 3) := dk_180 0 9 (dk_at dksX17_plainly_1 21 rfl rfl)
theorem dX17_plainly_48 : decode cX17_plainly 48 = .ok (.aload_n 1, 1) := dk_43 (dk_at dksX17_plainly_2 0 rfl rfl)
theorem dX17_plainly_49 : decode cX17_plainly 49 = .ok (.getfield 84, 3) := dk_180 0 84 (dk_at dksX17_plainly_2 1 rfl rfl)
theorem dX17_plainly_52 : decode cX17_plainly 52 = .ok (.iload_n 2, 1) := dk_28 (dk_at dksX17_plainly_2 4 rfl rfl)
theorem dX17_plainly_53 : decode cX17_plainly 53 = .ok (.iaload, 1) := dk_46 (dk_at dksX17_plainly_2 5 rfl rfl)
theorem dX17_plainly_54 : decode cX17_plainly 54 = .ok (.iload_n 3, 1) := dk_29 (dk_at dksX17_plainly_2 6 rfl rfl)
theorem dX17_plainly_55 : decode cX17_plainly 55 = .ok (.invokevirtual 88, 3) := dk_182 0 88 (dk_at dksX17_plainly_2 7 rfl rfl)
theorem dX17_plainly_58 : decode cX17_plainly 58 = .ok (.ifCond .ne 5, 3) := dk_154 0 5 (dk_at dksX17_plainly_2 10 rfl rfl)
theorem dX17_plainly_61 : decode cX17_plainly 61 = .ok (.iconst 1, 1) := dk_4 (dk_at dksX17_plainly_2 13 rfl rfl)
theorem dX17_plainly_62 : decode cX17_plainly 62 = .ok (.ireturn, 1) := dk_172 (dk_at dksX17_plainly_2 14 rfl rfl)
theorem dX17_plainly_63 : decode cX17_plainly 63 = .ok (.iload 4, 2) := dk_21 4 (dk_at dksX17_plainly_2 15 rfl rfl)
theorem dX17_plainly_65 : decode cX17_plainly 65 = .ok (.aload_n 1, 1) := dk_43 (dk_at dksX17_plainly_2 17 rfl rfl)
theorem dX17_plainly_66 : decode cX17_plainly 66 = .ok (.getfield 92, 3) := dk_180 0 92 (dk_at dksX17_plainly_2 18 rfl rfl)
theorem dX17_plainly_69 : decode cX17_plainly 69 = .ok (.aload_n 1, 1) := dk_43 (dk_at dksX17_plainly_2 21 rfl rfl)
theorem dX17_plainly_70 : decode cX17_plainly 70 = .ok (.getfield 84, 3) := dk_180 0 84 (dk_at dksX17_plainly_3 0 rfl rfl)
theorem dX17_plainly_73 : decode cX17_plainly 73 = .ok (.iload_n 2, 1) := dk_28 (dk_at dksX17_plainly_3 3 rfl rfl)
theorem dX17_plainly_74 : decode cX17_plainly 74 = .ok (.iaload, 1) := dk_46 (dk_at dksX17_plainly_3 4 rfl rfl)
theorem dX17_plainly_75 : decode cX17_plainly 75 = .ok (.iaload, 1) := dk_46 (dk_at dksX17_plainly_3 5 rfl rfl)
theorem dX17_plainly_76 : decode cX17_plainly 76 = .ok (.iconst (-1), 1) := dk_2 (dk_at dksX17_plainly_3 6 rfl rfl)
theorem dX17_plainly_77 : decode cX17_plainly 77 = .ok (.ixor, 1) := dk_130 (dk_at dksX17_plainly_3 7 rfl rfl)
theorem dX17_plainly_78 : decode cX17_plainly 78 = .ok (.iand, 1) := dk_126 (dk_at dksX17_plainly_3 8 rfl rfl)
theorem dX17_plainly_79 : decode cX17_plainly 79 = .ok (.ifCond .eq 5, 3) := dk_153 0 5 (dk_at dksX17_plainly_3 9 rfl rfl)
theorem dX17_plainly_82 : decode cX17_plainly 82 = .ok (.iconst 2, 1) := dk_5 (dk_at dksX17_plainly_3 12 rfl rfl)
theorem dX17_plainly_83 : decode cX17_plainly 83 = .ok (.ireturn, 1) := dk_172 (dk_at dksX17_plainly_3 13 rfl rfl)
theorem dX17_plainly_84 : decode cX17_plainly 84 = .ok (.aload_n 0, 1) := dk_42 (dk_at dksX17_plainly_3 14 rfl rfl)
theorem dX17_plainly_85 : decode cX17_plainly 85 = .ok (.getfield 9, 3) := dk_180 0 9 (dk_at dksX17_plainly_3 15 rfl rfl)
theorem dX17_plainly_88 : decode cX17_plainly 88 = .ok (.iload 4, 2) := dk_21 4 (dk_at dksX17_plainly_3 18 rfl rfl)
theorem dX17_plainly_90 : decode cX17_plainly 90 = .ok (.invokevirtual 95, 3) := dk_182 0 95 (dk_at dksX17_plainly_3 20 rfl rfl)
theorem dX17_plainly_93 : decode cX17_plainly 93 = .ok (.ifCond .ne 5, 3) := dk_154 0 5 (dk_at dksX17_plainly_4 0 rfl rfl)
theorem dX17_plainly_96 : decode cX17_plainly 96 = .ok (.iconst 3, 1) := dk_6 (dk_at dksX17_plainly_4 3 rfl rfl)
theorem dX17_plainly_97 : decode cX17_plainly 97 = .ok (.ireturn, 1) := dk_172 (dk_at dksX17_plainly_4 4 rfl rfl)
theorem dX17_plainly_98 : decode cX17_plainly 98 = .ok (.iload 4, 2) := dk_21 4 (dk_at dksX17_plainly_4 5 rfl rfl)
theorem dX17_plainly_100 : decode cX17_plainly 100 = .ok (.invokestatic 99, 3) := dk_184 0 99 (dk_at dksX17_plainly_4 7 rfl rfl)
theorem dX17_plainly_103 : decode cX17_plainly 103 = .ok (.aload_n 0, 1) := dk_42 (dk_at dksX17_plainly_4 10 rfl rfl)
theorem dX17_plainly_104 : decode cX17_plainly 104 = .ok (.iload_n 2, 1) := dk_28 (dk_at dksX17_plainly_4 11 rfl rfl)
theorem dX17_plainly_105 : decode cX17_plainly 105 = .ok (.invokevirtual 104, 3) := dk_182 0 104 (dk_at dksX17_plainly_4 12 rfl rfl)
theorem dX17_plainly_108 : decode cX17_plainly 108 = .ok (.if_icmp .le 5, 3) := dk_164 0 5 (dk_at dksX17_plainly_4 15 rfl rfl)
theorem dX17_plainly_111 : decode cX17_plainly 111 = .ok (.iconst 4, 1) := dk_7 (dk_at dksX17_plainly_4 18 rfl rfl)
theorem dX17_plainly_112 : decode cX17_plainly 112 = .ok (.ireturn, 1) := dk_172 (dk_at dksX17_plainly_4 19 rfl rfl)
theorem dX17_plainly_113 : decode cX17_plainly 113 = .ok (.aload_n 0, 1) := dk_42 (dk_at dksX17_plainly_4 20 rfl rfl)
theorem dX17_plainly_114 : decode cX17_plainly 114 = .ok (.getfield 9, 3) := dk_180 0 9 (dk_at dksX17_plainly_4 21 rfl rfl)
theorem dX17_plainly_117 : decode cX17_plainly 117 = .ok (.iload 4, 2) := dk_21 4 (dk_at dksX17_plainly_5 0 rfl rfl)
theorem dX17_plainly_119 : decode cX17_plainly 119 = .ok (.invokevirtual 106, 3) := dk_182 0 106 (dk_at dksX17_plainly_5 2 rfl rfl)
theorem dX17_plainly_122 : decode cX17_plainly 122 = .ok (.aload_n 0, 1) := dk_42 (dk_at dksX17_plainly_5 5 rfl rfl)
theorem dX17_plainly_123 : decode cX17_plainly 123 = .ok (.iload_n 2, 1) := dk_28 (dk_at dksX17_plainly_5 6 rfl rfl)
theorem dX17_plainly_124 : decode cX17_plainly 124 = .ok (.invokevirtual 109, 3) := dk_182 0 109 (dk_at dksX17_plainly_5 7 rfl rfl)
theorem dX17_plainly_127 : decode cX17_plainly 127 = .ok (.if_icmp .le 5, 3) := dk_164 0 5 (dk_at dksX17_plainly_5 10 rfl rfl)
theorem dX17_plainly_130 : decode cX17_plainly 130 = .ok (.iconst 5, 1) := dk_8 (dk_at dksX17_plainly_5 13 rfl rfl)
theorem dX17_plainly_131 : decode cX17_plainly 131 = .ok (.ireturn, 1) := dk_172 (dk_at dksX17_plainly_5 14 rfl rfl)
theorem dX17_plainly_132 : decode cX17_plainly 132 = .ok (.aload_n 0, 1) := dk_42 (dk_at dksX17_plainly_5 15 rfl rfl)
theorem dX17_plainly_133 : decode cX17_plainly 133 = .ok (.getfield 9, 3) := dk_180 0 9 (dk_at dksX17_plainly_5 16 rfl rfl)
theorem dX17_plainly_136 : decode cX17_plainly 136 = .ok (.getfield 111, 3) := dk_180 0 111 (dk_at dksX17_plainly_5 19 rfl rfl)
theorem dX17_plainly_139 : decode cX17_plainly 139 = .ok (.iconst (-1), 1) := dk_2 (dk_at dksX17_plainly_5 22 rfl rfl)
theorem dX17_plainly_140 : decode cX17_plainly 140 = .ok (.if_icmp .eq 19, 3) := dk_159 0 19 (dk_at dksX17_plainly_6 0 rfl rfl)
theorem dX17_plainly_143 : decode cX17_plainly 143 = .ok (.aload_n 1, 1) := dk_43 (dk_at dksX17_plainly_6 3 rfl rfl)
theorem dX17_plainly_144 : decode cX17_plainly 144 = .ok (.getfield 114, 3) := dk_180 0 114 (dk_at dksX17_plainly_6 4 rfl rfl)
theorem dX17_plainly_147 : decode cX17_plainly 147 = .ok (.aload_n 1, 1) := dk_43 (dk_at dksX17_plainly_6 7 rfl rfl)
theorem dX17_plainly_148 : decode cX17_plainly 148 = .ok (.getfield 84, 3) := dk_180 0 84 (dk_at dksX17_plainly_6 8 rfl rfl)
theorem dX17_plainly_151 : decode cX17_plainly 151 = .ok (.iload_n 2, 1) := dk_28 (dk_at dksX17_plainly_6 11 rfl rfl)
theorem dX17_plainly_152 : decode cX17_plainly 152 = .ok (.iaload, 1) := dk_46 (dk_at dksX17_plainly_6 12 rfl rfl)
theorem dX17_plainly_153 : decode cX17_plainly 153 = .ok (.if_icmp .eq 6, 3) := dk_159 0 6 (dk_at dksX17_plainly_6 13 rfl rfl)
theorem dX17_plainly_156 : decode cX17_plainly 156 = .ok (.bipush 6, 2) := dk_16 6 (dk_at dksX17_plainly_6 16 rfl rfl)
theorem dX17_plainly_158 : decode cX17_plainly 158 = .ok (.ireturn, 1) := dk_172 (dk_at dksX17_plainly_6 18 rfl rfl)
theorem dX17_plainly_159 : decode cX17_plainly 159 = .ok (.iconst 0, 1) := dk_3 (dk_at dksX17_plainly_6 19 rfl rfl)
theorem dX17_plainly_160 : decode cX17_plainly 160 = .ok (.ireturn, 1) := dk_172 (dk_at dksX17_plainly_6 20 rfl rfl)
abbrev cX17_holds : ByteArray := prog_6_method_2_code
def yX17_holds : MethodName := ⟨RX17, "holds", "(I)I"⟩
def dkwX17_holds_1 : List UInt8 := [180, 0, 55, 27, 185, 0, 61, 2, 0, 192, 0, 67, 180, 0, 69, 172]
abbrev dktX17_holds_1 : List UInt8 := dkwX17_holds_1 ++ []
def dkwX17_holds_0 : List UInt8 := [27, 154, 0, 18, 42, 180, 0, 15, 2, 159, 0, 10, 42, 180, 0, 15, 167, 0, 22, 42, 180, 0, 9]
abbrev dktX17_holds_0 : List UInt8 := dkwX17_holds_0 ++ dktX17_holds_1
theorem dksX17_holds_0 : cX17_holds.data.toList.drop 0 = dktX17_holds_0 := by decide +kernel
theorem dksX17_holds_1 : cX17_holds.data.toList.drop 23 = dktX17_holds_1 := dk_seg dksX17_holds_0 23 rfl rfl
theorem dX17_holds_0 : decode cX17_holds 0 = .ok (.iload_n 1, 1) := dk_27 (dk_at dksX17_holds_0 0 rfl rfl)
theorem dX17_holds_1 : decode cX17_holds 1 = .ok (.ifCond .ne 18, 3) := dk_154 0 18 (dk_at dksX17_holds_0 1 rfl rfl)
theorem dX17_holds_4 : decode cX17_holds 4 = .ok (.aload_n 0, 1) := dk_42 (dk_at dksX17_holds_0 4 rfl rfl)
theorem dX17_holds_5 : decode cX17_holds 5 = .ok (.getfield 15, 3) := dk_180 0 15 (dk_at dksX17_holds_0 5 rfl rfl)
theorem dX17_holds_8 : decode cX17_holds 8 = .ok (.iconst (-1), 1) := dk_2 (dk_at dksX17_holds_0 8 rfl rfl)
theorem dX17_holds_9 : decode cX17_holds 9 = .ok (.if_icmp .eq 10, 3) := dk_159 0 10 (dk_at dksX17_holds_0 9 rfl rfl)
theorem dX17_holds_12 : decode cX17_holds 12 = .ok (.aload_n 0, 1) := dk_42 (dk_at dksX17_holds_0 12 rfl rfl)
theorem dX17_holds_13 : decode cX17_holds 13 = .ok (.getfield 15, 3) := dk_180 0 15 (dk_at dksX17_holds_0 13 rfl rfl)
theorem dX17_holds_16 : decode cX17_holds 16 = .ok (.goto 22, 3) := dk_167 0 22 (dk_at dksX17_holds_0 16 rfl rfl)
theorem dX17_holds_19 : decode cX17_holds 19 = .ok (.aload_n 0, 1) := dk_42 (dk_at dksX17_holds_0 19 rfl rfl)
theorem dX17_holds_20 : decode cX17_holds 20 = .ok (.getfield 9, 3) := dk_180 0 9 (dk_at dksX17_holds_0 20 rfl rfl)
theorem dX17_holds_23 : decode cX17_holds 23 = .ok (.getfield 55, 3) := dk_180 0 55 (dk_at dksX17_holds_1 0 rfl rfl)
theorem dX17_holds_26 : decode cX17_holds 26 = .ok (.iload_n 1, 1) := dk_27 (dk_at dksX17_holds_1 3 rfl rfl)
theorem dX17_holds_27 : decode cX17_holds 27 = .ok (.invokeinterface 61 2, 5) := by decide +kernel
theorem dX17_holds_32 : decode cX17_holds 32 = .ok (.checkcast 67, 3) := dk_192 0 67 (dk_at dksX17_holds_1 9 rfl rfl)
theorem dX17_holds_35 : decode cX17_holds 35 = .ok (.getfield 69, 3) := dk_180 0 69 (dk_at dksX17_holds_1 12 rfl rfl)
theorem dX17_holds_38 : decode cX17_holds 38 = .ok (.ireturn, 1) := dk_172 (dk_at dksX17_holds_1 15 rfl rfl)
abbrev cX17_load : ByteArray := prog_6_method_3_code
def yX17_load : MethodName := ⟨RX17, "load", "(I)I"⟩
def dkwX17_load_1 : List UInt8 := [180, 0, 55, 27, 185, 0, 61, 2, 0, 192, 0, 67, 180, 0, 70, 172]
abbrev dktX17_load_1 : List UInt8 := dkwX17_load_1 ++ []
def dkwX17_load_0 : List UInt8 := [27, 154, 0, 18, 42, 180, 0, 19, 2, 159, 0, 10, 42, 180, 0, 19, 167, 0, 22, 42, 180, 0, 9]
abbrev dktX17_load_0 : List UInt8 := dkwX17_load_0 ++ dktX17_load_1
theorem dksX17_load_0 : cX17_load.data.toList.drop 0 = dktX17_load_0 := by decide +kernel
theorem dksX17_load_1 : cX17_load.data.toList.drop 23 = dktX17_load_1 := dk_seg dksX17_load_0 23 rfl rfl
theorem dX17_load_0 : decode cX17_load 0 = .ok (.iload_n 1, 1) := dk_27 (dk_at dksX17_load_0 0 rfl rfl)
theorem dX17_load_1 : decode cX17_load 1 = .ok (.ifCond .ne 18, 3) := dk_154 0 18 (dk_at dksX17_load_0 1 rfl rfl)
theorem dX17_load_4 : decode cX17_load 4 = .ok (.aload_n 0, 1) := dk_42 (dk_at dksX17_load_0 4 rfl rfl)
theorem dX17_load_5 : decode cX17_load 5 = .ok (.getfield 19, 3) := dk_180 0 19 (dk_at dksX17_load_0 5 rfl rfl)
theorem dX17_load_8 : decode cX17_load 8 = .ok (.iconst (-1), 1) := dk_2 (dk_at dksX17_load_0 8 rfl rfl)
theorem dX17_load_9 : decode cX17_load 9 = .ok (.if_icmp .eq 10, 3) := dk_159 0 10 (dk_at dksX17_load_0 9 rfl rfl)
theorem dX17_load_12 : decode cX17_load 12 = .ok (.aload_n 0, 1) := dk_42 (dk_at dksX17_load_0 12 rfl rfl)
theorem dX17_load_13 : decode cX17_load 13 = .ok (.getfield 19, 3) := dk_180 0 19 (dk_at dksX17_load_0 13 rfl rfl)
theorem dX17_load_16 : decode cX17_load 16 = .ok (.goto 22, 3) := dk_167 0 22 (dk_at dksX17_load_0 16 rfl rfl)
theorem dX17_load_19 : decode cX17_load 19 = .ok (.aload_n 0, 1) := dk_42 (dk_at dksX17_load_0 19 rfl rfl)
theorem dX17_load_20 : decode cX17_load 20 = .ok (.getfield 9, 3) := dk_180 0 9 (dk_at dksX17_load_0 20 rfl rfl)
theorem dX17_load_23 : decode cX17_load 23 = .ok (.getfield 55, 3) := dk_180 0 55 (dk_at dksX17_load_1 0 rfl rfl)
theorem dX17_load_26 : decode cX17_load 26 = .ok (.iload_n 1, 1) := dk_27 (dk_at dksX17_load_1 3 rfl rfl)
theorem dX17_load_27 : decode cX17_load 27 = .ok (.invokeinterface 61 2, 5) := by decide +kernel
theorem dX17_load_32 : decode cX17_load 32 = .ok (.checkcast 67, 3) := dk_192 0 67 (dk_at dksX17_load_1 9 rfl rfl)
theorem dX17_load_35 : decode cX17_load 35 = .ok (.getfield 70, 3) := dk_180 0 70 (dk_at dksX17_load_1 12 rfl rfl)
theorem dX17_load_38 : decode cX17_load 38 = .ok (.ireturn, 1) := dk_172 (dk_at dksX17_load_1 15 rfl rfl)
theorem q157 : (Jvm.Cond.initialized "FerryHall$Judge") ∈ lw_all := lw_g (lw_at lw_m1 39 rfl) rfl
theorem q210 : (Jvm.Cond.fieldLinkNest "FerryHall$Judge" (81 : Nat) "FerryHall$World" "shores" "I" "FerryHall") ∈ lw_tbl := lw_at lw_m1 92 rfl
theorem q220 : (Jvm.Cond.fieldLinkNest "FerryHall$Judge" (111 : Nat) "FerryHall$World" "lampAt" "I" "FerryHall") ∈ lw_tbl := lw_at lw_m1 102 rfl
theorem q237 : (Jvm.Cond.fieldLinkNest "FerryHall$Judge" (55 : Nat) "FerryHall$World" "boats" "Ljava/util/List;" "FerryHall") ∈ lw_tbl := lw_at lw_m1 119 rfl
theorem q511 : (Jvm.Cond.fieldLinkNest "FerryHall$Judge" (84 : Nat) "FerryHall$Place" "boat" "[I" "FerryHall") ∈ lw_tbl := lw_at lw_m2 153 rfl
theorem q516 : (Jvm.Cond.fieldLinkNest "FerryHall$Judge" (92 : Nat) "FerryHall$Place" "set" "[I" "FerryHall") ∈ lw_tbl := lw_at lw_m2 158 rfl
theorem q520 : (Jvm.Cond.fieldLinkNest "FerryHall$Judge" (114 : Nat) "FerryHall$Place" "lamp" "I" "FerryHall") ∈ lw_tbl := lw_at lw_m2 162 rfl
theorem q635 : (Jvm.Cond.instantiable "FerryHall$Judge" (9 : Nat)) ∈ lw_all := lw_g (lw_at lw_m3 37 rfl) rfl
theorem q637 : (Jvm.Cond.instanceMethod ({ cls := "FerryHall$Judge", name := "<init>", desc := "(LFerryHall$World;III)V" } : Jvm.MethodName)) ∈ lw_all := lw_g (lw_at lw_m3 39 rfl) rfl
theorem q638 : (Jvm.Cond.code ({ cls := "FerryHall$Judge", name := "<init>", desc := "(LFerryHall$World;III)V" } : Jvm.MethodName) prog_6_method_1_code (5 : Nat) (Option.none : Option Jvm.ClassFile.FieldType)) ∈ lw_all := lw_g (lw_at lw_m3 40 rfl) rfl
theorem q639 : (Jvm.Cond.methodLink "FerryHall$Judge" (3 : Nat) ({ cls := "java/lang/Object", name := "<init>", desc := "()V" } : Jvm.MethodName)) ∈ lw_all := lw_g (lw_at lw_m3 41 rfl) rfl
theorem q640 : (Jvm.Cond.classLink "FerryHall$Judge" (25 : Nat) "FerryHall$Place") ∈ lw_all := lw_g (lw_at lw_m3 42 rfl) rfl
theorem q641 : (Jvm.Cond.methodLink "FerryHall$Judge" (27 : Nat) ({ cls := "FerryHall$Place", name := "<init>", desc := "(LFerryHall$World;)V" } : Jvm.MethodName)) ∈ lw_all := lw_g (lw_at lw_m3 43 rfl) rfl
theorem q642 : (Jvm.Cond.methodLink "FerryHall$Judge" (34 : Nat) ({ cls := "FerryHall$Place", name := "start", desc := "()V" } : Jvm.MethodName)) ∈ lw_all := lw_g (lw_at lw_m3 44 rfl) rfl
theorem q643 : (Jvm.Cond.methodLink "FerryHall$Judge" (37 : Nat) ({ cls := "FerryHall$Place", name := "code", desc := "()I" } : Jvm.MethodName)) ∈ lw_all := lw_g (lw_at lw_m3 45 rfl) rfl
theorem q654 : (Jvm.Cond.methodLink "FerryHall$Judge" (44 : Nat) ({ cls := "FerryHall$Place", name := "barred", desc := "(II)I" } : Jvm.MethodName)) ∈ lw_all := lw_g (lw_at lw_m3 56 rfl) rfl
theorem q662 : (Jvm.Cond.fieldLink "FerryHall$Judge" (9 : Nat) "FerryHall$Judge" "w" "LFerryHall$World;") ∈ lw_all := lw_g (lw_at lw_m3 64 rfl) rfl
theorem q663 : (Jvm.Cond.fieldLink "FerryHall$Judge" (15 : Nat) "FerryHall$Judge" "holds" "I") ∈ lw_all := lw_g (lw_at lw_m3 65 rfl) rfl
theorem q664 : (Jvm.Cond.fieldLink "FerryHall$Judge" (19 : Nat) "FerryHall$Judge" "load" "I") ∈ lw_all := lw_g (lw_at lw_m3 66 rfl) rfl
theorem q665 : (Jvm.Cond.fieldLink "FerryHall$Judge" (22 : Nat) "FerryHall$Judge" "out" "I") ∈ lw_all := lw_g (lw_at lw_m3 67 rfl) rfl
theorem q666 : (Jvm.Cond.fieldLink "FerryHall$Judge" (51 : Nat) "FerryHall$Judge" "bareStart" "Z") ∈ lw_all := lw_g (lw_at lw_m3 68 rfl) rfl
theorem q668 : (Jvm.Cond.fieldLink "FerryHall$Judge" (48 : Nat) "FerryHall$Judge" "startLaws" "I") ∈ lw_all := lw_g (lw_at lw_m3 70 rfl) rfl
theorem q669 : (Jvm.Cond.fieldLink "FerryHall$Judge" (41 : Nat) "FerryHall$Judge" "startCode" "I") ∈ lw_all := lw_g (lw_at lw_m3 71 rfl) rfl
theorem q670 : (Jvm.Cond.fieldLink "FerryHall$Judge" (30 : Nat) "FerryHall$Judge" "then" "LFerryHall$Place;") ∈ lw_all := lw_g (lw_at lw_m3 72 rfl) rfl
theorem q672 : (Jvm.Cond.fieldLink "FerryHall$Judge" (71 : Nat) "FerryHall$Judge" "laws" "I") ∈ lw_all := lw_g (lw_at lw_m3 74 rfl) rfl
theorem q674 : (Jvm.Cond.laysFinal "FerryHall$Judge" "FerryHall$Judge" "w" "LFerryHall$World;") ∈ lw_all := lw_g (lw_at lw_m3 76 rfl) rfl
theorem q675 : (Jvm.Cond.soleField "FerryHall$Judge" "w") ∈ lw_all := lw_g (lw_at lw_m3 77 rfl) rfl
theorem q676 : (Jvm.Cond.laysFinal "FerryHall$Judge" "FerryHall$Judge" "holds" "I") ∈ lw_all := lw_g (lw_at lw_m3 78 rfl) rfl
theorem q677 : (Jvm.Cond.soleField "FerryHall$Judge" "holds") ∈ lw_all := lw_g (lw_at lw_m3 79 rfl) rfl
theorem q678 : (Jvm.Cond.laysFinal "FerryHall$Judge" "FerryHall$Judge" "load" "I") ∈ lw_all := lw_g (lw_at lw_m3 80 rfl) rfl
theorem q679 : (Jvm.Cond.soleField "FerryHall$Judge" "load") ∈ lw_all := lw_g (lw_at lw_m3 81 rfl) rfl
theorem q680 : (Jvm.Cond.laysFinal "FerryHall$Judge" "FerryHall$Judge" "out" "I") ∈ lw_all := lw_g (lw_at lw_m3 82 rfl) rfl
theorem q681 : (Jvm.Cond.soleField "FerryHall$Judge" "out") ∈ lw_all := lw_g (lw_at lw_m3 83 rfl) rfl
theorem q682 : (Jvm.Cond.laysFinal "FerryHall$Judge" "FerryHall$Judge" "bareStart" "Z") ∈ lw_all := lw_g (lw_at lw_m3 84 rfl) rfl
theorem q683 : (Jvm.Cond.soleField "FerryHall$Judge" "bareStart") ∈ lw_all := lw_g (lw_at lw_m3 85 rfl) rfl
theorem q684 : (Jvm.Cond.laysFinal "FerryHall$Judge" "FerryHall$Judge" "startLaws" "I") ∈ lw_all := lw_g (lw_at lw_m3 86 rfl) rfl
theorem q685 : (Jvm.Cond.soleField "FerryHall$Judge" "startLaws") ∈ lw_all := lw_g (lw_at lw_m3 87 rfl) rfl
theorem q686 : (Jvm.Cond.laysFinal "FerryHall$Judge" "FerryHall$Judge" "startCode" "I") ∈ lw_all := lw_g (lw_at lw_m3 88 rfl) rfl
theorem q687 : (Jvm.Cond.soleField "FerryHall$Judge" "startCode") ∈ lw_all := lw_g (lw_at lw_m3 89 rfl) rfl
theorem q688 : (Jvm.Cond.laysFinal "FerryHall$Judge" "FerryHall$Judge" "then" "LFerryHall$Place;") ∈ lw_all := lw_g (lw_at lw_m3 90 rfl) rfl
theorem q689 : (Jvm.Cond.soleField "FerryHall$Judge" "then") ∈ lw_all := lw_g (lw_at lw_m3 91 rfl) rfl
theorem q690 : (Jvm.Cond.lays "FerryHall$Judge" "FerryHall$Judge" "laws" "I") ∈ lw_all := lw_g (lw_at lw_m3 92 rfl) rfl
theorem q691 : (Jvm.Cond.soleField "FerryHall$Judge" "laws") ∈ lw_all := lw_g (lw_at lw_m3 93 rfl) rfl
theorem q692 : (Jvm.Cond.superclass "FerryHall$Judge" "java/lang/Object") ∈ lw_all := lw_g (lw_at lw_m3 94 rfl) rfl
theorem q724 : (Jvm.Cond.instanceMethod ({ cls := "FerryHall$Judge", name := "why", desc := "(LFerryHall$Place;IIII)I" } : Jvm.MethodName)) ∈ lw_all := lw_g (lw_at lw_m3 126 rfl) rfl
theorem q725 : (Jvm.Cond.selects "FerryHall$Judge" ({ cls := "FerryHall$Judge", name := "why", desc := "(LFerryHall$Place;IIII)I" } : Jvm.MethodName) ({ cls := "FerryHall$Judge", name := "why", desc := "(LFerryHall$Place;IIII)I" } : Jvm.MethodName)) ∈ lw_all := lw_g (lw_at lw_m3 127 rfl) rfl
theorem q726 : (Jvm.Cond.code ({ cls := "FerryHall$Judge", name := "why", desc := "(LFerryHall$Place;IIII)I" } : Jvm.MethodName) prog_6_method_5_code (7 : Nat) (Option.some Jvm.ClassFile.FieldType.int)) ∈ lw_all := lw_g (lw_at lw_m3 128 rfl) rfl
theorem q727 : (Jvm.Cond.methodLink "FerryHall$Judge" (117 : Nat) ({ cls := "FerryHall$Judge", name := "plainly", desc := "(LFerryHall$Place;III)I" } : Jvm.MethodName)) ∈ lw_all := lw_g (lw_at lw_m3 129 rfl) rfl
theorem q728 : (Jvm.Cond.instanceMethod ({ cls := "FerryHall$Judge", name := "plainly", desc := "(LFerryHall$Place;III)I" } : Jvm.MethodName)) ∈ lw_all := lw_g (lw_at lw_m3 130 rfl) rfl
theorem q729 : (Jvm.Cond.selects "FerryHall$Judge" ({ cls := "FerryHall$Judge", name := "plainly", desc := "(LFerryHall$Place;III)I" } : Jvm.MethodName) ({ cls := "FerryHall$Judge", name := "plainly", desc := "(LFerryHall$Place;III)I" } : Jvm.MethodName)) ∈ lw_all := lw_g (lw_at lw_m3 131 rfl) rfl
theorem q730 : (Jvm.Cond.code ({ cls := "FerryHall$Judge", name := "plainly", desc := "(LFerryHall$Place;III)I" } : Jvm.MethodName) prog_6_method_4_code (5 : Nat) (Option.some Jvm.ClassFile.FieldType.int)) ∈ lw_all := lw_g (lw_at lw_m3 132 rfl) rfl
theorem q731 : (Jvm.Cond.interfaceEntry "FerryHall$Judge" (74 : Nat)) ∈ lw_tbl := lw_at lw_m3 133 rfl
theorem q732 : (Jvm.Cond.methodLink "FerryHall$Judge" (74 : Nat) ({ cls := "java/util/List", name := "size", desc := "()I" } : Jvm.MethodName)) ∈ lw_all := lw_g (lw_at lw_m3 134 rfl) rfl
theorem q733 : (Jvm.Cond.methodLinkNest "FerryHall$Judge" (77 : Nat) ({ cls := "FerryHall", name := "in", desc := "(III)Z" } : Jvm.MethodName) "FerryHall") ∈ lw_tbl := lw_at lw_m3 135 rfl
theorem q736 : (Jvm.Cond.methodLink "FerryHall$Judge" (88 : Nat) ({ cls := "FerryHall$World", name := "flows", desc := "(II)Z" } : Jvm.MethodName)) ∈ lw_all := lw_g (lw_at lw_m3 138 rfl) rfl
theorem q737 : (Jvm.Cond.methodLink "FerryHall$Judge" (95 : Nat) ({ cls := "FerryHall$World", name := "rowers", desc := "(I)I" } : Jvm.MethodName)) ∈ lw_all := lw_g (lw_at lw_m3 139 rfl) rfl
theorem q738 : (Jvm.Cond.methodLink "FerryHall$Judge" (99 : Nat) ({ cls := "java/lang/Integer", name := "bitCount", desc := "(I)I" } : Jvm.MethodName)) ∈ lw_all := lw_g (lw_at lw_m3 140 rfl) rfl
theorem q739 : (Jvm.Cond.methodLink "FerryHall$Judge" (104 : Nat) ({ cls := "FerryHall$Judge", name := "holds", desc := "(I)I" } : Jvm.MethodName)) ∈ lw_all := lw_g (lw_at lw_m3 141 rfl) rfl
theorem q740 : (Jvm.Cond.privateMethod ({ cls := "FerryHall$Judge", name := "holds", desc := "(I)I" } : Jvm.MethodName)) ∈ lw_tbl := lw_at lw_m3 142 rfl
theorem q741 : (Jvm.Cond.instanceMethod ({ cls := "FerryHall$Judge", name := "holds", desc := "(I)I" } : Jvm.MethodName)) ∈ lw_all := lw_g (lw_at lw_m3 143 rfl) rfl
theorem q742 : (Jvm.Cond.code ({ cls := "FerryHall$Judge", name := "holds", desc := "(I)I" } : Jvm.MethodName) prog_6_method_2_code (2 : Nat) (Option.some Jvm.ClassFile.FieldType.int)) ∈ lw_all := lw_g (lw_at lw_m3 144 rfl) rfl
theorem q743 : (Jvm.Cond.interfaceEntry "FerryHall$Judge" (61 : Nat)) ∈ lw_tbl := lw_at lw_m3 145 rfl
theorem q744 : (Jvm.Cond.methodLink "FerryHall$Judge" (61 : Nat) ({ cls := "java/util/List", name := "get", desc := "(I)Ljava/lang/Object;" } : Jvm.MethodName)) ∈ lw_all := lw_g (lw_at lw_m3 146 rfl) rfl
theorem q745 : (Jvm.Cond.classLink "FerryHall$Judge" (67 : Nat) "FerryHall$Boat") ∈ lw_all := lw_g (lw_at lw_m3 147 rfl) rfl
theorem q746 : (Jvm.Cond.methodLink "FerryHall$Judge" (106 : Nat) ({ cls := "FerryHall$World", name := "weight", desc := "(I)I" } : Jvm.MethodName)) ∈ lw_all := lw_g (lw_at lw_m3 148 rfl) rfl
theorem q747 : (Jvm.Cond.methodLink "FerryHall$Judge" (109 : Nat) ({ cls := "FerryHall$Judge", name := "load", desc := "(I)I" } : Jvm.MethodName)) ∈ lw_all := lw_g (lw_at lw_m3 149 rfl) rfl
theorem q748 : (Jvm.Cond.privateMethod ({ cls := "FerryHall$Judge", name := "load", desc := "(I)I" } : Jvm.MethodName)) ∈ lw_tbl := lw_at lw_m3 150 rfl
theorem q749 : (Jvm.Cond.instanceMethod ({ cls := "FerryHall$Judge", name := "load", desc := "(I)I" } : Jvm.MethodName)) ∈ lw_all := lw_g (lw_at lw_m3 151 rfl) rfl
theorem q750 : (Jvm.Cond.code ({ cls := "FerryHall$Judge", name := "load", desc := "(I)I" } : Jvm.MethodName) prog_6_method_3_code (2 : Nat) (Option.some Jvm.ClassFile.FieldType.int)) ∈ lw_all := lw_g (lw_at lw_m3 152 rfl) rfl
theorem q751 : (Jvm.Cond.methodLink "FerryHall$Judge" (121 : Nat) ({ cls := "FerryHall$Place", name := "aboard", desc := "(I)I" } : Jvm.MethodName)) ∈ lw_all := lw_g (lw_at lw_m3 153 rfl) rfl
theorem q755 : (Jvm.Cond.methodLink "FerryHall$Judge" (124 : Nat) ({ cls := "FerryHall$Place", name := "read", desc := "(I)V" } : Jvm.MethodName)) ∈ lw_all := lw_g (lw_at lw_m3 157 rfl) rfl
theorem q756 : (Jvm.Cond.methodLink "FerryHall$Judge" (128 : Nat) ({ cls := "FerryHall$Place", name := "move", desc := "(III)V" } : Jvm.MethodName)) ∈ lw_all := lw_g (lw_at lw_m3 158 rfl) rfl
theorem q858 : (Jvm.Cond.selects "FerryHall$Judge" ({ cls := "java/lang/Object", name := "getClass", desc := "()Ljava/lang/Class;" } : Jvm.MethodName) ({ cls := "java/lang/Object", name := "getClass", desc := "()Ljava/lang/Class;" } : Jvm.MethodName)) ∈ lw_all := lw_g (lw_at lw_m4 20 rfl) rfl
theorem q1345 : (Jvm.Cond.fieldLinkNest "FerryHall$Judge" (69 : Nat) "FerryHall$Boat" "holds" "I" "FerryHall") ∈ lw_tbl := lw_at lw_m6 27 rfl
theorem q1348 : (Jvm.Cond.fieldLinkNest "FerryHall$Judge" (70 : Nat) "FerryHall$Boat" "load" "I" "FerryHall") ∈ lw_tbl := lw_at lw_m6 30 rfl
theorem q2606 : (Jvm.Cond.castable "FerryHall$Judge" "java/lang/Object") ∈ lw_tbl := lw_at lw_m11 88 rfl
theorem in_X17 : ∀ w ∈ wsX170, w ∈ lw_all := lw_in wsX170 [674, 676, 678, 680, 682, 684, 686, 688, 690] (by decide +kernel) (by decide +kernel)
/-! FerryHall$Rounds -/
set_option maxRecDepth 100000
def RX18 : String := "FerryHall$Rounds"
def TX18 : u_T := fun k => match k with
  | 0 => ("FerryHall$Rounds", "judge", "LFerryHall$Judge;", true)
  | 1 => ("FerryHall$Rounds", "p", "LFerryHall$Place;", true)
  | 2 => ("FerryHall$Rounds", "then", "LFerryHall$Place;", true)
  | 3 => ("FerryHall$Rounds", "seen", "[Z", true)
  | 4 => ("FerryHall$Rounds", "now", "[I", false)
  | 5 => ("FerryHall$Rounds", "next", "[I", false)
  | 6 => ("FerryHall$Rounds", "many", "I", false)
  | 7 => ("FerryHall$Rounds", "more", "I", false)
  | _ => ("FerryHall$Rounds", "this$0", "LFerryHall;", true)
def tyX18 : Nat → FieldType := fun k => match k with
  | 0 => .object "FerryHall$Judge"
  | 1 => .object "FerryHall$Place"
  | 2 => .object "FerryHall$Place"
  | 3 => .array .boolean
  | 4 => .array .int
  | 5 => .array .int
  | 6 => .int
  | 7 => .int
  | _ => .object "FerryHall"
abbrev wsX180 : List Cond := u_ws RX18 TX18 9
theorem nmX18 : ∀ a, a < 9 → ∀ b, b < 9 → a ≠ b → (TX18 a).2.1 ≠ (TX18 b).2.1 := by decide +kernel
theorem tyX18_ok : ∀ k, k < 9 → parseFieldDescriptor (TX18 k).2.2.1 = some (tyX18 k) := by decide +kernel
abbrev cX18_init : ByteArray := prog_14_method_1_code
def yX18_init : MethodName := ⟨RX18, "<init>", "(LFerryHall;)V"⟩
def dkwX18_init_3 : List UInt8 := [181, 0, 40, 42, 17, 4, 0, 188, 10, 181, 0, 44, 42, 17, 4, 0, 188, 10, 181, 0, 48, 177]
abbrev dktX18_init_3 : List UInt8 := dkwX18_init_3 ++ []
def dkwX18_init_2 : List UInt8 := [42, 187, 0, 28, 89, 42, 180, 0, 3, 180, 0, 17, 183, 0, 30, 181, 0, 37, 42, 17, 4, 0, 188, 4]
abbrev dktX18_init_2 : List UInt8 := dkwX18_init_2 ++ dktX18_init_3
def dkwX18_init_1 : List UInt8 := [183, 0, 21, 181, 0, 24, 42, 187, 0, 28, 89, 42, 180, 0, 3, 180, 0, 17, 183, 0, 30, 181, 0, 33]
abbrev dktX18_init_1 : List UInt8 := dkwX18_init_1 ++ dktX18_init_2
def dkwX18_init_0 : List UInt8 := [42, 43, 181, 0, 3, 42, 183, 0, 9, 42, 187, 0, 15, 89, 42, 180, 0, 3, 180, 0, 17, 2, 2, 3]
abbrev dktX18_init_0 : List UInt8 := dkwX18_init_0 ++ dktX18_init_1
theorem dksX18_init_0 : cX18_init.data.toList.drop 0 = dktX18_init_0 := by decide +kernel
theorem dksX18_init_1 : cX18_init.data.toList.drop 24 = dktX18_init_1 := dk_seg dksX18_init_0 24 rfl rfl
theorem dksX18_init_2 : cX18_init.data.toList.drop 48 = dktX18_init_2 := dk_seg dksX18_init_1 24 rfl rfl
theorem dksX18_init_3 : cX18_init.data.toList.drop 72 = dktX18_init_3 := dk_seg dksX18_init_2 24 rfl rfl
theorem dX18_init_0 : decode cX18_init 0 = .ok (.aload_n 0, 1) := dk_42 (dk_at dksX18_init_0 0 rfl rfl)
theorem dX18_init_1 : decode cX18_init 1 = .ok (.aload_n 1, 1) := dk_43 (dk_at dksX18_init_0 1 rfl rfl)
theorem dX18_init_2 : decode cX18_init 2 = .ok (.putfield 3, 3) := dk_181 0 3 (dk_at dksX18_init_0 2 rfl rfl)
theorem dX18_init_5 : decode cX18_init 5 = .ok (.aload_n 0, 1) := dk_42 (dk_at dksX18_init_0 5 rfl rfl)
theorem dX18_init_6 : decode cX18_init 6 = .ok (.invokespecial 9, 3) := dk_183 0 9 (dk_at dksX18_init_0 6 rfl rfl)
theorem dX18_init_9 : decode cX18_init 9 = .ok (.aload_n 0, 1) := dk_42 (dk_at dksX18_init_0 9 rfl rfl)
theorem dX18_init_10 : decode cX18_init 10 = .ok (.new 15, 3) := dk_187 0 15 (dk_at dksX18_init_0 10 rfl rfl)
theorem dX18_init_13 : decode cX18_init 13 = .ok (.dup, 1) := dk_89 (dk_at dksX18_init_0 13 rfl rfl)
theorem dX18_init_14 : decode cX18_init 14 = .ok (.aload_n 0, 1) := dk_42 (dk_at dksX18_init_0 14 rfl rfl)
theorem dX18_init_15 : decode cX18_init 15 = .ok (.getfield 3, 3) := dk_180 0 3 (dk_at dksX18_init_0 15 rfl rfl)
theorem dX18_init_18 : decode cX18_init 18 = .ok (.getfield 17, 3) := dk_180 0 17 (dk_at dksX18_init_0 18 rfl rfl)
theorem dX18_init_21 : decode cX18_init 21 = .ok (.iconst (-1), 1) := dk_2 (dk_at dksX18_init_0 21 rfl rfl)
theorem dX18_init_22 : decode cX18_init 22 = .ok (.iconst (-1), 1) := dk_2 (dk_at dksX18_init_0 22 rfl rfl)
theorem dX18_init_23 : decode cX18_init 23 = .ok (.iconst 0, 1) := dk_3 (dk_at dksX18_init_0 23 rfl rfl)
theorem dX18_init_24 : decode cX18_init 24 = .ok (.invokespecial 21, 3) := dk_183 0 21 (dk_at dksX18_init_1 0 rfl rfl)
theorem dX18_init_27 : decode cX18_init 27 = .ok (.putfield 24, 3) := dk_181 0 24 (dk_at dksX18_init_1 3 rfl rfl)
theorem dX18_init_30 : decode cX18_init 30 = .ok (.aload_n 0, 1) := dk_42 (dk_at dksX18_init_1 6 rfl rfl)
theorem dX18_init_31 : decode cX18_init 31 = .ok (.new 28, 3) := dk_187 0 28 (dk_at dksX18_init_1 7 rfl rfl)
theorem dX18_init_34 : decode cX18_init 34 = .ok (.dup, 1) := dk_89 (dk_at dksX18_init_1 10 rfl rfl)
theorem dX18_init_35 : decode cX18_init 35 = .ok (.aload_n 0, 1) := dk_42 (dk_at dksX18_init_1 11 rfl rfl)
theorem dX18_init_36 : decode cX18_init 36 = .ok (.getfield 3, 3) := dk_180 0 3 (dk_at dksX18_init_1 12 rfl rfl)
theorem dX18_init_39 : decode cX18_init 39 = .ok (.getfield 17, 3) := dk_180 0 17 (dk_at dksX18_init_1 15 rfl rfl)
theorem dX18_init_42 : decode cX18_init 42 = .ok (.invokespecial 30, 3) := dk_183 0 30 (dk_at dksX18_init_1 18 rfl rfl)
theorem dX18_init_45 : decode cX18_init 45 = .ok (.putfield 33, 3) := dk_181 0 33 (dk_at dksX18_init_1 21 rfl rfl)
theorem dX18_init_48 : decode cX18_init 48 = .ok (.aload_n 0, 1) := dk_42 (dk_at dksX18_init_2 0 rfl rfl)
theorem dX18_init_49 : decode cX18_init 49 = .ok (.new 28, 3) := dk_187 0 28 (dk_at dksX18_init_2 1 rfl rfl)
theorem dX18_init_52 : decode cX18_init 52 = .ok (.dup, 1) := dk_89 (dk_at dksX18_init_2 4 rfl rfl)
theorem dX18_init_53 : decode cX18_init 53 = .ok (.aload_n 0, 1) := dk_42 (dk_at dksX18_init_2 5 rfl rfl)
theorem dX18_init_54 : decode cX18_init 54 = .ok (.getfield 3, 3) := dk_180 0 3 (dk_at dksX18_init_2 6 rfl rfl)
theorem dX18_init_57 : decode cX18_init 57 = .ok (.getfield 17, 3) := dk_180 0 17 (dk_at dksX18_init_2 9 rfl rfl)
theorem dX18_init_60 : decode cX18_init 60 = .ok (.invokespecial 30, 3) := dk_183 0 30 (dk_at dksX18_init_2 12 rfl rfl)
theorem dX18_init_63 : decode cX18_init 63 = .ok (.putfield 37, 3) := dk_181 0 37 (dk_at dksX18_init_2 15 rfl rfl)
theorem dX18_init_66 : decode cX18_init 66 = .ok (.aload_n 0, 1) := dk_42 (dk_at dksX18_init_2 18 rfl rfl)
theorem dX18_init_67 : decode cX18_init 67 = .ok (.sipush 1024, 3) := dk_17 4 0 (dk_at dksX18_init_2 19 rfl rfl)
theorem dX18_init_70 : decode cX18_init 70 = .ok (.newarray .boolean, 2) := dk_188_4 (dk_at dksX18_init_2 22 rfl rfl)
theorem dX18_init_72 : decode cX18_init 72 = .ok (.putfield 40, 3) := dk_181 0 40 (dk_at dksX18_init_3 0 rfl rfl)
theorem dX18_init_75 : decode cX18_init 75 = .ok (.aload_n 0, 1) := dk_42 (dk_at dksX18_init_3 3 rfl rfl)
theorem dX18_init_76 : decode cX18_init 76 = .ok (.sipush 1024, 3) := dk_17 4 0 (dk_at dksX18_init_3 4 rfl rfl)
theorem dX18_init_79 : decode cX18_init 79 = .ok (.newarray .int, 2) := dk_188_10 (dk_at dksX18_init_3 7 rfl rfl)
theorem dX18_init_81 : decode cX18_init 81 = .ok (.putfield 44, 3) := dk_181 0 44 (dk_at dksX18_init_3 9 rfl rfl)
theorem dX18_init_84 : decode cX18_init 84 = .ok (.aload_n 0, 1) := dk_42 (dk_at dksX18_init_3 12 rfl rfl)
theorem dX18_init_85 : decode cX18_init 85 = .ok (.sipush 1024, 3) := dk_17 4 0 (dk_at dksX18_init_3 13 rfl rfl)
theorem dX18_init_88 : decode cX18_init 88 = .ok (.newarray .int, 2) := dk_188_10 (dk_at dksX18_init_3 16 rfl rfl)
theorem dX18_init_90 : decode cX18_init 90 = .ok (.putfield 48, 3) := dk_181 0 48 (dk_at dksX18_init_3 18 rfl rfl)
theorem dX18_init_93 : decode cX18_init 93 = .ok (.return_, 1) := dk_177 (dk_at dksX18_init_3 21 rfl rfl)
abbrev cX18_run : ByteArray := prog_14_method_6_code
def yX18_run : MethodName := ⟨RX18, "run", "()I"⟩
def dkwX18_run_8 : List UInt8 := [181, 0, 48, 42, 42, 180, 0, 57, 181, 0, 104, 132, 1, 1, 167, 255, 127, 2, 172]
abbrev dktX18_run_8 : List UInt8 := dkwX18_run_8 ++ []
def dkwX18_run_7 : List UInt8 := [182, 0, 119, 132, 2, 1, 167, 255, 173, 42, 180, 0, 44, 77, 42, 42, 180, 0, 48, 181, 0, 44, 42, 44]
abbrev dktX18_run_7 : List UInt8 := dkwX18_run_7 ++ dktX18_run_8
def dkwX18_run_6 : List UInt8 := [180, 0, 44, 28, 46, 29, 182, 0, 115, 132, 3, 1, 167, 255, 237, 42, 42, 180, 0, 44, 28, 46]
abbrev dktX18_run_6 : List UInt8 := dkwX18_run_6 ++ dktX18_run_7
def dkwX18_run_5 : List UInt8 := [42, 180, 0, 24, 180, 0, 111, 154, 0, 6, 167, 0, 37, 3, 62, 29, 5, 162, 0, 20, 42, 42]
abbrev dktX18_run_5 : List UInt8 := dkwX18_run_5 ++ dktX18_run_6
def dkwX18_run_4 : List UInt8 := [180, 0, 33, 42, 180, 0, 44, 28, 46, 182, 0, 69, 42, 180, 0, 33, 182, 0, 107, 153, 0, 5, 27, 172]
abbrev dktX18_run_4 : List UInt8 := dkwX18_run_4 ++ dktX18_run_5
def dkwX18_run_3 : List UInt8 := [180, 0, 104, 158, 0, 128, 42, 3, 181, 0, 57, 3, 61, 28, 42, 180, 0, 104, 162, 0, 81, 42]
abbrev dktX18_run_3 : List UInt8 := dkwX18_run_3 ++ dktX18_run_4
def dkwX18_run_2 : List UInt8 := [180, 0, 54, 3, 46, 4, 120, 128, 42, 180, 0, 33, 180, 0, 54, 4, 46, 128, 4, 84, 3, 60, 42]
abbrev dktX18_run_2 : List UInt8 := dkwX18_run_2 ++ dktX18_run_3
def dkwX18_run_1 : List UInt8 := [181, 0, 104, 42, 180, 0, 40, 42, 180, 0, 33, 180, 0, 51, 4, 46, 5, 120, 42, 180, 0, 33]
abbrev dktX18_run_1 : List UInt8 := dkwX18_run_1 ++ dktX18_run_2
def dkwX18_run_0 : List UInt8 := [42, 180, 0, 33, 182, 0, 101, 42, 180, 0, 44, 3, 42, 180, 0, 33, 182, 0, 61, 79, 42, 4]
abbrev dktX18_run_0 : List UInt8 := dkwX18_run_0 ++ dktX18_run_1
theorem dksX18_run_0 : cX18_run.data.toList.drop 0 = dktX18_run_0 := by decide +kernel
theorem dksX18_run_1 : cX18_run.data.toList.drop 22 = dktX18_run_1 := dk_seg dksX18_run_0 22 rfl rfl
theorem dksX18_run_2 : cX18_run.data.toList.drop 44 = dktX18_run_2 := dk_seg dksX18_run_1 22 rfl rfl
theorem dksX18_run_3 : cX18_run.data.toList.drop 67 = dktX18_run_3 := dk_seg dksX18_run_2 23 rfl rfl
theorem dksX18_run_4 : cX18_run.data.toList.drop 89 = dktX18_run_4 := dk_seg dksX18_run_3 22 rfl rfl
theorem dksX18_run_5 : cX18_run.data.toList.drop 113 = dktX18_run_5 := dk_seg dksX18_run_4 24 rfl rfl
theorem dksX18_run_6 : cX18_run.data.toList.drop 135 = dktX18_run_6 := dk_seg dksX18_run_5 22 rfl rfl
theorem dksX18_run_7 : cX18_run.data.toList.drop 157 = dktX18_run_7 := dk_seg dksX18_run_6 22 rfl rfl
theorem dksX18_run_8 : cX18_run.data.toList.drop 181 = dktX18_run_8 := dk_seg dksX18_run_7 24 rfl rfl
theorem dX18_run_0 : decode cX18_run 0 = .ok (.aload_n 0, 1) := dk_42 (dk_at dksX18_run_0 0 rfl rfl)
theorem dX18_run_1 : decode cX18_run 1 = .ok (.getfield 33, 3) := dk_180 0 33 (dk_at dksX18_run_0 1 rfl rfl)
theorem dX18_run_4 : decode cX18_run 4 = .ok (.invokevirtual 101, 3) := dk_182 0 101 (dk_at dksX18_run_0 4 rfl rfl)
theorem dX18_run_7 : decode cX18_run 7 = .ok (.aload_n 0, 1) := dk_42 (dk_at dksX18_run_0 7 rfl rfl)
theorem dX18_run_8 : decode cX18_run 8 = .ok (.getfield 44, 3) := dk_180 0 44 (dk_at dksX18_run_0 8 rfl rfl)
theorem dX18_run_11 : decode cX18_run 11 = .ok (.iconst 0, 1) := dk_3 (dk_at dksX18_run_0 11 rfl rfl)
theorem dX18_run_12 : decode cX18_run 12 = .ok (.aload_n 0, 1) := dk_42 (dk_at dksX18_run_0 12 rfl rfl)
theorem dX18_run_13 : decode cX18_run 13 = .ok (.getfield 33, 3) := dk_180 0 33 (dk_at dksX18_run_0 13 rfl rfl)
theorem dX18_run_16 : decode cX18_run 16 = .ok (.invokevirtual 61, 3) := dk_182 0 61 (dk_at dksX18_run_0 16 rfl rfl)
theorem dX18_run_19 : decode cX18_run 19 = .ok (.iastore, 1) := dk_79 (dk_at dksX18_run_0 19 rfl rfl)
theorem dX18_run_20 : decode cX18_run 20 = .ok (.aload_n 0, 1) := dk_42 (dk_at dksX18_run_0 20 rfl rfl)
theorem dX18_run_21 : decode cX18_run 21 = .ok (.iconst 1, 1) := dk_4 (dk_at dksX18_run_0 21 rfl rfl)
theorem dX18_run_22 : decode cX18_run 22 = .ok (.putfield 104, 3) := dk_181 0 104 (dk_at dksX18_run_1 0 rfl rfl)
theorem dX18_run_25 : decode cX18_run 25 = .ok (.aload_n 0, 1) := dk_42 (dk_at dksX18_run_1 3 rfl rfl)
theorem dX18_run_26 : decode cX18_run 26 = .ok (.getfield 40, 3) := dk_180 0 40 (dk_at dksX18_run_1 4 rfl rfl)
theorem dX18_run_29 : decode cX18_run 29 = .ok (.aload_n 0, 1) := dk_42 (dk_at dksX18_run_1 7 rfl rfl)
theorem dX18_run_30 : decode cX18_run 30 = .ok (.getfield 33, 3) := dk_180 0 33 (dk_at dksX18_run_1 8 rfl rfl)
theorem dX18_run_33 : decode cX18_run 33 = .ok (.getfield 51, 3) := dk_180 0 51 (dk_at dksX18_run_1 11 rfl rfl)
theorem dX18_run_36 : decode cX18_run 36 = .ok (.iconst 1, 1) := dk_4 (dk_at dksX18_run_1 14 rfl rfl)
theorem dX18_run_37 : decode cX18_run 37 = .ok (.iaload, 1) := dk_46 (dk_at dksX18_run_1 15 rfl rfl)
theorem dX18_run_38 : decode cX18_run 38 = .ok (.iconst 2, 1) := dk_5 (dk_at dksX18_run_1 16 rfl rfl)
theorem dX18_run_39 : decode cX18_run 39 = .ok (.ishl, 1) := dk_120 (dk_at dksX18_run_1 17 rfl rfl)
theorem dX18_run_40 : decode cX18_run 40 = .ok (.aload_n 0, 1) := dk_42 (dk_at dksX18_run_1 18 rfl rfl)
theorem dX18_run_41 : decode cX18_run 41 = .ok (.getfield 33, 3) := dk_180 0 33 (dk_at dksX18_run_1 19 rfl rfl)
theorem dX18_run_44 : decode cX18_run 44 = .ok (.getfield 54, 3) := dk_180 0 54 (dk_at dksX18_run_2 0 rfl rfl)
theorem dX18_run_47 : decode cX18_run 47 = .ok (.iconst 0, 1) := dk_3 (dk_at dksX18_run_2 3 rfl rfl)
theorem dX18_run_48 : decode cX18_run 48 = .ok (.iaload, 1) := dk_46 (dk_at dksX18_run_2 4 rfl rfl)
theorem dX18_run_49 : decode cX18_run 49 = .ok (.iconst 1, 1) := dk_4 (dk_at dksX18_run_2 5 rfl rfl)
theorem dX18_run_50 : decode cX18_run 50 = .ok (.ishl, 1) := dk_120 (dk_at dksX18_run_2 6 rfl rfl)
theorem dX18_run_51 : decode cX18_run 51 = .ok (.ior, 1) := dk_128 (dk_at dksX18_run_2 7 rfl rfl)
theorem dX18_run_52 : decode cX18_run 52 = .ok (.aload_n 0, 1) := dk_42 (dk_at dksX18_run_2 8 rfl rfl)
theorem dX18_run_53 : decode cX18_run 53 = .ok (.getfield 33, 3) := dk_180 0 33 (dk_at dksX18_run_2 9 rfl rfl)
theorem dX18_run_56 : decode cX18_run 56 = .ok (.getfield 54, 3) := dk_180 0 54 (dk_at dksX18_run_2 12 rfl rfl)
theorem dX18_run_59 : decode cX18_run 59 = .ok (.iconst 1, 1) := dk_4 (dk_at dksX18_run_2 15 rfl rfl)
theorem dX18_run_60 : decode cX18_run 60 = .ok (.iaload, 1) := dk_46 (dk_at dksX18_run_2 16 rfl rfl)
theorem dX18_run_61 : decode cX18_run 61 = .ok (.ior, 1) := dk_128 (dk_at dksX18_run_2 17 rfl rfl)
theorem dX18_run_62 : decode cX18_run 62 = .ok (.iconst 1, 1) := dk_4 (dk_at dksX18_run_2 18 rfl rfl)
theorem dX18_run_63 : decode cX18_run 63 = .ok (.bastore, 1) := dk_84 (dk_at dksX18_run_2 19 rfl rfl)
theorem dX18_run_64 : decode cX18_run 64 = .ok (.iconst 0, 1) := dk_3 (dk_at dksX18_run_2 20 rfl rfl)
theorem dX18_run_65 : decode cX18_run 65 = .ok (.istore_n 1, 1) := dk_60 (dk_at dksX18_run_2 21 rfl rfl)
theorem dX18_run_66 : decode cX18_run 66 = .ok (.aload_n 0, 1) := dk_42 (dk_at dksX18_run_2 22 rfl rfl)
theorem dX18_run_67 : decode cX18_run 67 = .ok (.getfield 104, 3) := dk_180 0 104 (dk_at dksX18_run_3 0 rfl rfl)
theorem dX18_run_70 : decode cX18_run 70 = .ok (.ifCond .le 128, 3) := dk_158 0 128 (dk_at dksX18_run_3 3 rfl rfl)
theorem dX18_run_73 : decode cX18_run 73 = .ok (.aload_n 0, 1) := dk_42 (dk_at dksX18_run_3 6 rfl rfl)
theorem dX18_run_74 : decode cX18_run 74 = .ok (.iconst 0, 1) := dk_3 (dk_at dksX18_run_3 7 rfl rfl)
theorem dX18_run_75 : decode cX18_run 75 = .ok (.putfield 57, 3) := dk_181 0 57 (dk_at dksX18_run_3 8 rfl rfl)
theorem dX18_run_78 : decode cX18_run 78 = .ok (.iconst 0, 1) := dk_3 (dk_at dksX18_run_3 11 rfl rfl)
theorem dX18_run_79 : decode cX18_run 79 = .ok (.istore_n 2, 1) := dk_61 (dk_at dksX18_run_3 12 rfl rfl)
theorem dX18_run_80 : decode cX18_run 80 = .ok (.iload_n 2, 1) := dk_28 (dk_at dksX18_run_3 13 rfl rfl)
theorem dX18_run_81 : decode cX18_run 81 = .ok (.aload_n 0, 1) := dk_42 (dk_at dksX18_run_3 14 rfl rfl)
theorem dX18_run_82 : decode cX18_run 82 = .ok (.getfield 104, 3) := dk_180 0 104 (dk_at dksX18_run_3 15 rfl rfl)
theorem dX18_run_85 : decode cX18_run 85 = .ok (.if_icmp .ge 81, 3) := dk_162 0 81 (dk_at dksX18_run_3 18 rfl rfl)
theorem dX18_run_88 : decode cX18_run 88 = .ok (.aload_n 0, 1) := dk_42 (dk_at dksX18_run_3 21 rfl rfl)
theorem dX18_run_89 : decode cX18_run 89 = .ok (.getfield 33, 3) := dk_180 0 33 (dk_at dksX18_run_4 0 rfl rfl)
theorem dX18_run_92 : decode cX18_run 92 = .ok (.aload_n 0, 1) := dk_42 (dk_at dksX18_run_4 3 rfl rfl)
theorem dX18_run_93 : decode cX18_run 93 = .ok (.getfield 44, 3) := dk_180 0 44 (dk_at dksX18_run_4 4 rfl rfl)
theorem dX18_run_96 : decode cX18_run 96 = .ok (.iload_n 2, 1) := dk_28 (dk_at dksX18_run_4 7 rfl rfl)
theorem dX18_run_97 : decode cX18_run 97 = .ok (.iaload, 1) := dk_46 (dk_at dksX18_run_4 8 rfl rfl)
theorem dX18_run_98 : decode cX18_run 98 = .ok (.invokevirtual 69, 3) := dk_182 0 69 (dk_at dksX18_run_4 9 rfl rfl)
theorem dX18_run_101 : decode cX18_run 101 = .ok (.aload_n 0, 1) := dk_42 (dk_at dksX18_run_4 12 rfl rfl)
theorem dX18_run_102 : decode cX18_run 102 = .ok (.getfield 33, 3) := dk_180 0 33 (dk_at dksX18_run_4 13 rfl rfl)
theorem dX18_run_105 : decode cX18_run 105 = .ok (.invokevirtual 107, 3) := dk_182 0 107 (dk_at dksX18_run_4 16 rfl rfl)
theorem dX18_run_108 : decode cX18_run 108 = .ok (.ifCond .eq 5, 3) := dk_153 0 5 (dk_at dksX18_run_4 19 rfl rfl)
theorem dX18_run_111 : decode cX18_run 111 = .ok (.iload_n 1, 1) := dk_27 (dk_at dksX18_run_4 22 rfl rfl)
theorem dX18_run_112 : decode cX18_run 112 = .ok (.ireturn, 1) := dk_172 (dk_at dksX18_run_4 23 rfl rfl)
theorem dX18_run_113 : decode cX18_run 113 = .ok (.aload_n 0, 1) := dk_42 (dk_at dksX18_run_5 0 rfl rfl)
theorem dX18_run_114 : decode cX18_run 114 = .ok (.getfield 24, 3) := dk_180 0 24 (dk_at dksX18_run_5 1 rfl rfl)
theorem dX18_run_117 : decode cX18_run 117 = .ok (.getfield 111, 3) := dk_180 0 111 (dk_at dksX18_run_5 4 rfl rfl)
theorem dX18_run_120 : decode cX18_run 120 = .ok (.ifCond .ne 6, 3) := dk_154 0 6 (dk_at dksX18_run_5 7 rfl rfl)
theorem dX18_run_123 : decode cX18_run 123 = .ok (.goto 37, 3) := dk_167 0 37 (dk_at dksX18_run_5 10 rfl rfl)
theorem dX18_run_126 : decode cX18_run 126 = .ok (.iconst 0, 1) := dk_3 (dk_at dksX18_run_5 13 rfl rfl)
theorem dX18_run_127 : decode cX18_run 127 = .ok (.istore_n 3, 1) := dk_62 (dk_at dksX18_run_5 14 rfl rfl)
theorem dX18_run_128 : decode cX18_run 128 = .ok (.iload_n 3, 1) := dk_29 (dk_at dksX18_run_5 15 rfl rfl)
theorem dX18_run_129 : decode cX18_run 129 = .ok (.iconst 2, 1) := dk_5 (dk_at dksX18_run_5 16 rfl rfl)
theorem dX18_run_130 : decode cX18_run 130 = .ok (.if_icmp .ge 20, 3) := dk_162 0 20 (dk_at dksX18_run_5 17 rfl rfl)
theorem dX18_run_133 : decode cX18_run 133 = .ok (.aload_n 0, 1) := dk_42 (dk_at dksX18_run_5 20 rfl rfl)
theorem dX18_run_134 : decode cX18_run 134 = .ok (.aload_n 0, 1) := dk_42 (dk_at dksX18_run_5 21 rfl rfl)
theorem dX18_run_135 : decode cX18_run 135 = .ok (.getfield 44, 3) := dk_180 0 44 (dk_at dksX18_run_6 0 rfl rfl)
theorem dX18_run_138 : decode cX18_run 138 = .ok (.iload_n 2, 1) := dk_28 (dk_at dksX18_run_6 3 rfl rfl)
theorem dX18_run_139 : decode cX18_run 139 = .ok (.iaload, 1) := dk_46 (dk_at dksX18_run_6 4 rfl rfl)
theorem dX18_run_140 : decode cX18_run 140 = .ok (.iload_n 3, 1) := dk_29 (dk_at dksX18_run_6 5 rfl rfl)
theorem dX18_run_141 : decode cX18_run 141 = .ok (.invokevirtual 115, 3) := dk_182 0 115 (dk_at dksX18_run_6 6 rfl rfl)
theorem dX18_run_144 : decode cX18_run 144 = .ok (.iinc 3 1, 3) := dk_132 3 1 (dk_at dksX18_run_6 9 rfl rfl)
theorem dX18_run_147 : decode cX18_run 147 = .ok (.goto (-19), 3) := dk_167 255 237 (dk_at dksX18_run_6 12 rfl rfl)
theorem dX18_run_150 : decode cX18_run 150 = .ok (.aload_n 0, 1) := dk_42 (dk_at dksX18_run_6 15 rfl rfl)
theorem dX18_run_151 : decode cX18_run 151 = .ok (.aload_n 0, 1) := dk_42 (dk_at dksX18_run_6 16 rfl rfl)
theorem dX18_run_152 : decode cX18_run 152 = .ok (.getfield 44, 3) := dk_180 0 44 (dk_at dksX18_run_6 17 rfl rfl)
theorem dX18_run_155 : decode cX18_run 155 = .ok (.iload_n 2, 1) := dk_28 (dk_at dksX18_run_6 20 rfl rfl)
theorem dX18_run_156 : decode cX18_run 156 = .ok (.iaload, 1) := dk_46 (dk_at dksX18_run_6 21 rfl rfl)
theorem dX18_run_157 : decode cX18_run 157 = .ok (.invokevirtual 119, 3) := dk_182 0 119 (dk_at dksX18_run_7 0 rfl rfl)
theorem dX18_run_160 : decode cX18_run 160 = .ok (.iinc 2 1, 3) := dk_132 2 1 (dk_at dksX18_run_7 3 rfl rfl)
theorem dX18_run_163 : decode cX18_run 163 = .ok (.goto (-83), 3) := dk_167 255 173 (dk_at dksX18_run_7 6 rfl rfl)
theorem dX18_run_166 : decode cX18_run 166 = .ok (.aload_n 0, 1) := dk_42 (dk_at dksX18_run_7 9 rfl rfl)
theorem dX18_run_167 : decode cX18_run 167 = .ok (.getfield 44, 3) := dk_180 0 44 (dk_at dksX18_run_7 10 rfl rfl)
theorem dX18_run_170 : decode cX18_run 170 = .ok (.astore_n 2, 1) := dk_77 (dk_at dksX18_run_7 13 rfl rfl)
theorem dX18_run_171 : decode cX18_run 171 = .ok (.aload_n 0, 1) := dk_42 (dk_at dksX18_run_7 14 rfl rfl)
theorem dX18_run_172 : decode cX18_run 172 = .ok (.aload_n 0, 1) := dk_42 (dk_at dksX18_run_7 15 rfl rfl)
theorem dX18_run_173 : decode cX18_run 173 = .ok (.getfield 48, 3) := dk_180 0 48 (dk_at dksX18_run_7 16 rfl rfl)
theorem dX18_run_176 : decode cX18_run 176 = .ok (.putfield 44, 3) := dk_181 0 44 (dk_at dksX18_run_7 19 rfl rfl)
theorem dX18_run_179 : decode cX18_run 179 = .ok (.aload_n 0, 1) := dk_42 (dk_at dksX18_run_7 22 rfl rfl)
theorem dX18_run_180 : decode cX18_run 180 = .ok (.aload_n 2, 1) := dk_44 (dk_at dksX18_run_7 23 rfl rfl)
theorem dX18_run_181 : decode cX18_run 181 = .ok (.putfield 48, 3) := dk_181 0 48 (dk_at dksX18_run_8 0 rfl rfl)
theorem dX18_run_184 : decode cX18_run 184 = .ok (.aload_n 0, 1) := dk_42 (dk_at dksX18_run_8 3 rfl rfl)
theorem dX18_run_185 : decode cX18_run 185 = .ok (.aload_n 0, 1) := dk_42 (dk_at dksX18_run_8 4 rfl rfl)
theorem dX18_run_186 : decode cX18_run 186 = .ok (.getfield 57, 3) := dk_180 0 57 (dk_at dksX18_run_8 5 rfl rfl)
theorem dX18_run_189 : decode cX18_run 189 = .ok (.putfield 104, 3) := dk_181 0 104 (dk_at dksX18_run_8 8 rfl rfl)
theorem dX18_run_192 : decode cX18_run 192 = .ok (.iinc 1 1, 3) := dk_132 1 1 (dk_at dksX18_run_8 11 rfl rfl)
theorem dX18_run_195 : decode cX18_run 195 = .ok (.goto (-129), 3) := dk_167 255 127 (dk_at dksX18_run_8 14 rfl rfl)
theorem dX18_run_198 : decode cX18_run 198 = .ok (.iconst (-1), 1) := dk_2 (dk_at dksX18_run_8 17 rfl rfl)
theorem dX18_run_199 : decode cX18_run 199 = .ok (.ireturn, 1) := dk_172 (dk_at dksX18_run_8 18 rfl rfl)
abbrev cX18_single : ByteArray := prog_14_method_3_code
def yX18_single : MethodName := ⟨RX18, "single", "(II)V"⟩
def dkwX18_single_4 : List UInt8 := [21, 4, 29, 100, 29, 126, 54, 4, 167, 255, 178, 177]
abbrev dktX18_single_4 : List UInt8 := dkwX18_single_4 ++ []
def dkwX18_single_3 : List UInt8 := [180, 0, 37, 28, 4, 42, 180, 0, 33, 180, 0, 54, 28, 46, 100, 21, 4, 182, 0, 73, 42, 182, 0, 77]
abbrev dktX18_single_3 : List UInt8 := dkwX18_single_3 ++ dktX18_single_4
def dkwX18_single_2 : List UInt8 := [46, 100, 21, 4, 182, 0, 65, 153, 0, 6, 167, 0, 36, 42, 180, 0, 37, 27, 182, 0, 69, 42]
abbrev dktX18_single_2 : List UInt8 := dkwX18_single_2 ++ dktX18_single_3
def dkwX18_single_1 : List UInt8 := [21, 4, 153, 0, 79, 42, 180, 0, 24, 42, 180, 0, 33, 27, 28, 4, 42, 180, 0, 33, 180, 0, 54, 28]
abbrev dktX18_single_1 : List UInt8 := dkwX18_single_1 ++ dktX18_single_2
def dkwX18_single_0 : List UInt8 := [42, 180, 0, 33, 180, 0, 51, 42, 180, 0, 33, 180, 0, 54, 28, 46, 46, 62, 29, 29, 116, 126, 54, 4]
abbrev dktX18_single_0 : List UInt8 := dkwX18_single_0 ++ dktX18_single_1
theorem dksX18_single_0 : cX18_single.data.toList.drop 0 = dktX18_single_0 := by decide +kernel
theorem dksX18_single_1 : cX18_single.data.toList.drop 24 = dktX18_single_1 := dk_seg dksX18_single_0 24 rfl rfl
theorem dksX18_single_2 : cX18_single.data.toList.drop 48 = dktX18_single_2 := dk_seg dksX18_single_1 24 rfl rfl
theorem dksX18_single_3 : cX18_single.data.toList.drop 70 = dktX18_single_3 := dk_seg dksX18_single_2 22 rfl rfl
theorem dksX18_single_4 : cX18_single.data.toList.drop 94 = dktX18_single_4 := dk_seg dksX18_single_3 24 rfl rfl
theorem dX18_single_0 : decode cX18_single 0 = .ok (.aload_n 0, 1) := dk_42 (dk_at dksX18_single_0 0 rfl rfl)
theorem dX18_single_1 : decode cX18_single 1 = .ok (.getfield 33, 3) := dk_180 0 33 (dk_at dksX18_single_0 1 rfl rfl)
theorem dX18_single_4 : decode cX18_single 4 = .ok (.getfield 51, 3) := dk_180 0 51 (dk_at dksX18_single_0 4 rfl rfl)
theorem dX18_single_7 : decode cX18_single 7 = .ok (.aload_n 0, 1) := dk_42 (dk_at dksX18_single_0 7 rfl rfl)
theorem dX18_single_8 : decode cX18_single 8 = .ok (.getfield 33, 3) := dk_180 0 33 (dk_at dksX18_single_0 8 rfl rfl)
theorem dX18_single_11 : decode cX18_single 11 = .ok (.getfield 54, 3) := dk_180 0 54 (dk_at dksX18_single_0 11 rfl rfl)
theorem dX18_single_14 : decode cX18_single 14 = .ok (.iload_n 2, 1) := dk_28 (dk_at dksX18_single_0 14 rfl rfl)
theorem dX18_single_15 : decode cX18_single 15 = .ok (.iaload, 1) := dk_46 (dk_at dksX18_single_0 15 rfl rfl)
theorem dX18_single_16 : decode cX18_single 16 = .ok (.iaload, 1) := dk_46 (dk_at dksX18_single_0 16 rfl rfl)
theorem dX18_single_17 : decode cX18_single 17 = .ok (.istore_n 3, 1) := dk_62 (dk_at dksX18_single_0 17 rfl rfl)
theorem dX18_single_18 : decode cX18_single 18 = .ok (.iload_n 3, 1) := dk_29 (dk_at dksX18_single_0 18 rfl rfl)
theorem dX18_single_19 : decode cX18_single 19 = .ok (.iload_n 3, 1) := dk_29 (dk_at dksX18_single_0 19 rfl rfl)
theorem dX18_single_20 : decode cX18_single 20 = .ok (.ineg, 1) := dk_116 (dk_at dksX18_single_0 20 rfl rfl)
theorem dX18_single_21 : decode cX18_single 21 = .ok (.iand, 1) := dk_126 (dk_at dksX18_single_0 21 rfl rfl)
theorem dX18_single_22 : decode cX18_single 22 = .ok (.istore 4, 2) := dk_54 4 (dk_at dksX18_single_0 22 rfl rfl)
theorem dX18_single_24 : decode cX18_single 24 = .ok (.iload 4, 2) := dk_21 4 (dk_at dksX18_single_1 0 rfl rfl)
theorem dX18_single_26 : decode cX18_single 26 = .ok (.ifCond .eq 79, 3) := dk_153 0 79 (dk_at dksX18_single_1 2 rfl rfl)
theorem dX18_single_29 : decode cX18_single 29 = .ok (.aload_n 0, 1) := dk_42 (dk_at dksX18_single_1 5 rfl rfl)
theorem dX18_single_30 : decode cX18_single 30 = .ok (.getfield 24, 3) := dk_180 0 24 (dk_at dksX18_single_1 6 rfl rfl)
theorem dX18_single_33 : decode cX18_single 33 = .ok (.aload_n 0, 1) := dk_42 (dk_at dksX18_single_1 9 rfl rfl)
theorem dX18_single_34 : decode cX18_single 34 = .ok (.getfield 33, 3) := dk_180 0 33 (dk_at dksX18_single_1 10 rfl rfl)
theorem dX18_single_37 : decode cX18_single 37 = .ok (.iload_n 1, 1) := dk_27 (dk_at dksX18_single_1 13 rfl rfl)
theorem dX18_single_38 : decode cX18_single 38 = .ok (.iload_n 2, 1) := dk_28 (dk_at dksX18_single_1 14 rfl rfl)
theorem dX18_single_39 : decode cX18_single 39 = .ok (.iconst 1, 1) := dk_4 (dk_at dksX18_single_1 15 rfl rfl)
theorem dX18_single_40 : decode cX18_single 40 = .ok (.aload_n 0, 1) := dk_42 (dk_at dksX18_single_1 16 rfl rfl)
theorem dX18_single_41 : decode cX18_single 41 = .ok (.getfield 33, 3) := dk_180 0 33 (dk_at dksX18_single_1 17 rfl rfl)
theorem dX18_single_44 : decode cX18_single 44 = .ok (.getfield 54, 3) := dk_180 0 54 (dk_at dksX18_single_1 20 rfl rfl)
theorem dX18_single_47 : decode cX18_single 47 = .ok (.iload_n 2, 1) := dk_28 (dk_at dksX18_single_1 23 rfl rfl)
theorem dX18_single_48 : decode cX18_single 48 = .ok (.iaload, 1) := dk_46 (dk_at dksX18_single_2 0 rfl rfl)
theorem dX18_single_49 : decode cX18_single 49 = .ok (.isub, 1) := dk_100 (dk_at dksX18_single_2 1 rfl rfl)
theorem dX18_single_50 : decode cX18_single 50 = .ok (.iload 4, 2) := dk_21 4 (dk_at dksX18_single_2 2 rfl rfl)
theorem dX18_single_52 : decode cX18_single 52 = .ok (.invokevirtual 65, 3) := dk_182 0 65 (dk_at dksX18_single_2 4 rfl rfl)
theorem dX18_single_55 : decode cX18_single 55 = .ok (.ifCond .eq 6, 3) := dk_153 0 6 (dk_at dksX18_single_2 7 rfl rfl)
theorem dX18_single_58 : decode cX18_single 58 = .ok (.goto 36, 3) := dk_167 0 36 (dk_at dksX18_single_2 10 rfl rfl)
theorem dX18_single_61 : decode cX18_single 61 = .ok (.aload_n 0, 1) := dk_42 (dk_at dksX18_single_2 13 rfl rfl)
theorem dX18_single_62 : decode cX18_single 62 = .ok (.getfield 37, 3) := dk_180 0 37 (dk_at dksX18_single_2 14 rfl rfl)
theorem dX18_single_65 : decode cX18_single 65 = .ok (.iload_n 1, 1) := dk_27 (dk_at dksX18_single_2 17 rfl rfl)
theorem dX18_single_66 : decode cX18_single 66 = .ok (.invokevirtual 69, 3) := dk_182 0 69 (dk_at dksX18_single_2 18 rfl rfl)
theorem dX18_single_69 : decode cX18_single 69 = .ok (.aload_n 0, 1) := dk_42 (dk_at dksX18_single_2 21 rfl rfl)
theorem dX18_single_70 : decode cX18_single 70 = .ok (.getfield 37, 3) := dk_180 0 37 (dk_at dksX18_single_3 0 rfl rfl)
theorem dX18_single_73 : decode cX18_single 73 = .ok (.iload_n 2, 1) := dk_28 (dk_at dksX18_single_3 3 rfl rfl)
theorem dX18_single_74 : decode cX18_single 74 = .ok (.iconst 1, 1) := dk_4 (dk_at dksX18_single_3 4 rfl rfl)
theorem dX18_single_75 : decode cX18_single 75 = .ok (.aload_n 0, 1) := dk_42 (dk_at dksX18_single_3 5 rfl rfl)
theorem dX18_single_76 : decode cX18_single 76 = .ok (.getfield 33, 3) := dk_180 0 33 (dk_at dksX18_single_3 6 rfl rfl)
theorem dX18_single_79 : decode cX18_single 79 = .ok (.getfield 54, 3) := dk_180 0 54 (dk_at dksX18_single_3 9 rfl rfl)
theorem dX18_single_82 : decode cX18_single 82 = .ok (.iload_n 2, 1) := dk_28 (dk_at dksX18_single_3 12 rfl rfl)
theorem dX18_single_83 : decode cX18_single 83 = .ok (.iaload, 1) := dk_46 (dk_at dksX18_single_3 13 rfl rfl)
theorem dX18_single_84 : decode cX18_single 84 = .ok (.isub, 1) := dk_100 (dk_at dksX18_single_3 14 rfl rfl)
theorem dX18_single_85 : decode cX18_single 85 = .ok (.iload 4, 2) := dk_21 4 (dk_at dksX18_single_3 15 rfl rfl)
theorem dX18_single_87 : decode cX18_single 87 = .ok (.invokevirtual 73, 3) := dk_182 0 73 (dk_at dksX18_single_3 17 rfl rfl)
theorem dX18_single_90 : decode cX18_single 90 = .ok (.aload_n 0, 1) := dk_42 (dk_at dksX18_single_3 20 rfl rfl)
theorem dX18_single_91 : decode cX18_single 91 = .ok (.invokevirtual 77, 3) := dk_182 0 77 (dk_at dksX18_single_3 21 rfl rfl)
theorem dX18_single_94 : decode cX18_single 94 = .ok (.iload 4, 2) := dk_21 4 (dk_at dksX18_single_4 0 rfl rfl)
theorem dX18_single_96 : decode cX18_single 96 = .ok (.iload_n 3, 1) := dk_29 (dk_at dksX18_single_4 2 rfl rfl)
theorem dX18_single_97 : decode cX18_single 97 = .ok (.isub, 1) := dk_100 (dk_at dksX18_single_4 3 rfl rfl)
theorem dX18_single_98 : decode cX18_single 98 = .ok (.iload_n 3, 1) := dk_29 (dk_at dksX18_single_4 4 rfl rfl)
theorem dX18_single_99 : decode cX18_single 99 = .ok (.iand, 1) := dk_126 (dk_at dksX18_single_4 5 rfl rfl)
theorem dX18_single_100 : decode cX18_single 100 = .ok (.istore 4, 2) := dk_54 4 (dk_at dksX18_single_4 6 rfl rfl)
theorem dX18_single_102 : decode cX18_single 102 = .ok (.goto (-78), 3) := dk_167 255 178 (dk_at dksX18_single_4 8 rfl rfl)
theorem dX18_single_105 : decode cX18_single 105 = .ok (.return_, 1) := dk_177 (dk_at dksX18_single_4 11 rfl rfl)
abbrev cX18_come : ByteArray := prog_14_method_2_code
def yX18_come : MethodName := ⟨RX18, "come", "()V"⟩
def dkwX18_come_3 : List UInt8 := [4, 96, 181, 0, 57, 177]
abbrev dktX18_come_3 : List UInt8 := dkwX18_come_3 ++ []
def dkwX18_come_2 : List UInt8 := [27, 4, 84, 42, 180, 0, 48, 42, 180, 0, 57, 42, 180, 0, 37, 182, 0, 61, 79, 42, 89, 180, 0, 57]
abbrev dktX18_come_2 : List UInt8 := dkwX18_come_2 ++ dktX18_come_3
def dkwX18_come_1 : List UInt8 := [180, 0, 37, 180, 0, 54, 4, 46, 128, 60, 42, 180, 0, 40, 27, 51, 153, 0, 4, 177, 42, 180, 0, 40]
abbrev dktX18_come_1 : List UInt8 := dkwX18_come_1 ++ dktX18_come_2
def dkwX18_come_0 : List UInt8 := [42, 180, 0, 37, 180, 0, 51, 4, 46, 5, 120, 42, 180, 0, 37, 180, 0, 54, 3, 46, 4, 120, 128, 42]
abbrev dktX18_come_0 : List UInt8 := dkwX18_come_0 ++ dktX18_come_1
theorem dksX18_come_0 : cX18_come.data.toList.drop 0 = dktX18_come_0 := by decide +kernel
theorem dksX18_come_1 : cX18_come.data.toList.drop 24 = dktX18_come_1 := dk_seg dksX18_come_0 24 rfl rfl
theorem dksX18_come_2 : cX18_come.data.toList.drop 48 = dktX18_come_2 := dk_seg dksX18_come_1 24 rfl rfl
theorem dksX18_come_3 : cX18_come.data.toList.drop 72 = dktX18_come_3 := dk_seg dksX18_come_2 24 rfl rfl
theorem dX18_come_0 : decode cX18_come 0 = .ok (.aload_n 0, 1) := dk_42 (dk_at dksX18_come_0 0 rfl rfl)
theorem dX18_come_1 : decode cX18_come 1 = .ok (.getfield 37, 3) := dk_180 0 37 (dk_at dksX18_come_0 1 rfl rfl)
theorem dX18_come_4 : decode cX18_come 4 = .ok (.getfield 51, 3) := dk_180 0 51 (dk_at dksX18_come_0 4 rfl rfl)
theorem dX18_come_7 : decode cX18_come 7 = .ok (.iconst 1, 1) := dk_4 (dk_at dksX18_come_0 7 rfl rfl)
theorem dX18_come_8 : decode cX18_come 8 = .ok (.iaload, 1) := dk_46 (dk_at dksX18_come_0 8 rfl rfl)
theorem dX18_come_9 : decode cX18_come 9 = .ok (.iconst 2, 1) := dk_5 (dk_at dksX18_come_0 9 rfl rfl)
theorem dX18_come_10 : decode cX18_come 10 = .ok (.ishl, 1) := dk_120 (dk_at dksX18_come_0 10 rfl rfl)
theorem dX18_come_11 : decode cX18_come 11 = .ok (.aload_n 0, 1) := dk_42 (dk_at dksX18_come_0 11 rfl rfl)
theorem dX18_come_12 : decode cX18_come 12 = .ok (.getfield 37, 3) := dk_180 0 37 (dk_at dksX18_come_0 12 rfl rfl)
theorem dX18_come_15 : decode cX18_come 15 = .ok (.getfield 54, 3) := dk_180 0 54 (dk_at dksX18_come_0 15 rfl rfl)
theorem dX18_come_18 : decode cX18_come 18 = .ok (.iconst 0, 1) := dk_3 (dk_at dksX18_come_0 18 rfl rfl)
theorem dX18_come_19 : decode cX18_come 19 = .ok (.iaload, 1) := dk_46 (dk_at dksX18_come_0 19 rfl rfl)
theorem dX18_come_20 : decode cX18_come 20 = .ok (.iconst 1, 1) := dk_4 (dk_at dksX18_come_0 20 rfl rfl)
theorem dX18_come_21 : decode cX18_come 21 = .ok (.ishl, 1) := dk_120 (dk_at dksX18_come_0 21 rfl rfl)
theorem dX18_come_22 : decode cX18_come 22 = .ok (.ior, 1) := dk_128 (dk_at dksX18_come_0 22 rfl rfl)
theorem dX18_come_23 : decode cX18_come 23 = .ok (.aload_n 0, 1) := dk_42 (dk_at dksX18_come_0 23 rfl rfl)
theorem dX18_come_24 : decode cX18_come 24 = .ok (.getfield 37, 3) := dk_180 0 37 (dk_at dksX18_come_1 0 rfl rfl)
theorem dX18_come_27 : decode cX18_come 27 = .ok (.getfield 54, 3) := dk_180 0 54 (dk_at dksX18_come_1 3 rfl rfl)
theorem dX18_come_30 : decode cX18_come 30 = .ok (.iconst 1, 1) := dk_4 (dk_at dksX18_come_1 6 rfl rfl)
theorem dX18_come_31 : decode cX18_come 31 = .ok (.iaload, 1) := dk_46 (dk_at dksX18_come_1 7 rfl rfl)
theorem dX18_come_32 : decode cX18_come 32 = .ok (.ior, 1) := dk_128 (dk_at dksX18_come_1 8 rfl rfl)
theorem dX18_come_33 : decode cX18_come 33 = .ok (.istore_n 1, 1) := dk_60 (dk_at dksX18_come_1 9 rfl rfl)
theorem dX18_come_34 : decode cX18_come 34 = .ok (.aload_n 0, 1) := dk_42 (dk_at dksX18_come_1 10 rfl rfl)
theorem dX18_come_35 : decode cX18_come 35 = .ok (.getfield 40, 3) := dk_180 0 40 (dk_at dksX18_come_1 11 rfl rfl)
theorem dX18_come_38 : decode cX18_come 38 = .ok (.iload_n 1, 1) := dk_27 (dk_at dksX18_come_1 14 rfl rfl)
theorem dX18_come_39 : decode cX18_come 39 = .ok (.baload, 1) := dk_51 (dk_at dksX18_come_1 15 rfl rfl)
theorem dX18_come_40 : decode cX18_come 40 = .ok (.ifCond .eq 4, 3) := dk_153 0 4 (dk_at dksX18_come_1 16 rfl rfl)
theorem dX18_come_43 : decode cX18_come 43 = .ok (.return_, 1) := dk_177 (dk_at dksX18_come_1 19 rfl rfl)
theorem dX18_come_44 : decode cX18_come 44 = .ok (.aload_n 0, 1) := dk_42 (dk_at dksX18_come_1 20 rfl rfl)
theorem dX18_come_45 : decode cX18_come 45 = .ok (.getfield 40, 3) := dk_180 0 40 (dk_at dksX18_come_1 21 rfl rfl)
theorem dX18_come_48 : decode cX18_come 48 = .ok (.iload_n 1, 1) := dk_27 (dk_at dksX18_come_2 0 rfl rfl)
theorem dX18_come_49 : decode cX18_come 49 = .ok (.iconst 1, 1) := dk_4 (dk_at dksX18_come_2 1 rfl rfl)
theorem dX18_come_50 : decode cX18_come 50 = .ok (.bastore, 1) := dk_84 (dk_at dksX18_come_2 2 rfl rfl)
theorem dX18_come_51 : decode cX18_come 51 = .ok (.aload_n 0, 1) := dk_42 (dk_at dksX18_come_2 3 rfl rfl)
theorem dX18_come_52 : decode cX18_come 52 = .ok (.getfield 48, 3) := dk_180 0 48 (dk_at dksX18_come_2 4 rfl rfl)
theorem dX18_come_55 : decode cX18_come 55 = .ok (.aload_n 0, 1) := dk_42 (dk_at dksX18_come_2 7 rfl rfl)
theorem dX18_come_56 : decode cX18_come 56 = .ok (.getfield 57, 3) := dk_180 0 57 (dk_at dksX18_come_2 8 rfl rfl)
theorem dX18_come_59 : decode cX18_come 59 = .ok (.aload_n 0, 1) := dk_42 (dk_at dksX18_come_2 11 rfl rfl)
theorem dX18_come_60 : decode cX18_come 60 = .ok (.getfield 37, 3) := dk_180 0 37 (dk_at dksX18_come_2 12 rfl rfl)
theorem dX18_come_63 : decode cX18_come 63 = .ok (.invokevirtual 61, 3) := dk_182 0 61 (dk_at dksX18_come_2 15 rfl rfl)
theorem dX18_come_66 : decode cX18_come 66 = .ok (.iastore, 1) := dk_79 (dk_at dksX18_come_2 18 rfl rfl)
theorem dX18_come_67 : decode cX18_come 67 = .ok (.aload_n 0, 1) := dk_42 (dk_at dksX18_come_2 19 rfl rfl)
theorem dX18_come_68 : decode cX18_come 68 = .ok (.dup, 1) := dk_89 (dk_at dksX18_come_2 20 rfl rfl)
theorem dX18_come_69 : decode cX18_come 69 = .ok (.getfield 57, 3) := dk_180 0 57 (dk_at dksX18_come_2 21 rfl rfl)
theorem dX18_come_72 : decode cX18_come 72 = .ok (.iconst 1, 1) := dk_4 (dk_at dksX18_come_3 0 rfl rfl)
theorem dX18_come_73 : decode cX18_come 73 = .ok (.iadd, 1) := dk_96 (dk_at dksX18_come_3 1 rfl rfl)
theorem dX18_come_74 : decode cX18_come 74 = .ok (.putfield 57, 3) := dk_181 0 57 (dk_at dksX18_come_3 2 rfl rfl)
theorem dX18_come_77 : decode cX18_come 77 = .ok (.return_, 1) := dk_177 (dk_at dksX18_come_3 5 rfl rfl)
abbrev cX18_pair : ByteArray := prog_14_method_5_code
def yX18_pair : MethodName := ⟨RX18, "pair", "(I)V"⟩
def dkwX18_pair_4 : List UInt8 := [126, 54, 5, 167, 255, 227, 21, 4, 28, 100, 28, 126, 54, 4, 167, 255, 193, 177]
abbrev dktX18_pair_4 : List UInt8 := dkwX18_pair_4 ++ []
def dkwX18_pair_3 : List UInt8 := [153, 0, 30, 42, 27, 21, 4, 21, 5, 182, 0, 97, 153, 0, 7, 42, 182, 0, 77, 21, 5, 29, 100, 29]
abbrev dktX18_pair_3 : List UInt8 := dkwX18_pair_3 ++ dktX18_pair_4
def dkwX18_pair_2 : List UInt8 := [153, 0, 64, 21, 4, 184, 0, 92, 6, 164, 0, 6, 167, 0, 41, 29, 29, 116, 126, 54, 5, 21, 5]
abbrev dktX18_pair_2 : List UInt8 := dkwX18_pair_2 ++ dktX18_pair_3
def dkwX18_pair_1 : List UInt8 := [180, 0, 51, 42, 180, 0, 33, 180, 0, 54, 4, 46, 46, 62, 28, 28, 116, 126, 54, 4, 21, 4]
abbrev dktX18_pair_1 : List UInt8 := dkwX18_pair_1 ++ dktX18_pair_2
def dkwX18_pair_0 : List UInt8 := [42, 180, 0, 33, 180, 0, 51, 42, 180, 0, 33, 180, 0, 54, 3, 46, 46, 61, 42, 180, 0, 33]
abbrev dktX18_pair_0 : List UInt8 := dkwX18_pair_0 ++ dktX18_pair_1
theorem dksX18_pair_0 : cX18_pair.data.toList.drop 0 = dktX18_pair_0 := by decide +kernel
theorem dksX18_pair_1 : cX18_pair.data.toList.drop 22 = dktX18_pair_1 := dk_seg dksX18_pair_0 22 rfl rfl
theorem dksX18_pair_2 : cX18_pair.data.toList.drop 44 = dktX18_pair_2 := dk_seg dksX18_pair_1 22 rfl rfl
theorem dksX18_pair_3 : cX18_pair.data.toList.drop 67 = dktX18_pair_3 := dk_seg dksX18_pair_2 23 rfl rfl
theorem dksX18_pair_4 : cX18_pair.data.toList.drop 91 = dktX18_pair_4 := dk_seg dksX18_pair_3 24 rfl rfl
theorem dX18_pair_0 : decode cX18_pair 0 = .ok (.aload_n 0, 1) := dk_42 (dk_at dksX18_pair_0 0 rfl rfl)
theorem dX18_pair_1 : decode cX18_pair 1 = .ok (.getfield 33, 3) := dk_180 0 33 (dk_at dksX18_pair_0 1 rfl rfl)
theorem dX18_pair_4 : decode cX18_pair 4 = .ok (.getfield 51, 3) := dk_180 0 51 (dk_at dksX18_pair_0 4 rfl rfl)
theorem dX18_pair_7 : decode cX18_pair 7 = .ok (.aload_n 0, 1) := dk_42 (dk_at dksX18_pair_0 7 rfl rfl)
theorem dX18_pair_8 : decode cX18_pair 8 = .ok (.getfield 33, 3) := dk_180 0 33 (dk_at dksX18_pair_0 8 rfl rfl)
theorem dX18_pair_11 : decode cX18_pair 11 = .ok (.getfield 54, 3) := dk_180 0 54 (dk_at dksX18_pair_0 11 rfl rfl)
theorem dX18_pair_14 : decode cX18_pair 14 = .ok (.iconst 0, 1) := dk_3 (dk_at dksX18_pair_0 14 rfl rfl)
theorem dX18_pair_15 : decode cX18_pair 15 = .ok (.iaload, 1) := dk_46 (dk_at dksX18_pair_0 15 rfl rfl)
theorem dX18_pair_16 : decode cX18_pair 16 = .ok (.iaload, 1) := dk_46 (dk_at dksX18_pair_0 16 rfl rfl)
theorem dX18_pair_17 : decode cX18_pair 17 = .ok (.istore_n 2, 1) := dk_61 (dk_at dksX18_pair_0 17 rfl rfl)
theorem dX18_pair_18 : decode cX18_pair 18 = .ok (.aload_n 0, 1) := dk_42 (dk_at dksX18_pair_0 18 rfl rfl)
theorem dX18_pair_19 : decode cX18_pair 19 = .ok (.getfield 33, 3) := dk_180 0 33 (dk_at dksX18_pair_0 19 rfl rfl)
theorem dX18_pair_22 : decode cX18_pair 22 = .ok (.getfield 51, 3) := dk_180 0 51 (dk_at dksX18_pair_1 0 rfl rfl)
theorem dX18_pair_25 : decode cX18_pair 25 = .ok (.aload_n 0, 1) := dk_42 (dk_at dksX18_pair_1 3 rfl rfl)
theorem dX18_pair_26 : decode cX18_pair 26 = .ok (.getfield 33, 3) := dk_180 0 33 (dk_at dksX18_pair_1 4 rfl rfl)
theorem dX18_pair_29 : decode cX18_pair 29 = .ok (.getfield 54, 3) := dk_180 0 54 (dk_at dksX18_pair_1 7 rfl rfl)
theorem dX18_pair_32 : decode cX18_pair 32 = .ok (.iconst 1, 1) := dk_4 (dk_at dksX18_pair_1 10 rfl rfl)
theorem dX18_pair_33 : decode cX18_pair 33 = .ok (.iaload, 1) := dk_46 (dk_at dksX18_pair_1 11 rfl rfl)
theorem dX18_pair_34 : decode cX18_pair 34 = .ok (.iaload, 1) := dk_46 (dk_at dksX18_pair_1 12 rfl rfl)
theorem dX18_pair_35 : decode cX18_pair 35 = .ok (.istore_n 3, 1) := dk_62 (dk_at dksX18_pair_1 13 rfl rfl)
theorem dX18_pair_36 : decode cX18_pair 36 = .ok (.iload_n 2, 1) := dk_28 (dk_at dksX18_pair_1 14 rfl rfl)
theorem dX18_pair_37 : decode cX18_pair 37 = .ok (.iload_n 2, 1) := dk_28 (dk_at dksX18_pair_1 15 rfl rfl)
theorem dX18_pair_38 : decode cX18_pair 38 = .ok (.ineg, 1) := dk_116 (dk_at dksX18_pair_1 16 rfl rfl)
theorem dX18_pair_39 : decode cX18_pair 39 = .ok (.iand, 1) := dk_126 (dk_at dksX18_pair_1 17 rfl rfl)
theorem dX18_pair_40 : decode cX18_pair 40 = .ok (.istore 4, 2) := dk_54 4 (dk_at dksX18_pair_1 18 rfl rfl)
theorem dX18_pair_42 : decode cX18_pair 42 = .ok (.iload 4, 2) := dk_21 4 (dk_at dksX18_pair_1 20 rfl rfl)
theorem dX18_pair_44 : decode cX18_pair 44 = .ok (.ifCond .eq 64, 3) := dk_153 0 64 (dk_at dksX18_pair_2 0 rfl rfl)
theorem dX18_pair_47 : decode cX18_pair 47 = .ok (.iload 4, 2) := dk_21 4 (dk_at dksX18_pair_2 3 rfl rfl)
theorem dX18_pair_49 : decode cX18_pair 49 = .ok (.invokestatic 92, 3) := dk_184 0 92 (dk_at dksX18_pair_2 5 rfl rfl)
theorem dX18_pair_52 : decode cX18_pair 52 = .ok (.iconst 3, 1) := dk_6 (dk_at dksX18_pair_2 8 rfl rfl)
theorem dX18_pair_53 : decode cX18_pair 53 = .ok (.if_icmp .le 6, 3) := dk_164 0 6 (dk_at dksX18_pair_2 9 rfl rfl)
theorem dX18_pair_56 : decode cX18_pair 56 = .ok (.goto 41, 3) := dk_167 0 41 (dk_at dksX18_pair_2 12 rfl rfl)
theorem dX18_pair_59 : decode cX18_pair 59 = .ok (.iload_n 3, 1) := dk_29 (dk_at dksX18_pair_2 15 rfl rfl)
theorem dX18_pair_60 : decode cX18_pair 60 = .ok (.iload_n 3, 1) := dk_29 (dk_at dksX18_pair_2 16 rfl rfl)
theorem dX18_pair_61 : decode cX18_pair 61 = .ok (.ineg, 1) := dk_116 (dk_at dksX18_pair_2 17 rfl rfl)
theorem dX18_pair_62 : decode cX18_pair 62 = .ok (.iand, 1) := dk_126 (dk_at dksX18_pair_2 18 rfl rfl)
theorem dX18_pair_63 : decode cX18_pair 63 = .ok (.istore 5, 2) := dk_54 5 (dk_at dksX18_pair_2 19 rfl rfl)
theorem dX18_pair_65 : decode cX18_pair 65 = .ok (.iload 5, 2) := dk_21 5 (dk_at dksX18_pair_2 21 rfl rfl)
theorem dX18_pair_67 : decode cX18_pair 67 = .ok (.ifCond .eq 30, 3) := dk_153 0 30 (dk_at dksX18_pair_3 0 rfl rfl)
theorem dX18_pair_70 : decode cX18_pair 70 = .ok (.aload_n 0, 1) := dk_42 (dk_at dksX18_pair_3 3 rfl rfl)
theorem dX18_pair_71 : decode cX18_pair 71 = .ok (.iload_n 1, 1) := dk_27 (dk_at dksX18_pair_3 4 rfl rfl)
theorem dX18_pair_72 : decode cX18_pair 72 = .ok (.iload 4, 2) := dk_21 4 (dk_at dksX18_pair_3 5 rfl rfl)
theorem dX18_pair_74 : decode cX18_pair 74 = .ok (.iload 5, 2) := dk_21 5 (dk_at dksX18_pair_3 7 rfl rfl)
theorem dX18_pair_76 : decode cX18_pair 76 = .ok (.invokevirtual 97, 3) := dk_182 0 97 (dk_at dksX18_pair_3 9 rfl rfl)
theorem dX18_pair_79 : decode cX18_pair 79 = .ok (.ifCond .eq 7, 3) := dk_153 0 7 (dk_at dksX18_pair_3 12 rfl rfl)
theorem dX18_pair_82 : decode cX18_pair 82 = .ok (.aload_n 0, 1) := dk_42 (dk_at dksX18_pair_3 15 rfl rfl)
theorem dX18_pair_83 : decode cX18_pair 83 = .ok (.invokevirtual 77, 3) := dk_182 0 77 (dk_at dksX18_pair_3 16 rfl rfl)
theorem dX18_pair_86 : decode cX18_pair 86 = .ok (.iload 5, 2) := dk_21 5 (dk_at dksX18_pair_3 19 rfl rfl)
theorem dX18_pair_88 : decode cX18_pair 88 = .ok (.iload_n 3, 1) := dk_29 (dk_at dksX18_pair_3 21 rfl rfl)
theorem dX18_pair_89 : decode cX18_pair 89 = .ok (.isub, 1) := dk_100 (dk_at dksX18_pair_3 22 rfl rfl)
theorem dX18_pair_90 : decode cX18_pair 90 = .ok (.iload_n 3, 1) := dk_29 (dk_at dksX18_pair_3 23 rfl rfl)
theorem dX18_pair_91 : decode cX18_pair 91 = .ok (.iand, 1) := dk_126 (dk_at dksX18_pair_4 0 rfl rfl)
theorem dX18_pair_92 : decode cX18_pair 92 = .ok (.istore 5, 2) := dk_54 5 (dk_at dksX18_pair_4 1 rfl rfl)
theorem dX18_pair_94 : decode cX18_pair 94 = .ok (.goto (-29), 3) := dk_167 255 227 (dk_at dksX18_pair_4 3 rfl rfl)
theorem dX18_pair_97 : decode cX18_pair 97 = .ok (.iload 4, 2) := dk_21 4 (dk_at dksX18_pair_4 6 rfl rfl)
theorem dX18_pair_99 : decode cX18_pair 99 = .ok (.iload_n 2, 1) := dk_28 (dk_at dksX18_pair_4 8 rfl rfl)
theorem dX18_pair_100 : decode cX18_pair 100 = .ok (.isub, 1) := dk_100 (dk_at dksX18_pair_4 9 rfl rfl)
theorem dX18_pair_101 : decode cX18_pair 101 = .ok (.iload_n 2, 1) := dk_28 (dk_at dksX18_pair_4 10 rfl rfl)
theorem dX18_pair_102 : decode cX18_pair 102 = .ok (.iand, 1) := dk_126 (dk_at dksX18_pair_4 11 rfl rfl)
theorem dX18_pair_103 : decode cX18_pair 103 = .ok (.istore 4, 2) := dk_54 4 (dk_at dksX18_pair_4 12 rfl rfl)
theorem dX18_pair_105 : decode cX18_pair 105 = .ok (.goto (-63), 3) := dk_167 255 193 (dk_at dksX18_pair_4 14 rfl rfl)
theorem dX18_pair_108 : decode cX18_pair 108 = .ok (.return_, 1) := dk_177 (dk_at dksX18_pair_4 17 rfl rfl)
abbrev cX18_both : ByteArray := prog_14_method_4_code
def yX18_both : MethodName := ⟨RX18, "both", "(III)Z"⟩
def dkwX18_both_6 : List UInt8 := [182, 0, 73, 42, 180, 0, 37, 3, 3, 182, 0, 88, 154, 0, 7, 4, 167, 0, 4, 3, 172]
abbrev dktX18_both_6 : List UInt8 := dkwX18_both_6 ++ []
def dkwX18_both_5 : List UInt8 := [100, 28, 182, 0, 73, 42, 180, 0, 37, 4, 4, 42, 180, 0, 33, 180, 0, 54, 4, 46, 100, 29]
abbrev dktX18_both_5 : List UInt8 := dkwX18_both_5 ++ dktX18_both_6
def dkwX18_both_4 : List UInt8 := [172, 42, 180, 0, 37, 27, 182, 0, 69, 42, 180, 0, 37, 3, 4, 42, 180, 0, 33, 180, 0, 54, 3, 46]
abbrev dktX18_both_4 : List UInt8 := dkwX18_both_4 ++ dktX18_both_5
def dkwX18_both_3 : List UInt8 := [180, 0, 33, 29, 182, 0, 84, 128, 42, 180, 0, 33, 6, 28, 29, 128, 182, 0, 88, 128, 153, 0, 5, 3]
abbrev dktX18_both_3 : List UInt8 := dkwX18_both_3 ++ dktX18_both_4
def dkwX18_both_2 : List UInt8 := [180, 0, 54, 4, 46, 100, 29, 182, 0, 80, 153, 0, 5, 3, 172, 42, 180, 0, 33, 28, 182, 0, 84, 42]
abbrev dktX18_both_2 : List UInt8 := dkwX18_both_2 ++ dktX18_both_3
def dkwX18_both_1 : List UInt8 := [46, 100, 28, 182, 0, 80, 154, 0, 30, 42, 180, 0, 24, 42, 180, 0, 33, 4, 4, 42, 180, 0, 33]
abbrev dktX18_both_1 : List UInt8 := dkwX18_both_1 ++ dktX18_both_2
def dkwX18_both_0 : List UInt8 := [28, 29, 126, 154, 0, 57, 42, 180, 0, 24, 42, 180, 0, 33, 3, 4, 42, 180, 0, 33, 180, 0, 54, 3]
abbrev dktX18_both_0 : List UInt8 := dkwX18_both_0 ++ dktX18_both_1
theorem dksX18_both_0 : cX18_both.data.toList.drop 0 = dktX18_both_0 := by decide +kernel
theorem dksX18_both_1 : cX18_both.data.toList.drop 24 = dktX18_both_1 := dk_seg dksX18_both_0 24 rfl rfl
theorem dksX18_both_2 : cX18_both.data.toList.drop 47 = dktX18_both_2 := dk_seg dksX18_both_1 23 rfl rfl
theorem dksX18_both_3 : cX18_both.data.toList.drop 71 = dktX18_both_3 := dk_seg dksX18_both_2 24 rfl rfl
theorem dksX18_both_4 : cX18_both.data.toList.drop 95 = dktX18_both_4 := dk_seg dksX18_both_3 24 rfl rfl
theorem dksX18_both_5 : cX18_both.data.toList.drop 119 = dktX18_both_5 := dk_seg dksX18_both_4 24 rfl rfl
theorem dksX18_both_6 : cX18_both.data.toList.drop 141 = dktX18_both_6 := dk_seg dksX18_both_5 22 rfl rfl
theorem dX18_both_0 : decode cX18_both 0 = .ok (.iload_n 2, 1) := dk_28 (dk_at dksX18_both_0 0 rfl rfl)
theorem dX18_both_1 : decode cX18_both 1 = .ok (.iload_n 3, 1) := dk_29 (dk_at dksX18_both_0 1 rfl rfl)
theorem dX18_both_2 : decode cX18_both 2 = .ok (.iand, 1) := dk_126 (dk_at dksX18_both_0 2 rfl rfl)
theorem dX18_both_3 : decode cX18_both 3 = .ok (.ifCond .ne 57, 3) := dk_154 0 57 (dk_at dksX18_both_0 3 rfl rfl)
theorem dX18_both_6 : decode cX18_both 6 = .ok (.aload_n 0, 1) := dk_42 (dk_at dksX18_both_0 6 rfl rfl)
theorem dX18_both_7 : decode cX18_both 7 = .ok (.getfield 24, 3) := dk_180 0 24 (dk_at dksX18_both_0 7 rfl rfl)
theorem dX18_both_10 : decode cX18_both 10 = .ok (.aload_n 0, 1) := dk_42 (dk_at dksX18_both_0 10 rfl rfl)
theorem dX18_both_11 : decode cX18_both 11 = .ok (.getfield 33, 3) := dk_180 0 33 (dk_at dksX18_both_0 11 rfl rfl)
theorem dX18_both_14 : decode cX18_both 14 = .ok (.iconst 0, 1) := dk_3 (dk_at dksX18_both_0 14 rfl rfl)
theorem dX18_both_15 : decode cX18_both 15 = .ok (.iconst 1, 1) := dk_4 (dk_at dksX18_both_0 15 rfl rfl)
theorem dX18_both_16 : decode cX18_both 16 = .ok (.aload_n 0, 1) := dk_42 (dk_at dksX18_both_0 16 rfl rfl)
theorem dX18_both_17 : decode cX18_both 17 = .ok (.getfield 33, 3) := dk_180 0 33 (dk_at dksX18_both_0 17 rfl rfl)
theorem dX18_both_20 : decode cX18_both 20 = .ok (.getfield 54, 3) := dk_180 0 54 (dk_at dksX18_both_0 20 rfl rfl)
theorem dX18_both_23 : decode cX18_both 23 = .ok (.iconst 0, 1) := dk_3 (dk_at dksX18_both_0 23 rfl rfl)
theorem dX18_both_24 : decode cX18_both 24 = .ok (.iaload, 1) := dk_46 (dk_at dksX18_both_1 0 rfl rfl)
theorem dX18_both_25 : decode cX18_both 25 = .ok (.isub, 1) := dk_100 (dk_at dksX18_both_1 1 rfl rfl)
theorem dX18_both_26 : decode cX18_both 26 = .ok (.iload_n 2, 1) := dk_28 (dk_at dksX18_both_1 2 rfl rfl)
theorem dX18_both_27 : decode cX18_both 27 = .ok (.invokevirtual 80, 3) := dk_182 0 80 (dk_at dksX18_both_1 3 rfl rfl)
theorem dX18_both_30 : decode cX18_both 30 = .ok (.ifCond .ne 30, 3) := dk_154 0 30 (dk_at dksX18_both_1 6 rfl rfl)
theorem dX18_both_33 : decode cX18_both 33 = .ok (.aload_n 0, 1) := dk_42 (dk_at dksX18_both_1 9 rfl rfl)
theorem dX18_both_34 : decode cX18_both 34 = .ok (.getfield 24, 3) := dk_180 0 24 (dk_at dksX18_both_1 10 rfl rfl)
theorem dX18_both_37 : decode cX18_both 37 = .ok (.aload_n 0, 1) := dk_42 (dk_at dksX18_both_1 13 rfl rfl)
theorem dX18_both_38 : decode cX18_both 38 = .ok (.getfield 33, 3) := dk_180 0 33 (dk_at dksX18_both_1 14 rfl rfl)
theorem dX18_both_41 : decode cX18_both 41 = .ok (.iconst 1, 1) := dk_4 (dk_at dksX18_both_1 17 rfl rfl)
theorem dX18_both_42 : decode cX18_both 42 = .ok (.iconst 1, 1) := dk_4 (dk_at dksX18_both_1 18 rfl rfl)
theorem dX18_both_43 : decode cX18_both 43 = .ok (.aload_n 0, 1) := dk_42 (dk_at dksX18_both_1 19 rfl rfl)
theorem dX18_both_44 : decode cX18_both 44 = .ok (.getfield 33, 3) := dk_180 0 33 (dk_at dksX18_both_1 20 rfl rfl)
theorem dX18_both_47 : decode cX18_both 47 = .ok (.getfield 54, 3) := dk_180 0 54 (dk_at dksX18_both_2 0 rfl rfl)
theorem dX18_both_50 : decode cX18_both 50 = .ok (.iconst 1, 1) := dk_4 (dk_at dksX18_both_2 3 rfl rfl)
theorem dX18_both_51 : decode cX18_both 51 = .ok (.iaload, 1) := dk_46 (dk_at dksX18_both_2 4 rfl rfl)
theorem dX18_both_52 : decode cX18_both 52 = .ok (.isub, 1) := dk_100 (dk_at dksX18_both_2 5 rfl rfl)
theorem dX18_both_53 : decode cX18_both 53 = .ok (.iload_n 3, 1) := dk_29 (dk_at dksX18_both_2 6 rfl rfl)
theorem dX18_both_54 : decode cX18_both 54 = .ok (.invokevirtual 80, 3) := dk_182 0 80 (dk_at dksX18_both_2 7 rfl rfl)
theorem dX18_both_57 : decode cX18_both 57 = .ok (.ifCond .eq 5, 3) := dk_153 0 5 (dk_at dksX18_both_2 10 rfl rfl)
theorem dX18_both_60 : decode cX18_both 60 = .ok (.iconst 0, 1) := dk_3 (dk_at dksX18_both_2 13 rfl rfl)
theorem dX18_both_61 : decode cX18_both 61 = .ok (.ireturn, 1) := dk_172 (dk_at dksX18_both_2 14 rfl rfl)
theorem dX18_both_62 : decode cX18_both 62 = .ok (.aload_n 0, 1) := dk_42 (dk_at dksX18_both_2 15 rfl rfl)
theorem dX18_both_63 : decode cX18_both 63 = .ok (.getfield 33, 3) := dk_180 0 33 (dk_at dksX18_both_2 16 rfl rfl)
theorem dX18_both_66 : decode cX18_both 66 = .ok (.iload_n 2, 1) := dk_28 (dk_at dksX18_both_2 19 rfl rfl)
theorem dX18_both_67 : decode cX18_both 67 = .ok (.invokevirtual 84, 3) := dk_182 0 84 (dk_at dksX18_both_2 20 rfl rfl)
theorem dX18_both_70 : decode cX18_both 70 = .ok (.aload_n 0, 1) := dk_42 (dk_at dksX18_both_2 23 rfl rfl)
theorem dX18_both_71 : decode cX18_both 71 = .ok (.getfield 33, 3) := dk_180 0 33 (dk_at dksX18_both_3 0 rfl rfl)
theorem dX18_both_74 : decode cX18_both 74 = .ok (.iload_n 3, 1) := dk_29 (dk_at dksX18_both_3 3 rfl rfl)
theorem dX18_both_75 : decode cX18_both 75 = .ok (.invokevirtual 84, 3) := dk_182 0 84 (dk_at dksX18_both_3 4 rfl rfl)
theorem dX18_both_78 : decode cX18_both 78 = .ok (.ior, 1) := dk_128 (dk_at dksX18_both_3 7 rfl rfl)
theorem dX18_both_79 : decode cX18_both 79 = .ok (.aload_n 0, 1) := dk_42 (dk_at dksX18_both_3 8 rfl rfl)
theorem dX18_both_80 : decode cX18_both 80 = .ok (.getfield 33, 3) := dk_180 0 33 (dk_at dksX18_both_3 9 rfl rfl)
theorem dX18_both_83 : decode cX18_both 83 = .ok (.iconst 3, 1) := dk_6 (dk_at dksX18_both_3 12 rfl rfl)
theorem dX18_both_84 : decode cX18_both 84 = .ok (.iload_n 2, 1) := dk_28 (dk_at dksX18_both_3 13 rfl rfl)
theorem dX18_both_85 : decode cX18_both 85 = .ok (.iload_n 3, 1) := dk_29 (dk_at dksX18_both_3 14 rfl rfl)
theorem dX18_both_86 : decode cX18_both 86 = .ok (.ior, 1) := dk_128 (dk_at dksX18_both_3 15 rfl rfl)
theorem dX18_both_87 : decode cX18_both 87 = .ok (.invokevirtual 88, 3) := dk_182 0 88 (dk_at dksX18_both_3 16 rfl rfl)
theorem dX18_both_90 : decode cX18_both 90 = .ok (.ior, 1) := dk_128 (dk_at dksX18_both_3 19 rfl rfl)
theorem dX18_both_91 : decode cX18_both 91 = .ok (.ifCond .eq 5, 3) := dk_153 0 5 (dk_at dksX18_both_3 20 rfl rfl)
theorem dX18_both_94 : decode cX18_both 94 = .ok (.iconst 0, 1) := dk_3 (dk_at dksX18_both_3 23 rfl rfl)
theorem dX18_both_95 : decode cX18_both 95 = .ok (.ireturn, 1) := dk_172 (dk_at dksX18_both_4 0 rfl rfl)
theorem dX18_both_96 : decode cX18_both 96 = .ok (.aload_n 0, 1) := dk_42 (dk_at dksX18_both_4 1 rfl rfl)
theorem dX18_both_97 : decode cX18_both 97 = .ok (.getfield 37, 3) := dk_180 0 37 (dk_at dksX18_both_4 2 rfl rfl)
theorem dX18_both_100 : decode cX18_both 100 = .ok (.iload_n 1, 1) := dk_27 (dk_at dksX18_both_4 5 rfl rfl)
theorem dX18_both_101 : decode cX18_both 101 = .ok (.invokevirtual 69, 3) := dk_182 0 69 (dk_at dksX18_both_4 6 rfl rfl)
theorem dX18_both_104 : decode cX18_both 104 = .ok (.aload_n 0, 1) := dk_42 (dk_at dksX18_both_4 9 rfl rfl)
theorem dX18_both_105 : decode cX18_both 105 = .ok (.getfield 37, 3) := dk_180 0 37 (dk_at dksX18_both_4 10 rfl rfl)
theorem dX18_both_108 : decode cX18_both 108 = .ok (.iconst 0, 1) := dk_3 (dk_at dksX18_both_4 13 rfl rfl)
theorem dX18_both_109 : decode cX18_both 109 = .ok (.iconst 1, 1) := dk_4 (dk_at dksX18_both_4 14 rfl rfl)
theorem dX18_both_110 : decode cX18_both 110 = .ok (.aload_n 0, 1) := dk_42 (dk_at dksX18_both_4 15 rfl rfl)
theorem dX18_both_111 : decode cX18_both 111 = .ok (.getfield 33, 3) := dk_180 0 33 (dk_at dksX18_both_4 16 rfl rfl)
theorem dX18_both_114 : decode cX18_both 114 = .ok (.getfield 54, 3) := dk_180 0 54 (dk_at dksX18_both_4 19 rfl rfl)
theorem dX18_both_117 : decode cX18_both 117 = .ok (.iconst 0, 1) := dk_3 (dk_at dksX18_both_4 22 rfl rfl)
theorem dX18_both_118 : decode cX18_both 118 = .ok (.iaload, 1) := dk_46 (dk_at dksX18_both_4 23 rfl rfl)
theorem dX18_both_119 : decode cX18_both 119 = .ok (.isub, 1) := dk_100 (dk_at dksX18_both_5 0 rfl rfl)
theorem dX18_both_120 : decode cX18_both 120 = .ok (.iload_n 2, 1) := dk_28 (dk_at dksX18_both_5 1 rfl rfl)
theorem dX18_both_121 : decode cX18_both 121 = .ok (.invokevirtual 73, 3) := dk_182 0 73 (dk_at dksX18_both_5 2 rfl rfl)
theorem dX18_both_124 : decode cX18_both 124 = .ok (.aload_n 0, 1) := dk_42 (dk_at dksX18_both_5 5 rfl rfl)
theorem dX18_both_125 : decode cX18_both 125 = .ok (.getfield 37, 3) := dk_180 0 37 (dk_at dksX18_both_5 6 rfl rfl)
theorem dX18_both_128 : decode cX18_both 128 = .ok (.iconst 1, 1) := dk_4 (dk_at dksX18_both_5 9 rfl rfl)
theorem dX18_both_129 : decode cX18_both 129 = .ok (.iconst 1, 1) := dk_4 (dk_at dksX18_both_5 10 rfl rfl)
theorem dX18_both_130 : decode cX18_both 130 = .ok (.aload_n 0, 1) := dk_42 (dk_at dksX18_both_5 11 rfl rfl)
theorem dX18_both_131 : decode cX18_both 131 = .ok (.getfield 33, 3) := dk_180 0 33 (dk_at dksX18_both_5 12 rfl rfl)
theorem dX18_both_134 : decode cX18_both 134 = .ok (.getfield 54, 3) := dk_180 0 54 (dk_at dksX18_both_5 15 rfl rfl)
theorem dX18_both_137 : decode cX18_both 137 = .ok (.iconst 1, 1) := dk_4 (dk_at dksX18_both_5 18 rfl rfl)
theorem dX18_both_138 : decode cX18_both 138 = .ok (.iaload, 1) := dk_46 (dk_at dksX18_both_5 19 rfl rfl)
theorem dX18_both_139 : decode cX18_both 139 = .ok (.isub, 1) := dk_100 (dk_at dksX18_both_5 20 rfl rfl)
theorem dX18_both_140 : decode cX18_both 140 = .ok (.iload_n 3, 1) := dk_29 (dk_at dksX18_both_5 21 rfl rfl)
theorem dX18_both_141 : decode cX18_both 141 = .ok (.invokevirtual 73, 3) := dk_182 0 73 (dk_at dksX18_both_6 0 rfl rfl)
theorem dX18_both_144 : decode cX18_both 144 = .ok (.aload_n 0, 1) := dk_42 (dk_at dksX18_both_6 3 rfl rfl)
theorem dX18_both_145 : decode cX18_both 145 = .ok (.getfield 37, 3) := dk_180 0 37 (dk_at dksX18_both_6 4 rfl rfl)
theorem dX18_both_148 : decode cX18_both 148 = .ok (.iconst 0, 1) := dk_3 (dk_at dksX18_both_6 7 rfl rfl)
theorem dX18_both_149 : decode cX18_both 149 = .ok (.iconst 0, 1) := dk_3 (dk_at dksX18_both_6 8 rfl rfl)
theorem dX18_both_150 : decode cX18_both 150 = .ok (.invokevirtual 88, 3) := dk_182 0 88 (dk_at dksX18_both_6 9 rfl rfl)
theorem dX18_both_153 : decode cX18_both 153 = .ok (.ifCond .ne 7, 3) := dk_154 0 7 (dk_at dksX18_both_6 12 rfl rfl)
theorem dX18_both_156 : decode cX18_both 156 = .ok (.iconst 1, 1) := dk_4 (dk_at dksX18_both_6 15 rfl rfl)
theorem dX18_both_157 : decode cX18_both 157 = .ok (.goto 4, 3) := dk_167 0 4 (dk_at dksX18_both_6 16 rfl rfl)
theorem dX18_both_160 : decode cX18_both 160 = .ok (.iconst 0, 1) := dk_3 (dk_at dksX18_both_6 19 rfl rfl)
theorem dX18_both_161 : decode cX18_both 161 = .ok (.ireturn, 1) := dk_172 (dk_at dksX18_both_6 20 rfl rfl)
theorem q159 : (Jvm.Cond.initialized "FerryHall$Rounds") ∈ lw_all := lw_g (lw_at lw_m1 41 rfl) rfl
theorem q510 : (Jvm.Cond.fieldLinkNest "FerryHall$Rounds" (54 : Nat) "FerryHall$Place" "boat" "[I" "FerryHall") ∈ lw_tbl := lw_at lw_m2 152 rfl
theorem q515 : (Jvm.Cond.fieldLinkNest "FerryHall$Rounds" (51 : Nat) "FerryHall$Place" "set" "[I" "FerryHall") ∈ lw_tbl := lw_at lw_m2 157 rfl
theorem q554 : (Jvm.Cond.fieldLinkNest "FerryHall$Rounds" (17 : Nat) "FerryHall" "world" "LFerryHall$World;" "FerryHall") ∈ lw_tbl := lw_at lw_m2 196 rfl
theorem q667 : (Jvm.Cond.fieldLinkNest "FerryHall$Rounds" (111 : Nat) "FerryHall$Judge" "bareStart" "Z" "FerryHall") ∈ lw_tbl := lw_at lw_m3 69 rfl
theorem q866 : (Jvm.Cond.selects "FerryHall$Rounds" ({ cls := "java/lang/Object", name := "getClass", desc := "()Ljava/lang/Class;" } : Jvm.MethodName) ({ cls := "java/lang/Object", name := "getClass", desc := "()Ljava/lang/Class;" } : Jvm.MethodName)) ∈ lw_all := lw_g (lw_at lw_m4 28 rfl) rfl
theorem q922 : (Jvm.Cond.instantiable "FerryHall$Rounds" (9 : Nat)) ∈ lw_all := lw_g (lw_at lw_m4 84 rfl) rfl
theorem q924 : (Jvm.Cond.instanceMethod ({ cls := "FerryHall$Rounds", name := "<init>", desc := "(LFerryHall;)V" } : Jvm.MethodName)) ∈ lw_all := lw_g (lw_at lw_m4 86 rfl) rfl
theorem q925 : (Jvm.Cond.code ({ cls := "FerryHall$Rounds", name := "<init>", desc := "(LFerryHall;)V" } : Jvm.MethodName) prog_14_method_1_code (2 : Nat) (Option.none : Option Jvm.ClassFile.FieldType)) ∈ lw_all := lw_g (lw_at lw_m4 87 rfl) rfl
theorem q926 : (Jvm.Cond.methodLink "FerryHall$Rounds" (9 : Nat) ({ cls := "java/lang/Object", name := "<init>", desc := "()V" } : Jvm.MethodName)) ∈ lw_all := lw_g (lw_at lw_m4 88 rfl) rfl
theorem q927 : (Jvm.Cond.classLink "FerryHall$Rounds" (15 : Nat) "FerryHall$Judge") ∈ lw_all := lw_g (lw_at lw_m4 89 rfl) rfl
theorem q928 : (Jvm.Cond.methodLink "FerryHall$Rounds" (21 : Nat) ({ cls := "FerryHall$Judge", name := "<init>", desc := "(LFerryHall$World;III)V" } : Jvm.MethodName)) ∈ lw_all := lw_g (lw_at lw_m4 90 rfl) rfl
theorem q929 : (Jvm.Cond.classLink "FerryHall$Rounds" (28 : Nat) "FerryHall$Place") ∈ lw_all := lw_g (lw_at lw_m4 91 rfl) rfl
theorem q930 : (Jvm.Cond.methodLink "FerryHall$Rounds" (30 : Nat) ({ cls := "FerryHall$Place", name := "<init>", desc := "(LFerryHall$World;)V" } : Jvm.MethodName)) ∈ lw_all := lw_g (lw_at lw_m4 92 rfl) rfl
theorem q931 : (Jvm.Cond.fieldLink "FerryHall$Rounds" (24 : Nat) "FerryHall$Rounds" "judge" "LFerryHall$Judge;") ∈ lw_all := lw_g (lw_at lw_m4 93 rfl) rfl
theorem q932 : (Jvm.Cond.fieldLink "FerryHall$Rounds" (33 : Nat) "FerryHall$Rounds" "p" "LFerryHall$Place;") ∈ lw_all := lw_g (lw_at lw_m4 94 rfl) rfl
theorem q933 : (Jvm.Cond.fieldLink "FerryHall$Rounds" (37 : Nat) "FerryHall$Rounds" "then" "LFerryHall$Place;") ∈ lw_all := lw_g (lw_at lw_m4 95 rfl) rfl
theorem q934 : (Jvm.Cond.fieldLink "FerryHall$Rounds" (40 : Nat) "FerryHall$Rounds" "seen" "[Z") ∈ lw_all := lw_g (lw_at lw_m4 96 rfl) rfl
theorem q935 : (Jvm.Cond.fieldLink "FerryHall$Rounds" (44 : Nat) "FerryHall$Rounds" "now" "[I") ∈ lw_all := lw_g (lw_at lw_m4 97 rfl) rfl
theorem q936 : (Jvm.Cond.fieldLink "FerryHall$Rounds" (48 : Nat) "FerryHall$Rounds" "next" "[I") ∈ lw_all := lw_g (lw_at lw_m4 98 rfl) rfl
theorem q937 : (Jvm.Cond.fieldLink "FerryHall$Rounds" (104 : Nat) "FerryHall$Rounds" "many" "I") ∈ lw_all := lw_g (lw_at lw_m4 99 rfl) rfl
theorem q938 : (Jvm.Cond.fieldLink "FerryHall$Rounds" (57 : Nat) "FerryHall$Rounds" "more" "I") ∈ lw_all := lw_g (lw_at lw_m4 100 rfl) rfl
theorem q939 : (Jvm.Cond.fieldLink "FerryHall$Rounds" (3 : Nat) "FerryHall$Rounds" "this$0" "LFerryHall;") ∈ lw_all := lw_g (lw_at lw_m4 101 rfl) rfl
theorem q940 : (Jvm.Cond.laysFinal "FerryHall$Rounds" "FerryHall$Rounds" "judge" "LFerryHall$Judge;") ∈ lw_all := lw_g (lw_at lw_m4 102 rfl) rfl
theorem q941 : (Jvm.Cond.soleField "FerryHall$Rounds" "judge") ∈ lw_all := lw_g (lw_at lw_m4 103 rfl) rfl
theorem q942 : (Jvm.Cond.laysFinal "FerryHall$Rounds" "FerryHall$Rounds" "p" "LFerryHall$Place;") ∈ lw_all := lw_g (lw_at lw_m4 104 rfl) rfl
theorem q943 : (Jvm.Cond.soleField "FerryHall$Rounds" "p") ∈ lw_all := lw_g (lw_at lw_m4 105 rfl) rfl
theorem q944 : (Jvm.Cond.laysFinal "FerryHall$Rounds" "FerryHall$Rounds" "then" "LFerryHall$Place;") ∈ lw_all := lw_g (lw_at lw_m4 106 rfl) rfl
theorem q945 : (Jvm.Cond.soleField "FerryHall$Rounds" "then") ∈ lw_all := lw_g (lw_at lw_m4 107 rfl) rfl
theorem q946 : (Jvm.Cond.laysFinal "FerryHall$Rounds" "FerryHall$Rounds" "seen" "[Z") ∈ lw_all := lw_g (lw_at lw_m4 108 rfl) rfl
theorem q947 : (Jvm.Cond.soleField "FerryHall$Rounds" "seen") ∈ lw_all := lw_g (lw_at lw_m4 109 rfl) rfl
theorem q948 : (Jvm.Cond.lays "FerryHall$Rounds" "FerryHall$Rounds" "now" "[I") ∈ lw_all := lw_g (lw_at lw_m4 110 rfl) rfl
theorem q949 : (Jvm.Cond.soleField "FerryHall$Rounds" "now") ∈ lw_all := lw_g (lw_at lw_m4 111 rfl) rfl
theorem q950 : (Jvm.Cond.lays "FerryHall$Rounds" "FerryHall$Rounds" "next" "[I") ∈ lw_all := lw_g (lw_at lw_m4 112 rfl) rfl
theorem q951 : (Jvm.Cond.soleField "FerryHall$Rounds" "next") ∈ lw_all := lw_g (lw_at lw_m4 113 rfl) rfl
theorem q952 : (Jvm.Cond.lays "FerryHall$Rounds" "FerryHall$Rounds" "many" "I") ∈ lw_all := lw_g (lw_at lw_m4 114 rfl) rfl
theorem q953 : (Jvm.Cond.soleField "FerryHall$Rounds" "many") ∈ lw_all := lw_g (lw_at lw_m4 115 rfl) rfl
theorem q954 : (Jvm.Cond.lays "FerryHall$Rounds" "FerryHall$Rounds" "more" "I") ∈ lw_all := lw_g (lw_at lw_m4 116 rfl) rfl
theorem q955 : (Jvm.Cond.soleField "FerryHall$Rounds" "more") ∈ lw_all := lw_g (lw_at lw_m4 117 rfl) rfl
theorem q956 : (Jvm.Cond.laysFinal "FerryHall$Rounds" "FerryHall$Rounds" "this$0" "LFerryHall;") ∈ lw_all := lw_g (lw_at lw_m4 118 rfl) rfl
theorem q957 : (Jvm.Cond.soleField "FerryHall$Rounds" "this$0") ∈ lw_all := lw_g (lw_at lw_m4 119 rfl) rfl
theorem q958 : (Jvm.Cond.superclass "FerryHall$Rounds" "java/lang/Object") ∈ lw_all := lw_g (lw_at lw_m4 120 rfl) rfl
theorem q960 : (Jvm.Cond.instanceMethod ({ cls := "FerryHall$Rounds", name := "run", desc := "()I" } : Jvm.MethodName)) ∈ lw_all := lw_g (lw_at lw_m4 122 rfl) rfl
theorem q961 : (Jvm.Cond.selects "FerryHall$Rounds" ({ cls := "FerryHall$Rounds", name := "run", desc := "()I" } : Jvm.MethodName) ({ cls := "FerryHall$Rounds", name := "run", desc := "()I" } : Jvm.MethodName)) ∈ lw_all := lw_g (lw_at lw_m4 123 rfl) rfl
theorem q962 : (Jvm.Cond.code ({ cls := "FerryHall$Rounds", name := "run", desc := "()I" } : Jvm.MethodName) prog_14_method_6_code (4 : Nat) (Option.some Jvm.ClassFile.FieldType.int)) ∈ lw_all := lw_g (lw_at lw_m4 124 rfl) rfl
theorem q963 : (Jvm.Cond.methodLink "FerryHall$Rounds" (101 : Nat) ({ cls := "FerryHall$Place", name := "start", desc := "()V" } : Jvm.MethodName)) ∈ lw_all := lw_g (lw_at lw_m4 125 rfl) rfl
theorem q964 : (Jvm.Cond.methodLink "FerryHall$Rounds" (61 : Nat) ({ cls := "FerryHall$Place", name := "code", desc := "()I" } : Jvm.MethodName)) ∈ lw_all := lw_g (lw_at lw_m4 126 rfl) rfl
theorem q965 : (Jvm.Cond.methodLink "FerryHall$Rounds" (69 : Nat) ({ cls := "FerryHall$Place", name := "read", desc := "(I)V" } : Jvm.MethodName)) ∈ lw_all := lw_g (lw_at lw_m4 127 rfl) rfl
theorem q966 : (Jvm.Cond.methodLink "FerryHall$Rounds" (107 : Nat) ({ cls := "FerryHall$Place", name := "isGoal", desc := "()Z" } : Jvm.MethodName)) ∈ lw_all := lw_g (lw_at lw_m4 128 rfl) rfl
theorem q967 : (Jvm.Cond.methodLink "FerryHall$Rounds" (115 : Nat) ({ cls := "FerryHall$Rounds", name := "single", desc := "(II)V" } : Jvm.MethodName)) ∈ lw_all := lw_g (lw_at lw_m4 129 rfl) rfl
theorem q968 : (Jvm.Cond.privateMethod ({ cls := "FerryHall$Rounds", name := "single", desc := "(II)V" } : Jvm.MethodName)) ∈ lw_tbl := lw_at lw_m4 130 rfl
theorem q969 : (Jvm.Cond.instanceMethod ({ cls := "FerryHall$Rounds", name := "single", desc := "(II)V" } : Jvm.MethodName)) ∈ lw_all := lw_g (lw_at lw_m4 131 rfl) rfl
theorem q970 : (Jvm.Cond.code ({ cls := "FerryHall$Rounds", name := "single", desc := "(II)V" } : Jvm.MethodName) prog_14_method_3_code (5 : Nat) (Option.none : Option Jvm.ClassFile.FieldType)) ∈ lw_all := lw_g (lw_at lw_m4 132 rfl) rfl
theorem q971 : (Jvm.Cond.methodLink "FerryHall$Rounds" (65 : Nat) ({ cls := "FerryHall$Judge", name := "why", desc := "(LFerryHall$Place;IIII)I" } : Jvm.MethodName)) ∈ lw_all := lw_g (lw_at lw_m4 133 rfl) rfl
theorem q972 : (Jvm.Cond.methodLink "FerryHall$Rounds" (73 : Nat) ({ cls := "FerryHall$Place", name := "move", desc := "(III)V" } : Jvm.MethodName)) ∈ lw_all := lw_g (lw_at lw_m4 134 rfl) rfl
theorem q973 : (Jvm.Cond.methodLink "FerryHall$Rounds" (77 : Nat) ({ cls := "FerryHall$Rounds", name := "come", desc := "()V" } : Jvm.MethodName)) ∈ lw_all := lw_g (lw_at lw_m4 135 rfl) rfl
theorem q974 : (Jvm.Cond.privateMethod ({ cls := "FerryHall$Rounds", name := "come", desc := "()V" } : Jvm.MethodName)) ∈ lw_tbl := lw_at lw_m4 136 rfl
theorem q975 : (Jvm.Cond.instanceMethod ({ cls := "FerryHall$Rounds", name := "come", desc := "()V" } : Jvm.MethodName)) ∈ lw_all := lw_g (lw_at lw_m4 137 rfl) rfl
theorem q976 : (Jvm.Cond.code ({ cls := "FerryHall$Rounds", name := "come", desc := "()V" } : Jvm.MethodName) prog_14_method_2_code (2 : Nat) (Option.none : Option Jvm.ClassFile.FieldType)) ∈ lw_all := lw_g (lw_at lw_m4 138 rfl) rfl
theorem q977 : (Jvm.Cond.methodLink "FerryHall$Rounds" (119 : Nat) ({ cls := "FerryHall$Rounds", name := "pair", desc := "(I)V" } : Jvm.MethodName)) ∈ lw_all := lw_g (lw_at lw_m4 139 rfl) rfl
theorem q978 : (Jvm.Cond.privateMethod ({ cls := "FerryHall$Rounds", name := "pair", desc := "(I)V" } : Jvm.MethodName)) ∈ lw_tbl := lw_at lw_m4 140 rfl
theorem q979 : (Jvm.Cond.instanceMethod ({ cls := "FerryHall$Rounds", name := "pair", desc := "(I)V" } : Jvm.MethodName)) ∈ lw_all := lw_g (lw_at lw_m4 141 rfl) rfl
theorem q980 : (Jvm.Cond.code ({ cls := "FerryHall$Rounds", name := "pair", desc := "(I)V" } : Jvm.MethodName) prog_14_method_5_code (6 : Nat) (Option.none : Option Jvm.ClassFile.FieldType)) ∈ lw_all := lw_g (lw_at lw_m4 142 rfl) rfl
theorem q981 : (Jvm.Cond.methodLink "FerryHall$Rounds" (92 : Nat) ({ cls := "java/lang/Integer", name := "bitCount", desc := "(I)I" } : Jvm.MethodName)) ∈ lw_all := lw_g (lw_at lw_m4 143 rfl) rfl
theorem q982 : (Jvm.Cond.methodLink "FerryHall$Rounds" (97 : Nat) ({ cls := "FerryHall$Rounds", name := "both", desc := "(III)Z" } : Jvm.MethodName)) ∈ lw_all := lw_g (lw_at lw_m4 144 rfl) rfl
theorem q983 : (Jvm.Cond.privateMethod ({ cls := "FerryHall$Rounds", name := "both", desc := "(III)Z" } : Jvm.MethodName)) ∈ lw_tbl := lw_at lw_m4 145 rfl
theorem q984 : (Jvm.Cond.instanceMethod ({ cls := "FerryHall$Rounds", name := "both", desc := "(III)Z" } : Jvm.MethodName)) ∈ lw_all := lw_g (lw_at lw_m4 146 rfl) rfl
theorem q985 : (Jvm.Cond.code ({ cls := "FerryHall$Rounds", name := "both", desc := "(III)Z" } : Jvm.MethodName) prog_14_method_4_code (4 : Nat) (Option.some Jvm.ClassFile.FieldType.boolean)) ∈ lw_all := lw_g (lw_at lw_m4 147 rfl) rfl
theorem q986 : (Jvm.Cond.methodLink "FerryHall$Rounds" (80 : Nat) ({ cls := "FerryHall$Judge", name := "plainly", desc := "(LFerryHall$Place;III)I" } : Jvm.MethodName)) ∈ lw_all := lw_g (lw_at lw_m4 148 rfl) rfl
theorem q987 : (Jvm.Cond.methodLink "FerryHall$Rounds" (84 : Nat) ({ cls := "FerryHall$Place", name := "aboard", desc := "(I)I" } : Jvm.MethodName)) ∈ lw_all := lw_g (lw_at lw_m4 149 rfl) rfl
theorem q988 : (Jvm.Cond.methodLink "FerryHall$Rounds" (88 : Nat) ({ cls := "FerryHall$Place", name := "barred", desc := "(II)I" } : Jvm.MethodName)) ∈ lw_all := lw_g (lw_at lw_m4 150 rfl) rfl
theorem q2608 : (Jvm.Cond.castable "FerryHall$Rounds" "java/lang/Object") ∈ lw_tbl := lw_at lw_m11 90 rfl
theorem in_X18 : ∀ w ∈ wsX180, w ∈ lw_all := lw_in wsX180 [940, 942, 944, 946, 948, 950, 952, 954, 956] (by decide +kernel) (by decide +kernel)
