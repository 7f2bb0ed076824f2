/-! FerryHall -/
set_option maxRecDepth 100000
def RX1 : String := "FerryHall"
def TX1 : u_T := fun k => match k with
  | 0 => ("FerryHall", "world", "LFerryHall$World;", false)
  | 1 => ("FerryHall", "tape", "[B", true)
  | 2 => ("FerryHall", "taped", "I", false)
  | 3 => ("FerryHall", "faultPlace", "I", false)
  | 4 => ("FerryHall", "map", "LFerryHall$Map;", true)
  | 5 => ("FerryHall", "other", "LFerryHall$Map;", true)
  | 6 => ("FerryHall", "isMapped", "Z", false)
  | 7 => ("FerryHall", "game", "LFerryHall$Place;", false)
  | 8 => ("FerryHall", "made", "Ljava/util/List;", true)
  | 9 => ("FerryHall", "barring", "I", false)
  | 10 => ("FerryHall", "kept", "[I", false)
  | 11 => ("FerryHall", "freeLaws", "I", false)
  | 12 => ("FerryHall", "aloneLaws", "I", false)
  | 13 => ("FerryHall", "leastHold", "I", false)
  | 14 => ("FerryHall", "leastLoad", "I", false)
  | 15 => ("FerryHall", "lawsTold", "Z", false)
  | 16 => ("FerryHall", "lawsSpent", "Z", false)
  | 17 => ("FerryHall", "holdTold", "Z", false)
  | _ => ("FerryHall", "loadTold", "Z", false)
def tyX1 : Nat → FieldType := fun k => match k with
  | 0 => .object "FerryHall$World"
  | 1 => .array .byte
  | 2 => .int
  | 3 => .int
  | 4 => .object "FerryHall$Map"
  | 5 => .object "FerryHall$Map"
  | 6 => .boolean
  | 7 => .object "FerryHall$Place"
  | 8 => .object "java/util/List"
  | 9 => .int
  | 10 => .array .int
  | 11 => .int
  | 12 => .int
  | 13 => .int
  | 14 => .int
  | 15 => .boolean
  | 16 => .boolean
  | 17 => .boolean
  | _ => .boolean
abbrev wsX10 : List Cond := u_ws RX1 TX1 19
set_option maxRecDepth 100000 in
theorem nmX1 : ∀ a, a < 19 → ∀ b, b < 19 → a ≠ b → (TX1 a).2.1 ≠ (TX1 b).2.1 := by decide +kernel
set_option maxRecDepth 100000 in
theorem tyX1_ok : ∀ k, k < 19 → parseFieldDescriptor (TX1 k).2.2.1 = some (tyX1 k) := by decide +kernel
abbrev cX1_init : ByteArray := prog_1_method_4_code
def yX1_init : MethodName := ⟨RX1, "<init>", "()V"⟩
def dkwX1_init_3 : List UInt8 := [182, 0, 50, 42, 182, 0, 53, 177]
abbrev dktX1_init_3 : List UInt8 := dkwX1_init_3 ++ []
def dkwX1_init_2 : List UInt8 := [181, 0, 37, 42, 187, 0, 40, 89, 183, 0, 42, 181, 0, 43, 42, 2, 181, 0, 47, 42, 180, 0, 18]
abbrev dktX1_init_2 : List UInt8 := dkwX1_init_2 ++ dktX1_init_3
def dkwX1_init_1 : List UInt8 := [42, 2, 181, 0, 26, 42, 187, 0, 30, 89, 183, 0, 32, 181, 0, 33, 42, 187, 0, 30, 89, 183, 0, 32]
abbrev dktX1_init_1 : List UInt8 := dkwX1_init_1 ++ dktX1_init_2
def dkwX1_init_0 : List UInt8 := [42, 183, 0, 12, 42, 187, 0, 15, 89, 183, 0, 17, 181, 0, 18, 42, 17, 2, 188, 188, 8, 181, 0, 22]
abbrev dktX1_init_0 : List UInt8 := dkwX1_init_0 ++ dktX1_init_1
theorem dksX1_init_0 : cX1_init.data.toList.drop 0 = dktX1_init_0 := by decide +kernel
theorem dksX1_init_1 : cX1_init.data.toList.drop 24 = dktX1_init_1 := dk_seg dksX1_init_0 24 rfl rfl
theorem dksX1_init_2 : cX1_init.data.toList.drop 48 = dktX1_init_2 := dk_seg dksX1_init_1 24 rfl rfl
theorem dksX1_init_3 : cX1_init.data.toList.drop 71 = dktX1_init_3 := dk_seg dksX1_init_2 23 rfl rfl
theorem dX1_init_0 : decode cX1_init 0 = .ok (.aload_n 0, 1) := dk_42 (dk_at dksX1_init_0 0 rfl rfl)
theorem dX1_init_1 : decode cX1_init 1 = .ok (.invokespecial 12, 3) := dk_183 0 12 (dk_at dksX1_init_0 1 rfl rfl)
theorem dX1_init_4 : decode cX1_init 4 = .ok (.aload_n 0, 1) := dk_42 (dk_at dksX1_init_0 4 rfl rfl)
theorem dX1_init_5 : decode cX1_init 5 = .ok (.new 15, 3) := dk_187 0 15 (dk_at dksX1_init_0 5 rfl rfl)
theorem dX1_init_8 : decode cX1_init 8 = .ok (.dup, 1) := dk_89 (dk_at dksX1_init_0 8 rfl rfl)
theorem dX1_init_9 : decode cX1_init 9 = .ok (.invokespecial 17, 3) := dk_183 0 17 (dk_at dksX1_init_0 9 rfl rfl)
theorem dX1_init_12 : decode cX1_init 12 = .ok (.putfield 18, 3) := dk_181 0 18 (dk_at dksX1_init_0 12 rfl rfl)
theorem dX1_init_15 : decode cX1_init 15 = .ok (.aload_n 0, 1) := dk_42 (dk_at dksX1_init_0 15 rfl rfl)
theorem dX1_init_16 : decode cX1_init 16 = .ok (.sipush 700, 3) := dk_17 2 188 (dk_at dksX1_init_0 16 rfl rfl)
theorem dX1_init_19 : decode cX1_init 19 = .ok (.newarray .byte, 2) := dk_188_8 (dk_at dksX1_init_0 19 rfl rfl)
theorem dX1_init_21 : decode cX1_init 21 = .ok (.putfield 22, 3) := dk_181 0 22 (dk_at dksX1_init_0 21 rfl rfl)
theorem dX1_init_24 : decode cX1_init 24 = .ok (.aload_n 0, 1) := dk_42 (dk_at dksX1_init_1 0 rfl rfl)
theorem dX1_init_25 : decode cX1_init 25 = .ok (.iconst (-1), 1) := dk_2 (dk_at dksX1_init_1 1 rfl rfl)
theorem dX1_init_26 : decode cX1_init 26 = .ok (.putfield 26, 3) := dk_181 0 26 (dk_at dksX1_init_1 2 rfl rfl)
theorem dX1_init_29 : decode cX1_init 29 = .ok (.aload_n 0, 1) := dk_42 (dk_at dksX1_init_1 5 rfl rfl)
theorem dX1_init_30 : decode cX1_init 30 = .ok (.new 30, 3) := dk_187 0 30 (dk_at dksX1_init_1 6 rfl rfl)
theorem dX1_init_33 : decode cX1_init 33 = .ok (.dup, 1) := dk_89 (dk_at dksX1_init_1 9 rfl rfl)
theorem dX1_init_34 : decode cX1_init 34 = .ok (.invokespecial 32, 3) := dk_183 0 32 (dk_at dksX1_init_1 10 rfl rfl)
theorem dX1_init_37 : decode cX1_init 37 = .ok (.putfield 33, 3) := dk_181 0 33 (dk_at dksX1_init_1 13 rfl rfl)
theorem dX1_init_40 : decode cX1_init 40 = .ok (.aload_n 0, 1) := dk_42 (dk_at dksX1_init_1 16 rfl rfl)
theorem dX1_init_41 : decode cX1_init 41 = .ok (.new 30, 3) := dk_187 0 30 (dk_at dksX1_init_1 17 rfl rfl)
theorem dX1_init_44 : decode cX1_init 44 = .ok (.dup, 1) := dk_89 (dk_at dksX1_init_1 20 rfl rfl)
theorem dX1_init_45 : decode cX1_init 45 = .ok (.invokespecial 32, 3) := dk_183 0 32 (dk_at dksX1_init_1 21 rfl rfl)
theorem dX1_init_48 : decode cX1_init 48 = .ok (.putfield 37, 3) := dk_181 0 37 (dk_at dksX1_init_2 0 rfl rfl)
theorem dX1_init_51 : decode cX1_init 51 = .ok (.aload_n 0, 1) := dk_42 (dk_at dksX1_init_2 3 rfl rfl)
theorem dX1_init_52 : decode cX1_init 52 = .ok (.new 40, 3) := dk_187 0 40 (dk_at dksX1_init_2 4 rfl rfl)
theorem dX1_init_55 : decode cX1_init 55 = .ok (.dup, 1) := dk_89 (dk_at dksX1_init_2 7 rfl rfl)
theorem dX1_init_56 : decode cX1_init 56 = .ok (.invokespecial 42, 3) := dk_183 0 42 (dk_at dksX1_init_2 8 rfl rfl)
theorem dX1_init_59 : decode cX1_init 59 = .ok (.putfield 43, 3) := dk_181 0 43 (dk_at dksX1_init_2 11 rfl rfl)
theorem dX1_init_62 : decode cX1_init 62 = .ok (.aload_n 0, 1) := dk_42 (dk_at dksX1_init_2 14 rfl rfl)
theorem dX1_init_63 : decode cX1_init 63 = .ok (.iconst (-1), 1) := dk_2 (dk_at dksX1_init_2 15 rfl rfl)
theorem dX1_init_64 : decode cX1_init 64 = .ok (.putfield 47, 3) := dk_181 0 47 (dk_at dksX1_init_2 16 rfl rfl)
theorem dX1_init_67 : decode cX1_init 67 = .ok (.aload_n 0, 1) := dk_42 (dk_at dksX1_init_2 19 rfl rfl)
theorem dX1_init_68 : decode cX1_init 68 = .ok (.getfield 18, 3) := dk_180 0 18 (dk_at dksX1_init_2 20 rfl rfl)
theorem dX1_init_71 : decode cX1_init 71 = .ok (.invokevirtual 50, 3) := dk_182 0 50 (dk_at dksX1_init_3 0 rfl rfl)
theorem dX1_init_74 : decode cX1_init 74 = .ok (.aload_n 0, 1) := dk_42 (dk_at dksX1_init_3 3 rfl rfl)
theorem dX1_init_75 : decode cX1_init 75 = .ok (.invokevirtual 53, 3) := dk_182 0 53 (dk_at dksX1_init_3 4 rfl rfl)
theorem dX1_init_78 : decode cX1_init 78 = .ok (.return_, 1) := dk_177 (dk_at dksX1_init_3 7 rfl rfl)
abbrev cX1_begin : ByteArray := prog_1_method_5_code
def yX1_begin : MethodName := ⟨RX1, "begin", "()V"⟩
def dkwX1_begin_2 : List UInt8 := [3, 181, 0, 81, 42, 3, 181, 0, 84, 42, 3, 181, 0, 87, 177]
abbrev dktX1_begin_2 : List UInt8 := dkwX1_begin_2 ++ []
def dkwX1_begin_1 : List UInt8 := [180, 0, 43, 185, 0, 68, 1, 0, 42, 2, 181, 0, 47, 42, 3, 181, 0, 73, 42, 1, 181, 0, 77, 42]
abbrev dktX1_begin_1 : List UInt8 := dkwX1_begin_1 ++ dktX1_begin_2
def dkwX1_begin_0 : List UInt8 := [42, 187, 0, 56, 89, 42, 180, 0, 18, 183, 0, 58, 181, 0, 61, 42, 180, 0, 61, 182, 0, 65, 42]
abbrev dktX1_begin_0 : List UInt8 := dkwX1_begin_0 ++ dktX1_begin_1
theorem dksX1_begin_0 : cX1_begin.data.toList.drop 0 = dktX1_begin_0 := by decide +kernel
theorem dksX1_begin_1 : cX1_begin.data.toList.drop 23 = dktX1_begin_1 := dk_seg dksX1_begin_0 23 rfl rfl
theorem dksX1_begin_2 : cX1_begin.data.toList.drop 47 = dktX1_begin_2 := dk_seg dksX1_begin_1 24 rfl rfl
theorem dX1_begin_0 : decode cX1_begin 0 = .ok (.aload_n 0, 1) := dk_42 (dk_at dksX1_begin_0 0 rfl rfl)
theorem dX1_begin_1 : decode cX1_begin 1 = .ok (.new 56, 3) := dk_187 0 56 (dk_at dksX1_begin_0 1 rfl rfl)
theorem dX1_begin_4 : decode cX1_begin 4 = .ok (.dup, 1) := dk_89 (dk_at dksX1_begin_0 4 rfl rfl)
theorem dX1_begin_5 : decode cX1_begin 5 = .ok (.aload_n 0, 1) := dk_42 (dk_at dksX1_begin_0 5 rfl rfl)
theorem dX1_begin_6 : decode cX1_begin 6 = .ok (.getfield 18, 3) := dk_180 0 18 (dk_at dksX1_begin_0 6 rfl rfl)
theorem dX1_begin_9 : decode cX1_begin 9 = .ok (.invokespecial 58, 3) := dk_183 0 58 (dk_at dksX1_begin_0 9 rfl rfl)
theorem dX1_begin_12 : decode cX1_begin 12 = .ok (.putfield 61, 3) := dk_181 0 61 (dk_at dksX1_begin_0 12 rfl rfl)
theorem dX1_begin_15 : decode cX1_begin 15 = .ok (.aload_n 0, 1) := dk_42 (dk_at dksX1_begin_0 15 rfl rfl)
theorem dX1_begin_16 : decode cX1_begin 16 = .ok (.getfield 61, 3) := dk_180 0 61 (dk_at dksX1_begin_0 16 rfl rfl)
theorem dX1_begin_19 : decode cX1_begin 19 = .ok (.invokevirtual 65, 3) := dk_182 0 65 (dk_at dksX1_begin_0 19 rfl rfl)
theorem dX1_begin_22 : decode cX1_begin 22 = .ok (.aload_n 0, 1) := dk_42 (dk_at dksX1_begin_0 22 rfl rfl)
theorem dX1_begin_23 : decode cX1_begin 23 = .ok (.getfield 43, 3) := dk_180 0 43 (dk_at dksX1_begin_1 0 rfl rfl)
theorem dX1_begin_26 : decode cX1_begin 26 = .ok (.invokeinterface 68 1, 5) := by decide +kernel
theorem dX1_begin_31 : decode cX1_begin 31 = .ok (.aload_n 0, 1) := dk_42 (dk_at dksX1_begin_1 8 rfl rfl)
theorem dX1_begin_32 : decode cX1_begin 32 = .ok (.iconst (-1), 1) := dk_2 (dk_at dksX1_begin_1 9 rfl rfl)
theorem dX1_begin_33 : decode cX1_begin 33 = .ok (.putfield 47, 3) := dk_181 0 47 (dk_at dksX1_begin_1 10 rfl rfl)
theorem dX1_begin_36 : decode cX1_begin 36 = .ok (.aload_n 0, 1) := dk_42 (dk_at dksX1_begin_1 13 rfl rfl)
theorem dX1_begin_37 : decode cX1_begin 37 = .ok (.iconst 0, 1) := dk_3 (dk_at dksX1_begin_1 14 rfl rfl)
theorem dX1_begin_38 : decode cX1_begin 38 = .ok (.putfield 73, 3) := dk_181 0 73 (dk_at dksX1_begin_1 15 rfl rfl)
theorem dX1_begin_41 : decode cX1_begin 41 = .ok (.aload_n 0, 1) := dk_42 (dk_at dksX1_begin_1 18 rfl rfl)
theorem dX1_begin_42 : decode cX1_begin 42 = .ok (.aconst_null, 1) := dk_1 (dk_at dksX1_begin_1 19 rfl rfl)
theorem dX1_begin_43 : decode cX1_begin 43 = .ok (.putfield 77, 3) := dk_181 0 77 (dk_at dksX1_begin_1 20 rfl rfl)
theorem dX1_begin_46 : decode cX1_begin 46 = .ok (.aload_n 0, 1) := dk_42 (dk_at dksX1_begin_1 23 rfl rfl)
theorem dX1_begin_47 : decode cX1_begin 47 = .ok (.iconst 0, 1) := dk_3 (dk_at dksX1_begin_2 0 rfl rfl)
theorem dX1_begin_48 : decode cX1_begin 48 = .ok (.putfield 81, 3) := dk_181 0 81 (dk_at dksX1_begin_2 1 rfl rfl)
theorem dX1_begin_51 : decode cX1_begin 51 = .ok (.aload_n 0, 1) := dk_42 (dk_at dksX1_begin_2 4 rfl rfl)
theorem dX1_begin_52 : decode cX1_begin 52 = .ok (.iconst 0, 1) := dk_3 (dk_at dksX1_begin_2 5 rfl rfl)
theorem dX1_begin_53 : decode cX1_begin 53 = .ok (.putfield 84, 3) := dk_181 0 84 (dk_at dksX1_begin_2 6 rfl rfl)
theorem dX1_begin_56 : decode cX1_begin 56 = .ok (.aload_n 0, 1) := dk_42 (dk_at dksX1_begin_2 9 rfl rfl)
theorem dX1_begin_57 : decode cX1_begin 57 = .ok (.iconst 0, 1) := dk_3 (dk_at dksX1_begin_2 10 rfl rfl)
theorem dX1_begin_58 : decode cX1_begin 58 = .ok (.putfield 87, 3) := dk_181 0 87 (dk_at dksX1_begin_2 11 rfl rfl)
theorem dX1_begin_61 : decode cX1_begin 61 = .ok (.return_, 1) := dk_177 (dk_at dksX1_begin_2 14 rfl rfl)
abbrev cX1_feed : ByteArray := prog_1_method_7_code
def yX1_feed : MethodName := ⟨RX1, "feed", "(IIIII)I"⟩
def dkwX1_feed_5 : List UInt8 := [180, 0, 94, 172]
abbrev dktX1_feed_5 : List UInt8 := dkwX1_feed_5 ++ []
def dkwX1_feed_4 : List UInt8 := [112, 104, 100, 122, 145, 84, 132, 6, 1, 167, 255, 172, 42, 89, 180, 0, 94, 16, 20, 96, 181, 0, 94, 42]
abbrev dktX1_feed_4 : List UInt8 := dkwX1_feed_4 ++ dktX1_feed_5
def dkwX1_feed_3 : List UInt8 := [21, 5, 54, 7, 42, 180, 0, 22, 42, 180, 0, 94, 21, 6, 96, 21, 7, 16, 24, 16, 8, 21, 6, 7]
abbrev dktX1_feed_3 : List UInt8 := dkwX1_feed_3 ++ dktX1_feed_4
def dkwX1_feed_2 : List UInt8 := [21, 6, 16, 12, 162, 0, 7, 29, 167, 0, 17, 21, 6, 16, 16, 162, 0, 8, 21, 4, 167, 0, 5]
abbrev dktX1_feed_2 : List UInt8 := dkwX1_feed_2 ++ dktX1_feed_3
def dkwX1_feed_1 : List UInt8 := [162, 0, 83, 21, 6, 7, 162, 0, 7, 27, 167, 0, 39, 21, 6, 16, 8, 162, 0, 7, 28, 167, 0, 28]
abbrev dktX1_feed_1 : List UInt8 := dkwX1_feed_1 ++ dktX1_feed_2
def dkwX1_feed_0 : List UInt8 := [42, 180, 0, 94, 16, 20, 96, 17, 2, 188, 164, 0, 5, 2, 172, 3, 54, 6, 21, 6, 16, 20]
abbrev dktX1_feed_0 : List UInt8 := dkwX1_feed_0 ++ dktX1_feed_1
theorem dksX1_feed_0 : cX1_feed.data.toList.drop 0 = dktX1_feed_0 := by decide +kernel
theorem dksX1_feed_1 : cX1_feed.data.toList.drop 22 = dktX1_feed_1 := dk_seg dksX1_feed_0 22 rfl rfl
theorem dksX1_feed_2 : cX1_feed.data.toList.drop 46 = dktX1_feed_2 := dk_seg dksX1_feed_1 24 rfl rfl
theorem dksX1_feed_3 : cX1_feed.data.toList.drop 69 = dktX1_feed_3 := dk_seg dksX1_feed_2 23 rfl rfl
theorem dksX1_feed_4 : cX1_feed.data.toList.drop 93 = dktX1_feed_4 := dk_seg dksX1_feed_3 24 rfl rfl
theorem dksX1_feed_5 : cX1_feed.data.toList.drop 117 = dktX1_feed_5 := dk_seg dksX1_feed_4 24 rfl rfl
theorem dX1_feed_0 : decode cX1_feed 0 = .ok (.aload_n 0, 1) := dk_42 (dk_at dksX1_feed_0 0 rfl rfl)
theorem dX1_feed_1 : decode cX1_feed 1 = .ok (.getfield 94, 3) := dk_180 0 94 (dk_at dksX1_feed_0 1 rfl rfl)
theorem dX1_feed_4 : decode cX1_feed 4 = .ok (.bipush 20, 2) := dk_16 20 (dk_at dksX1_feed_0 4 rfl rfl)
theorem dX1_feed_6 : decode cX1_feed 6 = .ok (.iadd, 1) := dk_96 (dk_at dksX1_feed_0 6 rfl rfl)
theorem dX1_feed_7 : decode cX1_feed 7 = .ok (.sipush 700, 3) := dk_17 2 188 (dk_at dksX1_feed_0 7 rfl rfl)
theorem dX1_feed_10 : decode cX1_feed 10 = .ok (.if_icmp .le 5, 3) := dk_164 0 5 (dk_at dksX1_feed_0 10 rfl rfl)
theorem dX1_feed_13 : decode cX1_feed 13 = .ok (.iconst (-1), 1) := dk_2 (dk_at dksX1_feed_0 13 rfl rfl)
theorem dX1_feed_14 : decode cX1_feed 14 = .ok (.ireturn, 1) := dk_172 (dk_at dksX1_feed_0 14 rfl rfl)
theorem dX1_feed_15 : decode cX1_feed 15 = .ok (.iconst 0, 1) := dk_3 (dk_at dksX1_feed_0 15 rfl rfl)
theorem dX1_feed_16 : decode cX1_feed 16 = .ok (.istore 6, 2) := dk_54 6 (dk_at dksX1_feed_0 16 rfl rfl)
theorem dX1_feed_18 : decode cX1_feed 18 = .ok (.iload 6, 2) := dk_21 6 (dk_at dksX1_feed_0 18 rfl rfl)
theorem dX1_feed_20 : decode cX1_feed 20 = .ok (.bipush 20, 2) := dk_16 20 (dk_at dksX1_feed_0 20 rfl rfl)
theorem dX1_feed_22 : decode cX1_feed 22 = .ok (.if_icmp .ge 83, 3) := dk_162 0 83 (dk_at dksX1_feed_1 0 rfl rfl)
theorem dX1_feed_25 : decode cX1_feed 25 = .ok (.iload 6, 2) := dk_21 6 (dk_at dksX1_feed_1 3 rfl rfl)
theorem dX1_feed_27 : decode cX1_feed 27 = .ok (.iconst 4, 1) := dk_7 (dk_at dksX1_feed_1 5 rfl rfl)
theorem dX1_feed_28 : decode cX1_feed 28 = .ok (.if_icmp .ge 7, 3) := dk_162 0 7 (dk_at dksX1_feed_1 6 rfl rfl)
theorem dX1_feed_31 : decode cX1_feed 31 = .ok (.iload_n 1, 1) := dk_27 (dk_at dksX1_feed_1 9 rfl rfl)
theorem dX1_feed_32 : decode cX1_feed 32 = .ok (.goto 39, 3) := dk_167 0 39 (dk_at dksX1_feed_1 10 rfl rfl)
theorem dX1_feed_35 : decode cX1_feed 35 = .ok (.iload 6, 2) := dk_21 6 (dk_at dksX1_feed_1 13 rfl rfl)
theorem dX1_feed_37 : decode cX1_feed 37 = .ok (.bipush 8, 2) := dk_16 8 (dk_at dksX1_feed_1 15 rfl rfl)
theorem dX1_feed_39 : decode cX1_feed 39 = .ok (.if_icmp .ge 7, 3) := dk_162 0 7 (dk_at dksX1_feed_1 17 rfl rfl)
theorem dX1_feed_42 : decode cX1_feed 42 = .ok (.iload_n 2, 1) := dk_28 (dk_at dksX1_feed_1 20 rfl rfl)
theorem dX1_feed_43 : decode cX1_feed 43 = .ok (.goto 28, 3) := dk_167 0 28 (dk_at dksX1_feed_1 21 rfl rfl)
theorem dX1_feed_46 : decode cX1_feed 46 = .ok (.iload 6, 2) := dk_21 6 (dk_at dksX1_feed_2 0 rfl rfl)
theorem dX1_feed_48 : decode cX1_feed 48 = .ok (.bipush 12, 2) := dk_16 12 (dk_at dksX1_feed_2 2 rfl rfl)
theorem dX1_feed_50 : decode cX1_feed 50 = .ok (.if_icmp .ge 7, 3) := dk_162 0 7 (dk_at dksX1_feed_2 4 rfl rfl)
theorem dX1_feed_53 : decode cX1_feed 53 = .ok (.iload_n 3, 1) := dk_29 (dk_at dksX1_feed_2 7 rfl rfl)
theorem dX1_feed_54 : decode cX1_feed 54 = .ok (.goto 17, 3) := dk_167 0 17 (dk_at dksX1_feed_2 8 rfl rfl)
theorem dX1_feed_57 : decode cX1_feed 57 = .ok (.iload 6, 2) := dk_21 6 (dk_at dksX1_feed_2 11 rfl rfl)
theorem dX1_feed_59 : decode cX1_feed 59 = .ok (.bipush 16, 2) := dk_16 16 (dk_at dksX1_feed_2 13 rfl rfl)
theorem dX1_feed_61 : decode cX1_feed 61 = .ok (.if_icmp .ge 8, 3) := dk_162 0 8 (dk_at dksX1_feed_2 15 rfl rfl)
theorem dX1_feed_64 : decode cX1_feed 64 = .ok (.iload 4, 2) := dk_21 4 (dk_at dksX1_feed_2 18 rfl rfl)
theorem dX1_feed_66 : decode cX1_feed 66 = .ok (.goto 5, 3) := dk_167 0 5 (dk_at dksX1_feed_2 20 rfl rfl)
theorem dX1_feed_69 : decode cX1_feed 69 = .ok (.iload 5, 2) := dk_21 5 (dk_at dksX1_feed_3 0 rfl rfl)
theorem dX1_feed_71 : decode cX1_feed 71 = .ok (.istore 7, 2) := dk_54 7 (dk_at dksX1_feed_3 2 rfl rfl)
theorem dX1_feed_73 : decode cX1_feed 73 = .ok (.aload_n 0, 1) := dk_42 (dk_at dksX1_feed_3 4 rfl rfl)
theorem dX1_feed_74 : decode cX1_feed 74 = .ok (.getfield 22, 3) := dk_180 0 22 (dk_at dksX1_feed_3 5 rfl rfl)
theorem dX1_feed_77 : decode cX1_feed 77 = .ok (.aload_n 0, 1) := dk_42 (dk_at dksX1_feed_3 8 rfl rfl)
theorem dX1_feed_78 : decode cX1_feed 78 = .ok (.getfield 94, 3) := dk_180 0 94 (dk_at dksX1_feed_3 9 rfl rfl)
theorem dX1_feed_81 : decode cX1_feed 81 = .ok (.iload 6, 2) := dk_21 6 (dk_at dksX1_feed_3 12 rfl rfl)
theorem dX1_feed_83 : decode cX1_feed 83 = .ok (.iadd, 1) := dk_96 (dk_at dksX1_feed_3 14 rfl rfl)
theorem dX1_feed_84 : decode cX1_feed 84 = .ok (.iload 7, 2) := dk_21 7 (dk_at dksX1_feed_3 15 rfl rfl)
theorem dX1_feed_86 : decode cX1_feed 86 = .ok (.bipush 24, 2) := dk_16 24 (dk_at dksX1_feed_3 17 rfl rfl)
theorem dX1_feed_88 : decode cX1_feed 88 = .ok (.bipush 8, 2) := dk_16 8 (dk_at dksX1_feed_3 19 rfl rfl)
theorem dX1_feed_90 : decode cX1_feed 90 = .ok (.iload 6, 2) := dk_21 6 (dk_at dksX1_feed_3 21 rfl rfl)
theorem dX1_feed_92 : decode cX1_feed 92 = .ok (.iconst 4, 1) := dk_7 (dk_at dksX1_feed_3 23 rfl rfl)
theorem dX1_feed_93 : decode cX1_feed 93 = .ok (.irem, 1) := dk_112 (dk_at dksX1_feed_4 0 rfl rfl)
theorem dX1_feed_94 : decode cX1_feed 94 = .ok (.imul, 1) := dk_104 (dk_at dksX1_feed_4 1 rfl rfl)
theorem dX1_feed_95 : decode cX1_feed 95 = .ok (.isub, 1) := dk_100 (dk_at dksX1_feed_4 2 rfl rfl)
theorem dX1_feed_96 : decode cX1_feed 96 = .ok (.ishr, 1) := dk_122 (dk_at dksX1_feed_4 3 rfl rfl)
theorem dX1_feed_97 : decode cX1_feed 97 = .ok (.i2b, 1) := dk_145 (dk_at dksX1_feed_4 4 rfl rfl)
theorem dX1_feed_98 : decode cX1_feed 98 = .ok (.bastore, 1) := dk_84 (dk_at dksX1_feed_4 5 rfl rfl)
theorem dX1_feed_99 : decode cX1_feed 99 = .ok (.iinc 6 1, 3) := dk_132 6 1 (dk_at dksX1_feed_4 6 rfl rfl)
theorem dX1_feed_102 : decode cX1_feed 102 = .ok (.goto (-84), 3) := dk_167 255 172 (dk_at dksX1_feed_4 9 rfl rfl)
theorem dX1_feed_105 : decode cX1_feed 105 = .ok (.aload_n 0, 1) := dk_42 (dk_at dksX1_feed_4 12 rfl rfl)
theorem dX1_feed_106 : decode cX1_feed 106 = .ok (.dup, 1) := dk_89 (dk_at dksX1_feed_4 13 rfl rfl)
theorem dX1_feed_107 : decode cX1_feed 107 = .ok (.getfield 94, 3) := dk_180 0 94 (dk_at dksX1_feed_4 14 rfl rfl)
theorem dX1_feed_110 : decode cX1_feed 110 = .ok (.bipush 20, 2) := dk_16 20 (dk_at dksX1_feed_4 17 rfl rfl)
theorem dX1_feed_112 : decode cX1_feed 112 = .ok (.iadd, 1) := dk_96 (dk_at dksX1_feed_4 19 rfl rfl)
theorem dX1_feed_113 : decode cX1_feed 113 = .ok (.putfield 94, 3) := dk_181 0 94 (dk_at dksX1_feed_4 20 rfl rfl)
theorem dX1_feed_116 : decode cX1_feed 116 = .ok (.aload_n 0, 1) := dk_42 (dk_at dksX1_feed_4 23 rfl rfl)
theorem dX1_feed_117 : decode cX1_feed 117 = .ok (.getfield 94, 3) := dk_180 0 94 (dk_at dksX1_feed_5 0 rfl rfl)
theorem dX1_feed_120 : decode cX1_feed 120 = .ok (.ireturn, 1) := dk_172 (dk_at dksX1_feed_5 3 rfl rfl)
abbrev cX1_fault : ByteArray := prog_1_method_9_code
def yX1_fault : MethodName := ⟨RX1, "fault", "()I"⟩
theorem dX1_fault_0 : decode cX1_fault 0 = .ok (.aload_n 0, 1) := by decide +kernel
theorem dX1_fault_1 : decode cX1_fault 1 = .ok (.getfield 26, 3) := by decide +kernel
theorem dX1_fault_4 : decode cX1_fault 4 = .ok (.ireturn, 1) := by decide +kernel
abbrev cX1_fewest : ByteArray := prog_1_method_19_code
def yX1_fewest : MethodName := ⟨RX1, "fewest", "()I"⟩
def dkwX1_fewest_1 : List UInt8 := [160, 0, 5, 2, 172, 42, 43, 3, 182, 0, 234, 43, 182, 0, 204, 3, 46, 172]
abbrev dktX1_fewest_1 : List UInt8 := dkwX1_fewest_1 ++ []
def dkwX1_fewest_0 : List UInt8 := [42, 182, 0, 183, 76, 43, 180, 0, 186, 153, 0, 6, 16, 254, 172, 43, 182, 0, 204, 3, 46, 2]
abbrev dktX1_fewest_0 : List UInt8 := dkwX1_fewest_0 ++ dktX1_fewest_1
theorem dksX1_fewest_0 : cX1_fewest.data.toList.drop 0 = dktX1_fewest_0 := by decide +kernel
theorem dksX1_fewest_1 : cX1_fewest.data.toList.drop 22 = dktX1_fewest_1 := dk_seg dksX1_fewest_0 22 rfl rfl
theorem dX1_fewest_0 : decode cX1_fewest 0 = .ok (.aload_n 0, 1) := dk_42 (dk_at dksX1_fewest_0 0 rfl rfl)
theorem dX1_fewest_1 : decode cX1_fewest 1 = .ok (.invokevirtual 183, 3) := dk_182 0 183 (dk_at dksX1_fewest_0 1 rfl rfl)
theorem dX1_fewest_4 : decode cX1_fewest 4 = .ok (.astore_n 1, 1) := dk_76 (dk_at dksX1_fewest_0 4 rfl rfl)
theorem dX1_fewest_5 : decode cX1_fewest 5 = .ok (.aload_n 1, 1) := dk_43 (dk_at dksX1_fewest_0 5 rfl rfl)
theorem dX1_fewest_6 : decode cX1_fewest 6 = .ok (.getfield 186, 3) := dk_180 0 186 (dk_at dksX1_fewest_0 6 rfl rfl)
theorem dX1_fewest_9 : decode cX1_fewest 9 = .ok (.ifCond .eq 6, 3) := dk_153 0 6 (dk_at dksX1_fewest_0 9 rfl rfl)
theorem dX1_fewest_12 : decode cX1_fewest 12 = .ok (.bipush (-2), 2) := dk_16 254 (dk_at dksX1_fewest_0 12 rfl rfl)
theorem dX1_fewest_14 : decode cX1_fewest 14 = .ok (.ireturn, 1) := dk_172 (dk_at dksX1_fewest_0 14 rfl rfl)
theorem dX1_fewest_15 : decode cX1_fewest 15 = .ok (.aload_n 1, 1) := dk_43 (dk_at dksX1_fewest_0 15 rfl rfl)
theorem dX1_fewest_16 : decode cX1_fewest 16 = .ok (.invokevirtual 204, 3) := dk_182 0 204 (dk_at dksX1_fewest_0 16 rfl rfl)
theorem dX1_fewest_19 : decode cX1_fewest 19 = .ok (.iconst 0, 1) := dk_3 (dk_at dksX1_fewest_0 19 rfl rfl)
theorem dX1_fewest_20 : decode cX1_fewest 20 = .ok (.iaload, 1) := dk_46 (dk_at dksX1_fewest_0 20 rfl rfl)
theorem dX1_fewest_21 : decode cX1_fewest 21 = .ok (.iconst (-1), 1) := dk_2 (dk_at dksX1_fewest_0 21 rfl rfl)
theorem dX1_fewest_22 : decode cX1_fewest 22 = .ok (.if_icmp .ne 5, 3) := dk_160 0 5 (dk_at dksX1_fewest_1 0 rfl rfl)
theorem dX1_fewest_25 : decode cX1_fewest 25 = .ok (.iconst (-1), 1) := dk_2 (dk_at dksX1_fewest_1 3 rfl rfl)
theorem dX1_fewest_26 : decode cX1_fewest 26 = .ok (.ireturn, 1) := dk_172 (dk_at dksX1_fewest_1 4 rfl rfl)
theorem dX1_fewest_27 : decode cX1_fewest 27 = .ok (.aload_n 0, 1) := dk_42 (dk_at dksX1_fewest_1 5 rfl rfl)
theorem dX1_fewest_28 : decode cX1_fewest 28 = .ok (.aload_n 1, 1) := dk_43 (dk_at dksX1_fewest_1 6 rfl rfl)
theorem dX1_fewest_29 : decode cX1_fewest 29 = .ok (.iconst 0, 1) := dk_3 (dk_at dksX1_fewest_1 7 rfl rfl)
theorem dX1_fewest_30 : decode cX1_fewest 30 = .ok (.invokevirtual 234, 3) := dk_182 0 234 (dk_at dksX1_fewest_1 8 rfl rfl)
theorem dX1_fewest_33 : decode cX1_fewest 33 = .ok (.aload_n 1, 1) := dk_43 (dk_at dksX1_fewest_1 11 rfl rfl)
theorem dX1_fewest_34 : decode cX1_fewest 34 = .ok (.invokevirtual 204, 3) := dk_182 0 204 (dk_at dksX1_fewest_1 12 rfl rfl)
theorem dX1_fewest_37 : decode cX1_fewest 37 = .ok (.iconst 0, 1) := dk_3 (dk_at dksX1_fewest_1 15 rfl rfl)
theorem dX1_fewest_38 : decode cX1_fewest 38 = .ok (.iaload, 1) := dk_46 (dk_at dksX1_fewest_1 16 rfl rfl)
theorem dX1_fewest_39 : decode cX1_fewest 39 = .ok (.ireturn, 1) := dk_172 (dk_at dksX1_fewest_1 17 rfl rfl)
abbrev cX1_map : ByteArray := prog_1_method_6_code
def yX1_map : MethodName := ⟨RX1, "map", "()LFerryHall$Map;"⟩
def dkwX1_map_1 : List UInt8 := [181, 0, 73, 42, 180, 0, 33, 176]
abbrev dktX1_map_1 : List UInt8 := dkwX1_map_1 ++ []
def dkwX1_map_0 : List UInt8 := [42, 180, 0, 73, 154, 0, 18, 42, 180, 0, 33, 42, 180, 0, 18, 2, 2, 3, 182, 0, 90, 87, 42, 4]
abbrev dktX1_map_0 : List UInt8 := dkwX1_map_0 ++ dktX1_map_1
theorem dksX1_map_0 : cX1_map.data.toList.drop 0 = dktX1_map_0 := by decide +kernel
theorem dksX1_map_1 : cX1_map.data.toList.drop 24 = dktX1_map_1 := dk_seg dksX1_map_0 24 rfl rfl
theorem dX1_map_0 : decode cX1_map 0 = .ok (.aload_n 0, 1) := dk_42 (dk_at dksX1_map_0 0 rfl rfl)
theorem dX1_map_1 : decode cX1_map 1 = .ok (.getfield 73, 3) := dk_180 0 73 (dk_at dksX1_map_0 1 rfl rfl)
theorem dX1_map_4 : decode cX1_map 4 = .ok (.ifCond .ne 18, 3) := dk_154 0 18 (dk_at dksX1_map_0 4 rfl rfl)
theorem dX1_map_7 : decode cX1_map 7 = .ok (.aload_n 0, 1) := dk_42 (dk_at dksX1_map_0 7 rfl rfl)
theorem dX1_map_8 : decode cX1_map 8 = .ok (.getfield 33, 3) := dk_180 0 33 (dk_at dksX1_map_0 8 rfl rfl)
theorem dX1_map_11 : decode cX1_map 11 = .ok (.aload_n 0, 1) := dk_42 (dk_at dksX1_map_0 11 rfl rfl)
theorem dX1_map_12 : decode cX1_map 12 = .ok (.getfield 18, 3) := dk_180 0 18 (dk_at dksX1_map_0 12 rfl rfl)
theorem dX1_map_15 : decode cX1_map 15 = .ok (.iconst (-1), 1) := dk_2 (dk_at dksX1_map_0 15 rfl rfl)
theorem dX1_map_16 : decode cX1_map 16 = .ok (.iconst (-1), 1) := dk_2 (dk_at dksX1_map_0 16 rfl rfl)
theorem dX1_map_17 : decode cX1_map 17 = .ok (.iconst 0, 1) := dk_3 (dk_at dksX1_map_0 17 rfl rfl)
theorem dX1_map_18 : decode cX1_map 18 = .ok (.invokevirtual 90, 3) := dk_182 0 90 (dk_at dksX1_map_0 18 rfl rfl)
theorem dX1_map_21 : decode cX1_map 21 = .ok (.pop, 1) := dk_87 (dk_at dksX1_map_0 21 rfl rfl)
theorem dX1_map_22 : decode cX1_map 22 = .ok (.aload_n 0, 1) := dk_42 (dk_at dksX1_map_0 22 rfl rfl)
theorem dX1_map_23 : decode cX1_map 23 = .ok (.iconst 1, 1) := dk_4 (dk_at dksX1_map_0 23 rfl rfl)
theorem dX1_map_24 : decode cX1_map 24 = .ok (.putfield 73, 3) := dk_181 0 73 (dk_at dksX1_map_1 0 rfl rfl)
theorem dX1_map_27 : decode cX1_map 27 = .ok (.aload_n 0, 1) := dk_42 (dk_at dksX1_map_1 3 rfl rfl)
theorem dX1_map_28 : decode cX1_map 28 = .ok (.getfield 33, 3) := dk_180 0 33 (dk_at dksX1_map_1 4 rfl rfl)
theorem dX1_map_31 : decode cX1_map 31 = .ok (.areturn, 1) := dk_176 (dk_at dksX1_map_1 7 rfl rfl)
abbrev cX1_in : ByteArray := prog_1_method_1_code
def yX1_in : MethodName := ⟨RX1, "in", "(III)Z"⟩
def dkwX1_in_0 : List UInt8 := [26, 27, 161, 0, 12, 26, 28, 163, 0, 7, 4, 167, 0, 4, 3, 172]
abbrev dktX1_in_0 : List UInt8 := dkwX1_in_0 ++ []
theorem dksX1_in_0 : cX1_in.data.toList.drop 0 = dktX1_in_0 := by decide +kernel
theorem dX1_in_0 : decode cX1_in 0 = .ok (.iload_n 0, 1) := dk_26 (dk_at dksX1_in_0 0 rfl rfl)
theorem dX1_in_1 : decode cX1_in 1 = .ok (.iload_n 1, 1) := dk_27 (dk_at dksX1_in_0 1 rfl rfl)
theorem dX1_in_2 : decode cX1_in 2 = .ok (.if_icmp .lt 12, 3) := dk_161 0 12 (dk_at dksX1_in_0 2 rfl rfl)
theorem dX1_in_5 : decode cX1_in 5 = .ok (.iload_n 0, 1) := dk_26 (dk_at dksX1_in_0 5 rfl rfl)
theorem dX1_in_6 : decode cX1_in 6 = .ok (.iload_n 2, 1) := dk_28 (dk_at dksX1_in_0 6 rfl rfl)
theorem dX1_in_7 : decode cX1_in 7 = .ok (.if_icmp .gt 7, 3) := dk_163 0 7 (dk_at dksX1_in_0 7 rfl rfl)
theorem dX1_in_10 : decode cX1_in 10 = .ok (.iconst 1, 1) := dk_4 (dk_at dksX1_in_0 10 rfl rfl)
theorem dX1_in_11 : decode cX1_in 11 = .ok (.goto 4, 3) := dk_167 0 4 (dk_at dksX1_in_0 11 rfl rfl)
theorem dX1_in_14 : decode cX1_in 14 = .ok (.iconst 0, 1) := dk_3 (dk_at dksX1_in_0 14 rfl rfl)
theorem dX1_in_15 : decode cX1_in 15 = .ok (.ireturn, 1) := dk_172 (dk_at dksX1_in_0 15 rfl rfl)
abbrev cX1_keep : ByteArray := prog_1_method_18_code
def yX1_keep : MethodName := ⟨RX1, "keep", "(LFerryHall$Map;Z)V"⟩
def dkwX1_keep_5 : List UInt8 := [79, 132, 5, 1, 167, 255, 222, 177]
abbrev dktX1_keep_5 : List UInt8 := dkwX1_keep_5 ++ []
def dkwX1_keep_4 : List UInt8 := [190, 162, 0, 30, 42, 180, 0, 77, 21, 5, 45, 21, 5, 185, 0, 157, 2, 0, 192, 0, 219, 182, 0, 231]
abbrev dktX1_keep_4 : List UInt8 := dkwX1_keep_4 ++ dktX1_keep_5
def dkwX1_keep_3 : List UInt8 := [167, 255, 213, 42, 45, 185, 0, 127, 1, 0, 188, 10, 181, 0, 77, 3, 54, 5, 21, 5, 42, 180, 0, 77]
abbrev dktX1_keep_3 : List UInt8 := dkwX1_keep_3 ++ dktX1_keep_4
def dkwX1_keep_2 : List UInt8 := [180, 0, 215, 21, 6, 46, 184, 0, 218, 185, 0, 224, 2, 0, 87, 43, 180, 0, 228, 21, 6, 46, 54, 5]
abbrev dktX1_keep_2 : List UInt8 := dkwX1_keep_2 ++ dktX1_keep_3
def dkwX1_keep_1 : List UInt8 := [58, 4, 3, 54, 5, 25, 4, 21, 5, 46, 153, 0, 41, 43, 21, 5, 28, 182, 0, 211, 54, 6, 45, 43]
abbrev dktX1_keep_1 : List UInt8 := dkwX1_keep_1 ++ dktX1_keep_2
def dkwX1_keep_0 : List UInt8 := [187, 0, 40, 89, 183, 0, 42, 78, 28, 153, 0, 10, 43, 182, 0, 208, 167, 0, 7, 43, 182, 0, 204]
abbrev dktX1_keep_0 : List UInt8 := dkwX1_keep_0 ++ dktX1_keep_1
theorem dksX1_keep_0 : cX1_keep.data.toList.drop 0 = dktX1_keep_0 := by decide +kernel
theorem dksX1_keep_1 : cX1_keep.data.toList.drop 23 = dktX1_keep_1 := dk_seg dksX1_keep_0 23 rfl rfl
theorem dksX1_keep_2 : cX1_keep.data.toList.drop 47 = dktX1_keep_2 := dk_seg dksX1_keep_1 24 rfl rfl
theorem dksX1_keep_3 : cX1_keep.data.toList.drop 71 = dktX1_keep_3 := dk_seg dksX1_keep_2 24 rfl rfl
theorem dksX1_keep_4 : cX1_keep.data.toList.drop 95 = dktX1_keep_4 := dk_seg dksX1_keep_3 24 rfl rfl
theorem dksX1_keep_5 : cX1_keep.data.toList.drop 119 = dktX1_keep_5 := dk_seg dksX1_keep_4 24 rfl rfl
theorem dX1_keep_0 : decode cX1_keep 0 = .ok (.new 40, 3) := dk_187 0 40 (dk_at dksX1_keep_0 0 rfl rfl)
theorem dX1_keep_3 : decode cX1_keep 3 = .ok (.dup, 1) := dk_89 (dk_at dksX1_keep_0 3 rfl rfl)
theorem dX1_keep_4 : decode cX1_keep 4 = .ok (.invokespecial 42, 3) := dk_183 0 42 (dk_at dksX1_keep_0 4 rfl rfl)
theorem dX1_keep_7 : decode cX1_keep 7 = .ok (.astore_n 3, 1) := dk_78 (dk_at dksX1_keep_0 7 rfl rfl)
theorem dX1_keep_8 : decode cX1_keep 8 = .ok (.iload_n 2, 1) := dk_28 (dk_at dksX1_keep_0 8 rfl rfl)
theorem dX1_keep_9 : decode cX1_keep 9 = .ok (.ifCond .eq 10, 3) := dk_153 0 10 (dk_at dksX1_keep_0 9 rfl rfl)
theorem dX1_keep_12 : decode cX1_keep 12 = .ok (.aload_n 1, 1) := dk_43 (dk_at dksX1_keep_0 12 rfl rfl)
theorem dX1_keep_13 : decode cX1_keep 13 = .ok (.invokevirtual 208, 3) := dk_182 0 208 (dk_at dksX1_keep_0 13 rfl rfl)
theorem dX1_keep_16 : decode cX1_keep 16 = .ok (.goto 7, 3) := dk_167 0 7 (dk_at dksX1_keep_0 16 rfl rfl)
theorem dX1_keep_19 : decode cX1_keep 19 = .ok (.aload_n 1, 1) := dk_43 (dk_at dksX1_keep_0 19 rfl rfl)
theorem dX1_keep_20 : decode cX1_keep 20 = .ok (.invokevirtual 204, 3) := dk_182 0 204 (dk_at dksX1_keep_0 20 rfl rfl)
theorem dX1_keep_23 : decode cX1_keep 23 = .ok (.astore 4, 2) := dk_58 4 (dk_at dksX1_keep_1 0 rfl rfl)
theorem dX1_keep_25 : decode cX1_keep 25 = .ok (.iconst 0, 1) := dk_3 (dk_at dksX1_keep_1 2 rfl rfl)
theorem dX1_keep_26 : decode cX1_keep 26 = .ok (.istore 5, 2) := dk_54 5 (dk_at dksX1_keep_1 3 rfl rfl)
theorem dX1_keep_28 : decode cX1_keep 28 = .ok (.aload 4, 2) := dk_25 4 (dk_at dksX1_keep_1 5 rfl rfl)
theorem dX1_keep_30 : decode cX1_keep 30 = .ok (.iload 5, 2) := dk_21 5 (dk_at dksX1_keep_1 7 rfl rfl)
theorem dX1_keep_32 : decode cX1_keep 32 = .ok (.iaload, 1) := dk_46 (dk_at dksX1_keep_1 9 rfl rfl)
theorem dX1_keep_33 : decode cX1_keep 33 = .ok (.ifCond .eq 41, 3) := dk_153 0 41 (dk_at dksX1_keep_1 10 rfl rfl)
theorem dX1_keep_36 : decode cX1_keep 36 = .ok (.aload_n 1, 1) := dk_43 (dk_at dksX1_keep_1 13 rfl rfl)
theorem dX1_keep_37 : decode cX1_keep 37 = .ok (.iload 5, 2) := dk_21 5 (dk_at dksX1_keep_1 14 rfl rfl)
theorem dX1_keep_39 : decode cX1_keep 39 = .ok (.iload_n 2, 1) := dk_28 (dk_at dksX1_keep_1 16 rfl rfl)
theorem dX1_keep_40 : decode cX1_keep 40 = .ok (.invokevirtual 211, 3) := dk_182 0 211 (dk_at dksX1_keep_1 17 rfl rfl)
theorem dX1_keep_43 : decode cX1_keep 43 = .ok (.istore 6, 2) := dk_54 6 (dk_at dksX1_keep_1 20 rfl rfl)
theorem dX1_keep_45 : decode cX1_keep 45 = .ok (.aload_n 3, 1) := dk_45 (dk_at dksX1_keep_1 22 rfl rfl)
theorem dX1_keep_46 : decode cX1_keep 46 = .ok (.aload_n 1, 1) := dk_43 (dk_at dksX1_keep_1 23 rfl rfl)
theorem dX1_keep_47 : decode cX1_keep 47 = .ok (.getfield 215, 3) := dk_180 0 215 (dk_at dksX1_keep_2 0 rfl rfl)
theorem dX1_keep_50 : decode cX1_keep 50 = .ok (.iload 6, 2) := dk_21 6 (dk_at dksX1_keep_2 3 rfl rfl)
theorem dX1_keep_52 : decode cX1_keep 52 = .ok (.iaload, 1) := dk_46 (dk_at dksX1_keep_2 5 rfl rfl)
theorem dX1_keep_53 : decode cX1_keep 53 = .ok (.invokestatic 218, 3) := dk_184 0 218 (dk_at dksX1_keep_2 6 rfl rfl)
theorem dX1_keep_56 : decode cX1_keep 56 = .ok (.invokeinterface 224 2, 5) := by decide +kernel
theorem dX1_keep_61 : decode cX1_keep 61 = .ok (.pop, 1) := dk_87 (dk_at dksX1_keep_2 14 rfl rfl)
theorem dX1_keep_62 : decode cX1_keep 62 = .ok (.aload_n 1, 1) := dk_43 (dk_at dksX1_keep_2 15 rfl rfl)
theorem dX1_keep_63 : decode cX1_keep 63 = .ok (.getfield 228, 3) := dk_180 0 228 (dk_at dksX1_keep_2 16 rfl rfl)
theorem dX1_keep_66 : decode cX1_keep 66 = .ok (.iload 6, 2) := dk_21 6 (dk_at dksX1_keep_2 19 rfl rfl)
theorem dX1_keep_68 : decode cX1_keep 68 = .ok (.iaload, 1) := dk_46 (dk_at dksX1_keep_2 21 rfl rfl)
theorem dX1_keep_69 : decode cX1_keep 69 = .ok (.istore 5, 2) := dk_54 5 (dk_at dksX1_keep_2 22 rfl rfl)
theorem dX1_keep_71 : decode cX1_keep 71 = .ok (.goto (-43), 3) := dk_167 255 213 (dk_at dksX1_keep_3 0 rfl rfl)
theorem dX1_keep_74 : decode cX1_keep 74 = .ok (.aload_n 0, 1) := dk_42 (dk_at dksX1_keep_3 3 rfl rfl)
theorem dX1_keep_75 : decode cX1_keep 75 = .ok (.aload_n 3, 1) := dk_45 (dk_at dksX1_keep_3 4 rfl rfl)
theorem dX1_keep_76 : decode cX1_keep 76 = .ok (.invokeinterface 127 1, 5) := by decide +kernel
theorem dX1_keep_81 : decode cX1_keep 81 = .ok (.newarray .int, 2) := dk_188_10 (dk_at dksX1_keep_3 10 rfl rfl)
theorem dX1_keep_83 : decode cX1_keep 83 = .ok (.putfield 77, 3) := dk_181 0 77 (dk_at dksX1_keep_3 12 rfl rfl)
theorem dX1_keep_86 : decode cX1_keep 86 = .ok (.iconst 0, 1) := dk_3 (dk_at dksX1_keep_3 15 rfl rfl)
theorem dX1_keep_87 : decode cX1_keep 87 = .ok (.istore 5, 2) := dk_54 5 (dk_at dksX1_keep_3 16 rfl rfl)
theorem dX1_keep_89 : decode cX1_keep 89 = .ok (.iload 5, 2) := dk_21 5 (dk_at dksX1_keep_3 18 rfl rfl)
theorem dX1_keep_91 : decode cX1_keep 91 = .ok (.aload_n 0, 1) := dk_42 (dk_at dksX1_keep_3 20 rfl rfl)
theorem dX1_keep_92 : decode cX1_keep 92 = .ok (.getfield 77, 3) := dk_180 0 77 (dk_at dksX1_keep_3 21 rfl rfl)
theorem dX1_keep_95 : decode cX1_keep 95 = .ok (.arraylength, 1) := dk_190 (dk_at dksX1_keep_4 0 rfl rfl)
theorem dX1_keep_96 : decode cX1_keep 96 = .ok (.if_icmp .ge 30, 3) := dk_162 0 30 (dk_at dksX1_keep_4 1 rfl rfl)
theorem dX1_keep_99 : decode cX1_keep 99 = .ok (.aload_n 0, 1) := dk_42 (dk_at dksX1_keep_4 4 rfl rfl)
theorem dX1_keep_100 : decode cX1_keep 100 = .ok (.getfield 77, 3) := dk_180 0 77 (dk_at dksX1_keep_4 5 rfl rfl)
theorem dX1_keep_103 : decode cX1_keep 103 = .ok (.iload 5, 2) := dk_21 5 (dk_at dksX1_keep_4 8 rfl rfl)
theorem dX1_keep_105 : decode cX1_keep 105 = .ok (.aload_n 3, 1) := dk_45 (dk_at dksX1_keep_4 10 rfl rfl)
theorem dX1_keep_106 : decode cX1_keep 106 = .ok (.iload 5, 2) := dk_21 5 (dk_at dksX1_keep_4 11 rfl rfl)
theorem dX1_keep_108 : decode cX1_keep 108 = .ok (.invokeinterface 157 2, 5) := by decide +kernel
theorem dX1_keep_113 : decode cX1_keep 113 = .ok (.checkcast 219, 3) := dk_192 0 219 (dk_at dksX1_keep_4 18 rfl rfl)
theorem dX1_keep_116 : decode cX1_keep 116 = .ok (.invokevirtual 231, 3) := dk_182 0 231 (dk_at dksX1_keep_4 21 rfl rfl)
theorem dX1_keep_119 : decode cX1_keep 119 = .ok (.iastore, 1) := dk_79 (dk_at dksX1_keep_5 0 rfl rfl)
theorem dX1_keep_120 : decode cX1_keep 120 = .ok (.iinc 5 1, 3) := dk_132 5 1 (dk_at dksX1_keep_5 1 rfl rfl)
theorem dX1_keep_123 : decode cX1_keep 123 = .ok (.goto (-34), 3) := dk_167 255 222 (dk_at dksX1_keep_5 4 rfl rfl)
theorem dX1_keep_126 : decode cX1_keep 126 = .ok (.return_, 1) := dk_177 (dk_at dksX1_keep_5 7 rfl rfl)
abbrev cX1_quickest : ByteArray := prog_1_method_20_code
def yX1_quickest : MethodName := ⟨RX1, "quickest", "()I"⟩
def dkwX1_quickest_1 : List UInt8 := [160, 0, 5, 2, 172, 42, 43, 4, 182, 0, 234, 43, 182, 0, 208, 3, 46, 17, 16, 0, 108, 172]
abbrev dktX1_quickest_1 : List UInt8 := dkwX1_quickest_1 ++ []
def dkwX1_quickest_0 : List UInt8 := [42, 182, 0, 183, 76, 43, 180, 0, 186, 153, 0, 6, 16, 254, 172, 43, 182, 0, 208, 3, 46, 2]
abbrev dktX1_quickest_0 : List UInt8 := dkwX1_quickest_0 ++ dktX1_quickest_1
theorem dksX1_quickest_0 : cX1_quickest.data.toList.drop 0 = dktX1_quickest_0 := by decide +kernel
theorem dksX1_quickest_1 : cX1_quickest.data.toList.drop 22 = dktX1_quickest_1 := dk_seg dksX1_quickest_0 22 rfl rfl
theorem dX1_quickest_0 : decode cX1_quickest 0 = .ok (.aload_n 0, 1) := dk_42 (dk_at dksX1_quickest_0 0 rfl rfl)
theorem dX1_quickest_1 : decode cX1_quickest 1 = .ok (.invokevirtual 183, 3) := dk_182 0 183 (dk_at dksX1_quickest_0 1 rfl rfl)
theorem dX1_quickest_4 : decode cX1_quickest 4 = .ok (.astore_n 1, 1) := dk_76 (dk_at dksX1_quickest_0 4 rfl rfl)
theorem dX1_quickest_5 : decode cX1_quickest 5 = .ok (.aload_n 1, 1) := dk_43 (dk_at dksX1_quickest_0 5 rfl rfl)
theorem dX1_quickest_6 : decode cX1_quickest 6 = .ok (.getfield 186, 3) := dk_180 0 186 (dk_at dksX1_quickest_0 6 rfl rfl)
theorem dX1_quickest_9 : decode cX1_quickest 9 = .ok (.ifCond .eq 6, 3) := dk_153 0 6 (dk_at dksX1_quickest_0 9 rfl rfl)
theorem dX1_quickest_12 : decode cX1_quickest 12 = .ok (.bipush (-2), 2) := dk_16 254 (dk_at dksX1_quickest_0 12 rfl rfl)
theorem dX1_quickest_14 : decode cX1_quickest 14 = .ok (.ireturn, 1) := dk_172 (dk_at dksX1_quickest_0 14 rfl rfl)
theorem dX1_quickest_15 : decode cX1_quickest 15 = .ok (.aload_n 1, 1) := dk_43 (dk_at dksX1_quickest_0 15 rfl rfl)
theorem dX1_quickest_16 : decode cX1_quickest 16 = .ok (.invokevirtual 208, 3) := dk_182 0 208 (dk_at dksX1_quickest_0 16 rfl rfl)
theorem dX1_quickest_19 : decode cX1_quickest 19 = .ok (.iconst 0, 1) := dk_3 (dk_at dksX1_quickest_0 19 rfl rfl)
theorem dX1_quickest_20 : decode cX1_quickest 20 = .ok (.iaload, 1) := dk_46 (dk_at dksX1_quickest_0 20 rfl rfl)
theorem dX1_quickest_21 : decode cX1_quickest 21 = .ok (.iconst (-1), 1) := dk_2 (dk_at dksX1_quickest_0 21 rfl rfl)
theorem dX1_quickest_22 : decode cX1_quickest 22 = .ok (.if_icmp .ne 5, 3) := dk_160 0 5 (dk_at dksX1_quickest_1 0 rfl rfl)
theorem dX1_quickest_25 : decode cX1_quickest 25 = .ok (.iconst (-1), 1) := dk_2 (dk_at dksX1_quickest_1 3 rfl rfl)
theorem dX1_quickest_26 : decode cX1_quickest 26 = .ok (.ireturn, 1) := dk_172 (dk_at dksX1_quickest_1 4 rfl rfl)
theorem dX1_quickest_27 : decode cX1_quickest 27 = .ok (.aload_n 0, 1) := dk_42 (dk_at dksX1_quickest_1 5 rfl rfl)
theorem dX1_quickest_28 : decode cX1_quickest 28 = .ok (.aload_n 1, 1) := dk_43 (dk_at dksX1_quickest_1 6 rfl rfl)
theorem dX1_quickest_29 : decode cX1_quickest 29 = .ok (.iconst 1, 1) := dk_4 (dk_at dksX1_quickest_1 7 rfl rfl)
theorem dX1_quickest_30 : decode cX1_quickest 30 = .ok (.invokevirtual 234, 3) := dk_182 0 234 (dk_at dksX1_quickest_1 8 rfl rfl)
theorem dX1_quickest_33 : decode cX1_quickest 33 = .ok (.aload_n 1, 1) := dk_43 (dk_at dksX1_quickest_1 11 rfl rfl)
theorem dX1_quickest_34 : decode cX1_quickest 34 = .ok (.invokevirtual 208, 3) := dk_182 0 208 (dk_at dksX1_quickest_1 12 rfl rfl)
theorem dX1_quickest_37 : decode cX1_quickest 37 = .ok (.iconst 0, 1) := dk_3 (dk_at dksX1_quickest_1 15 rfl rfl)
theorem dX1_quickest_38 : decode cX1_quickest 38 = .ok (.iaload, 1) := dk_46 (dk_at dksX1_quickest_1 16 rfl rfl)
theorem dX1_quickest_39 : decode cX1_quickest 39 = .ok (.sipush 4096, 3) := dk_17 16 0 (dk_at dksX1_quickest_1 17 rfl rfl)
theorem dX1_quickest_42 : decode cX1_quickest 42 = .ok (.idiv, 1) := dk_108 (dk_at dksX1_quickest_1 20 rfl rfl)
theorem dX1_quickest_43 : decode cX1_quickest 43 = .ok (.ireturn, 1) := dk_172 (dk_at dksX1_quickest_1 21 rfl rfl)
abbrev cX1_ways : ByteArray := prog_1_method_21_code
def yX1_ways : MethodName := ⟨RX1, "ways", "()I"⟩
def dkwX1_ways_0 : List UInt8 := [42, 182, 0, 183, 76, 43, 180, 0, 186, 153, 0, 8, 16, 254, 167, 0, 7, 43, 182, 0, 238, 172]
abbrev dktX1_ways_0 : List UInt8 := dkwX1_ways_0 ++ []
theorem dksX1_ways_0 : cX1_ways.data.toList.drop 0 = dktX1_ways_0 := by decide +kernel
theorem dX1_ways_0 : decode cX1_ways 0 = .ok (.aload_n 0, 1) := dk_42 (dk_at dksX1_ways_0 0 rfl rfl)
theorem dX1_ways_1 : decode cX1_ways 1 = .ok (.invokevirtual 183, 3) := dk_182 0 183 (dk_at dksX1_ways_0 1 rfl rfl)
theorem dX1_ways_4 : decode cX1_ways 4 = .ok (.astore_n 1, 1) := dk_76 (dk_at dksX1_ways_0 4 rfl rfl)
theorem dX1_ways_5 : decode cX1_ways 5 = .ok (.aload_n 1, 1) := dk_43 (dk_at dksX1_ways_0 5 rfl rfl)
theorem dX1_ways_6 : decode cX1_ways 6 = .ok (.getfield 186, 3) := dk_180 0 186 (dk_at dksX1_ways_0 6 rfl rfl)
theorem dX1_ways_9 : decode cX1_ways 9 = .ok (.ifCond .eq 8, 3) := dk_153 0 8 (dk_at dksX1_ways_0 9 rfl rfl)
theorem dX1_ways_12 : decode cX1_ways 12 = .ok (.bipush (-2), 2) := dk_16 254 (dk_at dksX1_ways_0 12 rfl rfl)
theorem dX1_ways_14 : decode cX1_ways 14 = .ok (.goto 7, 3) := dk_167 0 7 (dk_at dksX1_ways_0 14 rfl rfl)
theorem dX1_ways_17 : decode cX1_ways 17 = .ok (.aload_n 1, 1) := dk_43 (dk_at dksX1_ways_0 17 rfl rfl)
theorem dX1_ways_18 : decode cX1_ways 18 = .ok (.invokevirtual 238, 3) := dk_182 0 238 (dk_at dksX1_ways_0 18 rfl rfl)
theorem dX1_ways_21 : decode cX1_ways 21 = .ok (.ireturn, 1) := dk_172 (dk_at dksX1_ways_0 21 rfl rfl)
abbrev cX1_rounds : ByteArray := prog_1_method_35_code
def yX1_rounds : MethodName := ⟨RX1, "rounds", "()I"⟩
def dkwX1_rounds_4 : List UInt8 := [172, 187, 1, 40, 89, 42, 183, 1, 42, 182, 1, 45, 172]
abbrev dktX1_rounds_4 : List UInt8 := dkwX1_rounds_4 ++ []
def dkwX1_rounds_3 : List UInt8 := [180, 0, 18, 180, 0, 124, 4, 185, 0, 157, 2, 0, 192, 0, 161, 180, 0, 163, 6, 164, 0, 6, 16, 254]
abbrev dktX1_rounds_3 : List UInt8 := dkwX1_rounds_3 ++ dktX1_rounds_4
def dkwX1_rounds_2 : List UInt8 := [42, 180, 0, 18, 180, 0, 124, 3, 185, 0, 157, 2, 0, 192, 0, 161, 180, 0, 163, 6, 163, 0, 26, 42]
abbrev dktX1_rounds_2 : List UInt8 := dkwX1_rounds_2 ++ dktX1_rounds_3
def dkwX1_rounds_1 : List UInt8 := [160, 0, 18, 42, 180, 0, 18, 180, 0, 134, 2, 160, 0, 7, 4, 167, 0, 4, 3, 60, 27, 153, 0, 49]
abbrev dktX1_rounds_1 : List UInt8 := dkwX1_rounds_1 ++ dktX1_rounds_2
def dkwX1_rounds_0 : List UInt8 := [42, 180, 0, 18, 180, 0, 118, 5, 160, 0, 34, 42, 180, 0, 18, 180, 0, 124, 185, 0, 127, 1, 0, 5]
abbrev dktX1_rounds_0 : List UInt8 := dkwX1_rounds_0 ++ dktX1_rounds_1
theorem dksX1_rounds_0 : cX1_rounds.data.toList.drop 0 = dktX1_rounds_0 := by decide +kernel
theorem dksX1_rounds_1 : cX1_rounds.data.toList.drop 24 = dktX1_rounds_1 := dk_seg dksX1_rounds_0 24 rfl rfl
theorem dksX1_rounds_2 : cX1_rounds.data.toList.drop 48 = dktX1_rounds_2 := dk_seg dksX1_rounds_1 24 rfl rfl
theorem dksX1_rounds_3 : cX1_rounds.data.toList.drop 72 = dktX1_rounds_3 := dk_seg dksX1_rounds_2 24 rfl rfl
theorem dksX1_rounds_4 : cX1_rounds.data.toList.drop 96 = dktX1_rounds_4 := dk_seg dksX1_rounds_3 24 rfl rfl
theorem dX1_rounds_0 : decode cX1_rounds 0 = .ok (.aload_n 0, 1) := dk_42 (dk_at dksX1_rounds_0 0 rfl rfl)
theorem dX1_rounds_1 : decode cX1_rounds 1 = .ok (.getfield 18, 3) := dk_180 0 18 (dk_at dksX1_rounds_0 1 rfl rfl)
theorem dX1_rounds_4 : decode cX1_rounds 4 = .ok (.getfield 118, 3) := dk_180 0 118 (dk_at dksX1_rounds_0 4 rfl rfl)
theorem dX1_rounds_7 : decode cX1_rounds 7 = .ok (.iconst 2, 1) := dk_5 (dk_at dksX1_rounds_0 7 rfl rfl)
theorem dX1_rounds_8 : decode cX1_rounds 8 = .ok (.if_icmp .ne 34, 3) := dk_160 0 34 (dk_at dksX1_rounds_0 8 rfl rfl)
theorem dX1_rounds_11 : decode cX1_rounds 11 = .ok (.aload_n 0, 1) := dk_42 (dk_at dksX1_rounds_0 11 rfl rfl)
theorem dX1_rounds_12 : decode cX1_rounds 12 = .ok (.getfield 18, 3) := dk_180 0 18 (dk_at dksX1_rounds_0 12 rfl rfl)
theorem dX1_rounds_15 : decode cX1_rounds 15 = .ok (.getfield 124, 3) := dk_180 0 124 (dk_at dksX1_rounds_0 15 rfl rfl)
theorem dX1_rounds_18 : decode cX1_rounds 18 = .ok (.invokeinterface 127 1, 5) := by decide +kernel
theorem dX1_rounds_23 : decode cX1_rounds 23 = .ok (.iconst 2, 1) := dk_5 (dk_at dksX1_rounds_0 23 rfl rfl)
theorem dX1_rounds_24 : decode cX1_rounds 24 = .ok (.if_icmp .ne 18, 3) := dk_160 0 18 (dk_at dksX1_rounds_1 0 rfl rfl)
theorem dX1_rounds_27 : decode cX1_rounds 27 = .ok (.aload_n 0, 1) := dk_42 (dk_at dksX1_rounds_1 3 rfl rfl)
theorem dX1_rounds_28 : decode cX1_rounds 28 = .ok (.getfield 18, 3) := dk_180 0 18 (dk_at dksX1_rounds_1 4 rfl rfl)
theorem dX1_rounds_31 : decode cX1_rounds 31 = .ok (.getfield 134, 3) := dk_180 0 134 (dk_at dksX1_rounds_1 7 rfl rfl)
theorem dX1_rounds_34 : decode cX1_rounds 34 = .ok (.iconst (-1), 1) := dk_2 (dk_at dksX1_rounds_1 10 rfl rfl)
theorem dX1_rounds_35 : decode cX1_rounds 35 = .ok (.if_icmp .ne 7, 3) := dk_160 0 7 (dk_at dksX1_rounds_1 11 rfl rfl)
theorem dX1_rounds_38 : decode cX1_rounds 38 = .ok (.iconst 1, 1) := dk_4 (dk_at dksX1_rounds_1 14 rfl rfl)
theorem dX1_rounds_39 : decode cX1_rounds 39 = .ok (.goto 4, 3) := dk_167 0 4 (dk_at dksX1_rounds_1 15 rfl rfl)
theorem dX1_rounds_42 : decode cX1_rounds 42 = .ok (.iconst 0, 1) := dk_3 (dk_at dksX1_rounds_1 18 rfl rfl)
theorem dX1_rounds_43 : decode cX1_rounds 43 = .ok (.istore_n 1, 1) := dk_60 (dk_at dksX1_rounds_1 19 rfl rfl)
theorem dX1_rounds_44 : decode cX1_rounds 44 = .ok (.iload_n 1, 1) := dk_27 (dk_at dksX1_rounds_1 20 rfl rfl)
theorem dX1_rounds_45 : decode cX1_rounds 45 = .ok (.ifCond .eq 49, 3) := dk_153 0 49 (dk_at dksX1_rounds_1 21 rfl rfl)
theorem dX1_rounds_48 : decode cX1_rounds 48 = .ok (.aload_n 0, 1) := dk_42 (dk_at dksX1_rounds_2 0 rfl rfl)
theorem dX1_rounds_49 : decode cX1_rounds 49 = .ok (.getfield 18, 3) := dk_180 0 18 (dk_at dksX1_rounds_2 1 rfl rfl)
theorem dX1_rounds_52 : decode cX1_rounds 52 = .ok (.getfield 124, 3) := dk_180 0 124 (dk_at dksX1_rounds_2 4 rfl rfl)
theorem dX1_rounds_55 : decode cX1_rounds 55 = .ok (.iconst 0, 1) := dk_3 (dk_at dksX1_rounds_2 7 rfl rfl)
theorem dX1_rounds_56 : decode cX1_rounds 56 = .ok (.invokeinterface 157 2, 5) := by decide +kernel
theorem dX1_rounds_61 : decode cX1_rounds 61 = .ok (.checkcast 161, 3) := dk_192 0 161 (dk_at dksX1_rounds_2 13 rfl rfl)
theorem dX1_rounds_64 : decode cX1_rounds 64 = .ok (.getfield 163, 3) := dk_180 0 163 (dk_at dksX1_rounds_2 16 rfl rfl)
theorem dX1_rounds_67 : decode cX1_rounds 67 = .ok (.iconst 3, 1) := dk_6 (dk_at dksX1_rounds_2 19 rfl rfl)
theorem dX1_rounds_68 : decode cX1_rounds 68 = .ok (.if_icmp .gt 26, 3) := dk_163 0 26 (dk_at dksX1_rounds_2 20 rfl rfl)
theorem dX1_rounds_71 : decode cX1_rounds 71 = .ok (.aload_n 0, 1) := dk_42 (dk_at dksX1_rounds_2 23 rfl rfl)
theorem dX1_rounds_72 : decode cX1_rounds 72 = .ok (.getfield 18, 3) := dk_180 0 18 (dk_at dksX1_rounds_3 0 rfl rfl)
theorem dX1_rounds_75 : decode cX1_rounds 75 = .ok (.getfield 124, 3) := dk_180 0 124 (dk_at dksX1_rounds_3 3 rfl rfl)
theorem dX1_rounds_78 : decode cX1_rounds 78 = .ok (.iconst 1, 1) := dk_4 (dk_at dksX1_rounds_3 6 rfl rfl)
theorem dX1_rounds_79 : decode cX1_rounds 79 = .ok (.invokeinterface 157 2, 5) := by decide +kernel
theorem dX1_rounds_84 : decode cX1_rounds 84 = .ok (.checkcast 161, 3) := dk_192 0 161 (dk_at dksX1_rounds_3 12 rfl rfl)
theorem dX1_rounds_87 : decode cX1_rounds 87 = .ok (.getfield 163, 3) := dk_180 0 163 (dk_at dksX1_rounds_3 15 rfl rfl)
theorem dX1_rounds_90 : decode cX1_rounds 90 = .ok (.iconst 3, 1) := dk_6 (dk_at dksX1_rounds_3 18 rfl rfl)
theorem dX1_rounds_91 : decode cX1_rounds 91 = .ok (.if_icmp .le 6, 3) := dk_164 0 6 (dk_at dksX1_rounds_3 19 rfl rfl)
theorem dX1_rounds_94 : decode cX1_rounds 94 = .ok (.bipush (-2), 2) := dk_16 254 (dk_at dksX1_rounds_3 22 rfl rfl)
theorem dX1_rounds_96 : decode cX1_rounds 96 = .ok (.ireturn, 1) := dk_172 (dk_at dksX1_rounds_4 0 rfl rfl)
theorem dX1_rounds_97 : decode cX1_rounds 97 = .ok (.new 296, 3) := dk_187 1 40 (dk_at dksX1_rounds_4 1 rfl rfl)
theorem dX1_rounds_100 : decode cX1_rounds 100 = .ok (.dup, 1) := dk_89 (dk_at dksX1_rounds_4 4 rfl rfl)
theorem dX1_rounds_101 : decode cX1_rounds 101 = .ok (.aload_n 0, 1) := dk_42 (dk_at dksX1_rounds_4 5 rfl rfl)
theorem dX1_rounds_102 : decode cX1_rounds 102 = .ok (.invokespecial 298, 3) := dk_183 1 42 (dk_at dksX1_rounds_4 6 rfl rfl)
theorem dX1_rounds_105 : decode cX1_rounds 105 = .ok (.invokevirtual 301, 3) := dk_182 1 45 (dk_at dksX1_rounds_4 9 rfl rfl)
theorem dX1_rounds_108 : decode cX1_rounds 108 = .ok (.ireturn, 1) := dk_172 (dk_at dksX1_rounds_4 12 rfl rfl)
abbrev cX1_cross : ByteArray := prog_1_method_39_code
def yX1_cross : MethodName := ⟨RX1, "cross", "(III)I"⟩
def dkwX1_cross_5 : List UInt8 := [29, 182, 0, 254, 3, 172]
abbrev dktX1_cross_5 : List UInt8 := dkwX1_cross_5 ++ []
def dkwX1_cross_4 : List UInt8 := [104, 28, 96, 17, 1, 0, 104, 29, 96, 184, 0, 218, 185, 0, 224, 2, 0, 87, 42, 180, 0, 61, 27, 28]
abbrev dktX1_cross_4 : List UInt8 := dkwX1_cross_4 ++ dktX1_cross_5
def dkwX1_cross_3 : List UInt8 := [164, 0, 15, 42, 25, 4, 180, 1, 66, 184, 1, 68, 181, 0, 47, 21, 5, 172, 42, 180, 0, 43, 27, 7]
abbrev dktX1_cross_3 : List UInt8 := dkwX1_cross_3 ++ dktX1_cross_4
def dkwX1_cross_2 : List UInt8 := [180, 0, 61, 182, 1, 59, 27, 28, 29, 182, 1, 62, 54, 5, 21, 5, 153, 0, 25, 21, 5, 16, 6]
abbrev dktX1_cross_2 : List UInt8 := dkwX1_cross_2 ++ dktX1_cross_3
def dkwX1_cross_1 : List UInt8 := [187, 1, 54, 89, 42, 180, 0, 18, 2, 2, 3, 183, 1, 56, 58, 4, 25, 4, 42, 180, 0, 61, 42]
abbrev dktX1_cross_1 : List UInt8 := dkwX1_cross_1 ++ dktX1_cross_2
def dkwX1_cross_0 : List UInt8 := [42, 2, 181, 0, 47, 42, 180, 0, 43, 185, 0, 127, 1, 0, 16, 60, 160, 0, 6, 16, 9, 172]
abbrev dktX1_cross_0 : List UInt8 := dkwX1_cross_0 ++ dktX1_cross_1
theorem dksX1_cross_0 : cX1_cross.data.toList.drop 0 = dktX1_cross_0 := by decide +kernel
theorem dksX1_cross_1 : cX1_cross.data.toList.drop 22 = dktX1_cross_1 := dk_seg dksX1_cross_0 22 rfl rfl
theorem dksX1_cross_2 : cX1_cross.data.toList.drop 45 = dktX1_cross_2 := dk_seg dksX1_cross_1 23 rfl rfl
theorem dksX1_cross_3 : cX1_cross.data.toList.drop 68 = dktX1_cross_3 := dk_seg dksX1_cross_2 23 rfl rfl
theorem dksX1_cross_4 : cX1_cross.data.toList.drop 92 = dktX1_cross_4 := dk_seg dksX1_cross_3 24 rfl rfl
theorem dksX1_cross_5 : cX1_cross.data.toList.drop 116 = dktX1_cross_5 := dk_seg dksX1_cross_4 24 rfl rfl
theorem dX1_cross_0 : decode cX1_cross 0 = .ok (.aload_n 0, 1) := dk_42 (dk_at dksX1_cross_0 0 rfl rfl)
theorem dX1_cross_1 : decode cX1_cross 1 = .ok (.iconst (-1), 1) := dk_2 (dk_at dksX1_cross_0 1 rfl rfl)
theorem dX1_cross_2 : decode cX1_cross 2 = .ok (.putfield 47, 3) := dk_181 0 47 (dk_at dksX1_cross_0 2 rfl rfl)
theorem dX1_cross_5 : decode cX1_cross 5 = .ok (.aload_n 0, 1) := dk_42 (dk_at dksX1_cross_0 5 rfl rfl)
theorem dX1_cross_6 : decode cX1_cross 6 = .ok (.getfield 43, 3) := dk_180 0 43 (dk_at dksX1_cross_0 6 rfl rfl)
theorem dX1_cross_9 : decode cX1_cross 9 = .ok (.invokeinterface 127 1, 5) := by decide +kernel
theorem dX1_cross_14 : decode cX1_cross 14 = .ok (.bipush 60, 2) := dk_16 60 (dk_at dksX1_cross_0 14 rfl rfl)
theorem dX1_cross_16 : decode cX1_cross 16 = .ok (.if_icmp .ne 6, 3) := dk_160 0 6 (dk_at dksX1_cross_0 16 rfl rfl)
theorem dX1_cross_19 : decode cX1_cross 19 = .ok (.bipush 9, 2) := dk_16 9 (dk_at dksX1_cross_0 19 rfl rfl)
theorem dX1_cross_21 : decode cX1_cross 21 = .ok (.ireturn, 1) := dk_172 (dk_at dksX1_cross_0 21 rfl rfl)
theorem dX1_cross_22 : decode cX1_cross 22 = .ok (.new 310, 3) := dk_187 1 54 (dk_at dksX1_cross_1 0 rfl rfl)
theorem dX1_cross_25 : decode cX1_cross 25 = .ok (.dup, 1) := dk_89 (dk_at dksX1_cross_1 3 rfl rfl)
theorem dX1_cross_26 : decode cX1_cross 26 = .ok (.aload_n 0, 1) := dk_42 (dk_at dksX1_cross_1 4 rfl rfl)
theorem dX1_cross_27 : decode cX1_cross 27 = .ok (.getfield 18, 3) := dk_180 0 18 (dk_at dksX1_cross_1 5 rfl rfl)
theorem dX1_cross_30 : decode cX1_cross 30 = .ok (.iconst (-1), 1) := dk_2 (dk_at dksX1_cross_1 8 rfl rfl)
theorem dX1_cross_31 : decode cX1_cross 31 = .ok (.iconst (-1), 1) := dk_2 (dk_at dksX1_cross_1 9 rfl rfl)
theorem dX1_cross_32 : decode cX1_cross 32 = .ok (.iconst 0, 1) := dk_3 (dk_at dksX1_cross_1 10 rfl rfl)
theorem dX1_cross_33 : decode cX1_cross 33 = .ok (.invokespecial 312, 3) := dk_183 1 56 (dk_at dksX1_cross_1 11 rfl rfl)
theorem dX1_cross_36 : decode cX1_cross 36 = .ok (.astore 4, 2) := dk_58 4 (dk_at dksX1_cross_1 14 rfl rfl)
theorem dX1_cross_38 : decode cX1_cross 38 = .ok (.aload 4, 2) := dk_25 4 (dk_at dksX1_cross_1 16 rfl rfl)
theorem dX1_cross_40 : decode cX1_cross 40 = .ok (.aload_n 0, 1) := dk_42 (dk_at dksX1_cross_1 18 rfl rfl)
theorem dX1_cross_41 : decode cX1_cross 41 = .ok (.getfield 61, 3) := dk_180 0 61 (dk_at dksX1_cross_1 19 rfl rfl)
theorem dX1_cross_44 : decode cX1_cross 44 = .ok (.aload_n 0, 1) := dk_42 (dk_at dksX1_cross_1 22 rfl rfl)
theorem dX1_cross_45 : decode cX1_cross 45 = .ok (.getfield 61, 3) := dk_180 0 61 (dk_at dksX1_cross_2 0 rfl rfl)
theorem dX1_cross_48 : decode cX1_cross 48 = .ok (.invokevirtual 315, 3) := dk_182 1 59 (dk_at dksX1_cross_2 3 rfl rfl)
theorem dX1_cross_51 : decode cX1_cross 51 = .ok (.iload_n 1, 1) := dk_27 (dk_at dksX1_cross_2 6 rfl rfl)
theorem dX1_cross_52 : decode cX1_cross 52 = .ok (.iload_n 2, 1) := dk_28 (dk_at dksX1_cross_2 7 rfl rfl)
theorem dX1_cross_53 : decode cX1_cross 53 = .ok (.iload_n 3, 1) := dk_29 (dk_at dksX1_cross_2 8 rfl rfl)
theorem dX1_cross_54 : decode cX1_cross 54 = .ok (.invokevirtual 318, 3) := dk_182 1 62 (dk_at dksX1_cross_2 9 rfl rfl)
theorem dX1_cross_57 : decode cX1_cross 57 = .ok (.istore 5, 2) := dk_54 5 (dk_at dksX1_cross_2 12 rfl rfl)
theorem dX1_cross_59 : decode cX1_cross 59 = .ok (.iload 5, 2) := dk_21 5 (dk_at dksX1_cross_2 14 rfl rfl)
theorem dX1_cross_61 : decode cX1_cross 61 = .ok (.ifCond .eq 25, 3) := dk_153 0 25 (dk_at dksX1_cross_2 16 rfl rfl)
theorem dX1_cross_64 : decode cX1_cross 64 = .ok (.iload 5, 2) := dk_21 5 (dk_at dksX1_cross_2 19 rfl rfl)
theorem dX1_cross_66 : decode cX1_cross 66 = .ok (.bipush 6, 2) := dk_16 6 (dk_at dksX1_cross_2 21 rfl rfl)
theorem dX1_cross_68 : decode cX1_cross 68 = .ok (.if_icmp .le 15, 3) := dk_164 0 15 (dk_at dksX1_cross_3 0 rfl rfl)
theorem dX1_cross_71 : decode cX1_cross 71 = .ok (.aload_n 0, 1) := dk_42 (dk_at dksX1_cross_3 3 rfl rfl)
theorem dX1_cross_72 : decode cX1_cross 72 = .ok (.aload 4, 2) := dk_25 4 (dk_at dksX1_cross_3 4 rfl rfl)
theorem dX1_cross_74 : decode cX1_cross 74 = .ok (.getfield 322, 3) := dk_180 1 66 (dk_at dksX1_cross_3 6 rfl rfl)
theorem dX1_cross_77 : decode cX1_cross 77 = .ok (.invokestatic 324, 3) := dk_184 1 68 (dk_at dksX1_cross_3 9 rfl rfl)
theorem dX1_cross_80 : decode cX1_cross 80 = .ok (.putfield 47, 3) := dk_181 0 47 (dk_at dksX1_cross_3 12 rfl rfl)
theorem dX1_cross_83 : decode cX1_cross 83 = .ok (.iload 5, 2) := dk_21 5 (dk_at dksX1_cross_3 15 rfl rfl)
theorem dX1_cross_85 : decode cX1_cross 85 = .ok (.ireturn, 1) := dk_172 (dk_at dksX1_cross_3 17 rfl rfl)
theorem dX1_cross_86 : decode cX1_cross 86 = .ok (.aload_n 0, 1) := dk_42 (dk_at dksX1_cross_3 18 rfl rfl)
theorem dX1_cross_87 : decode cX1_cross 87 = .ok (.getfield 43, 3) := dk_180 0 43 (dk_at dksX1_cross_3 19 rfl rfl)
theorem dX1_cross_90 : decode cX1_cross 90 = .ok (.iload_n 1, 1) := dk_27 (dk_at dksX1_cross_3 22 rfl rfl)
theorem dX1_cross_91 : decode cX1_cross 91 = .ok (.iconst 4, 1) := dk_7 (dk_at dksX1_cross_3 23 rfl rfl)
theorem dX1_cross_92 : decode cX1_cross 92 = .ok (.imul, 1) := dk_104 (dk_at dksX1_cross_4 0 rfl rfl)
theorem dX1_cross_93 : decode cX1_cross 93 = .ok (.iload_n 2, 1) := dk_28 (dk_at dksX1_cross_4 1 rfl rfl)
theorem dX1_cross_94 : decode cX1_cross 94 = .ok (.iadd, 1) := dk_96 (dk_at dksX1_cross_4 2 rfl rfl)
theorem dX1_cross_95 : decode cX1_cross 95 = .ok (.sipush 256, 3) := dk_17 1 0 (dk_at dksX1_cross_4 3 rfl rfl)
theorem dX1_cross_98 : decode cX1_cross 98 = .ok (.imul, 1) := dk_104 (dk_at dksX1_cross_4 6 rfl rfl)
theorem dX1_cross_99 : decode cX1_cross 99 = .ok (.iload_n 3, 1) := dk_29 (dk_at dksX1_cross_4 7 rfl rfl)
theorem dX1_cross_100 : decode cX1_cross 100 = .ok (.iadd, 1) := dk_96 (dk_at dksX1_cross_4 8 rfl rfl)
theorem dX1_cross_101 : decode cX1_cross 101 = .ok (.invokestatic 218, 3) := dk_184 0 218 (dk_at dksX1_cross_4 9 rfl rfl)
theorem dX1_cross_104 : decode cX1_cross 104 = .ok (.invokeinterface 224 2, 5) := by decide +kernel
theorem dX1_cross_109 : decode cX1_cross 109 = .ok (.pop, 1) := dk_87 (dk_at dksX1_cross_4 17 rfl rfl)
theorem dX1_cross_110 : decode cX1_cross 110 = .ok (.aload_n 0, 1) := dk_42 (dk_at dksX1_cross_4 18 rfl rfl)
theorem dX1_cross_111 : decode cX1_cross 111 = .ok (.getfield 61, 3) := dk_180 0 61 (dk_at dksX1_cross_4 19 rfl rfl)
theorem dX1_cross_114 : decode cX1_cross 114 = .ok (.iload_n 1, 1) := dk_27 (dk_at dksX1_cross_4 22 rfl rfl)
theorem dX1_cross_115 : decode cX1_cross 115 = .ok (.iload_n 2, 1) := dk_28 (dk_at dksX1_cross_4 23 rfl rfl)
theorem dX1_cross_116 : decode cX1_cross 116 = .ok (.iload_n 3, 1) := dk_29 (dk_at dksX1_cross_5 0 rfl rfl)
theorem dX1_cross_117 : decode cX1_cross 117 = .ok (.invokevirtual 254, 3) := dk_182 0 254 (dk_at dksX1_cross_5 1 rfl rfl)
theorem dX1_cross_120 : decode cX1_cross 120 = .ok (.iconst 0, 1) := dk_3 (dk_at dksX1_cross_5 4 rfl rfl)
theorem dX1_cross_121 : decode cX1_cross 121 = .ok (.ireturn, 1) := dk_172 (dk_at dksX1_cross_5 5 rfl rfl)
abbrev cX1_law : ByteArray := prog_1_method_40_code
def yX1_law : MethodName := ⟨RX1, "law", "()I"⟩
theorem dX1_law_0 : decode cX1_law 0 = .ok (.aload_n 0, 1) := by decide +kernel
theorem dX1_law_1 : decode cX1_law 1 = .ok (.getfield 47, 3) := by decide +kernel
theorem dX1_law_4 : decode cX1_law 4 = .ok (.ireturn, 1) := by decide +kernel
abbrev cX1_back : ByteArray := prog_1_method_41_code
def yX1_back : MethodName := ⟨RX1, "back", "()I"⟩
def dkwX1_back_6 : List UInt8 := [172]
abbrev dktX1_back_6 : List UInt8 := dkwX1_back_6 ++ []
def dkwX1_back_5 : List UInt8 := [182, 0, 231, 184, 0, 241, 182, 0, 254, 132, 1, 1, 167, 255, 176, 42, 180, 0, 43, 185, 0, 127, 1, 0]
abbrev dktX1_back_5 : List UInt8 := dkwX1_back_5 ++ dktX1_back_6
def dkwX1_back_4 : List UInt8 := [192, 0, 219, 182, 0, 231, 184, 0, 251, 42, 180, 0, 43, 27, 185, 0, 157, 2, 0, 192, 0, 219]
abbrev dktX1_back_4 : List UInt8 := dkwX1_back_4 ++ dktX1_back_5
def dkwX1_back_3 : List UInt8 := [185, 0, 157, 2, 0, 192, 0, 219, 182, 0, 231, 184, 0, 248, 42, 180, 0, 43, 27, 185, 0, 157, 2, 0]
abbrev dktX1_back_3 : List UInt8 := dkwX1_back_3 ++ dktX1_back_4
def dkwX1_back_2 : List UInt8 := [180, 0, 43, 185, 0, 127, 1, 0, 162, 0, 73, 42, 180, 0, 61, 42, 180, 0, 43, 27]
abbrev dktX1_back_2 : List UInt8 := dkwX1_back_2 ++ dktX1_back_3
def dkwX1_back_1 : List UInt8 := [185, 0, 127, 1, 0, 4, 100, 185, 1, 71, 2, 0, 87, 42, 180, 0, 61, 182, 0, 65, 3, 60, 27, 42]
abbrev dktX1_back_1 : List UInt8 := dkwX1_back_1 ++ dktX1_back_2
def dkwX1_back_0 : List UInt8 := [42, 180, 0, 43, 185, 1, 24, 1, 0, 153, 0, 5, 2, 172, 42, 180, 0, 43, 42, 180, 0, 43]
abbrev dktX1_back_0 : List UInt8 := dkwX1_back_0 ++ dktX1_back_1
theorem dksX1_back_0 : cX1_back.data.toList.drop 0 = dktX1_back_0 := by decide +kernel
theorem dksX1_back_1 : cX1_back.data.toList.drop 22 = dktX1_back_1 := dk_seg dksX1_back_0 22 rfl rfl
theorem dksX1_back_2 : cX1_back.data.toList.drop 46 = dktX1_back_2 := dk_seg dksX1_back_1 24 rfl rfl
theorem dksX1_back_3 : cX1_back.data.toList.drop 66 = dktX1_back_3 := dk_seg dksX1_back_2 20 rfl rfl
theorem dksX1_back_4 : cX1_back.data.toList.drop 90 = dktX1_back_4 := dk_seg dksX1_back_3 24 rfl rfl
theorem dksX1_back_5 : cX1_back.data.toList.drop 112 = dktX1_back_5 := dk_seg dksX1_back_4 22 rfl rfl
theorem dksX1_back_6 : cX1_back.data.toList.drop 136 = dktX1_back_6 := dk_seg dksX1_back_5 24 rfl rfl
theorem dX1_back_0 : decode cX1_back 0 = .ok (.aload_n 0, 1) := dk_42 (dk_at dksX1_back_0 0 rfl rfl)
theorem dX1_back_1 : decode cX1_back 1 = .ok (.getfield 43, 3) := dk_180 0 43 (dk_at dksX1_back_0 1 rfl rfl)
theorem dX1_back_4 : decode cX1_back 4 = .ok (.invokeinterface 280 1, 5) := by decide +kernel
theorem dX1_back_9 : decode cX1_back 9 = .ok (.ifCond .eq 5, 3) := dk_153 0 5 (dk_at dksX1_back_0 9 rfl rfl)
theorem dX1_back_12 : decode cX1_back 12 = .ok (.iconst (-1), 1) := dk_2 (dk_at dksX1_back_0 12 rfl rfl)
theorem dX1_back_13 : decode cX1_back 13 = .ok (.ireturn, 1) := dk_172 (dk_at dksX1_back_0 13 rfl rfl)
theorem dX1_back_14 : decode cX1_back 14 = .ok (.aload_n 0, 1) := dk_42 (dk_at dksX1_back_0 14 rfl rfl)
theorem dX1_back_15 : decode cX1_back 15 = .ok (.getfield 43, 3) := dk_180 0 43 (dk_at dksX1_back_0 15 rfl rfl)
theorem dX1_back_18 : decode cX1_back 18 = .ok (.aload_n 0, 1) := dk_42 (dk_at dksX1_back_0 18 rfl rfl)
theorem dX1_back_19 : decode cX1_back 19 = .ok (.getfield 43, 3) := dk_180 0 43 (dk_at dksX1_back_0 19 rfl rfl)
theorem dX1_back_22 : decode cX1_back 22 = .ok (.invokeinterface 127 1, 5) := by decide +kernel
theorem dX1_back_27 : decode cX1_back 27 = .ok (.iconst 1, 1) := dk_4 (dk_at dksX1_back_1 5 rfl rfl)
theorem dX1_back_28 : decode cX1_back 28 = .ok (.isub, 1) := dk_100 (dk_at dksX1_back_1 6 rfl rfl)
theorem dX1_back_29 : decode cX1_back 29 = .ok (.invokeinterface 327 2, 5) := by decide +kernel
theorem dX1_back_34 : decode cX1_back 34 = .ok (.pop, 1) := dk_87 (dk_at dksX1_back_1 12 rfl rfl)
theorem dX1_back_35 : decode cX1_back 35 = .ok (.aload_n 0, 1) := dk_42 (dk_at dksX1_back_1 13 rfl rfl)
theorem dX1_back_36 : decode cX1_back 36 = .ok (.getfield 61, 3) := dk_180 0 61 (dk_at dksX1_back_1 14 rfl rfl)
theorem dX1_back_39 : decode cX1_back 39 = .ok (.invokevirtual 65, 3) := dk_182 0 65 (dk_at dksX1_back_1 17 rfl rfl)
theorem dX1_back_42 : decode cX1_back 42 = .ok (.iconst 0, 1) := dk_3 (dk_at dksX1_back_1 20 rfl rfl)
theorem dX1_back_43 : decode cX1_back 43 = .ok (.istore_n 1, 1) := dk_60 (dk_at dksX1_back_1 21 rfl rfl)
theorem dX1_back_44 : decode cX1_back 44 = .ok (.iload_n 1, 1) := dk_27 (dk_at dksX1_back_1 22 rfl rfl)
theorem dX1_back_45 : decode cX1_back 45 = .ok (.aload_n 0, 1) := dk_42 (dk_at dksX1_back_1 23 rfl rfl)
theorem dX1_back_46 : decode cX1_back 46 = .ok (.getfield 43, 3) := dk_180 0 43 (dk_at dksX1_back_2 0 rfl rfl)
theorem dX1_back_49 : decode cX1_back 49 = .ok (.invokeinterface 127 1, 5) := by decide +kernel
theorem dX1_back_54 : decode cX1_back 54 = .ok (.if_icmp .ge 73, 3) := dk_162 0 73 (dk_at dksX1_back_2 8 rfl rfl)
theorem dX1_back_57 : decode cX1_back 57 = .ok (.aload_n 0, 1) := dk_42 (dk_at dksX1_back_2 11 rfl rfl)
theorem dX1_back_58 : decode cX1_back 58 = .ok (.getfield 61, 3) := dk_180 0 61 (dk_at dksX1_back_2 12 rfl rfl)
theorem dX1_back_61 : decode cX1_back 61 = .ok (.aload_n 0, 1) := dk_42 (dk_at dksX1_back_2 15 rfl rfl)
theorem dX1_back_62 : decode cX1_back 62 = .ok (.getfield 43, 3) := dk_180 0 43 (dk_at dksX1_back_2 16 rfl rfl)
theorem dX1_back_65 : decode cX1_back 65 = .ok (.iload_n 1, 1) := dk_27 (dk_at dksX1_back_2 19 rfl rfl)
theorem dX1_back_66 : decode cX1_back 66 = .ok (.invokeinterface 157 2, 5) := by decide +kernel
theorem dX1_back_71 : decode cX1_back 71 = .ok (.checkcast 219, 3) := dk_192 0 219 (dk_at dksX1_back_3 5 rfl rfl)
theorem dX1_back_74 : decode cX1_back 74 = .ok (.invokevirtual 231, 3) := dk_182 0 231 (dk_at dksX1_back_3 8 rfl rfl)
theorem dX1_back_77 : decode cX1_back 77 = .ok (.invokestatic 248, 3) := dk_184 0 248 (dk_at dksX1_back_3 11 rfl rfl)
theorem dX1_back_80 : decode cX1_back 80 = .ok (.aload_n 0, 1) := dk_42 (dk_at dksX1_back_3 14 rfl rfl)
theorem dX1_back_81 : decode cX1_back 81 = .ok (.getfield 43, 3) := dk_180 0 43 (dk_at dksX1_back_3 15 rfl rfl)
theorem dX1_back_84 : decode cX1_back 84 = .ok (.iload_n 1, 1) := dk_27 (dk_at dksX1_back_3 18 rfl rfl)
theorem dX1_back_85 : decode cX1_back 85 = .ok (.invokeinterface 157 2, 5) := by decide +kernel
theorem dX1_back_90 : decode cX1_back 90 = .ok (.checkcast 219, 3) := dk_192 0 219 (dk_at dksX1_back_4 0 rfl rfl)
theorem dX1_back_93 : decode cX1_back 93 = .ok (.invokevirtual 231, 3) := dk_182 0 231 (dk_at dksX1_back_4 3 rfl rfl)
theorem dX1_back_96 : decode cX1_back 96 = .ok (.invokestatic 251, 3) := dk_184 0 251 (dk_at dksX1_back_4 6 rfl rfl)
theorem dX1_back_99 : decode cX1_back 99 = .ok (.aload_n 0, 1) := dk_42 (dk_at dksX1_back_4 9 rfl rfl)
theorem dX1_back_100 : decode cX1_back 100 = .ok (.getfield 43, 3) := dk_180 0 43 (dk_at dksX1_back_4 10 rfl rfl)
theorem dX1_back_103 : decode cX1_back 103 = .ok (.iload_n 1, 1) := dk_27 (dk_at dksX1_back_4 13 rfl rfl)
theorem dX1_back_104 : decode cX1_back 104 = .ok (.invokeinterface 157 2, 5) := by decide +kernel
theorem dX1_back_109 : decode cX1_back 109 = .ok (.checkcast 219, 3) := dk_192 0 219 (dk_at dksX1_back_4 19 rfl rfl)
theorem dX1_back_112 : decode cX1_back 112 = .ok (.invokevirtual 231, 3) := dk_182 0 231 (dk_at dksX1_back_5 0 rfl rfl)
theorem dX1_back_115 : decode cX1_back 115 = .ok (.invokestatic 241, 3) := dk_184 0 241 (dk_at dksX1_back_5 3 rfl rfl)
theorem dX1_back_118 : decode cX1_back 118 = .ok (.invokevirtual 254, 3) := dk_182 0 254 (dk_at dksX1_back_5 6 rfl rfl)
theorem dX1_back_121 : decode cX1_back 121 = .ok (.iinc 1 1, 3) := dk_132 1 1 (dk_at dksX1_back_5 9 rfl rfl)
theorem dX1_back_124 : decode cX1_back 124 = .ok (.goto (-80), 3) := dk_167 255 176 (dk_at dksX1_back_5 12 rfl rfl)
theorem dX1_back_127 : decode cX1_back 127 = .ok (.aload_n 0, 1) := dk_42 (dk_at dksX1_back_5 15 rfl rfl)
theorem dX1_back_128 : decode cX1_back 128 = .ok (.getfield 43, 3) := dk_180 0 43 (dk_at dksX1_back_5 16 rfl rfl)
theorem dX1_back_131 : decode cX1_back 131 = .ok (.invokeinterface 127 1, 5) := by decide +kernel
theorem dX1_back_136 : decode cX1_back 136 = .ok (.ireturn, 1) := dk_172 (dk_at dksX1_back_6 0 rfl rfl)
abbrev cX1_boatOf : ByteArray := prog_1_method_22_code
def yX1_boatOf : MethodName := ⟨RX1, "boatOf", "(I)I"⟩
def dkwX1_boatOf_0 : List UInt8 := [26, 17, 1, 0, 108, 7, 108, 172]
abbrev dktX1_boatOf_0 : List UInt8 := dkwX1_boatOf_0 ++ []
theorem dksX1_boatOf_0 : cX1_boatOf.data.toList.drop 0 = dktX1_boatOf_0 := by decide +kernel
theorem dX1_boatOf_0 : decode cX1_boatOf 0 = .ok (.iload_n 0, 1) := dk_26 (dk_at dksX1_boatOf_0 0 rfl rfl)
theorem dX1_boatOf_1 : decode cX1_boatOf 1 = .ok (.sipush 256, 3) := dk_17 1 0 (dk_at dksX1_boatOf_0 1 rfl rfl)
theorem dX1_boatOf_4 : decode cX1_boatOf 4 = .ok (.idiv, 1) := dk_108 (dk_at dksX1_boatOf_0 4 rfl rfl)
theorem dX1_boatOf_5 : decode cX1_boatOf 5 = .ok (.iconst 4, 1) := dk_7 (dk_at dksX1_boatOf_0 5 rfl rfl)
theorem dX1_boatOf_6 : decode cX1_boatOf 6 = .ok (.idiv, 1) := dk_108 (dk_at dksX1_boatOf_0 6 rfl rfl)
theorem dX1_boatOf_7 : decode cX1_boatOf 7 = .ok (.ireturn, 1) := dk_172 (dk_at dksX1_boatOf_0 7 rfl rfl)
abbrev cX1_shoreOf : ByteArray := prog_1_method_23_code
def yX1_shoreOf : MethodName := ⟨RX1, "shoreOf", "(I)I"⟩
def dkwX1_shoreOf_0 : List UInt8 := [26, 17, 1, 0, 108, 7, 112, 172]
abbrev dktX1_shoreOf_0 : List UInt8 := dkwX1_shoreOf_0 ++ []
theorem dksX1_shoreOf_0 : cX1_shoreOf.data.toList.drop 0 = dktX1_shoreOf_0 := by decide +kernel
theorem dX1_shoreOf_0 : decode cX1_shoreOf 0 = .ok (.iload_n 0, 1) := dk_26 (dk_at dksX1_shoreOf_0 0 rfl rfl)
theorem dX1_shoreOf_1 : decode cX1_shoreOf 1 = .ok (.sipush 256, 3) := dk_17 1 0 (dk_at dksX1_shoreOf_0 1 rfl rfl)
theorem dX1_shoreOf_4 : decode cX1_shoreOf 4 = .ok (.idiv, 1) := dk_108 (dk_at dksX1_shoreOf_0 4 rfl rfl)
theorem dX1_shoreOf_5 : decode cX1_shoreOf 5 = .ok (.iconst 4, 1) := dk_7 (dk_at dksX1_shoreOf_0 5 rfl rfl)
theorem dX1_shoreOf_6 : decode cX1_shoreOf 6 = .ok (.irem, 1) := dk_112 (dk_at dksX1_shoreOf_0 6 rfl rfl)
theorem dX1_shoreOf_7 : decode cX1_shoreOf 7 = .ok (.ireturn, 1) := dk_172 (dk_at dksX1_shoreOf_0 7 rfl rfl)
abbrev cX1_setOf : ByteArray := prog_1_method_24_code
def yX1_setOf : MethodName := ⟨RX1, "setOf", "(I)I"⟩
def dkwX1_setOf_0 : List UInt8 := [26, 17, 1, 0, 112, 172]
abbrev dktX1_setOf_0 : List UInt8 := dkwX1_setOf_0 ++ []
theorem dksX1_setOf_0 : cX1_setOf.data.toList.drop 0 = dktX1_setOf_0 := by decide +kernel
theorem dX1_setOf_0 : decode cX1_setOf 0 = .ok (.iload_n 0, 1) := dk_26 (dk_at dksX1_setOf_0 0 rfl rfl)
theorem dX1_setOf_1 : decode cX1_setOf 1 = .ok (.sipush 256, 3) := dk_17 1 0 (dk_at dksX1_setOf_0 1 rfl rfl)
theorem dX1_setOf_4 : decode cX1_setOf 4 = .ok (.irem, 1) := dk_112 (dk_at dksX1_setOf_0 4 rfl rfl)
theorem dX1_setOf_5 : decode cX1_setOf 5 = .ok (.ireturn, 1) := dk_172 (dk_at dksX1_setOf_0 5 rfl rfl)
abbrev cX1_text : ByteArray := prog_1_method_8_code
def yX1_text : MethodName := ⟨RX1, "text", "(I)I"⟩
def dkwX1_text_3 : List UInt8 := [182, 0, 50, 42, 182, 0, 53, 3, 172]
abbrev dktX1_text_3 : List UInt8 := dkwX1_text_3 ++ []
def dkwX1_text_2 : List UInt8 := [181, 0, 18, 167, 0, 17, 78, 42, 44, 180, 0, 112, 181, 0, 26, 45, 180, 0, 115, 172, 42, 180, 0, 18]
abbrev dktX1_text_2 : List UInt8 := dkwX1_text_2 ++ dktX1_text_3
def dkwX1_text_1 : List UInt8 := [181, 0, 94, 42, 2, 181, 0, 26, 187, 0, 101, 89, 42, 27, 183, 0, 103, 77, 42, 44, 182, 0, 106]
abbrev dktX1_text_1 : List UInt8 := dkwX1_text_1 ++ dktX1_text_2
def dkwX1_text_0 : List UInt8 := [27, 155, 0, 15, 27, 42, 180, 0, 94, 163, 0, 7, 4, 167, 0, 4, 3, 184, 0, 97, 42, 3]
abbrev dktX1_text_0 : List UInt8 := dkwX1_text_0 ++ dktX1_text_1
theorem dksX1_text_0 : cX1_text.data.toList.drop 0 = dktX1_text_0 := by decide +kernel
theorem dksX1_text_1 : cX1_text.data.toList.drop 22 = dktX1_text_1 := dk_seg dksX1_text_0 22 rfl rfl
theorem dksX1_text_2 : cX1_text.data.toList.drop 45 = dktX1_text_2 := dk_seg dksX1_text_1 23 rfl rfl
theorem dksX1_text_3 : cX1_text.data.toList.drop 69 = dktX1_text_3 := dk_seg dksX1_text_2 24 rfl rfl
theorem dX1_text_0 : decode cX1_text 0 = .ok (.iload_n 1, 1) := dk_27 (dk_at dksX1_text_0 0 rfl rfl)
theorem dX1_text_1 : decode cX1_text 1 = .ok (.ifCond .lt 15, 3) := dk_155 0 15 (dk_at dksX1_text_0 1 rfl rfl)
theorem dX1_text_4 : decode cX1_text 4 = .ok (.iload_n 1, 1) := dk_27 (dk_at dksX1_text_0 4 rfl rfl)
theorem dX1_text_5 : decode cX1_text 5 = .ok (.aload_n 0, 1) := dk_42 (dk_at dksX1_text_0 5 rfl rfl)
theorem dX1_text_6 : decode cX1_text 6 = .ok (.getfield 94, 3) := dk_180 0 94 (dk_at dksX1_text_0 6 rfl rfl)
theorem dX1_text_9 : decode cX1_text 9 = .ok (.if_icmp .gt 7, 3) := dk_163 0 7 (dk_at dksX1_text_0 9 rfl rfl)
theorem dX1_text_12 : decode cX1_text 12 = .ok (.iconst 1, 1) := dk_4 (dk_at dksX1_text_0 12 rfl rfl)
theorem dX1_text_13 : decode cX1_text 13 = .ok (.goto 4, 3) := dk_167 0 4 (dk_at dksX1_text_0 13 rfl rfl)
theorem dX1_text_16 : decode cX1_text 16 = .ok (.iconst 0, 1) := dk_3 (dk_at dksX1_text_0 16 rfl rfl)
theorem dX1_text_17 : decode cX1_text 17 = .ok (.invokestatic 97, 3) := dk_184 0 97 (dk_at dksX1_text_0 17 rfl rfl)
theorem dX1_text_20 : decode cX1_text 20 = .ok (.aload_n 0, 1) := dk_42 (dk_at dksX1_text_0 20 rfl rfl)
theorem dX1_text_21 : decode cX1_text 21 = .ok (.iconst 0, 1) := dk_3 (dk_at dksX1_text_0 21 rfl rfl)
theorem dX1_text_22 : decode cX1_text 22 = .ok (.putfield 94, 3) := dk_181 0 94 (dk_at dksX1_text_1 0 rfl rfl)
theorem dX1_text_25 : decode cX1_text 25 = .ok (.aload_n 0, 1) := dk_42 (dk_at dksX1_text_1 3 rfl rfl)
theorem dX1_text_26 : decode cX1_text 26 = .ok (.iconst (-1), 1) := dk_2 (dk_at dksX1_text_1 4 rfl rfl)
theorem dX1_text_27 : decode cX1_text 27 = .ok (.putfield 26, 3) := dk_181 0 26 (dk_at dksX1_text_1 5 rfl rfl)
theorem dX1_text_30 : decode cX1_text 30 = .ok (.new 101, 3) := dk_187 0 101 (dk_at dksX1_text_1 8 rfl rfl)
theorem dX1_text_33 : decode cX1_text 33 = .ok (.dup, 1) := dk_89 (dk_at dksX1_text_1 11 rfl rfl)
theorem dX1_text_34 : decode cX1_text 34 = .ok (.aload_n 0, 1) := dk_42 (dk_at dksX1_text_1 12 rfl rfl)
theorem dX1_text_35 : decode cX1_text 35 = .ok (.iload_n 1, 1) := dk_27 (dk_at dksX1_text_1 13 rfl rfl)
theorem dX1_text_36 : decode cX1_text 36 = .ok (.invokespecial 103, 3) := dk_183 0 103 (dk_at dksX1_text_1 14 rfl rfl)
theorem dX1_text_39 : decode cX1_text 39 = .ok (.astore_n 2, 1) := dk_77 (dk_at dksX1_text_1 17 rfl rfl)
theorem dX1_text_40 : decode cX1_text 40 = .ok (.aload_n 0, 1) := dk_42 (dk_at dksX1_text_1 18 rfl rfl)
theorem dX1_text_41 : decode cX1_text 41 = .ok (.aload_n 2, 1) := dk_44 (dk_at dksX1_text_1 19 rfl rfl)
theorem dX1_text_42 : decode cX1_text 42 = .ok (.invokevirtual 106, 3) := dk_182 0 106 (dk_at dksX1_text_1 20 rfl rfl)
theorem dX1_text_45 : decode cX1_text 45 = .ok (.putfield 18, 3) := dk_181 0 18 (dk_at dksX1_text_2 0 rfl rfl)
theorem dX1_text_48 : decode cX1_text 48 = .ok (.goto 17, 3) := dk_167 0 17 (dk_at dksX1_text_2 3 rfl rfl)
theorem dX1_text_51 : decode cX1_text 51 = .ok (.astore_n 3, 1) := dk_78 (dk_at dksX1_text_2 6 rfl rfl)
theorem dX1_text_52 : decode cX1_text 52 = .ok (.aload_n 0, 1) := dk_42 (dk_at dksX1_text_2 7 rfl rfl)
theorem dX1_text_53 : decode cX1_text 53 = .ok (.aload_n 2, 1) := dk_44 (dk_at dksX1_text_2 8 rfl rfl)
theorem dX1_text_54 : decode cX1_text 54 = .ok (.getfield 112, 3) := dk_180 0 112 (dk_at dksX1_text_2 9 rfl rfl)
theorem dX1_text_57 : decode cX1_text 57 = .ok (.putfield 26, 3) := dk_181 0 26 (dk_at dksX1_text_2 12 rfl rfl)
theorem dX1_text_60 : decode cX1_text 60 = .ok (.aload_n 3, 1) := dk_45 (dk_at dksX1_text_2 15 rfl rfl)
theorem dX1_text_61 : decode cX1_text 61 = .ok (.getfield 115, 3) := dk_180 0 115 (dk_at dksX1_text_2 16 rfl rfl)
theorem dX1_text_64 : decode cX1_text 64 = .ok (.ireturn, 1) := dk_172 (dk_at dksX1_text_2 19 rfl rfl)
theorem dX1_text_65 : decode cX1_text 65 = .ok (.aload_n 0, 1) := dk_42 (dk_at dksX1_text_2 20 rfl rfl)
theorem dX1_text_66 : decode cX1_text 66 = .ok (.getfield 18, 3) := dk_180 0 18 (dk_at dksX1_text_2 21 rfl rfl)
theorem dX1_text_69 : decode cX1_text 69 = .ok (.invokevirtual 50, 3) := dk_182 0 50 (dk_at dksX1_text_3 0 rfl rfl)
theorem dX1_text_72 : decode cX1_text 72 = .ok (.aload_n 0, 1) := dk_42 (dk_at dksX1_text_3 3 rfl rfl)
theorem dX1_text_73 : decode cX1_text 73 = .ok (.invokevirtual 53, 3) := dk_182 0 53 (dk_at dksX1_text_3 4 rfl rfl)
theorem dX1_text_76 : decode cX1_text 76 = .ok (.iconst 0, 1) := dk_3 (dk_at dksX1_text_3 7 rfl rfl)
theorem dX1_text_77 : decode cX1_text 77 = .ok (.ireturn, 1) := dk_172 (dk_at dksX1_text_3 8 rfl rfl)
abbrev cX1_right : ByteArray := prog_1_method_3_code
def yX1_right : MethodName := ⟨RX1, "right", "(Z)V"⟩
def dkwX1_right_0 : List UInt8 := [26, 154, 0, 11, 187, 0, 9, 89, 183, 0, 11, 191, 177]
abbrev dktX1_right_0 : List UInt8 := dkwX1_right_0 ++ []
theorem dksX1_right_0 : cX1_right.data.toList.drop 0 = dktX1_right_0 := by decide +kernel
theorem dX1_right_0 : decode cX1_right 0 = .ok (.iload_n 0, 1) := dk_26 (dk_at dksX1_right_0 0 rfl rfl)
theorem dX1_right_1 : decode cX1_right 1 = .ok (.ifCond .ne 11, 3) := dk_154 0 11 (dk_at dksX1_right_0 1 rfl rfl)
theorem dX1_right_4 : decode cX1_right 4 = .ok (.new 9, 3) := dk_187 0 9 (dk_at dksX1_right_0 4 rfl rfl)
theorem dX1_right_7 : decode cX1_right 7 = .ok (.dup, 1) := dk_89 (dk_at dksX1_right_0 7 rfl rfl)
theorem dX1_right_8 : decode cX1_right 8 = .ok (.invokespecial 11, 3) := dk_183 0 11 (dk_at dksX1_right_0 8 rfl rfl)
theorem dX1_right_11 : decode cX1_right 11 = .ok (.athrow, 1) := dk_191 (dk_at dksX1_right_0 11 rfl rfl)
theorem dX1_right_12 : decode cX1_right 12 = .ok (.return_, 1) := dk_177 (dk_at dksX1_right_0 12 rfl rfl)
abbrev cX1_count : ByteArray := prog_1_method_10_code
def yX1_count : MethodName := ⟨RX1, "count", "(I)I"⟩
def dkwX1_count_5 : List UInt8 := [180, 0, 94, 172, 187, 0, 3, 89, 183, 0, 5, 191]
abbrev dktX1_count_5 : List UInt8 := dkwX1_count_5 ++ []
def dkwX1_count_4 : List UInt8 := [180, 0, 134, 2, 160, 0, 7, 3, 167, 0, 4, 4, 172, 42, 180, 0, 43, 185, 0, 127, 1, 0, 172, 42]
abbrev dktX1_count_4 : List UInt8 := dkwX1_count_4 ++ dktX1_count_5
def dkwX1_count_3 : List UInt8 := [185, 0, 127, 1, 0, 172, 42, 180, 0, 18, 180, 0, 131, 185, 0, 127, 1, 0, 172, 42, 180, 0, 18]
abbrev dktX1_count_3 : List UInt8 := dkwX1_count_3 ++ dktX1_count_4
def dkwX1_count_2 : List UInt8 := [42, 180, 0, 18, 180, 0, 118, 172, 42, 180, 0, 18, 180, 0, 121, 172, 42, 180, 0, 18, 180, 0, 124]
abbrev dktX1_count_2 : List UInt8 := dkwX1_count_2 ++ dktX1_count_3
def dkwX1_count_1 : List UInt8 := [170, 0, 0, 0, 0, 0, 117, 0, 0, 0, 0, 0, 0, 0, 6, 0, 0, 0, 43, 0, 0, 0, 51, 0, 0, 0, 59, 0, 0, 0, 72, 0, 0, 0, 85, 0, 0, 0, 102, 0, 0, 0, 112]
abbrev dktX1_count_1 : List UInt8 := dkwX1_count_1 ++ dktX1_count_2
def dkwX1_count_0 : List UInt8 := [27]
abbrev dktX1_count_0 : List UInt8 := dkwX1_count_0 ++ dktX1_count_1
theorem dksX1_count_0 : cX1_count.data.toList.drop 0 = dktX1_count_0 := by decide +kernel
theorem dksX1_count_1 : cX1_count.data.toList.drop 1 = dktX1_count_1 := dk_seg dksX1_count_0 1 rfl rfl
theorem dksX1_count_2 : cX1_count.data.toList.drop 44 = dktX1_count_2 := dk_seg dksX1_count_1 43 rfl rfl
theorem dksX1_count_3 : cX1_count.data.toList.drop 67 = dktX1_count_3 := dk_seg dksX1_count_2 23 rfl rfl
theorem dksX1_count_4 : cX1_count.data.toList.drop 90 = dktX1_count_4 := dk_seg dksX1_count_3 23 rfl rfl
theorem dksX1_count_5 : cX1_count.data.toList.drop 114 = dktX1_count_5 := dk_seg dksX1_count_4 24 rfl rfl
theorem dX1_count_0 : decode cX1_count 0 = .ok (.iload_n 1, 1) := dk_27 (dk_at dksX1_count_0 0 rfl rfl)
theorem dX1_count_1 : decode cX1_count 1 = .ok (.tableswitch 117 0 6 #[43, 51, 59, 72, 85, 102, 112], 43) := by decide +kernel
theorem dX1_count_44 : decode cX1_count 44 = .ok (.aload_n 0, 1) := dk_42 (dk_at dksX1_count_2 0 rfl rfl)
theorem dX1_count_45 : decode cX1_count 45 = .ok (.getfield 18, 3) := dk_180 0 18 (dk_at dksX1_count_2 1 rfl rfl)
theorem dX1_count_48 : decode cX1_count 48 = .ok (.getfield 118, 3) := dk_180 0 118 (dk_at dksX1_count_2 4 rfl rfl)
theorem dX1_count_51 : decode cX1_count 51 = .ok (.ireturn, 1) := dk_172 (dk_at dksX1_count_2 7 rfl rfl)
theorem dX1_count_52 : decode cX1_count 52 = .ok (.aload_n 0, 1) := dk_42 (dk_at dksX1_count_2 8 rfl rfl)
theorem dX1_count_53 : decode cX1_count 53 = .ok (.getfield 18, 3) := dk_180 0 18 (dk_at dksX1_count_2 9 rfl rfl)
theorem dX1_count_56 : decode cX1_count 56 = .ok (.getfield 121, 3) := dk_180 0 121 (dk_at dksX1_count_2 12 rfl rfl)
theorem dX1_count_59 : decode cX1_count 59 = .ok (.ireturn, 1) := dk_172 (dk_at dksX1_count_2 15 rfl rfl)
theorem dX1_count_60 : decode cX1_count 60 = .ok (.aload_n 0, 1) := dk_42 (dk_at dksX1_count_2 16 rfl rfl)
theorem dX1_count_61 : decode cX1_count 61 = .ok (.getfield 18, 3) := dk_180 0 18 (dk_at dksX1_count_2 17 rfl rfl)
theorem dX1_count_64 : decode cX1_count 64 = .ok (.getfield 124, 3) := dk_180 0 124 (dk_at dksX1_count_2 20 rfl rfl)
theorem dX1_count_67 : decode cX1_count 67 = .ok (.invokeinterface 127 1, 5) := by decide +kernel
theorem dX1_count_72 : decode cX1_count 72 = .ok (.ireturn, 1) := dk_172 (dk_at dksX1_count_3 5 rfl rfl)
theorem dX1_count_73 : decode cX1_count 73 = .ok (.aload_n 0, 1) := dk_42 (dk_at dksX1_count_3 6 rfl rfl)
theorem dX1_count_74 : decode cX1_count 74 = .ok (.getfield 18, 3) := dk_180 0 18 (dk_at dksX1_count_3 7 rfl rfl)
theorem dX1_count_77 : decode cX1_count 77 = .ok (.getfield 131, 3) := dk_180 0 131 (dk_at dksX1_count_3 10 rfl rfl)
theorem dX1_count_80 : decode cX1_count 80 = .ok (.invokeinterface 127 1, 5) := by decide +kernel
theorem dX1_count_85 : decode cX1_count 85 = .ok (.ireturn, 1) := dk_172 (dk_at dksX1_count_3 18 rfl rfl)
theorem dX1_count_86 : decode cX1_count 86 = .ok (.aload_n 0, 1) := dk_42 (dk_at dksX1_count_3 19 rfl rfl)
theorem dX1_count_87 : decode cX1_count 87 = .ok (.getfield 18, 3) := dk_180 0 18 (dk_at dksX1_count_3 20 rfl rfl)
theorem dX1_count_90 : decode cX1_count 90 = .ok (.getfield 134, 3) := dk_180 0 134 (dk_at dksX1_count_4 0 rfl rfl)
theorem dX1_count_93 : decode cX1_count 93 = .ok (.iconst (-1), 1) := dk_2 (dk_at dksX1_count_4 3 rfl rfl)
theorem dX1_count_94 : decode cX1_count 94 = .ok (.if_icmp .ne 7, 3) := dk_160 0 7 (dk_at dksX1_count_4 4 rfl rfl)
theorem dX1_count_97 : decode cX1_count 97 = .ok (.iconst 0, 1) := dk_3 (dk_at dksX1_count_4 7 rfl rfl)
theorem dX1_count_98 : decode cX1_count 98 = .ok (.goto 4, 3) := dk_167 0 4 (dk_at dksX1_count_4 8 rfl rfl)
theorem dX1_count_101 : decode cX1_count 101 = .ok (.iconst 1, 1) := dk_4 (dk_at dksX1_count_4 11 rfl rfl)
theorem dX1_count_102 : decode cX1_count 102 = .ok (.ireturn, 1) := dk_172 (dk_at dksX1_count_4 12 rfl rfl)
theorem dX1_count_103 : decode cX1_count 103 = .ok (.aload_n 0, 1) := dk_42 (dk_at dksX1_count_4 13 rfl rfl)
theorem dX1_count_104 : decode cX1_count 104 = .ok (.getfield 43, 3) := dk_180 0 43 (dk_at dksX1_count_4 14 rfl rfl)
theorem dX1_count_107 : decode cX1_count 107 = .ok (.invokeinterface 127 1, 5) := by decide +kernel
theorem dX1_count_112 : decode cX1_count 112 = .ok (.ireturn, 1) := dk_172 (dk_at dksX1_count_4 22 rfl rfl)
theorem dX1_count_113 : decode cX1_count 113 = .ok (.aload_n 0, 1) := dk_42 (dk_at dksX1_count_4 23 rfl rfl)
theorem dX1_count_114 : decode cX1_count 114 = .ok (.getfield 94, 3) := dk_180 0 94 (dk_at dksX1_count_5 0 rfl rfl)
theorem dX1_count_117 : decode cX1_count 117 = .ok (.ireturn, 1) := dk_172 (dk_at dksX1_count_5 3 rfl rfl)
theorem dX1_count_118 : decode cX1_count 118 = .ok (.new 3, 3) := dk_187 0 3 (dk_at dksX1_count_5 4 rfl rfl)
theorem dX1_count_121 : decode cX1_count 121 = .ok (.dup, 1) := dk_89 (dk_at dksX1_count_5 7 rfl rfl)
theorem dX1_count_122 : decode cX1_count 122 = .ok (.invokespecial 5, 3) := dk_183 0 5 (dk_at dksX1_count_5 8 rfl rfl)
theorem dX1_count_125 : decode cX1_count 125 = .ok (.athrow, 1) := dk_191 (dk_at dksX1_count_5 11 rfl rfl)
abbrev cX1_thing : ByteArray := prog_1_method_12_code
def yX1_thing : MethodName := ⟨RX1, "thing", "(II)I"⟩
def dkwX1_thing_2 : List UInt8 := [167, 0, 12, 42, 180, 0, 18, 180, 0, 154, 27, 46, 172]
abbrev dktX1_thing_2 : List UInt8 := dkwX1_thing_2 ++ []
def dkwX1_thing_1 : List UInt8 := [180, 0, 148, 27, 46, 167, 0, 29, 28, 4, 160, 0, 15, 42, 180, 0, 18, 180, 0, 151, 27, 46]
abbrev dktX1_thing_1 : List UInt8 := dkwX1_thing_1 ++ dktX1_thing_2
def dkwX1_thing_0 : List UInt8 := [42, 27, 182, 0, 144, 28, 3, 5, 184, 0, 137, 184, 0, 141, 28, 154, 0, 15, 42, 180, 0, 18]
abbrev dktX1_thing_0 : List UInt8 := dkwX1_thing_0 ++ dktX1_thing_1
theorem dksX1_thing_0 : cX1_thing.data.toList.drop 0 = dktX1_thing_0 := by decide +kernel
theorem dksX1_thing_1 : cX1_thing.data.toList.drop 22 = dktX1_thing_1 := dk_seg dksX1_thing_0 22 rfl rfl
theorem dksX1_thing_2 : cX1_thing.data.toList.drop 44 = dktX1_thing_2 := dk_seg dksX1_thing_1 22 rfl rfl
theorem dX1_thing_0 : decode cX1_thing 0 = .ok (.aload_n 0, 1) := dk_42 (dk_at dksX1_thing_0 0 rfl rfl)
theorem dX1_thing_1 : decode cX1_thing 1 = .ok (.iload_n 1, 1) := dk_27 (dk_at dksX1_thing_0 1 rfl rfl)
theorem dX1_thing_2 : decode cX1_thing 2 = .ok (.invokevirtual 144, 3) := dk_182 0 144 (dk_at dksX1_thing_0 2 rfl rfl)
theorem dX1_thing_5 : decode cX1_thing 5 = .ok (.iload_n 2, 1) := dk_28 (dk_at dksX1_thing_0 5 rfl rfl)
theorem dX1_thing_6 : decode cX1_thing 6 = .ok (.iconst 0, 1) := dk_3 (dk_at dksX1_thing_0 6 rfl rfl)
theorem dX1_thing_7 : decode cX1_thing 7 = .ok (.iconst 2, 1) := dk_5 (dk_at dksX1_thing_0 7 rfl rfl)
theorem dX1_thing_8 : decode cX1_thing 8 = .ok (.invokestatic 137, 3) := dk_184 0 137 (dk_at dksX1_thing_0 8 rfl rfl)
theorem dX1_thing_11 : decode cX1_thing 11 = .ok (.invokestatic 141, 3) := dk_184 0 141 (dk_at dksX1_thing_0 11 rfl rfl)
theorem dX1_thing_14 : decode cX1_thing 14 = .ok (.iload_n 2, 1) := dk_28 (dk_at dksX1_thing_0 14 rfl rfl)
theorem dX1_thing_15 : decode cX1_thing 15 = .ok (.ifCond .ne 15, 3) := dk_154 0 15 (dk_at dksX1_thing_0 15 rfl rfl)
theorem dX1_thing_18 : decode cX1_thing 18 = .ok (.aload_n 0, 1) := dk_42 (dk_at dksX1_thing_0 18 rfl rfl)
theorem dX1_thing_19 : decode cX1_thing 19 = .ok (.getfield 18, 3) := dk_180 0 18 (dk_at dksX1_thing_0 19 rfl rfl)
theorem dX1_thing_22 : decode cX1_thing 22 = .ok (.getfield 148, 3) := dk_180 0 148 (dk_at dksX1_thing_1 0 rfl rfl)
theorem dX1_thing_25 : decode cX1_thing 25 = .ok (.iload_n 1, 1) := dk_27 (dk_at dksX1_thing_1 3 rfl rfl)
theorem dX1_thing_26 : decode cX1_thing 26 = .ok (.iaload, 1) := dk_46 (dk_at dksX1_thing_1 4 rfl rfl)
theorem dX1_thing_27 : decode cX1_thing 27 = .ok (.goto 29, 3) := dk_167 0 29 (dk_at dksX1_thing_1 5 rfl rfl)
theorem dX1_thing_30 : decode cX1_thing 30 = .ok (.iload_n 2, 1) := dk_28 (dk_at dksX1_thing_1 8 rfl rfl)
theorem dX1_thing_31 : decode cX1_thing 31 = .ok (.iconst 1, 1) := dk_4 (dk_at dksX1_thing_1 9 rfl rfl)
theorem dX1_thing_32 : decode cX1_thing 32 = .ok (.if_icmp .ne 15, 3) := dk_160 0 15 (dk_at dksX1_thing_1 10 rfl rfl)
theorem dX1_thing_35 : decode cX1_thing 35 = .ok (.aload_n 0, 1) := dk_42 (dk_at dksX1_thing_1 13 rfl rfl)
theorem dX1_thing_36 : decode cX1_thing 36 = .ok (.getfield 18, 3) := dk_180 0 18 (dk_at dksX1_thing_1 14 rfl rfl)
theorem dX1_thing_39 : decode cX1_thing 39 = .ok (.getfield 151, 3) := dk_180 0 151 (dk_at dksX1_thing_1 17 rfl rfl)
theorem dX1_thing_42 : decode cX1_thing 42 = .ok (.iload_n 1, 1) := dk_27 (dk_at dksX1_thing_1 20 rfl rfl)
theorem dX1_thing_43 : decode cX1_thing 43 = .ok (.iaload, 1) := dk_46 (dk_at dksX1_thing_1 21 rfl rfl)
theorem dX1_thing_44 : decode cX1_thing 44 = .ok (.goto 12, 3) := dk_167 0 12 (dk_at dksX1_thing_2 0 rfl rfl)
theorem dX1_thing_47 : decode cX1_thing 47 = .ok (.aload_n 0, 1) := dk_42 (dk_at dksX1_thing_2 3 rfl rfl)
theorem dX1_thing_48 : decode cX1_thing 48 = .ok (.getfield 18, 3) := dk_180 0 18 (dk_at dksX1_thing_2 4 rfl rfl)
theorem dX1_thing_51 : decode cX1_thing 51 = .ok (.getfield 154, 3) := dk_180 0 154 (dk_at dksX1_thing_2 7 rfl rfl)
theorem dX1_thing_54 : decode cX1_thing 54 = .ok (.iload_n 1, 1) := dk_27 (dk_at dksX1_thing_2 10 rfl rfl)
theorem dX1_thing_55 : decode cX1_thing 55 = .ok (.iaload, 1) := dk_46 (dk_at dksX1_thing_2 11 rfl rfl)
theorem dX1_thing_56 : decode cX1_thing 56 = .ok (.ireturn, 1) := dk_172 (dk_at dksX1_thing_2 12 rfl rfl)
abbrev cX1_aThing : ByteArray := prog_1_method_11_code
def yX1_aThing : MethodName := ⟨RX1, "aThing", "(I)V"⟩
def dkwX1_aThing_0 : List UInt8 := [27, 3, 42, 180, 0, 18, 180, 0, 121, 4, 100, 184, 0, 137, 184, 0, 141, 177]
abbrev dktX1_aThing_0 : List UInt8 := dkwX1_aThing_0 ++ []
theorem dksX1_aThing_0 : cX1_aThing.data.toList.drop 0 = dktX1_aThing_0 := by decide +kernel
theorem dX1_aThing_0 : decode cX1_aThing 0 = .ok (.iload_n 1, 1) := dk_27 (dk_at dksX1_aThing_0 0 rfl rfl)
theorem dX1_aThing_1 : decode cX1_aThing 1 = .ok (.iconst 0, 1) := dk_3 (dk_at dksX1_aThing_0 1 rfl rfl)
theorem dX1_aThing_2 : decode cX1_aThing 2 = .ok (.aload_n 0, 1) := dk_42 (dk_at dksX1_aThing_0 2 rfl rfl)
theorem dX1_aThing_3 : decode cX1_aThing 3 = .ok (.getfield 18, 3) := dk_180 0 18 (dk_at dksX1_aThing_0 3 rfl rfl)
theorem dX1_aThing_6 : decode cX1_aThing 6 = .ok (.getfield 121, 3) := dk_180 0 121 (dk_at dksX1_aThing_0 6 rfl rfl)
theorem dX1_aThing_9 : decode cX1_aThing 9 = .ok (.iconst 1, 1) := dk_4 (dk_at dksX1_aThing_0 9 rfl rfl)
theorem dX1_aThing_10 : decode cX1_aThing 10 = .ok (.isub, 1) := dk_100 (dk_at dksX1_aThing_0 10 rfl rfl)
theorem dX1_aThing_11 : decode cX1_aThing 11 = .ok (.invokestatic 137, 3) := dk_184 0 137 (dk_at dksX1_aThing_0 11 rfl rfl)
theorem dX1_aThing_14 : decode cX1_aThing 14 = .ok (.invokestatic 141, 3) := dk_184 0 141 (dk_at dksX1_aThing_0 14 rfl rfl)
theorem dX1_aThing_17 : decode cX1_aThing 17 = .ok (.return_, 1) := dk_177 (dk_at dksX1_aThing_0 17 rfl rfl)
abbrev cX1_found : ByteArray := prog_1_method_2_code
def yX1_found : MethodName := ⟨RX1, "found", "(Z)V"⟩
def dkwX1_found_0 : List UInt8 := [26, 154, 0, 11, 187, 0, 3, 89, 183, 0, 5, 191, 177]
abbrev dktX1_found_0 : List UInt8 := dkwX1_found_0 ++ []
theorem dksX1_found_0 : cX1_found.data.toList.drop 0 = dktX1_found_0 := by decide +kernel
theorem dX1_found_0 : decode cX1_found 0 = .ok (.iload_n 0, 1) := dk_26 (dk_at dksX1_found_0 0 rfl rfl)
theorem dX1_found_1 : decode cX1_found 1 = .ok (.ifCond .ne 11, 3) := dk_154 0 11 (dk_at dksX1_found_0 1 rfl rfl)
theorem dX1_found_4 : decode cX1_found 4 = .ok (.new 3, 3) := dk_187 0 3 (dk_at dksX1_found_0 4 rfl rfl)
theorem dX1_found_7 : decode cX1_found 7 = .ok (.dup, 1) := dk_89 (dk_at dksX1_found_0 7 rfl rfl)
theorem dX1_found_8 : decode cX1_found 8 = .ok (.invokespecial 5, 3) := dk_183 0 5 (dk_at dksX1_found_0 8 rfl rfl)
theorem dX1_found_11 : decode cX1_found 11 = .ok (.athrow, 1) := dk_191 (dk_at dksX1_found_0 11 rfl rfl)
theorem dX1_found_12 : decode cX1_found 12 = .ok (.return_, 1) := dk_177 (dk_at dksX1_found_0 12 rfl rfl)
abbrev cX1_boat : ByteArray := prog_1_method_13_code
def yX1_boat : MethodName := ⟨RX1, "boat", "(II)I"⟩
def dkwX1_boat_3 : List UInt8 := [160, 0, 10, 45, 180, 0, 166, 167, 0, 7, 45, 180, 0, 169, 172]
abbrev dktX1_boat_3 : List UInt8 := dkwX1_boat_3 ++ []
def dkwX1_boat_2 : List UInt8 := [185, 0, 157, 2, 0, 192, 0, 161, 78, 28, 154, 0, 10, 45, 180, 0, 163, 167, 0, 19, 28, 4]
abbrev dktX1_boat_2 : List UInt8 := dkwX1_boat_2 ++ dktX1_boat_3
def dkwX1_boat_1 : List UInt8 := [5, 184, 0, 137, 153, 0, 7, 4, 167, 0, 4, 3, 184, 0, 141, 42, 180, 0, 18, 180, 0, 124, 27]
abbrev dktX1_boat_1 : List UInt8 := dkwX1_boat_1 ++ dktX1_boat_2
def dkwX1_boat_0 : List UInt8 := [27, 3, 42, 180, 0, 18, 180, 0, 124, 185, 0, 127, 1, 0, 4, 100, 184, 0, 137, 153, 0, 16, 28, 3]
abbrev dktX1_boat_0 : List UInt8 := dkwX1_boat_0 ++ dktX1_boat_1
theorem dksX1_boat_0 : cX1_boat.data.toList.drop 0 = dktX1_boat_0 := by decide +kernel
theorem dksX1_boat_1 : cX1_boat.data.toList.drop 24 = dktX1_boat_1 := dk_seg dksX1_boat_0 24 rfl rfl
theorem dksX1_boat_2 : cX1_boat.data.toList.drop 47 = dktX1_boat_2 := dk_seg dksX1_boat_1 23 rfl rfl
theorem dksX1_boat_3 : cX1_boat.data.toList.drop 69 = dktX1_boat_3 := dk_seg dksX1_boat_2 22 rfl rfl
theorem dX1_boat_0 : decode cX1_boat 0 = .ok (.iload_n 1, 1) := dk_27 (dk_at dksX1_boat_0 0 rfl rfl)
theorem dX1_boat_1 : decode cX1_boat 1 = .ok (.iconst 0, 1) := dk_3 (dk_at dksX1_boat_0 1 rfl rfl)
theorem dX1_boat_2 : decode cX1_boat 2 = .ok (.aload_n 0, 1) := dk_42 (dk_at dksX1_boat_0 2 rfl rfl)
theorem dX1_boat_3 : decode cX1_boat 3 = .ok (.getfield 18, 3) := dk_180 0 18 (dk_at dksX1_boat_0 3 rfl rfl)
theorem dX1_boat_6 : decode cX1_boat 6 = .ok (.getfield 124, 3) := dk_180 0 124 (dk_at dksX1_boat_0 6 rfl rfl)
theorem dX1_boat_9 : decode cX1_boat 9 = .ok (.invokeinterface 127 1, 5) := by decide +kernel
theorem dX1_boat_14 : decode cX1_boat 14 = .ok (.iconst 1, 1) := dk_4 (dk_at dksX1_boat_0 14 rfl rfl)
theorem dX1_boat_15 : decode cX1_boat 15 = .ok (.isub, 1) := dk_100 (dk_at dksX1_boat_0 15 rfl rfl)
theorem dX1_boat_16 : decode cX1_boat 16 = .ok (.invokestatic 137, 3) := dk_184 0 137 (dk_at dksX1_boat_0 16 rfl rfl)
theorem dX1_boat_19 : decode cX1_boat 19 = .ok (.ifCond .eq 16, 3) := dk_153 0 16 (dk_at dksX1_boat_0 19 rfl rfl)
theorem dX1_boat_22 : decode cX1_boat 22 = .ok (.iload_n 2, 1) := dk_28 (dk_at dksX1_boat_0 22 rfl rfl)
theorem dX1_boat_23 : decode cX1_boat 23 = .ok (.iconst 0, 1) := dk_3 (dk_at dksX1_boat_0 23 rfl rfl)
theorem dX1_boat_24 : decode cX1_boat 24 = .ok (.iconst 2, 1) := dk_5 (dk_at dksX1_boat_1 0 rfl rfl)
theorem dX1_boat_25 : decode cX1_boat 25 = .ok (.invokestatic 137, 3) := dk_184 0 137 (dk_at dksX1_boat_1 1 rfl rfl)
theorem dX1_boat_28 : decode cX1_boat 28 = .ok (.ifCond .eq 7, 3) := dk_153 0 7 (dk_at dksX1_boat_1 4 rfl rfl)
theorem dX1_boat_31 : decode cX1_boat 31 = .ok (.iconst 1, 1) := dk_4 (dk_at dksX1_boat_1 7 rfl rfl)
theorem dX1_boat_32 : decode cX1_boat 32 = .ok (.goto 4, 3) := dk_167 0 4 (dk_at dksX1_boat_1 8 rfl rfl)
theorem dX1_boat_35 : decode cX1_boat 35 = .ok (.iconst 0, 1) := dk_3 (dk_at dksX1_boat_1 11 rfl rfl)
theorem dX1_boat_36 : decode cX1_boat 36 = .ok (.invokestatic 141, 3) := dk_184 0 141 (dk_at dksX1_boat_1 12 rfl rfl)
theorem dX1_boat_39 : decode cX1_boat 39 = .ok (.aload_n 0, 1) := dk_42 (dk_at dksX1_boat_1 15 rfl rfl)
theorem dX1_boat_40 : decode cX1_boat 40 = .ok (.getfield 18, 3) := dk_180 0 18 (dk_at dksX1_boat_1 16 rfl rfl)
theorem dX1_boat_43 : decode cX1_boat 43 = .ok (.getfield 124, 3) := dk_180 0 124 (dk_at dksX1_boat_1 19 rfl rfl)
theorem dX1_boat_46 : decode cX1_boat 46 = .ok (.iload_n 1, 1) := dk_27 (dk_at dksX1_boat_1 22 rfl rfl)
theorem dX1_boat_47 : decode cX1_boat 47 = .ok (.invokeinterface 157 2, 5) := by decide +kernel
theorem dX1_boat_52 : decode cX1_boat 52 = .ok (.checkcast 161, 3) := dk_192 0 161 (dk_at dksX1_boat_2 5 rfl rfl)
theorem dX1_boat_55 : decode cX1_boat 55 = .ok (.astore_n 3, 1) := dk_78 (dk_at dksX1_boat_2 8 rfl rfl)
theorem dX1_boat_56 : decode cX1_boat 56 = .ok (.iload_n 2, 1) := dk_28 (dk_at dksX1_boat_2 9 rfl rfl)
theorem dX1_boat_57 : decode cX1_boat 57 = .ok (.ifCond .ne 10, 3) := dk_154 0 10 (dk_at dksX1_boat_2 10 rfl rfl)
theorem dX1_boat_60 : decode cX1_boat 60 = .ok (.aload_n 3, 1) := dk_45 (dk_at dksX1_boat_2 13 rfl rfl)
theorem dX1_boat_61 : decode cX1_boat 61 = .ok (.getfield 163, 3) := dk_180 0 163 (dk_at dksX1_boat_2 14 rfl rfl)
theorem dX1_boat_64 : decode cX1_boat 64 = .ok (.goto 19, 3) := dk_167 0 19 (dk_at dksX1_boat_2 17 rfl rfl)
theorem dX1_boat_67 : decode cX1_boat 67 = .ok (.iload_n 2, 1) := dk_28 (dk_at dksX1_boat_2 20 rfl rfl)
theorem dX1_boat_68 : decode cX1_boat 68 = .ok (.iconst 1, 1) := dk_4 (dk_at dksX1_boat_2 21 rfl rfl)
theorem dX1_boat_69 : decode cX1_boat 69 = .ok (.if_icmp .ne 10, 3) := dk_160 0 10 (dk_at dksX1_boat_3 0 rfl rfl)
theorem dX1_boat_72 : decode cX1_boat 72 = .ok (.aload_n 3, 1) := dk_45 (dk_at dksX1_boat_3 3 rfl rfl)
theorem dX1_boat_73 : decode cX1_boat 73 = .ok (.getfield 166, 3) := dk_180 0 166 (dk_at dksX1_boat_3 4 rfl rfl)
theorem dX1_boat_76 : decode cX1_boat 76 = .ok (.goto 7, 3) := dk_167 0 7 (dk_at dksX1_boat_3 7 rfl rfl)
theorem dX1_boat_79 : decode cX1_boat 79 = .ok (.aload_n 3, 1) := dk_45 (dk_at dksX1_boat_3 10 rfl rfl)
theorem dX1_boat_80 : decode cX1_boat 80 = .ok (.getfield 169, 3) := dk_180 0 169 (dk_at dksX1_boat_3 11 rfl rfl)
theorem dX1_boat_83 : decode cX1_boat 83 = .ok (.ireturn, 1) := dk_172 (dk_at dksX1_boat_3 14 rfl rfl)
abbrev cX1_water : ByteArray := prog_1_method_14_code
def yX1_water : MethodName := ⟨RX1, "water", "(II)Z"⟩
def dkwX1_water_2 : List UInt8 := [28, 182, 0, 172, 172]
abbrev dktX1_water_2 : List UInt8 := dkwX1_water_2 ++ []
def dkwX1_water_1 : List UInt8 := [180, 0, 118, 4, 100, 184, 0, 137, 153, 0, 7, 4, 167, 0, 4, 3, 184, 0, 141, 42, 180, 0, 18, 27]
abbrev dktX1_water_1 : List UInt8 := dkwX1_water_1 ++ dktX1_water_2
def dkwX1_water_0 : List UInt8 := [27, 3, 42, 180, 0, 18, 180, 0, 118, 4, 100, 184, 0, 137, 153, 0, 24, 28, 3, 42, 180, 0, 18]
abbrev dktX1_water_0 : List UInt8 := dkwX1_water_0 ++ dktX1_water_1
theorem dksX1_water_0 : cX1_water.data.toList.drop 0 = dktX1_water_0 := by decide +kernel
theorem dksX1_water_1 : cX1_water.data.toList.drop 23 = dktX1_water_1 := dk_seg dksX1_water_0 23 rfl rfl
theorem dksX1_water_2 : cX1_water.data.toList.drop 47 = dktX1_water_2 := dk_seg dksX1_water_1 24 rfl rfl
theorem dX1_water_0 : decode cX1_water 0 = .ok (.iload_n 1, 1) := dk_27 (dk_at dksX1_water_0 0 rfl rfl)
theorem dX1_water_1 : decode cX1_water 1 = .ok (.iconst 0, 1) := dk_3 (dk_at dksX1_water_0 1 rfl rfl)
theorem dX1_water_2 : decode cX1_water 2 = .ok (.aload_n 0, 1) := dk_42 (dk_at dksX1_water_0 2 rfl rfl)
theorem dX1_water_3 : decode cX1_water 3 = .ok (.getfield 18, 3) := dk_180 0 18 (dk_at dksX1_water_0 3 rfl rfl)
theorem dX1_water_6 : decode cX1_water 6 = .ok (.getfield 118, 3) := dk_180 0 118 (dk_at dksX1_water_0 6 rfl rfl)
theorem dX1_water_9 : decode cX1_water 9 = .ok (.iconst 1, 1) := dk_4 (dk_at dksX1_water_0 9 rfl rfl)
theorem dX1_water_10 : decode cX1_water 10 = .ok (.isub, 1) := dk_100 (dk_at dksX1_water_0 10 rfl rfl)
theorem dX1_water_11 : decode cX1_water 11 = .ok (.invokestatic 137, 3) := dk_184 0 137 (dk_at dksX1_water_0 11 rfl rfl)
theorem dX1_water_14 : decode cX1_water 14 = .ok (.ifCond .eq 24, 3) := dk_153 0 24 (dk_at dksX1_water_0 14 rfl rfl)
theorem dX1_water_17 : decode cX1_water 17 = .ok (.iload_n 2, 1) := dk_28 (dk_at dksX1_water_0 17 rfl rfl)
theorem dX1_water_18 : decode cX1_water 18 = .ok (.iconst 0, 1) := dk_3 (dk_at dksX1_water_0 18 rfl rfl)
theorem dX1_water_19 : decode cX1_water 19 = .ok (.aload_n 0, 1) := dk_42 (dk_at dksX1_water_0 19 rfl rfl)
theorem dX1_water_20 : decode cX1_water 20 = .ok (.getfield 18, 3) := dk_180 0 18 (dk_at dksX1_water_0 20 rfl rfl)
theorem dX1_water_23 : decode cX1_water 23 = .ok (.getfield 118, 3) := dk_180 0 118 (dk_at dksX1_water_1 0 rfl rfl)
theorem dX1_water_26 : decode cX1_water 26 = .ok (.iconst 1, 1) := dk_4 (dk_at dksX1_water_1 3 rfl rfl)
theorem dX1_water_27 : decode cX1_water 27 = .ok (.isub, 1) := dk_100 (dk_at dksX1_water_1 4 rfl rfl)
theorem dX1_water_28 : decode cX1_water 28 = .ok (.invokestatic 137, 3) := dk_184 0 137 (dk_at dksX1_water_1 5 rfl rfl)
theorem dX1_water_31 : decode cX1_water 31 = .ok (.ifCond .eq 7, 3) := dk_153 0 7 (dk_at dksX1_water_1 8 rfl rfl)
theorem dX1_water_34 : decode cX1_water 34 = .ok (.iconst 1, 1) := dk_4 (dk_at dksX1_water_1 11 rfl rfl)
theorem dX1_water_35 : decode cX1_water 35 = .ok (.goto 4, 3) := dk_167 0 4 (dk_at dksX1_water_1 12 rfl rfl)
theorem dX1_water_38 : decode cX1_water 38 = .ok (.iconst 0, 1) := dk_3 (dk_at dksX1_water_1 15 rfl rfl)
theorem dX1_water_39 : decode cX1_water 39 = .ok (.invokestatic 141, 3) := dk_184 0 141 (dk_at dksX1_water_1 16 rfl rfl)
theorem dX1_water_42 : decode cX1_water 42 = .ok (.aload_n 0, 1) := dk_42 (dk_at dksX1_water_1 19 rfl rfl)
theorem dX1_water_43 : decode cX1_water 43 = .ok (.getfield 18, 3) := dk_180 0 18 (dk_at dksX1_water_1 20 rfl rfl)
theorem dX1_water_46 : decode cX1_water 46 = .ok (.iload_n 1, 1) := dk_27 (dk_at dksX1_water_1 23 rfl rfl)
theorem dX1_water_47 : decode cX1_water 47 = .ok (.iload_n 2, 1) := dk_28 (dk_at dksX1_water_2 0 rfl rfl)
theorem dX1_water_48 : decode cX1_water 48 = .ok (.invokevirtual 172, 3) := dk_182 0 172 (dk_at dksX1_water_2 1 rfl rfl)
theorem dX1_water_51 : decode cX1_water 51 = .ok (.ireturn, 1) := dk_172 (dk_at dksX1_water_2 4 rfl rfl)
abbrev cX1_bars : ByteArray := prog_1_method_15_code
def yX1_bars : MethodName := ⟨RX1, "bars", "(IIIZ)I"⟩
def dkwX1_bars_2 : List UInt8 := [4, 167, 0, 4, 3, 50, 27, 42, 180, 0, 18, 182, 0, 180, 126, 53, 172]
abbrev dktX1_bars_2 : List UInt8 := dkwX1_bars_2 ++ []
def dkwX1_bars_1 : List UInt8 := [4, 167, 0, 4, 3, 184, 0, 141, 42, 180, 0, 18, 180, 0, 176, 28, 50, 29, 50, 21, 4, 153, 0, 7]
abbrev dktX1_bars_1 : List UInt8 := dkwX1_bars_1 ++ dktX1_bars_2
def dkwX1_bars_0 : List UInt8 := [28, 3, 42, 180, 0, 18, 180, 0, 118, 184, 0, 137, 153, 0, 16, 29, 3, 5, 184, 0, 137, 153, 0, 7]
abbrev dktX1_bars_0 : List UInt8 := dkwX1_bars_0 ++ dktX1_bars_1
theorem dksX1_bars_0 : cX1_bars.data.toList.drop 0 = dktX1_bars_0 := by decide +kernel
theorem dksX1_bars_1 : cX1_bars.data.toList.drop 24 = dktX1_bars_1 := dk_seg dksX1_bars_0 24 rfl rfl
theorem dksX1_bars_2 : cX1_bars.data.toList.drop 48 = dktX1_bars_2 := dk_seg dksX1_bars_1 24 rfl rfl
theorem dX1_bars_0 : decode cX1_bars 0 = .ok (.iload_n 2, 1) := dk_28 (dk_at dksX1_bars_0 0 rfl rfl)
theorem dX1_bars_1 : decode cX1_bars 1 = .ok (.iconst 0, 1) := dk_3 (dk_at dksX1_bars_0 1 rfl rfl)
theorem dX1_bars_2 : decode cX1_bars 2 = .ok (.aload_n 0, 1) := dk_42 (dk_at dksX1_bars_0 2 rfl rfl)
theorem dX1_bars_3 : decode cX1_bars 3 = .ok (.getfield 18, 3) := dk_180 0 18 (dk_at dksX1_bars_0 3 rfl rfl)
theorem dX1_bars_6 : decode cX1_bars 6 = .ok (.getfield 118, 3) := dk_180 0 118 (dk_at dksX1_bars_0 6 rfl rfl)
theorem dX1_bars_9 : decode cX1_bars 9 = .ok (.invokestatic 137, 3) := dk_184 0 137 (dk_at dksX1_bars_0 9 rfl rfl)
theorem dX1_bars_12 : decode cX1_bars 12 = .ok (.ifCond .eq 16, 3) := dk_153 0 16 (dk_at dksX1_bars_0 12 rfl rfl)
theorem dX1_bars_15 : decode cX1_bars 15 = .ok (.iload_n 3, 1) := dk_29 (dk_at dksX1_bars_0 15 rfl rfl)
theorem dX1_bars_16 : decode cX1_bars 16 = .ok (.iconst 0, 1) := dk_3 (dk_at dksX1_bars_0 16 rfl rfl)
theorem dX1_bars_17 : decode cX1_bars 17 = .ok (.iconst 2, 1) := dk_5 (dk_at dksX1_bars_0 17 rfl rfl)
theorem dX1_bars_18 : decode cX1_bars 18 = .ok (.invokestatic 137, 3) := dk_184 0 137 (dk_at dksX1_bars_0 18 rfl rfl)
theorem dX1_bars_21 : decode cX1_bars 21 = .ok (.ifCond .eq 7, 3) := dk_153 0 7 (dk_at dksX1_bars_0 21 rfl rfl)
theorem dX1_bars_24 : decode cX1_bars 24 = .ok (.iconst 1, 1) := dk_4 (dk_at dksX1_bars_1 0 rfl rfl)
theorem dX1_bars_25 : decode cX1_bars 25 = .ok (.goto 4, 3) := dk_167 0 4 (dk_at dksX1_bars_1 1 rfl rfl)
theorem dX1_bars_28 : decode cX1_bars 28 = .ok (.iconst 0, 1) := dk_3 (dk_at dksX1_bars_1 4 rfl rfl)
theorem dX1_bars_29 : decode cX1_bars 29 = .ok (.invokestatic 141, 3) := dk_184 0 141 (dk_at dksX1_bars_1 5 rfl rfl)
theorem dX1_bars_32 : decode cX1_bars 32 = .ok (.aload_n 0, 1) := dk_42 (dk_at dksX1_bars_1 8 rfl rfl)
theorem dX1_bars_33 : decode cX1_bars 33 = .ok (.getfield 18, 3) := dk_180 0 18 (dk_at dksX1_bars_1 9 rfl rfl)
theorem dX1_bars_36 : decode cX1_bars 36 = .ok (.getfield 176, 3) := dk_180 0 176 (dk_at dksX1_bars_1 12 rfl rfl)
theorem dX1_bars_39 : decode cX1_bars 39 = .ok (.iload_n 2, 1) := dk_28 (dk_at dksX1_bars_1 15 rfl rfl)
theorem dX1_bars_40 : decode cX1_bars 40 = .ok (.aaload, 1) := dk_50 (dk_at dksX1_bars_1 16 rfl rfl)
theorem dX1_bars_41 : decode cX1_bars 41 = .ok (.iload_n 3, 1) := dk_29 (dk_at dksX1_bars_1 17 rfl rfl)
theorem dX1_bars_42 : decode cX1_bars 42 = .ok (.aaload, 1) := dk_50 (dk_at dksX1_bars_1 18 rfl rfl)
theorem dX1_bars_43 : decode cX1_bars 43 = .ok (.iload 4, 2) := dk_21 4 (dk_at dksX1_bars_1 19 rfl rfl)
theorem dX1_bars_45 : decode cX1_bars 45 = .ok (.ifCond .eq 7, 3) := dk_153 0 7 (dk_at dksX1_bars_1 21 rfl rfl)
theorem dX1_bars_48 : decode cX1_bars 48 = .ok (.iconst 1, 1) := dk_4 (dk_at dksX1_bars_2 0 rfl rfl)
theorem dX1_bars_49 : decode cX1_bars 49 = .ok (.goto 4, 3) := dk_167 0 4 (dk_at dksX1_bars_2 1 rfl rfl)
theorem dX1_bars_52 : decode cX1_bars 52 = .ok (.iconst 0, 1) := dk_3 (dk_at dksX1_bars_2 4 rfl rfl)
theorem dX1_bars_53 : decode cX1_bars 53 = .ok (.aaload, 1) := dk_50 (dk_at dksX1_bars_2 5 rfl rfl)
theorem dX1_bars_54 : decode cX1_bars 54 = .ok (.iload_n 1, 1) := dk_27 (dk_at dksX1_bars_2 6 rfl rfl)
theorem dX1_bars_55 : decode cX1_bars 55 = .ok (.aload_n 0, 1) := dk_42 (dk_at dksX1_bars_2 7 rfl rfl)
theorem dX1_bars_56 : decode cX1_bars 56 = .ok (.getfield 18, 3) := dk_180 0 18 (dk_at dksX1_bars_2 8 rfl rfl)
theorem dX1_bars_59 : decode cX1_bars 59 = .ok (.invokevirtual 180, 3) := dk_182 0 180 (dk_at dksX1_bars_2 11 rfl rfl)
theorem dX1_bars_62 : decode cX1_bars 62 = .ok (.iand, 1) := dk_126 (dk_at dksX1_bars_2 14 rfl rfl)
theorem dX1_bars_63 : decode cX1_bars 63 = .ok (.saload, 1) := dk_53 (dk_at dksX1_bars_2 15 rfl rfl)
theorem dX1_bars_64 : decode cX1_bars 64 = .ok (.ireturn, 1) := dk_172 (dk_at dksX1_bars_2 16 rfl rfl)
abbrev cX1_safe : ByteArray := prog_1_method_16_code
def yX1_safe : MethodName := ⟨RX1, "safe", "(IIZ)I"⟩
def dkwX1_safe_3 : List UInt8 := [21, 5, 53, 154, 0, 6, 132, 4, 1, 132, 5, 1, 167, 255, 211, 21, 4, 172]
abbrev dktX1_safe_3 : List UInt8 := dkwX1_safe_3 ++ []
def dkwX1_safe_2 : List UInt8 := [163, 0, 39, 42, 180, 0, 18, 180, 0, 176, 27, 50, 28, 50, 29, 153, 0, 7, 4, 167, 0, 4, 3, 50]
abbrev dktX1_safe_2 : List UInt8 := dkwX1_safe_2 ++ dktX1_safe_3
def dkwX1_safe_1 : List UInt8 := [4, 167, 0, 4, 3, 184, 0, 141, 3, 54, 4, 4, 54, 5, 21, 5, 42, 180, 0, 18, 182, 0, 180]
abbrev dktX1_safe_1 : List UInt8 := dkwX1_safe_1 ++ dktX1_safe_2
def dkwX1_safe_0 : List UInt8 := [27, 3, 42, 180, 0, 18, 180, 0, 118, 184, 0, 137, 153, 0, 16, 28, 3, 5, 184, 0, 137, 153, 0, 7]
abbrev dktX1_safe_0 : List UInt8 := dkwX1_safe_0 ++ dktX1_safe_1
theorem dksX1_safe_0 : cX1_safe.data.toList.drop 0 = dktX1_safe_0 := by decide +kernel
theorem dksX1_safe_1 : cX1_safe.data.toList.drop 24 = dktX1_safe_1 := dk_seg dksX1_safe_0 24 rfl rfl
theorem dksX1_safe_2 : cX1_safe.data.toList.drop 47 = dktX1_safe_2 := dk_seg dksX1_safe_1 23 rfl rfl
theorem dksX1_safe_3 : cX1_safe.data.toList.drop 71 = dktX1_safe_3 := dk_seg dksX1_safe_2 24 rfl rfl
theorem dX1_safe_0 : decode cX1_safe 0 = .ok (.iload_n 1, 1) := dk_27 (dk_at dksX1_safe_0 0 rfl rfl)
theorem dX1_safe_1 : decode cX1_safe 1 = .ok (.iconst 0, 1) := dk_3 (dk_at dksX1_safe_0 1 rfl rfl)
theorem dX1_safe_2 : decode cX1_safe 2 = .ok (.aload_n 0, 1) := dk_42 (dk_at dksX1_safe_0 2 rfl rfl)
theorem dX1_safe_3 : decode cX1_safe 3 = .ok (.getfield 18, 3) := dk_180 0 18 (dk_at dksX1_safe_0 3 rfl rfl)
theorem dX1_safe_6 : decode cX1_safe 6 = .ok (.getfield 118, 3) := dk_180 0 118 (dk_at dksX1_safe_0 6 rfl rfl)
theorem dX1_safe_9 : decode cX1_safe 9 = .ok (.invokestatic 137, 3) := dk_184 0 137 (dk_at dksX1_safe_0 9 rfl rfl)
theorem dX1_safe_12 : decode cX1_safe 12 = .ok (.ifCond .eq 16, 3) := dk_153 0 16 (dk_at dksX1_safe_0 12 rfl rfl)
theorem dX1_safe_15 : decode cX1_safe 15 = .ok (.iload_n 2, 1) := dk_28 (dk_at dksX1_safe_0 15 rfl rfl)
theorem dX1_safe_16 : decode cX1_safe 16 = .ok (.iconst 0, 1) := dk_3 (dk_at dksX1_safe_0 16 rfl rfl)
theorem dX1_safe_17 : decode cX1_safe 17 = .ok (.iconst 2, 1) := dk_5 (dk_at dksX1_safe_0 17 rfl rfl)
theorem dX1_safe_18 : decode cX1_safe 18 = .ok (.invokestatic 137, 3) := dk_184 0 137 (dk_at dksX1_safe_0 18 rfl rfl)
theorem dX1_safe_21 : decode cX1_safe 21 = .ok (.ifCond .eq 7, 3) := dk_153 0 7 (dk_at dksX1_safe_0 21 rfl rfl)
theorem dX1_safe_24 : decode cX1_safe 24 = .ok (.iconst 1, 1) := dk_4 (dk_at dksX1_safe_1 0 rfl rfl)
theorem dX1_safe_25 : decode cX1_safe 25 = .ok (.goto 4, 3) := dk_167 0 4 (dk_at dksX1_safe_1 1 rfl rfl)
theorem dX1_safe_28 : decode cX1_safe 28 = .ok (.iconst 0, 1) := dk_3 (dk_at dksX1_safe_1 4 rfl rfl)
theorem dX1_safe_29 : decode cX1_safe 29 = .ok (.invokestatic 141, 3) := dk_184 0 141 (dk_at dksX1_safe_1 5 rfl rfl)
theorem dX1_safe_32 : decode cX1_safe 32 = .ok (.iconst 0, 1) := dk_3 (dk_at dksX1_safe_1 8 rfl rfl)
theorem dX1_safe_33 : decode cX1_safe 33 = .ok (.istore 4, 2) := dk_54 4 (dk_at dksX1_safe_1 9 rfl rfl)
theorem dX1_safe_35 : decode cX1_safe 35 = .ok (.iconst 1, 1) := dk_4 (dk_at dksX1_safe_1 11 rfl rfl)
theorem dX1_safe_36 : decode cX1_safe 36 = .ok (.istore 5, 2) := dk_54 5 (dk_at dksX1_safe_1 12 rfl rfl)
theorem dX1_safe_38 : decode cX1_safe 38 = .ok (.iload 5, 2) := dk_21 5 (dk_at dksX1_safe_1 14 rfl rfl)
theorem dX1_safe_40 : decode cX1_safe 40 = .ok (.aload_n 0, 1) := dk_42 (dk_at dksX1_safe_1 16 rfl rfl)
theorem dX1_safe_41 : decode cX1_safe 41 = .ok (.getfield 18, 3) := dk_180 0 18 (dk_at dksX1_safe_1 17 rfl rfl)
theorem dX1_safe_44 : decode cX1_safe 44 = .ok (.invokevirtual 180, 3) := dk_182 0 180 (dk_at dksX1_safe_1 20 rfl rfl)
theorem dX1_safe_47 : decode cX1_safe 47 = .ok (.if_icmp .gt 39, 3) := dk_163 0 39 (dk_at dksX1_safe_2 0 rfl rfl)
theorem dX1_safe_50 : decode cX1_safe 50 = .ok (.aload_n 0, 1) := dk_42 (dk_at dksX1_safe_2 3 rfl rfl)
theorem dX1_safe_51 : decode cX1_safe 51 = .ok (.getfield 18, 3) := dk_180 0 18 (dk_at dksX1_safe_2 4 rfl rfl)
theorem dX1_safe_54 : decode cX1_safe 54 = .ok (.getfield 176, 3) := dk_180 0 176 (dk_at dksX1_safe_2 7 rfl rfl)
theorem dX1_safe_57 : decode cX1_safe 57 = .ok (.iload_n 1, 1) := dk_27 (dk_at dksX1_safe_2 10 rfl rfl)
theorem dX1_safe_58 : decode cX1_safe 58 = .ok (.aaload, 1) := dk_50 (dk_at dksX1_safe_2 11 rfl rfl)
theorem dX1_safe_59 : decode cX1_safe 59 = .ok (.iload_n 2, 1) := dk_28 (dk_at dksX1_safe_2 12 rfl rfl)
theorem dX1_safe_60 : decode cX1_safe 60 = .ok (.aaload, 1) := dk_50 (dk_at dksX1_safe_2 13 rfl rfl)
theorem dX1_safe_61 : decode cX1_safe 61 = .ok (.iload_n 3, 1) := dk_29 (dk_at dksX1_safe_2 14 rfl rfl)
theorem dX1_safe_62 : decode cX1_safe 62 = .ok (.ifCond .eq 7, 3) := dk_153 0 7 (dk_at dksX1_safe_2 15 rfl rfl)
theorem dX1_safe_65 : decode cX1_safe 65 = .ok (.iconst 1, 1) := dk_4 (dk_at dksX1_safe_2 18 rfl rfl)
theorem dX1_safe_66 : decode cX1_safe 66 = .ok (.goto 4, 3) := dk_167 0 4 (dk_at dksX1_safe_2 19 rfl rfl)
theorem dX1_safe_69 : decode cX1_safe 69 = .ok (.iconst 0, 1) := dk_3 (dk_at dksX1_safe_2 22 rfl rfl)
theorem dX1_safe_70 : decode cX1_safe 70 = .ok (.aaload, 1) := dk_50 (dk_at dksX1_safe_2 23 rfl rfl)
theorem dX1_safe_71 : decode cX1_safe 71 = .ok (.iload 5, 2) := dk_21 5 (dk_at dksX1_safe_3 0 rfl rfl)
theorem dX1_safe_73 : decode cX1_safe 73 = .ok (.saload, 1) := dk_53 (dk_at dksX1_safe_3 2 rfl rfl)
theorem dX1_safe_74 : decode cX1_safe 74 = .ok (.ifCond .ne 6, 3) := dk_154 0 6 (dk_at dksX1_safe_3 3 rfl rfl)
theorem dX1_safe_77 : decode cX1_safe 77 = .ok (.iinc 4 1, 3) := dk_132 4 1 (dk_at dksX1_safe_3 6 rfl rfl)
theorem dX1_safe_80 : decode cX1_safe 80 = .ok (.iinc 5 1, 3) := dk_132 5 1 (dk_at dksX1_safe_3 9 rfl rfl)
theorem dX1_safe_83 : decode cX1_safe 83 = .ok (.goto (-45), 3) := dk_167 255 211 (dk_at dksX1_safe_3 12 rfl rfl)
theorem dX1_safe_86 : decode cX1_safe 86 = .ok (.iload 4, 2) := dk_21 4 (dk_at dksX1_safe_3 15 rfl rfl)
theorem dX1_safe_88 : decode cX1_safe 88 = .ok (.ireturn, 1) := dk_172 (dk_at dksX1_safe_3 17 rfl rfl)
abbrev cX1_reached : ByteArray := prog_1_method_17_code
def yX1_reached : MethodName := ⟨RX1, "reached", "(I)I"⟩
def dkwX1_reached_4 : List UInt8 := [62, 132, 4, 1, 167, 255, 206, 29, 172]
abbrev dktX1_reached_4 : List UInt8 := dkwX1_reached_4 ++ []
def dkwX1_reached_3 : List UInt8 := [184, 0, 198, 167, 0, 21, 44, 182, 0, 204, 21, 4, 46, 2, 160, 0, 9, 29, 4, 96, 167, 0, 4, 29]
abbrev dktX1_reached_3 : List UInt8 := dkwX1_reached_3 ++ dktX1_reached_4
def dkwX1_reached_2 : List UInt8 := [21, 4, 44, 180, 0, 189, 162, 0, 47, 27, 6, 160, 0, 17, 29, 44, 180, 0, 195, 21, 4, 46]
abbrev dktX1_reached_2 : List UInt8 := dkwX1_reached_2 ++ dktX1_reached_3
def dkwX1_reached_1 : List UInt8 := [154, 0, 8, 44, 180, 0, 189, 172, 27, 4, 160, 0, 8, 44, 180, 0, 192, 172, 3, 62, 3, 54, 4]
abbrev dktX1_reached_1 : List UInt8 := dkwX1_reached_1 ++ dktX1_reached_2
def dkwX1_reached_0 : List UInt8 := [27, 3, 6, 184, 0, 137, 184, 0, 141, 42, 182, 0, 183, 77, 44, 180, 0, 186, 153, 0, 5, 2, 172, 27]
abbrev dktX1_reached_0 : List UInt8 := dkwX1_reached_0 ++ dktX1_reached_1
theorem dksX1_reached_0 : cX1_reached.data.toList.drop 0 = dktX1_reached_0 := by decide +kernel
theorem dksX1_reached_1 : cX1_reached.data.toList.drop 24 = dktX1_reached_1 := dk_seg dksX1_reached_0 24 rfl rfl
theorem dksX1_reached_2 : cX1_reached.data.toList.drop 47 = dktX1_reached_2 := dk_seg dksX1_reached_1 23 rfl rfl
theorem dksX1_reached_3 : cX1_reached.data.toList.drop 69 = dktX1_reached_3 := dk_seg dksX1_reached_2 22 rfl rfl
theorem dksX1_reached_4 : cX1_reached.data.toList.drop 93 = dktX1_reached_4 := dk_seg dksX1_reached_3 24 rfl rfl
theorem dX1_reached_0 : decode cX1_reached 0 = .ok (.iload_n 1, 1) := dk_27 (dk_at dksX1_reached_0 0 rfl rfl)
theorem dX1_reached_1 : decode cX1_reached 1 = .ok (.iconst 0, 1) := dk_3 (dk_at dksX1_reached_0 1 rfl rfl)
theorem dX1_reached_2 : decode cX1_reached 2 = .ok (.iconst 3, 1) := dk_6 (dk_at dksX1_reached_0 2 rfl rfl)
theorem dX1_reached_3 : decode cX1_reached 3 = .ok (.invokestatic 137, 3) := dk_184 0 137 (dk_at dksX1_reached_0 3 rfl rfl)
theorem dX1_reached_6 : decode cX1_reached 6 = .ok (.invokestatic 141, 3) := dk_184 0 141 (dk_at dksX1_reached_0 6 rfl rfl)
theorem dX1_reached_9 : decode cX1_reached 9 = .ok (.aload_n 0, 1) := dk_42 (dk_at dksX1_reached_0 9 rfl rfl)
theorem dX1_reached_10 : decode cX1_reached 10 = .ok (.invokevirtual 183, 3) := dk_182 0 183 (dk_at dksX1_reached_0 10 rfl rfl)
theorem dX1_reached_13 : decode cX1_reached 13 = .ok (.astore_n 2, 1) := dk_77 (dk_at dksX1_reached_0 13 rfl rfl)
theorem dX1_reached_14 : decode cX1_reached 14 = .ok (.aload_n 2, 1) := dk_44 (dk_at dksX1_reached_0 14 rfl rfl)
theorem dX1_reached_15 : decode cX1_reached 15 = .ok (.getfield 186, 3) := dk_180 0 186 (dk_at dksX1_reached_0 15 rfl rfl)
theorem dX1_reached_18 : decode cX1_reached 18 = .ok (.ifCond .eq 5, 3) := dk_153 0 5 (dk_at dksX1_reached_0 18 rfl rfl)
theorem dX1_reached_21 : decode cX1_reached 21 = .ok (.iconst (-1), 1) := dk_2 (dk_at dksX1_reached_0 21 rfl rfl)
theorem dX1_reached_22 : decode cX1_reached 22 = .ok (.ireturn, 1) := dk_172 (dk_at dksX1_reached_0 22 rfl rfl)
theorem dX1_reached_23 : decode cX1_reached 23 = .ok (.iload_n 1, 1) := dk_27 (dk_at dksX1_reached_0 23 rfl rfl)
theorem dX1_reached_24 : decode cX1_reached 24 = .ok (.ifCond .ne 8, 3) := dk_154 0 8 (dk_at dksX1_reached_1 0 rfl rfl)
theorem dX1_reached_27 : decode cX1_reached 27 = .ok (.aload_n 2, 1) := dk_44 (dk_at dksX1_reached_1 3 rfl rfl)
theorem dX1_reached_28 : decode cX1_reached 28 = .ok (.getfield 189, 3) := dk_180 0 189 (dk_at dksX1_reached_1 4 rfl rfl)
theorem dX1_reached_31 : decode cX1_reached 31 = .ok (.ireturn, 1) := dk_172 (dk_at dksX1_reached_1 7 rfl rfl)
theorem dX1_reached_32 : decode cX1_reached 32 = .ok (.iload_n 1, 1) := dk_27 (dk_at dksX1_reached_1 8 rfl rfl)
theorem dX1_reached_33 : decode cX1_reached 33 = .ok (.iconst 1, 1) := dk_4 (dk_at dksX1_reached_1 9 rfl rfl)
theorem dX1_reached_34 : decode cX1_reached 34 = .ok (.if_icmp .ne 8, 3) := dk_160 0 8 (dk_at dksX1_reached_1 10 rfl rfl)
theorem dX1_reached_37 : decode cX1_reached 37 = .ok (.aload_n 2, 1) := dk_44 (dk_at dksX1_reached_1 13 rfl rfl)
theorem dX1_reached_38 : decode cX1_reached 38 = .ok (.getfield 192, 3) := dk_180 0 192 (dk_at dksX1_reached_1 14 rfl rfl)
theorem dX1_reached_41 : decode cX1_reached 41 = .ok (.ireturn, 1) := dk_172 (dk_at dksX1_reached_1 17 rfl rfl)
theorem dX1_reached_42 : decode cX1_reached 42 = .ok (.iconst 0, 1) := dk_3 (dk_at dksX1_reached_1 18 rfl rfl)
theorem dX1_reached_43 : decode cX1_reached 43 = .ok (.istore_n 3, 1) := dk_62 (dk_at dksX1_reached_1 19 rfl rfl)
theorem dX1_reached_44 : decode cX1_reached 44 = .ok (.iconst 0, 1) := dk_3 (dk_at dksX1_reached_1 20 rfl rfl)
theorem dX1_reached_45 : decode cX1_reached 45 = .ok (.istore 4, 2) := dk_54 4 (dk_at dksX1_reached_1 21 rfl rfl)
theorem dX1_reached_47 : decode cX1_reached 47 = .ok (.iload 4, 2) := dk_21 4 (dk_at dksX1_reached_2 0 rfl rfl)
theorem dX1_reached_49 : decode cX1_reached 49 = .ok (.aload_n 2, 1) := dk_44 (dk_at dksX1_reached_2 2 rfl rfl)
theorem dX1_reached_50 : decode cX1_reached 50 = .ok (.getfield 189, 3) := dk_180 0 189 (dk_at dksX1_reached_2 3 rfl rfl)
theorem dX1_reached_53 : decode cX1_reached 53 = .ok (.if_icmp .ge 47, 3) := dk_162 0 47 (dk_at dksX1_reached_2 6 rfl rfl)
theorem dX1_reached_56 : decode cX1_reached 56 = .ok (.iload_n 1, 1) := dk_27 (dk_at dksX1_reached_2 9 rfl rfl)
theorem dX1_reached_57 : decode cX1_reached 57 = .ok (.iconst 3, 1) := dk_6 (dk_at dksX1_reached_2 10 rfl rfl)
theorem dX1_reached_58 : decode cX1_reached 58 = .ok (.if_icmp .ne 17, 3) := dk_160 0 17 (dk_at dksX1_reached_2 11 rfl rfl)
theorem dX1_reached_61 : decode cX1_reached 61 = .ok (.iload_n 3, 1) := dk_29 (dk_at dksX1_reached_2 14 rfl rfl)
theorem dX1_reached_62 : decode cX1_reached 62 = .ok (.aload_n 2, 1) := dk_44 (dk_at dksX1_reached_2 15 rfl rfl)
theorem dX1_reached_63 : decode cX1_reached 63 = .ok (.getfield 195, 3) := dk_180 0 195 (dk_at dksX1_reached_2 16 rfl rfl)
theorem dX1_reached_66 : decode cX1_reached 66 = .ok (.iload 4, 2) := dk_21 4 (dk_at dksX1_reached_2 19 rfl rfl)
theorem dX1_reached_68 : decode cX1_reached 68 = .ok (.iaload, 1) := dk_46 (dk_at dksX1_reached_2 21 rfl rfl)
theorem dX1_reached_69 : decode cX1_reached 69 = .ok (.invokestatic 198, 3) := dk_184 0 198 (dk_at dksX1_reached_3 0 rfl rfl)
theorem dX1_reached_72 : decode cX1_reached 72 = .ok (.goto 21, 3) := dk_167 0 21 (dk_at dksX1_reached_3 3 rfl rfl)
theorem dX1_reached_75 : decode cX1_reached 75 = .ok (.aload_n 2, 1) := dk_44 (dk_at dksX1_reached_3 6 rfl rfl)
theorem dX1_reached_76 : decode cX1_reached 76 = .ok (.invokevirtual 204, 3) := dk_182 0 204 (dk_at dksX1_reached_3 7 rfl rfl)
theorem dX1_reached_79 : decode cX1_reached 79 = .ok (.iload 4, 2) := dk_21 4 (dk_at dksX1_reached_3 10 rfl rfl)
theorem dX1_reached_81 : decode cX1_reached 81 = .ok (.iaload, 1) := dk_46 (dk_at dksX1_reached_3 12 rfl rfl)
theorem dX1_reached_82 : decode cX1_reached 82 = .ok (.iconst (-1), 1) := dk_2 (dk_at dksX1_reached_3 13 rfl rfl)
theorem dX1_reached_83 : decode cX1_reached 83 = .ok (.if_icmp .ne 9, 3) := dk_160 0 9 (dk_at dksX1_reached_3 14 rfl rfl)
theorem dX1_reached_86 : decode cX1_reached 86 = .ok (.iload_n 3, 1) := dk_29 (dk_at dksX1_reached_3 17 rfl rfl)
theorem dX1_reached_87 : decode cX1_reached 87 = .ok (.iconst 1, 1) := dk_4 (dk_at dksX1_reached_3 18 rfl rfl)
theorem dX1_reached_88 : decode cX1_reached 88 = .ok (.iadd, 1) := dk_96 (dk_at dksX1_reached_3 19 rfl rfl)
theorem dX1_reached_89 : decode cX1_reached 89 = .ok (.goto 4, 3) := dk_167 0 4 (dk_at dksX1_reached_3 20 rfl rfl)
theorem dX1_reached_92 : decode cX1_reached 92 = .ok (.iload_n 3, 1) := dk_29 (dk_at dksX1_reached_3 23 rfl rfl)
theorem dX1_reached_93 : decode cX1_reached 93 = .ok (.istore_n 3, 1) := dk_62 (dk_at dksX1_reached_4 0 rfl rfl)
theorem dX1_reached_94 : decode cX1_reached 94 = .ok (.iinc 4 1, 3) := dk_132 4 1 (dk_at dksX1_reached_4 1 rfl rfl)
theorem dX1_reached_97 : decode cX1_reached 97 = .ok (.goto (-50), 3) := dk_167 255 206 (dk_at dksX1_reached_4 4 rfl rfl)
theorem dX1_reached_100 : decode cX1_reached 100 = .ok (.iload_n 3, 1) := dk_29 (dk_at dksX1_reached_4 7 rfl rfl)
theorem dX1_reached_101 : decode cX1_reached 101 = .ok (.ireturn, 1) := dk_172 (dk_at dksX1_reached_4 8 rfl rfl)
abbrev cX1_way : ByteArray := prog_1_method_25_code
def yX1_way : MethodName := ⟨RX1, "way", "(II)I"⟩
def dkwX1_way_7 : List UInt8 := [167, 0, 14, 42, 180, 0, 18, 29, 184, 0, 241, 182, 0, 245, 172]
abbrev dktX1_way_7 : List UInt8 := dkwX1_way_7 ++ []
def dkwX1_way_6 : List UInt8 := [167, 0, 38, 28, 4, 160, 0, 10, 29, 184, 0, 251, 167, 0, 26, 28, 5, 160, 0, 10, 29, 184, 0, 241]
abbrev dktX1_way_6 : List UInt8 := dkwX1_way_6 ++ dktX1_way_7
def dkwX1_way_5 : List UInt8 := [167, 0, 4, 3, 184, 0, 141, 42, 180, 0, 77, 27, 46, 62, 28, 154, 0, 10, 29, 184, 0, 248]
abbrev dktX1_way_5 : List UInt8 := dkwX1_way_5 ++ dktX1_way_6
def dkwX1_way_4 : List UInt8 := [180, 0, 77, 190, 4, 100, 184, 0, 137, 153, 0, 16, 28, 3, 6, 184, 0, 137, 153, 0, 7, 4]
abbrev dktX1_way_4 : List UInt8 := dkwX1_way_4 ++ dktX1_way_5
def dkwX1_way_3 : List UInt8 := [132, 4, 1, 167, 255, 223, 28, 154, 0, 11, 42, 180, 0, 77, 190, 167, 0, 4, 29, 172, 27, 3, 42]
abbrev dktX1_way_3 : List UInt8 := dkwX1_way_3 ++ dktX1_way_4
def dkwX1_way_2 : List UInt8 := [190, 162, 0, 29, 29, 42, 180, 0, 18, 42, 180, 0, 77, 21, 4, 46, 184, 0, 241, 182, 0, 245, 96, 62]
abbrev dktX1_way_2 : List UInt8 := dkwX1_way_2 ++ dktX1_way_3
def dkwX1_way_1 : List UInt8 := [28, 6, 160, 0, 7, 4, 167, 0, 4, 3, 184, 0, 141, 3, 62, 3, 54, 4, 21, 4, 42, 180, 0, 77]
abbrev dktX1_way_1 : List UInt8 := dkwX1_way_1 ++ dktX1_way_2
def dkwX1_way_0 : List UInt8 := [42, 180, 0, 77, 198, 0, 7, 4, 167, 0, 4, 3, 184, 0, 141, 27, 2, 160, 0, 75, 28, 153, 0, 8]
abbrev dktX1_way_0 : List UInt8 := dkwX1_way_0 ++ dktX1_way_1
theorem dksX1_way_0 : cX1_way.data.toList.drop 0 = dktX1_way_0 := by decide +kernel
theorem dksX1_way_1 : cX1_way.data.toList.drop 24 = dktX1_way_1 := dk_seg dksX1_way_0 24 rfl rfl
theorem dksX1_way_2 : cX1_way.data.toList.drop 48 = dktX1_way_2 := dk_seg dksX1_way_1 24 rfl rfl
theorem dksX1_way_3 : cX1_way.data.toList.drop 72 = dktX1_way_3 := dk_seg dksX1_way_2 24 rfl rfl
theorem dksX1_way_4 : cX1_way.data.toList.drop 95 = dktX1_way_4 := dk_seg dksX1_way_3 23 rfl rfl
theorem dksX1_way_5 : cX1_way.data.toList.drop 117 = dktX1_way_5 := dk_seg dksX1_way_4 22 rfl rfl
theorem dksX1_way_6 : cX1_way.data.toList.drop 139 = dktX1_way_6 := dk_seg dksX1_way_5 22 rfl rfl
theorem dksX1_way_7 : cX1_way.data.toList.drop 163 = dktX1_way_7 := dk_seg dksX1_way_6 24 rfl rfl
theorem dX1_way_0 : decode cX1_way 0 = .ok (.aload_n 0, 1) := dk_42 (dk_at dksX1_way_0 0 rfl rfl)
theorem dX1_way_1 : decode cX1_way 1 = .ok (.getfield 77, 3) := dk_180 0 77 (dk_at dksX1_way_0 1 rfl rfl)
theorem dX1_way_4 : decode cX1_way 4 = .ok (.ifnull 7, 3) := dk_198 0 7 (dk_at dksX1_way_0 4 rfl rfl)
theorem dX1_way_7 : decode cX1_way 7 = .ok (.iconst 1, 1) := dk_4 (dk_at dksX1_way_0 7 rfl rfl)
theorem dX1_way_8 : decode cX1_way 8 = .ok (.goto 4, 3) := dk_167 0 4 (dk_at dksX1_way_0 8 rfl rfl)
theorem dX1_way_11 : decode cX1_way 11 = .ok (.iconst 0, 1) := dk_3 (dk_at dksX1_way_0 11 rfl rfl)
theorem dX1_way_12 : decode cX1_way 12 = .ok (.invokestatic 141, 3) := dk_184 0 141 (dk_at dksX1_way_0 12 rfl rfl)
theorem dX1_way_15 : decode cX1_way 15 = .ok (.iload_n 1, 1) := dk_27 (dk_at dksX1_way_0 15 rfl rfl)
theorem dX1_way_16 : decode cX1_way 16 = .ok (.iconst (-1), 1) := dk_2 (dk_at dksX1_way_0 16 rfl rfl)
theorem dX1_way_17 : decode cX1_way 17 = .ok (.if_icmp .ne 75, 3) := dk_160 0 75 (dk_at dksX1_way_0 17 rfl rfl)
theorem dX1_way_20 : decode cX1_way 20 = .ok (.iload_n 2, 1) := dk_28 (dk_at dksX1_way_0 20 rfl rfl)
theorem dX1_way_21 : decode cX1_way 21 = .ok (.ifCond .eq 8, 3) := dk_153 0 8 (dk_at dksX1_way_0 21 rfl rfl)
theorem dX1_way_24 : decode cX1_way 24 = .ok (.iload_n 2, 1) := dk_28 (dk_at dksX1_way_1 0 rfl rfl)
theorem dX1_way_25 : decode cX1_way 25 = .ok (.iconst 3, 1) := dk_6 (dk_at dksX1_way_1 1 rfl rfl)
theorem dX1_way_26 : decode cX1_way 26 = .ok (.if_icmp .ne 7, 3) := dk_160 0 7 (dk_at dksX1_way_1 2 rfl rfl)
theorem dX1_way_29 : decode cX1_way 29 = .ok (.iconst 1, 1) := dk_4 (dk_at dksX1_way_1 5 rfl rfl)
theorem dX1_way_30 : decode cX1_way 30 = .ok (.goto 4, 3) := dk_167 0 4 (dk_at dksX1_way_1 6 rfl rfl)
theorem dX1_way_33 : decode cX1_way 33 = .ok (.iconst 0, 1) := dk_3 (dk_at dksX1_way_1 9 rfl rfl)
theorem dX1_way_34 : decode cX1_way 34 = .ok (.invokestatic 141, 3) := dk_184 0 141 (dk_at dksX1_way_1 10 rfl rfl)
theorem dX1_way_37 : decode cX1_way 37 = .ok (.iconst 0, 1) := dk_3 (dk_at dksX1_way_1 13 rfl rfl)
theorem dX1_way_38 : decode cX1_way 38 = .ok (.istore_n 3, 1) := dk_62 (dk_at dksX1_way_1 14 rfl rfl)
theorem dX1_way_39 : decode cX1_way 39 = .ok (.iconst 0, 1) := dk_3 (dk_at dksX1_way_1 15 rfl rfl)
theorem dX1_way_40 : decode cX1_way 40 = .ok (.istore 4, 2) := dk_54 4 (dk_at dksX1_way_1 16 rfl rfl)
theorem dX1_way_42 : decode cX1_way 42 = .ok (.iload 4, 2) := dk_21 4 (dk_at dksX1_way_1 18 rfl rfl)
theorem dX1_way_44 : decode cX1_way 44 = .ok (.aload_n 0, 1) := dk_42 (dk_at dksX1_way_1 20 rfl rfl)
theorem dX1_way_45 : decode cX1_way 45 = .ok (.getfield 77, 3) := dk_180 0 77 (dk_at dksX1_way_1 21 rfl rfl)
theorem dX1_way_48 : decode cX1_way 48 = .ok (.arraylength, 1) := dk_190 (dk_at dksX1_way_2 0 rfl rfl)
theorem dX1_way_49 : decode cX1_way 49 = .ok (.if_icmp .ge 29, 3) := dk_162 0 29 (dk_at dksX1_way_2 1 rfl rfl)
theorem dX1_way_52 : decode cX1_way 52 = .ok (.iload_n 3, 1) := dk_29 (dk_at dksX1_way_2 4 rfl rfl)
theorem dX1_way_53 : decode cX1_way 53 = .ok (.aload_n 0, 1) := dk_42 (dk_at dksX1_way_2 5 rfl rfl)
theorem dX1_way_54 : decode cX1_way 54 = .ok (.getfield 18, 3) := dk_180 0 18 (dk_at dksX1_way_2 6 rfl rfl)
theorem dX1_way_57 : decode cX1_way 57 = .ok (.aload_n 0, 1) := dk_42 (dk_at dksX1_way_2 9 rfl rfl)
theorem dX1_way_58 : decode cX1_way 58 = .ok (.getfield 77, 3) := dk_180 0 77 (dk_at dksX1_way_2 10 rfl rfl)
theorem dX1_way_61 : decode cX1_way 61 = .ok (.iload 4, 2) := dk_21 4 (dk_at dksX1_way_2 13 rfl rfl)
theorem dX1_way_63 : decode cX1_way 63 = .ok (.iaload, 1) := dk_46 (dk_at dksX1_way_2 15 rfl rfl)
theorem dX1_way_64 : decode cX1_way 64 = .ok (.invokestatic 241, 3) := dk_184 0 241 (dk_at dksX1_way_2 16 rfl rfl)
theorem dX1_way_67 : decode cX1_way 67 = .ok (.invokevirtual 245, 3) := dk_182 0 245 (dk_at dksX1_way_2 19 rfl rfl)
theorem dX1_way_70 : decode cX1_way 70 = .ok (.iadd, 1) := dk_96 (dk_at dksX1_way_2 22 rfl rfl)
theorem dX1_way_71 : decode cX1_way 71 = .ok (.istore_n 3, 1) := dk_62 (dk_at dksX1_way_2 23 rfl rfl)
theorem dX1_way_72 : decode cX1_way 72 = .ok (.iinc 4 1, 3) := dk_132 4 1 (dk_at dksX1_way_3 0 rfl rfl)
theorem dX1_way_75 : decode cX1_way 75 = .ok (.goto (-33), 3) := dk_167 255 223 (dk_at dksX1_way_3 3 rfl rfl)
theorem dX1_way_78 : decode cX1_way 78 = .ok (.iload_n 2, 1) := dk_28 (dk_at dksX1_way_3 6 rfl rfl)
theorem dX1_way_79 : decode cX1_way 79 = .ok (.ifCond .ne 11, 3) := dk_154 0 11 (dk_at dksX1_way_3 7 rfl rfl)
theorem dX1_way_82 : decode cX1_way 82 = .ok (.aload_n 0, 1) := dk_42 (dk_at dksX1_way_3 10 rfl rfl)
theorem dX1_way_83 : decode cX1_way 83 = .ok (.getfield 77, 3) := dk_180 0 77 (dk_at dksX1_way_3 11 rfl rfl)
theorem dX1_way_86 : decode cX1_way 86 = .ok (.arraylength, 1) := dk_190 (dk_at dksX1_way_3 14 rfl rfl)
theorem dX1_way_87 : decode cX1_way 87 = .ok (.goto 4, 3) := dk_167 0 4 (dk_at dksX1_way_3 15 rfl rfl)
theorem dX1_way_90 : decode cX1_way 90 = .ok (.iload_n 3, 1) := dk_29 (dk_at dksX1_way_3 18 rfl rfl)
theorem dX1_way_91 : decode cX1_way 91 = .ok (.ireturn, 1) := dk_172 (dk_at dksX1_way_3 19 rfl rfl)
theorem dX1_way_92 : decode cX1_way 92 = .ok (.iload_n 1, 1) := dk_27 (dk_at dksX1_way_3 20 rfl rfl)
theorem dX1_way_93 : decode cX1_way 93 = .ok (.iconst 0, 1) := dk_3 (dk_at dksX1_way_3 21 rfl rfl)
theorem dX1_way_94 : decode cX1_way 94 = .ok (.aload_n 0, 1) := dk_42 (dk_at dksX1_way_3 22 rfl rfl)
theorem dX1_way_95 : decode cX1_way 95 = .ok (.getfield 77, 3) := dk_180 0 77 (dk_at dksX1_way_4 0 rfl rfl)
theorem dX1_way_98 : decode cX1_way 98 = .ok (.arraylength, 1) := dk_190 (dk_at dksX1_way_4 3 rfl rfl)
theorem dX1_way_99 : decode cX1_way 99 = .ok (.iconst 1, 1) := dk_4 (dk_at dksX1_way_4 4 rfl rfl)
theorem dX1_way_100 : decode cX1_way 100 = .ok (.isub, 1) := dk_100 (dk_at dksX1_way_4 5 rfl rfl)
theorem dX1_way_101 : decode cX1_way 101 = .ok (.invokestatic 137, 3) := dk_184 0 137 (dk_at dksX1_way_4 6 rfl rfl)
theorem dX1_way_104 : decode cX1_way 104 = .ok (.ifCond .eq 16, 3) := dk_153 0 16 (dk_at dksX1_way_4 9 rfl rfl)
theorem dX1_way_107 : decode cX1_way 107 = .ok (.iload_n 2, 1) := dk_28 (dk_at dksX1_way_4 12 rfl rfl)
theorem dX1_way_108 : decode cX1_way 108 = .ok (.iconst 0, 1) := dk_3 (dk_at dksX1_way_4 13 rfl rfl)
theorem dX1_way_109 : decode cX1_way 109 = .ok (.iconst 3, 1) := dk_6 (dk_at dksX1_way_4 14 rfl rfl)
theorem dX1_way_110 : decode cX1_way 110 = .ok (.invokestatic 137, 3) := dk_184 0 137 (dk_at dksX1_way_4 15 rfl rfl)
theorem dX1_way_113 : decode cX1_way 113 = .ok (.ifCond .eq 7, 3) := dk_153 0 7 (dk_at dksX1_way_4 18 rfl rfl)
theorem dX1_way_116 : decode cX1_way 116 = .ok (.iconst 1, 1) := dk_4 (dk_at dksX1_way_4 21 rfl rfl)
theorem dX1_way_117 : decode cX1_way 117 = .ok (.goto 4, 3) := dk_167 0 4 (dk_at dksX1_way_5 0 rfl rfl)
theorem dX1_way_120 : decode cX1_way 120 = .ok (.iconst 0, 1) := dk_3 (dk_at dksX1_way_5 3 rfl rfl)
theorem dX1_way_121 : decode cX1_way 121 = .ok (.invokestatic 141, 3) := dk_184 0 141 (dk_at dksX1_way_5 4 rfl rfl)
theorem dX1_way_124 : decode cX1_way 124 = .ok (.aload_n 0, 1) := dk_42 (dk_at dksX1_way_5 7 rfl rfl)
theorem dX1_way_125 : decode cX1_way 125 = .ok (.getfield 77, 3) := dk_180 0 77 (dk_at dksX1_way_5 8 rfl rfl)
theorem dX1_way_128 : decode cX1_way 128 = .ok (.iload_n 1, 1) := dk_27 (dk_at dksX1_way_5 11 rfl rfl)
theorem dX1_way_129 : decode cX1_way 129 = .ok (.iaload, 1) := dk_46 (dk_at dksX1_way_5 12 rfl rfl)
theorem dX1_way_130 : decode cX1_way 130 = .ok (.istore_n 3, 1) := dk_62 (dk_at dksX1_way_5 13 rfl rfl)
theorem dX1_way_131 : decode cX1_way 131 = .ok (.iload_n 2, 1) := dk_28 (dk_at dksX1_way_5 14 rfl rfl)
theorem dX1_way_132 : decode cX1_way 132 = .ok (.ifCond .ne 10, 3) := dk_154 0 10 (dk_at dksX1_way_5 15 rfl rfl)
theorem dX1_way_135 : decode cX1_way 135 = .ok (.iload_n 3, 1) := dk_29 (dk_at dksX1_way_5 18 rfl rfl)
theorem dX1_way_136 : decode cX1_way 136 = .ok (.invokestatic 248, 3) := dk_184 0 248 (dk_at dksX1_way_5 19 rfl rfl)
theorem dX1_way_139 : decode cX1_way 139 = .ok (.goto 38, 3) := dk_167 0 38 (dk_at dksX1_way_6 0 rfl rfl)
theorem dX1_way_142 : decode cX1_way 142 = .ok (.iload_n 2, 1) := dk_28 (dk_at dksX1_way_6 3 rfl rfl)
theorem dX1_way_143 : decode cX1_way 143 = .ok (.iconst 1, 1) := dk_4 (dk_at dksX1_way_6 4 rfl rfl)
theorem dX1_way_144 : decode cX1_way 144 = .ok (.if_icmp .ne 10, 3) := dk_160 0 10 (dk_at dksX1_way_6 5 rfl rfl)
theorem dX1_way_147 : decode cX1_way 147 = .ok (.iload_n 3, 1) := dk_29 (dk_at dksX1_way_6 8 rfl rfl)
theorem dX1_way_148 : decode cX1_way 148 = .ok (.invokestatic 251, 3) := dk_184 0 251 (dk_at dksX1_way_6 9 rfl rfl)
theorem dX1_way_151 : decode cX1_way 151 = .ok (.goto 26, 3) := dk_167 0 26 (dk_at dksX1_way_6 12 rfl rfl)
theorem dX1_way_154 : decode cX1_way 154 = .ok (.iload_n 2, 1) := dk_28 (dk_at dksX1_way_6 15 rfl rfl)
theorem dX1_way_155 : decode cX1_way 155 = .ok (.iconst 2, 1) := dk_5 (dk_at dksX1_way_6 16 rfl rfl)
theorem dX1_way_156 : decode cX1_way 156 = .ok (.if_icmp .ne 10, 3) := dk_160 0 10 (dk_at dksX1_way_6 17 rfl rfl)
theorem dX1_way_159 : decode cX1_way 159 = .ok (.iload_n 3, 1) := dk_29 (dk_at dksX1_way_6 20 rfl rfl)
theorem dX1_way_160 : decode cX1_way 160 = .ok (.invokestatic 241, 3) := dk_184 0 241 (dk_at dksX1_way_6 21 rfl rfl)
theorem dX1_way_163 : decode cX1_way 163 = .ok (.goto 14, 3) := dk_167 0 14 (dk_at dksX1_way_7 0 rfl rfl)
theorem dX1_way_166 : decode cX1_way 166 = .ok (.aload_n 0, 1) := dk_42 (dk_at dksX1_way_7 3 rfl rfl)
theorem dX1_way_167 : decode cX1_way 167 = .ok (.getfield 18, 3) := dk_180 0 18 (dk_at dksX1_way_7 4 rfl rfl)
theorem dX1_way_170 : decode cX1_way 170 = .ok (.iload_n 3, 1) := dk_29 (dk_at dksX1_way_7 7 rfl rfl)
theorem dX1_way_171 : decode cX1_way 171 = .ok (.invokestatic 241, 3) := dk_184 0 241 (dk_at dksX1_way_7 8 rfl rfl)
theorem dX1_way_174 : decode cX1_way 174 = .ok (.invokevirtual 245, 3) := dk_182 0 245 (dk_at dksX1_way_7 11 rfl rfl)
theorem dX1_way_177 : decode cX1_way 177 = .ok (.ireturn, 1) := dk_172 (dk_at dksX1_way_7 14 rfl rfl)
abbrev cX1_where : ByteArray := prog_1_method_27_code
def yX1_where : MethodName := ⟨RX1, "where", "(II)I"⟩
def dkwX1_where_1 : List UInt8 := [153, 0, 7, 4, 167, 0, 4, 3, 184, 0, 141, 42, 27, 182, 1, 1, 28, 182, 1, 5, 172]
abbrev dktX1_where_1 : List UInt8 := dkwX1_where_1 ++ []
def dkwX1_where_0 : List UInt8 := [42, 28, 182, 0, 144, 42, 180, 0, 77, 198, 0, 20, 27, 3, 42, 180, 0, 77, 190, 184, 0, 137]
abbrev dktX1_where_0 : List UInt8 := dkwX1_where_0 ++ dktX1_where_1
theorem dksX1_where_0 : cX1_where.data.toList.drop 0 = dktX1_where_0 := by decide +kernel
theorem dksX1_where_1 : cX1_where.data.toList.drop 22 = dktX1_where_1 := dk_seg dksX1_where_0 22 rfl rfl
theorem dX1_where_0 : decode cX1_where 0 = .ok (.aload_n 0, 1) := dk_42 (dk_at dksX1_where_0 0 rfl rfl)
theorem dX1_where_1 : decode cX1_where 1 = .ok (.iload_n 2, 1) := dk_28 (dk_at dksX1_where_0 1 rfl rfl)
theorem dX1_where_2 : decode cX1_where 2 = .ok (.invokevirtual 144, 3) := dk_182 0 144 (dk_at dksX1_where_0 2 rfl rfl)
theorem dX1_where_5 : decode cX1_where 5 = .ok (.aload_n 0, 1) := dk_42 (dk_at dksX1_where_0 5 rfl rfl)
theorem dX1_where_6 : decode cX1_where 6 = .ok (.getfield 77, 3) := dk_180 0 77 (dk_at dksX1_where_0 6 rfl rfl)
theorem dX1_where_9 : decode cX1_where 9 = .ok (.ifnull 20, 3) := dk_198 0 20 (dk_at dksX1_where_0 9 rfl rfl)
theorem dX1_where_12 : decode cX1_where 12 = .ok (.iload_n 1, 1) := dk_27 (dk_at dksX1_where_0 12 rfl rfl)
theorem dX1_where_13 : decode cX1_where 13 = .ok (.iconst 0, 1) := dk_3 (dk_at dksX1_where_0 13 rfl rfl)
theorem dX1_where_14 : decode cX1_where 14 = .ok (.aload_n 0, 1) := dk_42 (dk_at dksX1_where_0 14 rfl rfl)
theorem dX1_where_15 : decode cX1_where 15 = .ok (.getfield 77, 3) := dk_180 0 77 (dk_at dksX1_where_0 15 rfl rfl)
theorem dX1_where_18 : decode cX1_where 18 = .ok (.arraylength, 1) := dk_190 (dk_at dksX1_where_0 18 rfl rfl)
theorem dX1_where_19 : decode cX1_where 19 = .ok (.invokestatic 137, 3) := dk_184 0 137 (dk_at dksX1_where_0 19 rfl rfl)
theorem dX1_where_22 : decode cX1_where 22 = .ok (.ifCond .eq 7, 3) := dk_153 0 7 (dk_at dksX1_where_1 0 rfl rfl)
theorem dX1_where_25 : decode cX1_where 25 = .ok (.iconst 1, 1) := dk_4 (dk_at dksX1_where_1 3 rfl rfl)
theorem dX1_where_26 : decode cX1_where 26 = .ok (.goto 4, 3) := dk_167 0 4 (dk_at dksX1_where_1 4 rfl rfl)
theorem dX1_where_29 : decode cX1_where 29 = .ok (.iconst 0, 1) := dk_3 (dk_at dksX1_where_1 7 rfl rfl)
theorem dX1_where_30 : decode cX1_where 30 = .ok (.invokestatic 141, 3) := dk_184 0 141 (dk_at dksX1_where_1 8 rfl rfl)
theorem dX1_where_33 : decode cX1_where 33 = .ok (.aload_n 0, 1) := dk_42 (dk_at dksX1_where_1 11 rfl rfl)
theorem dX1_where_34 : decode cX1_where 34 = .ok (.iload_n 1, 1) := dk_27 (dk_at dksX1_where_1 12 rfl rfl)
theorem dX1_where_35 : decode cX1_where 35 = .ok (.invokevirtual 257, 3) := dk_182 1 1 (dk_at dksX1_where_1 13 rfl rfl)
theorem dX1_where_38 : decode cX1_where 38 = .ok (.iload_n 2, 1) := dk_28 (dk_at dksX1_where_1 16 rfl rfl)
theorem dX1_where_39 : decode cX1_where 39 = .ok (.invokevirtual 261, 3) := dk_182 1 5 (dk_at dksX1_where_1 17 rfl rfl)
theorem dX1_where_42 : decode cX1_where 42 = .ok (.ireturn, 1) := dk_172 (dk_at dksX1_where_1 20 rfl rfl)
abbrev cX1_behind : ByteArray := prog_1_method_26_code
def yX1_behind : MethodName := ⟨RX1, "behind", "(I)LFerryHall$Place;"⟩
def dkwX1_behind_2 : List UInt8 := [184, 0, 241, 182, 0, 254, 132, 3, 1, 167, 255, 217, 44, 176]
abbrev dktX1_behind_2 : List UInt8 := dkwX1_behind_2 ++ []
def dkwX1_behind_1 : List UInt8 := [42, 180, 0, 77, 29, 46, 184, 0, 248, 42, 180, 0, 77, 29, 46, 184, 0, 251, 42, 180, 0, 77, 29, 46]
abbrev dktX1_behind_1 : List UInt8 := dkwX1_behind_1 ++ dktX1_behind_2
def dkwX1_behind_0 : List UInt8 := [187, 0, 56, 89, 42, 180, 0, 18, 183, 0, 58, 77, 44, 182, 0, 65, 3, 62, 29, 27, 162, 0, 40, 44]
abbrev dktX1_behind_0 : List UInt8 := dkwX1_behind_0 ++ dktX1_behind_1
theorem dksX1_behind_0 : cX1_behind.data.toList.drop 0 = dktX1_behind_0 := by decide +kernel
theorem dksX1_behind_1 : cX1_behind.data.toList.drop 24 = dktX1_behind_1 := dk_seg dksX1_behind_0 24 rfl rfl
theorem dksX1_behind_2 : cX1_behind.data.toList.drop 48 = dktX1_behind_2 := dk_seg dksX1_behind_1 24 rfl rfl
theorem dX1_behind_0 : decode cX1_behind 0 = .ok (.new 56, 3) := dk_187 0 56 (dk_at dksX1_behind_0 0 rfl rfl)
theorem dX1_behind_3 : decode cX1_behind 3 = .ok (.dup, 1) := dk_89 (dk_at dksX1_behind_0 3 rfl rfl)
theorem dX1_behind_4 : decode cX1_behind 4 = .ok (.aload_n 0, 1) := dk_42 (dk_at dksX1_behind_0 4 rfl rfl)
theorem dX1_behind_5 : decode cX1_behind 5 = .ok (.getfield 18, 3) := dk_180 0 18 (dk_at dksX1_behind_0 5 rfl rfl)
theorem dX1_behind_8 : decode cX1_behind 8 = .ok (.invokespecial 58, 3) := dk_183 0 58 (dk_at dksX1_behind_0 8 rfl rfl)
theorem dX1_behind_11 : decode cX1_behind 11 = .ok (.astore_n 2, 1) := dk_77 (dk_at dksX1_behind_0 11 rfl rfl)
theorem dX1_behind_12 : decode cX1_behind 12 = .ok (.aload_n 2, 1) := dk_44 (dk_at dksX1_behind_0 12 rfl rfl)
theorem dX1_behind_13 : decode cX1_behind 13 = .ok (.invokevirtual 65, 3) := dk_182 0 65 (dk_at dksX1_behind_0 13 rfl rfl)
theorem dX1_behind_16 : decode cX1_behind 16 = .ok (.iconst 0, 1) := dk_3 (dk_at dksX1_behind_0 16 rfl rfl)
theorem dX1_behind_17 : decode cX1_behind 17 = .ok (.istore_n 3, 1) := dk_62 (dk_at dksX1_behind_0 17 rfl rfl)
theorem dX1_behind_18 : decode cX1_behind 18 = .ok (.iload_n 3, 1) := dk_29 (dk_at dksX1_behind_0 18 rfl rfl)
theorem dX1_behind_19 : decode cX1_behind 19 = .ok (.iload_n 1, 1) := dk_27 (dk_at dksX1_behind_0 19 rfl rfl)
theorem dX1_behind_20 : decode cX1_behind 20 = .ok (.if_icmp .ge 40, 3) := dk_162 0 40 (dk_at dksX1_behind_0 20 rfl rfl)
theorem dX1_behind_23 : decode cX1_behind 23 = .ok (.aload_n 2, 1) := dk_44 (dk_at dksX1_behind_0 23 rfl rfl)
theorem dX1_behind_24 : decode cX1_behind 24 = .ok (.aload_n 0, 1) := dk_42 (dk_at dksX1_behind_1 0 rfl rfl)
theorem dX1_behind_25 : decode cX1_behind 25 = .ok (.getfield 77, 3) := dk_180 0 77 (dk_at dksX1_behind_1 1 rfl rfl)
theorem dX1_behind_28 : decode cX1_behind 28 = .ok (.iload_n 3, 1) := dk_29 (dk_at dksX1_behind_1 4 rfl rfl)
theorem dX1_behind_29 : decode cX1_behind 29 = .ok (.iaload, 1) := dk_46 (dk_at dksX1_behind_1 5 rfl rfl)
theorem dX1_behind_30 : decode cX1_behind 30 = .ok (.invokestatic 248, 3) := dk_184 0 248 (dk_at dksX1_behind_1 6 rfl rfl)
theorem dX1_behind_33 : decode cX1_behind 33 = .ok (.aload_n 0, 1) := dk_42 (dk_at dksX1_behind_1 9 rfl rfl)
theorem dX1_behind_34 : decode cX1_behind 34 = .ok (.getfield 77, 3) := dk_180 0 77 (dk_at dksX1_behind_1 10 rfl rfl)
theorem dX1_behind_37 : decode cX1_behind 37 = .ok (.iload_n 3, 1) := dk_29 (dk_at dksX1_behind_1 13 rfl rfl)
theorem dX1_behind_38 : decode cX1_behind 38 = .ok (.iaload, 1) := dk_46 (dk_at dksX1_behind_1 14 rfl rfl)
theorem dX1_behind_39 : decode cX1_behind 39 = .ok (.invokestatic 251, 3) := dk_184 0 251 (dk_at dksX1_behind_1 15 rfl rfl)
theorem dX1_behind_42 : decode cX1_behind 42 = .ok (.aload_n 0, 1) := dk_42 (dk_at dksX1_behind_1 18 rfl rfl)
theorem dX1_behind_43 : decode cX1_behind 43 = .ok (.getfield 77, 3) := dk_180 0 77 (dk_at dksX1_behind_1 19 rfl rfl)
theorem dX1_behind_46 : decode cX1_behind 46 = .ok (.iload_n 3, 1) := dk_29 (dk_at dksX1_behind_1 22 rfl rfl)
theorem dX1_behind_47 : decode cX1_behind 47 = .ok (.iaload, 1) := dk_46 (dk_at dksX1_behind_1 23 rfl rfl)
theorem dX1_behind_48 : decode cX1_behind 48 = .ok (.invokestatic 241, 3) := dk_184 0 241 (dk_at dksX1_behind_2 0 rfl rfl)
theorem dX1_behind_51 : decode cX1_behind 51 = .ok (.invokevirtual 254, 3) := dk_182 0 254 (dk_at dksX1_behind_2 3 rfl rfl)
theorem dX1_behind_54 : decode cX1_behind 54 = .ok (.iinc 3 1, 3) := dk_132 3 1 (dk_at dksX1_behind_2 6 rfl rfl)
theorem dX1_behind_57 : decode cX1_behind 57 = .ok (.goto (-39), 3) := dk_167 255 217 (dk_at dksX1_behind_2 9 rfl rfl)
theorem dX1_behind_60 : decode cX1_behind 60 = .ok (.aload_n 2, 1) := dk_44 (dk_at dksX1_behind_2 12 rfl rfl)
theorem dX1_behind_61 : decode cX1_behind 61 = .ok (.areturn, 1) := dk_176 (dk_at dksX1_behind_2 13 rfl rfl)
abbrev cX1_rides : ByteArray := prog_1_method_28_code
def yX1_rides : MethodName := ⟨RX1, "rides", "(II)I"⟩
def dkwX1_rides_6 : List UInt8 := [167, 0, 4, 3, 54, 6, 21, 6, 153, 0, 6, 132, 3, 1, 132, 5, 1, 167, 255, 145, 29, 172]
abbrev dktX1_rides_6 : List UInt8 := dkwX1_rides_6 ++ []
def dkwX1_rides_5 : List UInt8 := [167, 0, 26, 25, 4, 180, 1, 6, 25, 4, 27, 182, 1, 5, 46, 4, 27, 120, 160, 0, 7, 4]
abbrev dktX1_rides_5 : List UInt8 := dkwX1_rides_5 ++ dktX1_rides_6
def dkwX1_rides_4 : List UInt8 := [180, 0, 77, 21, 5, 46, 184, 0, 241, 27, 122, 4, 126, 4, 160, 0, 7, 4, 167, 0, 30, 3]
abbrev dktX1_rides_4 : List UInt8 := dkwX1_rides_4 ++ dktX1_rides_5
def dkwX1_rides_3 : List UInt8 := [21, 5, 46, 184, 0, 251, 42, 180, 0, 77, 21, 5, 46, 184, 0, 241, 182, 0, 254, 28, 154, 0, 29, 42]
abbrev dktX1_rides_3 : List UInt8 := dkwX1_rides_3 ++ dktX1_rides_4
def dkwX1_rides_2 : List UInt8 := [180, 0, 77, 190, 162, 0, 107, 25, 4, 42, 180, 0, 77, 21, 5, 46, 184, 0, 248, 42, 180, 0, 77]
abbrev dktX1_rides_2 : List UInt8 := dkwX1_rides_2 ++ dktX1_rides_3
def dkwX1_rides_1 : List UInt8 := [167, 0, 4, 3, 184, 0, 141, 3, 62, 42, 3, 182, 1, 1, 58, 4, 3, 54, 5, 21, 5, 42]
abbrev dktX1_rides_1 : List UInt8 := dkwX1_rides_1 ++ dktX1_rides_2
def dkwX1_rides_0 : List UInt8 := [42, 27, 182, 0, 144, 42, 180, 0, 77, 198, 0, 16, 28, 153, 0, 8, 28, 4, 160, 0, 7, 4]
abbrev dktX1_rides_0 : List UInt8 := dkwX1_rides_0 ++ dktX1_rides_1
theorem dksX1_rides_0 : cX1_rides.data.toList.drop 0 = dktX1_rides_0 := by decide +kernel
theorem dksX1_rides_1 : cX1_rides.data.toList.drop 22 = dktX1_rides_1 := dk_seg dksX1_rides_0 22 rfl rfl
theorem dksX1_rides_2 : cX1_rides.data.toList.drop 44 = dktX1_rides_2 := dk_seg dksX1_rides_1 22 rfl rfl
theorem dksX1_rides_3 : cX1_rides.data.toList.drop 67 = dktX1_rides_3 := dk_seg dksX1_rides_2 23 rfl rfl
theorem dksX1_rides_4 : cX1_rides.data.toList.drop 91 = dktX1_rides_4 := dk_seg dksX1_rides_3 24 rfl rfl
theorem dksX1_rides_5 : cX1_rides.data.toList.drop 113 = dktX1_rides_5 := dk_seg dksX1_rides_4 22 rfl rfl
theorem dksX1_rides_6 : cX1_rides.data.toList.drop 135 = dktX1_rides_6 := dk_seg dksX1_rides_5 22 rfl rfl
theorem dX1_rides_0 : decode cX1_rides 0 = .ok (.aload_n 0, 1) := dk_42 (dk_at dksX1_rides_0 0 rfl rfl)
theorem dX1_rides_1 : decode cX1_rides 1 = .ok (.iload_n 1, 1) := dk_27 (dk_at dksX1_rides_0 1 rfl rfl)
theorem dX1_rides_2 : decode cX1_rides 2 = .ok (.invokevirtual 144, 3) := dk_182 0 144 (dk_at dksX1_rides_0 2 rfl rfl)
theorem dX1_rides_5 : decode cX1_rides 5 = .ok (.aload_n 0, 1) := dk_42 (dk_at dksX1_rides_0 5 rfl rfl)
theorem dX1_rides_6 : decode cX1_rides 6 = .ok (.getfield 77, 3) := dk_180 0 77 (dk_at dksX1_rides_0 6 rfl rfl)
theorem dX1_rides_9 : decode cX1_rides 9 = .ok (.ifnull 16, 3) := dk_198 0 16 (dk_at dksX1_rides_0 9 rfl rfl)
theorem dX1_rides_12 : decode cX1_rides 12 = .ok (.iload_n 2, 1) := dk_28 (dk_at dksX1_rides_0 12 rfl rfl)
theorem dX1_rides_13 : decode cX1_rides 13 = .ok (.ifCond .eq 8, 3) := dk_153 0 8 (dk_at dksX1_rides_0 13 rfl rfl)
theorem dX1_rides_16 : decode cX1_rides 16 = .ok (.iload_n 2, 1) := dk_28 (dk_at dksX1_rides_0 16 rfl rfl)
theorem dX1_rides_17 : decode cX1_rides 17 = .ok (.iconst 1, 1) := dk_4 (dk_at dksX1_rides_0 17 rfl rfl)
theorem dX1_rides_18 : decode cX1_rides 18 = .ok (.if_icmp .ne 7, 3) := dk_160 0 7 (dk_at dksX1_rides_0 18 rfl rfl)
theorem dX1_rides_21 : decode cX1_rides 21 = .ok (.iconst 1, 1) := dk_4 (dk_at dksX1_rides_0 21 rfl rfl)
theorem dX1_rides_22 : decode cX1_rides 22 = .ok (.goto 4, 3) := dk_167 0 4 (dk_at dksX1_rides_1 0 rfl rfl)
theorem dX1_rides_25 : decode cX1_rides 25 = .ok (.iconst 0, 1) := dk_3 (dk_at dksX1_rides_1 3 rfl rfl)
theorem dX1_rides_26 : decode cX1_rides 26 = .ok (.invokestatic 141, 3) := dk_184 0 141 (dk_at dksX1_rides_1 4 rfl rfl)
theorem dX1_rides_29 : decode cX1_rides 29 = .ok (.iconst 0, 1) := dk_3 (dk_at dksX1_rides_1 7 rfl rfl)
theorem dX1_rides_30 : decode cX1_rides 30 = .ok (.istore_n 3, 1) := dk_62 (dk_at dksX1_rides_1 8 rfl rfl)
theorem dX1_rides_31 : decode cX1_rides 31 = .ok (.aload_n 0, 1) := dk_42 (dk_at dksX1_rides_1 9 rfl rfl)
theorem dX1_rides_32 : decode cX1_rides 32 = .ok (.iconst 0, 1) := dk_3 (dk_at dksX1_rides_1 10 rfl rfl)
theorem dX1_rides_33 : decode cX1_rides 33 = .ok (.invokevirtual 257, 3) := dk_182 1 1 (dk_at dksX1_rides_1 11 rfl rfl)
theorem dX1_rides_36 : decode cX1_rides 36 = .ok (.astore 4, 2) := dk_58 4 (dk_at dksX1_rides_1 14 rfl rfl)
theorem dX1_rides_38 : decode cX1_rides 38 = .ok (.iconst 0, 1) := dk_3 (dk_at dksX1_rides_1 16 rfl rfl)
theorem dX1_rides_39 : decode cX1_rides 39 = .ok (.istore 5, 2) := dk_54 5 (dk_at dksX1_rides_1 17 rfl rfl)
theorem dX1_rides_41 : decode cX1_rides 41 = .ok (.iload 5, 2) := dk_21 5 (dk_at dksX1_rides_1 19 rfl rfl)
theorem dX1_rides_43 : decode cX1_rides 43 = .ok (.aload_n 0, 1) := dk_42 (dk_at dksX1_rides_1 21 rfl rfl)
theorem dX1_rides_44 : decode cX1_rides 44 = .ok (.getfield 77, 3) := dk_180 0 77 (dk_at dksX1_rides_2 0 rfl rfl)
theorem dX1_rides_47 : decode cX1_rides 47 = .ok (.arraylength, 1) := dk_190 (dk_at dksX1_rides_2 3 rfl rfl)
theorem dX1_rides_48 : decode cX1_rides 48 = .ok (.if_icmp .ge 107, 3) := dk_162 0 107 (dk_at dksX1_rides_2 4 rfl rfl)
theorem dX1_rides_51 : decode cX1_rides 51 = .ok (.aload 4, 2) := dk_25 4 (dk_at dksX1_rides_2 7 rfl rfl)
theorem dX1_rides_53 : decode cX1_rides 53 = .ok (.aload_n 0, 1) := dk_42 (dk_at dksX1_rides_2 9 rfl rfl)
theorem dX1_rides_54 : decode cX1_rides 54 = .ok (.getfield 77, 3) := dk_180 0 77 (dk_at dksX1_rides_2 10 rfl rfl)
theorem dX1_rides_57 : decode cX1_rides 57 = .ok (.iload 5, 2) := dk_21 5 (dk_at dksX1_rides_2 13 rfl rfl)
theorem dX1_rides_59 : decode cX1_rides 59 = .ok (.iaload, 1) := dk_46 (dk_at dksX1_rides_2 15 rfl rfl)
theorem dX1_rides_60 : decode cX1_rides 60 = .ok (.invokestatic 248, 3) := dk_184 0 248 (dk_at dksX1_rides_2 16 rfl rfl)
theorem dX1_rides_63 : decode cX1_rides 63 = .ok (.aload_n 0, 1) := dk_42 (dk_at dksX1_rides_2 19 rfl rfl)
theorem dX1_rides_64 : decode cX1_rides 64 = .ok (.getfield 77, 3) := dk_180 0 77 (dk_at dksX1_rides_2 20 rfl rfl)
theorem dX1_rides_67 : decode cX1_rides 67 = .ok (.iload 5, 2) := dk_21 5 (dk_at dksX1_rides_3 0 rfl rfl)
theorem dX1_rides_69 : decode cX1_rides 69 = .ok (.iaload, 1) := dk_46 (dk_at dksX1_rides_3 2 rfl rfl)
theorem dX1_rides_70 : decode cX1_rides 70 = .ok (.invokestatic 251, 3) := dk_184 0 251 (dk_at dksX1_rides_3 3 rfl rfl)
theorem dX1_rides_73 : decode cX1_rides 73 = .ok (.aload_n 0, 1) := dk_42 (dk_at dksX1_rides_3 6 rfl rfl)
theorem dX1_rides_74 : decode cX1_rides 74 = .ok (.getfield 77, 3) := dk_180 0 77 (dk_at dksX1_rides_3 7 rfl rfl)
theorem dX1_rides_77 : decode cX1_rides 77 = .ok (.iload 5, 2) := dk_21 5 (dk_at dksX1_rides_3 10 rfl rfl)
theorem dX1_rides_79 : decode cX1_rides 79 = .ok (.iaload, 1) := dk_46 (dk_at dksX1_rides_3 12 rfl rfl)
theorem dX1_rides_80 : decode cX1_rides 80 = .ok (.invokestatic 241, 3) := dk_184 0 241 (dk_at dksX1_rides_3 13 rfl rfl)
theorem dX1_rides_83 : decode cX1_rides 83 = .ok (.invokevirtual 254, 3) := dk_182 0 254 (dk_at dksX1_rides_3 16 rfl rfl)
theorem dX1_rides_86 : decode cX1_rides 86 = .ok (.iload_n 2, 1) := dk_28 (dk_at dksX1_rides_3 19 rfl rfl)
theorem dX1_rides_87 : decode cX1_rides 87 = .ok (.ifCond .ne 29, 3) := dk_154 0 29 (dk_at dksX1_rides_3 20 rfl rfl)
theorem dX1_rides_90 : decode cX1_rides 90 = .ok (.aload_n 0, 1) := dk_42 (dk_at dksX1_rides_3 23 rfl rfl)
theorem dX1_rides_91 : decode cX1_rides 91 = .ok (.getfield 77, 3) := dk_180 0 77 (dk_at dksX1_rides_4 0 rfl rfl)
theorem dX1_rides_94 : decode cX1_rides 94 = .ok (.iload 5, 2) := dk_21 5 (dk_at dksX1_rides_4 3 rfl rfl)
theorem dX1_rides_96 : decode cX1_rides 96 = .ok (.iaload, 1) := dk_46 (dk_at dksX1_rides_4 5 rfl rfl)
theorem dX1_rides_97 : decode cX1_rides 97 = .ok (.invokestatic 241, 3) := dk_184 0 241 (dk_at dksX1_rides_4 6 rfl rfl)
theorem dX1_rides_100 : decode cX1_rides 100 = .ok (.iload_n 1, 1) := dk_27 (dk_at dksX1_rides_4 9 rfl rfl)
theorem dX1_rides_101 : decode cX1_rides 101 = .ok (.ishr, 1) := dk_122 (dk_at dksX1_rides_4 10 rfl rfl)
theorem dX1_rides_102 : decode cX1_rides 102 = .ok (.iconst 1, 1) := dk_4 (dk_at dksX1_rides_4 11 rfl rfl)
theorem dX1_rides_103 : decode cX1_rides 103 = .ok (.iand, 1) := dk_126 (dk_at dksX1_rides_4 12 rfl rfl)
theorem dX1_rides_104 : decode cX1_rides 104 = .ok (.iconst 1, 1) := dk_4 (dk_at dksX1_rides_4 13 rfl rfl)
theorem dX1_rides_105 : decode cX1_rides 105 = .ok (.if_icmp .ne 7, 3) := dk_160 0 7 (dk_at dksX1_rides_4 14 rfl rfl)
theorem dX1_rides_108 : decode cX1_rides 108 = .ok (.iconst 1, 1) := dk_4 (dk_at dksX1_rides_4 17 rfl rfl)
theorem dX1_rides_109 : decode cX1_rides 109 = .ok (.goto 30, 3) := dk_167 0 30 (dk_at dksX1_rides_4 18 rfl rfl)
theorem dX1_rides_112 : decode cX1_rides 112 = .ok (.iconst 0, 1) := dk_3 (dk_at dksX1_rides_4 21 rfl rfl)
theorem dX1_rides_113 : decode cX1_rides 113 = .ok (.goto 26, 3) := dk_167 0 26 (dk_at dksX1_rides_5 0 rfl rfl)
theorem dX1_rides_116 : decode cX1_rides 116 = .ok (.aload 4, 2) := dk_25 4 (dk_at dksX1_rides_5 3 rfl rfl)
theorem dX1_rides_118 : decode cX1_rides 118 = .ok (.getfield 262, 3) := dk_180 1 6 (dk_at dksX1_rides_5 5 rfl rfl)
theorem dX1_rides_121 : decode cX1_rides 121 = .ok (.aload 4, 2) := dk_25 4 (dk_at dksX1_rides_5 8 rfl rfl)
theorem dX1_rides_123 : decode cX1_rides 123 = .ok (.iload_n 1, 1) := dk_27 (dk_at dksX1_rides_5 10 rfl rfl)
theorem dX1_rides_124 : decode cX1_rides 124 = .ok (.invokevirtual 261, 3) := dk_182 1 5 (dk_at dksX1_rides_5 11 rfl rfl)
theorem dX1_rides_127 : decode cX1_rides 127 = .ok (.iaload, 1) := dk_46 (dk_at dksX1_rides_5 14 rfl rfl)
theorem dX1_rides_128 : decode cX1_rides 128 = .ok (.iconst 1, 1) := dk_4 (dk_at dksX1_rides_5 15 rfl rfl)
theorem dX1_rides_129 : decode cX1_rides 129 = .ok (.iload_n 1, 1) := dk_27 (dk_at dksX1_rides_5 16 rfl rfl)
theorem dX1_rides_130 : decode cX1_rides 130 = .ok (.ishl, 1) := dk_120 (dk_at dksX1_rides_5 17 rfl rfl)
theorem dX1_rides_131 : decode cX1_rides 131 = .ok (.if_icmp .ne 7, 3) := dk_160 0 7 (dk_at dksX1_rides_5 18 rfl rfl)
theorem dX1_rides_134 : decode cX1_rides 134 = .ok (.iconst 1, 1) := dk_4 (dk_at dksX1_rides_5 21 rfl rfl)
theorem dX1_rides_135 : decode cX1_rides 135 = .ok (.goto 4, 3) := dk_167 0 4 (dk_at dksX1_rides_6 0 rfl rfl)
theorem dX1_rides_138 : decode cX1_rides 138 = .ok (.iconst 0, 1) := dk_3 (dk_at dksX1_rides_6 3 rfl rfl)
theorem dX1_rides_139 : decode cX1_rides 139 = .ok (.istore 6, 2) := dk_54 6 (dk_at dksX1_rides_6 4 rfl rfl)
theorem dX1_rides_141 : decode cX1_rides 141 = .ok (.iload 6, 2) := dk_21 6 (dk_at dksX1_rides_6 6 rfl rfl)
theorem dX1_rides_143 : decode cX1_rides 143 = .ok (.ifCond .eq 6, 3) := dk_153 0 6 (dk_at dksX1_rides_6 8 rfl rfl)
theorem dX1_rides_146 : decode cX1_rides 146 = .ok (.iinc 3 1, 3) := dk_132 3 1 (dk_at dksX1_rides_6 11 rfl rfl)
theorem dX1_rides_149 : decode cX1_rides 149 = .ok (.iinc 5 1, 3) := dk_132 5 1 (dk_at dksX1_rides_6 14 rfl rfl)
theorem dX1_rides_152 : decode cX1_rides 152 = .ok (.goto (-111), 3) := dk_167 255 145 (dk_at dksX1_rides_6 17 rfl rfl)
theorem dX1_rides_155 : decode cX1_rides 155 = .ok (.iload_n 3, 1) := dk_29 (dk_at dksX1_rides_6 20 rfl rfl)
theorem dX1_rides_156 : decode cX1_rides 156 = .ok (.ireturn, 1) := dk_172 (dk_at dksX1_rides_6 21 rfl rfl)
abbrev cX1_laws : ByteArray := prog_1_method_30_code
def yX1_laws : MethodName := ⟨RX1, "laws", "(I)I"⟩
def dkwX1_laws_2 : List UInt8 := [167, 0, 7, 42, 180, 1, 15, 172]
abbrev dktX1_laws_2 : List UInt8 := dkwX1_laws_2 ++ []
def dkwX1_laws_1 : List UInt8 := [42, 182, 1, 18, 42, 180, 1, 9, 153, 0, 7, 2, 167, 0, 18, 27, 154, 0, 10, 42, 180, 1, 12]
abbrev dktX1_laws_1 : List UInt8 := dkwX1_laws_1 ++ dktX1_laws_2
def dkwX1_laws_0 : List UInt8 := [27, 153, 0, 8, 27, 4, 160, 0, 7, 4, 167, 0, 4, 3, 184, 0, 141, 42, 180, 0, 81, 154, 0, 7]
abbrev dktX1_laws_0 : List UInt8 := dkwX1_laws_0 ++ dktX1_laws_1
theorem dksX1_laws_0 : cX1_laws.data.toList.drop 0 = dktX1_laws_0 := by decide +kernel
theorem dksX1_laws_1 : cX1_laws.data.toList.drop 24 = dktX1_laws_1 := dk_seg dksX1_laws_0 24 rfl rfl
theorem dksX1_laws_2 : cX1_laws.data.toList.drop 47 = dktX1_laws_2 := dk_seg dksX1_laws_1 23 rfl rfl
theorem dX1_laws_0 : decode cX1_laws 0 = .ok (.iload_n 1, 1) := dk_27 (dk_at dksX1_laws_0 0 rfl rfl)
theorem dX1_laws_1 : decode cX1_laws 1 = .ok (.ifCond .eq 8, 3) := dk_153 0 8 (dk_at dksX1_laws_0 1 rfl rfl)
theorem dX1_laws_4 : decode cX1_laws 4 = .ok (.iload_n 1, 1) := dk_27 (dk_at dksX1_laws_0 4 rfl rfl)
theorem dX1_laws_5 : decode cX1_laws 5 = .ok (.iconst 1, 1) := dk_4 (dk_at dksX1_laws_0 5 rfl rfl)
theorem dX1_laws_6 : decode cX1_laws 6 = .ok (.if_icmp .ne 7, 3) := dk_160 0 7 (dk_at dksX1_laws_0 6 rfl rfl)
theorem dX1_laws_9 : decode cX1_laws 9 = .ok (.iconst 1, 1) := dk_4 (dk_at dksX1_laws_0 9 rfl rfl)
theorem dX1_laws_10 : decode cX1_laws 10 = .ok (.goto 4, 3) := dk_167 0 4 (dk_at dksX1_laws_0 10 rfl rfl)
theorem dX1_laws_13 : decode cX1_laws 13 = .ok (.iconst 0, 1) := dk_3 (dk_at dksX1_laws_0 13 rfl rfl)
theorem dX1_laws_14 : decode cX1_laws 14 = .ok (.invokestatic 141, 3) := dk_184 0 141 (dk_at dksX1_laws_0 14 rfl rfl)
theorem dX1_laws_17 : decode cX1_laws 17 = .ok (.aload_n 0, 1) := dk_42 (dk_at dksX1_laws_0 17 rfl rfl)
theorem dX1_laws_18 : decode cX1_laws 18 = .ok (.getfield 81, 3) := dk_180 0 81 (dk_at dksX1_laws_0 18 rfl rfl)
theorem dX1_laws_21 : decode cX1_laws 21 = .ok (.ifCond .ne 7, 3) := dk_154 0 7 (dk_at dksX1_laws_0 21 rfl rfl)
theorem dX1_laws_24 : decode cX1_laws 24 = .ok (.aload_n 0, 1) := dk_42 (dk_at dksX1_laws_1 0 rfl rfl)
theorem dX1_laws_25 : decode cX1_laws 25 = .ok (.invokevirtual 274, 3) := dk_182 1 18 (dk_at dksX1_laws_1 1 rfl rfl)
theorem dX1_laws_28 : decode cX1_laws 28 = .ok (.aload_n 0, 1) := dk_42 (dk_at dksX1_laws_1 4 rfl rfl)
theorem dX1_laws_29 : decode cX1_laws 29 = .ok (.getfield 265, 3) := dk_180 1 9 (dk_at dksX1_laws_1 5 rfl rfl)
theorem dX1_laws_32 : decode cX1_laws 32 = .ok (.ifCond .eq 7, 3) := dk_153 0 7 (dk_at dksX1_laws_1 8 rfl rfl)
theorem dX1_laws_35 : decode cX1_laws 35 = .ok (.iconst (-1), 1) := dk_2 (dk_at dksX1_laws_1 11 rfl rfl)
theorem dX1_laws_36 : decode cX1_laws 36 = .ok (.goto 18, 3) := dk_167 0 18 (dk_at dksX1_laws_1 12 rfl rfl)
theorem dX1_laws_39 : decode cX1_laws 39 = .ok (.iload_n 1, 1) := dk_27 (dk_at dksX1_laws_1 15 rfl rfl)
theorem dX1_laws_40 : decode cX1_laws 40 = .ok (.ifCond .ne 10, 3) := dk_154 0 10 (dk_at dksX1_laws_1 16 rfl rfl)
theorem dX1_laws_43 : decode cX1_laws 43 = .ok (.aload_n 0, 1) := dk_42 (dk_at dksX1_laws_1 19 rfl rfl)
theorem dX1_laws_44 : decode cX1_laws 44 = .ok (.getfield 268, 3) := dk_180 1 12 (dk_at dksX1_laws_1 20 rfl rfl)
theorem dX1_laws_47 : decode cX1_laws 47 = .ok (.goto 7, 3) := dk_167 0 7 (dk_at dksX1_laws_2 0 rfl rfl)
theorem dX1_laws_50 : decode cX1_laws 50 = .ok (.aload_n 0, 1) := dk_42 (dk_at dksX1_laws_2 3 rfl rfl)
theorem dX1_laws_51 : decode cX1_laws 51 = .ok (.getfield 271, 3) := dk_180 1 15 (dk_at dksX1_laws_2 4 rfl rfl)
theorem dX1_laws_54 : decode cX1_laws 54 = .ok (.ireturn, 1) := dk_172 (dk_at dksX1_laws_2 7 rfl rfl)
abbrev cX1_tellLaws : ByteArray := prog_1_method_29_code
def yX1_tellLaws : MethodName := ⟨RX1, "tellLaws", "()V"⟩
def dkwX1_tellLaws_6 : List UInt8 := [180, 1, 15, 4, 27, 120, 128, 181, 1, 15, 132, 1, 1, 167, 255, 135, 177]
abbrev dktX1_tellLaws_6 : List UInt8 := dkwX1_tellLaws_6 ++ []
def dkwX1_tellLaws_5 : List UInt8 := [180, 1, 12, 4, 27, 120, 128, 181, 1, 12, 28, 2, 160, 0, 20, 29, 2, 159, 0, 15, 42, 89]
abbrev dktX1_tellLaws_5 : List UInt8 := dkwX1_tellLaws_5 ++ dktX1_tellLaws_6
def dkwX1_tellLaws_4 : List UInt8 := [182, 0, 204, 3, 46, 61, 42, 180, 0, 37, 182, 0, 204, 3, 46, 62, 28, 29, 160, 0, 15, 42, 89]
abbrev dktX1_tellLaws_4 : List UInt8 := dkwX1_tellLaws_4 ++ dktX1_tellLaws_5
def dkwX1_tellLaws_3 : List UInt8 := [154, 0, 7, 4, 167, 0, 4, 3, 181, 1, 9, 42, 180, 1, 9, 153, 0, 4, 177, 42, 180, 0, 33]
abbrev dktX1_tellLaws_3 : List UInt8 := dkwX1_tellLaws_3 ++ dktX1_tellLaws_4
def dkwX1_tellLaws_2 : List UInt8 := [180, 1, 9, 154, 0, 104, 42, 42, 180, 0, 37, 42, 180, 0, 18, 2, 2, 4, 27, 120, 182, 0, 90]
abbrev dktX1_tellLaws_2 : List UInt8 := dkwX1_tellLaws_2 ++ dktX1_tellLaws_3
def dkwX1_tellLaws_1 : List UInt8 := [181, 1, 15, 3, 60, 27, 42, 180, 0, 18, 180, 0, 131, 185, 0, 127, 1, 0, 162, 0, 111, 42]
abbrev dktX1_tellLaws_1 : List UInt8 := dkwX1_tellLaws_1 ++ dktX1_tellLaws_2
def dkwX1_tellLaws_0 : List UInt8 := [42, 4, 181, 0, 81, 42, 42, 182, 0, 183, 180, 0, 186, 181, 1, 9, 42, 3, 181, 1, 12, 42, 3]
abbrev dktX1_tellLaws_0 : List UInt8 := dkwX1_tellLaws_0 ++ dktX1_tellLaws_1
theorem dksX1_tellLaws_0 : cX1_tellLaws.data.toList.drop 0 = dktX1_tellLaws_0 := by decide +kernel
theorem dksX1_tellLaws_1 : cX1_tellLaws.data.toList.drop 23 = dktX1_tellLaws_1 := dk_seg dksX1_tellLaws_0 23 rfl rfl
theorem dksX1_tellLaws_2 : cX1_tellLaws.data.toList.drop 45 = dktX1_tellLaws_2 := dk_seg dksX1_tellLaws_1 22 rfl rfl
theorem dksX1_tellLaws_3 : cX1_tellLaws.data.toList.drop 68 = dktX1_tellLaws_3 := dk_seg dksX1_tellLaws_2 23 rfl rfl
theorem dksX1_tellLaws_4 : cX1_tellLaws.data.toList.drop 91 = dktX1_tellLaws_4 := dk_seg dksX1_tellLaws_3 23 rfl rfl
theorem dksX1_tellLaws_5 : cX1_tellLaws.data.toList.drop 114 = dktX1_tellLaws_5 := dk_seg dksX1_tellLaws_4 23 rfl rfl
theorem dksX1_tellLaws_6 : cX1_tellLaws.data.toList.drop 136 = dktX1_tellLaws_6 := dk_seg dksX1_tellLaws_5 22 rfl rfl
theorem dX1_tellLaws_0 : decode cX1_tellLaws 0 = .ok (.aload_n 0, 1) := dk_42 (dk_at dksX1_tellLaws_0 0 rfl rfl)
theorem dX1_tellLaws_1 : decode cX1_tellLaws 1 = .ok (.iconst 1, 1) := dk_4 (dk_at dksX1_tellLaws_0 1 rfl rfl)
theorem dX1_tellLaws_2 : decode cX1_tellLaws 2 = .ok (.putfield 81, 3) := dk_181 0 81 (dk_at dksX1_tellLaws_0 2 rfl rfl)
theorem dX1_tellLaws_5 : decode cX1_tellLaws 5 = .ok (.aload_n 0, 1) := dk_42 (dk_at dksX1_tellLaws_0 5 rfl rfl)
theorem dX1_tellLaws_6 : decode cX1_tellLaws 6 = .ok (.aload_n 0, 1) := dk_42 (dk_at dksX1_tellLaws_0 6 rfl rfl)
theorem dX1_tellLaws_7 : decode cX1_tellLaws 7 = .ok (.invokevirtual 183, 3) := dk_182 0 183 (dk_at dksX1_tellLaws_0 7 rfl rfl)
theorem dX1_tellLaws_10 : decode cX1_tellLaws 10 = .ok (.getfield 186, 3) := dk_180 0 186 (dk_at dksX1_tellLaws_0 10 rfl rfl)
theorem dX1_tellLaws_13 : decode cX1_tellLaws 13 = .ok (.putfield 265, 3) := dk_181 1 9 (dk_at dksX1_tellLaws_0 13 rfl rfl)
theorem dX1_tellLaws_16 : decode cX1_tellLaws 16 = .ok (.aload_n 0, 1) := dk_42 (dk_at dksX1_tellLaws_0 16 rfl rfl)
theorem dX1_tellLaws_17 : decode cX1_tellLaws 17 = .ok (.iconst 0, 1) := dk_3 (dk_at dksX1_tellLaws_0 17 rfl rfl)
theorem dX1_tellLaws_18 : decode cX1_tellLaws 18 = .ok (.putfield 268, 3) := dk_181 1 12 (dk_at dksX1_tellLaws_0 18 rfl rfl)
theorem dX1_tellLaws_21 : decode cX1_tellLaws 21 = .ok (.aload_n 0, 1) := dk_42 (dk_at dksX1_tellLaws_0 21 rfl rfl)
theorem dX1_tellLaws_22 : decode cX1_tellLaws 22 = .ok (.iconst 0, 1) := dk_3 (dk_at dksX1_tellLaws_0 22 rfl rfl)
theorem dX1_tellLaws_23 : decode cX1_tellLaws 23 = .ok (.putfield 271, 3) := dk_181 1 15 (dk_at dksX1_tellLaws_1 0 rfl rfl)
theorem dX1_tellLaws_26 : decode cX1_tellLaws 26 = .ok (.iconst 0, 1) := dk_3 (dk_at dksX1_tellLaws_1 3 rfl rfl)
theorem dX1_tellLaws_27 : decode cX1_tellLaws 27 = .ok (.istore_n 1, 1) := dk_60 (dk_at dksX1_tellLaws_1 4 rfl rfl)
theorem dX1_tellLaws_28 : decode cX1_tellLaws 28 = .ok (.iload_n 1, 1) := dk_27 (dk_at dksX1_tellLaws_1 5 rfl rfl)
theorem dX1_tellLaws_29 : decode cX1_tellLaws 29 = .ok (.aload_n 0, 1) := dk_42 (dk_at dksX1_tellLaws_1 6 rfl rfl)
theorem dX1_tellLaws_30 : decode cX1_tellLaws 30 = .ok (.getfield 18, 3) := dk_180 0 18 (dk_at dksX1_tellLaws_1 7 rfl rfl)
theorem dX1_tellLaws_33 : decode cX1_tellLaws 33 = .ok (.getfield 131, 3) := dk_180 0 131 (dk_at dksX1_tellLaws_1 10 rfl rfl)
theorem dX1_tellLaws_36 : decode cX1_tellLaws 36 = .ok (.invokeinterface 127 1, 5) := by decide +kernel
theorem dX1_tellLaws_41 : decode cX1_tellLaws 41 = .ok (.if_icmp .ge 111, 3) := dk_162 0 111 (dk_at dksX1_tellLaws_1 18 rfl rfl)
theorem dX1_tellLaws_44 : decode cX1_tellLaws 44 = .ok (.aload_n 0, 1) := dk_42 (dk_at dksX1_tellLaws_1 21 rfl rfl)
theorem dX1_tellLaws_45 : decode cX1_tellLaws 45 = .ok (.getfield 265, 3) := dk_180 1 9 (dk_at dksX1_tellLaws_2 0 rfl rfl)
theorem dX1_tellLaws_48 : decode cX1_tellLaws 48 = .ok (.ifCond .ne 104, 3) := dk_154 0 104 (dk_at dksX1_tellLaws_2 3 rfl rfl)
theorem dX1_tellLaws_51 : decode cX1_tellLaws 51 = .ok (.aload_n 0, 1) := dk_42 (dk_at dksX1_tellLaws_2 6 rfl rfl)
theorem dX1_tellLaws_52 : decode cX1_tellLaws 52 = .ok (.aload_n 0, 1) := dk_42 (dk_at dksX1_tellLaws_2 7 rfl rfl)
theorem dX1_tellLaws_53 : decode cX1_tellLaws 53 = .ok (.getfield 37, 3) := dk_180 0 37 (dk_at dksX1_tellLaws_2 8 rfl rfl)
theorem dX1_tellLaws_56 : decode cX1_tellLaws 56 = .ok (.aload_n 0, 1) := dk_42 (dk_at dksX1_tellLaws_2 11 rfl rfl)
theorem dX1_tellLaws_57 : decode cX1_tellLaws 57 = .ok (.getfield 18, 3) := dk_180 0 18 (dk_at dksX1_tellLaws_2 12 rfl rfl)
theorem dX1_tellLaws_60 : decode cX1_tellLaws 60 = .ok (.iconst (-1), 1) := dk_2 (dk_at dksX1_tellLaws_2 15 rfl rfl)
theorem dX1_tellLaws_61 : decode cX1_tellLaws 61 = .ok (.iconst (-1), 1) := dk_2 (dk_at dksX1_tellLaws_2 16 rfl rfl)
theorem dX1_tellLaws_62 : decode cX1_tellLaws 62 = .ok (.iconst 1, 1) := dk_4 (dk_at dksX1_tellLaws_2 17 rfl rfl)
theorem dX1_tellLaws_63 : decode cX1_tellLaws 63 = .ok (.iload_n 1, 1) := dk_27 (dk_at dksX1_tellLaws_2 18 rfl rfl)
theorem dX1_tellLaws_64 : decode cX1_tellLaws 64 = .ok (.ishl, 1) := dk_120 (dk_at dksX1_tellLaws_2 19 rfl rfl)
theorem dX1_tellLaws_65 : decode cX1_tellLaws 65 = .ok (.invokevirtual 90, 3) := dk_182 0 90 (dk_at dksX1_tellLaws_2 20 rfl rfl)
theorem dX1_tellLaws_68 : decode cX1_tellLaws 68 = .ok (.ifCond .ne 7, 3) := dk_154 0 7 (dk_at dksX1_tellLaws_3 0 rfl rfl)
theorem dX1_tellLaws_71 : decode cX1_tellLaws 71 = .ok (.iconst 1, 1) := dk_4 (dk_at dksX1_tellLaws_3 3 rfl rfl)
theorem dX1_tellLaws_72 : decode cX1_tellLaws 72 = .ok (.goto 4, 3) := dk_167 0 4 (dk_at dksX1_tellLaws_3 4 rfl rfl)
theorem dX1_tellLaws_75 : decode cX1_tellLaws 75 = .ok (.iconst 0, 1) := dk_3 (dk_at dksX1_tellLaws_3 7 rfl rfl)
theorem dX1_tellLaws_76 : decode cX1_tellLaws 76 = .ok (.putfield 265, 3) := dk_181 1 9 (dk_at dksX1_tellLaws_3 8 rfl rfl)
theorem dX1_tellLaws_79 : decode cX1_tellLaws 79 = .ok (.aload_n 0, 1) := dk_42 (dk_at dksX1_tellLaws_3 11 rfl rfl)
theorem dX1_tellLaws_80 : decode cX1_tellLaws 80 = .ok (.getfield 265, 3) := dk_180 1 9 (dk_at dksX1_tellLaws_3 12 rfl rfl)
theorem dX1_tellLaws_83 : decode cX1_tellLaws 83 = .ok (.ifCond .eq 4, 3) := dk_153 0 4 (dk_at dksX1_tellLaws_3 15 rfl rfl)
theorem dX1_tellLaws_86 : decode cX1_tellLaws 86 = .ok (.return_, 1) := dk_177 (dk_at dksX1_tellLaws_3 18 rfl rfl)
theorem dX1_tellLaws_87 : decode cX1_tellLaws 87 = .ok (.aload_n 0, 1) := dk_42 (dk_at dksX1_tellLaws_3 19 rfl rfl)
theorem dX1_tellLaws_88 : decode cX1_tellLaws 88 = .ok (.getfield 33, 3) := dk_180 0 33 (dk_at dksX1_tellLaws_3 20 rfl rfl)
theorem dX1_tellLaws_91 : decode cX1_tellLaws 91 = .ok (.invokevirtual 204, 3) := dk_182 0 204 (dk_at dksX1_tellLaws_4 0 rfl rfl)
theorem dX1_tellLaws_94 : decode cX1_tellLaws 94 = .ok (.iconst 0, 1) := dk_3 (dk_at dksX1_tellLaws_4 3 rfl rfl)
theorem dX1_tellLaws_95 : decode cX1_tellLaws 95 = .ok (.iaload, 1) := dk_46 (dk_at dksX1_tellLaws_4 4 rfl rfl)
theorem dX1_tellLaws_96 : decode cX1_tellLaws 96 = .ok (.istore_n 2, 1) := dk_61 (dk_at dksX1_tellLaws_4 5 rfl rfl)
theorem dX1_tellLaws_97 : decode cX1_tellLaws 97 = .ok (.aload_n 0, 1) := dk_42 (dk_at dksX1_tellLaws_4 6 rfl rfl)
theorem dX1_tellLaws_98 : decode cX1_tellLaws 98 = .ok (.getfield 37, 3) := dk_180 0 37 (dk_at dksX1_tellLaws_4 7 rfl rfl)
theorem dX1_tellLaws_101 : decode cX1_tellLaws 101 = .ok (.invokevirtual 204, 3) := dk_182 0 204 (dk_at dksX1_tellLaws_4 10 rfl rfl)
theorem dX1_tellLaws_104 : decode cX1_tellLaws 104 = .ok (.iconst 0, 1) := dk_3 (dk_at dksX1_tellLaws_4 13 rfl rfl)
theorem dX1_tellLaws_105 : decode cX1_tellLaws 105 = .ok (.iaload, 1) := dk_46 (dk_at dksX1_tellLaws_4 14 rfl rfl)
theorem dX1_tellLaws_106 : decode cX1_tellLaws 106 = .ok (.istore_n 3, 1) := dk_62 (dk_at dksX1_tellLaws_4 15 rfl rfl)
theorem dX1_tellLaws_107 : decode cX1_tellLaws 107 = .ok (.iload_n 2, 1) := dk_28 (dk_at dksX1_tellLaws_4 16 rfl rfl)
theorem dX1_tellLaws_108 : decode cX1_tellLaws 108 = .ok (.iload_n 3, 1) := dk_29 (dk_at dksX1_tellLaws_4 17 rfl rfl)
theorem dX1_tellLaws_109 : decode cX1_tellLaws 109 = .ok (.if_icmp .ne 15, 3) := dk_160 0 15 (dk_at dksX1_tellLaws_4 18 rfl rfl)
theorem dX1_tellLaws_112 : decode cX1_tellLaws 112 = .ok (.aload_n 0, 1) := dk_42 (dk_at dksX1_tellLaws_4 21 rfl rfl)
theorem dX1_tellLaws_113 : decode cX1_tellLaws 113 = .ok (.dup, 1) := dk_89 (dk_at dksX1_tellLaws_4 22 rfl rfl)
theorem dX1_tellLaws_114 : decode cX1_tellLaws 114 = .ok (.getfield 268, 3) := dk_180 1 12 (dk_at dksX1_tellLaws_5 0 rfl rfl)
theorem dX1_tellLaws_117 : decode cX1_tellLaws 117 = .ok (.iconst 1, 1) := dk_4 (dk_at dksX1_tellLaws_5 3 rfl rfl)
theorem dX1_tellLaws_118 : decode cX1_tellLaws 118 = .ok (.iload_n 1, 1) := dk_27 (dk_at dksX1_tellLaws_5 4 rfl rfl)
theorem dX1_tellLaws_119 : decode cX1_tellLaws 119 = .ok (.ishl, 1) := dk_120 (dk_at dksX1_tellLaws_5 5 rfl rfl)
theorem dX1_tellLaws_120 : decode cX1_tellLaws 120 = .ok (.ior, 1) := dk_128 (dk_at dksX1_tellLaws_5 6 rfl rfl)
theorem dX1_tellLaws_121 : decode cX1_tellLaws 121 = .ok (.putfield 268, 3) := dk_181 1 12 (dk_at dksX1_tellLaws_5 7 rfl rfl)
theorem dX1_tellLaws_124 : decode cX1_tellLaws 124 = .ok (.iload_n 2, 1) := dk_28 (dk_at dksX1_tellLaws_5 10 rfl rfl)
theorem dX1_tellLaws_125 : decode cX1_tellLaws 125 = .ok (.iconst (-1), 1) := dk_2 (dk_at dksX1_tellLaws_5 11 rfl rfl)
theorem dX1_tellLaws_126 : decode cX1_tellLaws 126 = .ok (.if_icmp .ne 20, 3) := dk_160 0 20 (dk_at dksX1_tellLaws_5 12 rfl rfl)
theorem dX1_tellLaws_129 : decode cX1_tellLaws 129 = .ok (.iload_n 3, 1) := dk_29 (dk_at dksX1_tellLaws_5 15 rfl rfl)
theorem dX1_tellLaws_130 : decode cX1_tellLaws 130 = .ok (.iconst (-1), 1) := dk_2 (dk_at dksX1_tellLaws_5 16 rfl rfl)
theorem dX1_tellLaws_131 : decode cX1_tellLaws 131 = .ok (.if_icmp .eq 15, 3) := dk_159 0 15 (dk_at dksX1_tellLaws_5 17 rfl rfl)
theorem dX1_tellLaws_134 : decode cX1_tellLaws 134 = .ok (.aload_n 0, 1) := dk_42 (dk_at dksX1_tellLaws_5 20 rfl rfl)
theorem dX1_tellLaws_135 : decode cX1_tellLaws 135 = .ok (.dup, 1) := dk_89 (dk_at dksX1_tellLaws_5 21 rfl rfl)
theorem dX1_tellLaws_136 : decode cX1_tellLaws 136 = .ok (.getfield 271, 3) := dk_180 1 15 (dk_at dksX1_tellLaws_6 0 rfl rfl)
theorem dX1_tellLaws_139 : decode cX1_tellLaws 139 = .ok (.iconst 1, 1) := dk_4 (dk_at dksX1_tellLaws_6 3 rfl rfl)
theorem dX1_tellLaws_140 : decode cX1_tellLaws 140 = .ok (.iload_n 1, 1) := dk_27 (dk_at dksX1_tellLaws_6 4 rfl rfl)
theorem dX1_tellLaws_141 : decode cX1_tellLaws 141 = .ok (.ishl, 1) := dk_120 (dk_at dksX1_tellLaws_6 5 rfl rfl)
theorem dX1_tellLaws_142 : decode cX1_tellLaws 142 = .ok (.ior, 1) := dk_128 (dk_at dksX1_tellLaws_6 6 rfl rfl)
theorem dX1_tellLaws_143 : decode cX1_tellLaws 143 = .ok (.putfield 271, 3) := dk_181 1 15 (dk_at dksX1_tellLaws_6 7 rfl rfl)
theorem dX1_tellLaws_146 : decode cX1_tellLaws 146 = .ok (.iinc 1 1, 3) := dk_132 1 1 (dk_at dksX1_tellLaws_6 10 rfl rfl)
theorem dX1_tellLaws_149 : decode cX1_tellLaws 149 = .ok (.goto (-121), 3) := dk_167 255 135 (dk_at dksX1_tellLaws_6 13 rfl rfl)
theorem dX1_tellLaws_152 : decode cX1_tellLaws 152 = .ok (.return_, 1) := dk_177 (dk_at dksX1_tellLaws_6 16 rfl rfl)
abbrev cX1_size : ByteArray := prog_1_method_34_code
def yX1_size : MethodName := ⟨RX1, "size", "(I)I"⟩
def dkwX1_size_3 : List UInt8 := [182, 1, 34, 181, 1, 37, 42, 4, 181, 0, 87, 42, 180, 1, 37, 172]
abbrev dktX1_size_3 : List UInt8 := dkwX1_size_3 ++ []
def dkwX1_size_2 : List UInt8 := [181, 1, 31, 42, 4, 181, 0, 84, 42, 180, 1, 31, 172, 42, 180, 0, 87, 154, 0, 11, 42, 42]
abbrev dktX1_size_2 : List UInt8 := dkwX1_size_2 ++ dktX1_size_3
def dkwX1_size_1 : List UInt8 := [4, 167, 0, 4, 3, 184, 0, 141, 27, 154, 0, 28, 42, 180, 0, 84, 154, 0, 11, 42, 42, 182, 1, 28]
abbrev dktX1_size_1 : List UInt8 := dkwX1_size_1 ++ dktX1_size_2
def dkwX1_size_0 : List UInt8 := [27, 153, 0, 8, 27, 4, 160, 0, 22, 42, 180, 0, 18, 180, 0, 124, 185, 1, 24, 1, 0, 154, 0, 7]
abbrev dktX1_size_0 : List UInt8 := dkwX1_size_0 ++ dktX1_size_1
theorem dksX1_size_0 : cX1_size.data.toList.drop 0 = dktX1_size_0 := by decide +kernel
theorem dksX1_size_1 : cX1_size.data.toList.drop 24 = dktX1_size_1 := dk_seg dksX1_size_0 24 rfl rfl
theorem dksX1_size_2 : cX1_size.data.toList.drop 48 = dktX1_size_2 := dk_seg dksX1_size_1 24 rfl rfl
theorem dksX1_size_3 : cX1_size.data.toList.drop 70 = dktX1_size_3 := dk_seg dksX1_size_2 22 rfl rfl
theorem dX1_size_0 : decode cX1_size 0 = .ok (.iload_n 1, 1) := dk_27 (dk_at dksX1_size_0 0 rfl rfl)
theorem dX1_size_1 : decode cX1_size 1 = .ok (.ifCond .eq 8, 3) := dk_153 0 8 (dk_at dksX1_size_0 1 rfl rfl)
theorem dX1_size_4 : decode cX1_size 4 = .ok (.iload_n 1, 1) := dk_27 (dk_at dksX1_size_0 4 rfl rfl)
theorem dX1_size_5 : decode cX1_size 5 = .ok (.iconst 1, 1) := dk_4 (dk_at dksX1_size_0 5 rfl rfl)
theorem dX1_size_6 : decode cX1_size 6 = .ok (.if_icmp .ne 22, 3) := dk_160 0 22 (dk_at dksX1_size_0 6 rfl rfl)
theorem dX1_size_9 : decode cX1_size 9 = .ok (.aload_n 0, 1) := dk_42 (dk_at dksX1_size_0 9 rfl rfl)
theorem dX1_size_10 : decode cX1_size 10 = .ok (.getfield 18, 3) := dk_180 0 18 (dk_at dksX1_size_0 10 rfl rfl)
theorem dX1_size_13 : decode cX1_size 13 = .ok (.getfield 124, 3) := dk_180 0 124 (dk_at dksX1_size_0 13 rfl rfl)
theorem dX1_size_16 : decode cX1_size 16 = .ok (.invokeinterface 280 1, 5) := by decide +kernel
theorem dX1_size_21 : decode cX1_size 21 = .ok (.ifCond .ne 7, 3) := dk_154 0 7 (dk_at dksX1_size_0 21 rfl rfl)
theorem dX1_size_24 : decode cX1_size 24 = .ok (.iconst 1, 1) := dk_4 (dk_at dksX1_size_1 0 rfl rfl)
theorem dX1_size_25 : decode cX1_size 25 = .ok (.goto 4, 3) := dk_167 0 4 (dk_at dksX1_size_1 1 rfl rfl)
theorem dX1_size_28 : decode cX1_size 28 = .ok (.iconst 0, 1) := dk_3 (dk_at dksX1_size_1 4 rfl rfl)
theorem dX1_size_29 : decode cX1_size 29 = .ok (.invokestatic 141, 3) := dk_184 0 141 (dk_at dksX1_size_1 5 rfl rfl)
theorem dX1_size_32 : decode cX1_size 32 = .ok (.iload_n 1, 1) := dk_27 (dk_at dksX1_size_1 8 rfl rfl)
theorem dX1_size_33 : decode cX1_size 33 = .ok (.ifCond .ne 28, 3) := dk_154 0 28 (dk_at dksX1_size_1 9 rfl rfl)
theorem dX1_size_36 : decode cX1_size 36 = .ok (.aload_n 0, 1) := dk_42 (dk_at dksX1_size_1 12 rfl rfl)
theorem dX1_size_37 : decode cX1_size 37 = .ok (.getfield 84, 3) := dk_180 0 84 (dk_at dksX1_size_1 13 rfl rfl)
theorem dX1_size_40 : decode cX1_size 40 = .ok (.ifCond .ne 11, 3) := dk_154 0 11 (dk_at dksX1_size_1 16 rfl rfl)
theorem dX1_size_43 : decode cX1_size 43 = .ok (.aload_n 0, 1) := dk_42 (dk_at dksX1_size_1 19 rfl rfl)
theorem dX1_size_44 : decode cX1_size 44 = .ok (.aload_n 0, 1) := dk_42 (dk_at dksX1_size_1 20 rfl rfl)
theorem dX1_size_45 : decode cX1_size 45 = .ok (.invokevirtual 284, 3) := dk_182 1 28 (dk_at dksX1_size_1 21 rfl rfl)
theorem dX1_size_48 : decode cX1_size 48 = .ok (.putfield 287, 3) := dk_181 1 31 (dk_at dksX1_size_2 0 rfl rfl)
theorem dX1_size_51 : decode cX1_size 51 = .ok (.aload_n 0, 1) := dk_42 (dk_at dksX1_size_2 3 rfl rfl)
theorem dX1_size_52 : decode cX1_size 52 = .ok (.iconst 1, 1) := dk_4 (dk_at dksX1_size_2 4 rfl rfl)
theorem dX1_size_53 : decode cX1_size 53 = .ok (.putfield 84, 3) := dk_181 0 84 (dk_at dksX1_size_2 5 rfl rfl)
theorem dX1_size_56 : decode cX1_size 56 = .ok (.aload_n 0, 1) := dk_42 (dk_at dksX1_size_2 8 rfl rfl)
theorem dX1_size_57 : decode cX1_size 57 = .ok (.getfield 287, 3) := dk_180 1 31 (dk_at dksX1_size_2 9 rfl rfl)
theorem dX1_size_60 : decode cX1_size 60 = .ok (.ireturn, 1) := dk_172 (dk_at dksX1_size_2 12 rfl rfl)
theorem dX1_size_61 : decode cX1_size 61 = .ok (.aload_n 0, 1) := dk_42 (dk_at dksX1_size_2 13 rfl rfl)
theorem dX1_size_62 : decode cX1_size 62 = .ok (.getfield 87, 3) := dk_180 0 87 (dk_at dksX1_size_2 14 rfl rfl)
theorem dX1_size_65 : decode cX1_size 65 = .ok (.ifCond .ne 11, 3) := dk_154 0 11 (dk_at dksX1_size_2 17 rfl rfl)
theorem dX1_size_68 : decode cX1_size 68 = .ok (.aload_n 0, 1) := dk_42 (dk_at dksX1_size_2 20 rfl rfl)
theorem dX1_size_69 : decode cX1_size 69 = .ok (.aload_n 0, 1) := dk_42 (dk_at dksX1_size_2 21 rfl rfl)
theorem dX1_size_70 : decode cX1_size 70 = .ok (.invokevirtual 290, 3) := dk_182 1 34 (dk_at dksX1_size_3 0 rfl rfl)
theorem dX1_size_73 : decode cX1_size 73 = .ok (.putfield 293, 3) := dk_181 1 37 (dk_at dksX1_size_3 3 rfl rfl)
theorem dX1_size_76 : decode cX1_size 76 = .ok (.aload_n 0, 1) := dk_42 (dk_at dksX1_size_3 6 rfl rfl)
theorem dX1_size_77 : decode cX1_size 77 = .ok (.iconst 1, 1) := dk_4 (dk_at dksX1_size_3 7 rfl rfl)
theorem dX1_size_78 : decode cX1_size 78 = .ok (.putfield 87, 3) := dk_181 0 87 (dk_at dksX1_size_3 8 rfl rfl)
theorem dX1_size_81 : decode cX1_size 81 = .ok (.aload_n 0, 1) := dk_42 (dk_at dksX1_size_3 11 rfl rfl)
theorem dX1_size_82 : decode cX1_size 82 = .ok (.getfield 293, 3) := dk_180 1 37 (dk_at dksX1_size_3 12 rfl rfl)
theorem dX1_size_85 : decode cX1_size 85 = .ok (.ireturn, 1) := dk_172 (dk_at dksX1_size_3 15 rfl rfl)
abbrev cX1_holdSize : ByteArray := prog_1_method_32_code
def yX1_holdSize : MethodName := ⟨RX1, "holdSize", "()I"⟩
def dkwX1_holdSize_1 : List UInt8 := [160, 0, 8, 16, 254, 167, 0, 4, 27, 172, 132, 1, 1, 167, 255, 223, 2, 172]
abbrev dktX1_holdSize_1 : List UInt8 := dkwX1_holdSize_1 ++ []
def dkwX1_holdSize_0 : List UInt8 := [4, 60, 27, 16, 8, 163, 0, 33, 42, 27, 2, 182, 1, 21, 61, 28, 153, 0, 16, 28, 16, 254]
abbrev dktX1_holdSize_0 : List UInt8 := dkwX1_holdSize_0 ++ dktX1_holdSize_1
theorem dksX1_holdSize_0 : cX1_holdSize.data.toList.drop 0 = dktX1_holdSize_0 := by decide +kernel
theorem dksX1_holdSize_1 : cX1_holdSize.data.toList.drop 22 = dktX1_holdSize_1 := dk_seg dksX1_holdSize_0 22 rfl rfl
theorem dX1_holdSize_0 : decode cX1_holdSize 0 = .ok (.iconst 1, 1) := dk_4 (dk_at dksX1_holdSize_0 0 rfl rfl)
theorem dX1_holdSize_1 : decode cX1_holdSize 1 = .ok (.istore_n 1, 1) := dk_60 (dk_at dksX1_holdSize_0 1 rfl rfl)
theorem dX1_holdSize_2 : decode cX1_holdSize 2 = .ok (.iload_n 1, 1) := dk_27 (dk_at dksX1_holdSize_0 2 rfl rfl)
theorem dX1_holdSize_3 : decode cX1_holdSize 3 = .ok (.bipush 8, 2) := dk_16 8 (dk_at dksX1_holdSize_0 3 rfl rfl)
theorem dX1_holdSize_5 : decode cX1_holdSize 5 = .ok (.if_icmp .gt 33, 3) := dk_163 0 33 (dk_at dksX1_holdSize_0 5 rfl rfl)
theorem dX1_holdSize_8 : decode cX1_holdSize 8 = .ok (.aload_n 0, 1) := dk_42 (dk_at dksX1_holdSize_0 8 rfl rfl)
theorem dX1_holdSize_9 : decode cX1_holdSize 9 = .ok (.iload_n 1, 1) := dk_27 (dk_at dksX1_holdSize_0 9 rfl rfl)
theorem dX1_holdSize_10 : decode cX1_holdSize 10 = .ok (.iconst (-1), 1) := dk_2 (dk_at dksX1_holdSize_0 10 rfl rfl)
theorem dX1_holdSize_11 : decode cX1_holdSize 11 = .ok (.invokevirtual 277, 3) := dk_182 1 21 (dk_at dksX1_holdSize_0 11 rfl rfl)
theorem dX1_holdSize_14 : decode cX1_holdSize 14 = .ok (.istore_n 2, 1) := dk_61 (dk_at dksX1_holdSize_0 14 rfl rfl)
theorem dX1_holdSize_15 : decode cX1_holdSize 15 = .ok (.iload_n 2, 1) := dk_28 (dk_at dksX1_holdSize_0 15 rfl rfl)
theorem dX1_holdSize_16 : decode cX1_holdSize 16 = .ok (.ifCond .eq 16, 3) := dk_153 0 16 (dk_at dksX1_holdSize_0 16 rfl rfl)
theorem dX1_holdSize_19 : decode cX1_holdSize 19 = .ok (.iload_n 2, 1) := dk_28 (dk_at dksX1_holdSize_0 19 rfl rfl)
theorem dX1_holdSize_20 : decode cX1_holdSize 20 = .ok (.bipush (-2), 2) := dk_16 254 (dk_at dksX1_holdSize_0 20 rfl rfl)
theorem dX1_holdSize_22 : decode cX1_holdSize 22 = .ok (.if_icmp .ne 8, 3) := dk_160 0 8 (dk_at dksX1_holdSize_1 0 rfl rfl)
theorem dX1_holdSize_25 : decode cX1_holdSize 25 = .ok (.bipush (-2), 2) := dk_16 254 (dk_at dksX1_holdSize_1 3 rfl rfl)
theorem dX1_holdSize_27 : decode cX1_holdSize 27 = .ok (.goto 4, 3) := dk_167 0 4 (dk_at dksX1_holdSize_1 5 rfl rfl)
theorem dX1_holdSize_30 : decode cX1_holdSize 30 = .ok (.iload_n 1, 1) := dk_27 (dk_at dksX1_holdSize_1 8 rfl rfl)
theorem dX1_holdSize_31 : decode cX1_holdSize 31 = .ok (.ireturn, 1) := dk_172 (dk_at dksX1_holdSize_1 9 rfl rfl)
theorem dX1_holdSize_32 : decode cX1_holdSize 32 = .ok (.iinc 1 1, 3) := dk_132 1 1 (dk_at dksX1_holdSize_1 10 rfl rfl)
theorem dX1_holdSize_35 : decode cX1_holdSize 35 = .ok (.goto (-33), 3) := dk_167 255 223 (dk_at dksX1_holdSize_1 13 rfl rfl)
theorem dX1_holdSize_38 : decode cX1_holdSize 38 = .ok (.iconst (-1), 1) := dk_2 (dk_at dksX1_holdSize_1 16 rfl rfl)
theorem dX1_holdSize_39 : decode cX1_holdSize 39 = .ok (.ireturn, 1) := dk_172 (dk_at dksX1_holdSize_1 17 rfl rfl)
abbrev cX1_tries : ByteArray := prog_1_method_31_code
def yX1_tries : MethodName := ⟨RX1, "tries", "(II)I"⟩
def dkwX1_tries_1 : List UInt8 := [180, 0, 37, 182, 0, 204, 3, 46, 2, 160, 0, 7, 3, 167, 0, 4, 4, 172]
abbrev dktX1_tries_1 : List UInt8 := dkwX1_tries_1 ++ []
def dkwX1_tries_0 : List UInt8 := [42, 180, 0, 37, 42, 180, 0, 18, 27, 28, 3, 182, 0, 90, 154, 0, 8, 16, 254, 167, 0, 21, 42]
abbrev dktX1_tries_0 : List UInt8 := dkwX1_tries_0 ++ dktX1_tries_1
theorem dksX1_tries_0 : cX1_tries.data.toList.drop 0 = dktX1_tries_0 := by decide +kernel
theorem dksX1_tries_1 : cX1_tries.data.toList.drop 23 = dktX1_tries_1 := dk_seg dksX1_tries_0 23 rfl rfl
theorem dX1_tries_0 : decode cX1_tries 0 = .ok (.aload_n 0, 1) := dk_42 (dk_at dksX1_tries_0 0 rfl rfl)
theorem dX1_tries_1 : decode cX1_tries 1 = .ok (.getfield 37, 3) := dk_180 0 37 (dk_at dksX1_tries_0 1 rfl rfl)
theorem dX1_tries_4 : decode cX1_tries 4 = .ok (.aload_n 0, 1) := dk_42 (dk_at dksX1_tries_0 4 rfl rfl)
theorem dX1_tries_5 : decode cX1_tries 5 = .ok (.getfield 18, 3) := dk_180 0 18 (dk_at dksX1_tries_0 5 rfl rfl)
theorem dX1_tries_8 : decode cX1_tries 8 = .ok (.iload_n 1, 1) := dk_27 (dk_at dksX1_tries_0 8 rfl rfl)
theorem dX1_tries_9 : decode cX1_tries 9 = .ok (.iload_n 2, 1) := dk_28 (dk_at dksX1_tries_0 9 rfl rfl)
theorem dX1_tries_10 : decode cX1_tries 10 = .ok (.iconst 0, 1) := dk_3 (dk_at dksX1_tries_0 10 rfl rfl)
theorem dX1_tries_11 : decode cX1_tries 11 = .ok (.invokevirtual 90, 3) := dk_182 0 90 (dk_at dksX1_tries_0 11 rfl rfl)
theorem dX1_tries_14 : decode cX1_tries 14 = .ok (.ifCond .ne 8, 3) := dk_154 0 8 (dk_at dksX1_tries_0 14 rfl rfl)
theorem dX1_tries_17 : decode cX1_tries 17 = .ok (.bipush (-2), 2) := dk_16 254 (dk_at dksX1_tries_0 17 rfl rfl)
theorem dX1_tries_19 : decode cX1_tries 19 = .ok (.goto 21, 3) := dk_167 0 21 (dk_at dksX1_tries_0 19 rfl rfl)
theorem dX1_tries_22 : decode cX1_tries 22 = .ok (.aload_n 0, 1) := dk_42 (dk_at dksX1_tries_0 22 rfl rfl)
theorem dX1_tries_23 : decode cX1_tries 23 = .ok (.getfield 37, 3) := dk_180 0 37 (dk_at dksX1_tries_1 0 rfl rfl)
theorem dX1_tries_26 : decode cX1_tries 26 = .ok (.invokevirtual 204, 3) := dk_182 0 204 (dk_at dksX1_tries_1 3 rfl rfl)
theorem dX1_tries_29 : decode cX1_tries 29 = .ok (.iconst 0, 1) := dk_3 (dk_at dksX1_tries_1 6 rfl rfl)
theorem dX1_tries_30 : decode cX1_tries 30 = .ok (.iaload, 1) := dk_46 (dk_at dksX1_tries_1 7 rfl rfl)
theorem dX1_tries_31 : decode cX1_tries 31 = .ok (.iconst (-1), 1) := dk_2 (dk_at dksX1_tries_1 8 rfl rfl)
theorem dX1_tries_32 : decode cX1_tries 32 = .ok (.if_icmp .ne 7, 3) := dk_160 0 7 (dk_at dksX1_tries_1 9 rfl rfl)
theorem dX1_tries_35 : decode cX1_tries 35 = .ok (.iconst 0, 1) := dk_3 (dk_at dksX1_tries_1 12 rfl rfl)
theorem dX1_tries_36 : decode cX1_tries 36 = .ok (.goto 4, 3) := dk_167 0 4 (dk_at dksX1_tries_1 13 rfl rfl)
theorem dX1_tries_39 : decode cX1_tries 39 = .ok (.iconst 1, 1) := dk_4 (dk_at dksX1_tries_1 16 rfl rfl)
theorem dX1_tries_40 : decode cX1_tries 40 = .ok (.ireturn, 1) := dk_172 (dk_at dksX1_tries_1 17 rfl rfl)
abbrev cX1_loadSize : ByteArray := prog_1_method_33_code
def yX1_loadSize : MethodName := ⟨RX1, "loadSize", "()I"⟩
def dkwX1_loadSize_3 : List UInt8 := [167, 0, 8, 21, 4, 4, 96, 61, 167, 255, 211, 28, 172]
abbrev dktX1_loadSize_3 : List UInt8 := dkwX1_loadSize_3 ++ []
def dkwX1_loadSize_2 : List UInt8 := [2, 21, 4, 182, 1, 21, 60, 27, 16, 254, 160, 0, 6, 16, 254, 172, 27, 4, 160, 0, 9, 21, 4, 62]
abbrev dktX1_loadSize_2 : List UInt8 := dkwX1_loadSize_2 ++ dktX1_loadSize_3
def dkwX1_loadSize_1 : List UInt8 := [167, 0, 4, 2, 172, 3, 61, 17, 3, 231, 62, 28, 29, 162, 0, 46, 28, 29, 96, 5, 108, 54, 4, 42]
abbrev dktX1_loadSize_1 : List UInt8 := dkwX1_loadSize_1 ++ dktX1_loadSize_2
def dkwX1_loadSize_0 : List UInt8 := [42, 2, 17, 3, 231, 182, 1, 21, 60, 27, 4, 159, 0, 16, 27, 16, 254, 160, 0, 8, 16, 254]
abbrev dktX1_loadSize_0 : List UInt8 := dkwX1_loadSize_0 ++ dktX1_loadSize_1
theorem dksX1_loadSize_0 : cX1_loadSize.data.toList.drop 0 = dktX1_loadSize_0 := by decide +kernel
theorem dksX1_loadSize_1 : cX1_loadSize.data.toList.drop 22 = dktX1_loadSize_1 := dk_seg dksX1_loadSize_0 22 rfl rfl
theorem dksX1_loadSize_2 : cX1_loadSize.data.toList.drop 46 = dktX1_loadSize_2 := dk_seg dksX1_loadSize_1 24 rfl rfl
theorem dksX1_loadSize_3 : cX1_loadSize.data.toList.drop 70 = dktX1_loadSize_3 := dk_seg dksX1_loadSize_2 24 rfl rfl
theorem dX1_loadSize_0 : decode cX1_loadSize 0 = .ok (.aload_n 0, 1) := dk_42 (dk_at dksX1_loadSize_0 0 rfl rfl)
theorem dX1_loadSize_1 : decode cX1_loadSize 1 = .ok (.iconst (-1), 1) := dk_2 (dk_at dksX1_loadSize_0 1 rfl rfl)
theorem dX1_loadSize_2 : decode cX1_loadSize 2 = .ok (.sipush 999, 3) := dk_17 3 231 (dk_at dksX1_loadSize_0 2 rfl rfl)
theorem dX1_loadSize_5 : decode cX1_loadSize 5 = .ok (.invokevirtual 277, 3) := dk_182 1 21 (dk_at dksX1_loadSize_0 5 rfl rfl)
theorem dX1_loadSize_8 : decode cX1_loadSize 8 = .ok (.istore_n 1, 1) := dk_60 (dk_at dksX1_loadSize_0 8 rfl rfl)
theorem dX1_loadSize_9 : decode cX1_loadSize 9 = .ok (.iload_n 1, 1) := dk_27 (dk_at dksX1_loadSize_0 9 rfl rfl)
theorem dX1_loadSize_10 : decode cX1_loadSize 10 = .ok (.iconst 1, 1) := dk_4 (dk_at dksX1_loadSize_0 10 rfl rfl)
theorem dX1_loadSize_11 : decode cX1_loadSize 11 = .ok (.if_icmp .eq 16, 3) := dk_159 0 16 (dk_at dksX1_loadSize_0 11 rfl rfl)
theorem dX1_loadSize_14 : decode cX1_loadSize 14 = .ok (.iload_n 1, 1) := dk_27 (dk_at dksX1_loadSize_0 14 rfl rfl)
theorem dX1_loadSize_15 : decode cX1_loadSize 15 = .ok (.bipush (-2), 2) := dk_16 254 (dk_at dksX1_loadSize_0 15 rfl rfl)
theorem dX1_loadSize_17 : decode cX1_loadSize 17 = .ok (.if_icmp .ne 8, 3) := dk_160 0 8 (dk_at dksX1_loadSize_0 17 rfl rfl)
theorem dX1_loadSize_20 : decode cX1_loadSize 20 = .ok (.bipush (-2), 2) := dk_16 254 (dk_at dksX1_loadSize_0 20 rfl rfl)
theorem dX1_loadSize_22 : decode cX1_loadSize 22 = .ok (.goto 4, 3) := dk_167 0 4 (dk_at dksX1_loadSize_1 0 rfl rfl)
theorem dX1_loadSize_25 : decode cX1_loadSize 25 = .ok (.iconst (-1), 1) := dk_2 (dk_at dksX1_loadSize_1 3 rfl rfl)
theorem dX1_loadSize_26 : decode cX1_loadSize 26 = .ok (.ireturn, 1) := dk_172 (dk_at dksX1_loadSize_1 4 rfl rfl)
theorem dX1_loadSize_27 : decode cX1_loadSize 27 = .ok (.iconst 0, 1) := dk_3 (dk_at dksX1_loadSize_1 5 rfl rfl)
theorem dX1_loadSize_28 : decode cX1_loadSize 28 = .ok (.istore_n 2, 1) := dk_61 (dk_at dksX1_loadSize_1 6 rfl rfl)
theorem dX1_loadSize_29 : decode cX1_loadSize 29 = .ok (.sipush 999, 3) := dk_17 3 231 (dk_at dksX1_loadSize_1 7 rfl rfl)
theorem dX1_loadSize_32 : decode cX1_loadSize 32 = .ok (.istore_n 3, 1) := dk_62 (dk_at dksX1_loadSize_1 10 rfl rfl)
theorem dX1_loadSize_33 : decode cX1_loadSize 33 = .ok (.iload_n 2, 1) := dk_28 (dk_at dksX1_loadSize_1 11 rfl rfl)
theorem dX1_loadSize_34 : decode cX1_loadSize 34 = .ok (.iload_n 3, 1) := dk_29 (dk_at dksX1_loadSize_1 12 rfl rfl)
theorem dX1_loadSize_35 : decode cX1_loadSize 35 = .ok (.if_icmp .ge 46, 3) := dk_162 0 46 (dk_at dksX1_loadSize_1 13 rfl rfl)
theorem dX1_loadSize_38 : decode cX1_loadSize 38 = .ok (.iload_n 2, 1) := dk_28 (dk_at dksX1_loadSize_1 16 rfl rfl)
theorem dX1_loadSize_39 : decode cX1_loadSize 39 = .ok (.iload_n 3, 1) := dk_29 (dk_at dksX1_loadSize_1 17 rfl rfl)
theorem dX1_loadSize_40 : decode cX1_loadSize 40 = .ok (.iadd, 1) := dk_96 (dk_at dksX1_loadSize_1 18 rfl rfl)
theorem dX1_loadSize_41 : decode cX1_loadSize 41 = .ok (.iconst 2, 1) := dk_5 (dk_at dksX1_loadSize_1 19 rfl rfl)
theorem dX1_loadSize_42 : decode cX1_loadSize 42 = .ok (.idiv, 1) := dk_108 (dk_at dksX1_loadSize_1 20 rfl rfl)
theorem dX1_loadSize_43 : decode cX1_loadSize 43 = .ok (.istore 4, 2) := dk_54 4 (dk_at dksX1_loadSize_1 21 rfl rfl)
theorem dX1_loadSize_45 : decode cX1_loadSize 45 = .ok (.aload_n 0, 1) := dk_42 (dk_at dksX1_loadSize_1 23 rfl rfl)
theorem dX1_loadSize_46 : decode cX1_loadSize 46 = .ok (.iconst (-1), 1) := dk_2 (dk_at dksX1_loadSize_2 0 rfl rfl)
theorem dX1_loadSize_47 : decode cX1_loadSize 47 = .ok (.iload 4, 2) := dk_21 4 (dk_at dksX1_loadSize_2 1 rfl rfl)
theorem dX1_loadSize_49 : decode cX1_loadSize 49 = .ok (.invokevirtual 277, 3) := dk_182 1 21 (dk_at dksX1_loadSize_2 3 rfl rfl)
theorem dX1_loadSize_52 : decode cX1_loadSize 52 = .ok (.istore_n 1, 1) := dk_60 (dk_at dksX1_loadSize_2 6 rfl rfl)
theorem dX1_loadSize_53 : decode cX1_loadSize 53 = .ok (.iload_n 1, 1) := dk_27 (dk_at dksX1_loadSize_2 7 rfl rfl)
theorem dX1_loadSize_54 : decode cX1_loadSize 54 = .ok (.bipush (-2), 2) := dk_16 254 (dk_at dksX1_loadSize_2 8 rfl rfl)
theorem dX1_loadSize_56 : decode cX1_loadSize 56 = .ok (.if_icmp .ne 6, 3) := dk_160 0 6 (dk_at dksX1_loadSize_2 10 rfl rfl)
theorem dX1_loadSize_59 : decode cX1_loadSize 59 = .ok (.bipush (-2), 2) := dk_16 254 (dk_at dksX1_loadSize_2 13 rfl rfl)
theorem dX1_loadSize_61 : decode cX1_loadSize 61 = .ok (.ireturn, 1) := dk_172 (dk_at dksX1_loadSize_2 15 rfl rfl)
theorem dX1_loadSize_62 : decode cX1_loadSize 62 = .ok (.iload_n 1, 1) := dk_27 (dk_at dksX1_loadSize_2 16 rfl rfl)
theorem dX1_loadSize_63 : decode cX1_loadSize 63 = .ok (.iconst 1, 1) := dk_4 (dk_at dksX1_loadSize_2 17 rfl rfl)
theorem dX1_loadSize_64 : decode cX1_loadSize 64 = .ok (.if_icmp .ne 9, 3) := dk_160 0 9 (dk_at dksX1_loadSize_2 18 rfl rfl)
theorem dX1_loadSize_67 : decode cX1_loadSize 67 = .ok (.iload 4, 2) := dk_21 4 (dk_at dksX1_loadSize_2 21 rfl rfl)
theorem dX1_loadSize_69 : decode cX1_loadSize 69 = .ok (.istore_n 3, 1) := dk_62 (dk_at dksX1_loadSize_2 23 rfl rfl)
theorem dX1_loadSize_70 : decode cX1_loadSize 70 = .ok (.goto 8, 3) := dk_167 0 8 (dk_at dksX1_loadSize_3 0 rfl rfl)
theorem dX1_loadSize_73 : decode cX1_loadSize 73 = .ok (.iload 4, 2) := dk_21 4 (dk_at dksX1_loadSize_3 3 rfl rfl)
theorem dX1_loadSize_75 : decode cX1_loadSize 75 = .ok (.iconst 1, 1) := dk_4 (dk_at dksX1_loadSize_3 5 rfl rfl)
theorem dX1_loadSize_76 : decode cX1_loadSize 76 = .ok (.iadd, 1) := dk_96 (dk_at dksX1_loadSize_3 6 rfl rfl)
theorem dX1_loadSize_77 : decode cX1_loadSize 77 = .ok (.istore_n 2, 1) := dk_61 (dk_at dksX1_loadSize_3 7 rfl rfl)
theorem dX1_loadSize_78 : decode cX1_loadSize 78 = .ok (.goto (-45), 3) := dk_167 255 211 (dk_at dksX1_loadSize_3 8 rfl rfl)
theorem dX1_loadSize_81 : decode cX1_loadSize 81 = .ok (.iload_n 2, 1) := dk_28 (dk_at dksX1_loadSize_3 11 rfl rfl)
theorem dX1_loadSize_82 : decode cX1_loadSize 82 = .ok (.ireturn, 1) := dk_172 (dk_at dksX1_loadSize_3 12 rfl rfl)
abbrev cX1_alike : ByteArray := prog_1_method_38_code
def yX1_alike : MethodName := ⟨RX1, "alike", "(I)I"⟩
def dkwX1_alike_1 : List UInt8 := [182, 1, 51, 153, 0, 9, 28, 4, 29, 120, 128, 61, 132, 3, 1, 167, 255, 227, 28, 172]
abbrev dktX1_alike_1 : List UInt8 := dkwX1_alike_1 ++ []
def dkwX1_alike_0 : List UInt8 := [42, 27, 182, 0, 144, 3, 61, 3, 62, 29, 42, 180, 0, 18, 180, 0, 121, 162, 0, 24, 42, 27, 29]
abbrev dktX1_alike_0 : List UInt8 := dkwX1_alike_0 ++ dktX1_alike_1
theorem dksX1_alike_0 : cX1_alike.data.toList.drop 0 = dktX1_alike_0 := by decide +kernel
theorem dksX1_alike_1 : cX1_alike.data.toList.drop 23 = dktX1_alike_1 := dk_seg dksX1_alike_0 23 rfl rfl
theorem dX1_alike_0 : decode cX1_alike 0 = .ok (.aload_n 0, 1) := dk_42 (dk_at dksX1_alike_0 0 rfl rfl)
theorem dX1_alike_1 : decode cX1_alike 1 = .ok (.iload_n 1, 1) := dk_27 (dk_at dksX1_alike_0 1 rfl rfl)
theorem dX1_alike_2 : decode cX1_alike 2 = .ok (.invokevirtual 144, 3) := dk_182 0 144 (dk_at dksX1_alike_0 2 rfl rfl)
theorem dX1_alike_5 : decode cX1_alike 5 = .ok (.iconst 0, 1) := dk_3 (dk_at dksX1_alike_0 5 rfl rfl)
theorem dX1_alike_6 : decode cX1_alike 6 = .ok (.istore_n 2, 1) := dk_61 (dk_at dksX1_alike_0 6 rfl rfl)
theorem dX1_alike_7 : decode cX1_alike 7 = .ok (.iconst 0, 1) := dk_3 (dk_at dksX1_alike_0 7 rfl rfl)
theorem dX1_alike_8 : decode cX1_alike 8 = .ok (.istore_n 3, 1) := dk_62 (dk_at dksX1_alike_0 8 rfl rfl)
theorem dX1_alike_9 : decode cX1_alike 9 = .ok (.iload_n 3, 1) := dk_29 (dk_at dksX1_alike_0 9 rfl rfl)
theorem dX1_alike_10 : decode cX1_alike 10 = .ok (.aload_n 0, 1) := dk_42 (dk_at dksX1_alike_0 10 rfl rfl)
theorem dX1_alike_11 : decode cX1_alike 11 = .ok (.getfield 18, 3) := dk_180 0 18 (dk_at dksX1_alike_0 11 rfl rfl)
theorem dX1_alike_14 : decode cX1_alike 14 = .ok (.getfield 121, 3) := dk_180 0 121 (dk_at dksX1_alike_0 14 rfl rfl)
theorem dX1_alike_17 : decode cX1_alike 17 = .ok (.if_icmp .ge 24, 3) := dk_162 0 24 (dk_at dksX1_alike_0 17 rfl rfl)
theorem dX1_alike_20 : decode cX1_alike 20 = .ok (.aload_n 0, 1) := dk_42 (dk_at dksX1_alike_0 20 rfl rfl)
theorem dX1_alike_21 : decode cX1_alike 21 = .ok (.iload_n 1, 1) := dk_27 (dk_at dksX1_alike_0 21 rfl rfl)
theorem dX1_alike_22 : decode cX1_alike 22 = .ok (.iload_n 3, 1) := dk_29 (dk_at dksX1_alike_0 22 rfl rfl)
theorem dX1_alike_23 : decode cX1_alike 23 = .ok (.invokevirtual 307, 3) := dk_182 1 51 (dk_at dksX1_alike_1 0 rfl rfl)
theorem dX1_alike_26 : decode cX1_alike 26 = .ok (.ifCond .eq 9, 3) := dk_153 0 9 (dk_at dksX1_alike_1 3 rfl rfl)
theorem dX1_alike_29 : decode cX1_alike 29 = .ok (.iload_n 2, 1) := dk_28 (dk_at dksX1_alike_1 6 rfl rfl)
theorem dX1_alike_30 : decode cX1_alike 30 = .ok (.iconst 1, 1) := dk_4 (dk_at dksX1_alike_1 7 rfl rfl)
theorem dX1_alike_31 : decode cX1_alike 31 = .ok (.iload_n 3, 1) := dk_29 (dk_at dksX1_alike_1 8 rfl rfl)
theorem dX1_alike_32 : decode cX1_alike 32 = .ok (.ishl, 1) := dk_120 (dk_at dksX1_alike_1 9 rfl rfl)
theorem dX1_alike_33 : decode cX1_alike 33 = .ok (.ior, 1) := dk_128 (dk_at dksX1_alike_1 10 rfl rfl)
theorem dX1_alike_34 : decode cX1_alike 34 = .ok (.istore_n 2, 1) := dk_61 (dk_at dksX1_alike_1 11 rfl rfl)
theorem dX1_alike_35 : decode cX1_alike 35 = .ok (.iinc 3 1, 3) := dk_132 3 1 (dk_at dksX1_alike_1 12 rfl rfl)
theorem dX1_alike_38 : decode cX1_alike 38 = .ok (.goto (-29), 3) := dk_167 255 227 (dk_at dksX1_alike_1 15 rfl rfl)
theorem dX1_alike_41 : decode cX1_alike 41 = .ok (.iload_n 2, 1) := dk_28 (dk_at dksX1_alike_1 18 rfl rfl)
theorem dX1_alike_42 : decode cX1_alike 42 = .ok (.ireturn, 1) := dk_172 (dk_at dksX1_alike_1 19 rfl rfl)
abbrev cX1_areAlike : ByteArray := prog_1_method_37_code
def yX1_areAlike : MethodName := ⟨RX1, "areAlike", "(II)Z"⟩
def dkwX1_areAlike_6 : List UInt8 := [132, 3, 1, 167, 255, 158, 4, 172]
abbrev dktX1_areAlike_6 : List UInt8 := dkwX1_areAlike_6 ++ []
def dkwX1_areAlike_5 : List UInt8 := [53, 159, 0, 5, 3, 172, 132, 7, 1, 167, 255, 225, 132, 5, 1, 167, 255, 193, 132, 4, 1, 167, 255, 178]
abbrev dktX1_areAlike_5 : List UInt8 := dkwX1_areAlike_5 ++ dktX1_areAlike_6
def dkwX1_areAlike_4 : List UInt8 := [54, 7, 21, 7, 25, 6, 190, 162, 0, 29, 25, 6, 21, 7, 53, 25, 6, 21, 7, 27, 28, 184, 1, 47]
abbrev dktX1_areAlike_4 : List UInt8 := dkwX1_areAlike_4 ++ dktX1_areAlike_5
def dkwX1_areAlike_3 : List UInt8 := [21, 5, 5, 162, 0, 63, 42, 180, 0, 18, 180, 0, 176, 29, 50, 21, 4, 50, 21, 5, 50, 58, 6, 4]
abbrev dktX1_areAlike_3 : List UInt8 := dkwX1_areAlike_3 ++ dktX1_areAlike_4
def dkwX1_areAlike_2 : List UInt8 := [29, 42, 180, 0, 18, 180, 0, 118, 163, 0, 93, 3, 54, 4, 21, 4, 5, 163, 0, 78, 3, 54, 5]
abbrev dktX1_areAlike_2 : List UInt8 := dkwX1_areAlike_2 ++ dktX1_areAlike_3
def dkwX1_areAlike_1 : List UInt8 := [180, 0, 18, 180, 0, 151, 27, 46, 42, 180, 0, 18, 180, 0, 151, 28, 46, 159, 0, 5, 3, 172, 3, 62]
abbrev dktX1_areAlike_1 : List UInt8 := dkwX1_areAlike_1 ++ dktX1_areAlike_2
def dkwX1_areAlike_0 : List UInt8 := [42, 180, 0, 18, 180, 0, 148, 27, 46, 42, 180, 0, 18, 180, 0, 148, 28, 46, 160, 0, 24, 42]
abbrev dktX1_areAlike_0 : List UInt8 := dkwX1_areAlike_0 ++ dktX1_areAlike_1
theorem dksX1_areAlike_0 : cX1_areAlike.data.toList.drop 0 = dktX1_areAlike_0 := by decide +kernel
theorem dksX1_areAlike_1 : cX1_areAlike.data.toList.drop 22 = dktX1_areAlike_1 := dk_seg dksX1_areAlike_0 22 rfl rfl
theorem dksX1_areAlike_2 : cX1_areAlike.data.toList.drop 46 = dktX1_areAlike_2 := dk_seg dksX1_areAlike_1 24 rfl rfl
theorem dksX1_areAlike_3 : cX1_areAlike.data.toList.drop 69 = dktX1_areAlike_3 := dk_seg dksX1_areAlike_2 23 rfl rfl
theorem dksX1_areAlike_4 : cX1_areAlike.data.toList.drop 93 = dktX1_areAlike_4 := dk_seg dksX1_areAlike_3 24 rfl rfl
theorem dksX1_areAlike_5 : cX1_areAlike.data.toList.drop 117 = dktX1_areAlike_5 := dk_seg dksX1_areAlike_4 24 rfl rfl
theorem dksX1_areAlike_6 : cX1_areAlike.data.toList.drop 141 = dktX1_areAlike_6 := dk_seg dksX1_areAlike_5 24 rfl rfl
theorem dX1_areAlike_0 : decode cX1_areAlike 0 = .ok (.aload_n 0, 1) := dk_42 (dk_at dksX1_areAlike_0 0 rfl rfl)
theorem dX1_areAlike_1 : decode cX1_areAlike 1 = .ok (.getfield 18, 3) := dk_180 0 18 (dk_at dksX1_areAlike_0 1 rfl rfl)
theorem dX1_areAlike_4 : decode cX1_areAlike 4 = .ok (.getfield 148, 3) := dk_180 0 148 (dk_at dksX1_areAlike_0 4 rfl rfl)
theorem dX1_areAlike_7 : decode cX1_areAlike 7 = .ok (.iload_n 1, 1) := dk_27 (dk_at dksX1_areAlike_0 7 rfl rfl)
theorem dX1_areAlike_8 : decode cX1_areAlike 8 = .ok (.iaload, 1) := dk_46 (dk_at dksX1_areAlike_0 8 rfl rfl)
theorem dX1_areAlike_9 : decode cX1_areAlike 9 = .ok (.aload_n 0, 1) := dk_42 (dk_at dksX1_areAlike_0 9 rfl rfl)
theorem dX1_areAlike_10 : decode cX1_areAlike 10 = .ok (.getfield 18, 3) := dk_180 0 18 (dk_at dksX1_areAlike_0 10 rfl rfl)
theorem dX1_areAlike_13 : decode cX1_areAlike 13 = .ok (.getfield 148, 3) := dk_180 0 148 (dk_at dksX1_areAlike_0 13 rfl rfl)
theorem dX1_areAlike_16 : decode cX1_areAlike 16 = .ok (.iload_n 2, 1) := dk_28 (dk_at dksX1_areAlike_0 16 rfl rfl)
theorem dX1_areAlike_17 : decode cX1_areAlike 17 = .ok (.iaload, 1) := dk_46 (dk_at dksX1_areAlike_0 17 rfl rfl)
theorem dX1_areAlike_18 : decode cX1_areAlike 18 = .ok (.if_icmp .ne 24, 3) := dk_160 0 24 (dk_at dksX1_areAlike_0 18 rfl rfl)
theorem dX1_areAlike_21 : decode cX1_areAlike 21 = .ok (.aload_n 0, 1) := dk_42 (dk_at dksX1_areAlike_0 21 rfl rfl)
theorem dX1_areAlike_22 : decode cX1_areAlike 22 = .ok (.getfield 18, 3) := dk_180 0 18 (dk_at dksX1_areAlike_1 0 rfl rfl)
theorem dX1_areAlike_25 : decode cX1_areAlike 25 = .ok (.getfield 151, 3) := dk_180 0 151 (dk_at dksX1_areAlike_1 3 rfl rfl)
theorem dX1_areAlike_28 : decode cX1_areAlike 28 = .ok (.iload_n 1, 1) := dk_27 (dk_at dksX1_areAlike_1 6 rfl rfl)
theorem dX1_areAlike_29 : decode cX1_areAlike 29 = .ok (.iaload, 1) := dk_46 (dk_at dksX1_areAlike_1 7 rfl rfl)
theorem dX1_areAlike_30 : decode cX1_areAlike 30 = .ok (.aload_n 0, 1) := dk_42 (dk_at dksX1_areAlike_1 8 rfl rfl)
theorem dX1_areAlike_31 : decode cX1_areAlike 31 = .ok (.getfield 18, 3) := dk_180 0 18 (dk_at dksX1_areAlike_1 9 rfl rfl)
theorem dX1_areAlike_34 : decode cX1_areAlike 34 = .ok (.getfield 151, 3) := dk_180 0 151 (dk_at dksX1_areAlike_1 12 rfl rfl)
theorem dX1_areAlike_37 : decode cX1_areAlike 37 = .ok (.iload_n 2, 1) := dk_28 (dk_at dksX1_areAlike_1 15 rfl rfl)
theorem dX1_areAlike_38 : decode cX1_areAlike 38 = .ok (.iaload, 1) := dk_46 (dk_at dksX1_areAlike_1 16 rfl rfl)
theorem dX1_areAlike_39 : decode cX1_areAlike 39 = .ok (.if_icmp .eq 5, 3) := dk_159 0 5 (dk_at dksX1_areAlike_1 17 rfl rfl)
theorem dX1_areAlike_42 : decode cX1_areAlike 42 = .ok (.iconst 0, 1) := dk_3 (dk_at dksX1_areAlike_1 20 rfl rfl)
theorem dX1_areAlike_43 : decode cX1_areAlike 43 = .ok (.ireturn, 1) := dk_172 (dk_at dksX1_areAlike_1 21 rfl rfl)
theorem dX1_areAlike_44 : decode cX1_areAlike 44 = .ok (.iconst 0, 1) := dk_3 (dk_at dksX1_areAlike_1 22 rfl rfl)
theorem dX1_areAlike_45 : decode cX1_areAlike 45 = .ok (.istore_n 3, 1) := dk_62 (dk_at dksX1_areAlike_1 23 rfl rfl)
theorem dX1_areAlike_46 : decode cX1_areAlike 46 = .ok (.iload_n 3, 1) := dk_29 (dk_at dksX1_areAlike_2 0 rfl rfl)
theorem dX1_areAlike_47 : decode cX1_areAlike 47 = .ok (.aload_n 0, 1) := dk_42 (dk_at dksX1_areAlike_2 1 rfl rfl)
theorem dX1_areAlike_48 : decode cX1_areAlike 48 = .ok (.getfield 18, 3) := dk_180 0 18 (dk_at dksX1_areAlike_2 2 rfl rfl)
theorem dX1_areAlike_51 : decode cX1_areAlike 51 = .ok (.getfield 118, 3) := dk_180 0 118 (dk_at dksX1_areAlike_2 5 rfl rfl)
theorem dX1_areAlike_54 : decode cX1_areAlike 54 = .ok (.if_icmp .gt 93, 3) := dk_163 0 93 (dk_at dksX1_areAlike_2 8 rfl rfl)
theorem dX1_areAlike_57 : decode cX1_areAlike 57 = .ok (.iconst 0, 1) := dk_3 (dk_at dksX1_areAlike_2 11 rfl rfl)
theorem dX1_areAlike_58 : decode cX1_areAlike 58 = .ok (.istore 4, 2) := dk_54 4 (dk_at dksX1_areAlike_2 12 rfl rfl)
theorem dX1_areAlike_60 : decode cX1_areAlike 60 = .ok (.iload 4, 2) := dk_21 4 (dk_at dksX1_areAlike_2 14 rfl rfl)
theorem dX1_areAlike_62 : decode cX1_areAlike 62 = .ok (.iconst 2, 1) := dk_5 (dk_at dksX1_areAlike_2 16 rfl rfl)
theorem dX1_areAlike_63 : decode cX1_areAlike 63 = .ok (.if_icmp .gt 78, 3) := dk_163 0 78 (dk_at dksX1_areAlike_2 17 rfl rfl)
theorem dX1_areAlike_66 : decode cX1_areAlike 66 = .ok (.iconst 0, 1) := dk_3 (dk_at dksX1_areAlike_2 20 rfl rfl)
theorem dX1_areAlike_67 : decode cX1_areAlike 67 = .ok (.istore 5, 2) := dk_54 5 (dk_at dksX1_areAlike_2 21 rfl rfl)
theorem dX1_areAlike_69 : decode cX1_areAlike 69 = .ok (.iload 5, 2) := dk_21 5 (dk_at dksX1_areAlike_3 0 rfl rfl)
theorem dX1_areAlike_71 : decode cX1_areAlike 71 = .ok (.iconst 2, 1) := dk_5 (dk_at dksX1_areAlike_3 2 rfl rfl)
theorem dX1_areAlike_72 : decode cX1_areAlike 72 = .ok (.if_icmp .ge 63, 3) := dk_162 0 63 (dk_at dksX1_areAlike_3 3 rfl rfl)
theorem dX1_areAlike_75 : decode cX1_areAlike 75 = .ok (.aload_n 0, 1) := dk_42 (dk_at dksX1_areAlike_3 6 rfl rfl)
theorem dX1_areAlike_76 : decode cX1_areAlike 76 = .ok (.getfield 18, 3) := dk_180 0 18 (dk_at dksX1_areAlike_3 7 rfl rfl)
theorem dX1_areAlike_79 : decode cX1_areAlike 79 = .ok (.getfield 176, 3) := dk_180 0 176 (dk_at dksX1_areAlike_3 10 rfl rfl)
theorem dX1_areAlike_82 : decode cX1_areAlike 82 = .ok (.iload_n 3, 1) := dk_29 (dk_at dksX1_areAlike_3 13 rfl rfl)
theorem dX1_areAlike_83 : decode cX1_areAlike 83 = .ok (.aaload, 1) := dk_50 (dk_at dksX1_areAlike_3 14 rfl rfl)
theorem dX1_areAlike_84 : decode cX1_areAlike 84 = .ok (.iload 4, 2) := dk_21 4 (dk_at dksX1_areAlike_3 15 rfl rfl)
theorem dX1_areAlike_86 : decode cX1_areAlike 86 = .ok (.aaload, 1) := dk_50 (dk_at dksX1_areAlike_3 17 rfl rfl)
theorem dX1_areAlike_87 : decode cX1_areAlike 87 = .ok (.iload 5, 2) := dk_21 5 (dk_at dksX1_areAlike_3 18 rfl rfl)
theorem dX1_areAlike_89 : decode cX1_areAlike 89 = .ok (.aaload, 1) := dk_50 (dk_at dksX1_areAlike_3 20 rfl rfl)
theorem dX1_areAlike_90 : decode cX1_areAlike 90 = .ok (.astore 6, 2) := dk_58 6 (dk_at dksX1_areAlike_3 21 rfl rfl)
theorem dX1_areAlike_92 : decode cX1_areAlike 92 = .ok (.iconst 1, 1) := dk_4 (dk_at dksX1_areAlike_3 23 rfl rfl)
theorem dX1_areAlike_93 : decode cX1_areAlike 93 = .ok (.istore 7, 2) := dk_54 7 (dk_at dksX1_areAlike_4 0 rfl rfl)
theorem dX1_areAlike_95 : decode cX1_areAlike 95 = .ok (.iload 7, 2) := dk_21 7 (dk_at dksX1_areAlike_4 2 rfl rfl)
theorem dX1_areAlike_97 : decode cX1_areAlike 97 = .ok (.aload 6, 2) := dk_25 6 (dk_at dksX1_areAlike_4 4 rfl rfl)
theorem dX1_areAlike_99 : decode cX1_areAlike 99 = .ok (.arraylength, 1) := dk_190 (dk_at dksX1_areAlike_4 6 rfl rfl)
theorem dX1_areAlike_100 : decode cX1_areAlike 100 = .ok (.if_icmp .ge 29, 3) := dk_162 0 29 (dk_at dksX1_areAlike_4 7 rfl rfl)
theorem dX1_areAlike_103 : decode cX1_areAlike 103 = .ok (.aload 6, 2) := dk_25 6 (dk_at dksX1_areAlike_4 10 rfl rfl)
theorem dX1_areAlike_105 : decode cX1_areAlike 105 = .ok (.iload 7, 2) := dk_21 7 (dk_at dksX1_areAlike_4 12 rfl rfl)
theorem dX1_areAlike_107 : decode cX1_areAlike 107 = .ok (.saload, 1) := dk_53 (dk_at dksX1_areAlike_4 14 rfl rfl)
theorem dX1_areAlike_108 : decode cX1_areAlike 108 = .ok (.aload 6, 2) := dk_25 6 (dk_at dksX1_areAlike_4 15 rfl rfl)
theorem dX1_areAlike_110 : decode cX1_areAlike 110 = .ok (.iload 7, 2) := dk_21 7 (dk_at dksX1_areAlike_4 17 rfl rfl)
theorem dX1_areAlike_112 : decode cX1_areAlike 112 = .ok (.iload_n 1, 1) := dk_27 (dk_at dksX1_areAlike_4 19 rfl rfl)
theorem dX1_areAlike_113 : decode cX1_areAlike 113 = .ok (.iload_n 2, 1) := dk_28 (dk_at dksX1_areAlike_4 20 rfl rfl)
theorem dX1_areAlike_114 : decode cX1_areAlike 114 = .ok (.invokestatic 303, 3) := dk_184 1 47 (dk_at dksX1_areAlike_4 21 rfl rfl)
theorem dX1_areAlike_117 : decode cX1_areAlike 117 = .ok (.saload, 1) := dk_53 (dk_at dksX1_areAlike_5 0 rfl rfl)
theorem dX1_areAlike_118 : decode cX1_areAlike 118 = .ok (.if_icmp .eq 5, 3) := dk_159 0 5 (dk_at dksX1_areAlike_5 1 rfl rfl)
theorem dX1_areAlike_121 : decode cX1_areAlike 121 = .ok (.iconst 0, 1) := dk_3 (dk_at dksX1_areAlike_5 4 rfl rfl)
theorem dX1_areAlike_122 : decode cX1_areAlike 122 = .ok (.ireturn, 1) := dk_172 (dk_at dksX1_areAlike_5 5 rfl rfl)
theorem dX1_areAlike_123 : decode cX1_areAlike 123 = .ok (.iinc 7 1, 3) := dk_132 7 1 (dk_at dksX1_areAlike_5 6 rfl rfl)
theorem dX1_areAlike_126 : decode cX1_areAlike 126 = .ok (.goto (-31), 3) := dk_167 255 225 (dk_at dksX1_areAlike_5 9 rfl rfl)
theorem dX1_areAlike_129 : decode cX1_areAlike 129 = .ok (.iinc 5 1, 3) := dk_132 5 1 (dk_at dksX1_areAlike_5 12 rfl rfl)
theorem dX1_areAlike_132 : decode cX1_areAlike 132 = .ok (.goto (-63), 3) := dk_167 255 193 (dk_at dksX1_areAlike_5 15 rfl rfl)
theorem dX1_areAlike_135 : decode cX1_areAlike 135 = .ok (.iinc 4 1, 3) := dk_132 4 1 (dk_at dksX1_areAlike_5 18 rfl rfl)
theorem dX1_areAlike_138 : decode cX1_areAlike 138 = .ok (.goto (-78), 3) := dk_167 255 178 (dk_at dksX1_areAlike_5 21 rfl rfl)
theorem dX1_areAlike_141 : decode cX1_areAlike 141 = .ok (.iinc 3 1, 3) := dk_132 3 1 (dk_at dksX1_areAlike_6 0 rfl rfl)
theorem dX1_areAlike_144 : decode cX1_areAlike 144 = .ok (.goto (-98), 3) := dk_167 255 158 (dk_at dksX1_areAlike_6 3 rfl rfl)
theorem dX1_areAlike_147 : decode cX1_areAlike 147 = .ok (.iconst 1, 1) := dk_4 (dk_at dksX1_areAlike_6 6 rfl rfl)
theorem dX1_areAlike_148 : decode cX1_areAlike 148 = .ok (.ireturn, 1) := dk_172 (dk_at dksX1_areAlike_6 7 rfl rfl)
abbrev cX1_exchanged : ByteArray := prog_1_method_36_code
def yX1_exchanged : MethodName := ⟨RX1, "exchanged", "(III)I"⟩
def dkwX1_exchanged_1 : List UInt8 := [130, 126, 21, 4, 27, 120, 128, 29, 28, 120, 128, 172]
abbrev dktX1_exchanged_1 : List UInt8 := dkwX1_exchanged_1 ++ []
def dkwX1_exchanged_0 : List UInt8 := [26, 27, 122, 4, 126, 62, 26, 28, 122, 4, 126, 54, 4, 26, 4, 27, 120, 2, 130, 126, 4, 28, 120, 2]
abbrev dktX1_exchanged_0 : List UInt8 := dkwX1_exchanged_0 ++ dktX1_exchanged_1
theorem dksX1_exchanged_0 : cX1_exchanged.data.toList.drop 0 = dktX1_exchanged_0 := by decide +kernel
theorem dksX1_exchanged_1 : cX1_exchanged.data.toList.drop 24 = dktX1_exchanged_1 := dk_seg dksX1_exchanged_0 24 rfl rfl
theorem dX1_exchanged_0 : decode cX1_exchanged 0 = .ok (.iload_n 0, 1) := dk_26 (dk_at dksX1_exchanged_0 0 rfl rfl)
theorem dX1_exchanged_1 : decode cX1_exchanged 1 = .ok (.iload_n 1, 1) := dk_27 (dk_at dksX1_exchanged_0 1 rfl rfl)
theorem dX1_exchanged_2 : decode cX1_exchanged 2 = .ok (.ishr, 1) := dk_122 (dk_at dksX1_exchanged_0 2 rfl rfl)
theorem dX1_exchanged_3 : decode cX1_exchanged 3 = .ok (.iconst 1, 1) := dk_4 (dk_at dksX1_exchanged_0 3 rfl rfl)
theorem dX1_exchanged_4 : decode cX1_exchanged 4 = .ok (.iand, 1) := dk_126 (dk_at dksX1_exchanged_0 4 rfl rfl)
theorem dX1_exchanged_5 : decode cX1_exchanged 5 = .ok (.istore_n 3, 1) := dk_62 (dk_at dksX1_exchanged_0 5 rfl rfl)
theorem dX1_exchanged_6 : decode cX1_exchanged 6 = .ok (.iload_n 0, 1) := dk_26 (dk_at dksX1_exchanged_0 6 rfl rfl)
theorem dX1_exchanged_7 : decode cX1_exchanged 7 = .ok (.iload_n 2, 1) := dk_28 (dk_at dksX1_exchanged_0 7 rfl rfl)
theorem dX1_exchanged_8 : decode cX1_exchanged 8 = .ok (.ishr, 1) := dk_122 (dk_at dksX1_exchanged_0 8 rfl rfl)
theorem dX1_exchanged_9 : decode cX1_exchanged 9 = .ok (.iconst 1, 1) := dk_4 (dk_at dksX1_exchanged_0 9 rfl rfl)
theorem dX1_exchanged_10 : decode cX1_exchanged 10 = .ok (.iand, 1) := dk_126 (dk_at dksX1_exchanged_0 10 rfl rfl)
theorem dX1_exchanged_11 : decode cX1_exchanged 11 = .ok (.istore 4, 2) := dk_54 4 (dk_at dksX1_exchanged_0 11 rfl rfl)
theorem dX1_exchanged_13 : decode cX1_exchanged 13 = .ok (.iload_n 0, 1) := dk_26 (dk_at dksX1_exchanged_0 13 rfl rfl)
theorem dX1_exchanged_14 : decode cX1_exchanged 14 = .ok (.iconst 1, 1) := dk_4 (dk_at dksX1_exchanged_0 14 rfl rfl)
theorem dX1_exchanged_15 : decode cX1_exchanged 15 = .ok (.iload_n 1, 1) := dk_27 (dk_at dksX1_exchanged_0 15 rfl rfl)
theorem dX1_exchanged_16 : decode cX1_exchanged 16 = .ok (.ishl, 1) := dk_120 (dk_at dksX1_exchanged_0 16 rfl rfl)
theorem dX1_exchanged_17 : decode cX1_exchanged 17 = .ok (.iconst (-1), 1) := dk_2 (dk_at dksX1_exchanged_0 17 rfl rfl)
theorem dX1_exchanged_18 : decode cX1_exchanged 18 = .ok (.ixor, 1) := dk_130 (dk_at dksX1_exchanged_0 18 rfl rfl)
theorem dX1_exchanged_19 : decode cX1_exchanged 19 = .ok (.iand, 1) := dk_126 (dk_at dksX1_exchanged_0 19 rfl rfl)
theorem dX1_exchanged_20 : decode cX1_exchanged 20 = .ok (.iconst 1, 1) := dk_4 (dk_at dksX1_exchanged_0 20 rfl rfl)
theorem dX1_exchanged_21 : decode cX1_exchanged 21 = .ok (.iload_n 2, 1) := dk_28 (dk_at dksX1_exchanged_0 21 rfl rfl)
theorem dX1_exchanged_22 : decode cX1_exchanged 22 = .ok (.ishl, 1) := dk_120 (dk_at dksX1_exchanged_0 22 rfl rfl)
theorem dX1_exchanged_23 : decode cX1_exchanged 23 = .ok (.iconst (-1), 1) := dk_2 (dk_at dksX1_exchanged_0 23 rfl rfl)
theorem dX1_exchanged_24 : decode cX1_exchanged 24 = .ok (.ixor, 1) := dk_130 (dk_at dksX1_exchanged_1 0 rfl rfl)
theorem dX1_exchanged_25 : decode cX1_exchanged 25 = .ok (.iand, 1) := dk_126 (dk_at dksX1_exchanged_1 1 rfl rfl)
theorem dX1_exchanged_26 : decode cX1_exchanged 26 = .ok (.iload 4, 2) := dk_21 4 (dk_at dksX1_exchanged_1 2 rfl rfl)
theorem dX1_exchanged_28 : decode cX1_exchanged 28 = .ok (.iload_n 1, 1) := dk_27 (dk_at dksX1_exchanged_1 4 rfl rfl)
theorem dX1_exchanged_29 : decode cX1_exchanged 29 = .ok (.ishl, 1) := dk_120 (dk_at dksX1_exchanged_1 5 rfl rfl)
theorem dX1_exchanged_30 : decode cX1_exchanged 30 = .ok (.ior, 1) := dk_128 (dk_at dksX1_exchanged_1 6 rfl rfl)
theorem dX1_exchanged_31 : decode cX1_exchanged 31 = .ok (.iload_n 3, 1) := dk_29 (dk_at dksX1_exchanged_1 7 rfl rfl)
theorem dX1_exchanged_32 : decode cX1_exchanged 32 = .ok (.iload_n 2, 1) := dk_28 (dk_at dksX1_exchanged_1 8 rfl rfl)
theorem dX1_exchanged_33 : decode cX1_exchanged 33 = .ok (.ishl, 1) := dk_120 (dk_at dksX1_exchanged_1 9 rfl rfl)
theorem dX1_exchanged_34 : decode cX1_exchanged 34 = .ok (.ior, 1) := dk_128 (dk_at dksX1_exchanged_1 10 rfl rfl)
theorem dX1_exchanged_35 : decode cX1_exchanged 35 = .ok (.ireturn, 1) := dk_172 (dk_at dksX1_exchanged_1 11 rfl rfl)
abbrev cX1_play : ByteArray := prog_1_method_42_code
def yX1_play : MethodName := ⟨RX1, "play", "(I)I"⟩
def dkwX1_play_7 : List UInt8 := [180, 0, 61, 27, 16, 8, 100, 182, 1, 5, 172]
abbrev dktX1_play_7 : List UInt8 := dkwX1_play_7 ++ []
def dkwX1_play_6 : List UInt8 := [7, 100, 46, 172, 27, 16, 8, 16, 7, 42, 180, 0, 18, 180, 0, 121, 96, 184, 0, 137, 184, 0, 141, 42]
abbrev dktX1_play_6 : List UInt8 := dkwX1_play_6 ++ dktX1_play_7
def dkwX1_play_5 : List UInt8 := [185, 0, 127, 1, 0, 162, 0, 7, 4, 167, 0, 4, 3, 184, 0, 141, 42, 180, 0, 61, 180, 1, 80, 27]
abbrev dktX1_play_5 : List UInt8 := dkwX1_play_5 ++ dktX1_play_6
def dkwX1_play_4 : List UInt8 := [172, 27, 7, 159, 0, 8, 27, 8, 160, 0, 41, 27, 7, 100, 42, 180, 0, 18, 180, 0, 124]
abbrev dktX1_play_4 : List UInt8 := dkwX1_play_4 ++ dktX1_play_5
def dkwX1_play_3 : List UInt8 := [182, 1, 74, 153, 0, 7, 4, 167, 0, 4, 3, 172, 27, 5, 160, 0, 11, 42, 180, 0, 61, 180, 1, 77]
abbrev dktX1_play_3 : List UInt8 := dkwX1_play_3 ++ dktX1_play_4
def dkwX1_play_2 : List UInt8 := [182, 0, 245, 96, 61, 132, 3, 1, 167, 255, 211, 28, 172, 27, 4, 160, 0, 19, 42, 180, 0, 61]
abbrev dktX1_play_2 : List UInt8 := dkwX1_play_2 ++ dktX1_play_3
def dkwX1_play_1 : List UInt8 := [180, 0, 18, 42, 180, 0, 43, 29, 185, 0, 157, 2, 0, 192, 0, 219, 182, 0, 231, 184, 0, 241]
abbrev dktX1_play_1 : List UInt8 := dkwX1_play_1 ++ dktX1_play_2
def dkwX1_play_0 : List UInt8 := [27, 154, 0, 57, 3, 61, 3, 62, 29, 42, 180, 0, 43, 185, 0, 127, 1, 0, 162, 0, 38, 28, 42]
abbrev dktX1_play_0 : List UInt8 := dkwX1_play_0 ++ dktX1_play_1
theorem dksX1_play_0 : cX1_play.data.toList.drop 0 = dktX1_play_0 := by decide +kernel
theorem dksX1_play_1 : cX1_play.data.toList.drop 23 = dktX1_play_1 := dk_seg dksX1_play_0 23 rfl rfl
theorem dksX1_play_2 : cX1_play.data.toList.drop 45 = dktX1_play_2 := dk_seg dksX1_play_1 22 rfl rfl
theorem dksX1_play_3 : cX1_play.data.toList.drop 67 = dktX1_play_3 := dk_seg dksX1_play_2 22 rfl rfl
theorem dksX1_play_4 : cX1_play.data.toList.drop 91 = dktX1_play_4 := dk_seg dksX1_play_3 24 rfl rfl
theorem dksX1_play_5 : cX1_play.data.toList.drop 112 = dktX1_play_5 := dk_seg dksX1_play_4 21 rfl rfl
theorem dksX1_play_6 : cX1_play.data.toList.drop 136 = dktX1_play_6 := dk_seg dksX1_play_5 24 rfl rfl
theorem dksX1_play_7 : cX1_play.data.toList.drop 160 = dktX1_play_7 := dk_seg dksX1_play_6 24 rfl rfl
theorem dX1_play_0 : decode cX1_play 0 = .ok (.iload_n 1, 1) := dk_27 (dk_at dksX1_play_0 0 rfl rfl)
theorem dX1_play_1 : decode cX1_play 1 = .ok (.ifCond .ne 57, 3) := dk_154 0 57 (dk_at dksX1_play_0 1 rfl rfl)
theorem dX1_play_4 : decode cX1_play 4 = .ok (.iconst 0, 1) := dk_3 (dk_at dksX1_play_0 4 rfl rfl)
theorem dX1_play_5 : decode cX1_play 5 = .ok (.istore_n 2, 1) := dk_61 (dk_at dksX1_play_0 5 rfl rfl)
theorem dX1_play_6 : decode cX1_play 6 = .ok (.iconst 0, 1) := dk_3 (dk_at dksX1_play_0 6 rfl rfl)
theorem dX1_play_7 : decode cX1_play 7 = .ok (.istore_n 3, 1) := dk_62 (dk_at dksX1_play_0 7 rfl rfl)
theorem dX1_play_8 : decode cX1_play 8 = .ok (.iload_n 3, 1) := dk_29 (dk_at dksX1_play_0 8 rfl rfl)
theorem dX1_play_9 : decode cX1_play 9 = .ok (.aload_n 0, 1) := dk_42 (dk_at dksX1_play_0 9 rfl rfl)
theorem dX1_play_10 : decode cX1_play 10 = .ok (.getfield 43, 3) := dk_180 0 43 (dk_at dksX1_play_0 10 rfl rfl)
theorem dX1_play_13 : decode cX1_play 13 = .ok (.invokeinterface 127 1, 5) := by decide +kernel
theorem dX1_play_18 : decode cX1_play 18 = .ok (.if_icmp .ge 38, 3) := dk_162 0 38 (dk_at dksX1_play_0 18 rfl rfl)
theorem dX1_play_21 : decode cX1_play 21 = .ok (.iload_n 2, 1) := dk_28 (dk_at dksX1_play_0 21 rfl rfl)
theorem dX1_play_22 : decode cX1_play 22 = .ok (.aload_n 0, 1) := dk_42 (dk_at dksX1_play_0 22 rfl rfl)
theorem dX1_play_23 : decode cX1_play 23 = .ok (.getfield 18, 3) := dk_180 0 18 (dk_at dksX1_play_1 0 rfl rfl)
theorem dX1_play_26 : decode cX1_play 26 = .ok (.aload_n 0, 1) := dk_42 (dk_at dksX1_play_1 3 rfl rfl)
theorem dX1_play_27 : decode cX1_play 27 = .ok (.getfield 43, 3) := dk_180 0 43 (dk_at dksX1_play_1 4 rfl rfl)
theorem dX1_play_30 : decode cX1_play 30 = .ok (.iload_n 3, 1) := dk_29 (dk_at dksX1_play_1 7 rfl rfl)
theorem dX1_play_31 : decode cX1_play 31 = .ok (.invokeinterface 157 2, 5) := by decide +kernel
theorem dX1_play_36 : decode cX1_play 36 = .ok (.checkcast 219, 3) := dk_192 0 219 (dk_at dksX1_play_1 13 rfl rfl)
theorem dX1_play_39 : decode cX1_play 39 = .ok (.invokevirtual 231, 3) := dk_182 0 231 (dk_at dksX1_play_1 16 rfl rfl)
theorem dX1_play_42 : decode cX1_play 42 = .ok (.invokestatic 241, 3) := dk_184 0 241 (dk_at dksX1_play_1 19 rfl rfl)
theorem dX1_play_45 : decode cX1_play 45 = .ok (.invokevirtual 245, 3) := dk_182 0 245 (dk_at dksX1_play_2 0 rfl rfl)
theorem dX1_play_48 : decode cX1_play 48 = .ok (.iadd, 1) := dk_96 (dk_at dksX1_play_2 3 rfl rfl)
theorem dX1_play_49 : decode cX1_play 49 = .ok (.istore_n 2, 1) := dk_61 (dk_at dksX1_play_2 4 rfl rfl)
theorem dX1_play_50 : decode cX1_play 50 = .ok (.iinc 3 1, 3) := dk_132 3 1 (dk_at dksX1_play_2 5 rfl rfl)
theorem dX1_play_53 : decode cX1_play 53 = .ok (.goto (-45), 3) := dk_167 255 211 (dk_at dksX1_play_2 8 rfl rfl)
theorem dX1_play_56 : decode cX1_play 56 = .ok (.iload_n 2, 1) := dk_28 (dk_at dksX1_play_2 11 rfl rfl)
theorem dX1_play_57 : decode cX1_play 57 = .ok (.ireturn, 1) := dk_172 (dk_at dksX1_play_2 12 rfl rfl)
theorem dX1_play_58 : decode cX1_play 58 = .ok (.iload_n 1, 1) := dk_27 (dk_at dksX1_play_2 13 rfl rfl)
theorem dX1_play_59 : decode cX1_play 59 = .ok (.iconst 1, 1) := dk_4 (dk_at dksX1_play_2 14 rfl rfl)
theorem dX1_play_60 : decode cX1_play 60 = .ok (.if_icmp .ne 19, 3) := dk_160 0 19 (dk_at dksX1_play_2 15 rfl rfl)
theorem dX1_play_63 : decode cX1_play 63 = .ok (.aload_n 0, 1) := dk_42 (dk_at dksX1_play_2 18 rfl rfl)
theorem dX1_play_64 : decode cX1_play 64 = .ok (.getfield 61, 3) := dk_180 0 61 (dk_at dksX1_play_2 19 rfl rfl)
theorem dX1_play_67 : decode cX1_play 67 = .ok (.invokevirtual 330, 3) := dk_182 1 74 (dk_at dksX1_play_3 0 rfl rfl)
theorem dX1_play_70 : decode cX1_play 70 = .ok (.ifCond .eq 7, 3) := dk_153 0 7 (dk_at dksX1_play_3 3 rfl rfl)
theorem dX1_play_73 : decode cX1_play 73 = .ok (.iconst 1, 1) := dk_4 (dk_at dksX1_play_3 6 rfl rfl)
theorem dX1_play_74 : decode cX1_play 74 = .ok (.goto 4, 3) := dk_167 0 4 (dk_at dksX1_play_3 7 rfl rfl)
theorem dX1_play_77 : decode cX1_play 77 = .ok (.iconst 0, 1) := dk_3 (dk_at dksX1_play_3 10 rfl rfl)
theorem dX1_play_78 : decode cX1_play 78 = .ok (.ireturn, 1) := dk_172 (dk_at dksX1_play_3 11 rfl rfl)
theorem dX1_play_79 : decode cX1_play 79 = .ok (.iload_n 1, 1) := dk_27 (dk_at dksX1_play_3 12 rfl rfl)
theorem dX1_play_80 : decode cX1_play 80 = .ok (.iconst 2, 1) := dk_5 (dk_at dksX1_play_3 13 rfl rfl)
theorem dX1_play_81 : decode cX1_play 81 = .ok (.if_icmp .ne 11, 3) := dk_160 0 11 (dk_at dksX1_play_3 14 rfl rfl)
theorem dX1_play_84 : decode cX1_play 84 = .ok (.aload_n 0, 1) := dk_42 (dk_at dksX1_play_3 17 rfl rfl)
theorem dX1_play_85 : decode cX1_play 85 = .ok (.getfield 61, 3) := dk_180 0 61 (dk_at dksX1_play_3 18 rfl rfl)
theorem dX1_play_88 : decode cX1_play 88 = .ok (.getfield 333, 3) := dk_180 1 77 (dk_at dksX1_play_3 21 rfl rfl)
theorem dX1_play_91 : decode cX1_play 91 = .ok (.ireturn, 1) := dk_172 (dk_at dksX1_play_4 0 rfl rfl)
theorem dX1_play_92 : decode cX1_play 92 = .ok (.iload_n 1, 1) := dk_27 (dk_at dksX1_play_4 1 rfl rfl)
theorem dX1_play_93 : decode cX1_play 93 = .ok (.iconst 4, 1) := dk_7 (dk_at dksX1_play_4 2 rfl rfl)
theorem dX1_play_94 : decode cX1_play 94 = .ok (.if_icmp .eq 8, 3) := dk_159 0 8 (dk_at dksX1_play_4 3 rfl rfl)
theorem dX1_play_97 : decode cX1_play 97 = .ok (.iload_n 1, 1) := dk_27 (dk_at dksX1_play_4 6 rfl rfl)
theorem dX1_play_98 : decode cX1_play 98 = .ok (.iconst 5, 1) := dk_8 (dk_at dksX1_play_4 7 rfl rfl)
theorem dX1_play_99 : decode cX1_play 99 = .ok (.if_icmp .ne 41, 3) := dk_160 0 41 (dk_at dksX1_play_4 8 rfl rfl)
theorem dX1_play_102 : decode cX1_play 102 = .ok (.iload_n 1, 1) := dk_27 (dk_at dksX1_play_4 11 rfl rfl)
theorem dX1_play_103 : decode cX1_play 103 = .ok (.iconst 4, 1) := dk_7 (dk_at dksX1_play_4 12 rfl rfl)
theorem dX1_play_104 : decode cX1_play 104 = .ok (.isub, 1) := dk_100 (dk_at dksX1_play_4 13 rfl rfl)
theorem dX1_play_105 : decode cX1_play 105 = .ok (.aload_n 0, 1) := dk_42 (dk_at dksX1_play_4 14 rfl rfl)
theorem dX1_play_106 : decode cX1_play 106 = .ok (.getfield 18, 3) := dk_180 0 18 (dk_at dksX1_play_4 15 rfl rfl)
theorem dX1_play_109 : decode cX1_play 109 = .ok (.getfield 124, 3) := dk_180 0 124 (dk_at dksX1_play_4 18 rfl rfl)
theorem dX1_play_112 : decode cX1_play 112 = .ok (.invokeinterface 127 1, 5) := by decide +kernel
theorem dX1_play_117 : decode cX1_play 117 = .ok (.if_icmp .ge 7, 3) := dk_162 0 7 (dk_at dksX1_play_5 5 rfl rfl)
theorem dX1_play_120 : decode cX1_play 120 = .ok (.iconst 1, 1) := dk_4 (dk_at dksX1_play_5 8 rfl rfl)
theorem dX1_play_121 : decode cX1_play 121 = .ok (.goto 4, 3) := dk_167 0 4 (dk_at dksX1_play_5 9 rfl rfl)
theorem dX1_play_124 : decode cX1_play 124 = .ok (.iconst 0, 1) := dk_3 (dk_at dksX1_play_5 12 rfl rfl)
theorem dX1_play_125 : decode cX1_play 125 = .ok (.invokestatic 141, 3) := dk_184 0 141 (dk_at dksX1_play_5 13 rfl rfl)
theorem dX1_play_128 : decode cX1_play 128 = .ok (.aload_n 0, 1) := dk_42 (dk_at dksX1_play_5 16 rfl rfl)
theorem dX1_play_129 : decode cX1_play 129 = .ok (.getfield 61, 3) := dk_180 0 61 (dk_at dksX1_play_5 17 rfl rfl)
theorem dX1_play_132 : decode cX1_play 132 = .ok (.getfield 336, 3) := dk_180 1 80 (dk_at dksX1_play_5 20 rfl rfl)
theorem dX1_play_135 : decode cX1_play 135 = .ok (.iload_n 1, 1) := dk_27 (dk_at dksX1_play_5 23 rfl rfl)
theorem dX1_play_136 : decode cX1_play 136 = .ok (.iconst 4, 1) := dk_7 (dk_at dksX1_play_6 0 rfl rfl)
theorem dX1_play_137 : decode cX1_play 137 = .ok (.isub, 1) := dk_100 (dk_at dksX1_play_6 1 rfl rfl)
theorem dX1_play_138 : decode cX1_play 138 = .ok (.iaload, 1) := dk_46 (dk_at dksX1_play_6 2 rfl rfl)
theorem dX1_play_139 : decode cX1_play 139 = .ok (.ireturn, 1) := dk_172 (dk_at dksX1_play_6 3 rfl rfl)
theorem dX1_play_140 : decode cX1_play 140 = .ok (.iload_n 1, 1) := dk_27 (dk_at dksX1_play_6 4 rfl rfl)
theorem dX1_play_141 : decode cX1_play 141 = .ok (.bipush 8, 2) := dk_16 8 (dk_at dksX1_play_6 5 rfl rfl)
theorem dX1_play_143 : decode cX1_play 143 = .ok (.bipush 7, 2) := dk_16 7 (dk_at dksX1_play_6 7 rfl rfl)
theorem dX1_play_145 : decode cX1_play 145 = .ok (.aload_n 0, 1) := dk_42 (dk_at dksX1_play_6 9 rfl rfl)
theorem dX1_play_146 : decode cX1_play 146 = .ok (.getfield 18, 3) := dk_180 0 18 (dk_at dksX1_play_6 10 rfl rfl)
theorem dX1_play_149 : decode cX1_play 149 = .ok (.getfield 121, 3) := dk_180 0 121 (dk_at dksX1_play_6 13 rfl rfl)
theorem dX1_play_152 : decode cX1_play 152 = .ok (.iadd, 1) := dk_96 (dk_at dksX1_play_6 16 rfl rfl)
theorem dX1_play_153 : decode cX1_play 153 = .ok (.invokestatic 137, 3) := dk_184 0 137 (dk_at dksX1_play_6 17 rfl rfl)
theorem dX1_play_156 : decode cX1_play 156 = .ok (.invokestatic 141, 3) := dk_184 0 141 (dk_at dksX1_play_6 20 rfl rfl)
theorem dX1_play_159 : decode cX1_play 159 = .ok (.aload_n 0, 1) := dk_42 (dk_at dksX1_play_6 23 rfl rfl)
theorem dX1_play_160 : decode cX1_play 160 = .ok (.getfield 61, 3) := dk_180 0 61 (dk_at dksX1_play_7 0 rfl rfl)
theorem dX1_play_163 : decode cX1_play 163 = .ok (.iload_n 1, 1) := dk_27 (dk_at dksX1_play_7 3 rfl rfl)
theorem dX1_play_164 : decode cX1_play 164 = .ok (.bipush 8, 2) := dk_16 8 (dk_at dksX1_play_7 4 rfl rfl)
theorem dX1_play_166 : decode cX1_play 166 = .ok (.isub, 1) := dk_100 (dk_at dksX1_play_7 6 rfl rfl)
theorem dX1_play_167 : decode cX1_play 167 = .ok (.invokevirtual 261, 3) := dk_182 1 5 (dk_at dksX1_play_7 7 rfl rfl)
theorem dX1_play_170 : decode cX1_play 170 = .ok (.ireturn, 1) := dk_172 (dk_at dksX1_play_7 10 rfl rfl)
abbrev cX1_hint : ByteArray := prog_1_method_43_code
def yX1_hint : MethodName := ⟨RX1, "hint", "(I)I"⟩
def dkwX1_hint_4 : List UInt8 := [21, 5, 184, 0, 251, 167, 0, 8, 21, 5, 184, 0, 241, 172]
abbrev dktX1_hint_4 : List UInt8 := dkwX1_hint_4 ++ []
def dkwX1_hint_3 : List UInt8 := [182, 0, 211, 46, 54, 5, 27, 4, 160, 0, 11, 21, 5, 184, 0, 248, 167, 0, 21, 27, 5, 160, 0, 11]
abbrev dktX1_hint_3 : List UInt8 := dkwX1_hint_3 ++ dktX1_hint_4
def dkwX1_hint_2 : List UInt8 := [159, 0, 7, 27, 154, 0, 6, 21, 4, 172, 21, 4, 154, 0, 5, 2, 172, 44, 180, 0, 215, 44, 29, 3]
abbrev dktX1_hint_2 : List UInt8 := dkwX1_hint_2 ++ dktX1_hint_3
def dkwX1_hint_1 : List UInt8 := [44, 42, 180, 0, 61, 182, 1, 59, 182, 1, 83, 62, 44, 182, 0, 204, 29, 46, 54, 4, 21, 4, 2]
abbrev dktX1_hint_1 : List UInt8 := dkwX1_hint_1 ++ dktX1_hint_2
def dkwX1_hint_0 : List UInt8 := [27, 3, 6, 184, 0, 137, 184, 0, 141, 42, 182, 0, 183, 77, 44, 180, 0, 186, 153, 0, 6, 16, 254, 172]
abbrev dktX1_hint_0 : List UInt8 := dkwX1_hint_0 ++ dktX1_hint_1
theorem dksX1_hint_0 : cX1_hint.data.toList.drop 0 = dktX1_hint_0 := by decide +kernel
theorem dksX1_hint_1 : cX1_hint.data.toList.drop 24 = dktX1_hint_1 := dk_seg dksX1_hint_0 24 rfl rfl
theorem dksX1_hint_2 : cX1_hint.data.toList.drop 47 = dktX1_hint_2 := dk_seg dksX1_hint_1 23 rfl rfl
theorem dksX1_hint_3 : cX1_hint.data.toList.drop 71 = dktX1_hint_3 := dk_seg dksX1_hint_2 24 rfl rfl
theorem dksX1_hint_4 : cX1_hint.data.toList.drop 95 = dktX1_hint_4 := dk_seg dksX1_hint_3 24 rfl rfl
theorem dX1_hint_0 : decode cX1_hint 0 = .ok (.iload_n 1, 1) := dk_27 (dk_at dksX1_hint_0 0 rfl rfl)
theorem dX1_hint_1 : decode cX1_hint 1 = .ok (.iconst 0, 1) := dk_3 (dk_at dksX1_hint_0 1 rfl rfl)
theorem dX1_hint_2 : decode cX1_hint 2 = .ok (.iconst 3, 1) := dk_6 (dk_at dksX1_hint_0 2 rfl rfl)
theorem dX1_hint_3 : decode cX1_hint 3 = .ok (.invokestatic 137, 3) := dk_184 0 137 (dk_at dksX1_hint_0 3 rfl rfl)
theorem dX1_hint_6 : decode cX1_hint 6 = .ok (.invokestatic 141, 3) := dk_184 0 141 (dk_at dksX1_hint_0 6 rfl rfl)
theorem dX1_hint_9 : decode cX1_hint 9 = .ok (.aload_n 0, 1) := dk_42 (dk_at dksX1_hint_0 9 rfl rfl)
theorem dX1_hint_10 : decode cX1_hint 10 = .ok (.invokevirtual 183, 3) := dk_182 0 183 (dk_at dksX1_hint_0 10 rfl rfl)
theorem dX1_hint_13 : decode cX1_hint 13 = .ok (.astore_n 2, 1) := dk_77 (dk_at dksX1_hint_0 13 rfl rfl)
theorem dX1_hint_14 : decode cX1_hint 14 = .ok (.aload_n 2, 1) := dk_44 (dk_at dksX1_hint_0 14 rfl rfl)
theorem dX1_hint_15 : decode cX1_hint 15 = .ok (.getfield 186, 3) := dk_180 0 186 (dk_at dksX1_hint_0 15 rfl rfl)
theorem dX1_hint_18 : decode cX1_hint 18 = .ok (.ifCond .eq 6, 3) := dk_153 0 6 (dk_at dksX1_hint_0 18 rfl rfl)
theorem dX1_hint_21 : decode cX1_hint 21 = .ok (.bipush (-2), 2) := dk_16 254 (dk_at dksX1_hint_0 21 rfl rfl)
theorem dX1_hint_23 : decode cX1_hint 23 = .ok (.ireturn, 1) := dk_172 (dk_at dksX1_hint_0 23 rfl rfl)
theorem dX1_hint_24 : decode cX1_hint 24 = .ok (.aload_n 2, 1) := dk_44 (dk_at dksX1_hint_1 0 rfl rfl)
theorem dX1_hint_25 : decode cX1_hint 25 = .ok (.aload_n 0, 1) := dk_42 (dk_at dksX1_hint_1 1 rfl rfl)
theorem dX1_hint_26 : decode cX1_hint 26 = .ok (.getfield 61, 3) := dk_180 0 61 (dk_at dksX1_hint_1 2 rfl rfl)
theorem dX1_hint_29 : decode cX1_hint 29 = .ok (.invokevirtual 315, 3) := dk_182 1 59 (dk_at dksX1_hint_1 5 rfl rfl)
theorem dX1_hint_32 : decode cX1_hint 32 = .ok (.invokevirtual 339, 3) := dk_182 1 83 (dk_at dksX1_hint_1 8 rfl rfl)
theorem dX1_hint_35 : decode cX1_hint 35 = .ok (.istore_n 3, 1) := dk_62 (dk_at dksX1_hint_1 11 rfl rfl)
theorem dX1_hint_36 : decode cX1_hint 36 = .ok (.aload_n 2, 1) := dk_44 (dk_at dksX1_hint_1 12 rfl rfl)
theorem dX1_hint_37 : decode cX1_hint 37 = .ok (.invokevirtual 204, 3) := dk_182 0 204 (dk_at dksX1_hint_1 13 rfl rfl)
theorem dX1_hint_40 : decode cX1_hint 40 = .ok (.iload_n 3, 1) := dk_29 (dk_at dksX1_hint_1 16 rfl rfl)
theorem dX1_hint_41 : decode cX1_hint 41 = .ok (.iaload, 1) := dk_46 (dk_at dksX1_hint_1 17 rfl rfl)
theorem dX1_hint_42 : decode cX1_hint 42 = .ok (.istore 4, 2) := dk_54 4 (dk_at dksX1_hint_1 18 rfl rfl)
theorem dX1_hint_44 : decode cX1_hint 44 = .ok (.iload 4, 2) := dk_21 4 (dk_at dksX1_hint_1 20 rfl rfl)
theorem dX1_hint_46 : decode cX1_hint 46 = .ok (.iconst (-1), 1) := dk_2 (dk_at dksX1_hint_1 22 rfl rfl)
theorem dX1_hint_47 : decode cX1_hint 47 = .ok (.if_icmp .eq 7, 3) := dk_159 0 7 (dk_at dksX1_hint_2 0 rfl rfl)
theorem dX1_hint_50 : decode cX1_hint 50 = .ok (.iload_n 1, 1) := dk_27 (dk_at dksX1_hint_2 3 rfl rfl)
theorem dX1_hint_51 : decode cX1_hint 51 = .ok (.ifCond .ne 6, 3) := dk_154 0 6 (dk_at dksX1_hint_2 4 rfl rfl)
theorem dX1_hint_54 : decode cX1_hint 54 = .ok (.iload 4, 2) := dk_21 4 (dk_at dksX1_hint_2 7 rfl rfl)
theorem dX1_hint_56 : decode cX1_hint 56 = .ok (.ireturn, 1) := dk_172 (dk_at dksX1_hint_2 9 rfl rfl)
theorem dX1_hint_57 : decode cX1_hint 57 = .ok (.iload 4, 2) := dk_21 4 (dk_at dksX1_hint_2 10 rfl rfl)
theorem dX1_hint_59 : decode cX1_hint 59 = .ok (.ifCond .ne 5, 3) := dk_154 0 5 (dk_at dksX1_hint_2 12 rfl rfl)
theorem dX1_hint_62 : decode cX1_hint 62 = .ok (.iconst (-1), 1) := dk_2 (dk_at dksX1_hint_2 15 rfl rfl)
theorem dX1_hint_63 : decode cX1_hint 63 = .ok (.ireturn, 1) := dk_172 (dk_at dksX1_hint_2 16 rfl rfl)
theorem dX1_hint_64 : decode cX1_hint 64 = .ok (.aload_n 2, 1) := dk_44 (dk_at dksX1_hint_2 17 rfl rfl)
theorem dX1_hint_65 : decode cX1_hint 65 = .ok (.getfield 215, 3) := dk_180 0 215 (dk_at dksX1_hint_2 18 rfl rfl)
theorem dX1_hint_68 : decode cX1_hint 68 = .ok (.aload_n 2, 1) := dk_44 (dk_at dksX1_hint_2 21 rfl rfl)
theorem dX1_hint_69 : decode cX1_hint 69 = .ok (.iload_n 3, 1) := dk_29 (dk_at dksX1_hint_2 22 rfl rfl)
theorem dX1_hint_70 : decode cX1_hint 70 = .ok (.iconst 0, 1) := dk_3 (dk_at dksX1_hint_2 23 rfl rfl)
theorem dX1_hint_71 : decode cX1_hint 71 = .ok (.invokevirtual 211, 3) := dk_182 0 211 (dk_at dksX1_hint_3 0 rfl rfl)
theorem dX1_hint_74 : decode cX1_hint 74 = .ok (.iaload, 1) := dk_46 (dk_at dksX1_hint_3 3 rfl rfl)
theorem dX1_hint_75 : decode cX1_hint 75 = .ok (.istore 5, 2) := dk_54 5 (dk_at dksX1_hint_3 4 rfl rfl)
theorem dX1_hint_77 : decode cX1_hint 77 = .ok (.iload_n 1, 1) := dk_27 (dk_at dksX1_hint_3 6 rfl rfl)
theorem dX1_hint_78 : decode cX1_hint 78 = .ok (.iconst 1, 1) := dk_4 (dk_at dksX1_hint_3 7 rfl rfl)
theorem dX1_hint_79 : decode cX1_hint 79 = .ok (.if_icmp .ne 11, 3) := dk_160 0 11 (dk_at dksX1_hint_3 8 rfl rfl)
theorem dX1_hint_82 : decode cX1_hint 82 = .ok (.iload 5, 2) := dk_21 5 (dk_at dksX1_hint_3 11 rfl rfl)
theorem dX1_hint_84 : decode cX1_hint 84 = .ok (.invokestatic 248, 3) := dk_184 0 248 (dk_at dksX1_hint_3 13 rfl rfl)
theorem dX1_hint_87 : decode cX1_hint 87 = .ok (.goto 21, 3) := dk_167 0 21 (dk_at dksX1_hint_3 16 rfl rfl)
theorem dX1_hint_90 : decode cX1_hint 90 = .ok (.iload_n 1, 1) := dk_27 (dk_at dksX1_hint_3 19 rfl rfl)
theorem dX1_hint_91 : decode cX1_hint 91 = .ok (.iconst 2, 1) := dk_5 (dk_at dksX1_hint_3 20 rfl rfl)
theorem dX1_hint_92 : decode cX1_hint 92 = .ok (.if_icmp .ne 11, 3) := dk_160 0 11 (dk_at dksX1_hint_3 21 rfl rfl)
theorem dX1_hint_95 : decode cX1_hint 95 = .ok (.iload 5, 2) := dk_21 5 (dk_at dksX1_hint_4 0 rfl rfl)
theorem dX1_hint_97 : decode cX1_hint 97 = .ok (.invokestatic 251, 3) := dk_184 0 251 (dk_at dksX1_hint_4 2 rfl rfl)
theorem dX1_hint_100 : decode cX1_hint 100 = .ok (.goto 8, 3) := dk_167 0 8 (dk_at dksX1_hint_4 5 rfl rfl)
theorem dX1_hint_103 : decode cX1_hint 103 = .ok (.iload 5, 2) := dk_21 5 (dk_at dksX1_hint_4 8 rfl rfl)
theorem dX1_hint_105 : decode cX1_hint 105 = .ok (.invokestatic 241, 3) := dk_184 0 241 (dk_at dksX1_hint_4 10 rfl rfl)
theorem dX1_hint_108 : decode cX1_hint 108 = .ok (.ireturn, 1) := dk_172 (dk_at dksX1_hint_4 13 rfl rfl)
theorem q119 : (Jvm.Cond.initialized "FerryHall") ∈ lw_all := lw_g (lw_at lw_m1 1 rfl) rfl
theorem q161 : (Jvm.Cond.instantiable "FerryHall" (19 : Nat)) ∈ lw_all := lw_g (lw_at lw_m1 43 rfl) rfl
theorem q163 : (Jvm.Cond.instanceMethod ({ cls := "FerryHall", name := "<init>", desc := "()V" } : Jvm.MethodName)) ∈ lw_all := lw_g (lw_at lw_m1 45 rfl) rfl
theorem q164 : (Jvm.Cond.code ({ cls := "FerryHall", name := "<init>", desc := "()V" } : Jvm.MethodName) prog_1_method_4_code (1 : Nat) (Option.none : Option Jvm.ClassFile.FieldType)) ∈ lw_all := lw_g (lw_at lw_m1 46 rfl) rfl
theorem q165 : (Jvm.Cond.methodLink "FerryHall" (12 : Nat) ({ cls := "java/lang/Object", name := "<init>", desc := "()V" } : Jvm.MethodName)) ∈ lw_all := lw_g (lw_at lw_m1 47 rfl) rfl
theorem q168 : (Jvm.Cond.classLink "FerryHall" (15 : Nat) "FerryHall$World") ∈ lw_all := lw_g (lw_at lw_m1 50 rfl) rfl
theorem q170 : (Jvm.Cond.methodLinkNest "FerryHall" (17 : Nat) ({ cls := "FerryHall$World", name := "<init>", desc := "()V" } : Jvm.MethodName) "FerryHall") ∈ lw_tbl := lw_at lw_m1 52 rfl
theorem q212 : (Jvm.Cond.fieldLinkNest "FerryHall" (118 : Nat) "FerryHall$World" "shores" "I" "FerryHall") ∈ lw_tbl := lw_at lw_m1 94 rfl
theorem q216 : (Jvm.Cond.fieldLinkNest "FerryHall" (121 : Nat) "FerryHall$World" "things" "I" "FerryHall") ∈ lw_tbl := lw_at lw_m1 98 rfl
theorem q221 : (Jvm.Cond.fieldLinkNest "FerryHall" (134 : Nat) "FerryHall$World" "lampAt" "I" "FerryHall") ∈ lw_tbl := lw_at lw_m1 103 rfl
theorem q226 : (Jvm.Cond.fieldLinkNest "FerryHall" (148 : Nat) "FerryHall$World" "weights" "[I" "FerryHall") ∈ lw_tbl := lw_at lw_m1 108 rfl
theorem q229 : (Jvm.Cond.fieldLinkNest "FerryHall" (151 : Nat) "FerryHall$World" "minutes" "[I" "FerryHall") ∈ lw_tbl := lw_at lw_m1 111 rfl
theorem q232 : (Jvm.Cond.fieldLinkNest "FerryHall" (154 : Nat) "FerryHall$World" "letters" "[I" "FerryHall") ∈ lw_tbl := lw_at lw_m1 114 rfl
theorem q240 : (Jvm.Cond.fieldLinkNest "FerryHall" (124 : Nat) "FerryHall$World" "boats" "Ljava/util/List;" "FerryHall") ∈ lw_tbl := lw_at lw_m1 122 rfl
theorem q243 : (Jvm.Cond.fieldLinkNest "FerryHall" (131 : Nat) "FerryHall$World" "laws" "Ljava/util/List;" "FerryHall") ∈ lw_tbl := lw_at lw_m1 125 rfl
theorem q247 : (Jvm.Cond.fieldLinkNest "FerryHall" (176 : Nat) "FerryHall$World" "bars" "[[[[S" "FerryHall") ∈ lw_tbl := lw_at lw_m1 129 rfl
theorem q271 : (Jvm.Cond.classLink "FerryHall" (30 : Nat) "FerryHall$Map") ∈ lw_all := lw_g (lw_at lw_m1 153 rfl) rfl
theorem q273 : (Jvm.Cond.methodLinkNest "FerryHall" (32 : Nat) ({ cls := "FerryHall$Map", name := "<init>", desc := "()V" } : Jvm.MethodName) "FerryHall") ∈ lw_tbl := lw_at lw_m1 155 rfl
theorem q283 : (Jvm.Cond.fieldLinkNest "FerryHall" (195 : Nat) "FerryHall$Map" "depth" "[I" "FerryHall") ∈ lw_tbl := lw_at lw_m1 165 rfl
theorem q286 : (Jvm.Cond.fieldLinkNest "FerryHall" (228 : Nat) "FerryHall$Map" "to" "[I" "FerryHall") ∈ lw_tbl := lw_at lw_m1 168 rfl
theorem q288 : (Jvm.Cond.fieldLinkNest "FerryHall" (215 : Nat) "FerryHall$Map" "move" "[I" "FerryHall") ∈ lw_tbl := lw_at lw_m1 170 rfl
theorem q291 : (Jvm.Cond.fieldLinkNest "FerryHall" (189 : Nat) "FerryHall$Map" "states" "I" "FerryHall") ∈ lw_tbl := lw_at lw_m1 173 rfl
theorem q293 : (Jvm.Cond.fieldLinkNest "FerryHall" (192 : Nat) "FerryHall$Map" "crossings" "I" "FerryHall") ∈ lw_tbl := lw_at lw_m1 175 rfl
theorem q295 : (Jvm.Cond.fieldLinkNest "FerryHall" (186 : Nat) "FerryHall$Map" "spent" "Z" "FerryHall") ∈ lw_tbl := lw_at lw_m1 177 rfl
theorem q346 : (Jvm.Cond.classLink "FerryHall" (40 : Nat) "java/util/ArrayList") ∈ lw_all := lw_g (lw_at lw_m1 228 rfl) rfl
theorem q347 : (Jvm.Cond.methodLink "FerryHall" (42 : Nat) ({ cls := "java/util/ArrayList", name := "<init>", desc := "()V" } : Jvm.MethodName)) ∈ lw_all := lw_g (lw_at lw_m1 229 rfl) rfl
theorem q348 : (Jvm.Cond.methodLink "FerryHall" (50 : Nat) ({ cls := "FerryHall$World", name := "tell", desc := "()V" } : Jvm.MethodName)) ∈ lw_all := lw_g (lw_at lw_m1 230 rfl) rfl
theorem q498 : (Jvm.Cond.methodLink "FerryHall" (53 : Nat) ({ cls := "FerryHall", name := "begin", desc := "()V" } : Jvm.MethodName)) ∈ lw_all := lw_g (lw_at lw_m2 140 rfl) rfl
theorem q499 : (Jvm.Cond.privateMethod ({ cls := "FerryHall", name := "begin", desc := "()V" } : Jvm.MethodName)) ∈ lw_tbl := lw_at lw_m2 141 rfl
theorem q500 : (Jvm.Cond.instanceMethod ({ cls := "FerryHall", name := "begin", desc := "()V" } : Jvm.MethodName)) ∈ lw_all := lw_g (lw_at lw_m2 142 rfl) rfl
theorem q501 : (Jvm.Cond.code ({ cls := "FerryHall", name := "begin", desc := "()V" } : Jvm.MethodName) prog_1_method_5_code (1 : Nat) (Option.none : Option Jvm.ClassFile.FieldType)) ∈ lw_all := lw_g (lw_at lw_m2 143 rfl) rfl
theorem q502 : (Jvm.Cond.classLink "FerryHall" (56 : Nat) "FerryHall$Place") ∈ lw_all := lw_g (lw_at lw_m2 144 rfl) rfl
theorem q504 : (Jvm.Cond.methodLink "FerryHall" (58 : Nat) ({ cls := "FerryHall$Place", name := "<init>", desc := "(LFerryHall$World;)V" } : Jvm.MethodName)) ∈ lw_all := lw_g (lw_at lw_m2 146 rfl) rfl
theorem q513 : (Jvm.Cond.fieldLinkNest "FerryHall" (336 : Nat) "FerryHall$Place" "boat" "[I" "FerryHall") ∈ lw_tbl := lw_at lw_m2 155 rfl
theorem q518 : (Jvm.Cond.fieldLinkNest "FerryHall" (262 : Nat) "FerryHall$Place" "set" "[I" "FerryHall") ∈ lw_tbl := lw_at lw_m2 160 rfl
theorem q521 : (Jvm.Cond.fieldLinkNest "FerryHall" (333 : Nat) "FerryHall$Place" "lamp" "I" "FerryHall") ∈ lw_tbl := lw_at lw_m2 163 rfl
theorem q532 : (Jvm.Cond.methodLink "FerryHall" (65 : Nat) ({ cls := "FerryHall$Place", name := "start", desc := "()V" } : Jvm.MethodName)) ∈ lw_all := lw_g (lw_at lw_m2 174 rfl) rfl
theorem q545 : (Jvm.Cond.interfaceEntry "FerryHall" (68 : Nat)) ∈ lw_tbl := lw_at lw_m2 187 rfl
theorem q546 : (Jvm.Cond.methodLink "FerryHall" (68 : Nat) ({ cls := "java/util/List", name := "clear", desc := "()V" } : Jvm.MethodName)) ∈ lw_all := lw_g (lw_at lw_m2 188 rfl) rfl
theorem q555 : (Jvm.Cond.fieldLink "FerryHall" (18 : Nat) "FerryHall" "world" "LFerryHall$World;") ∈ lw_all := lw_g (lw_at lw_m2 197 rfl) rfl
theorem q557 : (Jvm.Cond.fieldLink "FerryHall" (22 : Nat) "FerryHall" "tape" "[B") ∈ lw_all := lw_g (lw_at lw_m2 199 rfl) rfl
theorem q558 : (Jvm.Cond.fieldLink "FerryHall" (94 : Nat) "FerryHall" "taped" "I") ∈ lw_all := lw_g (lw_at lw_m2 200 rfl) rfl
theorem q559 : (Jvm.Cond.fieldLink "FerryHall" (26 : Nat) "FerryHall" "faultPlace" "I") ∈ lw_all := lw_g (lw_at lw_m2 201 rfl) rfl
theorem q560 : (Jvm.Cond.fieldLink "FerryHall" (33 : Nat) "FerryHall" "map" "LFerryHall$Map;") ∈ lw_all := lw_g (lw_at lw_m2 202 rfl) rfl
theorem q561 : (Jvm.Cond.fieldLink "FerryHall" (37 : Nat) "FerryHall" "other" "LFerryHall$Map;") ∈ lw_all := lw_g (lw_at lw_m2 203 rfl) rfl
theorem q562 : (Jvm.Cond.fieldLink "FerryHall" (73 : Nat) "FerryHall" "isMapped" "Z") ∈ lw_all := lw_g (lw_at lw_m2 204 rfl) rfl
theorem q563 : (Jvm.Cond.fieldLink "FerryHall" (61 : Nat) "FerryHall" "game" "LFerryHall$Place;") ∈ lw_all := lw_g (lw_at lw_m2 205 rfl) rfl
theorem q564 : (Jvm.Cond.fieldLink "FerryHall" (43 : Nat) "FerryHall" "made" "Ljava/util/List;") ∈ lw_all := lw_g (lw_at lw_m2 206 rfl) rfl
theorem q565 : (Jvm.Cond.fieldLink "FerryHall" (47 : Nat) "FerryHall" "barring" "I") ∈ lw_all := lw_g (lw_at lw_m2 207 rfl) rfl
theorem q566 : (Jvm.Cond.fieldLink "FerryHall" (77 : Nat) "FerryHall" "kept" "[I") ∈ lw_all := lw_g (lw_at lw_m2 208 rfl) rfl
theorem q567 : (Jvm.Cond.fieldLink "FerryHall" (268 : Nat) "FerryHall" "freeLaws" "I") ∈ lw_all := lw_g (lw_at lw_m2 209 rfl) rfl
theorem q568 : (Jvm.Cond.fieldLink "FerryHall" (271 : Nat) "FerryHall" "aloneLaws" "I") ∈ lw_all := lw_g (lw_at lw_m2 210 rfl) rfl
theorem q569 : (Jvm.Cond.fieldLink "FerryHall" (287 : Nat) "FerryHall" "leastHold" "I") ∈ lw_all := lw_g (lw_at lw_m2 211 rfl) rfl
theorem q570 : (Jvm.Cond.fieldLink "FerryHall" (293 : Nat) "FerryHall" "leastLoad" "I") ∈ lw_all := lw_g (lw_at lw_m2 212 rfl) rfl
theorem q571 : (Jvm.Cond.fieldLink "FerryHall" (81 : Nat) "FerryHall" "lawsTold" "Z") ∈ lw_all := lw_g (lw_at lw_m2 213 rfl) rfl
theorem q572 : (Jvm.Cond.fieldLink "FerryHall" (265 : Nat) "FerryHall" "lawsSpent" "Z") ∈ lw_all := lw_g (lw_at lw_m2 214 rfl) rfl
theorem q573 : (Jvm.Cond.fieldLink "FerryHall" (84 : Nat) "FerryHall" "holdTold" "Z") ∈ lw_all := lw_g (lw_at lw_m2 215 rfl) rfl
theorem q574 : (Jvm.Cond.fieldLink "FerryHall" (87 : Nat) "FerryHall" "loadTold" "Z") ∈ lw_all := lw_g (lw_at lw_m2 216 rfl) rfl
theorem q575 : (Jvm.Cond.lays "FerryHall" "FerryHall" "world" "LFerryHall$World;") ∈ lw_all := lw_g (lw_at lw_m2 217 rfl) rfl
theorem q576 : (Jvm.Cond.soleField "FerryHall" "world") ∈ lw_all := lw_g (lw_at lw_m2 218 rfl) rfl
theorem q577 : (Jvm.Cond.laysFinal "FerryHall" "FerryHall" "tape" "[B") ∈ lw_all := lw_g (lw_at lw_m2 219 rfl) rfl
theorem q578 : (Jvm.Cond.soleField "FerryHall" "tape") ∈ lw_all := lw_g (lw_at lw_m2 220 rfl) rfl
theorem q579 : (Jvm.Cond.lays "FerryHall" "FerryHall" "taped" "I") ∈ lw_all := lw_g (lw_at lw_m2 221 rfl) rfl
theorem q580 : (Jvm.Cond.soleField "FerryHall" "taped") ∈ lw_all := lw_g (lw_at lw_m2 222 rfl) rfl
theorem q581 : (Jvm.Cond.lays "FerryHall" "FerryHall" "faultPlace" "I") ∈ lw_all := lw_g (lw_at lw_m2 223 rfl) rfl
theorem q582 : (Jvm.Cond.soleField "FerryHall" "faultPlace") ∈ lw_all := lw_g (lw_at lw_m2 224 rfl) rfl
theorem q583 : (Jvm.Cond.laysFinal "FerryHall" "FerryHall" "map" "LFerryHall$Map;") ∈ lw_all := lw_g (lw_at lw_m2 225 rfl) rfl
theorem q584 : (Jvm.Cond.soleField "FerryHall" "map") ∈ lw_all := lw_g (lw_at lw_m2 226 rfl) rfl
theorem q585 : (Jvm.Cond.laysFinal "FerryHall" "FerryHall" "other" "LFerryHall$Map;") ∈ lw_all := lw_g (lw_at lw_m2 227 rfl) rfl
theorem q586 : (Jvm.Cond.soleField "FerryHall" "other") ∈ lw_all := lw_g (lw_at lw_m2 228 rfl) rfl
theorem q587 : (Jvm.Cond.lays "FerryHall" "FerryHall" "isMapped" "Z") ∈ lw_all := lw_g (lw_at lw_m2 229 rfl) rfl
theorem q588 : (Jvm.Cond.soleField "FerryHall" "isMapped") ∈ lw_all := lw_g (lw_at lw_m2 230 rfl) rfl
theorem q589 : (Jvm.Cond.lays "FerryHall" "FerryHall" "game" "LFerryHall$Place;") ∈ lw_all := lw_g (lw_at lw_m2 231 rfl) rfl
theorem q590 : (Jvm.Cond.soleField "FerryHall" "game") ∈ lw_all := lw_g (lw_at lw_m2 232 rfl) rfl
theorem q591 : (Jvm.Cond.laysFinal "FerryHall" "FerryHall" "made" "Ljava/util/List;") ∈ lw_all := lw_g (lw_at lw_m2 233 rfl) rfl
theorem q592 : (Jvm.Cond.soleField "FerryHall" "made") ∈ lw_all := lw_g (lw_at lw_m2 234 rfl) rfl
theorem q593 : (Jvm.Cond.lays "FerryHall" "FerryHall" "barring" "I") ∈ lw_all := lw_g (lw_at lw_m2 235 rfl) rfl
theorem q594 : (Jvm.Cond.soleField "FerryHall" "barring") ∈ lw_all := lw_g (lw_at lw_m2 236 rfl) rfl
theorem q595 : (Jvm.Cond.lays "FerryHall" "FerryHall" "kept" "[I") ∈ lw_all := lw_g (lw_at lw_m2 237 rfl) rfl
theorem q596 : (Jvm.Cond.soleField "FerryHall" "kept") ∈ lw_all := lw_g (lw_at lw_m2 238 rfl) rfl
theorem q597 : (Jvm.Cond.lays "FerryHall" "FerryHall" "freeLaws" "I") ∈ lw_all := lw_g (lw_at lw_m2 239 rfl) rfl
theorem q598 : (Jvm.Cond.soleField "FerryHall" "freeLaws") ∈ lw_all := lw_g (lw_at lw_m3 0 rfl) rfl
theorem q599 : (Jvm.Cond.lays "FerryHall" "FerryHall" "aloneLaws" "I") ∈ lw_all := lw_g (lw_at lw_m3 1 rfl) rfl
theorem q600 : (Jvm.Cond.soleField "FerryHall" "aloneLaws") ∈ lw_all := lw_g (lw_at lw_m3 2 rfl) rfl
theorem q601 : (Jvm.Cond.lays "FerryHall" "FerryHall" "leastHold" "I") ∈ lw_all := lw_g (lw_at lw_m3 3 rfl) rfl
theorem q602 : (Jvm.Cond.soleField "FerryHall" "leastHold") ∈ lw_all := lw_g (lw_at lw_m3 4 rfl) rfl
theorem q603 : (Jvm.Cond.lays "FerryHall" "FerryHall" "leastLoad" "I") ∈ lw_all := lw_g (lw_at lw_m3 5 rfl) rfl
theorem q604 : (Jvm.Cond.soleField "FerryHall" "leastLoad") ∈ lw_all := lw_g (lw_at lw_m3 6 rfl) rfl
theorem q605 : (Jvm.Cond.lays "FerryHall" "FerryHall" "lawsTold" "Z") ∈ lw_all := lw_g (lw_at lw_m3 7 rfl) rfl
theorem q606 : (Jvm.Cond.soleField "FerryHall" "lawsTold") ∈ lw_all := lw_g (lw_at lw_m3 8 rfl) rfl
theorem q607 : (Jvm.Cond.lays "FerryHall" "FerryHall" "lawsSpent" "Z") ∈ lw_all := lw_g (lw_at lw_m3 9 rfl) rfl
theorem q608 : (Jvm.Cond.soleField "FerryHall" "lawsSpent") ∈ lw_all := lw_g (lw_at lw_m3 10 rfl) rfl
theorem q609 : (Jvm.Cond.lays "FerryHall" "FerryHall" "holdTold" "Z") ∈ lw_all := lw_g (lw_at lw_m3 11 rfl) rfl
theorem q610 : (Jvm.Cond.soleField "FerryHall" "holdTold") ∈ lw_all := lw_g (lw_at lw_m3 12 rfl) rfl
theorem q611 : (Jvm.Cond.lays "FerryHall" "FerryHall" "loadTold" "Z") ∈ lw_all := lw_g (lw_at lw_m3 13 rfl) rfl
theorem q612 : (Jvm.Cond.soleField "FerryHall" "loadTold") ∈ lw_all := lw_g (lw_at lw_m3 14 rfl) rfl
theorem q613 : (Jvm.Cond.superclass "FerryHall" "java/lang/Object") ∈ lw_all := lw_g (lw_at lw_m3 15 rfl) rfl
theorem q615 : (Jvm.Cond.instanceMethod ({ cls := "FerryHall", name := "feed", desc := "(IIIII)I" } : Jvm.MethodName)) ∈ lw_all := lw_g (lw_at lw_m3 17 rfl) rfl
theorem q616 : (Jvm.Cond.selects "FerryHall" ({ cls := "FerryHall", name := "feed", desc := "(IIIII)I" } : Jvm.MethodName) ({ cls := "FerryHall", name := "feed", desc := "(IIIII)I" } : Jvm.MethodName)) ∈ lw_all := lw_g (lw_at lw_m3 18 rfl) rfl
theorem q617 : (Jvm.Cond.code ({ cls := "FerryHall", name := "feed", desc := "(IIIII)I" } : Jvm.MethodName) prog_1_method_7_code (8 : Nat) (Option.some Jvm.ClassFile.FieldType.int)) ∈ lw_all := lw_g (lw_at lw_m3 19 rfl) rfl
theorem q619 : (Jvm.Cond.instanceMethod ({ cls := "FerryHall", name := "fault", desc := "()I" } : Jvm.MethodName)) ∈ lw_all := lw_g (lw_at lw_m3 21 rfl) rfl
theorem q620 : (Jvm.Cond.selects "FerryHall" ({ cls := "FerryHall", name := "fault", desc := "()I" } : Jvm.MethodName) ({ cls := "FerryHall", name := "fault", desc := "()I" } : Jvm.MethodName)) ∈ lw_all := lw_g (lw_at lw_m3 22 rfl) rfl
theorem q621 : (Jvm.Cond.code ({ cls := "FerryHall", name := "fault", desc := "()I" } : Jvm.MethodName) prog_1_method_9_code (1 : Nat) (Option.some Jvm.ClassFile.FieldType.int)) ∈ lw_all := lw_g (lw_at lw_m3 23 rfl) rfl
theorem q623 : (Jvm.Cond.instanceMethod ({ cls := "FerryHall", name := "fewest", desc := "()I" } : Jvm.MethodName)) ∈ lw_all := lw_g (lw_at lw_m3 25 rfl) rfl
theorem q624 : (Jvm.Cond.selects "FerryHall" ({ cls := "FerryHall", name := "fewest", desc := "()I" } : Jvm.MethodName) ({ cls := "FerryHall", name := "fewest", desc := "()I" } : Jvm.MethodName)) ∈ lw_all := lw_g (lw_at lw_m3 26 rfl) rfl
theorem q625 : (Jvm.Cond.code ({ cls := "FerryHall", name := "fewest", desc := "()I" } : Jvm.MethodName) prog_1_method_19_code (2 : Nat) (Option.some Jvm.ClassFile.FieldType.int)) ∈ lw_all := lw_g (lw_at lw_m3 27 rfl) rfl
theorem q626 : (Jvm.Cond.methodLink "FerryHall" (183 : Nat) ({ cls := "FerryHall", name := "map", desc := "()LFerryHall$Map;" } : Jvm.MethodName)) ∈ lw_all := lw_g (lw_at lw_m3 28 rfl) rfl
theorem q627 : (Jvm.Cond.privateMethod ({ cls := "FerryHall", name := "map", desc := "()LFerryHall$Map;" } : Jvm.MethodName)) ∈ lw_tbl := lw_at lw_m3 29 rfl
theorem q628 : (Jvm.Cond.instanceMethod ({ cls := "FerryHall", name := "map", desc := "()LFerryHall$Map;" } : Jvm.MethodName)) ∈ lw_all := lw_g (lw_at lw_m3 30 rfl) rfl
theorem q629 : (Jvm.Cond.code ({ cls := "FerryHall", name := "map", desc := "()LFerryHall$Map;" } : Jvm.MethodName) prog_1_method_6_code (1 : Nat) (Option.some (Jvm.ClassFile.FieldType.object "FerryHall$Map"))) ∈ lw_all := lw_g (lw_at lw_m3 31 rfl) rfl
theorem q630 : (Jvm.Cond.methodLink "FerryHall" (90 : Nat) ({ cls := "FerryHall$Map", name := "run", desc := "(LFerryHall$World;III)Z" } : Jvm.MethodName)) ∈ lw_all := lw_g (lw_at lw_m3 32 rfl) rfl
theorem q673 : (Jvm.Cond.fieldLinkNest "FerryHall" (322 : Nat) "FerryHall$Judge" "laws" "I" "FerryHall") ∈ lw_tbl := lw_at lw_m3 75 rfl
theorem q734 : (Jvm.Cond.static ({ cls := "FerryHall", name := "in", desc := "(III)Z" } : Jvm.MethodName)) ∈ lw_all := lw_g (lw_at lw_m3 136 rfl) rfl
theorem q735 : (Jvm.Cond.code ({ cls := "FerryHall", name := "in", desc := "(III)Z" } : Jvm.MethodName) prog_1_method_1_code (3 : Nat) (Option.some Jvm.ClassFile.FieldType.boolean)) ∈ lw_all := lw_g (lw_at lw_m3 137 rfl) rfl
theorem q769 : (Jvm.Cond.methodLink "FerryHall" (204 : Nat) ({ cls := "FerryHall$Map", name := "left", desc := "()[I" } : Jvm.MethodName)) ∈ lw_all := lw_g (lw_at lw_m3 171 rfl) rfl
theorem q785 : (Jvm.Cond.methodLink "FerryHall" (234 : Nat) ({ cls := "FerryHall", name := "keep", desc := "(LFerryHall$Map;Z)V" } : Jvm.MethodName)) ∈ lw_all := lw_g (lw_at lw_m3 187 rfl) rfl
theorem q786 : (Jvm.Cond.privateMethod ({ cls := "FerryHall", name := "keep", desc := "(LFerryHall$Map;Z)V" } : Jvm.MethodName)) ∈ lw_tbl := lw_at lw_m3 188 rfl
theorem q787 : (Jvm.Cond.instanceMethod ({ cls := "FerryHall", name := "keep", desc := "(LFerryHall$Map;Z)V" } : Jvm.MethodName)) ∈ lw_all := lw_g (lw_at lw_m3 189 rfl) rfl
theorem q788 : (Jvm.Cond.code ({ cls := "FerryHall", name := "keep", desc := "(LFerryHall$Map;Z)V" } : Jvm.MethodName) prog_1_method_18_code (7 : Nat) (Option.none : Option Jvm.ClassFile.FieldType)) ∈ lw_all := lw_g (lw_at lw_m3 190 rfl) rfl
theorem q789 : (Jvm.Cond.methodLink "FerryHall" (208 : Nat) ({ cls := "FerryHall$Map", name := "cost", desc := "()[I" } : Jvm.MethodName)) ∈ lw_all := lw_g (lw_at lw_m3 191 rfl) rfl
theorem q793 : (Jvm.Cond.methodLink "FerryHall" (211 : Nat) ({ cls := "FerryHall$Map", name := "best", desc := "(IZ)I" } : Jvm.MethodName)) ∈ lw_all := lw_g (lw_at lw_m3 195 rfl) rfl
theorem q799 : (Jvm.Cond.methodLink "FerryHall" (218 : Nat) ({ cls := "java/lang/Integer", name := "valueOf", desc := "(I)Ljava/lang/Integer;" } : Jvm.MethodName)) ∈ lw_all := lw_g (lw_at lw_m3 201 rfl) rfl
theorem q819 : (Jvm.Cond.interfaceEntry "FerryHall" (224 : Nat)) ∈ lw_tbl := lw_at lw_m3 221 rfl
theorem q820 : (Jvm.Cond.methodLink "FerryHall" (224 : Nat) ({ cls := "java/util/List", name := "add", desc := "(Ljava/lang/Object;)Z" } : Jvm.MethodName)) ∈ lw_all := lw_g (lw_at lw_m3 222 rfl) rfl
theorem q854 : (Jvm.Cond.selects "FerryHall" ({ cls := "java/lang/Object", name := "getClass", desc := "()Ljava/lang/Class;" } : Jvm.MethodName) ({ cls := "java/lang/Object", name := "getClass", desc := "()Ljava/lang/Class;" } : Jvm.MethodName)) ∈ lw_all := lw_g (lw_at lw_m4 16 rfl) rfl
theorem q890 : (Jvm.Cond.interfaceEntry "FerryHall" (127 : Nat)) ∈ lw_tbl := lw_at lw_m4 52 rfl
theorem q891 : (Jvm.Cond.methodLink "FerryHall" (127 : Nat) ({ cls := "java/util/List", name := "size", desc := "()I" } : Jvm.MethodName)) ∈ lw_all := lw_g (lw_at lw_m4 53 rfl) rfl
theorem q892 : (Jvm.Cond.interfaceEntry "FerryHall" (157 : Nat)) ∈ lw_tbl := lw_at lw_m4 54 rfl
theorem q893 : (Jvm.Cond.methodLink "FerryHall" (157 : Nat) ({ cls := "java/util/List", name := "get", desc := "(I)Ljava/lang/Object;" } : Jvm.MethodName)) ∈ lw_all := lw_g (lw_at lw_m4 55 rfl) rfl
theorem q894 : (Jvm.Cond.classLink "FerryHall" (219 : Nat) "java/lang/Integer") ∈ lw_all := lw_g (lw_at lw_m4 56 rfl) rfl
theorem q895 : (Jvm.Cond.methodLink "FerryHall" (231 : Nat) ({ cls := "java/lang/Integer", name := "intValue", desc := "()I" } : Jvm.MethodName)) ∈ lw_all := lw_g (lw_at lw_m4 57 rfl) rfl
theorem q900 : (Jvm.Cond.instanceMethod ({ cls := "FerryHall", name := "quickest", desc := "()I" } : Jvm.MethodName)) ∈ lw_all := lw_g (lw_at lw_m4 62 rfl) rfl
theorem q901 : (Jvm.Cond.selects "FerryHall" ({ cls := "FerryHall", name := "quickest", desc := "()I" } : Jvm.MethodName) ({ cls := "FerryHall", name := "quickest", desc := "()I" } : Jvm.MethodName)) ∈ lw_all := lw_g (lw_at lw_m4 63 rfl) rfl
theorem q902 : (Jvm.Cond.code ({ cls := "FerryHall", name := "quickest", desc := "()I" } : Jvm.MethodName) prog_1_method_20_code (2 : Nat) (Option.some Jvm.ClassFile.FieldType.int)) ∈ lw_all := lw_g (lw_at lw_m4 64 rfl) rfl
theorem q904 : (Jvm.Cond.instanceMethod ({ cls := "FerryHall", name := "ways", desc := "()I" } : Jvm.MethodName)) ∈ lw_all := lw_g (lw_at lw_m4 66 rfl) rfl
theorem q905 : (Jvm.Cond.selects "FerryHall" ({ cls := "FerryHall", name := "ways", desc := "()I" } : Jvm.MethodName) ({ cls := "FerryHall", name := "ways", desc := "()I" } : Jvm.MethodName)) ∈ lw_all := lw_g (lw_at lw_m4 67 rfl) rfl
theorem q906 : (Jvm.Cond.code ({ cls := "FerryHall", name := "ways", desc := "()I" } : Jvm.MethodName) prog_1_method_21_code (2 : Nat) (Option.some Jvm.ClassFile.FieldType.int)) ∈ lw_all := lw_g (lw_at lw_m4 68 rfl) rfl
theorem q907 : (Jvm.Cond.methodLink "FerryHall" (238 : Nat) ({ cls := "FerryHall$Map", name := "ways", desc := "()I" } : Jvm.MethodName)) ∈ lw_all := lw_g (lw_at lw_m4 69 rfl) rfl
theorem q917 : (Jvm.Cond.instanceMethod ({ cls := "FerryHall", name := "rounds", desc := "()I" } : Jvm.MethodName)) ∈ lw_all := lw_g (lw_at lw_m4 79 rfl) rfl
theorem q918 : (Jvm.Cond.selects "FerryHall" ({ cls := "FerryHall", name := "rounds", desc := "()I" } : Jvm.MethodName) ({ cls := "FerryHall", name := "rounds", desc := "()I" } : Jvm.MethodName)) ∈ lw_all := lw_g (lw_at lw_m4 80 rfl) rfl
theorem q919 : (Jvm.Cond.code ({ cls := "FerryHall", name := "rounds", desc := "()I" } : Jvm.MethodName) prog_1_method_35_code (2 : Nat) (Option.some Jvm.ClassFile.FieldType.int)) ∈ lw_all := lw_g (lw_at lw_m4 81 rfl) rfl
theorem q920 : (Jvm.Cond.classLink "FerryHall" (161 : Nat) "FerryHall$Boat") ∈ lw_all := lw_g (lw_at lw_m4 82 rfl) rfl
theorem q921 : (Jvm.Cond.classLink "FerryHall" (296 : Nat) "FerryHall$Rounds") ∈ lw_all := lw_g (lw_at lw_m4 83 rfl) rfl
theorem q923 : (Jvm.Cond.methodLinkNest "FerryHall" (298 : Nat) ({ cls := "FerryHall$Rounds", name := "<init>", desc := "(LFerryHall;)V" } : Jvm.MethodName) "FerryHall") ∈ lw_tbl := lw_at lw_m4 85 rfl
theorem q959 : (Jvm.Cond.methodLink "FerryHall" (301 : Nat) ({ cls := "FerryHall$Rounds", name := "run", desc := "()I" } : Jvm.MethodName)) ∈ lw_all := lw_g (lw_at lw_m4 121 rfl) rfl
theorem q990 : (Jvm.Cond.instanceMethod ({ cls := "FerryHall", name := "cross", desc := "(III)I" } : Jvm.MethodName)) ∈ lw_all := lw_g (lw_at lw_m4 152 rfl) rfl
theorem q991 : (Jvm.Cond.selects "FerryHall" ({ cls := "FerryHall", name := "cross", desc := "(III)I" } : Jvm.MethodName) ({ cls := "FerryHall", name := "cross", desc := "(III)I" } : Jvm.MethodName)) ∈ lw_all := lw_g (lw_at lw_m4 153 rfl) rfl
theorem q992 : (Jvm.Cond.code ({ cls := "FerryHall", name := "cross", desc := "(III)I" } : Jvm.MethodName) prog_1_method_39_code (6 : Nat) (Option.some Jvm.ClassFile.FieldType.int)) ∈ lw_all := lw_g (lw_at lw_m4 154 rfl) rfl
theorem q993 : (Jvm.Cond.classLink "FerryHall" (310 : Nat) "FerryHall$Judge") ∈ lw_all := lw_g (lw_at lw_m4 155 rfl) rfl
theorem q994 : (Jvm.Cond.methodLink "FerryHall" (312 : Nat) ({ cls := "FerryHall$Judge", name := "<init>", desc := "(LFerryHall$World;III)V" } : Jvm.MethodName)) ∈ lw_all := lw_g (lw_at lw_m4 156 rfl) rfl
theorem q995 : (Jvm.Cond.methodLink "FerryHall" (315 : Nat) ({ cls := "FerryHall$Place", name := "code", desc := "()I" } : Jvm.MethodName)) ∈ lw_all := lw_g (lw_at lw_m4 157 rfl) rfl
theorem q996 : (Jvm.Cond.methodLink "FerryHall" (318 : Nat) ({ cls := "FerryHall$Judge", name := "why", desc := "(LFerryHall$Place;IIII)I" } : Jvm.MethodName)) ∈ lw_all := lw_g (lw_at lw_m4 158 rfl) rfl
theorem q997 : (Jvm.Cond.methodLink "FerryHall" (324 : Nat) ({ cls := "java/lang/Integer", name := "numberOfTrailingZeros", desc := "(I)I" } : Jvm.MethodName)) ∈ lw_all := lw_g (lw_at lw_m4 159 rfl) rfl
theorem q1001 : (Jvm.Cond.methodLink "FerryHall" (254 : Nat) ({ cls := "FerryHall$Place", name := "move", desc := "(III)V" } : Jvm.MethodName)) ∈ lw_all := lw_g (lw_at lw_m4 163 rfl) rfl
theorem q1003 : (Jvm.Cond.instanceMethod ({ cls := "FerryHall", name := "law", desc := "()I" } : Jvm.MethodName)) ∈ lw_all := lw_g (lw_at lw_m4 165 rfl) rfl
theorem q1004 : (Jvm.Cond.selects "FerryHall" ({ cls := "FerryHall", name := "law", desc := "()I" } : Jvm.MethodName) ({ cls := "FerryHall", name := "law", desc := "()I" } : Jvm.MethodName)) ∈ lw_all := lw_g (lw_at lw_m4 166 rfl) rfl
theorem q1005 : (Jvm.Cond.code ({ cls := "FerryHall", name := "law", desc := "()I" } : Jvm.MethodName) prog_1_method_40_code (1 : Nat) (Option.some Jvm.ClassFile.FieldType.int)) ∈ lw_all := lw_g (lw_at lw_m4 167 rfl) rfl
theorem q1007 : (Jvm.Cond.instanceMethod ({ cls := "FerryHall", name := "back", desc := "()I" } : Jvm.MethodName)) ∈ lw_all := lw_g (lw_at lw_m4 169 rfl) rfl
theorem q1008 : (Jvm.Cond.selects "FerryHall" ({ cls := "FerryHall", name := "back", desc := "()I" } : Jvm.MethodName) ({ cls := "FerryHall", name := "back", desc := "()I" } : Jvm.MethodName)) ∈ lw_all := lw_g (lw_at lw_m4 170 rfl) rfl
theorem q1009 : (Jvm.Cond.code ({ cls := "FerryHall", name := "back", desc := "()I" } : Jvm.MethodName) prog_1_method_41_code (2 : Nat) (Option.some Jvm.ClassFile.FieldType.int)) ∈ lw_all := lw_g (lw_at lw_m4 171 rfl) rfl
theorem q1010 : (Jvm.Cond.interfaceEntry "FerryHall" (280 : Nat)) ∈ lw_tbl := lw_at lw_m4 172 rfl
theorem q1011 : (Jvm.Cond.methodLink "FerryHall" (280 : Nat) ({ cls := "java/util/List", name := "isEmpty", desc := "()Z" } : Jvm.MethodName)) ∈ lw_all := lw_g (lw_at lw_m4 173 rfl) rfl
theorem q1019 : (Jvm.Cond.interfaceEntry "FerryHall" (327 : Nat)) ∈ lw_tbl := lw_at lw_m4 181 rfl
theorem q1020 : (Jvm.Cond.methodLink "FerryHall" (327 : Nat) ({ cls := "java/util/List", name := "remove", desc := "(I)Ljava/lang/Object;" } : Jvm.MethodName)) ∈ lw_all := lw_g (lw_at lw_m4 182 rfl) rfl
theorem q1033 : (Jvm.Cond.methodLink "FerryHall" (248 : Nat) ({ cls := "FerryHall", name := "boatOf", desc := "(I)I" } : Jvm.MethodName)) ∈ lw_all := lw_g (lw_at lw_m4 195 rfl) rfl
theorem q1034 : (Jvm.Cond.static ({ cls := "FerryHall", name := "boatOf", desc := "(I)I" } : Jvm.MethodName)) ∈ lw_all := lw_g (lw_at lw_m4 196 rfl) rfl
theorem q1035 : (Jvm.Cond.code ({ cls := "FerryHall", name := "boatOf", desc := "(I)I" } : Jvm.MethodName) prog_1_method_22_code (1 : Nat) (Option.some Jvm.ClassFile.FieldType.int)) ∈ lw_all := lw_g (lw_at lw_m4 197 rfl) rfl
theorem q1036 : (Jvm.Cond.methodLink "FerryHall" (251 : Nat) ({ cls := "FerryHall", name := "shoreOf", desc := "(I)I" } : Jvm.MethodName)) ∈ lw_all := lw_g (lw_at lw_m4 198 rfl) rfl
theorem q1037 : (Jvm.Cond.static ({ cls := "FerryHall", name := "shoreOf", desc := "(I)I" } : Jvm.MethodName)) ∈ lw_all := lw_g (lw_at lw_m4 199 rfl) rfl
theorem q1038 : (Jvm.Cond.code ({ cls := "FerryHall", name := "shoreOf", desc := "(I)I" } : Jvm.MethodName) prog_1_method_23_code (1 : Nat) (Option.some Jvm.ClassFile.FieldType.int)) ∈ lw_all := lw_g (lw_at lw_m4 200 rfl) rfl
theorem q1039 : (Jvm.Cond.methodLink "FerryHall" (241 : Nat) ({ cls := "FerryHall", name := "setOf", desc := "(I)I" } : Jvm.MethodName)) ∈ lw_all := lw_g (lw_at lw_m4 201 rfl) rfl
theorem q1040 : (Jvm.Cond.static ({ cls := "FerryHall", name := "setOf", desc := "(I)I" } : Jvm.MethodName)) ∈ lw_all := lw_g (lw_at lw_m4 202 rfl) rfl
theorem q1041 : (Jvm.Cond.code ({ cls := "FerryHall", name := "setOf", desc := "(I)I" } : Jvm.MethodName) prog_1_method_24_code (1 : Nat) (Option.some Jvm.ClassFile.FieldType.int)) ∈ lw_all := lw_g (lw_at lw_m4 203 rfl) rfl
theorem q1047 : (Jvm.Cond.instanceMethod ({ cls := "FerryHall", name := "text", desc := "(I)I" } : Jvm.MethodName)) ∈ lw_all := lw_g (lw_at lw_m4 209 rfl) rfl
theorem q1048 : (Jvm.Cond.selects "FerryHall" ({ cls := "FerryHall", name := "text", desc := "(I)I" } : Jvm.MethodName) ({ cls := "FerryHall", name := "text", desc := "(I)I" } : Jvm.MethodName)) ∈ lw_all := lw_g (lw_at lw_m4 210 rfl) rfl
theorem q1049 : (Jvm.Cond.codeWith ({ cls := "FerryHall", name := "text", desc := "(I)I" } : Jvm.MethodName) prog_1_method_8_code (4 : Nat) (Option.some Jvm.ClassFile.FieldType.int) [((40 : Nat), (48 : Nat), (51 : Nat), (110 : Nat))]) ∈ lw_all := lw_g (lw_at lw_m4 211 rfl) rfl
theorem q1050 : (Jvm.Cond.classLink "FerryHall" (110 : Nat) "FerryHall$Wrong") ∈ lw_all := lw_g (lw_at lw_m4 212 rfl) rfl
theorem q1051 : (Jvm.Cond.methodLink "FerryHall" (97 : Nat) ({ cls := "FerryHall", name := "right", desc := "(Z)V" } : Jvm.MethodName)) ∈ lw_all := lw_g (lw_at lw_m4 213 rfl) rfl
theorem q1052 : (Jvm.Cond.static ({ cls := "FerryHall", name := "right", desc := "(Z)V" } : Jvm.MethodName)) ∈ lw_all := lw_g (lw_at lw_m4 214 rfl) rfl
theorem q1053 : (Jvm.Cond.code ({ cls := "FerryHall", name := "right", desc := "(Z)V" } : Jvm.MethodName) prog_1_method_3_code (1 : Nat) (Option.none : Option Jvm.ClassFile.FieldType)) ∈ lw_all := lw_g (lw_at lw_m4 215 rfl) rfl
theorem q1054 : (Jvm.Cond.classLink "FerryHall" (9 : Nat) "java/lang/IllegalArgumentException") ∈ lw_all := lw_g (lw_at lw_m4 216 rfl) rfl
theorem q1095 : (Jvm.Cond.methodLink "FerryHall" (11 : Nat) ({ cls := "java/lang/IllegalArgumentException", name := "<init>", desc := "()V" } : Jvm.MethodName)) ∈ lw_all := lw_g (lw_at lw_m5 17 rfl) rfl
theorem q1118 : (Jvm.Cond.classLink "FerryHall" (101 : Nat) "FerryHall$Reader") ∈ lw_all := lw_g (lw_at lw_m5 40 rfl) rfl
theorem q1120 : (Jvm.Cond.methodLink "FerryHall" (103 : Nat) ({ cls := "FerryHall$Reader", name := "<init>", desc := "(LFerryHall;I)V" } : Jvm.MethodName)) ∈ lw_all := lw_g (lw_at lw_m5 42 rfl) rfl
theorem q1131 : (Jvm.Cond.fieldLinkNest "FerryHall" (112 : Nat) "FerryHall$Reader" "begins" "I" "FerryHall") ∈ lw_tbl := lw_at lw_m5 53 rfl
theorem q1152 : (Jvm.Cond.methodLink "FerryHall" (106 : Nat) ({ cls := "FerryHall$Reader", name := "read", desc := "()LFerryHall$World;" } : Jvm.MethodName)) ∈ lw_all := lw_g (lw_at lw_m5 74 rfl) rfl
theorem q1292 : (Jvm.Cond.fieldLinkNest "FerryHall" (115 : Nat) "FerryHall$Wrong" "kind" "I" "FerryHall") ∈ lw_tbl := lw_at lw_m5 214 rfl
theorem q1346 : (Jvm.Cond.fieldLinkNest "FerryHall" (163 : Nat) "FerryHall$Boat" "holds" "I" "FerryHall") ∈ lw_tbl := lw_at lw_m6 28 rfl
theorem q1349 : (Jvm.Cond.fieldLinkNest "FerryHall" (166 : Nat) "FerryHall$Boat" "load" "I" "FerryHall") ∈ lw_tbl := lw_at lw_m6 31 rfl
theorem q1352 : (Jvm.Cond.fieldLinkNest "FerryHall" (169 : Nat) "FerryHall$Boat" "at" "I" "FerryHall") ∈ lw_tbl := lw_at lw_m6 34 rfl
theorem q1740 : (Jvm.Cond.instanceMethod ({ cls := "FerryHall", name := "count", desc := "(I)I" } : Jvm.MethodName)) ∈ lw_all := lw_g (lw_at lw_m7 182 rfl) rfl
theorem q1741 : (Jvm.Cond.selects "FerryHall" ({ cls := "FerryHall", name := "count", desc := "(I)I" } : Jvm.MethodName) ({ cls := "FerryHall", name := "count", desc := "(I)I" } : Jvm.MethodName)) ∈ lw_all := lw_g (lw_at lw_m7 183 rfl) rfl
theorem q1742 : (Jvm.Cond.code ({ cls := "FerryHall", name := "count", desc := "(I)I" } : Jvm.MethodName) prog_1_method_10_code (2 : Nat) (Option.some Jvm.ClassFile.FieldType.int)) ∈ lw_all := lw_g (lw_at lw_m7 184 rfl) rfl
theorem q1743 : (Jvm.Cond.classLink "FerryHall" (3 : Nat) "java/util/NoSuchElementException") ∈ lw_all := lw_g (lw_at lw_m7 185 rfl) rfl
theorem q1752 : (Jvm.Cond.methodLink "FerryHall" (5 : Nat) ({ cls := "java/util/NoSuchElementException", name := "<init>", desc := "()V" } : Jvm.MethodName)) ∈ lw_all := lw_g (lw_at lw_m7 194 rfl) rfl
theorem q1762 : (Jvm.Cond.instanceMethod ({ cls := "FerryHall", name := "thing", desc := "(II)I" } : Jvm.MethodName)) ∈ lw_all := lw_g (lw_at lw_m7 204 rfl) rfl
theorem q1763 : (Jvm.Cond.selects "FerryHall" ({ cls := "FerryHall", name := "thing", desc := "(II)I" } : Jvm.MethodName) ({ cls := "FerryHall", name := "thing", desc := "(II)I" } : Jvm.MethodName)) ∈ lw_all := lw_g (lw_at lw_m7 205 rfl) rfl
theorem q1764 : (Jvm.Cond.code ({ cls := "FerryHall", name := "thing", desc := "(II)I" } : Jvm.MethodName) prog_1_method_12_code (3 : Nat) (Option.some Jvm.ClassFile.FieldType.int)) ∈ lw_all := lw_g (lw_at lw_m7 206 rfl) rfl
theorem q1765 : (Jvm.Cond.methodLink "FerryHall" (144 : Nat) ({ cls := "FerryHall", name := "aThing", desc := "(I)V" } : Jvm.MethodName)) ∈ lw_all := lw_g (lw_at lw_m7 207 rfl) rfl
theorem q1766 : (Jvm.Cond.privateMethod ({ cls := "FerryHall", name := "aThing", desc := "(I)V" } : Jvm.MethodName)) ∈ lw_tbl := lw_at lw_m7 208 rfl
theorem q1767 : (Jvm.Cond.instanceMethod ({ cls := "FerryHall", name := "aThing", desc := "(I)V" } : Jvm.MethodName)) ∈ lw_all := lw_g (lw_at lw_m7 209 rfl) rfl
theorem q1768 : (Jvm.Cond.code ({ cls := "FerryHall", name := "aThing", desc := "(I)V" } : Jvm.MethodName) prog_1_method_11_code (2 : Nat) (Option.none : Option Jvm.ClassFile.FieldType)) ∈ lw_all := lw_g (lw_at lw_m7 210 rfl) rfl
theorem q1769 : (Jvm.Cond.methodLink "FerryHall" (137 : Nat) ({ cls := "FerryHall", name := "in", desc := "(III)Z" } : Jvm.MethodName)) ∈ lw_all := lw_g (lw_at lw_m7 211 rfl) rfl
theorem q1770 : (Jvm.Cond.methodLink "FerryHall" (141 : Nat) ({ cls := "FerryHall", name := "found", desc := "(Z)V" } : Jvm.MethodName)) ∈ lw_all := lw_g (lw_at lw_m7 212 rfl) rfl
theorem q1771 : (Jvm.Cond.static ({ cls := "FerryHall", name := "found", desc := "(Z)V" } : Jvm.MethodName)) ∈ lw_all := lw_g (lw_at lw_m7 213 rfl) rfl
theorem q1772 : (Jvm.Cond.code ({ cls := "FerryHall", name := "found", desc := "(Z)V" } : Jvm.MethodName) prog_1_method_2_code (1 : Nat) (Option.none : Option Jvm.ClassFile.FieldType)) ∈ lw_all := lw_g (lw_at lw_m7 214 rfl) rfl
theorem q1777 : (Jvm.Cond.instanceMethod ({ cls := "FerryHall", name := "boat", desc := "(II)I" } : Jvm.MethodName)) ∈ lw_all := lw_g (lw_at lw_m7 219 rfl) rfl
theorem q1778 : (Jvm.Cond.selects "FerryHall" ({ cls := "FerryHall", name := "boat", desc := "(II)I" } : Jvm.MethodName) ({ cls := "FerryHall", name := "boat", desc := "(II)I" } : Jvm.MethodName)) ∈ lw_all := lw_g (lw_at lw_m7 220 rfl) rfl
theorem q1779 : (Jvm.Cond.code ({ cls := "FerryHall", name := "boat", desc := "(II)I" } : Jvm.MethodName) prog_1_method_13_code (4 : Nat) (Option.some Jvm.ClassFile.FieldType.int)) ∈ lw_all := lw_g (lw_at lw_m7 221 rfl) rfl
theorem q1784 : (Jvm.Cond.instanceMethod ({ cls := "FerryHall", name := "water", desc := "(II)Z" } : Jvm.MethodName)) ∈ lw_all := lw_g (lw_at lw_m7 226 rfl) rfl
theorem q1785 : (Jvm.Cond.selects "FerryHall" ({ cls := "FerryHall", name := "water", desc := "(II)Z" } : Jvm.MethodName) ({ cls := "FerryHall", name := "water", desc := "(II)Z" } : Jvm.MethodName)) ∈ lw_all := lw_g (lw_at lw_m7 227 rfl) rfl
theorem q1786 : (Jvm.Cond.code ({ cls := "FerryHall", name := "water", desc := "(II)Z" } : Jvm.MethodName) prog_1_method_14_code (3 : Nat) (Option.some Jvm.ClassFile.FieldType.boolean)) ∈ lw_all := lw_g (lw_at lw_m7 228 rfl) rfl
theorem q1787 : (Jvm.Cond.methodLink "FerryHall" (172 : Nat) ({ cls := "FerryHall$World", name := "flows", desc := "(II)Z" } : Jvm.MethodName)) ∈ lw_all := lw_g (lw_at lw_m7 229 rfl) rfl
theorem q1792 : (Jvm.Cond.instanceMethod ({ cls := "FerryHall", name := "bars", desc := "(IIIZ)I" } : Jvm.MethodName)) ∈ lw_all := lw_g (lw_at lw_m7 234 rfl) rfl
theorem q1793 : (Jvm.Cond.selects "FerryHall" ({ cls := "FerryHall", name := "bars", desc := "(IIIZ)I" } : Jvm.MethodName) ({ cls := "FerryHall", name := "bars", desc := "(IIIZ)I" } : Jvm.MethodName)) ∈ lw_all := lw_g (lw_at lw_m7 235 rfl) rfl
theorem q1794 : (Jvm.Cond.code ({ cls := "FerryHall", name := "bars", desc := "(IIIZ)I" } : Jvm.MethodName) prog_1_method_15_code (5 : Nat) (Option.some Jvm.ClassFile.FieldType.int)) ∈ lw_all := lw_g (lw_at lw_m7 236 rfl) rfl
theorem q1795 : (Jvm.Cond.methodLink "FerryHall" (180 : Nat) ({ cls := "FerryHall$World", name := "all", desc := "()I" } : Jvm.MethodName)) ∈ lw_all := lw_g (lw_at lw_m7 237 rfl) rfl
theorem q1800 : (Jvm.Cond.instanceMethod ({ cls := "FerryHall", name := "safe", desc := "(IIZ)I" } : Jvm.MethodName)) ∈ lw_all := lw_g (lw_at lw_m8 2 rfl) rfl
theorem q1801 : (Jvm.Cond.selects "FerryHall" ({ cls := "FerryHall", name := "safe", desc := "(IIZ)I" } : Jvm.MethodName) ({ cls := "FerryHall", name := "safe", desc := "(IIZ)I" } : Jvm.MethodName)) ∈ lw_all := lw_g (lw_at lw_m8 3 rfl) rfl
theorem q1802 : (Jvm.Cond.code ({ cls := "FerryHall", name := "safe", desc := "(IIZ)I" } : Jvm.MethodName) prog_1_method_16_code (6 : Nat) (Option.some Jvm.ClassFile.FieldType.int)) ∈ lw_all := lw_g (lw_at lw_m8 4 rfl) rfl
theorem q1807 : (Jvm.Cond.instanceMethod ({ cls := "FerryHall", name := "reached", desc := "(I)I" } : Jvm.MethodName)) ∈ lw_all := lw_g (lw_at lw_m8 9 rfl) rfl
theorem q1808 : (Jvm.Cond.selects "FerryHall" ({ cls := "FerryHall", name := "reached", desc := "(I)I" } : Jvm.MethodName) ({ cls := "FerryHall", name := "reached", desc := "(I)I" } : Jvm.MethodName)) ∈ lw_all := lw_g (lw_at lw_m8 10 rfl) rfl
theorem q1809 : (Jvm.Cond.code ({ cls := "FerryHall", name := "reached", desc := "(I)I" } : Jvm.MethodName) prog_1_method_17_code (5 : Nat) (Option.some Jvm.ClassFile.FieldType.int)) ∈ lw_all := lw_g (lw_at lw_m8 11 rfl) rfl
theorem q1810 : (Jvm.Cond.methodLink "FerryHall" (198 : Nat) ({ cls := "java/lang/Math", name := "max", desc := "(II)I" } : Jvm.MethodName)) ∈ lw_all := lw_g (lw_at lw_m8 12 rfl) rfl
theorem q1815 : (Jvm.Cond.instanceMethod ({ cls := "FerryHall", name := "way", desc := "(II)I" } : Jvm.MethodName)) ∈ lw_all := lw_g (lw_at lw_m8 17 rfl) rfl
theorem q1816 : (Jvm.Cond.selects "FerryHall" ({ cls := "FerryHall", name := "way", desc := "(II)I" } : Jvm.MethodName) ({ cls := "FerryHall", name := "way", desc := "(II)I" } : Jvm.MethodName)) ∈ lw_all := lw_g (lw_at lw_m8 18 rfl) rfl
theorem q1817 : (Jvm.Cond.code ({ cls := "FerryHall", name := "way", desc := "(II)I" } : Jvm.MethodName) prog_1_method_25_code (5 : Nat) (Option.some Jvm.ClassFile.FieldType.int)) ∈ lw_all := lw_g (lw_at lw_m8 19 rfl) rfl
theorem q1818 : (Jvm.Cond.methodLink "FerryHall" (245 : Nat) ({ cls := "FerryHall$World", name := "slowest", desc := "(I)I" } : Jvm.MethodName)) ∈ lw_all := lw_g (lw_at lw_m8 20 rfl) rfl
theorem q1823 : (Jvm.Cond.instanceMethod ({ cls := "FerryHall", name := "where", desc := "(II)I" } : Jvm.MethodName)) ∈ lw_all := lw_g (lw_at lw_m8 25 rfl) rfl
theorem q1824 : (Jvm.Cond.selects "FerryHall" ({ cls := "FerryHall", name := "where", desc := "(II)I" } : Jvm.MethodName) ({ cls := "FerryHall", name := "where", desc := "(II)I" } : Jvm.MethodName)) ∈ lw_all := lw_g (lw_at lw_m8 26 rfl) rfl
theorem q1825 : (Jvm.Cond.code ({ cls := "FerryHall", name := "where", desc := "(II)I" } : Jvm.MethodName) prog_1_method_27_code (3 : Nat) (Option.some Jvm.ClassFile.FieldType.int)) ∈ lw_all := lw_g (lw_at lw_m8 27 rfl) rfl
theorem q1826 : (Jvm.Cond.methodLink "FerryHall" (257 : Nat) ({ cls := "FerryHall", name := "behind", desc := "(I)LFerryHall$Place;" } : Jvm.MethodName)) ∈ lw_all := lw_g (lw_at lw_m8 28 rfl) rfl
theorem q1827 : (Jvm.Cond.privateMethod ({ cls := "FerryHall", name := "behind", desc := "(I)LFerryHall$Place;" } : Jvm.MethodName)) ∈ lw_tbl := lw_at lw_m8 29 rfl
theorem q1828 : (Jvm.Cond.instanceMethod ({ cls := "FerryHall", name := "behind", desc := "(I)LFerryHall$Place;" } : Jvm.MethodName)) ∈ lw_all := lw_g (lw_at lw_m8 30 rfl) rfl
theorem q1829 : (Jvm.Cond.code ({ cls := "FerryHall", name := "behind", desc := "(I)LFerryHall$Place;" } : Jvm.MethodName) prog_1_method_26_code (4 : Nat) (Option.some (Jvm.ClassFile.FieldType.object "FerryHall$Place"))) ∈ lw_all := lw_g (lw_at lw_m8 31 rfl) rfl
theorem q1830 : (Jvm.Cond.methodLink "FerryHall" (261 : Nat) ({ cls := "FerryHall$Place", name := "shoreOf", desc := "(I)I" } : Jvm.MethodName)) ∈ lw_all := lw_g (lw_at lw_m8 32 rfl) rfl
theorem q1835 : (Jvm.Cond.instanceMethod ({ cls := "FerryHall", name := "rides", desc := "(II)I" } : Jvm.MethodName)) ∈ lw_all := lw_g (lw_at lw_m8 37 rfl) rfl
theorem q1836 : (Jvm.Cond.selects "FerryHall" ({ cls := "FerryHall", name := "rides", desc := "(II)I" } : Jvm.MethodName) ({ cls := "FerryHall", name := "rides", desc := "(II)I" } : Jvm.MethodName)) ∈ lw_all := lw_g (lw_at lw_m8 38 rfl) rfl
theorem q1837 : (Jvm.Cond.code ({ cls := "FerryHall", name := "rides", desc := "(II)I" } : Jvm.MethodName) prog_1_method_28_code (7 : Nat) (Option.some Jvm.ClassFile.FieldType.int)) ∈ lw_all := lw_g (lw_at lw_m8 39 rfl) rfl
theorem q1842 : (Jvm.Cond.instanceMethod ({ cls := "FerryHall", name := "laws", desc := "(I)I" } : Jvm.MethodName)) ∈ lw_all := lw_g (lw_at lw_m8 44 rfl) rfl
theorem q1843 : (Jvm.Cond.selects "FerryHall" ({ cls := "FerryHall", name := "laws", desc := "(I)I" } : Jvm.MethodName) ({ cls := "FerryHall", name := "laws", desc := "(I)I" } : Jvm.MethodName)) ∈ lw_all := lw_g (lw_at lw_m8 45 rfl) rfl
theorem q1844 : (Jvm.Cond.code ({ cls := "FerryHall", name := "laws", desc := "(I)I" } : Jvm.MethodName) prog_1_method_30_code (2 : Nat) (Option.some Jvm.ClassFile.FieldType.int)) ∈ lw_all := lw_g (lw_at lw_m8 46 rfl) rfl
theorem q1845 : (Jvm.Cond.methodLink "FerryHall" (274 : Nat) ({ cls := "FerryHall", name := "tellLaws", desc := "()V" } : Jvm.MethodName)) ∈ lw_all := lw_g (lw_at lw_m8 47 rfl) rfl
theorem q1846 : (Jvm.Cond.privateMethod ({ cls := "FerryHall", name := "tellLaws", desc := "()V" } : Jvm.MethodName)) ∈ lw_tbl := lw_at lw_m8 48 rfl
theorem q1847 : (Jvm.Cond.instanceMethod ({ cls := "FerryHall", name := "tellLaws", desc := "()V" } : Jvm.MethodName)) ∈ lw_all := lw_g (lw_at lw_m8 49 rfl) rfl
theorem q1848 : (Jvm.Cond.code ({ cls := "FerryHall", name := "tellLaws", desc := "()V" } : Jvm.MethodName) prog_1_method_29_code (4 : Nat) (Option.none : Option Jvm.ClassFile.FieldType)) ∈ lw_all := lw_g (lw_at lw_m8 50 rfl) rfl
theorem q1853 : (Jvm.Cond.instanceMethod ({ cls := "FerryHall", name := "size", desc := "(I)I" } : Jvm.MethodName)) ∈ lw_all := lw_g (lw_at lw_m8 55 rfl) rfl
theorem q1854 : (Jvm.Cond.selects "FerryHall" ({ cls := "FerryHall", name := "size", desc := "(I)I" } : Jvm.MethodName) ({ cls := "FerryHall", name := "size", desc := "(I)I" } : Jvm.MethodName)) ∈ lw_all := lw_g (lw_at lw_m8 56 rfl) rfl
theorem q1855 : (Jvm.Cond.code ({ cls := "FerryHall", name := "size", desc := "(I)I" } : Jvm.MethodName) prog_1_method_34_code (2 : Nat) (Option.some Jvm.ClassFile.FieldType.int)) ∈ lw_all := lw_g (lw_at lw_m8 57 rfl) rfl
theorem q1856 : (Jvm.Cond.methodLink "FerryHall" (284 : Nat) ({ cls := "FerryHall", name := "holdSize", desc := "()I" } : Jvm.MethodName)) ∈ lw_all := lw_g (lw_at lw_m8 58 rfl) rfl
theorem q1857 : (Jvm.Cond.privateMethod ({ cls := "FerryHall", name := "holdSize", desc := "()I" } : Jvm.MethodName)) ∈ lw_tbl := lw_at lw_m8 59 rfl
theorem q1858 : (Jvm.Cond.instanceMethod ({ cls := "FerryHall", name := "holdSize", desc := "()I" } : Jvm.MethodName)) ∈ lw_all := lw_g (lw_at lw_m8 60 rfl) rfl
theorem q1859 : (Jvm.Cond.code ({ cls := "FerryHall", name := "holdSize", desc := "()I" } : Jvm.MethodName) prog_1_method_32_code (3 : Nat) (Option.some Jvm.ClassFile.FieldType.int)) ∈ lw_all := lw_g (lw_at lw_m8 61 rfl) rfl
theorem q1860 : (Jvm.Cond.methodLink "FerryHall" (277 : Nat) ({ cls := "FerryHall", name := "tries", desc := "(II)I" } : Jvm.MethodName)) ∈ lw_all := lw_g (lw_at lw_m8 62 rfl) rfl
theorem q1861 : (Jvm.Cond.privateMethod ({ cls := "FerryHall", name := "tries", desc := "(II)I" } : Jvm.MethodName)) ∈ lw_tbl := lw_at lw_m8 63 rfl
theorem q1862 : (Jvm.Cond.instanceMethod ({ cls := "FerryHall", name := "tries", desc := "(II)I" } : Jvm.MethodName)) ∈ lw_all := lw_g (lw_at lw_m8 64 rfl) rfl
theorem q1863 : (Jvm.Cond.code ({ cls := "FerryHall", name := "tries", desc := "(II)I" } : Jvm.MethodName) prog_1_method_31_code (3 : Nat) (Option.some Jvm.ClassFile.FieldType.int)) ∈ lw_all := lw_g (lw_at lw_m8 65 rfl) rfl
theorem q1864 : (Jvm.Cond.methodLink "FerryHall" (290 : Nat) ({ cls := "FerryHall", name := "loadSize", desc := "()I" } : Jvm.MethodName)) ∈ lw_all := lw_g (lw_at lw_m8 66 rfl) rfl
theorem q1865 : (Jvm.Cond.privateMethod ({ cls := "FerryHall", name := "loadSize", desc := "()I" } : Jvm.MethodName)) ∈ lw_tbl := lw_at lw_m8 67 rfl
theorem q1866 : (Jvm.Cond.instanceMethod ({ cls := "FerryHall", name := "loadSize", desc := "()I" } : Jvm.MethodName)) ∈ lw_all := lw_g (lw_at lw_m8 68 rfl) rfl
theorem q1867 : (Jvm.Cond.code ({ cls := "FerryHall", name := "loadSize", desc := "()I" } : Jvm.MethodName) prog_1_method_33_code (5 : Nat) (Option.some Jvm.ClassFile.FieldType.int)) ∈ lw_all := lw_g (lw_at lw_m8 69 rfl) rfl
theorem q1872 : (Jvm.Cond.instanceMethod ({ cls := "FerryHall", name := "alike", desc := "(I)I" } : Jvm.MethodName)) ∈ lw_all := lw_g (lw_at lw_m8 74 rfl) rfl
theorem q1873 : (Jvm.Cond.selects "FerryHall" ({ cls := "FerryHall", name := "alike", desc := "(I)I" } : Jvm.MethodName) ({ cls := "FerryHall", name := "alike", desc := "(I)I" } : Jvm.MethodName)) ∈ lw_all := lw_g (lw_at lw_m8 75 rfl) rfl
theorem q1874 : (Jvm.Cond.code ({ cls := "FerryHall", name := "alike", desc := "(I)I" } : Jvm.MethodName) prog_1_method_38_code (4 : Nat) (Option.some Jvm.ClassFile.FieldType.int)) ∈ lw_all := lw_g (lw_at lw_m8 76 rfl) rfl
theorem q1875 : (Jvm.Cond.methodLink "FerryHall" (307 : Nat) ({ cls := "FerryHall", name := "areAlike", desc := "(II)Z" } : Jvm.MethodName)) ∈ lw_all := lw_g (lw_at lw_m8 77 rfl) rfl
theorem q1876 : (Jvm.Cond.privateMethod ({ cls := "FerryHall", name := "areAlike", desc := "(II)Z" } : Jvm.MethodName)) ∈ lw_tbl := lw_at lw_m8 78 rfl
theorem q1877 : (Jvm.Cond.instanceMethod ({ cls := "FerryHall", name := "areAlike", desc := "(II)Z" } : Jvm.MethodName)) ∈ lw_all := lw_g (lw_at lw_m8 79 rfl) rfl
theorem q1878 : (Jvm.Cond.code ({ cls := "FerryHall", name := "areAlike", desc := "(II)Z" } : Jvm.MethodName) prog_1_method_37_code (8 : Nat) (Option.some Jvm.ClassFile.FieldType.boolean)) ∈ lw_all := lw_g (lw_at lw_m8 80 rfl) rfl
theorem q1879 : (Jvm.Cond.methodLink "FerryHall" (303 : Nat) ({ cls := "FerryHall", name := "exchanged", desc := "(III)I" } : Jvm.MethodName)) ∈ lw_all := lw_g (lw_at lw_m8 81 rfl) rfl
theorem q1880 : (Jvm.Cond.static ({ cls := "FerryHall", name := "exchanged", desc := "(III)I" } : Jvm.MethodName)) ∈ lw_all := lw_g (lw_at lw_m8 82 rfl) rfl
theorem q1881 : (Jvm.Cond.code ({ cls := "FerryHall", name := "exchanged", desc := "(III)I" } : Jvm.MethodName) prog_1_method_36_code (5 : Nat) (Option.some Jvm.ClassFile.FieldType.int)) ∈ lw_all := lw_g (lw_at lw_m8 83 rfl) rfl
theorem q1886 : (Jvm.Cond.instanceMethod ({ cls := "FerryHall", name := "play", desc := "(I)I" } : Jvm.MethodName)) ∈ lw_all := lw_g (lw_at lw_m8 88 rfl) rfl
theorem q1887 : (Jvm.Cond.selects "FerryHall" ({ cls := "FerryHall", name := "play", desc := "(I)I" } : Jvm.MethodName) ({ cls := "FerryHall", name := "play", desc := "(I)I" } : Jvm.MethodName)) ∈ lw_all := lw_g (lw_at lw_m8 89 rfl) rfl
theorem q1888 : (Jvm.Cond.code ({ cls := "FerryHall", name := "play", desc := "(I)I" } : Jvm.MethodName) prog_1_method_42_code (4 : Nat) (Option.some Jvm.ClassFile.FieldType.int)) ∈ lw_all := lw_g (lw_at lw_m8 90 rfl) rfl
theorem q1889 : (Jvm.Cond.methodLink "FerryHall" (330 : Nat) ({ cls := "FerryHall$Place", name := "isGoal", desc := "()Z" } : Jvm.MethodName)) ∈ lw_all := lw_g (lw_at lw_m8 91 rfl) rfl
theorem q1894 : (Jvm.Cond.instanceMethod ({ cls := "FerryHall", name := "hint", desc := "(I)I" } : Jvm.MethodName)) ∈ lw_all := lw_g (lw_at lw_m8 96 rfl) rfl
theorem q1895 : (Jvm.Cond.selects "FerryHall" ({ cls := "FerryHall", name := "hint", desc := "(I)I" } : Jvm.MethodName) ({ cls := "FerryHall", name := "hint", desc := "(I)I" } : Jvm.MethodName)) ∈ lw_all := lw_g (lw_at lw_m8 97 rfl) rfl
theorem q1896 : (Jvm.Cond.code ({ cls := "FerryHall", name := "hint", desc := "(I)I" } : Jvm.MethodName) prog_1_method_43_code (6 : Nat) (Option.some Jvm.ClassFile.FieldType.int)) ∈ lw_all := lw_g (lw_at lw_m8 98 rfl) rfl
theorem q1897 : (Jvm.Cond.methodLink "FerryHall" (339 : Nat) ({ cls := "FerryHall$Map", name := "find", desc := "(I)I" } : Jvm.MethodName)) ∈ lw_all := lw_g (lw_at lw_m8 99 rfl) rfl
theorem q2586 : (Jvm.Cond.castable "FerryHall" "java/lang/Object") ∈ lw_tbl := lw_at lw_m11 68 rfl
theorem in_X1 : ∀ w ∈ wsX10, w ∈ lw_all := lw_in wsX10 [575, 577, 579, 581, 583, 585, 587, 589, 591, 593, 595, 597, 599, 601, 603, 605, 607, 609, 611] (by decide +kernel) (by decide +kernel)
/-! FerryHall$World -/
set_option maxRecDepth 100000
def RX2 : String := "FerryHall$World"
def TX2 : u_T := fun k => match k with
  | 0 => ("FerryHall$World", "shores", "I", false)
  | 1 => ("FerryHall$World", "things", "I", false)
  | 2 => ("FerryHall$World", "lampAt", "I", false)
  | 3 => ("FerryHall$World", "anyWater", "Z", false)
  | 4 => ("FerryHall$World", "weights", "[I", true)
  | 5 => ("FerryHall$World", "minutes", "[I", true)
  | 6 => ("FerryHall$World", "letters", "[I", true)
  | 7 => ("FerryHall$World", "water", "[[Z", true)
  | 8 => ("FerryHall$World", "boats", "Ljava/util/List;", true)
  | 9 => ("FerryHall$World", "laws", "Ljava/util/List;", true)
  | _ => ("FerryHall$World", "bars", "[[[[S", true)
def tyX2 : Nat → FieldType := fun k => match k with
  | 0 => .int
  | 1 => .int
  | 2 => .int
  | 3 => .boolean
  | 4 => .array .int
  | 5 => .array .int
  | 6 => .array .int
  | 7 => .array (.array .boolean)
  | 8 => .object "java/util/List"
  | 9 => .object "java/util/List"
  | _ => .array (.array (.array (.array .short)))
abbrev wsX20 : List Cond := u_ws RX2 TX2 11
theorem nmX2 : ∀ a, a < 11 → ∀ b, b < 11 → a ≠ b → (TX2 a).2.1 ≠ (TX2 b).2.1 := by decide +kernel
theorem tyX2_ok : ∀ k, k < 11 → parseFieldDescriptor (TX2 k).2.2.1 = some (tyX2 k) := by decide +kernel
abbrev cX2_init : ByteArray := prog_16_method_1_code
def yX2_init : MethodName := ⟨RX2, "<init>", "()V"⟩
def dkwX2_init_3 : List UInt8 := [183, 0, 39, 181, 0, 44, 42, 8, 6, 5, 197, 0, 47, 3, 181, 0, 49, 177]
abbrev dktX2_init_3 : List UInt8 := dkwX2_init_3 ++ []
def dkwX2_init_2 : List UInt8 := [197, 0, 32, 2, 181, 0, 34, 42, 187, 0, 37, 89, 183, 0, 39, 181, 0, 40, 42, 187, 0, 37, 89]
abbrev dktX2_init_2 : List UInt8 := dkwX2_init_2 ++ dktX2_init_3
def dkwX2_init_1 : List UInt8 := [181, 0, 22, 42, 16, 8, 188, 10, 181, 0, 26, 42, 16, 8, 188, 10, 181, 0, 29, 42, 7, 7]
abbrev dktX2_init_1 : List UInt8 := dkwX2_init_1 ++ dktX2_init_2
def dkwX2_init_0 : List UInt8 := [42, 183, 0, 3, 42, 5, 181, 0, 9, 42, 2, 181, 0, 15, 42, 4, 181, 0, 18, 42, 16, 8, 188, 10]
abbrev dktX2_init_0 : List UInt8 := dkwX2_init_0 ++ dktX2_init_1
theorem dksX2_init_0 : cX2_init.data.toList.drop 0 = dktX2_init_0 := by decide +kernel
theorem dksX2_init_1 : cX2_init.data.toList.drop 24 = dktX2_init_1 := dk_seg dksX2_init_0 24 rfl rfl
theorem dksX2_init_2 : cX2_init.data.toList.drop 46 = dktX2_init_2 := dk_seg dksX2_init_1 22 rfl rfl
theorem dksX2_init_3 : cX2_init.data.toList.drop 69 = dktX2_init_3 := dk_seg dksX2_init_2 23 rfl rfl
theorem dX2_init_0 : decode cX2_init 0 = .ok (.aload_n 0, 1) := dk_42 (dk_at dksX2_init_0 0 rfl rfl)
theorem dX2_init_1 : decode cX2_init 1 = .ok (.invokespecial 3, 3) := dk_183 0 3 (dk_at dksX2_init_0 1 rfl rfl)
theorem dX2_init_4 : decode cX2_init 4 = .ok (.aload_n 0, 1) := dk_42 (dk_at dksX2_init_0 4 rfl rfl)
theorem dX2_init_5 : decode cX2_init 5 = .ok (.iconst 2, 1) := dk_5 (dk_at dksX2_init_0 5 rfl rfl)
theorem dX2_init_6 : decode cX2_init 6 = .ok (.putfield 9, 3) := dk_181 0 9 (dk_at dksX2_init_0 6 rfl rfl)
theorem dX2_init_9 : decode cX2_init 9 = .ok (.aload_n 0, 1) := dk_42 (dk_at dksX2_init_0 9 rfl rfl)
theorem dX2_init_10 : decode cX2_init 10 = .ok (.iconst (-1), 1) := dk_2 (dk_at dksX2_init_0 10 rfl rfl)
theorem dX2_init_11 : decode cX2_init 11 = .ok (.putfield 15, 3) := dk_181 0 15 (dk_at dksX2_init_0 11 rfl rfl)
theorem dX2_init_14 : decode cX2_init 14 = .ok (.aload_n 0, 1) := dk_42 (dk_at dksX2_init_0 14 rfl rfl)
theorem dX2_init_15 : decode cX2_init 15 = .ok (.iconst 1, 1) := dk_4 (dk_at dksX2_init_0 15 rfl rfl)
theorem dX2_init_16 : decode cX2_init 16 = .ok (.putfield 18, 3) := dk_181 0 18 (dk_at dksX2_init_0 16 rfl rfl)
theorem dX2_init_19 : decode cX2_init 19 = .ok (.aload_n 0, 1) := dk_42 (dk_at dksX2_init_0 19 rfl rfl)
theorem dX2_init_20 : decode cX2_init 20 = .ok (.bipush 8, 2) := dk_16 8 (dk_at dksX2_init_0 20 rfl rfl)
theorem dX2_init_22 : decode cX2_init 22 = .ok (.newarray .int, 2) := dk_188_10 (dk_at dksX2_init_0 22 rfl rfl)
theorem dX2_init_24 : decode cX2_init 24 = .ok (.putfield 22, 3) := dk_181 0 22 (dk_at dksX2_init_1 0 rfl rfl)
theorem dX2_init_27 : decode cX2_init 27 = .ok (.aload_n 0, 1) := dk_42 (dk_at dksX2_init_1 3 rfl rfl)
theorem dX2_init_28 : decode cX2_init 28 = .ok (.bipush 8, 2) := dk_16 8 (dk_at dksX2_init_1 4 rfl rfl)
theorem dX2_init_30 : decode cX2_init 30 = .ok (.newarray .int, 2) := dk_188_10 (dk_at dksX2_init_1 6 rfl rfl)
theorem dX2_init_32 : decode cX2_init 32 = .ok (.putfield 26, 3) := dk_181 0 26 (dk_at dksX2_init_1 8 rfl rfl)
theorem dX2_init_35 : decode cX2_init 35 = .ok (.aload_n 0, 1) := dk_42 (dk_at dksX2_init_1 11 rfl rfl)
theorem dX2_init_36 : decode cX2_init 36 = .ok (.bipush 8, 2) := dk_16 8 (dk_at dksX2_init_1 12 rfl rfl)
theorem dX2_init_38 : decode cX2_init 38 = .ok (.newarray .int, 2) := dk_188_10 (dk_at dksX2_init_1 14 rfl rfl)
theorem dX2_init_40 : decode cX2_init 40 = .ok (.putfield 29, 3) := dk_181 0 29 (dk_at dksX2_init_1 16 rfl rfl)
theorem dX2_init_43 : decode cX2_init 43 = .ok (.aload_n 0, 1) := dk_42 (dk_at dksX2_init_1 19 rfl rfl)
theorem dX2_init_44 : decode cX2_init 44 = .ok (.iconst 4, 1) := dk_7 (dk_at dksX2_init_1 20 rfl rfl)
theorem dX2_init_45 : decode cX2_init 45 = .ok (.iconst 4, 1) := dk_7 (dk_at dksX2_init_1 21 rfl rfl)
theorem dX2_init_46 : decode cX2_init 46 = .ok (.multianewarray 32 2, 4) := by decide +kernel
theorem dX2_init_50 : decode cX2_init 50 = .ok (.putfield 34, 3) := dk_181 0 34 (dk_at dksX2_init_2 4 rfl rfl)
theorem dX2_init_53 : decode cX2_init 53 = .ok (.aload_n 0, 1) := dk_42 (dk_at dksX2_init_2 7 rfl rfl)
theorem dX2_init_54 : decode cX2_init 54 = .ok (.new 37, 3) := dk_187 0 37 (dk_at dksX2_init_2 8 rfl rfl)
theorem dX2_init_57 : decode cX2_init 57 = .ok (.dup, 1) := dk_89 (dk_at dksX2_init_2 11 rfl rfl)
theorem dX2_init_58 : decode cX2_init 58 = .ok (.invokespecial 39, 3) := dk_183 0 39 (dk_at dksX2_init_2 12 rfl rfl)
theorem dX2_init_61 : decode cX2_init 61 = .ok (.putfield 40, 3) := dk_181 0 40 (dk_at dksX2_init_2 15 rfl rfl)
theorem dX2_init_64 : decode cX2_init 64 = .ok (.aload_n 0, 1) := dk_42 (dk_at dksX2_init_2 18 rfl rfl)
theorem dX2_init_65 : decode cX2_init 65 = .ok (.new 37, 3) := dk_187 0 37 (dk_at dksX2_init_2 19 rfl rfl)
theorem dX2_init_68 : decode cX2_init 68 = .ok (.dup, 1) := dk_89 (dk_at dksX2_init_2 22 rfl rfl)
theorem dX2_init_69 : decode cX2_init 69 = .ok (.invokespecial 39, 3) := dk_183 0 39 (dk_at dksX2_init_3 0 rfl rfl)
theorem dX2_init_72 : decode cX2_init 72 = .ok (.putfield 44, 3) := dk_181 0 44 (dk_at dksX2_init_3 3 rfl rfl)
theorem dX2_init_75 : decode cX2_init 75 = .ok (.aload_n 0, 1) := dk_42 (dk_at dksX2_init_3 6 rfl rfl)
theorem dX2_init_76 : decode cX2_init 76 = .ok (.iconst 5, 1) := dk_8 (dk_at dksX2_init_3 7 rfl rfl)
theorem dX2_init_77 : decode cX2_init 77 = .ok (.iconst 3, 1) := dk_6 (dk_at dksX2_init_3 8 rfl rfl)
theorem dX2_init_78 : decode cX2_init 78 = .ok (.iconst 2, 1) := dk_5 (dk_at dksX2_init_3 9 rfl rfl)
theorem dX2_init_79 : decode cX2_init 79 = .ok (.multianewarray 47 3, 4) := by decide +kernel
theorem dX2_init_83 : decode cX2_init 83 = .ok (.putfield 49, 3) := dk_181 0 49 (dk_at dksX2_init_3 14 rfl rfl)
theorem dX2_init_86 : decode cX2_init 86 = .ok (.return_, 1) := dk_177 (dk_at dksX2_init_3 17 rfl rfl)
abbrev cX2_tell : ByteArray := prog_16_method_8_code
def yX2_tell : MethodName := ⟨RX2, "tell", "()V"⟩
def dkwX2_tell_8 : List UInt8 := [167, 255, 91, 132, 2, 1, 167, 255, 75, 177]
abbrev dktX2_tell_8 : List UInt8 := dkwX2_tell_8 ++ []
def dkwX2_tell_7 : List UInt8 := [42, 180, 0, 49, 28, 50, 29, 50, 21, 4, 25, 5, 83, 132, 4, 1, 167, 255, 105, 132, 3, 1]
abbrev dktX2_tell_7 : List UInt8 := dkwX2_tell_7 ++ dktX2_tell_8
def dkwX2_tell_6 : List UInt8 := [120, 128, 54, 7, 132, 8, 1, 167, 255, 205, 25, 5, 21, 6, 21, 7, 147, 86, 132, 6, 1, 167, 255, 171]
abbrev dktX2_tell_6 : List UInt8 := dkwX2_tell_6 ++ dktX2_tell_7
def dkwX2_tell_5 : List UInt8 := [185, 0, 83, 2, 0, 192, 0, 87, 43, 42, 180, 0, 9, 182, 0, 89, 153, 0, 12, 21, 7, 4, 21, 8]
abbrev dktX2_tell_5 : List UInt8 := dkwX2_tell_5 ++ dktX2_tell_6
def dkwX2_tell_4 : List UInt8 := [54, 8, 21, 8, 42, 180, 0, 44, 185, 0, 77, 1, 0, 162, 0, 43, 42, 180, 0, 44, 21, 8]
abbrev dktX2_tell_4 : List UInt8 := dkwX2_tell_4 ++ dktX2_tell_5
def dkwX2_tell_3 : List UInt8 := [181, 0, 71, 4, 54, 6, 21, 6, 25, 5, 190, 162, 0, 83, 43, 21, 6, 181, 0, 74, 3, 54, 7, 3]
abbrev dktX2_tell_3 : List UInt8 := dkwX2_tell_3 ++ dktX2_tell_4
def dkwX2_tell_2 : List UInt8 := [181, 0, 66, 43, 28, 42, 180, 0, 9, 160, 0, 7, 4, 167, 0, 4, 29, 181, 0, 69, 43, 21, 4]
abbrev dktX2_tell_2 : List UInt8 := dkwX2_tell_2 ++ dktX2_tell_3
def dkwX2_tell_1 : List UInt8 := [163, 0, 166, 3, 54, 4, 21, 4, 5, 162, 0, 151, 4, 42, 180, 0, 52, 120, 188, 9, 58, 5, 43, 28]
abbrev dktX2_tell_1 : List UInt8 := dkwX2_tell_1 ++ dktX2_tell_2
def dkwX2_tell_0 : List UInt8 := [187, 0, 61, 89, 42, 183, 0, 63, 76, 3, 61, 28, 42, 180, 0, 9, 163, 0, 179, 3, 62, 29, 5]
abbrev dktX2_tell_0 : List UInt8 := dkwX2_tell_0 ++ dktX2_tell_1
theorem dksX2_tell_0 : cX2_tell.data.toList.drop 0 = dktX2_tell_0 := by decide +kernel
theorem dksX2_tell_1 : cX2_tell.data.toList.drop 23 = dktX2_tell_1 := dk_seg dksX2_tell_0 23 rfl rfl
theorem dksX2_tell_2 : cX2_tell.data.toList.drop 47 = dktX2_tell_2 := dk_seg dksX2_tell_1 24 rfl rfl
theorem dksX2_tell_3 : cX2_tell.data.toList.drop 70 = dktX2_tell_3 := dk_seg dksX2_tell_2 23 rfl rfl
theorem dksX2_tell_4 : cX2_tell.data.toList.drop 94 = dktX2_tell_4 := dk_seg dksX2_tell_3 24 rfl rfl
theorem dksX2_tell_5 : cX2_tell.data.toList.drop 116 = dktX2_tell_5 := dk_seg dksX2_tell_4 22 rfl rfl
theorem dksX2_tell_6 : cX2_tell.data.toList.drop 140 = dktX2_tell_6 := dk_seg dksX2_tell_5 24 rfl rfl
theorem dksX2_tell_7 : cX2_tell.data.toList.drop 164 = dktX2_tell_7 := dk_seg dksX2_tell_6 24 rfl rfl
theorem dksX2_tell_8 : cX2_tell.data.toList.drop 186 = dktX2_tell_8 := dk_seg dksX2_tell_7 22 rfl rfl
theorem dX2_tell_0 : decode cX2_tell 0 = .ok (.new 61, 3) := dk_187 0 61 (dk_at dksX2_tell_0 0 rfl rfl)
theorem dX2_tell_3 : decode cX2_tell 3 = .ok (.dup, 1) := dk_89 (dk_at dksX2_tell_0 3 rfl rfl)
theorem dX2_tell_4 : decode cX2_tell 4 = .ok (.aload_n 0, 1) := dk_42 (dk_at dksX2_tell_0 4 rfl rfl)
theorem dX2_tell_5 : decode cX2_tell 5 = .ok (.invokespecial 63, 3) := dk_183 0 63 (dk_at dksX2_tell_0 5 rfl rfl)
theorem dX2_tell_8 : decode cX2_tell 8 = .ok (.astore_n 1, 1) := dk_76 (dk_at dksX2_tell_0 8 rfl rfl)
theorem dX2_tell_9 : decode cX2_tell 9 = .ok (.iconst 0, 1) := dk_3 (dk_at dksX2_tell_0 9 rfl rfl)
theorem dX2_tell_10 : decode cX2_tell 10 = .ok (.istore_n 2, 1) := dk_61 (dk_at dksX2_tell_0 10 rfl rfl)
theorem dX2_tell_11 : decode cX2_tell 11 = .ok (.iload_n 2, 1) := dk_28 (dk_at dksX2_tell_0 11 rfl rfl)
theorem dX2_tell_12 : decode cX2_tell 12 = .ok (.aload_n 0, 1) := dk_42 (dk_at dksX2_tell_0 12 rfl rfl)
theorem dX2_tell_13 : decode cX2_tell 13 = .ok (.getfield 9, 3) := dk_180 0 9 (dk_at dksX2_tell_0 13 rfl rfl)
theorem dX2_tell_16 : decode cX2_tell 16 = .ok (.if_icmp .gt 179, 3) := dk_163 0 179 (dk_at dksX2_tell_0 16 rfl rfl)
theorem dX2_tell_19 : decode cX2_tell 19 = .ok (.iconst 0, 1) := dk_3 (dk_at dksX2_tell_0 19 rfl rfl)
theorem dX2_tell_20 : decode cX2_tell 20 = .ok (.istore_n 3, 1) := dk_62 (dk_at dksX2_tell_0 20 rfl rfl)
theorem dX2_tell_21 : decode cX2_tell 21 = .ok (.iload_n 3, 1) := dk_29 (dk_at dksX2_tell_0 21 rfl rfl)
theorem dX2_tell_22 : decode cX2_tell 22 = .ok (.iconst 2, 1) := dk_5 (dk_at dksX2_tell_0 22 rfl rfl)
theorem dX2_tell_23 : decode cX2_tell 23 = .ok (.if_icmp .gt 166, 3) := dk_163 0 166 (dk_at dksX2_tell_1 0 rfl rfl)
theorem dX2_tell_26 : decode cX2_tell 26 = .ok (.iconst 0, 1) := dk_3 (dk_at dksX2_tell_1 3 rfl rfl)
theorem dX2_tell_27 : decode cX2_tell 27 = .ok (.istore 4, 2) := dk_54 4 (dk_at dksX2_tell_1 4 rfl rfl)
theorem dX2_tell_29 : decode cX2_tell 29 = .ok (.iload 4, 2) := dk_21 4 (dk_at dksX2_tell_1 6 rfl rfl)
theorem dX2_tell_31 : decode cX2_tell 31 = .ok (.iconst 2, 1) := dk_5 (dk_at dksX2_tell_1 8 rfl rfl)
theorem dX2_tell_32 : decode cX2_tell 32 = .ok (.if_icmp .ge 151, 3) := dk_162 0 151 (dk_at dksX2_tell_1 9 rfl rfl)
theorem dX2_tell_35 : decode cX2_tell 35 = .ok (.iconst 1, 1) := dk_4 (dk_at dksX2_tell_1 12 rfl rfl)
theorem dX2_tell_36 : decode cX2_tell 36 = .ok (.aload_n 0, 1) := dk_42 (dk_at dksX2_tell_1 13 rfl rfl)
theorem dX2_tell_37 : decode cX2_tell 37 = .ok (.getfield 52, 3) := dk_180 0 52 (dk_at dksX2_tell_1 14 rfl rfl)
theorem dX2_tell_40 : decode cX2_tell 40 = .ok (.ishl, 1) := dk_120 (dk_at dksX2_tell_1 17 rfl rfl)
theorem dX2_tell_41 : decode cX2_tell 41 = .ok (.newarray .short, 2) := dk_188_9 (dk_at dksX2_tell_1 18 rfl rfl)
theorem dX2_tell_43 : decode cX2_tell 43 = .ok (.astore 5, 2) := dk_58 5 (dk_at dksX2_tell_1 20 rfl rfl)
theorem dX2_tell_45 : decode cX2_tell 45 = .ok (.aload_n 1, 1) := dk_43 (dk_at dksX2_tell_1 22 rfl rfl)
theorem dX2_tell_46 : decode cX2_tell 46 = .ok (.iload_n 2, 1) := dk_28 (dk_at dksX2_tell_1 23 rfl rfl)
theorem dX2_tell_47 : decode cX2_tell 47 = .ok (.putfield 66, 3) := dk_181 0 66 (dk_at dksX2_tell_2 0 rfl rfl)
theorem dX2_tell_50 : decode cX2_tell 50 = .ok (.aload_n 1, 1) := dk_43 (dk_at dksX2_tell_2 3 rfl rfl)
theorem dX2_tell_51 : decode cX2_tell 51 = .ok (.iload_n 2, 1) := dk_28 (dk_at dksX2_tell_2 4 rfl rfl)
theorem dX2_tell_52 : decode cX2_tell 52 = .ok (.aload_n 0, 1) := dk_42 (dk_at dksX2_tell_2 5 rfl rfl)
theorem dX2_tell_53 : decode cX2_tell 53 = .ok (.getfield 9, 3) := dk_180 0 9 (dk_at dksX2_tell_2 6 rfl rfl)
theorem dX2_tell_56 : decode cX2_tell 56 = .ok (.if_icmp .ne 7, 3) := dk_160 0 7 (dk_at dksX2_tell_2 9 rfl rfl)
theorem dX2_tell_59 : decode cX2_tell 59 = .ok (.iconst 1, 1) := dk_4 (dk_at dksX2_tell_2 12 rfl rfl)
theorem dX2_tell_60 : decode cX2_tell 60 = .ok (.goto 4, 3) := dk_167 0 4 (dk_at dksX2_tell_2 13 rfl rfl)
theorem dX2_tell_63 : decode cX2_tell 63 = .ok (.iload_n 3, 1) := dk_29 (dk_at dksX2_tell_2 16 rfl rfl)
theorem dX2_tell_64 : decode cX2_tell 64 = .ok (.putfield 69, 3) := dk_181 0 69 (dk_at dksX2_tell_2 17 rfl rfl)
theorem dX2_tell_67 : decode cX2_tell 67 = .ok (.aload_n 1, 1) := dk_43 (dk_at dksX2_tell_2 20 rfl rfl)
theorem dX2_tell_68 : decode cX2_tell 68 = .ok (.iload 4, 2) := dk_21 4 (dk_at dksX2_tell_2 21 rfl rfl)
theorem dX2_tell_70 : decode cX2_tell 70 = .ok (.putfield 71, 3) := dk_181 0 71 (dk_at dksX2_tell_3 0 rfl rfl)
theorem dX2_tell_73 : decode cX2_tell 73 = .ok (.iconst 1, 1) := dk_4 (dk_at dksX2_tell_3 3 rfl rfl)
theorem dX2_tell_74 : decode cX2_tell 74 = .ok (.istore 6, 2) := dk_54 6 (dk_at dksX2_tell_3 4 rfl rfl)
theorem dX2_tell_76 : decode cX2_tell 76 = .ok (.iload 6, 2) := dk_21 6 (dk_at dksX2_tell_3 6 rfl rfl)
theorem dX2_tell_78 : decode cX2_tell 78 = .ok (.aload 5, 2) := dk_25 5 (dk_at dksX2_tell_3 8 rfl rfl)
theorem dX2_tell_80 : decode cX2_tell 80 = .ok (.arraylength, 1) := dk_190 (dk_at dksX2_tell_3 10 rfl rfl)
theorem dX2_tell_81 : decode cX2_tell 81 = .ok (.if_icmp .ge 83, 3) := dk_162 0 83 (dk_at dksX2_tell_3 11 rfl rfl)
theorem dX2_tell_84 : decode cX2_tell 84 = .ok (.aload_n 1, 1) := dk_43 (dk_at dksX2_tell_3 14 rfl rfl)
theorem dX2_tell_85 : decode cX2_tell 85 = .ok (.iload 6, 2) := dk_21 6 (dk_at dksX2_tell_3 15 rfl rfl)
theorem dX2_tell_87 : decode cX2_tell 87 = .ok (.putfield 74, 3) := dk_181 0 74 (dk_at dksX2_tell_3 17 rfl rfl)
theorem dX2_tell_90 : decode cX2_tell 90 = .ok (.iconst 0, 1) := dk_3 (dk_at dksX2_tell_3 20 rfl rfl)
theorem dX2_tell_91 : decode cX2_tell 91 = .ok (.istore 7, 2) := dk_54 7 (dk_at dksX2_tell_3 21 rfl rfl)
theorem dX2_tell_93 : decode cX2_tell 93 = .ok (.iconst 0, 1) := dk_3 (dk_at dksX2_tell_3 23 rfl rfl)
theorem dX2_tell_94 : decode cX2_tell 94 = .ok (.istore 8, 2) := dk_54 8 (dk_at dksX2_tell_4 0 rfl rfl)
theorem dX2_tell_96 : decode cX2_tell 96 = .ok (.iload 8, 2) := dk_21 8 (dk_at dksX2_tell_4 2 rfl rfl)
theorem dX2_tell_98 : decode cX2_tell 98 = .ok (.aload_n 0, 1) := dk_42 (dk_at dksX2_tell_4 4 rfl rfl)
theorem dX2_tell_99 : decode cX2_tell 99 = .ok (.getfield 44, 3) := dk_180 0 44 (dk_at dksX2_tell_4 5 rfl rfl)
theorem dX2_tell_102 : decode cX2_tell 102 = .ok (.invokeinterface 77 1, 5) := by decide +kernel
theorem dX2_tell_107 : decode cX2_tell 107 = .ok (.if_icmp .ge 43, 3) := dk_162 0 43 (dk_at dksX2_tell_4 13 rfl rfl)
theorem dX2_tell_110 : decode cX2_tell 110 = .ok (.aload_n 0, 1) := dk_42 (dk_at dksX2_tell_4 16 rfl rfl)
theorem dX2_tell_111 : decode cX2_tell 111 = .ok (.getfield 44, 3) := dk_180 0 44 (dk_at dksX2_tell_4 17 rfl rfl)
theorem dX2_tell_114 : decode cX2_tell 114 = .ok (.iload 8, 2) := dk_21 8 (dk_at dksX2_tell_4 20 rfl rfl)
theorem dX2_tell_116 : decode cX2_tell 116 = .ok (.invokeinterface 83 2, 5) := by decide +kernel
theorem dX2_tell_121 : decode cX2_tell 121 = .ok (.checkcast 87, 3) := dk_192 0 87 (dk_at dksX2_tell_5 5 rfl rfl)
theorem dX2_tell_124 : decode cX2_tell 124 = .ok (.aload_n 1, 1) := dk_43 (dk_at dksX2_tell_5 8 rfl rfl)
theorem dX2_tell_125 : decode cX2_tell 125 = .ok (.aload_n 0, 1) := dk_42 (dk_at dksX2_tell_5 9 rfl rfl)
theorem dX2_tell_126 : decode cX2_tell 126 = .ok (.getfield 9, 3) := dk_180 0 9 (dk_at dksX2_tell_5 10 rfl rfl)
theorem dX2_tell_129 : decode cX2_tell 129 = .ok (.invokevirtual 89, 3) := dk_182 0 89 (dk_at dksX2_tell_5 13 rfl rfl)
theorem dX2_tell_132 : decode cX2_tell 132 = .ok (.ifCond .eq 12, 3) := dk_153 0 12 (dk_at dksX2_tell_5 16 rfl rfl)
theorem dX2_tell_135 : decode cX2_tell 135 = .ok (.iload 7, 2) := dk_21 7 (dk_at dksX2_tell_5 19 rfl rfl)
theorem dX2_tell_137 : decode cX2_tell 137 = .ok (.iconst 1, 1) := dk_4 (dk_at dksX2_tell_5 21 rfl rfl)
theorem dX2_tell_138 : decode cX2_tell 138 = .ok (.iload 8, 2) := dk_21 8 (dk_at dksX2_tell_5 22 rfl rfl)
theorem dX2_tell_140 : decode cX2_tell 140 = .ok (.ishl, 1) := dk_120 (dk_at dksX2_tell_6 0 rfl rfl)
theorem dX2_tell_141 : decode cX2_tell 141 = .ok (.ior, 1) := dk_128 (dk_at dksX2_tell_6 1 rfl rfl)
theorem dX2_tell_142 : decode cX2_tell 142 = .ok (.istore 7, 2) := dk_54 7 (dk_at dksX2_tell_6 2 rfl rfl)
theorem dX2_tell_144 : decode cX2_tell 144 = .ok (.iinc 8 1, 3) := dk_132 8 1 (dk_at dksX2_tell_6 4 rfl rfl)
theorem dX2_tell_147 : decode cX2_tell 147 = .ok (.goto (-51), 3) := dk_167 255 205 (dk_at dksX2_tell_6 7 rfl rfl)
theorem dX2_tell_150 : decode cX2_tell 150 = .ok (.aload 5, 2) := dk_25 5 (dk_at dksX2_tell_6 10 rfl rfl)
theorem dX2_tell_152 : decode cX2_tell 152 = .ok (.iload 6, 2) := dk_21 6 (dk_at dksX2_tell_6 12 rfl rfl)
theorem dX2_tell_154 : decode cX2_tell 154 = .ok (.iload 7, 2) := dk_21 7 (dk_at dksX2_tell_6 14 rfl rfl)
theorem dX2_tell_156 : decode cX2_tell 156 = .ok (.i2s, 1) := dk_147 (dk_at dksX2_tell_6 16 rfl rfl)
theorem dX2_tell_157 : decode cX2_tell 157 = .ok (.sastore, 1) := dk_86 (dk_at dksX2_tell_6 17 rfl rfl)
theorem dX2_tell_158 : decode cX2_tell 158 = .ok (.iinc 6 1, 3) := dk_132 6 1 (dk_at dksX2_tell_6 18 rfl rfl)
theorem dX2_tell_161 : decode cX2_tell 161 = .ok (.goto (-85), 3) := dk_167 255 171 (dk_at dksX2_tell_6 21 rfl rfl)
theorem dX2_tell_164 : decode cX2_tell 164 = .ok (.aload_n 0, 1) := dk_42 (dk_at dksX2_tell_7 0 rfl rfl)
theorem dX2_tell_165 : decode cX2_tell 165 = .ok (.getfield 49, 3) := dk_180 0 49 (dk_at dksX2_tell_7 1 rfl rfl)
theorem dX2_tell_168 : decode cX2_tell 168 = .ok (.iload_n 2, 1) := dk_28 (dk_at dksX2_tell_7 4 rfl rfl)
theorem dX2_tell_169 : decode cX2_tell 169 = .ok (.aaload, 1) := dk_50 (dk_at dksX2_tell_7 5 rfl rfl)
theorem dX2_tell_170 : decode cX2_tell 170 = .ok (.iload_n 3, 1) := dk_29 (dk_at dksX2_tell_7 6 rfl rfl)
theorem dX2_tell_171 : decode cX2_tell 171 = .ok (.aaload, 1) := dk_50 (dk_at dksX2_tell_7 7 rfl rfl)
theorem dX2_tell_172 : decode cX2_tell 172 = .ok (.iload 4, 2) := dk_21 4 (dk_at dksX2_tell_7 8 rfl rfl)
theorem dX2_tell_174 : decode cX2_tell 174 = .ok (.aload 5, 2) := dk_25 5 (dk_at dksX2_tell_7 10 rfl rfl)
theorem dX2_tell_176 : decode cX2_tell 176 = .ok (.aastore, 1) := dk_83 (dk_at dksX2_tell_7 12 rfl rfl)
theorem dX2_tell_177 : decode cX2_tell 177 = .ok (.iinc 4 1, 3) := dk_132 4 1 (dk_at dksX2_tell_7 13 rfl rfl)
theorem dX2_tell_180 : decode cX2_tell 180 = .ok (.goto (-151), 3) := dk_167 255 105 (dk_at dksX2_tell_7 16 rfl rfl)
theorem dX2_tell_183 : decode cX2_tell 183 = .ok (.iinc 3 1, 3) := dk_132 3 1 (dk_at dksX2_tell_7 19 rfl rfl)
theorem dX2_tell_186 : decode cX2_tell 186 = .ok (.goto (-165), 3) := dk_167 255 91 (dk_at dksX2_tell_8 0 rfl rfl)
theorem dX2_tell_189 : decode cX2_tell 189 = .ok (.iinc 2 1, 3) := dk_132 2 1 (dk_at dksX2_tell_8 3 rfl rfl)
theorem dX2_tell_192 : decode cX2_tell 192 = .ok (.goto (-181), 3) := dk_167 255 75 (dk_at dksX2_tell_8 6 rfl rfl)
theorem dX2_tell_195 : decode cX2_tell 195 = .ok (.return_, 1) := dk_177 (dk_at dksX2_tell_8 9 rfl rfl)
abbrev cX2_weight : ByteArray := prog_16_method_3_code
def yX2_weight : MethodName := ⟨RX2, "weight", "(I)I"⟩
def dkwX2_weight_1 : List UInt8 := [180, 0, 22, 29, 46, 96, 61, 132, 3, 1, 167, 255, 227, 28, 172]
abbrev dktX2_weight_1 : List UInt8 := dkwX2_weight_1 ++ []
def dkwX2_weight_0 : List UInt8 := [3, 61, 3, 62, 29, 42, 180, 0, 52, 162, 0, 27, 27, 29, 122, 4, 126, 4, 160, 0, 12, 28, 42]
abbrev dktX2_weight_0 : List UInt8 := dkwX2_weight_0 ++ dktX2_weight_1
theorem dksX2_weight_0 : cX2_weight.data.toList.drop 0 = dktX2_weight_0 := by decide +kernel
theorem dksX2_weight_1 : cX2_weight.data.toList.drop 23 = dktX2_weight_1 := dk_seg dksX2_weight_0 23 rfl rfl
theorem dX2_weight_0 : decode cX2_weight 0 = .ok (.iconst 0, 1) := dk_3 (dk_at dksX2_weight_0 0 rfl rfl)
theorem dX2_weight_1 : decode cX2_weight 1 = .ok (.istore_n 2, 1) := dk_61 (dk_at dksX2_weight_0 1 rfl rfl)
theorem dX2_weight_2 : decode cX2_weight 2 = .ok (.iconst 0, 1) := dk_3 (dk_at dksX2_weight_0 2 rfl rfl)
theorem dX2_weight_3 : decode cX2_weight 3 = .ok (.istore_n 3, 1) := dk_62 (dk_at dksX2_weight_0 3 rfl rfl)
theorem dX2_weight_4 : decode cX2_weight 4 = .ok (.iload_n 3, 1) := dk_29 (dk_at dksX2_weight_0 4 rfl rfl)
theorem dX2_weight_5 : decode cX2_weight 5 = .ok (.aload_n 0, 1) := dk_42 (dk_at dksX2_weight_0 5 rfl rfl)
theorem dX2_weight_6 : decode cX2_weight 6 = .ok (.getfield 52, 3) := dk_180 0 52 (dk_at dksX2_weight_0 6 rfl rfl)
theorem dX2_weight_9 : decode cX2_weight 9 = .ok (.if_icmp .ge 27, 3) := dk_162 0 27 (dk_at dksX2_weight_0 9 rfl rfl)
theorem dX2_weight_12 : decode cX2_weight 12 = .ok (.iload_n 1, 1) := dk_27 (dk_at dksX2_weight_0 12 rfl rfl)
theorem dX2_weight_13 : decode cX2_weight 13 = .ok (.iload_n 3, 1) := dk_29 (dk_at dksX2_weight_0 13 rfl rfl)
theorem dX2_weight_14 : decode cX2_weight 14 = .ok (.ishr, 1) := dk_122 (dk_at dksX2_weight_0 14 rfl rfl)
theorem dX2_weight_15 : decode cX2_weight 15 = .ok (.iconst 1, 1) := dk_4 (dk_at dksX2_weight_0 15 rfl rfl)
theorem dX2_weight_16 : decode cX2_weight 16 = .ok (.iand, 1) := dk_126 (dk_at dksX2_weight_0 16 rfl rfl)
theorem dX2_weight_17 : decode cX2_weight 17 = .ok (.iconst 1, 1) := dk_4 (dk_at dksX2_weight_0 17 rfl rfl)
theorem dX2_weight_18 : decode cX2_weight 18 = .ok (.if_icmp .ne 12, 3) := dk_160 0 12 (dk_at dksX2_weight_0 18 rfl rfl)
theorem dX2_weight_21 : decode cX2_weight 21 = .ok (.iload_n 2, 1) := dk_28 (dk_at dksX2_weight_0 21 rfl rfl)
theorem dX2_weight_22 : decode cX2_weight 22 = .ok (.aload_n 0, 1) := dk_42 (dk_at dksX2_weight_0 22 rfl rfl)
theorem dX2_weight_23 : decode cX2_weight 23 = .ok (.getfield 22, 3) := dk_180 0 22 (dk_at dksX2_weight_1 0 rfl rfl)
theorem dX2_weight_26 : decode cX2_weight 26 = .ok (.iload_n 3, 1) := dk_29 (dk_at dksX2_weight_1 3 rfl rfl)
theorem dX2_weight_27 : decode cX2_weight 27 = .ok (.iaload, 1) := dk_46 (dk_at dksX2_weight_1 4 rfl rfl)
theorem dX2_weight_28 : decode cX2_weight 28 = .ok (.iadd, 1) := dk_96 (dk_at dksX2_weight_1 5 rfl rfl)
theorem dX2_weight_29 : decode cX2_weight 29 = .ok (.istore_n 2, 1) := dk_61 (dk_at dksX2_weight_1 6 rfl rfl)
theorem dX2_weight_30 : decode cX2_weight 30 = .ok (.iinc 3 1, 3) := dk_132 3 1 (dk_at dksX2_weight_1 7 rfl rfl)
theorem dX2_weight_33 : decode cX2_weight 33 = .ok (.goto (-29), 3) := dk_167 255 227 (dk_at dksX2_weight_1 10 rfl rfl)
theorem dX2_weight_36 : decode cX2_weight 36 = .ok (.iload_n 2, 1) := dk_28 (dk_at dksX2_weight_1 13 rfl rfl)
theorem dX2_weight_37 : decode cX2_weight 37 = .ok (.ireturn, 1) := dk_172 (dk_at dksX2_weight_1 14 rfl rfl)
abbrev cX2_rowers : ByteArray := prog_16_method_4_code
def yX2_rowers : MethodName := ⟨RX2, "rowers", "(I)I"⟩
def dkwX2_rowers_1 : List UInt8 := [180, 0, 26, 29, 46, 158, 0, 6, 132, 2, 1, 132, 3, 1, 167, 255, 224, 28, 172]
abbrev dktX2_rowers_1 : List UInt8 := dkwX2_rowers_1 ++ []
def dkwX2_rowers_0 : List UInt8 := [3, 61, 3, 62, 29, 42, 180, 0, 52, 162, 0, 30, 27, 29, 122, 4, 126, 4, 160, 0, 15, 42]
abbrev dktX2_rowers_0 : List UInt8 := dkwX2_rowers_0 ++ dktX2_rowers_1
theorem dksX2_rowers_0 : cX2_rowers.data.toList.drop 0 = dktX2_rowers_0 := by decide +kernel
theorem dksX2_rowers_1 : cX2_rowers.data.toList.drop 22 = dktX2_rowers_1 := dk_seg dksX2_rowers_0 22 rfl rfl
theorem dX2_rowers_0 : decode cX2_rowers 0 = .ok (.iconst 0, 1) := dk_3 (dk_at dksX2_rowers_0 0 rfl rfl)
theorem dX2_rowers_1 : decode cX2_rowers 1 = .ok (.istore_n 2, 1) := dk_61 (dk_at dksX2_rowers_0 1 rfl rfl)
theorem dX2_rowers_2 : decode cX2_rowers 2 = .ok (.iconst 0, 1) := dk_3 (dk_at dksX2_rowers_0 2 rfl rfl)
theorem dX2_rowers_3 : decode cX2_rowers 3 = .ok (.istore_n 3, 1) := dk_62 (dk_at dksX2_rowers_0 3 rfl rfl)
theorem dX2_rowers_4 : decode cX2_rowers 4 = .ok (.iload_n 3, 1) := dk_29 (dk_at dksX2_rowers_0 4 rfl rfl)
theorem dX2_rowers_5 : decode cX2_rowers 5 = .ok (.aload_n 0, 1) := dk_42 (dk_at dksX2_rowers_0 5 rfl rfl)
theorem dX2_rowers_6 : decode cX2_rowers 6 = .ok (.getfield 52, 3) := dk_180 0 52 (dk_at dksX2_rowers_0 6 rfl rfl)
theorem dX2_rowers_9 : decode cX2_rowers 9 = .ok (.if_icmp .ge 30, 3) := dk_162 0 30 (dk_at dksX2_rowers_0 9 rfl rfl)
theorem dX2_rowers_12 : decode cX2_rowers 12 = .ok (.iload_n 1, 1) := dk_27 (dk_at dksX2_rowers_0 12 rfl rfl)
theorem dX2_rowers_13 : decode cX2_rowers 13 = .ok (.iload_n 3, 1) := dk_29 (dk_at dksX2_rowers_0 13 rfl rfl)
theorem dX2_rowers_14 : decode cX2_rowers 14 = .ok (.ishr, 1) := dk_122 (dk_at dksX2_rowers_0 14 rfl rfl)
theorem dX2_rowers_15 : decode cX2_rowers 15 = .ok (.iconst 1, 1) := dk_4 (dk_at dksX2_rowers_0 15 rfl rfl)
theorem dX2_rowers_16 : decode cX2_rowers 16 = .ok (.iand, 1) := dk_126 (dk_at dksX2_rowers_0 16 rfl rfl)
theorem dX2_rowers_17 : decode cX2_rowers 17 = .ok (.iconst 1, 1) := dk_4 (dk_at dksX2_rowers_0 17 rfl rfl)
theorem dX2_rowers_18 : decode cX2_rowers 18 = .ok (.if_icmp .ne 15, 3) := dk_160 0 15 (dk_at dksX2_rowers_0 18 rfl rfl)
theorem dX2_rowers_21 : decode cX2_rowers 21 = .ok (.aload_n 0, 1) := dk_42 (dk_at dksX2_rowers_0 21 rfl rfl)
theorem dX2_rowers_22 : decode cX2_rowers 22 = .ok (.getfield 26, 3) := dk_180 0 26 (dk_at dksX2_rowers_1 0 rfl rfl)
theorem dX2_rowers_25 : decode cX2_rowers 25 = .ok (.iload_n 3, 1) := dk_29 (dk_at dksX2_rowers_1 3 rfl rfl)
theorem dX2_rowers_26 : decode cX2_rowers 26 = .ok (.iaload, 1) := dk_46 (dk_at dksX2_rowers_1 4 rfl rfl)
theorem dX2_rowers_27 : decode cX2_rowers 27 = .ok (.ifCond .le 6, 3) := dk_158 0 6 (dk_at dksX2_rowers_1 5 rfl rfl)
theorem dX2_rowers_30 : decode cX2_rowers 30 = .ok (.iinc 2 1, 3) := dk_132 2 1 (dk_at dksX2_rowers_1 8 rfl rfl)
theorem dX2_rowers_33 : decode cX2_rowers 33 = .ok (.iinc 3 1, 3) := dk_132 3 1 (dk_at dksX2_rowers_1 11 rfl rfl)
theorem dX2_rowers_36 : decode cX2_rowers 36 = .ok (.goto (-32), 3) := dk_167 255 224 (dk_at dksX2_rowers_1 14 rfl rfl)
theorem dX2_rowers_39 : decode cX2_rowers 39 = .ok (.iload_n 2, 1) := dk_28 (dk_at dksX2_rowers_1 17 rfl rfl)
theorem dX2_rowers_40 : decode cX2_rowers 40 = .ok (.ireturn, 1) := dk_172 (dk_at dksX2_rowers_1 18 rfl rfl)
abbrev cX2_all : ByteArray := prog_16_method_2_code
def yX2_all : MethodName := ⟨RX2, "all", "()I"⟩
def dkwX2_all_0 : List UInt8 := [4, 42, 180, 0, 52, 120, 4, 100, 172]
abbrev dktX2_all_0 : List UInt8 := dkwX2_all_0 ++ []
theorem dksX2_all_0 : cX2_all.data.toList.drop 0 = dktX2_all_0 := by decide +kernel
theorem dX2_all_0 : decode cX2_all 0 = .ok (.iconst 1, 1) := dk_4 (dk_at dksX2_all_0 0 rfl rfl)
theorem dX2_all_1 : decode cX2_all 1 = .ok (.aload_n 0, 1) := dk_42 (dk_at dksX2_all_0 1 rfl rfl)
theorem dX2_all_2 : decode cX2_all 2 = .ok (.getfield 52, 3) := dk_180 0 52 (dk_at dksX2_all_0 2 rfl rfl)
theorem dX2_all_5 : decode cX2_all 5 = .ok (.ishl, 1) := dk_120 (dk_at dksX2_all_0 5 rfl rfl)
theorem dX2_all_6 : decode cX2_all 6 = .ok (.iconst 1, 1) := dk_4 (dk_at dksX2_all_0 6 rfl rfl)
theorem dX2_all_7 : decode cX2_all 7 = .ok (.isub, 1) := dk_100 (dk_at dksX2_all_0 7 rfl rfl)
theorem dX2_all_8 : decode cX2_all 8 = .ok (.ireturn, 1) := dk_172 (dk_at dksX2_all_0 8 rfl rfl)
abbrev cX2_flows : ByteArray := prog_16_method_7_code
def yX2_flows : MethodName := ⟨RX2, "flows", "(II)Z"⟩
def dkwX2_flows_1 : List UInt8 := [167, 0, 4, 3, 172]
abbrev dktX2_flows_1 : List UInt8 := dkwX2_flows_1 ++ []
def dkwX2_flows_0 : List UInt8 := [27, 28, 159, 0, 25, 42, 180, 0, 18, 154, 0, 14, 42, 180, 0, 34, 27, 50, 28, 51, 153, 0, 7, 4]
abbrev dktX2_flows_0 : List UInt8 := dkwX2_flows_0 ++ dktX2_flows_1
theorem dksX2_flows_0 : cX2_flows.data.toList.drop 0 = dktX2_flows_0 := by decide +kernel
theorem dksX2_flows_1 : cX2_flows.data.toList.drop 24 = dktX2_flows_1 := dk_seg dksX2_flows_0 24 rfl rfl
theorem dX2_flows_0 : decode cX2_flows 0 = .ok (.iload_n 1, 1) := dk_27 (dk_at dksX2_flows_0 0 rfl rfl)
theorem dX2_flows_1 : decode cX2_flows 1 = .ok (.iload_n 2, 1) := dk_28 (dk_at dksX2_flows_0 1 rfl rfl)
theorem dX2_flows_2 : decode cX2_flows 2 = .ok (.if_icmp .eq 25, 3) := dk_159 0 25 (dk_at dksX2_flows_0 2 rfl rfl)
theorem dX2_flows_5 : decode cX2_flows 5 = .ok (.aload_n 0, 1) := dk_42 (dk_at dksX2_flows_0 5 rfl rfl)
theorem dX2_flows_6 : decode cX2_flows 6 = .ok (.getfield 18, 3) := dk_180 0 18 (dk_at dksX2_flows_0 6 rfl rfl)
theorem dX2_flows_9 : decode cX2_flows 9 = .ok (.ifCond .ne 14, 3) := dk_154 0 14 (dk_at dksX2_flows_0 9 rfl rfl)
theorem dX2_flows_12 : decode cX2_flows 12 = .ok (.aload_n 0, 1) := dk_42 (dk_at dksX2_flows_0 12 rfl rfl)
theorem dX2_flows_13 : decode cX2_flows 13 = .ok (.getfield 34, 3) := dk_180 0 34 (dk_at dksX2_flows_0 13 rfl rfl)
theorem dX2_flows_16 : decode cX2_flows 16 = .ok (.iload_n 1, 1) := dk_27 (dk_at dksX2_flows_0 16 rfl rfl)
theorem dX2_flows_17 : decode cX2_flows 17 = .ok (.aaload, 1) := dk_50 (dk_at dksX2_flows_0 17 rfl rfl)
theorem dX2_flows_18 : decode cX2_flows 18 = .ok (.iload_n 2, 1) := dk_28 (dk_at dksX2_flows_0 18 rfl rfl)
theorem dX2_flows_19 : decode cX2_flows 19 = .ok (.baload, 1) := dk_51 (dk_at dksX2_flows_0 19 rfl rfl)
theorem dX2_flows_20 : decode cX2_flows 20 = .ok (.ifCond .eq 7, 3) := dk_153 0 7 (dk_at dksX2_flows_0 20 rfl rfl)
theorem dX2_flows_23 : decode cX2_flows 23 = .ok (.iconst 1, 1) := dk_4 (dk_at dksX2_flows_0 23 rfl rfl)
theorem dX2_flows_24 : decode cX2_flows 24 = .ok (.goto 4, 3) := dk_167 0 4 (dk_at dksX2_flows_1 0 rfl rfl)
theorem dX2_flows_27 : decode cX2_flows 27 = .ok (.iconst 0, 1) := dk_3 (dk_at dksX2_flows_1 3 rfl rfl)
theorem dX2_flows_28 : decode cX2_flows 28 = .ok (.ireturn, 1) := dk_172 (dk_at dksX2_flows_1 4 rfl rfl)
abbrev cX2_slowest : ByteArray := prog_16_method_5_code
def yX2_slowest : MethodName := ⟨RX2, "slowest", "(I)I"⟩
def dkwX2_slowest_1 : List UInt8 := [180, 0, 26, 29, 46, 184, 0, 55, 61, 132, 3, 1, 167, 255, 225, 28, 172]
abbrev dktX2_slowest_1 : List UInt8 := dkwX2_slowest_1 ++ []
def dkwX2_slowest_0 : List UInt8 := [3, 61, 3, 62, 29, 42, 180, 0, 52, 162, 0, 29, 27, 29, 122, 4, 126, 4, 160, 0, 14, 28, 42]
abbrev dktX2_slowest_0 : List UInt8 := dkwX2_slowest_0 ++ dktX2_slowest_1
theorem dksX2_slowest_0 : cX2_slowest.data.toList.drop 0 = dktX2_slowest_0 := by decide +kernel
theorem dksX2_slowest_1 : cX2_slowest.data.toList.drop 23 = dktX2_slowest_1 := dk_seg dksX2_slowest_0 23 rfl rfl
theorem dX2_slowest_0 : decode cX2_slowest 0 = .ok (.iconst 0, 1) := dk_3 (dk_at dksX2_slowest_0 0 rfl rfl)
theorem dX2_slowest_1 : decode cX2_slowest 1 = .ok (.istore_n 2, 1) := dk_61 (dk_at dksX2_slowest_0 1 rfl rfl)
theorem dX2_slowest_2 : decode cX2_slowest 2 = .ok (.iconst 0, 1) := dk_3 (dk_at dksX2_slowest_0 2 rfl rfl)
theorem dX2_slowest_3 : decode cX2_slowest 3 = .ok (.istore_n 3, 1) := dk_62 (dk_at dksX2_slowest_0 3 rfl rfl)
theorem dX2_slowest_4 : decode cX2_slowest 4 = .ok (.iload_n 3, 1) := dk_29 (dk_at dksX2_slowest_0 4 rfl rfl)
theorem dX2_slowest_5 : decode cX2_slowest 5 = .ok (.aload_n 0, 1) := dk_42 (dk_at dksX2_slowest_0 5 rfl rfl)
theorem dX2_slowest_6 : decode cX2_slowest 6 = .ok (.getfield 52, 3) := dk_180 0 52 (dk_at dksX2_slowest_0 6 rfl rfl)
theorem dX2_slowest_9 : decode cX2_slowest 9 = .ok (.if_icmp .ge 29, 3) := dk_162 0 29 (dk_at dksX2_slowest_0 9 rfl rfl)
theorem dX2_slowest_12 : decode cX2_slowest 12 = .ok (.iload_n 1, 1) := dk_27 (dk_at dksX2_slowest_0 12 rfl rfl)
theorem dX2_slowest_13 : decode cX2_slowest 13 = .ok (.iload_n 3, 1) := dk_29 (dk_at dksX2_slowest_0 13 rfl rfl)
theorem dX2_slowest_14 : decode cX2_slowest 14 = .ok (.ishr, 1) := dk_122 (dk_at dksX2_slowest_0 14 rfl rfl)
theorem dX2_slowest_15 : decode cX2_slowest 15 = .ok (.iconst 1, 1) := dk_4 (dk_at dksX2_slowest_0 15 rfl rfl)
theorem dX2_slowest_16 : decode cX2_slowest 16 = .ok (.iand, 1) := dk_126 (dk_at dksX2_slowest_0 16 rfl rfl)
theorem dX2_slowest_17 : decode cX2_slowest 17 = .ok (.iconst 1, 1) := dk_4 (dk_at dksX2_slowest_0 17 rfl rfl)
theorem dX2_slowest_18 : decode cX2_slowest 18 = .ok (.if_icmp .ne 14, 3) := dk_160 0 14 (dk_at dksX2_slowest_0 18 rfl rfl)
theorem dX2_slowest_21 : decode cX2_slowest 21 = .ok (.iload_n 2, 1) := dk_28 (dk_at dksX2_slowest_0 21 rfl rfl)
theorem dX2_slowest_22 : decode cX2_slowest 22 = .ok (.aload_n 0, 1) := dk_42 (dk_at dksX2_slowest_0 22 rfl rfl)
theorem dX2_slowest_23 : decode cX2_slowest 23 = .ok (.getfield 26, 3) := dk_180 0 26 (dk_at dksX2_slowest_1 0 rfl rfl)
theorem dX2_slowest_26 : decode cX2_slowest 26 = .ok (.iload_n 3, 1) := dk_29 (dk_at dksX2_slowest_1 3 rfl rfl)
theorem dX2_slowest_27 : decode cX2_slowest 27 = .ok (.iaload, 1) := dk_46 (dk_at dksX2_slowest_1 4 rfl rfl)
theorem dX2_slowest_28 : decode cX2_slowest 28 = .ok (.invokestatic 55, 3) := dk_184 0 55 (dk_at dksX2_slowest_1 5 rfl rfl)
theorem dX2_slowest_31 : decode cX2_slowest 31 = .ok (.istore_n 2, 1) := dk_61 (dk_at dksX2_slowest_1 8 rfl rfl)
theorem dX2_slowest_32 : decode cX2_slowest 32 = .ok (.iinc 3 1, 3) := dk_132 3 1 (dk_at dksX2_slowest_1 9 rfl rfl)
theorem dX2_slowest_35 : decode cX2_slowest 35 = .ok (.goto (-31), 3) := dk_167 255 225 (dk_at dksX2_slowest_1 12 rfl rfl)
theorem dX2_slowest_38 : decode cX2_slowest 38 = .ok (.iload_n 2, 1) := dk_28 (dk_at dksX2_slowest_1 15 rfl rfl)
theorem dX2_slowest_39 : decode cX2_slowest 39 = .ok (.ireturn, 1) := dk_172 (dk_at dksX2_slowest_1 16 rfl rfl)
abbrev cX2_named : ByteArray := prog_16_method_6_code
def yX2_named : MethodName := ⟨RX2, "named", "(I)I"⟩
def dkwX2_named_1 : List UInt8 := [132, 2, 1, 167, 255, 233, 2, 172]
abbrev dktX2_named_1 : List UInt8 := dkwX2_named_1 ++ []
def dkwX2_named_0 : List UInt8 := [3, 61, 28, 42, 180, 0, 52, 162, 0, 21, 42, 180, 0, 29, 28, 46, 27, 160, 0, 5, 28, 172]
abbrev dktX2_named_0 : List UInt8 := dkwX2_named_0 ++ dktX2_named_1
theorem dksX2_named_0 : cX2_named.data.toList.drop 0 = dktX2_named_0 := by decide +kernel
theorem dksX2_named_1 : cX2_named.data.toList.drop 22 = dktX2_named_1 := dk_seg dksX2_named_0 22 rfl rfl
theorem dX2_named_0 : decode cX2_named 0 = .ok (.iconst 0, 1) := dk_3 (dk_at dksX2_named_0 0 rfl rfl)
theorem dX2_named_1 : decode cX2_named 1 = .ok (.istore_n 2, 1) := dk_61 (dk_at dksX2_named_0 1 rfl rfl)
theorem dX2_named_2 : decode cX2_named 2 = .ok (.iload_n 2, 1) := dk_28 (dk_at dksX2_named_0 2 rfl rfl)
theorem dX2_named_3 : decode cX2_named 3 = .ok (.aload_n 0, 1) := dk_42 (dk_at dksX2_named_0 3 rfl rfl)
theorem dX2_named_4 : decode cX2_named 4 = .ok (.getfield 52, 3) := dk_180 0 52 (dk_at dksX2_named_0 4 rfl rfl)
theorem dX2_named_7 : decode cX2_named 7 = .ok (.if_icmp .ge 21, 3) := dk_162 0 21 (dk_at dksX2_named_0 7 rfl rfl)
theorem dX2_named_10 : decode cX2_named 10 = .ok (.aload_n 0, 1) := dk_42 (dk_at dksX2_named_0 10 rfl rfl)
theorem dX2_named_11 : decode cX2_named 11 = .ok (.getfield 29, 3) := dk_180 0 29 (dk_at dksX2_named_0 11 rfl rfl)
theorem dX2_named_14 : decode cX2_named 14 = .ok (.iload_n 2, 1) := dk_28 (dk_at dksX2_named_0 14 rfl rfl)
theorem dX2_named_15 : decode cX2_named 15 = .ok (.iaload, 1) := dk_46 (dk_at dksX2_named_0 15 rfl rfl)
theorem dX2_named_16 : decode cX2_named 16 = .ok (.iload_n 1, 1) := dk_27 (dk_at dksX2_named_0 16 rfl rfl)
theorem dX2_named_17 : decode cX2_named 17 = .ok (.if_icmp .ne 5, 3) := dk_160 0 5 (dk_at dksX2_named_0 17 rfl rfl)
theorem dX2_named_20 : decode cX2_named 20 = .ok (.iload_n 2, 1) := dk_28 (dk_at dksX2_named_0 20 rfl rfl)
theorem dX2_named_21 : decode cX2_named 21 = .ok (.ireturn, 1) := dk_172 (dk_at dksX2_named_0 21 rfl rfl)
theorem dX2_named_22 : decode cX2_named 22 = .ok (.iinc 2 1, 3) := dk_132 2 1 (dk_at dksX2_named_1 0 rfl rfl)
theorem dX2_named_25 : decode cX2_named 25 = .ok (.goto (-23), 3) := dk_167 255 233 (dk_at dksX2_named_1 3 rfl rfl)
theorem dX2_named_28 : decode cX2_named 28 = .ok (.iconst (-1), 1) := dk_2 (dk_at dksX2_named_1 6 rfl rfl)
theorem dX2_named_29 : decode cX2_named 29 = .ok (.ireturn, 1) := dk_172 (dk_at dksX2_named_1 7 rfl rfl)
theorem q120 : (Jvm.Cond.initialized "FerryHall$World") ∈ lw_all := lw_g (lw_at lw_m1 2 rfl) rfl
theorem q169 : (Jvm.Cond.instantiable "FerryHall$World" (11 : Nat)) ∈ lw_all := lw_g (lw_at lw_m1 51 rfl) rfl
theorem q171 : (Jvm.Cond.instanceMethod ({ cls := "FerryHall$World", name := "<init>", desc := "()V" } : Jvm.MethodName)) ∈ lw_all := lw_g (lw_at lw_m1 53 rfl) rfl
theorem q172 : (Jvm.Cond.code ({ cls := "FerryHall$World", name := "<init>", desc := "()V" } : Jvm.MethodName) prog_16_method_1_code (1 : Nat) (Option.none : Option Jvm.ClassFile.FieldType)) ∈ lw_all := lw_g (lw_at lw_m1 54 rfl) rfl
theorem q173 : (Jvm.Cond.methodLink "FerryHall$World" (3 : Nat) ({ cls := "java/lang/Object", name := "<init>", desc := "()V" } : Jvm.MethodName)) ∈ lw_all := lw_g (lw_at lw_m1 55 rfl) rfl
theorem q174 : (Jvm.Cond.classLink "FerryHall$World" (32 : Nat) "[[Z") ∈ lw_all := lw_g (lw_at lw_m1 56 rfl) rfl
theorem q176 : (Jvm.Cond.classLink "FerryHall$World" (37 : Nat) "java/util/ArrayList") ∈ lw_all := lw_g (lw_at lw_m1 58 rfl) rfl
theorem q178 : (Jvm.Cond.methodLink "FerryHall$World" (39 : Nat) ({ cls := "java/util/ArrayList", name := "<init>", desc := "()V" } : Jvm.MethodName)) ∈ lw_all := lw_g (lw_at lw_m1 60 rfl) rfl
theorem q204 : (Jvm.Cond.classLink "FerryHall$World" (47 : Nat) "[[[[S") ∈ lw_all := lw_g (lw_at lw_m1 86 rfl) rfl
theorem q208 : (Jvm.Cond.fieldLink "FerryHall$World" (9 : Nat) "FerryHall$World" "shores" "I") ∈ lw_all := lw_g (lw_at lw_m1 90 rfl) rfl
theorem q214 : (Jvm.Cond.fieldLink "FerryHall$World" (52 : Nat) "FerryHall$World" "things" "I") ∈ lw_all := lw_g (lw_at lw_m1 96 rfl) rfl
theorem q218 : (Jvm.Cond.fieldLink "FerryHall$World" (15 : Nat) "FerryHall$World" "lampAt" "I") ∈ lw_all := lw_g (lw_at lw_m1 100 rfl) rfl
theorem q223 : (Jvm.Cond.fieldLink "FerryHall$World" (18 : Nat) "FerryHall$World" "anyWater" "Z") ∈ lw_all := lw_g (lw_at lw_m1 105 rfl) rfl
theorem q225 : (Jvm.Cond.fieldLink "FerryHall$World" (22 : Nat) "FerryHall$World" "weights" "[I") ∈ lw_all := lw_g (lw_at lw_m1 107 rfl) rfl
theorem q228 : (Jvm.Cond.fieldLink "FerryHall$World" (26 : Nat) "FerryHall$World" "minutes" "[I") ∈ lw_all := lw_g (lw_at lw_m1 110 rfl) rfl
theorem q231 : (Jvm.Cond.fieldLink "FerryHall$World" (29 : Nat) "FerryHall$World" "letters" "[I") ∈ lw_all := lw_g (lw_at lw_m1 113 rfl) rfl
theorem q234 : (Jvm.Cond.fieldLink "FerryHall$World" (34 : Nat) "FerryHall$World" "water" "[[Z") ∈ lw_all := lw_g (lw_at lw_m1 116 rfl) rfl
theorem q236 : (Jvm.Cond.fieldLink "FerryHall$World" (40 : Nat) "FerryHall$World" "boats" "Ljava/util/List;") ∈ lw_all := lw_g (lw_at lw_m1 118 rfl) rfl
theorem q242 : (Jvm.Cond.fieldLink "FerryHall$World" (44 : Nat) "FerryHall$World" "laws" "Ljava/util/List;") ∈ lw_all := lw_g (lw_at lw_m1 124 rfl) rfl
theorem q245 : (Jvm.Cond.fieldLink "FerryHall$World" (49 : Nat) "FerryHall$World" "bars" "[[[[S") ∈ lw_all := lw_g (lw_at lw_m1 127 rfl) rfl
theorem q248 : (Jvm.Cond.lays "FerryHall$World" "FerryHall$World" "shores" "I") ∈ lw_all := lw_g (lw_at lw_m1 130 rfl) rfl
theorem q249 : (Jvm.Cond.soleField "FerryHall$World" "shores") ∈ lw_all := lw_g (lw_at lw_m1 131 rfl) rfl
theorem q250 : (Jvm.Cond.lays "FerryHall$World" "FerryHall$World" "things" "I") ∈ lw_all := lw_g (lw_at lw_m1 132 rfl) rfl
theorem q251 : (Jvm.Cond.soleField "FerryHall$World" "things") ∈ lw_all := lw_g (lw_at lw_m1 133 rfl) rfl
theorem q252 : (Jvm.Cond.lays "FerryHall$World" "FerryHall$World" "lampAt" "I") ∈ lw_all := lw_g (lw_at lw_m1 134 rfl) rfl
theorem q253 : (Jvm.Cond.soleField "FerryHall$World" "lampAt") ∈ lw_all := lw_g (lw_at lw_m1 135 rfl) rfl
theorem q254 : (Jvm.Cond.lays "FerryHall$World" "FerryHall$World" "anyWater" "Z") ∈ lw_all := lw_g (lw_at lw_m1 136 rfl) rfl
theorem q255 : (Jvm.Cond.soleField "FerryHall$World" "anyWater") ∈ lw_all := lw_g (lw_at lw_m1 137 rfl) rfl
theorem q256 : (Jvm.Cond.laysFinal "FerryHall$World" "FerryHall$World" "weights" "[I") ∈ lw_all := lw_g (lw_at lw_m1 138 rfl) rfl
theorem q257 : (Jvm.Cond.soleField "FerryHall$World" "weights") ∈ lw_all := lw_g (lw_at lw_m1 139 rfl) rfl
theorem q258 : (Jvm.Cond.laysFinal "FerryHall$World" "FerryHall$World" "minutes" "[I") ∈ lw_all := lw_g (lw_at lw_m1 140 rfl) rfl
theorem q259 : (Jvm.Cond.soleField "FerryHall$World" "minutes") ∈ lw_all := lw_g (lw_at lw_m1 141 rfl) rfl
theorem q260 : (Jvm.Cond.laysFinal "FerryHall$World" "FerryHall$World" "letters" "[I") ∈ lw_all := lw_g (lw_at lw_m1 142 rfl) rfl
theorem q261 : (Jvm.Cond.soleField "FerryHall$World" "letters") ∈ lw_all := lw_g (lw_at lw_m1 143 rfl) rfl
theorem q262 : (Jvm.Cond.laysFinal "FerryHall$World" "FerryHall$World" "water" "[[Z") ∈ lw_all := lw_g (lw_at lw_m1 144 rfl) rfl
theorem q263 : (Jvm.Cond.soleField "FerryHall$World" "water") ∈ lw_all := lw_g (lw_at lw_m1 145 rfl) rfl
theorem q264 : (Jvm.Cond.laysFinal "FerryHall$World" "FerryHall$World" "boats" "Ljava/util/List;") ∈ lw_all := lw_g (lw_at lw_m1 146 rfl) rfl
theorem q265 : (Jvm.Cond.soleField "FerryHall$World" "boats") ∈ lw_all := lw_g (lw_at lw_m1 147 rfl) rfl
theorem q266 : (Jvm.Cond.laysFinal "FerryHall$World" "FerryHall$World" "laws" "Ljava/util/List;") ∈ lw_all := lw_g (lw_at lw_m1 148 rfl) rfl
theorem q267 : (Jvm.Cond.soleField "FerryHall$World" "laws") ∈ lw_all := lw_g (lw_at lw_m1 149 rfl) rfl
theorem q268 : (Jvm.Cond.laysFinal "FerryHall$World" "FerryHall$World" "bars" "[[[[S") ∈ lw_all := lw_g (lw_at lw_m1 150 rfl) rfl
theorem q269 : (Jvm.Cond.soleField "FerryHall$World" "bars") ∈ lw_all := lw_g (lw_at lw_m1 151 rfl) rfl
theorem q270 : (Jvm.Cond.superclass "FerryHall$World" "java/lang/Object") ∈ lw_all := lw_g (lw_at lw_m1 152 rfl) rfl
theorem q349 : (Jvm.Cond.instanceMethod ({ cls := "FerryHall$World", name := "tell", desc := "()V" } : Jvm.MethodName)) ∈ lw_all := lw_g (lw_at lw_m1 231 rfl) rfl
theorem q350 : (Jvm.Cond.selects "FerryHall$World" ({ cls := "FerryHall$World", name := "tell", desc := "()V" } : Jvm.MethodName) ({ cls := "FerryHall$World", name := "tell", desc := "()V" } : Jvm.MethodName)) ∈ lw_all := lw_g (lw_at lw_m1 232 rfl) rfl
theorem q351 : (Jvm.Cond.code ({ cls := "FerryHall$World", name := "tell", desc := "()V" } : Jvm.MethodName) prog_16_method_8_code (9 : Nat) (Option.none : Option Jvm.ClassFile.FieldType)) ∈ lw_all := lw_g (lw_at lw_m1 233 rfl) rfl
theorem q352 : (Jvm.Cond.classLink "FerryHall$World" (61 : Nat) "FerryHall$Asked") ∈ lw_all := lw_g (lw_at lw_m1 234 rfl) rfl
theorem q354 : (Jvm.Cond.methodLink "FerryHall$World" (63 : Nat) ({ cls := "FerryHall$Asked", name := "<init>", desc := "(LFerryHall$World;)V" } : Jvm.MethodName)) ∈ lw_all := lw_g (lw_at lw_m1 236 rfl) rfl
theorem q361 : (Jvm.Cond.fieldLinkNest "FerryHall$World" (74 : Nat) "FerryHall$Asked" "set" "I" "FerryHall") ∈ lw_tbl := lw_at lw_m2 3 rfl
theorem q363 : (Jvm.Cond.fieldLinkNest "FerryHall$World" (69 : Nat) "FerryHall$Asked" "boats" "I" "FerryHall") ∈ lw_tbl := lw_at lw_m2 5 rfl
theorem q365 : (Jvm.Cond.fieldLinkNest "FerryHall$World" (71 : Nat) "FerryHall$Asked" "lamp" "I" "FerryHall") ∈ lw_tbl := lw_at lw_m2 7 rfl
theorem q368 : (Jvm.Cond.fieldLinkNest "FerryHall$World" (66 : Nat) "FerryHall$Asked" "shore" "I" "FerryHall") ∈ lw_tbl := lw_at lw_m2 10 rfl
theorem q380 : (Jvm.Cond.interfaceEntry "FerryHall$World" (77 : Nat)) ∈ lw_tbl := lw_at lw_m2 22 rfl
theorem q381 : (Jvm.Cond.methodLink "FerryHall$World" (77 : Nat) ({ cls := "java/util/List", name := "size", desc := "()I" } : Jvm.MethodName)) ∈ lw_all := lw_g (lw_at lw_m2 23 rfl) rfl
theorem q390 : (Jvm.Cond.interfaceEntry "FerryHall$World" (83 : Nat)) ∈ lw_tbl := lw_at lw_m2 32 rfl
theorem q391 : (Jvm.Cond.methodLink "FerryHall$World" (83 : Nat) ({ cls := "java/util/List", name := "get", desc := "(I)Ljava/lang/Object;" } : Jvm.MethodName)) ∈ lw_all := lw_g (lw_at lw_m2 33 rfl) rfl
theorem q409 : (Jvm.Cond.classLink "FerryHall$World" (87 : Nat) "FerryHall$Law") ∈ lw_all := lw_g (lw_at lw_m2 51 rfl) rfl
theorem q410 : (Jvm.Cond.methodLink "FerryHall$World" (89 : Nat) ({ cls := "FerryHall$Law", name := "bars", desc := "(LFerryHall$Asked;I)Z" } : Jvm.MethodName)) ∈ lw_all := lw_g (lw_at lw_m2 52 rfl) rfl
theorem q453 : (Jvm.Cond.instanceMethod ({ cls := "FerryHall$World", name := "weight", desc := "(I)I" } : Jvm.MethodName)) ∈ lw_all := lw_g (lw_at lw_m2 95 rfl) rfl
theorem q454 : (Jvm.Cond.selects "FerryHall$World" ({ cls := "FerryHall$World", name := "weight", desc := "(I)I" } : Jvm.MethodName) ({ cls := "FerryHall$World", name := "weight", desc := "(I)I" } : Jvm.MethodName)) ∈ lw_all := lw_g (lw_at lw_m2 96 rfl) rfl
theorem q455 : (Jvm.Cond.code ({ cls := "FerryHall$World", name := "weight", desc := "(I)I" } : Jvm.MethodName) prog_16_method_3_code (4 : Nat) (Option.some Jvm.ClassFile.FieldType.int)) ∈ lw_all := lw_g (lw_at lw_m2 97 rfl) rfl
theorem q457 : (Jvm.Cond.instanceMethod ({ cls := "FerryHall$World", name := "rowers", desc := "(I)I" } : Jvm.MethodName)) ∈ lw_all := lw_g (lw_at lw_m2 99 rfl) rfl
theorem q458 : (Jvm.Cond.selects "FerryHall$World" ({ cls := "FerryHall$World", name := "rowers", desc := "(I)I" } : Jvm.MethodName) ({ cls := "FerryHall$World", name := "rowers", desc := "(I)I" } : Jvm.MethodName)) ∈ lw_all := lw_g (lw_at lw_m2 100 rfl) rfl
theorem q459 : (Jvm.Cond.code ({ cls := "FerryHall$World", name := "rowers", desc := "(I)I" } : Jvm.MethodName) prog_16_method_4_code (4 : Nat) (Option.some Jvm.ClassFile.FieldType.int)) ∈ lw_all := lw_g (lw_at lw_m2 101 rfl) rfl
theorem q537 : (Jvm.Cond.instanceMethod ({ cls := "FerryHall$World", name := "all", desc := "()I" } : Jvm.MethodName)) ∈ lw_all := lw_g (lw_at lw_m2 179 rfl) rfl
theorem q538 : (Jvm.Cond.selects "FerryHall$World" ({ cls := "FerryHall$World", name := "all", desc := "()I" } : Jvm.MethodName) ({ cls := "FerryHall$World", name := "all", desc := "()I" } : Jvm.MethodName)) ∈ lw_all := lw_g (lw_at lw_m2 180 rfl) rfl
theorem q539 : (Jvm.Cond.code ({ cls := "FerryHall$World", name := "all", desc := "()I" } : Jvm.MethodName) prog_16_method_2_code (1 : Nat) (Option.some Jvm.ClassFile.FieldType.int)) ∈ lw_all := lw_g (lw_at lw_m2 181 rfl) rfl
theorem q716 : (Jvm.Cond.instanceMethod ({ cls := "FerryHall$World", name := "flows", desc := "(II)Z" } : Jvm.MethodName)) ∈ lw_all := lw_g (lw_at lw_m3 118 rfl) rfl
theorem q717 : (Jvm.Cond.selects "FerryHall$World" ({ cls := "FerryHall$World", name := "flows", desc := "(II)Z" } : Jvm.MethodName) ({ cls := "FerryHall$World", name := "flows", desc := "(II)Z" } : Jvm.MethodName)) ∈ lw_all := lw_g (lw_at lw_m3 119 rfl) rfl
theorem q718 : (Jvm.Cond.code ({ cls := "FerryHall$World", name := "flows", desc := "(II)Z" } : Jvm.MethodName) prog_16_method_7_code (3 : Nat) (Option.some Jvm.ClassFile.FieldType.boolean)) ∈ lw_all := lw_g (lw_at lw_m3 120 rfl) rfl
theorem q761 : (Jvm.Cond.instanceMethod ({ cls := "FerryHall$World", name := "slowest", desc := "(I)I" } : Jvm.MethodName)) ∈ lw_all := lw_g (lw_at lw_m3 163 rfl) rfl
theorem q762 : (Jvm.Cond.selects "FerryHall$World" ({ cls := "FerryHall$World", name := "slowest", desc := "(I)I" } : Jvm.MethodName) ({ cls := "FerryHall$World", name := "slowest", desc := "(I)I" } : Jvm.MethodName)) ∈ lw_all := lw_g (lw_at lw_m3 164 rfl) rfl
theorem q763 : (Jvm.Cond.code ({ cls := "FerryHall$World", name := "slowest", desc := "(I)I" } : Jvm.MethodName) prog_16_method_5_code (4 : Nat) (Option.some Jvm.ClassFile.FieldType.int)) ∈ lw_all := lw_g (lw_at lw_m3 165 rfl) rfl
theorem q764 : (Jvm.Cond.methodLink "FerryHall$World" (55 : Nat) ({ cls := "java/lang/Math", name := "max", desc := "(II)I" } : Jvm.MethodName)) ∈ lw_all := lw_g (lw_at lw_m3 166 rfl) rfl
theorem q868 : (Jvm.Cond.selects "FerryHall$World" ({ cls := "java/lang/Object", name := "getClass", desc := "()Ljava/lang/Class;" } : Jvm.MethodName) ({ cls := "java/lang/Object", name := "getClass", desc := "()Ljava/lang/Class;" } : Jvm.MethodName)) ∈ lw_all := lw_g (lw_at lw_m4 30 rfl) rfl
theorem q1315 : (Jvm.Cond.instanceMethod ({ cls := "FerryHall$World", name := "named", desc := "(I)I" } : Jvm.MethodName)) ∈ lw_all := lw_g (lw_at lw_m5 237 rfl) rfl
theorem q1316 : (Jvm.Cond.selects "FerryHall$World" ({ cls := "FerryHall$World", name := "named", desc := "(I)I" } : Jvm.MethodName) ({ cls := "FerryHall$World", name := "named", desc := "(I)I" } : Jvm.MethodName)) ∈ lw_all := lw_g (lw_at lw_m5 238 rfl) rfl
theorem q1317 : (Jvm.Cond.code ({ cls := "FerryHall$World", name := "named", desc := "(I)I" } : Jvm.MethodName) prog_16_method_6_code (3 : Nat) (Option.some Jvm.ClassFile.FieldType.int)) ∈ lw_all := lw_g (lw_at lw_m5 239 rfl) rfl
theorem q2587 : (Jvm.Cond.castable "FerryHall$World" "java/lang/Object") ∈ lw_tbl := lw_at lw_m11 69 rfl
theorem in_X2 : ∀ w ∈ wsX20, w ∈ lw_all := lw_in wsX20 [248, 250, 252, 254, 256, 258, 260, 262, 264, 266, 268] (by decide +kernel) (by decide +kernel)
/-! FerryHall$Map -/
set_option maxRecDepth 100000
def RX3 : String := "FerryHall$Map"
def TX3 : u_T := fun k => match k with
  | 0 => ("FerryHall$Map", "w", "LFerryHall$World;", false)
  | 1 => ("FerryHall$Map", "judge", "LFerryHall$Judge;", false)
  | 2 => ("FerryHall$Map", "codes", "[I", true)
  | 3 => ("FerryHall$Map", "slots", "[I", true)
  | 4 => ("FerryHall$Map", "depth", "[I", true)
  | 5 => ("FerryHall$Map", "first", "[I", true)
  | 6 => ("FerryHall$Map", "to", "[I", true)
  | 7 => ("FerryHall$Map", "move", "[I", true)
  | 8 => ("FerryHall$Map", "minutes", "[I", true)
  | 9 => ("FerryHall$Map", "states", "I", false)
  | 10 => ("FerryHall$Map", "crossings", "I", false)
  | 11 => ("FerryHall$Map", "spent", "Z", false)
  | 12 => ("FerryHall$Map", "left", "[I", true)
  | 13 => ("FerryHall$Map", "cost", "[I", true)
  | 14 => ("FerryHall$Map", "leftTold", "Z", false)
  | 15 => ("FerryHall$Map", "costTold", "Z", false)
  | 16 => ("FerryHall$Map", "from", "[I", true)
  | 17 => ("FerryHall$Map", "head", "[I", true)
  | 18 => ("FerryHall$Map", "next", "[I", true)
  | _ => ("FerryHall$Map", "done", "[Z", true)
def tyX3 : Nat → FieldType := fun k => match k with
  | 0 => .object "FerryHall$World"
  | 1 => .object "FerryHall$Judge"
  | 2 => .array .int
  | 3 => .array .int
  | 4 => .array .int
  | 5 => .array .int
  | 6 => .array .int
  | 7 => .array .int
  | 8 => .array .int
  | 9 => .int
  | 10 => .int
  | 11 => .boolean
  | 12 => .array .int
  | 13 => .array .int
  | 14 => .boolean
  | 15 => .boolean
  | 16 => .array .int
  | 17 => .array .int
  | 18 => .array .int
  | _ => .array .boolean
abbrev wsX30 : List Cond := u_ws RX3 TX3 20
set_option maxRecDepth 100000 in
theorem nmX3 : ∀ a, a < 20 → ∀ b, b < 20 → a ≠ b → (TX3 a).2.1 ≠ (TX3 b).2.1 := by decide +kernel
set_option maxRecDepth 100000 in
theorem tyX3_ok : ∀ k, k < 20 → parseFieldDescriptor (TX3 k).2.2.1 = some (tyX3 k) := by decide +kernel
abbrev cX3_init : ByteArray := prog_8_method_1_code
def yX3_init : MethodName := ⟨RX3, "<init>", "()V"⟩
def dkwX3_init_5 : List UInt8 := [181, 0, 49, 177]
abbrev dktX3_init_5 : List UInt8 := dkwX3_init_5 ++ []
def dkwX3_init_4 : List UInt8 := [17, 7, 208, 188, 10, 181, 0, 43, 42, 18, 24, 188, 10, 181, 0, 46, 42, 17, 7, 208, 188, 4]
abbrev dktX3_init_4 : List UInt8 := dkwX3_init_4 ++ dktX3_init_5
def dkwX3_init_3 : List UInt8 := [188, 10, 181, 0, 34, 42, 17, 7, 208, 188, 10, 181, 0, 37, 42, 18, 24, 188, 10, 181, 0, 40, 42]
abbrev dktX3_init_3 : List UInt8 := dkwX3_init_3 ++ dktX3_init_4
def dkwX3_init_2 : List UInt8 := [181, 0, 25, 42, 18, 24, 188, 10, 181, 0, 28, 42, 18, 24, 188, 10, 181, 0, 31, 42, 17, 7, 208]
abbrev dktX3_init_2 : List UInt8 := dkwX3_init_2 ++ dktX3_init_3
def dkwX3_init_1 : List UInt8 := [17, 7, 208, 188, 10, 181, 0, 18, 42, 17, 7, 209, 188, 10, 181, 0, 21, 42, 18, 24, 188, 10]
abbrev dktX3_init_1 : List UInt8 := dkwX3_init_1 ++ dktX3_init_2
def dkwX3_init_0 : List UInt8 := [42, 183, 0, 3, 42, 17, 7, 208, 188, 10, 181, 0, 9, 42, 17, 32, 0, 188, 10, 181, 0, 15, 42]
abbrev dktX3_init_0 : List UInt8 := dkwX3_init_0 ++ dktX3_init_1
theorem dksX3_init_0 : cX3_init.data.toList.drop 0 = dktX3_init_0 := by decide +kernel
theorem dksX3_init_1 : cX3_init.data.toList.drop 23 = dktX3_init_1 := dk_seg dksX3_init_0 23 rfl rfl
theorem dksX3_init_2 : cX3_init.data.toList.drop 45 = dktX3_init_2 := dk_seg dksX3_init_1 22 rfl rfl
theorem dksX3_init_3 : cX3_init.data.toList.drop 68 = dktX3_init_3 := dk_seg dksX3_init_2 23 rfl rfl
theorem dksX3_init_4 : cX3_init.data.toList.drop 91 = dktX3_init_4 := dk_seg dksX3_init_3 23 rfl rfl
theorem dksX3_init_5 : cX3_init.data.toList.drop 113 = dktX3_init_5 := dk_seg dksX3_init_4 22 rfl rfl
theorem dX3_init_0 : decode cX3_init 0 = .ok (.aload_n 0, 1) := dk_42 (dk_at dksX3_init_0 0 rfl rfl)
theorem dX3_init_1 : decode cX3_init 1 = .ok (.invokespecial 3, 3) := dk_183 0 3 (dk_at dksX3_init_0 1 rfl rfl)
theorem dX3_init_4 : decode cX3_init 4 = .ok (.aload_n 0, 1) := dk_42 (dk_at dksX3_init_0 4 rfl rfl)
theorem dX3_init_5 : decode cX3_init 5 = .ok (.sipush 2000, 3) := dk_17 7 208 (dk_at dksX3_init_0 5 rfl rfl)
theorem dX3_init_8 : decode cX3_init 8 = .ok (.newarray .int, 2) := dk_188_10 (dk_at dksX3_init_0 8 rfl rfl)
theorem dX3_init_10 : decode cX3_init 10 = .ok (.putfield 9, 3) := dk_181 0 9 (dk_at dksX3_init_0 10 rfl rfl)
theorem dX3_init_13 : decode cX3_init 13 = .ok (.aload_n 0, 1) := dk_42 (dk_at dksX3_init_0 13 rfl rfl)
theorem dX3_init_14 : decode cX3_init 14 = .ok (.sipush 8192, 3) := dk_17 32 0 (dk_at dksX3_init_0 14 rfl rfl)
theorem dX3_init_17 : decode cX3_init 17 = .ok (.newarray .int, 2) := dk_188_10 (dk_at dksX3_init_0 17 rfl rfl)
theorem dX3_init_19 : decode cX3_init 19 = .ok (.putfield 15, 3) := dk_181 0 15 (dk_at dksX3_init_0 19 rfl rfl)
theorem dX3_init_22 : decode cX3_init 22 = .ok (.aload_n 0, 1) := dk_42 (dk_at dksX3_init_0 22 rfl rfl)
theorem dX3_init_23 : decode cX3_init 23 = .ok (.sipush 2000, 3) := dk_17 7 208 (dk_at dksX3_init_1 0 rfl rfl)
theorem dX3_init_26 : decode cX3_init 26 = .ok (.newarray .int, 2) := dk_188_10 (dk_at dksX3_init_1 3 rfl rfl)
theorem dX3_init_28 : decode cX3_init 28 = .ok (.putfield 18, 3) := dk_181 0 18 (dk_at dksX3_init_1 5 rfl rfl)
theorem dX3_init_31 : decode cX3_init 31 = .ok (.aload_n 0, 1) := dk_42 (dk_at dksX3_init_1 8 rfl rfl)
theorem dX3_init_32 : decode cX3_init 32 = .ok (.sipush 2001, 3) := dk_17 7 209 (dk_at dksX3_init_1 9 rfl rfl)
theorem dX3_init_35 : decode cX3_init 35 = .ok (.newarray .int, 2) := dk_188_10 (dk_at dksX3_init_1 12 rfl rfl)
theorem dX3_init_37 : decode cX3_init 37 = .ok (.putfield 21, 3) := dk_181 0 21 (dk_at dksX3_init_1 14 rfl rfl)
theorem dX3_init_40 : decode cX3_init 40 = .ok (.aload_n 0, 1) := dk_42 (dk_at dksX3_init_1 17 rfl rfl)
theorem dX3_init_41 : decode cX3_init 41 = .ok (.ldc 24, 2) := dk_18 24 (dk_at dksX3_init_1 18 rfl rfl)
theorem dX3_init_43 : decode cX3_init 43 = .ok (.newarray .int, 2) := dk_188_10 (dk_at dksX3_init_1 20 rfl rfl)
theorem dX3_init_45 : decode cX3_init 45 = .ok (.putfield 25, 3) := dk_181 0 25 (dk_at dksX3_init_2 0 rfl rfl)
theorem dX3_init_48 : decode cX3_init 48 = .ok (.aload_n 0, 1) := dk_42 (dk_at dksX3_init_2 3 rfl rfl)
theorem dX3_init_49 : decode cX3_init 49 = .ok (.ldc 24, 2) := dk_18 24 (dk_at dksX3_init_2 4 rfl rfl)
theorem dX3_init_51 : decode cX3_init 51 = .ok (.newarray .int, 2) := dk_188_10 (dk_at dksX3_init_2 6 rfl rfl)
theorem dX3_init_53 : decode cX3_init 53 = .ok (.putfield 28, 3) := dk_181 0 28 (dk_at dksX3_init_2 8 rfl rfl)
theorem dX3_init_56 : decode cX3_init 56 = .ok (.aload_n 0, 1) := dk_42 (dk_at dksX3_init_2 11 rfl rfl)
theorem dX3_init_57 : decode cX3_init 57 = .ok (.ldc 24, 2) := dk_18 24 (dk_at dksX3_init_2 12 rfl rfl)
theorem dX3_init_59 : decode cX3_init 59 = .ok (.newarray .int, 2) := dk_188_10 (dk_at dksX3_init_2 14 rfl rfl)
theorem dX3_init_61 : decode cX3_init 61 = .ok (.putfield 31, 3) := dk_181 0 31 (dk_at dksX3_init_2 16 rfl rfl)
theorem dX3_init_64 : decode cX3_init 64 = .ok (.aload_n 0, 1) := dk_42 (dk_at dksX3_init_2 19 rfl rfl)
theorem dX3_init_65 : decode cX3_init 65 = .ok (.sipush 2000, 3) := dk_17 7 208 (dk_at dksX3_init_2 20 rfl rfl)
theorem dX3_init_68 : decode cX3_init 68 = .ok (.newarray .int, 2) := dk_188_10 (dk_at dksX3_init_3 0 rfl rfl)
theorem dX3_init_70 : decode cX3_init 70 = .ok (.putfield 34, 3) := dk_181 0 34 (dk_at dksX3_init_3 2 rfl rfl)
theorem dX3_init_73 : decode cX3_init 73 = .ok (.aload_n 0, 1) := dk_42 (dk_at dksX3_init_3 5 rfl rfl)
theorem dX3_init_74 : decode cX3_init 74 = .ok (.sipush 2000, 3) := dk_17 7 208 (dk_at dksX3_init_3 6 rfl rfl)
theorem dX3_init_77 : decode cX3_init 77 = .ok (.newarray .int, 2) := dk_188_10 (dk_at dksX3_init_3 9 rfl rfl)
theorem dX3_init_79 : decode cX3_init 79 = .ok (.putfield 37, 3) := dk_181 0 37 (dk_at dksX3_init_3 11 rfl rfl)
theorem dX3_init_82 : decode cX3_init 82 = .ok (.aload_n 0, 1) := dk_42 (dk_at dksX3_init_3 14 rfl rfl)
theorem dX3_init_83 : decode cX3_init 83 = .ok (.ldc 24, 2) := dk_18 24 (dk_at dksX3_init_3 15 rfl rfl)
theorem dX3_init_85 : decode cX3_init 85 = .ok (.newarray .int, 2) := dk_188_10 (dk_at dksX3_init_3 17 rfl rfl)
theorem dX3_init_87 : decode cX3_init 87 = .ok (.putfield 40, 3) := dk_181 0 40 (dk_at dksX3_init_3 19 rfl rfl)
theorem dX3_init_90 : decode cX3_init 90 = .ok (.aload_n 0, 1) := dk_42 (dk_at dksX3_init_3 22 rfl rfl)
theorem dX3_init_91 : decode cX3_init 91 = .ok (.sipush 2000, 3) := dk_17 7 208 (dk_at dksX3_init_4 0 rfl rfl)
theorem dX3_init_94 : decode cX3_init 94 = .ok (.newarray .int, 2) := dk_188_10 (dk_at dksX3_init_4 3 rfl rfl)
theorem dX3_init_96 : decode cX3_init 96 = .ok (.putfield 43, 3) := dk_181 0 43 (dk_at dksX3_init_4 5 rfl rfl)
theorem dX3_init_99 : decode cX3_init 99 = .ok (.aload_n 0, 1) := dk_42 (dk_at dksX3_init_4 8 rfl rfl)
theorem dX3_init_100 : decode cX3_init 100 = .ok (.ldc 24, 2) := dk_18 24 (dk_at dksX3_init_4 9 rfl rfl)
theorem dX3_init_102 : decode cX3_init 102 = .ok (.newarray .int, 2) := dk_188_10 (dk_at dksX3_init_4 11 rfl rfl)
theorem dX3_init_104 : decode cX3_init 104 = .ok (.putfield 46, 3) := dk_181 0 46 (dk_at dksX3_init_4 13 rfl rfl)
theorem dX3_init_107 : decode cX3_init 107 = .ok (.aload_n 0, 1) := dk_42 (dk_at dksX3_init_4 16 rfl rfl)
theorem dX3_init_108 : decode cX3_init 108 = .ok (.sipush 2000, 3) := dk_17 7 208 (dk_at dksX3_init_4 17 rfl rfl)
theorem dX3_init_111 : decode cX3_init 111 = .ok (.newarray .boolean, 2) := dk_188_4 (dk_at dksX3_init_4 20 rfl rfl)
theorem dX3_init_113 : decode cX3_init 113 = .ok (.putfield 49, 3) := dk_181 0 49 (dk_at dksX3_init_5 0 rfl rfl)
theorem dX3_init_116 : decode cX3_init 116 = .ok (.return_, 1) := dk_177 (dk_at dksX3_init_5 3 rfl rfl)
abbrev cX3_run : ByteArray := prog_8_method_2_code
def yX3_run : MethodName := ⟨RX3, "run", "(LFerryHall$World;III)Z"⟩
def dkwX3_run_8 : List UInt8 := [154, 0, 7, 4, 167, 0, 4, 3, 172]
abbrev dktX3_run_8 : List UInt8 := dkwX3_run_8 ++ []
def dkwX3_run_7 : List UInt8 := [42, 180, 0, 66, 42, 180, 0, 70, 79, 42, 180, 0, 73, 154, 0, 7, 42, 182, 0, 107, 42, 180, 0, 73]
abbrev dktX3_run_7 : List UInt8 := dkwX3_run_7 ++ dktX3_run_8
def dkwX3_run_6 : List UInt8 := [21, 6, 46, 182, 0, 99, 42, 21, 6, 25, 5, 182, 0, 103, 132, 6, 1, 167, 255, 206, 42, 180, 0, 21]
abbrev dktX3_run_6 : List UInt8 := dkwX3_run_6 ++ dktX3_run_7
def dkwX3_run_5 : List UInt8 := [180, 0, 73, 154, 0, 40, 42, 180, 0, 21, 21, 6, 42, 180, 0, 70, 79, 25, 5, 42, 180, 0, 9]
abbrev dktX3_run_5 : List UInt8 := dkwX3_run_5 ++ dktX3_run_6
def dkwX3_run_4 : List UInt8 := [42, 25, 5, 182, 0, 91, 3, 182, 0, 95, 87, 3, 54, 6, 21, 6, 42, 180, 0, 66, 162, 0, 47, 42]
abbrev dktX3_run_4 : List UInt8 := dkwX3_run_4 ++ dktX3_run_5
def dkwX3_run_3 : List UInt8 := [132, 5, 1, 167, 255, 237, 187, 0, 83, 89, 42, 180, 0, 53, 183, 0, 85, 58, 5, 25, 5, 182, 0, 88]
abbrev dktX3_run_3 : List UInt8 := dkwX3_run_3 ++ dktX3_run_4
def dkwX3_run_2 : List UInt8 := [181, 0, 80, 3, 54, 5, 21, 5, 17, 32, 0, 162, 0, 17, 42, 180, 0, 15, 21, 5, 2, 79]
abbrev dktX3_run_2 : List UInt8 := dkwX3_run_2 ++ dktX3_run_3
def dkwX3_run_1 : List UInt8 := [42, 3, 181, 0, 66, 42, 3, 181, 0, 70, 42, 3, 181, 0, 73, 42, 3, 181, 0, 77, 42, 3]
abbrev dktX3_run_1 : List UInt8 := dkwX3_run_1 ++ dktX3_run_2
def dkwX3_run_0 : List UInt8 := [42, 43, 181, 0, 53, 42, 187, 0, 57, 89, 42, 180, 0, 53, 28, 29, 21, 4, 183, 0, 59, 181, 0, 62]
abbrev dktX3_run_0 : List UInt8 := dkwX3_run_0 ++ dktX3_run_1
theorem dksX3_run_0 : cX3_run.data.toList.drop 0 = dktX3_run_0 := by decide +kernel
theorem dksX3_run_1 : cX3_run.data.toList.drop 24 = dktX3_run_1 := dk_seg dksX3_run_0 24 rfl rfl
theorem dksX3_run_2 : cX3_run.data.toList.drop 46 = dktX3_run_2 := dk_seg dksX3_run_1 22 rfl rfl
theorem dksX3_run_3 : cX3_run.data.toList.drop 68 = dktX3_run_3 := dk_seg dksX3_run_2 22 rfl rfl
theorem dksX3_run_4 : cX3_run.data.toList.drop 92 = dktX3_run_4 := dk_seg dksX3_run_3 24 rfl rfl
theorem dksX3_run_5 : cX3_run.data.toList.drop 116 = dktX3_run_5 := dk_seg dksX3_run_4 24 rfl rfl
theorem dksX3_run_6 : cX3_run.data.toList.drop 139 = dktX3_run_6 := dk_seg dksX3_run_5 23 rfl rfl
theorem dksX3_run_7 : cX3_run.data.toList.drop 163 = dktX3_run_7 := dk_seg dksX3_run_6 24 rfl rfl
theorem dksX3_run_8 : cX3_run.data.toList.drop 187 = dktX3_run_8 := dk_seg dksX3_run_7 24 rfl rfl
theorem dX3_run_0 : decode cX3_run 0 = .ok (.aload_n 0, 1) := dk_42 (dk_at dksX3_run_0 0 rfl rfl)
theorem dX3_run_1 : decode cX3_run 1 = .ok (.aload_n 1, 1) := dk_43 (dk_at dksX3_run_0 1 rfl rfl)
theorem dX3_run_2 : decode cX3_run 2 = .ok (.putfield 53, 3) := dk_181 0 53 (dk_at dksX3_run_0 2 rfl rfl)
theorem dX3_run_5 : decode cX3_run 5 = .ok (.aload_n 0, 1) := dk_42 (dk_at dksX3_run_0 5 rfl rfl)
theorem dX3_run_6 : decode cX3_run 6 = .ok (.new 57, 3) := dk_187 0 57 (dk_at dksX3_run_0 6 rfl rfl)
theorem dX3_run_9 : decode cX3_run 9 = .ok (.dup, 1) := dk_89 (dk_at dksX3_run_0 9 rfl rfl)
theorem dX3_run_10 : decode cX3_run 10 = .ok (.aload_n 0, 1) := dk_42 (dk_at dksX3_run_0 10 rfl rfl)
theorem dX3_run_11 : decode cX3_run 11 = .ok (.getfield 53, 3) := dk_180 0 53 (dk_at dksX3_run_0 11 rfl rfl)
theorem dX3_run_14 : decode cX3_run 14 = .ok (.iload_n 2, 1) := dk_28 (dk_at dksX3_run_0 14 rfl rfl)
theorem dX3_run_15 : decode cX3_run 15 = .ok (.iload_n 3, 1) := dk_29 (dk_at dksX3_run_0 15 rfl rfl)
theorem dX3_run_16 : decode cX3_run 16 = .ok (.iload 4, 2) := dk_21 4 (dk_at dksX3_run_0 16 rfl rfl)
theorem dX3_run_18 : decode cX3_run 18 = .ok (.invokespecial 59, 3) := dk_183 0 59 (dk_at dksX3_run_0 18 rfl rfl)
theorem dX3_run_21 : decode cX3_run 21 = .ok (.putfield 62, 3) := dk_181 0 62 (dk_at dksX3_run_0 21 rfl rfl)
theorem dX3_run_24 : decode cX3_run 24 = .ok (.aload_n 0, 1) := dk_42 (dk_at dksX3_run_1 0 rfl rfl)
theorem dX3_run_25 : decode cX3_run 25 = .ok (.iconst 0, 1) := dk_3 (dk_at dksX3_run_1 1 rfl rfl)
theorem dX3_run_26 : decode cX3_run 26 = .ok (.putfield 66, 3) := dk_181 0 66 (dk_at dksX3_run_1 2 rfl rfl)
theorem dX3_run_29 : decode cX3_run 29 = .ok (.aload_n 0, 1) := dk_42 (dk_at dksX3_run_1 5 rfl rfl)
theorem dX3_run_30 : decode cX3_run 30 = .ok (.iconst 0, 1) := dk_3 (dk_at dksX3_run_1 6 rfl rfl)
theorem dX3_run_31 : decode cX3_run 31 = .ok (.putfield 70, 3) := dk_181 0 70 (dk_at dksX3_run_1 7 rfl rfl)
theorem dX3_run_34 : decode cX3_run 34 = .ok (.aload_n 0, 1) := dk_42 (dk_at dksX3_run_1 10 rfl rfl)
theorem dX3_run_35 : decode cX3_run 35 = .ok (.iconst 0, 1) := dk_3 (dk_at dksX3_run_1 11 rfl rfl)
theorem dX3_run_36 : decode cX3_run 36 = .ok (.putfield 73, 3) := dk_181 0 73 (dk_at dksX3_run_1 12 rfl rfl)
theorem dX3_run_39 : decode cX3_run 39 = .ok (.aload_n 0, 1) := dk_42 (dk_at dksX3_run_1 15 rfl rfl)
theorem dX3_run_40 : decode cX3_run 40 = .ok (.iconst 0, 1) := dk_3 (dk_at dksX3_run_1 16 rfl rfl)
theorem dX3_run_41 : decode cX3_run 41 = .ok (.putfield 77, 3) := dk_181 0 77 (dk_at dksX3_run_1 17 rfl rfl)
theorem dX3_run_44 : decode cX3_run 44 = .ok (.aload_n 0, 1) := dk_42 (dk_at dksX3_run_1 20 rfl rfl)
theorem dX3_run_45 : decode cX3_run 45 = .ok (.iconst 0, 1) := dk_3 (dk_at dksX3_run_1 21 rfl rfl)
theorem dX3_run_46 : decode cX3_run 46 = .ok (.putfield 80, 3) := dk_181 0 80 (dk_at dksX3_run_2 0 rfl rfl)
theorem dX3_run_49 : decode cX3_run 49 = .ok (.iconst 0, 1) := dk_3 (dk_at dksX3_run_2 3 rfl rfl)
theorem dX3_run_50 : decode cX3_run 50 = .ok (.istore 5, 2) := dk_54 5 (dk_at dksX3_run_2 4 rfl rfl)
theorem dX3_run_52 : decode cX3_run 52 = .ok (.iload 5, 2) := dk_21 5 (dk_at dksX3_run_2 6 rfl rfl)
theorem dX3_run_54 : decode cX3_run 54 = .ok (.sipush 8192, 3) := dk_17 32 0 (dk_at dksX3_run_2 8 rfl rfl)
theorem dX3_run_57 : decode cX3_run 57 = .ok (.if_icmp .ge 17, 3) := dk_162 0 17 (dk_at dksX3_run_2 11 rfl rfl)
theorem dX3_run_60 : decode cX3_run 60 = .ok (.aload_n 0, 1) := dk_42 (dk_at dksX3_run_2 14 rfl rfl)
theorem dX3_run_61 : decode cX3_run 61 = .ok (.getfield 15, 3) := dk_180 0 15 (dk_at dksX3_run_2 15 rfl rfl)
theorem dX3_run_64 : decode cX3_run 64 = .ok (.iload 5, 2) := dk_21 5 (dk_at dksX3_run_2 18 rfl rfl)
theorem dX3_run_66 : decode cX3_run 66 = .ok (.iconst (-1), 1) := dk_2 (dk_at dksX3_run_2 20 rfl rfl)
theorem dX3_run_67 : decode cX3_run 67 = .ok (.iastore, 1) := dk_79 (dk_at dksX3_run_2 21 rfl rfl)
theorem dX3_run_68 : decode cX3_run 68 = .ok (.iinc 5 1, 3) := dk_132 5 1 (dk_at dksX3_run_3 0 rfl rfl)
theorem dX3_run_71 : decode cX3_run 71 = .ok (.goto (-19), 3) := dk_167 255 237 (dk_at dksX3_run_3 3 rfl rfl)
theorem dX3_run_74 : decode cX3_run 74 = .ok (.new 83, 3) := dk_187 0 83 (dk_at dksX3_run_3 6 rfl rfl)
theorem dX3_run_77 : decode cX3_run 77 = .ok (.dup, 1) := dk_89 (dk_at dksX3_run_3 9 rfl rfl)
theorem dX3_run_78 : decode cX3_run 78 = .ok (.aload_n 0, 1) := dk_42 (dk_at dksX3_run_3 10 rfl rfl)
theorem dX3_run_79 : decode cX3_run 79 = .ok (.getfield 53, 3) := dk_180 0 53 (dk_at dksX3_run_3 11 rfl rfl)
theorem dX3_run_82 : decode cX3_run 82 = .ok (.invokespecial 85, 3) := dk_183 0 85 (dk_at dksX3_run_3 14 rfl rfl)
theorem dX3_run_85 : decode cX3_run 85 = .ok (.astore 5, 2) := dk_58 5 (dk_at dksX3_run_3 17 rfl rfl)
theorem dX3_run_87 : decode cX3_run 87 = .ok (.aload 5, 2) := dk_25 5 (dk_at dksX3_run_3 19 rfl rfl)
theorem dX3_run_89 : decode cX3_run 89 = .ok (.invokevirtual 88, 3) := dk_182 0 88 (dk_at dksX3_run_3 21 rfl rfl)
theorem dX3_run_92 : decode cX3_run 92 = .ok (.aload_n 0, 1) := dk_42 (dk_at dksX3_run_4 0 rfl rfl)
theorem dX3_run_93 : decode cX3_run 93 = .ok (.aload 5, 2) := dk_25 5 (dk_at dksX3_run_4 1 rfl rfl)
theorem dX3_run_95 : decode cX3_run 95 = .ok (.invokevirtual 91, 3) := dk_182 0 91 (dk_at dksX3_run_4 3 rfl rfl)
theorem dX3_run_98 : decode cX3_run 98 = .ok (.iconst 0, 1) := dk_3 (dk_at dksX3_run_4 6 rfl rfl)
theorem dX3_run_99 : decode cX3_run 99 = .ok (.invokevirtual 95, 3) := dk_182 0 95 (dk_at dksX3_run_4 7 rfl rfl)
theorem dX3_run_102 : decode cX3_run 102 = .ok (.pop, 1) := dk_87 (dk_at dksX3_run_4 10 rfl rfl)
theorem dX3_run_103 : decode cX3_run 103 = .ok (.iconst 0, 1) := dk_3 (dk_at dksX3_run_4 11 rfl rfl)
theorem dX3_run_104 : decode cX3_run 104 = .ok (.istore 6, 2) := dk_54 6 (dk_at dksX3_run_4 12 rfl rfl)
theorem dX3_run_106 : decode cX3_run 106 = .ok (.iload 6, 2) := dk_21 6 (dk_at dksX3_run_4 14 rfl rfl)
theorem dX3_run_108 : decode cX3_run 108 = .ok (.aload_n 0, 1) := dk_42 (dk_at dksX3_run_4 16 rfl rfl)
theorem dX3_run_109 : decode cX3_run 109 = .ok (.getfield 66, 3) := dk_180 0 66 (dk_at dksX3_run_4 17 rfl rfl)
theorem dX3_run_112 : decode cX3_run 112 = .ok (.if_icmp .ge 47, 3) := dk_162 0 47 (dk_at dksX3_run_4 20 rfl rfl)
theorem dX3_run_115 : decode cX3_run 115 = .ok (.aload_n 0, 1) := dk_42 (dk_at dksX3_run_4 23 rfl rfl)
theorem dX3_run_116 : decode cX3_run 116 = .ok (.getfield 73, 3) := dk_180 0 73 (dk_at dksX3_run_5 0 rfl rfl)
theorem dX3_run_119 : decode cX3_run 119 = .ok (.ifCond .ne 40, 3) := dk_154 0 40 (dk_at dksX3_run_5 3 rfl rfl)
theorem dX3_run_122 : decode cX3_run 122 = .ok (.aload_n 0, 1) := dk_42 (dk_at dksX3_run_5 6 rfl rfl)
theorem dX3_run_123 : decode cX3_run 123 = .ok (.getfield 21, 3) := dk_180 0 21 (dk_at dksX3_run_5 7 rfl rfl)
theorem dX3_run_126 : decode cX3_run 126 = .ok (.iload 6, 2) := dk_21 6 (dk_at dksX3_run_5 10 rfl rfl)
theorem dX3_run_128 : decode cX3_run 128 = .ok (.aload_n 0, 1) := dk_42 (dk_at dksX3_run_5 12 rfl rfl)
theorem dX3_run_129 : decode cX3_run 129 = .ok (.getfield 70, 3) := dk_180 0 70 (dk_at dksX3_run_5 13 rfl rfl)
theorem dX3_run_132 : decode cX3_run 132 = .ok (.iastore, 1) := dk_79 (dk_at dksX3_run_5 16 rfl rfl)
theorem dX3_run_133 : decode cX3_run 133 = .ok (.aload 5, 2) := dk_25 5 (dk_at dksX3_run_5 17 rfl rfl)
theorem dX3_run_135 : decode cX3_run 135 = .ok (.aload_n 0, 1) := dk_42 (dk_at dksX3_run_5 19 rfl rfl)
theorem dX3_run_136 : decode cX3_run 136 = .ok (.getfield 9, 3) := dk_180 0 9 (dk_at dksX3_run_5 20 rfl rfl)
theorem dX3_run_139 : decode cX3_run 139 = .ok (.iload 6, 2) := dk_21 6 (dk_at dksX3_run_6 0 rfl rfl)
theorem dX3_run_141 : decode cX3_run 141 = .ok (.iaload, 1) := dk_46 (dk_at dksX3_run_6 2 rfl rfl)
theorem dX3_run_142 : decode cX3_run 142 = .ok (.invokevirtual 99, 3) := dk_182 0 99 (dk_at dksX3_run_6 3 rfl rfl)
theorem dX3_run_145 : decode cX3_run 145 = .ok (.aload_n 0, 1) := dk_42 (dk_at dksX3_run_6 6 rfl rfl)
theorem dX3_run_146 : decode cX3_run 146 = .ok (.iload 6, 2) := dk_21 6 (dk_at dksX3_run_6 7 rfl rfl)
theorem dX3_run_148 : decode cX3_run 148 = .ok (.aload 5, 2) := dk_25 5 (dk_at dksX3_run_6 9 rfl rfl)
theorem dX3_run_150 : decode cX3_run 150 = .ok (.invokevirtual 103, 3) := dk_182 0 103 (dk_at dksX3_run_6 11 rfl rfl)
theorem dX3_run_153 : decode cX3_run 153 = .ok (.iinc 6 1, 3) := dk_132 6 1 (dk_at dksX3_run_6 14 rfl rfl)
theorem dX3_run_156 : decode cX3_run 156 = .ok (.goto (-50), 3) := dk_167 255 206 (dk_at dksX3_run_6 17 rfl rfl)
theorem dX3_run_159 : decode cX3_run 159 = .ok (.aload_n 0, 1) := dk_42 (dk_at dksX3_run_6 20 rfl rfl)
theorem dX3_run_160 : decode cX3_run 160 = .ok (.getfield 21, 3) := dk_180 0 21 (dk_at dksX3_run_6 21 rfl rfl)
theorem dX3_run_163 : decode cX3_run 163 = .ok (.aload_n 0, 1) := dk_42 (dk_at dksX3_run_7 0 rfl rfl)
theorem dX3_run_164 : decode cX3_run 164 = .ok (.getfield 66, 3) := dk_180 0 66 (dk_at dksX3_run_7 1 rfl rfl)
theorem dX3_run_167 : decode cX3_run 167 = .ok (.aload_n 0, 1) := dk_42 (dk_at dksX3_run_7 4 rfl rfl)
theorem dX3_run_168 : decode cX3_run 168 = .ok (.getfield 70, 3) := dk_180 0 70 (dk_at dksX3_run_7 5 rfl rfl)
theorem dX3_run_171 : decode cX3_run 171 = .ok (.iastore, 1) := dk_79 (dk_at dksX3_run_7 8 rfl rfl)
theorem dX3_run_172 : decode cX3_run 172 = .ok (.aload_n 0, 1) := dk_42 (dk_at dksX3_run_7 9 rfl rfl)
theorem dX3_run_173 : decode cX3_run 173 = .ok (.getfield 73, 3) := dk_180 0 73 (dk_at dksX3_run_7 10 rfl rfl)
theorem dX3_run_176 : decode cX3_run 176 = .ok (.ifCond .ne 7, 3) := dk_154 0 7 (dk_at dksX3_run_7 13 rfl rfl)
theorem dX3_run_179 : decode cX3_run 179 = .ok (.aload_n 0, 1) := dk_42 (dk_at dksX3_run_7 16 rfl rfl)
theorem dX3_run_180 : decode cX3_run 180 = .ok (.invokevirtual 107, 3) := dk_182 0 107 (dk_at dksX3_run_7 17 rfl rfl)
theorem dX3_run_183 : decode cX3_run 183 = .ok (.aload_n 0, 1) := dk_42 (dk_at dksX3_run_7 20 rfl rfl)
theorem dX3_run_184 : decode cX3_run 184 = .ok (.getfield 73, 3) := dk_180 0 73 (dk_at dksX3_run_7 21 rfl rfl)
theorem dX3_run_187 : decode cX3_run 187 = .ok (.ifCond .ne 7, 3) := dk_154 0 7 (dk_at dksX3_run_8 0 rfl rfl)
theorem dX3_run_190 : decode cX3_run 190 = .ok (.iconst 1, 1) := dk_4 (dk_at dksX3_run_8 3 rfl rfl)
theorem dX3_run_191 : decode cX3_run 191 = .ok (.goto 4, 3) := dk_167 0 4 (dk_at dksX3_run_8 4 rfl rfl)
theorem dX3_run_194 : decode cX3_run 194 = .ok (.iconst 0, 1) := dk_3 (dk_at dksX3_run_8 7 rfl rfl)
theorem dX3_run_195 : decode cX3_run 195 = .ok (.ireturn, 1) := dk_172 (dk_at dksX3_run_8 8 rfl rfl)
abbrev cX3_add : ByteArray := prog_8_method_6_code
def yX3_add : MethodName := ⟨RX3, "add", "(II)I"⟩
def dkwX3_add_3 : List UInt8 := [180, 0, 66, 4, 96, 181, 0, 66, 42, 180, 0, 66, 4, 100, 172]
abbrev dktX3_add_3 : List UInt8 := dkwX3_add_3 ++ []
def dkwX3_add_2 : List UInt8 := [27, 79, 42, 180, 0, 18, 42, 180, 0, 66, 28, 79, 42, 180, 0, 15, 29, 42, 180, 0, 66, 79, 42, 89]
abbrev dktX3_add_2 : List UInt8 := dkwX3_add_2 ++ dktX3_add_3
def dkwX3_add_1 : List UInt8 := [180, 0, 66, 17, 7, 208, 160, 0, 10, 42, 4, 181, 0, 73, 2, 172, 42, 180, 0, 9, 42, 180, 0, 66]
abbrev dktX3_add_1 : List UInt8 := dkwX3_add_1 ++ dktX3_add_2
def dkwX3_add_0 : List UInt8 := [42, 27, 182, 0, 110, 62, 42, 180, 0, 15, 29, 46, 2, 159, 0, 10, 42, 180, 0, 15, 29, 46, 172, 42]
abbrev dktX3_add_0 : List UInt8 := dkwX3_add_0 ++ dktX3_add_1
theorem dksX3_add_0 : cX3_add.data.toList.drop 0 = dktX3_add_0 := by decide +kernel
theorem dksX3_add_1 : cX3_add.data.toList.drop 24 = dktX3_add_1 := dk_seg dksX3_add_0 24 rfl rfl
theorem dksX3_add_2 : cX3_add.data.toList.drop 48 = dktX3_add_2 := dk_seg dksX3_add_1 24 rfl rfl
theorem dksX3_add_3 : cX3_add.data.toList.drop 72 = dktX3_add_3 := dk_seg dksX3_add_2 24 rfl rfl
theorem dX3_add_0 : decode cX3_add 0 = .ok (.aload_n 0, 1) := dk_42 (dk_at dksX3_add_0 0 rfl rfl)
theorem dX3_add_1 : decode cX3_add 1 = .ok (.iload_n 1, 1) := dk_27 (dk_at dksX3_add_0 1 rfl rfl)
theorem dX3_add_2 : decode cX3_add 2 = .ok (.invokevirtual 110, 3) := dk_182 0 110 (dk_at dksX3_add_0 2 rfl rfl)
theorem dX3_add_5 : decode cX3_add 5 = .ok (.istore_n 3, 1) := dk_62 (dk_at dksX3_add_0 5 rfl rfl)
theorem dX3_add_6 : decode cX3_add 6 = .ok (.aload_n 0, 1) := dk_42 (dk_at dksX3_add_0 6 rfl rfl)
theorem dX3_add_7 : decode cX3_add 7 = .ok (.getfield 15, 3) := dk_180 0 15 (dk_at dksX3_add_0 7 rfl rfl)
theorem dX3_add_10 : decode cX3_add 10 = .ok (.iload_n 3, 1) := dk_29 (dk_at dksX3_add_0 10 rfl rfl)
theorem dX3_add_11 : decode cX3_add 11 = .ok (.iaload, 1) := dk_46 (dk_at dksX3_add_0 11 rfl rfl)
theorem dX3_add_12 : decode cX3_add 12 = .ok (.iconst (-1), 1) := dk_2 (dk_at dksX3_add_0 12 rfl rfl)
theorem dX3_add_13 : decode cX3_add 13 = .ok (.if_icmp .eq 10, 3) := dk_159 0 10 (dk_at dksX3_add_0 13 rfl rfl)
theorem dX3_add_16 : decode cX3_add 16 = .ok (.aload_n 0, 1) := dk_42 (dk_at dksX3_add_0 16 rfl rfl)
theorem dX3_add_17 : decode cX3_add 17 = .ok (.getfield 15, 3) := dk_180 0 15 (dk_at dksX3_add_0 17 rfl rfl)
theorem dX3_add_20 : decode cX3_add 20 = .ok (.iload_n 3, 1) := dk_29 (dk_at dksX3_add_0 20 rfl rfl)
theorem dX3_add_21 : decode cX3_add 21 = .ok (.iaload, 1) := dk_46 (dk_at dksX3_add_0 21 rfl rfl)
theorem dX3_add_22 : decode cX3_add 22 = .ok (.ireturn, 1) := dk_172 (dk_at dksX3_add_0 22 rfl rfl)
theorem dX3_add_23 : decode cX3_add 23 = .ok (.aload_n 0, 1) := dk_42 (dk_at dksX3_add_0 23 rfl rfl)
theorem dX3_add_24 : decode cX3_add 24 = .ok (.getfield 66, 3) := dk_180 0 66 (dk_at dksX3_add_1 0 rfl rfl)
theorem dX3_add_27 : decode cX3_add 27 = .ok (.sipush 2000, 3) := dk_17 7 208 (dk_at dksX3_add_1 3 rfl rfl)
theorem dX3_add_30 : decode cX3_add 30 = .ok (.if_icmp .ne 10, 3) := dk_160 0 10 (dk_at dksX3_add_1 6 rfl rfl)
theorem dX3_add_33 : decode cX3_add 33 = .ok (.aload_n 0, 1) := dk_42 (dk_at dksX3_add_1 9 rfl rfl)
theorem dX3_add_34 : decode cX3_add 34 = .ok (.iconst 1, 1) := dk_4 (dk_at dksX3_add_1 10 rfl rfl)
theorem dX3_add_35 : decode cX3_add 35 = .ok (.putfield 73, 3) := dk_181 0 73 (dk_at dksX3_add_1 11 rfl rfl)
theorem dX3_add_38 : decode cX3_add 38 = .ok (.iconst (-1), 1) := dk_2 (dk_at dksX3_add_1 14 rfl rfl)
theorem dX3_add_39 : decode cX3_add 39 = .ok (.ireturn, 1) := dk_172 (dk_at dksX3_add_1 15 rfl rfl)
theorem dX3_add_40 : decode cX3_add 40 = .ok (.aload_n 0, 1) := dk_42 (dk_at dksX3_add_1 16 rfl rfl)
theorem dX3_add_41 : decode cX3_add 41 = .ok (.getfield 9, 3) := dk_180 0 9 (dk_at dksX3_add_1 17 rfl rfl)
theorem dX3_add_44 : decode cX3_add 44 = .ok (.aload_n 0, 1) := dk_42 (dk_at dksX3_add_1 20 rfl rfl)
theorem dX3_add_45 : decode cX3_add 45 = .ok (.getfield 66, 3) := dk_180 0 66 (dk_at dksX3_add_1 21 rfl rfl)
theorem dX3_add_48 : decode cX3_add 48 = .ok (.iload_n 1, 1) := dk_27 (dk_at dksX3_add_2 0 rfl rfl)
theorem dX3_add_49 : decode cX3_add 49 = .ok (.iastore, 1) := dk_79 (dk_at dksX3_add_2 1 rfl rfl)
theorem dX3_add_50 : decode cX3_add 50 = .ok (.aload_n 0, 1) := dk_42 (dk_at dksX3_add_2 2 rfl rfl)
theorem dX3_add_51 : decode cX3_add 51 = .ok (.getfield 18, 3) := dk_180 0 18 (dk_at dksX3_add_2 3 rfl rfl)
theorem dX3_add_54 : decode cX3_add 54 = .ok (.aload_n 0, 1) := dk_42 (dk_at dksX3_add_2 6 rfl rfl)
theorem dX3_add_55 : decode cX3_add 55 = .ok (.getfield 66, 3) := dk_180 0 66 (dk_at dksX3_add_2 7 rfl rfl)
theorem dX3_add_58 : decode cX3_add 58 = .ok (.iload_n 2, 1) := dk_28 (dk_at dksX3_add_2 10 rfl rfl)
theorem dX3_add_59 : decode cX3_add 59 = .ok (.iastore, 1) := dk_79 (dk_at dksX3_add_2 11 rfl rfl)
theorem dX3_add_60 : decode cX3_add 60 = .ok (.aload_n 0, 1) := dk_42 (dk_at dksX3_add_2 12 rfl rfl)
theorem dX3_add_61 : decode cX3_add 61 = .ok (.getfield 15, 3) := dk_180 0 15 (dk_at dksX3_add_2 13 rfl rfl)
theorem dX3_add_64 : decode cX3_add 64 = .ok (.iload_n 3, 1) := dk_29 (dk_at dksX3_add_2 16 rfl rfl)
theorem dX3_add_65 : decode cX3_add 65 = .ok (.aload_n 0, 1) := dk_42 (dk_at dksX3_add_2 17 rfl rfl)
theorem dX3_add_66 : decode cX3_add 66 = .ok (.getfield 66, 3) := dk_180 0 66 (dk_at dksX3_add_2 18 rfl rfl)
theorem dX3_add_69 : decode cX3_add 69 = .ok (.iastore, 1) := dk_79 (dk_at dksX3_add_2 21 rfl rfl)
theorem dX3_add_70 : decode cX3_add 70 = .ok (.aload_n 0, 1) := dk_42 (dk_at dksX3_add_2 22 rfl rfl)
theorem dX3_add_71 : decode cX3_add 71 = .ok (.dup, 1) := dk_89 (dk_at dksX3_add_2 23 rfl rfl)
theorem dX3_add_72 : decode cX3_add 72 = .ok (.getfield 66, 3) := dk_180 0 66 (dk_at dksX3_add_3 0 rfl rfl)
theorem dX3_add_75 : decode cX3_add 75 = .ok (.iconst 1, 1) := dk_4 (dk_at dksX3_add_3 3 rfl rfl)
theorem dX3_add_76 : decode cX3_add 76 = .ok (.iadd, 1) := dk_96 (dk_at dksX3_add_3 4 rfl rfl)
theorem dX3_add_77 : decode cX3_add 77 = .ok (.putfield 66, 3) := dk_181 0 66 (dk_at dksX3_add_3 5 rfl rfl)
theorem dX3_add_80 : decode cX3_add 80 = .ok (.aload_n 0, 1) := dk_42 (dk_at dksX3_add_3 8 rfl rfl)
theorem dX3_add_81 : decode cX3_add 81 = .ok (.getfield 66, 3) := dk_180 0 66 (dk_at dksX3_add_3 9 rfl rfl)
theorem dX3_add_84 : decode cX3_add 84 = .ok (.iconst 1, 1) := dk_4 (dk_at dksX3_add_3 12 rfl rfl)
theorem dX3_add_85 : decode cX3_add 85 = .ok (.isub, 1) := dk_100 (dk_at dksX3_add_3 13 rfl rfl)
theorem dX3_add_86 : decode cX3_add 86 = .ok (.ireturn, 1) := dk_172 (dk_at dksX3_add_3 14 rfl rfl)
abbrev cX3_slotOf : ByteArray := prog_8_method_4_code
def yX3_slotOf : MethodName := ⟨RX3, "slotOf", "(I)I"⟩
def dkwX3_slotOf_2 : List UInt8 := [167, 255, 223, 28, 172]
abbrev dktX3_slotOf_2 : List UInt8 := dkwX3_slotOf_2 ++ []
def dkwX3_slotOf_1 : List UInt8 := [42, 180, 0, 9, 42, 180, 0, 15, 28, 46, 46, 27, 159, 0, 14, 28, 4, 96, 17, 31, 255, 126, 61]
abbrev dktX3_slotOf_1 : List UInt8 := dkwX3_slotOf_1 ++ dktX3_slotOf_2
def dkwX3_slotOf_0 : List UInt8 := [27, 16, 31, 104, 27, 16, 11, 124, 130, 17, 31, 255, 126, 61, 42, 180, 0, 15, 28, 46, 2, 159, 0, 29]
abbrev dktX3_slotOf_0 : List UInt8 := dkwX3_slotOf_0 ++ dktX3_slotOf_1
theorem dksX3_slotOf_0 : cX3_slotOf.data.toList.drop 0 = dktX3_slotOf_0 := by decide +kernel
theorem dksX3_slotOf_1 : cX3_slotOf.data.toList.drop 24 = dktX3_slotOf_1 := dk_seg dksX3_slotOf_0 24 rfl rfl
theorem dksX3_slotOf_2 : cX3_slotOf.data.toList.drop 47 = dktX3_slotOf_2 := dk_seg dksX3_slotOf_1 23 rfl rfl
theorem dX3_slotOf_0 : decode cX3_slotOf 0 = .ok (.iload_n 1, 1) := dk_27 (dk_at dksX3_slotOf_0 0 rfl rfl)
theorem dX3_slotOf_1 : decode cX3_slotOf 1 = .ok (.bipush 31, 2) := dk_16 31 (dk_at dksX3_slotOf_0 1 rfl rfl)
theorem dX3_slotOf_3 : decode cX3_slotOf 3 = .ok (.imul, 1) := dk_104 (dk_at dksX3_slotOf_0 3 rfl rfl)
theorem dX3_slotOf_4 : decode cX3_slotOf 4 = .ok (.iload_n 1, 1) := dk_27 (dk_at dksX3_slotOf_0 4 rfl rfl)
theorem dX3_slotOf_5 : decode cX3_slotOf 5 = .ok (.bipush 11, 2) := dk_16 11 (dk_at dksX3_slotOf_0 5 rfl rfl)
theorem dX3_slotOf_7 : decode cX3_slotOf 7 = .ok (.iushr, 1) := dk_124 (dk_at dksX3_slotOf_0 7 rfl rfl)
theorem dX3_slotOf_8 : decode cX3_slotOf 8 = .ok (.ixor, 1) := dk_130 (dk_at dksX3_slotOf_0 8 rfl rfl)
theorem dX3_slotOf_9 : decode cX3_slotOf 9 = .ok (.sipush 8191, 3) := dk_17 31 255 (dk_at dksX3_slotOf_0 9 rfl rfl)
theorem dX3_slotOf_12 : decode cX3_slotOf 12 = .ok (.iand, 1) := dk_126 (dk_at dksX3_slotOf_0 12 rfl rfl)
theorem dX3_slotOf_13 : decode cX3_slotOf 13 = .ok (.istore_n 2, 1) := dk_61 (dk_at dksX3_slotOf_0 13 rfl rfl)
theorem dX3_slotOf_14 : decode cX3_slotOf 14 = .ok (.aload_n 0, 1) := dk_42 (dk_at dksX3_slotOf_0 14 rfl rfl)
theorem dX3_slotOf_15 : decode cX3_slotOf 15 = .ok (.getfield 15, 3) := dk_180 0 15 (dk_at dksX3_slotOf_0 15 rfl rfl)
theorem dX3_slotOf_18 : decode cX3_slotOf 18 = .ok (.iload_n 2, 1) := dk_28 (dk_at dksX3_slotOf_0 18 rfl rfl)
theorem dX3_slotOf_19 : decode cX3_slotOf 19 = .ok (.iaload, 1) := dk_46 (dk_at dksX3_slotOf_0 19 rfl rfl)
theorem dX3_slotOf_20 : decode cX3_slotOf 20 = .ok (.iconst (-1), 1) := dk_2 (dk_at dksX3_slotOf_0 20 rfl rfl)
theorem dX3_slotOf_21 : decode cX3_slotOf 21 = .ok (.if_icmp .eq 29, 3) := dk_159 0 29 (dk_at dksX3_slotOf_0 21 rfl rfl)
theorem dX3_slotOf_24 : decode cX3_slotOf 24 = .ok (.aload_n 0, 1) := dk_42 (dk_at dksX3_slotOf_1 0 rfl rfl)
theorem dX3_slotOf_25 : decode cX3_slotOf 25 = .ok (.getfield 9, 3) := dk_180 0 9 (dk_at dksX3_slotOf_1 1 rfl rfl)
theorem dX3_slotOf_28 : decode cX3_slotOf 28 = .ok (.aload_n 0, 1) := dk_42 (dk_at dksX3_slotOf_1 4 rfl rfl)
theorem dX3_slotOf_29 : decode cX3_slotOf 29 = .ok (.getfield 15, 3) := dk_180 0 15 (dk_at dksX3_slotOf_1 5 rfl rfl)
theorem dX3_slotOf_32 : decode cX3_slotOf 32 = .ok (.iload_n 2, 1) := dk_28 (dk_at dksX3_slotOf_1 8 rfl rfl)
theorem dX3_slotOf_33 : decode cX3_slotOf 33 = .ok (.iaload, 1) := dk_46 (dk_at dksX3_slotOf_1 9 rfl rfl)
theorem dX3_slotOf_34 : decode cX3_slotOf 34 = .ok (.iaload, 1) := dk_46 (dk_at dksX3_slotOf_1 10 rfl rfl)
theorem dX3_slotOf_35 : decode cX3_slotOf 35 = .ok (.iload_n 1, 1) := dk_27 (dk_at dksX3_slotOf_1 11 rfl rfl)
theorem dX3_slotOf_36 : decode cX3_slotOf 36 = .ok (.if_icmp .eq 14, 3) := dk_159 0 14 (dk_at dksX3_slotOf_1 12 rfl rfl)
theorem dX3_slotOf_39 : decode cX3_slotOf 39 = .ok (.iload_n 2, 1) := dk_28 (dk_at dksX3_slotOf_1 15 rfl rfl)
theorem dX3_slotOf_40 : decode cX3_slotOf 40 = .ok (.iconst 1, 1) := dk_4 (dk_at dksX3_slotOf_1 16 rfl rfl)
theorem dX3_slotOf_41 : decode cX3_slotOf 41 = .ok (.iadd, 1) := dk_96 (dk_at dksX3_slotOf_1 17 rfl rfl)
theorem dX3_slotOf_42 : decode cX3_slotOf 42 = .ok (.sipush 8191, 3) := dk_17 31 255 (dk_at dksX3_slotOf_1 18 rfl rfl)
theorem dX3_slotOf_45 : decode cX3_slotOf 45 = .ok (.iand, 1) := dk_126 (dk_at dksX3_slotOf_1 21 rfl rfl)
theorem dX3_slotOf_46 : decode cX3_slotOf 46 = .ok (.istore_n 2, 1) := dk_61 (dk_at dksX3_slotOf_1 22 rfl rfl)
theorem dX3_slotOf_47 : decode cX3_slotOf 47 = .ok (.goto (-33), 3) := dk_167 255 223 (dk_at dksX3_slotOf_2 0 rfl rfl)
theorem dX3_slotOf_50 : decode cX3_slotOf 50 = .ok (.iload_n 2, 1) := dk_28 (dk_at dksX3_slotOf_2 3 rfl rfl)
theorem dX3_slotOf_51 : decode cX3_slotOf 51 = .ok (.ireturn, 1) := dk_172 (dk_at dksX3_slotOf_2 4 rfl rfl)
abbrev cX3_go : ByteArray := prog_8_method_7_code
def yX3_go : MethodName := ⟨RX3, "go", "(ILFerryHall$Place;)V"⟩
def dkwX3_go_5 : List UInt8 := [132, 3, 1, 167, 255, 138, 177]
abbrev dktX3_go_5 : List UInt8 := dkwX3_go_5 ++ []
def dkwX3_go_4 : List UInt8 := [182, 0, 138, 21, 6, 21, 4, 100, 21, 4, 126, 54, 6, 167, 255, 223, 132, 5, 1, 167, 255, 176]
abbrev dktX3_go_4 : List UInt8 := dkwX3_go_4 ++ dktX3_go_5
def dkwX3_go_3 : List UInt8 := [116, 126, 54, 6, 21, 6, 153, 0, 34, 42, 180, 0, 73, 154, 0, 27, 42, 27, 44, 29, 21, 5, 21, 6]
abbrev dktX3_go_3 : List UInt8 := dkwX3_go_3 ++ dktX3_go_4
def dkwX3_go_2 : List UInt8 := [180, 0, 53, 44, 180, 0, 128, 29, 46, 21, 5, 182, 0, 134, 154, 0, 6, 167, 0, 47, 21, 4, 21, 4]
abbrev dktX3_go_2 : List UInt8 := dkwX3_go_2 ++ dktX3_go_3
def dkwX3_go_1 : List UInt8 := [180, 0, 128, 29, 46, 46, 54, 4, 3, 54, 5, 21, 5, 42, 180, 0, 53, 180, 0, 131, 162, 0, 74, 42]
abbrev dktX3_go_1 : List UInt8 := dkwX3_go_1 ++ dktX3_go_2
def dkwX3_go_0 : List UInt8 := [3, 62, 29, 42, 180, 0, 53, 180, 0, 114, 185, 0, 120, 1, 0, 162, 0, 108, 44, 180, 0, 125, 44]
abbrev dktX3_go_0 : List UInt8 := dkwX3_go_0 ++ dktX3_go_1
theorem dksX3_go_0 : cX3_go.data.toList.drop 0 = dktX3_go_0 := by decide +kernel
theorem dksX3_go_1 : cX3_go.data.toList.drop 23 = dktX3_go_1 := dk_seg dksX3_go_0 23 rfl rfl
theorem dksX3_go_2 : cX3_go.data.toList.drop 47 = dktX3_go_2 := dk_seg dksX3_go_1 24 rfl rfl
theorem dksX3_go_3 : cX3_go.data.toList.drop 71 = dktX3_go_3 := dk_seg dksX3_go_2 24 rfl rfl
theorem dksX3_go_4 : cX3_go.data.toList.drop 95 = dktX3_go_4 := dk_seg dksX3_go_3 24 rfl rfl
theorem dksX3_go_5 : cX3_go.data.toList.drop 117 = dktX3_go_5 := dk_seg dksX3_go_4 22 rfl rfl
theorem dX3_go_0 : decode cX3_go 0 = .ok (.iconst 0, 1) := dk_3 (dk_at dksX3_go_0 0 rfl rfl)
theorem dX3_go_1 : decode cX3_go 1 = .ok (.istore_n 3, 1) := dk_62 (dk_at dksX3_go_0 1 rfl rfl)
theorem dX3_go_2 : decode cX3_go 2 = .ok (.iload_n 3, 1) := dk_29 (dk_at dksX3_go_0 2 rfl rfl)
theorem dX3_go_3 : decode cX3_go 3 = .ok (.aload_n 0, 1) := dk_42 (dk_at dksX3_go_0 3 rfl rfl)
theorem dX3_go_4 : decode cX3_go 4 = .ok (.getfield 53, 3) := dk_180 0 53 (dk_at dksX3_go_0 4 rfl rfl)
theorem dX3_go_7 : decode cX3_go 7 = .ok (.getfield 114, 3) := dk_180 0 114 (dk_at dksX3_go_0 7 rfl rfl)
theorem dX3_go_10 : decode cX3_go 10 = .ok (.invokeinterface 120 1, 5) := by decide +kernel
theorem dX3_go_15 : decode cX3_go 15 = .ok (.if_icmp .ge 108, 3) := dk_162 0 108 (dk_at dksX3_go_0 15 rfl rfl)
theorem dX3_go_18 : decode cX3_go 18 = .ok (.aload_n 2, 1) := dk_44 (dk_at dksX3_go_0 18 rfl rfl)
theorem dX3_go_19 : decode cX3_go 19 = .ok (.getfield 125, 3) := dk_180 0 125 (dk_at dksX3_go_0 19 rfl rfl)
theorem dX3_go_22 : decode cX3_go 22 = .ok (.aload_n 2, 1) := dk_44 (dk_at dksX3_go_0 22 rfl rfl)
theorem dX3_go_23 : decode cX3_go 23 = .ok (.getfield 128, 3) := dk_180 0 128 (dk_at dksX3_go_1 0 rfl rfl)
theorem dX3_go_26 : decode cX3_go 26 = .ok (.iload_n 3, 1) := dk_29 (dk_at dksX3_go_1 3 rfl rfl)
theorem dX3_go_27 : decode cX3_go 27 = .ok (.iaload, 1) := dk_46 (dk_at dksX3_go_1 4 rfl rfl)
theorem dX3_go_28 : decode cX3_go 28 = .ok (.iaload, 1) := dk_46 (dk_at dksX3_go_1 5 rfl rfl)
theorem dX3_go_29 : decode cX3_go 29 = .ok (.istore 4, 2) := dk_54 4 (dk_at dksX3_go_1 6 rfl rfl)
theorem dX3_go_31 : decode cX3_go 31 = .ok (.iconst 0, 1) := dk_3 (dk_at dksX3_go_1 8 rfl rfl)
theorem dX3_go_32 : decode cX3_go 32 = .ok (.istore 5, 2) := dk_54 5 (dk_at dksX3_go_1 9 rfl rfl)
theorem dX3_go_34 : decode cX3_go 34 = .ok (.iload 5, 2) := dk_21 5 (dk_at dksX3_go_1 11 rfl rfl)
theorem dX3_go_36 : decode cX3_go 36 = .ok (.aload_n 0, 1) := dk_42 (dk_at dksX3_go_1 13 rfl rfl)
theorem dX3_go_37 : decode cX3_go 37 = .ok (.getfield 53, 3) := dk_180 0 53 (dk_at dksX3_go_1 14 rfl rfl)
theorem dX3_go_40 : decode cX3_go 40 = .ok (.getfield 131, 3) := dk_180 0 131 (dk_at dksX3_go_1 17 rfl rfl)
theorem dX3_go_43 : decode cX3_go 43 = .ok (.if_icmp .ge 74, 3) := dk_162 0 74 (dk_at dksX3_go_1 20 rfl rfl)
theorem dX3_go_46 : decode cX3_go 46 = .ok (.aload_n 0, 1) := dk_42 (dk_at dksX3_go_1 23 rfl rfl)
theorem dX3_go_47 : decode cX3_go 47 = .ok (.getfield 53, 3) := dk_180 0 53 (dk_at dksX3_go_2 0 rfl rfl)
theorem dX3_go_50 : decode cX3_go 50 = .ok (.aload_n 2, 1) := dk_44 (dk_at dksX3_go_2 3 rfl rfl)
theorem dX3_go_51 : decode cX3_go 51 = .ok (.getfield 128, 3) := dk_180 0 128 (dk_at dksX3_go_2 4 rfl rfl)
theorem dX3_go_54 : decode cX3_go 54 = .ok (.iload_n 3, 1) := dk_29 (dk_at dksX3_go_2 7 rfl rfl)
theorem dX3_go_55 : decode cX3_go 55 = .ok (.iaload, 1) := dk_46 (dk_at dksX3_go_2 8 rfl rfl)
theorem dX3_go_56 : decode cX3_go 56 = .ok (.iload 5, 2) := dk_21 5 (dk_at dksX3_go_2 9 rfl rfl)
theorem dX3_go_58 : decode cX3_go 58 = .ok (.invokevirtual 134, 3) := dk_182 0 134 (dk_at dksX3_go_2 11 rfl rfl)
theorem dX3_go_61 : decode cX3_go 61 = .ok (.ifCond .ne 6, 3) := dk_154 0 6 (dk_at dksX3_go_2 14 rfl rfl)
theorem dX3_go_64 : decode cX3_go 64 = .ok (.goto 47, 3) := dk_167 0 47 (dk_at dksX3_go_2 17 rfl rfl)
theorem dX3_go_67 : decode cX3_go 67 = .ok (.iload 4, 2) := dk_21 4 (dk_at dksX3_go_2 20 rfl rfl)
theorem dX3_go_69 : decode cX3_go 69 = .ok (.iload 4, 2) := dk_21 4 (dk_at dksX3_go_2 22 rfl rfl)
theorem dX3_go_71 : decode cX3_go 71 = .ok (.ineg, 1) := dk_116 (dk_at dksX3_go_3 0 rfl rfl)
theorem dX3_go_72 : decode cX3_go 72 = .ok (.iand, 1) := dk_126 (dk_at dksX3_go_3 1 rfl rfl)
theorem dX3_go_73 : decode cX3_go 73 = .ok (.istore 6, 2) := dk_54 6 (dk_at dksX3_go_3 2 rfl rfl)
theorem dX3_go_75 : decode cX3_go 75 = .ok (.iload 6, 2) := dk_21 6 (dk_at dksX3_go_3 4 rfl rfl)
theorem dX3_go_77 : decode cX3_go 77 = .ok (.ifCond .eq 34, 3) := dk_153 0 34 (dk_at dksX3_go_3 6 rfl rfl)
theorem dX3_go_80 : decode cX3_go 80 = .ok (.aload_n 0, 1) := dk_42 (dk_at dksX3_go_3 9 rfl rfl)
theorem dX3_go_81 : decode cX3_go 81 = .ok (.getfield 73, 3) := dk_180 0 73 (dk_at dksX3_go_3 10 rfl rfl)
theorem dX3_go_84 : decode cX3_go 84 = .ok (.ifCond .ne 27, 3) := dk_154 0 27 (dk_at dksX3_go_3 13 rfl rfl)
theorem dX3_go_87 : decode cX3_go 87 = .ok (.aload_n 0, 1) := dk_42 (dk_at dksX3_go_3 16 rfl rfl)
theorem dX3_go_88 : decode cX3_go 88 = .ok (.iload_n 1, 1) := dk_27 (dk_at dksX3_go_3 17 rfl rfl)
theorem dX3_go_89 : decode cX3_go 89 = .ok (.aload_n 2, 1) := dk_44 (dk_at dksX3_go_3 18 rfl rfl)
theorem dX3_go_90 : decode cX3_go 90 = .ok (.iload_n 3, 1) := dk_29 (dk_at dksX3_go_3 19 rfl rfl)
theorem dX3_go_91 : decode cX3_go 91 = .ok (.iload 5, 2) := dk_21 5 (dk_at dksX3_go_3 20 rfl rfl)
theorem dX3_go_93 : decode cX3_go 93 = .ok (.iload 6, 2) := dk_21 6 (dk_at dksX3_go_3 22 rfl rfl)
theorem dX3_go_95 : decode cX3_go 95 = .ok (.invokevirtual 138, 3) := dk_182 0 138 (dk_at dksX3_go_4 0 rfl rfl)
theorem dX3_go_98 : decode cX3_go 98 = .ok (.iload 6, 2) := dk_21 6 (dk_at dksX3_go_4 3 rfl rfl)
theorem dX3_go_100 : decode cX3_go 100 = .ok (.iload 4, 2) := dk_21 4 (dk_at dksX3_go_4 5 rfl rfl)
theorem dX3_go_102 : decode cX3_go 102 = .ok (.isub, 1) := dk_100 (dk_at dksX3_go_4 7 rfl rfl)
theorem dX3_go_103 : decode cX3_go 103 = .ok (.iload 4, 2) := dk_21 4 (dk_at dksX3_go_4 8 rfl rfl)
theorem dX3_go_105 : decode cX3_go 105 = .ok (.iand, 1) := dk_126 (dk_at dksX3_go_4 10 rfl rfl)
theorem dX3_go_106 : decode cX3_go 106 = .ok (.istore 6, 2) := dk_54 6 (dk_at dksX3_go_4 11 rfl rfl)
theorem dX3_go_108 : decode cX3_go 108 = .ok (.goto (-33), 3) := dk_167 255 223 (dk_at dksX3_go_4 13 rfl rfl)
theorem dX3_go_111 : decode cX3_go 111 = .ok (.iinc 5 1, 3) := dk_132 5 1 (dk_at dksX3_go_4 16 rfl rfl)
theorem dX3_go_114 : decode cX3_go 114 = .ok (.goto (-80), 3) := dk_167 255 176 (dk_at dksX3_go_4 19 rfl rfl)
theorem dX3_go_117 : decode cX3_go 117 = .ok (.iinc 3 1, 3) := dk_132 3 1 (dk_at dksX3_go_5 0 rfl rfl)
theorem dX3_go_120 : decode cX3_go 120 = .ok (.goto (-118), 3) := dk_167 255 138 (dk_at dksX3_go_5 3 rfl rfl)
theorem dX3_go_123 : decode cX3_go 123 = .ok (.return_, 1) := dk_177 (dk_at dksX3_go_5 6 rfl rfl)
abbrev cX3_cross : ByteArray := prog_8_method_8_code
def yX3_cross : MethodName := ⟨RX3, "cross", "(ILFerryHall$Place;III)V"⟩
def dkwX3_cross_5 : List UInt8 := [182, 0, 150, 79, 42, 89, 180, 0, 70, 4, 96, 181, 0, 70, 177]
abbrev dktX3_cross_5 : List UInt8 := dkwX3_cross_5 ++ []
def dkwX3_cross_4 : List UInt8 := [17, 1, 0, 104, 21, 5, 96, 79, 42, 180, 0, 31, 42, 180, 0, 70, 42, 180, 0, 53, 21, 5]
abbrev dktX3_cross_4 : List UInt8 := dkwX3_cross_4 ++ dktX3_cross_5
def dkwX3_cross_3 : List UInt8 := [180, 0, 25, 42, 180, 0, 70, 21, 6, 79, 42, 180, 0, 28, 42, 180, 0, 70, 29, 7, 104, 21, 4, 96]
abbrev dktX3_cross_3 : List UInt8 := dkwX3_cross_3 ++ dktX3_cross_4
def dkwX3_cross_2 : List UInt8 := [21, 6, 2, 160, 0, 4, 177, 42, 180, 0, 70, 18, 24, 160, 0, 9, 42, 4, 181, 0, 73, 177, 42]
abbrev dktX3_cross_2 : List UInt8 := dkwX3_cross_2 ++ dktX3_cross_3
def dkwX3_cross_1 : List UInt8 := [42, 180, 0, 62, 180, 0, 146, 182, 0, 91, 42, 180, 0, 18, 27, 46, 4, 96, 182, 0, 95, 54, 6]
abbrev dktX3_cross_1 : List UInt8 := dkwX3_cross_1 ++ dktX3_cross_2
def dkwX3_cross_0 : List UInt8 := [42, 180, 0, 62, 44, 42, 180, 0, 9, 27, 46, 29, 21, 4, 21, 5, 182, 0, 142, 153, 0, 4, 177, 42]
abbrev dktX3_cross_0 : List UInt8 := dkwX3_cross_0 ++ dktX3_cross_1
theorem dksX3_cross_0 : cX3_cross.data.toList.drop 0 = dktX3_cross_0 := by decide +kernel
theorem dksX3_cross_1 : cX3_cross.data.toList.drop 24 = dktX3_cross_1 := dk_seg dksX3_cross_0 24 rfl rfl
theorem dksX3_cross_2 : cX3_cross.data.toList.drop 47 = dktX3_cross_2 := dk_seg dksX3_cross_1 23 rfl rfl
theorem dksX3_cross_3 : cX3_cross.data.toList.drop 70 = dktX3_cross_3 := dk_seg dksX3_cross_2 23 rfl rfl
theorem dksX3_cross_4 : cX3_cross.data.toList.drop 94 = dktX3_cross_4 := dk_seg dksX3_cross_3 24 rfl rfl
theorem dksX3_cross_5 : cX3_cross.data.toList.drop 116 = dktX3_cross_5 := dk_seg dksX3_cross_4 22 rfl rfl
theorem dX3_cross_0 : decode cX3_cross 0 = .ok (.aload_n 0, 1) := dk_42 (dk_at dksX3_cross_0 0 rfl rfl)
theorem dX3_cross_1 : decode cX3_cross 1 = .ok (.getfield 62, 3) := dk_180 0 62 (dk_at dksX3_cross_0 1 rfl rfl)
theorem dX3_cross_4 : decode cX3_cross 4 = .ok (.aload_n 2, 1) := dk_44 (dk_at dksX3_cross_0 4 rfl rfl)
theorem dX3_cross_5 : decode cX3_cross 5 = .ok (.aload_n 0, 1) := dk_42 (dk_at dksX3_cross_0 5 rfl rfl)
theorem dX3_cross_6 : decode cX3_cross 6 = .ok (.getfield 9, 3) := dk_180 0 9 (dk_at dksX3_cross_0 6 rfl rfl)
theorem dX3_cross_9 : decode cX3_cross 9 = .ok (.iload_n 1, 1) := dk_27 (dk_at dksX3_cross_0 9 rfl rfl)
theorem dX3_cross_10 : decode cX3_cross 10 = .ok (.iaload, 1) := dk_46 (dk_at dksX3_cross_0 10 rfl rfl)
theorem dX3_cross_11 : decode cX3_cross 11 = .ok (.iload_n 3, 1) := dk_29 (dk_at dksX3_cross_0 11 rfl rfl)
theorem dX3_cross_12 : decode cX3_cross 12 = .ok (.iload 4, 2) := dk_21 4 (dk_at dksX3_cross_0 12 rfl rfl)
theorem dX3_cross_14 : decode cX3_cross 14 = .ok (.iload 5, 2) := dk_21 5 (dk_at dksX3_cross_0 14 rfl rfl)
theorem dX3_cross_16 : decode cX3_cross 16 = .ok (.invokevirtual 142, 3) := dk_182 0 142 (dk_at dksX3_cross_0 16 rfl rfl)
theorem dX3_cross_19 : decode cX3_cross 19 = .ok (.ifCond .eq 4, 3) := dk_153 0 4 (dk_at dksX3_cross_0 19 rfl rfl)
theorem dX3_cross_22 : decode cX3_cross 22 = .ok (.return_, 1) := dk_177 (dk_at dksX3_cross_0 22 rfl rfl)
theorem dX3_cross_23 : decode cX3_cross 23 = .ok (.aload_n 0, 1) := dk_42 (dk_at dksX3_cross_0 23 rfl rfl)
theorem dX3_cross_24 : decode cX3_cross 24 = .ok (.aload_n 0, 1) := dk_42 (dk_at dksX3_cross_1 0 rfl rfl)
theorem dX3_cross_25 : decode cX3_cross 25 = .ok (.getfield 62, 3) := dk_180 0 62 (dk_at dksX3_cross_1 1 rfl rfl)
theorem dX3_cross_28 : decode cX3_cross 28 = .ok (.getfield 146, 3) := dk_180 0 146 (dk_at dksX3_cross_1 4 rfl rfl)
theorem dX3_cross_31 : decode cX3_cross 31 = .ok (.invokevirtual 91, 3) := dk_182 0 91 (dk_at dksX3_cross_1 7 rfl rfl)
theorem dX3_cross_34 : decode cX3_cross 34 = .ok (.aload_n 0, 1) := dk_42 (dk_at dksX3_cross_1 10 rfl rfl)
theorem dX3_cross_35 : decode cX3_cross 35 = .ok (.getfield 18, 3) := dk_180 0 18 (dk_at dksX3_cross_1 11 rfl rfl)
theorem dX3_cross_38 : decode cX3_cross 38 = .ok (.iload_n 1, 1) := dk_27 (dk_at dksX3_cross_1 14 rfl rfl)
theorem dX3_cross_39 : decode cX3_cross 39 = .ok (.iaload, 1) := dk_46 (dk_at dksX3_cross_1 15 rfl rfl)
theorem dX3_cross_40 : decode cX3_cross 40 = .ok (.iconst 1, 1) := dk_4 (dk_at dksX3_cross_1 16 rfl rfl)
theorem dX3_cross_41 : decode cX3_cross 41 = .ok (.iadd, 1) := dk_96 (dk_at dksX3_cross_1 17 rfl rfl)
theorem dX3_cross_42 : decode cX3_cross 42 = .ok (.invokevirtual 95, 3) := dk_182 0 95 (dk_at dksX3_cross_1 18 rfl rfl)
theorem dX3_cross_45 : decode cX3_cross 45 = .ok (.istore 6, 2) := dk_54 6 (dk_at dksX3_cross_1 21 rfl rfl)
theorem dX3_cross_47 : decode cX3_cross 47 = .ok (.iload 6, 2) := dk_21 6 (dk_at dksX3_cross_2 0 rfl rfl)
theorem dX3_cross_49 : decode cX3_cross 49 = .ok (.iconst (-1), 1) := dk_2 (dk_at dksX3_cross_2 2 rfl rfl)
theorem dX3_cross_50 : decode cX3_cross 50 = .ok (.if_icmp .ne 4, 3) := dk_160 0 4 (dk_at dksX3_cross_2 3 rfl rfl)
theorem dX3_cross_53 : decode cX3_cross 53 = .ok (.return_, 1) := dk_177 (dk_at dksX3_cross_2 6 rfl rfl)
theorem dX3_cross_54 : decode cX3_cross 54 = .ok (.aload_n 0, 1) := dk_42 (dk_at dksX3_cross_2 7 rfl rfl)
theorem dX3_cross_55 : decode cX3_cross 55 = .ok (.getfield 70, 3) := dk_180 0 70 (dk_at dksX3_cross_2 8 rfl rfl)
theorem dX3_cross_58 : decode cX3_cross 58 = .ok (.ldc 24, 2) := dk_18 24 (dk_at dksX3_cross_2 11 rfl rfl)
theorem dX3_cross_60 : decode cX3_cross 60 = .ok (.if_icmp .ne 9, 3) := dk_160 0 9 (dk_at dksX3_cross_2 13 rfl rfl)
theorem dX3_cross_63 : decode cX3_cross 63 = .ok (.aload_n 0, 1) := dk_42 (dk_at dksX3_cross_2 16 rfl rfl)
theorem dX3_cross_64 : decode cX3_cross 64 = .ok (.iconst 1, 1) := dk_4 (dk_at dksX3_cross_2 17 rfl rfl)
theorem dX3_cross_65 : decode cX3_cross 65 = .ok (.putfield 73, 3) := dk_181 0 73 (dk_at dksX3_cross_2 18 rfl rfl)
theorem dX3_cross_68 : decode cX3_cross 68 = .ok (.return_, 1) := dk_177 (dk_at dksX3_cross_2 21 rfl rfl)
theorem dX3_cross_69 : decode cX3_cross 69 = .ok (.aload_n 0, 1) := dk_42 (dk_at dksX3_cross_2 22 rfl rfl)
theorem dX3_cross_70 : decode cX3_cross 70 = .ok (.getfield 25, 3) := dk_180 0 25 (dk_at dksX3_cross_3 0 rfl rfl)
theorem dX3_cross_73 : decode cX3_cross 73 = .ok (.aload_n 0, 1) := dk_42 (dk_at dksX3_cross_3 3 rfl rfl)
theorem dX3_cross_74 : decode cX3_cross 74 = .ok (.getfield 70, 3) := dk_180 0 70 (dk_at dksX3_cross_3 4 rfl rfl)
theorem dX3_cross_77 : decode cX3_cross 77 = .ok (.iload 6, 2) := dk_21 6 (dk_at dksX3_cross_3 7 rfl rfl)
theorem dX3_cross_79 : decode cX3_cross 79 = .ok (.iastore, 1) := dk_79 (dk_at dksX3_cross_3 9 rfl rfl)
theorem dX3_cross_80 : decode cX3_cross 80 = .ok (.aload_n 0, 1) := dk_42 (dk_at dksX3_cross_3 10 rfl rfl)
theorem dX3_cross_81 : decode cX3_cross 81 = .ok (.getfield 28, 3) := dk_180 0 28 (dk_at dksX3_cross_3 11 rfl rfl)
theorem dX3_cross_84 : decode cX3_cross 84 = .ok (.aload_n 0, 1) := dk_42 (dk_at dksX3_cross_3 14 rfl rfl)
theorem dX3_cross_85 : decode cX3_cross 85 = .ok (.getfield 70, 3) := dk_180 0 70 (dk_at dksX3_cross_3 15 rfl rfl)
theorem dX3_cross_88 : decode cX3_cross 88 = .ok (.iload_n 3, 1) := dk_29 (dk_at dksX3_cross_3 18 rfl rfl)
theorem dX3_cross_89 : decode cX3_cross 89 = .ok (.iconst 4, 1) := dk_7 (dk_at dksX3_cross_3 19 rfl rfl)
theorem dX3_cross_90 : decode cX3_cross 90 = .ok (.imul, 1) := dk_104 (dk_at dksX3_cross_3 20 rfl rfl)
theorem dX3_cross_91 : decode cX3_cross 91 = .ok (.iload 4, 2) := dk_21 4 (dk_at dksX3_cross_3 21 rfl rfl)
theorem dX3_cross_93 : decode cX3_cross 93 = .ok (.iadd, 1) := dk_96 (dk_at dksX3_cross_3 23 rfl rfl)
theorem dX3_cross_94 : decode cX3_cross 94 = .ok (.sipush 256, 3) := dk_17 1 0 (dk_at dksX3_cross_4 0 rfl rfl)
theorem dX3_cross_97 : decode cX3_cross 97 = .ok (.imul, 1) := dk_104 (dk_at dksX3_cross_4 3 rfl rfl)
theorem dX3_cross_98 : decode cX3_cross 98 = .ok (.iload 5, 2) := dk_21 5 (dk_at dksX3_cross_4 4 rfl rfl)
theorem dX3_cross_100 : decode cX3_cross 100 = .ok (.iadd, 1) := dk_96 (dk_at dksX3_cross_4 6 rfl rfl)
theorem dX3_cross_101 : decode cX3_cross 101 = .ok (.iastore, 1) := dk_79 (dk_at dksX3_cross_4 7 rfl rfl)
theorem dX3_cross_102 : decode cX3_cross 102 = .ok (.aload_n 0, 1) := dk_42 (dk_at dksX3_cross_4 8 rfl rfl)
theorem dX3_cross_103 : decode cX3_cross 103 = .ok (.getfield 31, 3) := dk_180 0 31 (dk_at dksX3_cross_4 9 rfl rfl)
theorem dX3_cross_106 : decode cX3_cross 106 = .ok (.aload_n 0, 1) := dk_42 (dk_at dksX3_cross_4 12 rfl rfl)
theorem dX3_cross_107 : decode cX3_cross 107 = .ok (.getfield 70, 3) := dk_180 0 70 (dk_at dksX3_cross_4 13 rfl rfl)
theorem dX3_cross_110 : decode cX3_cross 110 = .ok (.aload_n 0, 1) := dk_42 (dk_at dksX3_cross_4 16 rfl rfl)
theorem dX3_cross_111 : decode cX3_cross 111 = .ok (.getfield 53, 3) := dk_180 0 53 (dk_at dksX3_cross_4 17 rfl rfl)
theorem dX3_cross_114 : decode cX3_cross 114 = .ok (.iload 5, 2) := dk_21 5 (dk_at dksX3_cross_4 20 rfl rfl)
theorem dX3_cross_116 : decode cX3_cross 116 = .ok (.invokevirtual 150, 3) := dk_182 0 150 (dk_at dksX3_cross_5 0 rfl rfl)
theorem dX3_cross_119 : decode cX3_cross 119 = .ok (.iastore, 1) := dk_79 (dk_at dksX3_cross_5 3 rfl rfl)
theorem dX3_cross_120 : decode cX3_cross 120 = .ok (.aload_n 0, 1) := dk_42 (dk_at dksX3_cross_5 4 rfl rfl)
theorem dX3_cross_121 : decode cX3_cross 121 = .ok (.dup, 1) := dk_89 (dk_at dksX3_cross_5 5 rfl rfl)
theorem dX3_cross_122 : decode cX3_cross 122 = .ok (.getfield 70, 3) := dk_180 0 70 (dk_at dksX3_cross_5 6 rfl rfl)
theorem dX3_cross_125 : decode cX3_cross 125 = .ok (.iconst 1, 1) := dk_4 (dk_at dksX3_cross_5 9 rfl rfl)
theorem dX3_cross_126 : decode cX3_cross 126 = .ok (.iadd, 1) := dk_96 (dk_at dksX3_cross_5 10 rfl rfl)
theorem dX3_cross_127 : decode cX3_cross 127 = .ok (.putfield 70, 3) := dk_181 0 70 (dk_at dksX3_cross_5 11 rfl rfl)
theorem dX3_cross_130 : decode cX3_cross 130 = .ok (.return_, 1) := dk_177 (dk_at dksX3_cross_5 14 rfl rfl)
abbrev cX3_turn : ByteArray := prog_8_method_3_code
def yX3_turn : MethodName := ⟨RX3, "turn", "()V"⟩
def dkwX3_turn_4 : List UInt8 := [132, 1, 1, 167, 255, 216, 177]
abbrev dktX3_turn_4 : List UInt8 := dkwX3_turn_4 ++ []
def dkwX3_turn_3 : List UInt8 := [42, 180, 0, 43, 42, 180, 0, 25, 27, 46, 46, 79, 42, 180, 0, 43, 42, 180, 0, 25, 27, 46, 27, 79]
abbrev dktX3_turn_3 : List UInt8 := dkwX3_turn_3 ++ dktX3_turn_4
def dkwX3_turn_2 : List UInt8 := [167, 255, 234, 132, 1, 1, 167, 255, 206, 3, 60, 27, 42, 180, 0, 70, 162, 0, 38, 42, 180, 0, 46, 27]
abbrev dktX3_turn_2 : List UInt8 := dkwX3_turn_2 ++ dktX3_turn_3
def dkwX3_turn_1 : List UInt8 := [28, 42, 180, 0, 21, 27, 4, 96, 46, 162, 0, 16, 42, 180, 0, 40, 28, 27, 79, 132, 2, 1]
abbrev dktX3_turn_1 : List UInt8 := dkwX3_turn_1 ++ dktX3_turn_2
def dkwX3_turn_0 : List UInt8 := [3, 60, 27, 42, 180, 0, 66, 162, 0, 48, 42, 180, 0, 43, 27, 2, 79, 42, 180, 0, 21, 27, 46, 61]
abbrev dktX3_turn_0 : List UInt8 := dkwX3_turn_0 ++ dktX3_turn_1
theorem dksX3_turn_0 : cX3_turn.data.toList.drop 0 = dktX3_turn_0 := by decide +kernel
theorem dksX3_turn_1 : cX3_turn.data.toList.drop 24 = dktX3_turn_1 := dk_seg dksX3_turn_0 24 rfl rfl
theorem dksX3_turn_2 : cX3_turn.data.toList.drop 46 = dktX3_turn_2 := dk_seg dksX3_turn_1 22 rfl rfl
theorem dksX3_turn_3 : cX3_turn.data.toList.drop 70 = dktX3_turn_3 := dk_seg dksX3_turn_2 24 rfl rfl
theorem dksX3_turn_4 : cX3_turn.data.toList.drop 94 = dktX3_turn_4 := dk_seg dksX3_turn_3 24 rfl rfl
theorem dX3_turn_0 : decode cX3_turn 0 = .ok (.iconst 0, 1) := dk_3 (dk_at dksX3_turn_0 0 rfl rfl)
theorem dX3_turn_1 : decode cX3_turn 1 = .ok (.istore_n 1, 1) := dk_60 (dk_at dksX3_turn_0 1 rfl rfl)
theorem dX3_turn_2 : decode cX3_turn 2 = .ok (.iload_n 1, 1) := dk_27 (dk_at dksX3_turn_0 2 rfl rfl)
theorem dX3_turn_3 : decode cX3_turn 3 = .ok (.aload_n 0, 1) := dk_42 (dk_at dksX3_turn_0 3 rfl rfl)
theorem dX3_turn_4 : decode cX3_turn 4 = .ok (.getfield 66, 3) := dk_180 0 66 (dk_at dksX3_turn_0 4 rfl rfl)
theorem dX3_turn_7 : decode cX3_turn 7 = .ok (.if_icmp .ge 48, 3) := dk_162 0 48 (dk_at dksX3_turn_0 7 rfl rfl)
theorem dX3_turn_10 : decode cX3_turn 10 = .ok (.aload_n 0, 1) := dk_42 (dk_at dksX3_turn_0 10 rfl rfl)
theorem dX3_turn_11 : decode cX3_turn 11 = .ok (.getfield 43, 3) := dk_180 0 43 (dk_at dksX3_turn_0 11 rfl rfl)
theorem dX3_turn_14 : decode cX3_turn 14 = .ok (.iload_n 1, 1) := dk_27 (dk_at dksX3_turn_0 14 rfl rfl)
theorem dX3_turn_15 : decode cX3_turn 15 = .ok (.iconst (-1), 1) := dk_2 (dk_at dksX3_turn_0 15 rfl rfl)
theorem dX3_turn_16 : decode cX3_turn 16 = .ok (.iastore, 1) := dk_79 (dk_at dksX3_turn_0 16 rfl rfl)
theorem dX3_turn_17 : decode cX3_turn 17 = .ok (.aload_n 0, 1) := dk_42 (dk_at dksX3_turn_0 17 rfl rfl)
theorem dX3_turn_18 : decode cX3_turn 18 = .ok (.getfield 21, 3) := dk_180 0 21 (dk_at dksX3_turn_0 18 rfl rfl)
theorem dX3_turn_21 : decode cX3_turn 21 = .ok (.iload_n 1, 1) := dk_27 (dk_at dksX3_turn_0 21 rfl rfl)
theorem dX3_turn_22 : decode cX3_turn 22 = .ok (.iaload, 1) := dk_46 (dk_at dksX3_turn_0 22 rfl rfl)
theorem dX3_turn_23 : decode cX3_turn 23 = .ok (.istore_n 2, 1) := dk_61 (dk_at dksX3_turn_0 23 rfl rfl)
theorem dX3_turn_24 : decode cX3_turn 24 = .ok (.iload_n 2, 1) := dk_28 (dk_at dksX3_turn_1 0 rfl rfl)
theorem dX3_turn_25 : decode cX3_turn 25 = .ok (.aload_n 0, 1) := dk_42 (dk_at dksX3_turn_1 1 rfl rfl)
theorem dX3_turn_26 : decode cX3_turn 26 = .ok (.getfield 21, 3) := dk_180 0 21 (dk_at dksX3_turn_1 2 rfl rfl)
theorem dX3_turn_29 : decode cX3_turn 29 = .ok (.iload_n 1, 1) := dk_27 (dk_at dksX3_turn_1 5 rfl rfl)
theorem dX3_turn_30 : decode cX3_turn 30 = .ok (.iconst 1, 1) := dk_4 (dk_at dksX3_turn_1 6 rfl rfl)
theorem dX3_turn_31 : decode cX3_turn 31 = .ok (.iadd, 1) := dk_96 (dk_at dksX3_turn_1 7 rfl rfl)
theorem dX3_turn_32 : decode cX3_turn 32 = .ok (.iaload, 1) := dk_46 (dk_at dksX3_turn_1 8 rfl rfl)
theorem dX3_turn_33 : decode cX3_turn 33 = .ok (.if_icmp .ge 16, 3) := dk_162 0 16 (dk_at dksX3_turn_1 9 rfl rfl)
theorem dX3_turn_36 : decode cX3_turn 36 = .ok (.aload_n 0, 1) := dk_42 (dk_at dksX3_turn_1 12 rfl rfl)
theorem dX3_turn_37 : decode cX3_turn 37 = .ok (.getfield 40, 3) := dk_180 0 40 (dk_at dksX3_turn_1 13 rfl rfl)
theorem dX3_turn_40 : decode cX3_turn 40 = .ok (.iload_n 2, 1) := dk_28 (dk_at dksX3_turn_1 16 rfl rfl)
theorem dX3_turn_41 : decode cX3_turn 41 = .ok (.iload_n 1, 1) := dk_27 (dk_at dksX3_turn_1 17 rfl rfl)
theorem dX3_turn_42 : decode cX3_turn 42 = .ok (.iastore, 1) := dk_79 (dk_at dksX3_turn_1 18 rfl rfl)
theorem dX3_turn_43 : decode cX3_turn 43 = .ok (.iinc 2 1, 3) := dk_132 2 1 (dk_at dksX3_turn_1 19 rfl rfl)
theorem dX3_turn_46 : decode cX3_turn 46 = .ok (.goto (-22), 3) := dk_167 255 234 (dk_at dksX3_turn_2 0 rfl rfl)
theorem dX3_turn_49 : decode cX3_turn 49 = .ok (.iinc 1 1, 3) := dk_132 1 1 (dk_at dksX3_turn_2 3 rfl rfl)
theorem dX3_turn_52 : decode cX3_turn 52 = .ok (.goto (-50), 3) := dk_167 255 206 (dk_at dksX3_turn_2 6 rfl rfl)
theorem dX3_turn_55 : decode cX3_turn 55 = .ok (.iconst 0, 1) := dk_3 (dk_at dksX3_turn_2 9 rfl rfl)
theorem dX3_turn_56 : decode cX3_turn 56 = .ok (.istore_n 1, 1) := dk_60 (dk_at dksX3_turn_2 10 rfl rfl)
theorem dX3_turn_57 : decode cX3_turn 57 = .ok (.iload_n 1, 1) := dk_27 (dk_at dksX3_turn_2 11 rfl rfl)
theorem dX3_turn_58 : decode cX3_turn 58 = .ok (.aload_n 0, 1) := dk_42 (dk_at dksX3_turn_2 12 rfl rfl)
theorem dX3_turn_59 : decode cX3_turn 59 = .ok (.getfield 70, 3) := dk_180 0 70 (dk_at dksX3_turn_2 13 rfl rfl)
theorem dX3_turn_62 : decode cX3_turn 62 = .ok (.if_icmp .ge 38, 3) := dk_162 0 38 (dk_at dksX3_turn_2 16 rfl rfl)
theorem dX3_turn_65 : decode cX3_turn 65 = .ok (.aload_n 0, 1) := dk_42 (dk_at dksX3_turn_2 19 rfl rfl)
theorem dX3_turn_66 : decode cX3_turn 66 = .ok (.getfield 46, 3) := dk_180 0 46 (dk_at dksX3_turn_2 20 rfl rfl)
theorem dX3_turn_69 : decode cX3_turn 69 = .ok (.iload_n 1, 1) := dk_27 (dk_at dksX3_turn_2 23 rfl rfl)
theorem dX3_turn_70 : decode cX3_turn 70 = .ok (.aload_n 0, 1) := dk_42 (dk_at dksX3_turn_3 0 rfl rfl)
theorem dX3_turn_71 : decode cX3_turn 71 = .ok (.getfield 43, 3) := dk_180 0 43 (dk_at dksX3_turn_3 1 rfl rfl)
theorem dX3_turn_74 : decode cX3_turn 74 = .ok (.aload_n 0, 1) := dk_42 (dk_at dksX3_turn_3 4 rfl rfl)
theorem dX3_turn_75 : decode cX3_turn 75 = .ok (.getfield 25, 3) := dk_180 0 25 (dk_at dksX3_turn_3 5 rfl rfl)
theorem dX3_turn_78 : decode cX3_turn 78 = .ok (.iload_n 1, 1) := dk_27 (dk_at dksX3_turn_3 8 rfl rfl)
theorem dX3_turn_79 : decode cX3_turn 79 = .ok (.iaload, 1) := dk_46 (dk_at dksX3_turn_3 9 rfl rfl)
theorem dX3_turn_80 : decode cX3_turn 80 = .ok (.iaload, 1) := dk_46 (dk_at dksX3_turn_3 10 rfl rfl)
theorem dX3_turn_81 : decode cX3_turn 81 = .ok (.iastore, 1) := dk_79 (dk_at dksX3_turn_3 11 rfl rfl)
theorem dX3_turn_82 : decode cX3_turn 82 = .ok (.aload_n 0, 1) := dk_42 (dk_at dksX3_turn_3 12 rfl rfl)
theorem dX3_turn_83 : decode cX3_turn 83 = .ok (.getfield 43, 3) := dk_180 0 43 (dk_at dksX3_turn_3 13 rfl rfl)
theorem dX3_turn_86 : decode cX3_turn 86 = .ok (.aload_n 0, 1) := dk_42 (dk_at dksX3_turn_3 16 rfl rfl)
theorem dX3_turn_87 : decode cX3_turn 87 = .ok (.getfield 25, 3) := dk_180 0 25 (dk_at dksX3_turn_3 17 rfl rfl)
theorem dX3_turn_90 : decode cX3_turn 90 = .ok (.iload_n 1, 1) := dk_27 (dk_at dksX3_turn_3 20 rfl rfl)
theorem dX3_turn_91 : decode cX3_turn 91 = .ok (.iaload, 1) := dk_46 (dk_at dksX3_turn_3 21 rfl rfl)
theorem dX3_turn_92 : decode cX3_turn 92 = .ok (.iload_n 1, 1) := dk_27 (dk_at dksX3_turn_3 22 rfl rfl)
theorem dX3_turn_93 : decode cX3_turn 93 = .ok (.iastore, 1) := dk_79 (dk_at dksX3_turn_3 23 rfl rfl)
theorem dX3_turn_94 : decode cX3_turn 94 = .ok (.iinc 1 1, 3) := dk_132 1 1 (dk_at dksX3_turn_4 0 rfl rfl)
theorem dX3_turn_97 : decode cX3_turn 97 = .ok (.goto (-40), 3) := dk_167 255 216 (dk_at dksX3_turn_4 3 rfl rfl)
theorem dX3_turn_100 : decode cX3_turn 100 = .ok (.return_, 1) := dk_177 (dk_at dksX3_turn_4 6 rfl rfl)
abbrev cX3_left : ByteArray := prog_8_method_11_code
def yX3_left : MethodName := ⟨RX3, "left", "()[I"⟩
def dkwX3_left_1 : List UInt8 := [180, 0, 34, 176]
abbrev dktX3_left_1 : List UInt8 := dkwX3_left_1 ++ []
def dkwX3_left_0 : List UInt8 := [42, 180, 0, 77, 154, 0, 12, 42, 3, 42, 180, 0, 34, 182, 0, 161, 42, 4, 181, 0, 77, 42]
abbrev dktX3_left_0 : List UInt8 := dkwX3_left_0 ++ dktX3_left_1
theorem dksX3_left_0 : cX3_left.data.toList.drop 0 = dktX3_left_0 := by decide +kernel
theorem dksX3_left_1 : cX3_left.data.toList.drop 22 = dktX3_left_1 := dk_seg dksX3_left_0 22 rfl rfl
theorem dX3_left_0 : decode cX3_left 0 = .ok (.aload_n 0, 1) := dk_42 (dk_at dksX3_left_0 0 rfl rfl)
theorem dX3_left_1 : decode cX3_left 1 = .ok (.getfield 77, 3) := dk_180 0 77 (dk_at dksX3_left_0 1 rfl rfl)
theorem dX3_left_4 : decode cX3_left 4 = .ok (.ifCond .ne 12, 3) := dk_154 0 12 (dk_at dksX3_left_0 4 rfl rfl)
theorem dX3_left_7 : decode cX3_left 7 = .ok (.aload_n 0, 1) := dk_42 (dk_at dksX3_left_0 7 rfl rfl)
theorem dX3_left_8 : decode cX3_left 8 = .ok (.iconst 0, 1) := dk_3 (dk_at dksX3_left_0 8 rfl rfl)
theorem dX3_left_9 : decode cX3_left 9 = .ok (.aload_n 0, 1) := dk_42 (dk_at dksX3_left_0 9 rfl rfl)
theorem dX3_left_10 : decode cX3_left 10 = .ok (.getfield 34, 3) := dk_180 0 34 (dk_at dksX3_left_0 10 rfl rfl)
theorem dX3_left_13 : decode cX3_left 13 = .ok (.invokevirtual 161, 3) := dk_182 0 161 (dk_at dksX3_left_0 13 rfl rfl)
theorem dX3_left_16 : decode cX3_left 16 = .ok (.aload_n 0, 1) := dk_42 (dk_at dksX3_left_0 16 rfl rfl)
theorem dX3_left_17 : decode cX3_left 17 = .ok (.iconst 1, 1) := dk_4 (dk_at dksX3_left_0 17 rfl rfl)
theorem dX3_left_18 : decode cX3_left 18 = .ok (.putfield 77, 3) := dk_181 0 77 (dk_at dksX3_left_0 18 rfl rfl)
theorem dX3_left_21 : decode cX3_left 21 = .ok (.aload_n 0, 1) := dk_42 (dk_at dksX3_left_0 21 rfl rfl)
theorem dX3_left_22 : decode cX3_left 22 = .ok (.getfield 34, 3) := dk_180 0 34 (dk_at dksX3_left_1 0 rfl rfl)
theorem dX3_left_25 : decode cX3_left 25 = .ok (.areturn, 1) := dk_176 (dk_at dksX3_left_1 3 rfl rfl)
abbrev cX3_back : ByteArray := prog_8_method_9_code
def yX3_back : MethodName := ⟨RX3, "back", "(Z[I)V"⟩
def dkwX3_back_10 : List UInt8 := [167, 255, 90, 177]
abbrev dktX3_back_10 : List UInt8 := dkwX3_back_10 ++ []
def dkwX3_back_9 : List UInt8 := [180, 0, 40, 21, 6, 46, 21, 7, 79, 42, 180, 0, 46, 21, 6, 46, 54, 6, 167, 255, 189, 132, 4, 1]
abbrev dktX3_back_9 : List UInt8 := dkwX3_back_9 ++ dktX3_back_10
def dkwX3_back_8 : List UInt8 := [46, 46, 2, 159, 0, 17, 21, 7, 44, 42, 180, 0, 40, 21, 6, 46, 46, 162, 0, 14, 44, 42]
abbrev dktX3_back_8 : List UInt8 := dkwX3_back_8 ++ dktX3_back_9
def dkwX3_back_7 : List UInt8 := [159, 0, 67, 44, 21, 5, 46, 42, 21, 6, 27, 182, 0, 157, 96, 54, 7, 44, 42, 180, 0, 40, 21, 6]
abbrev dktX3_back_7 : List UInt8 := dkwX3_back_7 ++ dktX3_back_8
def dkwX3_back_6 : List UInt8 := [160, 0, 4, 177, 42, 180, 0, 49, 21, 5, 4, 84, 42, 180, 0, 43, 21, 5, 46, 54, 6, 21, 6, 2]
abbrev dktX3_back_6 : List UInt8 := dkwX3_back_6 ++ dktX3_back_7
def dkwX3_back_5 : List UInt8 := [21, 6, 46, 44, 21, 5, 46, 162, 0, 7, 21, 6, 54, 5, 132, 6, 1, 167, 255, 205, 21, 5, 2]
abbrev dktX3_back_5 : List UInt8 := dkwX3_back_5 ++ dktX3_back_6
def dkwX3_back_4 : List UInt8 := [180, 0, 49, 21, 6, 51, 154, 0, 32, 44, 21, 6, 46, 2, 159, 0, 24, 21, 5, 2, 159, 0, 14, 44]
abbrev dktX3_back_4 : List UInt8 := dkwX3_back_4 ++ dktX3_back_5
def dkwX3_back_3 : List UInt8 := [42, 180, 0, 66, 162, 0, 163, 2, 54, 5, 3, 54, 6, 21, 6, 42, 180, 0, 66, 162, 0, 48, 42]
abbrev dktX3_back_3 : List UInt8 := dkwX3_back_3 ++ dktX3_back_4
def dkwX3_back_2 : List UInt8 := [167, 0, 4, 2, 79, 42, 180, 0, 49, 21, 4, 3, 84, 132, 4, 1, 167, 255, 209, 3, 54, 4, 21, 4]
abbrev dktX3_back_2 : List UInt8 := dkwX3_back_2 ++ dktX3_back_3
def dkwX3_back_1 : List UInt8 := [45, 42, 180, 0, 9, 21, 4, 46, 182, 0, 99, 44, 21, 4, 45, 182, 0, 153, 153, 0, 7, 3]
abbrev dktX3_back_1 : List UInt8 := dkwX3_back_1 ++ dktX3_back_2
def dkwX3_back_0 : List UInt8 := [187, 0, 83, 89, 42, 180, 0, 53, 183, 0, 85, 78, 3, 54, 4, 21, 4, 42, 180, 0, 66, 162, 0, 44]
abbrev dktX3_back_0 : List UInt8 := dkwX3_back_0 ++ dktX3_back_1
theorem dksX3_back_0 : cX3_back.data.toList.drop 0 = dktX3_back_0 := by decide +kernel
theorem dksX3_back_1 : cX3_back.data.toList.drop 24 = dktX3_back_1 := dk_seg dksX3_back_0 24 rfl rfl
theorem dksX3_back_2 : cX3_back.data.toList.drop 46 = dktX3_back_2 := dk_seg dksX3_back_1 22 rfl rfl
theorem dksX3_back_3 : cX3_back.data.toList.drop 70 = dktX3_back_3 := dk_seg dksX3_back_2 24 rfl rfl
theorem dksX3_back_4 : cX3_back.data.toList.drop 93 = dktX3_back_4 := dk_seg dksX3_back_3 23 rfl rfl
theorem dksX3_back_5 : cX3_back.data.toList.drop 117 = dktX3_back_5 := dk_seg dksX3_back_4 24 rfl rfl
theorem dksX3_back_6 : cX3_back.data.toList.drop 140 = dktX3_back_6 := dk_seg dksX3_back_5 23 rfl rfl
theorem dksX3_back_7 : cX3_back.data.toList.drop 164 = dktX3_back_7 := dk_seg dksX3_back_6 24 rfl rfl
theorem dksX3_back_8 : cX3_back.data.toList.drop 188 = dktX3_back_8 := dk_seg dksX3_back_7 24 rfl rfl
theorem dksX3_back_9 : cX3_back.data.toList.drop 210 = dktX3_back_9 := dk_seg dksX3_back_8 22 rfl rfl
theorem dksX3_back_10 : cX3_back.data.toList.drop 234 = dktX3_back_10 := dk_seg dksX3_back_9 24 rfl rfl
theorem dX3_back_0 : decode cX3_back 0 = .ok (.new 83, 3) := dk_187 0 83 (dk_at dksX3_back_0 0 rfl rfl)
theorem dX3_back_3 : decode cX3_back 3 = .ok (.dup, 1) := dk_89 (dk_at dksX3_back_0 3 rfl rfl)
theorem dX3_back_4 : decode cX3_back 4 = .ok (.aload_n 0, 1) := dk_42 (dk_at dksX3_back_0 4 rfl rfl)
theorem dX3_back_5 : decode cX3_back 5 = .ok (.getfield 53, 3) := dk_180 0 53 (dk_at dksX3_back_0 5 rfl rfl)
theorem dX3_back_8 : decode cX3_back 8 = .ok (.invokespecial 85, 3) := dk_183 0 85 (dk_at dksX3_back_0 8 rfl rfl)
theorem dX3_back_11 : decode cX3_back 11 = .ok (.astore_n 3, 1) := dk_78 (dk_at dksX3_back_0 11 rfl rfl)
theorem dX3_back_12 : decode cX3_back 12 = .ok (.iconst 0, 1) := dk_3 (dk_at dksX3_back_0 12 rfl rfl)
theorem dX3_back_13 : decode cX3_back 13 = .ok (.istore 4, 2) := dk_54 4 (dk_at dksX3_back_0 13 rfl rfl)
theorem dX3_back_15 : decode cX3_back 15 = .ok (.iload 4, 2) := dk_21 4 (dk_at dksX3_back_0 15 rfl rfl)
theorem dX3_back_17 : decode cX3_back 17 = .ok (.aload_n 0, 1) := dk_42 (dk_at dksX3_back_0 17 rfl rfl)
theorem dX3_back_18 : decode cX3_back 18 = .ok (.getfield 66, 3) := dk_180 0 66 (dk_at dksX3_back_0 18 rfl rfl)
theorem dX3_back_21 : decode cX3_back 21 = .ok (.if_icmp .ge 44, 3) := dk_162 0 44 (dk_at dksX3_back_0 21 rfl rfl)
theorem dX3_back_24 : decode cX3_back 24 = .ok (.aload_n 3, 1) := dk_45 (dk_at dksX3_back_1 0 rfl rfl)
theorem dX3_back_25 : decode cX3_back 25 = .ok (.aload_n 0, 1) := dk_42 (dk_at dksX3_back_1 1 rfl rfl)
theorem dX3_back_26 : decode cX3_back 26 = .ok (.getfield 9, 3) := dk_180 0 9 (dk_at dksX3_back_1 2 rfl rfl)
theorem dX3_back_29 : decode cX3_back 29 = .ok (.iload 4, 2) := dk_21 4 (dk_at dksX3_back_1 5 rfl rfl)
theorem dX3_back_31 : decode cX3_back 31 = .ok (.iaload, 1) := dk_46 (dk_at dksX3_back_1 7 rfl rfl)
theorem dX3_back_32 : decode cX3_back 32 = .ok (.invokevirtual 99, 3) := dk_182 0 99 (dk_at dksX3_back_1 8 rfl rfl)
theorem dX3_back_35 : decode cX3_back 35 = .ok (.aload_n 2, 1) := dk_44 (dk_at dksX3_back_1 11 rfl rfl)
theorem dX3_back_36 : decode cX3_back 36 = .ok (.iload 4, 2) := dk_21 4 (dk_at dksX3_back_1 12 rfl rfl)
theorem dX3_back_38 : decode cX3_back 38 = .ok (.aload_n 3, 1) := dk_45 (dk_at dksX3_back_1 14 rfl rfl)
theorem dX3_back_39 : decode cX3_back 39 = .ok (.invokevirtual 153, 3) := dk_182 0 153 (dk_at dksX3_back_1 15 rfl rfl)
theorem dX3_back_42 : decode cX3_back 42 = .ok (.ifCond .eq 7, 3) := dk_153 0 7 (dk_at dksX3_back_1 18 rfl rfl)
theorem dX3_back_45 : decode cX3_back 45 = .ok (.iconst 0, 1) := dk_3 (dk_at dksX3_back_1 21 rfl rfl)
theorem dX3_back_46 : decode cX3_back 46 = .ok (.goto 4, 3) := dk_167 0 4 (dk_at dksX3_back_2 0 rfl rfl)
theorem dX3_back_49 : decode cX3_back 49 = .ok (.iconst (-1), 1) := dk_2 (dk_at dksX3_back_2 3 rfl rfl)
theorem dX3_back_50 : decode cX3_back 50 = .ok (.iastore, 1) := dk_79 (dk_at dksX3_back_2 4 rfl rfl)
theorem dX3_back_51 : decode cX3_back 51 = .ok (.aload_n 0, 1) := dk_42 (dk_at dksX3_back_2 5 rfl rfl)
theorem dX3_back_52 : decode cX3_back 52 = .ok (.getfield 49, 3) := dk_180 0 49 (dk_at dksX3_back_2 6 rfl rfl)
theorem dX3_back_55 : decode cX3_back 55 = .ok (.iload 4, 2) := dk_21 4 (dk_at dksX3_back_2 9 rfl rfl)
theorem dX3_back_57 : decode cX3_back 57 = .ok (.iconst 0, 1) := dk_3 (dk_at dksX3_back_2 11 rfl rfl)
theorem dX3_back_58 : decode cX3_back 58 = .ok (.bastore, 1) := dk_84 (dk_at dksX3_back_2 12 rfl rfl)
theorem dX3_back_59 : decode cX3_back 59 = .ok (.iinc 4 1, 3) := dk_132 4 1 (dk_at dksX3_back_2 13 rfl rfl)
theorem dX3_back_62 : decode cX3_back 62 = .ok (.goto (-47), 3) := dk_167 255 209 (dk_at dksX3_back_2 16 rfl rfl)
theorem dX3_back_65 : decode cX3_back 65 = .ok (.iconst 0, 1) := dk_3 (dk_at dksX3_back_2 19 rfl rfl)
theorem dX3_back_66 : decode cX3_back 66 = .ok (.istore 4, 2) := dk_54 4 (dk_at dksX3_back_2 20 rfl rfl)
theorem dX3_back_68 : decode cX3_back 68 = .ok (.iload 4, 2) := dk_21 4 (dk_at dksX3_back_2 22 rfl rfl)
theorem dX3_back_70 : decode cX3_back 70 = .ok (.aload_n 0, 1) := dk_42 (dk_at dksX3_back_3 0 rfl rfl)
theorem dX3_back_71 : decode cX3_back 71 = .ok (.getfield 66, 3) := dk_180 0 66 (dk_at dksX3_back_3 1 rfl rfl)
theorem dX3_back_74 : decode cX3_back 74 = .ok (.if_icmp .ge 163, 3) := dk_162 0 163 (dk_at dksX3_back_3 4 rfl rfl)
theorem dX3_back_77 : decode cX3_back 77 = .ok (.iconst (-1), 1) := dk_2 (dk_at dksX3_back_3 7 rfl rfl)
theorem dX3_back_78 : decode cX3_back 78 = .ok (.istore 5, 2) := dk_54 5 (dk_at dksX3_back_3 8 rfl rfl)
theorem dX3_back_80 : decode cX3_back 80 = .ok (.iconst 0, 1) := dk_3 (dk_at dksX3_back_3 10 rfl rfl)
theorem dX3_back_81 : decode cX3_back 81 = .ok (.istore 6, 2) := dk_54 6 (dk_at dksX3_back_3 11 rfl rfl)
theorem dX3_back_83 : decode cX3_back 83 = .ok (.iload 6, 2) := dk_21 6 (dk_at dksX3_back_3 13 rfl rfl)
theorem dX3_back_85 : decode cX3_back 85 = .ok (.aload_n 0, 1) := dk_42 (dk_at dksX3_back_3 15 rfl rfl)
theorem dX3_back_86 : decode cX3_back 86 = .ok (.getfield 66, 3) := dk_180 0 66 (dk_at dksX3_back_3 16 rfl rfl)
theorem dX3_back_89 : decode cX3_back 89 = .ok (.if_icmp .ge 48, 3) := dk_162 0 48 (dk_at dksX3_back_3 19 rfl rfl)
theorem dX3_back_92 : decode cX3_back 92 = .ok (.aload_n 0, 1) := dk_42 (dk_at dksX3_back_3 22 rfl rfl)
theorem dX3_back_93 : decode cX3_back 93 = .ok (.getfield 49, 3) := dk_180 0 49 (dk_at dksX3_back_4 0 rfl rfl)
theorem dX3_back_96 : decode cX3_back 96 = .ok (.iload 6, 2) := dk_21 6 (dk_at dksX3_back_4 3 rfl rfl)
theorem dX3_back_98 : decode cX3_back 98 = .ok (.baload, 1) := dk_51 (dk_at dksX3_back_4 5 rfl rfl)
theorem dX3_back_99 : decode cX3_back 99 = .ok (.ifCond .ne 32, 3) := dk_154 0 32 (dk_at dksX3_back_4 6 rfl rfl)
theorem dX3_back_102 : decode cX3_back 102 = .ok (.aload_n 2, 1) := dk_44 (dk_at dksX3_back_4 9 rfl rfl)
theorem dX3_back_103 : decode cX3_back 103 = .ok (.iload 6, 2) := dk_21 6 (dk_at dksX3_back_4 10 rfl rfl)
theorem dX3_back_105 : decode cX3_back 105 = .ok (.iaload, 1) := dk_46 (dk_at dksX3_back_4 12 rfl rfl)
theorem dX3_back_106 : decode cX3_back 106 = .ok (.iconst (-1), 1) := dk_2 (dk_at dksX3_back_4 13 rfl rfl)
theorem dX3_back_107 : decode cX3_back 107 = .ok (.if_icmp .eq 24, 3) := dk_159 0 24 (dk_at dksX3_back_4 14 rfl rfl)
theorem dX3_back_110 : decode cX3_back 110 = .ok (.iload 5, 2) := dk_21 5 (dk_at dksX3_back_4 17 rfl rfl)
theorem dX3_back_112 : decode cX3_back 112 = .ok (.iconst (-1), 1) := dk_2 (dk_at dksX3_back_4 19 rfl rfl)
theorem dX3_back_113 : decode cX3_back 113 = .ok (.if_icmp .eq 14, 3) := dk_159 0 14 (dk_at dksX3_back_4 20 rfl rfl)
theorem dX3_back_116 : decode cX3_back 116 = .ok (.aload_n 2, 1) := dk_44 (dk_at dksX3_back_4 23 rfl rfl)
theorem dX3_back_117 : decode cX3_back 117 = .ok (.iload 6, 2) := dk_21 6 (dk_at dksX3_back_5 0 rfl rfl)
theorem dX3_back_119 : decode cX3_back 119 = .ok (.iaload, 1) := dk_46 (dk_at dksX3_back_5 2 rfl rfl)
theorem dX3_back_120 : decode cX3_back 120 = .ok (.aload_n 2, 1) := dk_44 (dk_at dksX3_back_5 3 rfl rfl)
theorem dX3_back_121 : decode cX3_back 121 = .ok (.iload 5, 2) := dk_21 5 (dk_at dksX3_back_5 4 rfl rfl)
theorem dX3_back_123 : decode cX3_back 123 = .ok (.iaload, 1) := dk_46 (dk_at dksX3_back_5 6 rfl rfl)
theorem dX3_back_124 : decode cX3_back 124 = .ok (.if_icmp .ge 7, 3) := dk_162 0 7 (dk_at dksX3_back_5 7 rfl rfl)
theorem dX3_back_127 : decode cX3_back 127 = .ok (.iload 6, 2) := dk_21 6 (dk_at dksX3_back_5 10 rfl rfl)
theorem dX3_back_129 : decode cX3_back 129 = .ok (.istore 5, 2) := dk_54 5 (dk_at dksX3_back_5 12 rfl rfl)
theorem dX3_back_131 : decode cX3_back 131 = .ok (.iinc 6 1, 3) := dk_132 6 1 (dk_at dksX3_back_5 14 rfl rfl)
theorem dX3_back_134 : decode cX3_back 134 = .ok (.goto (-51), 3) := dk_167 255 205 (dk_at dksX3_back_5 17 rfl rfl)
theorem dX3_back_137 : decode cX3_back 137 = .ok (.iload 5, 2) := dk_21 5 (dk_at dksX3_back_5 20 rfl rfl)
theorem dX3_back_139 : decode cX3_back 139 = .ok (.iconst (-1), 1) := dk_2 (dk_at dksX3_back_5 22 rfl rfl)
theorem dX3_back_140 : decode cX3_back 140 = .ok (.if_icmp .ne 4, 3) := dk_160 0 4 (dk_at dksX3_back_6 0 rfl rfl)
theorem dX3_back_143 : decode cX3_back 143 = .ok (.return_, 1) := dk_177 (dk_at dksX3_back_6 3 rfl rfl)
theorem dX3_back_144 : decode cX3_back 144 = .ok (.aload_n 0, 1) := dk_42 (dk_at dksX3_back_6 4 rfl rfl)
theorem dX3_back_145 : decode cX3_back 145 = .ok (.getfield 49, 3) := dk_180 0 49 (dk_at dksX3_back_6 5 rfl rfl)
theorem dX3_back_148 : decode cX3_back 148 = .ok (.iload 5, 2) := dk_21 5 (dk_at dksX3_back_6 8 rfl rfl)
theorem dX3_back_150 : decode cX3_back 150 = .ok (.iconst 1, 1) := dk_4 (dk_at dksX3_back_6 10 rfl rfl)
theorem dX3_back_151 : decode cX3_back 151 = .ok (.bastore, 1) := dk_84 (dk_at dksX3_back_6 11 rfl rfl)
theorem dX3_back_152 : decode cX3_back 152 = .ok (.aload_n 0, 1) := dk_42 (dk_at dksX3_back_6 12 rfl rfl)
theorem dX3_back_153 : decode cX3_back 153 = .ok (.getfield 43, 3) := dk_180 0 43 (dk_at dksX3_back_6 13 rfl rfl)
theorem dX3_back_156 : decode cX3_back 156 = .ok (.iload 5, 2) := dk_21 5 (dk_at dksX3_back_6 16 rfl rfl)
theorem dX3_back_158 : decode cX3_back 158 = .ok (.iaload, 1) := dk_46 (dk_at dksX3_back_6 18 rfl rfl)
theorem dX3_back_159 : decode cX3_back 159 = .ok (.istore 6, 2) := dk_54 6 (dk_at dksX3_back_6 19 rfl rfl)
theorem dX3_back_161 : decode cX3_back 161 = .ok (.iload 6, 2) := dk_21 6 (dk_at dksX3_back_6 21 rfl rfl)
theorem dX3_back_163 : decode cX3_back 163 = .ok (.iconst (-1), 1) := dk_2 (dk_at dksX3_back_6 23 rfl rfl)
theorem dX3_back_164 : decode cX3_back 164 = .ok (.if_icmp .eq 67, 3) := dk_159 0 67 (dk_at dksX3_back_7 0 rfl rfl)
theorem dX3_back_167 : decode cX3_back 167 = .ok (.aload_n 2, 1) := dk_44 (dk_at dksX3_back_7 3 rfl rfl)
theorem dX3_back_168 : decode cX3_back 168 = .ok (.iload 5, 2) := dk_21 5 (dk_at dksX3_back_7 4 rfl rfl)
theorem dX3_back_170 : decode cX3_back 170 = .ok (.iaload, 1) := dk_46 (dk_at dksX3_back_7 6 rfl rfl)
theorem dX3_back_171 : decode cX3_back 171 = .ok (.aload_n 0, 1) := dk_42 (dk_at dksX3_back_7 7 rfl rfl)
theorem dX3_back_172 : decode cX3_back 172 = .ok (.iload 6, 2) := dk_21 6 (dk_at dksX3_back_7 8 rfl rfl)
theorem dX3_back_174 : decode cX3_back 174 = .ok (.iload_n 1, 1) := dk_27 (dk_at dksX3_back_7 10 rfl rfl)
theorem dX3_back_175 : decode cX3_back 175 = .ok (.invokevirtual 157, 3) := dk_182 0 157 (dk_at dksX3_back_7 11 rfl rfl)
theorem dX3_back_178 : decode cX3_back 178 = .ok (.iadd, 1) := dk_96 (dk_at dksX3_back_7 14 rfl rfl)
theorem dX3_back_179 : decode cX3_back 179 = .ok (.istore 7, 2) := dk_54 7 (dk_at dksX3_back_7 15 rfl rfl)
theorem dX3_back_181 : decode cX3_back 181 = .ok (.aload_n 2, 1) := dk_44 (dk_at dksX3_back_7 17 rfl rfl)
theorem dX3_back_182 : decode cX3_back 182 = .ok (.aload_n 0, 1) := dk_42 (dk_at dksX3_back_7 18 rfl rfl)
theorem dX3_back_183 : decode cX3_back 183 = .ok (.getfield 40, 3) := dk_180 0 40 (dk_at dksX3_back_7 19 rfl rfl)
theorem dX3_back_186 : decode cX3_back 186 = .ok (.iload 6, 2) := dk_21 6 (dk_at dksX3_back_7 22 rfl rfl)
theorem dX3_back_188 : decode cX3_back 188 = .ok (.iaload, 1) := dk_46 (dk_at dksX3_back_8 0 rfl rfl)
theorem dX3_back_189 : decode cX3_back 189 = .ok (.iaload, 1) := dk_46 (dk_at dksX3_back_8 1 rfl rfl)
theorem dX3_back_190 : decode cX3_back 190 = .ok (.iconst (-1), 1) := dk_2 (dk_at dksX3_back_8 2 rfl rfl)
theorem dX3_back_191 : decode cX3_back 191 = .ok (.if_icmp .eq 17, 3) := dk_159 0 17 (dk_at dksX3_back_8 3 rfl rfl)
theorem dX3_back_194 : decode cX3_back 194 = .ok (.iload 7, 2) := dk_21 7 (dk_at dksX3_back_8 6 rfl rfl)
theorem dX3_back_196 : decode cX3_back 196 = .ok (.aload_n 2, 1) := dk_44 (dk_at dksX3_back_8 8 rfl rfl)
theorem dX3_back_197 : decode cX3_back 197 = .ok (.aload_n 0, 1) := dk_42 (dk_at dksX3_back_8 9 rfl rfl)
theorem dX3_back_198 : decode cX3_back 198 = .ok (.getfield 40, 3) := dk_180 0 40 (dk_at dksX3_back_8 10 rfl rfl)
theorem dX3_back_201 : decode cX3_back 201 = .ok (.iload 6, 2) := dk_21 6 (dk_at dksX3_back_8 13 rfl rfl)
theorem dX3_back_203 : decode cX3_back 203 = .ok (.iaload, 1) := dk_46 (dk_at dksX3_back_8 15 rfl rfl)
theorem dX3_back_204 : decode cX3_back 204 = .ok (.iaload, 1) := dk_46 (dk_at dksX3_back_8 16 rfl rfl)
theorem dX3_back_205 : decode cX3_back 205 = .ok (.if_icmp .ge 14, 3) := dk_162 0 14 (dk_at dksX3_back_8 17 rfl rfl)
theorem dX3_back_208 : decode cX3_back 208 = .ok (.aload_n 2, 1) := dk_44 (dk_at dksX3_back_8 20 rfl rfl)
theorem dX3_back_209 : decode cX3_back 209 = .ok (.aload_n 0, 1) := dk_42 (dk_at dksX3_back_8 21 rfl rfl)
theorem dX3_back_210 : decode cX3_back 210 = .ok (.getfield 40, 3) := dk_180 0 40 (dk_at dksX3_back_9 0 rfl rfl)
theorem dX3_back_213 : decode cX3_back 213 = .ok (.iload 6, 2) := dk_21 6 (dk_at dksX3_back_9 3 rfl rfl)
theorem dX3_back_215 : decode cX3_back 215 = .ok (.iaload, 1) := dk_46 (dk_at dksX3_back_9 5 rfl rfl)
theorem dX3_back_216 : decode cX3_back 216 = .ok (.iload 7, 2) := dk_21 7 (dk_at dksX3_back_9 6 rfl rfl)
theorem dX3_back_218 : decode cX3_back 218 = .ok (.iastore, 1) := dk_79 (dk_at dksX3_back_9 8 rfl rfl)
theorem dX3_back_219 : decode cX3_back 219 = .ok (.aload_n 0, 1) := dk_42 (dk_at dksX3_back_9 9 rfl rfl)
theorem dX3_back_220 : decode cX3_back 220 = .ok (.getfield 46, 3) := dk_180 0 46 (dk_at dksX3_back_9 10 rfl rfl)
theorem dX3_back_223 : decode cX3_back 223 = .ok (.iload 6, 2) := dk_21 6 (dk_at dksX3_back_9 13 rfl rfl)
theorem dX3_back_225 : decode cX3_back 225 = .ok (.iaload, 1) := dk_46 (dk_at dksX3_back_9 15 rfl rfl)
theorem dX3_back_226 : decode cX3_back 226 = .ok (.istore 6, 2) := dk_54 6 (dk_at dksX3_back_9 16 rfl rfl)
theorem dX3_back_228 : decode cX3_back 228 = .ok (.goto (-67), 3) := dk_167 255 189 (dk_at dksX3_back_9 18 rfl rfl)
theorem dX3_back_231 : decode cX3_back 231 = .ok (.iinc 4 1, 3) := dk_132 4 1 (dk_at dksX3_back_9 21 rfl rfl)
theorem dX3_back_234 : decode cX3_back 234 = .ok (.goto (-166), 3) := dk_167 255 90 (dk_at dksX3_back_10 0 rfl rfl)
theorem dX3_back_237 : decode cX3_back 237 = .ok (.return_, 1) := dk_177 (dk_at dksX3_back_10 3 rfl rfl)
abbrev cX3_step : ByteArray := prog_8_method_10_code
def yX3_step : MethodName := ⟨RX3, "step", "(IZ)I"⟩
def dkwX3_step_0 : List UInt8 := [28, 153, 0, 18, 42, 180, 0, 31, 27, 46, 17, 16, 0, 104, 4, 96, 167, 0, 4, 4, 172]
abbrev dktX3_step_0 : List UInt8 := dkwX3_step_0 ++ []
theorem dksX3_step_0 : cX3_step.data.toList.drop 0 = dktX3_step_0 := by decide +kernel
theorem dX3_step_0 : decode cX3_step 0 = .ok (.iload_n 2, 1) := dk_28 (dk_at dksX3_step_0 0 rfl rfl)
theorem dX3_step_1 : decode cX3_step 1 = .ok (.ifCond .eq 18, 3) := dk_153 0 18 (dk_at dksX3_step_0 1 rfl rfl)
theorem dX3_step_4 : decode cX3_step 4 = .ok (.aload_n 0, 1) := dk_42 (dk_at dksX3_step_0 4 rfl rfl)
theorem dX3_step_5 : decode cX3_step 5 = .ok (.getfield 31, 3) := dk_180 0 31 (dk_at dksX3_step_0 5 rfl rfl)
theorem dX3_step_8 : decode cX3_step 8 = .ok (.iload_n 1, 1) := dk_27 (dk_at dksX3_step_0 8 rfl rfl)
theorem dX3_step_9 : decode cX3_step 9 = .ok (.iaload, 1) := dk_46 (dk_at dksX3_step_0 9 rfl rfl)
theorem dX3_step_10 : decode cX3_step 10 = .ok (.sipush 4096, 3) := dk_17 16 0 (dk_at dksX3_step_0 10 rfl rfl)
theorem dX3_step_13 : decode cX3_step 13 = .ok (.imul, 1) := dk_104 (dk_at dksX3_step_0 13 rfl rfl)
theorem dX3_step_14 : decode cX3_step 14 = .ok (.iconst 1, 1) := dk_4 (dk_at dksX3_step_0 14 rfl rfl)
theorem dX3_step_15 : decode cX3_step 15 = .ok (.iadd, 1) := dk_96 (dk_at dksX3_step_0 15 rfl rfl)
theorem dX3_step_16 : decode cX3_step 16 = .ok (.goto 4, 3) := dk_167 0 4 (dk_at dksX3_step_0 16 rfl rfl)
theorem dX3_step_19 : decode cX3_step 19 = .ok (.iconst 1, 1) := dk_4 (dk_at dksX3_step_0 19 rfl rfl)
theorem dX3_step_20 : decode cX3_step 20 = .ok (.ireturn, 1) := dk_172 (dk_at dksX3_step_0 20 rfl rfl)
abbrev cX3_cost : ByteArray := prog_8_method_12_code
def yX3_cost : MethodName := ⟨RX3, "cost", "()[I"⟩
def dkwX3_cost_1 : List UInt8 := [180, 0, 37, 176]
abbrev dktX3_cost_1 : List UInt8 := dkwX3_cost_1 ++ []
def dkwX3_cost_0 : List UInt8 := [42, 180, 0, 80, 154, 0, 12, 42, 4, 42, 180, 0, 37, 182, 0, 161, 42, 4, 181, 0, 80, 42]
abbrev dktX3_cost_0 : List UInt8 := dkwX3_cost_0 ++ dktX3_cost_1
theorem dksX3_cost_0 : cX3_cost.data.toList.drop 0 = dktX3_cost_0 := by decide +kernel
theorem dksX3_cost_1 : cX3_cost.data.toList.drop 22 = dktX3_cost_1 := dk_seg dksX3_cost_0 22 rfl rfl
theorem dX3_cost_0 : decode cX3_cost 0 = .ok (.aload_n 0, 1) := dk_42 (dk_at dksX3_cost_0 0 rfl rfl)
theorem dX3_cost_1 : decode cX3_cost 1 = .ok (.getfield 80, 3) := dk_180 0 80 (dk_at dksX3_cost_0 1 rfl rfl)
theorem dX3_cost_4 : decode cX3_cost 4 = .ok (.ifCond .ne 12, 3) := dk_154 0 12 (dk_at dksX3_cost_0 4 rfl rfl)
theorem dX3_cost_7 : decode cX3_cost 7 = .ok (.aload_n 0, 1) := dk_42 (dk_at dksX3_cost_0 7 rfl rfl)
theorem dX3_cost_8 : decode cX3_cost 8 = .ok (.iconst 1, 1) := dk_4 (dk_at dksX3_cost_0 8 rfl rfl)
theorem dX3_cost_9 : decode cX3_cost 9 = .ok (.aload_n 0, 1) := dk_42 (dk_at dksX3_cost_0 9 rfl rfl)
theorem dX3_cost_10 : decode cX3_cost 10 = .ok (.getfield 37, 3) := dk_180 0 37 (dk_at dksX3_cost_0 10 rfl rfl)
theorem dX3_cost_13 : decode cX3_cost 13 = .ok (.invokevirtual 161, 3) := dk_182 0 161 (dk_at dksX3_cost_0 13 rfl rfl)
theorem dX3_cost_16 : decode cX3_cost 16 = .ok (.aload_n 0, 1) := dk_42 (dk_at dksX3_cost_0 16 rfl rfl)
theorem dX3_cost_17 : decode cX3_cost 17 = .ok (.iconst 1, 1) := dk_4 (dk_at dksX3_cost_0 17 rfl rfl)
theorem dX3_cost_18 : decode cX3_cost 18 = .ok (.putfield 80, 3) := dk_181 0 80 (dk_at dksX3_cost_0 18 rfl rfl)
theorem dX3_cost_21 : decode cX3_cost 21 = .ok (.aload_n 0, 1) := dk_42 (dk_at dksX3_cost_0 21 rfl rfl)
theorem dX3_cost_22 : decode cX3_cost 22 = .ok (.getfield 37, 3) := dk_180 0 37 (dk_at dksX3_cost_1 0 rfl rfl)
theorem dX3_cost_25 : decode cX3_cost 25 = .ok (.areturn, 1) := dk_176 (dk_at dksX3_cost_1 3 rfl rfl)
abbrev cX3_best : ByteArray := prog_8_method_13_code
def yX3_best : MethodName := ⟨RX3, "best", "(IZ)I"⟩
def dkwX3_best_2 : List UInt8 := [21, 4, 28, 182, 0, 157, 96, 45, 27, 46, 159, 0, 9, 132, 4, 1, 167, 255, 217, 21, 4, 172]
abbrev dktX3_best_2 : List UInt8 := dkwX3_best_2 ++ []
def dkwX3_best_1 : List UInt8 := [45, 42, 180, 0, 25, 21, 4, 46, 46, 2, 159, 0, 26, 45, 42, 180, 0, 25, 21, 4, 46, 46, 42]
abbrev dktX3_best_1 : List UInt8 := dkwX3_best_1 ++ dktX3_best_2
def dkwX3_best_0 : List UInt8 := [28, 153, 0, 10, 42, 182, 0, 165, 167, 0, 7, 42, 182, 0, 168, 78, 42, 180, 0, 21, 27, 46, 54, 4]
abbrev dktX3_best_0 : List UInt8 := dkwX3_best_0 ++ dktX3_best_1
theorem dksX3_best_0 : cX3_best.data.toList.drop 0 = dktX3_best_0 := by decide +kernel
theorem dksX3_best_1 : cX3_best.data.toList.drop 24 = dktX3_best_1 := dk_seg dksX3_best_0 24 rfl rfl
theorem dksX3_best_2 : cX3_best.data.toList.drop 47 = dktX3_best_2 := dk_seg dksX3_best_1 23 rfl rfl
theorem dX3_best_0 : decode cX3_best 0 = .ok (.iload_n 2, 1) := dk_28 (dk_at dksX3_best_0 0 rfl rfl)
theorem dX3_best_1 : decode cX3_best 1 = .ok (.ifCond .eq 10, 3) := dk_153 0 10 (dk_at dksX3_best_0 1 rfl rfl)
theorem dX3_best_4 : decode cX3_best 4 = .ok (.aload_n 0, 1) := dk_42 (dk_at dksX3_best_0 4 rfl rfl)
theorem dX3_best_5 : decode cX3_best 5 = .ok (.invokevirtual 165, 3) := dk_182 0 165 (dk_at dksX3_best_0 5 rfl rfl)
theorem dX3_best_8 : decode cX3_best 8 = .ok (.goto 7, 3) := dk_167 0 7 (dk_at dksX3_best_0 8 rfl rfl)
theorem dX3_best_11 : decode cX3_best 11 = .ok (.aload_n 0, 1) := dk_42 (dk_at dksX3_best_0 11 rfl rfl)
theorem dX3_best_12 : decode cX3_best 12 = .ok (.invokevirtual 168, 3) := dk_182 0 168 (dk_at dksX3_best_0 12 rfl rfl)
theorem dX3_best_15 : decode cX3_best 15 = .ok (.astore_n 3, 1) := dk_78 (dk_at dksX3_best_0 15 rfl rfl)
theorem dX3_best_16 : decode cX3_best 16 = .ok (.aload_n 0, 1) := dk_42 (dk_at dksX3_best_0 16 rfl rfl)
theorem dX3_best_17 : decode cX3_best 17 = .ok (.getfield 21, 3) := dk_180 0 21 (dk_at dksX3_best_0 17 rfl rfl)
theorem dX3_best_20 : decode cX3_best 20 = .ok (.iload_n 1, 1) := dk_27 (dk_at dksX3_best_0 20 rfl rfl)
theorem dX3_best_21 : decode cX3_best 21 = .ok (.iaload, 1) := dk_46 (dk_at dksX3_best_0 21 rfl rfl)
theorem dX3_best_22 : decode cX3_best 22 = .ok (.istore 4, 2) := dk_54 4 (dk_at dksX3_best_0 22 rfl rfl)
theorem dX3_best_24 : decode cX3_best 24 = .ok (.aload_n 3, 1) := dk_45 (dk_at dksX3_best_1 0 rfl rfl)
theorem dX3_best_25 : decode cX3_best 25 = .ok (.aload_n 0, 1) := dk_42 (dk_at dksX3_best_1 1 rfl rfl)
theorem dX3_best_26 : decode cX3_best 26 = .ok (.getfield 25, 3) := dk_180 0 25 (dk_at dksX3_best_1 2 rfl rfl)
theorem dX3_best_29 : decode cX3_best 29 = .ok (.iload 4, 2) := dk_21 4 (dk_at dksX3_best_1 5 rfl rfl)
theorem dX3_best_31 : decode cX3_best 31 = .ok (.iaload, 1) := dk_46 (dk_at dksX3_best_1 7 rfl rfl)
theorem dX3_best_32 : decode cX3_best 32 = .ok (.iaload, 1) := dk_46 (dk_at dksX3_best_1 8 rfl rfl)
theorem dX3_best_33 : decode cX3_best 33 = .ok (.iconst (-1), 1) := dk_2 (dk_at dksX3_best_1 9 rfl rfl)
theorem dX3_best_34 : decode cX3_best 34 = .ok (.if_icmp .eq 26, 3) := dk_159 0 26 (dk_at dksX3_best_1 10 rfl rfl)
theorem dX3_best_37 : decode cX3_best 37 = .ok (.aload_n 3, 1) := dk_45 (dk_at dksX3_best_1 13 rfl rfl)
theorem dX3_best_38 : decode cX3_best 38 = .ok (.aload_n 0, 1) := dk_42 (dk_at dksX3_best_1 14 rfl rfl)
theorem dX3_best_39 : decode cX3_best 39 = .ok (.getfield 25, 3) := dk_180 0 25 (dk_at dksX3_best_1 15 rfl rfl)
theorem dX3_best_42 : decode cX3_best 42 = .ok (.iload 4, 2) := dk_21 4 (dk_at dksX3_best_1 18 rfl rfl)
theorem dX3_best_44 : decode cX3_best 44 = .ok (.iaload, 1) := dk_46 (dk_at dksX3_best_1 20 rfl rfl)
theorem dX3_best_45 : decode cX3_best 45 = .ok (.iaload, 1) := dk_46 (dk_at dksX3_best_1 21 rfl rfl)
theorem dX3_best_46 : decode cX3_best 46 = .ok (.aload_n 0, 1) := dk_42 (dk_at dksX3_best_1 22 rfl rfl)
theorem dX3_best_47 : decode cX3_best 47 = .ok (.iload 4, 2) := dk_21 4 (dk_at dksX3_best_2 0 rfl rfl)
theorem dX3_best_49 : decode cX3_best 49 = .ok (.iload_n 2, 1) := dk_28 (dk_at dksX3_best_2 2 rfl rfl)
theorem dX3_best_50 : decode cX3_best 50 = .ok (.invokevirtual 157, 3) := dk_182 0 157 (dk_at dksX3_best_2 3 rfl rfl)
theorem dX3_best_53 : decode cX3_best 53 = .ok (.iadd, 1) := dk_96 (dk_at dksX3_best_2 6 rfl rfl)
theorem dX3_best_54 : decode cX3_best 54 = .ok (.aload_n 3, 1) := dk_45 (dk_at dksX3_best_2 7 rfl rfl)
theorem dX3_best_55 : decode cX3_best 55 = .ok (.iload_n 1, 1) := dk_27 (dk_at dksX3_best_2 8 rfl rfl)
theorem dX3_best_56 : decode cX3_best 56 = .ok (.iaload, 1) := dk_46 (dk_at dksX3_best_2 9 rfl rfl)
theorem dX3_best_57 : decode cX3_best 57 = .ok (.if_icmp .eq 9, 3) := dk_159 0 9 (dk_at dksX3_best_2 10 rfl rfl)
theorem dX3_best_60 : decode cX3_best 60 = .ok (.iinc 4 1, 3) := dk_132 4 1 (dk_at dksX3_best_2 13 rfl rfl)
theorem dX3_best_63 : decode cX3_best 63 = .ok (.goto (-39), 3) := dk_167 255 217 (dk_at dksX3_best_2 16 rfl rfl)
theorem dX3_best_66 : decode cX3_best 66 = .ok (.iload 4, 2) := dk_21 4 (dk_at dksX3_best_2 19 rfl rfl)
theorem dX3_best_68 : decode cX3_best 68 = .ok (.ireturn, 1) := dk_172 (dk_at dksX3_best_2 21 rfl rfl)
abbrev cX3_ways : ByteArray := prog_8_method_14_code
def yX3_ways : MethodName := ⟨RX3, "ways", "()I"⟩
def dkwX3_ways_6 : List UInt8 := [167, 255, 148, 132, 3, 1, 167, 255, 132, 44, 3, 47, 136, 172]
abbrev dktX3_ways_6 : List UInt8 := dkwX3_ways_6 ++ []
def dkwX3_ways_5 : List UInt8 := [44, 42, 180, 0, 25, 21, 5, 46, 47, 97, 184, 0, 172, 80, 132, 5, 1, 167, 255, 196, 132, 4, 1]
abbrev dktX3_ways_5 : List UInt8 := dkwX3_ways_5 ++ dktX3_ways_6
def dkwX3_ways_4 : List UInt8 := [42, 180, 0, 25, 21, 5, 46, 46, 29, 4, 100, 160, 0, 27, 44, 21, 4, 20, 0, 170, 44, 21, 4, 47]
abbrev dktX3_ways_4 : List UInt8 := dkwX3_ways_4 ++ dktX3_ways_5
def dkwX3_ways_3 : List UInt8 := [21, 4, 46, 54, 5, 21, 5, 42, 180, 0, 21, 21, 4, 4, 96, 46, 162, 0, 52, 29, 158, 0, 42, 43]
abbrev dktX3_ways_3 : List UInt8 := dkwX3_ways_3 ++ dktX3_ways_4
def dkwX3_ways_2 : List UInt8 := [159, 0, 6, 167, 0, 88, 44, 21, 4, 29, 154, 0, 7, 10, 167, 0, 4, 9, 80, 42, 180, 0, 21]
abbrev dktX3_ways_2 : List UInt8 := dkwX3_ways_2 ++ dktX3_ways_3
def dkwX3_ways_1 : List UInt8 := [43, 3, 46, 163, 0, 123, 3, 54, 4, 21, 4, 42, 180, 0, 66, 162, 0, 105, 43, 21, 4, 46, 29]
abbrev dktX3_ways_1 : List UInt8 := dkwX3_ways_1 ++ dktX3_ways_2
def dkwX3_ways_0 : List UInt8 := [42, 182, 0, 168, 76, 42, 180, 0, 66, 188, 11, 77, 43, 3, 46, 2, 160, 0, 5, 3, 172, 3, 62, 29]
abbrev dktX3_ways_0 : List UInt8 := dkwX3_ways_0 ++ dktX3_ways_1
theorem dksX3_ways_0 : cX3_ways.data.toList.drop 0 = dktX3_ways_0 := by decide +kernel
theorem dksX3_ways_1 : cX3_ways.data.toList.drop 24 = dktX3_ways_1 := dk_seg dksX3_ways_0 24 rfl rfl
theorem dksX3_ways_2 : cX3_ways.data.toList.drop 47 = dktX3_ways_2 := dk_seg dksX3_ways_1 23 rfl rfl
theorem dksX3_ways_3 : cX3_ways.data.toList.drop 70 = dktX3_ways_3 := dk_seg dksX3_ways_2 23 rfl rfl
theorem dksX3_ways_4 : cX3_ways.data.toList.drop 94 = dktX3_ways_4 := dk_seg dksX3_ways_3 24 rfl rfl
theorem dksX3_ways_5 : cX3_ways.data.toList.drop 118 = dktX3_ways_5 := dk_seg dksX3_ways_4 24 rfl rfl
theorem dksX3_ways_6 : cX3_ways.data.toList.drop 141 = dktX3_ways_6 := dk_seg dksX3_ways_5 23 rfl rfl
theorem dX3_ways_0 : decode cX3_ways 0 = .ok (.aload_n 0, 1) := dk_42 (dk_at dksX3_ways_0 0 rfl rfl)
theorem dX3_ways_1 : decode cX3_ways 1 = .ok (.invokevirtual 168, 3) := dk_182 0 168 (dk_at dksX3_ways_0 1 rfl rfl)
theorem dX3_ways_4 : decode cX3_ways 4 = .ok (.astore_n 1, 1) := dk_76 (dk_at dksX3_ways_0 4 rfl rfl)
theorem dX3_ways_5 : decode cX3_ways 5 = .ok (.aload_n 0, 1) := dk_42 (dk_at dksX3_ways_0 5 rfl rfl)
theorem dX3_ways_6 : decode cX3_ways 6 = .ok (.getfield 66, 3) := dk_180 0 66 (dk_at dksX3_ways_0 6 rfl rfl)
theorem dX3_ways_9 : decode cX3_ways 9 = .ok (.newarray .long, 2) := dk_188_11 (dk_at dksX3_ways_0 9 rfl rfl)
theorem dX3_ways_11 : decode cX3_ways 11 = .ok (.astore_n 2, 1) := dk_77 (dk_at dksX3_ways_0 11 rfl rfl)
theorem dX3_ways_12 : decode cX3_ways 12 = .ok (.aload_n 1, 1) := dk_43 (dk_at dksX3_ways_0 12 rfl rfl)
theorem dX3_ways_13 : decode cX3_ways 13 = .ok (.iconst 0, 1) := dk_3 (dk_at dksX3_ways_0 13 rfl rfl)
theorem dX3_ways_14 : decode cX3_ways 14 = .ok (.iaload, 1) := dk_46 (dk_at dksX3_ways_0 14 rfl rfl)
theorem dX3_ways_15 : decode cX3_ways 15 = .ok (.iconst (-1), 1) := dk_2 (dk_at dksX3_ways_0 15 rfl rfl)
theorem dX3_ways_16 : decode cX3_ways 16 = .ok (.if_icmp .ne 5, 3) := dk_160 0 5 (dk_at dksX3_ways_0 16 rfl rfl)
theorem dX3_ways_19 : decode cX3_ways 19 = .ok (.iconst 0, 1) := dk_3 (dk_at dksX3_ways_0 19 rfl rfl)
theorem dX3_ways_20 : decode cX3_ways 20 = .ok (.ireturn, 1) := dk_172 (dk_at dksX3_ways_0 20 rfl rfl)
theorem dX3_ways_21 : decode cX3_ways 21 = .ok (.iconst 0, 1) := dk_3 (dk_at dksX3_ways_0 21 rfl rfl)
theorem dX3_ways_22 : decode cX3_ways 22 = .ok (.istore_n 3, 1) := dk_62 (dk_at dksX3_ways_0 22 rfl rfl)
theorem dX3_ways_23 : decode cX3_ways 23 = .ok (.iload_n 3, 1) := dk_29 (dk_at dksX3_ways_0 23 rfl rfl)
theorem dX3_ways_24 : decode cX3_ways 24 = .ok (.aload_n 1, 1) := dk_43 (dk_at dksX3_ways_1 0 rfl rfl)
theorem dX3_ways_25 : decode cX3_ways 25 = .ok (.iconst 0, 1) := dk_3 (dk_at dksX3_ways_1 1 rfl rfl)
theorem dX3_ways_26 : decode cX3_ways 26 = .ok (.iaload, 1) := dk_46 (dk_at dksX3_ways_1 2 rfl rfl)
theorem dX3_ways_27 : decode cX3_ways 27 = .ok (.if_icmp .gt 123, 3) := dk_163 0 123 (dk_at dksX3_ways_1 3 rfl rfl)
theorem dX3_ways_30 : decode cX3_ways 30 = .ok (.iconst 0, 1) := dk_3 (dk_at dksX3_ways_1 6 rfl rfl)
theorem dX3_ways_31 : decode cX3_ways 31 = .ok (.istore 4, 2) := dk_54 4 (dk_at dksX3_ways_1 7 rfl rfl)
theorem dX3_ways_33 : decode cX3_ways 33 = .ok (.iload 4, 2) := dk_21 4 (dk_at dksX3_ways_1 9 rfl rfl)
theorem dX3_ways_35 : decode cX3_ways 35 = .ok (.aload_n 0, 1) := dk_42 (dk_at dksX3_ways_1 11 rfl rfl)
theorem dX3_ways_36 : decode cX3_ways 36 = .ok (.getfield 66, 3) := dk_180 0 66 (dk_at dksX3_ways_1 12 rfl rfl)
theorem dX3_ways_39 : decode cX3_ways 39 = .ok (.if_icmp .ge 105, 3) := dk_162 0 105 (dk_at dksX3_ways_1 15 rfl rfl)
theorem dX3_ways_42 : decode cX3_ways 42 = .ok (.aload_n 1, 1) := dk_43 (dk_at dksX3_ways_1 18 rfl rfl)
theorem dX3_ways_43 : decode cX3_ways 43 = .ok (.iload 4, 2) := dk_21 4 (dk_at dksX3_ways_1 19 rfl rfl)
theorem dX3_ways_45 : decode cX3_ways 45 = .ok (.iaload, 1) := dk_46 (dk_at dksX3_ways_1 21 rfl rfl)
theorem dX3_ways_46 : decode cX3_ways 46 = .ok (.iload_n 3, 1) := dk_29 (dk_at dksX3_ways_1 22 rfl rfl)
theorem dX3_ways_47 : decode cX3_ways 47 = .ok (.if_icmp .eq 6, 3) := dk_159 0 6 (dk_at dksX3_ways_2 0 rfl rfl)
theorem dX3_ways_50 : decode cX3_ways 50 = .ok (.goto 88, 3) := dk_167 0 88 (dk_at dksX3_ways_2 3 rfl rfl)
theorem dX3_ways_53 : decode cX3_ways 53 = .ok (.aload_n 2, 1) := dk_44 (dk_at dksX3_ways_2 6 rfl rfl)
theorem dX3_ways_54 : decode cX3_ways 54 = .ok (.iload 4, 2) := dk_21 4 (dk_at dksX3_ways_2 7 rfl rfl)
theorem dX3_ways_56 : decode cX3_ways 56 = .ok (.iload_n 3, 1) := dk_29 (dk_at dksX3_ways_2 9 rfl rfl)
theorem dX3_ways_57 : decode cX3_ways 57 = .ok (.ifCond .ne 7, 3) := dk_154 0 7 (dk_at dksX3_ways_2 10 rfl rfl)
theorem dX3_ways_60 : decode cX3_ways 60 = .ok (.lconst 1, 1) := dk_10 (dk_at dksX3_ways_2 13 rfl rfl)
theorem dX3_ways_61 : decode cX3_ways 61 = .ok (.goto 4, 3) := dk_167 0 4 (dk_at dksX3_ways_2 14 rfl rfl)
theorem dX3_ways_64 : decode cX3_ways 64 = .ok (.lconst 0, 1) := dk_9 (dk_at dksX3_ways_2 17 rfl rfl)
theorem dX3_ways_65 : decode cX3_ways 65 = .ok (.lastore, 1) := dk_80 (dk_at dksX3_ways_2 18 rfl rfl)
theorem dX3_ways_66 : decode cX3_ways 66 = .ok (.aload_n 0, 1) := dk_42 (dk_at dksX3_ways_2 19 rfl rfl)
theorem dX3_ways_67 : decode cX3_ways 67 = .ok (.getfield 21, 3) := dk_180 0 21 (dk_at dksX3_ways_2 20 rfl rfl)
theorem dX3_ways_70 : decode cX3_ways 70 = .ok (.iload 4, 2) := dk_21 4 (dk_at dksX3_ways_3 0 rfl rfl)
theorem dX3_ways_72 : decode cX3_ways 72 = .ok (.iaload, 1) := dk_46 (dk_at dksX3_ways_3 2 rfl rfl)
theorem dX3_ways_73 : decode cX3_ways 73 = .ok (.istore 5, 2) := dk_54 5 (dk_at dksX3_ways_3 3 rfl rfl)
theorem dX3_ways_75 : decode cX3_ways 75 = .ok (.iload 5, 2) := dk_21 5 (dk_at dksX3_ways_3 5 rfl rfl)
theorem dX3_ways_77 : decode cX3_ways 77 = .ok (.aload_n 0, 1) := dk_42 (dk_at dksX3_ways_3 7 rfl rfl)
theorem dX3_ways_78 : decode cX3_ways 78 = .ok (.getfield 21, 3) := dk_180 0 21 (dk_at dksX3_ways_3 8 rfl rfl)
theorem dX3_ways_81 : decode cX3_ways 81 = .ok (.iload 4, 2) := dk_21 4 (dk_at dksX3_ways_3 11 rfl rfl)
theorem dX3_ways_83 : decode cX3_ways 83 = .ok (.iconst 1, 1) := dk_4 (dk_at dksX3_ways_3 13 rfl rfl)
theorem dX3_ways_84 : decode cX3_ways 84 = .ok (.iadd, 1) := dk_96 (dk_at dksX3_ways_3 14 rfl rfl)
theorem dX3_ways_85 : decode cX3_ways 85 = .ok (.iaload, 1) := dk_46 (dk_at dksX3_ways_3 15 rfl rfl)
theorem dX3_ways_86 : decode cX3_ways 86 = .ok (.if_icmp .ge 52, 3) := dk_162 0 52 (dk_at dksX3_ways_3 16 rfl rfl)
theorem dX3_ways_89 : decode cX3_ways 89 = .ok (.iload_n 3, 1) := dk_29 (dk_at dksX3_ways_3 19 rfl rfl)
theorem dX3_ways_90 : decode cX3_ways 90 = .ok (.ifCond .le 42, 3) := dk_158 0 42 (dk_at dksX3_ways_3 20 rfl rfl)
theorem dX3_ways_93 : decode cX3_ways 93 = .ok (.aload_n 1, 1) := dk_43 (dk_at dksX3_ways_3 23 rfl rfl)
theorem dX3_ways_94 : decode cX3_ways 94 = .ok (.aload_n 0, 1) := dk_42 (dk_at dksX3_ways_4 0 rfl rfl)
theorem dX3_ways_95 : decode cX3_ways 95 = .ok (.getfield 25, 3) := dk_180 0 25 (dk_at dksX3_ways_4 1 rfl rfl)
theorem dX3_ways_98 : decode cX3_ways 98 = .ok (.iload 5, 2) := dk_21 5 (dk_at dksX3_ways_4 4 rfl rfl)
theorem dX3_ways_100 : decode cX3_ways 100 = .ok (.iaload, 1) := dk_46 (dk_at dksX3_ways_4 6 rfl rfl)
theorem dX3_ways_101 : decode cX3_ways 101 = .ok (.iaload, 1) := dk_46 (dk_at dksX3_ways_4 7 rfl rfl)
theorem dX3_ways_102 : decode cX3_ways 102 = .ok (.iload_n 3, 1) := dk_29 (dk_at dksX3_ways_4 8 rfl rfl)
theorem dX3_ways_103 : decode cX3_ways 103 = .ok (.iconst 1, 1) := dk_4 (dk_at dksX3_ways_4 9 rfl rfl)
theorem dX3_ways_104 : decode cX3_ways 104 = .ok (.isub, 1) := dk_100 (dk_at dksX3_ways_4 10 rfl rfl)
theorem dX3_ways_105 : decode cX3_ways 105 = .ok (.if_icmp .ne 27, 3) := dk_160 0 27 (dk_at dksX3_ways_4 11 rfl rfl)
theorem dX3_ways_108 : decode cX3_ways 108 = .ok (.aload_n 2, 1) := dk_44 (dk_at dksX3_ways_4 14 rfl rfl)
theorem dX3_ways_109 : decode cX3_ways 109 = .ok (.iload 4, 2) := dk_21 4 (dk_at dksX3_ways_4 15 rfl rfl)
theorem dX3_ways_111 : decode cX3_ways 111 = .ok (.ldc2_w 170, 3) := dk_20 0 170 (dk_at dksX3_ways_4 17 rfl rfl)
theorem dX3_ways_114 : decode cX3_ways 114 = .ok (.aload_n 2, 1) := dk_44 (dk_at dksX3_ways_4 20 rfl rfl)
theorem dX3_ways_115 : decode cX3_ways 115 = .ok (.iload 4, 2) := dk_21 4 (dk_at dksX3_ways_4 21 rfl rfl)
theorem dX3_ways_117 : decode cX3_ways 117 = .ok (.laload, 1) := dk_47 (dk_at dksX3_ways_4 23 rfl rfl)
theorem dX3_ways_118 : decode cX3_ways 118 = .ok (.aload_n 2, 1) := dk_44 (dk_at dksX3_ways_5 0 rfl rfl)
theorem dX3_ways_119 : decode cX3_ways 119 = .ok (.aload_n 0, 1) := dk_42 (dk_at dksX3_ways_5 1 rfl rfl)
theorem dX3_ways_120 : decode cX3_ways 120 = .ok (.getfield 25, 3) := dk_180 0 25 (dk_at dksX3_ways_5 2 rfl rfl)
theorem dX3_ways_123 : decode cX3_ways 123 = .ok (.iload 5, 2) := dk_21 5 (dk_at dksX3_ways_5 5 rfl rfl)
theorem dX3_ways_125 : decode cX3_ways 125 = .ok (.iaload, 1) := dk_46 (dk_at dksX3_ways_5 7 rfl rfl)
theorem dX3_ways_126 : decode cX3_ways 126 = .ok (.laload, 1) := dk_47 (dk_at dksX3_ways_5 8 rfl rfl)
theorem dX3_ways_127 : decode cX3_ways 127 = .ok (.ladd, 1) := dk_97 (dk_at dksX3_ways_5 9 rfl rfl)
theorem dX3_ways_128 : decode cX3_ways 128 = .ok (.invokestatic 172, 3) := dk_184 0 172 (dk_at dksX3_ways_5 10 rfl rfl)
theorem dX3_ways_131 : decode cX3_ways 131 = .ok (.lastore, 1) := dk_80 (dk_at dksX3_ways_5 13 rfl rfl)
theorem dX3_ways_132 : decode cX3_ways 132 = .ok (.iinc 5 1, 3) := dk_132 5 1 (dk_at dksX3_ways_5 14 rfl rfl)
theorem dX3_ways_135 : decode cX3_ways 135 = .ok (.goto (-60), 3) := dk_167 255 196 (dk_at dksX3_ways_5 17 rfl rfl)
theorem dX3_ways_138 : decode cX3_ways 138 = .ok (.iinc 4 1, 3) := dk_132 4 1 (dk_at dksX3_ways_5 20 rfl rfl)
theorem dX3_ways_141 : decode cX3_ways 141 = .ok (.goto (-108), 3) := dk_167 255 148 (dk_at dksX3_ways_6 0 rfl rfl)
theorem dX3_ways_144 : decode cX3_ways 144 = .ok (.iinc 3 1, 3) := dk_132 3 1 (dk_at dksX3_ways_6 3 rfl rfl)
theorem dX3_ways_147 : decode cX3_ways 147 = .ok (.goto (-124), 3) := dk_167 255 132 (dk_at dksX3_ways_6 6 rfl rfl)
theorem dX3_ways_150 : decode cX3_ways 150 = .ok (.aload_n 2, 1) := dk_44 (dk_at dksX3_ways_6 9 rfl rfl)
theorem dX3_ways_151 : decode cX3_ways 151 = .ok (.iconst 0, 1) := dk_3 (dk_at dksX3_ways_6 10 rfl rfl)
theorem dX3_ways_152 : decode cX3_ways 152 = .ok (.laload, 1) := dk_47 (dk_at dksX3_ways_6 11 rfl rfl)
theorem dX3_ways_153 : decode cX3_ways 153 = .ok (.l2i, 1) := dk_136 (dk_at dksX3_ways_6 12 rfl rfl)
theorem dX3_ways_154 : decode cX3_ways 154 = .ok (.ireturn, 1) := dk_172 (dk_at dksX3_ways_6 13 rfl rfl)
abbrev cX3_find : ByteArray := prog_8_method_5_code
def yX3_find : MethodName := ⟨RX3, "find", "(I)I"⟩
def dkwX3_find_0 : List UInt8 := [42, 180, 0, 15, 42, 27, 182, 0, 110, 46, 172]
abbrev dktX3_find_0 : List UInt8 := dkwX3_find_0 ++ []
theorem dksX3_find_0 : cX3_find.data.toList.drop 0 = dktX3_find_0 := by decide +kernel
theorem dX3_find_0 : decode cX3_find 0 = .ok (.aload_n 0, 1) := dk_42 (dk_at dksX3_find_0 0 rfl rfl)
theorem dX3_find_1 : decode cX3_find 1 = .ok (.getfield 15, 3) := dk_180 0 15 (dk_at dksX3_find_0 1 rfl rfl)
theorem dX3_find_4 : decode cX3_find 4 = .ok (.aload_n 0, 1) := dk_42 (dk_at dksX3_find_0 4 rfl rfl)
theorem dX3_find_5 : decode cX3_find 5 = .ok (.iload_n 1, 1) := dk_27 (dk_at dksX3_find_0 5 rfl rfl)
theorem dX3_find_6 : decode cX3_find 6 = .ok (.invokevirtual 110, 3) := dk_182 0 110 (dk_at dksX3_find_0 6 rfl rfl)
theorem dX3_find_9 : decode cX3_find 9 = .ok (.iaload, 1) := dk_46 (dk_at dksX3_find_0 9 rfl rfl)
theorem dX3_find_10 : decode cX3_find 10 = .ok (.ireturn, 1) := dk_172 (dk_at dksX3_find_0 10 rfl rfl)
theorem q124 : (Jvm.Cond.initialized "FerryHall$Map") ∈ lw_all := lw_g (lw_at lw_m1 6 rfl) rfl
theorem q211 : (Jvm.Cond.fieldLinkNest "FerryHall$Map" (131 : Nat) "FerryHall$World" "shores" "I" "FerryHall") ∈ lw_tbl := lw_at lw_m1 93 rfl
theorem q239 : (Jvm.Cond.fieldLinkNest "FerryHall$Map" (114 : Nat) "FerryHall$World" "boats" "Ljava/util/List;" "FerryHall") ∈ lw_tbl := lw_at lw_m1 121 rfl
theorem q272 : (Jvm.Cond.instantiable "FerryHall$Map" (20 : Nat)) ∈ lw_all := lw_g (lw_at lw_m1 154 rfl) rfl
theorem q274 : (Jvm.Cond.instanceMethod ({ cls := "FerryHall$Map", name := "<init>", desc := "()V" } : Jvm.MethodName)) ∈ lw_all := lw_g (lw_at lw_m1 156 rfl) rfl
theorem q275 : (Jvm.Cond.code ({ cls := "FerryHall$Map", name := "<init>", desc := "()V" } : Jvm.MethodName) prog_8_method_1_code (1 : Nat) (Option.none : Option Jvm.ClassFile.FieldType)) ∈ lw_all := lw_g (lw_at lw_m1 157 rfl) rfl
theorem q276 : (Jvm.Cond.methodLink "FerryHall$Map" (3 : Nat) ({ cls := "java/lang/Object", name := "<init>", desc := "()V" } : Jvm.MethodName)) ∈ lw_all := lw_g (lw_at lw_m1 158 rfl) rfl
theorem q277 : (Jvm.Cond.constant "FerryHall$Map" (24 : Nat) (40000 : Int32)) ∈ lw_all := lw_g (lw_at lw_m1 159 rfl) rfl
theorem q278 : (Jvm.Cond.fieldLink "FerryHall$Map" (53 : Nat) "FerryHall$Map" "w" "LFerryHall$World;") ∈ lw_all := lw_g (lw_at lw_m1 160 rfl) rfl
theorem q279 : (Jvm.Cond.fieldLink "FerryHall$Map" (62 : Nat) "FerryHall$Map" "judge" "LFerryHall$Judge;") ∈ lw_all := lw_g (lw_at lw_m1 161 rfl) rfl
theorem q280 : (Jvm.Cond.fieldLink "FerryHall$Map" (9 : Nat) "FerryHall$Map" "codes" "[I") ∈ lw_all := lw_g (lw_at lw_m1 162 rfl) rfl
theorem q281 : (Jvm.Cond.fieldLink "FerryHall$Map" (15 : Nat) "FerryHall$Map" "slots" "[I") ∈ lw_all := lw_g (lw_at lw_m1 163 rfl) rfl
theorem q282 : (Jvm.Cond.fieldLink "FerryHall$Map" (18 : Nat) "FerryHall$Map" "depth" "[I") ∈ lw_all := lw_g (lw_at lw_m1 164 rfl) rfl
theorem q284 : (Jvm.Cond.fieldLink "FerryHall$Map" (21 : Nat) "FerryHall$Map" "first" "[I") ∈ lw_all := lw_g (lw_at lw_m1 166 rfl) rfl
theorem q285 : (Jvm.Cond.fieldLink "FerryHall$Map" (25 : Nat) "FerryHall$Map" "to" "[I") ∈ lw_all := lw_g (lw_at lw_m1 167 rfl) rfl
theorem q287 : (Jvm.Cond.fieldLink "FerryHall$Map" (28 : Nat) "FerryHall$Map" "move" "[I") ∈ lw_all := lw_g (lw_at lw_m1 169 rfl) rfl
theorem q289 : (Jvm.Cond.fieldLink "FerryHall$Map" (31 : Nat) "FerryHall$Map" "minutes" "[I") ∈ lw_all := lw_g (lw_at lw_m1 171 rfl) rfl
theorem q290 : (Jvm.Cond.fieldLink "FerryHall$Map" (66 : Nat) "FerryHall$Map" "states" "I") ∈ lw_all := lw_g (lw_at lw_m1 172 rfl) rfl
theorem q292 : (Jvm.Cond.fieldLink "FerryHall$Map" (70 : Nat) "FerryHall$Map" "crossings" "I") ∈ lw_all := lw_g (lw_at lw_m1 174 rfl) rfl
theorem q294 : (Jvm.Cond.fieldLink "FerryHall$Map" (73 : Nat) "FerryHall$Map" "spent" "Z") ∈ lw_all := lw_g (lw_at lw_m1 176 rfl) rfl
theorem q296 : (Jvm.Cond.fieldLink "FerryHall$Map" (34 : Nat) "FerryHall$Map" "left" "[I") ∈ lw_all := lw_g (lw_at lw_m1 178 rfl) rfl
theorem q297 : (Jvm.Cond.fieldLink "FerryHall$Map" (37 : Nat) "FerryHall$Map" "cost" "[I") ∈ lw_all := lw_g (lw_at lw_m1 179 rfl) rfl
theorem q298 : (Jvm.Cond.fieldLink "FerryHall$Map" (77 : Nat) "FerryHall$Map" "leftTold" "Z") ∈ lw_all := lw_g (lw_at lw_m1 180 rfl) rfl
theorem q299 : (Jvm.Cond.fieldLink "FerryHall$Map" (80 : Nat) "FerryHall$Map" "costTold" "Z") ∈ lw_all := lw_g (lw_at lw_m1 181 rfl) rfl
theorem q300 : (Jvm.Cond.fieldLink "FerryHall$Map" (40 : Nat) "FerryHall$Map" "from" "[I") ∈ lw_all := lw_g (lw_at lw_m1 182 rfl) rfl
theorem q301 : (Jvm.Cond.fieldLink "FerryHall$Map" (43 : Nat) "FerryHall$Map" "head" "[I") ∈ lw_all := lw_g (lw_at lw_m1 183 rfl) rfl
theorem q302 : (Jvm.Cond.fieldLink "FerryHall$Map" (46 : Nat) "FerryHall$Map" "next" "[I") ∈ lw_all := lw_g (lw_at lw_m1 184 rfl) rfl
theorem q303 : (Jvm.Cond.fieldLink "FerryHall$Map" (49 : Nat) "FerryHall$Map" "done" "[Z") ∈ lw_all := lw_g (lw_at lw_m1 185 rfl) rfl
theorem q304 : (Jvm.Cond.lays "FerryHall$Map" "FerryHall$Map" "w" "LFerryHall$World;") ∈ lw_all := lw_g (lw_at lw_m1 186 rfl) rfl
theorem q305 : (Jvm.Cond.soleField "FerryHall$Map" "w") ∈ lw_all := lw_g (lw_at lw_m1 187 rfl) rfl
theorem q306 : (Jvm.Cond.lays "FerryHall$Map" "FerryHall$Map" "judge" "LFerryHall$Judge;") ∈ lw_all := lw_g (lw_at lw_m1 188 rfl) rfl
theorem q307 : (Jvm.Cond.soleField "FerryHall$Map" "judge") ∈ lw_all := lw_g (lw_at lw_m1 189 rfl) rfl
theorem q308 : (Jvm.Cond.laysFinal "FerryHall$Map" "FerryHall$Map" "codes" "[I") ∈ lw_all := lw_g (lw_at lw_m1 190 rfl) rfl
theorem q309 : (Jvm.Cond.soleField "FerryHall$Map" "codes") ∈ lw_all := lw_g (lw_at lw_m1 191 rfl) rfl
theorem q310 : (Jvm.Cond.laysFinal "FerryHall$Map" "FerryHall$Map" "slots" "[I") ∈ lw_all := lw_g (lw_at lw_m1 192 rfl) rfl
theorem q311 : (Jvm.Cond.soleField "FerryHall$Map" "slots") ∈ lw_all := lw_g (lw_at lw_m1 193 rfl) rfl
theorem q312 : (Jvm.Cond.laysFinal "FerryHall$Map" "FerryHall$Map" "depth" "[I") ∈ lw_all := lw_g (lw_at lw_m1 194 rfl) rfl
theorem q313 : (Jvm.Cond.soleField "FerryHall$Map" "depth") ∈ lw_all := lw_g (lw_at lw_m1 195 rfl) rfl
theorem q314 : (Jvm.Cond.laysFinal "FerryHall$Map" "FerryHall$Map" "first" "[I") ∈ lw_all := lw_g (lw_at lw_m1 196 rfl) rfl
theorem q315 : (Jvm.Cond.soleField "FerryHall$Map" "first") ∈ lw_all := lw_g (lw_at lw_m1 197 rfl) rfl
theorem q316 : (Jvm.Cond.laysFinal "FerryHall$Map" "FerryHall$Map" "to" "[I") ∈ lw_all := lw_g (lw_at lw_m1 198 rfl) rfl
theorem q317 : (Jvm.Cond.soleField "FerryHall$Map" "to") ∈ lw_all := lw_g (lw_at lw_m1 199 rfl) rfl
theorem q318 : (Jvm.Cond.laysFinal "FerryHall$Map" "FerryHall$Map" "move" "[I") ∈ lw_all := lw_g (lw_at lw_m1 200 rfl) rfl
theorem q319 : (Jvm.Cond.soleField "FerryHall$Map" "move") ∈ lw_all := lw_g (lw_at lw_m1 201 rfl) rfl
theorem q320 : (Jvm.Cond.laysFinal "FerryHall$Map" "FerryHall$Map" "minutes" "[I") ∈ lw_all := lw_g (lw_at lw_m1 202 rfl) rfl
theorem q321 : (Jvm.Cond.soleField "FerryHall$Map" "minutes") ∈ lw_all := lw_g (lw_at lw_m1 203 rfl) rfl
theorem q322 : (Jvm.Cond.lays "FerryHall$Map" "FerryHall$Map" "states" "I") ∈ lw_all := lw_g (lw_at lw_m1 204 rfl) rfl
theorem q323 : (Jvm.Cond.soleField "FerryHall$Map" "states") ∈ lw_all := lw_g (lw_at lw_m1 205 rfl) rfl
theorem q324 : (Jvm.Cond.lays "FerryHall$Map" "FerryHall$Map" "crossings" "I") ∈ lw_all := lw_g (lw_at lw_m1 206 rfl) rfl
theorem q325 : (Jvm.Cond.soleField "FerryHall$Map" "crossings") ∈ lw_all := lw_g (lw_at lw_m1 207 rfl) rfl
theorem q326 : (Jvm.Cond.lays "FerryHall$Map" "FerryHall$Map" "spent" "Z") ∈ lw_all := lw_g (lw_at lw_m1 208 rfl) rfl
theorem q327 : (Jvm.Cond.soleField "FerryHall$Map" "spent") ∈ lw_all := lw_g (lw_at lw_m1 209 rfl) rfl
theorem q328 : (Jvm.Cond.laysFinal "FerryHall$Map" "FerryHall$Map" "left" "[I") ∈ lw_all := lw_g (lw_at lw_m1 210 rfl) rfl
theorem q329 : (Jvm.Cond.soleField "FerryHall$Map" "left") ∈ lw_all := lw_g (lw_at lw_m1 211 rfl) rfl
theorem q330 : (Jvm.Cond.laysFinal "FerryHall$Map" "FerryHall$Map" "cost" "[I") ∈ lw_all := lw_g (lw_at lw_m1 212 rfl) rfl
theorem q331 : (Jvm.Cond.soleField "FerryHall$Map" "cost") ∈ lw_all := lw_g (lw_at lw_m1 213 rfl) rfl
theorem q332 : (Jvm.Cond.lays "FerryHall$Map" "FerryHall$Map" "leftTold" "Z") ∈ lw_all := lw_g (lw_at lw_m1 214 rfl) rfl
theorem q333 : (Jvm.Cond.soleField "FerryHall$Map" "leftTold") ∈ lw_all := lw_g (lw_at lw_m1 215 rfl) rfl
theorem q334 : (Jvm.Cond.lays "FerryHall$Map" "FerryHall$Map" "costTold" "Z") ∈ lw_all := lw_g (lw_at lw_m1 216 rfl) rfl
theorem q335 : (Jvm.Cond.soleField "FerryHall$Map" "costTold") ∈ lw_all := lw_g (lw_at lw_m1 217 rfl) rfl
theorem q336 : (Jvm.Cond.laysFinal "FerryHall$Map" "FerryHall$Map" "from" "[I") ∈ lw_all := lw_g (lw_at lw_m1 218 rfl) rfl
theorem q337 : (Jvm.Cond.soleField "FerryHall$Map" "from") ∈ lw_all := lw_g (lw_at lw_m1 219 rfl) rfl
theorem q338 : (Jvm.Cond.laysFinal "FerryHall$Map" "FerryHall$Map" "head" "[I") ∈ lw_all := lw_g (lw_at lw_m1 220 rfl) rfl
theorem q339 : (Jvm.Cond.soleField "FerryHall$Map" "head") ∈ lw_all := lw_g (lw_at lw_m1 221 rfl) rfl
theorem q340 : (Jvm.Cond.laysFinal "FerryHall$Map" "FerryHall$Map" "next" "[I") ∈ lw_all := lw_g (lw_at lw_m1 222 rfl) rfl
theorem q341 : (Jvm.Cond.soleField "FerryHall$Map" "next") ∈ lw_all := lw_g (lw_at lw_m1 223 rfl) rfl
theorem q342 : (Jvm.Cond.laysFinal "FerryHall$Map" "FerryHall$Map" "done" "[Z") ∈ lw_all := lw_g (lw_at lw_m1 224 rfl) rfl
theorem q343 : (Jvm.Cond.soleField "FerryHall$Map" "done") ∈ lw_all := lw_g (lw_at lw_m1 225 rfl) rfl
theorem q344 : (Jvm.Cond.superclass "FerryHall$Map" "java/lang/Object") ∈ lw_all := lw_g (lw_at lw_m1 226 rfl) rfl
theorem q512 : (Jvm.Cond.fieldLinkNest "FerryHall$Map" (128 : Nat) "FerryHall$Place" "boat" "[I" "FerryHall") ∈ lw_tbl := lw_at lw_m2 154 rfl
theorem q517 : (Jvm.Cond.fieldLinkNest "FerryHall$Map" (125 : Nat) "FerryHall$Place" "set" "[I" "FerryHall") ∈ lw_tbl := lw_at lw_m2 159 rfl
theorem q631 : (Jvm.Cond.instanceMethod ({ cls := "FerryHall$Map", name := "run", desc := "(LFerryHall$World;III)Z" } : Jvm.MethodName)) ∈ lw_all := lw_g (lw_at lw_m3 33 rfl) rfl
theorem q632 : (Jvm.Cond.selects "FerryHall$Map" ({ cls := "FerryHall$Map", name := "run", desc := "(LFerryHall$World;III)Z" } : Jvm.MethodName) ({ cls := "FerryHall$Map", name := "run", desc := "(LFerryHall$World;III)Z" } : Jvm.MethodName)) ∈ lw_all := lw_g (lw_at lw_m3 34 rfl) rfl
theorem q633 : (Jvm.Cond.code ({ cls := "FerryHall$Map", name := "run", desc := "(LFerryHall$World;III)Z" } : Jvm.MethodName) prog_8_method_2_code (7 : Nat) (Option.some Jvm.ClassFile.FieldType.boolean)) ∈ lw_all := lw_g (lw_at lw_m3 35 rfl) rfl
theorem q634 : (Jvm.Cond.classLink "FerryHall$Map" (57 : Nat) "FerryHall$Judge") ∈ lw_all := lw_g (lw_at lw_m3 36 rfl) rfl
theorem q636 : (Jvm.Cond.methodLink "FerryHall$Map" (59 : Nat) ({ cls := "FerryHall$Judge", name := "<init>", desc := "(LFerryHall$World;III)V" } : Jvm.MethodName)) ∈ lw_all := lw_g (lw_at lw_m3 38 rfl) rfl
theorem q671 : (Jvm.Cond.fieldLinkNest "FerryHall$Map" (146 : Nat) "FerryHall$Judge" "then" "LFerryHall$Place;" "FerryHall") ∈ lw_tbl := lw_at lw_m3 73 rfl
theorem q693 : (Jvm.Cond.classLink "FerryHall$Map" (83 : Nat) "FerryHall$Place") ∈ lw_all := lw_g (lw_at lw_m3 95 rfl) rfl
theorem q694 : (Jvm.Cond.methodLink "FerryHall$Map" (85 : Nat) ({ cls := "FerryHall$Place", name := "<init>", desc := "(LFerryHall$World;)V" } : Jvm.MethodName)) ∈ lw_all := lw_g (lw_at lw_m3 96 rfl) rfl
theorem q695 : (Jvm.Cond.methodLink "FerryHall$Map" (88 : Nat) ({ cls := "FerryHall$Place", name := "start", desc := "()V" } : Jvm.MethodName)) ∈ lw_all := lw_g (lw_at lw_m3 97 rfl) rfl
theorem q696 : (Jvm.Cond.methodLink "FerryHall$Map" (91 : Nat) ({ cls := "FerryHall$Place", name := "code", desc := "()I" } : Jvm.MethodName)) ∈ lw_all := lw_g (lw_at lw_m3 98 rfl) rfl
theorem q697 : (Jvm.Cond.methodLink "FerryHall$Map" (95 : Nat) ({ cls := "FerryHall$Map", name := "add", desc := "(II)I" } : Jvm.MethodName)) ∈ lw_all := lw_g (lw_at lw_m3 99 rfl) rfl
theorem q698 : (Jvm.Cond.privateMethod ({ cls := "FerryHall$Map", name := "add", desc := "(II)I" } : Jvm.MethodName)) ∈ lw_tbl := lw_at lw_m3 100 rfl
theorem q699 : (Jvm.Cond.instanceMethod ({ cls := "FerryHall$Map", name := "add", desc := "(II)I" } : Jvm.MethodName)) ∈ lw_all := lw_g (lw_at lw_m3 101 rfl) rfl
theorem q700 : (Jvm.Cond.code ({ cls := "FerryHall$Map", name := "add", desc := "(II)I" } : Jvm.MethodName) prog_8_method_6_code (4 : Nat) (Option.some Jvm.ClassFile.FieldType.int)) ∈ lw_all := lw_g (lw_at lw_m3 102 rfl) rfl
theorem q701 : (Jvm.Cond.methodLink "FerryHall$Map" (110 : Nat) ({ cls := "FerryHall$Map", name := "slotOf", desc := "(I)I" } : Jvm.MethodName)) ∈ lw_all := lw_g (lw_at lw_m3 103 rfl) rfl
theorem q702 : (Jvm.Cond.privateMethod ({ cls := "FerryHall$Map", name := "slotOf", desc := "(I)I" } : Jvm.MethodName)) ∈ lw_tbl := lw_at lw_m3 104 rfl
theorem q703 : (Jvm.Cond.instanceMethod ({ cls := "FerryHall$Map", name := "slotOf", desc := "(I)I" } : Jvm.MethodName)) ∈ lw_all := lw_g (lw_at lw_m3 105 rfl) rfl
theorem q704 : (Jvm.Cond.code ({ cls := "FerryHall$Map", name := "slotOf", desc := "(I)I" } : Jvm.MethodName) prog_8_method_4_code (3 : Nat) (Option.some Jvm.ClassFile.FieldType.int)) ∈ lw_all := lw_g (lw_at lw_m3 106 rfl) rfl
theorem q705 : (Jvm.Cond.methodLink "FerryHall$Map" (99 : Nat) ({ cls := "FerryHall$Place", name := "read", desc := "(I)V" } : Jvm.MethodName)) ∈ lw_all := lw_g (lw_at lw_m3 107 rfl) rfl
theorem q709 : (Jvm.Cond.methodLink "FerryHall$Map" (103 : Nat) ({ cls := "FerryHall$Map", name := "go", desc := "(ILFerryHall$Place;)V" } : Jvm.MethodName)) ∈ lw_all := lw_g (lw_at lw_m3 111 rfl) rfl
theorem q710 : (Jvm.Cond.privateMethod ({ cls := "FerryHall$Map", name := "go", desc := "(ILFerryHall$Place;)V" } : Jvm.MethodName)) ∈ lw_tbl := lw_at lw_m3 112 rfl
theorem q711 : (Jvm.Cond.instanceMethod ({ cls := "FerryHall$Map", name := "go", desc := "(ILFerryHall$Place;)V" } : Jvm.MethodName)) ∈ lw_all := lw_g (lw_at lw_m3 113 rfl) rfl
theorem q712 : (Jvm.Cond.code ({ cls := "FerryHall$Map", name := "go", desc := "(ILFerryHall$Place;)V" } : Jvm.MethodName) prog_8_method_7_code (7 : Nat) (Option.none : Option Jvm.ClassFile.FieldType)) ∈ lw_all := lw_g (lw_at lw_m3 114 rfl) rfl
theorem q713 : (Jvm.Cond.interfaceEntry "FerryHall$Map" (120 : Nat)) ∈ lw_tbl := lw_at lw_m3 115 rfl
theorem q714 : (Jvm.Cond.methodLink "FerryHall$Map" (120 : Nat) ({ cls := "java/util/List", name := "size", desc := "()I" } : Jvm.MethodName)) ∈ lw_all := lw_g (lw_at lw_m3 116 rfl) rfl
theorem q715 : (Jvm.Cond.methodLink "FerryHall$Map" (134 : Nat) ({ cls := "FerryHall$World", name := "flows", desc := "(II)Z" } : Jvm.MethodName)) ∈ lw_all := lw_g (lw_at lw_m3 117 rfl) rfl
theorem q719 : (Jvm.Cond.methodLink "FerryHall$Map" (138 : Nat) ({ cls := "FerryHall$Map", name := "cross", desc := "(ILFerryHall$Place;III)V" } : Jvm.MethodName)) ∈ lw_all := lw_g (lw_at lw_m3 121 rfl) rfl
theorem q720 : (Jvm.Cond.privateMethod ({ cls := "FerryHall$Map", name := "cross", desc := "(ILFerryHall$Place;III)V" } : Jvm.MethodName)) ∈ lw_tbl := lw_at lw_m3 122 rfl
theorem q721 : (Jvm.Cond.instanceMethod ({ cls := "FerryHall$Map", name := "cross", desc := "(ILFerryHall$Place;III)V" } : Jvm.MethodName)) ∈ lw_all := lw_g (lw_at lw_m3 123 rfl) rfl
theorem q722 : (Jvm.Cond.code ({ cls := "FerryHall$Map", name := "cross", desc := "(ILFerryHall$Place;III)V" } : Jvm.MethodName) prog_8_method_8_code (7 : Nat) (Option.none : Option Jvm.ClassFile.FieldType)) ∈ lw_all := lw_g (lw_at lw_m3 124 rfl) rfl
theorem q723 : (Jvm.Cond.methodLink "FerryHall$Map" (142 : Nat) ({ cls := "FerryHall$Judge", name := "why", desc := "(LFerryHall$Place;IIII)I" } : Jvm.MethodName)) ∈ lw_all := lw_g (lw_at lw_m3 125 rfl) rfl
theorem q760 : (Jvm.Cond.methodLink "FerryHall$Map" (150 : Nat) ({ cls := "FerryHall$World", name := "slowest", desc := "(I)I" } : Jvm.MethodName)) ∈ lw_all := lw_g (lw_at lw_m3 162 rfl) rfl
theorem q765 : (Jvm.Cond.methodLink "FerryHall$Map" (107 : Nat) ({ cls := "FerryHall$Map", name := "turn", desc := "()V" } : Jvm.MethodName)) ∈ lw_all := lw_g (lw_at lw_m3 167 rfl) rfl
theorem q766 : (Jvm.Cond.privateMethod ({ cls := "FerryHall$Map", name := "turn", desc := "()V" } : Jvm.MethodName)) ∈ lw_tbl := lw_at lw_m3 168 rfl
theorem q767 : (Jvm.Cond.instanceMethod ({ cls := "FerryHall$Map", name := "turn", desc := "()V" } : Jvm.MethodName)) ∈ lw_all := lw_g (lw_at lw_m3 169 rfl) rfl
theorem q768 : (Jvm.Cond.code ({ cls := "FerryHall$Map", name := "turn", desc := "()V" } : Jvm.MethodName) prog_8_method_3_code (3 : Nat) (Option.none : Option Jvm.ClassFile.FieldType)) ∈ lw_all := lw_g (lw_at lw_m3 170 rfl) rfl
theorem q770 : (Jvm.Cond.instanceMethod ({ cls := "FerryHall$Map", name := "left", desc := "()[I" } : Jvm.MethodName)) ∈ lw_all := lw_g (lw_at lw_m3 172 rfl) rfl
theorem q771 : (Jvm.Cond.selects "FerryHall$Map" ({ cls := "FerryHall$Map", name := "left", desc := "()[I" } : Jvm.MethodName) ({ cls := "FerryHall$Map", name := "left", desc := "()[I" } : Jvm.MethodName)) ∈ lw_all := lw_g (lw_at lw_m3 173 rfl) rfl
theorem q772 : (Jvm.Cond.code ({ cls := "FerryHall$Map", name := "left", desc := "()[I" } : Jvm.MethodName) prog_8_method_11_code (1 : Nat) (Option.some (Jvm.ClassFile.FieldType.array Jvm.ClassFile.FieldType.int))) ∈ lw_all := lw_g (lw_at lw_m3 174 rfl) rfl
theorem q773 : (Jvm.Cond.methodLink "FerryHall$Map" (161 : Nat) ({ cls := "FerryHall$Map", name := "back", desc := "(Z[I)V" } : Jvm.MethodName)) ∈ lw_all := lw_g (lw_at lw_m3 175 rfl) rfl
theorem q774 : (Jvm.Cond.privateMethod ({ cls := "FerryHall$Map", name := "back", desc := "(Z[I)V" } : Jvm.MethodName)) ∈ lw_tbl := lw_at lw_m3 176 rfl
theorem q775 : (Jvm.Cond.instanceMethod ({ cls := "FerryHall$Map", name := "back", desc := "(Z[I)V" } : Jvm.MethodName)) ∈ lw_all := lw_g (lw_at lw_m3 177 rfl) rfl
theorem q776 : (Jvm.Cond.code ({ cls := "FerryHall$Map", name := "back", desc := "(Z[I)V" } : Jvm.MethodName) prog_8_method_9_code (8 : Nat) (Option.none : Option Jvm.ClassFile.FieldType)) ∈ lw_all := lw_g (lw_at lw_m3 178 rfl) rfl
theorem q777 : (Jvm.Cond.methodLink "FerryHall$Map" (153 : Nat) ({ cls := "FerryHall$Place", name := "isGoal", desc := "()Z" } : Jvm.MethodName)) ∈ lw_all := lw_g (lw_at lw_m3 179 rfl) rfl
theorem q781 : (Jvm.Cond.methodLink "FerryHall$Map" (157 : Nat) ({ cls := "FerryHall$Map", name := "step", desc := "(IZ)I" } : Jvm.MethodName)) ∈ lw_all := lw_g (lw_at lw_m3 183 rfl) rfl
theorem q782 : (Jvm.Cond.privateMethod ({ cls := "FerryHall$Map", name := "step", desc := "(IZ)I" } : Jvm.MethodName)) ∈ lw_tbl := lw_at lw_m3 184 rfl
theorem q783 : (Jvm.Cond.instanceMethod ({ cls := "FerryHall$Map", name := "step", desc := "(IZ)I" } : Jvm.MethodName)) ∈ lw_all := lw_g (lw_at lw_m3 185 rfl) rfl
theorem q784 : (Jvm.Cond.code ({ cls := "FerryHall$Map", name := "step", desc := "(IZ)I" } : Jvm.MethodName) prog_8_method_10_code (3 : Nat) (Option.some Jvm.ClassFile.FieldType.int)) ∈ lw_all := lw_g (lw_at lw_m3 186 rfl) rfl
theorem q790 : (Jvm.Cond.instanceMethod ({ cls := "FerryHall$Map", name := "cost", desc := "()[I" } : Jvm.MethodName)) ∈ lw_all := lw_g (lw_at lw_m3 192 rfl) rfl
theorem q791 : (Jvm.Cond.selects "FerryHall$Map" ({ cls := "FerryHall$Map", name := "cost", desc := "()[I" } : Jvm.MethodName) ({ cls := "FerryHall$Map", name := "cost", desc := "()[I" } : Jvm.MethodName)) ∈ lw_all := lw_g (lw_at lw_m3 193 rfl) rfl
theorem q792 : (Jvm.Cond.code ({ cls := "FerryHall$Map", name := "cost", desc := "()[I" } : Jvm.MethodName) prog_8_method_12_code (1 : Nat) (Option.some (Jvm.ClassFile.FieldType.array Jvm.ClassFile.FieldType.int))) ∈ lw_all := lw_g (lw_at lw_m3 194 rfl) rfl
theorem q794 : (Jvm.Cond.instanceMethod ({ cls := "FerryHall$Map", name := "best", desc := "(IZ)I" } : Jvm.MethodName)) ∈ lw_all := lw_g (lw_at lw_m3 196 rfl) rfl
theorem q795 : (Jvm.Cond.selects "FerryHall$Map" ({ cls := "FerryHall$Map", name := "best", desc := "(IZ)I" } : Jvm.MethodName) ({ cls := "FerryHall$Map", name := "best", desc := "(IZ)I" } : Jvm.MethodName)) ∈ lw_all := lw_g (lw_at lw_m3 197 rfl) rfl
theorem q796 : (Jvm.Cond.code ({ cls := "FerryHall$Map", name := "best", desc := "(IZ)I" } : Jvm.MethodName) prog_8_method_13_code (5 : Nat) (Option.some Jvm.ClassFile.FieldType.int)) ∈ lw_all := lw_g (lw_at lw_m3 198 rfl) rfl
theorem q797 : (Jvm.Cond.methodLink "FerryHall$Map" (165 : Nat) ({ cls := "FerryHall$Map", name := "cost", desc := "()[I" } : Jvm.MethodName)) ∈ lw_all := lw_g (lw_at lw_m3 199 rfl) rfl
theorem q798 : (Jvm.Cond.methodLink "FerryHall$Map" (168 : Nat) ({ cls := "FerryHall$Map", name := "left", desc := "()[I" } : Jvm.MethodName)) ∈ lw_all := lw_g (lw_at lw_m3 200 rfl) rfl
theorem q860 : (Jvm.Cond.selects "FerryHall$Map" ({ cls := "java/lang/Object", name := "getClass", desc := "()Ljava/lang/Class;" } : Jvm.MethodName) ({ cls := "java/lang/Object", name := "getClass", desc := "()Ljava/lang/Class;" } : Jvm.MethodName)) ∈ lw_all := lw_g (lw_at lw_m4 22 rfl) rfl
theorem q908 : (Jvm.Cond.instanceMethod ({ cls := "FerryHall$Map", name := "ways", desc := "()I" } : Jvm.MethodName)) ∈ lw_all := lw_g (lw_at lw_m4 70 rfl) rfl
theorem q909 : (Jvm.Cond.selects "FerryHall$Map" ({ cls := "FerryHall$Map", name := "ways", desc := "()I" } : Jvm.MethodName) ({ cls := "FerryHall$Map", name := "ways", desc := "()I" } : Jvm.MethodName)) ∈ lw_all := lw_g (lw_at lw_m4 71 rfl) rfl
theorem q910 : (Jvm.Cond.code ({ cls := "FerryHall$Map", name := "ways", desc := "()I" } : Jvm.MethodName) prog_8_method_14_code (6 : Nat) (Option.some Jvm.ClassFile.FieldType.int)) ∈ lw_all := lw_g (lw_at lw_m4 72 rfl) rfl
theorem q911 : (Jvm.Cond.constantLong "FerryHall$Map" (170 : Nat) (1000000000 : Int64)) ∈ lw_all := lw_g (lw_at lw_m4 73 rfl) rfl
theorem q912 : (Jvm.Cond.methodLink "FerryHall$Map" (172 : Nat) ({ cls := "java/lang/Math", name := "min", desc := "(JJ)J" } : Jvm.MethodName)) ∈ lw_all := lw_g (lw_at lw_m4 74 rfl) rfl
theorem q1898 : (Jvm.Cond.instanceMethod ({ cls := "FerryHall$Map", name := "find", desc := "(I)I" } : Jvm.MethodName)) ∈ lw_all := lw_g (lw_at lw_m8 100 rfl) rfl
theorem q1899 : (Jvm.Cond.selects "FerryHall$Map" ({ cls := "FerryHall$Map", name := "find", desc := "(I)I" } : Jvm.MethodName) ({ cls := "FerryHall$Map", name := "find", desc := "(I)I" } : Jvm.MethodName)) ∈ lw_all := lw_g (lw_at lw_m8 101 rfl) rfl
theorem q1900 : (Jvm.Cond.code ({ cls := "FerryHall$Map", name := "find", desc := "(I)I" } : Jvm.MethodName) prog_8_method_5_code (2 : Nat) (Option.some Jvm.ClassFile.FieldType.int)) ∈ lw_all := lw_g (lw_at lw_m8 102 rfl) rfl
theorem q2589 : (Jvm.Cond.castable "FerryHall$Map" "java/lang/Object") ∈ lw_tbl := lw_at lw_m11 71 rfl
theorem in_X3 : ∀ w ∈ wsX30, w ∈ lw_all := lw_in wsX30 [304, 306, 308, 310, 312, 314, 316, 318, 320, 322, 324, 326, 328, 330, 332, 334, 336, 338, 340, 342] (by decide +kernel) (by decide +kernel)
